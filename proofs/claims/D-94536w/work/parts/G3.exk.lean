set_option maxRecDepth 100000
/-! ===== J: calls of methods that may throw; the machine's own throws ===== -/
section Exc3
variable {X : Cx} {M M' : MD} {R R' : Room} {Z : ZT} {mc ms k n pc idx : Nat} {L : List (Option Value)} {st As : List Value} {h : AH} {Q : Option Value → AH → Prop} {QT : String → Addr → AH → Prop}
/-- the code word of a method, with a table or without -/
def CwOf (M : MD) (cw : Cond) : Prop := cw = Cond.code M.y M.cc M.nL M.ret ∨ ∃ hh, cw = Cond.codeWith M.y M.cc M.nL M.ret hh
theorem J.callX {b ci : Nat} {fs : List Value} {q : vw_C} {cw : Cond} (hC : CgX X M' cw R' (.ref b :: As) h Q QT) (hcw : cw ∈ lw_all) (hw : CwOf M' cw) (hb : h b = some (.inr (ci, fs))) (hci : vwCl[ci]? = some q) (hd : decode M.cc pc = .ok (.invokevirtual idx, 3))
    (hlink : Cond.methodLink M.y.cls idx M'.y ∈ lw_all) (hinst : Cond.instanceMethod M'.y ∈ lw_all) (hsel : Cond.selects q.1 M'.y M'.y ∈ lw_all) (hini : Cond.initialized M'.y.cls ∈ lw_all)
    (hy : M'.y.cls ≠ "java/lang/invoke/MethodHandle" ∧ M'.y.cls ≠ "java/lang/invoke/VarHandle" ∧ (parseMethodDescriptor M'.y.desc).map (fun d => d.parameters.length) = some As.length)
    (hR : R'.frames + 1 ≤ R.frames ∧ 8 + (M'.nL + 11) + R'.locals ≤ R.locals) (hf : k + R'.cells ≤ R.cells ∧ n + R'.slots ≤ R.slots) (hst : (st.map fun v => v.category).sum ≤ 8)
    (kk : ∀ v h', Q v h' → J X M R Z (pc + 3) L (v.toList ++ st) h' (k + R'.cells) (n + R'.slots)) (kt : ∀ C a h', QT C a h' → JT X M R Z C a pc L h' (k + R'.cells) (n + R'.slots)) : J X M R Z pc L (As.reverse ++ .ref b :: st) h k n := by
  intro p e s m args below meth c B rk H locs ls hW hS hL T hT S
  have hts := B.2.2.2.2.2.2.1
  obtain ⟨ws, hP, hD, hh⟩ := id hW
  obtain ⟨q0, hq0⟩ := hh b _ hb
  obtain ⟨cellB, hcB, hoB, hclB⟩ := va_recv B.2.2.2.2.2.2.2.1.1 hP hci hq0
  obtain ⟨mk, methM, hnamed, hmethM, hstM, habM⟩ := Cond.instanceMethod_spec (hts _ hinst)
  obtain ⟨cM, hcM, hlM, hsigM⟩ : ∃ cM, methM.code = some cM ∧ cM.maxLocals = M'.nL ∧ parseMethodDescriptor M'.y.desc = some methM.sig := by
    rcases hw with rfl | ⟨hh, rfl⟩
    · obtain ⟨m2, c2, h1, h2, -, h4, -, -, -, h8⟩ := Cond.code_spec hnamed (hts _ hcw)
      cases hmethM.symm.trans h1
      exact ⟨c2, h2, h4, h8⟩
    · obtain ⟨m9, m2, c2, h0, h1, h2, -, h4, -, -, -, h8⟩ := Cond.codeWith_spec (hts _ hcw)
      cases hnamed.symm.trans h0
      cases hmethM.symm.trans h1
      exact ⟨c2, h2, h4, h8⟩
  obtain ⟨c2, r2, m2, q1, q2, q3, q4, kP, hkP, hkPi⟩ := Cond.selects_spec (hts _ hsel)
  cases hclB.symm.trans q1
  cases (State.methodFound?_of_named hnamed ⟨hy.1, hy.2.1⟩).symm.trans q2
  cases hnamed.symm.trans q3
  have hselP : selectMethod e.platform s.vm cellB.cls mk = .method mk := by rw [Launch.admits_selectMethod S.admits]; exact q4
  have hlen : As.length = methM.sig.parameters.length := by
    have h2 := hy.2.2
    rw [hsigM] at h2
    exact (Option.some.inj h2).symm
  obtain ⟨vm₁, X₁, hstep₁⟩ := S.invokevirtual B.1 B.2.2.2.2.2.1 (hts _ hlink) hnamed hmethM hstM hkP hkPi ⟨hy.1, hy.2.1⟩ (a := b) (cell := cellB) (by rw [hT]; exact hcB)
    (fun z h => by rw [h] at hoB; cases hoB) hselP hmethM habM hkP hkPi (g := F0 m pc ls (As.reverse ++ .ref b :: st)) rfl (argsL := As) (rest := st) hlen rfl (by rw [B.2.1]; exact hd)
  obtain ⟨o, T', L1, S', hS', hE, hsteps⟩ := callX_run (M := M) (g := F0 m pc ls st) (ig := .invokevirtual idx) (len := 3) hC hcw X₁ B rfl (by rw [B.2.2.2.2.1]; exact hL.1) (by rw [B.2.1]; exact hd) (X₁.named hnamed) (by rw [X₁.warmed.alike.method?]; exact hmethM) hcM hlM hini
    ⟨hR.1, by show 2 * 0 + (st.map fun v => v.category).sum + _ + _ ≤ _; omega⟩ hf (by show Wd X h T.heap; rw [hT]; exact hW) (by show va_S X.A s.heap T.heap locs; rw [hT]; exact hS)
  have rk' : RK M R (k + R'.cells) (n + R'.slots) := ⟨rk.1, rk.2.1, hf.1, hf.2⟩
  cases o with
  | returned v =>
    obtain ⟨h', hq, hw'⟩ := hE
    obtain ⟨t, a1, b1⟩ := kk v h' hq p e s m args below meth c B rk' T'.heap (locs ++ L1) ls hw' hS' hL T' rfl S'
    exact ⟨t, hstep₁ _ fun acts => by rw [doInvoke_state]; exact hsteps.trans a1, b1⟩
  | threw a =>
    obtain ⟨C, h', hq, hw', hA⟩ := hE
    obtain ⟨t, a1, b1⟩ := kt C a h' hq p e s m args below meth c B rk' T' (locs ++ L1) ls st S' hw' hS' hL hA
    exact ⟨t, hstep₁ _ fun acts => by rw [doInvoke_state]; exact hsteps.trans a1, b1⟩
theorem Wd.grow {H H' : Heap} (hW : Wd X h H) (hk : ∀ q : Nat, q < H.size → H'[q]? = H[q]?) : Wd X h H' := by
  obtain ⟨ws, hP, hD, hh⟩ := hW
  exact ⟨ws, fun k q hq => (hP k q hq).kept (hk q.1 (hP k q hq).lt), hD, hh⟩
theorem pushKeep (T : State) (x : Cell) (q : Nat) (hq : q < T.heap.size) : (T.pushCell x).heap[q]? = T.heap[q]? := by
  show (T.heap.push x)[q]? = _
  rw [Array.getElem?_push]
  simp [Nat.ne_of_lt hq]
theorem pushAt (T : State) (x : Cell) : (T.pushCell x).heap[T.heap.size]? = some x := by
  show (T.heap.push x)[T.heap.size]? = _
  simp
section
variable {p : Program} {e : Env} {s : State} {m : MethodId} {args : Array Value} {below : List Frame} {meth : Method} {c : Code} {T : State} {locs : List Loc} {ls : Array Slot} {C : String} {names : List String} {text : String} {N : Nat}
/-- the machine's throw, then the search -/
theorem msgJ (hX : ThX X) (B : Bd X M p s m args meth c) (rk : RK M R k n) (S : Stand p X.l e R s m args below meth c T locs k n) (hW : Wd X h T.heap) (hS : va_S X.A s.heap T.heap locs) (hL : LV ls M.nL L) (hat : ∀ a ∈ Bundle.messageArmAtoms C names, a.before args s = true)
    (hC : Bundle.fit C = true) (hn : ∀ n ∈ names, Bundle.fit n = true) (h1 : (C == "java/lang/StackOverflowError") = false) (h2 : (C == "java/lang/OutOfMemoryError") = false) (hl : names.length ≤ 3) (htext : (text == notModelled) = false) (hsz : (stringBytes (stringToUtf16 text)).size ≤ N) (hN : N < 100000)
    (hR : 8 ≤ R.frames ∧ 10248 ≤ R.locals) (hst : (st.map fun v => v.category).sum ≤ 8) (hf : k + 3 ≤ R.cells ∧ n + (N + 10) ≤ R.slots) (kk : ∀ a, JT X M R Z C a pc L h (k + 3) (n + (N + 10))) :
    ∃ t, Steps p.tables e below ((T.setTop (F0 m pc ls st)).pushFrame (.throwNew C (some text) none)) t ∧ Z below args s t := by
  have hlocs : ∀ cT kT aS, s.vm.findClass Bundle.tN = some cT → s.vm.classes[cT]? = some kT → kT.statics = some aS → ∀ x ∈ locs, x.base ≠ aS := by
    intro cT kT aS q1 q2 q3 x hx e1
    exact (hX.2 s B.2.2.2.2.2.2.2.1.2.1).2 cT kT aS q1 q2 q3 (by rw [← e1]; exact hS.2.2 x hx)
  obtain ⟨vm', cb, cs, ce, w1, w2, w3, w4, w5, w6, -, w8⟩ := msgThrown S B.1 (Launch.traces_off hX.1 S.admits) hC hn h1 h2 hat hlocs htext (by rw [Launch.admits_arrayLengthLimit S.admits]; omega) (by rw [Launch.admits_maxHeapBytes S.admits]; simp only [componentBytes]; omega)
    (g := F0 m pc ls st) rfl (by rw [B.2.2.2.2.1]; exact hL.1) (by omega) (by show 2 * 0 + (st.map fun v => v.category).sum + 10240 ≤ _; omega) (by omega) hf.1 (by omega)
  have S3 := stand_widen ((((S.pushed cb).pushed cs).pushed ce).noted w1) (k := k + 3) (n := n + (N + 10)) (by omega) (by rw [w2, w3, w4]; omega)
  have e0 : (T.pushCell cb).heap.size = T.heap.size + 1 := pushSz _ _
  have e1 : ((T.pushCell cb).pushCell cs).heap.size = T.heap.size + 2 := by rw [pushSz, e0]
  have hk : ∀ q : Nat, q < T.heap.size → (((T.pushCell cb).pushCell cs).pushCell ce).heap[q]? = T.heap[q]? := fun q hq => by
    rw [pushKeep _ _ _ (by omega), pushKeep _ _ _ (by omega), pushKeep _ _ _ hq]
  have hSz : T.heap.size ≤ (((T.pushCell cb).pushCell cs).pushCell ce).heap.size := by rw [pushSz, e1]; omega
  obtain ⟨t, a1, b1⟩ := kk (T.heap.size + 2) p e s m args below meth c B ⟨rk.1, rk.2.1, hf.1, hf.2⟩ _ locs ls st S3 (hW.grow hk)
    ⟨Nat.le_trans hS.1 hSz, fun q g1 g2 => (hk q (Nat.lt_of_lt_of_le g1 hS.1)).trans (hS.2.1 q g1 g2), hS.2.2⟩ hL ⟨ce, by rw [← e1]; exact pushAt _ _, w5, w6⟩
  exact ⟨t, w8 t a1, b1⟩
theorem npeJ (hX : ThX X) (B : Bd X M p s m args meth c) (rk : RK M R k n) (S : Stand p X.l e R s m args below meth c T locs k n) (hW : Wd X h T.heap) (hS : va_S X.A s.heap T.heap locs) (hL : LV ls M.nL L)
    (hR : 8 ≤ R.frames ∧ 10248 ≤ R.locals) (hst : (st.map fun v => v.category).sum ≤ 8) (hf : k + 1 ≤ R.cells ∧ n + 8 ≤ R.slots) (kk : ∀ a, JT X M R Z cNpe a pc L h (k + 1) (n + 8)) :
    ∃ t, Steps p.tables e below ((T.setTop (F0 m pc ls st)).pushFrame (.throwNew "java/lang/NullPointerException" none none)) t ∧ Z below args s t := by
  have hlocs : ∀ cT kT aS, s.vm.findClass Bundle.tN = some cT → s.vm.classes[cT]? = some kT → kT.statics = some aS → ∀ x ∈ locs, x.base ≠ aS := by
    intro cT kT aS q1 q2 q3 x hx e1
    exact (hX.2 s B.2.2.2.2.2.2.2.1.2.1).2 cT kT aS q1 q2 q3 (by rw [← e1]; exact hS.2.2 x hx)
  obtain ⟨vm', ce, w1, w2, w5, w6, -, w8⟩ := npeThrown S B.1 (Launch.traces_off hX.1 S.admits) (at_npe hX B.2.2.2.2.2.2.1 B.2.2.2.2.2.2.2.1.2.1) hlocs
    (g := F0 m pc ls st) rfl (by rw [B.2.2.2.2.1]; exact hL.1) (by omega) (by show 2 * 0 + (st.map fun v => v.category).sum + 10240 ≤ _; omega) hf.1 hf.2
  have S3 := (S.pushed ce).noted w1
  rw [w2] at S3
  have hk : ∀ q : Nat, q < T.heap.size → (T.pushCell ce).heap[q]? = T.heap[q]? := fun q hq => pushKeep _ _ _ hq
  obtain ⟨t, a1, b1⟩ := kk T.heap.size p e s m args below meth c B ⟨rk.1, rk.2.1, hf.1, hf.2⟩ _ locs ls st S3 (hW.grow hk)
    ⟨Nat.le_trans hS.1 (by show _ ≤ (T.pushCell ce).heap.size; rw [pushSz]; omega), fun q g1 g2 => (hk q (Nat.lt_of_lt_of_le g1 hS.1)).trans (hS.2.1 q g1 g2), hS.2.2⟩ hL ⟨ce, pushAt _ _, w5, w6⟩
  exact ⟨t, w8 t a1, b1⟩
end
/-- newarray of a negative length -/
theorem J.newaNeg {N : Int32} {atype : ArrayType} (hX : ThX X) (hN : N < 0) (hd : decode M.cc pc = .ok (.newarray atype, 2)) (hR : 8 ≤ R.frames ∧ 10248 ≤ R.locals) (hst : (st.map fun v => v.category).sum ≤ 8) (hf : k + 3 ≤ R.cells ∧ n + (44 + 10) ≤ R.slots) (kk : ∀ a, JT X M R Z cNeg a pc L h (k + 3) (n + (44 + 10))) : J X M R Z pc L (.int N :: st) h k n := by
  intro p e s m args below meth c B rk H locs ls hW hS hL T hT S
  subst hT
  obtain ⟨t, a1, b1⟩ := msgJ (text := toString N) hX B rk S hW hS hL (at_neg hX B.2.2.2.2.2.2.1 B.2.2.2.2.2.2.2.1.2.1) (by decide +kernel) (by decide +kernel) (by decide +kernel) (by decide +kernel) (by decide) (negative_text_modelled hN) (negative_text_bytes N) (by decide) hR hst hf kk
  exact ⟨t, S.newarrayNegative B.1 (g := F0 m pc ls (.int N :: st)) rfl hN rfl (by rw [B.2.1]; exact hd) t a1, b1⟩
/-! arrays: places that there are not -/
theorem J.bastOut {a len : Nat} {g : Nat → Int32} {i v : Int32} (hX : ThX X) (ha : h a = some (.inl (X.dA 2, len, .inl g))) (hlen : len < 2 ^ 31) (hi : ¬ vp_in i len) (hd : decode M.cc pc = .ok (.bastore, 1)) (hR : 8 ≤ R.frames ∧ 10248 ≤ R.locals) (hst : (st.map fun v => v.category).sum ≤ 8) (hf : k + 3 ≤ R.cells ∧ n + (212 + 10) ≤ R.slots) (kk : ∀ a, JT X M R Z cIdx a pc L h (k + 3) (n + (212 + 10))) : J X M R Z pc L (.int v :: .int i :: .ref a :: st) h k n := by
  intro p e s m args below meth c B rk H locs ls hW hS hL T hT S
  subst hT
  obtain ⟨ws, hP, hD, hh⟩ := id hW
  obtain ⟨q0, hq0⟩ := hh a _ ha
  have hc : T.heap[a]? = some (vp_cell (X.dA 2) (len, .inl g)) := hP q0 _ hq0
  have e1 : (vp_cell (X.dA 2) (len, .inl g)).slots.size = len := by simp [vp_cell, arrV_size]
  obtain ⟨t, a1, b1⟩ := msgJ (st := st) hX B rk S hW hS hL (at_idx hX B.2.2.2.2.2.2.1 B.2.2.2.2.2.2.2.1.2.1) (by decide +kernel) (by decide +kernel) (by decide +kernel) (by decide +kernel) (by decide) (index_text_modelled i len) (index_text_bytes i hlen) (by decide) hR hst hf kk
  have arr : s.isArrayOf (vp_cell (X.dA 2) (len, .inl g)) .byte := (B.2.2.2.2.2.2.2.1.1.2 2 (X.dA 2, .byte) rfl).1 _ _
  have hi' : i < 0 ∨ len ≤ i.toNatClampNeg := Classical.not_not.mp hi
  have st' := S.bastoreOut B.1 hc arr (by rw [e1]; exact hi') (x := v) (g := F0 m pc ls (.int v :: .int i :: .ref a :: st)) rfl rfl (by rw [B.2.1]; exact hd)
  rw [e1] at st'
  exact ⟨t, st' t a1, b1⟩
theorem J.sastOut {a len : Nat} {g : Nat → Int32} {i v : Int32} (hX : ThX X) (ha : h a = some (.inl (X.dA 3, len, .inl g))) (hlen : len < 2 ^ 31) (hi : ¬ vp_in i len) (hd : decode M.cc pc = .ok (.sastore, 1)) (hR : 8 ≤ R.frames ∧ 10248 ≤ R.locals) (hst : (st.map fun v => v.category).sum ≤ 8) (hf : k + 3 ≤ R.cells ∧ n + (212 + 10) ≤ R.slots) (kk : ∀ a, JT X M R Z cIdx a pc L h (k + 3) (n + (212 + 10))) : J X M R Z pc L (.int v :: .int i :: .ref a :: st) h k n := by
  intro p e s m args below meth c B rk H locs ls hW hS hL T hT S
  subst hT
  obtain ⟨ws, hP, hD, hh⟩ := id hW
  obtain ⟨q0, hq0⟩ := hh a _ ha
  have hc : T.heap[a]? = some (vp_cell (X.dA 3) (len, .inl g)) := hP q0 _ hq0
  have e1 : (vp_cell (X.dA 3) (len, .inl g)).slots.size = len := by simp [vp_cell, arrV_size]
  obtain ⟨t, a1, b1⟩ := msgJ (st := st) hX B rk S hW hS hL (at_idx hX B.2.2.2.2.2.2.1 B.2.2.2.2.2.2.2.1.2.1) (by decide +kernel) (by decide +kernel) (by decide +kernel) (by decide +kernel) (by decide) (index_text_modelled i len) (index_text_bytes i hlen) (by decide) hR hst hf kk
  have arr : s.isArrayOf (vp_cell (X.dA 3) (len, .inl g)) .short := (B.2.2.2.2.2.2.2.1.1.2 3 (X.dA 3, .short) rfl).1 _ _
  have hi' : i < 0 ∨ len ≤ i.toNatClampNeg := Classical.not_not.mp hi
  have st' := S.sastoreOut B.1 hc arr (by rw [e1]; exact hi') (x := v) (g := F0 m pc ls (.int v :: .int i :: .ref a :: st)) rfl rfl (by rw [B.2.1]; exact hd)
  rw [e1] at st'
  exact ⟨t, st' t a1, b1⟩
theorem J.iastOut {a len : Nat} {g : Nat → Int32} {i v : Int32} (hX : ThX X) (ha : h a = some (.inl (X.dA 0, len, .inl g))) (hlen : len < 2 ^ 31) (hi : ¬ vp_in i len) (hd : decode M.cc pc = .ok (.iastore, 1)) (hR : 8 ≤ R.frames ∧ 10248 ≤ R.locals) (hst : (st.map fun v => v.category).sum ≤ 8) (hf : k + 3 ≤ R.cells ∧ n + (212 + 10) ≤ R.slots) (kk : ∀ a, JT X M R Z cIdx a pc L h (k + 3) (n + (212 + 10))) : J X M R Z pc L (.int v :: .int i :: .ref a :: st) h k n := by
  intro p e s m args below meth c B rk H locs ls hW hS hL T hT S
  subst hT
  obtain ⟨ws, hP, hD, hh⟩ := id hW
  obtain ⟨q0, hq0⟩ := hh a _ ha
  have hc : T.heap[a]? = some (vp_cell (X.dA 0) (len, .inl g)) := hP q0 _ hq0
  have e1 : (vp_cell (X.dA 0) (len, .inl g)).slots.size = len := by simp [vp_cell, arrV_size]
  obtain ⟨t, a1, b1⟩ := msgJ (st := st) hX B rk S hW hS hL (at_idx hX B.2.2.2.2.2.2.1 B.2.2.2.2.2.2.2.1.2.1) (by decide +kernel) (by decide +kernel) (by decide +kernel) (by decide +kernel) (by decide) (index_text_modelled i len) (index_text_bytes i hlen) (by decide) hR hst hf kk
  have arr : s.isArrayOf (vp_cell (X.dA 0) (len, .inl g)) .int := (B.2.2.2.2.2.2.2.1.1.2 0 (X.dA 0, .int) rfl).1 _ _
  have hi' : i < 0 ∨ len ≤ i.toNatClampNeg := Classical.not_not.mp hi
  have st' := S.iastoreOut B.1 hc arr (by rw [e1]; exact hi') (x := v) (g := F0 m pc ls (.int v :: .int i :: .ref a :: st)) rfl rfl (by rw [B.2.1]; exact hd)
  rw [e1] at st'
  exact ⟨t, st' t a1, b1⟩
theorem J.lastOut {a len : Nat} {g : Nat → Int64} {i : Int32} {v : Int64} (hX : ThX X) (ha : h a = some (.inl (X.dA 1, len, .inr (.inl g)))) (hlen : len < 2 ^ 31) (hi : ¬ vp_in i len) (hd : decode M.cc pc = .ok (.lastore, 1)) (hR : 8 ≤ R.frames ∧ 10248 ≤ R.locals) (hst : (st.map fun v => v.category).sum ≤ 8) (hf : k + 3 ≤ R.cells ∧ n + (212 + 10) ≤ R.slots) (kk : ∀ a, JT X M R Z cIdx a pc L h (k + 3) (n + (212 + 10))) : J X M R Z pc L (.long v :: .int i :: .ref a :: st) h k n := by
  intro p e s m args below meth c B rk H locs ls hW hS hL T hT S
  subst hT
  obtain ⟨ws, hP, hD, hh⟩ := id hW
  obtain ⟨q0, hq0⟩ := hh a _ ha
  have hc : T.heap[a]? = some (vp_cell (X.dA 1) (len, .inr (.inl g))) := hP q0 _ hq0
  have e1 : (vp_cell (X.dA 1) (len, .inr (.inl g))).slots.size = len := by simp [vp_cell, arrV_size]
  obtain ⟨t, a1, b1⟩ := msgJ (st := st) hX B rk S hW hS hL (at_idx hX B.2.2.2.2.2.2.1 B.2.2.2.2.2.2.2.1.2.1) (by decide +kernel) (by decide +kernel) (by decide +kernel) (by decide +kernel) (by decide) (index_text_modelled i len) (index_text_bytes i hlen) (by decide) hR hst hf kk
  have arr : s.isArrayOf (vp_cell (X.dA 1) (len, .inr (.inl g))) .long := (B.2.2.2.2.2.2.2.1.1.2 1 (X.dA 1, .long) rfl).1 _ _
  have hi' : i < 0 ∨ len ≤ i.toNatClampNeg := Classical.not_not.mp hi
  have st' := S.lastoreOut B.1 hc arr (by rw [e1]; exact hi') (x := v) (g := F0 m pc ls (.long v :: .int i :: .ref a :: st)) rfl rfl (by rw [B.2.1]; exact hd)
  rw [e1] at st'
  exact ⟨t, st' t a1, b1⟩
theorem J.iastNull {i v : Int32} (hX : ThX X) (hd : decode M.cc pc = .ok (.iastore, 1)) (hR : 8 ≤ R.frames ∧ 10248 ≤ R.locals) (hst : (st.map fun v => v.category).sum ≤ 8) (hf : k + 1 ≤ R.cells ∧ n + 8 ≤ R.slots) (kk : ∀ a, JT X M R Z cNpe a pc L h (k + 1) (n + 8)) : J X M R Z pc L (.int v :: .int i :: .null :: st) h k n := by
  intro p e s m args below meth c B rk H locs ls hW hS hL T hT S
  subst hT
  obtain ⟨t, a1, b1⟩ := npeJ (st := st) hX B rk S hW hS hL hR hst hf kk
  exact ⟨t, S.iastoreNull B.1 (g := F0 m pc ls (.int v :: .int i :: .null :: st)) rfl rfl (by rw [B.2.1]; exact hd) t a1, b1⟩
end Exc3
