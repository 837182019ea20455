set_option maxRecDepth 100000
/-! ===== entry, return, call ===== -/
theorem W.mono {p : Program} {l : Launch} {e : Env} {R : Room} {s : State} {m : MethodId} {args : Array Value} {below : List Frame} {meth : Method} {c : Code} {H : Heap} {locs : List Loc} {cells slots : Nat} {Q Q' : State → Prop} {g : JFrame} (k : W p l e R s m args below meth c H locs cells slots Q g) (hq : ∀ t, Q t → Q' t) : W p l e R s m args below meth c H locs cells slots Q' g := by
  intro T hT S
  obtain ⟨t, a, b⟩ := k T hT S
  exact ⟨t, a, hq t b⟩
/-- the kit's end with an outcome and an abstract heap -/
abbrev Qof (X : Cx) (Q : Outcome → AH → Prop) : Array Value → State → Outcome → State → Prop := fun _ st o t => (∃ h', Q o h' ∧ Wd X h' t.heap) ∧ va_F X.A st t
theorem ZQ.of {X : Cx} {mc ms : Nat} {Q : Outcome → AH → Prop} {below : List Frame} {args : Array Value} {s t : State} (h : MQ below (Qof X Q) args s mc ms X.A t) : ZQ X mc ms Q below args s t := by
  obtain ⟨o, h1, h2, ⟨h3, h4⟩, L, ⟨-, h5, h6⟩, h7⟩ := h
  exact ⟨o, h1, h2, h3, h4, L, ⟨h5, h6⟩, h7⟩
theorem GI.moved {X : Cx} {s U : State} (h : GI X s) (hvm : s.WarmedH U.vm) (hz : s.heap.size ≤ U.heap.size) (hk : ∀ q : Nat, q < s.heap.size → ¬ X.A q → U.heap[q]? = s.heap[q]?) : GI X U := ⟨va_K.moved hvm.alike h.1, h.2.2 s U hvm hz hk h.2.1, h.2.2⟩
/-- a contract out of the walk of the body -/
theorem Cg.of {X : Cx} {M : MD} {mc ms : Nat} {av : List Value} {h : AH} {Q : Outcome → AH → Prop} {L : List (Option Value)} (hy : plainFor M.y = true) (hE : M.eh = noEH) (pad : Nat) (hL : L = entL av ++ List.replicate pad none) (hn : (lg_sl av).length ≤ M.nL)
    (k : J X M (rmOf M.lv mc ms) (ZQ X mc ms Q) 0 L [] h 0 0) : Cg X M mc ms av h Q := by
  refine MetFree.of_bodySF (code := M.cc) (maxLocals := M.nL) (ret := M.ret) hy ?_ ?_
  · intro args s m hp hn
    obtain ⟨meth, c, h1, h2, h3, h4, h5, h6, -, -⟩ := Cond.code_spec hn (atoms_spec (ws := ws_ M.y M.cc M.nL M.ret) hp _ List.mem_cons_self)
    exact ⟨meth, c, h1, h2, h3, h4, h5, h6⟩
  · intro p e s m args below meth c s₁ B hml hP _
    obtain ⟨rfl, hG, hW⟩ := hP
    have hh0 : s₁.heap = s.heap := by rw [B.state]; rfl
    have hts := atoms_spec (ws := ws_ M.y M.cc M.nL M.ret) B.pre
    have hb : Bd X M p s m av.toArray meth c := ⟨B.exec, B.bytes, B.returns, B.notSynchronized, hml, findClass_of_methodNamed B.named, fun w h => hts w (List.mem_cons_of_mem _ h), hG, by rw [hE]; exact B.noHandlers (hts _ List.mem_cons_self), (name_of_methodNamed B.named B.method).1⟩
    have hw := k p e s m av.toArray below meth c hb ⟨Nat.le_refl _, Nat.le_refl _, Nat.zero_le _, Nat.zero_le _⟩ s.heap [] _ hW va_S.rf (LV.entry pad hL hn)
    rw [← lg_entry_eq] at hw
    obtain ⟨t, a1, o, b1, b2, b3⟩ := hw s₁ hh0 (Stand.of_body B)
    exact ⟨t, o, a1, b1, b2, b3⟩
theorem Cg.met {X : Cx} {M : MD} {mc ms : Nat} {av : List Value} {h : AH} {Q : Outcome → AH → Prop} (hC : Cg X M mc ms av h Q) (hr : ∀ o h', Q o h' → ∃ v, o = .returned v) : Met X.l M.y (ws_ M.y M.cc M.nL M.ret) (rmOf M.lv mc ms) (va_Pc av (fun U => GI X U ∧ Wd X h U.heap)) (Qof X Q) mc ms X.A := by
  intro p e ha hc hk s m args below hf happ hP hK
  obtain ⟨n, o, h1, h2, h3, h4, h5, L, ⟨h6, h7⟩, h8⟩ := hC p e ha hc hk s m args below hf happ hP hK
  obtain ⟨h', hq, hw⟩ := h4
  exact ⟨n, o, h1, h2, h3, ⟨⟨h', hq, hw⟩, h5⟩, L, ⟨hr o h' hq, h6, h7⟩, h8⟩
theorem Cg.blind {X : Cx} {av : List Value} {h : AH} : FrameBlind (va_Pc av (fun U => GI X U ∧ Wd X h U.heap)) := by
  intro a U g mk q
  obtain ⟨q0, qG, qW⟩ := q
  exact ⟨q0, GI.moved (s := U) (U := U.calling g mk a) qG (State.WarmedH.refl U) (Nat.le_refl _) (fun _ _ _ => rfl), qW⟩
section Returns
variable {X : Cx} {M : MD} {R : Room} {mc ms k n pc : Nat} {L : List (Option Value)} {h : AH} {Q : Outcome → AH → Prop}
theorem J.iret {v : Int32} (hd : decode M.cc pc = .ok (.ireturn, 1)) (hr : M.ret = some .int) (hk : k ≤ mc) (hn : n ≤ ms) (hq : Q (.returned (some (.int v))) h) : J X M R (ZQ X mc ms Q) pc L [.int v] h k n := by
  intro p e s m args below meth c B rk H locs ls hW hS hL
  refine W.widen hk hn (W.mono (W.iret (Qc := Qof X Q) (free := X.A) B.1 B.2.1 (B.2.2.1.trans hr) (fun t ht hw => ⟨⟨h, hq, by rw [ht]; exact hW⟩, hS.F ht⟩) hS.2.2 hd B.2.2.2.1) (fun t => ZQ.of))
theorem J.zret {v : Int32} {ty : FieldType} (hd : decode M.cc pc = .ok (.ireturn, 1)) (hr : M.ret = some ty) (hz : narrow ty (.int v) = .int v) (hk : k ≤ mc) (hn : n ≤ ms) (hq : Q (.returned (some (.int v))) h) : J X M R (ZQ X mc ms Q) pc L [.int v] h k n := by
  intro p e s m args below meth c B rk H locs ls hW hS hL
  refine W.widen hk hn (W.mono (W.zret (Qc := Qof X Q) (free := X.A) B.1 B.2.1 (B.2.2.1.trans hr) hz (fun t ht hw => ⟨⟨h, hq, by rw [ht]; exact hW⟩, hS.F ht⟩) hS.2.2 hd B.2.2.2.1) (fun t => ZQ.of))
theorem J.lret {v : Int64} (hd : decode M.cc pc = .ok (.lreturn, 1)) (hr : M.ret = some .long) (hk : k ≤ mc) (hn : n ≤ ms) (hq : Q (.returned (some (.long v))) h) : J X M R (ZQ X mc ms Q) pc L [.long v] h k n := by
  intro p e s m args below meth c B rk H locs ls hW hS hL
  refine W.widen hk hn (W.mono (W.lret (Qc := Qof X Q) (free := X.A) B.1 B.2.1 (B.2.2.1.trans hr) (fun t ht hw => ⟨⟨h, hq, by rw [ht]; exact hW⟩, hS.F ht⟩) hS.2.2 hd B.2.2.2.1) (fun t => ZQ.of))
theorem J.vret (hd : decode M.cc pc = .ok (.return_, 1)) (hr : M.ret = none) (hk : k ≤ mc) (hn : n ≤ ms) (hq : Q (.returned none) h) : J X M R (ZQ X mc ms Q) pc L [] h k n := by
  intro p e s m args below meth c B rk H locs ls hW hS hL
  refine W.widen hk hn (W.mono (W.vret (Qc := Qof X Q) (free := X.A) B.1 B.2.1 (B.2.2.1.trans hr) (fun t ht hw => ⟨⟨h, hq, by rw [ht]; exact hW⟩, hS.F ht⟩) hS.2.2 hd B.2.2.2.1) (fun t => ZQ.of))
theorem J.aret {v : Value} {rt : FieldType} (hd : decode M.cc pc = .ok (.areturn, 1)) (hr : M.ret = some rt) (hrt : (∃ n, rt = .object n) ∨ ∃ t, rt = .array t) (hv : v = .null ∨ ∃ a, v = .ref a) (hk : k ≤ mc) (hn : n ≤ ms) (hq : Q (.returned (some v)) h) : J X M R (ZQ X mc ms Q) pc L [v] h k n := by
  intro p e s m args below meth c B rk H locs ls hW hS hL
  refine W.widen hk hn (W.mono (W.aret (Qc := Qof X Q) (free := X.A) B.1 B.2.1 (B.2.2.1.trans hr) hrt hv (fun t ht hw => ⟨⟨h, hq, by rw [ht]; exact hW⟩, hS.F ht⟩) hS.2.2 hd B.2.2.2.1) (fun t => ZQ.of))
end Returns
section Calls2
variable {X : Cx} {M M' : MD} {R : Room} {Z : ZT} {mc ms k n pc idx : Nat} {L : List (Option Value)} {st As : List Value} {h : AH} {Q : Outcome → AH → Prop}
/-- behind the call -/
theorem J.after {p : Program} {e : Env} {s : State} {m : MethodId} {args a : Array Value} {below : List Frame} {meth : Method} {c : Code} {H : Heap} {locs : List Loc} {ls : Array Slot} {st0 : List Value}
    (hr : va_Run p X.l e R s m args below meth c H locs k n mc ms (F0 m pc ls st0) st (Qof X Q a) X.A) (B : Bd X M p s m args meth c) (rk : RK M R k n) (hf : k + mc ≤ R.cells ∧ n + ms ≤ R.slots) (hS : va_S X.A s.heap H locs) (hL : LV ls M.nL L)
    (kk : ∀ v h', Q (.returned v) h' → J X M R Z (pc + 3) L (v.toList ++ st) h' (k + mc) (n + ms)) : W p X.l e R s m args below meth c H locs k n (Z below args s) (F0 m pc ls st0) := by
  intro T hT S
  obtain ⟨v, st₀, t, T', L1, h0, S', hL1, e1, e2, ⟨⟨h', hq, hw⟩, hz, hk⟩, go⟩ := hr T hT S
  rw [h0] at hz hk
  obtain ⟨t2, a1, b1⟩ := kk v h' hq p e s m args below meth c B ⟨rk.1, rk.2.1, hf.1, hf.2⟩ T'.heap (locs ++ L1) ls (by rw [e1]; exact hw)
    ⟨Nat.le_trans hS.1 (by rw [e1]; exact hz), fun q h1 h2 => by rw [e1, hk q (Nat.lt_of_lt_of_le h1 hS.1) h2]; exact hS.2.1 q h1 h2, fun q hq => by
      rcases List.mem_append.mp hq with h | h
      · exact hS.2.2 q h
      · exact hL1 q h⟩ hL T' rfl S'
  exact ⟨t2, go t2 a1, b1⟩
theorem J.pre {s : State} {H : Heap} {locs : List Loc} (hG : GI X s) (hW : Wd X h H) (hS : va_S X.A s.heap H locs) (av : List Value) : ∀ U : State, U.heap = H → s.WarmedH U.vm → va_Pc av (fun U => GI X U ∧ Wd X h U.heap) av.toArray U :=
  fun U hU hw => ⟨rfl, hG.moved hw (by rw [hU]; exact hS.1) (fun q h1 h2 => by rw [hU]; exact hS.2.1 q h1 h2), by rw [hU]; exact hW⟩
theorem J.callS (hC : Cg X M' mc ms As h Q) (hret : ∀ o h', Q o h' → ∃ v, o = .returned v) (hd : decode M.cc pc = .ok (.invokestatic idx, 3)) (hG : GoodIn lw_all (va_wsS M.y.cls idx M'.y (ws_ M'.y M'.cc M'.nL M'.ret)))
    (hy : M'.y.cls ≠ "java/lang/invoke/MethodHandle" ∧ M'.y.cls ≠ "java/lang/invoke/VarHandle" ∧ (parseMethodDescriptor M'.y.desc).map (fun d => d.parameters.length) = some As.length)
    (hR : M'.lv + 1 ≤ M.lv ∧ M'.nL ≤ 421) (hf : k + mc ≤ R.cells ∧ n + ms ≤ R.slots) (hst : (st.map fun v => v.category).sum ≤ 8)
    (kk : ∀ v h', Q (.returned v) h' → J X M R Z (pc + 3) L (v.toList ++ st) h' (k + mc) (n + ms)) : J X M R Z pc L (As.reverse ++ st) h k n := by
  intro p e s m args below meth c B rk H locs ls hW hS hL
  refine J.after (va_runS (As := As) (rest := st) ⟨B.1, B.2.1, B.2.2.2.2.1, B.2.2.2.2.2.1, B.2.2.2.2.2.2.1⟩ (hC.met hret) (va_cwS As.length B.2.2.2.2.2.2.1 hG rfl rfl rfl hy ⟨Nat.le_trans hR.1 rk.1, by have := rk.2.1; have := hR.1; have := hR.2; simp only [rmOf]; omega⟩) ⟨Cg.blind, J.pre B.2.2.2.2.2.2.2.1 hW hS As⟩ rfl rfl hL.1 rfl (lv_room hst) hd hf) B rk hf hS hL kk
theorem J.callV {b ci : Nat} {fs : List Value} {q : vw_C} (hC : Cg X M' mc ms (.ref b :: As) h Q) (hret : ∀ o h', Q o h' → ∃ v, o = .returned v) (hb : h b = some (.inr (ci, fs))) (hci : vwCl[ci]? = some q) (hd : decode M.cc pc = .ok (.invokevirtual idx, 3)) (hG : GoodIn lw_all (wsV M.y.cls idx q.1 M'.y (ws_ M'.y M'.cc M'.nL M'.ret)))
    (hy : M'.y.cls = q.1 ∧ M'.y.cls ≠ "java/lang/invoke/MethodHandle" ∧ M'.y.cls ≠ "java/lang/invoke/VarHandle" ∧ (parseMethodDescriptor M'.y.desc).map (fun d => d.parameters.length) = some As.length)
    (hR : M'.lv + 1 ≤ M.lv ∧ M'.nL ≤ 421) (hf : k + mc ≤ R.cells ∧ n + ms ≤ R.slots) (hst : (st.map fun v => v.category).sum ≤ 8)
    (kk : ∀ v h', Q (.returned v) h' → J X M R Z (pc + 3) L (v.toList ++ st) h' (k + mc) (n + ms)) : J X M R Z pc L (As.reverse ++ .ref b :: st) h k n := by
  intro p e s m args below meth c B rk H locs ls hW hS hL
  obtain ⟨ws, hP, hD, hh⟩ := id hW
  obtain ⟨q0, hq0⟩ := hh b _ hb
  refine J.after (va_runV (As := As) (rest := st) ⟨B.1, B.2.1, B.2.2.2.2.1, B.2.2.2.2.2.1, B.2.2.2.2.2.2.1⟩ (hC.met hret) (cwV As.length B.2.2.2.2.2.2.1 hG rfl rfl rfl hy ⟨Nat.le_trans hR.1 rk.1, by have := rk.2.1; have := hR.1; have := hR.2; simp only [rmOf]; omega⟩) ⟨Cg.blind, va_recv B.2.2.2.2.2.2.2.1.1 hP hci hq0, J.pre B.2.2.2.2.2.2.2.1 hW hS (.ref b :: As)⟩ rfl rfl hL.1 rfl (lv_room hst) hd hf) B rk hf hS hL kk
theorem J.callI {b : Nat} (hC : Cg X M' mc ms (.ref b :: As) h Q) (hM : M'.ret = none) (hret : ∀ o h', Q o h' → ∃ v, o = .returned v) (hd : decode M.cc pc = .ok (.invokespecial idx, 3)) (hcode : Cond.code M'.y M'.cc M'.nL none ∈ lw_all)
    (hini : Cond.initialized M'.y.cls ∈ lw_all) (hlink : Cond.methodLink M.y.cls idx M'.y ∈ lw_all) (hinst : Cond.instanceMethod M'.y ∈ lw_all) (hnm : M'.y.name = "<init>")
    (hy : M'.y.cls ≠ "java/lang/invoke/MethodHandle" ∧ M'.y.cls ≠ "java/lang/invoke/VarHandle" ∧ (parseMethodDescriptor M'.y.desc).map (fun d => d.parameters.length) = some As.length)
    (hR : M'.lv + 1 ≤ M.lv ∧ M'.nL ≤ 421) (hf : k + mc ≤ R.cells ∧ n + ms ≤ R.slots) (hst : (st.map fun v => v.category).sum ≤ 8)
    (kk : ∀ v h', Q (.returned v) h' → J X M R Z (pc + 3) L (v.toList ++ st) h' (k + mc) (n + ms)) : J X M R Z pc L (As.reverse ++ .ref b :: st) h k n := by
  intro p e s m args below meth c B rk H locs ls hW hS hL
  have hts := B.2.2.2.2.2.2.1
  have hm := hC.met hret
  rw [hM] at hm
  refine J.after (va_runI (As := As) (rest := st) ⟨B.1, B.2.1, B.2.2.2.2.1, B.2.2.2.2.2.1, hts⟩ hm (cwI As.length hts (lw_meth hcode) rfl rfl rfl (hts _ hini) (hts _ hlink) (hts _ hinst) hnm hy ⟨Nat.le_trans hR.1 rk.1, by have := rk.2.1; have := hR.1; have := hR.2; simp only [rmOf]; omega⟩) ⟨Cg.blind, J.pre B.2.2.2.2.2.2.2.1 hW hS (.ref b :: As)⟩ rfl rfl hL.1 rfl (lv_room hst) hd hf) B rk hf hS hL kk
end Calls2
