set_option maxRecDepth 100000
/-! ===== interface calls; ArrayList: size, get, isEmpty, add (where there is room), its constructor ===== -/
section RulesA1
variable {X : Cx} {M M' : MD} {R : Room} {Z : ZT} {k n mc ms pc idx a : Nat} {L : List (Option Value)} {st As : List Value} {h : AH} {Q : Outcome → AH → Prop}
/-- a field that is told by a subclass -/
theorem J.getfS {C ref : String} {T : u_T} {N ci f : Nat} {ty : Nat → FieldType} {fs : List Value} {v : Value} (hC : ClsOK C T N ty) (hc : vwCl[ci]? = some (C, T, N)) (ha : h a = some (.inr (ci, fs))) (hf : f < N) (hv : fs[f]? = some v) (hl : Cond.fieldLink M.y.cls idx ref (T f).2.1 (T f).2.2.1 ∈ lw_all) (hs : Cond.sameField ref (T f).1 (T f).2.1 (T f).2.2.1 ∈ lw_all) (hd : decode M.cc pc = .ok (.getfield idx, 3))
    (kk : J X M R Z (pc + 3) L (v :: st) h k n) : J X M R Z pc L (.ref a :: st) h k n := by
  intro p e s m args below meth c B rk H locs ls hW hS hL
  obtain ⟨ws, hP, hD, hh⟩ := id hW
  obtain ⟨q0, hq0⟩ := hh a _ ha
  exact va_get B.1 B.2.1 B.2.2.2.2.2.2.1 hC.1 B.2.2.2.2.2.1 B.2.2.2.2.2.2.2.1.1 hP q0 hq0 hc f hf (B.2.2.2.2.2.2.1 _ hl) (u_same (B.2.2.2.2.2.2.1 _ hs)) hv hd (kk p e s m args below meth c B rk H locs ls hW hS hL)
theorem J.putfS {C ref : String} {T : u_T} {N ci f : Nat} {ty : Nat → FieldType} {fs : List Value} {v : Value} (hC : ClsOK C T N ty) (hc : vwCl[ci]? = some (C, T, N)) (ha : h a = some (.inr (ci, fs))) (hf : f < N) (hfs : f < fs.length) (hfin : (T f).2.2.2 = false) (hn : narrow (ty f) v = v) (hfit : fits (ty f) v = true) (hl : Cond.fieldLink M.y.cls idx ref (T f).2.1 (T f).2.2.1 ∈ lw_all) (hs : Cond.sameField ref (T f).1 (T f).2.1 (T f).2.2.1 ∈ lw_all) (hd : decode M.cc pc = .ok (.putfield idx, 3))
    (kk : J X M R Z (pc + 3) L st (va_up h a (some (.inr (ci, fs.set f v)))) k n) : J X M R Z pc L (v :: .ref a :: st) h k n := by
  intro p e s m args below meth c B rk H locs ls hW hS hL
  obtain ⟨ws, hP, hD, hh⟩ := id hW
  obtain ⟨q0, hq0⟩ := hh a _ ha
  exact va_put B.1 B.2.1 B.2.2.2.2.2.2.1 hC.1 ty hC.2.1 hC.2.2 B.2.2.2.2.2.1 B.2.2.2.2.2.2.2.1.1 hP hD hS q0 hq0 hc f hf (B.2.2.2.2.2.2.1 _ hl) (u_same (B.2.2.2.2.2.2.1 _ hs)) hfin (hC.2.1 f hf) hn hfit hfs hd
    (fun H1 locs1 hP1 hD1 hS1 => kk p e s m args below meth c B rk H1 locs1 ls (Wd.set hD hh hq0 hP1 hD1) hS1 hL)
/-- a cast to the object's own class -/
theorem J.castS {ci : Nat} {fs : List Value} {r : vw_C} (ha : h a = some (.inr (ci, fs))) (hc : vwCl[ci]? = some r) (hl : Cond.classLink M.y.cls idx r.1 ∈ lw_all) (hd : decode M.cc pc = .ok (.checkcast idx, 3)) (kk : J X M R Z (pc + 3) L (.ref a :: st) h k n) : J X M R Z pc L (.ref a :: st) h k n := by
  intro p e s m args below meth c B rk H locs ls hW hS hL
  obtain ⟨ws, hP, hD, hh⟩ := id hW
  obtain ⟨q0, hq0⟩ := hh a _ ha
  exact va_castS B.1 B.2.1 B.2.2.2.2.2.1 (B.2.2.2.2.2.2.1 _ hl) (B.2.2.2.2.2.2.2.1.1.1 ci r hc).2 (va_recv B.2.2.2.2.2.2.2.1.1 hP hc hq0) hd (kk p e s m args below meth c B rk H locs ls hW hS hL)
theorem J.after5 {p : Program} {e : Env} {s : State} {m : MethodId} {args a : Array Value} {below : List Frame} {meth : Method} {c : Code} {H : Heap} {locs : List Loc} {ls : Array Slot} {st0 : List Value}
    (hr : va_Run5 p X.l e R s m args below meth c H locs k n mc ms (F0 m pc ls st0) st (Qof X Q a) X.A) (B : Bd X M p s m args meth c) (rk : RK M R k n) (hf : k + mc ≤ R.cells ∧ n + ms ≤ R.slots) (hS : va_S X.A s.heap H locs) (hL : LV ls M.nL L)
    (kk : ∀ v h', Q (.returned v) h' → J X M R Z (pc + 5) L (v.toList ++ st) h' (k + mc) (n + ms)) : W p X.l e R s m args below meth c H locs k n (Z below args s) (F0 m pc ls st0) := by
  intro T hT S
  obtain ⟨v, st₀, t, T', L1, h0, S', hL1, e1, e2, ⟨⟨h', hq, hw⟩, hz, hk⟩, go⟩ := hr T hT S
  rw [h0] at hz hk
  obtain ⟨t2, a1, b1⟩ := kk v h' hq p e s m args below meth c B ⟨rk.1, rk.2.1, hf.1, hf.2⟩ T'.heap (locs ++ L1) ls (by rw [e1]; exact hw)
    ⟨Nat.le_trans hS.1 (by rw [e1]; exact hz), fun q h1 h2 => by rw [e1, hk q (Nat.lt_of_lt_of_le h1 hS.1) h2]; exact hS.2.1 q h1 h2, fun q hq => by
      rcases List.mem_append.mp hq with h | h
      · exact hS.2.2 q h
      · exact hL1 q h⟩ hL T' rfl S'
  exact ⟨t2, go t2 a1, b1⟩
/-- a List's method, called on an ArrayList -/
theorem J.callF {b count : Nat} {fs : List Value} {x : MethodName} (hX : WkX X) (hC : Cg X M' mc ms (.ref b :: As) h Q) (hret : ∀ o h', Q o h' → ∃ v, o = .returned v) (hb : h b = some (.inr (9, fs))) (hd : decode M.cc pc = .ok (.invokeinterface idx count, 5)) (hG : GoodIn lw_all (va_wsF M.y.cls idx RJ2 x M'.y (ws_ M'.y M'.cc M'.nL M'.ret))) (hx : (x, M'.y) ∈ fwL)
    (hy : x.cls ≠ "java/lang/invoke/MethodHandle" ∧ x.cls ≠ "java/lang/invoke/VarHandle" ∧ (parseMethodDescriptor x.desc).map (fun d => d.parameters.length) = some As.length)
    (hR : M'.lv + 1 ≤ M.lv ∧ M'.nL ≤ 421) (hf : k + mc ≤ R.cells ∧ n + ms ≤ R.slots) (hst : (st.map fun v => v.category).sum ≤ 8)
    (kk : ∀ v h', Q (.returned v) h' → J X M R Z (pc + 5) L (v.toList ++ st) h' (k + mc) (n + ms)) : J X M R Z pc L (As.reverse ++ .ref b :: st) h k n := by
  intro p e s m args below meth c B rk H locs ls hW hS hL
  obtain ⟨ws, hP, hD, hh⟩ := id hW
  obtain ⟨q0, hq0⟩ := hh b _ hb
  have hts := B.2.2.2.2.2.2.1
  refine J.after5 (va_runF (C := RJ2) (As := As) (rest := st) (B.2.2.2.2.2.2.2.1.1.1 9 (RJ2, TJ2, 3) rfl).2 ⟨B.1, B.2.1, B.2.2.2.2.1, B.2.2.2.2.2.1, hts⟩ (hC.met hret) (va_cwF As.length hts hG rfl rfl rfl ((hX s B.2.2.2.2.2.2.2.1.2.1).2.1 _ hx) hy ⟨Nat.le_trans hR.1 rk.1, by have := rk.2.1; have := hR.1; have := hR.2; simp only [rmOf]; omega⟩) ⟨Cg.blind, va_recv B.2.2.2.2.2.2.2.1.1 hP rfl hq0, J.pre B.2.2.2.2.2.2.2.1 hW hS (.ref b :: As)⟩ rfl rfl hL.1 rfl (lv_room hst) hd hf) B rk hf hS hL kk
end RulesA1
theorem clsJ2 : ClsOK RJ2 TJ2 3 tyJ2 := ⟨in_J2, tyJ2_ok, nmJ2⟩
/-- a list at a: sz elements, the i-th at f i; room for cap -/
def LsAt (X : Cx) (h : AH) (a ed cap sz : Nat) (f : Nat → Nat) : Prop := (∃ m, h a = some (.inr (9, [.int m, .ref ed, .int (nI sz)]))) ∧ ed ≠ a ∧ (∃ g, h ed = some (.inl (X.dA 5, cap, .inr (.inr (.inr (.inr g))))) ∧ ∀ i, i < sz → g i = some (f i)) ∧ sz ≤ cap ∧ cap < 100000
section ListA1
variable {X : Cx} {h : AH} {a ed cap sz : Nat} {f : Nat → Nat}
abbrev mJ2_size : MD := (yJ2_size, cJ2_size, 1, (Option.some .int), 1, noEH)
abbrev mJ2_isEmpty : MD := (yJ2_isEmpty, cJ2_isEmpty, 1, (Option.some .boolean), 1, noEH)
abbrev mJ11_checkIndex : MD := (yJ11_checkIndex, cJ11_checkIndex, 2, (Option.some .int), 2, noEH)
abbrev mJ2_elementData : MD := (yJ2_elementData, cJ2_elementData, 2, (Option.some (.object "java/lang/Object")), 1, noEH)
abbrev mJ2_get : MD := (yJ2_get, cJ2_get, 2, (Option.some (.object "java/lang/Object")), 3, noEH)
theorem gJ6_checkIndex_J11 : GoodIn lw_all (va_wsS RJ11 105 yJ6_checkIndex (ws_ yJ6_checkIndex cJ6_checkIndex 3 (Option.some .int))) := lw_S q820 q700 q143 q701
theorem gJ11_checkIndex_J2 : GoodIn lw_all (va_wsS RJ2 118 yJ11_checkIndex (ws_ yJ11_checkIndex cJ11_checkIndex 2 (Option.some .int))) := lw_S q817 q818 q149 q819
theorem gJ2_elementData_J2 : GoodIn lw_all (wsV RJ2 123 RJ2 yJ2_elementData (ws_ yJ2_elementData cJ2_elementData 2 (Option.some (.object "java/lang/Object")))) := lw_V q821 q822 q823 q136 q824
theorem ok_size (hl : LsAt X h a ed cap sz f) : Cg X mJ2_size 0 0 [.ref a] h (PR (some (.int (nI sz))) h) := by
  obtain ⟨⟨m, h1⟩, h2, ⟨g, h3, h4⟩, h5, h6⟩ := hl
  refine E_start (L := [some (.ref a)]) 0 rfl ?_
  refine (blk_c (s_aload_n dJ2_size_0 rfl) <| blk_nil).go rfl trivial ?_
  rintro _ rfl
  refine J.getf (f := 2) clsJ2 rfl h1 (by decide) rfl q412 dJ2_size_1 ?_
  exact J.iret dJ2_size_4 rfl (Nat.le_refl _) (Nat.le_refl _) ⟨rfl, rfl⟩
theorem ok_isEmpty (hl : LsAt X h a ed cap sz f) : Cg X mJ2_isEmpty 0 0 [.ref a] h (PR (some (.int (b2 (decide (sz = 0))))) h) := by
  obtain ⟨⟨m, h1⟩, h2, ⟨g, h3, h4⟩, h5, h6⟩ := hl
  refine E_start (L := [some (.ref a)]) 0 rfl ?_
  refine (blk_c (s_aload_n dJ2_isEmpty_0 rfl) <| blk_nil).go rfl trivial ?_
  rintro _ rfl
  refine J.getf (f := 2) clsJ2 rfl h1 (by decide) rfl q412 dJ2_isEmpty_1 ?_
  refine (fun (z : JS PE X mJ2_isEmpty _ _ 0 0 4 [some (.ref a)] [.int (nI sz)] _) => z _ rfl) ?_
  refine j_if_ne (tgt := 11) dJ2_isEmpty_4 (by decide) (fun h4 => ?_) (fun h4 => ?_)
  · refine (blk_c (s_iconst dJ2_isEmpty_11 (v := nI 0) (by decide +kernel)) <| blk_nil).go rfl trivial ?_
    refine e_zret dJ2_isEmpty_12 rfl rfl ⟨?_, rfl⟩
    rw [decide_eq_false (fun e => h4 (by rw [e]; rfl))]; rfl
  · refine (blk_c (s_iconst dJ2_isEmpty_7 (v := nI 1) (by decide +kernel)) <| blk_c (s_goto (tgt := 12) dJ2_isEmpty_8 (by decide)) <| blk_nil).go rfl trivial ?_
    refine e_zret dJ2_isEmpty_12 rfl rfl ⟨?_, rfl⟩
    rw [decide_eq_true ((nI_eq (by omega) (by omega)).mp (h4.trans nI_0.symm))]; rfl
theorem ok_J11_checkIndex {i b : Nat} (hib : i < b) (hb : b < 2 ^ 31) (h : AH) : Cg X mJ11_checkIndex 0 0 [.int (nI i), .int (nI b)] h (PR (some (.int (nI i))) h) := by
  refine E_start (L := [some (.int (nI i)), some (.int (nI b))]) 0 rfl ?_
  refine (blk_c (s_iload_n dJ11_checkIndex_0 rfl) <| blk_c (s_iload_n dJ11_checkIndex_1 rfl) <| blk_c (s_null dJ11_checkIndex_2) <| blk_nil).go rfl trivial ?_
  refine js_pureS (nA := 3) (As := [.int (nI i), .int (nI b), .null]) (ok_J6_checkIndex hib hb (Or.inl rfl)) dJ11_checkIndex_3 gJ6_checkIndex_J11 rfl ?_
  exact e_iret dJ11_checkIndex_6 rfl ⟨rfl, rfl⟩
theorem ok_elementData {i : Nat} (hl : LsAt X h a ed cap sz f) (hi : i < sz) : Cg X mJ2_elementData 0 0 [.ref a, .int (nI i)] h (PR (some (.ref (f i))) h) := by
  obtain ⟨⟨m, h1⟩, h2, ⟨g, h3, h4⟩, h5, h6⟩ := hl
  refine E_start (L := [some (.ref a), some (.int (nI i))]) 0 rfl ?_
  refine (blk_c (s_aload_n dJ2_elementData_0 rfl) <| blk_nil).go rfl trivial ?_
  rintro _ rfl
  refine J.getf (f := 1) clsJ2 rfl h1 (by decide) rfl q411 dJ2_elementData_1 ?_
  refine (fun (z : JS PE X mJ2_elementData _ _ 0 0 4 [some (.ref a), some (.int (nI i))] [.ref ed] _) => z _ rfl) ?_
  refine (blk_c (s_iload_n dJ2_elementData_4 rfl) <| blk_nil).go rfl trivial ?_
  rintro _ rfl
  refine J.aald (t := 5) rfl h3 ((vpI (by omega)).mpr (by omega)) dJ2_elementData_5 ?_
  rw [nI_clamp (by omega), h4 i hi]
  exact J.aret (v := .ref (f i)) dJ2_elementData_6 rfl (Or.inl ⟨_, rfl⟩) (Or.inr ⟨_, rfl⟩) (Nat.le_refl _) (Nat.le_refl _) ⟨rfl, rfl⟩
theorem hy_ed : mJ2_elementData.y.cls = RJ2 ∧ mJ2_elementData.y.cls ≠ "java/lang/invoke/MethodHandle" ∧ mJ2_elementData.y.cls ≠ "java/lang/invoke/VarHandle" ∧ (parseMethodDescriptor mJ2_elementData.y.desc).map (fun d => d.parameters.length) = some 1 := by decide +kernel
theorem ok_get {i : Nat} (hl : LsAt X h a ed cap sz f) (hi : i < sz) : Cg X mJ2_get 0 0 [.ref a, .int (nI i)] h (PR (some (.ref (f i))) h) := by
  obtain ⟨⟨m, h1⟩, h2, ⟨g, h3, h4⟩, h5, h6⟩ := id hl
  refine E_start (L := [some (.ref a), some (.int (nI i))]) 0 rfl ?_
  refine (blk_c (s_iload_n dJ2_get_0 rfl) <| blk_c (s_aload_n dJ2_get_1 rfl) <| blk_nil).go rfl trivial ?_
  rintro _ rfl
  refine J.getf (f := 2) clsJ2 rfl h1 (by decide) rfl q412 dJ2_get_2 ?_
  refine (fun (z : JS PE X mJ2_get _ _ 0 0 5 [some (.ref a), some (.int (nI i))] [.int (nI sz), .int (nI i)] _) => z _ rfl) ?_
  refine js_pureS (nA := 2) (As := [.int (nI i), .int (nI sz)]) (ok_J11_checkIndex hi (by omega)) dJ2_get_5 gJ11_checkIndex_J2 rfl ?_
  refine (blk_c (s_popI dJ2_get_8) <| blk_c (s_aload_n dJ2_get_9 rfl) <| blk_c (s_iload_n dJ2_get_10 rfl) <| blk_nil).go rfl trivial ?_
  rintro _ rfl
  refine J.callV (As := [.int (nI i)]) (mc := 0) (ms := 0) (ok_elementData hl hi) (fun o h' q => ⟨_, q.1⟩) h1 rfl dJ2_get_11 gJ2_elementData_J2 hy_ed (by decide) ⟨Nat.le_refl _, Nat.le_refl _⟩ (by decide) (fun v h' q => ?_)
  obtain ⟨q1, rfl⟩ := q
  cases q1
  exact J.aret (v := .ref (f i)) dJ2_get_14 rfl (Or.inl ⟨_, rfl⟩) (Or.inr ⟨_, rfl⟩) (Nat.le_refl _) (Nat.le_refl _) ⟨rfl, rfl⟩
end ListA1
