set_option maxRecDepth 100000
/-! ===== ArrayList: add where it must grow; UnseenClock$Seen: its constructor ===== -/
section Grow2
variable {X : Cx} {M : MD} {R : Room} {Z : ZT} {k n pc idx a ed cap sz mi : Nat} {L : List (Option Value)} {st : List Value} {h : AH} {f : Nat → Nat}
theorem hy_gr2 : mJ2_grow_2.y.cls = RJ2 ∧ mJ2_grow_2.y.cls ≠ "java/lang/invoke/MethodHandle" ∧ mJ2_grow_2.y.cls ≠ "java/lang/invoke/VarHandle" ∧ (parseMethodDescriptor mJ2_grow_2.y.desc).map (fun d => d.parameters.length) = some 1 := by decide +kernel
theorem hy_gr1 : mJ2_grow.y.cls = RJ2 ∧ mJ2_grow.y.cls ≠ "java/lang/invoke/MethodHandle" ∧ mJ2_grow.y.cls ≠ "java/lang/invoke/VarHandle" ∧ (parseMethodDescriptor mJ2_grow.y.desc).map (fun d => d.parameters.length) = some 0 := by decide +kernel
theorem ok_grow {ci : Nat} {g : Nat → Option Nat} {r : vw_C} {m : Int32} (hX : WkX X) (hN : NewOK X) (hM : WkM X mi) (ha : h a = some (.inr (9, [.int m, .ref ed, .int (nI cap)]))) (h3 : h ed = some (.inl (X.dA 5, cap, .inr (.inr (.inr (.inr g)))))) (h1 : 2 ≤ cap) (h2 : cap < 200) (hc : vwCl[ci]? = some r) (hca : Cond.castable r.1 "java/lang/Object" ∈ nwL) (hel : ∀ i y, i < cap → g i = some y → ∃ vs, h y = some (.inr (ci, vs))) :
    Cg X mJ2_grow 1 (cap + cap / 2) [.ref a] h (fun o h' => ∃ q, o = .returned (some (.ref q)) ∧ h q = none ∧ h' = va_up (va_up h q (some (.inl (X.dA 5, cap + cap / 2, .inr (.inr (.inr (.inr (va_cpy g (fun _ => none) 0 0 cap)))))))) a (some (.inr (9, [.int m, .ref q, .int (nI cap)])))) := by
  refine E_start (L := [some (.ref a)]) 0 rfl ?_
  refine (blk_c (s_aload_n dJ2_grow_0 rfl) <| blk_c (s_aload_n dJ2_grow_1 rfl) <| blk_nil).go rfl trivial ?_
  refine js_of ?_
  refine J.getf (f := 2) clsJ2 rfl ha (by decide) rfl q412 dJ2_grow_2 ?_
  refine (fun (z : JS PE X mJ2_grow (rmOf mJ2_grow.lv 1 (cap + cap / 2)) _ 0 0 5 [some (.ref a)] [.int (nI cap), .ref a] h) => z _ rfl) ?_
  refine (blk_c (s_iconst dJ2_grow_5 (v := nI 1) (by decide +kernel)) <| blk_c (s_iadd dJ2_grow_6) <| blk_nil).go rfl trivial ?_
  rw [nI_add]
  refine js_of ?_
  refine J.callV (M' := mJ2_grow_2) (As := [.int (nI (cap + 1))]) (mc := 1) (ms := cap + cap / 2) (ok_grow_2 hX hN hM ha h3 h1 h2 hc hca hel) (fun o h' ⟨q, e, _⟩ => ⟨_, e⟩) ha rfl dJ2_grow_7 gJ2_grow_2_J2 hy_gr2 (by decide) ⟨by show 0 + 1 ≤ 1; omega, by show 0 + (cap + cap / 2) ≤ cap + cap / 2; omega⟩ (Nat.le_of_ble_eq_true rfl) (fun v h' q => ?_)
  obtain ⟨q, e, hq, rfl⟩ := q
  cases e
  exact J.aret dJ2_grow_10 rfl (Or.inr ⟨_, rfl⟩) (Or.inr ⟨q, rfl⟩) (by omega) (by omega) ⟨q, rfl, hq, rfl⟩
/-- what an add that grows leaves -/
def AddG (X : Cx) (h h' : AH) (a b cap : Nat) (g : Nat → Option Nat) : Prop := ∃ q m', h q = none ∧ h' a = some (.inr (9, [.int m', .ref q, .int (nI (cap + 1))])) ∧ h' q = some (.inl (X.dA 5, cap + cap / 2, .inr (.inr (.inr (.inr (va_up (va_cpy g (fun _ => none) 0 0 cap) cap (some b))))))) ∧ ∀ z, z ≠ a → z ≠ q → h' z = h z
theorem ok_add_2g {ci : Nat} {r : vw_C} {b : Nat} {vs : List Value} {m : Int32} {g : Nat → Option Nat} (hX : WkX X) (hN : NewOK X) (hM : WkM X mi) (k1 : h a = some (.inr (9, [.int m, .ref ed, .int (nI cap)]))) (k3 : h ed = some (.inl (X.dA 5, cap, .inr (.inr (.inr (.inr g)))))) (h1 : 2 ≤ cap) (h2 : cap < 200) (hb : h b = some (.inr (ci, vs))) (hc : vwCl[ci]? = some r) (hca : Cond.castable r.1 "java/lang/Object" ∈ nwL) (hba : b ≠ a) (hel : ∀ i y, i < cap → g i = some y → ∃ vs, h y = some (.inr (ci, vs))) :
    Cg X mJ2_add_2 1 (cap + cap / 2) [.ref a, .ref b, .ref ed, .int (nI cap)] h (fun o h' => o = .returned none ∧ AddG X h h' a b cap g) := by
  refine E_start (L := [some (.ref a), some (.ref b), some (.ref ed), some (.int (nI cap))]) 0 rfl ?_
  refine (blk_c (s_iload_n dJ2_add_2_0 rfl) <| blk_c (s_aload_n dJ2_add_2_1 rfl) <| blk_nil).go rfl trivial ?_
  refine js_of ?_
  refine J.alen (t := 5) k3 rfl dJ2_add_2_2 ?_
  refine (fun (z : JS PE X mJ2_add_2 (rmOf mJ2_add_2.lv 1 (cap + cap / 2)) _ 0 0 3 [some (.ref a), some (.ref b), some (.ref ed), some (.int (nI cap))] [.int (nI cap), .int (nI cap)] h) => z _ rfl) ?_
  refine j_icmp_ne (tgt := 11) dJ2_add_2_3 (by decide) (fun q => absurd rfl q) (fun _ => ?_)
  refine (blk_c (s_aload_n dJ2_add_2_6 rfl) <| blk_nil).go rfl trivial ?_
  refine js_of ?_
  refine J.callV (M' := mJ2_grow) (As := []) (mc := 1) (ms := cap + cap / 2) (ok_grow hX hN hM k1 k3 h1 h2 hc hca hel) (fun o h' ⟨q, e, _⟩ => ⟨_, e⟩) k1 rfl dJ2_add_2_7 gJ2_grow_J2 hy_gr1 (by decide) ⟨by show 0 + 1 ≤ 1; omega, by show 0 + (cap + cap / 2) ≤ cap + cap / 2; omega⟩ (Nat.le_of_ble_eq_true rfl) (fun v h' q => ?_)
  obtain ⟨q, e, hq, rfl⟩ := q
  cases e
  have qa : q ≠ a := fun e => by rw [e, k1] at hq; cases hq
  have qb : q ≠ b := fun e => by rw [e, hb] at hq; cases hq
  generalize hh : va_up (va_up h q (some (.inl (X.dA 5, cap + cap / 2, .inr (.inr (.inr (.inr (va_cpy g (fun _ => none) 0 0 cap)))))))) a (some (.inr (9, [.int m, .ref q, .int (nI cap)]))) = h'
  have ea : h' a = some (.inr (9, [.int m, .ref q, .int (nI cap)])) := by rw [← hh, va_up_self]
  have eq : h' q = some (.inl (X.dA 5, cap + cap / 2, .inr (.inr (.inr (.inr (va_cpy g (fun _ => none) 0 0 cap)))))) := by rw [← hh, va_up_ne _ _ qa, va_up_self]
  have eb : h' b = some (.inr (ci, vs)) := by rw [← hh, va_up_ne _ _ hba, va_up_ne _ _ (fun e => qb e.symm)]; exact hb
  have ez : ∀ z, z ≠ a → z ≠ q → h' z = h z := fun z h1 h2 => by rw [← hh, va_up_ne _ _ h1, va_up_ne _ _ h2]
  refine (fun (z : JS PE X mJ2_add_2 (rmOf mJ2_add_2.lv 1 (cap + cap / 2)) _ (0 + 1) (0 + (cap + cap / 2)) 10 [some (.ref a), some (.ref b), some (.ref ed), some (.int (nI cap))] [.ref q] h') => z _ rfl) ?_
  refine (blk_c (s_astore_n dJ2_add_2_10 rfl (by decide)) <| blk_c (s_aload_n dJ2_add_2_11 rfl) <| blk_c (s_iload_n dJ2_add_2_12 rfl) <| blk_c (s_aload_n dJ2_add_2_13 rfl) <| blk_nil).go rfl trivial ?_
  refine js_of ?_
  refine J.aast (t := 5) hX rfl eq eb hc hca ((vpI (by omega)).mpr (by omega)) dJ2_add_2_14 ?_
  rw [nI_clamp (by omega)]
  refine (fun (z : JS PE X mJ2_add_2 (rmOf mJ2_add_2.lv 1 (cap + cap / 2)) _ (0 + 1) (0 + (cap + cap / 2)) 15 [some (.ref a), some (.ref b), some (.ref q), some (.int (nI cap))] [] _) => z _ rfl) ?_
  refine (blk_c (s_aload_n dJ2_add_2_15 rfl) <| blk_c (s_iload_n dJ2_add_2_16 rfl) <| blk_c (s_iconst dJ2_add_2_17 (v := nI 1) (by decide +kernel)) <| blk_c (s_iadd dJ2_add_2_18) <| blk_nil).go rfl trivial ?_
  rw [nI_add]
  refine js_of ?_
  refine J.putf (f := 2) clsJ2 rfl (by rw [va_up_ne _ _ (fun e => qa e.symm)]; exact ea) (by decide) (Nat.le_of_ble_eq_true rfl) rfl rfl rfl q412 dJ2_add_2_19 ?_
  refine J.vret dJ2_add_2_22 rfl (by omega) (by omega) ⟨rfl, q, m, hq, va_up_self _ _ _, ?_, fun z h1 h2 => ?_⟩
  · rw [va_up_ne _ _ qa, va_up_self]
  · rw [va_up_ne _ _ h1, va_up_ne _ _ h2]; exact ez z h1 h2
theorem ok_addg {ci : Nat} {r : vw_C} {b : Nat} {vs : List Value} {m : Int32} {g : Nat → Option Nat} (hX : WkX X) (hN : NewOK X) (hM : WkM X mi) (k1' : h a = some (.inr (9, [.int m, .ref ed, .int (nI cap)]))) (k2 : ed ≠ a) (k3 : h ed = some (.inl (X.dA 5, cap, .inr (.inr (.inr (.inr g)))))) (h1 : 2 ≤ cap) (h2 : cap < 200) (hb : h b = some (.inr (ci, vs))) (hc : vwCl[ci]? = some r) (hca : Cond.castable r.1 "java/lang/Object" ∈ nwL) (hba : b ≠ a) (hel : ∀ i y, i < cap → g i = some y → y ≠ a ∧ ∃ vs, h y = some (.inr (ci, vs))) :
    Cg X mJ2_add 1 (cap + cap / 2) [.ref a, .ref b] h (fun o h' => o = .returned (some (.int (nI 1))) ∧ AddG X h h' a b cap g) := by
  refine E_start (L := [some (.ref a), some (.ref b)]) 0 rfl ?_
  refine (blk_c (s_aload_n dJ2_add_0 rfl) <| blk_c (s_dupR dJ2_add_1) <| blk_nil).go rfl trivial ?_
  refine js_of ?_
  refine J.getfS (f := 0) clsJ2 rfl k1' (by decide) rfl q414 q415 dJ2_add_2 ?_
  refine (fun (z : JS PE X mJ2_add (rmOf mJ2_add.lv 1 (cap + cap / 2)) _ 0 0 5 [some (.ref a), some (.ref b)] [.int m, .ref a] h) => z _ rfl) ?_
  refine (blk_c (s_iconst dJ2_add_5 (v := nI 1) (by decide +kernel)) <| blk_c (s_iadd dJ2_add_6) <| blk_nil).go rfl trivial ?_
  refine js_of ?_
  refine J.putfS (f := 0) clsJ2 rfl k1' (by decide) (Nat.le_of_ble_eq_true rfl) rfl rfl rfl q414 q415 dJ2_add_7 ?_
  generalize hh : va_up h a (some (.inr (9, List.set [.int m, .ref ed, .int (nI cap)] 0 (.int (m + nI 1))))) = h'
  have k1 : h' a = some (.inr (9, [.int (m + nI 1), .ref ed, .int (nI cap)])) := by rw [← hh, va_up_self]; rfl
  have kq : ∀ q, q ≠ a → h' q = h q := fun q hq => by rw [← hh, va_up_ne _ _ hq]
  refine (fun (z : JS PE X mJ2_add (rmOf mJ2_add.lv 1 (cap + cap / 2)) _ 0 0 10 [some (.ref a), some (.ref b)] [] h') => z _ rfl) ?_
  refine (blk_c (s_aload_n dJ2_add_10 rfl) <| blk_c (s_aload_n dJ2_add_11 rfl) <| blk_c (s_aload_n dJ2_add_12 rfl) <| blk_nil).go rfl trivial ?_
  refine js_of ?_
  refine J.getf (f := 1) clsJ2 rfl k1 (by decide) rfl q411 dJ2_add_13 ?_
  refine (fun (z : JS PE X mJ2_add (rmOf mJ2_add.lv 1 (cap + cap / 2)) _ 0 0 16 [some (.ref a), some (.ref b)] [.ref ed, .ref b, .ref a] h') => z _ rfl) ?_
  refine (blk_c (s_aload_n dJ2_add_16 rfl) <| blk_nil).go rfl trivial ?_
  refine js_of ?_
  refine J.getf (f := 2) clsJ2 rfl k1 (by decide) rfl q412 dJ2_add_17 ?_
  refine J.callV (M' := mJ2_add_2) (As := [.ref b, .ref ed, .int (nI cap)]) (mc := 1) (ms := cap + cap / 2) (ok_add_2g hX hN hM k1 (by rw [kq ed k2]; exact k3) h1 h2 (by rw [kq b hba]; exact hb) hc hca hba (fun i y hi hy => by obtain ⟨e1, vs, e2⟩ := hel i y hi hy; exact ⟨vs, by rw [kq _ e1]; exact e2⟩)) (fun o h' q => ⟨_, q.1⟩) k1 rfl dJ2_add_20 gJ2_add_2_J2 hy_add2 (by decide) ⟨by show 0 + 1 ≤ 1; omega, by show 0 + (cap + cap / 2) ≤ cap + cap / 2; omega⟩ (Nat.le_of_ble_eq_true rfl) (fun v h2' q => ?_)
  obtain ⟨q1, q, m', q2, q3, q5, q4⟩ := q
  cases q1
  refine (fun (z : JS PE X mJ2_add (rmOf mJ2_add.lv 1 (cap + cap / 2)) _ (0 + 1) (0 + (cap + cap / 2)) 23 [some (.ref a), some (.ref b)] [] h2') => z _ rfl) ?_
  refine (blk_c (s_iconst dJ2_add_23 (v := nI 1) (by decide +kernel)) <| blk_nil).go rfl trivial ?_
  refine e_zret dJ2_add_24 rfl rfl ⟨rfl, q, m', ?_, q3, q5, fun z ha he => by rw [q4 z ha he, kq z ha]⟩
  by_cases e : q = a
  · rw [e, k1] at q2; cases q2
  · rw [← kq q e]; exact q2
/-- what an add leaves where there is room -/
def AddR (X : Cx) (h h' : AH) (a ed b cap sz : Nat) (g : Nat → Option Nat) : Prop := (∃ m', h' a = some (.inr (9, [.int m', .ref ed, .int (nI (sz + 1))]))) ∧ h' ed = some (.inl (X.dA 5, cap, .inr (.inr (.inr (.inr (va_up g sz (some b))))))) ∧ ∀ z, z ≠ a → z ≠ ed → h' z = h z
theorem ok_add_2r {ci : Nat} {r : vw_C} {b : Nat} {vs : List Value} {m : Int32} {g : Nat → Option Nat} (hX : WkX X) (k1 : h a = some (.inr (9, [.int m, .ref ed, .int (nI sz)]))) (k2 : ed ≠ a) (k3 : h ed = some (.inl (X.dA 5, cap, .inr (.inr (.inr (.inr g)))))) (hs : sz < cap) (hc2 : cap < 100000) (hb : h b = some (.inr (ci, vs))) (hc : vwCl[ci]? = some r) (hca : Cond.castable r.1 "java/lang/Object" ∈ nwL) : Cg X mJ2_add_2 0 0 [.ref a, .ref b, .ref ed, .int (nI sz)] h (fun o h' => o = .returned none ∧ AddR X h h' a ed b cap sz g) := by
  refine E_start (L := [some (.ref a), some (.ref b), some (.ref ed), some (.int (nI sz))]) 0 rfl ?_
  refine (blk_c (s_iload_n dJ2_add_2_0 rfl) <| blk_c (s_aload_n dJ2_add_2_1 rfl) <| blk_nil).go rfl trivial ?_
  refine js_of ?_
  refine J.alen (t := 5) k3 rfl dJ2_add_2_2 ?_
  refine (fun (z : JS PE X mJ2_add_2 (rmOf mJ2_add_2.lv 0 0) _ 0 0 3 [some (.ref a), some (.ref b), some (.ref ed), some (.int (nI sz))] [.int (nI cap), .int (nI sz)] h) => z _ rfl) ?_
  refine j_icmp_ne (tgt := 11) dJ2_add_2_3 (by decide) (fun h3' => ?_) (fun h3' => absurd ((nI_eq (by omega) (by omega)).mp h3') (by omega))
  refine (blk_c (s_aload_n dJ2_add_2_11 rfl) <| blk_c (s_iload_n dJ2_add_2_12 rfl) <| blk_c (s_aload_n dJ2_add_2_13 rfl) <| blk_nil).go rfl trivial ?_
  refine js_of ?_
  refine J.aast (t := 5) hX rfl k3 hb hc hca ((vpI (by omega)).mpr (by omega)) dJ2_add_2_14 ?_
  rw [nI_clamp (by omega)]
  refine (fun (z : JS PE X mJ2_add_2 (rmOf mJ2_add_2.lv 0 0) _ 0 0 15 [some (.ref a), some (.ref b), some (.ref ed), some (.int (nI sz))] [] _) => z _ rfl) ?_
  refine (blk_c (s_aload_n dJ2_add_2_15 rfl) <| blk_c (s_iload_n dJ2_add_2_16 rfl) <| blk_c (s_iconst dJ2_add_2_17 (v := nI 1) (by decide +kernel)) <| blk_c (s_iadd dJ2_add_2_18) <| blk_nil).go rfl trivial ?_
  rw [nI_add]
  refine js_of ?_
  refine J.putf (f := 2) clsJ2 rfl (by rw [va_up_ne _ _ (fun e => k2 e.symm)]; exact k1) (by decide) (Nat.le_of_ble_eq_true rfl) rfl rfl rfl q412 dJ2_add_2_19 ?_
  refine J.vret dJ2_add_2_22 rfl (Nat.le_refl _) (Nat.le_refl _) ⟨rfl, ⟨m, va_up_self _ _ _⟩, ?_, fun q hqa hqe => ?_⟩
  · rw [va_up_ne _ _ k2, va_up_self]
  · rw [va_up_ne _ _ hqa, va_up_ne _ _ hqe]
theorem ok_addr {ci : Nat} {r : vw_C} {b : Nat} {vs : List Value} {m : Int32} {g : Nat → Option Nat} (hX : WkX X) (k1' : h a = some (.inr (9, [.int m, .ref ed, .int (nI sz)]))) (k2 : ed ≠ a) (k3 : h ed = some (.inl (X.dA 5, cap, .inr (.inr (.inr (.inr g)))))) (hs : sz < cap) (hc2 : cap < 100000) (hb : h b = some (.inr (ci, vs))) (hc : vwCl[ci]? = some r) (hca : Cond.castable r.1 "java/lang/Object" ∈ nwL) (hba : b ≠ a) : Cg X mJ2_add 0 0 [.ref a, .ref b] h (fun o h' => o = .returned (some (.int (nI 1))) ∧ AddR X h h' a ed b cap sz g) := by
  refine E_start (L := [some (.ref a), some (.ref b)]) 0 rfl ?_
  refine (blk_c (s_aload_n dJ2_add_0 rfl) <| blk_c (s_dupR dJ2_add_1) <| blk_nil).go rfl trivial ?_
  refine js_of ?_
  refine J.getfS (f := 0) clsJ2 rfl k1' (by decide) rfl q414 q415 dJ2_add_2 ?_
  refine (fun (z : JS PE X mJ2_add (rmOf mJ2_add.lv 0 0) _ 0 0 5 [some (.ref a), some (.ref b)] [.int m, .ref a] h) => z _ rfl) ?_
  refine (blk_c (s_iconst dJ2_add_5 (v := nI 1) (by decide +kernel)) <| blk_c (s_iadd dJ2_add_6) <| blk_nil).go rfl trivial ?_
  refine js_of ?_
  refine J.putfS (f := 0) clsJ2 rfl k1' (by decide) (Nat.le_of_ble_eq_true rfl) rfl rfl rfl q414 q415 dJ2_add_7 ?_
  generalize hh : va_up h a (some (.inr (9, List.set [.int m, .ref ed, .int (nI sz)] 0 (.int (m + nI 1))))) = h'
  have k1 : h' a = some (.inr (9, [.int (m + nI 1), .ref ed, .int (nI sz)])) := by rw [← hh, va_up_self]; rfl
  have kq : ∀ q, q ≠ a → h' q = h q := fun q hq => by rw [← hh, va_up_ne _ _ hq]
  refine (fun (z : JS PE X mJ2_add (rmOf mJ2_add.lv 0 0) _ 0 0 10 [some (.ref a), some (.ref b)] [] h') => z _ rfl) ?_
  refine (blk_c (s_aload_n dJ2_add_10 rfl) <| blk_c (s_aload_n dJ2_add_11 rfl) <| blk_c (s_aload_n dJ2_add_12 rfl) <| blk_nil).go rfl trivial ?_
  refine js_of ?_
  refine J.getf (f := 1) clsJ2 rfl k1 (by decide) rfl q411 dJ2_add_13 ?_
  refine (fun (z : JS PE X mJ2_add (rmOf mJ2_add.lv 0 0) _ 0 0 16 [some (.ref a), some (.ref b)] [.ref ed, .ref b, .ref a] h') => z _ rfl) ?_
  refine (blk_c (s_aload_n dJ2_add_16 rfl) <| blk_nil).go rfl trivial ?_
  refine js_of ?_
  refine J.getf (f := 2) clsJ2 rfl k1 (by decide) rfl q412 dJ2_add_17 ?_
  refine J.callV (M' := mJ2_add_2) (As := [.ref b, .ref ed, .int (nI sz)]) (mc := 0) (ms := 0) (ok_add_2r hX k1 k2 (by rw [kq ed k2]; exact k3) hs hc2 (by rw [kq b hba]; exact hb) hc hca) (fun o h' q => ⟨_, q.1⟩) k1 rfl dJ2_add_20 gJ2_add_2_J2 hy_add2 (by decide) ⟨Nat.le_refl _, Nat.le_refl _⟩ (by decide) (fun v h2' q => ?_)
  obtain ⟨q1, q2, q5, q3⟩ := q
  cases q1
  refine (fun (z : JS PE X mJ2_add (rmOf mJ2_add.lv 0 0) _ 0 0 23 [some (.ref a), some (.ref b)] [] h2') => z _ rfl) ?_
  refine (blk_c (s_iconst dJ2_add_23 (v := nI 1) (by decide +kernel)) <| blk_nil).go rfl trivial ?_
  exact e_zret dJ2_add_24 rfl rfl ⟨rfl, q2, q5, fun q ha he => by rw [q3 q ha he, kq q ha]⟩
/-- new Seen() -/
theorem ok_X16_init (hN : NewOK X) (h1 : h a = some (.inr (16, [.null, .null]))) : Cg X mX16_init 2 484 [.ref a] h (fun o h' => o = .returned none ∧ ∃ q1 q2, h q1 = none ∧ h q2 = none ∧ q1 ≠ q2 ∧ q1 ≠ a ∧ q2 ≠ a ∧ h' q1 = some (.inl (X.dA 2, 164, .inl (fun _ => 0))) ∧ h' q2 = some (.inl (X.dA 2, 320, .inl (fun _ => 0))) ∧ h' a = some (.inr (16, [.ref q1, .ref q2])) ∧ ∀ z, z ≠ a → z ≠ q1 → z ≠ q2 → h' z = h z) := by
  refine E_start (L := [some (.ref a)]) 0 rfl ?_
  refine (blk_c (s_aload_n dX16_init_0 rfl) <| blk_nil).go rfl trivial ?_
  refine js_of ?_
  refine J.objInit q1364 q200 q201 (by decide) (by decide) dX16_init_1 ?_
  refine (fun (z : JS PE X mX16_init (rmOf mX16_init.lv 2 484) _ 0 0 4 [some (.ref a)] [] h) => z _ rfl) ?_
  refine (blk_c (s_aload_n dX16_init_4 rfl) <| blk_c (s_sipush dX16_init_5 (v := nI 164) (by decide +kernel)) <| blk_nil).go rfl trivial ?_
  refine js_of ?_
  refine J.newa (atype := .byte) (ty := .byte) (t := 2) (N := 164) (a0 := (164, .inl (fun _ => 0))) hN rfl rfl (fun _ _ z => z) q269 (vc_byte 164) (by decide) (by decide) ⟨by show 0 + 1 ≤ 2; omega, by show 0 + 164 ≤ 484; omega⟩ dX16_init_8 (fun q1 hq1 => ?_)
  have n1 : q1 ≠ a := fun e => by rw [e, h1] at hq1; cases hq1
  refine J.putfF (f := 0) clsX16 rfl (by rw [va_up_ne _ _ (fun e => n1 e.symm)]; exact h1) (by decide) (Nat.le_of_ble_eq_true rfl) rfl rfl rfl rfl rfl q1365 dX16_init_10 ?_
  generalize hh : va_up (va_up h q1 (some (.inl (X.dA 2, 164, .inl (fun _ => 0))))) a (some (.inr (16, List.set [.null, .null] 0 (.ref q1)))) = h'
  have e1 : h' a = some (.inr (16, [.ref q1, .null])) := by rw [← hh, va_up_self]; rfl
  have e2 : h' q1 = some (.inl (X.dA 2, 164, .inl (fun _ => 0))) := by rw [← hh, va_up_ne _ _ n1, va_up_self]
  have e3 : ∀ z, z ≠ a → z ≠ q1 → h' z = h z := fun z a1 a2 => by rw [← hh, va_up_ne _ _ a1, va_up_ne _ _ a2]
  refine (fun (z : JS PE X mX16_init (rmOf mX16_init.lv 2 484) _ (0 + 1) (0 + 164) 13 [some (.ref a)] [] h') => z _ rfl) ?_
  refine (blk_c (s_aload_n dX16_init_13 rfl) <| blk_c (s_sipush dX16_init_14 (v := nI 320) (by decide +kernel)) <| blk_nil).go rfl trivial ?_
  refine js_of ?_
  refine J.newa (atype := .byte) (ty := .byte) (t := 2) (N := 320) (a0 := (320, .inl (fun _ => 0))) hN rfl rfl (fun _ _ z => z) q269 (vc_byte 320) (by decide) (by decide) ⟨by show 0 + 1 + 1 ≤ 2; omega, by show 0 + 164 + 320 ≤ 484; omega⟩ dX16_init_17 (fun q2 hq2 => ?_)
  have n2 : q2 ≠ a := fun e => by rw [e, e1] at hq2; cases hq2
  have n3 : q1 ≠ q2 := fun e => by rw [← e, e2] at hq2; cases hq2
  refine J.putfF (f := 1) clsX16 rfl (by rw [va_up_ne _ _ (fun e => n2 e.symm)]; exact e1) (by decide) (Nat.le_of_ble_eq_true rfl) rfl rfl rfl rfl rfl q1366 dX16_init_19 ?_
  refine J.vret dX16_init_22 rfl (by show 0 + 1 + 1 ≤ 2; omega) (by show 0 + 164 + 320 ≤ 484; omega) ⟨rfl, q1, q2, hq1, by rw [← e3 q2 n2 (fun e => n3 e.symm)]; exact hq2, n3, n1, n2, ?_, ?_, va_up_self _ _ _, fun z a1 a2 a3 => ?_⟩
  · rw [va_up_ne _ _ n1, va_up_ne _ _ n3]; exact e2
  · rw [va_up_ne _ _ n2, va_up_self]
  · rw [va_up_ne _ _ a1, va_up_ne _ _ a3]; exact e3 z a1 a2
end Grow2
