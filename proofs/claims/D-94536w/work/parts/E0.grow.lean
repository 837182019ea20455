set_option maxRecDepth 100000
/-! ===== ArrayList: add where it must grow ===== -/
/-- the class object of Object[] -/
def WkM (X : Cx) (mi : Nat) : Prop := ∀ U, X.G U → va_Dc U ∧ va_Mi "[Ljava/lang/Object;" mi U
section Grow
variable {X : Cx} {M : MD} {R : Room} {Z : ZT} {k n pc idx a ed cap sz mi : Nat} {L : List (Option Value)} {st : List Value} {h : AH} {f : Nat → Nat}
theorem J.ldcM (hM : WkM X mi) (hl : Cond.classLink M.y.cls idx "[Ljava/lang/Object;" ∈ lw_all) (hd : decode M.cc pc = .ok (.ldc idx, 2)) (kk : J X M R Z (pc + 2) L (.ref mi :: st) h k n) : J X M R Z pc L st h k n := by
  intro p e s m args below meth c B rk H locs ls hW hS hL
  exact va_ldcM B.1 B.2.1 B.2.2.2.2.2.1 (B.2.2.2.2.2.2.1 _ hl) (hM s B.2.2.2.2.2.2.2.1.2.1).2 hd (kk p e s m args below meth c B rk H locs ls hW hS hL)
theorem J.getC {N : Nat} {g : Nat → Option Nat} (hM : WkM X mi) (ha : h a = some (.inl (X.dA 5, N, .inr (.inr (.inr (.inr g)))))) (hl : Cond.methodLink M.y.cls idx ⟨"java/lang/Object", "getClass", "()Ljava/lang/Class;"⟩ ∈ lw_all) (hR : 1 ≤ M.lv) (hst : wt8 st = true) (hd : decode M.cc pc = .ok (.invokevirtual idx, 3)) (kk : J X M R Z (pc + 3) L (.ref mi :: st) h k n) : J X M R Z pc L (.ref a :: st) h k n := by
  intro p e s m args below meth c B rk H locs ls hW hS hL
  obtain ⟨ws, hP, hD, hh⟩ := id hW
  obtain ⟨q0, hq0⟩ := hh a _ ha
  have hts := B.2.2.2.2.2.2.1
  have hG := B.2.2.2.2.2.2.2.1
  have r1 := rk.1
  have r2 := rk.2.1
  have hst' := Nat.le_of_ble_eq_true hst
  have hK := (hG.1.2 5 (X.dA 5, .object "java/lang/Object") rfl).2
  refine va_getC B.1 B.2.1 (by rw [B.2.2.2.2.1, hL.1]) B.2.2.2.2.2.1 (hts _ hl) (va_Dc.use (hM s hG.2.1).1) (C := "[Ljava/lang/Object;") (hts _ q2335) (hts _ q906) (hts _ q930) (hM s hG.2.1).2 ⟨_, hP q0 _ hq0, rfl, va_nmO hK (by decide +kernel)⟩ (by omega) (by omega) hd (kk p e s m args below meth c B rk H locs ls hW hS hL)
theorem J.copyq {a0 a1 n0 n1 m ci : Nat} {f g : Nat → Option Nat} {r : vw_C} (hX : WkX X) (h0 : h a0 = some (.inl (X.dA 5, n0, .inr (.inr (.inr (.inr f)))))) (h1 : h a1 = some (.inl (X.dA 5, n1, .inr (.inr (.inr (.inr g)))))) (b1 : m ≤ n0) (b2 : m ≤ n1) (c1 : n0 < 2 ^ 31) (c2 : n1 < 2 ^ 31) (hc : vwCl[ci]? = some r) (hca : Cond.castable r.1 "java/lang/Object" ∈ nwL) (hel : ∀ i y, i < m → f i = some y → ∃ vs, h y = some (.inr (ci, vs))) (hl : Cond.methodLink M.y.cls idx arraycopyName ∈ lw_all) (hR : 1 ≤ M.lv) (hst : wt8 st = true) (hd : decode M.cc pc = .ok (.invokestatic idx, 3))
    (kk : J X M R Z (pc + 3) L st (va_up h a1 (some (.inl (X.dA 5, n1, .inr (.inr (.inr (.inr (va_cpy f g 0 0 m)))))))) k n) : J X M R Z pc L (.int (nI m) :: .int (nI 0) :: .ref a1 :: .int (nI 0) :: .ref a0 :: st) h k n := by
  intro p e s mm args below meth c B rk H locs ls hW hS hL
  obtain ⟨ws, hP, hD, hh⟩ := id hW
  obtain ⟨q0, hq0⟩ := hh a0 _ h0
  obtain ⟨q1, hq1⟩ := hh a1 _ h1
  have hts := B.2.2.2.2.2.2.1
  have hG := B.2.2.2.2.2.2.2.1
  have r1 := rk.1
  have r2 := rk.2.1
  have hst' := Nat.le_of_ble_eq_true hst
  have z0 : (nI 0).toNatClampNeg = 0 := nI_clamp (by omega)
  have zm : (nI m).toNatClampNeg = m := nI_clamp (by omega)
  refine va_copyq (E0 := "java/lang/Object") (E1 := "java/lang/Object") (C := r.1) B.1 B.2.1 (by rw [B.2.2.2.2.1, hL.1]) B.2.2.2.2.2.1 (hts _ hl) (hts _ q371) (hts _ q370) (hts _ q153) hG.1 hP hD hS q0 q1 5 5 hq0 hq1 rfl rfl (nI_pos (by omega)) (nI_pos (by omega)) (nI_pos (by omega)) (by rw [z0, zm]; omega) (by rw [z0, zm]; omega) (fun i hi y hy => ?_) (fun comp c0 e1 e2 => ?_) (by omega) ?_ hd (fun H1 locs1 hP1 hD1 hS1 => ?_)
  · rw [zm] at hi
    rw [z0, Nat.zero_add] at hy
    obtain ⟨vs, hv⟩ := hel i y hi hy
    obtain ⟨qv, hqv⟩ := hh y _ hv
    exact va_recv hG.1 hP hc hqv
  · obtain ⟨c1', t1, f1, f2, f3⟩ := Cond.castable_spec (va_Nw.use (A := args) rfl ((hX s hG.2.1).1 _ hca))
    cases e2.symm.trans f1
    cases e1.symm.trans f2
    exact f3
  · have : nativeFrameWords "java/lang/System" "arraycopy" 5 ≤ 100 := by decide +kernel
    omega
  · rw [z0, zm] at hP1 hD1
    exact kk p e s mm args below meth c B rk H1 locs1 ls (Wd.set hD hh hq1 hP1 hD1) hS1 hL
theorem J.dupx1 {a b : Nat} (hd : decode M.cc pc = .ok (.dup_x1, 1)) (kk : J X M R Z (pc + 1) L (.ref a :: .ref b :: .ref a :: st) h k n) : J X M R Z pc L (.ref a :: .ref b :: st) h k n :=
  fun p e s m args below meth c B rk H locs ls hW hS hL => lv_dup_x1 B.1 B.2.1 hd rfl rfl (kk p e s m args below meth c B rk H locs ls hW hS hL)
abbrev mJ12_newLength : MD := (yJ12_newLength, cJ12_newLength, 4, (Option.some .int), 2, noEH)
abbrev mJ13_copyOf : MD := (yJ13_copyOf, cJ13_copyOf, 2, (Option.some (.array (.object "java/lang/Object"))), 3, noEH)
abbrev mJ13_copyOf_2 : MD := (yJ13_copyOf_2, cJ13_copyOf_2, 4, (Option.some (.array (.object "java/lang/Object"))), 2, noEH)
abbrev mJ2_grow : MD := (yJ2_grow, cJ2_grow, 1, (Option.some (.array (.object "java/lang/Object"))), 5, noEH)
abbrev mJ2_grow_2 : MD := (yJ2_grow_2, cJ2_grow_2, 4, (Option.some (.array (.object "java/lang/Object"))), 4, noEH)
theorem gJ12_newLength_J2 : GoodIn lw_all (va_wsS RJ2 73 yJ12_newLength (ws_ yJ12_newLength cJ12_newLength 4 (Option.some .int))) := lw_S q892 q893 q151 q894
theorem gJ3_max_J12 : GoodIn lw_all (va_wsS RJ12 194 yJ3_max (ws_ yJ3_max cJ3_max 2 (Option.some .int))) := lw_S q895 q896 q140 q897
theorem gJ13_copyOf_J2 : GoodIn lw_all (va_wsS RJ2 66 yJ13_copyOf (ws_ yJ13_copyOf cJ13_copyOf 2 (Option.some (.array (.object "java/lang/Object"))))) := lw_S q902 q903 q152 q904
theorem gJ13_copyOf_2_J13 : GoodIn lw_all (va_wsS RJ13 300 yJ13_copyOf_2 (ws_ yJ13_copyOf_2 cJ13_copyOf_2 4 (Option.some (.array (.object "java/lang/Object"))))) := lw_S q931 q932 q152 q933
theorem gJ3_min_J13 : GoodIn lw_all (va_wsS RJ13 304 yJ3_min (ws_ yJ3_min cJ3_min 2 (Option.some .int))) := lw_S q936 q628 q140 q629
theorem gJ2_grow_J2 : GoodIn lw_all (wsV RJ2 129 RJ2 yJ2_grow (ws_ yJ2_grow cJ2_grow 1 (Option.some (.array (.object "java/lang/Object"))))) := lw_V q882 q884 qs20 q136 q885
theorem gJ2_grow_2_J2 : GoodIn lw_all (wsV RJ2 69 RJ2 yJ2_grow_2 (ws_ yJ2_grow_2 cJ2_grow_2 4 (Option.some (.array (.object "java/lang/Object"))))) := lw_V q886 q888 qs21 q136 q889
theorem max_e {a b : Nat} (h : a ≤ b) (hb : b < 100000) : maxI (nI a) (nI b) = nI b := by
  unfold maxI
  split
  · rename_i z
    first | rfl | (rw [nI_ltI (by omega) (by omega)] at z; congr 1; omega) | (rw [nI_leI (by omega) (by omega)] at z; congr 1; omega)
  · rename_i z
    first | rfl | (rw [nI_ltI (by omega) (by omega)] at z; congr 1; omega) | (rw [nI_leI (by omega) (by omega)] at z; congr 1; omega)
theorem min_e {a b : Nat} (h : a ≤ b) (hb : b < 100000) : minI (nI a) (nI b) = nI a := by
  unfold minI
  split
  · rename_i z
    first | rfl | (rw [nI_ltI (by omega) (by omega)] at z; congr 1; omega) | (rw [nI_leI (by omega) (by omega)] at z; congr 1; omega)
  · rename_i z
    first | rfl | (rw [nI_ltI (by omega) (by omega)] at z; congr 1; omega) | (rw [nI_leI (by omega) (by omega)] at z; congr 1; omega)
theorem ok_newLength (h1 : 2 ≤ cap) (h2 : cap < 200) (h : AH) : Cg X mJ12_newLength 0 0 [.int (nI cap), .int (nI 1), .int (nI (cap / 2))] h (PR (some (.int (nI (cap + cap / 2)))) h) := by
  refine E_start (L := [some (.int (nI cap)), some (.int (nI 1)), some (.int (nI (cap / 2))), none]) 1 rfl ?_
  refine (blk_c (s_iload_n dJ12_newLength_0 rfl) <| blk_c (s_iload_n dJ12_newLength_1 rfl) <| blk_c (s_iload_n dJ12_newLength_2 rfl) <| blk_nil).go rfl trivial ?_
  refine js_pureS (M' := mJ3_max) (nA := 2) (As := [.int (nI 1), .int (nI (cap / 2))]) (fun h => ok_sJ3_max X h _ _ trivial) dJ12_newLength_3 gJ3_max_J12 rfl ?_
  have e : maxI (nI 1) (nI (cap / 2)) = nI (cap / 2) := by
    exact max_e (by omega) (by omega)
  show JS PE X mJ12_newLength _ _ 0 0 6 _ [.int (maxI (nI 1) (nI (cap / 2))), .int (nI cap)] h
  rw [e]
  refine (blk_c (s_iadd dJ12_newLength_6) <| blk_c (s_istore_n dJ12_newLength_7 rfl (by decide)) <| blk_c (s_iconst dJ12_newLength_8 (v := nI 0) (by decide +kernel)) <| blk_c (s_iload_n dJ12_newLength_9 rfl) <| blk_nil).go rfl trivial ?_
  rw [nI_add]
  refine j_icmp_ge (tgt := 21) dJ12_newLength_10 (by decide) (fun q => ?_) (fun q => ?_)
  · rw [nI_leI (by omega) (by omega)] at q; omega
  · refine (blk_c (s_iload_n dJ12_newLength_13 rfl) <| blk_c (s_ldc (v := nI 2147483639) dJ12_newLength_14 q898) <| blk_nil).go rfl trivial ?_
    refine j_icmp_gt (tgt := 21) dJ12_newLength_16 (by decide) (fun q => ?_) (fun q => ?_)
    · rw [nI_ltI (by omega) (by omega)] at q; omega
    · refine (blk_c (s_iload_n dJ12_newLength_19 rfl) <| blk_nil).go rfl trivial ?_
      exact e_iret dJ12_newLength_20 rfl ⟨rfl, rfl⟩
theorem ok_copyOf_2 {c2 ci : Nat} {g : Nat → Option Nat} {r : vw_C} (hX : WkX X) (hN : NewOK X) (hM : WkM X mi) (h3 : h ed = some (.inl (X.dA 5, cap, .inr (.inr (.inr (.inr g)))))) (h1 : cap ≤ c2) (h2 : c2 < 100000) (hc : vwCl[ci]? = some r) (hca : Cond.castable r.1 "java/lang/Object" ∈ nwL) (hel : ∀ i y, i < cap → g i = some y → ∃ vs, h y = some (.inr (ci, vs))) :
    Cg X mJ13_copyOf_2 1 c2 [.ref ed, .int (nI c2), .ref mi] h (fun o h' => ∃ q, o = .returned (some (.ref q)) ∧ h q = none ∧ h' = va_up h q (some (.inl (X.dA 5, c2, .inr (.inr (.inr (.inr (va_cpy g (fun _ => none) 0 0 cap)))))))) := by
  refine E_start (L := [some (.ref ed), some (.int (nI c2)), some (.ref mi), none]) 1 rfl ?_
  refine (blk_c (s_aload_n dJ13_copyOf_2_0 rfl) <| blk_nil).go rfl trivial ?_
  refine js_of ?_
  refine J.ldcM hM q934 dJ13_copyOf_2_1 ?_
  refine (fun (z : JS PE X mJ13_copyOf_2 (rmOf mJ13_copyOf_2.lv 1 c2) _ 0 0 3 [some (.ref ed), some (.int (nI c2)), some (.ref mi), none] [.ref mi, .ref mi] h) => z _ rfl) ?_
  refine j_acmp_ne (tgt := 13) dJ13_copyOf_2_3 (by decide) (fun q => absurd rfl q) (fun _ => ?_)
  refine (blk_c (s_iload_n dJ13_copyOf_2_6 rfl) <| blk_nil).go rfl trivial ?_
  refine js_of ?_
  refine J.anew (C := "java/lang/Object") (t := 5) (N := c2) hN rfl q935 (fun U hU => (hX U hU).2.2.1.2.1) (by omega) (by omega) ⟨by show 0 + 1 ≤ 1; omega, by show 0 + c2 ≤ c2; omega⟩ dJ13_copyOf_2_7 (fun q hq => ?_)
  have hne : q ≠ ed := fun e => by rw [e, h3] at hq; cases hq
  generalize hh : va_up h q (some (.inl (X.dA 5, c2, .inr (.inr (.inr (.inr (fun _ => none))))))) = h'
  have k3 : h' ed = some (.inl (X.dA 5, cap, .inr (.inr (.inr (.inr g))))) := by rw [← hh, va_up_ne _ _ (fun e => hne e.symm)]; exact h3
  have kq : h' q = some (.inl (X.dA 5, c2, .inr (.inr (.inr (.inr (fun _ => none)))))) := by rw [← hh, va_up_self]
  refine (fun (z : JS PE X mJ13_copyOf_2 (rmOf mJ13_copyOf_2.lv 1 c2) _ (0 + 1) (0 + c2) 10 [some (.ref ed), some (.int (nI c2)), some (.ref mi), none] [.ref q] h') => z _ rfl) ?_
  refine (blk_c (s_goto (tgt := 24) dJ13_copyOf_2_10 (by decide)) <| blk_c (s_astore_n dJ13_copyOf_2_24 rfl (by decide)) <| blk_c (s_aload_n dJ13_copyOf_2_25 rfl) <| blk_c (s_iconst dJ13_copyOf_2_26 (v := nI 0) (by decide +kernel)) <| blk_c (s_aload_n dJ13_copyOf_2_27 rfl) <| blk_c (s_iconst dJ13_copyOf_2_28 (v := nI 0) (by decide +kernel)) <| blk_c (s_aload_n dJ13_copyOf_2_29 rfl) <| blk_nil).go rfl trivial ?_
  refine js_of ?_
  refine J.alen (t := 5) k3 rfl dJ13_copyOf_2_30 ?_
  refine (fun (z : JS PE X mJ13_copyOf_2 (rmOf mJ13_copyOf_2.lv 1 c2) _ (0 + 1) (0 + c2) 31 [some (.ref ed), some (.int (nI c2)), some (.ref mi), some (.ref q)] [.int (nI cap), .int (nI 0), .ref q, .int (nI 0), .ref ed] h') => z _ rfl) ?_
  refine (blk_c (s_iload_n dJ13_copyOf_2_31 rfl) <| blk_nil).go rfl trivial ?_
  refine js_pureS (M' := mJ3_min) (nA := 2) (As := [.int (nI cap), .int (nI c2)]) (fun h => ok_sJ3_min X h _ _ trivial) dJ13_copyOf_2_32 gJ3_min_J13 rfl ?_
  have e : minI (nI cap) (nI c2) = nI cap := by
    exact min_e h1 h2
  show JS PE X mJ13_copyOf_2 _ _ _ _ 35 _ [.int (minI (nI cap) (nI c2)), .int (nI 0), .ref q, .int (nI 0), .ref ed] h'
  rw [e]
  refine js_of ?_
  refine J.copyq hX k3 kq (Nat.le_refl _) h1 (by omega) (by omega) hc hca (fun i y hi hy => ?_) q937 (by decide) rfl dJ13_copyOf_2_35 ?_
  · obtain ⟨vs, hv⟩ := hel i y hi hy
    refine ⟨vs, ?_⟩
    rw [← hh, va_up_ne _ _ (fun e => by rw [e, hq] at hv; cases hv)]; exact hv
  · refine (fun (z : JS PE X mJ13_copyOf_2 (rmOf mJ13_copyOf_2.lv 1 c2) _ (0 + 1) (0 + c2) 38 [some (.ref ed), some (.int (nI c2)), some (.ref mi), some (.ref q)] [] _) => z _ rfl) ?_
    refine (blk_c (s_aload_n dJ13_copyOf_2_38 rfl) <| blk_nil).go rfl trivial ?_
    refine js_of ?_
    refine J.aret dJ13_copyOf_2_39 rfl (Or.inr ⟨_, rfl⟩) (Or.inr ⟨q, rfl⟩) (by omega) (by omega) ⟨q, rfl, hq, ?_⟩
    rw [← hh]
    funext z
    rw [up_at, up_at, up_at]
    split <;> rfl
theorem hy_co2 : mJ13_copyOf_2.y.cls ≠ "java/lang/invoke/MethodHandle" ∧ mJ13_copyOf_2.y.cls ≠ "java/lang/invoke/VarHandle" ∧ (parseMethodDescriptor mJ13_copyOf_2.y.desc).map (fun d => d.parameters.length) = some 3 := by decide +kernel
theorem hy_co1 : mJ13_copyOf.y.cls ≠ "java/lang/invoke/MethodHandle" ∧ mJ13_copyOf.y.cls ≠ "java/lang/invoke/VarHandle" ∧ (parseMethodDescriptor mJ13_copyOf.y.desc).map (fun d => d.parameters.length) = some 2 := by decide +kernel
theorem ok_copyOf {c2 ci : Nat} {g : Nat → Option Nat} {r : vw_C} (hX : WkX X) (hN : NewOK X) (hM : WkM X mi) (h3 : h ed = some (.inl (X.dA 5, cap, .inr (.inr (.inr (.inr g)))))) (h1 : cap ≤ c2) (h2 : c2 < 100000) (hc : vwCl[ci]? = some r) (hca : Cond.castable r.1 "java/lang/Object" ∈ nwL) (hel : ∀ i y, i < cap → g i = some y → ∃ vs, h y = some (.inr (ci, vs))) :
    Cg X mJ13_copyOf 1 c2 [.ref ed, .int (nI c2)] h (fun o h' => ∃ q, o = .returned (some (.ref q)) ∧ h q = none ∧ h' = va_up h q (some (.inl (X.dA 5, c2, .inr (.inr (.inr (.inr (va_cpy g (fun _ => none) 0 0 cap)))))))) := by
  refine E_start (L := [some (.ref ed), some (.int (nI c2))]) 0 rfl ?_
  refine (blk_c (s_aload_n dJ13_copyOf_0 rfl) <| blk_c (s_iload_n dJ13_copyOf_1 rfl) <| blk_c (s_aload_n dJ13_copyOf_2 rfl) <| blk_nil).go rfl trivial ?_
  refine js_of ?_
  refine J.getC hM h3 q905 (by decide) rfl dJ13_copyOf_3 ?_
  refine J.callS (M' := mJ13_copyOf_2) (As := [.ref ed, .int (nI c2), .ref mi]) (mc := 1) (ms := c2) (ok_copyOf_2 hX hN hM h3 h1 h2 hc hca hel) (fun o h' ⟨q, e, _⟩ => ⟨_, e⟩) dJ13_copyOf_6 gJ13_copyOf_2_J13 hy_co2 (by decide) ⟨by show 0 + 1 ≤ 1; omega, by show 0 + c2 ≤ c2; omega⟩ (Nat.le_of_ble_eq_true rfl) (fun v h' q => ?_)
  obtain ⟨q, e, hq, rfl⟩ := q
  cases e
  exact J.aret dJ13_copyOf_9 rfl (Or.inr ⟨_, rfl⟩) (Or.inr ⟨q, rfl⟩) (by omega) (by omega) ⟨q, rfl, hq, rfl⟩
theorem shr1 : ∀ c, c < 200 → nI c >>> (nI 1 &&& 31) = nI (c / 2) := by decide +kernel
theorem ok_grow_2 {ci : Nat} {g : Nat → Option Nat} {r : vw_C} {m : Int32} (hX : WkX X) (hN : NewOK X) (hM : WkM X mi) (ha : h a = some (.inr (9, [.int m, .ref ed, .int (nI cap)]))) (h3 : h ed = some (.inl (X.dA 5, cap, .inr (.inr (.inr (.inr g)))))) (h1 : 2 ≤ cap) (h2 : cap < 200) (hc : vwCl[ci]? = some r) (hca : Cond.castable r.1 "java/lang/Object" ∈ nwL) (hel : ∀ i y, i < cap → g i = some y → ∃ vs, h y = some (.inr (ci, vs))) :
    Cg X mJ2_grow_2 1 (cap + cap / 2) [.ref a, .int (nI (cap + 1))] h (fun o h' => ∃ q, o = .returned (some (.ref q)) ∧ h q = none ∧ h' = va_up (va_up h q (some (.inl (X.dA 5, cap + cap / 2, .inr (.inr (.inr (.inr (va_cpy g (fun _ => none) 0 0 cap)))))))) a (some (.inr (9, [.int m, .ref q, .int (nI cap)])))) := by
  refine E_start (L := [some (.ref a), some (.int (nI (cap + 1))), none, none]) 2 rfl ?_
  refine (blk_c (s_aload_n dJ2_grow_2_0 rfl) <| blk_nil).go rfl trivial ?_
  refine js_of ?_
  refine J.getf (f := 1) clsJ2 rfl ha (by decide) rfl q411 dJ2_grow_2_1 ?_
  refine J.alen (t := 5) h3 rfl dJ2_grow_2_4 ?_
  refine (fun (z : JS PE X mJ2_grow_2 (rmOf mJ2_grow_2.lv 1 (cap + cap / 2)) _ 0 0 5 [some (.ref a), some (.int (nI (cap + 1))), none, none] [.int (nI cap)] h) => z _ rfl) ?_
  refine (blk_c (s_istore_n dJ2_grow_2_5 rfl (by decide)) <| blk_c (s_iload_n dJ2_grow_2_6 rfl) <| blk_nil).go rfl trivial ?_
  refine j_if_gt (tgt := 20) dJ2_grow_2_7 (by decide) (fun _ => ?_) (fun q => absurd ((nI_ltI (a := 0) (by omega) (by omega)).mpr (by omega)) q)
  refine (blk_c (s_iload_n dJ2_grow_2_20 rfl) <| blk_c (s_iload_n dJ2_grow_2_21 rfl) <| blk_c (s_iload_n dJ2_grow_2_22 rfl) <| blk_c (s_isub dJ2_grow_2_23) <| blk_c (s_iload_n dJ2_grow_2_24 rfl) <| blk_c (s_iconst dJ2_grow_2_25 (v := nI 1) (by decide +kernel)) <| blk_c (s_ishr dJ2_grow_2_26) <| blk_nil).go rfl trivial ?_
  rw [shr1 cap h2, pk_sub (by omega), show cap + 1 - cap = 1 by omega]
  refine js_pureS (M' := mJ12_newLength) (nA := 3) (As := [.int (nI cap), .int (nI 1), .int (nI (cap / 2))]) (fun h => ok_newLength h1 h2 h) dJ2_grow_2_27 gJ12_newLength_J2 rfl ?_
  refine (blk_c (s_istore_n dJ2_grow_2_30 rfl (by decide)) <| blk_c (s_aload_n dJ2_grow_2_31 rfl) <| blk_c (s_aload_n dJ2_grow_2_32 rfl) <| blk_nil).go rfl trivial ?_
  refine js_of ?_
  refine J.getf (f := 1) clsJ2 rfl ha (by decide) rfl q411 dJ2_grow_2_33 ?_
  refine (fun (z : JS PE X mJ2_grow_2 (rmOf mJ2_grow_2.lv 1 (cap + cap / 2)) _ 0 0 36 [some (.ref a), some (.int (nI (cap + 1))), some (.int (nI cap)), some (.int (nI (cap + cap / 2)))] [.ref ed, .ref a] h) => z _ rfl) ?_
  refine (blk_c (s_iload_n dJ2_grow_2_36 rfl) <| blk_nil).go rfl trivial ?_
  refine js_of ?_
  refine J.callS (M' := mJ13_copyOf) (As := [.ref ed, .int (nI (cap + cap / 2))]) (mc := 1) (ms := cap + cap / 2) (ok_copyOf hX hN hM h3 (by omega) (by omega) hc hca hel) (fun o h' ⟨q, e, _⟩ => ⟨_, e⟩) dJ2_grow_2_37 gJ13_copyOf_J2 hy_co1 (by decide) ⟨by show 0 + 1 ≤ 1; omega, by show 0 + (cap + cap / 2) ≤ cap + cap / 2; omega⟩ (Nat.le_of_ble_eq_true rfl) (fun v h' q => ?_)
  obtain ⟨q, e, hq, rfl⟩ := q
  cases e
  refine J.dupx1 dJ2_grow_2_40 ?_
  have hne : q ≠ a := fun e => by rw [e, ha] at hq; cases hq
  refine J.putf (f := 1) clsJ2 rfl (by rw [va_up_ne _ _ (fun e => hne e.symm)]; exact ha) (by decide) (Nat.le_of_ble_eq_true rfl) rfl rfl rfl q411 dJ2_grow_2_41 ?_
  exact J.aret dJ2_grow_2_44 rfl (Or.inr ⟨_, rfl⟩) (Or.inr ⟨q, rfl⟩) (by omega) (by omega) ⟨q, rfl, hq, rfl⟩
end Grow
