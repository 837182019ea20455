set_option maxRecDepth 100000
/-! ===== UnseenClock: when, meets, spots, without, call, mends ===== -/
section Q3
variable {X : Cx} {ad : Nat → Nat} {A : Nat → Nat → Int32} {B : Nat → Nat → Int64} {sk : Nat → Nat → Nat} {sw : Nat → Nat → Int32} {E : Nat → Nat} {v : Nat → Nat}
theorem bX0_when_0 : Blk CP mX0_when 0 6 [oAL 0, oIL 1, oI2L, cF_J F_isClockC] := blk_c (s_aload_n dX0_when_0 rfl) <| blk_c (s_iload_n dX0_when_1 rfl) <| blk_c (s_i2l dX0_when_2) <| blk_c (c_F_J ok_isClockC (ci := 0) rfl (lw_V q1146 q1148 qs31 q131 q1149) hy_X0_isClock rfl (by decide) dX0_when_3) <| blk_nil
theorem bX0_when_9 : Blk CP mX0_when 9 14 [oIL 2, oI2L, oS_J pT1 fHour] := blk_c (s_iload_n dX0_when_9 rfl) <| blk_c (s_i2l dX0_when_10) <| blk_c (s_S_J ok_sX0_isHour (fun _ _ _ h => h.1.1) (Or.inl (lw_S q1343 q1344 q131 q1345)) hy_X0_isHour (by decide) dX0_when_11) <| blk_nil
theorem bX0_when_17 : Blk CP mX0_when 17 19 [oC (-2)] := blk_c (s_bipush dX0_when_17 (by decide +kernel)) <| blk_nil
theorem bX0_when_20 : Blk CP mX0_when 20 21 [oAL 0] := blk_c (s_aload_n dX0_when_20 rfl) <| blk_nil
theorem bX0_when_24 : Blk CP mX0_when 24 27 [oPopR, oC (nI 0), oIS 3] := blk_c (s_popR dX0_when_24) <| blk_c (s_iconst dX0_when_25 (by decide +kernel)) <| blk_c (s_istore_n dX0_when_26 rfl (by decide)) <| blk_nil
theorem bX0_when_27 : Blk CP mX0_when 27 35 [oIL 3, oAL 0, cQ0, qI 0 6 6] := blk_c (s_iload_n dX0_when_27 rfl) <| blk_c (s_aload_n dX0_when_28 rfl) <| blk_c (cgX0_1 (Or.inl q557) dX0_when_29) <| blk_c (q_I (by decide) (fun _ _ => rfl) (Or.inr ⟨_, nq448⟩) dX0_when_32) <| blk_nil
theorem bX0_when_38 : Blk CP mX0_when 38 50 [oAL 0, cR 0 4 3, cR 3 1 31, oIL 1, cW 31 60 4, oIL 3, cWI 60 4 41 1, oIL 2] := blk_c (s_aload_n dX0_when_38 rfl) <| blk_c (cgX0_4 (Or.inl q560) dX0_when_39) <| blk_c (cgX3_1 (Or.inr ⟨_, nq490⟩) dX0_when_42) <| blk_c (s_iload_n dX0_when_45 rfl) <| blk_c (c_W (t := 8) (ty := .int) (fun _ => rfl) (fun _ _ _ _ _ _ => rfl) dX0_when_46) <| blk_c (s_iload_n dX0_when_47 rfl) <| blk_c (c_wiald ar_shows dX0_when_48) <| blk_c (s_iload_n dX0_when_49 rfl) <| blk_nil
theorem bX0_when_53 : Blk CP mX0_when 53 54 [oIL 3] := blk_c (s_iload_n dX0_when_53 rfl) <| blk_nil
theorem bX0_when_55 : Blk CP mX0_when 55 27 [oInc 3 1, .inl (fun s => some s)] := blk_c (s_iinc dX0_when_55 (by decide +kernel) (by decide)) <| blk_c (s_goto (tgt := 27) dX0_when_58 (by decide)) <| blk_nil
theorem bX0_when_61 : Blk CP mX0_when 61 62 [oC (-1)] := blk_c (s_iconst dX0_when_61 (by decide +kernel)) <| blk_nil
theorem pb_when (hS : SW v A sw) {c h : Int32} : RCc X mX0_when 1000 70000 [.ref (ad 0), .int c, .int h] (ad, A, B, sk, sw, E) (PubQ (ad, A, B, sk, sw, E) (q_when (sw 0) c h)) := by
  obtain ⟨-, hw, e7, ep⟩ := id hS
  have h4 := hw.nc4
  have h40 := hw.sp40
  have spE := hw.span
  have e6 : sw 0 6 = nI (v 6) := hw.1 6 (by decide)
  refine C_start (L := [some (.ref (ad 0)), some (.int c), some (.int h), none]) 1 rfl ?_
  have no : (cB (sw 0) c && hB h) = false → JS CP X mX0_when (rmOf mX0_when.lv 1000 70000) (ZC X 1000 70000 (PubQ (ad, A, B, sk, sw, E) (q_when (sw 0) c h))) 0 0 17 [some (.ref (ad 0)), some (.int c), some (.int h), none] [] (ad, A, B, sk, sw, E) := by
    intro hz
    refine bX0_when_17.go rfl trivial ?_
    exact x_ret dX0_when_19 rfl (by rw [q_when, hz]; rfl) KpX.rf
  refine bX0_when_0.go rfl ⟨⟨rfl, v, hw⟩, trivial⟩ ?_
  rw [clL_i]
  refine j_if_eq (tgt := 17) dX0_when_6 (by decide) (fun h6 => no (by rw [(b2_0 _).mp h6]; rfl)) (fun h6 => ?_)
  rw [b2_n0] at h6
  refine bX0_when_9.go rfl ⟨trivial, trivial⟩ ?_
  rw [hrL_i]
  refine j_if_ne (tgt := 20) dX0_when_14 (by decide) (fun h14 => ?_) (fun h14 => no (by rw [(b2_0 _).mp h14, Bool.and_false]))
  rw [b2_n0] at h14
  obtain ⟨c, hc, rfl⟩ := hw.cOf h6
  have hq : q_when (sw 0) (nI c) h = firstF (fun t => decide (showsP (sw 0) c t = h)) (v 6 + 1) 0 := by rw [q_when, h6, h14, spE, nI_clamp (by omega)]; rfl
  refine bX0_when_20.go rfl trivial ?_
  refine xq (M' := mX0_plain) (As := []) (nA := 0) (ok_plainC hS) rec0 rfl (lw_V q1184 q1186 qs34 q131 q1187) dX0_when_21 rfl hy_X0_plain (fun r A1 B1 sk1 sw1 E1 k1 q1 => ?_)
  obtain ⟨rfl, q1, -, -⟩ := q1
  have e0 : sw1 0 = sw 0 := k1.2.2.2.1 0 (by decide)
  refine bX0_when_24.go rfl trivial ?_
  refine loop_down (N := v 6 + 1) (I := fun t => q_when (sw 0) (nI c) h = firstF (fun t => decide (showsP (sw 0) c t = h)) (v 6 + 1 - t) t) (P := fun t => JS CP X mX0_when (rmOf mX0_when.lv 1000 70000) (ZC X 1000 70000 (PubQ (ad, A, B, sk, sw, E) (q_when (sw 0) (nI c) h))) 0 0 27 [some (.ref (ad 0)), some (.int (nI c)), some (.int h), some (.int (nI t))] [] (ad, A1, B1, sk1, sw1, E1)) ?_ ?_ 0 (Nat.zero_le _) hq
  · intro hI
    refine bX0_when_27.go rfl ⟨rfl, ⟨rfl, sq0⟩, trivial⟩ ?_
    rw [e0, e6]
    refine j_icmp_gt (tgt := 61) dX0_when_35 (by decide) (fun h35 => ?_) (fun h35 => absurd (nI_lt (by omega) (by omega)) h35)
    refine bX0_when_61.go rfl trivial ?_
    exact x_ret dX0_when_62 rfl (by rw [hI, Nat.sub_self]; rfl) k1
  · intro t ht hI ih
    rw [firstF_s ht] at hI
    refine bX0_when_27.go rfl ⟨rfl, ⟨rfl, sq0⟩, trivial⟩ ?_
    rw [e0, e6]
    refine j_icmp_gt (tgt := 61) dX0_when_35 (by decide) (fun h35 => ?_) (fun h35 => ?_)
    · rw [nI_ltI (by omega) (by omega)] at h35; omega
    · refine bX0_when_38.go rfl (by (try simp (disch := omega) only [nI_add, pk_mul, pk_sub, nI_clamp, vpI]); repeat' first | exact trivial | rfl | assumption | omega | apply And.intro) ?_
      simp (disch := omega) only [nI_clamp]
      rw [q1.2.2.2.2.1 t (by omega) c hc]
      refine j_icmp_ne (tgt := 55) dX0_when_50 (by decide) (fun h50 => ?_) (fun h50 => ?_)
      · refine bX0_when_55.go rfl trivial ?_
        rw [nI_1]
        exact ih (by rw [hI, if_neg (by rw [decide_eq_true_eq]; exact h50)])
      · refine bX0_when_53.go rfl trivial ?_
        exact x_ret dX0_when_54 rfl (by rw [hI, if_pos (by rw [decide_eq_true_eq]; exact h50)]) k1
/-! who meets -/
def besB (a b : Int32) : Bool := !decide (a = -1) && (!decide (b = -1) && (!decide (nI 1 < absI ((a - a / nI 100 * nI 100) - (b - b / nI 100 * nI 100))) && !decide (nI 1 < absI (a / nI 100 - b / nI 100))))
def F_areBesideC (o : Nat) (a b : Int32) : Cv → Prop × Value := fun (ad, A, B, sk, sw, E) => (o = ad 0, .int (b2 (besB a b)))
theorem bX0_areBeside_0 : Blk CP mX0_areBeside 0 2 [oIL 1, oC (-1)] := blk_c (s_iload_n dX0_areBeside_0 rfl) <| blk_c (s_iconst dX0_areBeside_1 (by decide +kernel)) <| blk_nil
theorem bX0_areBeside_5 : Blk CP mX0_areBeside 5 7 [oIL 2, oC (-1)] := blk_c (s_iload_n dX0_areBeside_5 rfl) <| blk_c (s_iconst dX0_areBeside_6 (by decide +kernel)) <| blk_nil
theorem bX0_areBeside_10 : Blk CP mX0_areBeside 10 23 [oIL 1, oC (nI 100), oRem, oIL 2, oC (nI 100), oRem, oSub, oS_I pTi absI, oC (nI 1)] := blk_c (s_iload_n dX0_areBeside_10 rfl) <| blk_c (s_bipush dX0_areBeside_11 (by decide +kernel)) <| blk_c (s_irem dX0_areBeside_13) <| blk_c (s_iload_n dX0_areBeside_14 rfl) <| blk_c (s_bipush dX0_areBeside_15 (by decide +kernel)) <| blk_c (s_irem dX0_areBeside_17) <| blk_c (s_isub dX0_areBeside_18) <| blk_c (s_S_I ok_sJ3_abs (fun _ _ _ h => h.1.1) (Or.inl (lw_S q1505 q1174 q140 q1175)) hy_J3_abs (by decide) dX0_areBeside_19) <| blk_c (s_iconst dX0_areBeside_22 (by decide +kernel)) <| blk_nil
theorem bX0_areBeside_26 : Blk CP mX0_areBeside 26 39 [oIL 1, oC (nI 100), oDiv, oIL 2, oC (nI 100), oDiv, oSub, oS_I pTi absI, oC (nI 1)] := blk_c (s_iload_n dX0_areBeside_26 rfl) <| blk_c (s_bipush dX0_areBeside_27 (by decide +kernel)) <| blk_c (s_idiv dX0_areBeside_29) <| blk_c (s_iload_n dX0_areBeside_30 rfl) <| blk_c (s_bipush dX0_areBeside_31 (by decide +kernel)) <| blk_c (s_idiv dX0_areBeside_33) <| blk_c (s_isub dX0_areBeside_34) <| blk_c (s_S_I ok_sJ3_abs (fun _ _ _ h => h.1.1) (Or.inl (lw_S q1505 q1174 q140 q1175)) hy_J3_abs (by decide) dX0_areBeside_35) <| blk_c (s_iconst dX0_areBeside_38 (by decide +kernel)) <| blk_nil
theorem bX0_areBeside_42 : Blk CP mX0_areBeside 42 47 [oC (nI 1), .inl (fun s => some s)] := blk_c (s_iconst dX0_areBeside_42 (by decide +kernel)) <| blk_c (s_goto (tgt := 47) dX0_areBeside_43 (by decide)) <| blk_nil
theorem bX0_areBeside_46 : Blk CP mX0_areBeside 46 47 [oC (nI 0)] := blk_c (s_iconst dX0_areBeside_46 (by decide +kernel)) <| blk_nil
theorem ok_areBesideC : FC_II mX0_areBeside 0 F_areBesideC := by
  rintro X o a b ⟨ad, A, B, sk, sw, E⟩ rfl
  refine ⟨?_, rec0⟩
  dsimp only [F_areBesideC]
  refine C_start (L := [some (.ref (ad 0)), some (.int a), some (.int b)]) 0 rfl ?_
  have no : besB a b = false → JS CP X mX0_areBeside (rmOf mX0_areBeside.lv 0 0) (ZC X 0 0 (fun r x' => r = some (.int (b2 (besB a b))) ∧ x' = (ad, A, B, sk, sw, E))) 0 0 46 [some (.ref (ad 0)), some (.int a), some (.int b)] [] (ad, A, B, sk, sw, E) := by
    intro hz
    refine bX0_areBeside_46.go rfl trivial ?_
    exact c_zret dX0_areBeside_47 rfl rfl ⟨by rw [hz]; rfl, rfl⟩
  have h100 : ¬ nI 100 = 0 := by decide
  refine bX0_areBeside_0.go rfl trivial ?_
  refine j_icmp_eq (tgt := 46) dX0_areBeside_2 (by decide) (fun h2 => no (by rw [besB, decide_eq_true h2]; rfl)) (fun h2 => ?_)
  refine bX0_areBeside_5.go rfl trivial ?_
  refine j_icmp_eq (tgt := 46) dX0_areBeside_7 (by decide) (fun h7 => no (by rw [besB, decide_eq_true h7]; simp)) (fun h7 => ?_)
  refine bX0_areBeside_10.go rfl ⟨h100, h100, trivial, trivial⟩ ?_
  refine j_icmp_gt (tgt := 46) dX0_areBeside_23 (by decide) (fun h23 => no (by rw [besB, decide_eq_true h23]; simp)) (fun h23 => ?_)
  refine bX0_areBeside_26.go rfl ⟨h100, h100, trivial, trivial⟩ ?_
  refine j_icmp_gt (tgt := 46) dX0_areBeside_39 (by decide) (fun h39 => no (by rw [besB, decide_eq_true h39]; simp)) (fun h39 => ?_)
  refine bX0_areBeside_42.go rfl trivial ?_
  refine c_zret dX0_areBeside_47 rfl rfl ⟨?_, rfl⟩
  rw [besB, decide_eq_false h2, decide_eq_false h7, decide_eq_false h23, decide_eq_false h39]; rfl
theorem bes_e {w : Nat → Int32} (hw : WOk w v) {p o m : Nat} (hp : p < v 2) (ho : o < v 2) : besB (cellI (spotF w p m)) (cellI (spotF w o m)) = metB w p o m := by
  have b4 : v 4 ≤ 12 := hw.2.2.2.2.2.1
  have b5 : v 5 ≤ 12 := hw.2.2.2.2.2.2.1
  unfold metB
  cases e1 : spotF w p m with
  | none => simp [besB, cellI, eX]
  | some q =>
    cases e2 : spotF w o m with
    | none => simp [besB, cellI, eX]
    | some q2 =>
      obtain ⟨a, b, ha, hb, rfl⟩ := spotF_in hw hp e1
      obtain ⟨c, d, hc, hd, rfl⟩ := spotF_in hw ho e2
      have r1 : ∀ x y : Nat, x < 12 → y < 12 → nI (x + 100 * y) - nI (x + 100 * y) / nI 100 * nI 100 = nI x := fun x y hx hy => by rw [pk_rem (by omega) (by decide) (by decide), show (x + 100 * y) % 100 = x by omega]
      have r2 : ∀ x y : Nat, x < 12 → y < 12 → nI (x + 100 * y) / nI 100 = nI y := fun x y hx hy => by rw [pk_div (by omega) (by decide) (by decide), show (x + 100 * y) / 100 = y by omega]
      have l2 : ∀ x : Nat, x < 100 → (nI 1 < nI x ↔ nI 2 ≤ nI x) := fun x hx => by rw [nI_ltI (by omega) (by omega), nI_leI (by omega) (by omega)]; omega
      have c1 : cellI (some (nI a, nI b)) = nI (a + 100 * b) := by simp only [cellI]; rw [pk_mul, nI_add]
      have c2 : cellI (some (nI c, nI d)) = nI (c + 100 * d) := by simp only [cellI]; rw [pk_mul, nI_add]
      rw [c1, c2, besB, decide_eq_false (nI_n1 (by omega)), decide_eq_false (nI_n1 (by omega)), r1 a b (by omega) (by omega), r1 c d (by omega) (by omega), r2 a b (by omega) (by omega), r2 c d (by omega) (by omega)]
      show _ = (!decide (nI a = -1) && (!decide (nI c = -1) && (!decide (nI 2 ≤ absI (nI a - nI c)) && !decide (nI 2 ≤ absI (nI b - nI d)))))
      rw [decide_eq_false (nI_n1 (by omega)), decide_eq_false (nI_n1 (by omega)), abs_sub (by omega) (by omega), abs_sub (by omega) (by omega)]
      rw [decide_eq_decide.mpr (l2 _ (by omega)), decide_eq_decide.mpr (l2 (b - d + (d - b)) (by omega))]
theorem bX0_meets_2_0 : Blk CP mX0_meets_2 0 5 [oAL 0, oIL 1, cF_I F_isPersonC] := blk_c (s_aload_n dX0_meets_2_0 rfl) <| blk_c (s_iload_n dX0_meets_2_1 rfl) <| blk_c (c_F_I ok_isPersonC (ci := 0) rfl (lw_V q1127 q1129 qs28 q131 q1130) hy_X0_isPerson rfl (by decide) dX0_meets_2_2) <| blk_nil
theorem bX0_meets_2_8 : Blk CP mX0_meets_2 8 13 [oAL 0, oIL 2, cF_I F_isPersonC] := blk_c (s_aload_n dX0_meets_2_8 rfl) <| blk_c (s_iload_n dX0_meets_2_9 rfl) <| blk_c (c_F_I ok_isPersonC (ci := 0) rfl (lw_V q1127 q1129 qs28 q131 q1130) hy_X0_isPerson rfl (by decide) dX0_meets_2_10) <| blk_nil
theorem bX0_meets_2_16 : Blk CP mX0_meets_2 16 18 [oIL 1, oIL 2] := blk_c (s_iload_n dX0_meets_2_16 rfl) <| blk_c (s_iload_n dX0_meets_2_17 rfl) <| blk_nil
theorem bX0_meets_2_21 : Blk CP mX0_meets_2 21 23 [oC (-2)] := blk_c (s_bipush dX0_meets_2_21 (by decide +kernel)) <| blk_nil
theorem bX0_meets_2_24 : Blk CP mX0_meets_2 24 29 [oC (nI 0), oIS 3, oC (nI 0), oIS 4] := blk_c (s_iconst dX0_meets_2_24 (by decide +kernel)) <| blk_c (s_istore_n dX0_meets_2_25 rfl (by decide)) <| blk_c (s_iconst dX0_meets_2_26 (by decide +kernel)) <| blk_c (s_istore dX0_meets_2_27 (by decide)) <| blk_nil
theorem bX0_meets_2_29 : Blk CP mX0_meets_2 29 38 [oIL 4, oAL 0, cQ0, qI 0 6 6] := blk_c (s_iload dX0_meets_2_29) <| blk_c (s_aload_n dX0_meets_2_31 rfl) <| blk_c (cgX0_1 (Or.inl q557) dX0_meets_2_32) <| blk_c (q_I (by decide) (fun _ _ => rfl) (Or.inr ⟨_, nq448⟩) dX0_meets_2_35) <| blk_nil
theorem bX0_meets_2_41 : Blk CP mX0_meets_2 41 70 [oIL 3, oAL 0, oAL 0, cQ0, qR 0 3 4, oIL 1, qCl 0, oIL 4, qCe 0 1, oAL 0, cQ0, qR 0 3 4, oIL 2, qCl 0, oIL 4, qCe 0 2, cF_II F_areBesideC] := blk_c (s_iload_n dX0_meets_2_41 rfl) <| blk_c (s_aload_n dX0_meets_2_42 rfl) <| blk_c (s_aload_n dX0_meets_2_43 rfl) <| blk_c (cgX0_1 (Or.inl q557) dX0_meets_2_44) <| blk_c (q_R (by decide) (fun _ _ => rfl) (Or.inr ⟨_, nq437⟩) dX0_meets_2_47) <| blk_c (s_iload_n dX0_meets_2_50 rfl) <| blk_c (q_Cl dX0_meets_2_51) <| blk_c (s_iload dX0_meets_2_52) <| blk_c (q_Ce dX0_meets_2_54) <| blk_c (s_aload_n dX0_meets_2_55 rfl) <| blk_c (cgX0_1 (Or.inl q557) dX0_meets_2_56) <| blk_c (q_R (by decide) (fun _ _ => rfl) (Or.inr ⟨_, nq437⟩) dX0_meets_2_59) <| blk_c (s_iload_n dX0_meets_2_62 rfl) <| blk_c (q_Cl dX0_meets_2_63) <| blk_c (s_iload dX0_meets_2_64) <| blk_c (q_Ce dX0_meets_2_66) <| blk_c (c_F_II ok_areBesideC (ci := 0) rfl (lw_V q1501 q1503 qs57 q131 q1504) hy_X0_areBeside rfl (by decide) dX0_meets_2_67) <| blk_nil
theorem bX0_meets_2_73 : Blk CP mX0_meets_2 73 78 [oC (nI 1), .inl (fun s => some s)] := blk_c (s_iconst dX0_meets_2_73 (by decide +kernel)) <| blk_c (s_goto (tgt := 78) dX0_meets_2_74 (by decide)) <| blk_nil
theorem bX0_meets_2_77 : Blk CP mX0_meets_2 77 78 [oC (nI 0)] := blk_c (s_iconst dX0_meets_2_77 (by decide +kernel)) <| blk_nil
theorem bX0_meets_2_78 : Blk CP mX0_meets_2 78 29 [oAdd, oIS 3, oInc 4 1, .inl (fun s => some s)] := blk_c (s_iadd dX0_meets_2_78) <| blk_c (s_istore_n dX0_meets_2_79 rfl (by decide)) <| blk_c (s_iinc dX0_meets_2_80 (by decide +kernel) (by decide)) <| blk_c (s_goto (tgt := 29) dX0_meets_2_83 (by decide)) <| blk_nil
theorem bX0_meets_2_86 : Blk CP mX0_meets_2 86 87 [oIL 3] := blk_c (s_iload_n dX0_meets_2_86 rfl) <| blk_nil
theorem pb_meets (hS : SW v A sw) {p o : Int32} : RCc X mX0_meets_2 1000 70000 [.ref (ad 0), .int p, .int o] (ad, A, B, sk, sw, E) (PubQ (ad, A, B, sk, sw, E) (q_meets (sw 0) p o)) := by
  obtain ⟨-, hw, e7, ep⟩ := id hS
  have h8 := hw.np8
  have h40 := hw.sp40
  have npE := hw.npE
  have spE := hw.span
  have e6 : sw 0 6 = nI (v 6) := hw.1 6 (by decide)
  refine C_start (L := [some (.ref (ad 0)), some (.int p), some (.int o), none, none]) 2 rfl ?_
  have no : twoB (sw 0) p o = false → JS CP X mX0_meets_2 (rmOf mX0_meets_2.lv 1000 70000) (ZC X 1000 70000 (PubQ (ad, A, B, sk, sw, E) (q_meets (sw 0) p o))) 0 0 21 [some (.ref (ad 0)), some (.int p), some (.int o), none, none] [] (ad, A, B, sk, sw, E) := by
    intro hz
    refine bX0_meets_2_21.go rfl trivial ?_
    exact x_ret dX0_meets_2_23 rfl (by rw [q_meets, hz]; rfl) KpX.rf
  refine bX0_meets_2_0.go rfl ⟨⟨rfl, v, hw⟩, trivial⟩ ?_
  refine j_if_eq (tgt := 21) dX0_meets_2_5 (by decide) (fun h5 => no (by rw [twoB, (b2_0 _).mp h5]; rfl)) (fun h5 => ?_)
  rw [b2_n0] at h5
  refine bX0_meets_2_8.go rfl ⟨⟨rfl, v, hw⟩, trivial⟩ ?_
  refine j_if_eq (tgt := 21) dX0_meets_2_13 (by decide) (fun h13 => no (by rw [twoB, (b2_0 _).mp h13]; simp)) (fun h13 => ?_)
  rw [b2_n0] at h13
  refine bX0_meets_2_16.go rfl trivial ?_
  refine j_icmp_ne (tgt := 24) dX0_meets_2_18 (by decide) (fun h18 => ?_) (fun h18 => no (by rw [twoB, decide_eq_true h18]; simp))
  have h2 : twoB (sw 0) p o = true := by rw [twoB, h5, h13, decide_eq_false h18]; rfl
  obtain ⟨p, hp, rfl⟩ := hw.pOf h5
  obtain ⟨o, ho, rfl⟩ := hw.pOf h13
  have hq : q_meets (sw 0) (nI p) (nI o) = sumI (fun m => b2 (metB (sw 0) p o m)) (v 6) := by rw [q_meets, h2, spE, nI_clamp (by omega), nI_clamp (by omega)]; rfl
  rw [hq]
  refine bX0_meets_2_24.go rfl trivial ?_
  refine loop_down (N := v 6) (I := fun _ => True) (P := fun t => JS CP X mX0_meets_2 (rmOf mX0_meets_2.lv 1000 70000) (ZC X 1000 70000 (PubQ (ad, A, B, sk, sw, E) (sumI (fun m => b2 (metB (sw 0) p o m)) (v 6)))) 0 0 29 [some (.ref (ad 0)), some (.int (nI p)), some (.int (nI o)), some (.int (sumI (fun m => b2 (metB (sw 0) p o m)) t)), some (.int (nI t))] [] (ad, A, B, sk, sw, E)) ?_ ?_ 0 (Nat.zero_le _) trivial
  · intro _
    refine bX0_meets_2_29.go rfl ⟨rfl, ⟨rfl, sq0⟩, trivial⟩ ?_
    rw [e6]
    refine j_icmp_ge (tgt := 86) dX0_meets_2_38 (by decide) (fun h38 => ?_) (fun h38 => absurd (nI_le (Nat.le_refl _) (by omega)) h38)
    refine bX0_meets_2_86.go rfl trivial ?_
    exact x_ret dX0_meets_2_87 rfl rfl KpX.rf
  · intro t ht _ ih
    refine bX0_meets_2_29.go rfl ⟨rfl, ⟨rfl, sq0⟩, trivial⟩ ?_
    rw [e6]
    refine j_icmp_ge (tgt := 86) dX0_meets_2_38 (by decide) (fun h38 => ?_) (fun h38 => ?_)
    · rw [nI_leI (by omega) (by omega)] at h38; omega
    · refine bX0_meets_2_41.go rfl (by simp (disch := omega) only [nI_clamp, vpI, npE, spE]; (repeat' first | exact trivial | rfl | exact sq0 | omega | apply And.intro)) ?_
      simp (disch := omega) only [nI_clamp]
      rw [bes_e hw hp ho]
      simp only [sumI] at ih
      refine j_if_eq (tgt := 77) dX0_meets_2_70 (by decide) (fun h70 => ?_) (fun h70 => ?_)
      · rw [b2_0] at h70
        refine bX0_meets_2_77.go rfl trivial ?_
        refine bX0_meets_2_78.go rfl trivial ?_
        rw [nI_1]
        have := ih trivial
        rw [h70] at this
        exact this
      · rw [b2_n0] at h70
        refine bX0_meets_2_73.go rfl trivial ?_
        refine bX0_meets_2_78.go rfl trivial ?_
        rw [nI_1]
        have := ih trivial
        rw [h70] at this
        exact this
theorem bX0_spots_0 : Blk CP mX0_spots 0 6 [oAL 0, oIL 1, oI2L, cF_J F_isClockC] := blk_c (s_aload_n dX0_spots_0 rfl) <| blk_c (s_iload_n dX0_spots_1 rfl) <| blk_c (s_i2l dX0_spots_2) <| blk_c (c_F_J ok_isClockC (ci := 0) rfl (lw_V q1146 q1148 qs31 q131 q1149) hy_X0_isClock rfl (by decide) dX0_spots_3) <| blk_nil
theorem bX0_spots_9 : Blk CP mX0_spots 9 11 [oC (-2)] := blk_c (s_bipush dX0_spots_9 (by decide +kernel)) <| blk_nil
theorem bX0_spots_12 : Blk CP mX0_spots 12 16 [oC (nI 0), oIS 2, oC (nI 0), oIS 3] := blk_c (s_iconst dX0_spots_12 (by decide +kernel)) <| blk_c (s_istore_n dX0_spots_13 rfl (by decide)) <| blk_c (s_iconst dX0_spots_14 (by decide +kernel)) <| blk_c (s_istore_n dX0_spots_15 rfl (by decide)) <| blk_nil
theorem bX0_spots_16 : Blk CP mX0_spots 16 24 [oIL 3, oAL 0, cQ0, qI 0 4 4] := blk_c (s_iload_n dX0_spots_16 rfl) <| blk_c (s_aload_n dX0_spots_17 rfl) <| blk_c (cgX0_1 (Or.inl q557) dX0_spots_18) <| blk_c (q_I (by decide) (fun _ _ => rfl) (Or.inr ⟨_, nq440⟩) dX0_spots_21) <| blk_nil
theorem bX0_spots_27 : Blk CP mX0_spots 27 30 [oC (nI 0), oIS 4] := blk_c (s_iconst dX0_spots_27 (by decide +kernel)) <| blk_c (s_istore dX0_spots_28 (by decide)) <| blk_nil
theorem bX0_spots_30 : Blk CP mX0_spots 30 39 [oIL 4, oAL 0, cQ0, qI 0 5 5] := blk_c (s_iload dX0_spots_30) <| blk_c (s_aload_n dX0_spots_32 rfl) <| blk_c (cgX0_1 (Or.inl q557) dX0_spots_33) <| blk_c (q_I (by decide) (fun _ _ => rfl) (Or.inr ⟨_, nq443⟩) dX0_spots_36) <| blk_nil
theorem bX0_spots_42 : Blk CP mX0_spots 42 53 [oIL 2, oAL 0, cQ0, oIL 3, oIL 4, qC_II 0 pFree fFree] := blk_c (s_iload_n dX0_spots_42 rfl) <| blk_c (s_aload_n dX0_spots_43 rfl) <| blk_c (cgX0_1 (Or.inl q557) dX0_spots_44) <| blk_c (s_iload_n dX0_spots_47 rfl) <| blk_c (s_iload dX0_spots_48) <| blk_c (q_C_II ok_isFreeX (lw_V q1510 q786 q787 q133 q788) hy_X2_isFree rfl (by decide) dX0_spots_50) <| blk_nil
theorem bX0_spots_56 : Blk CP mX0_spots 56 71 [oAL 0, cQ0, oIL 3, oC (nI 100), oIL 4, oMul, oAdd, oIL 1, qC_II 0 pSeen fSeen] := blk_c (s_aload_n dX0_spots_56 rfl) <| blk_c (cgX0_1 (Or.inl q557) dX0_spots_57) <| blk_c (s_iload_n dX0_spots_60 rfl) <| blk_c (s_bipush dX0_spots_61 (by decide +kernel)) <| blk_c (s_iload dX0_spots_63) <| blk_c (s_imul dX0_spots_65) <| blk_c (s_iadd dX0_spots_66) <| blk_c (s_iload_n dX0_spots_67 rfl) <| blk_c (q_C_II ok_isSeen (lw_V q1511 q1170 q1171 q133 q1172) hy_X2_isSeen rfl (by decide) dX0_spots_68) <| blk_nil
theorem bX0_spots_74 : Blk CP mX0_spots 74 79 [oC (nI 1), .inl (fun s => some s)] := blk_c (s_iconst dX0_spots_74 (by decide +kernel)) <| blk_c (s_goto (tgt := 79) dX0_spots_75 (by decide)) <| blk_nil
theorem bX0_spots_78 : Blk CP mX0_spots 78 79 [oC (nI 0)] := blk_c (s_iconst dX0_spots_78 (by decide +kernel)) <| blk_nil
theorem bX0_spots_79 : Blk CP mX0_spots 79 30 [oAdd, oIS 2, oInc 4 1, .inl (fun s => some s)] := blk_c (s_iadd dX0_spots_79) <| blk_c (s_istore_n dX0_spots_80 rfl (by decide)) <| blk_c (s_iinc dX0_spots_81 (by decide +kernel) (by decide)) <| blk_c (s_goto (tgt := 30) dX0_spots_84 (by decide)) <| blk_nil
theorem bX0_spots_87 : Blk CP mX0_spots 87 16 [oInc 3 1, .inl (fun s => some s)] := blk_c (s_iinc dX0_spots_87 (by decide +kernel) (by decide)) <| blk_c (s_goto (tgt := 16) dX0_spots_90 (by decide)) <| blk_nil
theorem bX0_spots_93 : Blk CP mX0_spots 93 94 [oIL 2] := blk_c (s_iload_n dX0_spots_93 rfl) <| blk_nil
theorem pb_spots (hS : SW v A sw) {c : Int32} : RCc X mX0_spots 1000 70000 [.ref (ad 0), .int c] (ad, A, B, sk, sw, E) (PubQ (ad, A, B, sk, sw, E) (q_spots (sw 0) c)) := by
  obtain ⟨-, hw, e7, ep⟩ := id hS
  have h4 := hw.nc4
  have b4 : v 4 ≤ 12 := hw.2.2.2.2.2.1
  have b5 : v 5 ≤ 12 := hw.2.2.2.2.2.2.1
  have e4 : sw 0 4 = nI (v 4) := hw.1 4 (by decide)
  have e5 : sw 0 5 = nI (v 5) := hw.1 5 (by decide)
  refine C_start (L := [some (.ref (ad 0)), some (.int c), none, none, none]) 3 rfl ?_
  refine bX0_spots_0.go rfl ⟨⟨rfl, v, hw⟩, trivial⟩ ?_
  rw [clL_i]
  refine j_if_ne (tgt := 12) dX0_spots_6 (by decide) (fun h6 => ?_) (fun h6 => ?_)
  · rw [b2_n0] at h6
    obtain ⟨c, hc, rfl⟩ := hw.cOf h6
    have hq : q_spots (sw 0) (nI c) = sumI (fun a => sumI (fun b => b2 (spB (sw 0) c a b)) (v 5)) (v 4) := by rw [q_spots, h6, e4, e5, nI_clamp (by omega), nI_clamp (by omega), nI_clamp (by omega)]; rfl
    rw [hq]
    refine bX0_spots_12.go rfl trivial ?_
    refine loop_down (N := v 4) (I := fun _ => True) (P := fun x => JS CP X mX0_spots (rmOf mX0_spots.lv 1000 70000) (ZC X 1000 70000 (PubQ (ad, A, B, sk, sw, E) (sumI (fun a => sumI (fun b => b2 (spB (sw 0) c a b)) (v 5)) (v 4)))) 0 0 16 [some (.ref (ad 0)), some (.int (nI c)), some (.int (sumI (fun a => sumI (fun b => b2 (spB (sw 0) c a b)) (v 5)) x)), some (.int (nI x)), none] [] (ad, A, B, sk, sw, E)) ?_ ?_ 0 (Nat.zero_le _) trivial
    · intro _
      refine bX0_spots_16.go rfl ⟨rfl, ⟨rfl, sq0⟩, trivial⟩ ?_
      rw [e4]
      refine j_icmp_ge (tgt := 93) dX0_spots_24 (by decide) (fun h24 => ?_) (fun h24 => absurd (nI_le (Nat.le_refl _) (by omega)) h24)
      refine bX0_spots_93.go rfl trivial ?_
      exact x_ret dX0_spots_94 rfl rfl KpX.rf
    · intro x hx _ ih
      simp only [sumI] at ih
      refine bX0_spots_16.go rfl ⟨rfl, ⟨rfl, sq0⟩, trivial⟩ ?_
      rw [e4]
      refine j_icmp_ge (tgt := 93) dX0_spots_24 (by decide) (fun h24 => ?_) (fun h24 => ?_)
      · rw [nI_leI (by omega) (by omega)] at h24; omega
      · refine bX0_spots_27.go rfl trivial ?_
        refine loop_down (N := v 5) (I := fun _ => True) (P := fun y => JS CP X mX0_spots (rmOf mX0_spots.lv 1000 70000) (ZC X 1000 70000 (PubQ (ad, A, B, sk, sw, E) (sumI (fun a => sumI (fun b => b2 (spB (sw 0) c a b)) (v 5)) (v 4)))) 0 0 30 [some (.ref (ad 0)), some (.int (nI c)), some (.int (sumI (fun a => sumI (fun b => b2 (spB (sw 0) c a b)) (v 5)) x + sumI (fun b => b2 (spB (sw 0) c x b)) y)), some (.int (nI x)), some (.int (nI y))] [] (ad, A, B, sk, sw, E)) ?_ ?_ 0 (Nat.zero_le _) trivial |> (fun z => by
          have e0 : sumI (fun a => sumI (fun b => b2 (spB (sw 0) c a b)) (v 5)) x + sumI (fun b => b2 (spB (sw 0) c x b)) 0 = sumI (fun a => sumI (fun b => b2 (spB (sw 0) c a b)) (v 5)) x := by show _ + nI 0 = _; rw [nI_0, Int32.add_zero]
          rw [e0] at z
          exact z)
        · intro _
          refine bX0_spots_30.go rfl ⟨rfl, ⟨rfl, sq0⟩, trivial⟩ ?_
          rw [e5]
          refine j_icmp_ge (tgt := 87) dX0_spots_39 (by decide) (fun h39 => ?_) (fun h39 => absurd (nI_le (Nat.le_refl _) (by omega)) h39)
          refine bX0_spots_87.go rfl trivial ?_
          rw [nI_1]
          exact JS.weak (by simp [lsub]) (ih trivial)
        · intro y hy _ ih2
          simp only [sumI] at ih2
          refine bX0_spots_30.go rfl ⟨rfl, ⟨rfl, sq0⟩, trivial⟩ ?_
          rw [e5]
          refine j_icmp_ge (tgt := 87) dX0_spots_39 (by decide) (fun h39 => ?_) (fun h39 => ?_)
          · rw [nI_leI (by omega) (by omega)] at h39; omega
          · have j79 : ∀ z : Bool, z = spB (sw 0) c x y → JS CP X mX0_spots (rmOf mX0_spots.lv 1000 70000) (ZC X 1000 70000 (PubQ (ad, A, B, sk, sw, E) (sumI (fun a => sumI (fun b => b2 (spB (sw 0) c a b)) (v 5)) (v 4)))) 0 0 79 [some (.ref (ad 0)), some (.int (nI c)), some (.int (sumI (fun a => sumI (fun b => b2 (spB (sw 0) c a b)) (v 5)) x + sumI (fun b => b2 (spB (sw 0) c x b)) y)), some (.int (nI x)), some (.int (nI y))] [.int (b2 z), .int (sumI (fun a => sumI (fun b => b2 (spB (sw 0) c a b)) (v 5)) x + sumI (fun b => b2 (spB (sw 0) c x b)) y)] (ad, A, B, sk, sw, E) := by
              intro z hz
              subst hz
              refine bX0_spots_79.go rfl trivial ?_
              rw [nI_1, Int32.add_assoc]
              exact ih2 trivial
            have hfr : pFree (nI x) (nI y) (sw 0) := ⟨v 4, v 5, b4, b5, e4, e5⟩
            refine bX0_spots_42.go rfl ⟨rfl, ⟨⟨rfl, hfr⟩, sq0⟩, trivial⟩ ?_
            rw [fFree]
            refine j_if_eq (tgt := 78) dX0_spots_53 (by decide) (fun h53 => ?_) (fun h53 => ?_)
            · rw [b2_0] at h53
              refine bX0_spots_78.go rfl trivial ?_
              exact j79 false (by rw [spB, h53]; rfl)
            · rw [b2_n0] at h53
              refine bX0_spots_56.go rfl ⟨rfl, ⟨⟨rfl, v, x, y, c, hw, hx, hy, hc, by rw [pk_mul, nI_add], rfl⟩, sq0⟩, trivial⟩ ?_
              have eS : fSeen (nI x + nI 100 * nI y) (nI c) (sw 0) = b2 (seesB (sw 0) (nI x) (nI y) c) := by
                rw [pk_mul, nI_add, fSeen, pk_rem (by omega) (by decide) (by decide), pk_div (by omega) (by decide) (by decide), nI_clamp (by omega), show (x + 100 * y) % 100 = x by omega, show (x + 100 * y) / 100 = y by omega]
              rw [eS]
              refine j_if_eq (tgt := 78) dX0_spots_71 (by decide) (fun h71 => ?_) (fun h71 => ?_)
              · rw [b2_0] at h71
                refine bX0_spots_78.go rfl trivial ?_
                exact j79 false (by rw [spB, h71, Bool.and_false])
              · rw [b2_n0] at h71
                refine bX0_spots_74.go rfl trivial ?_
                exact j79 true (by rw [spB, h53, h71]; rfl)
  · rw [b2_0] at h6
    refine bX0_spots_9.go rfl trivial ?_
    exact x_ret dX0_spots_11 rfl (by rw [q_spots, h6]; rfl) KpX.rf
end Q3
