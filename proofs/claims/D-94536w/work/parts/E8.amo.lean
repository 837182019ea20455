set_option maxRecDepth 100000
/-! ===== UnseenClock: plainSeen, isAlike, among, alike ===== -/
theorem cnF_ge {w : Nat → Int32} : ∀ f k, k ≤ cnF w f k := by
  intro f
  induction f with
  | zero => intro k; exact Nat.le_refl _
  | succ f ih =>
    intro k
    rw [cnF]
    split
    · exact Nat.le_refl _
    · have := ih (k + 1); omega
theorem cn_pos (w : Nat → Int32) : 0 < cnC w := by
  have h : cnC w = cnF w 128 1 := by
    show (if (crE w 0).isNone = true then 0 else cnF w 128 1) = _
    rw [if_neg (by show ¬ (some (fun _ => false) : Option (Nat → Bool)).isNone = true; decide)]
  rw [h]
  exact cnF_ge 128 1
section Amo
variable {X : Cx} {mi i j : Nat} {ad : Nat → Nat} {A A' : Nat → Nat → Int32} {B : Nat → Nat → Int64} {sk : Nat → Nat → Nat} {sw : Nat → Nat → Int32} {E : Nat → Nat} {v : Nat → Nat} {w : Nat → Int32}
theorem bX0_plainSeen_0 : Blk CP mX0_plainSeen 0 5 [oAL 0, cR 0 5 4, oC (nI 0)] := blk_c (s_aload_n dX0_plainSeen_0 rfl) <| blk_c (cgX0_5 (Or.inl q561) dX0_plainSeen_1) <| blk_c (s_iconst dX0_plainSeen_4 (by decide +kernel)) <| blk_nil
theorem ok_plainSeen (hLI : LI E) (h0 : 0 < E 0) : RCc X mX0_plainSeen 0 0 [.ref (ad 0)] (ad, A, B, sk, sw, E) (fun r x' => r = some (.ref (ad (100 + 3 * 0))) ∧ x' = (ad, A, B, sk, sw, E)) := by
  refine C_start (L := [some (.ref (ad 0))]) 0 rfl ?_
  refine bX0_plainSeen_0.go rfl (by repeat' first | exact trivial | rfl | assumption | omega | apply And.intro) ?_
  refine js_lget (i := 0) hLI h0 dX0_plainSeen_5 (lw_F q1117 q812 q814 q136 q816) (by decide) rfl ?_
  refine js_scast (i := 0) h0 q1359 dX0_plainSeen_10 ?_
  exact c_aret dX0_plainSeen_13 rfl (Or.inl ⟨_, rfl⟩) ⟨rfl, rfl⟩
theorem bX0_isAlike_0 : Blk CP mX0_isAlike 0 10 [oAL 1, oAL 2, oIL 3, oAL 0, cQ0, qI 0 6 6] := blk_c (s_aload_n dX0_isAlike_0 rfl) <| blk_c (s_aload_n dX0_isAlike_1 rfl) <| blk_c (s_iload_n dX0_isAlike_2 rfl) <| blk_c (s_aload_n dX0_isAlike_3 rfl) <| blk_c (cgX0_1 (Or.inl q557) dX0_isAlike_4) <| blk_c (q_I (by decide) (fun _ _ => rfl) (Or.inr ⟨_, nq448⟩) dX0_isAlike_7) <| blk_nil
theorem ok_x0Alike (hi : i < E 0) (hj : j < E 0) {p m : Nat} (hp : p < 8) (hm : m ≤ 40) (e6 : sw 0 6 = nI m) : RCc X mX0_isAlike 0 0 [.ref (ad 0), .ref (ad (100 + 3 * i)), .ref (ad (100 + 3 * j)), .int (nI p)] (ad, A, B, sk, sw, E) (fun r x' => r = some (.int (b2 (alA A i j p m))) ∧ x' = (ad, A, B, sk, sw, E)) := by
  refine C_start (L := [some (.ref (ad 0)), some (.ref (ad (100 + 3 * i))), some (.ref (ad (100 + 3 * j))), some (.int (nI p))]) 0 rfl ?_
  refine bX0_isAlike_0.go rfl ⟨rfl, ⟨rfl, sq0⟩, trivial⟩ ?_
  rw [e6]
  refine cc0 (M' := mX16_isAlike) (nA := 3) (As := [.ref (ad (100 + 3 * j)), .int (nI p), .int (nI m)]) (ok_snAlike hi hj hp hm) (recS hi) rfl ((lw_V q1444 q1445 q1446 q163 q1447)) dX0_isAlike_10 rfl (fun r x' q => ?_) hy_X16_isAlike
  obtain ⟨rfl, rfl⟩ := q
  exact c_zret dX0_isAlike_13 rfl (b2_z _) ⟨rfl, rfl⟩
theorem bX0_among_0 : Blk CP mX0_among 0 7 [oAL 0, oIL 1, oIL 2, oIL 3, cF_III F_isAskedC] := blk_c (s_aload_n dX0_among_0 rfl) <| blk_c (s_iload_n dX0_among_1 rfl) <| blk_c (s_iload_n dX0_among_2 rfl) <| blk_c (s_iload_n dX0_among_3 rfl) <| blk_c (c_F_III ok_isAskedC (ci := 0) rfl (lw_V q1386 q1388 qs47 q131 q1389) hy_X0_isAsked rfl (by decide) dX0_among_4) <| blk_nil
theorem bX0_among_10 : Blk CP mX0_among 10 12 [oC (-2)] := blk_c (s_bipush dX0_among_10 (by decide +kernel)) <| blk_nil
theorem bX0_among_13 : Blk CP mX0_among 13 14 [oAL 0] := blk_c (s_aload_n dX0_among_13 rfl) <| blk_nil
theorem bX0_among_20 : Blk CP mX0_among 20 22 [oC (-3)] := blk_c (s_bipush dX0_among_20 (by decide +kernel)) <| blk_nil
theorem bX0_among_23 : Blk CP mX0_among 23 29 [oC (nI 0), oIS 4, oC (nI 0), oIS 5] := blk_c (s_iconst dX0_among_23 (by decide +kernel)) <| blk_c (s_istore dX0_among_24 (by decide)) <| blk_c (s_iconst dX0_among_26 (by decide +kernel)) <| blk_c (s_istore dX0_among_27 (by decide)) <| blk_nil
theorem bX0_among_29 : Blk CP mX0_among 29 35 [oIL 5, oAL 0, cI 0 6] := blk_c (s_iload dX0_among_29) <| blk_c (s_aload_n dX0_among_31 rfl) <| blk_c (cgX0_6 (Or.inl q562) dX0_among_32) <| blk_nil
theorem bX0_among_38 : Blk CP mX0_among 38 46 [oIL 4, oAL 0, cR 0 5 4, oIL 5] := blk_c (s_iload dX0_among_38) <| blk_c (s_aload_n dX0_among_40 rfl) <| blk_c (cgX0_5 (Or.inl q561) dX0_among_41) <| blk_c (s_iload dX0_among_44) <| blk_nil
theorem bX0_among_54 : Blk CP mX0_among 54 56 [oIL 1, oIL 2] := blk_c (s_iload_n dX0_among_54 rfl) <| blk_c (s_iload_n dX0_among_55 rfl) <| blk_nil
theorem bX0_among_59 : Blk CP mX0_among 59 60 [oIL 3] := blk_c (s_iload_n dX0_among_59 rfl) <| blk_nil
theorem bX0_among_63 : Blk CP mX0_among 63 68 [oC (nI 1), .inl (fun s => some s)] := blk_c (s_iconst dX0_among_63 (by decide +kernel)) <| blk_c (s_goto (tgt := 68) dX0_among_64 (by decide)) <| blk_nil
theorem bX0_among_67 : Blk CP mX0_among 67 68 [oC (nI 0)] := blk_c (s_iconst dX0_among_67 (by decide +kernel)) <| blk_nil
theorem bX0_among_68 : Blk CP mX0_among 68 29 [oAdd, oIS 4, oInc 5 1, .inl (fun s => some s)] := blk_c (s_iadd dX0_among_68) <| blk_c (s_istore dX0_among_69 (by decide)) <| blk_c (s_iinc dX0_among_71 (by decide +kernel) (by decide)) <| blk_c (s_goto (tgt := 29) dX0_among_74 (by decide)) <| blk_nil
theorem bX0_among_77 : Blk CP mX0_among 77 79 [oIL 4] := blk_c (s_iload dX0_among_77) <| blk_nil
theorem pb_among (hM : WkM X mi) (hS : SW v A sw) (hLI : LI E) {c m h : Int32} : RCc X mX0_among 1000 70000 [.ref (ad 0), .int c, .int m, .int h] (ad, A, B, sk, sw, E) (PubQ (ad, A, B, sk, sw, E) (q_among (sw 0) c m h)) := by
  obtain ⟨-, hw, -, -⟩ := id hS
  have h4 := hw.nc4
  have h40 := hw.sp40
  have main : (cB (sw 0) c && (tB (sw 0) m && hB h)) = true → PJ X mX0_among (ad, A, B, sk, sw, E) (q_among (sw 0) c m h) 13 [some (.ref (ad 0)), some (.int c), some (.int m), some (.int h), none, none] [] (ad, A, B, sk, sw, E) := by
    intro hg
    rw [q_among, if_pos hg]
    simp only [Bool.and_eq_true] at hg
    obtain ⟨c, hc, rfl⟩ := hw.cOf hg.1
    obtain ⟨m, hm, rfl⟩ := hw.tOf hg.2.1
    rw [nI_clamp (by omega), nI_clamp (by omega)]
    refine bX0_among_13.go rfl trivial ?_
    refine gq hM hS hLI ((lw_V q1355 q1357 qs46 q131 q1358)) dX0_among_14 (by decide) rfl (fun ad' A' B' sk' sw' E' q0 hk hS' hC => ?_)
    refine j_if_ne (tgt := 23) dX0_among_17 (by decide) (fun h17 => ?_) (fun h17 => ?_)
    · rw [b2_n0, decide_eq_true_eq] at h17
      obtain ⟨h6, hE, hLI', hCo⟩ := hC h17
      rw [if_pos h17, ← q0]
      refine bX0_among_23.go rfl trivial ?_
      refine loop_down (N := cnC (sw 0)) (I := fun _ => True) (P := fun k => GJ X mX0_among (ad, A, B, sk, sw, E) (sumI (fun k => b2 (decide (shC (sw 0) k c m = h))) (cnC (sw 0))) 29 [some (.ref (ad' 0)), some (.int (nI c)), some (.int (nI m)), some (.int h), some (.int (sumI (fun k => b2 (decide (shC (sw 0) k c m = h))) k)), some (.int (nI k))] [] (ad', A', B', sk', sw', E')) ?_ ?_ 0 (Nat.zero_le _) trivial
      · intro _
        refine bX0_among_29.go rfl (by repeat' first | exact trivial | rfl | assumption | omega | apply And.intro) ?_
        rw [h6]
        refine j_icmp_ge (tgt := 77) dX0_among_35 (by decide) (fun _ => ?_) (fun q => absurd (nI_le (Nat.le_refl _) (by omega)) q)
        refine bX0_among_77.go rfl trivial ?_
        exact g_ret dX0_among_79 rfl rfl hk
      · intro k hkk _ ih
        refine bX0_among_29.go rfl (by repeat' first | exact trivial | rfl | assumption | omega | apply And.intro) ?_
        rw [h6]
        refine j_icmp_ge (tgt := 77) dX0_among_35 (by decide) (fun q => ?_) (fun _ => ?_)
        · rw [nI_leI (by omega) (by omega)] at q; omega
        refine bX0_among_38.go rfl (by repeat' first | exact trivial | rfl | assumption | omega | apply And.intro) ?_
        refine js_lget (i := k) hLI' (by omega) dX0_among_46 (lw_F q1117 q812 q814 q136 q816) (by decide) rfl ?_
        refine js_scast (i := k) (by omega) q1359 dX0_among_51 ?_
        refine bX0_among_54.go rfl trivial ?_
        refine cc0 (M' := mX16_shows) (nA := 2) (As := [.int (nI c), .int (nI m)]) (ok_snShows (i := k) (by omega) (by omega) (by omega)) (recS (by omega)) rfl ((lw_V q1390 q1391 q1392 q163 q1393)) dX0_among_56 rfl (fun r x' q => ?_) hy_X16_shows
        obtain ⟨rfl, rfl⟩ := q
        refine bX0_among_59.go rfl trivial ?_
        rw [(hCo k hkk).1 m hm c hc]
        refine j_icmp_ne (tgt := 67) dX0_among_60 (by decide) (fun h60 => ?_) (fun h60 => ?_)
        · refine bX0_among_67.go rfl trivial ?_
          refine bX0_among_68.go rfl trivial ?_
          rw [nI_1]
          have := ih trivial
          simp only [sumI, decide_eq_false h60] at this
          exact this
        · refine bX0_among_63.go rfl trivial ?_
          refine bX0_among_68.go rfl trivial ?_
          rw [nI_1]
          have := ih trivial
          simp only [sumI, decide_eq_true h60] at this
          exact this
    · rw [b2_0, decide_eq_false_iff_not] at h17
      refine bX0_among_20.go rfl trivial ?_
      exact g_ret dX0_among_22 rfl (by rw [if_neg h17]) hk
  refine C_start (L := [some (.ref (ad 0)), some (.int c), some (.int m), some (.int h), none, none]) 2 rfl ?_
  refine bX0_among_0.go rfl (by first | exact ⟨⟨rfl, v, hw⟩, trivial⟩ | exact ⟨rfl, trivial⟩ | exact ⟨trivial, trivial⟩) ?_
  refine j_if_ne (tgt := 13) dX0_among_7 (by decide) (fun h7 => ?_) (fun h7 => ?_)
  · exact main (by clear main; simp only [clL_i, tmL_i, hrL_i, fIn_L, b2_0, b2_n0] at *; simp_all)
  · refine bX0_among_10.go rfl trivial ?_
    refine c_iret dX0_among_12 rfl ?_
    exact ⟨ans (by clear main; simp only [clL_i, tmL_i, hrL_i, fIn_L, b2_0, b2_n0] at *; simp_all [q_among] <;> (intros; simp_all)), KpX.rf.kp⟩
theorem bX0_alike_0 : Blk CP mX0_alike 0 5 [oAL 0, oIL 1, cF_I F_isPersonC] := blk_c (s_aload_n dX0_alike_0 rfl) <| blk_c (s_iload_n dX0_alike_1 rfl) <| blk_c (c_F_I ok_isPersonC (ci := 0) rfl (lw_V q1127 q1129 qs28 q131 q1130) hy_X0_isPerson rfl (by decide) dX0_alike_2) <| blk_nil
theorem bX0_alike_8 : Blk CP mX0_alike 8 10 [oC (-2)] := blk_c (s_bipush dX0_alike_8 (by decide +kernel)) <| blk_nil
theorem bX0_alike_11 : Blk CP mX0_alike 11 12 [oAL 0] := blk_c (s_aload_n dX0_alike_11 rfl) <| blk_nil
theorem bX0_alike_18 : Blk CP mX0_alike 18 20 [oC (-3)] := blk_c (s_bipush dX0_alike_18 (by decide +kernel)) <| blk_nil
theorem bX0_alike_21 : Blk CP mX0_alike 21 25 [oC (nI 0), oIS 2, oC (nI 0), oIS 3] := blk_c (s_iconst dX0_alike_21 (by decide +kernel)) <| blk_c (s_istore_n dX0_alike_22 rfl (by decide)) <| blk_c (s_iconst dX0_alike_23 (by decide +kernel)) <| blk_c (s_istore_n dX0_alike_24 rfl (by decide)) <| blk_nil
theorem bX0_alike_25 : Blk CP mX0_alike 25 30 [oIL 3, oAL 0, cI 0 6] := blk_c (s_iload_n dX0_alike_25 rfl) <| blk_c (s_aload_n dX0_alike_26 rfl) <| blk_c (cgX0_6 (Or.inl q562) dX0_alike_27) <| blk_nil
theorem bX0_alike_33 : Blk CP mX0_alike 33 36 [oIL 2, oAL 0, oAL 0] := blk_c (s_iload_n dX0_alike_33 rfl) <| blk_c (s_aload_n dX0_alike_34 rfl) <| blk_c (s_aload_n dX0_alike_35 rfl) <| blk_nil
theorem bX0_alike_39 : Blk CP mX0_alike 39 44 [oAL 0, cR 0 5 4, oIL 3] := blk_c (s_aload_n dX0_alike_39 rfl) <| blk_c (cgX0_5 (Or.inl q561) dX0_alike_40) <| blk_c (s_iload_n dX0_alike_43 rfl) <| blk_nil
theorem bX0_alike_52 : Blk CP mX0_alike 52 53 [oIL 1] := blk_c (s_iload_n dX0_alike_52 rfl) <| blk_nil
theorem bX0_alike_59 : Blk CP mX0_alike 59 64 [oC (nI 1), .inl (fun s => some s)] := blk_c (s_iconst dX0_alike_59 (by decide +kernel)) <| blk_c (s_goto (tgt := 64) dX0_alike_60 (by decide)) <| blk_nil
theorem bX0_alike_63 : Blk CP mX0_alike 63 64 [oC (nI 0)] := blk_c (s_iconst dX0_alike_63 (by decide +kernel)) <| blk_nil
theorem bX0_alike_64 : Blk CP mX0_alike 64 25 [oAdd, oIS 2, oInc 3 1, .inl (fun s => some s)] := blk_c (s_iadd dX0_alike_64) <| blk_c (s_istore_n dX0_alike_65 rfl (by decide)) <| blk_c (s_iinc dX0_alike_66 (by decide +kernel) (by decide)) <| blk_c (s_goto (tgt := 25) dX0_alike_69 (by decide)) <| blk_nil
theorem bX0_alike_72 : Blk CP mX0_alike 72 73 [oIL 2] := blk_c (s_iload_n dX0_alike_72 rfl) <| blk_nil
theorem pb_alike (hM : WkM X mi) (hS : SW v A sw) (hLI : LI E) {p : Int32} : RCc X mX0_alike 1000 70000 [.ref (ad 0), .int p] (ad, A, B, sk, sw, E) (PubQ (ad, A, B, sk, sw, E) (q_alike (sw 0) p)) := by
  obtain ⟨-, hw, -, -⟩ := id hS
  have h8 := hw.np8
  have h40 := hw.sp40
  have spE := hw.span
  have hcp := cn_pos (sw 0)
  have main : pB (sw 0) p = true → PJ X mX0_alike (ad, A, B, sk, sw, E) (q_alike (sw 0) p) 11 [some (.ref (ad 0)), some (.int p), none, none] [] (ad, A, B, sk, sw, E) := by
    intro hg
    rw [q_alike, if_pos hg, spE]
    obtain ⟨p, hp, rfl⟩ := hw.pOf hg
    rw [nI_clamp (by omega)]
    refine bX0_alike_11.go rfl trivial ?_
    refine gq hM hS hLI ((lw_V q1355 q1357 qs46 q131 q1358)) dX0_alike_12 (by decide) rfl (fun ad' A' B' sk' sw' E' q0 hk hS' hC => ?_)
    refine j_if_ne (tgt := 21) dX0_alike_15 (by decide) (fun h17 => ?_) (fun h17 => ?_)
    · rw [b2_n0, decide_eq_true_eq] at h17
      obtain ⟨h6, hE, hLI', hCo⟩ := hC h17
      have e6 : sw' 0 6 = nI (v 6) := by rw [hS'.1]; exact hw.1 6 (by decide)
      rw [if_pos h17, ← q0]
      refine bX0_alike_21.go rfl trivial ?_
      refine loop_down (N := cnC (sw 0)) (I := fun _ => True) (P := fun k => GJ X mX0_alike (ad, A, B, sk, sw, E) (sumI (fun k => b2 (alC (sw 0) p 0 k (v 6))) (cnC (sw 0))) 25 [some (.ref (ad' 0)), some (.int (nI p)), some (.int (sumI (fun k => b2 (alC (sw 0) p 0 k (v 6))) k)), some (.int (nI k))] [] (ad', A', B', sk', sw', E')) ?_ ?_ 0 (Nat.zero_le _) trivial
      · intro _
        refine bX0_alike_25.go rfl (by repeat' first | exact trivial | rfl | assumption | omega | apply And.intro) ?_
        rw [h6]
        refine j_icmp_ge (tgt := 72) dX0_alike_30 (by decide) (fun _ => ?_) (fun q => absurd (nI_le (Nat.le_refl _) (by omega)) q)
        refine bX0_alike_72.go rfl trivial ?_
        exact g_ret dX0_alike_73 rfl rfl hk
      · intro k hkk _ ih
        refine bX0_alike_25.go rfl (by repeat' first | exact trivial | rfl | assumption | omega | apply And.intro) ?_
        rw [h6]
        refine j_icmp_ge (tgt := 72) dX0_alike_30 (by decide) (fun q => ?_) (fun _ => ?_)
        · rw [nI_leI (by omega) (by omega)] at q; omega
        refine bX0_alike_33.go rfl trivial ?_
        refine cc0 (M' := mX0_plainSeen) (nA := 0) (As := []) (ok_plainSeen hLI' (by omega)) rec0 rfl ((lw_V q1436 q1438 qs51 q131 q1439)) dX0_alike_36 rfl (fun r x' q => ?_) hy_X0_plainSeen
        obtain ⟨rfl, rfl⟩ := q
        refine bX0_alike_39.go rfl (by repeat' first | exact trivial | rfl | assumption | omega | apply And.intro) ?_
        refine js_lget (i := k) hLI' (by omega) dX0_alike_44 (lw_F q1117 q812 q814 q136 q816) (by decide) rfl ?_
        refine js_scast (i := k) (by omega) q1359 dX0_alike_49 ?_
        refine bX0_alike_52.go rfl trivial ?_
        refine cc0 (M' := mX0_isAlike) (nA := 3) (As := [.ref (ad' (100 + 3 * 0)), .ref (ad' (100 + 3 * k)), .int (nI p)]) (ok_x0Alike (i := 0) (j := k) (by omega) (by omega) (by omega) h40 e6) rec0 rfl ((lw_V q1440 q1442 qs52 q131 q1443)) dX0_alike_53 rfl (fun r x' q => ?_) hy_X0_isAlike
        obtain ⟨rfl, rfl⟩ := q
        rw [alA_eq hw hCo (by omega) hkk hp (Nat.le_refl _)]
        refine j_if_eq (tgt := 63) dX0_alike_56 (by decide) (fun h60 => ?_) (fun h60 => ?_)
        · rw [b2_0] at h60
          refine bX0_alike_63.go rfl trivial ?_
          refine bX0_alike_64.go rfl trivial ?_
          rw [nI_1]
          have := ih trivial
          simp only [sumI, h60] at this
          exact this
        · rw [b2_n0] at h60
          refine bX0_alike_59.go rfl trivial ?_
          refine bX0_alike_64.go rfl trivial ?_
          rw [nI_1]
          have := ih trivial
          simp only [sumI, h60] at this
          exact this
    · rw [b2_0, decide_eq_false_iff_not] at h17
      refine bX0_alike_18.go rfl trivial ?_
      exact g_ret dX0_alike_20 rfl (by rw [if_neg h17]) hk
  refine C_start (L := [some (.ref (ad 0)), some (.int p), none, none]) 2 rfl ?_
  refine bX0_alike_0.go rfl (by first | exact ⟨⟨rfl, v, hw⟩, trivial⟩ | exact ⟨rfl, trivial⟩ | exact ⟨trivial, trivial⟩) ?_
  refine j_if_ne (tgt := 11) dX0_alike_5 (by decide) (fun h5 => ?_) (fun h5 => ?_)
  · exact main (by clear main; simp only [clL_i, tmL_i, hrL_i, fIn_L, b2_0, b2_n0] at *; simp_all)
  · refine bX0_alike_8.go rfl trivial ?_
    refine c_iret dX0_alike_10 rfl ?_
    exact ⟨ans (by clear main; simp only [clL_i, tmL_i, hrL_i, fIn_L, b2_0, b2_n0] at *; simp_all [q_alike] <;> (intros; simp_all)), KpX.rf.kp⟩
end Amo
