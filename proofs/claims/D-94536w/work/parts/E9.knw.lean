set_option maxRecDepth 100000
/-! ===== UnseenClock: knows, both, sights ===== -/
section Knw
variable {X : Cx} {mi : Nat} {ad : Nat → Nat} {A A' : Nat → Nat → Int32} {B : Nat → Nat → Int64} {sk : Nat → Nat → Nat} {sw : Nat → Nat → Int32} {E : Nat → Nat} {v : Nat → Nat} {w : Nat → Int32}
theorem cm_y {com : Nat → Bool} {sh : Nat → Int32} {n : Nat} (h : ∀ k, k < n → com k = true → sh k = sh 0) : cmF com sh n = sh 0 := by
  unfold cmF
  rw [if_neg]
  intro q
  obtain ⟨k, hk, q⟩ := anyN_true.mp q
  simp only [Bool.and_eq_true, Bool.not_eq_true', decide_eq_false_iff_not] at q
  exact q.2 (h k hk q.1)
theorem cm_n {com : Nat → Bool} {sh : Nat → Int32} {n k : Nat} (hk : k < n) (hc : com k = true) (hs : ¬ sh k = sh 0) : cmF com sh n = -1 := by
  unfold cmF
  rw [if_pos (anyN_true.mpr ⟨k, hk, by rw [hc, decide_eq_false hs]; rfl⟩)]
theorem bX0_knows_0 : Blk CP mX0_knows 0 5 [oAL 0, oIL 1, cF_I F_isPersonC] := blk_c (s_aload_n dX0_knows_0 rfl) <| blk_c (s_iload_n dX0_knows_1 rfl) <| blk_c (c_F_I ok_isPersonC (ci := 0) rfl (lw_V q1127 q1129 qs28 q131 q1130) hy_X0_isPerson rfl (by decide) dX0_knows_2) <| blk_nil
theorem bX0_knows_8 : Blk CP mX0_knows 8 14 [oAL 0, oIL 2, oI2L, cF_J F_isClockC] := blk_c (s_aload_n dX0_knows_8 rfl) <| blk_c (s_iload_n dX0_knows_9 rfl) <| blk_c (s_i2l dX0_knows_10) <| blk_c (c_F_J ok_isClockC (ci := 0) rfl (lw_V q1146 q1148 qs31 q131 q1149) hy_X0_isClock rfl (by decide) dX0_knows_11) <| blk_nil
theorem bX0_knows_17 : Blk CP mX0_knows 17 23 [oAL 0, oIL 3, oI2L, cF_J F_isMomentC] := blk_c (s_aload_n dX0_knows_17 rfl) <| blk_c (s_iload_n dX0_knows_18 rfl) <| blk_c (s_i2l dX0_knows_19) <| blk_c (c_F_J ok_isMomentC (ci := 0) rfl (lw_V q1308 q1310 qs43 q131 q1311) hy_X0_isMoment rfl (by decide) dX0_knows_20) <| blk_nil
theorem bX0_knows_26 : Blk CP mX0_knows 26 28 [oC (-2)] := blk_c (s_bipush dX0_knows_26 (by decide +kernel)) <| blk_nil
theorem bX0_knows_29 : Blk CP mX0_knows 29 30 [oAL 0] := blk_c (s_aload_n dX0_knows_29 rfl) <| blk_nil
theorem bX0_knows_36 : Blk CP mX0_knows 36 38 [oC (-3)] := blk_c (s_bipush dX0_knows_36 (by decide +kernel)) <| blk_nil
theorem bX0_knows_39 : Blk CP mX0_knows 39 40 [oAL 0] := blk_c (s_aload_n dX0_knows_39 rfl) <| blk_nil
theorem bX0_knows_43 : Blk CP mX0_knows 43 45 [oIL 2, oIL 3] := blk_c (s_iload_n dX0_knows_43 rfl) <| blk_c (s_iload_n dX0_knows_44 rfl) <| blk_nil
theorem bX0_knows_48 : Blk CP mX0_knows 48 53 [oIS 4, oC (nI 0), oIS 5] := blk_c (s_istore dX0_knows_48 (by decide)) <| blk_c (s_iconst dX0_knows_50 (by decide +kernel)) <| blk_c (s_istore dX0_knows_51 (by decide)) <| blk_nil
theorem bX0_knows_53 : Blk CP mX0_knows 53 59 [oIL 5, oAL 0, cI 0 6] := blk_c (s_iload dX0_knows_53) <| blk_c (s_aload_n dX0_knows_55 rfl) <| blk_c (cgX0_6 (Or.inl q562) dX0_knows_56) <| blk_nil
theorem bX0_knows_62 : Blk CP mX0_knows 62 64 [oAL 0, oAL 0] := blk_c (s_aload_n dX0_knows_62 rfl) <| blk_c (s_aload_n dX0_knows_63 rfl) <| blk_nil
theorem bX0_knows_67 : Blk CP mX0_knows 67 73 [oAL 0, cR 0 5 4, oIL 5] := blk_c (s_aload_n dX0_knows_67 rfl) <| blk_c (cgX0_5 (Or.inl q561) dX0_knows_68) <| blk_c (s_iload dX0_knows_71) <| blk_nil
theorem bX0_knows_81 : Blk CP mX0_knows 81 82 [oIL 1] := blk_c (s_iload_n dX0_knows_81 rfl) <| blk_nil
theorem bX0_knows_88 : Blk CP mX0_knows 88 94 [oAL 0, cR 0 5 4, oIL 5] := blk_c (s_aload_n dX0_knows_88 rfl) <| blk_c (cgX0_5 (Or.inl q561) dX0_knows_89) <| blk_c (s_iload dX0_knows_92) <| blk_nil
theorem bX0_knows_102 : Blk CP mX0_knows 102 104 [oIL 2, oIL 3] := blk_c (s_iload_n dX0_knows_102 rfl) <| blk_c (s_iload_n dX0_knows_103 rfl) <| blk_nil
theorem bX0_knows_107 : Blk CP mX0_knows 107 109 [oIL 4] := blk_c (s_iload dX0_knows_107) <| blk_nil
theorem bX0_knows_112 : Blk CP mX0_knows 112 113 [oC (-1)] := blk_c (s_iconst dX0_knows_112 (by decide +kernel)) <| blk_nil
theorem bX0_knows_114 : Blk CP mX0_knows 114 53 [oInc 5 1, .inl (fun s => some s)] := blk_c (s_iinc dX0_knows_114 (by decide +kernel) (by decide)) <| blk_c (s_goto (tgt := 53) dX0_knows_117 (by decide)) <| blk_nil
theorem bX0_knows_120 : Blk CP mX0_knows 120 122 [oIL 4] := blk_c (s_iload dX0_knows_120) <| blk_nil
theorem pb_knows (hM : WkM X mi) (hS : SW v A sw) (hLI : LI E) {p c m : Int32} : RCc X mX0_knows 1000 70000 [.ref (ad 0), .int p, .int c, .int m] (ad, A, B, sk, sw, E) (PubQ (ad, A, B, sk, sw, E) (q_knows (sw 0) p c m)) := by
  obtain ⟨-, hw, -, -⟩ := id hS
  have h8 := hw.np8
  have h4 := hw.nc4
  have h40 := hw.sp40
  have spE := hw.span
  have hcp := cn_pos (sw 0)
  have main : (pB (sw 0) p && (cB (sw 0) c && tB (sw 0) m)) = true → PJ X mX0_knows (ad, A, B, sk, sw, E) (q_knows (sw 0) p c m) 29 [some (.ref (ad 0)), some (.int p), some (.int c), some (.int m), none, none] [] (ad, A, B, sk, sw, E) := by
    intro hg
    rw [q_knows, if_pos hg, spE]
    simp only [Bool.and_eq_true, twoB] at hg
    obtain ⟨p, hp, rfl⟩ := hw.pOf hg.1
    obtain ⟨c, hc, rfl⟩ := hw.cOf hg.2.1
    obtain ⟨m, hm, rfl⟩ := hw.tOf hg.2.2
    rw [nI_clamp (by omega), nI_clamp (by omega), nI_clamp (by omega)]
    refine bX0_knows_29.go rfl trivial ?_
    refine gq hM hS hLI ((lw_V q1355 q1357 qs46 q131 q1358)) dX0_knows_30 (by decide) rfl (fun ad' A' B' sk' sw' E' q0 hk hS' hC => ?_)
    refine j_if_ne (tgt := 39) dX0_knows_33 (by decide) (fun h17 => ?_) (fun h17 => ?_)
    · rw [b2_n0, decide_eq_true_eq] at h17
      obtain ⟨h6, hE, hLI', hCo⟩ := hC h17
      have e6 : sw' 0 6 = nI (v 6) := by rw [hS'.1]; exact hw.1 6 (by decide)
      rw [if_pos h17, ← q0]
      show GJ X mX0_knows (ad, A, B, sk, sw, E) (cmC (sw 0) (fun k => alC (sw 0) p 0 k (v 6)) c m) _ _ _ _
      refine bX0_knows_39.go rfl trivial ?_
      refine cc0 (M' := mX0_plainSeen) (nA := 0) (As := []) (ok_plainSeen hLI' (by omega)) rec0 rfl ((lw_V q1436 q1438 qs51 q131 q1439)) dX0_knows_40 rfl (fun r x' q => ?_) hy_X0_plainSeen
      obtain ⟨rfl, rfl⟩ := q
      refine bX0_knows_43.go rfl trivial ?_
      refine cc0 (M' := mX16_shows) (nA := 2) (As := [.int (nI c), .int (nI m)]) (ok_snShows (i := 0) (by omega) (by omega) (by omega)) (recS (by omega)) rfl ((lw_V q1390 q1391 q1392 q163 q1393)) dX0_knows_45 rfl (fun r x' q => ?_) hy_X16_shows
      obtain ⟨rfl, rfl⟩ := q
      rw [(hCo 0 (by omega)).1 m hm c hc]
      refine bX0_knows_48.go rfl trivial ?_
      refine loop_down (N := cnC (sw 0)) (I := fun j => ∀ k, k < j → (alC (sw 0) p 0 k (v 6)) = true → shC (sw 0) k c m = shC (sw 0) 0 c m) (P := fun k => GJ X mX0_knows (ad, A, B, sk, sw, E) (cmC (sw 0) (fun k => alC (sw 0) p 0 k (v 6)) c m) 53 [some (.ref (ad' 0)), some (.int (nI p)), some (.int (nI c)), some (.int (nI m)), some (.int (shC (sw 0) 0 c m)), some (.int (nI k))] [] (ad', A', B', sk', sw', E')) ?_ ?_ 0 (Nat.zero_le _) (fun k hk => absurd hk (Nat.not_lt_zero _))
      · intro hI
        refine bX0_knows_53.go rfl (by repeat' first | exact trivial | rfl | assumption | omega | apply And.intro) ?_
        rw [h6]
        refine j_icmp_ge (tgt := 120) dX0_knows_59 (by decide) (fun _ => ?_) (fun q => absurd (nI_le (Nat.le_refl _) (by omega)) q)
        refine bX0_knows_120.go rfl trivial ?_
        exact g_ret dX0_knows_122 rfl (cm_y (sh := fun k => shC (sw 0) k c m) hI).symm hk
      · intro k hkk hI ih
        have nx : ((alC (sw 0) p 0 k (v 6)) = true → shC (sw 0) k c m = shC (sw 0) 0 c m) → GJ X mX0_knows (ad, A, B, sk, sw, E) (cmC (sw 0) (fun k => alC (sw 0) p 0 k (v 6)) c m) 114 [some (.ref (ad' 0)), some (.int (nI p)), some (.int (nI c)), some (.int (nI m)), some (.int (shC (sw 0) 0 c m)), some (.int (nI k))] [] (ad', A', B', sk', sw', E') := by
          intro hh
          refine bX0_knows_114.go rfl trivial ?_
          rw [nI_1]
          refine ih (fun d hd => ?_)
          by_cases e : d = k
          · subst e; exact hh
          · exact hI d (by omega)
        refine bX0_knows_53.go rfl (by repeat' first | exact trivial | rfl | assumption | omega | apply And.intro) ?_
        rw [h6]
        refine j_icmp_ge (tgt := 120) dX0_knows_59 (by decide) (fun q => ?_) (fun _ => ?_)
        · rw [nI_leI (by omega) (by omega)] at q; omega
        refine bX0_knows_62.go rfl trivial ?_
        refine cc0 (M' := mX0_plainSeen) (nA := 0) (As := []) (ok_plainSeen hLI' (by omega)) rec0 rfl ((lw_V q1436 q1438 qs51 q131 q1439)) dX0_knows_64 rfl (fun r x' q => ?_) hy_X0_plainSeen
        obtain ⟨rfl, rfl⟩ := q
        refine bX0_knows_67.go rfl (by repeat' first | exact trivial | rfl | assumption | omega | apply And.intro) ?_
        refine js_lget (i := k) hLI' (by omega) dX0_knows_73 (lw_F q1117 q812 q814 q136 q816) (by decide) rfl ?_
        refine js_scast (i := k) (by omega) q1359 dX0_knows_78 ?_
        refine bX0_knows_81.go rfl trivial ?_
        refine cc0 (M' := mX0_isAlike) (nA := 3) (As := [.ref (ad' (100 + 3 * 0)), .ref (ad' (100 + 3 * k)), .int (nI p)]) (ok_x0Alike (i := 0) (j := k) (by omega) (by omega) (by omega) h40 e6) rec0 rfl ((lw_V q1440 q1442 qs52 q131 q1443)) dX0_knows_82 rfl (fun r x' q => ?_) hy_X0_isAlike
        obtain ⟨rfl, rfl⟩ := q
        rw [alA_eq hw hCo (by omega) (by omega) (by omega) (Nat.le_refl _)]
        refine j_if_eq (tgt := 114) dX0_knows_85 (by decide) (fun z => nx (fun y => by rw [(b2_0 _).mp z] at y; simp at y)) (fun z0 => ?_)
        rw [b2_n0] at z0
        refine bX0_knows_88.go rfl (by repeat' first | exact trivial | rfl | assumption | omega | apply And.intro) ?_
        refine js_lget (i := k) hLI' (by omega) dX0_knows_94 (lw_F q1117 q812 q814 q136 q816) (by decide) rfl ?_
        refine js_scast (i := k) (by omega) q1359 dX0_knows_99 ?_
        refine bX0_knows_102.go rfl trivial ?_
        refine cc0 (M' := mX16_shows) (nA := 2) (As := [.int (nI c), .int (nI m)]) (ok_snShows (i := k) (by omega) (by omega) (by omega)) (recS (by omega)) rfl ((lw_V q1390 q1391 q1392 q163 q1393)) dX0_knows_104 rfl (fun r x' q => ?_) hy_X16_shows
        obtain ⟨rfl, rfl⟩ := q
        rw [(hCo k hkk).1 m hm c hc]
        refine bX0_knows_107.go rfl trivial ?_
        refine j_icmp_eq (tgt := 114) dX0_knows_109 (by decide) (fun y => nx (fun _ => y)) (fun y => ?_)
        refine bX0_knows_112.go rfl trivial ?_
        exact g_ret dX0_knows_113 rfl (cm_n (sh := fun k => shC (sw 0) k c m) hkk (by simp only [z0, Bool.and_self]) y).symm hk
    · rw [b2_0, decide_eq_false_iff_not] at h17
      refine bX0_knows_36.go rfl trivial ?_
      exact g_ret dX0_knows_38 rfl (by rw [if_neg h17]) hk
  refine C_start (L := [some (.ref (ad 0)), some (.int p), some (.int c), some (.int m), none, none]) 2 rfl ?_
  refine bX0_knows_0.go rfl (by first | exact ⟨⟨rfl, v, hw⟩, trivial⟩ | exact ⟨rfl, trivial⟩ | exact ⟨trivial, trivial⟩) ?_
  refine j_if_eq (tgt := 26) dX0_knows_5 (by decide) (fun h5 => ?_) (fun h5 => ?_)
  · refine bX0_knows_26.go rfl trivial ?_
    refine c_iret dX0_knows_28 rfl ?_
    exact ⟨ans (by clear main; simp only [clL_i, tmL_i, hrL_i, fIn_L, b2_0, b2_n0] at *; simp_all [q_knows, twoB] <;> (intros; simp_all)), KpX.rf.kp⟩
  · refine bX0_knows_8.go rfl (by first | exact ⟨⟨rfl, v, hw⟩, trivial⟩ | exact ⟨rfl, trivial⟩ | exact ⟨trivial, trivial⟩) ?_
    refine j_if_eq (tgt := 26) dX0_knows_14 (by decide) (fun h14 => ?_) (fun h14 => ?_)
    · refine bX0_knows_26.go rfl trivial ?_
      refine c_iret dX0_knows_28 rfl ?_
      exact ⟨ans (by clear main; simp only [clL_i, tmL_i, hrL_i, fIn_L, b2_0, b2_n0] at *; simp_all [q_knows, twoB] <;> (intros; simp_all)), KpX.rf.kp⟩
    · refine bX0_knows_17.go rfl (by first | exact ⟨⟨rfl, v, hw⟩, trivial⟩ | exact ⟨rfl, trivial⟩ | exact ⟨trivial, trivial⟩) ?_
      refine j_if_ne (tgt := 29) dX0_knows_23 (by decide) (fun h23 => ?_) (fun h23 => ?_)
      · exact main (by clear main; simp only [clL_i, tmL_i, hrL_i, fIn_L, b2_0, b2_n0] at *; simp_all [twoB])
      · refine bX0_knows_26.go rfl trivial ?_
        refine c_iret dX0_knows_28 rfl ?_
        exact ⟨ans (by clear main; simp only [clL_i, tmL_i, hrL_i, fIn_L, b2_0, b2_n0] at *; simp_all [q_knows, twoB] <;> (intros; simp_all)), KpX.rf.kp⟩
theorem bX0_both_0 : Blk CP mX0_both 0 5 [oAL 0, oIL 1, cF_I F_isPersonC] := blk_c (s_aload_n dX0_both_0 rfl) <| blk_c (s_iload_n dX0_both_1 rfl) <| blk_c (c_F_I ok_isPersonC (ci := 0) rfl (lw_V q1127 q1129 qs28 q131 q1130) hy_X0_isPerson rfl (by decide) dX0_both_2) <| blk_nil
theorem bX0_both_8 : Blk CP mX0_both 8 13 [oAL 0, oIL 2, cF_I F_isPersonC] := blk_c (s_aload_n dX0_both_8 rfl) <| blk_c (s_iload_n dX0_both_9 rfl) <| blk_c (c_F_I ok_isPersonC (ci := 0) rfl (lw_V q1127 q1129 qs28 q131 q1130) hy_X0_isPerson rfl (by decide) dX0_both_10) <| blk_nil
theorem bX0_both_16 : Blk CP mX0_both 16 18 [oIL 1, oIL 2] := blk_c (s_iload_n dX0_both_16 rfl) <| blk_c (s_iload_n dX0_both_17 rfl) <| blk_nil
theorem bX0_both_21 : Blk CP mX0_both 21 27 [oAL 0, oIL 3, oI2L, cF_J F_isClockC] := blk_c (s_aload_n dX0_both_21 rfl) <| blk_c (s_iload_n dX0_both_22 rfl) <| blk_c (s_i2l dX0_both_23) <| blk_c (c_F_J ok_isClockC (ci := 0) rfl (lw_V q1146 q1148 qs31 q131 q1149) hy_X0_isClock rfl (by decide) dX0_both_24) <| blk_nil
theorem bX0_both_30 : Blk CP mX0_both 30 37 [oAL 0, oIL 4, oI2L, cF_J F_isMomentC] := blk_c (s_aload_n dX0_both_30 rfl) <| blk_c (s_iload dX0_both_31) <| blk_c (s_i2l dX0_both_33) <| blk_c (c_F_J ok_isMomentC (ci := 0) rfl (lw_V q1308 q1310 qs43 q131 q1311) hy_X0_isMoment rfl (by decide) dX0_both_34) <| blk_nil
theorem bX0_both_40 : Blk CP mX0_both 40 42 [oC (-2)] := blk_c (s_bipush dX0_both_40 (by decide +kernel)) <| blk_nil
theorem bX0_both_43 : Blk CP mX0_both 43 44 [oAL 0] := blk_c (s_aload_n dX0_both_43 rfl) <| blk_nil
theorem bX0_both_50 : Blk CP mX0_both 50 52 [oC (-3)] := blk_c (s_bipush dX0_both_50 (by decide +kernel)) <| blk_nil
theorem bX0_both_53 : Blk CP mX0_both 53 54 [oAL 0] := blk_c (s_aload_n dX0_both_53 rfl) <| blk_nil
theorem bX0_both_57 : Blk CP mX0_both 57 60 [oIL 3, oIL 4] := blk_c (s_iload_n dX0_both_57 rfl) <| blk_c (s_iload dX0_both_58) <| blk_nil
theorem bX0_both_63 : Blk CP mX0_both 63 68 [oIS 5, oC (nI 0), oIS 6] := blk_c (s_istore dX0_both_63 (by decide)) <| blk_c (s_iconst dX0_both_65 (by decide +kernel)) <| blk_c (s_istore dX0_both_66 (by decide)) <| blk_nil
theorem bX0_both_68 : Blk CP mX0_both 68 74 [oIL 6, oAL 0, cI 0 6] := blk_c (s_iload dX0_both_68) <| blk_c (s_aload_n dX0_both_70 rfl) <| blk_c (cgX0_6 (Or.inl q562) dX0_both_71) <| blk_nil
theorem bX0_both_77 : Blk CP mX0_both 77 79 [oAL 0, oAL 0] := blk_c (s_aload_n dX0_both_77 rfl) <| blk_c (s_aload_n dX0_both_78 rfl) <| blk_nil
theorem bX0_both_82 : Blk CP mX0_both 82 88 [oAL 0, cR 0 5 4, oIL 6] := blk_c (s_aload_n dX0_both_82 rfl) <| blk_c (cgX0_5 (Or.inl q561) dX0_both_83) <| blk_c (s_iload dX0_both_86) <| blk_nil
theorem bX0_both_96 : Blk CP mX0_both 96 97 [oIL 1] := blk_c (s_iload_n dX0_both_96 rfl) <| blk_nil
theorem bX0_both_103 : Blk CP mX0_both 103 105 [oAL 0, oAL 0] := blk_c (s_aload_n dX0_both_103 rfl) <| blk_c (s_aload_n dX0_both_104 rfl) <| blk_nil
theorem bX0_both_108 : Blk CP mX0_both 108 114 [oAL 0, cR 0 5 4, oIL 6] := blk_c (s_aload_n dX0_both_108 rfl) <| blk_c (cgX0_5 (Or.inl q561) dX0_both_109) <| blk_c (s_iload dX0_both_112) <| blk_nil
theorem bX0_both_122 : Blk CP mX0_both 122 123 [oIL 2] := blk_c (s_iload_n dX0_both_122 rfl) <| blk_nil
theorem bX0_both_129 : Blk CP mX0_both 129 135 [oAL 0, cR 0 5 4, oIL 6] := blk_c (s_aload_n dX0_both_129 rfl) <| blk_c (cgX0_5 (Or.inl q561) dX0_both_130) <| blk_c (s_iload dX0_both_133) <| blk_nil
theorem bX0_both_143 : Blk CP mX0_both 143 146 [oIL 3, oIL 4] := blk_c (s_iload_n dX0_both_143 rfl) <| blk_c (s_iload dX0_both_144) <| blk_nil
theorem bX0_both_149 : Blk CP mX0_both 149 151 [oIL 5] := blk_c (s_iload dX0_both_149) <| blk_nil
theorem bX0_both_154 : Blk CP mX0_both 154 155 [oC (-1)] := blk_c (s_iconst dX0_both_154 (by decide +kernel)) <| blk_nil
theorem bX0_both_156 : Blk CP mX0_both 156 68 [oInc 6 1, .inl (fun s => some s)] := blk_c (s_iinc dX0_both_156 (by decide +kernel) (by decide)) <| blk_c (s_goto (tgt := 68) dX0_both_159 (by decide)) <| blk_nil
theorem bX0_both_162 : Blk CP mX0_both 162 164 [oIL 5] := blk_c (s_iload dX0_both_162) <| blk_nil
theorem pb_both (hM : WkM X mi) (hS : SW v A sw) (hLI : LI E) {p q c m : Int32} : RCc X mX0_both 1000 70000 [.ref (ad 0), .int p, .int q, .int c, .int m] (ad, A, B, sk, sw, E) (PubQ (ad, A, B, sk, sw, E) (q_both (sw 0) p q c m)) := by
  obtain ⟨-, hw, -, -⟩ := id hS
  have h8 := hw.np8
  have h4 := hw.nc4
  have h40 := hw.sp40
  have spE := hw.span
  have hcp := cn_pos (sw 0)
  have main : (twoB (sw 0) p q && (cB (sw 0) c && tB (sw 0) m)) = true → PJ X mX0_both (ad, A, B, sk, sw, E) (q_both (sw 0) p q c m) 43 [some (.ref (ad 0)), some (.int p), some (.int q), some (.int c), some (.int m), none, none] [] (ad, A, B, sk, sw, E) := by
    intro hg
    rw [q_both, if_pos hg, spE]
    simp only [Bool.and_eq_true, twoB] at hg
    obtain ⟨⟨hp1, hp2, -⟩, hg2⟩ := hg
    obtain ⟨p, hp, rfl⟩ := hw.pOf hp1
    obtain ⟨q, hq, rfl⟩ := hw.pOf hp2
    obtain ⟨c, hc, rfl⟩ := hw.cOf hg2.1
    obtain ⟨m, hm, rfl⟩ := hw.tOf hg2.2
    rw [nI_clamp (by omega), nI_clamp (by omega), nI_clamp (by omega), nI_clamp (by omega)]
    refine bX0_both_43.go rfl trivial ?_
    refine gq hM hS hLI ((lw_V q1355 q1357 qs46 q131 q1358)) dX0_both_44 (by decide) rfl (fun ad' A' B' sk' sw' E' q0 hk hS' hC => ?_)
    refine j_if_ne (tgt := 53) dX0_both_47 (by decide) (fun h17 => ?_) (fun h17 => ?_)
    · rw [b2_n0, decide_eq_true_eq] at h17
      obtain ⟨h6, hE, hLI', hCo⟩ := hC h17
      have e6 : sw' 0 6 = nI (v 6) := by rw [hS'.1]; exact hw.1 6 (by decide)
      rw [if_pos h17, ← q0]
      show GJ X mX0_both (ad, A, B, sk, sw, E) (cmC (sw 0) (fun k => alC (sw 0) p 0 k (v 6) && alC (sw 0) q 0 k (v 6)) c m) _ _ _ _
      refine bX0_both_53.go rfl trivial ?_
      refine cc0 (M' := mX0_plainSeen) (nA := 0) (As := []) (ok_plainSeen hLI' (by omega)) rec0 rfl ((lw_V q1436 q1438 qs51 q131 q1439)) dX0_both_54 rfl (fun r x' q => ?_) hy_X0_plainSeen
      obtain ⟨rfl, rfl⟩ := q
      refine bX0_both_57.go rfl trivial ?_
      refine cc0 (M' := mX16_shows) (nA := 2) (As := [.int (nI c), .int (nI m)]) (ok_snShows (i := 0) (by omega) (by omega) (by omega)) (recS (by omega)) rfl ((lw_V q1390 q1391 q1392 q163 q1393)) dX0_both_60 rfl (fun r x' q => ?_) hy_X16_shows
      obtain ⟨rfl, rfl⟩ := q
      rw [(hCo 0 (by omega)).1 m hm c hc]
      refine bX0_both_63.go rfl trivial ?_
      refine loop_down (N := cnC (sw 0)) (I := fun j => ∀ k, k < j → (alC (sw 0) p 0 k (v 6) && alC (sw 0) q 0 k (v 6)) = true → shC (sw 0) k c m = shC (sw 0) 0 c m) (P := fun k => GJ X mX0_both (ad, A, B, sk, sw, E) (cmC (sw 0) (fun k => alC (sw 0) p 0 k (v 6) && alC (sw 0) q 0 k (v 6)) c m) 68 [some (.ref (ad' 0)), some (.int (nI p)), some (.int (nI q)), some (.int (nI c)), some (.int (nI m)), some (.int (shC (sw 0) 0 c m)), some (.int (nI k))] [] (ad', A', B', sk', sw', E')) ?_ ?_ 0 (Nat.zero_le _) (fun k hk => absurd hk (Nat.not_lt_zero _))
      · intro hI
        refine bX0_both_68.go rfl (by repeat' first | exact trivial | rfl | assumption | omega | apply And.intro) ?_
        rw [h6]
        refine j_icmp_ge (tgt := 162) dX0_both_74 (by decide) (fun _ => ?_) (fun q => absurd (nI_le (Nat.le_refl _) (by omega)) q)
        refine bX0_both_162.go rfl trivial ?_
        exact g_ret dX0_both_164 rfl (cm_y (sh := fun k => shC (sw 0) k c m) hI).symm hk
      · intro k hkk hI ih
        have nx : ((alC (sw 0) p 0 k (v 6) && alC (sw 0) q 0 k (v 6)) = true → shC (sw 0) k c m = shC (sw 0) 0 c m) → GJ X mX0_both (ad, A, B, sk, sw, E) (cmC (sw 0) (fun k => alC (sw 0) p 0 k (v 6) && alC (sw 0) q 0 k (v 6)) c m) 156 [some (.ref (ad' 0)), some (.int (nI p)), some (.int (nI q)), some (.int (nI c)), some (.int (nI m)), some (.int (shC (sw 0) 0 c m)), some (.int (nI k))] [] (ad', A', B', sk', sw', E') := by
          intro hh
          refine bX0_both_156.go rfl trivial ?_
          rw [nI_1]
          refine ih (fun d hd => ?_)
          by_cases e : d = k
          · subst e; exact hh
          · exact hI d (by omega)
        refine bX0_both_68.go rfl (by repeat' first | exact trivial | rfl | assumption | omega | apply And.intro) ?_
        rw [h6]
        refine j_icmp_ge (tgt := 162) dX0_both_74 (by decide) (fun q => ?_) (fun _ => ?_)
        · rw [nI_leI (by omega) (by omega)] at q; omega
        refine bX0_both_77.go rfl trivial ?_
        refine cc0 (M' := mX0_plainSeen) (nA := 0) (As := []) (ok_plainSeen hLI' (by omega)) rec0 rfl ((lw_V q1436 q1438 qs51 q131 q1439)) dX0_both_79 rfl (fun r x' q => ?_) hy_X0_plainSeen
        obtain ⟨rfl, rfl⟩ := q
        refine bX0_both_82.go rfl (by repeat' first | exact trivial | rfl | assumption | omega | apply And.intro) ?_
        refine js_lget (i := k) hLI' (by omega) dX0_both_88 (lw_F q1117 q812 q814 q136 q816) (by decide) rfl ?_
        refine js_scast (i := k) (by omega) q1359 dX0_both_93 ?_
        refine bX0_both_96.go rfl trivial ?_
        refine cc0 (M' := mX0_isAlike) (nA := 3) (As := [.ref (ad' (100 + 3 * 0)), .ref (ad' (100 + 3 * k)), .int (nI p)]) (ok_x0Alike (i := 0) (j := k) (by omega) (by omega) (by omega) h40 e6) rec0 rfl ((lw_V q1440 q1442 qs52 q131 q1443)) dX0_both_97 rfl (fun r x' q => ?_) hy_X0_isAlike
        obtain ⟨rfl, rfl⟩ := q
        rw [alA_eq hw hCo (by omega) (by omega) (by omega) (Nat.le_refl _)]
        refine j_if_eq (tgt := 156) dX0_both_100 (by decide) (fun z => nx (fun y => by rw [(b2_0 _).mp z] at y; simp at y)) (fun z0 => ?_)
        rw [b2_n0] at z0
        refine bX0_both_103.go rfl trivial ?_
        refine cc0 (M' := mX0_plainSeen) (nA := 0) (As := []) (ok_plainSeen hLI' (by omega)) rec0 rfl ((lw_V q1436 q1438 qs51 q131 q1439)) dX0_both_105 rfl (fun r x' q => ?_) hy_X0_plainSeen
        obtain ⟨rfl, rfl⟩ := q
        refine bX0_both_108.go rfl (by repeat' first | exact trivial | rfl | assumption | omega | apply And.intro) ?_
        refine js_lget (i := k) hLI' (by omega) dX0_both_114 (lw_F q1117 q812 q814 q136 q816) (by decide) rfl ?_
        refine js_scast (i := k) (by omega) q1359 dX0_both_119 ?_
        refine bX0_both_122.go rfl trivial ?_
        refine cc0 (M' := mX0_isAlike) (nA := 3) (As := [.ref (ad' (100 + 3 * 0)), .ref (ad' (100 + 3 * k)), .int (nI q)]) (ok_x0Alike (i := 0) (j := k) (by omega) (by omega) (by omega) h40 e6) rec0 rfl ((lw_V q1440 q1442 qs52 q131 q1443)) dX0_both_123 rfl (fun r x' q => ?_) hy_X0_isAlike
        obtain ⟨rfl, rfl⟩ := q
        rw [alA_eq hw hCo (by omega) (by omega) (by omega) (Nat.le_refl _)]
        refine j_if_eq (tgt := 156) dX0_both_126 (by decide) (fun z => nx (fun y => by rw [(b2_0 _).mp z] at y; simp at y)) (fun z1 => ?_)
        rw [b2_n0] at z1
        refine bX0_both_129.go rfl (by repeat' first | exact trivial | rfl | assumption | omega | apply And.intro) ?_
        refine js_lget (i := k) hLI' (by omega) dX0_both_135 (lw_F q1117 q812 q814 q136 q816) (by decide) rfl ?_
        refine js_scast (i := k) (by omega) q1359 dX0_both_140 ?_
        refine bX0_both_143.go rfl trivial ?_
        refine cc0 (M' := mX16_shows) (nA := 2) (As := [.int (nI c), .int (nI m)]) (ok_snShows (i := k) (by omega) (by omega) (by omega)) (recS (by omega)) rfl ((lw_V q1390 q1391 q1392 q163 q1393)) dX0_both_146 rfl (fun r x' q => ?_) hy_X16_shows
        obtain ⟨rfl, rfl⟩ := q
        rw [(hCo k hkk).1 m hm c hc]
        refine bX0_both_149.go rfl trivial ?_
        refine j_icmp_eq (tgt := 156) dX0_both_151 (by decide) (fun y => nx (fun _ => y)) (fun y => ?_)
        refine bX0_both_154.go rfl trivial ?_
        exact g_ret dX0_both_155 rfl (cm_n (sh := fun k => shC (sw 0) k c m) hkk (by simp only [z0, z1, Bool.and_self]) y).symm hk
    · rw [b2_0, decide_eq_false_iff_not] at h17
      refine bX0_both_50.go rfl trivial ?_
      exact g_ret dX0_both_52 rfl (by rw [if_neg h17]) hk
  refine C_start (L := [some (.ref (ad 0)), some (.int p), some (.int q), some (.int c), some (.int m), none, none]) 2 rfl ?_
  refine bX0_both_0.go rfl (by first | exact ⟨⟨rfl, v, hw⟩, trivial⟩ | exact ⟨rfl, trivial⟩ | exact ⟨trivial, trivial⟩) ?_
  refine j_if_eq (tgt := 40) dX0_both_5 (by decide) (fun h5 => ?_) (fun h5 => ?_)
  · refine bX0_both_40.go rfl trivial ?_
    refine c_iret dX0_both_42 rfl ?_
    exact ⟨ans (by clear main; simp only [clL_i, tmL_i, hrL_i, fIn_L, b2_0, b2_n0] at *; simp_all [q_both, twoB] <;> (intros; simp_all)), KpX.rf.kp⟩
  · refine bX0_both_8.go rfl (by first | exact ⟨⟨rfl, v, hw⟩, trivial⟩ | exact ⟨rfl, trivial⟩ | exact ⟨trivial, trivial⟩) ?_
    refine j_if_eq (tgt := 40) dX0_both_13 (by decide) (fun h13 => ?_) (fun h13 => ?_)
    · refine bX0_both_40.go rfl trivial ?_
      refine c_iret dX0_both_42 rfl ?_
      exact ⟨ans (by clear main; simp only [clL_i, tmL_i, hrL_i, fIn_L, b2_0, b2_n0] at *; simp_all [q_both, twoB] <;> (intros; simp_all)), KpX.rf.kp⟩
    · refine bX0_both_16.go rfl trivial ?_
      refine j_icmp_eq (tgt := 40) dX0_both_18 (by decide) (fun h18 => ?_) (fun h18 => ?_)
      · refine bX0_both_40.go rfl trivial ?_
        refine c_iret dX0_both_42 rfl ?_
        exact ⟨ans (by clear main; simp only [clL_i, tmL_i, hrL_i, fIn_L, b2_0, b2_n0] at *; simp_all [q_both, twoB] <;> (intros; simp_all)), KpX.rf.kp⟩
      · refine bX0_both_21.go rfl (by first | exact ⟨⟨rfl, v, hw⟩, trivial⟩ | exact ⟨rfl, trivial⟩ | exact ⟨trivial, trivial⟩) ?_
        refine j_if_eq (tgt := 40) dX0_both_27 (by decide) (fun h27 => ?_) (fun h27 => ?_)
        · refine bX0_both_40.go rfl trivial ?_
          refine c_iret dX0_both_42 rfl ?_
          exact ⟨ans (by clear main; simp only [clL_i, tmL_i, hrL_i, fIn_L, b2_0, b2_n0] at *; simp_all [q_both, twoB] <;> (intros; simp_all)), KpX.rf.kp⟩
        · refine bX0_both_30.go rfl (by first | exact ⟨⟨rfl, v, hw⟩, trivial⟩ | exact ⟨rfl, trivial⟩ | exact ⟨trivial, trivial⟩) ?_
          refine j_if_ne (tgt := 43) dX0_both_37 (by decide) (fun h37 => ?_) (fun h37 => ?_)
          · exact main (by clear main; simp only [clL_i, tmL_i, hrL_i, fIn_L, b2_0, b2_n0] at *; simp_all [twoB])
          · refine bX0_both_40.go rfl trivial ?_
            refine c_iret dX0_both_42 rfl ?_
            exact ⟨ans (by clear main; simp only [clL_i, tmL_i, hrL_i, fIn_L, b2_0, b2_n0] at *; simp_all [q_both, twoB] <;> (intros; simp_all)), KpX.rf.kp⟩
end Knw
