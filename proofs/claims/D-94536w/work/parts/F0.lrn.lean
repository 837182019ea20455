set_option maxRecDepth 100000
/-! ===== UnseenClock: isLearnt, learns, sights ===== -/
section Lrn
variable {X : Cx} {mi p n c m : Nat} {ad ad' : Nat → Nat} {A A' : Nat → Nat → Int32} {B B' : Nat → Nat → Int64} {sk sk' : Nat → Nat → Nat} {sw sw' : Nat → Nat → Int32} {E E' : Nat → Nat} {v : Nat → Nat} {w : Nat → Int32}
theorem lr_y (hw : WOk w v) (hc : c < v 1) (hm : m ≤ v 6) (h : ∀ k, k < cnC w → alC w p 0 k n = true → shC w k c m = shC w 0 c m) : lrB w p c m n = true := by
  have h40 := hw.sp40
  obtain ⟨s, hs, q⟩ := sh_b (cf := cfE w (eC w 0)) hw (fun _ => nI 0) 0 hc (t := m) (by omega)
  have q : shC w 0 c m = nI s := q
  unfold lrB cmC
  rw [cm_y (sh := fun k => shC w k c m) h]
  show (!decide (shC w 0 c m = -1)) = true
  rw [q, decide_eq_false (nI_n1 (by omega))]; rfl
theorem lr_n {k : Nat} (hk : k < cnC w) (h1 : alC w p 0 k n = true) (h2 : ¬ shC w k c m = shC w 0 c m) : lrB w p c m n = false := by
  unfold lrB cmC
  rw [cm_n (sh := fun k => shC w k c m) hk h1 h2]; decide
theorem bX0_isLearnt_0 : Blk CP mX0_isLearnt 0 3 [oC (nI 0), oIS 5] := blk_c (s_iconst dX0_isLearnt_0 (by decide +kernel)) <| blk_c (s_istore dX0_isLearnt_1 (by decide)) <| blk_nil
theorem bX0_isLearnt_3 : Blk CP mX0_isLearnt 3 9 [oIL 5, oAL 0, cI 0 6] := blk_c (s_iload dX0_isLearnt_3) <| blk_c (s_aload_n dX0_isLearnt_5 rfl) <| blk_c (cgX0_6 (Or.inl q562) dX0_isLearnt_6) <| blk_nil
theorem bX0_isLearnt_12 : Blk CP mX0_isLearnt 12 13 [oAL 0] := blk_c (s_aload_n dX0_isLearnt_12 rfl) <| blk_nil
theorem bX0_isLearnt_16 : Blk CP mX0_isLearnt 16 22 [oAL 0, cR 0 5 4, oIL 5] := blk_c (s_aload_n dX0_isLearnt_16 rfl) <| blk_c (cgX0_5 (Or.inl q561) dX0_isLearnt_17) <| blk_c (s_iload dX0_isLearnt_20) <| blk_nil
theorem bX0_isLearnt_30 : Blk CP mX0_isLearnt 30 32 [oIL 1, oIL 2] := blk_c (s_iload_n dX0_isLearnt_30 rfl) <| blk_c (s_iload_n dX0_isLearnt_31 rfl) <| blk_nil
theorem bX0_isLearnt_38 : Blk CP mX0_isLearnt 38 44 [oAL 0, cR 0 5 4, oIL 5] := blk_c (s_aload_n dX0_isLearnt_38 rfl) <| blk_c (cgX0_5 (Or.inl q561) dX0_isLearnt_39) <| blk_c (s_iload dX0_isLearnt_42) <| blk_nil
theorem bX0_isLearnt_52 : Blk CP mX0_isLearnt 52 55 [oIL 3, oIL 4] := blk_c (s_iload_n dX0_isLearnt_52 rfl) <| blk_c (s_iload dX0_isLearnt_53) <| blk_nil
theorem bX0_isLearnt_58 : Blk CP mX0_isLearnt 58 59 [oAL 0] := blk_c (s_aload_n dX0_isLearnt_58 rfl) <| blk_nil
theorem bX0_isLearnt_62 : Blk CP mX0_isLearnt 62 65 [oIL 3, oIL 4] := blk_c (s_iload_n dX0_isLearnt_62 rfl) <| blk_c (s_iload dX0_isLearnt_63) <| blk_nil
theorem bX0_isLearnt_71 : Blk CP mX0_isLearnt 71 72 [oC (nI 0)] := blk_c (s_iconst dX0_isLearnt_71 (by decide +kernel)) <| blk_nil
theorem bX0_isLearnt_73 : Blk CP mX0_isLearnt 73 3 [oInc 5 1, .inl (fun s => some s)] := blk_c (s_iinc dX0_isLearnt_73 (by decide +kernel) (by decide)) <| blk_c (s_goto (tgt := 3) dX0_isLearnt_76 (by decide)) <| blk_nil
theorem bX0_isLearnt_79 : Blk CP mX0_isLearnt 79 80 [oC (nI 1)] := blk_c (s_iconst dX0_isLearnt_79 (by decide +kernel)) <| blk_nil
theorem ok_isLearntC (hw : WOk w v) (h6 : A' 0 6 = nI (cnC w)) (hcn : cnC w ≤ 128) (hE : cnC w ≤ E' 0) (hLI' : LI E') (hCo : CoC A' v w (cnC w)) (hp : p < v 2) (hn : n ≤ v 6) (hc : c < v 1) (hm : m ≤ v 6) : RCc X mX0_isLearnt 0 0 [.ref (ad' 0), .int (nI p), .int (nI n), .int (nI c), .int (nI m)] (ad', A', B', sk', sw', E') (fun r x' => r = some (.int (b2 (lrB w p c m n))) ∧ x' = (ad', A', B', sk', sw', E')) := by
  have h8 := hw.np8
  have h4 := hw.nc4
  have h40 := hw.sp40
  have hcp := cn_pos w
  refine C_start (L := [some (.ref (ad' 0)), some (.int (nI p)), some (.int (nI n)), some (.int (nI c)), some (.int (nI m)), none]) 1 rfl ?_
  refine bX0_isLearnt_0.go rfl trivial ?_
  refine loop_down (N := cnC w) (I := fun j => ∀ k, k < j → alC w p 0 k n = true → shC w k c m = shC w 0 c m) (P := fun k => JS CP X mX0_isLearnt (rmOf mX0_isLearnt.lv 0 0) (ZC X 0 0 (fun r x' => r = some (.int (b2 (lrB w p c m n))) ∧ x' = (ad', A', B', sk', sw', E'))) 0 0 3 [some (.ref (ad' 0)), some (.int (nI p)), some (.int (nI n)), some (.int (nI c)), some (.int (nI m)), some (.int (nI k))] [] (ad', A', B', sk', sw', E')) ?_ ?_ 0 (Nat.zero_le _) (fun k hk => absurd hk (Nat.not_lt_zero _))
  · intro hI
    refine bX0_isLearnt_3.go rfl (by repeat' first | exact trivial | rfl | assumption | omega | apply And.intro) ?_
    rw [h6]
    refine j_icmp_ge (tgt := 79) dX0_isLearnt_9 (by decide) (fun _ => ?_) (fun q => absurd (nI_le (Nat.le_refl _) (by omega)) q)
    refine bX0_isLearnt_79.go rfl trivial ?_
    exact c_zret dX0_isLearnt_80 rfl rfl ⟨by rw [lr_y hw hc hm hI]; rfl, rfl⟩
  · intro k hkk hI ih
    have nx : (alC w p 0 k n = true → shC w k c m = shC w 0 c m) → JS CP X mX0_isLearnt (rmOf mX0_isLearnt.lv 0 0) (ZC X 0 0 (fun r x' => r = some (.int (b2 (lrB w p c m n))) ∧ x' = (ad', A', B', sk', sw', E'))) 0 0 73 [some (.ref (ad' 0)), some (.int (nI p)), some (.int (nI n)), some (.int (nI c)), some (.int (nI m)), some (.int (nI k))] [] (ad', A', B', sk', sw', E') := by
      intro hh
      refine bX0_isLearnt_73.go rfl trivial ?_
      rw [nI_1]
      refine ih (fun d hd => ?_)
      by_cases e : d = k
      · subst e; exact hh
      · exact hI d (by omega)
    refine bX0_isLearnt_3.go rfl (by repeat' first | exact trivial | rfl | assumption | omega | apply And.intro) ?_
    rw [h6]
    refine j_icmp_ge (tgt := 79) dX0_isLearnt_9 (by decide) (fun q => ?_) (fun _ => ?_)
    · rw [nI_leI (by omega) (by omega)] at q; omega
    refine bX0_isLearnt_12.go rfl trivial ?_
    refine cc0 (M' := mX0_plainSeen) (nA := 0) (As := []) (ok_plainSeen hLI' (by omega)) rec0 rfl ((lw_V q1436 q1438 qs51 q131 q1439)) dX0_isLearnt_13 rfl (fun r x' q => ?_) hy_X0_plainSeen
    obtain ⟨rfl, rfl⟩ := q
    refine bX0_isLearnt_16.go rfl (by repeat' first | exact trivial | rfl | assumption | omega | apply And.intro) ?_
    refine js_lget (i := k) hLI' (by omega) dX0_isLearnt_22 (lw_F q1117 q812 q814 q136 q816) (by decide) rfl ?_
    refine js_scast (i := k) (by omega) q1359 dX0_isLearnt_27 ?_
    refine bX0_isLearnt_30.go rfl trivial ?_
    refine cc0 (M' := mX16_isAlike) (nA := 3) (As := [.ref (ad' (100 + 3 * k)), .int (nI p), .int (nI n)]) (ok_snAlike (i := 0) (j := k) (by omega) (by omega) (by omega) (by omega)) (recS (i := 0) (by omega)) rfl ((lw_V q1444 q1445 q1446 q163 q1447)) dX0_isLearnt_32 rfl (fun r x' q => ?_) hy_X16_isAlike
    obtain ⟨rfl, rfl⟩ := q
    rw [alA_eq hw hCo (by omega) hkk hp hn]
    refine j_if_eq (tgt := 73) dX0_isLearnt_35 (by decide) (fun z => nx (fun y => by rw [(b2_0 _).mp z] at y; simp at y)) (fun z => ?_)
    rw [b2_n0] at z
    refine bX0_isLearnt_38.go rfl (by repeat' first | exact trivial | rfl | assumption | omega | apply And.intro) ?_
    refine js_lget (i := k) hLI' (by omega) dX0_isLearnt_44 (lw_F q1117 q812 q814 q136 q816) (by decide) rfl ?_
    refine js_scast (i := k) (by omega) q1359 dX0_isLearnt_49 ?_
    refine bX0_isLearnt_52.go rfl trivial ?_
    refine cc0 (M' := mX16_shows) (nA := 2) (As := [.int (nI c), .int (nI m)]) (ok_snShows (i := k) (by omega) (by omega) (by omega)) (recS (by omega)) rfl ((lw_V q1390 q1391 q1392 q163 q1393)) dX0_isLearnt_55 rfl (fun r x' q => ?_) hy_X16_shows
    obtain ⟨rfl, rfl⟩ := q
    refine bX0_isLearnt_58.go rfl trivial ?_
    refine cc0 (M' := mX0_plainSeen) (nA := 0) (As := []) (ok_plainSeen hLI' (by omega)) rec0 rfl ((lw_V q1436 q1438 qs51 q131 q1439)) dX0_isLearnt_59 rfl (fun r x' q => ?_) hy_X0_plainSeen
    obtain ⟨rfl, rfl⟩ := q
    refine bX0_isLearnt_62.go rfl trivial ?_
    refine cc0 (M' := mX16_shows) (nA := 2) (As := [.int (nI c), .int (nI m)]) (ok_snShows (i := 0) (by omega) (by omega) (by omega)) (recS (by omega)) rfl ((lw_V q1390 q1391 q1392 q163 q1393)) dX0_isLearnt_65 rfl (fun r x' q => ?_) hy_X16_shows
    obtain ⟨rfl, rfl⟩ := q
    rw [(hCo k hkk).1 m hm c hc, (hCo 0 (by omega)).1 m hm c hc]
    refine j_icmp_eq (tgt := 73) dX0_isLearnt_68 (by decide) (fun y => nx (fun _ => y)) (fun y => ?_)
    refine bX0_isLearnt_71.go rfl trivial ?_
    exact c_zret dX0_isLearnt_72 rfl rfl ⟨by rw [lr_n hkk z y]; rfl, rfl⟩
theorem bX0_learns_0 : Blk CP mX0_learns 0 5 [oAL 0, oIL 1, cF_I F_isPersonC] := blk_c (s_aload_n dX0_learns_0 rfl) <| blk_c (s_iload_n dX0_learns_1 rfl) <| blk_c (c_F_I ok_isPersonC (ci := 0) rfl (lw_V q1127 q1129 qs28 q131 q1130) hy_X0_isPerson rfl (by decide) dX0_learns_2) <| blk_nil
theorem bX0_learns_8 : Blk CP mX0_learns 8 14 [oAL 0, oIL 2, oI2L, cF_J F_isClockC] := blk_c (s_aload_n dX0_learns_8 rfl) <| blk_c (s_iload_n dX0_learns_9 rfl) <| blk_c (s_i2l dX0_learns_10) <| blk_c (c_F_J ok_isClockC (ci := 0) rfl (lw_V q1146 q1148 qs31 q131 q1149) hy_X0_isClock rfl (by decide) dX0_learns_11) <| blk_nil
theorem bX0_learns_17 : Blk CP mX0_learns 17 23 [oAL 0, oIL 3, oI2L, cF_J F_isMomentC] := blk_c (s_aload_n dX0_learns_17 rfl) <| blk_c (s_iload_n dX0_learns_18 rfl) <| blk_c (s_i2l dX0_learns_19) <| blk_c (c_F_J ok_isMomentC (ci := 0) rfl (lw_V q1308 q1310 qs43 q131 q1311) hy_X0_isMoment rfl (by decide) dX0_learns_20) <| blk_nil
theorem bX0_learns_26 : Blk CP mX0_learns 26 28 [oC (-2)] := blk_c (s_bipush dX0_learns_26 (by decide +kernel)) <| blk_nil
theorem bX0_learns_29 : Blk CP mX0_learns 29 30 [oAL 0] := blk_c (s_aload_n dX0_learns_29 rfl) <| blk_nil
theorem bX0_learns_36 : Blk CP mX0_learns 36 38 [oC (-3)] := blk_c (s_bipush dX0_learns_36 (by decide +kernel)) <| blk_nil
theorem bX0_learns_39 : Blk CP mX0_learns 39 42 [oC (nI 0), oIS 4] := blk_c (s_iconst dX0_learns_39 (by decide +kernel)) <| blk_c (s_istore dX0_learns_40 (by decide)) <| blk_nil
theorem bX0_learns_42 : Blk CP mX0_learns 42 51 [oIL 4, oAL 0, cQ0, qI 0 6 6] := blk_c (s_iload dX0_learns_42) <| blk_c (s_aload_n dX0_learns_44 rfl) <| blk_c (cgX0_1 (Or.inl q557) dX0_learns_45) <| blk_c (q_I (by decide) (fun _ _ => rfl) (Or.inr ⟨_, nq448⟩) dX0_learns_48) <| blk_nil
theorem bX0_learns_54 : Blk CP mX0_learns 54 60 [oAL 0, oIL 1, oIL 4, oIL 2, oIL 3] := blk_c (s_aload_n dX0_learns_54 rfl) <| blk_c (s_iload_n dX0_learns_55 rfl) <| blk_c (s_iload dX0_learns_56) <| blk_c (s_iload_n dX0_learns_58 rfl) <| blk_c (s_iload_n dX0_learns_59 rfl) <| blk_nil
theorem bX0_learns_66 : Blk CP mX0_learns 66 68 [oIL 4] := blk_c (s_iload dX0_learns_66) <| blk_nil
theorem bX0_learns_69 : Blk CP mX0_learns 69 42 [oInc 4 1, .inl (fun s => some s)] := blk_c (s_iinc dX0_learns_69 (by decide +kernel) (by decide)) <| blk_c (s_goto (tgt := 42) dX0_learns_72 (by decide)) <| blk_nil
theorem bX0_learns_75 : Blk CP mX0_learns 75 76 [oC (-1)] := blk_c (s_iconst dX0_learns_75 (by decide +kernel)) <| blk_nil
theorem pb_learns (hM : WkM X mi) (hS : SW v A sw) (hLI : LI E) {p c m : Int32} : RCc X mX0_learns 1000 70000 [.ref (ad 0), .int p, .int c, .int m] (ad, A, B, sk, sw, E) (PubQ (ad, A, B, sk, sw, E) (q_learns (sw 0) p c m)) := by
  obtain ⟨-, hw, -, -⟩ := id hS
  have h8 := hw.np8
  have h4 := hw.nc4
  have h40 := hw.sp40
  have spE := hw.span
  have main : (pB (sw 0) p && (cB (sw 0) c && tB (sw 0) m)) = true → PJ X mX0_learns (ad, A, B, sk, sw, E) (q_learns (sw 0) p c m) 29 [some (.ref (ad 0)), some (.int p), some (.int c), some (.int m), none] [] (ad, A, B, sk, sw, E) := by
    intro hg
    rw [q_learns, if_pos hg, spE]
    simp only [Bool.and_eq_true] at hg
    obtain ⟨p, hp, rfl⟩ := hw.pOf hg.1
    obtain ⟨c, hc, rfl⟩ := hw.cOf hg.2.1
    obtain ⟨m, hm, rfl⟩ := hw.tOf hg.2.2
    rw [nI_clamp (by omega), nI_clamp (by omega), nI_clamp (by omega)]
    refine bX0_learns_29.go rfl trivial ?_
    refine gq hM hS hLI ((lw_V q1355 q1357 qs46 q131 q1358)) dX0_learns_30 (by decide) rfl (fun ad' A' B' sk' sw' E' q0 hk hS' hC => ?_)
    refine j_if_ne (tgt := 39) dX0_learns_33 (by decide) (fun h17 => ?_) (fun h17 => ?_)
    · rw [b2_n0, decide_eq_true_eq] at h17
      obtain ⟨h6, hE, hLI', hCo⟩ := hC h17
      have e6 : sw' 0 6 = nI (v 6) := by rw [hS'.1]; exact hw.1 6 (by decide)
      rw [if_pos h17, ← q0]
      refine bX0_learns_39.go rfl trivial ?_
      generalize hQ : firstF (lrB (sw 0) p c m) (v 6 + 1) 0 = Q
      refine loop_down (N := v 6 + 1) (I := fun t => Q = firstF (lrB (sw 0) p c m) (v 6 + 1 - t) t) (P := fun t => GJ X mX0_learns (ad, A, B, sk, sw, E) Q 42 [some (.ref (ad' 0)), some (.int (nI p)), some (.int (nI c)), some (.int (nI m)), some (.int (nI t))] [] (ad', A', B', sk', sw', E')) ?_ ?_ 0 (Nat.zero_le _) hQ.symm
      · intro hI
        refine bX0_learns_42.go rfl ⟨rfl, ⟨rfl, sq0⟩, trivial⟩ ?_
        rw [e6]
        refine j_icmp_gt (tgt := 75) dX0_learns_51 (by decide) (fun _ => ?_) (fun q => absurd (nI_lt (by omega) (by omega)) q)
        refine bX0_learns_75.go rfl trivial ?_
        exact g_ret dX0_learns_76 rfl (by rw [hI, Nat.sub_self]; rfl) hk
      · intro t ht hI ih
        rw [firstF_s ht] at hI
        refine bX0_learns_42.go rfl ⟨rfl, ⟨rfl, sq0⟩, trivial⟩ ?_
        rw [e6]
        refine j_icmp_gt (tgt := 75) dX0_learns_51 (by decide) (fun q => ?_) (fun _ => ?_)
        · rw [nI_ltI (by omega) (by omega)] at q; omega
        refine bX0_learns_54.go rfl trivial ?_
        refine cc0 (M' := mX0_isLearnt) (nA := 4) (As := [.int (nI p), .int (nI t), .int (nI c), .int (nI m)]) (ok_isLearntC hw h6 h17 hE hLI' hCo hp (by omega) hc hm) rec0 rfl ((lw_V q1477 q1479 qs55 q131 q1480)) dX0_learns_60 rfl (fun r x' q => ?_) hy_X0_isLearnt
        obtain ⟨rfl, rfl⟩ := q
        refine j_if_eq (tgt := 69) dX0_learns_63 (by decide) (fun z => ?_) (fun z => ?_)
        · rw [b2_0] at z
          refine bX0_learns_69.go rfl trivial ?_
          rw [nI_1]
          exact ih (by rw [hI, if_neg (by rw [z]; decide)])
        · rw [b2_n0] at z
          refine bX0_learns_66.go rfl trivial ?_
          exact g_ret dX0_learns_68 rfl (by rw [hI, if_pos z]) hk
    · rw [b2_0, decide_eq_false_iff_not] at h17
      refine bX0_learns_36.go rfl trivial ?_
      exact g_ret dX0_learns_38 rfl (by rw [if_neg h17]) hk
  refine C_start (L := [some (.ref (ad 0)), some (.int p), some (.int c), some (.int m), none]) 1 rfl ?_
  refine bX0_learns_0.go rfl (by first | exact ⟨⟨rfl, v, hw⟩, trivial⟩ | exact ⟨rfl, trivial⟩ | exact ⟨trivial, trivial⟩) ?_
  refine j_if_eq (tgt := 26) dX0_learns_5 (by decide) (fun h5 => ?_) (fun h5 => ?_)
  · refine bX0_learns_26.go rfl trivial ?_
    refine c_iret dX0_learns_28 rfl ?_
    exact ⟨ans (by clear main; simp only [clL_i, tmL_i, hrL_i, fIn_L, b2_0, b2_n0] at *; simp_all [q_learns] <;> (intros; simp_all)), KpX.rf.kp⟩
  · refine bX0_learns_8.go rfl (by first | exact ⟨⟨rfl, v, hw⟩, trivial⟩ | exact ⟨rfl, trivial⟩ | exact ⟨trivial, trivial⟩) ?_
    refine j_if_eq (tgt := 26) dX0_learns_14 (by decide) (fun h14 => ?_) (fun h14 => ?_)
    · refine bX0_learns_26.go rfl trivial ?_
      refine c_iret dX0_learns_28 rfl ?_
      exact ⟨ans (by clear main; simp only [clL_i, tmL_i, hrL_i, fIn_L, b2_0, b2_n0] at *; simp_all [q_learns] <;> (intros; simp_all)), KpX.rf.kp⟩
    · refine bX0_learns_17.go rfl (by first | exact ⟨⟨rfl, v, hw⟩, trivial⟩ | exact ⟨rfl, trivial⟩ | exact ⟨trivial, trivial⟩) ?_
      refine j_if_ne (tgt := 29) dX0_learns_23 (by decide) (fun h23 => ?_) (fun h23 => ?_)
      · exact main (by clear main; simp only [clL_i, tmL_i, hrL_i, fIn_L, b2_0, b2_n0] at *; simp_all)
      · refine bX0_learns_26.go rfl trivial ?_
        refine c_iret dX0_learns_28 rfl ?_
        exact ⟨ans (by clear main; simp only [clL_i, tmL_i, hrL_i, fIn_L, b2_0, b2_n0] at *; simp_all [q_learns] <;> (intros; simp_all)), KpX.rf.kp⟩
end Lrn
