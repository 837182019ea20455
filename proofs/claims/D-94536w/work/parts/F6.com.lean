set_option maxRecDepth 100000
/-! ===== UnseenClock: common ===== -/
section Com
variable {X : Cx} {mi : Nat} {ad : Nat → Nat} {A A' : Nat → Nat → Int32} {B : Nat → Nat → Int64} {sk : Nat → Nat → Nat} {sw : Nat → Nat → Int32} {E : Nat → Nat} {v : Nat → Nat} {w : Nat → Int32}
theorem bX0_common_0 : Blk CP mX0_common 0 7 [oAL 0, cQ0, qC_V 0 pTw fSqIs] := blk_c (s_aload_n dX0_common_0 rfl) <| blk_c (cgX0_1 (Or.inl q557) dX0_common_1) <| blk_c (q_C_V ok_sqIs (lw_V q1312 q1313 q1314 q133 q1315) hy_X2_is rfl (by decide) dX0_common_4) <| blk_nil
theorem bX0_common_10 : Blk CP mX0_common 10 25 [oIL 1, oI2L, oCL (lN 0), oC (nI 1), oAL 0, cF_V F_peopleC, oShl, oC (nI 1), oSub, oI2L, oS_JJJ pT3 fIn] := blk_c (s_iload_n dX0_common_10 rfl) <| blk_c (s_i2l dX0_common_11) <| blk_c (s_lconst dX0_common_12 (by decide +kernel)) <| blk_c (s_iconst dX0_common_13 (by decide +kernel)) <| blk_c (s_aload_n dX0_common_14 rfl) <| blk_c (c_F_V ok_peopleC (ci := 0) rfl (lw_V q1131 q1133 qs29 q131 q1134) hy_X0_people rfl (by decide) dX0_common_15) <| blk_c (s_ishl dX0_common_18) <| blk_c (s_iconst dX0_common_19 (by decide +kernel)) <| blk_c (s_isub dX0_common_20) <| blk_c (s_i2l dX0_common_21) <| blk_c (s_S_JJJ ok_sX0_in (fun _ _ _ h => h.1.1) (Or.inl (lw_S q179 q180 q131 q181)) hy_X0_in (by decide) dX0_common_22) <| blk_nil
theorem bX0_common_28 : Blk CP mX0_common 28 34 [oAL 0, oIL 2, oI2L, cF_J F_isClockC] := blk_c (s_aload_n dX0_common_28 rfl) <| blk_c (s_iload_n dX0_common_29 rfl) <| blk_c (s_i2l dX0_common_30) <| blk_c (c_F_J ok_isClockC (ci := 0) rfl (lw_V q1146 q1148 qs31 q131 q1149) hy_X0_isClock rfl (by decide) dX0_common_31) <| blk_nil
theorem bX0_common_37 : Blk CP mX0_common 37 43 [oAL 0, oIL 3, oI2L, cF_J F_isMomentC] := blk_c (s_aload_n dX0_common_37 rfl) <| blk_c (s_iload_n dX0_common_38 rfl) <| blk_c (s_i2l dX0_common_39) <| blk_c (c_F_J ok_isMomentC (ci := 0) rfl (lw_V q1308 q1310 qs43 q131 q1311) hy_X0_isMoment rfl (by decide) dX0_common_40) <| blk_nil
theorem bX0_common_46 : Blk CP mX0_common 46 48 [oC (-2)] := blk_c (s_bipush dX0_common_46 (by decide +kernel)) <| blk_nil
theorem bX0_common_49 : Blk CP mX0_common 49 50 [oAL 0] := blk_c (s_aload_n dX0_common_49 rfl) <| blk_nil
theorem bX0_common_56 : Blk CP mX0_common 56 58 [oC (-3)] := blk_c (s_bipush dX0_common_56 (by decide +kernel)) <| blk_nil
theorem bX0_common_59 : Blk CP mX0_common 59 61 [oAL 0, oIL 1] := blk_c (s_aload_n dX0_common_59 rfl) <| blk_c (s_iload_n dX0_common_60 rfl) <| blk_nil
theorem bX0_common_64 : Blk CP mX0_common 64 65 [oAL 0] := blk_c (s_aload_n dX0_common_64 rfl) <| blk_nil
theorem bX0_common_68 : Blk CP mX0_common 68 70 [oIL 2, oIL 3] := blk_c (s_iload_n dX0_common_68 rfl) <| blk_c (s_iload_n dX0_common_69 rfl) <| blk_nil
theorem bX0_common_73 : Blk CP mX0_common 73 78 [oIS 4, oC (nI 0), oIS 5] := blk_c (s_istore dX0_common_73 (by decide)) <| blk_c (s_iconst dX0_common_75 (by decide +kernel)) <| blk_c (s_istore dX0_common_76 (by decide)) <| blk_nil
theorem bX0_common_78 : Blk CP mX0_common 78 84 [oIL 5, oAL 0, cI 0 6] := blk_c (s_iload dX0_common_78) <| blk_c (s_aload_n dX0_common_80 rfl) <| blk_c (cgX0_6 (Or.inl q562) dX0_common_81) <| blk_nil
theorem bX0_common_87 : Blk CP mX0_common 87 94 [oAL 0, cR 0 12 7, oIL 5, cAI 7 128] := blk_c (s_aload_n dX0_common_87 rfl) <| blk_c (cgX0_12 (Or.inl q568) dX0_common_88) <| blk_c (s_iload dX0_common_91) <| blk_c (c_zald (fun _ => rfl) dX0_common_93) <| blk_nil
theorem bX0_common_97 : Blk CP mX0_common 97 103 [oAL 0, cR 0 5 4, oIL 5] := blk_c (s_aload_n dX0_common_97 rfl) <| blk_c (cgX0_5 (Or.inl q561) dX0_common_98) <| blk_c (s_iload dX0_common_101) <| blk_nil
theorem bX0_common_111 : Blk CP mX0_common 111 113 [oIL 2, oIL 3] := blk_c (s_iload_n dX0_common_111 rfl) <| blk_c (s_iload_n dX0_common_112 rfl) <| blk_nil
theorem bX0_common_116 : Blk CP mX0_common 116 118 [oIL 4] := blk_c (s_iload dX0_common_116) <| blk_nil
theorem bX0_common_121 : Blk CP mX0_common 121 122 [oC (-1)] := blk_c (s_iconst dX0_common_121 (by decide +kernel)) <| blk_nil
theorem bX0_common_123 : Blk CP mX0_common 123 78 [oInc 5 1, .inl (fun s => some s)] := blk_c (s_iinc dX0_common_123 (by decide +kernel) (by decide)) <| blk_c (s_goto (tgt := 78) dX0_common_126 (by decide)) <| blk_nil
theorem bX0_common_129 : Blk CP mX0_common 129 131 [oIL 4] := blk_c (s_iload dX0_common_129) <| blk_nil
theorem pb_common (hM : WkM X mi) (hS : SW v A sw) (hLI : LI E) {set c m : Int32} : RCc X mX0_common 1000 70000 [.ref (ad 0), .int set, .int c, .int m] (ad, A, B, sk, sw, E) (PubQ (ad, A, B, sk, sw, E) (q_common (sw 0) set c m)) := by
  obtain ⟨-, hw, -, -⟩ := id hS
  have h8 := hw.np8
  have h4 := hw.nc4
  have h40 := hw.sp40
  have spE := hw.span
  have hcp := cn_pos (sw 0)
  have main : (cB (sw 0) c && (tB (sw 0) m && setB (sw 0) set)) = true → PJ X mX0_common (ad, A, B, sk, sw, E) (q_common (sw 0) set c m) 49 [some (.ref (ad 0)), some (.int set), some (.int c), some (.int m), none, none] [] (ad, A, B, sk, sw, E) := by
    intro hg
    rw [q_common, if_pos hg]
    simp only [Bool.and_eq_true] at hg
    obtain ⟨c, hc, rfl⟩ := hw.cOf hg.1
    obtain ⟨m, hm, rfl⟩ := hw.tOf hg.2.1
    rw [nI_clamp (by omega), nI_clamp (by omega)]
    refine bX0_common_49.go rfl trivial ?_
    refine gq hM hS hLI ((lw_V q1355 q1357 qs46 q131 q1358)) dX0_common_50 (by decide) rfl (fun ad' A' B' sk' sw' E' q0 hk hS' hC => ?_)
    refine j_if_ne (tgt := 59) dX0_common_53 (by decide) (fun h17 => ?_) (fun h17 => ?_)
    · rw [b2_n0, decide_eq_true_eq] at h17
      obtain ⟨h6, hE, hLI', hCo⟩ := hC h17
      have e6 : sw' 0 6 = nI (v 6) := by rw [hS'.1]; exact hw.1 6 (by decide)
      rw [if_pos h17, ← q0]
      show GJ X mX0_common (ad, A, B, sk, sw, E) (cmC (sw 0) (rchB (cbB (sw 0) set) (cnC (sw 0))) c m) _ _ _ _
      refine bX0_common_59.go rfl trivial ?_
      refine cc0 (M' := mX0_meets) (nA := 1) (As := [.int set]) (ok_meetsC hS'.1 hw h17 hLI' hE h6 hCo) rec0 rfl ((lw_V q1454 q1456 qs53 q131 q1457)) dX0_common_61 rfl (fun r x' q => ?_) hy_X0_meets
      obtain ⟨rfl, A2, rfl, a1, a2⟩ := q
      have h6 : A2 0 6 = nI (cnC (sw 0)) := by rw [a1 0 (by decide)]; exact h6
      have hCo := hCo.cg (A' := A2) (fun k _ => ⟨a1 _ (by omega), a1 _ (by omega)⟩)
      have hk := hk.tr (Kp.ar (B := B') (ad := ad') (sk := sk') (sw := sw') (E := E') (A := A') (A' := A2) (fun j hj => a1 j (by omega)) (fun q _ => by rw [a1 0 (by decide)]))
      refine bX0_common_64.go rfl trivial ?_
      refine cc0 (M' := mX0_plainSeen) (nA := 0) (As := []) (ok_plainSeen hLI' (by omega)) rec0 rfl ((lw_V q1436 q1438 qs51 q131 q1439)) dX0_common_65 rfl (fun r x' q => ?_) hy_X0_plainSeen
      obtain ⟨rfl, rfl⟩ := q
      refine bX0_common_68.go rfl trivial ?_
      refine cc0 (M' := mX16_shows) (nA := 2) (As := [.int (nI c), .int (nI m)]) (ok_snShows (i := 0) (by omega) (by omega) (by omega)) (recS (by omega)) rfl ((lw_V q1390 q1391 q1392 q163 q1393)) dX0_common_70 rfl (fun r x' q => ?_) hy_X16_shows
      obtain ⟨rfl, rfl⟩ := q
      rw [(hCo 0 (by omega)).1 m hm c hc]
      refine bX0_common_73.go rfl trivial ?_
      refine loop_down (N := cnC (sw 0)) (I := fun j => ∀ k, k < j → (rchB (cbB (sw 0) set) (cnC (sw 0)) k) = true → shC (sw 0) k c m = shC (sw 0) 0 c m) (P := fun k => GJ X mX0_common (ad, A, B, sk, sw, E) (cmC (sw 0) (rchB (cbB (sw 0) set) (cnC (sw 0))) c m) 78 [some (.ref (ad' 0)), some (.int set), some (.int (nI c)), some (.int (nI m)), some (.int (shC (sw 0) 0 c m)), some (.int (nI k))] [] (ad', A2, B', sk', sw', E')) ?_ ?_ 0 (Nat.zero_le _) (fun k hk => absurd hk (Nat.not_lt_zero _))
      · intro hI
        refine bX0_common_78.go rfl (by repeat' first | exact trivial | rfl | assumption | omega | apply And.intro) ?_
        rw [h6]
        refine j_icmp_ge (tgt := 129) dX0_common_84 (by decide) (fun _ => ?_) (fun q => absurd (nI_le (Nat.le_refl _) (by omega)) q)
        refine bX0_common_129.go rfl trivial ?_
        exact g_ret dX0_common_131 rfl (cm_y (com := fun k => rchB (cbB (sw 0) set) (cnC (sw 0)) k) (sh := fun k => shC (sw 0) k c m) hI).symm hk
      · intro k hkk hI ih
        have nx : ((rchB (cbB (sw 0) set) (cnC (sw 0)) k) = true → shC (sw 0) k c m = shC (sw 0) 0 c m) → GJ X mX0_common (ad, A, B, sk, sw, E) (cmC (sw 0) (rchB (cbB (sw 0) set) (cnC (sw 0))) c m) 123 [some (.ref (ad' 0)), some (.int set), some (.int (nI c)), some (.int (nI m)), some (.int (shC (sw 0) 0 c m)), some (.int (nI k))] [] (ad', A2, B', sk', sw', E') := by
          intro hh
          refine bX0_common_123.go rfl trivial ?_
          rw [nI_1]
          refine ih (fun d hd => ?_)
          by_cases e : d = k
          · subst e; exact hh
          · exact hI d (by omega)
        refine bX0_common_78.go rfl (by repeat' first | exact trivial | rfl | assumption | omega | apply And.intro) ?_
        rw [h6]
        refine j_icmp_ge (tgt := 129) dX0_common_84 (by decide) (fun q => ?_) (fun _ => ?_)
        · rw [nI_leI (by omega) (by omega)] at q; omega
        refine bX0_common_87.go rfl (by simp (disch := omega) only [vpI]; repeat' first | exact trivial | rfl | assumption | omega | apply And.intro) ?_
        rw [nI_clamp (by omega), a2 k hkk]
        refine j_if_eq (tgt := 123) dX0_common_94 (by decide) (fun z => nx (fun y => by rw [(b2_0 _).mp z] at y; cases y)) (fun z => ?_)
        rw [b2_n0] at z
        refine bX0_common_97.go rfl (by repeat' first | exact trivial | rfl | assumption | omega | apply And.intro) ?_
        refine js_lget (i := k) hLI' (by omega) dX0_common_103 (lw_F q1117 q812 q814 q136 q816) (by decide) rfl ?_
        refine js_scast (i := k) (by omega) q1359 dX0_common_108 ?_
        refine bX0_common_111.go rfl trivial ?_
        refine cc0 (M' := mX16_shows) (nA := 2) (As := [.int (nI c), .int (nI m)]) (ok_snShows (i := k) (by omega) (by omega) (by omega)) (recS (by omega)) rfl ((lw_V q1390 q1391 q1392 q163 q1393)) dX0_common_113 rfl (fun r x' q => ?_) hy_X16_shows
        obtain ⟨rfl, rfl⟩ := q
        rw [(hCo k hkk).1 m hm c hc]
        refine bX0_common_116.go rfl trivial ?_
        refine j_icmp_eq (tgt := 123) dX0_common_118 (by decide) (fun y => nx (fun _ => y)) (fun y => ?_)
        refine bX0_common_121.go rfl trivial ?_
        exact g_ret dX0_common_122 rfl (cm_n (com := fun k => rchB (cbB (sw 0) set) (cnC (sw 0)) k) (sh := fun k => shC (sw 0) k c m) hkk z y).symm hk
    · rw [b2_0, decide_eq_false_iff_not] at h17
      refine bX0_common_56.go rfl trivial ?_
      exact g_ret dX0_common_58 rfl (by rw [if_neg h17]) hk
  refine C_start (L := [some (.ref (ad 0)), some (.int set), some (.int c), some (.int m), none, none]) 2 rfl ?_
  have out : (cB (sw 0) c && (tB (sw 0) m && setB (sw 0) set)) = false → PJ X mX0_common (ad, A, B, sk, sw, E) (q_common (sw 0) set c m) 46 [some (.ref (ad 0)), some (.int set), some (.int c), some (.int m), none, none] [] (ad, A, B, sk, sw, E) := by
    intro hf
    refine bX0_common_46.go rfl trivial ?_
    exact x_ret dX0_common_48 rfl (by rw [q_common, if_neg (by rw [hf]; decide)]) KpX.rf
  refine bX0_common_0.go rfl ⟨rfl, ⟨⟨rfl, trivial⟩, sq0⟩, trivial⟩ ?_
  rw [hw.is]
  refine j_if_eq (tgt := 46) dX0_common_7 (by decide) (fun h7 => ?_) (fun h7 => ?_)
  · rw [b2_0] at h7
    have ht : tB (sw 0) m = false := by rw [← tmL_i, tmL, h7]; rfl
    exact out (by rw [ht, Bool.false_and, Bool.and_false])
  refine bX0_common_10.go rfl (by repeat' first | exact trivial | rfl | exact ⟨v, hw⟩ | apply And.intro) ?_
  rw [fIn_L, hw.w2, show inL set (lN 0) (nI 1 <<< (sw 0 2 &&& 31) - nI 1).toInt64 = setB (sw 0) set from rfl]
  refine j_if_eq (tgt := 46) dX0_common_25 (by decide) (fun h25 => ?_) (fun h25 => ?_)
  · rw [b2_0] at h25
    exact out (by rw [h25, Bool.and_false, Bool.and_false])
  rw [b2_n0] at h25
  refine bX0_common_28.go rfl ⟨⟨rfl, v, hw⟩, trivial⟩ ?_
  rw [clL_i]
  refine j_if_eq (tgt := 46) dX0_common_34 (by decide) (fun h34 => ?_) (fun h34 => ?_)
  · rw [b2_0] at h34
    exact out (by rw [h34]; rfl)
  rw [b2_n0] at h34
  refine bX0_common_37.go rfl ⟨⟨rfl, v, hw⟩, trivial⟩ ?_
  rw [tmL_i]
  refine j_if_ne (tgt := 49) dX0_common_43 (by decide) (fun h43 => ?_) (fun h43 => ?_)
  · rw [b2_n0] at h43
    exact main (by rw [h34, h43, h25]; rfl)
  · rw [b2_0] at h43
    exact out (by rw [h43, Bool.false_and, Bool.and_false])
end Com
