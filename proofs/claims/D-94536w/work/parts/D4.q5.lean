set_option maxRecDepth 100000
/-! ===== UnseenClock: rings, hush, keptBy, kept, leastKept, keep, shifts, last ===== -/
section Q5
variable {X : Cx} {ad : Nat → Nat} {A A1 A2 : Nat → Nat → Int32} {B B1 B2 : Nat → Nat → Int64} {sk : Nat → Nat → Nat} {sw : Nat → Nat → Int32} {E : Nat → Nat} {v : Nat → Nat} {w : Nat → Int32}
def F_ringsC (o : Nat) (m h t : Int32) : Cv → Prop × Value := fun (ad, A, B, sk, sw, E) => (o = ad 0 ∧ ∃ tn : Nat, tn ≤ 40 ∧ nC (sw 0) ≤ 4 ∧ t = nI tn, .int (b2 (anyN (fun k => decide (m ≤ sumI (fun c => b2 (decide (A (60 + c) k = h))) (nC (sw 0)))) (t.toNatClampNeg + 1))))
theorem bX0_rings_0 : Blk CP mX0_rings 0 3 [oC (nI 0), oIS 4] := blk_c (s_iconst dX0_rings_0 (by decide +kernel)) <| blk_c (s_istore dX0_rings_1 (by decide)) <| blk_nil
theorem bX0_rings_3 : Blk CP mX0_rings 3 6 [oIL 4, oIL 3] := blk_c (s_iload dX0_rings_3) <| blk_c (s_iload_n dX0_rings_5 rfl) <| blk_nil
theorem bX0_rings_9 : Blk CP mX0_rings 9 17 [oAL 0, oIL 4, oIL 2, cF_II F_manyShowC, oIL 1] := blk_c (s_aload_n dX0_rings_9 rfl) <| blk_c (s_iload dX0_rings_10) <| blk_c (s_iload_n dX0_rings_12 rfl) <| blk_c (c_F_II ok_manyShowC (ci := 0) rfl (lw_V q1347 q1349 qs45 q131 q1350) hy_X0_manyShow rfl (by decide) dX0_rings_13) <| blk_c (s_iload_n dX0_rings_16 rfl) <| blk_nil
theorem bX0_rings_20 : Blk CP mX0_rings 20 21 [oC (nI 1)] := blk_c (s_iconst dX0_rings_20 (by decide +kernel)) <| blk_nil
theorem bX0_rings_22 : Blk CP mX0_rings 22 3 [oInc 4 1, .inl (fun s => some s)] := blk_c (s_iinc dX0_rings_22 (by decide +kernel) (by decide)) <| blk_c (s_goto (tgt := 3) dX0_rings_25 (by decide)) <| blk_nil
theorem bX0_rings_28 : Blk CP mX0_rings 28 29 [oC (nI 0)] := blk_c (s_iconst dX0_rings_28 (by decide +kernel)) <| blk_nil
theorem ok_ringsC : FC_III mX0_rings 0 F_ringsC := by
  rintro X o m h t ⟨ad, A, B, sk, sw, E⟩ ⟨rfl, tn, ht, h4, rfl⟩
  refine ⟨?_, rec0⟩
  dsimp only [F_ringsC]
  refine C_start (L := [some (.ref (ad 0)), some (.int m), some (.int h), some (.int (nI tn)), none]) 1 rfl ?_
  rw [nI_clamp (by omega)]
  refine bX0_rings_0.go rfl trivial ?_
  refine loop_down (N := tn + 1) (I := fun k => anyN (fun k => decide (m ≤ sumI (fun c => b2 (decide (A (60 + c) k = h))) (nC (sw 0)))) k = false) (P := fun k => JS CP X mX0_rings (rmOf mX0_rings.lv 0 0) (ZC X 0 0 _) 0 0 3 [some (.ref (ad 0)), some (.int m), some (.int h), some (.int (nI tn)), some (.int (nI k))] [] (ad, A, B, sk, sw, E)) ?_ ?_ 0 (by omega) rfl
  · intro hI
    refine bX0_rings_3.go rfl trivial ?_
    refine j_icmp_gt (tgt := 28) dX0_rings_6 (by decide) (fun h6 => ?_) (fun h6 => absurd (nI_lt (by omega) (by omega)) h6)
    refine bX0_rings_28.go rfl trivial ?_
    exact c_zret dX0_rings_29 rfl rfl ⟨by rw [hI]; rfl, rfl⟩
  · intro k hk hI ih
    refine bX0_rings_3.go rfl trivial ?_
    refine j_icmp_gt (tgt := 28) dX0_rings_6 (by decide) (fun h6 => ?_) (fun h6 => ?_)
    · rw [nI_ltI (by omega) (by omega)] at h6; omega
    · refine bX0_rings_9.go rfl ⟨⟨rfl, k, by omega, h4, rfl⟩, trivial⟩ ?_
      simp (disch := omega) only [nI_clamp]
      refine j_icmp_lt (tgt := 22) dX0_rings_17 (by decide) (fun h17 => ?_) (fun h17 => ?_)
      · refine bX0_rings_22.go rfl trivial ?_
        rw [nI_1]
        refine ih ?_
        simp only [anyN] at hI ⊢
        rw [hI, decide_eq_false (Int32.not_le.mpr h17)]; rfl
      · refine bX0_rings_20.go rfl trivial ?_
        refine c_zret dX0_rings_21 rfl rfl ⟨?_, rfl⟩
        rw [anyN_true.mpr ⟨k, hk, decide_eq_true (Int32.not_lt.mp h17)⟩]; rfl
theorem bX0_hush_0 : Blk CP mX0_hush 0 6 [oAL 0, oIL 1, oIL 2, cF_II F_isManyC] := blk_c (s_aload_n dX0_hush_0 rfl) <| blk_c (s_iload_n dX0_hush_1 rfl) <| blk_c (s_iload_n dX0_hush_2 rfl) <| blk_c (c_F_II ok_isManyC (ci := 0) rfl (lw_V q1338 q1340 qs44 q131 q1341) hy_X0_isMany rfl (by decide) dX0_hush_3) <| blk_nil
theorem bX0_hush_9 : Blk CP mX0_hush 9 15 [oAL 0, oIL 3, oI2L, cF_J F_isMomentC] := blk_c (s_aload_n dX0_hush_9 rfl) <| blk_c (s_iload_n dX0_hush_10 rfl) <| blk_c (s_i2l dX0_hush_11) <| blk_c (c_F_J ok_isMomentC (ci := 0) rfl (lw_V q1308 q1310 qs43 q131 q1311) hy_X0_isMoment rfl (by decide) dX0_hush_12) <| blk_nil
theorem bX0_hush_18 : Blk CP mX0_hush 18 26 [oIL 4, oI2L, oCL (lN 0), oCL (lN 1), oS_JJJ pT3 fIn] := blk_c (s_iload dX0_hush_18) <| blk_c (s_i2l dX0_hush_20) <| blk_c (s_lconst dX0_hush_21 (by decide +kernel)) <| blk_c (s_lconst dX0_hush_22 (by decide +kernel)) <| blk_c (s_S_JJJ ok_sX0_in (fun _ _ _ h => h.1.1) (Or.inl (lw_S q179 q180 q131 q181)) hy_X0_in (by decide) dX0_hush_23) <| blk_nil
theorem bX0_hush_29 : Blk CP mX0_hush 29 31 [oC (-2)] := blk_c (s_bipush dX0_hush_29 (by decide +kernel)) <| blk_nil
theorem bX0_hush_32 : Blk CP mX0_hush 32 38 [oC (-1), oIS 5, oC (nI 0), oIS 6] := blk_c (s_iconst dX0_hush_32 (by decide +kernel)) <| blk_c (s_istore dX0_hush_33 (by decide)) <| blk_c (s_iconst dX0_hush_35 (by decide +kernel)) <| blk_c (s_istore dX0_hush_36 (by decide)) <| blk_nil
theorem bX0_hush_38 : Blk CP mX0_hush 38 46 [oIL 6, oC (nI 1), oAL 0, cF_V F_peopleC, oShl] := blk_c (s_iload dX0_hush_38) <| blk_c (s_iconst dX0_hush_40 (by decide +kernel)) <| blk_c (s_aload_n dX0_hush_41 rfl) <| blk_c (c_F_V ok_peopleC (ci := 0) rfl (lw_V q1131 q1133 qs29 q131 q1134) hy_X0_people rfl (by decide) dX0_hush_42) <| blk_c (s_ishl dX0_hush_45) <| blk_nil
theorem bX0_hush_49 : Blk CP mX0_hush 49 52 [oIL 5, oC (-1)] := blk_c (s_iload dX0_hush_49) <| blk_c (s_iconst dX0_hush_51 (by decide +kernel)) <| blk_nil
theorem bX0_hush_55 : Blk CP mX0_hush 55 65 [oIL 6, oS_I pBits bitsI, oIL 5, oS_I pBits bitsI] := blk_c (s_iload dX0_hush_55) <| blk_c (s_S_I ok_sJ14_bitCount (fun _ _ _ h => h.1.1) (Or.inl (lw_S q1426 q1427 q162 q1428)) hy_J14_bitCount (by decide) dX0_hush_57) <| blk_c (s_iload dX0_hush_60) <| blk_c (s_S_I ok_sJ14_bitCount (fun _ _ _ h => h.1.1) (Or.inl (lw_S q1426 q1427 q162 q1428)) hy_J14_bitCount (by decide) dX0_hush_62) <| blk_nil
theorem bX0_hush_68 : Blk CP mX0_hush 68 109 [.inl (fun s => some s)] := blk_c (s_goto (tgt := 109) dX0_hush_68 (by decide)) <| blk_nil
theorem bX0_hush_71 : Blk CP mX0_hush 71 85 [oAL 0, cR 0 4 3, oAL 0, cQ0, oAL 0, cR 0 2 2, oIL 6] := blk_c (s_aload_n dX0_hush_71 rfl) <| blk_c (cgX0_4 (Or.inl q560) dX0_hush_72) <| blk_c (s_aload_n dX0_hush_75 rfl) <| blk_c (cgX0_1 (Or.inl q557) dX0_hush_76) <| blk_c (s_aload_n dX0_hush_79 rfl) <| blk_c (cgX0_2 (Or.inl q558) dX0_hush_80) <| blk_c (s_iload dX0_hush_83) <| blk_nil
theorem bX0_hush_88 : Blk CP mX0_hush 88 92 [oAL 0, cR 0 4 3] := blk_c (s_aload_n dX0_hush_88 rfl) <| blk_c (cgX0_4 (Or.inl q560) dX0_hush_89) <| blk_nil
theorem bX0_hush_95 : Blk CP mX0_hush 95 102 [oAL 0, oIL 1, oIL 2, oIL 3, cF_III F_ringsC] := blk_c (s_aload_n dX0_hush_95 rfl) <| blk_c (s_iload_n dX0_hush_96 rfl) <| blk_c (s_iload_n dX0_hush_97 rfl) <| blk_c (s_iload_n dX0_hush_98 rfl) <| blk_c (c_F_III ok_ringsC (ci := 0) rfl (lw_V q1534 q1536 qs58 q131 q1537) hy_X0_rings rfl (by decide) dX0_hush_99) <| blk_nil
theorem bX0_hush_105 : Blk CP mX0_hush 105 109 [oIL 6, oIS 5] := blk_c (s_iload dX0_hush_105) <| blk_c (s_istore dX0_hush_107 (by decide)) <| blk_nil
theorem bX0_hush_109 : Blk CP mX0_hush 109 38 [oInc 6 1, .inl (fun s => some s)] := blk_c (s_iinc dX0_hush_109 (by decide +kernel) (by decide)) <| blk_c (s_goto (tgt := 38) dX0_hush_112 (by decide)) <| blk_nil
theorem bX0_hush_115 : Blk CP mX0_hush 115 118 [oIL 5, oC (-1)] := blk_c (s_iload dX0_hush_115) <| blk_c (s_iconst dX0_hush_117 (by decide +kernel)) <| blk_nil
theorem bX0_hush_121 : Blk CP mX0_hush 121 124 [oIL 4, oC (nI 1)] := blk_c (s_iload dX0_hush_121) <| blk_c (s_iconst dX0_hush_123 (by decide +kernel)) <| blk_nil
theorem bX0_hush_127 : Blk CP mX0_hush 127 137 [oIL 5, .inl (fun s => some s)] := blk_c (s_iload dX0_hush_127) <| blk_c (s_goto (tgt := 137) dX0_hush_129 (by decide)) <| blk_nil
theorem bX0_hush_132 : Blk CP mX0_hush 132 137 [oIL 5, oS_I pBits bitsI] := blk_c (s_iload dX0_hush_132) <| blk_c (s_S_I ok_sJ14_bitCount (fun _ _ _ h => h.1.1) (Or.inl (lw_S q1426 q1427 q162 q1428)) hy_J14_bitCount (by decide) dX0_hush_134) <| blk_nil
theorem pb_hush (hS : SW v A sw) {m h t u : Int32} : RCc X mX0_hush 1000 70000 [.ref (ad 0), .int m, .int h, .int t, .int u] (ad, A, B, sk, sw, E) (PubQ (ad, A, B, sk, sw, E) (q_hush (sw 0) m h t u)) := by
  obtain ⟨-, hw, e7, ep⟩ := id hS
  have h4 := hw.nc4
  have h8 := hw.np8
  have h40 := hw.sp40
  have npE := hw.npE
  have ncE := hw.ncE
  obtain ⟨es, hs⟩ := shl1 (v 2) (by omega)
  have main : (tB (sw 0) t && (inL m (lN 1) 4 && (hB h && inL u (lN 0) (lN 1)))) = true → PJ X mX0_hush (ad, A, B, sk, sw, E) (q_hush (sw 0) m h t u) 32 [some (.ref (ad 0)), some (.int m), some (.int h), some (.int t), some (.int u), none, none] [] (ad, A, B, sk, sw, E) := by
    intro hg
    rw [q_hush, if_pos hg]
    simp only [Bool.and_eq_true] at hg
    obtain ⟨t, ht, rfl⟩ := hw.tOf hg.1
    rw [nI_clamp (by omega), huV, npE]
    refine bX0_hush_32.go rfl trivial ?_
    refine loop_down (N := 2 ^ v 2) (I := fun _ => True) (P := fun s => ∀ A' B' sk' sw' E', KpX A B sk sw E A' B' sk' sw' E' → PJ X mX0_hush (ad, A, B, sk, sw, E) _ 38 [some (.ref (ad 0)), some (.int m), some (.int h), some (.int (nI t)), some (.int u), some (.int (bstF (blB (sw 0) m h t) s)), some (.int (nI s))] [] (ad, A', B', sk', sw', E')) ?_ ?_ 0 (Nat.zero_le _) trivial A B sk sw E KpX.rf
    · intro _ A' B' sk' sw' E' k0
      have e0 : sw' 0 = sw 0 := k0.2.2.2.1 0 (by decide)
      refine bX0_hush_38.go rfl ⟨rfl, trivial⟩ ?_
      rw [e0, npE, es]
      refine j_icmp_ge (tgt := 115) dX0_hush_46 (by decide) (fun h38 => ?_) (fun h38 => absurd (nI_le (Nat.le_refl _) (by omega)) h38)
      refine bX0_hush_115.go rfl trivial ?_
      refine j_icmp_eq (tgt := 127) dX0_hush_118 (by decide) (fun h49 => ?_) (fun h49 => ?_)
      · refine bX0_hush_127.go rfl trivial ?_
        exact x_ret dX0_hush_137 rfl (by rw [if_pos (Or.inl h49)]) k0
      · refine bX0_hush_121.go rfl trivial ?_
        refine j_icmp_ne (tgt := 132) dX0_hush_124 (by decide) (fun h55 => ?_) (fun h55 => ?_)
        · refine bX0_hush_132.go rfl ⟨bst_b _ _ (by omega) h49, trivial⟩ ?_
          exact x_ret dX0_hush_137 rfl (by rw [if_neg (fun h => h.elim h49 h55)]) k0
        · refine bX0_hush_127.go rfl trivial ?_
          exact x_ret dX0_hush_137 rfl (by rw [if_pos (Or.inr h55)]) k0
    · intro s hsn _ ih A' B' sk' sw' E' k0
      have e0 : sw' 0 = sw 0 := k0.2.2.2.1 0 (by decide)
      have hS' := hS.kp k0
      refine bX0_hush_38.go rfl ⟨rfl, trivial⟩ ?_
      rw [e0, npE, es]
      refine j_icmp_ge (tgt := 115) dX0_hush_46 (by decide) (fun h38 => ?_) (fun h38 => ?_)
      · rw [nI_leI (by omega) (by omega)] at h38; omega
      · have go71 : ¬ (¬ bstF (blB (sw 0) m h t) s = -1 ∧ ¬ bitsI (nI s) < bitsI (bstF (blB (sw 0) m h t) s)) → PJ X mX0_hush (ad, A, B, sk, sw, E) (if bstF (blB (sw 0) m h t) (2 ^ v 2) = -1 ∨ u = nI 1 then bstF (blB (sw 0) m h t) (2 ^ v 2) else bitsI (bstF (blB (sw 0) m h t) (2 ^ v 2))) 71 [some (.ref (ad 0)), some (.int m), some (.int h), some (.int (nI t)), some (.int u), some (.int (bstF (blB (sw 0) m h t) s)), some (.int (nI s))] [] (ad, A', B', sk', sw', E') := by
          intro hb
          refine bX0_hush_71.go rfl (by repeat' first | exact trivial | rfl | assumption | omega | apply And.intro) ?_
          refine js_begins (w1 := gnW (sw 0) (nI s)) (by rw [e0]; exact hw) (by rw [e0]; exact gn_eq _ _) (lw_V q1154 q1155 q1156 q137 q1157) dX0_hush_85 (by decide) rfl (fun A1 sk1 sw1 E1 k1 b1 e1 s1 => ?_)
          refine bX0_hush_88.go rfl (by repeat' first | exact trivial | rfl | assumption | omega | apply And.intro) ?_
          refine js_goes (gn_cro hw (by omega) b1 s1 e1 hS'.2.2.2) (lw_V q1188 q1189 q1190 q137 q1191) dX0_hush_92 (by decide) rfl (fun A2 B2 k2 g2 => ?_)
          rw [e1] at g2
          have C := gn_pl hw (by omega) b1 g2
          have k3 := k0.tr (k1.tr k2)
          have e3 : sw1 0 = sw 0 := k3.2.2.2.1 0 (by decide)
          refine bX0_hush_95.go rfl ⟨⟨rfl, t, by omega, by rw [e3, ncE]; exact h4, rfl⟩, trivial⟩ ?_
          simp (disch := omega) only [nI_clamp]
          have eS : anyN (fun k => decide (m ≤ sumI (fun c => b2 (decide (A2 (60 + c) k = h))) (nC (sw1 0)))) (t + 1) = blB (sw 0) m h t s := by
            refine anyN_congr (fun k hk => ?_)
            have eN : nC (sw1 0) = nC (gnW (sw 0) (nI s)) := by rw [e3, ncE, (hw.gn (x := s) (by omega)).ncE, va_up_ne _ _ (by decide)]
            rw [eN, many_e (hw.gn (by omega)) C (by rw [va_up_ne _ _ (by decide)]; omega)]
          rw [eS]
          refine j_if_eq (tgt := 109) dX0_hush_102 (by decide) (fun h70 => ?_) (fun h70 => ?_)
          · rw [b2_0] at h70
            have e : bstF (blB (sw 0) m h t) (s + 1) = bstF (blB (sw 0) m h t) s := by
              rw [bstF, if_neg hb, if_neg (by rw [h70]; decide)]
            refine bX0_hush_109.go rfl trivial ?_
            have := ih trivial A2 B2 sk1 sw1 E1 k3
            rw [e] at this
            rw [nI_1]
            exact this
          · rw [b2_n0] at h70
            have e : bstF (blB (sw 0) m h t) (s + 1) = nI s := by
              rw [bstF, if_neg hb, if_pos h70]
            refine bX0_hush_105.go rfl trivial ?_
            refine bX0_hush_109.go rfl trivial ?_
            have := ih trivial A2 B2 sk1 sw1 E1 k3
            rw [e] at this
            rw [nI_1]
            exact this
        refine bX0_hush_49.go rfl trivial ?_
        refine j_icmp_eq (tgt := 71) dX0_hush_52 (by decide) (fun h31 => go71 (fun h => h.1 h31)) (fun h31 => ?_)
        refine bX0_hush_55.go rfl ⟨⟨s, by omega, rfl⟩, bst_b _ _ (by omega) h31, trivial⟩ ?_
        refine j_icmp_lt (tgt := 71) dX0_hush_65 (by decide) (fun h44 => go71 (fun h => h.2 h44)) (fun h44 => ?_)
        have e : bstF (blB (sw 0) m h t) (s + 1) = bstF (blB (sw 0) m h t) s := by
          rw [bstF, if_pos ⟨h31, h44⟩]
        refine bX0_hush_68.go rfl trivial ?_
        refine bX0_hush_109.go rfl trivial ?_
        have := ih trivial A' B' sk' sw' E' k0
        rw [e] at this
        rw [nI_1]
        exact this
  refine C_start (L := [some (.ref (ad 0)), some (.int m), some (.int h), some (.int t), some (.int u), none, none]) 2 rfl ?_
  refine bX0_hush_0.go rfl (by first | exact ⟨⟨rfl, v, hw⟩, trivial⟩ | exact ⟨rfl, trivial⟩ | exact ⟨trivial, trivial⟩) ?_
  refine j_if_eq (tgt := 29) dX0_hush_6 (by decide) (fun h6 => ?_) (fun h6 => ?_)
  · refine bX0_hush_29.go rfl trivial ?_
    refine c_iret dX0_hush_31 rfl ?_
    exact ⟨ans (by clear main; simp only [clL_i, tmL_i, hrL_i, fIn_L, b2_0, b2_n0] at *; simp_all [q_hush, tB, sqB] <;> (intros; simp_all)), KpX.rf.kp⟩
  · refine bX0_hush_9.go rfl (by first | exact ⟨⟨rfl, v, hw⟩, trivial⟩ | exact ⟨rfl, trivial⟩ | exact ⟨trivial, trivial⟩) ?_
    refine j_if_eq (tgt := 29) dX0_hush_15 (by decide) (fun h15 => ?_) (fun h15 => ?_)
    · refine bX0_hush_29.go rfl trivial ?_
      refine c_iret dX0_hush_31 rfl ?_
      exact ⟨ans (by clear main; simp only [clL_i, tmL_i, hrL_i, fIn_L, b2_0, b2_n0] at *; simp_all [q_hush, tB, sqB] <;> (intros; simp_all)), KpX.rf.kp⟩
    · refine bX0_hush_18.go rfl (by first | exact ⟨⟨rfl, v, hw⟩, trivial⟩ | exact ⟨rfl, trivial⟩ | exact ⟨trivial, trivial⟩) ?_
      refine j_if_ne (tgt := 32) dX0_hush_26 (by decide) (fun h26 => ?_) (fun h26 => ?_)
      · exact main (by clear main; simp only [clL_i, tmL_i, hrL_i, fIn_L, b2_0, b2_n0] at *; simp_all [tB, sqB])
      · refine bX0_hush_29.go rfl trivial ?_
        refine c_iret dX0_hush_31 rfl ?_
        exact ⟨ans (by clear main; simp only [clL_i, tmL_i, hrL_i, fIn_L, b2_0, b2_n0] at *; simp_all [q_hush, tB, sqB] <;> (intros; simp_all)), KpX.rf.kp⟩
theorem CrO.wr {sw : Nat → Nat → Int32} (h : CrO A1 sw E v) (e3 : A2 3 13 = A1 3 13) (e7 : A2 37 = A1 37) : CrO A2 sw E v := ⟨h.1, h.2.1, by rw [e3]; exact h.2.2.1, by rw [e7]; exact h.2.2.2⟩
theorem BegA.kept {aw : Int32} (b : BegA A A1 aw) (h4 : v 1 ≤ 4) {c : Nat} {n : Int32} : cfEq v (cfC (upA A1 38 c n) w) (cfK w c n) := by
  have e3 : upA A1 38 c n 3 = A1 3 := upA_ne (by decide)
  refine ⟨rfl, fun c' hc => ?_, fun n hn => ?_, ?_⟩
  · show upA A1 38 c n 38 c' = if c' = c then n else nI 0
    rw [upA_at, b.2.2.2.2.2.2 c' (by omega)]
  · show tkC (upA A1 38 c _) n = false
    simp only [tkC, e3, b.2.2.2.1]
    rw [decide_eq_false (by rw [nI_ltI (by omega) (by omega)]; omega)]; rfl
  · show (!decide (upA A1 38 c n 3 16 = 0)) = false
    rw [e3, b.2.2.2.2.1]; decide
abbrev XJ (X : Cx) (M : MD) (ad : Nat → Nat) (A : Nat → Nat → Int32) (B : Nat → Nat → Int64) (sk : Nat → Nat → Nat) (sw : Nat → Nat → Int32) (E : Nat → Nat) (Q : Option Value → (Nat → Nat → Int32) → (Nat → Nat → Int64) → (Nat → Nat → Nat) → (Nat → Nat → Int32) → (Nat → Nat) → Prop) (pc : Nat) (L : List (Option Value)) (st : List Value) (x : Cv) : Prop := JS CP X M (rmOf M.lv 0 0) (ZC X 0 0 (fun r x' => ∃ A' B' sk' sw' E', x' = (ad, A', B', sk', sw', E') ∧ KpX A B sk sw E A' B' sk' sw' E' ∧ Q r A' B' sk' sw' E')) 0 0 pc L st x
theorem bX0_keptBy_0 : Blk CP mX0_keptBy 0 16 [oAL 0, cR 0 4 3, oAL 0, cQ0, oAL 0, cR 0 2 2, oAL 0, cI 0 3] := blk_c (s_aload_n dX0_keptBy_0 rfl) <| blk_c (cgX0_4 (Or.inl q560) dX0_keptBy_1) <| blk_c (s_aload_n dX0_keptBy_4 rfl) <| blk_c (cgX0_1 (Or.inl q557) dX0_keptBy_5) <| blk_c (s_aload_n dX0_keptBy_8 rfl) <| blk_c (cgX0_2 (Or.inl q558) dX0_keptBy_9) <| blk_c (s_aload_n dX0_keptBy_12 rfl) <| blk_c (cgX0_3 (Or.inl q559) dX0_keptBy_13) <| blk_nil
theorem bX0_keptBy_19 : Blk CP mX0_keptBy 19 33 [oAL 0, cR 0 4 3, cR 3 8 38, oIL 1, oIL 2, cSI 38 4, oAL 0, cR 0 4 3] := blk_c (s_aload_n dX0_keptBy_19 rfl) <| blk_c (cgX0_4 (Or.inl q560) dX0_keptBy_20) <| blk_c (cgX3_8 (Or.inr ⟨_, nq500⟩) dX0_keptBy_23) <| blk_c (s_iload_n dX0_keptBy_26 rfl) <| blk_c (s_iload_n dX0_keptBy_27 rfl) <| blk_c (c_iast (fun _ => rfl) dX0_keptBy_28) <| blk_c (s_aload_n dX0_keptBy_29 rfl) <| blk_c (cgX0_4 (Or.inl q560) dX0_keptBy_30) <| blk_nil
theorem bX0_keptBy_36 : Blk CP mX0_keptBy 36 40 [oAL 0, cR 0 4 3] := blk_c (s_aload_n dX0_keptBy_36 rfl) <| blk_c (cgX0_4 (Or.inl q560) dX0_keptBy_37) <| blk_nil
theorem ok_keptByC (hS : SX w v A sw) {c : Nat} {n : Int32} (hc : c < v 1) : XC X mX0_keptBy [.ref (ad 0), .int (nI c), .int n] ad A B sk sw E (fun r A' B' sk' sw' E' => r = some (.ref (ad 3)) ∧ CrsC A' v (cfK w c n) (rsK w c n) ∧ sw' 1 = w ∧ SqL E' 1) := by
  obtain ⟨e0, hw, e7, ep⟩ := hS
  have h4 := hw.nc4
  refine C_start (L := [some (.ref (ad 0)), some (.int (nI c)), some (.int n)]) 0 rfl ?_
  refine bX0_keptBy_0.go rfl (by repeat' first | exact trivial | rfl | assumption | omega | apply And.intro) ?_
  refine js_begins (w1 := w) (by rw [e0]; exact hw) (by rw [e0]; exact SqEq.rf w) (lw_V q1154 q1155 q1156 q137 q1157) dX0_keptBy_16 (by decide) rfl (fun A1 sk1 sw1 E1 k1 b1 e1 s1 => ?_)
  refine bX0_keptBy_19.go rfl (by (try simp (disch := omega) only [nI_add, pk_mul, pk_sub, nI_clamp, vpI]); repeat' first | exact trivial | rfl | assumption | omega | apply And.intro) ?_
  simp (disch := omega) only [nI_clamp]
  have k1' : KpX A B sk sw E (upA A1 38 c n) B sk1 sw1 E1 := ⟨fun j a b => by rw [upA_ne (by omega)]; exact k1.1 j a b, k1.2⟩
  refine js_goes ((b1.cro s1 e1 hw e7.symm ep).wr (by rw [upA_ne (by decide)]) (upA_ne (by decide))) (lw_V q1188 q1189 q1190 q137 q1191) dX0_keptBy_33 (by decide) rfl (fun A2 B2 k2 g2 => ?_)
  refine bX0_keptBy_36.go rfl (by repeat' first | exact trivial | rfl | assumption | omega | apply And.intro) ?_
  refine c_aret dX0_keptBy_40 rfl (Or.inl ⟨_, rfl⟩) ⟨A2, B2, sk1, sw1, E1, rfl, k1'.tr k2, rfl, ?_, e1, s1⟩
  rw [e1] at g2
  exact CrsC.z rfl (g2.crs (od' := fun _ => nI 0) hw (b1.kept hw.nc4))
theorem bX0_kept_0 : Blk CP mX0_kept 0 6 [oAL 0, oIL 1, oI2L, cF_J F_isClockC] := blk_c (s_aload_n dX0_kept_0 rfl) <| blk_c (s_iload_n dX0_kept_1 rfl) <| blk_c (s_i2l dX0_kept_2) <| blk_c (c_F_J ok_isClockC (ci := 0) rfl (lw_V q1146 q1148 qs31 q131 q1149) hy_X0_isClock rfl (by decide) dX0_kept_3) <| blk_nil
theorem bX0_kept_9 : Blk CP mX0_kept 9 18 [oIL 2, oI2L, oCL (lN 0), oCL (40), oS_JJJ pT3 fIn] := blk_c (s_iload_n dX0_kept_9 rfl) <| blk_c (s_i2l dX0_kept_10) <| blk_c (s_lconst dX0_kept_11 (by decide +kernel)) <| blk_c (s_ldc2 dX0_kept_12 q1550) <| blk_c (s_S_JJJ ok_sX0_in (fun _ _ _ h => h.1.1) (Or.inl (lw_S q179 q180 q131 q181)) hy_X0_in (by decide) dX0_kept_15) <| blk_nil
theorem bX0_kept_21 : Blk CP mX0_kept 21 27 [oAL 0, oIL 3, oI2L, cF_J F_isMomentC] := blk_c (s_aload_n dX0_kept_21 rfl) <| blk_c (s_iload_n dX0_kept_22 rfl) <| blk_c (s_i2l dX0_kept_23) <| blk_c (c_F_J ok_isMomentC (ci := 0) rfl (lw_V q1308 q1310 qs43 q131 q1311) hy_X0_isMoment rfl (by decide) dX0_kept_24) <| blk_nil
theorem bX0_kept_30 : Blk CP mX0_kept 30 33 [oAL 0, oIL 1, oIL 2] := blk_c (s_aload_n dX0_kept_30 rfl) <| blk_c (s_iload_n dX0_kept_31 rfl) <| blk_c (s_iload_n dX0_kept_32 rfl) <| blk_nil
theorem bX0_kept_36 : Blk CP mX0_kept 36 48 [cR 3 1 31, oIL 1, cW 31 60 4, oIL 3, cWI 60 4 41 1, .inl (fun s => some s)] := blk_c (cgX3_1 (Or.inr ⟨_, nq490⟩) dX0_kept_36) <| blk_c (s_iload_n dX0_kept_39 rfl) <| blk_c (c_W (t := 8) (ty := .int) (fun _ => rfl) (fun _ _ _ _ _ _ => rfl) dX0_kept_40) <| blk_c (s_iload_n dX0_kept_41 rfl) <| blk_c (c_wiald ar_shows dX0_kept_42) <| blk_c (s_goto (tgt := 48) dX0_kept_43 (by decide)) <| blk_nil
theorem bX0_kept_46 : Blk CP mX0_kept 46 48 [oC (-2)] := blk_c (s_bipush dX0_kept_46 (by decide +kernel)) <| blk_nil
theorem pb_kept (hS : SW v A sw) {c n m : Int32} : RCc X mX0_kept 1000 70000 [.ref (ad 0), .int c, .int n, .int m] (ad, A, B, sk, sw, E) (PubQ (ad, A, B, sk, sw, E) (q_kept (sw 0) c n m)) := by
  obtain ⟨-, hw, e7, ep⟩ := id hS
  have h4 := hw.nc4
  have h40 := hw.sp40
  have main : (cB (sw 0) c && (inL n (lN 0) 40 && tB (sw 0) m)) = true → PJ X mX0_kept (ad, A, B, sk, sw, E) (q_kept (sw 0) c n m) 30 [some (.ref (ad 0)), some (.int c), some (.int n), some (.int m)] [] (ad, A, B, sk, sw, E) := by
    intro hg
    rw [q_kept, if_pos hg]
    simp only [Bool.and_eq_true] at hg
    obtain ⟨c, hc, rfl⟩ := hw.cOf hg.1
    obtain ⟨m, hm, rfl⟩ := hw.tOf hg.2.2
    rw [nI_clamp (by omega), nI_clamp (by omega)]
    refine bX0_kept_30.go rfl trivial ?_
    refine xq (M' := mX0_keptBy) (As := [.int (nI c), .int n]) (nA := 2) (ok_keptByC hS hc) rec0 rfl ((lw_V q1551 q1553 qs59 q131 q1554)) dX0_kept_33 rfl hy_X0_keptBy (fun r A1 B1 sk1 sw1 E1 k1 q1 => ?_)
    obtain ⟨rfl, q1, -, -⟩ := q1
    refine bX0_kept_36.go rfl (by (try simp (disch := omega) only [nI_add, pk_mul, pk_sub, nI_clamp, vpI]); repeat' first | exact trivial | rfl | assumption | omega | apply And.intro) ?_
    refine x_ret dX0_kept_48 rfl ?_ k1
    simp (disch := omega) only [nI_clamp]
    rw [q1.2.2.2.2.1 m hm c hc]
    rfl
  refine C_start (L := [some (.ref (ad 0)), some (.int c), some (.int n), some (.int m)]) 0 rfl ?_
  refine bX0_kept_0.go rfl (by first | exact ⟨⟨rfl, v, hw⟩, trivial⟩ | exact ⟨rfl, trivial⟩ | exact ⟨trivial, trivial⟩) ?_
  refine j_if_eq (tgt := 46) dX0_kept_6 (by decide) (fun h6 => ?_) (fun h6 => ?_)
  · refine bX0_kept_46.go rfl trivial ?_
    refine c_iret dX0_kept_48 rfl ?_
    exact ⟨ans (by clear main; simp only [clL_i, tmL_i, hrL_i, fIn_L, b2_0, b2_n0] at *; simp_all [q_kept] <;> (intros; simp_all)), KpX.rf.kp⟩
  · refine bX0_kept_9.go rfl (by first | exact ⟨⟨rfl, v, hw⟩, trivial⟩ | exact ⟨rfl, trivial⟩ | exact ⟨trivial, trivial⟩) ?_
    refine j_if_eq (tgt := 46) dX0_kept_18 (by decide) (fun h18 => ?_) (fun h18 => ?_)
    · refine bX0_kept_46.go rfl trivial ?_
      refine c_iret dX0_kept_48 rfl ?_
      exact ⟨ans (by clear main; simp only [clL_i, tmL_i, hrL_i, fIn_L, b2_0, b2_n0] at *; simp_all [q_kept] <;> (intros; simp_all)), KpX.rf.kp⟩
    · refine bX0_kept_21.go rfl (by first | exact ⟨⟨rfl, v, hw⟩, trivial⟩ | exact ⟨rfl, trivial⟩ | exact ⟨trivial, trivial⟩) ?_
      refine j_if_eq (tgt := 46) dX0_kept_27 (by decide) (fun h27 => ?_) (fun h27 => ?_)
      · refine bX0_kept_46.go rfl trivial ?_
        refine c_iret dX0_kept_48 rfl ?_
        exact ⟨ans (by clear main; simp only [clL_i, tmL_i, hrL_i, fIn_L, b2_0, b2_n0] at *; simp_all [q_kept] <;> (intros; simp_all)), KpX.rf.kp⟩
      · exact main (by clear main; simp only [clL_i, tmL_i, hrL_i, fIn_L, b2_0, b2_n0] at *; simp_all)
theorem bX0_leastKept_0 : Blk CP mX0_leastKept 0 3 [oC (nI 0), oIS 4] := blk_c (s_iconst dX0_leastKept_0 (by decide +kernel)) <| blk_c (s_istore dX0_leastKept_1 (by decide)) <| blk_nil
theorem bX0_leastKept_3 : Blk CP mX0_leastKept 3 7 [oIL 4, oC (nI 40)] := blk_c (s_iload dX0_leastKept_3) <| blk_c (s_bipush dX0_leastKept_5 (by decide +kernel)) <| blk_nil
theorem bX0_leastKept_10 : Blk CP mX0_leastKept 10 14 [oAL 0, oIL 1, oIL 4] := blk_c (s_aload_n dX0_leastKept_10 rfl) <| blk_c (s_iload_n dX0_leastKept_11 rfl) <| blk_c (s_iload dX0_leastKept_12) <| blk_nil
theorem bX0_leastKept_17 : Blk CP mX0_leastKept 17 25 [cR 3 1 31, oIL 1, cW 31 60 4, oIL 2, cWI 60 4 41 1, oIL 3] := blk_c (cgX3_1 (Or.inr ⟨_, nq490⟩) dX0_leastKept_17) <| blk_c (s_iload_n dX0_leastKept_20 rfl) <| blk_c (c_W (t := 8) (ty := .int) (fun _ => rfl) (fun _ _ _ _ _ _ => rfl) dX0_leastKept_21) <| blk_c (s_iload_n dX0_leastKept_22 rfl) <| blk_c (c_wiald ar_shows dX0_leastKept_23) <| blk_c (s_iload_n dX0_leastKept_24 rfl) <| blk_nil
theorem bX0_leastKept_28 : Blk CP mX0_leastKept 28 30 [oIL 4] := blk_c (s_iload dX0_leastKept_28) <| blk_nil
theorem bX0_leastKept_31 : Blk CP mX0_leastKept 31 3 [oInc 4 1, .inl (fun s => some s)] := blk_c (s_iinc dX0_leastKept_31 (by decide +kernel) (by decide)) <| blk_c (s_goto (tgt := 3) dX0_leastKept_34 (by decide)) <| blk_nil
theorem bX0_leastKept_37 : Blk CP mX0_leastKept 37 38 [oC (-1)] := blk_c (s_iconst dX0_leastKept_37 (by decide +kernel)) <| blk_nil
theorem ok_leastKeptC (hS : SX w v A sw) {c m : Nat} {h : Int32} (hc : c < v 1) (hm : m ≤ v 6) : XC X mX0_leastKept [.ref (ad 0), .int (nI c), .int (nI m), .int h] ad A B sk sw E (fun r A' B' sk' sw' E' => r = some (.int (lkV w c m h)) ∧ (lkV w c m h = -1 ∨ CrsC A' v (cfK w c (lkV w c m h)) (rsK w c (lkV w c m h)))) := by
  have h4 := hS.2.1.nc4
  have h40 := hS.2.1.sp40
  refine C_start (L := [some (.ref (ad 0)), some (.int (nI c)), some (.int (nI m)), some (.int h), none]) 1 rfl ?_
  refine bX0_leastKept_0.go rfl trivial ?_
  refine loop_down (N := 41) (I := fun n => lkV w c m h = firstF (fun n => decide (ktV w c (nI n) m = h)) (41 - n) n) (P := fun n => ∀ A' B' sk' sw' E', KpX A B sk sw E A' B' sk' sw' E' → XJ X mX0_leastKept ad A B sk sw E (fun r A' B' sk' sw' E' => r = some (.int (lkV w c m h)) ∧ (lkV w c m h = -1 ∨ CrsC A' v (cfK w c (lkV w c m h)) (rsK w c (lkV w c m h)))) 3 [some (.ref (ad 0)), some (.int (nI c)), some (.int (nI m)), some (.int h), some (.int (nI n))] [] (ad, A', B', sk', sw', E')) ?_ ?_ 0 (Nat.zero_le _) rfl A B sk sw E KpX.rf
  · intro hI A' B' sk' sw' E' k0
    refine bX0_leastKept_3.go rfl trivial ?_
    refine j_icmp_gt (tgt := 37) dX0_leastKept_7 (by decide) (fun h7 => ?_) (fun h7 => absurd (nI_lt (by omega) (by omega)) h7)
    refine bX0_leastKept_37.go rfl trivial ?_
    have e : lkV w c m h = -1 := by rw [hI]; rfl
    exact c_iret dX0_leastKept_38 rfl ⟨A', B', sk', sw', E', rfl, k0, by rw [e], Or.inl e⟩
  · intro n hn hI ih A' B' sk' sw' E' k0
    rw [firstF_s hn] at hI
    refine bX0_leastKept_3.go rfl trivial ?_
    refine j_icmp_gt (tgt := 37) dX0_leastKept_7 (by decide) (fun h7 => ?_) (fun h7 => ?_)
    · rw [nI_ltI (by omega) (by omega)] at h7; omega
    · refine bX0_leastKept_10.go rfl trivial ?_
      refine xq (M' := mX0_keptBy) (As := [.int (nI c), .int (nI n)]) (nA := 2) (ok_keptByC (hS.kp k0) hc) rec0 rfl ((lw_V q1551 q1553 qs59 q131 q1554)) dX0_leastKept_14 rfl hy_X0_keptBy (fun r A1 B1 sk1 sw1 E1 k1 q1 => ?_)
      obtain ⟨rfl, q1, -, -⟩ := q1
      refine bX0_leastKept_17.go rfl (by (try simp (disch := omega) only [nI_add, pk_mul, pk_sub, nI_clamp, vpI]); repeat' first | exact trivial | rfl | assumption | omega | apply And.intro) ?_
      simp (disch := omega) only [nI_clamp]
      rw [q1.2.2.2.2.1 m hm c hc]
      refine j_icmp_ne (tgt := 31) dX0_leastKept_25 (by decide) (fun h25 => ?_) (fun h25 => ?_)
      · refine bX0_leastKept_31.go rfl trivial ?_
        rw [nI_1]
        refine ih ?_ A1 B1 sk1 sw1 E1 (k0.tr k1)
        rw [hI, if_neg (by rw [decide_eq_true_eq]; exact h25)]
      · refine bX0_leastKept_28.go rfl trivial ?_
        have e : lkV w c m h = nI n := by rw [hI, if_pos (by rw [decide_eq_true_eq]; exact h25)]
        exact c_iret dX0_leastKept_30 rfl ⟨A1, B1, sk1, sw1, E1, rfl, k0.tr k1, by rw [e], Or.inr (by rw [e]; exact q1)⟩
theorem bX0_keep_0 : Blk CP mX0_keep 0 7 [oAL 0, oIL 1, oIL 2, oIL 3, cF_III F_isAskedC] := blk_c (s_aload_n dX0_keep_0 rfl) <| blk_c (s_iload_n dX0_keep_1 rfl) <| blk_c (s_iload_n dX0_keep_2 rfl) <| blk_c (s_iload_n dX0_keep_3 rfl) <| blk_c (c_F_III ok_isAskedC (ci := 0) rfl (lw_V q1386 q1388 qs47 q131 q1389) hy_X0_isAsked rfl (by decide) dX0_keep_4) <| blk_nil
theorem bX0_keep_10 : Blk CP mX0_keep 10 14 [oAL 0, oIL 1, oIL 2, oIL 3] := blk_c (s_aload_n dX0_keep_10 rfl) <| blk_c (s_iload_n dX0_keep_11 rfl) <| blk_c (s_iload_n dX0_keep_12 rfl) <| blk_c (s_iload_n dX0_keep_13 rfl) <| blk_nil
theorem bX0_keep_17 : Blk CP mX0_keep 17 22 [.inl (fun s => some s)] := blk_c (s_goto (tgt := 22) dX0_keep_17 (by decide)) <| blk_nil
theorem bX0_keep_20 : Blk CP mX0_keep 20 22 [oC (-2)] := blk_c (s_bipush dX0_keep_20 (by decide +kernel)) <| blk_nil
theorem pb_keep (hS : SW v A sw) {c m h : Int32} : RCc X mX0_keep 1000 70000 [.ref (ad 0), .int c, .int m, .int h] (ad, A, B, sk, sw, E) (PubQ (ad, A, B, sk, sw, E) (q_keep (sw 0) c m h)) := by
  obtain ⟨-, hw, e7, ep⟩ := id hS
  have h4 := hw.nc4
  have h40 := hw.sp40
  have main : (cB (sw 0) c && (tB (sw 0) m && hB h)) = true → PJ X mX0_keep (ad, A, B, sk, sw, E) (q_keep (sw 0) c m h) 10 [some (.ref (ad 0)), some (.int c), some (.int m), some (.int h)] [] (ad, A, B, sk, sw, E) := by
    intro hg
    rw [q_keep, if_pos hg]
    simp only [Bool.and_eq_true] at hg
    obtain ⟨c, hc, rfl⟩ := hw.cOf hg.1
    obtain ⟨m, hm, rfl⟩ := hw.tOf hg.2.1
    rw [nI_clamp (by omega), nI_clamp (by omega)]
    refine bX0_keep_10.go rfl trivial ?_
    refine xq (M' := mX0_leastKept) (As := [.int (nI c), .int (nI m), .int h]) (nA := 3) (ok_leastKeptC hS hc hm) rec0 rfl ((lw_V q1559 q1561 qs60 q131 q1562)) dX0_keep_14 rfl hy_X0_leastKept (fun r A1 B1 sk1 sw1 E1 k1 q1 => ?_)
    obtain ⟨rfl, -⟩ := q1
    refine bX0_keep_17.go rfl trivial ?_
    exact x_ret dX0_keep_22 rfl rfl k1
  refine C_start (L := [some (.ref (ad 0)), some (.int c), some (.int m), some (.int h)]) 0 rfl ?_
  refine bX0_keep_0.go rfl (by first | exact ⟨⟨rfl, v, hw⟩, trivial⟩ | exact ⟨rfl, trivial⟩ | exact ⟨trivial, trivial⟩) ?_
  refine j_if_eq (tgt := 20) dX0_keep_7 (by decide) (fun h7 => ?_) (fun h7 => ?_)
  · refine bX0_keep_20.go rfl trivial ?_
    refine c_iret dX0_keep_22 rfl ?_
    exact ⟨ans (by clear main; simp only [clL_i, tmL_i, hrL_i, fIn_L, b2_0, b2_n0] at *; simp_all [q_keep] <;> (intros; simp_all)), KpX.rf.kp⟩
  · exact main (by clear main; simp only [clL_i, tmL_i, hrL_i, fIn_L, b2_0, b2_n0] at *; simp_all)
theorem bX0_shifts_0 : Blk CP mX0_shifts 0 7 [oAL 0, oIL 1, oIL 2, oIL 3, cF_III F_isAskedC] := blk_c (s_aload_n dX0_shifts_0 rfl) <| blk_c (s_iload_n dX0_shifts_1 rfl) <| blk_c (s_iload_n dX0_shifts_2 rfl) <| blk_c (s_iload_n dX0_shifts_3 rfl) <| blk_c (c_F_III ok_isAskedC (ci := 0) rfl (lw_V q1386 q1388 qs47 q131 q1389) hy_X0_isAsked rfl (by decide) dX0_shifts_4) <| blk_nil
theorem bX0_shifts_10 : Blk CP mX0_shifts 10 20 [oIL 4, oI2L, oCL (lN 1), oCL (40), oS_JJJ pT3 fIn] := blk_c (s_iload dX0_shifts_10) <| blk_c (s_i2l dX0_shifts_12) <| blk_c (s_lconst dX0_shifts_13 (by decide +kernel)) <| blk_c (s_ldc2 dX0_shifts_14 q1550) <| blk_c (s_S_JJJ ok_sX0_in (fun _ _ _ h => h.1.1) (Or.inl (lw_S q179 q180 q131 q181)) hy_X0_in (by decide) dX0_shifts_17) <| blk_nil
theorem bX0_shifts_23 : Blk CP mX0_shifts 23 25 [oC (-2)] := blk_c (s_bipush dX0_shifts_23 (by decide +kernel)) <| blk_nil
theorem bX0_shifts_26 : Blk CP mX0_shifts 26 30 [oAL 0, oIL 1, oIL 2, oIL 3] := blk_c (s_aload_n dX0_shifts_26 rfl) <| blk_c (s_iload_n dX0_shifts_27 rfl) <| blk_c (s_iload_n dX0_shifts_28 rfl) <| blk_c (s_iload_n dX0_shifts_29 rfl) <| blk_nil
theorem bX0_shifts_33 : Blk CP mX0_shifts 33 38 [oIS 5, oIL 5, oC (-1)] := blk_c (s_istore dX0_shifts_33 (by decide)) <| blk_c (s_iload dX0_shifts_35) <| blk_c (s_iconst dX0_shifts_37 (by decide +kernel)) <| blk_nil
theorem bX0_shifts_41 : Blk CP mX0_shifts 41 55 [oC (-1), .inl (fun s => some s)] := blk_c (s_iconst dX0_shifts_41 (by decide +kernel)) <| blk_c (s_goto (tgt := 55) dX0_shifts_42 (by decide)) <| blk_nil
theorem bX0_shifts_45 : Blk CP mX0_shifts 45 55 [oIL 5, oIL 4, oAdd, oC (nI 1), oSub, oIL 4, oDiv] := blk_c (s_iload dX0_shifts_45) <| blk_c (s_iload dX0_shifts_47) <| blk_c (s_iadd dX0_shifts_49) <| blk_c (s_iconst dX0_shifts_50 (by decide +kernel)) <| blk_c (s_isub dX0_shifts_51) <| blk_c (s_iload dX0_shifts_52) <| blk_c (s_idiv dX0_shifts_54) <| blk_nil
theorem pb_shifts (hS : SW v A sw) {c m h n : Int32} : RCc X mX0_shifts 1000 70000 [.ref (ad 0), .int c, .int m, .int h, .int n] (ad, A, B, sk, sw, E) (PubQ (ad, A, B, sk, sw, E) (q_shifts (sw 0) c m h n)) := by
  obtain ⟨-, hw, e7, ep⟩ := id hS
  have h4 := hw.nc4
  have h40 := hw.sp40
  have main : (cB (sw 0) c && (tB (sw 0) m && (hB h && inL n (lN 1) 40))) = true → PJ X mX0_shifts (ad, A, B, sk, sw, E) (q_shifts (sw 0) c m h n) 26 [some (.ref (ad 0)), some (.int c), some (.int m), some (.int h), some (.int n), none] [] (ad, A, B, sk, sw, E) := by
    intro hg
    rw [q_shifts, if_pos hg]
    simp only [Bool.and_eq_true] at hg
    obtain ⟨c, hc, rfl⟩ := hw.cOf hg.1
    obtain ⟨m, hm, rfl⟩ := hw.tOf hg.2.1
    have hn0 : ¬ n = 0 := fun e => by
      have h := hg.2.2.2
      rw [e] at h
      exact absurd h (by decide +kernel)
    rw [nI_clamp (by omega), nI_clamp (by omega)]
    refine bX0_shifts_26.go rfl trivial ?_
    refine xq (M' := mX0_leastKept) (As := [.int (nI c), .int (nI m), .int h]) (nA := 3) (ok_leastKeptC hS hc hm) rec0 rfl ((lw_V q1559 q1561 qs60 q131 q1562)) dX0_shifts_30 rfl hy_X0_leastKept (fun r A1 B1 sk1 sw1 E1 k1 q1 => ?_)
    obtain ⟨rfl, -⟩ := q1
    refine bX0_shifts_33.go rfl trivial ?_
    refine j_icmp_ne (tgt := 45) dX0_shifts_38 (by decide) (fun h51 => ?_) (fun h51 => ?_)
    · refine bX0_shifts_45.go rfl ⟨hn0, trivial⟩ ?_
      exact x_ret dX0_shifts_55 rfl (by rw [if_neg h51]) k1
    · refine bX0_shifts_41.go rfl trivial ?_
      exact x_ret dX0_shifts_55 rfl (by rw [if_pos h51]) k1
  refine C_start (L := [some (.ref (ad 0)), some (.int c), some (.int m), some (.int h), some (.int n), none]) 1 rfl ?_
  refine bX0_shifts_0.go rfl (by first | exact ⟨⟨rfl, v, hw⟩, trivial⟩ | exact ⟨rfl, trivial⟩ | exact ⟨trivial, trivial⟩) ?_
  refine j_if_eq (tgt := 23) dX0_shifts_7 (by decide) (fun h7 => ?_) (fun h7 => ?_)
  · refine bX0_shifts_23.go rfl trivial ?_
    refine c_iret dX0_shifts_25 rfl ?_
    exact ⟨ans (by clear main; simp only [clL_i, tmL_i, hrL_i, fIn_L, b2_0, b2_n0] at *; simp_all [q_shifts] <;> (intros; simp_all)), KpX.rf.kp⟩
  · refine bX0_shifts_10.go rfl (by first | exact ⟨⟨rfl, v, hw⟩, trivial⟩ | exact ⟨rfl, trivial⟩ | exact ⟨trivial, trivial⟩) ?_
    refine j_if_ne (tgt := 26) dX0_shifts_20 (by decide) (fun h20 => ?_) (fun h20 => ?_)
    · exact main (by clear main; simp only [clL_i, tmL_i, hrL_i, fIn_L, b2_0, b2_n0] at *; simp_all)
    · refine bX0_shifts_23.go rfl trivial ?_
      refine c_iret dX0_shifts_25 rfl ?_
      exact ⟨ans (by clear main; simp only [clL_i, tmL_i, hrL_i, fIn_L, b2_0, b2_n0] at *; simp_all [q_shifts] <;> (intros; simp_all)), KpX.rf.kp⟩
theorem bX0_last_0 : Blk CP mX0_last 0 7 [oAL 0, oIL 1, oIL 2, oIL 3, cF_III F_isAskedC] := blk_c (s_aload_n dX0_last_0 rfl) <| blk_c (s_iload_n dX0_last_1 rfl) <| blk_c (s_iload_n dX0_last_2 rfl) <| blk_c (s_iload_n dX0_last_3 rfl) <| blk_c (c_F_III ok_isAskedC (ci := 0) rfl (lw_V q1386 q1388 qs47 q131 q1389) hy_X0_isAsked rfl (by decide) dX0_last_4) <| blk_nil
theorem bX0_last_10 : Blk CP mX0_last 10 12 [oC (-2)] := blk_c (s_bipush dX0_last_10 (by decide +kernel)) <| blk_nil
theorem bX0_last_13 : Blk CP mX0_last 13 17 [oAL 0, oIL 1, oIL 2, oIL 3] := blk_c (s_aload_n dX0_last_13 rfl) <| blk_c (s_iload_n dX0_last_14 rfl) <| blk_c (s_iload_n dX0_last_15 rfl) <| blk_c (s_iload_n dX0_last_16 rfl) <| blk_nil
theorem bX0_last_20 : Blk CP mX0_last 20 21 [oC (-1)] := blk_c (s_iconst dX0_last_20 (by decide +kernel)) <| blk_nil
theorem bX0_last_24 : Blk CP mX0_last 24 37 [oC (-1), .inl (fun s => some s)] := blk_c (s_iconst dX0_last_24 (by decide +kernel)) <| blk_c (s_goto (tgt := 37) dX0_last_25 (by decide)) <| blk_nil
theorem bX0_last_28 : Blk CP mX0_last 28 37 [oAL 0, cR 0 4 3, cR 3 10 40, oIL 1, cAI 40 4] := blk_c (s_aload_n dX0_last_28 rfl) <| blk_c (cgX0_4 (Or.inl q560) dX0_last_29) <| blk_c (cgX3_10 (Or.inr ⟨_, nq503⟩) dX0_last_32) <| blk_c (s_iload_n dX0_last_35 rfl) <| blk_c (c_iald (fun _ => rfl) dX0_last_36) <| blk_nil
theorem pb_last (hS : SW v A sw) {c m h : Int32} : RCc X mX0_last 1000 70000 [.ref (ad 0), .int c, .int m, .int h] (ad, A, B, sk, sw, E) (PubQ (ad, A, B, sk, sw, E) (q_last (sw 0) c m h)) := by
  obtain ⟨-, hw, e7, ep⟩ := id hS
  have h4 := hw.nc4
  have h40 := hw.sp40
  have spE := hw.span
  have main : (cB (sw 0) c && (tB (sw 0) m && hB h)) = true → PJ X mX0_last (ad, A, B, sk, sw, E) (q_last (sw 0) c m h) 13 [some (.ref (ad 0)), some (.int c), some (.int m), some (.int h)] [] (ad, A, B, sk, sw, E) := by
    intro hg
    rw [q_last, if_pos hg, spE]
    simp only [Bool.and_eq_true] at hg
    obtain ⟨c, hc, rfl⟩ := hw.cOf hg.1
    obtain ⟨m, hm, rfl⟩ := hw.tOf hg.2.1
    rw [nI_clamp (by omega), nI_clamp (by omega)]
    refine bX0_last_13.go rfl trivial ?_
    refine xq (M' := mX0_leastKept) (As := [.int (nI c), .int (nI m), .int h]) (nA := 3) (ok_leastKeptC hS hc hm) rec0 rfl ((lw_V q1559 q1561 qs60 q131 q1562)) dX0_last_17 rfl hy_X0_leastKept (fun r A1 B1 sk1 sw1 E1 k1 q1 => ?_)
    obtain ⟨rfl, q1⟩ := q1
    refine bX0_last_20.go rfl trivial ?_
    refine j_icmp_ne (tgt := 28) dX0_last_21 (by decide) (fun h51 => ?_) (fun h51 => ?_)
    · have C := q1.resolve_left h51
      refine bX0_last_28.go rfl (by (try simp (disch := omega) only [nI_add, pk_mul, pk_sub, nI_clamp, vpI]); repeat' first | exact trivial | rfl | assumption | omega | apply And.intro) ?_
      refine x_ret dX0_last_37 rfl ?_ k1
      simp (disch := omega) only [nI_clamp]
      rw [if_neg h51, (C.2.2.2.2.2.2 c hc).2]
    · refine bX0_last_24.go rfl trivial ?_
      exact x_ret dX0_last_37 rfl (by rw [if_pos h51]) k1
  refine C_start (L := [some (.ref (ad 0)), some (.int c), some (.int m), some (.int h)]) 0 rfl ?_
  refine bX0_last_0.go rfl (by first | exact ⟨⟨rfl, v, hw⟩, trivial⟩ | exact ⟨rfl, trivial⟩ | exact ⟨trivial, trivial⟩) ?_
  refine j_if_ne (tgt := 13) dX0_last_7 (by decide) (fun h7 => ?_) (fun h7 => ?_)
  · exact main (by clear main; simp only [clL_i, tmL_i, hrL_i, fIn_L, b2_0, b2_n0] at *; simp_all)
  · refine bX0_last_10.go rfl trivial ?_
    refine c_iret dX0_last_12 rfl ?_
    exact ⟨ans (by clear main; simp only [clL_i, tmL_i, hrL_i, fIn_L, b2_0, b2_n0] at *; simp_all [q_last] <;> (intros; simp_all)), KpX.rf.kp⟩
end Q5
