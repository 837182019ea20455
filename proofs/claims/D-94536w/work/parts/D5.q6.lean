set_option maxRecDepth 100000
/-! ===== UnseenClock: all, drawn, day, days, pace, mends, call, fault, end ===== -/
section Q6
variable {X : Cx} {M : MD} {R : Room} {Z : ZT} {k n pc : Nat} {L : List (Option Value)} {st : List Value} {ad : Nat → Nat} {A A' A1 A2 : Nat → Nat → Int32} {B B' B1 B2 : Nat → Nat → Int64} {sk sk' : Nat → Nat → Nat} {sw sw' : Nat → Nat → Int32} {E E' : Nat → Nat} {v : Nat → Nat} {w : Nat → Int32} {h : AH}
theorem BegA.all {aw : Int32} (b : BegA A A1 aw) (h4 : v 1 ≤ 4) {g : Nat → Int32} {n : Int32} (hg : ∀ j, j < 4 → g j = n) : cfEq v (cfC (va_up A1 38 g) w) (cfL w n) := by
  have e3 : va_up A1 38 g 3 = A1 3 := va_up_ne _ _ (by decide)
  refine ⟨rfl, fun c' hc => ?_, fun n hn => ?_, ?_⟩
  · show va_up A1 38 g 38 c' = n
    rw [va_up_self]; exact hg c' (by omega)
  · show tkC (va_up A1 38 g) n = false
    simp only [tkC, e3, b.2.2.2.1]
    rw [decide_eq_false (by rw [nI_ltI (by omega) (by omega)]; omega)]; rfl
  · show (!decide (va_up A1 38 g 3 16 = 0)) = false
    rw [e3, b.2.2.2.2.1]; decide
theorem bX0_all_0 : Blk CP mX0_all 0 6 [oAL 0, oIL 1, oIL 3, cF_II F_isManyC] := blk_c (s_aload_n dX0_all_0 rfl) <| blk_c (s_iload_n dX0_all_1 rfl) <| blk_c (s_iload_n dX0_all_2 rfl) <| blk_c (c_F_II ok_isManyC (ci := 0) rfl (lw_V q1338 q1340 qs44 q131 q1341) hy_X0_isMany rfl (by decide) dX0_all_3) <| blk_nil
theorem bX0_all_9 : Blk CP mX0_all 9 15 [oAL 0, oIL 2, oI2L, cF_J F_isMomentC] := blk_c (s_aload_n dX0_all_9 rfl) <| blk_c (s_iload_n dX0_all_10 rfl) <| blk_c (s_i2l dX0_all_11) <| blk_c (c_F_J ok_isMomentC (ci := 0) rfl (lw_V q1308 q1310 qs43 q131 q1311) hy_X0_isMoment rfl (by decide) dX0_all_12) <| blk_nil
theorem bX0_all_18 : Blk CP mX0_all 18 20 [oC (-2)] := blk_c (s_bipush dX0_all_18 (by decide +kernel)) <| blk_nil
theorem bX0_all_21 : Blk CP mX0_all 21 24 [oC (nI 0), oIS 4] := blk_c (s_iconst dX0_all_21 (by decide +kernel)) <| blk_c (s_istore dX0_all_22 (by decide)) <| blk_nil
theorem bX0_all_24 : Blk CP mX0_all 24 28 [oIL 4, oC (nI 40)] := blk_c (s_iload dX0_all_24) <| blk_c (s_bipush dX0_all_26 (by decide +kernel)) <| blk_nil
theorem bX0_all_31 : Blk CP mX0_all 31 47 [oAL 0, cR 0 4 3, oAL 0, cQ0, oAL 0, cR 0 2 2, oAL 0, cI 0 3] := blk_c (s_aload_n dX0_all_31 rfl) <| blk_c (cgX0_4 (Or.inl q560) dX0_all_32) <| blk_c (s_aload_n dX0_all_35 rfl) <| blk_c (cgX0_1 (Or.inl q557) dX0_all_36) <| blk_c (s_aload_n dX0_all_39 rfl) <| blk_c (cgX0_2 (Or.inl q558) dX0_all_40) <| blk_c (s_aload_n dX0_all_43 rfl) <| blk_c (cgX0_3 (Or.inl q559) dX0_all_44) <| blk_nil
theorem bX0_all_50 : Blk CP mX0_all 50 59 [oAL 0, cR 0 4 3, cR 3 8 38, oIL 4] := blk_c (s_aload_n dX0_all_50 rfl) <| blk_c (cgX0_4 (Or.inl q560) dX0_all_51) <| blk_c (cgX3_8 (Or.inr ⟨_, nq500⟩) dX0_all_54) <| blk_c (s_iload dX0_all_57) <| blk_nil
theorem bX0_all_62 : Blk CP mX0_all 62 66 [oAL 0, cR 0 4 3] := blk_c (s_aload_n dX0_all_62 rfl) <| blk_c (cgX0_4 (Or.inl q560) dX0_all_63) <| blk_nil
theorem bX0_all_69 : Blk CP mX0_all 69 76 [oAL 0, oIL 2, oIL 3, cF_II F_manyShowC, oIL 1] := blk_c (s_aload_n dX0_all_69 rfl) <| blk_c (s_iload_n dX0_all_70 rfl) <| blk_c (s_iload_n dX0_all_71 rfl) <| blk_c (c_F_II ok_manyShowC (ci := 0) rfl (lw_V q1347 q1349 qs45 q131 q1350) hy_X0_manyShow rfl (by decide) dX0_all_72) <| blk_c (s_iload_n dX0_all_75 rfl) <| blk_nil
theorem bX0_all_79 : Blk CP mX0_all 79 81 [oIL 4] := blk_c (s_iload dX0_all_79) <| blk_nil
theorem bX0_all_82 : Blk CP mX0_all 82 24 [oInc 4 1, .inl (fun s => some s)] := blk_c (s_iinc dX0_all_82 (by decide +kernel) (by decide)) <| blk_c (s_goto (tgt := 24) dX0_all_85 (by decide)) <| blk_nil
theorem bX0_all_88 : Blk CP mX0_all 88 89 [oC (-1)] := blk_c (s_iconst dX0_all_88 (by decide +kernel)) <| blk_nil
theorem pb_all (hS : SW v A sw) {m t h : Int32} : RCc X mX0_all 1000 70000 [.ref (ad 0), .int m, .int t, .int h] (ad, A, B, sk, sw, E) (PubQ (ad, A, B, sk, sw, E) (q_all (sw 0) m t h)) := by
  obtain ⟨-, hw, -, -⟩ := id hS
  have h4 := hw.nc4
  have h40 := hw.sp40
  have ncE := hw.ncE
  have main : (tB (sw 0) t && (inL m (lN 1) 4 && hB h)) = true → PJ X mX0_all (ad, A, B, sk, sw, E) (q_all (sw 0) m t h) 21 [some (.ref (ad 0)), some (.int m), some (.int t), some (.int h), none] [] (ad, A, B, sk, sw, E) := by
    intro hg
    rw [q_all, if_pos hg]
    simp only [Bool.and_eq_true] at hg
    obtain ⟨t, ht, rfl⟩ := hw.tOf hg.1
    rw [nI_clamp (by omega)]
    refine bX0_all_21.go rfl trivial ?_
    refine loop_down (N := 41) (I := fun n => alV (sw 0) m h t = firstF (fun n => decide (m ≤ alN (sw 0) h t n)) (41 - n) n) (P := fun n => ∀ A' B' sk' sw' E', KpX A B sk sw E A' B' sk' sw' E' → PJ X mX0_all (ad, A, B, sk, sw, E) (alV (sw 0) m h t) 24 [some (.ref (ad 0)), some (.int m), some (.int (nI t)), some (.int h), some (.int (nI n))] [] (ad, A', B', sk', sw', E')) ?_ ?_ 0 (Nat.zero_le _) rfl A B sk sw E KpX.rf
    · intro hI A' B' sk' sw' E' k0
      refine bX0_all_24.go rfl trivial ?_
      refine j_icmp_gt (tgt := 88) dX0_all_28 (by decide) (fun h7 => ?_) (fun h7 => absurd (nI_lt (by omega) (by omega)) h7)
      refine bX0_all_88.go rfl trivial ?_
      exact x_ret dX0_all_89 rfl (by rw [hI]; rfl) k0
    · intro n hn hI ih A' B' sk' sw' E' k0
      have e0 : sw' 0 = sw 0 := k0.2.2.2.1 0 (by decide)
      have hS' := hS.kp k0
      obtain ⟨-, -, e7, ep⟩ := id hS'
      rw [firstF_s hn] at hI
      refine bX0_all_24.go rfl trivial ?_
      refine j_icmp_gt (tgt := 88) dX0_all_28 (by decide) (fun h7 => ?_) (fun h7 => ?_)
      · rw [nI_ltI (by omega) (by omega)] at h7; omega
      · refine bX0_all_31.go rfl (by repeat' first | exact trivial | rfl | assumption | omega | apply And.intro) ?_
        refine js_begins (w1 := sw 0) (by rw [e0]; exact hw) (by rw [e0]; exact SqEq.rf _) (lw_V q1154 q1155 q1156 q137 q1157) dX0_all_47 (by decide) rfl (fun A1 sk1 sw1 E1 k1 b1 e1 s1 => ?_)
        refine bX0_all_50.go rfl (by repeat' first | exact trivial | rfl | assumption | omega | apply And.intro) ?_
        refine c_fill (N := 4) rfl (by decide) dX0_all_59 (lw_S q1575 q1110 q152 q1111) (by decide) (fun g hg => ?_)
        refine bX0_all_62.go rfl (by repeat' first | exact trivial | rfl | assumption | omega | apply And.intro) ?_
        have k1' : KpX A' B' sk' sw' E' (va_up A1 38 g) B' sk1 sw1 E1 := ⟨fun j a b => by rw [va_up_ne _ _ (by omega)]; exact k1.1 j a b, k1.2⟩
        refine js_goes ((b1.cro s1 e1 hw e7.symm ep).wr (by rw [va_up_ne _ _ (by decide)]) (va_up_ne _ _ (by decide))) (lw_V q1188 q1189 q1190 q137 q1191) dX0_all_66 (by decide) rfl (fun A2 B2 k2 g2 => ?_)
        rw [e1] at g2
        have C : CrsC A2 v (cfL (sw 0) (nI n)) (rsL (sw 0) (nI n)) := CrsC.z rfl (g2.crs (od' := fun _ => nI 0) hw (b1.all hw.nc4 hg))
        have k3 := k0.tr (k1'.tr k2)
        have e3 : sw1 0 = sw 0 := k3.2.2.2.1 0 (by decide)
        refine bX0_all_69.go rfl ⟨⟨rfl, t, by omega, by rw [e3, ncE]; exact h4, rfl⟩, trivial⟩ ?_
        have eS : sumI (fun c => b2 (decide (A2 (60 + c) t = h))) (nC (sw1 0)) = alN (sw 0) h t n := by
          rw [e3]
          refine sumI_congr (fun c hc => ?_)
          rw [ncE] at hc
          rw [C.2.2.2.2.1 t ht c hc]; rfl
        rw [nI_clamp (by omega), eS]
        refine j_icmp_lt (tgt := 82) dX0_all_76 (by decide) (fun h76 => ?_) (fun h76 => ?_)
        · refine bX0_all_82.go rfl trivial ?_
          rw [nI_1]
          exact ih (by rw [hI, if_neg (by rw [decide_eq_true_eq]; exact Int32.not_le.mpr h76)]) A2 B2 sk1 sw1 E1 k3
        · refine bX0_all_79.go rfl trivial ?_
          exact x_ret dX0_all_81 rfl (by rw [hI, if_pos (by rw [decide_eq_true_eq]; exact Int32.not_lt.mp h76)]) k3
  refine C_start (L := [some (.ref (ad 0)), some (.int m), some (.int t), some (.int h), none]) 1 rfl ?_
  refine bX0_all_0.go rfl (by first | exact ⟨⟨rfl, v, hw⟩, trivial⟩ | exact ⟨rfl, trivial⟩ | exact ⟨trivial, trivial⟩) ?_
  refine j_if_eq (tgt := 18) dX0_all_6 (by decide) (fun h6 => ?_) (fun h6 => ?_)
  · refine bX0_all_18.go rfl trivial ?_
    refine c_iret dX0_all_20 rfl ?_
    exact ⟨ans (by clear main; simp only [clL_i, tmL_i, hrL_i, fIn_L, b2_0, b2_n0] at *; simp_all [q_all, tB, sqB] <;> (intros; simp_all)), KpX.rf.kp⟩
  · refine bX0_all_9.go rfl (by first | exact ⟨⟨rfl, v, hw⟩, trivial⟩ | exact ⟨rfl, trivial⟩ | exact ⟨trivial, trivial⟩) ?_
    refine j_if_ne (tgt := 21) dX0_all_15 (by decide) (fun h15 => ?_) (fun h15 => ?_)
    · exact main (by clear main; simp only [clL_i, tmL_i, hrL_i, fIn_L, b2_0, b2_n0] at *; simp_all [tB, sqB])
    · refine bX0_all_18.go rfl trivial ?_
      refine c_iret dX0_all_20 rfl ?_
      exact ⟨ans (by clear main; simp only [clL_i, tmL_i, hrL_i, fIn_L, b2_0, b2_n0] at *; simp_all [q_all, tB, sqB] <;> (intros; simp_all)), KpX.rf.kp⟩
theorem BegA.day {aw : Int32} (b : BegA A A1 aw) (h4 : v 1 ≤ 4) : cfEq v (cfC (upA A1 3 16 (nI 1)) w) (cfD w) := by
  refine ⟨rfl, fun c' hc => ?_, fun n hn => ?_, ?_⟩
  · show upA A1 3 16 (nI 1) 38 c' = nI 0
    rw [upA_ne (by decide)]; exact b.2.2.2.2.2.2 c' (by omega)
  · show tkC (upA A1 3 16 (nI 1)) n = false
    simp only [tkC, upA_at, if_neg (show ¬ (15 : Nat) = 16 by decide), b.2.2.2.1]
    rw [decide_eq_false (by rw [nI_ltI (by omega) (by omega)]; omega)]; rfl
  · show (!decide (upA A1 3 16 (nI 1) 3 16 = 0)) = true
    rw [upA_at, if_pos rfl]; decide
theorem bX0_drawn_0 : Blk CP mX0_drawn 0 16 [oAL 0, cR 0 4 3, oAL 0, cQ0, oAL 0, cR 0 2 2, oAL 0, cI 0 3] := blk_c (s_aload_n dX0_drawn_0 rfl) <| blk_c (cgX0_4 (Or.inl q560) dX0_drawn_1) <| blk_c (s_aload_n dX0_drawn_4 rfl) <| blk_c (cgX0_1 (Or.inl q557) dX0_drawn_5) <| blk_c (s_aload_n dX0_drawn_8 rfl) <| blk_c (cgX0_2 (Or.inl q558) dX0_drawn_9) <| blk_c (s_aload_n dX0_drawn_12 rfl) <| blk_c (cgX0_3 (Or.inl q559) dX0_drawn_13) <| blk_nil
theorem bX0_drawn_19 : Blk CP mX0_drawn 19 39 [oAL 0, cR 0 4 3, oC (nI 1), cPZ 3 16, oAL 0, cR 0 4 3, oLL 1, cPL 3 17, oAL 0, cR 0 4 3] := blk_c (s_aload_n dX0_drawn_19 rfl) <| blk_c (cgX0_4 (Or.inl q560) dX0_drawn_20) <| blk_c (s_iconst dX0_drawn_23 (by decide +kernel)) <| blk_c (cpX3_16 (Or.inr ⟨_, nq512⟩) dX0_drawn_24) <| blk_c (s_aload_n dX0_drawn_27 rfl) <| blk_c (cgX0_4 (Or.inl q560) dX0_drawn_28) <| blk_c (s_lload_n dX0_drawn_31 rfl) <| blk_c (cpX3_17 (Or.inr ⟨_, nq514⟩) dX0_drawn_32) <| blk_c (s_aload_n dX0_drawn_35 rfl) <| blk_c (cgX0_4 (Or.inl q560) dX0_drawn_36) <| blk_nil
theorem bX0_drawn_42 : Blk CP mX0_drawn 42 46 [oAL 0, cR 0 4 3] := blk_c (s_aload_n dX0_drawn_42 rfl) <| blk_c (cgX0_4 (Or.inl q560) dX0_drawn_43) <| blk_nil
theorem ok_drawnC (hS : SX w v A sw) {z : Int64} : XC X mX0_drawn [.ref (ad 0), .long z] ad A B sk sw E (fun r A' B' sk' sw' E' => r = some (.ref (ad 3)) ∧ CrsC A' v (cfD w) (rsS (cfD w) (fun _ => nI 0) z)) := by
  obtain ⟨e0, hw, e7, ep⟩ := hS
  have h4 := hw.nc4
  refine C_start (L := [some (.ref (ad 0)), some (.long z), none]) 0 rfl ?_
  refine bX0_drawn_0.go rfl (by repeat' first | exact trivial | rfl | assumption | omega | apply And.intro) ?_
  refine js_begins (w1 := w) (by rw [e0]; exact hw) (by rw [e0]; exact SqEq.rf w) (lw_V q1154 q1155 q1156 q137 q1157) dX0_drawn_16 (by decide) rfl (fun A1 sk1 sw1 E1 k1 b1 e1 s1 => ?_)
  refine bX0_drawn_19.go rfl (by repeat' first | exact trivial | rfl | assumption | omega | apply And.intro) ?_
  have k1' : KpX A B sk sw E (upA A1 3 16 (nI 1)) (upB B 3 17 z) sk1 sw1 E1 := ⟨fun j a b => by rw [upA_ne (by omega)]; exact k1.1 j a b, fun j a => by unfold upB; rw [va_up_ne _ _ a], k1.2.2⟩
  refine js_goes ((b1.cro s1 e1 hw e7.symm ep).wr (by rw [upA_at, if_neg (by decide)]) (upA_ne (by decide))) (lw_V q1188 q1189 q1190 q137 q1191) dX0_drawn_39 (by decide) rfl (fun A2 B2 k2 g2 => ?_)
  refine bX0_drawn_42.go rfl (by repeat' first | exact trivial | rfl | assumption | omega | apply And.intro) ?_
  refine c_aret dX0_drawn_46 rfl (Or.inl ⟨_, rfl⟩) ⟨A2, B2, sk1, sw1, E1, rfl, k1'.tr k2, rfl, ?_⟩
  have ez : upB B 3 17 z 3 17 = z := by unfold upB; rw [va_up_self, va_up_self]
  rw [e1, ez] at g2
  exact g2.crs (od' := fun _ => nI 0) hw (b1.day hw.nc4)
theorem bX0_day_0 : Blk CP mX0_day 0 7 [oAL 0, oIL 1, oIL 2, oIL 3, cF_III F_isDayC] := blk_c (s_aload_n dX0_day_0 rfl) <| blk_c (s_iload_n dX0_day_1 rfl) <| blk_c (s_iload_n dX0_day_2 rfl) <| blk_c (s_iload_n dX0_day_3 rfl) <| blk_c (c_F_III ok_isDayC (ci := 0) rfl (lw_V q1589 q1591 qs61 q131 q1592) hy_X0_isDay rfl (by decide) dX0_day_4) <| blk_nil
theorem bX0_day_10 : Blk CP mX0_day 10 13 [oAL 0, oIL 1, oI2L] := blk_c (s_aload_n dX0_day_10 rfl) <| blk_c (s_iload_n dX0_day_11 rfl) <| blk_c (s_i2l dX0_day_12) <| blk_nil
theorem bX0_day_16 : Blk CP mX0_day 16 28 [cR 3 1 31, oIL 2, cW 31 60 4, oIL 3, cWI 60 4 41 2, .inl (fun s => some s)] := blk_c (cgX3_1 (Or.inr ⟨_, nq490⟩) dX0_day_16) <| blk_c (s_iload_n dX0_day_19 rfl) <| blk_c (c_W (t := 8) (ty := .int) (fun _ => rfl) (fun _ _ _ _ _ _ => rfl) dX0_day_20) <| blk_c (s_iload_n dX0_day_21 rfl) <| blk_c (c_wiald ar_shows dX0_day_22) <| blk_c (s_goto (tgt := 28) dX0_day_23 (by decide)) <| blk_nil
theorem bX0_day_26 : Blk CP mX0_day 26 28 [oC (-2)] := blk_c (s_bipush dX0_day_26 (by decide +kernel)) <| blk_nil
theorem pb_day (hS : SW v A sw) {z c m : Int32} : RCc X mX0_day 1000 70000 [.ref (ad 0), .int z, .int c, .int m] (ad, A, B, sk, sw, E) (PubQ (ad, A, B, sk, sw, E) (q_day (sw 0) z c m)) := by
  obtain ⟨-, hw, -, -⟩ := id hS
  have h4 := hw.nc4
  have h40 := hw.sp40
  have main : (inL z (lN 0) 2000000000 && (cB (sw 0) c && tB (sw 0) m)) = true → PJ X mX0_day (ad, A, B, sk, sw, E) (q_day (sw 0) z c m) 10 [some (.ref (ad 0)), some (.int z), some (.int c), some (.int m)] [] (ad, A, B, sk, sw, E) := by
    intro hg
    rw [q_day, if_pos hg]
    simp only [Bool.and_eq_true] at hg
    obtain ⟨c, hc, rfl⟩ := hw.cOf hg.2.1
    obtain ⟨m, hm, rfl⟩ := hw.tOf hg.2.2
    rw [nI_clamp (by omega), nI_clamp (by omega)]
    refine bX0_day_10.go rfl trivial ?_
    refine xq (M' := mX0_drawn) (As := [.long z.toInt64]) (nA := 1) (ok_drawnC hS) rec0 rfl ((lw_V q1594 q1596 qs62 q131 q1597)) dX0_day_13 rfl hy_X0_drawn (fun r A1 B1 sk1 sw1 E1 k1 q1 => ?_)
    obtain ⟨rfl, q1⟩ := q1
    refine bX0_day_16.go rfl (by (try simp (disch := omega) only [nI_add, pk_mul, pk_sub, nI_clamp, vpI]); repeat' first | exact trivial | rfl | assumption | omega | apply And.intro) ?_
    refine x_ret dX0_day_28 rfl ?_ k1
    simp (disch := omega) only [nI_clamp]
    rw [q1.2.2.2.2.1 m hm c hc]
    rfl
  refine C_start (L := [some (.ref (ad 0)), some (.int z), some (.int c), some (.int m)]) 0 rfl ?_
  refine bX0_day_0.go rfl (by first | exact ⟨⟨rfl, v, hw⟩, trivial⟩ | exact ⟨rfl, trivial⟩ | exact ⟨trivial, trivial⟩) ?_
  refine j_if_eq (tgt := 26) dX0_day_7 (by decide) (fun h7 => ?_) (fun h7 => ?_)
  · refine bX0_day_26.go rfl trivial ?_
    refine c_iret dX0_day_28 rfl ?_
    exact ⟨ans (by clear main; simp only [clL_i, tmL_i, hrL_i, fIn_L, b2_0, b2_n0] at *; simp_all [q_day] <;> (intros; simp_all)), KpX.rf.kp⟩
  · exact main (by clear main; simp only [clL_i, tmL_i, hrL_i, fIn_L, b2_0, b2_n0] at *; simp_all)
theorem bX0_days_0 : Blk CP mX0_days 0 8 [oAL 0, oIL 1, oIL 3, oIL 4, cF_III F_isDayC] := blk_c (s_aload_n dX0_days_0 rfl) <| blk_c (s_iload_n dX0_days_1 rfl) <| blk_c (s_iload_n dX0_days_2 rfl) <| blk_c (s_iload dX0_days_3) <| blk_c (c_F_III ok_isDayC (ci := 0) rfl (lw_V q1589 q1591 qs61 q131 q1592) hy_X0_isDay rfl (by decide) dX0_days_5) <| blk_nil
theorem bX0_days_11 : Blk CP mX0_days 11 20 [oIL 2, oI2L, oCL (lN 1), oCL (20), oS_JJJ pT3 fIn] := blk_c (s_iload_n dX0_days_11 rfl) <| blk_c (s_i2l dX0_days_12) <| blk_c (s_lconst dX0_days_13 (by decide +kernel)) <| blk_c (s_ldc2 dX0_days_14 q1602) <| blk_c (s_S_JJJ ok_sX0_in (fun _ _ _ h => h.1.1) (Or.inl (lw_S q179 q180 q131 q181)) hy_X0_in (by decide) dX0_days_17) <| blk_nil
theorem bX0_days_23 : Blk CP mX0_days 23 29 [oIL 5, oI2L, oS_J pT1 fHour] := blk_c (s_iload dX0_days_23) <| blk_c (s_i2l dX0_days_25) <| blk_c (s_S_J ok_sX0_isHour (fun _ _ _ h => h.1.1) (Or.inl (lw_S q1343 q1344 q131 q1345)) hy_X0_isHour (by decide) dX0_days_26) <| blk_nil
theorem bX0_days_32 : Blk CP mX0_days 32 34 [oC (-2)] := blk_c (s_bipush dX0_days_32 (by decide +kernel)) <| blk_nil
theorem bX0_days_35 : Blk CP mX0_days 35 41 [oC (nI 0), oIS 6, oC (nI 0), oIS 7] := blk_c (s_iconst dX0_days_35 (by decide +kernel)) <| blk_c (s_istore dX0_days_36 (by decide)) <| blk_c (s_iconst dX0_days_38 (by decide +kernel)) <| blk_c (s_istore dX0_days_39 (by decide)) <| blk_nil
theorem bX0_days_41 : Blk CP mX0_days 41 44 [oIL 7, oIL 2] := blk_c (s_iload dX0_days_41) <| blk_c (s_iload_n dX0_days_43 rfl) <| blk_nil
theorem bX0_days_47 : Blk CP mX0_days 47 56 [oIL 6, oAL 0, oIL 1, oI2L, oIL 7, oI2L, oLAdd] := blk_c (s_iload dX0_days_47) <| blk_c (s_aload_n dX0_days_49 rfl) <| blk_c (s_iload_n dX0_days_50 rfl) <| blk_c (s_i2l dX0_days_51) <| blk_c (s_iload dX0_days_52) <| blk_c (s_i2l dX0_days_54) <| blk_c (s_ladd dX0_days_55) <| blk_nil
theorem bX0_days_59 : Blk CP mX0_days 59 69 [cR 3 1 31, oIL 3, cW 31 60 4, oIL 4, cWI 60 4 41 3, oIL 5] := blk_c (cgX3_1 (Or.inr ⟨_, nq490⟩) dX0_days_59) <| blk_c (s_iload_n dX0_days_62 rfl) <| blk_c (c_W (t := 8) (ty := .int) (fun _ => rfl) (fun _ _ _ _ _ _ => rfl) dX0_days_63) <| blk_c (s_iload dX0_days_64) <| blk_c (c_wiald ar_shows dX0_days_66) <| blk_c (s_iload dX0_days_67) <| blk_nil
theorem bX0_days_72 : Blk CP mX0_days 72 77 [oC (nI 1), .inl (fun s => some s)] := blk_c (s_iconst dX0_days_72 (by decide +kernel)) <| blk_c (s_goto (tgt := 77) dX0_days_73 (by decide)) <| blk_nil
theorem bX0_days_76 : Blk CP mX0_days 76 77 [oC (nI 0)] := blk_c (s_iconst dX0_days_76 (by decide +kernel)) <| blk_nil
theorem bX0_days_77 : Blk CP mX0_days 77 41 [oAdd, oIS 6, oInc 7 1, .inl (fun s => some s)] := blk_c (s_iadd dX0_days_77) <| blk_c (s_istore dX0_days_78 (by decide)) <| blk_c (s_iinc dX0_days_80 (by decide +kernel) (by decide)) <| blk_c (s_goto (tgt := 41) dX0_days_83 (by decide)) <| blk_nil
theorem bX0_days_86 : Blk CP mX0_days 86 88 [oIL 6] := blk_c (s_iload dX0_days_86) <| blk_nil
theorem pb_days (hS : SW v A sw) {z n c m h : Int32} : RCc X mX0_days 1000 70000 [.ref (ad 0), .int z, .int n, .int c, .int m, .int h] (ad, A, B, sk, sw, E) (PubQ (ad, A, B, sk, sw, E) (q_days (sw 0) z n c m h)) := by
  obtain ⟨-, hw, -, -⟩ := id hS
  have h4 := hw.nc4
  have h40 := hw.sp40
  have main : (inL z (lN 0) 2000000000 && (inL n (lN 1) 20 && (cB (sw 0) c && (tB (sw 0) m && hB h)))) = true → PJ X mX0_days (ad, A, B, sk, sw, E) (q_days (sw 0) z n c m h) 35 [some (.ref (ad 0)), some (.int z), some (.int n), some (.int c), some (.int m), some (.int h), none, none] [] (ad, A, B, sk, sw, E) := by
    intro hg
    rw [q_days, if_pos hg]
    simp only [Bool.and_eq_true] at hg
    obtain ⟨c, hc, rfl⟩ := hw.cOf hg.2.2.1
    obtain ⟨m, hm, rfl⟩ := hw.tOf hg.2.2.2.1
    have hnn : ∃ j, j ≤ 20 ∧ n = nI j := by
      have q := hg.2.1
      rw [show (20 : Int64) = (nI 20).toInt64 by decide +kernel, show lN 1 = (nI 1).toInt64 by decide +kernel, inL, in_i2l] at q
      simp only [inI, Bool.and_eq_true, decide_eq_true_eq] at q
      obtain ⟨j, hj, rfl⟩ := nI_of (x := n) (by rw [Int32.not_lt]; exact Int32.le_trans (by decide) q.1)
      exact ⟨j, (nI_leI (by omega) (by omega)).mp q.2, rfl⟩
    obtain ⟨n, hn, rfl⟩ := hnn
    rw [nI_clamp (by omega), nI_clamp (by omega), nI_clamp (by omega)]
    refine bX0_days_35.go rfl trivial ?_
    refine loop_down (N := n) (I := fun _ => True) (P := fun k => ∀ A' B' sk' sw' E', KpX A B sk sw E A' B' sk' sw' E' → PJ X mX0_days (ad, A, B, sk, sw, E) (sumI (fun k => b2 (decide (dyV (sw 0) (z.toInt64 + (nI k).toInt64) c m = h))) n) 41 [some (.ref (ad 0)), some (.int z), some (.int (nI n)), some (.int (nI c)), some (.int (nI m)), some (.int h), some (.int (sumI (fun k => b2 (decide (dyV (sw 0) (z.toInt64 + (nI k).toInt64) c m = h))) k)), some (.int (nI k))] [] (ad, A', B', sk', sw', E')) ?_ ?_ 0 (Nat.zero_le _) trivial A B sk sw E KpX.rf
    · intro _ A' B' sk' sw' E' k0
      refine bX0_days_41.go rfl trivial ?_
      refine j_icmp_ge (tgt := 86) dX0_days_44 (by decide) (fun h7 => ?_) (fun h7 => absurd (nI_le (Nat.le_refl _) (by omega)) h7)
      refine bX0_days_86.go rfl trivial ?_
      exact x_ret dX0_days_88 rfl rfl k0
    · intro k hk _ ih A' B' sk' sw' E' k0
      refine bX0_days_41.go rfl trivial ?_
      refine j_icmp_ge (tgt := 86) dX0_days_44 (by decide) (fun h7 => ?_) (fun h7 => ?_)
      · rw [nI_leI (by omega) (by omega)] at h7; omega
      · refine bX0_days_47.go rfl trivial ?_
        refine xq (M' := mX0_drawn) (As := [.long (z.toInt64 + (nI k).toInt64)]) (nA := 1) (ok_drawnC (hS.kp k0)) rec0 rfl ((lw_V q1594 q1596 qs62 q131 q1597)) dX0_days_56 rfl hy_X0_drawn (fun r A1 B1 sk1 sw1 E1 k1 q1 => ?_)
        obtain ⟨rfl, q1⟩ := q1
        refine bX0_days_59.go rfl (by (try simp (disch := omega) only [nI_add, pk_mul, pk_sub, nI_clamp, vpI]); repeat' first | exact trivial | rfl | assumption | omega | apply And.intro) ?_
        simp (disch := omega) only [nI_clamp]
        rw [q1.2.2.2.2.1 m hm c hc]
        refine j_icmp_ne (tgt := 76) dX0_days_69 (by decide) (fun h69 => ?_) (fun h69 => ?_)
        · refine bX0_days_76.go rfl trivial ?_
          refine bX0_days_77.go rfl trivial ?_
          rw [nI_1]
          have := ih trivial A1 B1 sk1 sw1 E1 (k0.tr k1)
          have e : decide (dyV (sw 0) (z.toInt64 + (nI k).toInt64) c m = h) = false := decide_eq_false h69
          simp only [sumI, e] at this
          exact this
        · refine bX0_days_72.go rfl trivial ?_
          refine bX0_days_77.go rfl trivial ?_
          rw [nI_1]
          have := ih trivial A1 B1 sk1 sw1 E1 (k0.tr k1)
          have e : decide (dyV (sw 0) (z.toInt64 + (nI k).toInt64) c m = h) = true := decide_eq_true h69
          simp only [sumI, e] at this
          exact this
  refine C_start (L := [some (.ref (ad 0)), some (.int z), some (.int n), some (.int c), some (.int m), some (.int h), none, none]) 2 rfl ?_
  refine bX0_days_0.go rfl (by first | exact ⟨⟨rfl, v, hw⟩, trivial⟩ | exact ⟨rfl, trivial⟩ | exact ⟨trivial, trivial⟩) ?_
  refine j_if_eq (tgt := 32) dX0_days_8 (by decide) (fun h8 => ?_) (fun h8 => ?_)
  · refine bX0_days_32.go rfl trivial ?_
    refine c_iret dX0_days_34 rfl ?_
    exact ⟨ans (by clear main; simp only [clL_i, tmL_i, hrL_i, fIn_L, b2_0, b2_n0] at *; simp_all [q_days] <;> (intros; simp_all)), KpX.rf.kp⟩
  · refine bX0_days_11.go rfl (by first | exact ⟨⟨rfl, v, hw⟩, trivial⟩ | exact ⟨rfl, trivial⟩ | exact ⟨trivial, trivial⟩) ?_
    refine j_if_eq (tgt := 32) dX0_days_20 (by decide) (fun h20 => ?_) (fun h20 => ?_)
    · refine bX0_days_32.go rfl trivial ?_
      refine c_iret dX0_days_34 rfl ?_
      exact ⟨ans (by clear main; simp only [clL_i, tmL_i, hrL_i, fIn_L, b2_0, b2_n0] at *; simp_all [q_days] <;> (intros; simp_all)), KpX.rf.kp⟩
    · refine bX0_days_23.go rfl (by first | exact ⟨⟨rfl, v, hw⟩, trivial⟩ | exact ⟨rfl, trivial⟩ | exact ⟨trivial, trivial⟩) ?_
      refine j_if_ne (tgt := 35) dX0_days_29 (by decide) (fun h29 => ?_) (fun h29 => ?_)
      · exact main (by clear main; simp only [clL_i, tmL_i, hrL_i, fIn_L, b2_0, b2_n0] at *; simp_all)
      · refine bX0_days_32.go rfl trivial ?_
        refine c_iret dX0_days_34 rfl ?_
        exact ⟨ans (by clear main; simp only [clL_i, tmL_i, hrL_i, fIn_L, b2_0, b2_n0] at *; simp_all [q_days] <;> (intros; simp_all)), KpX.rf.kp⟩
/-! the square now, by another row -/
theorem CP.re {w' : Nat → Int32} (hp : CP X (ad, A, B, sk, sw, E) h) (hw : WOk (sw 0) v) (hE : SqEq (sw 0) w') : CP X (ad, A, B, sk, va_up sw 0 w', E) h := by
  obtain ⟨h0, h1, h2, hz, h3, h4, h5⟩ := hp
  refine ⟨h0, h1, h2, hz, h3, h4, fun j hj => ?_⟩
  show SqAt X hz (sk j) (va_up sw 0 w' j)
  by_cases e : j = 0
  · subst e; rw [va_up_self]; exact (h5 0 hj).cg hE hw
  · rw [va_up_ne _ _ e]; exact h5 j hj
theorem js_re {w' : Nat → Int32} (hw : WOk (sw 0) v) (hE : SqEq (sw 0) w') (kk : JS CP X M R Z k n pc L st (ad, A, B, sk, va_up sw 0 w', E)) : JS CP X M R Z k n pc L st (ad, A, B, sk, sw, E) := fun h hp => kk h (hp.re hw hE)
theorem pc_eq (w : Nat → Int32) {c : Nat} (hc : c < 4) (x : Int32) : SqEq w (pcW w c x) := fun i _ _ h2 => va_up_ne _ _ (h2 c hc)
theorem pc_qe (w : Nat → Int32) {c : Nat} (hc : c < 4) (x : Int32) : SqEq (pcW w c x) w := fun i _ _ h2 => (va_up_ne _ _ (h2 c hc)).symm
theorem upA_up (A : Nat → Nat → Int32) (k i : Nat) (x y : Int32) : upA (upA A k i x) k i y = upA A k i y := by
  funext j
  by_cases e : j = k
  · subst e; unfold upA; rw [va_up_self, va_up_self, va_up_self]
    funext l
    by_cases e2 : l = i
    · subst e2; rw [va_up_self, va_up_self]
    · rw [va_up_ne _ _ e2, va_up_ne _ _ e2, va_up_ne _ _ e2]
  · rw [upA_ne e, upA_ne e, upA_ne e]
theorem KpX.set2 {c : Nat} (h : KpX A B sk sw E A' B' sk' sw' E') (y : Int32) : KpX (upA A 2 c y) B sk sw E (upA A' 2 c y) B' sk' sw' E' := by
  refine ⟨fun j a b => ?_, h.2⟩
  by_cases e : j = 2
  · subst e; unfold upA; rw [va_up_self, va_up_self, h.1 2 a b]
  · rw [upA_ne e, upA_ne e, h.1 j a b]
theorem KpX.sq {w' : Nat → Int32} (h : KpX A B sk (va_up sw 0 w') E A' B' sk' sw' E') : KpX A B sk sw E A' B' sk' (va_up sw' 0 (sw 0)) E' := by
  refine ⟨h.1, h.2.1, h.2.2.1, fun j hj => ?_, h.2.2.2.2⟩
  by_cases e : j = 0
  · subst e; rw [va_up_self]
  · rw [va_up_ne _ _ e, h.2.2.2.1 j hj, va_up_ne _ _ e]
theorem bX0_pace_0 : Blk CP mX0_pace 0 7 [oAL 0, oIL 1, oIL 2, oIL 3, cF_III F_isAskedC] := blk_c (s_aload_n dX0_pace_0 rfl) <| blk_c (s_iload_n dX0_pace_1 rfl) <| blk_c (s_iload_n dX0_pace_2 rfl) <| blk_c (s_iload_n dX0_pace_3 rfl) <| blk_c (c_F_III ok_isAskedC (ci := 0) rfl (lw_V q1386 q1388 qs47 q131 q1389) hy_X0_isAsked rfl (by decide) dX0_pace_4) <| blk_nil
theorem bX0_pace_10 : Blk CP mX0_pace 10 12 [oC (-2)] := blk_c (s_bipush dX0_pace_10 (by decide +kernel)) <| blk_nil
theorem bX0_pace_13 : Blk CP mX0_pace 13 27 [oAL 0, cR 0 2 2, oIL 1, cAI 2 4, oIS 4, oC (-1), oIS 5, oC (nI 0), oIS 6] := blk_c (s_aload_n dX0_pace_13 rfl) <| blk_c (cgX0_2 (Or.inl q558) dX0_pace_14) <| blk_c (s_iload_n dX0_pace_17 rfl) <| blk_c (c_iald (fun _ => rfl) dX0_pace_18) <| blk_c (s_istore dX0_pace_19 (by decide)) <| blk_c (s_iconst dX0_pace_21 (by decide +kernel)) <| blk_c (s_istore dX0_pace_22 (by decide)) <| blk_c (s_iconst dX0_pace_24 (by decide +kernel)) <| blk_c (s_istore dX0_pace_25 (by decide)) <| blk_nil
theorem bX0_pace_27 : Blk CP mX0_pace 27 31 [oIL 6, oC (nI 60)] := blk_c (s_iload dX0_pace_27) <| blk_c (s_bipush dX0_pace_29 (by decide +kernel)) <| blk_nil
theorem bX0_pace_34 : Blk CP mX0_pace 34 37 [oIL 5, oC (-1)] := blk_c (s_iload dX0_pace_34) <| blk_c (s_iconst dX0_pace_36 (by decide +kernel)) <| blk_nil
theorem bX0_pace_40 : Blk CP mX0_pace 40 49 [oAL 0, cR 0 2 2, oIL 1, oIL 6, cSI 2 4, oAL 0] := blk_c (s_aload_n dX0_pace_40 rfl) <| blk_c (cgX0_2 (Or.inl q558) dX0_pace_41) <| blk_c (s_iload_n dX0_pace_44 rfl) <| blk_c (s_iload dX0_pace_45) <| blk_c (c_iast (fun _ => rfl) dX0_pace_47) <| blk_c (s_aload_n dX0_pace_48 rfl) <| blk_nil
theorem bX0_pace_52 : Blk CP mX0_pace 52 60 [cR 3 1 31, oIL 1, cW 31 60 4, oIL 2, cWI 60 4 41 1, oIL 3] := blk_c (cgX3_1 (Or.inr ⟨_, nq490⟩) dX0_pace_52) <| blk_c (s_iload_n dX0_pace_55 rfl) <| blk_c (c_W (t := 8) (ty := .int) (fun _ => rfl) (fun _ _ _ _ _ _ => rfl) dX0_pace_56) <| blk_c (s_iload_n dX0_pace_57 rfl) <| blk_c (c_wiald ar_shows dX0_pace_58) <| blk_c (s_iload_n dX0_pace_59 rfl) <| blk_nil
theorem bX0_pace_63 : Blk CP mX0_pace 63 69 [oIL 6, .inl (fun s => some s)] := blk_c (s_iload dX0_pace_63) <| blk_c (s_goto (tgt := 69) dX0_pace_65 (by decide)) <| blk_nil
theorem bX0_pace_68 : Blk CP mX0_pace 68 69 [oC (-1)] := blk_c (s_iconst dX0_pace_68 (by decide +kernel)) <| blk_nil
theorem bX0_pace_69 : Blk CP mX0_pace 69 27 [oIS 5, oInc 6 1, .inl (fun s => some s)] := blk_c (s_istore dX0_pace_69 (by decide)) <| blk_c (s_iinc dX0_pace_71 (by decide +kernel) (by decide)) <| blk_c (s_goto (tgt := 27) dX0_pace_74 (by decide)) <| blk_nil
theorem bX0_pace_77 : Blk CP mX0_pace 77 87 [oAL 0, cR 0 2 2, oIL 1, oIL 4, cSI 2 4, oIL 5] := blk_c (s_aload_n dX0_pace_77 rfl) <| blk_c (cgX0_2 (Or.inl q558) dX0_pace_78) <| blk_c (s_iload_n dX0_pace_81 rfl) <| blk_c (s_iload dX0_pace_82) <| blk_c (c_iast (fun _ => rfl) dX0_pace_84) <| blk_c (s_iload dX0_pace_85) <| blk_nil
theorem pb_pace (hS : SW v A sw) {c m h : Int32} : RCc X mX0_pace 1000 70000 [.ref (ad 0), .int c, .int m, .int h] (ad, A, B, sk, sw, E) (PubQ (ad, A, B, sk, sw, E) (q_pace (sw 0) c m h)) := by
  obtain ⟨-, hw, e7, ep⟩ := id hS
  have h4 := hw.nc4
  have h40 := hw.sp40
  have main : (cB (sw 0) c && (tB (sw 0) m && hB h)) = true → PJ X mX0_pace (ad, A, B, sk, sw, E) (q_pace (sw 0) c m h) 13 [some (.ref (ad 0)), some (.int c), some (.int m), some (.int h), none, none, none] [] (ad, A, B, sk, sw, E) := by
    intro hg
    rw [q_pace, if_pos hg]
    simp only [Bool.and_eq_true] at hg
    obtain ⟨c, hc, rfl⟩ := hw.cOf hg.1
    obtain ⟨m, hm, rfl⟩ := hw.tOf hg.2.1
    rw [nI_clamp (by omega), nI_clamp (by omega)]
    refine bX0_pace_13.go rfl (by (try simp (disch := omega) only [nI_add, pk_mul, pk_sub, nI_clamp, vpI]); repeat' first | exact trivial | rfl | assumption | omega | apply And.intro) ?_
    simp (disch := omega) only [nI_clamp]
    have fin : ∀ x r j, r = paV (sw 0) c m h → ∀ A' B' sk' sw' E', KpX (upA A 2 c x) B sk sw E A' B' sk' sw' E' → PJ X mX0_pace (ad, A, B, sk, sw, E) (paV (sw 0) c m h) 77 [some (.ref (ad 0)), some (.int (nI c)), some (.int (nI m)), some (.int h), some (.int (A 2 c)), some (.int r), some (.int j)] [] (ad, A', B', sk', sw', E') := by
      intro x r j hr A' B' sk' sw' E' k0
      refine bX0_pace_77.go rfl (by (try simp (disch := omega) only [nI_add, pk_mul, pk_sub, nI_clamp, vpI]); repeat' first | exact trivial | rfl | assumption | omega | apply And.intro) ?_
      simp (disch := omega) only [nI_clamp]
      refine x_ret dX0_pace_87 rfl hr ?_
      have := k0.set2 (c := c) (A 2 c)
      rw [upA_up, upA_same] at this
      exact this
    refine loop_down (N := 61) (I := fun n => paV (sw 0) c m h = firstF (fun n => decide (showsP (pcW (sw 0) c (nI n)) c m = h)) (61 - n) n) (P := fun n => ∀ x A' B' sk' sw' E', KpX (upA A 2 c x) B sk sw E A' B' sk' sw' E' → PJ X mX0_pace (ad, A, B, sk, sw, E) (paV (sw 0) c m h) 27 [some (.ref (ad 0)), some (.int (nI c)), some (.int (nI m)), some (.int h), some (.int (A 2 c)), some (.int (-1)), some (.int (nI n))] [] (ad, A', B', sk', sw', E')) ?_ ?_ 0 (Nat.zero_le _) rfl (A 2 c) A B sk sw E (by rw [upA_same]; exact KpX.rf)
    · intro hI x A' B' sk' sw' E' k0
      refine bX0_pace_27.go rfl trivial ?_
      refine j_icmp_gt (tgt := 77) dX0_pace_31 (by decide) (fun h7 => ?_) (fun h7 => absurd (nI_lt (by omega) (by omega)) h7)
      exact fin x _ _ (by rw [hI]; rfl) A' B' sk' sw' E' k0
    · intro n hn hI ih x A' B' sk' sw' E' k0
      rw [firstF_s hn] at hI
      refine bX0_pace_27.go rfl trivial ?_
      refine j_icmp_gt (tgt := 77) dX0_pace_31 (by decide) (fun h7 => ?_) (fun h7 => ?_)
      · rw [nI_ltI (by omega) (by omega)] at h7; omega
      · refine bX0_pace_34.go rfl trivial ?_
        refine j_icmp_ne (tgt := 77) dX0_pace_37 (by decide) (fun h62 => absurd rfl h62) (fun h62 => ?_)
        refine bX0_pace_40.go rfl (by (try simp (disch := omega) only [nI_add, pk_mul, pk_sub, nI_clamp, vpI]); repeat' first | exact trivial | rfl | assumption | omega | apply And.intro) ?_
        simp (disch := omega) only [nI_clamp]
        have e0 : sw' 0 = sw 0 := k0.2.2.2.1 0 (by decide)
        have hw1 := hw.pc (x := n) hc (by omega)
        have k1 := k0.set2 (c := c) (nI n)
        rw [upA_up] at k1
        refine js_re (w' := pcW (sw 0) c (nI n)) (v := v) (by rw [e0]; exact hw) (by rw [e0]; exact pc_eq _ (by omega) _) ?_
        have hS1 : SX (pcW (sw 0) c (nI n)) (va_up v (32 + 6 * c + 2) n) (upA A' 2 c (nI n)) (va_up sw' 0 (pcW (sw 0) c (nI n))) := by
          refine ⟨va_up_self _ _ _, hw1, ?_, fun d hd => ?_⟩
          · rw [k1.1 0 (by decide) (by omega), upA_ne (by decide), e7]; unfold pcW; rw [va_up_ne _ _ (by omega)]
          · rw [k1.1 2 (by decide) (by omega), upA_at]
            rw [va_up_ne _ _ (by omega)] at hd
            unfold pcW
            by_cases e : d = c
            · subst e; rw [if_pos rfl, va_up_self]
            · rw [if_neg e, va_up_ne _ _ (by omega)]; exact ep d hd
        refine xq (M' := mX0_plain) (As := []) (nA := 0) (ok_plainC hS1) rec0 rfl (lw_V q1184 q1186 qs34 q131 q1187) dX0_pace_49 rfl hy_X0_plain (fun r A1 B1 sk1 sw1 E1 k2 q1 => ?_)
        obtain ⟨rfl, q1, -, -⟩ := q1
        have e1 : sw1 0 = pcW (sw 0) c (nI n) := by rw [k2.2.2.2.1 0 (by decide), va_up_self]
        refine js_re (w' := sw 0) (v := _) (by rw [e1]; exact hw1) (by rw [e1]; exact pc_qe _ (by omega) _) ?_
        have k3 : KpX (upA A 2 c (nI n)) B sk sw E A1 B1 sk1 (va_up sw1 0 (sw 0)) E1 := by
          have := k1.tr (by have := k2.sq; rw [e0] at this; exact this)
          exact this
        refine bX0_pace_52.go rfl (by (try simp (disch := omega) only [nI_add, pk_mul, pk_sub, nI_clamp, vpI]); repeat' first | exact trivial | rfl | assumption | omega | apply And.intro) ?_
        simp (disch := omega) only [nI_clamp]
        rw [q1.2.2.2.2.1 m (by rw [va_up_ne _ _ (by omega)]; exact hm) c (by rw [va_up_ne _ _ (by omega)]; exact hc)]
        refine j_icmp_ne (tgt := 68) dX0_pace_60 (by decide) (fun h60 => ?_) (fun h60 => ?_)
        · refine bX0_pace_68.go rfl trivial ?_
          refine bX0_pace_69.go rfl trivial ?_
          rw [nI_1]
          exact ih (by rw [hI, if_neg (by rw [decide_eq_true_eq]; exact h60)]) _ A1 B1 sk1 _ E1 k3
        · refine bX0_pace_63.go rfl trivial ?_
          refine bX0_pace_69.go rfl trivial ?_
          have hr : nI n = paV (sw 0) c m h := by rw [hI, if_pos (by rw [decide_eq_true_eq]; exact h60)]
          rw [nI_1]
          refine bX0_pace_27.go rfl trivial ?_
          refine j_icmp_gt (tgt := 77) dX0_pace_31 (by decide) (fun h7 => fin _ _ _ hr A1 B1 sk1 _ E1 k3) (fun h7 => ?_)
          refine bX0_pace_34.go rfl trivial ?_
          refine j_icmp_ne (tgt := 77) dX0_pace_37 (by decide) (fun h62 => fin _ _ _ hr A1 B1 sk1 _ E1 k3) (fun h62 => absurd h62 (nI_n1 (by omega)))
  refine C_start (L := [some (.ref (ad 0)), some (.int c), some (.int m), some (.int h), none, none, none]) 3 rfl ?_
  refine bX0_pace_0.go rfl (by first | exact ⟨⟨rfl, v, hw⟩, trivial⟩ | exact ⟨rfl, trivial⟩ | exact ⟨trivial, trivial⟩) ?_
  refine j_if_ne (tgt := 13) dX0_pace_7 (by decide) (fun h7 => ?_) (fun h7 => ?_)
  · exact main (by clear main; simp only [clL_i, tmL_i, hrL_i, fIn_L, b2_0, b2_n0] at *; simp_all)
  · refine bX0_pace_10.go rfl trivial ?_
    refine c_iret dX0_pace_12 rfl ?_
    exact ⟨ans (by clear main; simp only [clL_i, tmL_i, hrL_i, fIn_L, b2_0, b2_n0] at *; simp_all [q_pace] <;> (intros; simp_all)), KpX.rf.kp⟩
end Q6
