set_option maxRecDepth 100000
/-! ===== UnseenClock: what may be asked ===== -/
def clL (w : Nat → Int32) (k : Int64) : Bool := decide (lN 0 ≤ k) && decide (k ≤ (w 1 - nI 1).toInt64)
def tmL (w : Nat → Int32) (k : Int64) : Bool := sqB w && (decide (lN 0 ≤ k) && decide (k ≤ (w 6).toInt64))
theorem clL_i (w : Nat → Int32) (a : Int32) : clL w a.toInt64 = cB w a := by rw [clL, lN0, in_i2l]; rfl
theorem tmL_i (w : Nat → Int32) (a : Int32) : tmL w a.toInt64 = tB w a := by rw [tmL, lN0, in_i2l]; rfl
theorem hrL_i (a : Int32) : fHour a.toInt64 = b2 (hB a) := by
  rw [fHour, fIn, lN0, show (59 : Int64) = (nI 59).toInt64 from by decide +kernel, in_i2l]; rfl
theorem fIn_i (a b : Int32) : fIn a.toInt64 (lN 0) b.toInt64 = b2 (inI a (nI 0) b) := by rw [fIn, lN0, in_i2l]
theorem WOk.w1 {w : Nat → Int32} {v : Nat → Nat} (h : WOk w v) : nI (nC w) = w 1 := by rw [h.ncE]; exact (h.1 1 (by decide)).symm
theorem WOk.w2 {w : Nat → Int32} {v : Nat → Nat} (h : WOk w v) : nI (nP w) = w 2 := by rw [h.npE]; exact (h.1 2 (by decide)).symm
theorem WOk.is {w : Nat → Int32} {v : Nat → Nat} (h : WOk w v) : fSqIs w = b2 (sqB w) := by
  have e3 : w 3 = nI (v 3) := h.1 3 (by decide)
  have e4 : w 4 = nI (v 4) := h.1 4 (by decide)
  have b3 : v 3 < 100000 := h.2.2.2.2.1
  have b4 : v 4 ≤ 12 := h.2.2.2.2.2.1
  have hh : 0 < v 4 ↔ 0 < v 3 := h.2.2.2.2.2.2.2.2.2.2.2.2.1
  rw [fSqIs, sqB, e3, e4]
  congr 1
  rw [decide_eq_decide, ← nI_0, nI_ltI (by omega) (by omega), nI_ltI (by omega) (by omega)]
  exact hh.symm
def F_clocksC (o : Nat) : Cv → Prop × Value := fun (ad, A, B, sk, sw, E) => (o = ad 0, .int (nI (nC (sw 0))))
def F_peopleC (o : Nat) : Cv → Prop × Value := fun (ad, A, B, sk, sw, E) => (o = ad 0, .int (nI (nP (sw 0))))
def F_isPersonC (o : Nat) (a : Int32) : Cv → Prop × Value := fun (ad, A, B, sk, sw, E) => (o = ad 0 ∧ ∃ v, WOk (sw 0) v, .int (b2 (pB (sw 0) a)))
def F_isClockC (o : Nat) (k : Int64) : Cv → Prop × Value := fun (ad, A, B, sk, sw, E) => (o = ad 0 ∧ ∃ v, WOk (sw 0) v, .int (b2 (clL (sw 0) k)))
def F_isMinuteC (o : Nat) (a : Int32) : Cv → Prop × Value := fun (ad, A, B, sk, sw, E) => (o = ad 0, .int (b2 (mB (sw 0) a)))
def F_isMomentC (o : Nat) (k : Int64) : Cv → Prop × Value := fun (ad, A, B, sk, sw, E) => (o = ad 0 ∧ ∃ v, WOk (sw 0) v, .int (b2 (tmL (sw 0) k)))
def F_isAskedC (o : Nat) (k t h : Int32) : Cv → Prop × Value := fun (ad, A, B, sk, sw, E) => (o = ad 0 ∧ ∃ v, WOk (sw 0) v, .int (b2 (cB (sw 0) k && (tB (sw 0) t && hB h))))
def F_isManyC (o : Nat) (n h : Int32) : Cv → Prop × Value := fun (ad, A, B, sk, sw, E) => (o = ad 0 ∧ ∃ v, WOk (sw 0) v, .int (b2 (sqB (sw 0) && (inL n (lN 1) 4 && hB h))))
def F_isDayC (o : Nat) (s k t : Int32) : Cv → Prop × Value := fun (ad, A, B, sk, sw, E) => (o = ad 0 ∧ ∃ v, WOk (sw 0) v, .int (b2 (inL s (lN 0) 2000000000 && (cB (sw 0) k && tB (sw 0) t))))
theorem sq0 {E : Nat → Nat} : SqL E 0 := Or.inl rfl
theorem bX0_clocks_0 : Blk CP mX0_clocks 0 12 [oAL 0, cQ0, qR 0 0 1, qSzC 0] := blk_c (s_aload_n dX0_clocks_0 rfl) <| blk_c (cgX0_1 (Or.inl q557) dX0_clocks_1) <| blk_c (q_R (by decide) (fun _ _ => rfl) (Or.inr ⟨_, nq427⟩) dX0_clocks_4) <| blk_c (q_SzC (lw_F q1115 q803 q805 q136 q807) (by decide) dX0_clocks_7) <| blk_nil
theorem ok_clocksC : FC_V mX0_clocks 0 F_clocksC := by
  rintro X o ⟨ad, A, B, sk, sw, E⟩ rfl
  refine ⟨?_, rec0⟩
  dsimp only [F_clocksC]
  refine C_start (L := [some (.ref (ad 0))]) 0 rfl ?_
  refine bX0_clocks_0.go rfl ⟨rfl, ⟨rfl, sq0⟩, ⟨rfl, rfl, sq0⟩, trivial⟩ ?_
  exact c_iret dX0_clocks_12 rfl ⟨rfl, rfl⟩
theorem bX0_people_0 : Blk CP mX0_people 0 12 [oAL 0, cQ0, qR 0 1 2, qSzP 0] := blk_c (s_aload_n dX0_people_0 rfl) <| blk_c (cgX0_1 (Or.inl q557) dX0_people_1) <| blk_c (q_R (by decide) (fun _ _ => rfl) (Or.inr ⟨_, nq431⟩) dX0_people_4) <| blk_c (q_SzP (lw_F q1115 q803 q805 q136 q807) (by decide) dX0_people_7) <| blk_nil
theorem ok_peopleC : FC_V mX0_people 0 F_peopleC := by
  rintro X o ⟨ad, A, B, sk, sw, E⟩ rfl
  refine ⟨?_, rec0⟩
  dsimp only [F_peopleC]
  refine C_start (L := [some (.ref (ad 0))]) 0 rfl ?_
  refine bX0_people_0.go rfl ⟨rfl, ⟨rfl, sq0⟩, ⟨rfl, rfl, sq0⟩, trivial⟩ ?_
  exact c_iret dX0_people_12 rfl ⟨rfl, rfl⟩
theorem bX0_isPerson_0 : Blk CP mX0_isPerson 0 13 [oIL 1, oI2L, oCL (lN 0), oAL 0, cF_V F_peopleC, oC (nI 1), oSub, oI2L, oS_JJJ pT3 fIn] := blk_c (s_iload_n dX0_isPerson_0 rfl) <| blk_c (s_i2l dX0_isPerson_1) <| blk_c (s_lconst dX0_isPerson_2 (by decide +kernel)) <| blk_c (s_aload_n dX0_isPerson_3 rfl) <| blk_c (c_F_V ok_peopleC (ci := 0) rfl (lw_V q1131 q1133 qs29 q131 q1134) hy_X0_people rfl (by decide) dX0_isPerson_4) <| blk_c (s_iconst dX0_isPerson_7 (by decide +kernel)) <| blk_c (s_isub dX0_isPerson_8) <| blk_c (s_i2l dX0_isPerson_9) <| blk_c (s_S_JJJ ok_sX0_in (fun _ _ _ h => h.1.1) (Or.inl (lw_S q179 q180 q131 q181)) hy_X0_in (by decide) dX0_isPerson_10) <| blk_nil
theorem ok_isPersonC : FC_I mX0_isPerson 0 F_isPersonC := by
  rintro X o a ⟨ad, A, B, sk, sw, E⟩ ⟨rfl, v, hw⟩
  refine ⟨?_, rec0⟩
  dsimp only [F_isPersonC]
  refine C_start (L := [some (.ref (ad 0)), some (.int a)]) 0 rfl ?_
  refine bX0_isPerson_0.go rfl ⟨rfl, trivial, trivial⟩ ?_
  rw [fIn_i, hw.w2]
  exact c_zret dX0_isPerson_13 rfl (b2_z _) ⟨rfl, rfl⟩
theorem bX0_isClock_0 : Blk CP mX0_isClock 0 12 [oLL 1, oCL (lN 0), oAL 0, cF_V F_clocksC, oC (nI 1), oSub, oI2L, oS_JJJ pT3 fIn] := blk_c (s_lload_n dX0_isClock_0 rfl) <| blk_c (s_lconst dX0_isClock_1 (by decide +kernel)) <| blk_c (s_aload_n dX0_isClock_2 rfl) <| blk_c (c_F_V ok_clocksC (ci := 0) rfl (lw_V q1150 q1152 qs32 q131 q1153) hy_X0_clocks rfl (by decide) dX0_isClock_3) <| blk_c (s_iconst dX0_isClock_6 (by decide +kernel)) <| blk_c (s_isub dX0_isClock_7) <| blk_c (s_i2l dX0_isClock_8) <| blk_c (s_S_JJJ ok_sX0_in (fun _ _ _ h => h.1.1) (Or.inl (lw_S q179 q180 q131 q181)) hy_X0_in (by decide) dX0_isClock_9) <| blk_nil
theorem ok_isClockC : FC_J mX0_isClock 0 F_isClockC := by
  rintro X o a ⟨ad, A, B, sk, sw, E⟩ ⟨rfl, v, hw⟩
  refine ⟨?_, rec0⟩
  dsimp only [F_isClockC]
  refine C_start (L := [some (.ref (ad 0)), some (.long a), none]) 0 rfl ?_
  refine bX0_isClock_0.go rfl ⟨rfl, trivial, trivial⟩ ?_
  rw [hw.w1]
  exact c_zret dX0_isClock_12 rfl (b2_z _) ⟨rfl, rfl⟩
theorem bX0_isMinute_0 : Blk CP mX0_isMinute 0 16 [oIL 1, oI2L, oCL (lN 0), oAL 0, cQ0, qI 0 6 6, oC (nI 1), oSub, oI2L, oS_JJJ pT3 fIn] := blk_c (s_iload_n dX0_isMinute_0 rfl) <| blk_c (s_i2l dX0_isMinute_1) <| blk_c (s_lconst dX0_isMinute_2 (by decide +kernel)) <| blk_c (s_aload_n dX0_isMinute_3 rfl) <| blk_c (cgX0_1 (Or.inl q557) dX0_isMinute_4) <| blk_c (q_I (by decide) (fun _ _ => rfl) (Or.inr ⟨_, nq448⟩) dX0_isMinute_7) <| blk_c (s_iconst dX0_isMinute_10 (by decide +kernel)) <| blk_c (s_isub dX0_isMinute_11) <| blk_c (s_i2l dX0_isMinute_12) <| blk_c (s_S_JJJ ok_sX0_in (fun _ _ _ h => h.1.1) (Or.inl (lw_S q179 q180 q131 q181)) hy_X0_in (by decide) dX0_isMinute_13) <| blk_nil
theorem ok_isMinuteC : FC_I mX0_isMinute 0 F_isMinuteC := by
  rintro X o a ⟨ad, A, B, sk, sw, E⟩ rfl
  refine ⟨?_, rec0⟩
  dsimp only [F_isMinuteC]
  refine C_start (L := [some (.ref (ad 0)), some (.int a)]) 0 rfl ?_
  refine bX0_isMinute_0.go rfl ⟨rfl, ⟨rfl, sq0⟩, trivial, trivial⟩ ?_
  rw [fIn_i]
  exact c_zret dX0_isMinute_16 rfl (b2_z _) ⟨rfl, rfl⟩
theorem bX0_isMoment_0 : Blk CP mX0_isMoment 0 7 [oAL 0, cQ0, qC_V 0 pTw fSqIs] := blk_c (s_aload_n dX0_isMoment_0 rfl) <| blk_c (cgX0_1 (Or.inl q557) dX0_isMoment_1) <| blk_c (q_C_V ok_sqIs (lw_V q1312 q1313 q1314 q133 q1315) hy_X2_is rfl (by decide) dX0_isMoment_4) <| blk_nil
theorem bX0_isMoment_10 : Blk CP mX0_isMoment 10 23 [oLL 1, oCL (lN 0), oAL 0, cQ0, qI 0 6 6, oI2L, oS_JJJ pT3 fIn] := blk_c (s_lload_n dX0_isMoment_10 rfl) <| blk_c (s_lconst dX0_isMoment_11 (by decide +kernel)) <| blk_c (s_aload_n dX0_isMoment_12 rfl) <| blk_c (cgX0_1 (Or.inl q557) dX0_isMoment_13) <| blk_c (q_I (by decide) (fun _ _ => rfl) (Or.inr ⟨_, nq448⟩) dX0_isMoment_16) <| blk_c (s_i2l dX0_isMoment_19) <| blk_c (s_S_JJJ ok_sX0_in (fun _ _ _ h => h.1.1) (Or.inl (lw_S q179 q180 q131 q181)) hy_X0_in (by decide) dX0_isMoment_20) <| blk_nil
theorem bX0_isMoment_26 : Blk CP mX0_isMoment 26 31 [oC (nI 1), .inl (fun s => some s)] := blk_c (s_iconst dX0_isMoment_26 (by decide +kernel)) <| blk_c (s_goto (tgt := 31) dX0_isMoment_27 (by decide)) <| blk_nil
theorem bX0_isMoment_30 : Blk CP mX0_isMoment 30 31 [oC (nI 0)] := blk_c (s_iconst dX0_isMoment_30 (by decide +kernel)) <| blk_nil
theorem ok_isMomentC : FC_J mX0_isMoment 0 F_isMomentC := by
  rintro X o a ⟨ad, A, B, sk, sw, E⟩ ⟨rfl, v, hw⟩
  refine ⟨?_, rec0⟩
  dsimp only [F_isMomentC]
  refine C_start (L := [some (.ref (ad 0)), some (.long a), none]) 0 rfl ?_
  refine bX0_isMoment_0.go rfl ⟨rfl, ⟨⟨rfl, trivial⟩, sq0⟩, trivial⟩ ?_
  rw [hw.is]
  have e : fIn a (lN 0) (sw 0 6).toInt64 = b2 (decide (lN 0 ≤ a) && decide (a ≤ (sw 0 6).toInt64)) := rfl
  refine j_if_eq (tgt := 30) dX0_isMoment_7 (by decide) (fun h7 => ?_) (fun h7 => ?_)
  · rw [b2_0] at h7
    refine bX0_isMoment_30.go rfl trivial ?_
    exact c_zret dX0_isMoment_31 rfl rfl ⟨by rw [tmL, h7]; rfl, rfl⟩
  · rw [b2_n0] at h7
    refine bX0_isMoment_10.go rfl ⟨rfl, ⟨rfl, sq0⟩, trivial, trivial⟩ ?_
    rw [e]
    refine j_if_eq (tgt := 30) dX0_isMoment_23 (by decide) (fun h23 => ?_) (fun h23 => ?_)
    · rw [b2_0] at h23
      refine bX0_isMoment_30.go rfl trivial ?_
      exact c_zret dX0_isMoment_31 rfl rfl ⟨by rw [tmL, h7, h23]; rfl, rfl⟩
    · rw [b2_n0] at h23
      refine bX0_isMoment_26.go rfl trivial ?_
      exact c_zret dX0_isMoment_31 rfl rfl ⟨by rw [tmL, h7, h23]; rfl, rfl⟩
theorem bX0_isAsked_0 : Blk CP mX0_isAsked 0 6 [oAL 0, oIL 1, oI2L, cF_J F_isClockC] := blk_c (s_aload_n dX0_isAsked_0 rfl) <| blk_c (s_iload_n dX0_isAsked_1 rfl) <| blk_c (s_i2l dX0_isAsked_2) <| blk_c (c_F_J ok_isClockC (ci := 0) rfl (lw_V q1146 q1148 qs31 q131 q1149) hy_X0_isClock rfl (by decide) dX0_isAsked_3) <| blk_nil
theorem bX0_isAsked_9 : Blk CP mX0_isAsked 9 15 [oAL 0, oIL 2, oI2L, cF_J F_isMomentC] := blk_c (s_aload_n dX0_isAsked_9 rfl) <| blk_c (s_iload_n dX0_isAsked_10 rfl) <| blk_c (s_i2l dX0_isAsked_11) <| blk_c (c_F_J ok_isMomentC (ci := 0) rfl (lw_V q1308 q1310 qs43 q131 q1311) hy_X0_isMoment rfl (by decide) dX0_isAsked_12) <| blk_nil
theorem bX0_isAsked_18 : Blk CP mX0_isAsked 18 23 [oIL 3, oI2L, oS_J pT1 fHour] := blk_c (s_iload_n dX0_isAsked_18 rfl) <| blk_c (s_i2l dX0_isAsked_19) <| blk_c (s_S_J ok_sX0_isHour (fun _ _ _ h => h.1.1) (Or.inl (lw_S q1343 q1344 q131 q1345)) hy_X0_isHour (by decide) dX0_isAsked_20) <| blk_nil
theorem bX0_isAsked_26 : Blk CP mX0_isAsked 26 31 [oC (nI 1), .inl (fun s => some s)] := blk_c (s_iconst dX0_isAsked_26 (by decide +kernel)) <| blk_c (s_goto (tgt := 31) dX0_isAsked_27 (by decide)) <| blk_nil
theorem bX0_isAsked_30 : Blk CP mX0_isAsked 30 31 [oC (nI 0)] := blk_c (s_iconst dX0_isAsked_30 (by decide +kernel)) <| blk_nil
theorem ok_isAskedC : FC_III mX0_isAsked 0 F_isAskedC := by
  rintro X o k t h ⟨ad, A, B, sk, sw, E⟩ ⟨rfl, v, hw⟩
  refine ⟨?_, rec0⟩
  dsimp only [F_isAskedC]
  refine C_start (L := [some (.ref (ad 0)), some (.int k), some (.int t), some (.int h)]) 0 rfl ?_
  refine bX0_isAsked_0.go rfl ⟨⟨rfl, v, hw⟩, trivial⟩ ?_
  rw [clL_i]
  refine j_if_eq (tgt := 30) dX0_isAsked_6 (by decide) (fun h6 => ?_) (fun h6 => ?_)
  · rw [b2_0] at h6
    refine bX0_isAsked_30.go rfl trivial ?_
    exact c_zret dX0_isAsked_31 rfl rfl ⟨by rw [h6]; rfl, rfl⟩
  · rw [b2_n0] at h6
    refine bX0_isAsked_9.go rfl ⟨⟨rfl, v, hw⟩, trivial⟩ ?_
    rw [tmL_i]
    refine j_if_eq (tgt := 30) dX0_isAsked_15 (by decide) (fun h15 => ?_) (fun h15 => ?_)
    · rw [b2_0] at h15
      refine bX0_isAsked_30.go rfl trivial ?_
      exact c_zret dX0_isAsked_31 rfl rfl ⟨by rw [h6, h15]; rfl, rfl⟩
    · rw [b2_n0] at h15
      refine bX0_isAsked_18.go rfl ⟨trivial, trivial⟩ ?_
      rw [hrL_i]
      refine j_if_eq (tgt := 30) dX0_isAsked_23 (by decide) (fun h23 => ?_) (fun h23 => ?_)
      · rw [b2_0] at h23
        refine bX0_isAsked_30.go rfl trivial ?_
        exact c_zret dX0_isAsked_31 rfl rfl ⟨by rw [h6, h15, h23]; rfl, rfl⟩
      · rw [b2_n0] at h23
        refine bX0_isAsked_26.go rfl trivial ?_
        exact c_zret dX0_isAsked_31 rfl rfl ⟨by rw [h6, h15, h23]; rfl, rfl⟩
theorem bX0_isMany_0 : Blk CP mX0_isMany 0 7 [oAL 0, cQ0, qC_V 0 pTw fSqIs] := blk_c (s_aload_n dX0_isMany_0 rfl) <| blk_c (cgX0_1 (Or.inl q557) dX0_isMany_1) <| blk_c (q_C_V ok_sqIs (lw_V q1312 q1313 q1314 q133 q1315) hy_X2_is rfl (by decide) dX0_isMany_4) <| blk_nil
theorem bX0_isMany_10 : Blk CP mX0_isMany 10 19 [oIL 1, oI2L, oCL (lN 1), oCL (4), oS_JJJ pT3 fIn] := blk_c (s_iload_n dX0_isMany_10 rfl) <| blk_c (s_i2l dX0_isMany_11) <| blk_c (s_lconst dX0_isMany_12 (by decide +kernel)) <| blk_c (s_ldc2 dX0_isMany_13 q1342) <| blk_c (s_S_JJJ ok_sX0_in (fun _ _ _ h => h.1.1) (Or.inl (lw_S q179 q180 q131 q181)) hy_X0_in (by decide) dX0_isMany_16) <| blk_nil
theorem bX0_isMany_22 : Blk CP mX0_isMany 22 27 [oIL 2, oI2L, oS_J pT1 fHour] := blk_c (s_iload_n dX0_isMany_22 rfl) <| blk_c (s_i2l dX0_isMany_23) <| blk_c (s_S_J ok_sX0_isHour (fun _ _ _ h => h.1.1) (Or.inl (lw_S q1343 q1344 q131 q1345)) hy_X0_isHour (by decide) dX0_isMany_24) <| blk_nil
theorem bX0_isMany_30 : Blk CP mX0_isMany 30 35 [oC (nI 1), .inl (fun s => some s)] := blk_c (s_iconst dX0_isMany_30 (by decide +kernel)) <| blk_c (s_goto (tgt := 35) dX0_isMany_31 (by decide)) <| blk_nil
theorem bX0_isMany_34 : Blk CP mX0_isMany 34 35 [oC (nI 0)] := blk_c (s_iconst dX0_isMany_34 (by decide +kernel)) <| blk_nil
theorem ok_isManyC : FC_II mX0_isMany 0 F_isManyC := by
  rintro X o n h ⟨ad, A, B, sk, sw, E⟩ ⟨rfl, v, hw⟩
  refine ⟨?_, rec0⟩
  dsimp only [F_isManyC]
  refine C_start (L := [some (.ref (ad 0)), some (.int n), some (.int h)]) 0 rfl ?_
  refine bX0_isMany_0.go rfl ⟨rfl, ⟨⟨rfl, trivial⟩, sq0⟩, trivial⟩ ?_
  rw [hw.is]
  refine j_if_eq (tgt := 34) dX0_isMany_7 (by decide) (fun h7 => ?_) (fun h7 => ?_)
  · rw [b2_0] at h7
    refine bX0_isMany_34.go rfl trivial ?_
    exact c_zret dX0_isMany_35 rfl rfl ⟨by rw [h7]; rfl, rfl⟩
  · rw [b2_n0] at h7
    refine bX0_isMany_10.go rfl ⟨trivial, trivial⟩ ?_
    rw [show fIn n.toInt64 (lN 1) 4 = b2 (inL n (lN 1) 4) from rfl]
    refine j_if_eq (tgt := 34) dX0_isMany_19 (by decide) (fun h19 => ?_) (fun h19 => ?_)
    · rw [b2_0] at h19
      refine bX0_isMany_34.go rfl trivial ?_
      exact c_zret dX0_isMany_35 rfl rfl ⟨by rw [h7, h19]; rfl, rfl⟩
    · rw [b2_n0] at h19
      refine bX0_isMany_22.go rfl ⟨trivial, trivial⟩ ?_
      rw [hrL_i]
      refine j_if_eq (tgt := 34) dX0_isMany_27 (by decide) (fun h27 => ?_) (fun h27 => ?_)
      · rw [b2_0] at h27
        refine bX0_isMany_34.go rfl trivial ?_
        exact c_zret dX0_isMany_35 rfl rfl ⟨by rw [h7, h19, h27]; rfl, rfl⟩
      · rw [b2_n0] at h27
        refine bX0_isMany_30.go rfl trivial ?_
        exact c_zret dX0_isMany_35 rfl rfl ⟨by rw [h7, h19, h27]; rfl, rfl⟩
theorem bX0_isDay_0 : Blk CP mX0_isDay 0 9 [oIL 1, oI2L, oCL (lN 0), oCL (2000000000), oS_JJJ pT3 fIn] := blk_c (s_iload_n dX0_isDay_0 rfl) <| blk_c (s_i2l dX0_isDay_1) <| blk_c (s_lconst dX0_isDay_2 (by decide +kernel)) <| blk_c (s_ldc2 dX0_isDay_3 q1593) <| blk_c (s_S_JJJ ok_sX0_in (fun _ _ _ h => h.1.1) (Or.inl (lw_S q179 q180 q131 q181)) hy_X0_in (by decide) dX0_isDay_6) <| blk_nil
theorem bX0_isDay_12 : Blk CP mX0_isDay 12 18 [oAL 0, oIL 2, oI2L, cF_J F_isClockC] := blk_c (s_aload_n dX0_isDay_12 rfl) <| blk_c (s_iload_n dX0_isDay_13 rfl) <| blk_c (s_i2l dX0_isDay_14) <| blk_c (c_F_J ok_isClockC (ci := 0) rfl (lw_V q1146 q1148 qs31 q131 q1149) hy_X0_isClock rfl (by decide) dX0_isDay_15) <| blk_nil
theorem bX0_isDay_21 : Blk CP mX0_isDay 21 27 [oAL 0, oIL 3, oI2L, cF_J F_isMomentC] := blk_c (s_aload_n dX0_isDay_21 rfl) <| blk_c (s_iload_n dX0_isDay_22 rfl) <| blk_c (s_i2l dX0_isDay_23) <| blk_c (c_F_J ok_isMomentC (ci := 0) rfl (lw_V q1308 q1310 qs43 q131 q1311) hy_X0_isMoment rfl (by decide) dX0_isDay_24) <| blk_nil
theorem bX0_isDay_30 : Blk CP mX0_isDay 30 35 [oC (nI 1), .inl (fun s => some s)] := blk_c (s_iconst dX0_isDay_30 (by decide +kernel)) <| blk_c (s_goto (tgt := 35) dX0_isDay_31 (by decide)) <| blk_nil
theorem bX0_isDay_34 : Blk CP mX0_isDay 34 35 [oC (nI 0)] := blk_c (s_iconst dX0_isDay_34 (by decide +kernel)) <| blk_nil
theorem ok_isDayC : FC_III mX0_isDay 0 F_isDayC := by
  rintro X o s k t ⟨ad, A, B, sk, sw, E⟩ ⟨rfl, v, hw⟩
  refine ⟨?_, rec0⟩
  dsimp only [F_isDayC]
  refine C_start (L := [some (.ref (ad 0)), some (.int s), some (.int k), some (.int t)]) 0 rfl ?_
  refine bX0_isDay_0.go rfl ⟨trivial, trivial⟩ ?_
  rw [show fIn s.toInt64 (lN 0) 2000000000 = b2 (inL s (lN 0) 2000000000) from rfl]
  refine j_if_eq (tgt := 34) dX0_isDay_9 (by decide) (fun h9 => ?_) (fun h9 => ?_)
  · rw [b2_0] at h9
    refine bX0_isDay_34.go rfl trivial ?_
    exact c_zret dX0_isDay_35 rfl rfl ⟨by rw [h9]; rfl, rfl⟩
  · rw [b2_n0] at h9
    refine bX0_isDay_12.go rfl ⟨⟨rfl, v, hw⟩, trivial⟩ ?_
    rw [clL_i]
    refine j_if_eq (tgt := 34) dX0_isDay_18 (by decide) (fun h18 => ?_) (fun h18 => ?_)
    · rw [b2_0] at h18
      refine bX0_isDay_34.go rfl trivial ?_
      exact c_zret dX0_isDay_35 rfl rfl ⟨by rw [h9, h18]; rfl, rfl⟩
    · rw [b2_n0] at h18
      refine bX0_isDay_21.go rfl ⟨⟨rfl, v, hw⟩, trivial⟩ ?_
      rw [tmL_i]
      refine j_if_eq (tgt := 34) dX0_isDay_27 (by decide) (fun h27 => ?_) (fun h27 => ?_)
      · rw [b2_0] at h27
        refine bX0_isDay_34.go rfl trivial ?_
        exact c_zret dX0_isDay_35 rfl rfl ⟨by rw [h9, h18, h27]; rfl, rfl⟩
      · rw [b2_n0] at h27
        refine bX0_isDay_30.go rfl trivial ?_
        exact c_zret dX0_isDay_35 rfl rfl ⟨by rw [h9, h18, h27]; rfl, rfl⟩
