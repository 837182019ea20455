set_option maxRecDepth 100000
/-! ===== UnseenClock: value, open, opens, manyShow, bell, when ===== -/
section Q2
variable {X : Cx} {ad : Nat → Nat} {A : Nat → Nat → Int32} {B : Nat → Nat → Int64} {sk : Nat → Nat → Nat} {sw : Nat → Nat → Int32} {E : Nat → Nat} {v : Nat → Nat}
theorem bX0_value_0 : Blk CP mX0_value 0 6 [oAL 0, oIL 1, oI2L, cF_J F_isClockC] := blk_c (s_aload_n dX0_value_0 rfl) <| blk_c (s_iload_n dX0_value_1 rfl) <| blk_c (s_i2l dX0_value_2) <| blk_c (c_F_J ok_isClockC (ci := 0) rfl (lw_V q1146 q1148 qs31 q131 q1149) hy_X0_isClock rfl (by decide) dX0_value_3) <| blk_nil
theorem bX0_value_9 : Blk CP mX0_value 9 15 [oAL 0, oIL 2, oI2L, cF_J F_isMomentC] := blk_c (s_aload_n dX0_value_9 rfl) <| blk_c (s_iload_n dX0_value_10 rfl) <| blk_c (s_i2l dX0_value_11) <| blk_c (c_F_J ok_isMomentC (ci := 0) rfl (lw_V q1308 q1310 qs43 q131 q1311) hy_X0_isMoment rfl (by decide) dX0_value_12) <| blk_nil
theorem bX0_value_18 : Blk CP mX0_value 18 27 [oIL 3, oI2L, oCL (lN 0), oCL (2), oS_JJJ pT3 fIn] := blk_c (s_iload_n dX0_value_18 rfl) <| blk_c (s_i2l dX0_value_19) <| blk_c (s_lconst dX0_value_20 (by decide +kernel)) <| blk_c (s_ldc2 dX0_value_21 q1320) <| blk_c (s_S_JJJ ok_sX0_in (fun _ _ _ h => h.1.1) (Or.inl (lw_S q179 q180 q131 q181)) hy_X0_in (by decide) dX0_value_24) <| blk_nil
theorem bX0_value_30 : Blk CP mX0_value 30 32 [oC (-2)] := blk_c (s_bipush dX0_value_30 (by decide +kernel)) <| blk_nil
theorem bX0_value_33 : Blk CP mX0_value 33 55 [oAL 0, cQ0, qR 0 0 1, oIL 1, qDial 0, qDF 0 3 1, oIS 4, oAL 0] := blk_c (s_aload_n dX0_value_33 rfl) <| blk_c (cgX0_1 (Or.inl q557) dX0_value_34) <| blk_c (q_R (by decide) (fun _ _ => rfl) (Or.inr ⟨_, nq427⟩) dX0_value_37) <| blk_c (s_iload_n dX0_value_40 rfl) <| blk_c (q_Dial (lw_F q1117 q812 q814 q136 q816) (by decide) dX0_value_41 q1118 dX0_value_46) <| blk_c (q_DF (by decide) (by decide) (Or.inr ⟨_, nq851⟩) dX0_value_49) <| blk_c (s_istore dX0_value_52 (by decide)) <| blk_c (s_aload_n dX0_value_54 rfl) <| blk_nil
theorem bX0_value_58 : Blk CP mX0_value 58 68 [cR 3 2 32, oIL 1, cW 32 64 4, oIL 2, cWI 64 4 41 1, oIS 5, oIL 3] := blk_c (cgX3_2 (Or.inr ⟨_, nq492⟩) dX0_value_58) <| blk_c (s_iload_n dX0_value_61 rfl) <| blk_c (c_W (t := 8) (ty := .int) (fun _ => rfl) (fun _ _ _ _ _ _ => rfl) dX0_value_62) <| blk_c (s_iload_n dX0_value_63 rfl) <| blk_c (c_wiald ar_value dX0_value_64) <| blk_c (s_istore dX0_value_65 (by decide)) <| blk_c (s_iload_n dX0_value_67 rfl) <| blk_nil
theorem bX0_value_71 : Blk CP mX0_value 71 94 [oIL 5, oIL 4, oDiv, .inl (fun s => some s)] := blk_c (s_iload dX0_value_71) <| blk_c (s_iload dX0_value_73) <| blk_c (s_idiv dX0_value_75) <| blk_c (s_goto (tgt := 94) dX0_value_76 (by decide)) <| blk_nil
theorem bX0_value_79 : Blk CP mX0_value 79 81 [oIL 3, oC (nI 1)] := blk_c (s_iload_n dX0_value_79 rfl) <| blk_c (s_iconst dX0_value_80 (by decide +kernel)) <| blk_nil
theorem bX0_value_84 : Blk CP mX0_value 84 94 [oIL 5, oIL 4, oRem, .inl (fun s => some s)] := blk_c (s_iload dX0_value_84) <| blk_c (s_iload dX0_value_86) <| blk_c (s_irem dX0_value_88) <| blk_c (s_goto (tgt := 94) dX0_value_89 (by decide)) <| blk_nil
theorem bX0_value_92 : Blk CP mX0_value 92 94 [oIL 4] := blk_c (s_iload dX0_value_92) <| blk_nil
theorem pb_value (hS : SW v A sw) {c m u : Int32} : RCc X mX0_value 1000 70000 [.ref (ad 0), .int c, .int m, .int u] (ad, A, B, sk, sw, E) (PubQ (ad, A, B, sk, sw, E) (q_value (sw 0) c m u)) := by
  obtain ⟨-, hw, e7, ep⟩ := id hS
  have h4 := hw.nc4
  have h40 := hw.sp40
  have ncE := hw.ncE
  refine C_start (L := [some (.ref (ad 0)), some (.int c), some (.int m), some (.int u), none, none]) 2 rfl ?_
  have no : (cB (sw 0) c && (tB (sw 0) m && inL u (lN 0) 2)) = false → JS CP X mX0_value (rmOf mX0_value.lv 1000 70000) (ZC X 1000 70000 (PubQ (ad, A, B, sk, sw, E) (q_value (sw 0) c m u))) 0 0 30 [some (.ref (ad 0)), some (.int c), some (.int m), some (.int u), none, none] [] (ad, A, B, sk, sw, E) := by
    intro hz
    refine bX0_value_30.go rfl trivial ?_
    exact x_ret dX0_value_32 rfl (by rw [q_value, hz]; rfl) KpX.rf
  refine bX0_value_0.go rfl ⟨⟨rfl, v, hw⟩, trivial⟩ ?_
  rw [clL_i]
  refine j_if_eq (tgt := 30) dX0_value_6 (by decide) (fun h6 => no (by rw [(b2_0 _).mp h6]; rfl)) (fun h6 => ?_)
  rw [b2_n0] at h6
  refine bX0_value_9.go rfl ⟨⟨rfl, v, hw⟩, trivial⟩ ?_
  rw [tmL_i]
  refine j_if_eq (tgt := 30) dX0_value_15 (by decide) (fun h15 => no (by rw [(b2_0 _).mp h15]; simp)) (fun h15 => ?_)
  rw [b2_n0] at h15
  refine bX0_value_18.go rfl ⟨trivial, trivial⟩ ?_
  rw [show fIn u.toInt64 (lN 0) 2 = b2 (inL u (lN 0) 2) from rfl]
  refine j_if_ne (tgt := 33) dX0_value_27 (by decide) (fun h27 => ?_) (fun h27 => no (by rw [(b2_0 _).mp h27]; simp))
  rw [b2_n0] at h27
  obtain ⟨c, hc, rfl⟩ := hw.cOf h6
  obtain ⟨m, hm, rfl⟩ := hw.tOf h15
  have hk := (hw.clock hc).1
  have hq : q_value (sw 0) (nI c) (nI m) u = (if u = 0 then (rsP (sw 0) m).pt c / sw 0 (32 + 6 * c + 3) else if u = nI 1 then (rsP (sw 0) m).pt c - (rsP (sw 0) m).pt c / sw 0 (32 + 6 * c + 3) * sw 0 (32 + 6 * c + 3) else sw 0 (32 + 6 * c + 3)) := by
    rw [q_value, h6, h15, h27, nI_clamp (by omega), nI_clamp (by omega)]; rfl
  refine bX0_value_33.go rfl (by simp (disch := omega) only [nI_clamp, vpI, ncE]; (repeat' first | exact trivial | rfl | exact sq0 | omega | apply And.intro)) ?_
  simp (disch := omega) only [nI_clamp]
  refine xq (M' := mX0_plain) (As := []) (nA := 0) (ok_plainC hS) rec0 rfl (lw_V q1184 q1186 qs34 q131 q1187) dX0_value_55 rfl hy_X0_plain (fun r A1 B1 sk1 sw1 E1 k1 q1 => ?_)
  obtain ⟨rfl, q1, -, -⟩ := q1
  refine bX0_value_58.go rfl (by (try simp (disch := omega) only [nI_add, pk_mul, pk_sub, nI_clamp, vpI]); repeat' first | exact trivial | rfl | assumption | omega | apply And.intro) ?_
  simp (disch := omega) only [nI_clamp]
  rw [q1.2.2.2.1 m hm c hc]
  refine j_if_ne (tgt := 79) dX0_value_68 (by decide) (fun h68 => ?_) (fun h68 => ?_)
  · refine bX0_value_79.go rfl trivial ?_
    refine j_icmp_ne (tgt := 92) dX0_value_81 (by decide) (fun h81 => ?_) (fun h81 => ?_)
    · refine bX0_value_92.go rfl trivial ?_
      exact x_ret dX0_value_94 rfl (by rw [hq, if_neg h68, if_neg h81]) k1
    · refine bX0_value_84.go rfl ⟨hk, trivial⟩ ?_
      exact x_ret dX0_value_94 rfl (by rw [hq, if_neg h68, if_pos h81]) k1
  · refine bX0_value_71.go rfl ⟨hk, trivial⟩ ?_
    exact x_ret dX0_value_94 rfl (by rw [hq, if_pos h68]) k1
theorem bX0_open_0 : Blk CP mX0_open 0 7 [oAL 0, cQ0, qC_V 0 pTw fSqIs] := blk_c (s_aload_n dX0_open_0 rfl) <| blk_c (cgX0_1 (Or.inl q557) dX0_open_1) <| blk_c (q_C_V ok_sqIs (lw_V q1312 q1313 q1314 q133 q1315) hy_X2_is rfl (by decide) dX0_open_4) <| blk_nil
theorem bX0_open_10 : Blk CP mX0_open 10 11 [oAL 0] := blk_c (s_aload_n dX0_open_10 rfl) <| blk_nil
theorem bX0_open_14 : Blk CP mX0_open 14 22 [cI 3 14, .inl (fun s => some s)] := blk_c (cgX3_14 (Or.inr ⟨_, nq509⟩) dX0_open_14) <| blk_c (s_goto (tgt := 22) dX0_open_17 (by decide)) <| blk_nil
theorem bX0_open_20 : Blk CP mX0_open 20 22 [oC (-2)] := blk_c (s_bipush dX0_open_20 (by decide +kernel)) <| blk_nil
theorem pb_open (hS : SW v A sw) : RCc X mX0_open 1000 70000 [.ref (ad 0)] (ad, A, B, sk, sw, E) (PubQ (ad, A, B, sk, sw, E) (q_open (sw 0))) := by
  obtain ⟨-, hw, e7, ep⟩ := id hS
  have spE := hw.span
  refine C_start (L := [some (.ref (ad 0))]) 0 rfl ?_
  refine bX0_open_0.go rfl ⟨rfl, ⟨⟨rfl, trivial⟩, sq0⟩, trivial⟩ ?_
  rw [hw.is]
  refine j_if_eq (tgt := 20) dX0_open_7 (by decide) (fun h7 => ?_) (fun h7 => ?_)
  · rw [b2_0] at h7
    refine bX0_open_20.go rfl trivial ?_
    exact x_ret dX0_open_22 rfl (by rw [q_open, h7]; rfl) KpX.rf
  · rw [b2_n0] at h7
    refine bX0_open_10.go rfl trivial ?_
    refine xq (M' := mX0_plain) (As := []) (nA := 0) (ok_plainC hS) rec0 rfl (lw_V q1184 q1186 qs34 q131 q1187) dX0_open_11 rfl hy_X0_plain (fun r A1 B1 sk1 sw1 E1 k1 q1 => ?_)
    obtain ⟨rfl, q1, -, -⟩ := q1
    refine bX0_open_14.go rfl (by repeat' first | exact trivial | rfl | assumption | omega | apply And.intro) ?_
    refine x_ret dX0_open_22 rfl ?_ k1
    rw [q1.1, q_open, h7, spE]; rfl
theorem bX0_opens_0 : Blk CP mX0_opens 0 7 [oAL 0, cQ0, qC_V 0 pTw fSqIs] := blk_c (s_aload_n dX0_opens_0 rfl) <| blk_c (cgX0_1 (Or.inl q557) dX0_opens_1) <| blk_c (q_C_V ok_sqIs (lw_V q1312 q1313 q1314 q133 q1315) hy_X2_is rfl (by decide) dX0_opens_4) <| blk_nil
theorem bX0_opens_10 : Blk CP mX0_opens 10 47 [oC (-2), .inl (fun s => some s)] := blk_c (s_bipush dX0_opens_10 (by decide +kernel)) <| blk_c (s_goto (tgt := 47) dX0_opens_12 (by decide)) <| blk_nil
theorem bX0_opens_15 : Blk CP mX0_opens 15 19 [oIL 1, oI2L, oCL (lN 0), oAL 0] := blk_c (s_iload_n dX0_opens_15 rfl) <| blk_c (s_i2l dX0_opens_16) <| blk_c (s_lconst dX0_opens_17 (by decide +kernel)) <| blk_c (s_aload_n dX0_opens_18 rfl) <| blk_nil
theorem bX0_opens_22 : Blk CP mX0_opens 22 31 [cI 3 14, oC (nI 1), oSub, oI2L, oS_JJJ pT3 fIn] := blk_c (cgX3_14 (Or.inr ⟨_, nq509⟩) dX0_opens_22) <| blk_c (s_iconst dX0_opens_25 (by decide +kernel)) <| blk_c (s_isub dX0_opens_26) <| blk_c (s_i2l dX0_opens_27) <| blk_c (s_S_JJJ ok_sX0_in (fun _ _ _ h => h.1.1) (Or.inl (lw_S q179 q180 q131 q181)) hy_X0_in (by decide) dX0_opens_28) <| blk_nil
theorem bX0_opens_34 : Blk CP mX0_opens 34 47 [oAL 0, cR 0 4 3, cR 3 5 35, oIL 1, cAI 35 1280, .inl (fun s => some s)] := blk_c (s_aload_n dX0_opens_34 rfl) <| blk_c (cgX0_4 (Or.inl q560) dX0_opens_35) <| blk_c (cgX3_5 (Or.inr ⟨_, nq496⟩) dX0_opens_38) <| blk_c (s_iload_n dX0_opens_41 rfl) <| blk_c (c_iald (fun _ => rfl) dX0_opens_42) <| blk_c (s_goto (tgt := 47) dX0_opens_43 (by decide)) <| blk_nil
theorem bX0_opens_46 : Blk CP mX0_opens 46 47 [oC (-1)] := blk_c (s_iconst dX0_opens_46 (by decide +kernel)) <| blk_nil
theorem pb_opens (hS : SW v A sw) {i : Int32} : RCc X mX0_opens 1000 70000 [.ref (ad 0), .int i] (ad, A, B, sk, sw, E) (PubQ (ad, A, B, sk, sw, E) (q_opens (sw 0) i)) := by
  obtain ⟨-, hw, e7, ep⟩ := id hS
  have spE := hw.span
  have h40 := hw.sp40
  refine C_start (L := [some (.ref (ad 0)), some (.int i)]) 0 rfl ?_
  refine bX0_opens_0.go rfl ⟨rfl, ⟨⟨rfl, trivial⟩, sq0⟩, trivial⟩ ?_
  rw [hw.is]
  refine j_if_ne (tgt := 15) dX0_opens_7 (by decide) (fun h7 => ?_) (fun h7 => ?_)
  · rw [b2_n0] at h7
    refine bX0_opens_15.go rfl trivial ?_
    refine xq (M' := mX0_plain) (As := []) (nA := 0) (ok_plainC hS) rec0 rfl (lw_V q1184 q1186 qs34 q131 q1187) dX0_opens_19 rfl hy_X0_plain (fun r A1 B1 sk1 sw1 E1 k1 q1 => ?_)
    obtain ⟨rfl, q1, -, -⟩ := q1
    refine bX0_opens_22.go rfl ⟨rfl, trivial, trivial⟩ ?_
    rw [q1.1, fIn_i]
    have on := q1.2.2.1
    refine j_if_eq (tgt := 46) dX0_opens_31 (by decide) (fun h31 => ?_) (fun h31 => ?_)
    · rw [b2_0] at h31
      refine bX0_opens_46.go rfl trivial ?_
      exact x_ret dX0_opens_47 rfl (by rw [q_opens, h7, spE, h31]; rfl) k1
    · rw [b2_n0] at h31
      have hin : ∃ j, j < (rsP (sw 0) (v 6)).on ∧ i = nI j := by
        by_cases hz : (rsP (sw 0) (v 6)).on = 0
        · rw [hz] at h31
          simp only [inI, Bool.and_eq_true, decide_eq_true_eq] at h31
          have := Int32.le_trans h31.1 h31.2
          exact absurd this (by decide)
        · simp only [inI, Bool.and_eq_true, decide_eq_true_eq] at h31
          rw [pk_sub (by omega)] at h31
          obtain ⟨j, hj, rfl⟩ := nI_of (x := i) (by rw [Int32.not_lt]; exact h31.1)
          exact ⟨j, by have := (nI_leI (by omega) (by omega)).mp h31.2; omega, rfl⟩
      obtain ⟨j, hj, rfl⟩ := hin
      refine bX0_opens_34.go rfl (by (try simp (disch := omega) only [nI_add, pk_mul, pk_sub, nI_clamp, vpI]); repeat' first | exact trivial | rfl | assumption | omega | apply And.intro) ?_
      refine x_ret dX0_opens_47 rfl ?_ k1
      rw [nI_clamp (by omega), q1.2.1 j hj, q_opens, h7, spE, h31, nI_clamp (by omega)]; rfl
  · rw [b2_0] at h7
    refine bX0_opens_10.go rfl trivial ?_
    exact x_ret dX0_opens_47 rfl (by rw [q_opens, h7]; rfl) KpX.rf
/-- how many clocks show something, by the rows -/
def F_manyShowC (o : Nat) (t h : Int32) : Cv → Prop × Value := fun (ad, A, B, sk, sw, E) => (o = ad 0 ∧ ∃ tn : Nat, tn ≤ 40 ∧ nC (sw 0) ≤ 4 ∧ t = nI tn, .int (sumI (fun c => b2 (decide (A (60 + c) t.toNatClampNeg = h))) (nC (sw 0))))
theorem bX0_manyShow_0 : Blk CP mX0_manyShow 0 5 [oC (nI 0), oIS 3, oC (nI 0), oIS 4] := blk_c (s_iconst dX0_manyShow_0 (by decide +kernel)) <| blk_c (s_istore_n dX0_manyShow_1 rfl (by decide)) <| blk_c (s_iconst dX0_manyShow_2 (by decide +kernel)) <| blk_c (s_istore dX0_manyShow_3 (by decide)) <| blk_nil
theorem bX0_manyShow_5 : Blk CP mX0_manyShow 5 11 [oIL 4, oAL 0, cF_V F_clocksC] := blk_c (s_iload dX0_manyShow_5) <| blk_c (s_aload_n dX0_manyShow_7 rfl) <| blk_c (c_F_V ok_clocksC (ci := 0) rfl (lw_V q1150 q1152 qs32 q131 q1153) hy_X0_clocks rfl (by decide) dX0_manyShow_8) <| blk_nil
theorem bX0_manyShow_14 : Blk CP mX0_manyShow 14 28 [oIL 3, oAL 0, cR 0 4 3, cR 3 1 31, oIL 4, cW 31 60 4, oIL 1, cWI 60 4 41 4, oIL 2] := blk_c (s_iload_n dX0_manyShow_14 rfl) <| blk_c (s_aload_n dX0_manyShow_15 rfl) <| blk_c (cgX0_4 (Or.inl q560) dX0_manyShow_16) <| blk_c (cgX3_1 (Or.inr ⟨_, nq490⟩) dX0_manyShow_19) <| blk_c (s_iload dX0_manyShow_22) <| blk_c (c_W (t := 8) (ty := .int) (fun _ => rfl) (fun _ _ _ _ _ _ => rfl) dX0_manyShow_24) <| blk_c (s_iload_n dX0_manyShow_25 rfl) <| blk_c (c_wiald ar_shows dX0_manyShow_26) <| blk_c (s_iload_n dX0_manyShow_27 rfl) <| blk_nil
theorem bX0_manyShow_31 : Blk CP mX0_manyShow 31 36 [oC (nI 1), .inl (fun s => some s)] := blk_c (s_iconst dX0_manyShow_31 (by decide +kernel)) <| blk_c (s_goto (tgt := 36) dX0_manyShow_32 (by decide)) <| blk_nil
theorem bX0_manyShow_35 : Blk CP mX0_manyShow 35 36 [oC (nI 0)] := blk_c (s_iconst dX0_manyShow_35 (by decide +kernel)) <| blk_nil
theorem bX0_manyShow_36 : Blk CP mX0_manyShow 36 5 [oAdd, oIS 3, oInc 4 1, .inl (fun s => some s)] := blk_c (s_iadd dX0_manyShow_36) <| blk_c (s_istore_n dX0_manyShow_37 rfl (by decide)) <| blk_c (s_iinc dX0_manyShow_38 (by decide +kernel) (by decide)) <| blk_c (s_goto (tgt := 5) dX0_manyShow_41 (by decide)) <| blk_nil
theorem bX0_manyShow_44 : Blk CP mX0_manyShow 44 45 [oIL 3] := blk_c (s_iload_n dX0_manyShow_44 rfl) <| blk_nil
theorem ok_manyShowC : FC_II mX0_manyShow 0 F_manyShowC := by
  rintro X o t h ⟨ad, A, B, sk, sw, E⟩ ⟨rfl, tn, ht, h4, rfl⟩
  refine ⟨?_, rec0⟩
  dsimp only [F_manyShowC]
  refine C_start (L := [some (.ref (ad 0)), some (.int (nI tn)), some (.int h), none, none]) 2 rfl ?_
  refine bX0_manyShow_0.go rfl trivial ?_
  rw [nI_clamp (by omega)]
  refine loop_down (N := nC (sw 0)) (I := fun _ => True) (P := fun c => JS CP X mX0_manyShow (rmOf mX0_manyShow.lv 0 0) (ZC X 0 0 (fun r x' => r = some (.int (sumI (fun c => b2 (decide (A (60 + c) tn = h))) (nC (sw 0)))) ∧ x' = (ad, A, B, sk, sw, E))) 0 0 5 [some (.ref (ad 0)), some (.int (nI tn)), some (.int h), some (.int (sumI (fun c => b2 (decide (A (60 + c) tn = h))) c)), some (.int (nI c))] [] (ad, A, B, sk, sw, E)) ?_ ?_ 0 (Nat.zero_le _) trivial
  · intro _
    refine bX0_manyShow_5.go rfl ⟨rfl, trivial⟩ ?_
    refine j_icmp_ge (tgt := 44) dX0_manyShow_11 (by decide) (fun h11 => ?_) (fun h11 => absurd (nI_le (Nat.le_refl _) (by omega)) h11)
    refine bX0_manyShow_44.go rfl trivial ?_
    exact c_iret dX0_manyShow_45 rfl ⟨rfl, rfl⟩
  · intro c hc _ ih
    refine bX0_manyShow_5.go rfl ⟨rfl, trivial⟩ ?_
    refine j_icmp_ge (tgt := 44) dX0_manyShow_11 (by decide) (fun h11 => ?_) (fun h11 => ?_)
    · rw [nI_leI (by omega) (by omega)] at h11; omega
    · refine bX0_manyShow_14.go rfl (by (try simp (disch := omega) only [nI_add, pk_mul, pk_sub, nI_clamp, vpI]); repeat' first | exact trivial | rfl | assumption | omega | apply And.intro) ?_
      simp (disch := omega) only [nI_clamp]
      refine j_icmp_ne (tgt := 35) dX0_manyShow_28 (by decide) (fun h28 => ?_) (fun h28 => ?_)
      · refine bX0_manyShow_35.go rfl trivial ?_
        refine bX0_manyShow_36.go rfl trivial ?_
        rw [nI_1]
        have := ih trivial
        simp only [sumI, decide_eq_false h28] at this
        exact this
      · refine bX0_manyShow_31.go rfl trivial ?_
        refine bX0_manyShow_36.go rfl trivial ?_
        rw [nI_1]
        have := ih trivial
        simp only [sumI, decide_eq_true h28] at this
        exact this
theorem many_e {w : Nat → Int32} {A1 : Nat → Nat → Int32} (hw : WOk w v) (q1 : CrsC A1 v (cfP w) (rsP w)) {t : Nat} (ht : t ≤ v 6) (h : Int32) : sumI (fun c => b2 (decide (A1 (60 + c) t = h))) (nC w) = msP w h t := by
  refine sumI_congr (fun c hc => ?_)
  rw [hw.ncE] at hc
  rw [q1.2.2.2.2.1 t ht c hc]; rfl
theorem bX0_bell_0 : Blk CP mX0_bell 0 6 [oAL 0, oIL 1, oIL 2, cF_II F_isManyC] := blk_c (s_aload_n dX0_bell_0 rfl) <| blk_c (s_iload_n dX0_bell_1 rfl) <| blk_c (s_iload_n dX0_bell_2 rfl) <| blk_c (c_F_II ok_isManyC (ci := 0) rfl (lw_V q1338 q1340 qs44 q131 q1341) hy_X0_isMany rfl (by decide) dX0_bell_3) <| blk_nil
theorem bX0_bell_9 : Blk CP mX0_bell 9 11 [oC (-2)] := blk_c (s_bipush dX0_bell_9 (by decide +kernel)) <| blk_nil
theorem bX0_bell_12 : Blk CP mX0_bell 12 13 [oAL 0] := blk_c (s_aload_n dX0_bell_12 rfl) <| blk_nil
theorem bX0_bell_16 : Blk CP mX0_bell 16 19 [oPopR, oC (nI 0), oIS 3] := blk_c (s_popR dX0_bell_16) <| blk_c (s_iconst dX0_bell_17 (by decide +kernel)) <| blk_c (s_istore_n dX0_bell_18 rfl (by decide)) <| blk_nil
theorem bX0_bell_19 : Blk CP mX0_bell 19 27 [oIL 3, oAL 0, cQ0, qI 0 6 6] := blk_c (s_iload_n dX0_bell_19 rfl) <| blk_c (s_aload_n dX0_bell_20 rfl) <| blk_c (cgX0_1 (Or.inl q557) dX0_bell_21) <| blk_c (q_I (by decide) (fun _ _ => rfl) (Or.inr ⟨_, nq448⟩) dX0_bell_24) <| blk_nil
theorem bX0_bell_30 : Blk CP mX0_bell 30 37 [oAL 0, oIL 3, oIL 2, cF_II F_manyShowC, oIL 1] := blk_c (s_aload_n dX0_bell_30 rfl) <| blk_c (s_iload_n dX0_bell_31 rfl) <| blk_c (s_iload_n dX0_bell_32 rfl) <| blk_c (c_F_II ok_manyShowC (ci := 0) rfl (lw_V q1347 q1349 qs45 q131 q1350) hy_X0_manyShow rfl (by decide) dX0_bell_33) <| blk_c (s_iload_n dX0_bell_36 rfl) <| blk_nil
theorem bX0_bell_40 : Blk CP mX0_bell 40 41 [oIL 3] := blk_c (s_iload_n dX0_bell_40 rfl) <| blk_nil
theorem bX0_bell_42 : Blk CP mX0_bell 42 19 [oInc 3 1, .inl (fun s => some s)] := blk_c (s_iinc dX0_bell_42 (by decide +kernel) (by decide)) <| blk_c (s_goto (tgt := 19) dX0_bell_45 (by decide)) <| blk_nil
theorem bX0_bell_48 : Blk CP mX0_bell 48 49 [oC (-1)] := blk_c (s_iconst dX0_bell_48 (by decide +kernel)) <| blk_nil
theorem pb_bell (hS : SW v A sw) {n h : Int32} : RCc X mX0_bell 1000 70000 [.ref (ad 0), .int n, .int h] (ad, A, B, sk, sw, E) (PubQ (ad, A, B, sk, sw, E) (q_bell (sw 0) n h)) := by
  obtain ⟨-, hw, e7, ep⟩ := id hS
  have h4 := hw.nc4
  have h40 := hw.sp40
  have ncE := hw.ncE
  have spE := hw.span
  have e6 : sw 0 6 = nI (v 6) := hw.1 6 (by decide)
  refine C_start (L := [some (.ref (ad 0)), some (.int n), some (.int h), none]) 1 rfl ?_
  refine bX0_bell_0.go rfl ⟨⟨rfl, v, hw⟩, trivial⟩ ?_
  refine j_if_ne (tgt := 12) dX0_bell_6 (by decide) (fun h6 => ?_) (fun h6 => ?_)
  · rw [b2_n0] at h6
    have hq : q_bell (sw 0) n h = firstF (fun t => decide (n ≤ msP (sw 0) h t)) (v 6 + 1) 0 := by rw [q_bell, h6, spE]; rfl
    refine bX0_bell_12.go rfl trivial ?_
    refine xq (M' := mX0_plain) (As := []) (nA := 0) (ok_plainC hS) rec0 rfl (lw_V q1184 q1186 qs34 q131 q1187) dX0_bell_13 rfl hy_X0_plain (fun r A1 B1 sk1 sw1 E1 k1 q1 => ?_)
    obtain ⟨rfl, q1, -, -⟩ := q1
    have e0 : sw1 0 = sw 0 := k1.2.2.2.1 0 (by decide)
    refine bX0_bell_16.go rfl trivial ?_
    refine loop_down (N := v 6 + 1) (I := fun t => q_bell (sw 0) n h = firstF (fun t => decide (n ≤ msP (sw 0) h t)) (v 6 + 1 - t) t) (P := fun t => JS CP X mX0_bell (rmOf mX0_bell.lv 1000 70000) (ZC X 1000 70000 (PubQ (ad, A, B, sk, sw, E) (q_bell (sw 0) n h))) 0 0 19 [some (.ref (ad 0)), some (.int n), some (.int h), some (.int (nI t))] [] (ad, A1, B1, sk1, sw1, E1)) ?_ ?_ 0 (Nat.zero_le _) hq
    · intro hI
      refine bX0_bell_19.go rfl ⟨rfl, ⟨rfl, sq0⟩, trivial⟩ ?_
      rw [e0, e6]
      refine j_icmp_gt (tgt := 48) dX0_bell_27 (by decide) (fun h27 => ?_) (fun h27 => absurd (nI_lt (by omega) (by omega)) h27)
      refine bX0_bell_48.go rfl trivial ?_
      exact x_ret dX0_bell_49 rfl (by rw [hI, Nat.sub_self]; rfl) k1
    · intro t ht hI ih
      rw [firstF_s ht] at hI
      refine bX0_bell_19.go rfl ⟨rfl, ⟨rfl, sq0⟩, trivial⟩ ?_
      rw [e0, e6]
      refine j_icmp_gt (tgt := 48) dX0_bell_27 (by decide) (fun h27 => ?_) (fun h27 => ?_)
      · rw [nI_ltI (by omega) (by omega)] at h27; omega
      · refine bX0_bell_30.go rfl ⟨⟨rfl, t, by omega, by rw [e0, ncE]; exact h4, rfl⟩, trivial⟩ ?_
        rw [nI_clamp (by omega), e0, many_e hw q1 (by omega)]
        refine j_icmp_lt (tgt := 42) dX0_bell_37 (by decide) (fun h37 => ?_) (fun h37 => ?_)
        · refine bX0_bell_42.go rfl trivial ?_
          rw [nI_1]
          exact ih (by rw [hI, if_neg (by rw [decide_eq_true_eq]; exact Int32.not_le.mpr h37)])
        · refine bX0_bell_40.go rfl trivial ?_
          exact x_ret dX0_bell_41 rfl (by rw [hI, if_pos (by rw [decide_eq_true_eq]; exact Int32.not_lt.mp h37)]) k1
  · rw [b2_0] at h6
    refine bX0_bell_9.go rfl trivial ?_
    exact x_ret dX0_bell_11 rfl (by rw [q_bell, h6]; rfl) KpX.rf
end Q2
