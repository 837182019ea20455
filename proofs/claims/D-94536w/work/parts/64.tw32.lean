set_option maxRecDepth 100000
/-! ===== UnseenClockModel: slots: cut, write ===== -/
def cutL (x : Int64) (w : Int32) : Int64 := (x <<< ((nI 64 - nI 8 <<< (w &&& 31)).toInt64 &&& 63)) >>> ((nI 64 - nI 8 <<< (w &&& 31)).toInt64 &&& 63)
def F_cut (x : Int64) (w : Int32) (t : Tau) : Prop × Option Value × Tau := (True, some (.long (cutL x w)), t)
theorem bX4_cut_0 : Blk TP mX4_cut 0 13 [oC (nI 64), oC (nI 8), oIL 2, oShl, oSub, oIS 3, oLL 0, oIL 3, oLShl, oIL 3, oLShr] := blk_c (s_bipush dX4_cut_0 (by decide +kernel)) <| blk_c (s_bipush dX4_cut_2 (by decide +kernel)) <| blk_c (s_iload_n dX4_cut_4 rfl) <| blk_c (s_ishl dX4_cut_5) <| blk_c (s_isub dX4_cut_6) <| blk_c (s_istore_n dX4_cut_7 rfl (by decide)) <| blk_c (s_lload_n dX4_cut_8 rfl) <| blk_c (s_iload_n dX4_cut_9 rfl) <| blk_c (s_lshl dX4_cut_10) <| blk_c (s_iload_n dX4_cut_11 rfl) <| blk_c (s_lshr dX4_cut_12) <| blk_nil
theorem ok_cut : TS_JI mX4_cut F_cut := by
  intro X a w x P r y hF _
  cases hF
  refine T_start (L := [some (.long a), none, some (.int w), none]) 1 rfl ?_
  refine bX4_cut_0.go rfl trivial ?_
  exact t_lret dX4_cut_13 rfl rfl rfl
/-- the slots are in order -/
def SlOk (A : Nat → Nat → Int32) : Prop := ∀ s, s < 4 → A 37 s = -1 ∨ ∃ n, n ≤ 60 ∧ A 37 s = nI n
def wrB (A : Nat → Nat → Int32) (s i : Int32) : Bool := inI i (nI 0) (A 37 s.toNatClampNeg - nI 1)
def q_write (A : Nat → Nat → Int32) (s i : Int32) : Int32 := if slB s = true then (if A 37 s.toNatClampNeg = -1 then -6 else if wrB A s i = true then nI 0 else -7) else -2
def Q_write (s i : Int32) (x : Int64) (A : Nat → Nat → Int32) (B : Nat → Nat → Int64) : QR := fun r A' B' => r = some (.int (q_write A s i)) ∧ A' = A ∧ B' = (if q_write A s i = 0 then upB B 39 (60 * s.toNatClampNeg + i.toNatClampNeg) (cutL x (A 38 s.toNatClampNeg)) else B)
theorem bX4_write_0 : Blk TP mX4_write 0 4 [oIL 1, tS_I F_isSlot] := blk_c (s_iload_n dX4_write_0 rfl) <| blk_c (ts_I ok_isSlot gX4_isSlot (by decide +kernel) (by decide) dX4_write_1) <| blk_nil
theorem bX4_write_7 : Blk TP mX4_write 7 9 [oC (-2)] := blk_c (s_bipush dX4_write_7 (by decide +kernel)) <| blk_nil
theorem bX4_write_10 : Blk TP mX4_write 10 17 [oAL 0, tR 37, oIL 1, tAI 37 4, oC (-1)] := blk_c (s_aload_n dX4_write_10 rfl) <| blk_c (tgX4_37 rfl dX4_write_11) <| blk_c (s_iload_n dX4_write_14 rfl) <| blk_c (t_iald rfl dX4_write_15) <| blk_c (s_iconst dX4_write_16 (by decide +kernel)) <| blk_nil
theorem bX4_write_20 : Blk TP mX4_write 20 22 [oC (-6)] := blk_c (s_bipush dX4_write_20 (by decide +kernel)) <| blk_nil
theorem bX4_write_23 : Blk TP mX4_write 23 38 [oIL 2, oI2L, oCL (lN 0), oAL 0, tR 37, oIL 1, tAI 37 4, oC (nI 1), oSub, oI2L, tS_JJJ F_in] := blk_c (s_iload_n dX4_write_23 rfl) <| blk_c (s_i2l dX4_write_24) <| blk_c (s_lconst dX4_write_25 (by decide +kernel)) <| blk_c (s_aload_n dX4_write_26 rfl) <| blk_c (tgX4_37 rfl dX4_write_27) <| blk_c (s_iload_n dX4_write_30 rfl) <| blk_c (t_iald rfl dX4_write_31) <| blk_c (s_iconst dX4_write_32 (by decide +kernel)) <| blk_c (s_isub dX4_write_33) <| blk_c (s_i2l dX4_write_34) <| blk_c (ts_JJJ ok_in gX4_in (by decide +kernel) (by decide) dX4_write_35) <| blk_nil
theorem bX4_write_41 : Blk TP mX4_write 41 43 [oC (-7)] := blk_c (s_bipush dX4_write_41 (by decide +kernel)) <| blk_nil
theorem bX4_write_44 : Blk TP mX4_write 44 66 [oAL 0, tR 39, oC (nI 60), oIL 1, oMul, oIL 2, oAdd, oLL 3, oAL 0, tR 38, oIL 1, tAI 38 4, tS_JI F_cut, tSL 39 240, oC (nI 0)] := blk_c (s_aload_n dX4_write_44 rfl) <| blk_c (tgX4_39 rfl dX4_write_45) <| blk_c (s_bipush dX4_write_48 (by decide +kernel)) <| blk_c (s_iload_n dX4_write_50 rfl) <| blk_c (s_imul dX4_write_51) <| blk_c (s_iload_n dX4_write_52 rfl) <| blk_c (s_iadd dX4_write_53) <| blk_c (s_lload_n dX4_write_54 rfl) <| blk_c (s_aload_n dX4_write_55 rfl) <| blk_c (tgX4_38 rfl dX4_write_56) <| blk_c (s_iload_n dX4_write_59 rfl) <| blk_c (t_iald rfl dX4_write_60) <| blk_c (ts_JI ok_cut gX4_cut (by decide +kernel) (by decide) dX4_write_61) <| blk_c (t_last rfl dX4_write_64) <| blk_c (s_iconst dX4_write_65 (by decide +kernel)) <| blk_nil
theorem ok_write : RC_IIJ mX4_write (fun _ _ _ A _ => SlOk A) Q_write := by
  intro X s i x o ad A B hpre
  refine R_start (L := [some (.ref o), some (.int s), some (.int i), some (.long x), none]) 0 rfl ?_
  refine bX4_write_0.go rfl (by exact ⟨trivial, trivial⟩) ?_
  refine j_if_ne (tgt := 10) dX4_write_4 (by decide) (fun h4 => ?_) (fun h4 => ?_)
  · rw [b2_n0] at h4
    obtain ⟨sn, hs, rfl⟩ := slB_nat h4
    have h4 : slB (nI sn) = true := h4
    refine bX4_write_10.go rfl (by simp (disch := omega) only [vpI]; exact ⟨trivial, ⟨trivial, by omega⟩, trivial⟩) ?_
    simp (disch := omega) only [nI_clamp]
    refine j_icmp_ne (tgt := 23) dX4_write_17 (by decide) (fun h17 => ?_) (fun h17 => ?_)
    · obtain ⟨n, hn, en⟩ := (hpre sn hs).resolve_left h17
      refine bX4_write_23.go rfl (by simp (disch := omega) only [vpI]; exact ⟨trivial, ⟨trivial, by omega⟩, trivial, trivial⟩) ?_
      simp (disch := omega) only [nI_clamp, lN0, in_i2l]
      refine j_if_ne (tgt := 44) dX4_write_38 (by decide) (fun h38 => ?_) (fun h38 => ?_)
      · rw [b2_n0] at h38
        have hb : wrB A (nI sn) i = true := by rw [wrB, nI_clamp (by omega)]; exact h38
        have e : q_write A (nI sn) i = 0 := by rw [q_write, if_pos h4, nI_clamp (by omega), if_neg h17, if_pos hb]; rfl
        rw [en] at h38
        obtain ⟨j, hj, rfl⟩ := inI_nat (by omega) h38
        refine bX4_write_44.go rfl (by simp (disch := omega) only [nI_add, pk_mul, vpI]; exact ⟨trivial, trivial, ⟨trivial, by omega⟩, trivial, ⟨trivial, by omega⟩, trivial⟩) ?_
        simp (disch := omega) only [nI_add, pk_mul, nI_clamp]
        refine r_iret dX4_write_66 rfl ?_
        unfold Q_write
        rw [e, if_pos rfl, nI_clamp (by omega), nI_clamp (by omega)]
        exact ⟨rfl, rfl, rfl⟩
      · rw [b2_0] at h38
        have hb : ¬ wrB A (nI sn) i = true := by rw [wrB, nI_clamp (by omega), h38]; decide
        have e : q_write A (nI sn) i = -7 := by rw [q_write, if_pos h4, nI_clamp (by omega), if_neg h17, if_neg hb]
        refine bX4_write_41.go rfl trivial ?_
        refine r_iret dX4_write_43 rfl ?_
        unfold Q_write
        rw [e, if_neg (by decide +kernel)]
        exact ⟨rfl, rfl, rfl⟩
    · have e : q_write A (nI sn) i = -6 := by rw [q_write, if_pos h4, nI_clamp (by omega), if_pos h17]
      refine bX4_write_20.go rfl trivial ?_
      refine r_iret dX4_write_22 rfl ?_
      unfold Q_write
      rw [e, if_neg (by decide +kernel)]
      exact ⟨rfl, rfl, rfl⟩
  · rw [b2_0] at h4
    have h4 : ¬ slB s = true := by rw [slB, h4]; decide
    have e : q_write A s i = -2 := by rw [q_write, if_neg h4]
    refine bX4_write_7.go rfl trivial ?_
    refine r_iret dX4_write_9 rfl ?_
    unfold Q_write
    rw [e, if_neg (by decide +kernel)]
    exact ⟨rfl, rfl, rfl⟩
