set_option maxRecDepth 100000
/-! ===== UnseenClockModel: shifts, dayOf, day ===== -/
def q_shifts (w : Nat → Int32) (c m h n : Int32) : Int32 := if (cB w c && (tB w m && (hB h && inL n (lN 1) 40))) = true then (if lkV w c.toNatClampNeg m.toNatClampNeg h = -1 then -1 else (lkV w c.toNatClampNeg m.toNatClampNeg h + n - nI 1) / n) else -2
theorem bX4_shifts_0 : Blk TP mX4_shifts 0 5 [oAL 0, oIL 1, tC_I F_isClock] := blk_c (s_aload_n dX4_shifts_0 rfl) <| blk_c (s_iload_n dX4_shifts_1 rfl) <| blk_c (tc_I ok_isClock gX4_isClock (by decide +kernel) (by decide) dX4_shifts_2) <| blk_nil
theorem bX4_shifts_8 : Blk TP mX4_shifts 8 13 [oAL 0, oIL 2, tC_I F_isTime] := blk_c (s_aload_n dX4_shifts_8 rfl) <| blk_c (s_iload_n dX4_shifts_9 rfl) <| blk_c (tc_I ok_isTime gX4_isTime (by decide +kernel) (by decide) dX4_shifts_10) <| blk_nil
theorem bX4_shifts_16 : Blk TP mX4_shifts 16 20 [oIL 3, tS_I F_isHour] := blk_c (s_iload_n dX4_shifts_16 rfl) <| blk_c (ts_I ok_isHour gX4_isHour (by decide +kernel) (by decide) dX4_shifts_17) <| blk_nil
theorem bX4_shifts_23 : Blk TP mX4_shifts 23 33 [oIL 4, oI2L, oCL (lN 1), oCL (40), tS_JJJ F_in] := blk_c (s_iload dX4_shifts_23) <| blk_c (s_i2l dX4_shifts_25) <| blk_c (s_lconst dX4_shifts_26 (by decide +kernel)) <| blk_c (s_ldc2 dX4_shifts_27 q2234) <| blk_c (ts_JJJ ok_in gX4_in (by decide +kernel) (by decide) dX4_shifts_30) <| blk_nil
theorem bX4_shifts_36 : Blk TP mX4_shifts 36 38 [oC (-2)] := blk_c (s_bipush dX4_shifts_36 (by decide +kernel)) <| blk_nil
theorem bX4_shifts_39 : Blk TP mX4_shifts 39 43 [oAL 0, oIL 1, oIL 2, oIL 3] := blk_c (s_aload_n dX4_shifts_39 rfl) <| blk_c (s_iload_n dX4_shifts_40 rfl) <| blk_c (s_iload_n dX4_shifts_41 rfl) <| blk_c (s_iload_n dX4_shifts_42 rfl) <| blk_nil
theorem bX4_shifts_46 : Blk TP mX4_shifts 46 51 [oIS 5, oIL 5, oC (-1)] := blk_c (s_istore dX4_shifts_46 (by decide)) <| blk_c (s_iload dX4_shifts_48) <| blk_c (s_iconst dX4_shifts_50 (by decide +kernel)) <| blk_nil
theorem bX4_shifts_54 : Blk TP mX4_shifts 54 68 [oC (-1), .inl (fun s => some s)] := blk_c (s_iconst dX4_shifts_54 (by decide +kernel)) <| blk_c (s_goto (tgt := 68) dX4_shifts_55 (by decide)) <| blk_nil
theorem bX4_shifts_58 : Blk TP mX4_shifts 58 68 [oIL 5, oIL 4, oAdd, oC (nI 1), oSub, oIL 4, oDiv] := blk_c (s_iload dX4_shifts_58) <| blk_c (s_iload dX4_shifts_60) <| blk_c (s_iadd dX4_shifts_62) <| blk_c (s_iconst dX4_shifts_63 (by decide +kernel)) <| blk_c (s_isub dX4_shifts_64) <| blk_c (s_iload dX4_shifts_65) <| blk_c (s_idiv dX4_shifts_67) <| blk_nil
theorem ok_shifts : RC_IIII mX4_shifts (fun _ _ _ _ A B => Pre_runs A B) (fun c m h n A B => Qq (q_shifts (A 1) c m h n) A B) := by
  intro X c m h n o ad A B hpre
  obtain ⟨v, hw⟩ := id hpre
  have main : (cB (A 1) c && (tB (A 1) m && (hB h && inL n (lN 1) 40))) = true → JS TP X mX4_shifts (rmOf mX4_shifts.lv 0 0) (ZR X o ad (Qq (q_shifts (A 1) c m h n) A B)) 0 0 39 [some (.ref o), some (.int c), some (.int m), some (.int h), some (.int n), none] [] (o, ad, A, B) := by
    intro hg
    rw [q_shifts, if_pos hg]
    simp only [Bool.and_eq_true] at hg
    obtain ⟨cn, hc, hce⟩ := hw.cOf hg.1
    obtain ⟨mn, hm, hme⟩ := hw.tOf hg.2.1
    have hn0 : ¬ n = 0 := fun e => by
      have h := hg.2.2.2
      rw [e] at h
      exact absurd h (by decide +kernel)
    refine bX4_shifts_39.go rfl trivial ?_
    refine rc_III ok_leastKept gX4_leastKept dX4_shifts_43 rfl ⟨v, cn, mn, hw, hce, hme, hc, hm⟩ (fun r A1 B1 q => ?_)
    obtain ⟨rfl, hk, -⟩ := q
    refine bX4_shifts_46.go rfl trivial ?_
    refine j_icmp_ne (tgt := 58) dX4_shifts_51 (by decide) (fun h51 => ?_) (fun h51 => ?_)
    · refine bX4_shifts_58.go rfl (by exact ⟨hn0, trivial⟩) ?_
      exact r_iret dX4_shifts_68 rfl ⟨ans (by rw [if_neg h51]), hk⟩
    · refine bX4_shifts_54.go rfl trivial ?_
      exact r_iret dX4_shifts_68 rfl ⟨ans (by rw [if_pos h51]), hk⟩
  refine R_start (L := [some (.ref o), some (.int c), some (.int m), some (.int h), some (.int n), none]) 1 rfl ?_
  refine bX4_shifts_0.go rfl (by first | exact ⟨⟨rfl, trivial⟩, trivial⟩ | exact ⟨trivial, trivial⟩) ?_
  refine j_if_eq (tgt := 36) dX4_shifts_5 (by decide) (fun h5 => ?_) (fun h5 => ?_)
  · refine bX4_shifts_36.go rfl trivial ?_
    refine r_iret dX4_shifts_38 rfl ?_
    exact ⟨ans (by clear main; simp only [b2_0, b2_n0, inL_def] at *; simp_all [q_shifts, cB, tB, hB]), Keeps2.rf⟩
  · refine bX4_shifts_8.go rfl (by first | exact ⟨⟨rfl, trivial⟩, trivial⟩ | exact ⟨trivial, trivial⟩) ?_
    refine j_if_eq (tgt := 36) dX4_shifts_13 (by decide) (fun h13 => ?_) (fun h13 => ?_)
    · refine bX4_shifts_36.go rfl trivial ?_
      refine r_iret dX4_shifts_38 rfl ?_
      exact ⟨ans (by clear main; simp only [b2_0, b2_n0, inL_def] at *; simp_all [q_shifts, cB, tB, hB]), Keeps2.rf⟩
    · refine bX4_shifts_16.go rfl (by first | exact ⟨⟨rfl, trivial⟩, trivial⟩ | exact ⟨trivial, trivial⟩) ?_
      refine j_if_eq (tgt := 36) dX4_shifts_20 (by decide) (fun h20 => ?_) (fun h20 => ?_)
      · refine bX4_shifts_36.go rfl trivial ?_
        refine r_iret dX4_shifts_38 rfl ?_
        exact ⟨ans (by clear main; simp only [b2_0, b2_n0, inL_def] at *; simp_all [q_shifts, cB, tB, hB]), Keeps2.rf⟩
      · refine bX4_shifts_23.go rfl (by first | exact ⟨⟨rfl, trivial⟩, trivial⟩ | exact ⟨trivial, trivial⟩) ?_
        refine j_if_ne (tgt := 39) dX4_shifts_33 (by decide) (fun h33 => ?_) (fun h33 => ?_)
        · exact main (by clear main; simp only [b2_0, b2_n0, inL_def] at *; simp_all [cB, tB, hB])
        · refine bX4_shifts_36.go rfl trivial ?_
          refine r_iret dX4_shifts_38 rfl ?_
          exact ⟨ans (by clear main; simp only [b2_0, b2_n0, inL_def] at *; simp_all [q_shifts, cB, tB, hB]), Keeps2.rf⟩
theorem bX4_dayOf_0 : Blk TP mX4_dayOf 0 1 [oAL 0] := blk_c (s_aload_n dX4_dayOf_0 rfl) <| blk_nil
theorem bX4_dayOf_4 : Blk TP mX4_dayOf 4 20 [oAL 0, oC (nI 0), tPI 24, oAL 0, oC (nI 1), tPZ 28, oAL 0, oLL 1, tPJ 29, oAL 0] := blk_c (s_aload_n dX4_dayOf_4 rfl) <| blk_c (s_iconst dX4_dayOf_5 (by decide +kernel)) <| blk_c (tpX4_24 rfl dX4_dayOf_6) <| blk_c (s_aload_n dX4_dayOf_9 rfl) <| blk_c (s_iconst dX4_dayOf_10 (by decide +kernel)) <| blk_c (tpX4_28 rfl dX4_dayOf_11) <| blk_c (s_aload_n dX4_dayOf_14 rfl) <| blk_c (s_lload_n dX4_dayOf_15 rfl) <| blk_c (tpX4_29 rfl dX4_dayOf_16) <| blk_c (s_aload_n dX4_dayOf_19 rfl) <| blk_nil
theorem bX4_dayOf_23 : Blk TP mX4_dayOf 23 35 [oAL 0, oC (nI 0), tPZ 28, oAL 0, oIL 3, oIL 4, tC_II F_shownAt] := blk_c (s_aload_n dX4_dayOf_23 rfl) <| blk_c (s_iconst dX4_dayOf_24 (by decide +kernel)) <| blk_c (tpX4_28 rfl dX4_dayOf_25) <| blk_c (s_aload_n dX4_dayOf_28 rfl) <| blk_c (s_iload_n dX4_dayOf_29 rfl) <| blk_c (s_iload dX4_dayOf_30) <| blk_c (tc_II ok_shownAt gX4_shownAt (by decide +kernel) (by decide) dX4_dayOf_32) <| blk_nil
