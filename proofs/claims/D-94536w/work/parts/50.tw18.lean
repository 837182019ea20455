set_option maxRecDepth 100000
/-! ===== UnseenClockModel: looks, value, open, opens, manyShow, bell, when ===== -/
/-- by longs, as the programs ask it -/
def inL (a : Int32) (lo hi : Int64) : Bool := decide (lo ≤ a.toInt64) && decide (a.toInt64 ≤ hi)
theorem inL_def (a : Int32) (lo hi : Int64) : (decide (lo ≤ a.toInt64) && decide (a.toInt64 ≤ hi)) = inL a lo hi := rfl
theorem sq_def (w : Nat → Int32) : decide (0 < w 4) = sqB w := rfl
def q_looks (w : Nat → Int32) (p c m : Int32) : Int32 := if (pB w p && (cB w c && mB w m)) = true then (if bitI ((minO (cfP w) m.toNatClampNeg (rsP w m.toNatClampNeg)).2.2.2 p.toNatClampNeg) c.toNatClampNeg = true then nI 2 else b2 (bitI (minL (cfP w) m.toNatClampNeg (rsP w m.toNatClampNeg) p.toNatClampNeg) c.toNatClampNeg)) else -2
theorem bX4_looks_0 : Blk TP mX4_looks 0 5 [oAL 0, oIL 1, tC_I F_isPerson] := blk_c (s_aload_n dX4_looks_0 rfl) <| blk_c (s_iload_n dX4_looks_1 rfl) <| blk_c (tc_I ok_isPerson gX4_isPerson (by decide +kernel) (by decide) dX4_looks_2) <| blk_nil
theorem bX4_looks_8 : Blk TP mX4_looks 8 13 [oAL 0, oIL 2, tC_I F_isClock] := blk_c (s_aload_n dX4_looks_8 rfl) <| blk_c (s_iload_n dX4_looks_9 rfl) <| blk_c (tc_I ok_isClock gX4_isClock (by decide +kernel) (by decide) dX4_looks_10) <| blk_nil
theorem bX4_looks_16 : Blk TP mX4_looks 16 21 [oAL 0, oIL 3, tC_I F_isMinute] := blk_c (s_aload_n dX4_looks_16 rfl) <| blk_c (s_iload_n dX4_looks_17 rfl) <| blk_c (tc_I ok_isMinute gX4_isMinute (by decide +kernel) (by decide) dX4_looks_18) <| blk_nil
theorem bX4_looks_24 : Blk TP mX4_looks 24 26 [oC (-2)] := blk_c (s_bipush dX4_looks_24 (by decide +kernel)) <| blk_nil
theorem bX4_looks_27 : Blk TP mX4_looks 27 28 [oAL 0] := blk_c (s_aload_n dX4_looks_27 rfl) <| blk_nil
theorem bX4_looks_31 : Blk TP mX4_looks 31 47 [oAL 0, tR 20, oC (nI 8), oIL 3, oMul, oIL 1, oAdd, tAI 20 320, oIL 2, oShr, oC (nI 1), oAnd, oC (nI 1)] := blk_c (s_aload_n dX4_looks_31 rfl) <| blk_c (tgX4_20 rfl dX4_looks_32) <| blk_c (s_bipush dX4_looks_35 (by decide +kernel)) <| blk_c (s_iload_n dX4_looks_37 rfl) <| blk_c (s_imul dX4_looks_38) <| blk_c (s_iload_n dX4_looks_39 rfl) <| blk_c (s_iadd dX4_looks_40) <| blk_c (t_iald rfl dX4_looks_41) <| blk_c (s_iload_n dX4_looks_42 rfl) <| blk_c (s_ishr dX4_looks_43) <| blk_c (s_iconst dX4_looks_44 (by decide +kernel)) <| blk_c (s_iand dX4_looks_45) <| blk_c (s_iconst dX4_looks_46 (by decide +kernel)) <| blk_nil
theorem bX4_looks_50 : Blk TP mX4_looks 50 69 [oC (nI 2), .inl (fun s => some s)] := blk_c (s_iconst dX4_looks_50 (by decide +kernel)) <| blk_c (s_goto (tgt := 69) dX4_looks_51 (by decide)) <| blk_nil
theorem bX4_looks_54 : Blk TP mX4_looks 54 69 [oAL 0, tR 19, oC (nI 8), oIL 3, oMul, oIL 1, oAdd, tAI 19 320, oIL 2, oShr, oC (nI 1), oAnd] := blk_c (s_aload_n dX4_looks_54 rfl) <| blk_c (tgX4_19 rfl dX4_looks_55) <| blk_c (s_bipush dX4_looks_58 (by decide +kernel)) <| blk_c (s_iload_n dX4_looks_60 rfl) <| blk_c (s_imul dX4_looks_61) <| blk_c (s_iload_n dX4_looks_62 rfl) <| blk_c (s_iadd dX4_looks_63) <| blk_c (t_iald rfl dX4_looks_64) <| blk_c (s_iload_n dX4_looks_65 rfl) <| blk_c (s_ishr dX4_looks_66) <| blk_c (s_iconst dX4_looks_67 (by decide +kernel)) <| blk_c (s_iand dX4_looks_68) <| blk_nil
theorem ok_looks : RC_III mX4_looks (fun _ _ _ A B => Pre_runs A B) (fun p c m A B => Qq (q_looks (A 1) p c m) A B) := by
  intro X p c m o ad A B hpre
  obtain ⟨v, hw⟩ := id hpre
  have h6 : v 6 ≤ 40 := hw.2.2.2.2.2.2.2.1
  have h4 : v 1 ≤ 4 := hw.2.2.1
  have h8 : v 2 ≤ 8 := hw.2.2.2.1
  have main : (pB (A 1) p && (cB (A 1) c && mB (A 1) m)) = true → JS TP X mX4_looks (rmOf mX4_looks.lv 0 0) (ZR X o ad (Qq (q_looks (A 1) p c m) A B)) 0 0 27 [some (.ref o), some (.int p), some (.int c), some (.int m)] [] (o, ad, A, B) := by
    intro hg
    rw [q_looks, if_pos hg]
    simp only [Bool.and_eq_true] at hg
    obtain ⟨pn, hp, rfl⟩ := hw.pOf hg.1
    obtain ⟨cn, hc, rfl⟩ := hw.cOf hg.2.1
    obtain ⟨mn, hm, rfl⟩ := hw.mOf hg.2.2
    rw [nI_clamp (show pn < 2 ^ 31 by omega), nI_clamp (show cn < 2 ^ 31 by omega), nI_clamp (show mn < 2 ^ 31 by omega)]
    refine bX4_looks_27.go rfl trivial ?_
    refine rc_V ok_plain gX4_plain dX4_looks_28 rfl hpre (fun r A1 B1 q => ?_)
    obtain ⟨rfl, hk, hq⟩ := q
    have hC := (hq v hw).2.2.2.2.1 mn hm pn (by omega)
    rw [if_pos hp] at hC
    refine bX4_looks_31.go rfl (by simp (disch := omega) only [nI_add, pk_mul, vpI]; exact ⟨trivial, ⟨trivial, by omega⟩, trivial⟩) ?_
    simp (disch := omega) only [nI_add, pk_mul, nI_clamp, hC.2]
    refine j_icmp_ne (tgt := 54) dX4_looks_47 (by decide) (fun h47 => ?_) (fun h47 => ?_)
    · rw [bitI_1] at h47
      refine bX4_looks_54.go rfl (by simp (disch := omega) only [nI_add, pk_mul, vpI]; exact ⟨trivial, ⟨trivial, by omega⟩, trivial⟩) ?_
      simp (disch := omega) only [nI_add, pk_mul, nI_clamp, hC.1]
      exact r_iret dX4_looks_69 rfl ⟨ans (by rw [if_neg h47, bitI_v]), hk⟩
    · rw [bitI_1] at h47
      refine bX4_looks_50.go rfl trivial ?_
      exact r_iret dX4_looks_69 rfl ⟨ans (by rw [if_pos h47]), hk⟩
  refine R_start (L := [some (.ref o), some (.int p), some (.int c), some (.int m)]) 0 rfl ?_
  refine bX4_looks_0.go rfl (by exact ⟨⟨rfl, trivial⟩, trivial⟩) ?_
  refine j_if_eq (tgt := 24) dX4_looks_5 (by decide) (fun h5 => ?_) (fun h5 => ?_)
  · refine bX4_looks_24.go rfl trivial ?_
    refine r_iret dX4_looks_26 rfl ?_
    exact ⟨ans (by clear main; simp only [b2_0, b2_n0] at *; simp_all [q_looks, pB, cB, mB]), Keeps2.rf⟩
  · refine bX4_looks_8.go rfl (by exact ⟨⟨rfl, trivial⟩, trivial⟩) ?_
    refine j_if_eq (tgt := 24) dX4_looks_13 (by decide) (fun h13 => ?_) (fun h13 => ?_)
    · refine bX4_looks_24.go rfl trivial ?_
      refine r_iret dX4_looks_26 rfl ?_
      exact ⟨ans (by clear main; simp only [b2_0, b2_n0] at *; simp_all [q_looks, pB, cB, mB]), Keeps2.rf⟩
    · refine bX4_looks_16.go rfl (by exact ⟨⟨rfl, trivial⟩, trivial⟩) ?_
      refine j_if_ne (tgt := 27) dX4_looks_21 (by decide) (fun h21 => ?_) (fun h21 => ?_)
      · exact main (by clear main; simp only [b2_0, b2_n0] at *; simp_all [pB, cB, mB])
      · refine bX4_looks_24.go rfl trivial ?_
        refine r_iret dX4_looks_26 rfl ?_
        exact ⟨ans (by clear main; simp only [b2_0, b2_n0] at *; simp_all [q_looks, pB, cB, mB]), Keeps2.rf⟩
def q_value (w : Nat → Int32) (c m what : Int32) : Int32 := if (cB w c && (tB w m && inL what (lN 0) 2)) = true then (if what = 0 then (rsP w m.toNatClampNeg).pt c.toNatClampNeg / w (32 + 6 * c.toNatClampNeg + 3) else if what = nI 1 then (rsP w m.toNatClampNeg).pt c.toNatClampNeg - (rsP w m.toNatClampNeg).pt c.toNatClampNeg / w (32 + 6 * c.toNatClampNeg + 3) * w (32 + 6 * c.toNatClampNeg + 3) else w (32 + 6 * c.toNatClampNeg + 3)) else -2
theorem bX4_value_0 : Blk TP mX4_value 0 5 [oAL 0, oIL 1, tC_I F_isClock] := blk_c (s_aload_n dX4_value_0 rfl) <| blk_c (s_iload_n dX4_value_1 rfl) <| blk_c (tc_I ok_isClock gX4_isClock (by decide +kernel) (by decide) dX4_value_2) <| blk_nil
theorem bX4_value_8 : Blk TP mX4_value 8 13 [oAL 0, oIL 2, tC_I F_isTime] := blk_c (s_aload_n dX4_value_8 rfl) <| blk_c (s_iload_n dX4_value_9 rfl) <| blk_c (tc_I ok_isTime gX4_isTime (by decide +kernel) (by decide) dX4_value_10) <| blk_nil
theorem bX4_value_16 : Blk TP mX4_value 16 25 [oIL 3, oI2L, oCL (lN 0), oCL (2), tS_JJJ F_in] := blk_c (s_iload_n dX4_value_16 rfl) <| blk_c (s_i2l dX4_value_17) <| blk_c (s_lconst dX4_value_18 (by decide +kernel)) <| blk_c (s_ldc2 dX4_value_19 q1766) <| blk_c (ts_JJJ ok_in gX4_in (by decide +kernel) (by decide) dX4_value_22) <| blk_nil
theorem bX4_value_28 : Blk TP mX4_value 28 30 [oC (-2)] := blk_c (s_bipush dX4_value_28 (by decide +kernel)) <| blk_nil
theorem bX4_value_31 : Blk TP mX4_value 31 32 [oAL 0] := blk_c (s_aload_n dX4_value_31 rfl) <| blk_nil
theorem bX4_value_35 : Blk TP mX4_value 35 56 [oAL 0, tR 18, oC (nI 4), oIL 2, oMul, oIL 1, oAdd, tAI 18 164, oIS 4, oAL 0, oIL 1, oC (nI 3), tC_II F_ofClock, oIS 5, oIL 3] := blk_c (s_aload_n dX4_value_35 rfl) <| blk_c (tgX4_18 rfl dX4_value_36) <| blk_c (s_iconst dX4_value_39 (by decide +kernel)) <| blk_c (s_iload_n dX4_value_40 rfl) <| blk_c (s_imul dX4_value_41) <| blk_c (s_iload_n dX4_value_42 rfl) <| blk_c (s_iadd dX4_value_43) <| blk_c (t_iald rfl dX4_value_44) <| blk_c (s_istore dX4_value_45 (by decide)) <| blk_c (s_aload_n dX4_value_47 rfl) <| blk_c (s_iload_n dX4_value_48 rfl) <| blk_c (s_iconst dX4_value_49 (by decide +kernel)) <| blk_c (tc_II ok_ofClock gX4_ofClock (by decide +kernel) (by decide) dX4_value_50) <| blk_c (s_istore dX4_value_53 (by decide)) <| blk_c (s_iload_n dX4_value_55 rfl) <| blk_nil
theorem bX4_value_59 : Blk TP mX4_value 59 82 [oIL 4, oIL 5, oDiv, .inl (fun s => some s)] := blk_c (s_iload dX4_value_59) <| blk_c (s_iload dX4_value_61) <| blk_c (s_idiv dX4_value_63) <| blk_c (s_goto (tgt := 82) dX4_value_64 (by decide)) <| blk_nil
theorem bX4_value_67 : Blk TP mX4_value 67 69 [oIL 3, oC (nI 1)] := blk_c (s_iload_n dX4_value_67 rfl) <| blk_c (s_iconst dX4_value_68 (by decide +kernel)) <| blk_nil
theorem bX4_value_72 : Blk TP mX4_value 72 82 [oIL 4, oIL 5, oRem, .inl (fun s => some s)] := blk_c (s_iload dX4_value_72) <| blk_c (s_iload dX4_value_74) <| blk_c (s_irem dX4_value_76) <| blk_c (s_goto (tgt := 82) dX4_value_77 (by decide)) <| blk_nil
theorem bX4_value_80 : Blk TP mX4_value 80 82 [oIL 5] := blk_c (s_iload dX4_value_80) <| blk_nil
theorem ok_value : RC_III mX4_value (fun _ _ _ A B => Pre_runs A B) (fun c m what A B => Qq (q_value (A 1) c m what) A B) := by
  intro X c m what o ad A B hpre
  obtain ⟨v, hw⟩ := id hpre
  have h6 : v 6 ≤ 40 := hw.2.2.2.2.2.2.2.1
  have h4 : v 1 ≤ 4 := hw.2.2.1
  have main : (cB (A 1) c && (tB (A 1) m && inL what (lN 0) 2)) = true → JS TP X mX4_value (rmOf mX4_value.lv 0 0) (ZR X o ad (Qq (q_value (A 1) c m what) A B)) 0 0 31 [some (.ref o), some (.int c), some (.int m), some (.int what), none, none] [] (o, ad, A, B) := by
    intro hg
    rw [q_value, if_pos hg]
    simp only [Bool.and_eq_true] at hg
    obtain ⟨cn, hc, rfl⟩ := hw.cOf hg.1
    obtain ⟨mn, hm, rfl⟩ := hw.tOf hg.2.1
    have hcl := hw.clock hc
    rw [nI_clamp (show cn < 2 ^ 31 by omega), nI_clamp (show mn < 2 ^ 31 by omega)]
    refine bX4_value_31.go rfl trivial ?_
    refine rc_V ok_plain gX4_plain dX4_value_32 rfl hpre (fun r A1 B1 q => ?_)
    obtain ⟨rfl, hk, hq⟩ := q
    have hC := (hq v hw).2.2.2.1 mn hm cn hc
    refine bX4_value_35.go rfl (by simp (disch := omega) only [nI_add, pk_mul, vpI]; exact ⟨trivial, ⟨trivial, by omega⟩, ⟨trivial, by omega, by omega⟩, trivial⟩) ?_
    simp (disch := omega) only [nI_add, pk_mul, nI_clamp, hC, hk.1]
    refine j_if_ne (tgt := 67) dX4_value_56 (by decide) (fun h56 => ?_) (fun h56 => ?_)
    · refine bX4_value_67.go rfl trivial ?_
      refine j_icmp_ne (tgt := 80) dX4_value_69 (by decide) (fun h69 => ?_) (fun h69 => ?_)
      · refine bX4_value_80.go rfl trivial ?_
        exact r_iret dX4_value_82 rfl ⟨ans (by rw [if_neg h56, if_neg h69]), hk⟩
      · refine bX4_value_72.go rfl ⟨hcl.1, trivial⟩ ?_
        exact r_iret dX4_value_82 rfl ⟨ans (by rw [if_neg h56, if_pos h69]), hk⟩
    · refine bX4_value_59.go rfl ⟨hcl.1, trivial⟩ ?_
      exact r_iret dX4_value_82 rfl ⟨ans (by rw [if_pos h56]), hk⟩
  refine R_start (L := [some (.ref o), some (.int c), some (.int m), some (.int what), none, none]) 2 rfl ?_
  refine bX4_value_0.go rfl (by first | exact ⟨⟨rfl, trivial⟩, trivial⟩ | exact ⟨trivial, trivial⟩) ?_
  refine j_if_eq (tgt := 28) dX4_value_5 (by decide) (fun h5 => ?_) (fun h5 => ?_)
  · refine bX4_value_28.go rfl trivial ?_
    refine r_iret dX4_value_30 rfl ?_
    exact ⟨ans (by clear main; simp only [b2_0, b2_n0, inL_def] at *; simp_all [q_value, cB, tB]), Keeps2.rf⟩
  · refine bX4_value_8.go rfl (by first | exact ⟨⟨rfl, trivial⟩, trivial⟩ | exact ⟨trivial, trivial⟩) ?_
    refine j_if_eq (tgt := 28) dX4_value_13 (by decide) (fun h13 => ?_) (fun h13 => ?_)
    · refine bX4_value_28.go rfl trivial ?_
      refine r_iret dX4_value_30 rfl ?_
      exact ⟨ans (by clear main; simp only [b2_0, b2_n0, inL_def] at *; simp_all [q_value, cB, tB]), Keeps2.rf⟩
    · refine bX4_value_16.go rfl (by first | exact ⟨⟨rfl, trivial⟩, trivial⟩ | exact ⟨trivial, trivial⟩) ?_
      refine j_if_ne (tgt := 31) dX4_value_25 (by decide) (fun h25 => ?_) (fun h25 => ?_)
      · exact main (by clear main; simp only [b2_0, b2_n0, inL_def] at *; simp_all [cB, tB])
      · refine bX4_value_28.go rfl trivial ?_
        refine r_iret dX4_value_30 rfl ?_
        exact ⟨ans (by clear main; simp only [b2_0, b2_n0, inL_def] at *; simp_all [q_value, cB, tB]), Keeps2.rf⟩
def q_open (w : Nat → Int32) : Int32 := if sqB w = true then nI (rsP w (spanW w)).on else -2
theorem bX4_open_0 : Blk TP mX4_open 0 4 [oAL 0, tC_V F_isSquare] := blk_c (s_aload_n dX4_open_0 rfl) <| blk_c (tc_V ok_isSquare gX4_isSquare (by decide +kernel) (by decide) dX4_open_1) <| blk_nil
theorem bX4_open_7 : Blk TP mX4_open 7 9 [oC (-2)] := blk_c (s_bipush dX4_open_7 (by decide +kernel)) <| blk_nil
theorem bX4_open_10 : Blk TP mX4_open 10 11 [oAL 0] := blk_c (s_aload_n dX4_open_10 rfl) <| blk_nil
theorem bX4_open_14 : Blk TP mX4_open 14 18 [oAL 0, tI 22] := blk_c (s_aload_n dX4_open_14 rfl) <| blk_c (tgX4_22 rfl dX4_open_15) <| blk_nil
theorem ok_open : RC_V mX4_open Pre_runs (fun A B => Qq (q_open (A 1)) A B) := by
  intro X o ad A B hpre
  obtain ⟨v, hw⟩ := id hpre
  refine R_start (L := [some (.ref o)]) 0 rfl ?_
  refine bX4_open_0.go rfl ⟨⟨rfl, trivial⟩, trivial⟩ ?_
  refine j_if_ne (tgt := 10) dX4_open_4 (by decide) (fun h4 => ?_) (fun h4 => ?_)
  · rw [b2_n0] at h4
    refine bX4_open_10.go rfl trivial ?_
    refine rc_V ok_plain gX4_plain dX4_open_11 rfl hpre (fun r A1 B1 q => ?_)
    obtain ⟨rfl, hk, hq⟩ := q
    refine bX4_open_14.go rfl ⟨rfl, trivial⟩ ?_
    refine r_iret dX4_open_18 rfl ⟨ans ?_, hk⟩
    rw [q_open, if_pos (show sqB (A 1) = true from h4), hw.span]; exact (hq v hw).1
  · rw [b2_0] at h4
    refine bX4_open_7.go rfl trivial ?_
    exact r_iret dX4_open_9 rfl ⟨ans (by rw [q_open, if_neg (by rw [show sqB (A 1) = false from h4]; decide)]), Keeps2.rf⟩
def q_opens (w : Nat → Int32) (i : Int32) : Int32 := if sqB w = true then (if inI i (nI 0) (nI (rsP w (spanW w)).on - nI 1) = true then (rsP w (spanW w)).od i.toNatClampNeg else -1) else -2
theorem bX4_opens_0 : Blk TP mX4_opens 0 4 [oAL 0, tC_V F_isSquare] := blk_c (s_aload_n dX4_opens_0 rfl) <| blk_c (tc_V ok_isSquare gX4_isSquare (by decide +kernel) (by decide) dX4_opens_1) <| blk_nil
theorem bX4_opens_7 : Blk TP mX4_opens 7 9 [oC (-2)] := blk_c (s_bipush dX4_opens_7 (by decide +kernel)) <| blk_nil
theorem bX4_opens_10 : Blk TP mX4_opens 10 11 [oAL 0] := blk_c (s_aload_n dX4_opens_10 rfl) <| blk_nil
theorem bX4_opens_14 : Blk TP mX4_opens 14 27 [oIL 1, oI2L, oCL (lN 0), oAL 0, tI 22, oC (nI 1), oSub, oI2L, tS_JJJ F_in] := blk_c (s_iload_n dX4_opens_14 rfl) <| blk_c (s_i2l dX4_opens_15) <| blk_c (s_lconst dX4_opens_16 (by decide +kernel)) <| blk_c (s_aload_n dX4_opens_17 rfl) <| blk_c (tgX4_22 rfl dX4_opens_18) <| blk_c (s_iconst dX4_opens_21 (by decide +kernel)) <| blk_c (s_isub dX4_opens_22) <| blk_c (s_i2l dX4_opens_23) <| blk_c (ts_JJJ ok_in gX4_in (by decide +kernel) (by decide) dX4_opens_24) <| blk_nil
theorem bX4_opens_30 : Blk TP mX4_opens 30 40 [oAL 0, tR 21, oIL 1, tAI 21 1280, .inl (fun s => some s)] := blk_c (s_aload_n dX4_opens_30 rfl) <| blk_c (tgX4_21 rfl dX4_opens_31) <| blk_c (s_iload_n dX4_opens_34 rfl) <| blk_c (t_iald rfl dX4_opens_35) <| blk_c (s_goto (tgt := 40) dX4_opens_36 (by decide)) <| blk_nil
theorem bX4_opens_39 : Blk TP mX4_opens 39 40 [oC (-1)] := blk_c (s_iconst dX4_opens_39 (by decide +kernel)) <| blk_nil
theorem inI_nat' {X : Int32} {n : Nat} (hn : n < 100000) (h : inI X (nI 0) (nI n - nI 1) = true) : ∃ a, a < n ∧ X = nI a := by
  simp only [inI, Bool.and_eq_true, decide_eq_true_eq] at h
  obtain ⟨h1, h2⟩ := h
  have h0 : ¬ X < 0 := by rw [nI_0] at h1; exact Int32.not_lt.mpr h1
  obtain ⟨j, hj, rfl⟩ := nI_of h0
  cases n with
  | zero =>
    exfalso
    rw [Int32.le_iff_toInt_le, nI_toInt hj, show (nI 0 - nI 1).toInt = -1 by decide +kernel] at h2
    omega
  | succ n =>
    rw [pk_sub (by omega), nI_leI hj (by omega)] at h2
    exact ⟨j, by omega, rfl⟩
theorem ok_opens : RC_I mX4_opens (fun _ A B => Pre_runs A B) (fun i A B => Qq (q_opens (A 1) i) A B) := by
  intro X i o ad A B hpre
  obtain ⟨v, hw⟩ := id hpre
  have h6 : v 6 ≤ 40 := hw.2.2.2.2.2.2.2.1
  refine R_start (L := [some (.ref o), some (.int i)]) 0 rfl ?_
  refine bX4_opens_0.go rfl ⟨⟨rfl, trivial⟩, trivial⟩ ?_
  refine j_if_ne (tgt := 10) dX4_opens_4 (by decide) (fun h4 => ?_) (fun h4 => ?_)
  · rw [b2_n0] at h4
    refine bX4_opens_10.go rfl trivial ?_
    refine rc_V ok_plain gX4_plain dX4_opens_11 rfl hpre (fun r A1 B1 q => ?_)
    obtain ⟨rfl, hk, hq⟩ := q
    obtain ⟨q1, q2, q3, -⟩ := hq v hw
    refine bX4_opens_14.go rfl ⟨rfl, trivial, trivial⟩ ?_
    rw [q1, lN0, in_i2l]
    refine j_if_eq (tgt := 39) dX4_opens_27 (by decide) (fun h27 => ?_) (fun h27 => ?_)
    · rw [b2_0] at h27
      refine bX4_opens_39.go rfl trivial ?_
      exact r_iret dX4_opens_40 rfl ⟨ans (by rw [q_opens, if_pos (show sqB (A 1) = true from h4), hw.span, if_neg (by rw [h27]; decide)]), hk⟩
    · rw [b2_n0] at h27
      obtain ⟨k, hkk, rfl⟩ := inI_nat' (by omega) h27
      refine bX4_opens_30.go rfl (by rw [vpI (by omega)]; exact ⟨rfl, ⟨rfl, by omega⟩, trivial⟩) ?_
      refine r_iret dX4_opens_40 rfl ⟨ans ?_, hk⟩
      rw [q_opens, if_pos (show sqB (A 1) = true from h4), hw.span, if_pos h27, nI_clamp (by omega)]
      exact q2 k hkk
  · rw [b2_0] at h4
    refine bX4_opens_7.go rfl trivial ?_
    exact r_iret dX4_opens_9 rfl ⟨ans (by rw [q_opens, if_neg (by rw [show sqB (A 1) = false from h4]; decide)]), Keeps2.rf⟩
/-- how many clocks show h -/
def F_manyShow (h m : Int32) : Tau → Prop × Option Value × Tau := fun (o, ad, A, B) => (∃ (v : Nat → Nat) (mn : Nat), WOk (A 1) v ∧ mn ≤ 40 ∧ m = nI mn, some (.int (sumI (fun c => b2 (decide (shA A m.toNatClampNeg c = h))) (nC (A 1)))), (o, ad, A, B))
theorem bX4_manyShow_0 : Blk TP mX4_manyShow 0 5 [oC (nI 0), oIS 3, oC (nI 0), oIS 4] := blk_c (s_iconst dX4_manyShow_0 (by decide +kernel)) <| blk_c (s_istore_n dX4_manyShow_1 rfl (by decide)) <| blk_c (s_iconst dX4_manyShow_2 (by decide +kernel)) <| blk_c (s_istore dX4_manyShow_3 (by decide)) <| blk_nil
theorem bX4_manyShow_5 : Blk TP mX4_manyShow 5 13 [oIL 4, oAL 0, tR 1, oC (nI 1), tAI 1 320] := blk_c (s_iload dX4_manyShow_5) <| blk_c (s_aload_n dX4_manyShow_7 rfl) <| blk_c (tgX4_1 rfl dX4_manyShow_8) <| blk_c (s_iconst dX4_manyShow_11 (by decide +kernel)) <| blk_c (t_iald rfl dX4_manyShow_12) <| blk_nil
theorem bX4_manyShow_16 : Blk TP mX4_manyShow 16 25 [oIL 3, oAL 0, oIL 4, oIL 2, tC_II F_shownAt, oIL 1] := blk_c (s_iload_n dX4_manyShow_16 rfl) <| blk_c (s_aload_n dX4_manyShow_17 rfl) <| blk_c (s_iload dX4_manyShow_18) <| blk_c (s_iload_n dX4_manyShow_20 rfl) <| blk_c (tc_II ok_shownAt gX4_shownAt (by decide +kernel) (by decide) dX4_manyShow_21) <| blk_c (s_iload_n dX4_manyShow_24 rfl) <| blk_nil
theorem bX4_manyShow_28 : Blk TP mX4_manyShow 28 33 [oC (nI 1), .inl (fun s => some s)] := blk_c (s_iconst dX4_manyShow_28 (by decide +kernel)) <| blk_c (s_goto (tgt := 33) dX4_manyShow_29 (by decide)) <| blk_nil
theorem bX4_manyShow_32 : Blk TP mX4_manyShow 32 33 [oC (nI 0)] := blk_c (s_iconst dX4_manyShow_32 (by decide +kernel)) <| blk_nil
theorem bX4_manyShow_33 : Blk TP mX4_manyShow 33 5 [oAdd, oIS 3, oInc 4 1, .inl (fun s => some s)] := blk_c (s_iadd dX4_manyShow_33) <| blk_c (s_istore_n dX4_manyShow_34 rfl (by decide)) <| blk_c (s_iinc dX4_manyShow_35 (by decide +kernel) (by decide)) <| blk_c (s_goto (tgt := 5) dX4_manyShow_38 (by decide)) <| blk_nil
theorem bX4_manyShow_41 : Blk TP mX4_manyShow 41 42 [oIL 3] := blk_c (s_iload_n dX4_manyShow_41 rfl) <| blk_nil
theorem ok_manyShow : TC_II mX4_manyShow F_manyShow := by
  intro X h m ⟨o, ad, A, B⟩ P r y hF hP
  cases hF
  obtain ⟨v, mn, hw, hm, rfl⟩ := hP
  have h4 : v 1 ≤ 4 := hw.2.2.1
  have e1 : A 1 1 = nI (v 1) := hw.1 1 (by decide)
  refine T_start (L := [some (.ref o), some (.int h), some (.int (nI mn)), none, none]) 2 rfl ?_
  rw [nI_clamp (by omega), hw.ncE]
  refine bX4_manyShow_0.go rfl trivial ?_
  refine loop_down (N := v 1) (I := fun _ => True) (P := fun c => JS TP X mX4_manyShow (rmOf mX4_manyShow.lv 0 0) _ 0 0 5 [some (.ref o), some (.int h), some (.int (nI mn)), some (.int (sumI (fun c => b2 (decide (shA A mn c = h))) c)), some (.int (nI c))] [] (o, ad, A, B)) ?_ ?_ 0 (by omega) trivial
  · intro _
    refine bX4_manyShow_5.go rfl ⟨rfl, ⟨rfl, vp_in_nI (by decide) (by decide)⟩, trivial⟩ ?_
    refine j_icmp_ge (tgt := 41) dX4_manyShow_13 (by decide) (fun h13 => ?_) (fun h13 => ?_)
    · refine bX4_manyShow_41.go rfl trivial ?_
      exact t_iret dX4_manyShow_42 rfl rfl rfl
    · simp (disch := omega) only [nI_clamp, e1, nI_leI] at h13; omega
  · intro c hc _ ih
    refine bX4_manyShow_5.go rfl ⟨rfl, ⟨rfl, vp_in_nI (by decide) (by decide)⟩, trivial⟩ ?_
    have jn : ∀ z, z = b2 (decide (shA A mn c = h)) → JS TP X mX4_manyShow (rmOf mX4_manyShow.lv 0 0) (TZ X (some (.int (sumI (fun c => b2 (decide (shA A mn c = h))) (v 1)))) (o, ad, A, B)) 0 0 33 [some (.ref o), some (.int h), some (.int (nI mn)), some (.int (sumI (fun c => b2 (decide (shA A mn c = h))) c)), some (.int (nI c))] [.int z, .int (sumI (fun c => b2 (decide (shA A mn c = h))) c)] (o, ad, A, B) := by
      intro z hz
      subst hz
      refine bX4_manyShow_33.go rfl trivial ?_
      rw [nI_1]
      exact ih trivial
    refine j_icmp_ge (tgt := 41) dX4_manyShow_13 (by decide) (fun h13 => ?_) (fun h13 => ?_)
    · simp (disch := omega) only [nI_clamp, e1, nI_leI] at h13; omega
    · refine bX4_manyShow_16.go rfl (by simp (disch := omega) only [vpI, nI_clamp]; exact ⟨⟨trivial, by omega, by omega, hw.clock hc⟩, trivial⟩) ?_
      simp (disch := omega) only [nI_clamp]
      refine j_icmp_ne (tgt := 32) dX4_manyShow_25 (by decide) (fun h25 => ?_) (fun h25 => ?_)
      · refine bX4_manyShow_32.go rfl trivial ?_
        exact jn _ (b2_f (by simp only [shA]; exact decide_eq_false h25))
      · refine bX4_manyShow_28.go rfl trivial ?_
        exact jn _ (b2_t (by simp only [shA]; exact decide_eq_true h25))
/-- the first of n from t on; none: -1 -/
def firstF (f : Nat → Bool) : Nat → Nat → Int32
  | 0, _ => -1
  | n + 1, t => if f t = true then nI t else firstF f n (t + 1)
def msP (w : Nat → Int32) (h : Int32) (t : Nat) : Int32 := sumI (fun c => b2 (decide (showsP w c t = h))) (nC w)
theorem sumI_congr {f g : Nat → Int32} {n : Nat} (h : ∀ k, k < n → f k = g k) : sumI f n = sumI g n := by
  induction n with
  | zero => rfl
  | succ n ih => rw [sumI, sumI, ih (fun k hk => h k (by omega)), h n (by omega)]
theorem CrsA.shE {A' : Nat → Nat → Int32} {v : Nat → Nat} {w : Nat → Int32} {m t c : Nat} (hw1 : A' 1 = w) (h : CrsA A' v (cfP w) (rsP w) m) (ht : t ≤ m) (hc : c < v 1) : shA A' t c = showsP w c t := by
  unfold shA
  rw [h.2.2.2.1 t ht c hc, hw1]; rfl
def q_bell (w : Nat → Int32) (n h : Int32) : Int32 := if (sqB w && (inL n (lN 1) 4 && hB h)) = true then firstF (fun t => decide (n ≤ msP w h t)) (spanW w + 1) 0 else -2
theorem bX4_bell_0 : Blk TP mX4_bell 0 4 [oAL 0, tC_V F_isSquare] := blk_c (s_aload_n dX4_bell_0 rfl) <| blk_c (tc_V ok_isSquare gX4_isSquare (by decide +kernel) (by decide) dX4_bell_1) <| blk_nil
theorem bX4_bell_7 : Blk TP mX4_bell 7 16 [oIL 1, oI2L, oCL (lN 1), oCL (4), tS_JJJ F_in] := blk_c (s_iload_n dX4_bell_7 rfl) <| blk_c (s_i2l dX4_bell_8) <| blk_c (s_lconst dX4_bell_9 (by decide +kernel)) <| blk_c (s_ldc2 dX4_bell_10 q2062) <| blk_c (ts_JJJ ok_in gX4_in (by decide +kernel) (by decide) dX4_bell_13) <| blk_nil
theorem bX4_bell_19 : Blk TP mX4_bell 19 23 [oIL 2, tS_I F_isHour] := blk_c (s_iload_n dX4_bell_19 rfl) <| blk_c (ts_I ok_isHour gX4_isHour (by decide +kernel) (by decide) dX4_bell_20) <| blk_nil
theorem bX4_bell_26 : Blk TP mX4_bell 26 28 [oC (-2)] := blk_c (s_bipush dX4_bell_26 (by decide +kernel)) <| blk_nil
theorem bX4_bell_29 : Blk TP mX4_bell 29 30 [oAL 0] := blk_c (s_aload_n dX4_bell_29 rfl) <| blk_nil
theorem bX4_bell_33 : Blk TP mX4_bell 33 35 [oC (nI 0), oIS 3] := blk_c (s_iconst dX4_bell_33 (by decide +kernel)) <| blk_c (s_istore_n dX4_bell_34 rfl (by decide)) <| blk_nil
theorem bX4_bell_35 : Blk TP mX4_bell 35 43 [oIL 3, oAL 0, tR 1, oC (nI 6), tAI 1 320] := blk_c (s_iload_n dX4_bell_35 rfl) <| blk_c (s_aload_n dX4_bell_36 rfl) <| blk_c (tgX4_1 rfl dX4_bell_37) <| blk_c (s_bipush dX4_bell_40 (by decide +kernel)) <| blk_c (t_iald rfl dX4_bell_42) <| blk_nil
theorem bX4_bell_46 : Blk TP mX4_bell 46 53 [oAL 0, oIL 2, oIL 3, tC_II F_manyShow, oIL 1] := blk_c (s_aload_n dX4_bell_46 rfl) <| blk_c (s_iload_n dX4_bell_47 rfl) <| blk_c (s_iload_n dX4_bell_48 rfl) <| blk_c (tc_II ok_manyShow gX4_manyShow (by decide +kernel) (by decide) dX4_bell_49) <| blk_c (s_iload_n dX4_bell_52 rfl) <| blk_nil
theorem bX4_bell_56 : Blk TP mX4_bell 56 57 [oIL 3] := blk_c (s_iload_n dX4_bell_56 rfl) <| blk_nil
theorem bX4_bell_58 : Blk TP mX4_bell 58 35 [oInc 3 1, .inl (fun s => some s)] := blk_c (s_iinc dX4_bell_58 (by decide +kernel) (by decide)) <| blk_c (s_goto (tgt := 35) dX4_bell_61 (by decide)) <| blk_nil
theorem bX4_bell_64 : Blk TP mX4_bell 64 65 [oC (-1)] := blk_c (s_iconst dX4_bell_64 (by decide +kernel)) <| blk_nil
theorem ok_bell : RC_II mX4_bell (fun _ _ A B => Pre_runs A B) (fun n h A B => Qq (q_bell (A 1) n h) A B) := by
  intro X n h o ad A B hpre
  obtain ⟨v, hw⟩ := id hpre
  have h6 : v 6 ≤ 40 := hw.2.2.2.2.2.2.2.1
  have h4 : v 1 ≤ 4 := hw.2.2.1
  have e6 : A 1 6 = nI (v 6) := hw.1 6 (by decide)
  have main : (sqB (A 1) && (inL n (lN 1) 4 && hB h)) = true → JS TP X mX4_bell (rmOf mX4_bell.lv 0 0) (ZR X o ad (Qq (q_bell (A 1) n h) A B)) 0 0 29 [some (.ref o), some (.int n), some (.int h), none] [] (o, ad, A, B) := by
    intro hg
    rw [q_bell, if_pos hg, hw.span]
    refine bX4_bell_29.go rfl trivial ?_
    refine rc_V ok_plain gX4_plain dX4_bell_30 rfl hpre (fun r A1 B1 q => ?_)
    obtain ⟨rfl, hk, hq⟩ := q
    have hC := hq v hw
    have e61 : A1 1 6 = nI (v 6) := by rw [hk.1]; exact e6
    refine bX4_bell_33.go rfl trivial ?_
    refine loop_down (N := v 6 + 1) (I := fun t => firstF (fun t => decide (n ≤ msP (A 1) h t)) (v 6 + 1) 0 = firstF (fun t => decide (n ≤ msP (A 1) h t)) (v 6 + 1 - t) t) (P := fun t => JS TP X mX4_bell (rmOf mX4_bell.lv 0 0) _ 0 0 35 [some (.ref o), some (.int n), some (.int h), some (.int (nI t))] [] (o, ad, A1, B1)) ?_ ?_ 0 (by omega) rfl
    · intro hI
      refine bX4_bell_35.go rfl ⟨rfl, ⟨rfl, vp_in_nI (by decide) (by decide)⟩, trivial⟩ ?_
      refine j_icmp_gt (tgt := 64) dX4_bell_43 (by decide) (fun h43 => ?_) (fun h43 => ?_)
      · refine bX4_bell_64.go rfl trivial ?_
        exact r_iret dX4_bell_65 rfl ⟨ans (by rw [hI, Nat.sub_self]; rfl), hk⟩
      · simp (disch := omega) only [nI_clamp, e61, nI_ltI] at h43; omega
    · intro t ht hI ih
      obtain ⟨n', hn'⟩ : ∃ n', v 6 + 1 - t = n' + 1 := ⟨v 6 - t, by omega⟩
      refine bX4_bell_35.go rfl ⟨rfl, ⟨rfl, vp_in_nI (by decide) (by decide)⟩, trivial⟩ ?_
      refine j_icmp_gt (tgt := 64) dX4_bell_43 (by decide) (fun h43 => ?_) (fun h43 => ?_)
      · simp (disch := omega) only [nI_clamp, e61, nI_ltI] at h43; omega
      · refine bX4_bell_46.go rfl (by exact ⟨⟨rfl, v, t, by rw [hk.1]; exact hw, by omega, rfl⟩, trivial⟩) ?_
        have eM : sumI (fun c => b2 (decide (shA A1 (nI t).toNatClampNeg c = h))) (nC (A1 1)) = msP (A 1) h t := by
          rw [nI_clamp (by omega), hk.1, msP, hw.ncE]
          exact sumI_congr (fun c hc => by rw [hC.shE hk.1 (by omega) hc])
        rw [eM]
        refine j_icmp_lt (tgt := 58) dX4_bell_53 (by decide) (fun h53 => ?_) (fun h53 => ?_)
        · refine bX4_bell_58.go rfl trivial ?_
          rw [nI_1]
          refine ih ?_
          rw [hI, hn', firstF, if_neg (by rw [decide_eq_true_eq, Int32.not_le]; exact h53), show v 6 + 1 - (t + 1) = n' by omega]
        · refine bX4_bell_56.go rfl trivial ?_
          exact r_iret dX4_bell_57 rfl ⟨ans (by rw [hI, hn', firstF, if_pos (by rw [decide_eq_true_eq]; exact Int32.not_lt.mp h53)]), hk⟩
  refine R_start (L := [some (.ref o), some (.int n), some (.int h), none]) 1 rfl ?_
  refine bX4_bell_0.go rfl (by first | exact ⟨⟨rfl, trivial⟩, trivial⟩ | exact ⟨trivial, trivial⟩) ?_
  refine j_if_eq (tgt := 26) dX4_bell_4 (by decide) (fun h4 => ?_) (fun h4 => ?_)
  · refine bX4_bell_26.go rfl trivial ?_
    refine r_iret dX4_bell_28 rfl ?_
    exact ⟨ans (by clear main; simp only [b2_0, b2_n0, inL_def, sq_def] at *; simp_all [q_bell, hB]), Keeps2.rf⟩
  · refine bX4_bell_7.go rfl (by first | exact ⟨⟨rfl, trivial⟩, trivial⟩ | exact ⟨trivial, trivial⟩) ?_
    refine j_if_eq (tgt := 26) dX4_bell_16 (by decide) (fun h16 => ?_) (fun h16 => ?_)
    · refine bX4_bell_26.go rfl trivial ?_
      refine r_iret dX4_bell_28 rfl ?_
      exact ⟨ans (by clear main; simp only [b2_0, b2_n0, inL_def, sq_def] at *; simp_all [q_bell, hB]), Keeps2.rf⟩
    · refine bX4_bell_19.go rfl (by first | exact ⟨⟨rfl, trivial⟩, trivial⟩ | exact ⟨trivial, trivial⟩) ?_
      refine j_if_ne (tgt := 29) dX4_bell_23 (by decide) (fun h23 => ?_) (fun h23 => ?_)
      · exact main (by clear main; simp only [b2_0, b2_n0, inL_def, sq_def] at *; simp_all [hB])
      · refine bX4_bell_26.go rfl trivial ?_
        refine r_iret dX4_bell_28 rfl ?_
        exact ⟨ans (by clear main; simp only [b2_0, b2_n0, inL_def, sq_def] at *; simp_all [q_bell, hB]), Keeps2.rf⟩
def q_when (w : Nat → Int32) (c h : Int32) : Int32 := if (cB w c && hB h) = true then firstF (fun t => decide (showsP w c.toNatClampNeg t = h)) (spanW w + 1) 0 else -2
theorem bX4_when_0 : Blk TP mX4_when 0 5 [oAL 0, oIL 1, tC_I F_isClock] := blk_c (s_aload_n dX4_when_0 rfl) <| blk_c (s_iload_n dX4_when_1 rfl) <| blk_c (tc_I ok_isClock gX4_isClock (by decide +kernel) (by decide) dX4_when_2) <| blk_nil
theorem bX4_when_8 : Blk TP mX4_when 8 12 [oIL 2, tS_I F_isHour] := blk_c (s_iload_n dX4_when_8 rfl) <| blk_c (ts_I ok_isHour gX4_isHour (by decide +kernel) (by decide) dX4_when_9) <| blk_nil
theorem bX4_when_15 : Blk TP mX4_when 15 17 [oC (-2)] := blk_c (s_bipush dX4_when_15 (by decide +kernel)) <| blk_nil
theorem bX4_when_18 : Blk TP mX4_when 18 19 [oAL 0] := blk_c (s_aload_n dX4_when_18 rfl) <| blk_nil
theorem bX4_when_22 : Blk TP mX4_when 22 24 [oC (nI 0), oIS 3] := blk_c (s_iconst dX4_when_22 (by decide +kernel)) <| blk_c (s_istore_n dX4_when_23 rfl (by decide)) <| blk_nil
theorem bX4_when_24 : Blk TP mX4_when 24 32 [oIL 3, oAL 0, tR 1, oC (nI 6), tAI 1 320] := blk_c (s_iload_n dX4_when_24 rfl) <| blk_c (s_aload_n dX4_when_25 rfl) <| blk_c (tgX4_1 rfl dX4_when_26) <| blk_c (s_bipush dX4_when_29 (by decide +kernel)) <| blk_c (t_iald rfl dX4_when_31) <| blk_nil
theorem bX4_when_35 : Blk TP mX4_when 35 42 [oAL 0, oIL 1, oIL 3, tC_II F_shownAt, oIL 2] := blk_c (s_aload_n dX4_when_35 rfl) <| blk_c (s_iload_n dX4_when_36 rfl) <| blk_c (s_iload_n dX4_when_37 rfl) <| blk_c (tc_II ok_shownAt gX4_shownAt (by decide +kernel) (by decide) dX4_when_38) <| blk_c (s_iload_n dX4_when_41 rfl) <| blk_nil
theorem bX4_when_45 : Blk TP mX4_when 45 46 [oIL 3] := blk_c (s_iload_n dX4_when_45 rfl) <| blk_nil
theorem bX4_when_47 : Blk TP mX4_when 47 24 [oInc 3 1, .inl (fun s => some s)] := blk_c (s_iinc dX4_when_47 (by decide +kernel) (by decide)) <| blk_c (s_goto (tgt := 24) dX4_when_50 (by decide)) <| blk_nil
theorem bX4_when_53 : Blk TP mX4_when 53 54 [oC (-1)] := blk_c (s_iconst dX4_when_53 (by decide +kernel)) <| blk_nil
theorem ok_when : RC_II mX4_when (fun _ _ A B => Pre_runs A B) (fun c h A B => Qq (q_when (A 1) c h) A B) := by
  intro X c h o ad A B hpre
  obtain ⟨v, hw⟩ := id hpre
  have h6 : v 6 ≤ 40 := hw.2.2.2.2.2.2.2.1
  have h4 : v 1 ≤ 4 := hw.2.2.1
  have e6 : A 1 6 = nI (v 6) := hw.1 6 (by decide)
  have main : (cB (A 1) c && hB h) = true → JS TP X mX4_when (rmOf mX4_when.lv 0 0) (ZR X o ad (Qq (q_when (A 1) c h) A B)) 0 0 18 [some (.ref o), some (.int c), some (.int h), none] [] (o, ad, A, B) := by
    intro hg
    rw [q_when, if_pos hg, hw.span]
    simp only [Bool.and_eq_true] at hg
    obtain ⟨cn, hc, rfl⟩ := hw.cOf hg.1
    rw [nI_clamp (by omega)]
    refine bX4_when_18.go rfl trivial ?_
    refine rc_V ok_plain gX4_plain dX4_when_19 rfl hpre (fun r A1 B1 q => ?_)
    obtain ⟨rfl, hk, hq⟩ := q
    have hC := hq v hw
    have e61 : A1 1 6 = nI (v 6) := by rw [hk.1]; exact e6
    refine bX4_when_22.go rfl trivial ?_
    refine loop_down (N := v 6 + 1) (I := fun t => firstF (fun t => decide (showsP (A 1) cn t = h)) (v 6 + 1) 0 = firstF (fun t => decide (showsP (A 1) cn t = h)) (v 6 + 1 - t) t) (P := fun t => JS TP X mX4_when (rmOf mX4_when.lv 0 0) _ 0 0 24 [some (.ref o), some (.int (nI cn)), some (.int h), some (.int (nI t))] [] (o, ad, A1, B1)) ?_ ?_ 0 (by omega) rfl
    · intro hI
      refine bX4_when_24.go rfl ⟨rfl, ⟨rfl, vp_in_nI (by decide) (by decide)⟩, trivial⟩ ?_
      refine j_icmp_gt (tgt := 53) dX4_when_32 (by decide) (fun h32 => ?_) (fun h32 => ?_)
      · refine bX4_when_53.go rfl trivial ?_
        exact r_iret dX4_when_54 rfl ⟨ans (by rw [hI, Nat.sub_self]; rfl), hk⟩
      · simp (disch := omega) only [nI_clamp, e61, nI_ltI] at h32; omega
    · intro t ht hI ih
      obtain ⟨n', hn'⟩ : ∃ n', v 6 + 1 - t = n' + 1 := ⟨v 6 - t, by omega⟩
      refine bX4_when_24.go rfl ⟨rfl, ⟨rfl, vp_in_nI (by decide) (by decide)⟩, trivial⟩ ?_
      refine j_icmp_gt (tgt := 53) dX4_when_32 (by decide) (fun h32 => ?_) (fun h32 => ?_)
      · simp (disch := omega) only [nI_clamp, e61, nI_ltI] at h32; omega
      · refine bX4_when_35.go rfl (by simp (disch := omega) only [vpI, nI_clamp, hk.1]; exact ⟨⟨trivial, by omega, by omega, hw.clock hc⟩, trivial⟩) ?_
        simp (disch := omega) only [nI_clamp]
        have eM : shI (A1 18 (4 * t + cn)) (A1 1 (32 + 6 * cn + 3)) (A1 1 (32 + 6 * cn + 4)) = showsP (A 1) cn t := hC.shE hk.1 (by omega) hc
        rw [eM]
        refine j_icmp_ne (tgt := 47) dX4_when_42 (by decide) (fun h42 => ?_) (fun h42 => ?_)
        · refine bX4_when_47.go rfl trivial ?_
          rw [nI_1]
          refine ih ?_
          rw [hI, hn', firstF, if_neg (by rw [decide_eq_true_eq]; exact h42), show v 6 + 1 - (t + 1) = n' by omega]
        · refine bX4_when_45.go rfl trivial ?_
          exact r_iret dX4_when_46 rfl ⟨ans (by rw [hI, hn', firstF, if_pos (by rw [decide_eq_true_eq]; exact h42)]), hk⟩
  refine R_start (L := [some (.ref o), some (.int c), some (.int h), none]) 1 rfl ?_
  refine bX4_when_0.go rfl (by first | exact ⟨⟨rfl, trivial⟩, trivial⟩ | exact ⟨trivial, trivial⟩) ?_
  refine j_if_eq (tgt := 15) dX4_when_5 (by decide) (fun h5 => ?_) (fun h5 => ?_)
  · refine bX4_when_15.go rfl trivial ?_
    refine r_iret dX4_when_17 rfl ?_
    exact ⟨ans (by clear main; simp only [b2_0, b2_n0] at *; simp_all [q_when, cB, hB]), Keeps2.rf⟩
  · refine bX4_when_8.go rfl (by first | exact ⟨⟨rfl, trivial⟩, trivial⟩ | exact ⟨trivial, trivial⟩) ?_
    refine j_if_ne (tgt := 18) dX4_when_12 (by decide) (fun h12 => ?_) (fun h12 => ?_)
    · exact main (by clear main; simp only [b2_0, b2_n0] at *; simp_all [cB, hB])
    · refine bX4_when_15.go rfl trivial ?_
      refine r_iret dX4_when_17 rfl ?_
      exact ⟨ans (by clear main; simp only [b2_0, b2_n0] at *; simp_all [q_when, cB, hB]), Keeps2.rf⟩
