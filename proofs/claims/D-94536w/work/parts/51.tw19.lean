set_option maxRecDepth 100000
/-! ===== UnseenClockModel: still, hours ===== -/
def lookedP (w : Nat → Int32) (c t : Nat) : Bool := lkdB (cfP w) t (rsP w t) c
theorem CrsA.lkE {A' : Nat → Nat → Int32} {v : Nat → Nat} {w : Nat → Int32} {m t c : Nat} (hw : WOk w v) (h : CrsA A' v (cfP w) (rsP w) m) (ht : t < m) : bitI (orP (fun p => A' 19 (8 * t + p)) (v 2)) c = lookedP w c t := by
  have h8 : v 2 ≤ 8 := hw.2.2.2.1
  have e : nP (cfP w).1 = v 2 := hw.npE
  simp only [lookedP, lkdB, e]
  rw [orP_congr (fun p hp => by rw [(h.2.2.2.2.1 t ht p (by omega)).1, if_pos hp])]
/-- how often, run, longest run, first minute without -/
abbrev ST4 : Type := Int32 × Int32 × Int32 × Int32
def stS (w : Nat → Int32) (c : Nat) : Nat → ST4
  | 0 => (nI 0, nI 0, nI 0, -1)
  | t + 1 => ((stS w c t).1 + b2 (lookedP w c t), if lookedP w c t = true then (stS w c t).2.1 + nI 1 else nI 0, maxI (stS w c t).2.2.1 (if lookedP w c t = true then (stS w c t).2.1 + nI 1 else nI 0), if lookedP w c t = false ∧ (stS w c t).2.2.2 = -1 then nI t else (stS w c t).2.2.2)
def q_still (w : Nat → Int32) (c what : Int32) : Int32 := if (cB w c && inL what (lN 0) 2) = true then (if what = 0 then (stS w c.toNatClampNeg (spanW w)).1 else if what = nI 1 then (stS w c.toNatClampNeg (spanW w)).2.2.1 else (stS w c.toNatClampNeg (spanW w)).2.2.2) else -2
theorem bX4_still_0 : Blk TP mX4_still 0 5 [oAL 0, oIL 1, tC_I F_isClock] := blk_c (s_aload_n dX4_still_0 rfl) <| blk_c (s_iload_n dX4_still_1 rfl) <| blk_c (tc_I ok_isClock gX4_isClock (by decide +kernel) (by decide) dX4_still_2) <| blk_nil
theorem bX4_still_8 : Blk TP mX4_still 8 17 [oIL 2, oI2L, oCL (lN 0), oCL (2), tS_JJJ F_in] := blk_c (s_iload_n dX4_still_8 rfl) <| blk_c (s_i2l dX4_still_9) <| blk_c (s_lconst dX4_still_10 (by decide +kernel)) <| blk_c (s_ldc2 dX4_still_11 q1766) <| blk_c (ts_JJJ ok_in gX4_in (by decide +kernel) (by decide) dX4_still_14) <| blk_nil
theorem bX4_still_20 : Blk TP mX4_still 20 22 [oC (-2)] := blk_c (s_bipush dX4_still_20 (by decide +kernel)) <| blk_nil
theorem bX4_still_23 : Blk TP mX4_still 23 24 [oAL 0] := blk_c (s_aload_n dX4_still_23 rfl) <| blk_nil
theorem bX4_still_27 : Blk TP mX4_still 27 41 [oC (nI 0), oIS 3, oC (nI 0), oIS 4, oC (nI 0), oIS 5, oC (-1), oIS 6, oC (nI 0), oIS 7] := blk_c (s_iconst dX4_still_27 (by decide +kernel)) <| blk_c (s_istore_n dX4_still_28 rfl (by decide)) <| blk_c (s_iconst dX4_still_29 (by decide +kernel)) <| blk_c (s_istore dX4_still_30 (by decide)) <| blk_c (s_iconst dX4_still_32 (by decide +kernel)) <| blk_c (s_istore dX4_still_33 (by decide)) <| blk_c (s_iconst dX4_still_35 (by decide +kernel)) <| blk_c (s_istore dX4_still_36 (by decide)) <| blk_c (s_iconst dX4_still_38 (by decide +kernel)) <| blk_c (s_istore dX4_still_39 (by decide)) <| blk_nil
theorem bX4_still_41 : Blk TP mX4_still 41 50 [oIL 7, oAL 0, tR 1, oC (nI 6), tAI 1 320] := blk_c (s_iload dX4_still_41) <| blk_c (s_aload_n dX4_still_43 rfl) <| blk_c (tgX4_1 rfl dX4_still_44) <| blk_c (s_bipush dX4_still_47 (by decide +kernel)) <| blk_c (t_iald rfl dX4_still_49) <| blk_nil
theorem bX4_still_53 : Blk TP mX4_still 53 65 [oAL 0, oIL 1, oIL 7, tC_II F_isLooked, oIS 8, oIL 3, oIL 8] := blk_c (s_aload_n dX4_still_53 rfl) <| blk_c (s_iload_n dX4_still_54 rfl) <| blk_c (s_iload dX4_still_55) <| blk_c (tc_II ok_isLooked gX4_isLooked (by decide +kernel) (by decide) dX4_still_57) <| blk_c (s_istore dX4_still_60 (by decide)) <| blk_c (s_iload_n dX4_still_62 rfl) <| blk_c (s_iload dX4_still_63) <| blk_nil
theorem bX4_still_68 : Blk TP mX4_still 68 73 [oC (nI 1), .inl (fun s => some s)] := blk_c (s_iconst dX4_still_68 (by decide +kernel)) <| blk_c (s_goto (tgt := 73) dX4_still_69 (by decide)) <| blk_nil
theorem bX4_still_72 : Blk TP mX4_still 72 73 [oC (nI 0)] := blk_c (s_iconst dX4_still_72 (by decide +kernel)) <| blk_nil
theorem bX4_still_73 : Blk TP mX4_still 73 77 [oAdd, oIS 3, oIL 8] := blk_c (s_iadd dX4_still_73) <| blk_c (s_istore_n dX4_still_74 rfl (by decide)) <| blk_c (s_iload dX4_still_75) <| blk_nil
theorem bX4_still_80 : Blk TP mX4_still 80 88 [oIL 4, oC (nI 1), oAdd, .inl (fun s => some s)] := blk_c (s_iload dX4_still_80) <| blk_c (s_iconst dX4_still_82 (by decide +kernel)) <| blk_c (s_iadd dX4_still_83) <| blk_c (s_goto (tgt := 88) dX4_still_84 (by decide)) <| blk_nil
theorem bX4_still_87 : Blk TP mX4_still 87 88 [oC (nI 0)] := blk_c (s_iconst dX4_still_87 (by decide +kernel)) <| blk_nil
theorem bX4_still_88 : Blk TP mX4_still 88 101 [oIS 4, oIL 5, oIL 4, tS_II F_Mmax, oIS 5, oIL 8] := blk_c (s_istore dX4_still_88 (by decide)) <| blk_c (s_iload dX4_still_90) <| blk_c (s_iload dX4_still_92) <| blk_c (ts_II ok_Mmax gJ3_max_X4 (by decide +kernel) (by decide) dX4_still_94) <| blk_c (s_istore dX4_still_97 (by decide)) <| blk_c (s_iload dX4_still_99) <| blk_nil
theorem bX4_still_104 : Blk TP mX4_still 104 107 [oIL 6, oC (-1)] := blk_c (s_iload dX4_still_104) <| blk_c (s_iconst dX4_still_106 (by decide +kernel)) <| blk_nil
theorem bX4_still_110 : Blk TP mX4_still 110 117 [oIL 7, .inl (fun s => some s)] := blk_c (s_iload dX4_still_110) <| blk_c (s_goto (tgt := 117) dX4_still_112 (by decide)) <| blk_nil
theorem bX4_still_115 : Blk TP mX4_still 115 117 [oIL 6] := blk_c (s_iload dX4_still_115) <| blk_nil
theorem bX4_still_117 : Blk TP mX4_still 117 41 [oIS 6, oInc 7 1, .inl (fun s => some s)] := blk_c (s_istore dX4_still_117 (by decide)) <| blk_c (s_iinc dX4_still_119 (by decide +kernel) (by decide)) <| blk_c (s_goto (tgt := 41) dX4_still_122 (by decide)) <| blk_nil
theorem bX4_still_125 : Blk TP mX4_still 125 126 [oIL 2] := blk_c (s_iload_n dX4_still_125 rfl) <| blk_nil
theorem bX4_still_129 : Blk TP mX4_still 129 145 [oIL 3, .inl (fun s => some s)] := blk_c (s_iload_n dX4_still_129 rfl) <| blk_c (s_goto (tgt := 145) dX4_still_130 (by decide)) <| blk_nil
theorem bX4_still_133 : Blk TP mX4_still 133 135 [oIL 2, oC (nI 1)] := blk_c (s_iload_n dX4_still_133 rfl) <| blk_c (s_iconst dX4_still_134 (by decide +kernel)) <| blk_nil
theorem bX4_still_138 : Blk TP mX4_still 138 145 [oIL 5, .inl (fun s => some s)] := blk_c (s_iload dX4_still_138) <| blk_c (s_goto (tgt := 145) dX4_still_140 (by decide)) <| blk_nil
theorem bX4_still_143 : Blk TP mX4_still 143 145 [oIL 6] := blk_c (s_iload dX4_still_143) <| blk_nil
theorem ok_still : RC_II mX4_still (fun _ _ A B => Pre_runs A B) (fun c what A B => Qq (q_still (A 1) c what) A B) := by
  intro X c what o ad A B hpre
  obtain ⟨v, hw⟩ := id hpre
  have h6 : v 6 ≤ 40 := hw.2.2.2.2.2.2.2.1
  have h4 : v 1 ≤ 4 := hw.2.2.1
  have h8 : v 2 ≤ 8 := hw.2.2.2.1
  have e2 : A 1 2 = nI (v 2) := hw.1 2 (by decide)
  have e6 : A 1 6 = nI (v 6) := hw.1 6 (by decide)
  have main : (cB (A 1) c && inL what (lN 0) 2) = true → JS TP X mX4_still (rmOf mX4_still.lv 0 0) (ZR X o ad (Qq (q_still (A 1) c what) A B)) 0 0 23 [some (.ref o), some (.int c), some (.int what), none, none, none, none, none, none] [] (o, ad, A, B) := by
    intro hg
    rw [q_still, if_pos hg, hw.span]
    simp only [Bool.and_eq_true] at hg
    obtain ⟨cn, hc, rfl⟩ := hw.cOf hg.1
    rw [nI_clamp (by omega)]
    refine bX4_still_23.go rfl trivial ?_
    refine rc_V ok_plain gX4_plain dX4_still_24 rfl hpre (fun r A1 B1 q => ?_)
    obtain ⟨rfl, hk, hq⟩ := q
    have hC := hq v hw
    have e61 : A1 1 6 = nI (v 6) := by rw [hk.1]; exact e6
    have e21 : A1 1 2 = nI (v 2) := by rw [hk.1]; exact e2
    refine bX4_still_27.go rfl trivial ?_
    refine loop_down (N := v 6) (I := fun _ => True) (P := fun t => JS TP X mX4_still (rmOf mX4_still.lv 0 0) _ 0 0 41 [some (.ref o), some (.int (nI cn)), some (.int what), some (.int (stS (A 1) cn t).1), some (.int (stS (A 1) cn t).2.1), some (.int (stS (A 1) cn t).2.2.1), some (.int (stS (A 1) cn t).2.2.2), some (.int (nI t)), none] [] (o, ad, A1, B1)) ?_ ?_ 0 (by omega) trivial
    · intro _
      refine bX4_still_41.go rfl ⟨rfl, ⟨rfl, vp_in_nI (by decide) (by decide)⟩, trivial⟩ ?_
      refine j_icmp_ge (tgt := 125) dX4_still_50 (by decide) (fun h50 => ?_) (fun h50 => ?_)
      · refine bX4_still_125.go rfl trivial ?_
        refine j_if_ne (tgt := 133) dX4_still_126 (by decide) (fun h126 => ?_) (fun h126 => ?_)
        · refine bX4_still_133.go rfl trivial ?_
          refine j_icmp_ne (tgt := 143) dX4_still_135 (by decide) (fun h135 => ?_) (fun h135 => ?_)
          · refine bX4_still_143.go rfl trivial ?_
            exact r_iret dX4_still_145 rfl ⟨ans (by rw [if_neg h126, if_neg h135]), hk⟩
          · refine bX4_still_138.go rfl trivial ?_
            exact r_iret dX4_still_145 rfl ⟨ans (by rw [if_neg h126, if_pos h135]), hk⟩
        · refine bX4_still_129.go rfl trivial ?_
          exact r_iret dX4_still_145 rfl ⟨ans (by rw [if_pos h126]), hk⟩
      · simp (disch := omega) only [nI_clamp, e61, nI_leI] at h50; omega
    · intro t ht _ ih
      have nx : ∀ f, f = (stS (A 1) cn (t + 1)).2.2.2 → JS TP X mX4_still (rmOf mX4_still.lv 0 0) (ZR X o ad (Qq (if what = 0 then (stS (A 1) cn (v 6)).1 else if what = nI 1 then (stS (A 1) cn (v 6)).2.2.1 else (stS (A 1) cn (v 6)).2.2.2) A B)) 0 0 117 [some (.ref o), some (.int (nI cn)), some (.int what), some (.int (stS (A 1) cn (t + 1)).1), some (.int (stS (A 1) cn (t + 1)).2.1), some (.int (stS (A 1) cn (t + 1)).2.2.1), some (.int (stS (A 1) cn t).2.2.2), some (.int (nI t)), some (.int (b2 (lookedP (A 1) cn t)))] [.int f] (o, ad, A1, B1) := by
        intro f hf
        subst hf
        refine bX4_still_117.go rfl trivial ?_
        rw [nI_1]
        exact JS.weak (by simp [lsub]) (ih trivial)
      have j88 : ∀ z, z = (if lookedP (A 1) cn t = true then (stS (A 1) cn t).2.1 + nI 1 else nI 0) → JS TP X mX4_still (rmOf mX4_still.lv 0 0) (ZR X o ad (Qq (if what = 0 then (stS (A 1) cn (v 6)).1 else if what = nI 1 then (stS (A 1) cn (v 6)).2.2.1 else (stS (A 1) cn (v 6)).2.2.2) A B)) 0 0 88 [some (.ref o), some (.int (nI cn)), some (.int what), some (.int (stS (A 1) cn (t + 1)).1), some (.int (stS (A 1) cn t).2.1), some (.int (stS (A 1) cn t).2.2.1), some (.int (stS (A 1) cn t).2.2.2), some (.int (nI t)), some (.int (b2 (lookedP (A 1) cn t)))] [.int z] (o, ad, A1, B1) := by
        intro z hz
        refine bX4_still_88.go rfl ⟨trivial, trivial⟩ ?_
        subst hz
        refine j_if_ne (tgt := 115) dX4_still_101 (by decide) (fun h101 => ?_) (fun h101 => ?_)
        · rw [b2_n0] at h101
          refine bX4_still_115.go rfl trivial ?_
          exact nx _ (by simp only [stS]; rw [if_neg (by rw [h101]; simp)])
        · rw [b2_0] at h101
          refine bX4_still_104.go rfl trivial ?_
          refine j_icmp_ne (tgt := 115) dX4_still_107 (by decide) (fun h107 => ?_) (fun h107 => ?_)
          · refine bX4_still_115.go rfl trivial ?_
            exact nx _ (by simp only [stS]; rw [if_neg (fun q => h107 q.2)])
          · refine bX4_still_110.go rfl trivial ?_
            exact nx _ (by simp only [stS]; rw [if_pos ⟨h101, h107⟩])
      have j73 : ∀ z, z = b2 (lookedP (A 1) cn t) → JS TP X mX4_still (rmOf mX4_still.lv 0 0) (ZR X o ad (Qq (if what = 0 then (stS (A 1) cn (v 6)).1 else if what = nI 1 then (stS (A 1) cn (v 6)).2.2.1 else (stS (A 1) cn (v 6)).2.2.2) A B)) 0 0 73 [some (.ref o), some (.int (nI cn)), some (.int what), some (.int (stS (A 1) cn t).1), some (.int (stS (A 1) cn t).2.1), some (.int (stS (A 1) cn t).2.2.1), some (.int (stS (A 1) cn t).2.2.2), some (.int (nI t)), some (.int (b2 (lookedP (A 1) cn t)))] [.int z, .int (stS (A 1) cn t).1] (o, ad, A1, B1) := by
        intro z hz
        subst hz
        refine bX4_still_73.go rfl trivial ?_
        refine j_if_eq (tgt := 87) dX4_still_77 (by decide) (fun h77 => ?_) (fun h77 => ?_)
        · rw [b2_0] at h77
          refine bX4_still_87.go rfl trivial ?_
          exact j88 _ (by rw [if_neg (by rw [h77]; decide)])
        · rw [b2_n0] at h77
          refine bX4_still_80.go rfl trivial ?_
          exact j88 _ (by rw [if_pos h77])
      refine bX4_still_41.go rfl ⟨rfl, ⟨rfl, vp_in_nI (by decide) (by decide)⟩, trivial⟩ ?_
      refine j_icmp_ge (tgt := 125) dX4_still_50 (by decide) (fun h50 => ?_) (fun h50 => ?_)
      · simp (disch := omega) only [nI_clamp, e61, nI_leI] at h50; omega
      · refine bX4_still_53.go rfl (by exact ⟨⟨rfl, v, cn, t, by rw [hk.1]; exact hw, by omega, by omega, rfl, rfl⟩, trivial⟩) ?_
        simp (disch := omega) only [nI_clamp, e21, hC.lkE hw ht]
        refine j_if_eq (tgt := 72) dX4_still_65 (by decide) (fun h65 => ?_) (fun h65 => ?_)
        · rw [b2_0] at h65
          refine bX4_still_72.go rfl trivial ?_
          exact j73 _ (b2_f h65)
        · rw [b2_n0] at h65
          refine bX4_still_68.go rfl trivial ?_
          exact j73 _ (b2_t h65)
  refine R_start (L := [some (.ref o), some (.int c), some (.int what), none, none, none, none, none, none]) 6 rfl ?_
  refine bX4_still_0.go rfl (by first | exact ⟨⟨rfl, trivial⟩, trivial⟩ | exact ⟨trivial, trivial⟩) ?_
  refine j_if_eq (tgt := 20) dX4_still_5 (by decide) (fun h5 => ?_) (fun h5 => ?_)
  · refine bX4_still_20.go rfl trivial ?_
    refine r_iret dX4_still_22 rfl ?_
    exact ⟨ans (by clear main; simp only [b2_0, b2_n0, inL_def] at *; simp_all [q_still, cB]), Keeps2.rf⟩
  · refine bX4_still_8.go rfl (by first | exact ⟨⟨rfl, trivial⟩, trivial⟩ | exact ⟨trivial, trivial⟩) ?_
    refine j_if_ne (tgt := 23) dX4_still_17 (by decide) (fun h17 => ?_) (fun h17 => ?_)
    · exact main (by clear main; simp only [b2_0, b2_n0, inL_def] at *; simp_all [cB])
    · refine bX4_still_20.go rfl trivial ?_
      refine r_iret dX4_still_22 rfl ?_
      exact ⟨ans (by clear main; simp only [b2_0, b2_n0, inL_def] at *; simp_all [q_still, cB]), Keeps2.rf⟩
/-- a minute whose hour wasn't shown before -/
def newHr (w : Nat → Int32) (c m : Nat) : Bool := !anyN (fun b => decide (showsP w c b = showsP w c m)) m
def q_hours (w : Nat → Int32) (c : Int32) : Int32 := if cB w c = true then sumI (fun m => b2 (newHr w c.toNatClampNeg m)) (spanW w + 1) else -2
theorem bX4_hours_0 : Blk TP mX4_hours 0 5 [oAL 0, oIL 1, tC_I F_isClock] := blk_c (s_aload_n dX4_hours_0 rfl) <| blk_c (s_iload_n dX4_hours_1 rfl) <| blk_c (tc_I ok_isClock gX4_isClock (by decide +kernel) (by decide) dX4_hours_2) <| blk_nil
theorem bX4_hours_8 : Blk TP mX4_hours 8 10 [oC (-2)] := blk_c (s_bipush dX4_hours_8 (by decide +kernel)) <| blk_nil
theorem bX4_hours_11 : Blk TP mX4_hours 11 12 [oAL 0] := blk_c (s_aload_n dX4_hours_11 rfl) <| blk_nil
theorem bX4_hours_15 : Blk TP mX4_hours 15 19 [oC (nI 0), oIS 2, oC (nI 0), oIS 3] := blk_c (s_iconst dX4_hours_15 (by decide +kernel)) <| blk_c (s_istore_n dX4_hours_16 rfl (by decide)) <| blk_c (s_iconst dX4_hours_17 (by decide +kernel)) <| blk_c (s_istore_n dX4_hours_18 rfl (by decide)) <| blk_nil
theorem bX4_hours_19 : Blk TP mX4_hours 19 27 [oIL 3, oAL 0, tR 1, oC (nI 6), tAI 1 320] := blk_c (s_iload_n dX4_hours_19 rfl) <| blk_c (s_aload_n dX4_hours_20 rfl) <| blk_c (tgX4_1 rfl dX4_hours_21) <| blk_c (s_bipush dX4_hours_24 (by decide +kernel)) <| blk_c (t_iald rfl dX4_hours_26) <| blk_nil
theorem bX4_hours_30 : Blk TP mX4_hours 30 36 [oC (nI 1), oIS 4, oC (nI 0), oIS 5] := blk_c (s_iconst dX4_hours_30 (by decide +kernel)) <| blk_c (s_istore dX4_hours_31 (by decide)) <| blk_c (s_iconst dX4_hours_33 (by decide +kernel)) <| blk_c (s_istore dX4_hours_34 (by decide)) <| blk_nil
theorem bX4_hours_36 : Blk TP mX4_hours 36 39 [oIL 5, oIL 3] := blk_c (s_iload dX4_hours_36) <| blk_c (s_iload_n dX4_hours_38 rfl) <| blk_nil
theorem bX4_hours_42 : Blk TP mX4_hours 42 44 [oIL 4] := blk_c (s_iload dX4_hours_42) <| blk_nil
theorem bX4_hours_47 : Blk TP mX4_hours 47 60 [oAL 0, oIL 1, oIL 5, tC_II F_shownAt, oAL 0, oIL 1, oIL 3, tC_II F_shownAt] := blk_c (s_aload_n dX4_hours_47 rfl) <| blk_c (s_iload_n dX4_hours_48 rfl) <| blk_c (s_iload dX4_hours_49) <| blk_c (tc_II ok_shownAt gX4_shownAt (by decide +kernel) (by decide) dX4_hours_51) <| blk_c (s_aload_n dX4_hours_54 rfl) <| blk_c (s_iload_n dX4_hours_55 rfl) <| blk_c (s_iload_n dX4_hours_56 rfl) <| blk_c (tc_II ok_shownAt gX4_shownAt (by decide +kernel) (by decide) dX4_hours_57) <| blk_nil
theorem bX4_hours_63 : Blk TP mX4_hours 63 68 [oC (nI 1), .inl (fun s => some s)] := blk_c (s_iconst dX4_hours_63 (by decide +kernel)) <| blk_c (s_goto (tgt := 68) dX4_hours_64 (by decide)) <| blk_nil
theorem bX4_hours_67 : Blk TP mX4_hours 67 68 [oC (nI 0)] := blk_c (s_iconst dX4_hours_67 (by decide +kernel)) <| blk_nil
theorem bX4_hours_68 : Blk TP mX4_hours 68 36 [oIS 4, oInc 5 1, .inl (fun s => some s)] := blk_c (s_istore dX4_hours_68 (by decide)) <| blk_c (s_iinc dX4_hours_70 (by decide +kernel) (by decide)) <| blk_c (s_goto (tgt := 36) dX4_hours_73 (by decide)) <| blk_nil
theorem bX4_hours_76 : Blk TP mX4_hours 76 79 [oIL 2, oIL 4] := blk_c (s_iload_n dX4_hours_76 rfl) <| blk_c (s_iload dX4_hours_77) <| blk_nil
theorem bX4_hours_82 : Blk TP mX4_hours 82 87 [oC (nI 1), .inl (fun s => some s)] := blk_c (s_iconst dX4_hours_82 (by decide +kernel)) <| blk_c (s_goto (tgt := 87) dX4_hours_83 (by decide)) <| blk_nil
theorem bX4_hours_86 : Blk TP mX4_hours 86 87 [oC (nI 0)] := blk_c (s_iconst dX4_hours_86 (by decide +kernel)) <| blk_nil
theorem bX4_hours_87 : Blk TP mX4_hours 87 19 [oAdd, oIS 2, oInc 3 1, .inl (fun s => some s)] := blk_c (s_iadd dX4_hours_87) <| blk_c (s_istore_n dX4_hours_88 rfl (by decide)) <| blk_c (s_iinc dX4_hours_89 (by decide +kernel) (by decide)) <| blk_c (s_goto (tgt := 19) dX4_hours_92 (by decide)) <| blk_nil
theorem bX4_hours_95 : Blk TP mX4_hours 95 96 [oIL 2] := blk_c (s_iload_n dX4_hours_95 rfl) <| blk_nil
theorem ok_hours : RC_I mX4_hours (fun _ A B => Pre_runs A B) (fun c A B => Qq (q_hours (A 1) c) A B) := by
  intro X c o ad A B hpre
  obtain ⟨v, hw⟩ := id hpre
  have h6 : v 6 ≤ 40 := hw.2.2.2.2.2.2.2.1
  have h4 : v 1 ≤ 4 := hw.2.2.1
  have e6 : A 1 6 = nI (v 6) := hw.1 6 (by decide)
  have main : cB (A 1) c = true → JS TP X mX4_hours (rmOf mX4_hours.lv 0 0) (ZR X o ad (Qq (q_hours (A 1) c) A B)) 0 0 11 [some (.ref o), some (.int c), none, none, none, none] [] (o, ad, A, B) := by
    intro hg
    rw [q_hours, if_pos hg, hw.span]
    obtain ⟨cn, hc, rfl⟩ := hw.cOf hg
    rw [nI_clamp (by omega)]
    refine bX4_hours_11.go rfl trivial ?_
    refine rc_V ok_plain gX4_plain dX4_hours_12 rfl hpre (fun r A1 B1 q => ?_)
    obtain ⟨rfl, hk, hq⟩ := q
    have hC := hq v hw
    have e61 : A1 1 6 = nI (v 6) := by rw [hk.1]; exact e6
    have eM : ∀ t, t ≤ v 6 → shI (A1 18 (4 * t + cn)) (A1 1 (32 + 6 * cn + 3)) (A1 1 (32 + 6 * cn + 4)) = showsP (A 1) cn t := fun t ht => hC.shE hk.1 ht hc
    have hcl : ¬ A1 1 (32 + 6 * cn + 3) = 0 ∧ ¬ A1 1 (32 + 6 * cn + 4) = 0 := by rw [hk.1]; exact hw.clock hc
    refine bX4_hours_15.go rfl trivial ?_
    refine loop_down (N := v 6 + 1) (I := fun _ => True) (P := fun t => JS TP X mX4_hours (rmOf mX4_hours.lv 0 0) _ 0 0 19 [some (.ref o), some (.int (nI cn)), some (.int (sumI (fun m => b2 (newHr (A 1) cn m)) t)), some (.int (nI t)), none, none] [] (o, ad, A1, B1)) ?_ ?_ 0 (by omega) trivial
    · intro _
      refine bX4_hours_19.go rfl ⟨rfl, ⟨rfl, vp_in_nI (by decide) (by decide)⟩, trivial⟩ ?_
      refine j_icmp_gt (tgt := 95) dX4_hours_27 (by decide) (fun h27 => ?_) (fun h27 => ?_)
      · refine bX4_hours_95.go rfl trivial ?_
        exact r_iret dX4_hours_96 rfl ⟨rfl, hk⟩
      · simp (disch := omega) only [nI_clamp, e61, nI_ltI] at h27; omega
    · intro t ht _ ih
      have j76 : ∀ z, z = b2 (newHr (A 1) cn t) → JS TP X mX4_hours (rmOf mX4_hours.lv 0 0) (ZR X o ad (Qq (sumI (fun m => b2 (newHr (A 1) cn m)) (v 6 + 1)) A B)) 0 0 76 [some (.ref o), some (.int (nI cn)), some (.int (sumI (fun m => b2 (newHr (A 1) cn m)) t)), some (.int (nI t)), some (.int z), none] [] (o, ad, A1, B1) := by
        intro z hz
        subst hz
        have j87 : ∀ z, z = b2 (newHr (A 1) cn t) → JS TP X mX4_hours (rmOf mX4_hours.lv 0 0) (ZR X o ad (Qq (sumI (fun m => b2 (newHr (A 1) cn m)) (v 6 + 1)) A B)) 0 0 87 [some (.ref o), some (.int (nI cn)), some (.int (sumI (fun m => b2 (newHr (A 1) cn m)) t)), some (.int (nI t)), some (.int (b2 (newHr (A 1) cn t))), none] [.int z, .int (sumI (fun m => b2 (newHr (A 1) cn m)) t)] (o, ad, A1, B1) := by
          intro z hz
          subst hz
          refine bX4_hours_87.go rfl trivial ?_
          rw [nI_1]
          exact JS.weak (by simp [lsub]; rfl) (ih trivial)
        refine bX4_hours_76.go rfl trivial ?_
        refine j_if_eq (tgt := 86) dX4_hours_79 (by decide) (fun h79 => ?_) (fun h79 => ?_)
        · rw [b2_0] at h79
          refine bX4_hours_86.go rfl trivial ?_
          exact j87 _ (b2_f h79)
        · rw [b2_n0] at h79
          refine bX4_hours_82.go rfl trivial ?_
          exact j87 _ (b2_t h79)
      refine bX4_hours_19.go rfl ⟨rfl, ⟨rfl, vp_in_nI (by decide) (by decide)⟩, trivial⟩ ?_
      refine j_icmp_gt (tgt := 95) dX4_hours_27 (by decide) (fun h27 => ?_) (fun h27 => ?_)
      · simp (disch := omega) only [nI_clamp, e61, nI_ltI] at h27; omega
      · refine bX4_hours_30.go rfl trivial ?_
        refine loop_down (N := t) (I := fun b => ∀ k, k < b → decide (showsP (A 1) cn k = showsP (A 1) cn t) = false) (P := fun b => JS TP X mX4_hours (rmOf mX4_hours.lv 0 0) _ 0 0 36 [some (.ref o), some (.int (nI cn)), some (.int (sumI (fun m => b2 (newHr (A 1) cn m)) t)), some (.int (nI t)), some (.int (nI 1)), some (.int (nI b))] [] (o, ad, A1, B1)) ?_ ?_ 0 (by omega) (by intro k hk; omega)
        · intro hI
          refine bX4_hours_36.go rfl trivial ?_
          refine j_icmp_ge (tgt := 76) dX4_hours_39 (by decide) (fun h39 => ?_) (fun h39 => ?_)
          · exact JS.weak (by simp [lsub]) (j76 _ (b2_t (by simp only [newHr, anyN_false.mpr hI]; rfl)))
          · rw [nI_leI (by omega) (by omega)] at h39; omega
        · intro b hb hI ih2
          refine bX4_hours_36.go rfl trivial ?_
          refine j_icmp_ge (tgt := 76) dX4_hours_39 (by decide) (fun h39 => ?_) (fun h39 => ?_)
          · rw [nI_leI (by omega) (by omega)] at h39; omega
          · refine bX4_hours_42.go rfl trivial ?_
            refine j_if_eq (tgt := 76) dX4_hours_44 (by decide) (fun h44 => absurd h44 (by decide +kernel)) (fun h44 => ?_)
            refine bX4_hours_47.go rfl (by simp (disch := omega) only [vpI, nI_clamp]; exact ⟨⟨trivial, by omega, by omega, hcl⟩, ⟨trivial, by omega, by omega, hcl⟩, trivial⟩) ?_
            simp (disch := omega) only [nI_clamp]
            rw [eM t (by omega), eM b (by omega)]
            refine j_icmp_eq (tgt := 67) dX4_hours_60 (by decide) (fun h60 => ?_) (fun h60 => ?_)
            · refine bX4_hours_67.go rfl trivial ?_
              refine bX4_hours_68.go rfl trivial ?_
              rw [nI_1]
              refine bX4_hours_36.go rfl trivial ?_
              have hN : newHr (A 1) cn t = false := by
                have h : anyN (fun b => decide (showsP (A 1) cn b = showsP (A 1) cn t)) t = true := anyN_true.mpr ⟨b, hb, decide_eq_true h60⟩
                simp only [newHr, h]; rfl
              refine j_icmp_ge (tgt := 76) dX4_hours_39 (by decide) (fun h39 => ?_) (fun h39 => ?_)
              · exact JS.weak (by simp [lsub]) (j76 _ (b2_f hN))
              · refine bX4_hours_42.go rfl trivial ?_
                refine j_if_eq (tgt := 76) dX4_hours_44 (by decide) (fun h44 => ?_) (fun h44 => absurd (by decide +kernel) h44)
                exact JS.weak (by simp [lsub]) (j76 _ (b2_f hN))
            · refine bX4_hours_63.go rfl trivial ?_
              refine bX4_hours_68.go rfl trivial ?_
              rw [nI_1]
              exact ih2 (fun k hk => by rcases Nat.lt_succ_iff_lt_or_eq.mp hk with h | h; exact hI k h; rw [h]; exact decide_eq_false h60)
  refine R_start (L := [some (.ref o), some (.int c), none, none, none, none]) 4 rfl ?_
  refine bX4_hours_0.go rfl (by exact ⟨⟨rfl, trivial⟩, trivial⟩) ?_
  refine j_if_ne (tgt := 11) dX4_hours_5 (by decide) (fun h5 => ?_) (fun h5 => ?_)
  · exact main (by clear main; simp only [b2_0, b2_n0] at *; simp_all [cB])
  · refine bX4_hours_8.go rfl trivial ?_
    refine r_iret dX4_hours_10 rfl ?_
    exact ⟨ans (by clear main; simp only [b2_0, b2_n0] at *; simp_all [q_hours, cB]), Keeps2.rf⟩
