set_option maxRecDepth 100000
/-! ===== UnseenClockModel: mends, pace ===== -/
/-- the world row with another pace of a clock -/
def pcW (w : Nat → Int32) (c : Nat) (x : Int32) : Nat → Int32 := va_up w (32 + 6 * c + 2) x
theorem WOk.pc {w : Nat → Int32} {v : Nat → Nat} (h : WOk w v) {c x : Nat} (hc : c < v 1) (hx : x ≤ 60) : WOk (pcW w c (nI x)) (va_up v (32 + 6 * c + 2) x) := by
  obtain ⟨h1, h2⟩ := h
  refine ⟨fun k hk => ?_, ?_⟩
  · by_cases e : k = 32 + 6 * c + 2
    · subst e; unfold pcW; rw [va_up_self, va_up_self]
    · unfold pcW; rw [va_up_ne _ _ e, va_up_ne _ _ e, h1 k hk]
  · obtain ⟨a0, a1, a2, a3, a4, a5, a6, a7, a8, a9, a10, a11⟩ := h2
    have e0 : ∀ k, k < 32 → va_up v (32 + 6 * c + 2) x k = v k := fun k hk => va_up_ne _ _ (by omega)
    have e1 : ∀ k, 56 ≤ k → va_up v (32 + 6 * c + 2) x k = v k := fun k hk => va_up_ne _ _ (by omega)
    refine ⟨by rw [e0 0 (by decide)]; exact a0, by rw [e0 1 (by decide)]; exact a1, by rw [e0 2 (by decide)]; exact a2, by rw [e0 3 (by decide)]; exact a3, by rw [e0 4 (by decide)]; exact a4, by rw [e0 5 (by decide)]; exact a5, by rw [e0 6 (by decide)]; exact a6, by rw [e0 7 (by decide)]; exact a7, ?_, ?_, ?_, ?_⟩
    · intro k hk
      rw [e0 0 (by decide)] at hk
      rw [e0 (8 + 2 * k) (by omega), e0 (8 + 2 * k + 1) (by omega), e0 4 (by decide), e0 5 (by decide)]
      exact a8 k hk
    · intro k hk
      rw [e0 1 (by decide)] at hk
      obtain ⟨b0, b1, b2, b3, b4, b5, b6, b7⟩ := a9 k hk
      unfold KOk
      rw [e0 4 (by decide), e0 5 (by decide), va_up_ne (j := 32 + 6 * k) _ _ (by omega), va_up_ne (j := 32 + 6 * k + 1) _ _ (by omega), va_up_ne (j := 32 + 6 * k + 3) _ _ (by omega), va_up_ne (j := 32 + 6 * k + 4) _ _ (by omega), va_up_ne (j := 32 + 6 * k + 5) _ _ (by omega)]
      refine ⟨b0, b1, ?_, b3, b4, b5, b6, b7⟩
      by_cases e : k = c
      · subst e; rw [va_up_self]; exact hx
      · rw [va_up_ne _ _ (by omega)]; exact b2
    · intro p hp
      rw [e0 2 (by decide)] at hp
      have := a10 p hp
      simp (disch := omega) only [POk, e0, e1]
      exact this
    · rw [e0 4 (by decide), e0 3 (by decide), e0 0 (by decide), e0 1 (by decide), e0 2 (by decide)]
      exact a11
def q_mends (w : Nat → Int32) (c x : Int32) : Int32 := if (cB w c && inL x (lN 0) 60) = true then w (32 + 6 * c.toNatClampNeg + 2) else -2
def c_mends (w : Nat → Int32) (c x : Int32) : Nat → Int32 := if (cB w c && inL x (lN 0) 60) = true then pcW w c.toNatClampNeg x else w
theorem inL0_nat {X : Int32} {n : Nat} (hn : n < 1000) (h : inL X (lN 0) (nI n).toInt64 = true) : ∃ a, a ≤ n ∧ X = nI a := by
  rw [lN0, inL, in_i2l] at h
  exact inI_le hn h
theorem c_mends_ok {w : Nat → Int32} (c x : Int32) (h : ∃ v, WOk w v) : ∃ v, WOk (c_mends w c x) v := by
  obtain ⟨v, hw⟩ := h
  have h4 : v 1 ≤ 4 := hw.2.2.1
  unfold c_mends
  split
  · rename_i hg
    simp only [Bool.and_eq_true] at hg
    obtain ⟨cn, hc, rfl⟩ := hw.cOf hg.1
    obtain ⟨xn, hx, rfl⟩ := inL0_nat (n := 60) (by decide) (by rw [show (nI 60).toInt64 = 60 by decide +kernel]; exact hg.2)
    rw [nI_clamp (by omega)]
    exact ⟨_, hw.pc hc hx⟩
  · exact ⟨v, hw⟩
theorem bX4_mends_0 : Blk TP mX4_mends 0 5 [oAL 0, oIL 1, tC_I F_isClock] := blk_c (s_aload_n dX4_mends_0 rfl) <| blk_c (s_iload_n dX4_mends_1 rfl) <| blk_c (tc_I ok_isClock gX4_isClock (by decide +kernel) (by decide) dX4_mends_2) <| blk_nil
theorem bX4_mends_8 : Blk TP mX4_mends 8 17 [oIL 2, oI2L, oCL (lN 0), oCL (60), tS_JJJ F_in] := blk_c (s_iload_n dX4_mends_8 rfl) <| blk_c (s_i2l dX4_mends_9) <| blk_c (s_lconst dX4_mends_10 (by decide +kernel)) <| blk_c (s_ldc2 dX4_mends_11 q2267) <| blk_c (ts_JJJ ok_in gX4_in (by decide +kernel) (by decide) dX4_mends_14) <| blk_nil
theorem bX4_mends_20 : Blk TP mX4_mends 20 22 [oC (-2)] := blk_c (s_bipush dX4_mends_20 (by decide +kernel)) <| blk_nil
theorem bX4_mends_23 : Blk TP mX4_mends 23 46 [oAL 0, oIL 1, oC (nI 2), tC_II F_ofClock, oIS 3, oAL 0, tR 1, oC (nI 32), oC (nI 6), oIL 1, oMul, oAdd, oC (nI 2), oAdd, oIL 2, tSI 1 320, oIL 3] := blk_c (s_aload_n dX4_mends_23 rfl) <| blk_c (s_iload_n dX4_mends_24 rfl) <| blk_c (s_iconst dX4_mends_25 (by decide +kernel)) <| blk_c (tc_II ok_ofClock gX4_ofClock (by decide +kernel) (by decide) dX4_mends_26) <| blk_c (s_istore_n dX4_mends_29 rfl (by decide)) <| blk_c (s_aload_n dX4_mends_30 rfl) <| blk_c (tgX4_1 rfl dX4_mends_31) <| blk_c (s_bipush dX4_mends_34 (by decide +kernel)) <| blk_c (s_bipush dX4_mends_36 (by decide +kernel)) <| blk_c (s_iload_n dX4_mends_38 rfl) <| blk_c (s_imul dX4_mends_39) <| blk_c (s_iadd dX4_mends_40) <| blk_c (s_iconst dX4_mends_41 (by decide +kernel)) <| blk_c (s_iadd dX4_mends_42) <| blk_c (s_iload_n dX4_mends_43 rfl) <| blk_c (t_iast rfl dX4_mends_44) <| blk_c (s_iload_n dX4_mends_45 rfl) <| blk_nil
theorem ok_mends : RC_II mX4_mends (fun _ _ A B => Pre_runs A B) (fun c x A B => fun r A' B' => r = some (.int (q_mends (A 1) c x)) ∧ B' = B ∧ (∀ k, k ≠ 1 → A' k = A k) ∧ A' 1 = c_mends (A 1) c x) := by
  intro X c x o ad A B hpre
  obtain ⟨v, hw⟩ := id hpre
  have h4 : v 1 ≤ 4 := hw.2.2.1
  have main : (cB (A 1) c && inL x (lN 0) 60) = true → JS TP X mX4_mends (rmOf mX4_mends.lv 0 0) (ZR X o ad (fun r A' B' => r = some (.int (q_mends (A 1) c x)) ∧ B' = B ∧ (∀ k, k ≠ 1 → A' k = A k) ∧ A' 1 = c_mends (A 1) c x)) 0 0 23 [some (.ref o), some (.int c), some (.int x), none] [] (o, ad, A, B) := by
    intro hg
    rw [q_mends, c_mends, if_pos hg, if_pos hg]
    simp only [Bool.and_eq_true] at hg
    obtain ⟨cn, hc, rfl⟩ := hw.cOf hg.1
    refine bX4_mends_23.go rfl (by simp (disch := omega) only [nI_add, pk_mul, vpI, nI_clamp]; exact ⟨⟨trivial, by omega, by omega⟩, trivial, ⟨trivial, by omega⟩, trivial⟩) ?_
    simp (disch := omega) only [nI_add, pk_mul, nI_clamp]
    exact r_iret dX4_mends_46 rfl ⟨rfl, rfl, fun k hk => upA_ne hk, by rw [upA, va_up_self]; rfl⟩
  refine R_start (L := [some (.ref o), some (.int c), some (.int x), none]) 1 rfl ?_
  refine bX4_mends_0.go rfl (by first | exact ⟨⟨rfl, trivial⟩, trivial⟩ | exact ⟨trivial, trivial⟩) ?_
  refine j_if_eq (tgt := 20) dX4_mends_5 (by decide) (fun h5 => ?_) (fun h5 => ?_)
  · refine bX4_mends_20.go rfl trivial ?_
    refine r_iret dX4_mends_22 rfl ?_
    exact ⟨ans (by clear main; simp only [b2_0, b2_n0, inL_def] at *; simp_all [q_mends, cB]), rfl, fun _ _ => rfl, by clear main; simp only [b2_0, b2_n0, inL_def] at *; simp_all [c_mends, cB]⟩
  · refine bX4_mends_8.go rfl (by first | exact ⟨⟨rfl, trivial⟩, trivial⟩ | exact ⟨trivial, trivial⟩) ?_
    refine j_if_ne (tgt := 23) dX4_mends_17 (by decide) (fun h17 => ?_) (fun h17 => ?_)
    · exact main (by clear main; simp only [b2_0, b2_n0, inL_def] at *; simp_all [cB])
    · refine bX4_mends_20.go rfl trivial ?_
      refine r_iret dX4_mends_22 rfl ?_
      exact ⟨ans (by clear main; simp only [b2_0, b2_n0, inL_def] at *; simp_all [q_mends, cB]), rfl, fun _ _ => rfl, by clear main; simp only [b2_0, b2_n0, inL_def] at *; simp_all [c_mends, cB]⟩
/-- all that lasts, but one number of the world row -/
def KeepsI (i : Nat) (A : Nat → Nat → Int32) (B : Nat → Nat → Int64) (A' : Nat → Nat → Int32) (B' : Nat → Nat → Int64) : Prop := ∃ x, Keeps2 (upA A 1 i x) B A' B'
theorem KeepsI.rf {i : Nat} {A : Nat → Nat → Int32} {B : Nat → Nat → Int64} : KeepsI i A B A B := ⟨A 1 i, by rw [upA_same]; exact Keeps2.rf⟩
theorem KeepsI.set {i : Nat} {A A' : Nat → Nat → Int32} {B B' : Nat → Nat → Int64} (h : KeepsI i A B A' B') (y : Int32) : Keeps2 (upA A 1 i y) B (upA A' 1 i y) B' := by
  obtain ⟨x, a1, a2, a3, a4, a5, a6, a7, a8, a9, a10⟩ := h
  rw [upA_ne (by decide)] at a2 a3 a4 a5 a6 a7 a8 a9
  refine ⟨?_, ?_, ?_, ?_, ?_, ?_, ?_, ?_, ?_, a10⟩
  · rw [upA, va_up_self, upA, va_up_self, a1, upA, va_up_self]
    funext k
    by_cases e : k = i
    · subst e; rw [va_up_self, va_up_self]
    · rw [va_up_ne _ _ e, va_up_ne _ _ e, va_up_ne _ _ e]
  all_goals rw [upA_ne (by decide), upA_ne (by decide)]
  · exact a2
  · exact a3
  · exact a4
  · exact a5
  · exact a6
  · exact a7
  · exact a8
  · exact a9
theorem KeepsI.back {i : Nat} {A A' : Nat → Nat → Int32} {B B' : Nat → Nat → Int64} (h : KeepsI i A B A' B') : Keeps2 A B (upA A' 1 i (A 1 i)) B' := by
  have := h.set (A 1 i)
  rw [upA_same] at this
  exact this
theorem KeepsI.row {i : Nat} {A A' : Nat → Nat → Int32} {B B' : Nat → Nat → Int64} (h : KeepsI i A B A' B') (x : Int32) : upA A' 1 i x 1 = va_up (A 1) i x := (h.set x).1.trans (by rw [upA, va_up_self])
def paV (w : Nat → Int32) (c m : Nat) (h : Int32) : Int32 := firstF (fun n => decide (showsP (pcW w c (nI n)) c m = h)) 61 0
def q_pace (w : Nat → Int32) (c m h : Int32) : Int32 := if (cB w c && (tB w m && hB h)) = true then paV w c.toNatClampNeg m.toNatClampNeg h else -2
theorem bX4_pace_0 : Blk TP mX4_pace 0 5 [oAL 0, oIL 1, tC_I F_isClock] := blk_c (s_aload_n dX4_pace_0 rfl) <| blk_c (s_iload_n dX4_pace_1 rfl) <| blk_c (tc_I ok_isClock gX4_isClock (by decide +kernel) (by decide) dX4_pace_2) <| blk_nil
theorem bX4_pace_8 : Blk TP mX4_pace 8 13 [oAL 0, oIL 2, tC_I F_isTime] := blk_c (s_aload_n dX4_pace_8 rfl) <| blk_c (s_iload_n dX4_pace_9 rfl) <| blk_c (tc_I ok_isTime gX4_isTime (by decide +kernel) (by decide) dX4_pace_10) <| blk_nil
theorem bX4_pace_16 : Blk TP mX4_pace 16 20 [oIL 3, tS_I F_isHour] := blk_c (s_iload_n dX4_pace_16 rfl) <| blk_c (ts_I ok_isHour gX4_isHour (by decide +kernel) (by decide) dX4_pace_17) <| blk_nil
theorem bX4_pace_23 : Blk TP mX4_pace 23 25 [oC (-2)] := blk_c (s_bipush dX4_pace_23 (by decide +kernel)) <| blk_nil
theorem bX4_pace_26 : Blk TP mX4_pace 26 52 [oC (nI 32), oC (nI 6), oIL 1, oMul, oAdd, oC (nI 2), oAdd, oIS 4, oAL 0, tR 1, oIL 4, tAI 1 320, oIS 5, oC (-1), oIS 6, oC (nI 0), oIS 7] := blk_c (s_bipush dX4_pace_26 (by decide +kernel)) <| blk_c (s_bipush dX4_pace_28 (by decide +kernel)) <| blk_c (s_iload_n dX4_pace_30 rfl) <| blk_c (s_imul dX4_pace_31) <| blk_c (s_iadd dX4_pace_32) <| blk_c (s_iconst dX4_pace_33 (by decide +kernel)) <| blk_c (s_iadd dX4_pace_34) <| blk_c (s_istore dX4_pace_35 (by decide)) <| blk_c (s_aload_n dX4_pace_37 rfl) <| blk_c (tgX4_1 rfl dX4_pace_38) <| blk_c (s_iload dX4_pace_41) <| blk_c (t_iald rfl dX4_pace_43) <| blk_c (s_istore dX4_pace_44 (by decide)) <| blk_c (s_iconst dX4_pace_46 (by decide +kernel)) <| blk_c (s_istore dX4_pace_47 (by decide)) <| blk_c (s_iconst dX4_pace_49 (by decide +kernel)) <| blk_c (s_istore dX4_pace_50 (by decide)) <| blk_nil
theorem bX4_pace_52 : Blk TP mX4_pace 52 56 [oIL 7, oC (nI 60)] := blk_c (s_iload dX4_pace_52) <| blk_c (s_bipush dX4_pace_54 (by decide +kernel)) <| blk_nil
theorem bX4_pace_59 : Blk TP mX4_pace 59 62 [oIL 6, oC (-1)] := blk_c (s_iload dX4_pace_59) <| blk_c (s_iconst dX4_pace_61 (by decide +kernel)) <| blk_nil
theorem bX4_pace_65 : Blk TP mX4_pace 65 75 [oAL 0, tR 1, oIL 4, oIL 7, tSI 1 320, oAL 0] := blk_c (s_aload_n dX4_pace_65 rfl) <| blk_c (tgX4_1 rfl dX4_pace_66) <| blk_c (s_iload dX4_pace_69) <| blk_c (s_iload dX4_pace_71) <| blk_c (t_iast rfl dX4_pace_73) <| blk_c (s_aload_n dX4_pace_74 rfl) <| blk_nil
theorem bX4_pace_78 : Blk TP mX4_pace 78 85 [oAL 0, oIL 1, oIL 2, tC_II F_shownAt, oIL 3] := blk_c (s_aload_n dX4_pace_78 rfl) <| blk_c (s_iload_n dX4_pace_79 rfl) <| blk_c (s_iload_n dX4_pace_80 rfl) <| blk_c (tc_II ok_shownAt gX4_shownAt (by decide +kernel) (by decide) dX4_pace_81) <| blk_c (s_iload_n dX4_pace_84 rfl) <| blk_nil
theorem bX4_pace_88 : Blk TP mX4_pace 88 94 [oIL 7, .inl (fun s => some s)] := blk_c (s_iload dX4_pace_88) <| blk_c (s_goto (tgt := 94) dX4_pace_90 (by decide)) <| blk_nil
theorem bX4_pace_93 : Blk TP mX4_pace 93 94 [oC (-1)] := blk_c (s_iconst dX4_pace_93 (by decide +kernel)) <| blk_nil
theorem bX4_pace_94 : Blk TP mX4_pace 94 52 [oIS 6, oInc 7 1, .inl (fun s => some s)] := blk_c (s_istore dX4_pace_94 (by decide)) <| blk_c (s_iinc dX4_pace_96 (by decide +kernel) (by decide)) <| blk_c (s_goto (tgt := 52) dX4_pace_99 (by decide)) <| blk_nil
theorem bX4_pace_102 : Blk TP mX4_pace 102 113 [oAL 0, tR 1, oIL 4, oIL 5, tSI 1 320, oIL 6] := blk_c (s_aload_n dX4_pace_102 rfl) <| blk_c (tgX4_1 rfl dX4_pace_103) <| blk_c (s_iload dX4_pace_106) <| blk_c (s_iload dX4_pace_108) <| blk_c (t_iast rfl dX4_pace_110) <| blk_c (s_iload dX4_pace_111) <| blk_nil
theorem ok_pace : RC_III mX4_pace (fun _ _ _ A B => Pre_runs A B) (fun c m h A B => Qq (q_pace (A 1) c m h) A B) := by
  intro X c m h o ad A B hpre
  obtain ⟨v, hw⟩ := id hpre
  have h4 : v 1 ≤ 4 := hw.2.2.1
  have h6 : v 6 ≤ 40 := hw.2.2.2.2.2.2.2.1
  have main : (cB (A 1) c && (tB (A 1) m && hB h)) = true → JS TP X mX4_pace (rmOf mX4_pace.lv 0 0) (ZR X o ad (Qq (q_pace (A 1) c m h) A B)) 0 0 26 [some (.ref o), some (.int c), some (.int m), some (.int h), none, none, none, none] [] (o, ad, A, B) := by
    intro hg
    rw [q_pace, if_pos hg]
    simp only [Bool.and_eq_true] at hg
    obtain ⟨cn, hc, rfl⟩ := hw.cOf hg.1
    obtain ⟨mn, hm, rfl⟩ := hw.tOf hg.2.1
    rw [nI_clamp (by omega), nI_clamp (by omega)]
    refine bX4_pace_26.go rfl (by simp (disch := omega) only [nI_add, pk_mul, vpI]; exact ⟨trivial, ⟨trivial, by omega⟩, trivial⟩) ?_
    simp (disch := omega) only [nI_add, pk_mul, nI_clamp]
    have fin : ∀ A' B', KeepsI (32 + 6 * cn + 2) A B A' B' → ∀ j, JS TP X mX4_pace (rmOf mX4_pace.lv 0 0) (ZR X o ad (Qq (paV (A 1) cn mn h) A B)) 0 0 102 [some (.ref o), some (.int (nI cn)), some (.int (nI mn)), some (.int h), some (.int (nI (32 + 6 * cn + 2))), some (.int (A 1 (32 + 6 * cn + 2))), some (.int (paV (A 1) cn mn h)), some (.int j)] [] (o, ad, A', B') := by
      intro A' B' hK j
      refine bX4_pace_102.go rfl (by simp (disch := omega) only [vpI]; exact ⟨trivial, ⟨trivial, by omega⟩, trivial⟩) ?_
      simp (disch := omega) only [nI_clamp]
      exact r_iret dX4_pace_113 rfl ⟨rfl, hK.back⟩
    refine loop_down (N := 61) (I := fun n => paV (A 1) cn mn h = firstF (fun n => decide (showsP (pcW (A 1) cn (nI n)) cn mn = h)) (61 - n) n) (P := fun n => ∀ A' B', KeepsI (32 + 6 * cn + 2) A B A' B' → JS TP X mX4_pace (rmOf mX4_pace.lv 0 0) _ 0 0 52 [some (.ref o), some (.int (nI cn)), some (.int (nI mn)), some (.int h), some (.int (nI (32 + 6 * cn + 2))), some (.int (A 1 (32 + 6 * cn + 2))), some (.int (-1)), some (.int (nI n))] [] (o, ad, A', B')) ?_ ?_ 0 (by omega) rfl A B KeepsI.rf
    · intro hI A' B' hK
      refine bX4_pace_52.go rfl trivial ?_
      refine j_icmp_gt (tgt := 102) dX4_pace_56 (by decide) (fun h56 => ?_) (fun h56 => ?_)
      · have e : paV (A 1) cn mn h = -1 := by rw [hI]; rfl
        have := fin A' B' hK (nI 61)
        rw [e] at this ⊢
        exact this
      · simp (disch := omega) only [nI_ltI] at h56; omega
    · intro n hn hI ih A' B' hK
      obtain ⟨n', hn'⟩ : ∃ n', 61 - n = n' + 1 := ⟨60 - n, by omega⟩
      refine bX4_pace_52.go rfl trivial ?_
      refine j_icmp_gt (tgt := 102) dX4_pace_56 (by decide) (fun h56 => ?_) (fun h56 => ?_)
      · simp (disch := omega) only [nI_ltI] at h56; omega
      · refine bX4_pace_59.go rfl trivial ?_
        refine j_icmp_ne (tgt := 102) dX4_pace_62 (by decide) (fun h62 => absurd rfl h62) (fun h62 => ?_)
        have hw' := hw.pc (x := n) hc (by omega)
        refine bX4_pace_65.go rfl (by simp (disch := omega) only [vpI]; exact ⟨trivial, ⟨trivial, by omega⟩, trivial⟩) ?_
        simp (disch := omega) only [nI_clamp]
        refine rc_V ok_plain gX4_plain dX4_pace_75 rfl ⟨_, by rw [hK.row]; exact hw'⟩ (fun r A1 B1 q => ?_)
        obtain ⟨rfl, hk, hq⟩ := q
        rw [hK.row] at hq
        have hC := hq _ hw'
        have hK1 : KeepsI (32 + 6 * cn + 2) A B A1 B1 := ⟨_, (hK.set _).trans hk⟩
        have r1 : A1 1 = pcW (A 1) cn (nI n) := hk.1.trans (hK.row _)
        have e6 : va_up v (32 + 6 * cn + 2) n 6 = v 6 := va_up_ne _ _ (by omega)
        have e1 : va_up v (32 + 6 * cn + 2) n 1 = v 1 := va_up_ne _ _ (by omega)
        refine bX4_pace_78.go rfl (by simp (disch := omega) only [vpI, nI_clamp, r1]; exact ⟨⟨trivial, by omega, by omega, hw'.clock (by rw [e1]; exact hc)⟩, trivial⟩) ?_
        simp (disch := omega) only [nI_clamp, r1]
        have eS : shI (A1 18 (4 * mn + cn)) (pcW (A 1) cn (nI n) (32 + 6 * cn + 3)) (pcW (A 1) cn (nI n) (32 + 6 * cn + 4)) = showsP (pcW (A 1) cn (nI n)) cn mn := by
          rw [hC.2.2.2.1 mn (by rw [e6]; exact hm) cn (by rw [e1]; exact hc)]; rfl
        rw [eS]
        refine j_icmp_ne (tgt := 93) dX4_pace_85 (by decide) (fun h85 => ?_) (fun h85 => ?_)
        · refine bX4_pace_93.go rfl trivial ?_
          refine bX4_pace_94.go rfl trivial ?_
          rw [nI_1]
          refine ih ?_ A1 B1 hK1
          rw [hI, hn', firstF, if_neg (by rw [decide_eq_true_eq]; exact h85), show 61 - (n + 1) = n' by omega]
        · have e : paV (A 1) cn mn h = nI n := by rw [hI, hn', firstF, if_pos (by rw [decide_eq_true_eq]; exact h85)]
          refine bX4_pace_88.go rfl trivial ?_
          refine bX4_pace_94.go rfl trivial ?_
          have hf := fin A1 B1 hK1 (nI (n + 1))
          rw [e] at hf ⊢
          rw [nI_1]
          refine bX4_pace_52.go rfl trivial ?_
          refine j_icmp_gt (tgt := 102) dX4_pace_56 (by decide) (fun _ => hf) (fun _ => ?_)
          refine bX4_pace_59.go rfl trivial ?_
          refine j_icmp_ne (tgt := 102) dX4_pace_62 (by decide) (fun _ => hf) (fun h62 => ?_)
          have := congrArg Int32.toInt h62
          rw [nI_toInt (by omega), show (-1 : Int32).toInt = -1 by decide +kernel] at this
          omega
  refine R_start (L := [some (.ref o), some (.int c), some (.int m), some (.int h), none, none, none, none]) 4 rfl ?_
  refine bX4_pace_0.go rfl (by first | exact ⟨⟨rfl, trivial⟩, trivial⟩ | exact ⟨trivial, trivial⟩) ?_
  refine j_if_eq (tgt := 23) dX4_pace_5 (by decide) (fun h5 => ?_) (fun h5 => ?_)
  · refine bX4_pace_23.go rfl trivial ?_
    refine r_iret dX4_pace_25 rfl ?_
    exact ⟨ans (by clear main; simp only [b2_0, b2_n0, inL_def] at *; simp_all [q_pace, cB, tB, hB]), Keeps2.rf⟩
  · refine bX4_pace_8.go rfl (by first | exact ⟨⟨rfl, trivial⟩, trivial⟩ | exact ⟨trivial, trivial⟩) ?_
    refine j_if_eq (tgt := 23) dX4_pace_13 (by decide) (fun h13 => ?_) (fun h13 => ?_)
    · refine bX4_pace_23.go rfl trivial ?_
      refine r_iret dX4_pace_25 rfl ?_
      exact ⟨ans (by clear main; simp only [b2_0, b2_n0, inL_def] at *; simp_all [q_pace, cB, tB, hB]), Keeps2.rf⟩
    · refine bX4_pace_16.go rfl (by first | exact ⟨⟨rfl, trivial⟩, trivial⟩ | exact ⟨trivial, trivial⟩) ?_
      refine j_if_ne (tgt := 26) dX4_pace_20 (by decide) (fun h20 => ?_) (fun h20 => ?_)
      · exact main (by clear main; simp only [b2_0, b2_n0, inL_def] at *; simp_all [cB, tB, hB])
      · refine bX4_pace_23.go rfl trivial ?_
        refine r_iret dX4_pace_25 rfl ?_
        exact ⟨ans (by clear main; simp only [b2_0, b2_n0, inL_def] at *; simp_all [q_pace, cB, tB, hB]), Keeps2.rf⟩
