set_option maxRecDepth 100000
/-! ===== UnseenClockModel: awayOf, away ===== -/
def bitsI (s : Int32) : Int32 := sumI (fun k => (s >>> (nI k &&& 31)) &&& nI 1) 31
/-- the set with fewest bits (the first of those) among the first s -/
def bstF (f : Nat → Bool) : Nat → Int32
  | 0 => -1
  | s + 1 => if ¬ bstF f s = -1 ∧ ¬ bitsI (nI s) < bitsI (bstF f s) then bstF f s else if f s = true then nI s else bstF f s
theorem shl1 : ∀ k, k < 9 → nI 1 <<< (nI k &&& 31) = nI (2 ^ k) ∧ 2 ^ k ≤ 256 := by decide +kernel
theorem upA_same (A : Nat → Nat → Int32) (k i : Nat) : upA A k i (A k i) = A := by
  funext j
  by_cases e : j = k
  · subst e; rw [upA, va_up_self]; funext l
    by_cases e2 : l = i
    · subst e2; rw [va_up_self]
    · rw [va_up_ne _ _ e2]
  · rw [upA_ne e]
/-- all that lasts, but who is away -/
def KeepsG (A : Nat → Nat → Int32) (B : Nat → Nat → Int64) (A' : Nat → Nat → Int32) (B' : Nat → Nat → Int64) : Prop := ∃ x, Keeps2 (upA A 1 7 x) B A' B'
theorem KeepsG.rf {A : Nat → Nat → Int32} {B : Nat → Nat → Int64} : KeepsG A B A B := ⟨A 1 7, by rw [upA_same]; exact Keeps2.rf⟩
theorem KeepsG.ne {A A' : Nat → Nat → Int32} {B B' : Nat → Nat → Int64} (h : KeepsG A B A' B') {k : Nat} (hk : k ≠ 7) : A' 1 k = A 1 k := by
  obtain ⟨x, h⟩ := h
  rw [h.1, upA, va_up_self, va_up_ne _ _ hk]
theorem KeepsG.set {A A' : Nat → Nat → Int32} {B B' : Nat → Nat → Int64} (h : KeepsG A B A' B') (y : Int32) : Keeps2 (upA A 1 7 y) B (upA A' 1 7 y) B' := by
  obtain ⟨x, a1, a2, a3, a4, a5, a6, a7, a8, a9, a10⟩ := h
  rw [upA_ne (by decide)] at a2 a3 a4 a5 a6 a7 a8 a9
  refine ⟨?_, ?_, ?_, ?_, ?_, ?_, ?_, ?_, ?_, a10⟩
  · rw [upA, va_up_self, upA, va_up_self, a1, upA, va_up_self]
    funext k
    by_cases e : k = 7
    · subst e; rw [va_up_self, va_up_self]
    · rw [va_up_ne _ _ e, va_up_ne _ _ e, va_up_ne _ _ e]
  all_goals rw [upA_ne (by decide), upA_ne (by decide)]
  · exact a2
  · exact a3
  · exact a4
  · exact a5
  · exact a6
  · exact a7
  · exact a8
  · exact a9
theorem KeepsG.back {A A' : Nat → Nat → Int32} {B B' : Nat → Nat → Int64} (h : KeepsG A B A' B') : Keeps2 A B (upA A' 1 7 (A 1 7)) B' := by
  have := h.set (A 1 7)
  rw [upA_same] at this
  exact this
theorem upA1 (A : Nat → Nat → Int32) (x : Int32) : upA A 1 7 x 1 = gnW (A 1) x := by rw [upA, va_up_self]; rfl
theorem KeepsG.row {A A' : Nat → Nat → Int32} {B B' : Nat → Nat → Int64} (h : KeepsG A B A' B') (x : Int32) : upA A' 1 7 x 1 = gnW (A 1) x := (h.set x).1.trans (upA1 A x)
def Pre_awayOf (c m _h : Int32) (A : Nat → Nat → Int32) (_ : Nat → Nat → Int64) : Prop := ∃ (v : Nat → Nat) (cn mn : Nat), WOk (A 1) v ∧ c = nI cn ∧ m = nI mn ∧ cn < v 1 ∧ mn ≤ v 6
def awB (w : Nat → Int32) (c m : Nat) (h : Int32) (s : Nat) : Bool := decide (showsP (gnW w (nI s)) c m = h)
def awV (w : Nat → Int32) (c m : Nat) (h : Int32) : Int32 := bstF (awB w c m h) (2 ^ nP w)
theorem bX4_awayOf_0 : Blk TP mX4_awayOf 0 15 [oAL 0, tR 1, oC (nI 7), tAI 1 320, oIS 4, oC (-1), oIS 5, oC (nI 0), oIS 6] := blk_c (s_aload_n dX4_awayOf_0 rfl) <| blk_c (tgX4_1 rfl dX4_awayOf_1) <| blk_c (s_bipush dX4_awayOf_4 (by decide +kernel)) <| blk_c (t_iald rfl dX4_awayOf_6) <| blk_c (s_istore dX4_awayOf_7 (by decide)) <| blk_c (s_iconst dX4_awayOf_9 (by decide +kernel)) <| blk_c (s_istore dX4_awayOf_10 (by decide)) <| blk_c (s_iconst dX4_awayOf_12 (by decide +kernel)) <| blk_c (s_istore dX4_awayOf_13 (by decide)) <| blk_nil
theorem bX4_awayOf_15 : Blk TP mX4_awayOf 15 25 [oIL 6, oC (nI 1), oAL 0, tR 1, oC (nI 2), tAI 1 320, oShl] := blk_c (s_iload dX4_awayOf_15) <| blk_c (s_iconst dX4_awayOf_17 (by decide +kernel)) <| blk_c (s_aload_n dX4_awayOf_18 rfl) <| blk_c (tgX4_1 rfl dX4_awayOf_19) <| blk_c (s_iconst dX4_awayOf_22 (by decide +kernel)) <| blk_c (t_iald rfl dX4_awayOf_23) <| blk_c (s_ishl dX4_awayOf_24) <| blk_nil
theorem bX4_awayOf_28 : Blk TP mX4_awayOf 28 31 [oIL 5, oC (-1)] := blk_c (s_iload dX4_awayOf_28) <| blk_c (s_iconst dX4_awayOf_30 (by decide +kernel)) <| blk_nil
theorem bX4_awayOf_34 : Blk TP mX4_awayOf 34 44 [oIL 6, tS_I F_bits, oIL 5, tS_I F_bits] := blk_c (s_iload dX4_awayOf_34) <| blk_c (ts_I ok_bits gX4_bits (by decide +kernel) (by decide) dX4_awayOf_36) <| blk_c (s_iload dX4_awayOf_39) <| blk_c (ts_I ok_bits gX4_bits (by decide +kernel) (by decide) dX4_awayOf_41) <| blk_nil
theorem bX4_awayOf_47 : Blk TP mX4_awayOf 47 82 [.inl (fun s => some s)] := blk_c (s_goto (tgt := 82) dX4_awayOf_47 (by decide)) <| blk_nil
theorem bX4_awayOf_50 : Blk TP mX4_awayOf 50 60 [oAL 0, tR 1, oC (nI 7), oIL 6, tSI 1 320, oAL 0] := blk_c (s_aload_n dX4_awayOf_50 rfl) <| blk_c (tgX4_1 rfl dX4_awayOf_51) <| blk_c (s_bipush dX4_awayOf_54 (by decide +kernel)) <| blk_c (s_iload dX4_awayOf_56) <| blk_c (t_iast rfl dX4_awayOf_58) <| blk_c (s_aload_n dX4_awayOf_59 rfl) <| blk_nil
theorem bX4_awayOf_63 : Blk TP mX4_awayOf 63 70 [oAL 0, oIL 1, oIL 2, tC_II F_shownAt, oIL 3] := blk_c (s_aload_n dX4_awayOf_63 rfl) <| blk_c (s_iload_n dX4_awayOf_64 rfl) <| blk_c (s_iload_n dX4_awayOf_65 rfl) <| blk_c (tc_II ok_shownAt gX4_shownAt (by decide +kernel) (by decide) dX4_awayOf_66) <| blk_c (s_iload_n dX4_awayOf_69 rfl) <| blk_nil
theorem bX4_awayOf_73 : Blk TP mX4_awayOf 73 80 [oIL 6, .inl (fun s => some s)] := blk_c (s_iload dX4_awayOf_73) <| blk_c (s_goto (tgt := 80) dX4_awayOf_75 (by decide)) <| blk_nil
theorem bX4_awayOf_78 : Blk TP mX4_awayOf 78 80 [oIL 5] := blk_c (s_iload dX4_awayOf_78) <| blk_nil
theorem bX4_awayOf_80 : Blk TP mX4_awayOf 80 82 [oIS 5] := blk_c (s_istore dX4_awayOf_80 (by decide)) <| blk_nil
theorem bX4_awayOf_82 : Blk TP mX4_awayOf 82 15 [oInc 6 1, .inl (fun s => some s)] := blk_c (s_iinc dX4_awayOf_82 (by decide +kernel) (by decide)) <| blk_c (s_goto (tgt := 15) dX4_awayOf_85 (by decide)) <| blk_nil
theorem bX4_awayOf_88 : Blk TP mX4_awayOf 88 99 [oAL 0, tR 1, oC (nI 7), oIL 4, tSI 1 320, oIL 5] := blk_c (s_aload_n dX4_awayOf_88 rfl) <| blk_c (tgX4_1 rfl dX4_awayOf_89) <| blk_c (s_bipush dX4_awayOf_92 (by decide +kernel)) <| blk_c (s_iload dX4_awayOf_94) <| blk_c (t_iast rfl dX4_awayOf_96) <| blk_c (s_iload dX4_awayOf_97) <| blk_nil
theorem ok_awayOf : RC_III mX4_awayOf Pre_awayOf (fun c m h A B => Qq (awV (A 1) c.toNatClampNeg m.toNatClampNeg h) A B) := by
  intro X c m h o ad A B hpre
  obtain ⟨v, cn, mn, hw, rfl, rfl, hc, hm⟩ := hpre
  have h6 : v 6 ≤ 40 := hw.2.2.2.2.2.2.2.1
  have h8 : v 2 ≤ 8 := hw.2.2.2.1
  have h4 : v 1 ≤ 4 := hw.2.2.1
  have e2 : A 1 2 = nI (v 2) := hw.1 2 (by decide)
  obtain ⟨es, hs⟩ := shl1 (v 2) (by omega)
  refine R_start (L := [some (.ref o), some (.int (nI cn)), some (.int (nI mn)), some (.int h), none, none, none]) 3 rfl ?_
  simp (disch := omega) only [nI_clamp, awV, hw.npE]
  refine bX4_awayOf_0.go rfl (by simp (disch := omega) only [vpI]; exact ⟨trivial, ⟨trivial, by omega⟩, trivial⟩) ?_
  simp (disch := omega) only [nI_clamp]
  refine loop_down (N := 2 ^ v 2) (I := fun _ => True) (P := fun s => ∀ A' B', KeepsG A B A' B' → JS TP X mX4_awayOf (rmOf mX4_awayOf.lv 0 0) _ 0 0 15 [some (.ref o), some (.int (nI cn)), some (.int (nI mn)), some (.int h), some (.int (A 1 7)), some (.int (bstF (awB (A 1) cn mn h) s)), some (.int (nI s))] [] (o, ad, A', B')) ?_ ?_ 0 (Nat.zero_le _) trivial A B KeepsG.rf
  · intro _ A' B' hG
    refine bX4_awayOf_15.go rfl (by simp (disch := omega) only [vpI]; exact ⟨trivial, ⟨trivial, by omega⟩, trivial⟩) ?_
    simp (disch := omega) only [nI_clamp]
    rw [hG.ne (by decide), e2, es]
    refine j_icmp_ge (tgt := 88) dX4_awayOf_25 (by decide) (fun h25 => ?_) (fun h25 => ?_)
    · refine bX4_awayOf_88.go rfl (by simp (disch := omega) only [vpI]; exact ⟨trivial, ⟨trivial, by omega⟩, trivial⟩) ?_
      simp (disch := omega) only [nI_clamp]
      exact r_iret dX4_awayOf_99 rfl ⟨rfl, hG.back⟩
    · simp (disch := omega) only [nI_leI] at h25; omega
  · intro s hsn _ ih A' B' hG
    refine bX4_awayOf_15.go rfl (by simp (disch := omega) only [vpI]; exact ⟨trivial, ⟨trivial, by omega⟩, trivial⟩) ?_
    simp (disch := omega) only [nI_clamp]
    rw [hG.ne (by decide), e2, es]
    refine j_icmp_ge (tgt := 88) dX4_awayOf_25 (by decide) (fun h25 => ?_) (fun h25 => ?_)
    · simp (disch := omega) only [nI_leI] at h25; omega
    · have hw' := hw.gn (x := s) (by omega)
      have go50 : ¬ (¬ bstF (awB (A 1) cn mn h) s = -1 ∧ ¬ bitsI (nI s) < bitsI (bstF (awB (A 1) cn mn h) s)) → JS TP X mX4_awayOf (rmOf mX4_awayOf.lv 0 0) (ZR X o ad (Qq (bstF (awB (A 1) cn mn h) (2 ^ v 2)) A B)) 0 0 50 [some (.ref o), some (.int (nI cn)), some (.int (nI mn)), some (.int h), some (.int (A 1 7)), some (.int (bstF (awB (A 1) cn mn h) s)), some (.int (nI s))] [] (o, ad, A', B') := by
        intro hb
        refine bX4_awayOf_50.go rfl (by simp (disch := omega) only [vpI]; exact ⟨trivial, ⟨trivial, by omega⟩, trivial⟩) ?_
        simp (disch := omega) only [nI_clamp]
        refine rc_V ok_plain gX4_plain dX4_awayOf_60 rfl ⟨_, by rw [hG.row]; exact hw'⟩ (fun r A1 B1 q => ?_)
        obtain ⟨rfl, hk, hq⟩ := q
        rw [hG.row] at hq
        have hC := hq _ hw'
        have hG1 : KeepsG A B A1 B1 := ⟨_, (hG.set _).trans hk⟩
        have r1 : A1 1 = gnW (A 1) (nI s) := hk.1.trans (hG.row _)
        refine bX4_awayOf_63.go rfl (by simp (disch := omega) only [vpI, nI_clamp, r1]; exact ⟨⟨trivial, by omega, by omega, hw'.clock (by rw [va_up_ne _ _ (by decide)]; exact hc)⟩, trivial⟩) ?_
        simp (disch := omega) only [nI_clamp, r1]
        have eS : shI (A1 18 (4 * mn + cn)) (gnW (A 1) (nI s) (32 + 6 * cn + 3)) (gnW (A 1) (nI s) (32 + 6 * cn + 4)) = showsP (gnW (A 1) (nI s)) cn mn := by
          rw [hC.2.2.2.1 mn (by rw [va_up_ne _ _ (by decide)]; exact hm) cn (by rw [va_up_ne _ _ (by decide)]; exact hc)]; rfl
        rw [eS]
        refine j_icmp_ne (tgt := 78) dX4_awayOf_70 (by decide) (fun h70 => ?_) (fun h70 => ?_)
        · refine bX4_awayOf_78.go rfl trivial ?_
          refine bX4_awayOf_80.go rfl trivial ?_
          refine bX4_awayOf_82.go rfl trivial ?_
          have e : bstF (awB (A 1) cn mn h) (s + 1) = bstF (awB (A 1) cn mn h) s := by
            rw [bstF, if_neg hb, if_neg (by rw [awB, decide_eq_true_eq]; exact h70)]
          have := ih trivial A1 B1 hG1
          rw [e] at this
          rw [nI_1]
          exact this
        · refine bX4_awayOf_73.go rfl trivial ?_
          refine bX4_awayOf_80.go rfl trivial ?_
          refine bX4_awayOf_82.go rfl trivial ?_
          have e : bstF (awB (A 1) cn mn h) (s + 1) = nI s := by
            rw [bstF, if_neg hb, if_pos (by rw [awB, decide_eq_true_eq]; exact h70)]
          have := ih trivial A1 B1 hG1
          rw [e] at this
          rw [nI_1]
          exact this
      refine bX4_awayOf_28.go rfl trivial ?_
      refine j_icmp_eq (tgt := 50) dX4_awayOf_31 (by decide) (fun h31 => ?_) (fun h31 => ?_)
      · exact go50 (fun h => h.1 h31)
      · refine bX4_awayOf_34.go rfl (by exact ⟨trivial, trivial, trivial⟩) ?_
        refine j_icmp_lt (tgt := 50) dX4_awayOf_44 (by decide) (fun h44 => ?_) (fun h44 => ?_)
        · exact go50 (fun h => h.2 h44)
        · have e : bstF (awB (A 1) cn mn h) (s + 1) = bstF (awB (A 1) cn mn h) s := by
            rw [bstF, if_pos ⟨h31, h44⟩]
          have := ih trivial A' B' hG
          rw [e] at this
          refine bX4_awayOf_47.go rfl trivial ?_
          refine bX4_awayOf_82.go rfl trivial ?_
          rw [nI_1]
          exact this
def q_away (w : Nat → Int32) (c m h what : Int32) : Int32 := if (cB w c && (tB w m && (hB h && inL what (lN 0) (lN 1)))) = true then (if awV w c.toNatClampNeg m.toNatClampNeg h = -1 ∨ what = nI 1 then awV w c.toNatClampNeg m.toNatClampNeg h else bitsI (awV w c.toNatClampNeg m.toNatClampNeg h)) else -2
theorem bX4_away_0 : Blk TP mX4_away 0 5 [oAL 0, oIL 1, tC_I F_isClock] := blk_c (s_aload_n dX4_away_0 rfl) <| blk_c (s_iload_n dX4_away_1 rfl) <| blk_c (tc_I ok_isClock gX4_isClock (by decide +kernel) (by decide) dX4_away_2) <| blk_nil
theorem bX4_away_8 : Blk TP mX4_away 8 13 [oAL 0, oIL 2, tC_I F_isTime] := blk_c (s_aload_n dX4_away_8 rfl) <| blk_c (s_iload_n dX4_away_9 rfl) <| blk_c (tc_I ok_isTime gX4_isTime (by decide +kernel) (by decide) dX4_away_10) <| blk_nil
theorem bX4_away_16 : Blk TP mX4_away 16 20 [oIL 3, tS_I F_isHour] := blk_c (s_iload_n dX4_away_16 rfl) <| blk_c (ts_I ok_isHour gX4_isHour (by decide +kernel) (by decide) dX4_away_17) <| blk_nil
theorem bX4_away_23 : Blk TP mX4_away 23 31 [oIL 4, oI2L, oCL (lN 0), oCL (lN 1), tS_JJJ F_in] := blk_c (s_iload dX4_away_23) <| blk_c (s_i2l dX4_away_25) <| blk_c (s_lconst dX4_away_26 (by decide +kernel)) <| blk_c (s_lconst dX4_away_27 (by decide +kernel)) <| blk_c (ts_JJJ ok_in gX4_in (by decide +kernel) (by decide) dX4_away_28) <| blk_nil
theorem bX4_away_34 : Blk TP mX4_away 34 36 [oC (-2)] := blk_c (s_bipush dX4_away_34 (by decide +kernel)) <| blk_nil
theorem bX4_away_37 : Blk TP mX4_away 37 41 [oAL 0, oIL 1, oIL 2, oIL 3] := blk_c (s_aload_n dX4_away_37 rfl) <| blk_c (s_iload_n dX4_away_38 rfl) <| blk_c (s_iload_n dX4_away_39 rfl) <| blk_c (s_iload_n dX4_away_40 rfl) <| blk_nil
theorem bX4_away_44 : Blk TP mX4_away 44 49 [oIS 5, oIL 5, oC (-1)] := blk_c (s_istore dX4_away_44 (by decide)) <| blk_c (s_iload dX4_away_46) <| blk_c (s_iconst dX4_away_48 (by decide +kernel)) <| blk_nil
theorem bX4_away_52 : Blk TP mX4_away 52 55 [oIL 4, oC (nI 1)] := blk_c (s_iload dX4_away_52) <| blk_c (s_iconst dX4_away_54 (by decide +kernel)) <| blk_nil
theorem bX4_away_58 : Blk TP mX4_away 58 68 [oIL 5, .inl (fun s => some s)] := blk_c (s_iload dX4_away_58) <| blk_c (s_goto (tgt := 68) dX4_away_60 (by decide)) <| blk_nil
theorem bX4_away_63 : Blk TP mX4_away 63 68 [oIL 5, tS_I F_bits] := blk_c (s_iload dX4_away_63) <| blk_c (ts_I ok_bits gX4_bits (by decide +kernel) (by decide) dX4_away_65) <| blk_nil
theorem ok_away : RC_IIII mX4_away (fun _ _ _ _ A B => Pre_runs A B) (fun c m h what A B => Qq (q_away (A 1) c m h what) A B) := by
  intro X c m h what o ad A B hpre
  obtain ⟨v, hw⟩ := id hpre
  have main : (cB (A 1) c && (tB (A 1) m && (hB h && inL what (lN 0) (lN 1)))) = true → JS TP X mX4_away (rmOf mX4_away.lv 0 0) (ZR X o ad (Qq (q_away (A 1) c m h what) A B)) 0 0 37 [some (.ref o), some (.int c), some (.int m), some (.int h), some (.int what), none] [] (o, ad, A, B) := by
    intro hg
    rw [q_away, if_pos hg]
    simp only [Bool.and_eq_true] at hg
    obtain ⟨cn, hc, hce⟩ := hw.cOf hg.1
    obtain ⟨mn, hm, hme⟩ := hw.tOf hg.2.1
    refine bX4_away_37.go rfl trivial ?_
    refine rc_III ok_awayOf gX4_awayOf dX4_away_41 rfl ⟨v, cn, mn, hw, hce, hme, hc, hm⟩ (fun r A1 B1 q => ?_)
    obtain ⟨rfl, hk⟩ := q
    refine bX4_away_44.go rfl trivial ?_
    refine j_icmp_eq (tgt := 58) dX4_away_49 (by decide) (fun h49 => ?_) (fun h49 => ?_)
    · refine bX4_away_58.go rfl trivial ?_
      exact r_iret dX4_away_68 rfl ⟨ans (by rw [if_pos (Or.inl h49)]), hk⟩
    · refine bX4_away_52.go rfl trivial ?_
      refine j_icmp_ne (tgt := 63) dX4_away_55 (by decide) (fun h55 => ?_) (fun h55 => ?_)
      · refine bX4_away_63.go rfl (by exact ⟨trivial, trivial⟩) ?_
        exact r_iret dX4_away_68 rfl ⟨ans (by rw [if_neg (fun h => h.elim h49 h55)]; rfl), hk⟩
      · refine bX4_away_58.go rfl trivial ?_
        exact r_iret dX4_away_68 rfl ⟨ans (by rw [if_pos (Or.inr h55)]), hk⟩
  refine R_start (L := [some (.ref o), some (.int c), some (.int m), some (.int h), some (.int what), none]) 1 rfl ?_
  refine bX4_away_0.go rfl (by first | exact ⟨⟨rfl, trivial⟩, trivial⟩ | exact ⟨trivial, trivial⟩) ?_
  refine j_if_eq (tgt := 34) dX4_away_5 (by decide) (fun h5 => ?_) (fun h5 => ?_)
  · refine bX4_away_34.go rfl trivial ?_
    refine r_iret dX4_away_36 rfl ?_
    exact ⟨ans (by clear main; simp only [b2_0, b2_n0, inL_def] at *; simp_all [q_away, cB, tB, hB]), Keeps2.rf⟩
  · refine bX4_away_8.go rfl (by first | exact ⟨⟨rfl, trivial⟩, trivial⟩ | exact ⟨trivial, trivial⟩) ?_
    refine j_if_eq (tgt := 34) dX4_away_13 (by decide) (fun h13 => ?_) (fun h13 => ?_)
    · refine bX4_away_34.go rfl trivial ?_
      refine r_iret dX4_away_36 rfl ?_
      exact ⟨ans (by clear main; simp only [b2_0, b2_n0, inL_def] at *; simp_all [q_away, cB, tB, hB]), Keeps2.rf⟩
    · refine bX4_away_16.go rfl (by first | exact ⟨⟨rfl, trivial⟩, trivial⟩ | exact ⟨trivial, trivial⟩) ?_
      refine j_if_eq (tgt := 34) dX4_away_20 (by decide) (fun h20 => ?_) (fun h20 => ?_)
      · refine bX4_away_34.go rfl trivial ?_
        refine r_iret dX4_away_36 rfl ?_
        exact ⟨ans (by clear main; simp only [b2_0, b2_n0, inL_def] at *; simp_all [q_away, cB, tB, hB]), Keeps2.rf⟩
      · refine bX4_away_23.go rfl (by first | exact ⟨⟨rfl, trivial⟩, trivial⟩ | exact ⟨trivial, trivial⟩) ?_
        refine j_if_ne (tgt := 37) dX4_away_31 (by decide) (fun h31 => ?_) (fun h31 => ?_)
        · exact main (by clear main; simp only [b2_0, b2_n0, inL_def] at *; simp_all [cB, tB, hB])
        · refine bX4_away_34.go rfl trivial ?_
          refine r_iret dX4_away_36 rfl ?_
          exact ⟨ans (by clear main; simp only [b2_0, b2_n0, inL_def] at *; simp_all [q_away, cB, tB, hB]), Keeps2.rf⟩
