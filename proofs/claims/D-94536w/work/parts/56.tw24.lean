set_option maxRecDepth 100000
/-! ===== UnseenClockModel: isBell, hush ===== -/
def F_isBell (m h t : Int32) : Tau → Prop × Option Value × Tau := fun (o, ad, A, B) => (∃ (v : Nat → Nat) (tn : Nat), WOk (A 1) v ∧ tn ≤ 40 ∧ t = nI tn, some (.int (b2 (anyN (fun k => decide (m ≤ sumI (fun c => b2 (decide (shA A k c = h))) (nC (A 1)))) (t.toNatClampNeg + 1)))), (o, ad, A, B))
theorem bX4_isBell_0 : Blk TP mX4_isBell 0 3 [oC (nI 0), oIS 4] := blk_c (s_iconst dX4_isBell_0 (by decide +kernel)) <| blk_c (s_istore dX4_isBell_1 (by decide)) <| blk_nil
theorem bX4_isBell_3 : Blk TP mX4_isBell 3 6 [oIL 4, oIL 3] := blk_c (s_iload dX4_isBell_3) <| blk_c (s_iload_n dX4_isBell_5 rfl) <| blk_nil
theorem bX4_isBell_9 : Blk TP mX4_isBell 9 17 [oAL 0, oIL 2, oIL 4, tC_II F_manyShow, oIL 1] := blk_c (s_aload_n dX4_isBell_9 rfl) <| blk_c (s_iload_n dX4_isBell_10 rfl) <| blk_c (s_iload dX4_isBell_11) <| blk_c (tc_II ok_manyShow gX4_manyShow (by decide +kernel) (by decide) dX4_isBell_13) <| blk_c (s_iload_n dX4_isBell_16 rfl) <| blk_nil
theorem bX4_isBell_20 : Blk TP mX4_isBell 20 21 [oC (nI 1)] := blk_c (s_iconst dX4_isBell_20 (by decide +kernel)) <| blk_nil
theorem bX4_isBell_22 : Blk TP mX4_isBell 22 3 [oInc 4 1, .inl (fun s => some s)] := blk_c (s_iinc dX4_isBell_22 (by decide +kernel) (by decide)) <| blk_c (s_goto (tgt := 3) dX4_isBell_25 (by decide)) <| blk_nil
theorem bX4_isBell_28 : Blk TP mX4_isBell 28 29 [oC (nI 0)] := blk_c (s_iconst dX4_isBell_28 (by decide +kernel)) <| blk_nil
theorem ok_isBell : TC_III mX4_isBell F_isBell := by
  intro X m h t ⟨o, ad, A, B⟩ P r y hF hP
  cases hF
  obtain ⟨v, tn, hw, ht, rfl⟩ := hP
  refine T_start (L := [some (.ref o), some (.int m), some (.int h), some (.int (nI tn)), none]) 1 rfl ?_
  rw [nI_clamp (by omega)]
  refine bX4_isBell_0.go rfl trivial ?_
  refine loop_down (N := tn + 1) (I := fun k => anyN (fun k => decide (m ≤ sumI (fun c => b2 (decide (shA A k c = h))) (nC (A 1)))) k = false) (P := fun k => JS TP X mX4_isBell (rmOf mX4_isBell.lv 0 0) _ 0 0 3 [some (.ref o), some (.int m), some (.int h), some (.int (nI tn)), some (.int (nI k))] [] (o, ad, A, B)) ?_ ?_ 0 (by omega) rfl
  · intro hI
    refine bX4_isBell_3.go rfl trivial ?_
    refine j_icmp_gt (tgt := 28) dX4_isBell_6 (by decide) (fun h6 => ?_) (fun h6 => ?_)
    · refine bX4_isBell_28.go rfl trivial ?_
      exact t_zret dX4_isBell_29 rfl rfl (sv_int (b2_f hI)) rfl
    · simp (disch := omega) only [nI_ltI] at h6; omega
  · intro k hk hI ih
    refine bX4_isBell_3.go rfl trivial ?_
    refine j_icmp_gt (tgt := 28) dX4_isBell_6 (by decide) (fun h6 => ?_) (fun h6 => ?_)
    · simp (disch := omega) only [nI_ltI] at h6; omega
    · refine bX4_isBell_9.go rfl (by exact ⟨⟨rfl, v, k, hw, by omega, rfl⟩, trivial⟩) ?_
      simp (disch := omega) only [nI_clamp]
      refine j_icmp_lt (tgt := 22) dX4_isBell_17 (by decide) (fun h17 => ?_) (fun h17 => ?_)
      · refine bX4_isBell_22.go rfl trivial ?_
        rw [nI_1]
        refine ih ?_
        simp only [anyN] at hI ⊢
        rw [hI, decide_eq_false (Int32.not_le.mpr h17)]; rfl
      · refine bX4_isBell_20.go rfl trivial ?_
        exact t_zret dX4_isBell_21 rfl rfl (sv_int (b2_t (anyN_true.mpr ⟨k, hk, decide_eq_true (Int32.not_lt.mp h17)⟩))) rfl
def blB (w : Nat → Int32) (m h : Int32) (t s : Nat) : Bool := anyN (fun k => decide (m ≤ msP (gnW w (nI s)) h k)) (t + 1)
def huV (w : Nat → Int32) (m h : Int32) (t : Nat) : Int32 := bstF (blB w m h t) (2 ^ nP w)
def q_hush (w : Nat → Int32) (m h t what : Int32) : Int32 := if (tB w t && (inL m (lN 1) 4 && (hB h && inL what (lN 0) (lN 1)))) = true then (if huV w m h t.toNatClampNeg = -1 ∨ what = nI 1 then huV w m h t.toNatClampNeg else bitsI (huV w m h t.toNatClampNeg)) else -2
theorem bX4_hush_0 : Blk TP mX4_hush 0 5 [oAL 0, oIL 3, tC_I F_isTime] := blk_c (s_aload_n dX4_hush_0 rfl) <| blk_c (s_iload_n dX4_hush_1 rfl) <| blk_c (tc_I ok_isTime gX4_isTime (by decide +kernel) (by decide) dX4_hush_2) <| blk_nil
theorem bX4_hush_8 : Blk TP mX4_hush 8 17 [oIL 1, oI2L, oCL (lN 1), oCL (4), tS_JJJ F_in] := blk_c (s_iload_n dX4_hush_8 rfl) <| blk_c (s_i2l dX4_hush_9) <| blk_c (s_lconst dX4_hush_10 (by decide +kernel)) <| blk_c (s_ldc2 dX4_hush_11 q2062) <| blk_c (ts_JJJ ok_in gX4_in (by decide +kernel) (by decide) dX4_hush_14) <| blk_nil
theorem bX4_hush_20 : Blk TP mX4_hush 20 24 [oIL 2, tS_I F_isHour] := blk_c (s_iload_n dX4_hush_20 rfl) <| blk_c (ts_I ok_isHour gX4_isHour (by decide +kernel) (by decide) dX4_hush_21) <| blk_nil
theorem bX4_hush_27 : Blk TP mX4_hush 27 35 [oIL 4, oI2L, oCL (lN 0), oCL (lN 1), tS_JJJ F_in] := blk_c (s_iload dX4_hush_27) <| blk_c (s_i2l dX4_hush_29) <| blk_c (s_lconst dX4_hush_30 (by decide +kernel)) <| blk_c (s_lconst dX4_hush_31 (by decide +kernel)) <| blk_c (ts_JJJ ok_in gX4_in (by decide +kernel) (by decide) dX4_hush_32) <| blk_nil
theorem bX4_hush_38 : Blk TP mX4_hush 38 40 [oC (-2)] := blk_c (s_bipush dX4_hush_38 (by decide +kernel)) <| blk_nil
theorem bX4_hush_41 : Blk TP mX4_hush 41 56 [oAL 0, tR 1, oC (nI 7), tAI 1 320, oIS 5, oC (-1), oIS 6, oC (nI 0), oIS 7] := blk_c (s_aload_n dX4_hush_41 rfl) <| blk_c (tgX4_1 rfl dX4_hush_42) <| blk_c (s_bipush dX4_hush_45 (by decide +kernel)) <| blk_c (t_iald rfl dX4_hush_47) <| blk_c (s_istore dX4_hush_48 (by decide)) <| blk_c (s_iconst dX4_hush_50 (by decide +kernel)) <| blk_c (s_istore dX4_hush_51 (by decide)) <| blk_c (s_iconst dX4_hush_53 (by decide +kernel)) <| blk_c (s_istore dX4_hush_54 (by decide)) <| blk_nil
theorem bX4_hush_56 : Blk TP mX4_hush 56 66 [oIL 7, oC (nI 1), oAL 0, tR 1, oC (nI 2), tAI 1 320, oShl] := blk_c (s_iload dX4_hush_56) <| blk_c (s_iconst dX4_hush_58 (by decide +kernel)) <| blk_c (s_aload_n dX4_hush_59 rfl) <| blk_c (tgX4_1 rfl dX4_hush_60) <| blk_c (s_iconst dX4_hush_63 (by decide +kernel)) <| blk_c (t_iald rfl dX4_hush_64) <| blk_c (s_ishl dX4_hush_65) <| blk_nil
theorem bX4_hush_69 : Blk TP mX4_hush 69 72 [oIL 6, oC (-1)] := blk_c (s_iload dX4_hush_69) <| blk_c (s_iconst dX4_hush_71 (by decide +kernel)) <| blk_nil
theorem bX4_hush_75 : Blk TP mX4_hush 75 85 [oIL 7, tS_I F_bits, oIL 6, tS_I F_bits] := blk_c (s_iload dX4_hush_75) <| blk_c (ts_I ok_bits gX4_bits (by decide +kernel) (by decide) dX4_hush_77) <| blk_c (s_iload dX4_hush_80) <| blk_c (ts_I ok_bits gX4_bits (by decide +kernel) (by decide) dX4_hush_82) <| blk_nil
theorem bX4_hush_88 : Blk TP mX4_hush 88 123 [.inl (fun s => some s)] := blk_c (s_goto (tgt := 123) dX4_hush_88 (by decide)) <| blk_nil
theorem bX4_hush_91 : Blk TP mX4_hush 91 101 [oAL 0, tR 1, oC (nI 7), oIL 7, tSI 1 320, oAL 0] := blk_c (s_aload_n dX4_hush_91 rfl) <| blk_c (tgX4_1 rfl dX4_hush_92) <| blk_c (s_bipush dX4_hush_95 (by decide +kernel)) <| blk_c (s_iload dX4_hush_97) <| blk_c (t_iast rfl dX4_hush_99) <| blk_c (s_aload_n dX4_hush_100 rfl) <| blk_nil
theorem bX4_hush_104 : Blk TP mX4_hush 104 111 [oAL 0, oIL 1, oIL 2, oIL 3, tC_III F_isBell] := blk_c (s_aload_n dX4_hush_104 rfl) <| blk_c (s_iload_n dX4_hush_105 rfl) <| blk_c (s_iload_n dX4_hush_106 rfl) <| blk_c (s_iload_n dX4_hush_107 rfl) <| blk_c (tc_III ok_isBell gX4_isBell (by decide +kernel) (by decide) dX4_hush_108) <| blk_nil
theorem bX4_hush_114 : Blk TP mX4_hush 114 121 [oIL 7, .inl (fun s => some s)] := blk_c (s_iload dX4_hush_114) <| blk_c (s_goto (tgt := 121) dX4_hush_116 (by decide)) <| blk_nil
theorem bX4_hush_119 : Blk TP mX4_hush 119 121 [oIL 6] := blk_c (s_iload dX4_hush_119) <| blk_nil
theorem bX4_hush_121 : Blk TP mX4_hush 121 123 [oIS 6] := blk_c (s_istore dX4_hush_121 (by decide)) <| blk_nil
theorem bX4_hush_123 : Blk TP mX4_hush 123 56 [oInc 7 1, .inl (fun s => some s)] := blk_c (s_iinc dX4_hush_123 (by decide +kernel) (by decide)) <| blk_c (s_goto (tgt := 56) dX4_hush_126 (by decide)) <| blk_nil
theorem bX4_hush_129 : Blk TP mX4_hush 129 141 [oAL 0, tR 1, oC (nI 7), oIL 5, tSI 1 320, oIL 6, oC (-1)] := blk_c (s_aload_n dX4_hush_129 rfl) <| blk_c (tgX4_1 rfl dX4_hush_130) <| blk_c (s_bipush dX4_hush_133 (by decide +kernel)) <| blk_c (s_iload dX4_hush_135) <| blk_c (t_iast rfl dX4_hush_137) <| blk_c (s_iload dX4_hush_138) <| blk_c (s_iconst dX4_hush_140 (by decide +kernel)) <| blk_nil
theorem bX4_hush_144 : Blk TP mX4_hush 144 147 [oIL 4, oC (nI 1)] := blk_c (s_iload dX4_hush_144) <| blk_c (s_iconst dX4_hush_146 (by decide +kernel)) <| blk_nil
theorem bX4_hush_150 : Blk TP mX4_hush 150 160 [oIL 6, .inl (fun s => some s)] := blk_c (s_iload dX4_hush_150) <| blk_c (s_goto (tgt := 160) dX4_hush_152 (by decide)) <| blk_nil
theorem bX4_hush_155 : Blk TP mX4_hush 155 160 [oIL 6, tS_I F_bits] := blk_c (s_iload dX4_hush_155) <| blk_c (ts_I ok_bits gX4_bits (by decide +kernel) (by decide) dX4_hush_157) <| blk_nil
theorem ok_hush : RC_IIII mX4_hush (fun _ _ _ _ A B => Pre_runs A B) (fun m h t what A B => Qq (q_hush (A 1) m h t what) A B) := by
  intro X m h t what o ad A B hpre
  obtain ⟨v, hw⟩ := id hpre
  have h6 : v 6 ≤ 40 := hw.2.2.2.2.2.2.2.1
  have h8 : v 2 ≤ 8 := hw.2.2.2.1
  have h4 : v 1 ≤ 4 := hw.2.2.1
  have e2 : A 1 2 = nI (v 2) := hw.1 2 (by decide)
  obtain ⟨es, hs⟩ := shl1 (v 2) (by omega)
  have main : (tB (A 1) t && (inL m (lN 1) 4 && (hB h && inL what (lN 0) (lN 1)))) = true → JS TP X mX4_hush (rmOf mX4_hush.lv 0 0) (ZR X o ad (Qq (q_hush (A 1) m h t what) A B)) 0 0 41 [some (.ref o), some (.int m), some (.int h), some (.int t), some (.int what), none, none, none] [] (o, ad, A, B) := by
    intro hg
    rw [q_hush, if_pos hg]
    simp only [Bool.and_eq_true] at hg
    obtain ⟨tn, ht, rfl⟩ := hw.tOf hg.1
    rw [nI_clamp (by omega), huV, hw.npE]
    refine bX4_hush_41.go rfl (by simp (disch := omega) only [vpI]; exact ⟨trivial, ⟨trivial, by omega⟩, trivial⟩) ?_
    simp (disch := omega) only [nI_clamp]
    refine loop_down (N := 2 ^ v 2) (I := fun _ => True) (P := fun s => ∀ A' B', KeepsG A B A' B' → JS TP X mX4_hush (rmOf mX4_hush.lv 0 0) _ 0 0 56 [some (.ref o), some (.int m), some (.int h), some (.int (nI tn)), some (.int what), some (.int (A 1 7)), some (.int (bstF (blB (A 1) m h tn) s)), some (.int (nI s))] [] (o, ad, A', B')) ?_ ?_ 0 (Nat.zero_le _) trivial A B KeepsG.rf
    · intro _ A' B' hG
      refine bX4_hush_56.go rfl (by simp (disch := omega) only [vpI]; exact ⟨trivial, ⟨trivial, by omega⟩, trivial⟩) ?_
      simp (disch := omega) only [nI_clamp]
      rw [hG.ne (by decide), e2, es]
      refine j_icmp_ge (tgt := 129) dX4_hush_66 (by decide) (fun h66 => ?_) (fun h66 => ?_)
      · refine bX4_hush_129.go rfl (by simp (disch := omega) only [vpI]; exact ⟨trivial, ⟨trivial, by omega⟩, trivial⟩) ?_
        simp (disch := omega) only [nI_clamp]
        have hk := hG.back
        refine j_icmp_eq (tgt := 150) dX4_hush_141 (by decide) (fun h49 => ?_) (fun h49 => ?_)
        · refine bX4_hush_150.go rfl trivial ?_
          exact r_iret dX4_hush_160 rfl ⟨ans (by rw [if_pos (Or.inl h49)]), hk⟩
        · refine bX4_hush_144.go rfl trivial ?_
          refine j_icmp_ne (tgt := 155) dX4_hush_147 (by decide) (fun h55 => ?_) (fun h55 => ?_)
          · refine bX4_hush_155.go rfl (by exact ⟨trivial, trivial⟩) ?_
            exact r_iret dX4_hush_160 rfl ⟨ans (by rw [if_neg (fun h => h.elim h49 h55)]; rfl), hk⟩
          · refine bX4_hush_150.go rfl trivial ?_
            exact r_iret dX4_hush_160 rfl ⟨ans (by rw [if_pos (Or.inr h55)]), hk⟩
      · simp (disch := omega) only [nI_leI] at h66; omega
    · intro s hsn _ ih A' B' hG
      refine bX4_hush_56.go rfl (by simp (disch := omega) only [vpI]; exact ⟨trivial, ⟨trivial, by omega⟩, trivial⟩) ?_
      simp (disch := omega) only [nI_clamp]
      rw [hG.ne (by decide), e2, es]
      refine j_icmp_ge (tgt := 129) dX4_hush_66 (by decide) (fun h66 => ?_) (fun h66 => ?_)
      · simp (disch := omega) only [nI_leI] at h66; omega
      · have hw' := hw.gn (x := s) (by omega)
        have go91 : ¬ (¬ bstF (blB (A 1) m h tn) s = -1 ∧ ¬ bitsI (nI s) < bitsI (bstF (blB (A 1) m h tn) s)) → JS TP X mX4_hush (rmOf mX4_hush.lv 0 0) (ZR X o ad (Qq (if bstF (blB (A 1) m h tn) (2 ^ v 2) = -1 ∨ what = nI 1 then bstF (blB (A 1) m h tn) (2 ^ v 2) else bitsI (bstF (blB (A 1) m h tn) (2 ^ v 2))) A B)) 0 0 91 [some (.ref o), some (.int m), some (.int h), some (.int (nI tn)), some (.int what), some (.int (A 1 7)), some (.int (bstF (blB (A 1) m h tn) s)), some (.int (nI s))] [] (o, ad, A', B') := by
          intro hb
          refine bX4_hush_91.go rfl (by simp (disch := omega) only [vpI]; exact ⟨trivial, ⟨trivial, by omega⟩, trivial⟩) ?_
          simp (disch := omega) only [nI_clamp]
          refine rc_V ok_plain gX4_plain dX4_hush_101 rfl ⟨_, by rw [hG.row]; exact hw'⟩ (fun r A1 B1 q => ?_)
          obtain ⟨rfl, hk, hq⟩ := q
          rw [hG.row] at hq
          have hC := hq _ hw'
          have hG1 : KeepsG A B A1 B1 := ⟨_, (hG.set _).trans hk⟩
          have r1 : A1 1 = gnW (A 1) (nI s) := hk.1.trans (hG.row _)
          have e16 : va_up v 7 s 6 = v 6 := va_up_ne _ _ (by decide)
          refine bX4_hush_104.go rfl (by exact ⟨⟨rfl, _, tn, by rw [r1]; exact hw', by omega, rfl⟩, trivial⟩) ?_
          simp (disch := omega) only [nI_clamp]
          have eS : anyN (fun k => decide (m ≤ sumI (fun c => b2 (decide (shA A1 k c = h))) (nC (A1 1)))) (tn + 1) = blB (A 1) m h tn s := by
            refine anyN_congr (fun k hk => ?_)
            rw [r1, msP]
            rw [sumI_congr (fun c hc => by rw [hC.shE r1 (by omega) (by rw [hw'.ncE] at hc; exact hc)])]
          rw [eS]
          refine j_if_eq (tgt := 119) dX4_hush_111 (by decide) (fun h70 => ?_) (fun h70 => ?_)
          · rw [b2_0] at h70
            refine bX4_hush_119.go rfl trivial ?_
            refine bX4_hush_121.go rfl trivial ?_
            refine bX4_hush_123.go rfl trivial ?_
            have e : bstF (blB (A 1) m h tn) (s + 1) = bstF (blB (A 1) m h tn) s := by
              rw [bstF, if_neg hb, if_neg (by rw [h70]; decide)]
            have := ih trivial A1 B1 hG1
            rw [e] at this
            rw [nI_1]
            exact this
          · rw [b2_n0] at h70
            refine bX4_hush_114.go rfl trivial ?_
            refine bX4_hush_121.go rfl trivial ?_
            refine bX4_hush_123.go rfl trivial ?_
            have e : bstF (blB (A 1) m h tn) (s + 1) = nI s := by
              rw [bstF, if_neg hb, if_pos h70]
            have := ih trivial A1 B1 hG1
            rw [e] at this
            rw [nI_1]
            exact this
        refine bX4_hush_69.go rfl trivial ?_
        refine j_icmp_eq (tgt := 91) dX4_hush_72 (by decide) (fun h31 => ?_) (fun h31 => ?_)
        · exact go91 (fun h => h.1 h31)
        · refine bX4_hush_75.go rfl (by exact ⟨trivial, trivial, trivial⟩) ?_
          refine j_icmp_lt (tgt := 91) dX4_hush_85 (by decide) (fun h44 => ?_) (fun h44 => ?_)
          · exact go91 (fun h => h.2 h44)
          · have e : bstF (blB (A 1) m h tn) (s + 1) = bstF (blB (A 1) m h tn) s := by
              rw [bstF, if_pos ⟨h31, h44⟩]
            have := ih trivial A' B' hG
            rw [e] at this
            refine bX4_hush_88.go rfl trivial ?_
            refine bX4_hush_123.go rfl trivial ?_
            rw [nI_1]
            exact this
  refine R_start (L := [some (.ref o), some (.int m), some (.int h), some (.int t), some (.int what), none, none, none]) 3 rfl ?_
  refine bX4_hush_0.go rfl (by first | exact ⟨⟨rfl, trivial⟩, trivial⟩ | exact ⟨trivial, trivial⟩) ?_
  refine j_if_eq (tgt := 38) dX4_hush_5 (by decide) (fun h5 => ?_) (fun h5 => ?_)
  · refine bX4_hush_38.go rfl trivial ?_
    refine r_iret dX4_hush_40 rfl ?_
    exact ⟨ans (by clear main; simp only [b2_0, b2_n0, inL_def] at *; simp_all [q_hush, cB, tB, hB]), Keeps2.rf⟩
  · refine bX4_hush_8.go rfl (by first | exact ⟨⟨rfl, trivial⟩, trivial⟩ | exact ⟨trivial, trivial⟩) ?_
    refine j_if_eq (tgt := 38) dX4_hush_17 (by decide) (fun h17 => ?_) (fun h17 => ?_)
    · refine bX4_hush_38.go rfl trivial ?_
      refine r_iret dX4_hush_40 rfl ?_
      exact ⟨ans (by clear main; simp only [b2_0, b2_n0, inL_def] at *; simp_all [q_hush, cB, tB, hB]), Keeps2.rf⟩
    · refine bX4_hush_20.go rfl (by first | exact ⟨⟨rfl, trivial⟩, trivial⟩ | exact ⟨trivial, trivial⟩) ?_
      refine j_if_eq (tgt := 38) dX4_hush_24 (by decide) (fun h24 => ?_) (fun h24 => ?_)
      · refine bX4_hush_38.go rfl trivial ?_
        refine r_iret dX4_hush_40 rfl ?_
        exact ⟨ans (by clear main; simp only [b2_0, b2_n0, inL_def] at *; simp_all [q_hush, cB, tB, hB]), Keeps2.rf⟩
      · refine bX4_hush_27.go rfl (by first | exact ⟨⟨rfl, trivial⟩, trivial⟩ | exact ⟨trivial, trivial⟩) ?_
        refine j_if_ne (tgt := 41) dX4_hush_35 (by decide) (fun h35 => ?_) (fun h35 => ?_)
        · exact main (by clear main; simp only [b2_0, b2_n0, inL_def] at *; simp_all [cB, tB, hB])
        · refine bX4_hush_38.go rfl trivial ?_
          refine r_iret dX4_hush_40 rfl ?_
          exact ⟨ans (by clear main; simp only [b2_0, b2_n0, inL_def] at *; simp_all [q_hush, cB, tB, hB]), Keeps2.rf⟩
