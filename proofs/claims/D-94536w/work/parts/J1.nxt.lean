set_option maxRecDepth 100000
/-! ===== UnseenClock$Reader: next ===== -/
/-- the reader stands at a token -/
def TokG (g : Nat → Int32) (n : Nat) (ts : TS) : Prop := g 1 = nI n ∧ g 3 = nI ts.1 ∧ g 4 = nI ts.2.1 ∧ g 5 = ts.2.2.1 ∧ g 6 = ts.2.2.2
section Nxt
variable {X : Cx} {h0 : AH} {ra tp sq : Nat} {T g : Nat → Int32} {n a : Nat}
abbrev QNx (h0 : AH) (ra tp sq : Nat) (T : Nat → Int32) (n a : Nat) (r : Option Value) (x' : RPv) : Prop := r = none ∧ ∃ g', x' = (h0, (ra, tp, sq), T, g') ∧ TokG g' n (advS T n a)
abbrev NJ (X : Cx) (h0 : AH) (ra tp sq : Nat) (T : Nat → Int32) (n a0 pc : Nat) (st : List Value) (g : Nat → Int32) : Prop := JS RP X mX5_next (rmOf mX5_next.lv 0 0) (ZRp X 0 0 (QNx h0 ra tp sq T n a0)) 0 0 pc [some (.ref ra)] st (h0, (ra, tp, sq), T, g)
theorem bX5_next_0 : Blk RP mX5_next 0 5 [oAL 0, oC (nI 32), oC (nI 32)] := blk_c (s_aload_n dX5_next_0 rfl) <| blk_c (s_bipush dX5_next_1 (by decide +kernel)) <| blk_c (s_bipush dX5_next_3 (by decide +kernel)) <| blk_nil
theorem bX5_next_11 : Blk RP mX5_next 11 16 [oAL 0, oC (nI 10), oC (nI 10)] := blk_c (s_aload_n dX5_next_11 rfl) <| blk_c (s_bipush dX5_next_12 (by decide +kernel)) <| blk_c (s_bipush dX5_next_14 (by decide +kernel)) <| blk_nil
theorem bX5_next_22 : Blk RP mX5_next 22 0 [oAL 0, oDupR, rI 3, oC (nI 1), oAdd, rP 3, .inl (fun s => some s)] := blk_c (s_aload_n dX5_next_22 rfl) <| blk_c (s_dupR dX5_next_23) <| blk_c (r_I (f := 3) (by decide) q633 dX5_next_24) <| blk_c (s_iconst dX5_next_27 (by decide +kernel)) <| blk_c (s_iadd dX5_next_28) <| blk_c (r_P (f := 3) (by decide) q633 dX5_next_29) <| blk_c (s_goto (tgt := 0) dX5_next_32 (by decide)) <| blk_nil
theorem bX5_next_35 : Blk RP mX5_next 35 56 [oAL 0, oAL 0, rI 3, rP 4, oAL 0, oC (nI 0), rP 6, oAL 0, rI 3, oAL 0, rI 1] := blk_c (s_aload_n dX5_next_35 rfl) <| blk_c (s_aload_n dX5_next_36 rfl) <| blk_c (r_I (f := 3) (by decide) q633 dX5_next_37) <| blk_c (r_P (f := 4) (by decide) q634 dX5_next_40) <| blk_c (s_aload_n dX5_next_43 rfl) <| blk_c (s_iconst dX5_next_44 (by decide +kernel)) <| blk_c (r_P (f := 6) (by decide) q636 dX5_next_45) <| blk_c (s_aload_n dX5_next_48 rfl) <| blk_c (r_I (f := 3) (by decide) q633 dX5_next_49) <| blk_c (s_aload_n dX5_next_52 rfl) <| blk_c (r_I (f := 1) (by decide) q631 dX5_next_53) <| blk_nil
theorem bX5_next_59 : Blk RP mX5_next 59 206 [oAL 0, oC (nI 0), rP 5, .inl (fun s => some s)] := blk_c (s_aload_n dX5_next_59 rfl) <| blk_c (s_iconst dX5_next_60 (by decide +kernel)) <| blk_c (r_P (f := 5) (by decide) q635 dX5_next_61) <| blk_c (s_goto (tgt := 206) dX5_next_64 (by decide)) <| blk_nil
theorem bX5_next_67 : Blk RP mX5_next 67 72 [oAL 0, oC (nI 97), oC (nI 122)] := blk_c (s_aload_n dX5_next_67 rfl) <| blk_c (s_bipush dX5_next_68 (by decide +kernel)) <| blk_c (s_bipush dX5_next_70 (by decide +kernel)) <| blk_nil
theorem bX5_next_78 : Blk RP mX5_next 78 83 [oAL 0, oC (nI 1), rP 5] := blk_c (s_aload_n dX5_next_78 rfl) <| blk_c (s_iconst dX5_next_79 (by decide +kernel)) <| blk_c (r_P (f := 5) (by decide) q635 dX5_next_80) <| blk_nil
theorem bX5_next_83 : Blk RP mX5_next 83 88 [oAL 0, oC (nI 97), oC (nI 122)] := blk_c (s_aload_n dX5_next_83 rfl) <| blk_c (s_bipush dX5_next_84 (by decide +kernel)) <| blk_c (s_bipush dX5_next_86 (by decide +kernel)) <| blk_nil
theorem bX5_next_94 : Blk RP mX5_next 94 83 [oAL 0, oDupR, rI 3, oC (nI 1), oAdd, rP 3, .inl (fun s => some s)] := blk_c (s_aload_n dX5_next_94 rfl) <| blk_c (s_dupR dX5_next_95) <| blk_c (r_I (f := 3) (by decide) q633 dX5_next_96) <| blk_c (s_iconst dX5_next_99 (by decide +kernel)) <| blk_c (s_iadd dX5_next_100) <| blk_c (r_P (f := 3) (by decide) q633 dX5_next_101) <| blk_c (s_goto (tgt := 83) dX5_next_104 (by decide)) <| blk_nil
theorem bX5_next_107 : Blk RP mX5_next 107 112 [oAL 0, oC (nI 48), oC (nI 57)] := blk_c (s_aload_n dX5_next_107 rfl) <| blk_c (s_bipush dX5_next_108 (by decide +kernel)) <| blk_c (s_bipush dX5_next_110 (by decide +kernel)) <| blk_nil
theorem bX5_next_118 : Blk RP mX5_next 118 123 [oAL 0, oC (nI 2), rP 5] := blk_c (s_aload_n dX5_next_118 rfl) <| blk_c (s_iconst dX5_next_119 (by decide +kernel)) <| blk_c (r_P (f := 5) (by decide) q635 dX5_next_120) <| blk_nil
theorem bX5_next_123 : Blk RP mX5_next 123 128 [oAL 0, oC (nI 48), oC (nI 57)] := blk_c (s_aload_n dX5_next_123 rfl) <| blk_c (s_bipush dX5_next_124 (by decide +kernel)) <| blk_c (s_bipush dX5_next_126 (by decide +kernel)) <| blk_nil
theorem bX5_next_134 : Blk RP mX5_next 134 123 [oAL 0, oC (99999), oC (nI 10), oAL 0, rI 6, oMul, oAL 0, rTx, oAL 0, rI 3, rB, oAdd, oC (nI 48), oSub, oS_II pT2 minI, rP 6, oAL 0, oDupR, rI 3, oC (nI 1), oAdd, rP 3, .inl (fun s => some s)] := blk_c (s_aload_n dX5_next_134 rfl) <| blk_c (s_ldc dX5_next_135 q626) <| blk_c (s_bipush dX5_next_137 (by decide +kernel)) <| blk_c (s_aload_n dX5_next_139 rfl) <| blk_c (r_I (f := 6) (by decide) q636 dX5_next_140) <| blk_c (s_imul dX5_next_143) <| blk_c (s_aload_n dX5_next_144 rfl) <| blk_c (r_Tx q630 dX5_next_145) <| blk_c (s_aload_n dX5_next_148 rfl) <| blk_c (r_I (f := 3) (by decide) q633 dX5_next_149) <| blk_c (r_B dX5_next_152) <| blk_c (s_iadd dX5_next_153) <| blk_c (s_bipush dX5_next_154 (by decide +kernel)) <| blk_c (s_isub dX5_next_156) <| blk_c (s_S_II ok_sJ3_min (fun _ _ _ h => h.2.2.2) (Or.inl (lw_S q627 q628 q140 q629)) hy_J3_min (by decide) dX5_next_157) <| blk_c (r_P (f := 6) (by decide) q636 dX5_next_160) <| blk_c (s_aload_n dX5_next_163 rfl) <| blk_c (s_dupR dX5_next_164) <| blk_c (r_I (f := 3) (by decide) q633 dX5_next_165) <| blk_c (s_iconst dX5_next_168 (by decide +kernel)) <| blk_c (s_iadd dX5_next_169) <| blk_c (r_P (f := 3) (by decide) q633 dX5_next_170) <| blk_c (s_goto (tgt := 123) dX5_next_173 (by decide)) <| blk_nil
theorem bX5_next_176 : Blk RP mX5_next 176 182 [oAL 0, oAL 0, oC (nI 59), oC (nI 59)] := blk_c (s_aload_n dX5_next_176 rfl) <| blk_c (s_aload_n dX5_next_177 rfl) <| blk_c (s_bipush dX5_next_178 (by decide +kernel)) <| blk_c (s_bipush dX5_next_180 (by decide +kernel)) <| blk_nil
theorem bX5_next_188 : Blk RP mX5_next 188 193 [oC (nI 3), .inl (fun s => some s)] := blk_c (s_iconst dX5_next_188 (by decide +kernel)) <| blk_c (s_goto (tgt := 193) dX5_next_189 (by decide)) <| blk_nil
theorem bX5_next_192 : Blk RP mX5_next 192 193 [oC (nI 4)] := blk_c (s_iconst dX5_next_192 (by decide +kernel)) <| blk_nil
theorem bX5_next_193 : Blk RP mX5_next 193 206 [rP 5, oAL 0, oDupR, rI 3, oC (nI 1), oAdd, rP 3] := blk_c (r_P (f := 5) (by decide) q635 dX5_next_193) <| blk_c (s_aload_n dX5_next_196 rfl) <| blk_c (s_dupR dX5_next_197) <| blk_c (r_I (f := 3) (by decide) q633 dX5_next_198) <| blk_c (s_iconst dX5_next_201 (by decide +kernel)) <| blk_c (s_iadd dX5_next_202) <| blk_c (r_P (f := 3) (by decide) q633 dX5_next_203) <| blk_nil
theorem nx_is {a0 pc idx lo hi : Nat} {st : List Value} (hT : byT T) (hg : g 1 = nI n) (ha : g 3 = nI a) (hn : n ≤ 2400) (han : a ≤ n) (hidx : idx = 36) (hd : decode mX5_next.cc pc = .ok (.invokevirtual idx, 3)) (hst : wt8 st = true) (kk : NJ X h0 ra tp sq T n a0 (pc + 3) (.int (b2 (atB T n a (nI lo).toInt64 (nI hi).toInt64)) :: st) g) : NJ X h0 ra tp sq T n a0 pc (.int (nI hi) :: .int (nI lo) :: .ref ra :: st) g := by
  subst hidx
  refine rpc (M' := mX5_isAt) (nA := 2) (As := [.int (nI lo), .int (nI hi)]) (ok_isAt hg ha hn han) (lw_V q621 q623 qs6 q139 q624) hd rfl hy_X5_isAt (fun r x' q => ?_) rfl rfl (by decide) hst
  obtain ⟨rfl, rfl⟩ := q
  exact kk
theorem ok_next (hT : byT T) (hg : g 1 = nI n) (ha : g 3 = nI a) (hn : n ≤ 2400) (han : a ≤ n) : RPC X mX5_next [.ref ra] (h0, (ra, tp, sq), T, g) (QNx h0 ra tp sq T n a) := by
  refine RP_start (L := [some (.ref ra)]) 0 rfl ?_
  have fin : ∀ g', TokG g' n (advS T n a) → NJ X h0 ra tp sq T n a 206 [] g' := fun g' hg' => rp_vret dX5_next_206 rfl ⟨rfl, g', rfl, hg'⟩
  obtain ⟨s1, s2⟩ := skF_le (spcB T n) han
  have A0 : advS T n a = if seeI T n (skF (spcB T n) n a) = -1 then (skF (spcB T n) n a, skF (spcB T n) n a, nI 0, nI 0)
    else if letB T n (skF (spcB T n) n a) = true then (skF (letB T n) n (skF (spcB T n) n a), skF (spcB T n) n a, nI 1, nI 0)
    else if digB T n (skF (spcB T n) n a) = true then (skF (digB T n) n (skF (spcB T n) n a), skF (spcB T n) n a, nI 2, acV T n (skF (spcB T n) n a) (nI 0))
    else (skF (spcB T n) n a + 1, skF (spcB T n) n a, if seeI T n (skF (spcB T n) n a) = nI 59 then nI 3 else nI 4, nI 0) := rfl
  generalize hb : skF (spcB T n) n a = b at A0 s1 s2
  -- from 35 on
  have j35 : ∀ g', g' 1 = nI n → g' 3 = nI b → NJ X h0 ra tp sq T n a 35 [] g' := by
    intro g' e1 e3
    refine bX5_next_35.go rfl (by repeat' first | exact trivial | rfl | assumption | omega | apply And.intro) ?_
    generalize hg2 : va_up (va_up g' 4 (g' 3)) 6 (nI 0) = g2
    have f1 : g2 1 = nI n := by rw [← hg2, va_up_ne _ _ (by decide), va_up_ne _ _ (by decide)]; exact e1
    have f3 : g2 3 = nI b := by rw [← hg2, va_up_ne _ _ (by decide), va_up_ne _ _ (by decide)]; exact e3
    have f4 : g2 4 = nI b := by rw [← hg2, va_up_ne _ _ (by decide), va_up_self]; exact e3
    have f6 : g2 6 = nI 0 := by rw [← hg2, va_up_self]
    rw [f1, f3]
    refine j_icmp_ne (tgt := 67) dX5_next_56 (by decide) (fun h56 => ?_) (fun h56 => ?_)
    rotate_left
    · have eb : b = n := (nI_eq (by omega) (by omega)).mp h56
      rw [if_pos ((see_m1 hT).mpr (by omega))] at A0
      refine bX5_next_59.go rfl (by repeat' first | exact trivial | rfl | assumption | omega | apply And.intro) ?_
      refine fin _ ?_
      rw [A0]
      exact ⟨by rw [va_up_ne _ _ (by decide)]; exact f1, by rw [va_up_ne _ _ (by decide)]; exact f3, by rw [va_up_ne _ _ (by decide)]; exact f4, va_up_self _ _ _, by rw [va_up_ne _ _ (by decide)]; exact f6⟩
    have lb : b < n := by
      have : b ≠ n := fun z => h56 (by rw [z])
      omega
    rw [if_neg (fun z => (see_m1 hT).mp z lb)] at A0
    refine bX5_next_67.go rfl trivial ?_
    refine nx_is (lo := 97) (hi := 122) hT f1 f3 hn s2 rfl dX5_next_72 rfl ?_
    rw [show (nI 97).toInt64 = 97 by decide +kernel, show (nI 122).toInt64 = 122 by decide +kernel, at_l hT]
    refine j_if_eq (tgt := 107) dX5_next_75 (by decide) (fun h75 => ?_) (fun h75 => ?_)
    rotate_left
    · -- a word
      rw [b2_n0] at h75
      rw [if_pos h75] at A0
      refine bX5_next_78.go rfl (by repeat' first | exact trivial | rfl | assumption | omega | apply And.intro) ?_
      have lp : ∀ d c g', c + d = n → g' 1 = nI n → g' 3 = nI c → g' 4 = nI b → g' 5 = nI 1 → g' 6 = nI 0 → skF (letB T n) n c = skF (letB T n) n b → NJ X h0 ra tp sq T n a 83 [] g' := by
        intro d
        induction d with
        | zero =>
          intro c g' hc e1 e3 e4 e5 e6 hs
          refine bX5_next_83.go rfl trivial ?_
          refine nx_is (lo := 97) (hi := 122) hT e1 e3 hn (by omega) rfl dX5_next_88 rfl ?_
          rw [show (nI 97).toInt64 = 97 by decide +kernel, show (nI 122).toInt64 = 122 by decide +kernel, at_l hT]
          have hf : letB T n c = false := by
            cases z : letB T n c
            · rfl
            · exact absurd (letB_lt z) (by omega)
          refine j_if_eq (tgt := 206) dX5_next_91 (by decide) (fun _ => ?_) (fun z => absurd (by rw [hf]; rfl) z)
          refine fin _ ?_
          rw [A0, ← hs, skF_f hf]
          exact ⟨e1, e3, e4, e5, e6⟩
        | succ d ih =>
          intro c g' hc e1 e3 e4 e5 e6 hs
          refine bX5_next_83.go rfl trivial ?_
          refine nx_is (lo := 97) (hi := 122) hT e1 e3 hn (by omega) rfl dX5_next_88 rfl ?_
          rw [show (nI 97).toInt64 = 97 by decide +kernel, show (nI 122).toInt64 = 122 by decide +kernel, at_l hT]
          refine j_if_eq (tgt := 206) dX5_next_91 (by decide) (fun z => ?_) (fun z => ?_)
          · rw [b2_0] at z
            refine fin _ ?_
            rw [A0, ← hs, skF_f z]
            exact ⟨e1, e3, e4, e5, e6⟩
          · rw [b2_n0] at z
            refine bX5_next_94.go rfl (by repeat' first | exact trivial | rfl | assumption | omega | apply And.intro) ?_
            rw [e3, nI_add]
            exact ih (c + 1) _ (by omega) (by rw [va_up_ne _ _ (by decide)]; exact e1) (va_up_self _ _ _) (by rw [va_up_ne _ _ (by decide)]; exact e4) (by rw [va_up_ne _ _ (by decide)]; exact e5) (by rw [va_up_ne _ _ (by decide)]; exact e6) (by rw [← hs, skF_t z (by omega)])
      exact lp (n - b) b _ (by omega) (by rw [va_up_ne _ _ (by decide)]; exact f1) (by rw [va_up_ne _ _ (by decide)]; exact f3) (by rw [va_up_ne _ _ (by decide)]; exact f4) (va_up_self _ _ _) (by rw [va_up_ne _ _ (by decide)]; exact f6) rfl
    rw [b2_0] at h75
    rw [if_neg (by rw [h75]; decide)] at A0
    refine bX5_next_107.go rfl trivial ?_
    refine nx_is (lo := 48) (hi := 57) hT f1 f3 hn s2 rfl dX5_next_112 rfl ?_
    rw [show (nI 48).toInt64 = 48 by decide +kernel, show (nI 57).toInt64 = 57 by decide +kernel, at_d hT]
    refine j_if_eq (tgt := 176) dX5_next_115 (by decide) (fun h115 => ?_) (fun h115 => ?_)
    rotate_left
    · -- a number
      rw [b2_n0] at h115
      rw [if_pos h115] at A0
      refine bX5_next_118.go rfl (by repeat' first | exact trivial | rfl | assumption | omega | apply And.intro) ?_
      have lp : ∀ d c g', c + d = n → g' 1 = nI n → g' 3 = nI c → g' 4 = nI b → g' 5 = nI 2 → skF (digB T n) n c = skF (digB T n) n b → acV T n c (g' 6) = acV T n b (nI 0) → NJ X h0 ra tp sq T n a 123 [] g' := by
        intro d
        induction d with
        | zero =>
          intro c g' hc e1 e3 e4 e5 hs hv
          refine bX5_next_123.go rfl trivial ?_
          refine nx_is (lo := 48) (hi := 57) hT e1 e3 hn (by omega) rfl dX5_next_128 rfl ?_
          rw [show (nI 48).toInt64 = 48 by decide +kernel, show (nI 57).toInt64 = 57 by decide +kernel, at_d hT]
          have hf : digB T n c = false := by
            cases z : digB T n c
            · rfl
            · exact absurd (digB_lt z) (by omega)
          refine j_if_eq (tgt := 206) dX5_next_131 (by decide) (fun _ => ?_) (fun z => absurd (by rw [hf]; rfl) z)
          refine fin _ ?_
          rw [A0, ← hs, skF_f hf, ← hv, acV_f hf]
          exact ⟨e1, e3, e4, e5, rfl⟩
        | succ d ih =>
          intro c g' hc e1 e3 e4 e5 hs hv
          refine bX5_next_123.go rfl trivial ?_
          refine nx_is (lo := 48) (hi := 57) hT e1 e3 hn (by omega) rfl dX5_next_128 rfl ?_
          rw [show (nI 48).toInt64 = 48 by decide +kernel, show (nI 57).toInt64 = 57 by decide +kernel, at_d hT]
          refine j_if_eq (tgt := 206) dX5_next_131 (by decide) (fun z => ?_) (fun z => ?_)
          · rw [b2_0] at z
            refine fin _ ?_
            rw [A0, ← hs, skF_f z, ← hv, acV_f z]
            exact ⟨e1, e3, e4, e5, rfl⟩
          · rw [b2_n0] at z
            refine bX5_next_134.go rfl (by rw [e3]; simp (disch := omega) only [vpI]; repeat' first | exact trivial | rfl | assumption | omega | apply And.intro) ?_
            rw [va_up_ne _ _ (by decide : (3 : Nat) ≠ 6), e3, nI_add, nI_clamp (by omega)]
            refine ih (c + 1) _ (by omega) (by rw [va_up_ne _ _ (by decide), va_up_ne _ _ (by decide)]; exact e1) (va_up_self _ _ _) (by rw [va_up_ne _ _ (by decide), va_up_ne _ _ (by decide)]; exact e4) (by rw [va_up_ne _ _ (by decide), va_up_ne _ _ (by decide)]; exact e5) (by rw [← hs, skF_t z (by omega)]) ?_
            rw [va_up_ne _ _ (by decide), va_up_self, ← hv, acV_t z (by omega), dig_see hT z]
      exact lp (n - b) b _ (by omega) (by rw [va_up_ne _ _ (by decide)]; exact f1) (by rw [va_up_ne _ _ (by decide)]; exact f3) (by rw [va_up_ne _ _ (by decide)]; exact f4) (va_up_self _ _ _) rfl (by rw [va_up_ne _ _ (by decide), f6])
    rw [b2_0] at h115
    rw [if_neg (by rw [h115]; decide)] at A0
    refine bX5_next_176.go rfl trivial ?_
    refine nx_is (lo := 59) (hi := 59) (st := [.ref ra]) hT f1 f3 hn s2 rfl dX5_next_182 rfl ?_
    rw [show (nI 59).toInt64 = 59 by decide +kernel, at_c hT]
    have last : ∀ z, z = (if seeI T n b = nI 59 then nI 3 else nI 4) → NJ X h0 ra tp sq T n a 193 [.int z, .ref ra] g2 := by
      intro z hz
      refine bX5_next_193.go rfl (by repeat' first | exact trivial | rfl | assumption | omega | apply And.intro) ?_
      rw [va_up_ne _ _ (by decide : (3 : Nat) ≠ 5), f3, nI_add]
      refine fin _ ?_
      rw [A0]
      exact ⟨by rw [va_up_ne _ _ (by decide), va_up_ne _ _ (by decide)]; exact f1, va_up_self _ _ _, by rw [va_up_ne _ _ (by decide), va_up_ne _ _ (by decide)]; exact f4, by rw [va_up_ne _ _ (by decide), va_up_self]; exact hz, by rw [va_up_ne _ _ (by decide), va_up_ne _ _ (by decide)]; exact f6⟩
    refine j_if_eq (tgt := 192) dX5_next_185 (by decide) (fun z => ?_) (fun z => ?_)
    · rw [b2_0, decide_eq_false_iff_not] at z
      refine bX5_next_192.go rfl trivial ?_
      exact last _ (by rw [if_neg z])
    · rw [b2_n0, decide_eq_true_eq] at z
      refine bX5_next_188.go rfl trivial ?_
      exact last _ (by rw [if_pos z])
  -- the spaces
  have lp : ∀ d c g', c + d = n → g' 1 = nI n → g' 3 = nI c → skF (spcB T n) n c = b → NJ X h0 ra tp sq T n a 0 [] g' := by
    intro d
    induction d with
    | zero =>
      intro c g' hc e1 e3 hs
      have hf : spcB T n c = false := by
        cases z : spcB T n c
        · rfl
        · exact absurd (spcB_lt z) (by omega)
      have h2 := at_s (n := n) (a := c) hT
      rw [hf, Bool.or_eq_false_iff] at h2
      rw [skF_f hf] at hs
      refine bX5_next_0.go rfl trivial ?_
      refine nx_is (lo := 32) (hi := 32) hT e1 e3 hn (by omega) rfl dX5_next_5 rfl ?_
      rw [show (nI 32).toInt64 = 32 by decide +kernel, h2.1]
      refine j_if_ne (tgt := 22) dX5_next_8 (by decide) (fun z => absurd rfl z) (fun _ => ?_)
      refine bX5_next_11.go rfl trivial ?_
      refine nx_is (lo := 10) (hi := 10) hT e1 e3 hn (by omega) rfl dX5_next_16 rfl ?_
      rw [show (nI 10).toInt64 = 10 by decide +kernel, h2.2]
      refine j_if_eq (tgt := 35) dX5_next_19 (by decide) (fun _ => ?_) (fun z => absurd rfl z)
      exact j35 g' e1 (by rw [e3, hs])
    | succ d ih =>
      intro c g' hc e1 e3 hs
      have h2 := at_s (n := n) (a := c) hT
      have go : spcB T n c = true → NJ X h0 ra tp sq T n a 22 [] g' := by
        intro hz
        refine bX5_next_22.go rfl (by repeat' first | exact trivial | rfl | assumption | omega | apply And.intro) ?_
        rw [e3, nI_add]
        exact ih (c + 1) _ (by omega) (by rw [va_up_ne _ _ (by decide)]; exact e1) (va_up_self _ _ _) (by rw [← hs, skF_t hz (by omega)])
      refine bX5_next_0.go rfl trivial ?_
      refine nx_is (lo := 32) (hi := 32) hT e1 e3 hn (by omega) rfl dX5_next_5 rfl ?_
      rw [show (nI 32).toInt64 = 32 by decide +kernel]
      refine j_if_ne (tgt := 22) dX5_next_8 (by decide) (fun z => ?_) (fun z => ?_)
      · rw [b2_n0] at z
        exact go (by rw [← h2, z]; rfl)
      rw [b2_0] at z
      refine bX5_next_11.go rfl trivial ?_
      refine nx_is (lo := 10) (hi := 10) hT e1 e3 hn (by omega) rfl dX5_next_16 rfl ?_
      rw [show (nI 10).toInt64 = 10 by decide +kernel]
      refine j_if_eq (tgt := 35) dX5_next_19 (by decide) (fun y => ?_) (fun y => ?_)
      · rw [b2_0] at y
        have hf : spcB T n c = false := by rw [← h2, z, y]; rfl
        rw [skF_f hf] at hs
        exact j35 g' e1 (by rw [e3, hs])
      · rw [b2_n0] at y
        exact go (by rw [← h2, y, Bool.or_true])
  exact lp (n - a) a g (by omega) hg ha hb
end Nxt
