set_option maxRecDepth 100000
/-! ===== looks of a minute: what holds by what is known; UnseenClockModel: holds, settled ===== -/
/-- a minute: world, who sees what, which maybes hold, looks and hours of the minute before, its number -/
abbrev MC : Type := (Nat → Int32) × (Nat → Nat → Bool) × (Nat → Nat → Bool) × (Nat → Int32) × (Nat → Int32) × Nat
def holdV (K : MC) (V : Nat → Nat → Int32) (p i : Nat) : Int32 := match K with
  | (w, _, mb, lp, sp, m) =>
    if lkI w p i 1 = nI 0 then nI 1
    else if lkI w p i 1 = nI 1 then b2 (decide (lkI w p i 3 ≤ nI m) && decide ((nI m - lkI w p i 3) - (nI m - lkI w p i 3) / lkI w p i 2 * lkI w p i 2 = 0))
    else if lkI w p i 1 = nI 2 then b2 (decide (0 < m) && (bitI (lp p) (lkI w p i 2).toNatClampNeg && decide (sp (lkI w p i 2).toNatClampNeg = lkI w p i 3)))
    else if lkI w p i 1 = nI 3 then (if (lkI w p i 2).toNatClampNeg < (w 2).toNatClampNeg then V (lkI w p i 2).toNatClampNeg (lkI w p i 0).toNatClampNeg else nI 0)
    else if lkI w p i 1 = nI 4 then (if (lkI w p i 2).toNatClampNeg < (w 2).toNatClampNeg then (if V (lkI w p i 2).toNatClampNeg (lkI w p i 0).toNatClampNeg = -1 then -1 else nI 1 - V (lkI w p i 2).toNatClampNeg (lkI w p i 0).toNatClampNeg) else nI 1)
    else b2 (mb p i)
def hasV (K : MC) (V : Nat → Nat → Int32) (p c i : Nat) : Int32 := if lkI K.1 p i 0 = nI c then holdV K V p i else nI 0
/-- 1, 0, or -1: it hangs -/
def evV (K : MC) (V : Nat → Nat → Int32) (p c : Nat) : Int32 :=
  if K.2.1 p c = false then nI 0
  else if anyN (fun i => decide (hasV K V p c i = nI 1)) (perI K.1 p 4).toNatClampNeg = true then nI 1
  else if anyN (fun i => decide (hasV K V p c i = -1)) (perI K.1 p 4).toNatClampNeg = true then -1 else nI 0
def mbA (A : Nat → Nat → Int32) (p i : Nat) : Bool := !decide (A 31 (4 * p + i) = 0)
def shA (A : Nat → Nat → Int32) (m c : Nat) : Int32 := shI (A 18 (4 * m + c)) (A 1 (32 + 6 * c + 3)) (A 1 (32 + 6 * c + 4))
def mcA (A : Nat → Nat → Int32) (m : Nat) : MC := (A 1, seeA A, mbA A, fun p => A 19 (8 * (m - 1) + p), shA A (m - 1), m)
def VA (A : Nat → Nat → Int32) : Nat → Nat → Int32 := fun p c => A 30 (4 * p + c)
theorem nI_ne {a b : Nat} (ha : a < 2 ^ 31) (hb : b < 2 ^ 31) (h : a ≠ b) : ¬ nI a = nI b := fun e => h ((nI_eq ha hb).mp e)
theorem inI_iff {a n : Nat} (ha : a < 1000) (hn : n < 1000) : inI (nI a) (nI 0) (nI n - nI 1) = decide (a < n) := by
  by_cases h : a < n
  · rw [inI_of_nat hn h]; simp [h]
  · have : inI (nI a) (nI 0) (nI n - nI 1) = false := by
      cases hh : inI (nI a) (nI 0) (nI n - nI 1) with
      | false => rfl
      | true =>
        obtain ⟨b, hb, e⟩ := inI_nat hn hh
        have := (nI_eq (by omega) (by omega)).mp e
        omega
    rw [this]; simp [h]
/-- a look's numbers -/
theorem WOk.look {w : Nat → Int32} {v : Nat → Nat} (hw : WOk w v) {p i : Nat} (hp : p < v 2) (hi : i < v (56 + 33 * p + 4)) : ∃ c k n q : Nat, lkI w p i 0 = nI c ∧ lkI w p i 1 = nI k ∧ lkI w p i 2 = nI n ∧ lkI w p i 3 = nI q ∧ c < v 1 ∧ k ≤ 5 ∧ n ≤ 100 ∧ q ≤ 59 ∧ (k = 1 → 1 ≤ n) ∧ (k = 2 → n < v 1) := by
  have h8 : v 2 ≤ 8 := hw.2.2.2.1
  have hP := hw.2.2.2.2.2.2.2.2.2.2.2.1 p hp
  have h4 := hP.2.2.2.2.1
  have h := hP.2.2.2.2.2.2 i hi
  exact ⟨v (56 + 33 * p + (17 + 4 * i)), v (56 + 33 * p + (17 + 4 * i + 1)), v (56 + 33 * p + (17 + 4 * i + 2)), v (56 + 33 * p + (17 + 4 * i + 3)), hw.1 _ (by omega), hw.1 _ (by omega), hw.1 _ (by omega), hw.1 _ (by omega), h.1, h.2.1, h.2.2.2.2.1, h.2.2.2.2.2, h.2.2.1, h.2.2.2.1⟩
/-- a clock's numbers -/
theorem WOk.clock {w : Nat → Int32} {v : Nat → Nat} (hw : WOk w v) {c : Nat} (hc : c < v 1) : ¬ w (32 + 6 * c + 3) = 0 ∧ ¬ w (32 + 6 * c + 4) = 0 := by
  have h4 : v 1 ≤ 4 := hw.2.2.1
  have hK := hw.2.2.2.2.2.2.2.2.2.2.1 c hc
  rw [hw.1 _ (by omega), hw.1 (32 + 6 * c + 4) (by omega)]
  exact ⟨nI_ne0 (by have := hK.2.2.2.1; omega) (by have := hK.2.2.2.2.1; omega), nI_ne0 (by have := hK.2.2.2.2.2.1; omega) (by have := hK.2.2.2.2.2.2.1; omega)⟩
def F_holds (p i m : Int32) : Tau → Prop × Option Value × Tau := fun (o, ad, A, B) => (∃ (v : Nat → Nat) (pn iN mn : Nat), WOk (A 1) v ∧ pn < v 2 ∧ iN < v (56 + 33 * pn + 4) ∧ mn < 40 ∧ p = nI pn ∧ i = nI iN ∧ m = nI mn, some (.int (holdV (mcA A m.toNatClampNeg) (VA A) p.toNatClampNeg i.toNatClampNeg)), (o, ad, A, B))
theorem bX4_holds_0 : Blk TP mX4_holds 0 34 [oAL 0, oIL 1, oIL 2, oC (nI 0), tC_III F_lookOf, oIS 4, oAL 0, oIL 1, oIL 2, oC (nI 2), tC_III F_lookOf, oIS 5, oAL 0, oIL 1, oIL 2, oC (nI 3), tC_III F_lookOf, oIS 6, oAL 0, oIL 1, oIL 2, oC (nI 1), tC_III F_lookOf] := blk_c (s_aload_n dX4_holds_0 rfl) <| blk_c (s_iload_n dX4_holds_1 rfl) <| blk_c (s_iload_n dX4_holds_2 rfl) <| blk_c (s_iconst dX4_holds_3 (by decide +kernel)) <| blk_c (tc_III ok_lookOf gX4_lookOf (by decide +kernel) (by decide) dX4_holds_4) <| blk_c (s_istore dX4_holds_7 (by decide)) <| blk_c (s_aload_n dX4_holds_9 rfl) <| blk_c (s_iload_n dX4_holds_10 rfl) <| blk_c (s_iload_n dX4_holds_11 rfl) <| blk_c (s_iconst dX4_holds_12 (by decide +kernel)) <| blk_c (tc_III ok_lookOf gX4_lookOf (by decide +kernel) (by decide) dX4_holds_13) <| blk_c (s_istore dX4_holds_16 (by decide)) <| blk_c (s_aload_n dX4_holds_18 rfl) <| blk_c (s_iload_n dX4_holds_19 rfl) <| blk_c (s_iload_n dX4_holds_20 rfl) <| blk_c (s_iconst dX4_holds_21 (by decide +kernel)) <| blk_c (tc_III ok_lookOf gX4_lookOf (by decide +kernel) (by decide) dX4_holds_22) <| blk_c (s_istore dX4_holds_25 (by decide)) <| blk_c (s_aload_n dX4_holds_27 rfl) <| blk_c (s_iload_n dX4_holds_28 rfl) <| blk_c (s_iload_n dX4_holds_29 rfl) <| blk_c (s_iconst dX4_holds_30 (by decide +kernel)) <| blk_c (tc_III ok_lookOf gX4_lookOf (by decide +kernel) (by decide) dX4_holds_31) <| blk_nil
theorem bX4_holds_68 : Blk TP mX4_holds 68 69 [oC (nI 1)] := blk_c (s_iconst dX4_holds_68 (by decide +kernel)) <| blk_nil
theorem bX4_holds_70 : Blk TP mX4_holds 70 73 [oIL 3, oIL 6] := blk_c (s_iload_n dX4_holds_70 rfl) <| blk_c (s_iload dX4_holds_71) <| blk_nil
theorem bX4_holds_76 : Blk TP mX4_holds 76 83 [oIL 3, oIL 6, oSub, oIL 5, oRem] := blk_c (s_iload_n dX4_holds_76 rfl) <| blk_c (s_iload dX4_holds_77) <| blk_c (s_isub dX4_holds_79) <| blk_c (s_iload dX4_holds_80) <| blk_c (s_irem dX4_holds_82) <| blk_nil
theorem bX4_holds_86 : Blk TP mX4_holds 86 91 [oC (nI 1), .inl (fun s => some s)] := blk_c (s_iconst dX4_holds_86 (by decide +kernel)) <| blk_c (s_goto (tgt := 91) dX4_holds_87 (by decide)) <| blk_nil
theorem bX4_holds_90 : Blk TP mX4_holds 90 91 [oC (nI 0)] := blk_c (s_iconst dX4_holds_90 (by decide +kernel)) <| blk_nil
theorem bX4_holds_92 : Blk TP mX4_holds 92 93 [oIL 3] := blk_c (s_iload_n dX4_holds_92 rfl) <| blk_nil
theorem bX4_holds_96 : Blk TP mX4_holds 96 115 [oAL 0, tR 19, oC (nI 8), oIL 3, oC (nI 1), oSub, oMul, oIL 1, oAdd, tAI 19 320, oIL 5, oShr, oC (nI 1), oAnd, oC (nI 1)] := blk_c (s_aload_n dX4_holds_96 rfl) <| blk_c (tgX4_19 rfl dX4_holds_97) <| blk_c (s_bipush dX4_holds_100 (by decide +kernel)) <| blk_c (s_iload_n dX4_holds_102 rfl) <| blk_c (s_iconst dX4_holds_103 (by decide +kernel)) <| blk_c (s_isub dX4_holds_104) <| blk_c (s_imul dX4_holds_105) <| blk_c (s_iload_n dX4_holds_106 rfl) <| blk_c (s_iadd dX4_holds_107) <| blk_c (t_iald rfl dX4_holds_108) <| blk_c (s_iload dX4_holds_109) <| blk_c (s_ishr dX4_holds_111) <| blk_c (s_iconst dX4_holds_112 (by decide +kernel)) <| blk_c (s_iand dX4_holds_113) <| blk_c (s_iconst dX4_holds_114 (by decide +kernel)) <| blk_nil
theorem bX4_holds_118 : Blk TP mX4_holds 118 129 [oAL 0, oIL 5, oIL 3, oC (nI 1), oSub, tC_II F_shownAt, oIL 6] := blk_c (s_aload_n dX4_holds_118 rfl) <| blk_c (s_iload dX4_holds_119) <| blk_c (s_iload_n dX4_holds_121 rfl) <| blk_c (s_iconst dX4_holds_122 (by decide +kernel)) <| blk_c (s_isub dX4_holds_123) <| blk_c (tc_II ok_shownAt gX4_shownAt (by decide +kernel) (by decide) dX4_holds_124) <| blk_c (s_iload dX4_holds_127) <| blk_nil
theorem bX4_holds_132 : Blk TP mX4_holds 132 137 [oC (nI 1), .inl (fun s => some s)] := blk_c (s_iconst dX4_holds_132 (by decide +kernel)) <| blk_c (s_goto (tgt := 137) dX4_holds_133 (by decide)) <| blk_nil
theorem bX4_holds_136 : Blk TP mX4_holds 136 137 [oC (nI 0)] := blk_c (s_iconst dX4_holds_136 (by decide +kernel)) <| blk_nil
theorem bX4_holds_138 : Blk TP mX4_holds 138 144 [oAL 0, oIL 5, tC_I F_isPerson] := blk_c (s_aload_n dX4_holds_138 rfl) <| blk_c (s_iload dX4_holds_139) <| blk_c (tc_I ok_isPerson gX4_isPerson (by decide +kernel) (by decide) dX4_holds_141) <| blk_nil
theorem bX4_holds_147 : Blk TP mX4_holds 147 163 [oAL 0, tR 30, oC (nI 4), oIL 5, oMul, oIL 4, oAdd, tAI 30 32, .inl (fun s => some s)] := blk_c (s_aload_n dX4_holds_147 rfl) <| blk_c (tgX4_30 rfl dX4_holds_148) <| blk_c (s_iconst dX4_holds_151 (by decide +kernel)) <| blk_c (s_iload dX4_holds_152) <| blk_c (s_imul dX4_holds_154) <| blk_c (s_iload dX4_holds_155) <| blk_c (s_iadd dX4_holds_157) <| blk_c (t_iald rfl dX4_holds_158) <| blk_c (s_goto (tgt := 163) dX4_holds_159 (by decide)) <| blk_nil
theorem bX4_holds_162 : Blk TP mX4_holds 162 163 [oC (nI 0)] := blk_c (s_iconst dX4_holds_162 (by decide +kernel)) <| blk_nil
theorem bX4_holds_164 : Blk TP mX4_holds 164 170 [oAL 0, oIL 5, tC_I F_isPerson] := blk_c (s_aload_n dX4_holds_164 rfl) <| blk_c (s_iload dX4_holds_165) <| blk_c (tc_I ok_isPerson gX4_isPerson (by decide +kernel) (by decide) dX4_holds_167) <| blk_nil
theorem bX4_holds_173 : Blk TP mX4_holds 173 211 [oC (nI 1), .inl (fun s => some s)] := blk_c (s_iconst dX4_holds_173 (by decide +kernel)) <| blk_c (s_goto (tgt := 211) dX4_holds_174 (by decide)) <| blk_nil
theorem bX4_holds_177 : Blk TP mX4_holds 177 190 [oAL 0, tR 30, oC (nI 4), oIL 5, oMul, oIL 4, oAdd, tAI 30 32, oC (-1)] := blk_c (s_aload_n dX4_holds_177 rfl) <| blk_c (tgX4_30 rfl dX4_holds_178) <| blk_c (s_iconst dX4_holds_181 (by decide +kernel)) <| blk_c (s_iload dX4_holds_182) <| blk_c (s_imul dX4_holds_184) <| blk_c (s_iload dX4_holds_185) <| blk_c (s_iadd dX4_holds_187) <| blk_c (t_iald rfl dX4_holds_188) <| blk_c (s_iconst dX4_holds_189 (by decide +kernel)) <| blk_nil
theorem bX4_holds_193 : Blk TP mX4_holds 193 211 [oC (-1), .inl (fun s => some s)] := blk_c (s_iconst dX4_holds_193 (by decide +kernel)) <| blk_c (s_goto (tgt := 211) dX4_holds_194 (by decide)) <| blk_nil
theorem bX4_holds_197 : Blk TP mX4_holds 197 211 [oC (nI 1), oAL 0, tR 30, oC (nI 4), oIL 5, oMul, oIL 4, oAdd, tAI 30 32, oSub] := blk_c (s_iconst dX4_holds_197 (by decide +kernel)) <| blk_c (s_aload_n dX4_holds_198 rfl) <| blk_c (tgX4_30 rfl dX4_holds_199) <| blk_c (s_iconst dX4_holds_202 (by decide +kernel)) <| blk_c (s_iload dX4_holds_203) <| blk_c (s_imul dX4_holds_205) <| blk_c (s_iload dX4_holds_206) <| blk_c (s_iadd dX4_holds_208) <| blk_c (t_iald rfl dX4_holds_209) <| blk_c (s_isub dX4_holds_210) <| blk_nil
theorem bX4_holds_212 : Blk TP mX4_holds 212 222 [oAL 0, tR 31, oC (nI 4), oIL 1, oMul, oIL 2, oAdd, tAI 31 32] := blk_c (s_aload_n dX4_holds_212 rfl) <| blk_c (tgX4_31 rfl dX4_holds_213) <| blk_c (s_iconst dX4_holds_216 (by decide +kernel)) <| blk_c (s_iload_n dX4_holds_217 rfl) <| blk_c (s_imul dX4_holds_218) <| blk_c (s_iload_n dX4_holds_219 rfl) <| blk_c (s_iadd dX4_holds_220) <| blk_c (t_zald rfl dX4_holds_221) <| blk_nil
theorem bX4_holds_225 : Blk TP mX4_holds 225 230 [oC (nI 1), .inl (fun s => some s)] := blk_c (s_iconst dX4_holds_225 (by decide +kernel)) <| blk_c (s_goto (tgt := 230) dX4_holds_226 (by decide)) <| blk_nil
theorem bX4_holds_229 : Blk TP mX4_holds 229 230 [oC (nI 0)] := blk_c (s_iconst dX4_holds_229 (by decide +kernel)) <| blk_nil
theorem ok_holds : TC_III mX4_holds F_holds := by
  intro X p i m ⟨o, ad, A, B⟩ P r y hF hP
  cases hF
  obtain ⟨v, pn, iN, mn, hw, hp, hi, hm, rfl, rfl, rfl⟩ := hP
  have h8 : v 2 ≤ 8 := hw.2.2.2.1
  have h4 : v 1 ≤ 4 := hw.2.2.1
  have hi4 : iN < 4 := by have := (hw.2.2.2.2.2.2.2.2.2.2.2.1 pn hp).2.2.2.2.1; omega
  have e2 : A 1 2 = nI (v 2) := hw.1 2 (by decide)
  obtain ⟨c, k, n, q, ec, ek, en, eq, hc, hk, hn, hq, hk1, hk2⟩ := hw.look hp hi
  refine T_start (L := [some (.ref o), some (.int (nI pn)), some (.int (nI iN)), some (.int (nI mn)), none, none, none]) 3 rfl ?_
  refine bX4_holds_0.go rfl (by simp (disch := omega) only [vpI]; exact ⟨⟨trivial, by omega, by omega, by omega⟩, ⟨trivial, by omega, by omega, by omega⟩, ⟨trivial, by omega, by omega, by omega⟩, ⟨trivial, by omega, by omega, by omega⟩, trivial⟩) ?_
  simp (disch := omega) only [nI_clamp, ec, ek, en, eq]
  have hH : holdV (mcA A mn) (VA A) pn iN = (if k = 0 then nI 1 else if k = 1 then b2 (decide (nI q ≤ nI mn) && decide ((nI mn - nI q) - (nI mn - nI q) / nI n * nI n = 0)) else if k = 2 then b2 (decide (0 < mn) && (bitI (A 19 (8 * (mn - 1) + pn)) n && decide (shA A (mn - 1) n = nI q))) else if k = 3 then (if n < v 2 then VA A n c else nI 0) else if k = 4 then (if n < v 2 then (if VA A n c = -1 then -1 else nI 1 - VA A n c) else nI 1) else b2 (mbA A pn iN)) := by
    simp (disch := omega) only [holdV, mcA, ec, ek, en, eq, e2, nI_clamp, nI_eq]
    rfl
  rw [hH]
  have hk' : k = 0 ∨ k = 1 ∨ k = 2 ∨ k = 3 ∨ k = 4 ∨ k = 5 := by omega
  rcases hk' with rfl | rfl | rfl | rfl | rfl | rfl
  · refine j_tableIn (off := 34) (tgt := 68) dX4_holds_34 (by decide +kernel) (by decide +kernel) (by decide +kernel) (by decide) ?_
    refine bX4_holds_68.go rfl trivial ?_
    exact t_iret dX4_holds_69 rfl (by first | rfl | simp) (by first | rfl | simp)
  · refine j_tableIn (off := 36) (tgt := 70) dX4_holds_34 (by decide +kernel) (by decide +kernel) (by decide +kernel) (by decide) ?_
    have hn0 : ¬ nI n = 0 := nI_ne0 (hk1 rfl) (by omega)
    refine bX4_holds_70.go rfl trivial ?_
    refine j_icmp_lt (tgt := 90) dX4_holds_73 (by decide) (fun h73 => ?_) (fun h73 => ?_)
    · refine bX4_holds_90.go rfl trivial ?_
      exact t_iret dX4_holds_91 rfl (by first | rfl | (simp only [Nat.one_ne_zero, if_false, if_true]; first | exact sv_int (b2_t (by simp_all)) | exact sv_int (b2_f (by simp_all [← Int32.not_lt])))) (by first | rfl | (simp only [Nat.one_ne_zero, if_false, if_true]; first | exact sv_int (b2_t (by simp_all)) | exact sv_int (b2_f (by simp_all [← Int32.not_lt]))))
    · refine bX4_holds_76.go rfl (by exact ⟨hn0, trivial⟩) ?_
      refine j_if_ne (tgt := 90) dX4_holds_83 (by decide) (fun h83 => ?_) (fun h83 => ?_)
      · refine bX4_holds_90.go rfl trivial ?_
        exact t_iret dX4_holds_91 rfl (by first | rfl | (simp only [Nat.one_ne_zero, if_false, if_true]; first | exact sv_int (b2_t (by simp_all)) | exact sv_int (b2_f (by simp_all [← Int32.not_lt])))) (by first | rfl | (simp only [Nat.one_ne_zero, if_false, if_true]; first | exact sv_int (b2_t (by simp_all)) | exact sv_int (b2_f (by simp_all [← Int32.not_lt]))))
      · refine bX4_holds_86.go rfl trivial ?_
        exact t_iret dX4_holds_91 rfl (by first | rfl | (simp only [Nat.one_ne_zero, if_false, if_true]; first | exact sv_int (b2_t (by simp_all)) | exact sv_int (b2_f (by simp_all [← Int32.not_lt])))) (by first | rfl | (simp only [Nat.one_ne_zero, if_false, if_true]; first | exact sv_int (b2_t (by simp_all)) | exact sv_int (b2_f (by simp_all [← Int32.not_lt]))))
  · refine j_tableIn (off := 58) (tgt := 92) dX4_holds_34 (by decide +kernel) (by decide +kernel) (by decide +kernel) (by decide) ?_
    have hcl := hw.clock (hk2 rfl)
    have hn1 := hk2 rfl
    refine bX4_holds_92.go rfl trivial ?_
    refine j_if_le (tgt := 136) dX4_holds_93 (by decide) (fun h93 => ?_) (fun h93 => ?_)
    · rw [← nI_0, nI_leI (by omega) (by omega)] at h93
      refine bX4_holds_136.go rfl trivial ?_
      exact t_iret dX4_holds_137 rfl (sv_int (b2_f (by simp; omega))) rfl
    · rw [← nI_0, nI_leI (by omega) (by omega)] at h93
      refine bX4_holds_96.go rfl (by simp (disch := omega) only [nI_add, pk_mul, pk_sub, vpI]; exact ⟨trivial, ⟨trivial, by omega⟩, trivial⟩) ?_
      simp (disch := omega) only [nI_add, pk_mul, pk_sub, nI_clamp]
      refine j_icmp_ne (tgt := 136) dX4_holds_115 (by decide) (fun h115 => ?_) (fun h115 => ?_)
      · rw [bitI_1] at h115
        refine bX4_holds_136.go rfl trivial ?_
        exact t_iret dX4_holds_137 rfl (sv_int (b2_f (by simp [h115]))) rfl
      · rw [bitI_1] at h115
        refine bX4_holds_118.go rfl (by simp (disch := omega) only [pk_sub, vpI, nI_clamp]; exact ⟨⟨trivial, by omega, by omega, hcl⟩, trivial⟩) ?_
        simp (disch := omega) only [pk_sub, nI_clamp]
        refine j_icmp_ne (tgt := 136) dX4_holds_129 (by decide) (fun h129 => ?_) (fun h129 => ?_)
        · refine bX4_holds_136.go rfl trivial ?_
          exact t_iret dX4_holds_137 rfl (sv_int (b2_f (by simp only [shA, h129]; simp))) rfl
        · refine bX4_holds_132.go rfl trivial ?_
          exact t_iret dX4_holds_137 rfl (sv_int (b2_t (by simp only [shA, h129, h115]; simp; omega))) rfl
  · refine j_tableIn (off := 104) (tgt := 138) dX4_holds_34 (by decide +kernel) (by decide +kernel) (by decide +kernel) (by decide) ?_
    refine bX4_holds_138.go rfl ⟨⟨rfl, trivial⟩, trivial⟩ ?_
    rw [e2, inI_iff (by omega) (by omega)]
    refine j_if_eq (tgt := 162) dX4_holds_144 (by decide) (fun h144 => ?_) (fun h144 => ?_)
    · rw [b2_0, decide_eq_false_iff_not] at h144
      refine bX4_holds_162.go rfl trivial ?_
      exact t_iret dX4_holds_163 rfl (by simp [h144]) rfl
    · rw [b2_n0, decide_eq_true_eq] at h144
      refine bX4_holds_147.go rfl (by simp (disch := omega) only [nI_add, pk_mul, vpI]; exact ⟨trivial, ⟨trivial, by omega⟩, trivial⟩) ?_
      exact t_iret dX4_holds_163 rfl (by simp (disch := omega) only [nI_add, pk_mul, nI_clamp]; simp [h144, VA]) rfl
  · refine j_tableIn (off := 130) (tgt := 164) dX4_holds_34 (by decide +kernel) (by decide +kernel) (by decide +kernel) (by decide) ?_
    refine bX4_holds_164.go rfl ⟨⟨rfl, trivial⟩, trivial⟩ ?_
    rw [e2, inI_iff (by omega) (by omega)]
    refine j_if_ne (tgt := 177) dX4_holds_170 (by decide) (fun h170 => ?_) (fun h170 => ?_)
    · rw [b2_n0, decide_eq_true_eq] at h170
      refine bX4_holds_177.go rfl (by simp (disch := omega) only [nI_add, pk_mul, vpI]; exact ⟨trivial, ⟨trivial, by omega⟩, trivial⟩) ?_
      simp (disch := omega) only [nI_add, pk_mul, nI_clamp]
      refine j_icmp_ne (tgt := 197) dX4_holds_190 (by decide) (fun h190 => ?_) (fun h190 => ?_)
      · refine bX4_holds_197.go rfl (by simp (disch := omega) only [nI_add, pk_mul, vpI]; exact ⟨trivial, ⟨trivial, by omega⟩, trivial⟩) ?_
        exact t_iret dX4_holds_211 rfl (by simp (disch := omega) only [nI_add, pk_mul, nI_clamp]; simp [h170, VA, h190]) rfl
      · refine bX4_holds_193.go rfl trivial ?_
        exact t_iret dX4_holds_211 rfl (by simp [h170, VA, h190]) rfl
    · rw [b2_0, decide_eq_false_iff_not] at h170
      refine bX4_holds_173.go rfl trivial ?_
      exact t_iret dX4_holds_211 rfl (by simp [h170]) rfl
  · refine j_tableOut (tgt := 212) dX4_holds_34 (by decide +kernel) (by decide) ?_
    refine bX4_holds_212.go rfl (by simp (disch := omega) only [nI_add, pk_mul, vpI]; exact ⟨trivial, ⟨trivial, by omega⟩, trivial⟩) ?_
    simp (disch := omega) only [nI_add, pk_mul, nI_clamp]
    refine j_if_eq (tgt := 229) dX4_holds_222 (by decide) (fun h222 => ?_) (fun h222 => ?_)
    · refine bX4_holds_229.go rfl trivial ?_
      exact t_iret dX4_holds_230 rfl (by first | rfl | (simp only [show ¬ (5 = 0) by decide, show ¬ (5 = 1) by decide, show ¬ (5 = 2) by decide, show ¬ (5 = 3) by decide, show ¬ (5 = 4) by decide, if_false]; first | exact sv_int (b2_t (by simp_all [mbA])) | exact sv_int (b2_f (by simp_all [mbA])))) (by first | rfl | (simp only [show ¬ (5 = 0) by decide, show ¬ (5 = 1) by decide, show ¬ (5 = 2) by decide, show ¬ (5 = 3) by decide, show ¬ (5 = 4) by decide, if_false]; first | exact sv_int (b2_t (by simp_all [mbA])) | exact sv_int (b2_f (by simp_all [mbA]))))
    · refine bX4_holds_225.go rfl trivial ?_
      exact t_iret dX4_holds_230 rfl (by first | rfl | (simp only [show ¬ (5 = 0) by decide, show ¬ (5 = 1) by decide, show ¬ (5 = 2) by decide, show ¬ (5 = 3) by decide, show ¬ (5 = 4) by decide, if_false]; first | exact sv_int (b2_t (by simp_all [mbA])) | exact sv_int (b2_f (by simp_all [mbA])))) (by first | rfl | (simp only [show ¬ (5 = 0) by decide, show ¬ (5 = 1) by decide, show ¬ (5 = 2) by decide, show ¬ (5 = 3) by decide, show ¬ (5 = 4) by decide, if_false]; first | exact sv_int (b2_t (by simp_all [mbA])) | exact sv_int (b2_f (by simp_all [mbA]))))
