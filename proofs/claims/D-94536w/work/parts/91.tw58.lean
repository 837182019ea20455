set_option maxRecDepth 100000
/-! ===== UnseenClockModel: readLook ===== -/
def lk0 (T : Nat → Int32) (n : Nat) (s : RdE) (w : Nat → Int32) : Int32 × RdE := fclE T n (needsE T n 4 s) w
def lkW (i : Nat) (c : Int32) (w : Nat → Int32) : Nat → Int32 := va_up (va_up (va_up w i c) (i + 2) (nI 0)) (i + 3) (nI 0)
def hab2 (T : Nat → Int32) (n i : Nat) (kind : Int32) (a b : Int32 × RdE) (w : Nat → Int32) : RdE × (Nat → Int32) := (b.2, va_up (va_up (va_up w (i + 1) kind) (i + 2) a.1) (i + 3) b.1)
def hab1 (i : Nat) (kind : Int32) (a : Int32 × RdE) (w : Nat → Int32) : RdE × (Nat → Int32) := (a.2, va_up (va_up w (i + 1) kind) (i + 2) a.1)
/-- a habit is read, its numbers go to i + 1 .. i + 3 -/
def habE (T : Nat → Int32) (n i : Nat) (s : RdE) (w : Nat → Int32) : RdE × (Nat → Int32) :=
  if isE T 13 s = true then (advE T n s, va_up w (i + 1) (nI 0))
  else if isE T 14 s = true then hab2 T n i (nI 1) (numE T n (nI 1) (nI 40) (advE T n s)) (toldE T n 15 (nI 0) (nI 39) (numE T n (nI 1) (nI 40) (advE T n s)).2) w
  else if isE T 16 s = true then hab2 T n i (nI 2) (fclE T n (advE T n s) w) (toldE T n 17 (nI 0) (nI 59) (fclE T n (advE T n s) w).2) w
  else if isE T 18 s = true then hab1 i (nI 3) (numE T n (nI 0) (nI 7) (advE T n s)) w
  else if isE T 19 s = true then hab1 i (nI 4) (numE T n (nI 0) (nI 7) (advE T n s)) w
  else hab1 i (nI 5) (numE T n (nI 0) (nI 100) (needsE T n 20 s)) w
theorem habE_at {T : Nat → Int32} {n i j : Nat} {s : RdE} {w : Nat → Int32} (h : j ≤ i ∨ i + 3 < j) : (habE T n i s w).2 j = w j := by
  unfold habE hab1 hab2
  repeat' split
  all_goals (simp only []; repeat rw [va_up_ne _ _ (by omega)])
/-- a look of person p is read as his l-th -/
def lookE (T : Nat → Int32) (n p l : Nat) (s : RdE) (w : Nat → Int32) : RdE × (Nat → Int32) := ((habE T n (56 + 33 * p + 17 + 4 * l) (lk0 T n s w).2 (lkW (56 + 33 * p + 17 + 4 * l) (lk0 T n s w).1 w)).1, va_up (habE T n (56 + 33 * p + 17 + 4 * l) (lk0 T n s w).2 (lkW (56 + 33 * p + 17 + 4 * l) (lk0 T n s w).1 w)).2 (56 + 33 * p + 4) (nI (l + 1)))
theorem takesE_f {T : Nat → Int32} {n i : Nat} {s : RdE} (h : isE T i s = false) : takesE T n i s = s := by rw [takesE, h]; rfl
theorem takesE_t {T : Nat → Int32} {n i : Nat} {s : RdE} (h : isE T i s = true) : takesE T n i s = advE T n s := by rw [takesE, if_pos h]
theorem bX4_readLook_0 : Blk TP mX4_readLook 0 22 [oAL 0, tC_V F_latest, oIS 1, oIL 1, oC (nI 17), oAdd, oC (nI 4), oAL 0, tR 14, oIL 1, oC (nI 4), oAdd, tAI 14 320, oMul, oAdd, oIS 2, oAL 0] := blk_c (s_aload_n dX4_readLook_0 rfl) <| blk_c (tc_V ok_latest gX4_latest (by decide +kernel) (by decide) dX4_readLook_1) <| blk_c (s_istore_n dX4_readLook_4 rfl (by decide)) <| blk_c (s_iload_n dX4_readLook_5 rfl) <| blk_c (s_bipush dX4_readLook_6 (by decide +kernel)) <| blk_c (s_iadd dX4_readLook_8) <| blk_c (s_iconst dX4_readLook_9 (by decide +kernel)) <| blk_c (s_aload_n dX4_readLook_10 rfl) <| blk_c (tgX4_14 rfl dX4_readLook_11) <| blk_c (s_iload_n dX4_readLook_14 rfl) <| blk_c (s_iconst dX4_readLook_15 (by decide +kernel)) <| blk_c (s_iadd dX4_readLook_16) <| blk_c (t_iald rfl dX4_readLook_17) <| blk_c (s_imul dX4_readLook_18) <| blk_c (s_iadd dX4_readLook_19) <| blk_c (s_istore_n dX4_readLook_20 rfl (by decide)) <| blk_c (s_aload_n dX4_readLook_21 rfl) <| blk_nil
theorem bX4_readLook_27 : Blk TP mX4_readLook 27 33 [oAL 0, tR 14, oIL 2, oAL 0] := blk_c (s_aload_n dX4_readLook_27 rfl) <| blk_c (tgX4_14 rfl dX4_readLook_28) <| blk_c (s_iload_n dX4_readLook_31 rfl) <| blk_c (s_aload_n dX4_readLook_32 rfl) <| blk_nil
theorem bX4_readLook_36 : Blk TP mX4_readLook 36 56 [tSI 14 320, oAL 0, tR 14, oIL 2, oC (nI 2), oAdd, oC (nI 0), tSI 14 320, oAL 0, tR 14, oIL 2, oC (nI 3), oAdd, oC (nI 0), tSI 14 320, oAL 0] := blk_c (t_iast rfl dX4_readLook_36) <| blk_c (s_aload_n dX4_readLook_37 rfl) <| blk_c (tgX4_14 rfl dX4_readLook_38) <| blk_c (s_iload_n dX4_readLook_41 rfl) <| blk_c (s_iconst dX4_readLook_42 (by decide +kernel)) <| blk_c (s_iadd dX4_readLook_43) <| blk_c (s_iconst dX4_readLook_44 (by decide +kernel)) <| blk_c (t_iast rfl dX4_readLook_45) <| blk_c (s_aload_n dX4_readLook_46 rfl) <| blk_c (tgX4_14 rfl dX4_readLook_47) <| blk_c (s_iload_n dX4_readLook_50 rfl) <| blk_c (s_iconst dX4_readLook_51 (by decide +kernel)) <| blk_c (s_iadd dX4_readLook_52) <| blk_c (s_iconst dX4_readLook_53 (by decide +kernel)) <| blk_c (t_iast rfl dX4_readLook_54) <| blk_c (s_aload_n dX4_readLook_55 rfl) <| blk_nil
theorem bX4_readLook_64 : Blk TP mX4_readLook 64 281 [oAL 0, tR 14, oIL 2, oC (nI 1), oAdd, oC (nI 0), tSI 14 320, .inl (fun s => some s)] := blk_c (s_aload_n dX4_readLook_64 rfl) <| blk_c (tgX4_14 rfl dX4_readLook_65) <| blk_c (s_iload_n dX4_readLook_68 rfl) <| blk_c (s_iconst dX4_readLook_69 (by decide +kernel)) <| blk_c (s_iadd dX4_readLook_70) <| blk_c (s_iconst dX4_readLook_71 (by decide +kernel)) <| blk_c (t_iast rfl dX4_readLook_72) <| blk_c (s_goto (tgt := 281) dX4_readLook_73 (by decide)) <| blk_nil
theorem bX4_readLook_76 : Blk TP mX4_readLook 76 77 [oAL 0] := blk_c (s_aload_n dX4_readLook_76 rfl) <| blk_nil
theorem bX4_readLook_85 : Blk TP mX4_readLook 85 105 [oAL 0, tR 14, oIL 2, oC (nI 1), oAdd, oC (nI 1), tSI 14 320, oAL 0, tR 14, oIL 2, oC (nI 2), oAdd, oAL 0, oC (nI 1), oC (nI 40)] := blk_c (s_aload_n dX4_readLook_85 rfl) <| blk_c (tgX4_14 rfl dX4_readLook_86) <| blk_c (s_iload_n dX4_readLook_89 rfl) <| blk_c (s_iconst dX4_readLook_90 (by decide +kernel)) <| blk_c (s_iadd dX4_readLook_91) <| blk_c (s_iconst dX4_readLook_92 (by decide +kernel)) <| blk_c (t_iast rfl dX4_readLook_93) <| blk_c (s_aload_n dX4_readLook_94 rfl) <| blk_c (tgX4_14 rfl dX4_readLook_95) <| blk_c (s_iload_n dX4_readLook_98 rfl) <| blk_c (s_iconst dX4_readLook_99 (by decide +kernel)) <| blk_c (s_iadd dX4_readLook_100) <| blk_c (s_aload_n dX4_readLook_101 rfl) <| blk_c (s_iconst dX4_readLook_102 (by decide +kernel)) <| blk_c (s_bipush dX4_readLook_103 (by decide +kernel)) <| blk_nil
theorem bX4_readLook_108 : Blk TP mX4_readLook 108 117 [tSI 14 320, oAL 0, tR 14, oIL 2, oC (nI 3), oAdd, oAL 0] := blk_c (t_iast rfl dX4_readLook_108) <| blk_c (s_aload_n dX4_readLook_109 rfl) <| blk_c (tgX4_14 rfl dX4_readLook_110) <| blk_c (s_iload_n dX4_readLook_113 rfl) <| blk_c (s_iconst dX4_readLook_114 (by decide +kernel)) <| blk_c (s_iadd dX4_readLook_115) <| blk_c (s_aload_n dX4_readLook_116 rfl) <| blk_nil
theorem bX4_readLook_119 : Blk TP mX4_readLook 119 122 [oC (nI 0), oC (nI 39)] := blk_c (s_iconst dX4_readLook_119 (by decide +kernel)) <| blk_c (s_bipush dX4_readLook_120 (by decide +kernel)) <| blk_nil
theorem bX4_readLook_125 : Blk TP mX4_readLook 125 281 [tSI 14 320, .inl (fun s => some s)] := blk_c (t_iast rfl dX4_readLook_125) <| blk_c (s_goto (tgt := 281) dX4_readLook_126 (by decide)) <| blk_nil
theorem bX4_readLook_129 : Blk TP mX4_readLook 129 130 [oAL 0] := blk_c (s_aload_n dX4_readLook_129 rfl) <| blk_nil
theorem bX4_readLook_138 : Blk TP mX4_readLook 138 155 [oAL 0, tR 14, oIL 2, oC (nI 1), oAdd, oC (nI 2), tSI 14 320, oAL 0, tR 14, oIL 2, oC (nI 2), oAdd, oAL 0] := blk_c (s_aload_n dX4_readLook_138 rfl) <| blk_c (tgX4_14 rfl dX4_readLook_139) <| blk_c (s_iload_n dX4_readLook_142 rfl) <| blk_c (s_iconst dX4_readLook_143 (by decide +kernel)) <| blk_c (s_iadd dX4_readLook_144) <| blk_c (s_iconst dX4_readLook_145 (by decide +kernel)) <| blk_c (t_iast rfl dX4_readLook_146) <| blk_c (s_aload_n dX4_readLook_147 rfl) <| blk_c (tgX4_14 rfl dX4_readLook_148) <| blk_c (s_iload_n dX4_readLook_151 rfl) <| blk_c (s_iconst dX4_readLook_152 (by decide +kernel)) <| blk_c (s_iadd dX4_readLook_153) <| blk_c (s_aload_n dX4_readLook_154 rfl) <| blk_nil
theorem bX4_readLook_158 : Blk TP mX4_readLook 158 167 [tSI 14 320, oAL 0, tR 14, oIL 2, oC (nI 3), oAdd, oAL 0] := blk_c (t_iast rfl dX4_readLook_158) <| blk_c (s_aload_n dX4_readLook_159 rfl) <| blk_c (tgX4_14 rfl dX4_readLook_160) <| blk_c (s_iload_n dX4_readLook_163 rfl) <| blk_c (s_iconst dX4_readLook_164 (by decide +kernel)) <| blk_c (s_iadd dX4_readLook_165) <| blk_c (s_aload_n dX4_readLook_166 rfl) <| blk_nil
theorem bX4_readLook_169 : Blk TP mX4_readLook 169 172 [oC (nI 0), oC (nI 59)] := blk_c (s_iconst dX4_readLook_169 (by decide +kernel)) <| blk_c (s_bipush dX4_readLook_170 (by decide +kernel)) <| blk_nil
theorem bX4_readLook_175 : Blk TP mX4_readLook 175 281 [tSI 14 320, .inl (fun s => some s)] := blk_c (t_iast rfl dX4_readLook_175) <| blk_c (s_goto (tgt := 281) dX4_readLook_176 (by decide)) <| blk_nil
theorem bX4_readLook_179 : Blk TP mX4_readLook 179 180 [oAL 0] := blk_c (s_aload_n dX4_readLook_179 rfl) <| blk_nil
theorem bX4_readLook_188 : Blk TP mX4_readLook 188 208 [oAL 0, tR 14, oIL 2, oC (nI 1), oAdd, oC (nI 3), tSI 14 320, oAL 0, tR 14, oIL 2, oC (nI 2), oAdd, oAL 0, oC (nI 0), oC (nI 7)] := blk_c (s_aload_n dX4_readLook_188 rfl) <| blk_c (tgX4_14 rfl dX4_readLook_189) <| blk_c (s_iload_n dX4_readLook_192 rfl) <| blk_c (s_iconst dX4_readLook_193 (by decide +kernel)) <| blk_c (s_iadd dX4_readLook_194) <| blk_c (s_iconst dX4_readLook_195 (by decide +kernel)) <| blk_c (t_iast rfl dX4_readLook_196) <| blk_c (s_aload_n dX4_readLook_197 rfl) <| blk_c (tgX4_14 rfl dX4_readLook_198) <| blk_c (s_iload_n dX4_readLook_201 rfl) <| blk_c (s_iconst dX4_readLook_202 (by decide +kernel)) <| blk_c (s_iadd dX4_readLook_203) <| blk_c (s_aload_n dX4_readLook_204 rfl) <| blk_c (s_iconst dX4_readLook_205 (by decide +kernel)) <| blk_c (s_bipush dX4_readLook_206 (by decide +kernel)) <| blk_nil
theorem bX4_readLook_211 : Blk TP mX4_readLook 211 281 [tSI 14 320, .inl (fun s => some s)] := blk_c (t_iast rfl dX4_readLook_211) <| blk_c (s_goto (tgt := 281) dX4_readLook_212 (by decide)) <| blk_nil
theorem bX4_readLook_215 : Blk TP mX4_readLook 215 216 [oAL 0] := blk_c (s_aload_n dX4_readLook_215 rfl) <| blk_nil
theorem bX4_readLook_224 : Blk TP mX4_readLook 224 244 [oAL 0, tR 14, oIL 2, oC (nI 1), oAdd, oC (nI 4), tSI 14 320, oAL 0, tR 14, oIL 2, oC (nI 2), oAdd, oAL 0, oC (nI 0), oC (nI 7)] := blk_c (s_aload_n dX4_readLook_224 rfl) <| blk_c (tgX4_14 rfl dX4_readLook_225) <| blk_c (s_iload_n dX4_readLook_228 rfl) <| blk_c (s_iconst dX4_readLook_229 (by decide +kernel)) <| blk_c (s_iadd dX4_readLook_230) <| blk_c (s_iconst dX4_readLook_231 (by decide +kernel)) <| blk_c (t_iast rfl dX4_readLook_232) <| blk_c (s_aload_n dX4_readLook_233 rfl) <| blk_c (tgX4_14 rfl dX4_readLook_234) <| blk_c (s_iload_n dX4_readLook_237 rfl) <| blk_c (s_iconst dX4_readLook_238 (by decide +kernel)) <| blk_c (s_iadd dX4_readLook_239) <| blk_c (s_aload_n dX4_readLook_240 rfl) <| blk_c (s_iconst dX4_readLook_241 (by decide +kernel)) <| blk_c (s_bipush dX4_readLook_242 (by decide +kernel)) <| blk_nil
theorem bX4_readLook_247 : Blk TP mX4_readLook 247 281 [tSI 14 320, .inl (fun s => some s)] := blk_c (t_iast rfl dX4_readLook_247) <| blk_c (s_goto (tgt := 281) dX4_readLook_248 (by decide)) <| blk_nil
theorem bX4_readLook_251 : Blk TP mX4_readLook 251 252 [oAL 0] := blk_c (s_aload_n dX4_readLook_251 rfl) <| blk_nil
theorem bX4_readLook_257 : Blk TP mX4_readLook 257 277 [oAL 0, tR 14, oIL 2, oC (nI 1), oAdd, oC (nI 5), tSI 14 320, oAL 0, tR 14, oIL 2, oC (nI 2), oAdd, oAL 0, oC (nI 0), oC (nI 100)] := blk_c (s_aload_n dX4_readLook_257 rfl) <| blk_c (tgX4_14 rfl dX4_readLook_258) <| blk_c (s_iload_n dX4_readLook_261 rfl) <| blk_c (s_iconst dX4_readLook_262 (by decide +kernel)) <| blk_c (s_iadd dX4_readLook_263) <| blk_c (s_iconst dX4_readLook_264 (by decide +kernel)) <| blk_c (t_iast rfl dX4_readLook_265) <| blk_c (s_aload_n dX4_readLook_266 rfl) <| blk_c (tgX4_14 rfl dX4_readLook_267) <| blk_c (s_iload_n dX4_readLook_270 rfl) <| blk_c (s_iconst dX4_readLook_271 (by decide +kernel)) <| blk_c (s_iadd dX4_readLook_272) <| blk_c (s_aload_n dX4_readLook_273 rfl) <| blk_c (s_iconst dX4_readLook_274 (by decide +kernel)) <| blk_c (s_bipush dX4_readLook_275 (by decide +kernel)) <| blk_nil
theorem bX4_readLook_280 : Blk TP mX4_readLook 280 281 [tSI 14 320] := blk_c (t_iast rfl dX4_readLook_280) <| blk_nil
theorem bX4_readLook_281 : Blk TP mX4_readLook 281 293 [oAL 0, tR 14, oIL 1, oC (nI 4), oAdd, oDup2IR, tAI 14 320, oC (nI 1), oAdd, tSI 14 320] := blk_c (s_aload_n dX4_readLook_281 rfl) <| blk_c (tgX4_14 rfl dX4_readLook_282) <| blk_c (s_iload_n dX4_readLook_285 rfl) <| blk_c (s_iconst dX4_readLook_286 (by decide +kernel)) <| blk_c (s_iadd dX4_readLook_287) <| blk_c (s_dup2IR dX4_readLook_288) <| blk_c (t_iald rfl dX4_readLook_289) <| blk_c (s_iconst dX4_readLook_290 (by decide +kernel)) <| blk_c (s_iadd dX4_readLook_291) <| blk_c (t_iast rfl dX4_readLook_292) <| blk_nil
theorem ok_readLook {X : Cx} {aK aV : Nat → Nat} (hX : StrOK X aK aV) (T : Nat → Int32) (n : Nat) (s : RdE) (w : Nat → Int32) {p l : Nat} (hp : p < 8) (hp1 : w 2 = nI (p + 1)) (hl : l < 4) (hl1 : w (56 + 33 * p + 4) = nI l) : RG X mX4_readLook [] (fun A _ => RdW A T n s w) (fun A B r A' B' => r = none ∧ FrW A B A' B' ∧ RdW A' T n (lookE T n p l s w).1 (lookE T n p l s w).2) := by
  intro o ad A B hrd
  have hRes : lookE T n p l s w = lookE T n p l s w := rfl
  conv at hRes => rhs; unfold lookE
  generalize hi : 56 + 33 * p + 17 + 4 * l = i at hRes
  generalize hk : 56 + 33 * p = k at hRes hl1
  generalize hs0 : (lk0 T n s w).2 = s0 at hRes
  generalize hw0 : lkW i (lk0 T n s w).1 w = w0 at hRes
  have w0at : ∀ j, j < i → w0 j = w j := fun j hj => by rw [← hw0]; unfold lkW; rw [va_up_ne _ _ (by omega), va_up_ne _ _ (by omega), va_up_ne _ _ (by omega)]
  have hik : k + 17 ≤ i ∧ i + 3 < 320 := by omega
  have m281 : ∀ A1 B1 s' w', FrW A B A1 B1 → RdW A1 T n s' w' → habE T n i s0 w0 = (s', w') → JS TP X mX4_readLook (rmOf mX4_readLook.lv 0 0) (ZR X o ad (fun r A' B' => r = none ∧ FrW A B A' B' ∧ RdW A' T n (lookE T n p l s w).1 (lookE T n p l s w).2)) 0 0 281 [some (.ref o), some (.int (nI k)), some (.int (nI i))] [] (o, ad, A1, B1) := by
    intro A1 B1 s' w' f1 h1 he
    have he2 : w' = (habE T n i s0 w0).2 := by rw [he]
    have e4 : A1 14 (k + 4) = nI l := by rw [h1.2, he2, habE_at (by omega), w0at _ (by omega)]; exact hl1
    refine bX4_readLook_281.go rfl (by simp (disch := omega) only [nI_add, vpI]; exact ⟨trivial, ⟨trivial, by omega⟩, ⟨trivial, by omega⟩, trivial⟩) ?_
    simp (disch := omega) only [nI_add, nI_clamp, e4]
    refine r_vret dX4_readLook_293 rfl ⟨rfl, f1.up _ _, RdW.to (h1.up _ _) ?_ ?_⟩
    · rw [hRes, he]
    · rw [hRes, he]
  refine R_start (L := [some (.ref o), none, none]) 2 rfl ?_
  have ek4 : A 14 (k + 4) = nI l := by rw [hrd.2]; exact hl1
  refine bX4_readLook_0.go rfl (by simp (disch := omega) only [hrd.2, hp1, lat_eq, hk, nI_add, vpI]; exact ⟨⟨trivial, trivial⟩, trivial, ⟨trivial, by omega⟩, trivial⟩) ?_
  simp (disch := omega) only [hrd.2, hp1, lat_eq, hk, nI_add, nI_clamp, hl1, pk_mul]
  rw [show k + 17 + 4 * l = i by omega]
  refine js_ldcS (tx := "at") (i := 4) hX (by decide +kernel) dX4_readLook_22 ?_
  refine rg (nA := 1) (ok_needs hX (i := 4) (by decide) T n s) gX4_needs dX4_readLook_24 rfl hrd.1 (fun r A1 B1 q => ?_)
  obtain ⟨rfl, f1, g1⟩ := q
  have h1 := hrd.fr f1 g1
  refine bX4_readLook_27.go rfl (by exact ⟨rfl, trivial⟩) ?_
  refine rg (nA := 0) (ok_freshClock T n _ w) gX4_freshClock dX4_readLook_33 rfl h1 (fun r A2 B2 q => ?_)
  obtain ⟨rfl, f2, g2⟩ := q
  have h2 := h1.fr f2 g2
  refine bX4_readLook_36.go rfl (by simp (disch := omega) only [nI_add, vpI]; exact ⟨⟨trivial, by omega⟩, trivial, ⟨trivial, by omega⟩, trivial, ⟨trivial, by omega⟩, trivial⟩) ?_
  simp (disch := omega) only [nI_add, nI_clamp]
  have f3 : FrW A B (upA (upA (upA A2 14 i (fclE T n (needsE T n 4 s) w).1) 14 (i + 2) (nI 0)) 14 (i + 3) (nI 0)) B2 := (((f1.trans f2).w.up _ _).up _ _).up _ _
  have h3 : RdW (upA (upA (upA A2 14 i (fclE T n (needsE T n 4 s) w).1) 14 (i + 2) (nI 0)) 14 (i + 3) (nI 0)) T n s0 w0 := RdW.to (((h2.up _ _).up _ _).up _ _) hs0 hw0
  generalize upA (upA (upA A2 14 i (fclE T n (needsE T n 4 s) w).1) 14 (i + 2) (nI 0)) 14 (i + 3) (nI 0) = A3 at f3 h3
  clear f1 f2 g1 g2 h1 h2
  have w1 : w0 1 = w 1 := w0at 1 (by omega)
  -- always
  refine js_ldcS (tx := "always") (i := 13) hX (by decide +kernel) dX4_readLook_56 ?_
  refine rg (nA := 1) (ok_takes hX (i := 13) (by decide) T n s0) gX4_takes dX4_readLook_58 rfl h3.1 (fun r A4 B4 q => ?_)
  obtain ⟨rfl, f4, g4⟩ := q
  refine j_if_eq (tgt := 76) dX4_readLook_61 (by decide) (fun h61 => ?_) (fun h61 => ?_)
  · rw [b2_0] at h61
    rw [takesE_f h61] at g4
    have h4 := h3.fr f4 g4
    have f4 := f3.trans f4.w
    -- each
    refine bX4_readLook_76.go rfl trivial ?_
    refine js_ldcS (tx := "each") (i := 14) hX (by decide +kernel) dX4_readLook_77 ?_
    refine rg (nA := 1) (ok_takes hX (i := 14) (by decide) T n s0) gX4_takes dX4_readLook_79 rfl h4.1 (fun r A5 B5 q => ?_)
    obtain ⟨rfl, f5, g5⟩ := q
    refine j_if_eq (tgt := 129) dX4_readLook_82 (by decide) (fun h82 => ?_) (fun h82 => ?_)
    · rw [b2_0] at h82
      rw [takesE_f h82] at g5
      have h5 := h4.fr f5 g5
      have f5 := f4.trans f5.w
      -- seeing
      refine bX4_readLook_129.go rfl trivial ?_
      refine js_ldcS (tx := "seeing") (i := 16) hX (by decide +kernel) dX4_readLook_130 ?_
      refine rg (nA := 1) (ok_takes hX (i := 16) (by decide) T n s0) gX4_takes dX4_readLook_132 rfl h5.1 (fun r A6 B6 q => ?_)
      obtain ⟨rfl, f6, g6⟩ := q
      refine j_if_eq (tgt := 179) dX4_readLook_135 (by decide) (fun h135 => ?_) (fun h135 => ?_)
      · rw [b2_0] at h135
        rw [takesE_f h135] at g6
        have h6 := h5.fr f6 g6
        have f6 := f5.trans f6.w
        -- with
        refine bX4_readLook_179.go rfl trivial ?_
        refine js_ldcS (tx := "with") (i := 18) hX (by decide +kernel) dX4_readLook_180 ?_
        refine rg (nA := 1) (ok_takes hX (i := 18) (by decide) T n s0) gX4_takes dX4_readLook_182 rfl h6.1 (fun r A7 B7 q => ?_)
        obtain ⟨rfl, f7, g7⟩ := q
        refine j_if_eq (tgt := 215) dX4_readLook_185 (by decide) (fun h185 => ?_) (fun h185 => ?_)
        · rw [b2_0] at h185
          rw [takesE_f h185] at g7
          have h7 := h6.fr f7 g7
          have f7 := f6.trans f7.w
          -- unless
          refine bX4_readLook_215.go rfl trivial ?_
          refine js_ldcS (tx := "unless") (i := 19) hX (by decide +kernel) dX4_readLook_216 ?_
          refine rg (nA := 1) (ok_takes hX (i := 19) (by decide) T n s0) gX4_takes dX4_readLook_218 rfl h7.1 (fun r A8 B8 q => ?_)
          obtain ⟨rfl, f8, g8⟩ := q
          refine j_if_eq (tgt := 251) dX4_readLook_221 (by decide) (fun h221 => ?_) (fun h221 => ?_)
          · rw [b2_0] at h221
            rw [takesE_f h221] at g8
            have h8 := h7.fr f8 g8
            have f8 := f7.trans f8.w
            -- maybe
            refine bX4_readLook_251.go rfl trivial ?_
            refine js_ldcS (tx := "maybe") (i := 20) hX (by decide +kernel) dX4_readLook_252 ?_
            refine rg (nA := 1) (ok_needs hX (i := 20) (by decide) T n s0) gX4_needs dX4_readLook_254 rfl h8.1 (fun r A9 B9 q => ?_)
            obtain ⟨rfl, f9, g9⟩ := q
            have h9 := h8.fr f9 g9
            have f9 := f8.trans f9.w
            refine bX4_readLook_257.go rfl (by simp (disch := omega) only [nI_add, vpI]; exact ⟨trivial, ⟨trivial, by omega⟩, trivial, trivial⟩) ?_
            simp (disch := omega) only [nI_add, nI_clamp]
            refine rg (nA := 2) (ok_number T n _ (nI 0) (nI 100)) gX4_number dX4_readLook_277 rfl (h9.up _ _).1 (fun r A10 B10 q => ?_)
            obtain ⟨rfl, f10, g10⟩ := q
            have h10 := (h9.up (i + 1) (nI 5)).fr f10 g10
            refine bX4_readLook_280.go rfl (by simp (disch := omega) only [vpI]; exact ⟨⟨trivial, by omega⟩, trivial⟩) ?_
            simp (disch := omega) only [nI_clamp]
            refine m281 _ _ _ _ (((f9.up _ _).trans f10.w).up _ _) (h10.up _ _) ?_
            rw [habE, if_neg (by rw [h61]; decide), if_neg (by rw [h82]; decide), if_neg (by rw [h135]; decide), if_neg (by rw [h185]; decide), if_neg (by rw [h221]; decide)]; rfl
          · rw [b2_n0] at h221
            rw [takesE_t h221] at g8
            have h8 := h7.fr f8 g8
            have f8 := f7.trans f8.w
            refine bX4_readLook_224.go rfl (by simp (disch := omega) only [nI_add, vpI]; exact ⟨trivial, ⟨trivial, by omega⟩, trivial, trivial⟩) ?_
            simp (disch := omega) only [nI_add, nI_clamp]
            refine rg (nA := 2) (ok_number T n _ (nI 0) (nI 7)) gX4_number dX4_readLook_244 rfl (h8.up _ _).1 (fun r A10 B10 q => ?_)
            obtain ⟨rfl, f10, g10⟩ := q
            have h10 := (h8.up (i + 1) (nI 4)).fr f10 g10
            refine bX4_readLook_247.go rfl (by simp (disch := omega) only [vpI]; exact ⟨⟨trivial, by omega⟩, trivial⟩) ?_
            simp (disch := omega) only [nI_clamp]
            refine m281 _ _ _ _ (((f8.up _ _).trans f10.w).up _ _) (h10.up _ _) ?_
            rw [habE, if_neg (by rw [h61]; decide), if_neg (by rw [h82]; decide), if_neg (by rw [h135]; decide), if_neg (by rw [h185]; decide), if_pos h221]; rfl
        · rw [b2_n0] at h185
          rw [takesE_t h185] at g7
          have h7 := h6.fr f7 g7
          have f7 := f6.trans f7.w
          refine bX4_readLook_188.go rfl (by simp (disch := omega) only [nI_add, vpI]; exact ⟨trivial, ⟨trivial, by omega⟩, trivial, trivial⟩) ?_
          simp (disch := omega) only [nI_add, nI_clamp]
          refine rg (nA := 2) (ok_number T n _ (nI 0) (nI 7)) gX4_number dX4_readLook_208 rfl (h7.up _ _).1 (fun r A10 B10 q => ?_)
          obtain ⟨rfl, f10, g10⟩ := q
          have h10 := (h7.up (i + 1) (nI 3)).fr f10 g10
          refine bX4_readLook_211.go rfl (by simp (disch := omega) only [vpI]; exact ⟨⟨trivial, by omega⟩, trivial⟩) ?_
          simp (disch := omega) only [nI_clamp]
          refine m281 _ _ _ _ (((f7.up _ _).trans f10.w).up _ _) (h10.up _ _) ?_
          rw [habE, if_neg (by rw [h61]; decide), if_neg (by rw [h82]; decide), if_neg (by rw [h135]; decide), if_pos h185]; rfl
      · rw [b2_n0] at h135
        rw [takesE_t h135] at g6
        have h6 := h5.fr f6 g6
        have f6 := f5.trans f6.w
        refine bX4_readLook_138.go rfl (by simp (disch := omega) only [nI_add, vpI]; exact ⟨trivial, ⟨trivial, by omega⟩, trivial, trivial⟩) ?_
        simp (disch := omega) only [nI_add, nI_clamp]
        refine rg (nA := 0) (ok_freshClock T n _ _) gX4_freshClock dX4_readLook_155 rfl (h6.up _ _) (fun r A10 B10 q => ?_)
        obtain ⟨rfl, f10, g10⟩ := q
        have h10 := (h6.up (i + 1) (nI 2)).fr f10 g10
        have ec : fclE T n (advE T n s0) (va_up w0 (i + 1) (nI 2)) = fclE T n (advE T n s0) w0 := by rw [fclE, va_up_ne _ _ (by omega)]; rfl
        rw [ec] at h10
        rw [ec]
        refine bX4_readLook_158.go rfl (by simp (disch := omega) only [nI_add, vpI]; exact ⟨⟨trivial, by omega⟩, trivial, trivial⟩) ?_
        simp (disch := omega) only [nI_add, nI_clamp]
        refine js_ldcS (tx := "is") (i := 17) hX (by decide +kernel) dX4_readLook_167 ?_
        refine bX4_readLook_169.go rfl trivial ?_
        refine rg (nA := 3) (ok_told hX (i := 17) (by decide) T n _ (nI 0) (nI 59)) gX4_told dX4_readLook_172 rfl (h10.up _ _).1 (fun r A11 B11 q => ?_)
        obtain ⟨rfl, f11, g11⟩ := q
        have h11 := (h10.up (i + 2) (fclE T n (advE T n s0) w0).1).fr f11 g11
        refine bX4_readLook_175.go rfl (by simp (disch := omega) only [vpI]; exact ⟨⟨trivial, by omega⟩, trivial⟩) ?_
        simp (disch := omega) only [nI_clamp]
        refine m281 _ _ _ _ (((((f6.up _ _).trans f10.w).up _ _).trans f11.w).up _ _) (h11.up _ _) ?_
        rw [habE, if_neg (by rw [h61]; decide), if_neg (by rw [h82]; decide), if_pos h135]; rfl
    · rw [b2_n0] at h82
      rw [takesE_t h82] at g5
      have h5 := h4.fr f5 g5
      have f5 := f4.trans f5.w
      refine bX4_readLook_85.go rfl (by simp (disch := omega) only [nI_add, vpI]; exact ⟨trivial, ⟨trivial, by omega⟩, trivial, trivial⟩) ?_
      simp (disch := omega) only [nI_add, nI_clamp]
      refine rg (nA := 2) (ok_number T n _ (nI 1) (nI 40)) gX4_number dX4_readLook_105 rfl (h5.up _ _).1 (fun r A10 B10 q => ?_)
      obtain ⟨rfl, f10, g10⟩ := q
      have h10 := (h5.up (i + 1) (nI 1)).fr f10 g10
      refine bX4_readLook_108.go rfl (by simp (disch := omega) only [nI_add, vpI]; exact ⟨⟨trivial, by omega⟩, trivial, trivial⟩) ?_
      simp (disch := omega) only [nI_add, nI_clamp]
      refine js_ldcS (tx := "after") (i := 15) hX (by decide +kernel) dX4_readLook_117 ?_
      refine bX4_readLook_119.go rfl trivial ?_
      refine rg (nA := 3) (ok_told hX (i := 15) (by decide) T n _ (nI 0) (nI 39)) gX4_told dX4_readLook_122 rfl (h10.up _ _).1 (fun r A11 B11 q => ?_)
      obtain ⟨rfl, f11, g11⟩ := q
      have h11 := (h10.up (i + 2) (numE T n (nI 1) (nI 40) (advE T n s0)).1).fr f11 g11
      refine bX4_readLook_125.go rfl (by simp (disch := omega) only [vpI]; exact ⟨⟨trivial, by omega⟩, trivial⟩) ?_
      simp (disch := omega) only [nI_clamp]
      refine m281 _ _ _ _ (((((f5.up _ _).trans f10.w).up _ _).trans f11.w).up _ _) (h11.up _ _) ?_
      rw [habE, if_neg (by rw [h61]; decide), if_pos h82]; rfl
  · rw [b2_n0] at h61
    rw [takesE_t h61] at g4
    have h4 := h3.fr f4 g4
    have f4 := f3.trans f4.w
    refine bX4_readLook_64.go rfl (by simp (disch := omega) only [nI_add, vpI]; exact ⟨trivial, ⟨trivial, by omega⟩, trivial⟩) ?_
    simp (disch := omega) only [nI_add, nI_clamp]
    refine m281 _ _ _ _ (f4.up _ _) (h4.up _ _) ?_
    rw [habE, if_pos h61]
