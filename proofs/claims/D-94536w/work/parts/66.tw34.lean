set_option maxRecDepth 100000
/-! ===== UnseenClockModel: paste (its copying, from 110 on) ===== -/
theorem bX4_paste_0 : Blk TP mX4_paste 0 4 [oIL 1, tS_I F_isSlot] := blk_c (s_iload_n dX4_paste_0 rfl) <| blk_c (ts_I ok_isSlot gX4_isSlot (by decide +kernel) (by decide) dX4_paste_1) <| blk_nil
theorem bX4_paste_7 : Blk TP mX4_paste 7 11 [oIL 3, tS_I F_isSlot] := blk_c (s_iload_n dX4_paste_7 rfl) <| blk_c (ts_I ok_isSlot gX4_isSlot (by decide +kernel) (by decide) dX4_paste_8) <| blk_nil
theorem bX4_paste_14 : Blk TP mX4_paste 14 16 [oC (-2)] := blk_c (s_bipush dX4_paste_14 (by decide +kernel)) <| blk_nil
theorem bX4_paste_17 : Blk TP mX4_paste 17 24 [oAL 0, tR 37, oIL 1, tAI 37 4, oC (-1)] := blk_c (s_aload_n dX4_paste_17 rfl) <| blk_c (tgX4_37 rfl dX4_paste_18) <| blk_c (s_iload_n dX4_paste_21 rfl) <| blk_c (t_iald rfl dX4_paste_22) <| blk_c (s_iconst dX4_paste_23 (by decide +kernel)) <| blk_nil
theorem bX4_paste_27 : Blk TP mX4_paste 27 34 [oAL 0, tR 37, oIL 3, tAI 37 4, oC (-1)] := blk_c (s_aload_n dX4_paste_27 rfl) <| blk_c (tgX4_37 rfl dX4_paste_28) <| blk_c (s_iload_n dX4_paste_31 rfl) <| blk_c (t_iald rfl dX4_paste_32) <| blk_c (s_iconst dX4_paste_33 (by decide +kernel)) <| blk_nil
theorem bX4_paste_37 : Blk TP mX4_paste 37 39 [oC (-6)] := blk_c (s_bipush dX4_paste_37 (by decide +kernel)) <| blk_nil
theorem bX4_paste_40 : Blk TP mX4_paste 40 52 [oAL 0, tR 38, oIL 1, tAI 38 4, oAL 0, tR 38, oIL 3, tAI 38 4] := blk_c (s_aload_n dX4_paste_40 rfl) <| blk_c (tgX4_38 rfl dX4_paste_41) <| blk_c (s_iload_n dX4_paste_44 rfl) <| blk_c (t_iald rfl dX4_paste_45) <| blk_c (s_aload_n dX4_paste_46 rfl) <| blk_c (tgX4_38 rfl dX4_paste_47) <| blk_c (s_iload_n dX4_paste_50 rfl) <| blk_c (t_iald rfl dX4_paste_51) <| blk_nil
theorem bX4_paste_55 : Blk TP mX4_paste 55 57 [oC (-8)] := blk_c (s_bipush dX4_paste_55 (by decide +kernel)) <| blk_nil
theorem bX4_paste_58 : Blk TP mX4_paste 58 59 [oIL 2] := blk_c (s_iload_n dX4_paste_58 rfl) <| blk_nil
theorem bX4_paste_62 : Blk TP mX4_paste 62 64 [oIL 4] := blk_c (s_iload dX4_paste_62) <| blk_nil
theorem bX4_paste_67 : Blk TP mX4_paste 67 69 [oIL 5] := blk_c (s_iload dX4_paste_67) <| blk_nil
theorem bX4_paste_72 : Blk TP mX4_paste 72 86 [oIL 2, oI2L, oIL 5, oI2L, oLAdd, oAL 0, tR 37, oIL 1, tAI 37 4, oI2L, oLcmp] := blk_c (s_iload_n dX4_paste_72 rfl) <| blk_c (s_i2l dX4_paste_73) <| blk_c (s_iload dX4_paste_74) <| blk_c (s_i2l dX4_paste_76) <| blk_c (s_ladd dX4_paste_77) <| blk_c (s_aload_n dX4_paste_78 rfl) <| blk_c (tgX4_37 rfl dX4_paste_79) <| blk_c (s_iload_n dX4_paste_82 rfl) <| blk_c (t_iald rfl dX4_paste_83) <| blk_c (s_i2l dX4_paste_84) <| blk_c (s_lcmp dX4_paste_85) <| blk_nil
theorem bX4_paste_89 : Blk TP mX4_paste 89 104 [oIL 4, oI2L, oIL 5, oI2L, oLAdd, oAL 0, tR 37, oIL 3, tAI 37 4, oI2L, oLcmp] := blk_c (s_iload dX4_paste_89) <| blk_c (s_i2l dX4_paste_91) <| blk_c (s_iload dX4_paste_92) <| blk_c (s_i2l dX4_paste_94) <| blk_c (s_ladd dX4_paste_95) <| blk_c (s_aload_n dX4_paste_96 rfl) <| blk_c (tgX4_37 rfl dX4_paste_97) <| blk_c (s_iload_n dX4_paste_100 rfl) <| blk_c (t_iald rfl dX4_paste_101) <| blk_c (s_i2l dX4_paste_102) <| blk_c (s_lcmp dX4_paste_103) <| blk_nil
theorem bX4_paste_107 : Blk TP mX4_paste 107 109 [oC (-7)] := blk_c (s_bipush dX4_paste_107 (by decide +kernel)) <| blk_nil
theorem bX4_paste_110 : Blk TP mX4_paste 110 113 [oC (nI 0), oIS 6] := blk_c (s_iconst dX4_paste_110 (by decide +kernel)) <| blk_c (s_istore dX4_paste_111 (by decide)) <| blk_nil
theorem bX4_paste_113 : Blk TP mX4_paste 113 117 [oIL 6, oIL 5] := blk_c (s_iload dX4_paste_113) <| blk_c (s_iload dX4_paste_115) <| blk_nil
theorem bX4_paste_120 : Blk TP mX4_paste 120 113 [oAL 0, tR 40, oIL 6, oAL 0, tR 39, oC (nI 60), oIL 1, oMul, oIL 2, oAdd, oIL 6, oAdd, tAL 39 240, tSL 40 60, oInc 6 1, .inl (fun s => some s)] := blk_c (s_aload_n dX4_paste_120 rfl) <| blk_c (tgX4_40 rfl dX4_paste_121) <| blk_c (s_iload dX4_paste_124) <| blk_c (s_aload_n dX4_paste_126 rfl) <| blk_c (tgX4_39 rfl dX4_paste_127) <| blk_c (s_bipush dX4_paste_130 (by decide +kernel)) <| blk_c (s_iload_n dX4_paste_132 rfl) <| blk_c (s_imul dX4_paste_133) <| blk_c (s_iload_n dX4_paste_134 rfl) <| blk_c (s_iadd dX4_paste_135) <| blk_c (s_iload dX4_paste_136) <| blk_c (s_iadd dX4_paste_138) <| blk_c (t_lald rfl dX4_paste_139) <| blk_c (t_last rfl dX4_paste_140) <| blk_c (s_iinc dX4_paste_141 (by decide +kernel) (by decide)) <| blk_c (s_goto (tgt := 113) dX4_paste_144 (by decide)) <| blk_nil
theorem bX4_paste_147 : Blk TP mX4_paste 147 150 [oC (nI 0), oIS 6] := blk_c (s_iconst dX4_paste_147 (by decide +kernel)) <| blk_c (s_istore dX4_paste_148 (by decide)) <| blk_nil
theorem bX4_paste_150 : Blk TP mX4_paste 150 154 [oIL 6, oIL 5] := blk_c (s_iload dX4_paste_150) <| blk_c (s_iload dX4_paste_152) <| blk_nil
theorem bX4_paste_157 : Blk TP mX4_paste 157 150 [oAL 0, tR 39, oC (nI 60), oIL 3, oMul, oIL 4, oAdd, oIL 6, oAdd, oAL 0, tR 40, oIL 6, tAL 40 60, tSL 39 240, oInc 6 1, .inl (fun s => some s)] := blk_c (s_aload_n dX4_paste_157 rfl) <| blk_c (tgX4_39 rfl dX4_paste_158) <| blk_c (s_bipush dX4_paste_161 (by decide +kernel)) <| blk_c (s_iload_n dX4_paste_163 rfl) <| blk_c (s_imul dX4_paste_164) <| blk_c (s_iload dX4_paste_165) <| blk_c (s_iadd dX4_paste_167) <| blk_c (s_iload dX4_paste_168) <| blk_c (s_iadd dX4_paste_170) <| blk_c (s_aload_n dX4_paste_171 rfl) <| blk_c (tgX4_40 rfl dX4_paste_172) <| blk_c (s_iload dX4_paste_175) <| blk_c (t_lald rfl dX4_paste_177) <| blk_c (t_last rfl dX4_paste_178) <| blk_c (s_iinc dX4_paste_179 (by decide +kernel) (by decide)) <| blk_c (s_goto (tgt := 150) dX4_paste_182 (by decide)) <| blk_nil
theorem bX4_paste_185 : Blk TP mX4_paste 185 186 [oC (nI 0)] := blk_c (s_iconst dX4_paste_185 (by decide +kernel)) <| blk_nil
/-- what a pasting leaves of the numbers -/
def pstN (b : Nat → Int64) (s i t k n : Nat) : Nat → Int64 := fun j => if 60 * t + k ≤ j ∧ j < 60 * t + k + n then b (60 * s + i + (j - (60 * t + k))) else b j
theorem pasteN {X : Cx} {o : Nat} {ad : Nat → Nat} {A : Nat → Nat → Int32} {B : Nat → Nat → Int64} {Q : QR} {s i t k n : Nat} (hs : s < 4) (ht : t < 4) (hi : i + n ≤ 60) (hk : k + n ≤ 60)
    (hQ : ∀ B', (∀ f, f ≠ 39 → f ≠ 40 → B' f = B f) → B' 39 = pstN (B 39) s i t k n → Q (some (.int (nI 0))) A B') :
    JS TP X mX4_paste (rmOf mX4_paste.lv 0 0) (ZR X o ad Q) 0 0 110 [some (.ref o), some (.int (nI s)), some (.int (nI i)), some (.int (nI t)), some (.int (nI k)), some (.int (nI n)), none] [] (o, ad, A, B) := by
  refine bX4_paste_110.go rfl trivial ?_
  refine loop_down (N := n) (I := fun _ => True) (P := fun x => ∀ B', (∀ f, f ≠ 40 → B' f = B f) → (∀ y, y < x → B' 40 y = B 39 (60 * s + i + y)) → JS TP X mX4_paste (rmOf mX4_paste.lv 0 0) _ 0 0 113 [some (.ref o), some (.int (nI s)), some (.int (nI i)), some (.int (nI t)), some (.int (nI k)), some (.int (nI n)), some (.int (nI x))] [] (o, ad, A, B')) ?_ ?_ 0 (by omega) trivial B (fun _ _ => rfl) (fun y h => by omega)
  · intro _ B1 b1 b2
    refine bX4_paste_113.go rfl trivial ?_
    refine j_icmp_ge (tgt := 147) dX4_paste_117 (by decide) (fun h117 => ?_) (fun h117 => ?_)
    · refine bX4_paste_147.go rfl trivial ?_
      refine loop_down (N := n) (I := fun _ => True) (P := fun x => ∀ B', (∀ f, f ≠ 39 → B' f = B1 f) → (∀ j, B' 39 j = pstN (B 39) s i t k x j) → JS TP X mX4_paste (rmOf mX4_paste.lv 0 0) _ 0 0 150 [some (.ref o), some (.int (nI s)), some (.int (nI i)), some (.int (nI t)), some (.int (nI k)), some (.int (nI n)), some (.int (nI x))] [] (o, ad, A, B')) ?_ ?_ 0 (by omega) trivial B1 (fun _ _ => rfl) (fun j => by rw [pstN, if_neg (by omega), b1 39 (by decide)])
      · intro _ B2 c1 c2
        refine bX4_paste_150.go rfl trivial ?_
        refine j_icmp_ge (tgt := 185) dX4_paste_154 (by decide) (fun h154 => ?_) (fun h154 => ?_)
        · refine bX4_paste_185.go rfl trivial ?_
          exact r_iret dX4_paste_186 rfl (hQ B2 (fun f h1 h2 => by rw [c1 f h1, b1 f h2]) (funext c2))
        · simp (disch := omega) only [nI_leI] at h154; omega
      · intro x hx _ ih B2 c1 c2
        refine bX4_paste_150.go rfl trivial ?_
        refine j_icmp_ge (tgt := 185) dX4_paste_154 (by decide) (fun h154 => ?_) (fun h154 => ?_)
        · simp (disch := omega) only [nI_leI] at h154; omega
        · refine bX4_paste_157.go rfl (by simp (disch := omega) only [nI_add, pk_mul, vpI]; exact ⟨trivial, trivial, ⟨trivial, by omega⟩, ⟨trivial, by omega⟩, trivial⟩) ?_
          simp (disch := omega) only [nI_add, pk_mul, nI_clamp, nI_1]
          refine ih trivial _ (fun f hf => by unfold upB; rw [va_up_ne _ _ hf]; exact c1 f hf) (fun j => ?_)
          unfold upB
          rw [va_up_self, c1 40 (by decide), b2 x hx]
          by_cases e : j = 60 * t + k + x
          · subst e; rw [va_up_self, pstN, if_pos (by omega)]; congr 1; omega
          · rw [va_up_ne _ _ e, c2 j]
            unfold pstN
            by_cases e2 : 60 * t + k ≤ j ∧ j < 60 * t + k + x
            · rw [if_pos e2, if_pos (by omega)]
            · rw [if_neg e2, if_neg (by omega)]
    · simp (disch := omega) only [nI_leI] at h117; omega
  · intro x hx _ ih B1 b1 b2
    refine bX4_paste_113.go rfl trivial ?_
    refine j_icmp_ge (tgt := 147) dX4_paste_117 (by decide) (fun h117 => ?_) (fun h117 => ?_)
    · simp (disch := omega) only [nI_leI] at h117; omega
    · refine bX4_paste_120.go rfl (by simp (disch := omega) only [nI_add, pk_mul, vpI]; exact ⟨trivial, trivial, ⟨trivial, by omega⟩, ⟨trivial, by omega⟩, trivial⟩) ?_
      simp (disch := omega) only [nI_add, pk_mul, nI_clamp, nI_1]
      refine ih trivial _ (fun f hf => by unfold upB; rw [va_up_ne _ _ hf]; exact b1 f hf) (fun y hy => ?_)
      unfold upB
      rw [va_up_self, b1 39 (by decide)]
      by_cases e : y = x
      · subst e; rw [va_up_self]
      · rw [va_up_ne _ _ e]; exact b2 y (by omega)
