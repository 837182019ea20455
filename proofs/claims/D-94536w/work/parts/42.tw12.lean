set_option maxRecDepth 100000
/-! ===== UnseenClockModel: looksIn ===== -/
def tkA (A : Nat → Nat → Int32) (n : Nat) : Bool := decide (nI n < A 0 24) && !decide (A 23 n = 0)
theorem mcA_congr5 {A A' : Nat → Nat → Int32} (e1 : A' 1 = A 1) (e17 : A' 17 = A 17) (e31 : A' 31 = A 31) (e19 : A' 19 = A 19) (e18 : A' 18 = A 18) (m : Nat) : mcA A' m = mcA A m := by
  have s1 : seeA A' = seeA A := by funext p c; simp only [seeA, e17]
  have s2 : mbA A' = mbA A := by funext p c; simp only [mbA, e31]
  have s3 : shA A' (m - 1) = shA A (m - 1) := by funext c; simp only [shA, e18, e1]
  simp only [mcA, s1, s2, s3, e1, e19]
theorem bX4_looksIn_0 : Blk TP mX4_looksIn 0 2 [oAL 0, oIL 1] := blk_c (s_aload_n dX4_looksIn_0 rfl) <| blk_c (s_iload_n dX4_looksIn_1 rfl) <| blk_nil
theorem bX4_looksIn_5 : Blk TP mX4_looksIn 5 6 [oAL 0] := blk_c (s_aload_n dX4_looksIn_5 rfl) <| blk_nil
theorem bX4_looksIn_9 : Blk TP mX4_looksIn 9 11 [oC (nI 0), oIS 2] := blk_c (s_iconst dX4_looksIn_9 (by decide +kernel)) <| blk_c (s_istore_n dX4_looksIn_10 rfl (by decide)) <| blk_nil
theorem bX4_looksIn_11 : Blk TP mX4_looksIn 11 14 [oIL 2, oC (nI 32)] := blk_c (s_iload_n dX4_looksIn_11 rfl) <| blk_c (s_bipush dX4_looksIn_12 (by decide +kernel)) <| blk_nil
theorem bX4_looksIn_17 : Blk TP mX4_looksIn 17 11 [oAL 0, tR 30, oIL 2, oC (-1), tSI 30 32, oInc 2 1, .inl (fun s => some s)] := blk_c (s_aload_n dX4_looksIn_17 rfl) <| blk_c (tgX4_30 rfl dX4_looksIn_18) <| blk_c (s_iload_n dX4_looksIn_21 rfl) <| blk_c (s_iconst dX4_looksIn_22 (by decide +kernel)) <| blk_c (t_iast rfl dX4_looksIn_23) <| blk_c (s_iinc dX4_looksIn_24 (by decide +kernel) (by decide)) <| blk_c (s_goto (tgt := 11) dX4_looksIn_27 (by decide)) <| blk_nil
theorem bX4_looksIn_30 : Blk TP mX4_looksIn 30 32 [oC (nI 0), oIS 2] := blk_c (s_iconst dX4_looksIn_30 (by decide +kernel)) <| blk_c (s_istore_n dX4_looksIn_31 rfl (by decide)) <| blk_nil
theorem bX4_looksIn_32 : Blk TP mX4_looksIn 32 35 [oIL 2, oC (nI 8)] := blk_c (s_iload_n dX4_looksIn_32 rfl) <| blk_c (s_bipush dX4_looksIn_33 (by decide +kernel)) <| blk_nil
theorem bX4_looksIn_38 : Blk TP mX4_looksIn 38 32 [oAL 0, tR 19, oC (nI 8), oIL 1, oMul, oIL 2, oAdd, oC (nI 0), tSI 19 320, oAL 0, tR 20, oC (nI 8), oIL 1, oMul, oIL 2, oAdd, oC (nI 0), tSI 20 320, oInc 2 1, .inl (fun s => some s)] := blk_c (s_aload_n dX4_looksIn_38 rfl) <| blk_c (tgX4_19 rfl dX4_looksIn_39) <| blk_c (s_bipush dX4_looksIn_42 (by decide +kernel)) <| blk_c (s_iload_n dX4_looksIn_44 rfl) <| blk_c (s_imul dX4_looksIn_45) <| blk_c (s_iload_n dX4_looksIn_46 rfl) <| blk_c (s_iadd dX4_looksIn_47) <| blk_c (s_iconst dX4_looksIn_48 (by decide +kernel)) <| blk_c (t_iast rfl dX4_looksIn_49) <| blk_c (s_aload_n dX4_looksIn_50 rfl) <| blk_c (tgX4_20 rfl dX4_looksIn_51) <| blk_c (s_bipush dX4_looksIn_54 (by decide +kernel)) <| blk_c (s_iload_n dX4_looksIn_56 rfl) <| blk_c (s_imul dX4_looksIn_57) <| blk_c (s_iload_n dX4_looksIn_58 rfl) <| blk_c (s_iadd dX4_looksIn_59) <| blk_c (s_iconst dX4_looksIn_60 (by decide +kernel)) <| blk_c (t_iast rfl dX4_looksIn_61) <| blk_c (s_iinc dX4_looksIn_62 (by decide +kernel) (by decide)) <| blk_c (s_goto (tgt := 32) dX4_looksIn_65 (by decide)) <| blk_nil
theorem bX4_looksIn_68 : Blk TP mX4_looksIn 68 70 [oAL 0, oIL 1] := blk_c (s_aload_n dX4_looksIn_68 rfl) <| blk_c (s_iload_n dX4_looksIn_69 rfl) <| blk_nil
theorem bX4_looksIn_73 : Blk TP mX4_looksIn 73 78 [oAL 0, tC_V F_firstUnknown, oIS 2] := blk_c (s_aload_n dX4_looksIn_73 rfl) <| blk_c (tc_V ok_firstUnknown gX4_firstUnknown (by decide +kernel) (by decide) dX4_looksIn_74) <| blk_c (s_istore_n dX4_looksIn_77 rfl (by decide)) <| blk_nil
theorem bX4_looksIn_78 : Blk TP mX4_looksIn 78 80 [oIL 2, oC (-1)] := blk_c (s_iload_n dX4_looksIn_78 rfl) <| blk_c (s_iconst dX4_looksIn_79 (by decide +kernel)) <| blk_nil
theorem bX4_looksIn_83 : Blk TP mX4_looksIn 83 96 [oAL 0, tR 30, oIL 2, oAL 0, tI 22, oAL 0, tI 24] := blk_c (s_aload_n dX4_looksIn_83 rfl) <| blk_c (tgX4_30 rfl dX4_looksIn_84) <| blk_c (s_iload_n dX4_looksIn_87 rfl) <| blk_c (s_aload_n dX4_looksIn_88 rfl) <| blk_c (tgX4_22 rfl dX4_looksIn_89) <| blk_c (s_aload_n dX4_looksIn_92 rfl) <| blk_c (tgX4_24 rfl dX4_looksIn_93) <| blk_nil
theorem bX4_looksIn_99 : Blk TP mX4_looksIn 99 108 [oAL 0, tR 23, oAL 0, tI 22, tAI 23 1280] := blk_c (s_aload_n dX4_looksIn_99 rfl) <| blk_c (tgX4_23 rfl dX4_looksIn_100) <| blk_c (s_aload_n dX4_looksIn_103 rfl) <| blk_c (tgX4_22 rfl dX4_looksIn_104) <| blk_c (t_zald rfl dX4_looksIn_107) <| blk_nil
theorem bX4_looksIn_111 : Blk TP mX4_looksIn 111 116 [oC (nI 1), .inl (fun s => some s)] := blk_c (s_iconst dX4_looksIn_111 (by decide +kernel)) <| blk_c (s_goto (tgt := 116) dX4_looksIn_112 (by decide)) <| blk_nil
theorem bX4_looksIn_115 : Blk TP mX4_looksIn 115 116 [oC (nI 0)] := blk_c (s_iconst dX4_looksIn_115 (by decide +kernel)) <| blk_nil
theorem bX4_looksIn_116 : Blk TP mX4_looksIn 116 174 [tSI 30 32, oAL 0, tR 21, oAL 0, tI 22, oC (nI 100), oIL 1, oMul, oC (nI 10), oIL 2, oC (nI 4), oDiv, oMul, oAdd, oIL 2, oC (nI 4), oRem, oAdd, tSI 21 1280, oAL 0, oDupR, tI 22, oC (nI 1), oAdd, tPI 22, oAL 0, tR 20, oC (nI 8), oIL 1, oMul, oIL 2, oC (nI 4), oDiv, oAdd, oDup2IR, tAI 20 320, oC (nI 1), oIL 2, oC (nI 4), oRem, oShl, oOr, tSI 20 320, oAL 0, oIL 1] := blk_c (t_iast rfl dX4_looksIn_116) <| blk_c (s_aload_n dX4_looksIn_117 rfl) <| blk_c (tgX4_21 rfl dX4_looksIn_118) <| blk_c (s_aload_n dX4_looksIn_121 rfl) <| blk_c (tgX4_22 rfl dX4_looksIn_122) <| blk_c (s_bipush dX4_looksIn_125 (by decide +kernel)) <| blk_c (s_iload_n dX4_looksIn_127 rfl) <| blk_c (s_imul dX4_looksIn_128) <| blk_c (s_bipush dX4_looksIn_129 (by decide +kernel)) <| blk_c (s_iload_n dX4_looksIn_131 rfl) <| blk_c (s_iconst dX4_looksIn_132 (by decide +kernel)) <| blk_c (s_idiv dX4_looksIn_133) <| blk_c (s_imul dX4_looksIn_134) <| blk_c (s_iadd dX4_looksIn_135) <| blk_c (s_iload_n dX4_looksIn_136 rfl) <| blk_c (s_iconst dX4_looksIn_137 (by decide +kernel)) <| blk_c (s_irem dX4_looksIn_138) <| blk_c (s_iadd dX4_looksIn_139) <| blk_c (t_iast rfl dX4_looksIn_140) <| blk_c (s_aload_n dX4_looksIn_141 rfl) <| blk_c (s_dupR dX4_looksIn_142) <| blk_c (tgX4_22 rfl dX4_looksIn_143) <| blk_c (s_iconst dX4_looksIn_146 (by decide +kernel)) <| blk_c (s_iadd dX4_looksIn_147) <| blk_c (tpX4_22 rfl dX4_looksIn_148) <| blk_c (s_aload_n dX4_looksIn_151 rfl) <| blk_c (tgX4_20 rfl dX4_looksIn_152) <| blk_c (s_bipush dX4_looksIn_155 (by decide +kernel)) <| blk_c (s_iload_n dX4_looksIn_157 rfl) <| blk_c (s_imul dX4_looksIn_158) <| blk_c (s_iload_n dX4_looksIn_159 rfl) <| blk_c (s_iconst dX4_looksIn_160 (by decide +kernel)) <| blk_c (s_idiv dX4_looksIn_161) <| blk_c (s_iadd dX4_looksIn_162) <| blk_c (s_dup2IR dX4_looksIn_163) <| blk_c (t_iald rfl dX4_looksIn_164) <| blk_c (s_iconst dX4_looksIn_165 (by decide +kernel)) <| blk_c (s_iload_n dX4_looksIn_166 rfl) <| blk_c (s_iconst dX4_looksIn_167 (by decide +kernel)) <| blk_c (s_irem dX4_looksIn_168) <| blk_c (s_ishl dX4_looksIn_169) <| blk_c (s_ior dX4_looksIn_170) <| blk_c (t_iast rfl dX4_looksIn_171) <| blk_c (s_aload_n dX4_looksIn_172 rfl) <| blk_c (s_iload_n dX4_looksIn_173 rfl) <| blk_nil
theorem bX4_looksIn_177 : Blk TP mX4_looksIn 177 78 [oAL 0, tC_V F_firstUnknown, oIS 2, .inl (fun s => some s)] := blk_c (s_aload_n dX4_looksIn_177 rfl) <| blk_c (tc_V ok_firstUnknown gX4_firstUnknown (by decide +kernel) (by decide) dX4_looksIn_178) <| blk_c (s_istore_n dX4_looksIn_181 rfl (by decide)) <| blk_c (s_goto (tgt := 78) dX4_looksIn_182 (by decide)) <| blk_nil
theorem bX4_looksIn_185 : Blk TP mX4_looksIn 185 187 [oC (nI 0), oIS 3] := blk_c (s_iconst dX4_looksIn_185 (by decide +kernel)) <| blk_c (s_istore_n dX4_looksIn_186 rfl (by decide)) <| blk_nil
theorem bX4_looksIn_187 : Blk TP mX4_looksIn 187 194 [oIL 3, oAL 0, tR 1, oC (nI 2), tAI 1 320] := blk_c (s_iload_n dX4_looksIn_187 rfl) <| blk_c (s_aload_n dX4_looksIn_188 rfl) <| blk_c (tgX4_1 rfl dX4_looksIn_189) <| blk_c (s_iconst dX4_looksIn_192 (by decide +kernel)) <| blk_c (t_iald rfl dX4_looksIn_193) <| blk_nil
theorem bX4_looksIn_197 : Blk TP mX4_looksIn 197 200 [oC (nI 0), oIS 4] := blk_c (s_iconst dX4_looksIn_197 (by decide +kernel)) <| blk_c (s_istore dX4_looksIn_198 (by decide)) <| blk_nil
theorem bX4_looksIn_200 : Blk TP mX4_looksIn 200 208 [oIL 4, oAL 0, tR 1, oC (nI 1), tAI 1 320] := blk_c (s_iload dX4_looksIn_200) <| blk_c (s_aload_n dX4_looksIn_202 rfl) <| blk_c (tgX4_1 rfl dX4_looksIn_203) <| blk_c (s_iconst dX4_looksIn_206 (by decide +kernel)) <| blk_c (t_iald rfl dX4_looksIn_207) <| blk_nil
theorem bX4_looksIn_211 : Blk TP mX4_looksIn 211 200 [oAL 0, tR 19, oC (nI 8), oIL 1, oMul, oIL 3, oAdd, oDup2IR, tAI 19 320, oAL 0, tR 30, oC (nI 4), oIL 3, oMul, oIL 4, oAdd, tAI 30 32, oIL 4, oShl, oOr, tSI 19 320, oInc 4 1, .inl (fun s => some s)] := blk_c (s_aload_n dX4_looksIn_211 rfl) <| blk_c (tgX4_19 rfl dX4_looksIn_212) <| blk_c (s_bipush dX4_looksIn_215 (by decide +kernel)) <| blk_c (s_iload_n dX4_looksIn_217 rfl) <| blk_c (s_imul dX4_looksIn_218) <| blk_c (s_iload_n dX4_looksIn_219 rfl) <| blk_c (s_iadd dX4_looksIn_220) <| blk_c (s_dup2IR dX4_looksIn_221) <| blk_c (t_iald rfl dX4_looksIn_222) <| blk_c (s_aload_n dX4_looksIn_223 rfl) <| blk_c (tgX4_30 rfl dX4_looksIn_224) <| blk_c (s_iconst dX4_looksIn_227 (by decide +kernel)) <| blk_c (s_iload_n dX4_looksIn_228 rfl) <| blk_c (s_imul dX4_looksIn_229) <| blk_c (s_iload dX4_looksIn_230) <| blk_c (s_iadd dX4_looksIn_232) <| blk_c (t_iald rfl dX4_looksIn_233) <| blk_c (s_iload dX4_looksIn_234) <| blk_c (s_ishl dX4_looksIn_236) <| blk_c (s_ior dX4_looksIn_237) <| blk_c (t_iast rfl dX4_looksIn_238) <| blk_c (s_iinc dX4_looksIn_239 (by decide +kernel) (by decide)) <| blk_c (s_goto (tgt := 200) dX4_looksIn_242 (by decide)) <| blk_nil
theorem bX4_looksIn_245 : Blk TP mX4_looksIn 245 187 [oInc 3 1, .inl (fun s => some s)] := blk_c (s_iinc dX4_looksIn_245 (by decide +kernel) (by decide)) <| blk_c (s_goto (tgt := 187) dX4_looksIn_248 (by decide)) <| blk_nil
theorem li_end {X : Cx} {o : Nat} {ad : Nat → Nat} {A1 : Nat → Nat → Int32} {B1 : Nat → Nat → Int64} {v : Nat → Nat} {mn : Nat} {Q : QR} (hw : WOk (A1 1) v) (hm : mn < 40) (h0 : ∀ p, p < 8 → A1 19 (8 * mn + p) = nI 0)
    (hfin : ∀ A', (∀ k, k ≠ 19 → A' k = A1 k) → (∀ j, j < 8 * mn ∨ 8 * mn + 8 ≤ j → A' 19 j = A1 19 j) → (∀ p, p < 8 → A' 19 (8 * mn + p) = if p < v 2 then lookBits (A1 30) p (v 1) else nI 0) → Q none A' B1) :
    JS TP X mX4_looksIn (rmOf mX4_looksIn.lv 0 0) (ZR X o ad Q) 0 0 185 [some (.ref o), some (.int (nI mn)), none, none, none] [] (o, ad, A1, B1) := by
  have h8 : v 2 ≤ 8 := hw.2.2.2.1
  have h4 : v 1 ≤ 4 := hw.2.2.1
  have e1 : A1 1 1 = nI (v 1) := hw.1 1 (by decide)
  have e2 : A1 1 2 = nI (v 2) := hw.1 2 (by decide)
  refine bX4_looksIn_185.go rfl trivial ?_
  refine loop_down (N := v 2) (I := fun _ => True) (P := fun p => ∀ A', (∀ k, k ≠ 19 → A' k = A1 k) → (∀ j, j < 8 * mn ∨ 8 * mn + 8 ≤ j → A' 19 j = A1 19 j) → (∀ q, q < 8 → A' 19 (8 * mn + q) = if q < p then lookBits (A1 30) q (v 1) else nI 0) → JS TP X mX4_looksIn (rmOf mX4_looksIn.lv 0 0) (ZR X o ad Q) 0 0 187 [some (.ref o), some (.int (nI mn)), none, some (.int (nI p)), none] [] (o, ad, A', B1)) ?_ ?_ 0 (by omega) trivial A1 (fun _ _ => rfl) (fun _ _ => rfl) (fun q hq => by rw [if_neg (by omega)]; exact h0 q hq)
  · intro _ A' hA hO hS
    have eA : A' 1 = A1 1 := hA 1 (by decide)
    refine bX4_looksIn_187.go rfl ⟨rfl, ⟨rfl, vp_in_nI (by decide) (by decide)⟩, trivial⟩ ?_
    refine j_icmp_ge (tgt := 251) dX4_looksIn_194 (by decide) (fun h194 => ?_) (fun h194 => ?_)
    · exact r_vret dX4_looksIn_251 rfl (hfin A' hA hO hS)
    · simp (disch := omega) only [nI_clamp, eA, e2, nI_leI] at h194; omega
  · intro p hp _ ih A' hA hO hS
    have eA : A' 1 = A1 1 := hA 1 (by decide)
    refine bX4_looksIn_187.go rfl ⟨rfl, ⟨rfl, vp_in_nI (by decide) (by decide)⟩, trivial⟩ ?_
    refine j_icmp_ge (tgt := 251) dX4_looksIn_194 (by decide) (fun h194 => ?_) (fun h194 => ?_)
    · simp (disch := omega) only [nI_clamp, eA, e2, nI_leI] at h194; omega
    · refine bX4_looksIn_197.go rfl trivial ?_
      refine loop_down (N := v 1) (I := fun _ => True) (P := fun c => ∀ A', (∀ k, k ≠ 19 → A' k = A1 k) → (∀ j, j < 8 * mn ∨ 8 * mn + 8 ≤ j → A' 19 j = A1 19 j) → (∀ q, q < 8 → A' 19 (8 * mn + q) = if q < p then lookBits (A1 30) q (v 1) else if q = p then lookBits (A1 30) q c else nI 0) → JS TP X mX4_looksIn (rmOf mX4_looksIn.lv 0 0) (ZR X o ad Q) 0 0 200 [some (.ref o), some (.int (nI mn)), none, some (.int (nI p)), some (.int (nI c))] [] (o, ad, A', B1)) ?_ ?_ 0 (by omega) trivial A' hA hO (fun q hq => by rw [hS q hq]; split; rfl; split; rfl; rfl)
      · intro _ A' hA hO hS
        have eA : A' 1 = A1 1 := hA 1 (by decide)
        refine bX4_looksIn_200.go rfl ⟨rfl, ⟨rfl, vp_in_nI (by decide) (by decide)⟩, trivial⟩ ?_
        refine j_icmp_ge (tgt := 245) dX4_looksIn_208 (by decide) (fun h208 => ?_) (fun h208 => ?_)
        · refine bX4_looksIn_245.go rfl trivial ?_
          rw [nI_1]
          refine JS.weak (by simp [lsub]) (ih trivial A' hA hO (fun q hq => ?_))
          rw [hS q hq]
          by_cases c1 : q < p
          · rw [if_pos c1, if_pos (by omega)]
          · rw [if_neg c1]
            by_cases c2 : q = p
            · rw [if_pos c2, if_pos (by omega)]
            · rw [if_neg c2, if_neg (by omega)]
        · simp (disch := omega) only [nI_clamp, eA, e1, nI_leI] at h208; omega
      · intro c hc _ ih2 A' hA hO hS
        have eA : A' 1 = A1 1 := hA 1 (by decide)
        have e30 : A' 30 = A1 30 := hA 30 (by decide)
        refine bX4_looksIn_200.go rfl ⟨rfl, ⟨rfl, vp_in_nI (by decide) (by decide)⟩, trivial⟩ ?_
        refine j_icmp_ge (tgt := 245) dX4_looksIn_208 (by decide) (fun h208 => ?_) (fun h208 => ?_)
        · simp (disch := omega) only [nI_clamp, eA, e1, nI_leI] at h208; omega
        · refine bX4_looksIn_211.go rfl (by simp (disch := omega) only [nI_add, pk_mul, vpI]; exact ⟨trivial, ⟨trivial, by omega⟩, trivial, ⟨trivial, by omega⟩, ⟨trivial, by omega⟩, trivial⟩) ?_
          simp (disch := omega) only [nI_1, nI_add, pk_mul, nI_clamp, e30]
          refine ih2 trivial _ (fun k hk => by rw [upA_ne hk, hA k hk]) (fun j hj => by rw [upA_at, if_neg (by omega)]; exact hO j hj) (fun q hq => ?_)
          rw [upA_at]
          by_cases c2 : q = p
          · subst c2
            rw [if_pos rfl, if_neg (by omega), if_pos rfl, hS q hq, if_neg (by omega), if_pos rfl]
            rfl
          · rw [if_neg (by omega), hS q hq]
            by_cases c1 : q < p
            · rw [if_pos c1, if_pos c1]
            · rw [if_neg c1, if_neg c1, if_neg c2, if_neg c2]
/-- the arrays A2 behind A1 while open looks are taken -/
def LR (A1 A2 : Nat → Nat → Int32) (mn n0 : Nat) (s : OS) : Prop := (∀ k, k ≠ 0 → k ≠ 20 → k ≠ 21 → k ≠ 30 → A2 k = A1 k) ∧ (∀ j, j ≠ 22 → A2 0 j = A1 0 j) ∧ A2 0 22 = nI s.2.1 ∧ A2 21 = s.2.2.1 ∧ A2 30 = s.1 ∧ (∀ j, j < 8 * mn ∨ 8 * mn + 8 ≤ j → A2 20 j = A1 20 j) ∧ (∀ p, p < 8 → A2 20 (8 * mn + p) = s.2.2.2 p) ∧ s.2.1 + cntU s.1 32 ≤ n0 + 32
theorem li_open {X : Cx} {Z : ZT} {o : Nat} {ad : Nat → Nat} {A1 : Nat → Nat → Int32} {B1 : Nat → Nat → Int64} {v : Nat → Nat} {mn n0 : Nat} (hw : WOk (A1 1) v) (hm : mn < 40) (hn0 : n0 ≤ 32 * mn) :
    ∀ f s A2, LR A1 A2 mn n0 s → cntU s.1 32 < f → (∀ A', LR A1 A' mn n0 (opL (mcA A1 mn) (v 1) (v 2) (tkA A1) mn f s) → JS TP X mX4_looksIn (rmOf mX4_looksIn.lv 0 0) Z 0 0 185 [some (.ref o), some (.int (nI mn)), none, none, none] [] (o, ad, A', B1)) →
    JS TP X mX4_looksIn (rmOf mX4_looksIn.lv 0 0) Z 0 0 78 [some (.ref o), some (.int (nI mn)), some (.int (optI (fuP (vf s.1) (v 1) (v 2) 0))), none, none] [] (o, ad, A2, B1) := by
  have h8 : v 2 ≤ 8 := hw.2.2.2.1
  have h4 : v 1 ≤ 4 := hw.2.2.1
  have e1 : A1 1 1 = nI (v 1) := hw.1 1 (by decide)
  have e2 : A1 1 2 = nI (v 2) := hw.1 2 (by decide)
  intro f
  induction f with
  | zero => intro s A2 _ h; omega
  | succ f ihf =>
    intro s A2 hR hcnt hend
    obtain ⟨r1, r2, r3, r4, r5, r6, r7, r8⟩ := id hR
    simp only [opL] at hend
    cases hfu : fuP (vf s.1) (v 1) (v 2) 0 with
    | none =>
      rw [hfu] at hend
      refine bX4_looksIn_78.go rfl trivial ?_
      refine j_icmp_eq (tgt := 185) dX4_looksIn_80 (by decide) (fun h80 => ?_) (fun h80 => absurd rfl h80)
      exact JS.weak (by simp [lsub]) (hend A2 hR)
    | some k =>
      rw [hfu] at hend
      obtain ⟨p', c', hp', hc', hk, hV⟩ := fuP_some _ _ hfu
      have hk32 : k < 32 := by omega
      have hVk : s.1 k = -1 := by rw [hk]; exact hV
      have hmod : k - k / 4 * 4 = k % 4 := by omega
      have hon : s.2.1 < 1280 := by
        have hpos : 0 < cntU s.1 32 := by
          have := cntU_up (x := nI 0) hVk (by decide +kernel) 32
          rw [if_pos hk32] at this; omega
        omega
      refine bX4_looksIn_78.go rfl trivial ?_
      refine j_icmp_eq (tgt := 185) dX4_looksIn_80 (by decide) (fun h80 => ?_) (fun h80 => ?_)
      · exfalso
        have := congrArg Int32.toInt h80
        rw [show optI (some k) = nI k from rfl, nI_toInt (by omega), show (-1 : Int32).toInt = -1 by decide +kernel] at this
        omega
      · have j116 : ∀ z, z = b2 (tkA A1 s.2.1) → JS TP X mX4_looksIn (rmOf mX4_looksIn.lv 0 0) Z 0 0 116 [some (.ref o), some (.int (nI mn)), some (.int (nI k)), none, none] [.int z, .int (nI k), .ref (ad 30)] (o, ad, A2, B1) := by
          intro z hz
          have u1 : ∀ z : Int32, upA A2 30 k z 0 22 = nI s.2.1 := fun z => by rw [upA_ne (by decide)]; exact r3
          refine bX4_looksIn_116.go rfl (by
            simp (disch := omega) only [nI_add, pk_mul, pk_div, pk_sub, hmod, vpI, nI_clamp, upA_ne, r3]
            exact ⟨⟨trivial, hk32⟩, trivial, trivial, nI_ne0 (by decide) (by decide), nI_ne0 (by decide) (by decide), ⟨trivial, hon⟩, trivial, trivial, trivial, nI_ne0 (by decide) (by decide), ⟨trivial, by omega⟩, nI_ne0 (by decide) (by decide), ⟨trivial, by omega⟩, trivial⟩) ?_
          simp (disch := omega) only [nI_add, pk_mul, pk_div, pk_sub, hmod, nI_clamp, upA_ne, r3]
          generalize hA3 : upA (upA (upA (upA A2 30 k z) 21 s.2.1 (nI (100 * mn + 10 * (k / 4) + k % 4))) 0 22 (nI (s.2.1 + 1))) 20 (8 * mn + k / 4) (A2 20 (8 * mn + k / 4) ||| nI 1 <<< (nI (k % 4) &&& 31)) = A3
          have f1 : ∀ q, q ≠ 0 → q ≠ 20 → q ≠ 21 → q ≠ 30 → A3 q = A1 q := fun q a b c d => by rw [← hA3, upA_ne b, upA_ne a, upA_ne c, upA_ne d]; exact r1 q a b c d
          have f30 : A3 30 = va_up s.1 k z := by rw [← hA3, upA_ne (by decide), upA_ne (by decide), upA_ne (by decide)]; unfold upA; rw [va_up_self, r5]
          have f21 : A3 21 = va_up s.2.2.1 s.2.1 (nI (100 * mn + 10 * (k / 4) + k % 4)) := by rw [← hA3, upA_ne (by decide), upA_ne (by decide)]; unfold upA; rw [va_up_self, va_up_ne _ _ (by decide), r4]
          have f0 : ∀ j, A3 0 j = if j = 22 then nI (s.2.1 + 1) else A1 0 j := fun j => by
            rw [← hA3, upA_ne (by decide), upA_at, upA_ne (by decide), upA_ne (by decide)]
            by_cases e : j = 22
            · rw [if_pos e, if_pos e]
            · rw [if_neg e, if_neg e, r2 j e]
          have f20 : ∀ j, A3 20 j = if j = 8 * mn + k / 4 then (A2 20 (8 * mn + k / 4) ||| nI 1 <<< (nI (k % 4) &&& 31)) else A2 20 j := fun j => by
            rw [← hA3, upA_at, upA_ne (by decide), upA_ne (by decide), upA_ne (by decide)]
          have g1 : A3 1 = A1 1 := f1 1 (by decide) (by decide) (by decide) (by decide)
          refine rc_I ok_settles gX4_settles dX4_looksIn_174 rfl ⟨v, mn, by rw [g1]; exact hw, hm, rfl⟩ (fun r A4 B4 hq => ?_)
          obtain ⟨rfl, rfl, q1, q2⟩ := hq
          have g41 : A4 1 = A1 1 := by rw [q1 1 (by decide)]; exact g1
          have hK : mcA A3 mn = mcA A1 mn := mcA_congr5 g1 (f1 17 (by decide) (by decide) (by decide) (by decide)) (f1 31 (by decide) (by decide) (by decide) (by decide)) (f1 19 (by decide) (by decide) (by decide) (by decide)) (f1 18 (by decide) (by decide) (by decide) (by decide)) mn
          simp (disch := omega) only [nI_clamp, g1, e1, e2, hK, f30] at q2
          refine bX4_looksIn_177.go rfl ⟨⟨rfl, v, by rw [g41]; exact hw⟩, trivial⟩ ?_
          simp (disch := omega) only [g41, e1, e2, nI_clamp, VA_vf, q2]
          have hs1 : (open1 (mcA A1 mn) (v 1) (v 2) (tkA A1) mn s k).1 = stl (mcA A1 mn) (v 1) (v 2) 33 (va_up s.1 k z) := by simp only [open1, hz]
          have hcn : cntU (open1 (mcA A1 mn) (v 1) (v 2) (tkA A1) mn s k).1 32 + 1 ≤ cntU s.1 32 := by
            rw [hs1]
            have a := stl_cnt (mcA A1 mn) h4 h8 33 (va_up s.1 k z)
            have b := cntU_up (F := s.1) (k := k) (x := z) hVk (by rw [hz]; cases tkA A1 s.2.1 <;> decide +kernel) 32
            rw [if_pos hk32] at b
            omega
          rw [← hs1]
          refine ihf (open1 (mcA A1 mn) (v 1) (v 2) (tkA A1) mn s k) A4 ⟨fun q a b c d => by rw [q1 q d]; exact f1 q a b c d, fun j hj => by rw [q1 0 (by decide), f0, if_neg hj], by rw [q1 0 (by decide), f0, if_pos rfl]; rfl, by rw [q1 21 (by decide), f21]; rfl, by rw [q2, hs1], fun j hj => by rw [q1 20 (by decide), f20, if_neg (by omega)]; exact r6 j hj, fun p hp => ?_, ?_⟩ (by omega) hend
          · rw [q1 20 (by decide), f20]
            show _ = va_up s.2.2.2 (k / 4) (s.2.2.2 (k / 4) ||| (nI 1 <<< (nI (k % 4) &&& 31))) p
            by_cases e : p = k / 4
            · rw [e, if_pos rfl, va_up_self, r7 _ (by omega)]
            · rw [if_neg (by omega), va_up_ne _ _ e]; exact r7 p hp
          · show s.2.1 + 1 + _ ≤ _
            omega
        refine bX4_looksIn_83.go rfl ⟨rfl, rfl, rfl, trivial⟩ ?_
        rw [r2 24 (by decide), r3]
        refine j_icmp_ge (tgt := 115) dX4_looksIn_96 (by decide) (fun h96 => ?_) (fun h96 => ?_)
        · refine bX4_looksIn_115.go rfl trivial ?_
          exact j116 _ (b2_f (by simp only [tkA]; rw [decide_eq_false (Int32.not_lt.mpr h96)]; rfl))
        · refine bX4_looksIn_99.go rfl (by rw [r3, vpI (by omega)]; exact ⟨rfl, rfl, ⟨rfl, hon⟩, trivial⟩) ?_
          simp (disch := omega) only [r3, nI_clamp, r1 23 (by decide) (by decide) (by decide) (by decide)]
          refine j_if_eq (tgt := 115) dX4_looksIn_108 (by decide) (fun h108 => ?_) (fun h108 => ?_)
          · refine bX4_looksIn_115.go rfl trivial ?_
            exact j116 _ (b2_f (by simp [tkA, h108]))
          · refine bX4_looksIn_111.go rfl trivial ?_
            exact j116 _ (b2_t (by simp only [tkA, h108]; rw [decide_eq_true (Int32.not_le.mp h96)]; rfl))
