set_option maxRecDepth 100000
/-! ===== UnseenClockModel: fillSpots ===== -/
theorem bX4_fillSpots_0 : Blk TP mX4_fillSpots 0 2 [oC (nI 0), oIS 2] := blk_c (s_iconst dX4_fillSpots_0 (by decide +kernel)) <| blk_c (s_istore_n dX4_fillSpots_1 rfl (by decide)) <| blk_nil
theorem bX4_fillSpots_2 : Blk TP mX4_fillSpots 2 5 [oIL 2, oC (nI 40)] := blk_c (s_iload_n dX4_fillSpots_2 rfl) <| blk_c (s_bipush dX4_fillSpots_3 (by decide +kernel)) <| blk_nil
theorem bX4_fillSpots_8 : Blk TP mX4_fillSpots 8 2 [oAL 0, oIL 1, oIL 2, oC (-1), oC (-1), tC_IIII F_setSpot, oInc 2 1, .inl (fun s => some s)] := blk_c (s_aload_n dX4_fillSpots_8 rfl) <| blk_c (s_iload_n dX4_fillSpots_9 rfl) <| blk_c (s_iload_n dX4_fillSpots_10 rfl) <| blk_c (s_iconst dX4_fillSpots_11 (by decide +kernel)) <| blk_c (s_iconst dX4_fillSpots_12 (by decide +kernel)) <| blk_c (tc_IIII ok_setSpot gX4_setSpot (by decide +kernel) (by decide) dX4_fillSpots_13) <| blk_c (s_iinc dX4_fillSpots_16 (by decide +kernel) (by decide)) <| blk_c (s_goto (tgt := 2) dX4_fillSpots_19 (by decide)) <| blk_nil
theorem bX4_fillSpots_22 : Blk TP mX4_fillSpots 22 56 [oAL 0, oIL 1, oC (nI 2), tC_II F_of, oIS 2, oAL 0, oIL 1, oC (nI 0), tC_II F_of, oIS 3, oAL 0, oIL 1, oC (nI 1), tC_II F_of, oIS 4, oAL 0, oIL 1, oIL 2, oIL 3, oIL 4, tC_IIII F_setSpot, oC (nI 0), oIS 5] := blk_c (s_aload_n dX4_fillSpots_22 rfl) <| blk_c (s_iload_n dX4_fillSpots_23 rfl) <| blk_c (s_iconst dX4_fillSpots_24 (by decide +kernel)) <| blk_c (tc_II ok_of gX4_of (by decide +kernel) (by decide) dX4_fillSpots_25) <| blk_c (s_istore_n dX4_fillSpots_28 rfl (by decide)) <| blk_c (s_aload_n dX4_fillSpots_29 rfl) <| blk_c (s_iload_n dX4_fillSpots_30 rfl) <| blk_c (s_iconst dX4_fillSpots_31 (by decide +kernel)) <| blk_c (tc_II ok_of gX4_of (by decide +kernel) (by decide) dX4_fillSpots_32) <| blk_c (s_istore_n dX4_fillSpots_35 rfl (by decide)) <| blk_c (s_aload_n dX4_fillSpots_36 rfl) <| blk_c (s_iload_n dX4_fillSpots_37 rfl) <| blk_c (s_iconst dX4_fillSpots_38 (by decide +kernel)) <| blk_c (tc_II ok_of gX4_of (by decide +kernel) (by decide) dX4_fillSpots_39) <| blk_c (s_istore dX4_fillSpots_42 (by decide)) <| blk_c (s_aload_n dX4_fillSpots_44 rfl) <| blk_c (s_iload_n dX4_fillSpots_45 rfl) <| blk_c (s_iload_n dX4_fillSpots_46 rfl) <| blk_c (s_iload_n dX4_fillSpots_47 rfl) <| blk_c (s_iload dX4_fillSpots_48) <| blk_c (tc_IIII ok_setSpot gX4_setSpot (by decide +kernel) (by decide) dX4_fillSpots_50) <| blk_c (s_iconst dX4_fillSpots_53 (by decide +kernel)) <| blk_c (s_istore dX4_fillSpots_54 (by decide)) <| blk_nil
theorem bX4_fillSpots_56 : Blk TP mX4_fillSpots 56 64 [oIL 5, oAL 0, oIL 1, oC (nI 3), tC_II F_of] := blk_c (s_iload dX4_fillSpots_56) <| blk_c (s_aload_n dX4_fillSpots_58 rfl) <| blk_c (s_iload_n dX4_fillSpots_59 rfl) <| blk_c (s_iconst dX4_fillSpots_60 (by decide +kernel)) <| blk_c (tc_II ok_of gX4_of (by decide +kernel) (by decide) dX4_fillSpots_61) <| blk_nil
theorem bX4_fillSpots_67 : Blk TP mX4_fillSpots 67 83 [oAL 0, oIL 1, oC (nI 5), oC (nI 2), oIL 5, oMul, oAdd, tC_II F_of, oIS 6, oC (nI 0), oIS 7] := blk_c (s_aload_n dX4_fillSpots_67 rfl) <| blk_c (s_iload_n dX4_fillSpots_68 rfl) <| blk_c (s_iconst dX4_fillSpots_69 (by decide +kernel)) <| blk_c (s_iconst dX4_fillSpots_70 (by decide +kernel)) <| blk_c (s_iload dX4_fillSpots_71) <| blk_c (s_imul dX4_fillSpots_73) <| blk_c (s_iadd dX4_fillSpots_74) <| blk_c (tc_II ok_of gX4_of (by decide +kernel) (by decide) dX4_fillSpots_75) <| blk_c (s_istore dX4_fillSpots_78 (by decide)) <| blk_c (s_iconst dX4_fillSpots_80 (by decide +kernel)) <| blk_c (s_istore dX4_fillSpots_81 (by decide)) <| blk_nil
theorem bX4_fillSpots_83 : Blk TP mX4_fillSpots 83 98 [oIL 7, oAL 0, oIL 1, oC (nI 5), oC (nI 2), oIL 5, oMul, oAdd, oC (nI 1), oAdd, tC_II F_of] := blk_c (s_iload dX4_fillSpots_83) <| blk_c (s_aload_n dX4_fillSpots_85 rfl) <| blk_c (s_iload_n dX4_fillSpots_86 rfl) <| blk_c (s_iconst dX4_fillSpots_87 (by decide +kernel)) <| blk_c (s_iconst dX4_fillSpots_88 (by decide +kernel)) <| blk_c (s_iload dX4_fillSpots_89) <| blk_c (s_imul dX4_fillSpots_91) <| blk_c (s_iadd dX4_fillSpots_92) <| blk_c (s_iconst dX4_fillSpots_93 (by decide +kernel)) <| blk_c (s_iadd dX4_fillSpots_94) <| blk_c (tc_II ok_of gX4_of (by decide +kernel) (by decide) dX4_fillSpots_95) <| blk_nil
theorem bX4_fillSpots_101 : Blk TP mX4_fillSpots 101 105 [oIL 3, oIL 6, oC (nI 1)] := blk_c (s_iload_n dX4_fillSpots_101 rfl) <| blk_c (s_iload dX4_fillSpots_102) <| blk_c (s_iconst dX4_fillSpots_104 (by decide +kernel)) <| blk_nil
theorem bX4_fillSpots_108 : Blk TP mX4_fillSpots 108 123 [oC (nI 1), .inl (fun s => some s)] := blk_c (s_iconst dX4_fillSpots_108 (by decide +kernel)) <| blk_c (s_goto (tgt := 123) dX4_fillSpots_109 (by decide)) <| blk_nil
theorem bX4_fillSpots_112 : Blk TP mX4_fillSpots 112 115 [oIL 6, oC (nI 3)] := blk_c (s_iload dX4_fillSpots_112) <| blk_c (s_iconst dX4_fillSpots_114 (by decide +kernel)) <| blk_nil
theorem bX4_fillSpots_118 : Blk TP mX4_fillSpots 118 123 [oC (-1), .inl (fun s => some s)] := blk_c (s_iconst dX4_fillSpots_118 (by decide +kernel)) <| blk_c (s_goto (tgt := 123) dX4_fillSpots_119 (by decide)) <| blk_nil
theorem bX4_fillSpots_122 : Blk TP mX4_fillSpots 122 123 [oC (nI 0)] := blk_c (s_iconst dX4_fillSpots_122 (by decide +kernel)) <| blk_nil
theorem bX4_fillSpots_123 : Blk TP mX4_fillSpots 123 131 [oAdd, oIS 8, oIL 4, oIL 6, oC (nI 2)] := blk_c (s_iadd dX4_fillSpots_123) <| blk_c (s_istore dX4_fillSpots_124 (by decide)) <| blk_c (s_iload dX4_fillSpots_126) <| blk_c (s_iload dX4_fillSpots_128) <| blk_c (s_iconst dX4_fillSpots_130 (by decide +kernel)) <| blk_nil
theorem bX4_fillSpots_134 : Blk TP mX4_fillSpots 134 148 [oC (nI 1), .inl (fun s => some s)] := blk_c (s_iconst dX4_fillSpots_134 (by decide +kernel)) <| blk_c (s_goto (tgt := 148) dX4_fillSpots_135 (by decide)) <| blk_nil
theorem bX4_fillSpots_138 : Blk TP mX4_fillSpots 138 140 [oIL 6] := blk_c (s_iload dX4_fillSpots_138) <| blk_nil
theorem bX4_fillSpots_143 : Blk TP mX4_fillSpots 143 148 [oC (-1), .inl (fun s => some s)] := blk_c (s_iconst dX4_fillSpots_143 (by decide +kernel)) <| blk_c (s_goto (tgt := 148) dX4_fillSpots_144 (by decide)) <| blk_nil
theorem bX4_fillSpots_147 : Blk TP mX4_fillSpots 147 148 [oC (nI 0)] := blk_c (s_iconst dX4_fillSpots_147 (by decide +kernel)) <| blk_nil
theorem bX4_fillSpots_148 : Blk TP mX4_fillSpots 148 154 [oAdd, oIS 9, oIL 6, oC (nI 4)] := blk_c (s_iadd dX4_fillSpots_148) <| blk_c (s_istore dX4_fillSpots_149 (by decide)) <| blk_c (s_iload dX4_fillSpots_151) <| blk_c (s_iconst dX4_fillSpots_153 (by decide +kernel)) <| blk_nil
theorem bX4_fillSpots_157 : Blk TP mX4_fillSpots 157 165 [oAL 0, oIL 8, oIL 9, tC_II F_isFree] := blk_c (s_aload_n dX4_fillSpots_157 rfl) <| blk_c (s_iload dX4_fillSpots_158) <| blk_c (s_iload dX4_fillSpots_160) <| blk_c (tc_II ok_isFree gX4_isFree (by decide +kernel) (by decide) dX4_fillSpots_162) <| blk_nil
theorem bX4_fillSpots_168 : Blk TP mX4_fillSpots 168 173 [oC (nI 1), .inl (fun s => some s)] := blk_c (s_iconst dX4_fillSpots_168 (by decide +kernel)) <| blk_c (s_goto (tgt := 173) dX4_fillSpots_169 (by decide)) <| blk_nil
theorem bX4_fillSpots_172 : Blk TP mX4_fillSpots 172 173 [oC (nI 0)] := blk_c (s_iconst dX4_fillSpots_172 (by decide +kernel)) <| blk_nil
theorem bX4_fillSpots_173 : Blk TP mX4_fillSpots 173 177 [oIS 10, oIL 10] := blk_c (s_istore dX4_fillSpots_173 (by decide)) <| blk_c (s_iload dX4_fillSpots_175) <| blk_nil
theorem bX4_fillSpots_180 : Blk TP mX4_fillSpots 180 186 [oIL 8, .inl (fun s => some s)] := blk_c (s_iload dX4_fillSpots_180) <| blk_c (s_goto (tgt := 186) dX4_fillSpots_182 (by decide)) <| blk_nil
theorem bX4_fillSpots_185 : Blk TP mX4_fillSpots 185 186 [oIL 3] := blk_c (s_iload_n dX4_fillSpots_185 rfl) <| blk_nil
theorem bX4_fillSpots_186 : Blk TP mX4_fillSpots 186 189 [oIS 3, oIL 10] := blk_c (s_istore_n dX4_fillSpots_186 rfl (by decide)) <| blk_c (s_iload dX4_fillSpots_187) <| blk_nil
theorem bX4_fillSpots_192 : Blk TP mX4_fillSpots 192 199 [oIL 9, .inl (fun s => some s)] := blk_c (s_iload dX4_fillSpots_192) <| blk_c (s_goto (tgt := 199) dX4_fillSpots_194 (by decide)) <| blk_nil
theorem bX4_fillSpots_197 : Blk TP mX4_fillSpots 197 199 [oIL 4] := blk_c (s_iload dX4_fillSpots_197) <| blk_nil
theorem bX4_fillSpots_199 : Blk TP mX4_fillSpots 199 83 [oIS 4, oInc 2 1, oAL 0, oIL 1, oIL 2, oIL 3, oIL 4, tC_IIII F_setSpot, oInc 7 1, .inl (fun s => some s)] := blk_c (s_istore dX4_fillSpots_199 (by decide)) <| blk_c (s_iinc dX4_fillSpots_201 (by decide +kernel) (by decide)) <| blk_c (s_aload_n dX4_fillSpots_204 rfl) <| blk_c (s_iload_n dX4_fillSpots_205 rfl) <| blk_c (s_iload_n dX4_fillSpots_206 rfl) <| blk_c (s_iload_n dX4_fillSpots_207 rfl) <| blk_c (s_iload dX4_fillSpots_208) <| blk_c (tc_IIII ok_setSpot gX4_setSpot (by decide +kernel) (by decide) dX4_fillSpots_210) <| blk_c (s_iinc dX4_fillSpots_213 (by decide +kernel) (by decide)) <| blk_c (s_goto (tgt := 83) dX4_fillSpots_216 (by decide)) <| blk_nil
theorem bX4_fillSpots_219 : Blk TP mX4_fillSpots 219 56 [oInc 5 1, .inl (fun s => some s)] := blk_c (s_iinc dX4_fillSpots_219 (by decide +kernel) (by decide)) <| blk_c (s_goto (tgt := 56) dX4_fillSpots_222 (by decide)) <| blk_nil
theorem fs_body {X : Cx} {R : Room} {Z : ZT} {o : Nat} {ad : Nat → Nat} {A : Nat → Nat → Int32} {B : Nat → Nat → Int64} {pn m k i : Nat} {X1 Y1 way : Int32} (h8 : pn < 8) (hc : CntOK (A 1)) (hm : m < 999)
    (nx : JS TP X mX4_fillSpots R Z 0 0 83 [some (.ref o), some (.int (nI pn)), some (.int (nI (m + 1))), some (.int (stepP (A 1) way (X1, Y1)).1), some (.int (stepP (A 1) way (X1, Y1)).2), some (.int (nI k)), some (.int way), some (.int (nI (i + 1))), none, none, none] [] (o, ad, setS A pn (m + 1) (stepP (A 1) way (X1, Y1)).1 (stepP (A 1) way (X1, Y1)).2, B)) :
    JS TP X mX4_fillSpots R Z 0 0 101 [some (.ref o), some (.int (nI pn)), some (.int (nI m)), some (.int X1), some (.int Y1), some (.int (nI k)), some (.int way), some (.int (nI i)), none, none, none] [] (o, ad, A, B) := by
  have j199 : ∀ Yn, Yn = (stepP (A 1) way (X1, Y1)).2 → JS TP X mX4_fillSpots R Z 0 0 199 [some (.ref o), some (.int (nI pn)), some (.int (nI m)), some (.int (stepP (A 1) way (X1, Y1)).1), some (.int Y1), some (.int (nI k)), some (.int way), some (.int (nI i)), some (.int (X1 + dxI way)), some (.int (Y1 + dyI way)), some (.int (b2 (goesB (A 1) way (X1, Y1))))] [.int Yn] (o, ad, A, B) := by
    intro Yn hY
    subst hY
    refine bX4_fillSpots_199.go rfl (by simp (disch := omega) only [nI_1, vpI]; exact ⟨⟨trivial, by omega, by omega⟩, trivial⟩) ?_
    simp (disch := omega) only [nI_1, nI_clamp]
    exact JS.weak (by simp [lsub]) nx
  have j186 : ∀ Xn, Xn = (stepP (A 1) way (X1, Y1)).1 → JS TP X mX4_fillSpots R Z 0 0 186 [some (.ref o), some (.int (nI pn)), some (.int (nI m)), some (.int X1), some (.int Y1), some (.int (nI k)), some (.int way), some (.int (nI i)), some (.int (X1 + dxI way)), some (.int (Y1 + dyI way)), some (.int (b2 (goesB (A 1) way (X1, Y1))))] [.int Xn] (o, ad, A, B) := by
    intro Xn hX
    subst hX
    refine bX4_fillSpots_186.go rfl trivial ?_
    refine j_if_eq (tgt := 197) dX4_fillSpots_189 (by decide) (fun h189 => ?_) (fun h189 => ?_)
    · rw [b2_0] at h189
      refine bX4_fillSpots_197.go rfl trivial ?_
      exact j199 _ (by simp [stepP, h189])
    · rw [b2_n0] at h189
      refine bX4_fillSpots_192.go rfl trivial ?_
      exact j199 _ (by simp [stepP, h189])
  have j173 : ∀ g, g = b2 (goesB (A 1) way (X1, Y1)) → JS TP X mX4_fillSpots R Z 0 0 173 [some (.ref o), some (.int (nI pn)), some (.int (nI m)), some (.int X1), some (.int Y1), some (.int (nI k)), some (.int way), some (.int (nI i)), some (.int (X1 + dxI way)), some (.int (Y1 + dyI way)), none] [.int g] (o, ad, A, B) := by
    intro g hg
    subst hg
    refine bX4_fillSpots_173.go rfl trivial ?_
    refine j_if_eq (tgt := 185) dX4_fillSpots_177 (by decide) (fun h177 => ?_) (fun h177 => ?_)
    · rw [b2_0] at h177
      refine bX4_fillSpots_185.go rfl trivial ?_
      exact j186 _ (by simp [stepP, h177])
    · rw [b2_n0] at h177
      refine bX4_fillSpots_180.go rfl trivial ?_
      exact j186 _ (by simp [stepP, h177])
  have j148 : ∀ d, d = dyI way → JS TP X mX4_fillSpots R Z 0 0 148 [some (.ref o), some (.int (nI pn)), some (.int (nI m)), some (.int X1), some (.int Y1), some (.int (nI k)), some (.int way), some (.int (nI i)), some (.int (X1 + dxI way)), none, none] [.int d, .int Y1] (o, ad, A, B) := by
    intro d hd
    subst hd
    refine bX4_fillSpots_148.go rfl trivial ?_
    refine j_icmp_eq (tgt := 172) dX4_fillSpots_154 (by decide) (fun h154 => ?_) (fun h154 => ?_)
    · refine bX4_fillSpots_172.go rfl trivial ?_
      exact j173 _ (b2_f (by simp [goesB, h154]))
    · refine bX4_fillSpots_157.go rfl ⟨⟨rfl, hc⟩, trivial⟩ ?_
      refine j_if_eq (tgt := 172) dX4_fillSpots_165 (by decide) (fun h165 => ?_) (fun h165 => ?_)
      · rw [b2_0] at h165
        refine bX4_fillSpots_172.go rfl trivial ?_
        exact j173 _ (b2_f (by simp [goesB, h165]))
      · rw [b2_n0] at h165
        refine bX4_fillSpots_168.go rfl trivial ?_
        exact j173 _ (b2_t (by simp [goesB, h154, h165]))
  have j123 : ∀ d, d = dxI way → JS TP X mX4_fillSpots R Z 0 0 123 [some (.ref o), some (.int (nI pn)), some (.int (nI m)), some (.int X1), some (.int Y1), some (.int (nI k)), some (.int way), some (.int (nI i)), none, none, none] [.int d, .int X1] (o, ad, A, B) := by
    intro d hd
    subst hd
    refine bX4_fillSpots_123.go rfl trivial ?_
    refine j_icmp_ne (tgt := 138) dX4_fillSpots_131 (by decide) (fun h131 => ?_) (fun h131 => ?_)
    · refine bX4_fillSpots_138.go rfl trivial ?_
      refine j_if_ne (tgt := 147) dX4_fillSpots_140 (by decide) (fun h140 => ?_) (fun h140 => ?_)
      · refine bX4_fillSpots_147.go rfl trivial ?_
        exact j148 _ (by rw [dyI, if_neg h131, if_neg (by rw [nI_0]; exact h140)])
      · refine bX4_fillSpots_143.go rfl trivial ?_
        exact j148 _ (by rw [dyI, if_neg h131, if_pos (by rw [nI_0]; exact h140)])
    · refine bX4_fillSpots_134.go rfl trivial ?_
      exact j148 _ (by rw [dyI, if_pos h131])
  refine bX4_fillSpots_101.go rfl trivial ?_
  refine j_icmp_ne (tgt := 112) dX4_fillSpots_105 (by decide) (fun h105 => ?_) (fun h105 => ?_)
  · refine bX4_fillSpots_112.go rfl trivial ?_
    refine j_icmp_ne (tgt := 122) dX4_fillSpots_115 (by decide) (fun h115 => ?_) (fun h115 => ?_)
    · refine bX4_fillSpots_122.go rfl trivial ?_
      exact j123 _ (by rw [dxI, if_neg h105, if_neg h115])
    · refine bX4_fillSpots_118.go rfl trivial ?_
      exact j123 _ (by rw [dxI, if_neg h105, if_pos h115])
  · refine bX4_fillSpots_108.go rfl trivial ?_
    exact j123 _ (by rw [dxI, if_pos h105])
def SpN (A A' : Nat → Nat → Int32) (p n : Nat) : Prop := (∀ k, k ≠ 15 → k ≠ 16 → A' k = A k) ∧ (∀ j, j < 40 * p ∨ 40 * p + 40 ≤ j → A' 15 j = A 15 j ∧ A' 16 j = A 16 j) ∧ ∀ t, t < n → A' 15 (40 * p + t) = -1 ∧ A' 16 (40 * p + t) = -1
theorem SpN.ext {A A' : Nat → Nat → Int32} {p n : Nat} (h : SpN A A' p n) (hn : n < 40) : SpN A (setS A' p n (-1) (-1)) p (n + 1) := by
  obtain ⟨h1, h2, h3⟩ := h
  refine ⟨fun k a b => by rw [setS_ne a b, h1 k a b], fun j hj => ?_, fun t ht => ?_⟩
  · rw [setS_15, setS_16, if_neg (by omega), if_neg (by omega)]; exact h2 j hj
  · rw [setS_15, setS_16]
    by_cases e : t = n
    · subst e
      rw [if_pos ⟨hn, rfl⟩, if_pos ⟨hn, rfl⟩]; exact ⟨rfl, rfl⟩
    · rw [if_neg (by omega), if_neg (by omega)]; exact h3 t (by omega)
def Pre_fillSpots (p : Int32) (A : Nat → Nat → Int32) (_ : Nat → Nat → Int64) : Prop := ∃ (pn : Nat) (v : Nat → Nat), p = nI pn ∧ WOk (A 1) v ∧ pn < v 2
def Q_fillSpots (p : Int32) (A : Nat → Nat → Int32) (B : Nat → Nat → Int64) : QR := fun r A' B' => r = none ∧ B' = B ∧ SpA A A' p.toNatClampNeg (spotF (A 1) p.toNatClampNeg)
theorem ok_fillSpots : RC_I mX4_fillSpots Pre_fillSpots Q_fillSpots := by
  intro X p o ad A B hpre
  obtain ⟨pn, v, rfl, hw, hp⟩ := hpre
  have hV := hw.2
  have hP := hV.2.2.2.2.2.2.2.2.2.2.1 pn hp
  have h8 : pn < 8 := by have := hV.2.2.1; omega
  have e2 : A 1 (56 + 33 * pn + 2) = nI (v (56 + 33 * pn + 2)) := hw.1 _ (by omega)
  have e3 : A 1 (56 + 33 * pn + 3) = nI (v (56 + 33 * pn + 3)) := hw.1 _ (by omega)
  have b2' : v (56 + 33 * pn + 2) < 40 := by have := hP.2.2.1; have := hV.2.2.2.2.2.2.1; omega
  have b3 : v (56 + 33 * pn + 3) ≤ 6 := hP.2.2.2.1
  have eS : spotF (A 1) pn = (wkO (A 1) pn (v (56 + 33 * pn + 3))).2.2 := by rw [spotF, perI, e3, nI_clamp (by omega)]
  refine R_start (L := [some (.ref o), some (.int (nI pn)), none, none, none, none, none, none, none, none, none]) 9 rfl ?_
  refine bX4_fillSpots_0.go rfl trivial ?_
  refine loop_down (N := 40) (I := fun _ => True) (P := fun t => ∀ A', SpN A A' pn t → JS TP X mX4_fillSpots (rmOf mX4_fillSpots.lv 0 0) _ 0 0 2 [some (.ref o), some (.int (nI pn)), some (.int (nI t)), none, none, none, none, none, none, none, none] [] (o, ad, A', B)) ?_ ?_ 0 (by omega) trivial A ⟨fun _ _ _ => rfl, fun _ _ => ⟨rfl, rfl⟩, fun t ht => by omega⟩
  · intro _ A' hN
    have eA : A' 1 = A 1 := hN.1 1 (by decide) (by decide)
    refine bX4_fillSpots_2.go rfl trivial ?_
    refine j_icmp_ge (tgt := 22) dX4_fillSpots_5 (by decide) (fun h5 => ?_) (fun h5 => ?_)
    · refine bX4_fillSpots_22.go rfl (by simp (disch := omega) only [vpI, nI_clamp, eA, e2]; exact ⟨⟨trivial, by omega, by omega⟩, ⟨trivial, by omega, by omega⟩, ⟨trivial, by omega, by omega⟩, ⟨trivial, by omega, by omega⟩, trivial⟩) ?_
      simp (disch := omega) only [nI_clamp, eA, e2]
      have hS0 : SpA A A' pn (fun _ => none) := ⟨hN.1, hN.2.1, hN.2.2⟩
      have hS1 : SpA A (setS A' pn (v (56 + 33 * pn + 2)) (A 1 (56 + 33 * pn + 0)) (A 1 (56 + 33 * pn + 1))) pn (wkO (A 1) pn 0).2.2 := by
        have := hS0.set (X := A 1 (56 + 33 * pn + 0)) (Y := A 1 (56 + 33 * pn + 1)) (v (56 + 33 * pn + 2)) (some (A 1 (56 + 33 * pn + 0), A 1 (56 + 33 * pn + 1))) rfl rfl
        simpa only [wkO, perI, e2, nI_clamp (show v (56 + 33 * pn + 2) < 2 ^ 31 by omega)] using this
      have em : (wkO (A 1) pn 0).2.1 = v (56 + 33 * pn + 2) := by simp only [wkO, perI, e2]; exact nI_clamp (by omega)
      rw [← em] at hS1 ⊢
      revert hS1
      generalize setS A' pn (wkO (A 1) pn 0).2.1 (A 1 (56 + 33 * pn + 0)) (A 1 (56 + 33 * pn + 1)) = A1
      intro hS1
      refine loop_down (N := v (56 + 33 * pn + 3)) (I := fun _ => True) (P := fun k => ∀ A', SpA A A' pn (wkO (A 1) pn k).2.2 → JS TP X mX4_fillSpots (rmOf mX4_fillSpots.lv 0 0) _ 0 0 56 [some (.ref o), some (.int (nI pn)), some (.int (nI (wkO (A 1) pn k).2.1)), some (.int (wkO (A 1) pn k).1.1), some (.int (wkO (A 1) pn k).1.2), some (.int (nI k)), none, none, none, none, none] [] (o, ad, A', B)) ?_ ?_ 0 (by omega) trivial A1 hS1
      · intro _ A' hS
        have eA : A' 1 = A 1 := hS.1 1 (by decide) (by decide)
        refine bX4_fillSpots_56.go rfl (by simp (disch := omega) only [vpI]; exact ⟨⟨trivial, by omega, by omega⟩, trivial⟩) ?_
        refine j_icmp_ge (tgt := 225) dX4_fillSpots_64 (by decide) (fun h64 => ?_) (fun h64 => ?_)
        · refine r_vret dX4_fillSpots_225 rfl ⟨rfl, rfl, ?_⟩
          rw [nI_clamp (by omega), eS]; exact hS
        · simp (disch := omega) only [nI_clamp, eA, e3, nI_leI] at h64; omega
      · intro k hk _ ih A' hS
        have eA : A' 1 = A 1 := hS.1 1 (by decide) (by decide)
        have hM := hP.2.2.2.2.2.1 k hk
        have eM : A 1 (56 + 33 * pn + (5 + 2 * k + 1)) = nI (v (56 + 33 * pn + (5 + 2 * k + 1))) := hw.1 _ (by omega)
        have bM := hM.2.2
        have hm := wkO_m hw hp k (by omega)
        refine bX4_fillSpots_56.go rfl (by simp (disch := omega) only [vpI]; exact ⟨⟨trivial, by omega, by omega⟩, trivial⟩) ?_
        refine j_icmp_ge (tgt := 225) dX4_fillSpots_64 (by decide) (fun h64 => ?_) (fun h64 => ?_)
        · simp (disch := omega) only [nI_clamp, eA, e3, nI_leI] at h64; omega
        · refine bX4_fillSpots_67.go rfl (by simp (disch := omega) only [vpI, nI_add, pk_mul]; exact ⟨⟨trivial, by omega, by omega⟩, trivial⟩) ?_
          simp (disch := omega) only [nI_clamp, nI_add, pk_mul, eA]
          have eW : A 1 (56 + 33 * pn + (5 + 2 * k)) = perI (A 1) pn (5 + 2 * k) := rfl
          rw [eW]
          have eO : wkO (A 1) pn (k + 1) = wkI (A 1) (perI (A 1) pn (5 + 2 * k)) (v (56 + 33 * pn + (5 + 2 * k + 1))) (wkO (A 1) pn k) := by simp only [wkO]; rw [show perI (A 1) pn (5 + 2 * k + 1) = _ from eM, nI_clamp (by omega)]
          refine loop_down (N := v (56 + 33 * pn + (5 + 2 * k + 1))) (I := fun _ => True) (P := fun i => ∀ A', SpA A A' pn (wkI (A 1) (perI (A 1) pn (5 + 2 * k)) i (wkO (A 1) pn k)).2.2 → JS TP X mX4_fillSpots (rmOf mX4_fillSpots.lv 0 0) _ 0 0 83 [some (.ref o), some (.int (nI pn)), some (.int (nI (wkI (A 1) (perI (A 1) pn (5 + 2 * k)) i (wkO (A 1) pn k)).2.1)), some (.int (wkI (A 1) (perI (A 1) pn (5 + 2 * k)) i (wkO (A 1) pn k)).1.1), some (.int (wkI (A 1) (perI (A 1) pn (5 + 2 * k)) i (wkO (A 1) pn k)).1.2), some (.int (nI k)), some (.int (perI (A 1) pn (5 + 2 * k))), some (.int (nI i)), none, none, none] [] (o, ad, A', B)) ?_ ?_ 0 (by omega) trivial A' hS
          · intro _ A' hS
            have eA : A' 1 = A 1 := hS.1 1 (by decide) (by decide)
            refine bX4_fillSpots_83.go rfl (by simp (disch := omega) only [vpI, nI_add, pk_mul]; exact ⟨⟨trivial, by omega, by omega⟩, trivial⟩) ?_
            refine j_icmp_ge (tgt := 219) dX4_fillSpots_98 (by decide) (fun h98 => ?_) (fun h98 => ?_)
            · refine bX4_fillSpots_219.go rfl trivial ?_
              rw [nI_1]
              have := ih trivial A' (by rw [eO]; exact hS)
              rw [eO] at this
              exact JS.weak (by simp [lsub]) this
            · simp (disch := omega) only [nI_clamp, nI_add, pk_mul, eA, eM, nI_leI] at h98; omega
          · intro i hi _ ih2 A' hS
            have eA : A' 1 = A 1 := hS.1 1 (by decide) (by decide)
            refine bX4_fillSpots_83.go rfl (by simp (disch := omega) only [vpI, nI_add, pk_mul]; exact ⟨⟨trivial, by omega, by omega⟩, trivial⟩) ?_
            refine j_icmp_ge (tgt := 219) dX4_fillSpots_98 (by decide) (fun h98 => ?_) (fun h98 => ?_)
            · simp (disch := omega) only [nI_clamp, nI_add, pk_mul, eA, eM, nI_leI] at h98; omega
            · refine fs_body h8 (by rw [eA]; exact hw.cnt) (by rw [wkI_m]; omega) ?_
              rw [eA]
              exact ih2 trivial _ (hS.set _ _ rfl rfl)
    · exact absurd (by decide) h5
  · intro t ht _ ih A' hN
    refine bX4_fillSpots_2.go rfl trivial ?_
    refine j_icmp_ge (tgt := 22) dX4_fillSpots_5 (by decide) (fun h5 => ?_) (fun h5 => ?_)
    · rw [nI_leI (by omega) (by omega)] at h5; omega
    · refine bX4_fillSpots_8.go rfl (by simp (disch := omega) only [vpI]; exact ⟨⟨trivial, by omega, by omega⟩, trivial⟩) ?_
      simp (disch := omega) only [nI_1, nI_clamp]
      exact ih trivial _ (hN.ext ht)
