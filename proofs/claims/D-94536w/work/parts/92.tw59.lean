set_option maxRecDepth 100000
/-! ===== UnseenClockModel: readNext ===== -/
def nW (w : Nat → Int32) : Nat := (w 0).toNatClampNeg
def nM (w : Nat → Int32) (p : Nat) : Nat := (w (56 + 33 * p + 3)).toNatClampNeg
def nL (w : Nat → Int32) (p : Nat) : Nat := (w (56 + 33 * p + 4)).toNatClampNeg
/-- the row that is read: its counts are in order -/
def FrOk (w : Nat → Int32) : Prop := (w 0 = nI (nW w) ∧ nW w ≤ 12) ∧ (w 1 = nI (nC w) ∧ nC w ≤ 4) ∧ (w 2 = nI (nP w) ∧ nP w ≤ 8) ∧ ∀ q, q < 8 → (w (56 + 33 * q + 3) = nI (nM w q) ∧ nM w q ≤ 6) ∧ (w (56 + 33 * q + 4) = nI (nL w q) ∧ nL w q ≤ 4)
theorem FrOk.cnt {w : Nat → Int32} (h : FrOk w) : CntOK w := ⟨nW w, nC w, h.1.2, h.2.1.2, h.1.1, h.2.1.1⟩
def ofE (T : Nat → Int32) (s : RdE) : Bool := isE T 24 s || (isE T 25 s || isE T 26 s)
def anE (T : Nat → Int32) (s : RdE) : Bool := isE T 21 s || (isE T 22 s || isE T 23 s)
def nx1 (T : Nat → Int32) (s : RdE) : RdE := if (!ofE T s && !anE T s) = true then errE (nI 1) s else s
def nx2 (T : Nat → Int32) (s : RdE) (w : Nat → Int32) : RdE := if (ofE T s && decide (w 2 = 0)) = true then errE (nI 2) (nx1 T s) else nx1 T s
/-- the latest person (or the first place) -/
def qP (w : Nat → Int32) : Nat := nP w - 1
def fu1 (T : Nat → Int32) (s : RdE) (w : Nat → Int32) : Bool := (isE T 21 s && decide (w 0 = nI 12)) || ((isE T 22 s && decide (w 1 = nI 4)) || (isE T 23 s && decide (w 2 = nI 8)))
def fuE (T : Nat → Int32) (s : RdE) (w : Nat → Int32) : Bool := fu1 T s w || (((isE T 24 s || isE T 25 s) && decide (w (56 + 33 * qP w + 3) = nI 6)) || (isE T 26 s && decide (w (56 + 33 * qP w + 4) = nI 4)))
def nx3 (T : Nat → Int32) (s : RdE) (w : Nat → Int32) : RdE := if fuE T (nx2 T s w) w = true then errE (nI 3) (nx2 T s w) else nx2 T s w
def wallE (T : Nat → Int32) (n : Nat) (s : RdE) (w : Nat → Int32) : RdE × (Nat → Int32) := ((cellE T n (8 + 2 * nW w) s w).1, va_up (cellE T n (8 + 2 * nW w) s w).2 0 (w 0 + b2 (goodE (cellE T n (8 + 2 * nW w) s w).1)))
/-- a line behind the first -/
def nextE (T : Nat → Int32) (n : Nat) (s : RdE) (w : Nat → Int32) : RdE × (Nat → Int32) :=
  if goodE (nx3 T s w) = false then (nx3 T s w, w)
  else if isE T 21 (nx3 T s w) = true then wallE T n (advE T n (nx3 T s w)) w
  else if isE T 22 (nx3 T s w) = true then clockE T n (nC w) (advE T n (nx3 T s w)) w
  else if isE T 23 (nx3 T s w) = true then personE T n (nP w) (advE T n (nx3 T s w)) w
  else if isE T 24 (nx3 T s w) = true then moveE T n true (qP w) (nM w (qP w)) (advE T n (nx3 T s w)) w
  else if isE T 25 (nx3 T s w) = true then moveE T n false (qP w) (nM w (qP w)) (advE T n (nx3 T s w)) w
  else lookE T n (qP w) (nL w (qP w)) (advE T n (nx3 T s w)) w
theorem errE_bad {k : Int32} {s : RdE} : goodE (errE k s) = false := by
  match s with
  | .inl e => rfl
  | .inr ts => rfl
/-- what a good start of a line tells -/
theorem nx_good {T : Nat → Int32} {s : RdE} {w : Nat → Int32} (h : goodE (nx3 T s w) = true) : nx3 T s w = s ∧ (ofE T s || anE T s) = true ∧ (ofE T s = true → ¬ w 2 = 0) ∧ fuE T s w = false := by
  have e3 : fuE T (nx2 T s w) w = false := by
    cases hf : fuE T (nx2 T s w) w with
    | false => rfl
    | true => rw [nx3, if_pos hf, errE_bad] at h; cases h
  rw [nx3, if_neg (by rw [e3]; decide)] at h ⊢
  have e2 : (ofE T s && decide (w 2 = 0)) = false := by
    cases hf : (ofE T s && decide (w 2 = 0)) with
    | false => rfl
    | true => rw [nx2, if_pos hf, errE_bad] at h; cases h
  rw [nx2, if_neg (by rw [e2]; decide)] at h e3 ⊢
  have e1 : (!ofE T s && !anE T s) = false := by
    cases hf : (!ofE T s && !anE T s) with
    | false => rfl
    | true => rw [nx1, if_pos hf, errE_bad] at h; cases h
  rw [nx1, if_neg (by rw [e1]; decide)] at e3 ⊢
  refine ⟨rfl, ?_, fun ho hz => ?_, e3⟩
  · cases ho : ofE T s <;> cases ha : anE T s <;> simp_all
  · rw [ho, decide_eq_true hz] at e2; cases e2
theorem bX4_readNext_0 : Blk TP mX4_readNext 0 1 [oAL 0] := blk_c (s_aload_n dX4_readNext_0 rfl) <| blk_nil
theorem bX4_readNext_9 : Blk TP mX4_readNext 9 10 [oAL 0] := blk_c (s_aload_n dX4_readNext_9 rfl) <| blk_nil
theorem bX4_readNext_18 : Blk TP mX4_readNext 18 19 [oAL 0] := blk_c (s_aload_n dX4_readNext_18 rfl) <| blk_nil
theorem bX4_readNext_27 : Blk TP mX4_readNext 27 32 [oC (nI 1), .inl (fun s => some s)] := blk_c (s_iconst dX4_readNext_27 (by decide +kernel)) <| blk_c (s_goto (tgt := 32) dX4_readNext_28 (by decide)) <| blk_nil
theorem bX4_readNext_31 : Blk TP mX4_readNext 31 32 [oC (nI 0)] := blk_c (s_iconst dX4_readNext_31 (by decide +kernel)) <| blk_nil
theorem bX4_readNext_32 : Blk TP mX4_readNext 32 34 [oIS 1, oIL 1] := blk_c (s_istore_n dX4_readNext_32 rfl (by decide)) <| blk_c (s_iload_n dX4_readNext_33 rfl) <| blk_nil
theorem bX4_readNext_37 : Blk TP mX4_readNext 37 38 [oAL 0] := blk_c (s_aload_n dX4_readNext_37 rfl) <| blk_nil
theorem bX4_readNext_46 : Blk TP mX4_readNext 46 47 [oAL 0] := blk_c (s_aload_n dX4_readNext_46 rfl) <| blk_nil
theorem bX4_readNext_55 : Blk TP mX4_readNext 55 56 [oAL 0] := blk_c (s_aload_n dX4_readNext_55 rfl) <| blk_nil
theorem bX4_readNext_64 : Blk TP mX4_readNext 64 66 [oAL 0, oC (nI 1)] := blk_c (s_aload_n dX4_readNext_64 rfl) <| blk_c (s_iconst dX4_readNext_65 (by decide +kernel)) <| blk_nil
theorem bX4_readNext_69 : Blk TP mX4_readNext 69 70 [oIL 1] := blk_c (s_iload_n dX4_readNext_69 rfl) <| blk_nil
theorem bX4_readNext_73 : Blk TP mX4_readNext 73 79 [oAL 0, tR 14, oC (nI 2), tAI 14 320] := blk_c (s_aload_n dX4_readNext_73 rfl) <| blk_c (tgX4_14 rfl dX4_readNext_74) <| blk_c (s_iconst dX4_readNext_77 (by decide +kernel)) <| blk_c (t_iald rfl dX4_readNext_78) <| blk_nil
theorem bX4_readNext_82 : Blk TP mX4_readNext 82 84 [oAL 0, oC (nI 2)] := blk_c (s_aload_n dX4_readNext_82 rfl) <| blk_c (s_iconst dX4_readNext_83 (by decide +kernel)) <| blk_nil
theorem bX4_readNext_87 : Blk TP mX4_readNext 87 93 [oAL 0, tR 14, oC (nI 2), tAI 14 320] := blk_c (s_aload_n dX4_readNext_87 rfl) <| blk_c (tgX4_14 rfl dX4_readNext_88) <| blk_c (s_iconst dX4_readNext_91 (by decide +kernel)) <| blk_c (t_iald rfl dX4_readNext_92) <| blk_nil
theorem bX4_readNext_96 : Blk TP mX4_readNext 96 105 [oC (nI 56), .inl (fun s => some s)] := blk_c (s_bipush dX4_readNext_96 (by decide +kernel)) <| blk_c (s_goto (tgt := 105) dX4_readNext_98 (by decide)) <| blk_nil
theorem bX4_readNext_101 : Blk TP mX4_readNext 101 105 [oAL 0, tC_V F_latest] := blk_c (s_aload_n dX4_readNext_101 rfl) <| blk_c (tc_V ok_latest gX4_latest (by decide +kernel) (by decide) dX4_readNext_102) <| blk_nil
theorem bX4_readNext_105 : Blk TP mX4_readNext 105 107 [oIS 2, oAL 0] := blk_c (s_istore_n dX4_readNext_105 rfl (by decide)) <| blk_c (s_aload_n dX4_readNext_106 rfl) <| blk_nil
theorem bX4_readNext_115 : Blk TP mX4_readNext 115 123 [oAL 0, tR 14, oC (nI 0), tAI 14 320, oC (nI 12)] := blk_c (s_aload_n dX4_readNext_115 rfl) <| blk_c (tgX4_14 rfl dX4_readNext_116) <| blk_c (s_iconst dX4_readNext_119 (by decide +kernel)) <| blk_c (t_iald rfl dX4_readNext_120) <| blk_c (s_bipush dX4_readNext_121 (by decide +kernel)) <| blk_nil
theorem bX4_readNext_126 : Blk TP mX4_readNext 126 127 [oAL 0] := blk_c (s_aload_n dX4_readNext_126 rfl) <| blk_nil
theorem bX4_readNext_135 : Blk TP mX4_readNext 135 142 [oAL 0, tR 14, oC (nI 1), tAI 14 320, oC (nI 4)] := blk_c (s_aload_n dX4_readNext_135 rfl) <| blk_c (tgX4_14 rfl dX4_readNext_136) <| blk_c (s_iconst dX4_readNext_139 (by decide +kernel)) <| blk_c (t_iald rfl dX4_readNext_140) <| blk_c (s_iconst dX4_readNext_141 (by decide +kernel)) <| blk_nil
theorem bX4_readNext_145 : Blk TP mX4_readNext 145 146 [oAL 0] := blk_c (s_aload_n dX4_readNext_145 rfl) <| blk_nil
theorem bX4_readNext_154 : Blk TP mX4_readNext 154 162 [oAL 0, tR 14, oC (nI 2), tAI 14 320, oC (nI 8)] := blk_c (s_aload_n dX4_readNext_154 rfl) <| blk_c (tgX4_14 rfl dX4_readNext_155) <| blk_c (s_iconst dX4_readNext_158 (by decide +kernel)) <| blk_c (t_iald rfl dX4_readNext_159) <| blk_c (s_bipush dX4_readNext_160 (by decide +kernel)) <| blk_nil
theorem bX4_readNext_165 : Blk TP mX4_readNext 165 170 [oC (nI 1), .inl (fun s => some s)] := blk_c (s_iconst dX4_readNext_165 (by decide +kernel)) <| blk_c (s_goto (tgt := 170) dX4_readNext_166 (by decide)) <| blk_nil
theorem bX4_readNext_169 : Blk TP mX4_readNext 169 170 [oC (nI 0)] := blk_c (s_iconst dX4_readNext_169 (by decide +kernel)) <| blk_nil
theorem bX4_readNext_170 : Blk TP mX4_readNext 170 172 [oIS 3, oIL 3] := blk_c (s_istore_n dX4_readNext_170 rfl (by decide)) <| blk_c (s_iload_n dX4_readNext_171 rfl) <| blk_nil
theorem bX4_readNext_175 : Blk TP mX4_readNext 175 176 [oAL 0] := blk_c (s_aload_n dX4_readNext_175 rfl) <| blk_nil
theorem bX4_readNext_184 : Blk TP mX4_readNext 184 185 [oAL 0] := blk_c (s_aload_n dX4_readNext_184 rfl) <| blk_nil
theorem bX4_readNext_193 : Blk TP mX4_readNext 193 203 [oAL 0, tR 14, oIL 2, oC (nI 3), oAdd, tAI 14 320, oC (nI 6)] := blk_c (s_aload_n dX4_readNext_193 rfl) <| blk_c (tgX4_14 rfl dX4_readNext_194) <| blk_c (s_iload_n dX4_readNext_197 rfl) <| blk_c (s_iconst dX4_readNext_198 (by decide +kernel)) <| blk_c (s_iadd dX4_readNext_199) <| blk_c (t_iald rfl dX4_readNext_200) <| blk_c (s_bipush dX4_readNext_201 (by decide +kernel)) <| blk_nil
theorem bX4_readNext_206 : Blk TP mX4_readNext 206 207 [oAL 0] := blk_c (s_aload_n dX4_readNext_206 rfl) <| blk_nil
theorem bX4_readNext_215 : Blk TP mX4_readNext 215 224 [oAL 0, tR 14, oIL 2, oC (nI 4), oAdd, tAI 14 320, oC (nI 4)] := blk_c (s_aload_n dX4_readNext_215 rfl) <| blk_c (tgX4_14 rfl dX4_readNext_216) <| blk_c (s_iload_n dX4_readNext_219 rfl) <| blk_c (s_iconst dX4_readNext_220 (by decide +kernel)) <| blk_c (s_iadd dX4_readNext_221) <| blk_c (t_iald rfl dX4_readNext_222) <| blk_c (s_iconst dX4_readNext_223 (by decide +kernel)) <| blk_nil
theorem bX4_readNext_227 : Blk TP mX4_readNext 227 232 [oC (nI 1), .inl (fun s => some s)] := blk_c (s_iconst dX4_readNext_227 (by decide +kernel)) <| blk_c (s_goto (tgt := 232) dX4_readNext_228 (by decide)) <| blk_nil
theorem bX4_readNext_231 : Blk TP mX4_readNext 231 232 [oC (nI 0)] := blk_c (s_iconst dX4_readNext_231 (by decide +kernel)) <| blk_nil
theorem bX4_readNext_232 : Blk TP mX4_readNext 232 234 [oIS 3, oIL 3] := blk_c (s_istore_n dX4_readNext_232 rfl (by decide)) <| blk_c (s_iload_n dX4_readNext_233 rfl) <| blk_nil
theorem bX4_readNext_237 : Blk TP mX4_readNext 237 239 [oAL 0, oC (nI 3)] := blk_c (s_aload_n dX4_readNext_237 rfl) <| blk_c (s_iconst dX4_readNext_238 (by decide +kernel)) <| blk_nil
theorem bX4_readNext_242 : Blk TP mX4_readNext 242 246 [oAL 0, tC_V F_good] := blk_c (s_aload_n dX4_readNext_242 rfl) <| blk_c (tc_V ok_good gX4_good (by decide +kernel) (by decide) dX4_readNext_243) <| blk_nil
theorem bX4_readNext_250 : Blk TP mX4_readNext 250 251 [oAL 0] := blk_c (s_aload_n dX4_readNext_250 rfl) <| blk_nil
theorem bX4_readNext_259 : Blk TP mX4_readNext 259 271 [oAL 0, oC (nI 8), oC (nI 2), oAL 0, tR 14, oC (nI 0), tAI 14 320, oMul, oAdd] := blk_c (s_aload_n dX4_readNext_259 rfl) <| blk_c (s_bipush dX4_readNext_260 (by decide +kernel)) <| blk_c (s_iconst dX4_readNext_262 (by decide +kernel)) <| blk_c (s_aload_n dX4_readNext_263 rfl) <| blk_c (tgX4_14 rfl dX4_readNext_264) <| blk_c (s_iconst dX4_readNext_267 (by decide +kernel)) <| blk_c (t_iald rfl dX4_readNext_268) <| blk_c (s_imul dX4_readNext_269) <| blk_c (s_iadd dX4_readNext_270) <| blk_nil
theorem bX4_readNext_274 : Blk TP mX4_readNext 274 285 [oAL 0, tR 14, oC (nI 0), oDup2IR, tAI 14 320, oAL 0, tC_V F_good] := blk_c (s_aload_n dX4_readNext_274 rfl) <| blk_c (tgX4_14 rfl dX4_readNext_275) <| blk_c (s_iconst dX4_readNext_278 (by decide +kernel)) <| blk_c (s_dup2IR dX4_readNext_279) <| blk_c (t_iald rfl dX4_readNext_280) <| blk_c (s_aload_n dX4_readNext_281 rfl) <| blk_c (tc_V ok_good gX4_good (by decide +kernel) (by decide) dX4_readNext_282) <| blk_nil
theorem bX4_readNext_288 : Blk TP mX4_readNext 288 293 [oC (nI 1), .inl (fun s => some s)] := blk_c (s_iconst dX4_readNext_288 (by decide +kernel)) <| blk_c (s_goto (tgt := 293) dX4_readNext_289 (by decide)) <| blk_nil
theorem bX4_readNext_292 : Blk TP mX4_readNext 292 293 [oC (nI 0)] := blk_c (s_iconst dX4_readNext_292 (by decide +kernel)) <| blk_nil
theorem bX4_readNext_293 : Blk TP mX4_readNext 293 372 [oAdd, tSI 14 320, .inl (fun s => some s)] := blk_c (s_iadd dX4_readNext_293) <| blk_c (t_iast rfl dX4_readNext_294) <| blk_c (s_goto (tgt := 372) dX4_readNext_295 (by decide)) <| blk_nil
theorem bX4_readNext_298 : Blk TP mX4_readNext 298 299 [oAL 0] := blk_c (s_aload_n dX4_readNext_298 rfl) <| blk_nil
theorem bX4_readNext_307 : Blk TP mX4_readNext 307 308 [oAL 0] := blk_c (s_aload_n dX4_readNext_307 rfl) <| blk_nil
theorem bX4_readNext_311 : Blk TP mX4_readNext 311 372 [.inl (fun s => some s)] := blk_c (s_goto (tgt := 372) dX4_readNext_311 (by decide)) <| blk_nil
theorem bX4_readNext_314 : Blk TP mX4_readNext 314 315 [oAL 0] := blk_c (s_aload_n dX4_readNext_314 rfl) <| blk_nil
theorem bX4_readNext_323 : Blk TP mX4_readNext 323 324 [oAL 0] := blk_c (s_aload_n dX4_readNext_323 rfl) <| blk_nil
theorem bX4_readNext_327 : Blk TP mX4_readNext 327 372 [.inl (fun s => some s)] := blk_c (s_goto (tgt := 372) dX4_readNext_327 (by decide)) <| blk_nil
theorem bX4_readNext_330 : Blk TP mX4_readNext 330 331 [oAL 0] := blk_c (s_aload_n dX4_readNext_330 rfl) <| blk_nil
theorem bX4_readNext_339 : Blk TP mX4_readNext 339 341 [oAL 0, oC (nI 1)] := blk_c (s_aload_n dX4_readNext_339 rfl) <| blk_c (s_iconst dX4_readNext_340 (by decide +kernel)) <| blk_nil
theorem bX4_readNext_344 : Blk TP mX4_readNext 344 372 [.inl (fun s => some s)] := blk_c (s_goto (tgt := 372) dX4_readNext_344 (by decide)) <| blk_nil
theorem bX4_readNext_347 : Blk TP mX4_readNext 347 348 [oAL 0] := blk_c (s_aload_n dX4_readNext_347 rfl) <| blk_nil
theorem bX4_readNext_356 : Blk TP mX4_readNext 356 358 [oAL 0, oC (nI 0)] := blk_c (s_aload_n dX4_readNext_356 rfl) <| blk_c (s_iconst dX4_readNext_357 (by decide +kernel)) <| blk_nil
theorem bX4_readNext_361 : Blk TP mX4_readNext 361 372 [.inl (fun s => some s)] := blk_c (s_goto (tgt := 372) dX4_readNext_361 (by decide)) <| blk_nil
theorem bX4_readNext_364 : Blk TP mX4_readNext 364 365 [oAL 0] := blk_c (s_aload_n dX4_readNext_364 rfl) <| blk_nil
theorem bX4_readNext_368 : Blk TP mX4_readNext 368 369 [oAL 0] := blk_c (s_aload_n dX4_readNext_368 rfl) <| blk_nil
theorem ok_readNext {X : Cx} {aK aV : Nat → Nat} (hX : StrOK X aK aV) (T : Nat → Int32) (n : Nat) (s : RdE) (w : Nat → Int32) (hw : FrOk w) : RG X mX4_readNext [] (fun A _ => RdW A T n s w) (fun A B r A' B' => r = none ∧ FrW A B A' B' ∧ RdW A' T n (nextE T n s w).1 (nextE T n s w).2) := by
  intro o ad A B hrd
  have hcnt := hw.cnt
  obtain ⟨⟨w0, w0'⟩, ⟨w1, w1'⟩, ⟨w2, w2'⟩, wq⟩ := id hw
  have hq8 : qP w < 8 := by unfold qP; omega
  obtain ⟨⟨wm, wm'⟩, wl, wl'⟩ := wq (qP w) hq8
  -- what is read, once it is known to be good
  have m242 : ∀ A1 B1 l1 l2 l3, FrR A B A1 B1 → RdW A1 T n (nx3 T s w) w → JS TP X mX4_readNext (rmOf mX4_readNext.lv 0 0) (ZR X o ad (fun r A' B' => r = none ∧ FrW A B A' B' ∧ RdW A' T n (nextE T n s w).1 (nextE T n s w).2)) 0 0 242 [some (.ref o), l1, l2, l3] [] (o, ad, A1, B1) := by
    intro A1 B1 l1 l2 l3 f1 h1
    refine bX4_readNext_242.go rfl (by exact ⟨⟨rfl, trivial⟩, trivial⟩) ?_
    rw [h1.1.good]
    refine j_if_ne (tgt := 250) dX4_readNext_246 (by decide) (fun h246 => ?_) (fun h246 => ?_)
    · rw [b2_n0] at h246
      obtain ⟨es, hof, hw2, hfu⟩ := nx_good h246
      have eN : nextE T n s w = (if isE T 21 s = true then wallE T n (advE T n s) w else if isE T 22 s = true then clockE T n (nC w) (advE T n s) w else if isE T 23 s = true then personE T n (nP w) (advE T n s) w else if isE T 24 s = true then moveE T n true (qP w) (nM w (qP w)) (advE T n s) w else if isE T 25 s = true then moveE T n false (qP w) (nM w (qP w)) (advE T n s) w else lookE T n (qP w) (nL w (qP w)) (advE T n s) w) := by
        rw [nextE, if_neg (by rw [h246]; decide), es]
      rw [es] at h1
      simp only [fuE, fu1, Bool.or_eq_false_iff] at hfu
      obtain ⟨⟨hf21, hf22, hf23⟩, hf24, hf26⟩ := hfu
      have hpos : ofE T s = true → w 2 = nI (qP w + 1) := fun ho => by
        have := hw2 ho
        have : nP w ≠ 0 := fun e => this (by rw [w2, e]; rfl)
        rw [w2, show qP w + 1 = nP w by unfold qP; omega]
      -- wall
      refine bX4_readNext_250.go rfl trivial ?_
      refine js_ldcS (tx := "wall") (i := 21) hX (by decide +kernel) dX4_readNext_251 ?_
      refine rg (nA := 1) (ok_takes hX (i := 21) (by decide) T n s) gX4_takes dX4_readNext_253 rfl h1.1 (fun r250 A250 B250 q250 => ?_)
      obtain ⟨rfl, f2, g2⟩ := q250
      refine j_if_eq (tgt := 298) dX4_readNext_256 (by decide) (fun h256 => ?_) (fun h256 => ?_)
      · rw [b2_0] at h256
        rw [if_neg (by rw [h256]; decide)] at eN
        rw [takesE_f h256] at g2
        have h2 := h1.fr f2 g2
        have f2 := f1.trans f2
        refine bX4_readNext_298.go rfl trivial ?_
        refine js_ldcS (tx := "clock") (i := 22) hX (by decide +kernel) dX4_readNext_299 ?_
        refine rg (nA := 1) (ok_takes hX (i := 22) (by decide) T n s) gX4_takes dX4_readNext_301 rfl h2.1 (fun r298 A298 B298 q298 => ?_)
        obtain ⟨rfl, f3, g3⟩ := q298
        refine j_if_eq (tgt := 314) dX4_readNext_304 (by decide) (fun h304 => ?_) (fun h304 => ?_)
        · rw [b2_0] at h304
          rw [if_neg (by rw [h304]; decide)] at eN
          rw [takesE_f h304] at g3
          have h3 := h2.fr f3 g3
          have f3 := f2.trans f3
          refine bX4_readNext_314.go rfl trivial ?_
          refine js_ldcS (tx := "person") (i := 23) hX (by decide +kernel) dX4_readNext_315 ?_
          refine rg (nA := 1) (ok_takes hX (i := 23) (by decide) T n s) gX4_takes dX4_readNext_317 rfl h3.1 (fun r314 A314 B314 q314 => ?_)
          obtain ⟨rfl, f4, g4⟩ := q314
          refine j_if_eq (tgt := 330) dX4_readNext_320 (by decide) (fun h320 => ?_) (fun h320 => ?_)
          · rw [b2_0] at h320
            rw [if_neg (by rw [h320]; decide)] at eN
            rw [takesE_f h320] at g4
            have h4 := h3.fr f4 g4
            have f4 := f3.trans f4
            have hofT : ofE T s = true := by
              rw [show anE T s = false by rw [anE, h256, h304, h320]; rfl, Bool.or_false] at hof; exact hof
            have hP := hpos hofT
            refine bX4_readNext_330.go rfl trivial ?_
            refine js_ldcS (tx := "go") (i := 24) hX (by decide +kernel) dX4_readNext_331 ?_
            refine rg (nA := 1) (ok_takes hX (i := 24) (by decide) T n s) gX4_takes dX4_readNext_333 rfl h4.1 (fun r330 A330 B330 q330 => ?_)
            obtain ⟨rfl, f5, g5⟩ := q330
            refine j_if_eq (tgt := 347) dX4_readNext_336 (by decide) (fun h336 => ?_) (fun h336 => ?_)
            · rw [b2_0] at h336
              rw [if_neg (by rw [h336]; decide)] at eN
              rw [takesE_f h336] at g5
              have h5 := h4.fr f5 g5
              have f5 := f4.trans f5
              refine bX4_readNext_347.go rfl trivial ?_
              refine js_ldcS (tx := "wait") (i := 25) hX (by decide +kernel) dX4_readNext_348 ?_
              refine rg (nA := 1) (ok_takes hX (i := 25) (by decide) T n s) gX4_takes dX4_readNext_350 rfl h5.1 (fun r347 A347 B347 q347 => ?_)
              obtain ⟨rfl, f6, g6⟩ := q347
              refine j_if_eq (tgt := 364) dX4_readNext_353 (by decide) (fun h353 => ?_) (fun h353 => ?_)
              · rw [b2_0] at h353
                rw [if_neg (by rw [h353]; decide)] at eN
                rw [takesE_f h353] at g6
                have h6 := h5.fr f6 g6
                have f6 := f5.trans f6
                have h26 : isE T 26 s = true := by
                  rw [ofE, h336, h353] at hofT; exact hofT
                obtain ⟨ts, rfl⟩ := isE_good h26
                have hl4 : nL w (qP w) < 4 := by
                  rw [h26, Bool.true_and] at hf26
                  have := of_decide_eq_false hf26
                  rw [wl] at this
                  have : nL w (qP w) ≠ 4 := fun e => this (by rw [e])
                  omega
                refine bX4_readNext_364.go rfl trivial ?_
                refine rc_V ok_advance gX4_advance dX4_readNext_365 rfl h6.1.adv (fun r A7 B7 q => ?_)
                have hr := q.1
                subst hr
                obtain ⟨f7, g7⟩ := Q_advance.rd h6.1 q
                have h7 := h6.fr f7 g7
                refine bX4_readNext_368.go rfl trivial ?_
                refine rg (nA := 0) (ok_readLook hX T n _ w hq8 hP hl4 wl) gX4_readLook dX4_readNext_369 rfl h7 (fun r A8 B8 q => ?_)
                obtain ⟨rfl, f8, h8⟩ := q
                exact r_vret dX4_readNext_372 rfl ⟨rfl, (f6.trans f7).w.trans f8, by rw [eN]; exact h8⟩
              · rw [b2_n0] at h353
                rw [if_pos h353] at eN
                rw [takesE_t h353] at g6
                have h6 := h5.fr f6 g6
                have f6 := f5.trans f6
                have hm6 : nM w (qP w) < 6 := by
                  rw [h353, Bool.or_true, Bool.true_and] at hf24
                  have := of_decide_eq_false hf24
                  rw [wm] at this
                  have : nM w (qP w) ≠ 6 := fun e => this (by rw [e])
                  omega
                refine bX4_readNext_356.go rfl trivial ?_
                refine rg (nA := 1) (ok_readMove hX T n _ w false hq8 hP hm6 wm) gX4_readMove dX4_readNext_358 rfl h6 (fun r A8 B8 q => ?_)
                obtain ⟨rfl, f8, h8⟩ := q
                refine bX4_readNext_361.go rfl trivial ?_
                exact r_vret dX4_readNext_372 rfl ⟨rfl, f6.w.trans f8, by rw [eN]; exact h8⟩
            · rw [b2_n0] at h336
              rw [if_pos h336] at eN
              rw [takesE_t h336] at g5
              have h5 := h4.fr f5 g5
              have f5 := f4.trans f5
              have hm6 : nM w (qP w) < 6 := by
                rw [h336, Bool.true_or, Bool.true_and] at hf24
                have := of_decide_eq_false hf24
                rw [wm] at this
                have : nM w (qP w) ≠ 6 := fun e => this (by rw [e])
                omega
              refine bX4_readNext_339.go rfl trivial ?_
              refine rg (nA := 1) (ok_readMove hX T n _ w true hq8 hP hm6 wm) gX4_readMove dX4_readNext_341 rfl h5 (fun r A8 B8 q => ?_)
              obtain ⟨rfl, f8, h8⟩ := q
              refine bX4_readNext_344.go rfl trivial ?_
              exact r_vret dX4_readNext_372 rfl ⟨rfl, f5.w.trans f8, by rw [eN]; exact h8⟩
          · rw [b2_n0] at h320
            rw [if_pos h320] at eN
            rw [takesE_t h320] at g4
            have h4 := h3.fr f4 g4
            have f4 := f3.trans f4
            have hp8 : nP w < 8 := by
              rw [h320, Bool.true_and] at hf23
              have := of_decide_eq_false hf23
              rw [w2] at this
              have : nP w ≠ 8 := fun e => this (by rw [e])
              omega
            refine bX4_readNext_323.go rfl trivial ?_
            refine rg (nA := 0) (ok_readPerson hX T n _ w hcnt hp8 w2) gX4_readPerson dX4_readNext_324 rfl h4 (fun r A8 B8 q => ?_)
            obtain ⟨rfl, f8, h8⟩ := q
            refine bX4_readNext_327.go rfl trivial ?_
            exact r_vret dX4_readNext_372 rfl ⟨rfl, f4.w.trans f8, by rw [eN]; exact h8⟩
        · rw [b2_n0] at h304
          rw [if_pos h304] at eN
          rw [takesE_t h304] at g3
          have h3 := h2.fr f3 g3
          have f3 := f2.trans f3
          have hc4 : nC w < 4 := by
            rw [h304, Bool.true_and] at hf22
            have := of_decide_eq_false hf22
            rw [w1] at this
            have : nC w ≠ 4 := fun e => this (by rw [e])
            omega
          refine bX4_readNext_307.go rfl trivial ?_
          refine rg (nA := 0) (ok_readClock hX T n _ w hcnt hc4 w1) gX4_readClock dX4_readNext_308 rfl h3 (fun r A8 B8 q => ?_)
          obtain ⟨rfl, f8, h8⟩ := q
          refine bX4_readNext_311.go rfl trivial ?_
          exact r_vret dX4_readNext_372 rfl ⟨rfl, f3.w.trans f8, by rw [eN]; exact h8⟩
      · rw [b2_n0] at h256
        rw [if_pos h256] at eN
        rw [takesE_t h256] at g2
        have h2 := h1.fr f2 g2
        have f2 := f1.trans f2
        have ha : nW w < 12 := by
          rw [h256, Bool.true_and] at hf21
          have := of_decide_eq_false hf21
          rw [w0] at this
          have : nW w ≠ 12 := fun e => this (by rw [e])
          omega
        refine bX4_readNext_259.go rfl (by exact ⟨rfl, ⟨rfl, vp_in_nI (by decide) (by decide)⟩, trivial⟩) ?_
        simp (disch := omega) only [nI_clamp, h2.2, w0, pk_mul, nI_add]
        refine rg (nA := 1) (ok_readCell hX T n _ w hcnt (k := 8 + 2 * nW w) (by omega)) gX4_readCell dX4_readNext_271 rfl h2 (fun r A8 B8 q => ?_)
        obtain ⟨rfl, f8, h8⟩ := q
        have e0 : A8 14 0 = w 0 := by rw [h8.2, cellE_at (by omega)]
        have j293 : ∀ z, z = b2 (goodE (cellE T n (8 + 2 * nW w) (advE T n s) w).1) → JS TP X mX4_readNext (rmOf mX4_readNext.lv 0 0) (ZR X o ad (fun r A' B' => r = none ∧ FrW A B A' B' ∧ RdW A' T n (nextE T n s w).1 (nextE T n s w).2)) 0 0 293 [some (.ref o), l1, l2, l3] [.int z, .int (w 0), .int (nI 0), .ref (ad 14)] (o, ad, A8, B8) := by
          intro z hz
          subst hz
          refine bX4_readNext_293.go rfl (by simp (disch := omega) only [vpI]; exact ⟨⟨trivial, by omega⟩, trivial⟩) ?_
          simp (disch := omega) only [nI_clamp]
          refine r_vret dX4_readNext_372 rfl ⟨rfl, (f2.w.trans f8).up _ _, ?_⟩
          rw [eN]
          exact h8.up _ _
        refine bX4_readNext_274.go rfl (by simp (disch := omega) only [vpI]; exact ⟨trivial, ⟨trivial, by omega⟩, ⟨trivial, trivial⟩, trivial⟩) ?_
        simp (disch := omega) only [nI_clamp]
        rw [h8.1.good, e0]
        refine j_if_eq (tgt := 292) dX4_readNext_285 (by decide) (fun h285 => ?_) (fun h285 => ?_)
        · rw [b2_0] at h285
          refine bX4_readNext_292.go rfl trivial ?_
          exact j293 _ (b2_f h285)
        · rw [b2_n0] at h285
          refine bX4_readNext_288.go rfl trivial ?_
          exact j293 _ (b2_t h285)
    · rw [b2_0] at h246
      refine r_vret dX4_readNext_249 rfl ⟨rfl, f1.w, ?_⟩
      rw [nextE, if_pos h246]
      exact h1
  -- whether there is room
  have m105 : ∀ A1 B1, FrR A B A1 B1 → RdW A1 T n (nx2 T s w) w → JS TP X mX4_readNext (rmOf mX4_readNext.lv 0 0) (ZR X o ad (fun r A' B' => r = none ∧ FrW A B A' B' ∧ RdW A' T n (nextE T n s w).1 (nextE T n s w).2)) 0 0 105 [some (.ref o), some (.int (b2 (ofE T s))), none, none] [.int (nI (56 + 33 * qP w))] (o, ad, A1, B1) := by
    intro A1 B1 f1 h1
    generalize hs2 : nx2 T s w = s2 at h1
    have j232 : ∀ z l3, z = b2 (fuE T s2 w) → JS TP X mX4_readNext (rmOf mX4_readNext.lv 0 0) (ZR X o ad (fun r A' B' => r = none ∧ FrW A B A' B' ∧ RdW A' T n (nextE T n s w).1 (nextE T n s w).2)) 0 0 232 [some (.ref o), some (.int (b2 (ofE T s))), some (.int (nI (56 + 33 * qP w))), l3] [.int z] (o, ad, A1, B1) := by
      intro z l3 hz
      subst hz
      refine bX4_readNext_232.go rfl trivial ?_
      refine j_if_eq (tgt := 242) dX4_readNext_234 (by decide) (fun h234 => ?_) (fun h234 => ?_)
      · rw [b2_0] at h234
        exact m242 A1 B1 _ _ _ f1 (by rw [nx3, hs2, if_neg (by rw [h234]; decide)]; exact h1)
      · rw [b2_n0] at h234
        refine bX4_readNext_237.go rfl trivial ?_
        refine rc_I ok_errs gX4_errs dX4_readNext_239 rfl trivial (fun r A2 B2 q => ?_)
        obtain ⟨rfl, hB, rfl⟩ := q
        have hB := hB.symm
        subst hB
        exact m242 _ _ _ _ _ (f1.trans erA_fr) (by rw [nx3, hs2, if_pos h234]; exact h1.fr (B := B1) (B' := B1) erA_fr (erA_rd (by decide +kernel) h1.1))
    have j170 : ∀ z, z = b2 (fu1 T s2 w) → JS TP X mX4_readNext (rmOf mX4_readNext.lv 0 0) (ZR X o ad (fun r A' B' => r = none ∧ FrW A B A' B' ∧ RdW A' T n (nextE T n s w).1 (nextE T n s w).2)) 0 0 170 [some (.ref o), some (.int (b2 (ofE T s))), some (.int (nI (56 + 33 * qP w))), none] [.int z] (o, ad, A1, B1) := by
      intro z hz
      subst hz
      refine bX4_readNext_170.go rfl trivial ?_
      have y227 : ∀ l3, fuE T s2 w = true → JS TP X mX4_readNext (rmOf mX4_readNext.lv 0 0) (ZR X o ad (fun r A' B' => r = none ∧ FrW A B A' B' ∧ RdW A' T n (nextE T n s w).1 (nextE T n s w).2)) 0 0 227 [some (.ref o), some (.int (b2 (ofE T s))), some (.int (nI (56 + 33 * qP w))), l3] [] (o, ad, A1, B1) := by
        intro l3 h
        refine bX4_readNext_227.go rfl trivial ?_
        exact j232 _ _ (b2_t h)
      have n231 : ∀ l3, fuE T s2 w = false → JS TP X mX4_readNext (rmOf mX4_readNext.lv 0 0) (ZR X o ad (fun r A' B' => r = none ∧ FrW A B A' B' ∧ RdW A' T n (nextE T n s w).1 (nextE T n s w).2)) 0 0 231 [some (.ref o), some (.int (b2 (ofE T s))), some (.int (nI (56 + 33 * qP w))), l3] [] (o, ad, A1, B1) := by
        intro l3 h
        refine bX4_readNext_231.go rfl trivial ?_
        exact j232 _ _ (b2_f h)
      refine j_if_ne (tgt := 227) dX4_readNext_172 (by decide) (fun h172 => ?_) (fun h172 => ?_)
      · rw [b2_n0] at h172
        exact y227 _ (by rw [fuE, h172]; rfl)
      · rw [b2_0] at h172
        have look206 : ((isE T 24 s2 || isE T 25 s2) && decide (w (56 + 33 * qP w + 3) = nI 6)) = false → JS TP X mX4_readNext (rmOf mX4_readNext.lv 0 0) (ZR X o ad (fun r A' B' => r = none ∧ FrW A B A' B' ∧ RdW A' T n (nextE T n s w).1 (nextE T n s w).2)) 0 0 206 [some (.ref o), some (.int (b2 (ofE T s))), some (.int (nI (56 + 33 * qP w))), some (.int (b2 (fu1 T s2 w)))] [] (o, ad, A1, B1) := by
          intro hno
          refine bX4_readNext_206.go rfl trivial ?_
          refine js_ldcS (tx := "look") (i := 26) hX (by decide +kernel) dX4_readNext_207 ?_
          refine rg (nA := 1) (ok_is hX (i := 26) (by decide) T n s2) gX4_is dX4_readNext_209 rfl h1.1 (fun r206 A206 B206 q206 => ?_)
          obtain ⟨rfl, hA206, hB206⟩ := q206
          have hA206 := hA206.symm; have hB206 := hB206.symm; subst hA206; subst hB206
          refine j_if_eq (tgt := 231) dX4_readNext_212 (by decide) (fun h212 => ?_) (fun h212 => ?_)
          · rw [b2_0] at h212
            exact n231 _ (by rw [fuE, h172, hno, h212]; rfl)
          · rw [b2_n0] at h212
            refine bX4_readNext_215.go rfl (by simp (disch := omega) only [nI_add, vpI]; exact ⟨trivial, ⟨trivial, by omega⟩, trivial⟩) ?_
            simp (disch := omega) only [nI_add, nI_clamp, h1.2]
            refine j_icmp_ne (tgt := 231) dX4_readNext_224 (by decide) (fun h224 => ?_) (fun h224 => ?_)
            · exact n231 _ (by rw [fuE, h172, hno, decide_eq_false h224]; simp)
            · exact y227 _ (by rw [fuE, h212, decide_eq_true h224]; simp)
        have m193 : (isE T 24 s2 || isE T 25 s2) = true → JS TP X mX4_readNext (rmOf mX4_readNext.lv 0 0) (ZR X o ad (fun r A' B' => r = none ∧ FrW A B A' B' ∧ RdW A' T n (nextE T n s w).1 (nextE T n s w).2)) 0 0 193 [some (.ref o), some (.int (b2 (ofE T s))), some (.int (nI (56 + 33 * qP w))), some (.int (b2 (fu1 T s2 w)))] [] (o, ad, A1, B1) := by
          intro hgw
          refine bX4_readNext_193.go rfl (by simp (disch := omega) only [nI_add, vpI]; exact ⟨trivial, ⟨trivial, by omega⟩, trivial⟩) ?_
          simp (disch := omega) only [nI_add, nI_clamp, h1.2]
          refine j_icmp_eq (tgt := 227) dX4_readNext_203 (by decide) (fun h203 => ?_) (fun h203 => ?_)
          · exact y227 _ (by rw [fuE, hgw, decide_eq_true h203]; simp)
          · exact look206 (by rw [decide_eq_false h203]; simp)
        refine bX4_readNext_175.go rfl trivial ?_
        refine js_ldcS (tx := "go") (i := 24) hX (by decide +kernel) dX4_readNext_176 ?_
        refine rg (nA := 1) (ok_is hX (i := 24) (by decide) T n s2) gX4_is dX4_readNext_178 rfl h1.1 (fun r175 A175 B175 q175 => ?_)
        obtain ⟨rfl, hA175, hB175⟩ := q175
        have hA175 := hA175.symm; have hB175 := hB175.symm; subst hA175; subst hB175
        refine j_if_ne (tgt := 193) dX4_readNext_181 (by decide) (fun h181 => ?_) (fun h181 => ?_)
        · rw [b2_n0] at h181
          exact m193 (by rw [h181]; rfl)
        · rw [b2_0] at h181
          refine bX4_readNext_184.go rfl trivial ?_
          refine js_ldcS (tx := "wait") (i := 25) hX (by decide +kernel) dX4_readNext_185 ?_
          refine rg (nA := 1) (ok_is hX (i := 25) (by decide) T n s2) gX4_is dX4_readNext_187 rfl h1.1 (fun r184 A184 B184 q184 => ?_)
          obtain ⟨rfl, hA184, hB184⟩ := q184
          have hA184 := hA184.symm; have hB184 := hB184.symm; subst hA184; subst hB184
          refine j_if_eq (tgt := 206) dX4_readNext_190 (by decide) (fun h190 => ?_) (fun h190 => ?_)
          · rw [b2_0] at h190
            exact look206 (by rw [h181, h190]; rfl)
          · rw [b2_n0] at h190
            exact m193 (by rw [h190]; simp)
    have y165 : fu1 T s2 w = true → JS TP X mX4_readNext (rmOf mX4_readNext.lv 0 0) (ZR X o ad (fun r A' B' => r = none ∧ FrW A B A' B' ∧ RdW A' T n (nextE T n s w).1 (nextE T n s w).2)) 0 0 165 [some (.ref o), some (.int (b2 (ofE T s))), some (.int (nI (56 + 33 * qP w))), none] [] (o, ad, A1, B1) := fun h => by
      refine bX4_readNext_165.go rfl trivial ?_
      exact j170 _ (b2_t h)
    have n169 : fu1 T s2 w = false → JS TP X mX4_readNext (rmOf mX4_readNext.lv 0 0) (ZR X o ad (fun r A' B' => r = none ∧ FrW A B A' B' ∧ RdW A' T n (nextE T n s w).1 (nextE T n s w).2)) 0 0 169 [some (.ref o), some (.int (b2 (ofE T s))), some (.int (nI (56 + 33 * qP w))), none] [] (o, ad, A1, B1) := fun h => by
      refine bX4_readNext_169.go rfl trivial ?_
      exact j170 _ (b2_f h)
    have p145 : (isE T 21 s2 && decide (w 0 = nI 12)) = false → (isE T 22 s2 && decide (w 1 = nI 4)) = false → JS TP X mX4_readNext (rmOf mX4_readNext.lv 0 0) (ZR X o ad (fun r A' B' => r = none ∧ FrW A B A' B' ∧ RdW A' T n (nextE T n s w).1 (nextE T n s w).2)) 0 0 145 [some (.ref o), some (.int (b2 (ofE T s))), some (.int (nI (56 + 33 * qP w))), none] [] (o, ad, A1, B1) := by
      intro n21 n22
      refine bX4_readNext_145.go rfl trivial ?_
      refine js_ldcS (tx := "person") (i := 23) hX (by decide +kernel) dX4_readNext_146 ?_
      refine rg (nA := 1) (ok_is hX (i := 23) (by decide) T n s2) gX4_is dX4_readNext_148 rfl h1.1 (fun r145 A145 B145 q145 => ?_)
      obtain ⟨rfl, hA145, hB145⟩ := q145
      have hA145 := hA145.symm; have hB145 := hB145.symm; subst hA145; subst hB145
      refine j_if_eq (tgt := 169) dX4_readNext_151 (by decide) (fun h151 => ?_) (fun h151 => ?_)
      · rw [b2_0] at h151
        exact n169 (by rw [fu1, n21, n22, h151]; rfl)
      · rw [b2_n0] at h151
        refine bX4_readNext_154.go rfl (by exact ⟨rfl, ⟨rfl, vp_in_nI (by decide) (by decide)⟩, trivial⟩) ?_
        simp (disch := omega) only [nI_clamp, h1.2]
        refine j_icmp_ne (tgt := 169) dX4_readNext_162 (by decide) (fun h162 => ?_) (fun h162 => ?_)
        · exact n169 (by rw [fu1, n21, n22, decide_eq_false h162]; simp)
        · exact y165 (by rw [fu1, h151, decide_eq_true h162]; simp)
    have p126 : (isE T 21 s2 && decide (w 0 = nI 12)) = false → JS TP X mX4_readNext (rmOf mX4_readNext.lv 0 0) (ZR X o ad (fun r A' B' => r = none ∧ FrW A B A' B' ∧ RdW A' T n (nextE T n s w).1 (nextE T n s w).2)) 0 0 126 [some (.ref o), some (.int (b2 (ofE T s))), some (.int (nI (56 + 33 * qP w))), none] [] (o, ad, A1, B1) := by
      intro n21
      refine bX4_readNext_126.go rfl trivial ?_
      refine js_ldcS (tx := "clock") (i := 22) hX (by decide +kernel) dX4_readNext_127 ?_
      refine rg (nA := 1) (ok_is hX (i := 22) (by decide) T n s2) gX4_is dX4_readNext_129 rfl h1.1 (fun r126 A126 B126 q126 => ?_)
      obtain ⟨rfl, hA126, hB126⟩ := q126
      have hA126 := hA126.symm; have hB126 := hB126.symm; subst hA126; subst hB126
      refine j_if_eq (tgt := 145) dX4_readNext_132 (by decide) (fun h132 => ?_) (fun h132 => ?_)
      · rw [b2_0] at h132
        exact p145 n21 (by rw [h132]; rfl)
      · rw [b2_n0] at h132
        refine bX4_readNext_135.go rfl (by exact ⟨rfl, ⟨rfl, vp_in_nI (by decide) (by decide)⟩, trivial⟩) ?_
        simp (disch := omega) only [nI_clamp, h1.2]
        refine j_icmp_eq (tgt := 165) dX4_readNext_142 (by decide) (fun h142 => ?_) (fun h142 => ?_)
        · exact y165 (by rw [fu1, h132, decide_eq_true h142]; simp)
        · exact p145 n21 (by rw [decide_eq_false h142]; simp)
    refine bX4_readNext_105.go rfl trivial ?_
    refine js_ldcS (tx := "wall") (i := 21) hX (by decide +kernel) dX4_readNext_107 ?_
    refine rg (nA := 1) (ok_is hX (i := 21) (by decide) T n s2) gX4_is dX4_readNext_109 rfl h1.1 (fun r A2 B2 q => ?_)
    obtain ⟨rfl, hA, hB⟩ := q
    have hA := hA.symm; have hB := hB.symm; subst hA; subst hB
    refine j_if_eq (tgt := 126) dX4_readNext_112 (by decide) (fun h112 => ?_) (fun h112 => ?_)
    · rw [b2_0] at h112
      exact p126 (by rw [h112]; rfl)
    · rw [b2_n0] at h112
      refine bX4_readNext_115.go rfl (by exact ⟨rfl, ⟨rfl, vp_in_nI (by decide) (by decide)⟩, trivial⟩) ?_
      simp (disch := omega) only [nI_clamp, h1.2]
      refine j_icmp_eq (tgt := 165) dX4_readNext_123 (by decide) (fun h123 => ?_) (fun h123 => ?_)
      · exact y165 (by rw [fu1, h112, decide_eq_true h123]; rfl)
      · exact p126 (by rw [decide_eq_false h123]; simp)
  have m87 : ∀ A1 B1, FrR A B A1 B1 → RdW A1 T n (nx2 T s w) w → JS TP X mX4_readNext (rmOf mX4_readNext.lv 0 0) (ZR X o ad (fun r A' B' => r = none ∧ FrW A B A' B' ∧ RdW A' T n (nextE T n s w).1 (nextE T n s w).2)) 0 0 87 [some (.ref o), some (.int (b2 (ofE T s))), none, none] [] (o, ad, A1, B1) := by
    intro A1 B1 f1 h1
    refine bX4_readNext_87.go rfl (by exact ⟨rfl, ⟨rfl, vp_in_nI (by decide) (by decide)⟩, trivial⟩) ?_
    simp (disch := omega) only [nI_clamp, h1.2]
    refine j_if_ne (tgt := 101) dX4_readNext_93 (by decide) (fun h93 => ?_) (fun h93 => ?_)
    · refine bX4_readNext_101.go rfl (by exact ⟨⟨rfl, trivial⟩, trivial⟩) ?_
      have : nP w ≠ 0 := fun e => h93 (by rw [w2, e]; rfl)
      rw [h1.2, w2, show nP w = qP w + 1 by unfold qP; omega, lat_eq]
      exact m105 A1 B1 f1 h1
    · have : nP w = 0 := (nI_eq (by omega) (by omega)).mp ((w2.symm.trans h93).trans nI_0.symm)
      refine bX4_readNext_96.go rfl trivial ?_
      have e := m105 A1 B1 f1 h1
      rw [show 56 + 33 * qP w = 56 by unfold qP; omega] at e
      exact e
  have m69 : ∀ A1 B1, FrR A B A1 B1 → RdW A1 T n (nx1 T s) w → JS TP X mX4_readNext (rmOf mX4_readNext.lv 0 0) (ZR X o ad (fun r A' B' => r = none ∧ FrW A B A' B' ∧ RdW A' T n (nextE T n s w).1 (nextE T n s w).2)) 0 0 69 [some (.ref o), some (.int (b2 (ofE T s))), none, none] [] (o, ad, A1, B1) := by
    intro A1 B1 f1 h1
    refine bX4_readNext_69.go rfl trivial ?_
    refine j_if_eq (tgt := 87) dX4_readNext_70 (by decide) (fun h70 => ?_) (fun h70 => ?_)
    · rw [b2_0] at h70
      exact m87 A1 B1 f1 (by rw [nx2, h70]; exact h1)
    · rw [b2_n0] at h70
      refine bX4_readNext_73.go rfl (by exact ⟨rfl, ⟨rfl, vp_in_nI (by decide) (by decide)⟩, trivial⟩) ?_
      simp (disch := omega) only [nI_clamp, h1.2]
      refine j_if_ne (tgt := 87) dX4_readNext_79 (by decide) (fun h79 => ?_) (fun h79 => ?_)
      · exact m87 A1 B1 f1 (by rw [nx2, decide_eq_false h79, Bool.and_false]; exact h1)
      · refine bX4_readNext_82.go rfl trivial ?_
        refine rc_I ok_errs gX4_errs dX4_readNext_84 rfl trivial (fun r A2 B2 q => ?_)
        obtain ⟨rfl, hB, rfl⟩ := q
        have hB := hB.symm
        subst hB
        exact m87 _ _ (f1.trans erA_fr) (by rw [nx2, h70, decide_eq_true h79]; exact h1.fr (B := B1) (B' := B1) erA_fr (erA_rd (by decide +kernel) h1.1))
  have j32 : ∀ z, z = b2 (ofE T s) → JS TP X mX4_readNext (rmOf mX4_readNext.lv 0 0) (ZR X o ad (fun r A' B' => r = none ∧ FrW A B A' B' ∧ RdW A' T n (nextE T n s w).1 (nextE T n s w).2)) 0 0 32 [some (.ref o), none, none, none] [.int z] (o, ad, A, B) := by
    intro z hz
    subst hz
    refine bX4_readNext_32.go rfl trivial ?_
    have ok : (!ofE T s && !anE T s) = false → JS TP X mX4_readNext (rmOf mX4_readNext.lv 0 0) (ZR X o ad (fun r A' B' => r = none ∧ FrW A B A' B' ∧ RdW A' T n (nextE T n s w).1 (nextE T n s w).2)) 0 0 69 [some (.ref o), some (.int (b2 (ofE T s))), none, none] [] (o, ad, A, B) := fun h => m69 A B FrR.rf (by rw [nx1, h]; exact hrd)
    refine j_if_ne (tgt := 69) dX4_readNext_34 (by decide) (fun h34 => ?_) (fun h34 => ?_)
    · rw [b2_n0] at h34
      exact ok (by rw [h34]; rfl)
    · rw [b2_0] at h34
      refine bX4_readNext_37.go rfl trivial ?_
      refine js_ldcS (tx := "wall") (i := 21) hX (by decide +kernel) dX4_readNext_38 ?_
      refine rg (nA := 1) (ok_is hX (i := 21) (by decide) T n s) gX4_is dX4_readNext_40 rfl hrd.1 (fun r37 A37 B37 q37 => ?_)
      obtain ⟨rfl, hA37, hB37⟩ := q37
      have hA37 := hA37.symm; have hB37 := hB37.symm; subst hA37; subst hB37
      refine j_if_ne (tgt := 69) dX4_readNext_43 (by decide) (fun h43 => ?_) (fun h43 => ?_)
      · rw [b2_n0] at h43
        exact ok (by rw [anE, h43]; simp)
      · rw [b2_0] at h43
        refine bX4_readNext_46.go rfl trivial ?_
        refine js_ldcS (tx := "clock") (i := 22) hX (by decide +kernel) dX4_readNext_47 ?_
        refine rg (nA := 1) (ok_is hX (i := 22) (by decide) T n s) gX4_is dX4_readNext_49 rfl hrd.1 (fun r46 A46 B46 q46 => ?_)
        obtain ⟨rfl, hA46, hB46⟩ := q46
        have hA46 := hA46.symm; have hB46 := hB46.symm; subst hA46; subst hB46
        refine j_if_ne (tgt := 69) dX4_readNext_52 (by decide) (fun h52 => ?_) (fun h52 => ?_)
        · rw [b2_n0] at h52
          exact ok (by rw [anE, h52]; simp)
        · rw [b2_0] at h52
          refine bX4_readNext_55.go rfl trivial ?_
          refine js_ldcS (tx := "person") (i := 23) hX (by decide +kernel) dX4_readNext_56 ?_
          refine rg (nA := 1) (ok_is hX (i := 23) (by decide) T n s) gX4_is dX4_readNext_58 rfl hrd.1 (fun r55 A55 B55 q55 => ?_)
          obtain ⟨rfl, hA55, hB55⟩ := q55
          have hA55 := hA55.symm; have hB55 := hB55.symm; subst hA55; subst hB55
          refine j_if_ne (tgt := 69) dX4_readNext_61 (by decide) (fun h61 => ?_) (fun h61 => ?_)
          · rw [b2_n0] at h61
            exact ok (by rw [anE, h61]; simp)
          · rw [b2_0] at h61
            refine bX4_readNext_64.go rfl trivial ?_
            refine rc_I ok_errs gX4_errs dX4_readNext_66 rfl trivial (fun r A2 B2 q => ?_)
            obtain ⟨rfl, hB, rfl⟩ := q
            have hB := hB.symm
            subst hB
            exact m69 _ _ erA_fr (by rw [nx1, h34, anE, h43, h52, h61]; exact hrd.fr (B := B) (B' := B) erA_fr (erA_rd (by decide +kernel) hrd.1))
  refine R_start (L := [some (.ref o), none, none, none]) 3 rfl ?_
  refine bX4_readNext_0.go rfl trivial ?_
  refine js_ldcS (tx := "go") (i := 24) hX (by decide +kernel) dX4_readNext_1 ?_
  refine rg (nA := 1) (ok_is hX (i := 24) (by decide) T n s) gX4_is dX4_readNext_3 rfl hrd.1 (fun r0 A0 B0 q0 => ?_)
  obtain ⟨rfl, hA0, hB0⟩ := q0
  have hA0 := hA0.symm; have hB0 := hB0.symm; subst hA0; subst hB0
  refine j_if_ne (tgt := 27) dX4_readNext_6 (by decide) (fun h6 => ?_) (fun h6 => ?_)
  · rw [b2_n0] at h6
    refine bX4_readNext_27.go rfl trivial ?_
    exact j32 _ (b2_t (by rw [ofE, h6]; rfl))
  · rw [b2_0] at h6
    refine bX4_readNext_9.go rfl trivial ?_
    refine js_ldcS (tx := "wait") (i := 25) hX (by decide +kernel) dX4_readNext_10 ?_
    refine rg (nA := 1) (ok_is hX (i := 25) (by decide) T n s) gX4_is dX4_readNext_12 rfl hrd.1 (fun r9 A9 B9 q9 => ?_)
    obtain ⟨rfl, hA9, hB9⟩ := q9
    have hA9 := hA9.symm; have hB9 := hB9.symm; subst hA9; subst hB9
    refine j_if_ne (tgt := 27) dX4_readNext_15 (by decide) (fun h15 => ?_) (fun h15 => ?_)
    · rw [b2_n0] at h15
      refine bX4_readNext_27.go rfl trivial ?_
      exact j32 _ (b2_t (by rw [ofE, h15]; simp))
    · rw [b2_0] at h15
      refine bX4_readNext_18.go rfl trivial ?_
      refine js_ldcS (tx := "look") (i := 26) hX (by decide +kernel) dX4_readNext_19 ?_
      refine rg (nA := 1) (ok_is hX (i := 26) (by decide) T n s) gX4_is dX4_readNext_21 rfl hrd.1 (fun r18 A18 B18 q18 => ?_)
      obtain ⟨rfl, hA18, hB18⟩ := q18
      have hA18 := hA18.symm; have hB18 := hB18.symm; subst hA18; subst hB18
      refine j_if_eq (tgt := 31) dX4_readNext_24 (by decide) (fun h24 => ?_) (fun h24 => ?_)
      · rw [b2_0] at h24
        refine bX4_readNext_31.go rfl trivial ?_
        exact j32 _ (b2_f (by rw [ofE, h6, h15, h24]; rfl))
      · rw [b2_n0] at h24
        refine bX4_readNext_27.go rfl trivial ?_
        exact j32 _ (b2_t (by rw [ofE, h24]; simp))
