set_option maxRecDepth 100000
/-! ===== Integer.bitCount, signum, numberOfTrailingZeros ===== -/
theorem s_ldcw {σ : Type} {Pic : Cx → σ → AH → Prop} {M : MD} {pc i : Nat} {v : Int32} (hd : decode M.cc pc = .ok (.ldc_w i, 3)) (hw : Cond.constant M.y.cls i v ∈ lw_all) : JStp Pic M pc (pc + 3) (oC v) := by
  intro X R Z k n L st x L' st' x' hf kk h hp p e s m args below meth c B rk H locs ls hW hS hL
  simp only [Option.some.injEq, Prod.mk.injEq] at hf
  obtain ⟨rfl, rfl, rfl⟩ := hf
  exact lv_ldcw B.1 B.2.1 B.2.2.2.2.2.1 (B.2.2.2.2.2.2.1 _ hw) hd (kk h hp p e s m args below meth c B rk H locs ls hW hS hL)
abbrev mJ14_bitCount : MD := (yJ14_bitCount, cJ14_bitCount, 1, (Option.some .int), 1, noEH)
theorem bJ14_bitCount_0 : Blk PE mJ14_bitCount 0 52 [oIL 0, oIL 0, oC (nI 1), oUshr, oC (1431655765), oAnd, oSub, oIS 0, oIL 0, oC (858993459), oAnd, oIL 0, oC (nI 2), oUshr, oC (858993459), oAnd, oAdd, oIS 0, oIL 0, oIL 0, oC (nI 4), oUshr, oAdd, oC (252645135), oAnd, oIS 0, oIL 0, oIL 0, oC (nI 8), oUshr, oAdd, oIS 0, oIL 0, oIL 0, oC (nI 16), oUshr, oAdd, oIS 0, oIL 0, oC (nI 63), oAnd] := blk_c (s_iload_n dJ14_bitCount_0 rfl) <| blk_c (s_iload_n dJ14_bitCount_1 rfl) <| blk_c (s_iconst dJ14_bitCount_2 (by decide +kernel)) <| blk_c (s_iushr dJ14_bitCount_3) <| blk_c (s_ldcw dJ14_bitCount_4 q1429) <| blk_c (s_iand dJ14_bitCount_7) <| blk_c (s_isub dJ14_bitCount_8) <| blk_c (s_istore_n dJ14_bitCount_9 rfl (by decide)) <| blk_c (s_iload_n dJ14_bitCount_10 rfl) <| blk_c (s_ldcw dJ14_bitCount_11 q1430) <| blk_c (s_iand dJ14_bitCount_14) <| blk_c (s_iload_n dJ14_bitCount_15 rfl) <| blk_c (s_iconst dJ14_bitCount_16 (by decide +kernel)) <| blk_c (s_iushr dJ14_bitCount_17) <| blk_c (s_ldcw dJ14_bitCount_18 q1430) <| blk_c (s_iand dJ14_bitCount_21) <| blk_c (s_iadd dJ14_bitCount_22) <| blk_c (s_istore_n dJ14_bitCount_23 rfl (by decide)) <| blk_c (s_iload_n dJ14_bitCount_24 rfl) <| blk_c (s_iload_n dJ14_bitCount_25 rfl) <| blk_c (s_iconst dJ14_bitCount_26 (by decide +kernel)) <| blk_c (s_iushr dJ14_bitCount_27) <| blk_c (s_iadd dJ14_bitCount_28) <| blk_c (s_ldcw dJ14_bitCount_29 q1431) <| blk_c (s_iand dJ14_bitCount_32) <| blk_c (s_istore_n dJ14_bitCount_33 rfl (by decide)) <| blk_c (s_iload_n dJ14_bitCount_34 rfl) <| blk_c (s_iload_n dJ14_bitCount_35 rfl) <| blk_c (s_bipush dJ14_bitCount_36 (by decide +kernel)) <| blk_c (s_iushr dJ14_bitCount_38) <| blk_c (s_iadd dJ14_bitCount_39) <| blk_c (s_istore_n dJ14_bitCount_40 rfl (by decide)) <| blk_c (s_iload_n dJ14_bitCount_41 rfl) <| blk_c (s_iload_n dJ14_bitCount_42 rfl) <| blk_c (s_bipush dJ14_bitCount_43 (by decide +kernel)) <| blk_c (s_iushr dJ14_bitCount_45) <| blk_c (s_iadd dJ14_bitCount_46) <| blk_c (s_istore_n dJ14_bitCount_47 rfl (by decide)) <| blk_c (s_iload_n dJ14_bitCount_48 rfl) <| blk_c (s_bipush dJ14_bitCount_49 (by decide +kernel)) <| blk_c (s_iand dJ14_bitCount_51) <| blk_nil
abbrev mJ14_signum : MD := (yJ14_signum, cJ14_signum, 1, (Option.some .int), 1, noEH)
theorem bJ14_signum_0 : Blk PE mJ14_signum 0 10 [oIL 0, oC (nI 31), oShr, oIL 0, oNeg, oC (nI 31), oUshr, oOr] := blk_c (s_iload_n dJ14_signum_0 rfl) <| blk_c (s_bipush dJ14_signum_1 (by decide +kernel)) <| blk_c (s_ishr dJ14_signum_3) <| blk_c (s_iload_n dJ14_signum_4 rfl) <| blk_c (s_ineg dJ14_signum_5) <| blk_c (s_bipush dJ14_signum_6 (by decide +kernel)) <| blk_c (s_iushr dJ14_signum_8) <| blk_c (s_ior dJ14_signum_9) <| blk_nil
theorem ok_bitCount {X : Cx} {s : Nat} (hs : s < 256) (h : AH) : Cg X mJ14_bitCount 0 0 [.int (nI s)] h (PR (some (.int (bitsI (nI s)))) h) := by
  refine E_start (L := [some (.int (nI s))]) 0 rfl ?_
  refine bJ14_bitCount_0.go rfl trivial ?_
  refine e_iret dJ14_bitCount_52 rfl ⟨?_, rfl⟩
  refine congrArg (fun z => Outcome.returned (some (Value.int z))) ?_
  revert s
  decide +kernel
/-- the sign of a small difference -/
def sgI (v : Int32) : Int32 := if 0 < v then nI 1 else if v < 0 then -1 else nI 0
theorem ok_signum {X : Cx} {a b : Nat} (ha : a < 20) (hb : b < 20) (h : AH) : Cg X mJ14_signum 0 0 [.int (nI a - nI b)] h (PR (some (.int (sgI (nI a - nI b)))) h) := by
  refine E_start (L := [some (.int (nI a - nI b))]) 0 rfl ?_
  refine bJ14_signum_0.go rfl trivial ?_
  refine e_iret dJ14_signum_10 rfl ⟨?_, rfl⟩
  refine congrArg (fun z => Outcome.returned (some (Value.int z))) ?_
  revert b
  revert a
  decide +kernel
