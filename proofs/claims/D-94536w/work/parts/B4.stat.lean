set_option maxRecDepth 100000
/-! ===== the component's static functions; Math's; Integer.numberOfTrailingZeros ===== -/
theorem PR_int {a b : Int32} {h : AH} (e : a = b) : PR (some (.int b)) h (.returned (some (.int a))) h := by subst e; exact ⟨rfl, rfl⟩
abbrev pT3 : Int64 → Int64 → Int64 → Prop := fun _ _ _ => True
abbrev pT2 : Int32 → Int32 → Prop := fun _ _ => True
abbrev pT1 : Int64 → Prop := fun _ => True
abbrev pTi : Int32 → Prop := fun _ => True
abbrev pBits : Int32 → Prop := fun a => ∃ s, s < 256 ∧ a = nI s
abbrev pSgn : Int32 → Prop := fun v => ∃ a b : Nat, a < 20 ∧ b < 20 ∧ v = nI a - nI b
abbrev pNtz : Int32 → Prop := fun a => ∃ s : Nat, s < 15 ∧ a = nI s ^^^ -1
def fIn (v lo hi : Int64) : Int32 := b2 (decide (lo ≤ v) && decide (v ≤ hi))
def fOn (s k : Int32) : Int32 := b2 (decide ((s >>> (k &&& 31)) &&& nI 1 = nI 1))
def fHour (a : Int64) : Int32 := fIn a (lN 0) 59
def fSlot (a : Int32) : Int32 := fIn a.toInt64 (lN 0) 3
def ntzI (a : Int32) : Int32 := if bitI a 0 = true then nI 0 else if bitI a 1 = true then nI 1 else if bitI a 2 = true then nI 2 else nI 3
theorem bX0_in_0 : Blk PE mX0_in 0 3 [oLL 0, oLL 2, oLcmp] := blk_c (s_lload_n dX0_in_0 rfl) <| blk_c (s_lload_n dX0_in_1 rfl) <| blk_c (s_lcmp dX0_in_2) <| blk_nil
theorem bX0_in_6 : Blk PE mX0_in 6 10 [oLL 0, oLL 4, oLcmp] := blk_c (s_lload_n dX0_in_6 rfl) <| blk_c (s_lload dX0_in_7) <| blk_c (s_lcmp dX0_in_9) <| blk_nil
theorem bX0_in_13 : Blk PE mX0_in 13 18 [oC (nI 1), .inl (fun s => some s)] := blk_c (s_iconst dX0_in_13 (by decide +kernel)) <| blk_c (s_goto (tgt := 18) dX0_in_14 (by decide)) <| blk_nil
theorem bX0_in_17 : Blk PE mX0_in 17 18 [oC (nI 0)] := blk_c (s_iconst dX0_in_17 (by decide +kernel)) <| blk_nil
theorem ok_sX0_in : SP_JJJ mX0_in pT3 fIn := by
  intro X h v lo hi _
  refine E_start (L := [some (.long v), none, some (.long lo), none, some (.long hi), none]) 0 rfl ?_
  refine bX0_in_0.go rfl trivial ?_
  refine j_if_lt (tgt := 17) dX0_in_3 (by decide) (fun h3 => ?_) (fun h3 => ?_)
  · refine bX0_in_17.go rfl trivial ?_
    refine e_zret dX0_in_18 rfl rfl ?_
    exact PR_int (by first | exact b2_t (by simp only [lg_cmp_lt, lg_cmp_gt, Int64.not_lt] at *; simp [*]) | exact b2_ne (by simp only [lg_cmp_lt, lg_cmp_gt, ← Int64.not_lt, Bool.and_eq_true, decide_eq_true_eq] at *; simp [*, -Int64.not_lt]))
  · refine bX0_in_6.go rfl trivial ?_
    refine j_if_gt (tgt := 17) dX0_in_10 (by decide) (fun h10 => ?_) (fun h10 => ?_)
    · refine bX0_in_17.go rfl trivial ?_
      refine e_zret dX0_in_18 rfl rfl ?_
      exact PR_int (by first | exact b2_t (by simp only [lg_cmp_lt, lg_cmp_gt, Int64.not_lt] at *; simp [*]) | exact b2_ne (by simp only [lg_cmp_lt, lg_cmp_gt, ← Int64.not_lt, Bool.and_eq_true, decide_eq_true_eq] at *; simp [*, -Int64.not_lt]))
    · refine bX0_in_13.go rfl trivial ?_
      refine e_zret dX0_in_18 rfl rfl ?_
      exact PR_int (by first | exact b2_t (by simp only [lg_cmp_lt, lg_cmp_gt, Int64.not_lt] at *; simp [*]) | exact b2_ne (by simp only [lg_cmp_lt, lg_cmp_gt, ← Int64.not_lt, Bool.and_eq_true, decide_eq_true_eq] at *; simp [*, -Int64.not_lt]))
theorem bX0_isOn_0 : Blk PE mX0_isOn 0 6 [oIL 0, oIL 1, oShr, oC (nI 1), oAnd, oC (nI 1)] := blk_c (s_iload_n dX0_isOn_0 rfl) <| blk_c (s_iload_n dX0_isOn_1 rfl) <| blk_c (s_ishr dX0_isOn_2) <| blk_c (s_iconst dX0_isOn_3 (by decide +kernel)) <| blk_c (s_iand dX0_isOn_4) <| blk_c (s_iconst dX0_isOn_5 (by decide +kernel)) <| blk_nil
theorem bX0_isOn_9 : Blk PE mX0_isOn 9 14 [oC (nI 1), .inl (fun s => some s)] := blk_c (s_iconst dX0_isOn_9 (by decide +kernel)) <| blk_c (s_goto (tgt := 14) dX0_isOn_10 (by decide)) <| blk_nil
theorem bX0_isOn_13 : Blk PE mX0_isOn 13 14 [oC (nI 0)] := blk_c (s_iconst dX0_isOn_13 (by decide +kernel)) <| blk_nil
theorem ok_sX0_isOn : SP_II mX0_isOn pT2 fOn := by
  intro X h s k _
  refine E_start (L := [some (.int s), some (.int k)]) 0 rfl ?_
  refine bX0_isOn_0.go rfl trivial ?_
  refine j_icmp_ne (tgt := 13) dX0_isOn_6 (by decide) (fun h6 => ?_) (fun h6 => ?_)
  · refine bX0_isOn_13.go rfl trivial ?_
    refine e_zret dX0_isOn_14 rfl rfl ?_
    exact PR_int (by first | exact b2_t (by simp_all) | exact b2_ne (by simp_all))
  · refine bX0_isOn_9.go rfl trivial ?_
    refine e_zret dX0_isOn_14 rfl rfl ?_
    exact PR_int (by first | exact b2_t (by simp_all) | exact b2_ne (by simp_all))
theorem ok_sX0_isHour : SP_J mX0_isHour pT1 fHour := by
  intro X h a _
  refine E_start (L := [some (.long a), none]) 0 rfl ?_
  refine (blk_c (s_lload_n dX0_isHour_0 rfl) <| blk_c (s_lconst dX0_isHour_1 (v := lN 0) (by decide +kernel)) <| blk_c (s_ldc2 dX0_isHour_2 q1346) <| blk_nil).go rfl trivial ?_
  refine js_pureS (M' := mX0_in) (nA := 3) (As := [.long a, .long (lN 0), .long 59]) (fun h => ok_sX0_in X h _ _ _ trivial) dX0_isHour_5 (lw_S q179 q180 q131 q181) rfl ?_
  exact e_zret dX0_isHour_8 rfl (b2_z _) (PR_int rfl)
theorem ok_sX0_isSlot : SP_I mX0_isSlot pTi fSlot := by
  intro X h a _
  refine E_start (L := [some (.int a)]) 0 rfl ?_
  refine (blk_c (s_iload_n dX0_isSlot_0 rfl) <| blk_c (s_i2l dX0_isSlot_1) <| blk_c (s_lconst dX0_isSlot_2 (v := lN 0) (by decide +kernel)) <| blk_c (s_ldc2 dX0_isSlot_3 q178) <| blk_nil).go rfl trivial ?_
  refine js_pureS (M' := mX0_in) (nA := 3) (As := [.long a.toInt64, .long (lN 0), .long 3]) (fun h => ok_sX0_in X h _ _ _ trivial) dX0_isSlot_6 (lw_S q179 q180 q131 q181) rfl ?_
  exact e_zret dX0_isSlot_9 rfl (b2_z _) (PR_int rfl)
theorem bJ3_abs_0_e : Blk PE mJ3_abs 0 1 [oIL 0] := blk_c (s_iload_n dJ3_abs_0 rfl) <| blk_nil
theorem bJ3_abs_4_e : Blk PE mJ3_abs 4 10 [oIL 0, oNeg, .inl (fun s => some s)] := blk_c (s_iload_n dJ3_abs_4 rfl) <| blk_c (s_ineg dJ3_abs_5) <| blk_c (s_goto (tgt := 10) dJ3_abs_6 (by decide)) <| blk_nil
theorem bJ3_abs_9_e : Blk PE mJ3_abs 9 10 [oIL 0] := blk_c (s_iload_n dJ3_abs_9 rfl) <| blk_nil
theorem ok_sJ3_abs : SP_I mJ3_abs pTi absI := by
  intro X h a _
  refine E_start (L := [some (.int a)]) 0 rfl ?_
  refine bJ3_abs_0_e.go rfl trivial ?_
  refine j_if_ge (tgt := 9) dJ3_abs_1 (by decide) (fun h1 => ?_) (fun h1 => ?_)
  · refine bJ3_abs_9_e.go rfl trivial ?_
    refine e_iret dJ3_abs_10 rfl ?_
    exact PR_int (by simp [absI, *])
  · refine bJ3_abs_4_e.go rfl trivial ?_
    refine e_iret dJ3_abs_10 rfl ?_
    exact PR_int (by simp [absI, *])
theorem bJ3_max_0_e : Blk PE mJ3_max 0 2 [oIL 0, oIL 1] := blk_c (s_iload_n dJ3_max_0 rfl) <| blk_c (s_iload_n dJ3_max_1 rfl) <| blk_nil
theorem bJ3_max_5_e : Blk PE mJ3_max 5 10 [oIL 0, .inl (fun s => some s)] := blk_c (s_iload_n dJ3_max_5 rfl) <| blk_c (s_goto (tgt := 10) dJ3_max_6 (by decide)) <| blk_nil
theorem bJ3_max_9_e : Blk PE mJ3_max 9 10 [oIL 1] := blk_c (s_iload_n dJ3_max_9 rfl) <| blk_nil
theorem ok_sJ3_max : SP_II mJ3_max pT2 maxI := by
  intro X h a b _
  refine E_start (L := [some (.int a), some (.int b)]) 0 rfl ?_
  refine bJ3_max_0_e.go rfl trivial ?_
  refine j_icmp_lt (tgt := 9) dJ3_max_2 (by decide) (fun h2 => ?_) (fun h2 => ?_)
  · refine bJ3_max_9_e.go rfl trivial ?_
    refine e_iret dJ3_max_10 rfl ?_
    exact PR_int (by simp only [maxI]; split <;> simp_all [← Int32.not_lt])
  · refine bJ3_max_5_e.go rfl trivial ?_
    refine e_iret dJ3_max_10 rfl ?_
    exact PR_int (by simp only [maxI]; split <;> simp_all [← Int32.not_lt])
theorem bJ3_min_0_e : Blk PE mJ3_min 0 2 [oIL 0, oIL 1] := blk_c (s_iload_n dJ3_min_0 rfl) <| blk_c (s_iload_n dJ3_min_1 rfl) <| blk_nil
theorem bJ3_min_5_e : Blk PE mJ3_min 5 10 [oIL 0, .inl (fun s => some s)] := blk_c (s_iload_n dJ3_min_5 rfl) <| blk_c (s_goto (tgt := 10) dJ3_min_6 (by decide)) <| blk_nil
theorem bJ3_min_9_e : Blk PE mJ3_min 9 10 [oIL 1] := blk_c (s_iload_n dJ3_min_9 rfl) <| blk_nil
theorem ok_sJ3_min : SP_II mJ3_min pT2 minI := by
  intro X h a b _
  refine E_start (L := [some (.int a), some (.int b)]) 0 rfl ?_
  refine bJ3_min_0_e.go rfl trivial ?_
  refine j_icmp_gt (tgt := 9) dJ3_min_2 (by decide) (fun h2 => ?_) (fun h2 => ?_)
  · refine bJ3_min_9_e.go rfl trivial ?_
    refine e_iret dJ3_min_10 rfl ?_
    exact PR_int (by simp only [minI]; split <;> simp_all [← Int32.not_lt])
  · refine bJ3_min_5_e.go rfl trivial ?_
    refine e_iret dJ3_min_10 rfl ?_
    exact PR_int (by simp only [minI]; split <;> simp_all [← Int32.not_lt])
theorem ok_sJ14_bitCount : SP_I mJ14_bitCount pBits bitsI := by
  rintro X h _ ⟨s, hs, rfl⟩
  exact ok_bitCount hs h
theorem ok_sJ14_signum : SP_I mJ14_signum pSgn sgI := by
  rintro X h _ ⟨a, b, ha, hb, rfl⟩
  exact ok_signum ha hb h
theorem bJ14_numberOfTrailingZeros_0 : Blk PE mJ14_numberOfTrailingZeros 0 9 [oIL 0, oC (-1), oXor, oIL 0, oC (nI 1), oSub, oAnd, oIS 0, oIL 0] := blk_c (s_iload_n dJ14_numberOfTrailingZeros_0 rfl) <| blk_c (s_iconst dJ14_numberOfTrailingZeros_1 (by decide +kernel)) <| blk_c (s_ixor dJ14_numberOfTrailingZeros_2) <| blk_c (s_iload_n dJ14_numberOfTrailingZeros_3 rfl) <| blk_c (s_iconst dJ14_numberOfTrailingZeros_4 (by decide +kernel)) <| blk_c (s_isub dJ14_numberOfTrailingZeros_5) <| blk_c (s_iand dJ14_numberOfTrailingZeros_6) <| blk_c (s_istore_n dJ14_numberOfTrailingZeros_7 rfl (by decide)) <| blk_c (s_iload_n dJ14_numberOfTrailingZeros_8 rfl) <| blk_nil
theorem bJ14_numberOfTrailingZeros_12 : Blk PE mJ14_numberOfTrailingZeros 12 16 [oIL 0, oC (nI 32), oAnd] := blk_c (s_iload_n dJ14_numberOfTrailingZeros_12 rfl) <| blk_c (s_bipush dJ14_numberOfTrailingZeros_13 (by decide +kernel)) <| blk_c (s_iand dJ14_numberOfTrailingZeros_15) <| blk_nil
theorem bJ14_numberOfTrailingZeros_17 : Blk PE mJ14_numberOfTrailingZeros 17 23 [oC (nI 1), oIS 1, oIL 0, oC (65536)] := blk_c (s_iconst dJ14_numberOfTrailingZeros_17 (by decide +kernel)) <| blk_c (s_istore_n dJ14_numberOfTrailingZeros_18 rfl (by decide)) <| blk_c (s_iload_n dJ14_numberOfTrailingZeros_19 rfl) <| blk_c (s_ldcw dJ14_numberOfTrailingZeros_20 q1286) <| blk_nil
theorem bJ14_numberOfTrailingZeros_26 : Blk PE mJ14_numberOfTrailingZeros 26 34 [oInc 1 (nI 16), oIL 0, oC (nI 16), oUshr, oIS 0] := blk_c (s_iinc dJ14_numberOfTrailingZeros_26 (by decide +kernel) (by decide)) <| blk_c (s_iload_n dJ14_numberOfTrailingZeros_29 rfl) <| blk_c (s_bipush dJ14_numberOfTrailingZeros_30 (by decide +kernel)) <| blk_c (s_iushr dJ14_numberOfTrailingZeros_32) <| blk_c (s_istore_n dJ14_numberOfTrailingZeros_33 rfl (by decide)) <| blk_nil
theorem bJ14_numberOfTrailingZeros_34 : Blk PE mJ14_numberOfTrailingZeros 34 38 [oIL 0, oC (nI 256)] := blk_c (s_iload_n dJ14_numberOfTrailingZeros_34 rfl) <| blk_c (s_sipush dJ14_numberOfTrailingZeros_35 (by decide +kernel)) <| blk_nil
theorem bJ14_numberOfTrailingZeros_41 : Blk PE mJ14_numberOfTrailingZeros 41 49 [oInc 1 (nI 8), oIL 0, oC (nI 8), oUshr, oIS 0] := blk_c (s_iinc dJ14_numberOfTrailingZeros_41 (by decide +kernel) (by decide)) <| blk_c (s_iload_n dJ14_numberOfTrailingZeros_44 rfl) <| blk_c (s_bipush dJ14_numberOfTrailingZeros_45 (by decide +kernel)) <| blk_c (s_iushr dJ14_numberOfTrailingZeros_47) <| blk_c (s_istore_n dJ14_numberOfTrailingZeros_48 rfl (by decide)) <| blk_nil
theorem bJ14_numberOfTrailingZeros_49 : Blk PE mJ14_numberOfTrailingZeros 49 52 [oIL 0, oC (nI 16)] := blk_c (s_iload_n dJ14_numberOfTrailingZeros_49 rfl) <| blk_c (s_bipush dJ14_numberOfTrailingZeros_50 (by decide +kernel)) <| blk_nil
theorem bJ14_numberOfTrailingZeros_55 : Blk PE mJ14_numberOfTrailingZeros 55 62 [oInc 1 (nI 4), oIL 0, oC (nI 4), oUshr, oIS 0] := blk_c (s_iinc dJ14_numberOfTrailingZeros_55 (by decide +kernel) (by decide)) <| blk_c (s_iload_n dJ14_numberOfTrailingZeros_58 rfl) <| blk_c (s_iconst dJ14_numberOfTrailingZeros_59 (by decide +kernel)) <| blk_c (s_iushr dJ14_numberOfTrailingZeros_60) <| blk_c (s_istore_n dJ14_numberOfTrailingZeros_61 rfl (by decide)) <| blk_nil
theorem bJ14_numberOfTrailingZeros_62 : Blk PE mJ14_numberOfTrailingZeros 62 64 [oIL 0, oC (nI 4)] := blk_c (s_iload_n dJ14_numberOfTrailingZeros_62 rfl) <| blk_c (s_iconst dJ14_numberOfTrailingZeros_63 (by decide +kernel)) <| blk_nil
theorem bJ14_numberOfTrailingZeros_67 : Blk PE mJ14_numberOfTrailingZeros 67 74 [oInc 1 (nI 2), oIL 0, oC (nI 2), oUshr, oIS 0] := blk_c (s_iinc dJ14_numberOfTrailingZeros_67 (by decide +kernel) (by decide)) <| blk_c (s_iload_n dJ14_numberOfTrailingZeros_70 rfl) <| blk_c (s_iconst dJ14_numberOfTrailingZeros_71 (by decide +kernel)) <| blk_c (s_iushr dJ14_numberOfTrailingZeros_72) <| blk_c (s_istore_n dJ14_numberOfTrailingZeros_73 rfl (by decide)) <| blk_nil
theorem bJ14_numberOfTrailingZeros_74 : Blk PE mJ14_numberOfTrailingZeros 74 79 [oIL 1, oIL 0, oC (nI 1), oUshr, oAdd] := blk_c (s_iload_n dJ14_numberOfTrailingZeros_74 rfl) <| blk_c (s_iload_n dJ14_numberOfTrailingZeros_75 rfl) <| blk_c (s_iconst dJ14_numberOfTrailingZeros_76 (by decide +kernel)) <| blk_c (s_iushr dJ14_numberOfTrailingZeros_77) <| blk_c (s_iadd dJ14_numberOfTrailingZeros_78) <| blk_nil
theorem ok_sJ14_numberOfTrailingZeros : SP_I mJ14_numberOfTrailingZeros pNtz ntzI := by
  rintro X h _ ⟨s, hs, rfl⟩
  have key : ∀ i r : Int32, (i = nI 1 ∧ r = nI 1 ∨ i = nI 3 ∧ r = nI 2 ∨ i = nI 7 ∧ r = nI 3) → JS PE X mJ14_numberOfTrailingZeros (rmOf mJ14_numberOfTrailingZeros.lv 0 0) (ZQ X 0 0 (PR (some (.int r)) h)) 0 0 17 [some (.int i), none] [] h := by
    intro i r hi
    rcases hi with ⟨rfl, rfl⟩ | ⟨rfl, rfl⟩ | ⟨rfl, rfl⟩ <;>
    · refine bJ14_numberOfTrailingZeros_17.go rfl trivial ?_
      refine j_icmp_le (tgt := 34) dJ14_numberOfTrailingZeros_23 (by decide) (fun h23 => ?_) (fun h23 => absurd (by decide +kernel) h23)
      refine bJ14_numberOfTrailingZeros_34.go rfl trivial ?_
      refine j_icmp_le (tgt := 49) dJ14_numberOfTrailingZeros_38 (by decide) (fun h38 => ?_) (fun h38 => absurd (by decide +kernel) h38)
      refine bJ14_numberOfTrailingZeros_49.go rfl trivial ?_
      refine j_icmp_le (tgt := 62) dJ14_numberOfTrailingZeros_52 (by decide) (fun h52 => ?_) (fun h52 => absurd (by decide +kernel) h52)
      refine bJ14_numberOfTrailingZeros_62.go rfl trivial ?_
      refine j_icmp_le (tgt := 74) dJ14_numberOfTrailingZeros_64 (by decide) (fun h64 => ?_) (fun h64 => ?_)
      · first
        | exact absurd h64 (by decide +kernel)
        | (refine bJ14_numberOfTrailingZeros_74.go rfl trivial ?_
           exact e_iret dJ14_numberOfTrailingZeros_79 rfl (PR_int (by decide +kernel)))
      · first
        | exact absurd (by decide +kernel) h64
        | (refine bJ14_numberOfTrailingZeros_67.go rfl trivial ?_
           refine bJ14_numberOfTrailingZeros_74.go rfl trivial ?_
           exact e_iret dJ14_numberOfTrailingZeros_79 rfl (PR_int (by decide +kernel)))
  refine E_start (L := [some (.int (nI s ^^^ -1)), none]) 1 rfl ?_
  refine bJ14_numberOfTrailingZeros_0.go rfl trivial ?_
  refine j_if_gt (tgt := 17) dJ14_numberOfTrailingZeros_9 (by decide) (fun h9 => ?_) (fun h9 => ?_)
  · refine key _ _ ?_
    revert h9
    revert s
    decide +kernel
  · refine bJ14_numberOfTrailingZeros_12.go rfl trivial ?_
    refine e_iret dJ14_numberOfTrailingZeros_16 rfl (PR_int ?_)
    revert h9
    revert s
    decide +kernel
