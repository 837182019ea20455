set_option maxRecDepth 100000
/-! ===== UnseenClockModel: readClock, readPerson, latest, freshClock, readMove ===== -/
theorem RdW.to {A : Nat → Nat → Int32} {T : Nat → Int32} {n : Nat} {s s' : RdE} {w w' : Nat → Int32} (h : RdW A T n s w) (h1 : s = s') (h2 : w = w') : RdW A T n s' w' := by subst h1; subst h2; exact h
def clk1 (T : Nat → Int32) (n k : Nat) (s : RdE) (w : Nat → Int32) : Int32 × RdE := toldE T n 5 (nI 0) (nI 60) (cellE T n k s w).1
def clk2 (T : Nat → Int32) (n k : Nat) (s : RdE) (w : Nat → Int32) : Int32 × RdE := toldE T n 6 (nI 1) (nI 12) (clk1 T n k s w).2
def clk3 (T : Nat → Int32) (n k : Nat) (s : RdE) (w : Nat → Int32) : Int32 × RdE := toldE T n 7 (nI 2) (nI 60) (clk2 T n k s w).2
def clk4 (T : Nat → Int32) (n k : Nat) (s : RdE) (w : Nat → Int32) : Int32 × RdE := toldE T n 8 (nI 0) ((clk3 T n k s w).1 - nI 1) (clk3 T n k s w).2
/-- a clock is read as the c-th -/
def clockE (T : Nat → Int32) (n c : Nat) (s : RdE) (w : Nat → Int32) : RdE × (Nat → Int32) := ((clk4 T n (32 + 6 * c) s w).2, if goodE (clk4 T n (32 + 6 * c) s w).2 = true then va_up (va_up (va_up (va_up (va_up (cellE T n (32 + 6 * c) s w).2 (32 + 6 * c + 2) (clk1 T n (32 + 6 * c) s w).1) (32 + 6 * c + 3) (clk2 T n (32 + 6 * c) s w).1) (32 + 6 * c + 4) (clk3 T n (32 + 6 * c) s w).1) (32 + 6 * c + 5) (clk4 T n (32 + 6 * c) s w).1) 1 (nI (c + 1)) else (cellE T n (32 + 6 * c) s w).2)
theorem cellE_at {T : Nat → Int32} {n k j : Nat} {s : RdE} {w : Nat → Int32} (h : j < k ∨ k + 1 < j) : (cellE T n k s w).2 j = w j := by
  show (if _ then _ else _ : Nat → Int32) j = w j
  split
  · rw [va_up_ne _ _ (by omega), va_up_ne _ _ (by omega)]
  · rfl
theorem bX4_readClock_0 : Blk TP mX4_readClock 0 15 [oC (nI 32), oC (nI 6), oAL 0, tR 14, oC (nI 1), tAI 14 320, oMul, oAdd, oIS 1, oAL 0, oIL 1] := blk_c (s_bipush dX4_readClock_0 (by decide +kernel)) <| blk_c (s_bipush dX4_readClock_2 (by decide +kernel)) <| blk_c (s_aload_n dX4_readClock_4 rfl) <| blk_c (tgX4_14 rfl dX4_readClock_5) <| blk_c (s_iconst dX4_readClock_8 (by decide +kernel)) <| blk_c (t_iald rfl dX4_readClock_9) <| blk_c (s_imul dX4_readClock_10) <| blk_c (s_iadd dX4_readClock_11) <| blk_c (s_istore_n dX4_readClock_12 rfl (by decide)) <| blk_c (s_aload_n dX4_readClock_13 rfl) <| blk_c (s_iload_n dX4_readClock_14 rfl) <| blk_nil
theorem bX4_readClock_18 : Blk TP mX4_readClock 18 19 [oAL 0] := blk_c (s_aload_n dX4_readClock_18 rfl) <| blk_nil
theorem bX4_readClock_21 : Blk TP mX4_readClock 21 24 [oC (nI 0), oC (nI 60)] := blk_c (s_iconst dX4_readClock_21 (by decide +kernel)) <| blk_c (s_bipush dX4_readClock_22 (by decide +kernel)) <| blk_nil
theorem bX4_readClock_27 : Blk TP mX4_readClock 27 29 [oIS 2, oAL 0] := blk_c (s_istore_n dX4_readClock_27 rfl (by decide)) <| blk_c (s_aload_n dX4_readClock_28 rfl) <| blk_nil
theorem bX4_readClock_31 : Blk TP mX4_readClock 31 34 [oC (nI 1), oC (nI 12)] := blk_c (s_iconst dX4_readClock_31 (by decide +kernel)) <| blk_c (s_bipush dX4_readClock_32 (by decide +kernel)) <| blk_nil
theorem bX4_readClock_37 : Blk TP mX4_readClock 37 39 [oIS 3, oAL 0] := blk_c (s_istore_n dX4_readClock_37 rfl (by decide)) <| blk_c (s_aload_n dX4_readClock_38 rfl) <| blk_nil
theorem bX4_readClock_41 : Blk TP mX4_readClock 41 44 [oC (nI 2), oC (nI 60)] := blk_c (s_iconst dX4_readClock_41 (by decide +kernel)) <| blk_c (s_bipush dX4_readClock_42 (by decide +kernel)) <| blk_nil
theorem bX4_readClock_47 : Blk TP mX4_readClock 47 50 [oIS 4, oAL 0] := blk_c (s_istore dX4_readClock_47 (by decide)) <| blk_c (s_aload_n dX4_readClock_49 rfl) <| blk_nil
theorem bX4_readClock_52 : Blk TP mX4_readClock 52 57 [oC (nI 0), oIL 4, oC (nI 1), oSub] := blk_c (s_iconst dX4_readClock_52 (by decide +kernel)) <| blk_c (s_iload dX4_readClock_53) <| blk_c (s_iconst dX4_readClock_55 (by decide +kernel)) <| blk_c (s_isub dX4_readClock_56) <| blk_nil
theorem bX4_readClock_60 : Blk TP mX4_readClock 60 66 [oIS 5, oAL 0, tC_V F_good] := blk_c (s_istore dX4_readClock_60 (by decide)) <| blk_c (s_aload_n dX4_readClock_62 rfl) <| blk_c (tc_V ok_good gX4_good (by decide +kernel) (by decide) dX4_readClock_63) <| blk_nil
theorem bX4_readClock_70 : Blk TP mX4_readClock 70 118 [oAL 0, tR 14, oIL 1, oC (nI 2), oAdd, oIL 2, tSI 14 320, oAL 0, tR 14, oIL 1, oC (nI 3), oAdd, oIL 3, tSI 14 320, oAL 0, tR 14, oIL 1, oC (nI 4), oAdd, oIL 4, tSI 14 320, oAL 0, tR 14, oIL 1, oC (nI 5), oAdd, oIL 5, tSI 14 320, oAL 0, tR 14, oC (nI 1), oDup2IR, tAI 14 320, oC (nI 1), oAdd, tSI 14 320] := blk_c (s_aload_n dX4_readClock_70 rfl) <| blk_c (tgX4_14 rfl dX4_readClock_71) <| blk_c (s_iload_n dX4_readClock_74 rfl) <| blk_c (s_iconst dX4_readClock_75 (by decide +kernel)) <| blk_c (s_iadd dX4_readClock_76) <| blk_c (s_iload_n dX4_readClock_77 rfl) <| blk_c (t_iast rfl dX4_readClock_78) <| blk_c (s_aload_n dX4_readClock_79 rfl) <| blk_c (tgX4_14 rfl dX4_readClock_80) <| blk_c (s_iload_n dX4_readClock_83 rfl) <| blk_c (s_iconst dX4_readClock_84 (by decide +kernel)) <| blk_c (s_iadd dX4_readClock_85) <| blk_c (s_iload_n dX4_readClock_86 rfl) <| blk_c (t_iast rfl dX4_readClock_87) <| blk_c (s_aload_n dX4_readClock_88 rfl) <| blk_c (tgX4_14 rfl dX4_readClock_89) <| blk_c (s_iload_n dX4_readClock_92 rfl) <| blk_c (s_iconst dX4_readClock_93 (by decide +kernel)) <| blk_c (s_iadd dX4_readClock_94) <| blk_c (s_iload dX4_readClock_95) <| blk_c (t_iast rfl dX4_readClock_97) <| blk_c (s_aload_n dX4_readClock_98 rfl) <| blk_c (tgX4_14 rfl dX4_readClock_99) <| blk_c (s_iload_n dX4_readClock_102 rfl) <| blk_c (s_iconst dX4_readClock_103 (by decide +kernel)) <| blk_c (s_iadd dX4_readClock_104) <| blk_c (s_iload dX4_readClock_105) <| blk_c (t_iast rfl dX4_readClock_107) <| blk_c (s_aload_n dX4_readClock_108 rfl) <| blk_c (tgX4_14 rfl dX4_readClock_109) <| blk_c (s_iconst dX4_readClock_112 (by decide +kernel)) <| blk_c (s_dup2IR dX4_readClock_113) <| blk_c (t_iald rfl dX4_readClock_114) <| blk_c (s_iconst dX4_readClock_115 (by decide +kernel)) <| blk_c (s_iadd dX4_readClock_116) <| blk_c (t_iast rfl dX4_readClock_117) <| blk_nil
theorem ok_readClock {X : Cx} {aK aV : Nat → Nat} (hX : StrOK X aK aV) (T : Nat → Int32) (n : Nat) (s : RdE) (w : Nat → Int32) (hw : CntOK w) {c : Nat} (hc : c < 4) (hc1 : w 1 = nI c) : RG X mX4_readClock [] (fun A _ => RdW A T n s w) (fun A B r A' B' => r = none ∧ FrW A B A' B' ∧ RdW A' T n (clockE T n c s w).1 (clockE T n c s w).2) := by
  intro o ad A B hrd
  refine R_start (L := [some (.ref o), none, none, none, none, none]) 5 rfl ?_
  refine bX4_readClock_0.go rfl (by exact ⟨rfl, ⟨rfl, vp_in_nI (by decide) (by decide)⟩, trivial⟩) ?_
  simp (disch := omega) only [nI_clamp, hrd.2, hc1, pk_mul, nI_add]
  refine rg (nA := 1) (ok_readCell hX T n s w hw (k := 32 + 6 * c) (by omega)) gX4_readCell dX4_readClock_15 rfl hrd (fun r A1 B1 q => ?_)
  obtain ⟨rfl, f1, h1⟩ := q
  refine bX4_readClock_18.go rfl trivial ?_
  refine js_ldcS (tx := "pace") (i := 5) hX (by decide +kernel) dX4_readClock_19 ?_
  refine bX4_readClock_21.go rfl trivial ?_
  refine rg (nA := 3) (ok_told hX (i := 5) (by decide) T n _ (nI 0) (nI 60)) gX4_told dX4_readClock_24 rfl h1.1 (fun r A2 B2 q => ?_)
  obtain ⟨rfl, f2, g2⟩ := q
  have h2 := h1.fr f2 g2
  refine bX4_readClock_27.go rfl trivial ?_
  refine js_ldcS (tx := "over") (i := 6) hX (by decide +kernel) dX4_readClock_29 ?_
  refine bX4_readClock_31.go rfl trivial ?_
  refine rg (nA := 3) (ok_told hX (i := 6) (by decide) T n _ (nI 1) (nI 12)) gX4_told dX4_readClock_34 rfl h2.1 (fun r A3 B3 q => ?_)
  obtain ⟨rfl, f3, g3⟩ := q
  have h3 := h2.fr f3 g3
  refine bX4_readClock_37.go rfl trivial ?_
  refine js_ldcS (tx := "shows") (i := 7) hX (by decide +kernel) dX4_readClock_39 ?_
  refine bX4_readClock_41.go rfl trivial ?_
  refine rg (nA := 3) (ok_told hX (i := 7) (by decide) T n _ (nI 2) (nI 60)) gX4_told dX4_readClock_44 rfl h3.1 (fun r A4 B4 q => ?_)
  obtain ⟨rfl, f4, g4⟩ := q
  have h4 := h3.fr f4 g4
  refine bX4_readClock_47.go rfl trivial ?_
  refine js_ldcS (tx := "from") (i := 8) hX (by decide +kernel) dX4_readClock_50 ?_
  refine bX4_readClock_52.go rfl trivial ?_
  refine rg (nA := 3) (ok_told hX (i := 8) (by decide) T n _ (nI 0) _) gX4_told dX4_readClock_57 rfl h4.1 (fun r A5 B5 q => ?_)
  obtain ⟨rfl, f5, g5⟩ := q
  have h5 := h4.fr f5 g5
  have ff : FrW A B A5 B5 := (((f1.trans f2.w).trans f3.w).trans f4.w).trans f5.w
  refine bX4_readClock_60.go rfl (by exact ⟨⟨rfl, trivial⟩, trivial⟩) ?_
  rw [g5.good]
  refine j_if_ne (tgt := 70) dX4_readClock_66 (by decide) (fun h66 => ?_) (fun h66 => ?_)
  · rw [b2_n0] at h66
    refine bX4_readClock_70.go rfl (by simp (disch := omega) only [nI_add, vpI]; exact ⟨trivial, ⟨trivial, by omega⟩, trivial, ⟨trivial, by omega⟩, trivial, ⟨trivial, by omega⟩, trivial, ⟨trivial, by omega⟩, trivial, ⟨trivial, by omega⟩, ⟨trivial, by omega⟩, trivial⟩) ?_
    simp (disch := omega) only [nI_add, nI_clamp]
    refine r_vret dX4_readClock_118 rfl ⟨rfl, ((((ff.up _ _).up _ _).up _ _).up _ _).up _ _, ?_⟩
    refine RdW.to (((((h5.up _ _).up _ _).up _ _).up _ _).up _ _) rfl ?_
    show _ = if _ then _ else _
    rw [if_pos (show goodE (clk4 T n (32 + 6 * c) s w).2 = true from h66)]
    refine congrArg (fun z => va_up (va_up (va_up (va_up (va_up (cellE T n (32 + 6 * c) s w).2 (32 + 6 * c + 2) (clk1 T n (32 + 6 * c) s w).1) (32 + 6 * c + 3) (clk2 T n (32 + 6 * c) s w).1) (32 + 6 * c + 4) (clk3 T n (32 + 6 * c) s w).1) (32 + 6 * c + 5) (clk4 T n (32 + 6 * c) s w).1) 1 z) ?_
    rw [upA_at, if_neg (by omega), upA_at, if_neg (by omega), upA_at, if_neg (by omega), upA_at, if_neg (by omega), h5.2, cellE_at (by omega), hc1, nI_add]
  · rw [b2_0] at h66
    refine r_vret dX4_readClock_69 rfl ⟨rfl, ff, RdW.to h5 rfl ?_⟩
    show _ = if _ then _ else _
    rw [if_neg (by rw [show goodE (clk4 T n (32 + 6 * c) s w).2 = false from h66]; decide)]
def per1 (T : Nat → Int32) (n k : Nat) (s : RdE) (w : Nat → Int32) : Int32 × RdE := toldE T n 8 (nI 0) (w 6 - nI 1) (cellE T n k s w).1
/-- a person is read as the p-th -/
def personE (T : Nat → Int32) (n p : Nat) (s : RdE) (w : Nat → Int32) : RdE × (Nat → Int32) := ((per1 T n (56 + 33 * p) s w).2, if goodE (per1 T n (56 + 33 * p) s w).2 = true then va_up (va_up (cellE T n (56 + 33 * p) s w).2 (56 + 33 * p + 2) (per1 T n (56 + 33 * p) s w).1) 2 (nI (p + 1)) else (cellE T n (56 + 33 * p) s w).2)
theorem bX4_readPerson_0 : Blk TP mX4_readPerson 0 15 [oC (nI 56), oC (nI 33), oAL 0, tR 14, oC (nI 2), tAI 14 320, oMul, oAdd, oIS 1, oAL 0, oIL 1] := blk_c (s_bipush dX4_readPerson_0 (by decide +kernel)) <| blk_c (s_bipush dX4_readPerson_2 (by decide +kernel)) <| blk_c (s_aload_n dX4_readPerson_4 rfl) <| blk_c (tgX4_14 rfl dX4_readPerson_5) <| blk_c (s_iconst dX4_readPerson_8 (by decide +kernel)) <| blk_c (t_iald rfl dX4_readPerson_9) <| blk_c (s_imul dX4_readPerson_10) <| blk_c (s_iadd dX4_readPerson_11) <| blk_c (s_istore_n dX4_readPerson_12 rfl (by decide)) <| blk_c (s_aload_n dX4_readPerson_13 rfl) <| blk_c (s_iload_n dX4_readPerson_14 rfl) <| blk_nil
theorem bX4_readPerson_18 : Blk TP mX4_readPerson 18 19 [oAL 0] := blk_c (s_aload_n dX4_readPerson_18 rfl) <| blk_nil
theorem bX4_readPerson_21 : Blk TP mX4_readPerson 21 31 [oC (nI 0), oAL 0, tR 14, oC (nI 6), tAI 14 320, oC (nI 1), oSub] := blk_c (s_iconst dX4_readPerson_21 (by decide +kernel)) <| blk_c (s_aload_n dX4_readPerson_22 rfl) <| blk_c (tgX4_14 rfl dX4_readPerson_23) <| blk_c (s_bipush dX4_readPerson_26 (by decide +kernel)) <| blk_c (t_iald rfl dX4_readPerson_28) <| blk_c (s_iconst dX4_readPerson_29 (by decide +kernel)) <| blk_c (s_isub dX4_readPerson_30) <| blk_nil
theorem bX4_readPerson_34 : Blk TP mX4_readPerson 34 39 [oIS 2, oAL 0, tC_V F_good] := blk_c (s_istore_n dX4_readPerson_34 rfl (by decide)) <| blk_c (s_aload_n dX4_readPerson_35 rfl) <| blk_c (tc_V ok_good gX4_good (by decide +kernel) (by decide) dX4_readPerson_36) <| blk_nil
theorem bX4_readPerson_43 : Blk TP mX4_readPerson 43 62 [oAL 0, tR 14, oIL 1, oC (nI 2), oAdd, oIL 2, tSI 14 320, oAL 0, tR 14, oC (nI 2), oDup2IR, tAI 14 320, oC (nI 1), oAdd, tSI 14 320] := blk_c (s_aload_n dX4_readPerson_43 rfl) <| blk_c (tgX4_14 rfl dX4_readPerson_44) <| blk_c (s_iload_n dX4_readPerson_47 rfl) <| blk_c (s_iconst dX4_readPerson_48 (by decide +kernel)) <| blk_c (s_iadd dX4_readPerson_49) <| blk_c (s_iload_n dX4_readPerson_50 rfl) <| blk_c (t_iast rfl dX4_readPerson_51) <| blk_c (s_aload_n dX4_readPerson_52 rfl) <| blk_c (tgX4_14 rfl dX4_readPerson_53) <| blk_c (s_iconst dX4_readPerson_56 (by decide +kernel)) <| blk_c (s_dup2IR dX4_readPerson_57) <| blk_c (t_iald rfl dX4_readPerson_58) <| blk_c (s_iconst dX4_readPerson_59 (by decide +kernel)) <| blk_c (s_iadd dX4_readPerson_60) <| blk_c (t_iast rfl dX4_readPerson_61) <| blk_nil
theorem ok_readPerson {X : Cx} {aK aV : Nat → Nat} (hX : StrOK X aK aV) (T : Nat → Int32) (n : Nat) (s : RdE) (w : Nat → Int32) (hw : CntOK w) {p : Nat} (hp : p < 8) (hp1 : w 2 = nI p) : RG X mX4_readPerson [] (fun A _ => RdW A T n s w) (fun A B r A' B' => r = none ∧ FrW A B A' B' ∧ RdW A' T n (personE T n p s w).1 (personE T n p s w).2) := by
  intro o ad A B hrd
  refine R_start (L := [some (.ref o), none, none]) 2 rfl ?_
  refine bX4_readPerson_0.go rfl (by exact ⟨rfl, ⟨rfl, vp_in_nI (by decide) (by decide)⟩, trivial⟩) ?_
  simp (disch := omega) only [nI_clamp, hrd.2, hp1, pk_mul, nI_add]
  refine rg (nA := 1) (ok_readCell hX T n s w hw (k := 56 + 33 * p) (by omega)) gX4_readCell dX4_readPerson_15 rfl hrd (fun r A1 B1 q => ?_)
  obtain ⟨rfl, f1, h1⟩ := q
  refine bX4_readPerson_18.go rfl trivial ?_
  refine js_ldcS (tx := "from") (i := 8) hX (by decide +kernel) dX4_readPerson_19 ?_
  refine bX4_readPerson_21.go rfl (by exact ⟨rfl, ⟨rfl, vp_in_nI (by decide) (by decide)⟩, trivial⟩) ?_
  simp (disch := omega) only [nI_clamp, h1.2]
  rw [cellE_at (by omega)]
  refine rg (nA := 3) (ok_told hX (i := 8) (by decide) T n _ (nI 0) (w 6 - nI 1)) gX4_told dX4_readPerson_31 rfl h1.1 (fun r A2 B2 q => ?_)
  obtain ⟨rfl, f2, g2⟩ := q
  have h2 := h1.fr f2 g2
  have ff : FrW A B A2 B2 := f1.trans f2.w
  refine bX4_readPerson_34.go rfl (by exact ⟨⟨rfl, trivial⟩, trivial⟩) ?_
  rw [g2.good]
  refine j_if_ne (tgt := 43) dX4_readPerson_39 (by decide) (fun h39 => ?_) (fun h39 => ?_)
  · rw [b2_n0] at h39
    refine bX4_readPerson_43.go rfl (by simp (disch := omega) only [nI_add, vpI]; exact ⟨trivial, ⟨trivial, by omega⟩, trivial, ⟨trivial, by omega⟩, ⟨trivial, by omega⟩, trivial⟩) ?_
    simp (disch := omega) only [nI_add, nI_clamp]
    refine r_vret dX4_readPerson_62 rfl ⟨rfl, (ff.up _ _).up _ _, ?_⟩
    refine RdW.to ((h2.up _ _).up _ _) rfl ?_
    show _ = if _ then _ else _
    rw [if_pos (show goodE (per1 T n (56 + 33 * p) s w).2 = true from h39)]
    refine congrArg (fun z => va_up (va_up (cellE T n (56 + 33 * p) s w).2 (56 + 33 * p + 2) (per1 T n (56 + 33 * p) s w).1) 2 z) ?_
    rw [upA_at, if_neg (by omega), h2.2, cellE_at (by omega), hp1, nI_add]
  · rw [b2_0] at h39
    refine r_vret dX4_readPerson_42 rfl ⟨rfl, ff, RdW.to h2 rfl ?_⟩
    show _ = if _ then _ else _
    rw [if_neg (by rw [show goodE (per1 T n (56 + 33 * p) s w).2 = false from h39]; decide)]
def F_latest : Tau → Prop × Option Value × Tau := fun (o, ad, A, B) => (True, some (.int (nI 56 + nI 33 * (A 14 2 - nI 1))), (o, ad, A, B))
theorem bX4_latest_0 : Blk TP mX4_latest 0 14 [oC (nI 56), oC (nI 33), oAL 0, tR 14, oC (nI 2), tAI 14 320, oC (nI 1), oSub, oMul, oAdd] := blk_c (s_bipush dX4_latest_0 (by decide +kernel)) <| blk_c (s_bipush dX4_latest_2 (by decide +kernel)) <| blk_c (s_aload_n dX4_latest_4 rfl) <| blk_c (tgX4_14 rfl dX4_latest_5) <| blk_c (s_iconst dX4_latest_8 (by decide +kernel)) <| blk_c (t_iald rfl dX4_latest_9) <| blk_c (s_iconst dX4_latest_10 (by decide +kernel)) <| blk_c (s_isub dX4_latest_11) <| blk_c (s_imul dX4_latest_12) <| blk_c (s_iadd dX4_latest_13) <| blk_nil
theorem ok_latest : TC_V mX4_latest F_latest := by
  intro X ⟨o, ad, A, B⟩ P r y hF _
  cases hF
  refine T_start (L := [some (.ref o)]) 0 rfl ?_
  refine bX4_latest_0.go rfl (by exact ⟨rfl, ⟨rfl, vp_in_nI (by decide) (by decide)⟩, trivial⟩) ?_
  exact t_iret dX4_latest_14 rfl (by simp (disch := omega) only [nI_clamp]) rfl
def fclE (T : Nat → Int32) (n : Nat) (s : RdE) (w : Nat → Int32) : Int32 × RdE := numE T n (nI 0) (w 1 - nI 1) s
theorem bX4_freshClock_0 : Blk TP mX4_freshClock 0 10 [oAL 0, oC (nI 0), oAL 0, tR 14, oC (nI 1), tAI 14 320, oC (nI 1), oSub] := blk_c (s_aload_n dX4_freshClock_0 rfl) <| blk_c (s_iconst dX4_freshClock_1 (by decide +kernel)) <| blk_c (s_aload_n dX4_freshClock_2 rfl) <| blk_c (tgX4_14 rfl dX4_freshClock_3) <| blk_c (s_iconst dX4_freshClock_6 (by decide +kernel)) <| blk_c (t_iald rfl dX4_freshClock_7) <| blk_c (s_iconst dX4_freshClock_8 (by decide +kernel)) <| blk_c (s_isub dX4_freshClock_9) <| blk_nil
theorem ok_freshClock {X : Cx} (T : Nat → Int32) (n : Nat) (s : RdE) (w : Nat → Int32) : RG X mX4_freshClock [] (fun A _ => RdW A T n s w) (fun A B r A' B' => r = some (.int (fclE T n s w).1) ∧ FrR A B A' B' ∧ RdS A' T n (fclE T n s w).2) := by
  intro o ad A B hrd
  refine R_start (L := [some (.ref o)]) 0 rfl ?_
  refine bX4_freshClock_0.go rfl (by exact ⟨rfl, ⟨rfl, vp_in_nI (by decide) (by decide)⟩, trivial⟩) ?_
  simp (disch := omega) only [nI_clamp, hrd.2]
  refine rg (nA := 2) (ok_number T n s (nI 0) (w 1 - nI 1)) gX4_number dX4_freshClock_10 rfl hrd.1 (fun r A1 B1 q => ?_)
  obtain ⟨rfl, f1, g1⟩ := q
  exact r_iret dX4_freshClock_13 rfl ⟨rfl, f1, g1⟩
