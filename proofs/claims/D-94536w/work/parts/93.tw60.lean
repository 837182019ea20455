set_option maxRecDepth 100000
/-! ===== UnseenClockModel: readLine ===== -/
def frs1 (T : Nat → Int32) (n : Nat) (s : RdE) : Int32 × RdE := toldE T n 1 (nI 2) (nI 12) (needsE T n 0 s)
def frs2 (T : Nat → Int32) (n : Nat) (s : RdE) : Int32 × RdE := toldE T n 2 (nI 2) (nI 12) (frs1 T n s).2
def frs3 (T : Nat → Int32) (n : Nat) (s : RdE) : Int32 × RdE := toldE T n 3 (nI 5) (nI 40) (frs2 T n s).2
/-- the first line -/
def firstE (T : Nat → Int32) (n : Nat) (s : RdE) (w : Nat → Int32) : RdE × (Nat → Int32) := ((frs3 T n s).2, va_up (va_up (va_up w 4 (frs1 T n s).1) 5 (frs2 T n s).1) 6 (frs3 T n s).1)
def bodyE (T : Nat → Int32) (n : Nat) (s : RdE) (w : Nat → Int32) : RdE × (Nat → Int32) := if w 3 = 0 then firstE T n s w else nextE T n s w
/-- the line's end -/
def endE (T : Nat → Int32) (n : Nat) (s : RdE) : RdE := match s with
  | .inl e => .inl e
  | .inr ts => if ts.2.2.1 = nI 3 then .inr (advS T n ts.1) else .inl (nI 1, ts.2.1)
def lineE (T : Nat → Int32) (n : Nat) (s : RdE) (w : Nat → Int32) : RdE × (Nat → Int32) := (endE T n (bodyE T n s w).1, va_up (bodyE T n s w).2 3 ((bodyE T n s w).2 3 + nI 1))
theorem bX4_readLine_0 : Blk TP mX4_readLine 0 6 [oAL 0, tR 14, oC (nI 3), tAI 14 320] := blk_c (s_aload_n dX4_readLine_0 rfl) <| blk_c (tgX4_14 rfl dX4_readLine_1) <| blk_c (s_iconst dX4_readLine_4 (by decide +kernel)) <| blk_c (t_iald rfl dX4_readLine_5) <| blk_nil
theorem bX4_readLine_9 : Blk TP mX4_readLine 9 10 [oAL 0] := blk_c (s_aload_n dX4_readLine_9 rfl) <| blk_nil
theorem bX4_readLine_16 : Blk TP mX4_readLine 16 22 [oAL 0, tR 14, oC (nI 4), oAL 0] := blk_c (s_aload_n dX4_readLine_16 rfl) <| blk_c (tgX4_14 rfl dX4_readLine_17) <| blk_c (s_iconst dX4_readLine_20 (by decide +kernel)) <| blk_c (s_aload_n dX4_readLine_21 rfl) <| blk_nil
theorem bX4_readLine_25 : Blk TP mX4_readLine 25 28 [oC (nI 2), oC (nI 12)] := blk_c (s_iconst dX4_readLine_25 (by decide +kernel)) <| blk_c (s_bipush dX4_readLine_26 (by decide +kernel)) <| blk_nil
theorem bX4_readLine_31 : Blk TP mX4_readLine 31 38 [tSI 14 320, oAL 0, tR 14, oC (nI 5), oAL 0] := blk_c (t_iast rfl dX4_readLine_31) <| blk_c (s_aload_n dX4_readLine_32 rfl) <| blk_c (tgX4_14 rfl dX4_readLine_33) <| blk_c (s_iconst dX4_readLine_36 (by decide +kernel)) <| blk_c (s_aload_n dX4_readLine_37 rfl) <| blk_nil
theorem bX4_readLine_41 : Blk TP mX4_readLine 41 44 [oC (nI 2), oC (nI 12)] := blk_c (s_iconst dX4_readLine_41 (by decide +kernel)) <| blk_c (s_bipush dX4_readLine_42 (by decide +kernel)) <| blk_nil
theorem bX4_readLine_47 : Blk TP mX4_readLine 47 55 [tSI 14 320, oAL 0, tR 14, oC (nI 6), oAL 0] := blk_c (t_iast rfl dX4_readLine_47) <| blk_c (s_aload_n dX4_readLine_48 rfl) <| blk_c (tgX4_14 rfl dX4_readLine_49) <| blk_c (s_bipush dX4_readLine_52 (by decide +kernel)) <| blk_c (s_aload_n dX4_readLine_54 rfl) <| blk_nil
theorem bX4_readLine_58 : Blk TP mX4_readLine 58 61 [oC (nI 5), oC (nI 40)] := blk_c (s_iconst dX4_readLine_58 (by decide +kernel)) <| blk_c (s_bipush dX4_readLine_59 (by decide +kernel)) <| blk_nil
theorem bX4_readLine_64 : Blk TP mX4_readLine 64 72 [tSI 14 320, .inl (fun s => some s)] := blk_c (t_iast rfl dX4_readLine_64) <| blk_c (s_goto (tgt := 72) dX4_readLine_65 (by decide)) <| blk_nil
theorem bX4_readLine_68 : Blk TP mX4_readLine 68 69 [oAL 0] := blk_c (s_aload_n dX4_readLine_68 rfl) <| blk_nil
theorem bX4_readLine_72 : Blk TP mX4_readLine 72 76 [oAL 0, tC_V F_good] := blk_c (s_aload_n dX4_readLine_72 rfl) <| blk_c (tc_V ok_good gX4_good (by decide +kernel) (by decide) dX4_readLine_73) <| blk_nil
theorem bX4_readLine_79 : Blk TP mX4_readLine 79 84 [oAL 0, tI 10, oC (nI 3)] := blk_c (s_aload_n dX4_readLine_79 rfl) <| blk_c (tgX4_10 rfl dX4_readLine_80) <| blk_c (s_iconst dX4_readLine_83 (by decide +kernel)) <| blk_nil
theorem bX4_readLine_87 : Blk TP mX4_readLine 87 89 [oAL 0, oC (nI 1)] := blk_c (s_aload_n dX4_readLine_87 rfl) <| blk_c (s_iconst dX4_readLine_88 (by decide +kernel)) <| blk_nil
theorem bX4_readLine_92 : Blk TP mX4_readLine 92 96 [oAL 0, tC_V F_good] := blk_c (s_aload_n dX4_readLine_92 rfl) <| blk_c (tc_V ok_good gX4_good (by decide +kernel) (by decide) dX4_readLine_93) <| blk_nil
theorem bX4_readLine_99 : Blk TP mX4_readLine 99 100 [oAL 0] := blk_c (s_aload_n dX4_readLine_99 rfl) <| blk_nil
theorem bX4_readLine_103 : Blk TP mX4_readLine 103 113 [oAL 0, tR 14, oC (nI 3), oDup2IR, tAI 14 320, oC (nI 1), oAdd, tSI 14 320] := blk_c (s_aload_n dX4_readLine_103 rfl) <| blk_c (tgX4_14 rfl dX4_readLine_104) <| blk_c (s_iconst dX4_readLine_107 (by decide +kernel)) <| blk_c (s_dup2IR dX4_readLine_108) <| blk_c (t_iald rfl dX4_readLine_109) <| blk_c (s_iconst dX4_readLine_110 (by decide +kernel)) <| blk_c (s_iadd dX4_readLine_111) <| blk_c (t_iast rfl dX4_readLine_112) <| blk_nil
theorem ok_readLine {X : Cx} {aK aV : Nat → Nat} (hX : StrOK X aK aV) (T : Nat → Int32) (n : Nat) (s : RdE) (w : Nat → Int32) (hw : FrOk w) : RG X mX4_readLine [] (fun A _ => RdW A T n s w) (fun A B r A' B' => r = none ∧ FrW A B A' B' ∧ RdW A' T n (lineE T n s w).1 (lineE T n s w).2) := by
  intro o ad A B hrd
  have m103 : ∀ A1 B1, FrW A B A1 B1 → RdW A1 T n (endE T n (bodyE T n s w).1) (bodyE T n s w).2 → JS TP X mX4_readLine (rmOf mX4_readLine.lv 0 0) (ZR X o ad (fun r A' B' => r = none ∧ FrW A B A' B' ∧ RdW A' T n (lineE T n s w).1 (lineE T n s w).2)) 0 0 103 [some (.ref o)] [] (o, ad, A1, B1) := by
    intro A1 B1 f1 h1
    refine bX4_readLine_103.go rfl (by simp (disch := omega) only [vpI]; exact ⟨trivial, ⟨trivial, by omega⟩, ⟨trivial, by omega⟩, trivial⟩) ?_
    simp (disch := omega) only [nI_clamp, h1.2]
    exact r_vret dX4_readLine_113 rfl ⟨rfl, f1.up _ _, h1.up _ _⟩
  have m92 : ∀ A1 B1 e, FrW A B A1 B1 → RdW A1 T n (.inl e) (bodyE T n s w).2 → endE T n (bodyE T n s w).1 = .inl e → JS TP X mX4_readLine (rmOf mX4_readLine.lv 0 0) (ZR X o ad (fun r A' B' => r = none ∧ FrW A B A' B' ∧ RdW A' T n (lineE T n s w).1 (lineE T n s w).2)) 0 0 92 [some (.ref o)] [] (o, ad, A1, B1) := by
    intro A1 B1 e f1 h1 he
    refine bX4_readLine_92.go rfl (by exact ⟨⟨rfl, trivial⟩, trivial⟩) ?_
    rw [h1.1.good]
    refine j_if_eq (tgt := 103) dX4_readLine_96 (by decide) (fun h96 => ?_) (fun h96 => absurd (gE0 _) h96)
    exact m103 A1 B1 f1 (by rw [he]; exact h1)
  have m72 : ∀ A1 B1, FrW A B A1 B1 → RdW A1 T n (bodyE T n s w).1 (bodyE T n s w).2 → JS TP X mX4_readLine (rmOf mX4_readLine.lv 0 0) (ZR X o ad (fun r A' B' => r = none ∧ FrW A B A' B' ∧ RdW A' T n (lineE T n s w).1 (lineE T n s w).2)) 0 0 72 [some (.ref o)] [] (o, ad, A1, B1) := by
    intro A1 B1 f1 h1
    refine bX4_readLine_72.go rfl (by exact ⟨⟨rfl, trivial⟩, trivial⟩) ?_
    rw [h1.1.good]
    match hb : (bodyE T n s w).1, h1 with
    | .inl e, h1 =>
      refine j_if_eq (tgt := 92) dX4_readLine_76 (by decide) (fun h76 => ?_) (fun h76 => absurd (gE0 _) h76)
      exact m92 A1 B1 e f1 h1 (by rw [hb]; rfl)
    | .inr ts, h1 =>
      obtain ⟨r1, r2, r3, r4, r5, r6, r7⟩ := id h1.1
      refine j_if_eq (tgt := 92) dX4_readLine_76 (by decide) (fun h76 => absurd h76 (gE1 _)) (fun h76 => ?_)
      refine bX4_readLine_79.go rfl (by exact ⟨rfl, trivial⟩) ?_
      rw [r5.2.2.1]
      refine j_icmp_eq (tgt := 92) dX4_readLine_84 (by decide) (fun h84 => ?_) (fun h84 => ?_)
      · refine bX4_readLine_92.go rfl (by exact ⟨⟨rfl, trivial⟩, trivial⟩) ?_
        rw [h1.1.good]
        refine j_if_eq (tgt := 103) dX4_readLine_96 (by decide) (fun h96 => absurd h96 (gE1 _)) (fun h96 => ?_)
        refine bX4_readLine_99.go rfl trivial ?_
        refine rc_V ok_advance gX4_advance dX4_readLine_100 rfl h1.1.adv (fun r A2 B2 q => ?_)
        have hr := q.1
        subst hr
        obtain ⟨f2, g2⟩ := Q_advance.rd h1.1 q
        exact m103 A2 B2 (f1.trans f2.w) (by rw [hb, endE, if_pos h84]; exact h1.fr f2 g2)
      · refine bX4_readLine_87.go rfl trivial ?_
        refine rc_I ok_errs gX4_errs dX4_readLine_89 rfl trivial (fun r A2 B2 q => ?_)
        obtain ⟨rfl, hB, rfl⟩ := q
        have hB := hB.symm
        subst hB
        exact m92 _ _ (nI 1, ts.2.1) (f1.trans (erA_fr (B := B1)).w) (h1.fr (B := B1) (B' := B1) erA_fr (erA_rd (by decide +kernel) h1.1)) (by rw [hb, endE, if_neg h84])
  refine R_start (L := [some (.ref o)]) 0 rfl ?_
  refine bX4_readLine_0.go rfl (by exact ⟨rfl, ⟨rfl, vp_in_nI (by decide) (by decide)⟩, trivial⟩) ?_
  simp (disch := omega) only [nI_clamp, hrd.2]
  refine j_if_ne (tgt := 68) dX4_readLine_6 (by decide) (fun h6 => ?_) (fun h6 => ?_)
  · refine bX4_readLine_68.go rfl trivial ?_
    refine rg (nA := 0) (ok_readNext hX T n s w hw) gX4_readNext dX4_readLine_69 rfl hrd (fun r A1 B1 q => ?_)
    obtain ⟨rfl, f1, h1⟩ := q
    exact m72 A1 B1 f1 (by rw [bodyE, if_neg h6]; exact h1)
  · refine bX4_readLine_9.go rfl trivial ?_
    refine js_ldcSW (tx := "square") (i := 0) hX (by decide +kernel) dX4_readLine_10 ?_
    refine rg (nA := 1) (ok_needs hX (i := 0) (by decide) T n s) gX4_needs dX4_readLine_13 rfl hrd.1 (fun r A1 B1 q => ?_)
    obtain ⟨rfl, f1, g1⟩ := q
    have h1 := hrd.fr f1 g1
    refine bX4_readLine_16.go rfl (by exact ⟨rfl, trivial⟩) ?_
    refine js_ldcSW (tx := "wide") (i := 1) hX (by decide +kernel) dX4_readLine_22 ?_
    refine bX4_readLine_25.go rfl trivial ?_
    refine rg (nA := 3) (ok_told hX (i := 1) (by decide) T n _ (nI 2) (nI 12)) gX4_told dX4_readLine_28 rfl h1.1 (fun r A2 B2 q => ?_)
    obtain ⟨rfl, f2, g2⟩ := q
    have h2 := h1.fr f2 g2
    refine bX4_readLine_31.go rfl (by simp (disch := omega) only [vpI]; exact ⟨⟨trivial, by omega⟩, trivial, trivial⟩) ?_
    simp (disch := omega) only [nI_clamp]
    refine js_ldcSW (tx := "long") (i := 2) hX (by decide +kernel) dX4_readLine_38 ?_
    refine bX4_readLine_41.go rfl trivial ?_
    refine rg (nA := 3) (ok_told hX (i := 2) (by decide) T n _ (nI 2) (nI 12)) gX4_told dX4_readLine_44 rfl (h2.up _ _).1 (fun r A3 B3 q => ?_)
    obtain ⟨rfl, f3, g3⟩ := q
    have h3 := (h2.up 4 (toldE T n 1 (nI 2) (nI 12) (needsE T n 0 s)).1).fr f3 g3
    refine bX4_readLine_47.go rfl (by simp (disch := omega) only [vpI]; exact ⟨⟨trivial, by omega⟩, trivial, trivial⟩) ?_
    simp (disch := omega) only [nI_clamp]
    refine js_ldcSW (tx := "minutes") (i := 3) hX (by decide +kernel) dX4_readLine_55 ?_
    refine bX4_readLine_58.go rfl trivial ?_
    refine rg (nA := 3) (ok_told hX (i := 3) (by decide) T n _ (nI 5) (nI 40)) gX4_told dX4_readLine_61 rfl (h3.up _ _).1 (fun r A4 B4 q => ?_)
    obtain ⟨rfl, f4, g4⟩ := q
    have h4 := (h3.up 5 (toldE T n 2 (nI 2) (nI 12) (toldE T n 1 (nI 2) (nI 12) (needsE T n 0 s)).2).1).fr f4 g4
    refine bX4_readLine_64.go rfl (by simp (disch := omega) only [vpI]; exact ⟨⟨trivial, by omega⟩, trivial⟩) ?_
    simp (disch := omega) only [nI_clamp]
    refine m72 _ _ (((((f1.trans f2).w.up _ _).trans f3.w).up _ _).trans f4.w |>.up _ _) ?_
    rw [bodyE, if_pos h6]
    exact h4.up _ _
