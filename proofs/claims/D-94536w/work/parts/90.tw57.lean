set_option maxRecDepth 100000
/-! ===== UnseenClockModel: readMove, readLook ===== -/
theorem js_ldcSW {σ : Type} {Pic : Cx → σ → AH → Prop} {X : Cx} {M : MD} {R : Room} {Z : ZT} {k n pc idx : Nat} {L : List (Option Value)} {st : List Value} {x : σ} {aK aV : Nat → Nat} {i : Nat} {tx : String} (hX : StrOK X aK aV) (hm : (M.y.cls, idx, tx, i) ∈ strL) (hd : decode M.cc pc = .ok (.ldc_w idx, 3)) (kk : JS Pic X M R Z k n (pc + 3) L (.ref (aK i) :: st) x) : JS Pic X M R Z k n pc L st x := by
  intro h hp p e s m args below meth c B rk H locs ls hW hS hL T hT S
  obtain ⟨t, a1, b1⟩ := kk h hp p e s m args below meth c B rk H locs ls hW hS hL T hT S
  have hZ := (hX s B.2.2.2.2.2.2.2.1.2.1).2.2.2 _ hm
  exact ⟨t, S.ldcStringW B.1 B.2.2.2.2.2.1 (text := tx) (a := aK i) hZ.1 hZ.2 (g := F0 m pc ls st) rfl (by rw [B.2.1]; exact hd) t a1, b1⟩
def wayE (T : Nat → Int32) (s : RdE) : Int32 := if isE T 9 s = true then nI 0 else if isE T 10 s = true then nI 1 else if isE T 11 s = true then nI 2 else if isE T 12 s = true then nI 3 else -1
/-- which way: reading behind it -/
def goE (T : Nat → Int32) (n : Nat) (go : Bool) (s : RdE) : RdE := if go = true then advE T n (if wayE T s = -1 then errE (nI 1) s else s) else s
def mv1 (T : Nat → Int32) (n : Nat) (go : Bool) (s : RdE) : Int32 × RdE := numE T n (nI 1) (if go = true then nI 12 else nI 40) (goE T n go s)
/-- a move of person p is read as his m-th -/
def moveE (T : Nat → Int32) (n : Nat) (go : Bool) (p m : Nat) (s : RdE) (w : Nat → Int32) : RdE × (Nat → Int32) := ((mv1 T n go s).2, if goodE (mv1 T n go s).2 = true then va_up (va_up (va_up w (56 + 33 * p + 5 + 2 * m) (if go = true then wayE T s else nI 4)) (56 + 33 * p + 5 + 2 * m + 1) (mv1 T n go s).1) (56 + 33 * p + 3) (nI (m + 1)) else w)
theorem lat_eq {p : Nat} : nI 56 + nI 33 * (nI (p + 1) - nI 1) = nI (56 + 33 * p) := by
  rw [pk_sub (by omega), pk_mul, nI_add]; congr 1
theorem isE_no {T : Nat → Int32} {i : Nat} {e : Int32 × Nat} : isE T i (.inl e) = false := rfl
theorem bX4_readMove_0 : Blk TP mX4_readMove 0 8 [oAL 0, tC_V F_latest, oIS 2, oC (nI 4), oIS 3, oIL 1] := blk_c (s_aload_n dX4_readMove_0 rfl) <| blk_c (tc_V ok_latest gX4_latest (by decide +kernel) (by decide) dX4_readMove_1) <| blk_c (s_istore_n dX4_readMove_4 rfl (by decide)) <| blk_c (s_iconst dX4_readMove_5 (by decide +kernel)) <| blk_c (s_istore_n dX4_readMove_6 rfl (by decide)) <| blk_c (s_iload_n dX4_readMove_7 rfl) <| blk_nil
theorem bX4_readMove_11 : Blk TP mX4_readMove 11 12 [oAL 0] := blk_c (s_aload_n dX4_readMove_11 rfl) <| blk_nil
theorem bX4_readMove_20 : Blk TP mX4_readMove 20 64 [oC (nI 0), .inl (fun s => some s)] := blk_c (s_iconst dX4_readMove_20 (by decide +kernel)) <| blk_c (s_goto (tgt := 64) dX4_readMove_21 (by decide)) <| blk_nil
theorem bX4_readMove_24 : Blk TP mX4_readMove 24 25 [oAL 0] := blk_c (s_aload_n dX4_readMove_24 rfl) <| blk_nil
theorem bX4_readMove_33 : Blk TP mX4_readMove 33 64 [oC (nI 1), .inl (fun s => some s)] := blk_c (s_iconst dX4_readMove_33 (by decide +kernel)) <| blk_c (s_goto (tgt := 64) dX4_readMove_34 (by decide)) <| blk_nil
theorem bX4_readMove_37 : Blk TP mX4_readMove 37 38 [oAL 0] := blk_c (s_aload_n dX4_readMove_37 rfl) <| blk_nil
theorem bX4_readMove_46 : Blk TP mX4_readMove 46 64 [oC (nI 2), .inl (fun s => some s)] := blk_c (s_iconst dX4_readMove_46 (by decide +kernel)) <| blk_c (s_goto (tgt := 64) dX4_readMove_47 (by decide)) <| blk_nil
theorem bX4_readMove_50 : Blk TP mX4_readMove 50 51 [oAL 0] := blk_c (s_aload_n dX4_readMove_50 rfl) <| blk_nil
theorem bX4_readMove_59 : Blk TP mX4_readMove 59 64 [oC (nI 3), .inl (fun s => some s)] := blk_c (s_iconst dX4_readMove_59 (by decide +kernel)) <| blk_c (s_goto (tgt := 64) dX4_readMove_60 (by decide)) <| blk_nil
theorem bX4_readMove_63 : Blk TP mX4_readMove 63 64 [oC (-1)] := blk_c (s_iconst dX4_readMove_63 (by decide +kernel)) <| blk_nil
theorem bX4_readMove_64 : Blk TP mX4_readMove 64 67 [oIS 3, oIL 3, oC (-1)] := blk_c (s_istore_n dX4_readMove_64 rfl (by decide)) <| blk_c (s_iload_n dX4_readMove_65 rfl) <| blk_c (s_iconst dX4_readMove_66 (by decide +kernel)) <| blk_nil
theorem bX4_readMove_70 : Blk TP mX4_readMove 70 72 [oAL 0, oC (nI 1)] := blk_c (s_aload_n dX4_readMove_70 rfl) <| blk_c (s_iconst dX4_readMove_71 (by decide +kernel)) <| blk_nil
theorem bX4_readMove_75 : Blk TP mX4_readMove 75 79 [oAL 0, tC_V F_good] := blk_c (s_aload_n dX4_readMove_75 rfl) <| blk_c (tc_V ok_good gX4_good (by decide +kernel) (by decide) dX4_readMove_76) <| blk_nil
theorem bX4_readMove_82 : Blk TP mX4_readMove 82 83 [oAL 0] := blk_c (s_aload_n dX4_readMove_82 rfl) <| blk_nil
theorem bX4_readMove_86 : Blk TP mX4_readMove 86 89 [oAL 0, oC (nI 1), oIL 1] := blk_c (s_aload_n dX4_readMove_86 rfl) <| blk_c (s_iconst dX4_readMove_87 (by decide +kernel)) <| blk_c (s_iload_n dX4_readMove_88 rfl) <| blk_nil
theorem bX4_readMove_92 : Blk TP mX4_readMove 92 99 [oC (nI 12), .inl (fun s => some s)] := blk_c (s_bipush dX4_readMove_92 (by decide +kernel)) <| blk_c (s_goto (tgt := 99) dX4_readMove_94 (by decide)) <| blk_nil
theorem bX4_readMove_97 : Blk TP mX4_readMove 97 99 [oC (nI 40)] := blk_c (s_bipush dX4_readMove_97 (by decide +kernel)) <| blk_nil
theorem bX4_readMove_102 : Blk TP mX4_readMove 102 108 [oIS 4, oAL 0, tC_V F_good] := blk_c (s_istore dX4_readMove_102 (by decide)) <| blk_c (s_aload_n dX4_readMove_104 rfl) <| blk_c (tc_V ok_good gX4_good (by decide +kernel) (by decide) dX4_readMove_105) <| blk_nil
theorem bX4_readMove_112 : Blk TP mX4_readMove 112 167 [oAL 0, tR 14, oIL 2, oC (nI 5), oAdd, oC (nI 2), oAL 0, tR 14, oIL 2, oC (nI 3), oAdd, tAI 14 320, oMul, oAdd, oIL 3, tSI 14 320, oAL 0, tR 14, oIL 2, oC (nI 5), oAdd, oC (nI 2), oAL 0, tR 14, oIL 2, oC (nI 3), oAdd, tAI 14 320, oMul, oAdd, oC (nI 1), oAdd, oIL 4, tSI 14 320, oAL 0, tR 14, oIL 2, oC (nI 3), oAdd, oDup2IR, tAI 14 320, oC (nI 1), oAdd, tSI 14 320] := blk_c (s_aload_n dX4_readMove_112 rfl) <| blk_c (tgX4_14 rfl dX4_readMove_113) <| blk_c (s_iload_n dX4_readMove_116 rfl) <| blk_c (s_iconst dX4_readMove_117 (by decide +kernel)) <| blk_c (s_iadd dX4_readMove_118) <| blk_c (s_iconst dX4_readMove_119 (by decide +kernel)) <| blk_c (s_aload_n dX4_readMove_120 rfl) <| blk_c (tgX4_14 rfl dX4_readMove_121) <| blk_c (s_iload_n dX4_readMove_124 rfl) <| blk_c (s_iconst dX4_readMove_125 (by decide +kernel)) <| blk_c (s_iadd dX4_readMove_126) <| blk_c (t_iald rfl dX4_readMove_127) <| blk_c (s_imul dX4_readMove_128) <| blk_c (s_iadd dX4_readMove_129) <| blk_c (s_iload_n dX4_readMove_130 rfl) <| blk_c (t_iast rfl dX4_readMove_131) <| blk_c (s_aload_n dX4_readMove_132 rfl) <| blk_c (tgX4_14 rfl dX4_readMove_133) <| blk_c (s_iload_n dX4_readMove_136 rfl) <| blk_c (s_iconst dX4_readMove_137 (by decide +kernel)) <| blk_c (s_iadd dX4_readMove_138) <| blk_c (s_iconst dX4_readMove_139 (by decide +kernel)) <| blk_c (s_aload_n dX4_readMove_140 rfl) <| blk_c (tgX4_14 rfl dX4_readMove_141) <| blk_c (s_iload_n dX4_readMove_144 rfl) <| blk_c (s_iconst dX4_readMove_145 (by decide +kernel)) <| blk_c (s_iadd dX4_readMove_146) <| blk_c (t_iald rfl dX4_readMove_147) <| blk_c (s_imul dX4_readMove_148) <| blk_c (s_iadd dX4_readMove_149) <| blk_c (s_iconst dX4_readMove_150 (by decide +kernel)) <| blk_c (s_iadd dX4_readMove_151) <| blk_c (s_iload dX4_readMove_152) <| blk_c (t_iast rfl dX4_readMove_154) <| blk_c (s_aload_n dX4_readMove_155 rfl) <| blk_c (tgX4_14 rfl dX4_readMove_156) <| blk_c (s_iload_n dX4_readMove_159 rfl) <| blk_c (s_iconst dX4_readMove_160 (by decide +kernel)) <| blk_c (s_iadd dX4_readMove_161) <| blk_c (s_dup2IR dX4_readMove_162) <| blk_c (t_iald rfl dX4_readMove_163) <| blk_c (s_iconst dX4_readMove_164 (by decide +kernel)) <| blk_c (s_iadd dX4_readMove_165) <| blk_c (t_iast rfl dX4_readMove_166) <| blk_nil
theorem ok_readMove {X : Cx} {aK aV : Nat → Nat} (hX : StrOK X aK aV) (T : Nat → Int32) (n : Nat) (s : RdE) (w : Nat → Int32) (go : Bool) {p m : Nat} (hp : p < 8) (hp1 : w 2 = nI (p + 1)) (hm : m < 6) (hm1 : w (56 + 33 * p + 3) = nI m) : RG X mX4_readMove [.int (b2 go)] (fun A _ => RdW A T n s w) (fun A B r A' B' => r = none ∧ FrW A B A' B' ∧ RdW A' T n (moveE T n go p m s w).1 (moveE T n go p m s w).2) := by
  intro o ad A B hrd
  -- the end: how many minutes, the row
  have m99 : ∀ A1 B1, FrR A B A1 B1 → RdW A1 T n (goE T n go s) w → JS TP X mX4_readMove (rmOf mX4_readMove.lv 0 0) (ZR X o ad (fun r A' B' => r = none ∧ FrW A B A' B' ∧ RdW A' T n (moveE T n go p m s w).1 (moveE T n go p m s w).2)) 0 0 99 [some (.ref o), some (.int (b2 go)), some (.int (nI (56 + 33 * p))), some (.int (if go = true then wayE T s else nI 4)), none] [.int (if go = true then nI 12 else nI 40), .int (nI 1), .ref o] (o, ad, A1, B1) := by
    intro A1 B1 f1 h1
    refine rg (nA := 2) (ok_number T n _ (nI 1) _) gX4_number dX4_readMove_99 rfl h1.1 (fun r A2 B2 q => ?_)
    obtain ⟨rfl, f2, g2⟩ := q
    have h2 := h1.fr f2 g2
    have ff : FrW A B A2 B2 := (f1.trans f2).w
    have g2 : RdS A2 T n (mv1 T n go s).2 := g2
    refine bX4_readMove_102.go rfl (by exact ⟨⟨rfl, trivial⟩, trivial⟩) ?_
    rw [g2.good]
    refine j_if_ne (tgt := 112) dX4_readMove_108 (by decide) (fun h108 => ?_) (fun h108 => ?_)
    · rw [b2_n0] at h108
      have e3 : A2 14 (56 + 33 * p + 3) = nI m := by rw [h2.2]; exact hm1
      have e3' : ∀ i v, i ≠ 56 + 33 * p + 3 → upA A2 14 i v 14 (56 + 33 * p + 3) = nI m := fun i v hi => by rw [upA_at, if_neg (fun q => hi q.symm)]; exact e3
      have e3'' : ∀ i v i' v', i ≠ 56 + 33 * p + 3 → i' ≠ 56 + 33 * p + 3 → upA (upA A2 14 i v) 14 i' v' 14 (56 + 33 * p + 3) = nI m := fun i v i' v' hi hi' => by rw [upA_at, if_neg (fun q => hi' q.symm)]; exact e3' i v hi
      refine bX4_readMove_112.go rfl (by simp (disch := omega) only [nI_add, pk_mul, nI_clamp, vpI, e3, e3', e3'']; exact ⟨trivial, trivial, ⟨trivial, by omega⟩, ⟨trivial, by omega⟩, trivial, trivial, ⟨trivial, by omega⟩, ⟨trivial, by omega⟩, trivial, ⟨trivial, by omega⟩, ⟨trivial, by omega⟩, trivial⟩) ?_
      simp (disch := omega) only [nI_add, pk_mul, nI_clamp, e3, e3', e3'']
      refine r_vret dX4_readMove_167 rfl ⟨rfl, ((ff.up _ _).up _ _).up _ _, RdW.to (((h2.up _ _).up _ _).up _ _) rfl ?_⟩
      show _ = if _ then _ else _
      rw [if_pos h108]
      rfl
    · rw [b2_0] at h108
      refine r_vret dX4_readMove_111 rfl ⟨rfl, ff, RdW.to h2 rfl ?_⟩
      show _ = if _ then _ else _
      rw [if_neg (by rw [h108]; decide)]
  refine R_start (L := [some (.ref o), some (.int (b2 go)), none, none, none]) 3 rfl ?_
  refine bX4_readMove_0.go rfl (by exact ⟨⟨rfl, trivial⟩, trivial⟩) ?_
  simp only [hrd.2, hp1, lat_eq]
  refine j_if_eq (tgt := 86) dX4_readMove_8 (by decide) (fun h8 => ?_) (fun h8 => ?_)
  · rw [b2_0] at h8
    subst h8
    refine bX4_readMove_86.go rfl trivial ?_
    refine j_if_eq (tgt := 97) dX4_readMove_89 (by decide) (fun h89 => ?_) (fun h89 => absurd (by decide +kernel) h89)
    refine bX4_readMove_97.go rfl trivial ?_
    exact m99 A B FrR.rf hrd
  · rw [b2_n0] at h8
    subst h8
    -- behind the way
    have m64 : ∀ z, z = wayE T s → JS TP X mX4_readMove (rmOf mX4_readMove.lv 0 0) (ZR X o ad (fun r A' B' => r = none ∧ FrW A B A' B' ∧ RdW A' T n (moveE T n true p m s w).1 (moveE T n true p m s w).2)) 0 0 64 [some (.ref o), some (.int (b2 true)), some (.int (nI (56 + 33 * p))), some (.int (nI 4)), none] [.int z] (o, ad, A, B) := by
      intro z hz
      subst hz
      have m75 : ∀ A1 B1 s1, FrR A B A1 B1 → RdW A1 T n s1 w → goE T n true s = advE T n s1 → JS TP X mX4_readMove (rmOf mX4_readMove.lv 0 0) (ZR X o ad (fun r A' B' => r = none ∧ FrW A B A' B' ∧ RdW A' T n (moveE T n true p m s w).1 (moveE T n true p m s w).2)) 0 0 75 [some (.ref o), some (.int (b2 true)), some (.int (nI (56 + 33 * p))), some (.int (wayE T s)), none] [] (o, ad, A1, B1) := by
        intro A1 B1 s1 f1 h1 hs1
        have m86 : ∀ A2 B2, FrR A B A2 B2 → RdW A2 T n (goE T n true s) w → JS TP X mX4_readMove (rmOf mX4_readMove.lv 0 0) (ZR X o ad (fun r A' B' => r = none ∧ FrW A B A' B' ∧ RdW A' T n (moveE T n true p m s w).1 (moveE T n true p m s w).2)) 0 0 86 [some (.ref o), some (.int (b2 true)), some (.int (nI (56 + 33 * p))), some (.int (wayE T s)), none] [] (o, ad, A2, B2) := by
          intro A2 B2 f2 h2
          refine bX4_readMove_86.go rfl trivial ?_
          refine j_if_eq (tgt := 97) dX4_readMove_89 (by decide) (fun h89 => absurd h89 (by decide +kernel)) (fun h89 => ?_)
          refine bX4_readMove_92.go rfl trivial ?_
          exact m99 A2 B2 f2 h2
        refine bX4_readMove_75.go rfl (by exact ⟨⟨rfl, trivial⟩, trivial⟩) ?_
        rw [h1.1.good]
        match s1, h1, hs1 with
        | .inl e, h1, hs1 =>
          refine j_if_eq (tgt := 86) dX4_readMove_79 (by decide) (fun h79 => ?_) (fun h79 => absurd (gE0 _) h79)
          exact m86 A1 B1 f1 (by rw [hs1]; exact h1)
        | .inr ts, h1, hs1 =>
          refine j_if_eq (tgt := 86) dX4_readMove_79 (by decide) (fun h79 => absurd h79 (gE1 _)) (fun h79 => ?_)
          refine bX4_readMove_82.go rfl trivial ?_
          refine rc_V ok_advance gX4_advance dX4_readMove_83 rfl h1.1.adv (fun r A2 B2 q => ?_)
          have hr := q.1
          subst hr
          obtain ⟨f2, g2⟩ := Q_advance.rd h1.1 q
          exact m86 A2 B2 (f1.trans f2) (by rw [hs1]; exact h1.fr f2 g2)
      refine bX4_readMove_64.go rfl trivial ?_
      refine j_icmp_ne (tgt := 75) dX4_readMove_67 (by decide) (fun h67 => ?_) (fun h67 => ?_)
      · exact m75 A B s FrR.rf hrd (by rw [goE, if_pos rfl, if_neg h67])
      · refine bX4_readMove_70.go rfl trivial ?_
        refine rc_I ok_errs gX4_errs dX4_readMove_72 rfl trivial (fun r A1 B1 q => ?_)
        obtain ⟨rfl, hB, rfl⟩ := q
        have hB := hB.symm
        subst hB
        exact m75 _ B _ erA_fr (hrd.fr (B := B) (B' := B) erA_fr (erA_rd (k := nI 1) (by decide +kernel) hrd.1)) (by rw [goE, if_pos rfl, if_pos h67])
    refine bX4_readMove_11.go rfl trivial ?_
    refine js_ldcS (tx := "north") (i := 9) hX (by decide +kernel) dX4_readMove_12 ?_
    refine rg (nA := 1) (ok_is hX (i := 9) (by decide) T n s) gX4_is dX4_readMove_14 rfl hrd.1 (fun r A1 B1 q => ?_)
    obtain ⟨rfl, hA, hB⟩ := q
    have hA := hA.symm; have hB := hB.symm; subst hA; subst hB
    refine j_if_eq (tgt := 24) dX4_readMove_17 (by decide) (fun h17 => ?_) (fun h17 => ?_)
    · rw [b2_0] at h17
      refine bX4_readMove_24.go rfl trivial ?_
      refine js_ldcS (tx := "east") (i := 10) hX (by decide +kernel) dX4_readMove_25 ?_
      refine rg (nA := 1) (ok_is hX (i := 10) (by decide) T n s) gX4_is dX4_readMove_27 rfl hrd.1 (fun r A1 B1 q => ?_)
      obtain ⟨rfl, hA, hB⟩ := q
      have hA := hA.symm; have hB := hB.symm; subst hA; subst hB
      refine j_if_eq (tgt := 37) dX4_readMove_30 (by decide) (fun h30 => ?_) (fun h30 => ?_)
      · rw [b2_0] at h30
        refine bX4_readMove_37.go rfl trivial ?_
        refine js_ldcS (tx := "south") (i := 11) hX (by decide +kernel) dX4_readMove_38 ?_
        refine rg (nA := 1) (ok_is hX (i := 11) (by decide) T n s) gX4_is dX4_readMove_40 rfl hrd.1 (fun r A1 B1 q => ?_)
        obtain ⟨rfl, hA, hB⟩ := q
        have hA := hA.symm; have hB := hB.symm; subst hA; subst hB
        refine j_if_eq (tgt := 50) dX4_readMove_43 (by decide) (fun h43 => ?_) (fun h43 => ?_)
        · rw [b2_0] at h43
          refine bX4_readMove_50.go rfl trivial ?_
          refine js_ldcS (tx := "west") (i := 12) hX (by decide +kernel) dX4_readMove_51 ?_
          refine rg (nA := 1) (ok_is hX (i := 12) (by decide) T n s) gX4_is dX4_readMove_53 rfl hrd.1 (fun r A1 B1 q => ?_)
          obtain ⟨rfl, hA, hB⟩ := q
          have hA := hA.symm; have hB := hB.symm; subst hA; subst hB
          refine j_if_eq (tgt := 63) dX4_readMove_56 (by decide) (fun h56 => ?_) (fun h56 => ?_)
          · rw [b2_0] at h56
            refine bX4_readMove_63.go rfl trivial ?_
            exact m64 _ (by rw [wayE, h17, h30, h43, h56]; rfl)
          · rw [b2_n0] at h56
            refine bX4_readMove_59.go rfl trivial ?_
            exact m64 _ (by rw [wayE, h17, h30, h43, h56]; rfl)
        · rw [b2_n0] at h43
          refine bX4_readMove_46.go rfl trivial ?_
          exact m64 _ (by rw [wayE, h17, h30, h43]; rfl)
      · rw [b2_n0] at h30
        refine bX4_readMove_33.go rfl trivial ?_
        exact m64 _ (by rw [wayE, h17, h30]; rfl)
    · rw [b2_n0] at h17
      refine bX4_readMove_20.go rfl trivial ?_
      exact m64 _ (by rw [wayE, h17]; rfl)
