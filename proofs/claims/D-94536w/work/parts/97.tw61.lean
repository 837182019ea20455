set_option maxRecDepth 100000
/-! ===== UnseenClockModel: square ===== -/
/-- lines up to the end, or a fault -/
def loopE (T : Nat → Int32) (n : Nat) : Nat → RdE → (Nat → Int32) → RdE × (Nat → Int32)
  | 0, s, w => (s, w)
  | f + 1, s, w => match s with
    | .inl e => (.inl e, w)
    | .inr ts => if ts.2.2.1 = nI 0 then (.inr ts, w) else loopE T n f (lineE T n (.inr ts) w).1 (lineE T n (.inr ts) w).2
/-- a text of n bytes is read into a row w0 of zeros -/
def sqE (T : Nat → Int32) (n : Nat) (w0 : Nat → Int32) : RdE × (Nat → Int32) := loopE T n (n + 1) (.inr (advS T n 0)) w0
def Zero (w0 : Nat → Int32) : Prop := ∀ j, j < 320 → w0 j = nI 0
theorem loopE_inl {T : Nat → Int32} {n d : Nat} {e : Int32 × Nat} {w : Nat → Int32} : loopE T n d (.inl e) w = (.inl e, w) := by cases d <;> rfl
theorem row_zero {w0 : Nat → Int32} (h : Zero w0) : RowOk w0 0 := by
  refine ⟨fun _ => 0, h, ?_, rfl, fun _ _ _ => ⟨rfl, rfl⟩, Nat.le_refl _⟩
  unfold VOk
  exact ⟨by decide, by decide, by decide, by decide, by decide, by decide, by decide, by decide, fun k hk => absurd hk (Nat.not_lt_zero _), fun c hc => absurd hc (Nat.not_lt_zero _), fun p hp => absurd hp (Nat.not_lt_zero _), Iff.rfl, fun _ => ⟨rfl, rfl, rfl⟩⟩
/-- what holds all through the loop -/
def LpI (T : Nat → Int32) (n d : Nat) (s : RdE) (w : Nat → Int32) : Prop := ∀ ts, s = .inr ts → TsW T n ts ∧ RowOk w ts.2.1 ∧ n + 1 ≤ ts.2.1 + d
theorem LpI.next {T : Nat → Int32} {n d : Nat} {ts : TS} {w : Nat → Int32} (hn : n ≤ 2400) (h : LpI T n (d + 1) (.inr ts) w) : LpI T n d (lineE T n (.inr ts) w).1 (lineE T n (.inr ts) w).2 := by
  intro ts' e
  obtain ⟨h1, h2, h3⟩ := h ts rfl
  obtain ⟨g1, g2, tm, g3⟩ := line_good h1 e
  have hle := h1.le
  exact ⟨g1, (row_line h2 g3 (by omega)).mono (by omega), by omega⟩
theorem LpI.start (T : Nat → Int32) (n : Nat) {w0 : Nat → Int32} (hz : Zero w0) : LpI T n (n + 1) (.inr (advS T n 0)) w0 := by
  intro ts e
  obtain rfl : advS T n 0 = ts := by cases e; rfl
  exact ⟨⟨0, Nat.zero_le _, rfl⟩, (row_zero hz).mono (Nat.zero_le _), by omega⟩
theorem loop_row {T : Nat → Int32} {n : Nat} (hn : n ≤ 2400) : ∀ d s w, LpI T n d s w → ∀ ts, (loopE T n d s w).1 = .inr ts → RowOk (loopE T n d s w).2 ts.2.1 ∧ ts.2.1 ≤ n := by
  intro d
  induction d with
  | zero =>
    intro s w h ts e
    obtain ⟨h1, h2, h3⟩ := h ts e
    exact ⟨h2, by have := h1.le; omega⟩
  | succ d ih =>
    intro s w h ts e
    match s, h, e with
    | .inr t0, h, e =>
      rw [loopE] at e ⊢
      split at e
      · rename_i h0
        rw [if_pos h0]
        obtain rfl : t0 = ts := by cases e; rfl
        obtain ⟨h1, h2, h3⟩ := h t0 rfl
        exact ⟨h2, by have := h1.le; omega⟩
      · rename_i h0
        rw [if_neg h0]
        exact ih _ _ (h.next hn) ts e
/-- a square that is read is a world -/
theorem sqE_ok {T : Nat → Int32} {n : Nat} {w0 : Nat → Int32} (hz : Zero w0) (hn : n ≤ 2400) {ts : TS} (h : (sqE T n w0).1 = .inr ts) : RowOk (sqE T n w0).2 2400 := by
  obtain ⟨a, b⟩ := loop_row hn _ _ _ (LpI.start T n hz) ts h
  exact a.mono (by omega)
def Q_square (T : Nat → Int32) (n : Nat) (A : Nat → Nat → Int32) (B : Nat → Nat → Int64) : QR := fun r A' B' => B' = B ∧ (∀ f, f ≠ 0 → f ≠ 1 → f ≠ 14 → A' f = A f) ∧ A' 0 5 = nI 0 ∧ ∃ w0, Zero w0 ∧ match (sqE T n w0).1 with
  | .inl (k, p) => r = some (.int (-4)) ∧ A' 0 12 = k ∧ A' 0 13 = nI p ∧ A' 1 = A 1
  | .inr _ => r = some (.int ((sqE T n w0).2 3)) ∧ A' 0 12 = 0 ∧ A' 0 13 = -1 ∧ ∀ k, k < 320 → A' 1 k = (sqE T n w0).2 k
theorem bX4_square_0 : Blk TP mX4_square 0 30 [oAL 0, oAL 0, tI 5, tPI 7, oAL 0, oC (nI 0), tPI 5, oAL 0, oC (nI 0), tPI 8, oAL 0, oC (nI 0), tPI 12, oAL 0, oC (-1), tPI 13, oC (nI 0), oIS 1] := blk_c (s_aload_n dX4_square_0 rfl) <| blk_c (s_aload_n dX4_square_1 rfl) <| blk_c (tgX4_5 rfl dX4_square_2) <| blk_c (tpX4_7 rfl dX4_square_5) <| blk_c (s_aload_n dX4_square_8 rfl) <| blk_c (s_iconst dX4_square_9 (by decide +kernel)) <| blk_c (tpX4_5 rfl dX4_square_10) <| blk_c (s_aload_n dX4_square_13 rfl) <| blk_c (s_iconst dX4_square_14 (by decide +kernel)) <| blk_c (tpX4_8 rfl dX4_square_15) <| blk_c (s_aload_n dX4_square_18 rfl) <| blk_c (s_iconst dX4_square_19 (by decide +kernel)) <| blk_c (tpX4_12 rfl dX4_square_20) <| blk_c (s_aload_n dX4_square_23 rfl) <| blk_c (s_iconst dX4_square_24 (by decide +kernel)) <| blk_c (tpX4_13 rfl dX4_square_25) <| blk_c (s_iconst dX4_square_28 (by decide +kernel)) <| blk_c (s_istore_n dX4_square_29 rfl (by decide)) <| blk_nil
theorem bX4_square_30 : Blk TP mX4_square 30 34 [oIL 1, oC (nI 320)] := blk_c (s_iload_n dX4_square_30 rfl) <| blk_c (s_sipush dX4_square_31 (by decide +kernel)) <| blk_nil
theorem bX4_square_37 : Blk TP mX4_square 37 30 [oAL 0, tR 14, oIL 1, oC (nI 0), tSI 14 320, oInc 1 1, .inl (fun s => some s)] := blk_c (s_aload_n dX4_square_37 rfl) <| blk_c (tgX4_14 rfl dX4_square_38) <| blk_c (s_iload_n dX4_square_41 rfl) <| blk_c (s_iconst dX4_square_42 (by decide +kernel)) <| blk_c (t_iast rfl dX4_square_43) <| blk_c (s_iinc dX4_square_44 (by decide +kernel) (by decide)) <| blk_c (s_goto (tgt := 30) dX4_square_47 (by decide)) <| blk_nil
theorem bX4_square_50 : Blk TP mX4_square 50 51 [oAL 0] := blk_c (s_aload_n dX4_square_50 rfl) <| blk_nil
theorem bX4_square_54 : Blk TP mX4_square 54 58 [oAL 0, tC_V F_good] := blk_c (s_aload_n dX4_square_54 rfl) <| blk_c (tc_V ok_good gX4_good (by decide +kernel) (by decide) dX4_square_55) <| blk_nil
theorem bX4_square_61 : Blk TP mX4_square 61 65 [oAL 0, tI 10] := blk_c (s_aload_n dX4_square_61 rfl) <| blk_c (tgX4_10 rfl dX4_square_62) <| blk_nil
theorem bX4_square_68 : Blk TP mX4_square 68 69 [oAL 0] := blk_c (s_aload_n dX4_square_68 rfl) <| blk_nil
theorem bX4_square_72 : Blk TP mX4_square 72 54 [.inl (fun s => some s)] := blk_c (s_goto (tgt := 54) dX4_square_72 (by decide)) <| blk_nil
theorem bX4_square_75 : Blk TP mX4_square 75 79 [oAL 0, tC_V F_good] := blk_c (s_aload_n dX4_square_75 rfl) <| blk_c (tc_V ok_good gX4_good (by decide +kernel) (by decide) dX4_square_76) <| blk_nil
theorem bX4_square_82 : Blk TP mX4_square 82 84 [oC (-4)] := blk_c (s_bipush dX4_square_82 (by decide +kernel)) <| blk_nil
theorem bX4_square_85 : Blk TP mX4_square 85 87 [oC (nI 0), oIS 1] := blk_c (s_iconst dX4_square_85 (by decide +kernel)) <| blk_c (s_istore_n dX4_square_86 rfl (by decide)) <| blk_nil
theorem bX4_square_87 : Blk TP mX4_square 87 91 [oIL 1, oC (nI 320)] := blk_c (s_iload_n dX4_square_87 rfl) <| blk_c (s_sipush dX4_square_88 (by decide +kernel)) <| blk_nil
theorem bX4_square_94 : Blk TP mX4_square 94 87 [oAL 0, tR 1, oIL 1, oAL 0, tR 14, oIL 1, tAI 14 320, tSI 1 320, oInc 1 1, .inl (fun s => some s)] := blk_c (s_aload_n dX4_square_94 rfl) <| blk_c (tgX4_1 rfl dX4_square_95) <| blk_c (s_iload_n dX4_square_98 rfl) <| blk_c (s_aload_n dX4_square_99 rfl) <| blk_c (tgX4_14 rfl dX4_square_100) <| blk_c (s_iload_n dX4_square_103 rfl) <| blk_c (t_iald rfl dX4_square_104) <| blk_c (t_iast rfl dX4_square_105) <| blk_c (s_iinc dX4_square_106 (by decide +kernel) (by decide)) <| blk_c (s_goto (tgt := 87) dX4_square_109 (by decide)) <| blk_nil
theorem bX4_square_112 : Blk TP mX4_square 112 118 [oAL 0, tR 1, oC (nI 3), tAI 1 320] := blk_c (s_aload_n dX4_square_112 rfl) <| blk_c (tgX4_1 rfl dX4_square_113) <| blk_c (s_iconst dX4_square_116 (by decide +kernel)) <| blk_c (t_iald rfl dX4_square_117) <| blk_nil
theorem ok_square {X : Cx} {aK aV : Nat → Nat} (hX : StrOK X aK aV) (T : Nat → Int32) (n : Nat) (hn : n ≤ 2400) : RG X mX4_square [] (fun A _ => A 4 = T ∧ A 0 5 = nI n) (Q_square T n) := by
  intro o ad A B ⟨hT, h5⟩
  have m75 : ∀ w0, Zero w0 → ∀ A1 s w l1, RdW A1 T n s w → (∀ f, f ≠ 0 → f ≠ 14 → A1 f = A f) → A1 0 5 = nI 0 → sqE T n w0 = (s, w) → JS TP X mX4_square (rmOf mX4_square.lv 0 0) (ZR X o ad (Q_square T n A B)) 0 0 75 [some (.ref o), l1] [] (o, ad, A1, B) := by
    intro w0 hz0 A1 s w l1 h1 k1 k5 hs
    refine bX4_square_75.go rfl (by exact ⟨⟨rfl, trivial⟩, trivial⟩) ?_
    rw [h1.1.good]
    match s, h1, hs with
    | .inl (kd, pl), h1, hs =>
      refine j_if_ne (tgt := 85) dX4_square_79 (by decide) (fun h79 => absurd (gE0 _) h79) (fun h79 => ?_)
      refine bX4_square_82.go rfl trivial ?_
      obtain ⟨r1, r2, r3, r4⟩ := id h1.1
      refine r_iret dX4_square_84 rfl ⟨rfl, fun f a b c => k1 f a c, k5, w0, hz0, ?_⟩
      rw [hs]
      exact ⟨rfl, r4.1, r4.2.1, k1 1 (by decide) (by decide)⟩
    | .inr ts, h1, hs =>
      refine j_if_ne (tgt := 85) dX4_square_79 (by decide) (fun h79 => ?_) (fun h79 => absurd h79 (gE1 _))
      obtain ⟨r1, r2, r3, r4, r5⟩ := id h1.1
      refine bX4_square_85.go rfl trivial ?_
      refine loop_down (N := 320) (I := fun _ => True) (P := fun k => ∀ A2, (∀ f, f ≠ 1 → A2 f = A1 f) → (∀ j, j < k → A2 1 j = w j) → JS TP X mX4_square (rmOf mX4_square.lv 0 0) (ZR X o ad (Q_square T n A B)) 0 0 87 [some (.ref o), some (.int (nI k))] [] (o, ad, A2, B)) ?_ ?_ 0 (Nat.zero_le _) trivial A1 (fun _ _ => rfl) (fun j h => by omega)
      · intro _ A2 a1 a2
        refine bX4_square_87.go rfl trivial ?_
        refine j_icmp_ge (tgt := 112) dX4_square_91 (by decide) (fun h91 => ?_) (fun h91 => absurd (by decide) h91)
        refine bX4_square_112.go rfl (by exact ⟨rfl, ⟨rfl, vp_in_nI (by decide) (by decide)⟩, trivial⟩) ?_
        simp (disch := omega) only [nI_clamp]
        refine r_iret dX4_square_118 rfl ⟨rfl, fun f a b c => by rw [a1 f b]; exact k1 f a c, by rw [a1 0 (by decide)]; exact k5, w0, hz0, ?_⟩
        rw [hs]
        exact ⟨ans (a2 3 (by omega)), by rw [a1 0 (by decide)]; exact r4.1, by rw [a1 0 (by decide)]; exact r4.2, fun k hk => a2 k hk⟩
      · intro k hk _ ih A2 a1 a2
        refine bX4_square_87.go rfl trivial ?_
        refine j_icmp_ge (tgt := 112) dX4_square_91 (by decide) (fun h91 => ?_) (fun h91 => ?_)
        · simp (disch := omega) only [nI_leI] at h91; omega
        · refine bX4_square_94.go rfl (by simp (disch := omega) only [vpI]; exact ⟨trivial, trivial, ⟨trivial, by omega⟩, ⟨trivial, by omega⟩, trivial⟩) ?_
          simp (disch := omega) only [nI_clamp, nI_1]
          refine ih trivial _ (fun f hf => by rw [upA_ne hf]; exact a1 f hf) (fun j hj => ?_)
          rw [upA_at]
          by_cases e : j = k
          · rw [if_pos e, e, a1 14 (by decide), h1.2]
          · rw [if_neg e]; exact a2 j (by omega)
  have lp : ∀ w0, Zero w0 → ∀ d s w A1 l1, RdW A1 T n s w → (∀ f, f ≠ 0 → f ≠ 14 → A1 f = A f) → A1 0 5 = nI 0 → LpI T n d s w → loopE T n d s w = sqE T n w0 → JS TP X mX4_square (rmOf mX4_square.lv 0 0) (ZR X o ad (Q_square T n A B)) 0 0 54 [some (.ref o), l1] [] (o, ad, A1, B) := by
    intro w0 hz0 d
    induction d with
    | zero =>
      intro s w A1 l1 h1 k1 k5 hI hs
      refine bX4_square_54.go rfl (by exact ⟨⟨rfl, trivial⟩, trivial⟩) ?_
      rw [h1.1.good]
      match s, h1, hI, hs with
      | .inl e, h1, hI, hs =>
        refine j_if_eq (tgt := 75) dX4_square_58 (by decide) (fun h58 => ?_) (fun h58 => absurd (gE0 _) h58)
        exact m75 w0 hz0 A1 _ _ _ h1 k1 k5 hs.symm
      | .inr ts, h1, hI, hs =>
        obtain ⟨g1, g2, g3⟩ := hI ts rfl
        have := g1.le
        omega
    | succ d ih =>
      intro s w A1 l1 h1 k1 k5 hI hs
      refine bX4_square_54.go rfl (by exact ⟨⟨rfl, trivial⟩, trivial⟩) ?_
      rw [h1.1.good]
      match s, h1, hI, hs with
      | .inl e, h1, hI, hs =>
        refine j_if_eq (tgt := 75) dX4_square_58 (by decide) (fun h58 => ?_) (fun h58 => absurd (gE0 _) h58)
        exact m75 w0 hz0 A1 _ _ _ h1 k1 k5 hs.symm
      | .inr ts, h1, hI, hs =>
        obtain ⟨r1, r2, r3, r4, r5, r6, r7⟩ := id h1.1
        refine j_if_eq (tgt := 75) dX4_square_58 (by decide) (fun h58 => absurd h58 (gE1 _)) (fun h58 => ?_)
        refine bX4_square_61.go rfl (by exact ⟨rfl, trivial⟩) ?_
        rw [r5.2.2.1]
        rw [loopE] at hs
        refine j_if_eq (tgt := 75) dX4_square_65 (by decide) (fun h65 => ?_) (fun h65 => ?_)
        · rw [if_pos (h65.trans nI_0.symm)] at hs
          exact m75 w0 hz0 A1 _ _ _ h1 k1 k5 hs.symm
        · rw [if_neg (fun e => h65 (e.trans nI_0))] at hs
          refine bX4_square_68.go rfl trivial ?_
          refine rg (nA := 0) (ok_readLine hX T n _ w (hI ts rfl).2.1.fr) gX4_readLine dX4_square_69 rfl h1 (fun r A2 B2 q => ?_)
          obtain ⟨rfl, f2, h2⟩ := q
          have hB := f2.1.symm
          subst hB
          refine bX4_square_72.go rfl trivial ?_
          exact ih _ _ A2 _ h2 (fun f a b => by rw [f2.2.1 f a b]; exact k1 f a b) (by rw [f2.2.2 5 (by omega)]; exact k5) (hI.next hn) hs
  refine R_start (L := [some (.ref o), none]) 1 rfl ?_
  refine bX4_square_0.go rfl (by exact ⟨rfl, rfl, rfl, rfl, rfl, rfl, trivial⟩) ?_
  rw [h5]
  generalize hA0 : upA (upA (upA (upA (upA A 0 7 (nI n)) 0 5 (nI 0)) 0 8 (nI 0)) 0 12 (nI 0)) 0 13 (-1) = A0
  have g1 : ∀ f, f ≠ 0 → A0 f = A f := fun f hf => by rw [← hA0, upA_ne hf, upA_ne hf, upA_ne hf, upA_ne hf, upA_ne hf]
  have g5 : A0 0 5 = nI 0 := by rw [← hA0, upA_at, if_neg (by decide), upA_at, if_neg (by decide), upA_at, if_neg (by decide), upA_at, if_pos rfl]
  have g7 : A0 0 7 = nI n := by rw [← hA0, upA_at, if_neg (by decide), upA_at, if_neg (by decide), upA_at, if_neg (by decide), upA_at, if_neg (by decide), upA_at, if_pos rfl]
  have g8 : A0 0 8 = nI 0 := by rw [← hA0, upA_at, if_neg (by decide), upA_at, if_neg (by decide), upA_at, if_pos rfl]
  have g12 : A0 0 12 = 0 := by rw [← hA0, upA_at, if_neg (by decide), upA_at, if_pos rfl]; rfl
  have g13 : A0 0 13 = -1 := by rw [← hA0, upA_at, if_pos rfl]
  refine loop_down (N := 320) (I := fun _ => True) (P := fun k => ∀ A1, (∀ f, f ≠ 14 → A1 f = A0 f) → (∀ j, j < k → A1 14 j = nI 0) → JS TP X mX4_square (rmOf mX4_square.lv 0 0) (ZR X o ad (Q_square T n A B)) 0 0 30 [some (.ref o), some (.int (nI k))] [] (o, ad, A1, B)) ?_ ?_ 0 (Nat.zero_le _) trivial A0 (fun _ _ => rfl) (fun j h => by omega)
  · intro _ A1 a1 a2
    refine bX4_square_30.go rfl trivial ?_
    refine j_icmp_ge (tgt := 50) dX4_square_34 (by decide) (fun h34 => ?_) (fun h34 => absurd (by decide) h34)
    have hz : Zero (A1 14) := a2
    have e0 : A1 0 = A0 0 := a1 0 (by decide)
    refine bX4_square_50.go rfl trivial ?_
    refine rc_V ok_advance gX4_advance dX4_square_51 rfl ⟨0, n, by rw [e0]; exact g8, by rw [e0]; exact g7, hn, Nat.zero_le _⟩ (fun r A2 B2 q => ?_)
    obtain ⟨rfl, hB, q1, q2, q3⟩ := q
    have hB := hB.symm
    subst hB
    have hle := advS_le (T := T) (n := n) (a := 0) (Nat.zero_le _)
    have eT : A1 4 = T := by rw [a1 4 (by decide), g1 4 (by decide)]; exact hT
    have q3 := q3 0 n (by rw [e0]; exact g8) (by rw [e0]; exact g7) hn (Nat.zero_le _)
    rw [eT] at q3
    refine lp (A1 14) hz (n + 1) (.inr (advS T n 0)) (A1 14) A2 _ ⟨⟨by rw [q1 4 (by decide)]; exact eT, by rw [q2 7 (by decide) (by decide) (by decide) (by decide), e0]; exact g7, hn, ⟨by rw [q2 12 (by decide) (by decide) (by decide) (by decide), e0]; exact g12, by rw [q2 13 (by decide) (by decide) (by decide) (by decide), e0]; exact g13⟩, q3, hle.2.1, hle.2.2⟩, q1 14 (by decide)⟩ (fun f a b => by rw [q1 f a, a1 f b]; exact g1 f a) (by rw [q2 5 (by decide) (by decide) (by decide) (by decide), e0]; exact g5) (LpI.start T n hz) rfl
  · intro k hk _ ih A1 a1 a2
    refine bX4_square_30.go rfl trivial ?_
    refine j_icmp_ge (tgt := 50) dX4_square_34 (by decide) (fun h34 => ?_) (fun h34 => ?_)
    · simp (disch := omega) only [nI_leI] at h34; omega
    · refine bX4_square_37.go rfl (by simp (disch := omega) only [vpI]; exact ⟨trivial, ⟨trivial, by omega⟩, trivial⟩) ?_
      simp (disch := omega) only [nI_clamp, nI_1]
      refine ih trivial _ (fun f hf => by rw [upA_ne hf]; exact a1 f hf) (fun j hj => ?_)
      rw [upA_at]
      by_cases e : j = k
      · rw [if_pos e]
      · rw [if_neg e]; exact a2 j (by omega)
