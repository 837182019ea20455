set_option maxRecDepth 100000
/-! ===== UnseenClock$Square: is, has, clockAt, isFree, isSeen ===== -/
abbrev pTw : (Nat → Int32) → Prop := fun _ => True
abbrev pT2w : Int32 → Int32 → (Nat → Int32) → Prop := fun _ _ _ => True
def fSqIs (w : Nat → Int32) : Int32 := b2 (decide (0 < w 3))
def fHas (x y : Int32) (w : Nat → Int32) : Int32 := b2 (inI x (nI 0) (w 4 - nI 1) && inI y (nI 0) (w 5 - nI 1))
def clkB (w : Nat → Int32) (x y : Int32) (k : Nat) : Bool := decide (w (32 + 6 * k) = x) && decide (w (32 + 6 * k + 1) = y)
def fClk (x y : Int32) (w : Nat → Int32) : Int32 := firstF (clkB w x y) (nC w) 0
abbrev pFree : Int32 → Int32 → (Nat → Int32) → Prop := fun _ _ w => ∃ a b : Nat, a ≤ 12 ∧ b ≤ 12 ∧ w 4 = nI a ∧ w 5 = nI b
def fFree (x y : Int32) (w : Nat → Int32) : Int32 := b2 (freeB w x y)
abbrev pSeen : Int32 → Int32 → (Nat → Int32) → Prop := fun t k w => ∃ (v : Nat → Nat) (a b c : Nat), WOk w v ∧ a < v 4 ∧ b < v 5 ∧ c < v 1 ∧ t = nI (a + 100 * b) ∧ k = nI c
def fSeen (t k : Int32) (w : Nat → Int32) : Int32 := b2 (seesB w (t - t / nI 100 * nI 100) (t / nI 100) k.toNatClampNeg)
theorem firstF_s {f : Nat → Bool} {N k : Nat} (hk : k < N) : firstF f (N - k) k = if f k = true then nI k else firstF f (N - (k + 1)) (k + 1) := by
  obtain ⟨d, hd⟩ : ∃ d, N - k = d + 1 := ⟨N - k - 1, by omega⟩
  rw [hd, show N - (k + 1) = d by omega]; rfl
theorem nI_n1 {k : Nat} (h : k < 2 ^ 31) : ¬ nI k = -1 := fun e => by
  have h1 := nI_pos' h
  rw [e] at h1
  exact absurd h1 (by decide)
theorem firstF_n {f : Nat → Bool} : ∀ n t, t + n < 2 ^ 31 → (firstF f n t = -1 ↔ ∀ k, t ≤ k → k < t + n → f k = false) := by
  intro n
  induction n with
  | zero => intro t _; simp only [firstF, true_iff]; intro k h1 h2; omega
  | succ n ih =>
    intro t ht
    simp only [firstF]
    by_cases h : f t = true
    · rw [if_pos h]
      constructor
      · intro e; exact absurd e (nI_n1 (by omega))
      · intro hk; rw [hk t (Nat.le_refl _) (by omega)] at h; cases h
    · rw [if_neg h, ih (t + 1) (by omega)]
      constructor
      · intro hk k h1 h2
        by_cases e : k = t
        · rw [e]; exact Bool.eq_false_iff.mpr h
        · exact hk k (by omega) (by omega)
      · intro hk k h1 h2; exact hk k (by omega) (by omega)
theorem bX2_is_0 : Blk PSq mX2_is 0 4 [oAL 0, pI 8 3] := blk_c (s_aload_n dX2_is_0 rfl) <| blk_c (p_I (by decide) (fun _ _ => rfl) (Or.inl q451) dX2_is_1) <| blk_nil
theorem bX2_is_7 : Blk PSq mX2_is 7 12 [oC (nI 1), .inl (fun s => some s)] := blk_c (s_iconst dX2_is_7 (by decide +kernel)) <| blk_c (s_goto (tgt := 12) dX2_is_8 (by decide)) <| blk_nil
theorem bX2_is_11 : Blk PSq mX2_is 11 12 [oC (nI 0)] := blk_c (s_iconst dX2_is_11 (by decide +kernel)) <| blk_nil
theorem ok_sqIs : SF_V mX2_is pTw fSqIs := by
  intro X h sk w hX hs _
  refine P_start (L := [some (.ref (sk 0))]) 0 rfl hX hs ?_
  refine bX2_is_0.go rfl (by repeat' first | exact trivial | rfl | assumption | omega | apply And.intro) ?_
  refine j_if_le (tgt := 11) dX2_is_4 (by decide) (fun h4 => ?_) (fun h4 => ?_)
  · refine bX2_is_11.go rfl trivial ?_
    exact p_zret dX2_is_12 rfl rfl rfl (by rw [fSqIs, decide_eq_false (Int32.not_lt.mpr h4)]; rfl)
  · refine bX2_is_7.go rfl trivial ?_
    exact p_zret dX2_is_12 rfl rfl rfl (by rw [fSqIs, decide_eq_true (Int32.not_le.mp h4)]; rfl)
theorem bX2_has_0 : Blk PSq mX2_has 0 13 [oIL 1, oI2L, oCL (lN 0), oAL 0, pI 4 4, oC (nI 1), oSub, oI2L, oS_JJJ pT3 fIn] := blk_c (s_iload_n dX2_has_0 rfl) <| blk_c (s_i2l dX2_has_1) <| blk_c (s_lconst dX2_has_2 (by decide +kernel)) <| blk_c (s_aload_n dX2_has_3 rfl) <| blk_c (p_I (by decide) (fun _ _ => rfl) (Or.inl q438) dX2_has_4) <| blk_c (s_iconst dX2_has_7 (by decide +kernel)) <| blk_c (s_isub dX2_has_8) <| blk_c (s_i2l dX2_has_9) <| blk_c (s_S_JJJ ok_sX0_in (fun _ _ _ h => h.2.1) (Or.inr ⟨lw_meth q181, q180, q131, _, nq793⟩) hy_X0_in (by decide) dX2_has_10) <| blk_nil
theorem bX2_has_16 : Blk PSq mX2_has 16 29 [oIL 2, oI2L, oCL (lN 0), oAL 0, pI 5 5, oC (nI 1), oSub, oI2L, oS_JJJ pT3 fIn] := blk_c (s_iload_n dX2_has_16 rfl) <| blk_c (s_i2l dX2_has_17) <| blk_c (s_lconst dX2_has_18 (by decide +kernel)) <| blk_c (s_aload_n dX2_has_19 rfl) <| blk_c (p_I (by decide) (fun _ _ => rfl) (Or.inl q441) dX2_has_20) <| blk_c (s_iconst dX2_has_23 (by decide +kernel)) <| blk_c (s_isub dX2_has_24) <| blk_c (s_i2l dX2_has_25) <| blk_c (s_S_JJJ ok_sX0_in (fun _ _ _ h => h.2.1) (Or.inr ⟨lw_meth q181, q180, q131, _, nq793⟩) hy_X0_in (by decide) dX2_has_26) <| blk_nil
theorem bX2_has_32 : Blk PSq mX2_has 32 37 [oC (nI 1), .inl (fun s => some s)] := blk_c (s_iconst dX2_has_32 (by decide +kernel)) <| blk_c (s_goto (tgt := 37) dX2_has_33 (by decide)) <| blk_nil
theorem bX2_has_36 : Blk PSq mX2_has 36 37 [oC (nI 0)] := blk_c (s_iconst dX2_has_36 (by decide +kernel)) <| blk_nil
theorem ok_has : SF_II mX2_has pT2w fHas := by
  intro X h sk w x y hX hs _
  refine P_start (L := [some (.ref (sk 0)), some (.int x), some (.int y)]) 0 rfl hX hs ?_
  refine bX2_has_0.go rfl (by repeat' first | exact trivial | rfl | assumption | omega | apply And.intro) ?_
  have e1 : ∀ a b : Int32, fIn a.toInt64 (lN 0) b.toInt64 = b2 (inI a (nI 0) b) := fun a b => by rw [fIn, lN0, in_i2l]
  rw [e1]
  refine j_if_eq (tgt := 36) dX2_has_13 (by decide) (fun h13 => ?_) (fun h13 => ?_)
  · rw [b2_0] at h13
    refine bX2_has_36.go rfl trivial ?_
    exact p_zret dX2_has_37 rfl rfl rfl (by rw [fHas, h13]; rfl)
  · rw [b2_n0] at h13
    refine bX2_has_16.go rfl (by repeat' first | exact trivial | rfl | assumption | omega | apply And.intro) ?_
    rw [e1]
    refine j_if_eq (tgt := 36) dX2_has_29 (by decide) (fun h29 => ?_) (fun h29 => ?_)
    · rw [b2_0] at h29
      refine bX2_has_36.go rfl trivial ?_
      exact p_zret dX2_has_37 rfl rfl rfl (by rw [fHas, h13, h29]; rfl)
    · rw [b2_n0] at h29
      refine bX2_has_32.go rfl trivial ?_
      exact p_zret dX2_has_37 rfl rfl rfl (by rw [fHas, h13, h29]; rfl)
theorem bX2_clockAt_0 : Blk PSq mX2_clockAt 0 2 [oC (nI 0), oIS 3] := blk_c (s_iconst dX2_clockAt_0 (by decide +kernel)) <| blk_c (s_istore_n dX2_clockAt_1 rfl (by decide)) <| blk_nil
theorem bX2_clockAt_2 : Blk PSq mX2_clockAt 2 12 [oIL 3, oAL 0, pR 0 1, pSzC] := blk_c (s_iload_n dX2_clockAt_2 rfl) <| blk_c (s_aload_n dX2_clockAt_3 rfl) <| blk_c (p_R (by decide) (fun _ _ => rfl) (Or.inl q425) dX2_clockAt_4) <| blk_c (p_SzC (lw_F q799 q803 q805 q136 q807) (by decide) dX2_clockAt_7) <| blk_nil
theorem bX2_clockAt_15 : Blk PSq mX2_clockAt 15 32 [oAL 0, pR 0 1, oIL 3, pDial, pDF 0 3, oIL 1] := blk_c (s_aload_n dX2_clockAt_15 rfl) <| blk_c (p_R (by decide) (fun _ _ => rfl) (Or.inl q425) dX2_clockAt_16) <| blk_c (s_iload_n dX2_clockAt_19 rfl) <| blk_c (p_Dial (lw_F q809 q812 q814 q136 q816) (by decide) dX2_clockAt_20 q825 dX2_clockAt_25) <| blk_c (p_DF (by decide) (by decide) (Or.inr ⟨_, nq844⟩) dX2_clockAt_28) <| blk_c (s_iload_n dX2_clockAt_31 rfl) <| blk_nil
theorem bX2_clockAt_35 : Blk PSq mX2_clockAt 35 52 [oAL 0, pR 0 1, oIL 3, pDial, pDF 1 3, oIL 2] := blk_c (s_aload_n dX2_clockAt_35 rfl) <| blk_c (p_R (by decide) (fun _ _ => rfl) (Or.inl q425) dX2_clockAt_36) <| blk_c (s_iload_n dX2_clockAt_39 rfl) <| blk_c (p_Dial (lw_F q809 q812 q814 q136 q816) (by decide) dX2_clockAt_40 q825 dX2_clockAt_45) <| blk_c (p_DF (by decide) (by decide) (Or.inr ⟨_, nq846⟩) dX2_clockAt_48) <| blk_c (s_iload_n dX2_clockAt_51 rfl) <| blk_nil
theorem bX2_clockAt_55 : Blk PSq mX2_clockAt 55 56 [oIL 3] := blk_c (s_iload_n dX2_clockAt_55 rfl) <| blk_nil
theorem bX2_clockAt_57 : Blk PSq mX2_clockAt 57 2 [oInc 3 1, .inl (fun s => some s)] := blk_c (s_iinc dX2_clockAt_57 (by decide +kernel) (by decide)) <| blk_c (s_goto (tgt := 2) dX2_clockAt_60 (by decide)) <| blk_nil
theorem bX2_clockAt_63 : Blk PSq mX2_clockAt 63 64 [oC (-1)] := blk_c (s_iconst dX2_clockAt_63 (by decide +kernel)) <| blk_nil
theorem ok_clockAt : SF_II mX2_clockAt pT2w fClk := by
  intro X h sk w x y hX hs _
  have h4 : nC w ≤ 4 := hs.2.1.2.2.2.1
  refine P_start (L := [some (.ref (sk 0)), some (.int x), some (.int y), none]) 1 rfl hX hs ?_
  refine bX2_clockAt_0.go rfl trivial ?_
  refine loop_down (N := nC w) (I := fun k => fClk x y w = firstF (clkB w x y) (nC w - k) k) (P := fun k => JS PSq X mX2_clockAt (rmOf mX2_clockAt.lv 0 0) (ZQ X 0 0 (PR (some (.int (fClk x y w))) h)) 0 0 2 [some (.ref (sk 0)), some (.int x), some (.int y), some (.int (nI k))] [] (h, sk, w)) ?_ ?_ 0 (Nat.zero_le _) rfl
  · intro hI
    refine bX2_clockAt_2.go rfl (by repeat' first | exact trivial | rfl | assumption | omega | apply And.intro) ?_
    refine j_icmp_ge (tgt := 63) dX2_clockAt_12 (by decide) (fun h12 => ?_) (fun h12 => absurd (nI_le (Nat.le_refl _) (by omega)) h12)
    refine bX2_clockAt_63.go rfl trivial ?_
    exact p_iret dX2_clockAt_64 rfl rfl (by rw [hI, Nat.sub_self]; rfl)
  · intro k hk hI ih
    rw [firstF_s hk] at hI
    refine bX2_clockAt_2.go rfl (by repeat' first | exact trivial | rfl | assumption | omega | apply And.intro) ?_
    refine j_icmp_ge (tgt := 63) dX2_clockAt_12 (by decide) (fun h12 => ?_) (fun h12 => ?_)
    · rw [nI_leI (by omega) (by omega)] at h12; omega
    · refine bX2_clockAt_15.go rfl (by (try simp (disch := omega) only [nI_add, pk_mul, pk_sub, nI_clamp, vpI]); repeat' first | exact trivial | rfl | assumption | omega | apply And.intro) ?_
      simp (disch := omega) only [nI_clamp, Nat.add_zero]
      refine j_icmp_ne (tgt := 57) dX2_clockAt_32 (by decide) (fun h32 => ?_) (fun h32 => ?_)
      · refine bX2_clockAt_57.go rfl trivial ?_
        rw [nI_1]
        exact ih (by rw [hI, if_neg (by simp [clkB, h32])])
      · refine bX2_clockAt_35.go rfl (by (try simp (disch := omega) only [nI_add, pk_mul, pk_sub, nI_clamp, vpI]); repeat' first | exact trivial | rfl | assumption | omega | apply And.intro) ?_
        simp (disch := omega) only [nI_clamp]
        refine j_icmp_ne (tgt := 57) dX2_clockAt_52 (by decide) (fun h52 => ?_) (fun h52 => ?_)
        · refine bX2_clockAt_57.go rfl trivial ?_
          rw [nI_1]
          exact ih (by rw [hI, if_neg (by simp [clkB, h52])])
        · refine bX2_clockAt_55.go rfl trivial ?_
          exact p_iret dX2_clockAt_56 rfl rfl (by rw [hI, if_pos (by simp [clkB, h32, h52])])
theorem fClk_n1 {w : Nat → Int32} (h4 : nC w ≤ 4) (x y : Int32) : fClk x y w = -1 ↔ anyN (clockAt w x y (-1)) (nC w) = false := by
  rw [fClk, firstF_n _ _ (by omega), anyN_false]
  have e : ∀ k, k < nC w → clockAt w x y (-1) k = clkB w x y k := fun k hk => by
    unfold clockAt clkB
    rw [decide_eq_false (nI_n1 (by omega))]; rfl
  constructor
  · intro h k hk; rw [e k hk]; exact h k (Nat.zero_le _) (by omega)
  · intro h k _ hk; rw [← e k (by omega)]; exact h k (by omega)
theorem bX2_isFree_0 : Blk PSq mX2_isFree 0 6 [oAL 0, oIL 1, oIL 2, pC_II pT2w fHas] := blk_c (s_aload_n dX2_isFree_0 rfl) <| blk_c (s_iload_n dX2_isFree_1 rfl) <| blk_c (s_iload_n dX2_isFree_2 rfl) <| blk_c (p_C_II ok_has (lw_V q789 q790 q791 q133 q792) hy_X2_has rfl (by decide) dX2_isFree_3) <| blk_nil
theorem bX2_isFree_9 : Blk PSq mX2_isFree 9 10 [oAL 0] := blk_c (s_aload_n dX2_isFree_9 rfl) <| blk_nil
theorem bX2_isFree_10 : Blk PSq mX2_isFree 10 19 [pR 2 3, oC (nI 20), oIL 2, oMul, oIL 1, oAdd] := blk_c (p_R (by decide) (fun _ _ => rfl) (Or.inl q433) dX2_isFree_10) <| blk_c (s_bipush dX2_isFree_13 (by decide +kernel)) <| blk_c (s_iload_n dX2_isFree_15 rfl) <| blk_c (s_imul dX2_isFree_16) <| blk_c (s_iload_n dX2_isFree_17 rfl) <| blk_c (s_iadd dX2_isFree_18) <| blk_nil
theorem bX2_isFree_23 : Blk PSq mX2_isFree 23 30 [oAL 0, oIL 1, oIL 2, pC_II pT2w fClk, oC (-1)] := blk_c (s_aload_n dX2_isFree_23 rfl) <| blk_c (s_iload_n dX2_isFree_24 rfl) <| blk_c (s_iload_n dX2_isFree_25 rfl) <| blk_c (p_C_II ok_clockAt (lw_V q794 q795 q796 q133 q797) hy_X2_clockAt rfl (by decide) dX2_isFree_26) <| blk_c (s_iconst dX2_isFree_29 (by decide +kernel)) <| blk_nil
theorem bX2_isFree_33 : Blk PSq mX2_isFree 33 38 [oC (nI 1), .inl (fun s => some s)] := blk_c (s_iconst dX2_isFree_33 (by decide +kernel)) <| blk_c (s_goto (tgt := 38) dX2_isFree_34 (by decide)) <| blk_nil
theorem bX2_isFree_37 : Blk PSq mX2_isFree 37 38 [oC (nI 0)] := blk_c (s_iconst dX2_isFree_37 (by decide +kernel)) <| blk_nil
theorem ok_isFreeX : SF_II mX2_isFree pFree fFree := by
  intro X h sk w x y hX hs hP
  obtain ⟨a, b, ha, hb, ea, eb⟩ := hP
  have h4 : nC w ≤ 4 := hs.2.1.2.2.2.1
  refine P_start (L := [some (.ref (sk 0)), some (.int x), some (.int y)]) 0 rfl hX hs ?_
  refine bX2_isFree_0.go rfl (by repeat' first | exact trivial | rfl | assumption | omega | apply And.intro) ?_
  have no : freeB w x y = false → JS PSq X mX2_isFree (rmOf mX2_isFree.lv 0 0) (ZQ X 0 0 (PR (some (.int (fFree x y w))) h)) 0 0 37 [some (.ref (sk 0)), some (.int x), some (.int y)] [] (h, sk, w) := by
    intro hf
    refine bX2_isFree_37.go rfl trivial ?_
    exact p_zret dX2_isFree_38 rfl rfl rfl (by rw [fFree, hf]; rfl)
  refine j_if_eq (tgt := 37) dX2_isFree_6 (by decide) (fun h6 => ?_) (fun h6 => ?_)
  · rw [fHas, b2_0] at h6
    exact no (by rw [freeB, ← Bool.and_assoc, h6]; rfl)
  · rw [fHas, b2_n0, Bool.and_eq_true, ea, eb] at h6
    obtain ⟨i, hi, rfl⟩ := inI_nat (by omega) h6.1
    obtain ⟨j, hj, rfl⟩ := inI_nat (by omega) h6.2
    refine bX2_isFree_9.go rfl (by repeat' first | exact trivial | rfl | assumption | omega | apply And.intro) ?_
    refine bX2_isFree_10.go rfl (by repeat' first | exact trivial | rfl | assumption | omega | apply And.intro) ?_
    simp (disch := omega) only [nI_add, pk_mul]
    obtain ⟨g, hg1, hg2⟩ := hs.2.2.2.1
    refine (fun (z : JS PSq X mX2_isFree (rmOf mX2_isFree.lv 0 0) (ZQ X 0 0 (PR (some (.int (fFree (nI i) (nI j) w))) h)) 0 0 20 [some (.ref (sk 0)), some (.int (nI i)), some (.int (nI j))] [.int (b2 (anyN (wallAt w (nI i) (nI j)) (nW w)))] (h, sk, w)) => ?_) ?_
    · rintro h' ⟨e1, e2, e3⟩
      dsimp only at e1 e3
      subst e1
      refine J.zald hg1 ((vpI (by omega)).mpr (by omega)) dX2_isFree_19 ?_
      rw [nI_clamp (by omega), hg2 i j (by omega) (by omega)]
      exact z _ ⟨rfl, e2, e3⟩
    · refine j_if_ne (tgt := 37) dX2_isFree_20 (by decide) (fun h20 => ?_) (fun h20 => ?_)
      · rw [b2_n0] at h20
        refine no ?_
        rw [freeB, takenB, show (w 0).toNatClampNeg = nW w from rfl, h20]; simp
      · rw [b2_0] at h20
        refine bX2_isFree_23.go rfl (by repeat' first | exact trivial | rfl | assumption | omega | apply And.intro) ?_
        refine j_icmp_ne (tgt := 37) dX2_isFree_30 (by decide) (fun h30 => ?_) (fun h30 => ?_)
        · refine no ?_
          rw [fClk_n1 h4, Bool.not_eq_false] at h30
          rw [freeB, takenB, show (w 1).toNatClampNeg = nC w from rfl, h30]; simp
        · rw [fClk_n1 h4] at h30
          refine bX2_isFree_33.go rfl trivial ?_
          refine p_zret dX2_isFree_38 rfl rfl rfl ?_
          rw [fFree, freeB, takenB, show (w 1).toNatClampNeg = nC w from rfl, show (w 0).toNatClampNeg = nW w from rfl, h30, h20, ea, eb, h6.1, h6.2]
          rfl
