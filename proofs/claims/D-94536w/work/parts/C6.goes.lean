set_option maxRecDepth 100000
/-! ===== Course.goes ===== -/
theorem opL_on32 (K : MC) {nc np : Nat} (hc : nc ≤ 4) (hp : np ≤ 8) (tk : Nat → Bool) (m : Nat) : ∀ f s, (opL K nc np tk m f s).2.1 + cntU (opL K nc np tk m f s).1 32 ≤ s.2.1 + cntU s.1 32 := by
  intro f
  induction f with
  | zero => intro s; exact Nat.le_refl _
  | succ f ih =>
    intro s
    simp only [opL]
    split
    · exact Nat.le_refl _
    · rename_i k hk
      obtain ⟨p, c, h1, h2, rfl, h4⟩ := fuP_some np 0 hk
      have hx : ¬ b2 (tk s.2.1) = -1 := by cases tk s.2.1 <;> decide
      have hcnt := cntU_up (F := s.1) (x := b2 (tk s.2.1)) h4 hx 32
      rw [if_pos (by omega)] at hcnt
      have hle := stl_cnt K hc hp 33 (va_up s.1 (4 * p + c) (b2 (tk s.2.1)))
      have := ih (open1 K nc np tk m s (4 * p + c))
      simp only [open1] at this ⊢
      omega
theorem LO_on32 (K : MC) {nc np : Nat} (hc : nc ≤ 4) (hp : np ≤ 8) (tk : Nat → Bool) (m on : Nat) (od : Nat → Int32) : (LO K nc np tk m on od).2.1 ≤ on + 32 := by
  have := opL_on32 K hc hp tk m 33 (stl K nc np 33 (fun _ => -1), on, od, fun _ => nI 0)
  have h2 := cntU_le (stl K nc np 33 (fun _ => -1)) 32
  unfold LO
  simp only at this
  omega
/-- the component's course after t minutes -/
def RunC (A A' : Nat → Nat → Int32) (B B' : Nat → Nat → Int64) (v : Nat → Nat) (cf : CF) (rs : Nat → RS) (t : Nat) : Prop :=
  (∀ j, j ≠ 33 → j ≠ 34 → j ≠ 3 → j ≠ 35 → j ≠ 39 → j ≠ 40 → (j < 50 ∨ 78 ≤ j) → A' j = A j) ∧ (∀ q, q ≠ 14 → A' 3 q = A 3 q) ∧ (A' 3 14 = nI (rs t).on ∧ A' 35 = (rs t).od ∧ (rs t).on ≤ 32 * t) ∧
  (∀ u, u ≤ t → ∀ c, c < v 1 → A' (64 + c) u = (rs u).pt c) ∧ (∀ u, u < t → ∀ c, c < v 1 → A' (60 + c) u = shW cf.1 (rs u).pt c) ∧ (∀ u, u < t → ∀ p, p < v 2 → A' (50 + p) u = minL cf u (rs u) p) ∧
  (∀ c, c < v 1 → A' 39 c = (rs t).kM c ∧ A' 40 c = (rs t).kL c) ∧ (∀ k, k ≠ 3 → B' k = B k) ∧ (∀ j, j ≠ 17 → B' 3 j = B 3 j) ∧ B' 3 17 = (rs t).z
/-- the steps of n clocks -/
def StpsN (A A' : Nat → Nat → Int32) (v : Nat → Nat) (t n : Nat) : Prop :=
  (∀ j, j ≠ 39 → j ≠ 40 → (j < 64 ∨ 64 + n ≤ j) → A' j = A j) ∧
  (∀ k, k < n → A' (64 + k) = va_up (A (64 + k)) (t + 1) (A (64 + k) t + (if (bitI (orP (fun p => A (50 + p) t) (v 2)) k || decide (A 39 k < A 38 k)) = true then nI 0 else A 37 k)) ∧
    A' 39 k = (if (!bitI (orP (fun p => A (50 + p) t) (v 2)) k && decide (A 39 k < A 38 k)) = true then A 39 k + nI 1 else A 39 k) ∧ A' 40 k = (if (!bitI (orP (fun p => A (50 + p) t) (v 2)) k && decide (A 39 k < A 38 k)) = true then nI t else A 40 k)) ∧
  ∀ k, n ≤ k → A' 39 k = A 39 k ∧ A' 40 k = A 40 k
theorem StpsN.step {A A1 A2 : Nat → Nat → Int32} {v : Nat → Nat} {t n : Nat} (h : StpsN A A1 v t n) (h2 : StpA A1 A2 n t (bitI (orP (fun p => A1 (50 + p) t) (v 2)) n)) (h8 : v 2 ≤ 8) (hn : n < 4) : StpsN A A2 v t (n + 1) := by
  obtain ⟨a1, a2, a3⟩ := h
  obtain ⟨b1, b2', b3, b4⟩ := h2
  have eo : orP (fun p => A1 (50 + p) t) (v 2) = orP (fun p => A (50 + p) t) (v 2) := orP_congr (fun p hp => by rw [a1 (50 + p) (by omega) (by omega) (by omega)])
  have e38 : A1 38 = A 38 := a1 38 (by decide) (by decide) (by omega)
  have e37 : A1 37 = A 37 := a1 37 (by decide) (by decide) (by omega)
  have e64 : A1 (64 + n) = A (64 + n) := a1 _ (by omega) (by omega) (by omega)
  obtain ⟨c1, c2⟩ := a3 n (Nat.le_refl _)
  rw [eo, e38, e37, e64, c1] at b2'
  rw [eo, e38, c1] at b3 b4
  refine ⟨fun j h1 h2 h3 => by rw [b1 j (by omega) h1 h2]; exact a1 j h1 h2 (by omega), fun k hk => ?_, fun k hk => ?_⟩
  · by_cases e : k = n
    · subst e
      refine ⟨b2', ?_, ?_⟩
      · rw [b3]
        split
        · rw [va_up_self]
        · exact c1
      · rw [b4]
        split
        · rw [va_up_self]
        · exact c2
    · obtain ⟨d1, d2, d3⟩ := a2 k (by omega)
      refine ⟨by rw [b1 _ (by omega) (by omega) (by omega)]; exact d1, ?_, ?_⟩
      · rw [b3]
        split
        · rw [va_up_ne _ _ e]; exact d2
        · exact d2
      · rw [b4]
        split
        · rw [va_up_ne _ _ e]; exact d3
        · exact d3
  · obtain ⟨d1, d2⟩ := a3 k (by omega)
    refine ⟨?_, ?_⟩
    · rw [b3]
      split
      · rw [va_up_ne _ _ (by omega)]; exact d1
      · exact d1
    · rw [b4]
      split
      · rw [va_up_ne _ _ (by omega)]; exact d2
      · exact d2
abbrev cfC (A : Nat → Nat → Int32) (w : Nat → Int32) : CF := (w, A 38, tkC A, !decide (A 3 16 = 0))
theorem RunC.step {A A0 A1 A2 A3 A4 : Nat → Nat → Int32} {B B0 B2 : Nat → Nat → Int64} {w : Nat → Int32} {v : Nat → Nat} {od : Nat → Int32} {z : Int64} {t : Nat} (hw : WOk w v) (ht : t < v 6) (e37 : ∀ c, c < v 1 → A 37 c = w (32 + 6 * c + 2))
    (h : RunC A A0 B B0 v (cfC A w) (rsS (cfC A w) od z) t) (h1 : ShwA A0 A1 w t (v 1)) (h2 : DrwC A1 A2 B0 B2 w v t) (h3 : MinC A2 A3 v t (LO (mcC A2 w t) (v 1) (v 2) (tkC A2) t (rsS (cfC A w) od z t).on (A2 35))) (h4 : StpsN A3 A4 v t (v 1)) :
    RunC A A4 B B2 v (cfC A w) (rsS (cfC A w) od z) (t + 1) := by
  have n4 := hw.nc4
  have n8 := hw.np8
  have n40 := hw.sp40
  obtain ⟨f1, f2, ⟨f3, f4, f5⟩, f6, f7, f8, f9, f10, f11, f12⟩ := h
  obtain ⟨g1, g2⟩ := h1
  obtain ⟨d1, d2, d3, d4, d5⟩ := h2
  obtain ⟨m1, m2, m3, m4, m5⟩ := h3
  obtain ⟨s1, s2, s3⟩ := h4
  have hA13 : A1 3 = A0 3 := g1 3 (by omega)
  have hA23 : A2 3 = A0 3 := (d1 3 (by omega)).trans hA13
  have e16 : A1 3 16 = A 3 16 := by rw [hA13]; exact f2 16 (by decide)
  have e36 : A2 36 = A 36 := by rw [d1 36 (by omega), g1 36 (by omega)]; exact f1 36 (by decide) (by decide) (by decide) (by decide) (by decide) (by decide) (by omega)
  have etk : tkC A2 = tkC A := by funext n; simp only [tkC, hA23, f2 15 (by decide), e36]
  have e35 : A2 35 = (rsS (cfC A w) od z t).od := by rw [d1 35 (by omega), g1 35 (by omega)]; exact f4
  have e50 : ∀ p, p < v 2 → A2 (50 + p) = A0 (50 + p) := fun p hp => by rw [d1 _ (by omega), g1 _ (by omega)]
  have e60 : ∀ c, c < v 1 → A2 (60 + c) = va_up (A0 (60 + c)) t (shW w (rsS (cfC A w) od z t).pt c) := fun c hc => by
    rw [d1 _ (by omega), g2 c hc]
    congr 1
    simp only [shW]
    rw [f6 t (Nat.le_refl _) c hc]
  have e64 : ∀ c, c < v 1 → A2 (64 + c) = A0 (64 + c) := fun c hc => by rw [d1 _ (by omega), g1 _ (by omega)]
  have hKE : KEq v (mcC A2 w t) (KS w (rsS (cfC A w) od z t).lp (rsS (cfC A w) od z t).sp t (!decide (A 3 16 = 0)) (rsS (cfC A w) od z t).z) := by
    refine KEq.of hw (fun _ _ _ _ => rfl) (fun p hp i hi => ?_) (fun h0 p hp => ?_) (fun h0 c hc => ?_)
    · rw [hA23, f2 16 (by decide)]
      by_cases hz : A 3 16 = 0
      · rw [decide_eq_true hz]
        simp [mbF, drB]
      · have := d5 (by rw [e16]; exact hz) p hp i hi
        rw [e16, f12] at this
        rw [this, decide_eq_false hz]
        cases mbF w (fun p c => seeB w p c t) (!false) (rsS (cfC A w) od z t).z p i <;> decide
    · obtain ⟨u, rfl⟩ : ∃ u, t = u + 1 := ⟨t - 1, by omega⟩
      rw [e50 p hp]
      exact f8 u (by omega) p hp
    · obtain ⟨u, rfl⟩ : ∃ u, t = u + 1 := ⟨t - 1, by omega⟩
      rw [e60 c hc, va_up_ne _ _ (by omega)]
      exact f7 u (by omega) c hc
  have hos := LO_congr hKE n8 n4 (tkC A) t (rsS (cfC A w) od z t).on (rsS (cfC A w) od z t).od
  have eO : LO (KS w (rsS (cfC A w) od z t).lp (rsS (cfC A w) od z t).sp t (!decide (A 3 16 = 0)) (rsS (cfC A w) od z t).z) (v 1) (v 2) (tkC A) t (rsS (cfC A w) od z t).on (rsS (cfC A w) od z t).od = minO (cfC A w) t (rsS (cfC A w) od z t) := by
    simp only [minO, hw.ncE, hw.npE]
  rw [eO] at hos
  rw [etk, e35] at m3 m4 m5
  have hon : (minO (cfC A w) t (rsS (cfC A w) od z t)).2.1 ≤ (rsS (cfC A w) od z t).on + 32 := by rw [← eO]; exact LO_on32 _ n4 n8 _ _ _ _
  rw [hos.2] at m3 m4
  have eL : ∀ p, p < v 2 → A3 (50 + p) = va_up (A0 (50 + p)) t (minL (cfC A w) t (rsS (cfC A w) od z t) p) := fun p hp => by
    rw [m5 p hp, e50 p hp, lookBits_congr hos.1 (by omega) _ n4]
    simp only [minL, hw.ncE]
  have eLK : ∀ c, bitI (orP (fun p => A3 (50 + p) t) (v 2)) c = lkdB (cfC A w) t (rsS (cfC A w) od z t) c := fun c => by
    simp only [lkdB, hw.npE]
    rw [orP_congr (fun p hp => by rw [eL p hp, va_up_self])]
  have k39 : ∀ j, j = 37 ∨ j = 38 ∨ j = 39 ∨ j = 40 → A3 j = A0 j := fun j hj => by
    rw [m1 j (by omega) (by omega) (by omega) (by omega) (by omega), d1 j (by omega), g1 j (by omega)]
  have e3_64 : ∀ c, c < v 1 → A3 (64 + c) = A0 (64 + c) := fun c hc => by
    rw [m1 _ (by omega) (by omega) (by omega) (by omega) (by omega), e64 c hc]
  have e37' : ∀ c, c < v 1 → A3 37 c = w (32 + 6 * c + 2) := fun c hc => by
    rw [k39 37 (by omega), f1 37 (by decide) (by decide) (by decide) (by decide) (by decide) (by decide) (by omega)]; exact e37 c hc
  have e38' : A3 38 = A 38 := by rw [k39 38 (by omega)]; exact f1 38 (by decide) (by decide) (by decide) (by decide) (by decide) (by decide) (by omega)
  refine ⟨fun j a1 a2 a3 a4 a5 a6 a7 => ?_, fun q hq => ?_, ⟨?_, ?_, ?_⟩, fun u hu c hc => ?_, fun u hu c hc => ?_, fun u hu p hp => ?_, fun c hc => ?_, fun k hk => by rw [d2 k hk]; exact f10 k hk, fun j hj => by rw [d3 j hj]; exact f11 j hj, ?_⟩
  · rw [s1 j a5 a6 (by omega), m1 j a1 a2 a3 a4 (by omega), d1 j (by omega), g1 j (by omega)]; exact f1 j a1 a2 a3 a4 a5 a6 a7
  · rw [s1 3 (by decide) (by decide) (by omega), m2 q hq, hA23]; exact f2 q hq
  · rw [s1 3 (by decide) (by decide) (by omega), m3]; rfl
  · rw [s1 35 (by decide) (by decide) (by omega), m4]; rfl
  · show (minO _ t _).2.1 ≤ _
    omega
  · obtain ⟨q1, -, -⟩ := s2 c hc
    rw [q1]
    by_cases e : u = t + 1
    · subst e
      rw [va_up_self, e3_64 c hc, f6 t (Nat.le_refl _) c hc, eLK, k39 39 (by omega), (f9 c hc).1, e38', e37' c hc]
      rfl
    · rw [va_up_ne _ _ e, e3_64 c hc]; exact f6 u (by omega) c hc
  · rw [s1 _ (by omega) (by omega) (by omega), m1 _ (by omega) (by omega) (by omega) (by omega) (by omega), e60 c hc]
    by_cases e : u = t
    · subst e; rw [va_up_self]
    · rw [va_up_ne _ _ e]; exact f7 u (by omega) c hc
  · rw [s1 _ (by omega) (by omega) (by omega), eL p hp]
    by_cases e : u = t
    · subst e; rw [va_up_self]
    · rw [va_up_ne _ _ e]; exact f8 u (by omega) p hp
  · obtain ⟨-, q2, q3⟩ := s2 c hc
    rw [eLK, k39 39 (by omega), (f9 c hc).1, e38'] at q2
    rw [eLK, k39 39 (by omega), k39 40 (by omega), (f9 c hc).1, (f9 c hc).2, e38'] at q3
    exact ⟨q2, q3⟩
  · rw [d4, e16, f12]
    show _ = rngP _ _ _ (nP w) _
    rw [hw.npE]
/-- the component's course, gone through -/
def GoC (A A' : Nat → Nat → Int32) (B B' : Nat → Nat → Int64) (v : Nat → Nat) (cf : CF) (rs : Nat → RS) : Prop := RunC A A' B B' v cf rs (v 6) ∧ ∀ c, c < v 1 → A' (60 + c) (v 6) = shW cf.1 (rs (v 6)).pt c
section Goes
variable {X : Cx} {ad : Nat → Nat} {A : Nat → Nat → Int32} {B : Nat → Nat → Int64} {sk : Nat → Nat → Nat} {sw : Nat → Nat → Int32} {E : Nat → Nat} {v : Nat → Nat}
theorem bX3_goes_0 : Blk CP mX3_goes 0 10 [oAL 0, oC (nI 0), cPI 3 14, oAL 0, cR 3 9 39, oC (nI 0)] := blk_c (s_aload_n dX3_goes_0 rfl) <| blk_c (s_iconst dX3_goes_1 (by decide +kernel)) <| blk_c (cpX3_14 (Or.inl q508) dX3_goes_2) <| blk_c (s_aload_n dX3_goes_5 rfl) <| blk_c (cgX3_9 (Or.inl q501) dX3_goes_6) <| blk_c (s_iconst dX3_goes_9 (by decide +kernel)) <| blk_nil
theorem bX3_goes_13 : Blk CP mX3_goes 13 18 [oAL 0, cR 3 10 40, oC (-1)] := blk_c (s_aload_n dX3_goes_13 rfl) <| blk_c (cgX3_10 (Or.inl q502) dX3_goes_14) <| blk_c (s_iconst dX3_goes_17 (by decide +kernel)) <| blk_nil
theorem bX3_goes_21 : Blk CP mX3_goes 21 23 [oC (nI 0), oIS 1] := blk_c (s_iconst dX3_goes_21 (by decide +kernel)) <| blk_c (s_istore_n dX3_goes_22 rfl (by decide)) <| blk_nil
theorem bX3_goes_23 : Blk CP mX3_goes 23 36 [oIL 1, oAL 0, cQ1, qR 1 0 1, qSzC 1] := blk_c (s_iload_n dX3_goes_23 rfl) <| blk_c (s_aload_n dX3_goes_24 rfl) <| blk_c (cgX3_12 (Or.inl q505) dX3_goes_25) <| blk_c (q_R (by decide) (fun _ _ => rfl) (Or.inr ⟨_, nq426⟩) dX3_goes_28) <| blk_c (q_SzC (lw_F q1193 q803 q805 q136 q807) (by decide) dX3_goes_31) <| blk_nil
theorem bX3_goes_39 : Blk CP mX3_goes 39 23 [oAL 0, cR 3 2 32, oIL 1, cW 32 64 4, oC (nI 0), oAL 0, cQ1, qR 1 0 1, oIL 1, qDial 1, qDF 1 5 1, oAL 0, cQ1, qR 1 0 1, oIL 1, qDial 1, qDF 1 3 1, oMul, cWS 64 4 41 1, oInc 1 1, .inl (fun s => some s)] := blk_c (s_aload_n dX3_goes_39 rfl) <| blk_c (cgX3_2 (Or.inl q491) dX3_goes_40) <| blk_c (s_iload_n dX3_goes_43 rfl) <| blk_c (c_W (t := 8) (ty := .int) (fun _ => rfl) (fun _ _ _ _ _ _ => rfl) dX3_goes_44) <| blk_c (s_iconst dX3_goes_45 (by decide +kernel)) <| blk_c (s_aload_n dX3_goes_46 rfl) <| blk_c (cgX3_12 (Or.inl q505) dX3_goes_47) <| blk_c (q_R (by decide) (fun _ _ => rfl) (Or.inr ⟨_, nq426⟩) dX3_goes_50) <| blk_c (s_iload_n dX3_goes_53 rfl) <| blk_c (q_Dial (lw_F q1195 q812 q814 q136 q816) (by decide) dX3_goes_54 q1196 dX3_goes_59) <| blk_c (q_DF (by decide) (by decide) (Or.inr ⟨_, nq855⟩) dX3_goes_62) <| blk_c (s_aload_n dX3_goes_65 rfl) <| blk_c (cgX3_12 (Or.inl q505) dX3_goes_66) <| blk_c (q_R (by decide) (fun _ _ => rfl) (Or.inr ⟨_, nq426⟩) dX3_goes_69) <| blk_c (s_iload_n dX3_goes_72 rfl) <| blk_c (q_Dial (lw_F q1195 q812 q814 q136 q816) (by decide) dX3_goes_73 q1196 dX3_goes_78) <| blk_c (q_DF (by decide) (by decide) (Or.inr ⟨_, nq850⟩) dX3_goes_81) <| blk_c (s_imul dX3_goes_84) <| blk_c (c_wiast ar_value dX3_goes_85) <| blk_c (s_iinc dX3_goes_86 (by decide +kernel) (by decide)) <| blk_c (s_goto (tgt := 23) dX3_goes_89 (by decide)) <| blk_nil
theorem bX3_goes_92 : Blk CP mX3_goes 92 94 [oC (nI 0), oIS 1] := blk_c (s_iconst dX3_goes_92 (by decide +kernel)) <| blk_c (s_istore_n dX3_goes_93 rfl (by decide)) <| blk_nil
theorem bX3_goes_94 : Blk CP mX3_goes 94 102 [oIL 1, oAL 0, cQ1, qI 1 6 6] := blk_c (s_iload_n dX3_goes_94 rfl) <| blk_c (s_aload_n dX3_goes_95 rfl) <| blk_c (cgX3_12 (Or.inl q505) dX3_goes_96) <| blk_c (q_I (by decide) (fun _ _ => rfl) (Or.inr ⟨_, nq446⟩) dX3_goes_99) <| blk_nil
theorem bX3_goes_105 : Blk CP mX3_goes 105 107 [oAL 0, oIL 1] := blk_c (s_aload_n dX3_goes_105 rfl) <| blk_c (s_iload_n dX3_goes_106 rfl) <| blk_nil
theorem bX3_goes_110 : Blk CP mX3_goes 110 112 [oAL 0, oIL 1] := blk_c (s_aload_n dX3_goes_110 rfl) <| blk_c (s_iload_n dX3_goes_111 rfl) <| blk_nil
theorem bX3_goes_115 : Blk CP mX3_goes 115 117 [oAL 0, oIL 1] := blk_c (s_aload_n dX3_goes_115 rfl) <| blk_c (s_iload_n dX3_goes_116 rfl) <| blk_nil
theorem bX3_goes_120 : Blk CP mX3_goes 120 122 [oC (nI 0), oIS 2] := blk_c (s_iconst dX3_goes_120 (by decide +kernel)) <| blk_c (s_istore_n dX3_goes_121 rfl (by decide)) <| blk_nil
theorem bX3_goes_122 : Blk CP mX3_goes 122 135 [oIL 2, oAL 0, cQ1, qR 1 0 1, qSzC 1] := blk_c (s_iload_n dX3_goes_122 rfl) <| blk_c (s_aload_n dX3_goes_123 rfl) <| blk_c (cgX3_12 (Or.inl q505) dX3_goes_124) <| blk_c (q_R (by decide) (fun _ _ => rfl) (Or.inr ⟨_, nq426⟩) dX3_goes_127) <| blk_c (q_SzC (lw_F q1193 q803 q805 q136 q807) (by decide) dX3_goes_130) <| blk_nil
theorem bX3_goes_138 : Blk CP mX3_goes 138 141 [oAL 0, oIL 2, oIL 1] := blk_c (s_aload_n dX3_goes_138 rfl) <| blk_c (s_iload_n dX3_goes_139 rfl) <| blk_c (s_iload_n dX3_goes_140 rfl) <| blk_nil
theorem bX3_goes_144 : Blk CP mX3_goes 144 122 [oInc 2 1, .inl (fun s => some s)] := blk_c (s_iinc dX3_goes_144 (by decide +kernel) (by decide)) <| blk_c (s_goto (tgt := 122) dX3_goes_147 (by decide)) <| blk_nil
theorem bX3_goes_150 : Blk CP mX3_goes 150 94 [oInc 1 1, .inl (fun s => some s)] := blk_c (s_iinc dX3_goes_150 (by decide +kernel) (by decide)) <| blk_c (s_goto (tgt := 94) dX3_goes_153 (by decide)) <| blk_nil
theorem bX3_goes_156 : Blk CP mX3_goes 156 164 [oAL 0, oAL 0, cQ1, qI 1 6 6] := blk_c (s_aload_n dX3_goes_156 rfl) <| blk_c (s_aload_n dX3_goes_157 rfl) <| blk_c (cgX3_12 (Or.inl q505) dX3_goes_158) <| blk_c (q_I (by decide) (fun _ _ => rfl) (Or.inr ⟨_, nq446⟩) dX3_goes_161) <| blk_nil
theorem ok_goesC (hO : CrO A sw E v) : QC X mX3_goes [.ref (ad 3)] ad A B sk sw E (fun r A' B' => r = none ∧ GoC A A' B B' v (cfC A (sw 1)) (rsS (cfC A (sw 1)) (A 35) (B 3 17))) := by
  obtain ⟨hs, hw, e13, e37⟩ := id hO
  have h8 := hw.np8
  have h4 := hw.nc4
  have h40 := hw.sp40
  have npE := hw.npE
  have ncE := hw.ncE
  have spE : sw 1 6 = nI (v 6) := hw.1 6 (by decide)
  generalize hrs : rsS (cfC A (sw 1)) (A 35) (B 3 17) = rs
  have oRun : ∀ A1 B1 t, RunC A A1 B B1 v (cfC A (sw 1)) rs t → CrO A1 sw E v := fun A1 B1 t h => ⟨hs, hw, by rw [h.2.1 13 (by decide)]; exact e13, fun c hc => by rw [h.1 37 (by decide) (by decide) (by decide) (by decide) (by decide) (by decide) (by omega)]; exact e37 c hc⟩
  refine C_start (L := [some (.ref (ad 3)), none, none]) 2 rfl ?_
  refine bX3_goes_0.go rfl (by repeat' first | exact trivial | rfl | assumption | omega | apply And.intro) ?_
  refine c_fill (N := 4) rfl (by decide) dX3_goes_10 (lw_S q1159 q1110 q152 q1111) (by decide) (fun g1 hg1 => ?_)
  refine bX3_goes_13.go rfl (by repeat' first | exact trivial | rfl | assumption | omega | apply And.intro) ?_
  refine c_fill (N := 4) rfl (by decide) dX3_goes_18 (lw_S q1159 q1110 q152 q1111) (by decide) (fun g2 hg2 => ?_)
  refine bX3_goes_21.go rfl trivial ?_
  have run : ∀ t, t ≤ v 6 → ∀ A' B', RunC A A' B B' v (cfC A (sw 1)) rs t → JS CP X mX3_goes (rmOf mX3_goes.lv 0 0) (ZC X 0 0 (fun r x' => ∃ A' B', x' = (ad, A', B', sk, sw, E) ∧ (r = none ∧ GoC A A' B B' v (cfC A (sw 1)) rs))) 0 0 94 [some (.ref (ad 3)), some (.int (nI t)), none] [] (ad, A', B', sk, sw, E) := by
    intro t ht
    refine loop_down (N := v 6) (I := fun _ => True) (P := fun t => ∀ A' B', RunC A A' B B' v (cfC A (sw 1)) rs t → JS CP X mX3_goes (rmOf mX3_goes.lv 0 0) (ZC X 0 0 (fun r x' => ∃ A' B', x' = (ad, A', B', sk, sw, E) ∧ (r = none ∧ GoC A A' B B' v (cfC A (sw 1)) rs))) 0 0 94 [some (.ref (ad 3)), some (.int (nI t)), none] [] (ad, A', B', sk, sw, E)) ?_ ?_ t ht trivial
    · intro _ A' B' hR
      refine bX3_goes_94.go rfl (by repeat' first | exact trivial | rfl | assumption | omega | apply And.intro) ?_
      rw [spE]
      refine j_icmp_ge (tgt := 156) dX3_goes_102 (by decide) (fun h102 => ?_) (fun h102 => absurd (nI_le (Nat.le_refl _) (by omega)) h102)
      refine bX3_goes_156.go rfl (by repeat' first | exact trivial | rfl | assumption | omega | apply And.intro) ?_
      rw [spE]
      refine cq (M' := mX3_shows) (As := [.int (nI (v 6))]) (nA := 1) (ok_showsC (oRun A' B' _ hR) (Nat.le_refl _)) rec3 rfl (lw_V q1197 q1199 qs35 q137 q1200) dX3_goes_164 rfl hy_X3_shows (fun r A1 B1 q => ?_)
      obtain ⟨rfl, rfl, q1, q2⟩ := q
      refine c_vret dX3_goes_167 rfl ⟨_, _, rfl, rfl, ?_, fun c hc => ?_⟩
      · obtain ⟨f1, f2, ⟨f3, f4, f5⟩, f6, f7, f8, f9, f10, f11, f12⟩ := hR
        refine ⟨fun j a1 a2 a3 a4 a5 a6 a7 => by rw [q1 j (by omega)]; exact f1 j a1 a2 a3 a4 a5 a6 a7, fun q hq => by rw [q1 3 (by omega)]; exact f2 q hq, ⟨by rw [q1 3 (by omega)]; exact f3, by rw [q1 35 (by omega)]; exact f4, f5⟩, fun u hu c hc => by rw [q1 _ (by omega)]; exact f6 u hu c hc, fun u hu c hc => by rw [q2 c hc, va_up_ne _ _ (by omega)]; exact f7 u hu c hc, fun u hu p hp => by rw [q1 _ (by omega)]; exact f8 u hu p hp, fun c hc => by rw [q1 39 (by omega), q1 40 (by omega)]; exact f9 c hc, f10, f11, f12⟩
      · rw [q2 c hc, va_up_self]
        show shW (sw 1) _ c = shW (sw 1) _ c
        simp only [shW]
        rw [hR.2.2.2.1 (v 6) (Nat.le_refl _) c hc]
    · intro t htt _ ih A' B' hR
      refine bX3_goes_94.go rfl (by repeat' first | exact trivial | rfl | assumption | omega | apply And.intro) ?_
      rw [spE]
      refine j_icmp_ge (tgt := 156) dX3_goes_102 (by decide) (fun h102 => ?_) (fun h102 => ?_)
      · rw [nI_leI (by omega) (by omega)] at h102; omega
      · refine bX3_goes_105.go rfl trivial ?_
        refine cq (M' := mX3_shows) (As := [.int (nI t)]) (nA := 1) (ok_showsC (oRun A' B' _ hR) (by omega)) rec3 rfl (lw_V q1197 q1199 qs35 q137 q1200) dX3_goes_107 rfl hy_X3_shows (fun r A1 B1 q => ?_)
        obtain ⟨rfl, hB1, q1⟩ := q
        subst hB1
        have o1 : CrO A1 sw E v := by
          obtain ⟨a, b, c, d⟩ := oRun A' B1 _ hR
          exact ⟨a, b, by rw [q1.1 3 (by omega)]; exact c, fun k hk => by rw [q1.1 37 (by omega)]; exact d k hk⟩
        refine bX3_goes_110.go rfl trivial ?_
        refine cq (M' := mX3_draws) (As := [.int (nI t)]) (nA := 1) (ok_drawsC o1 htt) rec3 rfl (lw_V q1201 q1203 qs36 q137 q1204) dX3_goes_112 rfl hy_X3_draws (fun r A2 B2 q => ?_)
        obtain ⟨rfl, q2⟩ := q
        have o2 : CrO A2 sw E v := by
          obtain ⟨a, b, c, d⟩ := o1
          exact ⟨a, b, by rw [q2.1 3 (by omega)]; exact c, fun k hk => by rw [q2.1 37 (by omega)]; exact d k hk⟩
        have dr2 : DrOk A2 v := fun h16 p hp i hi => ⟨_, q2.2.2.2.2 (by rw [q2.1 3 (by omega)] at h16; exact h16) p hp i hi⟩
        have en : A2 3 14 = nI (rs t).on := by rw [q2.1 3 (by omega), q1.1 3 (by omega)]; exact hR.2.2.1.1
        refine bX3_goes_115.go rfl trivial ?_
        refine cq (M' := mX3_settles) (As := [.int (nI t)]) (nA := 1) (ok_settlesC o2 dr2 htt en hR.2.2.1.2.2) rec3 rfl (lw_V q1225 q1227 qs37 q137 q1228) dX3_goes_117 rfl hy_X3_settles (fun r A3 B3 q => ?_)
        obtain ⟨rfl, hB3, q3⟩ := q
        subst hB3
        have o3 : CrO A3 sw E v := by
          obtain ⟨a, b, c, d⟩ := o2
          exact ⟨a, b, by rw [q3.2.1 13 (by decide)]; exact c, fun k hk => by rw [q3.1 37 (by decide) (by decide) (by decide) (by decide) (by omega)]; exact d k hk⟩
        refine bX3_goes_120.go rfl trivial ?_
        refine loop_down (N := v 1) (I := fun _ => True) (P := fun k => ∀ A', StpsN A3 A' v t k → JS CP X mX3_goes (rmOf mX3_goes.lv 0 0) (ZC X 0 0 (fun r x' => ∃ A' B', x' = (ad, A', B', sk, sw, E) ∧ (r = none ∧ GoC A A' B B' v (cfC A (sw 1)) rs))) 0 0 122 [some (.ref (ad 3)), some (.int (nI t)), some (.int (nI k))] [] (ad, A', B3, sk, sw, E)) ?_ ?_ 0 (Nat.zero_le _) trivial A3 ⟨fun _ _ _ _ => rfl, fun k hk => by omega, fun _ _ => ⟨rfl, rfl⟩⟩
        · intro _ A4 hS
          refine bX3_goes_122.go rfl (by repeat' first | exact trivial | rfl | assumption | omega | apply And.intro) ?_
          rw [ncE]
          refine j_icmp_ge (tgt := 150) dX3_goes_135 (by decide) (fun h135 => ?_) (fun h135 => absurd (nI_le (Nat.le_refl _) (by omega)) h135)
          refine bX3_goes_150.go rfl trivial ?_
          rw [nI_1]
          refine JS.weak (by simp [lsub]) (ih trivial A4 B3 ?_)
          subst hrs
          exact RunC.step hw htt e37 hR q1 q2 q3 hS
        · intro k hk _ ih2 A4 hS
          refine bX3_goes_122.go rfl (by repeat' first | exact trivial | rfl | assumption | omega | apply And.intro) ?_
          rw [ncE]
          refine j_icmp_ge (tgt := 150) dX3_goes_135 (by decide) (fun h135 => ?_) (fun h135 => ?_)
          · rw [nI_leI (by omega) (by omega)] at h135; omega
          · have o4 : CrO A4 sw E v := by
              obtain ⟨a, b, c, d⟩ := o3
              exact ⟨a, b, by rw [hS.1 3 (by decide) (by decide) (by omega)]; exact c, fun k hk => by rw [hS.1 37 (by decide) (by decide) (by omega)]; exact d k hk⟩
            refine bX3_goes_138.go rfl trivial ?_
            refine cq (M' := mX3_steps) (As := [.int (nI k), .int (nI t)]) (nA := 2) (ok_stepsC o4 htt hk) rec3 rfl (lw_V q1291 q1293 qs42 q137 q1294) dX3_goes_141 rfl hy_X3_steps (fun r A5 B5 q => ?_)
            obtain ⟨rfl, hB5, q5⟩ := q
            subst hB5
            refine bX3_goes_144.go rfl trivial ?_
            rw [nI_1]
            exact ih2 trivial A5 (hS.step q5 h8 (by omega))
  refine loop_down (N := v 1) (I := fun _ => True) (P := fun k => ∀ A', (∀ j, (j < 64 ∨ 64 + v 1 ≤ j) → A' j = va_up (va_up (upA A 3 14 (nI 0)) 39 g1) 40 g2 j) → (∀ c, c < k → A' (64 + c) 0 = sw 1 (32 + 6 * c + 5) * sw 1 (32 + 6 * c + 3)) → JS CP X mX3_goes (rmOf mX3_goes.lv 0 0) (ZC X 0 0 (fun r x' => ∃ A' B', x' = (ad, A', B', sk, sw, E) ∧ (r = none ∧ GoC A A' B B' v (cfC A (sw 1)) rs))) 0 0 23 [some (.ref (ad 3)), some (.int (nI k)), none] [] (ad, A', B, sk, sw, E)) ?_ ?_ 0 (Nat.zero_le _) trivial _ (fun _ _ => rfl) (fun c hc => by omega)
  · intro _ A' hA hV
    refine bX3_goes_23.go rfl (by repeat' first | exact trivial | rfl | assumption | omega | apply And.intro) ?_
    rw [ncE]
    refine j_icmp_ge (tgt := 92) dX3_goes_36 (by decide) (fun h36 => ?_) (fun h36 => absurd (nI_le (Nat.le_refl _) (by omega)) h36)
    refine bX3_goes_92.go rfl trivial ?_
    refine run 0 (Nat.zero_le _) A' B ?_
    subst hrs
    have e3 : A' 3 = upA A 3 14 (nI 0) 3 := by rw [hA 3 (by omega), va_up_ne _ _ (by decide), va_up_ne _ _ (by decide)]
    refine ⟨fun j a1 a2 a3 a4 a5 a6 a7 => by rw [hA j (by omega), va_up_ne _ _ a6, va_up_ne _ _ a5, upA_ne a3], fun q hq => by rw [e3, upA_at, if_neg hq], ⟨by rw [e3, upA_at, if_pos rfl]; rfl, by rw [hA 35 (by omega), va_up_ne _ _ (by decide), va_up_ne _ _ (by decide), upA_ne (by decide)]; rfl, Nat.le_refl _⟩, fun u hu c hc => ?_, fun u hu => by omega, fun u hu => by omega, fun c hc => ⟨?_, ?_⟩, fun _ _ => rfl, fun _ _ => rfl, rfl⟩
    · have : u = 0 := by omega
      subst this
      exact hV c hc
    · rw [hA 39 (by omega), va_up_ne _ _ (by decide), va_up_self, hg1 c (by omega)]; rfl
    · rw [hA 40 (by omega), va_up_self, hg2 c (by omega)]; rfl
  · intro k hk _ ih A' hA hV
    refine bX3_goes_23.go rfl (by repeat' first | exact trivial | rfl | assumption | omega | apply And.intro) ?_
    rw [ncE]
    refine j_icmp_ge (tgt := 92) dX3_goes_36 (by decide) (fun h36 => ?_) (fun h36 => ?_)
    · rw [nI_leI (by omega) (by omega)] at h36; omega
    · refine bX3_goes_39.go rfl (by simp (disch := omega) only [nI_clamp, vpI, ncE]; repeat' first | exact trivial | rfl | assumption | omega | apply And.intro) ?_
      simp (disch := omega) only [nI_clamp, nI_1]
      refine ih trivial _ (fun j hj => by rw [upA_ne (by omega)]; exact hA j hj) (fun c hc => ?_)
      by_cases e : c = k
      · subst e; rw [upA_at, if_pos rfl]
      · rw [upA_ne (by omega)]; exact hV c (by omega)
end Goes
