set_option maxRecDepth 100000
/-! ===== a course through the minutes, as a function ===== -/
/-- world, how often keepers look, how open looks are taken, whether it is drawn -/
abbrev CF : Type := (Nat → Int32) × (Nat → Int32) × (Nat → Bool) × Bool
/-- parts of clocks, kept how often, last kept, looks and hours of the minute before, how many were open, which, the number drawn last -/
abbrev RS : Type := (Nat → Int32) × (Nat → Int32) × (Nat → Int32) × (Nat → Int32) × (Nat → Int32) × Nat × (Nat → Int32) × Int64
def RS.pt (r : RS) : Nat → Int32 := r.1
def RS.kM (r : RS) : Nat → Int32 := r.2.1
def RS.kL (r : RS) : Nat → Int32 := r.2.2.1
def RS.lp (r : RS) : Nat → Int32 := r.2.2.2.1
def RS.sp (r : RS) : Nat → Int32 := r.2.2.2.2.1
def RS.on (r : RS) : Nat := r.2.2.2.2.2.1
def RS.od (r : RS) : Nat → Int32 := r.2.2.2.2.2.2.1
def RS.z (r : RS) : Int64 := r.2.2.2.2.2.2.2
def nC (w : Nat → Int32) : Nat := (w 1).toNatClampNeg
def nP (w : Nat → Int32) : Nat := (w 2).toNatClampNeg
def spanW (w : Nat → Int32) : Nat := (w 6).toNatClampNeg
def minO (cf : CF) (m : Nat) (r : RS) : OS := LO (KS cf.1 r.lp r.sp m cf.2.2.2 r.z) (nC cf.1) (nP cf.1) cf.2.2.1 m r.on r.od
/-- a person's looks in the minute -/
def minL (cf : CF) (m : Nat) (r : RS) (p : Nat) : Int32 := lookBits (minO cf m r).1 p (nC cf.1)
def lkdB (cf : CF) (m : Nat) (r : RS) (c : Nat) : Bool := bitI (orP (minL cf m r) (nP cf.1)) c
def kpB (cf : CF) (m : Nat) (r : RS) (c : Nat) : Bool := !lkdB cf m r c && decide (r.kM c < cf.2.1 c)
def shW (w pt : Nat → Int32) (c : Nat) : Int32 := shI (pt c) (w (32 + 6 * c + 3)) (w (32 + 6 * c + 4))
def nxtR (cf : CF) (m : Nat) (r : RS) : RS :=
  (fun c => r.pt c + (if (lkdB cf m r c || decide (r.kM c < cf.2.1 c)) = true then nI 0 else cf.1 (32 + 6 * c + 2)),
   fun c => if kpB cf m r c = true then r.kM c + nI 1 else r.kM c,
   fun c => if kpB cf m r c = true then nI m else r.kL c,
   minL cf m r, shW cf.1 r.pt, (minO cf m r).2.1, (minO cf m r).2.2.1, rngP cf.1 (fun p c => seeB cf.1 p c m) cf.2.2.2 (nP cf.1) r.z)
def rsS (cf : CF) (od : Nat → Int32) (z : Int64) : Nat → RS
  | 0 => (fun c => cf.1 (32 + 6 * c + 5) * cf.1 (32 + 6 * c + 3), fun _ => nI 0, fun _ => -1, fun _ => nI 0, fun _ => nI 0, 0, od, z)
  | m + 1 => nxtR cf m (rsS cf od z m)
theorem LO_congr {v : Nat → Nat} {K K' : MC} (hK : KEq v K K') (h8 : v 2 ≤ 8) (h4 : v 1 ≤ 4) (tk : Nat → Bool) (m on : Nat) (od : Nat → Int32) : os32 (LO K (v 1) (v 2) tk m on od) (LO K' (v 1) (v 2) tk m on od) :=
  opL_congr hK h8 h4 tk m 33 _ _ ⟨stl_congr hK h8 h4 33 _ _ (fun _ _ => rfl), rfl⟩
theorem WOk.ncE {w : Nat → Int32} {v : Nat → Nat} (h : WOk w v) : nC w = v 1 := by
  rw [nC, h.1 1 (by decide)]; exact nI_clamp (by have := h.2.2.1; omega)
theorem WOk.npE {w : Nat → Int32} {v : Nat → Nat} (h : WOk w v) : nP w = v 2 := by
  rw [nP, h.1 2 (by decide)]; exact nI_clamp (by have := h.2.2.2.1; omega)
theorem WOk.span {w : Nat → Int32} {v : Nat → Nat} (h : WOk w v) : spanW w = v 6 := by
  rw [spanW, h.1 6 (by decide)]; exact nI_clamp (by have := h.2.2.2.2.2.2.2.1; omega)
/-- the model's arrays after m minutes of a course -/
def RunA (A : Nat → Nat → Int32) (B : Nat → Nat → Int64) (A' : Nat → Nat → Int32) (B' : Nat → Nat → Int64) (v : Nat → Nat) (rs : Nat → RS) (cf : CF) (m : Nat) : Prop :=
  (∀ k, k ≠ 0 → k ≠ 15 → k ≠ 16 → k ≠ 17 → k ≠ 18 → k ≠ 19 → k ≠ 20 → k ≠ 21 → k ≠ 26 → k ≠ 27 → k ≠ 30 → k ≠ 31 → A' k = A k) ∧ (∀ j, j ≠ 22 → A' 0 j = A 0 j) ∧ A' 0 22 = nI (rs m).on ∧ A' 21 = (rs m).od ∧ (rs m).on ≤ 32 * m ∧ SpAll A' v ∧
  (∀ t, t ≤ m → ∀ c, c < v 1 → A' 18 (4 * t + c) = (rs t).pt c) ∧ (∀ t, t < m → ∀ p, p < 8 → A' 19 (8 * t + p) = (if p < v 2 then minL cf t (rs t) p else nI 0) ∧ A' 20 (8 * t + p) = (minO cf t (rs t)).2.2.2 p) ∧
  (∀ c, c < v 1 → A' 27 c = (rs m).kM c ∧ A' 26 c = (rs m).kL c) ∧ (∀ k, k ≠ 29 → B' k = B k) ∧ B' 29 0 = (rs m).z
theorem RunA.step {A A1 A2 : Nat → Nat → Int32} {B B1 B2 : Nat → Nat → Int64} {v : Nat → Nat} {od : Nat → Int32} {z : Int64} {m : Nat} (hw : WOk (A 1) v) (hm : m < 40)
    (h : RunA A B A1 B1 v (rsS (A 1, A 25, tkA A, drA A) od z) (A 1, A 25, tkA A, drA A) m) (hg : Q_goes (nI m) A1 B1 none A2 B2) : RunA A B A2 B2 v (rsS (A 1, A 25, tkA A, drA A) od z) (A 1, A 25, tkA A, drA A) (m + 1) := by
  have h8 : v 2 ≤ 8 := hw.2.2.2.1
  have h4 : v 1 ≤ 4 := hw.2.2.1
  obtain ⟨f1, f2, f3, f4, f5, f6, f7, f8, f9, f10, f11⟩ := h
  obtain ⟨-, A3, ⟨-, hq⟩, hst⟩ := hg
  have g1 : A1 1 = A 1 := f1 1 (by decide) (by decide) (by decide) (by decide) (by decide) (by decide) (by decide) (by decide) (by decide) (by decide) (by decide) (by decide)
  have g25 : A1 25 = A 25 := f1 25 (by decide) (by decide) (by decide) (by decide) (by decide) (by decide) (by decide) (by decide) (by decide) (by decide) (by decide) (by decide)
  have g23 : A1 23 = A 23 := f1 23 (by decide) (by decide) (by decide) (by decide) (by decide) (by decide) (by decide) (by decide) (by decide) (by decide) (by decide) (by decide)
  have hw1 : WOk (A1 1) v := by rw [g1]; exact hw
  have tkE : tkA A1 = tkA A := by funext n; simp only [tkA, f2 24 (by decide), g23]
  have drE : drA A1 = drA A := by simp only [drA, f2 28 (by decide)]
  obtain ⟨hM, hle⟩ := hq v m _ hw1 rfl hm f3 f5
  have hS := hst v m hw1 rfl hm
  rw [g1, drE, tkE, f4, f11] at hM
  rw [g1, drE, tkE, f4, f11] at hle
  have hKE : KEq v (KS (A 1) (fun p => A1 19 (8 * (m - 1) + p)) (shA A1 (m - 1)) m (drA A) (rsS (A 1, A 25, tkA A, drA A) od z m).z) (KS (A 1) (rsS (A 1, A 25, tkA A, drA A) od z m).lp (rsS (A 1, A 25, tkA A, drA A) od z m).sp m (drA A) (rsS (A 1, A 25, tkA A, drA A) od z m).z) := by
    refine KEq.of hw (fun _ _ _ _ => rfl) (fun _ _ _ _ => rfl) (fun h0 p hp => ?_) (fun h0 c hc => ?_)
    · obtain ⟨m', rfl⟩ : ∃ m', m = m' + 1 := ⟨m - 1, by omega⟩
      have := (f8 m' (by omega) p (by omega)).1
      rw [if_pos hp] at this
      exact this
    · obtain ⟨m', rfl⟩ : ∃ m', m = m' + 1 := ⟨m - 1, by omega⟩
      have := f7 m' (by omega) c hc
      show shI (A1 18 (4 * m' + c)) (A1 1 _) (A1 1 _) = shW (A 1) (rsS (A 1, A 25, tkA A, drA A) od z m').pt c
      rw [this, g1]; rfl
  have hos := LO_congr hKE h8 h4 (tkA A) m (rsS (A 1, A 25, tkA A, drA A) od z m).on (rsS (A 1, A 25, tkA A, drA A) od z m).od
  have eO : LO (KS (A 1) (rsS (A 1, A 25, tkA A, drA A) od z m).lp (rsS (A 1, A 25, tkA A, drA A) od z m).sp m (drA A) (rsS (A 1, A 25, tkA A, drA A) od z m).z) (v 1) (v 2) (tkA A) m (rsS (A 1, A 25, tkA A, drA A) od z m).on (rsS (A 1, A 25, tkA A, drA A) od z m).od = minO (A 1, A 25, tkA A, drA A) m (rsS (A 1, A 25, tkA A, drA A) od z m) := by
    simp only [minO, hw.ncE, hw.npE]
  rw [eO] at hos
  obtain ⟨m1, m2, m3, m4, m5, m6, m7, m8, m9⟩ := hM
  obtain ⟨s1, s2, s3, s4⟩ := hS
  rw [hos.2] at m3 m4 m6 hle
  have eLB : ∀ p, p < 8 → A3 19 (8 * m + p) = if p < v 2 then minL (A 1, A 25, tkA A, drA A) m (rsS (A 1, A 25, tkA A, drA A) od z m) p else nI 0 := fun p hp => by
    rw [m7 p hp, lookBits_congr hos.1 hp _ h4]; simp only [minL, hw.ncE]
  have eLK : ∀ c, lookedA A3 v m c = lkdB (A 1, A 25, tkA A, drA A) m (rsS (A 1, A 25, tkA A, drA A) od z m) c := fun c => by
    simp only [lookedA, lkdB, hw.npE]
    rw [orP_congr (fun p hp => by rw [eLB p (by omega), if_pos hp])]
  have k3 : ∀ k, k ≠ 0 → k ≠ 17 → k ≠ 19 → k ≠ 20 → k ≠ 21 → k ≠ 30 → k ≠ 31 → A3 k = A1 k := m1
  have e27 : A3 27 = A1 27 := k3 27 (by decide) (by decide) (by decide) (by decide) (by decide) (by decide) (by decide)
  have e26 : A3 26 = A1 26 := k3 26 (by decide) (by decide) (by decide) (by decide) (by decide) (by decide) (by decide)
  have e25 : A3 25 = A 25 := by rw [k3 25 (by decide) (by decide) (by decide) (by decide) (by decide) (by decide) (by decide), g25]
  have e18 : A3 18 = A1 18 := k3 18 (by decide) (by decide) (by decide) (by decide) (by decide) (by decide) (by decide)
  have e1' : A3 1 = A 1 := by rw [k3 1 (by decide) (by decide) (by decide) (by decide) (by decide) (by decide) (by decide), g1]
  refine ⟨fun k a0 a15 a16 a17 a18 a19 a20 a21 a26 a27 a30 a31 => ?_, fun j hj => ?_, ?_, ?_, ?_, fun p hp t ht => ?_, fun t ht c hc => ?_, fun t ht p hp => ?_, fun c hc => ?_, fun k hk => by rw [m8 k hk, f10 k hk], ?_⟩
  · rw [s1 k a18 a26 a27, k3 k a0 a17 a19 a20 a21 a30 a31]; exact f1 k a0 a15 a16 a17 a18 a19 a20 a21 a26 a27 a30 a31
  · rw [s1 0 (by decide) (by decide) (by decide), m2 j hj]; exact f2 j hj
  · rw [s1 0 (by decide) (by decide) (by decide), m3]; rfl
  · rw [s1 21 (by decide) (by decide) (by decide), m4]; rfl
  · show (minO _ m _).2.1 ≤ _
    omega
  · rw [s1 15 (by decide) (by decide) (by decide), s1 16 (by decide) (by decide) (by decide), s1 1 (by decide) (by decide) (by decide), k3 15 (by decide) (by decide) (by decide) (by decide) (by decide) (by decide) (by decide), k3 16 (by decide) (by decide) (by decide) (by decide) (by decide) (by decide) (by decide), e1', ← g1]
    exact f6 p hp t ht
  · by_cases e : t = m + 1
    · subst e
      rw [(s4 c hc).1, e18, f7 m (Nat.le_refl _) c hc, eLK, e27, (f9 c hc).1, e25, e1']
      rfl
    · rw [s2 _ (by omega), e18]; exact f7 t (by omega) c hc
  · rw [s1 19 (by decide) (by decide) (by decide), s1 20 (by decide) (by decide) (by decide)]
    by_cases e : t = m
    · subst e
      exact ⟨eLB p hp, m6 p hp⟩
    · rw [(m5 _ (by omega)).1, (m5 _ (by omega)).2]; exact f8 t (by omega) p hp
  · have := (s4 c hc).2
    rw [eLK, e27, e26, (f9 c hc).1, (f9 c hc).2, e25] at this
    exact ⟨this.1, this.2⟩
  · rw [m9]; show _ = rngP _ _ _ (nP (A 1)) _; rw [hw.npE]
