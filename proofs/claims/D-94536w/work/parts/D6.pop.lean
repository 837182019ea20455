set_option maxRecDepth 100000
/-! ===== bits of a long, counted ===== -/
def popN (x : Nat) : Nat → Nat
  | 0 => 0
  | n + 1 => popN x n + (if x.testBit n = true then 1 else 0)
theorem popN_or (x h : Nat) : ∀ n, popN (x ||| 2 ^ h) n = popN x n + (if h < n ∧ x.testBit h = false then 1 else 0) := by
  intro n
  induction n with
  | zero => rfl
  | succ n ih =>
    simp only [popN, ih, Nat.testBit_or, Nat.testBit_two_pow]
    by_cases e : h = n
    · subst e
      cases hb : x.testBit h <;> simp
    · have : decide (h = n) = false := decide_eq_false e
      rw [this, Bool.or_false]
      have e2 : (h < n + 1 ∧ x.testBit h = false) ↔ (h < n ∧ x.testBit h = false) := by constructor <;> (rintro ⟨a, b⟩; exact ⟨by omega, b⟩)
      by_cases q : h < n ∧ x.testBit h = false
      · rw [if_pos q, if_pos (e2.mpr q)]; omega
      · rw [if_neg q, if_neg (fun z => q (e2.mp z))]; simp
theorem pop0 : ∀ n, popN 0 n = 0 := by
  intro n
  induction n with
  | zero => rfl
  | succ n ih => simp [popN, ih]
theorem and_split {a m : Nat} (ha : a < 256) (hm : m < 256) (y k : Nat) : (a + 256 * y) &&& (m + 256 * k) = (a &&& m) + 256 * (y &&& k) := by
  have ham : a &&& m < 256 := Nat.lt_of_le_of_lt Nat.and_le_left ha
  apply Nat.eq_of_testBit_eq
  intro i
  rw [Nat.testBit_and, Nat.add_comm a, Nat.add_comm m, Nat.add_comm (a &&& m), show (256 : Nat) = 2 ^ 8 from rfl, Nat.testBit_two_pow_mul_add _ ha, Nat.testBit_two_pow_mul_add _ hm, Nat.testBit_two_pow_mul_add _ ham, Nat.testBit_and, Nat.testBit_and]
  split <;> rfl
def mkN (b : Nat) : Nat → Nat
  | 0 => 0
  | n + 1 => b + 256 * mkN b n
def h1N (m x : Nat) : Nat := x - ((x / 2) &&& m)
def h2N (m x : Nat) : Nat := (x &&& m) + ((x / 4) &&& m)
def h3N (m x : Nat) : Nat := (x + x / 16) &&& m
theorem h1_b : ∀ a, a < 256 → ∀ q, q < 2 → ((a / 2 + 128 * q) &&& 85) = ((a / 2) &&& 85) ∧ ((a / 2) &&& 85) ≤ a ∧ h1N 85 a < 256 := by decide +kernel
theorem h2_b : ∀ a, a < 256 → ∀ q, q < 4 → ((a / 4 + 64 * q) &&& 51) = ((a / 4) &&& 51) := by decide +kernel
theorem h2_c : ∀ a, a < 256 → h2N 51 (h1N 85 a) < 80 ∧ h2N 51 (h1N 85 a) % 16 ≤ 4 ∧ h3N 15 (h2N 51 (h1N 85 a)) = popN a 8 := by decide +kernel
theorem h3_b : ∀ a, a < 80 → ∀ q, q < 5 → ((a + a / 16 + 16 * q) &&& 15) = ((a + a / 16) &&& 15) := by decide +kernel
theorem h1_s (n a y : Nat) (ha : a < 256) : h1N (mkN 85 (n + 1)) (a + 256 * y) = h1N 85 a + 256 * h1N (mkN 85 n) y := by
  obtain ⟨q1, q2, -⟩ := h1_b a ha (y % 2) (Nat.mod_lt _ (by decide))
  unfold h1N
  rw [mkN, show (a + 256 * y) / 2 = (a / 2 + 128 * (y % 2)) + 256 * (y / 2) by omega, and_split (by omega) (by decide), q1]
  have : (y / 2) &&& mkN 85 n ≤ y := Nat.le_trans Nat.and_le_left (Nat.div_le_self _ _)
  omega
theorem h2_s (n a y : Nat) (ha : a < 256) : h2N (mkN 51 (n + 1)) (a + 256 * y) = h2N 51 a + 256 * h2N (mkN 51 n) y := by
  have q1 := h2_b a ha (y % 4) (Nat.mod_lt _ (by decide))
  unfold h2N
  rw [mkN, and_split ha (by decide), show (a + 256 * y) / 4 = (a / 4 + 64 * (y % 4)) + 256 * (y / 4) by omega, and_split (by omega) (by decide), q1]
  omega
theorem h3_s (n a y : Nat) (ha : a < 80) (hy : y % 16 ≤ 4) : h3N (mkN 15 (n + 1)) (a + 256 * y) = h3N 15 a + 256 * h3N (mkN 15 n) y := by
  have q1 := h3_b a ha (y % 16) (by omega)
  unfold h3N
  rw [mkN, show a + 256 * y + (a + 256 * y) / 16 = (a + a / 16 + 16 * (y % 16)) + 256 * (y + y / 16) by omega, and_split (by omega) (by decide), q1]
def hN (n x : Nat) : Nat := h3N (mkN 15 n) (h2N (mkN 51 n) (h1N (mkN 85 n) x))
theorem h2_m (n x : Nat) (hx : x < 256 ^ n) : h2N (mkN 51 n) (h1N (mkN 85 n) x) % 16 ≤ 4 := by
  cases n with
  | zero =>
    have : x = 0 := by simpa using hx
    subst this; decide
  | succ n =>
    rw [show x = x % 256 + 256 * (x / 256) by omega, h1_s n _ _ (by omega), h2_s n _ _ (h1_b _ (by omega) 0 (by decide)).2.2]
    have := (h2_c (x % 256) (by omega)).2.1
    omega
theorem hN_s (n a y : Nat) (ha : a < 256) (hy : y < 256 ^ n) : hN (n + 1) (a + 256 * y) = popN a 8 + 256 * hN n y := by
  unfold hN
  rw [h1_s n a y ha, h2_s n _ _ (h1_b a ha 0 (by decide)).2.2, h3_s n _ _ (h2_c a ha).1 (h2_m n y hy), (h2_c a ha).2.2]
theorem popN_le (x : Nat) : ∀ n, popN x n ≤ n := by
  intro n
  induction n with
  | zero => exact Nat.le_refl _
  | succ n ih => simp only [popN]; split <;> omega
theorem popN_cg {x y : Nat} {n : Nat} (h : ∀ i, i < n → x.testBit i = y.testBit i) : popN x n = popN y n := by
  induction n with
  | zero => rfl
  | succ n ih => simp only [popN]; rw [ih (fun i hi => h i (by omega)), h n (by omega)]
theorem popN_add (x m : Nat) : ∀ n, popN x (m + n) = popN x m + popN (x / 2 ^ m) n := by
  intro n
  induction n with
  | zero => rfl
  | succ n ih => rw [← Nat.add_assoc]; simp only [popN]; rw [ih, Nat.testBit_div_two_pow, Nat.add_comm n m]; omega
theorem popN_s (a y n : Nat) (ha : a < 256) : popN (a + 256 * y) (8 + n) = popN a 8 + popN y n := by
  rw [popN_add, show (a + 256 * y) / 2 ^ 8 = y by omega]
  congr 1
  refine popN_cg (fun i hi => ?_)
  rw [Nat.add_comm a, show (256 : Nat) = 2 ^ 8 from rfl, Nat.testBit_two_pow_mul_add _ ha, if_pos hi]
/-- eight bytes' counts, added -/
theorem dv1 {a : Nat} (y : Nat) (ha : a < 256) : (a + 256 * y) / 2 ^ 8 = y := by omega
theorem dv2 {a b : Nat} (y : Nat) (ha : a < 256) (hb : b < 256) : (a + 256 * (b + 256 * y)) / 2 ^ 16 = y := by omega
theorem dv4 {a b c d : Nat} (y : Nat) (ha : a < 256) (hb : b < 256) (hc : c < 256) (hd : d < 256) : (a + 256 * (b + 256 * (c + 256 * (d + 256 * y)))) / 2 ^ 32 = y := by omega
theorem ad2 (a y b z : Nat) : (a + 256 * y) + (b + 256 * z) = (a + b) + 256 * (y + z) := by omega
theorem hSum (p0 p1 p2 p3 p4 p5 p6 p7 : Nat) (h0 : p0 ≤ 8) (h1 : p1 ≤ 8) (h2 : p2 ≤ 8) (h3 : p3 ≤ 8) (h4 : p4 ≤ 8) (h5 : p5 ≤ 8) (h6 : p6 ≤ 8) (h7 : p7 ≤ 8) (s : Nat) (hs : s = p0 + 256 * (p1 + 256 * (p2 + 256 * (p3 + 256 * (p4 + 256 * (p5 + 256 * (p6 + 256 * p7))))))) :
    ∃ s4 s5 s6, s4 = s + s / 2 ^ 8 ∧ s5 = s4 + s4 / 2 ^ 16 ∧ s6 = s5 + s5 / 2 ^ 32 ∧ s4 < 2 ^ 63 ∧ s5 < 2 ^ 63 ∧ s6 < 2 ^ 63 ∧ s6 % 128 = p0 + p1 + p2 + p3 + p4 + p5 + p6 + p7 := by
  have e4 : s / 2 ^ 8 = p1 + 256 * (p2 + 256 * (p3 + 256 * (p4 + 256 * (p5 + 256 * (p6 + 256 * p7))))) := by rw [hs]; exact dv1 _ (by omega)
  have f4 : s + s / 2 ^ 8 = (p0 + p1) + 256 * ((p1 + p2) + 256 * ((p2 + p3) + 256 * ((p3 + p4) + 256 * ((p4 + p5) + 256 * ((p5 + p6) + 256 * (p6 + p7 + 256 * p7)))))) := by
    rw [e4, hs, ad2, ad2, ad2, ad2, ad2, ad2]
    congr 12
    omega
  obtain ⟨s4, hs4⟩ : ∃ s4, s4 = s + s / 2 ^ 8 := ⟨_, rfl⟩
  rw [← hs4] at f4
  have e5 : s4 / 2 ^ 16 = (p2 + p3) + 256 * ((p3 + p4) + 256 * ((p4 + p5) + 256 * ((p5 + p6) + 256 * (p6 + p7 + 256 * p7)))) := by rw [f4]; exact dv2 _ (by omega) (by omega)
  have f5 : s4 + s4 / 2 ^ 16 = (p0 + p1 + (p2 + p3)) + 256 * ((p1 + p2 + (p3 + p4)) + 256 * ((p2 + p3 + (p4 + p5)) + 256 * ((p3 + p4 + (p5 + p6)) + 256 * ((p4 + p5 + (p6 + p7)) + 256 * (p5 + p6 + p7 + 256 * (p6 + p7 + 256 * p7)))))) := by
    rw [e5, f4, ad2, ad2, ad2, ad2, ad2]
    congr 10
    omega
  obtain ⟨s5, hs5⟩ : ∃ s5, s5 = s4 + s4 / 2 ^ 16 := ⟨_, rfl⟩
  rw [← hs5] at f5
  have e6 : s5 / 2 ^ 32 = (p4 + p5 + (p6 + p7)) + 256 * (p5 + p6 + p7 + 256 * (p6 + p7 + 256 * p7)) := by rw [f5]; exact dv4 _ (by omega) (by omega) (by omega) (by omega)
  clear e4 e5 hs
  refine ⟨s4, s5, s5 + s5 / 2 ^ 32, hs4, hs5, rfl, ?_, ?_, ?_, ?_⟩
  · clear hs4 hs5 f5 e6; rw [f4]; omega
  · clear hs4 hs5 f4 e6; rw [f5]; omega
  · rw [e6, f5, ad2]; clear hs4 hs5 f4 f5 e6; omega
  · rw [e6, f5, ad2]
    clear hs4 hs5 f4 f5 e6
    generalize p1 + p2 + (p3 + p4) + 256 * (p2 + p3 + (p4 + p5) + 256 * (p3 + p4 + (p5 + p6) + 256 * (p4 + p5 + (p6 + p7) + 256 * (p5 + p6 + p7 + 256 * (p6 + p7 + 256 * p7))))) + (p5 + p6 + p7 + 256 * (p6 + p7 + 256 * p7)) = Y
    omega
theorem h8N (x : Nat) (hx : x < 2 ^ 64) : ∃ s4 s5 s6, s4 = hN 8 x + hN 8 x / 2 ^ 8 ∧ s5 = s4 + s4 / 2 ^ 16 ∧ s6 = s5 + s5 / 2 ^ 32 ∧ s4 < 2 ^ 63 ∧ s5 < 2 ^ 63 ∧ s6 < 2 ^ 63 ∧ s6 % 128 = popN x 64 ∧ hN 8 x < 2 ^ 63 := by
  have st : ∀ n z, z < 256 ^ (n + 1) → hN (n + 1) z = popN (z % 256) 8 + 256 * hN n (z / 256) ∧ popN z (8 + 8 * n) = popN (z % 256) 8 + popN (z / 256) (8 * n) ∧ z / 256 < 256 ^ n := by
    intro n z hz
    have hz' : z / 256 < 256 ^ n := by rw [Nat.pow_succ] at hz; exact Nat.div_lt_of_lt_mul (by rw [Nat.mul_comm]; exact hz)
    have e : z % 256 + 256 * (z / 256) = z := by omega
    refine ⟨?_, ?_, hz'⟩
    · have := hN_s n (z % 256) (z / 256) (by omega) hz'
      rw [e] at this; exact this
    · have := popN_s (z % 256) (z / 256) (8 * n) (by omega)
      rw [e] at this; exact this
  have lb : ∀ z, popN (z % 256) 8 ≤ 8 := fun z => popN_le _ _
  obtain ⟨a0, b0, c0⟩ := st 7 x (by rw [show (256 : Nat) ^ (7 + 1) = 2 ^ 64 by decide]; exact hx)
  obtain ⟨a1, b1, c1⟩ := st 6 _ c0
  obtain ⟨a2, b2, c2⟩ := st 5 _ c1
  obtain ⟨a3, b3, c3⟩ := st 4 _ c2
  obtain ⟨a4, b4, c4⟩ := st 3 _ c3
  obtain ⟨a5, b5, c5⟩ := st 2 _ c4
  obtain ⟨a6, b6, c6⟩ := st 1 _ c5
  obtain ⟨a7, b7, c7⟩ := st 0 _ c6
  have z0 : x / 256 / 256 / 256 / 256 / 256 / 256 / 256 / 256 = 0 := by simpa using c7
  rw [z0] at a7 b7
  have h00 : hN 0 0 = 0 := rfl
  obtain ⟨s4, s5, s6, q1, q2, q3, q4, q5, q6, q7⟩ := hSum _ _ _ _ _ _ _ _ (lb x) (lb (x / 256)) (lb (x / 256 / 256)) (lb (x / 256 / 256 / 256)) (lb (x / 256 / 256 / 256 / 256)) (lb (x / 256 / 256 / 256 / 256 / 256)) (lb (x / 256 / 256 / 256 / 256 / 256 / 256)) (lb (x / 256 / 256 / 256 / 256 / 256 / 256 / 256)) (hN 8 x) (by
    rw [a0, a1, a2, a3, a4, a5, a6, a7, h00, Nat.mul_zero, Nat.add_zero])
  refine ⟨s4, s5, s6, q1, q2, q3, q4, q5, q6, ?_, ?_⟩
  · rw [q7]
    have e : popN x 64 = popN x (8 + 8 * 7) := rfl
    have z : popN 0 (8 * 0) = 0 := rfl
    rw [e, b0, show 8 * 7 = 8 + 8 * 6 from rfl, b1, show 8 * 6 = 8 + 8 * 5 from rfl, b2, show 8 * 5 = 8 + 8 * 4 from rfl, b3, show 8 * 4 = 8 + 8 * 3 from rfl, b4, show 8 * 3 = 8 + 8 * 2 from rfl, b5, show 8 * 2 = 8 + 8 * 1 from rfl, b6, show 8 * 1 = 8 + 8 * 0 from rfl, b7, z]
    clear a0 a1 a2 a3 a4 a5 a6 a7 b0 b1 b2 b3 b4 b5 b6 b7
    omega
  · have : hN 8 x ≤ s4 := by omega
    omega
