set_option maxRecDepth 100000
/-! ===== UnseenClockModel: looksIn, the whole ===== -/
theorem rng_congr {w : Nat → Int32} {v : Nat → Nat} (hw : WOk w v) {see see' : Nat → Nat → Bool} (hsee : ∀ p, p < v 2 → ∀ c, c < v 1 → see p c = see' p c) (dr : Bool) {p : Nat} (hp : p < v 2) {i : Nat} (hi : i < v (56 + 33 * p + 4)) : drB w see dr p i = drB w see' dr p i := by
  have h4 : v 1 ≤ 4 := hw.2.2.1
  obtain ⟨c, k, n, q, ec, -, -, -, hc, -⟩ := hw.look hp hi
  simp only [drB, ec, nI_clamp (show c < 2 ^ 31 by omega), hsee p hp c hc]
theorem rngI_congr {w : Nat → Int32} {v : Nat → Nat} (hw : WOk w v) {see see' : Nat → Nat → Bool} (hsee : ∀ p, p < v 2 → ∀ c, c < v 1 → see p c = see' p c) (dr : Bool) {p : Nat} (hp : p < v 2) (z : Int64) : ∀ i, i ≤ v (56 + 33 * p + 4) → rngI w see dr p i z = rngI w see' dr p i z := by
  intro i
  induction i with
  | zero => intro _; rfl
  | succ i ih => intro hi; simp only [rngI]; rw [ih (by omega), rng_congr hw hsee dr hp (by omega)]
theorem rngP_congr {w : Nat → Int32} {v : Nat → Nat} (hw : WOk w v) {see see' : Nat → Nat → Bool} (hsee : ∀ p, p < v 2 → ∀ c, c < v 1 → see p c = see' p c) (dr : Bool) (z : Int64) : ∀ p, p ≤ v 2 → rngP w see dr p z = rngP w see' dr p z := by
  have h8 : v 2 ≤ 8 := hw.2.2.2.1
  intro p
  induction p with
  | zero => intro _; rfl
  | succ p ih =>
    intro hp
    have b4 : v (56 + 33 * p + 4) ≤ 4 := (hw.2.2.2.2.2.2.2.2.2.2.2.1 p (by omega)).2.2.2.2.1
    have e4 : (perI w p 4).toNatClampNeg = v (56 + 33 * p + 4) := by rw [perI, hw.1 _ (by omega)]; exact nI_clamp (by omega)
    simp only [rngP, e4]
    rw [ih (by omega), rngI_congr hw hsee dr (by omega) _ _ (Nat.le_refl _)]
theorem mbF_congr {w : Nat → Int32} {v : Nat → Nat} (hw : WOk w v) {see see' : Nat → Nat → Bool} (hsee : ∀ p, p < v 2 → ∀ c, c < v 1 → see p c = see' p c) (dr : Bool) (z : Int64) {p : Nat} (hp : p < v 2) {i : Nat} (hi : i < v (56 + 33 * p + 4)) : mbF w see dr z p i = mbF w see' dr z p i := by
  simp only [mbF]
  rw [rng_congr hw hsee dr hp hi, rngP_congr hw hsee dr z p (by omega), rngI_congr hw hsee dr hp _ i (by omega)]
def Pre_looksIn (m : Int32) (A : Nat → Nat → Int32) (_ : Nat → Nat → Int64) : Prop := ∃ (v : Nat → Nat) (mn n0 : Nat), WOk (A 1) v ∧ mn < 40 ∧ m = nI mn ∧ A 0 22 = nI n0 ∧ n0 ≤ 32 * mn ∧ SpAll A v
/-- what a minute does to the arrays -/
def MinA (A : Nat → Nat → Int32) (B : Nat → Nat → Int64) (A' : Nat → Nat → Int32) (B' : Nat → Nat → Int64) (v : Nat → Nat) (mn : Nat) (z' : Int64) (s : OS) : Prop :=
  (∀ k, k ≠ 0 → k ≠ 17 → k ≠ 19 → k ≠ 20 → k ≠ 21 → k ≠ 30 → k ≠ 31 → A' k = A k) ∧ (∀ j, j ≠ 22 → A' 0 j = A 0 j) ∧ A' 0 22 = nI s.2.1 ∧ A' 21 = s.2.2.1 ∧ (∀ j, j < 8 * mn ∨ 8 * mn + 8 ≤ j → A' 19 j = A 19 j ∧ A' 20 j = A 20 j) ∧ (∀ p, p < 8 → A' 20 (8 * mn + p) = s.2.2.2 p) ∧ (∀ p, p < 8 → A' 19 (8 * mn + p) = if p < v 2 then lookBits s.1 p (v 1) else nI 0) ∧ (∀ k, k ≠ 29 → B' k = B k) ∧ B' 29 0 = z'
def Q_looksIn (m : Int32) (A : Nat → Nat → Int32) (B : Nat → Nat → Int64) : QR := fun r A' B' => r = none ∧ ∀ (v : Nat → Nat) (mn n0 : Nat), WOk (A 1) v → m = nI mn → mn < 40 → A 0 22 = nI n0 → n0 ≤ 32 * mn →
  MinA A B A' B' v mn (rngP (A 1) (fun p c => seeB (A 1) p c mn) (drA A) (v 2) (B 29 0)) (LO (KS (A 1) (fun p => A 19 (8 * (mn - 1) + p)) (shA A (mn - 1)) mn (drA A) (B 29 0)) (v 1) (v 2) (tkA A) mn n0 (A 21)) ∧
  (LO (KS (A 1) (fun p => A 19 (8 * (mn - 1) + p)) (shA A (mn - 1)) mn (drA A) (B 29 0)) (v 1) (v 2) (tkA A) mn n0 (A 21)).2.1 ≤ n0 + 32
theorem ok_looksIn : RC_I mX4_looksIn Pre_looksIn Q_looksIn := by
  intro X m o ad A B hpre
  obtain ⟨v, mn, n0, hw, hm, rfl, hn, hn0, hsp⟩ := hpre
  have h8 : v 2 ≤ 8 := hw.2.2.2.1
  have h4 : v 1 ≤ 4 := hw.2.2.1
  have e1 : A 1 1 = nI (v 1) := hw.1 1 (by decide)
  have e2 : A 1 2 = nI (v 2) := hw.1 2 (by decide)
  refine R_start (L := [some (.ref o), some (.int (nI mn)), none, none, none]) 3 rfl ?_
  refine bX4_looksIn_0.go rfl trivial ?_
  refine rc_I ok_fillSeeing gX4_fillSeeing dX4_looksIn_2 rfl ⟨v, hw, by rw [vpI (by omega)]; exact hm, hsp⟩ (fun r2 A2 B2 q2 => ?_)
  obtain ⟨rfl, hB2, s1, s2⟩ := q2
  have hB2 := hB2.symm
  subst hB2
  have s2 := s2 v hw
  rw [nI_clamp (by omega)] at s2
  have g2 : A2 1 = A 1 := s1 1 (by decide)
  have see2 : ∀ p, p < v 2 → ∀ c, c < v 1 → seeA A2 p c = seeB (A 1) p c mn := fun p hp c hc => by
    rw [seeA, s2 p hp c hc]
    cases seeB (A 1) p c mn <;> decide +kernel
  refine bX4_looksIn_5.go rfl trivial ?_
  refine rc_V ok_drawsMaybes gX4_drawsMaybes dX4_looksIn_6 rfl ⟨v, by rw [g2]; exact hw⟩ (fun r6 A6 B6 q6 => ?_)
  obtain ⟨rfl, d1, d2, d3⟩ := q6
  obtain ⟨d3, d4⟩ := d3 v (by rw [g2]; exact hw)
  have drE : drA A2 = drA A := by simp only [drA, s1 0 (by decide)]
  rw [g2, drE] at d3 d4
  rw [rngP_congr hw see2 _ _ _ (Nat.le_refl _)] at d3
  have f6 : ∀ k, k ≠ 17 → k ≠ 31 → A6 k = A k := fun k a b => by rw [d1 k b, s1 k a]
  have mb6 : ∀ p, p < v 2 → ∀ i, i < v (56 + 33 * p + 4) → mbA A6 p i = mbF (A 1) (fun p c => seeB (A 1) p c mn) (drA A) (B 29 0) p i := fun p hp i hi => by
    rw [mbA, d4 p hp i hi, mbF_congr hw see2 _ _ hp hi]
    cases mbF (A 1) (fun p c => seeB (A 1) p c mn) (drA A) (B 29 0) p i <;> decide +kernel
  have see6 : ∀ p, p < v 2 → ∀ c, c < v 1 → seeA A6 p c = seeB (A 1) p c mn := fun p hp c hc => by
    rw [← see2 p hp c hc]; simp only [seeA, d1 17 (by decide)]
  refine bX4_looksIn_9.go rfl trivial ?_
  refine loop_down (N := 32) (I := fun _ => True) (P := fun t => ∀ A', (∀ k, k ≠ 30 → A' k = A6 k) → (∀ k, k < t → A' 30 k = -1) → JS TP X mX4_looksIn (rmOf mX4_looksIn.lv 0 0) (ZR X o ad (Q_looksIn (nI mn) A B)) 0 0 11 [some (.ref o), some (.int (nI mn)), some (.int (nI t)), none, none] [] (o, ad, A', B6)) ?_ ?_ 0 (by omega) trivial A6 (fun _ _ => rfl) (fun k h => by omega)
  · intro _ A7 hA7 hV
    refine bX4_looksIn_11.go rfl trivial ?_
    refine j_icmp_ge (tgt := 30) dX4_looksIn_14 (by decide) (fun h14 => ?_) (fun h14 => absurd (by decide) h14)
    refine bX4_looksIn_30.go rfl trivial ?_
    refine loop_down (N := 8) (I := fun _ => True) (P := fun t => ∀ A', (∀ k, k ≠ 19 → k ≠ 20 → A' k = A7 k) → (∀ j, j < 8 * mn ∨ 8 * mn + t ≤ j → A' 19 j = A 19 j ∧ A' 20 j = A 20 j) → (∀ p, p < t → A' 19 (8 * mn + p) = nI 0 ∧ A' 20 (8 * mn + p) = nI 0) → JS TP X mX4_looksIn (rmOf mX4_looksIn.lv 0 0) (ZR X o ad (Q_looksIn (nI mn) A B)) 0 0 32 [some (.ref o), some (.int (nI mn)), some (.int (nI t)), none, none] [] (o, ad, A', B6)) ?_ ?_ 0 (by omega) trivial A7 (fun _ _ _ => rfl) (fun j _ => by rw [hA7 19 (by decide), hA7 20 (by decide), f6 19 (by decide) (by decide), f6 20 (by decide) (by decide)]; exact ⟨rfl, rfl⟩) (fun p h => by omega)
    · intro _ A8 hA8 hO hZ
      have f8 : ∀ k, k ≠ 17 → k ≠ 19 → k ≠ 20 → k ≠ 30 → k ≠ 31 → A8 k = A k := fun k a b c d e => by rw [hA8 k b c, hA7 k d, f6 k a e]
      have g8 : A8 1 = A 1 := f8 1 (by decide) (by decide) (by decide) (by decide) (by decide)
      have V8 : E32 (A8 30) (fun _ => -1) := fun k hk => by rw [hA8 30 (by decide) (by decide)]; exact hV k hk
      have h17 : A8 17 = A6 17 := by rw [hA8 17 (by decide) (by decide), hA7 17 (by decide)]
      have h31 : A8 31 = A6 31 := by rw [hA8 31 (by decide) (by decide), hA7 31 (by decide)]
      have hKE : KEq v (mcA A8 mn) (KS (A 1) (fun p => A 19 (8 * (mn - 1) + p)) (shA A (mn - 1)) mn (drA A) (B 29 0)) := by
        rw [show mcA A8 mn = (A 1, seeA A8, mbA A8, fun p => A8 19 (8 * (mn - 1) + p), shA A8 (mn - 1), mn) by rw [mcA, g8]]
        refine KEq.of hw (fun p hp c hc => ?_) (fun p hp i hi => ?_) (fun h0 p hp => ?_) (fun h0 c hc => ?_)
        · rw [← see6 p hp c hc]; simp only [seeA, h17]
        · rw [← mb6 p hp i hi]; simp only [mbA, h31]
        · exact (hO (8 * (mn - 1) + p) (by omega)).1
        · simp only [shA, g8, f8 18 (by decide) (by decide) (by decide) (by decide) (by decide)]
      refine bX4_looksIn_32.go rfl trivial ?_
      refine j_icmp_ge (tgt := 68) dX4_looksIn_35 (by decide) (fun h35 => ?_) (fun h35 => absurd (by decide) h35)
      refine bX4_looksIn_68.go rfl trivial ?_
      refine rc_I ok_settles gX4_settles dX4_looksIn_70 rfl ⟨v, mn, by rw [g8]; exact hw, hm, rfl⟩ (fun r9 A9 B9 q9 => ?_)
      obtain ⟨rfl, rfl, t1, t2⟩ := q9
      have g9 : A9 1 = A 1 := by rw [t1 1 (by decide)]; exact g8
      simp (disch := omega) only [nI_clamp, g8, e1, e2] at t2
      refine bX4_looksIn_73.go rfl ⟨⟨rfl, v, by rw [g9]; exact hw⟩, trivial⟩ ?_
      simp (disch := omega) only [g9, e1, e2, nI_clamp, VA_vf]
      have hK9 : mcA A9 mn = mcA A8 mn := mcA_congr t1 mn
      have on9 : A9 0 22 = nI n0 := by rw [t1 0 (by decide), f8 0 (by decide) (by decide) (by decide) (by decide) (by decide)]; exact hn
      have tk9 : tkA A9 = tkA A := by
        funext n
        simp only [tkA, t1 0 (by decide), t1 23 (by decide), f8 0 (by decide) (by decide) (by decide) (by decide) (by decide), f8 23 (by decide) (by decide) (by decide) (by decide) (by decide)]
      have od9 : A9 21 = A 21 := by rw [t1 21 (by decide)]; exact f8 21 (by decide) (by decide) (by decide) (by decide) (by decide)
      refine li_open (s := (A9 30, n0, A 21, fun _ => nI 0)) (A1 := A9) (n0 := n0) (v := v) (by rw [g9]; exact hw) hm hn0 33 (A2 := A9) ⟨fun _ _ _ _ _ => rfl, fun _ _ => rfl, on9, od9, rfl, fun _ _ => rfl, fun p hp => by rw [t1 20 (by decide)]; exact (hZ p hp).2, by have := cntU_le (A9 30) 32; show n0 + cntU (A9 30) 32 ≤ n0 + 32; omega⟩ (by have := cntU_le (A9 30) 32; show cntU (A9 30) 32 < 33; omega) (fun A' hR => ?_)
      obtain ⟨r1, r2, r3, r4, r5, r6, r7, r8⟩ := hR
      have g' : A' 1 = A 1 := by rw [r1 1 (by decide) (by decide) (by decide) (by decide)]; exact g9
      have os : os32 (opL (mcA A9 mn) (v 1) (v 2) (tkA A9) mn 33 (A9 30, n0, A 21, fun _ => nI 0)) (LO (KS (A 1) (fun p => A 19 (8 * (mn - 1) + p)) (shA A (mn - 1)) mn (drA A) (B 29 0)) (v 1) (v 2) (tkA A) mn n0 (A 21)) := by
        rw [tk9, hK9, LO]
        refine opL_congr hKE h8 h4 _ _ _ _ _ ⟨?_, rfl⟩
        show E32 (A9 30) _
        rw [t2]
        exact stl_congr hKE h8 h4 33 _ _ V8
      refine li_end (v := v) (by rw [g']; exact hw) hm (fun p hp => by rw [r1 19 (by decide) (by decide) (by decide) (by decide), t1 19 (by decide)]; exact (hZ p hp).1) (fun A'' c1 c2 c3 => ⟨rfl, fun v' mn' n0' hv' hmm _ hn' hn0' => ?_⟩)
      have emn : mn' = mn := by
        have := (nI_eq (a := mn) (b := mn') (by omega) (by omega)).mp hmm
        omega
      subst emn
      have en0 : n0' = n0 := ((nI_eq (by omega) (by omega)).mp (hn.symm.trans hn')).symm
      subst en0
      obtain ⟨u1, u2, -⟩ := hw.uniq hv'
      rw [← u1, ← u2]
      have es := os.2
      refine ⟨⟨fun k a b c d e f g => ?_, fun j hj => ?_, ?_, ?_, fun j hj => ⟨?_, ?_⟩, fun p hp => ?_, fun p hp => ?_, d2, d3⟩, ?_⟩
      · rw [c1 k c, r1 k a d e f, t1 k f]; exact f8 k b c d f g
      · rw [c1 0 (by decide), r2 j hj, t1 0 (by decide), f8 0 (by decide) (by decide) (by decide) (by decide) (by decide)]
      · rw [c1 0 (by decide), r3, es]
      · rw [c1 21 (by decide), r4, es]
      · rw [c2 j hj, r1 19 (by decide) (by decide) (by decide) (by decide), t1 19 (by decide)]; exact (hO j hj).1
      · rw [c1 20 (by decide), r6 j hj, t1 20 (by decide)]; exact (hO j hj).2
      · rw [c1 20 (by decide), r7 p hp, es]
      · rw [c3 p hp, r5, lookBits_congr os.1 hp _ h4, u2, u1]
      · rw [← es]; omega
    · intro t ht _ ih A8 hA8 hO hZ
      refine bX4_looksIn_32.go rfl trivial ?_
      refine j_icmp_ge (tgt := 68) dX4_looksIn_35 (by decide) (fun h35 => ?_) (fun h35 => ?_)
      · rw [nI_leI (by omega) (by omega)] at h35; omega
      · refine bX4_looksIn_38.go rfl (by simp (disch := omega) only [nI_add, pk_mul, vpI]; exact ⟨trivial, ⟨trivial, by omega⟩, trivial, ⟨trivial, by omega⟩, trivial⟩) ?_
        simp (disch := omega) only [nI_1, nI_add, pk_mul, nI_clamp]
        refine ih trivial _ (fun k a b => by rw [upA_ne b, upA_ne a]; exact hA8 k a b) (fun j hj => ?_) (fun p hp => ?_)
        · rw [upA_ne (by decide), upA_at, upA_at, upA_ne (by decide), if_neg (by omega), if_neg (by omega)]; exact hO j (by omega)
        · rw [upA_ne (by decide), upA_at, upA_at, upA_ne (by decide)]
          by_cases e : p = t
          · subst e; rw [if_pos rfl, if_pos rfl]; exact ⟨rfl, rfl⟩
          · rw [if_neg (by omega), if_neg (by omega)]; exact hZ p (by omega)
  · intro t ht _ ih A7 hA7 hV
    refine bX4_looksIn_11.go rfl trivial ?_
    refine j_icmp_ge (tgt := 30) dX4_looksIn_14 (by decide) (fun h14 => ?_) (fun h14 => ?_)
    · rw [nI_leI (by omega) (by omega)] at h14; omega
    · refine bX4_looksIn_17.go rfl (by simp (disch := omega) only [vpI]; exact ⟨trivial, ⟨trivial, by omega⟩, trivial⟩) ?_
      simp (disch := omega) only [nI_1, nI_clamp]
      refine ih trivial _ (fun k hk => by rw [upA_ne hk]; exact hA7 k hk) (fun k hk => ?_)
      rw [upA_at]
      by_cases e : k = t
      · rw [if_pos e]
      · rw [if_neg e]; exact hV k (by omega)
