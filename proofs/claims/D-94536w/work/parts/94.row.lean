set_option maxRecDepth 100000
/-! ===== reading: tokens go forward; the row that is read is in order ===== -/
/-- a token that reading makes -/
def TsW (T : Nat → Int32) (n : Nat) (ts : TS) : Prop := ∃ a, a ≤ n ∧ ts = advS T n a
theorem skF_gt {f : Nat → Bool} {n b : Nat} (h : f b = true) (hb : b < n) : b < skF f n b := by
  rw [skF_t h hb]
  have := (skF_le f (n := n) (a := b + 1) (by omega)).1
  omega
/-- a token that isn't the end has a sign at least -/
theorem TsW.gt {T : Nat → Int32} {n : Nat} {ts : TS} (h : TsW T n ts) (h0 : ¬ ts.2.2.1 = nI 0) : ts.2.1 < ts.1 := by
  obtain ⟨a, ha, rfl⟩ := h
  unfold advS at *
  by_cases e1 : seeI T n (skF (spcB T n) n a) = -1
  · rw [if_pos e1] at h0; exact absurd rfl h0
  · rw [if_neg e1] at h0 ⊢
    have hlt := seeI_lt e1
    by_cases e2 : letB T n (skF (spcB T n) n a) = true
    · rw [if_pos e2]; exact skF_gt e2 hlt
    · rw [if_neg e2] at h0 ⊢
      by_cases e3 : digB T n (skF (spcB T n) n a) = true
      · rw [if_pos e3]; exact skF_gt e3 hlt
      · rw [if_neg e3]; exact Nat.lt_succ_self _
theorem TsW.le {T : Nat → Int32} {n : Nat} {ts : TS} (h : TsW T n ts) : ts.2.1 ≤ ts.1 ∧ ts.1 ≤ n := by
  obtain ⟨a, ha, rfl⟩ := h
  exact (advS_le ha).2
/-- reading goes from s to s', forward -/
def Fwd (T : Nat → Int32) (n : Nat) (s s' : RdE) : Prop := ∀ ts', s' = .inr ts' → ∃ ts, s = .inr ts ∧ (TsW T n ts → TsW T n ts' ∧ ts.2.1 ≤ ts'.2.1)
theorem Fwd.rf {T : Nat → Int32} {n : Nat} {s : RdE} : Fwd T n s s := fun ts' h => ⟨ts', h, fun q => ⟨q, Nat.le_refl _⟩⟩
theorem Fwd.trans {T : Nat → Int32} {n : Nat} {s s1 s2 : RdE} (h : Fwd T n s s1) (h' : Fwd T n s1 s2) : Fwd T n s s2 := by
  intro ts2 e2
  obtain ⟨ts1, e1, k1⟩ := h' ts2 e2
  obtain ⟨ts, e, k⟩ := h ts1 e1
  exact ⟨ts, e, fun q => ⟨(k1 (k q).1).1, Nat.le_trans (k q).2 (k1 (k q).1).2⟩⟩
theorem fwd_adv {T : Nat → Int32} {n : Nat} {s : RdE} : Fwd T n s (advE T n s) := by
  intro ts' h
  match s, h with
  | .inr ts, h =>
    obtain rfl : advS T n ts.1 = ts' := by cases h; rfl
    refine ⟨ts, rfl, fun q => ⟨⟨ts.1, q.le.2, rfl⟩, ?_⟩⟩
    exact Nat.le_trans q.le.1 (advS_le q.le.2).1
theorem fwd_err {T : Nat → Int32} {n : Nat} {s : RdE} {k : Int32} : Fwd T n s (errE k s) := by
  intro ts' h
  match s, h with
  | .inr ts, h => cases h
theorem fwd_needs {T : Nat → Int32} {n i : Nat} {s : RdE} : Fwd T n s (needsE T n i s) := by
  unfold needsE
  split
  · exact fwd_adv
  · exact fwd_err
theorem fwd_num {T : Nat → Int32} {n : Nat} {lo hi : Int32} {s : RdE} : Fwd T n s (numE T n lo hi s).2 := by
  match s with
  | .inl e => intro ts' h; cases h
  | .inr ts =>
    unfold numE
    dsimp only
    split
    · split
      · exact fwd_adv (s := .inr ts)
      · intro ts' h; cases h
    · intro ts' h; cases h
theorem fwd_told {T : Nat → Int32} {n i : Nat} {lo hi : Int32} {s : RdE} : Fwd T n s (toldE T n i lo hi s).2 := fwd_needs.trans fwd_num
theorem fwd_if {T : Nat → Int32} {n : Nat} {s a b : RdE} {p : Prop} {d : Decidable p} (ha : Fwd T n s a) (hb : Fwd T n s b) : Fwd T n s (@ite _ p d a b) := by
  split
  · exact ha
  · exact hb
theorem fwd_cell {T : Nat → Int32} {n k : Nat} {s : RdE} {w : Nat → Int32} : Fwd T n s (cellE T n k s w).1 := by
  have h1 : Fwd T n s (cell1 T n s w).2 := fwd_needs.trans fwd_num
  have h2 : Fwd T n s (cell2 T n s w) := fwd_if (h1.trans fwd_err) h1
  exact h2.trans fwd_num
theorem fwd_clock {T : Nat → Int32} {n c : Nat} {s : RdE} {w : Nat → Int32} : Fwd T n s (clockE T n c s w).1 :=
  fwd_cell.trans (fwd_told.trans (fwd_told.trans (fwd_told.trans fwd_told)))
theorem fwd_person {T : Nat → Int32} {n p : Nat} {s : RdE} {w : Nat → Int32} : Fwd T n s (personE T n p s w).1 := fwd_cell.trans fwd_told
theorem fwd_move {T : Nat → Int32} {n p m : Nat} {go : Bool} {s : RdE} {w : Nat → Int32} : Fwd T n s (moveE T n go p m s w).1 := by
  have h1 : Fwd T n s (goE T n go s) := fwd_if ((fwd_if fwd_err Fwd.rf).trans fwd_adv) Fwd.rf
  exact h1.trans fwd_num
theorem fwd_hab {T : Nat → Int32} {n i : Nat} {s : RdE} {w : Nat → Int32} : Fwd T n s (habE T n i s w).1 := by
  unfold habE
  split
  · exact fwd_adv
  · split
    · exact fwd_adv.trans (fwd_num.trans fwd_told)
    · split
      · exact fwd_adv.trans (fwd_num.trans fwd_told)
      · split
        · exact fwd_adv.trans fwd_num
        · split
          · exact fwd_adv.trans fwd_num
          · exact fwd_needs.trans fwd_num
theorem fwd_look {T : Nat → Int32} {n p l : Nat} {s : RdE} {w : Nat → Int32} : Fwd T n s (lookE T n p l s w).1 := (fwd_needs.trans fwd_num).trans fwd_hab
theorem fwd_next {T : Nat → Int32} {n : Nat} {s : RdE} {w : Nat → Int32} : Fwd T n s (nextE T n s w).1 := by
  have h1 : Fwd T n s (nx1 T s) := fwd_if fwd_err Fwd.rf
  have h2 : Fwd T n s (nx2 T s w) := fwd_if (h1.trans fwd_err) h1
  have h3 : Fwd T n s (nx3 T s w) := fwd_if (h2.trans fwd_err) h2
  unfold nextE
  repeat' split
  · exact h3
  · exact h3.trans (fwd_adv.trans (fwd_cell (k := 8 + 2 * nW w)))
  · exact h3.trans (fwd_adv.trans fwd_clock)
  · exact h3.trans (fwd_adv.trans fwd_person)
  · exact h3.trans (fwd_adv.trans fwd_move)
  · exact h3.trans (fwd_adv.trans fwd_move)
  · exact h3.trans (fwd_adv.trans fwd_look)
theorem fwd_body {T : Nat → Int32} {n : Nat} {s : RdE} {w : Nat → Int32} : Fwd T n s (bodyE T n s w).1 := by
  unfold bodyE
  split
  · have h1 : Fwd T n s (frs1 T n s).2 := Fwd.trans (s1 := needsE T n 0 s) fwd_needs fwd_told
    have h2 : Fwd T n s (frs2 T n s).2 := h1.trans fwd_told
    have h3 : Fwd T n s (frs3 T n s).2 := h2.trans fwd_told
    exact h3
  · exact fwd_next
/-- a good line: its parts -/
theorem line_good {T : Nat → Int32} {n : Nat} {ts ts' : TS} {w : Nat → Int32} (hts : TsW T n ts) (h : (lineE T n (.inr ts) w).1 = .inr ts') : TsW T n ts' ∧ ts.2.1 < ts'.2.1 ∧ ∃ tm, (bodyE T n (.inr ts) w).1 = .inr tm := by
  have h : endE T n (bodyE T n (.inr ts) w).1 = .inr ts' := h
  match hb : (bodyE T n (.inr ts) w).1, h with
  | .inr tm, h =>
    obtain ⟨t0, e0, k0⟩ := fwd_body tm hb
    obtain rfl : ts = t0 := by cases e0; rfl
    obtain ⟨k1, k2⟩ := k0 hts
    unfold endE at h
    dsimp only at h
    split at h
    · rename_i h3
      obtain rfl : advS T n tm.1 = ts' := by cases h; rfl
      have hg := k1.gt (by rw [h3]; decide +kernel)
      refine ⟨⟨tm.1, k1.le.2, rfl⟩, ?_, tm, rfl⟩
      have := (advS_le (T := T) k1.le.2).1
      omega
    · cases h
/-! rows -/
def Rw (w : Nat → Int32) (v : Nat → Nat) : Prop := ∀ k, k < 320 → w k = nI (v k)
theorem Rw.up {w : Nat → Int32} {v : Nat → Nat} (h : Rw w v) {x : Int32} {y : Nat} (k : Nat) (e : x = nI y) : Rw (va_up w k x) (va_up v k y) := by
  intro j hj
  by_cases q : j = k
  · subst q; rw [va_up_self, va_up_self]; exact e
  · rw [va_up_ne _ _ q, va_up_ne _ _ q]; exact h j hj
def RowOk (w : Nat → Int32) (fr : Nat) : Prop := ∃ v, Rw w v ∧ VOk v ∧ v 7 = 0 ∧ (∀ q, v 2 ≤ q → q < 8 → v (56 + 33 * q + 3) = 0 ∧ v (56 + 33 * q + 4) = 0) ∧ v 3 ≤ fr
theorem RowOk.mono {w : Nat → Int32} {a b : Nat} (h : RowOk w a) (hab : a ≤ b) : RowOk w b := by
  obtain ⟨v, h1, h2, h3, h4, h5⟩ := h
  exact ⟨v, h1, h2, h3, h4, Nat.le_trans h5 hab⟩
theorem RowOk.wok {w : Nat → Int32} {a : Nat} (h : RowOk w a) : ∃ v, WOk w v := by
  obtain ⟨v, h1, h2, -⟩ := h
  exact ⟨v, h1, h2⟩
theorem clp {x : Int32} {a : Nat} (h : x = nI a) (ha : a < 1000) : x = nI x.toNatClampNeg ∧ x.toNatClampNeg = a := by
  rw [h, nI_clamp (by omega)]; exact ⟨rfl, rfl⟩
theorem RowOk.fr {w : Nat → Int32} {a : Nat} (h : RowOk w a) : FrOk w := by
  obtain ⟨v, h1, h2, h3, h4, h5⟩ := h
  have b0 : v 0 ≤ 12 := h2.1
  have b1 : v 1 ≤ 4 := h2.2.1
  have b2 : v 2 ≤ 8 := h2.2.2.1
  have c0 := clp (h1 0 (by decide)) (by omega)
  have c1 := clp (h1 1 (by decide)) (by omega)
  have c2 := clp (h1 2 (by decide)) (by omega)
  refine ⟨⟨c0.1, ?_⟩, ⟨c1.1, ?_⟩, ⟨c2.1, ?_⟩, fun q hq => ?_⟩
  · show (w 0).toNatClampNeg ≤ 12; omega
  · show (w 1).toNatClampNeg ≤ 4; omega
  · show (w 2).toNatClampNeg ≤ 8; omega
  · have hm : v (56 + 33 * q + 3) ≤ 6 ∧ v (56 + 33 * q + 4) ≤ 4 := by
      rcases Nat.lt_or_ge q (v 2) with hl | hl
      · have := h2.2.2.2.2.2.2.2.2.2.2.1 q hl
        exact ⟨this.2.2.2.1, this.2.2.2.2.1⟩
      · have := h4 q hl hq; omega
    have c3 := clp (h1 (56 + 33 * q + 3) (by omega)) (by omega)
    have c4 := clp (h1 (56 + 33 * q + 4) (by omega)) (by omega)
    exact ⟨⟨c3.1, by show (w (56 + 33 * q + 3)).toNatClampNeg ≤ 6; omega⟩, ⟨c4.1, by show (w (56 + 33 * q + 4)).toNatClampNeg ≤ 4; omega⟩⟩
theorem inI_rng {x : Int32} {a b : Nat} (hb : b < 1000) (h : inI x (nI a) (nI b) = true) (ha : a < 1000) : ∃ y, a ≤ y ∧ y ≤ b ∧ x = nI y := by
  simp only [inI, Bool.and_eq_true, decide_eq_true_eq] at h
  obtain ⟨h1, h2⟩ := h
  have h0 : ¬ x < 0 := Int32.not_lt.mpr (Int32.le_trans (nI_pos' (n := a) (by omega)) h1)
  obtain ⟨j, hj, rfl⟩ := nI_of h0
  rw [nI_leI (by omega) hj] at h1
  rw [nI_leI hj (by omega)] at h2
  exact ⟨j, h1, h2, rfl⟩
/-- a number that is good lies between its bounds -/
theorem num_good {T : Nat → Int32} {n : Nat} {lo hi : Int32} {s : RdE} {ts' : TS} (h : (numE T n lo hi s).2 = .inr ts') : (∃ ts, s = .inr ts) ∧ inI (numE T n lo hi s).1 lo hi = true := by
  match s, h with
  | .inr ts, h =>
    unfold numE at h ⊢
    dsimp only at h ⊢
    split at h
    · rename_i h2
      split at h
      · rename_i h3
        rw [if_pos h2, if_pos h3]
        exact ⟨⟨ts, rfl⟩, h3⟩
      · cases h
    · cases h
theorem needs_good {T : Nat → Int32} {n i : Nat} {s : RdE} {ts' : TS} (h : needsE T n i s = .inr ts') : ∃ ts, s = .inr ts := by
  obtain ⟨ts, e, -⟩ := fwd_needs ts' h
  exact ⟨ts, e⟩
theorem told_good {T : Nat → Int32} {n i : Nat} {lo hi : Int32} {s : RdE} {ts' : TS} (h : (toldE T n i lo hi s).2 = .inr ts') : (∃ ts, s = .inr ts) ∧ inI (toldE T n i lo hi s).1 lo hi = true := by
  obtain ⟨⟨ts, e⟩, h2⟩ := num_good h
  exact ⟨needs_good e, h2⟩
theorem cell_good {T : Nat → Int32} {n k : Nat} {s : RdE} {w : Nat → Int32} {ts' : TS} (h : (cellE T n k s w).1 = .inr ts') : (∃ ts, s = .inr ts) ∧ inI (cell1 T n s w).1 (nI 0) (w 4 - nI 1) = true ∧ inI (cell3 T n s w).1 (nI 0) (w 5 - nI 1) = true ∧ (cellE T n k s w).2 = va_up (va_up w k (cell1 T n s w).1) (k + 1) (cell3 T n s w).1 := by
  have h : (cell3 T n s w).2 = .inr ts' := h
  obtain ⟨⟨t1, e1⟩, h3⟩ := num_good (show (numE T n (nI 0) (w 5 - nI 1) (cell2 T n s w)).2 = .inr ts' from h)
  have e2 : ∃ t2, (cell1 T n s w).2 = .inr t2 := by
    unfold cell2 at e1
    split at e1
    · obtain ⟨t, e, -⟩ := fwd_err (T := T) (n := n) t1 e1
      exact ⟨t, e⟩
    · exact ⟨t1, e1⟩
  obtain ⟨t2, e2⟩ := e2
  obtain ⟨⟨t3, e3⟩, h4⟩ := num_good (show (numE T n (nI 0) (w 4 - nI 1) (needsE T n 4 s)).2 = .inr t2 from e2)
  refine ⟨needs_good e3, h4, h3, ?_⟩
  show (if goodE (cell3 T n s w).2 = true then _ else w) = _
  rw [h]; rfl
theorem KOk.cg {v v' : Nat → Nat} {q : Nat} (h : KOk v q) (hq : ∀ i, i < 6 → v' (q + i) = v (q + i)) (h4 : v' 4 = v 4) (h5 : v' 5 = v 5) : KOk v' q := by
  have := hq 0 (by decide); have := hq 1 (by decide); have := hq 2 (by decide); have := hq 3 (by decide); have := hq 4 (by decide); have := hq 5 (by decide)
  unfold KOk at *
  simp only [Nat.add_zero] at *
  omega
theorem POk.cg {v v' : Nat → Nat} {q : Nat} (h : POk v q) (hq : ∀ i, i < 33 → v' (q + i) = v (q + i)) (h1 : v 1 ≤ v' 1) (h4 : v' 4 = v 4) (h5 : v' 5 = v 5) (h6 : v' 6 = v 6) : POk v' q := by
  obtain ⟨p1, p2, p3, p4, p5, p6, p7⟩ := h
  have q0 := hq 0 (by decide); have q1 := hq 1 (by decide); have q2 := hq 2 (by decide); have q3 := hq 3 (by decide); have q4 := hq 4 (by decide)
  simp only [Nat.add_zero] at q0
  refine ⟨by omega, by omega, by omega, by omega, by omega, fun k hk => ?_, fun i hi => ?_⟩
  · have := p6 k (by omega)
    rw [hq (5 + 2 * k) (by omega), hq (5 + 2 * k + 1) (by omega)]
    exact this
  · obtain ⟨a1, a2, a3, a4, a5, a6⟩ := p7 i (by omega)
    rw [hq (17 + 4 * i) (by omega), hq (17 + 4 * i + 1) (by omega), hq (17 + 4 * i + 2) (by omega), hq (17 + 4 * i + 3) (by omega)]
    exact ⟨by omega, a2, a3, fun e => by have := a4 e; omega, a5, a6⟩
