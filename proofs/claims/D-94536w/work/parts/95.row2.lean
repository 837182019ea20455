set_option maxRecDepth 100000
/-! ===== a line that is read keeps the row in order ===== -/
theorem up_at {α : Type} {f : Nat → α} {k : Nat} {x : α} (j : Nat) : va_up f k x j = if j = k then x else f j := by
  by_cases h : j = k
  · subst h; rw [va_up_self, if_pos rfl]
  · rw [va_up_ne _ _ h, if_neg h]
theorem inI_top {x : Int32} {w : Nat → Int32} {v : Nat → Nat} (h : Rw w v) {k : Nat} (hk : k < 320) (hb : v k < 1000) (hi : inI x (nI 0) (w k - nI 1) = true) : ∃ y, y < v k ∧ x = nI y := by
  rw [h k hk] at hi; exact inI_nat hb hi
/-- lines are counted -/
theorem Rw.line {w : Nat → Int32} {v : Nat → Nat} (h : Rw w v) : Rw (va_up w 3 (w 3 + nI 1)) (va_up v 3 (v 3 + 1)) := h.up 3 (by rw [h 3 (by decide), nI_add])
theorem row_first {T : Nat → Int32} {n : Nat} {s : RdE} {w : Nat → Int32} {fr : Nat} {tm : TS} (h : RowOk w fr) (h3 : w 3 = 0) (hg : (firstE T n s w).1 = .inr tm) (hfr : fr < 2500) : RowOk (va_up (firstE T n s w).2 3 ((firstE T n s w).2 3 + nI 1)) (fr + 1) := by
  obtain ⟨v, r, hV, h7, h8, hl⟩ := h
  have z3 : v 3 = 0 := (nI_eq (by omega) (by omega)).mp (((r 3 (by decide)).symm.trans h3).trans nI_0.symm)
  have hg3 : (frs3 T n s).2 = .inr tm := hg
  obtain ⟨⟨t2, e2⟩, b3⟩ := told_good hg3
  obtain ⟨⟨t1, e1⟩, b2⟩ := told_good e2
  obtain ⟨-, b1⟩ := told_good e1
  obtain ⟨y1, l1, u1, x1⟩ := inI_rng (by decide) b1 (by decide)
  obtain ⟨y2, l2, u2, x2⟩ := inI_rng (by decide) b2 (by decide)
  obtain ⟨y3, l3, u3, x3⟩ := inI_rng (by decide) b3 (by decide)
  have r1 : Rw (firstE T n s w).2 (va_up (va_up (va_up v 4 y1) 5 y2) 6 y3) := ((r.up 4 x1).up 5 x2).up 6 x3
  refine ⟨_, r1.line, ?_, ?_, ?_, ?_⟩
  · have z4 : v 4 = 0 := by
      have := hV.2.2.2.2.2.2.2.2.2.2.2.1
      omega
    obtain ⟨c1, c2, c0⟩ := hV.2.2.2.2.2.2.2.2.2.2.2.2 z4
    unfold VOk
    simp only [up_at]
    simp only [if_true, if_false, c0, c1, c2, h7, z3, Nat.reduceEqDiff, Nat.not_lt_zero, false_implies, implies_true, and_true, true_and]
    omega
  · simp only [up_at, Nat.reduceEqDiff, if_false]; exact h7
  · intro q hq hq8
    simp only [up_at, Nat.reduceEqDiff, if_false] at hq ⊢
    repeat rw [if_neg (by omega)]
    exact h8 q hq hq8
  · simp only [up_at, Nat.reduceEqDiff, if_false, if_true]; omega
/-- what the row keeps when a line is read into other places -/
theorem VOk.of {v v' : Nat → Nat} (hV : VOk v) (h3 : 0 < v 3) (a0 : v' 0 ≤ 12) (a1 : v' 1 ≤ 4) (a2 : v' 2 ≤ 8) (a3 : v' 3 = v 3 + 1) (a3' : v 3 + 1 < 100000) (a4 : v' 4 = v 4) (a5 : v' 5 = v 5) (a6 : v' 6 = v 6) (a7 : v' 7 = v 7)
    (hw : ∀ k, k < v' 0 → v' (8 + 2 * k) < v 4 ∧ v' (8 + 2 * k + 1) < v 5) (hc : ∀ c, c < v' 1 → KOk v' (32 + 6 * c)) (hp : ∀ p, p < v' 2 → POk v' (56 + 33 * p)) : VOk v' := by
  have h4 : 0 < v 4 := hV.2.2.2.2.2.2.2.2.2.2.2.1.mpr h3
  refine ⟨a0, a1, a2, by omega, by rw [a4]; exact hV.2.2.2.2.1, by rw [a5]; exact hV.2.2.2.2.2.1, by rw [a6]; exact hV.2.2.2.2.2.2.1, by rw [a7]; exact hV.2.2.2.2.2.2.2.1, fun k hk => by rw [a4, a5]; exact hw k hk, hc, hp, by omega, fun h => by omega⟩
/-- the end of a line behind the first -/
theorem RowOk.fin {w1 : Nat → Int32} {v v1 : Nat → Nat} {fr : Nat} (hV : VOk v) (h3 : 0 < v 3) (hl : v 3 ≤ fr) (hfr : fr < 2500) (h7 : v 7 = 0) (r1 : Rw w1 v1) (a0 : v1 0 ≤ 12) (a1 : v1 1 ≤ 4) (a2 : v1 2 ≤ 8) (a3 : v1 3 = v 3) (a4 : v1 4 = v 4) (a5 : v1 5 = v 5) (a6 : v1 6 = v 6) (a7 : v1 7 = v 7)
    (hw : ∀ k, k < v1 0 → v1 (8 + 2 * k) < v 4 ∧ v1 (8 + 2 * k + 1) < v 5) (hc : ∀ c, c < v1 1 → KOk v1 (32 + 6 * c)) (hp : ∀ p, p < v1 2 → POk v1 (56 + 33 * p)) (hx : ∀ q, v1 2 ≤ q → q < 8 → v1 (56 + 33 * q + 3) = 0 ∧ v1 (56 + 33 * q + 4) = 0) : RowOk (va_up w1 3 (w1 3 + nI 1)) (fr + 1) := by
  have ag : ∀ j, j ≠ 3 → va_up v1 3 (v1 3 + 1) j = v1 j := fun j h => va_up_ne _ _ h
  refine ⟨_, r1.line, ?_, ?_, ?_, ?_⟩
  · refine hV.of h3 (by rw [ag 0 (by decide)]; exact a0) (by rw [ag 1 (by decide)]; exact a1) (by rw [ag 2 (by decide)]; exact a2) (by rw [va_up_self, a3]) (by omega) (by rw [ag 4 (by decide)]; exact a4) (by rw [ag 5 (by decide)]; exact a5) (by rw [ag 6 (by decide)]; exact a6) (by rw [ag 7 (by decide)]; exact a7) (fun k hk => ?_) (fun c hk => ?_) (fun p hk => ?_)
    · rw [ag 0 (by decide)] at hk
      rw [ag _ (by omega), ag _ (by omega)]; exact hw k hk
    · rw [ag 1 (by decide)] at hk
      exact (hc c hk).cg (fun i hi => ag _ (by omega)) (ag 4 (by decide)) (ag 5 (by decide))
    · rw [ag 2 (by decide)] at hk
      exact (hp p hk).cg (fun i hi => ag _ (by omega)) (by rw [ag 1 (by decide)]; exact Nat.le_refl _) (ag 4 (by decide)) (ag 5 (by decide)) (ag 6 (by decide))
  · rw [ag 7 (by decide), a7]; exact h7
  · intro q hq hq8
    rw [ag 2 (by decide)] at hq
    rw [ag _ (by omega), ag _ (by omega)]; exact hx q hq hq8
  · rw [va_up_self]; omega
theorem pos3 {w : Nat → Int32} {v : Nat → Nat} (r : Rw w v) (h3 : ¬ w 3 = 0) : 0 < v 3 := by
  rcases Nat.eq_zero_or_pos (v 3) with e | e
  · exact absurd (by rw [r 3 (by decide), e]; rfl) h3
  · exact e
theorem row_wall {T : Nat → Int32} {n : Nat} {s : RdE} {w : Nat → Int32} {fr : Nat} {tm : TS} (h : RowOk w fr) (h3 : ¬ w 3 = 0) (hf : ¬ w 0 = nI 12) (hg : (wallE T n s w).1 = .inr tm) (hfr : fr < 2500) : RowOk (va_up (wallE T n s w).2 3 ((wallE T n s w).2 3 + nI 1)) (fr + 1) := by
  obtain ⟨v, r, hV, h7, h8, hl⟩ := h
  have p3 := pos3 r h3
  have b0 : v 0 ≤ 12 := hV.1
  have b1 : v 1 ≤ 4 := hV.2.1
  have b2' : v 2 ≤ 8 := hV.2.2.1
  have b4 : v 4 ≤ 12 := hV.2.2.2.2.1
  have b5 : v 5 ≤ 12 := hV.2.2.2.2.2.1
  have c0 : nW w = v 0 := (clp (r 0 (by decide)) (by omega)).2
  have n12 : v 0 ≠ 12 := fun e => hf (by rw [r 0 (by decide), e])
  obtain ⟨-, i1, i2, ec⟩ := cell_good (show (cellE T n (8 + 2 * nW w) s w).1 = .inr tm from hg)
  obtain ⟨x, hx, ex⟩ := inI_top r (by decide) (by omega) i1
  obtain ⟨y, hy, ey⟩ := inI_top r (by decide) (by omega) i2
  have r1 : Rw (wallE T n s w).2 (va_up (va_up (va_up v (8 + 2 * v 0) x) (8 + 2 * v 0 + 1) y) 0 (v 0 + 1)) := by
    show Rw (va_up (cellE T n (8 + 2 * nW w) s w).2 0 (w 0 + b2 (goodE (cellE T n (8 + 2 * nW w) s w).1))) _
    rw [ec, show (cellE T n (8 + 2 * nW w) s w).1 = .inr tm from hg, c0]
    exact ((r.up _ ex).up _ ey).up 0 (by rw [r 0 (by decide)]; exact nI_add _ _)
  refine RowOk.fin hV p3 hl hfr h7 r1 ?_ ?_ ?_ ?_ ?_ ?_ ?_ ?_ (fun k hk => ?_) (fun c hc => ?_) (fun p hp => ?_) (fun q hq hq8 => ?_)
  all_goals (try simp (disch := omega) only [va_up_ne, va_up_self] at *)
  · omega
  · exact b1
  · exact b2'
  · by_cases e : k = v 0
    · subst e
      simp (disch := omega) only [va_up_ne, va_up_self]
      exact ⟨hx, hy⟩
    · simp (disch := omega) only [va_up_ne]
      exact hV.2.2.2.2.2.2.2.2.1 k (by omega)
  · exact (hV.2.2.2.2.2.2.2.2.2.1 c hc).cg (fun i hi => by simp (disch := omega) only [va_up_ne]) (by simp (disch := omega) only [va_up_ne]) (by simp (disch := omega) only [va_up_ne])
  · exact (hV.2.2.2.2.2.2.2.2.2.2.1 p hp).cg (fun i hi => by simp (disch := omega) only [va_up_ne]) (by simp (disch := omega) only [va_up_ne]; exact Nat.le_refl _) (by simp (disch := omega) only [va_up_ne]) (by simp (disch := omega) only [va_up_ne]) (by simp (disch := omega) only [va_up_ne])
  · exact h8 q hq hq8
theorem good_inr {s : RdE} (h : goodE s = true) : ∃ ts, s = .inr ts := by
  match s, h with
  | .inr ts, _ => exact ⟨ts, rfl⟩
theorem row_clock {T : Nat → Int32} {n : Nat} {s : RdE} {w : Nat → Int32} {fr : Nat} {tm : TS} (h : RowOk w fr) (h3 : ¬ w 3 = 0) (hf : ¬ w 1 = nI 4) (hg : (clockE T n (nC w) s w).1 = .inr tm) (hfr : fr < 2500) : RowOk (va_up (clockE T n (nC w) s w).2 3 ((clockE T n (nC w) s w).2 3 + nI 1)) (fr + 1) := by
  obtain ⟨v, r, hV, h7, h8, hl⟩ := h
  have p3 := pos3 r h3
  have b0 : v 0 ≤ 12 := hV.1
  have b1 : v 1 ≤ 4 := hV.2.1
  have b2' : v 2 ≤ 8 := hV.2.2.1
  have b4 : v 4 ≤ 12 := hV.2.2.2.2.1
  have b5 : v 5 ≤ 12 := hV.2.2.2.2.2.1
  have c1 : nC w = v 1 := (clp (r 1 (by decide)) (by omega)).2
  have n4 : v 1 ≠ 4 := fun e => hf (by rw [r 1 (by decide), e])
  rw [c1] at hg ⊢
  have hg4 : (clk4 T n (32 + 6 * v 1) s w).2 = .inr tm := hg
  obtain ⟨⟨t3, e3⟩, i6⟩ := told_good hg4
  obtain ⟨⟨t2, e2⟩, i5⟩ := told_good e3
  obtain ⟨⟨t1, e1⟩, i4⟩ := told_good e2
  obtain ⟨⟨t0, e0⟩, i3⟩ := told_good e1
  obtain ⟨-, i1, i2, ec⟩ := cell_good e0
  obtain ⟨x, hx, ex⟩ := inI_top r (by decide) (by omega) i1
  obtain ⟨y, hy, ey⟩ := inI_top r (by decide) (by omega) i2
  obtain ⟨a, ha1, ha2, ea⟩ := inI_rng (by decide) i3 (by decide)
  obtain ⟨b, hb1, hb2, eb⟩ := inI_rng (by decide) i4 (by decide)
  obtain ⟨c, hc1, hc2, ecc⟩ := inI_rng (by decide) i5 (by decide)
  have ecc : (clk3 T n (32 + 6 * v 1) s w).1 = nI c := ecc
  have i6 : inI (clk4 T n (32 + 6 * v 1) s w).1 (nI 0) ((clk3 T n (32 + 6 * v 1) s w).1 - nI 1) = true := i6
  rw [ecc] at i6
  obtain ⟨d, hd, ed⟩ := inI_nat (by omega) i6
  have r1 : Rw (clockE T n (v 1) s w).2 (va_up (va_up (va_up (va_up (va_up (va_up (va_up v (32 + 6 * v 1) x) (32 + 6 * v 1 + 1) y) (32 + 6 * v 1 + 2) a) (32 + 6 * v 1 + 3) b) (32 + 6 * v 1 + 4) c) (32 + 6 * v 1 + 5) d) 1 (v 1 + 1)) := by
    show Rw (if goodE (clk4 T n (32 + 6 * v 1) s w).2 = true then _ else _) _
    rw [if_pos (show goodE (clk4 T n (32 + 6 * v 1) s w).2 = true by rw [hg4]; rfl), ec]
    exact ((((((r.up _ ex).up _ ey).up _ ea).up _ eb).up _ ecc).up _ ed).up 1 rfl
  refine RowOk.fin hV p3 hl hfr h7 r1 ?_ ?_ ?_ ?_ ?_ ?_ ?_ ?_ (fun k hk => ?_) (fun c' hc => ?_) (fun p hp => ?_) (fun q hq hq8 => ?_)
  all_goals (try simp (disch := omega) only [va_up_ne, va_up_self] at *)
  · exact b0
  · omega
  · exact b2'
  · simp (disch := omega) only [va_up_ne]
    exact hV.2.2.2.2.2.2.2.2.1 k hk
  · by_cases e : c' = v 1
    · subst e
      unfold KOk
      simp (disch := omega) only [va_up_ne, va_up_self]
      omega
    · exact (hV.2.2.2.2.2.2.2.2.2.1 c' (by omega)).cg (fun i hi => by simp (disch := omega) only [va_up_ne]) (by simp (disch := omega) only [va_up_ne]) (by simp (disch := omega) only [va_up_ne])
  · exact (hV.2.2.2.2.2.2.2.2.2.2.1 p hp).cg (fun i hi => by simp (disch := omega) only [va_up_ne]) (by simp (disch := omega) only [va_up_self]; omega) (by simp (disch := omega) only [va_up_ne]) (by simp (disch := omega) only [va_up_ne]) (by simp (disch := omega) only [va_up_ne])
  · exact h8 q hq hq8
theorem row_person {T : Nat → Int32} {n : Nat} {s : RdE} {w : Nat → Int32} {fr : Nat} {tm : TS} (h : RowOk w fr) (h3 : ¬ w 3 = 0) (hf : ¬ w 2 = nI 8) (hg : (personE T n (nP w) s w).1 = .inr tm) (hfr : fr < 2500) : RowOk (va_up (personE T n (nP w) s w).2 3 ((personE T n (nP w) s w).2 3 + nI 1)) (fr + 1) := by
  obtain ⟨v, r, hV, h7, h8, hl⟩ := h
  have p3 := pos3 r h3
  have b0 : v 0 ≤ 12 := hV.1
  have b1 : v 1 ≤ 4 := hV.2.1
  have b2' : v 2 ≤ 8 := hV.2.2.1
  have b4 : v 4 ≤ 12 := hV.2.2.2.2.1
  have b5 : v 5 ≤ 12 := hV.2.2.2.2.2.1
  have b6 : v 6 ≤ 40 := hV.2.2.2.2.2.2.1
  have c2 : nP w = v 2 := (clp (r 2 (by decide)) (by omega)).2
  have n8 : v 2 ≠ 8 := fun e => hf (by rw [r 2 (by decide), e])
  rw [c2] at hg ⊢
  have hg1 : (per1 T n (56 + 33 * v 2) s w).2 = .inr tm := hg
  obtain ⟨⟨t0, e0⟩, i3⟩ := told_good hg1
  obtain ⟨-, i1, i2, ec⟩ := cell_good e0
  obtain ⟨x, hx, ex⟩ := inI_top r (by decide) (by omega) i1
  obtain ⟨y, hy, ey⟩ := inI_top r (by decide) (by omega) i2
  obtain ⟨a, ha, ea⟩ := inI_top r (by decide) (by omega) i3
  have r1 : Rw (personE T n (v 2) s w).2 (va_up (va_up (va_up (va_up v (56 + 33 * v 2) x) (56 + 33 * v 2 + 1) y) (56 + 33 * v 2 + 2) a) 2 (v 2 + 1)) := by
    show Rw (if goodE (per1 T n (56 + 33 * v 2) s w).2 = true then _ else _) _
    rw [if_pos (show goodE (per1 T n (56 + 33 * v 2) s w).2 = true by rw [hg1]; rfl), ec]
    exact (((r.up _ ex).up _ ey).up _ ea).up 2 rfl
  obtain ⟨z3, z4⟩ := h8 (v 2) (Nat.le_refl _) (by omega)
  refine RowOk.fin hV p3 hl hfr h7 r1 ?_ ?_ ?_ ?_ ?_ ?_ ?_ ?_ (fun k hk => ?_) (fun c' hc => ?_) (fun p hp => ?_) (fun q hq hq8 => ?_)
  all_goals (try simp (disch := omega) only [va_up_ne, va_up_self] at *)
  · exact b0
  · exact b1
  · omega
  · simp (disch := omega) only [va_up_ne]
    exact hV.2.2.2.2.2.2.2.2.1 k hk
  · exact (hV.2.2.2.2.2.2.2.2.2.1 c' hc).cg (fun i hi => by simp (disch := omega) only [va_up_ne]) (by simp (disch := omega) only [va_up_ne]) (by simp (disch := omega) only [va_up_ne])
  · by_cases e : p = v 2
    · subst e
      unfold POk
      simp (disch := omega) only [va_up_ne, va_up_self, z3, z4]
      exact ⟨hx, hy, ha, by omega, by omega, fun k hk => by omega, fun i hi => by omega⟩
    · exact (hV.2.2.2.2.2.2.2.2.2.2.1 p (by omega)).cg (fun i hi => by simp (disch := omega) only [va_up_ne]) (by simp (disch := omega) only [va_up_ne]; exact Nat.le_refl _) (by simp (disch := omega) only [va_up_ne]) (by simp (disch := omega) only [va_up_ne]) (by simp (disch := omega) only [va_up_ne])
  · exact h8 q (by omega) hq8
