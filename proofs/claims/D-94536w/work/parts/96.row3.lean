set_option maxRecDepth 100000
/-! ===== a move, a look that are read; the whole text ===== -/
theorem row_move {T : Nat → Int32} {n : Nat} {go : Bool} {s : RdE} {w : Nat → Int32} {fr : Nat} {tm : TS} (h : RowOk w fr) (h3 : ¬ w 3 = 0) (hz : ¬ w 2 = 0) (hf : ¬ w (56 + 33 * qP w + 3) = nI 6) (hg : (moveE T n go (qP w) (nM w (qP w)) s w).1 = .inr tm) (hfr : fr < 2500) : RowOk (va_up (moveE T n go (qP w) (nM w (qP w)) s w).2 3 ((moveE T n go (qP w) (nM w (qP w)) s w).2 3 + nI 1)) (fr + 1) := by
  obtain ⟨v, r, hV, h7, h8, hl⟩ := h
  have p3 := pos3 r h3
  have b0 : v 0 ≤ 12 := hV.1
  have b1 : v 1 ≤ 4 := hV.2.1
  have b2' : v 2 ≤ 8 := hV.2.2.1
  have c2 : nP w = v 2 := (clp (r 2 (by decide)) (by omega)).2
  have z2 : v 2 ≠ 0 := fun e => hz (by rw [r 2 (by decide), e]; rfl)
  generalize hq : qP w = q at *
  have hqv : q + 1 = v 2 := by rw [← hq, qP, c2]; omega
  have hP := hV.2.2.2.2.2.2.2.2.2.2.1 q (by omega)
  obtain ⟨p1, p2, p3', p4, p5, p6, p7⟩ := id hP
  have cm : nM w q = v (56 + 33 * q + 3) := (clp (r (56 + 33 * q + 3) (by omega)) (by omega)).2
  have n6 : v (56 + 33 * q + 3) ≠ 6 := fun e => hf (by rw [r _ (by omega), e])
  rw [cm] at hg ⊢
  generalize hm : v (56 + 33 * q + 3) = m at *
  have hg1 : (mv1 T n go s).2 = .inr tm := hg
  obtain ⟨-, i1⟩ := num_good hg1
  have i1 : inI (mv1 T n go s).1 (nI 1) (if go = true then nI 12 else nI 40) = true := i1
  have hmin : ∃ y, 1 ≤ y ∧ y ≤ 40 ∧ (mv1 T n go s).1 = nI y := by
    cases go with
    | true =>
      obtain ⟨y, a, b, c⟩ := inI_rng (b := 12) (by decide) i1 (by decide)
      exact ⟨y, a, by omega, c⟩
    | false =>
      obtain ⟨y, a, b, c⟩ := inI_rng (b := 40) (by decide) i1 (by decide)
      exact ⟨y, a, by omega, c⟩
  obtain ⟨y, hy1, hy2, ey⟩ := hmin
  -- the way
  have hway : ∃ d, d ≤ 4 ∧ (if go = true then wayE T s else nI 4) = nI d := by
    cases go with
    | false => exact ⟨4, by omega, rfl⟩
    | true =>
      obtain ⟨⟨t1, e1⟩, -⟩ := num_good hg1
      have e1 : advE T n (if wayE T s = -1 then errE (nI 1) s else s) = .inr t1 := e1
      have hn : ¬ wayE T s = -1 := by
        intro e
        rw [if_pos e] at e1
        match s, e1 with
        | .inl x, e1 => cases e1
        | .inr x, e1 => cases e1
      rw [if_pos rfl]
      unfold wayE at hn ⊢
      split
      · exact ⟨0, by omega, rfl⟩
      · split
        · exact ⟨1, by omega, rfl⟩
        · split
          · exact ⟨2, by omega, rfl⟩
          · split
            · exact ⟨3, by omega, rfl⟩
            · simp_all
  obtain ⟨d, hd, ed⟩ := hway
  have r1 : Rw (moveE T n go q m s w).2 (va_up (va_up (va_up v (56 + 33 * q + 5 + 2 * m) d) (56 + 33 * q + 5 + 2 * m + 1) y) (56 + 33 * q + 3) (m + 1)) := by
    show Rw (if goodE (mv1 T n go s).2 = true then _ else _) _
    rw [if_pos (show goodE (mv1 T n go s).2 = true by rw [hg1]; rfl)]
    exact ((r.up _ ed).up _ ey).up _ rfl
  refine RowOk.fin hV p3 hl hfr h7 r1 ?_ ?_ ?_ ?_ ?_ ?_ ?_ ?_ (fun k hk => ?_) (fun c' hc => ?_) (fun p hp => ?_) (fun q' hq' hq8 => ?_)
  all_goals (try simp (disch := omega) only [va_up_ne, va_up_self] at *)
  · exact b0
  · exact b1
  · exact b2'
  · simp (disch := omega) only [va_up_ne]
    exact hV.2.2.2.2.2.2.2.2.1 k hk
  · exact (hV.2.2.2.2.2.2.2.2.2.1 c' hc).cg (fun i hi => by simp (disch := omega) only [va_up_ne]) (by simp (disch := omega) only [va_up_ne]) (by simp (disch := omega) only [va_up_ne])
  · by_cases e : p = q
    · subst e
      refine ⟨?_, ?_, ?_, ?_, ?_, fun k hk => ?_, fun i hi => ?_⟩
      all_goals (try simp (disch := omega) only [va_up_ne, va_up_self] at *)
      · exact p1
      · exact p2
      · exact p3'
      · omega
      · exact p5
      · by_cases e2 : k = m
        · subst e2
          rw [show 56 + 33 * p + (5 + 2 * k) = 56 + 33 * p + 5 + 2 * k by omega, show 56 + 33 * p + (5 + 2 * k + 1) = 56 + 33 * p + 5 + 2 * k + 1 by omega]
          simp (disch := omega) only [va_up_ne, va_up_self]
          exact ⟨hd, hy1, hy2⟩
        · simp (disch := omega) only [va_up_ne]
          exact p6 k (by omega)
      · exact p7 i hi
    · exact (hV.2.2.2.2.2.2.2.2.2.2.1 p hp).cg (fun i hi => by simp (disch := omega) only [va_up_ne]) (by simp (disch := omega) only [va_up_ne]; exact Nat.le_refl _) (by simp (disch := omega) only [va_up_ne]) (by simp (disch := omega) only [va_up_ne]) (by simp (disch := omega) only [va_up_ne])
  · simp (disch := omega) only [va_up_ne]
    exact h8 q' hq' hq8
/-- what a habit's numbers must be -/
def HbOk (v1 : Nat) (k a b : Nat) : Prop := k ≤ 5 ∧ (k = 1 → 1 ≤ a) ∧ (k = 2 → a < v1) ∧ a ≤ 100 ∧ b ≤ 59
theorem row_hab {T : Nat → Int32} {n i : Nat} {s : RdE} {w : Nat → Int32} {v : Nat → Nat} {tm : TS} (r : Rw w v) (b1 : v 1 ≤ 4) (hi : 73 ≤ i ∧ i + 3 < 320) (z2 : v (i + 2) = 0) (z3 : v (i + 3) = 0) (hg : (habE T n i s w).1 = .inr tm) : ∃ k a b, HbOk (v 1) k a b ∧ Rw (habE T n i s w).2 (va_up (va_up (va_up v (i + 1) k) (i + 2) a) (i + 3) b) := by
  have dn : ∀ (u : Nat → Nat) j, va_up u j (u j) = u := fun u j => by
    funext x
    rw [up_at]
    split
    · rename_i e; rw [e]
    · rfl
  have n1 : ∀ k, va_up (va_up (va_up v (i + 1) k) (i + 2) 0) (i + 3) 0 = va_up v (i + 1) k := fun k => by
    have e2 : va_up v (i + 1) k (i + 2) = 0 := by rw [va_up_ne _ _ (by omega)]; exact z2
    have e3 : va_up v (i + 1) k (i + 3) = 0 := by rw [va_up_ne _ _ (by omega)]; exact z3
    have : va_up (va_up v (i + 1) k) (i + 2) 0 = va_up v (i + 1) k := by
      have := dn (va_up v (i + 1) k) (i + 2); rw [e2] at this; exact this
    rw [this]
    have := dn (va_up v (i + 1) k) (i + 3); rw [e3] at this; exact this
  have n2 : ∀ k a, va_up (va_up (va_up v (i + 1) k) (i + 2) a) (i + 3) 0 = va_up (va_up v (i + 1) k) (i + 2) a := fun k a => by
    have e3 : va_up (va_up v (i + 1) k) (i + 2) a (i + 3) = 0 := by rw [va_up_ne _ _ (by omega), va_up_ne _ _ (by omega)]; exact z3
    have := dn (va_up (va_up v (i + 1) k) (i + 2) a) (i + 3); rw [e3] at this; exact this
  unfold habE at hg ⊢
  split at hg
  · rename_i h13
    rw [if_pos h13]
    exact ⟨0, 0, 0, ⟨by omega, by omega, by omega, by omega, by omega⟩, by rw [n1]; exact r.up _ rfl⟩
  · rename_i h13
    rw [if_neg h13]
    split at hg
    · rename_i h14
      rw [if_pos h14]
      obtain ⟨⟨t1, e1⟩, i2⟩ := told_good (show (toldE T n 15 (nI 0) (nI 39) (numE T n (nI 1) (nI 40) (advE T n s)).2).2 = .inr tm from hg)
      obtain ⟨-, i1⟩ := num_good e1
      obtain ⟨a, a1, a2, ea⟩ := inI_rng (by decide) i1 (by decide)
      obtain ⟨b, b1', b2', eb⟩ := inI_rng (by decide) i2 (by decide)
      exact ⟨1, a, b, ⟨by omega, by omega, by omega, by omega, by omega⟩, ((r.up _ rfl).up _ ea).up _ eb⟩
    · rename_i h14
      rw [if_neg h14]
      split at hg
      · rename_i h16
        rw [if_pos h16]
        obtain ⟨⟨t1, e1⟩, i2⟩ := told_good (show (toldE T n 17 (nI 0) (nI 59) (fclE T n (advE T n s) w).2).2 = .inr tm from hg)
        obtain ⟨-, i1⟩ := num_good e1
        obtain ⟨a, a1, ea⟩ := inI_top r (k := 1) (by decide) (by omega) i1
        obtain ⟨b, b1', b2', eb⟩ := inI_rng (by decide) i2 (by decide)
        exact ⟨2, a, b, ⟨by omega, by omega, by omega, by omega, by omega⟩, ((r.up _ rfl).up _ ea).up _ eb⟩
      · rename_i h16
        rw [if_neg h16]
        split at hg
        · rename_i h18
          rw [if_pos h18]
          obtain ⟨-, i1⟩ := num_good (show (numE T n (nI 0) (nI 7) (advE T n s)).2 = .inr tm from hg)
          obtain ⟨a, a1, a2, ea⟩ := inI_rng (by decide) i1 (by decide)
          exact ⟨3, a, 0, ⟨by omega, by omega, by omega, by omega, by omega⟩, by rw [n2]; exact (r.up _ rfl).up _ ea⟩
        · rename_i h18
          rw [if_neg h18]
          split at hg
          · rename_i h19
            rw [if_pos h19]
            obtain ⟨-, i1⟩ := num_good (show (numE T n (nI 0) (nI 7) (advE T n s)).2 = .inr tm from hg)
            obtain ⟨a, a1, a2, ea⟩ := inI_rng (by decide) i1 (by decide)
            exact ⟨4, a, 0, ⟨by omega, by omega, by omega, by omega, by omega⟩, by rw [n2]; exact (r.up _ rfl).up _ ea⟩
          · rename_i h19
            rw [if_neg h19]
            obtain ⟨-, i1⟩ := num_good (show (numE T n (nI 0) (nI 100) (needsE T n 20 s)).2 = .inr tm from hg)
            obtain ⟨a, a1, a2, ea⟩ := inI_rng (by decide) i1 (by decide)
            exact ⟨5, a, 0, ⟨by omega, by omega, by omega, by omega, by omega⟩, by rw [n2]; exact (r.up _ rfl).up _ ea⟩
theorem row_look {T : Nat → Int32} {n : Nat} {s : RdE} {w : Nat → Int32} {fr : Nat} {tm : TS} (h : RowOk w fr) (h3 : ¬ w 3 = 0) (hz : ¬ w 2 = 0) (hf : ¬ w (56 + 33 * qP w + 4) = nI 4) (hg : (lookE T n (qP w) (nL w (qP w)) s w).1 = .inr tm) (hfr : fr < 2500) : RowOk (va_up (lookE T n (qP w) (nL w (qP w)) s w).2 3 ((lookE T n (qP w) (nL w (qP w)) s w).2 3 + nI 1)) (fr + 1) := by
  obtain ⟨v, r, hV, h7, h8, hl⟩ := h
  have p3 := pos3 r h3
  have b0 : v 0 ≤ 12 := hV.1
  have b1 : v 1 ≤ 4 := hV.2.1
  have b2' : v 2 ≤ 8 := hV.2.2.1
  have c2 : nP w = v 2 := (clp (r 2 (by decide)) (by omega)).2
  have z2 : v 2 ≠ 0 := fun e => hz (by rw [r 2 (by decide), e]; rfl)
  generalize hq : qP w = q at *
  have hqv : q + 1 = v 2 := by rw [← hq, qP, c2]; omega
  have hP := hV.2.2.2.2.2.2.2.2.2.2.1 q (by omega)
  obtain ⟨p1, p2, p3', p4, p5, p6, p7⟩ := id hP
  have cm : nL w q = v (56 + 33 * q + 4) := (clp (r (56 + 33 * q + 4) (by omega)) (by omega)).2
  have n4 : v (56 + 33 * q + 4) ≠ 4 := fun e => hf (by rw [r _ (by omega), e])
  rw [cm] at hg ⊢
  generalize hm : v (56 + 33 * q + 4) = l at *
  have hg1 : (habE T n (56 + 33 * q + 17 + 4 * l) (lk0 T n s w).2 (lkW (56 + 33 * q + 17 + 4 * l) (lk0 T n s w).1 w)).1 = .inr tm := hg
  have hg0 : ∃ t0, (lk0 T n s w).2 = .inr t0 := by
    obtain ⟨t0, e0, -⟩ := fwd_hab tm hg1
    exact ⟨t0, e0⟩
  obtain ⟨t0, e0⟩ := hg0
  obtain ⟨-, i0⟩ := num_good (show (numE T n (nI 0) (w 1 - nI 1) (needsE T n 4 s)).2 = .inr t0 from e0)
  obtain ⟨c, hc0, ec⟩ := inI_top r (k := 1) (by decide) (by omega) i0
  have ec : (lk0 T n s w).1 = nI c := ec
  have r0 : Rw (lkW (56 + 33 * q + 17 + 4 * l) (lk0 T n s w).1 w) (va_up (va_up (va_up v (56 + 33 * q + 17 + 4 * l) c) (56 + 33 * q + 17 + 4 * l + 2) 0) (56 + 33 * q + 17 + 4 * l + 3) 0) := ((r.up _ ec).up _ rfl).up _ rfl
  obtain ⟨k, a, b, ⟨hk1, hk2, hk3, hk4, hk5⟩, r1⟩ := row_hab r0 (by simp (disch := omega) only [va_up_ne]; exact b1) ⟨by omega, by omega⟩ (by simp (disch := omega) only [va_up_ne, va_up_self]) (by simp (disch := omega) only [va_up_self]) hg1
  simp (disch := omega) only [va_up_ne] at hk3
  have r2 : Rw (lookE T n q l s w).2 _ := r1.up (56 + 33 * q + 4) (rfl : nI (l + 1) = nI (l + 1))
  refine RowOk.fin hV p3 hl hfr h7 r2 ?_ ?_ ?_ ?_ ?_ ?_ ?_ ?_ (fun k hk => ?_) (fun c' hc => ?_) (fun p hp => ?_) (fun q' hq' hq8 => ?_)
  all_goals (try simp (disch := omega) only [va_up_ne, va_up_self] at *)
  · exact b0
  · exact b1
  · exact b2'
  · simp (disch := omega) only [va_up_ne]
    exact hV.2.2.2.2.2.2.2.2.1 _ hk
  · exact (hV.2.2.2.2.2.2.2.2.2.1 c' hc).cg (fun i hi => by simp (disch := omega) only [va_up_ne]) (by simp (disch := omega) only [va_up_ne]) (by simp (disch := omega) only [va_up_ne])
  · by_cases e : p = q
    · subst e
      refine ⟨?_, ?_, ?_, ?_, ?_, fun k' hk => ?_, fun i hi => ?_⟩
      all_goals (try simp (disch := omega) only [va_up_ne, va_up_self] at *)
      · exact p1
      · exact p2
      · exact p3'
      · exact p4
      · omega
      · simp (disch := omega) only [va_up_ne]
        exact p6 k' hk
      · by_cases e2 : i = l
        · subst e2
          rw [show 56 + 33 * p + (17 + 4 * i) = 56 + 33 * p + 17 + 4 * i by omega, show 56 + 33 * p + (17 + 4 * i + 1) = 56 + 33 * p + 17 + 4 * i + 1 by omega, show 56 + 33 * p + (17 + 4 * i + 2) = 56 + 33 * p + 17 + 4 * i + 2 by omega, show 56 + 33 * p + (17 + 4 * i + 3) = 56 + 33 * p + 17 + 4 * i + 3 by omega]
          simp (disch := omega) only [va_up_ne, va_up_self]
          exact ⟨hc0, hk1, hk2, hk3, hk4, hk5⟩
        · simp (disch := omega) only [va_up_ne]
          exact p7 i (by omega)
    · exact (hV.2.2.2.2.2.2.2.2.2.2.1 p hp).cg (fun i hi => by simp (disch := omega) only [va_up_ne]) (by simp (disch := omega) only [va_up_ne]; exact Nat.le_refl _) (by simp (disch := omega) only [va_up_ne]) (by simp (disch := omega) only [va_up_ne]) (by simp (disch := omega) only [va_up_ne])
  · simp (disch := omega) only [va_up_ne]
    exact h8 q' hq' hq8
theorem row_line {T : Nat → Int32} {n : Nat} {ts tm : TS} {w : Nat → Int32} {fr : Nat} (h : RowOk w fr) (hg : (bodyE T n (.inr ts) w).1 = .inr tm) (hfr : fr < 2500) : RowOk (lineE T n (.inr ts) w).2 (fr + 1) := by
  show RowOk (va_up (bodyE T n (.inr ts) w).2 3 ((bodyE T n (.inr ts) w).2 3 + nI 1)) (fr + 1)
  by_cases h3 : w 3 = 0
  · rw [bodyE, if_pos h3] at hg ⊢
    exact row_first h h3 hg hfr
  · rw [bodyE, if_neg h3] at hg ⊢
    have hgood : goodE (nx3 T (.inr ts) w) = true := by
      cases hb : goodE (nx3 T (.inr ts) w) with
      | true => rfl
      | false =>
        rw [nextE, if_pos hb] at hg
        have hg : nx3 T (.inr ts) w = .inr tm := hg
        rw [hg] at hb; cases hb
    obtain ⟨es, hof, hw2, hfu⟩ := nx_good hgood
    rw [nextE, if_neg (by rw [hgood]; decide), es] at hg ⊢
    simp only [fuE, fu1, Bool.or_eq_false_iff] at hfu
    obtain ⟨⟨hf21, hf22, hf23⟩, hf24, hf26⟩ := hfu
    by_cases h21 : isE T 21 (.inr ts) = true
    · rw [if_pos h21] at hg ⊢
      rw [h21, Bool.true_and] at hf21
      exact row_wall h h3 (of_decide_eq_false hf21) hg hfr
    rw [if_neg h21] at hg ⊢
    by_cases h22 : isE T 22 (.inr ts) = true
    · rw [if_pos h22] at hg ⊢
      rw [h22, Bool.true_and] at hf22
      exact row_clock h h3 (of_decide_eq_false hf22) hg hfr
    rw [if_neg h22] at hg ⊢
    by_cases h23 : isE T 23 (.inr ts) = true
    · rw [if_pos h23] at hg ⊢
      rw [h23, Bool.true_and] at hf23
      exact row_person h h3 (of_decide_eq_false hf23) hg hfr
    rw [if_neg h23] at hg ⊢
    have hof : ofE T (.inr ts) = true := by
      rw [Bool.not_eq_true] at h21 h22 h23
      rw [show anE T (.inr ts) = false by rw [anE, h21, h22, h23]; rfl, Bool.or_false] at hof
      exact hof
    have hz := hw2 hof
    by_cases h24 : isE T 24 (.inr ts) = true
    · rw [if_pos h24] at hg ⊢
      rw [h24, Bool.true_or, Bool.true_and] at hf24
      exact row_move h h3 hz (of_decide_eq_false hf24) hg hfr
    rw [if_neg h24] at hg ⊢
    by_cases h25 : isE T 25 (.inr ts) = true
    · rw [if_pos h25] at hg ⊢
      rw [h25, Bool.or_true, Bool.true_and] at hf24
      exact row_move h h3 hz (of_decide_eq_false hf24) hg hfr
    rw [if_neg h25] at hg ⊢
    have h26 : isE T 26 (.inr ts) = true := by
      rw [Bool.not_eq_true] at h24 h25
      rw [ofE, h24, h25] at hof; exact hof
    rw [h26, Bool.true_and] at hf26
    exact row_look h h3 hz (of_decide_eq_false hf26) hg hfr
