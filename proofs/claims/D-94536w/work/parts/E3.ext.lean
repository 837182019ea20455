set_option maxRecDepth 100000
/-! ===== a Seen more in the list ===== -/
section Ext
variable {X : Cx} {ad ad' : Nat → Nat} {A : Nat → Nat → Int32} {B : Nat → Nat → Int64} {sk : Nat → Nat → Nat} {sw : Nat → Nat → Int32} {E E' : Nat → Nat} {h h' : AH} {k : Nat}
theorem arrK_cg (hE : ∀ j, 2 ≤ j → E' j = E j) (hk : k < 100) : arrK E' k = arrK E k := by
  unfold arrK
  by_cases h50 : k < 50
  · rw [if_pos h50, if_pos h50]
    split <;> first | rfl | (simp (disch := omega) only [hE])
  · rw [if_neg h50, if_neg h50]
    split
    · rfl
    · split
      · rfl
      · split
        · rfl
        · split
          · rfl
          · split
            · rfl
            · rfl
theorem celO_cg (hE : ∀ j, 2 ≤ j → E' j = E j) (hA : ∀ j, j < 100 → j ≠ 8 → ad' j = ad j) (hk : k < 100) (h4 : k ≠ 4) (h8 : k ≠ 8) {a : Nat → Int32} {b : Nat → Int64} : celO X ad' sk E' k a b = celO X ad sk E k a b := by
  unfold celO
  by_cases h50 : k < 50
  · rw [if_pos h50, if_pos h50]
    split <;> first
      | rfl
      | exact absurd rfl h4
      | exact absurd rfl h8
      | (simp (disch := omega) only [slO, hlL, imO, hA, hE]; done)
      | (refine congrArg some (congrArg (rfA X _ _) (funext fun i => ?_)); split <;> first | rfl | (rw [hA _ (by omega) (by omega)]) | (rw [hE _ (by omega)]; split <;> first | rfl | (rw [hA _ (by omega) (by omega)])))
  · rw [if_neg h50, if_neg h50, if_neg (by omega), if_neg (by omega)]
theorem celK_cg (hE : ∀ j, 2 ≤ j → E' j = E j) (hA : ∀ j, j < 100 → j ≠ 8 → ad' j = ad j) (hk : k < 100) (h4 : k ≠ 4) (h8 : k ≠ 8) {a : Nat → Int32} {b : Nat → Int64} : celK X ad' sk E' k a b = celK X ad sk E k a b := by
  unfold celK
  rw [arrK_cg hE hk]
  split
  · rfl
  · exact celO_cg hE hA hk h4 h8
theorem celK_hi (h0 : E' 0 = E 0 + 1) (hA : ∀ j, 100 ≤ j → j < 100 + 3 * E 0 → ad' j = ad j) (hk : 100 ≤ k) (hn : ¬ (100 + 3 * E 0 ≤ k ∧ k < 103 + 3 * E 0)) {a : Nat → Int32} {b : Nat → Int64} : celK X ad' sk E' k a b = celK X ad sk E k a b := by
  have q : (k - 100) / 3 < E' 0 ↔ (k - 100) / 3 < E 0 := by omega
  have ha : arrK E' k = arrK E k := by
    unfold arrK
    have hne : ∀ b, b ≤ 100 → ¬ k < b := fun b hb => by omega
    simp only [hne 50 (by decide), hne 58 (by decide), hne 60 (by decide), hne 68 (by decide), hne 70 (by decide), hne 78 (by decide), hne 100 (by decide), if_false, q]
  unfold celK
  rw [ha]
  split
  · rfl
  · unfold celO
    have hne : ¬ k < 50 := by omega
    simp only [hne, if_false, q]
    split
    · rename_i z
      rw [hA (k + 1) (by omega) (by omega), hA (k + 2) (by omega) (by omega)]
    · rfl
def xAd (ad : Nat → Nat) (n e8 s q1 q2 : Nat) : Nat → Nat := va_up (va_up (va_up (va_up ad 8 e8) (100 + 3 * n) s) (101 + 3 * n) q1) (102 + 3 * n) q2
def xA (A : Nat → Nat → Int32) (n : Nat) (m : Int32) : Nat → Nat → Int32 := va_up (va_up (upA A 4 0 m) (101 + 3 * n) (fun _ => 0)) (102 + 3 * n) (fun _ => 0)
def xE (E : Nat → Nat) (cap : Nat) : Nat → Nat := va_up (va_up E 0 (E 0 + 1)) 1 cap
theorem xAd_lo {n e8 s q1 q2 j : Nat} (h1 : j ≠ 8) (h2 : ¬ (100 + 3 * n ≤ j ∧ j < 103 + 3 * n)) : xAd ad n e8 s q1 q2 j = ad j := by
  unfold xAd; rw [va_up_ne _ _ (by omega), va_up_ne _ _ (by omega), va_up_ne _ _ (by omega), va_up_ne _ _ h1]
theorem xAd_8 {n e8 s q1 q2 : Nat} : xAd ad n e8 s q1 q2 8 = e8 := by unfold xAd; rw [va_up_ne _ _ (by omega), va_up_ne _ _ (by omega), va_up_ne _ _ (by omega), va_up_self]
theorem xAd_0 {n e8 s q1 q2 : Nat} : xAd ad n e8 s q1 q2 (100 + 3 * n) = s := by unfold xAd; rw [va_up_ne _ _ (by omega), va_up_ne _ _ (by omega), va_up_self]
theorem xAd_1 {n e8 s q1 q2 : Nat} : xAd ad n e8 s q1 q2 (101 + 3 * n) = q1 := by unfold xAd; rw [va_up_ne _ _ (by omega), va_up_self]
theorem xAd_2 {n e8 s q1 q2 : Nat} : xAd ad n e8 s q1 q2 (102 + 3 * n) = q2 := by unfold xAd; rw [va_up_self]
theorem xA_ne {n j : Nat} {m : Int32} (h1 : j ≠ 4) (h2 : j ≠ 101 + 3 * n) (h3 : j ≠ 102 + 3 * n) : xA A n m j = A j := by unfold xA; rw [va_up_ne _ _ h3, va_up_ne _ _ h2, upA_ne h1]
theorem xE_hi {cap j : Nat} (hj : 2 ≤ j) : xE E cap j = E j := by unfold xE; rw [va_up_ne _ _ (by omega), va_up_ne _ _ (by omega)]
theorem xE_0 {cap : Nat} : xE E cap 0 = E 0 + 1 := by unfold xE; rw [va_up_ne _ _ (by omega), va_up_self]
theorem xE_1 {cap : Nat} : xE E cap 1 = cap := by unfold xE; rw [va_up_self]
theorem use_4 : Use E 4 := fun _ _ _ _ _ => rfl
theorem use_8 : Use E 8 := fun _ _ _ _ _ => rfl
theorem CP.some_ (hp : CP X (ad, A, B, sk, sw, E) h) (hu : Use E k) : ∃ e, h (ad k) = some e := by
  have := hu X ad sk (A k) (B k)
  obtain ⟨e, he⟩ := Option.isSome_iff_exists.mp this
  exact ⟨e, hp.at k he⟩
theorem CP.ext (hp : CP X (ad, A, B, sk, sw, E) h) {s q1 q2 e8 cap : Nat} {m : Int32} (n0 : h s = none) (n1 : h q1 = none) (n2 : h q2 = none) (d01 : s ≠ q1) (d02 : s ≠ q2) (d12 : q1 ≠ q2)
    (h8 : e8 = ad 8 ∨ (h e8 = none ∧ e8 ≠ s ∧ e8 ≠ q1 ∧ e8 ≠ q2)) (k4 : h' (ad 4) = some (.inr (9, [.int m, .ref e8, .int (nI (E 0 + 1))])))
    (k8 : h' e8 = some (rfA X 5 cap (fun i => if i < E 0 + 1 then some (va_up (fun i => ad (100 + 3 * i)) (E 0) s i) else none)))
    (ks : h' s = some (.inr (16, [.ref q1, .ref q2]))) (k1 : h' q1 = some (.inl (X.dA 2, 164, .inl (fun _ => 0)))) (k2 : h' q2 = some (.inl (X.dA 2, 320, .inl (fun _ => 0))))
    (kz : ∀ z, z ≠ ad 4 → z ≠ ad 8 → z ≠ e8 → z ≠ s → z ≠ q1 → z ≠ q2 → h' z = h z) : CP X (xAd ad (E 0) e8 s q1 q2, xA A (E 0) m, B, sk, sw, xE E cap) h' := by
  have o := fun k (hu : Use E k) => hp.some_ hu
  have f : ∀ z, h z = none → ∀ k, Use E k → ad k ≠ z := fun z hz k hu e => by obtain ⟨c, hc⟩ := o k hu; rw [e, hz] at hc; cases hc
  have u8 : Use E 8 := use_8
  have es : e8 ≠ s := h8.elim (fun e => by rw [e]; exact f s n0 8 u8) (fun z => z.2.1)
  have e1 : e8 ≠ q1 := h8.elim (fun e => by rw [e]; exact f q1 n1 8 u8) (fun z => z.2.2.1)
  have e2 : e8 ≠ q2 := h8.elim (fun e => by rw [e]; exact f q2 n2 8 u8) (fun z => z.2.2.2)
  have eo : ∀ k, Use E k → k ≠ 8 → ad k ≠ e8 := fun k hu hk e => h8.elim (fun z => hk (hp.2.2.1 k 8 hu u8 (e.trans z))) (fun z => f e8 z.1 k hu e)
  have keep : ∀ k, k ≠ 4 → k ≠ 8 → ¬ (100 + 3 * E 0 ≤ k ∧ k < 103 + 3 * E 0) → ∀ X' ad' sk' a b, (∀ j, j ≠ 8 → ¬ (100 + 3 * E 0 ≤ j ∧ j < 103 + 3 * E 0) → ad' j = ad j) → celK X' ad' sk' (xE E cap) k a b = celK X' ad sk' E k a b := by
    intro k h1 h2 h3 X' ad' sk' a b hA
    by_cases hk : k < 100
    · exact celK_cg (fun j hj => xE_hi hj) (fun j h4 h5 => hA j h5 (by omega)) hk h1 h2
    · exact celK_hi xE_0 (fun j h4 h5 => hA j (by omega) (by omega)) (by omega) h3
  have cls : ∀ k, Use (xE E cap) k → (k = 100 + 3 * E 0 ∧ xAd ad (E 0) e8 s q1 q2 k = s) ∨ (k = 101 + 3 * E 0 ∧ xAd ad (E 0) e8 s q1 q2 k = q1) ∨ (k = 102 + 3 * E 0 ∧ xAd ad (E 0) e8 s q1 q2 k = q2) ∨ (k = 8 ∧ xAd ad (E 0) e8 s q1 q2 k = e8) ∨ (Use E k ∧ k ≠ 8 ∧ xAd ad (E 0) e8 s q1 q2 k = ad k) := by
    intro k hu
    by_cases a1 : k = 100 + 3 * E 0
    · exact Or.inl ⟨a1, by rw [a1]; exact xAd_0⟩
    by_cases a2 : k = 101 + 3 * E 0
    · exact Or.inr (Or.inl ⟨a2, by rw [a2]; exact xAd_1⟩)
    by_cases a3 : k = 102 + 3 * E 0
    · exact Or.inr (Or.inr (Or.inl ⟨a3, by rw [a3]; exact xAd_2⟩))
    by_cases a4 : k = 8
    · exact Or.inr (Or.inr (Or.inr (Or.inl ⟨a4, by rw [a4]; exact xAd_8⟩)))
    refine Or.inr (Or.inr (Or.inr (Or.inr ⟨?_, a4, xAd_lo a4 (by omega)⟩)))
    by_cases a5 : k = 4
    · rw [a5]; exact use_4
    · intro X' ad' sk' a b
      have z := hu X' ad sk' a b
      rw [keep k a5 a4 (by omega) X' ad sk' a b (fun j _ _ => rfl)] at z
      exact celK_is z
  obtain ⟨g0, g1, g2, hz, g3, g4, g5⟩ := hp
  have hzn : ∀ z, h z = none → hz z = none := fun z hn => by
    cases q : hz z with
    | none => rfl
    | some e => have := g3 z e q; rw [hn] at this; cases this
  refine ⟨g0, fun k e hk => ?_, fun k j hk hj e => ?_, hz, fun z e hze => ?_, fun k hk => ?_, fun j hj => ?_⟩
  · have hu : Use (xE E cap) k := use_of hk
    have hk : celK X (xAd ad (E 0) e8 s q1 q2) sk (xE E cap) k (xA A (E 0) m k) (B k) = some e := hk
    show h' (xAd ad (E 0) e8 s q1 q2 k) = some e
    by_cases a5 : k = 4
    · subst a5
      rw [xAd_lo (by decide) (by omega), k4, ← hk]
      show _ = some (Sum.inr (9, [Value.int (xA A (E 0) m 4 0), Value.ref (xAd ad (E 0) e8 s q1 q2 8), Value.int (nI (xE E cap 0))]))
      rw [xAd_8, xE_0, show xA A (E 0) m 4 0 = m by unfold xA; rw [va_up_ne _ _ (by omega), va_up_ne _ _ (by omega), upA_at, if_pos rfl]]
    rcases cls k hu with ⟨rfl, q⟩ | ⟨rfl, q⟩ | ⟨rfl, q⟩ | ⟨rfl, q⟩ | ⟨u, n8, q⟩ <;> rw [q]
    · rw [ks, ← hk, celS0 (by rw [xE_0]; omega), xAd_1, xAd_2]
    · rw [k1, ← hk, celK_arr (arrS1 (by rw [xE_0]; omega))]
      rw [show xA A (E 0) m (101 + 3 * E 0) = fun _ => 0 by unfold xA; rw [va_up_ne _ _ (by omega), va_up_self]]
    · rw [k2, ← hk, celK_arr (arrS2 (by rw [xE_0]; omega))]
      rw [show xA A (E 0) m (102 + 3 * E 0) = fun _ => 0 by unfold xA; rw [va_up_self]]
    · rw [k8, ← hk]
      show _ = some (rfA X 5 (xE E cap 1) (fun i => if i < xE E cap 0 then some (xAd ad (E 0) e8 s q1 q2 (100 + 3 * i)) else none))
      rw [xE_1, xE_0]
      refine congrArg some (congrArg (rfA X 5 cap) (funext fun i => ?_))
      by_cases hi : i < E 0 + 1
      · rw [if_pos hi, if_pos hi]
        by_cases e : i = E 0
        · subst e; rw [va_up_self, xAd_0]
        · rw [va_up_ne _ _ e, xAd_lo (by omega) (by omega)]
      · rw [if_neg hi, if_neg hi]
    · have nt : ¬ (100 + 3 * E 0 ≤ k ∧ k < 103 + 3 * E 0) := fun z => by
        have := u X ad sk (A k) (B k)
        obtain ⟨c, hc⟩ := Option.isSome_iff_exists.mp this
        have w1 : ad k ≠ s := f s n0 k u
        have w2 : ad k ≠ q1 := f q1 n1 k u
        have w3 : ad k ≠ q2 := f q2 n2 k u
        rcases (show k = 100 + 3 * E 0 ∨ k = 101 + 3 * E 0 ∨ k = 102 + 3 * E 0 by omega) with rfl | rfl | rfl
        · rw [xAd_0] at q; exact w1 q.symm
        · rw [xAd_1] at q; exact w2 q.symm
        · rw [xAd_2] at q; exact w3 q.symm
      rw [keep k a5 n8 nt X _ sk _ _ (fun j h1 h2 => xAd_lo h1 h2), xA_ne a5 (by omega) (by omega)] at hk
      have := g1 k e hk
      rw [kz (ad k) (fun z => a5 (g2 k 4 u use_4 z)) (fun z => n8 (g2 k 8 u u8 z)) (eo k u n8) (f s n0 k u) (f q1 n1 k u) (f q2 n2 k u)]
      exact this
  · have e : xAd ad (E 0) e8 s q1 q2 k = xAd ad (E 0) e8 s q1 q2 j := e
    rcases cls k hk with ⟨rfl, q⟩ | ⟨rfl, q⟩ | ⟨rfl, q⟩ | ⟨rfl, q⟩ | ⟨u, n8, q⟩ <;> rcases cls j hj with ⟨rfl, q'⟩ | ⟨rfl, q'⟩ | ⟨rfl, q'⟩ | ⟨rfl, q'⟩ | ⟨u', n8', q'⟩ <;> first
      | rfl
      | (exfalso; rw [q, q'] at e; first | exact d01 e | exact d02 e | exact d12 e | exact es e | exact e1 e | exact e2 e | exact d01 e.symm | exact d02 e.symm | exact d12 e.symm | exact es e.symm | exact e1 e.symm | exact e2 e.symm | exact f _ n0 _ u' e.symm | exact f _ n1 _ u' e.symm | exact f _ n2 _ u' e.symm | exact eo _ u' n8' e.symm | exact f _ n0 _ u e | exact f _ n1 _ u e | exact f _ n2 _ u e | exact eo _ u n8 e)
      | (rw [q, q'] at e; exact g2 _ _ u u' e)
  · have a1 := g3 z e hze
    have nn : ∀ y, h y = none → z ≠ y := fun y hy q => by rw [q, hy] at a1; cases a1
    have nu : ∀ k, Use E k → z ≠ ad k := fun k hu q => by rw [q, g4 k hu] at hze; cases hze
    rw [kz z (nu 4 use_4) (nu 8 u8) (h8.elim (fun q => by rw [q]; exact nu 8 u8) (fun q => nn e8 q.1)) (nn s n0) (nn q1 n1) (nn q2 n2)]
    exact a1
  · show hz (xAd ad (E 0) e8 s q1 q2 k) = none
    rcases cls k hk with ⟨rfl, q⟩ | ⟨rfl, q⟩ | ⟨rfl, q⟩ | ⟨rfl, q⟩ | ⟨u, n8, q⟩ <;> rw [q]
    · exact hzn s n0
    · exact hzn q1 n1
    · exact hzn q2 n2
    · exact h8.elim (fun q => by rw [q]; exact g4 8 u8) (fun q => hzn e8 q.1)
    · exact g4 k u
  · refine g5 j ?_
    rcases hj with q | q | q
    · exact Or.inl q
    · exact Or.inr (Or.inl ⟨q.1, by have this : xE E cap 20 = 1 := q.2; rw [xE_hi (by omega)] at this; exact this⟩)
    · exact Or.inr (Or.inr ⟨q.1, q.2.1, by have this : xE E cap (8 + j) = 1 := q.2.2; have h2 : 2 ≤ j := q.1; rw [xE_hi (by omega)] at this; exact this⟩)
end Ext
