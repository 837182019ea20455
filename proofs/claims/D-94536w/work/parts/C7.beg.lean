set_option maxRecDepth 100000
/-! ===== System.arraycopy; Course.begins, takesOtherwise ===== -/
section Copy7
variable {X : Cx} {M : MD} {R : Room} {Z : ZT} {k n pc idx : Nat} {L : List (Option Value)} {st : List Value} {h : AH}
theorem J.copyi {a0 a1 n0 n1 t sp dp m : Nat} {f g : Nat → Int32} {ty : FieldType} (h0 : h a0 = some (.inl (X.dA t, n0, .inl f))) (h1 : h a1 = some (.inl (X.dA t, n1, .inl g))) (ht : (tysAll X)[t]? = some (X.dA t, ty)) (hprim : refKind ty = false) (b1 : sp + m ≤ n0) (b2 : dp + m ≤ n1) (c1 : n0 < 2 ^ 31) (c2 : n1 < 2 ^ 31) (hfit : ∀ i, i < m → fits ty (.int (f (sp + i))) = true) (hl : Cond.methodLink M.y.cls idx arraycopyName ∈ lw_all) (hR : 1 ≤ M.lv) (hst : wt8 st = true) (hd : decode M.cc pc = .ok (.invokestatic idx, 3))
    (kk : J X M R Z (pc + 3) L st (va_up h a1 (some (.inl (X.dA t, n1, .inl (va_cpy f g sp dp m))))) k n) : J X M R Z pc L (.int (nI m) :: .int (nI dp) :: .ref a1 :: .int (nI sp) :: .ref a0 :: st) h k n := by
  intro p e s mm args below meth c B rk H locs ls hW hS hL
  obtain ⟨ws, hP, hD, hh⟩ := id hW
  obtain ⟨q0, hq0⟩ := hh a0 _ h0
  obtain ⟨q1, hq1⟩ := hh a1 _ h1
  have hts := B.2.2.2.2.2.2.1
  have r1 := rk.1
  have r2 := rk.2.1
  have hst' := Nat.le_of_ble_eq_true hst
  refine va_copyi B.1 B.2.1 (by rw [B.2.2.2.2.1, hL.1]) B.2.2.2.2.2.1 (hts _ hl) (hts _ q371) (hts _ q370) (hts _ q153) B.2.2.2.2.2.2.2.1.1 hP hD hS q0 q1 t t hq0 hq1 ht ht hprim (nI_pos (by omega)) (nI_pos (by omega)) (nI_pos (by omega)) (by rw [nI_clamp (by omega), nI_clamp (by omega)]; exact b1) (by rw [nI_clamp (by omega), nI_clamp (by omega)]; exact b2) (fun i hi => ?_) (by omega) ?_ hd (fun H1 locs1 hP1 hD1 hS1 => ?_)
  · rw [nI_clamp (by omega)] at hi ⊢; exact hfit i hi
  · have : nativeFrameWords "java/lang/System" "arraycopy" 5 ≤ 100 := by decide +kernel
    omega
  · rw [nI_clamp (by omega), nI_clamp (by omega), nI_clamp (by omega)] at hP1 hD1
    exact kk p e s mm args below meth c B rk H1 locs1 ls (Wd.set hD hh hq1 hP1 hD1) hS1 hL
end Copy7
/-! a square is the same for two rows -/
def SqEq (w w' : Nat → Int32) : Prop := ∀ i, i < 320 → i ≠ 7 → (∀ c, c < 4 → i ≠ 32 + 6 * c + 2) → w' i = w i
theorem anyN_cg {f g : Nat → Bool} {n : Nat} (h : ∀ k, k < n → f k = g k) : anyN f n = anyN g n := anyN_congr h
theorem SqEq.cE {w w' : Nat → Int32} (h : SqEq w w') : nC w' = nC w := by unfold nC; rw [h 1 (by omega) (by omega) (fun c hc => by omega)]
theorem SqEq.pE {w w' : Nat → Int32} (h : SqEq w w') : nP w' = nP w := by unfold nP; rw [h 2 (by omega) (by omega) (fun c hc => by omega)]
theorem SqEq.wE {w w' : Nat → Int32} (h : SqEq w w') : nW w' = nW w := by unfold nW; rw [h 0 (by omega) (by omega) (fun c hc => by omega)]
theorem SqEq.per {w w' : Nat → Int32} (h : SqEq w w') {p j : Nat} (hp : p < 8) (hj : j < 33) : perI w' p j = perI w p j := by unfold perI; rw [h _ (by omega) (by omega) (fun c hc => by omega)]
theorem SqEq.lk {w w' : Nat → Int32} (h : SqEq w w') {p i j : Nat} (hp : p < 8) (hi : i < 4) (hj : j < 4) : lkI w' p i j = lkI w p i j := by unfold lkI; rw [h _ (by omega) (by omega) (fun c hc => by omega)]
theorem SqEq.wall {w w' : Nat → Int32} (h : SqEq w w') (x y : Int32) {n : Nat} (hn : n ≤ 12) : anyN (wallAt w' x y) n = anyN (wallAt w x y) n := anyN_cg (fun k hk => by unfold wallAt; rw [h (8 + 2 * k) (by omega) (by omega) (fun c hc => by omega), h (8 + 2 * k + 1) (by omega) (by omega) (fun c hc => by omega)])
theorem SqEq.clk {w w' : Nat → Int32} (h : SqEq w w') (x y b : Int32) {n : Nat} (hn : n ≤ 4) : anyN (clockAt w' x y b) n = anyN (clockAt w x y b) n := anyN_cg (fun k hk => by unfold clockAt; rw [h (32 + 6 * k) (by omega) (by omega) (fun c hc => by omega), h (32 + 6 * k + 1) (by omega) (by omega) (fun c hc => by omega)])
theorem SqEq.taken {w w' : Nat → Int32} (h : SqEq w w') (h12 : nW w ≤ 12) (h4 : nC w ≤ 4) (x y b : Int32) : takenB w' x y b = takenB w x y b := by
  unfold takenB
  rw [show (w' 0).toNatClampNeg = nW w from h.wE, show (w' 1).toNatClampNeg = nC w from h.cE, h.wall x y h12, h.clk x y b h4]
  rfl
theorem SqEq.free {w w' : Nat → Int32} (h : SqEq w w') (h12 : nW w ≤ 12) (h4 : nC w ≤ 4) (x y : Int32) : freeB w' x y = freeB w x y := by
  unfold freeB
  rw [h.taken h12 h4, h 4 (by omega) (by omega) (fun c hc => by omega), h 5 (by omega) (by omega) (fun c hc => by omega)]
theorem SqEq.kI {w w' : Nat → Int32} (h : SqEq w w') (h12 : nW w ≤ 12) (h4 : nC w ≤ 4) (way : Int32) : ∀ i s, wkI w' way i s = wkI w way i s := by
  intro i
  induction i with
  | zero => intro s; rfl
  | succ i ih =>
    intro s
    simp only [wkI, ih]
    have e : ∀ q, stepP w' way q = stepP w way q := fun q => by unfold stepP goesB; rw [h.free h12 h4]
    rw [e]
theorem SqEq.kO {w w' : Nat → Int32} {v : Nat → Nat} (h : SqEq w w') (hw : WOk w v) {p : Nat} (hp : p < v 2) : ∀ k, k ≤ 6 → wkO w' p k = wkO w p k := by
  have h8 := hw.np8
  have h4 : nC w ≤ 4 := by rw [hw.ncE]; exact hw.nc4
  have h12 : nW w ≤ 12 := by
    have e : w 0 = nI (v 0) := hw.1 0 (by decide)
    have b : v 0 ≤ 12 := hw.2.1
    unfold nW
    rw [e, nI_clamp (by omega)]; exact b
  intro k
  induction k with
  | zero => intro _; simp only [wkO]; rw [h.per (by omega) (by omega), h.per (by omega) (by omega), h.per (by omega) (by omega)]
  | succ k ih => intro hk; simp only [wkO]; rw [ih (by omega), h.per (by omega) (by omega), h.per (by omega) (by omega), h.kI h12 h4]
theorem WOk.nm6 {w : Nat → Int32} {v : Nat → Nat} (h : WOk w v) {p : Nat} (hp : p < v 2) : v (56 + 33 * p + 3) ≤ 6 := (h.2.2.2.2.2.2.2.2.2.2.2.1 p hp).2.2.2.1
theorem WOk.nmE {w : Nat → Int32} {v : Nat → Nat} (h : WOk w v) {p : Nat} (hp : p < v 2) : nM w p = v (56 + 33 * p + 3) := by
  have := h.np8
  rw [nM, h.1 _ (by omega)]; exact nI_clamp (by have := h.nm6 hp; omega)
theorem SqEq.spot {w w' : Nat → Int32} {v : Nat → Nat} (h : SqEq w w') (hw : WOk w v) {p : Nat} (hp : p < v 2) : spotF w' p = spotF w p := by
  have h8 := hw.np8
  unfold spotF
  rw [h.per (by omega) (by omega)]
  have e : (perI w p 3).toNatClampNeg = v (56 + 33 * p + 3) := hw.nmE hp
  rw [e, h.kO hw hp _ (hw.nm6 hp)]
theorem SqEq.hb {w w' : Nat → Int32} (h : SqEq w w') {p i : Nat} (hp : p < 8) (hi : i < 4) : hbC w' p i = hbC w p i := by
  unfold hbC
  rw [h.lk hp hi (by decide), h.lk hp hi (by decide), h.lk hp hi (by decide), h.lk hp hi (by decide)]
theorem SqAt.cg {X : Cx} {hz : AH} {sk : Nat → Nat} {w w' : Nat → Int32} {v : Nat → Nat} (h : SqEq w w') (hw : WOk w v) (hs : SqAt X hz sk w) : SqAt X hz sk w' := by
  have h8 := hw.np8
  have n4 := hw.nc4
  have npE := hw.npE
  have ncE := hw.ncE
  have nM' : ∀ p, p < v 2 → nM w' p = nM w p := fun p hp => by unfold nM; rw [h _ (by omega) (by omega) (fun c hc => by omega)]
  have nL' : ∀ p, p < v 2 → nL w' p = nL w p := fun p hp => by unfold nL; rw [h _ (by omega) (by omega) (fun c hc => by omega)]
  have h12 : nW w ≤ 12 := by
    have e : w 0 = nI (v 0) := hw.1 0 (by decide)
    have b : v 0 ≤ 12 := hw.2.1
    unfold nW
    rw [e, nI_clamp (by omega)]; exact b
  obtain ⟨⟨a1, a2, a3, ⟨g, a4, a5⟩, a6, a7⟩, ⟨g2, b1, b2⟩, b3⟩ := hs
  refine ⟨⟨?_, by rw [h.cE]; exact a2, by rw [h.pE]; exact a3, ⟨g, a4, fun a b ha hb => ?_⟩, fun c hc => ?_, fun p hp => ?_⟩, ⟨g2, b1, b2⟩, fun p hp => ?_⟩
  · rw [a1, h 4 (by omega) (by omega) (fun c hc => by omega), h 5 (by omega) (by omega) (fun c hc => by omega), h 6 (by omega) (by omega) (fun c hc => by omega), h 0 (by omega) (by omega) (fun c hc => by omega), h 3 (by omega) (by omega) (fun c hc => by omega)]
  · rw [a5 a b ha hb, h.wE, h.wall _ _ h12]
  · rw [h.cE] at hc
    obtain ⟨pc, q⟩ := a6 c hc
    refine ⟨pc, ?_⟩
    unfold DlAt at q ⊢
    rw [q, h _ (by omega) (by omega) (fun d hd => by omega), h (32 + 6 * c + 1) (by omega) (by omega) (fun d hd => by omega), h (32 + 6 * c + 3) (by omega) (by omega) (fun d hd => by omega), h (32 + 6 * c + 4) (by omega) (by omega) (fun d hd => by omega), h (32 + 6 * c + 5) (by omega) (by omega) (fun d hd => by omega)]
  · rw [h.pE, npE] at hp
    obtain ⟨c1, c2, ⟨g3, c3, c4⟩, ⟨g4, c5, c6⟩, c7, c8⟩ := a7 p (by omega)
    have m6 := hw.nm6 hp
    have nmE := hw.nmE hp
    have l4 := hw.nl4 hp
    have nlE := hw.nlE hp
    refine ⟨?_, by rw [nL' p hp]; exact c2, ⟨g3, c3, fun k hk => ?_⟩, ⟨g4, c5, fun k hk => ?_⟩, fun i hi => ?_, by rw [nL' p hp]; exact c8⟩
    · rw [c1, h.per (by omega) (by omega), h.per (by omega) (by omega), h.per (by omega) (by omega), h.per (by omega) (by omega)]
    · rw [nM' p hp] at hk; rw [c4 k hk, h.per (by omega) (by omega)]
    · rw [nM' p hp] at hk; rw [c6 k hk, h.per (by omega) (by omega)]
    · rw [nL' p hp] at hi; rw [c7 i hi, h.hb (by omega) (by omega)]
  · rw [h.pE, npE] at hp
    obtain ⟨g3, c1, c2⟩ := b3 p (by omega)
    refine ⟨g3, c1, fun t ht => ?_⟩
    rw [h.spot hw hp]
    refine c2 t ?_
    unfold spanW at ht ⊢
    rw [h 6 (by omega) (by omega) (fun c hc => by omega)] at ht
    exact ht
/-! the course's square is another -/
theorem celK_b {X : Cx} {ad : Nat → Nat} {sk : Nat → Nat → Nat} {E : Nat → Nat} {k : Nat} {a : Nat → Int32} {b : Nat → Int64} {s1 : Nat → Nat} (hk : k ≠ 3) : celK X ad (va_up sk 1 s1) (va_up E 20 1) k a b = celK X ad sk E k a b := by
  have ha : arrK (va_up E 20 1) k = arrK E k := rfl
  unfold celK
  rw [ha]
  split
  · rfl
  · unfold celO
    by_cases h50 : k < 50
    · rw [if_pos h50, if_pos h50]
      split <;> first | rfl | exact absurd rfl hk | (refine congrArg some (congrArg (rfA X 7 3) (funext fun i => ?_)); split; (rw [va_up_ne _ _ (by omega)]); rfl) | (split <;> first | rfl | (exfalso; simp_all))
    · rw [if_neg h50, if_neg h50]; rfl
theorem up_same {α : Type} (f : Nat → α) (k : Nat) : va_up f k (f k) = f := by
  funext j
  by_cases e : j = k
  · subst e; rw [va_up_self]
  · rw [va_up_ne _ _ e]
theorem use_b {E : Nat → Nat} {k : Nat} : Use (va_up E 20 1) k ↔ Use E k := by
  by_cases hk : k = 3
  · subst hk
    exact ⟨fun _ _ _ _ _ _ => rfl, fun _ _ _ _ _ _ => rfl⟩
  · constructor
    · intro h X ad sk a b
      have := h X ad sk a b
      rw [← up_same sk 1, celK_b hk] at this
      exact this
    · intro h X ad sk a b
      rw [← up_same sk 1, celK_b hk]
      exact h X ad sk a b
theorem CP.beg {X : Cx} {ad : Nat → Nat} {A : Nat → Nat → Int32} {B : Nat → Nat → Int64} {sk : Nat → Nat → Nat} {sw : Nat → Nat → Int32} {E : Nat → Nat} {h : AH} {w1 : Nat → Int32} (hp : CP X (ad, A, B, sk, sw, E) h) (hq : ∀ hz, SqAt X hz (sk 0) (sw 0) → SqAt X hz (sk 0) w1) {e3 : va_E} (he : celK X ad (va_up sk 1 (sk 0)) (va_up E 20 1) 3 (A 3) (B 3) = some e3) : CP X (ad, A, B, va_up sk 1 (sk 0), va_up sw 1 w1, va_up E 20 1) (va_up h (ad 3) (some e3)) := by
  obtain ⟨h0, h1, h2, hz, h3, h4, h5⟩ := hp
  have u3 : Use E 3 := fun _ _ _ _ _ => rfl
  refine ⟨h0, fun k e hk => ?_, fun k j hk hj => h2 k j (use_b.mp hk) (use_b.mp hj), hz, fun a e ha => ?_, fun k hk => h4 k (use_b.mp hk), fun j hj => ?_⟩
  · by_cases e3' : k = 3
    · subst e3'
      have hk' : celK X ad (va_up sk 1 (sk 0)) (va_up E 20 1) 3 (A 3) (B 3) = some e := hk
      rw [he] at hk'
      cases hk'
      exact va_up_self _ _ _
    · have hk' : celK X ad (va_up sk 1 (sk 0)) (va_up E 20 1) k (A k) (B k) = some e := hk
      rw [celK_b e3'] at hk'
      show va_up h (ad 3) (some e3) (ad k) = some e
      rw [va_up_ne _ _ (fun q => e3' (h2 k 3 (use_of hk') u3 q))]
      exact h1 k e hk'
  · rw [va_up_ne _ _ (fun q => ?_)]
    · exact h3 a e ha
    · rw [q, h4 3 u3] at ha; cases ha
  · show SqAt X hz (va_up sk 1 (sk 0) j) (va_up sw 1 w1 j)
    by_cases e1 : j = 1
    · subst e1
      rw [va_up_self, va_up_self]
      exact hq hz (h5 0 (Or.inl rfl))
    · rw [va_up_ne _ _ e1, va_up_ne _ _ e1]
      refine h5 j ?_
      rcases hj with q | q | q
      · exact Or.inl q
      · exact absurd q.1 e1
      · refine Or.inr (Or.inr ⟨q.1, q.2.1, ?_⟩)
        have this : va_up E 20 1 (8 + j) = 1 := q.2.2
        rw [va_up_ne _ _ (by omega)] at this
        exact this
section Beg7
variable {X : Cx} {M : MD} {R : Room} {Z : ZT} {k n pc idx : Nat} {L : List (Option Value)} {st : List Value} {ad : Nat → Nat} {A : Nat → Nat → Int32} {B : Nat → Nat → Int64} {sk : Nat → Nat → Nat} {sw : Nat → Nat → Int32} {E : Nat → Nat} {v : Nat → Nat}
theorem c_copy {i j n0 n1 sp dp m : Nat} (hi : arrK E i = some (n0, 0)) (hj : arrK E j = some (n1, 0)) (b1 : sp + m ≤ n0) (b2 : dp + m ≤ n1) (c1 : n0 < 2 ^ 31) (c2 : n1 < 2 ^ 31) (hl : Cond.methodLink M.y.cls idx arraycopyName ∈ lw_all) (hR : 1 ≤ M.lv) (hst : wt8 st = true) (hd : decode M.cc pc = .ok (.invokestatic idx, 3)) (kk : JS CP X M R Z k n (pc + 3) L st (ad, va_up A j (va_cpy (A i) (A j) sp dp m), B, sk, sw, E)) : JS CP X M R Z k n pc L (.int (nI m) :: .int (nI dp) :: .ref (ad j) :: .int (nI sp) :: .ref (ad i) :: st) (ad, A, B, sk, sw, E) := by
  intro h hp
  refine J.copyi (t := 0) (ty := .int) (hp.at i (celK_arr hi)) (hp.at j (celK_arr hj)) rfl rfl b1 b2 c1 c2 (fun _ _ => rfl) hl hR hst hd (kk _ (hp.upd (k := j) (fun q hq => va_up_ne _ _ hq) (fun q hq => rfl) ?_))
  rw [va_up_self, celK_arr hj]
theorem bX3_begins_0 : Blk CP mX3_begins 0 2 [oAL 0, oAL 1] := blk_c (s_aload_n dX3_begins_0 rfl) <| blk_c (s_aload_n dX3_begins_1 rfl) <| blk_nil
theorem bX3_begins_5 : Blk CP mX3_begins 5 13 [oAL 2, oC (nI 0), oAL 0, cR 3 7 37, oC (nI 0), oC (nI 4)] := blk_c (s_aload_n dX3_begins_5 rfl) <| blk_c (s_iconst dX3_begins_6 (by decide +kernel)) <| blk_c (s_aload_n dX3_begins_7 rfl) <| blk_c (cgX3_7 (Or.inl q498) dX3_begins_8) <| blk_c (s_iconst dX3_begins_11 (by decide +kernel)) <| blk_c (s_iconst dX3_begins_12 (by decide +kernel)) <| blk_nil
theorem bX3_begins_16 : Blk CP mX3_begins 16 26 [oAL 0, oIL 3, cPI 3 13, oAL 0, cR 3 8 38, oC (nI 0)] := blk_c (s_aload_n dX3_begins_16 rfl) <| blk_c (s_iload_n dX3_begins_17 rfl) <| blk_c (cpX3_13 (Or.inl q507) dX3_begins_18) <| blk_c (s_aload_n dX3_begins_21 rfl) <| blk_c (cgX3_8 (Or.inl q499) dX3_begins_22) <| blk_c (s_iconst dX3_begins_25 (by decide +kernel)) <| blk_nil
theorem bX3_begins_29 : Blk CP mX3_begins 29 39 [oAL 0, oC (nI 0), cPI 3 15, oAL 0, oC (nI 0), cPZ 3 16] := blk_c (s_aload_n dX3_begins_29 rfl) <| blk_c (s_iconst dX3_begins_30 (by decide +kernel)) <| blk_c (cpX3_15 (Or.inl q510) dX3_begins_31) <| blk_c (s_aload_n dX3_begins_34 rfl) <| blk_c (s_iconst dX3_begins_35 (by decide +kernel)) <| blk_c (cpX3_16 (Or.inl q511) dX3_begins_36) <| blk_nil
abbrev BegA (A A' : Nat → Nat → Int32) (aw : Int32) : Prop := (∀ j, j ≠ 3 → j ≠ 37 → j ≠ 38 → A' j = A j) ∧ (∀ q, q ≠ 13 → q ≠ 15 → q ≠ 16 → A' 3 q = A 3 q) ∧ A' 3 13 = aw ∧ A' 3 15 = nI 0 ∧ A' 3 16 = nI 0 ∧ (∀ c, c < 4 → A' 37 c = A 2 c) ∧ ∀ c, c < 4 → A' 38 c = nI 0
theorem ok_begins {w1 : Nat → Int32} {aw : Int32} (hw : WOk (sw 0) v) (hE : SqEq (sw 0) w1) : RCc X mX3_begins 0 0 [.ref (ad 3), .ref (sk 0 0), .ref (ad 2), .int aw] (ad, A, B, sk, sw, E) (fun r x' => r = none ∧ ∃ A', x' = (ad, A', B, va_up sk 1 (sk 0), va_up sw 1 w1, va_up E 20 1) ∧ BegA A A' aw) := by
  refine C_start (L := [some (.ref (ad 3)), some (.ref (sk 0 0)), some (.ref (ad 2)), some (.int aw)]) 0 rfl ?_
  refine bX3_begins_0.go rfl trivial ?_
  intro h hp
  refine J.putfE (f := 12) hp.1.1 clsX3 rfl (hp.at 3 rfl) (by decide) (Nat.le_of_ble_eq_true rfl) rfl rfl rfl (Or.inl q505) dX3_begins_2 ?_
  refine (fun (z : JS CP X mX3_begins (rmOf mX3_begins.lv 0 0) (ZC X 0 0 (fun r x' => r = none ∧ ∃ A', x' = (ad, A', B, va_up sk 1 (sk 0), va_up sw 1 w1, va_up E 20 1) ∧ BegA A A' aw)) 0 0 5 [some (.ref (ad 3)), some (.ref (sk 0 0)), some (.ref (ad 2)), some (.int aw)] [] (ad, A, B, va_up sk 1 (sk 0), va_up sw 1 w1, va_up E 20 1)) => z _ (hp.beg (fun hz hs => hs.cg hE hw) rfl)) ?_
  refine bX3_begins_5.go rfl (by repeat' first | exact trivial | rfl | assumption | omega | apply And.intro) ?_
  refine c_copy (sp := 0) (dp := 0) (m := 4) (n0 := 4) (n1 := 4) rfl rfl (by decide) (by decide) (by decide) (by decide) q1158 (by decide) rfl dX3_begins_13 ?_
  refine bX3_begins_16.go rfl (by repeat' first | exact trivial | rfl | assumption | omega | apply And.intro) ?_
  refine c_fill (N := 4) rfl (by decide) dX3_begins_26 (lw_S q1159 q1110 q152 q1111) (by decide) (fun g hg => ?_)
  refine bX3_begins_29.go rfl (by (repeat' first | exact trivial | rfl | assumption | omega | decide | apply And.intro)) ?_
  refine c_vret dX3_begins_39 rfl ⟨rfl, _, rfl, fun j a1 a2 a3 => ?_, fun q a1 a2 a3 => ?_, ?_, ?_, ?_, fun c hc => ?_, fun c hc => ?_⟩
  · rw [upA_ne a1, upA_ne a1, va_up_ne _ _ a3, upA_ne a1, va_up_ne _ _ a2]
  · rw [upA_at, if_neg a3, upA_at, if_neg a2, va_up_ne _ _ (by decide), upA_at, if_neg a1, va_up_ne _ _ (by decide)]
  · rw [upA_at, if_neg (by decide), upA_at, if_neg (by decide), va_up_ne _ _ (by decide), upA_at, if_pos rfl]
  · rw [upA_at, if_neg (by decide), upA_at, if_pos rfl]
  · rw [upA_at, if_pos rfl]
  · rw [upA_ne (by decide), upA_ne (by decide), va_up_ne _ _ (by decide), upA_ne (by decide), va_up_self, pk_cpy_in (Nat.zero_le _) (by omega)]
    rw [Nat.sub_zero, Nat.zero_add]
  · rw [upA_ne (by decide), upA_ne (by decide), va_up_self, hg c hc]
theorem bX3_takesOtherwise_0 : Blk CP mX3_takesOtherwise 0 7 [oAL 0, cI 3 14, oC (nI 1), oSub, oIS 1] := blk_c (s_aload_n dX3_takesOtherwise_0 rfl) <| blk_c (cgX3_14 (Or.inl q508) dX3_takesOtherwise_1) <| blk_c (s_iconst dX3_takesOtherwise_4 (by decide +kernel)) <| blk_c (s_isub dX3_takesOtherwise_5) <| blk_c (s_istore_n dX3_takesOtherwise_6 rfl (by decide)) <| blk_nil
theorem bX3_takesOtherwise_7 : Blk CP mX3_takesOtherwise 7 8 [oIL 1] := blk_c (s_iload_n dX3_takesOtherwise_7 rfl) <| blk_nil
theorem bX3_takesOtherwise_11 : Blk CP mX3_takesOtherwise 11 16 [oIL 1, oAL 0, cI 3 15] := blk_c (s_iload_n dX3_takesOtherwise_11 rfl) <| blk_c (s_aload_n dX3_takesOtherwise_12 rfl) <| blk_c (cgX3_15 (Or.inl q510) dX3_takesOtherwise_13) <| blk_nil
theorem bX3_takesOtherwise_19 : Blk CP mX3_takesOtherwise 19 25 [oAL 0, cR 3 6 36, oIL 1, cAI 36 1280] := blk_c (s_aload_n dX3_takesOtherwise_19 rfl) <| blk_c (cgX3_6 (Or.inl q497) dX3_takesOtherwise_20) <| blk_c (s_iload_n dX3_takesOtherwise_23 rfl) <| blk_c (c_zald (fun _ => rfl) dX3_takesOtherwise_24) <| blk_nil
theorem bX3_takesOtherwise_28 : Blk CP mX3_takesOtherwise 28 7 [oInc 1 (-1), .inl (fun s => some s)] := blk_c (s_iinc dX3_takesOtherwise_28 (by decide +kernel) (by decide)) <| blk_c (s_goto (tgt := 7) dX3_takesOtherwise_31 (by decide)) <| blk_nil
theorem bX3_takesOtherwise_34 : Blk CP mX3_takesOtherwise 34 35 [oIL 1] := blk_c (s_iload_n dX3_takesOtherwise_34 rfl) <| blk_nil
theorem bX3_takesOtherwise_38 : Blk CP mX3_takesOtherwise 38 39 [oC (nI 0)] := blk_c (s_iconst dX3_takesOtherwise_38 (by decide +kernel)) <| blk_nil
theorem bX3_takesOtherwise_40 : Blk CP mX3_takesOtherwise 40 45 [oAL 0, cI 3 15, oIS 2] := blk_c (s_aload_n dX3_takesOtherwise_40 rfl) <| blk_c (cgX3_15 (Or.inl q510) dX3_takesOtherwise_41) <| blk_c (s_istore_n dX3_takesOtherwise_44 rfl (by decide)) <| blk_nil
theorem bX3_takesOtherwise_45 : Blk CP mX3_takesOtherwise 45 47 [oIL 2, oIL 1] := blk_c (s_iload_n dX3_takesOtherwise_45 rfl) <| blk_c (s_iload_n dX3_takesOtherwise_46 rfl) <| blk_nil
theorem bX3_takesOtherwise_50 : Blk CP mX3_takesOtherwise 50 45 [oAL 0, cR 3 6 36, oIL 2, oC (nI 0), cSZ 36 1280, oInc 2 1, .inl (fun s => some s)] := blk_c (s_aload_n dX3_takesOtherwise_50 rfl) <| blk_c (cgX3_6 (Or.inl q497) dX3_takesOtherwise_51) <| blk_c (s_iload_n dX3_takesOtherwise_54 rfl) <| blk_c (s_iconst dX3_takesOtherwise_55 (by decide +kernel)) <| blk_c (c_zast (fun _ => rfl) dX3_takesOtherwise_56) <| blk_c (s_iinc dX3_takesOtherwise_57 (by decide +kernel) (by decide)) <| blk_c (s_goto (tgt := 45) dX3_takesOtherwise_60 (by decide)) <| blk_nil
theorem bX3_takesOtherwise_63 : Blk CP mX3_takesOtherwise 63 78 [oAL 0, cR 3 6 36, oIL 1, oC (nI 1), cSZ 36 1280, oAL 0, oIL 1, oC (nI 1), oAdd, cPI 3 15, oC (nI 1)] := blk_c (s_aload_n dX3_takesOtherwise_63 rfl) <| blk_c (cgX3_6 (Or.inl q497) dX3_takesOtherwise_64) <| blk_c (s_iload_n dX3_takesOtherwise_67 rfl) <| blk_c (s_iconst dX3_takesOtherwise_68 (by decide +kernel)) <| blk_c (c_zast (fun _ => rfl) dX3_takesOtherwise_69) <| blk_c (s_aload_n dX3_takesOtherwise_70 rfl) <| blk_c (s_iload_n dX3_takesOtherwise_71 rfl) <| blk_c (s_iconst dX3_takesOtherwise_72 (by decide +kernel)) <| blk_c (s_iadd dX3_takesOtherwise_73) <| blk_c (cpX3_15 (Or.inl q510) dX3_takesOtherwise_74) <| blk_c (s_iconst dX3_takesOtherwise_77 (by decide +kernel)) <| blk_nil
def NxC (A A' : Nat → Nat → Int32) (r : Option Value) (q : Option Nat) : Prop := match q with
  | none => r = some (.int (nI 0))
  | some k => r = some (.int (nI 1)) ∧ A' 3 15 = nI (k + 1) ∧ ∀ n, n < 2000 → tkC A' n = nxtE (tkC A) k n
theorem ok_takesOtherwise {tm on : Nat} (h15 : A 3 15 = nI tm) (h14 : A 3 14 = nI on) (htm : tm ≤ 1280) (hon : on ≤ 1280) : QC X mX3_takesOtherwise [.ref (ad 3)] ad A B sk sw E (fun r A' B' => B' = B ∧ (∀ f, f ≠ 3 → f ≠ 36 → A' f = A f) ∧ (∀ j, j ≠ 15 → A' 3 j = A 3 j) ∧ NxC A A' r (lastNo (tkC A) on)) := by
  have etk : ∀ A' : Nat → Nat → Int32, ∀ m, A' 3 15 = nI m → m ≤ 1280 → ∀ j, j < 2000 → tkC A' j = (decide (j < m) && !decide (A' 36 j = 0)) := fun A' m hm hm2 j hj => by
    rw [tkC, hm]
    congr 1
    exact decide_eq_decide.mpr (nI_ltI (by omega) (by omega))
  refine C_start (L := [some (.ref (ad 3)), none, none]) 2 rfl ?_
  refine bX3_takesOtherwise_0.go rfl (by repeat' first | exact trivial | rfl | assumption | omega | apply And.intro) ?_
  rw [h14]
  have none_ : lastNo (tkC A) on = none → JS CP X mX3_takesOtherwise (rmOf mX3_takesOtherwise.lv 0 0) (ZC X 0 0 (fun r x' => ∃ A' B', x' = (ad, A', B', sk, sw, E) ∧ (B' = B ∧ (∀ f, f ≠ 3 → f ≠ 36 → A' f = A f) ∧ (∀ j, j ≠ 15 → A' 3 j = A 3 j) ∧ NxC A A' r (lastNo (tkC A) on)))) 0 0 34 [some (.ref (ad 3)), some (.int (nI 0 - nI 1)), none] [] (ad, A, B, sk, sw, E) := by
    intro hl
    refine bX3_takesOtherwise_34.go rfl trivial ?_
    refine j_if_ge (tgt := 40) dX3_takesOtherwise_35 (by decide) (fun h35 => absurd h35 (by decide +kernel)) (fun h35 => ?_)
    refine bX3_takesOtherwise_38.go rfl trivial ?_
    refine c_zret dX3_takesOtherwise_39 rfl rfl ⟨_, _, rfl, rfl, fun _ _ _ => rfl, fun _ _ => rfl, ?_⟩
    rw [hl]; rfl
  have some_ : ∀ i, i < on → lastNo (tkC A) on = some i → JS CP X mX3_takesOtherwise (rmOf mX3_takesOtherwise.lv 0 0) (ZC X 0 0 (fun r x' => ∃ A' B', x' = (ad, A', B', sk, sw, E) ∧ (B' = B ∧ (∀ f, f ≠ 3 → f ≠ 36 → A' f = A f) ∧ (∀ j, j ≠ 15 → A' 3 j = A 3 j) ∧ NxC A A' r (lastNo (tkC A) on)))) 0 0 34 [some (.ref (ad 3)), some (.int (nI i)), none] [] (ad, A, B, sk, sw, E) := by
    intro i hi hl
    refine bX3_takesOtherwise_34.go rfl trivial ?_
    refine j_if_ge (tgt := 40) dX3_takesOtherwise_35 (by decide) (fun h35 => ?_) (fun h35 => absurd (nI_pos' (by omega)) h35)
    refine bX3_takesOtherwise_40.go rfl (by repeat' first | exact trivial | rfl | assumption | omega | apply And.intro) ?_
    rw [h15]
    have fin : ∀ A1 (j : Nat), (∀ f, f ≠ 36 → A1 f = A f) → (∀ n, n < tm → A1 36 n = A 36 n) → (∀ n, tm ≤ n → n < i → A1 36 n = nI 0) → JS CP X mX3_takesOtherwise (rmOf mX3_takesOtherwise.lv 0 0) (ZC X 0 0 (fun r x' => ∃ A' B', x' = (ad, A', B', sk, sw, E) ∧ (B' = B ∧ (∀ f, f ≠ 3 → f ≠ 36 → A' f = A f) ∧ (∀ j, j ≠ 15 → A' 3 j = A 3 j) ∧ NxC A A' r (lastNo (tkC A) on)))) 0 0 63 [some (.ref (ad 3)), some (.int (nI i)), some (.int (nI j))] [] (ad, A1, B, sk, sw, E) := by
      intro A1 j k1 k2 k3
      refine bX3_takesOtherwise_63.go rfl (by (try simp (disch := omega) only [nI_add, pk_mul, pk_sub, nI_clamp, vpI]); repeat' first | exact trivial | rfl | assumption | omega | apply And.intro) ?_
      simp (disch := omega) only [nI_clamp, nI_add]
      refine c_zret dX3_takesOtherwise_78 rfl rfl ⟨_, _, rfl, rfl, fun f a b => by rw [upA_ne a, upA_ne b]; exact k1 f b, fun j hj => by rw [upA_at, if_neg hj, upA_ne (by decide), k1 3 (by decide)], ?_⟩
      rw [hl]
      refine ⟨rfl, by rw [upA_at, if_pos rfl], fun n hn => ?_⟩
      rw [etk _ (i + 1) (by rw [upA_at, if_pos rfl]) (by omega) n hn, upA_ne (by decide), upA_at, nar_z1, nxtE]
      by_cases h1 : n < i
      · rw [if_pos h1, if_neg (by omega), decide_eq_true (show n < i + 1 by omega), Bool.true_and, etk A tm h15 htm n hn]
        by_cases h2 : n < tm
        · rw [k2 n h2, decide_eq_true h2, Bool.true_and]
        · rw [k3 n (by omega) h1, decide_eq_false h2, Bool.false_and]; decide
      · rw [if_neg h1]
        by_cases h2 : n = i
        · rw [if_pos h2, decide_eq_true h2, decide_eq_true (show n < i + 1 by omega)]; decide
        · rw [decide_eq_false h2, decide_eq_false (show ¬ n < i + 1 by omega)]; rfl
    by_cases hti : tm ≤ i
    · refine loop_down (N := i) (I := fun k => tm ≤ k) (P := fun k => ∀ A1, (∀ f, f ≠ 36 → A1 f = A f) → (∀ n, n < tm → A1 36 n = A 36 n) → (∀ n, tm ≤ n → n < k → A1 36 n = nI 0) → JS CP X mX3_takesOtherwise (rmOf mX3_takesOtherwise.lv 0 0) (ZC X 0 0 (fun r x' => ∃ A' B', x' = (ad, A', B', sk, sw, E) ∧ (B' = B ∧ (∀ f, f ≠ 3 → f ≠ 36 → A' f = A f) ∧ (∀ j, j ≠ 15 → A' 3 j = A 3 j) ∧ NxC A A' r (lastNo (tkC A) on)))) 0 0 45 [some (.ref (ad 3)), some (.int (nI i)), some (.int (nI k))] [] (ad, A1, B, sk, sw, E)) ?_ ?_ tm hti (Nat.le_refl _) A (fun _ _ => rfl) (fun _ _ => rfl) (fun n h1 h2 => by omega)
      · intro _ A1 k1 k2 k3
        refine bX3_takesOtherwise_45.go rfl trivial ?_
        refine j_icmp_ge (tgt := 63) dX3_takesOtherwise_47 (by decide) (fun h47 => fin A1 i k1 k2 k3) (fun h47 => absurd (nI_le (Nat.le_refl _) (by omega)) h47)
      · intro k hk hI ih A1 k1 k2 k3
        refine bX3_takesOtherwise_45.go rfl trivial ?_
        refine j_icmp_ge (tgt := 63) dX3_takesOtherwise_47 (by decide) (fun h47 => ?_) (fun h47 => ?_)
        · rw [nI_leI (by omega) (by omega)] at h47; omega
        · refine bX3_takesOtherwise_50.go rfl (by (try simp (disch := omega) only [nI_add, pk_mul, pk_sub, nI_clamp, vpI]); repeat' first | exact trivial | rfl | assumption | omega | apply And.intro) ?_
          simp (disch := omega) only [nI_clamp, nI_1, nar_z0]
          refine ih (by omega) _ (fun f hf => by rw [upA_ne hf]; exact k1 f hf) (fun n hn => by rw [upA_at, if_neg (by omega)]; exact k2 n hn) (fun n h1 h2 => ?_)
          rw [upA_at]
          by_cases e : n = k
          · rw [if_pos e]
          · rw [if_neg e]; exact k3 n h1 (by omega)
    · refine bX3_takesOtherwise_45.go rfl trivial ?_
      refine j_icmp_ge (tgt := 63) dX3_takesOtherwise_47 (by decide) (fun h47 => fin A tm (fun _ _ => rfl) (fun _ _ => rfl) (fun n h1 h2 => by omega)) (fun h47 => ?_)
      rw [nI_leI (by omega) (by omega)] at h47; omega
  have lp : ∀ d, d ≤ on → lastNo (tkC A) d = lastNo (tkC A) on → JS CP X mX3_takesOtherwise (rmOf mX3_takesOtherwise.lv 0 0) (ZC X 0 0 (fun r x' => ∃ A' B', x' = (ad, A', B', sk, sw, E) ∧ (B' = B ∧ (∀ f, f ≠ 3 → f ≠ 36 → A' f = A f) ∧ (∀ j, j ≠ 15 → A' 3 j = A 3 j) ∧ NxC A A' r (lastNo (tkC A) on)))) 0 0 7 [some (.ref (ad 3)), some (.int (nI d - nI 1)), none] [] (ad, A, B, sk, sw, E) := by
    intro d
    induction d with
    | zero =>
      intro _ hl
      refine bX3_takesOtherwise_7.go rfl trivial ?_
      refine j_if_lt (tgt := 34) dX3_takesOtherwise_8 (by decide) (fun h8 => none_ hl.symm) (fun h8 => absurd (by decide +kernel) h8)
    | succ d ih =>
      intro hd hl
      rw [pk_sub (by omega), show d + 1 - 1 = d by omega]
      rw [lastNo] at hl
      have ht := etk A tm h15 htm d (by omega)
      refine bX3_takesOtherwise_7.go rfl trivial ?_
      refine j_if_lt (tgt := 34) dX3_takesOtherwise_8 (by decide) (fun h8 => absurd h8 (nI_pos (by omega))) (fun h8 => ?_)
      refine bX3_takesOtherwise_11.go rfl (by repeat' first | exact trivial | rfl | assumption | omega | apply And.intro) ?_
      rw [h15]
      refine j_icmp_ge (tgt := 34) dX3_takesOtherwise_16 (by decide) (fun h16 => ?_) (fun h16 => ?_)
      · rw [nI_leI (by omega) (by omega)] at h16
        rw [decide_eq_false (show ¬ d < tm by omega), Bool.false_and] at ht
        rw [if_neg (by rw [ht]; decide)] at hl
        exact some_ d (by omega) hl.symm
      · rw [nI_leI (by omega) (by omega)] at h16
        refine bX3_takesOtherwise_19.go rfl (by (try simp (disch := omega) only [nI_add, pk_mul, pk_sub, nI_clamp, vpI]); repeat' first | exact trivial | rfl | assumption | omega | apply And.intro) ?_
        simp (disch := omega) only [nI_clamp]
        rw [decide_eq_true (show d < tm by omega), Bool.true_and] at ht
        refine j_if_eq (tgt := 34) dX3_takesOtherwise_25 (by decide) (fun h25 => ?_) (fun h25 => ?_)
        · rw [decide_eq_true h25] at ht
          rw [if_neg (by rw [ht]; decide)] at hl
          exact some_ d (by omega) hl.symm
        · rw [decide_eq_false h25] at ht
          rw [if_pos (by rw [ht]; decide)] at hl
          refine bX3_takesOtherwise_28.go rfl trivial ?_
          rw [show nI d + -1 = nI d - nI 1 from by rw [Int32.sub_eq_add_neg]; rfl]
          exact ih (by omega) hl
  exact lp on (Nat.le_refl _) rfl
end Beg7
