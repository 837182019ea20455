set_option maxRecDepth 100000
/-! ===== a square that was read; the component as a value, its picture ===== -/
def cellI (q : Option (Int32 × Int32)) : Int32 := match q with
  | none => -1
  | some (a, b) => a + nI 100 * b
/-- a habit's cell, by its kind -/
def hbC (w : Nat → Int32) (p i : Nat) : va_E :=
  if lkI w p i 1 = nI 0 then .inr (10, [.int (lkI w p i 0)]) else if lkI w p i 1 = nI 1 then .inr (11, [.int (lkI w p i 0), .int (lkI w p i 2), .int (lkI w p i 3)]) else
  if lkI w p i 1 = nI 2 then .inr (12, [.int (lkI w p i 0), .int (lkI w p i 2), .int (lkI w p i 3)]) else if lkI w p i 1 = nI 3 then .inr (13, [.int (lkI w p i 0), .int (lkI w p i 2)]) else
  if lkI w p i 1 = nI 4 then .inr (14, [.int (lkI w p i 0), .int (lkI w p i 2)]) else .inr (15, [.int (lkI w p i 0), .int (lkI w p i 2)])
def wayI (v : Int32) : Int32 := if v = nI 4 then -1 else v
/-- a person's cells -/
def PeAt (X : Cx) (h : AH) (sk : Nat → Nat) (w : Nat → Int32) (p : Nat) : Prop :=
  h (sk (30 + p)) = some (.inr (8, [.int (perI w p 0), .int (perI w p 1), .int (perI w p 2), .ref (sk (40 + p)), .ref (sk (50 + p)), .ref (sk (60 + p)), .int (perI w p 3)])) ∧
  LsAt X h (sk (60 + p)) (sk (70 + p)) 4 (nL w p) (fun i => sk (80 + 4 * p + i)) ∧
  (∃ g, h (sk (40 + p)) = some (.inl (X.dA 0, 6, .inl g)) ∧ ∀ k, k < nM w p → g k = wayI (perI w p (5 + 2 * k))) ∧
  (∃ g, h (sk (50 + p)) = some (.inl (X.dA 0, 6, .inl g)) ∧ ∀ k, k < nM w p → g k = perI w p (5 + 2 * k + 1)) ∧
  (∀ i, i < nL w p → h (sk (80 + 4 * p + i)) = some (hbC w p i)) ∧ ∀ i j, i < nL w p → j < nL w p → sk (80 + 4 * p + i) = sk (80 + 4 * p + j) → i = j
def DlAt (h : AH) (sk : Nat → Nat) (w : Nat → Int32) (c : Nat) (pc : Int32) : Prop := h (sk (20 + c)) = some (.inr (7, [.int (w (32 + 6 * c)), .int (w (32 + 6 * c + 1)), .int pc, .int (w (32 + 6 * c + 3)), .int (w (32 + 6 * c + 4)), .int (w (32 + 6 * c + 5))]))
/-- a square without its walks -/
def SqW (X : Cx) (h : AH) (sk : Nat → Nat) (w : Nat → Int32) : Prop :=
  h (sk 0) = some (.inr (2, [.ref (sk 1), .ref (sk 2), .ref (sk 3), .ref (sk 4), .int (w 4), .int (w 5), .int (w 6), .int (w 0), .int (w 3)])) ∧
  LsAt X h (sk 1) (sk 5) 4 (nC w) (fun c => sk (20 + c)) ∧ LsAt X h (sk 2) (sk 6) 8 (nP w) (fun p => sk (30 + p)) ∧
  (∃ g, h (sk 3) = some (.inl (X.dA 4, 400, .inl g)) ∧ ∀ a b, a < 20 → b < 20 → g (20 * b + a) = b2 (anyN (wallAt w (nI a) (nI b)) (nW w))) ∧
  (∀ c, c < nC w → ∃ pc, DlAt h sk w c pc) ∧ ∀ p, p < nP w → PeAt X h sk w p
def SqC (X : Cx) (h : AH) (sk : Nat → Nat) (w : Nat → Int32) : Prop :=
  (∃ g, h (sk 4) = some (.inl (X.dA 8, 8, .inr (.inr (.inr (.inr g))))) ∧ ∀ p, p < 8 → g p = some (sk (10 + p))) ∧
  ∀ p, p < nP w → ∃ g, h (sk (10 + p)) = some (.inl (X.dA 0, 40, .inl g)) ∧ ∀ t, t < spanW w → g t = cellI (spotF w p t)
def SqAt (X : Cx) (h : AH) (sk : Nat → Nat) (w : Nat → Int32) : Prop := SqW X h sk w ∧ SqC X h sk w
def hle (h h' : AH) : Prop := ∀ a e, h a = some e → h' a = some e
theorem LsAt.mono {X : Cx} {h h' : AH} {a ed cap sz : Nat} {f : Nat → Nat} (hs : hle h h') (l : LsAt X h a ed cap sz f) : LsAt X h' a ed cap sz f := by
  obtain ⟨⟨m, h1⟩, h2, ⟨g, h3, h4⟩, h5⟩ := l
  exact ⟨⟨m, hs _ _ h1⟩, h2, ⟨g, hs _ _ h3, h4⟩, h5⟩
theorem PeAt.mono {X : Cx} {h h' : AH} {sk : Nat → Nat} {w : Nat → Int32} {p : Nat} (hs : hle h h') (l : PeAt X h sk w p) : PeAt X h' sk w p := by
  obtain ⟨h1, h2, ⟨g, h3, h4⟩, ⟨g', h5, h6⟩, h7, h8⟩ := l
  exact ⟨hs _ _ h1, h2.mono hs, ⟨g, hs _ _ h3, h4⟩, ⟨g', hs _ _ h5, h6⟩, fun i hi => hs _ _ (h7 i hi), h8⟩
theorem SqW.mono {X : Cx} {h h' : AH} {sk : Nat → Nat} {w : Nat → Int32} (hs : hle h h') (l : SqW X h sk w) : SqW X h' sk w := by
  obtain ⟨h1, h2, h3, ⟨g, h4, h5⟩, h6, h7⟩ := l
  exact ⟨hs _ _ h1, h2.mono hs, h3.mono hs, ⟨g, hs _ _ h4, h5⟩, fun c hc => (h6 c hc).elim fun pc q => ⟨pc, hs _ _ q⟩, fun p hp => (h7 p hp).mono hs⟩
theorem SqAt.mono {X : Cx} {h h' : AH} {sk : Nat → Nat} {w : Nat → Int32} (hs : hle h h') (l : SqAt X h sk w) : SqAt X h' sk w := by
  obtain ⟨h1, ⟨g, h2, h3⟩, h4⟩ := l
  exact ⟨h1.mono hs, ⟨g, hs _ _ h2, h3⟩, fun p hp => (h4 p hp).elim fun g q => ⟨g, hs _ _ q.1, q.2⟩⟩
/-! the component: addresses by number, ints, longs; squares (0 now, 1 the course's, 2.. of images): addresses, worlds; shapes -/
abbrev Cv : Type := (Nat → Nat) × (Nat → Nat → Int32) × (Nat → Nat → Int64) × (Nat → Nat → Nat) × (Nat → Nat → Int32) × (Nat → Nat)
def heldK (kd len : Nat) : Option (Nat × Nat) := match kd with
  | 1 => some (len, 2)
  | 2 => some (len, 3)
  | 3 => some (len, 0)
  | _ => none
/-- the int-like arrays: length, kind -/
def arrK (E : Nat → Nat) (k : Nat) : Option (Nat × Nat) :=
  if k < 50 then (match k with
    | 2 => some (4, 0)
    | 6 => some (2400, 2)
    | 7 => some (128, 4)
    | 14 => heldK (E 2) (E 6)
    | 15 => heldK (E 3) (E 7)
    | 16 => heldK (E 4) (E 8)
    | 17 => heldK (E 5) (E 9)
    | 21 => if E 10 = 1 then some (4, 0) else none
    | 22 => if E 11 = 1 then some (4, 0) else none
    | 23 => if E 12 = 1 then some (4, 0) else none
    | 33 => some (8, 0)
    | 34 => some (8, 0)
    | 35 => some (1280, 0)
    | 36 => some (1280, 4)
    | 37 => some (4, 0)
    | 38 => some (4, 0)
    | 39 => some (4, 0)
    | 40 => some (4, 0)
    | _ => none)
  else if k < 58 then some (40, 0) else if k < 60 then none else if k < 68 then some (41, 0) else if k < 70 then none else if k < 78 then some (4, 4) else if k < 100 then none else
  if (k - 100) / 3 < E 0 then (if (k - 100) % 3 = 1 then some (164, 2) else if (k - 100) % 3 = 2 then some (320, 2) else none) else none
abbrev rfA (X : Cx) (t n : Nat) (f : Nat → Option Nat) : va_E := .inl (X.dA t, n, .inr (.inr (.inr (.inr f))))
def slO (ad : Nat → Nat) (E : Nat → Nat) (s : Nat) : va_E := .inr (1, [if E (2 + s) = 0 then .null else .ref (ad (14 + s))])
def imO (ad : Nat → Nat) (sk : Nat → Nat → Nat) (E : Nat → Nat) (k : Nat) (a : Nat → Int32) : Option va_E := if E (10 + k) = 1 then some (.inr (17, [.ref (ad (21 + k)), .ref (sk (2 + k) 0), .int (a 2)])) else none
def hlL (X : Cx) (E : Nat → Nat) (s : Nat) (b : Nat → Int64) : Option va_E := if E (2 + s) = 4 then some (.inl (X.dA 1, E (6 + s), .inr (.inl b))) else none
def celO (X : Cx) (ad : Nat → Nat) (sk : Nat → Nat → Nat) (E : Nat → Nat) (k : Nat) (a : Nat → Int32) (b : Nat → Int64) : Option va_E :=
  if k < 50 then (match k with
    | 0 => some (.inr (0, [.ref (ad 1), .ref (sk 0 0), .ref (ad 2), .int (a 3), .ref (ad 3), .ref (ad 4), .int (a 6), .ref (ad 5), .ref (ad 6), .int (a 9), .int (a 10), .int (a 11), .ref (ad 7)]))
    | 1 => some (rfA X 6 4 (fun i => if i < 4 then some (ad (10 + i)) else none))
    | 3 => some (.inr (3, [.ref (ad 30), .ref (ad 31), .ref (ad 32), .ref (ad 33), .ref (ad 34), .ref (ad 35), .ref (ad 36), .ref (ad 37), .ref (ad 38), .ref (ad 39), .ref (ad 40), .ref (ad 41), if E 20 = 1 then .ref (sk 1 0) else .null, .int (a 13), .int (a 14), .int (a 15), .int (a 16), .long (b 17)]))
    | 4 => some (.inr (9, [.int (a 0), .ref (ad 8), .int (nI (E 0))]))
    | 5 => some (rfA X 7 3 (fun i => if i < 3 then (if E (10 + i) = 1 then some (ad (18 + i)) else none) else none))
    | 8 => some (rfA X 5 (E 1) (fun i => if i < E 0 then some (ad (100 + 3 * i)) else none))
    | 10 => some (slO ad E 0)
    | 11 => some (slO ad E 1)
    | 12 => some (slO ad E 2)
    | 13 => some (slO ad E 3)
    | 14 => hlL X E 0 b
    | 15 => hlL X E 1 b
    | 16 => hlL X E 2 b
    | 17 => hlL X E 3 b
    | 18 => imO ad sk E 0 a
    | 19 => imO ad sk E 1 a
    | 20 => imO ad sk E 2 a
    | 30 => some (rfA X 8 8 (fun i => if i < 8 then some (ad (50 + i)) else none))
    | 31 => some (rfA X 8 4 (fun i => if i < 4 then some (ad (60 + i)) else none))
    | 32 => some (rfA X 8 4 (fun i => if i < 4 then some (ad (64 + i)) else none))
    | 41 => some (rfA X 9 8 (fun i => if i < 8 then some (ad (70 + i)) else none))
    | _ => none)
  else if 100 ≤ k ∧ (k - 100) % 3 = 0 ∧ (k - 100) / 3 < E 0 then some (.inr (16, [.ref (ad (k + 1)), .ref (ad (k + 2))])) else none
def celK (X : Cx) (ad : Nat → Nat) (sk : Nat → Nat → Nat) (E : Nat → Nat) (k : Nat) (a : Nat → Int32) (b : Nat → Int64) : Option va_E := match arrK E k with
  | some (n, t) => some (.inl (X.dA t, n, .inl a))
  | none => celO X ad sk E k a b
theorem celK_is {X X' : Cx} {ad ad' : Nat → Nat} {sk sk' : Nat → Nat → Nat} {E : Nat → Nat} {k : Nat} {a a' : Nat → Int32} {b b' : Nat → Int64} (h : (celK X ad sk E k a b).isSome = true) : (celK X' ad' sk' E k a' b').isSome = true := by
  unfold celK at *
  split at h
  · rfl
  · rename_i e
    unfold celO at *
    show (if _ then _ else _ : Option va_E).isSome = true
    by_cases hk : k < 50
    · rw [if_pos hk] at h ⊢
      split at h <;> first | rfl | (simp only [hlL, imO] at h ⊢; split at h <;> rename_i q <;> first | (rw [if_pos q]; rfl) | cases h) | cases h
    · rw [if_neg hk] at h ⊢
      split at h
      · rename_i q; rw [if_pos q]; rfl
      · cases h
def SqL (E : Nat → Nat) (j : Nat) : Prop := j = 0 ∨ (j = 1 ∧ E 20 = 1) ∨ (2 ≤ j ∧ j < 5 ∧ E (8 + j) = 1)
/-- a number of a cell that is there -/
def Use (E : Nat → Nat) (k : Nat) : Prop := ∀ (X : Cx) ad sk a b, (celK X ad sk E k a b).isSome = true
def CP (X : Cx) (x : Cv) (h : AH) : Prop :=
  (WkX X ∧ NewOK X) ∧ (∀ k e, celK X x.1 x.2.2.2.1 x.2.2.2.2.2 k (x.2.1 k) (x.2.2.1 k) = some e → h (x.1 k) = some e) ∧ (∀ k j, Use x.2.2.2.2.2 k → Use x.2.2.2.2.2 j → x.1 k = x.1 j → k = j) ∧
  ∃ hz : AH, hle hz h ∧ (∀ k, Use x.2.2.2.2.2 k → hz (x.1 k) = none) ∧ ∀ j, SqL x.2.2.2.2.2 j → SqAt X hz (x.2.2.2.1 j) (x.2.2.2.2.1 j)
section Pic
variable {X : Cx} {ad : Nat → Nat} {A A' : Nat → Nat → Int32} {B B' : Nat → Nat → Int64} {sk : Nat → Nat → Nat} {sw : Nat → Nat → Int32} {E : Nat → Nat} {h : AH}
theorem CP.at {x : Cv} (hp : CP X x h) (k : Nat) {e : va_E} (he : celK X x.1 x.2.2.2.1 x.2.2.2.2.2 k (x.2.1 k) (x.2.2.1 k) = some e) : h (x.1 k) = some e := hp.2.1 k e he
theorem use_of {k : Nat} {a : Nat → Int32} {b : Nat → Int64} {e : va_E} (he : celK X ad sk E k a b = some e) : Use E k := fun _ _ _ _ _ => celK_is (by rw [he]; rfl)
theorem CP.upd (hp : CP X (ad, A, B, sk, sw, E) h) {k : Nat} (hA : ∀ j, j ≠ k → A' j = A j) (hB : ∀ j, j ≠ k → B' j = B j) {e' : va_E} (he : celK X ad sk E k (A' k) (B' k) = some e') : CP X (ad, A', B', sk, sw, E) (va_up h (ad k) (some e')) := by
  obtain ⟨h0, h1, h2, hz, h3, h4, h5⟩ := hp
  have hk := use_of he
  refine ⟨h0, fun j e hj => ?_, h2, hz, fun a e ha => ?_, h4, h5⟩
  · by_cases hjk : j = k
    · subst hjk
      rw [he] at hj
      cases hj
      exact va_up_self _ _ _
    · rw [va_up_ne _ _ (fun q => hjk (h2 j k (use_of hj) hk q))]
      refine h1 j e ?_
      show celK X ad sk E j (A j) (B j) = some e
      rw [← hA j hjk, ← hB j hjk]; exact hj
  · rw [va_up_ne _ _ (fun q => ?_)]
    · exact h3 a e ha
    · rw [q, h4 k hk] at ha; cases ha
theorem CP.sq {x : Cv} (hp : CP X x h) {j : Nat} (hj : SqL x.2.2.2.2.2 j) : SqAt X h (x.2.2.2.1 j) (x.2.2.2.2.1 j) := by
  obtain ⟨-, -, -, hz, h3, -, h5⟩ := hp
  exact (h5 j hj).mono h3
end Pic
