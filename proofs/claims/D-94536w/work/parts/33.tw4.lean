set_option maxRecDepth 100000
/-! ===== the world row: what it must be; walks of people; UnseenClockModel: setSpot, fillSpots ===== -/
/-- a person's part of the row is in order -/
def POk (v : Nat → Nat) (q : Nat) : Prop := v q < v 4 ∧ v (q + 1) < v 5 ∧ v (q + 2) < v 6 ∧ v (q + 3) ≤ 6 ∧ v (q + 4) ≤ 4 ∧ (∀ k, k < v (q + 3) → v (q + (5 + 2 * k)) ≤ 4 ∧ 1 ≤ v (q + (5 + 2 * k + 1)) ∧ v (q + (5 + 2 * k + 1)) ≤ 40) ∧
  ∀ i, i < v (q + 4) → v (q + (17 + 4 * i)) < v 1 ∧ v (q + (17 + 4 * i + 1)) ≤ 5 ∧ (v (q + (17 + 4 * i + 1)) = 1 → 1 ≤ v (q + (17 + 4 * i + 2))) ∧ (v (q + (17 + 4 * i + 1)) = 2 → v (q + (17 + 4 * i + 2)) < v 1) ∧ v (q + (17 + 4 * i + 2)) ≤ 100 ∧ v (q + (17 + 4 * i + 3)) ≤ 59
def KOk (v : Nat → Nat) (q : Nat) : Prop := v q < v 4 ∧ v (q + 1) < v 5 ∧ v (q + 2) ≤ 60 ∧ 1 ≤ v (q + 3) ∧ v (q + 3) ≤ 12 ∧ 2 ≤ v (q + 4) ∧ v (q + 4) ≤ 60 ∧ v (q + 5) < v (q + 4)
def VOk (v : Nat → Nat) : Prop := v 0 ≤ 12 ∧ v 1 ≤ 4 ∧ v 2 ≤ 8 ∧ v 3 < 100000 ∧ v 4 ≤ 12 ∧ v 5 ≤ 12 ∧ v 6 ≤ 40 ∧ v 7 < 256 ∧ (∀ k, k < v 0 → v (8 + 2 * k) < v 4 ∧ v (8 + 2 * k + 1) < v 5) ∧ (∀ c, c < v 1 → KOk v (32 + 6 * c)) ∧ (∀ p, p < v 2 → POk v (56 + 33 * p)) ∧ (0 < v 4 ↔ 0 < v 3) ∧ (v 4 = 0 → v 1 = 0 ∧ v 2 = 0 ∧ v 0 = 0)
/-- w is a world row, with the numbers v -/
def WOk (w : Nat → Int32) (v : Nat → Nat) : Prop := (∀ k, k < 320 → w k = nI (v k)) ∧ VOk v
theorem WOk.cnt {w : Nat → Int32} {v : Nat → Nat} (h : WOk w v) : CntOK w := ⟨v 0, v 1, h.2.1, h.2.2.1, h.1 0 (by decide), h.1 1 (by decide)⟩
def dxI (way : Int32) : Int32 := if way = nI 1 then nI 1 else if way = nI 3 then -1 else nI 0
def dyI (way : Int32) : Int32 := if way = nI 2 then nI 1 else if way = nI 0 then -1 else nI 0
def goesB (w : Nat → Int32) (way : Int32) (q : Int32 × Int32) : Bool := !decide (way = nI 4) && freeB w (q.1 + dxI way) (q.2 + dyI way)
def stepP (w : Nat → Int32) (way : Int32) (q : Int32 × Int32) : Int32 × Int32 := if goesB w way q = true then (q.1 + dxI way, q.2 + dyI way) else q
/-- where, when, the cells by minutes -/
abbrev WS : Type := (Int32 × Int32) × Nat × (Nat → Option (Int32 × Int32))
def wkI (w : Nat → Int32) (way : Int32) : Nat → WS → WS
  | 0, s => s
  | i + 1, s => (stepP w way (wkI w way i s).1, (wkI w way i s).2.1 + 1, va_up (wkI w way i s).2.2 ((wkI w way i s).2.1 + 1) (some (stepP w way (wkI w way i s).1)))
def perI (w : Nat → Int32) (p k : Nat) : Int32 := w (56 + 33 * p + k)
def wkO (w : Nat → Int32) (p : Nat) : Nat → WS
  | 0 => ((perI w p 0, perI w p 1), (perI w p 2).toNatClampNeg, va_up (fun _ => none) (perI w p 2).toNatClampNeg (some (perI w p 0, perI w p 1)))
  | k + 1 => wkI w (perI w p (5 + 2 * k)) (perI w p (5 + 2 * k + 1)).toNatClampNeg (wkO w p k)
def spotF (w : Nat → Int32) (p : Nat) : Nat → Option (Int32 × Int32) := (wkO w p (perI w p 3).toNatClampNeg).2.2
theorem wkI_m (w : Nat → Int32) (way : Int32) (i : Nat) (s : WS) : (wkI w way i s).2.1 = s.2.1 + i := by
  induction i with
  | zero => rfl
  | succ i ih => simp only [wkI, ih]; omega
theorem wkO_m {w : Nat → Int32} {v : Nat → Nat} (h : WOk w v) {p : Nat} (hp : p < v 2) : ∀ k, k ≤ v (56 + 33 * p + 3) → (wkO w p k).2.1 < 40 + 40 * k := by
  have hV := h.2
  have hP := hV.2.2.2.2.2.2.2.2.2.2.1 p hp
  have h8 : v 2 ≤ 8 := hV.2.2.1
  intro k
  induction k with
  | zero =>
    intro _
    show (perI w p 2).toNatClampNeg < 40
    rw [perI, h.1 _ (by omega), nI_clamp (by have := hP.2.2.1; have := hV.2.2.2.2.2.2.1; omega)]
    have := hP.2.2.1; have := hV.2.2.2.2.2.2.1; omega
  | succ k ih =>
    intro hk
    have h6 := hP.2.2.2.1
    have hm := hP.2.2.2.2.2.1 k (by omega)
    simp only [wkO, wkI_m]
    have := ih (by omega)
    rw [perI, h.1 _ (by omega), nI_clamp (by have := hm.2.2; omega)]
    have := hm.2.2; omega
def eX (q : Option (Int32 × Int32)) : Int32 := match q with
  | none => -1
  | some (a, _) => a
def eY (q : Option (Int32 × Int32)) : Int32 := match q with
  | none => -1
  | some (_, b) => b
def setS (A : Nat → Nat → Int32) (p m : Nat) (X Y : Int32) : Nat → Nat → Int32 := if m < 40 then upA (upA A 15 (40 * p + m) X) 16 (40 * p + m) Y else A
/-- in A' the cells of person p are those of F, all else is as in A -/
def SpA (A A' : Nat → Nat → Int32) (p : Nat) (F : Nat → Option (Int32 × Int32)) : Prop := (∀ k, k ≠ 15 → k ≠ 16 → A' k = A k) ∧ (∀ j, j < 40 * p ∨ 40 * p + 40 ≤ j → A' 15 j = A 15 j ∧ A' 16 j = A 16 j) ∧ ∀ t, t < 40 → A' 15 (40 * p + t) = eX (F t) ∧ A' 16 (40 * p + t) = eY (F t)
theorem upA_ne {A : Nat → Nat → Int32} {k j i : Nat} {v : Int32} (h : j ≠ k) : upA A k i v j = A j := va_up_ne _ _ h
theorem upA_at {A : Nat → Nat → Int32} {k i : Nat} {v : Int32} (j : Nat) : upA A k i v k j = if j = i then v else A k j := by
  unfold upA; rw [va_up_self]; rfl
theorem setS_15 (A : Nat → Nat → Int32) (p m : Nat) (X Y : Int32) (j : Nat) : setS A p m X Y 15 j = if m < 40 ∧ j = 40 * p + m then X else A 15 j := by
  unfold setS
  split
  · rename_i h
    rw [upA_ne (by decide), upA_at]; simp [h]
  · rename_i h; simp [h]
theorem setS_16 (A : Nat → Nat → Int32) (p m : Nat) (X Y : Int32) (j : Nat) : setS A p m X Y 16 j = if m < 40 ∧ j = 40 * p + m then Y else A 16 j := by
  unfold setS
  split
  · rename_i h
    rw [upA_at, upA_ne (by decide)]; simp [h]
  · rename_i h; simp [h]
theorem setS_ne {A : Nat → Nat → Int32} {p m k : Nat} {X Y : Int32} (h1 : k ≠ 15) (h2 : k ≠ 16) : setS A p m X Y k = A k := by
  unfold setS
  split
  · rw [upA_ne h2, upA_ne h1]
  · rfl
theorem SpA.set {A A' : Nat → Nat → Int32} {p : Nat} {F : Nat → Option (Int32 × Int32)} (h : SpA A A' p F) (m : Nat) (q : Option (Int32 × Int32)) {X Y : Int32} (hX : X = eX q) (hY : Y = eY q) : SpA A (setS A' p m X Y) p (va_up F m q) := by
  obtain ⟨h1, h2, h3⟩ := h
  refine ⟨fun k a b => by rw [setS_ne a b, h1 k a b], fun j hj => ?_, fun t ht => ?_⟩
  · rw [setS_15, setS_16, if_neg (by omega), if_neg (by omega)]; exact h2 j hj
  · rw [setS_15, setS_16]
    by_cases e : t = m
    · subst e
      rw [if_pos ⟨ht, rfl⟩, if_pos ⟨ht, rfl⟩, va_up_self]; exact ⟨hX, hY⟩
    · rw [if_neg (by omega), if_neg (by omega), va_up_ne _ _ e]; exact h3 t ht
def F_setSpot (p m X Y : Int32) : Tau → Prop × Option Value × Tau := fun (o, ad, A, B) => (vp_in p 8 ∧ vp_in m 1000, none, (o, ad, setS A p.toNatClampNeg m.toNatClampNeg X Y, B))
theorem bX4_setSpot_0 : Blk TP mX4_setSpot 0 3 [oIL 2, oC (nI 40)] := blk_c (s_iload_n dX4_setSpot_0 rfl) <| blk_c (s_bipush dX4_setSpot_1 (by decide +kernel)) <| blk_nil
theorem bX4_setSpot_7 : Blk TP mX4_setSpot 7 32 [oAL 0, tR 15, oC (nI 40), oIL 1, oMul, oIL 2, oAdd, oIL 3, tSI 15 320, oAL 0, tR 16, oC (nI 40), oIL 1, oMul, oIL 2, oAdd, oIL 4, tSI 16 320] := blk_c (s_aload_n dX4_setSpot_7 rfl) <| blk_c (tgX4_15 rfl dX4_setSpot_8) <| blk_c (s_bipush dX4_setSpot_11 (by decide +kernel)) <| blk_c (s_iload_n dX4_setSpot_13 rfl) <| blk_c (s_imul dX4_setSpot_14) <| blk_c (s_iload_n dX4_setSpot_15 rfl) <| blk_c (s_iadd dX4_setSpot_16) <| blk_c (s_iload_n dX4_setSpot_17 rfl) <| blk_c (t_iast rfl dX4_setSpot_18) <| blk_c (s_aload_n dX4_setSpot_19 rfl) <| blk_c (tgX4_16 rfl dX4_setSpot_20) <| blk_c (s_bipush dX4_setSpot_23 (by decide +kernel)) <| blk_c (s_iload_n dX4_setSpot_25 rfl) <| blk_c (s_imul dX4_setSpot_26) <| blk_c (s_iload_n dX4_setSpot_27 rfl) <| blk_c (s_iadd dX4_setSpot_28) <| blk_c (s_iload dX4_setSpot_29) <| blk_c (t_iast rfl dX4_setSpot_31) <| blk_nil
theorem ok_setSpot : TC_IIII mX4_setSpot F_setSpot := by
  intro X p m X1 Y1 ⟨o, ad, A, B⟩ P r y hF hP
  cases hF
  obtain ⟨i, hi, rfl⟩ := vp_in_of hP.1 (by decide)
  obtain ⟨j, hj, rfl⟩ := vp_in_of hP.2 (by decide)
  refine T_start (L := [some (.ref o), some (.int (nI i)), some (.int (nI j)), some (.int X1), some (.int Y1)]) 0 rfl ?_
  refine bX4_setSpot_0.go rfl trivial ?_
  refine j_icmp_lt (tgt := 7) dX4_setSpot_3 (by decide) (fun h3 => ?_) (fun h3 => ?_)
  all_goals rw [nI_ltI (by omega) (by omega)] at h3
  · refine bX4_setSpot_7.go rfl (by simp (disch := omega) only [nI_add, pk_mul, vpI]; exact ⟨trivial, ⟨trivial, by omega⟩, trivial, ⟨trivial, by omega⟩, trivial⟩) ?_
    exact t_vret dX4_setSpot_32 rfl rfl (by simp (disch := omega) only [nI_add, pk_mul, nI_clamp, setS, h3, if_true])
  · exact t_vret dX4_setSpot_6 rfl rfl (by simp (disch := omega) only [nI_clamp, setS, h3, if_false])
