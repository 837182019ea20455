set_option maxRecDepth 100000
/-! ===== courses with settings that agree where it counts ===== -/
def osEq (s t : OS) : Prop := E32 s.1 t.1 ∧ s.2.1 = t.2.1 ∧ (∀ i, i < s.2.1 → s.2.2.1 i = t.2.2.1 i) ∧ s.2.2.2 = t.2.2.2
theorem opL_on (K : MC) (nc np : Nat) (tk : Nat → Bool) (m : Nat) : ∀ f s, (opL K nc np tk m f s).2.1 ≤ s.2.1 + f := by
  intro f
  induction f with
  | zero => intro s; exact Nat.le_refl _
  | succ f ih =>
    intro s
    simp only [opL]
    split
    · omega
    · rename_i k hk
      have := ih (open1 K nc np tk m s k)
      have e : (open1 K nc np tk m s k).2.1 = s.2.1 + 1 := rfl
      omega
theorem opL_cg {v : Nat → Nat} {K K' : MC} (hK : KEq v K K') (h8 : v 2 ≤ 8) (h4 : v 1 ≤ 4) {tk tk' : Nat → Bool} (htk : ∀ n, n < 2000 → tk n = tk' n) (m : Nat) : ∀ f s t, osEq s t → s.2.1 + f ≤ 2000 → osEq (opL K (v 1) (v 2) tk m f s) (opL K' (v 1) (v 2) tk' m f t) := by
  intro f
  induction f with
  | zero => intro s t h _; exact h
  | succ f ih =>
    intro s t h hb
    obtain ⟨h1, h2, h3, h5⟩ := id h
    simp only [opL]
    have e : fuP (vf s.1) (v 1) (v 2) 0 = fuP (vf t.1) (v 1) (v 2) 0 := fuP_congr (v 2) 0 (fun q hq c hc => h1 _ (by omega))
    rw [← e]
    split
    · exact h
    · rename_i k hk
      refine ih _ _ ⟨?_, ?_, fun i hi => ?_, ?_⟩ (by show s.2.1 + 1 + f ≤ 2000; omega)
      · show E32 (stl K (v 1) (v 2) 33 (va_up s.1 k (b2 (tk s.2.1)))) (stl K' (v 1) (v 2) 33 (va_up t.1 k (b2 (tk' t.2.1))))
        rw [← h2, htk _ (by omega)]
        exact stl_congr hK h8 h4 33 _ _ (h1.up _ _)
      · show s.2.1 + 1 = t.2.1 + 1
        omega
      · show va_up s.2.2.1 s.2.1 _ i = va_up t.2.2.1 t.2.1 _ i
        have hi : i < s.2.1 + 1 := hi
        by_cases ei : i = s.2.1
        · rw [ei, va_up_self, h2, va_up_self]
        · rw [va_up_ne _ _ ei, va_up_ne _ _ (by omega)]
          exact h3 i (by omega)
      · show va_up s.2.2.2 _ _ = va_up t.2.2.2 _ _
        rw [h5]
theorem LO_cg {v : Nat → Nat} {K K' : MC} (hK : KEq v K K') (h8 : v 2 ≤ 8) (h4 : v 1 ≤ 4) {tk tk' : Nat → Bool} (htk : ∀ n, n < 2000 → tk n = tk' n) (m on : Nat) {od od' : Nat → Int32} (hod : ∀ i, i < on → od i = od' i) (hon : on + 33 ≤ 2000) : osEq (LO K (v 1) (v 2) tk m on od) (LO K' (v 1) (v 2) tk' m on od') :=
  opL_cg hK h8 h4 htk m 33 _ _ ⟨stl_congr hK h8 h4 33 _ _ (fun _ _ => rfl), rfl, hod, rfl⟩ hon
/-- two states of courses, the same as far as clocks and people go -/
def rsEq (v : Nat → Nat) (r r' : RS) : Prop := (∀ c, c < v 1 → r.pt c = r'.pt c ∧ r.kM c = r'.kM c ∧ r.kL c = r'.kL c ∧ r.sp c = r'.sp c) ∧ (∀ p, p < v 2 → r.lp p = r'.lp p) ∧ r.on = r'.on ∧ (∀ i, i < r.on → r.od i = r'.od i) ∧ r.z = r'.z
def cfEq (v : Nat → Nat) (cf cf' : CF) : Prop := cf.1 = cf'.1 ∧ (∀ c, c < v 1 → cf.2.1 c = cf'.2.1 c) ∧ (∀ n, n < 2000 → cf.2.2.1 n = cf'.2.2.1 n) ∧ cf.2.2.2 = cf'.2.2.2
theorem minO_cg {v : Nat → Nat} {cf cf' : CF} (hw : WOk cf.1 v) (hc : cfEq v cf cf') {m : Nat} {r r' : RS} (hr : rsEq v r r') (hon : r.on + 33 ≤ 2000) : osEq (minO cf m r) (minO cf' m r') := by
  obtain ⟨c1, c2, c3, c4⟩ := hc
  obtain ⟨r1, r2, r3, r4, r5⟩ := hr
  have h8 : v 2 ≤ 8 := hw.2.2.2.1
  have h4 : v 1 ≤ 4 := hw.2.2.1
  simp only [minO, ← c1, ← c4, ← r5, ← r3, hw.ncE, hw.npE]
  refine LO_cg ?_ h8 h4 c3 m r.on r4 hon
  exact KEq.of hw (fun _ _ _ _ => rfl) (fun _ _ _ _ => rfl) (fun _ p hp => r2 p hp) (fun _ c hc => (r1 c hc).2.2.2)
theorem minL_cg {v : Nat → Nat} {cf cf' : CF} (hw : WOk cf.1 v) (hc : cfEq v cf cf') {m : Nat} {r r' : RS} (hr : rsEq v r r') (hon : r.on + 33 ≤ 2000) {p : Nat} (hp : p < 8) : minL cf m r p = minL cf' m r' p := by
  have h := minO_cg hw hc (m := m) hr hon
  have h4 : v 1 ≤ 4 := hw.2.2.1
  simp only [minL, ← hc.1, hw.ncE]
  exact lookBits_congr h.1 hp _ h4
theorem lkdB_cg {v : Nat → Nat} {cf cf' : CF} (hw : WOk cf.1 v) (hc : cfEq v cf cf') {m : Nat} {r r' : RS} (hr : rsEq v r r') (hon : r.on + 33 ≤ 2000) (c : Nat) : lkdB cf m r c = lkdB cf' m r' c := by
  have h8 : v 2 ≤ 8 := hw.2.2.2.1
  simp only [lkdB, ← hc.1, hw.npE]
  rw [orP_congr (fun p hp => minL_cg hw hc hr hon (show p < 8 by omega))]
theorem nxtR_cg {v : Nat → Nat} {cf cf' : CF} (hw : WOk cf.1 v) (hc : cfEq v cf cf') {m : Nat} {r r' : RS} (hr : rsEq v r r') (hon : r.on + 33 ≤ 2000) : rsEq v (nxtR cf m r) (nxtR cf' m r') := by
  have h8 : v 2 ≤ 8 := hw.2.2.2.1
  have hO := minO_cg hw hc (m := m) hr hon
  refine ⟨fun c hcc => ?_, fun p hp => minL_cg hw hc hr hon (by omega), hO.2.1, hO.2.2.1, ?_⟩
  · have l := lkdB_cg hw hc (m := m) hr hon c
    obtain ⟨a, b, d, e⟩ := hr.1 c hcc
    have k : kpB cf m r c = kpB cf' m r' c := by simp only [kpB, l, b, hc.2.1 c hcc]
    refine ⟨?_, ?_, ?_, ?_⟩
    · show r.pt c + _ = r'.pt c + _
      rw [l, a, b, hc.2.1 c hcc, hc.1]
    · show (if kpB cf m r c = true then _ else _) = _
      rw [k, b]; rfl
    · show (if kpB cf m r c = true then _ else _) = _
      rw [k, d]; rfl
    · show shW cf.1 r.pt c = shW cf'.1 r'.pt c
      simp only [shW, a, hc.1]
  · show rngP _ _ _ _ r.z = rngP _ _ _ _ r'.z
    rw [hr.2.2.2.2, hc.1, hc.2.2.2]
theorem rsS_on (cf : CF) (od : Nat → Int32) (z : Int64) : ∀ m, (rsS cf od z m).on ≤ 33 * m := by
  intro m
  induction m with
  | zero => exact Nat.le_refl _
  | succ m ih =>
    have h := opL_on (KS cf.1 (rsS cf od z m).lp (rsS cf od z m).sp m cf.2.2.2 (rsS cf od z m).z) (nC cf.1) (nP cf.1) cf.2.2.1 m 33 (stl (KS cf.1 (rsS cf od z m).lp (rsS cf od z m).sp m cf.2.2.2 (rsS cf od z m).z) (nC cf.1) (nP cf.1) 33 (fun _ => -1), (rsS cf od z m).on, (rsS cf od z m).od, fun _ => nI 0)
    have e : (rsS cf od z (m + 1)).on = (opL (KS cf.1 (rsS cf od z m).lp (rsS cf od z m).sp m cf.2.2.2 (rsS cf od z m).z) (nC cf.1) (nP cf.1) cf.2.2.1 m 33 (stl (KS cf.1 (rsS cf od z m).lp (rsS cf od z m).sp m cf.2.2.2 (rsS cf od z m).z) (nC cf.1) (nP cf.1) 33 (fun _ => -1), (rsS cf od z m).on, (rsS cf od z m).od, fun _ => nI 0)).2.1 := rfl
    rw [e]
    have h : _ ≤ (rsS cf od z m).on + 33 := h
    omega
/-- settings that agree make the same course -/
theorem rsS_cg {v : Nat → Nat} {cf cf' : CF} (hw : WOk cf.1 v) (hc : cfEq v cf cf') (od od' : Nat → Int32) (z : Int64) : ∀ m, m ≤ 40 → rsEq v (rsS cf od z m) (rsS cf' od' z m) := by
  intro m
  induction m with
  | zero =>
    intro _
    refine ⟨fun c hcc => ⟨?_, rfl, rfl, rfl⟩, fun _ _ => rfl, rfl, fun i hi => by exact absurd hi (Nat.not_lt_zero i), rfl⟩
    show cf.1 _ * cf.1 _ = cf'.1 _ * cf'.1 _
    rw [hc.1]
  | succ m ih =>
    intro hm
    exact nxtR_cg hw hc (ih (by omega)) (by have := rsS_on cf od z m; omega)
/-- a course without a draw doesn't hang on the number drawn -/
theorem drB_false (w : Nat → Int32) (see : Nat → Nat → Bool) (p i : Nat) : drB w see false p i = false := rfl
theorem rngI_false (w : Nat → Int32) (see : Nat → Nat → Bool) (p : Nat) (z : Int64) : ∀ i, rngI w see false p i z = z := by
  intro i
  induction i with
  | zero => rfl
  | succ i ih => simp only [rngI, drB_false]; exact ih
theorem rngP_false (w : Nat → Int32) (see : Nat → Nat → Bool) (z : Int64) : ∀ p, rngP w see false p z = z := by
  intro p
  induction p with
  | zero => rfl
  | succ p ih => simp only [rngP, rngI_false]; exact ih
theorem mbF_false (w : Nat → Int32) (see : Nat → Nat → Bool) (z : Int64) : mbF w see false z = fun _ _ => false := by
  funext p i; simp only [mbF, drB_false, Bool.false_and]
def rsEqZ (r r' : RS) : Prop := r.1 = r'.1 ∧ r.2.1 = r'.2.1 ∧ r.2.2.1 = r'.2.2.1 ∧ r.lp = r'.lp ∧ r.sp = r'.sp ∧ r.on = r'.on ∧ r.od = r'.od
theorem rsS_z {cf : CF} (hd : cf.2.2.2 = false) (od : Nat → Int32) (z z' : Int64) : ∀ m, rsEqZ (rsS cf od z m) (rsS cf od z' m) := by
  intro m
  induction m with
  | zero => exact ⟨rfl, rfl, rfl, rfl, rfl, rfl, rfl⟩
  | succ m ih =>
    obtain ⟨a1, a2, a3, a4, a5, a6, a7⟩ := ih
    have eO : minO cf m (rsS cf od z m) = minO cf m (rsS cf od z' m) := by simp only [minO, KS, a4, a5, a6, a7, hd, mbF_false]
    have eL : minL cf m (rsS cf od z m) = minL cf m (rsS cf od z' m) := by funext p; simp only [minL, eO]
    have eK : lkdB cf m (rsS cf od z m) = lkdB cf m (rsS cf od z' m) := by funext c; simp only [lkdB, eL]
    have eM : (rsS cf od z m).kM = (rsS cf od z' m).kM := a2
    have eP : (rsS cf od z m).pt = (rsS cf od z' m).pt := a1
    have eQ : (rsS cf od z m).kL = (rsS cf od z' m).kL := a3
    have eB : kpB cf m (rsS cf od z m) = kpB cf m (rsS cf od z' m) := by funext c; simp only [kpB, eK, eM]
    refine ⟨?_, ?_, ?_, eL, ?_, ?_, ?_⟩
    · simp only [rsS, nxtR, eP, eK, eM]
    · simp only [rsS, nxtR, eB, eM]
    · simp only [rsS, nxtR, eB, eQ]
    · show shW cf.1 _ = shW cf.1 _
      rw [eP]
    · show (minO cf m _).2.1 = (minO cf m _).2.1
      rw [eO]
    · show (minO cf m _).2.2.1 = (minO cf m _).2.2.1
      rw [eO]
