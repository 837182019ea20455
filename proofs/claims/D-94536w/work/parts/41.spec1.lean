set_option maxRecDepth 100000
/-! ===== the looks of a minute, as a function; what it hangs on ===== -/
def E32 (F G : Nat → Int32) : Prop := ∀ k, k < 32 → F k = G k
/-- two minutes that are the same as far as person p and clock c go, however the values stand -/
def KEq (v : Nat → Nat) (K K' : MC) : Prop := ∀ p, p < v 2 → ∀ c, c < v 1 → ∀ F G, E32 F G → evV K (vf F) p c = evV K' (vf G) p c
theorem holdV_congr {w : Nat → Int32} {v : Nat → Nat} (hw : WOk w v) {see see' mb mb' : Nat → Nat → Bool} {lp lp' sp sp' : Nat → Int32} {m p i : Nat} (hp : p < v 2) (hi : i < v (56 + 33 * p + 4)) (hmb : mb p i = mb' p i) (hlp : 0 < m → lp p = lp' p) (hsp : 0 < m → ∀ c, c < v 1 → sp c = sp' c) {F G : Nat → Int32} (hF : E32 F G) : holdV (w, see, mb, lp, sp, m) (vf F) p i = holdV (w, see', mb', lp', sp', m) (vf G) p i := by
  have h8 : v 2 ≤ 8 := hw.2.2.2.1
  have h4 : v 1 ≤ 4 := hw.2.2.1
  have e2 : w 2 = nI (v 2) := hw.1 2 (by decide)
  obtain ⟨c, k, n, q, ec, ek, en, eq, hc, hk, hn, hq, hk1, hk2⟩ := hw.look hp hi
  simp only [holdV, ec, ek, en, eq, e2]
  rw [nI_clamp (show n < 2 ^ 31 by omega), nI_clamp (show c < 2 ^ 31 by omega), nI_clamp (show v 2 < 2 ^ 31 by omega)]
  have hV : n < v 2 → vf F n c = vf G n c := fun h => hF _ (by omega)
  by_cases a0 : nI k = nI 0
  · rw [if_pos a0, if_pos a0]
  rw [if_neg a0, if_neg a0]
  by_cases a1 : nI k = nI 1
  · rw [if_pos a1, if_pos a1]
  rw [if_neg a1, if_neg a1]
  by_cases a2 : nI k = nI 2
  · rw [if_pos a2, if_pos a2]
    have hk2' := hk2 ((nI_eq (by omega) (by omega)).mp a2)
    by_cases hm : 0 < m
    · rw [hlp hm, hsp hm n hk2']
    · simp [hm]
  rw [if_neg a2, if_neg a2]
  by_cases a3 : nI k = nI 3
  · rw [if_pos a3, if_pos a3]
    by_cases h : n < v 2
    · rw [if_pos h, if_pos h, hV h]
    · rw [if_neg h, if_neg h]
  rw [if_neg a3, if_neg a3]
  by_cases a4 : nI k = nI 4
  · rw [if_pos a4, if_pos a4]
    by_cases h : n < v 2
    · rw [if_pos h, if_pos h, hV h]
    · rw [if_neg h, if_neg h]
  rw [if_neg a4, if_neg a4, hmb]
theorem anyN_congr {f g : Nat → Bool} {n : Nat} (h : ∀ k, k < n → f k = g k) : anyN f n = anyN g n := by
  induction n with
  | zero => rfl
  | succ n ih => rw [anyN, anyN, ih (fun k hk => h k (by omega)), h n (by omega)]
theorem KEq.of {w : Nat → Int32} {v : Nat → Nat} (hw : WOk w v) {see see' mb mb' : Nat → Nat → Bool} {lp lp' sp sp' : Nat → Int32} {m : Nat} (hsee : ∀ p, p < v 2 → ∀ c, c < v 1 → see p c = see' p c) (hmb : ∀ p, p < v 2 → ∀ i, i < v (56 + 33 * p + 4) → mb p i = mb' p i) (hlp : 0 < m → ∀ p, p < v 2 → lp p = lp' p) (hsp : 0 < m → ∀ c, c < v 1 → sp c = sp' c) : KEq v (w, see, mb, lp, sp, m) (w, see', mb', lp', sp', m) := by
  intro p hp c hc F G hF
  have h8 : v 2 ≤ 8 := hw.2.2.2.1
  have e4 : w (56 + 33 * p + 4) = nI (v (56 + 33 * p + 4)) := hw.1 _ (by omega)
  have b4 : v (56 + 33 * p + 4) ≤ 4 := (hw.2.2.2.2.2.2.2.2.2.2.2.1 p hp).2.2.2.2.1
  have hh : ∀ i, i < v (56 + 33 * p + 4) → hasV (w, see, mb, lp, sp, m) (vf F) p c i = hasV (w, see', mb', lp', sp', m) (vf G) p c i := by
    intro i hi
    simp only [hasV]
    rw [holdV_congr (see := see) (see' := see') hw hp hi (hmb p hp i hi) (fun hm => hlp hm p hp) hsp hF]
  simp only [evV, perI, e4, nI_clamp (show v (56 + 33 * p + 4) < 2 ^ 31 by omega)]
  rw [hsee p hp c hc, anyN_congr (fun i hi => by rw [hh i hi]), anyN_congr (f := fun i => decide (hasV (w, see, mb, lp, sp, m) (vf F) p c i = -1)) (g := fun i => decide (hasV (w, see', mb', lp', sp', m) (vf G) p c i = -1)) (fun i hi => by rw [hh i hi])]
theorem E32.up {F G : Nat → Int32} (h : E32 F G) (k : Nat) (x : Int32) : E32 (va_up F k x) (va_up G k x) := by
  intro j hj
  by_cases e : j = k
  · subst e; rw [va_up_self, va_up_self]
  · rw [va_up_ne _ _ e, va_up_ne _ _ e]; exact h j hj
def ps32 (s t : PS) : Prop := E32 s.1 t.1 ∧ s.2 = t.2
theorem st1_congr {v : Nat → Nat} {K K' : MC} (hK : KEq v K K') (h8 : v 2 ≤ 8) (h4 : v 1 ≤ 4) {p c : Nat} (hp : p < v 2) (hc : c < v 1) {s t : PS} (h : ps32 s t) : ps32 (st1 K p c s) (st1 K' p c t) := by
  have e := h.1 (4 * p + c) (by omega)
  unfold st1
  rw [← e]
  split
  · rw [hK p hp c hc s.1 t.1 h.1, h.2]
    exact ⟨h.1.up _ _, rfl⟩
  · exact h
theorem psC_congr {v : Nat → Nat} {K K' : MC} (hK : KEq v K K') (h8 : v 2 ≤ 8) (h4 : v 1 ≤ 4) {p : Nat} (hp : p < v 2) {s t : PS} (h : ps32 s t) : ∀ c, c ≤ v 1 → ps32 (psC K p c s) (psC K' p c t) := by
  intro c
  induction c with
  | zero => intro _; exact h
  | succ c ih => intro hc; exact st1_congr hK h8 h4 hp (by omega) (ih (by omega))
theorem psP_congr {v : Nat → Nat} {K K' : MC} (hK : KEq v K K') (h8 : v 2 ≤ 8) (h4 : v 1 ≤ 4) {s t : PS} (h : ps32 s t) : ∀ p, p ≤ v 2 → ps32 (psP K (v 1) p s) (psP K' (v 1) p t) := by
  intro p
  induction p with
  | zero => intro _; exact h
  | succ p ih => intro hp; exact psC_congr hK h8 h4 (by omega) (ih (by omega)) (v 1) (Nat.le_refl _)
theorem stl_congr {v : Nat → Nat} {K K' : MC} (hK : KEq v K K') (h8 : v 2 ≤ 8) (h4 : v 1 ≤ 4) : ∀ f F G, E32 F G → E32 (stl K (v 1) (v 2) f F) (stl K' (v 1) (v 2) f G) := by
  intro f
  induction f with
  | zero => intro F G h; exact h
  | succ f ih =>
    intro F G h
    have h2 := psP_congr hK h8 h4 (s := (F, false)) (t := (G, false)) ⟨h, rfl⟩ (v 2) (Nat.le_refl _)
    simp only [stl]
    rw [← h2.2]
    split
    · exact ih _ _ h2.1
    · exact h2.1
theorem fuC_congr {V V' : Nat → Nat → Int32} {p : Nat} : ∀ n c, (∀ k, k < c + n → V p k = V' p k) → fuC V p n c = fuC V' p n c := by
  intro n
  induction n with
  | zero => intro c _; rfl
  | succ n ih =>
    intro c h
    simp only [fuC]
    rw [h c (by omega), ih (c + 1) (fun k hk => h k (by omega))]
theorem fuP_congr {V V' : Nat → Nat → Int32} {nc : Nat} : ∀ n p, (∀ q, q < p + n → ∀ c, c < nc → V q c = V' q c) → fuP V nc n p = fuP V' nc n p := by
  intro n
  induction n with
  | zero => intro p _; rfl
  | succ n ih =>
    intro p h
    simp only [fuP]
    rw [fuC_congr nc 0 (fun k hk => h p (by omega) k (by omega)), ih (p + 1) (fun q hq c hc => h q (by omega) c hc)]
/-- values, how many were open so far, which, which of this minute by people -/
abbrev OS : Type := (Nat → Int32) × Nat × (Nat → Int32) × (Nat → Int32)
def open1 (K : MC) (nc np : Nat) (tk : Nat → Bool) (m : Nat) (s : OS) (k : Nat) : OS := (stl K nc np 33 (va_up s.1 k (b2 (tk s.2.1))), s.2.1 + 1, va_up s.2.2.1 s.2.1 (nI (100 * m + 10 * (k / 4) + k % 4)), va_up s.2.2.2 (k / 4) (s.2.2.2 (k / 4) ||| (nI 1 <<< (nI (k % 4) &&& 31))))
def opL (K : MC) (nc np : Nat) (tk : Nat → Bool) (m : Nat) : Nat → OS → OS
  | 0, s => s
  | f + 1, s => match fuP (vf s.1) nc np 0 with
    | none => s
    | some k => opL K nc np tk m f (open1 K nc np tk m s k)
def os32 (s t : OS) : Prop := E32 s.1 t.1 ∧ s.2 = t.2
theorem opL_congr {v : Nat → Nat} {K K' : MC} (hK : KEq v K K') (h8 : v 2 ≤ 8) (h4 : v 1 ≤ 4) (tk : Nat → Bool) (m : Nat) : ∀ f s t, os32 s t → os32 (opL K (v 1) (v 2) tk m f s) (opL K' (v 1) (v 2) tk m f t) := by
  intro f
  induction f with
  | zero => intro s t h; exact h
  | succ f ih =>
    intro s t h
    simp only [opL]
    have e : fuP (vf s.1) (v 1) (v 2) 0 = fuP (vf t.1) (v 1) (v 2) 0 := fuP_congr (v 2) 0 (fun q hq c hc => h.1 _ (by omega))
    rw [← e]
    split
    · exact h
    · refine ih _ _ ⟨?_, ?_⟩
      · simp only [open1, h.2]
        exact stl_congr hK h8 h4 33 _ _ (h.1.up _ _)
      · simp only [open1, h.2]
/-- bits of a person's looks -/
def lookBits (F : Nat → Int32) (p : Nat) : Nat → Int32
  | 0 => nI 0
  | c + 1 => lookBits F p c ||| (F (4 * p + c) <<< (nI c &&& 31))
theorem lookBits_congr {F G : Nat → Int32} (h : E32 F G) {p : Nat} (hp : p < 8) : ∀ c, c ≤ 4 → lookBits F p c = lookBits G p c := by
  intro c
  induction c with
  | zero => intro _; rfl
  | succ c ih => intro hc; simp only [lookBits]; rw [ih (by omega), h _ (by omega)]
/-- the minute m by what was before -/
def KS (w : Nat → Int32) (lp sp : Nat → Int32) (m : Nat) (dr : Bool) (z : Int64) : MC := (w, fun p c => seeB w p c m, mbF w (fun p c => seeB w p c m) dr z, lp, sp, m)
/-- its looks -/
def LO (K : MC) (nc np : Nat) (tk : Nat → Bool) (m on : Nat) (od : Nat → Int32) : OS := opL K nc np tk m 33 (stl K nc np 33 (fun _ => -1), on, od, fun _ => nI 0)
theorem stl_cnt (K : MC) {nc np : Nat} (hc : nc ≤ 4) (hp : np ≤ 8) : ∀ f F, cntU (stl K nc np f F) 32 ≤ cntU F 32 := by
  intro f
  induction f with
  | zero => intro F; exact Nat.le_refl _
  | succ f ih =>
    intro F
    have ok := psP_ok K hc (n := 32) (F := F) np (by omega)
    have h1 : cntU (psP K nc np (F, false)).1 32 ≤ cntU F 32 := by
      rcases ok with ⟨-, e⟩ | ⟨-, e⟩
      · rw [e]; exact Nat.le_refl _
      · omega
    simp only [stl]
    split
    · have := ih (psP K nc np (F, false)).1; omega
    · exact h1
theorem fuC_some {V : Nat → Nat → Int32} {p k : Nat} : ∀ n c, fuC V p n c = some k → ∃ c', c ≤ c' ∧ c' < c + n ∧ k = 4 * p + c' ∧ V p c' = -1 := by
  intro n
  induction n with
  | zero => intro c h; cases h
  | succ n ih =>
    intro c h
    simp only [fuC] at h
    split at h
    · rename_i hv
      cases h
      exact ⟨c, Nat.le_refl _, by omega, rfl, hv⟩
    · obtain ⟨c', h1, h2, h3, h4⟩ := ih (c + 1) h
      exact ⟨c', by omega, by omega, h3, h4⟩
theorem fuP_some {V : Nat → Nat → Int32} {nc k : Nat} : ∀ n p, fuP V nc n p = some k → ∃ p' c', p' < p + n ∧ c' < nc ∧ k = 4 * p' + c' ∧ V p' c' = -1 := by
  intro n
  induction n with
  | zero => intro p h; cases h
  | succ n ih =>
    intro p h
    simp only [fuP] at h
    split at h
    · rename_i k' hk'
      cases h
      obtain ⟨c', -, h2, h3, h4⟩ := fuC_some nc 0 hk'
      exact ⟨p, c', by omega, by omega, h3, h4⟩
    · obtain ⟨p', c', h1, h2, h3, h4⟩ := ih (p + 1) h
      exact ⟨p', c', by omega, h2, h3, h4⟩
