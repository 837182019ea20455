set_option maxRecDepth 100000
/-! ===== UnseenClock: looks; call, mends, fault, end ===== -/
theorem bit1 : ∀ c, c < 4 → ∀ d, d < 4 → bitI (nI 1 <<< (nI c &&& 31)) d = decide (c = d) := by decide +kernel
/-- what a minute has opened -/
def OpI (m on0 : Nat) (od0 : Nat → Int32) (s : OS) : Prop := on0 ≤ s.2.1 ∧ (∀ i, i < on0 → s.2.2.1 i = od0 i) ∧ (∀ i, on0 ≤ i → i < s.2.1 → ∃ p c, p < 8 ∧ c < 4 ∧ s.2.2.1 i = nI (100 * m + 10 * p + c) ∧ bitI (s.2.2.2 p) c = true) ∧
  ∀ p c, p < 8 → c < 4 → bitI (s.2.2.2 p) c = true → ∃ i, i < s.2.1 ∧ s.2.2.1 i = nI (100 * m + 10 * p + c)
theorem opI_step {m on0 : Nat} {od0 : Nat → Int32} {K : MC} {nc np : Nat} {tk : Nat → Bool} {s : OS} (h : OpI m on0 od0 s) {p c : Nat} (hp : p < 8) (hc : c < 4) : OpI m on0 od0 (open1 K nc np tk m s (4 * p + c)) := by
  obtain ⟨h1, h2, h3, h4⟩ := h
  have e1 : (4 * p + c) / 4 = p := by omega
  have e2 : (4 * p + c) % 4 = c := by omega
  have bt : ∀ p' c', c' < 4 → bitI (va_up s.2.2.2 p (s.2.2.2 p ||| (nI 1 <<< (nI c &&& 31))) p') c' = (bitI (s.2.2.2 p') c' || (decide (p' = p) && decide (c = c'))) := by
    intro p' c' hc'
    by_cases e : p' = p
    · subst e; rw [va_up_self, bit_or, bit1 c hc c' hc', decide_eq_true rfl, Bool.true_and]
    · rw [va_up_ne _ _ e, decide_eq_false e, Bool.false_and, Bool.or_false]
  unfold OpI open1
  rw [e1, e2]
  refine ⟨by show on0 ≤ s.2.1 + 1; omega, fun i hi => ?_, fun i hi hj => ?_, fun p' c' hp' hc' hb => ?_⟩
  · show va_up s.2.2.1 s.2.1 _ i = od0 i
    rw [va_up_ne _ _ (by omega)]; exact h2 i hi
  · have hj : i < s.2.1 + 1 := hj
    by_cases e : i = s.2.1
    · refine ⟨p, c, hp, hc, ?_, ?_⟩
      · show va_up s.2.2.1 s.2.1 _ i = _
        rw [e, va_up_self]
      · show bitI (va_up s.2.2.2 p _ p) c = true
        rw [bt p c hc]; simp
    · obtain ⟨p', c', a1, a2, a3, a4⟩ := h3 i hi (by omega)
      refine ⟨p', c', a1, a2, ?_, ?_⟩
      · show va_up s.2.2.1 s.2.1 _ i = _
        rw [va_up_ne _ _ e]; exact a3
      · show bitI (va_up s.2.2.2 p _ p') c' = true
        rw [bt p' c' a2, a4]; rfl
  · have hb : bitI (va_up s.2.2.2 p (s.2.2.2 p ||| (nI 1 <<< (nI c &&& 31))) p') c' = true := hb
    rw [bt p' c' hc', Bool.or_eq_true] at hb
    rcases hb with hb | hb
    · obtain ⟨i, a1, a2⟩ := h4 p' c' hp' hc' hb
      refine ⟨i, by show i < s.2.1 + 1; omega, ?_⟩
      show va_up s.2.2.1 s.2.1 _ i = _
      rw [va_up_ne _ _ (by omega)]; exact a2
    · simp only [Bool.and_eq_true, decide_eq_true_eq] at hb
      obtain ⟨rfl, rfl⟩ := hb
      refine ⟨s.2.1, by show s.2.1 < s.2.1 + 1; omega, ?_⟩
      show va_up s.2.2.1 s.2.1 _ s.2.1 = _
      rw [va_up_self]
theorem opI_opL (K : MC) {nc np : Nat} (hc : nc ≤ 4) (hp : np ≤ 8) (tk : Nat → Bool) (m on0 : Nat) (od0 : Nat → Int32) : ∀ f s, OpI m on0 od0 s → OpI m on0 od0 (opL K nc np tk m f s) := by
  intro f
  induction f with
  | zero => intro s h; exact h
  | succ f ih =>
    intro s h
    simp only [opL]
    split
    · exact h
    · rename_i k hk
      obtain ⟨p, c, h1, h2, rfl, -⟩ := fuP_some np 0 hk
      exact ih _ (opI_step h (by omega) (by omega))
theorem opI_LO (K : MC) {nc np : Nat} (hc : nc ≤ 4) (hp : np ≤ 8) (tk : Nat → Bool) (m on0 : Nat) (od0 : Nat → Int32) : OpI m on0 od0 (LO K nc np tk m on0 od0) := by
  refine opI_opL K hc hp tk m on0 od0 33 _ ⟨Nat.le_refl _, fun _ _ => rfl, fun i h1 h2 => absurd h2 (Nat.not_lt.mpr h1), fun p c hp hc hb => ?_⟩
  have : ∀ c, c < 4 → bitI (nI 0) c = false := by decide +kernel
  exact absurd hb (by show ¬ bitI (nI 0) c = true; rw [this c hc]; decide)
/-- opened in a minute -/
def opB (cf : CF) (r : RS) (m p c : Nat) : Bool := bitI ((minO cf m r).2.2.2 p) c
theorem op_all {cf : CF} {v : Nat → Nat} (hw : WOk cf.1 v) (od : Nat → Int32) (z : Int64) : ∀ t, (∀ i, i < (rsS cf od z t).on → ∃ m p c, m < t ∧ p < 8 ∧ c < 4 ∧ (rsS cf od z t).od i = nI (100 * m + 10 * p + c) ∧ opB cf (rsS cf od z m) m p c = true) ∧
    ∀ m p c, m < t → p < 8 → c < 4 → opB cf (rsS cf od z m) m p c = true → ∃ i, i < (rsS cf od z t).on ∧ (rsS cf od z t).od i = nI (100 * m + 10 * p + c) := by
  intro t
  induction t with
  | zero => exact ⟨fun i hi => absurd hi (Nat.not_lt_zero _), fun m p c hm => absurd hm (Nat.not_lt_zero _)⟩
  | succ t ih =>
    obtain ⟨i1, i2⟩ := ih
    have h : OpI t (rsS cf od z t).on (rsS cf od z t).od (minO cf t (rsS cf od z t)) := opI_LO _ (by rw [hw.ncE]; exact hw.nc4) (by rw [hw.npE]; exact hw.np8) _ _ _ _
    obtain ⟨h1, h2, h3, h4⟩ := h
    have eon : (rsS cf od z (t + 1)).on = (minO cf t (rsS cf od z t)).2.1 := rfl
    have eod : (rsS cf od z (t + 1)).od = (minO cf t (rsS cf od z t)).2.2.1 := rfl
    rw [eon, eod]
    refine ⟨fun i hi => ?_, fun m p c hm hp hc hb => ?_⟩
    · by_cases e : i < (rsS cf od z t).on
      · obtain ⟨m, p, c, a1, a2, a3, a4, a5⟩ := i1 i e
        exact ⟨m, p, c, by omega, a2, a3, by rw [h2 i e]; exact a4, a5⟩
      · obtain ⟨p, c, a2, a3, a4, a5⟩ := h3 i (by omega) hi
        exact ⟨t, p, c, by omega, a2, a3, a4, a5⟩
    · by_cases e : m = t
      · subst e
        exact h4 p c hp hc hb
      · obtain ⟨i, a1, a2⟩ := i2 m p c (by omega) hp hc hb
        exact ⟨i, by omega, by rw [h2 i a1]; exact a2⟩
theorem op_in {cf : CF} {v : Nat → Nat} (hw : WOk cf.1 v) (od : Nat → Int32) (z : Int64) {t m p c : Nat} (ht : t ≤ 40) (hm : m < t) (hp : p < 8) (hc : c < 4) : (∃ i, i < (rsS cf od z t).on ∧ (rsS cf od z t).od i = nI (100 * m + 10 * p + c)) ↔ opB cf (rsS cf od z m) m p c = true := by
  obtain ⟨h1, h2⟩ := op_all hw od z t
  constructor
  · rintro ⟨i, hi, e⟩
    obtain ⟨m', p', c', a1, a2, a3, a4, a5⟩ := h1 i hi
    rw [a4] at e
    have := (nI_eq (by omega) (by omega)).mp e
    obtain ⟨rfl, rfl, rfl⟩ : m' = m ∧ p' = p ∧ c' = c := ⟨by omega, by omega, by omega⟩
    exact a5
  · exact h2 m p c hm hp hc
section Q8
variable {X : Cx} {ad : Nat → Nat} {A : Nat → Nat → Int32} {B : Nat → Nat → Int64} {sk : Nat → Nat → Nat} {sw : Nat → Nat → Int32} {E : Nat → Nat} {v : Nat → Nat} {w : Nat → Int32}
theorem bX0_looks_0 : Blk CP mX0_looks 0 5 [oAL 0, oIL 1, cF_I F_isPersonC] := blk_c (s_aload_n dX0_looks_0 rfl) <| blk_c (s_iload_n dX0_looks_1 rfl) <| blk_c (c_F_I ok_isPersonC (ci := 0) rfl (lw_V q1127 q1129 qs28 q131 q1130) hy_X0_isPerson rfl (by decide) dX0_looks_2) <| blk_nil
theorem bX0_looks_8 : Blk CP mX0_looks 8 14 [oAL 0, oIL 2, oI2L, cF_J F_isClockC] := blk_c (s_aload_n dX0_looks_8 rfl) <| blk_c (s_iload_n dX0_looks_9 rfl) <| blk_c (s_i2l dX0_looks_10) <| blk_c (c_F_J ok_isClockC (ci := 0) rfl (lw_V q1146 q1148 qs31 q131 q1149) hy_X0_isClock rfl (by decide) dX0_looks_11) <| blk_nil
theorem bX0_looks_17 : Blk CP mX0_looks 17 22 [oAL 0, oIL 3, cF_I F_isMinuteC] := blk_c (s_aload_n dX0_looks_17 rfl) <| blk_c (s_iload_n dX0_looks_18 rfl) <| blk_c (c_F_I ok_isMinuteC (ci := 0) rfl (lw_V q1135 q1137 qs30 q131 q1138) hy_X0_isMinute rfl (by decide) dX0_looks_19) <| blk_nil
theorem bX0_looks_25 : Blk CP mX0_looks 25 27 [oC (-2)] := blk_c (s_bipush dX0_looks_25 (by decide +kernel)) <| blk_nil
theorem bX0_looks_28 : Blk CP mX0_looks 28 29 [oAL 0] := blk_c (s_aload_n dX0_looks_28 rfl) <| blk_nil
theorem bX0_looks_32 : Blk CP mX0_looks 32 36 [oPopR, oC (nI 0), oIS 4] := blk_c (s_popR dX0_looks_32) <| blk_c (s_iconst dX0_looks_33 (by decide +kernel)) <| blk_c (s_istore dX0_looks_34 (by decide)) <| blk_nil
theorem bX0_looks_36 : Blk CP mX0_looks 36 45 [oIL 4, oAL 0, cR 0 4 3, cI 3 14] := blk_c (s_iload dX0_looks_36) <| blk_c (s_aload_n dX0_looks_38 rfl) <| blk_c (cgX0_4 (Or.inl q560) dX0_looks_39) <| blk_c (cgX3_14 (Or.inr ⟨_, nq509⟩) dX0_looks_42) <| blk_nil
theorem bX0_looks_48 : Blk CP mX0_looks 48 69 [oAL 0, cR 0 4 3, cR 3 5 35, oIL 4, cAI 35 1280, oC (nI 100), oIL 3, oMul, oC (nI 10), oIL 1, oMul, oAdd, oIL 2, oAdd] := blk_c (s_aload_n dX0_looks_48 rfl) <| blk_c (cgX0_4 (Or.inl q560) dX0_looks_49) <| blk_c (cgX3_5 (Or.inr ⟨_, nq496⟩) dX0_looks_52) <| blk_c (s_iload dX0_looks_55) <| blk_c (c_iald (fun _ => rfl) dX0_looks_57) <| blk_c (s_bipush dX0_looks_58 (by decide +kernel)) <| blk_c (s_iload_n dX0_looks_60 rfl) <| blk_c (s_imul dX0_looks_61) <| blk_c (s_bipush dX0_looks_62 (by decide +kernel)) <| blk_c (s_iload_n dX0_looks_64 rfl) <| blk_c (s_imul dX0_looks_65) <| blk_c (s_iadd dX0_looks_66) <| blk_c (s_iload_n dX0_looks_67 rfl) <| blk_c (s_iadd dX0_looks_68) <| blk_nil
theorem bX0_looks_72 : Blk CP mX0_looks 72 73 [oC (nI 2)] := blk_c (s_iconst dX0_looks_72 (by decide +kernel)) <| blk_nil
theorem bX0_looks_74 : Blk CP mX0_looks 74 36 [oInc 4 1, .inl (fun s => some s)] := blk_c (s_iinc dX0_looks_74 (by decide +kernel) (by decide)) <| blk_c (s_goto (tgt := 36) dX0_looks_77 (by decide)) <| blk_nil
theorem bX0_looks_80 : Blk CP mX0_looks 80 95 [oAL 0, cR 0 4 3, cR 3 0 30, oIL 1, cW 30 50 8, oIL 3, cWI 50 8 40 1, oIL 2, oShr, oC (nI 1), oAnd] := blk_c (s_aload_n dX0_looks_80 rfl) <| blk_c (cgX0_4 (Or.inl q560) dX0_looks_81) <| blk_c (cgX3_0 (Or.inr ⟨_, nq486⟩) dX0_looks_84) <| blk_c (s_iload_n dX0_looks_87 rfl) <| blk_c (c_W (t := 8) (ty := .int) (fun _ => rfl) (fun _ _ _ _ _ _ => rfl) dX0_looks_88) <| blk_c (s_iload_n dX0_looks_89 rfl) <| blk_c (c_wiald ar_look dX0_looks_90) <| blk_c (s_iload_n dX0_looks_91 rfl) <| blk_c (s_ishr dX0_looks_92) <| blk_c (s_iconst dX0_looks_93 (by decide +kernel)) <| blk_c (s_iand dX0_looks_94) <| blk_nil
theorem pb_looks (hS : SW v A sw) {p c m : Int32} : RCc X mX0_looks 1000 70000 [.ref (ad 0), .int p, .int c, .int m] (ad, A, B, sk, sw, E) (PubQ (ad, A, B, sk, sw, E) (q_looks (sw 0) p c m)) := by
  obtain ⟨-, hw, e7, ep⟩ := id hS
  have h4 := hw.nc4
  have h8 := hw.np8
  have h40 := hw.sp40
  have main : (pB (sw 0) p && (cB (sw 0) c && mB (sw 0) m)) = true → PJ X mX0_looks (ad, A, B, sk, sw, E) (q_looks (sw 0) p c m) 28 [some (.ref (ad 0)), some (.int p), some (.int c), some (.int m), none] [] (ad, A, B, sk, sw, E) := by
    intro hg
    rw [q_looks, if_pos hg]
    simp only [Bool.and_eq_true] at hg
    obtain ⟨p, hp, rfl⟩ := hw.pOf hg.1
    obtain ⟨c, hc, rfl⟩ := hw.cOf hg.2.1
    obtain ⟨m, hm, rfl⟩ := hw.mOf hg.2.2
    rw [nI_clamp (by omega), nI_clamp (by omega), nI_clamp (by omega)]
    refine bX0_looks_28.go rfl trivial ?_
    refine xq (M' := mX0_plain) (As := []) (nA := 0) (ok_plainC hS) rec0 rfl (lw_V q1184 q1186 qs34 q131 q1187) dX0_looks_29 rfl hy_X0_plain (fun r A1 B1 sk1 sw1 E1 k1 q1 => ?_)
    obtain ⟨rfl, q1, e1, s1⟩ := q1
    obtain ⟨q3, q4, q5, -, -, q6, -⟩ := q1
    have hin := op_in (cf := cfP (sw 0)) hw (fun _ => nI 0) 0 (t := v 6) (m := m) (p := p) (c := c) h40 hm (by omega) (by omega)
    refine bX0_looks_32.go rfl trivial ?_
    refine loop_down (N := (rsP (sw 0) (v 6)).on) (I := fun t => ∀ i, i < t → ¬ (rsP (sw 0) (v 6)).od i = nI (100 * m + 10 * p + c)) (P := fun t => PJ X mX0_looks (ad, A, B, sk, sw, E) _ 36 [some (.ref (ad 0)), some (.int (nI p)), some (.int (nI c)), some (.int (nI m)), some (.int (nI t))] [] (ad, A1, B1, sk1, sw1, E1)) ?_ ?_ 0 (by omega) (fun i hi => absurd hi (Nat.not_lt_zero _))
    · intro hI
      refine bX0_looks_36.go rfl (by repeat' first | exact trivial | rfl | assumption | omega | apply And.intro) ?_
      rw [q3]
      refine j_icmp_ge (tgt := 80) dX0_looks_45 (by decide) (fun h45 => ?_) (fun h45 => absurd (nI_le (Nat.le_refl _) (by omega)) h45)
      refine bX0_looks_80.go rfl (by (try simp (disch := omega) only [nI_add, pk_mul, pk_sub, nI_clamp, vpI]); repeat' first | exact trivial | rfl | assumption | omega | apply And.intro) ?_
      refine x_ret dX0_looks_95 rfl ?_ k1
      simp (disch := omega) only [nI_clamp]
      rw [q6 m hm p hp, bitI_v, if_neg]
      intro hb
      obtain ⟨i, a1, a2⟩ := hin.mpr hb
      exact hI i a1 a2
    · intro t ht hI ih
      refine bX0_looks_36.go rfl (by repeat' first | exact trivial | rfl | assumption | omega | apply And.intro) ?_
      rw [q3]
      refine j_icmp_ge (tgt := 80) dX0_looks_45 (by decide) (fun h45 => ?_) (fun h45 => ?_)
      · rw [nI_leI (by omega) (by omega)] at h45; omega
      · refine bX0_looks_48.go rfl (by (try simp (disch := omega) only [nI_add, pk_mul, pk_sub, nI_clamp, vpI]); repeat' first | exact trivial | rfl | assumption | omega | apply And.intro) ?_
        simp (disch := omega) only [nI_clamp]
        rw [q4 t ht, pk_mul, pk_mul, nI_add, nI_add]
        refine j_icmp_ne (tgt := 74) dX0_looks_69 (by decide) (fun h69 => ?_) (fun h69 => ?_)
        · refine bX0_looks_74.go rfl trivial ?_
          rw [nI_1]
          refine ih (fun i hi => ?_)
          by_cases e : i = t
          · subst e; exact h69
          · exact hI i (by omega)
        · refine bX0_looks_72.go rfl trivial ?_
          refine x_ret dX0_looks_73 rfl ?_ k1
          exact (if_pos (hin.mp ⟨t, ht, h69⟩)).symm
  refine C_start (L := [some (.ref (ad 0)), some (.int p), some (.int c), some (.int m), none]) 1 rfl ?_
  refine bX0_looks_0.go rfl (by first | exact ⟨⟨rfl, v, hw⟩, trivial⟩ | exact ⟨rfl, trivial⟩ | exact ⟨trivial, trivial⟩) ?_
  refine j_if_eq (tgt := 25) dX0_looks_5 (by decide) (fun h5 => ?_) (fun h5 => ?_)
  · refine bX0_looks_25.go rfl trivial ?_
    refine c_iret dX0_looks_27 rfl ?_
    exact ⟨ans (by clear main; simp only [clL_i, tmL_i, hrL_i, fIn_L, b2_0, b2_n0] at *; simp_all [q_looks] <;> (intros; simp_all)), KpX.rf.kp⟩
  · refine bX0_looks_8.go rfl (by first | exact ⟨⟨rfl, v, hw⟩, trivial⟩ | exact ⟨rfl, trivial⟩ | exact ⟨trivial, trivial⟩) ?_
    refine j_if_eq (tgt := 25) dX0_looks_14 (by decide) (fun h14 => ?_) (fun h14 => ?_)
    · refine bX0_looks_25.go rfl trivial ?_
      refine c_iret dX0_looks_27 rfl ?_
      exact ⟨ans (by clear main; simp only [clL_i, tmL_i, hrL_i, fIn_L, b2_0, b2_n0] at *; simp_all [q_looks] <;> (intros; simp_all)), KpX.rf.kp⟩
    · refine bX0_looks_17.go rfl (by first | exact ⟨⟨rfl, v, hw⟩, trivial⟩ | exact ⟨rfl, trivial⟩ | exact ⟨trivial, trivial⟩) ?_
      refine j_if_ne (tgt := 28) dX0_looks_22 (by decide) (fun h22 => ?_) (fun h22 => ?_)
      · exact main (by clear main; simp only [clL_i, tmL_i, hrL_i, fIn_L, b2_0, b2_n0] at *; simp_all)
      · refine bX0_looks_25.go rfl trivial ?_
        refine c_iret dX0_looks_27 rfl ?_
        exact ⟨ans (by clear main; simp only [clL_i, tmL_i, hrL_i, fIn_L, b2_0, b2_n0] at *; simp_all [q_looks] <;> (intros; simp_all)), KpX.rf.kp⟩
theorem cl_g : ∀ a, a < 256 → ∀ p, p < 8 → (bitI (nI a) p = true → (nI a ||| nI 1 <<< (nI p &&& 31)) = nI a ∧ (nI a ^^^ nI 1 <<< (nI p &&& 31)) = (nI a &&& ((nI 1 <<< (nI p &&& 31)) ^^^ -1)) ∧ ¬ nI a = (nI a &&& ((nI 1 <<< (nI p &&& 31)) ^^^ -1))) ∧
    (bitI (nI a) p = false → (nI a &&& ((nI 1 <<< (nI p &&& 31)) ^^^ -1)) = nI a ∧ (nI a ^^^ nI 1 <<< (nI p &&& 31)) = (nI a ||| nI 1 <<< (nI p &&& 31)) ∧ ¬ nI a = (nI a ||| nI 1 <<< (nI p &&& 31))) := by decide +kernel
theorem gn_self (w : Nat → Int32) : gnW w (w 7) = w := up_same w 7
theorem bX0_call_0 : Blk CP mX0_call 0 5 [oAL 0, oIL 1, cF_I F_isPersonC] := blk_c (s_aload_n dX0_call_0 rfl) <| blk_c (s_iload_n dX0_call_1 rfl) <| blk_c (c_F_I ok_isPersonC (ci := 0) rfl (lw_V q1127 q1129 qs28 q131 q1130) hy_X0_isPerson rfl (by decide) dX0_call_2) <| blk_nil
theorem bX0_call_8 : Blk CP mX0_call 8 10 [oC (-2)] := blk_c (s_bipush dX0_call_8 (by decide +kernel)) <| blk_nil
theorem bX0_call_11 : Blk CP mX0_call 11 20 [oAL 0, cI 0 3, oIL 1, oS_II pT2 fOn, oIL 2] := blk_c (s_aload_n dX0_call_11 rfl) <| blk_c (cgX0_3 (Or.inl q559) dX0_call_12) <| blk_c (s_iload_n dX0_call_15 rfl) <| blk_c (s_S_II ok_sX0_isOn (fun _ _ _ h => h.1.1) (Or.inl (lw_S q1139 q1140 q131 q1141)) hy_X0_isOn (by decide) dX0_call_16) <| blk_c (s_iload_n dX0_call_19 rfl) <| blk_nil
theorem bX0_call_23 : Blk CP mX0_call 23 24 [oC (nI 0)] := blk_c (s_iconst dX0_call_23 (by decide +kernel)) <| blk_nil
theorem bX0_call_25 : Blk CP mX0_call 25 38 [oAL 0, oDupR, cI 0 3, oC (nI 1), oIL 1, oShl, oXor, cPI 0 3, oC (nI 1)] := blk_c (s_aload_n dX0_call_25 rfl) <| blk_c (s_dupR dX0_call_26) <| blk_c (cgX0_3 (Or.inl q559) dX0_call_27) <| blk_c (s_iconst dX0_call_30 (by decide +kernel)) <| blk_c (s_iload_n dX0_call_31 rfl) <| blk_c (s_ishl dX0_call_32) <| blk_c (s_ixor dX0_call_33) <| blk_c (cpX0_3 (Or.inl q559) dX0_call_34) <| blk_c (s_iconst dX0_call_37 (by decide +kernel)) <| blk_nil
theorem pb_call (hS : SW v A sw) {p b : Int32} (hb : b = nI 0 ∨ b = nI 1) : RCc X mX0_call 1000 70000 [.ref (ad 0), .int p, .int b] (ad, A, B, sk, sw, E) (fun r x' => r = some (.int (q_call (sw 0) p b)) ∧ x' = (ad, upA A 0 3 (c_call (sw 0) p b 7), B, sk, va_up sw 0 (c_call (sw 0) p b), E)) := by
  obtain ⟨-, hw, e7, ep⟩ := id hS
  have h8 := hw.np8
  have h256 : v 7 < 256 := hw.2.2.2.2.2.2.2.2.1
  have ew : sw 0 7 = nI (v 7) := hw.1 7 (by decide)
  have same : c_call (sw 0) p b = sw 0 → (ad, upA A 0 3 (c_call (sw 0) p b 7), B, sk, va_up sw 0 (c_call (sw 0) p b), E) = (ad, A, B, sk, sw, E) := by
    intro e
    rw [e, ← e7, upA_same, up_same]
  refine C_start (L := [some (.ref (ad 0)), some (.int p), some (.int b)]) 0 rfl ?_
  refine bX0_call_0.go rfl ⟨⟨rfl, v, hw⟩, trivial⟩ ?_
  refine j_if_ne (tgt := 11) dX0_call_5 (by decide) (fun h5 => ?_) (fun h5 => ?_)
  · rw [b2_n0] at h5
    obtain ⟨p, hp, rfl⟩ := hw.pOf h5
    obtain ⟨g1, g2⟩ := cl_g (v 7) h256 p (by omega)
    have hc : c_call (sw 0) (nI p) b = gnW (sw 0) (if b = 0 then sw 0 7 &&& ((nI 1 <<< (nI p &&& 31)) ^^^ -1) else sw 0 7 ||| nI 1 <<< (nI p &&& 31)) := by rw [c_call, if_pos h5]
    refine bX0_call_11.go rfl ⟨rfl, trivial, trivial⟩ ?_
    rw [e7, show fOn (sw 0 7) (nI p) = b2 (bitI (sw 0 7) p) from rfl]
    refine j_icmp_ne (tgt := 25) dX0_call_20 (by decide) (fun h20 => ?_) (fun h20 => ?_)
    · refine bX0_call_25.go rfl (by repeat' first | exact trivial | rfl | assumption | omega | apply And.intro) ?_
      rw [e7]
      have key : (sw 0 7 ^^^ nI 1 <<< (nI p &&& 31)) = c_call (sw 0) (nI p) b 7 ∧ ¬ sw 0 7 = c_call (sw 0) (nI p) b 7 := by
        rw [hc, gnW_at, ew]
        rw [ew] at h20
        rcases hb with rfl | rfl
        · rw [if_pos (by decide)]
          have hb : bitI (nI (v 7)) p = true := by
            cases e : bitI (nI (v 7)) p with
            | true => rfl
            | false => rw [e] at h20; exact absurd rfl h20
          exact ⟨(g1 hb).2.1, (g1 hb).2.2⟩
        · rw [if_neg (by decide)]
          have hb : bitI (nI (v 7)) p = false := by
            cases e : bitI (nI (v 7)) p with
            | false => rfl
            | true => rw [e] at h20; exact absurd rfl h20
          exact ⟨(g2 hb).2.1, (g2 hb).2.2⟩
      refine js_re (w' := c_call (sw 0) (nI p) b) hw (by rw [hc]; exact gn_eq _ _) ?_
      refine c_iret dX0_call_38 rfl ⟨?_, ?_⟩
      · rw [q_call, if_pos h5, if_neg key.2]
      · rw [key.1]
    · refine bX0_call_23.go rfl trivial ?_
      have key : c_call (sw 0) (nI p) b = sw 0 := by
        rw [hc]
        rw [ew] at h20
        have : (if b = 0 then sw 0 7 &&& ((nI 1 <<< (nI p &&& 31)) ^^^ -1) else sw 0 7 ||| nI 1 <<< (nI p &&& 31)) = sw 0 7 := by
          rw [ew]
          rcases hb with rfl | rfl
          · rw [if_pos (by decide)]
            have hb : bitI (nI (v 7)) p = false := by
              cases e : bitI (nI (v 7)) p with
              | false => rfl
              | true => rw [e] at h20; exact absurd h20 (by decide)
            exact (g2 hb).1
          · rw [if_neg (by decide)]
            have hb : bitI (nI (v 7)) p = true := by
              cases e : bitI (nI (v 7)) p with
              | true => rfl
              | false => rw [e] at h20; exact absurd h20 (by decide)
            exact (g1 hb).1
        rw [this, gn_self]
      refine c_iret dX0_call_24 rfl ⟨?_, (same key).symm⟩
      rw [q_call, if_pos h5, key, if_pos rfl]
  · rw [b2_0] at h5
    have h5' : ¬ pB (sw 0) p = true := by rw [h5]; decide
    refine bX0_call_8.go rfl trivial ?_
    exact c_iret dX0_call_10 rfl ⟨by rw [q_call, if_neg h5'], (same (by rw [c_call, if_neg h5'])).symm⟩
def mnA (w : Nat → Int32) (A : Nat → Nat → Int32) (c x : Int32) : Nat → Nat → Int32 := if (cB w c && inL x (lN 0) 60) = true then upA A 2 c.toNatClampNeg x else A
theorem bX0_mends_0 : Blk CP mX0_mends 0 6 [oAL 0, oIL 1, oI2L, cF_J F_isClockC] := blk_c (s_aload_n dX0_mends_0 rfl) <| blk_c (s_iload_n dX0_mends_1 rfl) <| blk_c (s_i2l dX0_mends_2) <| blk_c (c_F_J ok_isClockC (ci := 0) rfl (lw_V q1146 q1148 qs31 q131 q1149) hy_X0_isClock rfl (by decide) dX0_mends_3) <| blk_nil
theorem bX0_mends_9 : Blk CP mX0_mends 9 18 [oIL 2, oI2L, oCL (lN 0), oCL (60), oS_JJJ pT3 fIn] := blk_c (s_iload_n dX0_mends_9 rfl) <| blk_c (s_i2l dX0_mends_10) <| blk_c (s_lconst dX0_mends_11 (by decide +kernel)) <| blk_c (s_ldc2 dX0_mends_12 q1584) <| blk_c (s_S_JJJ ok_sX0_in (fun _ _ _ h => h.1.1) (Or.inl (lw_S q179 q180 q131 q181)) hy_X0_in (by decide) dX0_mends_15) <| blk_nil
theorem bX0_mends_21 : Blk CP mX0_mends 21 23 [oC (-2)] := blk_c (s_bipush dX0_mends_21 (by decide +kernel)) <| blk_nil
theorem bX0_mends_24 : Blk CP mX0_mends 24 39 [oAL 0, cR 0 2 2, oIL 1, cAI 2 4, oIS 3, oAL 0, cR 0 2 2, oIL 1, oIL 2, cSI 2 4, oIL 3] := blk_c (s_aload_n dX0_mends_24 rfl) <| blk_c (cgX0_2 (Or.inl q558) dX0_mends_25) <| blk_c (s_iload_n dX0_mends_28 rfl) <| blk_c (c_iald (fun _ => rfl) dX0_mends_29) <| blk_c (s_istore_n dX0_mends_30 rfl (by decide)) <| blk_c (s_aload_n dX0_mends_31 rfl) <| blk_c (cgX0_2 (Or.inl q558) dX0_mends_32) <| blk_c (s_iload_n dX0_mends_35 rfl) <| blk_c (s_iload_n dX0_mends_36 rfl) <| blk_c (c_iast (fun _ => rfl) dX0_mends_37) <| blk_c (s_iload_n dX0_mends_38 rfl) <| blk_nil
theorem pb_mends (hS : SW v A sw) {c x : Int32} : RCc X mX0_mends 1000 70000 [.ref (ad 0), .int c, .int x] (ad, A, B, sk, sw, E) (fun r x' => r = some (.int (q_mends (sw 0) c x)) ∧ x' = (ad, mnA (sw 0) A c x, B, sk, va_up sw 0 (c_mends (sw 0) c x), E)) := by
  obtain ⟨-, hw, e7, ep⟩ := id hS
  have h4 := hw.nc4
  refine C_start (L := [some (.ref (ad 0)), some (.int c), some (.int x), none]) 1 rfl ?_
  have no : (cB (sw 0) c && inL x (lN 0) 60) = false → JS CP X mX0_mends (rmOf mX0_mends.lv 1000 70000) (ZC X 1000 70000 (fun r x' => r = some (.int (q_mends (sw 0) c x)) ∧ x' = (ad, mnA (sw 0) A c x, B, sk, va_up sw 0 (c_mends (sw 0) c x), E))) 0 0 21 [some (.ref (ad 0)), some (.int c), some (.int x), none] [] (ad, A, B, sk, sw, E) := by
    intro hz
    refine bX0_mends_21.go rfl trivial ?_
    exact c_iret dX0_mends_23 rfl ⟨by rw [q_mends, hz]; rfl, by rw [mnA, c_mends, hz]; simp only [Bool.false_eq_true, if_false, up_same]⟩
  refine bX0_mends_0.go rfl ⟨⟨rfl, v, hw⟩, trivial⟩ ?_
  rw [clL_i]
  refine j_if_eq (tgt := 21) dX0_mends_6 (by decide) (fun h6 => no (by rw [(b2_0 _).mp h6]; rfl)) (fun h6 => ?_)
  rw [b2_n0] at h6
  refine bX0_mends_9.go rfl ⟨trivial, trivial⟩ ?_
  rw [fIn_L]
  refine j_if_ne (tgt := 24) dX0_mends_18 (by decide) (fun h18 => ?_) (fun h18 => no (by rw [(b2_0 _).mp h18]; simp))
  rw [b2_n0] at h18
  obtain ⟨c, hc, rfl⟩ := hw.cOf h6
  refine bX0_mends_24.go rfl (by (try simp (disch := omega) only [nI_add, pk_mul, pk_sub, nI_clamp, vpI]); repeat' first | exact trivial | rfl | assumption | omega | apply And.intro) ?_
  simp (disch := omega) only [nI_clamp]
  have hg : (cB (sw 0) (nI c) && inL x (lN 0) 60) = true := by rw [h6, h18]; rfl
  have ec : c_mends (sw 0) (nI c) x = pcW (sw 0) c x := by rw [c_mends, if_pos hg, nI_clamp (by omega)]
  refine js_re (w' := c_mends (sw 0) (nI c) x) hw (by rw [ec]; exact pc_eq _ (by omega) _) ?_
  refine c_iret dX0_mends_39 rfl ⟨?_, ?_⟩
  · rw [q_mends, if_pos hg, nI_clamp (by omega), ep c hc]
  · rw [mnA, if_pos hg, nI_clamp (by omega)]
theorem bX0_fault_0 : Blk CP mX0_fault 0 1 [oIL 1] := blk_c (s_iload_n dX0_fault_0 rfl) <| blk_nil
theorem bX0_fault_4 : Blk CP mX0_fault 4 24 [oAL 0, cI 0 10, .inl (fun s => some s)] := blk_c (s_aload_n dX0_fault_4 rfl) <| blk_c (cgX0_10 (Or.inl q566) dX0_fault_5) <| blk_c (s_goto (tgt := 24) dX0_fault_8 (by decide)) <| blk_nil
theorem bX0_fault_11 : Blk CP mX0_fault 11 13 [oIL 1, oC (nI 1)] := blk_c (s_iload_n dX0_fault_11 rfl) <| blk_c (s_iconst dX0_fault_12 (by decide +kernel)) <| blk_nil
theorem bX0_fault_16 : Blk CP mX0_fault 16 24 [oAL 0, cI 0 11, .inl (fun s => some s)] := blk_c (s_aload_n dX0_fault_16 rfl) <| blk_c (cgX0_11 (Or.inl q567) dX0_fault_17) <| blk_c (s_goto (tgt := 24) dX0_fault_20 (by decide)) <| blk_nil
theorem bX0_fault_23 : Blk CP mX0_fault 23 24 [oC (-1)] := blk_c (s_iconst dX0_fault_23 (by decide +kernel)) <| blk_nil
def qc_fault (A : Nat → Nat → Int32) (u : Int32) : Int32 := if u = 0 then A 0 10 else if u = nI 1 then A 0 11 else -1
theorem pb_fault {u : Int32} : RCc X mX0_fault 1000 70000 [.ref (ad 0), .int u] (ad, A, B, sk, sw, E) (PubQ (ad, A, B, sk, sw, E) (qc_fault A u)) := by
  refine C_start (L := [some (.ref (ad 0)), some (.int u)]) 0 rfl ?_
  refine bX0_fault_0.go rfl trivial ?_
  refine j_if_ne (tgt := 11) dX0_fault_1 (by decide) (fun h1 => ?_) (fun h1 => ?_)
  · refine bX0_fault_11.go rfl trivial ?_
    refine j_icmp_ne (tgt := 23) dX0_fault_13 (by decide) (fun h2 => ?_) (fun h2 => ?_)
    · refine bX0_fault_23.go rfl trivial ?_
      exact x_ret dX0_fault_24 rfl (by rw [qc_fault, if_neg h1, if_neg h2]) KpX.rf
    · refine bX0_fault_16.go rfl (by repeat' first | exact trivial | rfl | assumption | omega | apply And.intro) ?_
      exact x_ret dX0_fault_24 rfl (by rw [qc_fault, if_neg h1, if_pos h2]) KpX.rf
  · refine bX0_fault_4.go rfl (by repeat' first | exact trivial | rfl | assumption | omega | apply And.intro) ?_
    exact x_ret dX0_fault_24 rfl (by rw [qc_fault, if_pos h1]) KpX.rf
theorem bX0_end_0 : Blk CP mX0_end 0 11 [oIL 1, oI2L, oCL (lN 0), oAL 0, cI 0 9, oI2L, oS_JJJ pT3 fIn] := blk_c (s_iload_n dX0_end_0 rfl) <| blk_c (s_i2l dX0_end_1) <| blk_c (s_lconst dX0_end_2 (by decide +kernel)) <| blk_c (s_aload_n dX0_end_3 rfl) <| blk_c (cgX0_9 (Or.inl q565) dX0_end_4) <| blk_c (s_i2l dX0_end_7) <| blk_c (s_S_JJJ ok_sX0_in (fun _ _ _ h => h.1.1) (Or.inl (lw_S q179 q180 q131 q181)) hy_X0_in (by decide) dX0_end_8) <| blk_nil
theorem bX0_end_14 : Blk CP mX0_end 14 15 [oC (-1)] := blk_c (s_iconst dX0_end_14 (by decide +kernel)) <| blk_nil
theorem bX0_end_16 : Blk CP mX0_end 16 22 [oAL 0, oIL 1, cPI 0 9, oIL 1] := blk_c (s_aload_n dX0_end_16 rfl) <| blk_c (s_iload_n dX0_end_17 rfl) <| blk_c (cpX0_9 (Or.inl q565) dX0_end_18) <| blk_c (s_iload_n dX0_end_21 rfl) <| blk_nil
def qc_end (A : Nat → Nat → Int32) (n : Int32) : Int32 := if inI n (nI 0) (A 0 9) = true then n else -1
def ac_end (A : Nat → Nat → Int32) (n : Int32) : Nat → Nat → Int32 := if inI n (nI 0) (A 0 9) = true then upA A 0 9 n else A
theorem pb_end {n : Int32} : RCc X mX0_end 1000 70000 [.ref (ad 0), .int n] (ad, A, B, sk, sw, E) (fun r x' => r = some (.int (qc_end A n)) ∧ x' = (ad, ac_end A n, B, sk, sw, E)) := by
  refine C_start (L := [some (.ref (ad 0)), some (.int n)]) 0 rfl ?_
  refine bX0_end_0.go rfl (by repeat' first | exact trivial | rfl | assumption | omega | apply And.intro) ?_
  rw [fIn_i]
  refine j_if_ne (tgt := 16) dX0_end_11 (by decide) (fun h1 => ?_) (fun h1 => ?_)
  · rw [b2_n0] at h1
    refine bX0_end_16.go rfl (by repeat' first | exact trivial | rfl | assumption | omega | apply And.intro) ?_
    exact c_iret dX0_end_22 rfl ⟨by rw [qc_end, if_pos h1], by rw [ac_end, if_pos h1]⟩
  · rw [b2_0] at h1
    refine bX0_end_14.go rfl trivial ?_
    exact c_iret dX0_end_15 rfl ⟨by rw [qc_end, if_neg (by rw [h1]; decide)], by rw [ac_end, if_neg (by rw [h1]; decide)]⟩
end Q8
