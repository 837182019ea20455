set_option maxRecDepth 100000
/-! ===== cells of walks lie in the square; UnseenClockModel: fillSeeing, fillAllSpots, lookOf, draw ===== -/
theorem inI_nat {X : Int32} {n : Nat} (hn : n < 1000) (h : inI X (nI 0) (nI n - nI 1) = true) : ∃ a, a < n ∧ X = nI a := by
  simp only [inI, Bool.and_eq_true, decide_eq_true_eq] at h
  obtain ⟨h1, h2⟩ := h
  have h0 : ¬ X < 0 := by rw [nI_0] at h1; exact Int32.not_lt.mpr h1
  obtain ⟨j, hj, rfl⟩ := nI_of h0
  cases n with
  | zero =>
    exfalso
    rw [Int32.le_iff_toInt_le, nI_toInt hj, show (nI 0 - nI 1).toInt = -1 by decide +kernel] at h2
    omega
  | succ n =>
    rw [pk_sub (by omega), nI_leI hj (by omega)] at h2
    exact ⟨j, by omega, rfl⟩
theorem inI_of_nat {a n : Nat} (hn : n < 1000) (h : a < n) : inI (nI a) (nI 0) (nI n - nI 1) = true := by
  simp only [inI, Bool.and_eq_true, decide_eq_true_eq]
  rw [pk_sub (by omega), nI_leI (by omega) (by omega), nI_leI (by omega) (by omega)]
  omega
/-- a cell of the square -/
def inSq (v : Nat → Nat) (q : Int32 × Int32) : Prop := ∃ a b, a < v 4 ∧ b < v 5 ∧ q = (nI a, nI b)
theorem stepP_in {w : Nat → Int32} {v : Nat → Nat} (hw : WOk w v) {way : Int32} {q : Int32 × Int32} (h : inSq v q) : inSq v (stepP w way q) := by
  unfold stepP
  split
  · rename_i hg
    simp only [goesB, freeB, Bool.and_eq_true] at hg
    obtain ⟨-, h1, h2, -⟩ := hg
    rw [hw.1 4 (by decide)] at h1
    rw [hw.1 5 (by decide)] at h2
    obtain ⟨a, ha, ea⟩ := inI_nat (by have := hw.2.2.2.2.2.1; omega) h1
    obtain ⟨b, hb, eb⟩ := inI_nat (by have := hw.2.2.2.2.2.2.1; omega) h2
    exact ⟨a, b, ha, hb, by rw [ea, eb]⟩
  · exact h
def wsIn (v : Nat → Nat) (s : WS) : Prop := inSq v s.1 ∧ ∀ t q, s.2.2 t = some q → inSq v q
theorem wkI_in {w : Nat → Int32} {v : Nat → Nat} (hw : WOk w v) {way : Int32} {s : WS} (h : wsIn v s) : ∀ i, wsIn v (wkI w way i s) := by
  intro i
  induction i with
  | zero => exact h
  | succ i ih =>
    refine ⟨stepP_in hw ih.1, fun t q hq => ?_⟩
    simp only [wkI] at hq
    by_cases e : t = (wkI w way i s).2.1 + 1
    · subst e
      rw [va_up_self] at hq
      cases hq
      exact stepP_in hw ih.1
    · rw [va_up_ne _ _ e] at hq
      exact ih.2 t q hq
theorem wkO_in {w : Nat → Int32} {v : Nat → Nat} (hw : WOk w v) {p : Nat} (hp : p < v 2) : ∀ k, wsIn v (wkO w p k) := by
  have hP := hw.2.2.2.2.2.2.2.2.2.2.2.1 p hp
  have h8 : v 2 ≤ 8 := hw.2.2.2.1
  have h0 : inSq v (perI w p 0, perI w p 1) := ⟨v (56 + 33 * p), v (56 + 33 * p + 1), hP.1, hP.2.1, by rw [perI, perI, hw.1 _ (by omega), hw.1 _ (by omega)]; rfl⟩
  intro k
  induction k with
  | zero =>
    refine ⟨h0, fun t q hq => ?_⟩
    simp only [wkO] at hq
    by_cases e : t = (perI w p 2).toNatClampNeg
    · subst e
      rw [va_up_self] at hq
      cases hq
      exact h0
    · rw [va_up_ne _ _ e] at hq
      cases hq
  | succ k ih => exact wkI_in hw ih _
theorem spotF_in {w : Nat → Int32} {v : Nat → Nat} (hw : WOk w v) {p t : Nat} (hp : p < v 2) {q : Int32 × Int32} (h : spotF w p t = some q) : inSq v q := (wkO_in hw hp _).2 t q h
/-- whether a person sees a clock in a minute -/
def seeB (w : Nat → Int32) (p c m : Nat) : Bool := !bitI (w 7) p && (match spotF w p m with
  | none => false
  | some q => seesB w q.1 q.2 c)
/-- the rows of cells are filled -/
def SpAll (A : Nat → Nat → Int32) (v : Nat → Nat) : Prop := ∀ p, p < v 2 → ∀ t, t < 40 → A 15 (40 * p + t) = eX (spotF (A 1) p t) ∧ A 16 (40 * p + t) = eY (spotF (A 1) p t)
theorem nar_b2 (b : Bool) : vp_nar .boolean (b2 b) = b2 b := by cases b <;> decide +kernel
def Pre_fillSeeing (m : Int32) (A : Nat → Nat → Int32) (_ : Nat → Nat → Int64) : Prop := ∃ v, WOk (A 1) v ∧ vp_in m 40 ∧ SpAll A v
def Q_fillSeeing (m : Int32) (A : Nat → Nat → Int32) (B : Nat → Nat → Int64) : QR := fun r A' B' => r = none ∧ B' = B ∧ (∀ k, k ≠ 17 → A' k = A k) ∧ ∀ v, WOk (A 1) v → ∀ p, p < v 2 → ∀ c, c < v 1 → A' 17 (4 * p + c) = b2 (seeB (A 1) p c m.toNatClampNeg)
theorem WOk.uniq {w : Nat → Int32} {v v' : Nat → Nat} (h : WOk w v) (h' : WOk w v') : v 1 = v' 1 ∧ v 2 = v' 2 ∧ v 6 = v' 6 := by
  have e : ∀ k, k < 320 → v k < 2 ^ 31 → v' k < 2 ^ 31 → v k = v' k := fun k hk a b => by
    have := (h.1 k hk).symm.trans (h'.1 k hk)
    exact (nI_eq a b).mp this
  have := h.2.2.1; have := h'.2.2.1; have := h.2.2.2.1; have := h'.2.2.2.1; have := h.2.2.2.2.2.2.2.1; have := h'.2.2.2.2.2.2.2.1
  exact ⟨e 1 (by decide) (by omega) (by omega), e 2 (by decide) (by omega) (by omega), e 6 (by decide) (by omega) (by omega)⟩
theorem bX4_fillSeeing_0 : Blk TP mX4_fillSeeing 0 2 [oC (nI 0), oIS 2] := blk_c (s_iconst dX4_fillSeeing_0 (by decide +kernel)) <| blk_c (s_istore_n dX4_fillSeeing_1 rfl (by decide)) <| blk_nil
theorem bX4_fillSeeing_2 : Blk TP mX4_fillSeeing 2 9 [oIL 2, oAL 0, tR 1, oC (nI 2), tAI 1 320] := blk_c (s_iload_n dX4_fillSeeing_2 rfl) <| blk_c (s_aload_n dX4_fillSeeing_3 rfl) <| blk_c (tgX4_1 rfl dX4_fillSeeing_4) <| blk_c (s_iconst dX4_fillSeeing_7 (by decide +kernel)) <| blk_c (t_iald rfl dX4_fillSeeing_8) <| blk_nil
theorem bX4_fillSeeing_12 : Blk TP mX4_fillSeeing 12 14 [oC (nI 0), oIS 3] := blk_c (s_iconst dX4_fillSeeing_12 (by decide +kernel)) <| blk_c (s_istore_n dX4_fillSeeing_13 rfl (by decide)) <| blk_nil
theorem bX4_fillSeeing_14 : Blk TP mX4_fillSeeing 14 21 [oIL 3, oAL 0, tR 1, oC (nI 1), tAI 1 320] := blk_c (s_iload_n dX4_fillSeeing_14 rfl) <| blk_c (s_aload_n dX4_fillSeeing_15 rfl) <| blk_c (tgX4_1 rfl dX4_fillSeeing_16) <| blk_c (s_iconst dX4_fillSeeing_19 (by decide +kernel)) <| blk_c (t_iald rfl dX4_fillSeeing_20) <| blk_nil
theorem bX4_fillSeeing_24 : Blk TP mX4_fillSeeing 24 39 [oAL 0, tR 17, oC (nI 4), oIL 2, oMul, oIL 3, oAdd, oAL 0, oIL 2, oIL 1, tC_II F_isThere] := blk_c (s_aload_n dX4_fillSeeing_24 rfl) <| blk_c (tgX4_17 rfl dX4_fillSeeing_25) <| blk_c (s_iconst dX4_fillSeeing_28 (by decide +kernel)) <| blk_c (s_iload_n dX4_fillSeeing_29 rfl) <| blk_c (s_imul dX4_fillSeeing_30) <| blk_c (s_iload_n dX4_fillSeeing_31 rfl) <| blk_c (s_iadd dX4_fillSeeing_32) <| blk_c (s_aload_n dX4_fillSeeing_33 rfl) <| blk_c (s_iload_n dX4_fillSeeing_34 rfl) <| blk_c (s_iload_n dX4_fillSeeing_35 rfl) <| blk_c (tc_II ok_isThere gX4_isThere (by decide +kernel) (by decide) dX4_fillSeeing_36) <| blk_nil
theorem bX4_fillSeeing_42 : Blk TP mX4_fillSeeing 42 69 [oAL 0, oAL 0, tR 15, oC (nI 40), oIL 2, oMul, oIL 1, oAdd, tAI 15 320, oAL 0, tR 16, oC (nI 40), oIL 2, oMul, oIL 1, oAdd, tAI 16 320, oIL 3, tC_III F_seesFrom] := blk_c (s_aload_n dX4_fillSeeing_42 rfl) <| blk_c (s_aload_n dX4_fillSeeing_43 rfl) <| blk_c (tgX4_15 rfl dX4_fillSeeing_44) <| blk_c (s_bipush dX4_fillSeeing_47 (by decide +kernel)) <| blk_c (s_iload_n dX4_fillSeeing_49 rfl) <| blk_c (s_imul dX4_fillSeeing_50) <| blk_c (s_iload_n dX4_fillSeeing_51 rfl) <| blk_c (s_iadd dX4_fillSeeing_52) <| blk_c (t_iald rfl dX4_fillSeeing_53) <| blk_c (s_aload_n dX4_fillSeeing_54 rfl) <| blk_c (tgX4_16 rfl dX4_fillSeeing_55) <| blk_c (s_bipush dX4_fillSeeing_58 (by decide +kernel)) <| blk_c (s_iload_n dX4_fillSeeing_60 rfl) <| blk_c (s_imul dX4_fillSeeing_61) <| blk_c (s_iload_n dX4_fillSeeing_62 rfl) <| blk_c (s_iadd dX4_fillSeeing_63) <| blk_c (t_iald rfl dX4_fillSeeing_64) <| blk_c (s_iload_n dX4_fillSeeing_65 rfl) <| blk_c (tc_III ok_seesFrom gX4_seesFrom (by decide +kernel) (by decide) dX4_fillSeeing_66) <| blk_nil
theorem bX4_fillSeeing_72 : Blk TP mX4_fillSeeing 72 77 [oC (nI 1), .inl (fun s => some s)] := blk_c (s_iconst dX4_fillSeeing_72 (by decide +kernel)) <| blk_c (s_goto (tgt := 77) dX4_fillSeeing_73 (by decide)) <| blk_nil
theorem bX4_fillSeeing_76 : Blk TP mX4_fillSeeing 76 77 [oC (nI 0)] := blk_c (s_iconst dX4_fillSeeing_76 (by decide +kernel)) <| blk_nil
theorem bX4_fillSeeing_77 : Blk TP mX4_fillSeeing 77 14 [tSZ 17 32, oInc 3 1, .inl (fun s => some s)] := blk_c (t_zast rfl dX4_fillSeeing_77) <| blk_c (s_iinc dX4_fillSeeing_78 (by decide +kernel) (by decide)) <| blk_c (s_goto (tgt := 14) dX4_fillSeeing_81 (by decide)) <| blk_nil
theorem bX4_fillSeeing_84 : Blk TP mX4_fillSeeing 84 2 [oInc 2 1, .inl (fun s => some s)] := blk_c (s_iinc dX4_fillSeeing_84 (by decide +kernel) (by decide)) <| blk_c (s_goto (tgt := 2) dX4_fillSeeing_87 (by decide)) <| blk_nil
theorem ok_fillSeeing : RC_I mX4_fillSeeing Pre_fillSeeing Q_fillSeeing := by
  intro X m o ad A B hpre
  obtain ⟨v, hw, hm, hsp⟩ := hpre
  obtain ⟨j, hj, rfl⟩ := vp_in_of hm (by decide)
  have h4 : v 1 ≤ 4 := hw.2.2.1
  have h8 : v 2 ≤ 8 := hw.2.2.2.1
  have e1 : A 1 1 = nI (v 1) := hw.1 1 (by decide)
  have e2 : A 1 2 = nI (v 2) := hw.1 2 (by decide)
  refine R_start (L := [some (.ref o), some (.int (nI j)), none, none]) 2 rfl ?_
  refine bX4_fillSeeing_0.go rfl trivial ?_
  refine loop_down (N := v 2) (I := fun _ => True) (P := fun p => ∀ A', (∀ k, k ≠ 17 → A' k = A k) → (∀ p', p' < p → ∀ c, c < v 1 → A' 17 (4 * p' + c) = b2 (seeB (A 1) p' c j)) → JS TP X mX4_fillSeeing (rmOf mX4_fillSeeing.lv 0 0) _ 0 0 2 [some (.ref o), some (.int (nI j)), some (.int (nI p)), none] [] (o, ad, A', B)) ?_ ?_ 0 (by omega) trivial A (fun _ _ => rfl) (fun p' h => by omega)
  · intro _ A' hA hS
    have eA : A' 1 = A 1 := hA 1 (by decide)
    refine bX4_fillSeeing_2.go rfl ⟨rfl, ⟨rfl, vp_in_nI (by decide) (by decide)⟩, trivial⟩ ?_
    refine j_icmp_ge (tgt := 90) dX4_fillSeeing_9 (by decide) (fun h9 => ?_) (fun h9 => ?_)
    · refine r_vret dX4_fillSeeing_90 rfl ⟨rfl, rfl, hA, fun v' hv' p hp c hc => ?_⟩
      obtain ⟨u1, u2, -⟩ := hw.uniq hv'
      rw [nI_clamp (by omega)]
      exact hS p (by omega) c (by omega)
    · simp (disch := omega) only [nI_clamp, eA, e2, nI_leI] at h9; omega
  · intro p hp _ ih A' hA hS
    have eA : A' 1 = A 1 := hA 1 (by decide)
    refine bX4_fillSeeing_2.go rfl ⟨rfl, ⟨rfl, vp_in_nI (by decide) (by decide)⟩, trivial⟩ ?_
    refine j_icmp_ge (tgt := 90) dX4_fillSeeing_9 (by decide) (fun h9 => ?_) (fun h9 => ?_)
    · simp (disch := omega) only [nI_clamp, eA, e2, nI_leI] at h9; omega
    · refine bX4_fillSeeing_12.go rfl trivial ?_
      refine loop_down (N := v 1) (I := fun _ => True) (P := fun c => ∀ A', (∀ k, k ≠ 17 → A' k = A k) → (∀ p' c', p' < p ∧ c' < v 1 ∨ p' = p ∧ c' < c → A' 17 (4 * p' + c') = b2 (seeB (A 1) p' c' j)) → JS TP X mX4_fillSeeing (rmOf mX4_fillSeeing.lv 0 0) _ 0 0 14 [some (.ref o), some (.int (nI j)), some (.int (nI p)), some (.int (nI c))] [] (o, ad, A', B)) ?_ ?_ 0 (by omega) trivial A' hA (fun p' c' h => by rcases h with h | h; exact hS p' h.1 c' h.2; omega)
      · intro _ A' hA hS
        have eA : A' 1 = A 1 := hA 1 (by decide)
        refine bX4_fillSeeing_14.go rfl ⟨rfl, ⟨rfl, vp_in_nI (by decide) (by decide)⟩, trivial⟩ ?_
        refine j_icmp_ge (tgt := 84) dX4_fillSeeing_21 (by decide) (fun h21 => ?_) (fun h21 => ?_)
        · refine bX4_fillSeeing_84.go rfl trivial ?_
          rw [nI_1]
          refine JS.weak (by simp [lsub]) (ih trivial A' hA (fun p' hp' c hc => hS p' c ?_))
          rcases Nat.lt_succ_iff_lt_or_eq.mp hp' with h | h
          · exact Or.inl ⟨h, hc⟩
          · exact Or.inr ⟨h, hc⟩
        · simp (disch := omega) only [nI_clamp, eA, e1, nI_leI] at h21; omega
      · intro c hc _ ih2 A' hA hS
        have eA : A' 1 = A 1 := hA 1 (by decide)
        have eX' : A' 15 = A 15 := hA 15 (by decide)
        have eY' : A' 16 = A 16 := hA 16 (by decide)
        obtain ⟨sx, sy⟩ := hsp p hp j hj
        have j77 : ∀ z, z = b2 (seeB (A 1) p c j) → JS TP X mX4_fillSeeing (rmOf mX4_fillSeeing.lv 0 0) (ZR X o ad (Q_fillSeeing (nI j) A B)) 0 0 77 [some (.ref o), some (.int (nI j)), some (.int (nI p)), some (.int (nI c))] [.int z, .int (nI 4 * nI p + nI c), .ref (ad 17)] (o, ad, A', B) := by
          intro z hz
          subst hz
          refine bX4_fillSeeing_77.go rfl (by simp (disch := omega) only [nI_add, pk_mul, vpI]; exact ⟨⟨trivial, by omega⟩, trivial⟩) ?_
          simp (disch := omega) only [nI_1, nI_clamp, nI_add, pk_mul, nar_b2]
          refine ih2 trivial _ (fun k hk => by rw [upA_ne hk, hA k hk]) (fun p' c' h => ?_)
          rw [upA_at]
          by_cases e : 4 * p' + c' = 4 * p + c
          · have : p' = p ∧ c' = c := by omega
            obtain ⟨rfl, rfl⟩ := this
            rw [if_pos rfl]
          · rw [if_neg e]
            exact hS p' c' (by omega)
        refine bX4_fillSeeing_14.go rfl ⟨rfl, ⟨rfl, vp_in_nI (by decide) (by decide)⟩, trivial⟩ ?_
        refine j_icmp_ge (tgt := 84) dX4_fillSeeing_21 (by decide) (fun h21 => ?_) (fun h21 => ?_)
        · simp (disch := omega) only [nI_clamp, eA, e1, nI_leI] at h21; omega
        · refine bX4_fillSeeing_24.go rfl (by simp (disch := omega) only [vpI]; exact ⟨trivial, ⟨trivial, by omega, by omega⟩, trivial⟩) ?_
          refine j_if_eq (tgt := 76) dX4_fillSeeing_39 (by decide) (fun h39 => ?_) (fun h39 => ?_)
          · simp (disch := omega) only [b2_0, nI_clamp, eA, eX', sx] at h39
            refine bX4_fillSeeing_76.go rfl trivial ?_
            refine j77 _ (b2_f ?_)
            unfold seeB
            cases hb : bitI (A 1 7) p with
            | true => rfl
            | false =>
              rw [hb] at h39
              cases hs : spotF (A 1) p j with
              | none => rfl
              | some q =>
                exfalso
                obtain ⟨a, b, ha, hb', rfl⟩ := spotF_in hw hp hs
                rw [hs] at h39
                have ha12 : a < 12 := by have := hw.2.2.2.2.2.1; omega
                simp only [eX, Bool.not_false, Bool.true_and, Bool.not_eq_false', decide_eq_true_eq] at h39
                have := congrArg Int32.toInt (of_decide_eq_true h39)
                rw [nI_toInt (by omega)] at this
                rw [show (-1 : Int32).toInt = -1 by decide +kernel] at this
                omega
          · simp (disch := omega) only [b2_n0, nI_clamp, eA, eX', sx, Bool.and_eq_true, Bool.not_eq_true'] at h39
            obtain ⟨hb, h39⟩ := h39
            cases hs : spotF (A 1) p j with
            | none => rw [hs] at h39; simp [eX] at h39
            | some q =>
              obtain ⟨a, b, ha, hb', rfl⟩ := spotF_in hw hp hs
              have ha12 : a < 12 := by have := hw.2.2.2.2.2.1; omega
              have hb12 : b < 12 := by have := hw.2.2.2.2.2.2.1; omega
              rw [hs] at sx sy
              refine bX4_fillSeeing_42.go rfl (by simp (disch := omega) only [nI_add, pk_mul, vpI, nI_clamp, eX', eY', sx, sy]; exact ⟨trivial, ⟨trivial, by omega⟩, trivial, ⟨trivial, by omega⟩, ⟨trivial, v, a, b, by rw [eA]; exact hw, hc, by omega, by omega, rfl, rfl⟩, trivial⟩) ?_
              simp (disch := omega) only [nI_add, pk_mul, nI_clamp, eA, eX', eY', sx, sy, eX, eY]
              refine j_if_eq (tgt := 76) dX4_fillSeeing_69 (by decide) (fun h69 => ?_) (fun h69 => ?_)
              · rw [b2_0] at h69
                refine bX4_fillSeeing_76.go rfl trivial ?_
                have := j77 (nI 0) (b2_f (by simp only [seeB, hs, hb, h69]; rfl))
                simpa only [nI_add, pk_mul] using this
              · rw [b2_n0] at h69
                refine bX4_fillSeeing_72.go rfl trivial ?_
                have := j77 (nI 1) (b2_t (by simp only [seeB, hs, hb, h69]; rfl))
                simpa only [nI_add, pk_mul] using this
def Pre_fillAllSpots (A : Nat → Nat → Int32) (_ : Nat → Nat → Int64) : Prop := ∃ v, WOk (A 1) v
def Q_fillAllSpots (A : Nat → Nat → Int32) (B : Nat → Nat → Int64) : QR := fun r A' B' => r = none ∧ B' = B ∧ (∀ k, k ≠ 15 → k ≠ 16 → A' k = A k) ∧ ∀ v, WOk (A 1) v → SpAll A' v
theorem bX4_fillAllSpots_0 : Blk TP mX4_fillAllSpots 0 2 [oC (nI 0), oIS 1] := blk_c (s_iconst dX4_fillAllSpots_0 (by decide +kernel)) <| blk_c (s_istore_n dX4_fillAllSpots_1 rfl (by decide)) <| blk_nil
theorem bX4_fillAllSpots_2 : Blk TP mX4_fillAllSpots 2 9 [oIL 1, oAL 0, tR 1, oC (nI 2), tAI 1 320] := blk_c (s_iload_n dX4_fillAllSpots_2 rfl) <| blk_c (s_aload_n dX4_fillAllSpots_3 rfl) <| blk_c (tgX4_1 rfl dX4_fillAllSpots_4) <| blk_c (s_iconst dX4_fillAllSpots_7 (by decide +kernel)) <| blk_c (t_iald rfl dX4_fillAllSpots_8) <| blk_nil
theorem bX4_fillAllSpots_12 : Blk TP mX4_fillAllSpots 12 14 [oAL 0, oIL 1] := blk_c (s_aload_n dX4_fillAllSpots_12 rfl) <| blk_c (s_iload_n dX4_fillAllSpots_13 rfl) <| blk_nil
theorem bX4_fillAllSpots_17 : Blk TP mX4_fillAllSpots 17 2 [oInc 1 1, .inl (fun s => some s)] := blk_c (s_iinc dX4_fillAllSpots_17 (by decide +kernel) (by decide)) <| blk_c (s_goto (tgt := 2) dX4_fillAllSpots_20 (by decide)) <| blk_nil
theorem ok_fillAllSpots : RC_V mX4_fillAllSpots Pre_fillAllSpots Q_fillAllSpots := by
  intro X o ad A B hpre
  obtain ⟨v, hw⟩ := hpre
  have h8 : v 2 ≤ 8 := hw.2.2.2.1
  have e2 : A 1 2 = nI (v 2) := hw.1 2 (by decide)
  refine R_start (L := [some (.ref o), none]) 1 rfl ?_
  refine bX4_fillAllSpots_0.go rfl trivial ?_
  refine loop_down (N := v 2) (I := fun _ => True) (P := fun p => ∀ A', (∀ k, k ≠ 15 → k ≠ 16 → A' k = A k) → (∀ p', p' < p → ∀ t, t < 40 → A' 15 (40 * p' + t) = eX (spotF (A 1) p' t) ∧ A' 16 (40 * p' + t) = eY (spotF (A 1) p' t)) → JS TP X mX4_fillAllSpots (rmOf mX4_fillAllSpots.lv 0 0) _ 0 0 2 [some (.ref o), some (.int (nI p))] [] (o, ad, A', B)) ?_ ?_ 0 (by omega) trivial A (fun _ _ _ => rfl) (fun p' h => by omega)
  · intro _ A' hA hS
    have eA : A' 1 = A 1 := hA 1 (by decide) (by decide)
    refine bX4_fillAllSpots_2.go rfl ⟨rfl, ⟨rfl, vp_in_nI (by decide) (by decide)⟩, trivial⟩ ?_
    refine j_icmp_ge (tgt := 23) dX4_fillAllSpots_9 (by decide) (fun h9 => ?_) (fun h9 => ?_)
    · refine r_vret dX4_fillAllSpots_23 rfl ⟨rfl, rfl, hA, fun v' hv' p hp t ht => ?_⟩
      obtain ⟨u1, u2, -⟩ := hw.uniq hv'
      rw [eA]
      exact hS p (by omega) t ht
    · simp (disch := omega) only [nI_clamp, eA, e2, nI_leI] at h9; omega
  · intro p hp _ ih A' hA hS
    have eA : A' 1 = A 1 := hA 1 (by decide) (by decide)
    refine bX4_fillAllSpots_2.go rfl ⟨rfl, ⟨rfl, vp_in_nI (by decide) (by decide)⟩, trivial⟩ ?_
    refine j_icmp_ge (tgt := 23) dX4_fillAllSpots_9 (by decide) (fun h9 => ?_) (fun h9 => ?_)
    · simp (disch := omega) only [nI_clamp, eA, e2, nI_leI] at h9; omega
    · refine bX4_fillAllSpots_12.go rfl trivial ?_
      refine rc_I ok_fillSpots gX4_fillSpots dX4_fillAllSpots_14 rfl ⟨p, v, rfl, by rw [eA]; exact hw, hp⟩ (fun r A2 B2 hq => ?_)
      obtain ⟨rfl, rfl, hq1, hq2, hq3⟩ := hq
      rw [nI_clamp (by omega), eA] at hq3
      rw [nI_clamp (by omega)] at hq2
      refine bX4_fillAllSpots_17.go rfl trivial ?_
      rw [nI_1]
      refine ih trivial A2 (fun k a b => by rw [hq1 k a b, hA k a b]) (fun p' hp' t ht => ?_)
      rcases Nat.lt_succ_iff_lt_or_eq.mp hp' with h | h
      · have := hq2 (40 * p' + t) (by omega)
        rw [this.1, this.2]
        exact hS p' h t ht
      · subst h
        exact hq3 t ht
