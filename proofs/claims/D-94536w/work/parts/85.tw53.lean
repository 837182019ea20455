set_option maxRecDepth 100000
/-! ===== UnseenClockModel: comesBy, spreads, common ===== -/
def cbB (w : Nat → Int32) (set : Int32) (a b : Nat) : Bool := anyN (fun p => bitI set p && alC w p a b (spanW w)) (nP w)
def F_comesBy (set a b : Int32) : Tau → Prop × Option Value × Tau := fun (o, ad, A, B) => (vp_in a 128 ∧ vp_in b 128 ∧ ∃ v, WOk (A 1) v, some (.int (b2 (anyN (fun p => bitI set p && alS (nC (A 1)) (fun m => A 33 (320 * a.toNatClampNeg + 8 * m + p)) (fun m => A 33 (320 * b.toNatClampNeg + 8 * m + p)) (fun c m => A 32 (164 * a.toNatClampNeg + 4 * m + c)) (fun c m => A 32 (164 * b.toNatClampNeg + 4 * m + c)) (spanW (A 1))) (nP (A 1))))), (o, ad, A, B))
theorem bX4_comesBy_0 : Blk TP mX4_comesBy 0 3 [oC (nI 0), oIS 4] := blk_c (s_iconst dX4_comesBy_0 (by decide +kernel)) <| blk_c (s_istore dX4_comesBy_1 (by decide)) <| blk_nil
theorem bX4_comesBy_3 : Blk TP mX4_comesBy 3 11 [oIL 4, oAL 0, tR 1, oC (nI 2), tAI 1 320] := blk_c (s_iload dX4_comesBy_3) <| blk_c (s_aload_n dX4_comesBy_5 rfl) <| blk_c (tgX4_1 rfl dX4_comesBy_6) <| blk_c (s_iconst dX4_comesBy_9 (by decide +kernel)) <| blk_c (t_iald rfl dX4_comesBy_10) <| blk_nil
theorem bX4_comesBy_14 : Blk TP mX4_comesBy 14 21 [oIL 1, oIL 4, oShr, oC (nI 1), oAnd, oC (nI 1)] := blk_c (s_iload_n dX4_comesBy_14 rfl) <| blk_c (s_iload dX4_comesBy_15) <| blk_c (s_ishr dX4_comesBy_17) <| blk_c (s_iconst dX4_comesBy_18 (by decide +kernel)) <| blk_c (s_iand dX4_comesBy_19) <| blk_c (s_iconst dX4_comesBy_20 (by decide +kernel)) <| blk_nil
theorem bX4_comesBy_24 : Blk TP mX4_comesBy 24 32 [oAL 0, oIL 4, oIL 2, oIL 3, tC_III F_isAlike] := blk_c (s_aload_n dX4_comesBy_24 rfl) <| blk_c (s_iload dX4_comesBy_25) <| blk_c (s_iload_n dX4_comesBy_27 rfl) <| blk_c (s_iload_n dX4_comesBy_28 rfl) <| blk_c (tc_III ok_isAlike gX4_isAlike (by decide +kernel) (by decide) dX4_comesBy_29) <| blk_nil
theorem bX4_comesBy_35 : Blk TP mX4_comesBy 35 36 [oC (nI 1)] := blk_c (s_iconst dX4_comesBy_35 (by decide +kernel)) <| blk_nil
theorem bX4_comesBy_37 : Blk TP mX4_comesBy 37 3 [oInc 4 1, .inl (fun s => some s)] := blk_c (s_iinc dX4_comesBy_37 (by decide +kernel) (by decide)) <| blk_c (s_goto (tgt := 3) dX4_comesBy_40 (by decide)) <| blk_nil
theorem bX4_comesBy_43 : Blk TP mX4_comesBy 43 44 [oC (nI 0)] := blk_c (s_iconst dX4_comesBy_43 (by decide +kernel)) <| blk_nil
theorem ok_comesBy : TC_III mX4_comesBy F_comesBy := by
  intro X set a b ⟨o, ad, A, B⟩ P r y hF hP
  cases hF
  obtain ⟨h1, h2, v, hw⟩ := hP
  obtain ⟨a, ha, rfl⟩ := vp_in_of h1 (by decide)
  obtain ⟨b, hb, rfl⟩ := vp_in_of h2 (by decide)
  have h8 : v 2 ≤ 8 := hw.2.2.2.1
  have e2 : A 1 2 = nI (v 2) := hw.1 2 (by decide)
  refine T_start (L := [some (.ref o), some (.int set), some (.int (nI a)), some (.int (nI b)), none]) 1 rfl ?_
  simp (disch := omega) only [nI_clamp, hw.npE]
  generalize hal : (fun p => alS (nC (A 1)) (fun m => A 33 (320 * a + 8 * m + p)) (fun m => A 33 (320 * b + 8 * m + p)) (fun c m => A 32 (164 * a + 4 * m + c)) (fun c m => A 32 (164 * b + 4 * m + c)) (spanW (A 1))) = al
  have eal : ∀ p, alS (nC (A 1)) (fun m => A 33 (320 * a + 8 * m + p)) (fun m => A 33 (320 * b + 8 * m + p)) (fun c m => A 32 (164 * a + 4 * m + c)) (fun c m => A 32 (164 * b + 4 * m + c)) (spanW (A 1)) = al p := fun p => by rw [← hal]
  simp only [eal]
  refine bX4_comesBy_0.go rfl trivial ?_
  refine loop_down (N := v 2) (I := fun j => ∀ p, p < j → (bitI set p && al p) = false) (P := fun j => JS TP X mX4_comesBy (rmOf mX4_comesBy.lv 0 0) (TZ X (some (.int (b2 (anyN (fun p => bitI set p && al p) (v 2))))) (o, ad, A, B)) 0 0 3 [some (.ref o), some (.int set), some (.int (nI a)), some (.int (nI b)), some (.int (nI j))] [] (o, ad, A, B)) ?_ ?_ 0 (Nat.zero_le _) (fun m h => by omega)
  · intro hI
    refine bX4_comesBy_3.go rfl (by exact ⟨rfl, ⟨rfl, vp_in_nI (by decide) (by decide)⟩, trivial⟩) ?_
    simp (disch := omega) only [nI_clamp, e2]
    refine j_icmp_ge (tgt := 43) dX4_comesBy_11 (by decide) (fun h11 => ?_) (fun h11 => absurd (nI_le (Nat.le_refl _) (by omega)) h11)
    refine bX4_comesBy_43.go rfl trivial ?_
    exact t_zret dX4_comesBy_44 rfl rfl (sv_int (b2_f (anyN_false.mpr hI))) rfl
  · intro p hp hI ih
    have nx : (bitI set p && al p) = false → JS TP X mX4_comesBy (rmOf mX4_comesBy.lv 0 0) (TZ X (some (.int (b2 (anyN (fun p => bitI set p && al p) (v 2))))) (o, ad, A, B)) 0 0 37 [some (.ref o), some (.int set), some (.int (nI a)), some (.int (nI b)), some (.int (nI p))] [] (o, ad, A, B) := by
      intro hf
      refine bX4_comesBy_37.go rfl trivial ?_
      rw [nI_1]
      refine ih (fun j hj => ?_)
      by_cases e : j = p
      · rw [e]; exact hf
      · exact hI j (by omega)
    refine bX4_comesBy_3.go rfl (by exact ⟨rfl, ⟨rfl, vp_in_nI (by decide) (by decide)⟩, trivial⟩) ?_
    simp (disch := omega) only [nI_clamp, e2]
    refine j_icmp_ge (tgt := 43) dX4_comesBy_11 (by decide) (fun h11 => ?_) (fun h11 => ?_)
    · simp (disch := omega) only [nI_leI] at h11; omega
    · refine bX4_comesBy_14.go rfl trivial ?_
      refine j_icmp_ne (tgt := 37) dX4_comesBy_21 (by decide) (fun h21 => ?_) (fun h21 => ?_)
      · rw [bitI_1] at h21
        exact nx (by rw [show bitI set p = false by cases hb : bitI set p <;> simp_all]; rfl)
      · rw [bitI_1] at h21
        refine bX4_comesBy_24.go rfl (by simp (disch := omega) only [vpI]; exact ⟨⟨trivial, by omega, by omega, by omega, v, hw⟩, trivial⟩) ?_
        simp (disch := omega) only [nI_clamp]
        rw [eal p]
        refine j_if_eq (tgt := 37) dX4_comesBy_32 (by decide) (fun h32 => ?_) (fun h32 => ?_)
        · rw [b2_0] at h32
          exact nx (by rw [h32]; simp)
        · rw [b2_n0] at h32
          refine bX4_comesBy_35.go rfl trivial ?_
          exact t_zret dX4_comesBy_36 rfl rfl (sv_int (b2_t (anyN_true.mpr ⟨p, hp, by rw [h21, h32]; rfl⟩))) rfl
/-- come to from 0 in at most d steps -/
def rchD (st : Nat → Nat → Bool) (n : Nat) : Nat → Nat → Bool
  | 0, k => decide (k = 0)
  | d + 1, k => rchD st n d k || anyN (fun j => rchD st n d j && st j k) n
noncomputable def rchB (st : Nat → Nat → Bool) (n k : Nat) : Bool := @decide (∃ d, rchD st n d k = true) (Classical.propDecidable _)
theorem rchB_iff {st : Nat → Nat → Bool} {n k : Nat} : rchB st n k = true ↔ ∃ d, rchD st n d k = true := by
  unfold rchB
  exact @decide_eq_true_iff _ (Classical.propDecidable _)
theorem rchB_0 {st : Nat → Nat → Bool} {n : Nat} : rchB st n 0 = true := rchB_iff.mpr ⟨0, rfl⟩
theorem rchB_st {st : Nat → Nat → Bool} {n j k : Nat} (hj : j < n) (h : rchB st n j = true) (hs : st j k = true) : rchB st n k = true := by
  obtain ⟨d, hd⟩ := rchB_iff.mp h
  refine rchB_iff.mpr ⟨d + 1, ?_⟩
  rw [rchD, Bool.or_eq_true]
  exact Or.inr (anyN_true.mpr ⟨j, hj, by rw [hd, hs]; rfl⟩)
/-- a set that is closed, holds 0, and no more than what is come to -/
theorem rchB_eq {st : Nat → Nat → Bool} {n : Nat} {S : Nat → Bool} (h0 : S 0 = true) (hc : ∀ a, a < n → S a = true → ∀ b, b < n → st a b = true → S b = true) (hr : ∀ k, k < n → S k = true → rchB st n k = true) {k : Nat} (hk : k < n) : S k = rchB st n k := by
  have key : ∀ d k, k < n → rchD st n d k = true → S k = true := by
    intro d
    induction d with
    | zero => intro k _ h; rw [of_decide_eq_true h]; exact h0
    | succ d ih =>
      intro k hk h
      rw [rchD, Bool.or_eq_true] at h
      rcases h with h | h
      · exact ih k hk h
      · obtain ⟨j, hj, hf⟩ := anyN_true.mp h
        rw [Bool.and_eq_true] at hf
        exact hc j hj (ih j hj hf.1) k hk hf.2
  cases hS : S k with
  | true => exact (hr k hk hS).symm
  | false =>
    cases hB : rchB st n k with
    | false => rfl
    | true =>
      obtain ⟨d, hd⟩ := rchB_iff.mp hB
      rw [key d k hk hd] at hS; cases hS
def cntB (S : Nat → Bool) : Nat → Nat
  | 0 => 0
  | n + 1 => cntB S n + (if S n = true then 1 else 0)
theorem cntB_le (S : Nat → Bool) : ∀ n, cntB S n ≤ n := by
  intro n
  induction n with
  | zero => exact Nat.le_refl _
  | succ n ih => rw [cntB]; split <;> omega
theorem cntB_cg {S T : Nat → Bool} {n : Nat} (h : ∀ k, k < n → S k = T k) : cntB S n = cntB T n := by
  induction n with
  | zero => rfl
  | succ n ih => rw [cntB, cntB, h n (by omega), ih (fun k hk => h k (by omega))]
theorem cntB_up {S : Nat → Bool} {k : Nat} (hS : S k = false) : ∀ n, k < n → cntB (va_up S k true) n = cntB S n + 1 := by
  intro n
  induction n with
  | zero => intro h; omega
  | succ n ih =>
    intro h
    rw [cntB, cntB]
    by_cases e : k = n
    · subst e
      rw [va_up_self, hS, cntB_cg (S := va_up S k true) (T := S) (fun j hj => va_up_ne _ _ (by omega))]
      rfl
    · rw [ih (by omega), va_up_ne _ _ (fun q => e q.symm)]; omega
theorem cntB_one : ∀ n, 0 < n → cntB (fun j => decide (j = 0)) n = 1 := by
  intro n
  induction n with
  | zero => intro h; omega
  | succ n ih =>
    intro _
    rw [cntB]
    rcases Nat.eq_zero_or_pos n with h | h
    · subst h; rfl
    · rw [ih h, if_neg (by rw [decide_eq_false (by omega)]; decide)]
/-- courses that were come to, the row of them -/
def SpI (A : Nat → Nat → Int32) (N : Nat) (st : Nat → Nat → Bool) (S : Nat → Bool) (qu : Nat → Nat) (E : Nat) : Prop := (∀ j, j < N → A 35 j = b2 (S j)) ∧ (∀ j, j < E → A 36 j = nI (qu j) ∧ qu j < N ∧ S (qu j) = true) ∧ E = cntB S N ∧ S 0 = true ∧ ∀ k, k < N → S k = true → rchB st N k = true ∧ ∃ j, j < E ∧ qu j = k
def Pre_spreads (_ : Int32) (A : Nat → Nat → Int32) (_ : Nat → Nat → Int64) : Prop := ∃ v N, WOk (A 1) v ∧ 0 < N ∧ N ≤ 128 ∧ CoA A v (A 1) N
def Q_spreads (set : Int32) (A : Nat → Nat → Int32) (B : Nat → Nat → Int64) : QR := fun r A' B' => r = none ∧ B' = B ∧ (∀ f, f ≠ 35 → f ≠ 36 → A' f = A f) ∧ ∀ v N, WOk (A 1) v → 0 < N → N ≤ 128 → CoA A v (A 1) N → ∀ k, k < N → A' 35 k = b2 (rchB (cbB (A 1) set) N k)
theorem bX4_spreads_0 : Blk TP mX4_spreads 0 2 [oC (nI 0), oIS 2] := blk_c (s_iconst dX4_spreads_0 (by decide +kernel)) <| blk_c (s_istore_n dX4_spreads_1 rfl (by decide)) <| blk_nil
theorem bX4_spreads_2 : Blk TP mX4_spreads 2 7 [oIL 2, oAL 0, tI 34] := blk_c (s_iload_n dX4_spreads_2 rfl) <| blk_c (s_aload_n dX4_spreads_3 rfl) <| blk_c (tgX4_34 rfl dX4_spreads_4) <| blk_nil
theorem bX4_spreads_10 : Blk TP mX4_spreads 10 16 [oAL 0, tR 35, oIL 2, oIL 2] := blk_c (s_aload_n dX4_spreads_10 rfl) <| blk_c (tgX4_35 rfl dX4_spreads_11) <| blk_c (s_iload_n dX4_spreads_14 rfl) <| blk_c (s_iload_n dX4_spreads_15 rfl) <| blk_nil
theorem bX4_spreads_19 : Blk TP mX4_spreads 19 24 [oC (nI 1), .inl (fun s => some s)] := blk_c (s_iconst dX4_spreads_19 (by decide +kernel)) <| blk_c (s_goto (tgt := 24) dX4_spreads_20 (by decide)) <| blk_nil
theorem bX4_spreads_23 : Blk TP mX4_spreads 23 24 [oC (nI 0)] := blk_c (s_iconst dX4_spreads_23 (by decide +kernel)) <| blk_nil
theorem bX4_spreads_24 : Blk TP mX4_spreads 24 2 [tSZ 35 128, oInc 2 1, .inl (fun s => some s)] := blk_c (t_zast rfl dX4_spreads_24) <| blk_c (s_iinc dX4_spreads_25 (by decide +kernel) (by decide)) <| blk_c (s_goto (tgt := 2) dX4_spreads_28 (by decide)) <| blk_nil
theorem bX4_spreads_31 : Blk TP mX4_spreads 31 42 [oAL 0, tR 36, oC (nI 0), oC (nI 0), tSI 36 128, oC (nI 1), oIS 2, oC (nI 0), oIS 3] := blk_c (s_aload_n dX4_spreads_31 rfl) <| blk_c (tgX4_36 rfl dX4_spreads_32) <| blk_c (s_iconst dX4_spreads_35 (by decide +kernel)) <| blk_c (s_iconst dX4_spreads_36 (by decide +kernel)) <| blk_c (t_iast rfl dX4_spreads_37) <| blk_c (s_iconst dX4_spreads_38 (by decide +kernel)) <| blk_c (s_istore_n dX4_spreads_39 rfl (by decide)) <| blk_c (s_iconst dX4_spreads_40 (by decide +kernel)) <| blk_c (s_istore_n dX4_spreads_41 rfl (by decide)) <| blk_nil
theorem bX4_spreads_42 : Blk TP mX4_spreads 42 44 [oIL 3, oIL 2] := blk_c (s_iload_n dX4_spreads_42 rfl) <| blk_c (s_iload_n dX4_spreads_43 rfl) <| blk_nil
theorem bX4_spreads_47 : Blk TP mX4_spreads 47 50 [oC (nI 0), oIS 4] := blk_c (s_iconst dX4_spreads_47 (by decide +kernel)) <| blk_c (s_istore dX4_spreads_48 (by decide)) <| blk_nil
theorem bX4_spreads_50 : Blk TP mX4_spreads 50 56 [oIL 4, oAL 0, tI 34] := blk_c (s_iload dX4_spreads_50) <| blk_c (s_aload_n dX4_spreads_52 rfl) <| blk_c (tgX4_34 rfl dX4_spreads_53) <| blk_nil
theorem bX4_spreads_59 : Blk TP mX4_spreads 59 66 [oAL 0, tR 35, oIL 4, tAI 35 128] := blk_c (s_aload_n dX4_spreads_59 rfl) <| blk_c (tgX4_35 rfl dX4_spreads_60) <| blk_c (s_iload dX4_spreads_63) <| blk_c (t_zald rfl dX4_spreads_65) <| blk_nil
theorem bX4_spreads_69 : Blk TP mX4_spreads 69 82 [oAL 0, oIL 1, oAL 0, tR 36, oIL 3, tAI 36 128, oIL 4, tC_III F_comesBy] := blk_c (s_aload_n dX4_spreads_69 rfl) <| blk_c (s_iload_n dX4_spreads_70 rfl) <| blk_c (s_aload_n dX4_spreads_71 rfl) <| blk_c (tgX4_36 rfl dX4_spreads_72) <| blk_c (s_iload_n dX4_spreads_75 rfl) <| blk_c (t_iald rfl dX4_spreads_76) <| blk_c (s_iload dX4_spreads_77) <| blk_c (tc_III ok_comesBy gX4_comesBy (by decide +kernel) (by decide) dX4_spreads_79) <| blk_nil
theorem bX4_spreads_85 : Blk TP mX4_spreads 85 107 [.inl (fun s => some s)] := blk_c (s_goto (tgt := 107) dX4_spreads_85 (by decide)) <| blk_nil
theorem bX4_spreads_88 : Blk TP mX4_spreads 88 107 [oAL 0, tR 35, oIL 4, oC (nI 1), tSZ 35 128, oAL 0, tR 36, oIL 2, oIL 4, tSI 36 128, oInc 2 1] := blk_c (s_aload_n dX4_spreads_88 rfl) <| blk_c (tgX4_35 rfl dX4_spreads_89) <| blk_c (s_iload dX4_spreads_92) <| blk_c (s_iconst dX4_spreads_94 (by decide +kernel)) <| blk_c (t_zast rfl dX4_spreads_95) <| blk_c (s_aload_n dX4_spreads_96 rfl) <| blk_c (tgX4_36 rfl dX4_spreads_97) <| blk_c (s_iload_n dX4_spreads_100 rfl) <| blk_c (s_iload dX4_spreads_101) <| blk_c (t_iast rfl dX4_spreads_103) <| blk_c (s_iinc dX4_spreads_104 (by decide +kernel) (by decide)) <| blk_nil
theorem bX4_spreads_107 : Blk TP mX4_spreads 107 50 [oInc 4 1, .inl (fun s => some s)] := blk_c (s_iinc dX4_spreads_107 (by decide +kernel) (by decide)) <| blk_c (s_goto (tgt := 50) dX4_spreads_110 (by decide)) <| blk_nil
theorem bX4_spreads_113 : Blk TP mX4_spreads 113 42 [oInc 3 1, .inl (fun s => some s)] := blk_c (s_iinc dX4_spreads_113 (by decide +kernel) (by decide)) <| blk_c (s_goto (tgt := 42) dX4_spreads_116 (by decide)) <| blk_nil
theorem ok_spreads : RC_I mX4_spreads Pre_spreads Q_spreads := by
  intro X set o ad A B hpre
  obtain ⟨v, N, hw, hN0, hN, hC⟩ := hpre
  have h8 : v 2 ≤ 8 := hw.2.2.2.1
  have uN : ∀ v' N', CoA A v' (A 1) N' → N' ≤ 128 → N' = N := fun v' N' h h2 => (nI_eq (by omega) (by omega)).mp (h.1.symm.trans hC.1)
  have acb : ∀ A2 : Nat → Nat → Int32, (∀ f, f ≠ 35 → f ≠ 36 → A2 f = A f) → ∀ a b, a < N → b < N → anyN (fun p => bitI set p && alS (nC (A 1)) (fun m => A2 33 (320 * a + 8 * m + p)) (fun m => A2 33 (320 * b + 8 * m + p)) (fun c m => A2 32 (164 * a + 4 * m + c)) (fun c m => A2 32 (164 * b + 4 * m + c)) (spanW (A 1))) (nP (A 1)) = cbB (A 1) set a b := by
    intro A2 k a b ha hb
    refine anyN_congr (fun p hp => ?_)
    rw [hw.npE] at hp
    rw [alC_eq hw (hC.up35 k) ha hb (by omega) (by rw [hw.span]; omega)]
  refine R_start (L := [some (.ref o), some (.int set), none, none, none]) 3 rfl ?_
  refine bX4_spreads_0.go rfl trivial ?_
  refine loop_down (N := N) (I := fun _ => True) (P := fun k => ∀ A1, (∀ f, f ≠ 35 → f ≠ 36 → A1 f = A f) → (∀ j, j < k → A1 35 j = b2 (decide (j = 0))) → JS TP X mX4_spreads (rmOf mX4_spreads.lv 0 0) (ZR X o ad (Q_spreads set A B)) 0 0 2 [some (.ref o), some (.int set), some (.int (nI k)), none, none] [] (o, ad, A1, B)) ?_ ?_ 0 (Nat.zero_le _) trivial A (fun _ _ _ => rfl) (fun j h => by omega)
  · intro _ A1 a1 a2
    have e34 : A1 0 34 = nI N := by rw [a1 0 (by decide) (by decide)]; exact hC.1
    refine bX4_spreads_2.go rfl (by exact ⟨rfl, trivial⟩) ?_
    rw [e34]
    refine j_icmp_ge (tgt := 31) dX4_spreads_7 (by decide) (fun h7 => ?_) (fun h7 => absurd (nI_le (Nat.le_refl _) (by omega)) h7)
    refine bX4_spreads_31.go rfl (by simp (disch := omega) only [vpI]; exact ⟨trivial, ⟨trivial, by omega⟩, trivial⟩) ?_
    simp (disch := omega) only [nI_clamp]
    refine loop_down (N := N) (I := fun _ => True) (P := fun i => ∀ A2 S qu E, (∀ f, f ≠ 35 → f ≠ 36 → A2 f = A f) → SpI A2 N (cbB (A 1) set) S qu E → (∀ j, j < i → j < E → ∀ b, b < N → cbB (A 1) set (qu j) b = true → S b = true) → JS TP X mX4_spreads (rmOf mX4_spreads.lv 0 0) (ZR X o ad (Q_spreads set A B)) 0 0 42 [some (.ref o), some (.int set), some (.int (nI E)), some (.int (nI i)), none] [] (o, ad, A2, B)) ?_ ?_ 0 (Nat.zero_le _) trivial _ (fun j => decide (j = 0)) (fun _ => 0) 1 (fun f g1 g2 => by rw [upA_ne g2]; exact a1 f g1 g2) ⟨fun j hj => by rw [upA_ne (by decide)]; exact a2 j hj, fun j hj => ⟨by rw [upA_at, if_pos (by omega)], hN0, rfl⟩, (cntB_one N hN0).symm, rfl, fun k hk h => ⟨by rw [of_decide_eq_true h]; exact rchB_0, 0, by omega, (of_decide_eq_true h).symm⟩⟩ (fun j h => by omega)
    · intro _ A2 S qu E b1 b2 b3
      obtain ⟨i1, i2, i3, i4, i5⟩ := b2
      have hE : E ≤ N := by rw [i3]; exact cntB_le S N
      refine bX4_spreads_42.go rfl trivial ?_
      refine j_icmp_ge (tgt := 119) dX4_spreads_44 (by decide) (fun h44 => ?_) (fun h44 => absurd (nI_le (by omega) (by omega)) h44)
      refine r_vret dX4_spreads_119 rfl ⟨rfl, rfl, b1, fun v' N' _ _ hN' hC' k hk => ?_⟩
      rw [uN v' N' hC' hN'] at hk ⊢
      rw [i1 k hk]
      congr 1
      refine rchB_eq i4 (fun a ha hS b hb hst => ?_) (fun k hk hS => (i5 k hk hS).1) hk
      obtain ⟨j, hj, rfl⟩ := (i5 a ha hS).2
      exact b3 j (by omega) hj b hb hst
    · intro i hi _ ih A2 S qu E b1 b2 b3
      obtain ⟨i1, i2, i3, i4, i5⟩ := id b2
      have hE : E ≤ N := by rw [i3]; exact cntB_le S N
      refine bX4_spreads_42.go rfl trivial ?_
      refine j_icmp_ge (tgt := 119) dX4_spreads_44 (by decide) (fun h44 => ?_) (fun h44 => ?_)
      · rw [nI_leI (by omega) (by omega)] at h44
        refine r_vret dX4_spreads_119 rfl ⟨rfl, rfl, b1, fun v' N' _ _ hN' hC' k hk => ?_⟩
        rw [uN v' N' hC' hN'] at hk ⊢
        rw [i1 k hk]
        congr 1
        refine rchB_eq i4 (fun a ha hS b hb hst => ?_) (fun k hk hS => (i5 k hk hS).1) hk
        obtain ⟨j, hj, rfl⟩ := (i5 a ha hS).2
        exact b3 j (by omega) hj b hb hst
      · rw [nI_leI (by omega) (by omega)] at h44
        refine bX4_spreads_47.go rfl trivial ?_
        generalize hqi : qu i = qi
        refine loop_down (N := N) (I := fun _ => True) (P := fun k => ∀ A3 S qu E, i < E → qu i = qi → (∀ f, f ≠ 35 → f ≠ 36 → A3 f = A f) → SpI A3 N (cbB (A 1) set) S qu E → (∀ j, j < i → j < E → ∀ b, b < N → cbB (A 1) set (qu j) b = true → S b = true) → (∀ b, b < k → cbB (A 1) set qi b = true → S b = true) → JS TP X mX4_spreads (rmOf mX4_spreads.lv 0 0) (ZR X o ad (Q_spreads set A B)) 0 0 50 [some (.ref o), some (.int set), some (.int (nI E)), some (.int (nI i)), some (.int (nI k))] [] (o, ad, A3, B)) ?_ ?_ 0 (Nat.zero_le _) trivial A2 S qu E (by omega) hqi b1 b2 b3 (fun b h => by omega)
        · intro _ A3 S qu E hiE hqi c1 c2 c3 c4
          have e34 : A3 0 34 = nI N := by rw [c1 0 (by decide) (by decide)]; exact hC.1
          refine bX4_spreads_50.go rfl (by exact ⟨rfl, trivial⟩) ?_
          rw [e34]
          refine j_icmp_ge (tgt := 113) dX4_spreads_56 (by decide) (fun h56 => ?_) (fun h56 => absurd (nI_le (Nat.le_refl _) (by omega)) h56)
          refine bX4_spreads_113.go rfl trivial ?_
          rw [nI_1]
          refine JS.weak (L' := [some (.ref o), some (.int set), some (.int (nI E)), some (.int (nI (i + 1))), none]) (by simp [lsub]) (ih trivial A3 S qu E c1 c2 (fun j hj hjE b hb hst => ?_))
          by_cases e : j = i
          · subst e; rw [hqi] at hst; exact c4 b hb hst
          · exact c3 j (by omega) hjE b hb hst
        · intro k hk _ ih2 A3 S qu E hiE hqi c1 c2 c3 c4
          obtain ⟨i1, i2, i3, i4, i5⟩ := id c2
          have hE : E ≤ N := by rw [i3]; exact cntB_le S N
          have hA1 : A3 1 = A 1 := c1 1 (by decide) (by decide)
          have e34 : A3 0 34 = nI N := by rw [c1 0 (by decide) (by decide)]; exact hC.1
          have hqN : qi < N := by rw [← hqi]; exact (i2 i hiE).2.1
          have eq36 : A3 36 i = nI qi := by rw [← hqi]; exact (i2 i hiE).1
          have nx : (cbB (A 1) set qi k = true → S k = true) → JS TP X mX4_spreads (rmOf mX4_spreads.lv 0 0) (ZR X o ad (Q_spreads set A B)) 0 0 107 [some (.ref o), some (.int set), some (.int (nI E)), some (.int (nI i)), some (.int (nI k))] [] (o, ad, A3, B) := by
            intro hf
            refine bX4_spreads_107.go rfl trivial ?_
            rw [nI_1]
            refine ih2 trivial A3 S qu E hiE hqi c1 c2 c3 (fun b hb hst => ?_)
            by_cases e : b = k
            · subst e; exact hf hst
            · exact c4 b (by omega) hst
          refine bX4_spreads_50.go rfl (by exact ⟨rfl, trivial⟩) ?_
          rw [e34]
          refine j_icmp_ge (tgt := 113) dX4_spreads_56 (by decide) (fun h56 => ?_) (fun h56 => ?_)
          · simp (disch := omega) only [nI_leI] at h56; omega
          · refine bX4_spreads_59.go rfl (by simp (disch := omega) only [vpI]; exact ⟨trivial, ⟨trivial, by omega⟩, trivial⟩) ?_
            simp (disch := omega) only [nI_clamp]
            rw [i1 k hk]
            refine j_if_ne (tgt := 107) dX4_spreads_66 (by decide) (fun h66 => ?_) (fun h66 => ?_)
            · rw [b2_n0] at h66
              exact nx (fun _ => h66)
            · rw [b2_0] at h66
              refine bX4_spreads_69.go rfl (by simp (disch := omega) only [vpI, nI_clamp, eq36]; exact ⟨trivial, ⟨trivial, by omega⟩, ⟨trivial, by omega, by omega, v, by rw [hA1]; exact hw⟩, trivial⟩) ?_
              simp (disch := omega) only [nI_clamp, eq36, hA1]
              rw [acb A3 c1 qi k hqN hk]
              refine j_if_ne (tgt := 88) dX4_spreads_82 (by decide) (fun h82 => ?_) (fun h82 => ?_)
              · rw [b2_n0] at h82
                have hcnt := cntB_up h66 N hk
                have hE1 : E + 1 ≤ N := by
                  have := cntB_le (va_up S k true) N
                  omega
                refine bX4_spreads_88.go rfl (by simp (disch := omega) only [vpI]; exact ⟨trivial, ⟨trivial, by omega⟩, trivial, ⟨trivial, by omega⟩, trivial⟩) ?_
                simp (disch := omega) only [nI_clamp, nI_1, nar_z1]
                refine bX4_spreads_107.go rfl trivial ?_
                rw [nI_1]
                have hSm : ∀ x, S x = true → va_up S k true x = true := fun x hx => by
                  by_cases e : x = k
                  · subst e; rw [va_up_self]
                  · rw [va_up_ne _ _ e]; exact hx
                refine ih2 trivial _ (va_up S k true) (va_up qu E k) (E + 1) (by omega) (by rw [va_up_ne _ _ (by omega)]; exact hqi) (fun f g1 g2 => by rw [upA_ne g2, upA_ne g1]; exact c1 f g1 g2) ⟨fun j hj => ?_, fun j hj => ?_, ?_, hSm 0 i4, fun x hx hS => ?_⟩ (fun j hj hjE b hb hst => ?_) (fun b hb hst => ?_)
                · rw [upA_ne (by decide), upA_at]
                  by_cases e : j = k
                  · subst e; rw [if_pos rfl, va_up_self]; rfl
                  · rw [if_neg e, va_up_ne _ _ e]; exact i1 j hj
                · rw [upA_at]
                  by_cases e : j = E
                  · subst e; rw [if_pos rfl, va_up_self, va_up_self]; exact ⟨rfl, hk, rfl⟩
                  · rw [if_neg e, va_up_ne _ _ e, upA_ne (by decide)]
                    obtain ⟨x1, x2, x3⟩ := i2 j (by omega)
                    exact ⟨x1, x2, hSm _ x3⟩
                · rw [hcnt, i3]
                · by_cases e : x = k
                  · subst e
                    refine ⟨rchB_st hqN ?_ h82, E, by omega, va_up_self _ _ _⟩
                    have := (i2 i hiE).2.2
                    rw [hqi] at this
                    exact (i5 qi hqN this).1
                  · rw [va_up_ne _ _ e] at hS
                    obtain ⟨x1, j, x2, x3⟩ := i5 x hx hS
                    exact ⟨x1, j, by omega, by rw [va_up_ne _ _ (by omega)]; exact x3⟩
                · rw [va_up_ne _ _ (by omega)] at hst
                  exact hSm b (c3 j hj (by omega) b hb hst)
                · by_cases e : b = k
                  · subst e; rw [va_up_self]
                  · exact hSm b (c4 b (by omega) hst)
              · rw [b2_0] at h82
                refine bX4_spreads_85.go rfl trivial ?_
                exact nx (fun h => by rw [h82] at h; cases h)
  · intro k hk _ ih A1 a1 a2
    have e34 : A1 0 34 = nI N := by rw [a1 0 (by decide) (by decide)]; exact hC.1
    refine bX4_spreads_2.go rfl (by exact ⟨rfl, trivial⟩) ?_
    rw [e34]
    refine j_icmp_ge (tgt := 31) dX4_spreads_7 (by decide) (fun h7 => ?_) (fun h7 => ?_)
    · simp (disch := omega) only [nI_leI] at h7; omega
    · have jn : ∀ z, z = b2 (decide (k = 0)) → JS TP X mX4_spreads (rmOf mX4_spreads.lv 0 0) (ZR X o ad (Q_spreads set A B)) 0 0 24 [some (.ref o), some (.int set), some (.int (nI k)), none, none] [.int z, .int (nI k), .ref (ad 35)] (o, ad, A1, B) := by
        intro z hz
        subst hz
        refine bX4_spreads_24.go rfl (by simp (disch := omega) only [vpI]; exact ⟨⟨trivial, by omega⟩, trivial⟩) ?_
        simp (disch := omega) only [nI_clamp, nI_1, nar_b2]
        refine ih trivial _ (fun f g1 g2 => by rw [upA_ne g1]; exact a1 f g1 g2) (fun j hj => ?_)
        rw [upA_at]
        by_cases e : j = k
        · rw [if_pos e, e]
        · rw [if_neg e]; exact a2 j (by omega)
      refine bX4_spreads_10.go rfl (by exact ⟨rfl, trivial⟩) ?_
      refine j_if_ne (tgt := 23) dX4_spreads_16 (by decide) (fun h16 => ?_) (fun h16 => ?_)
      · refine bX4_spreads_23.go rfl trivial ?_
        exact jn _ (b2_f (decide_eq_false (fun e => h16 (by rw [e]; rfl))))
      · refine bX4_spreads_19.go rfl trivial ?_
        exact jn _ (b2_t (decide_eq_true ((nI_eq (by omega) (by omega)).mp (h16.trans nI_0.symm))))
def setB (w : Nat → Int32) (set : Int32) : Bool := inL set (lN 0) (nI 1 <<< (w 2 &&& 31) - nI 1).toInt64
noncomputable def q_common (w : Nat → Int32) (set c m : Int32) : Int32 := if (cB w c && (tB w m && setB w set)) = true then (if cnC w ≤ 128 then cmC w (rchB (cbB w set) (cnC w)) c.toNatClampNeg m.toNatClampNeg else -3) else -2
theorem bX4_common_0 : Blk TP mX4_common 0 5 [oAL 0, oIL 2, tC_I F_isClock] := blk_c (s_aload_n dX4_common_0 rfl) <| blk_c (s_iload_n dX4_common_1 rfl) <| blk_c (tc_I ok_isClock gX4_isClock (by decide +kernel) (by decide) dX4_common_2) <| blk_nil
theorem bX4_common_8 : Blk TP mX4_common 8 13 [oAL 0, oIL 3, tC_I F_isTime] := blk_c (s_aload_n dX4_common_8 rfl) <| blk_c (s_iload_n dX4_common_9 rfl) <| blk_c (tc_I ok_isTime gX4_isTime (by decide +kernel) (by decide) dX4_common_10) <| blk_nil
theorem bX4_common_16 : Blk TP mX4_common 16 33 [oIL 1, oI2L, oCL (lN 0), oC (nI 1), oAL 0, tR 1, oC (nI 2), tAI 1 320, oShl, oC (nI 1), oSub, oI2L, tS_JJJ F_in] := blk_c (s_iload_n dX4_common_16 rfl) <| blk_c (s_i2l dX4_common_17) <| blk_c (s_lconst dX4_common_18 (by decide +kernel)) <| blk_c (s_iconst dX4_common_19 (by decide +kernel)) <| blk_c (s_aload_n dX4_common_20 rfl) <| blk_c (tgX4_1 rfl dX4_common_21) <| blk_c (s_iconst dX4_common_24 (by decide +kernel)) <| blk_c (t_iald rfl dX4_common_25) <| blk_c (s_ishl dX4_common_26) <| blk_c (s_iconst dX4_common_27 (by decide +kernel)) <| blk_c (s_isub dX4_common_28) <| blk_c (s_i2l dX4_common_29) <| blk_c (ts_JJJ ok_in gX4_in (by decide +kernel) (by decide) dX4_common_30) <| blk_nil
theorem bX4_common_36 : Blk TP mX4_common 36 38 [oC (-2)] := blk_c (s_bipush dX4_common_36 (by decide +kernel)) <| blk_nil
theorem bX4_common_39 : Blk TP mX4_common 39 40 [oAL 0] := blk_c (s_aload_n dX4_common_39 rfl) <| blk_nil
theorem bX4_common_46 : Blk TP mX4_common 46 48 [oC (-3)] := blk_c (s_bipush dX4_common_46 (by decide +kernel)) <| blk_nil
theorem bX4_common_49 : Blk TP mX4_common 49 51 [oAL 0, oIL 1] := blk_c (s_aload_n dX4_common_49 rfl) <| blk_c (s_iload_n dX4_common_50 rfl) <| blk_nil
theorem bX4_common_54 : Blk TP mX4_common 54 60 [oAL 0, oIL 2, oIL 3, tC_II F_commonOf] := blk_c (s_aload_n dX4_common_54 rfl) <| blk_c (s_iload_n dX4_common_55 rfl) <| blk_c (s_iload_n dX4_common_56 rfl) <| blk_c (tc_II ok_commonOf gX4_commonOf (by decide +kernel) (by decide) dX4_common_57) <| blk_nil
theorem ok_common : RC_III mX4_common (fun _ _ _ A B => Pre_runs A B) (fun set c m A B => Qq (q_common (A 1) set c m) A B) := by
  intro X set c m o ad A B hpre
  obtain ⟨v, hw⟩ := id hpre
  have h6 : v 6 ≤ 40 := hw.2.2.2.2.2.2.2.1
  have h4 : v 1 ≤ 4 := hw.2.2.1
  have main : (cB (A 1) c && (tB (A 1) m && setB (A 1) set)) = true → JS TP X mX4_common (rmOf mX4_common.lv 0 0) (ZR X o ad (Qq (q_common (A 1) set c m) A B)) 0 0 39 [some (.ref o), some (.int set), some (.int c), some (.int m)] [] (o, ad, A, B) := by
    intro hg
    rw [q_common, if_pos hg]
    simp only [Bool.and_eq_true] at hg
    obtain ⟨cn, hc, rfl⟩ := hw.cOf hg.1
    obtain ⟨mn, hm, rfl⟩ := hw.tOf hg.2.1
    rw [nI_clamp (show cn < 2 ^ 31 by omega), nI_clamp (show mn < 2 ^ 31 by omega)]
    refine bX4_common_39.go rfl trivial ?_
    refine rc_V ok_fillCourses gX4_fillCourses dX4_common_40 rfl hpre (fun r A1 B1 q => ?_)
    obtain ⟨rfl, hk, hq⟩ := q
    refine j_if_ne (tgt := 49) dX4_common_43 (by decide) (fun h43 => ?_) (fun h43 => ?_)
    · rw [b2_n0] at h43
      have hn := of_decide_eq_true h43
      have hC := hq hn v hw
      have hN := cnC_pos (A 1)
      have hC' : CoA A1 v (A1 1) (cnC (A 1)) := by rw [hk.1]; exact hC
      rw [if_pos hn]
      refine bX4_common_49.go rfl trivial ?_
      refine rc_I ok_spreads gX4_spreads dX4_common_51 rfl ⟨v, cnC (A 1), by rw [hk.1]; exact hw, hN, hn, hC'⟩ (fun r2 A2 B2 q2 => ?_)
      obtain ⟨rfl, hB, s1, s2⟩ := q2
      have hB := hB.symm
      subst hB
      have s2 := s2 v _ (by rw [hk.1]; exact hw) hN hn hC'
      rw [hk.1] at s2
      have hC2 := hC.up35 s1
      refine bX4_common_54.go rfl (by simp (disch := omega) only [vpI]; exact ⟨⟨trivial, by omega, by omega, ⟨_, hn, hC2.1⟩⟩, trivial⟩) ?_
      simp (disch := omega) only [nI_clamp, hC2.1]
      refine r_iret dX4_common_60 rfl ⟨ans ?_, hk.up35 s1⟩
      exact cmF_cg hN (fun k hk => by show (!decide (A2 35 k = 0)) = _; rw [s2 k hk, b2_dec]) (fun k hk => (hC2.2 k hk).1 mn hm cn hc)
    · rw [b2_0] at h43
      refine bX4_common_46.go rfl trivial ?_
      exact r_iret dX4_common_48 rfl ⟨ans (by rw [if_neg (of_decide_eq_false h43)]), hk⟩
  refine R_start (L := [some (.ref o), some (.int set), some (.int c), some (.int m)]) 0 rfl ?_
  refine bX4_common_0.go rfl (by first | exact ⟨⟨rfl, trivial⟩, trivial⟩ | exact ⟨trivial, trivial⟩ | exact ⟨rfl, ⟨rfl, vp_in_nI (by decide) (by decide)⟩, trivial, trivial⟩) ?_
  refine j_if_eq (tgt := 36) dX4_common_5 (by decide) (fun h5 => ?_) (fun h5 => ?_)
  · refine bX4_common_36.go rfl trivial ?_
    refine r_iret dX4_common_38 rfl ?_
    exact ⟨ans (by clear main; simp only [b2_0, b2_n0, inL_def] at *; simp_all [q_common, cB, tB, setB, nI_clamp]), Keeps2.rf⟩
  · refine bX4_common_8.go rfl (by first | exact ⟨⟨rfl, trivial⟩, trivial⟩ | exact ⟨trivial, trivial⟩ | exact ⟨rfl, ⟨rfl, vp_in_nI (by decide) (by decide)⟩, trivial, trivial⟩) ?_
    refine j_if_eq (tgt := 36) dX4_common_13 (by decide) (fun h13 => ?_) (fun h13 => ?_)
    · refine bX4_common_36.go rfl trivial ?_
      refine r_iret dX4_common_38 rfl ?_
      exact ⟨ans (by clear main; simp only [b2_0, b2_n0, inL_def] at *; simp_all [q_common, cB, tB, setB, nI_clamp]), Keeps2.rf⟩
    · refine bX4_common_16.go rfl (by first | exact ⟨⟨rfl, trivial⟩, trivial⟩ | exact ⟨trivial, trivial⟩ | exact ⟨rfl, ⟨rfl, vp_in_nI (by decide) (by decide)⟩, trivial, trivial⟩) ?_
      refine j_if_ne (tgt := 39) dX4_common_33 (by decide) (fun h33 => ?_) (fun h33 => ?_)
      · exact main (by clear main; simp only [b2_0, b2_n0, inL_def] at *; simp_all [cB, tB, setB, nI_clamp])
      · refine bX4_common_36.go rfl trivial ?_
        refine r_iret dX4_common_38 rfl ?_
        exact ⟨ans (by clear main; simp only [b2_0, b2_n0, inL_def] at *; simp_all [q_common, cB, tB, setB, nI_clamp]), Keeps2.rf⟩
