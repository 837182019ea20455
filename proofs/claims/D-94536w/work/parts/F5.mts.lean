set_option maxRecDepth 100000
/-! ===== UnseenClock: meets (what is come to), common ===== -/
section Mts
variable {X : Cx} {mi : Nat} {ad ad' : Nat → Nat} {A A' : Nat → Nat → Int32} {B B' : Nat → Nat → Int64} {sk sk' : Nat → Nat → Nat} {sw sw' : Nat → Nat → Int32} {E E' : Nat → Nat} {v : Nat → Nat} {w : Nat → Int32}
theorem rchB_pos {st : Nat → Nat → Bool} {n : Nat} : ∀ {S : Nat → Bool}, S 0 = true → 0 < n → 0 < cntB S n := by
  intro S h0 hn
  induction n with
  | zero => omega
  | succ n ih =>
    rw [cntB]
    rcases Nat.eq_zero_or_pos n with h | h
    · subst h; rw [if_pos h0]; omega
    · have := ih h; omega
/-- what the row of booleans holds while it grows -/
def MtI (A' A2 : Nat → Nat → Int32) (st : Nat → Nat → Bool) (N : Nat) (S : Nat → Bool) : Prop := (∀ f, f ≠ 7 → A2 f = A' f) ∧ (∀ k, k < 128 → A2 7 k = b2 (S k)) ∧ S 0 = true ∧ ∀ k, k < N → S k = true → rchB st N k = true
theorem MtI.cg {A2 : Nat → Nat → Int32} {st : Nat → Nat → Bool} {N : Nat} {S : Nat → Bool} (h : MtI A' A2 st N S) {n : Nat} (hC : CoC A' v w n) : CoC A2 v w n := hC.cg (fun k _ => ⟨h.1 _ (by omega), h.1 _ (by omega)⟩)
theorem bX0_meets_0 : Blk CP mX0_meets 0 5 [oAL 0, cR 0 12 7, oC (nI 0)] := blk_c (s_aload_n dX0_meets_0 rfl) <| blk_c (cgX0_12 (Or.inl q568) dX0_meets_1) <| blk_c (s_iconst dX0_meets_4 (by decide +kernel)) <| blk_nil
theorem bX0_meets_8 : Blk CP mX0_meets 8 17 [oAL 0, cR 0 12 7, oC (nI 0), oC (nI 1), cSZ 7 128, oC (nI 1), oIS 2] := blk_c (s_aload_n dX0_meets_8 rfl) <| blk_c (cgX0_12 (Or.inl q568) dX0_meets_9) <| blk_c (s_iconst dX0_meets_12 (by decide +kernel)) <| blk_c (s_iconst dX0_meets_13 (by decide +kernel)) <| blk_c (c_zast (fun _ => rfl) dX0_meets_14) <| blk_c (s_iconst dX0_meets_15 (by decide +kernel)) <| blk_c (s_istore_n dX0_meets_16 rfl (by decide)) <| blk_nil
theorem bX0_meets_17 : Blk CP mX0_meets 17 18 [oIL 2] := blk_c (s_iload_n dX0_meets_17 rfl) <| blk_nil
theorem bX0_meets_21 : Blk CP mX0_meets 21 25 [oC (nI 0), oIS 2, oC (nI 0), oIS 3] := blk_c (s_iconst dX0_meets_21 (by decide +kernel)) <| blk_c (s_istore_n dX0_meets_22 rfl (by decide)) <| blk_c (s_iconst dX0_meets_23 (by decide +kernel)) <| blk_c (s_istore_n dX0_meets_24 rfl (by decide)) <| blk_nil
theorem bX0_meets_25 : Blk CP mX0_meets 25 30 [oIL 3, oAL 0, cI 0 6] := blk_c (s_iload_n dX0_meets_25 rfl) <| blk_c (s_aload_n dX0_meets_26 rfl) <| blk_c (cgX0_6 (Or.inl q562) dX0_meets_27) <| blk_nil
theorem bX0_meets_33 : Blk CP mX0_meets 33 36 [oC (nI 0), oIS 4] := blk_c (s_iconst dX0_meets_33 (by decide +kernel)) <| blk_c (s_istore dX0_meets_34 (by decide)) <| blk_nil
theorem bX0_meets_36 : Blk CP mX0_meets 36 42 [oIL 4, oAL 0, cI 0 6] := blk_c (s_iload dX0_meets_36) <| blk_c (s_aload_n dX0_meets_38 rfl) <| blk_c (cgX0_6 (Or.inl q562) dX0_meets_39) <| blk_nil
theorem bX0_meets_45 : Blk CP mX0_meets 45 51 [oAL 0, cR 0 12 7, oIL 3, cAI 7 128] := blk_c (s_aload_n dX0_meets_45 rfl) <| blk_c (cgX0_12 (Or.inl q568) dX0_meets_46) <| blk_c (s_iload_n dX0_meets_49 rfl) <| blk_c (c_zald (fun _ => rfl) dX0_meets_50) <| blk_nil
theorem bX0_meets_54 : Blk CP mX0_meets 54 61 [oAL 0, cR 0 12 7, oIL 4, cAI 7 128] := blk_c (s_aload_n dX0_meets_54 rfl) <| blk_c (cgX0_12 (Or.inl q568) dX0_meets_55) <| blk_c (s_iload dX0_meets_58) <| blk_c (c_zald (fun _ => rfl) dX0_meets_60) <| blk_nil
theorem bX0_meets_64 : Blk CP mX0_meets 64 71 [oAL 0, oIL 1, oAL 0, cR 0 5 4, oIL 3] := blk_c (s_aload_n dX0_meets_64 rfl) <| blk_c (s_iload_n dX0_meets_65 rfl) <| blk_c (s_aload_n dX0_meets_66 rfl) <| blk_c (cgX0_5 (Or.inl q561) dX0_meets_67) <| blk_c (s_iload_n dX0_meets_70 rfl) <| blk_nil
theorem bX0_meets_79 : Blk CP mX0_meets 79 85 [oAL 0, cR 0 5 4, oIL 4] := blk_c (s_aload_n dX0_meets_79 rfl) <| blk_c (cgX0_5 (Or.inl q561) dX0_meets_80) <| blk_c (s_iload dX0_meets_83) <| blk_nil
theorem bX0_meets_99 : Blk CP mX0_meets 99 112 [.inl (fun s => some s)] := blk_c (s_goto (tgt := 112) dX0_meets_99 (by decide)) <| blk_nil
theorem bX0_meets_102 : Blk CP mX0_meets 102 112 [oAL 0, cR 0 12 7, oIL 4, oC (nI 1), cSZ 7 128, oC (nI 1), oIS 2] := blk_c (s_aload_n dX0_meets_102 rfl) <| blk_c (cgX0_12 (Or.inl q568) dX0_meets_103) <| blk_c (s_iload dX0_meets_106) <| blk_c (s_iconst dX0_meets_108 (by decide +kernel)) <| blk_c (c_zast (fun _ => rfl) dX0_meets_109) <| blk_c (s_iconst dX0_meets_110 (by decide +kernel)) <| blk_c (s_istore_n dX0_meets_111 rfl (by decide)) <| blk_nil
theorem bX0_meets_112 : Blk CP mX0_meets 112 36 [oInc 4 1, .inl (fun s => some s)] := blk_c (s_iinc dX0_meets_112 (by decide +kernel) (by decide)) <| blk_c (s_goto (tgt := 36) dX0_meets_115 (by decide)) <| blk_nil
theorem bX0_meets_118 : Blk CP mX0_meets 118 25 [oInc 3 1, .inl (fun s => some s)] := blk_c (s_iinc dX0_meets_118 (by decide +kernel) (by decide)) <| blk_c (s_goto (tgt := 25) dX0_meets_121 (by decide)) <| blk_nil
theorem bX0_meets_124 : Blk CP mX0_meets 124 17 [.inl (fun s => some s)] := blk_c (s_goto (tgt := 17) dX0_meets_124 (by decide)) <| blk_nil
theorem ok_meetsC {set : Int32} (e0 : sw' 0 = w) (hw : WOk w v) (h17 : cnC w ≤ 128) (hLI : LI E') (hE : cnC w ≤ E' 0) (h6 : A' 0 6 = nI (cnC w)) (hCo : CoC A' v w (cnC w)) : RCc X mX0_meets 0 0 [.ref (ad' 0), .int set] (ad', A', B', sk', sw', E') (fun r x' => r = none ∧ ∃ A2, x' = (ad', A2, B', sk', sw', E') ∧ (∀ f, f ≠ 7 → A2 f = A' f) ∧ ∀ k, k < cnC w → A2 7 k = b2 (rchB (cbB w set) (cnC w) k)) := by
  have hcp := cn_pos w
  generalize hZ : (fun (r : Option Value) (x' : Cv) => r = none ∧ ∃ A2, x' = (ad', A2, B', sk', sw', E') ∧ (∀ f, f ≠ 7 → A2 f = A' f) ∧ ∀ k, k < cnC w → A2 7 k = b2 (rchB (cbB w set) (cnC w) k)) = Q
  have fin : ∀ A2 S L, MtI A' A2 (cbB w set) (cnC w) S → (∀ a, a < cnC w → S a = true → ∀ b, b < cnC w → cbB w set a b = true → S b = true) → JS CP X mX0_meets (rmOf mX0_meets.lv 0 0) (ZC X 0 0 Q) 0 0 127 L [] (ad', A2, B', sk', sw', E') := by
    intro A2 S L hI hc
    refine c_vret dX0_meets_127 rfl ?_
    rw [← hZ]
    refine ⟨rfl, A2, rfl, hI.1, fun k hk => ?_⟩
    rw [hI.2.1 k (by omega), rchB_eq hI.2.2.1 hc hI.2.2.2 hk]
  have pass : ∀ d A2 S, cnC w - cntB S (cnC w) ≤ d → MtI A' A2 (cbB w set) (cnC w) S → JS CP X mX0_meets (rmOf mX0_meets.lv 0 0) (ZC X 0 0 Q) 0 0 21 [some (.ref (ad' 0)), some (.int set), none, none, none] [] (ad', A2, B', sk', sw', E') := by
    intro d
    induction d using Nat.strongRecOn with
    | _ d ihd =>
    intro A2 S hd hI0
    have gt : ∀ f A3 S3, MtI A' A3 (cbB w set) (cnC w) S3 → (f = false → (∀ k, S3 k = S k) ∧ ∀ a, a < cnC w → S a = true → ∀ b, b < cnC w → cbB w set a b = true → S b = true) → (f = true → cntB S (cnC w) < cntB S3 (cnC w)) → JS CP X mX0_meets (rmOf mX0_meets.lv 0 0) (ZC X 0 0 Q) 0 0 17 [some (.ref (ad' 0)), some (.int set), some (.int (b2 f)), none, none] [] (ad', A3, B', sk', sw', E') := by
      intro f A3 S3 hI3 hf ht
      refine bX0_meets_17.go rfl trivial ?_
      refine j_if_eq (tgt := 127) dX0_meets_18 (by decide) (fun z => ?_) (fun z => ?_)
      · rw [b2_0] at z
        obtain ⟨q1, q2⟩ := hf z
        exact fin A3 S3 _ hI3 (fun a ha hs b hb hc => by rw [q1] at hs ⊢; exact q2 a ha hs b hb hc)
      · rw [b2_n0] at z
        have q := ht z
        have l3 := cntB_le S3 (cnC w)
        refine JS.weak (by simp [lsub]) (ihd (cnC w - cntB S3 (cnC w)) (by omega) A3 S3 (Nat.le_refl _) hI3)
    refine bX0_meets_21.go rfl trivial ?_
    refine JS.weak (L' := [some (.ref (ad' 0)), some (.int set), some (.int (b2 false)), some (.int (nI 0)), none]) (by simp [lsub, b2, nI_0]) ?_
    refine loop_down (N := cnC w) (I := fun _ => True) (P := fun i => ∀ f A3 S3, MtI A' A3 (cbB w set) (cnC w) S3 → (f = false → (∀ k, S3 k = S k) ∧ ∀ a, a < i → S a = true → ∀ b, b < cnC w → cbB w set a b = true → S b = true) → (f = true → cntB S (cnC w) < cntB S3 (cnC w)) → JS CP X mX0_meets (rmOf mX0_meets.lv 0 0) (ZC X 0 0 Q) 0 0 25 [some (.ref (ad' 0)), some (.int set), some (.int (b2 f)), some (.int (nI i)), none] [] (ad', A3, B', sk', sw', E')) ?_ ?_ 0 (Nat.zero_le _) trivial false A2 S hI0 (fun _ => ⟨fun _ => rfl, fun a ha => absurd ha (Nat.not_lt_zero _)⟩) (fun h => by cases h)
    · intro _ f A3 S3 hI3 hf ht
      have h6' : A3 0 6 = nI (cnC w) := by rw [hI3.1 0 (by decide)]; exact h6
      refine bX0_meets_25.go rfl ⟨rfl, trivial⟩ ?_
      rw [h6']
      refine j_icmp_ge (tgt := 124) dX0_meets_30 (by decide) (fun _ => ?_) (fun q => absurd (nI_le (Nat.le_refl _) (by omega)) q)
      refine bX0_meets_124.go rfl trivial ?_
      exact JS.weak (by simp [lsub]) (gt f A3 S3 hI3 hf ht)
    · intro i hi _ ihO f A3 S3 hI3 hf ht
      have h6' : A3 0 6 = nI (cnC w) := by rw [hI3.1 0 (by decide)]; exact h6
      refine bX0_meets_25.go rfl ⟨rfl, trivial⟩ ?_
      rw [h6']
      refine j_icmp_ge (tgt := 124) dX0_meets_30 (by decide) (fun q => ?_) (fun _ => ?_)
      · rw [nI_leI (by omega) (by omega)] at q; omega
      refine bX0_meets_33.go rfl trivial ?_
      refine loop_down (N := cnC w) (I := fun _ => True) (P := fun j => ∀ f A3 S3, MtI A' A3 (cbB w set) (cnC w) S3 → (f = false → (∀ k, S3 k = S k) ∧ (∀ a, a < i → S a = true → ∀ b, b < cnC w → cbB w set a b = true → S b = true) ∧ (S i = true → ∀ b, b < j → cbB w set i b = true → S b = true)) → (f = true → cntB S (cnC w) < cntB S3 (cnC w)) → JS CP X mX0_meets (rmOf mX0_meets.lv 0 0) (ZC X 0 0 Q) 0 0 36 [some (.ref (ad' 0)), some (.int set), some (.int (b2 f)), some (.int (nI i)), some (.int (nI j))] [] (ad', A3, B', sk', sw', E')) ?_ ?_ 0 (Nat.zero_le _) trivial f A3 S3 hI3 (fun h => ⟨(hf h).1, (hf h).2, fun _ b hb => absurd hb (Nat.not_lt_zero _)⟩) ht
      · intro _ f A3 S3 hI3 hf ht
        have h6' : A3 0 6 = nI (cnC w) := by rw [hI3.1 0 (by decide)]; exact h6
        refine bX0_meets_36.go rfl ⟨rfl, trivial⟩ ?_
        rw [h6']
        refine j_icmp_ge (tgt := 118) dX0_meets_42 (by decide) (fun _ => ?_) (fun q => absurd (nI_le (Nat.le_refl _) (by omega)) q)
        refine bX0_meets_118.go rfl trivial ?_
        rw [nI_1]
        refine JS.weak (by simp [lsub]) (ihO trivial f A3 S3 hI3 (fun h => ⟨(hf h).1, fun a ha hs b hb hc => ?_⟩) ht)
        by_cases e : a = i
        · subst e; exact (hf h).2.2 hs b hb hc
        · exact (hf h).2.1 a (by omega) hs b hb hc
      · intro j hj _ ih f A3 S3 hI3 hf ht
        have h6' : A3 0 6 = nI (cnC w) := by rw [hI3.1 0 (by decide)]; exact h6
        have nx : (S3 i = true → cbB w set i j = true → S3 j = true) → JS CP X mX0_meets (rmOf mX0_meets.lv 0 0) (ZC X 0 0 Q) 0 0 112 [some (.ref (ad' 0)), some (.int set), some (.int (b2 f)), some (.int (nI i)), some (.int (nI j))] [] (ad', A3, B', sk', sw', E') := by
          intro hh
          refine bX0_meets_112.go rfl trivial ?_
          rw [nI_1]
          refine ih trivial f A3 S3 hI3 (fun h => ⟨(hf h).1, (hf h).2.1, fun hs b hb hc => ?_⟩) ht
          by_cases e : b = j
          · subst e; rw [← (hf h).1] at hs ⊢; exact hh hs hc
          · exact (hf h).2.2 hs b (by omega) hc
        refine bX0_meets_36.go rfl ⟨rfl, trivial⟩ ?_
        rw [h6']
        refine j_icmp_ge (tgt := 118) dX0_meets_42 (by decide) (fun q => ?_) (fun _ => ?_)
        · rw [nI_leI (by omega) (by omega)] at q; omega
        refine bX0_meets_45.go rfl (by simp (disch := omega) only [vpI]; repeat' first | exact trivial | rfl | assumption | omega | apply And.intro) ?_
        rw [nI_clamp (by omega), hI3.2.1 i (by omega)]
        refine j_if_eq (tgt := 118) dX0_meets_51 (by decide) (fun z => ?_) (fun z => ?_)
        · rw [b2_0] at z
          refine bX0_meets_118.go rfl trivial ?_
          rw [nI_1]
          refine JS.weak (by simp [lsub]) (ihO trivial f A3 S3 hI3 (fun h => ⟨(hf h).1, fun a ha hs b hb hc => ?_⟩) ht)
          by_cases e : a = i
          · subst e; rw [← (hf h).1, z] at hs; cases hs
          · exact (hf h).2.1 a (by omega) hs b hb hc
        rw [b2_n0] at z
        refine bX0_meets_54.go rfl (by simp (disch := omega) only [vpI]; repeat' first | exact trivial | rfl | assumption | omega | apply And.intro) ?_
        rw [nI_clamp (by omega), hI3.2.1 j (by omega)]
        refine j_if_ne (tgt := 112) dX0_meets_61 (by decide) (fun y => nx (fun _ _ => (b2_n0 _).mp y)) (fun y => ?_)
        rw [b2_0] at y
        refine bX0_meets_64.go rfl (by repeat' first | exact trivial | rfl | assumption | omega | apply And.intro) ?_
        refine js_lget (i := i) hLI (by omega) dX0_meets_71 (lw_F q1117 q812 q814 q136 q816) (by decide) rfl ?_
        refine js_scast (i := i) (by omega) q1359 dX0_meets_76 ?_
        refine bX0_meets_79.go rfl (by repeat' first | exact trivial | rfl | assumption | omega | apply And.intro) ?_
        refine js_lget (i := j) hLI (by omega) dX0_meets_85 (lw_F q1117 q812 q814 q136 q816) (by decide) rfl ?_
        refine js_scast (i := j) (by omega) q1359 dX0_meets_90 ?_
        refine cc0 (M' := mX0_isStep) (nA := 3) (As := [.int set, .ref (ad' (100 + 3 * i)), .ref (ad' (100 + 3 * j))]) (ok_isStep (i := i) (j := j) e0 hw hE (hI3.cg hCo) hi hj) rec0 rfl ((lw_V q1461 q1463 qs54 q131 q1464)) dX0_meets_93 rfl (fun r x' q => ?_) hy_X0_isStep
        obtain ⟨rfl, rfl⟩ := q
        refine j_if_ne (tgt := 102) dX0_meets_96 (by decide) (fun x => ?_) (fun x => ?_)
        · rw [b2_n0] at x
          refine bX0_meets_102.go rfl (by simp (disch := omega) only [vpI]; repeat' first | exact trivial | rfl | assumption | omega | apply And.intro) ?_
          rw [nI_clamp (by omega)]
          refine bX0_meets_112.go rfl trivial ?_
          rw [nI_1]
          have cu := cntB_up y (cnC w) hj
          have hcc : cntB S (cnC w) ≤ cntB S3 (cnC w) := by
            cases f with
            | false => rw [cntB_cg (fun k _ => ((hf rfl).1 k).symm)]; exact Nat.le_refl _
            | true => have := ht rfl; omega
          refine ih trivial true _ (va_up S3 j true) ⟨fun f hf => by rw [upA_ne hf]; exact hI3.1 f hf, fun k hk => ?_, ?_, fun k hk hs => ?_⟩ (fun h => by cases h) (fun _ => by rw [cu]; omega)
          · rw [upA_at]
            by_cases e : k = j
            · rw [if_pos e, e, va_up_self]; rfl
            · rw [if_neg e, va_up_ne _ _ e]; exact hI3.2.1 k hk
          · by_cases e : 0 = j
            · rw [← e, va_up_self]
            · rw [va_up_ne _ _ e]; exact hI3.2.2.1
          · by_cases e : k = j
            · rw [e]; exact rchB_st hi (hI3.2.2.2 i hi z) x
            · rw [va_up_ne _ _ e] at hs; exact hI3.2.2.2 k hk hs
        · rw [b2_0] at x
          refine bX0_meets_99.go rfl trivial ?_
          exact nx (fun _ h => by rw [x] at h; cases h)
  refine C_start (L := [some (.ref (ad' 0)), some (.int set), none, none, none]) 3 rfl ?_
  refine bX0_meets_0.go rfl (by repeat' first | exact trivial | rfl | assumption | omega | apply And.intro) ?_
  refine c_fillZ (i := 7) (N := 128) rfl rfl (by decide) dX0_meets_5 (lw_S q1458 q1459 q152 q1460) (by decide) (fun g hg => ?_)
  refine bX0_meets_8.go rfl (by simp (disch := omega) only [vpI]; repeat' first | exact trivial | rfl | assumption | omega | apply And.intro) ?_
  rw [nI_clamp (by omega)]
  refine bX0_meets_17.go rfl trivial ?_
  refine j_if_eq (tgt := 127) dX0_meets_18 (by decide) (fun z => absurd z (by decide)) (fun _ => ?_)
  refine JS.weak (by simp [lsub]) (pass _ _ (fun k => decide (k = 0)) (Nat.le_refl _) ⟨fun f hf => by rw [upA_ne hf, va_up_ne _ _ hf], fun k hk => ?_, rfl, fun k hk hs => by rw [of_decide_eq_true hs]; exact rchB_0⟩)
  rw [upA_at]
  by_cases e : k = 0
  · rw [if_pos e]; show _ = b2 (decide (k = 0)); rw [decide_eq_true e]; rfl
  · rw [if_neg e]; show _ = b2 (decide (k = 0)); rw [decide_eq_false e, va_up_self, hg k hk]; rfl
end Mts
