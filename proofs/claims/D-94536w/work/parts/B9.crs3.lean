set_option maxRecDepth 100000
/-! ===== UnseenClock$Course: shows, steps, isDrawn ===== -/
section Crs9
variable {X : Cx} {ad : Nat → Nat} {A : Nat → Nat → Int32} {B : Nat → Nat → Int64} {sk : Nat → Nat → Nat} {sw : Nat → Nat → Int32} {E : Nat → Nat} {v : Nat → Nat}
theorem bX3_shows_0 : Blk CP mX3_shows 0 2 [oC (nI 0), oIS 2] := blk_c (s_iconst dX3_shows_0 (by decide +kernel)) <| blk_c (s_istore_n dX3_shows_1 rfl (by decide)) <| blk_nil
theorem bX3_shows_2 : Blk CP mX3_shows 2 15 [oIL 2, oAL 0, cQ1, qR 1 0 1, qSzC 1] := blk_c (s_iload_n dX3_shows_2 rfl) <| blk_c (s_aload_n dX3_shows_3 rfl) <| blk_c (cgX3_12 (Or.inl q505) dX3_shows_4) <| blk_c (q_R (by decide) (fun _ _ => rfl) (Or.inr ⟨_, nq426⟩) dX3_shows_7) <| blk_c (q_SzC (lw_F q1193 q803 q805 q136 q807) (by decide) dX3_shows_10) <| blk_nil
theorem bX3_shows_18 : Blk CP mX3_shows 18 2 [oAL 0, cQ1, qR 1 0 1, oIL 2, qDial 1, oAS 3, oAL 0, cR 3 1 31, oIL 2, cW 31 60 4, oIL 1, oAL 0, cR 3 2 32, oIL 2, cW 32 64 4, oIL 1, cWI 64 4 41 2, oAL 3, qDF 1 3 2, oDiv, oAL 3, qDF 1 4 2, oRem, cWS 60 4 41 2, oInc 2 1, .inl (fun s => some s)] := blk_c (s_aload_n dX3_shows_18 rfl) <| blk_c (cgX3_12 (Or.inl q505) dX3_shows_19) <| blk_c (q_R (by decide) (fun _ _ => rfl) (Or.inr ⟨_, nq426⟩) dX3_shows_22) <| blk_c (s_iload_n dX3_shows_25 rfl) <| blk_c (q_Dial (lw_F q1195 q812 q814 q136 q816) (by decide) dX3_shows_26 q1196 dX3_shows_31) <| blk_c (s_astore_n dX3_shows_34 rfl (by decide)) <| blk_c (s_aload_n dX3_shows_35 rfl) <| blk_c (cgX3_1 (Or.inl q487) dX3_shows_36) <| blk_c (s_iload_n dX3_shows_39 rfl) <| blk_c (c_W (t := 8) (ty := .int) (fun _ => rfl) (fun _ _ _ _ _ _ => rfl) dX3_shows_40) <| blk_c (s_iload_n dX3_shows_41 rfl) <| blk_c (s_aload_n dX3_shows_42 rfl) <| blk_c (cgX3_2 (Or.inl q491) dX3_shows_43) <| blk_c (s_iload_n dX3_shows_46 rfl) <| blk_c (c_W (t := 8) (ty := .int) (fun _ => rfl) (fun _ _ _ _ _ _ => rfl) dX3_shows_47) <| blk_c (s_iload_n dX3_shows_48 rfl) <| blk_c (c_wiald ar_value dX3_shows_49) <| blk_c (s_aload_n dX3_shows_50 rfl) <| blk_c (q_DF (by decide) (by decide) (Or.inr ⟨_, nq850⟩) dX3_shows_51) <| blk_c (s_idiv dX3_shows_54) <| blk_c (s_aload_n dX3_shows_55 rfl) <| blk_c (q_DF (by decide) (by decide) (Or.inr ⟨_, nq853⟩) dX3_shows_56) <| blk_c (s_irem dX3_shows_59) <| blk_c (c_wiast ar_shows dX3_shows_60) <| blk_c (s_iinc dX3_shows_61 (by decide +kernel) (by decide)) <| blk_c (s_goto (tgt := 2) dX3_shows_64 (by decide)) <| blk_nil
/-- the hours of a minute stand, for n clocks -/
def ShwA (A A' : Nat → Nat → Int32) (w : Nat → Int32) (t n : Nat) : Prop := (∀ j, j < 60 ∨ 60 + n ≤ j → A' j = A j) ∧ ∀ k, k < n → A' (60 + k) = va_up (A (60 + k)) t (shW w (fun c => A (64 + c) t) k)
theorem ok_showsC {t : Nat} (hO : CrO A sw E v) (ht : t ≤ v 6) : QC X mX3_shows [.ref (ad 3), .int (nI t)] ad A B sk sw E (fun r A' B' => r = none ∧ B' = B ∧ ShwA A A' (sw 1) t (v 1)) := by
  obtain ⟨hs, hw, e13, e37⟩ := hO
  have h4 := hw.nc4
  have h40 := hw.sp40
  have ncE := hw.ncE
  refine C_start (L := [some (.ref (ad 3)), some (.int (nI t)), none, none]) 2 rfl ?_
  refine bX3_shows_0.go rfl trivial ?_
  refine loop_down (N := v 1) (I := fun _ => True) (P := fun k => ∀ A', ShwA A A' (sw 1) t k → JS CP X mX3_shows (rmOf mX3_shows.lv 0 0) (ZC X 0 0 (fun r x' => ∃ A' B', x' = (ad, A', B', sk, sw, E) ∧ (r = none ∧ B' = B ∧ ShwA A A' (sw 1) t (v 1)))) 0 0 2 [some (.ref (ad 3)), some (.int (nI t)), some (.int (nI k)), none] [] (ad, A', B, sk, sw, E)) ?_ ?_ 0 (Nat.zero_le _) trivial A ⟨fun _ _ => rfl, fun k hk => by omega⟩
  · intro _ A' hA
    refine bX3_shows_2.go rfl (by repeat' first | exact trivial | rfl | assumption | omega | apply And.intro) ?_
    rw [ncE]
    refine j_icmp_ge (tgt := 67) dX3_shows_15 (by decide) (fun h15 => ?_) (fun h15 => absurd (nI_le (Nat.le_refl _) (by omega)) h15)
    exact c_vret dX3_shows_67 rfl ⟨_, _, rfl, rfl, rfl, hA⟩
  · intro k hk _ ih A' hA
    have e1 : A' (64 + k) = A (64 + k) := hA.1 _ (by omega)
    refine bX3_shows_2.go rfl (by repeat' first | exact trivial | rfl | assumption | omega | apply And.intro) ?_
    rw [ncE]
    refine j_icmp_ge (tgt := 67) dX3_shows_15 (by decide) (fun h15 => ?_) (fun h15 => ?_)
    · rw [nI_leI (by omega) (by omega)] at h15; omega
    · refine bX3_shows_18.go rfl (by simp (disch := omega) only [nI_clamp, vpI, ncE]; (repeat' first | exact trivial | rfl | assumption | omega | exact (hw.clock hk).1 | exact (hw.clock hk).2 | apply And.intro)) ?_
      simp (disch := omega) only [nI_clamp, nI_1]
      refine JS.weak (by simp [lsub]) (ih trivial _ ⟨fun j hj => ?_, fun q hq => ?_⟩)
      · rw [upA_ne (by omega)]; exact hA.1 j (by omega)
      · by_cases e : q = k
        · subst e
          rw [show upA A' (60 + q) t _ (60 + q) = va_up (A' (60 + q)) t _ from va_up_self _ _ _, hA.1 (60 + q) (by omega), e1]
          rfl
        · rw [upA_ne (by omega)]; exact hA.2 q (by omega)
theorem bX3_steps_0 : Blk CP mX3_steps 0 6 [oAL 0, oIL 1, oIL 2, cF_II F_eyesC] := blk_c (s_aload_n dX3_steps_0 rfl) <| blk_c (s_iload_n dX3_steps_1 rfl) <| blk_c (s_iload_n dX3_steps_2 rfl) <| blk_c (c_F_II ok_eyesC (ci := 3) rfl (lw_V q1295 q1296 q1297 q137 q1298) hy_X3_eyes rfl (by decide) dX3_steps_3) <| blk_nil
theorem bX3_steps_9 : Blk CP mX3_steps 9 14 [oC (nI 1), .inl (fun s => some s)] := blk_c (s_iconst dX3_steps_9 (by decide +kernel)) <| blk_c (s_goto (tgt := 14) dX3_steps_10 (by decide)) <| blk_nil
theorem bX3_steps_13 : Blk CP mX3_steps 13 14 [oC (nI 0)] := blk_c (s_iconst dX3_steps_13 (by decide +kernel)) <| blk_nil
theorem bX3_steps_14 : Blk CP mX3_steps 14 16 [oIS 3, oIL 3] := blk_c (s_istore_n dX3_steps_14 rfl (by decide)) <| blk_c (s_iload_n dX3_steps_15 rfl) <| blk_nil
theorem bX3_steps_19 : Blk CP mX3_steps 19 31 [oAL 0, cR 3 9 39, oIL 1, cAI 39 4, oAL 0, cR 3 8 38, oIL 1, cAI 38 4] := blk_c (s_aload_n dX3_steps_19 rfl) <| blk_c (cgX3_9 (Or.inl q501) dX3_steps_20) <| blk_c (s_iload_n dX3_steps_23 rfl) <| blk_c (c_iald (fun _ => rfl) dX3_steps_24) <| blk_c (s_aload_n dX3_steps_25 rfl) <| blk_c (cgX3_8 (Or.inl q499) dX3_steps_26) <| blk_c (s_iload_n dX3_steps_29 rfl) <| blk_c (c_iald (fun _ => rfl) dX3_steps_30) <| blk_nil
theorem bX3_steps_34 : Blk CP mX3_steps 34 53 [oAL 0, cR 3 9 39, oIL 1, oDup2IR, cAI 39 4, oC (nI 1), oAdd, cSI 39 4, oAL 0, cR 3 10 40, oIL 1, oIL 2, cSI 40 4, oC (nI 1), oIS 3] := blk_c (s_aload_n dX3_steps_34 rfl) <| blk_c (cgX3_9 (Or.inl q501) dX3_steps_35) <| blk_c (s_iload_n dX3_steps_38 rfl) <| blk_c (s_dup2IR dX3_steps_39) <| blk_c (c_iald (fun _ => rfl) dX3_steps_40) <| blk_c (s_iconst dX3_steps_41 (by decide +kernel)) <| blk_c (s_iadd dX3_steps_42) <| blk_c (c_iast (fun _ => rfl) dX3_steps_43) <| blk_c (s_aload_n dX3_steps_44 rfl) <| blk_c (cgX3_10 (Or.inl q502) dX3_steps_45) <| blk_c (s_iload_n dX3_steps_48 rfl) <| blk_c (s_iload_n dX3_steps_49 rfl) <| blk_c (c_iast (fun _ => rfl) dX3_steps_50) <| blk_c (s_iconst dX3_steps_51 (by decide +kernel)) <| blk_c (s_istore_n dX3_steps_52 rfl (by decide)) <| blk_nil
theorem bX3_steps_53 : Blk CP mX3_steps 53 71 [oAL 0, cR 3 2 32, oIL 1, cW 32 64 4, oIL 2, oC (nI 1), oAdd, oAL 0, cR 3 2 32, oIL 1, cW 32 64 4, oIL 2, cWI 64 4 41 1, oIL 3] := blk_c (s_aload_n dX3_steps_53 rfl) <| blk_c (cgX3_2 (Or.inl q491) dX3_steps_54) <| blk_c (s_iload_n dX3_steps_57 rfl) <| blk_c (c_W (t := 8) (ty := .int) (fun _ => rfl) (fun _ _ _ _ _ _ => rfl) dX3_steps_58) <| blk_c (s_iload_n dX3_steps_59 rfl) <| blk_c (s_iconst dX3_steps_60 (by decide +kernel)) <| blk_c (s_iadd dX3_steps_61) <| blk_c (s_aload_n dX3_steps_62 rfl) <| blk_c (cgX3_2 (Or.inl q491) dX3_steps_63) <| blk_c (s_iload_n dX3_steps_66 rfl) <| blk_c (c_W (t := 8) (ty := .int) (fun _ => rfl) (fun _ _ _ _ _ _ => rfl) dX3_steps_67) <| blk_c (s_iload_n dX3_steps_68 rfl) <| blk_c (c_wiald ar_value dX3_steps_69) <| blk_c (s_iload_n dX3_steps_70 rfl) <| blk_nil
theorem bX3_steps_74 : Blk CP mX3_steps 74 84 [oC (nI 0), .inl (fun s => some s)] := blk_c (s_iconst dX3_steps_74 (by decide +kernel)) <| blk_c (s_goto (tgt := 84) dX3_steps_75 (by decide)) <| blk_nil
theorem bX3_steps_78 : Blk CP mX3_steps 78 84 [oAL 0, cR 3 7 37, oIL 1, cAI 37 4] := blk_c (s_aload_n dX3_steps_78 rfl) <| blk_c (cgX3_7 (Or.inl q498) dX3_steps_79) <| blk_c (s_iload_n dX3_steps_82 rfl) <| blk_c (c_iald (fun _ => rfl) dX3_steps_83) <| blk_nil
theorem bX3_steps_84 : Blk CP mX3_steps 84 86 [oAdd, cWS 64 4 41 1] := blk_c (s_iadd dX3_steps_84) <| blk_c (c_wiast ar_value dX3_steps_85) <| blk_nil
/-- a clock's step -/
def StpA (A A' : Nat → Nat → Int32) (k t : Nat) (l : Bool) : Prop := (∀ j, j ≠ 64 + k → j ≠ 39 → j ≠ 40 → A' j = A j) ∧ A' (64 + k) = va_up (A (64 + k)) (t + 1) (A (64 + k) t + (if (l || decide (A 39 k < A 38 k)) = true then nI 0 else A 37 k)) ∧
  A' 39 = (if (!l && decide (A 39 k < A 38 k)) = true then va_up (A 39) k (A 39 k + nI 1) else A 39) ∧ A' 40 = (if (!l && decide (A 39 k < A 38 k)) = true then va_up (A 40) k (nI t) else A 40)
theorem ok_stepsC {t k : Nat} (hO : CrO A sw E v) (ht : t < v 6) (hk : k < v 1) : QC X mX3_steps [.ref (ad 3), .int (nI k), .int (nI t)] ad A B sk sw E (fun r A' B' => r = none ∧ B' = B ∧ StpA A A' k t (bitI (orP (fun p => A (50 + p) t) (v 2)) k)) := by
  obtain ⟨hs, hw, e13, e37⟩ := hO
  have h4 := hw.nc4
  have h40 := hw.sp40
  have h8 := hw.np8
  have npE := hw.npE
  have k84 : ∀ (A1 : Nat → Nat → Int32) (q : Bool) (l3 : Int32), (∀ j, j ≠ 39 → j ≠ 40 → A1 j = A j) → JS CP X mX3_steps (rmOf mX3_steps.lv 0 0) (ZC X 0 0 (fun r x' => ∃ A' B', x' = (ad, A', B', sk, sw, E) ∧ (r = none ∧ B' = B ∧ A' = upA A1 (64 + k) (t + 1) (A (64 + k) t + (if q = true then nI 0 else A 37 k))))) 0 0 53 [some (.ref (ad 3)), some (.int (nI k)), some (.int (nI t)), some (.int (b2 q))] [] (ad, A1, B, sk, sw, E) := by
    intro A1 q l3 h1
    have e64 : A1 (64 + k) = A (64 + k) := h1 _ (by omega) (by omega)
    refine bX3_steps_53.go rfl (by (try simp (disch := omega) only [nI_add, pk_mul, pk_sub, nI_clamp, vpI]); repeat' first | exact trivial | rfl | assumption | omega | apply And.intro) ?_
    simp (disch := omega) only [nI_clamp, nI_1, nI_add]
    refine j_if_eq (tgt := 78) dX3_steps_71 (by decide) (fun h71 => ?_) (fun h71 => ?_)
    · rw [b2_0] at h71
      refine bX3_steps_78.go rfl (by (try simp (disch := omega) only [nI_add, pk_mul, pk_sub, nI_clamp, vpI]); repeat' first | exact trivial | rfl | assumption | omega | apply And.intro) ?_
      refine bX3_steps_84.go rfl (by (try simp (disch := omega) only [nI_add, pk_mul, pk_sub, nI_clamp, vpI]); repeat' first | exact trivial | rfl | assumption | omega | apply And.intro) ?_
      refine c_vret dX3_steps_86 rfl ⟨_, _, rfl, rfl, rfl, ?_⟩
      simp (disch := omega) only [nI_clamp, h71, e64, h1 37 (by decide) (by decide)]
      rfl
    · rw [b2_n0] at h71
      refine bX3_steps_74.go rfl trivial ?_
      refine bX3_steps_84.go rfl (by (try simp (disch := omega) only [nI_add, pk_mul, pk_sub, nI_clamp, vpI]); repeat' first | exact trivial | rfl | assumption | omega | apply And.intro) ?_
      refine c_vret dX3_steps_86 rfl ⟨_, _, rfl, rfl, rfl, ?_⟩
      simp (disch := omega) only [nI_clamp, h71, e64]
      rfl
  have fin : ∀ (A1 : Nat → Nat → Int32) (q : Bool), (∀ j, j ≠ 39 → j ≠ 40 → A1 j = A j) → (q = (bitI (orP (fun p => A (50 + p) t) (v 2)) k || decide (A 39 k < A 38 k))) → (A1 39 = (if (!bitI (orP (fun p => A (50 + p) t) (v 2)) k && decide (A 39 k < A 38 k)) = true then va_up (A 39) k (A 39 k + nI 1) else A 39)) → (A1 40 = (if (!bitI (orP (fun p => A (50 + p) t) (v 2)) k && decide (A 39 k < A 38 k)) = true then va_up (A 40) k (nI t) else A 40)) → JS CP X mX3_steps (rmOf mX3_steps.lv 0 0) (ZC X 0 0 (fun r x' => ∃ A' B', x' = (ad, A', B', sk, sw, E) ∧ (r = none ∧ B' = B ∧ StpA A A' k t (bitI (orP (fun p => A (50 + p) t) (v 2)) k)))) 0 0 53 [some (.ref (ad 3)), some (.int (nI k)), some (.int (nI t)), some (.int (b2 q))] [] (ad, A1, B, sk, sw, E) := by
    intro A1 q h1 hq h39 h40'
    have e64 : A1 (64 + k) = A (64 + k) := h1 _ (by omega) (by omega)
    refine bX3_steps_53.go rfl (by (try simp (disch := omega) only [nI_add, pk_mul, pk_sub, nI_clamp, vpI]); repeat' first | exact trivial | rfl | assumption | omega | apply And.intro) ?_
    simp (disch := omega) only [nI_clamp, nI_1, nI_add]
    have done : ∀ A', A' = upA A1 (64 + k) (t + 1) (A (64 + k) t + (if q = true then nI 0 else A 37 k)) → StpA A A' k t (bitI (orP (fun p => A (50 + p) t) (v 2)) k) := by
      intro A' hA'
      subst hA'
      refine ⟨fun j a1 a2 a3 => by rw [upA_ne a1, h1 j a2 a3], ?_, by rw [upA_ne (by omega), h39], by rw [upA_ne (by omega), h40']⟩
      rw [show upA A1 (64 + k) (t + 1) _ (64 + k) = va_up (A1 (64 + k)) (t + 1) _ from va_up_self _ _ _, e64, hq]
    refine j_if_eq (tgt := 78) dX3_steps_71 (by decide) (fun h71 => ?_) (fun h71 => ?_)
    · rw [b2_0] at h71
      refine bX3_steps_78.go rfl (by (try simp (disch := omega) only [nI_add, pk_mul, pk_sub, nI_clamp, vpI]); repeat' first | exact trivial | rfl | assumption | omega | apply And.intro) ?_
      refine bX3_steps_84.go rfl (by (try simp (disch := omega) only [nI_add, pk_mul, pk_sub, nI_clamp, vpI]); repeat' first | exact trivial | rfl | assumption | omega | apply And.intro) ?_
      refine c_vret dX3_steps_86 rfl ⟨_, _, rfl, rfl, rfl, done _ ?_⟩
      simp (disch := omega) only [nI_clamp, h71, e64, h1 37 (by decide) (by decide)]
      rfl
    · rw [b2_n0] at h71
      refine bX3_steps_74.go rfl trivial ?_
      refine bX3_steps_84.go rfl (by (try simp (disch := omega) only [nI_add, pk_mul, pk_sub, nI_clamp, vpI]); repeat' first | exact trivial | rfl | assumption | omega | apply And.intro) ?_
      refine c_vret dX3_steps_86 rfl ⟨_, _, rfl, rfl, rfl, done _ ?_⟩
      simp (disch := omega) only [nI_clamp, h71, e64]
      rfl
  have j14 : ∀ l : Bool, l = bitI (orP (fun p => A (50 + p) t) (v 2)) k → JS CP X mX3_steps (rmOf mX3_steps.lv 0 0) (ZC X 0 0 (fun r x' => ∃ A' B', x' = (ad, A', B', sk, sw, E) ∧ (r = none ∧ B' = B ∧ StpA A A' k t (bitI (orP (fun p => A (50 + p) t) (v 2)) k)))) 0 0 14 [some (.ref (ad 3)), some (.int (nI k)), some (.int (nI t)), none] [.int (b2 l)] (ad, A, B, sk, sw, E) := by
    intro l hl
    refine bX3_steps_14.go rfl trivial ?_
    refine j_if_ne (tgt := 53) dX3_steps_16 (by decide) (fun h16 => ?_) (fun h16 => ?_)
    · rw [b2_n0] at h16
      refine fin A l (fun _ _ _ => rfl) (by rw [← hl, h16]; rfl) ?_ ?_ <;> rw [← hl, h16] <;> rfl
    · rw [b2_0] at h16
      refine bX3_steps_19.go rfl (by (try simp (disch := omega) only [nI_add, pk_mul, pk_sub, nI_clamp, vpI]); repeat' first | exact trivial | rfl | assumption | omega | apply And.intro) ?_
      simp (disch := omega) only [nI_clamp]
      refine j_icmp_ge (tgt := 53) dX3_steps_31 (by decide) (fun h31 => ?_) (fun h31 => ?_)
      · have h31' := Int32.not_lt.mpr h31
        refine fin A l (fun _ _ _ => rfl) (by rw [← hl, h16, decide_eq_false h31']; rfl) ?_ ?_ <;> rw [decide_eq_false h31', Bool.and_false] <;> rfl
      · have h31' := Int32.not_le.mp h31
        refine bX3_steps_34.go rfl (by (try simp (disch := omega) only [nI_add, pk_mul, pk_sub, nI_clamp, vpI]); repeat' first | exact trivial | rfl | assumption | omega | apply And.intro) ?_
        simp (disch := omega) only [nI_clamp]
        refine fin _ true (fun j a1 a2 => by rw [upA_ne a2, upA_ne a1]) (by rw [decide_eq_true h31', Bool.or_true]) ?_ ?_
        · rw [← hl, h16, decide_eq_true h31', upA_ne (by decide)]
          show upA _ 39 k _ 39 = _
          rw [show upA A 39 k (A 39 k + nI 1) 39 = va_up (A 39) k (A 39 k + nI 1) from va_up_self _ _ _]; rfl
        · rw [← hl, h16, decide_eq_true h31']
          show upA _ 40 k _ 40 = _
          rw [show upA (upA A 39 k (A 39 k + nI 1)) 40 k (nI t) 40 = va_up (upA A 39 k (A 39 k + nI 1) 40) k (nI t) from va_up_self _ _ _, upA_ne (by decide)]; rfl
  refine C_start (L := [some (.ref (ad 3)), some (.int (nI k)), some (.int (nI t)), none]) 1 rfl ?_
  refine bX3_steps_0.go rfl ⟨⟨rfl, hs, t, by omega, by omega, rfl⟩, trivial⟩ ?_
  rw [nI_clamp (by omega), npE]
  refine j_if_le (tgt := 13) dX3_steps_6 (by decide) (fun h6 => ?_) (fun h6 => ?_)
  · refine bX3_steps_13.go rfl trivial ?_
    refine j14 false ?_
    have := mt (eyN_pos (fun p => A (50 + p) t) k (v 2) (by omega)).mpr (Int32.not_lt.mpr h6)
    rw [Bool.eq_false_iff.mpr this]
  · refine bX3_steps_9.go rfl trivial ?_
    refine j14 true ?_
    rw [(eyN_pos (fun p => A (50 + p) t) k (v 2) (by omega)).mp (Int32.not_le.mp h6)]
theorem bX3_isDrawn_0 : Blk CP mX3_isDrawn 0 4 [oAL 0, cI 3 16] := blk_c (s_aload_n dX3_isDrawn_0 rfl) <| blk_c (cgX3_16 (Or.inl q511) dX3_isDrawn_1) <| blk_nil
theorem bX3_isDrawn_7 : Blk CP mX3_isDrawn 7 8 [oC (nI 0)] := blk_c (s_iconst dX3_isDrawn_7 (by decide +kernel)) <| blk_nil
theorem bX3_isDrawn_9 : Blk CP mX3_isDrawn 9 32 [oAL 0, cQ1, qR 1 1 2, oIL 1, qPL 1, oAS 3, oC (nI 0), oIS 4] := blk_c (s_aload_n dX3_isDrawn_9 rfl) <| blk_c (cgX3_12 (Or.inl q505) dX3_isDrawn_10) <| blk_c (q_R (by decide) (fun _ _ => rfl) (Or.inr ⟨_, nq430⟩) dX3_isDrawn_13) <| blk_c (s_iload_n dX3_isDrawn_16 rfl) <| blk_c (q_PL (lw_F q1195 q812 q814 q136 q816) (by decide) dX3_isDrawn_17 q1205 dX3_isDrawn_22 (Or.inr ⟨_, nq965⟩) dX3_isDrawn_25) <| blk_c (s_astore_n dX3_isDrawn_28 rfl (by decide)) <| blk_c (s_iconst dX3_isDrawn_29 (by decide +kernel)) <| blk_c (s_istore dX3_isDrawn_30 (by decide)) <| blk_nil
theorem bX3_isDrawn_32 : Blk CP mX3_isDrawn 32 40 [oIL 4, oAL 3, qLs 1 1] := blk_c (s_iload dX3_isDrawn_32) <| blk_c (s_aload_n dX3_isDrawn_34 rfl) <| blk_c (q_Ls (lw_F q1193 q803 q805 q136 q807) (by decide) dX3_isDrawn_35) <| blk_nil
theorem bX3_isDrawn_43 : Blk CP mX3_isDrawn 43 52 [oAL 3, oIL 4, qLg 1 1, oAL 2] := blk_c (s_aload_n dX3_isDrawn_43 rfl) <| blk_c (s_iload dX3_isDrawn_44) <| blk_c (q_Lg (lw_F q1195 q812 q814 q136 q816) (by decide) dX3_isDrawn_46) <| blk_c (s_aload_n dX3_isDrawn_51 rfl) <| blk_nil
theorem bX3_isDrawn_55 : Blk CP mX3_isDrawn 55 64 [oAL 0, cR 3 11 41, oIL 1, cW 41 70 8, oIL 4, cWI 70 8 4 1] := blk_c (s_aload_n dX3_isDrawn_55 rfl) <| blk_c (cgX3_11 (Or.inl q504) dX3_isDrawn_56) <| blk_c (s_iload_n dX3_isDrawn_59 rfl) <| blk_c (c_W (t := 9) (ty := .boolean) (fun _ => rfl) (fun _ _ _ _ _ _ => rfl) dX3_isDrawn_60) <| blk_c (s_iload dX3_isDrawn_61) <| blk_c (c_wzald ar_drawn dX3_isDrawn_63) <| blk_nil
theorem bX3_isDrawn_65 : Blk CP mX3_isDrawn 65 32 [oInc 4 1, .inl (fun s => some s)] := blk_c (s_iinc dX3_isDrawn_65 (by decide +kernel) (by decide)) <| blk_c (s_goto (tgt := 32) dX3_isDrawn_68 (by decide)) <| blk_nil
theorem bX3_isDrawn_71 : Blk CP mX3_isDrawn 71 72 [oC (nI 0)] := blk_c (s_iconst dX3_isDrawn_71 (by decide +kernel)) <| blk_nil
/-- whether habit i of person p is drawn -/
theorem ok_isDrawn {p i : Nat} (hO : CrO A sw E v) (hp : p < v 2) (hi : i < v (56 + 33 * p + 4)) (hb : ¬ A 3 16 = 0 → ∃ b, A (70 + p) i = b2 b) : QC X mX3_isDrawn [.ref (ad 3), .int (nI p), .ref (sk 1 (80 + 4 * p + i))] ad A B sk sw E (fun r A' B' => r = some (.int (b2 (!decide (A 3 16 = 0) && !decide (A (70 + p) i = 0)))) ∧ B' = B ∧ A' = A) := by
  obtain ⟨hs, hw, e13, e37⟩ := hO
  have h8 := hw.np8
  have npE := hw.npE
  have nlE := hw.nlE hp
  have l4 := hw.nl4 hp
  refine (fun (key : (∀ i' j', i' < nL (sw 1) p → j' < nL (sw 1) p → sk 1 (80 + 4 * p + i') = sk 1 (80 + 4 * p + j') → i' = j') → QC X mX3_isDrawn [.ref (ad 3), .int (nI p), .ref (sk 1 (80 + 4 * p + i))] ad A B sk sw E (fun r A' B' => r = some (.int (b2 (!decide (A 3 16 = 0) && !decide (A (70 + p) i = 0)))) ∧ B' = B ∧ A' = A)) => fun h hp0 => key ((hp0.sq hs).1.2.2.2.2.2 p (by show p < nP (sw 1); omega)).2.2.2.2.2 h hp0) ?_
  intro hdis
  refine C_start (L := [some (.ref (ad 3)), some (.int (nI p)), some (.ref (sk 1 (80 + 4 * p + i))), none, none]) 2 rfl ?_
  refine bX3_isDrawn_0.go rfl (by repeat' first | exact trivial | rfl | assumption | omega | apply And.intro) ?_
  refine j_if_ne (tgt := 9) dX3_isDrawn_4 (by decide) (fun h4 => ?_) (fun h4 => ?_)
  · obtain ⟨b, eb⟩ := hb h4
    refine bX3_isDrawn_9.go rfl (by simp (disch := omega) only [nI_clamp, vpI, npE]; repeat' first | exact trivial | rfl | assumption | omega | apply And.intro) ?_
    simp (disch := omega) only [nI_clamp]
    refine loop_down (N := i) (I := fun _ => True) (P := fun j => JS CP X mX3_isDrawn (rmOf mX3_isDrawn.lv 0 0) (ZC X 0 0 (fun r x' => ∃ A' B', x' = (ad, A', B', sk, sw, E) ∧ (r = some (.int (b2 (!decide (A 3 16 = 0) && !decide (A (70 + p) i = 0)))) ∧ B' = B ∧ A' = A))) 0 0 32 [some (.ref (ad 3)), some (.int (nI p)), some (.ref (sk 1 (80 + 4 * p + i))), some (.ref (sk 1 (60 + p))), some (.int (nI j))] [] (ad, A, B, sk, sw, E)) ?_ ?_ 0 (Nat.zero_le _) trivial
    · intro _
      refine bX3_isDrawn_32.go rfl (by simp (disch := omega) only [nI_clamp, vpI, npE]; repeat' first | exact trivial | rfl | assumption | omega | apply And.intro) ?_
      simp (disch := omega) only [nI_clamp, nlE]
      refine j_icmp_ge (tgt := 71) dX3_isDrawn_40 (by decide) (fun h40 => ?_) (fun h40 => ?_)
      · rw [nI_leI (by omega) (by omega)] at h40; omega
      · refine bX3_isDrawn_43.go rfl (by simp (disch := omega) only [nI_clamp, vpI, npE, nlE]; repeat' first | exact trivial | rfl | assumption | omega | apply And.intro) ?_
        simp (disch := omega) only [nI_clamp]
        refine j_acmp_ne (tgt := 65) dX3_isDrawn_52 (by decide) (fun h52 => absurd rfl h52) (fun h52 => ?_)
        refine bX3_isDrawn_55.go rfl (by (try simp (disch := omega) only [nI_add, pk_mul, pk_sub, nI_clamp, vpI]); repeat' first | exact trivial | rfl | assumption | omega | apply And.intro) ?_
        simp (disch := omega) only [nI_clamp]
        rw [eb]
        refine c_zret dX3_isDrawn_64 rfl (b2_z _) ⟨_, _, rfl, ?_, rfl, rfl⟩
        rw [decide_eq_false h4]
        cases b <;> rfl
    · intro j hj _ ih
      refine bX3_isDrawn_32.go rfl (by simp (disch := omega) only [nI_clamp, vpI, npE]; repeat' first | exact trivial | rfl | assumption | omega | apply And.intro) ?_
      simp (disch := omega) only [nI_clamp, nlE]
      refine j_icmp_ge (tgt := 71) dX3_isDrawn_40 (by decide) (fun h40 => ?_) (fun h40 => ?_)
      · rw [nI_leI (by omega) (by omega)] at h40; omega
      · refine bX3_isDrawn_43.go rfl (by simp (disch := omega) only [nI_clamp, vpI, npE, nlE]; repeat' first | exact trivial | rfl | assumption | omega | apply And.intro) ?_
        simp (disch := omega) only [nI_clamp]
        refine j_acmp_ne (tgt := 65) dX3_isDrawn_52 (by decide) (fun h52 => ?_) (fun h52 => absurd (hdis j i (by omega) (by omega) h52) (by omega))
        refine bX3_isDrawn_65.go rfl trivial ?_
        rw [nI_1]
        exact ih trivial
  · refine bX3_isDrawn_7.go rfl trivial ?_
    refine c_zret dX3_isDrawn_8 rfl rfl ⟨_, _, rfl, ?_, rfl, rfl⟩
    rw [h4]; rfl
end Crs9
