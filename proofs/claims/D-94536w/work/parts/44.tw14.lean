set_option maxRecDepth 100000
/-! ===== UnseenClockModel: isLooked, goes, keepsNone ===== -/
def orP (f : Nat → Int32) : Nat → Int32
  | 0 => nI 0
  | k + 1 => orP f k ||| f k
theorem orP_congr {f g : Nat → Int32} {n : Nat} (h : ∀ k, k < n → f k = g k) : orP f n = orP g n := by
  induction n with
  | zero => rfl
  | succ n ih => rw [orP, orP, ih (fun k hk => h k (by omega)), h n (by omega)]
def F_isLooked (c m : Int32) : Tau → Prop × Option Value × Tau := fun (o, ad, A, B) => (∃ (v : Nat → Nat) (cn mn : Nat), WOk (A 1) v ∧ mn < 40 ∧ cn < 32 ∧ c = nI cn ∧ m = nI mn, some (.int (b2 (bitI (orP (fun p => A 19 (8 * m.toNatClampNeg + p)) (A 1 2).toNatClampNeg) c.toNatClampNeg))), (o, ad, A, B))
theorem bX4_isLooked_0 : Blk TP mX4_isLooked 0 5 [oC (nI 0), oIS 3, oC (nI 0), oIS 4] := blk_c (s_iconst dX4_isLooked_0 (by decide +kernel)) <| blk_c (s_istore_n dX4_isLooked_1 rfl (by decide)) <| blk_c (s_iconst dX4_isLooked_2 (by decide +kernel)) <| blk_c (s_istore dX4_isLooked_3 (by decide)) <| blk_nil
theorem bX4_isLooked_5 : Blk TP mX4_isLooked 5 13 [oIL 4, oAL 0, tR 1, oC (nI 2), tAI 1 320] := blk_c (s_iload dX4_isLooked_5) <| blk_c (s_aload_n dX4_isLooked_7 rfl) <| blk_c (tgX4_1 rfl dX4_isLooked_8) <| blk_c (s_iconst dX4_isLooked_11 (by decide +kernel)) <| blk_c (t_iald rfl dX4_isLooked_12) <| blk_nil
theorem bX4_isLooked_16 : Blk TP mX4_isLooked 16 5 [oIL 3, oAL 0, tR 19, oC (nI 8), oIL 2, oMul, oIL 4, oAdd, tAI 19 320, oOr, oIS 3, oInc 4 1, .inl (fun s => some s)] := blk_c (s_iload_n dX4_isLooked_16 rfl) <| blk_c (s_aload_n dX4_isLooked_17 rfl) <| blk_c (tgX4_19 rfl dX4_isLooked_18) <| blk_c (s_bipush dX4_isLooked_21 (by decide +kernel)) <| blk_c (s_iload_n dX4_isLooked_23 rfl) <| blk_c (s_imul dX4_isLooked_24) <| blk_c (s_iload dX4_isLooked_25) <| blk_c (s_iadd dX4_isLooked_27) <| blk_c (t_iald rfl dX4_isLooked_28) <| blk_c (s_ior dX4_isLooked_29) <| blk_c (s_istore_n dX4_isLooked_30 rfl (by decide)) <| blk_c (s_iinc dX4_isLooked_31 (by decide +kernel) (by decide)) <| blk_c (s_goto (tgt := 5) dX4_isLooked_34 (by decide)) <| blk_nil
theorem bX4_isLooked_37 : Blk TP mX4_isLooked 37 43 [oIL 3, oIL 1, oShr, oC (nI 1), oAnd, oC (nI 1)] := blk_c (s_iload_n dX4_isLooked_37 rfl) <| blk_c (s_iload_n dX4_isLooked_38 rfl) <| blk_c (s_ishr dX4_isLooked_39) <| blk_c (s_iconst dX4_isLooked_40 (by decide +kernel)) <| blk_c (s_iand dX4_isLooked_41) <| blk_c (s_iconst dX4_isLooked_42 (by decide +kernel)) <| blk_nil
theorem bX4_isLooked_46 : Blk TP mX4_isLooked 46 51 [oC (nI 1), .inl (fun s => some s)] := blk_c (s_iconst dX4_isLooked_46 (by decide +kernel)) <| blk_c (s_goto (tgt := 51) dX4_isLooked_47 (by decide)) <| blk_nil
theorem bX4_isLooked_50 : Blk TP mX4_isLooked 50 51 [oC (nI 0)] := blk_c (s_iconst dX4_isLooked_50 (by decide +kernel)) <| blk_nil
theorem ok_isLooked : TC_II mX4_isLooked F_isLooked := by
  intro X c m ⟨o, ad, A, B⟩ P r y hF hP
  cases hF
  obtain ⟨v, cn, mn, hw, hm, hc, rfl, rfl⟩ := hP
  have h8 : v 2 ≤ 8 := hw.2.2.2.1
  have e2 : A 1 2 = nI (v 2) := hw.1 2 (by decide)
  refine T_start (L := [some (.ref o), some (.int (nI cn)), some (.int (nI mn)), none, none]) 2 rfl ?_
  simp (disch := omega) only [nI_clamp, e2]
  refine bX4_isLooked_0.go rfl trivial ?_
  refine loop_down (N := v 2) (I := fun _ => True) (P := fun p => JS TP X mX4_isLooked (rmOf mX4_isLooked.lv 0 0) _ 0 0 5 [some (.ref o), some (.int (nI cn)), some (.int (nI mn)), some (.int (orP (fun p => A 19 (8 * mn + p)) p)), some (.int (nI p))] [] (o, ad, A, B)) ?_ ?_ 0 (by omega) trivial
  · intro _
    refine bX4_isLooked_5.go rfl ⟨rfl, ⟨rfl, vp_in_nI (by decide) (by decide)⟩, trivial⟩ ?_
    refine j_icmp_ge (tgt := 37) dX4_isLooked_13 (by decide) (fun h13 => ?_) (fun h13 => ?_)
    · refine bX4_isLooked_37.go rfl trivial ?_
      refine j_icmp_ne (tgt := 50) dX4_isLooked_43 (by decide) (fun h43 => ?_) (fun h43 => ?_)
      · rw [bitI_1] at h43
        refine bX4_isLooked_50.go rfl trivial ?_
        exact t_zret dX4_isLooked_51 rfl rfl (sv_int (b2_ne h43)) rfl
      · rw [bitI_1] at h43
        refine bX4_isLooked_46.go rfl trivial ?_
        exact t_zret dX4_isLooked_51 rfl rfl (sv_int (b2_t h43)) rfl
    · simp (disch := omega) only [nI_clamp, e2, nI_leI] at h13; omega
  · intro p hp _ ih
    refine bX4_isLooked_5.go rfl ⟨rfl, ⟨rfl, vp_in_nI (by decide) (by decide)⟩, trivial⟩ ?_
    refine j_icmp_ge (tgt := 37) dX4_isLooked_13 (by decide) (fun h13 => ?_) (fun h13 => ?_)
    · simp (disch := omega) only [nI_clamp, e2, nI_leI] at h13; omega
    · refine bX4_isLooked_16.go rfl (by simp (disch := omega) only [nI_add, pk_mul, vpI]; exact ⟨trivial, ⟨trivial, by omega⟩, trivial⟩) ?_
      simp (disch := omega) only [nI_1, nI_add, pk_mul, nI_clamp]
      exact ih trivial
def Pre_keepsNone (_ : Nat → Nat → Int32) (_ : Nat → Nat → Int64) : Prop := True
def Q_keepsNone (A : Nat → Nat → Int32) (B : Nat → Nat → Int64) : QR := fun r A' B' => r = none ∧ B' = B ∧ (∀ k, k ≠ 25 → A' k = A k) ∧ ∀ c, c < 4 → A' 25 c = nI 0
theorem bX4_keepsNone_0 : Blk TP mX4_keepsNone 0 2 [oC (nI 0), oIS 1] := blk_c (s_iconst dX4_keepsNone_0 (by decide +kernel)) <| blk_c (s_istore_n dX4_keepsNone_1 rfl (by decide)) <| blk_nil
theorem bX4_keepsNone_2 : Blk TP mX4_keepsNone 2 4 [oIL 1, oC (nI 4)] := blk_c (s_iload_n dX4_keepsNone_2 rfl) <| blk_c (s_iconst dX4_keepsNone_3 (by decide +kernel)) <| blk_nil
theorem bX4_keepsNone_7 : Blk TP mX4_keepsNone 7 2 [oAL 0, tR 25, oIL 1, oC (nI 0), tSI 25 4, oInc 1 1, .inl (fun s => some s)] := blk_c (s_aload_n dX4_keepsNone_7 rfl) <| blk_c (tgX4_25 rfl dX4_keepsNone_8) <| blk_c (s_iload_n dX4_keepsNone_11 rfl) <| blk_c (s_iconst dX4_keepsNone_12 (by decide +kernel)) <| blk_c (t_iast rfl dX4_keepsNone_13) <| blk_c (s_iinc dX4_keepsNone_14 (by decide +kernel) (by decide)) <| blk_c (s_goto (tgt := 2) dX4_keepsNone_17 (by decide)) <| blk_nil
theorem ok_keepsNone : RC_V mX4_keepsNone Pre_keepsNone Q_keepsNone := by
  intro X o ad A B _
  refine R_start (L := [some (.ref o), none]) 1 rfl ?_
  refine bX4_keepsNone_0.go rfl trivial ?_
  refine loop_down (N := 4) (I := fun _ => True) (P := fun t => ∀ A', (∀ k, k ≠ 25 → A' k = A k) → (∀ c, c < t → A' 25 c = nI 0) → JS TP X mX4_keepsNone (rmOf mX4_keepsNone.lv 0 0) _ 0 0 2 [some (.ref o), some (.int (nI t))] [] (o, ad, A', B)) ?_ ?_ 0 (by omega) trivial A (fun _ _ => rfl) (fun c h => by omega)
  · intro _ A' hA hS
    refine bX4_keepsNone_2.go rfl trivial ?_
    refine j_icmp_ge (tgt := 20) dX4_keepsNone_4 (by decide) (fun h4 => ?_) (fun h4 => absurd (by decide) h4)
    exact r_vret dX4_keepsNone_20 rfl ⟨rfl, rfl, hA, hS⟩
  · intro t ht _ ih A' hA hS
    refine bX4_keepsNone_2.go rfl trivial ?_
    refine j_icmp_ge (tgt := 20) dX4_keepsNone_4 (by decide) (fun h4 => ?_) (fun h4 => ?_)
    · rw [nI_leI (by omega) (by omega)] at h4; omega
    · refine bX4_keepsNone_7.go rfl (by simp (disch := omega) only [vpI]; exact ⟨trivial, ⟨trivial, by omega⟩, trivial⟩) ?_
      simp (disch := omega) only [nI_1, nI_clamp]
      refine ih trivial _ (fun k hk => by rw [upA_ne hk]; exact hA k hk) (fun c hc => ?_)
      rw [upA_at]
      by_cases e : c = t
      · rw [if_pos e]
      · rw [if_neg e]; exact hS c (by omega)
/-- a clock is looked at in the minute; a keeper looks -/
def lookedA (A : Nat → Nat → Int32) (v : Nat → Nat) (mn c : Nat) : Bool := bitI (orP (fun p => A 19 (8 * mn + p)) (v 2)) c
/-- the clocks' step: rows 18, 26, 27 of A2 made out of A1, whose looks of the minute are done -/
def StepA (A1 A2 : Nat → Nat → Int32) (v : Nat → Nat) (mn : Nat) (n : Nat) : Prop :=
  (∀ k, k ≠ 18 → k ≠ 26 → k ≠ 27 → A2 k = A1 k) ∧ (∀ j, j < 4 * (mn + 1) ∨ 4 * (mn + 1) + n ≤ j → A2 18 j = A1 18 j) ∧ (∀ j, n ≤ j → A2 26 j = A1 26 j ∧ A2 27 j = A1 27 j) ∧
  ∀ c, c < n → A2 18 (4 * (mn + 1) + c) = A1 18 (4 * mn + c) + (if (lookedA A1 v mn c || decide (A1 27 c < A1 25 c)) = true then nI 0 else A1 1 (32 + 6 * c + 2)) ∧
    A2 27 c = (if (!lookedA A1 v mn c && decide (A1 27 c < A1 25 c)) = true then A1 27 c + nI 1 else A1 27 c) ∧ A2 26 c = (if (!lookedA A1 v mn c && decide (A1 27 c < A1 25 c)) = true then nI mn else A1 26 c)
def Q_goes (m : Int32) (A : Nat → Nat → Int32) (B : Nat → Nat → Int64) : QR := fun r A' B' => r = none ∧ ∃ A1, Q_looksIn m A B none A1 B' ∧ ∀ (v : Nat → Nat) (mn : Nat), WOk (A 1) v → m = nI mn → mn < 40 → StepA A1 A' v mn (v 1)
theorem bX4_goes_0 : Blk TP mX4_goes 0 2 [oAL 0, oIL 1] := blk_c (s_aload_n dX4_goes_0 rfl) <| blk_c (s_iload_n dX4_goes_1 rfl) <| blk_nil
theorem bX4_goes_5 : Blk TP mX4_goes 5 7 [oC (nI 0), oIS 2] := blk_c (s_iconst dX4_goes_5 (by decide +kernel)) <| blk_c (s_istore_n dX4_goes_6 rfl (by decide)) <| blk_nil
theorem bX4_goes_7 : Blk TP mX4_goes 7 14 [oIL 2, oAL 0, tR 1, oC (nI 1), tAI 1 320] := blk_c (s_iload_n dX4_goes_7 rfl) <| blk_c (s_aload_n dX4_goes_8 rfl) <| blk_c (tgX4_1 rfl dX4_goes_9) <| blk_c (s_iconst dX4_goes_12 (by decide +kernel)) <| blk_c (t_iald rfl dX4_goes_13) <| blk_nil
theorem bX4_goes_17 : Blk TP mX4_goes 17 25 [oAL 0, oIL 2, oIL 1, tC_II F_isLooked, oIS 3, oIL 3] := blk_c (s_aload_n dX4_goes_17 rfl) <| blk_c (s_iload_n dX4_goes_18 rfl) <| blk_c (s_iload_n dX4_goes_19 rfl) <| blk_c (tc_II ok_isLooked gX4_isLooked (by decide +kernel) (by decide) dX4_goes_20) <| blk_c (s_istore_n dX4_goes_23 rfl (by decide)) <| blk_c (s_iload_n dX4_goes_24 rfl) <| blk_nil
theorem bX4_goes_28 : Blk TP mX4_goes 28 40 [oAL 0, tR 27, oIL 2, tAI 27 4, oAL 0, tR 25, oIL 2, tAI 25 4] := blk_c (s_aload_n dX4_goes_28 rfl) <| blk_c (tgX4_27 rfl dX4_goes_29) <| blk_c (s_iload_n dX4_goes_32 rfl) <| blk_c (t_iald rfl dX4_goes_33) <| blk_c (s_aload_n dX4_goes_34 rfl) <| blk_c (tgX4_25 rfl dX4_goes_35) <| blk_c (s_iload_n dX4_goes_38 rfl) <| blk_c (t_iald rfl dX4_goes_39) <| blk_nil
theorem bX4_goes_43 : Blk TP mX4_goes 43 62 [oAL 0, tR 27, oIL 2, oDup2IR, tAI 27 4, oC (nI 1), oAdd, tSI 27 4, oAL 0, tR 26, oIL 2, oIL 1, tSI 26 4, oC (nI 1), oIS 3] := blk_c (s_aload_n dX4_goes_43 rfl) <| blk_c (tgX4_27 rfl dX4_goes_44) <| blk_c (s_iload_n dX4_goes_47 rfl) <| blk_c (s_dup2IR dX4_goes_48) <| blk_c (t_iald rfl dX4_goes_49) <| blk_c (s_iconst dX4_goes_50 (by decide +kernel)) <| blk_c (s_iadd dX4_goes_51) <| blk_c (t_iast rfl dX4_goes_52) <| blk_c (s_aload_n dX4_goes_53 rfl) <| blk_c (tgX4_26 rfl dX4_goes_54) <| blk_c (s_iload_n dX4_goes_57 rfl) <| blk_c (s_iload_n dX4_goes_58 rfl) <| blk_c (t_iast rfl dX4_goes_59) <| blk_c (s_iconst dX4_goes_60 (by decide +kernel)) <| blk_c (s_istore_n dX4_goes_61 rfl (by decide)) <| blk_nil
theorem bX4_goes_62 : Blk TP mX4_goes 62 84 [oAL 0, tR 18, oC (nI 4), oIL 1, oC (nI 1), oAdd, oMul, oIL 2, oAdd, oAL 0, tR 18, oC (nI 4), oIL 1, oMul, oIL 2, oAdd, tAI 18 164, oIL 3] := blk_c (s_aload_n dX4_goes_62 rfl) <| blk_c (tgX4_18 rfl dX4_goes_63) <| blk_c (s_iconst dX4_goes_66 (by decide +kernel)) <| blk_c (s_iload_n dX4_goes_67 rfl) <| blk_c (s_iconst dX4_goes_68 (by decide +kernel)) <| blk_c (s_iadd dX4_goes_69) <| blk_c (s_imul dX4_goes_70) <| blk_c (s_iload_n dX4_goes_71 rfl) <| blk_c (s_iadd dX4_goes_72) <| blk_c (s_aload_n dX4_goes_73 rfl) <| blk_c (tgX4_18 rfl dX4_goes_74) <| blk_c (s_iconst dX4_goes_77 (by decide +kernel)) <| blk_c (s_iload_n dX4_goes_78 rfl) <| blk_c (s_imul dX4_goes_79) <| blk_c (s_iload_n dX4_goes_80 rfl) <| blk_c (s_iadd dX4_goes_81) <| blk_c (t_iald rfl dX4_goes_82) <| blk_c (s_iload_n dX4_goes_83 rfl) <| blk_nil
theorem bX4_goes_87 : Blk TP mX4_goes 87 97 [oC (nI 0), .inl (fun s => some s)] := blk_c (s_iconst dX4_goes_87 (by decide +kernel)) <| blk_c (s_goto (tgt := 97) dX4_goes_88 (by decide)) <| blk_nil
theorem bX4_goes_91 : Blk TP mX4_goes 91 97 [oAL 0, oIL 2, oC (nI 2), tC_II F_ofClock] := blk_c (s_aload_n dX4_goes_91 rfl) <| blk_c (s_iload_n dX4_goes_92 rfl) <| blk_c (s_iconst dX4_goes_93 (by decide +kernel)) <| blk_c (tc_II ok_ofClock gX4_ofClock (by decide +kernel) (by decide) dX4_goes_94) <| blk_nil
theorem bX4_goes_97 : Blk TP mX4_goes 97 7 [oAdd, tSI 18 164, oInc 2 1, .inl (fun s => some s)] := blk_c (s_iadd dX4_goes_97) <| blk_c (t_iast rfl dX4_goes_98) <| blk_c (s_iinc dX4_goes_99 (by decide +kernel) (by decide)) <| blk_c (s_goto (tgt := 7) dX4_goes_102 (by decide)) <| blk_nil
theorem ok_goes : RC_I mX4_goes Pre_looksIn Q_goes := by
  intro X m o ad A B hpre
  obtain ⟨v, mn, n0, hw, hm, rfl, hn, hn0, hsp⟩ := id hpre
  have h8 : v 2 ≤ 8 := hw.2.2.2.1
  have h4 : v 1 ≤ 4 := hw.2.2.1
  refine R_start (L := [some (.ref o), some (.int (nI mn)), none, none]) 2 rfl ?_
  refine bX4_goes_0.go rfl trivial ?_
  refine rc_I ok_looksIn gX4_looksIn dX4_goes_2 rfl hpre (fun r2 A1 B1 q2 => ?_)
  have hq2 := q2
  obtain ⟨rfl, hq⟩ := q2
  obtain ⟨hM, -⟩ := hq v mn n0 hw rfl hm hn hn0
  have g1 : A1 1 = A 1 := hM.1 1 (by decide) (by decide) (by decide) (by decide) (by decide) (by decide) (by decide)
  have hw1 : WOk (A1 1) v := by rw [g1]; exact hw
  have e1 : A1 1 1 = nI (v 1) := hw1.1 1 (by decide)
  have e2 : A1 1 2 = nI (v 2) := hw1.1 2 (by decide)
  refine bX4_goes_5.go rfl trivial ?_
  refine loop_down (N := v 1) (I := fun _ => True) (P := fun c => ∀ A', StepA A1 A' v mn c → JS TP X mX4_goes (rmOf mX4_goes.lv 0 0) (ZR X o ad (Q_goes (nI mn) A B)) 0 0 7 [some (.ref o), some (.int (nI mn)), some (.int (nI c)), none] [] (o, ad, A', B1)) ?_ ?_ 0 (by omega) trivial A1 ⟨fun _ _ _ _ => rfl, fun _ _ => rfl, fun _ _ => ⟨rfl, rfl⟩, fun c h => by omega⟩
  · intro _ A' hS
    have eA : A' 1 = A1 1 := hS.1 1 (by decide) (by decide) (by decide)
    refine bX4_goes_7.go rfl ⟨rfl, ⟨rfl, vp_in_nI (by decide) (by decide)⟩, trivial⟩ ?_
    refine j_icmp_ge (tgt := 105) dX4_goes_14 (by decide) (fun h14 => ?_) (fun h14 => ?_)
    · refine r_vret dX4_goes_105 rfl ⟨rfl, A1, hq2, fun v' mn' hv' hmm hm' => ?_⟩
      have emn : mn' = mn := by
        have := (nI_eq (a := mn) (b := mn') (by omega) (by omega)).mp hmm
        omega
      subst emn
      obtain ⟨u1, u2, -⟩ := hw.uniq hv'
      rw [← u1]
      obtain ⟨a, b, c, d⟩ := hS
      have eL : ∀ q, lookedA A1 v' mn' q = lookedA A1 v mn' q := fun q => by simp only [lookedA, u2]
      exact ⟨a, b, c, fun q hq => by rw [eL q]; exact d q hq⟩
    · simp (disch := omega) only [nI_clamp, eA, e1, nI_leI] at h14; omega
  · intro c hc _ ih A' hS
    have eA : A' 1 = A1 1 := hS.1 1 (by decide) (by decide) (by decide)
    have e19 : A' 19 = A1 19 := hS.1 19 (by decide) (by decide) (by decide)
    have e25 : A' 25 = A1 25 := hS.1 25 (by decide) (by decide) (by decide)
    have e27 : A' 27 c = A1 27 c := (hS.2.2.1 c (Nat.le_refl _)).2
    have e18 : A' 18 (4 * mn + c) = A1 18 (4 * mn + c) := hS.2.1 _ (by omega)
    have eL : bitI (orP (fun p => A' 19 (8 * mn + p)) (v 2)) c = lookedA A1 v mn c := by rw [lookedA, e19]
    have fin : ∀ (A2 : Nat → Nat → Int32) (d : Int32) (ok : Bool), (∀ k, k ≠ 26 → k ≠ 27 → A2 k = A' k) → (∀ j, j ≠ c → A2 26 j = A' 26 j ∧ A2 27 j = A' 27 j) →
        A2 27 c = (if (!lookedA A1 v mn c && decide (A1 27 c < A1 25 c)) = true then A1 27 c + nI 1 else A1 27 c) → A2 26 c = (if (!lookedA A1 v mn c && decide (A1 27 c < A1 25 c)) = true then nI mn else A1 26 c) →
        d = b2 ok → ok = (lookedA A1 v mn c || decide (A1 27 c < A1 25 c)) →
        JS TP X mX4_goes (rmOf mX4_goes.lv 0 0) (ZR X o ad (Q_goes (nI mn) A B)) 0 0 62 [some (.ref o), some (.int (nI mn)), some (.int (nI c)), some (.int d)] [] (o, ad, A2, B1) := by
      intro A2 d ok a1 a2 a3 a4 hd hok
      subst hd
      have f18 : A2 18 = A' 18 := a1 18 (by decide) (by decide)
      have f1 : A2 1 = A1 1 := by rw [a1 1 (by decide) (by decide), eA]
      have j97 : ∀ z, z = (if (lookedA A1 v mn c || decide (A1 27 c < A1 25 c)) = true then nI 0 else A1 1 (32 + 6 * c + 2)) → JS TP X mX4_goes (rmOf mX4_goes.lv 0 0) (ZR X o ad (Q_goes (nI mn) A B)) 0 0 97 [some (.ref o), some (.int (nI mn)), some (.int (nI c)), some (.int (b2 ok))] [.int z, .int (A1 18 (4 * mn + c)), .int (nI (4 * (mn + 1) + c)), .ref (ad 18)] (o, ad, A2, B1) := by
        intro z hz
        refine bX4_goes_97.go rfl (by rw [vpI (by omega)]; exact ⟨⟨rfl, by omega⟩, trivial⟩) ?_
        simp (disch := omega) only [nI_1, nI_clamp]
        refine JS.weak (by simp [lsub]) (ih trivial _ ⟨fun k b1 b2 b3 => ?_, fun j hj => ?_, fun j hj => ?_, fun q hq => ?_⟩)
        · rw [upA_ne b1, a1 k b2 b3]; exact hS.1 k b1 b2 b3
        · rw [upA_at, if_neg (by omega), f18]; exact hS.2.1 j (by omega)
        · rw [upA_ne (by decide), upA_ne (by decide), (a2 j (by omega)).1, (a2 j (by omega)).2]; exact hS.2.2.1 j (by omega)
        · rw [upA_at, upA_ne (by decide), upA_ne (by decide)]
          by_cases e : q = c
          · subst e
            rw [if_pos rfl, hz]
            exact ⟨rfl, a3, a4⟩
          · rw [if_neg (by omega), f18, (a2 q e).1, (a2 q e).2]
            exact hS.2.2.2 q (by omega)
      refine bX4_goes_62.go rfl (by simp (disch := omega) only [nI_add, pk_mul, vpI]; exact ⟨trivial, trivial, ⟨trivial, by omega⟩, trivial⟩) ?_
      simp (disch := omega) only [nI_add, pk_mul, nI_clamp, f18, e18]
      refine j_if_eq (tgt := 91) dX4_goes_84 (by decide) (fun h84 => ?_) (fun h84 => ?_)
      · rw [b2_0] at h84
        refine bX4_goes_91.go rfl (by simp (disch := omega) only [vpI]; exact ⟨⟨trivial, by omega, by omega⟩, trivial⟩) ?_
        simp (disch := omega) only [nI_clamp, f1]
        exact j97 _ (by rw [← hok, h84]; rfl)
      · rw [b2_n0] at h84
        refine bX4_goes_87.go rfl trivial ?_
        exact j97 _ (by rw [← hok, h84]; rfl)
    refine bX4_goes_7.go rfl ⟨rfl, ⟨rfl, vp_in_nI (by decide) (by decide)⟩, trivial⟩ ?_
    refine j_icmp_ge (tgt := 105) dX4_goes_14 (by decide) (fun h14 => ?_) (fun h14 => ?_)
    · simp (disch := omega) only [nI_clamp, eA, e1, nI_leI] at h14; omega
    · refine bX4_goes_17.go rfl ⟨⟨rfl, v, c, mn, by rw [eA]; exact hw1, hm, by omega, rfl, rfl⟩, trivial⟩ ?_
      simp (disch := omega) only [eA, e2, nI_clamp, eL]
      refine j_if_ne (tgt := 62) dX4_goes_25 (by decide) (fun h25 => ?_) (fun h25 => ?_)
      · rw [b2_n0] at h25
        exact fin A' _ (lookedA A1 v mn c) (fun _ _ _ => rfl) (fun _ _ => ⟨rfl, rfl⟩) (by rw [h25, e27]; rfl) (by rw [h25, (hS.2.2.1 c (Nat.le_refl _)).1]; rfl) rfl (by rw [h25]; rfl)
      · rw [b2_0] at h25
        refine bX4_goes_28.go rfl (by simp (disch := omega) only [vpI]; exact ⟨trivial, ⟨trivial, by omega⟩, trivial, ⟨trivial, by omega⟩, trivial⟩) ?_
        simp (disch := omega) only [nI_clamp, e25, e27]
        refine j_icmp_ge (tgt := 62) dX4_goes_40 (by decide) (fun h40 => ?_) (fun h40 => ?_)
        · have hlt : decide (A1 27 c < A1 25 c) = false := decide_eq_false (Int32.not_lt.mpr h40)
          exact fin A' _ (lookedA A1 v mn c) (fun _ _ _ => rfl) (fun _ _ => ⟨rfl, rfl⟩) (by rw [hlt, e27]; simp) (by rw [hlt, (hS.2.2.1 c (Nat.le_refl _)).1]; simp) rfl (by rw [hlt]; simp)
        · have hlt : decide (A1 27 c < A1 25 c) = true := decide_eq_true (Int32.not_le.mp h40)
          refine bX4_goes_43.go rfl (by simp (disch := omega) only [vpI]; exact ⟨trivial, ⟨trivial, by omega⟩, ⟨trivial, by omega⟩, trivial, ⟨trivial, by omega⟩, trivial⟩) ?_
          simp (disch := omega) only [nI_clamp, e27]
          refine fin _ _ true (fun k b1 b2 => by rw [upA_ne b1, upA_ne b2]) (fun j hj => ?_) ?_ ?_ rfl (by rw [hlt]; simp)
          · rw [upA_at, upA_ne (by decide), upA_ne (by decide), upA_at, if_neg hj, if_neg hj]; exact ⟨rfl, rfl⟩
          · rw [upA_ne (by decide), upA_at, if_pos rfl, h25, hlt]; rfl
          · rw [upA_at, if_pos rfl, h25, hlt]; rfl
