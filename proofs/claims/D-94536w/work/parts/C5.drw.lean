set_option maxRecDepth 100000
/-! ===== Course.draws ===== -/
section Drw
variable {X : Cx} {ad : Nat → Nat} {A : Nat → Nat → Int32} {B : Nat → Nat → Int64} {sk : Nat → Nat → Nat} {sw : Nat → Nat → Int32} {E : Nat → Nat} {v : Nat → Nat} {p i t : Nat}
def odI (w : Nat → Int32) (p i : Nat) : Int32 := if lkI w p i 1 = nI 5 then lkI w p i 2 else -1
/-- a habit's odds -/
theorem js_odds {R : Room} {Z : ZT} {k n pc : Nat} {L : List (Option Value)} {st : List Value} (hs : SqL E 1) (hw : WOk (sw 1) v) (hp : p < v 2) (hi : i < v (56 + 33 * p + 4)) (hd : decode mX3_draws.cc pc = .ok (.invokevirtual 152, 3)) (hst : wt8 st = true)
    (kk : JS CP X mX3_draws R Z k n (pc + 3) L (.int (odI (sw 1) p i) :: st) (ad, A, B, sk, sw, E)) : JS CP X mX3_draws R Z k n pc L (.ref (sk 1 (80 + 4 * p + i)) :: st) (ad, A, B, sk, sw, E) := by
  have npE := hw.npE
  have nlE := hw.nlE hp
  obtain ⟨c, kd, m, q, ec, hk, en, eq, hc, hk5, hn, hq, hk1, hk2⟩ := hw.look hp hi
  have h6 : kd = 0 ∨ kd = 1 ∨ kd = 2 ∨ kd = 3 ∨ kd = 4 ∨ kd = 5 := by omega
  unfold odI at kk
  rcases h6 with rfl | rfl | rfl | rfl | rfl | rfl
  · rw [if_neg (by rw [hk]; decide)] at kk
    exact cqT (M' := mX9_odds) (As := []) (owner := RX9) (x := ⟨RX9, "odds", "()I"⟩) (ci := 10) ok_odds9 (fun h hp0 => ⟨_, (hp0.hab hs (by omega) (by omega)).trans (congrArg some (by simpa using hbC_k hk (by decide)))⟩) rfl hd (fun hX s args hts hG hR => va_cwU 0 hts (lw_U q1207 q1209 q1210 q1208 q155 q1218) rfl rfl rfl rfl (by decide +kernel) hR) rfl kk (by decide) hst
  · rw [if_neg (by rw [hk]; decide)] at kk
    exact cqT (M' := mX9_odds) (As := []) (owner := RX9) (x := ⟨RX9, "odds", "()I"⟩) (ci := 11) ok_odds9 (fun h hp0 => ⟨_, (hp0.hab hs (by omega) (by omega)).trans (congrArg some (by simpa using hbC_k hk (by decide)))⟩) rfl hd (fun hX s args hts hG hR => va_cwU 0 hts (lw_U q1207 q1209 q1211 q1208 q155 q1218) rfl rfl rfl rfl (by decide +kernel) hR) rfl kk (by decide) hst
  · rw [if_neg (by rw [hk]; decide)] at kk
    exact cqT (M' := mX9_odds) (As := []) (owner := RX9) (x := ⟨RX9, "odds", "()I"⟩) (ci := 12) ok_odds9 (fun h hp0 => ⟨_, (hp0.hab hs (by omega) (by omega)).trans (congrArg some (by simpa using hbC_k hk (by decide)))⟩) rfl hd (fun hX s args hts hG hR => va_cwU 0 hts (lw_U q1207 q1209 q1215 q1208 q155 q1218) rfl rfl rfl rfl (by decide +kernel) hR) rfl kk (by decide) hst
  · rw [if_neg (by rw [hk]; decide)] at kk
    exact cqT (M' := mX9_odds) (As := []) (owner := RX9) (x := ⟨RX9, "odds", "()I"⟩) (ci := 13) ok_odds9 (fun h hp0 => ⟨_, (hp0.hab hs (by omega) (by omega)).trans (congrArg some (by simpa using hbC_k hk (by decide)))⟩) rfl hd (fun hX s args hts hG hR => va_cwU 0 hts (lw_U q1207 q1209 q1217 q1208 q155 q1218) rfl rfl rfl rfl (by decide +kernel) hR) rfl kk (by decide) hst
  · rw [if_neg (by rw [hk]; decide)] at kk
    exact cqT (M' := mX9_odds) (As := []) (owner := RX9) (x := ⟨RX9, "odds", "()I"⟩) (ci := 14) ok_odds9 (fun h hp0 => ⟨_, (hp0.hab hs (by omega) (by omega)).trans (congrArg some (by simpa using hbC_k hk (by decide)))⟩) rfl hd (fun hX s args hts hG hR => va_cwU 0 hts (lw_U q1207 q1209 q1216 q1208 q155 q1218) rfl rfl rfl rfl (by decide +kernel) hR) rfl kk (by decide) hst
  · rw [if_pos hk] at kk
    exact cqT (M' := mX15_odds) (As := []) (owner := RX9) (x := ⟨RX9, "odds", "()I"⟩) (ci := 15) (ok_odds15 hs (by omega) (by omega) hk) (fun h hp0 => ⟨_, (hp0.hab hs (by omega) (by omega)).trans (congrArg some (by simpa using hbC_k hk (by decide)))⟩) rfl hd (fun hX s args hts hG hR => va_cwO 0 hts (lw_O q1207 q1209 q1208 q1212 q1213 q161 q1214) rfl rfl rfl q1218 (by decide +kernel) hR) rfl kk (by decide) hst
theorem rem100 (d : Int64) : (d - d / 100 * 100).toInt = d.toInt.tmod (100 : Int64).toInt := by
  have h1 := (d % 100).toInt_lt
  have h2 := (d % 100).le_toInt
  rw [Int64.toInt_mod] at h1 h2
  rw [Int64.toInt_sub, Int64.toInt_mul, Int64.toInt_div, Int.bmod_mul_bmod, Int.sub_bmod_bmod, Int.mul_comm, ← Int.tmod_def]
  rw [Int.bmod_eq_of_le] <;> omega
theorem draw_lt (z : Int64) (o : Int32) : (o.toInt64 ≤ z / 65536 - z / 65536 / 100 * 100) ↔ o ≤ drawV z := by
  have h1 : (z / 65536 - z / 65536 / 100 * 100).toInt = (z / 65536).toInt.tmod (100 : Int64).toInt := rem100 _
  have h100 : (100 : Int64).toInt = 100 := by decide
  rw [h100] at h1
  have h2 : -100 < (z / 65536 - z / 65536 / 100 * 100).toInt ∧ (z / 65536 - z / 65536 / 100 * 100).toInt < 100 := by
    rw [h1]
    constructor
    · have := Int.lt_tmod_of_pos (z / 65536).toInt (show (0 : Int) < 100 by decide)
      omega
    · exact Int.tmod_lt_of_pos _ (by decide)
  rw [Int64.le_iff_toInt_le, Int32.le_iff_toInt_le, Int32.toInt_toInt64]
  unfold drawV
  generalize z / 65536 - z / 65536 / 100 * 100 = d at h2 ⊢
  have h3 : d.toInt32.toInt = d.toInt := by
    rw [Int64.toInt_toInt32]
    have : d.toInt.bmod (2 ^ 32) = d.toInt := by
      rw [Int.bmod_eq_of_le] <;> omega
    exact this
  rw [h3]
/-- the draws of a minute -/
def DrwC (A A' : Nat → Nat → Int32) (B B' : Nat → Nat → Int64) (w : Nat → Int32) (v : Nat → Nat) (t : Nat) : Prop := (∀ j, (j < 70 ∨ 70 + v 2 ≤ j) → A' j = A j) ∧ (∀ k, k ≠ 3 → B' k = B k) ∧ (∀ j, j ≠ 17 → B' 3 j = B 3 j) ∧ B' 3 17 = rngP w (fun p c => seeB w p c t) (!decide (A 3 16 = 0)) (v 2) (B 3 17) ∧ (¬ A 3 16 = 0 → ∀ p, p < v 2 → ∀ i, i < v (56 + 33 * p + 4) → A' (70 + p) i = b2 (mbF w (fun p c => seeB w p c t) (!decide (A 3 16 = 0)) (B 3 17) p i))
theorem bX3_draws_0 : Blk CP mX3_draws 0 4 [oAL 0, cI 3 16] := blk_c (s_aload_n dX3_draws_0 rfl) <| blk_c (cgX3_16 (Or.inl q511) dX3_draws_1) <| blk_nil
theorem bX3_draws_8 : Blk CP mX3_draws 8 10 [oC (nI 0), oIS 2] := blk_c (s_iconst dX3_draws_8 (by decide +kernel)) <| blk_c (s_istore_n dX3_draws_9 rfl (by decide)) <| blk_nil
theorem bX3_draws_10 : Blk CP mX3_draws 10 23 [oIL 2, oAL 0, cQ1, qR 1 1 2, qSzP 1] := blk_c (s_iload_n dX3_draws_10 rfl) <| blk_c (s_aload_n dX3_draws_11 rfl) <| blk_c (cgX3_12 (Or.inl q505) dX3_draws_12) <| blk_c (q_R (by decide) (fun _ _ => rfl) (Or.inr ⟨_, nq430⟩) dX3_draws_15) <| blk_c (q_SzP (lw_F q1193 q803 q805 q136 q807) (by decide) dX3_draws_18) <| blk_nil
theorem bX3_draws_26 : Blk CP mX3_draws 26 49 [oAL 0, cQ1, qR 1 1 2, oIL 2, qPL 1, oAS 3, oC (nI 0), oIS 4] := blk_c (s_aload_n dX3_draws_26 rfl) <| blk_c (cgX3_12 (Or.inl q505) dX3_draws_27) <| blk_c (q_R (by decide) (fun _ _ => rfl) (Or.inr ⟨_, nq430⟩) dX3_draws_30) <| blk_c (s_iload_n dX3_draws_33 rfl) <| blk_c (q_PL (lw_F q1195 q812 q814 q136 q816) (by decide) dX3_draws_34 q1205 dX3_draws_39 (Or.inr ⟨_, nq965⟩) dX3_draws_42) <| blk_c (s_astore_n dX3_draws_45 rfl (by decide)) <| blk_c (s_iconst dX3_draws_46 (by decide +kernel)) <| blk_c (s_istore dX3_draws_47 (by decide)) <| blk_nil
theorem bX3_draws_49 : Blk CP mX3_draws 49 57 [oIL 4, oAL 3, qLs 1 2] := blk_c (s_iload dX3_draws_49) <| blk_c (s_aload_n dX3_draws_51 rfl) <| blk_c (q_Ls (lw_F q1193 q803 q805 q136 q807) (by decide) dX3_draws_52) <| blk_nil
theorem bX3_draws_60 : Blk CP mX3_draws 60 81 [oAL 0, cR 3 11 41, oIL 2, cW 41 70 8, oIL 4, oC (nI 0), cWZ 70 8 4 2, oAL 3, oIL 4, qLg 1 2, qHC 1 2 4] := blk_c (s_aload_n dX3_draws_60 rfl) <| blk_c (cgX3_11 (Or.inl q504) dX3_draws_61) <| blk_c (s_iload_n dX3_draws_64 rfl) <| blk_c (c_W (t := 9) (ty := .boolean) (fun _ => rfl) (fun _ _ _ _ _ _ => rfl) dX3_draws_65) <| blk_c (s_iload dX3_draws_66) <| blk_c (s_iconst dX3_draws_68 (by decide +kernel)) <| blk_c (c_wzast ar_drawn dX3_draws_69) <| blk_c (s_aload_n dX3_draws_70 rfl) <| blk_c (s_iload dX3_draws_71) <| blk_c (q_Lg (lw_F q1195 q812 q814 q136 q816) (by decide) dX3_draws_73) <| blk_c (q_HC q1206 dX3_draws_78) <| blk_nil
theorem bX3_draws_84 : Blk CP mX3_draws 84 85 [oC (-1)] := blk_c (s_iconst dX3_draws_84 (by decide +kernel)) <| blk_nil
theorem bX3_draws_88 : Blk CP mX3_draws 88 108 [oAL 0, oIL 2, oAL 3, oIL 4, qLg 1 2, qHC 1 2 4, qHk 1 2 4, oIL 1, cF_III F_seesC] := blk_c (s_aload_n dX3_draws_88 rfl) <| blk_c (s_iload_n dX3_draws_89 rfl) <| blk_c (s_aload_n dX3_draws_90 rfl) <| blk_c (s_iload dX3_draws_91) <| blk_c (q_Lg (lw_F q1195 q812 q814 q136 q816) (by decide) dX3_draws_93) <| blk_c (q_HC q1206 dX3_draws_98) <| blk_c (q_Hk (Or.inl q1035) dX3_draws_101) <| blk_c (s_iload_n dX3_draws_104 rfl) <| blk_c (c_F_III ok_seesC (ci := 3) rfl (lw_V q1219 q1161 q1162 q137 q1163) hy_X3_sees rfl (by decide) dX3_draws_105) <| blk_nil
theorem bX3_draws_111 : Blk CP mX3_draws 111 179 [.inl (fun s => some s)] := blk_c (s_goto (tgt := 179) dX3_draws_111 (by decide)) <| blk_nil
theorem bX3_draws_114 : Blk CP mX3_draws 114 165 [oAL 0, oCL (1103515245), oAL 0, cL 3 17, oLMul, oCL (12345), oLAdd, oCL (2147483648), oLRem, cPL 3 17, oAL 0, cR 3 11 41, oIL 2, cW 41 70 8, oIL 4, oAL 0, cL 3 17, oCL (65536), oLDiv, oCL (100), oLRem, oAL 3, oIL 4, qLg 1 2, qHC 1 2 4] := blk_c (s_aload_n dX3_draws_114 rfl) <| blk_c (s_ldc2 dX3_draws_115 q1220) <| blk_c (s_aload_n dX3_draws_118 rfl) <| blk_c (cgX3_17 (Or.inl q513) dX3_draws_119) <| blk_c (s_lmul dX3_draws_122) <| blk_c (s_ldc2 dX3_draws_123 q1221) <| blk_c (s_ladd dX3_draws_126) <| blk_c (s_ldc2 dX3_draws_127 q1222) <| blk_c (s_lrem dX3_draws_130) <| blk_c (cpX3_17 (Or.inl q513) dX3_draws_131) <| blk_c (s_aload_n dX3_draws_134 rfl) <| blk_c (cgX3_11 (Or.inl q504) dX3_draws_135) <| blk_c (s_iload_n dX3_draws_138 rfl) <| blk_c (c_W (t := 9) (ty := .boolean) (fun _ => rfl) (fun _ _ _ _ _ _ => rfl) dX3_draws_139) <| blk_c (s_iload dX3_draws_140) <| blk_c (s_aload_n dX3_draws_142 rfl) <| blk_c (cgX3_17 (Or.inl q513) dX3_draws_143) <| blk_c (s_ldc2 dX3_draws_146 q1223) <| blk_c (s_ldiv dX3_draws_149) <| blk_c (s_ldc2 dX3_draws_150 q1224) <| blk_c (s_lrem dX3_draws_153) <| blk_c (s_aload_n dX3_draws_154 rfl) <| blk_c (s_iload dX3_draws_155) <| blk_c (q_Lg (lw_F q1195 q812 q814 q136 q816) (by decide) dX3_draws_157) <| blk_c (q_HC q1206 dX3_draws_162) <| blk_nil
theorem bX3_draws_168 : Blk CP mX3_draws 168 170 [oI2L, oLcmp] := blk_c (s_i2l dX3_draws_168) <| blk_c (s_lcmp dX3_draws_169) <| blk_nil
theorem bX3_draws_173 : Blk CP mX3_draws 173 178 [oC (nI 1), .inl (fun s => some s)] := blk_c (s_iconst dX3_draws_173 (by decide +kernel)) <| blk_c (s_goto (tgt := 178) dX3_draws_174 (by decide)) <| blk_nil
theorem bX3_draws_177 : Blk CP mX3_draws 177 178 [oC (nI 0)] := blk_c (s_iconst dX3_draws_177 (by decide +kernel)) <| blk_nil
theorem bX3_draws_178 : Blk CP mX3_draws 178 179 [cWZ 70 8 4 2] := blk_c (c_wzast ar_drawn dX3_draws_178) <| blk_nil
theorem bX3_draws_179 : Blk CP mX3_draws 179 49 [oInc 4 1, .inl (fun s => some s)] := blk_c (s_iinc dX3_draws_179 (by decide +kernel) (by decide)) <| blk_c (s_goto (tgt := 49) dX3_draws_182 (by decide)) <| blk_nil
theorem bX3_draws_185 : Blk CP mX3_draws 185 10 [oInc 2 1, .inl (fun s => some s)] := blk_c (s_iinc dX3_draws_185 (by decide +kernel) (by decide)) <| blk_c (s_goto (tgt := 10) dX3_draws_188 (by decide)) <| blk_nil
theorem ok_drawsC (hO : CrO A sw E v) (ht : t < v 6) : QC X mX3_draws [.ref (ad 3), .int (nI t)] ad A B sk sw E (fun r A' B' => r = none ∧ DrwC A A' B B' (sw 1) v t) := by
  obtain ⟨hs, hw, e13, e37⟩ := id hO
  have h8 := hw.np8
  have h4 := hw.nc4
  have h40 := hw.sp40
  have npE := hw.npE
  refine C_start (L := [some (.ref (ad 3)), some (.int (nI t)), none, none, none]) 3 rfl ?_
  refine bX3_draws_0.go rfl (by repeat' first | exact trivial | rfl | assumption | omega | apply And.intro) ?_
  refine j_if_ne (tgt := 8) dX3_draws_4 (by decide) (fun h4' => ?_) (fun h4' => ?_)
  · have edr : (!decide (A 3 16 = 0)) = true := by rw [decide_eq_false h4']; rfl
    refine bX3_draws_8.go rfl trivial ?_
    unfold DrwC
    rw [edr]
    generalize hsee : (fun p c => seeB (sw 1) p c t) = see
    have eSee : ∀ p c, seeB (sw 1) p c t = see p c := fun p c => by rw [← hsee]
    refine loop_down (N := v 2) (I := fun _ => True) (P := fun p => ∀ A' B', (∀ j, (j < 70 ∨ 70 + v 2 ≤ j) → A' j = A j) → (∀ k, k ≠ 3 → B' k = B k) → (∀ j, j ≠ 17 → B' 3 j = B 3 j) → B' 3 17 = rngP (sw 1) see true p (B 3 17) → (∀ q, q < p → ∀ i, i < v (56 + 33 * q + 4) → A' (70 + q) i = b2 (mbF (sw 1) see true (B 3 17) q i)) → JS CP X mX3_draws (rmOf mX3_draws.lv 0 0) (ZC X 0 0 (fun r x' => ∃ A' B', x' = (ad, A', B', sk, sw, E) ∧ (r = none ∧ (∀ j, (j < 70 ∨ 70 + v 2 ≤ j) → A' j = A j) ∧ (∀ k, k ≠ 3 → B' k = B k) ∧ (∀ j, j ≠ 17 → B' 3 j = B 3 j) ∧ B' 3 17 = rngP (sw 1) see true (v 2) (B 3 17) ∧ (¬ A 3 16 = 0 → ∀ p, p < v 2 → ∀ i, i < v (56 + 33 * p + 4) → A' (70 + p) i = b2 (mbF (sw 1) see true (B 3 17) p i))))) 0 0 10 [some (.ref (ad 3)), some (.int (nI t)), some (.int (nI p)), none, none] [] (ad, A', B', sk, sw, E)) ?_ ?_ 0 (Nat.zero_le _) trivial A B (fun _ _ => rfl) (fun _ _ => rfl) (fun _ _ => rfl) rfl (fun q hq => by omega)
    · intro _ A' B' h1 h2 h3 h5 h6
      refine bX3_draws_10.go rfl (by repeat' first | exact trivial | rfl | assumption | omega | apply And.intro) ?_
      rw [npE]
      refine j_icmp_ge (tgt := 191) dX3_draws_23 (by decide) (fun h23 => ?_) (fun h23 => absurd (nI_le (Nat.le_refl _) (by omega)) h23)
      exact c_vret dX3_draws_191 rfl ⟨_, _, rfl, rfl, h1, h2, h3, h5, fun _ => h6⟩
    · intro p hp _ ih A' B' h1 h2 h3 h5 h6
      have nlE := hw.nlE hp
      have l4 := hw.nl4 hp
      refine bX3_draws_10.go rfl (by repeat' first | exact trivial | rfl | assumption | omega | apply And.intro) ?_
      rw [npE]
      refine j_icmp_ge (tgt := 191) dX3_draws_23 (by decide) (fun h23 => ?_) (fun h23 => ?_)
      · rw [nI_leI (by omega) (by omega)] at h23; omega
      · refine bX3_draws_26.go rfl (by simp (disch := omega) only [nI_clamp, vpI, npE]; repeat' first | exact trivial | rfl | assumption | omega | apply And.intro) ?_
        simp (disch := omega) only [nI_clamp]
        refine loop_down (N := v (56 + 33 * p + 4)) (I := fun _ => True) (P := fun i => ∀ A' B', (∀ j, (j < 70 ∨ 70 + v 2 ≤ j) → A' j = A j) → (∀ k, k ≠ 3 → B' k = B k) → (∀ j, j ≠ 17 → B' 3 j = B 3 j) → B' 3 17 = rngI (sw 1) see true p i (rngP (sw 1) see true p (B 3 17)) → (∀ q j, q < p ∧ j < v (56 + 33 * q + 4) ∨ q = p ∧ j < i → A' (70 + q) j = b2 (mbF (sw 1) see true (B 3 17) q j)) → JS CP X mX3_draws (rmOf mX3_draws.lv 0 0) (ZC X 0 0 (fun r x' => ∃ A' B', x' = (ad, A', B', sk, sw, E) ∧ (r = none ∧ (∀ j, (j < 70 ∨ 70 + v 2 ≤ j) → A' j = A j) ∧ (∀ k, k ≠ 3 → B' k = B k) ∧ (∀ j, j ≠ 17 → B' 3 j = B 3 j) ∧ B' 3 17 = rngP (sw 1) see true (v 2) (B 3 17) ∧ (¬ A 3 16 = 0 → ∀ p, p < v 2 → ∀ i, i < v (56 + 33 * p + 4) → A' (70 + p) i = b2 (mbF (sw 1) see true (B 3 17) p i))))) 0 0 49 [some (.ref (ad 3)), some (.int (nI t)), some (.int (nI p)), some (.ref (sk 1 (60 + p))), some (.int (nI i))] [] (ad, A', B', sk, sw, E)) ?_ ?_ 0 (Nat.zero_le _) trivial A' B' h1 h2 h3 h5 (fun q j h => by rcases h with h | h; exact h6 q h.1 j h.2; omega)
        · intro _ A' B' h1 h2 h3 h5 h6
          refine bX3_draws_49.go rfl (by simp (disch := omega) only [nI_clamp, vpI, npE]; repeat' first | exact trivial | rfl | assumption | omega | apply And.intro) ?_
          simp (disch := omega) only [nI_clamp, nlE]
          refine j_icmp_ge (tgt := 185) dX3_draws_57 (by decide) (fun h57 => ?_) (fun h57 => absurd (nI_le (Nat.le_refl _) (by omega)) h57)
          refine bX3_draws_185.go rfl trivial ?_
          rw [nI_1]
          refine JS.weak (by simp [lsub]) (ih trivial A' B' h1 h2 h3 ?_ (fun q hq i hi => h6 q i ?_))
          · rw [h5]
            show _ = rngI (sw 1) see true p (perI (sw 1) p 4).toNatClampNeg _
            rw [show (perI (sw 1) p 4).toNatClampNeg = v (56 + 33 * p + 4) from nlE]
          · rcases Nat.lt_succ_iff_lt_or_eq.mp hq with h | h
            · exact Or.inl ⟨h, hi⟩
            · subst h; exact Or.inr ⟨rfl, hi⟩
        · intro i hi _ ih2 A' B' h1 h2 h3 h5 h6
          obtain ⟨c, kd, m, q, ec, hk, en, eq, hc, hk5, hn, hq, hk1, hk2⟩ := hw.look hp hi
          have eC : (lkI (sw 1) p i 0).toNatClampNeg = c := by rw [ec]; exact nI_clamp (by omega)
          have hO1 : ∀ A1, (∀ j, (j < 70 ∨ 70 + v 2 ≤ j) → A1 j = A j) → CrO A1 sw E v := fun A1 h => ⟨hs, hw, by rw [h 3 (by omega)]; exact e13, fun k hk => by rw [h 37 (by omega)]; exact e37 k hk⟩
          refine bX3_draws_49.go rfl (by simp (disch := omega) only [nI_clamp, vpI, npE]; repeat' first | exact trivial | rfl | assumption | omega | apply And.intro) ?_
          simp (disch := omega) only [nI_clamp, nlE]
          refine j_icmp_ge (tgt := 185) dX3_draws_57 (by decide) (fun h57 => ?_) (fun h57 => ?_)
          · rw [nI_leI (by omega) (by omega)] at h57; omega
          · refine bX3_draws_60.go rfl (by simp (disch := omega) only [nI_clamp, vpI, npE, nlE]; repeat' first | exact trivial | rfl | assumption | omega | apply And.intro) ?_
            simp (disch := omega) only [nI_clamp]
            rw [show vp_nar .boolean (nI 0) = b2 false from by decide +kernel]
            have step : ∀ (y : Bool) B2, (∀ k, k ≠ 3 → B2 k = B k) → (∀ j, j ≠ 17 → B2 3 j = B 3 j) → B2 3 17 = rngI (sw 1) see true p (i + 1) (rngP (sw 1) see true p (B 3 17)) → y = mbF (sw 1) see true (B 3 17) p i → ∀ A2, (∀ j, j ≠ 70 + p → A2 j = A' j) → (∀ j, j ≠ i → A2 (70 + p) j = A' (70 + p) j) → A2 (70 + p) i = b2 y → JS CP X mX3_draws (rmOf mX3_draws.lv 0 0) (ZC X 0 0 (fun r x' => ∃ A' B', x' = (ad, A', B', sk, sw, E) ∧ (r = none ∧ (∀ j, (j < 70 ∨ 70 + v 2 ≤ j) → A' j = A j) ∧ (∀ k, k ≠ 3 → B' k = B k) ∧ (∀ j, j ≠ 17 → B' 3 j = B 3 j) ∧ B' 3 17 = rngP (sw 1) see true (v 2) (B 3 17) ∧ (¬ A 3 16 = 0 → ∀ p, p < v 2 → ∀ i, i < v (56 + 33 * p + 4) → A' (70 + p) i = b2 (mbF (sw 1) see true (B 3 17) p i))))) 0 0 179 [some (.ref (ad 3)), some (.int (nI t)), some (.int (nI p)), some (.ref (sk 1 (60 + p))), some (.int (nI i))] [] (ad, A2, B2, sk, sw, E) := by
              intro y B2 b1 b2' b3 hy A2 a1 a2 a3
              refine bX3_draws_179.go rfl trivial ?_
              rw [nI_1]
              refine ih2 trivial A2 B2 (fun j hj => by rw [a1 j (by omega)]; exact h1 j hj) b1 b2' b3 (fun q j hqj => ?_)
              by_cases e : q = p
              · subst e
                by_cases e2 : j = i
                · subst e2; rw [a3, hy]
                · rw [a2 j e2]; exact h6 q j (by omega)
              · rw [a1 _ (by omega)]; exact h6 q j (by omega)
            have A1n : ∀ j, j ≠ 70 + p → upA A' (70 + p) i (b2 false) j = A' j := fun j hj => upA_ne hj
            have A1d : ∀ j, j ≠ i → upA A' (70 + p) i (b2 false) (70 + p) j = A' (70 + p) j := fun j hj => by rw [upA_at, if_neg hj]
            have A1s : upA A' (70 + p) i (b2 false) (70 + p) i = b2 false := by rw [upA_at, if_pos rfl]
            have hA1 : ∀ j, (j < 70 ∨ 70 + v 2 ≤ j) → upA A' (70 + p) i (b2 false) j = A j := fun j hj => by rw [A1n j (by omega)]; exact h1 j hj
            generalize upA A' (70 + p) i (b2 false) = A1 at A1n A1d A1s hA1
            refine js_odds hs hw hp hi dX3_draws_81 rfl ?_
            have no : drB (sw 1) see true p i = false → JS CP X mX3_draws (rmOf mX3_draws.lv 0 0) (ZC X 0 0 (fun r x' => ∃ A' B', x' = (ad, A', B', sk, sw, E) ∧ (r = none ∧ (∀ j, (j < 70 ∨ 70 + v 2 ≤ j) → A' j = A j) ∧ (∀ k, k ≠ 3 → B' k = B k) ∧ (∀ j, j ≠ 17 → B' 3 j = B 3 j) ∧ B' 3 17 = rngP (sw 1) see true (v 2) (B 3 17) ∧ (¬ A 3 16 = 0 → ∀ p, p < v 2 → ∀ i, i < v (56 + 33 * p + 4) → A' (70 + p) i = b2 (mbF (sw 1) see true (B 3 17) p i))))) 0 0 179 [some (.ref (ad 3)), some (.int (nI t)), some (.int (nI p)), some (.ref (sk 1 (60 + p))), some (.int (nI i))] [] (ad, A1, B', sk, sw, E) := by
              intro hd
              exact step false B' h2 h3 (by rw [h5]; simp [rngI, hd]) (by simp [mbF, hd]) A1 A1n A1d A1s
            refine bX3_draws_84.go rfl trivial ?_
            refine j_icmp_eq (tgt := 179) dX3_draws_85 (by decide) (fun h85 => ?_) (fun h85 => ?_)
            · refine no ?_
              unfold odI at h85
              by_cases e5 : lkI (sw 1) p i 1 = nI 5
              · rw [if_pos e5, en] at h85
                exact absurd h85 (nI_n1 (by omega))
              · simp [drB, e5]
            · have e5 : lkI (sw 1) p i 1 = nI 5 := by
                unfold odI at h85
                by_cases e5 : lkI (sw 1) p i 1 = nI 5
                · exact e5
                · rw [if_neg e5] at h85; exact absurd rfl h85
              refine bX3_draws_88.go rfl (by simp (disch := omega) only [nI_clamp, vpI, npE, nlE, ec]; exact ⟨⟨⟨trivial, rfl, by omega, by omega⟩, hs⟩, ⟨⟨trivial, by omega, by omega⟩, hs⟩, ⟨⟨trivial, by omega, by omega⟩, hs⟩, ⟨trivial, v, p, c, t, hO1 A1 hA1, hp, hc, ht, rfl, rfl, rfl⟩, trivial⟩) ?_
              simp (disch := omega) only [nI_clamp, ec, eSee]
              refine j_if_ne (tgt := 114) dX3_draws_108 (by decide) (fun h108 => ?_) (fun h108 => ?_)
              · rw [b2_n0] at h108
                have hd : drB (sw 1) see true p i = true := by simp [drB, e5, eC, h108]
                have hB2 : B' 3 17 = rngI (sw 1) see true p i (rngP (sw 1) see true p (B 3 17)) := h5
                refine bX3_draws_114.go rfl (by simp (disch := omega) only [nI_clamp, vpI, npE, nlE]; (repeat' first | exact trivial | rfl | assumption | omega | exact (by decide : ¬ (2147483648 : Int64) = 0) | exact (by decide : ¬ (65536 : Int64) = 0) | exact (by decide : ¬ (100 : Int64) = 0) | apply And.intro)) ?_
                simp (disch := omega) only [nI_clamp]
                refine js_odds hs hw hp hi dX3_draws_165 rfl ?_
                rw [odI, if_pos e5]
                have eU : upB B' 3 17 (lcg (B' 3 17)) 3 17 = lcg (B' 3 17) := by rw [upB_at, if_pos rfl]
                refine (fun (z : JS CP X mX3_draws (rmOf mX3_draws.lv 0 0) _ 0 0 168 [some (.ref (ad 3)), some (.int (nI t)), some (.int (nI p)), some (.ref (sk 1 (60 + p))), some (.int (nI i))] [.int (lkI (sw 1) p i 2), .long (lcg (B' 3 17) / 65536 - lcg (B' 3 17) / 65536 / 100 * 100), .int (nI i), .ref (ad (70 + p))] (ad, A1, upB B' 3 17 (lcg (B' 3 17)), sk, sw, E)) => by
                  show JS CP X mX3_draws (rmOf mX3_draws.lv 0 0) _ 0 0 168 [some (.ref (ad 3)), some (.int (nI t)), some (.int (nI p)), some (.ref (sk 1 (60 + p))), some (.int (nI i))] [.int (lkI (sw 1) p i 2), .long (upB B' 3 17 (lcg (B' 3 17)) 3 17 / 65536 - upB B' 3 17 (lcg (B' 3 17)) 3 17 / 65536 / 100 * 100), .int (nI i), .ref (ad (70 + p))] (ad, A1, upB B' 3 17 (lcg (B' 3 17)), sk, sw, E)
                  rw [eU]; exact z) ?_
                refine bX3_draws_168.go rfl trivial ?_
                have e17 : upB B' 3 17 (lcg (B' 3 17)) 3 17 = rngI (sw 1) see true p (i + 1) (rngP (sw 1) see true p (B 3 17)) := by rw [eU, hB2]; simp [rngI, hd]
                have j178 : ∀ y : Bool, y = mbF (sw 1) see true (B 3 17) p i → JS CP X mX3_draws (rmOf mX3_draws.lv 0 0) (ZC X 0 0 (fun r x' => ∃ A' B', x' = (ad, A', B', sk, sw, E) ∧ (r = none ∧ (∀ j, (j < 70 ∨ 70 + v 2 ≤ j) → A' j = A j) ∧ (∀ k, k ≠ 3 → B' k = B k) ∧ (∀ j, j ≠ 17 → B' 3 j = B 3 j) ∧ B' 3 17 = rngP (sw 1) see true (v 2) (B 3 17) ∧ (¬ A 3 16 = 0 → ∀ p, p < v 2 → ∀ i, i < v (56 + 33 * p + 4) → A' (70 + p) i = b2 (mbF (sw 1) see true (B 3 17) p i))))) 0 0 178 [some (.ref (ad 3)), some (.int (nI t)), some (.int (nI p)), some (.ref (sk 1 (60 + p))), some (.int (nI i))] [.int (b2 y), .int (nI i), .ref (ad (70 + p))] (ad, A1, upB B' 3 17 (lcg (B' 3 17)), sk, sw, E) := by
                  intro y hy
                  refine bX3_draws_178.go rfl (by (try simp (disch := omega) only [nI_add, pk_mul, pk_sub, nI_clamp, vpI]); repeat' first | exact trivial | rfl | assumption | omega | apply And.intro) ?_
                  simp (disch := omega) only [nI_clamp, nar_b2]
                  refine step y _ (fun k hk => by rw [upB_ne hk]; exact h2 k hk) (fun j hj => by rw [upB_at, if_neg hj]; exact h3 j hj) e17 hy _ (fun j hj => by rw [upA_ne hj]; exact A1n j hj) (fun j hj => by rw [upA_at, if_neg hj]; exact A1d j hj) (by rw [upA_at, if_pos rfl])
                have eM : mbF (sw 1) see true (B 3 17) p i = decide (drawV (lcg (B' 3 17)) < lkI (sw 1) p i 2) := by
                  simp only [mbF, hd, Bool.true_and, hB2]
                refine j_if_ge (tgt := 177) dX3_draws_170 (by decide) (fun h170 => ?_) (fun h170 => ?_)
                · rw [lg_cmp_ge, draw_lt] at h170
                  refine bX3_draws_177.go rfl trivial ?_
                  exact j178 false (by rw [eM, decide_eq_false (Int32.not_lt.mpr h170)])
                · rw [lg_cmp_ge, draw_lt] at h170
                  refine bX3_draws_173.go rfl trivial ?_
                  exact j178 true (by rw [eM, decide_eq_true (Int32.not_le.mp h170)])
              · rw [b2_0] at h108
                refine bX3_draws_111.go rfl trivial ?_
                exact no (by simp [drB, eC, h108])
  · refine c_vret dX3_draws_7 rfl ⟨_, _, rfl, rfl, fun _ _ => rfl, fun _ _ => rfl, fun _ _ => rfl, ?_, fun h => absurd h4' h⟩
    rw [decide_eq_true h4']
    exact (rngP_false _ _ _ _).symm
end Drw
