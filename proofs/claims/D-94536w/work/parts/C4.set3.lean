set_option maxRecDepth 100000
/-! ===== Course.settles ===== -/
theorem fuC_none {V : Nat → Nat → Int32} {p : Nat} : ∀ n c, (∀ k, c ≤ k → k < c + n → ¬ V p k = -1) → fuC V p n c = none := by
  intro n
  induction n with
  | zero => intro c _; rfl
  | succ n ih =>
    intro c h
    simp only [fuC]
    rw [if_neg (h c (Nat.le_refl _) (by omega))]
    exact ih (c + 1) (fun k a b => h k (by omega) (by omega))
theorem fuC_at {V : Nat → Nat → Int32} {p k : Nat} : ∀ n c, c ≤ k → k < c + n → V p k = -1 → (∀ d, c ≤ d → d < k → ¬ V p d = -1) → fuC V p n c = some (4 * p + k) := by
  intro n
  induction n with
  | zero => intro c a b; omega
  | succ n ih =>
    intro c a b hk hd
    simp only [fuC]
    by_cases e : c = k
    · subst e; rw [if_pos hk]
    · rw [if_neg (hd c (Nat.le_refl _) (by omega))]
      exact ih (c + 1) (by omega) (by omega) hk (fun d x y => hd d (by omega) y)
theorem fuP_s {V : Nat → Nat → Int32} {nc N p : Nat} (hp : p < N) : fuP V nc (N - p) p = match fuC V p nc 0 with | some k => some k | none => fuP V nc (N - (p + 1)) (p + 1) := by
  obtain ⟨d, hd⟩ : ∃ d, N - p = d + 1 := ⟨N - p - 1, by omega⟩
  rw [hd, show N - (p + 1) = d by omega]
  rfl
theorem cntU_congr {F G : Nat → Int32} : ∀ n, (∀ k, k < n → F k = G k) → cntU F n = cntU G n := by
  intro n
  induction n with
  | zero => intro _; rfl
  | succ n ih => intro h; simp only [cntU]; rw [ih (fun k hk => h k (by omega)), h n (by omega)]
theorem lookBits_at {F G : Nat → Int32} {p q : Nat} : ∀ n, (∀ c, c < n → F (4 * p + c) = G (4 * q + c)) → lookBits F p n = lookBits G q n := by
  intro n
  induction n with
  | zero => intro _; rfl
  | succ n ih => intro h; simp only [lookBits]; rw [ih (fun c hc => h c (by omega)), h n (by omega)]
theorem upA_s {A : Nat → Nat → Int32} {k i : Nat} {v : Int32} : upA A k i v k = va_up (A k) i v := va_up_self _ _ _
section Set3
variable {X : Cx} {ad : Nat → Nat} {A : Nat → Nat → Int32} {B : Nat → Nat → Int64} {sk : Nat → Nat → Nat} {sw : Nat → Nat → Int32} {E : Nat → Nat} {v : Nat → Nat} {t : Nat}
/-- while a minute is settled -/
def LrC (A A' : Nat → Nat → Int32) (v : Nat → Nat) (F : Nat → Int32) (on : Nat) (od : Nat → Int32) : Prop := (∀ j, j ≠ 33 → j ≠ 34 → j ≠ 3 → j ≠ 35 → A' j = A j) ∧ (∀ q, q ≠ 14 → A' 3 q = A 3 q) ∧ A' 3 14 = nI on ∧ A' 35 = od ∧ Msk A' v ∧ E32 (fA A') F
theorem LrC.mc {A' : Nat → Nat → Int32} {F : Nat → Int32} {on : Nat} {od : Nat → Int32} (h : LrC A A' v F on od) (w : Nat → Int32) (t : Nat) : mcC A' w t = mcC A w t := by
  have e3 := h.2.1 16 (by decide)
  have e50 : (fun p => A' (50 + p) (t - 1)) = fun p => A (50 + p) (t - 1) := by funext p; rw [h.1 _ (by omega) (by omega) (by omega) (by omega)]
  have e60 : (fun p => A' (60 + p) (t - 1)) = fun p => A (60 + p) (t - 1) := by funext p; rw [h.1 _ (by omega) (by omega) (by omega) (by omega)]
  have e70 : (fun p i => !decide (A' 3 16 = 0) && !decide (A' (70 + p) i = 0)) = fun p i => !decide (A 3 16 = 0) && !decide (A (70 + p) i = 0) := by funext p i; rw [e3, h.1 _ (by omega) (by omega) (by omega) (by omega)]
  unfold mcC
  rw [e50, e60, e70]
theorem LrC.cro {A' : Nat → Nat → Int32} {F : Nat → Int32} {on : Nat} {od : Nat → Int32} (h : LrC A A' v F on od) (hO : CrO A sw E v) : CrO A' sw E v := by
  obtain ⟨a, b, c, d⟩ := hO
  exact ⟨a, b, by rw [h.2.1 13 (by decide)]; exact c, fun k hk => by rw [h.1 37 (by decide) (by decide) (by decide) (by decide)]; exact d k hk⟩
theorem LrC.dr {A' : Nat → Nat → Int32} {F : Nat → Int32} {on : Nat} {od : Nat → Int32} (h : LrC A A' v F on od) (hD : DrOk A v) : DrOk A' v := by
  intro h16 p hp i hi
  rw [h.2.1 16 (by decide)] at h16
  rw [h.1 _ (by omega) (by omega) (by omega) (by omega)]
  exact hD h16 p hp i hi
theorem LrC.tk {A' : Nat → Nat → Int32} {F : Nat → Int32} {on : Nat} {od : Nat → Int32} (h : LrC A A' v F on od) : tkC A' = tkC A := by
  funext n
  simp only [tkC, h.2.1 15 (by decide), h.1 36 (by decide) (by decide) (by decide) (by decide)]
/-- the course behind the settling of a minute -/
def MinC (A A' : Nat → Nat → Int32) (v : Nat → Nat) (t : Nat) (os : OS) : Prop := (∀ j, j ≠ 33 → j ≠ 34 → j ≠ 3 → j ≠ 35 → (j < 50 ∨ 50 + v 2 ≤ j) → A' j = A j) ∧ (∀ q, q ≠ 14 → A' 3 q = A 3 q) ∧ A' 3 14 = nI os.2.1 ∧ A' 35 = os.2.2.1 ∧ ∀ p, p < v 2 → A' (50 + p) = va_up (A (50 + p)) t (lookBits os.1 p (v 1))
abbrev Q_settlesC (A : Nat → Nat → Int32) (B : Nat → Nat → Int64) (v : Nat → Nat) (t : Nat) (os : OS) : Option Value → (Nat → Nat → Int32) → (Nat → Nat → Int64) → Prop := fun r A' B' => r = none ∧ B' = B ∧ MinC A A' v t os
theorem bX3_settles_0 : Blk CP mX3_settles 0 22 [oC (nI 1), oAL 0, cQ1, qR 1 0 1, qSzC 1, oShl, oC (nI 1), oSub, oIS 2, oAL 0, cR 3 3 33, oC (nI 0)] := blk_c (s_iconst dX3_settles_0 (by decide +kernel)) <| blk_c (s_aload_n dX3_settles_1 rfl) <| blk_c (cgX3_12 (Or.inl q505) dX3_settles_2) <| blk_c (q_R (by decide) (fun _ _ => rfl) (Or.inr ⟨_, nq426⟩) dX3_settles_5) <| blk_c (q_SzC (lw_F q1193 q803 q805 q136 q807) (by decide) dX3_settles_8) <| blk_c (s_ishl dX3_settles_13) <| blk_c (s_iconst dX3_settles_14 (by decide +kernel)) <| blk_c (s_isub dX3_settles_15) <| blk_c (s_istore_n dX3_settles_16 rfl (by decide)) <| blk_c (s_aload_n dX3_settles_17 rfl) <| blk_c (cgX3_3 (Or.inl q493) dX3_settles_18) <| blk_c (s_iconst dX3_settles_21 (by decide +kernel)) <| blk_nil
theorem bX3_settles_25 : Blk CP mX3_settles 25 30 [oAL 0, cR 3 4 34, oC (nI 0)] := blk_c (s_aload_n dX3_settles_25 rfl) <| blk_c (cgX3_4 (Or.inl q494) dX3_settles_26) <| blk_c (s_iconst dX3_settles_29 (by decide +kernel)) <| blk_nil
theorem bX3_settles_33 : Blk CP mX3_settles 33 35 [oC (nI 1), oIS 3] := blk_c (s_iconst dX3_settles_33 (by decide +kernel)) <| blk_c (s_istore_n dX3_settles_34 rfl (by decide)) <| blk_nil
theorem bX3_settles_35 : Blk CP mX3_settles 35 36 [oIL 3] := blk_c (s_iload_n dX3_settles_35 rfl) <| blk_nil
theorem bX3_settles_39 : Blk CP mX3_settles 39 41 [oAL 0, oIL 1] := blk_c (s_aload_n dX3_settles_39 rfl) <| blk_c (s_iload_n dX3_settles_40 rfl) <| blk_nil
theorem bX3_settles_47 : Blk CP mX3_settles 47 39 [.inl (fun s => some s)] := blk_c (s_goto (tgt := 39) dX3_settles_47 (by decide)) <| blk_nil
theorem bX3_settles_50 : Blk CP mX3_settles 50 55 [oC (nI 0), oIS 3, oC (nI 0), oIS 4] := blk_c (s_iconst dX3_settles_50 (by decide +kernel)) <| blk_c (s_istore_n dX3_settles_51 rfl (by decide)) <| blk_c (s_iconst dX3_settles_52 (by decide +kernel)) <| blk_c (s_istore dX3_settles_53 (by decide)) <| blk_nil
theorem bX3_settles_55 : Blk CP mX3_settles 55 69 [oIL 4, oAL 0, cQ1, qR 1 1 2, qSzP 1] := blk_c (s_iload dX3_settles_55) <| blk_c (s_aload_n dX3_settles_57 rfl) <| blk_c (cgX3_12 (Or.inl q505) dX3_settles_58) <| blk_c (q_R (by decide) (fun _ _ => rfl) (Or.inr ⟨_, nq430⟩) dX3_settles_61) <| blk_c (q_SzP (lw_F q1193 q803 q805 q136 q807) (by decide) dX3_settles_64) <| blk_nil
theorem bX3_settles_72 : Blk CP mX3_settles 72 73 [oIL 3] := blk_c (s_iload_n dX3_settles_72 rfl) <| blk_nil
theorem bX3_settles_76 : Blk CP mX3_settles 76 84 [oAL 0, cR 3 3 33, oIL 4, cAI 33 8, oIL 2] := blk_c (s_aload_n dX3_settles_76 rfl) <| blk_c (cgX3_3 (Or.inl q493) dX3_settles_77) <| blk_c (s_iload dX3_settles_80) <| blk_c (c_iald (fun _ => rfl) dX3_settles_82) <| blk_c (s_iload_n dX3_settles_83 rfl) <| blk_nil
theorem bX3_settles_87 : Blk CP mX3_settles 87 111 [.inl (fun s => some s)] := blk_c (s_goto (tgt := 111) dX3_settles_87 (by decide)) <| blk_nil
theorem bX3_settles_90 : Blk CP mX3_settles 90 108 [oC (nI 1), oIS 3, oAL 0, oIL 4, oAL 0, cR 3 3 33, oIL 4, cAI 33 8, oC (-1), oXor, oS_I pNtz ntzI, oIL 1] := blk_c (s_iconst dX3_settles_90 (by decide +kernel)) <| blk_c (s_istore_n dX3_settles_91 rfl (by decide)) <| blk_c (s_aload_n dX3_settles_92 rfl) <| blk_c (s_iload dX3_settles_93) <| blk_c (s_aload_n dX3_settles_95 rfl) <| blk_c (cgX3_3 (Or.inl q493) dX3_settles_96) <| blk_c (s_iload dX3_settles_99) <| blk_c (c_iald (fun _ => rfl) dX3_settles_101) <| blk_c (s_iconst dX3_settles_102 (by decide +kernel)) <| blk_c (s_ixor dX3_settles_103) <| blk_c (s_S_I ok_sJ14_numberOfTrailingZeros (fun _ _ _ h => h.1.1) (Or.inl (lw_S q1283 q1284 q162 q1285)) hy_J14_numberOfTrailingZeros (by decide) dX3_settles_104) <| blk_c (s_iload_n dX3_settles_107 rfl) <| blk_nil
theorem bX3_settles_111 : Blk CP mX3_settles 111 55 [oInc 4 1, .inl (fun s => some s)] := blk_c (s_iinc dX3_settles_111 (by decide +kernel) (by decide)) <| blk_c (s_goto (tgt := 55) dX3_settles_114 (by decide)) <| blk_nil
theorem bX3_settles_117 : Blk CP mX3_settles 117 35 [.inl (fun s => some s)] := blk_c (s_goto (tgt := 35) dX3_settles_117 (by decide)) <| blk_nil
theorem bX3_settles_120 : Blk CP mX3_settles 120 123 [oC (nI 0), oIS 4] := blk_c (s_iconst dX3_settles_120 (by decide +kernel)) <| blk_c (s_istore dX3_settles_121 (by decide)) <| blk_nil
theorem bX3_settles_123 : Blk CP mX3_settles 123 137 [oIL 4, oAL 0, cQ1, qR 1 1 2, qSzP 1] := blk_c (s_iload dX3_settles_123) <| blk_c (s_aload_n dX3_settles_125 rfl) <| blk_c (cgX3_12 (Or.inl q505) dX3_settles_126) <| blk_c (q_R (by decide) (fun _ _ => rfl) (Or.inr ⟨_, nq430⟩) dX3_settles_129) <| blk_c (q_SzP (lw_F q1193 q803 q805 q136 q807) (by decide) dX3_settles_132) <| blk_nil
theorem bX3_settles_140 : Blk CP mX3_settles 140 123 [oAL 0, cR 3 0 30, oIL 4, cW 30 50 8, oIL 1, oAL 0, cR 3 4 34, oIL 4, cAI 34 8, cWS 50 8 40 4, oInc 4 1, .inl (fun s => some s)] := blk_c (s_aload_n dX3_settles_140 rfl) <| blk_c (cgX3_0 (Or.inl q483) dX3_settles_141) <| blk_c (s_iload dX3_settles_144) <| blk_c (c_W (t := 8) (ty := .int) (fun _ => rfl) (fun _ _ _ _ _ _ => rfl) dX3_settles_146) <| blk_c (s_iload_n dX3_settles_147 rfl) <| blk_c (s_aload_n dX3_settles_148 rfl) <| blk_c (cgX3_4 (Or.inl q494) dX3_settles_149) <| blk_c (s_iload dX3_settles_152) <| blk_c (c_iald (fun _ => rfl) dX3_settles_154) <| blk_c (c_wiast ar_look dX3_settles_155) <| blk_c (s_iinc dX3_settles_156 (by decide +kernel) (by decide)) <| blk_c (s_goto (tgt := 123) dX3_settles_159 (by decide)) <| blk_nil
theorem ok_settlesC {n0 : Nat} (hO : CrO A sw E v) (hD : DrOk A v) (ht : t < v 6) (en : A 3 14 = nI n0) (hn0 : n0 ≤ 32 * t) : QC X mX3_settles [.ref (ad 3), .int (nI t)] ad A B sk sw E (Q_settlesC A B v t (LO (mcC A (sw 1) t) (v 1) (v 2) (tkC A) t n0 (A 35))) := by
  obtain ⟨hs, hw, -, -⟩ := id hO
  have h8 := hw.np8
  have h4 := hw.nc4
  have h40 := hw.sp40
  have npE := hw.npE
  have ncE := hw.ncE
  generalize hfin : LO (mcC A (sw 1) t) (v 1) (v 2) (tkC A) t n0 (A 35) = os
  generalize hall : (nI 1 <<< (nI (v 1) &&& 31)) - nI 1 = all
  have hK : KEq v (mcC A (sw 1) t) (mcC A (sw 1) t) := KEq.rf hw
  have last : ∀ A', LrC A A' v os.1 os.2.1 os.2.2.1 → (∀ p, p < v 2 → A' 33 p = all) → JS CP X mX3_settles (rmOf mX3_settles.lv 0 0) (ZC X 0 0 (fun r x' => ∃ A' B', x' = (ad, A', B', sk, sw, E) ∧ Q_settlesC A B v t os r A' B')) 0 0 120 [some (.ref (ad 3)), some (.int (nI t)), some (.int all), some (.int (nI 0)), none] [] (ad, A', B, sk, sw, E) := by
    intro A0 hL ha
    refine bX3_settles_120.go rfl trivial ?_
    refine loop_down (N := v 2) (I := fun _ => True) (P := fun p => ∀ A', (∀ j, (j < 50 ∨ 50 + p ≤ j) → A' j = A0 j) → (∀ q, q < p → A' (50 + q) = va_up (A0 (50 + q)) t (A0 34 q)) → JS CP X mX3_settles (rmOf mX3_settles.lv 0 0) (ZC X 0 0 (fun r x' => ∃ A' B', x' = (ad, A', B', sk, sw, E) ∧ Q_settlesC A B v t os r A' B')) 0 0 123 [some (.ref (ad 3)), some (.int (nI t)), some (.int all), some (.int (nI 0)), some (.int (nI p))] [] (ad, A', B, sk, sw, E)) ?_ ?_ 0 (Nat.zero_le _) trivial A0 (fun _ _ => rfl) (fun q hq => by omega)
    · intro _ A' h1 h2
      refine bX3_settles_123.go rfl (by repeat' first | exact trivial | rfl | assumption | omega | apply And.intro) ?_
      rw [npE]
      refine j_icmp_ge (tgt := 162) dX3_settles_137 (by decide) (fun h137 => ?_) (fun h137 => absurd (nI_le (Nat.le_refl _) (by omega)) h137)
      refine c_vret dX3_settles_162 rfl ⟨_, _, rfl, rfl, rfl, fun j a1 a2 a3 a4 a5 => by rw [h1 j a5]; exact hL.1 j a1 a2 a3 a4, fun q hq => by rw [h1 3 (by omega)]; exact hL.2.1 q hq, by rw [h1 3 (by omega)]; exact hL.2.2.1, by rw [h1 35 (by omega)]; exact hL.2.2.2.1, fun p hp => ?_⟩
      rw [h2 p hp, hL.1 (50 + p) (by omega) (by omega) (by omega) (by omega)]
      congr 1
      obtain ⟨a, b, hab, hb, e1, e2, hba⟩ := hL.2.2.2.2.1 p hp
      have hz := (mk_all (v 1) h4 a hab).mp (by rw [← e1, ha p hp, hall])
      have := mk_look (v 1) h4 a hab b hb hz
      rw [e2, ← this]
      refine lookBits_at (v 1) (fun c hc => ?_)
      rw [← hL.2.2.2.2.2 (4 * p + c) (by omega), fA_at A0 (by omega), e1, e2]
      show fSL (nI a) (nI b) ((4 * 0 + c) % 4) = _
      rw [show (4 * 0 + c) % 4 = c by omega]
    · intro p hp _ ih A' h1 h2
      refine bX3_settles_123.go rfl (by repeat' first | exact trivial | rfl | assumption | omega | apply And.intro) ?_
      rw [npE]
      refine j_icmp_ge (tgt := 162) dX3_settles_137 (by decide) (fun h137 => ?_) (fun h137 => ?_)
      · rw [nI_leI (by omega) (by omega)] at h137; omega
      · refine bX3_settles_140.go rfl (by (try simp (disch := omega) only [nI_add, pk_mul, pk_sub, nI_clamp, vpI]); repeat' first | exact trivial | rfl | assumption | omega | apply And.intro) ?_
        simp (disch := omega) only [nI_clamp, nI_1]
        refine ih trivial _ (fun j hj => by rw [upA_ne (by omega)]; exact h1 j (by omega)) (fun q hq => ?_)
        by_cases e : q = p
        · subst e
          rw [show upA A' (50 + q) t _ (50 + q) = va_up (A' (50 + q)) t _ from va_up_self _ _ _, h1 (50 + q) (by omega), h1 34 (by omega)]
        · rw [upA_ne (by omega)]; exact h2 q (by omega)
  have sl : ∀ g A' F on od, LrC A A' v F on od → cntU F 32 < g → (∀ A2, LrC A A2 v (stl (mcC A (sw 1) t) (v 1) (v 2) g F) on od → JS CP X mX3_settles (rmOf mX3_settles.lv 0 0) (ZC X 0 0 (fun r x' => ∃ A' B', x' = (ad, A', B', sk, sw, E) ∧ Q_settlesC A B v t os r A' B')) 0 0 50 [some (.ref (ad 3)), some (.int (nI t)), some (.int all), some (.int (nI 1)), none] [] (ad, A2, B, sk, sw, E)) → JS CP X mX3_settles (rmOf mX3_settles.lv 0 0) (ZC X 0 0 (fun r x' => ∃ A' B', x' = (ad, A', B', sk, sw, E) ∧ Q_settlesC A B v t os r A' B')) 0 0 39 [some (.ref (ad 3)), some (.int (nI t)), some (.int all), some (.int (nI 1)), none] [] (ad, A', B, sk, sw, E) := by
    intro g
    induction g with
    | zero => intro A' F on od _ h; omega
    | succ g ihg =>
      intro A' F on od hL hc kk
      refine bX3_settles_39.go rfl trivial ?_
      refine cq (M' := mX3_settlesSome) (As := [.int (nI t)]) (nA := 1) (ok_settlesSome (hL.cro hO) (hL.dr hD) hL.2.2.2.2.1 ht) rec3 rfl (lw_V q1229 q1231 qs38 q137 q1232) dX3_settles_41 rfl hy_X3_settlesSome (fun r A1 B1 q => ?_)
      obtain ⟨rfl, rfl, q1, q2, q3⟩ := q
      rw [hL.mc] at q3
      have hps := psP_congr hK h8 h4 (s := (fA A', false)) (t := (F, false)) ⟨hL.2.2.2.2.2, rfl⟩ (v 2) (Nat.le_refl _)
      have hL1 : LrC A A1 v (psP (mcC A (sw 1) t) (v 1) (v 2) (F, false)).1 on od := ⟨fun j a b c d => (q1 j a b).trans (hL.1 j a b c d), fun q hq => by rw [q1 3 (by decide) (by decide)]; exact hL.2.1 q hq, by rw [q1 3 (by decide) (by decide)]; exact hL.2.2.1, by rw [q1 35 (by decide) (by decide)]; exact hL.2.2.2.1, q2, fun k hk => (q3 k hk).trans (hps.1 k hk)⟩
      have ok := psP_ok (mcC A (sw 1) t) h4 (n := 32) (F := F) (v 2) (by omega)
      rw [hL.mc, show (psP (mcC A (sw 1) t) (v 1) (v 2) (fA A', false)).2 = (psP (mcC A (sw 1) t) (v 1) (v 2) (F, false)).2 from hps.2]
      rw [stl] at kk
      refine j_if_eq (tgt := 50) dX3_settles_44 (by decide) (fun h44 => ?_) (fun h44 => ?_)
      · rw [b2_0] at h44
        rw [if_neg (by rw [h44]; decide)] at kk
        exact kk A1 hL1
      · rw [b2_n0] at h44
        rw [if_pos h44] at kk
        refine bX3_settles_47.go rfl trivial ?_
        rcases ok with ⟨z, -⟩ | ⟨-, z⟩
        · rw [h44] at z; cases z
        · exact ihg A1 _ on od hL1 (by omega) kk
  have main : ∀ f A' F on od op, LrC A A' v F on od → cntU (stl (mcC A (sw 1) t) (v 1) (v 2) 33 F) 32 < f → on + cntU (stl (mcC A (sw 1) t) (v 1) (v 2) 33 F) 32 ≤ n0 + 32 → opL (mcC A (sw 1) t) (v 1) (v 2) (tkC A) t f (stl (mcC A (sw 1) t) (v 1) (v 2) 33 F, on, od, op) = os → JS CP X mX3_settles (rmOf mX3_settles.lv 0 0) (ZC X 0 0 (fun r x' => ∃ A' B', x' = (ad, A', B', sk, sw, E) ∧ Q_settlesC A B v t os r A' B')) 0 0 39 [some (.ref (ad 3)), some (.int (nI t)), some (.int all), some (.int (nI 1)), none] [] (ad, A', B, sk, sw, E) := by
    intro f
    induction f with
    | zero => intro A' F on od op _ h; omega
    | succ f ihf =>
      intro A' F on od op hL hc hon hop
      refine sl 33 A' F on od hL (by have := cntU_le F 32; omega) (fun A2 hL2 => ?_)
      generalize stl (mcC A (sw 1) t) (v 1) (v 2) 33 F = S at hL2 hc hon hop
      refine bX3_settles_50.go rfl trivial ?_
      simp only [opL] at hop
      refine loop_down (N := v 2) (I := fun p => fuP (vf S) (v 1) (v 2) 0 = fuP (vf S) (v 1) (v 2 - p) p ∧ ∀ q, q < p → A2 33 q = all) (P := fun p => JS CP X mX3_settles (rmOf mX3_settles.lv 0 0) (ZC X 0 0 (fun r x' => ∃ A' B', x' = (ad, A', B', sk, sw, E) ∧ Q_settlesC A B v t os r A' B')) 0 0 55 [some (.ref (ad 3)), some (.int (nI t)), some (.int all), some (.int (nI 0)), some (.int (nI p))] [] (ad, A2, B, sk, sw, E)) ?_ ?_ 0 (Nat.zero_le _) ⟨rfl, fun q hq => by omega⟩
      · rintro ⟨hI, hA⟩
        refine bX3_settles_55.go rfl (by repeat' first | exact trivial | rfl | assumption | omega | apply And.intro) ?_
        rw [npE]
        refine j_icmp_ge (tgt := 117) dX3_settles_69 (by decide) (fun h69 => ?_) (fun h69 => absurd (nI_le (Nat.le_refl _) (by omega)) h69)
        refine bX3_settles_117.go rfl trivial ?_
        refine bX3_settles_35.go rfl trivial ?_
        refine j_if_eq (tgt := 120) dX3_settles_36 (by decide) (fun h36 => ?_) (fun h36 => absurd rfl h36)
        rw [hI, Nat.sub_self] at hop
        simp only [fuP] at hop
        subst hop
        exact JS.weak (by simp [lsub]) (last A2 hL2 hA)
      · rintro p hp ⟨hI, hA⟩ ih
        obtain ⟨a, b, hab, hb, e1, e2, hba⟩ := hL2.2.2.2.2.1 p hp
        have eS : ∀ c, c < v 1 → (vf S p c = -1 ↔ bitI (nI a) c = false) := fun c hc => by
          show S (4 * p + c) = -1 ↔ _
          rw [← hL2.2.2.2.2.2 (4 * p + c) (by omega), fA_at A2 (by omega), fSL_n1, e1]
        rw [fuP_s hp] at hI
        refine bX3_settles_55.go rfl (by repeat' first | exact trivial | rfl | assumption | omega | apply And.intro) ?_
        rw [npE]
        refine j_icmp_ge (tgt := 117) dX3_settles_69 (by decide) (fun h69 => ?_) (fun h69 => ?_)
        · rw [nI_leI (by omega) (by omega)] at h69; omega
        · refine bX3_settles_72.go rfl trivial ?_
          refine j_if_ne (tgt := 117) dX3_settles_73 (by decide) (fun h73 => absurd rfl h73) (fun h73 => ?_)
          refine bX3_settles_76.go rfl (by (try simp (disch := omega) only [nI_add, pk_mul, pk_sub, nI_clamp, vpI]); repeat' first | exact trivial | rfl | assumption | omega | apply And.intro) ?_
          rw [nI_clamp (by omega), e1]
          refine j_icmp_ne (tgt := 90) dX3_settles_84 (by decide) (fun h84 => ?_) (fun h84 => ?_)
          · obtain ⟨a15, hc4, hz, hb0, hbd⟩ := mk_ntz (v 1) h4 a hab (by rw [hall]; exact h84)
            generalize (ntzI (nI a ^^^ -1)).toNatClampNeg = c at hc4 hz hb0 hbd
            have hfu : fuC (vf S) p (v 1) 0 = some (4 * p + c) := fuC_at (v 1) 0 (Nat.zero_le _) (by omega) ((eS c hc4).mpr hb0) (fun d _ hd q => absurd (hbd d hd) (by rw [(eS d (by omega)).mp q]; decide))
            rw [hfu] at hI
            rw [hI] at hop
            have hu : S (4 * p + c) = -1 := (eS c hc4).mpr hb0
            have hx : ¬ b2 (tkC A on) = -1 := by cases tkC A on <;> decide
            have hcnt := cntU_up (x := b2 (tkC A on)) hu hx 32
            rw [if_pos (by omega)] at hcnt
            have hle := stl_cnt (mcC A (sw 1) t) h4 h8 33 (va_up S (4 * p + c) (b2 (tkC A on)))
            have hon2 : on < 1280 := by omega
            refine bX3_settles_90.go rfl (by simp (disch := omega) only [nI_clamp, vpI, e1]; exact ⟨trivial, ⟨trivial, by omega⟩, ⟨a, a15, rfl⟩, trivial⟩) ?_
            simp (disch := omega) only [nI_clamp, e1, hz]
            refine cq (M' := mX3_takes) (As := [.int (nI p), .int (nI c), .int (nI t)]) (nA := 3) (ok_takesC (by omega) (by omega) (by omega) hon2 hL2.2.2.1) rec3 rfl (lw_V q1287 q1289 qs41 q137 q1290) dX3_settles_108 rfl hy_X3_takes (fun r A3 B3 q => ?_)
            obtain ⟨rfl, hB3, rfl⟩ := q
            have hB3 := hB3.symm
            subst hB3
            obtain ⟨m1, m2⟩ := hL2.2.2.2.2.1.is (y := tkC A2 on) h4 hp hc4 (by rw [fA_at A2 (by omega), fSL_n1, e1]; exact hb0)
            have hL3 : LrC A (isA (upA (upA A2 35 on (nI (100 * t + 10 * p + c))) 3 14 (nI (on + 1))) p c (tkC A2 on)) v (va_up S (4 * p + c) (b2 (tkC A on))) (on + 1) (va_up od on (nI (100 * t + 10 * p + c))) := by
              have sw33 : ∀ j, j = 33 ∨ j = 34 → isA (upA (upA A2 35 on (nI (100 * t + 10 * p + c))) 3 14 (nI (on + 1))) p c (tkC A2 on) j = isA A2 p c (tkC A2 on) j := by
                intro j hj
                have y33 : upA (upA A2 35 on (nI (100 * t + 10 * p + c))) 3 14 (nI (on + 1)) 33 = A2 33 := by rw [upA_ne (by decide), upA_ne (by decide)]
                have y34 : upA (upA A2 35 on (nI (100 * t + 10 * p + c))) 3 14 (nI (on + 1)) 34 = A2 34 := by rw [upA_ne (by decide), upA_ne (by decide)]
                generalize upA (upA A2 35 on (nI (100 * t + 10 * p + c))) 3 14 (nI (on + 1)) = Y at y33 y34
                rcases hj with rfl | rfl
                · rw [isA, isA, upA_ne (show (33 : Nat) ≠ 34 by decide), upA_ne (show (33 : Nat) ≠ 34 by decide), upA_s, upA_s, y33]
                · rw [isA, isA, upA_s, upA_s, upA_ne (show (34 : Nat) ≠ 33 by decide), upA_ne (show (34 : Nat) ≠ 33 by decide), y34]
              refine ⟨fun j a1 a2 a3 a4 => by rw [isA, upA_ne a2, upA_ne a1, upA_ne a3, upA_ne a4]; exact hL2.1 j a1 a2 a3 a4, fun q hq => ?_, ?_, ?_, fun q hq => ?_, fun k hk => ?_⟩
              · rw [isA, upA_ne (by decide), upA_ne (by decide), upA_at, if_neg hq, upA_ne (by decide)]; exact hL2.2.1 q hq
              · rw [isA, upA_ne (by decide), upA_ne (by decide), upA_at, if_pos rfl]
              · rw [isA, upA_ne (by decide), upA_ne (by decide), upA_ne (by decide)]
                unfold upA
                rw [va_up_self, hL2.2.2.2.1]
              · rw [sw33 33 (Or.inl rfl), sw33 34 (Or.inr rfl)]; exact m1 q hq
              · have e := m2 k
                rw [hL2.tk] at e
                rw [hL2.tk] at sw33 ⊢
                unfold fA at e ⊢
                rw [sw33 33 (Or.inl rfl), sw33 34 (Or.inr rfl), e]
                exact E32.up hL2.2.2.2.2.2 _ _ k hk
            have next := ihf _ (va_up S (4 * p + c) (b2 (tkC A on))) (on + 1) _ _ hL3 (by omega) (by omega) (by
              rw [← hop]
              simp only [open1]
              rw [show (4 * p + c) / 4 = p by omega, show (4 * p + c) % 4 = c by omega])
            refine bX3_settles_111.go rfl trivial ?_
            rw [nI_1]
            refine bX3_settles_55.go rfl (by repeat' first | exact trivial | rfl | assumption | omega | apply And.intro) ?_
            rw [npE]
            have tail : JS CP X mX3_settles (rmOf mX3_settles.lv 0 0) (ZC X 0 0 (fun r x' => ∃ A' B', x' = (ad, A', B', sk, sw, E) ∧ Q_settlesC A B v t os r A' B')) 0 0 117 [some (.ref (ad 3)), some (.int (nI t)), some (.int all), some (.int (nI 1)), some (.int (nI (p + 1)))] [] (ad, isA (upA (upA A2 35 on (nI (100 * t + 10 * p + c))) 3 14 (nI (on + 1))) p c (tkC A2 on), B, sk, sw, E) := by
              refine bX3_settles_117.go rfl trivial ?_
              refine bX3_settles_35.go rfl trivial ?_
              refine j_if_eq (tgt := 120) dX3_settles_36 (by decide) (fun h36 => absurd h36 (by decide)) (fun h36 => ?_)
              exact JS.weak (by simp [lsub]) next
            refine j_icmp_ge (tgt := 117) dX3_settles_69 (by decide) (fun _ => tail) (fun _ => ?_)
            refine bX3_settles_72.go rfl trivial ?_
            exact j_if_ne (tgt := 117) dX3_settles_73 (by decide) (fun _ => tail) (fun h73 => absurd h73 (by decide))
          · have hz := (mk_all (v 1) h4 a hab).mp (by rw [hall]; exact h84)
            have hfu : fuC (vf S) p (v 1) 0 = none := fuC_none (v 1) 0 (fun k _ hk q => absurd (hz k (by omega)) (by rw [(eS k (by omega)).mp q]; decide))
            rw [hfu] at hI
            refine bX3_settles_87.go rfl trivial ?_
            refine bX3_settles_111.go rfl trivial ?_
            rw [nI_1]
            exact ih ⟨hI, fun q hq => by
              by_cases e : q = p
              · rw [e, e1]; exact h84
              · exact hA q (by omega)⟩
  refine C_start (L := [some (.ref (ad 3)), some (.int (nI t)), none, none, none]) 3 rfl ?_
  refine bX3_settles_0.go rfl (by repeat' first | exact trivial | rfl | assumption | omega | apply And.intro) ?_
  rw [ncE, hall]
  refine c_fill (N := 8) rfl (by decide) dX3_settles_22 (lw_S q1159 q1110 q152 q1111) (by decide) (fun g1 hg1 => ?_)
  refine bX3_settles_25.go rfl (by repeat' first | exact trivial | rfl | assumption | omega | apply And.intro) ?_
  refine c_fill (N := 8) rfl (by decide) dX3_settles_30 (lw_S q1159 q1110 q152 q1111) (by decide) (fun g2 hg2 => ?_)
  refine bX3_settles_33.go rfl trivial ?_
  refine bX3_settles_35.go rfl trivial ?_
  refine j_if_eq (tgt := 120) dX3_settles_36 (by decide) (fun h36 => absurd h36 (by decide)) (fun h36 => ?_)
  have hL0 : LrC A (va_up (va_up A 33 g1) 34 g2) v (fun _ => -1) n0 (A 35) := by
    refine ⟨fun j a1 a2 a3 a4 => by rw [va_up_ne _ _ a2, va_up_ne _ _ a1], fun q hq => by rw [va_up_ne _ _ (by decide), va_up_ne _ _ (by decide)], by rw [va_up_ne _ _ (by decide), va_up_ne _ _ (by decide)]; exact en, by rw [va_up_ne _ _ (by decide), va_up_ne _ _ (by decide)], fun p hp => ⟨0, 0, Nat.two_pow_pos _, Nat.two_pow_pos _, by rw [va_up_ne _ _ (by decide), va_up_self, hg1 p (by omega)], by rw [va_up_self, hg2 p (by omega)], rfl⟩, fun k hk => ?_⟩
    unfold fA
    rw [fSL_n1, va_up_ne _ _ (by decide), va_up_self, hg1 (k / 4) (by omega)]
    have : ∀ c, c < 4 → bitI (nI 0) c = false := by decide
    exact this _ (by omega)
  refine main 33 _ _ n0 (A 35) (fun _ => nI 0) hL0 ?_ ?_ hfin
  · have := cntU_le (stl (mcC A (sw 1) t) (v 1) (v 2) 33 fun _ => -1) 32; omega
  · have := cntU_le (stl (mcC A (sw 1) t) (v 1) (v 2) 33 fun _ => -1) 32; omega
end Set3
