set_option maxRecDepth 100000
/-! ===== the looks of a minute are small; UnseenClock$Seen ===== -/
theorem fuCn {V : Nat → Nat → Int32} {p : Nat} : ∀ n c, fuC V p n c = none → ∀ k, c ≤ k → k < c + n → ¬ V p k = -1 := by
  intro n
  induction n with
  | zero => intro c _ k h1 h2; omega
  | succ n ih =>
    intro c h k h1 h2
    simp only [fuC] at h
    split at h
    · cases h
    · rename_i hv
      by_cases e : k = c
      · subst e; exact hv
      · exact ih (c + 1) h k (by omega) (by omega)
theorem fuPn {V : Nat → Nat → Int32} {nc : Nat} : ∀ n p, fuP V nc n p = none → ∀ q, p ≤ q → q < p + n → ∀ c, c < nc → ¬ V q c = -1 := by
  intro n
  induction n with
  | zero => intro p _ q h1 h2; omega
  | succ n ih =>
    intro p h q h1 h2 c hc
    simp only [fuP] at h
    split at h
    · cases h
    · rename_i hv
      by_cases e : q = p
      · subst e; exact fuCn nc 0 hv c (by omega) (by omega)
      · exact ih (p + 1) h q (by omega) (by omega) c hc
theorem ev3a (K : MC) (V : Nat → Nat → Int32) (p c : Nat) : V3 (evV K V p c) := by
  unfold evV V3
  split
  · exact Or.inr (Or.inl rfl)
  · split
    · exact Or.inr (Or.inr rfl)
    · split
      · exact Or.inl rfl
      · exact Or.inr (Or.inl rfl)
def T3 (F : Nat → Int32) : Prop := ∀ k, V3 (F k)
theorem T3.up {F : Nat → Int32} (h : T3 F) (k : Nat) {x : Int32} (hx : V3 x) : T3 (va_up F k x) := by
  intro j
  by_cases e : j = k
  · subst e; rw [va_up_self]; exact hx
  · rw [va_up_ne _ _ e]; exact h j
theorem T3.st1 {K : MC} {p c : Nat} {s : PS} (h : T3 s.1) : T3 (st1 K p c s).1 := by
  unfold Jvm.Pilot.CUnseenClockLaw_law_r9448_001792.st1
  split
  · exact h.up _ (ev3a _ _ _ _)
  · exact h
theorem T3.psC {K : MC} {p : Nat} {s : PS} (h : T3 s.1) : ∀ c, T3 (psC K p c s).1 := by
  intro c
  induction c with
  | zero => exact h
  | succ c ih => exact ih.st1
theorem T3.psP {K : MC} {nc : Nat} {s : PS} (h : T3 s.1) : ∀ p, T3 (psP K nc p s).1 := by
  intro p
  induction p with
  | zero => exact h
  | succ p ih => exact ih.psC nc
theorem T3.stl {K : MC} {nc np : Nat} : ∀ f F, T3 F → T3 (stl K nc np f F) := by
  intro f
  induction f with
  | zero => intro F h; exact h
  | succ f ih =>
    intro F h
    have h1 : T3 (Jvm.Pilot.CUnseenClockLaw_law_r9448_001792.psP K nc np (F, false)).1 := T3.psP (s := (F, false)) h np
    simp only [Jvm.Pilot.CUnseenClockLaw_law_r9448_001792.stl]
    split
    · exact ih _ h1
    · exact h1
theorem opL_end (K : MC) {nc np : Nat} (hc : nc ≤ 4) (hp : np ≤ 8) (tk : Nat → Bool) (m : Nat) : ∀ f s, T3 s.1 → cntU s.1 32 < f → T3 (opL K nc np tk m f s).1 ∧ fuP (vf (opL K nc np tk m f s).1) nc np 0 = none := by
  intro f
  induction f with
  | zero => intro s _ h; omega
  | succ f ih =>
    intro s h3 h
    simp only [opL]
    split
    · rename_i hk; exact ⟨h3, hk⟩
    · rename_i k hk
      obtain ⟨p, c, h1, h2, rfl, h4⟩ := fuP_some np 0 hk
      have hx : ¬ b2 (tk s.2.1) = -1 := by cases tk s.2.1 <;> decide
      have hcnt := cntU_up (F := s.1) (x := b2 (tk s.2.1)) h4 hx 32
      rw [if_pos (by omega)] at hcnt
      have hle := stl_cnt K hc hp 33 (va_up s.1 (4 * p + c) (b2 (tk s.2.1)))
      refine ih _ ?_ ?_
      · exact T3.stl 33 _ (h3.up _ (V3.b2 _))
      · show cntU (stl K nc np 33 (va_up s.1 (4 * p + c) (b2 (tk s.2.1)))) 32 < f
        omega
theorem lb_s : ∀ n, n < 4 → ∀ b, b < 2 ^ n → ∀ f, f < 2 → (nI b ||| (nI f <<< (nI n &&& 31))) = nI (b + f * 2 ^ n) := by decide +kernel
theorem lb_b {F : Nat → Int32} {p : Nat} : ∀ n, n ≤ 4 → (∀ c, c < n → F (4 * p + c) = nI 0 ∨ F (4 * p + c) = nI 1) → ∃ b, b < 2 ^ n ∧ lookBits F p n = nI b := by
  intro n
  induction n with
  | zero => intro _ _; exact ⟨0, by decide, rfl⟩
  | succ n ih =>
    intro hn h
    obtain ⟨b, hb, e⟩ := ih (by omega) (fun c hc => h c (by omega))
    have h2 : 2 ^ (n + 1) = 2 ^ n + 2 ^ n := by rw [Nat.pow_succ]; omega
    simp only [lookBits]
    rw [e]
    rcases h n (by omega) with q | q <;> rw [q]
    · exact ⟨b + 0 * 2 ^ n, by omega, lb_s n (by omega) b hb 0 (by decide)⟩
    · exact ⟨b + 1 * 2 ^ n, by omega, lb_s n (by omega) b hb 1 (by decide)⟩
theorem mL_b {cf : CF} {v : Nat → Nat} (hw : WOk cf.1 v) {m p : Nat} (r : RS) (hp : p < v 2) : ∃ b, b < 2 ^ v 1 ∧ minL cf m r p = nI b := by
  have h4 := hw.nc4
  have h8 := hw.np8
  have e1 := hw.ncE
  have e2 := hw.npE
  unfold minL
  rw [e1]
  have hcn := cntU_le (stl (KS cf.1 r.lp r.sp m cf.2.2.2 r.z) (nC cf.1) (nP cf.1) 33 (fun _ => -1)) 32
  obtain ⟨a1, a2⟩ := opL_end (KS cf.1 r.lp r.sp m cf.2.2.2 r.z) (nc := nC cf.1) (np := nP cf.1) (by omega) (by omega) cf.2.2.1 m 33 (stl (KS cf.1 r.lp r.sp m cf.2.2.2 r.z) (nC cf.1) (nP cf.1) 33 (fun _ => -1), r.on, r.od, fun _ => nI 0) (T3.stl 33 _ (fun _ => Or.inl rfl)) (by simp only; omega)
  refine lb_b (v 1) h4 (fun c hc => ?_)
  have hne := fuPn (nP cf.1) 0 a2 p (by omega) (by omega) c (by omega)
  rcases a1 (4 * p + c) with q | q | q
  · exact absurd q hne
  · exact Or.inl q
  · exact Or.inr q
/-- a byte that was stored -/
def bt (x : Int32) : Int32 := vp_nar .byte x.toInt8.toInt32
theorem bt_s : ∀ b, b < 60 → bt (nI b) = nI b := by decide +kernel
theorem bt_hi : ∀ c, c < 4 → ∀ b, b < 2 ^ c → bitI (nI b) c = false := by decide +kernel
section Seen
variable {X : Cx} {M M' : MD} {R : Room} {Z : ZT} {k n pc idx i : Nat} {L : List (Option Value)} {st : List Value} {ad : Nat → Nat} {A : Nat → Nat → Int32} {B : Nat → Nat → Int64} {sk : Nat → Nat → Nat} {sw : Nat → Nat → Int32} {E : Nat → Nat} {v : Nat → Nat} {h : AH}
theorem arrS1 (hi : i < E 0) : arrK E (101 + 3 * i) = some (164, 2) := by
  unfold arrK
  rw [if_neg (by omega), if_neg (by omega), if_neg (by omega), if_neg (by omega), if_neg (by omega), if_neg (by omega), if_neg (by omega), if_pos (by omega), if_pos (by omega)]
theorem arrS2 (hi : i < E 0) : arrK E (102 + 3 * i) = some (320, 2) := by
  unfold arrK
  rw [if_neg (by omega), if_neg (by omega), if_neg (by omega), if_neg (by omega), if_neg (by omega), if_neg (by omega), if_neg (by omega), if_pos (by omega), if_neg (by omega), if_pos (by omega)]
theorem arrS0 : arrK E (100 + 3 * i) = none := by
  unfold arrK
  rw [if_neg (by omega), if_neg (by omega), if_neg (by omega), if_neg (by omega), if_neg (by omega), if_neg (by omega), if_neg (by omega)]
  split
  · rw [if_neg (by omega), if_neg (by omega)]
  · rfl
theorem celS0 (hi : i < E 0) {a : Nat → Int32} {b : Nat → Int64} : celK X ad sk E (100 + 3 * i) a b = some (.inr (16, [.ref (ad (101 + 3 * i)), .ref (ad (102 + 3 * i))])) := by
  unfold celK
  rw [arrS0]
  simp only
  unfold celO
  rw [if_neg (by omega), if_pos ⟨by omega, by omega, by omega⟩, show 100 + 3 * i + 1 = 101 + 3 * i by omega, show 100 + 3 * i + 2 = 102 + 3 * i by omega]
theorem CP.seen (hp : CP X (ad, A, B, sk, sw, E) h) (hi : i < E 0) : h (ad (100 + 3 * i)) = some (.inr (16, [.ref (ad (101 + 3 * i)), .ref (ad (102 + 3 * i))])) := hp.at (100 + 3 * i) (celS0 hi)
theorem recS (hi : i < E 0) : ∀ h, CP X (ad, A, B, sk, sw, E) h → ∃ fs, h (ad (100 + 3 * i)) = some (.inr (16, fs)) := fun _ hp => ⟨_, hp.seen hi⟩
theorem js_snB (hi : i < E 0) (hl : Cond.fieldLink M.y.cls idx (TX16 0).1 (TX16 0).2.1 (TX16 0).2.2.1 ∈ lw_all) (hd : decode M.cc pc = .ok (.getfield idx, 3)) (kk : JS CP X M R Z k n (pc + 3) L (.ref (ad (101 + 3 * i)) :: st) (ad, A, B, sk, sw, E)) : JS CP X M R Z k n pc L (.ref (ad (100 + 3 * i)) :: st) (ad, A, B, sk, sw, E) :=
  fun h hp => J.getf (f := 0) clsX16 rfl (hp.seen hi) (by decide) rfl hl hd (kk h hp)
theorem js_snL (hi : i < E 0) (hl : Cond.fieldLink M.y.cls idx (TX16 1).1 (TX16 1).2.1 (TX16 1).2.2.1 ∈ lw_all) (hd : decode M.cc pc = .ok (.getfield idx, 3)) (kk : JS CP X M R Z k n (pc + 3) L (.ref (ad (102 + 3 * i)) :: st) (ad, A, B, sk, sw, E)) : JS CP X M R Z k n pc L (.ref (ad (100 + 3 * i)) :: st) (ad, A, B, sk, sw, E) :=
  fun h hp => J.getf (f := 1) clsX16 rfl (hp.seen hi) (by decide) rfl hl hd (kk h hp)
theorem js_bld {q N j : Nat} (ha : arrK E q = some (N, 2)) (hj : j < N) (hN : N < 100000) (hd : decode M.cc pc = .ok (.baload, 1)) (kk : JS CP X M R Z k n (pc + 1) L (.int (A q j) :: st) (ad, A, B, sk, sw, E)) : JS CP X M R Z k n pc L (.int (nI j) :: .ref (ad q) :: st) (ad, A, B, sk, sw, E) := by
  intro h hp
  refine J.bald (hp.at q (celK_arr ha)) ((vpI (by omega)).mpr hj) hd ?_
  rw [nI_clamp (by omega)]
  exact kk h hp
theorem js_bst {q N j : Nat} {x : Int32} (ha : arrK E q = some (N, 2)) (hj : j < N) (hN : N < 100000) (hd : decode M.cc pc = .ok (.bastore, 1)) (kk : JS CP X M R Z k n (pc + 1) L st (ad, upA A q j (vp_nar .byte x), B, sk, sw, E)) : JS CP X M R Z k n pc L (.int x :: .int (nI j) :: .ref (ad q) :: st) (ad, A, B, sk, sw, E) := by
  intro h hp
  refine J.bast (hp.at q (celK_arr ha)) ((vpI (by omega)).mpr hj) hd ?_
  rw [nI_clamp (by omega)]
  refine kk _ (hp.upd (k := q) (fun z hz => upA_ne hz) (fun _ _ => rfl) ?_)
  rw [celK_arr ha]
  show some (Sum.inl (X.dA 2, N, Sum.inl (upA A q j (vp_nar .byte x) q))) = _
  rw [upA, va_up_self]; rfl
theorem bX16_shows_0 : Blk CP mX16_shows 0 1 [oAL 0] := blk_c (s_aload_n dX16_shows_0 rfl) <| blk_nil
theorem bX16_shows_4 : Blk CP mX16_shows 4 10 [oC (nI 41), oIL 1, oMul, oIL 2, oAdd] := blk_c (s_bipush dX16_shows_4 (by decide +kernel)) <| blk_c (s_iload_n dX16_shows_6 rfl) <| blk_c (s_imul dX16_shows_7) <| blk_c (s_iload_n dX16_shows_8 rfl) <| blk_c (s_iadd dX16_shows_9) <| blk_nil
theorem ok_snShows (hi : i < E 0) {c t : Nat} (hc : c < 4) (ht : t ≤ 40) : RCc X mX16_shows 0 0 [.ref (ad (100 + 3 * i)), .int (nI c), .int (nI t)] (ad, A, B, sk, sw, E) (fun r x' => r = some (.int (A (101 + 3 * i) (41 * c + t))) ∧ x' = (ad, A, B, sk, sw, E)) := by
  refine C_start (L := [some (.ref (ad (100 + 3 * i))), some (.int (nI c)), some (.int (nI t))]) 0 rfl ?_
  refine bX16_shows_0.go rfl trivial ?_
  refine js_snB hi q1365 dX16_shows_1 ?_
  refine bX16_shows_4.go rfl trivial ?_
  rw [pk_mul, nI_add]
  refine js_bld (arrS1 hi) (by omega) (by decide) dX16_shows_10 ?_
  exact c_iret dX16_shows_11 rfl ⟨rfl, rfl⟩
/-- what a course leaves in a Seen -/
def BecA (A A' : Nat → Nat → Int32) (i m : Nat) : Prop := (∀ j, j ≠ 101 + 3 * i → j ≠ 102 + 3 * i → A' j = A j) ∧ (∀ c, c < 4 → ∀ t, t ≤ m → A' (101 + 3 * i) (41 * c + t) = bt (A (60 + c) t)) ∧ ∀ p, p < 8 → ∀ t, t < m → A' (102 + 3 * i) (40 * p + t) = bt (A (50 + p) t)
theorem bX16_becomes_0 : Blk CP mX16_becomes 0 2 [oC (nI 0), oIS 2] := blk_c (s_iconst dX16_becomes_0 (by decide +kernel)) <| blk_c (s_istore_n dX16_becomes_1 rfl (by decide)) <| blk_nil
theorem bX16_becomes_2 : Blk CP mX16_becomes 2 4 [oIL 2, oC (nI 4)] := blk_c (s_iload_n dX16_becomes_2 rfl) <| blk_c (s_iconst dX16_becomes_3 (by decide +kernel)) <| blk_nil
theorem bX16_becomes_7 : Blk CP mX16_becomes 7 9 [oC (nI 0), oIS 3] := blk_c (s_iconst dX16_becomes_7 (by decide +kernel)) <| blk_c (s_istore_n dX16_becomes_8 rfl (by decide)) <| blk_nil
theorem bX16_becomes_9 : Blk CP mX16_becomes 9 17 [oIL 3, oAL 1, cQ1, qI 1 6 6] := blk_c (s_iload_n dX16_becomes_9 rfl) <| blk_c (s_aload_n dX16_becomes_10 rfl) <| blk_c (cgX3_12 (Or.inr ⟨_, nq506⟩) dX16_becomes_11) <| blk_c (q_I (by decide) (fun _ _ => rfl) (Or.inr ⟨_, nq444⟩) dX16_becomes_14) <| blk_nil
theorem bX16_becomes_20 : Blk CP mX16_becomes 20 21 [oAL 0] := blk_c (s_aload_n dX16_becomes_20 rfl) <| blk_nil
theorem bX16_becomes_24 : Blk CP mX16_becomes 24 39 [oC (nI 41), oIL 2, oMul, oIL 3, oAdd, oAL 1, cR 3 1 31, oIL 2, cW 31 60 4, oIL 3, cWI 60 4 41 2, oI2B] := blk_c (s_bipush dX16_becomes_24 (by decide +kernel)) <| blk_c (s_iload_n dX16_becomes_26 rfl) <| blk_c (s_imul dX16_becomes_27) <| blk_c (s_iload_n dX16_becomes_28 rfl) <| blk_c (s_iadd dX16_becomes_29) <| blk_c (s_aload_n dX16_becomes_30 rfl) <| blk_c (cgX3_1 (Or.inr ⟨_, nq489⟩) dX16_becomes_31) <| blk_c (s_iload_n dX16_becomes_34 rfl) <| blk_c (c_W (t := 8) (ty := .int) (fun _ => rfl) (fun _ _ _ _ _ _ => rfl) dX16_becomes_35) <| blk_c (s_iload_n dX16_becomes_36 rfl) <| blk_c (c_wiald ar_shows dX16_becomes_37) <| blk_c (s_i2b dX16_becomes_38) <| blk_nil
theorem bX16_becomes_40 : Blk CP mX16_becomes 40 9 [oInc 3 1, .inl (fun s => some s)] := blk_c (s_iinc dX16_becomes_40 (by decide +kernel) (by decide)) <| blk_c (s_goto (tgt := 9) dX16_becomes_43 (by decide)) <| blk_nil
theorem bX16_becomes_46 : Blk CP mX16_becomes 46 2 [oInc 2 1, .inl (fun s => some s)] := blk_c (s_iinc dX16_becomes_46 (by decide +kernel) (by decide)) <| blk_c (s_goto (tgt := 2) dX16_becomes_49 (by decide)) <| blk_nil
theorem bX16_becomes_52 : Blk CP mX16_becomes 52 54 [oC (nI 0), oIS 2] := blk_c (s_iconst dX16_becomes_52 (by decide +kernel)) <| blk_c (s_istore_n dX16_becomes_53 rfl (by decide)) <| blk_nil
theorem bX16_becomes_54 : Blk CP mX16_becomes 54 57 [oIL 2, oC (nI 8)] := blk_c (s_iload_n dX16_becomes_54 rfl) <| blk_c (s_bipush dX16_becomes_55 (by decide +kernel)) <| blk_nil
theorem bX16_becomes_60 : Blk CP mX16_becomes 60 62 [oC (nI 0), oIS 3] := blk_c (s_iconst dX16_becomes_60 (by decide +kernel)) <| blk_c (s_istore_n dX16_becomes_61 rfl (by decide)) <| blk_nil
theorem bX16_becomes_62 : Blk CP mX16_becomes 62 70 [oIL 3, oAL 1, cQ1, qI 1 6 6] := blk_c (s_iload_n dX16_becomes_62 rfl) <| blk_c (s_aload_n dX16_becomes_63 rfl) <| blk_c (cgX3_12 (Or.inr ⟨_, nq506⟩) dX16_becomes_64) <| blk_c (q_I (by decide) (fun _ _ => rfl) (Or.inr ⟨_, nq444⟩) dX16_becomes_67) <| blk_nil
theorem bX16_becomes_73 : Blk CP mX16_becomes 73 74 [oAL 0] := blk_c (s_aload_n dX16_becomes_73 rfl) <| blk_nil
theorem bX16_becomes_77 : Blk CP mX16_becomes 77 92 [oC (nI 40), oIL 2, oMul, oIL 3, oAdd, oAL 1, cR 3 0 30, oIL 2, cW 30 50 8, oIL 3, cWI 50 8 40 2, oI2B] := blk_c (s_bipush dX16_becomes_77 (by decide +kernel)) <| blk_c (s_iload_n dX16_becomes_79 rfl) <| blk_c (s_imul dX16_becomes_80) <| blk_c (s_iload_n dX16_becomes_81 rfl) <| blk_c (s_iadd dX16_becomes_82) <| blk_c (s_aload_n dX16_becomes_83 rfl) <| blk_c (cgX3_0 (Or.inr ⟨_, nq485⟩) dX16_becomes_84) <| blk_c (s_iload_n dX16_becomes_87 rfl) <| blk_c (c_W (t := 8) (ty := .int) (fun _ => rfl) (fun _ _ _ _ _ _ => rfl) dX16_becomes_88) <| blk_c (s_iload_n dX16_becomes_89 rfl) <| blk_c (c_wiald ar_look dX16_becomes_90) <| blk_c (s_i2b dX16_becomes_91) <| blk_nil
theorem bX16_becomes_93 : Blk CP mX16_becomes 93 62 [oInc 3 1, .inl (fun s => some s)] := blk_c (s_iinc dX16_becomes_93 (by decide +kernel) (by decide)) <| blk_c (s_goto (tgt := 62) dX16_becomes_96 (by decide)) <| blk_nil
theorem bX16_becomes_99 : Blk CP mX16_becomes 99 54 [oInc 2 1, .inl (fun s => some s)] := blk_c (s_iinc dX16_becomes_99 (by decide +kernel) (by decide)) <| blk_c (s_goto (tgt := 54) dX16_becomes_102 (by decide)) <| blk_nil
theorem ok_becomes (hi : i < E 0) (hs : SqL E 1) {m : Nat} (hm : m ≤ 40) (e6 : sw 1 6 = nI m) : QC X mX16_becomes [.ref (ad (100 + 3 * i)), .ref (ad 3)] ad A B sk sw E (fun r A' B' => r = none ∧ B' = B ∧ BecA A A' i m) := by
  refine C_start (L := [some (.ref (ad (100 + 3 * i))), some (.ref (ad 3)), none, none]) 2 rfl ?_
  refine bX16_becomes_0.go rfl trivial ?_
  have loop2 : ∀ A1 o3, (∀ j, j ≠ 101 + 3 * i → A1 j = A j) → (∀ c, c < 4 → ∀ t, t ≤ m → A1 (101 + 3 * i) (41 * c + t) = bt (A (60 + c) t)) → JS CP X mX16_becomes (rmOf mX16_becomes.lv 0 0) (ZC X 0 0 (fun r x' => ∃ A' B', x' = (ad, A', B', sk, sw, E) ∧ (r = none ∧ B' = B ∧ BecA A A' i m))) 0 0 52 [some (.ref (ad (100 + 3 * i))), some (.ref (ad 3)), some (.int (nI 4)), o3] [] (ad, A1, B, sk, sw, E) := by
    intro A1 o3 a1 a2
    refine bX16_becomes_52.go rfl trivial ?_
    refine loop_down (N := 8) (I := fun _ => True) (P := fun p => ∀ A' o3, (∀ j, j ≠ 102 + 3 * i → A' j = A1 j) → (∀ q, q < p → ∀ t, t < m → A' (102 + 3 * i) (40 * q + t) = bt (A (50 + q) t)) → JS CP X mX16_becomes (rmOf mX16_becomes.lv 0 0) (ZC X 0 0 (fun r x' => ∃ A' B', x' = (ad, A', B', sk, sw, E) ∧ (r = none ∧ B' = B ∧ BecA A A' i m))) 0 0 54 [some (.ref (ad (100 + 3 * i))), some (.ref (ad 3)), some (.int (nI p)), o3] [] (ad, A', B, sk, sw, E)) ?_ ?_ 0 (by omega) trivial A1 o3 (fun _ _ => rfl) (fun q hq => absurd hq (Nat.not_lt_zero _))
    · intro _ A' o3 b1 b2
      refine bX16_becomes_54.go rfl trivial ?_
      refine j_icmp_ge (tgt := 105) dX16_becomes_57 (by decide) (fun _ => ?_) (fun q => absurd (nI_le (Nat.le_refl _) (by omega)) q)
      refine c_vret dX16_becomes_105 rfl ⟨A', B, rfl, rfl, rfl, fun j h1 h2 => by rw [b1 j h2, a1 j h1], fun c hc t ht => by rw [b1 _ (by omega)]; exact a2 c hc t ht, b2⟩
    · intro p hp _ ih A' o3 b1 b2
      refine bX16_becomes_54.go rfl trivial ?_
      refine j_icmp_ge (tgt := 105) dX16_becomes_57 (by decide) (fun q => ?_) (fun _ => ?_)
      · rw [nI_leI (by omega) (by omega)] at q; omega
      refine bX16_becomes_60.go rfl trivial ?_
      refine loop_down (N := m) (I := fun _ => True) (P := fun t => ∀ A2, (∀ j, j ≠ 102 + 3 * i → A2 j = A1 j) → (∀ q, q < p → ∀ t, t < m → A2 (102 + 3 * i) (40 * q + t) = bt (A (50 + q) t)) → (∀ t', t' < t → A2 (102 + 3 * i) (40 * p + t') = bt (A (50 + p) t')) → JS CP X mX16_becomes (rmOf mX16_becomes.lv 0 0) (ZC X 0 0 (fun r x' => ∃ A' B', x' = (ad, A', B', sk, sw, E) ∧ (r = none ∧ B' = B ∧ BecA A A' i m))) 0 0 62 [some (.ref (ad (100 + 3 * i))), some (.ref (ad 3)), some (.int (nI p)), some (.int (nI t))] [] (ad, A2, B, sk, sw, E)) ?_ ?_ 0 (by omega) trivial A' b1 b2 (fun t' ht' => absurd ht' (Nat.not_lt_zero _))
      · intro _ A2 c1 c2 c3
        refine bX16_becomes_62.go rfl ⟨⟨rfl, hs⟩, ⟨rfl, hs⟩, trivial⟩ ?_
        rw [e6]
        refine j_icmp_ge (tgt := 99) dX16_becomes_70 (by decide) (fun _ => ?_) (fun q => absurd (nI_le (Nat.le_refl _) (by omega)) q)
        refine bX16_becomes_99.go rfl trivial ?_
        rw [nI_1]
        refine ih trivial A2 _ c1 (fun q hq t ht => ?_)
        by_cases e : q = p
        · subst e; exact c3 t ht
        · exact c2 q (by omega) t ht
      · intro t ht _ ih2 A2 c1 c2 c3
        refine bX16_becomes_62.go rfl ⟨⟨rfl, hs⟩, ⟨rfl, hs⟩, trivial⟩ ?_
        rw [e6]
        refine j_icmp_ge (tgt := 99) dX16_becomes_70 (by decide) (fun q => ?_) (fun _ => ?_)
        · rw [nI_leI (by omega) (by omega)] at q; omega
        refine bX16_becomes_73.go rfl trivial ?_
        refine js_snL hi q1366 dX16_becomes_74 ?_
        refine bX16_becomes_77.go rfl (by (try simp (disch := omega) only [nI_add, pk_mul, pk_sub, nI_clamp, vpI]); repeat' first | exact trivial | rfl | assumption | omega | apply And.intro) ?_
        simp (disch := omega) only [nI_clamp]
        rw [pk_mul, nI_add]
        refine js_bst (arrS2 hi) (by omega) (by decide) dX16_becomes_92 ?_
        refine bX16_becomes_93.go rfl trivial ?_
        rw [nI_1]
        refine ih2 trivial _ (fun j hj => by rw [upA_ne hj]; exact c1 j hj) (fun q hq t' ht' => ?_) (fun t' ht' => ?_)
        · rw [upA_at, if_neg (by omega)]; exact c2 q hq t' ht'
        · rw [upA_at]
          by_cases e : t' = t
          · subst e; rw [if_pos rfl, c1 _ (by omega), a1 _ (by omega)]; rfl
          · rw [if_neg (by omega)]; exact c3 t' (by omega)
  refine loop_down (N := 4) (I := fun _ => True) (P := fun c => ∀ A' o3, (∀ j, j ≠ 101 + 3 * i → A' j = A j) → (∀ d, d < c → ∀ t, t ≤ m → A' (101 + 3 * i) (41 * d + t) = bt (A (60 + d) t)) → JS CP X mX16_becomes (rmOf mX16_becomes.lv 0 0) (ZC X 0 0 (fun r x' => ∃ A' B', x' = (ad, A', B', sk, sw, E) ∧ (r = none ∧ B' = B ∧ BecA A A' i m))) 0 0 2 [some (.ref (ad (100 + 3 * i))), some (.ref (ad 3)), some (.int (nI c)), o3] [] (ad, A', B, sk, sw, E)) ?_ ?_ 0 (by omega) trivial A none (fun _ _ => rfl) (fun q hq => absurd hq (Nat.not_lt_zero _))
  · intro _ A' o3 b1 b2
    refine bX16_becomes_2.go rfl trivial ?_
    refine j_icmp_ge (tgt := 52) dX16_becomes_4 (by decide) (fun _ => loop2 A' o3 b1 b2) (fun q => absurd (nI_le (Nat.le_refl _) (by omega)) q)
  · intro c hc _ ih A' o3 b1 b2
    refine bX16_becomes_2.go rfl trivial ?_
    refine j_icmp_ge (tgt := 52) dX16_becomes_4 (by decide) (fun q => ?_) (fun _ => ?_)
    · rw [nI_leI (by omega) (by omega)] at q; omega
    refine bX16_becomes_7.go rfl trivial ?_
    refine loop_down (N := m + 1) (I := fun _ => True) (P := fun t => ∀ A2, (∀ j, j ≠ 101 + 3 * i → A2 j = A j) → (∀ d, d < c → ∀ t, t ≤ m → A2 (101 + 3 * i) (41 * d + t) = bt (A (60 + d) t)) → (∀ t', t' < t → A2 (101 + 3 * i) (41 * c + t') = bt (A (60 + c) t')) → JS CP X mX16_becomes (rmOf mX16_becomes.lv 0 0) (ZC X 0 0 (fun r x' => ∃ A' B', x' = (ad, A', B', sk, sw, E) ∧ (r = none ∧ B' = B ∧ BecA A A' i m))) 0 0 9 [some (.ref (ad (100 + 3 * i))), some (.ref (ad 3)), some (.int (nI c)), some (.int (nI t))] [] (ad, A2, B, sk, sw, E)) ?_ ?_ 0 (by omega) trivial A' b1 b2 (fun t' ht' => absurd ht' (Nat.not_lt_zero _))
    · intro _ A2 c1 c2 c3
      refine bX16_becomes_9.go rfl ⟨⟨rfl, hs⟩, ⟨rfl, hs⟩, trivial⟩ ?_
      rw [e6]
      refine j_icmp_gt (tgt := 46) dX16_becomes_17 (by decide) (fun _ => ?_) (fun q => absurd (nI_lt (by omega) (by omega)) q)
      refine bX16_becomes_46.go rfl trivial ?_
      rw [nI_1]
      refine ih trivial A2 _ c1 (fun d hd t ht => ?_)
      by_cases e : d = c
      · subst e; exact c3 t (by omega)
      · exact c2 d (by omega) t ht
    · intro t ht _ ih2 A2 c1 c2 c3
      refine bX16_becomes_9.go rfl ⟨⟨rfl, hs⟩, ⟨rfl, hs⟩, trivial⟩ ?_
      rw [e6]
      refine j_icmp_gt (tgt := 46) dX16_becomes_17 (by decide) (fun q => ?_) (fun _ => ?_)
      · rw [nI_ltI (by omega) (by omega)] at q; omega
      refine bX16_becomes_20.go rfl trivial ?_
      refine js_snB hi q1365 dX16_becomes_21 ?_
      refine bX16_becomes_24.go rfl (by (try simp (disch := omega) only [nI_add, pk_mul, pk_sub, nI_clamp, vpI]); repeat' first | exact trivial | rfl | assumption | omega | apply And.intro) ?_
      simp (disch := omega) only [nI_clamp]
      rw [pk_mul, nI_add]
      refine js_bst (arrS1 hi) (by omega) (by decide) dX16_becomes_39 ?_
      refine bX16_becomes_40.go rfl trivial ?_
      rw [nI_1]
      refine ih2 trivial _ (fun j hj => by rw [upA_ne hj]; exact c1 j hj) (fun d hd t' ht' => ?_) (fun t' ht' => ?_)
      · rw [upA_at, if_neg (by omega)]; exact c2 d hd t' ht'
      · rw [upA_at]
        by_cases e : t' = t
        · subst e; rw [if_pos rfl, c1 _ (by omega)]; rfl
        · rw [if_neg (by omega)]; exact c3 t' (by omega)
end Seen
