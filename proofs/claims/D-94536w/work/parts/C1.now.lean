set_option maxRecDepth 100000
/-! ===== With.now, Unless; odds; Course.now ===== -/
section HabC1
variable {X : Cx} {M M' : MD} {R : Room} {Z : ZT} {k n pc idx : Nat} {L : List (Option Value)} {st As : List Value} {h : AH}
theorem J.pureT {owner : String} {x : MethodName} {b ci : Nat} {fs : List Value} {q : vw_C} {r : Value} (hC : Cg X M' 0 0 (.ref b :: As) h (PR (some r) h)) (hb : h b = some (.inr (ci, fs))) (hci : vwCl[ci]? = some q) (hd : decode M.cc pc = .ok (.invokevirtual idx, 3))
    (cw : ∀ (s : State) (args : Array Value), (∀ w ∈ lw_all, w.before args s = true) → GI X s → M'.lv + 1 ≤ R.frames ∧ 8 + (M'.nL + 11) + 440 * M'.lv ≤ R.locals → va_CU R s args M.y.cls q.1 owner idx x M'.y M'.cc M'.nL M'.ret (ws_ M'.y M'.cc M'.nL M'.ret) (rmOf M'.lv 0 0) 0 0 As.length)
    (hR : M'.lv + 1 ≤ M.lv ∧ M'.nL ≤ 421) (hst : wt8 st = true) (kk : J X M R Z (pc + 3) L (r :: st) h k n) : J X M R Z pc L (As.reverse ++ .ref b :: st) h k n := by
  intro p e s m args below meth c B rk H locs ls hW hS hL
  refine J.callT (mc := 0) (ms := 0) hC (fun o h' q => ⟨_, q.1⟩) hb hci hd cw hR ⟨rk.2.2.1, rk.2.2.2⟩ (Nat.le_of_ble_eq_true hst) (fun v h' q => ?_) p e s m args below meth c B rk H locs ls hW hS hL
  obtain ⟨q1, rfl⟩ := q
  cases q1
  exact kk
/-- a call by table that keeps the component as it is -/
theorem cqT {owner : String} {x : MethodName} {b ci : Nat} {q : vw_C} {r : Value} {ad : Nat → Nat} {A : Nat → Nat → Int32} {B : Nat → Nat → Int64} {sk : Nat → Nat → Nat} {sw : Nat → Nat → Int32} {E : Nat → Nat} (hM : QC X M' (.ref b :: As) ad A B sk sw E (fun r' A' B' => r' = some r ∧ B' = B ∧ A' = A)) (hrec : ∀ h, CP X (ad, A, B, sk, sw, E) h → ∃ fs, h b = some (.inr (ci, fs))) (hci : vwCl[ci]? = some q) (hd : decode M.cc pc = .ok (.invokevirtual idx, 3))
    (cw : WkX X → ∀ (s : State) (args : Array Value), (∀ w ∈ lw_all, w.before args s = true) → GI X s → M'.lv + 1 ≤ R.frames ∧ 8 + (M'.nL + 11) + 440 * M'.lv ≤ R.locals → va_CU R s args M.y.cls q.1 owner idx x M'.y M'.cc M'.nL M'.ret (ws_ M'.y M'.cc M'.nL M'.ret) (rmOf M'.lv 0 0) 0 0 As.length)
    {st0 : List Value} (h0 : st0 = As.reverse ++ .ref b :: st) (kk : JS CP X M R Z k n (pc + 3) L (r :: st) (ad, A, B, sk, sw, E)) (hR : M'.lv + 1 ≤ M.lv ∧ M'.nL ≤ 421 := by decide) (hst : wt8 st = true := by rfl) : JS CP X M R Z k n pc L st0 (ad, A, B, sk, sw, E) := by
  subst h0
  intro h hp p e s m args below meth c B' rk H locs ls hW hS hL
  obtain ⟨fs, hb⟩ := hrec h hp
  refine J.callT (mc := 0) (ms := 0) (hM h hp) (fun o h' q => ⟨q.choose, q.choose_spec.choose_spec.1⟩) hb hci hd (cw hp.1.1) hR ⟨rk.2.2.1, rk.2.2.2⟩ (Nat.le_of_ble_eq_true hst) (fun v h' q => ?_) p e s m args below meth c B' rk H locs ls hW hS hL
  obtain ⟨r', x', q1, ⟨A', B'', rfl, rfl, rfl, rfl⟩, q3⟩ := q
  cases q1
  exact kk h' q3
end HabC1
section HabNow2
variable {X : Cx} {ad : Nat → Nat} {A : Nat → Nat → Int32} {B : Nat → Nat → Int64} {sk : Nat → Nat → Nat} {sw : Nat → Nat → Int32} {E : Nat → Nat} {v : Nat → Nat} {p i t : Nat}
theorem bX13_now_0 : Blk CP mX13_now 0 2 [oAL 1, oAL 0] := blk_c (s_aload_n dX13_now_0 rfl) <| blk_c (s_aload_n dX13_now_1 rfl) <| blk_nil
theorem bX13_now_5 : Blk CP mX13_now 5 6 [oAL 0] := blk_c (s_aload_n dX13_now_5 rfl) <| blk_nil
theorem bX13_now_9 : Blk CP mX13_now 9 12 [cF_II F_isSettledC] := blk_c (c_F_II ok_isSettled (ci := 3) rfl (lw_V q1260 q1261 q1262 q137 q1263) hy_X3_isSettled rfl (by decide) dX13_now_9) <| blk_nil
theorem bX13_now_15 : Blk CP mX13_now 15 18 [oAL 0, oAL 1, oAL 0] := blk_c (s_aload_n dX13_now_15 rfl) <| blk_c (s_aload_n dX13_now_16 rfl) <| blk_c (s_aload_n dX13_now_17 rfl) <| blk_nil
theorem bX13_now_21 : Blk CP mX13_now 21 22 [oAL 0] := blk_c (s_aload_n dX13_now_21 rfl) <| blk_nil
theorem bX13_now_25 : Blk CP mX13_now 25 28 [cF_II F_isLookingC] := blk_c (c_F_II ok_isLooking (ci := 3) rfl (lw_V q1264 q1265 q1266 q137 q1267) hy_X3_isLooking rfl (by decide) dX13_now_25) <| blk_nil
theorem bX13_now_31 : Blk CP mX13_now 31 35 [.inl (fun s => some s)] := blk_c (s_goto (tgt := 35) dX13_now_31 (by decide)) <| blk_nil
theorem bX13_now_34 : Blk CP mX13_now 34 35 [oC (nI 1)] := blk_c (s_iconst dX13_now_34 (by decide +kernel)) <| blk_nil
theorem ok_now13 (hO : CrO A sw E v) (hp : p < v 2) (hi : i < v (56 + 33 * p + 4)) (ht : t < v 6) (hk : lkI (sw 1) p i 1 = nI 3) : HQ X mX13_now ad A B sk sw E p i t := by
  obtain ⟨hs, hw, -, -⟩ := hO
  have h40 := hw.sp40
  have h8 := hw.np8
  have h4 := hw.nc4
  have npE := hw.npE
  have nlE := hw.nlE hp
  obtain ⟨c, k, n, q, ec, ek, en, eq, hc, hk5, hn, hq, hk1, hk2⟩ := hw.look hp hi
  have ek1 : k = 3 := (nI_eq (by omega) (by omega)).mp (ek.symm.trans hk)
  subst ek1
  have hb := hbC_k hk (by decide)
  simp only [show ¬ (3 = 0) by decide, show ¬ (3 = 1) by decide, show ¬ (3 = 2) by decide, if_false, if_true, ec, en, eq] at hb
  have hV : n < v 2 → vf (fA A) n c = fSL (A 33 n) (A 34 n) c := fun _ => by
    show fA A (4 * n + c) = _
    unfold fA
    rw [show (4 * n + c) / 4 = n by omega, show (4 * n + c) % 4 = c by omega]
  have hH : nwI (holdV (mcC A (sw 1) t) (vf (fA A)) p i) = if (decide (v 2 ≤ n) || bitI (A 33 n) c) = true then (if (!decide (v 2 ≤ n) && bitI (A 34 n) c) = true then nI 2 else nI 0) else nI 1 := by
    simp only [holdV, mcC, ek, en, ec, show ¬ nI 3 = nI 0 by decide, show ¬ nI 3 = nI 1 by decide, show ¬ nI 3 = nI 2 by decide, if_false, if_true, nI_clamp (show n < 2 ^ 31 by omega), nI_clamp (show c < 2 ^ 31 by omega)]
    rw [show (sw 1 2).toNatClampNeg = v 2 from npE]
    by_cases hnv : n < v 2
    · rw [if_pos hnv, hV hnv, decide_eq_false (show ¬ v 2 ≤ n by omega)]
      unfold fSL
      cases bitI (A 33 n) c <;> cases bitI (A 34 n) c <;> decide
    · rw [if_neg hnv, decide_eq_true (show v 2 ≤ n by omega)]
      cases bitI (A 33 n) c <;> cases bitI (A 34 n) c <;> decide
  refine C_start (L := [some (.ref (sk 1 (80 + 4 * p + i))), some (.ref (ad 3)), some (.int (nI p)), some (.int (nI t))]) 0 rfl ?_
  rw [hH]
  have pS : ∀ F : Nat → Int32 → Int32 → Cv → Prop × Value, (F = F_isSettledC ∨ F = F_isLookingC) → (F (ad 3) (nI n) (nI c) (ad, A, B, sk, sw, E)).1 := by
    rintro F (rfl | rfl) <;> exact ⟨rfl, hs, n, c, by omega, by omega, rfl, rfl⟩
  refine bX13_now_0.go rfl trivial ?_
  refine js_hab (f := 1) hb hs (by omega) (by omega) clsX13 rfl (by decide) rfl (Or.inl q1078) dX13_now_2 ?_
  refine bX13_now_5.go rfl trivial ?_
  refine js_habS (f := 0) hb hs (by omega) (by omega) clsX13 rfl (by decide) rfl q1033 q1034 dX13_now_6 ?_
  refine bX13_now_9.go rfl ⟨pS _ (Or.inl rfl), trivial⟩ ?_
  rw [nI_clamp (by omega), npE]
  refine j_if_eq (tgt := 34) dX13_now_12 (by decide) (fun h12 => ?_) (fun h12 => ?_)
  · rw [b2_0] at h12
    refine bX13_now_34.go rfl trivial ?_
    refine c_iret dX13_now_35 rfl ⟨_, _, rfl, ?_, rfl, rfl⟩
    rw [show (decide (v 2 ≤ n) || bitI (A 33 n) c) = false from h12]; rfl
  · rw [b2_n0] at h12
    refine bX13_now_15.go rfl trivial ?_
    refine js_hab (f := 1) hb hs (by omega) (by omega) clsX13 rfl (by decide) rfl (Or.inl q1078) dX13_now_18 ?_
    refine bX13_now_21.go rfl trivial ?_
    refine js_habS (f := 0) hb hs (by omega) (by omega) clsX13 rfl (by decide) rfl q1033 q1034 dX13_now_22 ?_
    refine bX13_now_25.go rfl ⟨pS _ (Or.inr rfl), trivial⟩ ?_
    rw [nI_clamp (by omega), npE]
    have k28 : JS CP X mX13_now (rmOf mX13_now.lv 0 0) (ZC X 0 0 (fun r x' => ∃ A' B', x' = (ad, A', B', sk, sw, E) ∧ (r = some (.int (if (decide (v 2 ≤ n) || bitI (A 33 n) c) = true then (if (!decide (v 2 ≤ n) && bitI (A 34 n) c) = true then nI 2 else nI 0) else nI 1)) ∧ B' = B ∧ A' = A))) 0 0 31 [some (.ref (sk 1 (80 + 4 * p + i))), some (.ref (ad 3)), some (.int (nI p)), some (.int (nI t))] [.int (if (!decide (v 2 ≤ n) && bitI (A 34 n) c) = true then nI 2 else nI 0)] (ad, A, B, sk, sw, E) := by
      refine bX13_now_31.go rfl trivial ?_
      refine c_iret dX13_now_35 rfl ⟨_, _, rfl, ?_, rfl, rfl⟩
      rw [show (decide (v 2 ≤ n) || bitI (A 33 n) c) = true from h12]; rfl
    intro h hp0
    exact J.pureV (M' := mX13_by) (As := [.int (b2 (!decide (v 2 ≤ n) && bitI (A 34 n) c))]) (nA := 1) (ok_by13 h) ((hp0.hab hs (by omega) (by omega)).trans (congrArg some hb)) rfl dX13_now_28 (lw_V q1268 q1269 q1270 q159 q1276) hy_X13_by rfl rfl (by decide) rfl (k28 h hp0)
theorem ok_now14 (hO : CrO A sw E v) (hp : p < v 2) (hi : i < v (56 + 33 * p + 4)) (ht : t < v 6) (hk : lkI (sw 1) p i 1 = nI 4) : HQ X mX13_now ad A B sk sw E p i t := by
  obtain ⟨hs, hw, -, -⟩ := hO
  have h40 := hw.sp40
  have h8 := hw.np8
  have h4 := hw.nc4
  have npE := hw.npE
  have nlE := hw.nlE hp
  obtain ⟨c, k, n, q, ec, ek, en, eq, hc, hk5, hn, hq, hk1, hk2⟩ := hw.look hp hi
  have ek1 : k = 4 := (nI_eq (by omega) (by omega)).mp (ek.symm.trans hk)
  subst ek1
  have hb := hbC_k hk (by decide)
  simp only [show ¬ (4 = 0) by decide, show ¬ (4 = 1) by decide, show ¬ (4 = 2) by decide, show ¬ (4 = 3) by decide, if_false, if_true, ec, en, eq] at hb
  have hV : n < v 2 → vf (fA A) n c = fSL (A 33 n) (A 34 n) c := fun _ => by
    show fA A (4 * n + c) = _
    unfold fA
    rw [show (4 * n + c) / 4 = n by omega, show (4 * n + c) % 4 = c by omega]
  have hH : nwI (holdV (mcC A (sw 1) t) (vf (fA A)) p i) = if (decide (v 2 ≤ n) || bitI (A 33 n) c) = true then (if (!decide (v 2 ≤ n) && bitI (A 34 n) c) = true then nI 0 else nI 2) else nI 1 := by
    simp only [holdV, mcC, ek, en, ec, show ¬ nI 4 = nI 0 by decide, show ¬ nI 4 = nI 1 by decide, show ¬ nI 4 = nI 2 by decide, show ¬ nI 4 = nI 3 by decide, if_false, if_true, nI_clamp (show n < 2 ^ 31 by omega), nI_clamp (show c < 2 ^ 31 by omega)]
    rw [show (sw 1 2).toNatClampNeg = v 2 from npE]
    by_cases hnv : n < v 2
    · rw [if_pos hnv, hV hnv, decide_eq_false (show ¬ v 2 ≤ n by omega)]
      unfold fSL
      cases bitI (A 33 n) c <;> cases bitI (A 34 n) c <;> decide
    · rw [if_neg hnv, decide_eq_true (show v 2 ≤ n by omega)]
      cases bitI (A 33 n) c <;> cases bitI (A 34 n) c <;> decide
  refine C_start (L := [some (.ref (sk 1 (80 + 4 * p + i))), some (.ref (ad 3)), some (.int (nI p)), some (.int (nI t))]) 0 rfl ?_
  rw [hH]
  have pS : ∀ F : Nat → Int32 → Int32 → Cv → Prop × Value, (F = F_isSettledC ∨ F = F_isLookingC) → (F (ad 3) (nI n) (nI c) (ad, A, B, sk, sw, E)).1 := by
    rintro F (rfl | rfl) <;> exact ⟨rfl, hs, n, c, by omega, by omega, rfl, rfl⟩
  refine bX13_now_0.go rfl trivial ?_
  refine js_hab (f := 1) hb hs (by omega) (by omega) clsX14 rfl (by decide) rfl (Or.inl q1078) dX13_now_2 ?_
  refine bX13_now_5.go rfl trivial ?_
  refine js_habS (f := 0) hb hs (by omega) (by omega) clsX14 rfl (by decide) rfl q1033 q1034 dX13_now_6 ?_
  refine bX13_now_9.go rfl ⟨pS _ (Or.inl rfl), trivial⟩ ?_
  rw [nI_clamp (by omega), npE]
  refine j_if_eq (tgt := 34) dX13_now_12 (by decide) (fun h12 => ?_) (fun h12 => ?_)
  · rw [b2_0] at h12
    refine bX13_now_34.go rfl trivial ?_
    refine c_iret dX13_now_35 rfl ⟨_, _, rfl, ?_, rfl, rfl⟩
    rw [show (decide (v 2 ≤ n) || bitI (A 33 n) c) = false from h12]; rfl
  · rw [b2_n0] at h12
    refine bX13_now_15.go rfl trivial ?_
    refine js_hab (f := 1) hb hs (by omega) (by omega) clsX14 rfl (by decide) rfl (Or.inl q1078) dX13_now_18 ?_
    refine bX13_now_21.go rfl trivial ?_
    refine js_habS (f := 0) hb hs (by omega) (by omega) clsX14 rfl (by decide) rfl q1033 q1034 dX13_now_22 ?_
    refine bX13_now_25.go rfl ⟨pS _ (Or.inr rfl), trivial⟩ ?_
    rw [nI_clamp (by omega), npE]
    have k28 : JS CP X mX13_now (rmOf mX13_now.lv 0 0) (ZC X 0 0 (fun r x' => ∃ A' B', x' = (ad, A', B', sk, sw, E) ∧ (r = some (.int (if (decide (v 2 ≤ n) || bitI (A 33 n) c) = true then (if (!decide (v 2 ≤ n) && bitI (A 34 n) c) = true then nI 0 else nI 2) else nI 1)) ∧ B' = B ∧ A' = A))) 0 0 31 [some (.ref (sk 1 (80 + 4 * p + i))), some (.ref (ad 3)), some (.int (nI p)), some (.int (nI t))] [.int (if (!decide (v 2 ≤ n) && bitI (A 34 n) c) = true then nI 0 else nI 2)] (ad, A, B, sk, sw, E) := by
      refine bX13_now_31.go rfl trivial ?_
      refine c_iret dX13_now_35 rfl ⟨_, _, rfl, ?_, rfl, rfl⟩
      rw [show (decide (v 2 ≤ n) || bitI (A 33 n) c) = true from h12]; rfl
    intro h hp0
    exact J.pureT (M' := mX14_by) (As := [.int (b2 (!decide (v 2 ≤ n) && bitI (A 34 n) c))]) (owner := "UnseenClock$With") (x := ⟨"UnseenClock$With", "by", "(Z)I"⟩) (ok_by14 ((hp0.hab hs (by omega) (by omega)).trans (congrArg some hb))) ((hp0.hab hs (by omega) (by omega)).trans (congrArg some hb)) rfl dX13_now_28 (fun s args hts hG hR => va_cwO 1 hts (lw_O q1268 q1271 q1269 q1272 q1273 q160 q1274) rfl rfl rfl q1276 (by decide +kernel) hR) (by decide) rfl (k28 h hp0)
/-! odds -/
theorem bX9_odds_0 : Blk CP mX9_odds 0 1 [oC (-1)] := blk_c (s_iconst dX9_odds_0 (by decide +kernel)) <| blk_nil
theorem ok_odds9 {o : Nat} : QC X mX9_odds [.ref o] ad A B sk sw E (fun r A' B' => r = some (.int (-1)) ∧ B' = B ∧ A' = A) := by
  refine C_start (L := [some (.ref o)]) 0 rfl ?_
  refine bX9_odds_0.go rfl trivial ?_
  exact c_iret dX9_odds_1 rfl ⟨_, _, rfl, rfl, rfl, rfl⟩
theorem bX15_odds_0 : Blk CP mX15_odds 0 1 [oAL 0] := blk_c (s_aload_n dX15_odds_0 rfl) <| blk_nil
theorem ok_odds15 (hs : SqL E 1) (hp : p < nP (sw 1)) (hi : i < nL (sw 1) p) (hk : lkI (sw 1) p i 1 = nI 5) : QC X mX15_odds [.ref (sk 1 (80 + 4 * p + i))] ad A B sk sw E (fun r A' B' => r = some (.int (lkI (sw 1) p i 2)) ∧ B' = B ∧ A' = A) := by
  have hb := hbC_k hk (by decide)
  simp only [show ¬ (5 = 0) by decide, show ¬ (5 = 1) by decide, show ¬ (5 = 2) by decide, show ¬ (5 = 3) by decide, show ¬ (5 = 4) by decide, if_false] at hb
  refine C_start (L := [some (.ref (sk 1 (80 + 4 * p + i)))]) 0 rfl ?_
  refine bX15_odds_0.go rfl trivial ?_
  refine js_hab (f := 1) hb hs hp hi clsX15 rfl (by decide) rfl (Or.inl q1100) dX15_odds_1 ?_
  exact c_iret dX15_odds_4 rfl ⟨_, _, rfl, rfl, rfl, rfl⟩
/-- a habit is asked -/
theorem js_hnow {R : Room} {Z : ZT} {k n : Nat} {L : List (Option Value)} {a : Int32} (hO : CrO A sw E v) (hp : p < v 2) (hi : i < v (56 + 33 * p + 4)) (ht : t < v 6) (hb : lkI (sw 1) p i 1 = nI 5 → ¬ A 3 16 = 0 → ∃ b, A (70 + p) i = b2 b)
    (kk : JS CP X mX3_now R Z k n 90 L [.int (nwI (holdV (mcC A (sw 1) t) (vf (fA A)) p i)), .int a] (ad, A, B, sk, sw, E)) : JS CP X mX3_now R Z k n 87 L [.int (nI t), .int (nI p), .ref (ad 3), .ref (sk 1 (80 + 4 * p + i)), .int a] (ad, A, B, sk, sw, E) := by
  obtain ⟨hs, hw, -, -⟩ := id hO
  have npE := hw.npE
  have nlE := hw.nlE hp
  obtain ⟨c, kd, m, q, ec, hk, en, eq, hc, hk5, hn, hq, hk1, hk2⟩ := hw.look hp hi
  have h6 : kd = 0 ∨ kd = 1 ∨ kd = 2 ∨ kd = 3 ∨ kd = 4 ∨ kd = 5 := by omega
  rcases h6 with rfl | rfl | rfl | rfl | rfl | rfl
  · exact cqT (M' := mX10_now) (As := [.ref (ad 3), .int (nI p), .int (nI t)]) (owner := RX9) (x := ⟨RX9, "now", "(LUnseenClock$Course;II)I"⟩) (ci := 10) (ok_now10 hk) (fun h hp0 => ⟨_, (hp0.hab hs (by omega) (by omega)).trans (congrArg some (by simpa using hbC_k hk (by decide)))⟩) rfl dX3_now_87 (fun hX s args hts hG hR => va_cwA 3 hts (lw_U q1237 q1239 q1240 q1241 q156 q1242) rfl rfl rfl ((hX s hG.2.1).1 _ nq1238) (by decide +kernel) hR) rfl kk
  · exact cqT (M' := mX11_now) (As := [.ref (ad 3), .int (nI p), .int (nI t)]) (owner := RX9) (x := ⟨RX9, "now", "(LUnseenClock$Course;II)I"⟩) (ci := 11) (ok_now11 hO hp hi ht hk) (fun h hp0 => ⟨_, (hp0.hab hs (by omega) (by omega)).trans (congrArg some (by simpa using hbC_k hk (by decide)))⟩) rfl dX3_now_87 (fun hX s args hts hG hR => va_cwA 3 hts (lw_U q1237 q1239 q1243 q1244 q157 q1245) rfl rfl rfl ((hX s hG.2.1).1 _ nq1238) (by decide +kernel) hR) rfl kk
  · exact cqT (M' := mX12_now) (As := [.ref (ad 3), .int (nI p), .int (nI t)]) (owner := RX9) (x := ⟨RX9, "now", "(LUnseenClock$Course;II)I"⟩) (ci := 12) (ok_now12 hO hp hi ht hk) (fun h hp0 => ⟨_, (hp0.hab hs (by omega) (by omega)).trans (congrArg some (by simpa using hbC_k hk (by decide)))⟩) rfl dX3_now_87 (fun hX s args hts hG hR => va_cwA 3 hts (lw_U q1237 q1239 q1253 q1254 q158 q1255) rfl rfl rfl ((hX s hG.2.1).1 _ nq1238) (by decide +kernel) hR) rfl kk
  · exact cqT (M' := mX13_now) (As := [.ref (ad 3), .int (nI p), .int (nI t)]) (owner := RX9) (x := ⟨RX9, "now", "(LUnseenClock$Course;II)I"⟩) (ci := 13) (ok_now13 hO hp hi ht hk) (fun h hp0 => ⟨_, (hp0.hab hs (by omega) (by omega)).trans (congrArg some (by simpa using hbC_k hk (by decide)))⟩) rfl dX3_now_87 (fun hX s args hts hG hR => va_cwA 3 hts (lw_U q1237 q1239 q1277 q1258 q159 q1259) rfl rfl rfl ((hX s hG.2.1).1 _ nq1238) (by decide +kernel) hR) rfl kk
  · exact cqT (M' := mX13_now) (As := [.ref (ad 3), .int (nI p), .int (nI t)]) (owner := RX9) (x := ⟨RX9, "now", "(LUnseenClock$Course;II)I"⟩) (ci := 14) (ok_now14 hO hp hi ht hk) (fun h hp0 => ⟨_, (hp0.hab hs (by omega) (by omega)).trans (congrArg some (by simpa using hbC_k hk (by decide)))⟩) rfl dX3_now_87 (fun hX s args hts hG hR => va_cwA 3 hts (lw_U q1237 q1239 q1257 q1258 q159 q1259) rfl rfl rfl ((hX s hG.2.1).1 _ nq1238) (by decide +kernel) hR) rfl kk
  · exact cqT (M' := mX15_now) (As := [.ref (ad 3), .int (nI p), .int (nI t)]) (owner := RX9) (x := ⟨RX9, "now", "(LUnseenClock$Course;II)I"⟩) (ci := 15) (ok_now15 hO hp hi (hb hk) hk) (fun h hp0 => ⟨_, (hp0.hab hs (by omega) (by omega)).trans (congrArg some (by simpa using hbC_k hk (by decide)))⟩) rfl dX3_now_87 (fun hX s args hts hG hR => va_cwA 3 hts (lw_U q1237 q1239 q1246 q1247 q161 q1248) rfl rfl rfl ((hX s hG.2.1).1 _ nq1238) (by decide +kernel) hR) rfl kk
end HabNow2
