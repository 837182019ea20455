set_option maxRecDepth 100000
/-! ===== UnseenClock$Reader: wall ===== -/
section Wll
variable {X : Cx} {M : MD} {R : Room} {Z : ZT} {k m pc idx : Nat} {L : List (Option Value)} {st : List Value} {hz : AH} {tp n : Nat} {T w w' : Nat → Int32} {sk : Nat → Nat} {S S' : Nat → Nat → Int32} {N : Nat → Nat} {aK aV : Nat → Nat} {ts : TS} {x : Int32}
theorem fwd_fr {s : RdE} : Fwd T n s (frE T n w x s).2 := (fwd_if fwd_err Fwd.rf).trans fwd_num
theorem sp_free (hC : RdC X aK aV T) (hr : SR S N w) (hx : inI x (nI 0) (w 4 - nI 1) = true) (hw : ∃ a b : Nat, a ≤ 12 ∧ b ≤ 12 ∧ w 4 = nI a ∧ w 5 = nI b) (hg : TokG (S 120) n ts) (hts : TsW T n ts) (hn : n ≤ 2400) (hl : Cond.methodLink M.y.cls idx yX5_free ∈ lw_all) (hd : decode M.cc pc = .ok (.invokevirtual idx, 3)) (hR : 9 ≤ M.lv) (hst : wt8 st = true) (hf : k + 1 ≤ R.cells ∧ m + 8 ≤ R.slots)
    (kk : ∀ v ts' g, frE T n w x (.inr ts) = (v, .inr ts') → TsW T n ts' → TokG g n ts' → JS SP X M R Z (k + 1) (m + 8) (pc + 3) L (.int v :: st) (hz, tp, T, sk, va_up S 120 g, N)) (kt : ∀ a h', SQT hz (fun k p => (frE T n w x (.inr ts)).2 = .inl (k, p)) RX6 a h' → JT X M R Z RX6 a pc L h' (k + 1) (m + 8)) : JS SP X M R Z k m pc L (.int x :: .ref (sk 120) :: st) (hz, tp, T, sk, S, N) := by
  obtain ⟨h1, h2, h3, h4, h5⟩ := hC
  refine sp_rpy (M' := mX5_free) (nA := 1) (As := [.int x]) (Q' := fun r x' => ∃ v ts', frE T n w x (.inr ts) = (v, .inr ts') ∧ r = some (.int v) ∧ TokG x'.2.2.2 n ts') (fun h hp => ok_freeR (sk := sk) (w := w) h1 h2 h3 h5 (by rw [← hp.rp.1]; exact hp.sqw hr) hx hw hg hts.le.1 hts.le.2 hn hts.nn) hl q783 qs17 q784 hd rfl hy_X5_free hf (fun r g h q => ?_) kt rfl rfl ⟨hR, by decide⟩ hst
  obtain ⟨v, ts', q1, rfl, q3⟩ := q
  exact kk v ts' g q1 (fw_ts fwd_fr hts (by rw [q1])) q3
/-- a wall more -/
theorem SR.wall (h : SR S N w) {k a b : Nat} (h0 : w 0 = nI k) (hk : k < 12) (ha : a < 20) (hb : b < 20) (hS : ∀ i, i ≠ 0 → i ≠ 3 → i ≠ 120 → S' i = S i) (h3 : S' 3 = va_up (S 3) (20 * b + a) (nI 1)) (h7 : S' 0 7 = nI (k + 1)) (hS0 : ∀ j, j ≠ 7 → S' 0 j = S 0 j) (hw : w' = va_up (va_up (va_up w (8 + 2 * k) (nI a)) (8 + 2 * k + 1) (nI b)) 0 (nI (k + 1))) : SR S' N w' := by
  obtain ⟨⟨c1, c2, c3⟩, ⟨p1, p2, p3⟩, ⟨s4, s5, s6, s7, s8⟩, hwl, hd, hper⟩ := h
  have e : ∀ q, (1 ≤ q ∧ q < 8) ∨ 32 ≤ q → w' q = w q := fun q hq => by rw [hw, va_up_ne _ _ (by omega), va_up_ne _ _ (by omega), va_up_ne _ _ (by omega)]
  have e0 : w' 0 = nI (k + 1) := by rw [hw, va_up_self]
  have n0 : nW w = k := by unfold nW; rw [h0, nI_clamp (by omega)]
  have n1 : nW w' = k + 1 := by unfold nW; rw [e0, nI_clamp (by omega)]
  have eP : ∀ p j, perI w' p j = perI w p j := fun p j => by unfold perI; rw [e _ (by omega)]
  have eA : ∀ a' b' j, j < k → wallAt w' a' b' j = wallAt w a' b' j := fun a' b' j hj => by
    unfold wallAt
    rw [hw, va_up_ne _ _ (by omega), va_up_ne _ _ (by omega), va_up_ne _ _ (by omega), va_up_ne _ _ (by omega), va_up_ne _ _ (by omega), va_up_ne _ _ (by omega)]
  have eK : ∀ a' b', wallAt w' a' b' k = (decide (nI a = a') && decide (nI b = b')) := fun a' b' => by
    unfold wallAt
    rw [hw, va_up_ne _ _ (by omega), va_up_ne _ _ (by omega), va_up_self, va_up_ne _ _ (by omega), va_up_self]
  refine ⟨⟨by rw [c1]; unfold nC; rw [e 1 (by omega)], by rw [e 1 (by omega)]; exact c2, c3⟩, ⟨by rw [p1]; unfold nP; rw [e 2 (by omega)], by rw [e 2 (by omega)]; exact p2, p3⟩, ⟨by rw [hS0 4 (by decide), e 4 (by omega)]; exact s4, by rw [hS0 5 (by decide), e 5 (by omega)]; exact s5, by rw [hS0 6 (by decide), e 6 (by omega)]; exact s6, by rw [h7, e0], by rw [hS0 8 (by decide), e 3 (by omega)]; exact s8⟩, fun a' b' ha' hb' => ?_, fun c hc j hj => ?_, fun p hp => ?_⟩
  · rw [n1, show anyN (wallAt w' (nI a') (nI b')) (k + 1) = (anyN (wallAt w' (nI a') (nI b')) k || wallAt w' (nI a') (nI b') k) from rfl, eK, anyN_congr (fun j hj => eA (nI a') (nI b') j hj), h3]
    have hw0 := hwl a' b' ha' hb'
    rw [n0] at hw0
    by_cases z : a = a' ∧ b = b'
    · obtain ⟨rfl, rfl⟩ := z
      rw [va_up_self, decide_eq_true rfl, decide_eq_true rfl, Bool.and_true, Bool.or_true]; rfl
    · rw [va_up_ne _ _ (by omega), hw0]
      have : (decide (nI a = nI a') && decide (nI b = nI b')) = false := by
        rw [Bool.and_eq_false_iff, decide_eq_false_iff_not, decide_eq_false_iff_not, nI_eq (by omega) (by omega), nI_eq (by omega) (by omega)]
        omega
      rw [this, Bool.or_false]
  · rw [hS (20 + c) (by omega) (by omega) (by omega), e _ (by omega)]; exact hd c hc j hj
  · obtain ⟨f1, ⟨f2, f3, f4⟩, ⟨f5, f6, f7⟩, f8, f9⟩ := hper p hp
    have eM : nM w' p = nM w p := by unfold nM; rw [e _ (by omega)]
    have eL : nL w' p = nL w p := by unfold nL; rw [e _ (by omega)]
    refine ⟨fun j hj => by rw [hS (30 + p) (by omega) (by omega) (by omega), eP]; exact f1 j hj, ⟨by rw [hS (30 + p) (by omega) (by omega) (by omega), eP]; exact f2, by rw [eM]; exact f3, by rw [eP, eM]; exact f4⟩, ⟨by rw [eL]; exact f5, by rw [eL]; exact f6, by rw [eP, eL]; exact f7⟩, fun k hk => ?_, fun i hi => ?_⟩
    · rw [eM] at hk
      rw [hS (40 + p) (by omega) (by omega) (by omega), hS (50 + p) (by omega) (by omega) (by omega), eP, eP]; exact f8 k hk
    · rw [eL] at hi
      rw [hS (80 + 4 * p + i) (by omega) (by omega) (by omega), f9 i hi]
      exact (hbC_cg (fun j hj => by unfold lkI; rw [e _ (by omega)])).symm
theorem bX5_wall_0 : Blk SP mX5_wall 0 10 [oAL 0, oAL 0, pRs, pSI 7, oC (nI 12)] := blk_c (s_aload_n dX5_wall_0 rfl) <| blk_c (s_aload_n dX5_wall_1 rfl) <| blk_c (p_Rs q632 dX5_wall_2) <| blk_c (p_SI (f := 7) (by decide) nq449 dX5_wall_5) <| blk_c (s_bipush dX5_wall_8 (by decide +kernel)) <| blk_nil
theorem bX5_wall_13 : Blk SP mX5_wall 13 18 [oC (nI 1), .inl (fun s => some s)] := blk_c (s_iconst dX5_wall_13 (by decide +kernel)) <| blk_c (s_goto (tgt := 18) dX5_wall_14 (by decide)) <| blk_nil
theorem bX5_wall_17 : Blk SP mX5_wall 17 18 [oC (nI 0)] := blk_c (s_iconst dX5_wall_17 (by decide +kernel)) <| blk_nil
theorem bX5_wall_21 : Blk SP mX5_wall 21 22 [oAL 0] := blk_c (s_aload_n dX5_wall_21 rfl) <| blk_nil
theorem bX5_wall_24 : Blk SP mX5_wall 24 34 [oC (nI 0), oAL 0, pRs, pSI 4, oC (nI 1), oSub] := blk_c (s_iconst dX5_wall_24 (by decide +kernel)) <| blk_c (s_aload_n dX5_wall_25 rfl) <| blk_c (p_Rs q632 dX5_wall_26) <| blk_c (p_SI (f := 4) (by decide) nq439 dX5_wall_29) <| blk_c (s_iconst dX5_wall_32 (by decide +kernel)) <| blk_c (s_isub dX5_wall_33) <| blk_nil
theorem bX5_wall_37 : Blk SP mX5_wall 37 49 [oIS 1, oAL 0, pRs, pSR 2, oC (nI 20), oAL 0, oIL 1] := blk_c (s_istore_n dX5_wall_37 rfl (by decide)) <| blk_c (s_aload_n dX5_wall_38 rfl) <| blk_c (p_Rs q632 dX5_wall_39) <| blk_c (p_SR (f := 2) (by decide) nq434 dX5_wall_42) <| blk_c (s_bipush dX5_wall_45 (by decide +kernel)) <| blk_c (s_aload_n dX5_wall_47 rfl) <| blk_c (s_iload_n dX5_wall_48 rfl) <| blk_nil
theorem bX5_wall_52 : Blk SP mX5_wall 52 56 [oMul, oIL 1, oAdd, oC (nI 1)] := blk_c (s_imul dX5_wall_52) <| blk_c (s_iload_n dX5_wall_53 rfl) <| blk_c (s_iadd dX5_wall_54) <| blk_c (s_iconst dX5_wall_55 (by decide +kernel)) <| blk_nil
theorem bX5_wall_57 : Blk SP mX5_wall 57 70 [oAL 0, pRs, oDupR, pSI 7, oC (nI 1), oAdd, pSP 7] := blk_c (s_aload_n dX5_wall_57 rfl) <| blk_c (p_Rs q632 dX5_wall_58) <| blk_c (s_dupR dX5_wall_61) <| blk_c (p_SI (f := 7) (by decide) nq449 dX5_wall_62) <| blk_c (s_iconst dX5_wall_65 (by decide +kernel)) <| blk_c (s_iadd dX5_wall_66) <| blk_c (p_SP (f := 7) (by decide) nq449 dX5_wall_67) <| blk_nil
theorem ok_wall (hC : RdC X aK aV T) (hr : SR S N w) (hF : FrOk w) (hw : ∃ a b : Nat, a ≤ 12 ∧ b ≤ 12 ∧ w 4 = nI a ∧ w 5 = nI b) (hg : TokG (S 120) n ts) (hts : TsW T n ts) (hn : n ≤ 2400) : SPX X mX5_wall 4 32 [.ref (sk 120)] (hz, tp, T, sk, S, N) (fun r x' => ¬ w 0 = nI 12 ∧ QLn hz tp T n sk (wallE T n (.inr (advS T n ts.1)) w) r x') (fun k p => (w 0 = nI 12 ∧ (k, p) = (nI 3, ts.2.1)) ∨ (¬ w 0 = nI 12 ∧ (wallE T n (.inr (advS T n ts.1)) w).1 = .inl (k, p))) := by
  have hX := hC.1
  have hK := hC.2.2.2.1
  obtain ⟨wa, wb, hwa, hwb, e4, e5⟩ := id hw
  obtain ⟨⟨w0, w12⟩, -⟩ := id hF
  have s7 : S 0 7 = nI (nW w) := by rw [hr.2.2.1.2.2.2.1]; exact w0
  refine SPX_start (L := [some (.ref (sk 120)), none]) 1 rfl ?_
  have j18 : ∀ b, b = !decide (w 0 = nI 12) → JS SP X mX5_wall (rmOf mX5_wall.lv 4 32) (ZSX X 4 32 hz (fun r x' => ¬ w 0 = nI 12 ∧ QLn hz tp T n sk (wallE T n (.inr (advS T n ts.1)) w) r x') (fun k p => (w 0 = nI 12 ∧ (k, p) = (nI 3, ts.2.1)) ∨ (¬ w 0 = nI 12 ∧ (wallE T n (.inr (advS T n ts.1)) w).1 = .inl (k, p)))) 0 0 18 [some (.ref (sk 120)), none] [.int (b2 b), .ref (sk 120)] (hz, tp, T, sk, S, N) := by
    intro b hb
    refine sp_room hC hg hts hn q776 dX5_wall_18 (by decide) rfl ⟨by show 0 + 1 ≤ 4; omega, by show 0 + 8 ≤ 32; omega⟩ (fun g1 hb1 w1 hg1 => ?_) (fun a h' q => sp_out hX rfl (q.mono (fun k p z => Or.inl ⟨?_, z.2⟩)))
    rotate_left
    · rw [hb] at z
      exact of_decide_eq_true (by simpa using z.1)
    have hne : ¬ w 0 = nI 12 := by rw [hb] at hb1; simpa using hb1
    have hk12 : nW w < 12 := by
      have : nW w ≠ 12 := fun z => hne (by rw [w0, z])
      omega
    refine bX5_wall_21.go rfl trivial ?_
    refine js_ldcS (tx := "at") (i := 4) hK (by decide +kernel) dX5_wall_22 ?_
    refine bX5_wall_24.go rfl (by repeat' first | exact trivial | rfl | assumption | omega | apply And.intro) ?_
    have s4 : va_up S 120 g1 0 4 = w 4 := by rw [va_up_ne _ _ (by decide)]; exact hr.2.2.1.1
    rw [s4]
    refine sp_told (i := 4) hC (by decide) (by rw [va_up_self]; exact hg1) w1 hn q757 dX5_wall_34 (by decide) rfl ⟨by show 0 + 1 + 2 ≤ 4; omega, by show 0 + 8 + 16 ≤ 32; omega⟩ (fun v2 t2 g2 e2 w2 hg2 => ?_) (fun a h' q => sp_out hX rfl (q.mono (fun k p z => Or.inr ⟨hne, ?_⟩)))
    rotate_left
    · have c1 : (cell1 T n (.inr (advS T n ts.1)) w).2 = .inl (k, p) := z
      show (cellE T n (8 + 2 * nW w) (.inr (advS T n ts.1)) w).1 = _
      show (cell3 T n (.inr (advS T n ts.1)) w).2 = _
      rw [cell3, cell2, c1]; rfl
    have c1 : cell1 T n (.inr (advS T n ts.1)) w = (v2, .inr t2) := e2
    have hx : inI v2 (nI 0) (w 4 - nI 1) = true := by
      have := (told_good (show (toldE T n 4 (nI 0) (w 4 - nI 1) (.inr (advS T n ts.1))).2 = .inr t2 by rw [e2])).2
      rw [e2] at this; exact this
    refine bX5_wall_37.go rfl (by repeat' first | exact trivial | rfl | assumption | omega | apply And.intro) ?_
    refine sp_free (w := w) hC ((hr.rd g1).rd g2) hx hw (by rw [va_up_self]; exact hg2) w2 hn q781 dX5_wall_49 (by decide) rfl ⟨by show 0 + 1 + 2 + 1 ≤ 4; omega, by show 0 + 8 + 16 + 8 ≤ 32; omega⟩ (fun v3 t3 g3 e3 w3 hg3 => ?_) (fun a h' q => sp_out hX rfl (q.mono (fun k p z => Or.inr ⟨hne, ?_⟩)))
    rotate_left
    · show (cell3 T n (.inr (advS T n ts.1)) w).2 = _
      rw [cell3, cell2, c1]; exact z
    have c3 : cell3 T n (.inr (advS T n ts.1)) w = (v3, .inr t3) := by rw [cell3, cell2, c1]; exact e3
    have hy : inI v3 (nI 0) (w 5 - nI 1) = true := by
      have := (num_good (show (numE T n (nI 0) (w 5 - nI 1) (if tkE w v2 (.inr t2) = true then errE (nI 2) (.inr t2) else .inr t2)).2 = .inr t3 by rw [show numE T n (nI 0) (w 5 - nI 1) (if tkE w v2 (.inr t2) = true then errE (nI 2) (.inr t2) else .inr t2) = frE T n w v2 (.inr t2) from rfl, e3])).2
      rw [show numE T n (nI 0) (w 5 - nI 1) (if tkE w v2 (.inr t2) = true then errE (nI 2) (.inr t2) else .inr t2) = frE T n w v2 (.inr t2) from rfl, e3] at this
      exact this
    rw [e4] at hx
    rw [e5] at hy
    obtain ⟨a, ha, rfl⟩ := inI_nat (by omega) hx
    obtain ⟨b', hb', rfl⟩ := inI_nat (by omega) hy
    refine bX5_wall_52.go rfl trivial ?_
    rw [pk_mul, nI_add]
    intro h hp
    refine J.zast (hp.at (u_lo (by decide : 3 < 7))) (vp_in_nI (by omega) (by decide)) dX5_wall_56 ?_
    rw [nI_clamp (by omega), show vp_nar .boolean (nI 1) = nI 1 from rfl]
    have hp2 := hp.upd (i := 3) (S' := va_up (va_up (va_up (va_up S 120 g1) 120 g2) 120 g3) 3 (upd ((va_up (va_up (va_up S 120 g1) 120 g2) 120 g3) 3) (20 * b' + a) (nI 1))) (u_lo (by decide)) (fun j hj => va_up_ne _ _ hj)
    rw [va_up_self] at hp2
    refine (show JS SP X mX5_wall (rmOf mX5_wall.lv 4 32) _ _ _ 57 _ _ _ from ?_) _ hp2
    refine bX5_wall_57.go rfl (by repeat' first | exact trivial | rfl | assumption | omega | apply And.intro) ?_
    refine sp_vret dX5_wall_70 rfl ⟨hne, rfl, t3, sk, _, N, ?_, w3, rfl, ⟨rfl, rfl⟩, ?_, ?_⟩ (by show 0 + 1 + 2 + 1 ≤ 4; omega) (by show 0 + 8 + 16 + 8 ≤ 32; omega)
    · show (cell3 T n (.inr (advS T n ts.1)) w).2 = _
      rw [c3]
    · refine SR.wall (k := nW w) (a := a) (b := b') hr w0 hk12 (by omega) (by omega) (fun i i0 i3 i1 => by rw [upA_ne i0, va_up_ne _ _ i3, va_up_ne _ _ i1, va_up_ne _ _ i1, va_up_ne _ _ i1]) ?_ ?_ (fun j hj => ?_) ?_
      · rw [upA_ne (by decide), va_up_self, va_up_ne _ _ (by decide), va_up_ne _ _ (by decide), va_up_ne _ _ (by decide)]; rfl
      · rw [upA, va_up_self, va_up_self, va_up_ne _ _ (by decide), va_up_ne _ _ (by decide), va_up_ne _ _ (by decide), va_up_ne _ _ (by decide), s7, nI_add]
      · rw [upA, va_up_self, va_up_ne _ _ hj, va_up_ne _ _ (by decide), va_up_ne _ _ (by decide), va_up_ne _ _ (by decide), va_up_ne _ _ (by decide)]
      · show va_up (cellE T n (8 + 2 * nW w) (.inr (advS T n ts.1)) w).2 0 (w 0 + b2 (goodE (cell3 T n (.inr (advS T n ts.1)) w).2)) = _
        rw [cellE, c3, c1]
        show va_up (va_up (va_up w (8 + 2 * nW w) (nI a)) (8 + 2 * nW w + 1) (nI b')) 0 (w 0 + b2 true) = _
        rw [show (b2 true : Int32) = nI 1 from rfl, w0, nI_add]
    · rw [upA_ne (by decide), va_up_ne _ _ (by decide), va_up_self]; exact hg3
  refine bX5_wall_0.go rfl (by repeat' first | exact trivial | rfl | assumption | omega | apply And.intro) ?_
  rw [s7]
  refine j_icmp_ge (tgt := 17) dX5_wall_10 (by decide) (fun z => ?_) (fun z => ?_)
  · rw [nI_leI (by omega) (by omega)] at z
    refine bX5_wall_17.go rfl trivial ?_
    exact j18 false (by rw [decide_eq_true (show w 0 = nI 12 by rw [w0]; congr 1; omega)]; rfl)
  · rw [nI_leI (by omega) (by omega)] at z
    refine bX5_wall_13.go rfl trivial ?_
    exact j18 true (by rw [decide_eq_false (fun y => z (by rw [w0] at y; have := (nI_eq (by omega) (by omega)).mp y; omega))]; rfl)
end Wll
