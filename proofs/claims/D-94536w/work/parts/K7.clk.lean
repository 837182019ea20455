set_option maxRecDepth 100000
/-! ===== UnseenClock$Reader: clock ===== -/
section ClA
variable {X : Cx} {hz h h' : AH} {tp : Nat} {T w w' : Nat → Int32} {sk : Nat → Nat} {S S' : Nat → Nat → Int32} {N : Nat → Nat} {q n c : Nat} {g : Nat → Int32} {s : RdE} {e : Int32 × Nat}
theorem SR.bd (h : SR S N w) : N 0 ≤ 4 ∧ N 1 ≤ 8 ∧ ∀ p, p < N 1 → N (2 + p) ≤ 4 := ⟨h.1.2.2, h.2.1.2.2, fun p hp => by obtain ⟨-, -, ⟨f5, f6, -⟩, -⟩ := h.2.2.2.2.2 p hp; omega⟩
/-- a dial more -/
theorem SP.dial (hp : SP X (va_up hz q (some (.inr (7, [.int (g 0), .int (g 1), .int (g 2), .int (g 3), .int (g 4), .int (g 5)]))), tp, T, sk, S, N) h) (hq : hz q = none) (htp : hz tp = some (.inl (X.dA 2, 2400, .inl T))) (h4 : N 0 < 4) (hB : N 0 ≤ 4 ∧ N 1 ≤ 8 ∧ ∀ p, p < N 1 → N (2 + p) ≤ 4) (ha : AddR X h h' (sk 1) (sk 5) q 4 (N 0) (fun j => if j < N 0 then some (sk (20 + j)) else none)) :
    ∃ m, SP X (hz, tp, T, va_up sk (20 + N 0) q, va_up (upA S 1 0 m) (20 + N 0) g, va_up N 0 (N 0 + 1)) h' := by
  obtain ⟨⟨m, a1⟩, a2, a3⟩ := ha
  obtain ⟨f1, f2⟩ := hp.nfz
  have e0 : va_up N 0 (N 0 + 1) 0 = N 0 + 1 := va_up_self _ _ _
  have e1 : va_up N 0 (N 0 + 1) 1 = N 1 := va_up_ne _ _ (by decide)
  have e2 : ∀ p, va_up N 0 (N 0 + 1) (2 + p) = N (2 + p) := fun p => va_up_ne _ _ (by omega)
  have u1 : SpU N 1 := u_lo (by decide)
  have u5 : SpU N 5 := u_lo (by decide)
  refine ⟨m, hp.chg2 (D := fun i => i = 1 ∨ i = 5 ∨ i = 20 + N 0) (fun z c hc => by rw [va_up_ne _ _ (fun y => by rw [y, hq] at hc; cases hc)]; exact hc) htp (fun i di ui => ?_) (fun i di ui => ?_) (fun i di ui => ?_) (fun i j di dj ui uj z => ?_) (fun z c hc hn _ => ?_)⟩
  · have d1 : i ≠ 1 := fun y => di (Or.inl y)
    have d5 : i ≠ 5 := fun y => di (Or.inr (Or.inl y))
    have d2 : i ≠ 20 + N 0 := fun y => di (Or.inr (Or.inr y))
    have ui' : SpU N i := by
      simp only [SpU, e0, e1, e2] at ui ⊢
      omega
    refine ⟨ui', va_up_ne _ _ d2, ?_⟩
    rw [va_up_ne _ _ d2, upA_ne d1]
    refine spC_cg hB.1 hB.2.1 hB.2.2 (fun j uj => va_up_ne _ _ (fun y => ?_)) (fun y => by omega) (fun y => e1) (fun p _ _ => e2 p) (fun y _ => va_up_ne _ _ (by omega)) ui'
    rw [y] at uj
    simp only [SpU] at uj
    omega
  · rcases di with rfl | rfl | rfl
    · rw [va_up_ne _ _ (by omega : 1 ≠ 20 + N 0), a1]
      show _ = some (.inr (9, [.int (va_up (upA S 1 0 m) (20 + N 0) g 1 0), .ref (va_up sk (20 + N 0) q 5), .int (nI (va_up N 0 (N 0 + 1) 0))]) : va_E)
      rw [va_up_ne _ _ (by omega : 1 ≠ 20 + N 0), va_up_ne _ _ (by omega : 5 ≠ 20 + N 0), e0, upA_s, va_up_self]
    · rw [va_up_ne _ _ (by omega : 5 ≠ 20 + N 0), a2]
      show _ = some (rfA X 5 4 (fun j => if j < va_up N 0 (N 0 + 1) 0 then some (va_up sk (20 + N 0) q (20 + j)) else none))
      rw [e0]
      refine congrArg some (congrArg (rfA X 5 4) (funext fun j => ?_))
      by_cases hj : j = N 0
      · rw [hj, va_up_self, va_up_self, if_pos (by omega)]
      · rw [va_up_ne _ _ hj, va_up_ne _ _ (by omega : 20 + j ≠ 20 + N 0)]
        by_cases hj2 : j < N 0
        · rw [if_pos hj2, if_pos (by omega)]
        · rw [if_neg hj2, if_neg (by omega)]
    · rw [va_up_self, va_up_self, spc_d (by omega), a3 _ (f2 1 u1) (f2 5 u5), f1]
  · rcases di with rfl | rfl | rfl
    · exact Or.inr ⟨1, Or.inl rfl, u1, va_up_ne _ _ (by omega)⟩
    · exact Or.inr ⟨5, Or.inr (Or.inl rfl), u5, va_up_ne _ _ (by omega)⟩
    · exact Or.inl (by rw [va_up_self]; exact ⟨hq, f2⟩)
  · rcases di with rfl | rfl | rfl <;> rcases dj with rfl | rfl | rfl <;> first
      | rfl
      | (rw [va_up_self, va_up_ne _ _ (by omega)] at z; exact absurd z (f2 _ (u_lo (by decide))))
      | (rw [va_up_self, va_up_ne _ _ (by omega)] at z; exact absurd z.symm (f2 _ (u_lo (by decide))))
      | (rw [va_up_ne _ _ (by omega), va_up_ne _ _ (by omega)] at z; exact absurd z (hp.inj (u_lo (by decide)) (u_lo (by decide)) (by decide)))
  · rw [a3 z (hn 1 (Or.inl rfl) u1) (hn 5 (Or.inr (Or.inl rfl)) u5)]
    exact hc
theorem SR.clock (h : SR S N w) (h4 : N 0 < 4) (hW : nW w ≤ 12) (hS : ∀ i, i ≠ 1 → i ≠ 20 + N 0 → i ≠ 120 → S' i = S i) (hg : ∀ j, j < 6 → S' (20 + N 0) j = w' (32 + 6 * N 0 + j)) (hw : ∀ q, q ≠ 1 → (q < 32 + 6 * N 0 ∨ 32 + 6 * N 0 + 6 ≤ q) → w' q = w q) (h1 : w' 1 = nI (N 0 + 1)) : SR S' (va_up N 0 (N 0 + 1)) w' := by
  obtain ⟨⟨c1, c2, c3⟩, ⟨p1, p2, p3⟩, ⟨s4, s5, s6, s7, s8⟩, hwl, hd, hper⟩ := h
  have e0 : va_up N 0 (N 0 + 1) 0 = N 0 + 1 := va_up_self _ _ _
  have e1 : va_up N 0 (N 0 + 1) 1 = N 1 := va_up_ne _ _ (by decide)
  have e2 : ∀ p, va_up N 0 (N 0 + 1) (2 + p) = N (2 + p) := fun p => va_up_ne _ _ (by omega)
  have e : ∀ q, q ≠ 1 → (q < 32 ∨ 56 ≤ q) → w' q = w q := fun q h1 hq => hw q h1 (by omega)
  have eP : ∀ p j, perI w' p j = perI w p j := fun p j => by unfold perI; rw [e _ (by omega) (by omega)]
  have eA : ∀ a' b' j, j < 12 → wallAt w' a' b' j = wallAt w a' b' j := fun a' b' j hj => by
    unfold wallAt
    rw [e _ (by omega) (by omega), e _ (by omega) (by omega)]
  have s0 : S' 0 = S 0 := hS 0 (by decide) (by omega) (by decide)
  unfold SR
  rw [e0, e1]
  refine ⟨⟨by unfold nC; rw [h1, nI_clamp (by omega)], h1, by omega⟩, ⟨by rw [p1]; unfold nP; rw [e 2 (by decide) (by omega)], by rw [e 2 (by decide) (by omega)]; exact p2, p3⟩, ⟨by rw [s0, e 4 (by decide) (by omega)]; exact s4, by rw [s0, e 5 (by decide) (by omega)]; exact s5, by rw [s0, e 6 (by decide) (by omega)]; exact s6, by rw [s0, e 0 (by decide) (by omega)]; exact s7, by rw [s0, e 3 (by decide) (by omega)]; exact s8⟩, fun a b ha hb => ?_, fun c hc j hj => ?_, fun p hp => ?_⟩
  · rw [hS 3 (by decide) (by omega) (by decide), hwl a b ha hb]
    have n0 : nW w' = nW w := by unfold nW; rw [e 0 (by decide) (by omega)]
    rw [n0]
    refine congrArg b2 ?_
    refine (anyN_congr (fun j hj => ?_)).symm
    unfold wallAt
    have : j < 12 := by omega
    rw [e _ (by omega) (by omega), e _ (by omega) (by omega)]
  · by_cases z : c = N 0
    · rw [z]; exact hg j hj
    · rw [hS (20 + c) (by omega) (by omega) (by omega), hw _ (by omega) (by omega)]; exact hd c (by omega) j hj
  · obtain ⟨f1, ⟨f2, f3, f4⟩, ⟨f5, f6, f7⟩, f8, f9⟩ := hper p hp
    have eM : nM w' p = nM w p := by unfold nM; rw [e _ (by omega) (by omega)]
    have eL : nL w' p = nL w p := by unfold nL; rw [e _ (by omega) (by omega)]
    refine ⟨fun j hj => by rw [hS (30 + p) (by omega) (by omega) (by omega), eP]; exact f1 j hj, ⟨by rw [hS (30 + p) (by omega) (by omega) (by omega), eP]; exact f2, by rw [eM]; exact f3, by rw [eP, eM]; exact f4⟩, ⟨by rw [eL, e2]; exact f5, by rw [eL]; exact f6, by rw [eP, eL]; exact f7⟩, fun k hk => ?_, fun i hi => ?_⟩
    · rw [eM] at hk
      rw [hS (40 + p) (by omega) (by omega) (by omega), hS (50 + p) (by omega) (by omega) (by omega), eP, eP]; exact f8 k hk
    · rw [eL] at hi
      rw [hS (80 + 4 * p + i) (by omega) (by omega) (by omega), va_up_ne _ _ (by omega), f9 i hi]
      exact (hbC_cg (fun j hj => by unfold lkI; rw [e _ (by omega) (by omega)])).symm
theorem clk_e1 (z : (cell3 T n s w).2 = .inl e) : (clockE T n c s w).1 = .inl e := by
  show (clk4 T n (32 + 6 * c) s w).2 = _
  rw [clk4, clk3, clk2, clk1, show (cellE T n (32 + 6 * c) s w).1 = (cell3 T n s w).2 from rfl, z]; rfl
theorem clk_e2 (z : (clk1 T n (32 + 6 * c) s w).2 = .inl e) : (clockE T n c s w).1 = .inl e := by
  show (clk4 T n (32 + 6 * c) s w).2 = _
  rw [clk4, clk3, clk2, z]; rfl
theorem clk_e3 (z : (clk2 T n (32 + 6 * c) s w).2 = .inl e) : (clockE T n c s w).1 = .inl e := by
  show (clk4 T n (32 + 6 * c) s w).2 = _
  rw [clk4, clk3, z]; rfl
theorem clk_e4 (z : (clk3 T n (32 + 6 * c) s w).2 = .inl e) : (clockE T n c s w).1 = .inl e := by
  show (clk4 T n (32 + 6 * c) s w).2 = _
  rw [clk4, z]; rfl
end ClA
section Clk
variable {X : Cx} {M : MD} {R : Room} {Z : ZT} {k m pc idx : Nat} {L : List (Option Value)} {st : List Value} {hz : AH} {tp n : Nat} {T w w' : Nat → Int32} {sk : Nat → Nat} {S S' : Nat → Nat → Int32} {N : Nat → Nat} {aK aV : Nat → Nat} {ts : TS} {x : Int32}
theorem bX5_clock_0 : Blk SP mX5_clock 0 8 [oAL 0, oAL 0, pRs, pSR 0] := blk_c (s_aload_n dX5_clock_0 rfl) <| blk_c (s_aload_n dX5_clock_1 rfl) <| blk_c (p_Rs q632 dX5_clock_2) <| blk_c (p_SR (f := 0) (by decide) nq428 dX5_clock_5) <| blk_nil
theorem bX5_clock_13 : Blk SP mX5_clock 13 14 [oC (nI 4)] := blk_c (s_iconst dX5_clock_13 (by decide +kernel)) <| blk_nil
theorem bX5_clock_17 : Blk SP mX5_clock 17 22 [oC (nI 1), .inl (fun s => some s)] := blk_c (s_iconst dX5_clock_17 (by decide +kernel)) <| blk_c (s_goto (tgt := 22) dX5_clock_18 (by decide)) <| blk_nil
theorem bX5_clock_21 : Blk SP mX5_clock 21 22 [oC (nI 0)] := blk_c (s_iconst dX5_clock_21 (by decide +kernel)) <| blk_nil
theorem bX5_clock_25 : Blk SP mX5_clock 25 26 [oAL 0] := blk_c (s_aload_n dX5_clock_25 rfl) <| blk_nil
theorem bX5_clock_28 : Blk SP mX5_clock 28 38 [oC (nI 0), oAL 0, pRs, pSI 4, oC (nI 1), oSub] := blk_c (s_iconst dX5_clock_28 (by decide +kernel)) <| blk_c (s_aload_n dX5_clock_29 rfl) <| blk_c (p_Rs q632 dX5_clock_30) <| blk_c (p_SI (f := 4) (by decide) nq439 dX5_clock_33) <| blk_c (s_iconst dX5_clock_36 (by decide +kernel)) <| blk_c (s_isub dX5_clock_37) <| blk_nil
theorem bX5_clock_41 : Blk SP mX5_clock 41 44 [oIS 1, oAL 0, oIL 1] := blk_c (s_istore_n dX5_clock_41 rfl (by decide)) <| blk_c (s_aload_n dX5_clock_42 rfl) <| blk_c (s_iload_n dX5_clock_43 rfl) <| blk_nil
theorem bX5_clock_47 : Blk SP mX5_clock 47 49 [oIS 2, oAL 0] := blk_c (s_istore_n dX5_clock_47 rfl (by decide)) <| blk_c (s_aload_n dX5_clock_48 rfl) <| blk_nil
theorem bX5_clock_51 : Blk SP mX5_clock 51 54 [oC (nI 0), oC (nI 60)] := blk_c (s_iconst dX5_clock_51 (by decide +kernel)) <| blk_c (s_bipush dX5_clock_52 (by decide +kernel)) <| blk_nil
theorem bX5_clock_57 : Blk SP mX5_clock 57 59 [oIS 3, oAL 0] := blk_c (s_istore_n dX5_clock_57 rfl (by decide)) <| blk_c (s_aload_n dX5_clock_58 rfl) <| blk_nil
theorem bX5_clock_61 : Blk SP mX5_clock 61 64 [oC (nI 1), oC (nI 12)] := blk_c (s_iconst dX5_clock_61 (by decide +kernel)) <| blk_c (s_bipush dX5_clock_62 (by decide +kernel)) <| blk_nil
theorem bX5_clock_67 : Blk SP mX5_clock 67 70 [oIS 4, oAL 0] := blk_c (s_istore dX5_clock_67 (by decide)) <| blk_c (s_aload_n dX5_clock_69 rfl) <| blk_nil
theorem bX5_clock_72 : Blk SP mX5_clock 72 75 [oC (nI 2), oC (nI 60)] := blk_c (s_iconst dX5_clock_72 (by decide +kernel)) <| blk_c (s_bipush dX5_clock_73 (by decide +kernel)) <| blk_nil
theorem bX5_clock_78 : Blk SP mX5_clock 78 87 [oIS 5, oAL 0, pRs, pSR 0] := blk_c (s_istore dX5_clock_78 (by decide)) <| blk_c (s_aload_n dX5_clock_80 rfl) <| blk_c (p_Rs q632 dX5_clock_81) <| blk_c (p_SR (f := 0) (by decide) nq428 dX5_clock_84) <| blk_nil
theorem bX5_clock_90 : Blk SP mX5_clock 90 99 [oDupR, oIL 1, oIL 2, oIL 3, oIL 4, oIL 5, oAL 0] := blk_c (s_dupR dX5_clock_90) <| blk_c (s_iload_n dX5_clock_91 rfl) <| blk_c (s_iload_n dX5_clock_92 rfl) <| blk_c (s_iload_n dX5_clock_93 rfl) <| blk_c (s_iload dX5_clock_94) <| blk_c (s_iload dX5_clock_96) <| blk_c (s_aload_n dX5_clock_98 rfl) <| blk_nil
theorem bX5_clock_101 : Blk SP mX5_clock 101 106 [oC (nI 0), oIL 5, oC (nI 1), oSub] := blk_c (s_iconst dX5_clock_101 (by decide +kernel)) <| blk_c (s_iload dX5_clock_102) <| blk_c (s_iconst dX5_clock_104 (by decide +kernel)) <| blk_c (s_isub dX5_clock_105) <| blk_nil
theorem bX5_clock_117 : Blk SP mX5_clock 117 118 [oPopI] := blk_c (s_popI dX5_clock_117) <| blk_nil
theorem ok_clock (hC : RdC X aK aV T) (hr : SR S N w) (hF : FrOk w) (hw : ∃ a b : Nat, a ≤ 12 ∧ b ≤ 12 ∧ w 4 = nI a ∧ w 5 = nI b) (hg : TokG (S 120) n ts) (hts : TsW T n ts) (hn : n ≤ 2400) : SPX X mX5_clock 13 102 [.ref (sk 120)] (hz, tp, T, sk, S, N) (fun r x' => ¬ w 1 = nI 4 ∧ QLn hz tp T n sk (clockE T n (nC w) (.inr (advS T n ts.1)) w) r x') (fun k p => (w 1 = nI 4 ∧ (k, p) = (nI 3, ts.2.1)) ∨ (¬ w 1 = nI 4 ∧ (clockE T n (nC w) (.inr (advS T n ts.1)) w).1 = .inl (k, p))) := by
  have hX := hC.1
  have hN := hC.2.1
  have hK := hC.2.2.2.1
  have hB := hr.bd
  obtain ⟨wa, wb, hwa, hwb, e4, e5⟩ := id hw
  obtain ⟨⟨w0, w12⟩, -⟩ := id hF
  have hc0 : nC w = N 0 := hr.1.1.symm
  have w1e : w 1 = nI (N 0) := hr.1.2.1
  rw [hc0]
  refine SPX_start (L := [some (.ref (sk 120)), none, none, none, none, none]) 5 rfl ?_
  generalize hs : (Sum.inr (advS T n ts.1) : RdE) = s
  have j22 : ∀ b, b = !decide (w 1 = nI 4) → JS SP X mX5_clock (rmOf mX5_clock.lv 13 102) (ZSX X 13 102 hz (fun r x' => ¬ w 1 = nI 4 ∧ QLn hz tp T n sk (clockE T n (N 0) s w) r x') (fun k p => (w 1 = nI 4 ∧ (k, p) = (nI 3, ts.2.1)) ∨ (¬ w 1 = nI 4 ∧ (clockE T n (N 0) s w).1 = .inl (k, p)))) 0 0 22 [some (.ref (sk 120)), none, none, none, none, none] [.int (b2 b), .ref (sk 120)] (hz, tp, T, sk, S, N) := by
    intro b hb
    refine sp_room hC hg hts hn q776 dX5_clock_22 (by decide) rfl ⟨by show 0 + 1 ≤ 13; omega, by show 0 + 8 ≤ 102; omega⟩ (fun g1 hb1 w1 hg1 => ?_) (fun a h' q => sp_out hX rfl (q.mono (fun k p z => Or.inl ⟨?_, z.2⟩)))
    rotate_left
    · rw [hb] at z
      exact of_decide_eq_true (by simpa using z.1)
    have hne : ¬ w 1 = nI 4 := by rw [hb] at hb1; simpa using hb1
    have hk4 : N 0 < 4 := by
      have : N 0 ≠ 4 := fun z => hne (by rw [w1e, z])
      omega
    refine bX5_clock_25.go rfl trivial ?_
    refine js_ldcS (tx := "at") (i := 4) hK (by decide +kernel) dX5_clock_26 ?_
    refine bX5_clock_28.go rfl (by repeat' first | exact trivial | rfl | assumption | omega | apply And.intro) ?_
    have s4 : va_up S 120 g1 0 4 = w 4 := by rw [va_up_ne _ _ (by decide)]; exact hr.2.2.1.1
    rw [s4]
    refine sp_told (i := 4) hC (by decide) (by rw [va_up_self]; exact hg1) w1 hn q757 dX5_clock_38 (by decide) rfl ⟨by show 0 + 1 + 2 ≤ 13; omega, by show 0 + 8 + 16 ≤ 102; omega⟩ (fun v2 t2 g2 e2 w2 hg2 => ?_) (fun a h' q => sp_out hX rfl (q.mono (fun k p z => Or.inr ⟨hne, ?_⟩)))
    rotate_left
    · rw [hs] at z
      have c1 : (cell1 T n s w).2 = .inl (k, p) := z
      refine clk_e1 ?_
      rw [cell3, cell2, c1]; rfl
    rw [hs] at e2
    have c1 : cell1 T n s w = (v2, .inr t2) := e2
    have hx : inI v2 (nI 0) (w 4 - nI 1) = true := by
      have := (told_good (show (toldE T n 4 (nI 0) (w 4 - nI 1) s).2 = .inr t2 by rw [e2])).2
      rw [e2] at this; exact this
    refine bX5_clock_41.go rfl (by repeat' first | exact trivial | rfl | assumption | omega | apply And.intro) ?_
    refine sp_free (w := w) hC ((hr.rd g1).rd g2) hx hw (by rw [va_up_self]; exact hg2) w2 hn q781 dX5_clock_44 (by decide) rfl ⟨by show 0 + 1 + 2 + 1 ≤ 13; omega, by show 0 + 8 + 16 + 8 ≤ 102; omega⟩ (fun v3 t3 g3 e3 w3 hg3 => ?_) (fun a h' q => sp_out hX rfl (q.mono (fun k p z => Or.inr ⟨hne, ?_⟩)))
    rotate_left
    · refine clk_e1 ?_
      rw [cell3, cell2, c1]; exact z
    have c3 : cell3 T n s w = (v3, .inr t3) := by rw [cell3, cell2, c1]; exact e3
    refine bX5_clock_47.go rfl (by repeat' first | exact trivial | rfl | assumption | omega | apply And.intro) ?_
    refine js_ldcS (tx := "pace") (i := 5) hK (by decide +kernel) dX5_clock_49 ?_
    refine bX5_clock_51.go rfl trivial ?_
    refine sp_told (i := 5) hC (by decide) (by rw [va_up_self]; exact hg3) w3 hn q757 dX5_clock_54 (by decide) rfl ⟨by show 0 + 1 + 2 + 1 + 2 ≤ 13; omega, by show 0 + 8 + 16 + 8 + 16 ≤ 102; omega⟩ (fun v4 t4 g4 e4' w4 hg4 => ?_) (fun a h' q => sp_out hX rfl (q.mono (fun k p z => Or.inr ⟨hne, ?_⟩)))
    rotate_left
    · refine clk_e2 ?_
      rw [clk1, show (cellE T n (32 + 6 * N 0) s w).1 = (cell3 T n s w).2 from rfl, c3]; exact z
    have k1 : clk1 T n (32 + 6 * N 0) s w = (v4, .inr t4) := by rw [clk1, show (cellE T n (32 + 6 * N 0) s w).1 = (cell3 T n s w).2 from rfl, c3]; exact e4'
    refine bX5_clock_57.go rfl (by repeat' first | exact trivial | rfl | assumption | omega | apply And.intro) ?_
    refine js_ldcS (tx := "over") (i := 6) hK (by decide +kernel) dX5_clock_59 ?_
    refine bX5_clock_61.go rfl trivial ?_
    refine sp_told (i := 6) hC (by decide) (by rw [va_up_self]; exact hg4) w4 hn q757 dX5_clock_64 (by decide) rfl ⟨by show 0 + 1 + 2 + 1 + 2 + 2 ≤ 13; omega, by show 0 + 8 + 16 + 8 + 16 + 16 ≤ 102; omega⟩ (fun v5 t5 g5 e5' w5 hg5 => ?_) (fun a h' q => sp_out hX rfl (q.mono (fun k p z => Or.inr ⟨hne, ?_⟩)))
    rotate_left
    · refine clk_e3 ?_
      rw [clk2, k1]; exact z
    have k2 : clk2 T n (32 + 6 * N 0) s w = (v5, .inr t5) := by rw [clk2, k1]; exact e5'
    refine bX5_clock_67.go rfl (by repeat' first | exact trivial | rfl | assumption | omega | apply And.intro) ?_
    refine js_ldcS (tx := "shows") (i := 7) hK (by decide +kernel) dX5_clock_70 ?_
    refine bX5_clock_72.go rfl trivial ?_
    refine sp_told (i := 7) hC (by decide) (by rw [va_up_self]; exact hg5) w5 hn q757 dX5_clock_75 (by decide) rfl ⟨by show 0 + 1 + 2 + 1 + 2 + 2 + 2 ≤ 13; omega, by show 0 + 8 + 16 + 8 + 16 + 16 + 16 ≤ 102; omega⟩ (fun v6 t6 g6 e6 w6 hg6 => ?_) (fun a h' q => sp_out hX rfl (q.mono (fun k p z => Or.inr ⟨hne, ?_⟩)))
    rotate_left
    · refine clk_e4 ?_
      rw [clk3, k2]; exact z
    have k3 : clk3 T n (32 + 6 * N 0) s w = (v6, .inr t6) := by rw [clk3, k2]; exact e6
    refine bX5_clock_78.go rfl (by repeat' first | exact trivial | rfl | assumption | omega | apply And.intro) ?_
    intro h hp
    have htp : hz tp = some (.inl (X.dA 2, 2400, .inl T)) := hp.2.2.2.2.2
    refine J.new (C := RX7) (T := TX7) (N := 6) (ty := tyX7) (ci := 7) (fs := [.int 0, .int 0, .int 0, .int 0, .int 0, .int 0]) hp.1.2 clsX7 rfl q836 q837 q150 (by decide +kernel) ⟨by show 0 + 1 + 2 + 1 + 2 + 2 + 2 + 1 ≤ 13; omega, by show 0 + 8 + 16 + 8 + 16 + 16 + 16 + 6 ≤ 102; omega⟩ dX5_clock_87 (fun q hq => ?_)
    have hzq := (hp.nsk hq).2.2
    have hqt := (hp.nsk hq).2.1
    refine (show JS SP X mX5_clock (rmOf mX5_clock.lv 13 102) _ _ _ 90 _ _ _ from ?_) _ (hp.frz0 hq)
    refine bX5_clock_90.go rfl trivial ?_
    refine js_ldcS (tx := "from") (i := 8) hK (by decide +kernel) dX5_clock_99 ?_
    refine bX5_clock_101.go rfl trivial ?_
    refine sp_told (i := 8) hC (by decide) (by rw [va_up_self]; exact hg6) w6 hn q757 dX5_clock_106 (by decide) rfl ⟨by show 0 + 1 + 2 + 1 + 2 + 2 + 2 + 1 + 2 ≤ 13; omega, by show 0 + 8 + 16 + 8 + 16 + 16 + 16 + 6 + 16 ≤ 102; omega⟩ (fun v7 t7 g7 e7 w7 hg7 => ?_) (fun a h' q => sp_out hX rfl ((q.thaw hzq).mono (fun k p z => Or.inr ⟨hne, ?_⟩)))
    rotate_left
    · show (clk4 T n (32 + 6 * N 0) s w).2 = _
      rw [clk4, k3]; exact z
    have k4 : clk4 T n (32 + 6 * N 0) s w = (v7, .inr t7) := by rw [clk4, k3]; exact e7
    intro h2 hp2
    refine J.callI (M' := mX7_init) (As := [.int v2, .int v3, .int v4, .int v5, .int v6, .int v7]) (mc := 0) (ms := 0) (ok_X7_init hp2.nfz.1) rfl (fun o h' q => ⟨_, q.1⟩) dX5_clock_109 q841 q150 q839 q840 rfl hy_X7_init (by decide) ⟨by show 0 + 1 + 2 + 1 + 2 + 2 + 2 + 1 + 2 + 0 ≤ 13; omega, by show 0 + 8 + 16 + 8 + 16 + 16 + 16 + 6 + 16 + 0 ≤ 102; omega⟩ (Nat.le_of_ble_eq_true rfl) (fun v h3 q0 => ?_)
    obtain ⟨q0, rfl⟩ := q0
    cases q0
    have hp3 := hp2.frz1 (e := .inr (7, [.int v2, .int v3, .int v4, .int v5, .int v6, .int v7])) hqt
    obtain ⟨a1, a5⟩ := hp3.ls9 (lsn1 hB.1)
    refine J.callF (M' := mJ2_add) (x := xAdd) (As := [.ref q]) (mc := 0) (ms := 0) hp3.1.1 (ok_addr hp3.1.1 a1 (hp3.inj (u_lo (by decide)) (u_lo (by decide)) (by decide)) a5 hk4 (by decide) hp3.nfz.1 rfl nq2319 (hp3.nfz.2 1 (u_lo (by decide)))) (fun o h' q => ⟨_, q.1⟩) a1 dX5_clock_112 (lw_F q870 q873 q875 q136 q877) (List.mem_of_getElem? (i := 2) rfl) hy_xAdd (by decide) ⟨by show 0 + 1 + 2 + 1 + 2 + 2 + 2 + 1 + 2 + 0 + 0 ≤ 13; omega, by show 0 + 8 + 16 + 8 + 16 + 16 + 16 + 6 + 16 + 0 + 0 ≤ 102; omega⟩ (Nat.le_of_ble_eq_true rfl) (fun v h3 q0 => ?_)
    obtain ⟨q0, ha⟩ := q0
    cases q0
    obtain ⟨mm, hp4⟩ := SP.dial (g := fun j => match j with | 0 => v2 | 1 => v3 | 2 => v4 | 3 => v5 | 4 => v6 | _ => v7) hp3 hzq htp hk4 hB ha
    refine (show JS SP X mX5_clock (rmOf mX5_clock.lv 13 102) _ _ _ 117 _ _ _ from ?_) _ hp4
    refine bX5_clock_117.go rfl trivial ?_
    refine sp_vret dX5_clock_118 rfl ⟨hne, rfl, t7, _, _, _, ?_, w7, rfl, ⟨va_up_ne _ _ (by omega), va_up_ne _ _ (by omega)⟩, ?_, ?_⟩ (by show 0 + 1 + 2 + 1 + 2 + 2 + 2 + 1 + 2 + 0 + 0 ≤ 13; omega) (by show 0 + 8 + 16 + 8 + 16 + 16 + 16 + 6 + 16 + 0 + 0 ≤ 102; omega)
    · show (clk4 T n (32 + 6 * N 0) s w).2 = _
      rw [k4]
    · have ew : (clockE T n (N 0) s w).2 = va_up (va_up (va_up (va_up (va_up (va_up (va_up w (32 + 6 * N 0) v2) (32 + 6 * N 0 + 1) v3) (32 + 6 * N 0 + 2) v4) (32 + 6 * N 0 + 3) v5) (32 + 6 * N 0 + 4) v6) (32 + 6 * N 0 + 5) v7) 1 (nI (N 0 + 1)) := by
        rw [clockE, k4, k3, k2, k1, cellE, c3, c1]; rfl
      rw [ew]
      refine hr.clock hk4 w12 (fun i i1 i2 i3 => ?_) (fun j hj => ?_) (fun q h1 hq => ?_) (va_up_self _ _ _)
      · rw [va_up_ne _ _ i2, upA_ne i1]
        simp only [va_up_ne _ _ i3]
      · rw [va_up_self, va_up_ne _ _ (by omega)]
        have : j = 0 ∨ j = 1 ∨ j = 2 ∨ j = 3 ∨ j = 4 ∨ j = 5 := by omega
        rcases this with rfl | rfl | rfl | rfl | rfl | rfl <;> (simp only [up_at, Nat.add_right_inj, Nat.add_zero, if_true]; try rfl) <;> simp
      · simp (disch := omega) only [va_up_ne]
    · rw [va_up_ne _ _ (by omega), upA_ne (by decide), va_up_self]; exact hg7
  refine bX5_clock_0.go rfl (by repeat' first | exact trivial | rfl | assumption | omega | apply And.intro) ?_
  refine sp_size (lsn1 hB.1) dX5_clock_8 (lw_F q832 q803 q805 q136 q807) (by decide) rfl ?_
  refine bX5_clock_13.go rfl trivial ?_
  refine j_icmp_ge (tgt := 21) dX5_clock_14 (by decide) (fun z => ?_) (fun z => ?_)
  · rw [nI_leI (by omega) (by omega)] at z
    refine bX5_clock_21.go rfl trivial ?_
    exact j22 false (by rw [decide_eq_true (show w 1 = nI 4 by rw [w1e]; congr 1; omega)]; rfl)
  · rw [nI_leI (by omega) (by omega)] at z
    refine bX5_clock_17.go rfl trivial ?_
    exact j22 true (by rw [decide_eq_false (fun y => z (by rw [w1e] at y; have := (nI_eq (by omega) (by omega)).mp y; omega))]; rfl)
end Clk
