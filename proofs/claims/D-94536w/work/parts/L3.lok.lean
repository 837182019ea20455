set_option maxRecDepth 100000
/-! ===== UnseenClock$Reader: look ===== -/
section LkA
variable {X : Cx} {hz h h' : AH} {tp : Nat} {T w w' : Nat → Int32} {sk : Nat → Nat} {S S' : Nat → Nat → Int32} {N N' : Nat → Nat} {q n p l i kd : Nat} {f : Nat → Int32} {s : RdE} {e : Int32 × Nat} {c : Int32}
theorem hbL_ob (hk : kd < 6) : ∃ ci vs r, hbL kd f = .inr (ci, vs) ∧ vwCl[ci]? = some r ∧ Cond.castable r.1 "java/lang/Object" ∈ nwL := by
  have : kd = 0 ∨ kd = 1 ∨ kd = 2 ∨ kd = 3 ∨ kd = 4 ∨ kd = 5 := by omega
  rcases this with rfl | rfl | rfl | rfl | rfl | rfl
  · exact ⟨10, _, _, rfl, rfl, nq2321⟩
  · exact ⟨11, _, _, rfl, rfl, nq2322⟩
  · exact ⟨12, _, _, rfl, rfl, nq2323⟩
  · exact ⟨13, _, _, rfl, rfl, nq2324⟩
  · exact ⟨14, _, _, rfl, rfl, nq2325⟩
  · exact ⟨15, _, _, rfl, rfl, nq2326⟩
/-- a habit more -/
theorem SP.look (hp : SP X (va_up hz q (some (hbL kd f)), tp, T, sk, S, N) h) (hq : hz q = none) (htp : hz tp = some (.inl (X.dA 2, 2400, .inl T))) (hpp : p < N 1) (hl : N (2 + p) = l) (h4 : l < 4) (hB : N 0 ≤ 4 ∧ N 1 ≤ 8 ∧ ∀ p, p < N 1 → N (2 + p) ≤ 4) (ha : AddR X h h' (sk (60 + p)) (sk (70 + p)) q 4 l (fun j => if j < l then some (sk (80 + 4 * p + j)) else none)) :
    ∃ m, SP X (hz, tp, T, va_up sk (80 + 4 * p + l) q, va_up (upA S (60 + p) 0 m) (80 + 4 * p + l) f, va_up (va_up N (2 + p) (l + 1)) (80 + 4 * p + l) kd) h' := by
  obtain ⟨⟨m, a1⟩, a2, a3⟩ := ha
  obtain ⟨f1, f2⟩ := hp.nfz
  obtain ⟨b0, b8, b4⟩ := hB
  have e0 : ∀ j, j < 80 → j ≠ 2 + p → va_up (va_up N (2 + p) (l + 1)) (80 + 4 * p + l) kd j = N j := fun j h1 h2 => by rw [va_up_ne _ _ (by omega), va_up_ne _ _ h2]
  have e2 : va_up (va_up N (2 + p) (l + 1)) (80 + 4 * p + l) kd (2 + p) = l + 1 := by rw [va_up_ne _ _ (by omega), va_up_self]
  have e8 : va_up (va_up N (2 + p) (l + 1)) (80 + 4 * p + l) kd (80 + 4 * p + l) = kd := va_up_self _ _ _
  generalize hN' : va_up (va_up N (2 + p) (l + 1)) (80 + 4 * p + l) kd = N' at e0 e2 e8 ⊢
  have u6 : SpU N (60 + p) := u_p (by omega) hpp b8
  have u7 : SpU N (70 + p) := u_p (by omega) hpp b8
  refine ⟨m, hp.chg2 (D := fun i => i = 60 + p ∨ i = 70 + p ∨ i = 80 + 4 * p + l) (fun z c hc => by rw [va_up_ne _ _ (fun y => by rw [y, hq] at hc; cases hc)]; exact hc) htp (fun i di ui => ?_) (fun i di ui => ?_) (fun i di ui => ?_) (fun i j di dj ui uj z => ?_) (fun z c hc hn _ => ?_)⟩
  · have d1 : i ≠ 60 + p := fun y => di (Or.inl y)
    have d5 : i ≠ 70 + p := fun y => di (Or.inr (Or.inl y))
    have d2 : i ≠ 80 + 4 * p + l := fun y => di (Or.inr (Or.inr y))
    have ui' : SpU N i := by
      rcases ui with ui | ui | ui | ui | ui | ui
      · exact Or.inl ui
      · exact Or.inr (Or.inl ui)
      · rw [e0 0 (by omega) (by omega)] at ui; exact Or.inr (Or.inr (Or.inl ui))
      · rw [e0 1 (by omega) (by omega)] at ui; exact Or.inr (Or.inr (Or.inr (Or.inl ui)))
      · obtain ⟨y1, y2, y3, y4⟩ := ui
        rw [e0 1 (by omega) (by omega)] at y3
        refine Or.inr (Or.inr (Or.inr (Or.inr (Or.inl ⟨y1, y2, y3, ?_⟩))))
        by_cases y : (i - 80) / 4 = p
        · rw [y, e2] at y4
          rw [y, hl]
          omega
        · rw [e0 _ (by omega) (by omega)] at y4
          exact y4
      · exact Or.inr (Or.inr (Or.inr (Or.inr (Or.inr ui))))
    refine ⟨ui', va_up_ne _ _ d2, ?_⟩
    rw [va_up_ne _ _ d2, upA_ne d1]
    refine spC_cg b0 b8 b4 (fun j uj => va_up_ne _ _ (fun y => ?_)) (fun _ => e0 0 (by omega) (by omega)) (fun _ => e0 1 (by omega) (by omega)) (fun p' hp' _ => e0 _ (by omega) (by omega)) (fun y y' => by rw [← hN', va_up_ne _ _ d2, va_up_ne _ _ (by omega)]) ui'
    rw [y] at uj
    rcases uj with uj | uj | uj | uj | uj | uj
    · omega
    · omega
    · omega
    · omega
    · obtain ⟨y1, y2, y3, y4⟩ := uj
      rw [show (80 + 4 * p + l - 80) / 4 = p by omega, hl] at y4
      omega
    · omega
  · rcases di with rfl | rfl | rfl
    · rw [va_up_ne _ _ (by omega : 60 + p ≠ 80 + 4 * p + l), a1, spc_l (by omega), va_up_ne _ _ (by omega : 60 + p ≠ 80 + 4 * p + l), va_up_ne _ _ (by omega : 70 + p ≠ 80 + 4 * p + l), e2, upA_s, va_up_self]
    · rw [va_up_ne _ _ (by omega : 70 + p ≠ 80 + 4 * p + l), a2, spc_e (by omega), e2]
      refine congrArg some (congrArg (rfA X 5 4) (funext fun j => ?_))
      by_cases hj : j = l
      · rw [hj, va_up_self, va_up_self, if_pos (by omega)]
      · rw [va_up_ne _ _ hj, va_up_ne _ _ (by omega : 80 + 4 * p + j ≠ 80 + 4 * p + l)]
        by_cases hj2 : j < l
        · rw [if_pos hj2, if_pos (by omega)]
        · rw [if_neg hj2, if_neg (by omega)]
    · rw [va_up_self, va_up_self, spc_h (by omega) (by omega), e8, a3 _ (f2 _ u6) (f2 _ u7), f1]
  · rcases di with rfl | rfl | rfl
    · exact Or.inr ⟨60 + p, Or.inl rfl, u6, va_up_ne _ _ (by omega)⟩
    · exact Or.inr ⟨70 + p, Or.inr (Or.inl rfl), u7, va_up_ne _ _ (by omega)⟩
    · exact Or.inl (by rw [va_up_self]; exact ⟨hq, f2⟩)
  · have n67 : sk (60 + p) ≠ sk (70 + p) := hp.inj u6 u7 (by omega)
    have s6 : va_up sk (80 + 4 * p + l) q (60 + p) = sk (60 + p) := va_up_ne _ _ (by omega)
    have s7 : va_up sk (80 + 4 * p + l) q (70 + p) = sk (70 + p) := va_up_ne _ _ (by omega)
    have s8 : va_up sk (80 + 4 * p + l) q (80 + 4 * p + l) = q := va_up_self _ _ _
    rcases di with rfl | rfl | rfl <;> rcases dj with rfl | rfl | rfl <;> first
      | rfl
      | (simp only [s6, s7, s8] at z; exfalso; first | exact n67 z | exact n67 z.symm | exact f2 _ u6 z | exact f2 _ u6 z.symm | exact f2 _ u7 z | exact f2 _ u7 z.symm)
  · rw [a3 z (hn _ (Or.inl rfl) u6) (hn _ (Or.inr (Or.inl rfl)) u7)]
    exact hc
theorem SR.look (h : SR S N w) (hW : nW w ≤ 12) (hp : p < N 1) (hl : N (2 + p) = l) (h4 : l < 4) (hS : ∀ i, i ≠ 60 + p → i ≠ 80 + 4 * p + l → i ≠ 120 → S' i = S i) (hf : S' (80 + 4 * p + l) = f) (hw : ∀ j, j ≠ 56 + 33 * p + 4 → (j < 56 + 33 * p + 17 + 4 * l ∨ 56 + 33 * p + 17 + 4 * l + 4 ≤ j) → w' j = w j) (h5 : w' (56 + 33 * p + 4) = nI (l + 1)) (hh : hbL kd f = hbR w' (56 + 33 * p + 17 + 4 * l)) : SR S' (va_up (va_up N (2 + p) (l + 1)) (80 + 4 * p + l) kd) w' := by
  have b8 := h.2.1.2.2
  have e0 : ∀ j, j ≠ 80 + 4 * p + l → j ≠ 2 + p → va_up (va_up N (2 + p) (l + 1)) (80 + 4 * p + l) kd j = N j := fun j h1 h2 => by rw [va_up_ne _ _ h1, va_up_ne _ _ h2]
  have e2 : va_up (va_up N (2 + p) (l + 1)) (80 + 4 * p + l) kd (2 + p) = l + 1 := by rw [va_up_ne _ _ (by omega), va_up_self]
  have e8 : va_up (va_up N (2 + p) (l + 1)) (80 + 4 * p + l) kd (80 + 4 * p + l) = kd := va_up_self _ _ _
  have e1 := e0 1 (by omega) (by omega)
  refine h.per hW (fun q y _ => hw q (by omega) (by omega)) (hS 0 (by omega) (by omega) (by omega)) (hS 3 (by omega) (by omega) (by omega)) (fun c hc => hS _ (by omega) (by omega) (by omega)) (e0 0 (by omega) (by omega)) (by rw [e1]; exact b8) (by rw [e1, hw 2 (by omega) (by omega)]; exact h.2.1.2.1) (fun p' hp' => ?_)
  rw [e1] at hp'
  by_cases y : p' = p
  · subst y
    obtain ⟨f1, ⟨f2, f3, f4⟩, ⟨f5, f6, f7⟩, f8, f9⟩ := h.pr hp
    have lo : ∀ j, j < 17 → j ≠ 4 → perI w' p' j = perI w p' j := fun j y1 y2 => hw _ (by omega) (by omega)
    have eM : nM w' p' = nM w p' := by unfold nM; rw [hw _ (by omega) (by omega)]
    have eL : nL w' p' = l + 1 := by unfold nL; rw [h5, nI_clamp (by omega)]
    refine ⟨fun j hj => ?_, ⟨?_, by rw [eM]; exact f3, by rw [eM, lo 3 (by omega) (by omega)]; exact f4⟩, ⟨by rw [eL, e2], by rw [eL]; omega, by rw [eL]; exact h5⟩, fun k hk => ?_, fun i hi => ?_⟩
    · rw [hS _ (by omega) (by omega) (by omega), lo j (by omega) (by omega)]; exact f1 j hj
    · rw [hS _ (by omega) (by omega) (by omega), lo 3 (by omega) (by omega)]; exact f2
    · rw [eM] at hk
      rw [hS _ (by omega) (by omega) (by omega), hS _ (by omega) (by omega) (by omega), lo _ (by omega) (by omega), lo _ (by omega) (by omega)]; exact f8 k hk
    · rw [eL] at hi
      by_cases y : i = l
      · subst y
        rw [e8, hf, hh]
        unfold hbR hbC lkI
        simp only [show 56 + 33 * p' + (17 + 4 * i + 0) = 56 + 33 * p' + 17 + 4 * i by omega, show 56 + 33 * p' + (17 + 4 * i + 1) = 56 + 33 * p' + 17 + 4 * i + 1 by omega, show 56 + 33 * p' + (17 + 4 * i + 2) = 56 + 33 * p' + 17 + 4 * i + 2 by omega, show 56 + 33 * p' + (17 + 4 * i + 3) = 56 + 33 * p' + 17 + 4 * i + 3 by omega]
      · rw [e0 _ (by omega) (by omega), hS _ (by omega) (by omega) (by omega), f9 i (by omega)]
        exact (hbC_cg (fun j hj => hw _ (by omega) (by omega))).symm
  · exact (h.pr hp').cg (fun j hj => hw _ (by omega) (by omega)) (hS _ (by omega) (by omega) (by omega)) (hS _ (by omega) (by omega) (by omega)) (hS _ (by omega) (by omega) (by omega)) (e0 _ (by omega) (by omega)) (fun i hi => ⟨e0 _ (by omega) (by omega), hS _ (by omega) (by omega) (by omega)⟩)
theorem hab_e {e : Int32 × Nat} : (habE T n i (.inl e) w).1 = .inl e := rfl
end LkA
section Lok
variable {X : Cx} {hz : AH} {tp n : Nat} {T w w' : Nat → Int32} {sk : Nat → Nat} {S S' : Nat → Nat → Int32} {N : Nat → Nat} {aK aV : Nat → Nat} {ts : TS}
theorem bX5_look_0 : Blk SP mX5_look 0 1 [oAL 0] := blk_c (s_aload_n dX5_look_0 rfl) <| blk_nil
theorem bX5_look_4 : Blk SP mX5_look 4 7 [oAS 1, oAL 0, oAL 1] := blk_c (s_astore_n dX5_look_4 rfl (by decide)) <| blk_c (s_aload_n dX5_look_5 rfl) <| blk_c (s_aload_n dX5_look_6 rfl) <| blk_nil
theorem bX5_look_15 : Blk SP mX5_look 15 16 [oC (nI 4)] := blk_c (s_iconst dX5_look_15 (by decide +kernel)) <| blk_nil
theorem bX5_look_19 : Blk SP mX5_look 19 24 [oC (nI 1), .inl (fun s => some s)] := blk_c (s_iconst dX5_look_19 (by decide +kernel)) <| blk_c (s_goto (tgt := 24) dX5_look_20 (by decide)) <| blk_nil
theorem bX5_look_23 : Blk SP mX5_look 23 24 [oC (nI 0)] := blk_c (s_iconst dX5_look_23 (by decide +kernel)) <| blk_nil
theorem bX5_look_27 : Blk SP mX5_look 27 28 [oAL 0] := blk_c (s_aload_n dX5_look_27 rfl) <| blk_nil
theorem bX5_look_30 : Blk SP mX5_look 30 38 [oC (nI 0), oAL 0, pRs, pSR 0] := blk_c (s_iconst dX5_look_30 (by decide +kernel)) <| blk_c (s_aload_n dX5_look_31 rfl) <| blk_c (p_Rs q632 dX5_look_32) <| blk_c (p_SR (f := 0) (by decide) nq428 dX5_look_35) <| blk_nil
theorem bX5_look_43 : Blk SP mX5_look 43 45 [oC (nI 1), oSub] := blk_c (s_iconst dX5_look_43 (by decide +kernel)) <| blk_c (s_isub dX5_look_44) <| blk_nil
theorem bX5_look_48 : Blk SP mX5_look 48 50 [oIS 2, oAL 1] := blk_c (s_istore_n dX5_look_48 rfl (by decide)) <| blk_c (s_aload_n dX5_look_49 rfl) <| blk_nil
theorem bX5_look_53 : Blk SP mX5_look 53 55 [oAL 0, oIL 2] := blk_c (s_aload_n dX5_look_53 rfl) <| blk_c (s_iload_n dX5_look_54 rfl) <| blk_nil
theorem bX5_look_63 : Blk SP mX5_look 63 64 [oPopI] := blk_c (s_popI dX5_look_63) <| blk_nil
theorem ok_look (hC : RdC X aK aV T) (hr : SR S N w) (hF : FrOk w) (hg : TokG (S 120) n ts) (hts : TsW T n ts) (hn : n ≤ 2400) : SPX X mX5_look 8 59 [.ref (sk 120)] (hz, tp, T, sk, S, N) (fun r x' => ¬ w 2 = 0 ∧ ¬ w (56 + 33 * qP w + 4) = nI 4 ∧ QLn hz tp T n sk (lookE T n (qP w) (nL w (qP w)) (.inr (advS T n ts.1)) w) r x')
    (fun k p => (w 2 = 0 ∧ (k, p) = (nI 2, ts.2.1)) ∨ (¬ w 2 = 0 ∧ w (56 + 33 * qP w + 4) = nI 4 ∧ (k, p) = (nI 3, ts.2.1)) ∨ (¬ w 2 = 0 ∧ ¬ w (56 + 33 * qP w + 4) = nI 4 ∧ (lookE T n (qP w) (nL w (qP w)) (.inr (advS T n ts.1)) w).1 = .inl (k, p))) := by
  have hX := hC.1
  have hK := hC.2.2.2.1
  have hB := hr.bd
  obtain ⟨⟨w0, w12⟩, -⟩ := id hF
  have w2e : w 2 = nI (N 1) := hr.2.1.2.1
  have hq : qP w = N 1 - 1 := by unfold qP; rw [← hr.2.1.1]
  have w20 : w 2 = 0 ↔ N 1 = 0 := by rw [w2e, ← nI_0]; exact nI_eq (by omega) (by omega)
  generalize hQ : (fun (r : Option Value) (x' : SPv) => ¬ w 2 = 0 ∧ ¬ w (56 + 33 * qP w + 4) = nI 4 ∧ QLn hz tp T n sk (lookE T n (qP w) (nL w (qP w)) (.inr (advS T n ts.1)) w) r x') = Q
  generalize hQF : (fun (k : Int32) (p : Nat) => (w 2 = 0 ∧ (k, p) = (nI 2, ts.2.1)) ∨ (¬ w 2 = 0 ∧ w (56 + 33 * qP w + 4) = nI 4 ∧ (k, p) = (nI 3, ts.2.1)) ∨ (¬ w 2 = 0 ∧ ¬ w (56 + 33 * qP w + 4) = nI 4 ∧ (lookE T n (qP w) (nL w (qP w)) (.inr (advS T n ts.1)) w).1 = .inl (k, p))) = QF
  have fF : ∀ k p, QF k p ↔ ((w 2 = 0 ∧ (k, p) = (nI 2, ts.2.1)) ∨ (¬ w 2 = 0 ∧ w (56 + 33 * qP w + 4) = nI 4 ∧ (k, p) = (nI 3, ts.2.1)) ∨ (¬ w 2 = 0 ∧ ¬ w (56 + 33 * qP w + 4) = nI 4 ∧ (lookE T n (qP w) (nL w (qP w)) (.inr (advS T n ts.1)) w).1 = .inl (k, p))) := fun k p => by rw [← hQF]
  have fQ : ∀ r x', Q r x' ↔ (¬ w 2 = 0 ∧ ¬ w (56 + 33 * qP w + 4) = nI 4 ∧ QLn hz tp T n sk (lookE T n (qP w) (nL w (qP w)) (.inr (advS T n ts.1)) w) r x') := fun k p => by rw [← hQ]
  clear hQ hQF
  rw [hq] at fF fQ
  refine SPX_start (L := [some (.ref (sk 120)), none, none]) 2 rfl ?_
  refine bX5_look_0.go rfl trivial ?_
  refine spx (M' := mX5_latest) (nA := 0) (As := []) (ok_latestS hC hB.2.1 hg) q989 q991 qs24 q992 dX5_look_1 rfl hy_X5_latest ⟨by show 0 + 1 ≤ 8; omega, by show 0 + 8 ≤ 59; omega⟩ (fun r x' q => ?_) (fun a h' q => sp_out hX rfl (q.mono (fun k p z => (fF k p).mpr (Or.inl ⟨w20.mpr z.1, z.2⟩))) (by omega) (by omega))
  obtain ⟨hpos, rfl, rfl⟩ := q
  generalize hp : N 1 - 1 = p at fF fQ ⊢
  have hpp : p < N 1 := by omega
  obtain ⟨f1, ⟨f2, f3, f4⟩, ⟨f5, f6, f7⟩, f8, f9⟩ := hr.pr hpp
  generalize hl : nL w p = l at fF fQ f5 f6 f7 f9
  have wz : ¬ w 2 = 0 := fun y => by have := w20.mp y; omega
  have w3 : w (56 + 33 * p + 4) = nI l := f7
  have lsp := lsnp hpp hB.2.1 (hB.2.2 p hpp)
  refine bX5_look_4.go rfl trivial ?_
  refine sp_pR (f := 5) (by decide) hpp hB.2.1 nq966 dX5_look_7 ?_
  refine sp_size lsp dX5_look_10 (lw_F q832 q803 q805 q136 q807) (by decide) rfl ?_
  refine bX5_look_15.go rfl trivial ?_
  have j24 : ∀ b, b = !decide (w (56 + 33 * p + 4) = nI 4) → JS SP X mX5_look (rmOf mX5_look.lv 8 59) (ZSX X 8 59 hz Q QF) (0 + 1) (0 + 8) 24 [some (.ref (sk 120)), some (.ref (sk (30 + p))), none] [.int (b2 b), .ref (sk 120)] (hz, tp, T, sk, S, N) := by
    intro b hb
    refine sp_room hC hg hts hn q776 dX5_look_24 (by decide) rfl ⟨by show 0 + 1 + 1 ≤ 8; omega, by show 0 + 8 + 8 ≤ 59; omega⟩ (fun g1 hb1 w1 hg1 => ?_) (fun a h' q => sp_out hX rfl (q.mono (fun k p' z => (fF k p').mpr (Or.inr (Or.inl ⟨wz, ?_, z.2⟩)))))
    rotate_left
    · rw [hb] at z
      exact of_decide_eq_true (by simpa using z.1)
    have hne : ¬ w (56 + 33 * p + 4) = nI 4 := by rw [hb] at hb1; simpa using hb1
    have hl4 : l < 4 := by
      have : l ≠ 4 := fun z => hne (by rw [w3, z])
      omega
    refine bX5_look_27.go rfl trivial ?_
    refine js_ldcS (tx := "at") (i := 4) hK (by decide +kernel) dX5_look_28 ?_
    refine bX5_look_30.go rfl (by repeat' first | exact trivial | rfl | assumption | omega | apply And.intro) ?_
    refine sp_size (lsn1 hB.1) dX5_look_38 (lw_F q832 q803 q805 q136 q807) (by decide) rfl ?_
    refine bX5_look_43.go rfl trivial ?_
    rw [← hr.1.2.1]
    refine sp_told (i := 4) hC (by decide) (by rw [va_up_self]; exact hg1) w1 hn q757 dX5_look_45 (by decide) rfl ⟨by show 0 + 1 + 1 + 2 ≤ 8; omega, by show 0 + 8 + 8 + 16 ≤ 59; omega⟩ (fun v2 t2 g2 e2 w2 hg2 => ?_) (fun a h' q => sp_out hX rfl (q.mono (fun k p' z => (fF k p').mpr (Or.inr (Or.inr ⟨wz, hne, ?_⟩)))))
    rotate_left
    · show (habE T n (56 + 33 * p + 17 + 4 * l) (lk0 T n (.inr (advS T n ts.1)) w).2 _).1 = _
      rw [show (lk0 T n (.inr (advS T n ts.1)) w).2 = .inl (k, p') from z]
      rfl
    have k0 : lk0 T n (.inr (advS T n ts.1)) w = (v2, .inr t2) := e2
    rw [up_up]
    refine bX5_look_48.go rfl trivial ?_
    refine sp_pR (f := 5) (by decide) hpp hB.2.1 nq966 dX5_look_50 ?_
    refine bX5_look_53.go rfl trivial ?_
    have wl : ∀ j, j < 56 + 33 * p + 17 + 4 * l ∨ 56 + 33 * p + 17 + 4 * l + 4 ≤ j → lkW (56 + 33 * p + 17 + 4 * l) v2 w j = w j := fun j hj => by
      unfold lkW; rw [va_up_ne _ _ (by omega), va_up_ne _ _ (by omega), va_up_ne _ _ (by omega)]
    have wl0 : lkW (56 + 33 * p + 17 + 4 * l) v2 w (56 + 33 * p + 17 + 4 * l) = v2 := by
      unfold lkW; rw [va_up_ne _ _ (by omega), va_up_ne _ _ (by omega), va_up_self]
    have el : lookE T n p l (.inr (advS T n ts.1)) w = ((habE T n (56 + 33 * p + 17 + 4 * l) (.inr t2) (lkW (56 + 33 * p + 17 + 4 * l) v2 w)).1, va_up (habE T n (56 + 33 * p + 17 + 4 * l) (.inr t2) (lkW (56 + 33 * p + 17 + 4 * l) v2 w)).2 (56 + 33 * p + 4) (nI (l + 1))) := by
      rw [lookE, k0]
    intro h0 hp0
    have htp : hz tp = some (.inl (X.dA 2, 2400, .inl T)) := hp0.2.2.2.2.2
    refine (spx (M' := mX5_habit) (nA := 1) (As := [.int v2]) (st := [.ref (sk (10 * 5 + 10 + p))]) (ok_habit (i := 56 + 33 * p + 17 + 4 * l) (w := lkW (56 + 33 * p + 17 + 4 * l) v2 w) hC hB.1 (by rw [wl 1 (by omega)]; exact hr.1.2.1) wl0 (by rw [va_up_self]; exact hg2) w2 hn) q1018 q1020 qs27 q1021 dX5_look_55 rfl hy_X5_habit ⟨by show 0 + 1 + 1 + 2 + 4 ≤ 8; omega, by show 0 + 8 + 8 + 16 + 27 ≤ 59; omega⟩ (fun r x' q => ?_) (fun a h' q => sp_out hX rfl (q.mono (fun k p' y => (fF k p').mpr (Or.inr (Or.inr ⟨wz, hne, by rw [el]; exact y⟩)))) (by omega) (by omega))) h0 hp0
    obtain ⟨q, kd, f, g3, t3, rfl, ⟨hzq, hqt⟩, rfl, e3, w3', hg3, hhb, hkd⟩ := q
    intro h2 hp2
    rw [up_up] at hp2
    obtain ⟨a1, a5⟩ := hp2.ls9 lsp
    rw [f5] at a1 a5
    obtain ⟨ci, vs, rr, o1, o2, o3⟩ := hbL_ob (f := f) hkd
    have uL : SpU N (60 + p) := u_p (by omega) hpp hB.2.1
    have uE : SpU N (70 + p) := u_p (by omega) hpp hB.2.1
    refine J.callF (M' := mJ2_add) (x := xAdd) (As := [.ref q]) (b := sk (60 + p)) (mc := 0) (ms := 0) hp2.1.1 (ok_addr hp2.1.1 a1 (hp2.inj uE uL (by omega)) a5 hl4 (by decide) (hp2.nfz.1.trans (congrArg some o1)) o2 o3 (hp2.nfz.2 _ uL)) (fun o h' q => ⟨_, q.1⟩) a1 dX5_look_58 (lw_F q870 q873 q875 q136 q877) (List.mem_of_getElem? (i := 2) rfl) hy_xAdd (by decide) ⟨by show 0 + 1 + 1 + 2 + 4 + 0 ≤ 8; omega, by show 0 + 8 + 8 + 16 + 27 + 0 ≤ 59; omega⟩ (Nat.le_of_ble_eq_true rfl) (fun v h3 q0 => ?_)
    obtain ⟨q0, ha⟩ := q0
    cases q0
    obtain ⟨mm, hp4⟩ := SP.look hp2 hzq htp hpp f5 hl4 hB ha
    refine (show JS SP X mX5_look (rmOf mX5_look.lv 8 59) _ _ _ 63 _ _ _ from ?_) _ hp4
    refine bX5_look_63.go rfl trivial ?_
    refine sp_vret dX5_look_64 rfl ((fQ _ _).mpr ⟨wz, hne, rfl, t3, _, _, _, by rw [el]; exact e3, w3', rfl, ⟨va_up_ne _ _ (by omega), va_up_ne _ _ (by omega)⟩, ?_, ?_⟩) (by show 0 + 1 + 1 + 2 + 4 + 0 ≤ 8; omega) (by show 0 + 8 + 8 + 16 + 27 + 0 ≤ 59; omega)
    · rw [el]
      refine hr.look w12 hpp f5 hl4 (fun i i1 i2 i3 => ?_) (va_up_self _ _ _) (fun j j1 j2 => ?_) (va_up_self _ _ _) ?_
      · rw [va_up_ne _ _ i2, upA_ne i1, va_up_ne _ _ i3]
      · show va_up _ _ _ j = _
        rw [va_up_ne _ _ j1, habE_at (by omega), wl j j2]
      · rw [hhb]
        show _ = hbR (va_up _ _ _) _
        unfold hbR
        simp (disch := omega) only [va_up_ne]
    · rw [va_up_ne _ _ (by omega), upA_ne (by omega), va_up_self]; exact hg3
  rw [f5]
  refine j_icmp_ge (tgt := 23) dX5_look_16 (by decide) (fun z => ?_) (fun z => ?_)
  · rw [nI_leI (by omega) (by omega)] at z
    refine bX5_look_23.go rfl trivial ?_
    exact j24 false (by rw [decide_eq_true (show w (56 + 33 * p + 4) = nI 4 by rw [w3]; congr 1; omega)]; rfl)
  · rw [nI_leI (by omega) (by omega)] at z
    refine bX5_look_19.go rfl trivial ?_
    exact j24 true (by rw [decide_eq_false (fun y => z (by rw [w3] at y; have := (nI_eq (by omega) (by omega)).mp y; omega))]; rfl)
end Lok
