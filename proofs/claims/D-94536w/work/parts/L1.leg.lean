set_option maxRecDepth 100000
/-! ===== UnseenClock$Reader: leg ===== -/
section LgA
variable {T w w' : Nat → Int32} {S S' : Nat → Nat → Int32} {N N' : Nat → Nat} {n p m : Nat} {a b : Int32} {s : RdE} {e : Int32 × Nat} {go : Bool}
theorem SR.leg (h : SR S N w) (hW : nW w ≤ 12) (hp : p < N 1) (hm : nM w p = m) (hm6 : m < 6) (hS : ∀ i, i ≠ 30 + p → i ≠ 40 + p → i ≠ 50 + p → i ≠ 120 → S' i = S i) (h30 : ∀ j, j < 3 → S' (30 + p) j = S (30 + p) j) (h36 : S' (30 + p) 6 = nI (m + 1)) (h4 : S' (40 + p) = va_up (S (40 + p)) m (wayI a)) (h5 : S' (50 + p) = va_up (S (50 + p)) m b) (hw : w' = va_up (va_up (va_up w (56 + 33 * p + 5 + 2 * m) a) (56 + 33 * p + 5 + 2 * m + 1) b) (56 + 33 * p + 3) (nI (m + 1))) : SR S' N w' := by
  have h8 := h.2.1.2.2
  have wo : ∀ q, q ≠ 56 + 33 * p + 3 → q ≠ 56 + 33 * p + 5 + 2 * m → q ≠ 56 + 33 * p + 5 + 2 * m + 1 → w' q = w q := fun q y1 y2 y3 => by rw [hw, va_up_ne _ _ y1, va_up_ne _ _ y3, va_up_ne _ _ y2]
  refine h.per hW (fun q y _ => wo q (by omega) (by omega) (by omega)) (hS 0 (by omega) (by omega) (by omega) (by omega)) (hS 3 (by omega) (by omega) (by omega) (by omega)) (fun c hc => hS _ (by omega) (by omega) (by omega) (by omega)) rfl h8 (by rw [wo 2 (by omega) (by omega) (by omega)]; exact h.2.1.2.1) (fun p' hp' => ?_)
  by_cases y : p' = p
  · subst y
    obtain ⟨f1, ⟨f2, f3, f4⟩, ⟨f5, f6, f7⟩, f8, f9⟩ := h.pr hp
    have e3 : w' (56 + 33 * p' + 3) = nI (m + 1) := by rw [hw, va_up_self]
    have eM : nM w' p' = m + 1 := by unfold nM; rw [e3, nI_clamp (by omega)]
    have eL : nL w' p' = nL w p' := by unfold nL; rw [wo _ (by omega) (by omega) (by omega)]
    refine ⟨fun j hj => ?_, ⟨by rw [h36]; exact e3.symm, by rw [eM]; omega, by rw [eM]; exact e3⟩, ⟨by rw [eL]; exact f5, by rw [eL]; exact f6, ?_⟩, fun k hk => ?_, fun i hi => ?_⟩
    · rw [h30 j hj, f1 j hj]; exact (wo _ (by omega) (by omega) (by omega)).symm
    · rw [eL, ← f7]; exact wo _ (by omega) (by omega) (by omega)
    · rw [eM] at hk
      rw [h4, h5]
      by_cases z : k = m
      · rw [z, va_up_self, va_up_self]
        have z1 : perI w' p' (5 + 2 * m) = a := by unfold perI; rw [hw, va_up_ne _ _ (by omega), va_up_ne _ _ (by omega), up_at, if_pos (by omega)]
        have z2 : perI w' p' (5 + 2 * m + 1) = b := by unfold perI; rw [hw, va_up_ne _ _ (by omega), up_at, if_pos (by omega)]
        rw [z1, z2]
        exact ⟨rfl, rfl⟩
      · rw [va_up_ne _ _ z, va_up_ne _ _ z, (f8 k (by omega)).1, (f8 k (by omega)).2]
        have z1 : perI w' p' (5 + 2 * k) = perI w p' (5 + 2 * k) := wo _ (by omega) (by omega) (by omega)
        have z2 : perI w' p' (5 + 2 * k + 1) = perI w p' (5 + 2 * k + 1) := wo _ (by omega) (by omega) (by omega)
        rw [z1, z2]
        exact ⟨rfl, rfl⟩
    · rw [eL] at hi
      rw [hS _ (by omega) (by omega) (by omega) (by omega), f9 i hi]
      exact (hbC_cg (fun j hj => wo _ (by omega) (by omega) (by omega))).symm
  · exact (h.pr hp').cg (fun j hj => wo _ (by omega) (by omega) (by omega)) (hS _ (by omega) (by omega) (by omega) (by omega)) (hS _ (by omega) (by omega) (by omega) (by omega)) (hS _ (by omega) (by omega) (by omega) (by omega)) rfl (fun i hi => ⟨rfl, hS _ (by omega) (by omega) (by omega) (by omega)⟩)
theorem wayE_4 : wayI (wayE T s) = wayE T s := by
  unfold wayE wayI
  repeat' split
  all_goals first | rfl | (rename_i y; revert y; decide +kernel)
end LgA
section Leg
variable {X : Cx} {hz : AH} {tp n : Nat} {T w w' : Nat → Int32} {sk : Nat → Nat} {S S' : Nat → Nat → Int32} {N : Nat → Nat} {aK aV : Nat → Nat} {ts : TS} {go : Bool}
theorem bX5_leg_0 : Blk SP mX5_leg 0 1 [oAL 0] := blk_c (s_aload_n dX5_leg_0 rfl) <| blk_nil
theorem bX5_leg_4 : Blk SP mX5_leg 4 7 [oAS 2, oAL 0, oAL 2] := blk_c (s_astore_n dX5_leg_4 rfl (by decide)) <| blk_c (s_aload_n dX5_leg_5 rfl) <| blk_c (s_aload_n dX5_leg_6 rfl) <| blk_nil
theorem bX5_leg_10 : Blk SP mX5_leg 10 12 [oC (nI 6)] := blk_c (s_bipush dX5_leg_10 (by decide +kernel)) <| blk_nil
theorem bX5_leg_15 : Blk SP mX5_leg 15 20 [oC (nI 1), .inl (fun s => some s)] := blk_c (s_iconst dX5_leg_15 (by decide +kernel)) <| blk_c (s_goto (tgt := 20) dX5_leg_16 (by decide)) <| blk_nil
theorem bX5_leg_19 : Blk SP mX5_leg 19 20 [oC (nI 0)] := blk_c (s_iconst dX5_leg_19 (by decide +kernel)) <| blk_nil
theorem bX5_leg_23 : Blk SP mX5_leg 23 24 [oAL 2] := blk_c (s_aload_n dX5_leg_23 rfl) <| blk_nil
theorem bX5_leg_27 : Blk SP mX5_leg 27 28 [oAL 2] := blk_c (s_aload_n dX5_leg_27 rfl) <| blk_nil
theorem bX5_leg_31 : Blk SP mX5_leg 31 32 [oIL 1] := blk_c (s_iload_n dX5_leg_31 rfl) <| blk_nil
theorem bX5_leg_35 : Blk SP mX5_leg 35 43 [oC (-1), .inl (fun s => some s)] := blk_c (s_iconst dX5_leg_35 (by decide +kernel)) <| blk_c (s_goto (tgt := 43) dX5_leg_36 (by decide)) <| blk_nil
theorem bX5_leg_39 : Blk SP mX5_leg 39 40 [oAL 0] := blk_c (s_aload_n dX5_leg_39 rfl) <| blk_nil
theorem bX5_leg_44 : Blk SP mX5_leg 44 45 [oAL 2] := blk_c (s_aload_n dX5_leg_44 rfl) <| blk_nil
theorem bX5_leg_48 : Blk SP mX5_leg 48 49 [oAL 2] := blk_c (s_aload_n dX5_leg_48 rfl) <| blk_nil
theorem bX5_leg_52 : Blk SP mX5_leg 52 55 [oAL 0, oC (nI 1), oIL 1] := blk_c (s_aload_n dX5_leg_52 rfl) <| blk_c (s_iconst dX5_leg_53 (by decide +kernel)) <| blk_c (s_iload_n dX5_leg_54 rfl) <| blk_nil
theorem bX5_leg_58 : Blk SP mX5_leg 58 65 [oC (nI 40), .inl (fun s => some s)] := blk_c (s_bipush dX5_leg_58 (by decide +kernel)) <| blk_c (s_goto (tgt := 65) dX5_leg_60 (by decide)) <| blk_nil
theorem bX5_leg_63 : Blk SP mX5_leg 63 65 [oC (nI 12)] := blk_c (s_bipush dX5_leg_63 (by decide +kernel)) <| blk_nil
theorem bX5_leg_69 : Blk SP mX5_leg 69 71 [oAL 2, oDupR] := blk_c (s_aload_n dX5_leg_69 rfl) <| blk_c (s_dupR dX5_leg_70) <| blk_nil
theorem bX5_leg_74 : Blk SP mX5_leg 74 76 [oC (nI 1), oAdd] := blk_c (s_iconst dX5_leg_74 (by decide +kernel)) <| blk_c (s_iadd dX5_leg_75) <| blk_nil
theorem ok_leg (hC : RdC X aK aV T) (hr : SR S N w) (hF : FrOk w) (hg : TokG (S 120) n ts) (hts : TsW T n ts) (hn : n ≤ 2400) : SPX X mX5_leg 4 32 [.ref (sk 120), .int (b2 (!go))] (hz, tp, T, sk, S, N) (fun r x' => ¬ w 2 = 0 ∧ ¬ w (56 + 33 * qP w + 3) = nI 6 ∧ QLn hz tp T n sk (moveE T n go (qP w) (nM w (qP w)) (.inr (advS T n ts.1)) w) r x')
    (fun k p => (w 2 = 0 ∧ (k, p) = (nI 2, ts.2.1)) ∨ (¬ w 2 = 0 ∧ w (56 + 33 * qP w + 3) = nI 6 ∧ (k, p) = (nI 3, ts.2.1)) ∨ (¬ w 2 = 0 ∧ ¬ w (56 + 33 * qP w + 3) = nI 6 ∧ (moveE T n go (qP w) (nM w (qP w)) (.inr (advS T n ts.1)) w).1 = .inl (k, p))) := by
  have hX := hC.1
  have hB := hr.bd
  obtain ⟨⟨w0, w12⟩, -⟩ := id hF
  have w2e : w 2 = nI (N 1) := hr.2.1.2.1
  have hq : qP w = N 1 - 1 := by unfold qP; rw [← hr.2.1.1]
  have w20 : w 2 = 0 ↔ N 1 = 0 := by rw [w2e, ← nI_0]; exact nI_eq (by omega) (by omega)
  generalize hQ : (fun (r : Option Value) (x' : SPv) => ¬ w 2 = 0 ∧ ¬ w (56 + 33 * qP w + 3) = nI 6 ∧ QLn hz tp T n sk (moveE T n go (qP w) (nM w (qP w)) (.inr (advS T n ts.1)) w) r x') = Q
  generalize hQF : (fun (k : Int32) (p : Nat) => (w 2 = 0 ∧ (k, p) = (nI 2, ts.2.1)) ∨ (¬ w 2 = 0 ∧ w (56 + 33 * qP w + 3) = nI 6 ∧ (k, p) = (nI 3, ts.2.1)) ∨ (¬ w 2 = 0 ∧ ¬ w (56 + 33 * qP w + 3) = nI 6 ∧ (moveE T n go (qP w) (nM w (qP w)) (.inr (advS T n ts.1)) w).1 = .inl (k, p))) = QF
  have fF : ∀ k p, QF k p ↔ ((w 2 = 0 ∧ (k, p) = (nI 2, ts.2.1)) ∨ (¬ w 2 = 0 ∧ w (56 + 33 * qP w + 3) = nI 6 ∧ (k, p) = (nI 3, ts.2.1)) ∨ (¬ w 2 = 0 ∧ ¬ w (56 + 33 * qP w + 3) = nI 6 ∧ (moveE T n go (qP w) (nM w (qP w)) (.inr (advS T n ts.1)) w).1 = .inl (k, p))) := fun k p => by rw [← hQF]
  have fQ : ∀ r x', Q r x' ↔ (¬ w 2 = 0 ∧ ¬ w (56 + 33 * qP w + 3) = nI 6 ∧ QLn hz tp T n sk (moveE T n go (qP w) (nM w (qP w)) (.inr (advS T n ts.1)) w) r x') := fun k p => by rw [← hQ]
  clear hQ hQF
  rw [hq] at fF fQ
  refine SPX_start (L := [some (.ref (sk 120)), some (.int (b2 (!go))), none]) 1 rfl ?_
  refine bX5_leg_0.go rfl trivial ?_
  refine spx (M' := mX5_latest) (nA := 0) (As := []) (ok_latestS hC hB.2.1 hg) q989 q991 qs24 q992 dX5_leg_1 rfl hy_X5_latest ⟨by show 0 + 1 ≤ 4; omega, by show 0 + 8 ≤ 32; omega⟩ (fun r x' q => ?_) (fun a h' q => sp_out hX rfl (q.mono (fun k p z => (fF k p).mpr (Or.inl ⟨w20.mpr z.1, z.2⟩))) (by omega) (by omega))
  obtain ⟨hpos, rfl, rfl⟩ := q
  generalize hp : N 1 - 1 = p at fF fQ ⊢
  have hpp : p < N 1 := by omega
  obtain ⟨f1, ⟨f2, f3, f4⟩, ⟨f5, f6, f7⟩, f8, f9⟩ := hr.pr hpp
  generalize hm : nM w p = m at fF fQ f3 f4 f8
  have wz : ¬ w 2 = 0 := fun y => by have := w20.mp y; omega
  have w3 : w (56 + 33 * p + 3) = nI m := f4
  have s36 : S (30 + p) 6 = nI m := by rw [f2]; exact f4
  refine bX5_leg_4.go rfl trivial ?_
  refine sp_pI hpp hB.2.1 nq968 dX5_leg_7 ?_
  refine bX5_leg_10.go rfl trivial ?_
  have j20 : ∀ b, b = !decide (w (56 + 33 * p + 3) = nI 6) → JS SP X mX5_leg (rmOf mX5_leg.lv 4 32) (ZSX X 4 32 hz Q QF) (0 + 1) (0 + 8) 20 [some (.ref (sk 120)), some (.int (b2 (!go))), some (.ref (sk (30 + p)))] [.int (b2 b), .ref (sk 120)] (hz, tp, T, sk, S, N) := by
    intro b hb
    refine sp_room hC hg hts hn q776 dX5_leg_20 (by decide) rfl ⟨by show 0 + 1 + 1 ≤ 4; omega, by show 0 + 8 + 8 ≤ 32; omega⟩ (fun g1 hb1 w1 hg1 => ?_) (fun a h' q => sp_out hX rfl (q.mono (fun k p' z => (fF k p').mpr (Or.inr (Or.inl ⟨wz, ?_, z.2⟩)))))
    rotate_left
    · rw [hb] at z
      exact of_decide_eq_true (by simpa using z.1)
    have hne : ¬ w (56 + 33 * p + 3) = nI 6 := by rw [hb] at hb1; simpa using hb1
    have hm6 : m < 6 := by
      have : m ≠ 6 := fun z => hne (by rw [w3, z])
      omega
    have v6 : ∀ g, va_up S 120 g (30 + p) 6 = nI m := fun g => by rw [va_up_ne _ _ (by omega)]; exact s36
    refine bX5_leg_23.go rfl trivial ?_
    refine sp_pR (f := 3) (by decide) hpp hB.2.1 nq960 dX5_leg_24 ?_
    refine bX5_leg_27.go rfl trivial ?_
    refine sp_pI hpp hB.2.1 nq968 dX5_leg_28 ?_
    refine bX5_leg_31.go rfl trivial ?_
    rw [v6]
    have j43 : ∀ (g2 : Nat → Int32) t2 v k0 n0, k0 ≤ 3 → n0 ≤ 24 → goE T n go (.inr (advS T n ts.1)) = .inr t2 → TsW T n t2 → TokG g2 n t2 → v = wayI (if go = true then wayE T (.inr (advS T n ts.1)) else nI 4) → JS SP X mX5_leg (rmOf mX5_leg.lv 4 32) (ZSX X 4 32 hz Q QF) k0 n0 43 [some (.ref (sk 120)), some (.int (b2 (!go))), some (.ref (sk (30 + p)))] [.int v, .int (nI m), .ref (sk (40 + p))] (hz, tp, T, sk, va_up S 120 g2, N) := by
      intro g2 t2 v k0 n0 hk0 hn0 e2 w2 hg2 hv
      refine sp_pA (Or.inl rfl) hpp hB.2.1 hm6 dX5_leg_43 ?_
      refine bX5_leg_44.go rfl trivial ?_
      refine sp_pR (f := 4) (by decide) hpp hB.2.1 nq963 dX5_leg_45 ?_
      refine bX5_leg_48.go rfl trivial ?_
      refine sp_pI hpp hB.2.1 nq968 dX5_leg_49 ?_
      rw [upA_ne (by omega), v6]
      refine bX5_leg_52.go rfl trivial ?_
      have j65 : ∀ hi, hi = (if go = true then nI 12 else nI 40) → JS SP X mX5_leg (rmOf mX5_leg.lv 4 32) (ZSX X 4 32 hz Q QF) k0 n0 65 [some (.ref (sk 120)), some (.int (b2 (!go))), some (.ref (sk (30 + p)))] [.int hi, .int (nI 1), .ref (sk 120), .int (nI m), .ref (sk (50 + p))] (hz, tp, T, sk, upA (va_up S 120 g2) (40 + p) m v, N) := by
        rintro hi rfl
        refine sp_num hC (by rw [upA_ne (by omega), va_up_self]; exact hg2) w2 hn q761 dX5_leg_65 (by decide) rfl ⟨by show k0 + 1 ≤ 4; omega, by show n0 + 8 ≤ 32; omega⟩ (fun v3 t3 g3 e3 w3' hg3 => ?_) (fun a h' q => sp_out hX rfl (q.mono (fun k p' z => (fF k p').mpr (Or.inr (Or.inr ⟨wz, hne, ?_⟩)))))
        rotate_left
        · show (mv1 T n go (.inr (advS T n ts.1))).2 = _
          rw [mv1, e2]; exact z
        have k1 : mv1 T n go (.inr (advS T n ts.1)) = (v3, .inr t3) := by rw [mv1, e2]; exact e3
        refine sp_pA (Or.inr rfl) hpp hB.2.1 hm6 dX5_leg_68 ?_
        refine bX5_leg_69.go rfl trivial ?_
        refine sp_pI hpp hB.2.1 nq968 dX5_leg_71 ?_
        refine bX5_leg_74.go rfl trivial ?_
        refine sp_pP hpp hB.2.1 nq968 dX5_leg_76 ?_
        refine sp_vret dX5_leg_79 rfl ((fQ _ _).mpr ⟨wz, hne, rfl, t3, sk, _, N, ?_, w3', rfl, ⟨rfl, rfl⟩, ?_, ?_⟩) (by omega) (by omega)
        · show (mv1 T n go (.inr (advS T n ts.1))).2 = _
          rw [k1]
        · have ew : (moveE T n go p m (.inr (advS T n ts.1)) w).2 = va_up (va_up (va_up w (56 + 33 * p + 5 + 2 * m) (if go = true then wayE T (.inr (advS T n ts.1)) else nI 4)) (56 + 33 * p + 5 + 2 * m + 1) v3) (56 + 33 * p + 3) (nI (m + 1)) := by
            rw [moveE, k1]; rfl
          refine SR.leg (p := p) (m := m) hr w12 hpp hm hm6 (fun i i1 i2 i3 i4 => ?_) (fun j hj => ?_) ?_ ?_ ?_ ew
          · rw [upA_ne i1, upA_ne i3, va_up_ne _ _ i4, upA_ne i2, va_up_ne _ _ i4]
          · rw [upA_s, va_up_ne _ _ (by omega), upA_ne (by omega), va_up_ne _ _ (by omega), upA_ne (by omega), va_up_ne _ _ (by omega)]
          · rw [upA_s, va_up_self, upA_ne (by omega), va_up_ne _ _ (by omega), upA_ne (by omega), v6, nI_add]
          · rw [upA_ne (by omega), upA_ne (by omega), va_up_ne _ _ (by omega), upA_s, va_up_ne _ _ (by omega), hv]
          · rw [upA_ne (by omega), upA_s, va_up_ne _ _ (by omega), upA_ne (by omega), va_up_ne _ _ (by omega)]
        · rw [upA_ne (by omega), upA_ne (by omega), va_up_self]; exact hg3
      refine j_if_eq (tgt := 63) dX5_leg_55 (by decide) (fun z => ?_) (fun z => ?_)
      · rw [b2_0, Bool.not_eq_false'] at z
        refine bX5_leg_63.go rfl trivial ?_
        exact j65 _ (by rw [if_pos z])
      · rw [b2_n0, Bool.not_eq_true'] at z
        refine bX5_leg_58.go rfl trivial ?_
        exact j65 _ (by rw [if_neg (by rw [z]; decide)])
    refine j_if_eq (tgt := 39) dX5_leg_32 (by decide) (fun z => ?_) (fun z => ?_)
    · rw [b2_0, Bool.not_eq_false'] at z
      refine bX5_leg_39.go rfl trivial ?_
      refine spx (M' := mX5_way) (nA := 0) (As := []) (ok_wayS hC (by rw [va_up_self]; exact hg1) w1 hn) q1004 q1006 qs25 q1007 dX5_leg_40 rfl hy_X5_way ⟨by show 0 + 1 + 1 + 1 ≤ 4; omega, by show 0 + 8 + 8 + 8 ≤ 32; omega⟩ (fun r x' q => ?_) (fun a h' q => sp_out hX rfl (q.mono (fun k p' y => (fF k p').mpr (Or.inr (Or.inr ⟨wz, hne, ?_⟩)))) (by omega) (by omega))
      · obtain ⟨q1, rfl, g2, rfl, hg2⟩ := q
        have w2 : TsW T n (advS T n (advS T n ts.1).1) := ⟨_, w1.le.2, rfl⟩
        rw [up_up]
        exact j43 g2 _ _ _ _ (by omega) (by omega) (by rw [goE, if_pos z, if_neg q1]; rfl) w2 hg2 (by rw [if_pos z, wayE_4])
      · show (mv1 T n go (.inr (advS T n ts.1))).2 = _
        rw [mv1, goE, z, if_pos y.1, y.2]; rfl
    · rw [b2_n0, Bool.not_eq_true'] at z
      refine bX5_leg_35.go rfl trivial ?_
      exact j43 g1 _ _ _ _ (by omega) (by omega) (by rw [goE, if_neg (by rw [z]; decide)]) w1 hg1 (by rw [if_neg (by rw [z]; decide)]; rfl)
  rw [s36]
  refine j_icmp_ge (tgt := 19) dX5_leg_12 (by decide) (fun z => ?_) (fun z => ?_)
  · rw [nI_leI (by omega) (by omega)] at z
    refine bX5_leg_19.go rfl trivial ?_
    exact j20 false (by rw [decide_eq_true (show w (56 + 33 * p + 3) = nI 6 by rw [w3]; congr 1; omega)]; rfl)
  · rw [nI_leI (by omega) (by omega)] at z
    refine bX5_leg_15.go rfl trivial ?_
    exact j20 true (by rw [decide_eq_false (fun y => z (by rw [w3] at y; have := (nI_eq (by omega) (by omega)).mp y; omega))]; rfl)
end Leg
