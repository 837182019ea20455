set_option maxRecDepth 100000
/-! ===== UnseenClock$Reader: calls of the small ones; first ===== -/
def RdC (X : Cx) (aK aV : Nat → Nat) (T : Nat → Int32) : Prop := ThX X ∧ NewOK X ∧ ThZ X ∧ StrOK X aK aV ∧ byT T
section SrA
variable {S S' : Nat → Nat → Int32} {N : Nat → Nat} {w w' : Nat → Int32}
theorem hbC_cg {p i : Nat} (hw : ∀ j, j < 4 → lkI w' p i j = lkI w p i j) : hbC w' p i = hbC w p i := by
  unfold hbC
  rw [hw 0 (by decide), hw 1 (by decide), hw 2 (by decide), hw 3 (by decide)]
/-- the row and what is filled, where the first numbers change -/
theorem SR.cg (h : SR S N w) (hw : ∀ q, q ≠ 3 → q ≠ 4 → q ≠ 5 → q ≠ 6 → w' q = w q) (hS : ∀ i, i ≠ 0 → i ≠ 120 → S' i = S i) (h7 : S' 0 7 = S 0 7) (h4 : S' 0 4 = w' 4) (h5 : S' 0 5 = w' 5) (h6 : S' 0 6 = w' 6) (h8 : S' 0 8 = w' 3) : SR S' N w' := by
  obtain ⟨⟨c1, c2, c3⟩, ⟨p1, p2, p3⟩, ⟨s4, s5, s6, s7, s8⟩, hwl, hd, hper⟩ := h
  have e : ∀ q, q < 3 ∨ 7 ≤ q → w' q = w q := fun q hq => hw q (by omega) (by omega) (by omega) (by omega)
  have eW : ∀ a b k, wallAt w' a b k = wallAt w a b k := fun a b k => by unfold wallAt; rw [e _ (by omega), e _ (by omega)]
  have eP : ∀ p j, perI w' p j = perI w p j := fun p j => by unfold perI; rw [e _ (by omega)]
  refine ⟨⟨by rw [c1]; unfold nC; rw [e 1 (by omega)], by rw [e 1 (by omega)]; exact c2, c3⟩, ⟨by rw [p1]; unfold nP; rw [e 2 (by omega)], by rw [e 2 (by omega)]; exact p2, p3⟩, ⟨h4, h5, h6, by rw [h7, e 0 (by omega)]; exact s7, h8⟩, fun a b ha hb => ?_, fun c hc j hj => ?_, fun p hp => ?_⟩
  · rw [hS 3 (by decide) (by decide), hwl a b ha hb]
    unfold nW
    rw [e 0 (by omega), show wallAt w' (nI a) (nI b) = wallAt w (nI a) (nI b) from funext (eW _ _)]
  · rw [hS (20 + c) (by omega) (by omega), e _ (by omega)]; exact hd c hc j hj
  · obtain ⟨f1, ⟨f2, f3, f4⟩, ⟨f5, f6, f7⟩, f8, f9⟩ := hper p hp
    have eM : nM w' p = nM w p := by unfold nM; rw [e _ (by omega)]
    have eL : nL w' p = nL w p := by unfold nL; rw [e _ (by omega)]
    refine ⟨fun j hj => by rw [hS (30 + p) (by omega) (by omega), eP]; exact f1 j hj, ⟨by rw [hS (30 + p) (by omega) (by omega), eP]; exact f2, by rw [eM]; exact f3, by rw [eP, eM]; exact f4⟩, ⟨by rw [eL]; exact f5, by rw [eL]; exact f6, by rw [eP, eL]; exact f7⟩, fun k hk => ?_, fun i hi => ?_⟩
    · rw [eM] at hk
      rw [hS (40 + p) (by omega) (by omega), hS (50 + p) (by omega) (by omega), eP, eP]; exact f8 k hk
    · rw [eL] at hi
      rw [hS (80 + 4 * p + i) (by omega) (by omega), f9 i hi]
      exact (hbC_cg (fun j hj => by unfold lkI; rw [e _ (by omega)])).symm
theorem SR.rd (h : SR S N w) (g : Nat → Int32) : SR (va_up S 120 g) N w := h.cg (fun _ _ _ _ _ => rfl) (fun i _ hi => va_up_ne _ _ hi) (by rw [va_up_ne _ _ (by decide)]) (by rw [va_up_ne _ _ (by decide)]; exact h.2.2.1.1) (by rw [va_up_ne _ _ (by decide)]; exact h.2.2.1.2.1) (by rw [va_up_ne _ _ (by decide)]; exact h.2.2.1.2.2.1) (by rw [va_up_ne _ _ (by decide)]; exact h.2.2.1.2.2.2.2)
end SrA
section SmC
variable {X : Cx} {M : MD} {R : Room} {Z : ZT} {k m pc idx : Nat} {L : List (Option Value)} {st : List Value} {hz : AH} {tp n i : Nat} {T : Nat → Int32} {sk : Nat → Nat} {S : Nat → Nat → Int32} {N : Nat → Nat} {aK aV : Nat → Nat} {ts : TS} {lo hi : Int32}
theorem fw_ts {s' : RdE} {ts' : TS} (hf : Fwd T n (.inr ts) s') (hts : TsW T n ts) (e : s' = .inr ts') : TsW T n ts' := by
  obtain ⟨t0, q0, q⟩ := hf ts' e
  cases q0
  exact (q hts).1
theorem sp_told (hC : RdC X aK aV T) (hi27 : i < 27) (hg : TokG (S 120) n ts) (hts : TsW T n ts) (hn : n ≤ 2400) (hl : Cond.methodLink M.y.cls idx yX5_number ∈ lw_all) (hd : decode M.cc pc = .ok (.invokevirtual idx, 3)) (hR : 10 ≤ M.lv) (hst : wt8 st = true) (hf : k + 2 ≤ R.cells ∧ m + 16 ≤ R.slots)
    (kk : ∀ v ts' g, toldE T n i lo hi (.inr ts) = (v, .inr ts') → TsW T n ts' → TokG g n ts' → JS SP X M R Z (k + 2) (m + 16) (pc + 3) L (.int v :: st) (hz, tp, T, sk, va_up S 120 g, N)) (kt : ∀ a h', SQT hz (fun k p => (toldE T n i lo hi (.inr ts)).2 = .inl (k, p)) RX6 a h' → JT X M R Z RX6 a pc L h' (k + 2) (m + 16)) : JS SP X M R Z k m pc L (.int hi :: .int lo :: .ref (aK i) :: .ref (sk 120) :: st) (hz, tp, T, sk, S, N) := by
  obtain ⟨h1, h2, h3, h4, h5⟩ := hC
  refine sp_rpy (M' := mX5_number) (nA := 3) (As := [.ref (aK i), .int lo, .int hi]) (Q' := fun r x' => ∃ v ts', toldE T n i lo hi (.inr ts) = (v, .inr ts') ∧ r = some (.int v) ∧ TokG x'.2.2.2 n ts') (fun h _ => RPX.toY (ok_toldR h1 h2 h3 h4 h5 hi27 hg hts.le.1 hts.le.2 hn) (fun r x' q => ?_) (fun a x' q => q)) hl q759 qs12 q760 hd rfl hy_X5_number hf (fun r g h q => ?_) kt rfl rfl ⟨hR, by decide⟩ hst
  · obtain ⟨v, ts', q1, q2, g', rfl, q3⟩ := q
    exact ⟨⟨v, ts', q1, q2, q3⟩, g', rfl⟩
  · obtain ⟨v, ts', q1, rfl, q3⟩ := q
    exact kk v ts' g q1 (fw_ts fwd_told hts (by rw [q1])) q3
theorem sp_num (hC : RdC X aK aV T) (hg : TokG (S 120) n ts) (hts : TsW T n ts) (hn : n ≤ 2400) (hl : Cond.methodLink M.y.cls idx yX5_number_2 ∈ lw_all) (hd : decode M.cc pc = .ok (.invokevirtual idx, 3)) (hR : 8 ≤ M.lv) (hst : wt8 st = true) (hf : k + 1 ≤ R.cells ∧ m + 8 ≤ R.slots)
    (kk : ∀ v ts' g, numE T n lo hi (.inr ts) = (v, .inr ts') → TsW T n ts' → TokG g n ts' → JS SP X M R Z (k + 1) (m + 8) (pc + 3) L (.int v :: st) (hz, tp, T, sk, va_up S 120 g, N)) (kt : ∀ a h', SQT hz (fun k p => (numE T n lo hi (.inr ts)).2 = .inl (k, p)) RX6 a h' → JT X M R Z RX6 a pc L h' (k + 1) (m + 8)) : JS SP X M R Z k m pc L (.int hi :: .int lo :: .ref (sk 120) :: st) (hz, tp, T, sk, S, N) := by
  obtain ⟨h1, h2, h3, h4, h5⟩ := hC
  refine sp_rpy (M' := mX5_number_2) (nA := 2) (As := [.int lo, .int hi]) (Q' := fun r x' => ∃ v ts', numE T n lo hi (.inr ts) = (v, .inr ts') ∧ r = some (.int v) ∧ TokG x'.2.2.2 n ts') (fun h _ => RPX.toY (ok_numR h1 h2 h3 h5 hg hts.le.1 hts.le.2 hn) (fun r x' q => ?_) (fun a x' q => q)) hl q763 qs13 q764 hd rfl hy_X5_number_2 hf (fun r g h q => ?_) kt rfl rfl ⟨hR, by decide⟩ hst
  · obtain ⟨v, ts', q1, q2, g', rfl, q3⟩ := q
    exact ⟨⟨v, ts', q1, q2, q3⟩, g', rfl⟩
  · obtain ⟨v, ts', q1, rfl, q3⟩ := q
    exact kk v ts' g q1 (fw_ts fwd_num hts (by rw [q1])) q3
theorem sp_asks (hC : RdC X aK aV T) (hi27 : i < 27) (hg : TokG (S 120) n ts) (hts : TsW T n ts) (hn : n ≤ 2400) (hl : Cond.methodLink M.y.cls idx yX5_asks ∈ lw_all) (hd : decode M.cc pc = .ok (.invokevirtual idx, 3)) (hR : 9 ≤ M.lv) (hst : wt8 st = true) (hf : k + 1 ≤ R.cells ∧ m + 8 ≤ R.slots)
    (kk : ∀ ts' g, needsE T n i (.inr ts) = .inr ts' → TsW T n ts' → TokG g n ts' → JS SP X M R Z (k + 1) (m + 8) (pc + 3) L st (hz, tp, T, sk, va_up S 120 g, N)) (kt : ∀ a h', SQT hz (fun k p => needsE T n i (.inr ts) = .inl (k, p)) RX6 a h' → JT X M R Z RX6 a pc L h' (k + 1) (m + 8)) : JS SP X M R Z k m pc L (.ref (aK i) :: .ref (sk 120) :: st) (hz, tp, T, sk, S, N) := by
  obtain ⟨h1, h2, h3, h4, h5⟩ := hC
  refine sp_rpy (M' := mX5_asks) (nA := 1) (As := [.ref (aK i)]) (Q' := fun r x' => r = none ∧ ∃ ts', needsE T n i (.inr ts) = .inr ts' ∧ TokG x'.2.2.2 n ts') (fun h _ => RPX.toY (ok_asksR h1 h2 h3 h4 h5 hi27 hg hts.le.1 hts.le.2 hn) (fun r x' q => ?_) (fun a x' q => ?_)) hl q663 qs8 q664 hd rfl hy_X5_asks hf (fun r g h q => ?_) kt rfl rfl ⟨hR, by decide⟩ hst
  · obtain ⟨rfl, q1, g', rfl, q3⟩ := q
    exact ⟨⟨rfl, advS T n ts.1, by rw [needsE, if_pos q1]; rfl, q3⟩, g', rfl⟩
  · exact ⟨nI 1, ts.2.1, by rw [needsE, if_neg (by rw [q.1]; decide)]; rfl, q.2⟩
  · obtain ⟨rfl, ts', q1, q3⟩ := q
    exact kk ts' g q1 (fw_ts fwd_needs hts q1) q3
theorem sp_room (hC : RdC X aK aV T) {b : Bool} (hg : TokG (S 120) n ts) (hts : TsW T n ts) (hn : n ≤ 2400) (hl : Cond.methodLink M.y.cls idx yX5_room ∈ lw_all) (hd : decode M.cc pc = .ok (.invokevirtual idx, 3)) (hR : 8 ≤ M.lv) (hst : wt8 st = true) (hf : k + 1 ≤ R.cells ∧ m + 8 ≤ R.slots)
    (kk : ∀ g, b = true → TsW T n (advS T n ts.1) → TokG g n (advS T n ts.1) → JS SP X M R Z (k + 1) (m + 8) (pc + 3) L st (hz, tp, T, sk, va_up S 120 g, N)) (kt : ∀ a h', SQT hz (fun k p => b = false ∧ (k, p) = (nI 3, ts.2.1)) RX6 a h' → JT X M R Z RX6 a pc L h' (k + 1) (m + 8)) : JS SP X M R Z k m pc L (.int (b2 b) :: .ref (sk 120) :: st) (hz, tp, T, sk, S, N) := by
  obtain ⟨h1, h2, h3, h4, h5⟩ := hC
  refine sp_rpy (M' := mX5_room) (nA := 1) (As := [.int (b2 b)]) (Q' := fun r x' => r = none ∧ b = true ∧ TokG x'.2.2.2 n (advS T n ts.1)) (fun h _ => RPX.toY (ok_roomR h1 h2 h3 h5 hg hts.le.2 hn) (fun r x' q => ?_) (fun a x' q => ?_)) hl q778 qs16 q779 hd rfl hy_X5_room hf (fun r g h q => ?_) kt rfl rfl ⟨hR, by decide⟩ hst
  · obtain ⟨rfl, q1, g', rfl, q3⟩ := q
    exact ⟨⟨rfl, q1, q3⟩, g', rfl⟩
  · exact ⟨nI 3, ts.2.1, ⟨q.1, rfl⟩, q.2⟩
  · obtain ⟨rfl, q1, q3⟩ := q
    exact kk g q1 ⟨ts.1, hts.le.2, rfl⟩ q3
theorem sp_next (hC : RdC X aK aV T) (hg : TokG (S 120) n ts) (hts : TsW T n ts) (hn : n ≤ 2400) (hl : Cond.methodLink M.y.cls idx yX5_next ∈ lw_all) (hd : decode M.cc pc = .ok (.invokevirtual idx, 3)) (hR : 4 ≤ M.lv) (hst : wt8 st = true)
    (kk : ∀ g, TsW T n (advS T n ts.1) → TokG g n (advS T n ts.1) → JS SP X M R Z k m (pc + 3) L st (hz, tp, T, sk, va_up S 120 g, N)) : JS SP X M R Z k m pc L (.ref (sk 120) :: st) (hz, tp, T, sk, S, N) := by
  obtain ⟨h1, h2, h3, h4, h5⟩ := hC
  refine sp_rpc (M' := mX5_next) (nA := 0) (As := []) (Q' := fun r x' => r = none ∧ TokG x'.2.2.2 n (advS T n ts.1)) (fun h _ => ?_) (lw_V hl q619 qs5 q139 q620) hd rfl hy_X5_next (fun r g h q => ?_) rfl rfl ⟨hR, by decide⟩ hst
  · intro h' hp'
    refine MetFree.mono (ok_next h5 hg.1 hg.2.1 hn hts.le.2 h' hp') (fun _ _ z => z) (fun _ _ _ _ _ z => z) (fun a s oc t _ z => ⟨?_, z.2⟩)
    obtain ⟨h2', ⟨r, x', e1, ⟨e2, g', rfl, e3⟩, e4⟩, hw⟩ := z.1
    exact ⟨h2', ⟨r, _, e1, ⟨⟨e2, e3⟩, g', rfl⟩, e4⟩, hw⟩
  · obtain ⟨rfl, q⟩ := q
    exact kk g ⟨ts.1, hts.le.2, rfl⟩ q
theorem sp_is (hC : RdC X aK aV T) (hi27 : i < 27) (hg : TokG (S 120) n ts) (hts : TsW T n ts) (hn : n ≤ 2400) (hl : Cond.methodLink M.y.cls idx yX5_is ∈ lw_all) (hd : decode M.cc pc = .ok (.invokevirtual idx, 3)) (hR : 7 ≤ M.lv) (hst : wt8 st = true)
    (kk : JS SP X M R Z k m (pc + 3) L (.int (b2 (isE T i (.inr ts))) :: st) (hz, tp, T, sk, S, N)) : JS SP X M R Z k m pc L (.ref (aK i) :: .ref (sk 120) :: st) (hz, tp, T, sk, S, N) := by
  obtain ⟨h1, h2, h3, h4, h5⟩ := hC
  refine sp_rpc (M' := mX5_is) (nA := 1) (As := [.ref (aK i)]) (Q' := fun r x' => r = some (.int (b2 (isE T i (.inr ts)))) ∧ x'.2.2.2 = S 120) (fun h _ => ?_) (lw_V hl q671 qs10 q139 q672) hd rfl hy_X5_is (fun r g h q => ?_) rfl rfl ⟨hR, by decide⟩ hst
  · intro h' hp'
    refine MetFree.mono (ok_isR h4 hi27 hg hts.le.1 hts.le.2 hn h' hp') (fun _ _ z => z) (fun _ _ _ _ _ z => z) (fun a s oc t _ z => ⟨?_, z.2⟩)
    obtain ⟨h2', ⟨r, x', e1, ⟨e2, rfl⟩, e4⟩, hw⟩ := z.1
    exact ⟨h2', ⟨r, _, e1, ⟨⟨e2, rfl⟩, _, rfl⟩, e4⟩, hw⟩
  · obtain ⟨rfl, q⟩ := q
    have q : g = S 120 := q
    rw [q, up_same]
    exact kk
end SmC
