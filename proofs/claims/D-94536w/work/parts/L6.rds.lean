set_option maxRecDepth 100000
/-! ===== UnseenClock$Reader: reads ===== -/
section RdA
variable {X : Cx} {hz h : AH} {tp n : Nat} {T w : Nat → Int32} {sk : Nat → Nat} {S S' : Nat → Nat → Int32} {N : Nat → Nat}
theorem RowOk.hE {fr : Nat} (h : RowOk w fr) : ∀ q, nP w ≤ q → q < 8 → w (56 + 33 * q + 3) = nI 0 ∧ w (56 + 33 * q + 4) = nI 0 := by
  obtain ⟨v, r, hV, h7, h8, hl⟩ := h
  intro q h1 h2
  have b2' : v 2 ≤ 8 := hV.2.2.1
  have c1 : nP w = v 2 := (clp (r 2 (by decide)) (by omega)).2
  have := h8 q (by omega) h2
  exact ⟨by rw [r _ (by omega), this.1], by rw [r _ (by omega), this.2]⟩
theorem RowOk.wl {fr : Nat} (h : RowOk w fr) : ∃ a b : Nat, a ≤ 12 ∧ b ≤ 12 ∧ w 4 = nI a ∧ w 5 = nI b := by
  obtain ⟨v, r, hV, -⟩ := h
  exact ⟨v 4, v 5, hV.2.2.2.2.1, hV.2.2.2.2.2.1, r 4 (by decide), r 5 (by decide)⟩
theorem SP.sqat (hp : SP X (hz, tp, T, sk, S, N) h) (hr : SR S N w) (hc : ∀ p, p < N 1 → RowC w (S (10 + p)) (spotF w p)) : SqAt X h sk w := by
  refine ⟨hp.sqw hr, ⟨_, hp.at (u_lo (by decide : 4 < 7)), fun p hp8 => if_pos hp8⟩, fun p hpp => ?_⟩
  rw [← hr.2.1.1] at hpp
  exact ⟨S (10 + p), hp.row (by have := hr.2.1.2.2; omega), hc p hpp⟩
/-- a line more -/
theorem SR.line (h : SR S N w) (hS : ∀ i, i ≠ 0 → i ≠ 120 → S' i = S i) (h0 : S' 0 = va_up (S 0) 8 (S 0 8 + nI 1)) : SR S' N (va_up w 3 (w 3 + nI 1)) := by
  obtain ⟨s4, s5, s6, s7, s8⟩ := h.2.2.1
  refine h.cg (fun q q3 _ _ _ => va_up_ne _ _ q3) hS ?_ ?_ ?_ ?_ ?_
  · rw [h0, va_up_ne _ _ (by decide)]
  · rw [h0, va_up_ne _ _ (by decide), va_up_ne _ _ (by decide)]; exact s4
  · rw [h0, va_up_ne _ _ (by decide), va_up_ne _ _ (by decide)]; exact s5
  · rw [h0, va_up_ne _ _ (by decide), va_up_ne _ _ (by decide)]; exact s6
  · rw [h0, va_up_self, va_up_self, s8]
end RdA
section Rds
variable {X : Cx} {hz : AH} {tp n : Nat} {T w : Nat → Int32} {sk : Nat → Nat} {S : Nat → Nat → Int32} {N : Nat → Nat} {aK aV : Nat → Nat} {ts : TS}
/-- what reading gives -/
def QRd (hz : AH) (tp : Nat) (T : Nat → Int32) (ra sq : Nat) (F : RdE × (Nat → Int32)) (r : Option Value) (x' : SPv) : Prop := r = some (.ref sq) ∧ ∃ ts' sk' S' N', F.1 = .inr ts' ∧ x' = (hz, tp, T, sk', S', N') ∧ (sk' 120 = ra ∧ sk' 0 = sq) ∧ SR S' N' F.2 ∧ ∀ p, p < N' 1 → RowC F.2 (S' (10 + p)) (spotF F.2 p)
theorem bX5_reads_0 : Blk SP mX5_reads 0 4 [oAL 0, pRd 5] := blk_c (s_aload_n dX5_reads_0 rfl) <| blk_c (p_Rd (f := 5) (by decide) q635 dX5_reads_1) <| blk_nil
theorem bX5_reads_7 : Blk SP mX5_reads 7 14 [oAL 0, pRs, pSI 8] := blk_c (s_aload_n dX5_reads_7 rfl) <| blk_c (p_Rs q632 dX5_reads_8) <| blk_c (p_SI (f := 8) (by decide) nq453 dX5_reads_11) <| blk_nil
theorem bX5_reads_17 : Blk SP mX5_reads 17 18 [oAL 0] := blk_c (s_aload_n dX5_reads_17 rfl) <| blk_nil
theorem bX5_reads_21 : Blk SP mX5_reads 21 28 [.inl (fun s => some s)] := blk_c (s_goto (tgt := 28) dX5_reads_21 (by decide)) <| blk_nil
theorem bX5_reads_24 : Blk SP mX5_reads 24 25 [oAL 0] := blk_c (s_aload_n dX5_reads_24 rfl) <| blk_nil
theorem bX5_reads_28 : Blk SP mX5_reads 28 33 [oAL 0, pRd 5, oC (nI 3)] := blk_c (s_aload_n dX5_reads_28 rfl) <| blk_c (p_Rd (f := 5) (by decide) q635 dX5_reads_29) <| blk_c (s_iconst dX5_reads_32 (by decide +kernel)) <| blk_nil
theorem bX5_reads_36 : Blk SP mX5_reads 36 38 [oAL 0, oC (nI 1)] := blk_c (s_aload_n dX5_reads_36 rfl) <| blk_c (s_iconst dX5_reads_37 (by decide +kernel)) <| blk_nil
theorem bX5_reads_42 : Blk SP mX5_reads 42 43 [oAL 0] := blk_c (s_aload_n dX5_reads_42 rfl) <| blk_nil
theorem bX5_reads_46 : Blk SP mX5_reads 46 0 [oAL 0, pRs, oDupR, pSI 8, oC (nI 1), oAdd, pSP 8, .inl (fun s => some s)] := blk_c (s_aload_n dX5_reads_46 rfl) <| blk_c (p_Rs q632 dX5_reads_47) <| blk_c (s_dupR dX5_reads_50) <| blk_c (p_SI (f := 8) (by decide) nq453 dX5_reads_51) <| blk_c (s_iconst dX5_reads_54 (by decide +kernel)) <| blk_c (s_iadd dX5_reads_55) <| blk_c (p_SP (f := 8) (by decide) nq453 dX5_reads_56) <| blk_c (s_goto (tgt := 0) dX5_reads_59 (by decide)) <| blk_nil
theorem bX5_reads_62 : Blk SP mX5_reads 62 66 [oAL 0, pRs] := blk_c (s_aload_n dX5_reads_62 rfl) <| blk_c (p_Rs q632 dX5_reads_63) <| blk_nil
theorem bX5_reads_69 : Blk SP mX5_reads 69 73 [oAL 0, pRs] := blk_c (s_aload_n dX5_reads_69 rfl) <| blk_c (p_Rs q632 dX5_reads_70) <| blk_nil
theorem ok_reads (hC : RdC X aK aV T) (hr : SR S N w) (hI : LpI T n (n + 1) (.inr ts) w) (hg : TokG (S 120) n ts) (hn : n ≤ 2400) : SPX X mX5_reads (13 * (n + 1) + 1) (102 * (n + 1) + 8) [.ref (sk 120)] (hz, tp, T, sk, S, N) (QRd hz tp T (sk 120) (sk 0) (loopE T n (n + 1) (.inr ts) w)) (fun k p => (loopE T n (n + 1) (.inr ts) w).1 = .inl (k, p)) := by
  have hX := hC.1
  generalize hF : loopE T n (n + 1) (.inr ts) w = F
  generalize hra : sk 120 = ra
  generalize hsq : sk 0 = sq
  generalize hmc : 13 * (n + 1) + 1 = mc
  generalize hms : 102 * (n + 1) + 8 = ms
  have main : ∀ d, ∀ (ts : TS) (w : Nat → Int32) (sk : Nat → Nat) (S : Nat → Nat → Int32) (N : Nat → Nat) (k m : Nat), LpI T n d (.inr ts) w → SR S N w → TokG (S 120) n ts → sk 120 = ra → sk 0 = sq → loopE T n d (.inr ts) w = F → k + 13 * d + 1 ≤ mc → m + 102 * d + 8 ≤ ms → JS SP X mX5_reads (rmOf mX5_reads.lv mc ms) (ZSX X mc ms hz (QRd hz tp T ra sq F) (fun k p => F.1 = .inl (k, p))) k m 0 [some (.ref ra)] [] (hz, tp, T, sk, S, N) := by
    intro d
    induction d with
    | zero =>
      intro ts w sk S N k m hI
      obtain ⟨h1, -, h3⟩ := hI ts rfl
      have := h1.le
      omega
    | succ d ih =>
      intro ts w sk S N k m hI hr hg hra hsq hF hk hm
      obtain ⟨h1, h2, h3⟩ := hI ts rfl
      obtain ⟨g1, g3, g4, g5, g6⟩ := id hg
      subst hra
      subst hsq
      refine bX5_reads_0.go rfl (by repeat' first | exact trivial | rfl | assumption | omega | apply And.intro) ?_
      rw [g5]
      refine j_if_eq (tgt := 62) dX5_reads_4 (by decide) (fun z => ?_) (fun z => ?_) <;> rw [← nI_0] at z
      · have eF : F = (.inr ts, w) := by rw [← hF, loopE, if_pos z]
        obtain ⟨v, hv⟩ := h2.wok
        refine bX5_reads_62.go rfl (by repeat' first | exact trivial | rfl | assumption | omega | apply And.intro) ?_
        intro h hp p' e s mm args below meth c B' rk H locs ls hW hS hL
        refine J.callV (M' := mX2_walks) (ci := 2) (q := (RX2, TX2, 9)) (As := []) (mc := 0) (ms := 0) (ok_walks hr hv h hp) (fun o h' q => by obtain ⟨r, x', e1, -⟩ := q; exact ⟨r, e1⟩) (hp.at (u_lo (by decide : 0 < 7))) rfl dX5_reads_66 (lw_V q1105 q1106 q1107 q133 q1108) ⟨rfl, hy_X2_walks.1, hy_X2_walks.2.1, hy_X2_walks.2.2⟩ ⟨by decide, by decide⟩ ⟨rk.2.2.1, rk.2.2.2⟩ (by decide) (fun v h' q => ?_) p' e s mm args below meth c B' rk H locs ls hW hS hL
        obtain ⟨r, x', e1, ⟨rfl, S', rfl, hS', hc'⟩, hp'⟩ := q
        cases e1
        refine (show JS SP X mX5_reads (rmOf mX5_reads.lv mc ms) _ _ _ 69 _ _ _ from ?_) _ hp'
        refine bX5_reads_69.go rfl (by repeat' first | exact trivial | rfl | assumption | omega | apply And.intro) ?_
        refine sp_aret dX5_reads_73 rfl (Or.inl ⟨_, rfl⟩) ⟨rfl, ts, sk, S', N, by rw [eF], rfl, ⟨rfl, rfl⟩, ?_, ?_⟩ (by omega) (by omega)
        · rw [eF]; exact hr.cel hS'
        · rw [eF]; exact hc'
      have eF : loopE T n d (lineE T n (.inr ts) w).1 (lineE T n (.inr ts) w).2 = F := by rw [← hF]; show _ = loopE T n (d + 1) (.inr ts) w; rw [loopE, if_neg z]
      have hI' := hI.next hn
      -- the line's end
      have j28 : ∀ k' m' r x', k' ≤ k + 13 → m' ≤ m + 102 → QLn hz tp T n sk (bodyE T n (.inr ts) w) r x' → JS SP X mX5_reads (rmOf mX5_reads.lv mc ms) (ZSX X mc ms hz (QRd hz tp T (sk 120) (sk 0) F) (fun k p => F.1 = .inl (k, p))) k' m' 28 [some (.ref (sk 120))] [] x' := by
        intro k' m' r x' hk' hm' q
        obtain ⟨-, tm, sk', S', N', e1, wt, rfl, ⟨e120, e00⟩, hr', hg'⟩ := q
        obtain ⟨q1, q3, q4, q5, q6⟩ := id hg'
        rw [← e120, ← e00]
        refine bX5_reads_28.go rfl (by repeat' first | exact trivial | rfl | assumption | omega | apply And.intro) ?_
        rw [q5]
        refine j_icmp_eq (tgt := 42) dX5_reads_33 (by decide) (fun y => ?_) (fun y => ?_)
        · have el : lineE T n (.inr ts) w = (.inr (advS T n tm.1), va_up (bodyE T n (.inr ts) w).2 3 ((bodyE T n (.inr ts) w).2 3 + nI 1)) := by
            rw [lineE, e1]
            show ((if tm.2.2.1 = nI 3 then .inr (advS T n tm.1) else .inl (nI 1, tm.2.1) : RdE), _) = _
            rw [if_pos y]
          rw [el] at eF hI'
          refine bX5_reads_42.go rfl trivial ?_
          refine sp_next hC hg' wt hn q617 dX5_reads_43 (by decide) rfl (fun g w1 hg1 => ?_)
          refine bX5_reads_46.go rfl (by repeat' first | exact trivial | rfl | assumption | omega | apply And.intro) ?_
          rw [e120, e00]
          refine ih (advS T n tm.1) _ sk' _ N' k' m' hI' ?_ ?_ e120 e00 eF (by omega) (by omega)
          · refine hr'.line (fun i i0 i1 => by rw [upA_ne i0, va_up_ne _ _ i1]) ?_
            rw [upA_s, va_up_ne _ _ (by decide)]
          · rw [upA_ne (by decide), va_up_self]; exact hg1
        · have el : (lineE T n (.inr ts) w).1 = .inl (nI 1, tm.2.1) := by
            rw [lineE, e1]
            show (if tm.2.2.1 = nI 3 then .inr (advS T n tm.1) else .inl (nI 1, tm.2.1) : RdE) = _
            rw [if_neg y]
          refine bX5_reads_36.go rfl trivial ?_
          refine sp_throw hC hg' q721 dX5_reads_38 dX5_reads_41 (by decide) ⟨by show k' + 1 ≤ mc; omega, by show m' + 8 ≤ ms; omega⟩ (fun a h' q => sp_out hX rfl (q.mono (fun kk p y => ?_)) (by omega) (by omega))
          rw [← eF, el, loopE_inl, y]
      have bad : ∀ e, (bodyE T n (.inr ts) w).1 = .inl e → F.1 = .inl e := fun e he => by
        rw [← eF, show (lineE T n (.inr ts) w).1 = .inl e from by rw [lineE, he]; rfl, loopE_inl]
      refine bX5_reads_7.go rfl (by repeat' first | exact trivial | rfl | assumption | omega | apply And.intro) ?_
      rw [hr.2.2.1.2.2.2.2]
      refine j_if_ne (tgt := 24) dX5_reads_14 (by decide) (fun y => ?_) (fun y => ?_)
      · have eb : bodyE T n (.inr ts) w = nextE T n (.inr ts) w := by rw [bodyE, if_neg y]
        refine bX5_reads_24.go rfl trivial ?_
        refine spx (M' := mX5_line) (nA := 0) (As := []) (ok_line hC hr h2.fr h2.hE h2.wl hg h1 hn) q767 q769 qs14 q770 dX5_reads_25 rfl hy_X5_line ⟨by show k + 13 ≤ mc; omega, by show m + 102 ≤ ms; omega⟩ (fun r x' q => ?_) (fun a h' q => sp_out hX rfl (q.mono (fun kk p y => bad _ (by rw [eb]; exact y))) (by omega) (by omega))
        rw [← eb] at q
        obtain ⟨rfl, -⟩ := id q
        exact j28 _ _ _ _ (by omega) (by omega) q
      · have eb : bodyE T n (.inr ts) w = firstE T n (.inr ts) w := by rw [bodyE, if_pos y]
        refine bX5_reads_17.go rfl trivial ?_
        refine spx (M' := mX5_first) (nA := 0) (As := []) (ok_first hC hr hg h1 hn) q656 q658 qs7 q659 dX5_reads_18 rfl hy_X5_first ⟨by show k + 7 ≤ mc; omega, by show m + 56 ≤ ms; omega⟩ (fun r x' q => ?_) (fun a h' q => sp_out hX rfl (q.mono (fun kk p y => bad _ (by rw [eb]; exact y))) (by omega) (by omega))
        rw [← eb] at q
        obtain ⟨rfl, -⟩ := id q
        refine bX5_reads_21.go rfl trivial ?_
        exact j28 _ _ _ _ (by omega) (by omega) q
  refine SPX_start (L := [some (.ref ra)]) 0 rfl ?_
  exact main (n + 1) ts w sk S N 0 0 hI hr hg hra hsq hF (by omega) (by omega)
end Rds
