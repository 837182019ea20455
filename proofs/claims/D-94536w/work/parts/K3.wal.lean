set_option maxRecDepth 100000
/-! ===== UnseenClock$Reader: first, wall ===== -/
section SpO
variable {M : MD} {pc idx : Nat}
def pRd (f : Nat) : OPS SPv := .inr (fun s => match s with
  | (L, .ref a :: st, (hz, tp, T, sk, S, N)) => some (a = sk 120 ∧ True, L, .int (S 120 f) :: st, (hz, tp, T, sk, S, N))
  | _ => none)
theorem p_Rd {f : Nat} (hf1 : (f == 1 || f == 3 || f == 4 || f == 5 || f == 6) = true) (hl : Cond.fieldLink M.y.cls idx (TX5 f).1 (TX5 f).2.1 (TX5 f).2.2.1 ∈ lw_all) (hd : decode M.cc pc = .ok (.getfield idx, 3)) : JStp SP M pc (pc + 3) (pRd f) := by
  intro X R Z k n L st x cnd L' st' x' hf hc kk h hp
  dsimp only at hf
  split at hf
  · rename_i heq
    cases heq
    simp only [Option.some.injEq, Prod.mk.injEq] at hf
    obtain ⟨rfl, rfl, rfl, rfl⟩ := hf
    obtain ⟨rfl, -⟩ := hc
    exact J.getf (f := f) clsX5 rfl (hp.at u_rd) (rd_at hf1 0 0 (fun _ => 0)).1 (rd_at hf1 _ _ _).2 hl hd (kk _ hp)
  · cases hf
def pRs : OPS SPv := .inr (fun s => match s with
  | (L, .ref a :: st, (hz, tp, T, sk, S, N)) => some (a = sk 120 ∧ True, L, .ref (sk 0) :: st, (hz, tp, T, sk, S, N))
  | _ => none)
theorem p_Rs (hl : Cond.fieldLink M.y.cls idx (TX5 2).1 (TX5 2).2.1 (TX5 2).2.2.1 ∈ lw_all) (hd : decode M.cc pc = .ok (.getfield idx, 3)) : JStp SP M pc (pc + 3) pRs := by
  intro X R Z k n L st x cnd L' st' x' hf hc kk h hp
  dsimp only at hf
  split at hf
  · rename_i heq
    cases heq
    simp only [Option.some.injEq, Prod.mk.injEq] at hf
    obtain ⟨rfl, rfl, rfl, rfl⟩ := hf
    obtain ⟨rfl, -⟩ := hc
    exact J.getf (f := 2) clsX5 rfl (hp.at u_rd) (by decide) rfl hl hd (kk _ hp)
  · cases hf
abbrev sqF (sk : Nat → Nat) (a : Nat → Int32) : List Value := [.ref (sk 1), .ref (sk 2), .ref (sk 3), .ref (sk 4), .int (a 4), .int (a 5), .int (a 6), .int (a 7), .int (a 8)]
theorem sq_at {f : Nat} (hf : (f == 4 || f == 5 || f == 6 || f == 7 || f == 8) = true) (sk : Nat → Nat) (a : Nat → Int32) (v : Int32) : f < 9 ∧ (sqF sk a)[f]? = some (.int (a f)) ∧ (TX2 f).2.2.2 = false ∧ tyX2 f = .int ∧ (sqF sk a).set f (.int v) = sqF sk (va_up a f v) := by
  simp only [Bool.or_eq_true, beq_iff_eq] at hf
  rcases hf with (((rfl | rfl) | rfl) | rfl) | rfl <;> exact ⟨by decide, rfl, rfl, rfl, rfl⟩
def pSI (f : Nat) : OPS SPv := .inr (fun s => match s with
  | (L, .ref a :: st, (hz, tp, T, sk, S, N)) => some (a = sk 0 ∧ True, L, .int (S 0 f) :: st, (hz, tp, T, sk, S, N))
  | _ => none)
theorem p_SI {f : Nat} {host : String} (hf1 : (f == 4 || f == 5 || f == 6 || f == 7 || f == 8) = true) (hl : Cond.fieldLinkNest M.y.cls idx (TX2 f).1 (TX2 f).2.1 (TX2 f).2.2.1 host ∈ nwL) (hd : decode M.cc pc = .ok (.getfield idx, 3)) : JStp SP M pc (pc + 3) (pSI f) := by
  intro X R Z k n L st x cnd L' st' x' hf hc kk h hp
  dsimp only at hf
  split at hf
  · rename_i heq
    cases heq
    simp only [Option.some.injEq, Prod.mk.injEq] at hf
    obtain ⟨rfl, rfl, rfl, rfl⟩ := hf
    obtain ⟨rfl, -⟩ := hc
    exact J.getfN (f := f) hp.1.1 clsX2 rfl (hp.at (u_lo (by decide))) (sq_at hf1 (fun _ => 0) (fun _ => 0) 0).1 (sq_at hf1 _ _ 0).2.1 hl hd (kk _ hp)
  · cases hf
def pSR (f : Nat) : OPS SPv := .inr (fun s => match s with
  | (L, .ref a :: st, (hz, tp, T, sk, S, N)) => some (a = sk 0 ∧ True, L, .ref (sk (f + 1)) :: st, (hz, tp, T, sk, S, N))
  | _ => none)
theorem p_SR {f : Nat} {host : String} (hf1 : (f == 0 || f == 1 || f == 2) = true) (hl : Cond.fieldLinkNest M.y.cls idx (TX2 f).1 (TX2 f).2.1 (TX2 f).2.2.1 host ∈ nwL) (hd : decode M.cc pc = .ok (.getfield idx, 3)) : JStp SP M pc (pc + 3) (pSR f) := by
  intro X R Z k n L st x cnd L' st' x' hf hc kk h hp
  dsimp only at hf
  split at hf
  · rename_i heq
    cases heq
    simp only [Option.some.injEq, Prod.mk.injEq] at hf
    obtain ⟨rfl, rfl, rfl, rfl⟩ := hf
    obtain ⟨rfl, -⟩ := hc
    simp only [Bool.or_eq_true, beq_iff_eq] at hf1
    rcases hf1 with (rfl | rfl) | rfl <;> exact J.getfN hp.1.1 clsX2 rfl (hp.at (u_lo (by decide : 0 < 7))) (by decide) rfl hl hd (kk _ hp)
  · cases hf
def pSP (f : Nat) : OPS SPv := .inr (fun s => match s with
  | (L, .int v :: .ref a :: st, (hz, tp, T, sk, S, N)) => some (a = sk 0 ∧ True, L, st, (hz, tp, T, sk, upA S 0 f v, N))
  | _ => none)
theorem p_SP {f : Nat} {host : String} (hf1 : (f == 4 || f == 5 || f == 6 || f == 7 || f == 8) = true) (hl : Cond.fieldLinkNest M.y.cls idx (TX2 f).1 (TX2 f).2.1 (TX2 f).2.2.1 host ∈ nwL) (hd : decode M.cc pc = .ok (.putfield idx, 3)) : JStp SP M pc (pc + 3) (pSP f) := by
  intro X R Z k n L st x cnd L' st' x' hf hc kk h hp
  dsimp only at hf
  split at hf
  · rename_i v a st1 hz tp T sk S N heq
    cases heq
    simp only [Option.some.injEq, Prod.mk.injEq] at hf
    obtain ⟨rfl, rfl, rfl, rfl⟩ := hf
    obtain ⟨rfl, -⟩ := hc
    obtain ⟨q1, q2, q3, q4, q5⟩ := sq_at hf1 sk (S 0) v
    refine J.putfN (f := f) (fs := sqF sk (S 0)) hp.1.1 clsX2 rfl (hp.at (u_lo (by decide))) q1 q1 q3 (by rw [q4]; rfl) (by rw [q4]; rfl) hl hd ?_
    rw [q5]
    have := hp.upd (i := 0) (S' := upA S 0 f v) (u_lo (by decide)) (fun j hj => upA_ne hj)
    rw [upA, va_up_self] at this
    exact kk _ this
  · cases hf
end SpO
/-! numbers are not below nought -/
section NnT
variable {T : Nat → Int32} {n : Nat} {ts : TS}
theorem inL_rng {x : Int32} {a b : Nat} (ha : a < 1000) (hb : b < 1000) (h : inL x (nI a).toInt64 (nI b).toInt64 = true) : ∃ y, a ≤ y ∧ y ≤ b ∧ x = nI y := inI_rng hb (by rw [← in_i2l]; exact h) ha
theorem acc_nn : ∀ k a u, u ≤ 99999 → ∃ u', u' ≤ 99999 ∧ accF T n k a (nI u) = nI u' := by
  intro k
  induction k with
  | zero => intro a u hu; exact ⟨u, hu, rfl⟩
  | succ k ih =>
    intro a u hu
    rw [accF]
    by_cases hd : digB T n a = true
    · rw [if_pos hd]
      obtain ⟨c, c1, c2, ec⟩ := inL_rng (a := 48) (b := 57) (by decide) (by decide) (by rw [show (nI 48).toInt64 = 48 by decide +kernel, show (nI 57).toInt64 = 57 by decide +kernel]; exact hd)
      rw [ec, pk_mul, nI_add, pk_sub (by omega), show (99999 : Int32) = nI 99999 by decide +kernel, minI]
      by_cases h : nI (10 * u + c - 48) < nI 99999
      · rw [if_pos h]
        have : 10 * u + c - 48 < 99999 := by
          have := Int32.lt_iff_toInt_lt.mp h
          rw [nI_toInt (by omega), nI_toInt (by omega)] at this
          omega
        exact ih _ _ (by omega)
      · rw [if_neg h]; exact ih _ _ (Nat.le_refl _)
    · rw [if_neg hd]; exact ⟨u, hu, rfl⟩
theorem TsW.nn (h : TsW T n ts) (h2 : ts.2.2.1 = nI 2) : 0 ≤ ts.2.2.2 := by
  obtain ⟨a, ha, rfl⟩ := h
  unfold advS at *
  by_cases e1 : seeI T n (skF (spcB T n) n a) = -1
  · rw [if_pos e1] at h2; exact absurd (show nI 0 = nI 2 from h2) (by decide +kernel)
  rw [if_neg e1] at h2 ⊢
  by_cases e2 : letB T n (skF (spcB T n) n a) = true
  · rw [if_pos e2] at h2; exact absurd (show nI 1 = nI 2 from h2) (by decide +kernel)
  rw [if_neg e2] at h2 ⊢
  by_cases e3 : digB T n (skF (spcB T n) n a) = true
  · rw [if_pos e3]
    obtain ⟨u, hu, e⟩ := acc_nn (T := T) (n := n) (n - skF (spcB T n) n a) (skF (spcB T n) n a) 0 (by omega)
    show 0 ≤ accF T n (n - skF (spcB T n) n a) (skF (spcB T n) n a) (nI 0)
    rw [e]
    exact nI_pos' (by omega)
  · rw [if_neg e3] at h2
    exfalso
    revert h2
    show (if seeI T n (skF (spcB T n) n a) = nI 59 then nI 3 else nI 4) = nI 2 → False
    split <;> decide +kernel
end NnT
section Fst
variable {X : Cx} {M : MD} {R : Room} {Z : ZT} {k m pc idx : Nat} {L : List (Option Value)} {st : List Value} {hz : AH} {tp n : Nat} {T w : Nat → Int32} {sk : Nat → Nat} {S : Nat → Nat → Int32} {N : Nat → Nat} {aK aV : Nat → Nat} {ts : TS}
abbrev QLn (hz : AH) (tp : Nat) (T : Nat → Int32) (n : Nat) (sk : Nat → Nat) (F : RdE × (Nat → Int32)) (r : Option Value) (x' : SPv) : Prop := r = none ∧ ∃ ts' sk' S' N', F.1 = .inr ts' ∧ TsW T n ts' ∧ x' = (hz, tp, T, sk', S', N') ∧ (sk' 120 = sk 120 ∧ sk' 0 = sk 0) ∧ SR S' N' F.2 ∧ TokG (S' 120) n ts'
theorem bX5_first_0 : Blk SP mX5_first 0 1 [oAL 0] := blk_c (s_aload_n dX5_first_0 rfl) <| blk_nil
theorem bX5_first_6 : Blk SP mX5_first 6 11 [oAL 0, pRs, oAL 0] := blk_c (s_aload_n dX5_first_6 rfl) <| blk_c (p_Rs q632 dX5_first_7) <| blk_c (s_aload_n dX5_first_10 rfl) <| blk_nil
theorem bX5_first_13 : Blk SP mX5_first 13 16 [oC (nI 2), oC (nI 12)] := blk_c (s_iconst dX5_first_13 (by decide +kernel)) <| blk_c (s_bipush dX5_first_14 (by decide +kernel)) <| blk_nil
theorem bX5_first_19 : Blk SP mX5_first 19 27 [pSP 4, oAL 0, pRs, oAL 0] := blk_c (p_SP (f := 4) (by decide) nq439 dX5_first_19) <| blk_c (s_aload_n dX5_first_22 rfl) <| blk_c (p_Rs q632 dX5_first_23) <| blk_c (s_aload_n dX5_first_26 rfl) <| blk_nil
theorem bX5_first_29 : Blk SP mX5_first 29 32 [oC (nI 2), oC (nI 12)] := blk_c (s_iconst dX5_first_29 (by decide +kernel)) <| blk_c (s_bipush dX5_first_30 (by decide +kernel)) <| blk_nil
theorem bX5_first_35 : Blk SP mX5_first 35 43 [pSP 5, oAL 0, pRs, oAL 0] := blk_c (p_SP (f := 5) (by decide) nq442 dX5_first_35) <| blk_c (s_aload_n dX5_first_38 rfl) <| blk_c (p_Rs q632 dX5_first_39) <| blk_c (s_aload_n dX5_first_42 rfl) <| blk_nil
theorem bX5_first_45 : Blk SP mX5_first 45 48 [oC (nI 5), oC (nI 40)] := blk_c (s_iconst dX5_first_45 (by decide +kernel)) <| blk_c (s_bipush dX5_first_46 (by decide +kernel)) <| blk_nil
theorem bX5_first_51 : Blk SP mX5_first 51 54 [pSP 6] := blk_c (p_SP (f := 6) (by decide) nq447 dX5_first_51) <| blk_nil
theorem ok_first (hC : RdC X aK aV T) (hr : SR S N w) (hg : TokG (S 120) n ts) (hts : TsW T n ts) (hn : n ≤ 2400) : SPX X mX5_first 7 56 [.ref (sk 120)] (hz, tp, T, sk, S, N) (QLn hz tp T n sk (firstE T n (.inr ts) w)) (fun k p => (firstE T n (.inr ts) w).1 = .inl (k, p)) := by
  have hX := hC.1
  have hK := hC.2.2.2.1
  refine SPX_start (L := [some (.ref (sk 120))]) 0 rfl ?_
  refine bX5_first_0.go rfl trivial ?_
  refine js_ldcS (tx := "square") (i := 0) hK (by decide +kernel) dX5_first_1 ?_
  refine sp_asks hC (by decide) hg hts hn q661 dX5_first_3 (by decide) rfl ⟨by show 0 + 1 ≤ 7; omega, by show 0 + 8 ≤ 56; omega⟩ (fun t1 g1 e1 w1 hg1 => ?_) (fun a h' q => sp_out hX rfl (q.mono (fun k p z => by show (frs3 T n (.inr ts)).2 = _; rw [frs3, frs2, frs1, z]; rfl)))
  refine bX5_first_6.go rfl (by repeat' first | exact trivial | rfl | assumption | omega | apply And.intro) ?_
  refine js_ldcS (tx := "wide") (i := 1) hK (by decide +kernel) dX5_first_11 ?_
  refine bX5_first_13.go rfl trivial ?_
  refine sp_told (i := 1) hC (by decide) (by rw [va_up_self]; exact hg1) w1 hn q757 dX5_first_16 (by decide) rfl ⟨by show 0 + 1 + 2 ≤ 7; omega, by show 0 + 8 + 16 ≤ 56; omega⟩ (fun v2 t2 g2 e2 w2 hg2 => ?_) (fun a h' q => sp_out hX rfl (q.mono (fun k p z => by show (frs3 T n (.inr ts)).2 = _; rw [frs3, frs2, frs1, e1, z]; rfl)))
  have f1 : frs1 T n (.inr ts) = (v2, .inr t2) := by rw [frs1, e1, e2]
  refine bX5_first_19.go rfl (by repeat' first | exact trivial | rfl | assumption | omega | apply And.intro) ?_
  refine js_ldcS (tx := "long") (i := 2) hK (by decide +kernel) dX5_first_27 ?_
  refine bX5_first_29.go rfl trivial ?_
  refine sp_told (i := 2) hC (by decide) (by rw [upA_ne (by decide), va_up_self]; exact hg2) w2 hn q757 dX5_first_32 (by decide) rfl ⟨by show 0 + 1 + 2 + 2 ≤ 7; omega, by show 0 + 8 + 16 + 16 ≤ 56; omega⟩ (fun v3 t3 g3 e3 w3 hg3 => ?_) (fun a h' q => sp_out hX rfl (q.mono (fun k p z => by show (frs3 T n (.inr ts)).2 = _; rw [frs3, frs2, f1, z]; rfl)))
  have f2 : frs2 T n (.inr ts) = (v3, .inr t3) := by rw [frs2, f1, e3]
  refine bX5_first_35.go rfl (by repeat' first | exact trivial | rfl | assumption | omega | apply And.intro) ?_
  refine js_ldcS (tx := "minutes") (i := 3) hK (by decide +kernel) dX5_first_43 ?_
  refine bX5_first_45.go rfl trivial ?_
  refine sp_told (i := 3) hC (by decide) (by rw [upA_ne (by decide), va_up_self]; exact hg3) w3 hn q757 dX5_first_48 (by decide) rfl ⟨by show 0 + 1 + 2 + 2 + 2 ≤ 7; omega, by show 0 + 8 + 16 + 16 + 16 ≤ 56; omega⟩ (fun v4 t4 g4 e4 w4 hg4 => ?_) (fun a h' q => sp_out hX rfl (q.mono (fun k p z => by show (frs3 T n (.inr ts)).2 = _; rw [frs3, f2, z])))
  have f3 : frs3 T n (.inr ts) = (v4, .inr t4) := by rw [frs3, f2, e4]
  refine bX5_first_51.go rfl (by repeat' first | exact trivial | rfl | assumption | omega | apply And.intro) ?_
  refine sp_vret dX5_first_54 rfl ⟨rfl, t4, sk, _, N, by show (frs3 T n (.inr ts)).2 = _; rw [f3], w4, rfl, ⟨rfl, rfl⟩, ?_, by rw [upA_ne (by decide), va_up_self]; exact hg4⟩ (by show 0 + 1 + 2 + 2 + 2 ≤ 7; omega) (by show 0 + 8 + 16 + 16 + 16 ≤ 56; omega)
  show SR _ N (va_up (va_up (va_up w 4 (frs1 T n (.inr ts)).1) 5 (frs2 T n (.inr ts)).1) 6 (frs3 T n (.inr ts)).1)
  rw [f1, f2, f3]
  refine hr.cg (fun q _ q4 q5 q6 => by rw [va_up_ne _ _ q6, va_up_ne _ _ q5, va_up_ne _ _ q4]) (fun i i0 i1 => by rw [upA_ne i0, va_up_ne _ _ i1, upA_ne i0, va_up_ne _ _ i1, upA_ne i0, va_up_ne _ _ i1, va_up_ne _ _ i1]) ?_ ?_ ?_ ?_ ?_
  · simp [upA, va_up]
  · simp [upA, va_up]
  · simp [upA, va_up]
  · simp [upA, va_up]
  · have := hr.2.2.1.2.2.2.2
    simp [upA, va_up, this]
end Fst
