set_option maxRecDepth 100000
/-! ===== UnseenClock$Reader: its picture; isAt ===== -/
abbrev RPv : Type := AH × (Nat × Nat × Nat) × (Nat → Int32) × (Nat → Int32)
abbrev rdF (tp sq : Nat) (f : Nat → Int32) : List Value := [.ref tp, .int (f 1), .ref sq, .int (f 3), .int (f 4), .int (f 5), .int (f 6)]
/-- the reader's cell over any heap in which its text lies -/
def RP (X : Cx) (x : RPv) (h : AH) : Prop := h = va_up x.1 x.2.1.1 (some (.inr (5, rdF x.2.1.2.1 x.2.1.2.2 x.2.2.2))) ∧ x.2.1.2.1 ≠ x.2.1.1 ∧ x.1 x.2.1.2.1 = some (.inl (X.dA 2, 2400, .inl x.2.2.1)) ∧ WkX X
section RdO
variable {M : MD} {pc idx : Nat}
def rI (f : Nat) : OPS RPv := .inr (fun s => match s with
  | (L, .ref a :: st, (h0, (ra, tp, sq), T, g)) => some (a = ra ∧ True, L, .int (g f) :: st, (h0, (ra, tp, sq), T, g))
  | _ => none)
theorem rd_at {f : Nat} (hf : (f == 1 || f == 3 || f == 4 || f == 5 || f == 6) = true) (tp sq : Nat) (g : Nat → Int32) : f < 7 ∧ (rdF tp sq g)[f]? = some (.int (g f)) := by
  simp only [Bool.or_eq_true, beq_iff_eq] at hf
  rcases hf with (((rfl | rfl) | rfl) | rfl) | rfl <;> exact ⟨by decide, rfl⟩
theorem rd_set {f : Nat} (hf : (f == 3 || f == 4 || f == 5 || f == 6) = true) (tp sq : Nat) (g : Nat → Int32) (v : Int32) : f < 7 ∧ (TX5 f).2.2.2 = false ∧ tyX5 f = .int ∧ (rdF tp sq g).set f (.int v) = rdF tp sq (va_up g f v) := by
  simp only [Bool.or_eq_true, beq_iff_eq] at hf
  rcases hf with ((rfl | rfl) | rfl) | rfl <;> exact ⟨by decide, rfl, rfl, rfl⟩
theorem r_I {f : Nat} (hf1 : (f == 1 || f == 3 || f == 4 || f == 5 || f == 6) = true) (hl : Cond.fieldLink M.y.cls idx (TX5 f).1 (TX5 f).2.1 (TX5 f).2.2.1 ∈ lw_all) (hd : decode M.cc pc = .ok (.getfield idx, 3)) : JStp RP M pc (pc + 3) (rI f) := by
  intro X R Z k n L st x cnd L' st' x' hf hc kk h hp
  dsimp only at hf
  split at hf
  · rename_i heq
    cases heq
    simp only [Option.some.injEq, Prod.mk.injEq] at hf
    obtain ⟨rfl, rfl, rfl, rfl⟩ := hf
    obtain ⟨rfl, -⟩ := hc
    obtain ⟨rfl, h2, h3, h4⟩ := id hp
    exact J.getf (f := f) clsX5 rfl (va_up_self _ _ _) (rd_at hf1 0 0 (fun _ => 0)).1 (rd_at hf1 _ _ _).2 hl hd (kk _ hp)
  · cases hf
def rTx : OPS RPv := .inr (fun s => match s with
  | (L, .ref a :: st, (h0, (ra, tp, sq), T, g)) => some (a = ra ∧ True, L, .ref tp :: st, (h0, (ra, tp, sq), T, g))
  | _ => none)
theorem r_Tx (hl : Cond.fieldLink M.y.cls idx (TX5 0).1 (TX5 0).2.1 (TX5 0).2.2.1 ∈ lw_all) (hd : decode M.cc pc = .ok (.getfield idx, 3)) : JStp RP M pc (pc + 3) rTx := by
  intro X R Z k n L st x cnd L' st' x' hf hc kk h hp
  dsimp only at hf
  split at hf
  · rename_i heq
    cases heq
    simp only [Option.some.injEq, Prod.mk.injEq] at hf
    obtain ⟨rfl, rfl, rfl, rfl⟩ := hf
    obtain ⟨rfl, -⟩ := hc
    obtain ⟨rfl, h2, h3, h4⟩ := id hp
    exact J.getf (f := 0) clsX5 rfl (va_up_self _ _ _) (by decide) rfl hl hd (kk _ hp)
  · cases hf
def rSq : OPS RPv := .inr (fun s => match s with
  | (L, .ref a :: st, (h0, (ra, tp, sq), T, g)) => some (a = ra ∧ True, L, .ref sq :: st, (h0, (ra, tp, sq), T, g))
  | _ => none)
theorem r_Sq (hl : Cond.fieldLink M.y.cls idx (TX5 2).1 (TX5 2).2.1 (TX5 2).2.2.1 ∈ lw_all) (hd : decode M.cc pc = .ok (.getfield idx, 3)) : JStp RP M pc (pc + 3) rSq := by
  intro X R Z k n L st x cnd L' st' x' hf hc kk h hp
  dsimp only at hf
  split at hf
  · rename_i heq
    cases heq
    simp only [Option.some.injEq, Prod.mk.injEq] at hf
    obtain ⟨rfl, rfl, rfl, rfl⟩ := hf
    obtain ⟨rfl, -⟩ := hc
    obtain ⟨rfl, h2, h3, h4⟩ := id hp
    exact J.getf (f := 2) clsX5 rfl (va_up_self _ _ _) (by decide) rfl hl hd (kk _ hp)
  · cases hf
def rP (f : Nat) : OPS RPv := .inr (fun s => match s with
  | (L, .int v :: .ref a :: st, (h0, (ra, tp, sq), T, g)) => some (a = ra ∧ True, L, st, (h0, (ra, tp, sq), T, va_up g f v))
  | _ => none)
theorem r_P {f : Nat} (hf1 : (f == 3 || f == 4 || f == 5 || f == 6) = true) (hl : Cond.fieldLink M.y.cls idx (TX5 f).1 (TX5 f).2.1 (TX5 f).2.2.1 ∈ lw_all) (hd : decode M.cc pc = .ok (.putfield idx, 3)) : JStp RP M pc (pc + 3) (rP f) := by
  intro X R Z k n L st x cnd L' st' x' hf hc kk h hp
  dsimp only at hf
  split at hf
  · rename_i v a st1 h0 ra tp sq T g heq
    cases heq
    simp only [Option.some.injEq, Prod.mk.injEq] at hf
    obtain ⟨rfl, rfl, rfl, rfl⟩ := hf
    obtain ⟨rfl, -⟩ := hc
    obtain ⟨rfl, h2, h3, h4⟩ := id hp
    obtain ⟨q1, q2, q3, q4⟩ := rd_set hf1 tp sq g v
    refine J.putf (f := f) clsX5 rfl (va_up_self _ _ _) q1 q1 q2 (by rw [q3]; rfl) (by rw [q3]; rfl) hl hd ?_
    refine kk _ ⟨?_, h2, h3, h4⟩
    rw [up_up, q4]
  · cases hf
def rB : OPS RPv := .inr (fun s => match s with
  | (L, .int i :: .ref a :: st, (h0, (ra, tp, sq), T, g)) => some (a = tp ∧ vp_in i 2400, L, .int (T i.toNatClampNeg) :: st, (h0, (ra, tp, sq), T, g))
  | _ => none)
theorem r_B (hd : decode M.cc pc = .ok (.baload, 1)) : JStp RP M pc (pc + 1) rB := by
  intro X R Z k n L st x cnd L' st' x' hf hc kk h hp
  dsimp only at hf
  split at hf
  · rename_i heq
    cases heq
    simp only [Option.some.injEq, Prod.mk.injEq] at hf
    obtain ⟨rfl, rfl, rfl, rfl⟩ := hf
    obtain ⟨rfl, hi⟩ := hc
    obtain ⟨rfl, h2, h3, h4⟩ := id hp
    exact J.bald ((va_up_ne _ _ h2).trans h3) hi hd (kk _ hp)
  · cases hf
end RdO
/-! contracts -/
def RPC (X : Cx) (M : MD) (av : List Value) (x : RPv) (Q : Option Value → RPv → Prop) : Prop := ∀ h, RP X x h → Cg X M 0 0 av h (fun oc h' => ∃ r x', oc = .returned r ∧ Q r x' ∧ RP X x' h')
abbrev ZRp (X : Cx) (mc ms : Nat) (Q : Option Value → RPv → Prop) : ZT := ZQ X mc ms (fun oc h' => ∃ r x', oc = .returned r ∧ Q r x' ∧ RP X x' h')
section RdC
variable {X : Cx} {M M' : MD} {R : Room} {Z : ZT} {mc ms k n pc idx : Nat} {L : List (Option Value)} {st As : List Value} {x : RPv} {Q : Option Value → RPv → Prop} {av : List Value}
theorem RP_start (pad : Nat) (hL : L = entL av ++ List.replicate pad none) (k : JS RP X M (rmOf M.lv 0 0) (ZRp X 0 0 Q) 0 0 0 L [] x) (hy : plainFor M.y = true := by first | exact plainFor_of_name (by decide) | decide +kernel) (hE : M.eh = noEH := by rfl) (hn : (lg_sl av).length ≤ M.nL := by exact Nat.le_of_ble_eq_true rfl) : RPC X M av x Q := fun h hp => Cg.of hy hE pad hL hn (k h hp)
theorem rp_iret {v : Int32} (hd : decode M.cc pc = .ok (.ireturn, 1)) (hr : M.ret = some .int) (hq : Q (some (.int v)) x) (hk : k ≤ mc := by omega) (hn : n ≤ ms := by omega) : JS RP X M R (ZRp X mc ms Q) k n pc L [.int v] x := fun h hp => J.iret hd hr hk hn ⟨_, x, rfl, hq, hp⟩
theorem rp_zret {v : Int32} (hd : decode M.cc pc = .ok (.ireturn, 1)) (hr : M.ret = some .boolean) (hz : narrow .boolean (.int v) = .int v) (hq : Q (some (.int v)) x) (hk : k ≤ mc := by omega) (hn : n ≤ ms := by omega) : JS RP X M R (ZRp X mc ms Q) k n pc L [.int v] x := fun h hp => J.zret hd hr hz hk hn ⟨_, x, rfl, hq, hp⟩
theorem rp_vret (hd : decode M.cc pc = .ok (.return_, 1)) (hr : M.ret = none) (hq : Q none x) (hk : k ≤ mc := by omega) (hn : n ≤ ms := by omega) : JS RP X M R (ZRp X mc ms Q) k n pc L [] x := fun h hp => J.vret hd hr hk hn ⟨_, x, rfl, hq, hp⟩
/-- the call of a method of the reader that returns -/
theorem rpc {nA : Nat} (hM : RPC X M' (.ref x.2.1.1 :: As) x Q) (hG : GoodIn lw_all (wsV M.y.cls idx RX5 M'.y (ws_ M'.y M'.cc M'.nL M'.ret))) (hd : decode M.cc pc = .ok (.invokevirtual idx, 3)) {st0 : List Value} (h0 : st0 = As.reverse ++ .ref x.2.1.1 :: st) (hy : hyS M' nA)
    (kk : ∀ r x', Q r x' → JS RP X M R Z k n (pc + 3) L (r.toList ++ st) x') (hyc : M'.y.cls = RX5 := by rfl) (hA : As.length = nA := by rfl) (hR : M'.lv + 1 ≤ M.lv ∧ M'.nL ≤ 421 := by decide) (hst : wt8 st = true := by rfl) : JS RP X M R Z k n pc L st0 x := by
  subst h0
  subst hA
  intro h hp p e s m args below meth c B rk
  refine J.callV (ci := 5) (q := (RX5, TX5, 7)) (mc := 0) (ms := 0) (hM h hp) (fun o h' q => by obtain ⟨r, x', e1, -⟩ := q; exact ⟨r, e1⟩) (by rw [hp.1]; exact va_up_self _ _ _) rfl hd hG ⟨hyc, hy.1, hy.2.1, hy.2.2⟩ hR ⟨rk.2.2.1, rk.2.2.2⟩ (Nat.le_of_ble_eq_true hst) (fun v h' q => ?_) p e s m args below meth c B rk
  obtain ⟨r, x', e1, q1, q2⟩ := q
  cases e1
  exact kk _ x' q1 h' q2
end RdC
/-! what is at the place -/
def byT (T : Nat → Int32) : Prop := ∀ j, fits .byte (.int (T j)) = true
def atB (T : Nat → Int32) (n a : Nat) (lo hi : Int64) : Bool := decide (a < n) && inL (T a) lo hi
theorem byt_of {T : Nat → Int32} (hT : byT T) (a : Nat) : ∃ j, j < 256 ∧ T a = vb_c j := by
  have hx : (decide ((-128 : Int32) ≤ T a) && decide (T a ≤ 127)) = true := hT a
  rw [Bool.and_eq_true, decide_eq_true_eq, decide_eq_true_eq] at hx
  obtain ⟨j, hj, -, e⟩ := bx_small (Int32.not_lt.mpr hx.1) (Int32.not_lt.mpr hx.2)
  exact ⟨j, hj, e⟩
theorem by_l : ∀ j, j < 256 → inL (vb_c j) 97 122 = inL (vb_c j &&& nI 255) 97 122 := by decide +kernel
theorem by_d : ∀ j, j < 256 → inL (vb_c j) 48 57 = inL (vb_c j &&& nI 255) 48 57 ∧ (inL (vb_c j) 48 57 = true → vb_c j &&& nI 255 = vb_c j) := by decide +kernel
theorem by_s : ∀ j, j < 256 → inL (vb_c j) 32 32 = decide (vb_c j &&& nI 255 = nI 32) ∧ inL (vb_c j) 10 10 = decide (vb_c j &&& nI 255 = nI 10) ∧ inL (vb_c j) 59 59 = decide (vb_c j &&& nI 255 = nI 59) ∧ ¬ vb_c j &&& nI 255 = -1 := by decide +kernel
section AtB
variable {T : Nat → Int32} {n a : Nat}
theorem see_lt (h : a < n) : seeI T n a = T a &&& nI 255 := if_pos h
theorem at_l (hT : byT T) : atB T n a 97 122 = letB T n a := by
  unfold atB letB
  by_cases h : a < n
  · obtain ⟨j, hj, e⟩ := byt_of hT a
    rw [decide_eq_true h, Bool.true_and, see_lt h, e]
    exact by_l j hj
  · rw [decide_eq_false h, Bool.false_and, seeI_end h]
    decide +kernel
theorem at_d (hT : byT T) : atB T n a 48 57 = digB T n a := by
  unfold atB digB
  by_cases h : a < n
  · obtain ⟨j, hj, e⟩ := byt_of hT a
    rw [decide_eq_true h, Bool.true_and, see_lt h, e]
    exact (by_d j hj).1
  · rw [decide_eq_false h, Bool.false_and, seeI_end h]
    decide +kernel
theorem dig_see (hT : byT T) (hd : digB T n a = true) : seeI T n a = T a := by
  have h := digB_lt hd
  rw [← at_d hT] at hd
  obtain ⟨j, hj, e⟩ := byt_of hT a
  rw [atB, decide_eq_true h, Bool.true_and, e] at hd
  rw [see_lt h, e]
  exact (by_d j hj).2 hd
theorem at_s (hT : byT T) : (atB T n a 32 32 || atB T n a 10 10) = spcB T n a := by
  unfold atB spcB
  by_cases h : a < n
  · obtain ⟨j, hj, e⟩ := byt_of hT a
    rw [decide_eq_true h, Bool.true_and, Bool.true_and, see_lt h, e, (by_s j hj).1, (by_s j hj).2.1]
  · rw [decide_eq_false h, Bool.false_and, Bool.false_and, seeI_end h]
    decide +kernel
theorem at_c (hT : byT T) : atB T n a 59 59 = decide (seeI T n a = nI 59) := by
  unfold atB
  by_cases h : a < n
  · obtain ⟨j, hj, e⟩ := byt_of hT a
    rw [decide_eq_true h, Bool.true_and, see_lt h, e, (by_s j hj).2.2.1]
  · rw [decide_eq_false h, Bool.false_and, seeI_end h]
    decide +kernel
theorem see_m1 (hT : byT T) : seeI T n a = -1 ↔ ¬ a < n := by
  constructor
  · intro h hl
    obtain ⟨j, hj, e⟩ := byt_of hT a
    rw [see_lt hl, e] at h
    exact (by_s j hj).2.2.2 h
  · exact seeI_end
end AtB
section IsAt
variable {X : Cx} {h0 : AH} {ra tp sq : Nat} {T g : Nat → Int32} {n a : Nat}
theorem bX5_isAt_0 : Blk RP mX5_isAt 0 8 [oAL 0, rI 3, oAL 0, rI 1] := blk_c (s_aload_n dX5_isAt_0 rfl) <| blk_c (r_I (f := 3) (by decide) q633 dX5_isAt_1) <| blk_c (s_aload_n dX5_isAt_4 rfl) <| blk_c (r_I (f := 1) (by decide) q631 dX5_isAt_5) <| blk_nil
theorem bX5_isAt_11 : Blk RP mX5_isAt 11 28 [oAL 0, rTx, oAL 0, rI 3, rB, oI2L, oIL 1, oI2L, oIL 2, oI2L, oS_JJJ pT3 fIn] := blk_c (s_aload_n dX5_isAt_11 rfl) <| blk_c (r_Tx q630 dX5_isAt_12) <| blk_c (s_aload_n dX5_isAt_15 rfl) <| blk_c (r_I (f := 3) (by decide) q633 dX5_isAt_16) <| blk_c (r_B dX5_isAt_19) <| blk_c (s_i2l dX5_isAt_20) <| blk_c (s_iload_n dX5_isAt_21 rfl) <| blk_c (s_i2l dX5_isAt_22) <| blk_c (s_iload_n dX5_isAt_23 rfl) <| blk_c (s_i2l dX5_isAt_24) <| blk_c (s_S_JJJ ok_sX0_in (fun _ _ _ h => h.2.2.2) (Or.inr ⟨lw_meth q181, q180, q131, _, nq625⟩) hy_X0_in (by decide) dX5_isAt_25) <| blk_nil
theorem bX5_isAt_31 : Blk RP mX5_isAt 31 36 [oC (nI 1), .inl (fun s => some s)] := blk_c (s_iconst dX5_isAt_31 (by decide +kernel)) <| blk_c (s_goto (tgt := 36) dX5_isAt_32 (by decide)) <| blk_nil
theorem bX5_isAt_35 : Blk RP mX5_isAt 35 36 [oC (nI 0)] := blk_c (s_iconst dX5_isAt_35 (by decide +kernel)) <| blk_nil
theorem ok_isAt {lo hi : Int32} (hg : g 1 = nI n) (ha : g 3 = nI a) (hn : n ≤ 2400) (han : a ≤ n) : RPC X mX5_isAt [.ref ra, .int lo, .int hi] (h0, (ra, tp, sq), T, g) (fun r x' => r = some (.int (b2 (atB T n a lo.toInt64 hi.toInt64))) ∧ x' = (h0, (ra, tp, sq), T, g)) := by
  refine RP_start (L := [some (.ref ra), some (.int lo), some (.int hi)]) 0 rfl ?_
  refine bX5_isAt_0.go rfl (by repeat' first | exact trivial | rfl | assumption | omega | apply And.intro) ?_
  rw [hg, ha]
  refine j_icmp_ge (tgt := 35) dX5_isAt_8 (by decide) (fun h8 => ?_) (fun h8 => ?_)
  · rw [nI_leI (by omega) (by omega)] at h8
    refine bX5_isAt_35.go rfl trivial ?_
    exact rp_zret dX5_isAt_36 rfl rfl ⟨by rw [atB, decide_eq_false (by omega)]; rfl, rfl⟩
  · rw [nI_leI (by omega) (by omega)] at h8
    refine bX5_isAt_11.go rfl ⟨⟨rfl, trivial⟩, ⟨rfl, trivial⟩, ⟨rfl, by rw [ha]; exact vp_in_nI (by omega) (by decide)⟩, trivial, trivial⟩ ?_
    rw [ha, nI_clamp (by omega), fIn_L]
    refine j_if_eq (tgt := 35) dX5_isAt_28 (by decide) (fun h28 => ?_) (fun h28 => ?_)
    · rw [b2_0] at h28
      refine bX5_isAt_35.go rfl trivial ?_
      exact rp_zret dX5_isAt_36 rfl rfl ⟨by rw [atB, h28, Bool.and_false]; rfl, rfl⟩
    · rw [b2_n0] at h28
      refine bX5_isAt_31.go rfl trivial ?_
      exact rp_zret dX5_isAt_36 rfl rfl ⟨by rw [atB, h28, decide_eq_true (by omega)]; rfl, rfl⟩
end IsAt
