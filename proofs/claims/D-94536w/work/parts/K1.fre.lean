set_option maxRecDepth 100000
/-! ===== the square that is filled, its row; UnseenClock$Reader: free, way ===== -/
section RpyC
variable {X : Cx} {M M' : MD} {R : Room} {Z : ZT} {mc ms k n pc idx : Nat} {L : List (Option Value)} {st As : List Value} {x : RPv} {h0 h : AH} {ra : Nat} {Q Q' : Option Value → RPv → Prop} {QF : Int32 → Nat → Prop} {av : List Value}
abbrev ZRY (X : Cx) (mc ms : Nat) (h0 : AH) (ra : Nat) (Q : Option Value → RPv → Prop) (QF : Int32 → Nat → Prop) : ZT := ZX X mc ms (fun r h' => ∃ x', Q r x' ∧ RP X x' h') (RQT h0 ra QF)
theorem RPY_start (pad : Nat) (hL : L = entL av ++ List.replicate pad none) (kk : JS RP X M (rmOf M.lv mc ms) (ZRY X mc ms x.1 x.2.1.1 Q QF) 0 0 0 L [] x) (hy : plainFor M.y = true := by first | exact plainFor_of_name (by decide) | decide +kernel) (hE : M.eh = noEH := by rfl) (hn : (lg_sl av).length ≤ M.nL := by exact Nat.le_of_ble_eq_true rfl) : RPY X M mc ms av x Q QF :=
  fun h hp => CgX.of0 hy hE pad hL hn ⟨Nat.le_refl _, Nat.le_refl _⟩ (kk h hp)
theorem ry_iret {v : Int32} (hd : decode M.cc pc = .ok (.ireturn, 1)) (hr : M.ret = some .int) (hq : Q (some (.int v)) x) (hk : k ≤ mc := by omega) (hn : n ≤ ms := by omega) : JS RP X M R (ZRY X mc ms h0 ra Q QF) k n pc L [.int v] x := fun h hp => J.toX (J.iret hd hr hk hn ⟨_, rfl, x, hq, hp⟩)
theorem ry_aret {a : Nat} {rt : FieldType} (hd : decode M.cc pc = .ok (.areturn, 1)) (hr : M.ret = some rt) (hrt : (∃ n, rt = .object n) ∨ ∃ t, rt = .array t) (hq : Q (some (.ref a)) x) (hk : k ≤ mc := by omega) (hn : n ≤ ms := by omega) : JS RP X M R (ZRY X mc ms h0 ra Q QF) k n pc L [.ref a] x := fun h hp => J.toX (J.aret hd hr hrt (Or.inr ⟨_, rfl⟩) hk hn ⟨_, rfl, x, hq, hp⟩)
theorem ry_out {C : String} {a : Addr} (hX : ThX X) (hE : M.eh = noEH) (hq : RQT h0 ra QF C a h) (hk : k ≤ mc := by omega) (hn : n ≤ ms := by omega) : JT X M R (ZRY X mc ms h0 ra Q QF) C a pc L h k n := JT.out (hh := []) hX (fun c hc => ehT_nil (by rw [hE] at hc; exact hc)) rfl hk hn hq
theorem rpy {nA mc' ms' : Nat} (hM : RPY X M' mc' ms' (.ref x.2.1.1 :: As) x Q QF) (hlink : Cond.methodLink M.y.cls idx M'.y ∈ lw_all) (hinst : Cond.instanceMethod M'.y ∈ lw_all) (hsel : Cond.selects RX5 M'.y M'.y ∈ lw_all) (hcode : Cond.code M'.y M'.cc M'.nL M'.ret ∈ lw_all) (hd : decode M.cc pc = .ok (.invokevirtual idx, 3)) {st0 : List Value} (h0 : st0 = As.reverse ++ .ref x.2.1.1 :: st) (hy : hyS M' nA) (hf : k + mc' ≤ R.cells ∧ n + ms' ≤ R.slots)
    (kk : ∀ r x', Q r x' → JS RP X M R Z (k + mc') (n + ms') (pc + 3) L (r.toList ++ st) x') (kt : ∀ a h', RQT x.1 x.2.1.1 QF RX6 a h' → JT X M R Z RX6 a pc L h' (k + mc') (n + ms')) (hyc : M'.y.cls = RX5 := by rfl) (hA : As.length = nA := by rfl) (hR : M'.lv + 1 ≤ M.lv ∧ M'.nL ≤ 421 := by decide) (hst : wt8 st = true := by rfl) : JS RP X M R Z k n pc L st0 x := by
  subst h0
  subst hA
  intro h hp p e s m args below meth c B rk
  refine J.callX (ci := 5) (q := (RX5, TX5, 7)) (hM h hp) hcode (Or.inl rfl) (by rw [hp.1]; exact va_up_self _ _ _) rfl hd hlink hinst hsel (by rw [hyc]; exact q139) ⟨hy.1, hy.2.1, hy.2.2⟩ ⟨?_, ?_⟩ hf (Nat.le_of_ble_eq_true hst) (fun v h' q => ?_) (fun C a h' q => ?_) p e s m args below meth c B rk
  · show M'.lv + 1 ≤ R.frames
    exact Nat.le_trans hR.1 rk.1
  · show 8 + (M'.nL + 11) + 440 * M'.lv ≤ R.locals
    have := rk.2.1
    have := hR.1
    have := hR.2
    omega
  · obtain ⟨x', q1, q2⟩ := q
    exact kk v x' q1 h' q2
  · obtain ⟨rfl, -⟩ := id q
    exact kt a h' q
end RpyC
/-! the row of what is filled -/
def SR (S : Nat → Nat → Int32) (N : Nat → Nat) (w : Nat → Int32) : Prop :=
  (N 0 = nC w ∧ w 1 = nI (N 0) ∧ N 0 ≤ 4) ∧ (N 1 = nP w ∧ w 2 = nI (N 1) ∧ N 1 ≤ 8) ∧ (S 0 4 = w 4 ∧ S 0 5 = w 5 ∧ S 0 6 = w 6 ∧ S 0 7 = w 0 ∧ S 0 8 = w 3) ∧
  (∀ a b, a < 20 → b < 20 → S 3 (20 * b + a) = b2 (anyN (wallAt w (nI a) (nI b)) (nW w))) ∧ (∀ c, c < N 0 → ∀ j, j < 6 → S (20 + c) j = w (32 + 6 * c + j)) ∧
  ∀ p, p < N 1 → (∀ j, j < 3 → S (30 + p) j = perI w p j) ∧ (S (30 + p) 6 = perI w p 3 ∧ nM w p ≤ 6 ∧ perI w p 3 = nI (nM w p)) ∧ (N (2 + p) = nL w p ∧ nL w p ≤ 4 ∧ perI w p 4 = nI (nL w p)) ∧ (∀ k, k < nM w p → S (40 + p) k = wayI (perI w p (5 + 2 * k)) ∧ S (50 + p) k = perI w p (5 + 2 * k + 1)) ∧ ∀ i, i < nL w p → hbL (N (80 + 4 * p + i)) (S (80 + 4 * p + i)) = hbC w p i
section SpQ
variable {X : Cx} {hz h : AH} {tp : Nat} {T : Nat → Int32} {sk : Nat → Nat} {S : Nat → Nat → Int32} {N : Nat → Nat} {w : Nat → Int32} {i : Nat} {a : Nat → Int32}
theorem spc_d {c : Nat} (hc : c < 10) : spC X tp sk N (20 + c) a = .inr (7, [.int (a 0), .int (a 1), .int (a 2), .int (a 3), .int (a 4), .int (a 5)]) := by
  unfold spC; rw [if_neg (by omega), if_neg (by omega), if_pos (by omega)]
theorem spc_p {p : Nat} (hp : p < 10) : spC X tp sk N (30 + p) a = .inr (8, [.int (a 0), .int (a 1), .int (a 2), .ref (sk (40 + p)), .ref (sk (50 + p)), .ref (sk (60 + p)), .int (a 6)]) := by
  unfold spC; rw [if_neg (by omega), if_neg (by omega), if_neg (by omega), if_pos (by omega), show 30 + p + 10 = 40 + p by omega, show 30 + p + 20 = 50 + p by omega, show 30 + p + 30 = 60 + p by omega]
theorem spc_a (h1 : 40 ≤ i) (h2 : i < 60) : spC X tp sk N i a = .inl (X.dA 0, 6, .inl a) := by
  unfold spC; rw [if_neg (by omega), if_neg (by omega), if_neg (by omega), if_neg (by omega), if_pos (by omega)]
theorem spc_l {p : Nat} (hp : p < 10) : spC X tp sk N (60 + p) a = .inr (9, [.int (a 0), .ref (sk (70 + p)), .int (nI (N (2 + p)))]) := by
  unfold spC; rw [if_neg (by omega), if_neg (by omega), if_neg (by omega), if_neg (by omega), if_neg (by omega), if_pos (by omega), show 60 + p + 10 = 70 + p by omega, show 60 + p - 58 = 2 + p by omega]
theorem spc_e {p : Nat} (hp : p < 10) : spC X tp sk N (70 + p) a = rfA X 5 4 (fun j => if j < N (2 + p) then some (sk (80 + 4 * p + j)) else none) := by
  unfold spC; rw [if_neg (by omega), if_neg (by omega), if_neg (by omega), if_neg (by omega), if_neg (by omega), if_neg (by omega), if_pos (by omega), show 70 + p - 68 = 2 + p by omega, show 70 + p - 70 = p by omega]
theorem spc_h (h1 : 80 ≤ i) (h2 : i < 120) : spC X tp sk N i a = hbL (N i) a := by
  unfold spC; rw [if_neg (by omega), if_neg (by omega), if_neg (by omega), if_neg (by omega), if_neg (by omega), if_neg (by omega), if_neg (by omega), if_pos (by omega)]
theorem spc_c (h1 : 10 ≤ i) (h2 : i < 20) : spC X tp sk N i a = .inl (X.dA 0, 40, .inl a) := by
  unfold spC; rw [if_neg (by omega), if_pos (by omega)]
theorem u_d {c : Nat} (hc : c < N 0) : SpU N (20 + c) := Or.inr (Or.inr (Or.inl ⟨by omega, by omega⟩))
theorem u_p {b p : Nat} (hb : b = 30 ∨ b = 40 ∨ b = 50 ∨ b = 60 ∨ b = 70) (hp : p < N 1) (h8 : N 1 ≤ 8) : SpU N (b + p) := Or.inr (Or.inr (Or.inr (Or.inl ⟨by omega, by omega, by omega⟩)))
theorem u_h {p i : Nat} (hp : p < N 1) (h8 : N 1 ≤ 8) (hi : i < N (2 + p)) (h4 : N (2 + p) ≤ 4) : SpU N (80 + 4 * p + i) := by
  refine Or.inr (Or.inr (Or.inr (Or.inr (Or.inl ⟨by omega, by omega, ?_, ?_⟩))))
  · rw [show (80 + 4 * p + i - 80) / 4 = p by omega]; exact hp
  · rw [show (80 + 4 * p + i - 80) / 4 = p by omega, show (80 + 4 * p + i - 80) % 4 = i by omega]; exact hi
theorem SP.inj (hp : SP X (hz, tp, T, sk, S, N) h) {i j : Nat} (hi : SpU N i) (hj : SpU N j) (hij : i ≠ j) : sk i ≠ sk j := fun z => hij (hp.2.2.1 i j hi hj z)
/-- what is filled, as a square without its walks -/
theorem SP.sqw (hp : SP X (hz, tp, T, sk, S, N) h) (hr : SR S N w) : SqW X h sk w := by
  obtain ⟨⟨c1, c2, c3⟩, ⟨p1, p2, p3⟩, ⟨s4, s5, s6, s7, s8⟩, hwl, hd, hper⟩ := hr
  refine ⟨?_, ?_, ?_, ⟨S 3, hp.at (u_lo (by decide)), hwl⟩, fun c hc => ?_, fun p hpp => ?_⟩
  · rw [hp.at (u_lo (by decide : 0 < 7)), ← s4, ← s5, ← s6, ← s7, ← s8]; rfl
  · rw [← c1]
    exact ⟨⟨S 1 0, hp.at (u_lo (by decide))⟩, hp.inj (u_lo (by decide)) (u_lo (by decide)) (by decide), ⟨_, hp.at (u_lo (by decide)), fun i hi => if_pos hi⟩, c3, by decide⟩
  · rw [← p1]
    exact ⟨⟨S 2 0, hp.at (u_lo (by decide))⟩, hp.inj (u_lo (by decide)) (u_lo (by decide)) (by decide), ⟨_, hp.at (u_lo (by decide)), fun i hi => if_pos hi⟩, p3, by decide⟩
  · rw [← c1] at hc
    have f := hd c hc
    refine ⟨S (20 + c) 2, ?_⟩
    unfold DlAt
    rw [hp.at (u_d hc), spc_d (by omega), f 0 (by decide), f 1 (by decide), f 3 (by decide), f 4 (by decide), f 5 (by decide)]
    rfl
  · rw [← p1] at hpp
    obtain ⟨f1, ⟨f2, f3, f4⟩, ⟨f5, f6, f7⟩, f8, f9⟩ := hper p hpp
    have uh : ∀ i, i < nL w p → SpU N (80 + 4 * p + i) := fun i hi => u_h hpp p3 (by rw [f5]; exact hi) (by rw [f5]; exact f6)
    refine ⟨?_, ⟨⟨S (60 + p) 0, by rw [hp.at (u_p (by omega) hpp p3), spc_l (by omega), f5]⟩, hp.inj (u_p (by omega) hpp p3) (u_p (by omega) hpp p3) (by omega), ⟨_, by rw [hp.at (u_p (b := 70) (by omega) hpp p3), spc_e (by omega)], fun i hi => by rw [f5]; exact if_pos hi⟩, f6, by decide⟩, ⟨S (40 + p), by rw [hp.at (u_p (by omega) hpp p3), spc_a (by omega) (by omega)], fun k hk => (f8 k hk).1⟩, ⟨S (50 + p), by rw [hp.at (u_p (by omega) hpp p3), spc_a (by omega) (by omega)], fun k hk => (f8 k hk).2⟩, fun i hi => ?_, fun i j hi hj z => ?_⟩
    · rw [hp.at (u_p (by omega) hpp p3), spc_p (by omega), ← f1 0 (by decide), ← f1 1 (by decide), ← f1 2 (by decide), ← f2]
    · rw [hp.at (uh i hi), spc_h (by omega) (by omega), f9 i hi]
    · apply Classical.byContradiction
      intro ne
      exact hp.inj (uh i hi) (uh j hj) (by omega) z
end SpQ
section Fre
variable {X : Cx} {h0 : AH} {ra tp : Nat} {sk : Nat → Nat} {T g w : Nat → Int32} {n : Nat} {ts : TS} {aK aV : Nat → Nat}
/-- the Y of a cell that is free -/
def frE (T : Nat → Int32) (n : Nat) (w : Nat → Int32) (x : Int32) (s : RdE) : Int32 × RdE := numE T n (nI 0) (w 5 - nI 1) (if tkE w x s = true then errE (nI 2) s else s)
theorem bX5_free_0 : Blk RP mX5_free 0 5 [oAL 0, rI 5, oC (nI 2)] := blk_c (s_aload_n dX5_free_0 rfl) <| blk_c (r_I (f := 5) (by decide) q635 dX5_free_1) <| blk_c (s_iconst dX5_free_4 (by decide +kernel)) <| blk_nil
theorem bX5_free_8 : Blk RP mX5_free 8 16 [oAL 0, rI 6, oAL 0, rSq] := blk_c (s_aload_n dX5_free_8 rfl) <| blk_c (r_I (f := 6) (by decide) q636 dX5_free_9) <| blk_c (s_aload_n dX5_free_12 rfl) <| blk_c (r_Sq q632 dX5_free_13) <| blk_nil
theorem bX5_free_22 : Blk RP mX5_free 22 31 [oAL 0, rSq, oIL 1, oAL 0, rI 6] := blk_c (s_aload_n dX5_free_22 rfl) <| blk_c (r_Sq q632 dX5_free_23) <| blk_c (s_iload_n dX5_free_26 rfl) <| blk_c (s_aload_n dX5_free_27 rfl) <| blk_c (r_I (f := 6) (by decide) q636 dX5_free_28) <| blk_nil
theorem bX5_free_37 : Blk RP mX5_free 37 39 [oAL 0, oC (nI 2)] := blk_c (s_aload_n dX5_free_37 rfl) <| blk_c (s_iconst dX5_free_38 (by decide +kernel)) <| blk_nil
theorem bX5_free_43 : Blk RP mX5_free 43 49 [oAL 0, oC (nI 0), oAL 0, rSq] := blk_c (s_aload_n dX5_free_43 rfl) <| blk_c (s_iconst dX5_free_44 (by decide +kernel)) <| blk_c (s_aload_n dX5_free_45 rfl) <| blk_c (r_Sq q632 dX5_free_46) <| blk_nil
theorem bX5_free_52 : Blk RP mX5_free 52 54 [oC (nI 1), oSub] := blk_c (s_iconst dX5_free_52 (by decide +kernel)) <| blk_c (s_isub dX5_free_53) <| blk_nil
theorem ok_freeR (hX : ThX X) (hN : NewOK X) (hZ : ThZ X) (hT : byT T) {x : Int32} (hsq : SqW X (va_up h0 ra (some (.inr (5, rdF tp (sk 0) g)))) sk w) (hx : inI x (nI 0) (w 4 - nI 1) = true) (hw : ∃ a b : Nat, a ≤ 12 ∧ b ≤ 12 ∧ w 4 = nI a ∧ w 5 = nI b) (hg : TokG g n ts) (h1 : ts.2.1 ≤ ts.1) (h2 : ts.1 ≤ n) (hn : n ≤ 2400) (hv : ts.2.2.1 = nI 2 → 0 ≤ ts.2.2.2) :
    RPY X mX5_free 1 8 [.ref ra, .int x] (h0, (ra, tp, sk 0), T, g) (fun r x' => (∃ v ts', frE T n w x (.inr ts) = (v, .inr ts') ∧ r = some (.int v) ∧ TokG x'.2.2.2 n ts') ∧ ∃ g', x' = (h0, (ra, tp, sk 0), T, g')) (fun k p => (frE T n w x (.inr ts)).2 = .inl (k, p)) := by
  have hg0 := hg
  obtain ⟨g1, g3, g4, g5, g6⟩ := hg
  obtain ⟨wa, wb, ha, hb, e4, e5⟩ := id hw
  refine RPY_start (L := [some (.ref ra), some (.int x)]) 0 rfl ?_
  have num : tkE w x (.inr ts) = false → JS RP X mX5_free (rmOf mX5_free.lv 1 8) (ZRY X 1 8 h0 ra (fun r x' => (∃ v ts', frE T n w x (.inr ts) = (v, .inr ts') ∧ r = some (.int v) ∧ TokG x'.2.2.2 n ts') ∧ ∃ g', x' = (h0, (ra, tp, sk 0), T, g')) (fun k p => (frE T n w x (.inr ts)).2 = .inl (k, p))) 0 0 43 [some (.ref ra), some (.int x)] [] (h0, (ra, tp, sk 0), T, g) := by
    intro hf
    have ef : frE T n w x (.inr ts) = numE T n (nI 0) (w 5 - nI 1) (.inr ts) := by rw [frE, hf, if_neg (by decide)]
    rw [ef]
    refine bX5_free_43.go rfl (by repeat' first | exact trivial | rfl | assumption | omega | apply And.intro) ?_
    intro h hp
    refine J.getfN (f := 5) hp.2.2.2 clsX2 rfl (by rw [hp.1]; exact hsq.1) (by decide) rfl nq442 dX5_free_49 ?_
    refine (show JS RP X mX5_free (rmOf mX5_free.lv 1 8) _ 0 0 52 _ _ (h0, (ra, tp, sk 0), T, g) from ?_) h hp
    refine bX5_free_52.go rfl trivial ?_
    refine rpy (M' := mX5_number_2) (nA := 2) (As := [.int (nI 0), .int (w 5 - nI 1)]) (RPX.toY (Q' := fun r x' => (∃ v ts', numE T n (nI 0) (w 5 - nI 1) (.inr ts) = (v, .inr ts') ∧ r = some (.int v) ∧ TokG x'.2.2.2 n ts') ∧ ∃ g', x' = (h0, (ra, tp, sk 0), T, g')) (QF := fun k p => (numE T n (nI 0) (w 5 - nI 1) (.inr ts)).2 = .inl (k, p)) (ok_numR hX hN hZ hT hg0 h1 h2 hn) (fun r x' q => by obtain ⟨v, ts', q1, q2, g', rfl, q3⟩ := q; exact ⟨⟨v, ts', q1, q2, q3⟩, g', rfl⟩) (fun a x' q => q)) q761 q763 qs13 q764 dX5_free_54 rfl hy_X5_number_2 ⟨by show 0 + 1 ≤ 1; omega, by show 0 + 8 ≤ 8; omega⟩ (fun r x' q => ?_) (fun a h' q => ry_out hX rfl q)
    obtain ⟨⟨v, ts', q1, rfl, q3⟩, q4⟩ := q
    exact ry_iret dX5_free_57 rfl ⟨⟨v, ts', q1, rfl, q3⟩, q4⟩
  refine bX5_free_0.go rfl (by repeat' first | exact trivial | rfl | assumption | omega | apply And.intro) ?_
  rw [g5]
  refine j_icmp_ne (tgt := 43) dX5_free_5 (by decide) (fun h5 => num (by rw [tkE, decide_eq_false h5]; rfl)) (fun h5 => ?_)
  refine bX5_free_8.go rfl (by repeat' first | exact trivial | rfl | assumption | omega | apply And.intro) ?_
  intro h hp
  refine J.getfN (f := 5) hp.2.2.2 clsX2 rfl (by rw [hp.1]; exact hsq.1) (by decide) rfl nq442 dX5_free_16 ?_
  refine (show JS RP X mX5_free (rmOf mX5_free.lv 1 8) _ 0 0 19 _ _ (h0, (ra, tp, sk 0), T, g) from ?_) h hp
  rw [g6]
  have hv0 := hv h5
  have iny : inI ts.2.2.2 (nI 0) (w 5 - nI 1) = true ↔ ¬ w 5 ≤ ts.2.2.2 := by
    unfold inI
    rw [Bool.and_eq_true, decide_eq_true_eq, decide_eq_true_eq, e5]
    have z1 : nI 0 ≤ ts.2.2.2 := hv0
    have : (nI wb - nI 1).toInt = (wb : Int) - 1 := pk_sub_toInt (by omega) (by omega)
    rw [Int32.le_iff_toInt_le (x := ts.2.2.2), this, Int32.le_iff_toInt_le (x := nI wb), nI_toInt (by omega)]
    constructor
    · intro q; omega
    · intro q; exact ⟨z1, by omega⟩
  refine j_icmp_ge (tgt := 43) dX5_free_19 (by decide) (fun h19 => num ?_) (fun h19 => ?_)
  · have : inI ts.2.2.2 (nI 0) (w 5 - nI 1) = false := by
      cases q : inI ts.2.2.2 (nI 0) (w 5 - nI 1)
      · rfl
      · exact absurd h19 (iny.mp q)
    rw [tkE, this, Bool.false_and, Bool.and_false]
  have iny' := iny.mpr h19
  have fr : freeB w x ts.2.2.2 = !takenB w x ts.2.2.2 (-1) := by rw [freeB, hx, iny']; rfl
  refine bX5_free_22.go rfl (by repeat' first | exact trivial | rfl | assumption | omega | apply And.intro) ?_
  rw [g6]
  intro h hp
  have hsq' : SqW X h sk w := by rw [hp.1]; exact hsq
  refine J.callV (M' := mX2_isFree) (ci := 2) (q := (RX2, TX2, 9)) (As := [.int x, .int ts.2.2.2]) (st := []) (mc := 0) (ms := 0) (ok_isFreeX X h sk w x ts.2.2.2 hp.2.2.2 hsq' hw) (fun o h' q => ⟨_, q.1⟩) hsq'.1 rfl dX5_free_31 (lw_V q785 q786 q787 q133 q788) ⟨rfl, hy_X2_isFree.1, hy_X2_isFree.2.1, hy_X2_isFree.2.2⟩ (by decide) (by decide) (by decide) (fun v h' q => ?_)
  obtain ⟨q1, q2⟩ := q
  cases q1
  rw [q2]
  refine (show JS RP X mX5_free (rmOf mX5_free.lv 1 8) _ (0 + 0) (0 + 0) 34 _ _ (h0, (ra, tp, sk 0), T, g) from ?_) h hp
  rw [show fFree x ts.2.2.2 w = b2 (freeB w x ts.2.2.2) from rfl, fr]
  refine j_if_ne (tgt := 43) dX5_free_34 (by decide) (fun h34 => ?_) (fun h34 => ?_)
  · rw [b2_n0, Bool.not_eq_true'] at h34
    exact num (by rw [tkE, h34, Bool.and_false, Bool.and_false])
  · rw [b2_0, Bool.not_eq_false'] at h34
    have hf : tkE w x (.inr ts) = true := by rw [tkE, decide_eq_true h5, iny', h34]; rfl
    have ef : frE T n w x (.inr ts) = (nI 0, .inl (nI 2, ts.2.1)) := by rw [frE, hf, if_pos rfl]; rfl
    refine bX5_free_37.go rfl trivial ?_
    exact jthrow hN hZ g4 q721 dX5_free_39 dX5_free_42 (by decide) ⟨by show 0 + 0 + 1 ≤ 1; omega, by show 0 + 0 + 8 ≤ 8; omega⟩ (fun a x' h' q hp' => ry_out hX rfl (q.rqt hp' (by rw [ef])))
end Fre
