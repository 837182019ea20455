set_option maxRecDepth 100000
/-! ===== UnseenClock$Reader: fault, asks, number, room ===== -/
theorem up_comm {α : Type} (f : Nat → α) {a b : Nat} (hab : a ≠ b) (x y : α) : va_up (va_up f a x) b y = va_up (va_up f b y) a x := by
  funext j
  by_cases e : j = a
  · subst e; rw [va_up_ne _ _ hab, va_up_self, va_up_self]
  · by_cases e2 : j = b
    · subst e2; rw [va_up_self, va_up_ne _ _ e, va_up_self]
    · rw [va_up_ne _ _ e2, va_up_ne _ _ e, va_up_ne _ _ e, va_up_ne _ _ e2]
section Thr
variable {X : Cx} {M M' : MD} {R R' : Room} {Z : ZT} {k n pc idx : Nat} {L : List (Option Value)} {st As : List Value} {h : AH}
theorem stAthrow {p : Program} {l : Launch} {e : Env} {s : State} {m : MethodId} {args : Array Value} {below : List Frame} {meth : Method} {c : Code} {T : State} {locs : List Loc} {cells slots : Nat} (S : Stand p l e R s m args below meth c T locs cells slots) (hexec : p.tables.exec = Jvm.exec) {g : JFrame} (hg : g.method = m) {a : Addr} {rest : List Value} (hstack : g.stack = .ref a :: rest) (hdg : decode c.code g.pc = .ok (.athrow, 1)) :
    ∀ target, Steps p.tables e below ((T.setTop { g with stack := rest }).pushFrame (.throwing a)) target → Steps p.tables e below (T.setTop g) target := by
  intro target hrest
  subst hg
  jvm_step S.here [hexec, hdg, athrow.wp_sem, hstack]
  exact hrest
theorem J.athrow {a ci : Nat} {fs : List Value} {q : vw_C} (ha : h a = some (.inr (ci, fs))) (hci : vwCl[ci]? = some q) (hd : decode M.cc pc = .ok (.athrow, 1)) (kk : JT X M R Z q.1 a pc L h k n) : J X M R Z pc L (.ref a :: st) h k n := by
  intro p e s m args below meth c B rk H locs ls hW hS hL T hT S
  subst hT
  obtain ⟨ws, hP, hD, hh⟩ := id hW
  obtain ⟨q0, hq0⟩ := hh a _ ha
  obtain ⟨r', hr', cell, g1, g2, g3, -⟩ := hP q0 _ hq0
  have hcls := (B.2.2.2.2.2.2.2.1.1.1 ci q hci).2
  obtain ⟨t, a1, b1⟩ := kk p e s m args below meth c B rk T locs ls st S hW hS hL ⟨cell, g1, g3, by rw [g2]; exact hcls.1⟩
  exact ⟨t, stAthrow S B.1 (g := F0 m pc ls (.ref a :: st)) rfl rfl (by rw [B.2.1]; exact hd) t a1, b1⟩
end Thr
abbrev flV (k p : Int32) : List Value := [.null, .null, .null, .null, .null, .int 0, .int k, .int p]
def RPX (X : Cx) (M : MD) (mc ms : Nat) (av : List Value) (x : RPv) (Q : Option Value → RPv → Prop) (QT : Nat → RPv → Prop) : Prop := ∀ h, RP X x h → CgX X M (.code M.y M.cc M.nL M.ret) (rmOf M.lv mc ms) av h (fun r h' => ∃ x', Q r x' ∧ RP X x' h') (fun C a h' => C = RX6 ∧ ∃ x', QT a x' ∧ RP X x' h')
abbrev ZRX (X : Cx) (mc ms : Nat) (Q : Option Value → RPv → Prop) (QT : Nat → RPv → Prop) : ZT := ZX X mc ms (fun r h' => ∃ x', Q r x' ∧ RP X x' h') (fun C a h' => C = RX6 ∧ ∃ x', QT a x' ∧ RP X x' h')
section Rpx
variable {X : Cx} {M M' : MD} {R : Room} {Z : ZT} {mc ms k n pc idx : Nat} {L : List (Option Value)} {st As : List Value} {x : RPv} {Q Q' : Option Value → RPv → Prop} {QT QT' : Nat → RPv → Prop} {av : List Value}
theorem RPX_start (pad : Nat) (hL : L = entL av ++ List.replicate pad none) (kk : JS RP X M (rmOf M.lv mc ms) (ZRX X mc ms Q QT) 0 0 0 L [] x) (hy : plainFor M.y = true := by first | exact plainFor_of_name (by decide) | decide +kernel) (hE : M.eh = noEH := by rfl) (hn : (lg_sl av).length ≤ M.nL := by exact Nat.le_of_ble_eq_true rfl) : RPX X M mc ms av x Q QT :=
  fun h hp => CgX.of0 hy hE pad hL hn ⟨Nat.le_refl _, Nat.le_refl _⟩ (kk h hp)
theorem rx_iret {v : Int32} (hd : decode M.cc pc = .ok (.ireturn, 1)) (hr : M.ret = some .int) (hq : Q (some (.int v)) x) (hk : k ≤ mc := by omega) (hn : n ≤ ms := by omega) : JS RP X M R (ZRX X mc ms Q QT) k n pc L [.int v] x := fun h hp => J.toX (J.iret hd hr hk hn ⟨_, rfl, x, hq, hp⟩)
theorem rx_vret (hd : decode M.cc pc = .ok (.return_, 1)) (hr : M.ret = none) (hq : Q none x) (hk : k ≤ mc := by omega) (hn : n ≤ ms := by omega) : JS RP X M R (ZRX X mc ms Q QT) k n pc L [] x := fun h hp => J.toX (J.vret hd hr hk hn ⟨_, rfl, x, hq, hp⟩)
/-- a throw leaves the method -/
theorem rx_out {h : AH} {a : Nat} (hX : ThX X) (hE : M.eh = noEH) (hq : QT a x) (hp : RP X x h) (hk : k ≤ mc := by omega) (hn : n ≤ ms := by omega) : JT X M R (ZRX X mc ms Q QT) RX6 a pc L h k n := JT.out (hh := []) hX (fun c hc => ehT_nil (by rw [hE] at hc; exact hc)) rfl hk hn ⟨rfl, x, hq, hp⟩
/-- the call of a method of the reader that may throw -/
theorem rpx {nA mc' ms' : Nat} (hM : RPX X M' mc' ms' (.ref x.2.1.1 :: As) x Q QT) (hlink : Cond.methodLink M.y.cls idx M'.y ∈ lw_all) (hinst : Cond.instanceMethod M'.y ∈ lw_all) (hsel : Cond.selects RX5 M'.y M'.y ∈ lw_all) (hcode : Cond.code M'.y M'.cc M'.nL M'.ret ∈ lw_all) (hd : decode M.cc pc = .ok (.invokevirtual idx, 3)) {st0 : List Value} (h0 : st0 = As.reverse ++ .ref x.2.1.1 :: st) (hy : hyS M' nA) (hf : k + mc' ≤ R.cells ∧ n + ms' ≤ R.slots)
    (kk : ∀ r x', Q r x' → JS RP X M R Z (k + mc') (n + ms') (pc + 3) L (r.toList ++ st) x') (kt : ∀ a x' h', QT a x' → RP X x' h' → JT X M R Z RX6 a pc L h' (k + mc') (n + ms')) (hyc : M'.y.cls = RX5 := by rfl) (hA : As.length = nA := by rfl) (hR : M'.lv + 1 ≤ M.lv ∧ M'.nL ≤ 421 := by decide) (hst : wt8 st = true := by rfl) : JS RP X M R Z k n pc L st0 x := by
  subst h0
  subst hA
  intro h hp p e s m args below meth c B rk
  refine J.callX (ci := 5) (q := (RX5, TX5, 7)) (hM h hp) hcode (Or.inl rfl) (by rw [hp.1]; exact va_up_self _ _ _) rfl hd hlink hinst hsel (by rw [hyc]; exact q139) ⟨hy.1, hy.2.1, hy.2.2⟩ ⟨?_, ?_⟩ hf (Nat.le_of_ble_eq_true hst) (fun v h' q => ?_) (fun C a h' q => ?_) p e s m args below meth c B rk
  · show M'.lv + 1 ≤ R.frames
    exact Nat.le_trans hR.1 rk.1
  · show 8 + (M'.nL + 11) + 440 * M'.lv ≤ R.locals
    have := rk.2.1
    have := hR.1
    have := hR.2
    omega
  · obtain ⟨x', q1, q2⟩ := q
    exact kk v x' q1 h' q2
  · obtain ⟨rfl, x', q1, q2⟩ := q
    exact kt a x' h' q1 q2
end Rpx
section Fau
variable {X : Cx} {h0 : AH} {ra tp sq : Nat} {T g : Nat → Int32} {n i : Nat} {ts : TS} {aK aV : Nat → Nat}
theorem bX5_fault_3 : Blk RP mX5_fault 3 9 [oDupR, oIL 1, oAL 0, rI 4] := blk_c (s_dupR dX5_fault_3) <| blk_c (s_iload_n dX5_fault_4 rfl) <| blk_c (s_aload_n dX5_fault_5 rfl) <| blk_c (r_I (f := 4) (by decide) q634 dX5_fault_6) <| blk_nil
theorem ok_faultR (hN : NewOK X) (hZ : ThZ X) {k : Int32} {h : AH} (hp : RP X (h0, (ra, tp, sq), T, g) h) : Cg X mX5_fault 1 8 [.ref ra, .int k] h (fun oc h' => ∃ q, oc = .returned (some (.ref q)) ∧ (h0 q = none ∧ q ≠ ra) ∧ RP X (va_up h0 q (some (.inr (6, flV k (g 4)))), (ra, tp, sq), T, g) h') := by
  refine Cg.of (L := [some (.ref ra), some (.int k)]) (by first | exact plainFor_of_name (by decide) | decide +kernel) rfl 0 rfl (Nat.le_of_ble_eq_true rfl) ?_
  refine J.new (C := RX6) (T := TX6) (N := 8) (ty := tyX6) (ci := 6) (fs := [.null, .null, .null, .null, .null, .int 0, .int 0, .int 0]) hN clsX6 rfl q725 q726 q148 (by decide +kernel) ⟨by show 0 + 1 ≤ 1; omega, by show 0 + 8 ≤ 8; omega⟩ dX5_fault_0 (fun q hq => ?_)
  obtain ⟨e0, t1, t2, t3⟩ := hp
  dsimp only at e0 t1 t2
  have nq : q ≠ ra := fun e => by rw [e0, e, va_up_self] at hq; cases hq
  have hq0 : h0 q = none := by rw [e0, va_up_ne _ _ nq] at hq; exact hq
  have nt : tp ≠ q := fun e => by rw [e, hq0] at t2; cases t2
  have hp1 : RP X (va_up h0 q (some (.inr (6, [.null, .null, .null, .null, .null, .int 0, .int 0, .int 0]))), (ra, tp, sq), T, g) (va_up h q (some (.inr (6, [.null, .null, .null, .null, .null, .int 0, .int 0, .int 0])))) := ⟨by rw [e0]; exact up_comm _ (fun e => nq e.symm) _ _, t1, by show va_up h0 q _ tp = _; rw [va_up_ne _ _ nt]; exact t2, t3⟩
  refine (show JS RP X mX5_fault (rmOf mX5_fault.lv 1 8) _ (0 + 1) (0 + 8) 3 _ _ (va_up h0 q (some (.inr (6, [.null, .null, .null, .null, .null, .int 0, .int 0, .int 0]))), (ra, tp, sq), T, g) from ?_) _ hp1
  refine bX5_fault_3.go rfl (by repeat' first | exact trivial | rfl | assumption | omega | apply And.intro) ?_
  intro h2 hp2
  have l2 : h2 q = some (.inr (6, [.null, .null, .null, .null, .null, .int 0, .int 0, .int 0])) := by rw [hp2.1]; show va_up (va_up h0 q _) ra _ q = _; rw [va_up_ne _ _ nq, va_up_self]
  refine J.callI (M' := mX6_init) (As := [.int k, .int (g 4)]) (st := [.ref q]) (mc := 0) (ms := 0) (ok_X6i hZ l2) rfl (fun o h' q => ⟨_, q.1⟩) dX5_fault_9 q736 q148 q734 q735 rfl hy_X6i (by decide) (by decide) (Nat.le_of_ble_eq_true rfl) (fun v h' z => ?_)
  obtain ⟨z1, z2⟩ := z
  cases z1
  refine J.aret dX5_fault_12 rfl (Or.inl ⟨_, rfl⟩) (Or.inr ⟨_, rfl⟩) (by show 0 + 1 + 0 ≤ 1; omega) (by show 0 + 8 + 0 ≤ 8; omega) ⟨q, rfl, ⟨hq0, nq⟩, ?_⟩
  rw [z2, hp2.1]
  refine ⟨?_, t1, by show va_up h0 q _ tp = _; rw [va_up_ne _ _ nt]; exact t2, t3⟩
  show va_up (va_up (va_up h0 q _) ra _) q _ = va_up (va_up h0 q _) ra _
  rw [up_comm _ (fun e => nq e.symm), up_up]
/-- the fault that is thrown -/
def FQ (h0 : AH) (ra tp sq : Nat) (T : Nat → Int32) (k : Int32) (p : Nat) (a : Nat) (x' : RPv) : Prop := ∃ g', x' = (va_up h0 a (some (.inr (6, flV k (nI p)))), (ra, tp, sq), T, g') ∧ h0 a = none ∧ a ≠ ra
/-- fault(k), thrown -/
theorem jthrow {M : MD} {R : Room} {Z : ZT} {k n pc idx p : Nat} {L : List (Option Value)} {kd : Int32} (hN : NewOK X) (hZ : ThZ X) (hg : g 4 = nI p) (hlink : Cond.methodLink M.y.cls idx yX5_fault ∈ lw_all) (hd : decode M.cc pc = .ok (.invokevirtual idx, 3)) (hd2 : decode M.cc (pc + 3) = .ok (.athrow, 1)) (hR : 7 ≤ M.lv) (hf : k + 1 ≤ R.cells ∧ n + 8 ≤ R.slots)
    (kt : ∀ a x' h', FQ h0 ra tp sq T kd p a x' → RP X x' h' → JT X M R Z RX6 a (pc + 3) L h' (k + 1) (n + 8)) : JS RP X M R Z k n pc L [.int kd, .ref ra] (h0, (ra, tp, sq), T, g) := by
  intro h hp p' e s m args below meth c B rk
  refine J.callV (M' := mX5_fault) (ci := 5) (q := (RX5, TX5, 7)) (As := [.int kd]) (st := []) (mc := 1) (ms := 8) (ok_faultR hN hZ hp) (fun o h' q => by obtain ⟨q, e1, -⟩ := q; exact ⟨_, e1⟩) (by rw [hp.1]; exact va_up_self _ _ _) rfl hd (lw_V hlink q723 qs11 q139 q724) ⟨rfl, hy_X5_fault.1, hy_X5_fault.2.1, hy_X5_fault.2.2⟩ ⟨hR, by decide⟩ hf (by decide) (fun v h' q => ?_) p' e s m args below meth c B rk
  obtain ⟨q, e1, e2, e3⟩ := q
  cases e1
  have l : h' q = some (.inr (6, flV kd (g 4))) := by rw [e3.1]; show va_up (va_up h0 q _) ra _ q = _; rw [va_up_ne _ _ e2.2, va_up_self]
  refine J.athrow (ci := 6) (q := (RX6, TX6, 8)) l rfl hd2 ?_
  exact kt q _ h' ⟨g, by rw [hg], e2.1, e2.2⟩ e3
theorem bX5_asks_0 : Blk RP mX5_asks 0 2 [oAL 0, oAL 1] := blk_c (s_aload_n dX5_asks_0 rfl) <| blk_c (s_aload_n dX5_asks_1 rfl) <| blk_nil
theorem bX5_asks_8 : Blk RP mX5_asks 8 10 [oAL 0, oC (nI 1)] := blk_c (s_aload_n dX5_asks_8 rfl) <| blk_c (s_iconst dX5_asks_9 (by decide +kernel)) <| blk_nil
theorem ok_asksR (hX : ThX X) (hN : NewOK X) (hZ : ThZ X) (hK : StrOK X aK aV) (hT : byT T) (hi : i < 27) (hg : TokG g n ts) (h1 : ts.2.1 ≤ ts.1) (h2 : ts.1 ≤ n) (hn : n ≤ 2400) : RPX X mX5_asks 1 8 [.ref ra, .ref (aK i)] (h0, (ra, tp, sq), T, g) (fun r x' => r = none ∧ isE T i (.inr ts) = true ∧ ∃ g', x' = (h0, (ra, tp, sq), T, g') ∧ TokG g' n (advS T n ts.1)) (fun a x' => isE T i (.inr ts) = false ∧ FQ h0 ra tp sq T (nI 1) ts.2.1 a x') := by
  refine RPX_start (L := [some (.ref ra), some (.ref (aK i))]) 0 rfl ?_
  refine bX5_asks_0.go rfl trivial ?_
  refine rpc (M' := mX5_takes) (nA := 1) (As := [.ref (aK i)]) (ok_takesR hK hT hi hg h1 h2 hn) (lw_V q665 q667 qs9 q139 q668) dX5_asks_2 rfl hy_X5_takes (fun r x' q => ?_)
  obtain ⟨rfl, g', rfl, hg'⟩ := q
  refine j_if_ne (tgt := 14) dX5_asks_5 (by decide) (fun h5 => ?_) (fun h5 => ?_)
  · rw [b2_n0] at h5
    rw [if_pos h5] at hg'
    exact rx_vret dX5_asks_14 rfl ⟨rfl, h5, g', rfl, hg'⟩
  · rw [b2_0] at h5
    rw [if_neg (by rw [h5]; decide)] at hg'
    refine bX5_asks_8.go rfl trivial ?_
    exact jthrow hN hZ hg'.2.2.1 q721 dX5_asks_10 dX5_asks_13 (by decide) ⟨by show 0 + 1 ≤ 1; omega, by show 0 + 8 ≤ 8; omega⟩ (fun a x' h' q hp' => rx_out hX rfl ⟨h5, q⟩ hp')
theorem bX5_number_2_0 : Blk RP mX5_number_2 0 5 [oAL 0, rI 5, oC (nI 2)] := blk_c (s_aload_n dX5_number_2_0 rfl) <| blk_c (r_I (f := 5) (by decide) q635 dX5_number_2_1) <| blk_c (s_iconst dX5_number_2_4 (by decide +kernel)) <| blk_nil
theorem bX5_number_2_8 : Blk RP mX5_number_2 8 10 [oAL 0, oC (nI 1)] := blk_c (s_aload_n dX5_number_2_8 rfl) <| blk_c (s_iconst dX5_number_2_9 (by decide +kernel)) <| blk_nil
theorem bX5_number_2_14 : Blk RP mX5_number_2 14 26 [oAL 0, rI 6, oI2L, oIL 1, oI2L, oIL 2, oI2L, oS_JJJ pT3 fIn] := blk_c (s_aload_n dX5_number_2_14 rfl) <| blk_c (r_I (f := 6) (by decide) q636 dX5_number_2_15) <| blk_c (s_i2l dX5_number_2_18) <| blk_c (s_iload_n dX5_number_2_19 rfl) <| blk_c (s_i2l dX5_number_2_20) <| blk_c (s_iload_n dX5_number_2_21 rfl) <| blk_c (s_i2l dX5_number_2_22) <| blk_c (s_S_JJJ ok_sX0_in (fun _ _ _ h => h.2.2.2) (Or.inr ⟨lw_meth q181, q180, q131, _, nq625⟩) hy_X0_in (by decide) dX5_number_2_23) <| blk_nil
theorem bX5_number_2_29 : Blk RP mX5_number_2 29 31 [oAL 0, oC (nI 2)] := blk_c (s_aload_n dX5_number_2_29 rfl) <| blk_c (s_iconst dX5_number_2_30 (by decide +kernel)) <| blk_nil
theorem bX5_number_2_35 : Blk RP mX5_number_2 35 41 [oAL 0, rI 6, oIS 3, oAL 0] := blk_c (s_aload_n dX5_number_2_35 rfl) <| blk_c (r_I (f := 6) (by decide) q636 dX5_number_2_36) <| blk_c (s_istore_n dX5_number_2_39 rfl (by decide)) <| blk_c (s_aload_n dX5_number_2_40 rfl) <| blk_nil
theorem bX5_number_2_44 : Blk RP mX5_number_2 44 45 [oIL 3] := blk_c (s_iload_n dX5_number_2_44 rfl) <| blk_nil
theorem ok_numR (hX : ThX X) (hN : NewOK X) (hZ : ThZ X) (hT : byT T) {lo hi : Int32} (hg : TokG g n ts) (h1 : ts.2.1 ≤ ts.1) (h2 : ts.1 ≤ n) (hn : n ≤ 2400) : RPX X mX5_number_2 1 8 [.ref ra, .int lo, .int hi] (h0, (ra, tp, sq), T, g) (fun r x' => ∃ v ts', numE T n lo hi (.inr ts) = (v, .inr ts') ∧ r = some (.int v) ∧ ∃ g', x' = (h0, (ra, tp, sq), T, g') ∧ TokG g' n ts') (fun a x' => ∃ k p, (numE T n lo hi (.inr ts)).2 = .inl (k, p) ∧ FQ h0 ra tp sq T k p a x') := by
  have hg0 := hg
  obtain ⟨g1, g3, g4, g5, g6⟩ := hg
  refine RPX_start (L := [some (.ref ra), some (.int lo), some (.int hi), none]) 1 rfl ?_
  refine bX5_number_2_0.go rfl (by repeat' first | exact trivial | rfl | assumption | omega | apply And.intro) ?_
  rw [g5]
  refine j_icmp_eq (tgt := 14) dX5_number_2_5 (by decide) (fun h5 => ?_) (fun h5 => ?_)
  rotate_left
  · refine bX5_number_2_8.go rfl trivial ?_
    exact jthrow hN hZ g4 q721 dX5_number_2_10 dX5_number_2_13 (by decide) ⟨by show 0 + 1 ≤ 1; omega, by show 0 + 8 ≤ 8; omega⟩ (fun a x' h' q hp' => rx_out hX rfl ⟨_, _, by rw [numE, if_neg h5], q⟩ hp')
  refine bX5_number_2_14.go rfl (by repeat' first | exact trivial | rfl | assumption | omega | apply And.intro) ?_
  rw [g6, show fIn ts.2.2.2.toInt64 lo.toInt64 hi.toInt64 = b2 (inI ts.2.2.2 lo hi) by rw [fIn, in_i2l]]
  refine j_if_ne (tgt := 35) dX5_number_2_26 (by decide) (fun h26 => ?_) (fun h26 => ?_)
  rotate_left
  · rw [b2_0] at h26
    refine bX5_number_2_29.go rfl trivial ?_
    exact jthrow hN hZ g4 q721 dX5_number_2_31 dX5_number_2_34 (by decide) ⟨by show 0 + 1 ≤ 1; omega, by show 0 + 8 ≤ 8; omega⟩ (fun a x' h' q hp' => rx_out hX rfl ⟨_, _, by rw [numE, if_pos h5, if_neg (by rw [h26]; decide)], q⟩ hp')
  rw [b2_n0] at h26
  refine bX5_number_2_35.go rfl (by repeat' first | exact trivial | rfl | assumption | omega | apply And.intro) ?_
  refine rpc (M' := mX5_next) (nA := 0) (As := []) (ok_next hT g1 g3 hn h2) (lw_V q617 q619 qs5 q139 q620) dX5_number_2_41 rfl hy_X5_next (fun r x' q => ?_)
  obtain ⟨rfl, g', rfl, hg'⟩ := q
  refine bX5_number_2_44.go rfl trivial ?_
  exact rx_iret dX5_number_2_45 rfl ⟨ts.2.2.2, advS T n ts.1, by rw [numE, if_pos h5, if_pos h26], by rw [g6], g', rfl, hg'⟩
theorem bX5_number_0 : Blk RP mX5_number 0 2 [oAL 0, oAL 1] := blk_c (s_aload_n dX5_number_0 rfl) <| blk_c (s_aload_n dX5_number_1 rfl) <| blk_nil
theorem bX5_number_5 : Blk RP mX5_number 5 8 [oAL 0, oIL 2, oIL 3] := blk_c (s_aload_n dX5_number_5 rfl) <| blk_c (s_iload_n dX5_number_6 rfl) <| blk_c (s_iload_n dX5_number_7 rfl) <| blk_nil
theorem ok_toldR (hX : ThX X) (hN : NewOK X) (hZ : ThZ X) (hK : StrOK X aK aV) (hT : byT T) (hi : i < 27) {lo hi' : Int32} (hg : TokG g n ts) (h1 : ts.2.1 ≤ ts.1) (h2 : ts.1 ≤ n) (hn : n ≤ 2400) : RPX X mX5_number 2 16 [.ref ra, .ref (aK i), .int lo, .int hi'] (h0, (ra, tp, sq), T, g) (fun r x' => ∃ v ts', toldE T n i lo hi' (.inr ts) = (v, .inr ts') ∧ r = some (.int v) ∧ ∃ g', x' = (h0, (ra, tp, sq), T, g') ∧ TokG g' n ts') (fun a x' => ∃ k p, (toldE T n i lo hi' (.inr ts)).2 = .inl (k, p) ∧ FQ h0 ra tp sq T k p a x') := by
  obtain ⟨l1, l2, l3⟩ := advS_le (T := T) h2
  refine RPX_start (L := [some (.ref ra), some (.ref (aK i)), some (.int lo), some (.int hi')]) 0 rfl ?_
  refine bX5_number_0.go rfl trivial ?_
  refine rpx (M' := mX5_asks) (nA := 1) (As := [.ref (aK i)]) (ok_asksR hX hN hZ hK hT hi hg h1 h2 hn) q661 q663 qs8 q664 dX5_number_2 rfl hy_X5_asks ⟨by show 0 + 1 ≤ 2; omega, by show 0 + 8 ≤ 16; omega⟩ (fun r x' q => ?_) (fun a x' h' q hp' => ?_)
  · obtain ⟨rfl, hs, g', rfl, hg'⟩ := q
    have e : toldE T n i lo hi' (.inr ts) = numE T n lo hi' (.inr (advS T n ts.1)) := by rw [toldE, needsE, if_pos hs]; rfl
    rw [e]
    refine bX5_number_5.go rfl trivial ?_
    refine rpx (M' := mX5_number_2) (nA := 2) (As := [.int lo, .int hi']) (ok_numR hX hN hZ hT hg' l2 l3 hn) q761 q763 qs13 q764 dX5_number_8 rfl hy_X5_number_2 ⟨by show 0 + 1 + 1 ≤ 2; omega, by show 0 + 8 + 8 ≤ 16; omega⟩ (fun r x' q => ?_) (fun a x' h' q hp' => rx_out hX rfl q hp')
    obtain ⟨v, ts', q1, rfl, q2⟩ := q
    exact rx_iret dX5_number_11 rfl ⟨v, ts', q1, rfl, q2⟩
  · obtain ⟨hs, q⟩ := q
    exact rx_out hX rfl ⟨nI 1, ts.2.1, by rw [toldE, needsE, if_neg (by rw [hs]; decide)]; rfl, q⟩ hp'
theorem bX5_room_0 : Blk RP mX5_room 0 1 [oIL 1] := blk_c (s_iload_n dX5_room_0 rfl) <| blk_nil
theorem bX5_room_4 : Blk RP mX5_room 4 6 [oAL 0, oC (nI 3)] := blk_c (s_aload_n dX5_room_4 rfl) <| blk_c (s_iconst dX5_room_5 (by decide +kernel)) <| blk_nil
theorem bX5_room_10 : Blk RP mX5_room 10 11 [oAL 0] := blk_c (s_aload_n dX5_room_10 rfl) <| blk_nil
theorem ok_roomR (hX : ThX X) (hN : NewOK X) (hZ : ThZ X) (hT : byT T) {b : Bool} (hg : TokG g n ts) (h2 : ts.1 ≤ n) (hn : n ≤ 2400) : RPX X mX5_room 1 8 [.ref ra, .int (b2 b)] (h0, (ra, tp, sq), T, g) (fun r x' => r = none ∧ b = true ∧ ∃ g', x' = (h0, (ra, tp, sq), T, g') ∧ TokG g' n (advS T n ts.1)) (fun a x' => b = false ∧ FQ h0 ra tp sq T (nI 3) ts.2.1 a x') := by
  refine RPX_start (L := [some (.ref ra), some (.int (b2 b))]) 0 rfl ?_
  refine bX5_room_0.go rfl trivial ?_
  refine j_if_ne (tgt := 10) dX5_room_1 (by decide) (fun h5 => ?_) (fun h5 => ?_)
  · rw [b2_n0] at h5
    refine bX5_room_10.go rfl trivial ?_
    refine rpc (M' := mX5_next) (nA := 0) (As := []) (ok_next hT hg.1 hg.2.1 hn h2) (lw_V q617 q619 qs5 q139 q620) dX5_room_11 rfl hy_X5_next (fun r x' q => ?_)
    obtain ⟨rfl, g', rfl, hg'⟩ := q
    exact rx_vret dX5_room_14 rfl ⟨rfl, h5, g', rfl, hg'⟩
  · rw [b2_0] at h5
    refine bX5_room_4.go rfl trivial ?_
    exact jthrow hN hZ hg.2.2.1 q721 dX5_room_6 dX5_room_9 (by decide) ⟨by show 0 + 1 ≤ 1; omega, by show 0 + 8 ≤ 8; omega⟩ (fun a x' h' q hp' => rx_out hX rfl ⟨h5, q⟩ hp')
end Fau
