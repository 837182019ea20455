set_option maxRecDepth 100000
/-! ===== UnseenClock.gathers ===== -/
/-- the Seens hold the first n courses -/
def CoC (A' : Nat → Nat → Int32) (v : Nat → Nat) (w : Nat → Int32) (n : Nat) : Prop := ∀ k, k < n → (∀ t, t ≤ v 6 → ∀ c, c < v 1 → A' (101 + 3 * k) (41 * c + t) = shC w k c t) ∧ ∀ t, t < v 6 → ∀ p, p < v 2 → A' (102 + 3 * k) (40 * p + t) = lkC w k t p
section Gath
variable {X : Cx} {M M' : MD} {R : Room} {Z : ZT} {k n pc idx mi i cnt : Nat} {L : List (Option Value)} {st : List Value} {ad : Nat → Nat} {A A' A2 : Nat → Nat → Int32} {B B' : Nat → Nat → Int64} {sk : Nat → Nat → Nat} {sw : Nat → Nat → Int32} {E : Nat → Nat} {v : Nat → Nat} {w : Nat → Int32} {h : AH} {x x' x'' : Cv}
theorem CP.ls (hp : CP X (ad, A, B, sk, sw, E) h) (hLI : LI E) : LsAt X h (ad 4) (ad 8) (E 1) (E 0) (fun i => ad (100 + 3 * i)) := by
  obtain ⟨l1, l2, l3, l4⟩ := hLI
  exact ⟨⟨A 4 0, hp.at 4 rfl⟩, fun e => absurd (hp.2.2.1 8 4 use_8 use_4 e) (by decide), ⟨_, hp.at 8 rfl, fun i hi => if_pos hi⟩, l2, by omega⟩
theorem js_lsize (hLI : LI E) (hd : decode M.cc pc = .ok (.invokeinterface idx cnt, 5)) (hG : GoodIn lw_all (va_wsF M.y.cls idx RJ2 xSize mJ2_size.y (ws_ mJ2_size.y mJ2_size.cc mJ2_size.nL mJ2_size.ret))) (hR : mJ2_size.lv + 1 ≤ M.lv) (hst : wt8 st = true) (kk : JS CP X M R Z k n (pc + 5) L (.int (nI (E 0)) :: st) (ad, A, B, sk, sw, E)) : JS CP X M R Z k n pc L (.ref (ad 4) :: st) (ad, A, B, sk, sw, E) := by
  intro h hp p e s m args below meth c B rk H locs ls hW hS hL
  refine J.callF (M' := mJ2_size) (x := xSize) (As := []) (mc := 0) (ms := 0) hp.1.1 (ok_size (hp.ls hLI)) (fun o h' q => ⟨_, q.1⟩) (hp.at 4 rfl) hd hG (List.mem_of_getElem? (i := 0) rfl) hy_xSize ⟨hR, by decide⟩ ⟨rk.2.2.1, rk.2.2.2⟩ (Nat.le_of_ble_eq_true hst) (fun v h' q => ?_) p e s m args below meth c B rk H locs ls hW hS hL
  obtain ⟨q1, rfl⟩ := q
  cases q1
  exact kk _ hp
theorem js_lget (hLI : LI E) (hi : i < E 0) (hd : decode M.cc pc = .ok (.invokeinterface idx cnt, 5)) (hG : GoodIn lw_all (va_wsF M.y.cls idx RJ2 xGet mJ2_get.y (ws_ mJ2_get.y mJ2_get.cc mJ2_get.nL mJ2_get.ret))) (hR : mJ2_get.lv + 1 ≤ M.lv) (hst : wt8 st = true) (kk : JS CP X M R Z k n (pc + 5) L (.ref (ad (100 + 3 * i)) :: st) (ad, A, B, sk, sw, E)) : JS CP X M R Z k n pc L (.int (nI i) :: .ref (ad 4) :: st) (ad, A, B, sk, sw, E) := by
  intro h hp p e s m args below meth c B rk H locs ls hW hS hL
  refine J.callF (M' := mJ2_get) (x := xGet) (As := [.int (nI i)]) (mc := 0) (ms := 0) hp.1.1 (ok_get (hp.ls hLI) hi) (fun o h' q => ⟨_, q.1⟩) (hp.at 4 rfl) hd hG (List.mem_of_getElem? (i := 1) rfl) hy_xGet ⟨hR, by decide⟩ ⟨rk.2.2.1, rk.2.2.2⟩ (Nat.le_of_ble_eq_true hst) (fun v h' q => ?_) p e s m args below meth c B rk H locs ls hW hS hL
  obtain ⟨q1, rfl⟩ := q
  cases q1
  exact kk _ hp
theorem js_scast (hi : i < E 0) (hl : Cond.classLink M.y.cls idx RX16 ∈ lw_all) (hd : decode M.cc pc = .ok (.checkcast idx, 3)) (kk : JS CP X M R Z k n (pc + 3) L (.ref (ad (100 + 3 * i)) :: st) (ad, A, B, sk, sw, E)) : JS CP X M R Z k n pc L (.ref (ad (100 + 3 * i)) :: st) (ad, A, B, sk, sw, E) :=
  fun h hp => J.castS (hp.seen hi) (r := (RX16, TX16, 2)) rfl hl hd (kk h hp)
theorem Kp.rf : Kp x x := ⟨fun _ _ _ => rfl, fun _ _ => rfl, fun _ _ => rfl, fun _ _ _ => rfl, fun _ _ => rfl, fun _ _ => rfl, fun _ _ _ => rfl, id⟩
theorem Kp.tr (h : Kp x x') (h' : Kp x' x'') : Kp x x'' :=
  ⟨fun k a b => (h'.1 k a b).trans (h.1 k a b), fun j a => (h'.2.1 j a).trans (h.2.1 j a), fun q a => (h'.2.2.1 q a).trans (h.2.2.1 q a), fun j a b => (h'.2.2.2.1 j a b).trans (h.2.2.2.1 j a b), fun j a => (h'.2.2.2.2.1 j a).trans (h.2.2.2.2.1 j a), fun j a => (h'.2.2.2.2.2.1 j a).trans (h.2.2.2.2.2.1 j a), fun q a b => (h'.2.2.2.2.2.2.1 q a b).trans (h.2.2.2.2.2.2.1 q a b), fun l => h'.2.2.2.2.2.2.2 (h.2.2.2.2.2.2.2 l)⟩
theorem Kp.ar (h1 : ∀ j, j = 2 ∨ j = 6 ∨ (10 ≤ j ∧ j < 24) → A' j = A j) (h2 : ∀ q, q ≠ 6 → A' 0 q = A 0 q) : Kp (ad, A, B, sk, sw, E) (ad, A', B, sk, sw, E) := ⟨fun _ _ _ => rfl, h1, h2, fun _ _ _ => rfl, fun _ _ => rfl, fun _ _ => rfl, fun _ _ _ => rfl, id⟩
theorem Kp.sx {sw' : Nat → Nat → Int32} {ad' : Nat → Nat} {sk' : Nat → Nat → Nat} {E' : Nat → Nat} (h : SX w v A sw) (k : Kp (ad, A, B, sk, sw, E) (ad', A', B', sk', sw', E')) : SX w v A' sw' := by
  obtain ⟨a, b, c, d⟩ := h
  have e0 : sw' 0 = sw 0 := k.2.2.2.2.2.1 0 (by decide)
  have e3 : A' 0 3 = A 0 3 := k.2.2.1 3 (by decide)
  have e2 : A' 2 = A 2 := k.2.1 2 (Or.inl rfl)
  exact ⟨by rw [e0]; exact a, b, by rw [e3]; exact c, fun q hq => by rw [e2]; exact d q hq⟩
theorem Kp.ns {e8 s q1 q2 cap : Nat} {m : Int32} (hLI : LI E) (h0 : E 0 < 128) (hc : cap = E 1 ∧ E 0 < E 1 ∨ E 0 = E 1 ∧ cap = E 1 + E 1 / 2) : Kp (ad, A, B, sk, sw, E) (xAd ad (E 0) e8 s q1 q2, xA A (E 0) m, B, sk, sw, xE E cap) := by
  refine ⟨fun k a b => xAd_lo b (by omega), fun j hj => xA_ne (by omega) (by omega) (by omega), fun q _ => ?_, fun _ _ _ => rfl, fun _ _ => rfl, fun _ _ => rfl, fun q a _ => xE_hi a, fun _ => ?_⟩
  · show xA A (E 0) m 0 q = A 0 q
    rw [xA_ne (by omega) (by omega) (by omega)]
  · obtain ⟨l1, l2, l3, l4⟩ := hLI
    show LI (xE E cap)
    unfold LI
    rw [xE_0, xE_1]
    omega
theorem CoC.cg {N : Nat} (h : CoC A v w N) (hA : ∀ k, k < N → A' (101 + 3 * k) = A (101 + 3 * k) ∧ A' (102 + 3 * k) = A (102 + 3 * k)) : CoC A' v w N := by
  intro k hk
  obtain ⟨a, b⟩ := h k hk
  obtain ⟨e1, e2⟩ := hA k hk
  exact ⟨fun t ht c hc => by rw [e1]; exact a t ht c hc, fun t ht p hp => by rw [e2]; exact b t ht p hp⟩
theorem CoC.add {A0 A3 : Nat → Nat → Int32} {N : Nat} {e : Nat → Bool} (hw : WOk w v) (hC : CoC A0 v w N) (he : crE w N = some e) (hc : CrsC A2 v (cfE w e) (rsE w e)) (hb : BecA A2 A3 N (v 6)) (hA : ∀ k, k < N → A2 (101 + 3 * k) = A0 (101 + 3 * k) ∧ A2 (102 + 3 * k) = A0 (102 + 3 * k)) : CoC A3 v w (N + 1) := by
  have h4 := hw.nc4
  have h8 := hw.np8
  have h40 := hw.sp40
  have ee : eC w N = e := by unfold eC; rw [he]; rfl
  intro k hk
  by_cases ek : k = N
  · subst ek
    refine ⟨fun t ht c hcc => ?_, fun t ht p hp => ?_⟩
    · rw [hb.2.1 c (by omega) t ht, hc.2.2.2.2.1 t ht c hcc, shC, ee]
      obtain ⟨s, hs, q⟩ := sh_b (cf := cfE w e) hw (fun _ => nI 0) 0 hcc (t := t) (by omega)
      show bt (shW w (rsE w e t).pt c) = shW w (rsE w e t).pt c
      have q : shW w (rsE w e t).pt c = nI s := q
      rw [q]; exact bt_s s hs
    · rw [hb.2.2 p (by omega) t ht, hc.2.2.2.2.2.1 t ht p hp, lkC, ee, lkE, if_pos (by rw [hw.npE]; exact hp)]
      obtain ⟨b, hb', q⟩ := mL_b (cf := cfE w e) hw (m := t) (rsE w e t) hp
      have : 2 ^ v 1 ≤ 2 ^ 4 := Nat.pow_le_pow_right (by decide) h4
      rw [q]; exact bt_s b (by omega)
  · obtain ⟨e1, e2⟩ := hA k (by omega)
    obtain ⟨a, b⟩ := hC k (by omega)
    refine ⟨fun t ht c hcc => ?_, fun t ht p hp => ?_⟩
    · rw [hb.1 _ (by omega) (by omega), e1]; exact a t ht c hcc
    · rw [hb.1 _ (by omega) (by omega), e2]; exact b t ht p hp
end Gath
