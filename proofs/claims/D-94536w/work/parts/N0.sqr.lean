set_option maxRecDepth 100000
/-! ===== UnseenClock: square ===== -/
abbrev ehSq : List (Nat × Nat × Nat × Nat) := [(0, 94, 101, 122), (0, 94, 128, 0), (101, 121, 128, 0)]
abbrev mX0_square : MD := (yX0_square, cX0_square, 4, (Option.some .int), 14, ehT ehSq)
abbrev cwSq : Cond := .codeWith yX0_square cX0_square 4 (Option.some .int) ehSq
abbrev rSqr (n : Nat) : Room := { frames := 14, cells := 13 * (n + 1) + 17, slots := 102 * (n + 1) + 770, locals := 6160 }
section SqA
variable {X : Cx} {ad : Nat → Nat} {A A' : Nat → Nat → Int32} {B : Nat → Nat → Int64} {sk : Nat → Nat → Nat} {sw : Nat → Nat → Int32} {E : Nat → Nat} {h h3 hz : AH} {tp : Nat} {T w : Nat → Int32} {skn : Nat → Nat} {S : Nat → Nat → Int32} {N : Nat → Nat}
theorem sqw_of (hat : ∀ i, SpU N i → i ≠ 120 → h (skn i) = some (spC X tp skn N i (S i))) (hinj : ∀ i j, SpU N i → SpU N j → i ≠ j → skn i ≠ skn j) (hr : SR S N w) : SqW X h skn w := by
  obtain ⟨⟨c1, c2, c3⟩, ⟨p1, p2, p3⟩, ⟨s4, s5, s6, s7, s8⟩, hwl, hd, hper⟩ := hr
  have lo : ∀ i, i < 7 → h (skn i) = some (spC X tp skn N i (S i)) := fun i hi => hat i (u_lo hi) (by omega)
  refine ⟨?_, ?_, ?_, ⟨S 3, lo 3 (by decide), hwl⟩, fun c hc => ?_, fun p hpp => ?_⟩
  · rw [lo 0 (by decide), ← s4, ← s5, ← s6, ← s7, ← s8]; rfl
  · rw [← c1]
    exact ⟨⟨S 1 0, lo 1 (by decide)⟩, hinj _ _ (u_lo (by decide)) (u_lo (by decide)) (by decide), ⟨_, lo 5 (by decide), fun i hi => if_pos hi⟩, c3, by decide⟩
  · rw [← p1]
    exact ⟨⟨S 2 0, lo 2 (by decide)⟩, hinj _ _ (u_lo (by decide)) (u_lo (by decide)) (by decide), ⟨_, lo 6 (by decide), fun i hi => if_pos hi⟩, p3, by decide⟩
  · rw [← c1] at hc
    have f := hd c hc
    refine ⟨S (20 + c) 2, ?_⟩
    unfold DlAt
    rw [hat _ (u_d hc) (by omega), spc_d (by omega), f 0 (by decide), f 1 (by decide), f 3 (by decide), f 4 (by decide), f 5 (by decide)]
    rfl
  · rw [← p1] at hpp
    obtain ⟨f1, ⟨f2, f3, f4⟩, ⟨f5, f6, f7⟩, f8, f9⟩ := hper p hpp
    have uh : ∀ i, i < nL w p → SpU N (80 + 4 * p + i) := fun i hi => u_h hpp p3 (by rw [f5]; exact hi) (by rw [f5]; exact f6)
    have up : ∀ b, (b = 30 ∨ b = 40 ∨ b = 50 ∨ b = 60 ∨ b = 70) → h (skn (b + p)) = some (spC X tp skn N (b + p) (S (b + p))) := fun b hb => hat _ (u_p hb hpp p3) (by omega)
    refine ⟨?_, ⟨⟨S (60 + p) 0, by rw [up 60 (by omega), spc_l (by omega), f5]⟩, hinj _ _ (u_p (by omega) hpp p3) (u_p (by omega) hpp p3) (by omega), ⟨_, by rw [up 70 (by omega), spc_e (by omega)], fun i hi => by rw [f5]; exact if_pos hi⟩, f6, by decide⟩, ⟨S (40 + p), by rw [up 40 (by omega), spc_a (by omega) (by omega)], fun k hk => (f8 k hk).1⟩, ⟨S (50 + p), by rw [up 50 (by omega), spc_a (by omega) (by omega)], fun k hk => (f8 k hk).2⟩, fun i hi => ?_, fun i j hi hj z => ?_⟩
    · rw [up 30 (by omega), spc_p (by omega), ← f1 0 (by decide), ← f1 1 (by decide), ← f1 2 (by decide), ← f2]
    · rw [hat _ (uh i hi) (by omega), spc_h (by omega) (by omega), f9 i hi]
    · apply Classical.byContradiction
      intro ne
      exact hinj _ _ (uh i hi) (uh j hj) (by omega) z
theorem sqat_of (hat : ∀ i, SpU N i → i ≠ 120 → h (skn i) = some (spC X tp skn N i (S i))) (hinj : ∀ i j, SpU N i → SpU N j → i ≠ j → skn i ≠ skn j) (hr : SR S N w) (hc : ∀ p, p < N 1 → RowC w (S (10 + p)) (spotF w p)) : SqAt X h skn w := by
  refine ⟨sqw_of hat hinj hr, ⟨_, hat 4 (u_lo (by decide)) (by decide), fun p hp8 => if_pos hp8⟩, fun p hpp => ?_⟩
  rw [← hr.2.1.1] at hpp
  have h8 := hr.2.1.2.2
  exact ⟨S (10 + p), by rw [hat _ (u_c (by omega)) (by omega), spc_c (by omega) (by omega)], hc p hpp⟩
theorem celK_sk0 {s : Nat → Nat} {k : Nat} (hk : k ≠ 0) {a : Nat → Int32} {b : Nat → Int64} : celK X ad (va_up sk 0 s) E k a b = celK X ad sk E k a b := by
  unfold celK
  split
  · rfl
  · unfold celO
    by_cases h50 : k < 50
    · rw [if_pos h50, if_pos h50]
      split <;> first | rfl | exact absurd rfl hk
    · rw [if_neg h50, if_neg h50]
/-- another square is there now -/
theorem CP.nsq (hp : CP X (ad, A, B, sk, sw, E) h) (hq : SP X (h, tp, T, skn, S, N) h3) (hr : SR S N w) (hc : ∀ p, p < N 1 → RowC w (S (10 + p)) (spotF w p)) : CP X (ad, A, B, va_up sk 0 skn, va_up sw 0 w, E) (va_up h3 (ad 0) (some (.inr (0, fsX0 ad A (va_up sk 0 skn))))) := by
  obtain ⟨g0, g1, g2, hz, g3, g4, g5⟩ := id hp
  dsimp only at g1 g2 g3 g4 g5
  have l3 : hle h h3 := hq.2.2.2.1
  have u0 : Use E 0 := use_of (X := X) (ad := ad) (sk := sk) (a := A 0) (b := B 0) rfl
  have so : ∀ k, Use E k → ∃ e, h (ad k) = some e := fun k hu => hp.some_ hu
  have nsk : ∀ i k, SpU N i → Use E k → skn i ≠ ad k := fun i k ui uk y => by
    obtain ⟨e, he⟩ := so k uk
    have : h (skn i) = none := hq.2.2.2.2.1 i ui
    rw [y, he] at this; cases this
  obtain ⟨hn, t1, t2⟩ : ∃ hn : AH, (∀ z, (∃ k, Use E k ∧ z = ad k) → hn z = none) ∧ ∀ z, ¬ (∃ k, Use E k ∧ z = ad k) → hn z = h3 z := ⟨fun z => @ite _ (∃ k, Use E k ∧ z = ad k) (Classical.propDecidable _) none (h3 z), fun z y => if_pos y, fun z y => if_neg y⟩
  refine ⟨g0, fun k e he => ?_, g2, hn, fun z e he => ?_, fun k uk => ?_, fun j hj => ?_⟩
  · have he : celK X ad (va_up sk 0 skn) E k (A k) (B k) = some e := he
    show va_up h3 (ad 0) _ (ad k) = some e
    by_cases y : k = 0
    · subst y
      rw [va_up_self]
      cases he
      rfl
    · have uk : Use E k := use_of he
      rw [celK_sk0 y] at he
      rw [va_up_ne _ _ (fun z => y (g2 k 0 uk u0 z))]
      exact l3 _ _ (g1 k e he)
  · by_cases y : ∃ k, Use E k ∧ z = ad k
    · rw [t1 z y] at he; cases he
    · rw [t2 z y] at he
      show va_up h3 (ad 0) _ z = some e
      rw [va_up_ne _ _ (fun w => y ⟨0, u0, w⟩)]
      exact he
  · exact t1 _ ⟨k, uk, rfl⟩
  · by_cases y : j = 0
    · subst y
      show SqAt X _ (va_up sk 0 skn 0) (va_up sw 0 w 0)
      rw [va_up_self, va_up_self]
      refine sqat_of (tp := tp) (S := S) (fun i ui _ => ?_) (fun i j ui uj ne => hq.inj ui uj ne) hr hc
      rw [t2 _ (fun ⟨k, uk, e⟩ => nsk i k ui uk e)]
      exact hq.at ui
    · show SqAt X _ (va_up sk 0 skn j) (va_up sw 0 w j)
      rw [va_up_ne _ _ y, va_up_ne _ _ y]
      refine (g5 j hj).mono (fun z e he => ?_)
      rw [t2 _ (fun ⟨k, uk, e'⟩ => by rw [e', g4 k uk] at he; cases he)]
      exact l3 _ _ (g3 z e he)
theorem CP.le (hp : CP X (ad, A, B, sk, sw, E) h) (hl : hle h h3) : CP X (ad, A, B, sk, sw, E) h3 := by
  obtain ⟨g0, g1, g2, hz, g3, g4, g5⟩ := hp
  exact ⟨g0, fun k e he => hl _ _ (g1 k e he), g2, hz, fun z e he => hl _ _ (g3 z e he), g4, g5⟩
theorem SR.zero (hS : ∀ i, i ≠ 120 → S i = fun _ => 0) (hz : Zero w) : SR S (fun _ => 0) w := by
  have z : ∀ j, j < 320 → w j = nI 0 := hz
  have z0 : (nI 0).toNatClampNeg = 0 := nI_clamp (by decide)
  refine ⟨⟨by unfold nC; rw [z 1 (by decide), z0], z 1 (by decide), by decide⟩, ⟨by unfold nP; rw [z 2 (by decide), z0], z 2 (by decide), by decide⟩, ⟨by rw [hS 0 (by decide), z 4 (by decide)]; rfl, by rw [hS 0 (by decide), z 5 (by decide)]; rfl, by rw [hS 0 (by decide), z 6 (by decide)]; rfl, by rw [hS 0 (by decide), z 0 (by decide)]; rfl, by rw [hS 0 (by decide), z 3 (by decide)]; rfl⟩, fun a b _ _ => ?_, fun c hc => absurd hc (Nat.not_lt_zero _), fun p hp => absurd hp (Nat.not_lt_zero _)⟩
  have : nW w = 0 := by unfold nW; rw [z 0 (by decide), z0]
  rw [hS 3 (by decide), this]; rfl
/-- the component, and its clocks' paces as they were read -/
def CPD (X : Cx) (x : Cv) (h : AH) : Prop := CP X x h ∧ ∀ c, c < nC (x.2.2.2.2.1 0) → h (x.2.2.2.1 0 (20 + c)) = some (.inr (7, [.int (x.2.2.2.2.1 0 (32 + 6 * c)), .int (x.2.2.2.2.1 0 (32 + 6 * c + 1)), .int (x.2.2.2.2.1 0 (32 + 6 * c + 2)), .int (x.2.2.2.2.1 0 (32 + 6 * c + 3)), .int (x.2.2.2.2.1 0 (32 + 6 * c + 4)), .int (x.2.2.2.2.1 0 (32 + 6 * c + 5))])) ∧ x.2.2.2.1 0 (20 + c) ≠ x.1 2
end SqA
section SqB
variable {X : Cx} {M : MD} {R : Room} {Z : ZT} {k n pc idx : Nat} {L : List (Option Value)} {st : List Value} {ad : Nat → Nat} {A : Nat → Nat → Int32} {B : Nat → Nat → Int64} {sk : Nat → Nat → Nat} {sw : Nat → Nat → Int32} {E : Nat → Nat}
theorem sd_now (hl : Cond.fieldLink M.y.cls idx (TX0 1).1 (TX0 1).2.1 (TX0 1).2.2.1 ∈ lw_all) (hd : decode M.cc pc = .ok (.getfield idx, 3)) (kk : JS CPD X M R Z k n (pc + 3) L (.ref (sk 0 0) :: st) (ad, A, B, sk, sw, E)) : JS CPD X M R Z k n pc L (.ref (ad 0) :: st) (ad, A, B, sk, sw, E) := fun h hp => J.getf (f := 1) clsX0 rfl (hp.1.at 0 rfl) (by decide) rfl hl hd (kk _ hp)
theorem sd_pcs (hl : Cond.fieldLink M.y.cls idx (TX0 2).1 (TX0 2).2.1 (TX0 2).2.2.1 ∈ lw_all) (hd : decode M.cc pc = .ok (.getfield idx, 3)) (kk : JS CPD X M R Z k n (pc + 3) L (.ref (ad 2) :: st) (ad, A, B, sk, sw, E)) : JS CPD X M R Z k n pc L (.ref (ad 0) :: st) (ad, A, B, sk, sw, E) := fun h hp => J.getf (f := 2) clsX0 rfl (hp.1.at 0 rfl) (by decide) rfl hl hd (kk _ hp)
theorem sd_cl {host : String} (hl : Cond.fieldLinkNest M.y.cls idx (TX2 0).1 (TX2 0).2.1 (TX2 0).2.2.1 host ∈ nwL) (hd : decode M.cc pc = .ok (.getfield idx, 3)) (kk : JS CPD X M R Z k n (pc + 3) L (.ref (sk 0 1) :: st) (ad, A, B, sk, sw, E)) : JS CPD X M R Z k n pc L (.ref (sk 0 0) :: st) (ad, A, B, sk, sw, E) := fun h hp => J.getfN (f := 0) hp.1.1.1 clsX2 rfl (hp.1.sq (j := 0) (Or.inl rfl)).1.1 (by decide) rfl hl hd (kk _ hp)
theorem sd_size {cnt : Nat} (hd : decode M.cc pc = .ok (.invokeinterface idx cnt, 5)) (hG : GoodIn lw_all (va_wsF M.y.cls idx RJ2 xSize yJ2_size (ws_ yJ2_size cJ2_size 1 (Option.some .int)))) (hR : 2 ≤ M.lv) (hst : wt8 st = true) (kk : JS CPD X M R Z k n (pc + 5) L (.int (nI (nC (sw 0))) :: st) (ad, A, B, sk, sw, E)) : JS CPD X M R Z k n pc L (.ref (sk 0 1) :: st) (ad, A, B, sk, sw, E) := fun h hp => J.lsize hp.1.1.1 (hp.1.sq (j := 0) (Or.inl rfl)).1.2.1 hd hG hR hst (kk _ hp)
theorem sd_get {cnt i : Nat} (hi : i < nC (sw 0)) (hd : decode M.cc pc = .ok (.invokeinterface idx cnt, 5)) (hG : GoodIn lw_all (va_wsF M.y.cls idx RJ2 xGet yJ2_get (ws_ yJ2_get cJ2_get 2 (Option.some (.object "java/lang/Object"))))) (hR : 4 ≤ M.lv) (hst : wt8 st = true) (kk : JS CPD X M R Z k n (pc + 5) L (.ref (sk 0 (20 + i)) :: st) (ad, A, B, sk, sw, E)) : JS CPD X M R Z k n pc L (.int (nI i) :: .ref (sk 0 1) :: st) (ad, A, B, sk, sw, E) := fun h hp => J.lget hp.1.1.1 (hp.1.sq (j := 0) (Or.inl rfl)).1.2.1 hi hd hG hR hst (kk _ hp)
theorem sd_cast {i : Nat} (hi : i < nC (sw 0)) (hl : Cond.classLink M.y.cls idx RX7 ∈ lw_all) (hd : decode M.cc pc = .ok (.checkcast idx, 3)) (kk : JS CPD X M R Z k n (pc + 3) L (.ref (sk 0 (20 + i)) :: st) (ad, A, B, sk, sw, E)) : JS CPD X M R Z k n pc L (.ref (sk 0 (20 + i)) :: st) (ad, A, B, sk, sw, E) := fun h hp => J.castS (ci := 7) (hp.2 i hi).1 rfl hl hd (kk _ hp)
theorem sd_pace {host : String} {i : Nat} (hi : i < nC (sw 0)) (hl : Cond.fieldLinkNest M.y.cls idx (TX7 2).1 (TX7 2).2.1 (TX7 2).2.2.1 host ∈ nwL) (hd : decode M.cc pc = .ok (.getfield idx, 3)) (kk : JS CPD X M R Z k n (pc + 3) L (.int (sw 0 (32 + 6 * i + 2)) :: st) (ad, A, B, sk, sw, E)) : JS CPD X M R Z k n pc L (.ref (sk 0 (20 + i)) :: st) (ad, A, B, sk, sw, E) := fun h hp => J.getfN (f := 2) hp.1.1.1 clsX7 rfl (hp.2 i hi).1 (by decide) rfl hl hd (kk _ hp)
theorem sd_st {i : Nat} {v : Int32} (hi : i < 4) (hd : decode M.cc pc = .ok (.iastore, 1)) (kk : JS CPD X M R Z k n (pc + 1) L st (ad, upA A 2 i v, B, sk, sw, E)) : JS CPD X M R Z k n pc L (.int v :: .int (nI i) :: .ref (ad 2) :: st) (ad, A, B, sk, sw, E) := fun h hp => by
  have h2 : h (ad 2) = some (.inl (X.dA 0, 4, .inl (A 2))) := hp.1.at 2 rfl
  refine J.iast h2 (vp_in_nI (by omega) (by decide)) hd ?_
  rw [nI_clamp (by omega)]
  refine kk _ ⟨hp.1.upd (k := 2) (A' := upA A 2 i v) (fun j hj => upA_ne hj) (fun j _ => rfl) (by rw [upA_s]; rfl), fun c hc => ⟨?_, (hp.2 c hc).2⟩⟩
  show va_up h (ad 2) _ (sk 0 (20 + c)) = _
  rw [va_up_ne _ _ (hp.2 c hc).2]
  exact (hp.2 c hc).1
end SqB
