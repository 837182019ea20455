set_option maxRecDepth 100000
/-! ===== the square that is filled: objects that are fresh, its lists; UnseenClock$Reader: clock ===== -/
section SpF
variable {X : Cx} {hz hz' h h' : AH} {tp : Nat} {T : Nat → Int32} {sk sk' : Nat → Nat} {S S' : Nat → Nat → Int32} {N N' : Nat → Nat} {D : Nat → Prop} {i q : Nat} {e c : va_E}
theorem SP.chg2 (hp : SP X (hz', tp, T, sk, S, N) h) (hzz : hle hz hz') (htp : hz tp = some (.inl (X.dA 2, 2400, .inl T))) (hk : ∀ i, ¬ D i → SpU N' i → SpU N i ∧ sk' i = sk i ∧ spC X tp sk' N' i (S' i) = spC X tp sk N i (S i))
    (hd : ∀ i, D i → SpU N' i → h' (sk' i) = some (spC X tp sk' N' i (S' i))) (hf : ∀ i, D i → SpU N' i → (hz (sk' i) = none ∧ ∀ j, SpU N j → sk' i ≠ sk j) ∨ ∃ j, D j ∧ SpU N j ∧ sk' i = sk j)
    (hi : ∀ i j, D i → D j → SpU N' i → SpU N' j → sk' i = sk' j → i = j) (hh : ∀ z e, h z = some e → (∀ j, D j → SpU N j → z ≠ sk j) → (∀ j, D j → SpU N' j → z ≠ sk' j) → h' z = some e) : SP X (hz, tp, T, sk', S', N') h' := by
  obtain ⟨g0, g1, g2, g3, g4, g5⟩ := hp
  dsimp only at g1 g2 g3 g4 g5
  have mix : ∀ k j, D k → ¬ D j → SpU N' k → SpU N' j → sk' k ≠ sk' j := by
    intro k j dk dj uk uj q
    obtain ⟨u, e, -⟩ := hk j dj uj
    rw [e] at q
    rcases hf k dk uk with z | ⟨i, di, ui, z⟩
    · exact z.2 j u q
    · exact dj ((g2 i j ui u (z.symm.trans q)) ▸ di)
  have hz4 : ∀ j, SpU N j → hz (sk j) = none := fun j uj => by
    cases e : hz (sk j) with
    | none => rfl
    | some c => exact absurd (g4 j uj) (by rw [hzz _ _ e]; simp)
  refine ⟨g0, fun i ui => ?_, fun k j uk uj q => ?_, fun z e he => ?_, fun k uk => ?_, htp⟩
  · show h' (sk' i) = some (spC X tp sk' N' i (S' i))
    by_cases di : D i
    · exact hd i di ui
    · obtain ⟨u, e, f⟩ := hk i di ui
      rw [f, e]
      exact hh _ _ (g1 i u) (fun j dj uj q => di ((g2 i j u uj q) ▸ dj)) (fun j dj uj q => mix j i dj di uj ui (by rw [e]; exact q.symm))
  · have q : sk' k = sk' j := q
    by_cases dk : D k
    · by_cases dj : D j
      · exact hi k j dk dj uk uj q
      · exact absurd q (mix k j dk dj uk uj)
    · by_cases dj : D j
      · exact absurd q.symm (mix j k dj dk uj uk)
      · obtain ⟨u, e, -⟩ := hk k dk uk
        obtain ⟨u', e', -⟩ := hk j dj uj
        rw [e, e'] at q
        exact g2 k j u u' q
  · have he : hz z = some e := he
    refine hh z e (g3 z e (hzz _ _ he)) (fun j _ uj q => ?_) (fun j dj uj q => ?_)
    · rw [q, hz4 j uj] at he; cases he
    · rcases hf j dj uj with y | ⟨i, di, ui, y⟩
      · rw [q, y.1] at he; cases he
      · rw [q, y, hz4 i ui] at he; cases he
  · show hz (sk' k) = none
    by_cases dk : D k
    · rcases hf k dk uk with z | ⟨i, di, ui, z⟩
      · exact z.1
      · rw [z]; exact hz4 i ui
    · obtain ⟨u, e, -⟩ := hk k dk uk
      rw [e]; exact hz4 k u
/-- a cell that is no part of the picture joins what is kept -/
theorem SP.frz (hp : SP X (hz, tp, T, sk, S, N) h) (hq : ∀ j, SpU N j → q ≠ sk j) (hqt : q ≠ tp) : SP X (va_up hz q (some e), tp, T, sk, S, N) (va_up h q (some e)) := by
  obtain ⟨g0, g1, g2, g3, g4, g5⟩ := hp
  dsimp only at g1 g2 g3 g4 g5
  refine ⟨g0, fun i u => ?_, g2, fun z c hz => ?_, fun i u => ?_, ?_⟩
  · show va_up h q (some e) (sk i) = _
    rw [va_up_ne _ _ (fun z => hq i u z.symm)]; exact g1 i u
  · have hz : va_up _ q (some e) z = some c := hz
    show va_up h q (some e) z = some c
    by_cases y : z = q
    · rw [y, va_up_self] at hz ⊢; exact hz
    · rw [va_up_ne _ _ y] at hz ⊢; exact g3 z c hz
  · show va_up hz q (some e) (sk i) = none
    rw [va_up_ne _ _ (fun z => hq i u z.symm)]; exact g4 i u
  · show va_up hz q (some e) tp = _
    rw [va_up_ne _ _ (fun z => hqt z.symm)]; exact g5
theorem SP.nsk (hp : SP X (hz, tp, T, sk, S, N) h) (hq : h q = none) : (∀ j, SpU N j → q ≠ sk j) ∧ q ≠ tp ∧ hz q = none := by
  refine ⟨fun j u z => ?_, fun z => ?_, ?_⟩
  · rw [z, hp.at u] at hq; cases hq
  · rw [z, hp.2.2.2.1 _ _ hp.2.2.2.2.2] at hq; cases hq
  · cases e : hz q with
    | none => rfl
    | some c => rw [hp.2.2.2.1 _ _ e] at hq; cases hq
theorem SP.frz0 (hp : SP X (hz, tp, T, sk, S, N) h) (hq : h q = none) : SP X (va_up hz q (some e), tp, T, sk, S, N) (va_up h q (some e)) := hp.frz (hp.nsk hq).1 (hp.nsk hq).2.1
theorem SP.nfz (hp : SP X (va_up hz q (some c), tp, T, sk, S, N) h) : h q = some c ∧ ∀ j, SpU N j → q ≠ sk j := by
  have h4 := hp.2.2.2.2.1
  refine ⟨hp.2.2.2.1 _ _ (va_up_self _ _ _), fun j u z => ?_⟩
  have : va_up hz q (some c) (sk j) = none := h4 j u
  rw [← z, va_up_self] at this
  cases this
/-- what is kept changes at a cell -/
theorem SP.frz1 (hp : SP X (va_up hz q (some c), tp, T, sk, S, N) h) (hqt : q ≠ tp) : SP X (va_up hz q (some e), tp, T, sk, S, N) (va_up h q (some e)) := by
  have := hp.frz (e := e) hp.nfz.2 hqt
  rw [up_up] at this
  exact this
theorem SQT.thaw {QF : Int32 → Nat → Prop} {C : String} {a : Addr} (hq : SQT (va_up hz q (some e)) QF C a h) (hn : hz q = none) : SQT hz QF C a h := by
  obtain ⟨q0, k, p, q1, q2, q3, q4⟩ := hq
  refine ⟨q0, k, p, q1, q2, fun z c hc => q3 z c ?_, ?_⟩
  · rw [va_up_ne _ _ (fun y => by rw [y, hn] at hc; cases hc)]; exact hc
  · by_cases y : a = q
    · rw [y]; exact hn
    · rw [va_up_ne _ _ y] at q4; exact q4
/-- cells that do not change, where numbers that were not there change -/
theorem spC_cg (hN0 : N 0 ≤ 4) (h8 : N 1 ≤ 8) (h4 : ∀ p, p < N 1 → N (2 + p) ≤ 4) (hs : ∀ j, SpU N j → sk' j = sk j) (h0 : i = 1 ∨ i = 5 → N' 0 = N 0) (h1 : i = 2 ∨ i = 6 → N' 1 = N 1) (h6 : ∀ p, i = 60 + p ∨ i = 70 + p → p < N 1 → N' (2 + p) = N (2 + p)) (hh : 80 ≤ i → i < 120 → N' i = N i) (hu : SpU N i) {a : Nat → Int32} : spC X tp sk' N' i a = spC X tp sk N i a := by
  have lo : ∀ j, j < 7 → sk' j = sk j := fun j hj => hs j (u_lo hj)
  have uc : ∀ j, j < 8 → sk' (10 + j) = sk (10 + j) := fun j hj => hs _ (Or.inr (Or.inl ⟨by omega, by omega⟩))
  rcases hu with hu | hu | hu | hu | hu | hu
  · have : i = 0 ∨ i = 1 ∨ i = 2 ∨ i = 3 ∨ i = 4 ∨ i = 5 ∨ i = 6 := by omega
    rcases this with rfl | rfl | rfl | rfl | rfl | rfl | rfl
    · show (.inr (2, [.ref (sk' 1), .ref (sk' 2), .ref (sk' 3), .ref (sk' 4), _, _, _, _, _]) : va_E) = .inr (2, [.ref (sk 1), .ref (sk 2), .ref (sk 3), .ref (sk 4), _, _, _, _, _])
      rw [lo 1 (by decide), lo 2 (by decide), lo 3 (by decide), lo 4 (by decide)]
    · show (.inr (9, [_, .ref (sk' 5), .int (nI (N' 0))]) : va_E) = .inr (9, [_, .ref (sk 5), .int (nI (N 0))])
      rw [lo 5 (by decide), h0 (by omega)]
    · show (.inr (9, [_, .ref (sk' 6), .int (nI (N' 1))]) : va_E) = .inr (9, [_, .ref (sk 6), .int (nI (N 1))])
      rw [lo 6 (by decide), h1 (by omega)]
    · rfl
    · show rfA X 8 8 (fun j => if j < 8 then some (sk' (10 + j)) else none) = rfA X 8 8 (fun j => if j < 8 then some (sk (10 + j)) else none)
      refine congrArg (rfA X 8 8) (funext fun j => ?_)
      by_cases hj : j < 8
      · rw [if_pos hj, if_pos hj, uc j hj]
      · rw [if_neg hj, if_neg hj]
    · show rfA X 5 4 (fun j => if j < N' 0 then some (sk' (20 + j)) else none) = rfA X 5 4 (fun j => if j < N 0 then some (sk (20 + j)) else none)
      rw [h0 (by omega)]
      refine congrArg (rfA X 5 4) (funext fun j => ?_)
      by_cases hj : j < N 0
      · rw [if_pos hj, if_pos hj, hs _ (u_d hj)]
      · rw [if_neg hj, if_neg hj]
    · show rfA X 5 8 (fun j => if j < N' 1 then some (sk' (30 + j)) else none) = rfA X 5 8 (fun j => if j < N 1 then some (sk (30 + j)) else none)
      rw [h1 (by omega)]
      refine congrArg (rfA X 5 8) (funext fun j => ?_)
      by_cases hj : j < N 1
      · rw [if_pos hj, if_pos hj, hs _ (u_p (by omega) hj h8)]
      · rw [if_neg hj, if_neg hj]
  · rw [spc_c hu.1 (by omega), spc_c hu.1 (by omega)]
  · obtain ⟨c, rfl⟩ : ∃ c, i = 20 + c := ⟨i - 20, by omega⟩
    unfold spC
    by_cases hc : c < 10
    · simp only [show ¬ 20 + c < 7 by omega, show ¬ 20 + c < 20 by omega, show 20 + c < 30 by omega, if_true, if_false]
    · exfalso; exact hc (by omega)
  · obtain ⟨u1, u2, u3⟩ := hu
    have : ∃ p, p < N 1 ∧ (i = 30 + p ∨ i = 40 + p ∨ i = 50 + p ∨ i = 60 + p ∨ i = 70 + p) := ⟨i % 10, u3, by omega⟩
    obtain ⟨p, hp, e⟩ := this
    have up : ∀ b, (b = 30 ∨ b = 40 ∨ b = 50 ∨ b = 60 ∨ b = 70) → sk' (b + p) = sk (b + p) := fun b hb => hs _ (u_p hb hp h8)
    rcases e with rfl | rfl | rfl | rfl | rfl
    · rw [spc_p (by omega), spc_p (by omega), up 40 (by omega), up 50 (by omega), up 60 (by omega)]
    · rw [spc_a (by omega) (by omega), spc_a (by omega) (by omega)]
    · rw [spc_a (by omega) (by omega), spc_a (by omega) (by omega)]
    · rw [spc_l (by omega), spc_l (by omega), up 70 (by omega), h6 p (by omega) hp]
    · rw [spc_e (by omega), spc_e (by omega), h6 p (by omega) hp]
      refine congrArg (rfA X 5 4) (funext fun j => ?_)
      by_cases hj : j < N (2 + p)
      · rw [if_pos hj, if_pos hj, hs _ (u_h hp h8 hj (h4 p hp))]
      · rw [if_neg hj, if_neg hj]
  · rw [spc_h hu.1 (by omega), spc_h hu.1 (by omega), hh hu.1 (by omega)]
  · subst hu
    show (.inr (5, rdF tp (sk' 0) a) : va_E) = .inr (5, rdF tp (sk 0) a)
    rw [lo 0 (by decide)]
/-- a list of what is filled -/
def LsN (l ed cap c b : Nat) (N : Nat → Nat) : Prop := (∀ X tp sk a, spC X tp sk N l a = .inr (9, [.int (a 0), .ref (sk ed), .int (nI (N c))])) ∧ (∀ X tp sk a, spC X tp sk N ed a = rfA X 5 cap (fun j => if j < N c then some (sk (b + j)) else none)) ∧ SpU N l ∧ SpU N ed ∧ ed ≠ l ∧ N c ≤ cap ∧ cap < 100
theorem lsn1 (h : N 0 ≤ 4) : LsN 1 5 4 0 20 N := ⟨fun _ _ _ _ => rfl, fun _ _ _ _ => rfl, u_lo (by decide), u_lo (by decide), by decide, h, by decide⟩
theorem lsn2 (h : N 1 ≤ 8) : LsN 2 6 8 1 30 N := ⟨fun _ _ _ _ => rfl, fun _ _ _ _ => rfl, u_lo (by decide), u_lo (by decide), by decide, h, by decide⟩
theorem lsnp {p : Nat} (hp : p < N 1) (h8 : N 1 ≤ 8) (h4 : N (2 + p) ≤ 4) : LsN (60 + p) (70 + p) 4 (2 + p) (80 + 4 * p) N := ⟨fun _ _ _ _ => spc_l (by omega), fun _ _ _ _ => spc_e (by omega), u_p (by omega) hp h8, u_p (by omega) hp h8, by omega, h4, by decide⟩
variable {l ed cap cc b : Nat}
theorem SP.ls (hp : SP X (hz, tp, T, sk, S, N) h) (hl : LsN l ed cap cc b N) : LsAt X h (sk l) (sk ed) cap (N cc) (fun j => sk (b + j)) := by
  obtain ⟨l1, l2, u1, u2, ne, le, lt⟩ := hl
  exact ⟨⟨S l 0, by rw [hp.at u1, l1]⟩, hp.inj u2 u1 ne, ⟨_, by rw [hp.at u2, l2], fun i hi => if_pos hi⟩, le, by omega⟩
theorem SP.ls9 (hp : SP X (hz, tp, T, sk, S, N) h) (hl : LsN l ed cap cc b N) : h (sk l) = some (.inr (9, [.int (S l 0), .ref (sk ed), .int (nI (N cc))])) ∧ h (sk ed) = some (rfA X 5 cap (fun j => if j < N cc then some (sk (b + j)) else none)) := by
  obtain ⟨l1, l2, u1, u2, -⟩ := hl
  exact ⟨by rw [hp.at u1, l1], by rw [hp.at u2, l2]⟩
end SpF
section SpL
variable {X : Cx} {M : MD} {R : Room} {Z : ZT} {k n pc idx cnt : Nat} {L : List (Option Value)} {st : List Value} {hz : AH} {tp : Nat} {T : Nat → Int32} {sk : Nat → Nat} {S : Nat → Nat → Int32} {N : Nat → Nat} {l ed cap cc b : Nat}
theorem sp_size (hl : LsN l ed cap cc b N) (hd : decode M.cc pc = .ok (.invokeinterface idx cnt, 5)) (hG : GoodIn lw_all (va_wsF M.y.cls idx RJ2 xSize mJ2_size.y (ws_ mJ2_size.y mJ2_size.cc mJ2_size.nL mJ2_size.ret))) (hR : mJ2_size.lv + 1 ≤ M.lv) (hst : wt8 st = true) (kk : JS SP X M R Z k n (pc + 5) L (.int (nI (N cc)) :: st) (hz, tp, T, sk, S, N)) : JS SP X M R Z k n pc L (.ref (sk l) :: st) (hz, tp, T, sk, S, N) := by
  intro h hp p e s m args below meth c B rk H locs ls hW hS hL
  refine J.callF (M' := mJ2_size) (x := xSize) (As := []) (mc := 0) (ms := 0) hp.1.1 (ok_size (hp.ls hl)) (fun o h' q => ⟨_, q.1⟩) (hp.ls9 hl).1 hd hG (List.mem_of_getElem? (i := 0) rfl) hy_xSize ⟨hR, by decide⟩ ⟨rk.2.2.1, rk.2.2.2⟩ (Nat.le_of_ble_eq_true hst) (fun v h' q => ?_) p e s m args below meth c B rk H locs ls hW hS hL
  obtain ⟨q1, rfl⟩ := q
  cases q1
  exact kk _ hp
theorem sp_get {i : Nat} (hl : LsN l ed cap cc b N) (hi : i < N cc) (hd : decode M.cc pc = .ok (.invokeinterface idx cnt, 5)) (hG : GoodIn lw_all (va_wsF M.y.cls idx RJ2 xGet mJ2_get.y (ws_ mJ2_get.y mJ2_get.cc mJ2_get.nL mJ2_get.ret))) (hR : mJ2_get.lv + 1 ≤ M.lv) (hst : wt8 st = true) (kk : JS SP X M R Z k n (pc + 5) L (.ref (sk (b + i)) :: st) (hz, tp, T, sk, S, N)) : JS SP X M R Z k n pc L (.int (nI i) :: .ref (sk l) :: st) (hz, tp, T, sk, S, N) := by
  intro h hp p e s m args below meth c B rk H locs ls hW hS hL
  refine J.callF (M' := mJ2_get) (x := xGet) (As := [.int (nI i)]) (mc := 0) (ms := 0) hp.1.1 (ok_get (hp.ls hl) hi) (fun o h' q => ⟨_, q.1⟩) (hp.ls9 hl).1 hd hG (List.mem_of_getElem? (i := 1) rfl) hy_xGet ⟨hR, by decide⟩ ⟨rk.2.2.1, rk.2.2.2⟩ (Nat.le_of_ble_eq_true hst) (fun v h' q => ?_) p e s m args below meth c B rk H locs ls hW hS hL
  obtain ⟨q1, rfl⟩ := q
  cases q1
  exact kk _ hp
end SpL
