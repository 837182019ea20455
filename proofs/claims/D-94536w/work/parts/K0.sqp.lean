set_option maxRecDepth 100000
/-! ===== a reader and the square that it fills: one picture by numbers ===== -/
abbrev SPv : Type := AH × Nat × (Nat → Int32) × (Nat → Nat) × (Nat → Nat → Int32) × (Nat → Nat)
def hbL (kd : Nat) (f : Nat → Int32) : va_E := match kd with
  | 0 => .inr (10, [.int (f 0)])
  | 1 => .inr (11, [.int (f 0), .int (f 1), .int (f 2)])
  | 2 => .inr (12, [.int (f 0), .int (f 1), .int (f 2)])
  | 3 => .inr (13, [.int (f 0), .int (f 1)])
  | 4 => .inr (14, [.int (f 0), .int (f 1)])
  | _ => .inr (15, [.int (f 0), .int (f 1)])
/-- the cell of a number -/
def spC (X : Cx) (tp : Nat) (sk : Nat → Nat) (N : Nat → Nat) (i : Nat) (a : Nat → Int32) : va_E :=
  if i < 7 then (match i with
    | 0 => .inr (2, [.ref (sk 1), .ref (sk 2), .ref (sk 3), .ref (sk 4), .int (a 4), .int (a 5), .int (a 6), .int (a 7), .int (a 8)])
    | 1 => .inr (9, [.int (a 0), .ref (sk 5), .int (nI (N 0))])
    | 2 => .inr (9, [.int (a 0), .ref (sk 6), .int (nI (N 1))])
    | 3 => .inl (X.dA 4, 400, .inl a)
    | 4 => rfA X 8 8 (fun j => if j < 8 then some (sk (10 + j)) else none)
    | 5 => rfA X 5 4 (fun j => if j < N 0 then some (sk (20 + j)) else none)
    | _ => rfA X 5 8 (fun j => if j < N 1 then some (sk (30 + j)) else none))
  else if i < 20 then .inl (X.dA 0, 40, .inl a)
  else if i < 30 then .inr (7, [.int (a 0), .int (a 1), .int (a 2), .int (a 3), .int (a 4), .int (a 5)])
  else if i < 40 then .inr (8, [.int (a 0), .int (a 1), .int (a 2), .ref (sk (i + 10)), .ref (sk (i + 20)), .ref (sk (i + 30)), .int (a 6)])
  else if i < 60 then .inl (X.dA 0, 6, .inl a)
  else if i < 70 then .inr (9, [.int (a 0), .ref (sk (i + 10)), .int (nI (N (i - 58)))])
  else if i < 80 then rfA X 5 4 (fun j => if j < N (i - 68) then some (sk (80 + 4 * (i - 70) + j)) else none)
  else if i < 120 then hbL (N i) a
  else .inr (5, rdF tp (sk 0) a)
/-- the numbers that are there -/
def SpU (N : Nat → Nat) (i : Nat) : Prop := i < 7 ∨ (10 ≤ i ∧ i < 18) ∨ (20 ≤ i ∧ i < 20 + N 0) ∨ (30 ≤ i ∧ i < 80 ∧ i % 10 < N 1) ∨ (80 ≤ i ∧ i < 112 ∧ (i - 80) / 4 < N 1 ∧ (i - 80) % 4 < N (2 + (i - 80) / 4)) ∨ i = 120
def SP (X : Cx) (x : SPv) (h : AH) : Prop :=
  (WkX X ∧ NewOK X) ∧ (∀ i, SpU x.2.2.2.2.2 i → h (x.2.2.2.1 i) = some (spC X x.2.1 x.2.2.2.1 x.2.2.2.2.2 i (x.2.2.2.2.1 i))) ∧ (∀ i j, SpU x.2.2.2.2.2 i → SpU x.2.2.2.2.2 j → x.2.2.2.1 i = x.2.2.2.1 j → i = j) ∧
  hle x.1 h ∧ (∀ i, SpU x.2.2.2.2.2 i → x.1 (x.2.2.2.1 i) = none) ∧ x.1 x.2.1 = some (.inl (X.dA 2, 2400, .inl x.2.2.1))
section SpA
variable {X : Cx} {hz h h' : AH} {tp : Nat} {T : Nat → Int32} {sk sk' : Nat → Nat} {S S' : Nat → Nat → Int32} {N N' : Nat → Nat} {D : Nat → Prop} {i : Nat}
theorem SP.at (hp : SP X (hz, tp, T, sk, S, N) h) (hu : SpU N i) : h (sk i) = some (spC X tp sk N i (S i)) := hp.2.1 i hu
theorem SP.chg (hp : SP X (hz, tp, T, sk, S, N) h) (hk : ∀ i, ¬ D i → SpU N' i → SpU N i ∧ sk' i = sk i ∧ spC X tp sk' N' i (S' i) = spC X tp sk N i (S i))
    (hd : ∀ i, D i → SpU N' i → h' (sk' i) = some (spC X tp sk' N' i (S' i))) (hf : ∀ i, D i → SpU N' i → h (sk' i) = none ∨ ∃ j, D j ∧ SpU N j ∧ sk' i = sk j)
    (hi : ∀ i j, D i → D j → SpU N' i → SpU N' j → sk' i = sk' j → i = j) (hh : ∀ z e, h z = some e → (∀ j, D j → SpU N j → z ≠ sk j) → h' z = some e) : SP X (hz, tp, T, sk', S', N') h' := by
  obtain ⟨g0, g1, g2, g3, g4, g5⟩ := hp
  dsimp only at g1 g2 g3 g4 g5
  have mix : ∀ k j, D k → ¬ D j → SpU N' k → SpU N' j → sk' k ≠ sk' j := by
    intro k j dk dj uk uj q
    obtain ⟨u, e, -⟩ := hk j dj uj
    rw [e] at q
    rcases hf k dk uk with z | ⟨i, di, ui, z⟩
    · rw [q, g1 j u] at z; cases z
    · exact dj ((g2 i j ui u (z.symm.trans q)) ▸ di)
  refine ⟨g0, fun i ui => ?_, fun k j uk uj q => ?_, fun z e he => ?_, fun k uk => ?_, g5⟩
  · show h' (sk' i) = some (spC X tp sk' N' i (S' i))
    by_cases di : D i
    · exact hd i di ui
    · obtain ⟨u, e, f⟩ := hk i di ui
      rw [f, e]
      exact hh _ _ (g1 i u) (fun j dj uj q => di ((g2 i j u uj q) ▸ dj))
  · have q : sk' k = sk' j := q
    by_cases dk : D k
    · by_cases dj : D j
      · exact hi k j dk dj uk uj q
      · exact absurd q (mix k j dk dj uk uj)
    · by_cases dj : D j
      · exact absurd q.symm (mix j k dj dk uj uk)
      · obtain ⟨u, e, -⟩ := hk k dk uk
        obtain ⟨u', e', -⟩ := hk j dj uj
        rw [e, e'] at q
        exact g2 k j u u' q
  · have he : hz z = some e := he
    refine hh z e (g3 z e he) (fun j _ uj q => ?_)
    rw [q, g4 j uj] at he; cases he
  · show hz (sk' k) = none
    by_cases dk : D k
    · rcases hf k dk uk with z | ⟨i, di, ui, z⟩
      · cases e : hz (sk' k) with
        | none => rfl
        | some c => rw [g3 _ _ e] at z; cases z
      · rw [z]; exact g4 i ui
    · obtain ⟨u, e, -⟩ := hk k dk uk
      rw [e]; exact g4 k u
theorem SP.upd (hp : SP X (hz, tp, T, sk, S, N) h) (hu : SpU N i) (hS : ∀ j, j ≠ i → S' j = S j) : SP X (hz, tp, T, sk, S', N) (va_up h (sk i) (some (spC X tp sk N i (S' i)))) := by
  refine hp.chg (D := fun k => k = i) (fun k dk uk => ⟨uk, rfl, by rw [hS k dk]⟩) (fun k dk _ => by subst dk; exact va_up_self _ _ _) (fun k dk uk => Or.inr ⟨k, dk, uk, rfl⟩) (fun k j dk dj _ _ _ => dk.trans dj.symm) (fun z e he hn => ?_)
  rw [va_up_ne _ _ (hn i rfl hu)]
  exact he
theorem SP.grow (hp : SP X (hz, tp, T, sk, S, N) h) {q : Nat} {e : va_E} (hq : h q = none) : SP X (hz, tp, T, sk, S, N) (va_up h q (some e)) :=
  hp.chg (D := fun _ => False) (fun _ _ uk => ⟨uk, rfl, rfl⟩) (fun _ d => d.elim) (fun _ d => d.elim) (fun _ _ d => d.elim) (fun z c hc _ => by rw [va_up_ne _ _ (fun y => by rw [y, hq] at hc; cases hc)]; exact hc)
theorem u_rd : SpU N 120 := Or.inr (Or.inr (Or.inr (Or.inr (Or.inr rfl))))
theorem u_lo (h : i < 7) : SpU N i := Or.inl h
/-- the reader alone -/
theorem SP.rp (hp : SP X (hz, tp, T, sk, S, N) h) : RP X (h, (sk 120, tp, sk 0), T, S 120) h := by
  have e := hp.at u_rd
  have h5 : hz tp = some (.inl (X.dA 2, 2400, .inl T)) := hp.2.2.2.2.2
  have h4 : hz (sk 120) = none := hp.2.2.2.2.1 120 u_rd
  have nt : tp ≠ sk 120 := fun z => by rw [← z, h5] at h4; cases h4
  refine ⟨?_, nt, hp.2.2.2.1 _ _ hp.2.2.2.2.2, hp.1.1⟩
  show h = va_up h (sk 120) (some (.inr (5, rdF tp (sk 0) (S 120))))
  rw [show (some (.inr (5, rdF tp (sk 0) (S 120))) : Option va_E) = h (sk 120) from e.symm, up_same]
theorem SP.ofRp {g : Nat → Int32} (hp : SP X (hz, tp, T, sk, S, N) h) (hr : RP X (h, (sk 120, tp, sk 0), T, g) h') : SP X (hz, tp, T, sk, va_up S 120 g, N) h' := by
  have := hp.upd (i := 120) (S' := va_up S 120 g) u_rd (fun j hj => va_up_ne _ _ hj)
  rw [va_up_self] at this
  rw [hr.1]
  exact this
end SpA
/-! contracts at this picture -/
/-- a fault comes out; the rest of the heap is as it was -/
def SQT (hz : AH) (QT : Int32 → Nat → Prop) (C : String) (a : Addr) (h' : AH) : Prop := C = RX6 ∧ ∃ k p, QT k p ∧ h' a = some (.inr (6, flV k (nI p))) ∧ hle hz h' ∧ hz a = none
def SPX (X : Cx) (M : MD) (mc ms : Nat) (av : List Value) (x : SPv) (Q : Option Value → SPv → Prop) (QT : Int32 → Nat → Prop) : Prop := ∀ h, SP X x h → CgX X M (.code M.y M.cc M.nL M.ret) (rmOf M.lv mc ms) av h (fun r h' => ∃ x', Q r x' ∧ SP X x' h') (SQT x.1 QT)
abbrev ZSX (X : Cx) (mc ms : Nat) (hz : AH) (Q : Option Value → SPv → Prop) (QT : Int32 → Nat → Prop) : ZT := ZX X mc ms (fun r h' => ∃ x', Q r x' ∧ SP X x' h') (SQT hz QT)
/-- a fault comes out of a method of the reader -/
def RQT (h0 : AH) (ra : Nat) (QF : Int32 → Nat → Prop) (C : String) (a : Addr) (h' : AH) : Prop := C = RX6 ∧ ∃ k p, QF k p ∧ h' a = some (.inr (6, flV k (nI p))) ∧ (∀ z e, z ≠ ra → h0 z = some e → h' z = some e) ∧ h0 a = none
def RPY (X : Cx) (M : MD) (mc ms : Nat) (av : List Value) (x : RPv) (Q : Option Value → RPv → Prop) (QF : Int32 → Nat → Prop) : Prop := ∀ h, RP X x h → CgX X M (.code M.y M.cc M.nL M.ret) (rmOf M.lv mc ms) av h (fun r h' => ∃ x', Q r x' ∧ RP X x' h') (RQT x.1 x.2.1.1 QF)
theorem FQ.rqt {X : Cx} {h0 h' : AH} {ra tp sq : Nat} {T : Nat → Int32} {QF : Int32 → Nat → Prop} {k : Int32} {p a : Nat} {x' : RPv} (hf : FQ h0 ra tp sq T k p a x') (hp : RP X x' h') (hq : QF k p) : RQT h0 ra QF RX6 a h' := by
  obtain ⟨g', rfl, ha, hne⟩ := hf
  refine ⟨rfl, k, p, hq, ?_, fun z e hz he => ?_, ha⟩
  · rw [hp.1]; show va_up (va_up h0 a _) ra _ a = _; rw [va_up_ne _ _ hne, va_up_self]
  · rw [hp.1]; show va_up (va_up h0 a _) ra _ z = _; rw [va_up_ne _ _ hz, va_up_ne _ _ (fun y => by rw [y, ha] at he; cases he)]; exact he
theorem RPX.toY {X : Cx} {M : MD} {mc ms : Nat} {av : List Value} {h0 : AH} {ra tp sq : Nat} {T g : Nat → Int32} {Q Q' : Option Value → RPv → Prop} {QT : Nat → RPv → Prop} {QF : Int32 → Nat → Prop} (hM : RPX X M mc ms av (h0, (ra, tp, sq), T, g) Q QT) (hq : ∀ r x', Q r x' → Q' r x') (ht : ∀ a x', QT a x' → ∃ k p, QF k p ∧ FQ h0 ra tp sq T k p a x') : RPY X M mc ms av (h0, (ra, tp, sq), T, g) Q' QF := by
  intro h hp
  refine (hM h hp).mono (fun r h' q => ?_) (fun C a h' q => ?_)
  · obtain ⟨x', q1, q2⟩ := q
    exact ⟨x', hq r x' q1, q2⟩
  · obtain ⟨rfl, x', q1, q2⟩ := q
    obtain ⟨k, p, q3, q4⟩ := ht a x' q1
    exact q4.rqt q2 q3
theorem SP.sqt {X : Cx} {hz h h' : AH} {tp : Nat} {T : Nat → Int32} {sk : Nat → Nat} {S : Nat → Nat → Int32} {N : Nat → Nat} {QF : Int32 → Nat → Prop} {C : String} {a : Addr} (hp : SP X (hz, tp, T, sk, S, N) h) (hq : RQT h (sk 120) QF C a h') : SQT hz QF C a h' := by
  obtain ⟨rfl, k, p, q1, q2, q3, q4⟩ := hq
  have h4 : hz (sk 120) = none := hp.2.2.2.2.1 120 u_rd
  refine ⟨rfl, k, p, q1, q2, fun z e he => ?_, ?_⟩
  · have hz1 := hp.2.2.2.1 z e he
    exact q3 z e (fun y => by rw [y, h4] at he; cases he) hz1
  · cases e : hz a with
    | none => rfl
    | some c => rw [hp.2.2.2.1 _ _ e] at q4; cases q4
section SpC
variable {X : Cx} {M M' : MD} {R : Room} {Z : ZT} {mc ms k n pc idx : Nat} {L : List (Option Value)} {st As : List Value} {av : List Value} {hz h : AH} {tp : Nat} {T : Nat → Int32} {sk : Nat → Nat} {S : Nat → Nat → Int32} {N : Nat → Nat} {Q : Option Value → SPv → Prop} {QT : Int32 → Nat → Prop} {x : SPv}
theorem SPX_start (pad : Nat) (hL : L = entL av ++ List.replicate pad none) (kk : JS SP X M (rmOf M.lv mc ms) (ZSX X mc ms x.1 Q QT) 0 0 0 L [] x) (hy : plainFor M.y = true := by first | exact plainFor_of_name (by decide) | decide +kernel) (hE : M.eh = noEH := by rfl) (hn : (lg_sl av).length ≤ M.nL := by exact Nat.le_of_ble_eq_true rfl) : SPX X M mc ms av x Q QT :=
  fun h hp => CgX.of0 hy hE pad hL hn ⟨Nat.le_refl _, Nat.le_refl _⟩ (kk h hp)
theorem sp_iret {v : Int32} (hd : decode M.cc pc = .ok (.ireturn, 1)) (hr : M.ret = some .int) (hq : Q (some (.int v)) x) (hk : k ≤ mc := by omega) (hn : n ≤ ms := by omega) : JS SP X M R (ZSX X mc ms hz Q QT) k n pc L [.int v] x := fun h hp => J.toX (J.iret hd hr hk hn ⟨_, rfl, x, hq, hp⟩)
theorem sp_vret (hd : decode M.cc pc = .ok (.return_, 1)) (hr : M.ret = none) (hq : Q none x) (hk : k ≤ mc := by omega) (hn : n ≤ ms := by omega) : JS SP X M R (ZSX X mc ms hz Q QT) k n pc L [] x := fun h hp => J.toX (J.vret hd hr hk hn ⟨_, rfl, x, hq, hp⟩)
theorem sp_aret {a : Nat} {rt : FieldType} (hd : decode M.cc pc = .ok (.areturn, 1)) (hr : M.ret = some rt) (hrt : (∃ n, rt = .object n) ∨ ∃ t, rt = .array t) (hq : Q (some (.ref a)) x) (hk : k ≤ mc := by omega) (hn : n ≤ ms := by omega) : JS SP X M R (ZSX X mc ms hz Q QT) k n pc L [.ref a] x := fun h hp => J.toX (J.aret hd hr hrt (Or.inr ⟨_, rfl⟩) hk hn ⟨_, rfl, x, hq, hp⟩)
theorem sp_out {C : String} {a : Addr} (hX : ThX X) (hE : M.eh = noEH) (hq : SQT hz QT C a h) (hk : k ≤ mc := by omega) (hn : n ≤ ms := by omega) : JT X M R (ZSX X mc ms hz Q QT) C a pc L h k n := JT.out (hh := []) hX (fun c hc => ehT_nil (by rw [hE] at hc; exact hc)) rfl hk hn hq
/-- the call of a small method of the reader that returns -/
theorem sp_rpc {nA : Nat} {Q' : Option Value → RPv → Prop} (hM : ∀ h, SP X (hz, tp, T, sk, S, N) h → RPC X M' (.ref (sk 120) :: As) (h, (sk 120, tp, sk 0), T, S 120) (fun r x' => Q' r x' ∧ ∃ g, x' = (h, (sk 120, tp, sk 0), T, g))) (hG : GoodIn lw_all (wsV M.y.cls idx RX5 M'.y (ws_ M'.y M'.cc M'.nL M'.ret))) (hd : decode M.cc pc = .ok (.invokevirtual idx, 3)) {st0 : List Value} (h0 : st0 = As.reverse ++ .ref (sk 120) :: st) (hy : hyS M' nA)
    (kk : ∀ r g h, Q' r (h, (sk 120, tp, sk 0), T, g) → JS SP X M R Z k n (pc + 3) L (r.toList ++ st) (hz, tp, T, sk, va_up S 120 g, N)) (hyc : M'.y.cls = RX5 := by rfl) (hA : As.length = nA := by rfl) (hR : M'.lv + 1 ≤ M.lv ∧ M'.nL ≤ 421 := by decide) (hst : wt8 st = true := by rfl) : JS SP X M R Z k n pc L st0 (hz, tp, T, sk, S, N) := by
  subst h0
  subst hA
  intro h hp p e s m args below meth c B rk
  refine J.callV (ci := 5) (q := (RX5, TX5, 7)) (mc := 0) (ms := 0) (hM h hp h hp.rp) (fun o h' q => by obtain ⟨r, x', e1, -⟩ := q; exact ⟨r, e1⟩) (hp.at u_rd) rfl hd hG ⟨hyc, hy.1, hy.2.1, hy.2.2⟩ hR ⟨rk.2.2.1, rk.2.2.2⟩ (Nat.le_of_ble_eq_true hst) (fun v h' q => ?_) p e s m args below meth c B rk
  obtain ⟨r, x', e1, ⟨q1, g, rfl⟩, q2⟩ := q
  cases e1
  exact kk _ g h q1 h' (hp.ofRp q2)
/-- the call of a small method of the reader that may throw -/
theorem sp_rpy {nA mc' ms' : Nat} {Q' : Option Value → RPv → Prop} {QF : Int32 → Nat → Prop} (hM : ∀ h, SP X (hz, tp, T, sk, S, N) h → RPY X M' mc' ms' (.ref (sk 120) :: As) (h, (sk 120, tp, sk 0), T, S 120) (fun r x' => Q' r x' ∧ ∃ g, x' = (h, (sk 120, tp, sk 0), T, g)) QF) (hlink : Cond.methodLink M.y.cls idx M'.y ∈ lw_all) (hinst : Cond.instanceMethod M'.y ∈ lw_all) (hsel : Cond.selects RX5 M'.y M'.y ∈ lw_all) (hcode : Cond.code M'.y M'.cc M'.nL M'.ret ∈ lw_all) (hd : decode M.cc pc = .ok (.invokevirtual idx, 3)) {st0 : List Value} (h0 : st0 = As.reverse ++ .ref (sk 120) :: st) (hy : hyS M' nA) (hf : k + mc' ≤ R.cells ∧ n + ms' ≤ R.slots)
    (kk : ∀ r g h, Q' r (h, (sk 120, tp, sk 0), T, g) → JS SP X M R Z (k + mc') (n + ms') (pc + 3) L (r.toList ++ st) (hz, tp, T, sk, va_up S 120 g, N)) (kt : ∀ a h', SQT hz QF RX6 a h' → JT X M R Z RX6 a pc L h' (k + mc') (n + ms')) (hyc : M'.y.cls = RX5 := by rfl) (hA : As.length = nA := by rfl) (hR : M'.lv + 1 ≤ M.lv ∧ M'.nL ≤ 421 := by decide) (hst : wt8 st = true := by rfl) : JS SP X M R Z k n pc L st0 (hz, tp, T, sk, S, N) := by
  subst h0
  subst hA
  intro h hp p e s m args below meth c B rk
  refine J.callX (ci := 5) (q := (RX5, TX5, 7)) (hM h hp h hp.rp) hcode (Or.inl rfl) (hp.at u_rd) rfl hd hlink hinst hsel (by rw [hyc]; exact q139) ⟨hy.1, hy.2.1, hy.2.2⟩ ⟨?_, ?_⟩ hf (Nat.le_of_ble_eq_true hst) (fun v h' q => ?_) (fun C a h' q => ?_) p e s m args below meth c B rk
  · show M'.lv + 1 ≤ R.frames
    exact Nat.le_trans hR.1 rk.1
  · show 8 + (M'.nL + 11) + 440 * M'.lv ≤ R.locals
    have := rk.2.1
    have := hR.1
    have := hR.2
    omega
  · obtain ⟨x', ⟨q1, g, rfl⟩, q2⟩ := q
    exact kk v g h q1 h' (hp.ofRp q2)
  · obtain ⟨rfl, -⟩ := id q
    exact kt a h' (hp.sqt q)
/-- the call of a method of this picture -/
theorem spx {nA mc' ms' : Nat} {Q' : Option Value → SPv → Prop} {QF : Int32 → Nat → Prop} (hM : SPX X M' mc' ms' (.ref (x.2.2.2.1 120) :: As) x Q' QF) (hlink : Cond.methodLink M.y.cls idx M'.y ∈ lw_all) (hinst : Cond.instanceMethod M'.y ∈ lw_all) (hsel : Cond.selects RX5 M'.y M'.y ∈ lw_all) (hcode : Cond.code M'.y M'.cc M'.nL M'.ret ∈ lw_all) (hd : decode M.cc pc = .ok (.invokevirtual idx, 3)) {st0 : List Value} (h0 : st0 = As.reverse ++ .ref (x.2.2.2.1 120) :: st) (hy : hyS M' nA) (hf : k + mc' ≤ R.cells ∧ n + ms' ≤ R.slots)
    (kk : ∀ r x', Q' r x' → JS SP X M R Z (k + mc') (n + ms') (pc + 3) L (r.toList ++ st) x') (kt : ∀ a h', SQT x.1 QF RX6 a h' → JT X M R Z RX6 a pc L h' (k + mc') (n + ms')) (hyc : M'.y.cls = RX5 := by rfl) (hA : As.length = nA := by rfl) (hR : M'.lv + 1 ≤ M.lv ∧ M'.nL ≤ 421 := by decide) (hst : wt8 st = true := by rfl) : JS SP X M R Z k n pc L st0 x := by
  subst h0
  subst hA
  obtain ⟨hz, tp, T, sk, S, N⟩ := x
  intro h hp p e s m args below meth c B rk
  refine J.callX (ci := 5) (q := (RX5, TX5, 7)) (hM h hp) hcode (Or.inl rfl) (hp.at u_rd) rfl hd hlink hinst hsel (by rw [hyc]; exact q139) ⟨hy.1, hy.2.1, hy.2.2⟩ ⟨?_, ?_⟩ hf (Nat.le_of_ble_eq_true hst) (fun v h' q => ?_) (fun C a h' q => ?_) p e s m args below meth c B rk
  · show M'.lv + 1 ≤ R.frames
    exact Nat.le_trans hR.1 rk.1
  · show 8 + (M'.nL + 11) + 440 * M'.lv ≤ R.locals
    have := rk.2.1
    have := hR.1
    have := hR.2
    omega
  · obtain ⟨x', q1, q2⟩ := q
    exact kk v x' q1 h' q2
  · obtain ⟨rfl, -⟩ := id q
    exact kt a h' q
theorem SQT.mono {QF QF' : Int32 → Nat → Prop} {C : String} {a : Addr} (hq : SQT hz QF C a h) (hi : ∀ k p, QF k p → QF' k p) : SQT hz QF' C a h := by
  obtain ⟨e, k, p, q1, q2⟩ := hq
  exact ⟨e, k, p, hi k p q1, q2⟩
end SpC
