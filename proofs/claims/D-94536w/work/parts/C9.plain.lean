set_option maxRecDepth 100000
/-! ===== UnseenClock: the plain course; what is kept ===== -/
/-- the component's course by a function of the minutes -/
def CrsC (A' : Nat → Nat → Int32) (v : Nat → Nat) (cf : CF) (rs : Nat → RS) : Prop :=
  A' 3 14 = nI (rs (v 6)).on ∧ (∀ i, i < (rs (v 6)).on → A' 35 i = (rs (v 6)).od i) ∧ (rs (v 6)).on ≤ 32 * v 6 ∧ (∀ t, t ≤ v 6 → ∀ c, c < v 1 → A' (64 + c) t = (rs t).pt c) ∧ (∀ t, t ≤ v 6 → ∀ c, c < v 1 → A' (60 + c) t = shW cf.1 (rs t).pt c) ∧
  (∀ t, t < v 6 → ∀ p, p < v 2 → A' (50 + p) t = minL cf t (rs t) p) ∧ ∀ c, c < v 1 → A' 39 c = (rs (v 6)).kM c ∧ A' 40 c = (rs (v 6)).kL c
theorem GoC.crs {A A' : Nat → Nat → Int32} {B B' : Nat → Nat → Int64} {v : Nat → Nat} {cf cf' : CF} {od od' : Nat → Int32} {z : Int64} (hw : WOk cf.1 v) (hc : cfEq v cf cf') (h : GoC A A' B B' v cf (rsS cf od z)) : CrsC A' v cf' (rsS cf' od' z) := by
  have h40 := hw.sp40
  have h8 := hw.np8
  obtain ⟨⟨f1, f2, ⟨f3, f4, f5⟩, f6, f7, f8, f9, f10, f11, f12⟩, g⟩ := h
  have q := fun t (ht : t ≤ 40) => rsS_cg hw hc od od' z t ht
  have qm := q (v 6) h40
  refine ⟨by rw [f3, qm.2.2.1], fun i hi => ?_, by rw [← qm.2.2.1]; exact f5, fun t ht c hcc => ?_, fun t ht c hcc => ?_, fun t ht p hp => ?_, fun c hcc => ?_⟩
  · rw [f4]; exact qm.2.2.2.1 i (by rw [qm.2.2.1]; exact hi)
  · rw [f6 t ht c hcc]; exact ((q t (by omega)).1 c hcc).1
  · have e : A' (60 + c) t = shW cf.1 (rsS cf od z t).pt c := by
      by_cases e : t = v 6
      · subst e; exact g c hcc
      · exact f7 t (by omega) c hcc
    rw [e, hc.1]
    simp only [shW]
    rw [((q t (by omega)).1 c hcc).1]
  · have hon : (rsS cf od z t).on + 33 ≤ 2000 := by have := rsS_on cf od z t; omega
    rw [f8 t ht p hp]
    exact minL_cg hw hc (q t (by omega)) hon (by omega)
  · rw [(f9 c hcc).1, (f9 c hcc).2]; exact ⟨(qm.1 c hcc).2.1, (qm.1 c hcc).2.2.1⟩
theorem CrsC.z {A' : Nat → Nat → Int32} {v : Nat → Nat} {cf : CF} {od : Nat → Int32} {z z' : Int64} (hd : cf.2.2.2 = false) (h : CrsC A' v cf (rsS cf od z)) : CrsC A' v cf (rsS cf od z') := by
  obtain ⟨a1, a2, a3, a4, a5, a6, a7⟩ := h
  have q := rsS_z hd od z z'
  have eO : ∀ t, minO cf t (rsS cf od z t) = minO cf t (rsS cf od z' t) := fun t => by
    obtain ⟨-, -, -, b4, b5, b6, b7⟩ := q t
    simp only [minO, KS, b4, b5, b6, b7, hd, mbF_false]
  have eP : ∀ t, (rsS cf od z t).pt = (rsS cf od z' t).pt := fun t => (q t).1
  refine ⟨by rw [a1, (q _).2.2.2.2.2.1], fun i hi => ?_, by rw [← (q _).2.2.2.2.2.1]; exact a3, fun t ht c hc => ?_, fun t ht c hc => ?_, fun t ht p hp => ?_, fun c hc => ?_⟩
  · rw [← (q _).2.2.2.2.2.2]; exact a2 i (by rw [(q _).2.2.2.2.2.1]; exact hi)
  · rw [a4 t ht c hc, eP]
  · rw [a5 t ht c hc, eP]
  · rw [a6 t ht p hp]; simp only [minL, eO t]
  · rw [(a7 c hc).1, (a7 c hc).2]; exact ⟨congrFun (q _).2.1 c, congrFun (q _).2.2.1 c⟩
/-- what a question keeps, where no address changes -/
def KpX (A : Nat → Nat → Int32) (B : Nat → Nat → Int64) (sk : Nat → Nat → Nat) (sw : Nat → Nat → Int32) (E : Nat → Nat) (A' : Nat → Nat → Int32) (B' : Nat → Nat → Int64) (sk' : Nat → Nat → Nat) (sw' : Nat → Nat → Int32) (E' : Nat → Nat) : Prop :=
  (∀ j, j ≠ 3 → (j < 30 ∨ 78 ≤ j) → A' j = A j) ∧ (∀ j, j ≠ 3 → B' j = B j) ∧ (∀ j, j ≠ 1 → sk' j = sk j) ∧ (∀ j, j ≠ 1 → sw' j = sw j) ∧ (∀ q, q ≠ 20 → E' q = E q)
theorem KpX.rf {A : Nat → Nat → Int32} {B : Nat → Nat → Int64} {sk : Nat → Nat → Nat} {sw : Nat → Nat → Int32} {E : Nat → Nat} : KpX A B sk sw E A B sk sw E := ⟨fun _ _ _ => rfl, fun _ _ => rfl, fun _ _ => rfl, fun _ _ => rfl, fun _ _ => rfl⟩
theorem KpX.tr {A A1 A2 : Nat → Nat → Int32} {B B1 B2 : Nat → Nat → Int64} {sk sk1 sk2 : Nat → Nat → Nat} {sw sw1 sw2 : Nat → Nat → Int32} {E E1 E2 : Nat → Nat} (h : KpX A B sk sw E A1 B1 sk1 sw1 E1) (h' : KpX A1 B1 sk1 sw1 E1 A2 B2 sk2 sw2 E2) : KpX A B sk sw E A2 B2 sk2 sw2 E2 :=
  ⟨fun j a b => (h'.1 j a b).trans (h.1 j a b), fun j a => (h'.2.1 j a).trans (h.2.1 j a), fun j a => (h'.2.2.1 j a).trans (h.2.2.1 j a), fun j a => (h'.2.2.2.1 j a).trans (h.2.2.2.1 j a), fun j a => (h'.2.2.2.2 j a).trans (h.2.2.2.2 j a)⟩
/-- the world row of the component -/
def SX (w : Nat → Int32) (v : Nat → Nat) (A : Nat → Nat → Int32) (sw : Nat → Nat → Int32) : Prop := sw 0 = w ∧ WOk w v ∧ A 0 3 = w 7 ∧ ∀ c, c < v 1 → A 2 c = w (32 + 6 * c + 2)
theorem SX.kp {w : Nat → Int32} {v : Nat → Nat} {A A' : Nat → Nat → Int32} {B B' : Nat → Nat → Int64} {sk sk' : Nat → Nat → Nat} {sw sw' : Nat → Nat → Int32} {E E' : Nat → Nat} (h : SX w v A sw) (k : KpX A B sk sw E A' B' sk' sw' E') : SX w v A' sw' := by
  obtain ⟨a, b, c, d⟩ := h
  exact ⟨by rw [k.2.2.2.1 0 (by decide)]; exact a, b, by rw [k.1 0 (by decide) (by omega)]; exact c, fun q hq => by rw [k.1 2 (by decide) (by omega)]; exact d q hq⟩
/-- a contract of the component that keeps its addresses -/
def XC (X : Cx) (M : MD) (av : List Value) (ad : Nat → Nat) (A : Nat → Nat → Int32) (B : Nat → Nat → Int64) (sk : Nat → Nat → Nat) (sw : Nat → Nat → Int32) (E : Nat → Nat) (Q : Option Value → (Nat → Nat → Int32) → (Nat → Nat → Int64) → (Nat → Nat → Nat) → (Nat → Nat → Int32) → (Nat → Nat) → Prop) : Prop := RCc X M 0 0 av (ad, A, B, sk, sw, E) (fun r x' => ∃ A' B' sk' sw' E', x' = (ad, A', B', sk', sw', E') ∧ KpX A B sk sw E A' B' sk' sw' E' ∧ Q r A' B' sk' sw' E')
section XCs
variable {X : Cx} {M M' : MD} {R : Room} {Z : ZT} {k n pc idx : Nat} {L : List (Option Value)} {st As : List Value} {ad : Nat → Nat} {A : Nat → Nat → Int32} {B : Nat → Nat → Int64} {sk : Nat → Nat → Nat} {sw : Nat → Nat → Int32} {E : Nat → Nat} {Q : Option Value → (Nat → Nat → Int32) → (Nat → Nat → Int64) → (Nat → Nat → Nat) → (Nat → Nat → Int32) → (Nat → Nat) → Prop} {w : Nat → Int32} {v : Nat → Nat}
theorem xq {b ci nA : Nat} {q : vw_C} (hM : XC X M' (.ref b :: As) ad A B sk sw E Q) (hrec : ∀ h, CP X (ad, A, B, sk, sw, E) h → ∃ fs, h b = some (.inr (ci, fs))) (hci : vwCl[ci]? = some q) (hG : GoodIn lw_all (wsV M.y.cls idx q.1 M'.y (ws_ M'.y M'.cc M'.nL M'.ret))) (hd : decode M.cc pc = .ok (.invokevirtual idx, 3)) {st0 : List Value} (h0 : st0 = As.reverse ++ .ref b :: st) (hy : hyS M' nA)
    (kk : ∀ r A' B' sk' sw' E', KpX A B sk sw E A' B' sk' sw' E' → Q r A' B' sk' sw' E' → JS CP X M R Z k n (pc + 3) L (r.toList ++ st) (ad, A', B', sk', sw', E')) (hyc : M'.y.cls = q.1 := by rfl) (hA : As.length = nA := by rfl) (hR : M'.lv + 1 ≤ M.lv ∧ M'.nL ≤ 421 := by decide) (hst : wt8 st = true := by rfl) : JS CP X M R Z k n pc L st0 (ad, A, B, sk, sw, E) := by
  refine cc0 hM hrec hci hG hd h0 (fun r x' q => ?_) hy hyc hA hR hst
  obtain ⟨A', B', sk', sw', E', rfl, q1, q2⟩ := q
  exact kk r A' B' sk' sw' E' q1 q2
/-- the course begins -/
theorem js_begins {w1 : Nat → Int32} {aw : Int32} (hw : WOk (sw 0) v) (hE : SqEq (sw 0) w1) (hG : GoodIn lw_all (wsV M.y.cls idx RX3 yX3_begins (ws_ yX3_begins cX3_begins 4 none))) (hd : decode M.cc pc = .ok (.invokevirtual idx, 3)) (hR : 3 ≤ M.lv) (hst : wt8 st = true)
    (kk : ∀ A' sk' sw' E', KpX A B sk sw E A' B sk' sw' E' → BegA A A' aw → sw' 1 = w1 → SqL E' 1 → JS CP X M R Z k n (pc + 3) L st (ad, A', B, sk', sw', E')) : JS CP X M R Z k n pc L (.int aw :: .ref (ad 2) :: .ref (sk 0 0) :: .ref (ad 3) :: st) (ad, A, B, sk, sw, E) := by
  refine cc0 (M' := mX3_begins) (nA := 3) (As := [.ref (sk 0 0), .ref (ad 2), .int aw]) (ok_begins hw hE) rec3 rfl hG hd rfl (fun r x' q => ?_) hy_X3_begins rfl rfl ⟨hR, by decide⟩ hst
  obtain ⟨rfl, A', rfl, hB⟩ := q
  refine kk A' _ _ _ ⟨fun j a b => hB.1 j a (by omega) (by omega), fun _ _ => rfl, fun j hj => va_up_ne _ _ hj, fun j hj => va_up_ne _ _ hj, fun q hq => va_up_ne _ _ hq⟩ hB (va_up_self _ _ _) (Or.inr (Or.inl ⟨rfl, va_up_self _ _ _⟩))
/-- the course goes -/
theorem js_goes (hO : CrO A sw E v) (hG : GoodIn lw_all (wsV M.y.cls idx RX3 yX3_goes (ws_ yX3_goes cX3_goes 3 none))) (hd : decode M.cc pc = .ok (.invokevirtual idx, 3)) (hR : 12 ≤ M.lv) (hst : wt8 st = true)
    (kk : ∀ A' B', KpX A B sk sw E A' B' sk sw E → GoC A A' B B' v (cfC A (sw 1)) (rsS (cfC A (sw 1)) (A 35) (B 3 17)) → JS CP X M R Z k n (pc + 3) L st (ad, A', B', sk, sw, E)) : JS CP X M R Z k n pc L (.ref (ad 3) :: st) (ad, A, B, sk, sw, E) := by
  refine cq (M' := mX3_goes) (nA := 0) (As := []) (ok_goesC hO) rec3 rfl hG hd rfl hy_X3_goes (fun r A' B' q => ?_) rfl rfl ⟨hR, by decide⟩ hst
  obtain ⟨rfl, q⟩ := q
  refine kk A' B' ⟨fun j a b => q.1.1 j (by omega) (by omega) a (by omega) (by omega) (by omega) (by omega), fun j a => q.1.2.2.2.2.2.2.2.1 j a, fun _ _ => rfl, fun _ _ => rfl, fun _ _ => rfl⟩ q
/-- the course's world behind its begin -/
theorem BegA.cro {A1 : Nat → Nat → Int32} {sw1 : Nat → Nat → Int32} {E1 : Nat → Nat} {aw : Int32} {w1 : Nat → Int32} (h : BegA A A1 aw) (hs : SqL E1 1) (e1 : sw1 1 = w1) (hw1 : WOk w1 v) (h7 : w1 7 = aw) (hp : ∀ c, c < v 1 → A 2 c = w1 (32 + 6 * c + 2)) : CrO A1 sw1 E1 v := by
  have h4 := hw1.nc4
  refine ⟨hs, by rw [e1]; exact hw1, by rw [h.2.2.1, e1, h7], fun c hc => by rw [h.2.2.2.2.2.1 c (by omega), e1]; exact hp c hc⟩
theorem BegA.plain {A1 : Nat → Nat → Int32} {aw : Int32} (h : BegA A A1 aw) (h4 : v 1 ≤ 4) (w1 : Nat → Int32) : cfEq v (cfC A1 w1) (cfP w1) := by
  refine ⟨rfl, fun c hc => h.2.2.2.2.2.2 c (by omega), fun n hn => ?_, ?_⟩
  · show tkC A1 n = false
    simp only [tkC, h.2.2.2.1]
    rw [decide_eq_false (by rw [nI_ltI (by omega) (by omega)]; omega)]; rfl
  · show (!decide (A1 3 16 = 0)) = false
    rw [h.2.2.2.2.1]; decide
theorem SqEq.rf (w : Nat → Int32) : SqEq w w := fun _ _ _ _ => rfl
theorem bX0_plain_0 : Blk CP mX0_plain 0 16 [oAL 0, cR 0 4 3, oAL 0, cQ0, oAL 0, cR 0 2 2, oAL 0, cI 0 3] := blk_c (s_aload_n dX0_plain_0 rfl) <| blk_c (cgX0_4 (Or.inl q560) dX0_plain_1) <| blk_c (s_aload_n dX0_plain_4 rfl) <| blk_c (cgX0_1 (Or.inl q557) dX0_plain_5) <| blk_c (s_aload_n dX0_plain_8 rfl) <| blk_c (cgX0_2 (Or.inl q558) dX0_plain_9) <| blk_c (s_aload_n dX0_plain_12 rfl) <| blk_c (cgX0_3 (Or.inl q559) dX0_plain_13) <| blk_nil
theorem bX0_plain_19 : Blk CP mX0_plain 19 23 [oAL 0, cR 0 4 3] := blk_c (s_aload_n dX0_plain_19 rfl) <| blk_c (cgX0_4 (Or.inl q560) dX0_plain_20) <| blk_nil
theorem bX0_plain_26 : Blk CP mX0_plain 26 30 [oAL 0, cR 0 4 3] := blk_c (s_aload_n dX0_plain_26 rfl) <| blk_c (cgX0_4 (Or.inl q560) dX0_plain_27) <| blk_nil
theorem ok_plainC (hS : SX w v A sw) : XC X mX0_plain [.ref (ad 0)] ad A B sk sw E (fun r A' B' sk' sw' E' => r = some (.ref (ad 3)) ∧ CrsC A' v (cfP w) (rsP w) ∧ sw' 1 = w ∧ SqL E' 1) := by
  obtain ⟨e0, hw, e7, ep⟩ := hS
  refine C_start (L := [some (.ref (ad 0))]) 0 rfl ?_
  refine bX0_plain_0.go rfl (by repeat' first | exact trivial | rfl | assumption | omega | apply And.intro) ?_
  refine js_begins (w1 := w) (by rw [e0]; exact hw) (by rw [e0]; exact SqEq.rf w) (lw_V q1154 q1155 q1156 q137 q1157) dX0_plain_16 (by decide) rfl (fun A1 sk1 sw1 E1 k1 b1 e1 s1 => ?_)
  refine bX0_plain_19.go rfl (by repeat' first | exact trivial | rfl | assumption | omega | apply And.intro) ?_
  refine js_goes (b1.cro s1 e1 hw e7.symm ep) (lw_V q1188 q1189 q1190 q137 q1191) dX0_plain_23 (by decide) rfl (fun A2 B2 k2 g2 => ?_)
  refine bX0_plain_26.go rfl (by repeat' first | exact trivial | rfl | assumption | omega | apply And.intro) ?_
  refine c_aret dX0_plain_30 rfl (Or.inl ⟨_, rfl⟩) ⟨A2, B2, sk1, sw1, E1, rfl, k1.tr k2, rfl, ?_, e1, s1⟩
  rw [e1] at g2
  exact CrsC.z rfl (g2.crs (od' := fun _ => nI 0) hw (b1.plain hw.nc4 w))
end XCs
