set_option maxRecDepth 100000
/-! ===== UnseenClock: slots: write, row ===== -/
/-- a public method that may catch -/
def RX (X : Cx) (M : MD) (R : Room) (av : List Value) (x : Cv) (Q : Option Value → Cv → Prop) : Prop := ∀ h, CP X x h → CgX X M (.code M.y M.cc M.nL M.ret) R av h (fun r h' => ∃ x', Q r x' ∧ CP X x' h') (fun _ _ _ => False)
section RXs
variable {X : Cx} {M : MD} {R : Room} {av : List Value} {x : Cv} {Q : Option Value → Cv → Prop} {L : List (Option Value)}
theorem X_start (pad : Nat) (hL : L = entL av ++ List.replicate pad none) (k : JS CP X M R (ZC X R.cells R.slots Q) 0 0 0 L [] x) (hy : plainFor M.y = true := by first | exact plainFor_of_name (by decide) | decide +kernel) (hE : M.eh = noEH := by rfl) (hn : (lg_sl av).length ≤ M.nL := by exact Nat.le_of_ble_eq_true rfl) (hR : M.lv ≤ R.frames ∧ 440 * M.lv ≤ R.locals := by decide) : RX X M R av x Q := by
  intro h hp
  refine CgX.of0 hy hE pad hL hn hR (J.monoZ (fun below args s t hz => ?_) (k h hp))
  obtain ⟨o, h1, h2, ⟨h', ⟨r, x', rfl, hq, hc⟩, hw⟩, h4, h5⟩ := hz
  exact ⟨.returned r, h1, h2, ⟨h', ⟨x', hq, hc⟩, hw⟩, h4, h5⟩
theorem CgX.mono {cw : Cond} {h : AH} {Q1 Q2 : Option Value → AH → Prop} {T1 T2 : String → Addr → AH → Prop} (hC : CgX X M cw R av h Q1 T1) (hq : ∀ r h', Q1 r h' → Q2 r h') (ht : ∀ C a h', T1 C a h' → T2 C a h') : CgX X M cw R av h Q2 T2 := by
  refine MetFree.mono hC (fun _ _ z => z) (fun _ _ _ _ _ z => z) (fun a s o t _ hz => ⟨?_, hz.2⟩)
  cases o with
  | returned v => obtain ⟨h', q1, q2⟩ := hz.1; exact ⟨h', hq _ _ q1, q2⟩
  | threw b => obtain ⟨C, h', q1, q2⟩ := hz.1; exact ⟨C, h', ht _ _ _ q1, q2⟩
end RXs
section Chg
variable {X : Cx} {ad ad' : Nat → Nat} {A A' : Nat → Nat → Int32} {B B' : Nat → Nat → Int64} {sk sk' : Nat → Nat → Nat} {sw sw' : Nat → Nat → Int32} {E E' : Nat → Nat} {h h' : AH} {D : Nat → Prop}
/-- the picture, where some numbers get other cells -/
theorem CP.chg (hp : CP X (ad, A, B, sk, sw, E) h) (hk : ∀ k, ¬ D k → ad' k = ad k ∧ A' k = A k ∧ B' k = B k) (hc : ∀ k, ¬ D k → ∀ a b, celK X ad' sk' E' k a b = celK X ad sk E k a b)
    (hd : ∀ k, D k → ∀ e, celK X ad' sk' E' k (A' k) (B' k) = some e → h' (ad' k) = some e) (hf : ∀ k, D k → Use E' k → h (ad' k) = none ∨ ∃ j, D j ∧ Use E j ∧ ad' k = ad j)
    (hi : ∀ k j, D k → D j → Use E' k → Use E' j → ad' k = ad' j → k = j) (hh : ∀ z e, h z = some e → (∀ j, D j → Use E j → z ≠ ad j) → h' z = some e)
    (hs : ∀ j, SqL E' j → ∃ i, SqL E i ∧ sk' j = sk i ∧ sw' j = sw i) : CP X (ad', A', B', sk', sw', E') h' := by
  have us : ∀ k, ¬ D k → Use E' k → Use E k := fun k hn hu X0 ad0 sk0 a b => celK_is (X := X) (ad := ad) (sk := sk) (a := a) (b := b) (by rw [← hc k hn a b]; exact hu X ad' sk' a b)
  have so : ∀ k, Use E k → ∃ e, h (ad k) = some e := fun k hu => hp.some_ hu
  have mix : ∀ k j, D k → ¬ D j → Use E' k → Use E' j → ad' k ≠ ad' j := by
    intro k j dk dj uk uj q
    rw [(hk j dj).1] at q
    rcases hf k dk uk with z | ⟨i, di, ui, z⟩
    · obtain ⟨e, he⟩ := so j (us j dj uj)
      rw [q, he] at z; cases z
    · have := hp.2.2.1 i j ui (us j dj uj) (z.symm.trans q)
      exact dj (this ▸ di)
  obtain ⟨g0, g1, g2, hz, g3, g4, g5⟩ := hp
  refine ⟨g0, fun k e he => ?_, fun k j uk uj q => ?_, hz, fun z e he => ?_, fun k uk => ?_, fun j hj => ?_⟩
  · have he : celK X ad' sk' E' k (A' k) (B' k) = some e := he
    show h' (ad' k) = some e
    by_cases dk : D k
    · exact hd k dk e he
    · obtain ⟨e1, e2, e3⟩ := hk k dk
      rw [hc k dk, e2, e3] at he
      rw [e1]
      exact hh _ _ (g1 k e he) (fun j dj uj q => dk ((g2 k j (use_of he) uj q) ▸ dj))
  · by_cases dk : D k
    · by_cases dj : D j
      · exact hi k j dk dj uk uj q
      · exact absurd q (mix k j dk dj uk uj)
    · by_cases dj : D j
      · exact absurd q.symm (mix j k dj dk uj uk)
      · have q : ad' k = ad' j := q
        rw [(hk k dk).1, (hk j dj).1] at q
        exact g2 k j (us k dk uk) (us j dj uj) q
  · refine hh z e (g3 z e he) (fun j _ uj q => ?_)
    rw [q, g4 j uj] at he; cases he
  · show hz (ad' k) = none
    by_cases dk : D k
    · rcases hf k dk uk with z | ⟨i, di, ui, z⟩
      · cases e : hz (ad' k) with
        | none => rfl
        | some c => rw [g3 _ _ e] at z; cases z
      · rw [z]; exact g4 i ui
    · rw [(hk k dk).1]; exact g4 k (us k dk uk)
  · obtain ⟨i, q1, q2, q3⟩ := hs j hj
    show SqAt X hz (sk' j) (sw' j)
    rw [q2, q3]
    exact g5 i q1
end Chg
/-! what the slots hold -/
def hldO (X : Cx) (kd len : Nat) (a : Nat → Int32) (b : Nat → Int64) : Option va_E := match kd with
  | 1 => some (.inl (X.dA 2, len, .inl a))
  | 2 => some (.inl (X.dA 3, len, .inl a))
  | 3 => some (.inl (X.dA 0, len, .inl a))
  | 4 => some (.inl (X.dA 1, len, .inr (.inl b)))
  | _ => none
theorem hld_eq (X : Cx) (E : Nat → Nat) (s : Nat) (a : Nat → Int32) (b : Nat → Int64) : (match heldK (E (2 + s)) (E (6 + s)) with
  | some (n, t) => some (.inl (X.dA t, n, .inl a))
  | none => hlL X E s b) = hldO X (E (2 + s)) (E (6 + s)) a b := by
  unfold hlL
  generalize E (2 + s) = kd
  match kd with
  | 0 => rfl
  | 1 => rfl
  | 2 => rfl
  | 3 => rfl
  | 4 => rfl
  | n + 5 => show (if n + 5 = 4 then _ else none) = _; rw [if_neg (by omega)]; rfl
/-- a slot's number -/
def nbC (A : Nat → Nat → Int32) (B : Nat → Nat → Int64) (E : Nat → Nat) (s i : Nat) : Int64 := if E (2 + s) = 4 then B (14 + s) i else (A (14 + s) i).toInt64
/-- the slots are in order -/
def SlC (E : Nat → Nat) : Prop := ∀ s, s < 4 → E (2 + s) ≤ 4 ∧ E (6 + s) ≤ 60
def inB (i : Int32) (n : Nat) : Bool := !decide (i < 0) && decide (i.toNatClampNeg < n)
theorem inB_iff {i : Int32} {n : Nat} : vp_in i n ↔ inB i n = true := by
  unfold vp_in inB
  simp only [Bool.and_eq_true, Bool.not_eq_true', decide_eq_false_iff_not, decide_eq_true_eq, not_or, Nat.not_le]
def pwC (E : Nat → Nat) (s : Nat) (i : Int32) : Int32 := if E (2 + s) = 0 then -6 else if inB i (E (6 + s)) = true then nI 0 else -7
section Cut
theorem shlK (x : Int64) (k j : Nat) (hj : 0 < j) (hk : j + k = 64) (y : BitVec 64) (hy : ∀ i, i < 64 → y.getLsbD i = x.toBitVec.getLsbD (if i < j then i else j - 1)) : (x.toBitVec <<< k).sshiftRight k = y := by
  apply BitVec.eq_of_getLsbD_eq
  intro i hi
  rw [hy i hi]
  simp only [BitVec.getLsbD_sshiftRight, BitVec.getLsbD_shiftLeft, BitVec.msb_eq_getLsbD_last]
  by_cases h : i < j
  · rw [if_pos (by omega), if_pos h, decide_eq_true (by omega : k + i < 64), decide_eq_false (by omega : ¬ k + i < k), decide_eq_false (by omega : ¬ 64 ≤ i)]
    simp
  · rw [if_neg (by omega), if_neg h, decide_eq_false (by omega : ¬ 64 ≤ i), decide_eq_false (by omega : ¬ 64 - 1 < k)]
    have : 64 - 1 - k = j - 1 := by omega
    rw [this]
    simp
theorem sx_at {w n : Nat} (x : BitVec w) {i : Nat} (hi : i < n) : (x.signExtend n).getLsbD i = x.getLsbD (if i < w then i else w - 1) := by
  rw [BitVec.getLsbD_signExtend, decide_eq_true hi, Bool.true_and, BitVec.msb_eq_getLsbD_last]
  split <;> rfl
theorem sx_lo {w n : Nat} (x : BitVec w) {i : Nat} (hi : i < n) (hw : i < w) : (x.signExtend n).getLsbD i = x.getLsbD i := by rw [sx_at _ hi, if_pos hw]
theorem shl56 (x : Int64) : (x <<< (56 : Int64)) >>> (56 : Int64) = x.toInt32.toInt8.toInt32.toInt8.toInt32.toInt64 := by
  apply Int64.toBitVec_inj.1
  rw [Int64.toBitVec_shiftRight, Int64.toBitVec_shiftLeft]
  simp only [Int32.toBitVec_toInt64, Int8.toBitVec_toInt32, Int32.toBitVec_toInt8, Int64.toBitVec_toInt32]
  have e : ((56 : Int64).toBitVec.smod 64) = 56#64 := by decide
  rw [e]
  refine shlK x 56 8 (by omega) (by omega) _ (fun i hi => ?_)
  rw [sx_at _ hi]
  by_cases h : i < 8
  · rw [if_pos (by omega), if_pos h, sx_lo _ (by omega) h, sx_lo _ h (by omega), sx_lo _ (by omega) h, sx_lo _ h (by omega), sx_lo _ (by omega) (by omega)]
  · rw [if_neg h]
    have q : ∀ m, 7 ≤ m → m < 32 → ∀ y : BitVec 8, (y.signExtend 32).getLsbD m = y.getLsbD 7 := fun m h1 h2 y => by
      rw [sx_at _ h2]
      by_cases z : m < 8
      · rw [if_pos z]; congr 1; omega
      · rw [if_neg z]
    rw [q _ (by split <;> omega) (by split <;> omega), sx_lo _ (by omega) (by omega), q 7 (by omega) (by omega), sx_lo _ (by omega) (by omega), sx_lo _ (by omega) (by omega)]
theorem shl48 (x : Int64) : (x <<< (48 : Int64)) >>> (48 : Int64) = x.toInt32.toInt16.toInt32.toInt16.toInt32.toInt64 := by
  apply Int64.toBitVec_inj.1
  rw [Int64.toBitVec_shiftRight, Int64.toBitVec_shiftLeft]
  simp only [Int32.toBitVec_toInt64, Int16.toBitVec_toInt32, Int32.toBitVec_toInt16, Int64.toBitVec_toInt32]
  have e : ((48 : Int64).toBitVec.smod 64) = 48#64 := by decide
  rw [e]
  refine shlK x 48 16 (by omega) (by omega) _ (fun i hi => ?_)
  rw [sx_at _ hi]
  by_cases h : i < 16
  · rw [if_pos (by omega), if_pos h, sx_lo _ (by omega) h, sx_lo _ h (by omega), sx_lo _ (by omega) h, sx_lo _ h (by omega), sx_lo _ (by omega) (by omega)]
  · rw [if_neg h]
    have q : ∀ m, 15 ≤ m → m < 32 → ∀ y : BitVec 16, (y.signExtend 32).getLsbD m = y.getLsbD 15 := fun m h1 h2 y => by
      rw [sx_at _ h2]
      by_cases z : m < 16
      · rw [if_pos z]; congr 1; omega
      · rw [if_neg z]
    rw [q _ (by split <;> omega) (by split <;> omega), sx_lo _ (by omega) (by omega), q 15 (by omega) (by omega), sx_lo _ (by omega) (by omega), sx_lo _ (by omega) (by omega)]
theorem shl32 (x : Int64) : (x <<< (32 : Int64)) >>> (32 : Int64) = x.toInt32.toInt64 := by
  apply Int64.toBitVec_inj.1
  rw [Int64.toBitVec_shiftRight, Int64.toBitVec_shiftLeft]
  simp only [Int32.toBitVec_toInt64, Int64.toBitVec_toInt32]
  have e : ((32 : Int64).toBitVec.smod 64) = 32#64 := by decide
  rw [e]
  refine shlK x 32 32 (by omega) (by omega) _ (fun i hi => ?_)
  rw [sx_at _ hi, sx_lo _ (by split <;> omega) (by split <;> omega)]
theorem shl0 (x : Int64) : (x <<< (0 : Int64)) >>> (0 : Int64) = x := by
  apply Int64.toBitVec_inj.1
  rw [Int64.toBitVec_shiftRight, Int64.toBitVec_shiftLeft]
  have e : ((0 : Int64).toBitVec.smod 64) = 0#64 := by decide
  rw [e]
  refine shlK x 0 64 (by omega) (by omega) _ (fun i hi => ?_)
  rw [if_pos hi]
theorem cut_b (v : Int64) : cutL v (nI (1 - 1)) = (vp_nar .byte v.toInt32.toInt8.toInt32).toInt64 := by
  rw [vp_nar_byte]
  unfold cutL
  rw [show ((nI 64 - nI 8 <<< (nI (1 - 1) &&& 31)).toInt64 &&& 63) = 56 by decide +kernel]
  exact shl56 v
theorem cut_s (v : Int64) : cutL v (nI (2 - 1)) = (vp_nar .short v.toInt32.toInt16.toInt32).toInt64 := by
  rw [vp_nar_short]
  unfold cutL
  rw [show ((nI 64 - nI 8 <<< (nI (2 - 1) &&& 31)).toInt64 &&& 63) = 48 by decide +kernel]
  exact shl48 v
theorem cut_i (v : Int64) : cutL v (nI (3 - 1)) = v.toInt32.toInt64 := by
  unfold cutL
  rw [show ((nI 64 - nI 8 <<< (nI (3 - 1) &&& 31)).toInt64 &&& 63) = 32 by decide +kernel]
  exact shl32 v
theorem cut_l (v : Int64) : cutL v (nI (4 - 1)) = v := by
  unfold cutL
  rw [show ((nI 64 - nI 8 <<< (nI (4 - 1) &&& 31)).toInt64 &&& 63) = 0 by decide +kernel]
  exact shl0 v
end Cut
section Row0
variable {X : Cx} {ad ad' : Nat → Nat} {A A' : Nat → Nat → Int32} {B B' : Nat → Nat → Int64} {sk : Nat → Nat → Nat} {sw : Nat → Nat → Int32} {E E' : Nat → Nat} {h h' : AH} {k s : Nat} {i : Int32} {v : Int64}
theorem celK_slot (hs : s < 4) (a : Nat → Int32) (b : Nat → Int64) : celK X ad sk E (10 + s) a b = some (slO ad E s) := by
  match s, hs with
  | 0, _ => rfl
  | 1, _ => rfl
  | 2, _ => rfl
  | 3, _ => rfl
theorem celK_held (hs : s < 4) (a : Nat → Int32) (b : Nat → Int64) : celK X ad sk E (14 + s) a b = hldO X (E (2 + s)) (E (6 + s)) a b := by
  match s, hs with
  | 0, _ => exact hld_eq X E 0 a b
  | 1, _ => exact hld_eq X E 1 a b
  | 2, _ => exact hld_eq X E 2 a b
  | 3, _ => exact hld_eq X E 3 a b
theorem arrK_sl (hs : s < 4) (hE : ∀ j, j ≠ 2 + s → j ≠ 6 + s → E' j = E j) (h2 : k ≠ 14 + s) : arrK E' k = arrK E k := by
  have e0 : E' 0 = E 0 := hE 0 (by omega) (by omega)
  have q : (k - 100) / 3 < E' 0 ↔ (k - 100) / 3 < E 0 := by rw [e0]
  unfold arrK
  by_cases h50 : k < 50
  · rw [if_pos h50, if_pos h50]
    split <;> first | rfl | (simp (disch := omega) only [hE]; done)
  · rw [if_neg h50, if_neg h50, e0]
theorem celK_sl (hs : s < 4) (hE : ∀ j, j ≠ 2 + s → j ≠ 6 + s → E' j = E j) (hA : ∀ j, j ≠ 14 + s → ad' j = ad j) (h1 : k ≠ 10 + s) (h2 : k ≠ 14 + s) {a : Nat → Int32} {b : Nat → Int64} : celK X ad' sk E' k a b = celK X ad sk E k a b := by
  have e0 : E' 0 = E 0 := hE 0 (by omega) (by omega)
  have e1 : E' 1 = E 1 := hE 1 (by omega) (by omega)
  unfold celK
  rw [arrK_sl hs hE h2]
  split
  · rfl
  · unfold celO
    by_cases h50 : k < 50
    · rw [if_pos h50, if_pos h50]
      split <;> first
        | rfl
        | (simp (disch := omega) only [slO, hlL, imO, hA, hE]; done)
        | (rw [e1, e0]; refine congrArg some (congrArg (rfA X _ _) (funext fun i => ?_)); split <;> first | rfl | (rw [hA _ (by omega)]))
        | (refine congrArg some (congrArg (rfA X _ _) (funext fun i => ?_)); split <;> first | rfl | (rw [hA _ (by omega)]) | (rw [hE _ (by omega) (by omega)]; split <;> first | rfl | (rw [hA _ (by omega)])))
    · rw [if_neg h50, if_neg h50, e0]
      split
      · rename_i z
        rw [hA (k + 1) (by omega), hA (k + 2) (by omega)]
      · rfl
/-- a slot takes a new row -/
theorem CP.newRow (hp : CP X (ad, A, B, sk, sw, E) h) (hs : s < 4) {q kd N : Nat} (hq : h q = none) (hk : kd ≠ 0) {e : va_E} (he : hldO X kd N (fun _ => 0) (fun _ => 0) = some e) : CP X (va_up ad (14 + s) q, va_up A (14 + s) (fun _ => 0), va_up B (14 + s) (fun _ => 0), sk, sw, va_up (va_up E (2 + s) kd) (6 + s) N) (va_up (va_up h q (some e)) (ad (10 + s)) (some (.inr (1, [.ref q])))) := by
  have u10 : Use E (10 + s) := fun _ _ _ _ _ => by rw [celK_slot hs]; rfl
  have hne : ad (10 + s) ≠ q := fun z => by obtain ⟨c, hc⟩ := hp.some_ u10; rw [z, hq] at hc; cases hc
  have eE : ∀ j, j ≠ 2 + s → j ≠ 6 + s → va_up (va_up E (2 + s) kd) (6 + s) N j = E j := fun j a b => by rw [va_up_ne _ _ b, va_up_ne _ _ a]
  have e2 : va_up (va_up E (2 + s) kd) (6 + s) N (2 + s) = kd := by rw [va_up_ne _ _ (by omega), va_up_self]
  have e6 : va_up (va_up E (2 + s) kd) (6 + s) N (6 + s) = N := va_up_self _ _ _
  refine hp.chg (D := fun k => k = 10 + s ∨ k = 14 + s) (fun k dk => ?_) (fun k dk a b => ?_) (fun k dk c hc => ?_) (fun k dk uk => ?_) (fun k j dk dj _ _ z => ?_) (fun z c hc hn => ?_) (fun j hj => ⟨j, ?_, rfl, rfl⟩)
  · exact ⟨va_up_ne _ _ (fun z => dk (Or.inr z)), va_up_ne _ _ (fun z => dk (Or.inr z)), va_up_ne _ _ (fun z => dk (Or.inr z))⟩
  · exact celK_sl hs eE (fun j hj => va_up_ne _ _ hj) (fun z => dk (Or.inl z)) (fun z => dk (Or.inr z))
  · rcases dk with rfl | rfl
    · rw [celK_slot hs] at hc
      cases hc
      rw [show va_up ad (14 + s) q (10 + s) = ad (10 + s) from va_up_ne _ _ (by omega), va_up_self, slO, e2, if_neg hk, va_up_self]
    · rw [celK_held hs, e2, e6, va_up_self, va_up_self, he] at hc
      cases hc
      rw [va_up_self, va_up_ne _ _ (fun z => hne z.symm), va_up_self]
  · rcases dk with rfl | rfl
    · exact Or.inr ⟨10 + s, Or.inl rfl, u10, va_up_ne _ _ (by omega)⟩
    · exact Or.inl (by rw [va_up_self]; exact hq)
  · rcases dk with rfl | rfl <;> rcases dj with rfl | rfl
    · rfl
    · rw [va_up_ne _ _ (by omega), va_up_self] at z; exact absurd z hne
    · rw [va_up_self, va_up_ne _ _ (by omega)] at z; exact absurd z.symm hne
    · rfl
  · rw [va_up_ne _ _ (hn (10 + s) (Or.inl rfl) u10), va_up_ne _ _ (fun y => by rw [y, hq] at hc; cases hc)]
    exact hc
  · rcases hj with q | q | q
    · exact Or.inl q
    · exact Or.inr (Or.inl ⟨q.1, by rw [← q.2]; exact (eE 20 (by omega) (by omega)).symm⟩)
    · exact Or.inr (Or.inr ⟨q.1, q.2.1, by rw [← q.2.2]; exact (eE (8 + j) (by omega) (by omega)).symm⟩)
theorem CP.held (hp : CP X (ad, A, B, sk, sw, E) h) (hs : s < 4) {e : va_E} (he : hldO X (E (2 + s)) (E (6 + s)) (A (14 + s)) (B (14 + s)) = some e) : h (ad (14 + s)) = some e := hp.at (14 + s) (by rw [← he]; exact celK_held hs _ _)
def QWr (ad : Nat → Nat) (A : Nat → Nat → Int32) (B : Nat → Nat → Int64) (sk : Nat → Nat → Nat) (sw : Nat → Nat → Int32) (E : Nat → Nat) (s : Nat) (i : Int32) (v : Int64) (r : Option Value) (x' : Cv) : Prop := r = some (.int (pwC E s i)) ∧ ∃ A' B', x' = (ad, A', B', sk, sw, E) ∧ (∀ j, j ≠ 14 + s → A' j = A j ∧ B' j = B j) ∧ ∀ j, nbC A' B' E s j = if pwC E s i = 0 ∧ j = i.toNatClampNeg then cutL v (nI (E (2 + s) - 1)) else nbC A B E s j
end Row0
