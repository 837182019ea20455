set_option maxRecDepth 100000
/-! ===== UnseenClock$Course: eyes, is, takes, shows, steps ===== -/
theorem bit_or (a b : Int32) (k : Nat) : bitI (a ||| b) k = (bitI a k || bitI b k) := by
  have h1 : ∀ x y : Int32, (x ||| y) &&& nI 1 = (x &&& nI 1) ||| (y &&& nI 1) := fun x y => by
    apply Int32.toBitVec_inj.mp
    simp only [Int32.toBitVec_and, Int32.toBitVec_or]
    ext i
    simp [Bool.and_or_distrib_right]
  unfold bitI
  rw [Int32.shiftRight_or, h1]
  rcases and1_cases (a >>> (nI k &&& 31)) with h | h <;> rcases and1_cases (b >>> (nI k &&& 31)) with h' | h' <;> rw [h, h'] <;> decide
theorem bit_orP (f : Nat → Int32) (k : Nat) : ∀ n, bitI (orP f n) k = anyN (fun p => bitI (f p) k) n := by
  intro n
  induction n with
  | zero =>
    show bitI (nI 0) k = false
    have h0 : ∀ s : Int32, nI 0 >>> s = nI 0 := fun s => by
      apply Int32.toBitVec_inj.mp
      rw [Int32.toBitVec_shiftRight, show (nI 0).toBitVec = 0#32 from rfl]
      exact BitVec.zero_sshiftRight
    unfold bitI
    rw [h0]; decide
  | succ n ih => simp only [orP, anyN, bit_or, ih]
def cntN (g : Nat → Bool) : Nat → Nat
  | 0 => 0
  | n + 1 => cntN g n + (if g n = true then 1 else 0)
theorem cntN_le (g : Nat → Bool) : ∀ n, cntN g n ≤ n := by
  intro n
  induction n with
  | zero => exact Nat.le_refl _
  | succ n ih => simp only [cntN]; split <;> omega
theorem cntN_pos (g : Nat → Bool) : ∀ n, 0 < cntN g n ↔ anyN g n = true := by
  intro n
  induction n with
  | zero => simp [cntN, anyN]
  | succ n ih =>
    simp only [cntN, anyN, Bool.or_eq_true, ← ih]
    split
    · rename_i h; simp [h]
    · rename_i h; simp [h]
theorem sum_cnt (g : Nat → Bool) : ∀ n, sumI (fun p => b2 (g p)) n = nI (cntN g n) := by
  intro n
  induction n with
  | zero => rfl
  | succ n ih =>
    simp only [sumI, cntN]
    rw [ih]
    unfold b2
    split <;> rw [nI_add]
/-- how many look at a clock -/
def eyN (f : Nat → Int32) (k : Int32) (n : Nat) : Int32 := sumI (fun p => (f p >>> (k &&& 31)) &&& nI 1) n
theorem eyN_pos (f : Nat → Int32) (k n : Nat) (hn : n < 1000) : 0 < eyN f (nI k) n ↔ bitI (orP f n) k = true := by
  have e : eyN f (nI k) n = nI (cntN (fun p => bitI (f p) k) n) := by
    rw [← sum_cnt]
    exact sumI_congr (fun p _ => bitI_v _ _)
  have := cntN_le (fun p => bitI (f p) k) n
  rw [e, ← nI_0, nI_ltI (by omega) (by omega), cntN_pos, bit_orP]
def F_eyesC (o : Nat) (k t : Int32) : Cv → Prop × Value := fun (ad, A, B, sk, sw, E) => (o = ad 3 ∧ SqL E 1 ∧ ∃ tn : Nat, tn < 40 ∧ nP (sw 1) ≤ 8 ∧ t = nI tn, .int (eyN (fun p => A (50 + p) t.toNatClampNeg) k (nP (sw 1))))
theorem bX3_eyes_0 : Blk CP mX3_eyes 0 5 [oC (nI 0), oIS 3, oC (nI 0), oIS 4] := blk_c (s_iconst dX3_eyes_0 (by decide +kernel)) <| blk_c (s_istore_n dX3_eyes_1 rfl (by decide)) <| blk_c (s_iconst dX3_eyes_2 (by decide +kernel)) <| blk_c (s_istore dX3_eyes_3 (by decide)) <| blk_nil
theorem bX3_eyes_5 : Blk CP mX3_eyes 5 19 [oIL 4, oAL 0, cQ1, qR 1 1 2, qSzP 1] := blk_c (s_iload dX3_eyes_5) <| blk_c (s_aload_n dX3_eyes_7 rfl) <| blk_c (cgX3_12 (Or.inl q505) dX3_eyes_8) <| blk_c (q_R (by decide) (fun _ _ => rfl) (Or.inr ⟨_, nq430⟩) dX3_eyes_11) <| blk_c (q_SzP (lw_F q1193 q803 q805 q136 q807) (by decide) dX3_eyes_14) <| blk_nil
theorem bX3_eyes_22 : Blk CP mX3_eyes 22 5 [oIL 3, oAL 0, cR 3 0 30, oIL 4, cW 30 50 8, oIL 2, cWI 50 8 40 4, oIL 1, oShr, oC (nI 1), oAnd, oAdd, oIS 3, oInc 4 1, .inl (fun s => some s)] := blk_c (s_iload_n dX3_eyes_22 rfl) <| blk_c (s_aload_n dX3_eyes_23 rfl) <| blk_c (cgX3_0 (Or.inl q483) dX3_eyes_24) <| blk_c (s_iload dX3_eyes_27) <| blk_c (c_W (t := 8) (ty := .int) (fun _ => rfl) (fun _ _ _ _ _ _ => rfl) dX3_eyes_29) <| blk_c (s_iload_n dX3_eyes_30 rfl) <| blk_c (c_wiald ar_look dX3_eyes_31) <| blk_c (s_iload_n dX3_eyes_32 rfl) <| blk_c (s_ishr dX3_eyes_33) <| blk_c (s_iconst dX3_eyes_34 (by decide +kernel)) <| blk_c (s_iand dX3_eyes_35) <| blk_c (s_iadd dX3_eyes_36) <| blk_c (s_istore_n dX3_eyes_37 rfl (by decide)) <| blk_c (s_iinc dX3_eyes_38 (by decide +kernel) (by decide)) <| blk_c (s_goto (tgt := 5) dX3_eyes_41 (by decide)) <| blk_nil
theorem bX3_eyes_44 : Blk CP mX3_eyes 44 45 [oIL 3] := blk_c (s_iload_n dX3_eyes_44 rfl) <| blk_nil
theorem ok_eyesC : FC_II mX3_eyes 3 F_eyesC := by
  rintro X o k t ⟨ad, A, B, sk, sw, E⟩ ⟨rfl, hs, tn, ht, h8, rfl⟩
  refine ⟨?_, rec3⟩
  dsimp only [F_eyesC]
  refine C_start (L := [some (.ref (ad 3)), some (.int k), some (.int (nI tn)), none, none]) 2 rfl ?_
  refine bX3_eyes_0.go rfl trivial ?_
  rw [nI_clamp (by omega)]
  refine loop_down (N := nP (sw 1)) (I := fun _ => True) (P := fun p => JS CP X mX3_eyes (rmOf mX3_eyes.lv 0 0) (ZC X 0 0 _) 0 0 5 [some (.ref (ad 3)), some (.int k), some (.int (nI tn)), some (.int (eyN (fun p => A (50 + p) tn) k p)), some (.int (nI p))] [] (ad, A, B, sk, sw, E)) ?_ ?_ 0 (Nat.zero_le _) trivial
  · intro _
    refine bX3_eyes_5.go rfl (by repeat' first | exact trivial | rfl | assumption | omega | apply And.intro) ?_
    refine j_icmp_ge (tgt := 44) dX3_eyes_19 (by decide) (fun h19 => ?_) (fun h19 => absurd (nI_le (Nat.le_refl _) (by omega)) h19)
    refine bX3_eyes_44.go rfl trivial ?_
    exact c_iret dX3_eyes_45 rfl ⟨rfl, rfl⟩
  · intro p hp _ ih
    refine bX3_eyes_5.go rfl (by repeat' first | exact trivial | rfl | assumption | omega | apply And.intro) ?_
    refine j_icmp_ge (tgt := 44) dX3_eyes_19 (by decide) (fun h19 => ?_) (fun h19 => ?_)
    · rw [nI_leI (by omega) (by omega)] at h19; omega
    · refine bX3_eyes_22.go rfl (by (try simp (disch := omega) only [nI_add, pk_mul, pk_sub, nI_clamp, vpI]); repeat' first | exact trivial | rfl | assumption | omega | apply And.intro) ?_
      simp (disch := omega) only [nI_clamp, nI_1]
      exact ih trivial
/-! masks of four -/
/-- a look's value by the masks: unsettled, no, yes -/
def fSL (s l : Int32) (c : Nat) : Int32 := if bitI s c = true then b2 (bitI l c) else -1
def fA (A : Nat → Nat → Int32) (j : Nat) : Int32 := fSL (A 33 (j / 4)) (A 34 (j / 4)) (j % 4)
def MkOk (n : Nat) (s l : Int32) : Prop := ∃ a b : Nat, a < 2 ^ n ∧ b < 2 ^ n ∧ s = nI a ∧ l = nI b ∧ b &&& a = b
def Msk (A : Nat → Nat → Int32) (v : Nat → Nat) : Prop := ∀ p, p < v 2 → MkOk (v 1) (A 33 p) (A 34 p)
def isB (b c : Nat) (y : Bool) : Nat := if y = true then b ||| 2 ^ c else b
theorem allR {n : Nat} {f : Nat → Bool} (h : (List.range n).all f = true) {a : Nat} (ha : a < n) : f a = true := List.all_eq_true.mp h a (List.mem_range.mpr ha)
def ck1 (a b c : Nat) (y : Bool) : Bool := !decide (b &&& a = b) || (bitI (nI a) c || (decide ((nI a ||| (nI 1 <<< (nI c &&& 31))) = nI (a ||| 2 ^ c)) && (decide ((nI b ||| (if y = true then nI 1 <<< (nI c &&& 31) else nI 0)) = nI (isB b c y)) && decide (isB b c y &&& (a ||| 2 ^ c) = isB b c y))))
theorem ck1_ok : (List.range 16).all (fun a => (List.range 16).all (fun b => (List.range 4).all (fun c => ck1 a b c true && ck1 a b c false))) = true := by decide +kernel
theorem mk_is1 (a : Nat) (ha : a < 16) (b : Nat) (hb : b < 16) (c : Nat) (hc : c < 4) (y : Bool) (hab : b &&& a = b) (hz : bitI (nI a) c = false) : (nI a ||| (nI 1 <<< (nI c &&& 31))) = nI (a ||| 2 ^ c) ∧ (nI b ||| (if y = true then nI 1 <<< (nI c &&& 31) else nI 0)) = nI (isB b c y) ∧ isB b c y &&& (a ||| 2 ^ c) = isB b c y := by
  have h := allR (allR (allR ck1_ok ha) hb) hc
  have h1 : ck1 a b c y = true := by cases y <;> simp_all
  unfold ck1 at h1
  rw [decide_eq_true hab, hz] at h1
  simpa using h1
def ck2 (a b c d : Nat) (y : Bool) : Bool := !decide (b &&& a = b) || (bitI (nI a) c || decide (fSL (nI (a ||| 2 ^ c)) (nI (isB b c y)) d = if d = c then b2 y else fSL (nI a) (nI b) d))
theorem ck2_ok : (List.range 16).all (fun a => (List.range 16).all (fun b => (List.range 4).all (fun c => (List.range 4).all (fun d => ck2 a b c d true && ck2 a b c d false)))) = true := by decide +kernel
theorem mk_is2 (a : Nat) (ha : a < 16) (b : Nat) (hb : b < 16) (c : Nat) (hc : c < 4) (y : Bool) (d : Nat) (hd : d < 4) (hab : b &&& a = b) (hz : bitI (nI a) c = false) : fSL (nI (a ||| 2 ^ c)) (nI (isB b c y)) d = if d = c then b2 y else fSL (nI a) (nI b) d := by
  have h := allR (allR (allR (allR ck2_ok ha) hb) hc) hd
  have h1 : ck2 a b c d y = true := by cases y <;> simp_all
  unfold ck2 at h1
  rw [decide_eq_true hab, hz] at h1
  simpa using h1
theorem lt16 {n a : Nat} (hn : n ≤ 4) (ha : a < 2 ^ n) : a < 16 := Nat.lt_of_lt_of_le ha (show 2 ^ n ≤ 2 ^ 4 from Nat.pow_le_pow_right (by decide) hn)
theorem mk_is (n : Nat) (hn : n ≤ 4) (a : Nat) (ha : a < 2 ^ n) (b : Nat) (hb : b < 2 ^ n) (hab : b &&& a = b) (c : Nat) (hc : c < n) (hz : bitI (nI a) c = false) (y : Bool) : (a ||| 2 ^ c < 2 ^ n ∧ isB b c y < 2 ^ n ∧ (nI a ||| (nI 1 <<< (nI c &&& 31))) = nI (a ||| 2 ^ c) ∧ (nI b ||| (if y = true then nI 1 <<< (nI c &&& 31) else nI 0)) = nI (isB b c y) ∧ isB b c y &&& (a ||| 2 ^ c) = isB b c y) ∧ ∀ c', c' < 4 → fSL (nI (a ||| 2 ^ c)) (nI (isB b c y)) c' = if c' = c then b2 y else fSL (nI a) (nI b) c' := by
  have h2 : 2 ^ c < 2 ^ n := Nat.pow_lt_pow_right (by decide) hc
  obtain ⟨q1, q2, q3⟩ := mk_is1 a (lt16 hn ha) b (lt16 hn hb) c (by omega) y hab hz
  refine ⟨⟨Nat.or_lt_two_pow ha h2, ?_, q1, q2, q3⟩, fun c' hc' => mk_is2 a (lt16 hn ha) b (lt16 hn hb) c (by omega) y c' hc' hab hz⟩
  unfold isB
  split
  · exact Nat.or_lt_two_pow hb h2
  · exact hb
theorem mk_all : ∀ n, n ≤ 4 → ∀ a, a < 2 ^ n → (nI a = (nI 1 <<< (nI n &&& 31)) - nI 1 ↔ ∀ c, c < n → bitI (nI a) c = true) := by decide +kernel
def ck3 (n a d : Nat) : Bool := !decide (a < 2 ^ n) || (decide (nI a = (nI 1 <<< (nI n &&& 31)) - nI 1) || (decide (a < 15) && (decide ((ntzI (nI a ^^^ -1)).toNatClampNeg < n) && (decide (ntzI (nI a ^^^ -1) = nI (ntzI (nI a ^^^ -1)).toNatClampNeg) && (!bitI (nI a) (ntzI (nI a ^^^ -1)).toNatClampNeg && (!decide (d < (ntzI (nI a ^^^ -1)).toNatClampNeg) || bitI (nI a) d))))))
theorem ck3_ok : (List.range 5).all (fun n => (List.range 16).all (fun a => (List.range 4).all (fun d => ck3 n a d))) = true := by decide +kernel
theorem mk_ntz1 (n : Nat) (hn : n < 5) (a : Nat) (ha : a < 16) (d : Nat) (hd : d < 4) (h2 : a < 2 ^ n) (hz : ¬ nI a = (nI 1 <<< (nI n &&& 31)) - nI 1) : a < 15 ∧ (ntzI (nI a ^^^ -1)).toNatClampNeg < n ∧ ntzI (nI a ^^^ -1) = nI (ntzI (nI a ^^^ -1)).toNatClampNeg ∧ bitI (nI a) (ntzI (nI a ^^^ -1)).toNatClampNeg = false ∧ (d < (ntzI (nI a ^^^ -1)).toNatClampNeg → bitI (nI a) d = true) := by
  have h1 := allR (allR (allR ck3_ok hn) ha) hd
  unfold ck3 at h1
  rw [decide_eq_true h2, decide_eq_false hz] at h1
  simp only [Bool.not_true, Bool.false_or, Bool.and_eq_true, Bool.or_eq_true, Bool.not_eq_true', decide_eq_true_eq, decide_eq_false_iff_not] at h1
  obtain ⟨q1, q2, q3, q4, q5⟩ := h1
  exact ⟨q1, q2, q3, q4, fun h => by rcases q5 with z | z; exact absurd h z; exact z⟩
theorem mk_ntz (n : Nat) (hn : n ≤ 4) (a : Nat) (ha : a < 2 ^ n) (hz : ¬ nI a = (nI 1 <<< (nI n &&& 31)) - nI 1) : a < 15 ∧ (ntzI (nI a ^^^ -1)).toNatClampNeg < n ∧ ntzI (nI a ^^^ -1) = nI (ntzI (nI a ^^^ -1)).toNatClampNeg ∧ bitI (nI a) (ntzI (nI a ^^^ -1)).toNatClampNeg = false ∧ ∀ d, d < (ntzI (nI a ^^^ -1)).toNatClampNeg → bitI (nI a) d = true := by
  obtain ⟨q1, q2, q3, q4, -⟩ := mk_ntz1 n (by omega) a (lt16 hn ha) 0 (by decide) ha hz
  exact ⟨q1, q2, q3, q4, fun d hd => (mk_ntz1 n (by omega) a (lt16 hn ha) d (by omega) ha hz).2.2.2.2 hd⟩
theorem mk_look : ∀ n, n ≤ 4 → ∀ a, a < 2 ^ n → ∀ b, b < 2 ^ n → (∀ c, c < n → bitI (nI a) c = true) → lookBits (fun j => fSL (nI a) (nI b) (j % 4)) 0 n = nI b := by decide +kernel
/-- a look is settled -/
theorem Msk.is {A : Nat → Nat → Int32} {v : Nat → Nat} {p c : Nat} {y : Bool} (h : Msk A v) (h4 : v 1 ≤ 4) (hp : p < v 2) (hc : c < v 1) (hu : fA A (4 * p + c) = -1) :
    Msk (upA (upA A 33 p (A 33 p ||| (nI 1 <<< (nI c &&& 31)))) 34 p (A 34 p ||| (if y = true then nI 1 <<< (nI c &&& 31) else nI 0))) v ∧ ∀ j, fA (upA (upA A 33 p (A 33 p ||| (nI 1 <<< (nI c &&& 31)))) 34 p (A 34 p ||| (if y = true then nI 1 <<< (nI c &&& 31) else nI 0))) j = va_up (fA A) (4 * p + c) (b2 y) j := by
  obtain ⟨a, b, ha, hb, e1, e2, hab⟩ := h p hp
  have hz : bitI (nI a) c = false := by
    have e3 : (4 * p + c) / 4 = p := by omega
    have e4 : (4 * p + c) % 4 = c := by omega
    unfold fA fSL at hu
    rw [e3, e4, e1] at hu
    cases hq : bitI (nI a) c with
    | false => rfl
    | true =>
      rw [hq, if_pos rfl] at hu
      cases hb2 : bitI (A 34 p) c <;> rw [hb2] at hu <;> exact absurd hu (by decide)
  obtain ⟨⟨ha', hb', q1, q2, q3⟩, q4⟩ := mk_is (v 1) h4 a ha b hb hab c hc hz y
  generalize a ||| 2 ^ c = a' at ha' q1 q3 q4
  generalize isB b c y = b' at hb' q2 q3 q4
  have r33 : ∀ q, upA (upA A 33 p (A 33 p ||| (nI 1 <<< (nI c &&& 31)))) 34 p (A 34 p ||| (if y = true then nI 1 <<< (nI c &&& 31) else nI 0)) 33 q = if q = p then nI a' else A 33 q := fun q => by
    rw [upA_ne (by decide), upA_at, e1, q1]
  have r34 : ∀ q, upA (upA A 33 p (A 33 p ||| (nI 1 <<< (nI c &&& 31)))) 34 p (A 34 p ||| (if y = true then nI 1 <<< (nI c &&& 31) else nI 0)) 34 q = if q = p then nI b' else A 34 q := fun q => by
    rw [upA_at, e2, q2, upA_ne (by decide)]
  refine ⟨fun q hq => ?_, fun j => ?_⟩
  · rw [r33, r34]
    by_cases e : q = p
    · rw [if_pos e, if_pos e]; exact ⟨a', b', ha', hb', rfl, rfl, q3⟩
    · rw [if_neg e, if_neg e]; exact h q hq
  · unfold fA
    rw [r33, r34]
    by_cases e : j / 4 = p
    · rw [if_pos e, if_pos e]
      have h5 := q4 (j % 4) (by omega)
      rw [h5]
      by_cases e5 : j % 4 = c
      · rw [if_pos e5, show j = 4 * p + c by omega, va_up_self]
      · rw [if_neg e5, va_up_ne _ _ (by omega), e, e1, e2]
    · rw [if_neg e, if_neg e, va_up_ne _ _ (by omega)]
theorem bX3_is_0 : Blk CP mX3_is 0 20 [oAL 0, cR 3 3 33, oIL 1, oDup2IR, cAI 33 8, oC (nI 1), oIL 2, oShl, oOr, cSI 33 8, oAL 0, cR 3 4 34, oIL 1, oDup2IR, cAI 34 8, oIL 3] := blk_c (s_aload_n dX3_is_0 rfl) <| blk_c (cgX3_3 (Or.inl q493) dX3_is_1) <| blk_c (s_iload_n dX3_is_4 rfl) <| blk_c (s_dup2IR dX3_is_5) <| blk_c (c_iald (fun _ => rfl) dX3_is_6) <| blk_c (s_iconst dX3_is_7 (by decide +kernel)) <| blk_c (s_iload_n dX3_is_8 rfl) <| blk_c (s_ishl dX3_is_9) <| blk_c (s_ior dX3_is_10) <| blk_c (c_iast (fun _ => rfl) dX3_is_11) <| blk_c (s_aload_n dX3_is_12 rfl) <| blk_c (cgX3_4 (Or.inl q494) dX3_is_13) <| blk_c (s_iload_n dX3_is_16 rfl) <| blk_c (s_dup2IR dX3_is_17) <| blk_c (c_iald (fun _ => rfl) dX3_is_18) <| blk_c (s_iload_n dX3_is_19 rfl) <| blk_nil
theorem bX3_is_23 : Blk CP mX3_is 23 30 [oC (nI 1), oIL 2, oShl, .inl (fun s => some s)] := blk_c (s_iconst dX3_is_23 (by decide +kernel)) <| blk_c (s_iload_n dX3_is_24 rfl) <| blk_c (s_ishl dX3_is_25) <| blk_c (s_goto (tgt := 30) dX3_is_26 (by decide)) <| blk_nil
theorem bX3_is_29 : Blk CP mX3_is 29 30 [oC (nI 0)] := blk_c (s_iconst dX3_is_29 (by decide +kernel)) <| blk_nil
theorem bX3_is_30 : Blk CP mX3_is 30 32 [oOr, cSI 34 8] := blk_c (s_ior dX3_is_30) <| blk_c (c_iast (fun _ => rfl) dX3_is_31) <| blk_nil
/-- a look is settled, yes or no -/
abbrev isA (A : Nat → Nat → Int32) (p c : Nat) (y : Bool) : Nat → Nat → Int32 := upA (upA A 33 p (A 33 p ||| (nI 1 <<< (nI c &&& 31)))) 34 p (A 34 p ||| (if y = true then nI 1 <<< (nI c &&& 31) else nI 0))
theorem ok_isC {X : Cx} {ad : Nat → Nat} {A : Nat → Nat → Int32} {B : Nat → Nat → Int64} {sk : Nat → Nat → Nat} {sw : Nat → Nat → Int32} {E : Nat → Nat} {p c : Nat} {y : Bool} (hp : p < 8) (hc : c < 4) : QC X mX3_is [.ref (ad 3), .int (nI p), .int (nI c), .int (b2 y)] ad A B sk sw E (fun r A' B' => r = none ∧ B' = B ∧ A' = isA A p c y) := by
  refine C_start (L := [some (.ref (ad 3)), some (.int (nI p)), some (.int (nI c)), some (.int (b2 y))]) 0 rfl ?_
  refine bX3_is_0.go rfl (by (try simp (disch := omega) only [nI_add, pk_mul, pk_sub, nI_clamp, vpI]); repeat' first | exact trivial | rfl | assumption | omega | apply And.intro) ?_
  simp (disch := omega) only [nI_clamp]
  refine j_if_eq (tgt := 29) dX3_is_20 (by decide) (fun h20 => ?_) (fun h20 => ?_)
  · rw [b2_0] at h20
    refine bX3_is_29.go rfl trivial ?_
    refine bX3_is_30.go rfl (by (try simp (disch := omega) only [nI_add, pk_mul, pk_sub, nI_clamp, vpI]); repeat' first | exact trivial | rfl | assumption | omega | apply And.intro) ?_
    refine c_vret dX3_is_32 rfl ⟨_, _, rfl, rfl, rfl, ?_⟩
    simp (disch := omega) only [nI_clamp, isA, h20]
    rfl
  · rw [b2_n0] at h20
    refine bX3_is_23.go rfl trivial ?_
    refine bX3_is_30.go rfl (by (try simp (disch := omega) only [nI_add, pk_mul, pk_sub, nI_clamp, vpI]); repeat' first | exact trivial | rfl | assumption | omega | apply And.intro) ?_
    refine c_vret dX3_is_32 rfl ⟨_, _, rfl, rfl, rfl, ?_⟩
    simp (disch := omega) only [nI_clamp, isA, h20]
    rfl
theorem bX3_takes_0 : Blk CP mX3_takes 0 8 [oAL 0, cI 3 14, oAL 0, cI 3 15] := blk_c (s_aload_n dX3_takes_0 rfl) <| blk_c (cgX3_14 (Or.inl q508) dX3_takes_1) <| blk_c (s_aload_n dX3_takes_4 rfl) <| blk_c (cgX3_15 (Or.inl q510) dX3_takes_5) <| blk_nil
theorem bX3_takes_11 : Blk CP mX3_takes 11 20 [oAL 0, cR 3 6 36, oAL 0, cI 3 14, cAI 36 1280] := blk_c (s_aload_n dX3_takes_11 rfl) <| blk_c (cgX3_6 (Or.inl q497) dX3_takes_12) <| blk_c (s_aload_n dX3_takes_15 rfl) <| blk_c (cgX3_14 (Or.inl q508) dX3_takes_16) <| blk_c (c_zald (fun _ => rfl) dX3_takes_19) <| blk_nil
theorem bX3_takes_23 : Blk CP mX3_takes 23 28 [oC (nI 1), .inl (fun s => some s)] := blk_c (s_iconst dX3_takes_23 (by decide +kernel)) <| blk_c (s_goto (tgt := 28) dX3_takes_24 (by decide)) <| blk_nil
theorem bX3_takes_27 : Blk CP mX3_takes 27 28 [oC (nI 0)] := blk_c (s_iconst dX3_takes_27 (by decide +kernel)) <| blk_nil
theorem bX3_takes_28 : Blk CP mX3_takes 28 65 [oIS 4, oAL 0, cR 3 5 35, oAL 0, cI 3 14, oC (nI 100), oIL 3, oMul, oC (nI 10), oIL 1, oMul, oAdd, oIL 2, oAdd, cSI 35 1280, oAL 0, oDupR, cI 3 14, oC (nI 1), oAdd, cPI 3 14, oAL 0, oIL 1, oIL 2, oIL 4] := blk_c (s_istore dX3_takes_28 (by decide)) <| blk_c (s_aload_n dX3_takes_30 rfl) <| blk_c (cgX3_5 (Or.inl q495) dX3_takes_31) <| blk_c (s_aload_n dX3_takes_34 rfl) <| blk_c (cgX3_14 (Or.inl q508) dX3_takes_35) <| blk_c (s_bipush dX3_takes_38 (by decide +kernel)) <| blk_c (s_iload_n dX3_takes_40 rfl) <| blk_c (s_imul dX3_takes_41) <| blk_c (s_bipush dX3_takes_42 (by decide +kernel)) <| blk_c (s_iload_n dX3_takes_44 rfl) <| blk_c (s_imul dX3_takes_45) <| blk_c (s_iadd dX3_takes_46) <| blk_c (s_iload_n dX3_takes_47 rfl) <| blk_c (s_iadd dX3_takes_48) <| blk_c (c_iast (fun _ => rfl) dX3_takes_49) <| blk_c (s_aload_n dX3_takes_50 rfl) <| blk_c (s_dupR dX3_takes_51) <| blk_c (cgX3_14 (Or.inl q508) dX3_takes_52) <| blk_c (s_iconst dX3_takes_55 (by decide +kernel)) <| blk_c (s_iadd dX3_takes_56) <| blk_c (cpX3_14 (Or.inl q508) dX3_takes_57) <| blk_c (s_aload_n dX3_takes_60 rfl) <| blk_c (s_iload_n dX3_takes_61 rfl) <| blk_c (s_iload_n dX3_takes_62 rfl) <| blk_c (s_iload dX3_takes_63) <| blk_nil
/-- how open looks are taken -/
def tkC (A : Nat → Nat → Int32) (n : Nat) : Bool := decide (nI n < A 3 15) && !decide (A 36 n = 0)
theorem ok_takesC {X : Cx} {ad : Nat → Nat} {A : Nat → Nat → Int32} {B : Nat → Nat → Int64} {sk : Nat → Nat → Nat} {sw : Nat → Nat → Int32} {E : Nat → Nat} {p c t n : Nat} (hp : p < 8) (hc : c < 4) (ht : t < 40) (hn : n < 1280) (en : A 3 14 = nI n) : QC X mX3_takes [.ref (ad 3), .int (nI p), .int (nI c), .int (nI t)] ad A B sk sw E (fun r A' B' => r = none ∧ B' = B ∧ A' = isA (upA (upA A 35 n (nI (100 * t + 10 * p + c))) 3 14 (nI (n + 1))) p c (tkC A n)) := by
  refine C_start (L := [some (.ref (ad 3)), some (.int (nI p)), some (.int (nI c)), some (.int (nI t)), none]) 1 rfl ?_
  have k28 : ∀ y : Bool, tkC A n = y → JS CP X mX3_takes (rmOf mX3_takes.lv 0 0) (ZC X 0 0 (fun r x' => ∃ A' B', x' = (ad, A', B', sk, sw, E) ∧ (r = none ∧ B' = B ∧ A' = isA (upA (upA A 35 n (nI (100 * t + 10 * p + c))) 3 14 (nI (n + 1))) p c (tkC A n)))) 0 0 28 [some (.ref (ad 3)), some (.int (nI p)), some (.int (nI c)), some (.int (nI t)), none] [.int (b2 y)] (ad, A, B, sk, sw, E) := by
    intro y hy
    refine bX3_takes_28.go rfl (by simp (disch := omega) only [en, vpI, nI_clamp]; repeat' first | exact trivial | rfl | assumption | omega | apply And.intro) ?_
    refine cq (M' := mX3_is) (As := [.int (nI p), .int (nI c), .int (b2 y)]) (nA := 3) (ok_isC hp hc) rec3 rfl (lw_V q1279 q1281 qs40 q137 q1282) dX3_takes_65 rfl hy_X3_is (fun r A1 B1 q => ?_)
    obtain ⟨rfl, rfl, rfl⟩ := q
    refine c_vret dX3_takes_68 rfl ⟨_, _, rfl, rfl, rfl, ?_⟩
    rw [hy, upA_ne (show (3 : Nat) ≠ 35 by decide), en, nI_clamp (by omega), pk_mul, pk_mul, nI_add, nI_add, nI_add]
  refine bX3_takes_0.go rfl (by repeat' first | exact trivial | rfl | assumption | omega | apply And.intro) ?_
  refine j_icmp_ge (tgt := 27) dX3_takes_8 (by decide) (fun h8 => ?_) (fun h8 => ?_)
  · refine bX3_takes_27.go rfl trivial ?_
    refine k28 false ?_
    rw [tkC, decide_eq_false (by rw [← en]; exact Int32.not_lt.mpr h8)]; rfl
  · refine bX3_takes_11.go rfl (by simp (disch := omega) only [en, vpI, nI_clamp]; repeat' first | exact trivial | rfl | assumption | omega | apply And.intro) ?_
    simp (disch := omega) only [en, nI_clamp]
    refine j_if_eq (tgt := 27) dX3_takes_20 (by decide) (fun h20 => ?_) (fun h20 => ?_)
    · refine bX3_takes_27.go rfl trivial ?_
      refine k28 false ?_
      rw [tkC, decide_eq_true h20, Bool.not_true, Bool.and_false]
    · refine bX3_takes_23.go rfl trivial ?_
      refine k28 true ?_
      rw [tkC, decide_eq_false h20, decide_eq_true (by rw [← en]; exact Int32.not_le.mp h8)]; rfl
