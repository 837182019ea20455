set_option maxRecDepth 100000
/-! ===== UnseenClockModel: reading: is, takes, needs, number, told ===== -/
/-- a relational contract at given arguments -/
def RG (X : Cx) (M : MD) (As : List Value) (Pre : (Nat → Nat → Int32) → (Nat → Nat → Int64) → Prop) (Q : (Nat → Nat → Int32) → (Nat → Nat → Int64) → QR) : Prop := ∀ (o : Nat) (ad : Nat → Nat) (A : Nat → Nat → Int32) (B : Nat → Nat → Int64), Pre A B → ∀ h, TP X (o, ad, A, B) h → Cg X M 0 0 (.ref o :: As) h (fun oc h' => ∃ r A' B', oc = .returned r ∧ Q A B r A' B' ∧ TP X (o, ad, A', B') h')
theorem rg {nA : Nat} {X : Cx} {M M' : MD} {R : Room} {Z : ZT} {k n pc idx : Nat} {L : List (Option Value)} {st st0 As : List Value} {o : Nat} {ad : Nat → Nat} {A : Nat → Nat → Int32} {B : Nat → Nat → Int64} {Pre : (Nat → Nat → Int32) → (Nat → Nat → Int64) → Prop} {Q : (Nat → Nat → Int32) → (Nat → Nat → Int64) → QR} (hM : RG X M' As Pre Q) (hG : GoodIn lw_all (wsV M.y.cls idx RX4 M'.y (ws_ M'.y M'.cc M'.nL M'.ret))) (hd : decode M.cc pc = .ok (.invokevirtual idx, 3)) (h0 : st0 = As.reverse ++ .ref o :: st) (hp : Pre A B)
    (kk : ∀ r A' B', Q A B r A' B' → JS TP X M R Z k n (pc + 3) L (r.toList ++ st) (o, ad, A', B')) (hy : M'.y.cls = RX4 ∧ M'.y.cls ≠ "java/lang/invoke/MethodHandle" ∧ M'.y.cls ≠ "java/lang/invoke/VarHandle" ∧ (parseMethodDescriptor M'.y.desc).map (fun d => d.parameters.length) = some nA := by decide +kernel) (hA : As.length = nA := by rfl) (hw : wt8 st = true := by rfl) (hR : M'.lv + 1 ≤ M.lv ∧ M'.nL ≤ 421 := by decide) : JS TP X M R Z k n pc L st0 (o, ad, A, B) := by
  subst h0
  subst hA
  intro h ht p e s m2 args below meth c Bd rk H locs ls hW hS hL
  refine J.callV (As := As) (mc := 0) (ms := 0) (hM o ad A B hp h ht) (fun o h' q => ⟨q.choose, q.choose_spec.choose_spec.choose_spec.1⟩) ht.1 rfl hd hG hy hR ⟨rk.2.2.1, rk.2.2.2⟩ (Nat.le_of_ble_eq_true hw) (fun v h' q => ?_) p e s m2 args below meth c Bd rk H locs ls hW hS hL
  obtain ⟨r, A', B', q1, q2, q3⟩ := q
  cases q1
  exact kk _ A' B' q2 h' q3
/-- reading: a fault (kind, place), or a token -/
abbrev RdE : Type := (Int32 × Nat) ⊕ TS
def RdS (A : Nat → Nat → Int32) (T : Nat → Int32) (n : Nat) (s : RdE) : Prop := A 4 = T ∧ A 0 7 = nI n ∧ n ≤ 2400 ∧ match s with
  | .inl (k, p) => A 0 12 = k ∧ A 0 13 = nI p ∧ ¬ k = 0
  | .inr ts => (A 0 12 = 0 ∧ A 0 13 = -1) ∧ TokA A ts ∧ ts.2.1 ≤ ts.1 ∧ ts.1 ≤ n
def goodE (s : RdE) : Bool := match s with
  | .inl _ => false
  | .inr _ => true
theorem gE0 (e : Int32 × Nat) : b2 (goodE (.inl e)) = 0 := show b2 false = 0 from by decide +kernel
theorem gE1 (ts : TS) : ¬ b2 (goodE (.inr ts)) = 0 := show ¬ b2 true = 0 from by decide +kernel
theorem RdS.good {A : Nat → Nat → Int32} {T : Nat → Int32} {n : Nat} {s : RdE} (h : RdS A T n s) : decide (A 0 12 = 0) = goodE s := by
  obtain ⟨-, -, -, h⟩ := h
  match s, h with
  | .inl (k, p), h => exact decide_eq_false (by rw [h.1]; exact h.2.2)
  | .inr ts, h => exact decide_eq_true h.1.1
/-- what a reading step leaves but for the row that is read -/
def FrR (A : Nat → Nat → Int32) (B : Nat → Nat → Int64) (A' : Nat → Nat → Int32) (B' : Nat → Nat → Int64) : Prop := B' = B ∧ (∀ f, f ≠ 0 → A' f = A f) ∧ ∀ i, i < 8 ∨ 13 < i → A' 0 i = A 0 i
theorem FrR.rf {A : Nat → Nat → Int32} {B : Nat → Nat → Int64} : FrR A B A B := ⟨rfl, fun _ _ => rfl, fun _ _ => rfl⟩
theorem FrR.trans {A A1 A2 : Nat → Nat → Int32} {B B1 B2 : Nat → Nat → Int64} (h : FrR A B A1 B1) (h' : FrR A1 B1 A2 B2) : FrR A B A2 B2 := ⟨h'.1.trans h.1, fun f hf => (h'.2.1 f hf).trans (h.2.1 f hf), fun i hi => (h'.2.2 i hi).trans (h.2.2 i hi)⟩
def errE (k : Int32) (s : RdE) : RdE := match s with
  | .inl e => .inl e
  | .inr ts => .inl (k, ts.2.1)
theorem erA_fr {A : Nat → Nat → Int32} {B : Nat → Nat → Int64} {k : Int32} : FrR A B (erA A k) B := by
  unfold erA
  split
  · exact ⟨rfl, fun f hf => by rw [upA_ne hf, upA_ne hf], fun i hi => by rw [upA_at, if_neg (by omega), upA_at, if_neg (by omega)]⟩
  · exact FrR.rf
theorem erA_rd {A : Nat → Nat → Int32} {T : Nat → Int32} {n : Nat} {s : RdE} {k : Int32} (hk : ¬ k = 0) (h : RdS A T n s) : RdS (erA A k) T n (errE k s) := by
  obtain ⟨h1, h2, h3, h⟩ := h
  match s, h with
  | .inl (k', p), h =>
    rw [erA, if_neg (by rw [h.1]; exact h.2.2)]
    exact ⟨h1, h2, h3, h⟩
  | .inr ts, h =>
    rw [erA, if_pos h.1.1]
    refine ⟨by rw [upA_ne (by decide), upA_ne (by decide)]; exact h1, by rw [upA_at, if_neg (by decide), upA_at, if_neg (by decide)]; exact h2, h3, ?_⟩
    exact ⟨by rw [upA_at, if_neg (by decide), upA_at, if_pos rfl], by rw [upA_at, if_pos rfl]; exact h.2.1.2.1, hk⟩
def advE (T : Nat → Int32) (n : Nat) (s : RdE) : RdE := match s with
  | .inl e => .inl e
  | .inr ts => .inr (advS T n ts.1)
theorem Q_advance.rd {A A' : Nat → Nat → Int32} {B B' : Nat → Nat → Int64} {T : Nat → Int32} {n : Nat} {ts : TS} {r : Option Value} (h : RdS A T n (.inr ts)) (q : Q_advance A B r A' B') : FrR A B A' B' ∧ RdS A' T n (.inr (advS T n ts.1)) := by
  obtain ⟨h1, h2, h3, h4, h5, h6, h7⟩ := h
  obtain ⟨-, q1, q2, q3, q4⟩ := q
  have q4 := q4 _ _ h5.1 h2 h3 h7
  rw [h1] at q4
  have hle := advS_le (T := T) (n := n) h7
  exact ⟨⟨q1, q2, fun i hi => q3 i (by omega) (by omega) (by omega) (by omega)⟩, by rw [q2 4 (by decide)]; exact h1, by rw [q3 7 (by decide) (by decide) (by decide) (by decide)]; exact h2, h3, ⟨by rw [q3 12 (by decide) (by decide) (by decide) (by decide)]; exact h4.1, by rw [q3 13 (by decide) (by decide) (by decide) (by decide)]; exact h4.2⟩, q4, hle.2.1, hle.2.2⟩
theorem RdS.adv {A : Nat → Nat → Int32} {B : Nat → Nat → Int64} {T : Nat → Int32} {n : Nat} {ts : TS} (h : RdS A T n (.inr ts)) : Pre_advance A B := ⟨_, _, h.2.2.2.2.1.1, h.2.1, h.2.2.1, h.2.2.2.2.2.2⟩
/-- the token is a word of that length -/
def wd0 (i : Nat) (s : RdE) : Bool := match s with
  | .inl _ => false
  | .inr ts => decide (ts.2.2.1 = nI 1) && decide (ts.1 - ts.2.1 = wdL i)
def wdK (T : Nat → Int32) (i : Nat) (s : RdE) (k : Nat) : Bool := match s with
  | .inl _ => false
  | .inr ts => decide (T (ts.2.1 + k) = wdC i k)
/-- the token is the i-th word -/
def isE (T : Nat → Int32) (i : Nat) (s : RdE) : Bool := wd0 i s && allN (wdK T i s) (wdL i)
theorem allN_s {f : Nat → Bool} {k : Nat} : allN f (k + 1) = (allN f k && f k) := by
  unfold allN; rw [anyN, Bool.not_or, Bool.not_not]
theorem bX4_is_0 : Blk TP mX4_is 0 4 [oAL 0, tC_V F_good] := blk_c (s_aload_n dX4_is_0 rfl) <| blk_c (tc_V ok_good gX4_good (by decide +kernel) (by decide) dX4_is_1) <| blk_nil
theorem bX4_is_7 : Blk TP mX4_is 7 12 [oAL 0, tI 10, oC (nI 1)] := blk_c (s_aload_n dX4_is_7 rfl) <| blk_c (tgX4_10 rfl dX4_is_8) <| blk_c (s_iconst dX4_is_11 (by decide +kernel)) <| blk_nil
theorem bX4_is_15 : Blk TP mX4_is 15 25 [oAL 0, tI 8, oAL 0, tI 9, oSub, oAL 1] := blk_c (s_aload_n dX4_is_15 rfl) <| blk_c (tgX4_8 rfl dX4_is_16) <| blk_c (s_aload_n dX4_is_19 rfl) <| blk_c (tgX4_9 rfl dX4_is_20) <| blk_c (s_isub dX4_is_23) <| blk_c (s_aload_n dX4_is_24 rfl) <| blk_nil
theorem bX4_is_31 : Blk TP mX4_is 31 36 [oC (nI 1), .inl (fun s => some s)] := blk_c (s_iconst dX4_is_31 (by decide +kernel)) <| blk_c (s_goto (tgt := 36) dX4_is_32 (by decide)) <| blk_nil
theorem bX4_is_35 : Blk TP mX4_is 35 36 [oC (nI 0)] := blk_c (s_iconst dX4_is_35 (by decide +kernel)) <| blk_nil
theorem bX4_is_36 : Blk TP mX4_is 36 39 [oIS 2, oC (nI 0), oIS 3] := blk_c (s_istore_n dX4_is_36 rfl (by decide)) <| blk_c (s_iconst dX4_is_37 (by decide +kernel)) <| blk_c (s_istore_n dX4_is_38 rfl (by decide)) <| blk_nil
theorem bX4_is_39 : Blk TP mX4_is 39 41 [oIL 3, oAL 1] := blk_c (s_iload_n dX4_is_39 rfl) <| blk_c (s_aload_n dX4_is_40 rfl) <| blk_nil
theorem bX4_is_47 : Blk TP mX4_is 47 48 [oIL 2] := blk_c (s_iload_n dX4_is_47 rfl) <| blk_nil
theorem bX4_is_51 : Blk TP mX4_is 51 64 [oAL 0, tR 4, oAL 0, tI 9, oIL 3, oAdd, tAI 4 2400, oAL 1, oIL 3] := blk_c (s_aload_n dX4_is_51 rfl) <| blk_c (tgX4_4 rfl dX4_is_52) <| blk_c (s_aload_n dX4_is_55 rfl) <| blk_c (tgX4_9 rfl dX4_is_56) <| blk_c (s_iload_n dX4_is_59 rfl) <| blk_c (s_iadd dX4_is_60) <| blk_c (t_bald rfl dX4_is_61) <| blk_c (s_aload_n dX4_is_62 rfl) <| blk_c (s_iload_n dX4_is_63 rfl) <| blk_nil
theorem bX4_is_70 : Blk TP mX4_is 70 75 [oC (nI 1), .inl (fun s => some s)] := blk_c (s_iconst dX4_is_70 (by decide +kernel)) <| blk_c (s_goto (tgt := 75) dX4_is_71 (by decide)) <| blk_nil
theorem bX4_is_74 : Blk TP mX4_is 74 75 [oC (nI 0)] := blk_c (s_iconst dX4_is_74 (by decide +kernel)) <| blk_nil
theorem bX4_is_75 : Blk TP mX4_is 75 39 [oIS 2, oInc 3 1, .inl (fun s => some s)] := blk_c (s_istore_n dX4_is_75 rfl (by decide)) <| blk_c (s_iinc dX4_is_76 (by decide +kernel) (by decide)) <| blk_c (s_goto (tgt := 39) dX4_is_79 (by decide)) <| blk_nil
theorem bX4_is_82 : Blk TP mX4_is 82 83 [oIL 2] := blk_c (s_iload_n dX4_is_82 rfl) <| blk_nil
theorem ok_is {X : Cx} {aK aV : Nat → Nat} (hX : StrOK X aK aV) {i : Nat} (hi : i < 27) (T : Nat → Int32) (n : Nat) (s : RdE) : RG X mX4_is [.ref (aK i)] (fun A _ => RdS A T n s) (fun A B r A' B' => r = some (.int (b2 (isE T i s))) ∧ A' = A ∧ B' = B) := by
  intro o ad A B hrd
  have hl := wdL_lt i hi
  have lp : ∀ d k, k + d = wdL i → ∀ z, z = b2 (wd0 i s && allN (wdK T i s) k) → JS TP X mX4_is (rmOf mX4_is.lv 0 0) (ZR X o ad (fun r A' B' => r = some (.int (b2 (isE T i s))) ∧ A' = A ∧ B' = B)) 0 0 39 [some (.ref o), some (.ref (aK i)), some (.int z), some (.int (nI k))] [] (o, ad, A, B) := by
    intro d
    induction d with
    | zero =>
      intro k hk z hz
      refine bX4_is_39.go rfl trivial ?_
      refine js_pureVO (nA := 0) (As := []) (C := RJ4) (b := aK i) (ok_J4_length hX hi) (fun U hU => ((hX U hU).1 i hi).1) dX4_is_41 gJ4_length_X4 rfl ?_
      refine j_icmp_ge (tgt := 82) dX4_is_44 (by decide) (fun h44 => ?_) (fun h44 => absurd (nI_le (by omega) (by omega)) h44)
      refine bX4_is_82.go rfl trivial ?_
      have e : k = wdL i := by omega
      subst hz
      subst e
      exact r_zret dX4_is_83 rfl (b2_z _) ⟨rfl, rfl, rfl⟩
    | succ d ih =>
      intro k hk z hz
      refine bX4_is_39.go rfl trivial ?_
      refine js_pureVO (nA := 0) (As := []) (C := RJ4) (b := aK i) (ok_J4_length hX hi) (fun U hU => ((hX U hU).1 i hi).1) dX4_is_41 gJ4_length_X4 rfl ?_
      refine j_icmp_ge (tgt := 82) dX4_is_44 (by decide) (fun h44 => ?_) (fun h44 => ?_)
      · rw [nI_leI (by omega) (by omega)] at h44; omega
      · refine bX4_is_47.go rfl trivial ?_
        refine j_if_eq (tgt := 82) dX4_is_48 (by decide) (fun h48 => ?_) (fun h48 => ?_)
        · refine bX4_is_82.go rfl trivial ?_
          rw [hz, b2_0] at h48
          subst hz
          refine r_zret dX4_is_83 rfl (b2_z _) ⟨ans ?_, rfl, rfl⟩
          rw [h48]
          congr 1
          rw [Bool.and_eq_false_iff] at h48
          rw [isE]
          rcases h48 with h48 | h48
          · rw [h48]; rfl
          · cases hall : allN (wdK T i s) (wdL i) with
            | false => simp
            | true =>
              rw [allN_true.mpr (fun j hj => allN_true.mp hall j (by omega))] at h48
              cases h48
        · rw [hz, b2_n0] at h48
          have hw0 : wd0 i s = true := by simp only [Bool.and_eq_true] at h48; exact h48.1
          match s, hrd, hw0, h48, hz, ih with
          | .inr ts, hrd, hw0, h48, hz, ih =>
            obtain ⟨r1, r2, r3, r4, r5, r6, r7⟩ := hrd
            have hw0' : ts.1 - ts.2.1 = wdL i := by
              simp only [wd0, Bool.and_eq_true] at hw0; exact of_decide_eq_true hw0.2
            have j75 : ∀ z', z' = b2 (wdK T i (.inr ts) k) → JS TP X mX4_is (rmOf mX4_is.lv 0 0) (ZR X o ad (fun r A' B' => r = some (.int (b2 (isE T i (.inr ts)))) ∧ A' = A ∧ B' = B)) 0 0 75 [some (.ref o), some (.ref (aK i)), some (.int z), some (.int (nI k))] [.int z'] (o, ad, A, B) := by
              intro z' hz'
              refine bX4_is_75.go rfl trivial ?_
              rw [nI_1]
              exact ih (k + 1) (by omega) _ (by rw [hz', allN_s, ← Bool.and_assoc, h48, Bool.true_and])
            refine bX4_is_51.go rfl (by simp (disch := omega) only [r5.2.1, nI_add, vpI]; exact ⟨trivial, trivial, ⟨trivial, by omega⟩, trivial⟩) ?_
            simp (disch := omega) only [r5.2.1, nI_add, nI_clamp, r1]
            refine js_pureVO (nA := 1) (As := [.int (nI k)]) (C := RJ4) (b := aK i) (ok_J4_charAt hX hi (by omega)) (fun U hU => ((hX U hU).1 i hi).1) dX4_is_64 gJ4_charAt_X4 rfl ?_
            refine j_icmp_ne (tgt := 74) dX4_is_67 (by decide) (fun h67 => ?_) (fun h67 => ?_)
            · refine bX4_is_74.go rfl trivial ?_
              exact j75 _ (b2_f (decide_eq_false h67))
            · refine bX4_is_70.go rfl trivial ?_
              exact j75 _ (b2_t (decide_eq_true h67))
  have m36 : ∀ z, z = b2 (wd0 i s) → JS TP X mX4_is (rmOf mX4_is.lv 0 0) (ZR X o ad (fun r A' B' => r = some (.int (b2 (isE T i s))) ∧ A' = A ∧ B' = B)) 0 0 36 [some (.ref o), some (.ref (aK i)), none, none] [.int z] (o, ad, A, B) := by
    intro z hz
    refine bX4_is_36.go rfl trivial ?_
    exact lp (wdL i) 0 (by omega) z (by rw [hz]; congr 1; rw [show allN (wdK T i s) 0 = true from rfl, Bool.and_true])
  refine R_start (L := [some (.ref o), some (.ref (aK i)), none, none]) 2 rfl ?_
  refine bX4_is_0.go rfl (by exact ⟨⟨rfl, trivial⟩, trivial⟩) ?_
  rw [hrd.good]
  match s, hrd, m36 with
  | .inl (kd, pl), hrd, m36 =>
    refine j_if_eq (tgt := 35) dX4_is_4 (by decide) (fun h4 => ?_) (fun h4 => absurd (gE0 _) h4)
    refine bX4_is_35.go rfl trivial ?_
    exact m36 _ rfl
  | .inr ts, hrd, m36 =>
    obtain ⟨r1, r2, r3, r4, r5, r6, r7⟩ := hrd
    refine j_if_eq (tgt := 35) dX4_is_4 (by decide) (fun h4 => absurd h4 (gE1 _)) (fun h4 => ?_)
    refine bX4_is_7.go rfl (by exact ⟨rfl, trivial⟩) ?_
    rw [r5.2.2.1]
    refine j_icmp_ne (tgt := 35) dX4_is_12 (by decide) (fun h12 => ?_) (fun h12 => ?_)
    · refine bX4_is_35.go rfl trivial ?_
      exact m36 _ (b2_f (by rw [wd0, decide_eq_false h12]; rfl))
    · refine bX4_is_15.go rfl (by exact ⟨rfl, rfl, trivial⟩) ?_
      rw [r5.1, r5.2.1, pk_sub r6]
      refine js_pureVO (nA := 0) (As := []) (C := RJ4) (b := aK i) (ok_J4_length hX hi) (fun U hU => ((hX U hU).1 i hi).1) dX4_is_25 gJ4_length_X4 rfl ?_
      refine j_icmp_ne (tgt := 35) dX4_is_28 (by decide) (fun h28 => ?_) (fun h28 => ?_)
      · refine bX4_is_35.go rfl trivial ?_
        exact m36 _ (b2_f (by rw [wd0, decide_eq_true h12, decide_eq_false (fun e => h28 (by rw [e]))]; rfl))
      · refine bX4_is_31.go rfl trivial ?_
        exact m36 _ (b2_t (by rw [wd0, decide_eq_true h12, decide_eq_true ((nI_eq (by omega) (by omega)).mp h28)]; rfl))
theorem isE_good {T : Nat → Int32} {i : Nat} {s : RdE} (h : isE T i s = true) : ∃ ts, s = .inr ts := by
  match s, h with
  | .inl e, h => cases h
  | .inr ts, _ => exact ⟨ts, rfl⟩
def takesE (T : Nat → Int32) (n i : Nat) (s : RdE) : RdE := if isE T i s = true then advE T n s else s
theorem bX4_takes_0 : Blk TP mX4_takes 0 2 [oAL 0, oAL 1] := blk_c (s_aload_n dX4_takes_0 rfl) <| blk_c (s_aload_n dX4_takes_1 rfl) <| blk_nil
theorem bX4_takes_5 : Blk TP mX4_takes 5 7 [oIS 2, oIL 2] := blk_c (s_istore_n dX4_takes_5 rfl (by decide)) <| blk_c (s_iload_n dX4_takes_6 rfl) <| blk_nil
theorem bX4_takes_10 : Blk TP mX4_takes 10 11 [oAL 0] := blk_c (s_aload_n dX4_takes_10 rfl) <| blk_nil
theorem bX4_takes_14 : Blk TP mX4_takes 14 15 [oIL 2] := blk_c (s_iload_n dX4_takes_14 rfl) <| blk_nil
theorem ok_takes {X : Cx} {aK aV : Nat → Nat} (hX : StrOK X aK aV) {i : Nat} (hi : i < 27) (T : Nat → Int32) (n : Nat) (s : RdE) : RG X mX4_takes [.ref (aK i)] (fun A _ => RdS A T n s) (fun A B r A' B' => r = some (.int (b2 (isE T i s))) ∧ FrR A B A' B' ∧ RdS A' T n (takesE T n i s)) := by
  intro o ad A B hrd
  refine R_start (L := [some (.ref o), some (.ref (aK i)), none]) 1 rfl ?_
  refine bX4_takes_0.go rfl trivial ?_
  refine rg (nA := 1) (ok_is hX hi T n s) gX4_is dX4_takes_2 rfl hrd (fun r A1 B1 q => ?_)
  obtain ⟨rfl, hA, hB⟩ := q
  have hA := hA.symm
  have hB := hB.symm
  subst hA
  subst hB
  refine bX4_takes_5.go rfl trivial ?_
  refine j_if_eq (tgt := 14) dX4_takes_7 (by decide) (fun h7 => ?_) (fun h7 => ?_)
  · rw [b2_0] at h7
    refine bX4_takes_14.go rfl trivial ?_
    exact r_zret dX4_takes_15 rfl (b2_z _) ⟨rfl, FrR.rf, by rw [takesE, if_neg (by rw [h7]; decide)]; exact hrd⟩
  · rw [b2_n0] at h7
    obtain ⟨ts, rfl⟩ := isE_good h7
    refine bX4_takes_10.go rfl trivial ?_
    refine rc_V ok_advance gX4_advance dX4_takes_11 rfl hrd.adv (fun r A1 B1 q => ?_)
    have hr := q.1
    subst hr
    obtain ⟨f1, f2⟩ := Q_advance.rd hrd q
    refine bX4_takes_14.go rfl trivial ?_
    exact r_zret dX4_takes_15 rfl (b2_z _) ⟨rfl, f1, by rw [takesE, if_pos h7]; exact f2⟩
def needsE (T : Nat → Int32) (n i : Nat) (s : RdE) : RdE := if isE T i s = true then advE T n s else errE (nI 1) s
theorem bX4_needs_0 : Blk TP mX4_needs 0 2 [oAL 0, oAL 1] := blk_c (s_aload_n dX4_needs_0 rfl) <| blk_c (s_aload_n dX4_needs_1 rfl) <| blk_nil
theorem bX4_needs_8 : Blk TP mX4_needs 8 10 [oAL 0, oC (nI 1)] := blk_c (s_aload_n dX4_needs_8 rfl) <| blk_c (s_iconst dX4_needs_9 (by decide +kernel)) <| blk_nil
theorem ok_needs {X : Cx} {aK aV : Nat → Nat} (hX : StrOK X aK aV) {i : Nat} (hi : i < 27) (T : Nat → Int32) (n : Nat) (s : RdE) : RG X mX4_needs [.ref (aK i)] (fun A _ => RdS A T n s) (fun A B r A' B' => r = none ∧ FrR A B A' B' ∧ RdS A' T n (needsE T n i s)) := by
  intro o ad A B hrd
  refine R_start (L := [some (.ref o), some (.ref (aK i))]) 0 rfl ?_
  refine bX4_needs_0.go rfl trivial ?_
  refine rg (nA := 1) (ok_takes hX hi T n s) gX4_takes dX4_needs_2 rfl hrd (fun r A1 B1 q => ?_)
  obtain ⟨rfl, f1, f2⟩ := q
  refine j_if_ne (tgt := 13) dX4_needs_5 (by decide) (fun h5 => ?_) (fun h5 => ?_)
  · rw [b2_n0] at h5
    rw [takesE, if_pos h5] at f2
    exact r_vret dX4_needs_13 rfl ⟨rfl, f1, by rw [needsE, if_pos h5]; exact f2⟩
  · rw [b2_0] at h5
    rw [takesE, if_neg (by rw [h5]; decide)] at f2
    refine bX4_needs_8.go rfl trivial ?_
    refine rc_I ok_errs gX4_errs dX4_needs_10 rfl trivial (fun r A2 B2 q => ?_)
    obtain ⟨rfl, rfl, rfl⟩ := q
    exact r_vret dX4_needs_13 rfl ⟨rfl, f1.trans erA_fr, by rw [needsE, if_neg (by rw [h5]; decide)]; exact erA_rd (by decide +kernel) f2⟩
def numE (T : Nat → Int32) (n : Nat) (lo hi : Int32) (s : RdE) : Int32 × RdE := match s with
  | .inl e => (nI 0, .inl e)
  | .inr ts => if ts.2.2.1 = nI 2 then (if inI ts.2.2.2 lo hi = true then (ts.2.2.2, .inr (advS T n ts.1)) else (nI 0, .inl (nI 2, ts.2.1))) else (nI 0, .inl (nI 1, ts.2.1))
theorem bX4_number_0 : Blk TP mX4_number 0 4 [oAL 0, tC_V F_good] := blk_c (s_aload_n dX4_number_0 rfl) <| blk_c (tc_V ok_good gX4_good (by decide +kernel) (by decide) dX4_number_1) <| blk_nil
theorem bX4_number_7 : Blk TP mX4_number 7 12 [oAL 0, tI 10, oC (nI 2)] := blk_c (s_aload_n dX4_number_7 rfl) <| blk_c (tgX4_10 rfl dX4_number_8) <| blk_c (s_iconst dX4_number_11 (by decide +kernel)) <| blk_nil
theorem bX4_number_15 : Blk TP mX4_number 15 17 [oAL 0, oC (nI 1)] := blk_c (s_aload_n dX4_number_15 rfl) <| blk_c (s_iconst dX4_number_16 (by decide +kernel)) <| blk_nil
theorem bX4_number_20 : Blk TP mX4_number 20 24 [oAL 0, tC_V F_good] := blk_c (s_aload_n dX4_number_20 rfl) <| blk_c (tc_V ok_good gX4_good (by decide +kernel) (by decide) dX4_number_21) <| blk_nil
theorem bX4_number_27 : Blk TP mX4_number 27 39 [oAL 0, tI 11, oI2L, oIL 1, oI2L, oIL 2, oI2L, tS_JJJ F_in] := blk_c (s_aload_n dX4_number_27 rfl) <| blk_c (tgX4_11 rfl dX4_number_28) <| blk_c (s_i2l dX4_number_31) <| blk_c (s_iload_n dX4_number_32 rfl) <| blk_c (s_i2l dX4_number_33) <| blk_c (s_iload_n dX4_number_34 rfl) <| blk_c (s_i2l dX4_number_35) <| blk_c (ts_JJJ ok_in gX4_in (by decide +kernel) (by decide) dX4_number_36) <| blk_nil
theorem bX4_number_42 : Blk TP mX4_number 42 44 [oAL 0, oC (nI 2)] := blk_c (s_aload_n dX4_number_42 rfl) <| blk_c (s_iconst dX4_number_43 (by decide +kernel)) <| blk_nil
theorem bX4_number_47 : Blk TP mX4_number 47 51 [oAL 0, tC_V F_good] := blk_c (s_aload_n dX4_number_47 rfl) <| blk_c (tc_V ok_good gX4_good (by decide +kernel) (by decide) dX4_number_48) <| blk_nil
theorem bX4_number_54 : Blk TP mX4_number 54 55 [oC (nI 0)] := blk_c (s_iconst dX4_number_54 (by decide +kernel)) <| blk_nil
theorem bX4_number_56 : Blk TP mX4_number 56 62 [oAL 0, tI 11, oIS 3, oAL 0] := blk_c (s_aload_n dX4_number_56 rfl) <| blk_c (tgX4_11 rfl dX4_number_57) <| blk_c (s_istore_n dX4_number_60 rfl (by decide)) <| blk_c (s_aload_n dX4_number_61 rfl) <| blk_nil
theorem bX4_number_65 : Blk TP mX4_number 65 66 [oIL 3] := blk_c (s_iload_n dX4_number_65 rfl) <| blk_nil
theorem ok_number {X : Cx} (T : Nat → Int32) (n : Nat) (s : RdE) (lo hi : Int32) : RG X mX4_number [.int lo, .int hi] (fun A _ => RdS A T n s) (fun A B r A' B' => r = some (.int (numE T n lo hi s).1) ∧ FrR A B A' B' ∧ RdS A' T n (numE T n lo hi s).2) := by
  intro o ad A B hrd
  have m47 : ∀ A1 e, FrR A B A1 B → RdS A1 T n (.inl e) → numE T n lo hi s = (nI 0, .inl e) → JS TP X mX4_number (rmOf mX4_number.lv 0 0) (ZR X o ad (fun r A' B' => r = some (.int (numE T n lo hi s).1) ∧ FrR A B A' B' ∧ RdS A' T n (numE T n lo hi s).2)) 0 0 47 [some (.ref o), some (.int lo), some (.int hi), none] [] (o, ad, A1, B) := by
    intro A1 e f1 f2 f3
    refine bX4_number_47.go rfl (by exact ⟨⟨rfl, trivial⟩, trivial⟩) ?_
    rw [f2.good]
    refine j_if_ne (tgt := 56) dX4_number_51 (by decide) (fun h51 => absurd (gE0 _) h51) (fun h51 => ?_)
    refine bX4_number_54.go rfl trivial ?_
    exact r_iret dX4_number_55 rfl (by rw [f3]; exact ⟨rfl, f1, f2⟩)
  have m20 : ∀ A1 e, FrR A B A1 B → RdS A1 T n (.inl e) → numE T n lo hi s = (nI 0, .inl e) → JS TP X mX4_number (rmOf mX4_number.lv 0 0) (ZR X o ad (fun r A' B' => r = some (.int (numE T n lo hi s).1) ∧ FrR A B A' B' ∧ RdS A' T n (numE T n lo hi s).2)) 0 0 20 [some (.ref o), some (.int lo), some (.int hi), none] [] (o, ad, A1, B) := by
    intro A1 e f1 f2 f3
    refine bX4_number_20.go rfl (by exact ⟨⟨rfl, trivial⟩, trivial⟩) ?_
    rw [f2.good]
    refine j_if_eq (tgt := 47) dX4_number_24 (by decide) (fun h24 => m47 A1 e f1 f2 f3) (fun h24 => absurd (gE0 _) h24)
  refine R_start (L := [some (.ref o), some (.int lo), some (.int hi), none]) 1 rfl ?_
  refine bX4_number_0.go rfl (by exact ⟨⟨rfl, trivial⟩, trivial⟩) ?_
  rw [hrd.good]
  match s, hrd, m20, m47 with
  | .inl e, hrd, m20, m47 =>
    refine j_if_eq (tgt := 20) dX4_number_4 (by decide) (fun h4 => m20 A e FrR.rf hrd rfl) (fun h4 => absurd (gE0 _) h4)
  | .inr ts, hrd, m20, m47 =>
    obtain ⟨r1, r2, r3, r4, r5, r6, r7⟩ := id hrd
    refine j_if_eq (tgt := 20) dX4_number_4 (by decide) (fun h4 => absurd h4 (gE1 _)) (fun h4 => ?_)
    refine bX4_number_7.go rfl (by exact ⟨rfl, trivial⟩) ?_
    rw [r5.2.2.1]
    refine j_icmp_eq (tgt := 20) dX4_number_12 (by decide) (fun h12 => ?_) (fun h12 => ?_)
    · refine bX4_number_20.go rfl (by exact ⟨⟨rfl, trivial⟩, trivial⟩) ?_
      rw [hrd.good]
      refine j_if_eq (tgt := 47) dX4_number_24 (by decide) (fun h24 => absurd h24 (gE1 _)) (fun h24 => ?_)
      refine bX4_number_27.go rfl (by exact ⟨rfl, trivial, trivial⟩) ?_
      simp only [in_i2l, r5.2.2.2 h12]
      refine j_if_ne (tgt := 47) dX4_number_39 (by decide) (fun h39 => ?_) (fun h39 => ?_)
      · rw [b2_n0] at h39
        refine bX4_number_47.go rfl (by exact ⟨⟨rfl, trivial⟩, trivial⟩) ?_
        rw [hrd.good]
        refine j_if_ne (tgt := 56) dX4_number_51 (by decide) (fun h51 => ?_) (fun h51 => absurd h51 (gE1 _))
        refine bX4_number_56.go rfl (by exact ⟨rfl, trivial⟩) ?_
        rw [r5.2.2.2 h12]
        refine rc_V ok_advance gX4_advance dX4_number_62 rfl hrd.adv (fun r A1 B1 q => ?_)
        have hr := q.1
        subst hr
        obtain ⟨f1, f2⟩ := Q_advance.rd hrd q
        refine bX4_number_65.go rfl trivial ?_
        refine r_iret dX4_number_66 rfl ?_
        rw [numE, if_pos h12, if_pos h39]
        exact ⟨rfl, f1, f2⟩
      · rw [b2_0] at h39
        refine bX4_number_42.go rfl trivial ?_
        refine rc_I ok_errs gX4_errs dX4_number_44 rfl trivial (fun r A2 B2 q => ?_)
        obtain ⟨rfl, hB, rfl⟩ := q
        have hB := hB.symm
        subst hB
        exact m47 _ _ erA_fr (erA_rd (by decide +kernel) hrd) (by rw [numE, if_pos h12, if_neg (by rw [h39]; decide)])
    · refine bX4_number_15.go rfl trivial ?_
      refine rc_I ok_errs gX4_errs dX4_number_17 rfl trivial (fun r A2 B2 q => ?_)
      obtain ⟨rfl, hB, rfl⟩ := q
      have hB := hB.symm
      subst hB
      exact m20 _ _ erA_fr (erA_rd (by decide +kernel) hrd) (by rw [numE, if_neg h12])
def toldE (T : Nat → Int32) (n i : Nat) (lo hi : Int32) (s : RdE) : Int32 × RdE := numE T n lo hi (needsE T n i s)
theorem bX4_told_0 : Blk TP mX4_told 0 2 [oAL 0, oAL 1] := blk_c (s_aload_n dX4_told_0 rfl) <| blk_c (s_aload_n dX4_told_1 rfl) <| blk_nil
theorem bX4_told_5 : Blk TP mX4_told 5 8 [oAL 0, oIL 2, oIL 3] := blk_c (s_aload_n dX4_told_5 rfl) <| blk_c (s_iload_n dX4_told_6 rfl) <| blk_c (s_iload_n dX4_told_7 rfl) <| blk_nil
theorem ok_told {X : Cx} {aK aV : Nat → Nat} (hX : StrOK X aK aV) {i : Nat} (hi : i < 27) (T : Nat → Int32) (n : Nat) (s : RdE) (lo hi' : Int32) : RG X mX4_told [.ref (aK i), .int lo, .int hi'] (fun A _ => RdS A T n s) (fun A B r A' B' => r = some (.int (toldE T n i lo hi' s).1) ∧ FrR A B A' B' ∧ RdS A' T n (toldE T n i lo hi' s).2) := by
  intro o ad A B hrd
  refine R_start (L := [some (.ref o), some (.ref (aK i)), some (.int lo), some (.int hi')]) 0 rfl ?_
  refine bX4_told_0.go rfl trivial ?_
  refine rg (nA := 1) (ok_needs hX hi T n s) gX4_needs dX4_told_2 rfl hrd (fun r A1 B1 q => ?_)
  obtain ⟨rfl, f1, f2⟩ := q
  refine bX4_told_5.go rfl trivial ?_
  refine rg (nA := 2) (ok_number T n _ lo hi') gX4_number dX4_told_8 rfl f2 (fun r A2 B2 q => ?_)
  obtain ⟨rfl, g1, g2⟩ := q
  exact r_iret dX4_told_11 rfl ⟨rfl, f1.trans g1, g2⟩
