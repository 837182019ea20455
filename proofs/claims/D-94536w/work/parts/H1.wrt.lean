set_option maxRecDepth 100000
/-! ===== UnseenClock: write, row ===== -/
section Wrt
variable {X : Cx} {ad : Nat → Nat} {A : Nat → Nat → Int32} {B : Nat → Nat → Int64} {sk : Nat → Nat → Nat} {sw : Nat → Nat → Int32} {E : Nat → Nat} {h : AH} {s N w : Nat} {i : Int32} {v : Int64}
theorem ps_cp (hX : ThX X) (hp : CP X (ad, A, B, sk, sw, E) h) (hs : s < 4) (hS : SlC E) : CgX X mX1_puts cwPs rPs [.ref (ad (10 + s)), .int i, .long v] h (fun r h' => ∃ x', QWr ad A B sk sw E s i v r x' ∧ CP X x' h') (fun _ _ _ => False) := by
  obtain ⟨k4, l60⟩ := hS s hs
  have e1 : h (ad (10 + s)) = some (slO ad E s) := hp.slot hs
  have hl : E (6 + s) < 2 ^ 31 := by omega
  rcases (by omega : E (2 + s) = 0 ∨ E (2 + s) = 1 ∨ E (2 + s) = 2 ∨ E (2 + s) = 3 ∨ E (2 + s) = 4) with e | e | e | e | e
  · rw [slO, if_pos e] at e1
    refine (ps_null hX e1).mono (fun r h' q => ?_) (fun _ _ _ z => z)
    obtain ⟨rfl, rfl⟩ := q
    have ew : pwC E s i = -6 := by rw [pwC, if_pos e]
    exact ⟨_, ⟨by rw [ew], A, B, rfl, fun _ _ => ⟨rfl, rfl⟩, fun j => by rw [ew, if_neg (fun z => absurd z.1 (by decide +kernel))]⟩, hp⟩
  · have ne : ¬ E (2 + s) = 0 := by omega
    have n4 : ¬ E (2 + s) = 4 := by omega
    rw [slO, if_neg ne] at e1
    refine (ps_byte hX e1 (hp.held hs (by rw [e]; rfl)) hl).mono (fun r h' q => ?_) (fun _ _ _ z => z)
    rcases q with ⟨rfl, hi, rfl⟩ | ⟨rfl, hi, rfl⟩
    · have ew : pwC E s i = nI 0 := by rw [pwC, if_neg ne, if_pos (inB_iff.mp hi)]
      refine ⟨_, ⟨by rw [ew], upA A (14 + s) i.toNatClampNeg (vp_nar .byte v.toInt32.toInt8.toInt32), B, rfl, fun j hj => ⟨upA_ne hj, rfl⟩, fun j => ?_⟩, hp.upd (k := 14 + s) (fun j hj => upA_ne hj) (fun _ _ => rfl) (by rw [celK_held hs, e, upA, va_up_self]; rfl)⟩
      rw [ew, nbC, nbC, if_neg n4, if_neg n4, upA, va_up_self]
      by_cases z : j = i.toNatClampNeg
      · subst z; rw [va_up_self, if_pos ⟨rfl, rfl⟩, e]; exact (cut_b v).symm
      · rw [va_up_ne _ _ z, if_neg (fun y => z y.2)]
    · have ew : pwC E s i = -7 := by rw [pwC, if_neg ne, if_neg (fun z => hi (inB_iff.mpr z))]
      exact ⟨_, ⟨by rw [ew], A, B, rfl, fun _ _ => ⟨rfl, rfl⟩, fun j => by rw [ew, if_neg (fun z => absurd z.1 (by decide +kernel))]⟩, hp⟩
  · have ne : ¬ E (2 + s) = 0 := by omega
    have n4 : ¬ E (2 + s) = 4 := by omega
    rw [slO, if_neg ne] at e1
    refine (ps_short hX e1 (hp.held hs (by rw [e]; rfl)) hl).mono (fun r h' q => ?_) (fun _ _ _ z => z)
    rcases q with ⟨rfl, hi, rfl⟩ | ⟨rfl, hi, rfl⟩
    · have ew : pwC E s i = nI 0 := by rw [pwC, if_neg ne, if_pos (inB_iff.mp hi)]
      refine ⟨_, ⟨by rw [ew], upA A (14 + s) i.toNatClampNeg (vp_nar .short v.toInt32.toInt16.toInt32), B, rfl, fun j hj => ⟨upA_ne hj, rfl⟩, fun j => ?_⟩, hp.upd (k := 14 + s) (fun j hj => upA_ne hj) (fun _ _ => rfl) (by rw [celK_held hs, e, upA, va_up_self]; rfl)⟩
      rw [ew, nbC, nbC, if_neg n4, if_neg n4, upA, va_up_self]
      by_cases z : j = i.toNatClampNeg
      · subst z; rw [va_up_self, if_pos ⟨rfl, rfl⟩, e]; exact (cut_s v).symm
      · rw [va_up_ne _ _ z, if_neg (fun y => z y.2)]
    · have ew : pwC E s i = -7 := by rw [pwC, if_neg ne, if_neg (fun z => hi (inB_iff.mpr z))]
      exact ⟨_, ⟨by rw [ew], A, B, rfl, fun _ _ => ⟨rfl, rfl⟩, fun j => by rw [ew, if_neg (fun z => absurd z.1 (by decide +kernel))]⟩, hp⟩
  · have ne : ¬ E (2 + s) = 0 := by omega
    have n4 : ¬ E (2 + s) = 4 := by omega
    rw [slO, if_neg ne] at e1
    refine (ps_int hX e1 (hp.held hs (by rw [e]; rfl)) hl).mono (fun r h' q => ?_) (fun _ _ _ z => z)
    rcases q with ⟨rfl, hi, rfl⟩ | ⟨rfl, hi, rfl⟩
    · have ew : pwC E s i = nI 0 := by rw [pwC, if_neg ne, if_pos (inB_iff.mp hi)]
      refine ⟨_, ⟨by rw [ew], upA A (14 + s) i.toNatClampNeg v.toInt32, B, rfl, fun j hj => ⟨upA_ne hj, rfl⟩, fun j => ?_⟩, hp.upd (k := 14 + s) (fun j hj => upA_ne hj) (fun _ _ => rfl) (by rw [celK_held hs, e, upA, va_up_self]; rfl)⟩
      rw [ew, nbC, nbC, if_neg n4, if_neg n4, upA, va_up_self]
      by_cases z : j = i.toNatClampNeg
      · subst z; rw [va_up_self, if_pos ⟨rfl, rfl⟩, e]; exact (cut_i v).symm
      · rw [va_up_ne _ _ z, if_neg (fun y => z y.2)]
    · have ew : pwC E s i = -7 := by rw [pwC, if_neg ne, if_neg (fun z => hi (inB_iff.mpr z))]
      exact ⟨_, ⟨by rw [ew], A, B, rfl, fun _ _ => ⟨rfl, rfl⟩, fun j => by rw [ew, if_neg (fun z => absurd z.1 (by decide +kernel))]⟩, hp⟩
  · have ne : ¬ E (2 + s) = 0 := by omega
    have e4 : E (2 + s) = 4 := by omega
    rw [slO, if_neg ne] at e1
    refine (ps_long hX e1 (hp.held hs (by rw [e]; rfl)) hl).mono (fun r h' q => ?_) (fun _ _ _ z => z)
    rcases q with ⟨rfl, hi, rfl⟩ | ⟨rfl, hi, rfl⟩
    · have ew : pwC E s i = nI 0 := by rw [pwC, if_neg ne, if_pos (inB_iff.mp hi)]
      refine ⟨_, ⟨by rw [ew], A, upB B (14 + s) i.toNatClampNeg v, rfl, fun j hj => ⟨rfl, va_up_ne _ _ hj⟩, fun j => ?_⟩, hp.upd (k := 14 + s) (fun _ _ => rfl) (fun j hj => va_up_ne _ _ hj) (by rw [celK_held hs, e]; show hldO X 4 _ _ (va_up B (14 + s) _ (14 + s)) = _; rw [va_up_self]; rfl)⟩
      rw [ew, nbC, nbC, if_pos e4, if_pos e4, upB, va_up_self]
      by_cases z : j = i.toNatClampNeg
      · subst z; rw [va_up_self, if_pos ⟨rfl, rfl⟩, e]; exact (cut_l v).symm
      · rw [va_up_ne _ _ z, if_neg (fun y => z y.2)]
    · have ew : pwC E s i = -7 := by rw [pwC, if_neg ne, if_neg (fun z => hi (inB_iff.mpr z))]
      exact ⟨_, ⟨by rw [ew], A, B, rfl, fun _ _ => ⟨rfl, rfl⟩, fun j => by rw [ew, if_neg (fun z => absurd z.1 (by decide +kernel))]⟩, hp⟩
theorem bg_cp (hp : CP X (ad, A, B, sk, sw, E) h) (hs : s < 4) (hw : w < 4) (hn : N ≤ 60) : CgX X mX1_begins cwBg rBg [.ref (ad (10 + s)), .int (nI w), .int (nI N)] h (fun r h' => r = some (.int (nI 1)) ∧ ∃ q, CP X (va_up ad (14 + s) q, va_up A (14 + s) (fun _ => 0), va_up B (14 + s) (fun _ => 0), sk, sw, va_up (va_up E (2 + s) (w + 1)) (6 + s) N) h') (fun _ _ _ => False) := by
  have e1 : h (ad (10 + s)) = some (slO ad E s) := hp.slot hs
  match w, hw with
  | 0, _ =>
    refine (bg_byte hp.1.2 e1 hn).mono (fun r h' q => ?_) (fun _ _ _ z => z)
    obtain ⟨rfl, q, hq, rfl⟩ := q
    exact ⟨rfl, q, hp.newRow hs hq (by decide) rfl⟩
  | 1, _ =>
    refine (bg_short hp.1.2 e1 hn).mono (fun r h' q => ?_) (fun _ _ _ z => z)
    obtain ⟨rfl, q, hq, rfl⟩ := q
    exact ⟨rfl, q, hp.newRow hs hq (by decide) rfl⟩
  | 2, _ =>
    refine (bg_int hp.1.2 e1 hn).mono (fun r h' q => ?_) (fun _ _ _ z => z)
    obtain ⟨rfl, q, hq, rfl⟩ := q
    exact ⟨rfl, q, hp.newRow hs hq (by decide) rfl⟩
  | 3, _ =>
    refine (bg_long hp.1.2 e1 hn).mono (fun r h' q => ?_) (fun _ _ _ z => z)
    obtain ⟨rfl, q, hq, rfl⟩ := q
    exact ⟨rfl, q, hp.newRow hs hq (by decide) rfl⟩
theorem bn_cp (hX : ThX X) (hw : w < 4) {o : Nat} {n : Int32} (hn : n < 0) : CgX X mX1_begins cwBg rBg [.ref o, .int (nI w), .int n] h (fun r h' => r = some (.int (nI 0)) ∧ h' = h) (fun _ _ _ => False) := by
  match w, hw with
  | 0, _ => exact bn_byte hX hn
  | 1, _ => exact bn_short hX hn
  | 2, _ => exact bn_int hX hn
  | 3, _ => exact bn_long hX hn
abbrev rWr : Room := { frames := 11, cells := 6, slots := 700, locals := 10400 }
abbrev rRw : Room := { frames := 9, cells := 3, slots := 100, locals := 10300 }
theorem J.cp {M : MD} {R : Room} {Z : ZT} {k n pc : Nat} {L : List (Option Value)} {st : List Value} {x : Cv} (hp : CP X x h) (kk : JS CP X M R Z k n pc L st x) : J X M R Z pc L st h k n := kk h hp
def qc_write (E : Nat → Nat) (s i : Int32) : Int32 := if slB s = true then pwC E s.toNatClampNeg i else -2
def Qc_write (ad : Nat → Nat) (A : Nat → Nat → Int32) (B : Nat → Nat → Int64) (sk : Nat → Nat → Nat) (sw : Nat → Nat → Int32) (E : Nat → Nat) (s i : Int32) (v : Int64) (r : Option Value) (x' : Cv) : Prop := r = some (.int (qc_write E s i)) ∧ ∃ A' B', x' = (ad, A', B', sk, sw, E) ∧ (∀ j, ¬ (14 ≤ j ∧ j < 18) → A' j = A j ∧ B' j = B j) ∧ ∀ t, t < 4 → ∀ j, nbC A' B' E t j = if qc_write E s i = 0 ∧ t = s.toNatClampNeg ∧ j = i.toNatClampNeg then cutL v (nI (E (2 + t) - 1)) else nbC A B E t j
theorem bX0_write_0 : Blk CP mX0_write 0 4 [oIL 1, oS_I pTi fSlot] := blk_c (s_iload_n dX0_write_0 rfl) <| blk_c (s_S_I ok_sX0_isSlot (fun _ _ _ h => h.1.1) (Or.inl (lw_S q175 q176 q131 q177)) hy_X0_isSlot (by decide) dX0_write_1) <| blk_nil
theorem bX0_write_7 : Blk CP mX0_write 7 12 [oAL 0, cR 0 0 1, oIL 1] := blk_c (s_aload_n dX0_write_7 rfl) <| blk_c (cgX0_0 (Or.inl q556) dX0_write_8) <| blk_c (s_iload_n dX0_write_11 rfl) <| blk_nil
theorem bX0_write_13 : Blk CP mX0_write 13 15 [oIL 2, oLL 3] := blk_c (s_iload_n dX0_write_13 rfl) <| blk_c (s_lload_n dX0_write_14 rfl) <| blk_nil
theorem bX0_write_18 : Blk CP mX0_write 18 23 [.inl (fun s => some s)] := blk_c (s_goto (tgt := 23) dX0_write_18 (by decide)) <| blk_nil
theorem bX0_write_21 : Blk CP mX0_write 21 23 [oC (-2)] := blk_c (s_bipush dX0_write_21 (by decide +kernel)) <| blk_nil
theorem pb_write (hX : ThX X) (hS : SlC E) {s i : Int32} {v : Int64} : RX X mX0_write rWr [.ref (ad 0), .int s, .int i, .long v] (ad, A, B, sk, sw, E) (Qc_write ad A B sk sw E s i v) := by
  refine X_start (L := [some (.ref (ad 0)), some (.int s), some (.int i), some (.long v), none]) 0 rfl ?_
  refine bX0_write_0.go rfl ⟨trivial, trivial⟩ ?_
  rw [show fSlot s = b2 (slB s) from rfl]
  refine j_if_eq (tgt := 21) dX0_write_4 (by decide) (fun h4 => ?_) (fun h4 => ?_)
  · rw [b2_0] at h4
    have ew : qc_write E s i = -2 := by rw [qc_write, if_neg (by rw [h4]; decide)]
    refine bX0_write_21.go rfl trivial ?_
    exact c_iret dX0_write_23 rfl ⟨by rw [ew], A, B, rfl, fun _ _ => ⟨rfl, rfl⟩, fun t _ j => by rw [ew, if_neg (fun z => absurd z.1 (by decide +kernel))]⟩ (by decide) (by decide)
  · rw [b2_n0] at h4
    obtain ⟨s, hs, rfl⟩ := slB_nat h4
    refine bX0_write_7.go rfl (by repeat' first | exact trivial | rfl | assumption | omega | apply And.intro) ?_
    refine js_slots hs dX0_write_12 ?_
    refine bX0_write_13.go rfl trivial ?_
    intro h hp
    refine J.callX (As := [.int i, .long v]) (st := []) (ps_cp hX hp hs hS) q284 (Or.inr ⟨_, rfl⟩) (hp.slot hs) rfl dX0_write_15 q281 q282 q283 q132 hc_puts (by decide) (by decide) (by decide) (fun r h' q => ?_) (fun C a h' q => q.elim)
    obtain ⟨x', ⟨rfl, A', B', rfl, q1, q2⟩, hp'⟩ := q
    have ew : qc_write E (nI s) i = pwC E s i := by rw [qc_write, if_pos h4, nI_clamp (by omega)]
    refine J.cp hp' ?_
    refine bX0_write_18.go rfl trivial ?_
    refine c_iret dX0_write_23 rfl ⟨by rw [ew], A', B', rfl, fun j hj => q1 j (by omega), fun t ht j => ?_⟩ (by decide) (by decide)
    rw [ew, nI_clamp (by omega)]
    by_cases e : t = s
    · subst e; rw [q2 j]; simp
    · rw [if_neg (fun z => e z.2.1), nbC, nbC, (q1 (14 + t) (by omega)).1, (q1 (14 + t) (by omega)).2]
def Qc_row (ad : Nat → Nat) (A : Nat → Nat → Int32) (B : Nat → Nat → Int64) (sk : Nat → Nat → Nat) (sw : Nat → Nat → Int32) (E : Nat → Nat) (s w n : Int32) (r : Option Value) (x' : Cv) : Prop := r = some (.int (q_row s w n)) ∧ (¬ q_row s w n = 0 → x' = (ad, A, B, sk, sw, E)) ∧ (q_row s w n = 0 → ∃ q, x' = (va_up ad (14 + s.toNatClampNeg) q, va_up A (14 + s.toNatClampNeg) (fun _ => 0), va_up B (14 + s.toNatClampNeg) (fun _ => 0), sk, sw, va_up (va_up E (2 + s.toNatClampNeg) (w.toNatClampNeg + 1)) (6 + s.toNatClampNeg) n.toNatClampNeg))
theorem bX0_row_0 : Blk CP mX0_row 0 4 [oIL 1, oS_I pTi fSlot] := blk_c (s_iload_n dX0_row_0 rfl) <| blk_c (s_S_I ok_sX0_isSlot (fun _ _ _ h => h.1.1) (Or.inl (lw_S q175 q176 q131 q177)) hy_X0_isSlot (by decide) dX0_row_1) <| blk_nil
theorem bX0_row_7 : Blk CP mX0_row 7 16 [oIL 2, oI2L, oCL (lN 0), oCL (3), oS_JJJ pT3 fIn] := blk_c (s_iload_n dX0_row_7 rfl) <| blk_c (s_i2l dX0_row_8) <| blk_c (s_lconst dX0_row_9 (by decide +kernel)) <| blk_c (s_ldc2 dX0_row_10 q178) <| blk_c (s_S_JJJ ok_sX0_in (fun _ _ _ h => h.1.1) (Or.inl (lw_S q179 q180 q131 q181)) hy_X0_in (by decide) dX0_row_13) <| blk_nil
theorem bX0_row_19 : Blk CP mX0_row 19 22 [oIL 3, oC (nI 60)] := blk_c (s_iload_n dX0_row_19 rfl) <| blk_c (s_bipush dX0_row_20 (by decide +kernel)) <| blk_nil
theorem bX0_row_25 : Blk CP mX0_row 25 27 [oC (-2)] := blk_c (s_bipush dX0_row_25 (by decide +kernel)) <| blk_nil
theorem bX0_row_28 : Blk CP mX0_row 28 33 [oAL 0, cR 0 0 1, oIL 1] := blk_c (s_aload_n dX0_row_28 rfl) <| blk_c (cgX0_0 (Or.inl q556) dX0_row_29) <| blk_c (s_iload_n dX0_row_32 rfl) <| blk_nil
theorem bX0_row_34 : Blk CP mX0_row 34 36 [oIL 2, oIL 3] := blk_c (s_iload_n dX0_row_34 rfl) <| blk_c (s_iload_n dX0_row_35 rfl) <| blk_nil
theorem bX0_row_42 : Blk CP mX0_row 42 48 [oC (nI 0), .inl (fun s => some s)] := blk_c (s_iconst dX0_row_42 (by decide +kernel)) <| blk_c (s_goto (tgt := 48) dX0_row_43 (by decide)) <| blk_nil
theorem bX0_row_46 : Blk CP mX0_row 46 48 [oC (-3)] := blk_c (s_bipush dX0_row_46 (by decide +kernel)) <| blk_nil
theorem pb_row (hX : ThX X) {s w n : Int32} : RX X mX0_row rRw [.ref (ad 0), .int s, .int w, .int n] (ad, A, B, sk, sw, E) (Qc_row ad A B sk sw E s w n) := by
  have out : rowB s w n = false → JS CP X mX0_row rRw (ZC X rRw.cells rRw.slots (Qc_row ad A B sk sw E s w n)) 0 0 25 [some (.ref (ad 0)), some (.int s), some (.int w), some (.int n)] [] (ad, A, B, sk, sw, E) := by
    intro hr
    have ew : q_row s w n = -2 := by rw [q_row, if_neg (by rw [hr]; decide)]
    refine bX0_row_25.go rfl trivial ?_
    exact c_iret dX0_row_27 rfl ⟨by rw [ew], fun _ => rfl, fun z => absurd z (by rw [ew]; decide +kernel)⟩ (by decide) (by decide)
  refine X_start (L := [some (.ref (ad 0)), some (.int s), some (.int w), some (.int n)]) 0 rfl ?_
  refine bX0_row_0.go rfl ⟨trivial, trivial⟩ ?_
  rw [show fSlot s = b2 (slB s) from rfl]
  refine j_if_eq (tgt := 25) dX0_row_4 (by decide) (fun h4 => ?_) (fun h4 => ?_)
  · rw [b2_0] at h4
    exact out (by rw [rowB, h4]; rfl)
  rw [b2_n0] at h4
  refine bX0_row_7.go rfl ⟨trivial, trivial⟩ ?_
  rw [fIn_L]
  refine j_if_eq (tgt := 25) dX0_row_16 (by decide) (fun h16 => ?_) (fun h16 => ?_)
  · rw [b2_0] at h16
    exact out (by rw [rowB, h16, Bool.false_and, Bool.and_false])
  rw [b2_n0] at h16
  refine bX0_row_19.go rfl trivial ?_
  refine j_icmp_le (tgt := 28) dX0_row_22 (by decide) (fun h22 => ?_) (fun h22 => ?_)
  rotate_left
  · exact out (by rw [rowB, decide_eq_false h22, Bool.and_false, Bool.and_false])
  have hr : rowB s w n = true := by rw [rowB, h4, h16, decide_eq_true h22]; rfl
  obtain ⟨s, hs, rfl⟩ := slB_nat h4
  obtain ⟨w, hw, rfl⟩ := inL0_nat (X := w) (n := 3) (by decide) (by rw [show (nI 3).toInt64 = 3 by decide +kernel]; exact h16)
  refine bX0_row_28.go rfl (by repeat' first | exact trivial | rfl | assumption | omega | apply And.intro) ?_
  refine js_slots hs dX0_row_33 ?_
  refine bX0_row_34.go rfl trivial ?_
  intro h hp
  by_cases hn : n < 0
  · have ew : q_row (nI s) (nI w) n = -3 := by rw [q_row, if_pos hr, if_pos hn]
    refine J.callX (As := [.int (nI w), .int n]) (st := []) (bn_cp hX (by omega) hn) q185 (Or.inr ⟨_, rfl⟩) (hp.slot hs) rfl dX0_row_36 q182 q183 q184 q132 hc_begins (by decide) (by decide) (by decide) (fun r h' q => ?_) (fun C a h' q => q.elim)
    obtain ⟨rfl, rfl⟩ := q
    refine J.cp hp ?_
    refine j_if_eq (tgt := 46) dX0_row_39 (by decide) (fun _ => ?_) (fun z => absurd rfl z)
    refine bX0_row_46.go rfl trivial ?_
    exact c_iret dX0_row_48 rfl ⟨by rw [ew], fun _ => rfl, fun z => absurd z (by rw [ew]; decide +kernel)⟩ (by decide) (by decide)
  · obtain ⟨N, hN, rfl⟩ := nI_of hn
    have h60 : N ≤ 60 := (nI_leI (by omega) (by omega)).mp h22
    have ew : q_row (nI s) (nI w) (nI N) = nI 0 := by rw [q_row, if_pos hr, if_neg hn]
    refine J.callX (As := [.int (nI w), .int (nI N)]) (st := []) (bg_cp hp hs (by omega) h60) q185 (Or.inr ⟨_, rfl⟩) (hp.slot hs) rfl dX0_row_36 q182 q183 q184 q132 hc_begins (by decide) (by decide) (by decide) (fun r h' q => ?_) (fun C a h' q => q.elim)
    obtain ⟨rfl, q, hp'⟩ := q
    refine J.cp hp' ?_
    refine j_if_eq (tgt := 46) dX0_row_39 (by decide) (fun z => absurd z (by decide +kernel)) (fun _ => ?_)
    refine bX0_row_42.go rfl trivial ?_
    refine c_iret dX0_row_48 rfl ⟨by rw [ew], fun z => absurd ew z, fun _ => ⟨q, ?_⟩⟩ (by decide) (by decide)
    rw [nI_clamp (by omega), nI_clamp (by omega), nI_clamp (by omega)]
end Wrt
