set_option maxRecDepth 100000
/-! ===== UnseenClock: back ===== -/
section Bck
variable {X : Cx} {M : MD} {R : Room} {Z : ZT} {k n pc idx : Nat} {L : List (Option Value)} {st : List Value} {ad : Nat → Nat} {A : Nat → Nat → Int32} {B : Nat → Nat → Int64} {sk : Nat → Nat → Nat} {sw : Nat → Nat → Int32} {E : Nat → Nat} {h : AH} {i : Nat}
theorem js_imgs (hi : i < 3) (hd : decode M.cc pc = .ok (.aaload, 1)) (kk : JS CP X M R Z k n (pc + 1) L (va_rf (if E (10 + i) = 1 then some (ad (18 + i)) else none) :: st) (ad, A, B, sk, sw, E)) : JS CP X M R Z k n pc L (.int (nI i) :: .ref (ad 5) :: st) (ad, A, B, sk, sw, E) := by
  intro h hp
  have g5 : h (ad 5) = some (rfA X 7 3 (fun i => if i < 3 then (if E (10 + i) = 1 then some (ad (18 + i)) else none) else none)) := hp.at 5 rfl
  refine J.aald (t := 7) rfl g5 (vp_in_nI hi (by decide)) hd ?_
  rw [nI_clamp (by omega), if_pos hi]
  exact kk h hp
/-- the square of an image becomes the square -/
theorem CP.bck (hp : CP X (ad, A, B, sk, sw, E) h) (hi : i < 3) (he : E (10 + i) = 1) : CP X (ad, A, B, va_up sk 0 (sk (2 + i)), va_up sw 0 (sw (2 + i)), E) (va_up h (ad 0) (some (.inr (0, (fsX0 ad A sk).set 1 (.ref (sk (2 + i) 0)))))) := by
  have u0 : Use E 0 := fun _ _ _ _ _ => rfl
  refine hp.chg (D := fun k => k = 0) (fun k dk => ⟨rfl, rfl, rfl⟩) (fun k dk a b => ?_) (fun k dk c hc => ?_) (fun k dk uk => Or.inr ⟨k, dk, by rw [dk]; exact u0, rfl⟩) (fun k j dk dj _ _ _ => dk.trans dj.symm) (fun z c hc hn => ?_) (fun j hj => ?_)
  · unfold celK
    split
    · rfl
    · unfold celO
      by_cases h50 : k < 50
      · rw [if_pos h50, if_pos h50]
        split <;> first
          | rfl
          | exact absurd rfl dk
          | (simp (disch := omega) only [imO, va_up_ne]; done)
      · rw [if_neg h50, if_neg h50]
  · subst dk
    cases hc
    rw [va_up_self, va_up_self]
    rfl
  · rw [va_up_ne _ _ (hn 0 rfl u0)]
    exact hc
  · by_cases e0 : j = 0
    · subst e0
      exact ⟨2 + i, Or.inr (Or.inr ⟨by omega, by omega, by rw [show 8 + (2 + i) = 10 + i by omega]; exact he⟩), va_up_self _ _ _, va_up_self _ _ _⟩
    · exact ⟨j, hj, va_up_ne _ _ e0, va_up_ne _ _ e0⟩
def qc_back (E : Nat → Nat) (t : Int32) : Int32 := if imB t = true then (if E (10 + t.toNatClampNeg) = 1 then nI 0 else -6) else -2
def Qc_back (ad : Nat → Nat) (A : Nat → Nat → Int32) (B : Nat → Nat → Int64) (sk : Nat → Nat → Nat) (sw : Nat → Nat → Int32) (E : Nat → Nat) (t : Int32) (r : Option Value) (x' : Cv) : Prop := r = some (.int (qc_back E t)) ∧ (¬ qc_back E t = 0 → x' = (ad, A, B, sk, sw, E)) ∧ (qc_back E t = 0 → ∃ A', x' = (ad, A', B, va_up sk 0 (sk (2 + t.toNatClampNeg)), va_up sw 0 (sw (2 + t.toNatClampNeg)), E) ∧ (∀ j, j ≠ 0 → j ≠ 2 → A' j = A j) ∧ (∀ q, q ≠ 3 → A' 0 q = A 0 q) ∧ A' 0 3 = A (18 + t.toNatClampNeg) 2 ∧ ∀ c, c < 4 → A' 2 c = A (21 + t.toNatClampNeg) c)
theorem bX0_back_0 : Blk CP mX0_back 0 9 [oIL 1, oI2L, oCL (lN 0), oCL (2), oS_JJJ pT3 fIn] := blk_c (s_iload_n dX0_back_0 rfl) <| blk_c (s_i2l dX0_back_1) <| blk_c (s_lconst dX0_back_2 (by decide +kernel)) <| blk_c (s_ldc2 dX0_back_3 q1320) <| blk_c (s_S_JJJ ok_sX0_in (fun _ _ _ h => h.1.1) (Or.inl (lw_S q179 q180 q131 q181)) hy_X0_in (by decide) dX0_back_6) <| blk_nil
theorem bX0_back_12 : Blk CP mX0_back 12 14 [oC (-2)] := blk_c (s_bipush dX0_back_12 (by decide +kernel)) <| blk_nil
theorem bX0_back_15 : Blk CP mX0_back 15 20 [oAL 0, cR 0 7 5, oIL 1] := blk_c (s_aload_n dX0_back_15 rfl) <| blk_c (cgX0_7 (Or.inl q563) dX0_back_16) <| blk_c (s_iload_n dX0_back_19 rfl) <| blk_nil
theorem bX0_back_24 : Blk CP mX0_back 24 26 [oC (-6)] := blk_c (s_bipush dX0_back_24 (by decide +kernel)) <| blk_nil
theorem bX0_back_27 : Blk CP mX0_back 27 33 [oAL 0, oAL 0, cR 0 7 5, oIL 1] := blk_c (s_aload_n dX0_back_27 rfl) <| blk_c (s_aload_n dX0_back_28 rfl) <| blk_c (cgX0_7 (Or.inl q563) dX0_back_29) <| blk_c (s_iload_n dX0_back_32 rfl) <| blk_nil
theorem bX0_back_40 : Blk CP mX0_back 40 46 [oAL 0, oAL 0, cR 0 7 5, oIL 1] := blk_c (s_aload_n dX0_back_40 rfl) <| blk_c (s_aload_n dX0_back_41 rfl) <| blk_c (cgX0_7 (Or.inl q563) dX0_back_42) <| blk_c (s_iload_n dX0_back_45 rfl) <| blk_nil
theorem bX0_back_50 : Blk CP mX0_back 50 58 [cPI 0 3, oAL 0, cR 0 7 5, oIL 1] := blk_c (cpX0_3 (Or.inl q559) dX0_back_50) <| blk_c (s_aload_n dX0_back_53 rfl) <| blk_c (cgX0_7 (Or.inl q563) dX0_back_54) <| blk_c (s_iload_n dX0_back_57 rfl) <| blk_nil
theorem bX0_back_62 : Blk CP mX0_back 62 69 [oC (nI 0), oAL 0, cR 0 2 2, oC (nI 0), oC (nI 4)] := blk_c (s_iconst dX0_back_62 (by decide +kernel)) <| blk_c (s_aload_n dX0_back_63 rfl) <| blk_c (cgX0_2 (Or.inl q558) dX0_back_64) <| blk_c (s_iconst dX0_back_67 (by decide +kernel)) <| blk_c (s_iconst dX0_back_68 (by decide +kernel)) <| blk_nil
theorem bX0_back_72 : Blk CP mX0_back 72 73 [oC (nI 0)] := blk_c (s_iconst dX0_back_72 (by decide +kernel)) <| blk_nil
theorem pb_back {t : Int32} : RCc X mX0_back 1000 70000 [.ref (ad 0), .int t] (ad, A, B, sk, sw, E) (Qc_back ad A B sk sw E t) := by
  refine C_start (L := [some (.ref (ad 0)), some (.int t)]) 0 rfl ?_
  refine bX0_back_0.go rfl ⟨trivial, trivial⟩ ?_
  rw [fIn_L, show inL t (lN 0) 2 = imB t from rfl]
  refine j_if_ne (tgt := 15) dX0_back_9 (by decide) (fun h9 => ?_) (fun h9 => ?_)
  rotate_left
  · rw [b2_0] at h9
    have ew : qc_back E t = -2 := by rw [qc_back, if_neg (by rw [h9]; decide)]
    refine bX0_back_12.go rfl trivial ?_
    exact c_iret dX0_back_14 rfl ⟨by rw [ew], fun _ => rfl, fun z => absurd z (by rw [ew]; decide +kernel)⟩
  rw [b2_n0] at h9
  obtain ⟨i, hi, rfl⟩ := imB_nat h9
  have ci : (nI i).toNatClampNeg = i := nI_clamp (by omega)
  refine bX0_back_15.go rfl (by repeat' first | exact trivial | rfl | assumption | omega | apply And.intro) ?_
  refine js_imgs hi dX0_back_20 ?_
  by_cases he : E (10 + i) = 1
  · have ew : qc_back E (nI i) = nI 0 := by rw [qc_back, if_pos h9, ci, if_pos he]
    rw [if_pos he]
    refine j_ifnonnullR (tgt := 27) dX0_back_21 (by decide) ?_
    refine bX0_back_27.go rfl (by repeat' first | exact trivial | rfl | assumption | omega | apply And.intro) ?_
    refine js_imgs hi dX0_back_33 ?_
    rw [if_pos he]
    intro h hp
    refine J.getfN (f := 1) hp.1.1 clsX17 rfl (hp.imgAt hi he) (by decide) rfl nq1618 dX0_back_34 ?_
    have g0 : h (ad 0) = some (.inr (0, fsX0 ad A sk)) := hp.at 0 rfl
    refine J.putf (f := 1) clsX0 rfl g0 (by decide) (Nat.le_of_ble_eq_true rfl) rfl rfl rfl q557 dX0_back_37 ?_
    refine J.cp (hp.bck hi he) ?_
    have n0 : 2 + i ≠ 0 := by omega
    generalize hsk : va_up sk 0 (sk (2 + i)) = sk'
    generalize hsw : va_up sw 0 (sw (2 + i)) = sw'
    refine bX0_back_40.go rfl (by repeat' first | exact trivial | rfl | assumption | omega | apply And.intro) ?_
    refine js_imgs hi dX0_back_46 ?_
    rw [if_pos he]
    intro h1 hp1
    refine J.getfN (f := 2) hp1.1.1 clsX17 rfl (hp1.imgAt hi he) (by decide) rfl nq1619 dX0_back_47 ?_
    refine J.cp hp1 ?_
    refine bX0_back_50.go rfl (by repeat' first | exact trivial | rfl | assumption | omega | apply And.intro) ?_
    refine js_imgs hi dX0_back_58 ?_
    rw [if_pos he]
    intro h2 hp2
    refine J.getfN (f := 0) hp2.1.1 clsX17 rfl (hp2.imgAt hi he) (by decide) rfl nq1617 dX0_back_59 ?_
    refine J.cp hp2 ?_
    refine bX0_back_62.go rfl (by repeat' first | exact trivial | rfl | assumption | omega | apply And.intro) ?_
    have ha : arrK E (21 + i) = some (4, 0) := by
      match i, hi, he with
      | 0, _, he => exact if_pos he
      | 1, _, he => exact if_pos he
      | 2, _, he => exact if_pos he
    refine c_copy (sp := 0) (dp := 0) (m := 4) (n0 := 4) (n1 := 4) ha rfl (by decide) (by decide) (by decide) (by decide) q1627 (by decide) rfl dX0_back_69 ?_
    refine bX0_back_72.go rfl trivial ?_
    refine c_iret dX0_back_73 rfl ⟨by rw [ew], fun z => absurd ew z, fun _ => ?_⟩
    rw [ci, hsk, hsw]
    exact ⟨_, rfl, fun j a b => by rw [va_up_ne _ _ b, upA_ne a], fun q hq => by rw [va_up_ne _ _ (by decide), upA, va_up_self, va_up_ne _ _ hq], by rw [va_up_ne _ _ (by decide), upA, va_up_self, va_up_self], fun c hc => by rw [va_up_self, upA_ne (by omega)]; exact cpy4 _ _ hc⟩
  · have ew : qc_back E (nI i) = -6 := by rw [qc_back, if_pos h9, ci, if_neg he]
    rw [if_neg he]
    refine j_ifnonnullN dX0_back_21 ?_
    refine bX0_back_24.go rfl trivial ?_
    exact c_iret dX0_back_26 rfl ⟨by rw [ew], fun _ => rfl, fun z => absurd z (by rw [ew]; decide +kernel)⟩
end Bck
