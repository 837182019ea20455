set_option maxRecDepth 100000
/-! ===== UnseenClock: feed ===== -/
theorem up_up {α : Type} (f : Nat → α) (k : Nat) (x y : α) : va_up (va_up f k x) k y = va_up f k y := by
  funext j
  by_cases e : j = k
  · subst e; rw [va_up_self, va_up_self]
  · rw [va_up_ne _ _ e, va_up_ne _ _ e, va_up_ne _ _ e]
section Fed
variable {X : Cx} {ad : Nat → Nat} {A : Nat → Nat → Int32} {B : Nat → Nat → Int64} {sk : Nat → Nat → Nat} {sw : Nat → Nat → Int32} {E : Nat → Nat} {h : AH}
theorem CP.grow1 (hp : CP X (ad, A, B, sk, sw, E) h) {q : Nat} {e : va_E} (hq : h q = none) : CP X (ad, A, B, sk, sw, E) (va_up h q (some e)) :=
  hp.chg (D := fun _ => False) (fun _ _ => ⟨rfl, rfl, rfl⟩) (fun _ _ _ _ => rfl) (fun _ d => d.elim) (fun _ d => d.elim) (fun _ _ d => d.elim) (fun z c hc _ => by rw [va_up_ne _ _ (fun y => by rw [y, hq] at hc; cases hc)]; exact hc) (fun j hj => ⟨j, hj, rfl, rfl⟩)
def Qc_feed (ad : Nat → Nat) (A : Nat → Nat → Int32) (B : Nat → Nat → Int64) (sk : Nat → Nat → Nat) (sw : Nat → Nat → Int32) (E : Nat → Nat) (a b c d e : Int32) (n : Nat) (r : Option Value) (x' : Cv) : Prop := (2400 < n + 20 → r = some (.int (-1)) ∧ x' = (ad, A, B, sk, sw, E)) ∧ (n + 20 ≤ 2400 → r = some (.int (nI (n + 20))) ∧ ∃ A', x' = (ad, A', B, sk, sw, E) ∧ (∀ f, f ≠ 0 → f ≠ 6 → A' f = A f) ∧ (∀ j, A' 0 j = if j = 9 then nI (n + 20) else A 0 j) ∧ ∀ j, A' 6 j = if n ≤ j ∧ j < n + 20 then bytI (fivI a b c d e ((j - n) / 4)) (j - n) else A 6 j)
theorem fiv_upd (a b c d e : Int32) : ∀ i, i < 5 → upd (upd (upd (upd (upd (fun _ => 0) 0 a) 1 b) 2 c) 3 d) 4 e i = fivI a b c d e i := by
  intro i hi
  match i, hi with
  | 0, _ => rfl
  | 1, _ => rfl
  | 2, _ => rfl
  | 3, _ => rfl
  | 4, _ => rfl
theorem bX0_feed_0 : Blk PE mX0_feed 0 1 [oAL 0] := blk_c (s_aload_n dX0_feed_0 rfl) <| blk_nil
theorem bX0_feed_4 : Blk PE mX0_feed 4 10 [oC (nI 20), oAdd, oC (nI 2400)] := blk_c (s_bipush dX0_feed_4 (by decide +kernel)) <| blk_c (s_iadd dX0_feed_6) <| blk_c (s_sipush dX0_feed_7 (by decide +kernel)) <| blk_nil
theorem bX0_feed_13 : Blk PE mX0_feed 13 14 [oC (-1)] := blk_c (s_iconst dX0_feed_13 (by decide +kernel)) <| blk_nil
theorem bX0_feed_15 : Blk PE mX0_feed 15 16 [oC (nI 5)] := blk_c (s_iconst dX0_feed_15 (by decide +kernel)) <| blk_nil
theorem bX0_feed_18 : Blk PE mX0_feed 18 21 [oDupR, oC (nI 0), oIL 1] := blk_c (s_dupR dX0_feed_18) <| blk_c (s_iconst dX0_feed_19 (by decide +kernel)) <| blk_c (s_iload_n dX0_feed_20 rfl) <| blk_nil
theorem bX0_feed_22 : Blk PE mX0_feed 22 25 [oDupR, oC (nI 1), oIL 2] := blk_c (s_dupR dX0_feed_22) <| blk_c (s_iconst dX0_feed_23 (by decide +kernel)) <| blk_c (s_iload_n dX0_feed_24 rfl) <| blk_nil
theorem bX0_feed_26 : Blk PE mX0_feed 26 29 [oDupR, oC (nI 2), oIL 3] := blk_c (s_dupR dX0_feed_26) <| blk_c (s_iconst dX0_feed_27 (by decide +kernel)) <| blk_c (s_iload_n dX0_feed_28 rfl) <| blk_nil
theorem bX0_feed_30 : Blk PE mX0_feed 30 34 [oDupR, oC (nI 3), oIL 4] := blk_c (s_dupR dX0_feed_30) <| blk_c (s_iconst dX0_feed_31 (by decide +kernel)) <| blk_c (s_iload dX0_feed_32) <| blk_nil
theorem bX0_feed_35 : Blk PE mX0_feed 35 39 [oDupR, oC (nI 4), oIL 5] := blk_c (s_dupR dX0_feed_35) <| blk_c (s_iconst dX0_feed_36 (by decide +kernel)) <| blk_c (s_iload dX0_feed_37) <| blk_nil
theorem bX0_feed_40 : Blk PE mX0_feed 40 45 [oAS 6, oC (nI 0), oIS 7] := blk_c (s_astore dX0_feed_40 (by decide)) <| blk_c (s_iconst dX0_feed_42 (by decide +kernel)) <| blk_c (s_istore dX0_feed_43 (by decide)) <| blk_nil
theorem bX0_feed_45 : Blk PE mX0_feed 45 49 [oIL 7, oC (nI 20)] := blk_c (s_iload dX0_feed_45) <| blk_c (s_bipush dX0_feed_47 (by decide +kernel)) <| blk_nil
theorem bX0_feed_52 : Blk PE mX0_feed 52 53 [oAL 0] := blk_c (s_aload_n dX0_feed_52 rfl) <| blk_nil
theorem bX0_feed_56 : Blk PE mX0_feed 56 57 [oAL 0] := blk_c (s_aload_n dX0_feed_56 rfl) <| blk_nil
theorem bX0_feed_60 : Blk PE mX0_feed 60 69 [oIL 7, oAdd, oAL 6, oIL 7, oC (nI 4), oDiv] := blk_c (s_iload dX0_feed_60) <| blk_c (s_iadd dX0_feed_62) <| blk_c (s_aload dX0_feed_63) <| blk_c (s_iload dX0_feed_65) <| blk_c (s_iconst dX0_feed_67 (by decide +kernel)) <| blk_c (s_idiv dX0_feed_68) <| blk_nil
theorem bX0_feed_70 : Blk PE mX0_feed 70 82 [oC (nI 24), oC (nI 8), oIL 7, oC (nI 4), oRem, oMul, oSub, oShr, oI2B] := blk_c (s_bipush dX0_feed_70 (by decide +kernel)) <| blk_c (s_bipush dX0_feed_72 (by decide +kernel)) <| blk_c (s_iload dX0_feed_74) <| blk_c (s_iconst dX0_feed_76 (by decide +kernel)) <| blk_c (s_irem dX0_feed_77) <| blk_c (s_imul dX0_feed_78) <| blk_c (s_isub dX0_feed_79) <| blk_c (s_ishr dX0_feed_80) <| blk_c (s_i2b dX0_feed_81) <| blk_nil
theorem bX0_feed_83 : Blk PE mX0_feed 83 45 [oInc 7 1, .inl (fun s => some s)] := blk_c (s_iinc dX0_feed_83 (by decide +kernel) (by decide)) <| blk_c (s_goto (tgt := 45) dX0_feed_86 (by decide)) <| blk_nil
theorem bX0_feed_89 : Blk PE mX0_feed 89 91 [oAL 0, oDupR] := blk_c (s_aload_n dX0_feed_89 rfl) <| blk_c (s_dupR dX0_feed_90) <| blk_nil
theorem bX0_feed_94 : Blk PE mX0_feed 94 97 [oC (nI 20), oAdd] := blk_c (s_bipush dX0_feed_94 (by decide +kernel)) <| blk_c (s_iadd dX0_feed_96) <| blk_nil
theorem bX0_feed_100 : Blk PE mX0_feed 100 101 [oAL 0] := blk_c (s_aload_n dX0_feed_100 rfl) <| blk_nil
theorem pb_feed {a b c d e : Int32} {n : Nat} (hn : A 0 9 = nI n) (h24 : n ≤ 2400) : RCc X mX0_feed 1000 70000 [.ref (ad 0), .int a, .int b, .int c, .int d, .int e] (ad, A, B, sk, sw, E) (Qc_feed ad A B sk sw E a b c d e n) := by
  intro h hp
  have g0 : h (ad 0) = some (.inr (0, [.ref (ad 1), .ref (sk 0 0), .ref (ad 2), .int (A 0 3), .ref (ad 3), .ref (ad 4), .int (A 0 6), .ref (ad 5), .ref (ad 6), .int (A 0 9), .int (A 0 10), .int (A 0 11), .ref (ad 7)])) := hp.at 0 rfl
  rw [hn] at g0
  have g6 : h (ad 6) = some (.inl (X.dA 2, 2400, .inl (A 6))) := hp.at 6 rfl
  have n06 : ad 0 ≠ ad 6 := fun z => absurd (hp.2.2.1 0 6 (fun _ _ _ _ _ => rfl) (fun _ _ _ _ _ => rfl) z) (by decide)
  refine E_start (L := [some (.ref (ad 0)), some (.int a), some (.int b), some (.int c), some (.int d), some (.int e), none, none]) 2 rfl ?_
  refine bX0_feed_0.go rfl trivial ?_
  refine js_of (J.getf (f := 9) clsX0 rfl g0 (by decide) rfl q565 dX0_feed_1 ?_)
  refine of_js ?_
  refine bX0_feed_4.go rfl trivial ?_
  simp (disch := omega) only [nI_add]
  refine j_icmp_le (tgt := 15) dX0_feed_10 (by decide) (fun h10 => ?_) (fun h10 => ?_)
  rotate_left
  · rw [nI_leI (by omega) (by omega)] at h10
    refine bX0_feed_13.go rfl trivial ?_
    exact e_iret dX0_feed_14 rfl ⟨_, _, rfl, ⟨fun _ => ⟨rfl, rfl⟩, fun z => by omega⟩, hp⟩
  rw [nI_leI (by omega) (by omega)] at h10
  refine bX0_feed_15.go rfl trivial ?_
  refine js_of (J.newa (atype := .int) (ty := .int) (t := 0) (N := 5) (a0 := (5, .inl (fun _ => 0))) hp.1.2 rfl rfl (fun _ _ z => z) q275 (vc_int 5) (by decide) (by decide) ⟨by decide, by decide⟩ dX0_feed_16 (fun q hq => ?_))
  have q0 : ad 0 ≠ q := fun z => by rw [z, hq] at g0; cases g0
  have q6 : ad 6 ≠ q := fun z => by rw [z, hq] at g6; cases g6
  refine of_js ?_
  refine bX0_feed_18.go rfl trivial ?_
  refine js_of (J.iast (va_up_self _ _ _) (vp_in_nI (by decide) (by decide)) dX0_feed_21 ?_)
  rw [up_up, nI_clamp (by decide)]
  refine of_js ?_
  refine bX0_feed_22.go rfl trivial ?_
  refine js_of (J.iast (va_up_self _ _ _) (vp_in_nI (by decide) (by decide)) dX0_feed_25 ?_)
  rw [up_up, nI_clamp (by decide)]
  refine of_js ?_
  refine bX0_feed_26.go rfl trivial ?_
  refine js_of (J.iast (va_up_self _ _ _) (vp_in_nI (by decide) (by decide)) dX0_feed_29 ?_)
  rw [up_up, nI_clamp (by decide)]
  refine of_js ?_
  refine bX0_feed_30.go rfl trivial ?_
  refine js_of (J.iast (va_up_self _ _ _) (vp_in_nI (by decide) (by decide)) dX0_feed_34 ?_)
  rw [up_up, nI_clamp (by decide)]
  refine of_js ?_
  refine bX0_feed_35.go rfl trivial ?_
  refine js_of (J.iast (va_up_self _ _ _) (vp_in_nI (by decide) (by decide)) dX0_feed_39 ?_)
  rw [up_up, nI_clamp (by decide)]
  have k5 := fiv_upd a b c d e
  generalize upd (upd (upd (upd (upd (fun _ => 0) 0 a) 1 b) 2 c) 3 d) 4 e = g5 at k5
  have hp1 := hp.grow1 (e := .inl (X.dA 0, 5, .inl g5)) hq
  generalize hh1 : va_up h q (some (.inl (X.dA 0, 5, .inl g5))) = h1 at hp1
  have l0 := (show h1 (ad 0) = h (ad 0) by rw [← hh1, va_up_ne _ _ q0]).trans g0
  have l6 := (show h1 (ad 6) = h (ad 6) by rw [← hh1, va_up_ne _ _ q6]).trans g6
  have lq : h1 q = some (.inl (X.dA 0, 5, .inl g5)) := by rw [← hh1, va_up_self]
  refine of_js ?_
  refine bX0_feed_40.go rfl trivial ?_
  have loop : ∀ g, (∀ j, g j = if n ≤ j ∧ j < n + 0 then bytI (fivI a b c d e ((j - n) / 4)) (j - n) else A 6 j) → JS PE X mX0_feed (rmOf mX0_feed.lv 1000 70000) (ZC X 1000 70000 (Qc_feed ad A B sk sw E a b c d e n)) (0 + 1) (0 + 5) 45 [some (.ref (ad 0)), some (.int a), some (.int b), some (.int c), some (.int d), some (.int e), some (.ref q), some (.int (nI 0))] [] (va_up h1 (ad 6) (some (.inl (X.dA 2, 2400, .inl g)))) := by
    refine loop_down (N := 20) (I := fun _ => True) (P := fun k => ∀ g, (∀ j, g j = if n ≤ j ∧ j < n + k then bytI (fivI a b c d e ((j - n) / 4)) (j - n) else A 6 j) → JS PE X mX0_feed (rmOf mX0_feed.lv 1000 70000) (ZC X 1000 70000 (Qc_feed ad A B sk sw E a b c d e n)) (0 + 1) (0 + 5) 45 [some (.ref (ad 0)), some (.int a), some (.int b), some (.int c), some (.int d), some (.int e), some (.ref q), some (.int (nI k))] [] (va_up h1 (ad 6) (some (.inl (X.dA 2, 2400, .inl g))))) ?_ ?_ 0 (by omega) trivial
    · intro _ g hg
      have m0 : va_up h1 (ad 6) (some (.inl (X.dA 2, 2400, .inl g))) (ad 0) = _ := (va_up_ne _ _ n06).trans l0
      refine bX0_feed_45.go rfl trivial ?_
      refine j_icmp_ge (tgt := 89) dX0_feed_49 (by decide) (fun h49 => ?_) (fun h49 => ?_)
      · refine bX0_feed_89.go rfl trivial ?_
        refine js_of (J.getf (f := 9) clsX0 rfl m0 (by decide) rfl q565 dX0_feed_91 ?_)
        refine of_js ?_
        refine bX0_feed_94.go rfl trivial ?_
        simp (disch := omega) only [nI_add]
        refine js_of (J.putf (f := 9) clsX0 rfl m0 (by decide) (Nat.le_of_ble_eq_true rfl) rfl rfl rfl q565 dX0_feed_97 ?_)
        refine of_js ?_
        refine bX0_feed_100.go rfl trivial ?_
        refine js_of (J.getf (f := 9) clsX0 rfl (va_up_self _ _ _) (by decide) rfl q565 dX0_feed_101 ?_)
        refine of_js ?_
        have hp2 := hp1.upd (A' := va_up A 6 g) (B' := B) (k := 6) (fun j hj => va_up_ne _ _ hj) (fun _ _ => rfl) (e' := .inl (X.dA 2, 2400, .inl g)) (by rw [va_up_self]; rfl)
        have hp3 := hp2.upd (A' := upA (va_up A 6 g) 0 9 (nI (n + 20))) (B' := B) (k := 0) (fun j hj => upA_ne hj) (fun _ _ => rfl) (e' := .inr (0, [.ref (ad 1), .ref (sk 0 0), .ref (ad 2), .int (A 0 3), .ref (ad 3), .ref (ad 4), .int (A 0 6), .ref (ad 5), .ref (ad 6), .int (nI (n + 20)), .int (A 0 10), .int (A 0 11), .ref (ad 7)])) (by rw [upA, va_up_self]; rfl)
        refine e_iret dX0_feed_104 rfl ⟨_, _, rfl, ⟨fun z => by omega, fun _ => ⟨rfl, upA (va_up A 6 g) 0 9 (nI (n + 20)), rfl, fun f f0 f6 => by rw [upA_ne f0, va_up_ne _ _ f6], fun j => ?_, fun j => by rw [upA_ne (by decide), va_up_self]; exact hg j⟩⟩, hp3⟩
        rw [upA, va_up_self]
        by_cases z : j = 9
        · subst z; rw [va_up_self, if_pos rfl]
        · rw [va_up_ne _ _ z, if_neg z, show va_up A 6 g 0 = A 0 from va_up_ne _ _ (by decide)]
      · simp (disch := omega) only [nI_leI] at h49; omega
    · intro k hk _ ih g hg
      have hmod : nI k - nI (k / 4) * nI 4 = nI (k % 4) := by rw [pk_mul, pk_sub (by omega)]; congr 1; omega
      have m0 : va_up h1 (ad 6) (some (.inl (X.dA 2, 2400, .inl g))) (ad 0) = _ := (va_up_ne _ _ n06).trans l0
      have mq : va_up h1 (ad 6) (some (.inl (X.dA 2, 2400, .inl g))) q = _ := (va_up_ne _ _ (fun z => q6 z.symm)).trans lq
      refine bX0_feed_45.go rfl trivial ?_
      refine j_icmp_ge (tgt := 89) dX0_feed_49 (by decide) (fun h49 => ?_) (fun h49 => ?_)
      · simp (disch := omega) only [nI_leI] at h49; omega
      · refine bX0_feed_52.go rfl trivial ?_
        refine js_of (J.getf (f := 8) clsX0 rfl m0 (by decide) rfl q564 dX0_feed_53 ?_)
        refine of_js ?_
        refine bX0_feed_56.go rfl trivial ?_
        refine js_of (J.getf (f := 9) clsX0 rfl m0 (by decide) rfl q565 dX0_feed_57 ?_)
        refine of_js ?_
        refine bX0_feed_60.go rfl (by repeat' first | exact trivial | apply And.intro | decide +kernel) ?_
        simp (disch := omega) only [nI_add, pk_div]
        refine js_of (J.iald mq (vp_in_nI (by omega) (by decide)) dX0_feed_69 ?_)
        refine of_js ?_
        refine bX0_feed_70.go rfl (by repeat' first | exact trivial | apply And.intro | decide +kernel) ?_
        simp (disch := omega) only [pk_div, hmod, nI_clamp]
        simp (disch := omega) only [pk_mul, pk_sub]
        refine js_of (J.bast (va_up_self _ _ _) (vp_in_nI (by omega) (by decide)) dX0_feed_82 ?_)
        rw [up_up, nI_clamp (by omega)]
        refine of_js ?_
        refine bX0_feed_83.go rfl trivial ?_
        rw [nI_1]
        refine ih trivial _ (fun j => ?_)
        rw [k5 (k / 4) (by omega)]
        show (if j = n + k then _ else g j) = _
        by_cases z : j = n + k
        · subst z
          rw [if_pos rfl, if_pos (by omega), show n + k - n = k by omega]
          rfl
        · rw [if_neg z, hg j]
          by_cases z2 : n ≤ j ∧ j < n + k
          · rw [if_pos z2, if_pos (by omega)]
          · rw [if_neg z2, if_neg (by omega)]
  have fin := loop (A 6) (fun j => by rw [if_neg (by omega)])
  rw [← l6, up_same] at fin
  exact fin
end Fed
