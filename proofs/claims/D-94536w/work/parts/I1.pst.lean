set_option maxRecDepth 100000
/-! ===== UnseenClock$Slot: pastes; UnseenClock: paste ===== -/
section Pst0
variable {X : Cx} {M : MD} {R : Room} {Z : ZT} {k n pc idx : Nat} {L : List (Option Value)} {st : List Value} {h : AH}
theorem vp_sz (cA : ClassId) (x : vp_A) : (vp_cell cA x).slots.size = x.1 := by
  obtain ⟨n, y⟩ := x
  rcases y with y | y | y | y | y <;> simp [vp_cell, arrV_size]
theorem arr_of {s : State} (hG : GI X s) {t : Nat} {ty : FieldType} (ht : (tysAll X)[t]? = some (X.dA t, ty)) (x : vp_A) : s.isArrayOf (vp_cell (X.dA t) x) ty := by
  obtain ⟨n, y⟩ := x
  rcases y with y | y | y | y | y <;> exact (hG.1.2 t _ ht).1 _ _
theorem J.copyOut {a0 a1 t : Nat} {x0 x1 : vp_A} {ty : FieldType} {sp dp len : Int32} (hX : ThX X) (h0 : h a0 = some (.inl (X.dA t, x0))) (h1 : h a1 = some (.inl (X.dA t, x1))) (ht : (tysAll X)[t]? = some (X.dA t, ty)) (hprim : refKind ty = false) (z1 : x0.1 < 2 ^ 31) (z2 : x1.1 < 2 ^ 31)
    (bad : sp < 0 ∨ dp < 0 ∨ len < 0 ∨ sp.toInt + len.toInt > x0.1 ∨ dp.toInt + len.toInt > x1.1) (hl : Cond.methodLink M.y.cls idx arraycopyName ∈ lw_all) (hR : 9 ≤ R.frames ∧ 10248 ≤ R.locals) (hst : (st.map fun v => v.category).sum ≤ 8) (hf : k + 3 ≤ R.cells ∧ n + 454 ≤ R.slots) (hd : decode M.cc pc = .ok (.invokestatic idx, 3))
    (kk : ∀ a, JT X M R Z cIdx a pc L h (k + 3) (n + 454)) : J X M R Z pc L (.int len :: .int dp :: .ref a1 :: .int sp :: .ref a0 :: st) h k n := by
  intro p e s m args below meth c B rk H locs ls hW hS hL T hT S
  subst hT
  obtain ⟨ws, hP, hD, hh⟩ := id hW
  obtain ⟨q0, hq0⟩ := hh a0 _ h0
  obtain ⟨q1, hq1⟩ := hh a1 _ h1
  have hts := B.2.2.2.2.2.2.1
  have hG := B.2.2.2.2.2.2.2.1
  have hlocs : ∀ cT kT aS, s.vm.findClass Bundle.tN = some cT → s.vm.classes[cT]? = some kT → kT.statics = some aS → ∀ x ∈ locs, x.base ≠ aS := by
    intro cT kT aS q1 q2 q3 x hx e1
    exact (hX.2 s hG.2.1).2 cT kT aS q1 q2 q3 (by rw [← e1]; exact hS.2.2 x hx)
  obtain ⟨o0, k0, hk0, cm0, hkk0⟩ := arr_of hG ht x0
  obtain ⟨o1, k1, hk1, cm1, hkk1⟩ := arr_of hG ht x1
  obtain ⟨vm', cb, cx, ce, w1, w2, w3, w4, w5, w6, w8⟩ := copyThrown S B.1 (Launch.traces_off hX.1 S.admits) (by decide +kernel) (by decide +kernel) (at_idx hX hts hG.2.1) (by decide) hlocs B.2.2.2.2.2.1 (hts _ hl) (hts _ q371) (hts _ q370) (hts _ q153) (hP q0 _ hq0) (hP q1 _ hq1) o0 o1 hk0 hk1 hkk0 hkk1 (by simp [hprim]) (by rw [vp_sz]; exact z1) (by rw [vp_sz]; exact z2)
    (by rw [vp_sz, vp_sz]; exact bad) (g := F0 m pc ls (.int len :: .int dp :: .ref a1 :: .int sp :: .ref a0 :: st)) rfl (by rw [B.2.2.2.2.1]; exact hL.1) (rest := st) rfl (by rw [B.2.1]; exact hd) hR.1 (by show 2 * 0 + (st.map fun v => v.category).sum + 10240 ≤ _; omega) hf.1 (by omega)
  have S3 := stand_widen ((((S.pushed cb).pushed cx).pushed ce).noted w1) (k := k + 3) (n := n + 454) (by omega) (by omega)
  have e0 : (T.pushCell cb).heap.size = T.heap.size + 1 := pushSz _ _
  have e1 : ((T.pushCell cb).pushCell cx).heap.size = T.heap.size + 2 := by rw [pushSz, e0]
  have hk : ∀ q : Nat, q < T.heap.size → (((T.pushCell cb).pushCell cx).pushCell ce).heap[q]? = T.heap[q]? := fun q hq => by
    rw [pushKeep _ _ _ (by omega), pushKeep _ _ _ (by omega), pushKeep _ _ _ hq]
  have hSz : T.heap.size ≤ (((T.pushCell cb).pushCell cx).pushCell ce).heap.size := by rw [pushSz, e1]; omega
  obtain ⟨t, a1, b1⟩ := kk (T.heap.size + 2) p e s m args below meth c B ⟨rk.1, rk.2.1, hf.1, hf.2⟩ _ locs ls st S3 (hW.grow hk)
    ⟨Nat.le_trans hS.1 hSz, fun q g1 g2 => (hk q (Nat.lt_of_lt_of_le g1 hS.1)).trans (hS.2.1 q g1 g2), hS.2.2⟩ hL ⟨ce, by rw [← e1]; exact pushAt _ _, w5, w6⟩
  exact ⟨t, w8 t a1, b1⟩
theorem J.copyl {a0 a1 n0 n1 sp dp m : Nat} {f g : Nat → Int64} (h0 : h a0 = some (.inl (X.dA 1, n0, .inr (.inl f)))) (h1 : h a1 = some (.inl (X.dA 1, n1, .inr (.inl g)))) (b1 : sp + m ≤ n0) (b2 : dp + m ≤ n1) (c1 : n0 < 2 ^ 31) (c2 : n1 < 2 ^ 31) (hl : Cond.methodLink M.y.cls idx arraycopyName ∈ lw_all) (hR : 1 ≤ M.lv) (hst : wt8 st = true) (hd : decode M.cc pc = .ok (.invokestatic idx, 3))
    (kk : J X M R Z (pc + 3) L st (va_up h a1 (some (.inl (X.dA 1, n1, .inr (.inl (va_cpy f g sp dp m)))))) k n) : J X M R Z pc L (.int (nI m) :: .int (nI dp) :: .ref a1 :: .int (nI sp) :: .ref a0 :: st) h k n := by
  intro p e s mm args below meth c B rk H locs ls hW hS hL
  obtain ⟨ws, hP, hD, hh⟩ := id hW
  obtain ⟨q0, hq0⟩ := hh a0 _ h0
  obtain ⟨q1, hq1⟩ := hh a1 _ h1
  have hts := B.2.2.2.2.2.2.1
  have r1 := rk.1
  have r2 := rk.2.1
  have hst' := Nat.le_of_ble_eq_true hst
  refine va_copyl (ty := .long) B.1 B.2.1 (by rw [B.2.2.2.2.1, hL.1]) B.2.2.2.2.2.1 (hts _ hl) (hts _ q371) (hts _ q370) (hts _ q153) B.2.2.2.2.2.2.2.1.1 hP hD hS q0 q1 1 1 hq0 hq1 rfl rfl rfl (nI_pos (by omega)) (nI_pos (by omega)) (nI_pos (by omega)) (by rw [nI_clamp (by omega), nI_clamp (by omega)]; exact b1) (by rw [nI_clamp (by omega), nI_clamp (by omega)]; exact b2) (fun i hi => rfl) (by omega) ?_ hd (fun H1 locs1 hP1 hD1 hS1 => ?_)
  · have : nativeFrameWords "java/lang/System" "arraycopy" 5 ≤ 100 := by decide +kernel
    omega
  · rw [nI_clamp (by omega), nI_clamp (by omega), nI_clamp (by omega)] at hP1 hD1
    exact kk p e s mm args below meth c B rk H1 locs1 ls (Wd.set hD hh hq1 hP1 hD1) hS1 hL
end Pst0
theorem i64_inj {a b : Int32} (h : a.toInt64 = b.toInt64) : a = b := by
  have := congrArg Int64.toInt h
  rw [Int32.toInt_toInt64, Int32.toInt_toInt64] at this
  exact Int32.toInt_inj.mp this
/-- the numbers in the slots have their widths -/
def SlR (A : Nat → Nat → Int32) (B : Nat → Nat → Int64) (E : Nat → Nat) : Prop := ∀ s, s < 4 → ¬ E (2 + s) = 0 → ∀ j, ∃ x, nbC A B E s j = cutL x (nI (E (2 + s) - 1))
def pasC (E : Nat → Nat) (s : Nat) (i : Int32) (t : Nat) (k n : Int32) : Bool := !decide (i < 0) && (!decide (k < 0) && (!decide (n < 0) && (decide (i.toNatClampNeg + n.toNatClampNeg ≤ E (6 + s)) && decide (k.toNatClampNeg + n.toNatClampNeg ≤ E (6 + t)))))
def pcP (E : Nat → Nat) (s : Nat) (i : Int32) (t : Nat) (k n : Int32) : Int32 := if E (2 + s) = 0 ∨ E (2 + t) = 0 then -6 else if E (2 + s) = E (2 + t) then (if pasC E s i t k n = true then nI 0 else -7) else -8
def QPa (ad : Nat → Nat) (A : Nat → Nat → Int32) (B : Nat → Nat → Int64) (sk : Nat → Nat → Nat) (sw : Nat → Nat → Int32) (E : Nat → Nat) (s : Nat) (i : Int32) (t : Nat) (k n : Int32) (r : Option Value) (x' : Cv) : Prop := r = some (.int (pcP E s i t k n)) ∧ ∃ A' B', x' = (ad, A', B', sk, sw, E) ∧ (∀ j, j ≠ 14 + t → A' j = A j ∧ B' j = B j) ∧ ∀ j, nbC A' B' E t j = if pcP E s i t k n = 0 ∧ k.toNatClampNeg ≤ j ∧ j < k.toNatClampNeg + n.toNatClampNeg then nbC A B E s (i.toNatClampNeg + (j - k.toNatClampNeg)) else nbC A B E t j
abbrev mX1_pastes : MD := (yX1_pastes, cX1_pastes, 6, (Option.some .int), 2, ehT [(31, 46, 49, 48)])
abbrev cwPa : Cond := .codeWith yX1_pastes cX1_pastes 6 (Option.some .int) [(31, 46, 49, 48)]
abbrev rPa : Room := { frames := 9, cells := 3, slots := 460, locals := 10300 }
abbrev rPt2 : Room := { frames := 10, cells := 3, slots := 460, locals := 10350 }
theorem sr_pa : Srch RX1 cIdx 43 [(31, 46, 49, 48)] (some 49) := Or.inr (Or.inr ⟨by decide, by decide, "java/lang/IndexOutOfBoundsException", q364, Or.inl ⟨Or.inr (th_mem 31 rfl), rfl⟩⟩)
theorem hc_pastes : mX1_pastes.y.cls ≠ "java/lang/invoke/MethodHandle" ∧ mX1_pastes.y.cls ≠ "java/lang/invoke/VarHandle" ∧ (parseMethodDescriptor mX1_pastes.y.desc).map (fun d => d.parameters.length) = some 4 := by decide +kernel
theorem hc_width : mX1_width.y.cls = RX1 ∧ mX1_width.y.cls ≠ "java/lang/invoke/MethodHandle" ∧ mX1_width.y.cls ≠ "java/lang/invoke/VarHandle" ∧ (parseMethodDescriptor mX1_width.y.desc).map (fun d => d.parameters.length) = some 0 := by decide +kernel
theorem bX1_pastes_0 : Blk PE mX1_pastes 0 1 [oAL 0] := blk_c (s_aload_n dX1_pastes_0 rfl) <| blk_nil
theorem bX1_pastes_7 : Blk PE mX1_pastes 7 8 [oAL 2] := blk_c (s_aload_n dX1_pastes_7 rfl) <| blk_nil
theorem bX1_pastes_17 : Blk PE mX1_pastes 17 18 [oAL 0] := blk_c (s_aload_n dX1_pastes_17 rfl) <| blk_nil
theorem bX1_pastes_21 : Blk PE mX1_pastes 21 22 [oAL 2] := blk_c (s_aload_n dX1_pastes_21 rfl) <| blk_nil
theorem bX1_pastes_31 : Blk PE mX1_pastes 31 32 [oAL 0] := blk_c (s_aload_n dX1_pastes_31 rfl) <| blk_nil
theorem bX1_pastes_14 : Blk PE mX1_pastes 14 16 [oC (-6)] := blk_c (s_bipush dX1_pastes_14 (by decide +kernel)) <| blk_nil
theorem bX1_pastes_28 : Blk PE mX1_pastes 28 30 [oC (-8)] := blk_c (s_bipush dX1_pastes_28 (by decide +kernel)) <| blk_nil
theorem bX1_pastes_35 : Blk PE mX1_pastes 35 37 [oIL 1, oAL 2] := blk_c (s_iload_n dX1_pastes_35 rfl) <| blk_c (s_aload_n dX1_pastes_36 rfl) <| blk_nil
theorem bX1_pastes_40 : Blk PE mX1_pastes 40 43 [oIL 3, oIL 4] := blk_c (s_iload_n dX1_pastes_40 rfl) <| blk_c (s_iload dX1_pastes_41) <| blk_nil
theorem bX1_pastes_46 : Blk PE mX1_pastes 46 55 [.inl (fun s => some s), oC (nI 0)] := blk_c (s_goto (tgt := 54) dX1_pastes_46 (by decide)) <| blk_c (s_iconst dX1_pastes_54 (by decide +kernel)) <| blk_nil
theorem bX1_pastes_49 : Blk PE mX1_pastes 49 53 [oAS 5, oC (-7)] := blk_c (s_astore dX1_pastes_49 (by decide)) <| blk_c (s_bipush dX1_pastes_51 (by decide +kernel)) <| blk_nil
section Pst1
variable {X : Cx} {ad : Nat → Nat} {A : Nat → Nat → Int32} {B : Nat → Nat → Int64} {sk : Nat → Nat → Nat} {sw : Nat → Nat → Int32} {E : Nat → Nat} {h : AH} {s t : Nat} {i k n : Int32}
theorem wd_cg (hX : ThX X) (hS : SlC E) (hp : CP X (ad, A, B, sk, sw, E) h) (hs : s < 4) (h0 : ¬ E (2 + s) = 0) : Cg X mX1_width 0 0 [.ref (ad (10 + s))] h (PR (some (.int (nI (E (2 + s) - 1)))) h) := by
  obtain ⟨k4, l60⟩ := hS s hs
  have e1 := hp.heldR hs h0
  rcases (by omega : E (2 + s) = 1 ∨ E (2 + s) = 2 ∨ E (2 + s) = 3 ∨ E (2 + s) = 4) with e | e | e | e
  · rw [e]; exact wd_byte hX e1 (hp.held hs (by rw [e]; rfl))
  · rw [e]; exact wd_short hX e1 (hp.held hs (by rw [e]; rfl))
  · rw [e]; exact wd_int hX e1 (hp.held hs (by rw [e]; rfl))
  · rw [e]; exact wd_long hX e1 (hp.held hs (by rw [e]; rfl))
theorem ps_bad (h6 : E (6 + s) ≤ 60) (h6' : E (6 + t) ≤ 60) (hb : ¬ pasC E s i t k n = true) : i < 0 ∨ k < 0 ∨ n < 0 ∨ i.toInt + n.toInt > (E (6 + s) : Int) ∨ k.toInt + n.toInt > (E (6 + t) : Int) := by
  by_cases c1 : i < 0
  · exact Or.inl c1
  by_cases c2 : k < 0
  · exact Or.inr (Or.inl c2)
  by_cases c3 : n < 0
  · exact Or.inr (Or.inr (Or.inl c3))
  obtain ⟨i, hi, rfl⟩ := nI_of c1
  obtain ⟨k, hk, rfl⟩ := nI_of c2
  obtain ⟨n, hn, rfl⟩ := nI_of c3
  rw [pasC, decide_eq_false c1, decide_eq_false c2, decide_eq_false c3, nI_clamp hi, nI_clamp hk, nI_clamp hn] at hb
  simp only [Bool.not_false, Bool.true_and, Bool.and_eq_true, decide_eq_true_eq] at hb
  rw [nI_toInt hi, nI_toInt hk, nI_toInt hn]
  omega
theorem ps_ok (hb : pasC E s i t k n = true) : ∃ i' k' n', i' < 2 ^ 31 ∧ k' < 2 ^ 31 ∧ n' < 2 ^ 31 ∧ i = nI i' ∧ k = nI k' ∧ n = nI n' ∧ i' + n' ≤ E (6 + s) ∧ k' + n' ≤ E (6 + t) := by
  simp only [pasC, Bool.and_eq_true, Bool.not_eq_true', decide_eq_false_iff_not, decide_eq_true_eq] at hb
  obtain ⟨c1, c2, c3, c4, c5⟩ := hb
  obtain ⟨i, hi, rfl⟩ := nI_of c1
  obtain ⟨k, hk, rfl⟩ := nI_of c2
  obtain ⟨n, hn, rfl⟩ := nI_of c3
  rw [nI_clamp hi, nI_clamp hn] at c4
  rw [nI_clamp hk, nI_clamp hn] at c5
  exact ⟨i, k, n, hi, hk, hn, rfl, rfl, rfl, c4, c5⟩
theorem pa_cp (hX : ThX X) (hp : CP X (ad, A, B, sk, sw, E) h) (hs : s < 4) (ht : t < 4) (hS : SlC E) (hRg : SlR A B E) : CgX X mX1_pastes cwPa rPa [.ref (ad (10 + s)), .int i, .ref (ad (10 + t)), .int k, .int n] h (fun r h' => ∃ x', QPa ad A B sk sw E s i t k n r x' ∧ CP X x' h') (fun _ _ _ => False) := by
  obtain ⟨k4, l60⟩ := hS s hs
  obtain ⟨k4', l60'⟩ := hS t ht
  have no : ∀ x, pcP E s i t k n = x → ¬ x = 0 → ∃ x', QPa ad A B sk sw E s i t k n (some (.int x)) x' ∧ CP X x' h := fun x hx h0 => ⟨_, ⟨by rw [hx], A, B, rfl, fun _ _ => ⟨rfl, rfl⟩, fun j => by rw [hx, if_neg (fun z => h0 z.1)]⟩, hp⟩
  have g1 : h (ad (10 + s)) = some (slO ad E s) := hp.slot hs
  have g2 : h (ad (10 + t)) = some (slO ad E t) := hp.slot ht
  refine CgX.ofW (L := [some (.ref (ad (10 + s))), some (.int i), some (.ref (ad (10 + t))), some (.int k), some (.int n), none]) (by decide +kernel) rfl 1 rfl (Nat.le_of_ble_eq_true rfl) (by decide) ?_
  have six : pcP E s i t k n = -6 → JS PE X mX1_pastes rPa (ZX X rPa.cells rPa.slots (fun r h' => ∃ x', QPa ad A B sk sw E s i t k n r x' ∧ CP X x' h') (fun _ _ _ => False)) 0 0 14 [some (.ref (ad (10 + s))), some (.int i), some (.ref (ad (10 + t))), some (.int k), some (.int n), none] [] h := fun hx => by
    refine bX1_pastes_14.go rfl trivial ?_
    exact js_of (J.toX (J.iret dX1_pastes_16 rfl (by decide) (by decide) ⟨_, rfl, no _ hx (by decide +kernel)⟩))
  refine of_js ?_
  refine bX1_pastes_0.go rfl trivial ?_
  refine js_of (J.getf (f := 0) clsX1 rfl g1 (by decide) rfl q384 dX1_pastes_1 ?_)
  refine of_js ?_
  by_cases e0 : E (2 + s) = 0
  · rw [if_pos e0]
    refine j_ifnullN (tgt := 14) dX1_pastes_4 (by decide) ?_
    exact six (by rw [pcP, if_pos (Or.inl e0)])
  rw [if_neg e0]
  refine j_ifnullR dX1_pastes_4 ?_
  refine bX1_pastes_7.go rfl trivial ?_
  refine js_of (J.getf (f := 0) clsX1 rfl g2 (by decide) rfl q384 dX1_pastes_8 ?_)
  refine of_js ?_
  by_cases e1 : E (2 + t) = 0
  · rw [if_pos e1]
    refine j_ifnonnullN dX1_pastes_11 ?_
    exact six (by rw [pcP, if_pos (Or.inr e1)])
  rw [if_neg e1]
  refine j_ifnonnullR (tgt := 17) dX1_pastes_11 (by decide) ?_
  have pe : pcP E s i t k n = if E (2 + s) = E (2 + t) then (if pasC E s i t k n = true then nI 0 else -7) else -8 := by rw [pcP, if_neg (by omega)]
  refine bX1_pastes_17.go rfl trivial ?_
  refine js_of (J.callV (M' := mX1_width) (As := []) (st := []) (mc := 0) (ms := 0) (wd_cg hX hS hp hs e0) (fun o h' q => ⟨_, q.1⟩) g1 rfl dX1_pastes_18 (lw_V q365 q367 qs4 q132 q368) hc_width (by decide) (by decide) (by decide) (fun v h' q => ?_))
  obtain ⟨q, hq⟩ := q
  cases q
  rw [hq]
  refine of_js ?_
  refine bX1_pastes_21.go rfl trivial ?_
  refine js_of (J.callV (M' := mX1_width) (As := []) (st := [.int (nI (E (2 + s) - 1))]) (mc := 0) (ms := 0) (wd_cg hX hS hp ht e1) (fun o h' q => ⟨_, q.1⟩) g2 rfl dX1_pastes_22 (lw_V q365 q367 qs4 q132 q368) hc_width (by decide) (by decide) (Nat.le_of_ble_eq_true rfl) (fun v h' q => ?_))
  obtain ⟨q, hq⟩ := q
  cases q
  rw [hq]
  refine of_js ?_
  refine j_icmp_eq (tgt := 31) dX1_pastes_25 (by decide) (fun h25 => ?_) (fun h25 => ?_)
  rotate_left
  · refine bX1_pastes_28.go rfl trivial ?_
    exact js_of (J.toX (J.iret dX1_pastes_30 rfl (by decide) (by decide) ⟨_, rfl, no _ (by rw [pe, if_neg (fun z => h25 (by rw [z]))]) (by decide +kernel)⟩))
  have ee : E (2 + s) = E (2 + t) := by
    have := (nI_eq (by omega) (by omega)).mp h25
    omega
  rw [if_pos ee] at pe
  have h1 := hp.heldR hs e0
  have h2 := hp.heldR ht e1
  refine bX1_pastes_31.go rfl trivial ?_
  refine js_of (J.getf (f := 0) clsX1 rfl h1 (by decide) rfl q384 dX1_pastes_32 ?_)
  refine of_js ?_
  refine bX1_pastes_35.go rfl trivial ?_
  refine js_of (J.getf (f := 0) clsX1 rfl h2 (by decide) rfl q384 dX1_pastes_37 ?_)
  refine of_js ?_
  refine bX1_pastes_40.go rfl trivial ?_
  refine js_of ?_
  have fin : ∀ {A' B' e'}, pasC E s i t k n = true → (∀ j, j ≠ 14 + t → A' j = A j) → (∀ j, j ≠ 14 + t → B' j = B j) → hldO X (E (2 + t)) (E (6 + t)) (A' (14 + t)) (B' (14 + t)) = some e' → (∀ j, nbC A' B' E t j = if k.toNatClampNeg ≤ j ∧ j < k.toNatClampNeg + n.toNatClampNeg then nbC A B E s (i.toNatClampNeg + (j - k.toNatClampNeg)) else nbC A B E t j) → J X mX1_pastes rPa (ZX X rPa.cells rPa.slots (fun r h' => ∃ x', QPa ad A B sk sw E s i t k n r x' ∧ CP X x' h') (fun _ _ _ => False)) 46 [some (.ref (ad (10 + s))), some (.int i), some (.ref (ad (10 + t))), some (.int k), some (.int n), none] [] (va_up h (ad (14 + t)) (some e')) (0 + 0 + 0) (0 + 0 + 0) := by
    intro A' B' e' hb hA hB he hn
    rw [if_pos hb] at pe
    refine of_js ?_
    refine bX1_pastes_46.go rfl trivial ?_
    refine js_of (J.toX (J.iret dX1_pastes_55 rfl (by decide) (by decide) ⟨_, rfl, (ad, A', B', sk, sw, E), ⟨by rw [pe], A', B', rfl, fun j hj => ⟨hA j hj, hB j hj⟩, fun j => ?_⟩, hp.upd (k := 14 + t) hA hB (by rw [celK_held ht]; exact he)⟩))
    rw [hn j, pe]
    by_cases z : k.toNatClampNeg ≤ j ∧ j < k.toNatClampNeg + n.toNatClampNeg
    · rw [if_pos z, if_pos ⟨rfl, z⟩]
    · rw [if_neg z, if_neg (fun y => z y.2)]
  have out : ¬ pasC E s i t k n = true → ∀ a, JT X mX1_pastes rPa (ZX X rPa.cells rPa.slots (fun r h' => ∃ x', QPa ad A B sk sw E s i t k n r x' ∧ CP X x' h') (fun _ _ _ => False)) cIdx a 43 [some (.ref (ad (10 + s))), some (.int i), some (.ref (ad (10 + t))), some (.int k), some (.int n), none] h (0 + 0 + 0 + 3) (0 + 0 + 0 + 454) := by
    intro hb a
    rw [if_neg hb] at pe
    refine JT.catch hX rfl sr_pa ?_
    refine of_js ?_
    refine bX1_pastes_49.go rfl trivial ?_
    exact js_of (J.toX (J.iret dX1_pastes_53 rfl (by decide) (by decide) ⟨_, rfl, no _ pe (by decide +kernel)⟩))
  rcases (by omega : E (2 + s) = 1 ∨ E (2 + s) = 2 ∨ E (2 + s) = 3 ∨ E (2 + s) = 4) with e | e | e | e
  · have e' : E (2 + t) = 1 := by omega
    have b0 := hp.held hs (e := .inl (X.dA 2, E (6 + s), .inl (A (14 + s)))) (by rw [e]; rfl)
    have b1 := hp.held ht (e := .inl (X.dA 2, E (6 + t), .inl (A (14 + t)))) (by rw [e']; rfl)
    by_cases hb : pasC E s i t k n = true
    · obtain ⟨i', k', n', hi, hk, hn, rfl, rfl, rfl, c4, c5⟩ := ps_ok hb
      refine J.copyi (t := 2) (ty := .byte) (sp := i') (dp := k') (m := n') b0 b1 rfl rfl c4 c5 (by omega) (by omega) (fun j _ => ?_) q369 (by decide) rfl dX1_pastes_43 ?_
      · obtain ⟨x, hx⟩ := hRg s hs e0 (i' + j)
        rw [nbC, if_neg (by omega), e, cut_b, vp_nar_byte] at hx
        rw [i64_inj hx]
        exact pk_fb _
      refine fin (A' := va_up A (14 + t) (va_cpy (A (14 + s)) (A (14 + t)) i' k' n')) (B' := B) hb (fun j hj => va_up_ne _ _ hj) (fun _ _ => rfl) (by rw [e', va_up_self]; rfl) (fun j => ?_)
      have n4 : ¬ E (2 + t) = 4 := by omega
      have n4' : ¬ E (2 + s) = 4 := by omega
      simp only [nbC, if_neg n4, if_neg n4', va_up_self, nI_clamp hi, nI_clamp hk, nI_clamp hn]
      unfold va_cpy
      by_cases z : k' ≤ j ∧ j < k' + n'
      · rw [if_pos z, if_pos z]
      · rw [if_neg z, if_neg z]
    · exact J.copyOut (ty := .byte) hX b0 b1 rfl rfl (by show E (6 + s) < 2 ^ 31; omega) (by show E (6 + t) < 2 ^ 31; omega) (ps_bad l60 l60' hb) q369 (by decide) (by decide) (by decide) dX1_pastes_43 (out hb)
  · have e' : E (2 + t) = 2 := by omega
    have b0 := hp.held hs (e := .inl (X.dA 3, E (6 + s), .inl (A (14 + s)))) (by rw [e]; rfl)
    have b1 := hp.held ht (e := .inl (X.dA 3, E (6 + t), .inl (A (14 + t)))) (by rw [e']; rfl)
    by_cases hb : pasC E s i t k n = true
    · obtain ⟨i', k', n', hi, hk, hn, rfl, rfl, rfl, c4, c5⟩ := ps_ok hb
      refine J.copyi (t := 3) (ty := .short) (sp := i') (dp := k') (m := n') b0 b1 rfl rfl c4 c5 (by omega) (by omega) (fun j _ => ?_) q369 (by decide) rfl dX1_pastes_43 ?_
      · obtain ⟨x, hx⟩ := hRg s hs e0 (i' + j)
        rw [nbC, if_neg (by omega), e, cut_s, vp_nar_short] at hx
        rw [i64_inj hx]
        exact pk_fs _
      refine fin (A' := va_up A (14 + t) (va_cpy (A (14 + s)) (A (14 + t)) i' k' n')) (B' := B) hb (fun j hj => va_up_ne _ _ hj) (fun _ _ => rfl) (by rw [e', va_up_self]; rfl) (fun j => ?_)
      have n4 : ¬ E (2 + t) = 4 := by omega
      have n4' : ¬ E (2 + s) = 4 := by omega
      simp only [nbC, if_neg n4, if_neg n4', va_up_self, nI_clamp hi, nI_clamp hk, nI_clamp hn]
      unfold va_cpy
      by_cases z : k' ≤ j ∧ j < k' + n'
      · rw [if_pos z, if_pos z]
      · rw [if_neg z, if_neg z]
    · exact J.copyOut (ty := .short) hX b0 b1 rfl rfl (by show E (6 + s) < 2 ^ 31; omega) (by show E (6 + t) < 2 ^ 31; omega) (ps_bad l60 l60' hb) q369 (by decide) (by decide) (by decide) dX1_pastes_43 (out hb)
  · have e' : E (2 + t) = 3 := by omega
    have b0 := hp.held hs (e := .inl (X.dA 0, E (6 + s), .inl (A (14 + s)))) (by rw [e]; rfl)
    have b1 := hp.held ht (e := .inl (X.dA 0, E (6 + t), .inl (A (14 + t)))) (by rw [e']; rfl)
    by_cases hb : pasC E s i t k n = true
    · obtain ⟨i', k', n', hi, hk, hn, rfl, rfl, rfl, c4, c5⟩ := ps_ok hb
      refine J.copyi (t := 0) (ty := .int) (sp := i') (dp := k') (m := n') b0 b1 rfl rfl c4 c5 (by omega) (by omega) (fun _ _ => rfl) q369 (by decide) rfl dX1_pastes_43 ?_
      refine fin (A' := va_up A (14 + t) (va_cpy (A (14 + s)) (A (14 + t)) i' k' n')) (B' := B) hb (fun j hj => va_up_ne _ _ hj) (fun _ _ => rfl) (by rw [e', va_up_self]; rfl) (fun j => ?_)
      have n4 : ¬ E (2 + t) = 4 := by omega
      have n4' : ¬ E (2 + s) = 4 := by omega
      simp only [nbC, if_neg n4, if_neg n4', va_up_self, nI_clamp hi, nI_clamp hk, nI_clamp hn]
      unfold va_cpy
      by_cases z : k' ≤ j ∧ j < k' + n'
      · rw [if_pos z, if_pos z]
      · rw [if_neg z, if_neg z]
    · exact J.copyOut (ty := .int) hX b0 b1 rfl rfl (by show E (6 + s) < 2 ^ 31; omega) (by show E (6 + t) < 2 ^ 31; omega) (ps_bad l60 l60' hb) q369 (by decide) (by decide) (by decide) dX1_pastes_43 (out hb)
  · have e' : E (2 + t) = 4 := by omega
    have b0 := hp.held hs (e := .inl (X.dA 1, E (6 + s), .inr (.inl (B (14 + s))))) (by rw [e]; rfl)
    have b1 := hp.held ht (e := .inl (X.dA 1, E (6 + t), .inr (.inl (B (14 + t))))) (by rw [e']; rfl)
    by_cases hb : pasC E s i t k n = true
    · obtain ⟨i', k', n', hi, hk, hn, rfl, rfl, rfl, c4, c5⟩ := ps_ok hb
      refine J.copyl (sp := i') (dp := k') (m := n') b0 b1 c4 c5 (by omega) (by omega) q369 (by decide) rfl dX1_pastes_43 ?_
      refine fin (A' := A) (B' := va_up B (14 + t) (va_cpy (B (14 + s)) (B (14 + t)) i' k' n')) hb (fun _ _ => rfl) (fun j hj => va_up_ne _ _ hj) (by rw [e', va_up_self]; rfl) (fun j => ?_)
      simp only [nbC, if_pos e', if_pos e, va_up_self, nI_clamp hi, nI_clamp hk, nI_clamp hn]
      rfl
    · exact J.copyOut (ty := .long) hX b0 b1 rfl rfl (by show E (6 + s) < 2 ^ 31; omega) (by show E (6 + t) < 2 ^ 31; omega) (ps_bad l60 l60' hb) q369 (by decide) (by decide) (by decide) dX1_pastes_43 (out hb)
def qc_paste (E : Nat → Nat) (s i t k n : Int32) : Int32 := if (slB s && slB t) = true then pcP E s.toNatClampNeg i t.toNatClampNeg k n else -2
def Qc_paste (ad : Nat → Nat) (A : Nat → Nat → Int32) (B : Nat → Nat → Int64) (sk : Nat → Nat → Nat) (sw : Nat → Nat → Int32) (E : Nat → Nat) (s i t k n : Int32) (r : Option Value) (x' : Cv) : Prop := r = some (.int (qc_paste E s i t k n)) ∧ ∃ A' B', x' = (ad, A', B', sk, sw, E) ∧ (∀ j, ¬ (14 ≤ j ∧ j < 18) → A' j = A j ∧ B' j = B j) ∧ ∀ u, u < 4 → ∀ j, nbC A' B' E u j = if qc_paste E s i t k n = 0 ∧ u = t.toNatClampNeg ∧ k.toNatClampNeg ≤ j ∧ j < k.toNatClampNeg + n.toNatClampNeg then nbC A B E s.toNatClampNeg (i.toNatClampNeg + (j - k.toNatClampNeg)) else nbC A B E u j
theorem bX0_paste_0 : Blk CP mX0_paste 0 4 [oIL 1, oS_I pTi fSlot] := blk_c (s_iload_n dX0_paste_0 rfl) <| blk_c (s_S_I ok_sX0_isSlot (fun _ _ _ h => h.1.1) (Or.inl (lw_S q175 q176 q131 q177)) hy_X0_isSlot (by decide) dX0_paste_1) <| blk_nil
theorem bX0_paste_7 : Blk CP mX0_paste 7 11 [oIL 3, oS_I pTi fSlot] := blk_c (s_iload_n dX0_paste_7 rfl) <| blk_c (s_S_I ok_sX0_isSlot (fun _ _ _ h => h.1.1) (Or.inl (lw_S q175 q176 q131 q177)) hy_X0_isSlot (by decide) dX0_paste_8) <| blk_nil
theorem bX0_paste_14 : Blk CP mX0_paste 14 19 [oAL 0, cR 0 0 1, oIL 1] := blk_c (s_aload_n dX0_paste_14 rfl) <| blk_c (cgX0_0 (Or.inl q556) dX0_paste_15) <| blk_c (s_iload_n dX0_paste_18 rfl) <| blk_nil
theorem bX0_paste_20 : Blk CP mX0_paste 20 26 [oIL 2, oAL 0, cR 0 0 1, oIL 3] := blk_c (s_iload_n dX0_paste_20 rfl) <| blk_c (s_aload_n dX0_paste_21 rfl) <| blk_c (cgX0_0 (Or.inl q556) dX0_paste_22) <| blk_c (s_iload_n dX0_paste_25 rfl) <| blk_nil
theorem bX0_paste_27 : Blk CP mX0_paste 27 31 [oIL 4, oIL 5] := blk_c (s_iload dX0_paste_27) <| blk_c (s_iload dX0_paste_29) <| blk_nil
theorem bX0_paste_34 : Blk CP mX0_paste 34 39 [.inl (fun s => some s)] := blk_c (s_goto (tgt := 39) dX0_paste_34 (by decide)) <| blk_nil
theorem bX0_paste_37 : Blk CP mX0_paste 37 39 [oC (-2)] := blk_c (s_bipush dX0_paste_37 (by decide +kernel)) <| blk_nil
theorem pb_paste (hX : ThX X) (hS : SlC E) (hRg : SlR A B E) {s i t k n : Int32} : RX X mX0_paste rPt2 [.ref (ad 0), .int s, .int i, .int t, .int k, .int n] (ad, A, B, sk, sw, E) (Qc_paste ad A B sk sw E s i t k n) := by
  have out : (slB s && slB t) = false → JS CP X mX0_paste rPt2 (ZC X rPt2.cells rPt2.slots (Qc_paste ad A B sk sw E s i t k n)) 0 0 37 [some (.ref (ad 0)), some (.int s), some (.int i), some (.int t), some (.int k), some (.int n)] [] (ad, A, B, sk, sw, E) := by
    intro hr
    have ew : qc_paste E s i t k n = -2 := by rw [qc_paste, if_neg (by rw [hr]; decide)]
    refine bX0_paste_37.go rfl trivial ?_
    exact c_iret dX0_paste_39 rfl ⟨by rw [ew], A, B, rfl, fun _ _ => ⟨rfl, rfl⟩, fun u _ j => by rw [ew, if_neg (fun z => absurd z.1 (by decide +kernel))]⟩ (by decide) (by decide)
  refine X_start (L := [some (.ref (ad 0)), some (.int s), some (.int i), some (.int t), some (.int k), some (.int n)]) 0 rfl ?_
  refine bX0_paste_0.go rfl ⟨trivial, trivial⟩ ?_
  rw [show fSlot s = b2 (slB s) from rfl]
  refine j_if_eq (tgt := 37) dX0_paste_4 (by decide) (fun h4 => ?_) (fun h4 => ?_)
  · rw [b2_0] at h4
    exact out (by rw [h4]; rfl)
  rw [b2_n0] at h4
  refine bX0_paste_7.go rfl ⟨trivial, trivial⟩ ?_
  rw [show fSlot t = b2 (slB t) from rfl]
  refine j_if_eq (tgt := 37) dX0_paste_11 (by decide) (fun h11 => ?_) (fun h11 => ?_)
  · rw [b2_0] at h11
    exact out (by rw [h11, Bool.and_false])
  rw [b2_n0] at h11
  have hr : (slB s && slB t) = true := by rw [h4, h11]; rfl
  obtain ⟨s, hs, rfl⟩ := slB_nat h4
  obtain ⟨t, ht, rfl⟩ := slB_nat h11
  have ew : qc_paste E (nI s) i (nI t) k n = pcP E s i t k n := by rw [qc_paste, if_pos hr, nI_clamp (by omega), nI_clamp (by omega)]
  refine bX0_paste_14.go rfl (by repeat' first | exact trivial | rfl | assumption | omega | apply And.intro) ?_
  refine js_slots hs dX0_paste_19 ?_
  refine bX0_paste_20.go rfl (by repeat' first | exact trivial | rfl | assumption | omega | apply And.intro) ?_
  refine js_slots ht dX0_paste_26 ?_
  refine bX0_paste_27.go rfl trivial ?_
  intro h hp
  refine J.callX (As := [.int i, .ref (ad (10 + t)), .int k, .int n]) (st := []) (pa_cp hX hp hs ht hS hRg) q363 (Or.inr ⟨_, rfl⟩) (hp.slot hs) rfl dX0_paste_31 q360 q361 q362 q132 hc_pastes (by decide) (by decide) (by decide) (fun r h' q => ?_) (fun C a h' q => q.elim)
  obtain ⟨x', ⟨rfl, A', B', rfl, q1, q2⟩, hp'⟩ := q
  refine J.cp hp' ?_
  refine bX0_paste_34.go rfl trivial ?_
  refine c_iret dX0_paste_39 rfl ⟨by rw [ew], A', B', rfl, fun j hj => q1 j (by omega), fun u hu j => ?_⟩ (by decide) (by decide)
  rw [ew, nI_clamp (by omega), nI_clamp (by omega)]
  by_cases z : u = t
  · subst z; rw [q2 j]; simp
  · rw [if_neg (fun y => z y.2.1), nbC, nbC, (q1 (14 + u) (by omega)).1, (q1 (14 + u) (by omega)).2]
end Pst1
