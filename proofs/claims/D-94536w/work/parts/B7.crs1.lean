set_option maxRecDepth 100000
/-! ===== UnseenClock$Course: the small methods ===== -/
theorem j_acmp_ne {σ : Type} {Pic : Cx → σ → AH → Prop} {X : Cx} {M : MD} {R : Room} {Z : ZT} {k n pc : Nat} {L : List (Option Value)} {st : List Value} {x : σ} {a b : Nat} {off : Int} {tgt : Nat} (hd : decode M.cc pc = .ok (.if_acmp .ne off, 3)) (ht : (pc : Int) + off = (tgt : Int)) (kt : ¬ a = b → JS Pic X M R Z k n tgt L st x) (kf : a = b → JS Pic X M R Z k n (pc + 3) L st x) : JS Pic X M R Z k n pc L (.ref b :: .ref a :: st) x :=
  fun h hp p e s m args below meth c B rk H locs ls hW hS hL => lv_acmp_ne (rx := some a) (ry := some b) B.1 B.2.1 hd ht (fun q => kt (fun e => q (by rw [e])) h hp p e s m args below meth c B rk H locs ls hW hS hL) (fun q => kf (Option.some.inj q) h hp p e s m args below meth c B rk H locs ls hW hS hL)
/-- the course's square is in order; the course goes by the world row sw 1 -/
def CrO (A : Nat → Nat → Int32) (sw : Nat → Nat → Int32) (E : Nat → Nat) (v : Nat → Nat) : Prop := SqL E 1 ∧ WOk (sw 1) v ∧ A 3 13 = sw 1 7 ∧ ∀ c, c < v 1 → A 37 c = sw 1 (32 + 6 * c + 2)
theorem WOk.np8 {w : Nat → Int32} {v : Nat → Nat} (h : WOk w v) : v 2 ≤ 8 := h.2.2.2.1
theorem WOk.nc4 {w : Nat → Int32} {v : Nat → Nat} (h : WOk w v) : v 1 ≤ 4 := h.2.2.1
theorem WOk.sp40 {w : Nat → Int32} {v : Nat → Nat} (h : WOk w v) : v 6 ≤ 40 := h.2.2.2.2.2.2.2.1
theorem WOk.nl4 {w : Nat → Int32} {v : Nat → Nat} (h : WOk w v) {p : Nat} (hp : p < v 2) : v (56 + 33 * p + 4) ≤ 4 := (h.2.2.2.2.2.2.2.2.2.2.2.1 p hp).2.2.2.2.1
theorem WOk.nlE {w : Nat → Int32} {v : Nat → Nat} (h : WOk w v) {p : Nat} (hp : p < v 2) : nL w p = v (56 + 33 * p + 4) := by
  have := h.np8
  rw [nL, h.1 _ (by omega)]; exact nI_clamp (by have := h.nl4 hp; omega)
/-! whether a look is settled, is one -/
def F_isSettledC (o : Nat) (p k : Int32) : Cv → Prop × Value := fun (ad, A, B, sk, sw, E) => (o = ad 3 ∧ SqL E 1 ∧ ∃ pn kn : Nat, pn < 1000 ∧ nP (sw 1) ≤ 8 ∧ p = nI pn ∧ k = nI kn, .int (b2 (decide (nP (sw 1) ≤ p.toNatClampNeg) || decide ((A 33 p.toNatClampNeg >>> (k &&& 31)) &&& nI 1 = nI 1))))
def F_isLookingC (o : Nat) (p k : Int32) : Cv → Prop × Value := fun (ad, A, B, sk, sw, E) => (o = ad 3 ∧ SqL E 1 ∧ ∃ pn kn : Nat, pn < 1000 ∧ nP (sw 1) ≤ 8 ∧ p = nI pn ∧ k = nI kn, .int (b2 (!decide (nP (sw 1) ≤ p.toNatClampNeg) && decide ((A 34 p.toNatClampNeg >>> (k &&& 31)) &&& nI 1 = nI 1))))
theorem bX3_isSettled_0 : Blk CP mX3_isSettled 0 13 [oIL 1, oAL 0, cQ1, qR 1 1 2, qSzP 1] := blk_c (s_iload_n dX3_isSettled_0 rfl) <| blk_c (s_aload_n dX3_isSettled_1 rfl) <| blk_c (cgX3_12 (Or.inl q505) dX3_isSettled_2) <| blk_c (q_R (by decide) (fun _ _ => rfl) (Or.inr ⟨_, nq430⟩) dX3_isSettled_5) <| blk_c (q_SzP (lw_F q1193 q803 q805 q136 q807) (by decide) dX3_isSettled_8) <| blk_nil
theorem bX3_isSettled_16 : Blk CP mX3_isSettled 16 26 [oAL 0, cR 3 3 33, oIL 1, cAI 33 8, oIL 2, oS_II pT2 fOn] := blk_c (s_aload_n dX3_isSettled_16 rfl) <| blk_c (cgX3_3 (Or.inl q493) dX3_isSettled_17) <| blk_c (s_iload_n dX3_isSettled_20 rfl) <| blk_c (c_iald (fun _ => rfl) dX3_isSettled_21) <| blk_c (s_iload_n dX3_isSettled_22 rfl) <| blk_c (s_S_II ok_sX0_isOn (fun _ _ _ h => h.1.1) (Or.inr ⟨lw_meth q1141, q1140, q131, _, nq1168⟩) hy_X0_isOn (by decide) dX3_isSettled_23) <| blk_nil
theorem bX3_isSettled_29 : Blk CP mX3_isSettled 29 34 [oC (nI 1), .inl (fun s => some s)] := blk_c (s_iconst dX3_isSettled_29 (by decide +kernel)) <| blk_c (s_goto (tgt := 34) dX3_isSettled_30 (by decide)) <| blk_nil
theorem bX3_isSettled_33 : Blk CP mX3_isSettled 33 34 [oC (nI 0)] := blk_c (s_iconst dX3_isSettled_33 (by decide +kernel)) <| blk_nil
theorem ok_isSettled : FC_II mX3_isSettled 3 F_isSettledC := by
  rintro X o p k ⟨ad, A, B, sk, sw, E⟩ ⟨rfl, hs, pn, kn, hp, h8, rfl, rfl⟩
  refine ⟨?_, rec3⟩
  dsimp only [F_isSettledC]
  simp (disch := omega) only [nI_clamp]
  refine C_start (L := [some (.ref (ad 3)), some (.int (nI pn)), some (.int (nI kn))]) 0 rfl ?_
  refine bX3_isSettled_0.go rfl (by repeat' first | exact trivial | rfl | assumption | omega | apply And.intro) ?_
  refine j_icmp_ge (tgt := 29) dX3_isSettled_13 (by decide) (fun h13 => ?_) (fun h13 => ?_)
  · rw [nI_leI (by omega) (by omega)] at h13
    refine bX3_isSettled_29.go rfl trivial ?_
    refine c_zret dX3_isSettled_34 rfl rfl ⟨?_, rfl⟩
    rw [decide_eq_true h13]; rfl
  · rw [nI_leI (by omega) (by omega)] at h13
    refine bX3_isSettled_16.go rfl (by (try simp (disch := omega) only [nI_add, pk_mul, pk_sub, nI_clamp, vpI]); repeat' first | exact trivial | rfl | assumption | omega | apply And.intro) ?_
    rw [nI_clamp (by omega)]
    refine j_if_eq (tgt := 33) dX3_isSettled_26 (by decide) (fun h26 => ?_) (fun h26 => ?_)
    · rw [fOn, b2_0] at h26
      refine bX3_isSettled_33.go rfl trivial ?_
      refine c_zret dX3_isSettled_34 rfl rfl ⟨?_, rfl⟩
      rw [h26, decide_eq_false h13]; rfl
    · rw [fOn, b2_n0] at h26
      refine bX3_isSettled_29.go rfl trivial ?_
      refine c_zret dX3_isSettled_34 rfl rfl ⟨?_, rfl⟩
      rw [h26, Bool.or_true]; rfl
theorem bX3_isLooking_0 : Blk CP mX3_isLooking 0 13 [oIL 1, oAL 0, cQ1, qR 1 1 2, qSzP 1] := blk_c (s_iload_n dX3_isLooking_0 rfl) <| blk_c (s_aload_n dX3_isLooking_1 rfl) <| blk_c (cgX3_12 (Or.inl q505) dX3_isLooking_2) <| blk_c (q_R (by decide) (fun _ _ => rfl) (Or.inr ⟨_, nq430⟩) dX3_isLooking_5) <| blk_c (q_SzP (lw_F q1193 q803 q805 q136 q807) (by decide) dX3_isLooking_8) <| blk_nil
theorem bX3_isLooking_16 : Blk CP mX3_isLooking 16 26 [oAL 0, cR 3 4 34, oIL 1, cAI 34 8, oIL 2, oS_II pT2 fOn] := blk_c (s_aload_n dX3_isLooking_16 rfl) <| blk_c (cgX3_4 (Or.inl q494) dX3_isLooking_17) <| blk_c (s_iload_n dX3_isLooking_20 rfl) <| blk_c (c_iald (fun _ => rfl) dX3_isLooking_21) <| blk_c (s_iload_n dX3_isLooking_22 rfl) <| blk_c (s_S_II ok_sX0_isOn (fun _ _ _ h => h.1.1) (Or.inr ⟨lw_meth q1141, q1140, q131, _, nq1168⟩) hy_X0_isOn (by decide) dX3_isLooking_23) <| blk_nil
theorem bX3_isLooking_29 : Blk CP mX3_isLooking 29 34 [oC (nI 1), .inl (fun s => some s)] := blk_c (s_iconst dX3_isLooking_29 (by decide +kernel)) <| blk_c (s_goto (tgt := 34) dX3_isLooking_30 (by decide)) <| blk_nil
theorem bX3_isLooking_33 : Blk CP mX3_isLooking 33 34 [oC (nI 0)] := blk_c (s_iconst dX3_isLooking_33 (by decide +kernel)) <| blk_nil
theorem ok_isLooking : FC_II mX3_isLooking 3 F_isLookingC := by
  rintro X o p k ⟨ad, A, B, sk, sw, E⟩ ⟨rfl, hs, pn, kn, hp, h8, rfl, rfl⟩
  refine ⟨?_, rec3⟩
  dsimp only [F_isLookingC]
  simp (disch := omega) only [nI_clamp]
  refine C_start (L := [some (.ref (ad 3)), some (.int (nI pn)), some (.int (nI kn))]) 0 rfl ?_
  refine bX3_isLooking_0.go rfl (by repeat' first | exact trivial | rfl | assumption | omega | apply And.intro) ?_
  refine j_icmp_ge (tgt := 33) dX3_isLooking_13 (by decide) (fun h13 => ?_) (fun h13 => ?_)
  · rw [nI_leI (by omega) (by omega)] at h13
    refine bX3_isLooking_33.go rfl trivial ?_
    refine c_zret dX3_isLooking_34 rfl rfl ⟨?_, rfl⟩
    rw [decide_eq_true h13]; rfl
  · rw [nI_leI (by omega) (by omega)] at h13
    refine bX3_isLooking_16.go rfl (by (try simp (disch := omega) only [nI_add, pk_mul, pk_sub, nI_clamp, vpI]); repeat' first | exact trivial | rfl | assumption | omega | apply And.intro) ?_
    rw [nI_clamp (by omega)]
    refine j_if_eq (tgt := 33) dX3_isLooking_26 (by decide) (fun h26 => ?_) (fun h26 => ?_)
    · rw [fOn, b2_0] at h26
      refine bX3_isLooking_33.go rfl trivial ?_
      refine c_zret dX3_isLooking_34 rfl rfl ⟨?_, rfl⟩
      rw [h26, Bool.and_false]; rfl
    · rw [fOn, b2_n0] at h26
      refine bX3_isLooking_29.go rfl trivial ?_
      refine c_zret dX3_isLooking_34 rfl rfl ⟨?_, rfl⟩
      rw [h26, decide_eq_false h13]; rfl
/-! whether a person is there, sees a clock -/
theorem cellI_n {w : Nat → Int32} {v : Nat → Nat} (hw : WOk w v) {p t : Nat} (hp : p < v 2) : cellI (spotF w p t) = -1 ↔ (spotF w p t).isSome = false := by
  have b4 : v 4 ≤ 12 := hw.2.2.2.2.2.1
  have b5 : v 5 ≤ 12 := hw.2.2.2.2.2.2.1
  cases e : spotF w p t with
  | none => simp [cellI]
  | some q =>
    obtain ⟨a, b, ha, hb, rfl⟩ := spotF_in hw hp e
    simp only [cellI, Option.isSome_some, Bool.true_eq_false, iff_false]
    rw [pk_mul, nI_add]
    exact nI_n1 (by omega)
def F_isThereC (o : Nat) (p t : Int32) : Cv → Prop × Value := fun (ad, A, B, sk, sw, E) => (o = ad 3 ∧ ∃ (v : Nat → Nat) (pn tn : Nat), CrO A sw E v ∧ pn < v 2 ∧ tn < v 6 ∧ p = nI pn ∧ t = nI tn, .int (b2 (thrB (sw 1) p.toNatClampNeg t.toNatClampNeg)))
def F_seesC (o : Nat) (p k t : Int32) : Cv → Prop × Value := fun (ad, A, B, sk, sw, E) => (o = ad 3 ∧ ∃ (v : Nat → Nat) (pn kn tn : Nat), CrO A sw E v ∧ pn < v 2 ∧ kn < v 1 ∧ tn < v 6 ∧ p = nI pn ∧ k = nI kn ∧ t = nI tn, .int (b2 (seeB (sw 1) p.toNatClampNeg k.toNatClampNeg t.toNatClampNeg)))
theorem bX3_isThere_0 : Blk CP mX3_isThere 0 8 [oAL 0, cI 3 13, oIL 1, oS_II pT2 fOn] := blk_c (s_aload_n dX3_isThere_0 rfl) <| blk_c (cgX3_13 (Or.inl q507) dX3_isThere_1) <| blk_c (s_iload_n dX3_isThere_4 rfl) <| blk_c (s_S_II ok_sX0_isOn (fun _ _ _ h => h.1.1) (Or.inr ⟨lw_meth q1141, q1140, q131, _, nq1168⟩) hy_X0_isOn (by decide) dX3_isThere_5) <| blk_nil
theorem bX3_isThere_11 : Blk CP mX3_isThere 11 23 [oAL 0, cQ1, qR 1 3 4, oIL 1, qCl 1, oIL 2, qCe 1 1, oC (-1)] := blk_c (s_aload_n dX3_isThere_11 rfl) <| blk_c (cgX3_12 (Or.inl q505) dX3_isThere_12) <| blk_c (q_R (by decide) (fun _ _ => rfl) (Or.inr ⟨_, nq436⟩) dX3_isThere_15) <| blk_c (s_iload_n dX3_isThere_18 rfl) <| blk_c (q_Cl dX3_isThere_19) <| blk_c (s_iload_n dX3_isThere_20 rfl) <| blk_c (q_Ce dX3_isThere_21) <| blk_c (s_iconst dX3_isThere_22 (by decide +kernel)) <| blk_nil
theorem bX3_isThere_26 : Blk CP mX3_isThere 26 31 [oC (nI 1), .inl (fun s => some s)] := blk_c (s_iconst dX3_isThere_26 (by decide +kernel)) <| blk_c (s_goto (tgt := 31) dX3_isThere_27 (by decide)) <| blk_nil
theorem bX3_isThere_30 : Blk CP mX3_isThere 30 31 [oC (nI 0)] := blk_c (s_iconst dX3_isThere_30 (by decide +kernel)) <| blk_nil
theorem ok_isThereC : FC_II mX3_isThere 3 F_isThereC := by
  rintro X o p t ⟨ad, A, B, sk, sw, E⟩ ⟨rfl, v, pn, tn, ⟨hs, hw, e13, -⟩, hp, ht, rfl, rfl⟩
  have h8 := hw.np8
  have h40 := hw.sp40
  have npE := hw.npE
  have spE := hw.span
  refine ⟨?_, rec3⟩
  dsimp only [F_isThereC]
  simp (disch := omega) only [nI_clamp]
  refine C_start (L := [some (.ref (ad 3)), some (.int (nI pn)), some (.int (nI tn))]) 0 rfl ?_
  refine bX3_isThere_0.go rfl (by repeat' first | exact trivial | rfl | assumption | omega | apply And.intro) ?_
  rw [e13]
  refine j_if_ne (tgt := 30) dX3_isThere_8 (by decide) (fun h8 => ?_) (fun h8 => ?_)
  · rw [fOn, b2_n0] at h8
    refine bX3_isThere_30.go rfl trivial ?_
    refine c_zret dX3_isThere_31 rfl rfl ⟨?_, rfl⟩
    try simp (disch := omega) only [nI_clamp]
    rw [thrB, show bitI (sw 1 7) pn = true from h8]; rfl
  · rw [fOn, b2_0] at h8
    refine bX3_isThere_11.go rfl (by simp (disch := omega) only [nI_clamp, vpI, npE, spE]; repeat' first | exact trivial | rfl | assumption | omega | apply And.intro) ?_
    simp (disch := omega) only [nI_clamp]
    refine j_icmp_eq (tgt := 30) dX3_isThere_23 (by decide) (fun h23 => ?_) (fun h23 => ?_)
    · rw [cellI_n hw hp] at h23
      refine bX3_isThere_30.go rfl trivial ?_
      refine c_zret dX3_isThere_31 rfl rfl ⟨?_, rfl⟩
      try simp (disch := omega) only [nI_clamp]
      rw [thrB, h23, Bool.and_false]; rfl
    · rw [cellI_n hw hp, Bool.not_eq_false] at h23
      refine bX3_isThere_26.go rfl trivial ?_
      refine c_zret dX3_isThere_31 rfl rfl ⟨?_, rfl⟩
      try simp (disch := omega) only [nI_clamp]
      rw [thrB, h23, show bitI (sw 1 7) pn = false from h8]; rfl
theorem bX3_sees_0 : Blk CP mX3_sees 0 6 [oAL 0, oIL 1, oIL 3, cF_II F_isThereC] := blk_c (s_aload_n dX3_sees_0 rfl) <| blk_c (s_iload_n dX3_sees_1 rfl) <| blk_c (s_iload_n dX3_sees_2 rfl) <| blk_c (c_F_II ok_isThereC (ci := 3) rfl (lw_V q1164 q1166 qs33 q137 q1167) hy_X3_isThere rfl (by decide) dX3_sees_3) <| blk_nil
theorem bX3_sees_9 : Blk CP mX3_sees 9 28 [oAL 0, cQ1, oAL 0, cQ1, qR 1 3 4, oIL 1, qCl 1, oIL 3, qCe 1 1, oIL 2, qC_II 1 pSeen fSeen] := blk_c (s_aload_n dX3_sees_9 rfl) <| blk_c (cgX3_12 (Or.inl q505) dX3_sees_10) <| blk_c (s_aload_n dX3_sees_13 rfl) <| blk_c (cgX3_12 (Or.inl q505) dX3_sees_14) <| blk_c (q_R (by decide) (fun _ _ => rfl) (Or.inr ⟨_, nq436⟩) dX3_sees_17) <| blk_c (s_iload_n dX3_sees_20 rfl) <| blk_c (q_Cl dX3_sees_21) <| blk_c (s_iload_n dX3_sees_22 rfl) <| blk_c (q_Ce dX3_sees_23) <| blk_c (s_iload_n dX3_sees_24 rfl) <| blk_c (q_C_II ok_isSeen (lw_V q1169 q1170 q1171 q133 q1172) hy_X2_isSeen rfl (by decide) dX3_sees_25) <| blk_nil
theorem bX3_sees_31 : Blk CP mX3_sees 31 36 [oC (nI 1), .inl (fun s => some s)] := blk_c (s_iconst dX3_sees_31 (by decide +kernel)) <| blk_c (s_goto (tgt := 36) dX3_sees_32 (by decide)) <| blk_nil
theorem bX3_sees_35 : Blk CP mX3_sees 35 36 [oC (nI 0)] := blk_c (s_iconst dX3_sees_35 (by decide +kernel)) <| blk_nil
theorem ok_seesC : FC_III mX3_sees 3 F_seesC := by
  rintro X o p k t ⟨ad, A, B, sk, sw, E⟩ ⟨rfl, v, pn, kn, tn, hO, hp, hk, ht, rfl, rfl, rfl⟩
  obtain ⟨hs, hw, e13, -⟩ := id hO
  have h8 := hw.np8
  have h4 := hw.nc4
  have h40 := hw.sp40
  have npE := hw.npE
  have spE := hw.span
  refine ⟨?_, rec3⟩
  dsimp only [F_seesC]
  simp (disch := omega) only [nI_clamp]
  refine C_start (L := [some (.ref (ad 3)), some (.int (nI pn)), some (.int (nI kn)), some (.int (nI tn))]) 0 rfl ?_
  refine bX3_sees_0.go rfl ⟨⟨rfl, v, pn, tn, hO, hp, ht, rfl, rfl⟩, trivial⟩ ?_
  simp (disch := omega) only [nI_clamp]
  refine j_if_eq (tgt := 35) dX3_sees_6 (by decide) (fun h6 => ?_) (fun h6 => ?_)
  · rw [b2_0] at h6
    refine bX3_sees_35.go rfl trivial ?_
    refine c_zret dX3_sees_36 rfl rfl ⟨?_, rfl⟩
    try simp (disch := omega) only [nI_clamp]
    have : seeB (sw 1) pn kn tn = false := by
      simp only [thrB, Bool.and_eq_false_iff, Bool.not_eq_false'] at h6
      rcases h6 with q | q
      · rw [seeB, q]; rfl
      · cases e : spotF (sw 1) pn tn with
        | none => rw [seeB, e, Bool.and_false]
        | some z => rw [e] at q; cases q
    rw [this]; rfl
  · rw [b2_n0] at h6
    simp only [thrB, Bool.and_eq_true, Bool.not_eq_true'] at h6
    obtain ⟨q, e⟩ := Option.isSome_iff_exists.mp h6.2
    obtain ⟨a, b, ha, hb, rfl⟩ := spotF_in hw hp e
    have b4 : v 4 ≤ 12 := hw.2.2.2.2.2.1
    have b5 : v 5 ≤ 12 := hw.2.2.2.2.2.2.1
    have eC : cellI (spotF (sw 1) pn tn) = nI (a + 100 * b) := by rw [e]; simp only [cellI]; rw [pk_mul, nI_add]
    refine bX3_sees_9.go rfl (by simp (disch := omega) only [nI_clamp, vpI, npE, spE, eC]; exact ⟨⟨trivial, hs⟩, ⟨trivial, hs⟩, ⟨trivial, hs⟩, ⟨⟨trivial, by omega⟩, hs⟩, ⟨⟨trivial, by omega, by omega, by omega⟩, hs⟩, ⟨⟨trivial, v, a, b, kn, hw, ha, hb, hk, rfl, rfl⟩, hs⟩, trivial⟩) ?_
    simp (disch := omega) only [nI_clamp, eC]
    have eS : fSeen (nI (a + 100 * b)) (nI kn) (sw 1) = b2 (seeB (sw 1) pn kn tn) := by
      rw [fSeen, pk_rem (by omega) (by decide) (by decide), pk_div (by omega) (by decide) (by decide), nI_clamp (by omega), seeB, h6.1, e, show (a + 100 * b) % 100 = a by omega, show (a + 100 * b) / 100 = b by omega]
      rfl
    rw [eS]
    refine j_if_eq (tgt := 35) dX3_sees_28 (by decide) (fun h28 => ?_) (fun h28 => ?_)
    · rw [b2_0] at h28
      refine bX3_sees_35.go rfl trivial ?_
      refine c_zret dX3_sees_36 rfl rfl ⟨?_, rfl⟩
      try simp (disch := omega) only [nI_clamp]
      rw [h28]; rfl
    · rw [b2_n0] at h28
      refine bX3_sees_31.go rfl trivial ?_
      refine c_zret dX3_sees_36 rfl rfl ⟨?_, rfl⟩
      try simp (disch := omega) only [nI_clamp]
      rw [h28]; rfl
