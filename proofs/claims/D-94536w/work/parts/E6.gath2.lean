set_option maxRecDepth 100000
/-! ===== UnseenClock.gathers: the walk ===== -/
section Gath2
variable {X : Cx} {mi : Nat} {ad : Nat → Nat} {A A' A2 : Nat → Nat → Int32} {B : Nat → Nat → Int64} {sk : Nat → Nat → Nat} {sw : Nat → Nat → Int32} {E : Nat → Nat} {v : Nat → Nat} {w : Nat → Int32}
theorem CrsC.cg {cf : CF} {rs : Nat → RS} (h : CrsC A2 v cf rs) (h4 : v 1 ≤ 4) (h8 : v 2 ≤ 8) (hA : ∀ j, j < 100 → j ≠ 4 → j ≠ 0 → j ≠ 36 → j ≠ 3 → A' j = A2 j) (h14 : A' 3 14 = A2 3 14) : CrsC A' v cf rs := by
  obtain ⟨a1, a2, a3, a4, a5, a6, a7⟩ := h
  refine ⟨by rw [h14]; exact a1, fun i hi => by rw [hA 35 (by decide) (by decide) (by decide) (by decide) (by decide)]; exact a2 i hi, a3, fun t ht c hc => by rw [hA _ (by omega) (by omega) (by omega) (by omega) (by omega)]; exact a4 t ht c hc, fun t ht c hc => by rw [hA _ (by omega) (by omega) (by omega) (by omega) (by omega)]; exact a5 t ht c hc, fun t ht p hp => by rw [hA _ (by omega) (by omega) (by omega) (by omega) (by omega)]; exact a6 t ht p hp, fun c hc => ?_⟩
  rw [hA 39 (by decide) (by decide) (by decide) (by decide) (by decide), hA 40 (by decide) (by decide) (by decide) (by decide) (by decide)]
  exact a7 c hc
/-- the course is set to go by e -/
def GaC (w : Nat → Int32) (v : Nat → Nat) (e : Nat → Bool) (x : Cv) : Prop := x.2.2.2.2.1 1 = w ∧ SqL x.2.2.2.2.2 1 ∧ x.2.1 3 13 = w 7 ∧ (∀ c, c < v 1 → x.2.1 37 c = w (32 + 6 * c + 2)) ∧ (∀ c, c < 4 → x.2.1 38 c = nI 0) ∧ x.2.1 3 16 = nI 0 ∧ (∀ i, i < 2000 → tkC x.2.1 i = e i) ∧ ∃ tm, tm ≤ 1280 ∧ x.2.1 3 15 = nI tm
/-- N courses are gathered, the next goes by e -/
def GaN (w : Nat → Int32) (v : Nat → Nat) (N : Nat) (e : Nat → Bool) (x : Cv) : Prop := crE w N = some e ∧ (∀ i, i ≤ N → (crE w i).isNone = false) ∧ x.2.1 0 6 = nI N ∧ N ≤ x.2.2.2.2.2 0 ∧ LI x.2.2.2.2.2 ∧ CoC x.2.1 v w N
def RmI (E E' : Nat → Nat) (kc nc : Nat) : Prop := kc ≤ 3 * (E' 0 - E 0) + (E' 1 - E 1) ∧ nc ≤ 486 * (E' 0 - E 0) + 4 * (E' 1 - E 1) ∧ E 0 ≤ E' 0 ∧ E 1 ≤ E' 1 ∧ (E' 1 = E 1 ∨ E' 1 ≤ 190)
theorem GaC.cf {e : Nat → Bool} {ad : Nat → Nat} {E : Nat → Nat} (h : GaC w v e (ad, A, B, sk, sw, E)) (h4 : v 1 ≤ 4) : cfEq v (cfC A w) (cfE w e) := by
  obtain ⟨-, -, -, -, a5, a6, a7, -⟩ := h
  refine ⟨rfl, fun c hc => a5 c (by omega), a7, ?_⟩
  show (!decide (A 3 16 = 0)) = false
  have a6 : A 3 16 = nI 0 := a6
  rw [a6]; decide
theorem GaC.cro {e : Nat → Bool} (hw : WOk w v) (h : GaC w v e (ad, A, B, sk, sw, E)) : CrO A sw E v := by
  obtain ⟨a1, a2, a3, a4, -⟩ := h
  have a1 : sw 1 = w := a1
  exact ⟨a2, by rw [a1]; exact hw, by rw [a1]; exact a3, fun c hc => by rw [a1]; exact a4 c hc⟩
theorem GaC.cg {e : Nat → Bool} {ad' : Nat → Nat} {B' : Nat → Nat → Int64} {E' : Nat → Nat} (h : GaC w v e (ad, A, B, sk, sw, E)) (h3 : ∀ q, q ≠ 14 → A' 3 q = A 3 q) (h36 : A' 36 = A 36) (h37 : A' 37 = A 37) (h38 : A' 38 = A 38) (hE : SqL E 1 → SqL E' 1) : GaC w v e (ad', A', B', sk, sw, E') := by
  obtain ⟨a1, a2, a3, a4, a5, a6, a7, tm, t1, t2⟩ := h
  have e15 : A' 3 15 = A 3 15 := h3 15 (by decide)
  refine ⟨a1, hE a2, ?_, fun c hc => ?_, fun c hc => ?_, ?_, fun i hi => ?_, tm, t1, ?_⟩
  · show A' 3 13 = w 7; rw [h3 13 (by decide)]; exact a3
  · show A' 37 c = _; rw [h37]; exact a4 c hc
  · show A' 38 c = _; rw [h38]; exact a5 c hc
  · show A' 3 16 = _; rw [h3 16 (by decide)]; exact a6
  · show tkC A' i = e i
    have : tkC A' i = tkC A i := by unfold tkC; rw [e15, h36]
    rw [this]; exact a7 i hi
  · show A' 3 15 = _; rw [e15]; exact t2
abbrev GaQ (w : Nat → Int32) (v : Nat → Nat) (x : Cv) : Option Value → Cv → Prop := fun r x' => r = some (.int (b2 (decide (cnC w ≤ 128)))) ∧ Kp x x' ∧ (cnC w ≤ 128 → x'.2.1 0 6 = nI (cnC w) ∧ cnC w ≤ x'.2.2.2.2.2 0 ∧ LI x'.2.2.2.2.2 ∧ CoC x'.2.1 v w (cnC w))
theorem bX0_gathers_0 : Blk CP mX0_gathers 0 21 [oAL 0, oC (nI 0), cPI 0 6, oAL 0, cR 0 4 3, oAL 0, cQ0, oAL 0, cR 0 2 2, oAL 0, cI 0 3] := blk_c (s_aload_n dX0_gathers_0 rfl) <| blk_c (s_iconst dX0_gathers_1 (by decide +kernel)) <| blk_c (cpX0_6 (Or.inl q562) dX0_gathers_2) <| blk_c (s_aload_n dX0_gathers_5 rfl) <| blk_c (cgX0_4 (Or.inl q560) dX0_gathers_6) <| blk_c (s_aload_n dX0_gathers_9 rfl) <| blk_c (cgX0_1 (Or.inl q557) dX0_gathers_10) <| blk_c (s_aload_n dX0_gathers_13 rfl) <| blk_c (cgX0_2 (Or.inl q558) dX0_gathers_14) <| blk_c (s_aload_n dX0_gathers_17 rfl) <| blk_c (cgX0_3 (Or.inl q559) dX0_gathers_18) <| blk_nil
theorem bX0_gathers_24 : Blk CP mX0_gathers 24 26 [oC (nI 1), oIS 1] := blk_c (s_iconst dX0_gathers_24 (by decide +kernel)) <| blk_c (s_istore_n dX0_gathers_25 rfl (by decide)) <| blk_nil
theorem bX0_gathers_26 : Blk CP mX0_gathers 26 27 [oIL 1] := blk_c (s_iload_n dX0_gathers_26 rfl) <| blk_nil
theorem bX0_gathers_30 : Blk CP mX0_gathers 30 37 [oAL 0, cI 0 6, oC (nI 128)] := blk_c (s_aload_n dX0_gathers_30 rfl) <| blk_c (cgX0_6 (Or.inl q562) dX0_gathers_31) <| blk_c (s_sipush dX0_gathers_34 (by decide +kernel)) <| blk_nil
theorem bX0_gathers_40 : Blk CP mX0_gathers 40 41 [oC (nI 0)] := blk_c (s_iconst dX0_gathers_40 (by decide +kernel)) <| blk_nil
theorem bX0_gathers_42 : Blk CP mX0_gathers 42 46 [oAL 0, cR 0 4 3] := blk_c (s_aload_n dX0_gathers_42 rfl) <| blk_c (cgX0_4 (Or.inl q560) dX0_gathers_43) <| blk_nil
theorem bX0_gathers_49 : Blk CP mX0_gathers 49 53 [oAL 0, cR 0 5 4] := blk_c (s_aload_n dX0_gathers_49 rfl) <| blk_c (cgX0_5 (Or.inl q561) dX0_gathers_50) <| blk_nil
theorem bX0_gathers_58 : Blk CP mX0_gathers 58 62 [oAL 0, cI 0 6] := blk_c (s_aload_n dX0_gathers_58 rfl) <| blk_c (cgX0_6 (Or.inl q562) dX0_gathers_59) <| blk_nil
theorem bX0_gathers_65 : Blk CP mX0_gathers 65 69 [oAL 0, cR 0 5 4] := blk_c (s_aload_n dX0_gathers_65 rfl) <| blk_c (cgX0_5 (Or.inl q561) dX0_gathers_66) <| blk_nil
theorem bX0_gathers_72 : Blk CP mX0_gathers 72 73 [oDupR] := blk_c (s_dupR dX0_gathers_72) <| blk_nil
theorem bX0_gathers_81 : Blk CP mX0_gathers 81 82 [oPopI] := blk_c (s_popI dX0_gathers_81) <| blk_nil
theorem bX0_gathers_82 : Blk CP mX0_gathers 82 90 [oAL 0, cR 0 5 4, oAL 0, cI 0 6] := blk_c (s_aload_n dX0_gathers_82 rfl) <| blk_c (cgX0_5 (Or.inl q561) dX0_gathers_83) <| blk_c (s_aload_n dX0_gathers_86 rfl) <| blk_c (cgX0_6 (Or.inl q562) dX0_gathers_87) <| blk_nil
theorem bX0_gathers_98 : Blk CP mX0_gathers 98 102 [oAL 0, cR 0 4 3] := blk_c (s_aload_n dX0_gathers_98 rfl) <| blk_c (cgX0_4 (Or.inl q560) dX0_gathers_99) <| blk_nil
theorem bX0_gathers_105 : Blk CP mX0_gathers 105 119 [oAL 0, oDupR, cI 0 6, oC (nI 1), oAdd, cPI 0 6, oAL 0, cR 0 4 3] := blk_c (s_aload_n dX0_gathers_105 rfl) <| blk_c (s_dupR dX0_gathers_106) <| blk_c (cgX0_6 (Or.inl q562) dX0_gathers_107) <| blk_c (s_iconst dX0_gathers_110 (by decide +kernel)) <| blk_c (s_iadd dX0_gathers_111) <| blk_c (cpX0_6 (Or.inl q562) dX0_gathers_112) <| blk_c (s_aload_n dX0_gathers_115 rfl) <| blk_c (cgX0_4 (Or.inl q560) dX0_gathers_116) <| blk_nil
theorem bX0_gathers_122 : Blk CP mX0_gathers 122 26 [oIS 1, .inl (fun s => some s)] := blk_c (s_istore_n dX0_gathers_122 rfl (by decide)) <| blk_c (s_goto (tgt := 26) dX0_gathers_123 (by decide)) <| blk_nil
theorem bX0_gathers_126 : Blk CP mX0_gathers 126 127 [oC (nI 1)] := blk_c (s_iconst dX0_gathers_126 (by decide +kernel)) <| blk_nil
theorem ok_gathers (hM : WkM X mi) (hS : SX w v A sw) (hLI : LI E) : RCc X mX0_gathers 600 64000 [.ref (ad 0)] (ad, A, B, sk, sw, E) (GaQ w v (ad, A, B, sk, sw, E)) := by
  obtain ⟨e0, hw, e7, ep⟩ := id hS
  have h4 := hw.nc4
  have h8 := hw.np8
  have h40 := hw.sp40
  have spE := hw.span
  refine C_start (L := [some (.ref (ad 0)), none]) 1 rfl ?_
  have head : ∀ N, N ≤ 128 → ∀ e ad' A' B' sk' sw' E' kc nc, Kp (ad, A, B, sk, sw, E) (ad', A', B', sk', sw', E') → GaC w v e (ad', A', B', sk', sw', E') → GaN w v N e (ad', A', B', sk', sw', E') → RmI E E' kc nc → JS CP X mX0_gathers (rmOf mX0_gathers.lv 600 64000) (ZC X 600 64000 (GaQ w v (ad, A, B, sk, sw, E))) kc nc 26 [some (.ref (ad' 0)), some (.int (nI 1))] [] (ad', A', B', sk', sw', E') := by
    intro N hN
    refine loop_down (N := 128) (I := fun _ => True) (P := fun N => ∀ e ad' A' B' sk' sw' E' kc nc, Kp (ad, A, B, sk, sw, E) (ad', A', B', sk', sw', E') → GaC w v e (ad', A', B', sk', sw', E') → GaN w v N e (ad', A', B', sk', sw', E') → RmI E E' kc nc → JS CP X mX0_gathers (rmOf mX0_gathers.lv 600 64000) (ZC X 600 64000 (GaQ w v (ad, A, B, sk, sw, E))) kc nc 26 [some (.ref (ad' 0)), some (.int (nI 1))] [] (ad', A', B', sk', sw', E')) ?_ ?_ N hN trivial
    · intro _ e ad' A' B' sk' sw' E' kc nc hk hC hG hR
      obtain ⟨g1, g2, g3, g4, g5, g6⟩ := hG
      obtain ⟨r1, r2, r3, r4, r5⟩ := hR
      have g5 : LI E' := g5
      obtain ⟨l1, l2, l3, l4⟩ := id g5
      refine bX0_gathers_26.go rfl trivial ?_
      refine j_if_eq (tgt := 126) dX0_gathers_27 (by decide) (fun q => absurd q (by decide)) (fun _ => ?_)
      refine bX0_gathers_30.go rfl (by repeat' first | exact trivial | rfl | assumption | omega | apply And.intro) ?_
      have g3 : A' 0 6 = nI 128 := g3
      rw [g3]
      refine j_icmp_ne (tgt := 42) dX0_gathers_37 (by decide) (fun q => absurd rfl q) (fun _ => ?_)
      refine bX0_gathers_40.go rfl trivial ?_
      have ec : cnC w = 129 := by unfold cnC; exact cnF_all 129 0 (fun j _ hj => g2 j (by omega))
      exact c_zret dX0_gathers_41 rfl rfl ⟨by rw [ec]; rfl, hk, fun h => by omega⟩
    · intro N hN _ ih e ad' A' B' sk' sw' E' kc nc hk hC hG hR
      obtain ⟨g1, g2, g3, g4, g5, g6⟩ := hG
      obtain ⟨r1, r2, r3, r4, r5⟩ := hR
      have g3 : A' 0 6 = nI N := g3
      have g4 : N ≤ E' 0 := g4
      have esw : sw' 1 = w := hC.1
      have tail : ∀ ad' A' B' sk' sw' E' kc nc, Kp (ad, A, B, sk, sw, E) (ad', A', B', sk', sw', E') → GaC w v e (ad', A', B', sk', sw', E') → A' 0 6 = nI N → N < E' 0 → LI E' → CoC A' v w N → CrsC A' v (cfE w e) (rsE w e) → RmI E E' kc nc → JS CP X mX0_gathers (rmOf mX0_gathers.lv 600 64000) (ZC X 600 64000 (GaQ w v (ad, A, B, sk, sw, E))) kc nc 82 [some (.ref (ad' 0)), some (.int (nI 1))] [] (ad', A', B', sk', sw', E') := by
        intro ad' A' B' sk' sw' E' kc nc hk hC g3 g4 g5 g6 crs hR
        have esw : sw' 1 = w := hC.1
        have hsq : SqL E' 1 := hC.2.1
        obtain ⟨r1, r2, r3, r4, r5⟩ := id hR
        obtain ⟨l1, l2, l3, l4⟩ := id g5
        refine bX0_gathers_82.go rfl (by repeat' first | exact trivial | rfl | assumption | omega | apply And.intro) ?_
        rw [g3]
        refine js_lget g5 g4 dX0_gathers_90 (lw_F q1117 q812 q814 q136 q816) (by decide) rfl ?_
        refine js_scast g4 q1359 dX0_gathers_95 ?_
        refine bX0_gathers_98.go rfl (by repeat' first | exact trivial | rfl | assumption | omega | apply And.intro) ?_
        refine cq (M' := mX16_becomes) (nA := 1) (As := [.ref (ad' 3)]) (ok_becomes g4 hsq (m := v 6) h40 (by rw [esw]; exact hw.1 6 (by decide))) (recS g4) rfl ((lw_V q1374 q1375 q1376 q163 q1377)) dX0_gathers_102 rfl hy_X16_becomes (fun r A3 B3 q => ?_)
        obtain ⟨rfl, hB, hb⟩ := q
        have hB := hB.symm
        subst hB
        have hC3 := CoC.add hw g6 g1 crs hb (fun k hk => ⟨rfl, rfl⟩)
        have lo : ∀ j, j < 100 → A3 j = A' j := fun j hj => hb.1 j (by omega) (by omega)
        refine bX0_gathers_105.go rfl (by repeat' first | exact trivial | rfl | assumption | omega | apply And.intro) ?_
        rw [show A3 0 6 = nI N by rw [lo 0 (by decide)]; exact g3, nI_add]
        generalize hA4 : upA A3 0 6 (nI (N + 1)) = A4
        have a4 : ∀ j, j ≠ 0 → A4 j = A3 j := fun j hj => by rw [← hA4, upA_ne hj]
        have a40 : ∀ q, q ≠ 6 → A4 0 q = A3 0 q := fun q hq => by rw [← hA4, upA_at, if_neg hq]
        have a46 : A4 0 6 = nI (N + 1) := by rw [← hA4, upA_at, if_pos rfl]
        have hC4 : GaC w v e (ad', A4, B', sk', sw', E') := hC.cg (fun q _ => by rw [a4 3 (by decide), lo 3 (by decide)]) (by rw [a4 36 (by decide), lo 36 (by decide)]) (by rw [a4 37 (by decide), lo 37 (by decide)]) (by rw [a4 38 (by decide), lo 38 (by decide)]) id
        obtain ⟨-, -, -, -, -, -, tk4, tm, tm1, tm2⟩ := id hC4
        have tk4 : ∀ i, i < 2000 → tkC A4 i = e i := tk4
        have tm2 : A4 3 15 = nI tm := tm2
        have h14 : A4 3 14 = nI (rsE w e (v 6)).on := by rw [a4 3 (by decide), lo 3 (by decide)]; exact crs.1
        have hon : (rsE w e (v 6)).on ≤ 32 * v 6 := crs.2.2.1
        have hk4 : Kp (ad, A, B, sk, sw, E) (ad', A4, B', sk', sw', E') := hk.tr (Kp.ar (fun j hj => by rw [a4 j (by omega), lo j (by omega)]) (fun q hq => by rw [a40 q hq, lo 0 (by decide)]))
        refine cq (M' := mX3_takesOtherwise) (nA := 0) (As := []) (ok_takesOtherwise tm2 h14 tm1 (by omega)) rec3 rfl ((lw_V q1378 q1379 q1380 q137 q1381)) dX0_gathers_119 rfl hy_X3_takesOtherwise (fun r A5 B5 q => ?_)
        obtain ⟨hB, f1, f2, f3⟩ := q
        have hB := hB.symm
        subst hB
        rw [lastNo_cg (e' := e) (fun k hk => tk4 k (by omega))] at f3
        have hk5 : Kp (ad, A, B, sk, sw, E) (ad', A5, B', sk', sw', E') := hk4.tr (Kp.ar (fun j hj => f1 j (by omega) (by omega)) (fun q _ => by rw [f1 0 (by decide) (by decide)]))
        have hC5 : CoC A5 v w (N + 1) := hC3.cg (fun k hk => ⟨by rw [f1 _ (by omega) (by omega), a4 _ (by omega)], by rw [f1 _ (by omega) (by omega), a4 _ (by omega)]⟩)
        have a56 : A5 0 6 = nI (N + 1) := by rw [f1 0 (by decide) (by decide)]; exact a46
        have eon : onE w e = (rsE w e (v 6)).on := by unfold onE; rw [spE]
        cases hl : lastNo e (rsE w e (v 6)).on with
        | none =>
          rw [hl] at f3
          obtain rfl : r = some (.int (nI 0)) := f3
          have cr : crE w (N + 1) = none := by
            show (match crE w N with
              | none => none
              | some e => match lastNo e (onE w e) with
                | none => none
                | some j => some (nxtE e j)) = none
            rw [g1]
            show (match lastNo e (onE w e) with
                | none => none
                | some j => some (nxtE e j)) = none
            rw [eon, hl]
          have ec : cnC w = N + 1 := by unfold cnC; exact cnF_at 129 0 (by omega) (by omega) (fun j _ hj => g2 j (by omega)) (by rw [cr]; rfl)
          refine bX0_gathers_122.go rfl trivial ?_
          refine bX0_gathers_26.go rfl trivial ?_
          refine j_if_eq (tgt := 126) dX0_gathers_27 (by decide) (fun _ => ?_) (fun q => absurd (by decide) q)
          refine bX0_gathers_126.go rfl trivial ?_
          refine c_zret dX0_gathers_127 rfl rfl ⟨by rw [ec, decide_eq_true (by omega)]; rfl, hk5, fun _ => ?_⟩
          rw [ec]
          exact ⟨a56, g4, g5, hC5⟩
        | some j =>
          rw [hl] at f3
          obtain ⟨rfl, f4, f5⟩ := f3
          have hj : j < (rsE w e (v 6)).on := lastNo_lt hl
          have cr : crE w (N + 1) = some (nxtE e j) := by
            show (match crE w N with
              | none => none
              | some e => match lastNo e (onE w e) with
                | none => none
                | some j => some (nxtE e j)) = some (nxtE e j)
            rw [g1]
            show (match lastNo e (onE w e) with
                | none => none
                | some j => some (nxtE e j)) = some (nxtE e j)
            rw [eon, hl]
          refine bX0_gathers_122.go rfl trivial ?_
          refine ih trivial (nxtE e j) ad' A5 B' sk' sw' E' kc nc hk5 ?_ ⟨cr, fun i hi => ?_, a56, g4, g5, hC5⟩ hR
          · obtain ⟨b1, b2, b3, b4, b5, b6, -, -⟩ := hC4
            have b3 : A4 3 13 = w 7 := b3
            have b6 : A4 3 16 = nI 0 := b6
            refine ⟨b1, b2, ?_, fun c hc => ?_, fun c hc => ?_, ?_, fun i hi => ?_, j + 1, by omega, f4⟩
            · show A5 3 13 = w 7; rw [f2 13 (by decide)]; exact b3
            · show A5 37 c = _; rw [f1 37 (by decide) (by decide)]; exact b4 c hc
            · show A5 38 c = _; rw [f1 38 (by decide) (by decide)]; exact b5 c hc
            · show A5 3 16 = _; rw [f2 16 (by decide)]; exact b6
            · show tkC A5 i = _
              rw [f5 i hi]
              unfold nxtE
              by_cases q : i < j
              · rw [if_pos q, if_pos q]; exact tk4 i hi
              · rw [if_neg q, if_neg q]
          · by_cases q : i = N + 1
            · subst q; rw [cr]; rfl
            · exact g2 i (by omega)
      have g5 : LI E' := g5
      obtain ⟨l1, l2, l3, l4⟩ := id g5
      refine bX0_gathers_26.go rfl trivial ?_
      refine j_if_eq (tgt := 126) dX0_gathers_27 (by decide) (fun q => absurd q (by decide)) (fun _ => ?_)
      refine bX0_gathers_30.go rfl (by repeat' first | exact trivial | rfl | assumption | omega | apply And.intro) ?_
      rw [g3]
      refine j_icmp_ne (tgt := 42) dX0_gathers_37 (by decide) (fun _ => ?_) (fun q => absurd ((nI_eq (by omega) (by omega)).mp q) (by omega))
      refine bX0_gathers_42.go rfl (by repeat' first | exact trivial | rfl | assumption | omega | apply And.intro) ?_
      refine js_goes (hC.cro hw) (lw_V q1188 q1189 q1190 q137 q1191) dX0_gathers_46 (by decide) rfl (fun A2 B2 k2 gg => ?_)
      rw [esw] at gg
      have crs : CrsC A2 v (cfE w e) (rsE w e) := CrsC.z rfl (gg.crs (od' := fun _ => nI 0) hw (hC.cf h4))
      have hi : ∀ j, j ≠ 33 → j ≠ 34 → j ≠ 3 → j ≠ 35 → j ≠ 39 → j ≠ 40 → (j < 50 ∨ 78 ≤ j) → A2 j = A' j := gg.1.1
      have h3 : ∀ q, q ≠ 14 → A2 3 q = A' 3 q := gg.1.2.1
      have hC2 : GaC w v e (ad', A2, B2, sk', sw', E') := hC.cg h3 (hi 36 (by decide) (by decide) (by decide) (by decide) (by decide) (by decide) (by omega)) (hi 37 (by decide) (by decide) (by decide) (by decide) (by decide) (by decide) (by omega)) (hi 38 (by decide) (by decide) (by decide) (by decide) (by decide) (by decide) (by omega)) id
      have hk2 : Kp (ad, A, B, sk, sw, E) (ad', A2, B2, sk', sw', E') := hk.tr k2.kp
      have h6 : A2 0 6 = nI N := by rw [hi 0 (by decide) (by decide) (by decide) (by decide) (by decide) (by decide) (by omega)]; exact g3
      have co2 : CoC A2 v w N := CoC.cg g6 (fun k _ => ⟨hi _ (by omega) (by omega) (by omega) (by omega) (by omega) (by omega) (by omega), hi _ (by omega) (by omega) (by omega) (by omega) (by omega) (by omega) (by omega)⟩)
      refine bX0_gathers_49.go rfl (by repeat' first | exact trivial | rfl | assumption | omega | apply And.intro) ?_
      refine js_lsize g5 dX0_gathers_53 (lw_F q1115 q803 q805 q136 q807) (by decide) rfl ?_
      refine bX0_gathers_58.go rfl (by repeat' first | exact trivial | rfl | assumption | omega | apply And.intro) ?_
      rw [h6]
      refine j_icmp_ne (tgt := 82) dX0_gathers_62 (by decide) (fun q => ?_) (fun q => ?_)
      · have : N ≠ E' 0 := fun e => q (by rw [e])
        exact tail ad' A2 B2 sk' sw' E' kc nc hk2 hC2 h6 (by omega) g5 co2 crs ⟨r1, r2, r3, r4, r5⟩
      · have hN0 : E' 0 = N := (nI_eq (by omega) (by omega)).mp q
        refine bX0_gathers_65.go rfl (by repeat' first | exact trivial | rfl | assumption | omega | apply And.intro) ?_
        refine js_newSeen hM (by omega) g5 (by show kc + 4 ≤ 600; omega) (by show nc + 486 + (E' 1 + E' 1 / 2) ≤ 64000; omega) (fun e8 s q1 q2 cap m mc ms hh => ?_)
        refine bX0_gathers_81.go rfl trivial ?_
        have q0 : xAd ad' (E' 0) e8 s q1 q2 0 = ad' 0 := xAd_lo (by decide) (by omega)
        have kn : Kp (ad', A2, B2, sk', sw', E') (xAd ad' (E' 0) e8 s q1 q2, xA A2 (E' 0) m, B2, sk', sw', xE E' cap) := Kp.ns g5 (by omega) (by rcases hh with ⟨a, b, -, -⟩ | ⟨a, b, -, -⟩ <;> omega)
        have xn : ∀ j, j < 100 → j ≠ 4 → xA A2 (E' 0) m j = A2 j := fun j h1 h2 => xA_ne h2 (by omega) (by omega)
        rw [← q0]
        refine tail _ _ B2 sk' sw' _ (kc + mc) (nc + ms) (hk2.tr kn) (hC2.cg (fun q _ => by rw [xn 3 (by decide) (by decide)]) (xn 36 (by decide) (by decide)) (xn 37 (by decide) (by decide)) (xn 38 (by decide) (by decide)) (fun z => ?_)) (by rw [xn 0 (by decide) (by decide)]; exact h6) (by rw [xE_0]; omega) (kn.2.2.2.2.2.2.2 g5) (co2.cg (fun k hk => ⟨xA_ne (by omega) (by omega) (by omega), xA_ne (by omega) (by omega) (by omega)⟩)) (crs.cg h4 h8 (fun j h1 h2 _ _ _ => xn j h1 h2) (by rw [xn 3 (by decide) (by decide)])) ?_
        · rcases z with z | z | z
          · exact Or.inl z
          · exact Or.inr (Or.inl ⟨z.1, by rw [xE_hi (by omega)]; exact z.2⟩)
          · exact Or.inr (Or.inr ⟨z.1, z.2.1, by have := z.1; omega⟩)
        · unfold RmI
          rw [xE_0, xE_1]
          rcases hh with ⟨a, b, c, d⟩ | ⟨a, b, c, d⟩ <;> refine ⟨?_, ?_, ?_, ?_, ?_⟩ <;> omega
  refine bX0_gathers_0.go rfl (by repeat' first | exact trivial | rfl | assumption | omega | apply And.intro) ?_
  refine js_begins (w1 := w) (by rw [e0]; exact hw) (by rw [e0]; exact SqEq.rf w) (lw_V q1154 q1155 q1156 q137 q1157) dX0_gathers_21 (by decide) rfl (fun A1 sk1 sw1 E1 k1 b1 e1 s1 => ?_)
  have k0 : Kp (ad, A, B, sk, sw, E) (ad, upA A 0 6 (nI 0), B, sk, sw, E) := Kp.ar (fun j hj => upA_ne (by omega)) (fun q hq => by rw [upA_at, if_neg hq])
  have kk := k0.tr k1.kp
  have x0 : A1 0 = upA A 0 6 (nI 0) 0 := k1.1 0 (by decide) (by omega)
  have eE0 : E1 0 = E 0 := k1.2.2.2.2 0 (by decide)
  have eE1 : E1 1 = E 1 := k1.2.2.2.2 1 (by decide)
  refine bX0_gathers_24.go rfl trivial ?_
  refine head 0 (by decide) (fun _ => false) ad A1 B sk1 sw1 E1 0 0 kk ⟨e1, s1, ?_, fun c hc => ?_, b1.2.2.2.2.2.2, b1.2.2.2.2.1, fun i hi => ?_, 0, by decide, b1.2.2.2.1⟩ ⟨rfl, fun i hi => ?_, ?_, Nat.zero_le _, kk.2.2.2.2.2.2.2 hLI, fun k hk => absurd hk (Nat.not_lt_zero _)⟩ ?_
  · show A1 3 13 = w 7
    rw [b1.2.2.1, upA_at, if_neg (by decide)]; exact e7
  · show A1 37 c = _
    rw [b1.2.2.2.2.2.1 c (by omega), upA_ne (by decide)]; exact ep c hc
  · show tkC A1 i = false
    simp only [tkC, b1.2.2.2.1]
    rw [decide_eq_false (by rw [nI_ltI (by omega) (by omega)]; omega)]; rfl
  · obtain rfl : i = 0 := by omega
    rfl
  · show A1 0 6 = nI 0
    rw [x0, upA_at, if_pos rfl]
  · unfold RmI
    rw [eE0, eE1]
    refine ⟨by omega, by omega, by omega, by omega, Or.inl rfl⟩
end Gath2
