set_option maxRecDepth 100000
/-! ===== UnseenClock: whyNot, agrees ===== -/
def m37C (E : Nat → Nat) (s : Nat) : Int32 := if E (2 + s) = 0 then -1 else nI (E (6 + s))
def bC (A : Nat → Nat → Int32) (B : Nat → Nat → Int64) (E : Nat → Nat) (j : Nat) : Int64 := if j < 240 then nbC A B E (j / 60) (j % 60) else 0
section Why
variable {X : Cx} {mi : Nat} {ad ad' : Nat → Nat} {A A' : Nat → Nat → Int32} {B B' : Nat → Nat → Int64} {sk sk' : Nat → Nat → Nat} {sw sw' : Nat → Nat → Int32} {E E' : Nat → Nat} {v : Nat → Nat}
theorem bC_at {s i : Nat} (hs : s < 4) (hi : i < 60) : bC A B E (60 * s + i) = nbC A B E s i := by
  rw [bC, if_pos (by omega), show (60 * s + i) / 60 = s by omega, show (60 * s + i) % 60 = i by omega]
theorem m37C_ok (hSl : SlC E) : ∀ s, s < 4 → m37C E s = -1 ∨ ∃ n, n ≤ 60 ∧ m37C E s = nI n := by
  intro s hs
  unfold m37C
  by_cases e : E (2 + s) = 0
  · exact Or.inl (if_pos e)
  · exact Or.inr ⟨E (6 + s), (hSl s hs).2, if_neg e⟩
theorem Kp.slots (hk : Kp (ad, A, B, sk, sw, E) (ad', A', B', sk', sw', E')) : (∀ s, s < 4 → E' (2 + s) = E (2 + s) ∧ E' (6 + s) = E (6 + s)) ∧ (SlC E → SlC E') ∧ ∀ s, s < 4 → ∀ i, nbC A' B' E' s i = nbC A B E s i := by
  have e : ∀ s, s < 4 → E' (2 + s) = E (2 + s) ∧ E' (6 + s) = E (6 + s) := fun s hs => ⟨hk.2.2.2.2.2.2.1 (2 + s) (by omega) (by omega), hk.2.2.2.2.2.2.1 (6 + s) (by omega) (by omega)⟩
  have a : ∀ s, s < 4 → A' (14 + s) = A (14 + s) := fun s hs => hk.2.1 (14 + s) (Or.inr (Or.inr ⟨by omega, by omega⟩))
  have b : ∀ s, s < 4 → B' (14 + s) = B (14 + s) := fun s hs => hk.2.2.2.1 (14 + s) (by omega) (by omega)
  exact ⟨e, fun h s hs => by rw [(e s hs).1, (e s hs).2]; exact h s hs, fun s hs i => by rw [nbC, nbC, (e s hs).1, a s hs, b s hs]⟩
theorem Kp.b (hk : Kp (ad, A, B, sk, sw, E) (ad', A', B', sk', sw', E')) : bC A' B' E' = bC A B E := by
  funext j
  unfold bC
  by_cases h : j < 240
  · rw [if_pos h, if_pos h]; exact hk.slots.2.2 (j / 60) (by omega) _
  · rw [if_neg h, if_neg h]
def WhQ (v : Nat → Nat) (ad : Nat → Nat) (A : Nat → Nat → Int32) (B : Nat → Nat → Int64) (sk : Nat → Nat → Nat) (sw : Nat → Nat → Int32) (E : Nat → Nat) (s : Int32) (r : Option Value) (x' : Cv) : Prop :=
  r = some (.int (asV (sw 0) (m37C E) (bC A B E) s (nI 1) (nI 20))) ∧ Kp (ad, A, B, sk, sw, E) x' ∧ (asV (sw 0) (m37C E) (bC A B E) s (nI 1) (nI 20) = nI 0 → x'.2.1 0 6 = nI (cnC (sw 0)) ∧ cnC (sw 0) ≤ x'.2.2.2.2.2 0 ∧ LI x'.2.2.2.2.2 ∧ CoC x'.2.1 v (sw 0) (cnC (sw 0)))
theorem sg1_C {w : Nat → Int32} {s i : Nat} (hs : s < 4) (hi : 3 * i + 2 < 60) : sg1 w (bC A B E) (60 * s + 3 * i) = (clL w (nbC A B E s (3 * i)) && (inJ (nbC A B E s (3 * i + 1)) (lN 0) (w 6).toInt64 && inJ (nbC A B E s (3 * i + 2)) (lN 0) 59)) := by
  unfold sg1
  rw [bC_at hs (by omega), Nat.add_assoc, bC_at hs (by omega), Nat.add_assoc, bC_at hs (by omega)]
  rfl
theorem bX0_whyNot_0 : Blk CP mX0_whyNot 0 4 [oIL 1, oS_I pTi fSlot] := blk_c (s_iload_n dX0_whyNot_0 rfl) <| blk_c (s_S_I ok_sX0_isSlot (fun _ _ _ h => h.1.1) (Or.inl (lw_S q175 q176 q131 q177)) hy_X0_isSlot (by decide) dX0_whyNot_1) <| blk_nil
theorem bX0_whyNot_7 : Blk CP mX0_whyNot 7 14 [oAL 0, cQ0, qC_V 0 pTw fSqIs] := blk_c (s_aload_n dX0_whyNot_7 rfl) <| blk_c (cgX0_1 (Or.inl q557) dX0_whyNot_8) <| blk_c (q_C_V ok_sqIs (lw_V q1312 q1313 q1314 q133 q1315) hy_X2_is rfl (by decide) dX0_whyNot_11) <| blk_nil
theorem bX0_whyNot_17 : Blk CP mX0_whyNot 17 19 [oC (-2)] := blk_c (s_bipush dX0_whyNot_17 (by decide +kernel)) <| blk_nil
theorem bX0_whyNot_20 : Blk CP mX0_whyNot 20 25 [oAL 0, cR 0 0 1, oIL 1] := blk_c (s_aload_n dX0_whyNot_20 rfl) <| blk_c (cgX0_0 (Or.inl q556) dX0_whyNot_21) <| blk_c (s_iload_n dX0_whyNot_24 rfl) <| blk_nil
theorem bX0_whyNot_26 : Blk CP mX0_whyNot 26 28 [oAS 2, oAL 2] := blk_c (s_astore_n dX0_whyNot_26 rfl (by decide)) <| blk_c (s_aload_n dX0_whyNot_27 rfl) <| blk_nil
theorem bX0_whyNot_34 : Blk CP mX0_whyNot 34 36 [oC (-6)] := blk_c (s_bipush dX0_whyNot_34 (by decide +kernel)) <| blk_nil
theorem bX0_whyNot_37 : Blk CP mX0_whyNot 37 38 [oAL 2] := blk_c (s_aload_n dX0_whyNot_37 rfl) <| blk_nil
theorem bX0_whyNot_41 : Blk CP mX0_whyNot 41 43 [oC (nI 3), oRem] := blk_c (s_iconst dX0_whyNot_41 (by decide +kernel)) <| blk_c (s_irem dX0_whyNot_42) <| blk_nil
theorem bX0_whyNot_46 : Blk CP mX0_whyNot 46 48 [oC (-2)] := blk_c (s_bipush dX0_whyNot_46 (by decide +kernel)) <| blk_nil
theorem bX0_whyNot_49 : Blk CP mX0_whyNot 49 51 [oC (nI 0), oIS 3] := blk_c (s_iconst dX0_whyNot_49 (by decide +kernel)) <| blk_c (s_istore_n dX0_whyNot_50 rfl (by decide)) <| blk_nil
theorem bX0_whyNot_51 : Blk CP mX0_whyNot 51 53 [oIL 3, oAL 2] := blk_c (s_iload_n dX0_whyNot_51 rfl) <| blk_c (s_aload_n dX0_whyNot_52 rfl) <| blk_nil
theorem bX0_whyNot_59 : Blk CP mX0_whyNot 59 62 [oAL 0, oAL 2, oIL 3] := blk_c (s_aload_n dX0_whyNot_59 rfl) <| blk_c (s_aload_n dX0_whyNot_60 rfl) <| blk_c (s_iload_n dX0_whyNot_61 rfl) <| blk_nil
theorem bX0_whyNot_65 : Blk CP mX0_whyNot 65 68 [cF_J F_isClockC] := blk_c (c_F_J ok_isClockC (ci := 0) rfl (lw_V q1146 q1148 qs31 q131 q1149) hy_X0_isClock rfl (by decide) dX0_whyNot_65) <| blk_nil
theorem bX0_whyNot_71 : Blk CP mX0_whyNot 71 76 [oAL 0, oAL 2, oIL 3, oC (nI 1), oAdd] := blk_c (s_aload_n dX0_whyNot_71 rfl) <| blk_c (s_aload_n dX0_whyNot_72 rfl) <| blk_c (s_iload_n dX0_whyNot_73 rfl) <| blk_c (s_iconst dX0_whyNot_74 (by decide +kernel)) <| blk_c (s_iadd dX0_whyNot_75) <| blk_nil
theorem bX0_whyNot_79 : Blk CP mX0_whyNot 79 82 [cF_J F_isMomentC] := blk_c (c_F_J ok_isMomentC (ci := 0) rfl (lw_V q1308 q1310 qs43 q131 q1311) hy_X0_isMoment rfl (by decide) dX0_whyNot_79) <| blk_nil
theorem bX0_whyNot_85 : Blk CP mX0_whyNot 85 89 [oAL 2, oIL 3, oC (nI 2), oAdd] := blk_c (s_aload_n dX0_whyNot_85 rfl) <| blk_c (s_iload_n dX0_whyNot_86 rfl) <| blk_c (s_iconst dX0_whyNot_87 (by decide +kernel)) <| blk_c (s_iadd dX0_whyNot_88) <| blk_nil
theorem bX0_whyNot_92 : Blk CP mX0_whyNot 92 95 [oS_J pT1 fHour] := blk_c (s_S_J ok_sX0_isHour (fun _ _ _ h => h.1.1) (Or.inl (lw_S q1343 q1344 q131 q1345)) hy_X0_isHour (by decide) dX0_whyNot_92) <| blk_nil
theorem bX0_whyNot_98 : Blk CP mX0_whyNot 98 100 [oC (-2)] := blk_c (s_bipush dX0_whyNot_98 (by decide +kernel)) <| blk_nil
theorem bX0_whyNot_101 : Blk CP mX0_whyNot 101 51 [oInc 3 (nI 3), .inl (fun s => some s)] := blk_c (s_iinc dX0_whyNot_101 (by decide +kernel) (by decide)) <| blk_c (s_goto (tgt := 51) dX0_whyNot_104 (by decide)) <| blk_nil
theorem bX0_whyNot_107 : Blk CP mX0_whyNot 107 108 [oAL 0] := blk_c (s_aload_n dX0_whyNot_107 rfl) <| blk_nil
theorem bX0_whyNot_114 : Blk CP mX0_whyNot 114 120 [oC (nI 0), .inl (fun s => some s)] := blk_c (s_iconst dX0_whyNot_114 (by decide +kernel)) <| blk_c (s_goto (tgt := 120) dX0_whyNot_115 (by decide)) <| blk_nil
theorem bX0_whyNot_118 : Blk CP mX0_whyNot 118 120 [oC (-3)] := blk_c (s_bipush dX0_whyNot_118 (by decide +kernel)) <| blk_nil
theorem ok_whyNot (hM : WkM X mi) (hX : ThX X) (hS : SW v A sw) (hLI : LI E) (hSl : SlC E) {s : Int32} : RCc X mX0_whyNot 600 64000 [.ref (ad 0), .int s] (ad, A, B, sk, sw, E) (WhQ v ad A B sk sw E s) := by
  obtain ⟨-, hw, -, -⟩ := id hS
  refine C_start (L := [some (.ref (ad 0)), some (.int s), none, none]) 2 rfl ?_
  have out : (slB s && (sqB (sw 0) && !decide (nI 1 = 0))) = false → JS CP X mX0_whyNot (rmOf mX0_whyNot.lv 600 64000) (ZC X 600 64000 (WhQ v ad A B sk sw E s)) 0 0 17 [some (.ref (ad 0)), some (.int s), none, none] [] (ad, A, B, sk, sw, E) := by
    intro hr
    have ew : asV (sw 0) (m37C E) (bC A B E) s (nI 1) (nI 20) = -2 := by rw [asV, if_neg (by rw [hr]; decide)]
    refine bX0_whyNot_17.go rfl trivial ?_
    exact c_iret dX0_whyNot_19 rfl ⟨by rw [ew], Kp.rf, fun z => absurd z (by rw [ew]; decide +kernel)⟩
  refine bX0_whyNot_0.go rfl ⟨trivial, trivial⟩ ?_
  rw [show fSlot s = b2 (slB s) from rfl]
  refine j_if_eq (tgt := 17) dX0_whyNot_4 (by decide) (fun h4 => ?_) (fun h4 => ?_)
  · rw [b2_0] at h4
    exact out (by rw [h4]; rfl)
  rw [b2_n0] at h4
  refine bX0_whyNot_7.go rfl ⟨rfl, ⟨⟨rfl, trivial⟩, sq0⟩, trivial⟩ ?_
  rw [hw.is]
  refine j_if_ne (tgt := 20) dX0_whyNot_14 (by decide) (fun h14 => ?_) (fun h14 => ?_)
  rotate_left
  · rw [b2_0] at h14
    exact out (by rw [h14, Bool.false_and, Bool.and_false])
  rw [b2_n0] at h14
  have hg : (slB s && (sqB (sw 0) && !decide (nI 1 = 0))) = true := by rw [h4, h14]; decide +kernel
  obtain ⟨s, hs, rfl⟩ := slB_nat h4
  have cs : (nI s).toNatClampNeg = s := nI_clamp (by omega)
  obtain ⟨k4, l60⟩ := hSl s hs
  refine bX0_whyNot_20.go rfl (by repeat' first | exact trivial | rfl | assumption | omega | apply And.intro) ?_
  refine js_slots hs dX0_whyNot_25 ?_
  refine bX0_whyNot_26.go rfl trivial ?_
  refine js_held hs nq385 dX0_whyNot_28 ?_
  by_cases e0 : E (2 + s) = 0
  · have ew : asV (sw 0) (m37C E) (bC A B E) (nI s) (nI 1) (nI 20) = -6 := by rw [asV, if_pos hg, cs, m37C, if_pos e0, if_pos rfl]
    rw [if_pos e0]
    refine j_ifnonnullN dX0_whyNot_31 ?_
    refine bX0_whyNot_34.go rfl trivial ?_
    exact c_iret dX0_whyNot_36 rfl ⟨by rw [ew], Kp.rf, fun z => absurd z (by rw [ew]; decide +kernel)⟩
  rw [if_neg e0]
  refine j_ifnonnullR (tgt := 37) dX0_whyNot_31 (by decide) ?_
  generalize hn : E (6 + s) = n at l60
  have em : m37C E s = nI n := by rw [m37C, if_neg e0, hn]
  have nm : ¬ nI n = -1 := fun z => absurd (z ▸ nI_pos (by omega) : ¬ (-1 : Int32) < 0) (by decide +kernel)
  have mn := ok_manyC (A := A) (B := B) (sk := sk) (sw := sw) (ad := ad) hX hSl hs e0
  rw [hn] at mn
  have av : asV (sw 0) (m37C E) (bC A B E) (nI s) (nI 1) (nI 20) = if ¬ n % 3 = 0 then -2 else if allN (fun i => sg1 (sw 0) (bC A B E) (60 * s + 3 * i)) (n / 3) = true then (if cnC (sw 0) ≤ 128 then nI 0 else -3) else -2 := by
    rw [asV, if_pos hg, cs, em, if_neg nm, nI_clamp (by omega), nI_clamp (by decide)]
    by_cases z : n % 3 = 0
    · have c1 : ¬ (¬ n % 3 = 0 ∨ 3 * 20 < n) := by omega
      have c2 : ¬ ¬ n % 3 = 0 := fun y => y z
      rw [if_neg c1, if_neg c2]
    · rw [if_pos (Or.inl z), if_pos z]
  refine bX0_whyNot_37.go rfl trivial ?_
  refine cc0 (M' := mX1_many) (nA := 0) (As := []) mn (recSl hs) rfl ((lw_V q1402 q1403 q1404 q132 q1405)) dX0_whyNot_38 rfl (fun r x' q => ?_) hy_X1_many
  obtain ⟨rfl, rfl⟩ := q
  refine bX0_whyNot_41.go rfl (by repeat' first | exact trivial | apply And.intro | decide +kernel) ?_
  rw [pk_rem (by omega) (by decide) (by decide)]
  refine j_if_eq (tgt := 49) dX0_whyNot_43 (by decide) (fun h43 => ?_) (fun h43 => ?_)
  rotate_left
  · have ew : asV (sw 0) (m37C E) (bC A B E) (nI s) (nI 1) (nI 20) = -2 := by rw [av, if_pos (fun z => h43 (by rw [z]; rfl))]
    refine bX0_whyNot_46.go rfl trivial ?_
    exact c_iret dX0_whyNot_48 rfl ⟨by rw [ew], Kp.rf, fun z => absurd z (by rw [ew]; decide +kernel)⟩
  have n3 : n % 3 = 0 := (nI_eq (by omega) (by decide)).mp h43
  have c2 : ¬ ¬ n % 3 = 0 := fun y => y n3
  rw [if_neg c2] at av
  have bad : ∀ i, i < n / 3 → sg1 (sw 0) (bC A B E) (60 * s + 3 * i) = false → JS CP X mX0_whyNot (rmOf mX0_whyNot.lv 600 64000) (ZC X 600 64000 (WhQ v ad A B sk sw E (nI s))) 0 0 98 [some (.ref (ad 0)), some (.int (nI s)), some (.ref (ad (10 + s))), some (.int (nI (3 * i)))] [] (ad, A, B, sk, sw, E) := by
    intro i hi hf
    have ew : asV (sw 0) (m37C E) (bC A B E) (nI s) (nI 1) (nI 20) = -2 := by rw [av, allN_false hi hf, if_neg (by decide)]
    refine bX0_whyNot_98.go rfl trivial ?_
    exact c_iret dX0_whyNot_100 rfl ⟨by rw [ew], Kp.rf, fun z => absurd z (by rw [ew]; decide +kernel)⟩
  refine bX0_whyNot_49.go rfl trivial ?_
  refine loop_down (N := n / 3) (I := fun i => ∀ j, j < i → sg1 (sw 0) (bC A B E) (60 * s + 3 * j) = true) (P := fun i => JS CP X mX0_whyNot (rmOf mX0_whyNot.lv 600 64000) (ZC X 600 64000 (WhQ v ad A B sk sw E (nI s))) 0 0 51 [some (.ref (ad 0)), some (.int (nI s)), some (.ref (ad (10 + s))), some (.int (nI (3 * i)))] [] (ad, A, B, sk, sw, E)) ?_ ?_ 0 (Nat.zero_le _) (fun j hj => absurd hj (Nat.not_lt_zero _))
  · intro hI
    have ha := allN_true.mpr hI
    rw [ha, if_pos rfl] at av
    refine bX0_whyNot_51.go rfl trivial ?_
    refine cc0 (M' := mX1_many) (nA := 0) (As := []) mn (recSl hs) rfl ((lw_V q1402 q1403 q1404 q132 q1405)) dX0_whyNot_53 rfl (fun r x' q => ?_) hy_X1_many
    obtain ⟨rfl, rfl⟩ := q
    refine j_icmp_ge (tgt := 107) dX0_whyNot_56 (by decide) (fun _ => ?_) (fun q => absurd (nI_le (by omega) (by omega)) q)
    refine bX0_whyNot_107.go rfl trivial ?_
    refine ccm (M' := mX0_gathers) (nA := 0) (As := []) (mc := 600) (ms := 64000) (ok_gathers hM hS hLI) rec0 rfl ((lw_V q1355 q1357 qs46 q131 q1358)) dX0_whyNot_108 rfl ⟨by show 0 + 600 ≤ 600; omega, by show 0 + 64000 ≤ 64000; omega⟩ (fun r x' q => ?_) hy_X0_gathers
    obtain ⟨ad', A', B', sk', sw', E'⟩ := x'
    obtain ⟨rfl, q1, q2⟩ := q
    refine j_if_eq (tgt := 118) dX0_whyNot_111 (by decide) (fun h => ?_) (fun h => ?_)
    · rw [b2_0, decide_eq_false_iff_not] at h
      have ew : asV (sw 0) (m37C E) (bC A B E) (nI s) (nI 1) (nI 20) = -3 := by rw [av, if_neg h]
      refine bX0_whyNot_118.go rfl trivial ?_
      exact c_iret dX0_whyNot_120 rfl ⟨by rw [ew], q1, fun z => absurd z (by rw [ew]; decide +kernel)⟩
    · rw [b2_n0, decide_eq_true_eq] at h
      have ew : asV (sw 0) (m37C E) (bC A B E) (nI s) (nI 1) (nI 20) = nI 0 := by rw [av, if_pos h]
      refine bX0_whyNot_114.go rfl trivial ?_
      exact c_iret dX0_whyNot_120 rfl ⟨by rw [ew], q1, fun _ => q2 h⟩
  · intro i hi hI ih
    have f := sg1_C (A := A) (B := B) (E := E) (w := sw 0) hs (i := i) (by omega)
    refine bX0_whyNot_51.go rfl trivial ?_
    refine cc0 (M' := mX1_many) (nA := 0) (As := []) mn (recSl hs) rfl ((lw_V q1402 q1403 q1404 q132 q1405)) dX0_whyNot_53 rfl (fun r x' q => ?_) hy_X1_many
    obtain ⟨rfl, rfl⟩ := q
    refine j_icmp_ge (tgt := 107) dX0_whyNot_56 (by decide) (fun q => ?_) (fun _ => ?_)
    · rw [nI_leI (by omega) (by omega)] at q; omega
    refine bX0_whyNot_59.go rfl trivial ?_
    refine cc0 (M' := mX1_number) (nA := 1) (As := [.int (nI (3 * i))]) (ok_numberC hX hSl hs e0 (by omega)) (recSl hs) rfl ((lw_V q1406 q1407 q1408 q132 q1409)) dX0_whyNot_62 rfl (fun r x' q => ?_) hy_X1_number
    obtain ⟨rfl, rfl⟩ := q
    refine bX0_whyNot_65.go rfl ⟨⟨rfl, v, hw⟩, trivial⟩ ?_
    refine j_if_eq (tgt := 98) dX0_whyNot_68 (by decide) (fun h => ?_) (fun h68 => ?_)
    · rw [b2_0] at h
      exact bad i hi (by rw [f, h]; rfl)
    rw [b2_n0] at h68
    refine bX0_whyNot_71.go rfl trivial ?_
    rw [nI_add]
    refine cc0 (M' := mX1_number) (nA := 1) (As := [.int (nI (3 * i + 1))]) (ok_numberC hX hSl hs e0 (by omega)) (recSl hs) rfl ((lw_V q1406 q1407 q1408 q132 q1409)) dX0_whyNot_76 rfl (fun r x' q => ?_) hy_X1_number
    obtain ⟨rfl, rfl⟩ := q
    refine bX0_whyNot_79.go rfl ⟨⟨rfl, v, hw⟩, trivial⟩ ?_
    rw [show tmL (sw 0) (nbC A B E s (3 * i + 1)) = inJ (nbC A B E s (3 * i + 1)) (lN 0) (sw 0 6).toInt64 by rw [tmL, h14]; rfl]
    refine j_if_eq (tgt := 98) dX0_whyNot_82 (by decide) (fun h => ?_) (fun h82 => ?_)
    · rw [b2_0] at h
      exact bad i hi (by rw [f, h, Bool.false_and, Bool.and_false])
    rw [b2_n0] at h82
    refine bX0_whyNot_85.go rfl trivial ?_
    rw [nI_add]
    refine cc0 (M' := mX1_number) (nA := 1) (As := [.int (nI (3 * i + 2))]) (ok_numberC hX hSl hs e0 (by omega)) (recSl hs) rfl ((lw_V q1406 q1407 q1408 q132 q1409)) dX0_whyNot_89 rfl (fun r x' q => ?_) hy_X1_number
    obtain ⟨rfl, rfl⟩ := q
    refine bX0_whyNot_92.go rfl ⟨trivial, trivial⟩ ?_
    rw [show fHour (nbC A B E s (3 * i + 2)) = b2 (inJ (nbC A B E s (3 * i + 2)) (lN 0) 59) from rfl]
    refine j_if_ne (tgt := 101) dX0_whyNot_95 (by decide) (fun h95 => ?_) (fun h => ?_)
    rotate_left
    · rw [b2_0] at h
      exact bad i hi (by rw [f, h, Bool.and_false, Bool.and_false])
    rw [b2_n0] at h95
    refine bX0_whyNot_101.go rfl trivial ?_
    rw [nI_add, show 3 * i + 3 = 3 * (i + 1) by omega]
    refine ih (fun j hj => ?_)
    by_cases z : j = i
    · subst z; rw [f, h68, h82, h95]; rfl
    · exact hI j (by omega)
/-- the sightings of a slot lie in what is shown -/
def SgC (A : Nat → Nat → Int32) (B : Nat → Nat → Int64) (E : Nat → Nat) (s n : Nat) : Prop := s < 4 ∧ ¬ E (2 + s) = 0 ∧ E (6 + s) = n ∧ n % 3 = 0 ∧ ∀ i, i < n / 3 → ∃ c m, c < 4 ∧ m ≤ 40 ∧ (nbC A B E s (3 * i)).toInt32 = nI c ∧ (nbC A B E s (3 * i + 1)).toInt32 = nI m
theorem bX0_agrees_0 : Blk CP mX0_agrees 0 3 [oC (nI 0), oIS 4] := blk_c (s_iconst dX0_agrees_0 (by decide +kernel)) <| blk_c (s_istore dX0_agrees_1 (by decide)) <| blk_nil
theorem bX0_agrees_3 : Blk CP mX0_agrees 3 8 [oC (nI 3), oIL 4, oMul, oAL 2] := blk_c (s_iconst dX0_agrees_3 (by decide +kernel)) <| blk_c (s_iload dX0_agrees_4) <| blk_c (s_imul dX0_agrees_6) <| blk_c (s_aload_n dX0_agrees_7 rfl) <| blk_nil
theorem bX0_agrees_14 : Blk CP mX0_agrees 14 20 [oIL 3, oIL 4, oS_II pT2 fOn] := blk_c (s_iload_n dX0_agrees_14 rfl) <| blk_c (s_iload dX0_agrees_15) <| blk_c (s_S_II ok_sX0_isOn (fun _ _ _ h => h.1.1) (Or.inl (lw_S q1139 q1140 q131 q1141)) hy_X0_isOn (by decide) dX0_agrees_17) <| blk_nil
theorem bX0_agrees_23 : Blk CP mX0_agrees 23 29 [oAL 1, oAL 2, oC (nI 3), oIL 4, oMul] := blk_c (s_aload_n dX0_agrees_23 rfl) <| blk_c (s_aload_n dX0_agrees_24 rfl) <| blk_c (s_iconst dX0_agrees_25 (by decide +kernel)) <| blk_c (s_iload dX0_agrees_26) <| blk_c (s_imul dX0_agrees_28) <| blk_nil
theorem bX0_agrees_32 : Blk CP mX0_agrees 32 40 [oL2I, oAL 2, oC (nI 3), oIL 4, oMul, oC (nI 1), oAdd] := blk_c (s_l2i dX0_agrees_32) <| blk_c (s_aload_n dX0_agrees_33 rfl) <| blk_c (s_iconst dX0_agrees_34 (by decide +kernel)) <| blk_c (s_iload dX0_agrees_35) <| blk_c (s_imul dX0_agrees_37) <| blk_c (s_iconst dX0_agrees_38 (by decide +kernel)) <| blk_c (s_iadd dX0_agrees_39) <| blk_nil
theorem bX0_agrees_43 : Blk CP mX0_agrees 43 44 [oL2I] := blk_c (s_l2i dX0_agrees_43) <| blk_nil
theorem bX0_agrees_47 : Blk CP mX0_agrees 47 55 [oI2L, oAL 2, oC (nI 3), oIL 4, oMul, oC (nI 2), oAdd] := blk_c (s_i2l dX0_agrees_47) <| blk_c (s_aload_n dX0_agrees_48 rfl) <| blk_c (s_iconst dX0_agrees_49 (by decide +kernel)) <| blk_c (s_iload dX0_agrees_50) <| blk_c (s_imul dX0_agrees_52) <| blk_c (s_iconst dX0_agrees_53 (by decide +kernel)) <| blk_c (s_iadd dX0_agrees_54) <| blk_nil
theorem bX0_agrees_58 : Blk CP mX0_agrees 58 59 [oLcmp] := blk_c (s_lcmp dX0_agrees_58) <| blk_nil
theorem bX0_agrees_62 : Blk CP mX0_agrees 62 63 [oC (nI 0)] := blk_c (s_iconst dX0_agrees_62 (by decide +kernel)) <| blk_nil
theorem bX0_agrees_64 : Blk CP mX0_agrees 64 3 [oInc 4 1, .inl (fun s => some s)] := blk_c (s_iinc dX0_agrees_64 (by decide +kernel) (by decide)) <| blk_c (s_goto (tgt := 3) dX0_agrees_67 (by decide)) <| blk_nil
theorem bX0_agrees_70 : Blk CP mX0_agrees 70 71 [oC (nI 1)] := blk_c (s_iconst dX0_agrees_70 (by decide +kernel)) <| blk_nil
theorem ok_agreesC (hX : ThX X) (hSl : SlC E) {s n k : Nat} {set : Int32} (hsg : SgC A B E s n) (hk : k < E 0) : RCc X mX0_agrees 0 0 [.ref (ad 0), .ref (ad (100 + 3 * k)), .ref (ad (10 + s)), .int set] (ad, A, B, sk, sw, E) (fun r x' => r = some (.int (b2 (agS (fun c m => A (101 + 3 * k) (41 * c + m)) (bC A B E) s n set))) ∧ x' = (ad, A, B, sk, sw, E)) := by
  obtain ⟨hs, e0, hn, n3, hsi⟩ := hsg
  obtain ⟨k4, l60⟩ := hSl s hs
  rw [hn] at l60
  have mn := ok_manyC (A := A) (B := B) (sk := sk) (sw := sw) (ad := ad) hX hSl hs e0
  rw [hn] at mn
  refine C_start (L := [some (.ref (ad 0)), some (.ref (ad (100 + 3 * k))), some (.ref (ad (10 + s))), some (.int set), none]) 1 rfl ?_
  refine bX0_agrees_0.go rfl trivial ?_
  have f : ∀ i, i < n / 3 → (!bitI set i || decide ((A (101 + 3 * k) (41 * (bC A B E (60 * s + 3 * i)).toInt32.toNatClampNeg + (bC A B E (60 * s + 3 * i + 1)).toInt32.toNatClampNeg)).toInt64 = bC A B E (60 * s + 3 * i + 2))) = (!bitI set i || decide ((A (101 + 3 * k) (41 * (nbC A B E s (3 * i)).toInt32.toNatClampNeg + (nbC A B E s (3 * i + 1)).toInt32.toNatClampNeg)).toInt64 = nbC A B E s (3 * i + 2))) := fun i hi => by
    rw [bC_at hs (by omega), Nat.add_assoc, bC_at hs (by omega), Nat.add_assoc, bC_at hs (by omega)]
  rw [show agS (fun c m => A (101 + 3 * k) (41 * c + m)) (bC A B E) s n set = allN (fun i => !bitI set i || decide ((A (101 + 3 * k) (41 * (nbC A B E s (3 * i)).toInt32.toNatClampNeg + (nbC A B E s (3 * i + 1)).toInt32.toNatClampNeg)).toInt64 = nbC A B E s (3 * i + 2))) (n / 3) from allN_congr f]
  generalize hT : allN (fun i => !bitI set i || decide ((A (101 + 3 * k) (41 * (nbC A B E s (3 * i)).toInt32.toNatClampNeg + (nbC A B E s (3 * i + 1)).toInt32.toNatClampNeg)).toInt64 = nbC A B E s (3 * i + 2))) (n / 3) = T
  refine loop_down (N := n / 3) (I := fun i => ∀ j, j < i → (!bitI set j || decide ((A (101 + 3 * k) (41 * (nbC A B E s (3 * j)).toInt32.toNatClampNeg + (nbC A B E s (3 * j + 1)).toInt32.toNatClampNeg)).toInt64 = nbC A B E s (3 * j + 2))) = true) (P := fun i => JS CP X mX0_agrees (rmOf mX0_agrees.lv 0 0) (ZC X 0 0 (fun r x' => r = some (.int (b2 T)) ∧ x' = (ad, A, B, sk, sw, E))) 0 0 3 [some (.ref (ad 0)), some (.ref (ad (100 + 3 * k))), some (.ref (ad (10 + s))), some (.int set), some (.int (nI i))] [] (ad, A, B, sk, sw, E)) ?_ ?_ 0 (Nat.zero_le _) (fun j hj => absurd hj (Nat.not_lt_zero _))
  · intro hI
    refine bX0_agrees_3.go rfl trivial ?_
    rw [pk_mul]
    refine cc0 (M' := mX1_many) (nA := 0) (As := []) mn (recSl hs) rfl ((lw_V q1402 q1403 q1404 q132 q1405)) dX0_agrees_8 rfl (fun r x' q => ?_) hy_X1_many
    obtain ⟨rfl, rfl⟩ := q
    refine j_icmp_ge (tgt := 70) dX0_agrees_11 (by decide) (fun _ => ?_) (fun q => absurd (nI_le (by omega) (by omega)) q)
    refine bX0_agrees_70.go rfl trivial ?_
    exact c_zret dX0_agrees_71 rfl rfl ⟨by rw [← hT, allN_true.mpr hI]; rfl, rfl⟩
  · intro i hi hI ih
    obtain ⟨c, m, hc, hm, ec, eM⟩ := hsi i hi
    have nxt : (!bitI set i || decide ((A (101 + 3 * k) (41 * (nbC A B E s (3 * i)).toInt32.toNatClampNeg + (nbC A B E s (3 * i + 1)).toInt32.toNatClampNeg)).toInt64 = nbC A B E s (3 * i + 2))) = true → JS CP X mX0_agrees (rmOf mX0_agrees.lv 0 0) (ZC X 0 0 (fun r x' => r = some (.int (b2 T)) ∧ x' = (ad, A, B, sk, sw, E))) 0 0 64 [some (.ref (ad 0)), some (.ref (ad (100 + 3 * k))), some (.ref (ad (10 + s))), some (.int set), some (.int (nI i))] [] (ad, A, B, sk, sw, E) := by
      intro hz
      refine bX0_agrees_64.go rfl trivial ?_
      rw [nI_1]
      refine ih (fun j hj => ?_)
      by_cases z : j = i
      · subst z; exact hz
      · exact hI j (by omega)
    refine bX0_agrees_3.go rfl trivial ?_
    rw [pk_mul]
    refine cc0 (M' := mX1_many) (nA := 0) (As := []) mn (recSl hs) rfl ((lw_V q1402 q1403 q1404 q132 q1405)) dX0_agrees_8 rfl (fun r x' q => ?_) hy_X1_many
    obtain ⟨rfl, rfl⟩ := q
    refine j_icmp_ge (tgt := 70) dX0_agrees_11 (by decide) (fun q => ?_) (fun _ => ?_)
    · rw [nI_leI (by omega) (by omega)] at q; omega
    refine bX0_agrees_14.go rfl ⟨trivial, trivial⟩ ?_
    rw [show fOn set (nI i) = b2 (bitI set i) from rfl]
    refine j_if_eq (tgt := 64) dX0_agrees_20 (by decide) (fun h20 => ?_) (fun h20 => ?_)
    · rw [b2_0] at h20
      exact nxt (by rw [h20]; rfl)
    rw [b2_n0] at h20
    refine bX0_agrees_23.go rfl trivial ?_
    rw [pk_mul]
    refine cc0 (M' := mX1_number) (nA := 1) (As := [.int (nI (3 * i))]) (ok_numberC hX hSl hs e0 (by omega)) (recSl hs) rfl ((lw_V q1406 q1407 q1408 q132 q1409)) dX0_agrees_29 rfl (fun r x' q => ?_) hy_X1_number
    obtain ⟨rfl, rfl⟩ := q
    refine bX0_agrees_32.go rfl trivial ?_
    rw [pk_mul, nI_add, ec]
    refine cc0 (M' := mX1_number) (nA := 1) (As := [.int (nI (3 * i + 1))]) (ok_numberC hX hSl hs e0 (by omega)) (recSl hs) rfl ((lw_V q1406 q1407 q1408 q132 q1409)) dX0_agrees_40 rfl (fun r x' q => ?_) hy_X1_number
    obtain ⟨rfl, rfl⟩ := q
    refine bX0_agrees_43.go rfl trivial ?_
    rw [eM]
    refine cc0 (M' := mX16_shows) (nA := 2) (As := [.int (nI c), .int (nI m)]) (ok_snShows (i := k) hk hc hm) (recS hk) rfl ((lw_V q1390 q1391 q1392 q163 q1393)) dX0_agrees_44 rfl (fun r x' q => ?_) hy_X16_shows
    obtain ⟨rfl, rfl⟩ := q
    refine bX0_agrees_47.go rfl trivial ?_
    rw [pk_mul, nI_add]
    refine cc0 (M' := mX1_number) (nA := 1) (As := [.int (nI (3 * i + 2))]) (ok_numberC hX hSl hs e0 (by omega)) (recSl hs) rfl ((lw_V q1406 q1407 q1408 q132 q1409)) dX0_agrees_55 rfl (fun r x' q => ?_) hy_X1_number
    obtain ⟨rfl, rfl⟩ := q
    refine bX0_agrees_58.go rfl trivial ?_
    refine j_if_eq (tgt := 64) dX0_agrees_59 (by decide) (fun h59 => ?_) (fun h59 => ?_)
    · rw [lg_cmp_eq] at h59
      exact nxt (by rw [ec, eM, nI_clamp (by omega), nI_clamp (by omega), h59]; simp)
    · rw [lg_cmp_eq] at h59
      refine bX0_agrees_62.go rfl trivial ?_
      refine c_zret dX0_agrees_63 rfl rfl ⟨by rw [← hT, allN_false hi (by rw [ec, eM, nI_clamp (by omega), nI_clamp (by omega), h20, decide_eq_false h59]; rfl)]; rfl, rfl⟩
end Why
