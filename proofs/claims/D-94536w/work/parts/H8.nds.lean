set_option maxRecDepth 100000
/-! ===== UnseenClock: needs ===== -/
section Nds
variable {X : Cx} {mi : Nat} {ad : Nat → Nat} {A : Nat → Nat → Int32} {B : Nat → Nat → Int64} {sk : Nat → Nat → Nat} {sw : Nat → Nat → Int32} {E : Nat → Nat} {v : Nat → Nat}
theorem asV_no {w m37 : Nat → Int32} {b : Nat → Int64} {s is most : Int32} (h : (slB s && (sqB w && !decide (is = 0))) = false) : asV w m37 b s is most = -2 := by rw [asV, if_neg (by rw [h]; decide)]
theorem asV_8a {w m37 : Nat → Int32} {b : Nat → Int64} {s : Int32} (h : m37 s.toNatClampNeg = -1 ∨ ∃ n, n ≤ 24 ∧ m37 s.toNatClampNeg = nI n) : asV w m37 b s (nI 1) (nI 8) = asV w m37 b s (nI 1) (nI 20) := by
  unfold asV
  rw [nI_clamp (by decide : 8 < 2 ^ 31), nI_clamp (by decide : 20 < 2 ^ 31)]
  rcases h with h | ⟨n, hn, h⟩
  · rw [h]
    simp only [if_true]
  · rw [h, nI_clamp (by omega)]
    have : (¬ n % 3 = 0 ∨ 3 * 8 < n) ↔ (¬ n % 3 = 0 ∨ 3 * 20 < n) := by omega
    simp only [this]
theorem asV_8b {w m37 : Nat → Int32} {b : Nat → Int64} {s : Int32} {n : Nat} (h1 : 24 < n) (h2 : n ≤ 60) (h : m37 s.toNatClampNeg = nI n) : asV w m37 b s (nI 1) (nI 8) = -2 := by
  have nm : ¬ nI n = -1 := fun z => absurd (z ▸ nI_pos (by omega) : ¬ (-1 : Int32) < 0) (by decide +kernel)
  unfold asV
  rw [nI_clamp (by decide : 8 < 2 ^ 31), h, if_neg nm, nI_clamp (by omega), if_pos (Or.inr (by omega))]
  split <;> rfl
theorem bX0_needs_0 : Blk CP mX0_needs 0 6 [oAL 0, oIL 2, oI2L, cF_J F_isClockC] := blk_c (s_aload_n dX0_needs_0 rfl) <| blk_c (s_iload_n dX0_needs_1 rfl) <| blk_c (s_i2l dX0_needs_2) <| blk_c (c_F_J ok_isClockC (ci := 0) rfl (lw_V q1146 q1148 qs31 q131 q1149) hy_X0_isClock rfl (by decide) dX0_needs_3) <| blk_nil
theorem bX0_needs_9 : Blk CP mX0_needs 9 15 [oAL 0, oIL 3, oI2L, cF_J F_isMomentC] := blk_c (s_aload_n dX0_needs_9 rfl) <| blk_c (s_iload_n dX0_needs_10 rfl) <| blk_c (s_i2l dX0_needs_11) <| blk_c (c_F_J ok_isMomentC (ci := 0) rfl (lw_V q1308 q1310 qs43 q131 q1311) hy_X0_isMoment rfl (by decide) dX0_needs_12) <| blk_nil
theorem bX0_needs_18 : Blk CP mX0_needs 18 22 [oIL 1, oS_I pTi fSlot] := blk_c (s_iload_n dX0_needs_18 rfl) <| blk_c (s_S_I ok_sX0_isSlot (fun _ _ _ h => h.1.1) (Or.inl (lw_S q175 q176 q131 q177)) hy_X0_isSlot (by decide) dX0_needs_19) <| blk_nil
theorem bX0_needs_25 : Blk CP mX0_needs 25 30 [oAL 0, cR 0 0 1, oIL 1] := blk_c (s_aload_n dX0_needs_25 rfl) <| blk_c (cgX0_0 (Or.inl q556) dX0_needs_26) <| blk_c (s_iload_n dX0_needs_29 rfl) <| blk_nil
theorem bX0_needs_37 : Blk CP mX0_needs 37 42 [oAL 0, cR 0 0 1, oIL 1] := blk_c (s_aload_n dX0_needs_37 rfl) <| blk_c (cgX0_0 (Or.inl q556) dX0_needs_38) <| blk_c (s_iload_n dX0_needs_41 rfl) <| blk_nil
theorem bX0_needs_46 : Blk CP mX0_needs 46 48 [oC (nI 24)] := blk_c (s_bipush dX0_needs_46 (by decide +kernel)) <| blk_nil
theorem bX0_needs_51 : Blk CP mX0_needs 51 53 [oC (-2)] := blk_c (s_bipush dX0_needs_51 (by decide +kernel)) <| blk_nil
theorem bX0_needs_54 : Blk CP mX0_needs 54 56 [oAL 0, oIL 1] := blk_c (s_aload_n dX0_needs_54 rfl) <| blk_c (s_iload_n dX0_needs_55 rfl) <| blk_nil
theorem bX0_needs_59 : Blk CP mX0_needs 59 63 [oIS 4, oIL 4] := blk_c (s_istore dX0_needs_59 (by decide)) <| blk_c (s_iload dX0_needs_61) <| blk_nil
theorem bX0_needs_66 : Blk CP mX0_needs 66 68 [oIL 4] := blk_c (s_iload dX0_needs_66) <| blk_nil
theorem bX0_needs_69 : Blk CP mX0_needs 69 74 [oAL 0, oIL 1, oC (-1), oIL 2, oIL 3] := blk_c (s_aload_n dX0_needs_69 rfl) <| blk_c (s_iload_n dX0_needs_70 rfl) <| blk_c (s_iconst dX0_needs_71 (by decide +kernel)) <| blk_c (s_iload_n dX0_needs_72 rfl) <| blk_c (s_iload_n dX0_needs_73 rfl) <| blk_nil
theorem bX0_needs_77 : Blk CP mX0_needs 77 78 [oC (-1)] := blk_c (s_iconst dX0_needs_77 (by decide +kernel)) <| blk_nil
theorem bX0_needs_81 : Blk CP mX0_needs 81 82 [oC (-1)] := blk_c (s_iconst dX0_needs_81 (by decide +kernel)) <| blk_nil
theorem bX0_needs_83 : Blk CP mX0_needs 83 88 [oAL 0, cR 0 0 1, oIL 1] := blk_c (s_aload_n dX0_needs_83 rfl) <| blk_c (cgX0_0 (Or.inl q556) dX0_needs_84) <| blk_c (s_iload_n dX0_needs_87 rfl) <| blk_nil
theorem bX0_needs_92 : Blk CP mX0_needs 92 103 [oC (nI 3), oDiv, oIS 5, oIL 5, oIS 6, oC (nI 0), oIS 7] := blk_c (s_iconst dX0_needs_92 (by decide +kernel)) <| blk_c (s_idiv dX0_needs_93) <| blk_c (s_istore dX0_needs_94 (by decide)) <| blk_c (s_iload dX0_needs_96) <| blk_c (s_istore dX0_needs_98 (by decide)) <| blk_c (s_iconst dX0_needs_100 (by decide +kernel)) <| blk_c (s_istore dX0_needs_101 (by decide)) <| blk_nil
theorem bX0_needs_103 : Blk CP mX0_needs 103 109 [oIL 7, oC (nI 1), oIL 5, oShl] := blk_c (s_iload dX0_needs_103) <| blk_c (s_iconst dX0_needs_105 (by decide +kernel)) <| blk_c (s_iload dX0_needs_106) <| blk_c (s_ishl dX0_needs_108) <| blk_nil
theorem bX0_needs_112 : Blk CP mX0_needs 112 119 [oIL 7, oS_I pBits bitsI, oIL 6] := blk_c (s_iload dX0_needs_112) <| blk_c (s_S_I ok_sJ14_bitCount (fun _ _ _ h => h.1.1) (Or.inl (lw_S q1426 q1427 q162 q1428)) hy_J14_bitCount (by decide) dX0_needs_114) <| blk_c (s_iload dX0_needs_117) <| blk_nil
theorem bX0_needs_122 : Blk CP mX0_needs 122 128 [oAL 0, oIL 1, oIL 7, oIL 2, oIL 3] := blk_c (s_aload_n dX0_needs_122 rfl) <| blk_c (s_iload_n dX0_needs_123 rfl) <| blk_c (s_iload dX0_needs_124) <| blk_c (s_iload_n dX0_needs_126 rfl) <| blk_c (s_iload_n dX0_needs_127 rfl) <| blk_nil
theorem bX0_needs_131 : Blk CP mX0_needs 131 132 [oC (-1)] := blk_c (s_iconst dX0_needs_131 (by decide +kernel)) <| blk_nil
theorem bX0_needs_135 : Blk CP mX0_needs 135 142 [oIL 7, oS_I pBits bitsI, oIS 6] := blk_c (s_iload dX0_needs_135) <| blk_c (s_S_I ok_sJ14_bitCount (fun _ _ _ h => h.1.1) (Or.inl (lw_S q1426 q1427 q162 q1428)) hy_J14_bitCount (by decide) dX0_needs_137) <| blk_c (s_istore dX0_needs_140 (by decide)) <| blk_nil
theorem bX0_needs_142 : Blk CP mX0_needs 142 103 [oInc 7 1, .inl (fun s => some s)] := blk_c (s_iinc dX0_needs_142 (by decide +kernel) (by decide)) <| blk_c (s_goto (tgt := 103) dX0_needs_145 (by decide)) <| blk_nil
theorem bX0_needs_148 : Blk CP mX0_needs 148 150 [oIL 6] := blk_c (s_iload dX0_needs_148) <| blk_nil
theorem pb_needs (hM : WkM X mi) (hX : ThX X) (hS : SW v A sw) (hLI : LI E) (hSl : SlC E) {s c m : Int32} : RCc X mX0_needs 1000 70000 [.ref (ad 0), .int s, .int c, .int m] (ad, A, B, sk, sw, E) (PubQ (ad, A, B, sk, sw, E) (q_needs (sw 0) (m37C E) (bC A B E) s c m)) := by
  obtain ⟨-, hw, -, -⟩ := id hS
  have v6 : v 6 ≤ 40 := hw.2.2.2.2.2.2.2.1
  have v4 : v 1 ≤ 4 := hw.2.2.1
  refine C_start (L := [some (.ref (ad 0)), some (.int s), some (.int c), some (.int m), none, none, none, none]) 4 rfl ?_
  have out : asV (sw 0) (m37C E) (bC A B E) s (b2 (ctB (sw 0) c m)) (nI 8) = -2 → PJ X mX0_needs (ad, A, B, sk, sw, E) (q_needs (sw 0) (m37C E) (bC A B E) s c m) 51 [some (.ref (ad 0)), some (.int s), some (.int c), some (.int m), none, none, none, none] [] (ad, A, B, sk, sw, E) := by
    intro hf
    have ew : q_needs (sw 0) (m37C E) (bC A B E) s c m = -2 := by
      rw [q_needs, hf, if_neg (by decide +kernel)]
    refine bX0_needs_51.go rfl trivial ?_
    exact x_ret dX0_needs_53 rfl ew.symm KpX.rf
  have cf : ctB (sw 0) c m = false → asV (sw 0) (m37C E) (bC A B E) s (b2 (ctB (sw 0) c m)) (nI 8) = -2 := fun z => asV_no (by rw [z, show (b2 false : Int32) = 0 from rfl, decide_eq_true rfl]; simp)
  refine bX0_needs_0.go rfl ⟨⟨rfl, v, hw⟩, trivial⟩ ?_
  rw [clL_i]
  refine j_if_eq (tgt := 51) dX0_needs_6 (by decide) (fun h => ?_) (fun h6 => ?_)
  · rw [b2_0] at h
    exact out (cf (by rw [ctB, h]; rfl))
  rw [b2_n0] at h6
  refine bX0_needs_9.go rfl ⟨⟨rfl, v, hw⟩, trivial⟩ ?_
  rw [tmL_i]
  refine j_if_eq (tgt := 51) dX0_needs_15 (by decide) (fun h => ?_) (fun h15 => ?_)
  · rw [b2_0] at h
    exact out (cf (by rw [ctB, h, Bool.and_false]))
  rw [b2_n0] at h15
  have hct : ctB (sw 0) c m = true := by rw [ctB, h6, h15]; rfl
  rw [hct, show (b2 true : Int32) = nI 1 from rfl] at out
  obtain ⟨c, hc, rfl⟩ := hw.cOf h6
  obtain ⟨m, hm, rfl⟩ := hw.tOf h15
  have main : asV (sw 0) (m37C E) (bC A B E) s (nI 1) (nI 8) = asV (sw 0) (m37C E) (bC A B E) s (nI 1) (nI 20) → (∀ sn n, sn < 4 → s = nI sn → m37C E sn = nI n → n ≤ 60 → n ≤ 24) → PJ X mX0_needs (ad, A, B, sk, sw, E) (q_needs (sw 0) (m37C E) (bC A B E) s (nI c) (nI m)) 54 [some (.ref (ad 0)), some (.int s), some (.int (nI c)), some (.int (nI m)), none, none, none, none] [] (ad, A, B, sk, sw, E) := by
    intro h820 h24
    rw [q_needs, hct, show (b2 true : Int32) = nI 1 from rfl, h820]
    refine bX0_needs_54.go rfl trivial ?_
    refine wq hM hX hS hLI hSl ((lw_V q1398 q1400 qs48 q131 q1401)) dX0_needs_56 (by decide) rfl (fun ad' A' B' sk' sw' E' q0 hk hSl' hC => ?_)
    refine bX0_needs_59.go rfl trivial ?_
    refine j_if_eq (tgt := 69) dX0_needs_63 (by decide) (fun h7 => ?_) (fun h7 => ?_)
    rotate_left
    · refine bX0_needs_66.go rfl trivial ?_
      exact g_ret dX0_needs_68 rfl (by rw [if_neg (show ¬ asV (sw 0) (m37C E) (bC A B E) s (nI 1) (nI 20) = nI 0 from h7)]) hk
    have h7 : asV (sw 0) (m37C E) (bC A B E) s (nI 1) (nI 20) = nI 0 := h7
    obtain ⟨e6, hE, hLI', hCo, s, n, hs, rfl, hsg, em, hn, hsi⟩ := hC h7
    have cs : (nI s).toNatClampNeg = s := nI_clamp (by omega)
    have n24 : n ≤ 24 := h24 s n hs rfl em hn
    have hn' : E' (6 + s) = n := hsg.2.2.1
    obtain ⟨p1, p2⟩ := shl1 (n / 3) (by omega)
    rw [h7, if_pos rfl, cs, nI_clamp (by omega), nI_clamp (by omega), em, nI_clamp (by omega), ← q0]
    have sr : ∀ set, srF (fun k => agS (fun c m => A' (101 + 3 * k) (41 * c + m)) (bC A' B' E') s n set) (fun k => A' (101 + 3 * k) (41 * c + m)) (cnC (sw 0)) 0 (-1) = srC (sw 0) (m37C E) (bC A B E) s set c m := fun set => by rw [hk.b]; exact srC_C hw hn em hsi hCo hc hm set
    refine bX0_needs_69.go rfl trivial ?_
    refine cc0 (M' := mX0_sureBy) (nA := 4) (As := [.int (nI s), .int (-1), .int (nI c), .int (nI m)]) (ok_sureByC hX hSl' hLI' hsg e6 hE (by omega) (by omega)) rec0 rfl ((lw_V q1418 q1420 qs50 q131 q1421)) dX0_needs_74 rfl (fun r x' q => ?_) hy_X0_sureBy
    obtain ⟨rfl, rfl⟩ := q
    rw [sr]
    refine bX0_needs_77.go rfl trivial ?_
    refine j_icmp_ne (tgt := 83) dX0_needs_78 (by decide) (fun h78 => ?_) (fun h78 => ?_)
    rotate_left
    · refine bX0_needs_81.go rfl trivial ?_
      exact g_ret dX0_needs_82 rfl (by rw [if_pos h78]) hk
    rw [if_neg h78]
    refine bX0_needs_83.go rfl (by repeat' first | exact trivial | rfl | assumption | omega | apply And.intro) ?_
    refine js_slots hs dX0_needs_88 ?_
    have mn := ok_manyC (A := A') (B := B') (sk := sk') (sw := sw') (ad := ad') hX hSl' hs hsg.2.1
    rw [hn'] at mn
    refine cc0 (M' := mX1_many) (nA := 0) (As := []) mn (recSl hs) rfl ((lw_V q1402 q1403 q1404 q132 q1405)) dX0_needs_89 rfl (fun r x' q => ?_) hy_X1_many
    obtain ⟨rfl, rfl⟩ := q
    refine bX0_needs_92.go rfl (by repeat' first | exact trivial | apply And.intro | decide +kernel) ?_
    rw [pk_div (by omega) (by decide) (by decide)]
    refine loop_down (N := 2 ^ (n / 3)) (I := fun _ => True) (P := fun k => GJ X mX0_needs (ad, A, B, sk, sw, E) (ndF (fun k => srC (sw 0) (m37C E) (bC A B E) s (nI k) c m) (n / 3) (2 ^ (n / 3))) 103 [some (.ref (ad' 0)), some (.int (nI s)), some (.int (nI c)), some (.int (nI m)), some (.int (nI 0)), some (.int (nI (n / 3))), some (.int (ndF (fun k => srC (sw 0) (m37C E) (bC A B E) s (nI k) c m) (n / 3) k)), some (.int (nI k))] [] (ad', A', B', sk', sw', E')) ?_ ?_ 0 (Nat.zero_le _) trivial
    · intro _
      refine bX0_needs_103.go rfl trivial ?_
      rw [p1]
      refine j_icmp_ge (tgt := 148) dX0_needs_109 (by decide) (fun _ => ?_) (fun q => absurd (nI_le (Nat.le_refl _) (by omega)) q)
      refine bX0_needs_148.go rfl trivial ?_
      exact g_ret dX0_needs_150 rfl rfl hk
    · intro k hkk _ ih
      refine bX0_needs_103.go rfl trivial ?_
      rw [p1]
      refine j_icmp_ge (tgt := 148) dX0_needs_109 (by decide) (fun q => ?_) (fun _ => ?_)
      · rw [nI_leI (by omega) (by omega)] at q; omega
      have nx : ∀ z, z = ndF (fun k => srC (sw 0) (m37C E) (bC A B E) s (nI k) c m) (n / 3) (k + 1) → GJ X mX0_needs (ad, A, B, sk, sw, E) (ndF (fun k => srC (sw 0) (m37C E) (bC A B E) s (nI k) c m) (n / 3) (2 ^ (n / 3))) 142 [some (.ref (ad' 0)), some (.int (nI s)), some (.int (nI c)), some (.int (nI m)), some (.int (nI 0)), some (.int (nI (n / 3))), some (.int z), some (.int (nI k))] [] (ad', A', B', sk', sw', E') := by
        intro z hz
        subst hz
        refine bX0_needs_142.go rfl trivial ?_
        rw [nI_1]
        exact ih trivial
      refine bX0_needs_112.go rfl ⟨⟨k, by omega, rfl⟩, trivial⟩ ?_
      refine j_icmp_ge (tgt := 142) dX0_needs_119 (by decide) (fun h119 => ?_) (fun h119 => ?_)
      · refine nx _ ?_
        rw [ndF, minI, if_neg (Int32.not_lt.mpr h119)]
        split <;> rfl
      refine bX0_needs_122.go rfl trivial ?_
      refine cc0 (M' := mX0_sureBy) (nA := 4) (As := [.int (nI s), .int (nI k), .int (nI c), .int (nI m)]) (ok_sureByC hX hSl' hLI' hsg e6 hE (by omega) (by omega)) rec0 rfl ((lw_V q1418 q1420 qs50 q131 q1421)) dX0_needs_128 rfl (fun r x' q => ?_) hy_X0_sureBy
      obtain ⟨rfl, rfl⟩ := q
      rw [sr]
      refine bX0_needs_131.go rfl trivial ?_
      refine j_icmp_eq (tgt := 142) dX0_needs_132 (by decide) (fun h132 => ?_) (fun h132 => ?_)
      · exact nx _ (by rw [ndF, if_pos h132])
      · refine bX0_needs_135.go rfl ⟨⟨k, by omega, rfl⟩, trivial⟩ ?_
        exact nx _ (by rw [ndF, if_neg h132, minI, if_pos (Int32.not_le.mp h119)])
  refine bX0_needs_18.go rfl ⟨trivial, trivial⟩ ?_
  rw [show fSlot s = b2 (slB s) from rfl]
  refine j_if_eq (tgt := 54) dX0_needs_22 (by decide) (fun h => ?_) (fun h22 => ?_)
  · rw [b2_0] at h
    have sl : ∀ sn, sn < 4 → slB (nI sn) = true := by decide +kernel
    exact main (by rw [asV_no (by rw [h]; rfl), asV_no (by rw [h]; rfl)]) (fun sn n hs es _ _ => by rw [es, sl sn hs] at h; cases h)
  rw [b2_n0] at h22
  obtain ⟨s, hs, rfl⟩ := slB_nat h22
  have cs : (nI s).toNatClampNeg = s := nI_clamp (by omega)
  refine bX0_needs_25.go rfl (by repeat' first | exact trivial | rfl | assumption | omega | apply And.intro) ?_
  refine js_slots hs dX0_needs_30 ?_
  refine js_held hs nq385 dX0_needs_31 ?_
  by_cases e0 : E (2 + s) = 0
  · rw [if_pos e0]
    refine j_ifnullN (tgt := 54) dX0_needs_34 (by decide) ?_
    have em : m37C E s = -1 := if_pos e0
    refine main (asV_8a (by rw [cs]; exact Or.inl em)) (fun sn n hsn es e2 _ => ?_)
    obtain rfl : s = sn := (nI_eq (by omega) (by omega)).mp es
    rw [em] at e2
    exact absurd (e2 ▸ nI_pos (by omega) : ¬ (-1 : Int32) < 0) (by decide +kernel)
  rw [if_neg e0]
  refine j_ifnullR dX0_needs_34 ?_
  have l60 := (hSl s hs).2
  have em : m37C E s = nI (E (6 + s)) := if_neg e0
  refine bX0_needs_37.go rfl (by repeat' first | exact trivial | rfl | assumption | omega | apply And.intro) ?_
  refine js_slots hs dX0_needs_42 ?_
  refine cc0 (M' := mX1_many) (nA := 0) (As := []) (ok_manyC hX hSl hs e0) (recSl hs) rfl ((lw_V q1402 q1403 q1404 q132 q1405)) dX0_needs_43 rfl (fun r x' q => ?_) hy_X1_many
  obtain ⟨rfl, rfl⟩ := q
  refine bX0_needs_46.go rfl trivial ?_
  refine j_icmp_le (tgt := 54) dX0_needs_48 (by decide) (fun h48 => ?_) (fun h48 => ?_)
  · rw [nI_leI (by omega) (by omega)] at h48
    refine main (asV_8a (by rw [cs]; exact Or.inr ⟨_, h48, em⟩)) (fun sn n hsn es e2 hn60 => ?_)
    obtain rfl : s = sn := (nI_eq (by omega) (by omega)).mp es
    rw [em] at e2
    have := (nI_eq (by omega) (by omega)).mp e2
    omega
  · rw [nI_leI (by omega) (by omega)] at h48
    exact out (asV_8b (n := E (6 + s)) (by omega) l60 (by rw [cs]; exact em))
end Nds
