set_option maxRecDepth 100000
/-! ===== Long.bitCount; UnseenClock: hours, looks ===== -/
theorem N_fin (x : Int64) : x.toInt32 &&& nI 127 = nI (x.toBitVec.toNat % 128) := by
  apply Int32.toBitVec_inj.mp
  apply BitVec.eq_of_toNat_eq
  rw [Int32.toBitVec_and, BitVec.toNat_and, Int64.toBitVec_toInt32, BitVec.signExtend_eq_setWidth_of_le _ (by decide), BitVec.toNat_setWidth]
  show x.toBitVec.toNat % 2 ^ 32 &&& 2 ^ 7 - 1 = (x.toBitVec.toNat % 128) % 2 ^ 32
  rw [Nat.and_two_pow_sub_one_eq_mod]
  omega
theorem N_usk : ∀ k, k < 64 → ((nI k).toInt64.toUInt64 &&& Int64.toUInt64 63).toNat % 64 = k := by decide +kernel
theorem N_ush (x : Int64) {k : Nat} (hk : k < 64) : (x.toUInt64 >>> ((nI k).toInt64.toUInt64 &&& Int64.toUInt64 63)).toInt64.toBitVec.toNat = x.toBitVec.toNat / 2 ^ k := by
  show (x.toUInt64 >>> ((nI k).toInt64.toUInt64 &&& Int64.toUInt64 63)).toNat = _
  rw [UInt64.toNat_shiftRight, Nat.shiftRight_eq_div_pow, N_usk k hk]; rfl
theorem N_and (x y : Int64) : (x &&& y).toBitVec.toNat = x.toBitVec.toNat &&& y.toBitVec.toNat := by rw [Int64.toBitVec_and, BitVec.toNat_and]
theorem N_or (x y : Int64) : (x ||| y).toBitVec.toNat = x.toBitVec.toNat ||| y.toBitVec.toNat := by rw [Int64.toBitVec_or, BitVec.toNat_or]
theorem N_add {x y : Int64} {a b : Nat} (hx : x.toBitVec.toNat = a) (hy : y.toBitVec.toNat = b) (h : a + b < 2 ^ 64) : (x + y).toBitVec.toNat = a + b := by rw [Int64.toBitVec_add, BitVec.toNat_add, hx, hy, Nat.mod_eq_of_lt h]
theorem N_sub (x y : Int64) (h : y.toBitVec.toNat ≤ x.toBitVec.toNat) : (x - y).toBitVec.toNat = x.toBitVec.toNat - y.toBitVec.toNat := by rw [Int64.toBitVec_sub, BitVec.toNat_sub_of_le h]
theorem N_1 (x : Int64) : ((x - ((x.toUInt64 >>> ((nI 1).toInt64.toUInt64 &&& Int64.toUInt64 63)).toInt64 &&& 6148914691236517205))).toBitVec.toNat = h1N (mkN 85 8) x.toBitVec.toNat := by
  have e : ((x.toUInt64 >>> ((nI 1).toInt64.toUInt64 &&& Int64.toUInt64 63)).toInt64 &&& (6148914691236517205 : Int64)).toBitVec.toNat = (x.toBitVec.toNat / 2) &&& mkN 85 8 := by rw [N_and, N_ush x (by decide)]; rfl
  rw [N_sub, e]; rfl
  rw [e]
  exact Nat.le_trans Nat.and_le_left (Nat.div_le_self _ _)
theorem N_2 (x : Int64) : ((x &&& 3689348814741910323) + ((x.toUInt64 >>> ((nI 2).toInt64.toUInt64 &&& Int64.toUInt64 63)).toInt64 &&& 3689348814741910323)).toBitVec.toNat = h2N (mkN 51 8) x.toBitVec.toNat ∧ h2N (mkN 51 8) x.toBitVec.toNat < 2 ^ 63 := by
  have e1 : (x &&& 3689348814741910323).toBitVec.toNat = x.toBitVec.toNat &&& mkN 51 8 := by rw [N_and]; rfl
  have e2 : ((x.toUInt64 >>> ((nI 2).toInt64.toUInt64 &&& Int64.toUInt64 63)).toInt64 &&& (3689348814741910323 : Int64)).toBitVec.toNat = (x.toBitVec.toNat / 4) &&& mkN 51 8 := by rw [N_and, N_ush x (by decide)]; rfl
  have b1 : x.toBitVec.toNat &&& mkN 51 8 ≤ mkN 51 8 := Nat.and_le_right
  have b2 : (x.toBitVec.toNat / 4) &&& mkN 51 8 ≤ mkN 51 8 := Nat.and_le_right
  have b3 : mkN 51 8 + mkN 51 8 < 2 ^ 63 := by decide
  exact ⟨N_add e1 e2 (by omega), by unfold h2N; omega⟩
theorem N_3 (x : Int64) (hx : x.toBitVec.toNat < 2 ^ 63) : ((x + (x.toUInt64 >>> ((nI 4).toInt64.toUInt64 &&& Int64.toUInt64 63)).toInt64) &&& 1085102592571150095).toBitVec.toNat = h3N (mkN 15 8) x.toBitVec.toNat := by
  rw [N_and, N_add rfl (N_ush x (by decide)) (by omega)]; rfl
abbrev mJ15_bitCount : MD := (yJ15_bitCount, cJ15_bitCount, 2, (Option.some .int), 1, noEH)
theorem bJ15_bitCount_0 : Blk PE mJ15_bitCount 0 60 [oLL 0, oLL 0, oC (nI 1), oLUshr, oCL (6148914691236517205), oLAnd, oLSub, oLS 0, oLL 0, oCL (3689348814741910323), oLAnd, oLL 0, oC (nI 2), oLUshr, oCL (3689348814741910323), oLAnd, oLAdd, oLS 0, oLL 0, oLL 0, oC (nI 4), oLUshr, oLAdd, oCL (1085102592571150095), oLAnd, oLS 0, oLL 0, oLL 0, oC (nI 8), oLUshr, oLAdd, oLS 0, oLL 0, oLL 0, oC (nI 16), oLUshr, oLAdd, oLS 0, oLL 0, oLL 0, oC (nI 32), oLUshr, oLAdd, oLS 0, oLL 0, oL2I, oC (nI 127), oAnd] := blk_c (s_lload_n dJ15_bitCount_0 rfl) <| blk_c (s_lload_n dJ15_bitCount_1 rfl) <| blk_c (s_iconst dJ15_bitCount_2 (by decide +kernel)) <| blk_c (s_lushr dJ15_bitCount_3) <| blk_c (s_ldc2 dJ15_bitCount_4 q1523) <| blk_c (s_land dJ15_bitCount_7) <| blk_c (s_lsub dJ15_bitCount_8) <| blk_c (s_lstore_n dJ15_bitCount_9 rfl (by decide)) <| blk_c (s_lload_n dJ15_bitCount_10 rfl) <| blk_c (s_ldc2 dJ15_bitCount_11 q1524) <| blk_c (s_land dJ15_bitCount_14) <| blk_c (s_lload_n dJ15_bitCount_15 rfl) <| blk_c (s_iconst dJ15_bitCount_16 (by decide +kernel)) <| blk_c (s_lushr dJ15_bitCount_17) <| blk_c (s_ldc2 dJ15_bitCount_18 q1524) <| blk_c (s_land dJ15_bitCount_21) <| blk_c (s_ladd dJ15_bitCount_22) <| blk_c (s_lstore_n dJ15_bitCount_23 rfl (by decide)) <| blk_c (s_lload_n dJ15_bitCount_24 rfl) <| blk_c (s_lload_n dJ15_bitCount_25 rfl) <| blk_c (s_iconst dJ15_bitCount_26 (by decide +kernel)) <| blk_c (s_lushr dJ15_bitCount_27) <| blk_c (s_ladd dJ15_bitCount_28) <| blk_c (s_ldc2 dJ15_bitCount_29 q1525) <| blk_c (s_land dJ15_bitCount_32) <| blk_c (s_lstore_n dJ15_bitCount_33 rfl (by decide)) <| blk_c (s_lload_n dJ15_bitCount_34 rfl) <| blk_c (s_lload_n dJ15_bitCount_35 rfl) <| blk_c (s_bipush dJ15_bitCount_36 (by decide +kernel)) <| blk_c (s_lushr dJ15_bitCount_38) <| blk_c (s_ladd dJ15_bitCount_39) <| blk_c (s_lstore_n dJ15_bitCount_40 rfl (by decide)) <| blk_c (s_lload_n dJ15_bitCount_41 rfl) <| blk_c (s_lload_n dJ15_bitCount_42 rfl) <| blk_c (s_bipush dJ15_bitCount_43 (by decide +kernel)) <| blk_c (s_lushr dJ15_bitCount_45) <| blk_c (s_ladd dJ15_bitCount_46) <| blk_c (s_lstore_n dJ15_bitCount_47 rfl (by decide)) <| blk_c (s_lload_n dJ15_bitCount_48 rfl) <| blk_c (s_lload_n dJ15_bitCount_49 rfl) <| blk_c (s_bipush dJ15_bitCount_50 (by decide +kernel)) <| blk_c (s_lushr dJ15_bitCount_52) <| blk_c (s_ladd dJ15_bitCount_53) <| blk_c (s_lstore_n dJ15_bitCount_54 rfl (by decide)) <| blk_c (s_lload_n dJ15_bitCount_55 rfl) <| blk_c (s_l2i dJ15_bitCount_56) <| blk_c (s_bipush dJ15_bitCount_57 (by decide +kernel)) <| blk_c (s_iand dJ15_bitCount_59) <| blk_nil
theorem ok_bitCountL {X : Cx} (x : Int64) (h : AH) : Cg X mJ15_bitCount 0 0 [.long x] h (PR (some (.int (nI (popN x.toBitVec.toNat 64)))) h) := by
  refine E_start (L := [some (.long x), none]) 0 rfl ?_
  refine bJ15_bitCount_0.go rfl trivial ?_
  refine e_iret dJ15_bitCount_60 rfl ⟨?_, rfl⟩
  refine congrArg (fun z => Outcome.returned (some (Value.int z))) ?_
  obtain ⟨s4, s5, s6, q1, q2, q3, q4, q5, q6, q7, q8⟩ := h8N x.toBitVec.toNat x.toBitVec.isLt
  rw [N_fin, ← q7]
  congr 2
  have a1 := N_1 x
  generalize x - ((x.toUInt64 >>> ((nI 1).toInt64.toUInt64 &&& Int64.toUInt64 63)).toInt64 &&& 6148914691236517205) = y1 at a1 ⊢
  obtain ⟨a2, b2⟩ := N_2 y1
  generalize (y1 &&& 3689348814741910323) + ((y1.toUInt64 >>> ((nI 2).toInt64.toUInt64 &&& Int64.toUInt64 63)).toInt64 &&& 3689348814741910323) = y2 at a2 ⊢
  have a3 := N_3 y2 (by rw [a2]; exact b2)
  generalize (y2 + (y2.toUInt64 >>> ((nI 4).toInt64.toUInt64 &&& Int64.toUInt64 63)).toInt64) &&& 1085102592571150095 = y3 at a3 ⊢
  have e3 : y3.toBitVec.toNat = hN 8 x.toBitVec.toNat := by rw [a3, a2, a1]; rfl
  have a4 : (y3 + (y3.toUInt64 >>> ((nI 8).toInt64.toUInt64 &&& Int64.toUInt64 63)).toInt64).toBitVec.toNat = s4 := by rw [N_add e3 (N_ush y3 (by decide)) (by rw [e3]; omega), e3, q1]
  generalize y3 + (y3.toUInt64 >>> ((nI 8).toInt64.toUInt64 &&& Int64.toUInt64 63)).toInt64 = y4 at a4 ⊢
  have a5 : (y4 + (y4.toUInt64 >>> ((nI 16).toInt64.toUInt64 &&& Int64.toUInt64 63)).toInt64).toBitVec.toNat = s5 := by rw [N_add a4 (N_ush y4 (by decide)) (by rw [a4]; omega), a4, q2]
  generalize y4 + (y4.toUInt64 >>> ((nI 16).toInt64.toUInt64 &&& Int64.toUInt64 63)).toInt64 = y5 at a5 ⊢
  rw [N_add a5 (N_ush y5 (by decide)) (by rw [a5]; omega), a5, q3]
/-! hours, counted -/
theorem pt_b {cf : CF} {v : Nat → Nat} (hw : WOk cf.1 v) (od : Nat → Int32) (z : Int64) {c : Nat} (hc : c < v 1) : ∀ t, t ≤ 40 → ∃ x, x ≤ 708 + 60 * t ∧ (rsS cf od z t).pt c = nI x := by
  have h4 := hw.nc4
  obtain ⟨k0, k1, k2, k3, k4, k5, k6, k7⟩ : KOk v (32 + 6 * c) := hw.2.2.2.2.2.2.2.2.2.2.1 c hc
  intro t
  induction t with
  | zero =>
    intro _
    refine ⟨v (32 + 6 * c + 5) * v (32 + 6 * c + 3), ?_, ?_⟩
    · have : v (32 + 6 * c + 5) * v (32 + 6 * c + 3) ≤ 59 * 12 := Nat.mul_le_mul (by omega) k4
      omega
    · show cf.1 (32 + 6 * c + 5) * cf.1 (32 + 6 * c + 3) = _
      rw [hw.1 _ (by omega), hw.1 _ (by omega), pk_mul]
  | succ t ih =>
    intro ht
    obtain ⟨x, hx, e⟩ := ih (by omega)
    show ∃ x, _ ∧ (rsS cf od z t).pt c + (if (lkdB cf t (rsS cf od z t) c || decide ((rsS cf od z t).kM c < cf.2.1 c)) = true then nI 0 else cf.1 (32 + 6 * c + 2)) = nI x
    rw [e]
    split
    · exact ⟨x, by omega, by rw [nI_add]; rfl⟩
    · exact ⟨x + v (32 + 6 * c + 2), by omega, by rw [hw.1 _ (by omega), nI_add]⟩
theorem sh_b {cf : CF} {v : Nat → Nat} (hw : WOk cf.1 v) (od : Nat → Int32) (z : Int64) {c t : Nat} (hc : c < v 1) (ht : t ≤ 40) : ∃ s, s < 60 ∧ shW cf.1 (rsS cf od z t).pt c = nI s := by
  have h4 := hw.nc4
  obtain ⟨k0, k1, k2, k3, k4, k5, k6, k7⟩ : KOk v (32 + 6 * c) := hw.2.2.2.2.2.2.2.2.2.2.1 c hc
  obtain ⟨x, hx, e⟩ := pt_b hw od z hc t ht
  have hd : x / v (32 + 6 * c + 3) ≤ x := Nat.div_le_self _ _
  refine ⟨x / v (32 + 6 * c + 3) % v (32 + 6 * c + 4), Nat.lt_of_lt_of_le (Nat.mod_lt _ (by omega)) k6, ?_⟩
  simp only [shW, shI]
  rw [e, hw.1 _ (by omega), hw.1 (32 + 6 * c + 4) (by omega), pk_div (by omega) (by omega) (by omega), pk_rem (by omega) (by omega) (by omega)]
/-- the hours before a moment, as bits -/
def hrN (w : Nat → Int32) (c : Nat) : Nat → Nat
  | 0 => 0
  | t + 1 => hrN w c t ||| 2 ^ (showsP w c t).toNatClampNeg
theorem hr_bit {w : Nat → Int32} {v : Nat → Nat} (hw : WOk w v) {c : Nat} (hc : c < v 1) {u : Nat} (hu : u ≤ 40) : ∀ t, t ≤ 41 → (hrN w c t).testBit (showsP w c u).toNatClampNeg = anyN (fun b => decide (showsP w c b = showsP w c u)) t := by
  have q := fun t (ht : t ≤ 40) => sh_b (cf := cfP w) hw (fun _ => nI 0) 0 hc ht
  obtain ⟨a, ha, ea⟩ := q u hu
  have ea : showsP w c u = nI a := ea
  intro t
  induction t with
  | zero => intro _; exact Nat.zero_testBit _
  | succ t ih =>
    intro ht
    obtain ⟨b, hb, eb⟩ := q t (by omega)
    have eb : showsP w c t = nI b := eb
    simp only [hrN, anyN]
    rw [Nat.testBit_or, ih (by omega), ea, eb, nI_clamp (by omega), nI_clamp (by omega), Nat.testBit_two_pow]
    congr 1
    rw [decide_eq_decide]
    exact (nI_eq (by omega) (by omega)).symm
theorem hr_pop {w : Nat → Int32} {v : Nat → Nat} (hw : WOk w v) {c : Nat} (hc : c < v 1) : ∀ t, t ≤ 41 → popN (hrN w c t) 64 = cntN (newHr w c) t := by
  intro t
  induction t with
  | zero => intro _; exact pop0 64
  | succ t ih =>
    intro ht
    obtain ⟨b, hb, eb⟩ := sh_b (cf := cfP w) hw (fun _ => nI 0) 0 hc (t := t) (by omega)
    have eb : showsP w c t = nI b := eb
    have hbit := hr_bit hw hc (u := t) (by omega) t (by omega)
    simp only [hrN, cntN]
    rw [popN_or, ih (by omega), hbit, newHr]
    congr 1
    have : (showsP w c t).toNatClampNeg < 64 := by rw [eb, nI_clamp (by omega)]; omega
    cases anyN (fun b => decide (showsP w c b = showsP w c t)) t <;> simp [this]
theorem shl_N : ∀ h, h < 60 → ((1 : Int64) <<< ((nI h).toInt64 &&& 63)).toBitVec.toNat = 2 ^ h := by decide +kernel
section Q7
variable {X : Cx} {ad : Nat → Nat} {A : Nat → Nat → Int32} {B : Nat → Nat → Int64} {sk : Nat → Nat → Nat} {sw : Nat → Nat → Int32} {E : Nat → Nat} {v : Nat → Nat} {w : Nat → Int32}
theorem bX0_hours_0 : Blk CP mX0_hours 0 6 [oAL 0, oIL 1, oI2L, cF_J F_isClockC] := blk_c (s_aload_n dX0_hours_0 rfl) <| blk_c (s_iload_n dX0_hours_1 rfl) <| blk_c (s_i2l dX0_hours_2) <| blk_c (c_F_J ok_isClockC (ci := 0) rfl (lw_V q1146 q1148 qs31 q131 q1149) hy_X0_isClock rfl (by decide) dX0_hours_3) <| blk_nil
theorem bX0_hours_9 : Blk CP mX0_hours 9 11 [oC (-2)] := blk_c (s_bipush dX0_hours_9 (by decide +kernel)) <| blk_nil
theorem bX0_hours_12 : Blk CP mX0_hours 12 13 [oAL 0] := blk_c (s_aload_n dX0_hours_12 rfl) <| blk_nil
theorem bX0_hours_16 : Blk CP mX0_hours 16 22 [oPopR, oCL (lN 0), oLS 2, oC (nI 0), oIS 4] := blk_c (s_popR dX0_hours_16) <| blk_c (s_lconst dX0_hours_17 (by decide +kernel)) <| blk_c (s_lstore_n dX0_hours_18 rfl (by decide)) <| blk_c (s_iconst dX0_hours_19 (by decide +kernel)) <| blk_c (s_istore dX0_hours_20 (by decide)) <| blk_nil
theorem bX0_hours_22 : Blk CP mX0_hours 22 31 [oIL 4, oAL 0, cQ0, qI 0 6 6] := blk_c (s_iload dX0_hours_22) <| blk_c (s_aload_n dX0_hours_24 rfl) <| blk_c (cgX0_1 (Or.inl q557) dX0_hours_25) <| blk_c (q_I (by decide) (fun _ _ => rfl) (Or.inr ⟨_, nq448⟩) dX0_hours_28) <| blk_nil
theorem bX0_hours_34 : Blk CP mX0_hours 34 22 [oLL 2, oCL (lN 1), oAL 0, cR 0 4 3, cR 3 1 31, oIL 1, cW 31 60 4, oIL 4, cWI 60 4 41 1, oLShl, oLOr, oLS 2, oInc 4 1, .inl (fun s => some s)] := blk_c (s_lload_n dX0_hours_34 rfl) <| blk_c (s_lconst dX0_hours_35 (by decide +kernel)) <| blk_c (s_aload_n dX0_hours_36 rfl) <| blk_c (cgX0_4 (Or.inl q560) dX0_hours_37) <| blk_c (cgX3_1 (Or.inr ⟨_, nq490⟩) dX0_hours_40) <| blk_c (s_iload_n dX0_hours_43 rfl) <| blk_c (c_W (t := 8) (ty := .int) (fun _ => rfl) (fun _ _ _ _ _ _ => rfl) dX0_hours_44) <| blk_c (s_iload dX0_hours_45) <| blk_c (c_wiald ar_shows dX0_hours_47) <| blk_c (s_lshl dX0_hours_48) <| blk_c (s_lor dX0_hours_49) <| blk_c (s_lstore_n dX0_hours_50 rfl (by decide)) <| blk_c (s_iinc dX0_hours_51 (by decide +kernel) (by decide)) <| blk_c (s_goto (tgt := 22) dX0_hours_54 (by decide)) <| blk_nil
theorem bX0_hours_57 : Blk CP mX0_hours 57 58 [oLL 2] := blk_c (s_lload_n dX0_hours_57 rfl) <| blk_nil
theorem pb_hours (hS : SW v A sw) {c : Int32} : RCc X mX0_hours 1000 70000 [.ref (ad 0), .int c] (ad, A, B, sk, sw, E) (PubQ (ad, A, B, sk, sw, E) (q_hours (sw 0) c)) := by
  obtain ⟨-, hw, e7, ep⟩ := id hS
  have h4 := hw.nc4
  have h40 := hw.sp40
  have spE := hw.span
  have e6 : sw 0 6 = nI (v 6) := hw.1 6 (by decide)
  have main : cB (sw 0) c = true → PJ X mX0_hours (ad, A, B, sk, sw, E) (q_hours (sw 0) c) 12 [some (.ref (ad 0)), some (.int c), none, none, none] [] (ad, A, B, sk, sw, E) := by
    intro hg
    rw [q_hours, if_pos hg, spE]
    obtain ⟨c, hc, rfl⟩ := hw.cOf hg
    rw [nI_clamp (by omega)]
    refine bX0_hours_12.go rfl trivial ?_
    refine xq (M' := mX0_plain) (As := []) (nA := 0) (ok_plainC hS) rec0 rfl (lw_V q1184 q1186 qs34 q131 q1187) dX0_hours_13 rfl hy_X0_plain (fun r A1 B1 sk1 sw1 E1 k1 q1 => ?_)
    obtain ⟨rfl, q1, e1, s1⟩ := q1
    have e0 : sw1 0 = sw 0 := k1.2.2.2.1 0 (by decide)
    refine bX0_hours_16.go rfl trivial ?_
    refine loop_down (N := v 6 + 1) (I := fun _ => True) (P := fun t => ∀ x : Int64, x.toBitVec.toNat = hrN (sw 0) c t → PJ X mX0_hours (ad, A, B, sk, sw, E) (sumI (fun m => b2 (newHr (sw 0) c m)) (v 6 + 1)) 22 [some (.ref (ad 0)), some (.int (nI c)), some (.long x), none, some (.int (nI t))] [] (ad, A1, B1, sk1, sw1, E1)) ?_ ?_ 0 (by omega) trivial _ rfl
    · intro _ x hx
      refine bX0_hours_22.go rfl ⟨rfl, ⟨rfl, sq0⟩, trivial⟩ ?_
      rw [e0, e6]
      refine j_icmp_gt (tgt := 57) dX0_hours_31 (by decide) (fun h31 => ?_) (fun h31 => absurd (nI_lt (by omega) (by omega)) h31)
      refine bX0_hours_57.go rfl trivial ?_
      refine js_pureS (M' := mJ15_bitCount) (nA := 1) (As := [.long x]) (fun h => ok_bitCountL x h) dX0_hours_58 (lw_S q1520 q1521 q164 q1522) rfl ?_
      refine x_ret dX0_hours_61 rfl ?_ k1
      rw [hx, hr_pop hw hc _ (by omega), sum_cnt]
    · intro t ht _ ih x hx
      refine bX0_hours_22.go rfl ⟨rfl, ⟨rfl, sq0⟩, trivial⟩ ?_
      rw [e0, e6]
      refine j_icmp_gt (tgt := 57) dX0_hours_31 (by decide) (fun h31 => ?_) (fun h31 => ?_)
      · rw [nI_ltI (by omega) (by omega)] at h31; omega
      · refine bX0_hours_34.go rfl (by (try simp (disch := omega) only [nI_add, pk_mul, pk_sub, nI_clamp, vpI]); repeat' first | exact trivial | rfl | assumption | omega | apply And.intro) ?_
        simp (disch := omega) only [nI_clamp]
        rw [nI_1]
        refine ih trivial _ ?_
        obtain ⟨b, hb, eb⟩ := sh_b (cf := cfP (sw 0)) hw (fun _ => nI 0) 0 hc (t := t) (by omega)
        have es : A1 (60 + c) t = showsP (sw 0) c t := q1.2.2.2.2.1 t (by omega) c hc
        have eb : showsP (sw 0) c t = nI b := eb
        rw [es, hrN, eb, nI_clamp (by omega), N_or, hx]
        congr 1
        exact shl_N b hb
  refine C_start (L := [some (.ref (ad 0)), some (.int c), none, none, none]) 3 rfl ?_
  refine bX0_hours_0.go rfl (by first | exact ⟨⟨rfl, v, hw⟩, trivial⟩ | exact ⟨rfl, trivial⟩ | exact ⟨trivial, trivial⟩) ?_
  refine j_if_ne (tgt := 12) dX0_hours_6 (by decide) (fun h6 => ?_) (fun h6 => ?_)
  · exact main (by clear main; simp only [clL_i, tmL_i, hrL_i, fIn_L, b2_0, b2_n0] at *; simp_all)
  · refine bX0_hours_9.go rfl trivial ?_
    refine c_iret dX0_hours_11 rfl ?_
    exact ⟨ans (by clear main; simp only [clL_i, tmL_i, hrL_i, fIn_L, b2_0, b2_n0] at *; simp_all [q_hours] <;> (intros; simp_all)), KpX.rf.kp⟩
end Q7
