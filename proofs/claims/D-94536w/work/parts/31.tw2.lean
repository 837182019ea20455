set_option maxRecDepth 100000
/-! ===== loops; UnseenClockModel: bits, sign, isTaken, ofClock, of ===== -/
theorem loop_down {N : Nat} {I : Nat → Prop} {P : Nat → Prop} (hN : I N → P N) (hs : ∀ i, i < N → I i → (I (i + 1) → P (i + 1)) → P i) : ∀ i, i ≤ N → I i → P i := by
  have key : ∀ d i, i + d = N → I i → P i := by
    intro d
    induction d with
    | zero => intro i h hi; have : i = N := by omega
              subst this; exact hN hi
    | succ d ih => intro i h hi; exact hs i (by omega) hi (fun h1 => ih (i + 1) (by omega) h1)
  exact fun i h hi => key (N - i) i (by omega) hi
def sumI (f : Nat → Int32) : Nat → Int32
  | 0 => nI 0
  | k + 1 => sumI f k + f k
def anyN (f : Nat → Bool) : Nat → Bool
  | 0 => false
  | k + 1 => anyN f k || f k
theorem anyN_false {f : Nat → Bool} {n : Nat} : anyN f n = false ↔ ∀ k, k < n → f k = false := by
  induction n with
  | zero => simp [anyN]
  | succ n ih =>
    simp only [anyN, Bool.or_eq_false_iff, ih]
    constructor
    · rintro ⟨h1, h2⟩ k hk
      rcases Nat.lt_succ_iff_lt_or_eq.mp hk with h | h
      · exact h1 k h
      · rw [h]; exact h2
    · intro h
      exact ⟨fun k hk => h k (by omega), h n (by omega)⟩
theorem anyN_true {f : Nat → Bool} {n : Nat} : anyN f n = true ↔ ∃ k, k < n ∧ f k = true := by
  rw [← Bool.not_eq_false, anyN_false]
  constructor
  · intro h
    apply Classical.byContradiction
    intro h2
    exact h (fun k hk => by
      cases hf : f k with
      | false => rfl
      | true => exact absurd ⟨k, hk, hf⟩ h2)
  · rintro ⟨k, hk, hf⟩ h
    rw [h k hk] at hf; cases hf
theorem vpI {n N : Nat} (h : n < 2 ^ 31) : vp_in (nI n) N ↔ n < N := by rw [vp_in_iff, nI_toInt h]; omega
theorem nI_leX {a b : Nat} (ha : a < 2 ^ 31) (hb : b < 2 ^ 31) : (nI a ≤ nI b) ↔ a ≤ b := nI_leI ha hb
def F_bits (s : Int32) (x : Tau) : Prop × Option Value × Tau := (True, some (.int (sumI (fun k => (s >>> (nI k &&& 31)) &&& nI 1) 31)), x)
theorem bX4_bits_0 : Blk TP mX4_bits 0 4 [oC (nI 0), oIS 1, oC (nI 0), oIS 2] := blk_c (s_iconst dX4_bits_0 (by decide +kernel)) <| blk_c (s_istore_n dX4_bits_1 rfl (by decide)) <| blk_c (s_iconst dX4_bits_2 (by decide +kernel)) <| blk_c (s_istore_n dX4_bits_3 rfl (by decide)) <| blk_nil
theorem bX4_bits_4 : Blk TP mX4_bits 4 7 [oIL 2, oC (nI 31)] := blk_c (s_iload_n dX4_bits_4 rfl) <| blk_c (s_bipush dX4_bits_5 (by decide +kernel)) <| blk_nil
theorem bX4_bits_10 : Blk TP mX4_bits 10 4 [oIL 1, oIL 0, oIL 2, oShr, oC (nI 1), oAnd, oAdd, oIS 1, oInc 2 1, .inl (fun s => some s)] := blk_c (s_iload_n dX4_bits_10 rfl) <| blk_c (s_iload_n dX4_bits_11 rfl) <| blk_c (s_iload_n dX4_bits_12 rfl) <| blk_c (s_ishr dX4_bits_13) <| blk_c (s_iconst dX4_bits_14 (by decide +kernel)) <| blk_c (s_iand dX4_bits_15) <| blk_c (s_iadd dX4_bits_16) <| blk_c (s_istore_n dX4_bits_17 rfl (by decide)) <| blk_c (s_iinc dX4_bits_18 (by decide +kernel) (by decide)) <| blk_c (s_goto (tgt := 4) dX4_bits_21 (by decide)) <| blk_nil
theorem bX4_bits_24 : Blk TP mX4_bits 24 25 [oIL 1] := blk_c (s_iload_n dX4_bits_24 rfl) <| blk_nil
theorem ok_bits : TS_I mX4_bits F_bits := by
  intro X s x P r y hF _
  cases hF
  refine T_start (L := [some (.int s), none, none]) 2 rfl ?_
  refine bX4_bits_0.go rfl trivial ?_
  refine loop_down (N := 31) (I := fun _ => True) (P := fun k => JS TP X mX4_bits (rmOf mX4_bits.lv 0 0) _ 0 0 4 [some (.int s), some (.int (sumI (fun k => (s >>> (nI k &&& 31)) &&& nI 1) k)), some (.int (nI k))] [] x) ?_ ?_ 0 (by omega) trivial
  · intro _
    refine bX4_bits_4.go rfl trivial ?_
    refine j_icmp_ge (tgt := 24) dX4_bits_7 (by decide) (fun h7 => ?_) (fun h7 => ?_)
    · refine bX4_bits_24.go rfl trivial ?_
      exact t_iret dX4_bits_25 rfl rfl rfl
    · exact absurd (by decide) h7
  · intro k hk _ ih
    refine bX4_bits_4.go rfl trivial ?_
    refine j_icmp_ge (tgt := 24) dX4_bits_7 (by decide) (fun h7 => ?_) (fun h7 => ?_)
    · rw [nI_leI (by omega) (by omega)] at h7; omega
    · refine bX4_bits_10.go rfl trivial ?_
      rw [nI_1]
      exact ih trivial
def F_sign (v : Int32) (x : Tau) : Prop × Option Value × Tau := (True, some (.int (if 0 < v then nI 1 else if v < 0 then -1 else nI 0)), x)
theorem bX4_sign_0 : Blk TP mX4_sign 0 1 [oIL 0] := blk_c (s_iload_n dX4_sign_0 rfl) <| blk_nil
theorem bX4_sign_4 : Blk TP mX4_sign 4 17 [oC (nI 1), .inl (fun s => some s)] := blk_c (s_iconst dX4_sign_4 (by decide +kernel)) <| blk_c (s_goto (tgt := 17) dX4_sign_5 (by decide)) <| blk_nil
theorem bX4_sign_8 : Blk TP mX4_sign 8 9 [oIL 0] := blk_c (s_iload_n dX4_sign_8 rfl) <| blk_nil
theorem bX4_sign_12 : Blk TP mX4_sign 12 17 [oC (-1), .inl (fun s => some s)] := blk_c (s_iconst dX4_sign_12 (by decide +kernel)) <| blk_c (s_goto (tgt := 17) dX4_sign_13 (by decide)) <| blk_nil
theorem bX4_sign_16 : Blk TP mX4_sign 16 17 [oC (nI 0)] := blk_c (s_iconst dX4_sign_16 (by decide +kernel)) <| blk_nil
theorem ok_sign : TS_I mX4_sign F_sign := by
  intro X v x P r y hF _
  cases hF
  refine T_start (L := [some (.int v)]) 0 rfl ?_
  refine bX4_sign_0.go rfl trivial ?_
  refine j_if_le (tgt := 8) dX4_sign_1 (by decide) (fun h1 => ?_) (fun h1 => ?_)
  · refine bX4_sign_8.go rfl trivial ?_
    refine j_if_ge (tgt := 16) dX4_sign_9 (by decide) (fun h9 => ?_) (fun h9 => ?_)
    · refine bX4_sign_16.go rfl trivial ?_
      exact t_iret dX4_sign_17 rfl (by first | rfl | (simp only [Int32.not_le, Int32.not_lt, ← Int32.not_lt] at *; simp_all [-Int32.not_lt])) (by first | rfl | (simp only [Int32.not_le, Int32.not_lt, ← Int32.not_lt] at *; simp_all [-Int32.not_lt]))
    · refine bX4_sign_12.go rfl trivial ?_
      exact t_iret dX4_sign_17 rfl (by first | rfl | (simp only [Int32.not_le, Int32.not_lt, ← Int32.not_lt] at *; simp_all [-Int32.not_lt])) (by first | rfl | (simp only [Int32.not_le, Int32.not_lt, ← Int32.not_lt] at *; simp_all [-Int32.not_lt]))
  · refine bX4_sign_4.go rfl trivial ?_
    exact t_iret dX4_sign_17 rfl (by first | rfl | (simp only [Int32.not_le, Int32.not_lt, ← Int32.not_lt] at *; simp_all [-Int32.not_lt])) (by first | rfl | (simp only [Int32.not_le, Int32.not_lt, ← Int32.not_lt] at *; simp_all [-Int32.not_lt]))
/-- a wall or a clock (but one) stands at a cell -/
def wallAt (w : Nat → Int32) (X Y : Int32) (k : Nat) : Bool := decide (w (8 + 2 * k) = X) && decide (w (8 + 2 * k + 1) = Y)
def clockAt (w : Nat → Int32) (X Y but : Int32) (c : Nat) : Bool := !decide (nI c = but) && (decide (w (32 + 6 * c) = X) && decide (w (32 + 6 * c + 1) = Y))
def takenB (w : Nat → Int32) (X Y but : Int32) : Bool := anyN (wallAt w X Y) (w 0).toNatClampNeg || anyN (clockAt w X Y but) (w 1).toNatClampNeg
def CntOK (w : Nat → Int32) : Prop := ∃ a b : Nat, a ≤ 12 ∧ b ≤ 4 ∧ w 0 = nI a ∧ w 1 = nI b
def F_isTaken (a : Nat) (X Y but : Int32) : Tau → Prop × Option Value × Tau := fun (o, ad, A, B) => (a = ad 1 ∧ CntOK (A 1), some (.int (b2 (takenB (A 1) X Y but))), (o, ad, A, B))
theorem bX4_isTaken_0 : Blk TP mX4_isTaken 0 3 [oC (nI 0), oIS 4] := blk_c (s_iconst dX4_isTaken_0 (by decide +kernel)) <| blk_c (s_istore dX4_isTaken_1 (by decide)) <| blk_nil
theorem bX4_isTaken_3 : Blk TP mX4_isTaken 3 8 [oIL 4, oAL 0, oC (nI 0), tAI 1 320] := blk_c (s_iload dX4_isTaken_3) <| blk_c (s_aload_n dX4_isTaken_5 rfl) <| blk_c (s_iconst dX4_isTaken_6 (by decide +kernel)) <| blk_c (t_iald rfl dX4_isTaken_7) <| blk_nil
theorem bX4_isTaken_11 : Blk TP mX4_isTaken 11 21 [oAL 0, oC (nI 8), oC (nI 2), oIL 4, oMul, oAdd, tAI 1 320, oIL 1] := blk_c (s_aload_n dX4_isTaken_11 rfl) <| blk_c (s_bipush dX4_isTaken_12 (by decide +kernel)) <| blk_c (s_iconst dX4_isTaken_14 (by decide +kernel)) <| blk_c (s_iload dX4_isTaken_15) <| blk_c (s_imul dX4_isTaken_17) <| blk_c (s_iadd dX4_isTaken_18) <| blk_c (t_iald rfl dX4_isTaken_19) <| blk_c (s_iload_n dX4_isTaken_20 rfl) <| blk_nil
theorem bX4_isTaken_24 : Blk TP mX4_isTaken 24 36 [oAL 0, oC (nI 8), oC (nI 2), oIL 4, oMul, oAdd, oC (nI 1), oAdd, tAI 1 320, oIL 2] := blk_c (s_aload_n dX4_isTaken_24 rfl) <| blk_c (s_bipush dX4_isTaken_25 (by decide +kernel)) <| blk_c (s_iconst dX4_isTaken_27 (by decide +kernel)) <| blk_c (s_iload dX4_isTaken_28) <| blk_c (s_imul dX4_isTaken_30) <| blk_c (s_iadd dX4_isTaken_31) <| blk_c (s_iconst dX4_isTaken_32 (by decide +kernel)) <| blk_c (s_iadd dX4_isTaken_33) <| blk_c (t_iald rfl dX4_isTaken_34) <| blk_c (s_iload_n dX4_isTaken_35 rfl) <| blk_nil
theorem bX4_isTaken_39 : Blk TP mX4_isTaken 39 40 [oC (nI 1)] := blk_c (s_iconst dX4_isTaken_39 (by decide +kernel)) <| blk_nil
theorem bX4_isTaken_41 : Blk TP mX4_isTaken 41 3 [oInc 4 1, .inl (fun s => some s)] := blk_c (s_iinc dX4_isTaken_41 (by decide +kernel) (by decide)) <| blk_c (s_goto (tgt := 3) dX4_isTaken_44 (by decide)) <| blk_nil
theorem bX4_isTaken_47 : Blk TP mX4_isTaken 47 50 [oC (nI 0), oIS 4] := blk_c (s_iconst dX4_isTaken_47 (by decide +kernel)) <| blk_c (s_istore dX4_isTaken_48 (by decide)) <| blk_nil
theorem bX4_isTaken_50 : Blk TP mX4_isTaken 50 55 [oIL 4, oAL 0, oC (nI 1), tAI 1 320] := blk_c (s_iload dX4_isTaken_50) <| blk_c (s_aload_n dX4_isTaken_52 rfl) <| blk_c (s_iconst dX4_isTaken_53 (by decide +kernel)) <| blk_c (t_iald rfl dX4_isTaken_54) <| blk_nil
theorem bX4_isTaken_58 : Blk TP mX4_isTaken 58 61 [oIL 4, oIL 3] := blk_c (s_iload dX4_isTaken_58) <| blk_c (s_iload_n dX4_isTaken_60 rfl) <| blk_nil
theorem bX4_isTaken_64 : Blk TP mX4_isTaken 64 75 [oAL 0, oC (nI 32), oC (nI 6), oIL 4, oMul, oAdd, tAI 1 320, oIL 1] := blk_c (s_aload_n dX4_isTaken_64 rfl) <| blk_c (s_bipush dX4_isTaken_65 (by decide +kernel)) <| blk_c (s_bipush dX4_isTaken_67 (by decide +kernel)) <| blk_c (s_iload dX4_isTaken_69) <| blk_c (s_imul dX4_isTaken_71) <| blk_c (s_iadd dX4_isTaken_72) <| blk_c (t_iald rfl dX4_isTaken_73) <| blk_c (s_iload_n dX4_isTaken_74 rfl) <| blk_nil
theorem bX4_isTaken_78 : Blk TP mX4_isTaken 78 91 [oAL 0, oC (nI 32), oC (nI 6), oIL 4, oMul, oAdd, oC (nI 1), oAdd, tAI 1 320, oIL 2] := blk_c (s_aload_n dX4_isTaken_78 rfl) <| blk_c (s_bipush dX4_isTaken_79 (by decide +kernel)) <| blk_c (s_bipush dX4_isTaken_81 (by decide +kernel)) <| blk_c (s_iload dX4_isTaken_83) <| blk_c (s_imul dX4_isTaken_85) <| blk_c (s_iadd dX4_isTaken_86) <| blk_c (s_iconst dX4_isTaken_87 (by decide +kernel)) <| blk_c (s_iadd dX4_isTaken_88) <| blk_c (t_iald rfl dX4_isTaken_89) <| blk_c (s_iload_n dX4_isTaken_90 rfl) <| blk_nil
theorem bX4_isTaken_94 : Blk TP mX4_isTaken 94 95 [oC (nI 1)] := blk_c (s_iconst dX4_isTaken_94 (by decide +kernel)) <| blk_nil
theorem bX4_isTaken_96 : Blk TP mX4_isTaken 96 50 [oInc 4 1, .inl (fun s => some s)] := blk_c (s_iinc dX4_isTaken_96 (by decide +kernel) (by decide)) <| blk_c (s_goto (tgt := 50) dX4_isTaken_99 (by decide)) <| blk_nil
theorem bX4_isTaken_102 : Blk TP mX4_isTaken 102 103 [oC (nI 0)] := blk_c (s_iconst dX4_isTaken_102 (by decide +kernel)) <| blk_nil
theorem ok_isTaken : TS_RIII mX4_isTaken F_isTaken := by
  intro X a X1 Y1 but ⟨o, ad, A, B⟩ P r y hF hP
  cases hF
  obtain ⟨rfl, na, nb, ha, hb, e0, e1⟩ := hP
  refine T_start (L := [some (.ref (ad 1)), some (.int X1), some (.int Y1), some (.int but), none]) 1 rfl ?_
  refine bX4_isTaken_0.go rfl trivial ?_
  refine loop_down (N := na) (I := fun i => ∀ k, k < i → wallAt (A 1) X1 Y1 k = false) (P := fun i => JS TP X mX4_isTaken (rmOf mX4_isTaken.lv 0 0) _ 0 0 3 [some (.ref (ad 1)), some (.int X1), some (.int Y1), some (.int but), some (.int (nI i))] [] (o, ad, A, B)) ?_ ?_ 0 (by omega) (by intro k hk; omega)
  · intro hI
    refine bX4_isTaken_3.go rfl ⟨⟨rfl, vp_in_nI (by decide) (by decide)⟩, trivial⟩ ?_
    refine j_icmp_ge (tgt := 47) dX4_isTaken_8 (by decide) (fun h8 => ?_) (fun h8 => ?_)
    · refine bX4_isTaken_47.go rfl trivial ?_
      refine loop_down (N := nb) (I := fun i => ∀ k, k < i → clockAt (A 1) X1 Y1 but k = false) (P := fun i => JS TP X mX4_isTaken (rmOf mX4_isTaken.lv 0 0) _ 0 0 50 [some (.ref (ad 1)), some (.int X1), some (.int Y1), some (.int but), some (.int (nI i))] [] (o, ad, A, B)) ?_ ?_ 0 (by omega) (by intro k hk; omega)
      · intro hJ
        refine bX4_isTaken_50.go rfl ⟨⟨rfl, vp_in_nI (by decide) (by decide)⟩, trivial⟩ ?_
        refine j_icmp_ge (tgt := 102) dX4_isTaken_55 (by decide) (fun h55 => ?_) (fun h55 => ?_)
        · refine bX4_isTaken_102.go rfl trivial ?_
          refine t_zret dX4_isTaken_103 rfl rfl (sv_int (b2_f ?_)) rfl
          simp (disch := omega) only [takenB, e0, e1, nI_clamp, Bool.or_eq_false_iff, anyN_false]
          exact ⟨hI, hJ⟩
        · simp (disch := omega) only [e1, nI_clamp, nI_leI] at h55; omega
      · intro i hi hJ ih
        refine bX4_isTaken_50.go rfl ⟨⟨rfl, vp_in_nI (by decide) (by decide)⟩, trivial⟩ ?_
        have nx : clockAt (A 1) X1 Y1 but i = false → JS TP X mX4_isTaken (rmOf mX4_isTaken.lv 0 0) (TZ X (some (.int (b2 (takenB (A 1) X1 Y1 but)))) (o, ad, A, B)) 0 0 96 [some (.ref (ad 1)), some (.int X1), some (.int Y1), some (.int but), some (.int (nI i))] [] (o, ad, A, B) := by
          intro hf
          refine bX4_isTaken_96.go rfl trivial ?_
          rw [nI_1]
          exact ih (fun k hk => by rcases Nat.lt_succ_iff_lt_or_eq.mp hk with h | h; exact hJ k h; rw [h]; exact hf)
        refine j_icmp_ge (tgt := 102) dX4_isTaken_55 (by decide) (fun h55 => ?_) (fun h55 => ?_)
        · simp (disch := omega) only [e1, nI_clamp, nI_leI] at h55; omega
        · refine bX4_isTaken_58.go rfl trivial ?_
          refine j_icmp_eq (tgt := 96) dX4_isTaken_61 (by decide) (fun h61 => ?_) (fun h61 => ?_)
          · exact nx (by simp [clockAt, h61])
          · refine bX4_isTaken_64.go rfl (by simp (disch := omega) only [nI_add, pk_mul, vpI]; exact ⟨⟨trivial, by omega⟩, trivial⟩) ?_
            refine j_icmp_ne (tgt := 96) dX4_isTaken_75 (by decide) (fun h75 => ?_) (fun h75 => ?_)
            · simp (disch := omega) only [nI_add, pk_mul, nI_clamp] at h75
              exact nx (by simp [clockAt, h75])
            · refine bX4_isTaken_78.go rfl (by simp (disch := omega) only [nI_add, pk_mul, vpI]; exact ⟨⟨trivial, by omega⟩, trivial⟩) ?_
              refine j_icmp_ne (tgt := 96) dX4_isTaken_91 (by decide) (fun h91 => ?_) (fun h91 => ?_)
              · simp (disch := omega) only [nI_add, pk_mul, nI_clamp] at h91
                exact nx (by simp [clockAt, h91])
              · refine bX4_isTaken_94.go rfl trivial ?_
                refine t_zret dX4_isTaken_95 rfl rfl (sv_int (b2_t ?_)) rfl
                simp (disch := omega) only [nI_add, pk_mul, nI_clamp] at h75 h91
                simp (disch := omega) only [takenB, e0, e1, nI_clamp, Bool.or_eq_true, anyN_true]
                exact Or.inr ⟨i, hi, by simp [clockAt, h61, h75, h91]⟩
    · simp (disch := omega) only [e0, nI_clamp, nI_leI] at h8; omega
  · intro i hi hI ih
    refine bX4_isTaken_3.go rfl ⟨⟨rfl, vp_in_nI (by decide) (by decide)⟩, trivial⟩ ?_
    have nx : wallAt (A 1) X1 Y1 i = false → JS TP X mX4_isTaken (rmOf mX4_isTaken.lv 0 0) (TZ X (some (.int (b2 (takenB (A 1) X1 Y1 but)))) (o, ad, A, B)) 0 0 41 [some (.ref (ad 1)), some (.int X1), some (.int Y1), some (.int but), some (.int (nI i))] [] (o, ad, A, B) := by
      intro hf
      refine bX4_isTaken_41.go rfl trivial ?_
      rw [nI_1]
      exact ih (fun k hk => by rcases Nat.lt_succ_iff_lt_or_eq.mp hk with h | h; exact hI k h; rw [h]; exact hf)
    refine j_icmp_ge (tgt := 47) dX4_isTaken_8 (by decide) (fun h8 => ?_) (fun h8 => ?_)
    · simp (disch := omega) only [e0, nI_clamp, nI_leI] at h8; omega
    · refine bX4_isTaken_11.go rfl (by simp (disch := omega) only [nI_add, pk_mul, vpI]; exact ⟨⟨trivial, by omega⟩, trivial⟩) ?_
      refine j_icmp_ne (tgt := 41) dX4_isTaken_21 (by decide) (fun h21 => ?_) (fun h21 => ?_)
      · simp (disch := omega) only [nI_add, pk_mul, nI_clamp] at h21
        exact nx (by simp [wallAt, h21])
      · refine bX4_isTaken_24.go rfl (by simp (disch := omega) only [nI_add, pk_mul, vpI]; exact ⟨⟨trivial, by omega⟩, trivial⟩) ?_
        refine j_icmp_ne (tgt := 41) dX4_isTaken_36 (by decide) (fun h36 => ?_) (fun h36 => ?_)
        · simp (disch := omega) only [nI_add, pk_mul, nI_clamp] at h36
          exact nx (by simp [wallAt, h36])
        · refine bX4_isTaken_39.go rfl trivial ?_
          refine t_zret dX4_isTaken_40 rfl rfl (sv_int (b2_t ?_)) rfl
          simp (disch := omega) only [nI_add, pk_mul, nI_clamp] at h21 h36
          simp (disch := omega) only [takenB, e0, e1, nI_clamp, Bool.or_eq_true, anyN_true]
          exact Or.inl ⟨i, hi, by simp [wallAt, h21, h36]⟩
