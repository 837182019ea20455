set_option maxRecDepth 100000
/-! ===== Math; UnseenClockModel: isThere, seesFrom ===== -/
def absI (v : Int32) : Int32 := if 0 ≤ v then v else -v
def maxI (a b : Int32) : Int32 := if a < b then b else a
def minI (a b : Int32) : Int32 := if b < a then b else a
def signI (v : Int32) : Int32 := if 0 < v then nI 1 else if v < 0 then -1 else nI 0
abbrev mJ3_abs : MD := (yJ3_abs, cJ3_abs, 1, (Option.some .int), 1, noEH)
abbrev mJ3_max : MD := (yJ3_max, cJ3_max, 2, (Option.some .int), 1, noEH)
abbrev mJ3_min : MD := (yJ3_min, cJ3_min, 2, (Option.some .int), 1, noEH)
theorem gJ3_abs_X4 : GoodIn lw_all (va_wsS RX4 288 yJ3_abs (ws_ yJ3_abs cJ3_abs 1 (Option.some .int))) := lw_S q1948 q1174 q140 q1175
theorem gJ3_max_X4 : GoodIn lw_all (va_wsS RX4 291 yJ3_max (ws_ yJ3_max cJ3_max 2 (Option.some .int))) := lw_S q1949 q896 q140 q897
theorem gJ3_min_X4 : GoodIn lw_all (va_wsS RX4 145 yJ3_min (ws_ yJ3_min cJ3_min 2 (Option.some .int))) := lw_S q1803 q628 q140 q629
def F_Mabs (v : Int32) (x : Tau) : Prop × Option Value × Tau := (True, some (.int (absI v)), x)
def F_Mmax (a b : Int32) (x : Tau) : Prop × Option Value × Tau := (True, some (.int (maxI a b)), x)
def F_Mmin (a b : Int32) (x : Tau) : Prop × Option Value × Tau := (True, some (.int (minI a b)), x)
theorem bJ3_abs_0 : Blk TP mJ3_abs 0 1 [oIL 0] := blk_c (s_iload_n dJ3_abs_0 rfl) <| blk_nil
theorem bJ3_abs_4 : Blk TP mJ3_abs 4 10 [oIL 0, oNeg, .inl (fun s => some s)] := blk_c (s_iload_n dJ3_abs_4 rfl) <| blk_c (s_ineg dJ3_abs_5) <| blk_c (s_goto (tgt := 10) dJ3_abs_6 (by decide)) <| blk_nil
theorem bJ3_abs_9 : Blk TP mJ3_abs 9 10 [oIL 0] := blk_c (s_iload_n dJ3_abs_9 rfl) <| blk_nil
theorem bJ3_max_0 : Blk TP mJ3_max 0 2 [oIL 0, oIL 1] := blk_c (s_iload_n dJ3_max_0 rfl) <| blk_c (s_iload_n dJ3_max_1 rfl) <| blk_nil
theorem bJ3_max_5 : Blk TP mJ3_max 5 10 [oIL 0, .inl (fun s => some s)] := blk_c (s_iload_n dJ3_max_5 rfl) <| blk_c (s_goto (tgt := 10) dJ3_max_6 (by decide)) <| blk_nil
theorem bJ3_max_9 : Blk TP mJ3_max 9 10 [oIL 1] := blk_c (s_iload_n dJ3_max_9 rfl) <| blk_nil
theorem bJ3_min_0 : Blk TP mJ3_min 0 2 [oIL 0, oIL 1] := blk_c (s_iload_n dJ3_min_0 rfl) <| blk_c (s_iload_n dJ3_min_1 rfl) <| blk_nil
theorem bJ3_min_5 : Blk TP mJ3_min 5 10 [oIL 0, .inl (fun s => some s)] := blk_c (s_iload_n dJ3_min_5 rfl) <| blk_c (s_goto (tgt := 10) dJ3_min_6 (by decide)) <| blk_nil
theorem bJ3_min_9 : Blk TP mJ3_min 9 10 [oIL 1] := blk_c (s_iload_n dJ3_min_9 rfl) <| blk_nil
theorem ok_Mabs : TS_I mJ3_abs F_Mabs := by
  intro X v x P r y hF hP
  cases hF
  refine T_start (L := [some (.int v)]) 0 rfl ?_
  refine bJ3_abs_0.go rfl trivial ?_
  refine j_if_ge (tgt := 9) dJ3_abs_1 (by decide) (fun h1 => ?_) (fun h1 => ?_)
  · refine bJ3_abs_9.go rfl trivial ?_
    exact t_iret dJ3_abs_10 rfl (by first | rfl | (simp only [absI]; simp [*])) (by first | rfl | (simp only [absI]; simp [*]))
  · refine bJ3_abs_4.go rfl trivial ?_
    exact t_iret dJ3_abs_10 rfl (by first | rfl | (simp only [absI]; simp [*])) (by first | rfl | (simp only [absI]; simp [*]))
theorem ok_Mmax : TS_II mJ3_max F_Mmax := by
  intro X a b x P r y hF hP
  cases hF
  refine T_start (L := [some (.int a), some (.int b)]) 0 rfl ?_
  refine bJ3_max_0.go rfl trivial ?_
  refine j_icmp_lt (tgt := 9) dJ3_max_2 (by decide) (fun h2 => ?_) (fun h2 => ?_)
  · refine bJ3_max_9.go rfl trivial ?_
    exact t_iret dJ3_max_10 rfl (by first | rfl | (rw [maxI, if_pos ‹_›]) | (rw [maxI, if_neg ‹_›])) (by first | rfl | (rw [maxI, if_pos ‹_›]) | (rw [maxI, if_neg ‹_›]))
  · refine bJ3_max_5.go rfl trivial ?_
    exact t_iret dJ3_max_10 rfl (by first | rfl | (rw [maxI, if_pos ‹_›]) | (rw [maxI, if_neg ‹_›])) (by first | rfl | (rw [maxI, if_pos ‹_›]) | (rw [maxI, if_neg ‹_›]))
theorem ok_Mmin : TS_II mJ3_min F_Mmin := by
  intro X a b x P r y hF hP
  cases hF
  refine T_start (L := [some (.int a), some (.int b)]) 0 rfl ?_
  refine bJ3_min_0.go rfl trivial ?_
  refine j_icmp_gt (tgt := 9) dJ3_min_2 (by decide) (fun h2 => ?_) (fun h2 => ?_)
  · refine bJ3_min_9.go rfl trivial ?_
    exact t_iret dJ3_min_10 rfl (by first | rfl | (rw [minI, if_pos ‹_›]) | (rw [minI, if_neg ‹_›])) (by first | rfl | (rw [minI, if_pos ‹_›]) | (rw [minI, if_neg ‹_›]))
  · refine bJ3_min_5.go rfl trivial ?_
    exact t_iret dJ3_min_10 rfl (by first | rfl | (rw [minI, if_pos ‹_›]) | (rw [minI, if_neg ‹_›])) (by first | rfl | (rw [minI, if_pos ‹_›]) | (rw [minI, if_neg ‹_›]))
/-- bit k of a number of bits -/
def bitI (s : Int32) (k : Nat) : Bool := decide ((s >>> (nI k &&& 31)) &&& nI 1 = nI 1)
theorem and1_cases (s : Int32) : s &&& nI 1 = nI 0 ∨ s &&& nI 1 = nI 1 := by
  obtain ⟨j, hj, e⟩ := pk_andE s (m := nI 1) 1 (by decide +kernel)
  have : j = 0 ∨ j = 1 := by omega
  rcases this with rfl | rfl
  · exact Or.inl e
  · exact Or.inr e
theorem bitI_0 (s : Int32) (k : Nat) : (s >>> (nI k &&& 31)) &&& nI 1 = 0 ↔ bitI s k = false := by
  unfold bitI
  rcases and1_cases (s >>> (nI k &&& 31)) with h | h
  · rw [h]; decide +kernel
  · rw [h]; decide +kernel
theorem bitI_1 (s : Int32) (k : Nat) : (s >>> (nI k &&& 31)) &&& nI 1 = nI 1 ↔ bitI s k = true := by
  unfold bitI; simp
theorem bitI_v (s : Int32) (k : Nat) : (s >>> (nI k &&& 31)) &&& nI 1 = b2 (bitI s k) := by
  unfold bitI
  rcases and1_cases (s >>> (nI k &&& 31)) with h | h
  · rw [h]; decide +kernel
  · rw [h]; decide +kernel
def F_isThere (p m : Int32) : Tau → Prop × Option Value × Tau := fun (o, ad, A, B) => (vp_in p 8 ∧ vp_in m 40, some (.int (b2 (!bitI (A 1 7) p.toNatClampNeg && !decide (A 15 (40 * p.toNatClampNeg + m.toNatClampNeg) = -1)))), (o, ad, A, B))
theorem bX4_isThere_0 : Blk TP mX4_isThere 0 11 [oAL 0, tR 1, oC (nI 7), tAI 1 320, oIL 1, oShr, oC (nI 1), oAnd] := blk_c (s_aload_n dX4_isThere_0 rfl) <| blk_c (tgX4_1 rfl dX4_isThere_1) <| blk_c (s_bipush dX4_isThere_4 (by decide +kernel)) <| blk_c (t_iald rfl dX4_isThere_6) <| blk_c (s_iload_n dX4_isThere_7 rfl) <| blk_c (s_ishr dX4_isThere_8) <| blk_c (s_iconst dX4_isThere_9 (by decide +kernel)) <| blk_c (s_iand dX4_isThere_10) <| blk_nil
theorem bX4_isThere_14 : Blk TP mX4_isThere 14 26 [oAL 0, tR 15, oC (nI 40), oIL 1, oMul, oIL 2, oAdd, tAI 15 320, oC (-1)] := blk_c (s_aload_n dX4_isThere_14 rfl) <| blk_c (tgX4_15 rfl dX4_isThere_15) <| blk_c (s_bipush dX4_isThere_18 (by decide +kernel)) <| blk_c (s_iload_n dX4_isThere_20 rfl) <| blk_c (s_imul dX4_isThere_21) <| blk_c (s_iload_n dX4_isThere_22 rfl) <| blk_c (s_iadd dX4_isThere_23) <| blk_c (t_iald rfl dX4_isThere_24) <| blk_c (s_iconst dX4_isThere_25 (by decide +kernel)) <| blk_nil
theorem bX4_isThere_29 : Blk TP mX4_isThere 29 34 [oC (nI 1), .inl (fun s => some s)] := blk_c (s_iconst dX4_isThere_29 (by decide +kernel)) <| blk_c (s_goto (tgt := 34) dX4_isThere_30 (by decide)) <| blk_nil
theorem bX4_isThere_33 : Blk TP mX4_isThere 33 34 [oC (nI 0)] := blk_c (s_iconst dX4_isThere_33 (by decide +kernel)) <| blk_nil
theorem ok_isThere : TC_II mX4_isThere F_isThere := by
  intro X p m ⟨o, ad, A, B⟩ P r y hF hP
  cases hF
  obtain ⟨i, hi, rfl⟩ := vp_in_of hP.1 (by decide)
  obtain ⟨j, hj, rfl⟩ := vp_in_of hP.2 (by decide)
  refine T_start (L := [some (.ref o), some (.int (nI i)), some (.int (nI j))]) 0 rfl ?_
  refine bX4_isThere_0.go rfl (by first | exact ⟨rfl, ⟨rfl, vp_in_nI (by decide) (by decide)⟩, trivial⟩ | (simp (disch := omega) only [nI_add, pk_mul, vpI]; exact ⟨trivial, ⟨trivial, by omega⟩, trivial⟩)) ?_
  refine j_if_ne (tgt := 33) dX4_isThere_11 (by decide) (fun h11 => ?_) (fun h11 => ?_)
  · refine bX4_isThere_33.go rfl trivial ?_
    exact t_zret dX4_isThere_34 rfl (by first | rfl | (simp (disch := omega) only [bitI_0, nI_clamp, nI_add, pk_mul, Bool.not_eq_false] at *; first | exact sv_int (b2_t (by simp [*])) | exact sv_int (b2_f (by simp [*])))) (by first | rfl | (simp (disch := omega) only [bitI_0, nI_clamp, nI_add, pk_mul, Bool.not_eq_false] at *; first | exact sv_int (b2_t (by simp [*])) | exact sv_int (b2_f (by simp [*])))) (by first | rfl | (simp (disch := omega) only [bitI_0, nI_clamp, nI_add, pk_mul, Bool.not_eq_false] at *; first | exact sv_int (b2_t (by simp [*])) | exact sv_int (b2_f (by simp [*]))))
  · refine bX4_isThere_14.go rfl (by first | exact ⟨rfl, ⟨rfl, vp_in_nI (by decide) (by decide)⟩, trivial⟩ | (simp (disch := omega) only [nI_add, pk_mul, vpI]; exact ⟨trivial, ⟨trivial, by omega⟩, trivial⟩)) ?_
    refine j_icmp_eq (tgt := 33) dX4_isThere_26 (by decide) (fun h26 => ?_) (fun h26 => ?_)
    · refine bX4_isThere_33.go rfl trivial ?_
      exact t_zret dX4_isThere_34 rfl (by first | rfl | (simp (disch := omega) only [bitI_0, nI_clamp, nI_add, pk_mul, Bool.not_eq_false] at *; first | exact sv_int (b2_t (by simp [*])) | exact sv_int (b2_f (by simp [*])))) (by first | rfl | (simp (disch := omega) only [bitI_0, nI_clamp, nI_add, pk_mul, Bool.not_eq_false] at *; first | exact sv_int (b2_t (by simp [*])) | exact sv_int (b2_f (by simp [*])))) (by first | rfl | (simp (disch := omega) only [bitI_0, nI_clamp, nI_add, pk_mul, Bool.not_eq_false] at *; first | exact sv_int (b2_t (by simp [*])) | exact sv_int (b2_f (by simp [*]))))
    · refine bX4_isThere_29.go rfl trivial ?_
      exact t_zret dX4_isThere_34 rfl (by first | rfl | (simp (disch := omega) only [bitI_0, nI_clamp, nI_add, pk_mul, Bool.not_eq_false] at *; first | exact sv_int (b2_t (by simp [*])) | exact sv_int (b2_f (by simp [*])))) (by first | rfl | (simp (disch := omega) only [bitI_0, nI_clamp, nI_add, pk_mul, Bool.not_eq_false] at *; first | exact sv_int (b2_t (by simp [*])) | exact sv_int (b2_f (by simp [*])))) (by first | rfl | (simp (disch := omega) only [bitI_0, nI_clamp, nI_add, pk_mul, Bool.not_eq_false] at *; first | exact sv_int (b2_t (by simp [*])) | exact sv_int (b2_f (by simp [*]))))
def seesB (w : Nat → Int32) (X Y : Int32) (c : Nat) : Bool :=
  !((decide (w (32 + 6 * c) - X = 0) && decide (w (32 + 6 * c + 1) - Y = 0)) || (!decide (w (32 + 6 * c) - X = 0) && (!decide (w (32 + 6 * c + 1) - Y = 0) && !decide (absI (w (32 + 6 * c) - X) = absI (w (32 + 6 * c + 1) - Y))))) &&
  !anyN (fun k => takenB w (X + nI (k + 1) * signI (w (32 + 6 * c) - X)) (Y + nI (k + 1) * signI (w (32 + 6 * c + 1) - Y)) (nI c)) ((maxI (absI (w (32 + 6 * c) - X)) (absI (w (32 + 6 * c + 1) - Y))).toNatClampNeg - 1)
theorem abs_sub {a b : Nat} (ha : a < 2 ^ 30) (hb : b < 2 ^ 30) : absI (nI a - nI b) = nI ((a - b) + (b - a)) := by
  unfold absI
  by_cases h : b ≤ a
  · rw [pk_sub h, if_pos (nI_pos' (by omega)), show a - b + (b - a) = a - b by omega]
  · have h1 := pk_sneg (a := a) hb (by omega)
    rw [if_neg (by rw [Int32.not_le]; exact h1)]
    rw [Int32.neg_sub, pk_sub (by omega), show a - b + (b - a) = b - a by omega]
theorem maxI_nI {a b : Nat} (ha : a < 2 ^ 31) (hb : b < 2 ^ 31) : maxI (nI a) (nI b) = nI (max a b) := by
  unfold maxI
  split
  · rename_i h; rw [nI_ltI ha hb] at h; rw [Nat.max_eq_right (by omega)]
  · rename_i h; rw [nI_ltI ha hb] at h; rw [Nat.max_eq_left (by omega)]
def F_seesFrom (X Y c : Int32) : Tau → Prop × Option Value × Tau := fun (o, ad, A, B) => (∃ (v : Nat → Nat) (a b : Nat), WOk (A 1) v ∧ vp_in c (v 1) ∧ a < 1000 ∧ b < 1000 ∧ X = nI a ∧ Y = nI b, some (.int (b2 (seesB (A 1) X Y c.toNatClampNeg))), (o, ad, A, B))
theorem bX4_seesFrom_0 : Blk TP mX4_seesFrom 0 22 [oAL 0, oIL 3, oC (nI 0), tC_II F_ofClock, oIL 1, oSub, oIS 4, oAL 0, oIL 3, oC (nI 1), tC_II F_ofClock, oIL 2, oSub, oIS 5, oIL 4] := blk_c (s_aload_n dX4_seesFrom_0 rfl) <| blk_c (s_iload_n dX4_seesFrom_1 rfl) <| blk_c (s_iconst dX4_seesFrom_2 (by decide +kernel)) <| blk_c (tc_II ok_ofClock gX4_ofClock (by decide +kernel) (by decide) dX4_seesFrom_3) <| blk_c (s_iload_n dX4_seesFrom_6 rfl) <| blk_c (s_isub dX4_seesFrom_7) <| blk_c (s_istore dX4_seesFrom_8 (by decide)) <| blk_c (s_aload_n dX4_seesFrom_10 rfl) <| blk_c (s_iload_n dX4_seesFrom_11 rfl) <| blk_c (s_iconst dX4_seesFrom_12 (by decide +kernel)) <| blk_c (tc_II ok_ofClock gX4_ofClock (by decide +kernel) (by decide) dX4_seesFrom_13) <| blk_c (s_iload_n dX4_seesFrom_16 rfl) <| blk_c (s_isub dX4_seesFrom_17) <| blk_c (s_istore dX4_seesFrom_18 (by decide)) <| blk_c (s_iload dX4_seesFrom_20) <| blk_nil
theorem bX4_seesFrom_25 : Blk TP mX4_seesFrom 25 27 [oIL 5] := blk_c (s_iload dX4_seesFrom_25) <| blk_nil
theorem bX4_seesFrom_30 : Blk TP mX4_seesFrom 30 32 [oIL 4] := blk_c (s_iload dX4_seesFrom_30) <| blk_nil
theorem bX4_seesFrom_35 : Blk TP mX4_seesFrom 35 37 [oIL 5] := blk_c (s_iload dX4_seesFrom_35) <| blk_nil
theorem bX4_seesFrom_40 : Blk TP mX4_seesFrom 40 50 [oIL 4, tS_I F_Mabs, oIL 5, tS_I F_Mabs] := blk_c (s_iload dX4_seesFrom_40) <| blk_c (ts_I ok_Mabs gJ3_abs_X4 (by decide +kernel) (by decide) dX4_seesFrom_42) <| blk_c (s_iload dX4_seesFrom_45) <| blk_c (ts_I ok_Mabs gJ3_abs_X4 (by decide +kernel) (by decide) dX4_seesFrom_47) <| blk_nil
theorem bX4_seesFrom_53 : Blk TP mX4_seesFrom 53 54 [oC (nI 0)] := blk_c (s_iconst dX4_seesFrom_53 (by decide +kernel)) <| blk_nil
theorem bX4_seesFrom_55 : Blk TP mX4_seesFrom 55 73 [oIL 4, tS_I F_Mabs, oIL 5, tS_I F_Mabs, tS_II F_Mmax, oIS 6, oC (nI 1), oIS 7] := blk_c (s_iload dX4_seesFrom_55) <| blk_c (ts_I ok_Mabs gJ3_abs_X4 (by decide +kernel) (by decide) dX4_seesFrom_57) <| blk_c (s_iload dX4_seesFrom_60) <| blk_c (ts_I ok_Mabs gJ3_abs_X4 (by decide +kernel) (by decide) dX4_seesFrom_62) <| blk_c (ts_II ok_Mmax gJ3_max_X4 (by decide +kernel) (by decide) dX4_seesFrom_65) <| blk_c (s_istore dX4_seesFrom_68 (by decide)) <| blk_c (s_iconst dX4_seesFrom_70 (by decide +kernel)) <| blk_c (s_istore dX4_seesFrom_71 (by decide)) <| blk_nil
theorem bX4_seesFrom_73 : Blk TP mX4_seesFrom 73 77 [oIL 7, oIL 6] := blk_c (s_iload dX4_seesFrom_73) <| blk_c (s_iload dX4_seesFrom_75) <| blk_nil
theorem bX4_seesFrom_80 : Blk TP mX4_seesFrom 80 108 [oAL 0, tR 1, oIL 1, oIL 7, oIL 4, tS_I F_sign, oMul, oAdd, oIL 2, oIL 7, oIL 5, tS_I F_sign, oMul, oAdd, oIL 3, tS_RIII F_isTaken] := blk_c (s_aload_n dX4_seesFrom_80 rfl) <| blk_c (tgX4_1 rfl dX4_seesFrom_81) <| blk_c (s_iload_n dX4_seesFrom_84 rfl) <| blk_c (s_iload dX4_seesFrom_85) <| blk_c (s_iload dX4_seesFrom_87) <| blk_c (ts_I ok_sign gX4_sign (by decide +kernel) (by decide) dX4_seesFrom_89) <| blk_c (s_imul dX4_seesFrom_92) <| blk_c (s_iadd dX4_seesFrom_93) <| blk_c (s_iload_n dX4_seesFrom_94 rfl) <| blk_c (s_iload dX4_seesFrom_95) <| blk_c (s_iload dX4_seesFrom_97) <| blk_c (ts_I ok_sign gX4_sign (by decide +kernel) (by decide) dX4_seesFrom_99) <| blk_c (s_imul dX4_seesFrom_102) <| blk_c (s_iadd dX4_seesFrom_103) <| blk_c (s_iload_n dX4_seesFrom_104 rfl) <| blk_c (ts_RIII ok_isTaken gX4_isTaken (by decide +kernel) (by decide) dX4_seesFrom_105) <| blk_nil
theorem bX4_seesFrom_111 : Blk TP mX4_seesFrom 111 112 [oC (nI 0)] := blk_c (s_iconst dX4_seesFrom_111 (by decide +kernel)) <| blk_nil
theorem bX4_seesFrom_113 : Blk TP mX4_seesFrom 113 73 [oInc 7 1, .inl (fun s => some s)] := blk_c (s_iinc dX4_seesFrom_113 (by decide +kernel) (by decide)) <| blk_c (s_goto (tgt := 73) dX4_seesFrom_116 (by decide)) <| blk_nil
theorem bX4_seesFrom_119 : Blk TP mX4_seesFrom 119 120 [oC (nI 1)] := blk_c (s_iconst dX4_seesFrom_119 (by decide +kernel)) <| blk_nil
theorem ok_seesFrom : TC_III mX4_seesFrom F_seesFrom := by
  intro X X1 Y1 c ⟨o, ad, A, B⟩ P r y hF hP
  cases hF
  obtain ⟨v, a, b, hw, hcv, ha, hb, rfl, rfl⟩ := hP
  have h4 : v 1 ≤ 4 := hw.2.2.1
  obtain ⟨i, hi, rfl⟩ := vp_in_of hcv (by omega)
  have hK := hw.2.2.2.2.2.2.2.2.2.2.1 i hi
  have ex : A 1 (32 + 6 * i) = nI (v (32 + 6 * i)) := hw.1 _ (by omega)
  have ey : A 1 (32 + 6 * i + 1) = nI (v (32 + 6 * i + 1)) := hw.1 _ (by omega)
  have bx : v (32 + 6 * i) < 12 := by have := hK.1; have := hw.2.2.2.2.2.1; omega
  have by' : v (32 + 6 * i + 1) < 12 := by have := hK.2.1; have := hw.2.2.2.2.2.2.1; omega
  obtain ⟨f, ef, hf⟩ : ∃ f : Nat, maxI (absI (A 1 (32 + 6 * i) - nI a)) (absI (A 1 (32 + 6 * i + 1) - nI b)) = nI f ∧ f < 2000 := by
    refine ⟨max ((v (32 + 6 * i) - a) + (a - v (32 + 6 * i))) ((v (32 + 6 * i + 1) - b) + (b - v (32 + 6 * i + 1))), ?_, by omega⟩
    rw [ex, ey, abs_sub (by omega) (by omega), abs_sub (by omega) (by omega), maxI_nI (by omega) (by omega)]
  refine T_start (L := [some (.ref o), some (.int (nI a)), some (.int (nI b)), some (.int (nI i)), none, none, none, none]) 4 rfl ?_
  have hend : ((decide (A 1 (32 + 6 * i) - nI a = 0) && decide (A 1 (32 + 6 * i + 1) - nI b = 0)) || (!decide (A 1 (32 + 6 * i) - nI a = 0) && (!decide (A 1 (32 + 6 * i + 1) - nI b = 0) && !decide (absI (A 1 (32 + 6 * i) - nI a) = absI (A 1 (32 + 6 * i + 1) - nI b))))) = false → JS TP X mX4_seesFrom (rmOf mX4_seesFrom.lv 0 0) (TZ X (some (.int (b2 (seesB (A 1) (nI a) (nI b) (nI i).toNatClampNeg)))) (o, ad, A, B)) 0 0 73 [some (.ref o), some (.int (nI a)), some (.int (nI b)), some (.int (nI i)), some (.int (A 1 (32 + 6 * i) - nI a)), some (.int (A 1 (32 + 6 * i + 1) - nI b)), some (.int (nI f)), some (.int (nI 1))] [] (o, ad, A, B) := by
    intro hs
    rw [nI_clamp (by omega)]
    refine loop_down (N := f - 1) (I := fun j => ∀ k, k < j → takenB (A 1) (nI a + nI (k + 1) * signI (A 1 (32 + 6 * i) - nI a)) (nI b + nI (k + 1) * signI (A 1 (32 + 6 * i + 1) - nI b)) (nI i) = false) (P := fun j => JS TP X mX4_seesFrom (rmOf mX4_seesFrom.lv 0 0) _ 0 0 73 [some (.ref o), some (.int (nI a)), some (.int (nI b)), some (.int (nI i)), some (.int (A 1 (32 + 6 * i) - nI a)), some (.int (A 1 (32 + 6 * i + 1) - nI b)), some (.int (nI f)), some (.int (nI (j + 1)))] [] (o, ad, A, B)) ?_ ?_ 0 (by omega) (by intro k hk; omega)
    · intro hI
      refine bX4_seesFrom_73.go rfl trivial ?_
      refine j_icmp_ge (tgt := 119) dX4_seesFrom_77 (by decide) (fun h77 => ?_) (fun h77 => ?_)
      · refine bX4_seesFrom_119.go rfl trivial ?_
        refine t_zret dX4_seesFrom_120 rfl rfl (sv_int (b2_t ?_)) rfl
        simp only [seesB, hs, ef, nI_clamp (show f < 2 ^ 31 by omega), Bool.not_false, Bool.true_and, Bool.not_eq_true', anyN_false]
        exact hI
      · rw [nI_leI (by omega) (by omega)] at h77; omega
    · intro j hj hI ih
      refine bX4_seesFrom_73.go rfl trivial ?_
      refine j_icmp_ge (tgt := 119) dX4_seesFrom_77 (by decide) (fun h77 => ?_) (fun h77 => ?_)
      · rw [nI_leI (by omega) (by omega)] at h77; omega
      · refine bX4_seesFrom_80.go rfl ⟨rfl, trivial, trivial, ⟨rfl, hw.cnt⟩, trivial⟩ ?_
        refine j_if_eq (tgt := 113) dX4_seesFrom_108 (by decide) (fun h108 => ?_) (fun h108 => ?_)
        · rw [b2_0] at h108
          refine bX4_seesFrom_113.go rfl trivial ?_
          rw [nI_1]
          exact ih (fun k hk => by rcases Nat.lt_succ_iff_lt_or_eq.mp hk with h | h; exact hI k h; rw [h]; exact h108)
        · rw [b2_n0] at h108
          refine bX4_seesFrom_111.go rfl trivial ?_
          refine t_zret dX4_seesFrom_112 rfl rfl (sv_int (b2_f ?_)) rfl
          simp only [seesB, hs, ef, nI_clamp (show f < 2 ^ 31 by omega), Bool.not_false, Bool.true_and, Bool.not_eq_false', anyN_true]
          exact ⟨j, hj, h108⟩
  refine bX4_seesFrom_0.go rfl (by simp (disch := omega) only [vpI]; exact ⟨⟨trivial, by omega, by omega⟩, ⟨trivial, by omega, by omega⟩, trivial⟩) ?_
  simp (disch := omega) only [nI_clamp, Nat.add_zero] at hend ⊢
  clear ex ey hK hcv
  refine j_if_ne (tgt := 30) dX4_seesFrom_22 (by decide) (fun h22 => ?_) (fun h22 => ?_)
  · refine bX4_seesFrom_30.go rfl trivial ?_
    refine j_if_eq (tgt := 55) dX4_seesFrom_32 (by decide) (fun h32 => ?_) (fun h32 => ?_)
    · refine bX4_seesFrom_55.go rfl (by first | exact ⟨trivial, trivial, trivial⟩ | exact ⟨trivial, trivial, trivial, trivial⟩) ?_
      (rw [ef]; refine hend ?_; clear hend ef hw; simp_all)
    · refine bX4_seesFrom_35.go rfl trivial ?_
      refine j_if_eq (tgt := 55) dX4_seesFrom_37 (by decide) (fun h37 => ?_) (fun h37 => ?_)
      · refine bX4_seesFrom_55.go rfl (by first | exact ⟨trivial, trivial, trivial⟩ | exact ⟨trivial, trivial, trivial, trivial⟩) ?_
        (rw [ef]; refine hend ?_; clear hend ef hw; simp_all)
      · refine bX4_seesFrom_40.go rfl (by first | exact ⟨trivial, trivial, trivial⟩ | exact ⟨trivial, trivial, trivial, trivial⟩) ?_
        refine j_icmp_eq (tgt := 55) dX4_seesFrom_50 (by decide) (fun h50 => ?_) (fun h50 => ?_)
        · refine bX4_seesFrom_55.go rfl (by first | exact ⟨trivial, trivial, trivial⟩ | exact ⟨trivial, trivial, trivial, trivial⟩) ?_
          (rw [ef]; refine hend ?_; clear hend ef hw; simp_all)
        · refine bX4_seesFrom_53.go rfl trivial ?_
          exact t_zret dX4_seesFrom_54 rfl (by first | rfl | (refine sv_int (b2_f ?_); clear hend ef hw; simp_all [seesB]; done)) (by first | rfl | (refine sv_int (b2_f ?_); clear hend ef hw; simp_all [seesB]; done)) (by first | rfl | (refine sv_int (b2_f ?_); clear hend ef hw; simp_all [seesB]; done))
  · refine bX4_seesFrom_25.go rfl trivial ?_
    refine j_if_eq (tgt := 53) dX4_seesFrom_27 (by decide) (fun h27 => ?_) (fun h27 => ?_)
    · refine bX4_seesFrom_53.go rfl trivial ?_
      exact t_zret dX4_seesFrom_54 rfl (by first | rfl | (refine sv_int (b2_f ?_); clear hend ef hw; simp_all [seesB]; done)) (by first | rfl | (refine sv_int (b2_f ?_); clear hend ef hw; simp_all [seesB]; done)) (by first | rfl | (refine sv_int (b2_f ?_); clear hend ef hw; simp_all [seesB]; done))
    · refine bX4_seesFrom_30.go rfl trivial ?_
      refine j_if_eq (tgt := 55) dX4_seesFrom_32 (by decide) (fun h32 => ?_) (fun h32 => ?_)
      · refine bX4_seesFrom_55.go rfl (by first | exact ⟨trivial, trivial, trivial⟩ | exact ⟨trivial, trivial, trivial, trivial⟩) ?_
        (rw [ef]; refine hend ?_; clear hend ef hw; simp_all)
      · refine bX4_seesFrom_35.go rfl trivial ?_
        refine j_if_eq (tgt := 55) dX4_seesFrom_37 (by decide) (fun h37 => ?_) (fun h37 => ?_)
        · refine bX4_seesFrom_55.go rfl (by first | exact ⟨trivial, trivial, trivial⟩ | exact ⟨trivial, trivial, trivial, trivial⟩) ?_
          (rw [ef]; refine hend ?_; clear hend ef hw; simp_all)
        · refine bX4_seesFrom_40.go rfl (by first | exact ⟨trivial, trivial, trivial⟩ | exact ⟨trivial, trivial, trivial, trivial⟩) ?_
          refine j_icmp_eq (tgt := 55) dX4_seesFrom_50 (by decide) (fun h50 => ?_) (fun h50 => ?_)
          · refine bX4_seesFrom_55.go rfl (by first | exact ⟨trivial, trivial, trivial⟩ | exact ⟨trivial, trivial, trivial, trivial⟩) ?_
            (rw [ef]; refine hend ?_; clear hend ef hw; simp_all)
          · refine bX4_seesFrom_53.go rfl trivial ?_
            exact t_zret dX4_seesFrom_54 rfl (by first | rfl | (refine sv_int (b2_f ?_); clear hend ef hw; simp_all [seesB]; done)) (by first | rfl | (refine sv_int (b2_f ?_); clear hend ef hw; simp_all [seesB]; done)) (by first | rfl | (refine sv_int (b2_f ?_); clear hend ef hw; simp_all [seesB]; done))
