set_option maxRecDepth 100000
/-! ===== UnseenClockModel: reading the world; free cells; seeing ===== -/
def F_ofClock (c what : Int32) : Tau → Prop × Option Value × Tau := fun (o, ad, A, B) => (vp_in c 4 ∧ vp_in what 6, some (.int (A 1 (32 + 6 * c.toNatClampNeg + what.toNatClampNeg))), (o, ad, A, B))
theorem bX4_ofClock_0 : Blk TP mX4_ofClock 0 14 [oAL 0, tR 1, oC (nI 32), oC (nI 6), oIL 1, oMul, oAdd, oIL 2, oAdd, tAI 1 320] := blk_c (s_aload_n dX4_ofClock_0 rfl) <| blk_c (tgX4_1 rfl dX4_ofClock_1) <| blk_c (s_bipush dX4_ofClock_4 (by decide +kernel)) <| blk_c (s_bipush dX4_ofClock_6 (by decide +kernel)) <| blk_c (s_iload_n dX4_ofClock_8 rfl) <| blk_c (s_imul dX4_ofClock_9) <| blk_c (s_iadd dX4_ofClock_10) <| blk_c (s_iload_n dX4_ofClock_11 rfl) <| blk_c (s_iadd dX4_ofClock_12) <| blk_c (t_iald rfl dX4_ofClock_13) <| blk_nil
theorem ok_ofClock : TC_II mX4_ofClock F_ofClock := by
  intro X c what ⟨o, ad, A, B⟩ P r y hF hP
  cases hF
  obtain ⟨i, hi, rfl⟩ := vp_in_of hP.1 (by decide)
  obtain ⟨j, hj, rfl⟩ := vp_in_of hP.2 (by decide)
  refine T_start (L := [some (.ref o), some (.int (nI i)), some (.int (nI j))]) 0 rfl ?_
  refine bX4_ofClock_0.go rfl (by simp (disch := omega) only [nI_add, pk_mul, vpI]; exact ⟨trivial, ⟨trivial, by omega⟩, trivial⟩) ?_
  exact t_iret dX4_ofClock_14 rfl (by simp (disch := omega) only [nI_add, pk_mul, nI_clamp]) rfl
def F_of (p what : Int32) : Tau → Prop × Option Value × Tau := fun (o, ad, A, B) => (vp_in p 8 ∧ vp_in what 33, some (.int (A 1 (56 + 33 * p.toNatClampNeg + what.toNatClampNeg))), (o, ad, A, B))
theorem bX4_of_0 : Blk TP mX4_of 0 14 [oAL 0, tR 1, oC (nI 56), oC (nI 33), oIL 1, oMul, oAdd, oIL 2, oAdd, tAI 1 320] := blk_c (s_aload_n dX4_of_0 rfl) <| blk_c (tgX4_1 rfl dX4_of_1) <| blk_c (s_bipush dX4_of_4 (by decide +kernel)) <| blk_c (s_bipush dX4_of_6 (by decide +kernel)) <| blk_c (s_iload_n dX4_of_8 rfl) <| blk_c (s_imul dX4_of_9) <| blk_c (s_iadd dX4_of_10) <| blk_c (s_iload_n dX4_of_11 rfl) <| blk_c (s_iadd dX4_of_12) <| blk_c (t_iald rfl dX4_of_13) <| blk_nil
theorem ok_of : TC_II mX4_of F_of := by
  intro X c what ⟨o, ad, A, B⟩ P r y hF hP
  cases hF
  obtain ⟨i, hi, rfl⟩ := vp_in_of hP.1 (by decide)
  obtain ⟨j, hj, rfl⟩ := vp_in_of hP.2 (by decide)
  refine T_start (L := [some (.ref o), some (.int (nI i)), some (.int (nI j))]) 0 rfl ?_
  refine bX4_of_0.go rfl (by simp (disch := omega) only [nI_add, pk_mul, vpI]; exact ⟨trivial, ⟨trivial, by omega⟩, trivial⟩) ?_
  exact t_iret dX4_of_14 rfl (by simp (disch := omega) only [nI_add, pk_mul, nI_clamp]) rfl
/-- what a clock shows whose parts are n -/
def shI (n over shows : Int32) : Int32 := n / over - n / over / shows * shows
def F_shownAt (c m : Int32) : Tau → Prop × Option Value × Tau := fun (o, ad, A, B) => (vp_in c 4 ∧ vp_in m 41 ∧ ¬ A 1 (32 + 6 * c.toNatClampNeg + 3) = 0 ∧ ¬ A 1 (32 + 6 * c.toNatClampNeg + 4) = 0, some (.int (shI (A 18 (4 * m.toNatClampNeg + c.toNatClampNeg)) (A 1 (32 + 6 * c.toNatClampNeg + 3)) (A 1 (32 + 6 * c.toNatClampNeg + 4)))), (o, ad, A, B))
theorem bX4_shownAt_0 : Blk TP mX4_shownAt 0 24 [oAL 0, tR 18, oC (nI 4), oIL 2, oMul, oIL 1, oAdd, tAI 18 164, oAL 0, oIL 1, oC (nI 3), tC_II F_ofClock, oDiv, oAL 0, oIL 1, oC (nI 4), tC_II F_ofClock, oRem] := blk_c (s_aload_n dX4_shownAt_0 rfl) <| blk_c (tgX4_18 rfl dX4_shownAt_1) <| blk_c (s_iconst dX4_shownAt_4 (by decide +kernel)) <| blk_c (s_iload_n dX4_shownAt_5 rfl) <| blk_c (s_imul dX4_shownAt_6) <| blk_c (s_iload_n dX4_shownAt_7 rfl) <| blk_c (s_iadd dX4_shownAt_8) <| blk_c (t_iald rfl dX4_shownAt_9) <| blk_c (s_aload_n dX4_shownAt_10 rfl) <| blk_c (s_iload_n dX4_shownAt_11 rfl) <| blk_c (s_iconst dX4_shownAt_12 (by decide +kernel)) <| blk_c (tc_II ok_ofClock gX4_ofClock (by decide +kernel) (by decide) dX4_shownAt_13) <| blk_c (s_idiv dX4_shownAt_16) <| blk_c (s_aload_n dX4_shownAt_17 rfl) <| blk_c (s_iload_n dX4_shownAt_18 rfl) <| blk_c (s_iconst dX4_shownAt_19 (by decide +kernel)) <| blk_c (tc_II ok_ofClock gX4_ofClock (by decide +kernel) (by decide) dX4_shownAt_20) <| blk_c (s_irem dX4_shownAt_23) <| blk_nil
theorem ok_shownAt : TC_II mX4_shownAt F_shownAt := by
  intro X c m ⟨o, ad, A, B⟩ P r y hF hP
  cases hF
  obtain ⟨h1, h2, h3, h4⟩ := hP
  obtain ⟨i, hi, rfl⟩ := vp_in_of h1 (by decide)
  obtain ⟨j, hj, rfl⟩ := vp_in_of h2 (by decide)
  refine T_start (L := [some (.ref o), some (.int (nI i)), some (.int (nI j))]) 0 rfl ?_
  simp (disch := omega) only [nI_clamp] at h3 h4
  refine bX4_shownAt_0.go rfl (by simp (disch := omega) only [nI_add, pk_mul, vpI, nI_clamp]; exact ⟨trivial, ⟨trivial, by omega⟩, ⟨trivial, by omega, by omega⟩, h3, ⟨trivial, by omega, by omega⟩, h4, trivial⟩) ?_
  exact t_iret dX4_shownAt_24 rfl (by simp (disch := omega) only [nI_add, pk_mul, nI_clamp]; rfl) rfl
def freeB (w : Nat → Int32) (X Y : Int32) : Bool := inI X (nI 0) (w 4 - nI 1) && (inI Y (nI 0) (w 5 - nI 1) && !takenB w X Y (-1))
def F_isFree (X Y : Int32) : Tau → Prop × Option Value × Tau := fun (o, ad, A, B) => (CntOK (A 1), some (.int (b2 (freeB (A 1) X Y))), (o, ad, A, B))
theorem lN0 : lN 0 = (nI 0).toInt64 := by decide +kernel
theorem bX4_isFree_0 : Blk TP mX4_isFree 0 15 [oIL 1, oI2L, oCL (lN 0), oAL 0, tR 1, oC (nI 4), tAI 1 320, oC (nI 1), oSub, oI2L, tS_JJJ F_in] := blk_c (s_iload_n dX4_isFree_0 rfl) <| blk_c (s_i2l dX4_isFree_1) <| blk_c (s_lconst dX4_isFree_2 (by decide +kernel)) <| blk_c (s_aload_n dX4_isFree_3 rfl) <| blk_c (tgX4_1 rfl dX4_isFree_4) <| blk_c (s_iconst dX4_isFree_7 (by decide +kernel)) <| blk_c (t_iald rfl dX4_isFree_8) <| blk_c (s_iconst dX4_isFree_9 (by decide +kernel)) <| blk_c (s_isub dX4_isFree_10) <| blk_c (s_i2l dX4_isFree_11) <| blk_c (ts_JJJ ok_in gX4_in (by decide +kernel) (by decide) dX4_isFree_12) <| blk_nil
theorem bX4_isFree_18 : Blk TP mX4_isFree 18 33 [oIL 2, oI2L, oCL (lN 0), oAL 0, tR 1, oC (nI 5), tAI 1 320, oC (nI 1), oSub, oI2L, tS_JJJ F_in] := blk_c (s_iload_n dX4_isFree_18 rfl) <| blk_c (s_i2l dX4_isFree_19) <| blk_c (s_lconst dX4_isFree_20 (by decide +kernel)) <| blk_c (s_aload_n dX4_isFree_21 rfl) <| blk_c (tgX4_1 rfl dX4_isFree_22) <| blk_c (s_iconst dX4_isFree_25 (by decide +kernel)) <| blk_c (t_iald rfl dX4_isFree_26) <| blk_c (s_iconst dX4_isFree_27 (by decide +kernel)) <| blk_c (s_isub dX4_isFree_28) <| blk_c (s_i2l dX4_isFree_29) <| blk_c (ts_JJJ ok_in gX4_in (by decide +kernel) (by decide) dX4_isFree_30) <| blk_nil
theorem bX4_isFree_36 : Blk TP mX4_isFree 36 46 [oAL 0, tR 1, oIL 1, oIL 2, oC (-1), tS_RIII F_isTaken] := blk_c (s_aload_n dX4_isFree_36 rfl) <| blk_c (tgX4_1 rfl dX4_isFree_37) <| blk_c (s_iload_n dX4_isFree_40 rfl) <| blk_c (s_iload_n dX4_isFree_41 rfl) <| blk_c (s_iconst dX4_isFree_42 (by decide +kernel)) <| blk_c (ts_RIII ok_isTaken gX4_isTaken (by decide +kernel) (by decide) dX4_isFree_43) <| blk_nil
theorem bX4_isFree_49 : Blk TP mX4_isFree 49 54 [oC (nI 1), .inl (fun s => some s)] := blk_c (s_iconst dX4_isFree_49 (by decide +kernel)) <| blk_c (s_goto (tgt := 54) dX4_isFree_50 (by decide)) <| blk_nil
theorem bX4_isFree_53 : Blk TP mX4_isFree 53 54 [oC (nI 0)] := blk_c (s_iconst dX4_isFree_53 (by decide +kernel)) <| blk_nil
theorem ok_isFree : TC_II mX4_isFree F_isFree := by
  intro X X1 Y1 ⟨o, ad, A, B⟩ P r y hF hP
  cases hF
  refine T_start (L := [some (.ref o), some (.int X1), some (.int Y1)]) 0 rfl ?_
  refine bX4_isFree_0.go rfl (by first | exact ⟨rfl, ⟨rfl, vp_in_nI (by decide) (by decide)⟩, trivial, trivial⟩ | exact ⟨rfl, ⟨rfl, hP⟩, trivial⟩) ?_
  refine j_if_eq (tgt := 53) dX4_isFree_15 (by decide) (fun h15 => ?_) (fun h15 => ?_)
  · refine bX4_isFree_53.go rfl trivial ?_
    exact t_zret dX4_isFree_54 rfl (by first | rfl | (simp (disch := omega) only [b2_0, b2_n0, lN0, in_i2l, nI_clamp] at *; first | exact sv_int (b2_t (by simp [freeB, *])) | exact sv_int (b2_f (by simp [freeB, *])))) (by first | rfl | (simp (disch := omega) only [b2_0, b2_n0, lN0, in_i2l, nI_clamp] at *; first | exact sv_int (b2_t (by simp [freeB, *])) | exact sv_int (b2_f (by simp [freeB, *])))) (by first | rfl | (simp (disch := omega) only [b2_0, b2_n0, lN0, in_i2l, nI_clamp] at *; first | exact sv_int (b2_t (by simp [freeB, *])) | exact sv_int (b2_f (by simp [freeB, *]))))
  · refine bX4_isFree_18.go rfl (by first | exact ⟨rfl, ⟨rfl, vp_in_nI (by decide) (by decide)⟩, trivial, trivial⟩ | exact ⟨rfl, ⟨rfl, hP⟩, trivial⟩) ?_
    refine j_if_eq (tgt := 53) dX4_isFree_33 (by decide) (fun h33 => ?_) (fun h33 => ?_)
    · refine bX4_isFree_53.go rfl trivial ?_
      exact t_zret dX4_isFree_54 rfl (by first | rfl | (simp (disch := omega) only [b2_0, b2_n0, lN0, in_i2l, nI_clamp] at *; first | exact sv_int (b2_t (by simp [freeB, *])) | exact sv_int (b2_f (by simp [freeB, *])))) (by first | rfl | (simp (disch := omega) only [b2_0, b2_n0, lN0, in_i2l, nI_clamp] at *; first | exact sv_int (b2_t (by simp [freeB, *])) | exact sv_int (b2_f (by simp [freeB, *])))) (by first | rfl | (simp (disch := omega) only [b2_0, b2_n0, lN0, in_i2l, nI_clamp] at *; first | exact sv_int (b2_t (by simp [freeB, *])) | exact sv_int (b2_f (by simp [freeB, *]))))
    · refine bX4_isFree_36.go rfl (by first | exact ⟨rfl, ⟨rfl, vp_in_nI (by decide) (by decide)⟩, trivial, trivial⟩ | exact ⟨rfl, ⟨rfl, hP⟩, trivial⟩) ?_
      refine j_if_ne (tgt := 53) dX4_isFree_46 (by decide) (fun h46 => ?_) (fun h46 => ?_)
      · refine bX4_isFree_53.go rfl trivial ?_
        exact t_zret dX4_isFree_54 rfl (by first | rfl | (simp (disch := omega) only [b2_0, b2_n0, lN0, in_i2l, nI_clamp] at *; first | exact sv_int (b2_t (by simp [freeB, *])) | exact sv_int (b2_f (by simp [freeB, *])))) (by first | rfl | (simp (disch := omega) only [b2_0, b2_n0, lN0, in_i2l, nI_clamp] at *; first | exact sv_int (b2_t (by simp [freeB, *])) | exact sv_int (b2_f (by simp [freeB, *])))) (by first | rfl | (simp (disch := omega) only [b2_0, b2_n0, lN0, in_i2l, nI_clamp] at *; first | exact sv_int (b2_t (by simp [freeB, *])) | exact sv_int (b2_f (by simp [freeB, *]))))
      · refine bX4_isFree_49.go rfl trivial ?_
        exact t_zret dX4_isFree_54 rfl (by first | rfl | (simp (disch := omega) only [b2_0, b2_n0, lN0, in_i2l, nI_clamp] at *; first | exact sv_int (b2_t (by simp [freeB, *])) | exact sv_int (b2_f (by simp [freeB, *])))) (by first | rfl | (simp (disch := omega) only [b2_0, b2_n0, lN0, in_i2l, nI_clamp] at *; first | exact sv_int (b2_t (by simp [freeB, *])) | exact sv_int (b2_f (by simp [freeB, *])))) (by first | rfl | (simp (disch := omega) only [b2_0, b2_n0, lN0, in_i2l, nI_clamp] at *; first | exact sv_int (b2_t (by simp [freeB, *])) | exact sv_int (b2_f (by simp [freeB, *]))))
