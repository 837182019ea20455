set_option maxRecDepth 100000
/-! ===== UnseenClockModel: isTaken on the row that is read; readCell, readClock, readPerson ===== -/
def F_isTakenF (a : Nat) (X Y but : Int32) : Tau → Prop × Option Value × Tau := fun (o, ad, A, B) => (a = ad 14 ∧ CntOK (A 14), some (.int (b2 (takenB (A 14) X Y but))), (o, ad, A, B))
theorem bX4_isTaken_0F : Blk TP mX4_isTaken 0 3 [oC (nI 0), oIS 4] := blk_c (s_iconst dX4_isTaken_0 (by decide +kernel)) <| blk_c (s_istore dX4_isTaken_1 (by decide)) <| blk_nil
theorem bX4_isTaken_3F : Blk TP mX4_isTaken 3 8 [oIL 4, oAL 0, oC (nI 0), tAI 14 320] := blk_c (s_iload dX4_isTaken_3) <| blk_c (s_aload_n dX4_isTaken_5 rfl) <| blk_c (s_iconst dX4_isTaken_6 (by decide +kernel)) <| blk_c (t_iald rfl dX4_isTaken_7) <| blk_nil
theorem bX4_isTaken_11F : Blk TP mX4_isTaken 11 21 [oAL 0, oC (nI 8), oC (nI 2), oIL 4, oMul, oAdd, tAI 14 320, oIL 1] := blk_c (s_aload_n dX4_isTaken_11 rfl) <| blk_c (s_bipush dX4_isTaken_12 (by decide +kernel)) <| blk_c (s_iconst dX4_isTaken_14 (by decide +kernel)) <| blk_c (s_iload dX4_isTaken_15) <| blk_c (s_imul dX4_isTaken_17) <| blk_c (s_iadd dX4_isTaken_18) <| blk_c (t_iald rfl dX4_isTaken_19) <| blk_c (s_iload_n dX4_isTaken_20 rfl) <| blk_nil
theorem bX4_isTaken_24F : Blk TP mX4_isTaken 24 36 [oAL 0, oC (nI 8), oC (nI 2), oIL 4, oMul, oAdd, oC (nI 1), oAdd, tAI 14 320, oIL 2] := blk_c (s_aload_n dX4_isTaken_24 rfl) <| blk_c (s_bipush dX4_isTaken_25 (by decide +kernel)) <| blk_c (s_iconst dX4_isTaken_27 (by decide +kernel)) <| blk_c (s_iload dX4_isTaken_28) <| blk_c (s_imul dX4_isTaken_30) <| blk_c (s_iadd dX4_isTaken_31) <| blk_c (s_iconst dX4_isTaken_32 (by decide +kernel)) <| blk_c (s_iadd dX4_isTaken_33) <| blk_c (t_iald rfl dX4_isTaken_34) <| blk_c (s_iload_n dX4_isTaken_35 rfl) <| blk_nil
theorem bX4_isTaken_39F : Blk TP mX4_isTaken 39 40 [oC (nI 1)] := blk_c (s_iconst dX4_isTaken_39 (by decide +kernel)) <| blk_nil
theorem bX4_isTaken_41F : Blk TP mX4_isTaken 41 3 [oInc 4 1, .inl (fun s => some s)] := blk_c (s_iinc dX4_isTaken_41 (by decide +kernel) (by decide)) <| blk_c (s_goto (tgt := 3) dX4_isTaken_44 (by decide)) <| blk_nil
theorem bX4_isTaken_47F : Blk TP mX4_isTaken 47 50 [oC (nI 0), oIS 4] := blk_c (s_iconst dX4_isTaken_47 (by decide +kernel)) <| blk_c (s_istore dX4_isTaken_48 (by decide)) <| blk_nil
theorem bX4_isTaken_50F : Blk TP mX4_isTaken 50 55 [oIL 4, oAL 0, oC (nI 1), tAI 14 320] := blk_c (s_iload dX4_isTaken_50) <| blk_c (s_aload_n dX4_isTaken_52 rfl) <| blk_c (s_iconst dX4_isTaken_53 (by decide +kernel)) <| blk_c (t_iald rfl dX4_isTaken_54) <| blk_nil
theorem bX4_isTaken_58F : Blk TP mX4_isTaken 58 61 [oIL 4, oIL 3] := blk_c (s_iload dX4_isTaken_58) <| blk_c (s_iload_n dX4_isTaken_60 rfl) <| blk_nil
theorem bX4_isTaken_64F : Blk TP mX4_isTaken 64 75 [oAL 0, oC (nI 32), oC (nI 6), oIL 4, oMul, oAdd, tAI 14 320, oIL 1] := blk_c (s_aload_n dX4_isTaken_64 rfl) <| blk_c (s_bipush dX4_isTaken_65 (by decide +kernel)) <| blk_c (s_bipush dX4_isTaken_67 (by decide +kernel)) <| blk_c (s_iload dX4_isTaken_69) <| blk_c (s_imul dX4_isTaken_71) <| blk_c (s_iadd dX4_isTaken_72) <| blk_c (t_iald rfl dX4_isTaken_73) <| blk_c (s_iload_n dX4_isTaken_74 rfl) <| blk_nil
theorem bX4_isTaken_78F : Blk TP mX4_isTaken 78 91 [oAL 0, oC (nI 32), oC (nI 6), oIL 4, oMul, oAdd, oC (nI 1), oAdd, tAI 14 320, oIL 2] := blk_c (s_aload_n dX4_isTaken_78 rfl) <| blk_c (s_bipush dX4_isTaken_79 (by decide +kernel)) <| blk_c (s_bipush dX4_isTaken_81 (by decide +kernel)) <| blk_c (s_iload dX4_isTaken_83) <| blk_c (s_imul dX4_isTaken_85) <| blk_c (s_iadd dX4_isTaken_86) <| blk_c (s_iconst dX4_isTaken_87 (by decide +kernel)) <| blk_c (s_iadd dX4_isTaken_88) <| blk_c (t_iald rfl dX4_isTaken_89) <| blk_c (s_iload_n dX4_isTaken_90 rfl) <| blk_nil
theorem bX4_isTaken_94F : Blk TP mX4_isTaken 94 95 [oC (nI 1)] := blk_c (s_iconst dX4_isTaken_94 (by decide +kernel)) <| blk_nil
theorem bX4_isTaken_96F : Blk TP mX4_isTaken 96 50 [oInc 4 1, .inl (fun s => some s)] := blk_c (s_iinc dX4_isTaken_96 (by decide +kernel) (by decide)) <| blk_c (s_goto (tgt := 50) dX4_isTaken_99 (by decide)) <| blk_nil
theorem bX4_isTaken_102F : Blk TP mX4_isTaken 102 103 [oC (nI 0)] := blk_c (s_iconst dX4_isTaken_102 (by decide +kernel)) <| blk_nil
theorem ok_isTakenF : TS_RIII mX4_isTaken F_isTakenF := by
  intro X a X1 Y1 but ⟨o, ad, A, B⟩ P r y hF hP
  cases hF
  obtain ⟨rfl, na, nb, ha, hb, e0, e1⟩ := hP
  refine T_start (L := [some (.ref (ad 14)), some (.int X1), some (.int Y1), some (.int but), none]) 1 rfl ?_
  refine bX4_isTaken_0F.go rfl trivial ?_
  refine loop_down (N := na) (I := fun i => ∀ k, k < i → wallAt (A 14) X1 Y1 k = false) (P := fun i => JS TP X mX4_isTaken (rmOf mX4_isTaken.lv 0 0) _ 0 0 3 [some (.ref (ad 14)), some (.int X1), some (.int Y1), some (.int but), some (.int (nI i))] [] (o, ad, A, B)) ?_ ?_ 0 (by omega) (by intro k hk; omega)
  · intro hI
    refine bX4_isTaken_3F.go rfl ⟨⟨rfl, vp_in_nI (by decide) (by decide)⟩, trivial⟩ ?_
    refine j_icmp_ge (tgt := 47) dX4_isTaken_8 (by decide) (fun h8 => ?_) (fun h8 => ?_)
    · refine bX4_isTaken_47F.go rfl trivial ?_
      refine loop_down (N := nb) (I := fun i => ∀ k, k < i → clockAt (A 14) X1 Y1 but k = false) (P := fun i => JS TP X mX4_isTaken (rmOf mX4_isTaken.lv 0 0) _ 0 0 50 [some (.ref (ad 14)), some (.int X1), some (.int Y1), some (.int but), some (.int (nI i))] [] (o, ad, A, B)) ?_ ?_ 0 (by omega) (by intro k hk; omega)
      · intro hJ
        refine bX4_isTaken_50F.go rfl ⟨⟨rfl, vp_in_nI (by decide) (by decide)⟩, trivial⟩ ?_
        refine j_icmp_ge (tgt := 102) dX4_isTaken_55 (by decide) (fun h55 => ?_) (fun h55 => ?_)
        · refine bX4_isTaken_102F.go rfl trivial ?_
          refine t_zret dX4_isTaken_103 rfl rfl (sv_int (b2_f ?_)) rfl
          simp (disch := omega) only [takenB, e0, e1, nI_clamp, Bool.or_eq_false_iff, anyN_false]
          exact ⟨hI, hJ⟩
        · simp (disch := omega) only [e1, nI_clamp, nI_leI] at h55; omega
      · intro i hi hJ ih
        refine bX4_isTaken_50F.go rfl ⟨⟨rfl, vp_in_nI (by decide) (by decide)⟩, trivial⟩ ?_
        have nx : clockAt (A 14) X1 Y1 but i = false → JS TP X mX4_isTaken (rmOf mX4_isTaken.lv 0 0) (TZ X (some (.int (b2 (takenB (A 14) X1 Y1 but)))) (o, ad, A, B)) 0 0 96 [some (.ref (ad 14)), some (.int X1), some (.int Y1), some (.int but), some (.int (nI i))] [] (o, ad, A, B) := by
          intro hf
          refine bX4_isTaken_96F.go rfl trivial ?_
          rw [nI_1]
          exact ih (fun k hk => by rcases Nat.lt_succ_iff_lt_or_eq.mp hk with h | h; exact hJ k h; rw [h]; exact hf)
        refine j_icmp_ge (tgt := 102) dX4_isTaken_55 (by decide) (fun h55 => ?_) (fun h55 => ?_)
        · simp (disch := omega) only [e1, nI_clamp, nI_leI] at h55; omega
        · refine bX4_isTaken_58F.go rfl trivial ?_
          refine j_icmp_eq (tgt := 96) dX4_isTaken_61 (by decide) (fun h61 => ?_) (fun h61 => ?_)
          · exact nx (by simp [clockAt, h61])
          · refine bX4_isTaken_64F.go rfl (by simp (disch := omega) only [nI_add, pk_mul, vpI]; exact ⟨⟨trivial, by omega⟩, trivial⟩) ?_
            refine j_icmp_ne (tgt := 96) dX4_isTaken_75 (by decide) (fun h75 => ?_) (fun h75 => ?_)
            · simp (disch := omega) only [nI_add, pk_mul, nI_clamp] at h75
              exact nx (by simp [clockAt, h75])
            · refine bX4_isTaken_78F.go rfl (by simp (disch := omega) only [nI_add, pk_mul, vpI]; exact ⟨⟨trivial, by omega⟩, trivial⟩) ?_
              refine j_icmp_ne (tgt := 96) dX4_isTaken_91 (by decide) (fun h91 => ?_) (fun h91 => ?_)
              · simp (disch := omega) only [nI_add, pk_mul, nI_clamp] at h91
                exact nx (by simp [clockAt, h91])
              · refine bX4_isTaken_94F.go rfl trivial ?_
                refine t_zret dX4_isTaken_95 rfl rfl (sv_int (b2_t ?_)) rfl
                simp (disch := omega) only [nI_add, pk_mul, nI_clamp] at h75 h91
                simp (disch := omega) only [takenB, e0, e1, nI_clamp, Bool.or_eq_true, anyN_true]
                exact Or.inr ⟨i, hi, by simp [clockAt, h61, h75, h91]⟩
    · simp (disch := omega) only [e0, nI_clamp, nI_leI] at h8; omega
  · intro i hi hI ih
    refine bX4_isTaken_3F.go rfl ⟨⟨rfl, vp_in_nI (by decide) (by decide)⟩, trivial⟩ ?_
    have nx : wallAt (A 14) X1 Y1 i = false → JS TP X mX4_isTaken (rmOf mX4_isTaken.lv 0 0) (TZ X (some (.int (b2 (takenB (A 14) X1 Y1 but)))) (o, ad, A, B)) 0 0 41 [some (.ref (ad 14)), some (.int X1), some (.int Y1), some (.int but), some (.int (nI i))] [] (o, ad, A, B) := by
      intro hf
      refine bX4_isTaken_41F.go rfl trivial ?_
      rw [nI_1]
      exact ih (fun k hk => by rcases Nat.lt_succ_iff_lt_or_eq.mp hk with h | h; exact hI k h; rw [h]; exact hf)
    refine j_icmp_ge (tgt := 47) dX4_isTaken_8 (by decide) (fun h8 => ?_) (fun h8 => ?_)
    · simp (disch := omega) only [e0, nI_clamp, nI_leI] at h8; omega
    · refine bX4_isTaken_11F.go rfl (by simp (disch := omega) only [nI_add, pk_mul, vpI]; exact ⟨⟨trivial, by omega⟩, trivial⟩) ?_
      refine j_icmp_ne (tgt := 41) dX4_isTaken_21 (by decide) (fun h21 => ?_) (fun h21 => ?_)
      · simp (disch := omega) only [nI_add, pk_mul, nI_clamp] at h21
        exact nx (by simp [wallAt, h21])
      · refine bX4_isTaken_24F.go rfl (by simp (disch := omega) only [nI_add, pk_mul, vpI]; exact ⟨⟨trivial, by omega⟩, trivial⟩) ?_
        refine j_icmp_ne (tgt := 41) dX4_isTaken_36 (by decide) (fun h36 => ?_) (fun h36 => ?_)
        · simp (disch := omega) only [nI_add, pk_mul, nI_clamp] at h36
          exact nx (by simp [wallAt, h36])
        · refine bX4_isTaken_39F.go rfl trivial ?_
          refine t_zret dX4_isTaken_40 rfl rfl (sv_int (b2_t ?_)) rfl
          simp (disch := omega) only [nI_add, pk_mul, nI_clamp] at h21 h36
          simp (disch := omega) only [takenB, e0, e1, nI_clamp, Bool.or_eq_true, anyN_true]
          exact Or.inl ⟨i, hi, by simp [wallAt, h21, h36]⟩
def FrW (A : Nat → Nat → Int32) (B : Nat → Nat → Int64) (A' : Nat → Nat → Int32) (B' : Nat → Nat → Int64) : Prop := B' = B ∧ (∀ f, f ≠ 0 → f ≠ 14 → A' f = A f) ∧ ∀ i, i < 8 ∨ 13 < i → A' 0 i = A 0 i
theorem FrR.w {A A' : Nat → Nat → Int32} {B B' : Nat → Nat → Int64} (h : FrR A B A' B') : FrW A B A' B' := ⟨h.1, fun f h0 _ => h.2.1 f h0, h.2.2⟩
theorem FrW.trans {A A1 A2 : Nat → Nat → Int32} {B B1 B2 : Nat → Nat → Int64} (h : FrW A B A1 B1) (h' : FrW A1 B1 A2 B2) : FrW A B A2 B2 := ⟨h'.1.trans h.1, fun f hf hg => (h'.2.1 f hf hg).trans (h.2.1 f hf hg), fun i hi => (h'.2.2 i hi).trans (h.2.2 i hi)⟩
theorem FrW.up {A A1 : Nat → Nat → Int32} {B B1 : Nat → Nat → Int64} (h : FrW A B A1 B1) (i : Nat) (v : Int32) : FrW A B (upA A1 14 i v) B1 := ⟨h.1, fun f hf hg => by rw [upA_ne hg]; exact h.2.1 f hf hg, fun i hi => by rw [upA_ne (by decide)]; exact h.2.2 i hi⟩
theorem FrW.rf {A : Nat → Nat → Int32} {B : Nat → Nat → Int64} : FrW A B A B := FrR.rf.w
/-- reading, and the row so far -/
def RdW (A : Nat → Nat → Int32) (T : Nat → Int32) (n : Nat) (s : RdE) (w : Nat → Int32) : Prop := RdS A T n s ∧ A 14 = w
theorem upA_row (A : Nat → Nat → Int32) (k i : Nat) (v : Int32) : upA A k i v k = va_up (A k) i v := by unfold upA; rw [va_up_self]
theorem RdS.up {A : Nat → Nat → Int32} {T : Nat → Int32} {n : Nat} {s : RdE} (h : RdS A T n s) (i : Nat) (v : Int32) : RdS (upA A 14 i v) T n s := by
  obtain ⟨h1, h2, h3, h4⟩ := h
  refine ⟨by rw [upA_ne (by decide)]; exact h1, by rw [upA_ne (by decide)]; exact h2, h3, ?_⟩
  unfold TokA at *
  rw [upA_ne (show (0 : Nat) ≠ 14 by decide)]
  exact h4
theorem RdW.up {A : Nat → Nat → Int32} {T : Nat → Int32} {n : Nat} {s : RdE} {w : Nat → Int32} (h : RdW A T n s w) (i : Nat) (v : Int32) : RdW (upA A 14 i v) T n s (va_up w i v) := ⟨h.1.up i v, by rw [upA_row, h.2]⟩
theorem RdW.fr {A A' : Nat → Nat → Int32} {B B' : Nat → Nat → Int64} {T : Nat → Int32} {n : Nat} {s s' : RdE} {w : Nat → Int32} (h : RdW A T n s w) (f : FrR A B A' B') (h' : RdS A' T n s') : RdW A' T n s' w := ⟨h', by rw [f.2.1 14 (by decide)]; exact h.2⟩
/-- the cell that a number would make is taken -/
def tkE (w : Nat → Int32) (x : Int32) (s : RdE) : Bool := match s with
  | .inl _ => false
  | .inr ts => decide (ts.2.2.1 = nI 2) && (inI ts.2.2.2 (nI 0) (w 5 - nI 1) && takenB w x ts.2.2.2 (-1))
def cell1 (T : Nat → Int32) (n : Nat) (s : RdE) (w : Nat → Int32) : Int32 × RdE := numE T n (nI 0) (w 4 - nI 1) (needsE T n 4 s)
def cell2 (T : Nat → Int32) (n : Nat) (s : RdE) (w : Nat → Int32) : RdE := if tkE w (cell1 T n s w).1 (cell1 T n s w).2 = true then errE (nI 2) (cell1 T n s w).2 else (cell1 T n s w).2
def cell3 (T : Nat → Int32) (n : Nat) (s : RdE) (w : Nat → Int32) : Int32 × RdE := numE T n (nI 0) (w 5 - nI 1) (cell2 T n s w)
def cellE (T : Nat → Int32) (n k : Nat) (s : RdE) (w : Nat → Int32) : RdE × (Nat → Int32) := ((cell3 T n s w).2, if goodE (cell3 T n s w).2 = true then va_up (va_up w k (cell1 T n s w).1) (k + 1) (cell3 T n s w).1 else w)
theorem bX4_readCell_0 : Blk TP mX4_readCell 0 1 [oAL 0] := blk_c (s_aload_n dX4_readCell_0 rfl) <| blk_nil
theorem bX4_readCell_6 : Blk TP mX4_readCell 6 16 [oAL 0, oC (nI 0), oAL 0, tR 14, oC (nI 4), tAI 14 320, oC (nI 1), oSub] := blk_c (s_aload_n dX4_readCell_6 rfl) <| blk_c (s_iconst dX4_readCell_7 (by decide +kernel)) <| blk_c (s_aload_n dX4_readCell_8 rfl) <| blk_c (tgX4_14 rfl dX4_readCell_9) <| blk_c (s_iconst dX4_readCell_12 (by decide +kernel)) <| blk_c (t_iald rfl dX4_readCell_13) <| blk_c (s_iconst dX4_readCell_14 (by decide +kernel)) <| blk_c (s_isub dX4_readCell_15) <| blk_nil
theorem bX4_readCell_19 : Blk TP mX4_readCell 19 24 [oIS 2, oAL 0, tC_V F_good] := blk_c (s_istore_n dX4_readCell_19 rfl (by decide)) <| blk_c (s_aload_n dX4_readCell_20 rfl) <| blk_c (tc_V ok_good gX4_good (by decide +kernel) (by decide) dX4_readCell_21) <| blk_nil
theorem bX4_readCell_27 : Blk TP mX4_readCell 27 32 [oAL 0, tI 10, oC (nI 2)] := blk_c (s_aload_n dX4_readCell_27 rfl) <| blk_c (tgX4_10 rfl dX4_readCell_28) <| blk_c (s_iconst dX4_readCell_31 (by decide +kernel)) <| blk_nil
theorem bX4_readCell_35 : Blk TP mX4_readCell 35 53 [oAL 0, tI 11, oI2L, oCL (lN 0), oAL 0, tR 14, oC (nI 5), tAI 14 320, oC (nI 1), oSub, oI2L, tS_JJJ F_in] := blk_c (s_aload_n dX4_readCell_35 rfl) <| blk_c (tgX4_11 rfl dX4_readCell_36) <| blk_c (s_i2l dX4_readCell_39) <| blk_c (s_lconst dX4_readCell_40 (by decide +kernel)) <| blk_c (s_aload_n dX4_readCell_41 rfl) <| blk_c (tgX4_14 rfl dX4_readCell_42) <| blk_c (s_iconst dX4_readCell_45 (by decide +kernel)) <| blk_c (t_iald rfl dX4_readCell_46) <| blk_c (s_iconst dX4_readCell_47 (by decide +kernel)) <| blk_c (s_isub dX4_readCell_48) <| blk_c (s_i2l dX4_readCell_49) <| blk_c (ts_JJJ ok_in gX4_in (by decide +kernel) (by decide) dX4_readCell_50) <| blk_nil
theorem bX4_readCell_56 : Blk TP mX4_readCell 56 69 [oAL 0, tR 14, oIL 2, oAL 0, tI 11, oC (-1), tS_RIII F_isTakenF] := blk_c (s_aload_n dX4_readCell_56 rfl) <| blk_c (tgX4_14 rfl dX4_readCell_57) <| blk_c (s_iload_n dX4_readCell_60 rfl) <| blk_c (s_aload_n dX4_readCell_61 rfl) <| blk_c (tgX4_11 rfl dX4_readCell_62) <| blk_c (s_iconst dX4_readCell_65 (by decide +kernel)) <| blk_c (ts_RIII ok_isTakenF gX4_isTaken (by decide +kernel) (by decide) dX4_readCell_66) <| blk_nil
theorem bX4_readCell_72 : Blk TP mX4_readCell 72 74 [oAL 0, oC (nI 2)] := blk_c (s_aload_n dX4_readCell_72 rfl) <| blk_c (s_iconst dX4_readCell_73 (by decide +kernel)) <| blk_nil
theorem bX4_readCell_77 : Blk TP mX4_readCell 77 87 [oAL 0, oC (nI 0), oAL 0, tR 14, oC (nI 5), tAI 14 320, oC (nI 1), oSub] := blk_c (s_aload_n dX4_readCell_77 rfl) <| blk_c (s_iconst dX4_readCell_78 (by decide +kernel)) <| blk_c (s_aload_n dX4_readCell_79 rfl) <| blk_c (tgX4_14 rfl dX4_readCell_80) <| blk_c (s_iconst dX4_readCell_83 (by decide +kernel)) <| blk_c (t_iald rfl dX4_readCell_84) <| blk_c (s_iconst dX4_readCell_85 (by decide +kernel)) <| blk_c (s_isub dX4_readCell_86) <| blk_nil
theorem bX4_readCell_90 : Blk TP mX4_readCell 90 95 [oIS 3, oAL 0, tC_V F_good] := blk_c (s_istore_n dX4_readCell_90 rfl (by decide)) <| blk_c (s_aload_n dX4_readCell_91 rfl) <| blk_c (tc_V ok_good gX4_good (by decide +kernel) (by decide) dX4_readCell_92) <| blk_nil
theorem bX4_readCell_99 : Blk TP mX4_readCell 99 115 [oAL 0, tR 14, oIL 1, oIL 2, tSI 14 320, oAL 0, tR 14, oIL 1, oC (nI 1), oAdd, oIL 3, tSI 14 320] := blk_c (s_aload_n dX4_readCell_99 rfl) <| blk_c (tgX4_14 rfl dX4_readCell_100) <| blk_c (s_iload_n dX4_readCell_103 rfl) <| blk_c (s_iload_n dX4_readCell_104 rfl) <| blk_c (t_iast rfl dX4_readCell_105) <| blk_c (s_aload_n dX4_readCell_106 rfl) <| blk_c (tgX4_14 rfl dX4_readCell_107) <| blk_c (s_iload_n dX4_readCell_110 rfl) <| blk_c (s_iconst dX4_readCell_111 (by decide +kernel)) <| blk_c (s_iadd dX4_readCell_112) <| blk_c (s_iload_n dX4_readCell_113 rfl) <| blk_c (t_iast rfl dX4_readCell_114) <| blk_nil
theorem ok_readCell {X : Cx} {aK aV : Nat → Nat} (hX : StrOK X aK aV) (T : Nat → Int32) (n : Nat) (s : RdE) (w : Nat → Int32) (hw : CntOK w) {k : Nat} (hk : k + 1 < 320) : RG X mX4_readCell [.int (nI k)] (fun A _ => RdW A T n s w) (fun A B r A' B' => r = none ∧ FrW A B A' B' ∧ RdW A' T n (cellE T n k s w).1 (cellE T n k s w).2) := by
  intro o ad A B hrd
  refine R_start (L := [some (.ref o), some (.int (nI k)), none, none]) 2 rfl ?_
  refine bX4_readCell_0.go rfl trivial ?_
  refine js_ldcS (tx := "at") (i := 4) hX (by decide +kernel) dX4_readCell_1 ?_
  refine rg (nA := 1) (ok_needs hX (i := 4) (by decide) T n s) gX4_needs dX4_readCell_3 rfl hrd.1 (fun r A1 B1 q => ?_)
  obtain ⟨rfl, f1, g1⟩ := q
  have h1 := hrd.fr f1 g1
  refine bX4_readCell_6.go rfl (by exact ⟨rfl, ⟨rfl, vp_in_nI (by decide) (by decide)⟩, trivial⟩) ?_
  simp (disch := omega) only [nI_clamp, h1.2]
  refine rg (nA := 2) (ok_number T n _ (nI 0) (w 4 - nI 1)) gX4_number dX4_readCell_16 rfl g1 (fun r A2 B2 q => ?_)
  obtain ⟨rfl, f2, g2⟩ := q
  have h2 := h1.fr f2 g2
  have g2 : RdS A2 T n (cell1 T n s w).2 := g2
  have f12 := f1.trans f2
  refine bX4_readCell_19.go rfl (by exact ⟨⟨rfl, trivial⟩, trivial⟩) ?_
  rw [g2.good]
  -- behind the check of the cell
  have m77 : ∀ A3 B3, FrR A B A3 B3 → RdW A3 T n (cell2 T n s w) w → JS TP X mX4_readCell (rmOf mX4_readCell.lv 0 0) (ZR X o ad (fun r A' B' => r = none ∧ FrW A B A' B' ∧ RdW A' T n (cellE T n k s w).1 (cellE T n k s w).2)) 0 0 77 [some (.ref o), some (.int (nI k)), some (.int (cell1 T n s w).1), none] [] (o, ad, A3, B3) := by
    intro A3 B3 f3 h3
    refine bX4_readCell_77.go rfl (by exact ⟨rfl, ⟨rfl, vp_in_nI (by decide) (by decide)⟩, trivial⟩) ?_
    simp (disch := omega) only [nI_clamp, h3.2]
    refine rg (nA := 2) (ok_number T n _ (nI 0) (w 5 - nI 1)) gX4_number dX4_readCell_87 rfl h3.1 (fun r A4 B4 q => ?_)
    obtain ⟨rfl, f4, g4⟩ := q
    have h4 := h3.fr f4 g4
    have g4 : RdS A4 T n (cell3 T n s w).2 := g4
    refine bX4_readCell_90.go rfl (by exact ⟨⟨rfl, trivial⟩, trivial⟩) ?_
    rw [g4.good]
    refine j_if_ne (tgt := 99) dX4_readCell_95 (by decide) (fun h95 => ?_) (fun h95 => ?_)
    · rw [b2_n0] at h95
      refine bX4_readCell_99.go rfl (by simp (disch := omega) only [nI_add, vpI]; exact ⟨trivial, ⟨trivial, by omega⟩, trivial, ⟨trivial, by omega⟩, trivial⟩) ?_
      simp (disch := omega) only [nI_add, nI_clamp]
      refine r_vret dX4_readCell_115 rfl ⟨rfl, ((f3.trans f4).w.up _ _).up _ _, ?_⟩
      rw [cellE, if_pos h95]
      exact (h4.up _ _).up _ _
    · rw [b2_0] at h95
      refine r_vret dX4_readCell_98 rfl ⟨rfl, (f3.trans f4).w, ?_⟩
      rw [cellE, if_neg (by rw [h95]; decide)]
      exact h4
  have no : tkE w (cell1 T n s w).1 (cell1 T n s w).2 = false → JS TP X mX4_readCell (rmOf mX4_readCell.lv 0 0) (ZR X o ad (fun r A' B' => r = none ∧ FrW A B A' B' ∧ RdW A' T n (cellE T n k s w).1 (cellE T n k s w).2)) 0 0 77 [some (.ref o), some (.int (nI k)), some (.int (cell1 T n s w).1), none] [] (o, ad, A2, B2) := fun h => m77 A2 B2 f12 (by rw [cell2, if_neg (by rw [h]; decide)]; exact h2)
  show JS TP X mX4_readCell (rmOf mX4_readCell.lv 0 0) _ 0 0 24 [some (.ref o), some (.int (nI k)), some (.int (cell1 T n s w).1), none] _ (o, ad, A2, B2)
  match hc : (cell1 T n s w).2, g2, no with
  | .inl e, g2, no =>
    refine j_if_eq (tgt := 77) dX4_readCell_24 (by decide) (fun h24 => no rfl) (fun h24 => absurd (gE0 _) h24)
  | .inr ts, g2, no =>
    obtain ⟨r1, r2, r3, r4, r5, r6, r7⟩ := id g2
    refine j_if_eq (tgt := 77) dX4_readCell_24 (by decide) (fun h24 => absurd h24 (gE1 _)) (fun h24 => ?_)
    refine bX4_readCell_27.go rfl (by exact ⟨rfl, trivial⟩) ?_
    rw [r5.2.2.1]
    refine j_icmp_ne (tgt := 77) dX4_readCell_32 (by decide) (fun h32 => no (by rw [tkE, decide_eq_false h32]; rfl)) (fun h32 => ?_)
    refine bX4_readCell_35.go rfl (by exact ⟨rfl, rfl, ⟨rfl, vp_in_nI (by decide) (by decide)⟩, trivial, trivial⟩) ?_
    simp (disch := omega) only [nI_clamp, h2.2, r5.2.2.2 h32, lN0, in_i2l]
    refine j_if_eq (tgt := 77) dX4_readCell_53 (by decide) (fun h53 => ?_) (fun h53 => ?_)
    · rw [b2_0] at h53
      exact no (by rw [tkE, h53]; simp)
    · rw [b2_n0] at h53
      refine bX4_readCell_56.go rfl (by exact ⟨rfl, rfl, ⟨rfl, by rw [h2.2]; exact hw⟩, trivial⟩) ?_
      simp only [h2.2, r5.2.2.2 h32]
      refine j_if_eq (tgt := 77) dX4_readCell_69 (by decide) (fun h69 => ?_) (fun h69 => ?_)
      · rw [b2_0] at h69
        exact no (by rw [tkE, h69]; simp)
      · rw [b2_n0] at h69
        refine bX4_readCell_72.go rfl trivial ?_
        refine rc_I ok_errs gX4_errs dX4_readCell_74 rfl trivial (fun r A3 B3 q => ?_)
        obtain ⟨rfl, rfl, rfl⟩ := q
        refine m77 _ _ (f12.trans erA_fr) ?_
        rw [cell2, hc, if_pos (by rw [tkE, decide_eq_true h32, h53, h69]; rfl)]
        exact h2.fr (B := B3) (B' := B3) erA_fr (erA_rd (by decide +kernel) g2)
