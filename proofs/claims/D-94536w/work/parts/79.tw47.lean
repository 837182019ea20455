set_option maxRecDepth 100000
/-! ===== UnseenClockModel: agrees, sureBy ===== -/
/-- some sightings of a row are so in a course -/
def agS (sh : Nat → Nat → Int32) (b : Nat → Int64) (s n : Nat) (set : Int32) : Bool := allN (fun i => !bitI set i || decide ((sh (b (60 * s + 3 * i)).toInt32.toNatClampNeg (b (60 * s + 3 * i + 1)).toInt32.toNatClampNeg).toInt64 = b (60 * s + 3 * i + 2))) (n / 3)
/-- a row of sightings -/
def SgR (A : Nat → Nat → Int32) (B : Nat → Nat → Int64) (s n : Nat) : Prop := s < 4 ∧ n ≤ 60 ∧ n % 3 = 0 ∧ A 37 s = nI n ∧ ∀ i, i < n / 3 → ∃ c m, c < 4 ∧ m < 41 ∧ (B 39 (60 * s + 3 * i)).toInt32 = nI c ∧ (B 39 (60 * s + 3 * i + 1)).toInt32 = nI m
def F_agrees (s set k : Int32) : Tau → Prop × Option Value × Tau := fun (o, ad, A, B) => (vp_in k 128 ∧ ∃ sn n, s = nI sn ∧ SgR A B sn n, some (.int (b2 (agS (fun c m => A 32 (164 * k.toNatClampNeg + 4 * m + c)) (B 39) s.toNatClampNeg (A 37 s.toNatClampNeg).toNatClampNeg set))), (o, ad, A, B))
theorem bX4_agrees_0 : Blk TP mX4_agrees 0 3 [oC (nI 0), oIS 4] := blk_c (s_iconst dX4_agrees_0 (by decide +kernel)) <| blk_c (s_istore dX4_agrees_1 (by decide)) <| blk_nil
theorem bX4_agrees_3 : Blk TP mX4_agrees 3 13 [oC (nI 3), oIL 4, oMul, oAL 0, tR 37, oIL 1, tAI 37 4] := blk_c (s_iconst dX4_agrees_3 (by decide +kernel)) <| blk_c (s_iload dX4_agrees_4) <| blk_c (s_imul dX4_agrees_6) <| blk_c (s_aload_n dX4_agrees_7 rfl) <| blk_c (tgX4_37 rfl dX4_agrees_8) <| blk_c (s_iload_n dX4_agrees_11 rfl) <| blk_c (t_iald rfl dX4_agrees_12) <| blk_nil
theorem bX4_agrees_16 : Blk TP mX4_agrees 16 34 [oC (nI 60), oIL 1, oMul, oC (nI 3), oIL 4, oMul, oAdd, oIS 5, oIL 2, oIL 4, oShr, oC (nI 1), oAnd, oC (nI 1)] := blk_c (s_bipush dX4_agrees_16 (by decide +kernel)) <| blk_c (s_iload_n dX4_agrees_18 rfl) <| blk_c (s_imul dX4_agrees_19) <| blk_c (s_iconst dX4_agrees_20 (by decide +kernel)) <| blk_c (s_iload dX4_agrees_21) <| blk_c (s_imul dX4_agrees_23) <| blk_c (s_iadd dX4_agrees_24) <| blk_c (s_istore dX4_agrees_25 (by decide)) <| blk_c (s_iload_n dX4_agrees_27 rfl) <| blk_c (s_iload dX4_agrees_28) <| blk_c (s_ishr dX4_agrees_30) <| blk_c (s_iconst dX4_agrees_31 (by decide +kernel)) <| blk_c (s_iand dX4_agrees_32) <| blk_c (s_iconst dX4_agrees_33 (by decide +kernel)) <| blk_nil
theorem bX4_agrees_37 : Blk TP mX4_agrees 37 71 [oAL 0, oIL 3, oAL 0, tR 39, oIL 5, tAL 39 240, oL2I, oAL 0, tR 39, oIL 5, oC (nI 1), oAdd, tAL 39 240, oL2I, tC_III F_shownIn, oI2L, oAL 0, tR 39, oIL 5, oC (nI 2), oAdd, tAL 39 240, oLcmp] := blk_c (s_aload_n dX4_agrees_37 rfl) <| blk_c (s_iload_n dX4_agrees_38 rfl) <| blk_c (s_aload_n dX4_agrees_39 rfl) <| blk_c (tgX4_39 rfl dX4_agrees_40) <| blk_c (s_iload dX4_agrees_43) <| blk_c (t_lald rfl dX4_agrees_45) <| blk_c (s_l2i dX4_agrees_46) <| blk_c (s_aload_n dX4_agrees_47 rfl) <| blk_c (tgX4_39 rfl dX4_agrees_48) <| blk_c (s_iload dX4_agrees_51) <| blk_c (s_iconst dX4_agrees_53 (by decide +kernel)) <| blk_c (s_iadd dX4_agrees_54) <| blk_c (t_lald rfl dX4_agrees_55) <| blk_c (s_l2i dX4_agrees_56) <| blk_c (tc_III ok_shownIn gX4_shownIn (by decide +kernel) (by decide) dX4_agrees_57) <| blk_c (s_i2l dX4_agrees_60) <| blk_c (s_aload_n dX4_agrees_61 rfl) <| blk_c (tgX4_39 rfl dX4_agrees_62) <| blk_c (s_iload dX4_agrees_65) <| blk_c (s_iconst dX4_agrees_67 (by decide +kernel)) <| blk_c (s_iadd dX4_agrees_68) <| blk_c (t_lald rfl dX4_agrees_69) <| blk_c (s_lcmp dX4_agrees_70) <| blk_nil
theorem bX4_agrees_74 : Blk TP mX4_agrees 74 75 [oC (nI 0)] := blk_c (s_iconst dX4_agrees_74 (by decide +kernel)) <| blk_nil
theorem bX4_agrees_76 : Blk TP mX4_agrees 76 3 [oInc 4 1, .inl (fun s => some s)] := blk_c (s_iinc dX4_agrees_76 (by decide +kernel) (by decide)) <| blk_c (s_goto (tgt := 3) dX4_agrees_79 (by decide)) <| blk_nil
theorem bX4_agrees_82 : Blk TP mX4_agrees 82 83 [oC (nI 1)] := blk_c (s_iconst dX4_agrees_82 (by decide +kernel)) <| blk_nil
theorem ok_agrees : TC_III mX4_agrees F_agrees := by
  intro X s set k ⟨o, ad, A, B⟩ P r y hF hP
  cases hF
  obtain ⟨h1, sn, n, rfl, hs, hn, hn3, en, hsg⟩ := hP
  obtain ⟨k, hk, rfl⟩ := vp_in_of h1 (by decide)
  refine T_start (L := [some (.ref o), some (.int (nI sn)), some (.int set), some (.int (nI k)), none, none]) 2 rfl ?_
  simp (disch := omega) only [nI_clamp, en]
  refine bX4_agrees_0.go rfl trivial ?_
  refine loop_down (N := n / 3) (I := fun j => ∀ i, i < j → (!bitI set i || decide ((A 32 (164 * k + 4 * (B 39 (60 * sn + 3 * i + 1)).toInt32.toNatClampNeg + (B 39 (60 * sn + 3 * i)).toInt32.toNatClampNeg)).toInt64 = B 39 (60 * sn + 3 * i + 2))) = true) (P := fun j => JS TP X mX4_agrees (rmOf mX4_agrees.lv 0 0) (TZ X (some (.int (b2 (agS (fun c m => A 32 (164 * k + 4 * m + c)) (B 39) sn n set)))) (o, ad, A, B)) 0 0 3 [some (.ref o), some (.int (nI sn)), some (.int set), some (.int (nI k)), some (.int (nI j)), none] [] (o, ad, A, B)) ?_ ?_ 0 (Nat.zero_le _) (fun i h => by omega)
  · intro hI
    refine bX4_agrees_3.go rfl (by simp (disch := omega) only [vpI]; exact ⟨trivial, ⟨trivial, by omega⟩, trivial⟩) ?_
    simp (disch := omega) only [nI_clamp, pk_mul, en]
    refine j_icmp_ge (tgt := 82) dX4_agrees_13 (by decide) (fun h13 => ?_) (fun h13 => ?_)
    · refine bX4_agrees_82.go rfl trivial ?_
      exact t_zret dX4_agrees_83 rfl rfl (sv_int (b2_t (allN_true.mpr hI))) rfl
    · simp (disch := omega) only [nI_leI] at h13; omega
  · intro j hj hI ih
    obtain ⟨c, m, hc, hm, ec, em⟩ := hsg j hj
    have nx : (!bitI set j || decide ((A 32 (164 * k + 4 * (B 39 (60 * sn + 3 * j + 1)).toInt32.toNatClampNeg + (B 39 (60 * sn + 3 * j)).toInt32.toNatClampNeg)).toInt64 = B 39 (60 * sn + 3 * j + 2))) = true → ∀ l5, JS TP X mX4_agrees (rmOf mX4_agrees.lv 0 0) (TZ X (some (.int (b2 (agS (fun c m => A 32 (164 * k + 4 * m + c)) (B 39) sn n set)))) (o, ad, A, B)) 0 0 76 [some (.ref o), some (.int (nI sn)), some (.int set), some (.int (nI k)), some (.int (nI j)), l5] [] (o, ad, A, B) := by
      intro hf l5
      refine bX4_agrees_76.go rfl trivial ?_
      rw [nI_1]
      refine JS.weak (L' := [some (.ref o), some (.int (nI sn)), some (.int set), some (.int (nI k)), some (.int (nI (j + 1))), none]) (by simp [lsub]) (ih (fun i hi => ?_))
      by_cases e : i = j
      · rw [e]; exact hf
      · exact hI i (by omega)
    refine bX4_agrees_3.go rfl (by simp (disch := omega) only [vpI]; exact ⟨trivial, ⟨trivial, by omega⟩, trivial⟩) ?_
    simp (disch := omega) only [nI_clamp, pk_mul, en]
    refine j_icmp_ge (tgt := 82) dX4_agrees_13 (by decide) (fun h13 => ?_) (fun h13 => ?_)
    · simp (disch := omega) only [nI_leI] at h13; omega
    · refine bX4_agrees_16.go rfl trivial ?_
      simp (disch := omega) only [nI_add, pk_mul]
      refine j_icmp_ne (tgt := 76) dX4_agrees_34 (by decide) (fun h34 => ?_) (fun h34 => ?_)
      · rw [bitI_1] at h34
        exact nx (by rw [show bitI set j = false by cases hb : bitI set j <;> simp_all]; rfl) _
      · rw [bitI_1] at h34
        refine bX4_agrees_37.go rfl (by simp (disch := omega) only [nI_add, vpI, nI_clamp, ec, em]; exact ⟨trivial, ⟨trivial, by omega⟩, trivial, ⟨trivial, by omega⟩, ⟨trivial, by omega, by omega, by omega⟩, trivial, ⟨trivial, by omega⟩, trivial⟩) ?_
        simp (disch := omega) only [nI_add, nI_clamp, ec, em]
        refine j_if_eq (tgt := 76) dX4_agrees_71 (by decide) (fun h71 => ?_) (fun h71 => ?_)
        · rw [lg_cmp_eq] at h71
          refine nx ?_ _
          rw [ec, em, nI_clamp (by omega), nI_clamp (by omega), h71]; simp
        · rw [lg_cmp_eq] at h71
          refine bX4_agrees_74.go rfl trivial ?_
          refine t_zret dX4_agrees_75 rfl rfl (sv_int (b2_f (allN_false hj ?_))) rfl
          rw [ec, em, nI_clamp (by omega), nI_clamp (by omega), h34, decide_eq_false h71]; rfl
/-- what is sure: the hour that all courses have which agree; none -/
def srF (ag : Nat → Bool) (sh : Nat → Int32) : Nat → Nat → Int32 → Int32
  | 0, _, x => x
  | f + 1, k, x => if ag k = true then (if ¬ x = -1 ∧ ¬ x = sh k then -1 else srF ag sh f (k + 1) (sh k)) else srF ag sh f (k + 1) x
def F_sureBy (s set c m : Int32) : Tau → Prop × Option Value × Tau := fun (o, ad, A, B) => (vp_in c 4 ∧ vp_in m 41 ∧ (∃ nk, nk ≤ 128 ∧ A 0 34 = nI nk) ∧ ∃ sn n, s = nI sn ∧ SgR A B sn n, some (.int (srF (fun k => agS (fun c m => A 32 (164 * k + 4 * m + c)) (B 39) s.toNatClampNeg (A 37 s.toNatClampNeg).toNatClampNeg set) (fun k => A 32 (164 * k + 4 * m.toNatClampNeg + c.toNatClampNeg)) (A 0 34).toNatClampNeg 0 (-1))), (o, ad, A, B))
theorem bX4_sureBy_0 : Blk TP mX4_sureBy 0 6 [oC (-1), oIS 5, oC (nI 0), oIS 6] := blk_c (s_iconst dX4_sureBy_0 (by decide +kernel)) <| blk_c (s_istore dX4_sureBy_1 (by decide)) <| blk_c (s_iconst dX4_sureBy_3 (by decide +kernel)) <| blk_c (s_istore dX4_sureBy_4 (by decide)) <| blk_nil
theorem bX4_sureBy_6 : Blk TP mX4_sureBy 6 12 [oIL 6, oAL 0, tI 34] := blk_c (s_iload dX4_sureBy_6) <| blk_c (s_aload_n dX4_sureBy_8 rfl) <| blk_c (tgX4_34 rfl dX4_sureBy_9) <| blk_nil
theorem bX4_sureBy_15 : Blk TP mX4_sureBy 15 23 [oAL 0, oIL 1, oIL 2, oIL 6, tC_III F_agrees] := blk_c (s_aload_n dX4_sureBy_15 rfl) <| blk_c (s_iload_n dX4_sureBy_16 rfl) <| blk_c (s_iload_n dX4_sureBy_17 rfl) <| blk_c (s_iload dX4_sureBy_18) <| blk_c (tc_III ok_agrees gX4_agrees (by decide +kernel) (by decide) dX4_sureBy_20) <| blk_nil
theorem bX4_sureBy_26 : Blk TP mX4_sureBy 26 62 [.inl (fun s => some s)] := blk_c (s_goto (tgt := 62) dX4_sureBy_26 (by decide)) <| blk_nil
theorem bX4_sureBy_29 : Blk TP mX4_sureBy 29 32 [oIL 5, oC (-1)] := blk_c (s_iload dX4_sureBy_29) <| blk_c (s_iconst dX4_sureBy_31 (by decide +kernel)) <| blk_nil
theorem bX4_sureBy_35 : Blk TP mX4_sureBy 35 46 [oIL 5, oAL 0, oIL 6, oIL 3, oIL 4, tC_III F_shownIn] := blk_c (s_iload dX4_sureBy_35) <| blk_c (s_aload_n dX4_sureBy_37 rfl) <| blk_c (s_iload dX4_sureBy_38) <| blk_c (s_iload_n dX4_sureBy_40 rfl) <| blk_c (s_iload dX4_sureBy_41) <| blk_c (tc_III ok_shownIn gX4_shownIn (by decide +kernel) (by decide) dX4_sureBy_43) <| blk_nil
theorem bX4_sureBy_49 : Blk TP mX4_sureBy 49 50 [oC (-1)] := blk_c (s_iconst dX4_sureBy_49 (by decide +kernel)) <| blk_nil
theorem bX4_sureBy_51 : Blk TP mX4_sureBy 51 62 [oAL 0, oIL 6, oIL 3, oIL 4, tC_III F_shownIn, oIS 5] := blk_c (s_aload_n dX4_sureBy_51 rfl) <| blk_c (s_iload dX4_sureBy_52) <| blk_c (s_iload_n dX4_sureBy_54 rfl) <| blk_c (s_iload dX4_sureBy_55) <| blk_c (tc_III ok_shownIn gX4_shownIn (by decide +kernel) (by decide) dX4_sureBy_57) <| blk_c (s_istore dX4_sureBy_60 (by decide)) <| blk_nil
theorem bX4_sureBy_62 : Blk TP mX4_sureBy 62 6 [oInc 6 1, .inl (fun s => some s)] := blk_c (s_iinc dX4_sureBy_62 (by decide +kernel) (by decide)) <| blk_c (s_goto (tgt := 6) dX4_sureBy_65 (by decide)) <| blk_nil
theorem bX4_sureBy_68 : Blk TP mX4_sureBy 68 70 [oIL 5] := blk_c (s_iload dX4_sureBy_68) <| blk_nil
theorem ok_sureBy : TC_IIII mX4_sureBy F_sureBy := by
  intro X s set c m ⟨o, ad, A, B⟩ P r y hF hP
  cases hF
  obtain ⟨h1, h2, ⟨nk, hnk, enk⟩, sn, n, rfl, hsg⟩ := hP
  obtain ⟨c, hc, rfl⟩ := vp_in_of h1 (by decide)
  obtain ⟨m, hm, rfl⟩ := vp_in_of h2 (by decide)
  have hs : sn < 4 := hsg.1
  have en : A 37 sn = nI n := hsg.2.2.2.1
  have hn : n ≤ 60 := hsg.2.1
  refine T_start (L := [some (.ref o), some (.int (nI sn)), some (.int set), some (.int (nI c)), some (.int (nI m)), none, none]) 2 rfl ?_
  simp (disch := omega) only [nI_clamp, en, enk]
  generalize hR : srF (fun k => agS (fun c m => A 32 (164 * k + 4 * m + c)) (B 39) sn n set) (fun k => A 32 (164 * k + 4 * m + c)) nk 0 (-1) = R0
  refine bX4_sureBy_0.go rfl trivial ?_
  have lp : ∀ d k, k + d = nk → ∀ x, srF (fun k => agS (fun c m => A 32 (164 * k + 4 * m + c)) (B 39) sn n set) (fun k => A 32 (164 * k + 4 * m + c)) d k x = R0 → JS TP X mX4_sureBy (rmOf mX4_sureBy.lv 0 0) (TZ X (some (.int R0)) (o, ad, A, B)) 0 0 6 [some (.ref o), some (.int (nI sn)), some (.int set), some (.int (nI c)), some (.int (nI m)), some (.int x), some (.int (nI k))] [] (o, ad, A, B) := by
    intro d
    induction d with
    | zero =>
      intro k hk x hx
      refine bX4_sureBy_6.go rfl (by exact ⟨rfl, trivial⟩) ?_
      rw [enk]
      refine j_icmp_ge (tgt := 68) dX4_sureBy_12 (by decide) (fun h12 => ?_) (fun h12 => ?_)
      · refine bX4_sureBy_68.go rfl trivial ?_
        exact t_iret dX4_sureBy_70 rfl (sv_int hx) rfl
      · simp (disch := omega) only [nI_leI] at h12; omega
    | succ d ih =>
      intro k hk x hx
      refine bX4_sureBy_6.go rfl (by exact ⟨rfl, trivial⟩) ?_
      rw [enk]
      refine j_icmp_ge (tgt := 68) dX4_sureBy_12 (by decide) (fun h12 => ?_) (fun h12 => ?_)
      · simp (disch := omega) only [nI_leI] at h12; omega
      · refine bX4_sureBy_15.go rfl (by simp (disch := omega) only [vpI]; exact ⟨⟨trivial, by omega, sn, n, rfl, hsg⟩, trivial⟩) ?_
        simp (disch := omega) only [nI_clamp, en]
        rw [srF] at hx
        have nx : ∀ x', srF (fun k => agS (fun c m => A 32 (164 * k + 4 * m + c)) (B 39) sn n set) (fun k => A 32 (164 * k + 4 * m + c)) d (k + 1) x' = R0 → JS TP X mX4_sureBy (rmOf mX4_sureBy.lv 0 0) (TZ X (some (.int R0)) (o, ad, A, B)) 0 0 62 [some (.ref o), some (.int (nI sn)), some (.int set), some (.int (nI c)), some (.int (nI m)), some (.int x'), some (.int (nI k))] [] (o, ad, A, B) := by
          intro x' hx'
          refine bX4_sureBy_62.go rfl trivial ?_
          rw [nI_1]
          exact ih (k + 1) (by omega) x' hx'
        refine j_if_ne (tgt := 29) dX4_sureBy_23 (by decide) (fun h23 => ?_) (fun h23 => ?_)
        · rw [b2_n0] at h23
          rw [if_pos h23] at hx
          have m51 : ¬ (¬ x = -1 ∧ ¬ x = A 32 (164 * k + 4 * m + c)) → JS TP X mX4_sureBy (rmOf mX4_sureBy.lv 0 0) (TZ X (some (.int R0)) (o, ad, A, B)) 0 0 51 [some (.ref o), some (.int (nI sn)), some (.int set), some (.int (nI c)), some (.int (nI m)), some (.int x), some (.int (nI k))] [] (o, ad, A, B) := by
            intro hc2
            rw [if_neg hc2] at hx
            refine bX4_sureBy_51.go rfl (by simp (disch := omega) only [vpI]; exact ⟨⟨trivial, by omega, by omega, by omega⟩, trivial⟩) ?_
            simp (disch := omega) only [nI_clamp]
            exact nx _ hx
          refine bX4_sureBy_29.go rfl trivial ?_
          refine j_icmp_eq (tgt := 51) dX4_sureBy_32 (by decide) (fun h32 => m51 (fun h => h.1 h32)) (fun h32 => ?_)
          refine bX4_sureBy_35.go rfl (by simp (disch := omega) only [vpI]; exact ⟨⟨trivial, by omega, by omega, by omega⟩, trivial⟩) ?_
          simp (disch := omega) only [nI_clamp]
          refine j_icmp_eq (tgt := 51) dX4_sureBy_46 (by decide) (fun h46 => m51 (fun h => h.2 h46)) (fun h46 => ?_)
          rw [if_pos ⟨h32, h46⟩] at hx
          refine bX4_sureBy_49.go rfl trivial ?_
          exact t_iret dX4_sureBy_50 rfl (sv_int hx) rfl
        · rw [b2_0] at h23
          rw [if_neg (by rw [h23]; decide)] at hx
          refine bX4_sureBy_26.go rfl trivial ?_
          exact nx x hx
  exact lp nk 0 (by omega) (-1) hR
