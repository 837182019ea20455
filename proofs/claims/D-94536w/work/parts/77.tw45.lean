set_option maxRecDepth 100000
/-! ===== UnseenClockModel: shownIn, courses, among ===== -/
def F_shownIn (k c m : Int32) : Tau → Prop × Option Value × Tau := fun (o, ad, A, B) => (vp_in k 128 ∧ vp_in c 4 ∧ vp_in m 41, some (.int (A 32 (164 * k.toNatClampNeg + 4 * m.toNatClampNeg + c.toNatClampNeg))), (o, ad, A, B))
theorem bX4_shownIn_0 : Blk TP mX4_shownIn 0 16 [oAL 0, tR 32, oC (nI 164), oIL 1, oMul, oC (nI 4), oIL 3, oMul, oAdd, oIL 2, oAdd, tAI 32 20992] := blk_c (s_aload_n dX4_shownIn_0 rfl) <| blk_c (tgX4_32 rfl dX4_shownIn_1) <| blk_c (s_sipush dX4_shownIn_4 (by decide +kernel)) <| blk_c (s_iload_n dX4_shownIn_7 rfl) <| blk_c (s_imul dX4_shownIn_8) <| blk_c (s_iconst dX4_shownIn_9 (by decide +kernel)) <| blk_c (s_iload_n dX4_shownIn_10 rfl) <| blk_c (s_imul dX4_shownIn_11) <| blk_c (s_iadd dX4_shownIn_12) <| blk_c (s_iload_n dX4_shownIn_13 rfl) <| blk_c (s_iadd dX4_shownIn_14) <| blk_c (t_iald rfl dX4_shownIn_15) <| blk_nil
theorem ok_shownIn : TC_III mX4_shownIn F_shownIn := by
  intro X k c m ⟨o, ad, A, B⟩ P r y hF hP
  cases hF
  obtain ⟨h1, h2, h3⟩ := hP
  obtain ⟨k, hk, rfl⟩ := vp_in_of h1 (by decide)
  obtain ⟨c, hc, rfl⟩ := vp_in_of h2 (by decide)
  obtain ⟨m, hm, rfl⟩ := vp_in_of h3 (by decide)
  refine T_start (L := [some (.ref o), some (.int (nI k)), some (.int (nI c)), some (.int (nI m))]) 0 rfl ?_
  refine bX4_shownIn_0.go rfl (by simp (disch := omega) only [nI_add, pk_mul, vpI]; exact ⟨trivial, ⟨trivial, by omega⟩, trivial⟩) ?_
  exact t_iret dX4_shownIn_16 rfl (by simp (disch := omega) only [nI_add, pk_mul, nI_clamp]) rfl
def q_courses (w : Nat → Int32) : Int32 := if sqB w = true then (if cnC w ≤ 128 then nI (cnC w) else -3) else -2
theorem bX4_courses_0 : Blk TP mX4_courses 0 4 [oAL 0, tC_V F_isSquare] := blk_c (s_aload_n dX4_courses_0 rfl) <| blk_c (tc_V ok_isSquare gX4_isSquare (by decide +kernel) (by decide) dX4_courses_1) <| blk_nil
theorem bX4_courses_7 : Blk TP mX4_courses 7 9 [oC (-2)] := blk_c (s_bipush dX4_courses_7 (by decide +kernel)) <| blk_nil
theorem bX4_courses_10 : Blk TP mX4_courses 10 11 [oAL 0] := blk_c (s_aload_n dX4_courses_10 rfl) <| blk_nil
theorem bX4_courses_17 : Blk TP mX4_courses 17 26 [oAL 0, tI 34, .inl (fun s => some s)] := blk_c (s_aload_n dX4_courses_17 rfl) <| blk_c (tgX4_34 rfl dX4_courses_18) <| blk_c (s_goto (tgt := 26) dX4_courses_21 (by decide)) <| blk_nil
theorem bX4_courses_24 : Blk TP mX4_courses 24 26 [oC (-3)] := blk_c (s_bipush dX4_courses_24 (by decide +kernel)) <| blk_nil
theorem ok_courses : RC_V mX4_courses Pre_runs (fun A B => Qq (q_courses (A 1)) A B) := by
  intro X o ad A B hpre
  obtain ⟨v, hw⟩ := id hpre
  refine R_start (L := [some (.ref o)]) 0 rfl ?_
  refine bX4_courses_0.go rfl (by exact ⟨⟨rfl, trivial⟩, trivial⟩) ?_
  refine j_if_ne (tgt := 10) dX4_courses_4 (by decide) (fun h4 => ?_) (fun h4 => ?_)
  · rw [b2_n0] at h4
    have h4 : sqB (A 1) = true := h4
    refine bX4_courses_10.go rfl trivial ?_
    refine rc_V ok_fillCourses gX4_fillCourses dX4_courses_11 rfl hpre (fun r A1 B1 q => ?_)
    obtain ⟨rfl, hk, hc⟩ := q
    refine j_if_eq (tgt := 24) dX4_courses_14 (by decide) (fun h14 => ?_) (fun h14 => ?_)
    · rw [b2_0] at h14
      refine bX4_courses_24.go rfl trivial ?_
      exact r_iret dX4_courses_26 rfl ⟨ans (by rw [q_courses, if_pos h4, if_neg (of_decide_eq_false h14)]), hk⟩
    · rw [b2_n0] at h14
      have hn := of_decide_eq_true h14
      refine bX4_courses_17.go rfl (by exact ⟨rfl, trivial⟩) ?_
      exact r_iret dX4_courses_26 rfl ⟨ans (by rw [q_courses, if_pos h4, if_pos hn]; exact (hc hn v hw).1), hk⟩
  · rw [b2_0] at h4
    have h4 : ¬ sqB (A 1) = true := by rw [show sqB (A 1) = false from h4]; decide
    refine bX4_courses_7.go rfl trivial ?_
    exact r_iret dX4_courses_9 rfl ⟨ans (by rw [q_courses, if_neg h4]), Keeps2.rf⟩
def q_among (w : Nat → Int32) (c m h : Int32) : Int32 := if (cB w c && (tB w m && hB h)) = true then (if cnC w ≤ 128 then sumI (fun k => b2 (decide (shC w k c.toNatClampNeg m.toNatClampNeg = h))) (cnC w) else -3) else -2
theorem bX4_among_0 : Blk TP mX4_among 0 5 [oAL 0, oIL 1, tC_I F_isClock] := blk_c (s_aload_n dX4_among_0 rfl) <| blk_c (s_iload_n dX4_among_1 rfl) <| blk_c (tc_I ok_isClock gX4_isClock (by decide +kernel) (by decide) dX4_among_2) <| blk_nil
theorem bX4_among_8 : Blk TP mX4_among 8 13 [oAL 0, oIL 2, tC_I F_isTime] := blk_c (s_aload_n dX4_among_8 rfl) <| blk_c (s_iload_n dX4_among_9 rfl) <| blk_c (tc_I ok_isTime gX4_isTime (by decide +kernel) (by decide) dX4_among_10) <| blk_nil
theorem bX4_among_16 : Blk TP mX4_among 16 20 [oIL 3, tS_I F_isHour] := blk_c (s_iload_n dX4_among_16 rfl) <| blk_c (ts_I ok_isHour gX4_isHour (by decide +kernel) (by decide) dX4_among_17) <| blk_nil
theorem bX4_among_23 : Blk TP mX4_among 23 25 [oC (-2)] := blk_c (s_bipush dX4_among_23 (by decide +kernel)) <| blk_nil
theorem bX4_among_26 : Blk TP mX4_among 26 27 [oAL 0] := blk_c (s_aload_n dX4_among_26 rfl) <| blk_nil
theorem bX4_among_33 : Blk TP mX4_among 33 35 [oC (-3)] := blk_c (s_bipush dX4_among_33 (by decide +kernel)) <| blk_nil
theorem bX4_among_36 : Blk TP mX4_among 36 42 [oC (nI 0), oIS 4, oC (nI 0), oIS 5] := blk_c (s_iconst dX4_among_36 (by decide +kernel)) <| blk_c (s_istore dX4_among_37 (by decide)) <| blk_c (s_iconst dX4_among_39 (by decide +kernel)) <| blk_c (s_istore dX4_among_40 (by decide)) <| blk_nil
theorem bX4_among_42 : Blk TP mX4_among 42 48 [oIL 5, oAL 0, tI 34] := blk_c (s_iload dX4_among_42) <| blk_c (s_aload_n dX4_among_44 rfl) <| blk_c (tgX4_34 rfl dX4_among_45) <| blk_nil
theorem bX4_among_51 : Blk TP mX4_among 51 62 [oIL 4, oAL 0, oIL 5, oIL 1, oIL 2, tC_III F_shownIn, oIL 3] := blk_c (s_iload dX4_among_51) <| blk_c (s_aload_n dX4_among_53 rfl) <| blk_c (s_iload dX4_among_54) <| blk_c (s_iload_n dX4_among_56 rfl) <| blk_c (s_iload_n dX4_among_57 rfl) <| blk_c (tc_III ok_shownIn gX4_shownIn (by decide +kernel) (by decide) dX4_among_58) <| blk_c (s_iload_n dX4_among_61 rfl) <| blk_nil
theorem bX4_among_65 : Blk TP mX4_among 65 70 [oC (nI 1), .inl (fun s => some s)] := blk_c (s_iconst dX4_among_65 (by decide +kernel)) <| blk_c (s_goto (tgt := 70) dX4_among_66 (by decide)) <| blk_nil
theorem bX4_among_69 : Blk TP mX4_among 69 70 [oC (nI 0)] := blk_c (s_iconst dX4_among_69 (by decide +kernel)) <| blk_nil
theorem bX4_among_70 : Blk TP mX4_among 70 42 [oAdd, oIS 4, oInc 5 1, .inl (fun s => some s)] := blk_c (s_iadd dX4_among_70) <| blk_c (s_istore dX4_among_71 (by decide)) <| blk_c (s_iinc dX4_among_73 (by decide +kernel) (by decide)) <| blk_c (s_goto (tgt := 42) dX4_among_76 (by decide)) <| blk_nil
theorem bX4_among_79 : Blk TP mX4_among 79 81 [oIL 4] := blk_c (s_iload dX4_among_79) <| blk_nil
theorem ok_among : RC_III mX4_among (fun _ _ _ A B => Pre_runs A B) (fun c m h A B => Qq (q_among (A 1) c m h) A B) := by
  intro X c m h o ad A B hpre
  obtain ⟨v, hw⟩ := id hpre
  have h6 : v 6 ≤ 40 := hw.2.2.2.2.2.2.2.1
  have h4 : v 1 ≤ 4 := hw.2.2.1
  have main : (cB (A 1) c && (tB (A 1) m && hB h)) = true → JS TP X mX4_among (rmOf mX4_among.lv 0 0) (ZR X o ad (Qq (q_among (A 1) c m h) A B)) 0 0 26 [some (.ref o), some (.int c), some (.int m), some (.int h), none, none] [] (o, ad, A, B) := by
    intro hg
    rw [q_among, if_pos hg]
    simp only [Bool.and_eq_true] at hg
    obtain ⟨cn, hc, rfl⟩ := hw.cOf hg.1
    obtain ⟨mn, hm, rfl⟩ := hw.tOf hg.2.1
    rw [nI_clamp (show cn < 2 ^ 31 by omega), nI_clamp (show mn < 2 ^ 31 by omega)]
    refine bX4_among_26.go rfl trivial ?_
    refine rc_V ok_fillCourses gX4_fillCourses dX4_among_27 rfl hpre (fun r A1 B1 q => ?_)
    obtain ⟨rfl, hk, hq⟩ := q
    refine j_if_ne (tgt := 36) dX4_among_30 (by decide) (fun h30 => ?_) (fun h30 => ?_)
    · rw [b2_n0] at h30
      have hn := of_decide_eq_true h30
      have hC := hq hn v hw
      rw [if_pos hn]
      refine bX4_among_36.go rfl trivial ?_
      refine loop_down (N := cnC (A 1)) (I := fun _ => True) (P := fun k => JS TP X mX4_among (rmOf mX4_among.lv 0 0) (ZR X o ad (Qq (sumI (fun k => b2 (decide (shC (A 1) k cn mn = h))) (cnC (A 1))) A B)) 0 0 42 [some (.ref o), some (.int (nI cn)), some (.int (nI mn)), some (.int h), some (.int (sumI (fun k => b2 (decide (shC (A 1) k cn mn = h))) k)), some (.int (nI k))] [] (o, ad, A1, B1)) ?_ ?_ 0 (Nat.zero_le _) trivial
      · intro _
        refine bX4_among_42.go rfl (by exact ⟨rfl, trivial⟩) ?_
        rw [hC.1]
        refine j_icmp_ge (tgt := 79) dX4_among_48 (by decide) (fun h48 => ?_) (fun h48 => absurd (nI_le (Nat.le_refl _) (by omega)) h48)
        refine bX4_among_79.go rfl trivial ?_
        exact r_iret dX4_among_81 rfl ⟨rfl, hk⟩
      · intro k hkn _ ih
        refine bX4_among_42.go rfl (by exact ⟨rfl, trivial⟩) ?_
        rw [hC.1]
        refine j_icmp_ge (tgt := 79) dX4_among_48 (by decide) (fun h48 => ?_) (fun h48 => ?_)
        · simp (disch := omega) only [nI_leI] at h48; omega
        · refine bX4_among_51.go rfl (by simp (disch := omega) only [vpI]; exact ⟨⟨trivial, by omega, by omega, by omega⟩, trivial⟩) ?_
          simp (disch := omega) only [nI_clamp]
          rw [(hC.2 k hkn).1 mn hm cn hc]
          have jn : ∀ z, z = b2 (decide (shC (A 1) k cn mn = h)) → JS TP X mX4_among (rmOf mX4_among.lv 0 0) (ZR X o ad (Qq (sumI (fun k => b2 (decide (shC (A 1) k cn mn = h))) (cnC (A 1))) A B)) 0 0 70 [some (.ref o), some (.int (nI cn)), some (.int (nI mn)), some (.int h), some (.int (sumI (fun k => b2 (decide (shC (A 1) k cn mn = h))) k)), some (.int (nI k))] [.int z, .int (sumI (fun k => b2 (decide (shC (A 1) k cn mn = h))) k)] (o, ad, A1, B1) := by
            intro z hz
            subst hz
            refine bX4_among_70.go rfl trivial ?_
            rw [nI_1]
            exact ih trivial
          refine j_icmp_ne (tgt := 69) dX4_among_62 (by decide) (fun h62 => ?_) (fun h62 => ?_)
          · refine bX4_among_69.go rfl trivial ?_
            exact jn _ (b2_f (decide_eq_false h62))
          · refine bX4_among_65.go rfl trivial ?_
            exact jn _ (b2_t (decide_eq_true h62))
    · rw [b2_0] at h30
      refine bX4_among_33.go rfl trivial ?_
      exact r_iret dX4_among_35 rfl ⟨ans (by rw [if_neg (of_decide_eq_false h30)]), hk⟩
  refine R_start (L := [some (.ref o), some (.int c), some (.int m), some (.int h), none, none]) 2 rfl ?_
  refine bX4_among_0.go rfl (by first | exact ⟨⟨rfl, trivial⟩, trivial⟩ | exact ⟨trivial, trivial⟩) ?_
  refine j_if_eq (tgt := 23) dX4_among_5 (by decide) (fun h5 => ?_) (fun h5 => ?_)
  · refine bX4_among_23.go rfl trivial ?_
    refine r_iret dX4_among_25 rfl ?_
    exact ⟨ans (by clear main; simp only [b2_0, b2_n0] at *; simp_all [q_among, cB, tB, hB]), Keeps2.rf⟩
  · refine bX4_among_8.go rfl (by first | exact ⟨⟨rfl, trivial⟩, trivial⟩ | exact ⟨trivial, trivial⟩) ?_
    refine j_if_eq (tgt := 23) dX4_among_13 (by decide) (fun h13 => ?_) (fun h13 => ?_)
    · refine bX4_among_23.go rfl trivial ?_
      refine r_iret dX4_among_25 rfl ?_
      exact ⟨ans (by clear main; simp only [b2_0, b2_n0] at *; simp_all [q_among, cB, tB, hB]), Keeps2.rf⟩
    · refine bX4_among_16.go rfl (by first | exact ⟨⟨rfl, trivial⟩, trivial⟩ | exact ⟨trivial, trivial⟩) ?_
      refine j_if_ne (tgt := 26) dX4_among_20 (by decide) (fun h20 => ?_) (fun h20 => ?_)
      · exact main (by clear main; simp only [b2_0, b2_n0] at *; simp_all [cB, tB, hB])
      · refine bX4_among_23.go rfl trivial ?_
        refine r_iret dX4_among_25 rfl ?_
        exact ⟨ans (by clear main; simp only [b2_0, b2_n0] at *; simp_all [q_among, cB, tB, hB]), Keeps2.rf⟩
