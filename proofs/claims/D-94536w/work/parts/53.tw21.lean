set_option maxRecDepth 100000
/-! ===== UnseenClockModel: areTwo, meets, spots ===== -/
def twoB (w : Nat → Int32) (p o : Int32) : Bool := pB w p && (pB w o && !decide (p = o))
def F_areTwo (p q : Int32) : Tau → Prop × Option Value × Tau := fun (o, ad, A, B) => (True, some (.int (b2 (twoB (A 1) p q))), (o, ad, A, B))
theorem bX4_areTwo_0 : Blk TP mX4_areTwo 0 5 [oAL 0, oIL 1, tC_I F_isPerson] := blk_c (s_aload_n dX4_areTwo_0 rfl) <| blk_c (s_iload_n dX4_areTwo_1 rfl) <| blk_c (tc_I ok_isPerson gX4_isPerson (by decide +kernel) (by decide) dX4_areTwo_2) <| blk_nil
theorem bX4_areTwo_8 : Blk TP mX4_areTwo 8 13 [oAL 0, oIL 2, tC_I F_isPerson] := blk_c (s_aload_n dX4_areTwo_8 rfl) <| blk_c (s_iload_n dX4_areTwo_9 rfl) <| blk_c (tc_I ok_isPerson gX4_isPerson (by decide +kernel) (by decide) dX4_areTwo_10) <| blk_nil
theorem bX4_areTwo_16 : Blk TP mX4_areTwo 16 18 [oIL 1, oIL 2] := blk_c (s_iload_n dX4_areTwo_16 rfl) <| blk_c (s_iload_n dX4_areTwo_17 rfl) <| blk_nil
theorem bX4_areTwo_21 : Blk TP mX4_areTwo 21 26 [oC (nI 1), .inl (fun s => some s)] := blk_c (s_iconst dX4_areTwo_21 (by decide +kernel)) <| blk_c (s_goto (tgt := 26) dX4_areTwo_22 (by decide)) <| blk_nil
theorem bX4_areTwo_25 : Blk TP mX4_areTwo 25 26 [oC (nI 0)] := blk_c (s_iconst dX4_areTwo_25 (by decide +kernel)) <| blk_nil
theorem ok_areTwo : TC_II mX4_areTwo F_areTwo := by
  intro X p q ⟨o, ad, A, B⟩ P r y hF _
  cases hF
  refine T_start (L := [some (.ref o), some (.int p), some (.int q)]) 0 rfl ?_
  refine bX4_areTwo_0.go rfl (by exact ⟨⟨rfl, trivial⟩, trivial⟩) ?_
  refine j_if_eq (tgt := 25) dX4_areTwo_5 (by decide) (fun h5 => ?_) (fun h5 => ?_)
  · refine bX4_areTwo_25.go rfl trivial ?_
    exact t_zret dX4_areTwo_26 rfl (by first | rfl | (simp only [b2_0, b2_n0] at *; first | exact sv_int (b2_t (by simp_all [twoB, pB])) | exact sv_int (b2_f (by simp_all [twoB, pB])))) (by first | rfl | (simp only [b2_0, b2_n0] at *; first | exact sv_int (b2_t (by simp_all [twoB, pB])) | exact sv_int (b2_f (by simp_all [twoB, pB])))) (by first | rfl | (simp only [b2_0, b2_n0] at *; first | exact sv_int (b2_t (by simp_all [twoB, pB])) | exact sv_int (b2_f (by simp_all [twoB, pB]))))
  · refine bX4_areTwo_8.go rfl (by exact ⟨⟨rfl, trivial⟩, trivial⟩) ?_
    refine j_if_eq (tgt := 25) dX4_areTwo_13 (by decide) (fun h13 => ?_) (fun h13 => ?_)
    · refine bX4_areTwo_25.go rfl trivial ?_
      exact t_zret dX4_areTwo_26 rfl (by first | rfl | (simp only [b2_0, b2_n0] at *; first | exact sv_int (b2_t (by simp_all [twoB, pB])) | exact sv_int (b2_f (by simp_all [twoB, pB])))) (by first | rfl | (simp only [b2_0, b2_n0] at *; first | exact sv_int (b2_t (by simp_all [twoB, pB])) | exact sv_int (b2_f (by simp_all [twoB, pB])))) (by first | rfl | (simp only [b2_0, b2_n0] at *; first | exact sv_int (b2_t (by simp_all [twoB, pB])) | exact sv_int (b2_f (by simp_all [twoB, pB]))))
    · refine bX4_areTwo_16.go rfl trivial ?_
      refine j_icmp_eq (tgt := 25) dX4_areTwo_18 (by decide) (fun h18 => ?_) (fun h18 => ?_)
      · refine bX4_areTwo_25.go rfl trivial ?_
        exact t_zret dX4_areTwo_26 rfl (by first | rfl | (simp only [b2_0, b2_n0] at *; first | exact sv_int (b2_t (by simp_all [twoB, pB])) | exact sv_int (b2_f (by simp_all [twoB, pB])))) (by first | rfl | (simp only [b2_0, b2_n0] at *; first | exact sv_int (b2_t (by simp_all [twoB, pB])) | exact sv_int (b2_f (by simp_all [twoB, pB])))) (by first | rfl | (simp only [b2_0, b2_n0] at *; first | exact sv_int (b2_t (by simp_all [twoB, pB])) | exact sv_int (b2_f (by simp_all [twoB, pB]))))
      · refine bX4_areTwo_21.go rfl trivial ?_
        exact t_zret dX4_areTwo_26 rfl (by first | rfl | (simp only [b2_0, b2_n0] at *; first | exact sv_int (b2_t (by simp_all [twoB, pB])) | exact sv_int (b2_f (by simp_all [twoB, pB])))) (by first | rfl | (simp only [b2_0, b2_n0] at *; first | exact sv_int (b2_t (by simp_all [twoB, pB])) | exact sv_int (b2_f (by simp_all [twoB, pB])))) (by first | rfl | (simp only [b2_0, b2_n0] at *; first | exact sv_int (b2_t (by simp_all [twoB, pB])) | exact sv_int (b2_f (by simp_all [twoB, pB]))))
def metB (w : Nat → Int32) (p o m : Nat) : Bool := !decide (eX (spotF w p m) = -1) && (!decide (eX (spotF w o m) = -1) && (!decide (nI 2 ≤ absI (eX (spotF w p m) - eX (spotF w o m))) && !decide (nI 2 ≤ absI (eY (spotF w p m) - eY (spotF w o m)))))
def q_meets (w : Nat → Int32) (p o : Int32) : Int32 := if twoB w p o = true then sumI (fun m => b2 (metB w p.toNatClampNeg o.toNatClampNeg m)) (spanW w) else -2
theorem bX4_meets_0 : Blk TP mX4_meets 0 6 [oAL 0, oIL 1, oIL 2, tC_II F_areTwo] := blk_c (s_aload_n dX4_meets_0 rfl) <| blk_c (s_iload_n dX4_meets_1 rfl) <| blk_c (s_iload_n dX4_meets_2 rfl) <| blk_c (tc_II ok_areTwo gX4_areTwo (by decide +kernel) (by decide) dX4_meets_3) <| blk_nil
theorem bX4_meets_9 : Blk TP mX4_meets 9 11 [oC (-2)] := blk_c (s_bipush dX4_meets_9 (by decide +kernel)) <| blk_nil
theorem bX4_meets_12 : Blk TP mX4_meets 12 14 [oAL 0, oIL 1] := blk_c (s_aload_n dX4_meets_12 rfl) <| blk_c (s_iload_n dX4_meets_13 rfl) <| blk_nil
theorem bX4_meets_17 : Blk TP mX4_meets 17 19 [oAL 0, oIL 2] := blk_c (s_aload_n dX4_meets_17 rfl) <| blk_c (s_iload_n dX4_meets_18 rfl) <| blk_nil
theorem bX4_meets_22 : Blk TP mX4_meets 22 27 [oC (nI 0), oIS 3, oC (nI 0), oIS 4] := blk_c (s_iconst dX4_meets_22 (by decide +kernel)) <| blk_c (s_istore_n dX4_meets_23 rfl (by decide)) <| blk_c (s_iconst dX4_meets_24 (by decide +kernel)) <| blk_c (s_istore dX4_meets_25 (by decide)) <| blk_nil
theorem bX4_meets_27 : Blk TP mX4_meets 27 36 [oIL 4, oAL 0, tR 1, oC (nI 6), tAI 1 320] := blk_c (s_iload dX4_meets_27) <| blk_c (s_aload_n dX4_meets_29 rfl) <| blk_c (tgX4_1 rfl dX4_meets_30) <| blk_c (s_bipush dX4_meets_33 (by decide +kernel)) <| blk_c (t_iald rfl dX4_meets_35) <| blk_nil
theorem bX4_meets_39 : Blk TP mX4_meets 39 66 [oC (nI 40), oIL 1, oMul, oIL 4, oAdd, oIS 5, oC (nI 40), oIL 2, oMul, oIL 4, oAdd, oIS 6, oIL 3, oAL 0, tR 15, oIL 5, tAI 15 320, oC (-1)] := blk_c (s_bipush dX4_meets_39 (by decide +kernel)) <| blk_c (s_iload_n dX4_meets_41 rfl) <| blk_c (s_imul dX4_meets_42) <| blk_c (s_iload dX4_meets_43) <| blk_c (s_iadd dX4_meets_45) <| blk_c (s_istore dX4_meets_46 (by decide)) <| blk_c (s_bipush dX4_meets_48 (by decide +kernel)) <| blk_c (s_iload_n dX4_meets_50 rfl) <| blk_c (s_imul dX4_meets_51) <| blk_c (s_iload dX4_meets_52) <| blk_c (s_iadd dX4_meets_54) <| blk_c (s_istore dX4_meets_55 (by decide)) <| blk_c (s_iload_n dX4_meets_57 rfl) <| blk_c (s_aload_n dX4_meets_58 rfl) <| blk_c (tgX4_15 rfl dX4_meets_59) <| blk_c (s_iload dX4_meets_62) <| blk_c (t_iald rfl dX4_meets_64) <| blk_c (s_iconst dX4_meets_65 (by decide +kernel)) <| blk_nil
theorem bX4_meets_69 : Blk TP mX4_meets 69 77 [oAL 0, tR 15, oIL 6, tAI 15 320, oC (-1)] := blk_c (s_aload_n dX4_meets_69 rfl) <| blk_c (tgX4_15 rfl dX4_meets_70) <| blk_c (s_iload dX4_meets_73) <| blk_c (t_iald rfl dX4_meets_75) <| blk_c (s_iconst dX4_meets_76 (by decide +kernel)) <| blk_nil
theorem bX4_meets_80 : Blk TP mX4_meets 80 99 [oAL 0, tR 15, oIL 5, tAI 15 320, oAL 0, tR 15, oIL 6, tAI 15 320, oSub, tS_I F_Mabs, oC (nI 2)] := blk_c (s_aload_n dX4_meets_80 rfl) <| blk_c (tgX4_15 rfl dX4_meets_81) <| blk_c (s_iload dX4_meets_84) <| blk_c (t_iald rfl dX4_meets_86) <| blk_c (s_aload_n dX4_meets_87 rfl) <| blk_c (tgX4_15 rfl dX4_meets_88) <| blk_c (s_iload dX4_meets_91) <| blk_c (t_iald rfl dX4_meets_93) <| blk_c (s_isub dX4_meets_94) <| blk_c (ts_I ok_Mabs gJ3_abs_X4 (by decide +kernel) (by decide) dX4_meets_95) <| blk_c (s_iconst dX4_meets_98 (by decide +kernel)) <| blk_nil
theorem bX4_meets_102 : Blk TP mX4_meets 102 121 [oAL 0, tR 16, oIL 5, tAI 16 320, oAL 0, tR 16, oIL 6, tAI 16 320, oSub, tS_I F_Mabs, oC (nI 2)] := blk_c (s_aload_n dX4_meets_102 rfl) <| blk_c (tgX4_16 rfl dX4_meets_103) <| blk_c (s_iload dX4_meets_106) <| blk_c (t_iald rfl dX4_meets_108) <| blk_c (s_aload_n dX4_meets_109 rfl) <| blk_c (tgX4_16 rfl dX4_meets_110) <| blk_c (s_iload dX4_meets_113) <| blk_c (t_iald rfl dX4_meets_115) <| blk_c (s_isub dX4_meets_116) <| blk_c (ts_I ok_Mabs gJ3_abs_X4 (by decide +kernel) (by decide) dX4_meets_117) <| blk_c (s_iconst dX4_meets_120 (by decide +kernel)) <| blk_nil
theorem bX4_meets_124 : Blk TP mX4_meets 124 129 [oC (nI 1), .inl (fun s => some s)] := blk_c (s_iconst dX4_meets_124 (by decide +kernel)) <| blk_c (s_goto (tgt := 129) dX4_meets_125 (by decide)) <| blk_nil
theorem bX4_meets_128 : Blk TP mX4_meets 128 129 [oC (nI 0)] := blk_c (s_iconst dX4_meets_128 (by decide +kernel)) <| blk_nil
theorem bX4_meets_129 : Blk TP mX4_meets 129 27 [oAdd, oIS 3, oInc 4 1, .inl (fun s => some s)] := blk_c (s_iadd dX4_meets_129) <| blk_c (s_istore_n dX4_meets_130 rfl (by decide)) <| blk_c (s_iinc dX4_meets_131 (by decide +kernel) (by decide)) <| blk_c (s_goto (tgt := 27) dX4_meets_134 (by decide)) <| blk_nil
theorem bX4_meets_137 : Blk TP mX4_meets 137 138 [oIL 3] := blk_c (s_iload_n dX4_meets_137 rfl) <| blk_nil
theorem ok_meets : RC_II mX4_meets (fun _ _ A B => Pre_runs A B) (fun p q A B => Qq (q_meets (A 1) p q) A B) := by
  intro X p q o ad A B hpre
  obtain ⟨v, hw⟩ := id hpre
  have h6 : v 6 ≤ 40 := hw.2.2.2.2.2.2.2.1
  have h8 : v 2 ≤ 8 := hw.2.2.2.1
  have e6 : A 1 6 = nI (v 6) := hw.1 6 (by decide)
  have main : twoB (A 1) p q = true → JS TP X mX4_meets (rmOf mX4_meets.lv 0 0) (ZR X o ad (Qq (q_meets (A 1) p q) A B)) 0 0 12 [some (.ref o), some (.int p), some (.int q), none, none, none, none] [] (o, ad, A, B) := by
    intro hg
    rw [q_meets, if_pos hg, hw.span]
    simp only [twoB, Bool.and_eq_true, Bool.not_eq_true', decide_eq_false_iff_not] at hg
    obtain ⟨pn, hp, rfl⟩ := hw.pOf hg.1
    obtain ⟨qn, hq, rfl⟩ := hw.pOf hg.2.1
    have hne : pn ≠ qn := fun e => hg.2.2 (by rw [e])
    rw [nI_clamp (by omega), nI_clamp (by omega)]
    refine bX4_meets_12.go rfl trivial ?_
    refine rc_I ok_fillSpots gX4_fillSpots dX4_meets_14 rfl ⟨pn, v, rfl, hw, hp⟩ (fun r A1 B1 q => ?_)
    obtain ⟨rfl, hB, hS⟩ := q
    have hB := hB.symm; subst hB
    rw [nI_clamp (by omega)] at hS
    have hk : Keeps2 A B A1 B := hS.keeps
    refine bX4_meets_17.go rfl trivial ?_
    refine rc_I ok_fillSpots gX4_fillSpots dX4_meets_19 rfl ⟨qn, v, rfl, by rw [hk.1]; exact hw, hq⟩ (fun r A2 B2 q => ?_)
    obtain ⟨rfl, hB, hS2⟩ := q
    have hB := hB.symm; subst hB
    rw [nI_clamp (by omega), hk.1] at hS2
    have hk2 : Keeps2 A B A2 B := hk.trans hS2.keeps
    have sx1 : ∀ t, t < 40 → A2 15 (40 * pn + t) = eX (spotF (A 1) pn t) := fun t ht => by rw [(hS2.2.1 _ (by omega)).1, (hS.2.2 t ht).1]
    have sy1 : ∀ t, t < 40 → A2 16 (40 * pn + t) = eY (spotF (A 1) pn t) := fun t ht => by rw [(hS2.2.1 _ (by omega)).2, (hS.2.2 t ht).2]
    have sx2 : ∀ t, t < 40 → A2 15 (40 * qn + t) = eX (spotF (A 1) qn t) := fun t ht => (hS2.2.2 t ht).1
    have sy2 : ∀ t, t < 40 → A2 16 (40 * qn + t) = eY (spotF (A 1) qn t) := fun t ht => (hS2.2.2 t ht).2
    refine bX4_meets_22.go rfl trivial ?_
    refine loop_down (N := v 6) (I := fun _ => True) (P := fun t => JS TP X mX4_meets (rmOf mX4_meets.lv 0 0) _ 0 0 27 [some (.ref o), some (.int (nI pn)), some (.int (nI qn)), some (.int (sumI (fun m => b2 (metB (A 1) pn qn m)) t)), some (.int (nI t)), none, none] [] (o, ad, A2, B)) ?_ ?_ 0 (by omega) trivial
    · intro _
      refine bX4_meets_27.go rfl ⟨rfl, ⟨rfl, vp_in_nI (by decide) (by decide)⟩, trivial⟩ ?_
      refine j_icmp_ge (tgt := 137) dX4_meets_36 (by decide) (fun h36 => ?_) (fun h36 => ?_)
      · refine bX4_meets_137.go rfl trivial ?_
        exact r_iret dX4_meets_138 rfl ⟨rfl, hk2⟩
      · simp (disch := omega) only [nI_clamp, hk2.1, e6, nI_leI] at h36; omega
    · intro t ht _ ih
      have j129 : ∀ z, z = b2 (metB (A 1) pn qn t) → JS TP X mX4_meets (rmOf mX4_meets.lv 0 0) (ZR X o ad (Qq (sumI (fun m => b2 (metB (A 1) pn qn m)) (v 6)) A B)) 0 0 129 [some (.ref o), some (.int (nI pn)), some (.int (nI qn)), some (.int (sumI (fun m => b2 (metB (A 1) pn qn m)) t)), some (.int (nI t)), some (.int (nI (40 * pn + t))), some (.int (nI (40 * qn + t)))] [.int z, .int (sumI (fun m => b2 (metB (A 1) pn qn m)) t)] (o, ad, A2, B) := by
        intro z hz
        subst hz
        refine bX4_meets_129.go rfl trivial ?_
        rw [nI_1]
        exact JS.weak (by simp [lsub, sumI]) (ih trivial)
      refine bX4_meets_27.go rfl ⟨rfl, ⟨rfl, vp_in_nI (by decide) (by decide)⟩, trivial⟩ ?_
      refine j_icmp_ge (tgt := 137) dX4_meets_36 (by decide) (fun h36 => ?_) (fun h36 => ?_)
      · simp (disch := omega) only [nI_clamp, hk2.1, e6, nI_leI] at h36; omega
      · refine bX4_meets_39.go rfl (by simp (disch := omega) only [nI_add, pk_mul, vpI]; exact ⟨trivial, ⟨trivial, by omega⟩, trivial⟩) ?_
        simp (disch := omega) only [nI_add, pk_mul, nI_clamp, sx1]
        refine j_icmp_eq (tgt := 128) dX4_meets_66 (by decide) (fun h66 => ?_) (fun h66 => ?_)
        · refine bX4_meets_128.go rfl trivial ?_
          exact j129 _ (b2_f (by simp [metB, h66]))
        · refine bX4_meets_69.go rfl (by simp (disch := omega) only [vpI]; exact ⟨trivial, ⟨trivial, by omega⟩, trivial⟩) ?_
          simp (disch := omega) only [nI_clamp, sx2]
          refine j_icmp_eq (tgt := 128) dX4_meets_77 (by decide) (fun h77 => ?_) (fun h77 => ?_)
          · refine bX4_meets_128.go rfl trivial ?_
            exact j129 _ (b2_f (by simp [metB, h77]))
          · refine bX4_meets_80.go rfl (by simp (disch := omega) only [vpI]; exact ⟨trivial, ⟨trivial, by omega⟩, trivial, ⟨trivial, by omega⟩, trivial, trivial⟩) ?_
            simp (disch := omega) only [nI_clamp, sx1, sx2]
            refine j_icmp_ge (tgt := 128) dX4_meets_99 (by decide) (fun h99 => ?_) (fun h99 => ?_)
            · refine bX4_meets_128.go rfl trivial ?_
              exact j129 _ (b2_f (by simp [metB, h99]))
            · refine bX4_meets_102.go rfl (by simp (disch := omega) only [vpI]; exact ⟨trivial, ⟨trivial, by omega⟩, trivial, ⟨trivial, by omega⟩, trivial, trivial⟩) ?_
              simp (disch := omega) only [nI_clamp, sy1, sy2]
              refine j_icmp_ge (tgt := 128) dX4_meets_121 (by decide) (fun h121 => ?_) (fun h121 => ?_)
              · refine bX4_meets_128.go rfl trivial ?_
                exact j129 _ (b2_f (by simp [metB, h121]))
              · refine bX4_meets_124.go rfl trivial ?_
                exact j129 _ (b2_t (by rw [metB, decide_eq_false h66, decide_eq_false h77, decide_eq_false h99, decide_eq_false h121]; rfl))
  refine R_start (L := [some (.ref o), some (.int p), some (.int q), none, none, none, none]) 4 rfl ?_
  refine bX4_meets_0.go rfl (by exact ⟨⟨rfl, trivial⟩, trivial⟩) ?_
  refine j_if_ne (tgt := 12) dX4_meets_6 (by decide) (fun h6 => ?_) (fun h6 => ?_)
  · exact main (by clear main; simp only [b2_0, b2_n0] at *; simp_all)
  · refine bX4_meets_9.go rfl trivial ?_
    refine r_iret dX4_meets_11 rfl ?_
    exact ⟨ans (by clear main; simp only [b2_0, b2_n0] at *; simp_all [q_meets]), Keeps2.rf⟩
def spB (w : Nat → Int32) (c a b : Nat) : Bool := freeB w (nI a) (nI b) && seesB w (nI a) (nI b) c
def q_spots (w : Nat → Int32) (c : Int32) : Int32 := if cB w c = true then sumI (fun a => sumI (fun b => b2 (spB w c.toNatClampNeg a b)) (w 5).toNatClampNeg) (w 4).toNatClampNeg else -2
theorem bX4_spots_0 : Blk TP mX4_spots 0 5 [oAL 0, oIL 1, tC_I F_isClock] := blk_c (s_aload_n dX4_spots_0 rfl) <| blk_c (s_iload_n dX4_spots_1 rfl) <| blk_c (tc_I ok_isClock gX4_isClock (by decide +kernel) (by decide) dX4_spots_2) <| blk_nil
theorem bX4_spots_8 : Blk TP mX4_spots 8 10 [oC (-2)] := blk_c (s_bipush dX4_spots_8 (by decide +kernel)) <| blk_nil
theorem bX4_spots_11 : Blk TP mX4_spots 11 15 [oC (nI 0), oIS 2, oC (nI 0), oIS 3] := blk_c (s_iconst dX4_spots_11 (by decide +kernel)) <| blk_c (s_istore_n dX4_spots_12 rfl (by decide)) <| blk_c (s_iconst dX4_spots_13 (by decide +kernel)) <| blk_c (s_istore_n dX4_spots_14 rfl (by decide)) <| blk_nil
theorem bX4_spots_15 : Blk TP mX4_spots 15 22 [oIL 3, oAL 0, tR 1, oC (nI 4), tAI 1 320] := blk_c (s_iload_n dX4_spots_15 rfl) <| blk_c (s_aload_n dX4_spots_16 rfl) <| blk_c (tgX4_1 rfl dX4_spots_17) <| blk_c (s_iconst dX4_spots_20 (by decide +kernel)) <| blk_c (t_iald rfl dX4_spots_21) <| blk_nil
theorem bX4_spots_25 : Blk TP mX4_spots 25 28 [oC (nI 0), oIS 4] := blk_c (s_iconst dX4_spots_25 (by decide +kernel)) <| blk_c (s_istore dX4_spots_26 (by decide)) <| blk_nil
theorem bX4_spots_28 : Blk TP mX4_spots 28 36 [oIL 4, oAL 0, tR 1, oC (nI 5), tAI 1 320] := blk_c (s_iload dX4_spots_28) <| blk_c (s_aload_n dX4_spots_30 rfl) <| blk_c (tgX4_1 rfl dX4_spots_31) <| blk_c (s_iconst dX4_spots_34 (by decide +kernel)) <| blk_c (t_iald rfl dX4_spots_35) <| blk_nil
theorem bX4_spots_39 : Blk TP mX4_spots 39 47 [oIL 2, oAL 0, oIL 3, oIL 4, tC_II F_isFree] := blk_c (s_iload_n dX4_spots_39 rfl) <| blk_c (s_aload_n dX4_spots_40 rfl) <| blk_c (s_iload_n dX4_spots_41 rfl) <| blk_c (s_iload dX4_spots_42) <| blk_c (tc_II ok_isFree gX4_isFree (by decide +kernel) (by decide) dX4_spots_44) <| blk_nil
theorem bX4_spots_50 : Blk TP mX4_spots 50 58 [oAL 0, oIL 3, oIL 4, oIL 1, tC_III F_seesFrom] := blk_c (s_aload_n dX4_spots_50 rfl) <| blk_c (s_iload_n dX4_spots_51 rfl) <| blk_c (s_iload dX4_spots_52) <| blk_c (s_iload_n dX4_spots_54 rfl) <| blk_c (tc_III ok_seesFrom gX4_seesFrom (by decide +kernel) (by decide) dX4_spots_55) <| blk_nil
theorem bX4_spots_61 : Blk TP mX4_spots 61 66 [oC (nI 1), .inl (fun s => some s)] := blk_c (s_iconst dX4_spots_61 (by decide +kernel)) <| blk_c (s_goto (tgt := 66) dX4_spots_62 (by decide)) <| blk_nil
theorem bX4_spots_65 : Blk TP mX4_spots 65 66 [oC (nI 0)] := blk_c (s_iconst dX4_spots_65 (by decide +kernel)) <| blk_nil
theorem bX4_spots_66 : Blk TP mX4_spots 66 28 [oAdd, oIS 2, oInc 4 1, .inl (fun s => some s)] := blk_c (s_iadd dX4_spots_66) <| blk_c (s_istore_n dX4_spots_67 rfl (by decide)) <| blk_c (s_iinc dX4_spots_68 (by decide +kernel) (by decide)) <| blk_c (s_goto (tgt := 28) dX4_spots_71 (by decide)) <| blk_nil
theorem bX4_spots_74 : Blk TP mX4_spots 74 15 [oInc 3 1, .inl (fun s => some s)] := blk_c (s_iinc dX4_spots_74 (by decide +kernel) (by decide)) <| blk_c (s_goto (tgt := 15) dX4_spots_77 (by decide)) <| blk_nil
theorem bX4_spots_80 : Blk TP mX4_spots 80 81 [oIL 2] := blk_c (s_iload_n dX4_spots_80 rfl) <| blk_nil
theorem ok_spots : RC_I mX4_spots (fun _ A B => Pre_runs A B) (fun c A B => Qq (q_spots (A 1) c) A B) := by
  intro X c o ad A B hpre
  obtain ⟨v, hw⟩ := id hpre
  have h4 : v 1 ≤ 4 := hw.2.2.1
  have hx : v 4 ≤ 12 := hw.2.2.2.2.2.1
  have hy : v 5 ≤ 12 := hw.2.2.2.2.2.2.1
  have e4 : A 1 4 = nI (v 4) := hw.1 4 (by decide)
  have e5 : A 1 5 = nI (v 5) := hw.1 5 (by decide)
  have main : cB (A 1) c = true → JS TP X mX4_spots (rmOf mX4_spots.lv 0 0) (ZR X o ad (Qq (q_spots (A 1) c) A B)) 0 0 11 [some (.ref o), some (.int c), none, none, none] [] (o, ad, A, B) := by
    intro hg
    rw [q_spots, if_pos hg, e4, e5]
    obtain ⟨cn, hc, rfl⟩ := hw.cOf hg
    rw [nI_clamp (by omega), nI_clamp (by omega), nI_clamp (by omega)]
    refine bX4_spots_11.go rfl trivial ?_
    refine loop_down (N := v 4) (I := fun _ => True) (P := fun a => JS TP X mX4_spots (rmOf mX4_spots.lv 0 0) _ 0 0 15 [some (.ref o), some (.int (nI cn)), some (.int (sumI (fun a => sumI (fun b => b2 (spB (A 1) cn a b)) (v 5)) a)), some (.int (nI a)), none] [] (o, ad, A, B)) ?_ ?_ 0 (by omega) trivial
    · intro _
      refine bX4_spots_15.go rfl ⟨rfl, ⟨rfl, vp_in_nI (by decide) (by decide)⟩, trivial⟩ ?_
      refine j_icmp_ge (tgt := 80) dX4_spots_22 (by decide) (fun h22 => ?_) (fun h22 => ?_)
      · refine bX4_spots_80.go rfl trivial ?_
        exact r_iret dX4_spots_81 rfl ⟨rfl, Keeps2.rf⟩
      · simp (disch := omega) only [nI_clamp, e4, nI_leI] at h22; omega
    · intro a ha _ ih
      refine bX4_spots_15.go rfl ⟨rfl, ⟨rfl, vp_in_nI (by decide) (by decide)⟩, trivial⟩ ?_
      refine j_icmp_ge (tgt := 80) dX4_spots_22 (by decide) (fun h22 => ?_) (fun h22 => ?_)
      · simp (disch := omega) only [nI_clamp, e4, nI_leI] at h22; omega
      · refine bX4_spots_25.go rfl trivial ?_
        have L := loop_down (N := v 5) (I := fun _ => True) (P := fun b => JS TP X mX4_spots (rmOf mX4_spots.lv 0 0) (ZR X o ad (Qq (sumI (fun a => sumI (fun b => b2 (spB (A 1) cn a b)) (v 5)) (v 4)) A B)) 0 0 28 [some (.ref o), some (.int (nI cn)), some (.int (sumI (fun a => sumI (fun b => b2 (spB (A 1) cn a b)) (v 5)) a + sumI (fun b => b2 (spB (A 1) cn a b)) b)), some (.int (nI a)), some (.int (nI b))] [] (o, ad, A, B)) ?_ ?_ 0 (by omega) trivial
        · rw [show sumI (fun b => b2 (spB (A 1) cn a b)) 0 = nI 0 from rfl, nI_0, Int32.add_zero] at L
          exact L
        · intro _
          refine bX4_spots_28.go rfl ⟨rfl, ⟨rfl, vp_in_nI (by decide) (by decide)⟩, trivial⟩ ?_
          refine j_icmp_ge (tgt := 74) dX4_spots_36 (by decide) (fun h36 => ?_) (fun h36 => ?_)
          · refine bX4_spots_74.go rfl trivial ?_
            rw [nI_1]
            exact JS.weak (by simp [lsub, sumI]) (ih trivial)
          · simp (disch := omega) only [nI_clamp, e5, nI_leI] at h36; omega
        · intro b hb _ ih2
          have j66 : ∀ z, z = b2 (spB (A 1) cn a b) → JS TP X mX4_spots (rmOf mX4_spots.lv 0 0) (ZR X o ad (Qq (sumI (fun a => sumI (fun b => b2 (spB (A 1) cn a b)) (v 5)) (v 4)) A B)) 0 0 66 [some (.ref o), some (.int (nI cn)), some (.int (sumI (fun a => sumI (fun b => b2 (spB (A 1) cn a b)) (v 5)) a + sumI (fun b => b2 (spB (A 1) cn a b)) b)), some (.int (nI a)), some (.int (nI b))] [.int z, .int (sumI (fun a => sumI (fun b => b2 (spB (A 1) cn a b)) (v 5)) a + sumI (fun b => b2 (spB (A 1) cn a b)) b)] (o, ad, A, B) := by
            intro z hz
            subst hz
            refine bX4_spots_66.go rfl trivial ?_
            rw [nI_1, Int32.add_assoc]
            exact ih2 trivial
          refine bX4_spots_28.go rfl ⟨rfl, ⟨rfl, vp_in_nI (by decide) (by decide)⟩, trivial⟩ ?_
          refine j_icmp_ge (tgt := 74) dX4_spots_36 (by decide) (fun h36 => ?_) (fun h36 => ?_)
          · simp (disch := omega) only [nI_clamp, e5, nI_leI] at h36; omega
          · refine bX4_spots_39.go rfl ⟨⟨rfl, hw.cnt⟩, trivial⟩ ?_
            refine j_if_eq (tgt := 65) dX4_spots_47 (by decide) (fun h47 => ?_) (fun h47 => ?_)
            · rw [b2_0] at h47
              refine bX4_spots_65.go rfl trivial ?_
              exact j66 _ (b2_f (by simp only [spB, h47]; rfl))
            · rw [b2_n0] at h47
              refine bX4_spots_50.go rfl (by simp (disch := omega) only [vpI]; exact ⟨⟨trivial, v, a, b, hw, hc, by omega, by omega, rfl, rfl⟩, trivial⟩) ?_
              simp (disch := omega) only [nI_clamp]
              refine j_if_eq (tgt := 65) dX4_spots_58 (by decide) (fun h58 => ?_) (fun h58 => ?_)
              · rw [b2_0] at h58
                refine bX4_spots_65.go rfl trivial ?_
                exact j66 _ (b2_f (by simp only [spB, h47, h58]; rfl))
              · rw [b2_n0] at h58
                refine bX4_spots_61.go rfl trivial ?_
                exact j66 _ (b2_t (by simp only [spB, h47, h58]; rfl))
  refine R_start (L := [some (.ref o), some (.int c), none, none, none]) 3 rfl ?_
  refine bX4_spots_0.go rfl (by exact ⟨⟨rfl, trivial⟩, trivial⟩) ?_
  refine j_if_ne (tgt := 11) dX4_spots_5 (by decide) (fun h5 => ?_) (fun h5 => ?_)
  · exact main (by clear main; simp only [b2_0, b2_n0] at *; simp_all [cB])
  · refine bX4_spots_8.go rfl trivial ?_
    refine r_iret dX4_spots_10 rfl ?_
    exact ⟨ans (by clear main; simp only [b2_0, b2_n0] at *; simp_all [q_spots, cB]), Keeps2.rf⟩
