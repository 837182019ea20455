set_option maxRecDepth 100000
/-! ===== UnseenClockModel: both, learns, sights ===== -/
def q_both (w : Nat → Int32) (p q c m : Int32) : Int32 := if (twoB w p q && (cB w c && tB w m)) = true then (if cnC w ≤ 128 then cmC w (fun k => alC w p.toNatClampNeg 0 k (spanW w) && alC w q.toNatClampNeg 0 k (spanW w)) c.toNatClampNeg m.toNatClampNeg else -3) else -2
theorem bX4_both_0 : Blk TP mX4_both 0 6 [oAL 0, oIL 1, oIL 2, tC_II F_areTwo] := blk_c (s_aload_n dX4_both_0 rfl) <| blk_c (s_iload_n dX4_both_1 rfl) <| blk_c (s_iload_n dX4_both_2 rfl) <| blk_c (tc_II ok_areTwo gX4_areTwo (by decide +kernel) (by decide) dX4_both_3) <| blk_nil
theorem bX4_both_9 : Blk TP mX4_both 9 14 [oAL 0, oIL 3, tC_I F_isClock] := blk_c (s_aload_n dX4_both_9 rfl) <| blk_c (s_iload_n dX4_both_10 rfl) <| blk_c (tc_I ok_isClock gX4_isClock (by decide +kernel) (by decide) dX4_both_11) <| blk_nil
theorem bX4_both_17 : Blk TP mX4_both 17 23 [oAL 0, oIL 4, tC_I F_isTime] := blk_c (s_aload_n dX4_both_17 rfl) <| blk_c (s_iload dX4_both_18) <| blk_c (tc_I ok_isTime gX4_isTime (by decide +kernel) (by decide) dX4_both_20) <| blk_nil
theorem bX4_both_26 : Blk TP mX4_both 26 28 [oC (-2)] := blk_c (s_bipush dX4_both_26 (by decide +kernel)) <| blk_nil
theorem bX4_both_29 : Blk TP mX4_both 29 30 [oAL 0] := blk_c (s_aload_n dX4_both_29 rfl) <| blk_nil
theorem bX4_both_36 : Blk TP mX4_both 36 38 [oC (-3)] := blk_c (s_bipush dX4_both_36 (by decide +kernel)) <| blk_nil
theorem bX4_both_39 : Blk TP mX4_both 39 42 [oC (nI 0), oIS 5] := blk_c (s_iconst dX4_both_39 (by decide +kernel)) <| blk_c (s_istore dX4_both_40 (by decide)) <| blk_nil
theorem bX4_both_42 : Blk TP mX4_both 42 48 [oIL 5, oAL 0, tI 34] := blk_c (s_iload dX4_both_42) <| blk_c (s_aload_n dX4_both_44 rfl) <| blk_c (tgX4_34 rfl dX4_both_45) <| blk_nil
theorem bX4_both_51 : Blk TP mX4_both 51 65 [oAL 0, tR 35, oIL 5, oAL 0, oIL 1, oC (nI 0), oIL 5, tC_III F_isAlike] := blk_c (s_aload_n dX4_both_51 rfl) <| blk_c (tgX4_35 rfl dX4_both_52) <| blk_c (s_iload dX4_both_55) <| blk_c (s_aload_n dX4_both_57 rfl) <| blk_c (s_iload_n dX4_both_58 rfl) <| blk_c (s_iconst dX4_both_59 (by decide +kernel)) <| blk_c (s_iload dX4_both_60) <| blk_c (tc_III ok_isAlike gX4_isAlike (by decide +kernel) (by decide) dX4_both_62) <| blk_nil
theorem bX4_both_68 : Blk TP mX4_both 68 76 [oAL 0, oIL 2, oC (nI 0), oIL 5, tC_III F_isAlike] := blk_c (s_aload_n dX4_both_68 rfl) <| blk_c (s_iload_n dX4_both_69 rfl) <| blk_c (s_iconst dX4_both_70 (by decide +kernel)) <| blk_c (s_iload dX4_both_71) <| blk_c (tc_III ok_isAlike gX4_isAlike (by decide +kernel) (by decide) dX4_both_73) <| blk_nil
theorem bX4_both_79 : Blk TP mX4_both 79 84 [oC (nI 1), .inl (fun s => some s)] := blk_c (s_iconst dX4_both_79 (by decide +kernel)) <| blk_c (s_goto (tgt := 84) dX4_both_80 (by decide)) <| blk_nil
theorem bX4_both_83 : Blk TP mX4_both 83 84 [oC (nI 0)] := blk_c (s_iconst dX4_both_83 (by decide +kernel)) <| blk_nil
theorem bX4_both_84 : Blk TP mX4_both 84 42 [tSZ 35 128, oInc 5 1, .inl (fun s => some s)] := blk_c (t_zast rfl dX4_both_84) <| blk_c (s_iinc dX4_both_85 (by decide +kernel) (by decide)) <| blk_c (s_goto (tgt := 42) dX4_both_88 (by decide)) <| blk_nil
theorem bX4_both_91 : Blk TP mX4_both 91 98 [oAL 0, oIL 3, oIL 4, tC_II F_commonOf] := blk_c (s_aload_n dX4_both_91 rfl) <| blk_c (s_iload_n dX4_both_92 rfl) <| blk_c (s_iload dX4_both_93) <| blk_c (tc_II ok_commonOf gX4_commonOf (by decide +kernel) (by decide) dX4_both_95) <| blk_nil
theorem ok_both : RC_IIII mX4_both (fun _ _ _ _ A B => Pre_runs A B) (fun p q c m A B => Qq (q_both (A 1) p q c m) A B) := by
  intro X p q c m o ad A B hpre
  obtain ⟨v, hw⟩ := id hpre
  have h6 : v 6 ≤ 40 := hw.2.2.2.2.2.2.2.1
  have h4 : v 1 ≤ 4 := hw.2.2.1
  have h8 : v 2 ≤ 8 := hw.2.2.2.1
  have main : (twoB (A 1) p q && (cB (A 1) c && tB (A 1) m)) = true → JS TP X mX4_both (rmOf mX4_both.lv 0 0) (ZR X o ad (Qq (q_both (A 1) p q c m) A B)) 0 0 29 [some (.ref o), some (.int p), some (.int q), some (.int c), some (.int m), none] [] (o, ad, A, B) := by
    intro hg
    rw [q_both, if_pos hg]
    simp only [Bool.and_eq_true, twoB] at hg
    obtain ⟨pn, hp, rfl⟩ := hw.pOf hg.1.1
    obtain ⟨qn, hqn, rfl⟩ := hw.pOf hg.1.2.1
    obtain ⟨cn, hc, rfl⟩ := hw.cOf hg.2.1
    obtain ⟨mn, hm, rfl⟩ := hw.tOf hg.2.2
    rw [nI_clamp (show cn < 2 ^ 31 by omega), nI_clamp (show mn < 2 ^ 31 by omega), nI_clamp (show pn < 2 ^ 31 by omega), nI_clamp (show qn < 2 ^ 31 by omega)]
    refine bX4_both_29.go rfl trivial ?_
    refine rc_V ok_fillCourses gX4_fillCourses dX4_both_30 rfl hpre (fun r A1 B1 q => ?_)
    obtain ⟨rfl, hk, hq⟩ := q
    refine j_if_ne (tgt := 39) dX4_both_33 (by decide) (fun h33 => ?_) (fun h33 => ?_)
    · rw [b2_n0] at h33
      have hn := of_decide_eq_true h33
      have hC := hq hn v hw
      have hN := cnC_pos (A 1)
      rw [if_pos hn]
      refine bX4_both_39.go rfl trivial ?_
      refine loop_down (N := cnC (A 1)) (I := fun _ => True) (P := fun k => ∀ A2, (∀ f, f ≠ 35 → f ≠ 36 → A2 f = A1 f) → (∀ j, j < k → A2 35 j = b2 (alC (A 1) pn 0 j (spanW (A 1)) && alC (A 1) qn 0 j (spanW (A 1)))) → JS TP X mX4_both (rmOf mX4_both.lv 0 0) (ZR X o ad (Qq (cmC (A 1) (fun k => alC (A 1) pn 0 k (spanW (A 1)) && alC (A 1) qn 0 k (spanW (A 1))) cn mn) A B)) 0 0 42 [some (.ref o), some (.int (nI pn)), some (.int (nI qn)), some (.int (nI cn)), some (.int (nI mn)), some (.int (nI k))] [] (o, ad, A2, B1)) ?_ ?_ 0 (Nat.zero_le _) trivial A1 (fun _ _ _ => rfl) (fun j h => by omega)
      · intro _ A2 a1 a2
        have hC2 := hC.up35 a1
        have hk2 := hk.up35 a1
        refine bX4_both_42.go rfl (by exact ⟨rfl, trivial⟩) ?_
        rw [hC2.1]
        refine j_icmp_ge (tgt := 91) dX4_both_48 (by decide) (fun h48 => ?_) (fun h48 => absurd (nI_le (Nat.le_refl _) (by omega)) h48)
        refine bX4_both_91.go rfl (by simp (disch := omega) only [vpI]; exact ⟨⟨trivial, by omega, by omega, ⟨_, hn, hC2.1⟩⟩, trivial⟩) ?_
        simp (disch := omega) only [nI_clamp, hC2.1]
        refine r_iret dX4_both_98 rfl ⟨ans ?_, hk2⟩
        exact cmF_cg hN (fun k hk => by show (!decide (A2 35 k = 0)) = _; rw [a2 k hk, b2_dec]) (fun k hk => (hC2.2 k hk).1 mn hm cn hc)
      · intro k hkn _ ih A2 a1 a2
        have hC2 := hC.up35 a1
        have hA1 : A2 1 = A 1 := by rw [a1 1 (by decide) (by decide), hk.1]
        have hw2 : WOk (A2 1) v := by rw [hA1]; exact hw
        refine bX4_both_42.go rfl (by exact ⟨rfl, trivial⟩) ?_
        rw [hC2.1]
        refine j_icmp_ge (tgt := 91) dX4_both_48 (by decide) (fun h48 => ?_) (fun h48 => ?_)
        · simp (disch := omega) only [nI_leI] at h48; omega
        · have jn : ∀ z, z = b2 (alC (A 1) pn 0 k (spanW (A 1)) && alC (A 1) qn 0 k (spanW (A 1))) → JS TP X mX4_both (rmOf mX4_both.lv 0 0) (ZR X o ad (Qq (cmC (A 1) (fun k => alC (A 1) pn 0 k (spanW (A 1)) && alC (A 1) qn 0 k (spanW (A 1))) cn mn) A B)) 0 0 84 [some (.ref o), some (.int (nI pn)), some (.int (nI qn)), some (.int (nI cn)), some (.int (nI mn)), some (.int (nI k))] [.int z, .int (nI k), .ref (ad 35)] (o, ad, A2, B1) := by
            intro z hz
            subst hz
            refine bX4_both_84.go rfl (by simp (disch := omega) only [vpI]; exact ⟨⟨trivial, by omega⟩, trivial⟩) ?_
            simp (disch := omega) only [nI_clamp, nI_1, nar_b2]
            refine ih trivial _ (fun f g1 g2 => by rw [upA_ne g1]; exact a1 f g1 g2) (fun j hj => ?_)
            rw [upA_at]
            by_cases e : j = k
            · rw [if_pos e, e]
            · rw [if_neg e]; exact a2 j (by omega)
          refine bX4_both_51.go rfl (by simp (disch := omega) only [vpI]; exact ⟨trivial, ⟨trivial, by omega, by omega, by omega, v, hw2⟩, trivial⟩) ?_
          simp (disch := omega) only [nI_clamp, hA1]
          rw [alC_eq hw hC2 hN hkn (by omega) (by rw [hw.span]; omega)]
          refine j_if_eq (tgt := 83) dX4_both_65 (by decide) (fun h65 => ?_) (fun h65 => ?_)
          · rw [b2_0] at h65
            refine bX4_both_83.go rfl trivial ?_
            exact jn _ (b2_f (by rw [h65]; rfl))
          · rw [b2_n0] at h65
            refine bX4_both_68.go rfl (by simp (disch := omega) only [vpI]; exact ⟨⟨trivial, by omega, by omega, by omega, v, hw2⟩, trivial⟩) ?_
            simp (disch := omega) only [nI_clamp, hA1]
            rw [alC_eq hw hC2 hN hkn (by omega) (by rw [hw.span]; omega)]
            refine j_if_eq (tgt := 83) dX4_both_76 (by decide) (fun h76 => ?_) (fun h76 => ?_)
            · rw [b2_0] at h76
              refine bX4_both_83.go rfl trivial ?_
              exact jn _ (b2_f (by rw [h65, h76]; rfl))
            · rw [b2_n0] at h76
              refine bX4_both_79.go rfl trivial ?_
              exact jn _ (b2_t (by rw [h65, h76]; rfl))
    · rw [b2_0] at h33
      refine bX4_both_36.go rfl trivial ?_
      exact r_iret dX4_both_38 rfl ⟨ans (by rw [if_neg (of_decide_eq_false h33)]), hk⟩
  refine R_start (L := [some (.ref o), some (.int p), some (.int q), some (.int c), some (.int m), none]) 1 rfl ?_
  refine bX4_both_0.go rfl (by first | exact ⟨⟨rfl, trivial⟩, trivial⟩ | exact ⟨trivial, trivial⟩) ?_
  refine j_if_eq (tgt := 26) dX4_both_6 (by decide) (fun h6 => ?_) (fun h6 => ?_)
  · refine bX4_both_26.go rfl trivial ?_
    refine r_iret dX4_both_28 rfl ?_
    exact ⟨ans (by clear main; simp only [b2_0, b2_n0] at *; simp_all [q_both, cB, tB]), Keeps2.rf⟩
  · refine bX4_both_9.go rfl (by first | exact ⟨⟨rfl, trivial⟩, trivial⟩ | exact ⟨trivial, trivial⟩) ?_
    refine j_if_eq (tgt := 26) dX4_both_14 (by decide) (fun h14 => ?_) (fun h14 => ?_)
    · refine bX4_both_26.go rfl trivial ?_
      refine r_iret dX4_both_28 rfl ?_
      exact ⟨ans (by clear main; simp only [b2_0, b2_n0] at *; simp_all [q_both, cB, tB]), Keeps2.rf⟩
    · refine bX4_both_17.go rfl (by first | exact ⟨⟨rfl, trivial⟩, trivial⟩ | exact ⟨trivial, trivial⟩) ?_
      refine j_if_ne (tgt := 29) dX4_both_23 (by decide) (fun h23 => ?_) (fun h23 => ?_)
      · exact main (by clear main; simp only [b2_0, b2_n0] at *; simp_all [cB, tB])
      · refine bX4_both_26.go rfl trivial ?_
        refine r_iret dX4_both_28 rfl ?_
        exact ⟨ans (by clear main; simp only [b2_0, b2_n0] at *; simp_all [q_both, cB, tB]), Keeps2.rf⟩
def lrB (w : Nat → Int32) (p c m n : Nat) : Bool := !decide (cmC w (fun k => alC w p 0 k n) c m = -1)
def q_learns (w : Nat → Int32) (p c m : Int32) : Int32 := if (pB w p && (cB w c && tB w m)) = true then (if cnC w ≤ 128 then firstF (lrB w p.toNatClampNeg c.toNatClampNeg m.toNatClampNeg) (spanW w + 1) 0 else -3) else -2
theorem bX4_learns_0 : Blk TP mX4_learns 0 5 [oAL 0, oIL 1, tC_I F_isPerson] := blk_c (s_aload_n dX4_learns_0 rfl) <| blk_c (s_iload_n dX4_learns_1 rfl) <| blk_c (tc_I ok_isPerson gX4_isPerson (by decide +kernel) (by decide) dX4_learns_2) <| blk_nil
theorem bX4_learns_8 : Blk TP mX4_learns 8 13 [oAL 0, oIL 2, tC_I F_isClock] := blk_c (s_aload_n dX4_learns_8 rfl) <| blk_c (s_iload_n dX4_learns_9 rfl) <| blk_c (tc_I ok_isClock gX4_isClock (by decide +kernel) (by decide) dX4_learns_10) <| blk_nil
theorem bX4_learns_16 : Blk TP mX4_learns 16 21 [oAL 0, oIL 3, tC_I F_isTime] := blk_c (s_aload_n dX4_learns_16 rfl) <| blk_c (s_iload_n dX4_learns_17 rfl) <| blk_c (tc_I ok_isTime gX4_isTime (by decide +kernel) (by decide) dX4_learns_18) <| blk_nil
theorem bX4_learns_24 : Blk TP mX4_learns 24 26 [oC (-2)] := blk_c (s_bipush dX4_learns_24 (by decide +kernel)) <| blk_nil
theorem bX4_learns_27 : Blk TP mX4_learns 27 28 [oAL 0] := blk_c (s_aload_n dX4_learns_27 rfl) <| blk_nil
theorem bX4_learns_34 : Blk TP mX4_learns 34 36 [oC (-3)] := blk_c (s_bipush dX4_learns_34 (by decide +kernel)) <| blk_nil
theorem bX4_learns_37 : Blk TP mX4_learns 37 40 [oC (nI 0), oIS 4] := blk_c (s_iconst dX4_learns_37 (by decide +kernel)) <| blk_c (s_istore dX4_learns_38 (by decide)) <| blk_nil
theorem bX4_learns_40 : Blk TP mX4_learns 40 49 [oIL 4, oAL 0, tR 1, oC (nI 6), tAI 1 320] := blk_c (s_iload dX4_learns_40) <| blk_c (s_aload_n dX4_learns_42 rfl) <| blk_c (tgX4_1 rfl dX4_learns_43) <| blk_c (s_bipush dX4_learns_46 (by decide +kernel)) <| blk_c (t_iald rfl dX4_learns_48) <| blk_nil
theorem bX4_learns_52 : Blk TP mX4_learns 52 55 [oC (nI 0), oIS 5] := blk_c (s_iconst dX4_learns_52 (by decide +kernel)) <| blk_c (s_istore dX4_learns_53 (by decide)) <| blk_nil
theorem bX4_learns_55 : Blk TP mX4_learns 55 61 [oIL 5, oAL 0, tI 34] := blk_c (s_iload dX4_learns_55) <| blk_c (s_aload_n dX4_learns_57 rfl) <| blk_c (tgX4_34 rfl dX4_learns_58) <| blk_nil
theorem bX4_learns_64 : Blk TP mX4_learns 64 55 [oAL 0, tR 35, oIL 5, oAL 0, oIL 1, oC (nI 0), oIL 5, oIL 4, tC_IIII F_isAlikeTill, tSZ 35 128, oInc 5 1, .inl (fun s => some s)] := blk_c (s_aload_n dX4_learns_64 rfl) <| blk_c (tgX4_35 rfl dX4_learns_65) <| blk_c (s_iload dX4_learns_68) <| blk_c (s_aload_n dX4_learns_70 rfl) <| blk_c (s_iload_n dX4_learns_71 rfl) <| blk_c (s_iconst dX4_learns_72 (by decide +kernel)) <| blk_c (s_iload dX4_learns_73) <| blk_c (s_iload dX4_learns_75) <| blk_c (tc_IIII ok_isAlikeTill gX4_isAlikeTill (by decide +kernel) (by decide) dX4_learns_77) <| blk_c (t_zast rfl dX4_learns_80) <| blk_c (s_iinc dX4_learns_81 (by decide +kernel) (by decide)) <| blk_c (s_goto (tgt := 55) dX4_learns_84 (by decide)) <| blk_nil
theorem bX4_learns_87 : Blk TP mX4_learns 87 94 [oAL 0, oIL 2, oIL 3, tC_II F_commonOf, oC (-1)] := blk_c (s_aload_n dX4_learns_87 rfl) <| blk_c (s_iload_n dX4_learns_88 rfl) <| blk_c (s_iload_n dX4_learns_89 rfl) <| blk_c (tc_II ok_commonOf gX4_commonOf (by decide +kernel) (by decide) dX4_learns_90) <| blk_c (s_iconst dX4_learns_93 (by decide +kernel)) <| blk_nil
theorem bX4_learns_97 : Blk TP mX4_learns 97 99 [oIL 4] := blk_c (s_iload dX4_learns_97) <| blk_nil
theorem bX4_learns_100 : Blk TP mX4_learns 100 40 [oInc 4 1, .inl (fun s => some s)] := blk_c (s_iinc dX4_learns_100 (by decide +kernel) (by decide)) <| blk_c (s_goto (tgt := 40) dX4_learns_103 (by decide)) <| blk_nil
theorem bX4_learns_106 : Blk TP mX4_learns 106 107 [oC (-1)] := blk_c (s_iconst dX4_learns_106 (by decide +kernel)) <| blk_nil
theorem ok_learns : RC_III mX4_learns (fun _ _ _ A B => Pre_runs A B) (fun p c m A B => Qq (q_learns (A 1) p c m) A B) := by
  intro X p c m o ad A B hpre
  obtain ⟨v, hw⟩ := id hpre
  have h6 : v 6 ≤ 40 := hw.2.2.2.2.2.2.2.1
  have h4 : v 1 ≤ 4 := hw.2.2.1
  have h8 : v 2 ≤ 8 := hw.2.2.2.1
  have e6 : A 1 6 = nI (v 6) := hw.1 6 (by decide)
  have main : (pB (A 1) p && (cB (A 1) c && tB (A 1) m)) = true → JS TP X mX4_learns (rmOf mX4_learns.lv 0 0) (ZR X o ad (Qq (q_learns (A 1) p c m) A B)) 0 0 27 [some (.ref o), some (.int p), some (.int c), some (.int m), none, none] [] (o, ad, A, B) := by
    intro hg
    rw [q_learns, if_pos hg]
    simp only [Bool.and_eq_true] at hg
    obtain ⟨pn, hp, rfl⟩ := hw.pOf hg.1
    obtain ⟨cn, hc, rfl⟩ := hw.cOf hg.2.1
    obtain ⟨mn, hm, rfl⟩ := hw.tOf hg.2.2
    rw [nI_clamp (show cn < 2 ^ 31 by omega), nI_clamp (show mn < 2 ^ 31 by omega), nI_clamp (show pn < 2 ^ 31 by omega)]
    refine bX4_learns_27.go rfl trivial ?_
    refine rc_V ok_fillCourses gX4_fillCourses dX4_learns_28 rfl hpre (fun r A1 B1 q => ?_)
    obtain ⟨rfl, hk, hq⟩ := q
    refine j_if_ne (tgt := 37) dX4_learns_31 (by decide) (fun h31 => ?_) (fun h31 => ?_)
    · rw [b2_n0] at h31
      have hn := of_decide_eq_true h31
      have hC := hq hn v hw
      have hN := cnC_pos (A 1)
      rw [if_pos hn, hw.span]
      generalize hR : firstF (lrB (A 1) pn cn mn) (v 6 + 1) 0 = R0
      refine bX4_learns_37.go rfl trivial ?_
      have lp : ∀ d t, t + d = v 6 + 1 → firstF (lrB (A 1) pn cn mn) d t = R0 → ∀ A2, (∀ f, f ≠ 35 → f ≠ 36 → A2 f = A1 f) → JS TP X mX4_learns (rmOf mX4_learns.lv 0 0) (ZR X o ad (Qq R0 A B)) 0 0 40 [some (.ref o), some (.int (nI pn)), some (.int (nI cn)), some (.int (nI mn)), some (.int (nI t)), none] [] (o, ad, A2, B1) := by
        intro d
        induction d with
        | zero =>
          intro t ht hr A2 a1
          have hA1 : A2 1 = A 1 := by rw [a1 1 (by decide) (by decide), hk.1]
          refine bX4_learns_40.go rfl (by exact ⟨rfl, ⟨rfl, vp_in_nI (by decide) (by decide)⟩, trivial⟩) ?_
          simp (disch := omega) only [nI_clamp, hA1, e6]
          refine j_icmp_gt (tgt := 106) dX4_learns_49 (by decide) (fun h49 => ?_) (fun h49 => ?_)
          · refine bX4_learns_106.go rfl trivial ?_
            exact r_iret dX4_learns_107 rfl ⟨ans hr, hk.up35 a1⟩
          · rw [nI_ltI (by omega) (by omega)] at h49; omega
        | succ d ih =>
          intro t ht hr A2 a1
          have hA1 : A2 1 = A 1 := by rw [a1 1 (by decide) (by decide), hk.1]
          rw [firstF] at hr
          refine bX4_learns_40.go rfl (by exact ⟨rfl, ⟨rfl, vp_in_nI (by decide) (by decide)⟩, trivial⟩) ?_
          simp (disch := omega) only [nI_clamp, hA1, e6]
          refine j_icmp_gt (tgt := 106) dX4_learns_49 (by decide) (fun h49 => ?_) (fun h49 => ?_)
          · rw [nI_ltI (by omega) (by omega)] at h49; omega
          · refine bX4_learns_52.go rfl trivial ?_
            refine loop_down (N := cnC (A 1)) (I := fun _ => True) (P := fun k => ∀ A3, (∀ f, f ≠ 35 → f ≠ 36 → A3 f = A1 f) → (∀ j, j < k → A3 35 j = b2 (alC (A 1) pn 0 j t)) → JS TP X mX4_learns (rmOf mX4_learns.lv 0 0) (ZR X o ad (Qq R0 A B)) 0 0 55 [some (.ref o), some (.int (nI pn)), some (.int (nI cn)), some (.int (nI mn)), some (.int (nI t)), some (.int (nI k))] [] (o, ad, A3, B1)) ?_ ?_ 0 (Nat.zero_le _) trivial A2 a1 (fun j h => by omega)
            · intro _ A3 b1 b2
              have hC3 := hC.up35 b1
              refine bX4_learns_55.go rfl (by exact ⟨rfl, trivial⟩) ?_
              rw [hC3.1]
              refine j_icmp_ge (tgt := 87) dX4_learns_61 (by decide) (fun h61 => ?_) (fun h61 => absurd (nI_le (Nat.le_refl _) (by omega)) h61)
              refine bX4_learns_87.go rfl (by simp (disch := omega) only [vpI]; exact ⟨⟨trivial, by omega, by omega, ⟨_, hn, hC3.1⟩⟩, trivial⟩) ?_
              simp (disch := omega) only [nI_clamp, hC3.1]
              have ecm : cmF (fun k => !decide (A3 35 k = 0)) (fun k => A3 32 (164 * k + 4 * mn + cn)) (cnC (A 1)) = cmC (A 1) (fun k => alC (A 1) pn 0 k t) cn mn := cmF_cg hN (fun k hk => by show (!decide (A3 35 k = 0)) = _; rw [b2 k hk, b2_dec]) (fun k hk => (hC3.2 k hk).1 mn hm cn hc)
              rw [ecm]
              refine j_icmp_eq (tgt := 100) dX4_learns_94 (by decide) (fun h94 => ?_) (fun h94 => ?_)
              · refine bX4_learns_100.go rfl trivial ?_
                rw [nI_1]
                refine JS.weak (L' := [some (.ref o), some (.int (nI pn)), some (.int (nI cn)), some (.int (nI mn)), some (.int (nI (t + 1))), none]) (by simp [lsub]) (ih (t + 1) (by omega) ?_ A3 b1)
                rw [if_neg (by rw [lrB, decide_eq_true h94]; decide)] at hr
                exact hr
              · refine bX4_learns_97.go rfl trivial ?_
                refine r_iret dX4_learns_99 rfl ⟨ans ?_, hk.up35 b1⟩
                rw [if_pos (by rw [lrB, decide_eq_false h94]; decide)] at hr
                exact hr
            · intro k hkn _ ih2 A3 b1 b2
              have hC3 := hC.up35 b1
              have hA3 : A3 1 = A 1 := by rw [b1 1 (by decide) (by decide), hk.1]
              have hw3 : WOk (A3 1) v := by rw [hA3]; exact hw
              refine bX4_learns_55.go rfl (by exact ⟨rfl, trivial⟩) ?_
              rw [hC3.1]
              refine j_icmp_ge (tgt := 87) dX4_learns_61 (by decide) (fun h61 => ?_) (fun h61 => ?_)
              · simp (disch := omega) only [nI_leI] at h61; omega
              · refine bX4_learns_64.go rfl (by simp (disch := omega) only [vpI]; exact ⟨trivial, ⟨trivial, by omega, by omega, by omega, ⟨t, by omega, rfl⟩, v, hw3⟩, ⟨trivial, by omega⟩, trivial⟩) ?_
                simp (disch := omega) only [nI_clamp, nI_1, nar_b2, hA3]
                rw [alC_eq hw hC3 hN hkn (by omega) (by omega)]
                refine ih2 trivial _ (fun f g1 g2 => by rw [upA_ne g1]; exact b1 f g1 g2) (fun j hj => ?_)
                rw [upA_at]
                by_cases e : j = k
                · rw [if_pos e, e]
                · rw [if_neg e]; exact b2 j (by omega)
      exact lp (v 6 + 1) 0 (by omega) hR A1 (fun _ _ _ => rfl)
    · rw [b2_0] at h31
      refine bX4_learns_34.go rfl trivial ?_
      exact r_iret dX4_learns_36 rfl ⟨ans (by rw [if_neg (of_decide_eq_false h31)]), hk⟩
  refine R_start (L := [some (.ref o), some (.int p), some (.int c), some (.int m), none, none]) 2 rfl ?_
  refine bX4_learns_0.go rfl (by first | exact ⟨⟨rfl, trivial⟩, trivial⟩ | exact ⟨trivial, trivial⟩) ?_
  refine j_if_eq (tgt := 24) dX4_learns_5 (by decide) (fun h5 => ?_) (fun h5 => ?_)
  · refine bX4_learns_24.go rfl trivial ?_
    refine r_iret dX4_learns_26 rfl ?_
    exact ⟨ans (by clear main; simp only [b2_0, b2_n0] at *; simp_all [q_learns, cB, tB, pB]), Keeps2.rf⟩
  · refine bX4_learns_8.go rfl (by first | exact ⟨⟨rfl, trivial⟩, trivial⟩ | exact ⟨trivial, trivial⟩) ?_
    refine j_if_eq (tgt := 24) dX4_learns_13 (by decide) (fun h13 => ?_) (fun h13 => ?_)
    · refine bX4_learns_24.go rfl trivial ?_
      refine r_iret dX4_learns_26 rfl ?_
      exact ⟨ans (by clear main; simp only [b2_0, b2_n0] at *; simp_all [q_learns, cB, tB, pB]), Keeps2.rf⟩
    · refine bX4_learns_16.go rfl (by first | exact ⟨⟨rfl, trivial⟩, trivial⟩ | exact ⟨trivial, trivial⟩) ?_
      refine j_if_ne (tgt := 27) dX4_learns_21 (by decide) (fun h21 => ?_) (fun h21 => ?_)
      · exact main (by clear main; simp only [b2_0, b2_n0] at *; simp_all [cB, tB, pB])
      · refine bX4_learns_24.go rfl trivial ?_
        refine r_iret dX4_learns_26 rfl ?_
        exact ⟨ans (by clear main; simp only [b2_0, b2_n0] at *; simp_all [q_learns, cB, tB, pB]), Keeps2.rf⟩
def nwB (w : Nat → Int32) (p k : Nat) : Bool := !anyN (fun b => alC w p b k (spanW w)) k
def q_sights (w : Nat → Int32) (p : Int32) : Int32 := if pB w p = true then (if cnC w ≤ 128 then sumI (fun k => b2 (nwB w p.toNatClampNeg k)) (cnC w) else -3) else -2
theorem bX4_sights_0 : Blk TP mX4_sights 0 5 [oAL 0, oIL 1, tC_I F_isPerson] := blk_c (s_aload_n dX4_sights_0 rfl) <| blk_c (s_iload_n dX4_sights_1 rfl) <| blk_c (tc_I ok_isPerson gX4_isPerson (by decide +kernel) (by decide) dX4_sights_2) <| blk_nil
theorem bX4_sights_8 : Blk TP mX4_sights 8 10 [oC (-2)] := blk_c (s_bipush dX4_sights_8 (by decide +kernel)) <| blk_nil
theorem bX4_sights_11 : Blk TP mX4_sights 11 12 [oAL 0] := blk_c (s_aload_n dX4_sights_11 rfl) <| blk_nil
theorem bX4_sights_18 : Blk TP mX4_sights 18 20 [oC (-3)] := blk_c (s_bipush dX4_sights_18 (by decide +kernel)) <| blk_nil
theorem bX4_sights_21 : Blk TP mX4_sights 21 25 [oC (nI 0), oIS 2, oC (nI 0), oIS 3] := blk_c (s_iconst dX4_sights_21 (by decide +kernel)) <| blk_c (s_istore_n dX4_sights_22 rfl (by decide)) <| blk_c (s_iconst dX4_sights_23 (by decide +kernel)) <| blk_c (s_istore_n dX4_sights_24 rfl (by decide)) <| blk_nil
theorem bX4_sights_25 : Blk TP mX4_sights 25 30 [oIL 3, oAL 0, tI 34] := blk_c (s_iload_n dX4_sights_25 rfl) <| blk_c (s_aload_n dX4_sights_26 rfl) <| blk_c (tgX4_34 rfl dX4_sights_27) <| blk_nil
theorem bX4_sights_33 : Blk TP mX4_sights 33 39 [oC (nI 1), oIS 4, oC (nI 0), oIS 5] := blk_c (s_iconst dX4_sights_33 (by decide +kernel)) <| blk_c (s_istore dX4_sights_34 (by decide)) <| blk_c (s_iconst dX4_sights_36 (by decide +kernel)) <| blk_c (s_istore dX4_sights_37 (by decide)) <| blk_nil
theorem bX4_sights_39 : Blk TP mX4_sights 39 42 [oIL 5, oIL 3] := blk_c (s_iload dX4_sights_39) <| blk_c (s_iload_n dX4_sights_41 rfl) <| blk_nil
theorem bX4_sights_45 : Blk TP mX4_sights 45 47 [oIL 4] := blk_c (s_iload dX4_sights_45) <| blk_nil
theorem bX4_sights_50 : Blk TP mX4_sights 50 58 [oAL 0, oIL 1, oIL 5, oIL 3, tC_III F_isAlike] := blk_c (s_aload_n dX4_sights_50 rfl) <| blk_c (s_iload_n dX4_sights_51 rfl) <| blk_c (s_iload dX4_sights_52) <| blk_c (s_iload_n dX4_sights_54 rfl) <| blk_c (tc_III ok_isAlike gX4_isAlike (by decide +kernel) (by decide) dX4_sights_55) <| blk_nil
theorem bX4_sights_61 : Blk TP mX4_sights 61 66 [oC (nI 1), .inl (fun s => some s)] := blk_c (s_iconst dX4_sights_61 (by decide +kernel)) <| blk_c (s_goto (tgt := 66) dX4_sights_62 (by decide)) <| blk_nil
theorem bX4_sights_65 : Blk TP mX4_sights 65 66 [oC (nI 0)] := blk_c (s_iconst dX4_sights_65 (by decide +kernel)) <| blk_nil
theorem bX4_sights_66 : Blk TP mX4_sights 66 39 [oIS 4, oInc 5 1, .inl (fun s => some s)] := blk_c (s_istore dX4_sights_66 (by decide)) <| blk_c (s_iinc dX4_sights_68 (by decide +kernel) (by decide)) <| blk_c (s_goto (tgt := 39) dX4_sights_71 (by decide)) <| blk_nil
theorem bX4_sights_74 : Blk TP mX4_sights 74 77 [oIL 2, oIL 4] := blk_c (s_iload_n dX4_sights_74 rfl) <| blk_c (s_iload dX4_sights_75) <| blk_nil
theorem bX4_sights_80 : Blk TP mX4_sights 80 85 [oC (nI 1), .inl (fun s => some s)] := blk_c (s_iconst dX4_sights_80 (by decide +kernel)) <| blk_c (s_goto (tgt := 85) dX4_sights_81 (by decide)) <| blk_nil
theorem bX4_sights_84 : Blk TP mX4_sights 84 85 [oC (nI 0)] := blk_c (s_iconst dX4_sights_84 (by decide +kernel)) <| blk_nil
theorem bX4_sights_85 : Blk TP mX4_sights 85 25 [oAdd, oIS 2, oInc 3 1, .inl (fun s => some s)] := blk_c (s_iadd dX4_sights_85) <| blk_c (s_istore_n dX4_sights_86 rfl (by decide)) <| blk_c (s_iinc dX4_sights_87 (by decide +kernel) (by decide)) <| blk_c (s_goto (tgt := 25) dX4_sights_90 (by decide)) <| blk_nil
theorem bX4_sights_93 : Blk TP mX4_sights 93 94 [oIL 2] := blk_c (s_iload_n dX4_sights_93 rfl) <| blk_nil
theorem ok_sights : RC_I mX4_sights (fun _ A B => Pre_runs A B) (fun p A B => Qq (q_sights (A 1) p) A B) := by
  intro X p o ad A B hpre
  obtain ⟨v, hw⟩ := id hpre
  have h8 : v 2 ≤ 8 := hw.2.2.2.1
  refine R_start (L := [some (.ref o), some (.int p), none, none, none, none]) 4 rfl ?_
  refine bX4_sights_0.go rfl (by exact ⟨⟨rfl, trivial⟩, trivial⟩) ?_
  refine j_if_ne (tgt := 11) dX4_sights_5 (by decide) (fun h5 => ?_) (fun h5 => ?_)
  · rw [b2_n0] at h5
    have h5 : pB (A 1) p = true := h5
    dsimp only
    rw [q_sights, if_pos h5]
    obtain ⟨pn, hp, rfl⟩ := hw.pOf h5
    rw [nI_clamp (show pn < 2 ^ 31 by omega)]
    refine bX4_sights_11.go rfl trivial ?_
    refine rc_V ok_fillCourses gX4_fillCourses dX4_sights_12 rfl hpre (fun r A1 B1 q => ?_)
    obtain ⟨rfl, hk, hq⟩ := q
    refine j_if_ne (tgt := 21) dX4_sights_15 (by decide) (fun h15 => ?_) (fun h15 => ?_)
    · rw [b2_n0] at h15
      have hn := of_decide_eq_true h15
      have hC := hq hn v hw
      have hw1 : WOk (A1 1) v := by rw [hk.1]; exact hw
      rw [if_pos hn]
      refine bX4_sights_21.go rfl trivial ?_
      refine loop_down (N := cnC (A 1)) (I := fun _ => True) (P := fun k => JS TP X mX4_sights (rmOf mX4_sights.lv 0 0) (ZR X o ad (Qq (sumI (fun k => b2 (nwB (A 1) pn k)) (cnC (A 1))) A B)) 0 0 25 [some (.ref o), some (.int (nI pn)), some (.int (sumI (fun k => b2 (nwB (A 1) pn k)) k)), some (.int (nI k)), none, none] [] (o, ad, A1, B1)) ?_ ?_ 0 (Nat.zero_le _) trivial
      · intro _
        refine bX4_sights_25.go rfl (by exact ⟨rfl, trivial⟩) ?_
        rw [hC.1]
        refine j_icmp_ge (tgt := 93) dX4_sights_30 (by decide) (fun h30 => ?_) (fun h30 => absurd (nI_le (Nat.le_refl _) (by omega)) h30)
        refine bX4_sights_93.go rfl trivial ?_
        exact r_iret dX4_sights_94 rfl ⟨rfl, hk⟩
      · intro k hkn _ ih
        generalize hS : sumI (fun k => b2 (nwB (A 1) pn k)) k = S0
        refine bX4_sights_25.go rfl (by exact ⟨rfl, trivial⟩) ?_
        rw [hC.1]
        refine j_icmp_ge (tgt := 93) dX4_sights_30 (by decide) (fun h30 => ?_) (fun h30 => ?_)
        · simp (disch := omega) only [nI_leI] at h30; omega
        · refine bX4_sights_33.go rfl trivial ?_
          have j85 : ∀ z, z = b2 (nwB (A 1) pn k) → ∀ l4 l5, JS TP X mX4_sights (rmOf mX4_sights.lv 0 0) (ZR X o ad (Qq (sumI (fun k => b2 (nwB (A 1) pn k)) (cnC (A 1))) A B)) 0 0 85 [some (.ref o), some (.int (nI pn)), some (.int S0), some (.int (nI k)), l4, l5] [.int z, .int S0] (o, ad, A1, B1) := by
            intro z hz l4 l5
            subst hz
            refine bX4_sights_85.go rfl trivial ?_
            rw [nI_1]
            refine JS.weak (L' := [some (.ref o), some (.int (nI pn)), some (.int (S0 + b2 (nwB (A 1) pn k))), some (.int (nI (k + 1))), none, none]) (by simp [lsub]) ?_
            have := ih trivial
            rw [sumI, hS] at this
            exact this
          have m74 : ∀ z l5, z = b2 (nwB (A 1) pn k) → JS TP X mX4_sights (rmOf mX4_sights.lv 0 0) (ZR X o ad (Qq (sumI (fun k => b2 (nwB (A 1) pn k)) (cnC (A 1))) A B)) 0 0 74 [some (.ref o), some (.int (nI pn)), some (.int S0), some (.int (nI k)), some (.int z), l5] [] (o, ad, A1, B1) := by
            intro z l5 hz
            subst hz
            refine bX4_sights_74.go rfl trivial ?_
            refine j_if_eq (tgt := 84) dX4_sights_77 (by decide) (fun h77 => ?_) (fun h77 => ?_)
            · rw [b2_0] at h77
              refine bX4_sights_84.go rfl trivial ?_
              exact j85 _ (b2_f h77) _ _
            · rw [b2_n0] at h77
              refine bX4_sights_80.go rfl trivial ?_
              exact j85 _ (b2_t h77) _ _
          refine loop_down (N := k) (I := fun _ => True) (P := fun b => JS TP X mX4_sights (rmOf mX4_sights.lv 0 0) (ZR X o ad (Qq (sumI (fun k => b2 (nwB (A 1) pn k)) (cnC (A 1))) A B)) 0 0 39 [some (.ref o), some (.int (nI pn)), some (.int S0), some (.int (nI k)), some (.int (b2 (!anyN (fun b => alC (A 1) pn b k (spanW (A 1))) b))), some (.int (nI b))] [] (o, ad, A1, B1)) ?_ ?_ 0 (Nat.zero_le _) trivial
          · intro _
            refine bX4_sights_39.go rfl trivial ?_
            refine j_icmp_ge (tgt := 74) dX4_sights_42 (by decide) (fun h42 => ?_) (fun h42 => absurd (nI_le (Nat.le_refl _) (by omega)) h42)
            exact m74 _ _ rfl
          · intro b hb _ ih2
            refine bX4_sights_39.go rfl trivial ?_
            refine j_icmp_ge (tgt := 74) dX4_sights_42 (by decide) (fun h42 => ?_) (fun h42 => ?_)
            · simp (disch := omega) only [nI_leI] at h42; omega
            · refine bX4_sights_45.go rfl trivial ?_
              refine j_if_eq (tgt := 74) dX4_sights_47 (by decide) (fun h47 => ?_) (fun h47 => ?_)
              · rw [b2_0] at h47
                refine m74 _ _ ?_
                rw [h47]
                rw [Bool.not_eq_false'] at h47
                obtain ⟨j, hj, hf⟩ := anyN_true.mp h47
                rw [nwB, anyN_true.mpr ⟨j, by omega, hf⟩]; rfl
              · rw [b2_n0] at h47
                have j66 : ∀ z, z = b2 (!anyN (fun b => alC (A 1) pn b k (spanW (A 1))) (b + 1)) → JS TP X mX4_sights (rmOf mX4_sights.lv 0 0) (ZR X o ad (Qq (sumI (fun k => b2 (nwB (A 1) pn k)) (cnC (A 1))) A B)) 0 0 66 [some (.ref o), some (.int (nI pn)), some (.int S0), some (.int (nI k)), some (.int (b2 (!anyN (fun b => alC (A 1) pn b k (spanW (A 1))) b))), some (.int (nI b))] [.int z] (o, ad, A1, B1) := by
                  intro z hz
                  subst hz
                  refine bX4_sights_66.go rfl trivial ?_
                  rw [nI_1]
                  exact ih2 trivial
                refine bX4_sights_50.go rfl (by simp (disch := omega) only [vpI]; exact ⟨⟨trivial, by omega, by omega, by omega, v, hw1⟩, trivial⟩) ?_
                simp (disch := omega) only [nI_clamp, hk.1]
                rw [alC_eq hw hC (show b < cnC (A 1) by omega) hkn (by omega) (by rw [hw.span]; omega)]
                rw [Bool.not_eq_true'] at h47
                refine j_if_ne (tgt := 65) dX4_sights_58 (by decide) (fun h58 => ?_) (fun h58 => ?_)
                · rw [b2_n0] at h58
                  refine bX4_sights_65.go rfl trivial ?_
                  exact j66 _ (b2_f (by rw [anyN, h47, h58]; rfl))
                · rw [b2_0] at h58
                  refine bX4_sights_61.go rfl trivial ?_
                  exact j66 _ (b2_t (by rw [anyN, h47, h58]; rfl))
    · rw [b2_0] at h15
      refine bX4_sights_18.go rfl trivial ?_
      exact r_iret dX4_sights_20 rfl ⟨ans (by rw [if_neg (of_decide_eq_false h15)]), hk⟩
  · rw [b2_0] at h5
    refine bX4_sights_8.go rfl trivial ?_
    exact r_iret dX4_sights_10 rfl ⟨ans (by rw [q_sights, if_neg (by rw [show pB (A 1) p = false from h5]; decide)]), Keeps2.rf⟩
