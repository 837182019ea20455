set_option maxRecDepth 100000
/-! ===== UnseenClockModel: dayOf, day, days ===== -/
/-- a drawn day -/
def cfD (w : Nat → Int32) : CF := (w, fun _ => nI 0, fun _ => false, true)
def dyV (w : Nat → Int32) (z : Int64) (c m : Nat) : Int32 := shW w (rsS (cfD w) (fun _ => nI 0) z m).pt c
theorem cfEq_day {A : Nat → Nat → Int32} {v : Nat → Nat} {w : Nat → Int32} (h4 : v 1 ≤ 4) (hw : A 1 = w) (hk : ∀ c, c < 4 → A 25 c = nI 0) (ht : A 0 24 = nI 0) (hd : A 0 28 = nI 1) : cfEq v (cfA A) (cfD w) := by
  refine ⟨hw, fun c hc => hk c (by omega), fun n hn => ?_, ?_⟩
  · show tkA A n = false
    simp only [tkA, ht]
    rw [decide_eq_false (by rw [nI_ltI (by omega) (by omega)]; omega)]; rfl
  · show drA A = true
    simp only [drA, hd]; decide +kernel
def Pre_dayOf (_z : Int64) (c m : Int32) (A : Nat → Nat → Int32) (_ : Nat → Nat → Int64) : Prop := ∃ (v : Nat → Nat) (cn mn : Nat), WOk (A 1) v ∧ c = nI cn ∧ m = nI mn ∧ cn < v 1 ∧ mn ≤ v 6
theorem ok_dayOf : RC_JII mX4_dayOf Pre_dayOf (fun z c m A B => Qq (dyV (A 1) z c.toNatClampNeg m.toNatClampNeg) A B) := by
  intro X z c m o ad A B hpre
  obtain ⟨v, cn, mn, hw, rfl, rfl, hc, hm⟩ := hpre
  have h6 : v 6 ≤ 40 := hw.2.2.2.2.2.2.2.1
  have h4 : v 1 ≤ 4 := hw.2.2.1
  refine R_start (L := [some (.ref o), some (.long z), none, some (.int (nI cn)), some (.int (nI mn))]) 0 rfl ?_
  simp (disch := omega) only [nI_clamp]
  refine bX4_dayOf_0.go rfl trivial ?_
  refine rc_V ok_keepsNone gX4_keepsNone dX4_dayOf_1 rfl trivial (fun r1 A1 B1 q1 => ?_)
  obtain ⟨rfl, hB, s1, s2⟩ := q1
  have hB := hB.symm
  subst hB
  refine bX4_dayOf_4.go rfl (by exact ⟨rfl, ⟨rfl, by decide +kernel, by decide +kernel⟩, rfl, trivial⟩) ?_
  generalize hA3 : upA (upA A1 0 24 (nI 0)) 0 28 (nI 1) = A3
  have k3 : ∀ k, k ≠ 0 → k ≠ 25 → A3 k = A k := fun k h0 h25 => by rw [← hA3, upA_ne h0, upA_ne h0, s1 k h25]
  have k0 : ∀ i, i ≠ 24 → i ≠ 28 → A3 0 i = A 0 i := fun i a b => by rw [← hA3, upA_at, if_neg b, upA_at, if_neg a, s1 0 (by decide)]
  have k25 : ∀ c, c < 4 → A3 25 c = nI 0 := fun c hc => by
    rw [← hA3, upA_ne (by decide), upA_ne (by decide), s2 c hc]
  have g1 : A3 1 = A 1 := k3 1 (by decide) (by decide)
  have gB : upB B 29 0 z 29 0 = z := by unfold upB; rw [va_up_self, va_up_self]
  refine rc_V ok_runs gX4_runs dX4_dayOf_20 rfl ⟨v, by rw [g1]; exact hw⟩ (fun r A2 B2 q2 => ?_)
  obtain ⟨rfl, hq⟩ := q2
  have hR := hq v (by rw [g1]; exact hw)
  rw [gB] at hR
  have hC := hR.crs (od' := fun _ => nI 0) (cf' := cfD (A 1)) h6 (by show WOk (A3 1) v; rw [g1]; exact hw) (cfEq_day h4 g1 k25 (by rw [← hA3, upA_at, if_neg (by decide), upA_at, if_pos rfl]) (by rw [← hA3, upA_at, if_pos rfl]))
  have hk : Keeps2 A B A2 B2 := Keeps2.trans ⟨g1, k3 2 (by decide) (by decide), k3 3 (by decide) (by decide), k3 4 (by decide) (by decide), k3 37 (by decide) (by decide), k3 38 (by decide) (by decide), k0 5 (by decide) (by decide), k0 12 (by decide) (by decide), k0 13 (by decide) (by decide), by unfold upB; rw [va_up_ne _ _ (by decide)]⟩ hR.keeps
  have hk' : Keeps2 A B (upA A2 0 28 (nI 0)) B2 := by
    obtain ⟨a1, a2, a3, a4, a5, a6, a7, a8, a9, a10⟩ := hk
    refine ⟨?_, ?_, ?_, ?_, ?_, ?_, ?_, ?_, ?_, a10⟩
    · rw [upA_ne (by decide)]; exact a1
    · rw [upA_ne (by decide)]; exact a2
    · rw [upA_ne (by decide)]; exact a3
    · rw [upA_ne (by decide)]; exact a4
    · rw [upA_ne (by decide)]; exact a5
    · rw [upA_ne (by decide)]; exact a6
    · rw [upA_at, if_neg (by decide)]; exact a7
    · rw [upA_at, if_neg (by decide)]; exact a8
    · rw [upA_at, if_neg (by decide)]; exact a9
  refine bX4_dayOf_23.go rfl (by simp (disch := omega) only [vpI, nI_clamp, hk'.1]; exact ⟨⟨trivial, by decide +kernel, by decide +kernel⟩, ⟨trivial, by omega, by omega, hw.clock hc⟩, trivial⟩) ?_
  simp (disch := omega) only [nI_clamp, hk'.1]
  refine r_iret dX4_dayOf_35 rfl ⟨ans ?_, hk'⟩
  rw [upA_ne (by decide), hC.2.2.2.1 mn hm cn hc]; rfl
def q_day (w : Nat → Int32) (z c m : Int32) : Int32 := if (inL z (lN 0) 2000000000 && (cB w c && tB w m)) = true then dyV w z.toInt64 c.toNatClampNeg m.toNatClampNeg else -2
theorem bX4_day_0 : Blk TP mX4_day 0 9 [oIL 1, oI2L, oCL (lN 0), oCL (2000000000), tS_JJJ F_in] := blk_c (s_iload_n dX4_day_0 rfl) <| blk_c (s_i2l dX4_day_1) <| blk_c (s_lconst dX4_day_2 (by decide +kernel)) <| blk_c (s_ldc2 dX4_day_3 q2272) <| blk_c (ts_JJJ ok_in gX4_in (by decide +kernel) (by decide) dX4_day_6) <| blk_nil
theorem bX4_day_12 : Blk TP mX4_day 12 17 [oAL 0, oIL 2, tC_I F_isClock] := blk_c (s_aload_n dX4_day_12 rfl) <| blk_c (s_iload_n dX4_day_13 rfl) <| blk_c (tc_I ok_isClock gX4_isClock (by decide +kernel) (by decide) dX4_day_14) <| blk_nil
theorem bX4_day_20 : Blk TP mX4_day 20 25 [oAL 0, oIL 3, tC_I F_isTime] := blk_c (s_aload_n dX4_day_20 rfl) <| blk_c (s_iload_n dX4_day_21 rfl) <| blk_c (tc_I ok_isTime gX4_isTime (by decide +kernel) (by decide) dX4_day_22) <| blk_nil
theorem bX4_day_28 : Blk TP mX4_day 28 33 [oAL 0, oIL 1, oI2L, oIL 2, oIL 3] := blk_c (s_aload_n dX4_day_28 rfl) <| blk_c (s_iload_n dX4_day_29 rfl) <| blk_c (s_i2l dX4_day_30) <| blk_c (s_iload_n dX4_day_31 rfl) <| blk_c (s_iload_n dX4_day_32 rfl) <| blk_nil
theorem bX4_day_36 : Blk TP mX4_day 36 41 [.inl (fun s => some s)] := blk_c (s_goto (tgt := 41) dX4_day_36 (by decide)) <| blk_nil
theorem bX4_day_39 : Blk TP mX4_day 39 41 [oC (-2)] := blk_c (s_bipush dX4_day_39 (by decide +kernel)) <| blk_nil
theorem ok_day : RC_III mX4_day (fun _ _ _ A B => Pre_runs A B) (fun z c m A B => Qq (q_day (A 1) z c m) A B) := by
  intro X z c m o ad A B hpre
  obtain ⟨v, hw⟩ := id hpre
  have main : (inL z (lN 0) 2000000000 && (cB (A 1) c && tB (A 1) m)) = true → JS TP X mX4_day (rmOf mX4_day.lv 0 0) (ZR X o ad (Qq (q_day (A 1) z c m) A B)) 0 0 28 [some (.ref o), some (.int z), some (.int c), some (.int m)] [] (o, ad, A, B) := by
    intro hg
    rw [q_day, if_pos hg]
    simp only [Bool.and_eq_true] at hg
    obtain ⟨cn, hc, hce⟩ := hw.cOf hg.2.1
    obtain ⟨mn, hm, hme⟩ := hw.tOf hg.2.2
    refine bX4_day_28.go rfl trivial ?_
    refine rc_JII ok_dayOf gX4_dayOf dX4_day_33 rfl ⟨v, cn, mn, hw, hce, hme, hc, hm⟩ (fun r A1 B1 q => ?_)
    obtain ⟨rfl, hk⟩ := q
    refine bX4_day_36.go rfl trivial ?_
    exact r_iret dX4_day_41 rfl ⟨rfl, hk⟩
  refine R_start (L := [some (.ref o), some (.int z), some (.int c), some (.int m)]) 0 rfl ?_
  refine bX4_day_0.go rfl (by first | exact ⟨⟨rfl, trivial⟩, trivial⟩ | exact ⟨trivial, trivial⟩) ?_
  refine j_if_eq (tgt := 39) dX4_day_9 (by decide) (fun h9 => ?_) (fun h9 => ?_)
  · refine bX4_day_39.go rfl trivial ?_
    refine r_iret dX4_day_41 rfl ?_
    exact ⟨ans (by clear main; simp only [b2_0, b2_n0, inL_def] at *; simp_all [q_day, cB, tB, hB]), Keeps2.rf⟩
  · refine bX4_day_12.go rfl (by first | exact ⟨⟨rfl, trivial⟩, trivial⟩ | exact ⟨trivial, trivial⟩) ?_
    refine j_if_eq (tgt := 39) dX4_day_17 (by decide) (fun h17 => ?_) (fun h17 => ?_)
    · refine bX4_day_39.go rfl trivial ?_
      refine r_iret dX4_day_41 rfl ?_
      exact ⟨ans (by clear main; simp only [b2_0, b2_n0, inL_def] at *; simp_all [q_day, cB, tB, hB]), Keeps2.rf⟩
    · refine bX4_day_20.go rfl (by first | exact ⟨⟨rfl, trivial⟩, trivial⟩ | exact ⟨trivial, trivial⟩) ?_
      refine j_if_eq (tgt := 39) dX4_day_25 (by decide) (fun h25 => ?_) (fun h25 => ?_)
      · refine bX4_day_39.go rfl trivial ?_
        refine r_iret dX4_day_41 rfl ?_
        exact ⟨ans (by clear main; simp only [b2_0, b2_n0, inL_def] at *; simp_all [q_day, cB, tB, hB]), Keeps2.rf⟩
      · exact main (by clear main; simp only [b2_0, b2_n0, inL_def] at *; simp_all [cB, tB, hB])
theorem inL_nat {X : Int32} {n : Nat} (hn : n < 1000) (h : inL X (lN 1) (nI n).toInt64 = true) : ∃ a, a ≤ n ∧ X = nI a := by
  rw [show lN 1 = (nI 1).toInt64 by decide +kernel, inL, in_i2l] at h
  simp only [inI, Bool.and_eq_true, decide_eq_true_eq] at h
  obtain ⟨h1, h2⟩ := h
  have h0 : ¬ X < 0 := Int32.not_lt.mpr (Int32.le_trans (by decide +kernel) h1)
  obtain ⟨j, hj, rfl⟩ := nI_of h0
  rw [nI_leI hj (by omega)] at h2
  exact ⟨j, h2, rfl⟩
def q_days (w : Nat → Int32) (z n c m h : Int32) : Int32 := if (inL z (lN 0) 2000000000 && (inL n (lN 1) 20 && (cB w c && (tB w m && hB h)))) = true then sumI (fun k => b2 (decide (dyV w (z.toInt64 + (nI k).toInt64) c.toNatClampNeg m.toNatClampNeg = h))) n.toNatClampNeg else -2
theorem bX4_days_0 : Blk TP mX4_days 0 9 [oIL 1, oI2L, oCL (lN 0), oCL (2000000000), tS_JJJ F_in] := blk_c (s_iload_n dX4_days_0 rfl) <| blk_c (s_i2l dX4_days_1) <| blk_c (s_lconst dX4_days_2 (by decide +kernel)) <| blk_c (s_ldc2 dX4_days_3 q2272) <| blk_c (ts_JJJ ok_in gX4_in (by decide +kernel) (by decide) dX4_days_6) <| blk_nil
theorem bX4_days_12 : Blk TP mX4_days 12 21 [oIL 2, oI2L, oCL (lN 1), oCL (20), tS_JJJ F_in] := blk_c (s_iload_n dX4_days_12 rfl) <| blk_c (s_i2l dX4_days_13) <| blk_c (s_lconst dX4_days_14 (by decide +kernel)) <| blk_c (s_ldc2 dX4_days_15 q2281) <| blk_c (ts_JJJ ok_in gX4_in (by decide +kernel) (by decide) dX4_days_18) <| blk_nil
theorem bX4_days_24 : Blk TP mX4_days 24 29 [oAL 0, oIL 3, tC_I F_isClock] := blk_c (s_aload_n dX4_days_24 rfl) <| blk_c (s_iload_n dX4_days_25 rfl) <| blk_c (tc_I ok_isClock gX4_isClock (by decide +kernel) (by decide) dX4_days_26) <| blk_nil
theorem bX4_days_32 : Blk TP mX4_days 32 38 [oAL 0, oIL 4, tC_I F_isTime] := blk_c (s_aload_n dX4_days_32 rfl) <| blk_c (s_iload dX4_days_33) <| blk_c (tc_I ok_isTime gX4_isTime (by decide +kernel) (by decide) dX4_days_35) <| blk_nil
theorem bX4_days_41 : Blk TP mX4_days 41 46 [oIL 5, tS_I F_isHour] := blk_c (s_iload dX4_days_41) <| blk_c (ts_I ok_isHour gX4_isHour (by decide +kernel) (by decide) dX4_days_43) <| blk_nil
theorem bX4_days_49 : Blk TP mX4_days 49 51 [oC (-2)] := blk_c (s_bipush dX4_days_49 (by decide +kernel)) <| blk_nil
theorem bX4_days_52 : Blk TP mX4_days 52 58 [oC (nI 0), oIS 6, oC (nI 0), oIS 7] := blk_c (s_iconst dX4_days_52 (by decide +kernel)) <| blk_c (s_istore dX4_days_53 (by decide)) <| blk_c (s_iconst dX4_days_55 (by decide +kernel)) <| blk_c (s_istore dX4_days_56 (by decide)) <| blk_nil
theorem bX4_days_58 : Blk TP mX4_days 58 61 [oIL 7, oIL 2] := blk_c (s_iload dX4_days_58) <| blk_c (s_iload_n dX4_days_60 rfl) <| blk_nil
theorem bX4_days_64 : Blk TP mX4_days 64 76 [oIL 6, oAL 0, oIL 1, oI2L, oIL 7, oI2L, oLAdd, oIL 3, oIL 4] := blk_c (s_iload dX4_days_64) <| blk_c (s_aload_n dX4_days_66 rfl) <| blk_c (s_iload_n dX4_days_67 rfl) <| blk_c (s_i2l dX4_days_68) <| blk_c (s_iload dX4_days_69) <| blk_c (s_i2l dX4_days_71) <| blk_c (s_ladd dX4_days_72) <| blk_c (s_iload_n dX4_days_73 rfl) <| blk_c (s_iload dX4_days_74) <| blk_nil
theorem bX4_days_79 : Blk TP mX4_days 79 81 [oIL 5] := blk_c (s_iload dX4_days_79) <| blk_nil
theorem bX4_days_84 : Blk TP mX4_days 84 89 [oC (nI 1), .inl (fun s => some s)] := blk_c (s_iconst dX4_days_84 (by decide +kernel)) <| blk_c (s_goto (tgt := 89) dX4_days_85 (by decide)) <| blk_nil
theorem bX4_days_88 : Blk TP mX4_days 88 89 [oC (nI 0)] := blk_c (s_iconst dX4_days_88 (by decide +kernel)) <| blk_nil
theorem bX4_days_89 : Blk TP mX4_days 89 58 [oAdd, oIS 6, oInc 7 1, .inl (fun s => some s)] := blk_c (s_iadd dX4_days_89) <| blk_c (s_istore dX4_days_90 (by decide)) <| blk_c (s_iinc dX4_days_92 (by decide +kernel) (by decide)) <| blk_c (s_goto (tgt := 58) dX4_days_95 (by decide)) <| blk_nil
theorem bX4_days_98 : Blk TP mX4_days 98 100 [oIL 6] := blk_c (s_iload dX4_days_98) <| blk_nil
theorem ok_days : RC_IIIII mX4_days (fun _ _ _ _ _ A B => Pre_runs A B) (fun z n c m h A B => Qq (q_days (A 1) z n c m h) A B) := by
  intro X z n c m h o ad A B hpre
  obtain ⟨v, hw⟩ := id hpre
  have main : (inL z (lN 0) 2000000000 && (inL n (lN 1) 20 && (cB (A 1) c && (tB (A 1) m && hB h)))) = true → JS TP X mX4_days (rmOf mX4_days.lv 0 0) (ZR X o ad (Qq (q_days (A 1) z n c m h) A B)) 0 0 52 [some (.ref o), some (.int z), some (.int n), some (.int c), some (.int m), some (.int h), none, none] [] (o, ad, A, B) := by
    intro hg
    rw [q_days, if_pos hg]
    simp only [Bool.and_eq_true] at hg
    obtain ⟨cn, hc, hce⟩ := hw.cOf hg.2.2.1
    obtain ⟨mn, hm, hme⟩ := hw.tOf hg.2.2.2.1
    obtain ⟨nn, hn, rfl⟩ := inL_nat (n := 20) (by decide) (by rw [show (nI 20).toInt64 = 20 by decide +kernel]; exact hg.2.1)
    rw [nI_clamp (by omega)]
    refine bX4_days_52.go rfl trivial ?_
    refine loop_down (N := nn) (I := fun _ => True) (P := fun k => ∀ A' B', Keeps2 A B A' B' → JS TP X mX4_days (rmOf mX4_days.lv 0 0) _ 0 0 58 [some (.ref o), some (.int z), some (.int (nI nn)), some (.int c), some (.int m), some (.int h), some (.int (sumI (fun k => b2 (decide (dyV (A 1) (z.toInt64 + (nI k).toInt64) c.toNatClampNeg m.toNatClampNeg = h))) k)), some (.int (nI k))] [] (o, ad, A', B')) ?_ ?_ 0 (by omega) trivial A B Keeps2.rf
    · intro _ A' B' hk
      refine bX4_days_58.go rfl trivial ?_
      refine j_icmp_ge (tgt := 98) dX4_days_61 (by decide) (fun h61 => ?_) (fun h61 => ?_)
      · refine bX4_days_98.go rfl trivial ?_
        exact r_iret dX4_days_100 rfl ⟨rfl, hk⟩
      · simp (disch := omega) only [nI_leI] at h61; omega
    · intro k hkn _ ih A' B' hk
      refine bX4_days_58.go rfl trivial ?_
      refine j_icmp_ge (tgt := 98) dX4_days_61 (by decide) (fun h61 => ?_) (fun h61 => ?_)
      · simp (disch := omega) only [nI_leI] at h61; omega
      · refine bX4_days_64.go rfl trivial ?_
        refine rc_JII ok_dayOf gX4_dayOf dX4_days_76 rfl ⟨v, cn, mn, by rw [hk.1]; exact hw, hce, hme, hc, hm⟩ (fun r A1 B1 q => ?_)
        obtain ⟨rfl, hk1⟩ := q
        rw [hk.1]
        have nx : ∀ y, y = b2 (decide (dyV (A 1) (z.toInt64 + (nI k).toInt64) c.toNatClampNeg m.toNatClampNeg = h)) → JS TP X mX4_days (rmOf mX4_days.lv 0 0) (ZR X o ad (Qq (sumI (fun k => b2 (decide (dyV (A 1) (z.toInt64 + (nI k).toInt64) c.toNatClampNeg m.toNatClampNeg = h))) nn) A B)) 0 0 89 [some (.ref o), some (.int z), some (.int (nI nn)), some (.int c), some (.int m), some (.int h), some (.int (sumI (fun k => b2 (decide (dyV (A 1) (z.toInt64 + (nI k).toInt64) c.toNatClampNeg m.toNatClampNeg = h))) k)), some (.int (nI k))] [.int y, .int (sumI (fun k => b2 (decide (dyV (A 1) (z.toInt64 + (nI k).toInt64) c.toNatClampNeg m.toNatClampNeg = h))) k)] (o, ad, A1, B1) := by
          intro y hy
          subst hy
          refine bX4_days_89.go rfl trivial ?_
          rw [nI_1]
          exact ih trivial A1 B1 (hk.trans hk1)
        refine bX4_days_79.go rfl trivial ?_
        refine j_icmp_ne (tgt := 88) dX4_days_81 (by decide) (fun h81 => ?_) (fun h81 => ?_)
        · refine bX4_days_88.go rfl trivial ?_
          exact nx _ (b2_f (decide_eq_false h81))
        · refine bX4_days_84.go rfl trivial ?_
          exact nx _ (b2_t (decide_eq_true h81))
  refine R_start (L := [some (.ref o), some (.int z), some (.int n), some (.int c), some (.int m), some (.int h), none, none]) 2 rfl ?_
  refine bX4_days_0.go rfl (by first | exact ⟨⟨rfl, trivial⟩, trivial⟩ | exact ⟨trivial, trivial⟩) ?_
  refine j_if_eq (tgt := 49) dX4_days_9 (by decide) (fun h9 => ?_) (fun h9 => ?_)
  · refine bX4_days_49.go rfl trivial ?_
    refine r_iret dX4_days_51 rfl ?_
    exact ⟨ans (by clear main; simp only [b2_0, b2_n0, inL_def] at *; simp_all [q_days, cB, tB, hB]), Keeps2.rf⟩
  · refine bX4_days_12.go rfl (by first | exact ⟨⟨rfl, trivial⟩, trivial⟩ | exact ⟨trivial, trivial⟩) ?_
    refine j_if_eq (tgt := 49) dX4_days_21 (by decide) (fun h21 => ?_) (fun h21 => ?_)
    · refine bX4_days_49.go rfl trivial ?_
      refine r_iret dX4_days_51 rfl ?_
      exact ⟨ans (by clear main; simp only [b2_0, b2_n0, inL_def] at *; simp_all [q_days, cB, tB, hB]), Keeps2.rf⟩
    · refine bX4_days_24.go rfl (by first | exact ⟨⟨rfl, trivial⟩, trivial⟩ | exact ⟨trivial, trivial⟩) ?_
      refine j_if_eq (tgt := 49) dX4_days_29 (by decide) (fun h29 => ?_) (fun h29 => ?_)
      · refine bX4_days_49.go rfl trivial ?_
        refine r_iret dX4_days_51 rfl ?_
        exact ⟨ans (by clear main; simp only [b2_0, b2_n0, inL_def] at *; simp_all [q_days, cB, tB, hB]), Keeps2.rf⟩
      · refine bX4_days_32.go rfl (by first | exact ⟨⟨rfl, trivial⟩, trivial⟩ | exact ⟨trivial, trivial⟩) ?_
        refine j_if_eq (tgt := 49) dX4_days_38 (by decide) (fun h38 => ?_) (fun h38 => ?_)
        · refine bX4_days_49.go rfl trivial ?_
          refine r_iret dX4_days_51 rfl ?_
          exact ⟨ans (by clear main; simp only [b2_0, b2_n0, inL_def] at *; simp_all [q_days, cB, tB, hB]), Keeps2.rf⟩
        · refine bX4_days_41.go rfl (by first | exact ⟨⟨rfl, trivial⟩, trivial⟩ | exact ⟨trivial, trivial⟩) ?_
          refine j_if_ne (tgt := 52) dX4_days_46 (by decide) (fun h46 => ?_) (fun h46 => ?_)
          · exact main (by clear main; simp only [b2_0, b2_n0, inL_def] at *; simp_all [cB, tB, hB])
          · refine bX4_days_49.go rfl trivial ?_
            refine r_iret dX4_days_51 rfl ?_
            exact ⟨ans (by clear main; simp only [b2_0, b2_n0, inL_def] at *; simp_all [q_days, cB, tB, hB]), Keeps2.rf⟩
