set_option maxRecDepth 100000
/-! ===== UnseenClockModel: leastKept, keep, shifts, last ===== -/
def lkV (w : Nat → Int32) (c m : Nat) (h : Int32) : Int32 := firstF (fun n => decide (ktV w c (nI n) m = h)) 41 0
def Q_leastKept (c m h : Int32) (A : Nat → Nat → Int32) (B : Nat → Nat → Int64) : QR := fun r A' B' => r = some (.int (lkV (A 1) c.toNatClampNeg m.toNatClampNeg h)) ∧ Keeps2 A B A' B' ∧ (lkV (A 1) c.toNatClampNeg m.toNatClampNeg h = -1 ∨ ((∃ n, n ≤ 40 ∧ lkV (A 1) c.toNatClampNeg m.toNatClampNeg h = nI n) ∧ ∀ v, WOk (A 1) v → CrsA A' v (cfK (A 1) c.toNatClampNeg (lkV (A 1) c.toNatClampNeg m.toNatClampNeg h)) (rsK (A 1) c.toNatClampNeg (lkV (A 1) c.toNatClampNeg m.toNatClampNeg h)) (v 6)))
theorem bX4_leastKept_0 : Blk TP mX4_leastKept 0 3 [oC (nI 0), oIS 4] := blk_c (s_iconst dX4_leastKept_0 (by decide +kernel)) <| blk_c (s_istore dX4_leastKept_1 (by decide)) <| blk_nil
theorem bX4_leastKept_3 : Blk TP mX4_leastKept 3 7 [oIL 4, oC (nI 40)] := blk_c (s_iload dX4_leastKept_3) <| blk_c (s_bipush dX4_leastKept_5 (by decide +kernel)) <| blk_nil
theorem bX4_leastKept_10 : Blk TP mX4_leastKept 10 15 [oAL 0, oIL 1, oIL 4, oIL 2] := blk_c (s_aload_n dX4_leastKept_10 rfl) <| blk_c (s_iload_n dX4_leastKept_11 rfl) <| blk_c (s_iload dX4_leastKept_12) <| blk_c (s_iload_n dX4_leastKept_14 rfl) <| blk_nil
theorem bX4_leastKept_18 : Blk TP mX4_leastKept 18 19 [oIL 3] := blk_c (s_iload_n dX4_leastKept_18 rfl) <| blk_nil
theorem bX4_leastKept_22 : Blk TP mX4_leastKept 22 24 [oIL 4] := blk_c (s_iload dX4_leastKept_22) <| blk_nil
theorem bX4_leastKept_25 : Blk TP mX4_leastKept 25 3 [oInc 4 1, .inl (fun s => some s)] := blk_c (s_iinc dX4_leastKept_25 (by decide +kernel) (by decide)) <| blk_c (s_goto (tgt := 3) dX4_leastKept_28 (by decide)) <| blk_nil
theorem bX4_leastKept_31 : Blk TP mX4_leastKept 31 32 [oC (-1)] := blk_c (s_iconst dX4_leastKept_31 (by decide +kernel)) <| blk_nil
theorem ok_leastKept : RC_III mX4_leastKept (fun c m h A B => Pre_keptAt c h m A B) Q_leastKept := by
  intro X c m h o ad A B hpre
  obtain ⟨v, cn, mn, hw, rfl, rfl, hc, hm⟩ := id hpre
  have h6 : v 6 ≤ 40 := hw.2.2.2.2.2.2.2.1
  have h4 : v 1 ≤ 4 := hw.2.2.1
  refine R_start (L := [some (.ref o), some (.int (nI cn)), some (.int (nI mn)), some (.int h), none]) 1 rfl ?_
  refine bX4_leastKept_0.go rfl trivial ?_
  refine loop_down (N := 41) (I := fun n => lkV (A 1) cn mn h = firstF (fun n => decide (ktV (A 1) cn (nI n) mn = h)) (41 - n) n) (P := fun n => ∀ A' B', Keeps2 A B A' B' → JS TP X mX4_leastKept (rmOf mX4_leastKept.lv 0 0) _ 0 0 3 [some (.ref o), some (.int (nI cn)), some (.int (nI mn)), some (.int h), some (.int (nI n))] [] (o, ad, A', B')) ?_ ?_ 0 (by omega) rfl A B Keeps2.rf
  · intro hI A' B' hk
    refine bX4_leastKept_3.go rfl trivial ?_
    refine j_icmp_gt (tgt := 31) dX4_leastKept_7 (by decide) (fun h7 => ?_) (fun h7 => ?_)
    · refine bX4_leastKept_31.go rfl trivial ?_
      refine r_iret dX4_leastKept_32 rfl ?_
      simp (disch := omega) only [Q_leastKept, nI_clamp]
      exact ⟨ans (by rw [hI]; rfl), hk, Or.inl (by rw [hI]; rfl)⟩
    · simp (disch := omega) only [nI_ltI] at h7; omega
  · intro n hn hI ih A' B' hk
    obtain ⟨n', hn'⟩ : ∃ n', 41 - n = n' + 1 := ⟨40 - n, by omega⟩
    refine bX4_leastKept_3.go rfl trivial ?_
    refine j_icmp_gt (tgt := 31) dX4_leastKept_7 (by decide) (fun h7 => ?_) (fun h7 => ?_)
    · simp (disch := omega) only [nI_ltI] at h7; omega
    · refine bX4_leastKept_10.go rfl trivial ?_
      refine rc_III ok_keptAt gX4_keptAt dX4_leastKept_15 rfl ⟨v, cn, mn, by rw [hk.1]; exact hw, rfl, rfl, hc, hm⟩ (fun r A1 B1 q => ?_)
      obtain ⟨rfl, hk1, hq⟩ := q
      simp (disch := omega) only [nI_clamp, hk.1] at hq ⊢
      refine bX4_leastKept_18.go rfl trivial ?_
      refine j_icmp_ne (tgt := 25) dX4_leastKept_19 (by decide) (fun h19 => ?_) (fun h19 => ?_)
      · refine bX4_leastKept_25.go rfl trivial ?_
        rw [nI_1]
        refine ih ?_ A1 B1 (hk.trans hk1)
        rw [hI, hn', firstF, if_neg (by rw [decide_eq_true_eq]; exact h19), show 41 - (n + 1) = n' by omega]
      · refine bX4_leastKept_22.go rfl trivial ?_
        have e : lkV (A 1) cn mn h = nI n := by rw [hI, hn', firstF, if_pos (by rw [decide_eq_true_eq]; exact h19)]
        refine r_iret dX4_leastKept_24 rfl ?_
        simp (disch := omega) only [Q_leastKept, nI_clamp]
        rw [e]
        exact ⟨rfl, hk.trans hk1, Or.inr ⟨⟨n, by omega, rfl⟩, hq⟩⟩
def q_keep (w : Nat → Int32) (c m h : Int32) : Int32 := if (cB w c && (tB w m && hB h)) = true then lkV w c.toNatClampNeg m.toNatClampNeg h else -2
theorem bX4_keep_0 : Blk TP mX4_keep 0 5 [oAL 0, oIL 1, tC_I F_isClock] := blk_c (s_aload_n dX4_keep_0 rfl) <| blk_c (s_iload_n dX4_keep_1 rfl) <| blk_c (tc_I ok_isClock gX4_isClock (by decide +kernel) (by decide) dX4_keep_2) <| blk_nil
theorem bX4_keep_8 : Blk TP mX4_keep 8 13 [oAL 0, oIL 2, tC_I F_isTime] := blk_c (s_aload_n dX4_keep_8 rfl) <| blk_c (s_iload_n dX4_keep_9 rfl) <| blk_c (tc_I ok_isTime gX4_isTime (by decide +kernel) (by decide) dX4_keep_10) <| blk_nil
theorem bX4_keep_16 : Blk TP mX4_keep 16 20 [oIL 3, tS_I F_isHour] := blk_c (s_iload_n dX4_keep_16 rfl) <| blk_c (ts_I ok_isHour gX4_isHour (by decide +kernel) (by decide) dX4_keep_17) <| blk_nil
theorem bX4_keep_23 : Blk TP mX4_keep 23 27 [oAL 0, oIL 1, oIL 2, oIL 3] := blk_c (s_aload_n dX4_keep_23 rfl) <| blk_c (s_iload_n dX4_keep_24 rfl) <| blk_c (s_iload_n dX4_keep_25 rfl) <| blk_c (s_iload_n dX4_keep_26 rfl) <| blk_nil
theorem bX4_keep_30 : Blk TP mX4_keep 30 35 [.inl (fun s => some s)] := blk_c (s_goto (tgt := 35) dX4_keep_30 (by decide)) <| blk_nil
theorem bX4_keep_33 : Blk TP mX4_keep 33 35 [oC (-2)] := blk_c (s_bipush dX4_keep_33 (by decide +kernel)) <| blk_nil
theorem ok_keep : RC_III mX4_keep (fun _ _ _ A B => Pre_runs A B) (fun c m h A B => Qq (q_keep (A 1) c m h) A B) := by
  intro X c m h o ad A B hpre
  obtain ⟨v, hw⟩ := id hpre
  have main : (cB (A 1) c && (tB (A 1) m && hB h)) = true → JS TP X mX4_keep (rmOf mX4_keep.lv 0 0) (ZR X o ad (Qq (q_keep (A 1) c m h) A B)) 0 0 23 [some (.ref o), some (.int c), some (.int m), some (.int h)] [] (o, ad, A, B) := by
    intro hg
    rw [q_keep, if_pos hg]
    simp only [Bool.and_eq_true] at hg
    obtain ⟨cn, hc, hce⟩ := hw.cOf hg.1
    obtain ⟨mn, hm, hme⟩ := hw.tOf hg.2.1
    refine bX4_keep_23.go rfl trivial ?_
    refine rc_III ok_leastKept gX4_leastKept dX4_keep_27 rfl ⟨v, cn, mn, hw, hce, hme, hc, hm⟩ (fun r A1 B1 q => ?_)
    obtain ⟨rfl, hk, -⟩ := q
    refine bX4_keep_30.go rfl trivial ?_
    exact r_iret dX4_keep_35 rfl ⟨rfl, hk⟩
  refine R_start (L := [some (.ref o), some (.int c), some (.int m), some (.int h)]) 0 rfl ?_
  refine bX4_keep_0.go rfl (by first | exact ⟨⟨rfl, trivial⟩, trivial⟩ | exact ⟨trivial, trivial⟩) ?_
  refine j_if_eq (tgt := 33) dX4_keep_5 (by decide) (fun h5 => ?_) (fun h5 => ?_)
  · refine bX4_keep_33.go rfl trivial ?_
    refine r_iret dX4_keep_35 rfl ?_
    exact ⟨ans (by clear main; simp only [b2_0, b2_n0, inL_def] at *; simp_all [q_keep, cB, tB, hB]), Keeps2.rf⟩
  · refine bX4_keep_8.go rfl (by first | exact ⟨⟨rfl, trivial⟩, trivial⟩ | exact ⟨trivial, trivial⟩) ?_
    refine j_if_eq (tgt := 33) dX4_keep_13 (by decide) (fun h13 => ?_) (fun h13 => ?_)
    · refine bX4_keep_33.go rfl trivial ?_
      refine r_iret dX4_keep_35 rfl ?_
      exact ⟨ans (by clear main; simp only [b2_0, b2_n0, inL_def] at *; simp_all [q_keep, cB, tB, hB]), Keeps2.rf⟩
    · refine bX4_keep_16.go rfl (by first | exact ⟨⟨rfl, trivial⟩, trivial⟩ | exact ⟨trivial, trivial⟩) ?_
      refine j_if_eq (tgt := 33) dX4_keep_20 (by decide) (fun h20 => ?_) (fun h20 => ?_)
      · refine bX4_keep_33.go rfl trivial ?_
        refine r_iret dX4_keep_35 rfl ?_
        exact ⟨ans (by clear main; simp only [b2_0, b2_n0, inL_def] at *; simp_all [q_keep, cB, tB, hB]), Keeps2.rf⟩
      · exact main (by clear main; simp only [b2_0, b2_n0, inL_def] at *; simp_all [cB, tB, hB])
def q_last (w : Nat → Int32) (c m h : Int32) : Int32 := if (cB w c && (tB w m && hB h)) = true then (if lkV w c.toNatClampNeg m.toNatClampNeg h = -1 then -1 else (rsK w c.toNatClampNeg (lkV w c.toNatClampNeg m.toNatClampNeg h) (spanW w)).kL c.toNatClampNeg) else -2
theorem bX4_last_0 : Blk TP mX4_last 0 5 [oAL 0, oIL 1, tC_I F_isClock] := blk_c (s_aload_n dX4_last_0 rfl) <| blk_c (s_iload_n dX4_last_1 rfl) <| blk_c (tc_I ok_isClock gX4_isClock (by decide +kernel) (by decide) dX4_last_2) <| blk_nil
theorem bX4_last_8 : Blk TP mX4_last 8 13 [oAL 0, oIL 2, tC_I F_isTime] := blk_c (s_aload_n dX4_last_8 rfl) <| blk_c (s_iload_n dX4_last_9 rfl) <| blk_c (tc_I ok_isTime gX4_isTime (by decide +kernel) (by decide) dX4_last_10) <| blk_nil
theorem bX4_last_16 : Blk TP mX4_last 16 20 [oIL 3, tS_I F_isHour] := blk_c (s_iload_n dX4_last_16 rfl) <| blk_c (ts_I ok_isHour gX4_isHour (by decide +kernel) (by decide) dX4_last_17) <| blk_nil
theorem bX4_last_23 : Blk TP mX4_last 23 25 [oC (-2)] := blk_c (s_bipush dX4_last_23 (by decide +kernel)) <| blk_nil
theorem bX4_last_26 : Blk TP mX4_last 26 30 [oAL 0, oIL 1, oIL 2, oIL 3] := blk_c (s_aload_n dX4_last_26 rfl) <| blk_c (s_iload_n dX4_last_27 rfl) <| blk_c (s_iload_n dX4_last_28 rfl) <| blk_c (s_iload_n dX4_last_29 rfl) <| blk_nil
theorem bX4_last_33 : Blk TP mX4_last 33 34 [oC (-1)] := blk_c (s_iconst dX4_last_33 (by decide +kernel)) <| blk_nil
theorem bX4_last_37 : Blk TP mX4_last 37 47 [oC (-1), .inl (fun s => some s)] := blk_c (s_iconst dX4_last_37 (by decide +kernel)) <| blk_c (s_goto (tgt := 47) dX4_last_38 (by decide)) <| blk_nil
theorem bX4_last_41 : Blk TP mX4_last 41 47 [oAL 0, tR 26, oIL 1, tAI 26 4] := blk_c (s_aload_n dX4_last_41 rfl) <| blk_c (tgX4_26 rfl dX4_last_42) <| blk_c (s_iload_n dX4_last_45 rfl) <| blk_c (t_iald rfl dX4_last_46) <| blk_nil
theorem ok_last : RC_III mX4_last (fun _ _ _ A B => Pre_runs A B) (fun c m h A B => Qq (q_last (A 1) c m h) A B) := by
  intro X c m h o ad A B hpre
  obtain ⟨v, hw⟩ := id hpre
  have h4 : v 1 ≤ 4 := hw.2.2.1
  have main : (cB (A 1) c && (tB (A 1) m && hB h)) = true → JS TP X mX4_last (rmOf mX4_last.lv 0 0) (ZR X o ad (Qq (q_last (A 1) c m h) A B)) 0 0 26 [some (.ref o), some (.int c), some (.int m), some (.int h)] [] (o, ad, A, B) := by
    intro hg
    rw [q_last, if_pos hg, hw.span]
    simp only [Bool.and_eq_true] at hg
    obtain ⟨cn, hc, rfl⟩ := hw.cOf hg.1
    obtain ⟨mn, hm, hme⟩ := hw.tOf hg.2.1
    refine bX4_last_26.go rfl trivial ?_
    refine rc_III ok_leastKept gX4_leastKept dX4_last_30 rfl ⟨v, cn, mn, hw, rfl, hme, hc, hm⟩ (fun r A1 B1 q => ?_)
    obtain ⟨rfl, hk, hq⟩ := q
    simp (disch := omega) only [nI_clamp] at hq ⊢
    refine bX4_last_33.go rfl trivial ?_
    refine j_icmp_ne (tgt := 41) dX4_last_34 (by decide) (fun h34 => ?_) (fun h34 => ?_)
    · refine bX4_last_41.go rfl (by simp (disch := omega) only [vpI]; exact ⟨trivial, ⟨trivial, by omega⟩, trivial⟩) ?_
      simp (disch := omega) only [nI_clamp]
      have hC := (hq.resolve_left h34).2 v hw
      exact r_iret dX4_last_47 rfl ⟨ans (by rw [if_neg h34, (hC.2.2.2.2.2 cn hc).2]), hk⟩
    · refine bX4_last_37.go rfl trivial ?_
      exact r_iret dX4_last_47 rfl ⟨ans (by rw [if_pos h34]), hk⟩
  refine R_start (L := [some (.ref o), some (.int c), some (.int m), some (.int h)]) 0 rfl ?_
  refine bX4_last_0.go rfl (by first | exact ⟨⟨rfl, trivial⟩, trivial⟩ | exact ⟨trivial, trivial⟩) ?_
  refine j_if_eq (tgt := 23) dX4_last_5 (by decide) (fun h5 => ?_) (fun h5 => ?_)
  · refine bX4_last_23.go rfl trivial ?_
    refine r_iret dX4_last_25 rfl ?_
    exact ⟨ans (by clear main; simp only [b2_0, b2_n0, inL_def] at *; simp_all [q_last, cB, tB, hB]), Keeps2.rf⟩
  · refine bX4_last_8.go rfl (by first | exact ⟨⟨rfl, trivial⟩, trivial⟩ | exact ⟨trivial, trivial⟩) ?_
    refine j_if_eq (tgt := 23) dX4_last_13 (by decide) (fun h13 => ?_) (fun h13 => ?_)
    · refine bX4_last_23.go rfl trivial ?_
      refine r_iret dX4_last_25 rfl ?_
      exact ⟨ans (by clear main; simp only [b2_0, b2_n0, inL_def] at *; simp_all [q_last, cB, tB, hB]), Keeps2.rf⟩
    · refine bX4_last_16.go rfl (by first | exact ⟨⟨rfl, trivial⟩, trivial⟩ | exact ⟨trivial, trivial⟩) ?_
      refine j_if_ne (tgt := 26) dX4_last_20 (by decide) (fun h20 => ?_) (fun h20 => ?_)
      · exact main (by clear main; simp only [b2_0, b2_n0, inL_def] at *; simp_all [cB, tB, hB])
      · refine bX4_last_23.go rfl trivial ?_
        refine r_iret dX4_last_25 rfl ?_
        exact ⟨ans (by clear main; simp only [b2_0, b2_n0, inL_def] at *; simp_all [q_last, cB, tB, hB]), Keeps2.rf⟩
