set_option maxRecDepth 100000
/-! ===== UnseenClockModel: all ===== -/
/-- a course in which keepers look n times at every clock -/
def cfL (w : Nat → Int32) (n : Int32) : CF := (w, fun _ => n, fun _ => false, false)
def rsL (w : Nat → Int32) (n : Int32) : Nat → RS := rsS (cfL w n) (fun _ => nI 0) 0
def alN (w : Nat → Int32) (h : Int32) (t n : Nat) : Int32 := sumI (fun c => b2 (decide (shW w (rsL w (nI n) t).pt c = h))) (nC w)
def alV (w : Nat → Int32) (m h : Int32) (t : Nat) : Int32 := firstF (fun n => decide (m ≤ alN w h t n)) 41 0
theorem cfEq_all {A : Nat → Nat → Int32} {v : Nat → Nat} {w : Nat → Int32} {n : Int32} (h4 : v 1 ≤ 4) (hw : A 1 = w) (hk : ∀ c, c < 4 → A 25 c = n) (ht : A 0 24 = nI 0) (hd : A 0 28 = nI 0) : cfEq v (cfA A) (cfL w n) := by
  refine ⟨hw, fun c hc => hk c (by omega), fun n hn => ?_, ?_⟩
  · show tkA A n = false
    simp only [tkA, ht]
    rw [decide_eq_false (by rw [nI_ltI (by omega) (by omega)]; omega)]; rfl
  · show drA A = false
    simp only [drA, hd]; decide +kernel
def q_all (w : Nat → Int32) (m t h : Int32) : Int32 := if (tB w t && (inL m (lN 1) 4 && hB h)) = true then alV w m h t.toNatClampNeg else -2
theorem bX4_all_0 : Blk TP mX4_all 0 5 [oAL 0, oIL 2, tC_I F_isTime] := blk_c (s_aload_n dX4_all_0 rfl) <| blk_c (s_iload_n dX4_all_1 rfl) <| blk_c (tc_I ok_isTime gX4_isTime (by decide +kernel) (by decide) dX4_all_2) <| blk_nil
theorem bX4_all_8 : Blk TP mX4_all 8 17 [oIL 1, oI2L, oCL (lN 1), oCL (4), tS_JJJ F_in] := blk_c (s_iload_n dX4_all_8 rfl) <| blk_c (s_i2l dX4_all_9) <| blk_c (s_lconst dX4_all_10 (by decide +kernel)) <| blk_c (s_ldc2 dX4_all_11 q2062) <| blk_c (ts_JJJ ok_in gX4_in (by decide +kernel) (by decide) dX4_all_14) <| blk_nil
theorem bX4_all_20 : Blk TP mX4_all 20 24 [oIL 3, tS_I F_isHour] := blk_c (s_iload_n dX4_all_20 rfl) <| blk_c (ts_I ok_isHour gX4_isHour (by decide +kernel) (by decide) dX4_all_21) <| blk_nil
theorem bX4_all_27 : Blk TP mX4_all 27 29 [oC (-2)] := blk_c (s_bipush dX4_all_27 (by decide +kernel)) <| blk_nil
theorem bX4_all_30 : Blk TP mX4_all 30 43 [oAL 0, oC (nI 0), tPI 24, oAL 0, oC (nI 0), tPZ 28, oC (nI 0), oIS 4] := blk_c (s_aload_n dX4_all_30 rfl) <| blk_c (s_iconst dX4_all_31 (by decide +kernel)) <| blk_c (tpX4_24 rfl dX4_all_32) <| blk_c (s_aload_n dX4_all_35 rfl) <| blk_c (s_iconst dX4_all_36 (by decide +kernel)) <| blk_c (tpX4_28 rfl dX4_all_37) <| blk_c (s_iconst dX4_all_40 (by decide +kernel)) <| blk_c (s_istore dX4_all_41 (by decide)) <| blk_nil
theorem bX4_all_43 : Blk TP mX4_all 43 47 [oIL 4, oC (nI 40)] := blk_c (s_iload dX4_all_43) <| blk_c (s_bipush dX4_all_45 (by decide +kernel)) <| blk_nil
theorem bX4_all_50 : Blk TP mX4_all 50 53 [oC (nI 0), oIS 5] := blk_c (s_iconst dX4_all_50 (by decide +kernel)) <| blk_c (s_istore dX4_all_51 (by decide)) <| blk_nil
theorem bX4_all_53 : Blk TP mX4_all 53 56 [oIL 5, oC (nI 4)] := blk_c (s_iload dX4_all_53) <| blk_c (s_iconst dX4_all_55 (by decide +kernel)) <| blk_nil
theorem bX4_all_59 : Blk TP mX4_all 59 53 [oAL 0, tR 25, oIL 5, oIL 4, tSI 25 4, oInc 5 1, .inl (fun s => some s)] := blk_c (s_aload_n dX4_all_59 rfl) <| blk_c (tgX4_25 rfl dX4_all_60) <| blk_c (s_iload dX4_all_63) <| blk_c (s_iload dX4_all_65) <| blk_c (t_iast rfl dX4_all_67) <| blk_c (s_iinc dX4_all_68 (by decide +kernel) (by decide)) <| blk_c (s_goto (tgt := 53) dX4_all_71 (by decide)) <| blk_nil
theorem bX4_all_74 : Blk TP mX4_all 74 75 [oAL 0] := blk_c (s_aload_n dX4_all_74 rfl) <| blk_nil
theorem bX4_all_78 : Blk TP mX4_all 78 85 [oAL 0, oIL 3, oIL 2, tC_II F_manyShow, oIL 1] := blk_c (s_aload_n dX4_all_78 rfl) <| blk_c (s_iload_n dX4_all_79 rfl) <| blk_c (s_iload_n dX4_all_80 rfl) <| blk_c (tc_II ok_manyShow gX4_manyShow (by decide +kernel) (by decide) dX4_all_81) <| blk_c (s_iload_n dX4_all_84 rfl) <| blk_nil
theorem bX4_all_88 : Blk TP mX4_all 88 90 [oIL 4] := blk_c (s_iload dX4_all_88) <| blk_nil
theorem bX4_all_91 : Blk TP mX4_all 91 43 [oInc 4 1, .inl (fun s => some s)] := blk_c (s_iinc dX4_all_91 (by decide +kernel) (by decide)) <| blk_c (s_goto (tgt := 43) dX4_all_94 (by decide)) <| blk_nil
theorem bX4_all_97 : Blk TP mX4_all 97 98 [oC (-1)] := blk_c (s_iconst dX4_all_97 (by decide +kernel)) <| blk_nil
theorem ok_all : RC_III mX4_all (fun _ _ _ A B => Pre_runs A B) (fun m t h A B => Qq (q_all (A 1) m t h) A B) := by
  intro X m t h o ad A B hpre
  obtain ⟨v, hw⟩ := id hpre
  have h4 : v 1 ≤ 4 := hw.2.2.1
  have h6 : v 6 ≤ 40 := hw.2.2.2.2.2.2.2.1
  have main : (tB (A 1) t && (inL m (lN 1) 4 && hB h)) = true → JS TP X mX4_all (rmOf mX4_all.lv 0 0) (ZR X o ad (Qq (q_all (A 1) m t h) A B)) 0 0 30 [some (.ref o), some (.int m), some (.int t), some (.int h), none, none] [] (o, ad, A, B) := by
    intro hg
    rw [q_all, if_pos hg]
    simp only [Bool.and_eq_true] at hg
    obtain ⟨tn, ht, rfl⟩ := hw.tOf hg.1
    rw [nI_clamp (by omega)]
    refine bX4_all_30.go rfl (by exact ⟨rfl, ⟨rfl, by decide +kernel, by decide +kernel⟩, trivial⟩) ?_
    have k0 : Keeps2 A B (upA (upA A 0 24 (nI 0)) 0 28 (nI 0)) B := ⟨rfl, rfl, rfl, rfl, rfl, rfl, by rw [upA_at, if_neg (by decide), upA_at, if_neg (by decide)], by rw [upA_at, if_neg (by decide), upA_at, if_neg (by decide)], by rw [upA_at, if_neg (by decide), upA_at, if_neg (by decide)], rfl⟩
    refine loop_down (N := 41) (I := fun n => alV (A 1) m h tn = firstF (fun n => decide (m ≤ alN (A 1) h tn n)) (41 - n) n) (P := fun n => ∀ A' B', Keeps2 A B A' B' → A' 0 24 = nI 0 → A' 0 28 = nI 0 → JS TP X mX4_all (rmOf mX4_all.lv 0 0) _ 0 0 43 [some (.ref o), some (.int m), some (.int (nI tn)), some (.int h), some (.int (nI n)), none] [] (o, ad, A', B')) ?_ ?_ 0 (by omega) rfl _ B k0 (by rw [upA_at, if_neg (by decide), upA_at, if_pos rfl]) (by rw [upA_at, if_pos rfl])
    · intro hI A' B' hk _ _
      refine bX4_all_43.go rfl trivial ?_
      refine j_icmp_gt (tgt := 97) dX4_all_47 (by decide) (fun h47 => ?_) (fun h47 => ?_)
      · refine bX4_all_97.go rfl trivial ?_
        exact r_iret dX4_all_98 rfl ⟨ans (by rw [hI]; rfl), hk⟩
      · simp (disch := omega) only [nI_ltI] at h47; omega
    · intro n hn hI ih A' B' hk h24 h28
      obtain ⟨n', hn'⟩ : ∃ n', 41 - n = n' + 1 := ⟨40 - n, by omega⟩
      refine bX4_all_43.go rfl trivial ?_
      refine j_icmp_gt (tgt := 97) dX4_all_47 (by decide) (fun h47 => ?_) (fun h47 => ?_)
      · simp (disch := omega) only [nI_ltI] at h47; omega
      · refine bX4_all_50.go rfl trivial ?_
        refine loop_down (N := 4) (I := fun _ => True) (P := fun c => ∀ A2, (∀ k, k ≠ 25 → A2 k = A' k) → (∀ c', c' < c → A2 25 c' = nI n) → JS TP X mX4_all (rmOf mX4_all.lv 0 0) _ 0 0 53 [some (.ref o), some (.int m), some (.int (nI tn)), some (.int h), some (.int (nI n)), some (.int (nI c))] [] (o, ad, A2, B')) ?_ ?_ 0 (by omega) trivial A' (fun _ _ => rfl) (fun c' h => by omega)
        · intro _ A2 s1 s2
          refine bX4_all_53.go rfl trivial ?_
          refine j_icmp_ge (tgt := 74) dX4_all_56 (by decide) (fun h56 => ?_) (fun h56 => ?_)
          · have g1 : A2 1 = A 1 := (s1 1 (by decide)).trans hk.1
            have hk2 : Keeps2 A B A2 B' := hk.trans ⟨s1 1 (by decide), s1 2 (by decide), s1 3 (by decide), s1 4 (by decide), s1 37 (by decide), s1 38 (by decide), by rw [s1 0 (by decide)], by rw [s1 0 (by decide)], by rw [s1 0 (by decide)], rfl⟩
            have g24 : A2 0 24 = nI 0 := by rw [s1 0 (by decide)]; exact h24
            have g28 : A2 0 28 = nI 0 := by rw [s1 0 (by decide)]; exact h28
            refine bX4_all_74.go rfl trivial ?_
            refine rc_V ok_runs gX4_runs dX4_all_75 rfl ⟨v, by rw [g1]; exact hw⟩ (fun r A3 B3 q2 => ?_)
            obtain ⟨rfl, hq⟩ := q2
            have hR := hq v (by rw [g1]; exact hw)
            have hC : CrsA A3 v (cfL (A 1) (nI n)) (rsL (A 1) (nI n)) (v 6) := CrsA.z rfl (hR.crs (od' := fun _ => nI 0) (cf' := cfL (A 1) (nI n)) h6 (by show WOk (A2 1) v; rw [g1]; exact hw) (cfEq_all h4 g1 s2 g24 g28))
            have hk3 := hk2.trans hR.keeps
            have f2 := hR.2.1
            refine bX4_all_78.go rfl (by exact ⟨⟨rfl, v, tn, by rw [hk3.1]; exact hw, by omega, rfl⟩, trivial⟩) ?_
            have eM : sumI (fun c => b2 (decide (shA A3 (nI tn).toNatClampNeg c = h))) (nC (A3 1)) = alN (A 1) h tn n := by
              rw [nI_clamp (by omega), hk3.1, alN]
              refine sumI_congr (fun c hc => ?_)
              rw [hw.ncE] at hc
              unfold shA
              rw [hC.2.2.2.1 tn ht c hc, hk3.1]; rfl
            rw [eM]
            refine j_icmp_lt (tgt := 91) dX4_all_85 (by decide) (fun h85 => ?_) (fun h85 => ?_)
            · refine bX4_all_91.go rfl trivial ?_
              rw [nI_1]
              refine JS.weak (by simp [lsub]) (ih ?_ A3 B3 hk3 (by rw [f2 24 (by decide)]; exact g24) (by rw [f2 28 (by decide)]; exact g28))
              rw [hI, hn', firstF, if_neg (by rw [decide_eq_true_eq, Int32.not_le]; exact h85), show 41 - (n + 1) = n' by omega]
            · refine bX4_all_88.go rfl trivial ?_
              exact r_iret dX4_all_90 rfl ⟨ans (by rw [hI, hn', firstF, if_pos (by rw [decide_eq_true_eq]; exact Int32.not_lt.mp h85)]), hk3⟩
          · simp (disch := omega) only [nI_leI] at h56; omega
        · intro c hc _ ih2 A2 s1 s2
          refine bX4_all_53.go rfl trivial ?_
          refine j_icmp_ge (tgt := 74) dX4_all_56 (by decide) (fun h56 => ?_) (fun h56 => ?_)
          · simp (disch := omega) only [nI_leI] at h56; omega
          · refine bX4_all_59.go rfl (by simp (disch := omega) only [vpI]; exact ⟨trivial, ⟨trivial, by omega⟩, trivial⟩) ?_
            simp (disch := omega) only [nI_clamp, nI_1]
            refine ih2 trivial _ (fun k hk => by rw [upA_ne hk, s1 k hk]) (fun c' h => ?_)
            rw [upA_at]
            split
            · rfl
            · exact s2 c' (by omega)
  refine R_start (L := [some (.ref o), some (.int m), some (.int t), some (.int h), none, none]) 2 rfl ?_
  refine bX4_all_0.go rfl (by first | exact ⟨⟨rfl, trivial⟩, trivial⟩ | exact ⟨trivial, trivial⟩) ?_
  refine j_if_eq (tgt := 27) dX4_all_5 (by decide) (fun h5 => ?_) (fun h5 => ?_)
  · refine bX4_all_27.go rfl trivial ?_
    refine r_iret dX4_all_29 rfl ?_
    exact ⟨ans (by clear main; simp only [b2_0, b2_n0, inL_def] at *; simp_all [q_all, cB, tB, hB]), Keeps2.rf⟩
  · refine bX4_all_8.go rfl (by first | exact ⟨⟨rfl, trivial⟩, trivial⟩ | exact ⟨trivial, trivial⟩) ?_
    refine j_if_eq (tgt := 27) dX4_all_17 (by decide) (fun h17 => ?_) (fun h17 => ?_)
    · refine bX4_all_27.go rfl trivial ?_
      refine r_iret dX4_all_29 rfl ?_
      exact ⟨ans (by clear main; simp only [b2_0, b2_n0, inL_def] at *; simp_all [q_all, cB, tB, hB]), Keeps2.rf⟩
    · refine bX4_all_20.go rfl (by first | exact ⟨⟨rfl, trivial⟩, trivial⟩ | exact ⟨trivial, trivial⟩) ?_
      refine j_if_ne (tgt := 30) dX4_all_24 (by decide) (fun h24 => ?_) (fun h24 => ?_)
      · exact main (by clear main; simp only [b2_0, b2_n0, inL_def] at *; simp_all [cB, tB, hB])
      · refine bX4_all_27.go rfl trivial ?_
        refine r_iret dX4_all_29 rfl ?_
        exact ⟨ans (by clear main; simp only [b2_0, b2_n0, inL_def] at *; simp_all [q_all, cB, tB, hB]), Keeps2.rf⟩
