set_option maxRecDepth 100000
/-! ===== UnseenClockModel: knows, alike, both, learns, sights ===== -/
theorem cnC_pos (w : Nat → Int32) : 0 < cnC w := by
  unfold cnC
  rw [cnF, if_neg (by rw [crE]; decide)]
  have : ∀ f k, k ≤ cnF w f k := by
    intro f
    induction f with
    | zero => intro k; exact Nat.le_refl _
    | succ f ih =>
      intro k
      rw [cnF]
      split
      · exact Nat.le_refl _
      · have := ih (k + 1); omega
  exact this 128 1
theorem b2_dec (b : Bool) : (!decide (b2 b = 0)) = b := by cases b <;> decide +kernel
/-- isComing is written: what holds of the other fields -/
theorem CoA.up35 {A : Nat → Nat → Int32} {v : Nat → Nat} {w : Nat → Int32} {N : Nat} (h : CoA A v w N) {A' : Nat → Nat → Int32} (k : ∀ f, f ≠ 35 → f ≠ 36 → A' f = A f) : CoA A' v w N := by
  obtain ⟨h1, h2⟩ := h
  refine ⟨by rw [k 0 (by decide) (by decide)]; exact h1, ?_⟩
  rw [k 32 (by decide) (by decide), k 33 (by decide) (by decide)]
  exact h2
theorem Keeps2.up35 {A A1 A' : Nat → Nat → Int32} {B B1 : Nat → Nat → Int64} (h : Keeps2 A B A1 B1) (k : ∀ f, f ≠ 35 → f ≠ 36 → A' f = A1 f) : Keeps2 A B A' B1 :=
  h.trans ⟨k 1 (by decide) (by decide), k 2 (by decide) (by decide), k 3 (by decide) (by decide), k 4 (by decide) (by decide), k 37 (by decide) (by decide), k 38 (by decide) (by decide), by rw [k 0 (by decide) (by decide)], by rw [k 0 (by decide) (by decide)], by rw [k 0 (by decide) (by decide)], rfl⟩
def cmC (w : Nat → Int32) (com : Nat → Bool) (c m : Nat) : Int32 := cmF com (fun k => shC w k c m) (cnC w)
def q_knows (w : Nat → Int32) (p c m : Int32) : Int32 := if (pB w p && (cB w c && tB w m)) = true then (if cnC w ≤ 128 then cmC w (fun k => alC w p.toNatClampNeg 0 k (spanW w)) c.toNatClampNeg m.toNatClampNeg else -3) else -2
theorem bX4_knows_0 : Blk TP mX4_knows 0 5 [oAL 0, oIL 1, tC_I F_isPerson] := blk_c (s_aload_n dX4_knows_0 rfl) <| blk_c (s_iload_n dX4_knows_1 rfl) <| blk_c (tc_I ok_isPerson gX4_isPerson (by decide +kernel) (by decide) dX4_knows_2) <| blk_nil
theorem bX4_knows_8 : Blk TP mX4_knows 8 13 [oAL 0, oIL 2, tC_I F_isClock] := blk_c (s_aload_n dX4_knows_8 rfl) <| blk_c (s_iload_n dX4_knows_9 rfl) <| blk_c (tc_I ok_isClock gX4_isClock (by decide +kernel) (by decide) dX4_knows_10) <| blk_nil
theorem bX4_knows_16 : Blk TP mX4_knows 16 21 [oAL 0, oIL 3, tC_I F_isTime] := blk_c (s_aload_n dX4_knows_16 rfl) <| blk_c (s_iload_n dX4_knows_17 rfl) <| blk_c (tc_I ok_isTime gX4_isTime (by decide +kernel) (by decide) dX4_knows_18) <| blk_nil
theorem bX4_knows_24 : Blk TP mX4_knows 24 26 [oC (-2)] := blk_c (s_bipush dX4_knows_24 (by decide +kernel)) <| blk_nil
theorem bX4_knows_27 : Blk TP mX4_knows 27 28 [oAL 0] := blk_c (s_aload_n dX4_knows_27 rfl) <| blk_nil
theorem bX4_knows_34 : Blk TP mX4_knows 34 36 [oC (-3)] := blk_c (s_bipush dX4_knows_34 (by decide +kernel)) <| blk_nil
theorem bX4_knows_37 : Blk TP mX4_knows 37 40 [oC (nI 0), oIS 4] := blk_c (s_iconst dX4_knows_37 (by decide +kernel)) <| blk_c (s_istore dX4_knows_38 (by decide)) <| blk_nil
theorem bX4_knows_40 : Blk TP mX4_knows 40 46 [oIL 4, oAL 0, tI 34] := blk_c (s_iload dX4_knows_40) <| blk_c (s_aload_n dX4_knows_42 rfl) <| blk_c (tgX4_34 rfl dX4_knows_43) <| blk_nil
theorem bX4_knows_49 : Blk TP mX4_knows 49 40 [oAL 0, tR 35, oIL 4, oAL 0, oIL 1, oC (nI 0), oIL 4, tC_III F_isAlike, tSZ 35 128, oInc 4 1, .inl (fun s => some s)] := blk_c (s_aload_n dX4_knows_49 rfl) <| blk_c (tgX4_35 rfl dX4_knows_50) <| blk_c (s_iload dX4_knows_53) <| blk_c (s_aload_n dX4_knows_55 rfl) <| blk_c (s_iload_n dX4_knows_56 rfl) <| blk_c (s_iconst dX4_knows_57 (by decide +kernel)) <| blk_c (s_iload dX4_knows_58) <| blk_c (tc_III ok_isAlike gX4_isAlike (by decide +kernel) (by decide) dX4_knows_60) <| blk_c (t_zast rfl dX4_knows_63) <| blk_c (s_iinc dX4_knows_64 (by decide +kernel) (by decide)) <| blk_c (s_goto (tgt := 40) dX4_knows_67 (by decide)) <| blk_nil
theorem bX4_knows_70 : Blk TP mX4_knows 70 76 [oAL 0, oIL 2, oIL 3, tC_II F_commonOf] := blk_c (s_aload_n dX4_knows_70 rfl) <| blk_c (s_iload_n dX4_knows_71 rfl) <| blk_c (s_iload_n dX4_knows_72 rfl) <| blk_c (tc_II ok_commonOf gX4_commonOf (by decide +kernel) (by decide) dX4_knows_73) <| blk_nil
theorem ok_knows : RC_III mX4_knows (fun _ _ _ A B => Pre_runs A B) (fun p c m A B => Qq (q_knows (A 1) p c m) A B) := by
  intro X p c m o ad A B hpre
  obtain ⟨v, hw⟩ := id hpre
  have h6 : v 6 ≤ 40 := hw.2.2.2.2.2.2.2.1
  have h4 : v 1 ≤ 4 := hw.2.2.1
  have h8 : v 2 ≤ 8 := hw.2.2.2.1
  have main : (pB (A 1) p && (cB (A 1) c && tB (A 1) m)) = true → JS TP X mX4_knows (rmOf mX4_knows.lv 0 0) (ZR X o ad (Qq (q_knows (A 1) p c m) A B)) 0 0 27 [some (.ref o), some (.int p), some (.int c), some (.int m), none] [] (o, ad, A, B) := by
    intro hg
    rw [q_knows, if_pos hg]
    simp only [Bool.and_eq_true] at hg
    obtain ⟨pn, hp, rfl⟩ := hw.pOf hg.1
    obtain ⟨cn, hc, rfl⟩ := hw.cOf hg.2.1
    obtain ⟨mn, hm, rfl⟩ := hw.tOf hg.2.2
    rw [nI_clamp (show cn < 2 ^ 31 by omega), nI_clamp (show mn < 2 ^ 31 by omega), nI_clamp (show pn < 2 ^ 31 by omega)]
    refine bX4_knows_27.go rfl trivial ?_
    refine rc_V ok_fillCourses gX4_fillCourses dX4_knows_28 rfl hpre (fun r A1 B1 q => ?_)
    obtain ⟨rfl, hk, hq⟩ := q
    refine j_if_ne (tgt := 37) dX4_knows_31 (by decide) (fun h31 => ?_) (fun h31 => ?_)
    · rw [b2_n0] at h31
      have hn := of_decide_eq_true h31
      have hC := hq hn v hw
      have hN := cnC_pos (A 1)
      rw [if_pos hn]
      refine bX4_knows_37.go rfl trivial ?_
      refine loop_down (N := cnC (A 1)) (I := fun _ => True) (P := fun k => ∀ A2, (∀ f, f ≠ 35 → f ≠ 36 → A2 f = A1 f) → (∀ j, j < k → A2 35 j = b2 (alC (A 1) pn 0 j (spanW (A 1)))) → JS TP X mX4_knows (rmOf mX4_knows.lv 0 0) (ZR X o ad (Qq (cmC (A 1) (fun k => alC (A 1) pn 0 k (spanW (A 1))) cn mn) A B)) 0 0 40 [some (.ref o), some (.int (nI pn)), some (.int (nI cn)), some (.int (nI mn)), some (.int (nI k))] [] (o, ad, A2, B1)) ?_ ?_ 0 (Nat.zero_le _) trivial A1 (fun _ _ _ => rfl) (fun j h => by omega)
      · intro _ A2 a1 a2
        have hC2 := hC.up35 a1
        have hk2 := hk.up35 a1
        refine bX4_knows_40.go rfl (by exact ⟨rfl, trivial⟩) ?_
        rw [hC2.1]
        refine j_icmp_ge (tgt := 70) dX4_knows_46 (by decide) (fun h46 => ?_) (fun h46 => absurd (nI_le (Nat.le_refl _) (by omega)) h46)
        refine bX4_knows_70.go rfl (by simp (disch := omega) only [vpI]; exact ⟨⟨trivial, by omega, by omega, ⟨_, hn, hC2.1⟩⟩, trivial⟩) ?_
        simp (disch := omega) only [nI_clamp, hC2.1]
        refine r_iret dX4_knows_76 rfl ⟨ans ?_, hk2⟩
        exact cmF_cg hN (fun k hk => by show (!decide (A2 35 k = 0)) = _; rw [a2 k hk, b2_dec]) (fun k hk => (hC2.2 k hk).1 mn hm cn hc)
      · intro k hkn _ ih A2 a1 a2
        have hC2 := hC.up35 a1
        have hw2 : WOk (A2 1) v := by rw [a1 1 (by decide) (by decide), hk.1]; exact hw
        refine bX4_knows_40.go rfl (by exact ⟨rfl, trivial⟩) ?_
        rw [hC2.1]
        refine j_icmp_ge (tgt := 70) dX4_knows_46 (by decide) (fun h46 => ?_) (fun h46 => ?_)
        · simp (disch := omega) only [nI_leI] at h46; omega
        · refine bX4_knows_49.go rfl (by simp (disch := omega) only [vpI]; exact ⟨trivial, ⟨trivial, by omega, by omega, by omega, v, hw2⟩, ⟨trivial, by omega⟩, trivial⟩) ?_
          simp (disch := omega) only [nI_clamp, nI_1, nar_b2, show A2 1 = A 1 by rw [a1 1 (by decide) (by decide), hk.1]]
          rw [alC_eq hw hC2 hN hkn (by omega) (by rw [hw.span]; omega)]
          refine ih trivial _ (fun f g1 g2 => by rw [upA_ne g1]; exact a1 f g1 g2) (fun j hj => ?_)
          rw [upA_at]
          by_cases e : j = k
          · rw [if_pos e, e]
          · rw [if_neg e]; exact a2 j (by omega)
    · rw [b2_0] at h31
      refine bX4_knows_34.go rfl trivial ?_
      exact r_iret dX4_knows_36 rfl ⟨ans (by rw [if_neg (of_decide_eq_false h31)]), hk⟩
  refine R_start (L := [some (.ref o), some (.int p), some (.int c), some (.int m), none]) 1 rfl ?_
  refine bX4_knows_0.go rfl (by first | exact ⟨⟨rfl, trivial⟩, trivial⟩ | exact ⟨trivial, trivial⟩) ?_
  refine j_if_eq (tgt := 24) dX4_knows_5 (by decide) (fun h5 => ?_) (fun h5 => ?_)
  · refine bX4_knows_24.go rfl trivial ?_
    refine r_iret dX4_knows_26 rfl ?_
    exact ⟨ans (by clear main; simp only [b2_0, b2_n0] at *; simp_all [q_knows, cB, tB, pB]), Keeps2.rf⟩
  · refine bX4_knows_8.go rfl (by first | exact ⟨⟨rfl, trivial⟩, trivial⟩ | exact ⟨trivial, trivial⟩) ?_
    refine j_if_eq (tgt := 24) dX4_knows_13 (by decide) (fun h13 => ?_) (fun h13 => ?_)
    · refine bX4_knows_24.go rfl trivial ?_
      refine r_iret dX4_knows_26 rfl ?_
      exact ⟨ans (by clear main; simp only [b2_0, b2_n0] at *; simp_all [q_knows, cB, tB, pB]), Keeps2.rf⟩
    · refine bX4_knows_16.go rfl (by first | exact ⟨⟨rfl, trivial⟩, trivial⟩ | exact ⟨trivial, trivial⟩) ?_
      refine j_if_ne (tgt := 27) dX4_knows_21 (by decide) (fun h21 => ?_) (fun h21 => ?_)
      · exact main (by clear main; simp only [b2_0, b2_n0] at *; simp_all [cB, tB, pB])
      · refine bX4_knows_24.go rfl trivial ?_
        refine r_iret dX4_knows_26 rfl ?_
        exact ⟨ans (by clear main; simp only [b2_0, b2_n0] at *; simp_all [q_knows, cB, tB, pB]), Keeps2.rf⟩
def q_alike (w : Nat → Int32) (p : Int32) : Int32 := if pB w p = true then (if cnC w ≤ 128 then sumI (fun k => b2 (alC w p.toNatClampNeg 0 k (spanW w))) (cnC w) else -3) else -2
theorem bX4_alike_0 : Blk TP mX4_alike 0 5 [oAL 0, oIL 1, tC_I F_isPerson] := blk_c (s_aload_n dX4_alike_0 rfl) <| blk_c (s_iload_n dX4_alike_1 rfl) <| blk_c (tc_I ok_isPerson gX4_isPerson (by decide +kernel) (by decide) dX4_alike_2) <| blk_nil
theorem bX4_alike_8 : Blk TP mX4_alike 8 10 [oC (-2)] := blk_c (s_bipush dX4_alike_8 (by decide +kernel)) <| blk_nil
theorem bX4_alike_11 : Blk TP mX4_alike 11 12 [oAL 0] := blk_c (s_aload_n dX4_alike_11 rfl) <| blk_nil
theorem bX4_alike_18 : Blk TP mX4_alike 18 20 [oC (-3)] := blk_c (s_bipush dX4_alike_18 (by decide +kernel)) <| blk_nil
theorem bX4_alike_21 : Blk TP mX4_alike 21 25 [oC (nI 0), oIS 2, oC (nI 0), oIS 3] := blk_c (s_iconst dX4_alike_21 (by decide +kernel)) <| blk_c (s_istore_n dX4_alike_22 rfl (by decide)) <| blk_c (s_iconst dX4_alike_23 (by decide +kernel)) <| blk_c (s_istore_n dX4_alike_24 rfl (by decide)) <| blk_nil
theorem bX4_alike_25 : Blk TP mX4_alike 25 30 [oIL 3, oAL 0, tI 34] := blk_c (s_iload_n dX4_alike_25 rfl) <| blk_c (s_aload_n dX4_alike_26 rfl) <| blk_c (tgX4_34 rfl dX4_alike_27) <| blk_nil
theorem bX4_alike_33 : Blk TP mX4_alike 33 41 [oIL 2, oAL 0, oIL 1, oC (nI 0), oIL 3, tC_III F_isAlike] := blk_c (s_iload_n dX4_alike_33 rfl) <| blk_c (s_aload_n dX4_alike_34 rfl) <| blk_c (s_iload_n dX4_alike_35 rfl) <| blk_c (s_iconst dX4_alike_36 (by decide +kernel)) <| blk_c (s_iload_n dX4_alike_37 rfl) <| blk_c (tc_III ok_isAlike gX4_isAlike (by decide +kernel) (by decide) dX4_alike_38) <| blk_nil
theorem bX4_alike_44 : Blk TP mX4_alike 44 49 [oC (nI 1), .inl (fun s => some s)] := blk_c (s_iconst dX4_alike_44 (by decide +kernel)) <| blk_c (s_goto (tgt := 49) dX4_alike_45 (by decide)) <| blk_nil
theorem bX4_alike_48 : Blk TP mX4_alike 48 49 [oC (nI 0)] := blk_c (s_iconst dX4_alike_48 (by decide +kernel)) <| blk_nil
theorem bX4_alike_49 : Blk TP mX4_alike 49 25 [oAdd, oIS 2, oInc 3 1, .inl (fun s => some s)] := blk_c (s_iadd dX4_alike_49) <| blk_c (s_istore_n dX4_alike_50 rfl (by decide)) <| blk_c (s_iinc dX4_alike_51 (by decide +kernel) (by decide)) <| blk_c (s_goto (tgt := 25) dX4_alike_54 (by decide)) <| blk_nil
theorem bX4_alike_57 : Blk TP mX4_alike 57 58 [oIL 2] := blk_c (s_iload_n dX4_alike_57 rfl) <| blk_nil
theorem ok_alike : RC_I mX4_alike (fun _ A B => Pre_runs A B) (fun p A B => Qq (q_alike (A 1) p) A B) := by
  intro X p o ad A B hpre
  obtain ⟨v, hw⟩ := id hpre
  have h8 : v 2 ≤ 8 := hw.2.2.2.1
  refine R_start (L := [some (.ref o), some (.int p), none, none]) 2 rfl ?_
  refine bX4_alike_0.go rfl (by exact ⟨⟨rfl, trivial⟩, trivial⟩) ?_
  refine j_if_ne (tgt := 11) dX4_alike_5 (by decide) (fun h5 => ?_) (fun h5 => ?_)
  · rw [b2_n0] at h5
    have h5 : pB (A 1) p = true := h5
    dsimp only
    rw [q_alike, if_pos h5]
    obtain ⟨pn, hp, rfl⟩ := hw.pOf h5
    rw [nI_clamp (show pn < 2 ^ 31 by omega)]
    refine bX4_alike_11.go rfl trivial ?_
    refine rc_V ok_fillCourses gX4_fillCourses dX4_alike_12 rfl hpre (fun r A1 B1 q => ?_)
    obtain ⟨rfl, hk, hq⟩ := q
    refine j_if_ne (tgt := 21) dX4_alike_15 (by decide) (fun h15 => ?_) (fun h15 => ?_)
    · rw [b2_n0] at h15
      have hn := of_decide_eq_true h15
      have hC := hq hn v hw
      have hN := cnC_pos (A 1)
      have hw1 : WOk (A1 1) v := by rw [hk.1]; exact hw
      rw [if_pos hn]
      refine bX4_alike_21.go rfl trivial ?_
      refine loop_down (N := cnC (A 1)) (I := fun _ => True) (P := fun k => JS TP X mX4_alike (rmOf mX4_alike.lv 0 0) (ZR X o ad (Qq (sumI (fun k => b2 (alC (A 1) pn 0 k (spanW (A 1)))) (cnC (A 1))) A B)) 0 0 25 [some (.ref o), some (.int (nI pn)), some (.int (sumI (fun k => b2 (alC (A 1) pn 0 k (spanW (A 1)))) k)), some (.int (nI k))] [] (o, ad, A1, B1)) ?_ ?_ 0 (Nat.zero_le _) trivial
      · intro _
        refine bX4_alike_25.go rfl (by exact ⟨rfl, trivial⟩) ?_
        rw [hC.1]
        refine j_icmp_ge (tgt := 57) dX4_alike_30 (by decide) (fun h30 => ?_) (fun h30 => absurd (nI_le (Nat.le_refl _) (by omega)) h30)
        refine bX4_alike_57.go rfl trivial ?_
        exact r_iret dX4_alike_58 rfl ⟨rfl, hk⟩
      · intro k hkn _ ih
        refine bX4_alike_25.go rfl (by exact ⟨rfl, trivial⟩) ?_
        rw [hC.1]
        refine j_icmp_ge (tgt := 57) dX4_alike_30 (by decide) (fun h30 => ?_) (fun h30 => ?_)
        · simp (disch := omega) only [nI_leI] at h30; omega
        · refine bX4_alike_33.go rfl (by simp (disch := omega) only [vpI]; exact ⟨⟨trivial, by omega, by omega, by omega, v, hw1⟩, trivial⟩) ?_
          simp (disch := omega) only [nI_clamp, hk.1]
          rw [alC_eq hw hC hN hkn (by omega) (by rw [hw.span]; omega)]
          have jn : ∀ z, z = b2 (alC (A 1) pn 0 k (spanW (A 1))) → JS TP X mX4_alike (rmOf mX4_alike.lv 0 0) (ZR X o ad (Qq (sumI (fun k => b2 (alC (A 1) pn 0 k (spanW (A 1)))) (cnC (A 1))) A B)) 0 0 49 [some (.ref o), some (.int (nI pn)), some (.int (sumI (fun k => b2 (alC (A 1) pn 0 k (spanW (A 1)))) k)), some (.int (nI k))] [.int z, .int (sumI (fun k => b2 (alC (A 1) pn 0 k (spanW (A 1)))) k)] (o, ad, A1, B1) := by
            intro z hz
            subst hz
            refine bX4_alike_49.go rfl trivial ?_
            rw [nI_1]
            exact ih trivial
          refine j_if_eq (tgt := 48) dX4_alike_41 (by decide) (fun h41 => ?_) (fun h41 => ?_)
          · rw [b2_0] at h41
            refine bX4_alike_48.go rfl trivial ?_
            exact jn _ (b2_f h41)
          · rw [b2_n0] at h41
            refine bX4_alike_44.go rfl trivial ?_
            exact jn _ (b2_t h41)
    · rw [b2_0] at h15
      refine bX4_alike_18.go rfl trivial ?_
      exact r_iret dX4_alike_20 rfl ⟨ans (by rw [if_neg (of_decide_eq_false h15)]), hk⟩
  · rw [b2_0] at h5
    refine bX4_alike_8.go rfl trivial ?_
    exact r_iret dX4_alike_10 rfl ⟨ans (by rw [q_alike, if_neg (by rw [show pB (A 1) p = false from h5]; decide)]), Keeps2.rf⟩
