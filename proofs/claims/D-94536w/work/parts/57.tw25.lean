set_option maxRecDepth 100000
/-! ===== UnseenClockModel: keptAt, kept, leastKept, keep, last ===== -/
/-- a course in which a keeper looks n times at a clock -/
def cfK (w : Nat → Int32) (c : Nat) (n : Int32) : CF := (w, fun c' => if c' = c then n else nI 0, fun _ => false, false)
def rsK (w : Nat → Int32) (c : Nat) (n : Int32) : Nat → RS := rsS (cfK w c n) (fun _ => nI 0) 0
def ktV (w : Nat → Int32) (c : Nat) (n : Int32) (m : Nat) : Int32 := shW w (rsK w c n m).pt c
def Pre_keptAt (c _n m : Int32) (A : Nat → Nat → Int32) (_ : Nat → Nat → Int64) : Prop := ∃ (v : Nat → Nat) (cn mn : Nat), WOk (A 1) v ∧ c = nI cn ∧ m = nI mn ∧ cn < v 1 ∧ mn ≤ v 6
def Q_keptAt (c n m : Int32) (A : Nat → Nat → Int32) (B : Nat → Nat → Int64) : QR := fun r A' B' => r = some (.int (ktV (A 1) c.toNatClampNeg n m.toNatClampNeg)) ∧ Keeps2 A B A' B' ∧ ∀ v, WOk (A 1) v → CrsA A' v (cfK (A 1) c.toNatClampNeg n) (rsK (A 1) c.toNatClampNeg n) (v 6)
theorem cfEq_kept {A : Nat → Nat → Int32} {v : Nat → Nat} {w : Nat → Int32} {cn : Nat} {n : Int32} (hw : A 1 = w) (hk : ∀ c, c < v 1 → A 25 c = if c = cn then n else nI 0) (ht : A 0 24 = nI 0) (hd : A 0 28 = nI 0) : cfEq v (cfA A) (cfK w cn n) := by
  refine ⟨hw, fun c hc => hk c hc, fun n hn => ?_, ?_⟩
  · show tkA A n = false
    simp only [tkA, ht]
    rw [decide_eq_false (by rw [nI_ltI (by omega) (by omega)]; omega)]; rfl
  · show drA A = false
    simp only [drA, hd]; decide +kernel
theorem bX4_keptAt_0 : Blk TP mX4_keptAt 0 1 [oAL 0] := blk_c (s_aload_n dX4_keptAt_0 rfl) <| blk_nil
theorem bX4_keptAt_4 : Blk TP mX4_keptAt 4 22 [oAL 0, tR 25, oIL 1, oIL 2, tSI 25 4, oAL 0, oC (nI 0), tPI 24, oAL 0, oC (nI 0), tPZ 28, oAL 0] := blk_c (s_aload_n dX4_keptAt_4 rfl) <| blk_c (tgX4_25 rfl dX4_keptAt_5) <| blk_c (s_iload_n dX4_keptAt_8 rfl) <| blk_c (s_iload_n dX4_keptAt_9 rfl) <| blk_c (t_iast rfl dX4_keptAt_10) <| blk_c (s_aload_n dX4_keptAt_11 rfl) <| blk_c (s_iconst dX4_keptAt_12 (by decide +kernel)) <| blk_c (tpX4_24 rfl dX4_keptAt_13) <| blk_c (s_aload_n dX4_keptAt_16 rfl) <| blk_c (s_iconst dX4_keptAt_17 (by decide +kernel)) <| blk_c (tpX4_28 rfl dX4_keptAt_18) <| blk_c (s_aload_n dX4_keptAt_21 rfl) <| blk_nil
theorem bX4_keptAt_25 : Blk TP mX4_keptAt 25 31 [oAL 0, oIL 1, oIL 3, tC_II F_shownAt] := blk_c (s_aload_n dX4_keptAt_25 rfl) <| blk_c (s_iload_n dX4_keptAt_26 rfl) <| blk_c (s_iload_n dX4_keptAt_27 rfl) <| blk_c (tc_II ok_shownAt gX4_shownAt (by decide +kernel) (by decide) dX4_keptAt_28) <| blk_nil
theorem ok_keptAt : RC_III mX4_keptAt Pre_keptAt Q_keptAt := by
  intro X c n m o ad A B hpre
  obtain ⟨v, cn, mn, hw, rfl, rfl, hc, hm⟩ := hpre
  have h6 : v 6 ≤ 40 := hw.2.2.2.2.2.2.2.1
  have h4 : v 1 ≤ 4 := hw.2.2.1
  refine R_start (L := [some (.ref o), some (.int (nI cn)), some (.int n), some (.int (nI mn))]) 0 rfl ?_
  refine bX4_keptAt_0.go rfl trivial ?_
  refine rc_V ok_keepsNone gX4_keepsNone dX4_keptAt_1 rfl trivial (fun r1 A1 B1 q1 => ?_)
  obtain ⟨rfl, hB, s1, s2⟩ := q1
  have hB := hB.symm
  subst hB
  refine bX4_keptAt_4.go rfl (by simp (disch := omega) only [vpI]; exact ⟨trivial, ⟨trivial, by omega⟩, trivial, ⟨trivial, by decide +kernel, by decide +kernel⟩, trivial⟩) ?_
  simp (disch := omega) only [nI_clamp]
  generalize hA3 : upA (upA (upA A1 25 cn n) 0 24 (nI 0)) 0 28 (nI 0) = A3
  have k3 : ∀ k, k ≠ 0 → k ≠ 25 → A3 k = A k := fun k h0 h25 => by rw [← hA3, upA_ne h0, upA_ne h0, upA_ne h25, s1 k h25]
  have k0 : ∀ i, i ≠ 24 → i ≠ 28 → A3 0 i = A 0 i := fun i a b => by rw [← hA3, upA_at, if_neg b, upA_at, if_neg a, upA_ne (by decide), s1 0 (by decide)]
  have k25 : ∀ c, c < 4 → A3 25 c = if c = cn then n else nI 0 := fun c hc => by
    rw [← hA3, upA_ne (by decide), upA_ne (by decide), upA_at, s2 c hc]
  have g1 : A3 1 = A 1 := k3 1 (by decide) (by decide)
  refine rc_V ok_runs gX4_runs dX4_keptAt_22 rfl ⟨v, by rw [g1]; exact hw⟩ (fun r A2 B2 q2 => ?_)
  obtain ⟨rfl, hq⟩ := q2
  have hcrs : ∀ v', WOk (A 1) v' → CrsA A2 v' (cfK (A 1) cn n) (rsK (A 1) cn n) (v' 6) := fun v' hv' => by
    have hR := hq v' (by rw [g1]; exact hv')
    have h4' : v' 1 ≤ 4 := hv'.2.2.1
    have := hR.crs (od' := fun _ => nI 0) (cf' := cfK (A 1) cn n) hv'.2.2.2.2.2.2.2.1 (by show WOk (A3 1) v'; rw [g1]; exact hv') (cfEq_kept g1 (fun c hc => k25 c (by omega)) (by rw [← hA3, upA_at, if_neg (by decide), upA_at, if_pos rfl]) (by rw [← hA3, upA_at, if_pos rfl]))
    exact CrsA.z rfl this
  have hC := hcrs v hw
  have hR := hq v (by rw [g1]; exact hw)
  have hk : Keeps2 A B A2 B2 := Keeps2.trans ⟨g1, k3 2 (by decide) (by decide), k3 3 (by decide) (by decide), k3 4 (by decide) (by decide), k3 37 (by decide) (by decide), k3 38 (by decide) (by decide), k0 5 (by decide) (by decide), k0 12 (by decide) (by decide), k0 13 (by decide) (by decide), rfl⟩ hR.keeps
  refine bX4_keptAt_25.go rfl (by simp (disch := omega) only [vpI, nI_clamp, hk.1]; exact ⟨⟨trivial, by omega, by omega, hw.clock hc⟩, trivial⟩) ?_
  simp (disch := omega) only [nI_clamp, hk.1]
  refine r_iret dX4_keptAt_31 rfl ?_
  refine ⟨ans ?_, hk, ?_⟩
  · rw [hC.2.2.2.1 mn hm cn hc, nI_clamp (by omega), nI_clamp (by omega)]; rfl
  · rw [nI_clamp (by omega)]; exact hcrs
def q_kept (w : Nat → Int32) (c n m : Int32) : Int32 := if (cB w c && (inL n (lN 0) 40 && tB w m)) = true then ktV w c.toNatClampNeg n m.toNatClampNeg else -2
theorem bX4_kept_0 : Blk TP mX4_kept 0 5 [oAL 0, oIL 1, tC_I F_isClock] := blk_c (s_aload_n dX4_kept_0 rfl) <| blk_c (s_iload_n dX4_kept_1 rfl) <| blk_c (tc_I ok_isClock gX4_isClock (by decide +kernel) (by decide) dX4_kept_2) <| blk_nil
theorem bX4_kept_8 : Blk TP mX4_kept 8 17 [oIL 2, oI2L, oCL (lN 0), oCL (40), tS_JJJ F_in] := blk_c (s_iload_n dX4_kept_8 rfl) <| blk_c (s_i2l dX4_kept_9) <| blk_c (s_lconst dX4_kept_10 (by decide +kernel)) <| blk_c (s_ldc2 dX4_kept_11 q2234) <| blk_c (ts_JJJ ok_in gX4_in (by decide +kernel) (by decide) dX4_kept_14) <| blk_nil
theorem bX4_kept_20 : Blk TP mX4_kept 20 25 [oAL 0, oIL 3, tC_I F_isTime] := blk_c (s_aload_n dX4_kept_20 rfl) <| blk_c (s_iload_n dX4_kept_21 rfl) <| blk_c (tc_I ok_isTime gX4_isTime (by decide +kernel) (by decide) dX4_kept_22) <| blk_nil
theorem bX4_kept_28 : Blk TP mX4_kept 28 32 [oAL 0, oIL 1, oIL 2, oIL 3] := blk_c (s_aload_n dX4_kept_28 rfl) <| blk_c (s_iload_n dX4_kept_29 rfl) <| blk_c (s_iload_n dX4_kept_30 rfl) <| blk_c (s_iload_n dX4_kept_31 rfl) <| blk_nil
theorem bX4_kept_35 : Blk TP mX4_kept 35 40 [.inl (fun s => some s)] := blk_c (s_goto (tgt := 40) dX4_kept_35 (by decide)) <| blk_nil
theorem bX4_kept_38 : Blk TP mX4_kept 38 40 [oC (-2)] := blk_c (s_bipush dX4_kept_38 (by decide +kernel)) <| blk_nil
theorem ok_kept : RC_III mX4_kept (fun _ _ _ A B => Pre_runs A B) (fun c n m A B => Qq (q_kept (A 1) c n m) A B) := by
  intro X c n m o ad A B hpre
  obtain ⟨v, hw⟩ := id hpre
  have main : (cB (A 1) c && (inL n (lN 0) 40 && tB (A 1) m)) = true → JS TP X mX4_kept (rmOf mX4_kept.lv 0 0) (ZR X o ad (Qq (q_kept (A 1) c n m) A B)) 0 0 28 [some (.ref o), some (.int c), some (.int n), some (.int m)] [] (o, ad, A, B) := by
    intro hg
    rw [q_kept, if_pos hg]
    simp only [Bool.and_eq_true] at hg
    obtain ⟨cn, hc, hce⟩ := hw.cOf hg.1
    obtain ⟨mn, hm, hme⟩ := hw.tOf hg.2.2
    refine bX4_kept_28.go rfl trivial ?_
    refine rc_III ok_keptAt gX4_keptAt dX4_kept_32 rfl ⟨v, cn, mn, hw, hce, hme, hc, hm⟩ (fun r A1 B1 q => ?_)
    obtain ⟨rfl, hk, -⟩ := q
    refine bX4_kept_35.go rfl trivial ?_
    exact r_iret dX4_kept_40 rfl ⟨rfl, hk⟩
  refine R_start (L := [some (.ref o), some (.int c), some (.int n), some (.int m)]) 0 rfl ?_
  refine bX4_kept_0.go rfl (by first | exact ⟨⟨rfl, trivial⟩, trivial⟩ | exact ⟨trivial, trivial⟩) ?_
  refine j_if_eq (tgt := 38) dX4_kept_5 (by decide) (fun h5 => ?_) (fun h5 => ?_)
  · refine bX4_kept_38.go rfl trivial ?_
    refine r_iret dX4_kept_40 rfl ?_
    exact ⟨ans (by clear main; simp only [b2_0, b2_n0, inL_def] at *; simp_all [q_kept, cB, tB]), Keeps2.rf⟩
  · refine bX4_kept_8.go rfl (by first | exact ⟨⟨rfl, trivial⟩, trivial⟩ | exact ⟨trivial, trivial⟩) ?_
    refine j_if_eq (tgt := 38) dX4_kept_17 (by decide) (fun h17 => ?_) (fun h17 => ?_)
    · refine bX4_kept_38.go rfl trivial ?_
      refine r_iret dX4_kept_40 rfl ?_
      exact ⟨ans (by clear main; simp only [b2_0, b2_n0, inL_def] at *; simp_all [q_kept, cB, tB]), Keeps2.rf⟩
    · refine bX4_kept_20.go rfl (by first | exact ⟨⟨rfl, trivial⟩, trivial⟩ | exact ⟨trivial, trivial⟩) ?_
      refine j_if_eq (tgt := 38) dX4_kept_25 (by decide) (fun h25 => ?_) (fun h25 => ?_)
      · refine bX4_kept_38.go rfl trivial ?_
        refine r_iret dX4_kept_40 rfl ?_
        exact ⟨ans (by clear main; simp only [b2_0, b2_n0, inL_def] at *; simp_all [q_kept, cB, tB]), Keeps2.rf⟩
      · exact main (by clear main; simp only [b2_0, b2_n0, inL_def] at *; simp_all [cB, tB])
