set_option maxRecDepth 100000
/-! ===== UnseenClockModel: runs, plain ===== -/
def cfA (A : Nat → Nat → Int32) : CF := (A 1, A 25, tkA A, drA A)
def Pre_runs (A : Nat → Nat → Int32) (_ : Nat → Nat → Int64) : Prop := ∃ v, WOk (A 1) v
def Q_runs (A : Nat → Nat → Int32) (B : Nat → Nat → Int64) : QR := fun r A' B' => r = none ∧ ∀ v, WOk (A 1) v → RunA A B A' B' v (rsS (cfA A) (A 21) (B 29 0)) (cfA A) (v 6)
theorem bX4_runs_0 : Blk TP mX4_runs 0 1 [oAL 0] := blk_c (s_aload_n dX4_runs_0 rfl) <| blk_nil
theorem bX4_runs_4 : Blk TP mX4_runs 4 11 [oAL 0, oC (nI 0), tPI 22, oC (nI 0), oIS 1] := blk_c (s_aload_n dX4_runs_4 rfl) <| blk_c (s_iconst dX4_runs_5 (by decide +kernel)) <| blk_c (tpX4_22 rfl dX4_runs_6) <| blk_c (s_iconst dX4_runs_9 (by decide +kernel)) <| blk_c (s_istore_n dX4_runs_10 rfl (by decide)) <| blk_nil
theorem bX4_runs_11 : Blk TP mX4_runs 11 18 [oIL 1, oAL 0, tR 1, oC (nI 1), tAI 1 320] := blk_c (s_iload_n dX4_runs_11 rfl) <| blk_c (s_aload_n dX4_runs_12 rfl) <| blk_c (tgX4_1 rfl dX4_runs_13) <| blk_c (s_iconst dX4_runs_16 (by decide +kernel)) <| blk_c (t_iald rfl dX4_runs_17) <| blk_nil
theorem bX4_runs_21 : Blk TP mX4_runs 21 11 [oAL 0, tR 18, oIL 1, oAL 0, oIL 1, oC (nI 5), tC_II F_ofClock, oAL 0, oIL 1, oC (nI 3), tC_II F_ofClock, oMul, tSI 18 164, oAL 0, tR 27, oIL 1, oC (nI 0), tSI 27 4, oAL 0, tR 26, oIL 1, oC (-1), tSI 26 4, oInc 1 1, .inl (fun s => some s)] := blk_c (s_aload_n dX4_runs_21 rfl) <| blk_c (tgX4_18 rfl dX4_runs_22) <| blk_c (s_iload_n dX4_runs_25 rfl) <| blk_c (s_aload_n dX4_runs_26 rfl) <| blk_c (s_iload_n dX4_runs_27 rfl) <| blk_c (s_iconst dX4_runs_28 (by decide +kernel)) <| blk_c (tc_II ok_ofClock gX4_ofClock (by decide +kernel) (by decide) dX4_runs_29) <| blk_c (s_aload_n dX4_runs_32 rfl) <| blk_c (s_iload_n dX4_runs_33 rfl) <| blk_c (s_iconst dX4_runs_34 (by decide +kernel)) <| blk_c (tc_II ok_ofClock gX4_ofClock (by decide +kernel) (by decide) dX4_runs_35) <| blk_c (s_imul dX4_runs_38) <| blk_c (t_iast rfl dX4_runs_39) <| blk_c (s_aload_n dX4_runs_40 rfl) <| blk_c (tgX4_27 rfl dX4_runs_41) <| blk_c (s_iload_n dX4_runs_44 rfl) <| blk_c (s_iconst dX4_runs_45 (by decide +kernel)) <| blk_c (t_iast rfl dX4_runs_46) <| blk_c (s_aload_n dX4_runs_47 rfl) <| blk_c (tgX4_26 rfl dX4_runs_48) <| blk_c (s_iload_n dX4_runs_51 rfl) <| blk_c (s_iconst dX4_runs_52 (by decide +kernel)) <| blk_c (t_iast rfl dX4_runs_53) <| blk_c (s_iinc dX4_runs_54 (by decide +kernel) (by decide)) <| blk_c (s_goto (tgt := 11) dX4_runs_57 (by decide)) <| blk_nil
theorem bX4_runs_60 : Blk TP mX4_runs 60 62 [oC (nI 0), oIS 1] := blk_c (s_iconst dX4_runs_60 (by decide +kernel)) <| blk_c (s_istore_n dX4_runs_61 rfl (by decide)) <| blk_nil
theorem bX4_runs_62 : Blk TP mX4_runs 62 70 [oIL 1, oAL 0, tR 1, oC (nI 6), tAI 1 320] := blk_c (s_iload_n dX4_runs_62 rfl) <| blk_c (s_aload_n dX4_runs_63 rfl) <| blk_c (tgX4_1 rfl dX4_runs_64) <| blk_c (s_bipush dX4_runs_67 (by decide +kernel)) <| blk_c (t_iald rfl dX4_runs_69) <| blk_nil
theorem bX4_runs_73 : Blk TP mX4_runs 73 75 [oAL 0, oIL 1] := blk_c (s_aload_n dX4_runs_73 rfl) <| blk_c (s_iload_n dX4_runs_74 rfl) <| blk_nil
theorem bX4_runs_78 : Blk TP mX4_runs 78 62 [oInc 1 1, .inl (fun s => some s)] := blk_c (s_iinc dX4_runs_78 (by decide +kernel) (by decide)) <| blk_c (s_goto (tgt := 62) dX4_runs_81 (by decide)) <| blk_nil
theorem ok_runs : RC_V mX4_runs Pre_runs Q_runs := by
  intro X o ad A B hpre
  obtain ⟨v, hw⟩ := hpre
  have h4 : v 1 ≤ 4 := hw.2.2.1
  have h8 : v 2 ≤ 8 := hw.2.2.2.1
  have h6 : v 6 ≤ 40 := hw.2.2.2.2.2.2.2.1
  have e1 : A 1 1 = nI (v 1) := hw.1 1 (by decide)
  have e6 : A 1 6 = nI (v 6) := hw.1 6 (by decide)
  refine R_start (L := [some (.ref o), none]) 1 rfl ?_
  refine bX4_runs_0.go rfl trivial ?_
  refine rc_V ok_fillAllSpots gX4_fillAllSpots dX4_runs_1 rfl ⟨v, hw⟩ (fun r1 A1 B1 q1 => ?_)
  obtain ⟨rfl, hB1, s1, s2⟩ := q1
  have hB1 := hB1.symm
  subst hB1
  have s2 := s2 v hw
  refine bX4_runs_4.go rfl ⟨rfl, trivial⟩ ?_
  refine loop_down (N := v 1) (I := fun _ => True) (P := fun c => ∀ A', (∀ k, k ≠ 0 → k ≠ 15 → k ≠ 16 → k ≠ 18 → k ≠ 26 → k ≠ 27 → A' k = A k) → (∀ j, j ≠ 22 → A' 0 j = A 0 j) → A' 0 22 = nI 0 → A' 15 = A1 15 → A' 16 = A1 16 → (∀ q, q < c → A' 18 q = A 1 (32 + 6 * q + 5) * A 1 (32 + 6 * q + 3) ∧ A' 27 q = nI 0 ∧ A' 26 q = -1) → JS TP X mX4_runs (rmOf mX4_runs.lv 0 0) (ZR X o ad (Q_runs A B)) 0 0 11 [some (.ref o), some (.int (nI c))] [] (o, ad, A', B)) ?_ ?_ 0 (by omega) trivial _ (fun k a b c d e f => by rw [upA_ne a]; exact s1 k b c) (fun j hj => by rw [upA_at, if_neg hj, s1 0 (by decide) (by decide)]) (by rw [upA_at, if_pos rfl]) (by rw [upA_ne (by decide)]) (by rw [upA_ne (by decide)]) (fun q h => by omega)
  · intro _ A2 f1 f2 f3 f15 f16 fS
    have g1 : A2 1 = A 1 := f1 1 (by decide) (by decide) (by decide) (by decide) (by decide) (by decide)
    have a1 : A1 1 = A 1 := s1 1 (by decide) (by decide)
    refine bX4_runs_11.go rfl ⟨rfl, ⟨rfl, vp_in_nI (by decide) (by decide)⟩, trivial⟩ ?_
    refine j_icmp_ge (tgt := 60) dX4_runs_18 (by decide) (fun h18 => ?_) (fun h18 => ?_)
    · refine bX4_runs_60.go rfl trivial ?_
      refine loop_down (N := v 6) (I := fun _ => True) (P := fun m => ∀ A' B', RunA A B A' B' v (rsS (cfA A) (A 21) (B 29 0)) (cfA A) m → JS TP X mX4_runs (rmOf mX4_runs.lv 0 0) (ZR X o ad (Q_runs A B)) 0 0 62 [some (.ref o), some (.int (nI m))] [] (o, ad, A', B')) ?_ ?_ 0 (by omega) trivial A2 B ?_
      · intro _ A' B' hR
        have gA : A' 1 = A 1 := hR.1 1 (by decide) (by decide) (by decide) (by decide) (by decide) (by decide) (by decide) (by decide) (by decide) (by decide) (by decide) (by decide)
        refine bX4_runs_62.go rfl ⟨rfl, ⟨rfl, vp_in_nI (by decide) (by decide)⟩, trivial⟩ ?_
        refine j_icmp_ge (tgt := 84) dX4_runs_70 (by decide) (fun h70 => ?_) (fun h70 => ?_)
        · refine r_vret dX4_runs_84 rfl ⟨rfl, fun v' hv' => ?_⟩
          obtain ⟨u1, u2, u6⟩ := hw.uniq hv'
          obtain ⟨z1, z2, z3, z4, z5, z6, z7, z8, z9, z10, z11⟩ := hR
          rw [← u6]
          exact ⟨z1, z2, z3, z4, z5, fun p hp => z6 p (by omega), fun t ht c hc => z7 t ht c (by omega), fun t ht p hp => by rw [← u2]; exact z8 t ht p hp, fun c hc => z9 c (by omega), z10, z11⟩
        · simp (disch := omega) only [nI_clamp, gA, e6, nI_leI] at h70; omega
      · intro m hm _ ih A' B' hR
        have gA : A' 1 = A 1 := hR.1 1 (by decide) (by decide) (by decide) (by decide) (by decide) (by decide) (by decide) (by decide) (by decide) (by decide) (by decide) (by decide)
        refine bX4_runs_62.go rfl ⟨rfl, ⟨rfl, vp_in_nI (by decide) (by decide)⟩, trivial⟩ ?_
        refine j_icmp_ge (tgt := 84) dX4_runs_70 (by decide) (fun h70 => ?_) (fun h70 => ?_)
        · simp (disch := omega) only [nI_clamp, gA, e6, nI_leI] at h70; omega
        · refine bX4_runs_73.go rfl trivial ?_
          refine rc_I ok_goes gX4_goes dX4_runs_75 rfl ⟨v, m, _, by rw [gA]; exact hw, by omega, rfl, hR.2.2.1, hR.2.2.2.2.1, hR.2.2.2.2.2.1⟩ (fun r A3 B3 q3 => ?_)
          have hq := q3
          obtain ⟨rfl, -⟩ := q3
          refine bX4_runs_78.go rfl trivial ?_
          rw [nI_1]
          exact ih trivial A3 B3 (RunA.step hw (by omega) hR hq)
      · refine ⟨fun k a0 a15 a16 a17 a18 a19 a20 a21 a26 a27 a30 a31 => f1 k a0 a15 a16 a18 a26 a27, f2, f3, f1 21 (by decide) (by decide) (by decide) (by decide) (by decide) (by decide), Nat.zero_le _, fun p hp t ht => ?_, fun t ht c hc => ?_, fun t ht => by omega, fun c hc => (fS c hc).2, fun _ _ => rfl, rfl⟩
        · have := s2 p hp t ht
          rw [f15, f16, g1, ← a1]; exact this
        · have : t = 0 := by omega
          subst this
          rw [Nat.mul_zero, Nat.zero_add]
          exact (fS c hc).1
    · simp (disch := omega) only [nI_clamp, g1, e1, nI_leI] at h18; omega
  · intro c hc _ ih A2 f1 f2 f3 f15 f16 fS
    have g1 : A2 1 = A 1 := f1 1 (by decide) (by decide) (by decide) (by decide) (by decide) (by decide)
    refine bX4_runs_11.go rfl ⟨rfl, ⟨rfl, vp_in_nI (by decide) (by decide)⟩, trivial⟩ ?_
    refine j_icmp_ge (tgt := 60) dX4_runs_18 (by decide) (fun h18 => ?_) (fun h18 => ?_)
    · simp (disch := omega) only [nI_clamp, g1, e1, nI_leI] at h18; omega
    · refine bX4_runs_21.go rfl (by simp (disch := omega) only [vpI]; exact ⟨trivial, ⟨trivial, by omega, by omega⟩, ⟨trivial, by omega, by omega⟩, ⟨trivial, by omega⟩, trivial, ⟨trivial, by omega⟩, trivial, ⟨trivial, by omega⟩, trivial⟩) ?_
      simp (disch := omega) only [nI_1, nI_clamp, g1]
      refine ih trivial _ (fun k a b c' d e f => by rw [upA_ne e, upA_ne f, upA_ne d]; exact f1 k a b c' d e f) (fun j hj => by rw [upA_ne (by decide), upA_ne (by decide), upA_ne (by decide)]; exact f2 j hj) (by rw [upA_ne (by decide), upA_ne (by decide), upA_ne (by decide)]; exact f3) (by rw [upA_ne (by decide), upA_ne (by decide), upA_ne (by decide)]; exact f15) (by rw [upA_ne (by decide), upA_ne (by decide), upA_ne (by decide)]; exact f16) (fun q hq => ?_)
      rw [upA_ne (by decide), upA_ne (by decide), upA_at, upA_ne (by decide), upA_at, upA_ne (by decide), upA_at, upA_ne (by decide), upA_ne (by decide)]
      by_cases e : q = c
      · subst e
        rw [if_pos rfl, if_pos rfl, if_pos rfl]; exact ⟨rfl, rfl, rfl⟩
      · rw [if_neg e, if_neg e, if_neg e]; exact fS q (by omega)
/-- the plain course: no keepers, open looks taken as no, nothing drawn -/
def cfP (w : Nat → Int32) : CF := (w, fun _ => nI 0, fun _ => false, false)
