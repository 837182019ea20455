set_option maxRecDepth 100000
/-! ===== UnseenClockModel: keepsCourse ===== -/
def Pre_keepsCourse (A : Nat → Nat → Int32) (_ : Nat → Nat → Int64) : Prop := ∃ v k, WOk (A 1) v ∧ A 0 34 = nI k ∧ k < 128
def KcA (A A' : Nat → Nat → Int32) (v : Nat → Nat) (k : Nat) : Prop := A' 0 34 = nI (k + 1) ∧ (∀ m, m ≤ v 6 → ∀ c, c < v 1 → A' 32 (164 * k + 4 * m + c) = shI (A 18 (4 * m + c)) (A 1 (32 + 6 * c + 3)) (A 1 (32 + 6 * c + 4))) ∧ (∀ m, m < v 6 → ∀ p, p < 8 → A' 33 (320 * k + 8 * m + p) = A 19 (8 * m + p)) ∧ (∀ j, j < 164 * k → A' 32 j = A 32 j) ∧ ∀ j, j < 320 * k → A' 33 j = A 33 j
def Q_keepsCourse (A : Nat → Nat → Int32) (B : Nat → Nat → Int64) : QR := fun r A' B' => r = none ∧ B' = B ∧ (∀ f, f ≠ 0 → f ≠ 32 → f ≠ 33 → A' f = A f) ∧ (∀ j, j ≠ 34 → A' 0 j = A 0 j) ∧ ∀ v k, WOk (A 1) v → A 0 34 = nI k → k < 128 → KcA A A' v k
theorem bX4_keepsCourse_0 : Blk TP mX4_keepsCourse 0 2 [oC (nI 0), oIS 1] := blk_c (s_iconst dX4_keepsCourse_0 (by decide +kernel)) <| blk_c (s_istore_n dX4_keepsCourse_1 rfl (by decide)) <| blk_nil
theorem bX4_keepsCourse_2 : Blk TP mX4_keepsCourse 2 10 [oIL 1, oAL 0, tR 1, oC (nI 6), tAI 1 320] := blk_c (s_iload_n dX4_keepsCourse_2 rfl) <| blk_c (s_aload_n dX4_keepsCourse_3 rfl) <| blk_c (tgX4_1 rfl dX4_keepsCourse_4) <| blk_c (s_bipush dX4_keepsCourse_7 (by decide +kernel)) <| blk_c (t_iald rfl dX4_keepsCourse_9) <| blk_nil
theorem bX4_keepsCourse_13 : Blk TP mX4_keepsCourse 13 15 [oC (nI 0), oIS 2] := blk_c (s_iconst dX4_keepsCourse_13 (by decide +kernel)) <| blk_c (s_istore_n dX4_keepsCourse_14 rfl (by decide)) <| blk_nil
theorem bX4_keepsCourse_15 : Blk TP mX4_keepsCourse 15 22 [oIL 2, oAL 0, tR 1, oC (nI 1), tAI 1 320] := blk_c (s_iload_n dX4_keepsCourse_15 rfl) <| blk_c (s_aload_n dX4_keepsCourse_16 rfl) <| blk_c (tgX4_1 rfl dX4_keepsCourse_17) <| blk_c (s_iconst dX4_keepsCourse_20 (by decide +kernel)) <| blk_c (t_iald rfl dX4_keepsCourse_21) <| blk_nil
theorem bX4_keepsCourse_25 : Blk TP mX4_keepsCourse 25 15 [oAL 0, tR 32, oC (nI 164), oAL 0, tI 34, oMul, oC (nI 4), oIL 1, oMul, oAdd, oIL 2, oAdd, oAL 0, oIL 2, oIL 1, tC_II F_shownAt, tSI 32 20992, oInc 2 1, .inl (fun s => some s)] := blk_c (s_aload_n dX4_keepsCourse_25 rfl) <| blk_c (tgX4_32 rfl dX4_keepsCourse_26) <| blk_c (s_sipush dX4_keepsCourse_29 (by decide +kernel)) <| blk_c (s_aload_n dX4_keepsCourse_32 rfl) <| blk_c (tgX4_34 rfl dX4_keepsCourse_33) <| blk_c (s_imul dX4_keepsCourse_36) <| blk_c (s_iconst dX4_keepsCourse_37 (by decide +kernel)) <| blk_c (s_iload_n dX4_keepsCourse_38 rfl) <| blk_c (s_imul dX4_keepsCourse_39) <| blk_c (s_iadd dX4_keepsCourse_40) <| blk_c (s_iload_n dX4_keepsCourse_41 rfl) <| blk_c (s_iadd dX4_keepsCourse_42) <| blk_c (s_aload_n dX4_keepsCourse_43 rfl) <| blk_c (s_iload_n dX4_keepsCourse_44 rfl) <| blk_c (s_iload_n dX4_keepsCourse_45 rfl) <| blk_c (tc_II ok_shownAt gX4_shownAt (by decide +kernel) (by decide) dX4_keepsCourse_46) <| blk_c (t_iast rfl dX4_keepsCourse_49) <| blk_c (s_iinc dX4_keepsCourse_50 (by decide +kernel) (by decide)) <| blk_c (s_goto (tgt := 15) dX4_keepsCourse_53 (by decide)) <| blk_nil
theorem bX4_keepsCourse_56 : Blk TP mX4_keepsCourse 56 2 [oInc 1 1, .inl (fun s => some s)] := blk_c (s_iinc dX4_keepsCourse_56 (by decide +kernel) (by decide)) <| blk_c (s_goto (tgt := 2) dX4_keepsCourse_59 (by decide)) <| blk_nil
theorem bX4_keepsCourse_62 : Blk TP mX4_keepsCourse 62 64 [oC (nI 0), oIS 1] := blk_c (s_iconst dX4_keepsCourse_62 (by decide +kernel)) <| blk_c (s_istore_n dX4_keepsCourse_63 rfl (by decide)) <| blk_nil
theorem bX4_keepsCourse_64 : Blk TP mX4_keepsCourse 64 72 [oIL 1, oAL 0, tR 1, oC (nI 6), tAI 1 320] := blk_c (s_iload_n dX4_keepsCourse_64 rfl) <| blk_c (s_aload_n dX4_keepsCourse_65 rfl) <| blk_c (tgX4_1 rfl dX4_keepsCourse_66) <| blk_c (s_bipush dX4_keepsCourse_69 (by decide +kernel)) <| blk_c (t_iald rfl dX4_keepsCourse_71) <| blk_nil
theorem bX4_keepsCourse_75 : Blk TP mX4_keepsCourse 75 77 [oC (nI 0), oIS 2] := blk_c (s_iconst dX4_keepsCourse_75 (by decide +kernel)) <| blk_c (s_istore_n dX4_keepsCourse_76 rfl (by decide)) <| blk_nil
theorem bX4_keepsCourse_77 : Blk TP mX4_keepsCourse 77 80 [oIL 2, oC (nI 8)] := blk_c (s_iload_n dX4_keepsCourse_77 rfl) <| blk_c (s_bipush dX4_keepsCourse_78 (by decide +kernel)) <| blk_nil
theorem bX4_keepsCourse_83 : Blk TP mX4_keepsCourse 83 77 [oAL 0, tR 33, oC (nI 320), oAL 0, tI 34, oMul, oC (nI 8), oIL 1, oMul, oAdd, oIL 2, oAdd, oAL 0, tR 19, oC (nI 8), oIL 1, oMul, oIL 2, oAdd, tAI 19 320, tSI 33 40960, oInc 2 1, .inl (fun s => some s)] := blk_c (s_aload_n dX4_keepsCourse_83 rfl) <| blk_c (tgX4_33 rfl dX4_keepsCourse_84) <| blk_c (s_sipush dX4_keepsCourse_87 (by decide +kernel)) <| blk_c (s_aload_n dX4_keepsCourse_90 rfl) <| blk_c (tgX4_34 rfl dX4_keepsCourse_91) <| blk_c (s_imul dX4_keepsCourse_94) <| blk_c (s_bipush dX4_keepsCourse_95 (by decide +kernel)) <| blk_c (s_iload_n dX4_keepsCourse_97 rfl) <| blk_c (s_imul dX4_keepsCourse_98) <| blk_c (s_iadd dX4_keepsCourse_99) <| blk_c (s_iload_n dX4_keepsCourse_100 rfl) <| blk_c (s_iadd dX4_keepsCourse_101) <| blk_c (s_aload_n dX4_keepsCourse_102 rfl) <| blk_c (tgX4_19 rfl dX4_keepsCourse_103) <| blk_c (s_bipush dX4_keepsCourse_106 (by decide +kernel)) <| blk_c (s_iload_n dX4_keepsCourse_108 rfl) <| blk_c (s_imul dX4_keepsCourse_109) <| blk_c (s_iload_n dX4_keepsCourse_110 rfl) <| blk_c (s_iadd dX4_keepsCourse_111) <| blk_c (t_iald rfl dX4_keepsCourse_112) <| blk_c (t_iast rfl dX4_keepsCourse_113) <| blk_c (s_iinc dX4_keepsCourse_114 (by decide +kernel) (by decide)) <| blk_c (s_goto (tgt := 77) dX4_keepsCourse_117 (by decide)) <| blk_nil
theorem bX4_keepsCourse_120 : Blk TP mX4_keepsCourse 120 64 [oInc 1 1, .inl (fun s => some s)] := blk_c (s_iinc dX4_keepsCourse_120 (by decide +kernel) (by decide)) <| blk_c (s_goto (tgt := 64) dX4_keepsCourse_123 (by decide)) <| blk_nil
theorem bX4_keepsCourse_126 : Blk TP mX4_keepsCourse 126 136 [oAL 0, oDupR, tI 34, oC (nI 1), oAdd, tPI 34] := blk_c (s_aload_n dX4_keepsCourse_126 rfl) <| blk_c (s_dupR dX4_keepsCourse_127) <| blk_c (tgX4_34 rfl dX4_keepsCourse_128) <| blk_c (s_iconst dX4_keepsCourse_131 (by decide +kernel)) <| blk_c (s_iadd dX4_keepsCourse_132) <| blk_c (tpX4_34 rfl dX4_keepsCourse_133) <| blk_nil
theorem ok_keepsCourse : RC_V mX4_keepsCourse Pre_keepsCourse Q_keepsCourse := by
  intro X o ad A B hpre
  obtain ⟨v, k, hw, hk, hk2⟩ := hpre
  have h6 : v 6 ≤ 40 := hw.2.2.2.2.2.2.2.1
  have h4 : v 1 ≤ 4 := hw.2.2.1
  have e1 : A 1 1 = nI (v 1) := hw.1 1 (by decide)
  have e6 : A 1 6 = nI (v 6) := hw.1 6 (by decide)
  have uv : ∀ v', WOk (A 1) v' → v' 1 = v 1 ∧ v' 6 = v 6 := fun v' hv' => by
    have a := hv'.1 1 (by decide)
    have b := hv'.1 6 (by decide)
    have c := hv'.2.2.1
    have d := hv'.2.2.2.2.2.2.2.1
    exact ⟨(nI_eq (by omega) (by omega)).mp (a.symm.trans e1), (nI_eq (by omega) (by omega)).mp (b.symm.trans e6)⟩
  refine R_start (L := [some (.ref o), none, none]) 2 rfl ?_
  refine bX4_keepsCourse_0.go rfl trivial ?_
  -- looks of people, behind what clocks show
  have m62 : ∀ A1, (∀ f, f ≠ 32 → A1 f = A f) → (∀ m, m ≤ v 6 → ∀ c, c < v 1 → A1 32 (164 * k + 4 * m + c) = shI (A 18 (4 * m + c)) (A 1 (32 + 6 * c + 3)) (A 1 (32 + 6 * c + 4))) → (∀ j, j < 164 * k → A1 32 j = A 32 j) → JS TP X mX4_keepsCourse (rmOf mX4_keepsCourse.lv 0 0) (ZR X o ad (Q_keepsCourse A B)) 0 0 62 [some (.ref o), none, none] [] (o, ad, A1, B) := by
    intro A1 a1 a2 a3
    refine bX4_keepsCourse_62.go rfl trivial ?_
    refine loop_down (N := v 6) (I := fun _ => True) (P := fun m => ∀ A2, (∀ f, f ≠ 33 → A2 f = A1 f) → (∀ t, t < m → ∀ p, p < 8 → A2 33 (320 * k + 8 * t + p) = A 19 (8 * t + p)) → (∀ j, j < 320 * k → A2 33 j = A 33 j) → JS TP X mX4_keepsCourse (rmOf mX4_keepsCourse.lv 0 0) (ZR X o ad (Q_keepsCourse A B)) 0 0 64 [some (.ref o), some (.int (nI m)), none] [] (o, ad, A2, B)) ?_ ?_ 0 (Nat.zero_le _) trivial A1 (fun _ _ => rfl) (fun t h => by omega) (fun j hj => by rw [a1 33 (by decide)])
    · intro _ A2 b1 b2 b3
      have g1 : A2 1 = A 1 := by rw [b1 1 (by decide), a1 1 (by decide)]
      have g0 : A2 0 = A 0 := by rw [b1 0 (by decide), a1 0 (by decide)]
      refine bX4_keepsCourse_64.go rfl (by exact ⟨rfl, ⟨rfl, vp_in_nI (by decide) (by decide)⟩, trivial⟩) ?_
      simp (disch := omega) only [nI_clamp, g1, e6]
      refine j_icmp_ge (tgt := 126) dX4_keepsCourse_72 (by decide) (fun h72 => ?_) (fun h72 => ?_)
      · refine bX4_keepsCourse_126.go rfl (by exact ⟨rfl, rfl, trivial⟩) ?_
        rw [g0, hk, nI_add]
        refine r_vret dX4_keepsCourse_136 rfl ⟨rfl, rfl, fun f h0 h32 h33 => by rw [upA_ne h0, b1 f h33, a1 f h32], fun j hj => by rw [upA_at, if_neg hj, g0], fun v' k' hv' hk' hk2' => ?_⟩
        obtain ⟨u1, u6⟩ := uv v' hv'
        have uk : k' = k := (nI_eq (by omega) (by omega)).mp (hk'.symm.trans hk)
        subst uk
        refine ⟨by rw [upA_at, if_pos rfl], fun m hm c hc => ?_, fun m hm p hp => ?_, fun j hj => ?_, fun j hj => ?_⟩
        · rw [upA_ne (by decide), b1 32 (by decide)]; exact a2 m (by omega) c (by omega)
        · rw [upA_ne (by decide)]; exact b2 m (by omega) p hp
        · rw [upA_ne (by decide), b1 32 (by decide)]; exact a3 j hj
        · rw [upA_ne (by decide)]; exact b3 j hj
      · simp (disch := omega) only [nI_leI] at h72; omega
    · intro m hm _ ih A2 b1 b2 b3
      have g1 : A2 1 = A 1 := by rw [b1 1 (by decide), a1 1 (by decide)]
      refine bX4_keepsCourse_64.go rfl (by exact ⟨rfl, ⟨rfl, vp_in_nI (by decide) (by decide)⟩, trivial⟩) ?_
      simp (disch := omega) only [nI_clamp, g1, e6]
      refine j_icmp_ge (tgt := 126) dX4_keepsCourse_72 (by decide) (fun h72 => ?_) (fun h72 => ?_)
      · simp (disch := omega) only [nI_leI] at h72; omega
      · refine bX4_keepsCourse_75.go rfl trivial ?_
        refine loop_down (N := 8) (I := fun _ => True) (P := fun p => ∀ A3, (∀ f, f ≠ 33 → A3 f = A1 f) → (∀ t, t < m → ∀ p, p < 8 → A3 33 (320 * k + 8 * t + p) = A 19 (8 * t + p)) → (∀ q, q < p → A3 33 (320 * k + 8 * m + q) = A 19 (8 * m + q)) → (∀ j, j < 320 * k → A3 33 j = A 33 j) → JS TP X mX4_keepsCourse (rmOf mX4_keepsCourse.lv 0 0) (ZR X o ad (Q_keepsCourse A B)) 0 0 77 [some (.ref o), some (.int (nI m)), some (.int (nI p))] [] (o, ad, A3, B)) ?_ ?_ 0 (by omega) trivial A2 b1 b2 (fun q h => by omega) b3
        · intro _ A3 c1 c2 c3 c4
          refine bX4_keepsCourse_77.go rfl trivial ?_
          refine j_icmp_ge (tgt := 120) dX4_keepsCourse_80 (by decide) (fun h80 => ?_) (fun h80 => absurd (by decide) h80)
          refine bX4_keepsCourse_120.go rfl trivial ?_
          rw [nI_1]
          refine JS.weak (L' := [some (.ref o), some (.int (nI (m + 1))), none]) (by simp [lsub]) (ih trivial A3 c1 (fun t ht p hp => ?_) c4)
          by_cases e : t = m
          · subst e; exact c3 p hp
          · exact c2 t (by omega) p hp
        · intro p hp _ ih2 A3 c1 c2 c3 c4
          have g0 : A3 0 = A 0 := by rw [c1 0 (by decide), a1 0 (by decide)]
          have g19 : A3 19 = A 19 := by rw [c1 19 (by decide), a1 19 (by decide)]
          refine bX4_keepsCourse_77.go rfl trivial ?_
          refine j_icmp_ge (tgt := 120) dX4_keepsCourse_80 (by decide) (fun h80 => ?_) (fun h80 => ?_)
          · simp (disch := omega) only [nI_leI] at h80; omega
          · refine bX4_keepsCourse_83.go rfl (by simp (disch := omega) only [g0, hk, nI_add, pk_mul, vpI]; exact ⟨trivial, trivial, trivial, ⟨trivial, by omega⟩, ⟨trivial, by omega⟩, trivial⟩) ?_
            simp (disch := omega) only [g0, hk, nI_add, pk_mul, nI_clamp, nI_1, g19]
            refine ih2 trivial _ (fun f hf => by rw [upA_ne hf]; exact c1 f hf) (fun t ht q hq => ?_) (fun q hq => ?_) (fun j hj => ?_)
            · rw [upA_at, if_neg (by omega)]; exact c2 t ht q hq
            · rw [upA_at]
              by_cases e : q = p
              · subst e; rw [if_pos rfl]
              · rw [if_neg (by omega)]; exact c3 q (by omega)
            · rw [upA_at, if_neg (by omega)]; exact c4 j hj
  -- what clocks show
  have lp : ∀ d m, m + d = v 6 + 1 → ∀ A1, (∀ f, f ≠ 32 → A1 f = A f) → (∀ t, t < m → ∀ c, c < v 1 → A1 32 (164 * k + 4 * t + c) = shI (A 18 (4 * t + c)) (A 1 (32 + 6 * c + 3)) (A 1 (32 + 6 * c + 4))) → (∀ j, j < 164 * k → A1 32 j = A 32 j) → JS TP X mX4_keepsCourse (rmOf mX4_keepsCourse.lv 0 0) (ZR X o ad (Q_keepsCourse A B)) 0 0 2 [some (.ref o), some (.int (nI m)), none] [] (o, ad, A1, B) := by
    intro d
    induction d with
    | zero =>
      intro m hm A1 a1 a2 a3
      have g1 : A1 1 = A 1 := a1 1 (by decide)
      refine bX4_keepsCourse_2.go rfl (by exact ⟨rfl, ⟨rfl, vp_in_nI (by decide) (by decide)⟩, trivial⟩) ?_
      simp (disch := omega) only [nI_clamp, g1, e6]
      refine j_icmp_gt (tgt := 62) dX4_keepsCourse_10 (by decide) (fun h10 => ?_) (fun h10 => ?_)
      · exact JS.weak (L' := [some (.ref o), none, none]) (by simp [lsub]) (m62 A1 a1 (fun t ht c hc => a2 t (by omega) c hc) a3)
      · rw [nI_ltI (by omega) (by omega)] at h10; omega
    | succ d ih =>
      intro m hm A1 a1 a2 a3
      have g1 : A1 1 = A 1 := a1 1 (by decide)
      refine bX4_keepsCourse_2.go rfl (by exact ⟨rfl, ⟨rfl, vp_in_nI (by decide) (by decide)⟩, trivial⟩) ?_
      simp (disch := omega) only [nI_clamp, g1, e6]
      refine j_icmp_gt (tgt := 62) dX4_keepsCourse_10 (by decide) (fun h10 => ?_) (fun h10 => ?_)
      · rw [nI_ltI (by omega) (by omega)] at h10; omega
      · refine bX4_keepsCourse_13.go rfl trivial ?_
        refine loop_down (N := v 1) (I := fun _ => True) (P := fun c => ∀ A2, (∀ f, f ≠ 32 → A2 f = A f) → (∀ t, t < m → ∀ c, c < v 1 → A2 32 (164 * k + 4 * t + c) = shI (A 18 (4 * t + c)) (A 1 (32 + 6 * c + 3)) (A 1 (32 + 6 * c + 4))) → (∀ q, q < c → A2 32 (164 * k + 4 * m + q) = shI (A 18 (4 * m + q)) (A 1 (32 + 6 * q + 3)) (A 1 (32 + 6 * q + 4))) → (∀ j, j < 164 * k → A2 32 j = A 32 j) → JS TP X mX4_keepsCourse (rmOf mX4_keepsCourse.lv 0 0) (ZR X o ad (Q_keepsCourse A B)) 0 0 15 [some (.ref o), some (.int (nI m)), some (.int (nI c))] [] (o, ad, A2, B)) ?_ ?_ 0 (Nat.zero_le _) trivial A1 a1 a2 (fun q h => by omega) a3
        · intro _ A2 b1 b2 b3 b4
          have g1 : A2 1 = A 1 := b1 1 (by decide)
          refine bX4_keepsCourse_15.go rfl (by exact ⟨rfl, ⟨rfl, vp_in_nI (by decide) (by decide)⟩, trivial⟩) ?_
          simp (disch := omega) only [nI_clamp, g1, e1]
          refine j_icmp_ge (tgt := 56) dX4_keepsCourse_22 (by decide) (fun h22 => ?_) (fun h22 => ?_)
          · refine bX4_keepsCourse_56.go rfl trivial ?_
            rw [nI_1]
            refine JS.weak (L' := [some (.ref o), some (.int (nI (m + 1))), none]) (by simp [lsub]) (ih (m + 1) (by omega) A2 b1 (fun t ht c hc => ?_) b4)
            by_cases e : t = m
            · subst e; exact b3 c hc
            · exact b2 t (by omega) c hc
          · simp (disch := omega) only [nI_leI] at h22; omega
        · intro c hc _ ih2 A2 b1 b2 b3 b4
          have g1 : A2 1 = A 1 := b1 1 (by decide)
          have g0 : A2 0 = A 0 := b1 0 (by decide)
          have g18 : A2 18 = A 18 := b1 18 (by decide)
          have hcl := hw.clock hc
          refine bX4_keepsCourse_15.go rfl (by exact ⟨rfl, ⟨rfl, vp_in_nI (by decide) (by decide)⟩, trivial⟩) ?_
          simp (disch := omega) only [nI_clamp, g1, e1]
          refine j_icmp_ge (tgt := 56) dX4_keepsCourse_22 (by decide) (fun h22 => ?_) (fun h22 => ?_)
          · simp (disch := omega) only [nI_leI] at h22; omega
          · refine bX4_keepsCourse_25.go rfl (by simp (disch := omega) only [g0, g1, hk, nI_add, pk_mul, vpI, nI_clamp]; exact ⟨trivial, trivial, ⟨trivial, by omega, by omega, hcl⟩, ⟨trivial, by omega⟩, trivial⟩) ?_
            simp (disch := omega) only [g0, g1, g18, hk, nI_add, pk_mul, nI_clamp, nI_1]
            refine ih2 trivial _ (fun f hf => by rw [upA_ne hf]; exact b1 f hf) (fun t ht q hq => ?_) (fun q hq => ?_) (fun j hj => ?_)
            · rw [upA_at, if_neg (by omega)]; exact b2 t ht q hq
            · rw [upA_at]
              by_cases e : q = c
              · subst e; rw [if_pos rfl]
              · rw [if_neg (by omega)]; exact b3 q (by omega)
            · rw [upA_at, if_neg (by omega)]; exact b4 j hj
  exact lp (v 6 + 1) 0 (by omega) A (fun _ _ => rfl) (fun t h => by omega) (fun _ _ => rfl)
