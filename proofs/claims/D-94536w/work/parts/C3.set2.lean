set_option maxRecDepth 100000
/-! ===== Course.settlesSome ===== -/
def KK (A A' : Nat → Nat → Int32) : Prop := ∀ j, j ≠ 33 → j ≠ 34 → A' j = A j
theorem KK.mc {A A' : Nat → Nat → Int32} (h : KK A A') (w : Nat → Int32) (t : Nat) : mcC A' w t = mcC A w t := by
  have e3 := h 3 (by decide) (by decide)
  have e50 : (fun p => A' (50 + p) (t - 1)) = fun p => A (50 + p) (t - 1) := by funext p; rw [h _ (by omega) (by omega)]
  have e60 : (fun p => A' (60 + p) (t - 1)) = fun p => A (60 + p) (t - 1) := by funext p; rw [h _ (by omega) (by omega)]
  have e70 : (fun p i => !decide (A' 3 16 = 0) && !decide (A' (70 + p) i = 0)) = fun p i => !decide (A 3 16 = 0) && !decide (A (70 + p) i = 0) := by funext p i; rw [e3, h _ (by omega) (by omega)]
  unfold mcC
  rw [e50, e60, e70]
theorem KK.tr {A A' A'' : Nat → Nat → Int32} (h : KK A A') (h' : KK A' A'') : KK A A'' := fun j a b => (h' j a b).trans (h j a b)
theorem KK.cro {A A' : Nat → Nat → Int32} {sw : Nat → Nat → Int32} {E v : Nat → Nat} (h : KK A A') (hO : CrO A sw E v) : CrO A' sw E v := by
  obtain ⟨a, b, c, d⟩ := hO
  exact ⟨a, b, by rw [h 3 (by decide) (by decide)]; exact c, fun k hk => by rw [h 37 (by decide) (by decide)]; exact d k hk⟩
theorem KK.dr {A A' : Nat → Nat → Int32} {v : Nat → Nat} (h : KK A A') (hD : DrOk A v) : DrOk A' v := by
  intro h16 p hp i hi
  rw [h 3 (by decide) (by decide)] at h16
  rw [h _ (by omega) (by omega)]
  exact hD h16 p hp i hi
theorem KK.is {A A' : Nat → Nat → Int32} {p c : Nat} {y : Bool} (h : KK A A') : KK A (isA A' p c y) := fun j a b => by rw [isA, upA_ne b, upA_ne a]; exact h j a b
theorem ev_3 (K : MC) (V : Nat → Nat → Int32) (p c : Nat) : V3 (evV K V p c) := by
  unfold evV
  split
  · exact Or.inr (Or.inl rfl)
  · split
    · exact Or.inr (Or.inr rfl)
    · split
      · exact Or.inl rfl
      · exact Or.inr (Or.inl rfl)
theorem KEq.rf {w : Nat → Int32} {v : Nat → Nat} (hw : WOk w v) {see mb : Nat → Nat → Bool} {lp sp : Nat → Int32} {m : Nat} : KEq v (w, see, mb, lp, sp, m) (w, see, mb, lp, sp, m) := KEq.of hw (fun _ _ _ _ => rfl) (fun _ _ _ _ => rfl) (fun _ _ _ => rfl) (fun _ _ _ => rfl)
theorem fA_at (A : Nat → Nat → Int32) {p c : Nat} (hc : c < 4) : fA A (4 * p + c) = fSL (A 33 p) (A 34 p) c := by
  unfold fA
  rw [show (4 * p + c) / 4 = p by omega, show (4 * p + c) % 4 = c by omega]
theorem fSL_n1 (s l : Int32) (c : Nat) : fSL s l c = -1 ↔ bitI s c = false := by
  unfold fSL
  cases h : bitI s c with
  | false => simp
  | true =>
    simp only [if_true, Bool.true_eq_false, iff_false]
    cases bitI l c <;> decide
section Set2
variable {X : Cx} {ad : Nat → Nat} {A : Nat → Nat → Int32} {B : Nat → Nat → Int64} {sk : Nat → Nat → Nat} {sw : Nat → Nat → Int32} {E : Nat → Nat} {v : Nat → Nat} {t : Nat}
theorem bX3_settlesSome_0 : Blk CP mX3_settlesSome 0 4 [oC (nI 0), oIS 2, oC (nI 0), oIS 3] := blk_c (s_iconst dX3_settlesSome_0 (by decide +kernel)) <| blk_c (s_istore_n dX3_settlesSome_1 rfl (by decide)) <| blk_c (s_iconst dX3_settlesSome_2 (by decide +kernel)) <| blk_c (s_istore_n dX3_settlesSome_3 rfl (by decide)) <| blk_nil
theorem bX3_settlesSome_4 : Blk CP mX3_settlesSome 4 17 [oIL 3, oAL 0, cQ1, qR 1 1 2, qSzP 1] := blk_c (s_iload_n dX3_settlesSome_4 rfl) <| blk_c (s_aload_n dX3_settlesSome_5 rfl) <| blk_c (cgX3_12 (Or.inl q505) dX3_settlesSome_6) <| blk_c (q_R (by decide) (fun _ _ => rfl) (Or.inr ⟨_, nq430⟩) dX3_settlesSome_9) <| blk_c (q_SzP (lw_F q1193 q803 q805 q136 q807) (by decide) dX3_settlesSome_12) <| blk_nil
theorem bX3_settlesSome_20 : Blk CP mX3_settlesSome 20 23 [oC (nI 0), oIS 4] := blk_c (s_iconst dX3_settlesSome_20 (by decide +kernel)) <| blk_c (s_istore dX3_settlesSome_21 (by decide)) <| blk_nil
theorem bX3_settlesSome_23 : Blk CP mX3_settlesSome 23 37 [oIL 4, oAL 0, cQ1, qR 1 0 1, qSzC 1] := blk_c (s_iload dX3_settlesSome_23) <| blk_c (s_aload_n dX3_settlesSome_25 rfl) <| blk_c (cgX3_12 (Or.inl q505) dX3_settlesSome_26) <| blk_c (q_R (by decide) (fun _ _ => rfl) (Or.inr ⟨_, nq426⟩) dX3_settlesSome_29) <| blk_c (q_SzC (lw_F q1193 q803 q805 q136 q807) (by decide) dX3_settlesSome_32) <| blk_nil
theorem bX3_settlesSome_40 : Blk CP mX3_settlesSome 40 51 [oAL 0, cR 3 3 33, oIL 3, cAI 33 8, oIL 4, oS_II pT2 fOn] := blk_c (s_aload_n dX3_settlesSome_40 rfl) <| blk_c (cgX3_3 (Or.inl q493) dX3_settlesSome_41) <| blk_c (s_iload_n dX3_settlesSome_44 rfl) <| blk_c (c_iald (fun _ => rfl) dX3_settlesSome_45) <| blk_c (s_iload dX3_settlesSome_46) <| blk_c (s_S_II ok_sX0_isOn (fun _ _ _ h => h.1.1) (Or.inr ⟨lw_meth q1141, q1140, q131, _, nq1168⟩) hy_X0_isOn (by decide) dX3_settlesSome_48) <| blk_nil
theorem bX3_settlesSome_54 : Blk CP mX3_settlesSome 54 96 [.inl (fun s => some s)] := blk_c (s_goto (tgt := 96) dX3_settlesSome_54 (by decide)) <| blk_nil
theorem bX3_settlesSome_57 : Blk CP mX3_settlesSome 57 70 [oAL 0, oIL 3, oIL 4, oIL 1, cF_III F_nowC, oIS 5, oIL 5, oC (nI 1)] := blk_c (s_aload_n dX3_settlesSome_57 rfl) <| blk_c (s_iload_n dX3_settlesSome_58 rfl) <| blk_c (s_iload dX3_settlesSome_59) <| blk_c (s_iload_n dX3_settlesSome_61 rfl) <| blk_c (c_F_III ok_nowC (ci := 3) rfl (lw_V q1233 q1235 qs39 q137 q1236) hy_X3_now rfl (by decide) dX3_settlesSome_62) <| blk_c (s_istore dX3_settlesSome_65 (by decide)) <| blk_c (s_iload dX3_settlesSome_67) <| blk_c (s_iconst dX3_settlesSome_69 (by decide +kernel)) <| blk_nil
theorem bX3_settlesSome_73 : Blk CP mX3_settlesSome 73 96 [.inl (fun s => some s)] := blk_c (s_goto (tgt := 96) dX3_settlesSome_73 (by decide)) <| blk_nil
theorem bX3_settlesSome_76 : Blk CP mX3_settlesSome 76 83 [oAL 0, oIL 3, oIL 4, oIL 5, oC (nI 2)] := blk_c (s_aload_n dX3_settlesSome_76 rfl) <| blk_c (s_iload_n dX3_settlesSome_77 rfl) <| blk_c (s_iload dX3_settlesSome_78) <| blk_c (s_iload dX3_settlesSome_80) <| blk_c (s_iconst dX3_settlesSome_82 (by decide +kernel)) <| blk_nil
theorem bX3_settlesSome_86 : Blk CP mX3_settlesSome 86 91 [oC (nI 1), .inl (fun s => some s)] := blk_c (s_iconst dX3_settlesSome_86 (by decide +kernel)) <| blk_c (s_goto (tgt := 91) dX3_settlesSome_87 (by decide)) <| blk_nil
theorem bX3_settlesSome_90 : Blk CP mX3_settlesSome 90 91 [oC (nI 0)] := blk_c (s_iconst dX3_settlesSome_90 (by decide +kernel)) <| blk_nil
theorem bX3_settlesSome_94 : Blk CP mX3_settlesSome 94 96 [oC (nI 1), oIS 2] := blk_c (s_iconst dX3_settlesSome_94 (by decide +kernel)) <| blk_c (s_istore_n dX3_settlesSome_95 rfl (by decide)) <| blk_nil
theorem bX3_settlesSome_96 : Blk CP mX3_settlesSome 96 23 [oInc 4 1, .inl (fun s => some s)] := blk_c (s_iinc dX3_settlesSome_96 (by decide +kernel) (by decide)) <| blk_c (s_goto (tgt := 23) dX3_settlesSome_99 (by decide)) <| blk_nil
theorem bX3_settlesSome_102 : Blk CP mX3_settlesSome 102 4 [oInc 3 1, .inl (fun s => some s)] := blk_c (s_iinc dX3_settlesSome_102 (by decide +kernel) (by decide)) <| blk_c (s_goto (tgt := 4) dX3_settlesSome_105 (by decide)) <| blk_nil
theorem bX3_settlesSome_108 : Blk CP mX3_settlesSome 108 109 [oIL 2] := blk_c (s_iload_n dX3_settlesSome_108 rfl) <| blk_nil
abbrev Q_some (A : Nat → Nat → Int32) (B : Nat → Nat → Int64) (w : Nat → Int32) (v : Nat → Nat) (t : Nat) : Option Value → (Nat → Nat → Int32) → (Nat → Nat → Int64) → Prop := fun r A' B' => r = some (.int (b2 (psP (mcC A w t) (v 1) (v 2) (fA A, false)).2)) ∧ B' = B ∧ KK A A' ∧ Msk A' v ∧ E32 (fA A') (psP (mcC A w t) (v 1) (v 2) (fA A, false)).1
theorem ok_settlesSome (hO : CrO A sw E v) (hD : DrOk A v) (hM : Msk A v) (ht : t < v 6) : QC X mX3_settlesSome [.ref (ad 3), .int (nI t)] ad A B sk sw E (Q_some A B (sw 1) v t) := by
  obtain ⟨hs, hw, -, -⟩ := id hO
  have h8 := hw.np8
  have h4 := hw.nc4
  have h40 := hw.sp40
  have npE := hw.npE
  have ncE := hw.ncE
  refine C_start (L := [some (.ref (ad 3)), some (.int (nI t)), none, none, none, none]) 4 rfl ?_
  refine bX3_settlesSome_0.go rfl trivial ?_
  refine loop_down (N := v 2) (I := fun _ => True) (P := fun p => ∀ A', KK A A' → Msk A' v → E32 (fA A') (psP (mcC A (sw 1) t) (v 1) p (fA A, false)).1 → JS CP X mX3_settlesSome (rmOf mX3_settlesSome.lv 0 0) (ZC X 0 0 (fun r x' => ∃ A' B', x' = (ad, A', B', sk, sw, E) ∧ Q_some A B (sw 1) v t r A' B')) 0 0 4 [some (.ref (ad 3)), some (.int (nI t)), some (.int (b2 (psP (mcC A (sw 1) t) (v 1) p (fA A, false)).2)), some (.int (nI p)), none, none] [] (ad, A', B, sk, sw, E)) ?_ ?_ 0 (Nat.zero_le _) trivial A (fun _ _ _ => rfl) hM (fun _ _ => rfl)
  · intro _ A' hA hM' hF
    refine bX3_settlesSome_4.go rfl (by repeat' first | exact trivial | rfl | assumption | omega | apply And.intro) ?_
    rw [npE]
    refine j_icmp_ge (tgt := 108) dX3_settlesSome_17 (by decide) (fun h17 => ?_) (fun h17 => absurd (nI_le (Nat.le_refl _) (by omega)) h17)
    refine bX3_settlesSome_108.go rfl trivial ?_
    exact c_zret dX3_settlesSome_109 rfl (b2_z _) ⟨_, _, rfl, rfl, rfl, hA, hM', hF⟩
  · intro p hp _ ih A' hA hM' hF
    refine bX3_settlesSome_4.go rfl (by repeat' first | exact trivial | rfl | assumption | omega | apply And.intro) ?_
    rw [npE]
    refine j_icmp_ge (tgt := 108) dX3_settlesSome_17 (by decide) (fun h17 => ?_) (fun h17 => ?_)
    · rw [nI_leI (by omega) (by omega)] at h17; omega
    · refine bX3_settlesSome_20.go rfl trivial ?_
      refine loop_down (N := v 1) (I := fun _ => True) (P := fun c => ∀ A', KK A A' → Msk A' v → E32 (fA A') (psC (mcC A (sw 1) t) p c (psP (mcC A (sw 1) t) (v 1) p (fA A, false))).1 → JS CP X mX3_settlesSome (rmOf mX3_settlesSome.lv 0 0) (ZC X 0 0 (fun r x' => ∃ A' B', x' = (ad, A', B', sk, sw, E) ∧ Q_some A B (sw 1) v t r A' B')) 0 0 23 [some (.ref (ad 3)), some (.int (nI t)), some (.int (b2 (psC (mcC A (sw 1) t) p c (psP (mcC A (sw 1) t) (v 1) p (fA A, false))).2)), some (.int (nI p)), some (.int (nI c)), none] [] (ad, A', B, sk, sw, E)) ?_ ?_ 0 (Nat.zero_le _) trivial A' hA hM' hF
      · intro _ A' hA hM' hF
        refine bX3_settlesSome_23.go rfl (by repeat' first | exact trivial | rfl | assumption | omega | apply And.intro) ?_
        rw [ncE]
        refine j_icmp_ge (tgt := 102) dX3_settlesSome_37 (by decide) (fun h37 => ?_) (fun h37 => absurd (nI_le (Nat.le_refl _) (by omega)) h37)
        refine bX3_settlesSome_102.go rfl trivial ?_
        rw [nI_1]
        exact JS.weak (by simp [lsub]; rfl) (ih trivial A' hA hM' hF)
      · intro c hc _ ih2 A' hA hM' hF
        revert ih2 hF
        simp only [psC]
        generalize psC (mcC A (sw 1) t) p c (psP (mcC A (sw 1) t) (v 1) p (fA A, false)) = s
        intro ih2 hF
        have eF : fSL (A' 33 p) (A' 34 p) c = s.1 (4 * p + c) := by rw [← fA_at A' (by omega)]; exact hF _ (by omega)
        have j96 : st1 (mcC A (sw 1) t) p c s = s → JS CP X mX3_settlesSome (rmOf mX3_settlesSome.lv 0 0) (ZC X 0 0 (fun r x' => ∃ A' B', x' = (ad, A', B', sk, sw, E) ∧ Q_some A B (sw 1) v t r A' B')) 0 0 96 [some (.ref (ad 3)), some (.int (nI t)), some (.int (b2 s.2)), some (.int (nI p)), some (.int (nI c)), none] [] (ad, A', B, sk, sw, E) := by
          intro hst
          refine bX3_settlesSome_96.go rfl trivial ?_
          rw [nI_1]
          have := ih2 trivial A' hA hM' (by rw [hst]; exact hF)
          rw [hst] at this
          exact this
        refine bX3_settlesSome_23.go rfl (by repeat' first | exact trivial | rfl | assumption | omega | apply And.intro) ?_
        rw [ncE]
        refine j_icmp_ge (tgt := 102) dX3_settlesSome_37 (by decide) (fun h37 => ?_) (fun h37 => ?_)
        · rw [nI_leI (by omega) (by omega)] at h37; omega
        · refine bX3_settlesSome_40.go rfl (by (try simp (disch := omega) only [nI_add, pk_mul, pk_sub, nI_clamp, vpI]); repeat' first | exact trivial | rfl | assumption | omega | apply And.intro) ?_
          rw [nI_clamp (by omega)]
          refine j_if_eq (tgt := 57) dX3_settlesSome_51 (by decide) (fun h51 => ?_) (fun h51 => ?_)
          · rw [fOn, b2_0] at h51
            have hu : s.1 (4 * p + c) = -1 := by rw [← eF, fSL_n1]; exact h51
            have eE : evV (mcC A' (sw 1) t) (vf (fA A')) p c = evV (mcC A (sw 1) t) (vf s.1) p c := by
              rw [hA.mc]
              exact KEq.rf hw p hp c hc _ _ hF
            refine bX3_settlesSome_57.go rfl ⟨⟨rfl, v, p, c, t, hA.cro hO, hA.dr hD, hp, hc, ht, rfl, rfl, rfl⟩, trivial⟩ ?_
            simp (disch := omega) only [nI_clamp, eE]
            have h3 := ev_3 (mcC A (sw 1) t) (vf s.1) p c
            refine j_icmp_ne (tgt := 76) dX3_settlesSome_70 (by decide) (fun h70 => ?_) (fun h70 => ?_)
            · have hne : ¬ evV (mcC A (sw 1) t) (vf s.1) p c = -1 := fun e => h70 (by rw [e]; decide)
              have hst : st1 (mcC A (sw 1) t) p c s = (va_up s.1 (4 * p + c) (evV (mcC A (sw 1) t) (vf s.1) p c), true) := by
                rw [st1, if_pos hu, decide_eq_false hne]; simp
              have j91 : ∀ y : Bool, b2 y = evV (mcC A (sw 1) t) (vf s.1) p c → JS CP X mX3_settlesSome (rmOf mX3_settlesSome.lv 0 0) (ZC X 0 0 (fun r x' => ∃ A' B', x' = (ad, A', B', sk, sw, E) ∧ Q_some A B (sw 1) v t r A' B')) 0 0 91 [some (.ref (ad 3)), some (.int (nI t)), some (.int (b2 s.2)), some (.int (nI p)), some (.int (nI c)), none] [.int (b2 y), .int (nI c), .int (nI p), .ref (ad 3)] (ad, A', B, sk, sw, E) := by
                intro y hy
                obtain ⟨m1, m2⟩ := hM'.is (y := y) h4 hp hc (by rw [fA_at A' (by omega), fSL_n1]; exact h51)
                refine cq (M' := mX3_is) (As := [.int (nI p), .int (nI c), .int (b2 y)]) (nA := 3) (ok_isC (by omega) (by omega)) rec3 rfl (lw_V q1279 q1281 qs40 q137 q1282) dX3_settlesSome_91 rfl hy_X3_is (fun r A1 B1 q => ?_)
                obtain ⟨rfl, rfl, rfl⟩ := q
                refine bX3_settlesSome_94.go rfl trivial ?_
                refine bX3_settlesSome_96.go rfl trivial ?_
                rw [nI_1]
                have := ih2 trivial (isA A' p c y) hA.is m1 (by rw [hst]; intro j hj; rw [m2 j, hy]; exact E32.up hF _ _ j hj)
                rw [hst] at this
                exact JS.weak (by simp [lsub]; rfl) this
              refine JS.weak (L' := [some (.ref (ad 3)), some (.int (nI t)), some (.int (b2 s.2)), some (.int (nI p)), some (.int (nI c)), some (.int (nwI (evV (mcC A (sw 1) t) (vf s.1) p c)))]) (by simp [lsub]) ?_
              refine bX3_settlesSome_76.go rfl trivial ?_
              refine j_icmp_ne (tgt := 90) dX3_settlesSome_83 (by decide) (fun h83 => ?_) (fun h83 => ?_)
              · refine bX3_settlesSome_90.go rfl trivial ?_
                refine JS.weak (by simp [lsub]) (j91 false ?_)
                rcases h3 with q | q | q
                · exact absurd q hne
                · rw [q]; rfl
                · exact absurd (by rw [q]; decide) h83
              · refine bX3_settlesSome_86.go rfl trivial ?_
                refine JS.weak (by simp [lsub]) (j91 true ?_)
                rcases h3 with q | q | q
                · exact absurd q hne
                · rw [q] at h83; exact absurd h83 (by decide)
                · rw [q]; rfl
            · have he : evV (mcC A (sw 1) t) (vf s.1) p c = -1 := by
                rcases h3 with q | q | q
                · exact q
                · rw [q] at h70; exact absurd h70 (by decide)
                · rw [q] at h70; exact absurd h70 (by decide)
              refine bX3_settlesSome_73.go rfl trivial ?_
              refine JS.weak (by simp [lsub]) (j96 ?_)
              rw [st1, if_pos hu, he, va_up_same hu]
              simp
          · rw [fOn, b2_n0] at h51
            refine bX3_settlesSome_54.go rfl trivial ?_
            refine j96 ?_
            rw [st1, if_neg]
            rw [← eF, fSL_n1]
            rw [show bitI (A' 33 p) c = true from h51]; decide
end Set2
