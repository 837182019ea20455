set_option maxRecDepth 100000
/-! ===== UnseenClock$Square: isSeen ===== -/
/-- a step of i cells from a towards b -/
def stpN (a b i : Nat) : Nat := if a < b then a + i else if b < a then a - i else a
theorem sgI_sub {a b i : Nat} (ha : a < 2 ^ 30) (hb : b < 2 ^ 30) (h : b < a → i ≤ a) : nI a + nI i * sgI (nI b - nI a) = nI (stpN a b i) := by
  unfold stpN sgI
  by_cases h1 : a < b
  · rw [if_pos h1, pk_sub (by omega), ← nI_0, if_pos (nI_lt (by omega) (by omega)), pk_mul, nI_add, Nat.mul_one]
  · by_cases h2 : b < a
    · have h3 := pk_sneg (a := b) (b := a) (by omega) h2
      rw [if_neg h1, if_pos h2, if_neg (Int32.not_lt.mpr (Int32.le_of_lt h3)), if_pos h3, Int32.mul_neg, Int32.mul_one, ← Int32.sub_eq_add_neg, pk_sub (h h2)]
    · have e : a = b := by omega
      subst e
      rw [if_neg h1, if_neg h2, Int32.sub_self, if_neg (by decide), if_neg (by decide), pk_mul, nI_add, Nat.mul_zero, Nat.add_zero]
theorem free_between {w : Nat → Int32} {v : Nat → Nat} (hw : WOk w v) {a b c i : Nat} (hc : c < v 1) (ha : a < v 4) (hb : b < v 5) (h1 : 1 ≤ i)
    (hi : i < max ((v (32 + 6 * c) - a) + (a - v (32 + 6 * c))) ((v (32 + 6 * c + 1) - b) + (b - v (32 + 6 * c + 1))))
    (hd : v (32 + 6 * c) = a ∨ v (32 + 6 * c + 1) = b ∨ (v (32 + 6 * c) - a) + (a - v (32 + 6 * c)) = (v (32 + 6 * c + 1) - b) + (b - v (32 + 6 * c + 1))) :
    freeB w (nI (stpN a (v (32 + 6 * c)) i)) (nI (stpN b (v (32 + 6 * c + 1)) i)) = !takenB w (nI (stpN a (v (32 + 6 * c)) i)) (nI (stpN b (v (32 + 6 * c + 1)) i)) (nI c) := by
  have h4 : v 1 ≤ 4 := hw.2.2.1
  have b4 : v 4 ≤ 12 := hw.2.2.2.2.2.1
  have b5 : v 5 ≤ 12 := hw.2.2.2.2.2.2.1
  have hK := hw.2.2.2.2.2.2.2.2.2.2.1 c hc
  have k1 := hK.1
  have k2 := hK.2.1
  have e4 : w 4 = nI (v 4) := hw.1 4 (by decide)
  have e5 : w 5 = nI (v 5) := hw.1 5 (by decide)
  have ex : w (32 + 6 * c) = nI (v (32 + 6 * c)) := hw.1 _ (by omega)
  have ey : w (32 + 6 * c + 1) = nI (v (32 + 6 * c + 1)) := hw.1 _ (by omega)
  have i1 : stpN a (v (32 + 6 * c)) i < v 4 ∧ stpN b (v (32 + 6 * c + 1)) i < v 5 ∧ ¬ (stpN a (v (32 + 6 * c)) i = v (32 + 6 * c) ∧ stpN b (v (32 + 6 * c + 1)) i = v (32 + 6 * c + 1)) := by
    unfold stpN
    refine ⟨?_, ?_, ?_⟩
    · split
      · omega
      · split <;> omega
    · split
      · omega
      · split <;> omega
    · split <;> split <;> first | omega | (split <;> first | omega | (split <;> omega))
  obtain ⟨i1, i2, i3⟩ := i1
  unfold freeB
  rw [e4, e5, inI_of_nat (by omega) i1, inI_of_nat (by omega) i2]
  simp only [Bool.true_and]
  congr 1
  unfold takenB
  congr 1
  rw [show (w 1).toNatClampNeg = nC w from rfl, hw.ncE]
  refine anyN_congr (fun c' hc' => ?_)
  unfold clockAt
  rw [decide_eq_false (nI_n1 (by omega))]
  by_cases e : c' = c
  · subst e
    rw [decide_eq_true rfl, ex, ey]
    simp only [nI_eq (show v (32 + 6 * c') < 2 ^ 31 by omega) (show stpN a (v (32 + 6 * c')) i < 2 ^ 31 by omega), nI_eq (show v (32 + 6 * c' + 1) < 2 ^ 31 by omega) (show stpN b (v (32 + 6 * c' + 1)) i < 2 ^ 31 by omega)]
    by_cases q : v (32 + 6 * c') = stpN a (v (32 + 6 * c')) i
    · have : ¬ v (32 + 6 * c' + 1) = stpN b (v (32 + 6 * c' + 1)) i := fun q2 => i3 ⟨q.symm, q2.symm⟩
      rw [decide_eq_false this]; simp
    · rw [decide_eq_false q]; simp
  · rw [decide_eq_false (nI_ne (by omega) (by omega) e)]
theorem bX2_isSeen_0 : Blk PSq mX2_isSeen 0 69 [oIL 1, oC (nI 100), oRem, oIS 3, oIL 1, oC (nI 100), oDiv, oIS 4, oAL 0, pR 0 1, oIL 2, pDial, pDF 0 2, oIL 3, oSub, oIS 5, oAL 0, pR 0 1, oIL 2, pDial, pDF 1 2, oIL 4, oSub, oIS 6, oIL 5, oS_I pTi absI, oIL 6, oS_I pTi absI, oS_II pT2 maxI, oIS 7, oIL 7] := blk_c (s_iload_n dX2_isSeen_0 rfl) <| blk_c (s_bipush dX2_isSeen_1 (by decide +kernel)) <| blk_c (s_irem dX2_isSeen_3) <| blk_c (s_istore_n dX2_isSeen_4 rfl (by decide)) <| blk_c (s_iload_n dX2_isSeen_5 rfl) <| blk_c (s_bipush dX2_isSeen_6 (by decide +kernel)) <| blk_c (s_idiv dX2_isSeen_8) <| blk_c (s_istore dX2_isSeen_9 (by decide)) <| blk_c (s_aload_n dX2_isSeen_11 rfl) <| blk_c (p_R (by decide) (fun _ _ => rfl) (Or.inl q425) dX2_isSeen_12) <| blk_c (s_iload_n dX2_isSeen_15 rfl) <| blk_c (p_Dial (lw_F q809 q812 q814 q136 q816) (by decide) dX2_isSeen_16 q825 dX2_isSeen_21) <| blk_c (p_DF (by decide) (by decide) (Or.inr ⟨_, nq844⟩) dX2_isSeen_24) <| blk_c (s_iload_n dX2_isSeen_27 rfl) <| blk_c (s_isub dX2_isSeen_28) <| blk_c (s_istore dX2_isSeen_29 (by decide)) <| blk_c (s_aload_n dX2_isSeen_31 rfl) <| blk_c (p_R (by decide) (fun _ _ => rfl) (Or.inl q425) dX2_isSeen_32) <| blk_c (s_iload_n dX2_isSeen_35 rfl) <| blk_c (p_Dial (lw_F q809 q812 q814 q136 q816) (by decide) dX2_isSeen_36 q825 dX2_isSeen_41) <| blk_c (p_DF (by decide) (by decide) (Or.inr ⟨_, nq846⟩) dX2_isSeen_44) <| blk_c (s_iload dX2_isSeen_47) <| blk_c (s_isub dX2_isSeen_49) <| blk_c (s_istore dX2_isSeen_50 (by decide)) <| blk_c (s_iload dX2_isSeen_52) <| blk_c (s_S_I ok_sJ3_abs (fun _ _ _ h => h.2.1) (Or.inl (lw_S q1173 q1174 q140 q1175)) hy_J3_abs (by decide) dX2_isSeen_54) <| blk_c (s_iload dX2_isSeen_57) <| blk_c (s_S_I ok_sJ3_abs (fun _ _ _ h => h.2.1) (Or.inl (lw_S q1173 q1174 q140 q1175)) hy_J3_abs (by decide) dX2_isSeen_59) <| blk_c (s_S_II ok_sJ3_max (fun _ _ _ h => h.2.1) (Or.inl (lw_S q1176 q896 q140 q897)) hy_J3_max (by decide) dX2_isSeen_62) <| blk_c (s_istore dX2_isSeen_65 (by decide)) <| blk_c (s_iload dX2_isSeen_67) <| blk_nil
theorem bX2_isSeen_72 : Blk PSq mX2_isSeen 72 74 [oIL 5] := blk_c (s_iload dX2_isSeen_72) <| blk_nil
theorem bX2_isSeen_77 : Blk PSq mX2_isSeen 77 79 [oIL 6] := blk_c (s_iload dX2_isSeen_77) <| blk_nil
theorem bX2_isSeen_82 : Blk PSq mX2_isSeen 82 92 [oIL 5, oS_I pTi absI, oIL 6, oS_I pTi absI] := blk_c (s_iload dX2_isSeen_82) <| blk_c (s_S_I ok_sJ3_abs (fun _ _ _ h => h.2.1) (Or.inl (lw_S q1173 q1174 q140 q1175)) hy_J3_abs (by decide) dX2_isSeen_84) <| blk_c (s_iload dX2_isSeen_87) <| blk_c (s_S_I ok_sJ3_abs (fun _ _ _ h => h.2.1) (Or.inl (lw_S q1173 q1174 q140 q1175)) hy_J3_abs (by decide) dX2_isSeen_89) <| blk_nil
theorem bX2_isSeen_95 : Blk PSq mX2_isSeen 95 96 [oC (nI 0)] := blk_c (s_iconst dX2_isSeen_95 (by decide +kernel)) <| blk_nil
theorem bX2_isSeen_97 : Blk PSq mX2_isSeen 97 100 [oC (nI 1), oIS 8] := blk_c (s_iconst dX2_isSeen_97 (by decide +kernel)) <| blk_c (s_istore dX2_isSeen_98 (by decide)) <| blk_nil
theorem bX2_isSeen_100 : Blk PSq mX2_isSeen 100 104 [oIL 8, oIL 7] := blk_c (s_iload dX2_isSeen_100) <| blk_c (s_iload dX2_isSeen_102) <| blk_nil
theorem bX2_isSeen_107 : Blk PSq mX2_isSeen 107 132 [oAL 0, oIL 3, oIL 8, oIL 5, oS_I pSgn sgI, oMul, oAdd, oIL 4, oIL 8, oIL 6, oS_I pSgn sgI, oMul, oAdd, pC_II pFree fFree] := blk_c (s_aload_n dX2_isSeen_107 rfl) <| blk_c (s_iload_n dX2_isSeen_108 rfl) <| blk_c (s_iload dX2_isSeen_109) <| blk_c (s_iload dX2_isSeen_111) <| blk_c (s_S_I ok_sJ14_signum (fun _ _ _ h => h.2.1) (Or.inl (lw_S q1177 q1178 q162 q1179)) hy_J14_signum (by decide) dX2_isSeen_113) <| blk_c (s_imul dX2_isSeen_116) <| blk_c (s_iadd dX2_isSeen_117) <| blk_c (s_iload dX2_isSeen_118) <| blk_c (s_iload dX2_isSeen_120) <| blk_c (s_iload dX2_isSeen_122) <| blk_c (s_S_I ok_sJ14_signum (fun _ _ _ h => h.2.1) (Or.inl (lw_S q1177 q1178 q162 q1179)) hy_J14_signum (by decide) dX2_isSeen_124) <| blk_c (s_imul dX2_isSeen_127) <| blk_c (s_iadd dX2_isSeen_128) <| blk_c (p_C_II ok_isFreeX (lw_V q1113 q786 q787 q133 q788) hy_X2_isFree rfl (by decide) dX2_isSeen_129) <| blk_nil
theorem bX2_isSeen_135 : Blk PSq mX2_isSeen 135 136 [oC (nI 0)] := blk_c (s_iconst dX2_isSeen_135 (by decide +kernel)) <| blk_nil
theorem bX2_isSeen_137 : Blk PSq mX2_isSeen 137 100 [oInc 8 1, .inl (fun s => some s)] := blk_c (s_iinc dX2_isSeen_137 (by decide +kernel) (by decide)) <| blk_c (s_goto (tgt := 100) dX2_isSeen_140 (by decide)) <| blk_nil
theorem bX2_isSeen_143 : Blk PSq mX2_isSeen 143 144 [oC (nI 1)] := blk_c (s_iconst dX2_isSeen_143 (by decide +kernel)) <| blk_nil
theorem ok_isSeen : SF_II mX2_isSeen pSeen fSeen := by
  intro X h sk w t k hX hs hP
  obtain ⟨v, a, b, c, hw, ha, hb, hc, rfl, rfl⟩ := hP
  have h4 : v 1 ≤ 4 := hw.2.2.1
  have b4 : v 4 ≤ 12 := hw.2.2.2.2.2.1
  have b5 : v 5 ≤ 12 := hw.2.2.2.2.2.2.1
  have hK := hw.2.2.2.2.2.2.2.2.2.2.1 c hc
  have k1 := hK.1
  have k2 := hK.2.1
  have ex : w (32 + 6 * c) = nI (v (32 + 6 * c)) := hw.1 _ (by omega)
  have ey : w (32 + 6 * c + 1) = nI (v (32 + 6 * c + 1)) := hw.1 _ (by omega)
  have hnc : c < nC w := by rw [hw.ncE]; exact hc
  have hpf : pFree 0 0 w := ⟨v 4, v 5, b4, b5, hw.1 4 (by decide), hw.1 5 (by decide)⟩
  have hdiv : nI (a + 100 * b) / nI 100 = nI b := by rw [pk_div (by omega) (by decide) (by decide)]; congr 1; omega
  have hrem : nI (a + 100 * b) - nI (a + 100 * b) / nI 100 * nI 100 = nI a := by rw [pk_rem (by omega) (by decide) (by decide)]; congr 1; omega
  have hS : fSeen (nI (a + 100 * b)) (nI c) w = b2 (seesB w (nI a) (nI b) c) := by rw [fSeen, hrem, hdiv, nI_clamp (by omega)]
  rw [hS]
  generalize hf : max ((v (32 + 6 * c) - a) + (a - v (32 + 6 * c))) ((v (32 + 6 * c + 1) - b) + (b - v (32 + 6 * c + 1))) = f
  have hmx : maxI (absI (nI (v (32 + 6 * c)) - nI a)) (absI (nI (v (32 + 6 * c + 1)) - nI b)) = nI f := by
    rw [abs_sub (by omega) (by omega), abs_sub (by omega) (by omega), maxI_nI (by omega) (by omega), hf]
  have d0 : ∀ x y : Nat, x < 12 → y < 12 → (nI x - nI y = 0 ↔ x = y) := fun x y hx hy => by
    constructor
    · intro e
      have : nI x = nI y := by
        have h2 : nI x - nI y + nI y = 0 + nI y := by rw [e]
        rwa [Int32.sub_add_cancel, Int32.zero_add] at h2
      exact (nI_eq (by omega) (by omega)).mp this
    · intro e; rw [e, Int32.sub_self]
  refine P_start (L := [some (.ref (sk 0)), some (.int (nI (a + 100 * b))), some (.int (nI c)), none, none, none, none, none, none]) 6 rfl hX hs ?_
  have no : seesB w (nI a) (nI b) c = false → ∀ L, JS PSq X mX2_isSeen (rmOf mX2_isSeen.lv 0 0) (ZQ X 0 0 (PR (some (.int (b2 (seesB w (nI a) (nI b) c)))) h)) 0 0 95 L [] (h, sk, w) := by
    intro hz L
    refine bX2_isSeen_95.go rfl trivial ?_
    exact p_zret dX2_isSeen_96 rfl rfl rfl (by rw [hz]; rfl)
  have hend : (v (32 + 6 * c) = a ∨ v (32 + 6 * c + 1) = b ∨ (v (32 + 6 * c) - a) + (a - v (32 + 6 * c)) = (v (32 + 6 * c + 1) - b) + (b - v (32 + 6 * c + 1))) → ¬ f = 0 → JS PSq X mX2_isSeen (rmOf mX2_isSeen.lv 0 0) (ZQ X 0 0 (PR (some (.int (b2 (seesB w (nI a) (nI b) c)))) h)) 0 0 97 [some (.ref (sk 0)), some (.int (nI (a + 100 * b))), some (.int (nI c)), some (.int (nI a)), some (.int (nI b)), some (.int (nI (v (32 + 6 * c)) - nI a)), some (.int (nI (v (32 + 6 * c + 1)) - nI b)), some (.int (nI f)), none] [] (h, sk, w) := by
    intro hd hf0
    have hz : ((decide (w (32 + 6 * c) - nI a = 0) && decide (w (32 + 6 * c + 1) - nI b = 0)) || (!decide (w (32 + 6 * c) - nI a = 0) && (!decide (w (32 + 6 * c + 1) - nI b = 0) && !decide (absI (w (32 + 6 * c) - nI a) = absI (w (32 + 6 * c + 1) - nI b))))) = false := by
      rw [ex, ey, abs_sub (by omega) (by omega), abs_sub (by omega) (by omega)]
      simp only [nI_eq (show v (32 + 6 * c) - a + (a - v (32 + 6 * c)) < 2 ^ 31 by omega) (show v (32 + 6 * c + 1) - b + (b - v (32 + 6 * c + 1)) < 2 ^ 31 by omega), d0 _ _ (show v (32 + 6 * c) < 12 by omega) (show a < 12 by omega), d0 _ _ (show v (32 + 6 * c + 1) < 12 by omega) (show b < 12 by omega)]
      rw [Bool.or_eq_false_iff]
      constructor
      · rw [Bool.and_eq_false_iff, decide_eq_false_iff_not, decide_eq_false_iff_not]
        by_cases q : v (32 + 6 * c) = a
        · right; omega
        · exact Or.inl q
      · rcases hd with q | q | q
        · rw [decide_eq_true q]; rfl
        · rw [decide_eq_true q]; simp
        · rw [decide_eq_true q]; simp
    have hst : ∀ j, j < f - 1 → freeB w (nI a + nI (j + 1) * sgI (nI (v (32 + 6 * c)) - nI a)) (nI b + nI (j + 1) * sgI (nI (v (32 + 6 * c + 1)) - nI b)) = !takenB w (nI a + nI (j + 1) * signI (w (32 + 6 * c) - nI a)) (nI b + nI (j + 1) * signI (w (32 + 6 * c + 1) - nI b)) (nI c) := by
      intro j hj
      show _ = !takenB w (nI a + nI (j + 1) * sgI (w (32 + 6 * c) - nI a)) (nI b + nI (j + 1) * sgI (w (32 + 6 * c + 1) - nI b)) (nI c)
      rw [ex, ey, sgI_sub (by omega) (by omega) (by omega), sgI_sub (by omega) (by omega) (by omega)]
      exact free_between hw hc ha hb (by omega) (by omega) hd
    refine bX2_isSeen_97.go rfl trivial ?_
    refine loop_down (N := f - 1) (I := fun j => ∀ k, k < j → takenB w (nI a + nI (k + 1) * signI (w (32 + 6 * c) - nI a)) (nI b + nI (k + 1) * signI (w (32 + 6 * c + 1) - nI b)) (nI c) = false) (P := fun j => JS PSq X mX2_isSeen (rmOf mX2_isSeen.lv 0 0) (ZQ X 0 0 (PR (some (.int (b2 (seesB w (nI a) (nI b) c)))) h)) 0 0 100 [some (.ref (sk 0)), some (.int (nI (a + 100 * b))), some (.int (nI c)), some (.int (nI a)), some (.int (nI b)), some (.int (nI (v (32 + 6 * c)) - nI a)), some (.int (nI (v (32 + 6 * c + 1)) - nI b)), some (.int (nI f)), some (.int (nI (j + 1)))] [] (h, sk, w)) ?_ ?_ 0 (Nat.zero_le _) (fun k hk => by omega)
    · intro hI
      refine bX2_isSeen_100.go rfl trivial ?_
      refine j_icmp_ge (tgt := 143) dX2_isSeen_104 (by decide) (fun h104 => ?_) (fun h104 => ?_)
      · refine bX2_isSeen_143.go rfl trivial ?_
        refine p_zret dX2_isSeen_144 rfl rfl rfl ?_
        have : seesB w (nI a) (nI b) c = true := by
          simp only [seesB, hz, Bool.not_false, Bool.true_and, Bool.not_eq_true', anyN_false]
          rw [ex, ey, hmx, nI_clamp (by omega)]
          rw [ex, ey] at hI
          exact hI
        rw [this]; rfl
      · rw [nI_leI (by omega) (by omega)] at h104; omega
    · intro j hj hI ih
      refine bX2_isSeen_100.go rfl trivial ?_
      refine j_icmp_ge (tgt := 143) dX2_isSeen_104 (by decide) (fun h104 => ?_) (fun h104 => ?_)
      · rw [nI_leI (by omega) (by omega)] at h104; omega
      · refine bX2_isSeen_107.go rfl ⟨⟨_, _, by omega, by omega, rfl⟩, ⟨_, _, by omega, by omega, rfl⟩, ⟨⟨rfl, hpf⟩, trivial⟩, trivial⟩ ?_
        rw [fFree, hst j hj]
        refine j_if_ne (tgt := 137) dX2_isSeen_132 (by decide) (fun h132 => ?_) (fun h132 => ?_)
        · rw [b2_n0, Bool.not_eq_true'] at h132
          refine bX2_isSeen_137.go rfl trivial ?_
          rw [nI_1]
          exact ih (fun k hk => by rcases Nat.lt_succ_iff_lt_or_eq.mp hk with h | h; exact hI k h; rw [h]; exact h132)
        · rw [b2_0, Bool.not_eq_false'] at h132
          refine bX2_isSeen_135.go rfl trivial ?_
          refine p_zret dX2_isSeen_136 rfl rfl rfl ?_
          have : seesB w (nI a) (nI b) c = false := by
            simp only [seesB, hz, Bool.not_false, Bool.true_and, Bool.not_eq_false', anyN_true]
            rw [ex, ey, hmx, nI_clamp (by omega)]
            rw [ex, ey] at h132
            exact ⟨j, hj, h132⟩
          rw [this]; rfl
  refine bX2_isSeen_0.go rfl (by (try simp (disch := omega) only [nI_clamp, vpI]); repeat' first | exact trivial | rfl | assumption | omega | exact (by decide : ¬ nI 100 = 0) | apply And.intro) ?_
  rw [hrem, hdiv]
  simp (disch := omega) only [nI_clamp, Nat.add_zero, ex, ey]
  rw [hmx]
  refine j_if_eq (tgt := 95) dX2_isSeen_69 (by decide) (fun h69 => ?_) (fun h69 => ?_)
  · rw [← nI_0, nI_eq (by omega) (by omega)] at h69
    refine no ?_ _
    have q1 : v (32 + 6 * c) = a := by omega
    have q2 : v (32 + 6 * c + 1) = b := by omega
    simp only [seesB, ex, ey, q1, q2, Int32.sub_self]; simp
  · rw [← nI_0, nI_eq (by omega) (by omega)] at h69
    refine bX2_isSeen_72.go rfl trivial ?_
    refine j_if_eq (tgt := 97) dX2_isSeen_74 (by decide) (fun h74 => ?_) (fun h74 => ?_)
    · rw [d0 _ _ (by omega) (by omega)] at h74
      exact hend (Or.inl h74) h69
    · rw [d0 _ _ (by omega) (by omega)] at h74
      refine bX2_isSeen_77.go rfl trivial ?_
      refine j_if_eq (tgt := 97) dX2_isSeen_79 (by decide) (fun h79 => ?_) (fun h79 => ?_)
      · rw [d0 _ _ (by omega) (by omega)] at h79
        exact hend (Or.inr (Or.inl h79)) h69
      · rw [d0 _ _ (by omega) (by omega)] at h79
        refine bX2_isSeen_82.go rfl (by repeat' first | exact trivial | rfl | assumption | omega | apply And.intro) ?_
        rw [abs_sub (by omega) (by omega), abs_sub (by omega) (by omega)]
        refine j_icmp_eq (tgt := 97) dX2_isSeen_92 (by decide) (fun h92 => ?_) (fun h92 => ?_)
        · rw [nI_eq (by omega) (by omega)] at h92
          exact hend (Or.inr (Or.inr h92)) h69
        · refine no ?_ _
          simp only [seesB, ex, ey, abs_sub (show v (32 + 6 * c) < 2 ^ 30 by omega) (show a < 2 ^ 30 by omega), abs_sub (show v (32 + 6 * c + 1) < 2 ^ 30 by omega) (show b < 2 ^ 30 by omega), d0 _ _ (show v (32 + 6 * c) < 12 by omega) (show a < 12 by omega), d0 _ _ (show v (32 + 6 * c + 1) < 12 by omega) (show b < 12 by omega)]
          simp [h74, h79, h92]
