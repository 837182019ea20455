set_option maxRecDepth 100000
/-! ===== UnseenClockModel: asksSightings ===== -/
def inJ (a lo hi : Int64) : Bool := decide (lo ≤ a) && decide (a ≤ hi)
theorem inJ_def (a lo hi : Int64) : (decide (lo ≤ a) && decide (a ≤ hi)) = inJ a lo hi := rfl
def allN (f : Nat → Bool) (n : Nat) : Bool := !anyN (fun k => !f k) n
theorem allN_true {f : Nat → Bool} {n : Nat} : allN f n = true ↔ ∀ k, k < n → f k = true := by
  simp only [allN, Bool.not_eq_true', anyN_false, Bool.not_eq_false']
theorem allN_false {f : Nat → Bool} {n k : Nat} (hk : k < n) (hf : f k = false) : allN f n = false := by
  cases h : allN f n with
  | false => rfl
  | true => rw [allN_true.mp h k hk] at hf; cases hf
theorem allN_congr {f g : Nat → Bool} {n : Nat} (h : ∀ k, k < n → f k = g k) : allN f n = allN g n := by
  unfold allN
  rw [anyN_congr (fun k hk => by rw [h k hk])]
/-- a sighting: clock, minute, hour -/
def sg1 (w : Nat → Int32) (b : Nat → Int64) (j : Nat) : Bool := inJ (b j) (lN 0) (w 1 - nI 1).toInt64 && (inJ (b (j + 1)) (lN 0) (w 6).toInt64 && inJ (b (j + 2)) (lN 0) 59)
def asV (w m37 : Nat → Int32) (b : Nat → Int64) (s is most : Int32) : Int32 :=
  if (slB s && (sqB w && !decide (is = 0))) = true then
    (if m37 s.toNatClampNeg = -1 then -6 else if ¬ (m37 s.toNatClampNeg).toNatClampNeg % 3 = 0 ∨ 3 * most.toNatClampNeg < (m37 s.toNatClampNeg).toNatClampNeg then -2
     else if allN (fun i => sg1 w b (60 * s.toNatClampNeg + 3 * i)) ((m37 s.toNatClampNeg).toNatClampNeg / 3) = true then (if cnC w ≤ 128 then nI 0 else -3) else -2)
  else -2
def Pre_asks (_ _ most : Int32) (A : Nat → Nat → Int32) (B : Nat → Nat → Int64) : Prop := Pre_runs A B ∧ SlOk A ∧ ∃ n, most = nI n ∧ n ≤ 20
def Q_asks (s is most : Int32) (A : Nat → Nat → Int32) (B : Nat → Nat → Int64) : QR := fun r A' B' => r = some (.int (asV (A 1) (A 37) (B 39) s is most)) ∧ Keeps2 A B A' B' ∧ (asV (A 1) (A 37) (B 39) s is most = nI 0 → ∀ v, WOk (A 1) v → cnC (A 1) ≤ 128 ∧ CoA A' v (A 1) (cnC (A 1)))
theorem bX4_asksSightings_0 : Blk TP mX4_asksSightings 0 4 [oIL 1, tS_I F_isSlot] := blk_c (s_iload_n dX4_asksSightings_0 rfl) <| blk_c (ts_I ok_isSlot gX4_isSlot (by decide +kernel) (by decide) dX4_asksSightings_1) <| blk_nil
theorem bX4_asksSightings_7 : Blk TP mX4_asksSightings 7 11 [oAL 0, tC_V F_isSquare] := blk_c (s_aload_n dX4_asksSightings_7 rfl) <| blk_c (tc_V ok_isSquare gX4_isSquare (by decide +kernel) (by decide) dX4_asksSightings_8) <| blk_nil
theorem bX4_asksSightings_14 : Blk TP mX4_asksSightings 14 15 [oIL 2] := blk_c (s_iload_n dX4_asksSightings_14 rfl) <| blk_nil
theorem bX4_asksSightings_18 : Blk TP mX4_asksSightings 18 20 [oC (-2)] := blk_c (s_bipush dX4_asksSightings_18 (by decide +kernel)) <| blk_nil
theorem bX4_asksSightings_21 : Blk TP mX4_asksSightings 21 28 [oAL 0, tR 37, oIL 1, tAI 37 4, oC (-1)] := blk_c (s_aload_n dX4_asksSightings_21 rfl) <| blk_c (tgX4_37 rfl dX4_asksSightings_22) <| blk_c (s_iload_n dX4_asksSightings_25 rfl) <| blk_c (t_iald rfl dX4_asksSightings_26) <| blk_c (s_iconst dX4_asksSightings_27 (by decide +kernel)) <| blk_nil
theorem bX4_asksSightings_31 : Blk TP mX4_asksSightings 31 33 [oC (-6)] := blk_c (s_bipush dX4_asksSightings_31 (by decide +kernel)) <| blk_nil
theorem bX4_asksSightings_34 : Blk TP mX4_asksSightings 34 42 [oAL 0, tR 37, oIL 1, tAI 37 4, oC (nI 3), oRem] := blk_c (s_aload_n dX4_asksSightings_34 rfl) <| blk_c (tgX4_37 rfl dX4_asksSightings_35) <| blk_c (s_iload_n dX4_asksSightings_38 rfl) <| blk_c (t_iald rfl dX4_asksSightings_39) <| blk_c (s_iconst dX4_asksSightings_40 (by decide +kernel)) <| blk_c (s_irem dX4_asksSightings_41) <| blk_nil
theorem bX4_asksSightings_45 : Blk TP mX4_asksSightings 45 54 [oAL 0, tR 37, oIL 1, tAI 37 4, oC (nI 3), oIL 3, oMul] := blk_c (s_aload_n dX4_asksSightings_45 rfl) <| blk_c (tgX4_37 rfl dX4_asksSightings_46) <| blk_c (s_iload_n dX4_asksSightings_49 rfl) <| blk_c (t_iald rfl dX4_asksSightings_50) <| blk_c (s_iconst dX4_asksSightings_51 (by decide +kernel)) <| blk_c (s_iload_n dX4_asksSightings_52 rfl) <| blk_c (s_imul dX4_asksSightings_53) <| blk_nil
theorem bX4_asksSightings_57 : Blk TP mX4_asksSightings 57 59 [oC (-2)] := blk_c (s_bipush dX4_asksSightings_57 (by decide +kernel)) <| blk_nil
theorem bX4_asksSightings_60 : Blk TP mX4_asksSightings 60 63 [oC (nI 0), oIS 4] := blk_c (s_iconst dX4_asksSightings_60 (by decide +kernel)) <| blk_c (s_istore dX4_asksSightings_61 (by decide)) <| blk_nil
theorem bX4_asksSightings_63 : Blk TP mX4_asksSightings 63 71 [oIL 4, oAL 0, tR 37, oIL 1, tAI 37 4] := blk_c (s_iload dX4_asksSightings_63) <| blk_c (s_aload_n dX4_asksSightings_65 rfl) <| blk_c (tgX4_37 rfl dX4_asksSightings_66) <| blk_c (s_iload_n dX4_asksSightings_69 rfl) <| blk_c (t_iald rfl dX4_asksSightings_70) <| blk_nil
theorem bX4_asksSightings_74 : Blk TP mX4_asksSightings 74 119 [oAL 0, tR 39, oC (nI 60), oIL 1, oMul, oIL 4, oAdd, tAL 39 240, oLS 5, oAL 0, tR 39, oC (nI 60), oIL 1, oMul, oIL 4, oAdd, oC (nI 1), oAdd, tAL 39 240, oLS 7, oLL 5, oCL (lN 0), oAL 0, tR 1, oC (nI 1), tAI 1 320, oC (nI 1), oSub, oI2L, tS_JJJ F_in] := blk_c (s_aload_n dX4_asksSightings_74 rfl) <| blk_c (tgX4_39 rfl dX4_asksSightings_75) <| blk_c (s_bipush dX4_asksSightings_78 (by decide +kernel)) <| blk_c (s_iload_n dX4_asksSightings_80 rfl) <| blk_c (s_imul dX4_asksSightings_81) <| blk_c (s_iload dX4_asksSightings_82) <| blk_c (s_iadd dX4_asksSightings_84) <| blk_c (t_lald rfl dX4_asksSightings_85) <| blk_c (s_lstore dX4_asksSightings_86 (by decide)) <| blk_c (s_aload_n dX4_asksSightings_88 rfl) <| blk_c (tgX4_39 rfl dX4_asksSightings_89) <| blk_c (s_bipush dX4_asksSightings_92 (by decide +kernel)) <| blk_c (s_iload_n dX4_asksSightings_94 rfl) <| blk_c (s_imul dX4_asksSightings_95) <| blk_c (s_iload dX4_asksSightings_96) <| blk_c (s_iadd dX4_asksSightings_98) <| blk_c (s_iconst dX4_asksSightings_99 (by decide +kernel)) <| blk_c (s_iadd dX4_asksSightings_100) <| blk_c (t_lald rfl dX4_asksSightings_101) <| blk_c (s_lstore dX4_asksSightings_102 (by decide)) <| blk_c (s_lload dX4_asksSightings_104) <| blk_c (s_lconst dX4_asksSightings_106 (by decide +kernel)) <| blk_c (s_aload_n dX4_asksSightings_107 rfl) <| blk_c (tgX4_1 rfl dX4_asksSightings_108) <| blk_c (s_iconst dX4_asksSightings_111 (by decide +kernel)) <| blk_c (t_iald rfl dX4_asksSightings_112) <| blk_c (s_iconst dX4_asksSightings_113 (by decide +kernel)) <| blk_c (s_isub dX4_asksSightings_114) <| blk_c (s_i2l dX4_asksSightings_115) <| blk_c (ts_JJJ ok_in gX4_in (by decide +kernel) (by decide) dX4_asksSightings_116) <| blk_nil
theorem bX4_asksSightings_122 : Blk TP mX4_asksSightings 122 136 [oLL 7, oCL (lN 0), oAL 0, tR 1, oC (nI 6), tAI 1 320, oI2L, tS_JJJ F_in] := blk_c (s_lload dX4_asksSightings_122) <| blk_c (s_lconst dX4_asksSightings_124 (by decide +kernel)) <| blk_c (s_aload_n dX4_asksSightings_125 rfl) <| blk_c (tgX4_1 rfl dX4_asksSightings_126) <| blk_c (s_bipush dX4_asksSightings_129 (by decide +kernel)) <| blk_c (t_iald rfl dX4_asksSightings_131) <| blk_c (s_i2l dX4_asksSightings_132) <| blk_c (ts_JJJ ok_in gX4_in (by decide +kernel) (by decide) dX4_asksSightings_133) <| blk_nil
theorem bX4_asksSightings_139 : Blk TP mX4_asksSightings 139 160 [oAL 0, tR 39, oC (nI 60), oIL 1, oMul, oIL 4, oAdd, oC (nI 2), oAdd, tAL 39 240, oCL (lN 0), oCL (59), tS_JJJ F_in] := blk_c (s_aload_n dX4_asksSightings_139 rfl) <| blk_c (tgX4_39 rfl dX4_asksSightings_140) <| blk_c (s_bipush dX4_asksSightings_143 (by decide +kernel)) <| blk_c (s_iload_n dX4_asksSightings_145 rfl) <| blk_c (s_imul dX4_asksSightings_146) <| blk_c (s_iload dX4_asksSightings_147) <| blk_c (s_iadd dX4_asksSightings_149) <| blk_c (s_iconst dX4_asksSightings_150 (by decide +kernel)) <| blk_c (s_iadd dX4_asksSightings_151) <| blk_c (t_lald rfl dX4_asksSightings_152) <| blk_c (s_lconst dX4_asksSightings_153 (by decide +kernel)) <| blk_c (s_ldc2 dX4_asksSightings_154 q2066) <| blk_c (ts_JJJ ok_in gX4_in (by decide +kernel) (by decide) dX4_asksSightings_157) <| blk_nil
theorem bX4_asksSightings_163 : Blk TP mX4_asksSightings 163 165 [oC (-2)] := blk_c (s_bipush dX4_asksSightings_163 (by decide +kernel)) <| blk_nil
theorem bX4_asksSightings_166 : Blk TP mX4_asksSightings 166 63 [oInc 4 (nI 3), .inl (fun s => some s)] := blk_c (s_iinc dX4_asksSightings_166 (by decide +kernel) (by decide)) <| blk_c (s_goto (tgt := 63) dX4_asksSightings_169 (by decide)) <| blk_nil
theorem bX4_asksSightings_172 : Blk TP mX4_asksSightings 172 173 [oAL 0] := blk_c (s_aload_n dX4_asksSightings_172 rfl) <| blk_nil
theorem bX4_asksSightings_179 : Blk TP mX4_asksSightings 179 185 [oC (nI 0), .inl (fun s => some s)] := blk_c (s_iconst dX4_asksSightings_179 (by decide +kernel)) <| blk_c (s_goto (tgt := 185) dX4_asksSightings_180 (by decide)) <| blk_nil
theorem bX4_asksSightings_183 : Blk TP mX4_asksSightings 183 185 [oC (-3)] := blk_c (s_bipush dX4_asksSightings_183 (by decide +kernel)) <| blk_nil
theorem ok_asksSightings : RC_III mX4_asksSightings Pre_asks Q_asks := by
  intro X s is most o ad A B hpre
  obtain ⟨hpr, hsl, mo, rfl, hmo⟩ := hpre
  obtain ⟨v, hw⟩ := id hpr
  have h6 : v 6 ≤ 40 := hw.2.2.2.2.2.2.2.1
  have h4 : v 1 ≤ 4 := hw.2.2.1
  have main : (slB s && (sqB (A 1) && !decide (is = 0))) = true → JS TP X mX4_asksSightings (rmOf mX4_asksSightings.lv 0 0) (ZR X o ad (Q_asks s is (nI mo) A B)) 0 0 21 [some (.ref o), some (.int s), some (.int is), some (.int (nI mo)), none, none, none, none, none] [] (o, ad, A, B) := by
    intro hg
    obtain ⟨sn, hs, rfl⟩ := slB_nat (by simp only [Bool.and_eq_true] at hg; exact hg.1)
    have eV : asV (A 1) (A 37) (B 39) (nI sn) is (nI mo) = (if A 37 sn = -1 then -6 else if ¬ (A 37 sn).toNatClampNeg % 3 = 0 ∨ 3 * mo < (A 37 sn).toNatClampNeg then -2 else if allN (fun i => sg1 (A 1) (B 39) (60 * sn + 3 * i)) ((A 37 sn).toNatClampNeg / 3) = true then (if cnC (A 1) ≤ 128 then nI 0 else -3) else -2) := by
      rw [asV, if_pos hg, nI_clamp (by omega), nI_clamp (show mo < 2 ^ 31 by omega)]
    have out : ∀ z, asV (A 1) (A 37) (B 39) (nI sn) is (nI mo) = z → ¬ z = nI 0 → Q_asks (nI sn) is (nI mo) A B (some (.int z)) A B := fun z h1 h2 => ⟨ans h1.symm, Keeps2.rf, fun h => absurd (h1.symm.trans h) h2⟩
    refine bX4_asksSightings_21.go rfl (by simp (disch := omega) only [vpI]; exact ⟨trivial, ⟨trivial, by omega⟩, trivial⟩) ?_
    simp (disch := omega) only [nI_clamp]
    refine j_icmp_ne (tgt := 34) dX4_asksSightings_28 (by decide) (fun h28 => ?_) (fun h28 => ?_)
    · obtain ⟨n, hn, en⟩ := (hsl sn hs).resolve_left h28
      rw [if_neg h28] at eV
      rw [en] at eV
      simp (disch := omega) only [nI_clamp] at eV
      have hmod : nI n - nI (n / 3) * nI 3 = nI (n % 3) := by rw [pk_mul, pk_sub (by omega)]; congr 1; omega
      refine bX4_asksSightings_34.go rfl (by simp (disch := omega) only [vpI]; exact ⟨trivial, ⟨trivial, by omega⟩, by decide +kernel, trivial⟩) ?_
      simp (disch := omega) only [nI_clamp, en, pk_div, hmod]
      refine j_if_ne (tgt := 57) dX4_asksSightings_42 (by decide) (fun h42 => ?_) (fun h42 => ?_)
      · refine bX4_asksSightings_57.go rfl trivial ?_
        refine r_iret dX4_asksSightings_59 rfl (out _ ?_ (by decide +kernel))
        rw [eV, if_pos (Or.inl (fun h => h42 (by rw [h]; rfl)))]
      · have h42 : n % 3 = 0 := (nI_eq (by omega) (by omega)).mp (h42.trans nI_0.symm)
        refine bX4_asksSightings_45.go rfl (by simp (disch := omega) only [vpI]; exact ⟨trivial, ⟨trivial, by omega⟩, trivial⟩) ?_
        simp (disch := omega) only [nI_clamp, en, pk_mul]
        refine j_icmp_le (tgt := 60) dX4_asksSightings_54 (by decide) (fun h54 => ?_) (fun h54 => ?_)
        · rw [nI_leI (by omega) (by omega)] at h54
          rw [if_neg (by omega)] at eV
          refine bX4_asksSightings_60.go rfl trivial ?_
          refine loop_down (N := n / 3) (I := fun j => ∀ i, i < j → sg1 (A 1) (B 39) (60 * sn + 3 * i) = true) (P := fun j => JS TP X mX4_asksSightings (rmOf mX4_asksSightings.lv 0 0) (ZR X o ad (Q_asks (nI sn) is (nI mo) A B)) 0 0 63 [some (.ref o), some (.int (nI sn)), some (.int is), some (.int (nI mo)), some (.int (nI (3 * j))), none, none, none, none] [] (o, ad, A, B)) ?_ ?_ 0 (Nat.zero_le _) (fun i h => by omega)
          · intro hI
            rw [if_pos (allN_true.mpr hI)] at eV
            refine bX4_asksSightings_63.go rfl (by simp (disch := omega) only [vpI]; exact ⟨trivial, ⟨trivial, by omega⟩, trivial⟩) ?_
            simp (disch := omega) only [nI_clamp, en]
            refine j_icmp_ge (tgt := 172) dX4_asksSightings_71 (by decide) (fun h71 => ?_) (fun h71 => ?_)
            · refine bX4_asksSightings_172.go rfl trivial ?_
              refine rc_V ok_fillCourses gX4_fillCourses dX4_asksSightings_173 rfl hpr (fun r A1 B1 q => ?_)
              obtain ⟨rfl, hk, hq⟩ := q
              refine j_if_eq (tgt := 183) dX4_asksSightings_176 (by decide) (fun h176 => ?_) (fun h176 => ?_)
              · rw [b2_0] at h176
                rw [if_neg (of_decide_eq_false h176)] at eV
                refine bX4_asksSightings_183.go rfl trivial ?_
                exact r_iret dX4_asksSightings_185 rfl ⟨ans eV.symm, hk, fun h => absurd (eV.symm.trans h) (by decide +kernel)⟩
              · rw [b2_n0] at h176
                have hcn := of_decide_eq_true h176
                rw [if_pos hcn] at eV
                refine bX4_asksSightings_179.go rfl trivial ?_
                exact r_iret dX4_asksSightings_185 rfl ⟨ans eV.symm, hk, fun _ v' hv' => ⟨hcn, hq hcn v' hv'⟩⟩
            · simp (disch := omega) only [nI_leI] at h71; omega
          · intro j hj hI ih
            have no : sg1 (A 1) (B 39) (60 * sn + 3 * j) = false → asV (A 1) (A 37) (B 39) (nI sn) is (nI mo) = -2 := fun h => by
              rw [eV, allN_false hj h]; rfl
            refine bX4_asksSightings_63.go rfl (by simp (disch := omega) only [vpI]; exact ⟨trivial, ⟨trivial, by omega⟩, trivial⟩) ?_
            simp (disch := omega) only [nI_clamp, en]
            refine j_icmp_ge (tgt := 172) dX4_asksSightings_71 (by decide) (fun h71 => ?_) (fun h71 => ?_)
            · simp (disch := omega) only [nI_leI] at h71; omega
            · refine bX4_asksSightings_74.go rfl (by simp (disch := omega) only [nI_add, pk_mul, vpI]; exact ⟨trivial, ⟨trivial, by omega⟩, trivial, ⟨trivial, by omega⟩, trivial, ⟨trivial, by omega⟩, trivial, trivial⟩) ?_
              simp (disch := omega) only [nI_add, pk_mul, nI_clamp, inJ_def]
              refine j_if_eq (tgt := 163) dX4_asksSightings_119 (by decide) (fun h119 => ?_) (fun h119 => ?_)
              · rw [b2_0] at h119
                refine bX4_asksSightings_163.go rfl trivial ?_
                exact r_iret dX4_asksSightings_165 rfl (out _ (no (by rw [sg1, h119]; rfl)) (by decide +kernel))
              · rw [b2_n0] at h119
                refine bX4_asksSightings_122.go rfl (by simp (disch := omega) only [vpI]; exact ⟨trivial, ⟨trivial, by omega⟩, trivial, trivial⟩) ?_
                simp (disch := omega) only [nI_clamp, inJ_def]
                refine j_if_eq (tgt := 163) dX4_asksSightings_136 (by decide) (fun h136 => ?_) (fun h136 => ?_)
                · rw [b2_0] at h136
                  refine bX4_asksSightings_163.go rfl trivial ?_
                  exact r_iret dX4_asksSightings_165 rfl (out _ (no (by rw [sg1, h119, h136]; rfl)) (by decide +kernel))
                · rw [b2_n0] at h136
                  refine bX4_asksSightings_139.go rfl (by simp (disch := omega) only [nI_add, pk_mul, vpI]; exact ⟨trivial, ⟨trivial, by omega⟩, trivial, trivial⟩) ?_
                  simp (disch := omega) only [nI_add, pk_mul, nI_clamp, inJ_def]
                  refine j_if_ne (tgt := 166) dX4_asksSightings_160 (by decide) (fun h160 => ?_) (fun h160 => ?_)
                  · rw [b2_n0] at h160
                    refine bX4_asksSightings_166.go rfl trivial ?_
                    simp (disch := omega) only [nI_add]
                    refine JS.weak (L' := [some (.ref o), some (.int (nI sn)), some (.int is), some (.int (nI mo)), some (.int (nI (3 * (j + 1)))), none, none, none, none]) (by simp [lsub, Nat.mul_add]) (ih (fun i hi => ?_))
                    by_cases e : i = j
                    · rw [e, sg1, h119, h136, h160]; rfl
                    · exact hI i (by omega)
                  · rw [b2_0] at h160
                    refine bX4_asksSightings_163.go rfl trivial ?_
                    exact r_iret dX4_asksSightings_165 rfl (out _ (no (by rw [sg1, h119, h136, h160]; rfl)) (by decide +kernel))
        · rw [nI_leI (by omega) (by omega)] at h54
          refine bX4_asksSightings_57.go rfl trivial ?_
          refine r_iret dX4_asksSightings_59 rfl (out _ ?_ (by decide +kernel))
          rw [eV, if_pos (Or.inr (by omega))]
    · refine bX4_asksSightings_31.go rfl trivial ?_
      exact r_iret dX4_asksSightings_33 rfl (out _ (by rw [eV, if_pos h28]) (by decide +kernel))
  refine R_start (L := [some (.ref o), some (.int s), some (.int is), some (.int (nI mo)), none, none, none, none, none]) 5 rfl ?_
  have out : ¬ (slB s && (sqB (A 1) && !decide (is = 0))) = true → Q_asks s is (nI mo) A B (some (.int (-2))) A B := fun h => ⟨ans (by rw [asV, if_neg h]), Keeps2.rf, fun h2 => by rw [asV, if_neg h] at h2; exact absurd h2 (by decide +kernel)⟩
  refine bX4_asksSightings_0.go rfl (by first | exact ⟨⟨rfl, trivial⟩, trivial⟩ | exact ⟨trivial, trivial⟩) ?_
  refine j_if_eq (tgt := 18) dX4_asksSightings_4 (by decide) (fun h4 => ?_) (fun h4 => ?_)
  · refine bX4_asksSightings_18.go rfl trivial ?_
    refine r_iret dX4_asksSightings_20 rfl ?_
    exact out (by clear main out; simp only [b2_0, b2_n0] at *; simp_all [slB, sqB, -Int32.not_lt])
  · refine bX4_asksSightings_7.go rfl (by first | exact ⟨⟨rfl, trivial⟩, trivial⟩ | exact ⟨trivial, trivial⟩) ?_
    refine j_if_eq (tgt := 18) dX4_asksSightings_11 (by decide) (fun h11 => ?_) (fun h11 => ?_)
    · refine bX4_asksSightings_18.go rfl trivial ?_
      refine r_iret dX4_asksSightings_20 rfl ?_
      exact out (by clear main out; simp only [b2_0, b2_n0] at *; simp_all [slB, sqB, -Int32.not_lt])
    · refine bX4_asksSightings_14.go rfl trivial ?_
      refine j_if_ne (tgt := 21) dX4_asksSightings_15 (by decide) (fun h15 => ?_) (fun h15 => ?_)
      · exact main (by clear main out; simp only [b2_0, b2_n0] at *; simp_all [slB, sqB, -Int32.not_lt])
      · refine bX4_asksSightings_18.go rfl trivial ?_
        refine r_iret dX4_asksSightings_20 rfl ?_
        exact out (by clear main out; simp only [b2_0, b2_n0] at *; simp_all [slB, sqB, -Int32.not_lt])
