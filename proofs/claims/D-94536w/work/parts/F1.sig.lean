set_option maxRecDepth 100000
/-! ===== UnseenClock: sights ===== -/
section Sig
variable {X : Cx} {mi : Nat} {ad : Nat → Nat} {A : Nat → Nat → Int32} {B : Nat → Nat → Int64} {sk : Nat → Nat → Nat} {sw : Nat → Nat → Int32} {E : Nat → Nat} {v : Nat → Nat} {w : Nat → Int32}
theorem bX0_sights_0 : Blk CP mX0_sights 0 5 [oAL 0, oIL 1, cF_I F_isPersonC] := blk_c (s_aload_n dX0_sights_0 rfl) <| blk_c (s_iload_n dX0_sights_1 rfl) <| blk_c (c_F_I ok_isPersonC (ci := 0) rfl (lw_V q1127 q1129 qs28 q131 q1130) hy_X0_isPerson rfl (by decide) dX0_sights_2) <| blk_nil
theorem bX0_sights_8 : Blk CP mX0_sights 8 10 [oC (-2)] := blk_c (s_bipush dX0_sights_8 (by decide +kernel)) <| blk_nil
theorem bX0_sights_11 : Blk CP mX0_sights 11 12 [oAL 0] := blk_c (s_aload_n dX0_sights_11 rfl) <| blk_nil
theorem bX0_sights_18 : Blk CP mX0_sights 18 20 [oC (-3)] := blk_c (s_bipush dX0_sights_18 (by decide +kernel)) <| blk_nil
theorem bX0_sights_21 : Blk CP mX0_sights 21 25 [oC (nI 0), oIS 2, oC (nI 0), oIS 3] := blk_c (s_iconst dX0_sights_21 (by decide +kernel)) <| blk_c (s_istore_n dX0_sights_22 rfl (by decide)) <| blk_c (s_iconst dX0_sights_23 (by decide +kernel)) <| blk_c (s_istore_n dX0_sights_24 rfl (by decide)) <| blk_nil
theorem bX0_sights_25 : Blk CP mX0_sights 25 30 [oIL 3, oAL 0, cI 0 6] := blk_c (s_iload_n dX0_sights_25 rfl) <| blk_c (s_aload_n dX0_sights_26 rfl) <| blk_c (cgX0_6 (Or.inl q562) dX0_sights_27) <| blk_nil
theorem bX0_sights_33 : Blk CP mX0_sights 33 39 [oC (nI 1), oIS 4, oC (nI 0), oIS 5] := blk_c (s_iconst dX0_sights_33 (by decide +kernel)) <| blk_c (s_istore dX0_sights_34 (by decide)) <| blk_c (s_iconst dX0_sights_36 (by decide +kernel)) <| blk_c (s_istore dX0_sights_37 (by decide)) <| blk_nil
theorem bX0_sights_39 : Blk CP mX0_sights 39 42 [oIL 5, oIL 3] := blk_c (s_iload dX0_sights_39) <| blk_c (s_iload_n dX0_sights_41 rfl) <| blk_nil
theorem bX0_sights_45 : Blk CP mX0_sights 45 47 [oIL 4] := blk_c (s_iload dX0_sights_45) <| blk_nil
theorem bX0_sights_50 : Blk CP mX0_sights 50 57 [oAL 0, oAL 0, cR 0 5 4, oIL 5] := blk_c (s_aload_n dX0_sights_50 rfl) <| blk_c (s_aload_n dX0_sights_51 rfl) <| blk_c (cgX0_5 (Or.inl q561) dX0_sights_52) <| blk_c (s_iload dX0_sights_55) <| blk_nil
theorem bX0_sights_65 : Blk CP mX0_sights 65 70 [oAL 0, cR 0 5 4, oIL 3] := blk_c (s_aload_n dX0_sights_65 rfl) <| blk_c (cgX0_5 (Or.inl q561) dX0_sights_66) <| blk_c (s_iload_n dX0_sights_69 rfl) <| blk_nil
theorem bX0_sights_78 : Blk CP mX0_sights 78 79 [oIL 1] := blk_c (s_iload_n dX0_sights_78 rfl) <| blk_nil
theorem bX0_sights_85 : Blk CP mX0_sights 85 90 [oC (nI 1), .inl (fun s => some s)] := blk_c (s_iconst dX0_sights_85 (by decide +kernel)) <| blk_c (s_goto (tgt := 90) dX0_sights_86 (by decide)) <| blk_nil
theorem bX0_sights_89 : Blk CP mX0_sights 89 90 [oC (nI 0)] := blk_c (s_iconst dX0_sights_89 (by decide +kernel)) <| blk_nil
theorem bX0_sights_90 : Blk CP mX0_sights 90 39 [oIS 4, oInc 5 1, .inl (fun s => some s)] := blk_c (s_istore dX0_sights_90 (by decide)) <| blk_c (s_iinc dX0_sights_92 (by decide +kernel) (by decide)) <| blk_c (s_goto (tgt := 39) dX0_sights_95 (by decide)) <| blk_nil
theorem bX0_sights_98 : Blk CP mX0_sights 98 101 [oIL 2, oIL 4] := blk_c (s_iload_n dX0_sights_98 rfl) <| blk_c (s_iload dX0_sights_99) <| blk_nil
theorem bX0_sights_104 : Blk CP mX0_sights 104 109 [oC (nI 1), .inl (fun s => some s)] := blk_c (s_iconst dX0_sights_104 (by decide +kernel)) <| blk_c (s_goto (tgt := 109) dX0_sights_105 (by decide)) <| blk_nil
theorem bX0_sights_108 : Blk CP mX0_sights 108 109 [oC (nI 0)] := blk_c (s_iconst dX0_sights_108 (by decide +kernel)) <| blk_nil
theorem bX0_sights_109 : Blk CP mX0_sights 109 25 [oAdd, oIS 2, oInc 3 1, .inl (fun s => some s)] := blk_c (s_iadd dX0_sights_109) <| blk_c (s_istore_n dX0_sights_110 rfl (by decide)) <| blk_c (s_iinc dX0_sights_111 (by decide +kernel) (by decide)) <| blk_c (s_goto (tgt := 25) dX0_sights_114 (by decide)) <| blk_nil
theorem bX0_sights_117 : Blk CP mX0_sights 117 118 [oIL 2] := blk_c (s_iload_n dX0_sights_117 rfl) <| blk_nil
theorem pb_sights (hM : WkM X mi) (hS : SW v A sw) (hLI : LI E) {p : Int32} : RCc X mX0_sights 1000 70000 [.ref (ad 0), .int p] (ad, A, B, sk, sw, E) (PubQ (ad, A, B, sk, sw, E) (q_sights (sw 0) p)) := by
  obtain ⟨-, hw, -, -⟩ := id hS
  have h8 := hw.np8
  have h40 := hw.sp40
  have spE := hw.span
  have main : pB (sw 0) p = true → PJ X mX0_sights (ad, A, B, sk, sw, E) (q_sights (sw 0) p) 11 [some (.ref (ad 0)), some (.int p), none, none, none, none] [] (ad, A, B, sk, sw, E) := by
    intro hg
    rw [q_sights, if_pos hg]
    obtain ⟨p, hp, rfl⟩ := hw.pOf hg
    rw [nI_clamp (by omega)]
    refine bX0_sights_11.go rfl trivial ?_
    refine gq hM hS hLI ((lw_V q1355 q1357 qs46 q131 q1358)) dX0_sights_12 (by decide) rfl (fun ad' A' B' sk' sw' E' q0 hk hS' hC => ?_)
    refine j_if_ne (tgt := 21) dX0_sights_15 (by decide) (fun h17 => ?_) (fun h17 => ?_)
    · rw [b2_n0, decide_eq_true_eq] at h17
      obtain ⟨h6, hE, hLI', hCo⟩ := hC h17
      have e6 : sw' 0 6 = nI (v 6) := by rw [hS'.1]; exact hw.1 6 (by decide)
      rw [if_pos h17, ← q0]
      refine bX0_sights_21.go rfl trivial ?_
      refine loop_down (N := cnC (sw 0)) (I := fun _ => True) (P := fun k => ∀ x4 x5, GJ X mX0_sights (ad, A, B, sk, sw, E) (sumI (fun k => b2 (nwB (sw 0) p k)) (cnC (sw 0))) 25 [some (.ref (ad' 0)), some (.int (nI p)), some (.int (sumI (fun k => b2 (nwB (sw 0) p k)) k)), some (.int (nI k)), x4, x5] [] (ad', A', B', sk', sw', E')) ?_ ?_ 0 (Nat.zero_le _) trivial none none
      · intro _ x4 x5
        refine bX0_sights_25.go rfl (by repeat' first | exact trivial | rfl | assumption | omega | apply And.intro) ?_
        rw [h6]
        refine j_icmp_ge (tgt := 117) dX0_sights_30 (by decide) (fun _ => ?_) (fun q => absurd (nI_le (Nat.le_refl _) (by omega)) q)
        refine bX0_sights_117.go rfl trivial ?_
        exact g_ret dX0_sights_118 rfl rfl hk
      · intro k hkk _ ih x4 x5
        have fin : ∀ z x5, z = nwB (sw 0) p k → GJ X mX0_sights (ad, A, B, sk, sw, E) (sumI (fun k => b2 (nwB (sw 0) p k)) (cnC (sw 0))) 98 [some (.ref (ad' 0)), some (.int (nI p)), some (.int (sumI (fun k => b2 (nwB (sw 0) p k)) k)), some (.int (nI k)), some (.int (b2 z)), x5] [] (ad', A', B', sk', sw', E') := by
          intro z x5 hz
          refine bX0_sights_98.go rfl trivial ?_
          refine j_if_eq (tgt := 108) dX0_sights_101 (by decide) (fun y => ?_) (fun y => ?_)
          · rw [b2_0] at y
            refine bX0_sights_108.go rfl trivial ?_
            refine bX0_sights_109.go rfl trivial ?_
            rw [nI_1]
            have := ih trivial (some (.int (b2 z))) x5
            simp only [sumI, ← hz, y] at this
            rw [y]
            exact this
          · rw [b2_n0] at y
            refine bX0_sights_104.go rfl trivial ?_
            refine bX0_sights_109.go rfl trivial ?_
            rw [nI_1]
            have := ih trivial (some (.int (b2 z))) x5
            simp only [sumI, ← hz, y] at this
            rw [y]
            exact this
        refine bX0_sights_25.go rfl (by repeat' first | exact trivial | rfl | assumption | omega | apply And.intro) ?_
        rw [h6]
        refine j_icmp_ge (tgt := 117) dX0_sights_30 (by decide) (fun q => ?_) (fun _ => ?_)
        · rw [nI_leI (by omega) (by omega)] at q; omega
        refine bX0_sights_33.go rfl trivial ?_
        refine loop_down (N := k) (I := fun b => ∀ d, d < b → alC (sw 0) p d k (v 6) = false) (P := fun b => GJ X mX0_sights (ad, A, B, sk, sw, E) (sumI (fun k => b2 (nwB (sw 0) p k)) (cnC (sw 0))) 39 [some (.ref (ad' 0)), some (.int (nI p)), some (.int (sumI (fun k => b2 (nwB (sw 0) p k)) k)), some (.int (nI k)), some (.int (nI 1)), some (.int (nI b))] [] (ad', A', B', sk', sw', E')) ?_ ?_ 0 (Nat.zero_le _) (fun d hd => absurd hd (Nat.not_lt_zero _))
        · intro hI
          refine bX0_sights_39.go rfl trivial ?_
          refine j_icmp_ge (tgt := 98) dX0_sights_42 (by decide) (fun _ => ?_) (fun q => absurd (nI_le (Nat.le_refl _) (by omega)) q)
          refine fin true _ ?_
          unfold nwB
          rw [spE, anyN_false.mpr hI]; rfl
        · intro b hb hI ihb
          refine bX0_sights_39.go rfl trivial ?_
          refine j_icmp_ge (tgt := 98) dX0_sights_42 (by decide) (fun q => ?_) (fun _ => ?_)
          · rw [nI_leI (by omega) (by omega)] at q; omega
          refine bX0_sights_45.go rfl trivial ?_
          refine j_if_eq (tgt := 98) dX0_sights_47 (by decide) (fun q => absurd q (by decide)) (fun _ => ?_)
          refine bX0_sights_50.go rfl (by repeat' first | exact trivial | rfl | assumption | omega | apply And.intro) ?_
          refine js_lget (i := b) hLI' (by omega) dX0_sights_57 (lw_F q1117 q812 q814 q136 q816) (by decide) rfl ?_
          refine js_scast (i := b) (by omega) q1359 dX0_sights_62 ?_
          refine bX0_sights_65.go rfl (by repeat' first | exact trivial | rfl | assumption | omega | apply And.intro) ?_
          refine js_lget (i := k) hLI' (by omega) dX0_sights_70 (lw_F q1117 q812 q814 q136 q816) (by decide) rfl ?_
          refine js_scast (i := k) (by omega) q1359 dX0_sights_75 ?_
          refine bX0_sights_78.go rfl trivial ?_
          refine cc0 (M' := mX0_isAlike) (nA := 3) (As := [.ref (ad' (100 + 3 * b)), .ref (ad' (100 + 3 * k)), .int (nI p)]) (ok_x0Alike (i := b) (j := k) (by omega) (by omega) (by omega) h40 e6) rec0 rfl ((lw_V q1440 q1442 qs52 q131 q1443)) dX0_sights_79 rfl (fun r x' q => ?_) hy_X0_isAlike
          obtain ⟨rfl, rfl⟩ := q
          rw [alA_eq hw hCo (by omega) (by omega) (by omega) (Nat.le_refl _)]
          refine j_if_ne (tgt := 89) dX0_sights_82 (by decide) (fun z => ?_) (fun z => ?_)
          · rw [b2_n0] at z
            refine bX0_sights_89.go rfl trivial ?_
            refine bX0_sights_90.go rfl trivial ?_
            rw [nI_1]
            have e : false = nwB (sw 0) p k := by
              unfold nwB
              rw [spE, anyN_true.mpr ⟨b, hb, z⟩]; rfl
            refine bX0_sights_39.go rfl trivial ?_
            refine j_icmp_ge (tgt := 98) dX0_sights_42 (by decide) (fun _ => fin false _ e) (fun _ => ?_)
            refine bX0_sights_45.go rfl trivial ?_
            refine j_if_eq (tgt := 98) dX0_sights_47 (by decide) (fun _ => fin false _ e) (fun q => absurd (by decide) q)
          · rw [b2_0] at z
            refine bX0_sights_85.go rfl trivial ?_
            refine bX0_sights_90.go rfl trivial ?_
            rw [nI_1]
            refine ihb (fun d hd => ?_)
            by_cases e : d = b
            · subst e; exact z
            · exact hI d (by omega)
    · rw [b2_0, decide_eq_false_iff_not] at h17
      refine bX0_sights_18.go rfl trivial ?_
      exact g_ret dX0_sights_20 rfl (by rw [if_neg h17]) hk
  refine C_start (L := [some (.ref (ad 0)), some (.int p), none, none, none, none]) 4 rfl ?_
  refine bX0_sights_0.go rfl (by first | exact ⟨⟨rfl, v, hw⟩, trivial⟩ | exact ⟨rfl, trivial⟩ | exact ⟨trivial, trivial⟩) ?_
  refine j_if_ne (tgt := 11) dX0_sights_5 (by decide) (fun h5 => ?_) (fun h5 => ?_)
  · exact main (by clear main; simp only [clL_i, tmL_i, hrL_i, fIn_L, b2_0, b2_n0] at *; simp_all)
  · refine bX0_sights_8.go rfl trivial ?_
    refine c_iret dX0_sights_10 rfl ?_
    exact ⟨ans (by clear main; simp only [clL_i, tmL_i, hrL_i, fIn_L, b2_0, b2_n0] at *; simp_all [q_sights] <;> (intros; simp_all)), KpX.rf.kp⟩
end Sig
