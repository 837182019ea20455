set_option maxRecDepth 100000
/-! ===== UnseenClock: isStep ===== -/
section Stp4
variable {X : Cx} {i j : Nat} {set : Int32} {ad' : Nat → Nat} {A' : Nat → Nat → Int32} {B' : Nat → Nat → Int64} {sk' : Nat → Nat → Nat} {sw' : Nat → Nat → Int32} {E' : Nat → Nat} {v : Nat → Nat} {w : Nat → Int32}
theorem bX0_isStep_0 : Blk CP mX0_isStep 0 3 [oC (nI 0), oIS 4] := blk_c (s_iconst dX0_isStep_0 (by decide +kernel)) <| blk_c (s_istore dX0_isStep_1 (by decide)) <| blk_nil
theorem bX0_isStep_3 : Blk CP mX0_isStep 3 9 [oIL 4, oAL 0, cF_V F_peopleC] := blk_c (s_iload dX0_isStep_3) <| blk_c (s_aload_n dX0_isStep_5 rfl) <| blk_c (c_F_V ok_peopleC (ci := 0) rfl (lw_V q1131 q1133 qs29 q131 q1134) hy_X0_people rfl (by decide) dX0_isStep_6) <| blk_nil
theorem bX0_isStep_12 : Blk CP mX0_isStep 12 18 [oIL 1, oIL 4, oS_II pT2 fOn] := blk_c (s_iload_n dX0_isStep_12 rfl) <| blk_c (s_iload dX0_isStep_13) <| blk_c (s_S_II ok_sX0_isOn (fun _ _ _ h => h.1.1) (Or.inl (lw_S q1139 q1140 q131 q1141)) hy_X0_isOn (by decide) dX0_isStep_15) <| blk_nil
theorem bX0_isStep_21 : Blk CP mX0_isStep 21 26 [oAL 0, oAL 2, oAL 3, oIL 4] := blk_c (s_aload_n dX0_isStep_21 rfl) <| blk_c (s_aload_n dX0_isStep_22 rfl) <| blk_c (s_aload_n dX0_isStep_23 rfl) <| blk_c (s_iload dX0_isStep_24) <| blk_nil
theorem bX0_isStep_32 : Blk CP mX0_isStep 32 33 [oC (nI 1)] := blk_c (s_iconst dX0_isStep_32 (by decide +kernel)) <| blk_nil
theorem bX0_isStep_34 : Blk CP mX0_isStep 34 3 [oInc 4 1, .inl (fun s => some s)] := blk_c (s_iinc dX0_isStep_34 (by decide +kernel) (by decide)) <| blk_c (s_goto (tgt := 3) dX0_isStep_37 (by decide)) <| blk_nil
theorem bX0_isStep_40 : Blk CP mX0_isStep 40 41 [oC (nI 0)] := blk_c (s_iconst dX0_isStep_40 (by decide +kernel)) <| blk_nil
theorem ok_isStep (e0 : sw' 0 = w) (hw : WOk w v) (hE : cnC w ≤ E' 0) (hCo : CoC A' v w (cnC w)) (hi : i < cnC w) (hj : j < cnC w) : RCc X mX0_isStep 0 0 [.ref (ad' 0), .int set, .ref (ad' (100 + 3 * i)), .ref (ad' (100 + 3 * j))] (ad', A', B', sk', sw', E') (fun r x' => r = some (.int (b2 (cbB w set i j))) ∧ x' = (ad', A', B', sk', sw', E')) := by
  have h8 := hw.np8
  have h40 := hw.sp40
  have npE := hw.npE
  have spE := hw.span
  have e6 : sw' 0 6 = nI (v 6) := by rw [e0]; exact hw.1 6 (by decide)
  have hW : cbB w set i j = anyN (fun p => bitI set p && alC w p i j (v 6)) (v 2) := by unfold cbB; rw [npE, spE]
  refine C_start (L := [some (.ref (ad' 0)), some (.int set), some (.ref (ad' (100 + 3 * i))), some (.ref (ad' (100 + 3 * j))), none]) 1 rfl ?_
  refine bX0_isStep_0.go rfl trivial ?_
  rw [hW]
  generalize hQ : anyN (fun p => bitI set p && alC w p i j (v 6)) (v 2) = Q
  refine loop_down (N := v 2) (I := fun q => ∀ p, p < q → (bitI set p && alC w p i j (v 6)) = false) (P := fun q => JS CP X mX0_isStep (rmOf mX0_isStep.lv 0 0) (ZC X 0 0 (fun r x' => r = some (.int (b2 Q)) ∧ x' = (ad', A', B', sk', sw', E'))) 0 0 3 [some (.ref (ad' 0)), some (.int set), some (.ref (ad' (100 + 3 * i))), some (.ref (ad' (100 + 3 * j))), some (.int (nI q))] [] (ad', A', B', sk', sw', E')) ?_ ?_ 0 (Nat.zero_le _) (fun d hd => absurd hd (Nat.not_lt_zero _))
  · intro hI
    refine bX0_isStep_3.go rfl ⟨rfl, trivial⟩ ?_
    rw [e0, npE]
    refine j_icmp_ge (tgt := 40) dX0_isStep_9 (by decide) (fun _ => ?_) (fun q => absurd (nI_le (Nat.le_refl _) (by omega)) q)
    refine bX0_isStep_40.go rfl trivial ?_
    exact c_zret dX0_isStep_41 rfl rfl ⟨by rw [← hQ, anyN_false.mpr hI]; rfl, rfl⟩
  · intro p hp hI ih
    have nx : (bitI set p && alC w p i j (v 6)) = false → JS CP X mX0_isStep (rmOf mX0_isStep.lv 0 0) (ZC X 0 0 (fun r x' => r = some (.int (b2 Q)) ∧ x' = (ad', A', B', sk', sw', E'))) 0 0 34 [some (.ref (ad' 0)), some (.int set), some (.ref (ad' (100 + 3 * i))), some (.ref (ad' (100 + 3 * j))), some (.int (nI p))] [] (ad', A', B', sk', sw', E') := by
      intro hf
      refine bX0_isStep_34.go rfl trivial ?_
      rw [nI_1]
      refine ih (fun d hd => ?_)
      by_cases e : d = p
      · subst e; exact hf
      · exact hI d (by omega)
    refine bX0_isStep_3.go rfl ⟨rfl, trivial⟩ ?_
    rw [e0, npE]
    refine j_icmp_ge (tgt := 40) dX0_isStep_9 (by decide) (fun z => ?_) (fun _ => ?_)
    · rw [nI_leI (by omega) (by omega)] at z; omega
    refine bX0_isStep_12.go rfl ⟨trivial, trivial⟩ ?_
    rw [show fOn set (nI p) = b2 (bitI set p) from rfl]
    refine j_if_eq (tgt := 34) dX0_isStep_18 (by decide) (fun z => nx (by rw [(b2_0 _).mp z]; rfl)) (fun z => ?_)
    rw [b2_n0] at z
    refine bX0_isStep_21.go rfl trivial ?_
    refine cc0 (M' := mX0_isAlike) (nA := 3) (As := [.ref (ad' (100 + 3 * i)), .ref (ad' (100 + 3 * j)), .int (nI p)]) (ok_x0Alike (i := i) (j := j) (by omega) (by omega) (by omega) h40 e6) rec0 rfl ((lw_V q1440 q1442 qs52 q131 q1443)) dX0_isStep_26 rfl (fun r x' q => ?_) hy_X0_isAlike
    obtain ⟨rfl, rfl⟩ := q
    rw [alA_eq hw hCo hi hj hp (Nat.le_refl _)]
    refine j_if_eq (tgt := 34) dX0_isStep_29 (by decide) (fun y => nx (by rw [(b2_0 _).mp y, Bool.and_false])) (fun y => ?_)
    rw [b2_n0] at y
    refine bX0_isStep_32.go rfl trivial ?_
    exact c_zret dX0_isStep_33 rfl rfl ⟨by rw [← hQ, anyN_true.mpr ⟨p, hp, by rw [z, y]; rfl⟩]; rfl, rfl⟩
end Stp4
