set_option maxRecDepth 100000
/-! ===== UnseenClock: showsWrong, lie, shown ===== -/
theorem b2_or (a b : Bool) : (b2 a ||| b2 b) = b2 (a || b) := by cases a <;> cases b <;> decide
section Wrg
variable {X : Cx} {mi p c m : Nat} {h : Int32} {ad ad' : Nat → Nat} {A A' : Nat → Nat → Int32} {B B' : Nat → Nat → Int64} {sk sk' : Nat → Nat → Nat} {sw sw' : Nat → Nat → Int32} {E E' : Nat → Nat} {v : Nat → Nat} {w : Nat → Int32}
theorem bX0_showsWrong_0 : Blk CP mX0_showsWrong 0 3 [oC (nI 0), oIS 5] := blk_c (s_iconst dX0_showsWrong_0 (by decide +kernel)) <| blk_c (s_istore dX0_showsWrong_1 (by decide)) <| blk_nil
theorem bX0_showsWrong_3 : Blk CP mX0_showsWrong 3 9 [oIL 5, oAL 0, cF_V F_peopleC] := blk_c (s_iload dX0_showsWrong_3) <| blk_c (s_aload_n dX0_showsWrong_5 rfl) <| blk_c (c_F_V ok_peopleC (ci := 0) rfl (lw_V q1131 q1133 qs29 q131 q1134) hy_X0_people rfl (by decide) dX0_showsWrong_6) <| blk_nil
theorem bX0_showsWrong_12 : Blk CP mX0_showsWrong 12 15 [oIL 5, oIL 1] := blk_c (s_iload dX0_showsWrong_12) <| blk_c (s_iload_n dX0_showsWrong_14 rfl) <| blk_nil
theorem bX0_showsWrong_18 : Blk CP mX0_showsWrong 18 111 [.inl (fun s => some s)] := blk_c (s_goto (tgt := 111) dX0_showsWrong_18 (by decide)) <| blk_nil
theorem bX0_showsWrong_21 : Blk CP mX0_showsWrong 21 27 [oC (nI 0), oIS 6, oC (nI 0), oIS 7] := blk_c (s_iconst dX0_showsWrong_21 (by decide +kernel)) <| blk_c (s_istore dX0_showsWrong_22 (by decide)) <| blk_c (s_iconst dX0_showsWrong_24 (by decide +kernel)) <| blk_c (s_istore dX0_showsWrong_25 (by decide)) <| blk_nil
theorem bX0_showsWrong_27 : Blk CP mX0_showsWrong 27 33 [oIL 7, oAL 0, cI 0 6] := blk_c (s_iload dX0_showsWrong_27) <| blk_c (s_aload_n dX0_showsWrong_29 rfl) <| blk_c (cgX0_6 (Or.inl q562) dX0_showsWrong_30) <| blk_nil
theorem bX0_showsWrong_36 : Blk CP mX0_showsWrong 36 40 [oIL 6, oAL 0, oAL 0] := blk_c (s_iload dX0_showsWrong_36) <| blk_c (s_aload_n dX0_showsWrong_38 rfl) <| blk_c (s_aload_n dX0_showsWrong_39 rfl) <| blk_nil
theorem bX0_showsWrong_43 : Blk CP mX0_showsWrong 43 49 [oAL 0, cR 0 5 4, oIL 7] := blk_c (s_aload_n dX0_showsWrong_43 rfl) <| blk_c (cgX0_5 (Or.inl q561) dX0_showsWrong_44) <| blk_c (s_iload dX0_showsWrong_47) <| blk_nil
theorem bX0_showsWrong_57 : Blk CP mX0_showsWrong 57 59 [oIL 5] := blk_c (s_iload dX0_showsWrong_57) <| blk_nil
theorem bX0_showsWrong_65 : Blk CP mX0_showsWrong 65 71 [oAL 0, cR 0 5 4, oIL 7] := blk_c (s_aload_n dX0_showsWrong_65 rfl) <| blk_c (cgX0_5 (Or.inl q561) dX0_showsWrong_66) <| blk_c (s_iload dX0_showsWrong_69) <| blk_nil
theorem bX0_showsWrong_79 : Blk CP mX0_showsWrong 79 81 [oIL 2, oIL 3] := blk_c (s_iload_n dX0_showsWrong_79 rfl) <| blk_c (s_iload_n dX0_showsWrong_80 rfl) <| blk_nil
theorem bX0_showsWrong_84 : Blk CP mX0_showsWrong 84 86 [oIL 4] := blk_c (s_iload dX0_showsWrong_84) <| blk_nil
theorem bX0_showsWrong_89 : Blk CP mX0_showsWrong 89 94 [oC (nI 1), .inl (fun s => some s)] := blk_c (s_iconst dX0_showsWrong_89 (by decide +kernel)) <| blk_c (s_goto (tgt := 94) dX0_showsWrong_90 (by decide)) <| blk_nil
theorem bX0_showsWrong_93 : Blk CP mX0_showsWrong 93 94 [oC (nI 0)] := blk_c (s_iconst dX0_showsWrong_93 (by decide +kernel)) <| blk_nil
theorem bX0_showsWrong_94 : Blk CP mX0_showsWrong 94 27 [oOr, oIS 6, oInc 7 1, .inl (fun s => some s)] := blk_c (s_ior dX0_showsWrong_94) <| blk_c (s_istore dX0_showsWrong_95 (by decide)) <| blk_c (s_iinc dX0_showsWrong_97 (by decide +kernel) (by decide)) <| blk_c (s_goto (tgt := 27) dX0_showsWrong_100 (by decide)) <| blk_nil
theorem bX0_showsWrong_103 : Blk CP mX0_showsWrong 103 105 [oIL 6] := blk_c (s_iload dX0_showsWrong_103) <| blk_nil
theorem bX0_showsWrong_108 : Blk CP mX0_showsWrong 108 110 [oIL 5] := blk_c (s_iload dX0_showsWrong_108) <| blk_nil
theorem bX0_showsWrong_111 : Blk CP mX0_showsWrong 111 3 [oInc 5 1, .inl (fun s => some s)] := blk_c (s_iinc dX0_showsWrong_111 (by decide +kernel) (by decide)) <| blk_c (s_goto (tgt := 3) dX0_showsWrong_114 (by decide)) <| blk_nil
theorem bX0_showsWrong_117 : Blk CP mX0_showsWrong 117 118 [oC (-1)] := blk_c (s_iconst dX0_showsWrong_117 (by decide +kernel)) <| blk_nil
theorem ok_showsWrongC (e0 : sw' 0 = w) (hw : WOk w v) (h6 : A' 0 6 = nI (cnC w)) (hcn : cnC w ≤ 128) (hE : cnC w ≤ E' 0) (hLI' : LI E') (hCo : CoC A' v w (cnC w)) (hp : p < v 2) (hc : c < v 1) (hm : m ≤ v 6) : RCc X mX0_showsWrong 0 0 [.ref (ad' 0), .int (nI p), .int (nI c), .int (nI m), .int h] (ad', A', B', sk', sw', E') (fun r x' => r = some (.int (wrC w p c m h)) ∧ x' = (ad', A', B', sk', sw', E')) := by
  have h8 := hw.np8
  have h4 := hw.nc4
  have h40 := hw.sp40
  have npE := hw.npE
  have spE := hw.span
  have hcp := cn_pos w
  have e6 : sw' 0 6 = nI (v 6) := by rw [e0]; exact hw.1 6 (by decide)
  have hW : wrC w p c m h = firstF (wrgB (fun q k => alC w q 0 k (v 6)) (fun k => shC w k c m) (cnC w) p h) (v 2) 0 := by unfold wrC; rw [npE, spE]
  refine C_start (L := [some (.ref (ad' 0)), some (.int (nI p)), some (.int (nI c)), some (.int (nI m)), some (.int h), none, none, none]) 3 rfl ?_
  refine bX0_showsWrong_0.go rfl trivial ?_
  generalize hQ : wrC w p c m h = Q
  rw [hQ] at hW
  refine loop_down (N := v 2) (I := fun q => Q = firstF (wrgB (fun q k => alC w q 0 k (v 6)) (fun k => shC w k c m) (cnC w) p h) (v 2 - q) q) (P := fun q => ∀ x6 x7, JS CP X mX0_showsWrong (rmOf mX0_showsWrong.lv 0 0) (ZC X 0 0 (fun r x' => r = some (.int Q) ∧ x' = (ad', A', B', sk', sw', E'))) 0 0 3 [some (.ref (ad' 0)), some (.int (nI p)), some (.int (nI c)), some (.int (nI m)), some (.int h), some (.int (nI q)), x6, x7] [] (ad', A', B', sk', sw', E')) ?_ ?_ 0 (Nat.zero_le _) hW none none
  · intro hI x6 x7
    refine bX0_showsWrong_3.go rfl ⟨rfl, trivial⟩ ?_
    rw [e0, npE]
    refine j_icmp_ge (tgt := 117) dX0_showsWrong_9 (by decide) (fun _ => ?_) (fun q => absurd (nI_le (Nat.le_refl _) (by omega)) q)
    refine bX0_showsWrong_117.go rfl trivial ?_
    exact c_iret dX0_showsWrong_118 rfl ⟨by rw [hI, Nat.sub_self]; rfl, rfl⟩
  · intro q hq hI ih x6 x7
    rw [firstF_s hq] at hI
    have nx : (wrgB (fun q k => alC w q 0 k (v 6)) (fun k => shC w k c m) (cnC w) p h) q = false → ∀ x6 x7, JS CP X mX0_showsWrong (rmOf mX0_showsWrong.lv 0 0) (ZC X 0 0 (fun r x' => r = some (.int Q) ∧ x' = (ad', A', B', sk', sw', E'))) 0 0 111 [some (.ref (ad' 0)), some (.int (nI p)), some (.int (nI c)), some (.int (nI m)), some (.int h), some (.int (nI q)), x6, x7] [] (ad', A', B', sk', sw', E') := by
      intro hf x6 x7
      refine bX0_showsWrong_111.go rfl trivial ?_
      rw [nI_1]
      exact ih (by rw [hI, if_neg (by rw [hf]; decide)]) x6 x7
    refine bX0_showsWrong_3.go rfl ⟨rfl, trivial⟩ ?_
    rw [e0, npE]
    refine j_icmp_ge (tgt := 117) dX0_showsWrong_9 (by decide) (fun z => ?_) (fun _ => ?_)
    · rw [nI_leI (by omega) (by omega)] at z; omega
    refine bX0_showsWrong_12.go rfl trivial ?_
    refine j_icmp_ne (tgt := 21) dX0_showsWrong_15 (by decide) (fun z => ?_) (fun z => ?_)
    · have zne : ¬ q = p := fun e => z (by rw [e])
      refine bX0_showsWrong_21.go rfl trivial ?_
      refine loop_down (N := cnC w) (I := fun _ => True) (P := fun k => JS CP X mX0_showsWrong (rmOf mX0_showsWrong.lv 0 0) (ZC X 0 0 (fun r x' => r = some (.int Q) ∧ x' = (ad', A', B', sk', sw', E'))) 0 0 27 [some (.ref (ad' 0)), some (.int (nI p)), some (.int (nI c)), some (.int (nI m)), some (.int h), some (.int (nI q)), some (.int (b2 (anyN (fun i => decide (shC w i c m = h) && alC w q 0 i (v 6)) k))), some (.int (nI k))] [] (ad', A', B', sk', sw', E')) ?_ ?_ 0 (Nat.zero_le _) trivial
      · intro _
        refine bX0_showsWrong_27.go rfl (by repeat' first | exact trivial | rfl | assumption | omega | apply And.intro) ?_
        rw [h6]
        refine j_icmp_ge (tgt := 103) dX0_showsWrong_33 (by decide) (fun _ => ?_) (fun q => absurd (nI_le (Nat.le_refl _) (by omega)) q)
        refine bX0_showsWrong_103.go rfl trivial ?_
        refine j_if_ne (tgt := 111) dX0_showsWrong_105 (by decide) (fun y => ?_) (fun y => ?_)
        · rw [b2_n0] at y
          exact nx (by unfold wrgB; rw [y]; simp) _ _
        · rw [b2_0] at y
          refine bX0_showsWrong_108.go rfl trivial ?_
          exact c_iret dX0_showsWrong_110 rfl ⟨by rw [hI, if_pos (by unfold wrgB; rw [y, decide_eq_false zne]; rfl)], rfl⟩
      · intro k hkk _ ih2
        have j94 : ∀ z, z = (decide (shC w k c m = h) && alC w q 0 k (v 6)) → JS CP X mX0_showsWrong (rmOf mX0_showsWrong.lv 0 0) (ZC X 0 0 (fun r x' => r = some (.int Q) ∧ x' = (ad', A', B', sk', sw', E'))) 0 0 94 [some (.ref (ad' 0)), some (.int (nI p)), some (.int (nI c)), some (.int (nI m)), some (.int h), some (.int (nI q)), some (.int (b2 (anyN (fun i => decide (shC w i c m = h) && alC w q 0 i (v 6)) k))), some (.int (nI k))] [.int (b2 z), .int (b2 (anyN (fun i => decide (shC w i c m = h) && alC w q 0 i (v 6)) k))] (ad', A', B', sk', sw', E') := by
          intro z hz
          refine bX0_showsWrong_94.go rfl trivial ?_
          rw [b2_or, nI_1, hz]
          exact ih2 trivial
        refine bX0_showsWrong_27.go rfl (by repeat' first | exact trivial | rfl | assumption | omega | apply And.intro) ?_
        rw [h6]
        refine j_icmp_ge (tgt := 103) dX0_showsWrong_33 (by decide) (fun z => ?_) (fun _ => ?_)
        · rw [nI_leI (by omega) (by omega)] at z; omega
        refine bX0_showsWrong_36.go rfl trivial ?_
        refine cc0 (M' := mX0_plainSeen) (nA := 0) (As := []) (ok_plainSeen hLI' (by omega)) rec0 rfl ((lw_V q1436 q1438 qs51 q131 q1439)) dX0_showsWrong_40 rfl (fun r x' q => ?_) hy_X0_plainSeen
        obtain ⟨rfl, rfl⟩ := q
        refine bX0_showsWrong_43.go rfl (by repeat' first | exact trivial | rfl | assumption | omega | apply And.intro) ?_
        refine js_lget (i := k) hLI' (by omega) dX0_showsWrong_49 (lw_F q1117 q812 q814 q136 q816) (by decide) rfl ?_
        refine js_scast (i := k) (by omega) q1359 dX0_showsWrong_54 ?_
        refine bX0_showsWrong_57.go rfl trivial ?_
        refine cc0 (M' := mX0_isAlike) (nA := 3) (As := [.ref (ad' (100 + 3 * 0)), .ref (ad' (100 + 3 * k)), .int (nI q)]) (ok_x0Alike (i := 0) (j := k) (by omega) (by omega) (by omega) h40 e6) rec0 rfl ((lw_V q1440 q1442 qs52 q131 q1443)) dX0_showsWrong_59 rfl (fun r x' q => ?_) hy_X0_isAlike
        obtain ⟨rfl, rfl⟩ := q
        rw [alA_eq hw hCo (by omega) (by omega) (by omega) (Nat.le_refl _)]
        refine j_if_eq (tgt := 93) dX0_showsWrong_62 (by decide) (fun y => ?_) (fun y => ?_)
        · rw [b2_0] at y
          refine bX0_showsWrong_93.go rfl trivial ?_
          exact j94 false (by rw [y, Bool.and_false])
        · rw [b2_n0] at y
          refine bX0_showsWrong_65.go rfl (by repeat' first | exact trivial | rfl | assumption | omega | apply And.intro) ?_
          refine js_lget (i := k) hLI' (by omega) dX0_showsWrong_71 (lw_F q1117 q812 q814 q136 q816) (by decide) rfl ?_
          refine js_scast (i := k) (by omega) q1359 dX0_showsWrong_76 ?_
          refine bX0_showsWrong_79.go rfl trivial ?_
          refine cc0 (M' := mX16_shows) (nA := 2) (As := [.int (nI c), .int (nI m)]) (ok_snShows (i := k) (by omega) (by omega) (by omega)) (recS (by omega)) rfl ((lw_V q1390 q1391 q1392 q163 q1393)) dX0_showsWrong_81 rfl (fun r x' q => ?_) hy_X16_shows
          obtain ⟨rfl, rfl⟩ := q
          rw [(hCo k hkk).1 m hm c hc]
          refine bX0_showsWrong_84.go rfl trivial ?_
          refine j_icmp_ne (tgt := 93) dX0_showsWrong_86 (by decide) (fun u => ?_) (fun u => ?_)
          · refine bX0_showsWrong_93.go rfl trivial ?_
            exact j94 false (by rw [decide_eq_false u]; rfl)
          · refine bX0_showsWrong_89.go rfl trivial ?_
            exact j94 true (by rw [decide_eq_true u, y]; rfl)
    · have ze : q = p := (nI_eq (by omega) (by omega)).mp z
      refine bX0_showsWrong_18.go rfl trivial ?_
      exact nx (by unfold wrgB; rw [decide_eq_true ze]; rfl) _ _
end Wrg
