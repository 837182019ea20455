set_option maxRecDepth 100000
/-! ===== UnseenClock: lie, shown ===== -/
section Lie
variable {X : Cx} {mi : Nat} {ad : Nat → Nat} {A : Nat → Nat → Int32} {B : Nat → Nat → Int64} {sk : Nat → Nat → Nat} {sw : Nat → Nat → Int32} {E : Nat → Nat} {v : Nat → Nat}
theorem bX0_lie_0 : Blk CP mX0_lie 0 5 [oAL 0, oIL 1, cF_I F_isPersonC] := blk_c (s_aload_n dX0_lie_0 rfl) <| blk_c (s_iload_n dX0_lie_1 rfl) <| blk_c (c_F_I ok_isPersonC (ci := 0) rfl (lw_V q1127 q1129 qs28 q131 q1130) hy_X0_isPerson rfl (by decide) dX0_lie_2) <| blk_nil
theorem bX0_lie_8 : Blk CP mX0_lie 8 16 [oAL 0, oIL 2, oIL 3, oIL 4, cF_III F_isAskedC] := blk_c (s_aload_n dX0_lie_8 rfl) <| blk_c (s_iload_n dX0_lie_9 rfl) <| blk_c (s_iload_n dX0_lie_10 rfl) <| blk_c (s_iload dX0_lie_11) <| blk_c (c_F_III ok_isAskedC (ci := 0) rfl (lw_V q1386 q1388 qs47 q131 q1389) hy_X0_isAsked rfl (by decide) dX0_lie_13) <| blk_nil
theorem bX0_lie_19 : Blk CP mX0_lie 19 21 [oC (-2)] := blk_c (s_bipush dX0_lie_19 (by decide +kernel)) <| blk_nil
theorem bX0_lie_22 : Blk CP mX0_lie 22 23 [oAL 0] := blk_c (s_aload_n dX0_lie_22 rfl) <| blk_nil
theorem bX0_lie_29 : Blk CP mX0_lie 29 52 [oC (-3), .inl (fun s => some s)] := blk_c (s_bipush dX0_lie_29 (by decide +kernel)) <| blk_c (s_goto (tgt := 52) dX0_lie_31 (by decide)) <| blk_nil
theorem bX0_lie_34 : Blk CP mX0_lie 34 40 [oAL 0, oIL 1, oIL 2, oIL 3, oIL 4] := blk_c (s_aload_n dX0_lie_34 rfl) <| blk_c (s_iload_n dX0_lie_35 rfl) <| blk_c (s_iload_n dX0_lie_36 rfl) <| blk_c (s_iload_n dX0_lie_37 rfl) <| blk_c (s_iload dX0_lie_38) <| blk_nil
theorem bX0_lie_43 : Blk CP mX0_lie 43 44 [oC (-1)] := blk_c (s_iconst dX0_lie_43 (by decide +kernel)) <| blk_nil
theorem bX0_lie_47 : Blk CP mX0_lie 47 52 [oC (nI 1), .inl (fun s => some s)] := blk_c (s_iconst dX0_lie_47 (by decide +kernel)) <| blk_c (s_goto (tgt := 52) dX0_lie_48 (by decide)) <| blk_nil
theorem bX0_lie_51 : Blk CP mX0_lie 51 52 [oC (nI 0)] := blk_c (s_iconst dX0_lie_51 (by decide +kernel)) <| blk_nil
theorem pb_lie (hM : WkM X mi) (hS : SW v A sw) (hLI : LI E) {p c m h : Int32} : RCc X mX0_lie 1000 70000 [.ref (ad 0), .int p, .int c, .int m, .int h] (ad, A, B, sk, sw, E) (PubQ (ad, A, B, sk, sw, E) (q_lie (sw 0) p c m h)) := by
  obtain ⟨-, hw, -, -⟩ := id hS
  have h8 := hw.np8
  have h4 := hw.nc4
  have h40 := hw.sp40
  have main : akB (sw 0) p c m h = true → PJ X mX0_lie (ad, A, B, sk, sw, E) (q_lie (sw 0) p c m h) 22 [some (.ref (ad 0)), some (.int p), some (.int c), some (.int m), some (.int h)] [] (ad, A, B, sk, sw, E) := by
    intro hg
    rw [q_lie, if_pos hg]
    simp only [akB, Bool.and_eq_true] at hg
    obtain ⟨p, hp, rfl⟩ := hw.pOf hg.1
    obtain ⟨c, hc, rfl⟩ := hw.cOf hg.2.1
    obtain ⟨m, hm, rfl⟩ := hw.tOf hg.2.2.1
    rw [nI_clamp (by omega), nI_clamp (by omega), nI_clamp (by omega)]
    refine bX0_lie_22.go rfl trivial ?_
    refine gq hM hS hLI ((lw_V q1355 q1357 qs46 q131 q1358)) dX0_lie_23 (by decide) rfl (fun ad' A' B' sk' sw' E' q0 hk hS' hC => ?_)
    refine j_if_ne (tgt := 34) dX0_lie_26 (by decide) (fun h17 => ?_) (fun h17 => ?_)
    · rw [b2_n0, decide_eq_true_eq] at h17
      obtain ⟨h6, hE, hLI', hCo⟩ := hC h17
      rw [if_pos h17, ← q0]
      refine bX0_lie_34.go rfl trivial ?_
      refine cc0 (M' := mX0_showsWrong) (nA := 4) (As := [.int (nI p), .int (nI c), .int (nI m), .int h]) (ok_showsWrongC hS'.1 hw h6 h17 hE hLI' hCo hp hc hm) rec0 rfl ((lw_V q1489 q1491 qs56 q131 q1492)) dX0_lie_40 rfl (fun r x' q => ?_) hy_X0_showsWrong
      obtain ⟨rfl, rfl⟩ := q
      refine bX0_lie_43.go rfl trivial ?_
      refine j_icmp_ne (tgt := 51) dX0_lie_44 (by decide) (fun z => ?_) (fun z => ?_)
      · refine bX0_lie_51.go rfl trivial ?_
        exact g_ret dX0_lie_52 rfl (by rw [decide_eq_false z]; rfl) hk
      · refine bX0_lie_47.go rfl trivial ?_
        exact g_ret dX0_lie_52 rfl (by rw [decide_eq_true z]; rfl) hk
    · rw [b2_0, decide_eq_false_iff_not] at h17
      refine bX0_lie_29.go rfl trivial ?_
      exact g_ret dX0_lie_52 rfl (by rw [if_neg h17]) hk
  refine C_start (L := [some (.ref (ad 0)), some (.int p), some (.int c), some (.int m), some (.int h)]) 0 rfl ?_
  refine bX0_lie_0.go rfl (by first | exact ⟨⟨rfl, v, hw⟩, trivial⟩ | exact ⟨rfl, trivial⟩ | exact ⟨trivial, trivial⟩) ?_
  refine j_if_eq (tgt := 19) dX0_lie_5 (by decide) (fun h5 => ?_) (fun h5 => ?_)
  · refine bX0_lie_19.go rfl trivial ?_
    refine c_iret dX0_lie_21 rfl ?_
    exact ⟨ans (by clear main; simp only [clL_i, tmL_i, hrL_i, fIn_L, b2_0, b2_n0] at *; simp_all [q_lie, akB] <;> (intros; simp_all)), KpX.rf.kp⟩
  · refine bX0_lie_8.go rfl (by first | exact ⟨⟨rfl, v, hw⟩, trivial⟩ | exact ⟨rfl, trivial⟩ | exact ⟨trivial, trivial⟩) ?_
    refine j_if_ne (tgt := 22) dX0_lie_16 (by decide) (fun h16 => ?_) (fun h16 => ?_)
    · exact main (by clear main; simp only [clL_i, tmL_i, hrL_i, fIn_L, b2_0, b2_n0] at *; simp_all [akB])
    · refine bX0_lie_19.go rfl trivial ?_
      refine c_iret dX0_lie_21 rfl ?_
      exact ⟨ans (by clear main; simp only [clL_i, tmL_i, hrL_i, fIn_L, b2_0, b2_n0] at *; simp_all [q_lie, akB] <;> (intros; simp_all)), KpX.rf.kp⟩
theorem bX0_shown_0 : Blk CP mX0_shown 0 5 [oAL 0, oIL 1, cF_I F_isPersonC] := blk_c (s_aload_n dX0_shown_0 rfl) <| blk_c (s_iload_n dX0_shown_1 rfl) <| blk_c (c_F_I ok_isPersonC (ci := 0) rfl (lw_V q1127 q1129 qs28 q131 q1130) hy_X0_isPerson rfl (by decide) dX0_shown_2) <| blk_nil
theorem bX0_shown_8 : Blk CP mX0_shown 8 16 [oAL 0, oIL 2, oIL 3, oIL 4, cF_III F_isAskedC] := blk_c (s_aload_n dX0_shown_8 rfl) <| blk_c (s_iload_n dX0_shown_9 rfl) <| blk_c (s_iload_n dX0_shown_10 rfl) <| blk_c (s_iload dX0_shown_11) <| blk_c (c_F_III ok_isAskedC (ci := 0) rfl (lw_V q1386 q1388 qs47 q131 q1389) hy_X0_isAsked rfl (by decide) dX0_shown_13) <| blk_nil
theorem bX0_shown_19 : Blk CP mX0_shown 19 21 [oC (-2)] := blk_c (s_bipush dX0_shown_19 (by decide +kernel)) <| blk_nil
theorem bX0_shown_22 : Blk CP mX0_shown 22 23 [oAL 0] := blk_c (s_aload_n dX0_shown_22 rfl) <| blk_nil
theorem bX0_shown_29 : Blk CP mX0_shown 29 43 [oC (-3), .inl (fun s => some s)] := blk_c (s_bipush dX0_shown_29 (by decide +kernel)) <| blk_c (s_goto (tgt := 43) dX0_shown_31 (by decide)) <| blk_nil
theorem bX0_shown_34 : Blk CP mX0_shown 34 40 [oAL 0, oIL 1, oIL 2, oIL 3, oIL 4] := blk_c (s_aload_n dX0_shown_34 rfl) <| blk_c (s_iload_n dX0_shown_35 rfl) <| blk_c (s_iload_n dX0_shown_36 rfl) <| blk_c (s_iload_n dX0_shown_37 rfl) <| blk_c (s_iload dX0_shown_38) <| blk_nil
theorem pb_shown (hM : WkM X mi) (hS : SW v A sw) (hLI : LI E) {p c m h : Int32} : RCc X mX0_shown 1000 70000 [.ref (ad 0), .int p, .int c, .int m, .int h] (ad, A, B, sk, sw, E) (PubQ (ad, A, B, sk, sw, E) (q_shown (sw 0) p c m h)) := by
  obtain ⟨-, hw, -, -⟩ := id hS
  have h8 := hw.np8
  have h4 := hw.nc4
  have h40 := hw.sp40
  have main : akB (sw 0) p c m h = true → PJ X mX0_shown (ad, A, B, sk, sw, E) (q_shown (sw 0) p c m h) 22 [some (.ref (ad 0)), some (.int p), some (.int c), some (.int m), some (.int h)] [] (ad, A, B, sk, sw, E) := by
    intro hg
    rw [q_shown, if_pos hg]
    simp only [akB, Bool.and_eq_true] at hg
    obtain ⟨p, hp, rfl⟩ := hw.pOf hg.1
    obtain ⟨c, hc, rfl⟩ := hw.cOf hg.2.1
    obtain ⟨m, hm, rfl⟩ := hw.tOf hg.2.2.1
    rw [nI_clamp (by omega), nI_clamp (by omega), nI_clamp (by omega)]
    refine bX0_shown_22.go rfl trivial ?_
    refine gq hM hS hLI ((lw_V q1355 q1357 qs46 q131 q1358)) dX0_shown_23 (by decide) rfl (fun ad' A' B' sk' sw' E' q0 hk hS' hC => ?_)
    refine j_if_ne (tgt := 34) dX0_shown_26 (by decide) (fun h17 => ?_) (fun h17 => ?_)
    · rw [b2_n0, decide_eq_true_eq] at h17
      obtain ⟨h6, hE, hLI', hCo⟩ := hC h17
      rw [if_pos h17, ← q0]
      refine bX0_shown_34.go rfl trivial ?_
      refine cc0 (M' := mX0_showsWrong) (nA := 4) (As := [.int (nI p), .int (nI c), .int (nI m), .int h]) (ok_showsWrongC hS'.1 hw h6 h17 hE hLI' hCo hp hc hm) rec0 rfl ((lw_V q1489 q1491 qs56 q131 q1492)) dX0_shown_40 rfl (fun r x' q => ?_) hy_X0_showsWrong
      obtain ⟨rfl, rfl⟩ := q
      exact g_ret dX0_shown_43 rfl rfl hk
    · rw [b2_0, decide_eq_false_iff_not] at h17
      refine bX0_shown_29.go rfl trivial ?_
      exact g_ret dX0_shown_43 rfl (by rw [if_neg h17]) hk
  refine C_start (L := [some (.ref (ad 0)), some (.int p), some (.int c), some (.int m), some (.int h)]) 0 rfl ?_
  refine bX0_shown_0.go rfl (by first | exact ⟨⟨rfl, v, hw⟩, trivial⟩ | exact ⟨rfl, trivial⟩ | exact ⟨trivial, trivial⟩) ?_
  refine j_if_eq (tgt := 19) dX0_shown_5 (by decide) (fun h5 => ?_) (fun h5 => ?_)
  · refine bX0_shown_19.go rfl trivial ?_
    refine c_iret dX0_shown_21 rfl ?_
    exact ⟨ans (by clear main; simp only [clL_i, tmL_i, hrL_i, fIn_L, b2_0, b2_n0] at *; simp_all [q_shown, akB] <;> (intros; simp_all)), KpX.rf.kp⟩
  · refine bX0_shown_8.go rfl (by first | exact ⟨⟨rfl, v, hw⟩, trivial⟩ | exact ⟨rfl, trivial⟩ | exact ⟨trivial, trivial⟩) ?_
    refine j_if_ne (tgt := 22) dX0_shown_16 (by decide) (fun h16 => ?_) (fun h16 => ?_)
    · exact main (by clear main; simp only [clL_i, tmL_i, hrL_i, fIn_L, b2_0, b2_n0] at *; simp_all [akB])
    · refine bX0_shown_19.go rfl trivial ?_
      refine c_iret dX0_shown_21 rfl ?_
      exact ⟨ans (by clear main; simp only [clL_i, tmL_i, hrL_i, fIn_L, b2_0, b2_n0] at *; simp_all [q_shown, akB] <;> (intros; simp_all)), KpX.rf.kp⟩
end Lie
