set_option maxRecDepth 100000
/-! ===== UnseenClock$Reader: is, takes ===== -/
section Isw
variable {X : Cx} {h0 : AH} {ra tp sq : Nat} {T g : Nat → Int32} {n i : Nat} {ts : TS} {aK aV : Nat → Nat}
theorem bX5_is_0 : Blk RP mX5_is 0 5 [oAL 0, rI 5, oC (nI 1)] := blk_c (s_aload_n dX5_is_0 rfl) <| blk_c (r_I (f := 5) (by decide) q635 dX5_is_1) <| blk_c (s_iconst dX5_is_4 (by decide +kernel)) <| blk_nil
theorem bX5_is_8 : Blk RP mX5_is 8 18 [oAL 0, rI 3, oAL 0, rI 4, oSub, oAL 1] := blk_c (s_aload_n dX5_is_8 rfl) <| blk_c (r_I (f := 3) (by decide) q633 dX5_is_9) <| blk_c (s_aload_n dX5_is_12 rfl) <| blk_c (r_I (f := 4) (by decide) q634 dX5_is_13) <| blk_c (s_isub dX5_is_16) <| blk_c (s_aload_n dX5_is_17 rfl) <| blk_nil
theorem bX5_is_24 : Blk RP mX5_is 24 25 [oC (nI 0)] := blk_c (s_iconst dX5_is_24 (by decide +kernel)) <| blk_nil
theorem bX5_is_26 : Blk RP mX5_is 26 28 [oC (nI 0), oIS 2] := blk_c (s_iconst dX5_is_26 (by decide +kernel)) <| blk_c (s_istore_n dX5_is_27 rfl (by decide)) <| blk_nil
theorem bX5_is_28 : Blk RP mX5_is 28 30 [oIL 2, oAL 1] := blk_c (s_iload_n dX5_is_28 rfl) <| blk_c (s_aload_n dX5_is_29 rfl) <| blk_nil
theorem bX5_is_36 : Blk RP mX5_is 36 49 [oAL 0, rTx, oAL 0, rI 4, oIL 2, oAdd, rB, oAL 1, oIL 2] := blk_c (s_aload_n dX5_is_36 rfl) <| blk_c (r_Tx q630 dX5_is_37) <| blk_c (s_aload_n dX5_is_40 rfl) <| blk_c (r_I (f := 4) (by decide) q634 dX5_is_41) <| blk_c (s_iload_n dX5_is_44 rfl) <| blk_c (s_iadd dX5_is_45) <| blk_c (r_B dX5_is_46) <| blk_c (s_aload_n dX5_is_47 rfl) <| blk_c (s_iload_n dX5_is_48 rfl) <| blk_nil
theorem bX5_is_55 : Blk RP mX5_is 55 56 [oC (nI 0)] := blk_c (s_iconst dX5_is_55 (by decide +kernel)) <| blk_nil
theorem bX5_is_57 : Blk RP mX5_is 57 28 [oInc 2 1, .inl (fun s => some s)] := blk_c (s_iinc dX5_is_57 (by decide +kernel) (by decide)) <| blk_c (s_goto (tgt := 28) dX5_is_60 (by decide)) <| blk_nil
theorem bX5_is_63 : Blk RP mX5_is 63 64 [oC (nI 1)] := blk_c (s_iconst dX5_is_63 (by decide +kernel)) <| blk_nil
theorem ok_isR (hX : StrOK X aK aV) (hi : i < 27) (hg : TokG g n ts) (h1 : ts.2.1 ≤ ts.1) (h2 : ts.1 ≤ n) (hn : n ≤ 2400) : RPC X mX5_is [.ref ra, .ref (aK i)] (h0, (ra, tp, sq), T, g) (fun r x' => r = some (.int (b2 (isE T i (.inr ts)))) ∧ x' = (h0, (ra, tp, sq), T, g)) := by
  obtain ⟨g1, g3, g4, g5, g6⟩ := hg
  have hl := wdL_lt i hi
  refine RP_start (L := [some (.ref ra), some (.ref (aK i)), none]) 1 rfl ?_
  have no : isE T i (.inr ts) = false → JS RP X mX5_is (rmOf mX5_is.lv 0 0) (ZRp X 0 0 (fun r x' => r = some (.int (b2 (isE T i (.inr ts)))) ∧ x' = (h0, (ra, tp, sq), T, g))) 0 0 24 [some (.ref ra), some (.ref (aK i)), none] [] (h0, (ra, tp, sq), T, g) := by
    intro hf
    refine bX5_is_24.go rfl trivial ?_
    exact rp_zret dX5_is_25 rfl rfl ⟨by rw [hf]; rfl, rfl⟩
  refine bX5_is_0.go rfl (by repeat' first | exact trivial | rfl | assumption | omega | apply And.intro) ?_
  rw [g5]
  refine j_icmp_ne (tgt := 24) dX5_is_5 (by decide) (fun h5 => ?_) (fun h5 => ?_)
  · exact no (by rw [isE, wd0, decide_eq_false h5]; rfl)
  refine bX5_is_8.go rfl (by repeat' first | exact trivial | rfl | assumption | omega | apply And.intro) ?_
  rw [g3, g4, pk_sub h1]
  refine js_pureVO (nA := 0) (As := []) (C := RJ4) (b := aK i) (ok_J4_length hX hi) (fun U hU => ((hX U hU).1 i hi).1) dX5_is_18 (lw_V q673 q674 q675 q141 q676) rfl ?_
  refine j_icmp_eq (tgt := 26) dX5_is_21 (by decide) (fun h21 => ?_) (fun h21 => ?_)
  rotate_left
  · exact no (by rw [isE, wd0, decide_eq_true h5, decide_eq_false (fun e => h21 (by rw [e]))]; rfl)
  have el : ts.1 - ts.2.1 = wdL i := (nI_eq (by omega) (by omega)).mp h21
  have w0 : wd0 i (.inr ts) = true := by rw [wd0, decide_eq_true h5, decide_eq_true el]; rfl
  refine bX5_is_26.go rfl trivial ?_
  refine loop_down (N := wdL i) (I := fun k => ∀ j, j < k → wdK T i (.inr ts) j = true) (P := fun k => JS RP X mX5_is (rmOf mX5_is.lv 0 0) (ZRp X 0 0 (fun r x' => r = some (.int (b2 (isE T i (.inr ts)))) ∧ x' = (h0, (ra, tp, sq), T, g))) 0 0 28 [some (.ref ra), some (.ref (aK i)), some (.int (nI k))] [] (h0, (ra, tp, sq), T, g)) ?_ ?_ 0 (Nat.zero_le _) (fun j hj => absurd hj (Nat.not_lt_zero _))
  · intro hI
    refine bX5_is_28.go rfl trivial ?_
    refine js_pureVO (nA := 0) (As := []) (C := RJ4) (b := aK i) (ok_J4_length hX hi) (fun U hU => ((hX U hU).1 i hi).1) dX5_is_30 (lw_V q673 q674 q675 q141 q676) rfl ?_
    refine j_icmp_ge (tgt := 63) dX5_is_33 (by decide) (fun _ => ?_) (fun z => absurd (nI_le (Nat.le_refl _) (by omega)) z)
    refine bX5_is_63.go rfl trivial ?_
    have yes : isE T i (.inr ts) = true := by rw [isE, w0, allN_true.mpr hI, Bool.and_true]
    exact rp_zret dX5_is_64 rfl rfl ⟨by rw [yes]; rfl, rfl⟩
  · intro k hk hI ih
    refine bX5_is_28.go rfl trivial ?_
    refine js_pureVO (nA := 0) (As := []) (C := RJ4) (b := aK i) (ok_J4_length hX hi) (fun U hU => ((hX U hU).1 i hi).1) dX5_is_30 (lw_V q673 q674 q675 q141 q676) rfl ?_
    refine j_icmp_ge (tgt := 63) dX5_is_33 (by decide) (fun z => ?_) (fun _ => ?_)
    · rw [nI_leI (by omega) (by omega)] at z; omega
    refine bX5_is_36.go rfl ⟨⟨rfl, trivial⟩, ⟨rfl, trivial⟩, ⟨rfl, by rw [g4, nI_add]; exact vp_in_nI (by omega) (by decide)⟩, trivial⟩ ?_
    rw [g4, nI_add, nI_clamp (by omega)]
    refine js_pureVO (nA := 1) (As := [.int (nI k)]) (C := RJ4) (b := aK i) (ok_J4_charAt hX hi (by omega)) (fun U hU => ((hX U hU).1 i hi).1) dX5_is_49 (lw_V q683 q684 q685 q141 q686) rfl ?_
    refine j_icmp_eq (tgt := 57) dX5_is_52 (by decide) (fun z => ?_) (fun z => ?_)
    · refine bX5_is_57.go rfl trivial ?_
      rw [nI_1]
      refine ih (fun j hj => ?_)
      by_cases e : j = k
      · subst e; exact decide_eq_true z
      · exact hI j (by omega)
    · refine bX5_is_55.go rfl trivial ?_
      have nay : isE T i (.inr ts) = false := by rw [isE, allN_false hk (show wdK T i (.inr ts) k = false from decide_eq_false z), Bool.and_false]
      exact rp_zret dX5_is_56 rfl rfl ⟨by rw [nay]; rfl, rfl⟩
theorem bX5_takes_0 : Blk RP mX5_takes 0 2 [oAL 0, oAL 1] := blk_c (s_aload_n dX5_takes_0 rfl) <| blk_c (s_aload_n dX5_takes_1 rfl) <| blk_nil
theorem bX5_takes_5 : Blk RP mX5_takes 5 7 [oIS 2, oIL 2] := blk_c (s_istore_n dX5_takes_5 rfl (by decide)) <| blk_c (s_iload_n dX5_takes_6 rfl) <| blk_nil
theorem bX5_takes_10 : Blk RP mX5_takes 10 11 [oAL 0] := blk_c (s_aload_n dX5_takes_10 rfl) <| blk_nil
theorem bX5_takes_14 : Blk RP mX5_takes 14 15 [oIL 2] := blk_c (s_iload_n dX5_takes_14 rfl) <| blk_nil
theorem ok_takesR (hX : StrOK X aK aV) (hT : byT T) (hi : i < 27) (hg : TokG g n ts) (h1 : ts.2.1 ≤ ts.1) (h2 : ts.1 ≤ n) (hn : n ≤ 2400) : RPC X mX5_takes [.ref ra, .ref (aK i)] (h0, (ra, tp, sq), T, g) (fun r x' => r = some (.int (b2 (isE T i (.inr ts)))) ∧ ∃ g', x' = (h0, (ra, tp, sq), T, g') ∧ TokG g' n (if isE T i (.inr ts) = true then advS T n ts.1 else ts)) := by
  refine RP_start (L := [some (.ref ra), some (.ref (aK i)), none]) 1 rfl ?_
  refine bX5_takes_0.go rfl trivial ?_
  refine rpc (M' := mX5_is) (nA := 1) (As := [.ref (aK i)]) (ok_isR hX hi hg h1 h2 hn) (lw_V q669 q671 qs10 q139 q672) dX5_takes_2 rfl hy_X5_is (fun r x' q => ?_)
  obtain ⟨rfl, rfl⟩ := q
  refine bX5_takes_5.go rfl trivial ?_
  refine j_if_eq (tgt := 14) dX5_takes_7 (by decide) (fun h7 => ?_) (fun h7 => ?_)
  · rw [b2_0] at h7
    refine bX5_takes_14.go rfl trivial ?_
    exact rp_zret dX5_takes_15 rfl (b2_z _) ⟨rfl, g, rfl, by rw [if_neg (by rw [h7]; decide)]; exact hg⟩
  · rw [b2_n0] at h7
    refine bX5_takes_10.go rfl trivial ?_
    refine rpc (M' := mX5_next) (nA := 0) (As := []) (ok_next hT hg.1 hg.2.1 hn h2) (lw_V q617 q619 qs5 q139 q620) dX5_takes_11 rfl hy_X5_next (fun r x' q => ?_)
    obtain ⟨rfl, g', rfl, hg'⟩ := q
    refine bX5_takes_14.go rfl trivial ?_
    exact rp_zret dX5_takes_15 rfl (b2_z _) ⟨rfl, g', rfl, by rw [if_pos h7]; exact hg'⟩
end Isw
