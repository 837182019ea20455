set_option maxRecDepth 100000
/-! ===== UnseenClock$Reader: line ===== -/
section NxA
variable {T w : Nat → Int32} {n i j : Nat} {ts : TS} {e : Int32 × Nat}
theorem allN_at {f : Nat → Bool} : ∀ {m k}, allN f m = true → k < m → f k = true := by
  intro m
  induction m with
  | zero => intro k _ h; omega
  | succ m ih =>
    intro k h hk
    rw [allN_s, Bool.and_eq_true] at h
    by_cases y : k = m
    · rw [y]; exact h.2
    · exact ih h.1 (by omega)
theorem isE_ex (hd : wdL i ≠ wdL j ∨ ∃ k, k < wdL i ∧ k < wdL j ∧ wdC i k ≠ wdC j k) (h : isE T i (.inr ts) = true) : isE T j (.inr ts) = false := by
  cases y : isE T j (.inr ts) with
  | false => rfl
  | true =>
    exfalso
    rw [isE, Bool.and_eq_true] at h y
    obtain ⟨h1, h2⟩ := h
    obtain ⟨y1, y2⟩ := y
    simp only [wd0, Bool.and_eq_true, decide_eq_true_eq] at h1 y1
    rcases hd with hd | ⟨k, k1, k2, k3⟩
    · exact hd (h1.2.symm.trans y1.2)
    · have a1 := allN_at h2 k1
      have a2 := allN_at y2 k2
      simp only [wdK, decide_eq_true_eq] at a1 a2
      exact k3 (a1.symm.trans a2)
theorem next_bad (h : nx3 T (.inr ts) w = .inl e) : nextE T n (.inr ts) w = (.inl e, w) := by rw [nextE, h]; rfl
/-- the words of a line behind the first, one of which it is -/
abbrev wdN (T : Nat → Int32) (ts : TS) (b1 b2 b3 b4 b5 b6 : Bool) : Prop := isE T 21 (.inr ts) = b1 ∧ isE T 22 (.inr ts) = b2 ∧ isE T 23 (.inr ts) = b3 ∧ isE T 24 (.inr ts) = b4 ∧ isE T 25 (.inr ts) = b5 ∧ isE T 26 (.inr ts) = b6
theorem nx_wall (h : wdN T ts true false false false false false) : nextE T n (.inr ts) w = if w 0 = nI 12 then (.inl (nI 3, ts.2.1), w) else wallE T n (.inr (advS T n ts.1)) w := by
  obtain ⟨h1, h2, h3, h4, h5, h6⟩ := h
  have x2 : nx2 T (.inr ts) w = .inr ts := by simp only [nx2, nx1, ofE, anE, h1, h2, h3, h4, h5, h6]; rfl
  by_cases y : w 0 = nI 12
  · rw [if_pos y]
    refine next_bad ?_
    rw [nx3, x2]
    simp only [fuE, fu1, h1, h2, h3, h4, h5, h6, y]; rfl
  · have x3 : nx3 T (.inr ts) w = .inr ts := by
      rw [nx3, x2]
      simp only [fuE, fu1, h1, h2, h3, h4, h5, h6, decide_eq_false y]; rfl
    rw [if_neg y, nextE, x3, h1]; rfl
theorem nx_clock (h : wdN T ts false true false false false false) : nextE T n (.inr ts) w = if w 1 = nI 4 then (.inl (nI 3, ts.2.1), w) else clockE T n (nC w) (.inr (advS T n ts.1)) w := by
  obtain ⟨h1, h2, h3, h4, h5, h6⟩ := h
  have x2 : nx2 T (.inr ts) w = .inr ts := by simp only [nx2, nx1, ofE, anE, h1, h2, h3, h4, h5, h6]; rfl
  by_cases y : w 1 = nI 4
  · rw [if_pos y]
    refine next_bad ?_
    rw [nx3, x2]
    simp only [fuE, fu1, h1, h2, h3, h4, h5, h6, y]; rfl
  · have x3 : nx3 T (.inr ts) w = .inr ts := by
      rw [nx3, x2]
      simp only [fuE, fu1, h1, h2, h3, h4, h5, h6, decide_eq_false y]; rfl
    rw [if_neg y, nextE, x3, h1, h2]; rfl
theorem nx_person (h : wdN T ts false false true false false false) : nextE T n (.inr ts) w = if w 2 = nI 8 then (.inl (nI 3, ts.2.1), w) else personE T n (nP w) (.inr (advS T n ts.1)) w := by
  obtain ⟨h1, h2, h3, h4, h5, h6⟩ := h
  have x2 : nx2 T (.inr ts) w = .inr ts := by simp only [nx2, nx1, ofE, anE, h1, h2, h3, h4, h5, h6]; rfl
  by_cases y : w 2 = nI 8
  · rw [if_pos y]
    refine next_bad ?_
    rw [nx3, x2]
    simp only [fuE, fu1, h1, h2, h3, h4, h5, h6, y]; rfl
  · have x3 : nx3 T (.inr ts) w = .inr ts := by
      rw [nx3, x2]
      simp only [fuE, fu1, h1, h2, h3, h4, h5, h6, decide_eq_false y]; rfl
    rw [if_neg y, nextE, x3, h1, h2, h3]; rfl
theorem nx_leg {go : Bool} (h : wdN T ts false false false go (!go) false) : nextE T n (.inr ts) w = if w 2 = 0 then (.inl (nI 2, ts.2.1), w) else if w (56 + 33 * qP w + 3) = nI 6 then (.inl (nI 3, ts.2.1), w) else moveE T n go (qP w) (nM w (qP w)) (.inr (advS T n ts.1)) w := by
  obtain ⟨h1, h2, h3, h4, h5, h6⟩ := h
  have h45 : (isE T 24 (.inr ts) || isE T 25 (.inr ts)) = true := by rw [h4, h5]; cases go <;> rfl
  have x1 : nx1 T (.inr ts) = .inr ts := by cases go <;> (simp only [nx1, ofE, anE, h1, h2, h3, h4, h5, h6]; rfl)
  have xo : ofE T (.inr ts) = true := by cases go <;> (simp only [ofE, h4, h5, h6]; rfl)
  by_cases y : w 2 = 0
  · rw [if_pos y]
    refine next_bad ?_
    have x2 : nx2 T (.inr ts) w = .inl (nI 2, ts.2.1) := by rw [nx2, x1, xo, decide_eq_true y]; rfl
    rw [nx3, x2]; rfl
  · have x2 : nx2 T (.inr ts) w = .inr ts := by rw [nx2, x1, xo, decide_eq_false y]; rfl
    rw [if_neg y]
    by_cases y2 : w (56 + 33 * qP w + 3) = nI 6
    · rw [if_pos y2]
      refine next_bad ?_
      rw [nx3, x2]
      simp only [fuE, fu1, h1, h2, h3, h45, h6, y2]; rfl
    · have x3 : nx3 T (.inr ts) w = .inr ts := by
        rw [nx3, x2]
        simp only [fuE, fu1, h1, h2, h3, h45, h6, decide_eq_false y2]; rfl
      rw [if_neg y2, nextE, x3, h1, h2, h3, h4, h5]
      cases go <;> rfl
theorem nx_look (h : wdN T ts false false false false false true) : nextE T n (.inr ts) w = if w 2 = 0 then (.inl (nI 2, ts.2.1), w) else if w (56 + 33 * qP w + 4) = nI 4 then (.inl (nI 3, ts.2.1), w) else lookE T n (qP w) (nL w (qP w)) (.inr (advS T n ts.1)) w := by
  obtain ⟨h1, h2, h3, h4, h5, h6⟩ := h
  have x1 : nx1 T (.inr ts) = .inr ts := by simp only [nx1, ofE, anE, h1, h2, h3, h4, h5, h6]; rfl
  have xo : ofE T (.inr ts) = true := by simp only [ofE, h4, h5, h6]; rfl
  by_cases y : w 2 = 0
  · rw [if_pos y]
    refine next_bad ?_
    have x2 : nx2 T (.inr ts) w = .inl (nI 2, ts.2.1) := by rw [nx2, x1, xo, decide_eq_true y]; rfl
    rw [nx3, x2]; rfl
  · have x2 : nx2 T (.inr ts) w = .inr ts := by rw [nx2, x1, xo, decide_eq_false y]; rfl
    rw [if_neg y]
    by_cases y2 : w (56 + 33 * qP w + 4) = nI 4
    · rw [if_pos y2]
      refine next_bad ?_
      rw [nx3, x2]
      simp only [fuE, fu1, h1, h2, h3, h4, h5, h6, y2]; rfl
    · have x3 : nx3 T (.inr ts) w = .inr ts := by
        rw [nx3, x2]
        simp only [fuE, fu1, h1, h2, h3, h4, h5, h6, decide_eq_false y2]; rfl
      rw [if_neg y2, nextE, x3, h1, h2, h3, h4, h5]
      rfl
theorem nx_none (h : wdN T ts false false false false false false) : nextE T n (.inr ts) w = (.inl (nI 1, ts.2.1), w) := by
  obtain ⟨h1, h2, h3, h4, h5, h6⟩ := h
  refine next_bad ?_
  have x2 : nx2 T (.inr ts) w = .inl (nI 1, ts.2.1) := by simp only [nx2, nx1, ofE, anE, h1, h2, h3, h4, h5, h6]; rfl
  rw [nx3, x2]; rfl
end NxA
section Lin
variable {X : Cx} {hz : AH} {tp n : Nat} {T w w' : Nat → Int32} {sk : Nat → Nat} {S S' : Nat → Nat → Int32} {N : Nat → Nat} {aK aV : Nat → Nat} {ts : TS}
theorem bX5_line_0 : Blk SP mX5_line 0 1 [oAL 0] := blk_c (s_aload_n dX5_line_0 rfl) <| blk_nil
theorem bX5_line_9 : Blk SP mX5_line 9 10 [oAL 0] := blk_c (s_aload_n dX5_line_9 rfl) <| blk_nil
theorem bX5_line_13 : Blk SP mX5_line 13 104 [.inl (fun s => some s)] := blk_c (s_goto (tgt := 104) dX5_line_13 (by decide)) <| blk_nil
theorem bX5_line_16 : Blk SP mX5_line 16 17 [oAL 0] := blk_c (s_aload_n dX5_line_16 rfl) <| blk_nil
theorem bX5_line_25 : Blk SP mX5_line 25 26 [oAL 0] := blk_c (s_aload_n dX5_line_25 rfl) <| blk_nil
theorem bX5_line_29 : Blk SP mX5_line 29 104 [.inl (fun s => some s)] := blk_c (s_goto (tgt := 104) dX5_line_29 (by decide)) <| blk_nil
theorem bX5_line_32 : Blk SP mX5_line 32 33 [oAL 0] := blk_c (s_aload_n dX5_line_32 rfl) <| blk_nil
theorem bX5_line_41 : Blk SP mX5_line 41 42 [oAL 0] := blk_c (s_aload_n dX5_line_41 rfl) <| blk_nil
theorem bX5_line_45 : Blk SP mX5_line 45 104 [.inl (fun s => some s)] := blk_c (s_goto (tgt := 104) dX5_line_45 (by decide)) <| blk_nil
theorem bX5_line_48 : Blk SP mX5_line 48 49 [oAL 0] := blk_c (s_aload_n dX5_line_48 rfl) <| blk_nil
theorem bX5_line_57 : Blk SP mX5_line 57 59 [oAL 0, oC (nI 0)] := blk_c (s_aload_n dX5_line_57 rfl) <| blk_c (s_iconst dX5_line_58 (by decide +kernel)) <| blk_nil
theorem bX5_line_62 : Blk SP mX5_line 62 104 [.inl (fun s => some s)] := blk_c (s_goto (tgt := 104) dX5_line_62 (by decide)) <| blk_nil
theorem bX5_line_65 : Blk SP mX5_line 65 66 [oAL 0] := blk_c (s_aload_n dX5_line_65 rfl) <| blk_nil
theorem bX5_line_74 : Blk SP mX5_line 74 76 [oAL 0, oC (nI 1)] := blk_c (s_aload_n dX5_line_74 rfl) <| blk_c (s_iconst dX5_line_75 (by decide +kernel)) <| blk_nil
theorem bX5_line_79 : Blk SP mX5_line 79 104 [.inl (fun s => some s)] := blk_c (s_goto (tgt := 104) dX5_line_79 (by decide)) <| blk_nil
theorem bX5_line_82 : Blk SP mX5_line 82 83 [oAL 0] := blk_c (s_aload_n dX5_line_82 rfl) <| blk_nil
theorem bX5_line_91 : Blk SP mX5_line 91 92 [oAL 0] := blk_c (s_aload_n dX5_line_91 rfl) <| blk_nil
theorem bX5_line_95 : Blk SP mX5_line 95 104 [.inl (fun s => some s)] := blk_c (s_goto (tgt := 104) dX5_line_95 (by decide)) <| blk_nil
theorem bX5_line_98 : Blk SP mX5_line 98 100 [oAL 0, oC (nI 1)] := blk_c (s_aload_n dX5_line_98 rfl) <| blk_c (s_iconst dX5_line_99 (by decide +kernel)) <| blk_nil
theorem ok_line (hC : RdC X aK aV T) (hr : SR S N w) (hF : FrOk w) (hE : ∀ q, nP w ≤ q → q < 8 → w (56 + 33 * q + 3) = nI 0 ∧ w (56 + 33 * q + 4) = nI 0) (hw : ∃ a b : Nat, a ≤ 12 ∧ b ≤ 12 ∧ w 4 = nI a ∧ w 5 = nI b) (hg : TokG (S 120) n ts) (hts : TsW T n ts) (hn : n ≤ 2400) : SPX X mX5_line 13 102 [.ref (sk 120)] (hz, tp, T, sk, S, N) (QLn hz tp T n sk (nextE T n (.inr ts) w)) (fun k p => (nextE T n (.inr ts) w).1 = .inl (k, p)) := by
  have hX := hC.1
  have hK := hC.2.2.2.1
  refine SPX_start (L := [some (.ref (sk 120))]) 0 rfl ?_
  have j104 : ∀ k0 n0 r x', k0 ≤ 13 → n0 ≤ 102 → QLn hz tp T n sk (nextE T n (.inr ts) w) r x' → JS SP X mX5_line (rmOf mX5_line.lv 13 102) (ZSX X 13 102 hz (QLn hz tp T n sk (nextE T n (.inr ts) w)) (fun k p => (nextE T n (.inr ts) w).1 = .inl (k, p))) k0 n0 104 [some (.ref (sk 120))] [] x' := by
    intro k0 n0 r x' h1 h2 q
    obtain ⟨rfl, q⟩ := q
    exact sp_vret dX5_line_104 rfl ⟨rfl, q⟩ h1 h2
  refine bX5_line_0.go rfl trivial ?_
  refine js_ldcS (tx := "wall") (i := 21) hK (by decide +kernel) dX5_line_1 ?_
  refine sp_is (i := 21) hC (by decide) hg hts hn q669 dX5_line_3 (by decide) rfl ?_
  refine j_if_eq (tgt := 16) dX5_line_6 (by decide) (fun z1 => ?_) (fun z1 => ?_)
  rotate_left
  · rw [b2_n0] at z1
    have e := nx_wall (n := n) (w := w) ⟨z1, isE_ex (Or.inl (by decide)) z1, isE_ex (Or.inl (by decide)) z1, isE_ex (Or.inl (by decide)) z1, isE_ex (Or.inr ⟨2, by decide, by decide, by decide +kernel⟩) z1, isE_ex (Or.inr ⟨0, by decide, by decide, by decide +kernel⟩) z1⟩
    refine bX5_line_9.go rfl trivial ?_
    refine spx (M' := mX5_wall) (nA := 0) (As := []) (ok_wall hC hr hF hw hg hts hn) q772 q774 qs15 q775 dX5_line_10 rfl hy_X5_wall ⟨by show 0 + 4 ≤ 13; omega, by show 0 + 32 ≤ 102; omega⟩ (fun r x' q => ?_) (fun a h' q => sp_out hX rfl (q.mono (fun k p z => ?_)) (by omega) (by omega))
    · obtain ⟨q1, q2⟩ := q
      obtain ⟨rfl, -⟩ := id q2
      rw [if_neg q1] at e
      rw [← e] at q2
      refine bX5_line_13.go rfl trivial ?_
      exact j104 _ _ _ _ (by omega) (by omega) q2
    · rcases z with ⟨y1, y2⟩ | ⟨y1, y2⟩
      · rw [e, if_pos y1, y2]
      · rw [e, if_neg y1, y2]
  rw [b2_0] at z1
  refine bX5_line_16.go rfl trivial ?_
  refine js_ldcS (tx := "clock") (i := 22) hK (by decide +kernel) dX5_line_17 ?_
  refine sp_is (i := 22) hC (by decide) hg hts hn q669 dX5_line_19 (by decide) rfl ?_
  refine j_if_eq (tgt := 32) dX5_line_22 (by decide) (fun z2 => ?_) (fun z2 => ?_)
  rotate_left
  · rw [b2_n0] at z2
    have e := nx_clock (n := n) (w := w) ⟨z1, z2, isE_ex (Or.inl (by decide)) z2, isE_ex (Or.inl (by decide)) z2, isE_ex (Or.inl (by decide)) z2, isE_ex (Or.inl (by decide)) z2⟩
    refine bX5_line_25.go rfl trivial ?_
    refine spx (M' := mX5_clock) (nA := 0) (As := []) (ok_clock hC hr hF hw hg hts hn) q827 q829 qs18 q830 dX5_line_26 rfl hy_X5_clock ⟨by show 0 + 13 ≤ 13; omega, by show 0 + 102 ≤ 102; omega⟩ (fun r x' q => ?_) (fun a h' q => sp_out hX rfl (q.mono (fun k p z => ?_)) (by omega) (by omega))
    · obtain ⟨q1, q2⟩ := q
      obtain ⟨rfl, -⟩ := id q2
      rw [if_neg q1] at e
      rw [← e] at q2
      refine bX5_line_29.go rfl trivial ?_
      exact j104 _ _ _ _ (by omega) (by omega) q2
    · rcases z with ⟨y1, y2⟩ | ⟨y1, y2⟩
      · rw [e, if_pos y1, y2]
      · rw [e, if_neg y1, y2]
  rw [b2_0] at z2
  refine bX5_line_32.go rfl trivial ?_
  refine js_ldcS (tx := "person") (i := 23) hK (by decide +kernel) dX5_line_33 ?_
  refine sp_is (i := 23) hC (by decide) hg hts hn q669 dX5_line_35 (by decide) rfl ?_
  refine j_if_eq (tgt := 48) dX5_line_38 (by decide) (fun z3 => ?_) (fun z3 => ?_)
  rotate_left
  · rw [b2_n0] at z3
    have e := nx_person (n := n) (w := w) ⟨z1, z2, z3, isE_ex (Or.inl (by decide)) z3, isE_ex (Or.inl (by decide)) z3, isE_ex (Or.inl (by decide)) z3⟩
    refine bX5_line_41.go rfl trivial ?_
    refine spx (M' := mX5_person) (nA := 0) (As := []) (ok_person hC hr hF hE hw hg hts hn) q940 q942 qs22 q943 dX5_line_42 rfl hy_X5_person ⟨by show 0 + 11 ≤ 13; omega, by show 0 + 74 ≤ 102; omega⟩ (fun r x' q => ?_) (fun a h' q => sp_out hX rfl (q.mono (fun k p z => ?_)) (by omega) (by omega))
    · obtain ⟨q1, q2⟩ := q
      obtain ⟨rfl, -⟩ := id q2
      rw [if_neg q1] at e
      rw [← e] at q2
      refine bX5_line_45.go rfl trivial ?_
      exact j104 _ _ _ _ (by omega) (by omega) q2
    · rcases z with ⟨y1, y2⟩ | ⟨y1, y2⟩
      · rw [e, if_pos y1, y2]
      · rw [e, if_neg y1, y2]
  rw [b2_0] at z3
  refine bX5_line_48.go rfl trivial ?_
  refine js_ldcS (tx := "go") (i := 24) hK (by decide +kernel) dX5_line_49 ?_
  refine sp_is (i := 24) hC (by decide) hg hts hn q669 dX5_line_51 (by decide) rfl ?_
  refine j_if_eq (tgt := 65) dX5_line_54 (by decide) (fun z4 => ?_) (fun z4 => ?_)
  rotate_left
  · rw [b2_n0] at z4
    have e := nx_leg (n := n) (w := w) (go := true) ⟨z1, z2, z3, z4, isE_ex (Or.inl (by decide)) z4, isE_ex (Or.inl (by decide)) z4⟩
    refine bX5_line_57.go rfl trivial ?_
    refine spx (M' := mX5_leg) (nA := 1) (As := [.int (b2 (!true))]) (ok_leg (go := true) hC hr hF hg hts hn) q985 q987 qs23 q988 dX5_line_59 rfl hy_X5_leg ⟨by show 0 + 4 ≤ 13; omega, by show 0 + 32 ≤ 102; omega⟩ (fun r x' q => ?_) (fun a h' q => sp_out hX rfl (q.mono (fun k p z => ?_)) (by omega) (by omega))
    · obtain ⟨q1, q1', q2⟩ := q
      obtain ⟨rfl, -⟩ := id q2
      rw [if_neg q1, if_neg q1'] at e
      rw [← e] at q2
      refine bX5_line_62.go rfl trivial ?_
      exact j104 _ _ _ _ (by omega) (by omega) q2
    · rcases z with ⟨y1, y2⟩ | ⟨y1, y2, y3⟩ | ⟨y1, y2, y3⟩
      · rw [e, if_pos y1, y2]
      · rw [e, if_neg y1, if_pos y2, y3]
      · rw [e, if_neg y1, if_neg y2, y3]
  rw [b2_0] at z4
  refine bX5_line_65.go rfl trivial ?_
  refine js_ldcS (tx := "wait") (i := 25) hK (by decide +kernel) dX5_line_66 ?_
  refine sp_is (i := 25) hC (by decide) hg hts hn q669 dX5_line_68 (by decide) rfl ?_
  refine j_if_eq (tgt := 82) dX5_line_71 (by decide) (fun z5 => ?_) (fun z5 => ?_)
  rotate_left
  · rw [b2_n0] at z5
    have e := nx_leg (n := n) (w := w) (go := false) ⟨z1, z2, z3, z4, z5, isE_ex (Or.inr ⟨0, by decide, by decide, by decide +kernel⟩) z5⟩
    refine bX5_line_74.go rfl trivial ?_
    refine spx (M' := mX5_leg) (nA := 1) (As := [.int (b2 (!false))]) (ok_leg (go := false) hC hr hF hg hts hn) q985 q987 qs23 q988 dX5_line_76 rfl hy_X5_leg ⟨by show 0 + 4 ≤ 13; omega, by show 0 + 32 ≤ 102; omega⟩ (fun r x' q => ?_) (fun a h' q => sp_out hX rfl (q.mono (fun k p z => ?_)) (by omega) (by omega))
    · obtain ⟨q1, q1', q2⟩ := q
      obtain ⟨rfl, -⟩ := id q2
      rw [if_neg q1, if_neg q1'] at e
      rw [← e] at q2
      refine bX5_line_79.go rfl trivial ?_
      exact j104 _ _ _ _ (by omega) (by omega) q2
    · rcases z with ⟨y1, y2⟩ | ⟨y1, y2, y3⟩ | ⟨y1, y2, y3⟩
      · rw [e, if_pos y1, y2]
      · rw [e, if_neg y1, if_pos y2, y3]
      · rw [e, if_neg y1, if_neg y2, y3]
  rw [b2_0] at z5
  refine bX5_line_82.go rfl trivial ?_
  refine js_ldcS (tx := "look") (i := 26) hK (by decide +kernel) dX5_line_83 ?_
  refine sp_is (i := 26) hC (by decide) hg hts hn q669 dX5_line_85 (by decide) rfl ?_
  refine j_if_eq (tgt := 98) dX5_line_88 (by decide) (fun z6 => ?_) (fun z6 => ?_)
  rotate_left
  · rw [b2_n0] at z6
    have e := nx_look (n := n) (w := w) ⟨z1, z2, z3, z4, z5, z6⟩
    refine bX5_line_91.go rfl trivial ?_
    refine spx (M' := mX5_look) (nA := 0) (As := []) (ok_look hC hr hF hg hts hn) q1014 q1016 qs26 q1017 dX5_line_92 rfl hy_X5_look ⟨by show 0 + 8 ≤ 13; omega, by show 0 + 59 ≤ 102; omega⟩ (fun r x' q => ?_) (fun a h' q => sp_out hX rfl (q.mono (fun k p z => ?_)) (by omega) (by omega))
    · obtain ⟨q1, q1', q2⟩ := q
      obtain ⟨rfl, -⟩ := id q2
      rw [if_neg q1, if_neg q1'] at e
      rw [← e] at q2
      refine bX5_line_95.go rfl trivial ?_
      exact j104 _ _ _ _ (by omega) (by omega) q2
    · rcases z with ⟨y1, y2⟩ | ⟨y1, y2, y3⟩ | ⟨y1, y2, y3⟩
      · rw [e, if_pos y1, y2]
      · rw [e, if_neg y1, if_pos y2, y3]
      · rw [e, if_neg y1, if_neg y2, y3]
  rw [b2_0] at z6
  have e := nx_none (n := n) (w := w) ⟨z1, z2, z3, z4, z5, z6⟩
  refine bX5_line_98.go rfl trivial ?_
  exact sp_throw hC hg q721 dX5_line_100 dX5_line_103 (by decide) ⟨by show 0 + 1 ≤ 13; omega, by show 0 + 8 ≤ 102; omega⟩ (fun a h' q => sp_out hX rfl (q.mono (fun k p y => by rw [e, y])) (by omega) (by omega))
end Lin
