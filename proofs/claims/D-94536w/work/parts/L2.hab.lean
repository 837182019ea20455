set_option maxRecDepth 100000
/-! ===== UnseenClock$Reader: habit (printed by gen_l2.py) ===== -/
/-- a habit's cell, by the row -/
def hbR (w : Nat → Int32) (i : Nat) : va_E :=
  if w (i + 1) = nI 0 then .inr (10, [.int (w i)]) else if w (i + 1) = nI 1 then .inr (11, [.int (w i), .int (w (i + 2)), .int (w (i + 3))]) else
  if w (i + 1) = nI 2 then .inr (12, [.int (w i), .int (w (i + 2)), .int (w (i + 3))]) else if w (i + 1) = nI 3 then .inr (13, [.int (w i), .int (w (i + 2))]) else
  if w (i + 1) = nI 4 then .inr (14, [.int (w i), .int (w (i + 2))]) else .inr (15, [.int (w i), .int (w (i + 2))])
section Hab
variable {X : Cx} {M : MD} {R : Room} {Z : ZT} {k m pc idx : Nat} {L : List (Option Value)} {st : List Value} {hz : AH} {tp n i : Nat} {T w : Nat → Int32} {sk : Nat → Nat} {S : Nat → Nat → Int32} {N : Nat → Nat} {aK aV : Nat → Nat} {ts : TS} {c : Int32}
theorem sp_takes (hC : RdC X aK aV T) (hi27 : i < 27) (hg : TokG (S 120) n ts) (hts : TsW T n ts) (hn : n ≤ 2400) (hl : Cond.methodLink M.y.cls idx yX5_takes ∈ lw_all) (hd : decode M.cc pc = .ok (.invokevirtual idx, 3)) (hR : 8 ≤ M.lv) (hst : wt8 st = true)
    (kk : ∀ g ts', ts' = (if isE T i (.inr ts) = true then advS T n ts.1 else ts) → TsW T n ts' → TokG g n ts' → JS SP X M R Z k m (pc + 3) L (.int (b2 (isE T i (.inr ts))) :: st) (hz, tp, T, sk, va_up S 120 g, N)) : JS SP X M R Z k m pc L (.ref (aK i) :: .ref (sk 120) :: st) (hz, tp, T, sk, S, N) := by
  obtain ⟨h1, h2, h3, h4, h5⟩ := hC
  refine sp_rpc (M' := mX5_takes) (nA := 1) (As := [.ref (aK i)]) (Q' := fun r x' => r = some (.int (b2 (isE T i (.inr ts)))) ∧ TokG x'.2.2.2 n (if isE T i (.inr ts) = true then advS T n ts.1 else ts)) (fun h _ => ?_) (lw_V hl q667 qs9 q139 q668) hd rfl hy_X5_takes (fun r g h q => ?_) rfl rfl ⟨hR, by decide⟩ hst
  · intro h' hp'
    refine MetFree.mono (ok_takesR h4 h5 hi27 hg hts.le.1 hts.le.2 hn h' hp') (fun _ _ z => z) (fun _ _ _ _ _ z => z) (fun a s oc t _ z => ⟨?_, z.2⟩)
    obtain ⟨h2', ⟨r, x', e1, ⟨e2, g', rfl, e3⟩, e4⟩, hw⟩ := z.1
    exact ⟨h2', ⟨r, _, e1, ⟨⟨e2, e3⟩, g', rfl⟩, e4⟩, hw⟩
  · obtain ⟨rfl, q⟩ := q
    refine kk g _ rfl ?_ q
    by_cases z : isE T i (.inr ts) = true
    · rw [if_pos z]; exact ⟨ts.1, hts.le.2, rfl⟩
    · rw [if_neg z]; exact hts
def QH (hz : AH) (tp : Nat) (T : Nat → Int32) (n : Nat) (sk : Nat → Nat) (S : Nat → Nat → Int32) (N : Nat → Nat) (F : RdE × (Nat → Int32)) (i : Nat) (r : Option Value) (x' : SPv) : Prop := ∃ q kd f g ts', r = some (.ref q) ∧ (hz q = none ∧ q ≠ tp) ∧ x' = (va_up hz q (some (hbL kd f)), tp, T, sk, va_up S 120 g, N) ∧ F.1 = .inr ts' ∧ TsW T n ts' ∧ TokG g n ts' ∧ hbL kd f = hbR F.2 i ∧ kd < 6
theorem bX5_habit_0 : Blk SP mX5_habit 0 1 [oAL 0] := blk_c (s_aload_n dX5_habit_0 rfl) <| blk_nil
theorem bX5_habit_12 : Blk SP mX5_habit 12 14 [oDupR, oIL 1] := blk_c (s_dupR dX5_habit_12) <| blk_c (s_iload_n dX5_habit_13 rfl) <| blk_nil
theorem bX5_habit_18 : Blk SP mX5_habit 18 19 [oAL 0] := blk_c (s_aload_n dX5_habit_18 rfl) <| blk_nil
theorem bX5_habit_27 : Blk SP mX5_habit 27 31 [oAL 0, oC (nI 1), oC (nI 40)] := blk_c (s_aload_n dX5_habit_27 rfl) <| blk_c (s_iconst dX5_habit_28 (by decide +kernel)) <| blk_c (s_bipush dX5_habit_29 (by decide +kernel)) <| blk_nil
theorem bX5_habit_34 : Blk SP mX5_habit 34 35 [oIS 2] := blk_c (s_istore_n dX5_habit_34 rfl (by decide)) <| blk_nil
theorem bX5_habit_38 : Blk SP mX5_habit 38 42 [oDupR, oIL 1, oIL 2, oAL 0] := blk_c (s_dupR dX5_habit_38) <| blk_c (s_iload_n dX5_habit_39 rfl) <| blk_c (s_iload_n dX5_habit_40 rfl) <| blk_c (s_aload_n dX5_habit_41 rfl) <| blk_nil
theorem bX5_habit_44 : Blk SP mX5_habit 44 47 [oC (nI 0), oC (nI 39)] := blk_c (s_iconst dX5_habit_44 (by decide +kernel)) <| blk_c (s_bipush dX5_habit_45 (by decide +kernel)) <| blk_nil
theorem bX5_habit_54 : Blk SP mX5_habit 54 55 [oAL 0] := blk_c (s_aload_n dX5_habit_54 rfl) <| blk_nil
theorem bX5_habit_63 : Blk SP mX5_habit 63 72 [oAL 0, oC (nI 0), oAL 0, pRs, pSR 0] := blk_c (s_aload_n dX5_habit_63 rfl) <| blk_c (s_iconst dX5_habit_64 (by decide +kernel)) <| blk_c (s_aload_n dX5_habit_65 rfl) <| blk_c (p_Rs q632 dX5_habit_66) <| blk_c (p_SR (f := 0) (by decide) nq428 dX5_habit_69) <| blk_nil
theorem bX5_habit_77 : Blk SP mX5_habit 77 79 [oC (nI 1), oSub] := blk_c (s_iconst dX5_habit_77 (by decide +kernel)) <| blk_c (s_isub dX5_habit_78) <| blk_nil
theorem bX5_habit_82 : Blk SP mX5_habit 82 83 [oIS 2] := blk_c (s_istore_n dX5_habit_82 rfl (by decide)) <| blk_nil
theorem bX5_habit_86 : Blk SP mX5_habit 86 90 [oDupR, oIL 1, oIL 2, oAL 0] := blk_c (s_dupR dX5_habit_86) <| blk_c (s_iload_n dX5_habit_87 rfl) <| blk_c (s_iload_n dX5_habit_88 rfl) <| blk_c (s_aload_n dX5_habit_89 rfl) <| blk_nil
theorem bX5_habit_92 : Blk SP mX5_habit 92 95 [oC (nI 0), oC (nI 59)] := blk_c (s_iconst dX5_habit_92 (by decide +kernel)) <| blk_c (s_bipush dX5_habit_93 (by decide +kernel)) <| blk_nil
theorem bX5_habit_102 : Blk SP mX5_habit 102 103 [oAL 0] := blk_c (s_aload_n dX5_habit_102 rfl) <| blk_nil
theorem bX5_habit_114 : Blk SP mX5_habit 114 120 [oDupR, oIL 1, oAL 0, oC (nI 0), oC (nI 7)] := blk_c (s_dupR dX5_habit_114) <| blk_c (s_iload_n dX5_habit_115 rfl) <| blk_c (s_aload_n dX5_habit_116 rfl) <| blk_c (s_iconst dX5_habit_117 (by decide +kernel)) <| blk_c (s_bipush dX5_habit_118 (by decide +kernel)) <| blk_nil
theorem bX5_habit_127 : Blk SP mX5_habit 127 128 [oAL 0] := blk_c (s_aload_n dX5_habit_127 rfl) <| blk_nil
theorem bX5_habit_139 : Blk SP mX5_habit 139 145 [oDupR, oIL 1, oAL 0, oC (nI 0), oC (nI 7)] := blk_c (s_dupR dX5_habit_139) <| blk_c (s_iload_n dX5_habit_140 rfl) <| blk_c (s_aload_n dX5_habit_141 rfl) <| blk_c (s_iconst dX5_habit_142 (by decide +kernel)) <| blk_c (s_bipush dX5_habit_143 (by decide +kernel)) <| blk_nil
theorem bX5_habit_155 : Blk SP mX5_habit 155 158 [oDupR, oIL 1, oAL 0] := blk_c (s_dupR dX5_habit_155) <| blk_c (s_iload_n dX5_habit_156 rfl) <| blk_c (s_aload_n dX5_habit_157 rfl) <| blk_nil
theorem bX5_habit_160 : Blk SP mX5_habit 160 163 [oC (nI 0), oC (nI 100)] := blk_c (s_iconst dX5_habit_160 (by decide +kernel)) <| blk_c (s_bipush dX5_habit_161 (by decide +kernel)) <| blk_nil
theorem ok_habit (hC : RdC X aK aV T) (h4 : N 0 ≤ 4) (hw1 : w 1 = nI (N 0)) (hwi : w i = c) (hg : TokG (S 120) n ts) (hts : TsW T n ts) (hn : n ≤ 2400) : SPX X mX5_habit 4 27 [.ref (sk 120), .int c] (hz, tp, T, sk, S, N) (QH hz tp T n sk S N (habE T n i (.inr ts) w) i) (fun k p => (habE T n i (.inr ts) w).1 = .inl (k, p)) := by
  have hX := hC.1
  have hK := hC.2.2.2.1
  have n01 : (nI 1 = nI 0) = False := by decide +kernel
  have n02 : (nI 2 = nI 0) = False := by decide +kernel
  have n03 : (nI 3 = nI 0) = False := by decide +kernel
  have n04 : (nI 4 = nI 0) = False := by decide +kernel
  have n05 : (nI 5 = nI 0) = False := by decide +kernel
  have n12 : (nI 2 = nI 1) = False := by decide +kernel
  have n13 : (nI 3 = nI 1) = False := by decide +kernel
  have n14 : (nI 4 = nI 1) = False := by decide +kernel
  have n15 : (nI 5 = nI 1) = False := by decide +kernel
  have n23 : (nI 3 = nI 2) = False := by decide +kernel
  have n24 : (nI 4 = nI 2) = False := by decide +kernel
  have n25 : (nI 5 = nI 2) = False := by decide +kernel
  have n34 : (nI 4 = nI 3) = False := by decide +kernel
  have n35 : (nI 5 = nI 3) = False := by decide +kernel
  have n45 : (nI 5 = nI 4) = False := by decide +kernel
  have a1 : (i = i + 1) = False := eq_false (by omega)
  have a2 : (i = i + 2) = False := eq_false (by omega)
  have a3 : (i = i + 3) = False := eq_false (by omega)
  have b12 : (i + 1 = i + 2) = False := eq_false (by omega)
  have b13 : (i + 1 = i + 3) = False := eq_false (by omega)
  have b23 : (i + 2 = i + 3) = False := eq_false (by omega)
  refine SPX_start (L := [some (.ref (sk 120)), some (.int c), none]) 1 rfl ?_
  refine bX5_habit_0.go rfl trivial ?_
  refine js_ldcS (tx := "always") (i := 13) hK (by decide +kernel) dX5_habit_1 ?_
  refine sp_takes (i := 13) hC (by decide) hg hts hn q665 dX5_habit_3 (by decide) rfl (fun g1 t1 et w1 hg1 => ?_)
  refine j_if_eq (tgt := 18) dX5_habit_6 (by decide) (fun z1 => ?_) (fun z1 => ?_)
  rotate_left
  · rw [b2_n0] at z1
    rw [if_pos z1] at et
    rw [et] at hg1 w1
    intro h hp
    refine J.new (C := RX10) (T := TX10) (N := 1) (ty := tyX10) (ci := 10) (fs := [.int 0]) hp.1.2 clsX10 rfl q1023 q1024 q156 (by decide +kernel) ⟨by show 0 + 1 ≤ 4; omega, by show 0 + 1 ≤ 27; omega⟩ dX5_habit_9 (fun q hq => ?_)
    have hzq := (hp.nsk hq).2.2
    have hqt := (hp.nsk hq).2.1
    refine (show JS SP X mX5_habit (rmOf mX5_habit.lv 4 27) _ _ _ 12 _ _ _ from ?_) _ (hp.frz0 hq)
    refine bX5_habit_12.go rfl trivial ?_
    have eh : habE T n i (.inr ts) w = (.inr (advS T n ts.1), va_up w (i + 1) (nI 0)) := by rw [habE, if_pos z1]; rfl
    intro h2 hp2
    refine J.callI (M' := mX10_init) (As := [.int c]) (mc := 0) (ms := 0) (ok_X10_init hp2.nfz.1) rfl (fun o h' q => ⟨_, q.1⟩) dX5_habit_14 q1027 q156 q1025 q1026 rfl hy_X10_init (by decide) ⟨by show 0 + 1 + 0 ≤ 4; omega, by show 0 + 1 + 0 ≤ 27; omega⟩ (Nat.le_of_ble_eq_true rfl) (fun v h3 q0 => ?_)
    obtain ⟨q0, rfl⟩ := q0
    cases q0
    have hp3 := hp2.frz1 (e := hbL 0 (fun j => match j with | 0 => c | _ => c)) hqt
    refine sp_aret dX5_habit_17 rfl (Or.inl ⟨_, rfl⟩) ⟨q, 0, fun j => match j with | 0 => c | _ => c, g1, _, rfl, ⟨hzq, hqt⟩, rfl, ?_, w1, hg1, ?_, by decide⟩ (by show 0 + 1 + 0 ≤ 4; omega) (by show 0 + 1 + 0 ≤ 27; omega) _ hp3
    · rw [eh]
    · rw [eh]; simp only [hbR, hbL, up_at, hwi, n01, n02, n03, n04, n05, n12, n13, n14, n15, n23, n24, n25, n34, n35, n45, a1, a2, a3, b12, b13, b23, if_true, if_false]
  rw [b2_0] at z1
  rw [if_neg (by rw [z1]; decide)] at et
  rw [et] at hg1
  clear hg w1 et
  have hg := hg1
  clear hg1 t1
  refine bX5_habit_18.go rfl trivial ?_
  refine js_ldcS (tx := "each") (i := 14) hK (by decide +kernel) dX5_habit_19 ?_
  refine sp_takes (i := 14) hC (by decide) (by rw [va_up_self]; exact hg) hts hn q665 dX5_habit_21 (by decide) rfl (fun g2 t1 et w1 hg1 => ?_)
  rw [up_up]
  refine j_if_eq (tgt := 54) dX5_habit_24 (by decide) (fun z2 => ?_) (fun z2 => ?_)
  rotate_left
  · rw [b2_n0] at z2
    rw [if_pos z2] at et
    rw [et] at hg1 w1
    refine bX5_habit_27.go rfl trivial ?_
    refine sp_num hC (by rw [va_up_self]; exact hg1) w1 hn q761 dX5_habit_31 (by decide) rfl ⟨by show 0 + 1 ≤ 4; omega, by show 0 + 8 ≤ 27; omega⟩ (fun v3 t3 g3 e3 w3 hg3 => ?_) (fun a h' q => sp_out hX rfl (q.mono (fun k p y => ?_)))
    rotate_left
    · rw [habE, if_neg (by rw [z1]; decide), if_pos z2]
      show (toldE T n 15 (nI 0) (nI 39) (numE T n (nI 1) (nI 40) (.inr (advS T n ts.1))).2).2 = _
      rw [y]; rfl
    rw [up_up]
    refine bX5_habit_34.go rfl trivial ?_
    intro h hp
    refine J.new (C := RX11) (T := TX11) (N := 3) (ty := tyX11) (ci := 11) (fs := [.int 0, .int 0, .int 0]) hp.1.2 clsX11 rfl q1040 q1041 q157 (by decide +kernel) ⟨by show 0 + 1 + 1 ≤ 4; omega, by show 0 + 8 + 3 ≤ 27; omega⟩ dX5_habit_35 (fun q hq => ?_)
    have hzq := (hp.nsk hq).2.2
    have hqt := (hp.nsk hq).2.1
    refine (show JS SP X mX5_habit (rmOf mX5_habit.lv 4 27) _ _ _ 38 _ _ _ from ?_) _ (hp.frz0 hq)
    refine bX5_habit_38.go rfl trivial ?_
    refine js_ldcS (tx := "after") (i := 15) hK (by decide +kernel) dX5_habit_42 ?_
    refine bX5_habit_44.go rfl trivial ?_
    refine sp_told (i := 15) hC (by decide) (by rw [va_up_self]; exact hg3) w3 hn q757 dX5_habit_47 (by decide) rfl ⟨by show 0 + 1 + 1 + 2 ≤ 4; omega, by show 0 + 8 + 3 + 16 ≤ 27; omega⟩ (fun v4 t4 g4 e4 w4 hg4 => ?_) (fun a h' q => sp_out hX rfl ((q.thaw hzq).mono (fun k p y => ?_)))
    rotate_left
    · rw [habE, if_neg (by rw [z1]; decide), if_pos z2]
      show (toldE T n 15 (nI 0) (nI 39) (numE T n (nI 1) (nI 40) (.inr (advS T n ts.1))).2).2 = _
      rw [e3]; exact y
    rw [up_up]
    have eh : habE T n i (.inr ts) w = hab2 T n i (nI 1) (v3, .inr t3) (v4, .inr t4) w := by
      rw [habE, if_neg (by rw [z1]; decide), if_pos z2]
      show hab2 T n i (nI 1) (numE T n (nI 1) (nI 40) (.inr (advS T n ts.1))) (toldE T n 15 (nI 0) (nI 39) (numE T n (nI 1) (nI 40) (.inr (advS T n ts.1))).2) w = _
      rw [e3]
      show hab2 T n i (nI 1) (v3, .inr t3) (toldE T n 15 (nI 0) (nI 39) (.inr t3)) w = _
      rw [e4]
    intro h2 hp2
    refine J.callI (M' := mX11_init) (As := [.int c, .int v3, .int v4]) (mc := 0) (ms := 0) (ok_X11_init hp2.nfz.1) rfl (fun o h' q => ⟨_, q.1⟩) dX5_habit_50 q1045 q157 q1043 q1044 rfl hy_X11_init (by decide) ⟨by show 0 + 1 + 1 + 2 + 0 ≤ 4; omega, by show 0 + 8 + 3 + 16 + 0 ≤ 27; omega⟩ (Nat.le_of_ble_eq_true rfl) (fun v h3 q0 => ?_)
    obtain ⟨q0, rfl⟩ := q0
    cases q0
    have hp3 := hp2.frz1 (e := hbL 1 (fun j => match j with | 0 => c | 1 => v3 | _ => v4)) hqt
    refine sp_aret dX5_habit_53 rfl (Or.inl ⟨_, rfl⟩) ⟨q, 1, fun j => match j with | 0 => c | 1 => v3 | _ => v4, g4, t4, rfl, ⟨hzq, hqt⟩, rfl, ?_, w4, hg4, ?_, by decide⟩ (by show 0 + 1 + 1 + 2 + 0 ≤ 4; omega) (by show 0 + 8 + 3 + 16 + 0 ≤ 27; omega) _ hp3
    · rw [eh]; rfl
    · rw [eh]; simp only [hab2, hbR, hbL, up_at, hwi, n01, n02, n03, n04, n05, n12, n13, n14, n15, n23, n24, n25, n34, n35, n45, a1, a2, a3, b12, b13, b23, if_true, if_false]
  rw [b2_0] at z2
  rw [if_neg (by rw [z2]; decide)] at et
  rw [et] at hg1
  clear hg w1 et
  have hg := hg1
  clear hg1 t1
  refine bX5_habit_54.go rfl trivial ?_
  refine js_ldcS (tx := "seeing") (i := 16) hK (by decide +kernel) dX5_habit_55 ?_
  refine sp_takes (i := 16) hC (by decide) (by rw [va_up_self]; exact hg) hts hn q665 dX5_habit_57 (by decide) rfl (fun g3 t1 et w1 hg1 => ?_)
  rw [up_up]
  refine j_if_eq (tgt := 102) dX5_habit_60 (by decide) (fun z3 => ?_) (fun z3 => ?_)
  rotate_left
  · rw [b2_n0] at z3
    rw [if_pos z3] at et
    rw [et] at hg1 w1
    refine bX5_habit_63.go rfl (by repeat' first | exact trivial | rfl | assumption | omega | apply And.intro) ?_
    refine sp_size (lsn1 h4) dX5_habit_72 (lw_F q832 q803 q805 q136 q807) (by decide) rfl ?_
    refine bX5_habit_77.go rfl trivial ?_
    rw [← hw1]
    refine sp_num hC (by rw [va_up_self]; exact hg1) w1 hn q761 dX5_habit_79 (by decide) rfl ⟨by show 0 + 1 ≤ 4; omega, by show 0 + 8 ≤ 27; omega⟩ (fun v3 t3 g3 e3 w3 hg3 => ?_) (fun a h' q => sp_out hX rfl (q.mono (fun k p y => ?_)))
    rotate_left
    · rw [habE, if_neg (by rw [z1]; decide), if_neg (by rw [z2]; decide), if_pos z3]
      show (toldE T n 17 (nI 0) (nI 59) (numE T n (nI 0) (w 1 - nI 1) (.inr (advS T n ts.1))).2).2 = _
      rw [y]; rfl
    rw [up_up]
    refine bX5_habit_82.go rfl trivial ?_
    intro h hp
    refine J.new (C := RX12) (T := TX12) (N := 3) (ty := tyX12) (ci := 12) (fs := [.int 0, .int 0, .int 0]) hp.1.2 clsX12 rfl q1056 q1057 q158 (by decide +kernel) ⟨by show 0 + 1 + 1 ≤ 4; omega, by show 0 + 8 + 3 ≤ 27; omega⟩ dX5_habit_83 (fun q hq => ?_)
    have hzq := (hp.nsk hq).2.2
    have hqt := (hp.nsk hq).2.1
    refine (show JS SP X mX5_habit (rmOf mX5_habit.lv 4 27) _ _ _ 86 _ _ _ from ?_) _ (hp.frz0 hq)
    refine bX5_habit_86.go rfl trivial ?_
    refine js_ldcS (tx := "is") (i := 17) hK (by decide +kernel) dX5_habit_90 ?_
    refine bX5_habit_92.go rfl trivial ?_
    refine sp_told (i := 17) hC (by decide) (by rw [va_up_self]; exact hg3) w3 hn q757 dX5_habit_95 (by decide) rfl ⟨by show 0 + 1 + 1 + 2 ≤ 4; omega, by show 0 + 8 + 3 + 16 ≤ 27; omega⟩ (fun v4 t4 g4 e4 w4 hg4 => ?_) (fun a h' q => sp_out hX rfl ((q.thaw hzq).mono (fun k p y => ?_)))
    rotate_left
    · rw [habE, if_neg (by rw [z1]; decide), if_neg (by rw [z2]; decide), if_pos z3]
      show (toldE T n 17 (nI 0) (nI 59) (numE T n (nI 0) (w 1 - nI 1) (.inr (advS T n ts.1))).2).2 = _
      rw [e3]; exact y
    rw [up_up]
    have eh : habE T n i (.inr ts) w = hab2 T n i (nI 2) (v3, .inr t3) (v4, .inr t4) w := by
      rw [habE, if_neg (by rw [z1]; decide), if_neg (by rw [z2]; decide), if_pos z3]
      show hab2 T n i (nI 2) (numE T n (nI 0) (w 1 - nI 1) (.inr (advS T n ts.1))) (toldE T n 17 (nI 0) (nI 59) (numE T n (nI 0) (w 1 - nI 1) (.inr (advS T n ts.1))).2) w = _
      rw [e3]
      show hab2 T n i (nI 2) (v3, .inr t3) (toldE T n 17 (nI 0) (nI 59) (.inr t3)) w = _
      rw [e4]
    intro h2 hp2
    refine J.callI (M' := mX12_init) (As := [.int c, .int v3, .int v4]) (mc := 0) (ms := 0) (ok_X12_init hp2.nfz.1) rfl (fun o h' q => ⟨_, q.1⟩) dX5_habit_98 q1061 q158 q1059 q1060 rfl hy_X12_init (by decide) ⟨by show 0 + 1 + 1 + 2 + 0 ≤ 4; omega, by show 0 + 8 + 3 + 16 + 0 ≤ 27; omega⟩ (Nat.le_of_ble_eq_true rfl) (fun v h3 q0 => ?_)
    obtain ⟨q0, rfl⟩ := q0
    cases q0
    have hp3 := hp2.frz1 (e := hbL 2 (fun j => match j with | 0 => c | 1 => v3 | _ => v4)) hqt
    refine sp_aret dX5_habit_101 rfl (Or.inl ⟨_, rfl⟩) ⟨q, 2, fun j => match j with | 0 => c | 1 => v3 | _ => v4, g4, t4, rfl, ⟨hzq, hqt⟩, rfl, ?_, w4, hg4, ?_, by decide⟩ (by show 0 + 1 + 1 + 2 + 0 ≤ 4; omega) (by show 0 + 8 + 3 + 16 + 0 ≤ 27; omega) _ hp3
    · rw [eh]; rfl
    · rw [eh]; simp only [hab2, hbR, hbL, up_at, hwi, n01, n02, n03, n04, n05, n12, n13, n14, n15, n23, n24, n25, n34, n35, n45, a1, a2, a3, b12, b13, b23, if_true, if_false]
  rw [b2_0] at z3
  rw [if_neg (by rw [z3]; decide)] at et
  rw [et] at hg1
  clear hg w1 et
  have hg := hg1
  clear hg1 t1
  refine bX5_habit_102.go rfl trivial ?_
  refine js_ldcS (tx := "with") (i := 18) hK (by decide +kernel) dX5_habit_103 ?_
  refine sp_takes (i := 18) hC (by decide) (by rw [va_up_self]; exact hg) hts hn q665 dX5_habit_105 (by decide) rfl (fun g4 t1 et w1 hg1 => ?_)
  rw [up_up]
  refine j_if_eq (tgt := 127) dX5_habit_108 (by decide) (fun z4 => ?_) (fun z4 => ?_)
  rotate_left
  · rw [b2_n0] at z4
    rw [if_pos z4] at et
    rw [et] at hg1 w1
    intro h hp
    refine J.new (C := RX13) (T := TX13) (N := 2) (ty := tyX13) (ci := 13) (fs := [.int 0, .int 0]) hp.1.2 clsX13 rfl q1072 q1073 q159 (by decide +kernel) ⟨by show 0 + 1 ≤ 4; omega, by show 0 + 2 ≤ 27; omega⟩ dX5_habit_111 (fun q hq => ?_)
    have hzq := (hp.nsk hq).2.2
    have hqt := (hp.nsk hq).2.1
    refine (show JS SP X mX5_habit (rmOf mX5_habit.lv 4 27) _ _ _ 114 _ _ _ from ?_) _ (hp.frz0 hq)
    refine bX5_habit_114.go rfl trivial ?_
    refine sp_num hC (by rw [va_up_self]; exact hg1) w1 hn q761 dX5_habit_120 (by decide) rfl ⟨by show 0 + 1 + 1 ≤ 4; omega, by show 0 + 2 + 8 ≤ 27; omega⟩ (fun v3 t3 g3 e3 w3 hg3 => ?_) (fun a h' q => sp_out hX rfl ((q.thaw hzq).mono (fun k p y => ?_)))
    rotate_left
    · rw [habE, if_neg (by rw [z1]; decide), if_neg (by rw [z2]; decide), if_neg (by rw [z3]; decide), if_pos z4]
      show (numE T n (nI 0) (nI 7) (.inr (advS T n ts.1))).2 = _
      exact y
    rw [up_up]
    have eh : habE T n i (.inr ts) w = hab1 i (nI 3) (v3, .inr t3) w := by
      rw [habE, if_neg (by rw [z1]; decide), if_neg (by rw [z2]; decide), if_neg (by rw [z3]; decide), if_pos z4]
      show hab1 i (nI 3) (numE T n (nI 0) (nI 7) (.inr (advS T n ts.1))) w = _
      rw [e3]
    intro h2 hp2
    refine J.callI (M' := mX13_init) (As := [.int c, .int v3]) (mc := 0) (ms := 0) (ok_X13_init hp2.nfz.1) rfl (fun o h' q => ⟨_, q.1⟩) dX5_habit_123 q1076 q159 q1074 q1075 rfl hy_X13_init (by decide) ⟨by show 0 + 1 + 1 + 0 ≤ 4; omega, by show 0 + 2 + 8 + 0 ≤ 27; omega⟩ (Nat.le_of_ble_eq_true rfl) (fun v h3 q0 => ?_)
    obtain ⟨q0, rfl⟩ := q0
    cases q0
    have hp3 := hp2.frz1 (e := hbL 3 (fun j => match j with | 0 => c | 1 => v3 | _ => v3)) hqt
    refine sp_aret dX5_habit_126 rfl (Or.inl ⟨_, rfl⟩) ⟨q, 3, fun j => match j with | 0 => c | 1 => v3 | _ => v3, g3, t3, rfl, ⟨hzq, hqt⟩, rfl, ?_, w3, hg3, ?_, by decide⟩ (by show 0 + 1 + 1 + 0 ≤ 4; omega) (by show 0 + 2 + 8 + 0 ≤ 27; omega) _ hp3
    · rw [eh]; rfl
    · rw [eh]; simp only [hab1, hbR, hbL, up_at, hwi, n01, n02, n03, n04, n05, n12, n13, n14, n15, n23, n24, n25, n34, n35, n45, a1, a2, a3, b12, b13, b23, if_true, if_false]
  rw [b2_0] at z4
  rw [if_neg (by rw [z4]; decide)] at et
  rw [et] at hg1
  clear hg w1 et
  have hg := hg1
  clear hg1 t1
  refine bX5_habit_127.go rfl trivial ?_
  refine js_ldcS (tx := "unless") (i := 19) hK (by decide +kernel) dX5_habit_128 ?_
  refine sp_takes (i := 19) hC (by decide) (by rw [va_up_self]; exact hg) hts hn q665 dX5_habit_130 (by decide) rfl (fun g5 t1 et w1 hg1 => ?_)
  rw [up_up]
  refine j_if_eq (tgt := 152) dX5_habit_133 (by decide) (fun z5 => ?_) (fun z5 => ?_)
  rotate_left
  · rw [b2_n0] at z5
    rw [if_pos z5] at et
    rw [et] at hg1 w1
    intro h hp
    refine J.new (C := RX14) (T := TX14) (N := 2) (ty := tyX14) (ci := 14) (fs := [.int 0, .int 0]) hp.1.2 clsX14 rfl q1084 q1085 q160 (by decide +kernel) ⟨by show 0 + 1 ≤ 4; omega, by show 0 + 2 ≤ 27; omega⟩ dX5_habit_136 (fun q hq => ?_)
    have hzq := (hp.nsk hq).2.2
    have hqt := (hp.nsk hq).2.1
    refine (show JS SP X mX5_habit (rmOf mX5_habit.lv 4 27) _ _ _ 139 _ _ _ from ?_) _ (hp.frz0 hq)
    refine bX5_habit_139.go rfl trivial ?_
    refine sp_num hC (by rw [va_up_self]; exact hg1) w1 hn q761 dX5_habit_145 (by decide) rfl ⟨by show 0 + 1 + 1 ≤ 4; omega, by show 0 + 2 + 8 ≤ 27; omega⟩ (fun v3 t3 g3 e3 w3 hg3 => ?_) (fun a h' q => sp_out hX rfl ((q.thaw hzq).mono (fun k p y => ?_)))
    rotate_left
    · rw [habE, if_neg (by rw [z1]; decide), if_neg (by rw [z2]; decide), if_neg (by rw [z3]; decide), if_neg (by rw [z4]; decide), if_pos z5]
      show (numE T n (nI 0) (nI 7) (.inr (advS T n ts.1))).2 = _
      exact y
    rw [up_up]
    have eh : habE T n i (.inr ts) w = hab1 i (nI 4) (v3, .inr t3) w := by
      rw [habE, if_neg (by rw [z1]; decide), if_neg (by rw [z2]; decide), if_neg (by rw [z3]; decide), if_neg (by rw [z4]; decide), if_pos z5]
      show hab1 i (nI 4) (numE T n (nI 0) (nI 7) (.inr (advS T n ts.1))) w = _
      rw [e3]
    intro h2 hp2
    refine J.callI (M' := mX14_init) (As := [.int c, .int v3]) (mc := 0) (ms := 0) (ok_X14_init hp2.nfz.1) rfl (fun o h' q => ⟨_, q.1⟩) dX5_habit_148 q1088 q160 q1086 q1087 rfl hy_X14_init (by decide) ⟨by show 0 + 1 + 1 + 0 ≤ 4; omega, by show 0 + 2 + 8 + 0 ≤ 27; omega⟩ (Nat.le_of_ble_eq_true rfl) (fun v h3 q0 => ?_)
    obtain ⟨q0, rfl⟩ := q0
    cases q0
    have hp3 := hp2.frz1 (e := hbL 4 (fun j => match j with | 0 => c | 1 => v3 | _ => v3)) hqt
    refine sp_aret dX5_habit_151 rfl (Or.inl ⟨_, rfl⟩) ⟨q, 4, fun j => match j with | 0 => c | 1 => v3 | _ => v3, g3, t3, rfl, ⟨hzq, hqt⟩, rfl, ?_, w3, hg3, ?_, by decide⟩ (by show 0 + 1 + 1 + 0 ≤ 4; omega) (by show 0 + 2 + 8 + 0 ≤ 27; omega) _ hp3
    · rw [eh]; rfl
    · rw [eh]; simp only [hab1, hbR, hbL, up_at, hwi, n01, n02, n03, n04, n05, n12, n13, n14, n15, n23, n24, n25, n34, n35, n45, a1, a2, a3, b12, b13, b23, if_true, if_false]
  rw [b2_0] at z5
  rw [if_neg (by rw [z5]; decide)] at et
  rw [et] at hg1
  clear hg w1 et
  have hg := hg1
  clear hg1 t1
  intro h hp
  refine J.new (C := RX15) (T := TX15) (N := 2) (ty := tyX15) (ci := 15) (fs := [.int 0, .int 0]) hp.1.2 clsX15 rfl q1093 q1094 q161 (by decide +kernel) ⟨by show 0 + 1 ≤ 4; omega, by show 0 + 2 ≤ 27; omega⟩ dX5_habit_152 (fun q hq => ?_)
  have hzq := (hp.nsk hq).2.2
  have hqt := (hp.nsk hq).2.1
  refine (show JS SP X mX5_habit (rmOf mX5_habit.lv 4 27) _ _ _ 155 _ _ _ from ?_) _ (hp.frz0 hq)
  refine bX5_habit_155.go rfl trivial ?_
  refine js_ldcS (tx := "maybe") (i := 20) hK (by decide +kernel) dX5_habit_158 ?_
  refine bX5_habit_160.go rfl trivial ?_
  refine sp_told (i := 20) hC (by decide) (by rw [va_up_self]; exact hg) hts hn q757 dX5_habit_163 (by decide) rfl ⟨by show 0 + 1 + 2 ≤ 4; omega, by show 0 + 2 + 16 ≤ 27; omega⟩ (fun v3 t3 g3 e3 w3 hg3 => ?_) (fun a h' q => sp_out hX rfl ((q.thaw hzq).mono (fun k p y => ?_)))
  rotate_left
  · rw [habE, if_neg (by rw [z1]; decide), if_neg (by rw [z2]; decide), if_neg (by rw [z3]; decide), if_neg (by rw [z4]; decide), if_neg (by rw [z5]; decide)]
    show (toldE T n 20 (nI 0) (nI 100) (.inr ts)).2 = _
    exact y
  rw [up_up]
  have eh : habE T n i (.inr ts) w = hab1 i (nI 5) (v3, .inr t3) w := by
    rw [habE, if_neg (by rw [z1]; decide), if_neg (by rw [z2]; decide), if_neg (by rw [z3]; decide), if_neg (by rw [z4]; decide), if_neg (by rw [z5]; decide)]
    show hab1 i (nI 5) (toldE T n 20 (nI 0) (nI 100) (.inr ts)) w = _
    rw [e3]
  intro h2 hp2
  refine J.callI (M' := mX15_init) (As := [.int c, .int v3]) (mc := 0) (ms := 0) (ok_X15_init hp2.nfz.1) rfl (fun o h' q => ⟨_, q.1⟩) dX5_habit_166 q1098 q161 q1096 q1097 rfl hy_X15_init (by decide) ⟨by show 0 + 1 + 2 + 0 ≤ 4; omega, by show 0 + 2 + 16 + 0 ≤ 27; omega⟩ (Nat.le_of_ble_eq_true rfl) (fun v h3 q0 => ?_)
  obtain ⟨q0, rfl⟩ := q0
  cases q0
  have hp3 := hp2.frz1 (e := hbL 5 (fun j => match j with | 0 => c | 1 => v3 | _ => v3)) hqt
  refine sp_aret dX5_habit_169 rfl (Or.inl ⟨_, rfl⟩) ⟨q, 5, fun j => match j with | 0 => c | 1 => v3 | _ => v3, g3, t3, rfl, ⟨hzq, hqt⟩, rfl, ?_, w3, hg3, ?_, by decide⟩ (by show 0 + 1 + 2 + 0 ≤ 4; omega) (by show 0 + 2 + 16 + 0 ≤ 27; omega) _ hp3
  · rw [eh]; rfl
  · rw [eh]; simp only [hab1, hbR, hbL, up_at, hwi, n01, n02, n03, n04, n05, n12, n13, n14, n15, n23, n24, n25, n34, n35, n45, a1, a2, a3, b12, b13, b23, if_true, if_false]
end Hab
