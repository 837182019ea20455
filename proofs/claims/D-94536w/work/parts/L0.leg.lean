set_option maxRecDepth 100000
/-! ===== UnseenClock$Reader: latest, way, leg ===== -/
section SpT
variable {X : Cx} {M : MD} {R : Room} {Z : ZT} {k m pc idx cnt : Nat} {L : List (Option Value)} {st : List Value} {hz : AH} {tp n p : Nat} {T w w' : Nat → Int32} {sk : Nat → Nat} {S S' : Nat → Nat → Int32} {N : Nat → Nat} {aK aV : Nat → Nat} {ts : TS} {kd : Int32} {l ed cap cc b : Nat}
theorem sp_throw (hC : RdC X aK aV T) (hg : TokG (S 120) n ts) (hlink : Cond.methodLink M.y.cls idx yX5_fault ∈ lw_all) (hd : decode M.cc pc = .ok (.invokevirtual idx, 3)) (hd2 : decode M.cc (pc + 3) = .ok (.athrow, 1)) (hR : 7 ≤ M.lv) (hf : k + 1 ≤ R.cells ∧ m + 8 ≤ R.slots)
    (kt : ∀ a h', SQT hz (fun k p => (k, p) = (kd, ts.2.1)) RX6 a h' → JT X M R Z RX6 a (pc + 3) L h' (k + 1) (m + 8)) : JS SP X M R Z k m pc L [.int kd, .ref (sk 120)] (hz, tp, T, sk, S, N) := by
  intro h hp
  exact jthrow hC.2.1 hC.2.2.1 hg.2.2.1 hlink hd hd2 hR hf (fun a x' h' q hp' => kt a h' (hp.sqt (q.rqt hp' rfl))) h hp.rp
abbrev xEmp : MethodName := ⟨"java/util/List", "isEmpty", "()Z"⟩
theorem hy_xEmp : xEmp.cls ≠ "java/lang/invoke/MethodHandle" ∧ xEmp.cls ≠ "java/lang/invoke/VarHandle" ∧ (parseMethodDescriptor xEmp.desc).map (fun d => d.parameters.length) = some 0 := by decide +kernel
theorem sp_emp (hl : LsN l ed cap cc b N) (hd : decode M.cc pc = .ok (.invokeinterface idx cnt, 5)) (hG : GoodIn lw_all (va_wsF M.y.cls idx RJ2 xEmp mJ2_isEmpty.y (ws_ mJ2_isEmpty.y mJ2_isEmpty.cc mJ2_isEmpty.nL mJ2_isEmpty.ret))) (hR : mJ2_isEmpty.lv + 1 ≤ M.lv) (hst : wt8 st = true) (kk : JS SP X M R Z k m (pc + 5) L (.int (b2 (decide (N cc = 0))) :: st) (hz, tp, T, sk, S, N)) : JS SP X M R Z k m pc L (.ref (sk l) :: st) (hz, tp, T, sk, S, N) := by
  intro h hp p e s m args below meth c B rk H locs ls hW hS hL
  refine J.callF (M' := mJ2_isEmpty) (x := xEmp) (As := []) (mc := 0) (ms := 0) hp.1.1 (ok_isEmpty (hp.ls hl)) (fun o h' q => ⟨_, q.1⟩) (hp.ls9 hl).1 hd hG (List.mem_of_getElem? (i := 3) rfl) hy_xEmp ⟨hR, by decide⟩ ⟨rk.2.2.1, rk.2.2.2⟩ (Nat.le_of_ble_eq_true hst) (fun v h' q => ?_) p e s m args below meth c B rk H locs ls hW hS hL
  obtain ⟨q1, rfl⟩ := q
  cases q1
  exact kk _ hp
theorem SP.prs {h : AH} (hp : SP X (hz, tp, T, sk, S, N) h) (hpp : p < N 1) (h8 : N 1 ≤ 8) : h (sk (30 + p)) = some (.inr (8, [.int (S (30 + p) 0), .int (S (30 + p) 1), .int (S (30 + p) 2), .ref (sk (40 + p)), .ref (sk (50 + p)), .ref (sk (60 + p)), .int (S (30 + p) 6)])) := by
  rw [hp.at (u_p (by omega) hpp h8), spc_p (by omega)]
theorem sp_pI {host : String} (hpp : p < N 1) (h8 : N 1 ≤ 8) (hl : Cond.fieldLinkNest M.y.cls idx (TX8 6).1 (TX8 6).2.1 (TX8 6).2.2.1 host ∈ nwL) (hd : decode M.cc pc = .ok (.getfield idx, 3)) (kk : JS SP X M R Z k m (pc + 3) L (.int (S (30 + p) 6) :: st) (hz, tp, T, sk, S, N)) : JS SP X M R Z k m pc L (.ref (sk (30 + p)) :: st) (hz, tp, T, sk, S, N) := by
  intro h hp
  exact J.getfN (f := 6) hp.1.1 clsX8 rfl (hp.prs hpp h8) (by decide) rfl hl hd (kk _ hp)
theorem sp_pR {host : String} {f : Nat} (hf : (f == 3 || f == 4 || f == 5) = true) (hpp : p < N 1) (h8 : N 1 ≤ 8) (hl : Cond.fieldLinkNest M.y.cls idx (TX8 f).1 (TX8 f).2.1 (TX8 f).2.2.1 host ∈ nwL) (hd : decode M.cc pc = .ok (.getfield idx, 3)) (kk : JS SP X M R Z k m (pc + 3) L (.ref (sk (10 * f + 10 + p)) :: st) (hz, tp, T, sk, S, N)) : JS SP X M R Z k m pc L (.ref (sk (30 + p)) :: st) (hz, tp, T, sk, S, N) := by
  intro h hp
  simp only [Bool.or_eq_true, beq_iff_eq] at hf
  rcases hf with (rfl | rfl) | rfl <;> exact J.getfN hp.1.1 clsX8 rfl (hp.prs hpp h8) (by decide) rfl hl hd (kk _ hp)
theorem sp_pP {host : String} {v : Int32} (hpp : p < N 1) (h8 : N 1 ≤ 8) (hl : Cond.fieldLinkNest M.y.cls idx (TX8 6).1 (TX8 6).2.1 (TX8 6).2.2.1 host ∈ nwL) (hd : decode M.cc pc = .ok (.putfield idx, 3)) (kk : JS SP X M R Z k m (pc + 3) L st (hz, tp, T, sk, upA S (30 + p) 6 v, N)) : JS SP X M R Z k m pc L (.int v :: .ref (sk (30 + p)) :: st) (hz, tp, T, sk, S, N) := by
  intro h hp
  refine J.putfN (f := 6) hp.1.1 clsX8 rfl (hp.prs hpp h8) (by decide) (Nat.le_of_ble_eq_true rfl) rfl rfl rfl hl hd ?_
  have := hp.upd (i := 30 + p) (S' := upA S (30 + p) 6 v) (u_p (by omega) hpp h8) (fun j hj => upA_ne hj)
  rw [spc_p (by omega), upA_s] at this
  exact kk _ this
theorem sp_pA {i j : Nat} {v : Int32} (hi : i = 40 + p ∨ i = 50 + p) (hpp : p < N 1) (h8 : N 1 ≤ 8) (hj : j < 6) (hd : decode M.cc pc = .ok (.iastore, 1)) (kk : JS SP X M R Z k m (pc + 1) L st (hz, tp, T, sk, upA S i j v, N)) : JS SP X M R Z k m pc L (.int v :: .int (nI j) :: .ref (sk i) :: st) (hz, tp, T, sk, S, N) := by
  intro h hp
  have hu : SpU N i := by
    rcases hi with rfl | rfl
    · exact u_p (by omega) hpp h8
    · exact u_p (by omega) hpp h8
  have ha := hp.at hu
  rw [spc_a (by omega) (by omega)] at ha
  refine J.iast ha (vp_in_nI (by omega) (by decide)) hd ?_
  rw [nI_clamp (by omega)]
  have := hp.upd (i := i) (S' := upA S i j v) hu (fun j hj => upA_ne hj)
  rw [spc_a (by omega) (by omega), upA_s] at this
  exact kk _ this
theorem bX5_latest_0 : Blk SP mX5_latest 0 7 [oAL 0, pRs, pSR 1] := blk_c (s_aload_n dX5_latest_0 rfl) <| blk_c (p_Rs q632 dX5_latest_1) <| blk_c (p_SR (f := 1) (by decide) nq432 dX5_latest_4) <| blk_nil
theorem bX5_latest_15 : Blk SP mX5_latest 15 17 [oAL 0, oC (nI 2)] := blk_c (s_aload_n dX5_latest_15 rfl) <| blk_c (s_iconst dX5_latest_16 (by decide +kernel)) <| blk_nil
theorem bX5_latest_21 : Blk SP mX5_latest 21 35 [oAL 0, pRs, pSR 1, oAL 0, pRs, pSR 1] := blk_c (s_aload_n dX5_latest_21 rfl) <| blk_c (p_Rs q632 dX5_latest_22) <| blk_c (p_SR (f := 1) (by decide) nq432 dX5_latest_25) <| blk_c (s_aload_n dX5_latest_28 rfl) <| blk_c (p_Rs q632 dX5_latest_29) <| blk_c (p_SR (f := 1) (by decide) nq432 dX5_latest_32) <| blk_nil
theorem bX5_latest_40 : Blk SP mX5_latest 40 42 [oC (nI 1), oSub] := blk_c (s_iconst dX5_latest_40 (by decide +kernel)) <| blk_c (s_isub dX5_latest_41) <| blk_nil
/-- the latest person -/
theorem ok_latestS (hC : RdC X aK aV T) (h8 : N 1 ≤ 8) (hg : TokG (S 120) n ts) : SPX X mX5_latest 1 8 [.ref (sk 120)] (hz, tp, T, sk, S, N) (fun r x' => 0 < N 1 ∧ r = some (.ref (sk (30 + (N 1 - 1)))) ∧ x' = (hz, tp, T, sk, S, N)) (fun k p => N 1 = 0 ∧ (k, p) = (nI 2, ts.2.1)) := by
  refine SPX_start (L := [some (.ref (sk 120))]) 0 rfl ?_
  refine bX5_latest_0.go rfl (by repeat' first | exact trivial | rfl | assumption | omega | apply And.intro) ?_
  refine sp_emp (lsn2 h8) dX5_latest_7 (lw_F q994 q997 q999 q136 q1001) (by decide) rfl ?_
  refine j_if_eq (tgt := 21) dX5_latest_12 (by decide) (fun z => ?_) (fun z => ?_)
  · rw [b2_0, decide_eq_false_iff_not] at z
    refine bX5_latest_21.go rfl (by repeat' first | exact trivial | rfl | assumption | omega | apply And.intro) ?_
    refine sp_size (lsn2 h8) dX5_latest_35 (lw_F q832 q803 q805 q136 q807) (by decide) rfl ?_
    refine bX5_latest_40.go rfl trivial ?_
    rw [pk_sub (by omega)]
    refine sp_get (lsn2 h8) (i := N 1 - 1) (by omega) dX5_latest_42 (lw_F q1003 q812 q814 q136 q816) (by decide) rfl ?_
    intro h hp
    refine J.castS (ci := 8) (hp.prs (by omega) h8) rfl q944 dX5_latest_47 ?_
    exact sp_aret dX5_latest_50 rfl (Or.inl ⟨_, rfl⟩) ⟨by omega, rfl, rfl⟩ (by omega) (by omega) h hp
  · rw [b2_n0, decide_eq_true_eq] at z
    refine bX5_latest_15.go rfl trivial ?_
    exact sp_throw hC hg q721 dX5_latest_17 dX5_latest_20 (by decide) ⟨by show 0 + 1 ≤ 1; omega, by show 0 + 8 ≤ 8; omega⟩ (fun a h' q => sp_out hC.1 rfl (q.mono (fun k p y => ⟨z, y⟩)))
theorem bX5_way_0 : Blk SP mX5_way 0 1 [oAL 0] := blk_c (s_aload_n dX5_way_0 rfl) <| blk_nil
theorem bX5_way_9 : Blk SP mX5_way 9 53 [oC (nI 0), .inl (fun s => some s)] := blk_c (s_iconst dX5_way_9 (by decide +kernel)) <| blk_c (s_goto (tgt := 53) dX5_way_10 (by decide)) <| blk_nil
theorem bX5_way_13 : Blk SP mX5_way 13 14 [oAL 0] := blk_c (s_aload_n dX5_way_13 rfl) <| blk_nil
theorem bX5_way_22 : Blk SP mX5_way 22 53 [oC (nI 1), .inl (fun s => some s)] := blk_c (s_iconst dX5_way_22 (by decide +kernel)) <| blk_c (s_goto (tgt := 53) dX5_way_23 (by decide)) <| blk_nil
theorem bX5_way_26 : Blk SP mX5_way 26 27 [oAL 0] := blk_c (s_aload_n dX5_way_26 rfl) <| blk_nil
theorem bX5_way_35 : Blk SP mX5_way 35 53 [oC (nI 2), .inl (fun s => some s)] := blk_c (s_iconst dX5_way_35 (by decide +kernel)) <| blk_c (s_goto (tgt := 53) dX5_way_36 (by decide)) <| blk_nil
theorem bX5_way_39 : Blk SP mX5_way 39 40 [oAL 0] := blk_c (s_aload_n dX5_way_39 rfl) <| blk_nil
theorem bX5_way_48 : Blk SP mX5_way 48 53 [oC (nI 3), .inl (fun s => some s)] := blk_c (s_iconst dX5_way_48 (by decide +kernel)) <| blk_c (s_goto (tgt := 53) dX5_way_49 (by decide)) <| blk_nil
theorem bX5_way_52 : Blk SP mX5_way 52 53 [oC (-1)] := blk_c (s_iconst dX5_way_52 (by decide +kernel)) <| blk_nil
theorem bX5_way_53 : Blk SP mX5_way 53 56 [oIS 1, oIL 1, oC (-1)] := blk_c (s_istore_n dX5_way_53 rfl (by decide)) <| blk_c (s_iload_n dX5_way_54 rfl) <| blk_c (s_iconst dX5_way_55 (by decide +kernel)) <| blk_nil
theorem bX5_way_59 : Blk SP mX5_way 59 61 [oAL 0, oC (nI 1)] := blk_c (s_aload_n dX5_way_59 rfl) <| blk_c (s_iconst dX5_way_60 (by decide +kernel)) <| blk_nil
theorem bX5_way_65 : Blk SP mX5_way 65 66 [oAL 0] := blk_c (s_aload_n dX5_way_65 rfl) <| blk_nil
theorem bX5_way_69 : Blk SP mX5_way 69 70 [oIL 1] := blk_c (s_iload_n dX5_way_69 rfl) <| blk_nil
theorem ok_wayS (hC : RdC X aK aV T) (hg : TokG (S 120) n ts) (hts : TsW T n ts) (hn : n ≤ 2400) : SPX X mX5_way 1 8 [.ref (sk 120)] (hz, tp, T, sk, S, N) (fun r x' => ¬ wayE T (.inr ts) = -1 ∧ r = some (.int (wayE T (.inr ts))) ∧ ∃ g, x' = (hz, tp, T, sk, va_up S 120 g, N) ∧ TokG g n (advS T n ts.1)) (fun k p => wayE T (.inr ts) = -1 ∧ (k, p) = (nI 1, ts.2.1)) := by
  have hX := hC.1
  have hK := hC.2.2.2.1
  refine SPX_start (L := [some (.ref (sk 120)), none]) 1 rfl ?_
  have j53 : ∀ v, v = wayE T (.inr ts) → JS SP X mX5_way (rmOf mX5_way.lv 1 8) (ZSX X 1 8 hz (fun r x' => ¬ wayE T (.inr ts) = -1 ∧ r = some (.int (wayE T (.inr ts))) ∧ ∃ g, x' = (hz, tp, T, sk, va_up S 120 g, N) ∧ TokG g n (advS T n ts.1)) (fun k p => wayE T (.inr ts) = -1 ∧ (k, p) = (nI 1, ts.2.1))) 0 0 53 [some (.ref (sk 120)), none] [.int v] (hz, tp, T, sk, S, N) := by
    rintro v rfl
    refine bX5_way_53.go rfl trivial ?_
    refine j_icmp_ne (tgt := 65) dX5_way_56 (by decide) (fun z => ?_) (fun z => ?_)
    · refine bX5_way_65.go rfl trivial ?_
      refine sp_next hC hg hts hn q617 dX5_way_66 (by decide) rfl (fun g w1 hg1 => ?_)
      refine bX5_way_69.go rfl trivial ?_
      exact sp_iret dX5_way_70 rfl ⟨z, rfl, g, rfl, hg1⟩
    · refine bX5_way_59.go rfl trivial ?_
      exact sp_throw hC hg q721 dX5_way_61 dX5_way_64 (by decide) ⟨by show 0 + 1 ≤ 1; omega, by show 0 + 8 ≤ 8; omega⟩ (fun a h' q => sp_out hX rfl (q.mono (fun k p y => ⟨z, y⟩)))
  refine bX5_way_0.go rfl trivial ?_
  refine js_ldcS (tx := "north") (i := 9) hK (by decide +kernel) dX5_way_1 ?_
  refine sp_is (i := 9) hC (by decide) hg hts hn q669 dX5_way_3 (by decide) rfl ?_
  refine j_if_eq (tgt := 13) dX5_way_6 (by decide) (fun z1 => ?_) (fun z1 => ?_)
  rotate_left
  · rw [b2_n0] at z1
    refine bX5_way_9.go rfl trivial ?_
    exact j53 _ (by rw [wayE, if_pos z1])
  rw [b2_0] at z1
  refine bX5_way_13.go rfl trivial ?_
  refine js_ldcS (tx := "east") (i := 10) hK (by decide +kernel) dX5_way_14 ?_
  refine sp_is (i := 10) hC (by decide) hg hts hn q669 dX5_way_16 (by decide) rfl ?_
  refine j_if_eq (tgt := 26) dX5_way_19 (by decide) (fun z2 => ?_) (fun z2 => ?_)
  rotate_left
  · rw [b2_n0] at z2
    refine bX5_way_22.go rfl trivial ?_
    exact j53 _ (by rw [wayE, if_neg (by rw [z1]; decide), if_pos z2])
  rw [b2_0] at z2
  refine bX5_way_26.go rfl trivial ?_
  refine js_ldcS (tx := "south") (i := 11) hK (by decide +kernel) dX5_way_27 ?_
  refine sp_is (i := 11) hC (by decide) hg hts hn q669 dX5_way_29 (by decide) rfl ?_
  refine j_if_eq (tgt := 39) dX5_way_32 (by decide) (fun z3 => ?_) (fun z3 => ?_)
  rotate_left
  · rw [b2_n0] at z3
    refine bX5_way_35.go rfl trivial ?_
    exact j53 _ (by rw [wayE, if_neg (by rw [z1]; decide), if_neg (by rw [z2]; decide), if_pos z3])
  rw [b2_0] at z3
  refine bX5_way_39.go rfl trivial ?_
  refine js_ldcS (tx := "west") (i := 12) hK (by decide +kernel) dX5_way_40 ?_
  refine sp_is (i := 12) hC (by decide) hg hts hn q669 dX5_way_42 (by decide) rfl ?_
  refine j_if_eq (tgt := 52) dX5_way_45 (by decide) (fun z4 => ?_) (fun z4 => ?_)
  rotate_left
  · rw [b2_n0] at z4
    refine bX5_way_48.go rfl trivial ?_
    exact j53 _ (by rw [wayE, if_neg (by rw [z1]; decide), if_neg (by rw [z2]; decide), if_neg (by rw [z3]; decide), if_pos z4])
  rw [b2_0] at z4
  refine bX5_way_52.go rfl trivial ?_
  exact j53 _ (by rw [wayE, if_neg (by rw [z1]; decide), if_neg (by rw [z2]; decide), if_neg (by rw [z3]; decide), if_neg (by rw [z4]; decide)])
end SpT
