set_option maxRecDepth 100000
/-! ===== habits: fields, now, odds; calls by table ===== -/
section HabC0
variable {X : Cx} {M M' : MD} {R : Room} {Z : ZT} {k n pc idx : Nat} {L : List (Option Value)} {st As : List Value} {ad : Nat → Nat} {A : Nat → Nat → Int32} {B : Nat → Nat → Int64} {sk : Nat → Nat → Nat} {sw : Nat → Nat → Int32} {E : Nat → Nat} {v : Nat → Nat} {p i : Nat}
theorem CP.hab {h : AH} (hp : CP X (ad, A, B, sk, sw, E) h) {j : Nat} (hs : SqL E j) (h1 : p < nP (sw j)) (h2 : i < nL (sw j) p) : h (sk j (80 + 4 * p + i)) = some (hbC (sw j) p i) := ((hp.sq hs).1.2.2.2.2.2 p h1).2.2.2.2.1 i h2
/-- a field of a habit -/
theorem js_hab {C : String} {T : u_T} {N ci f : Nat} {ty : Nat → FieldType} {fs : List Value} {u : Value} (hk : hbC (sw 1) p i = .inr (ci, fs)) (hs : SqL E 1) (h1 : p < nP (sw 1)) (h2 : i < nL (sw 1) p) (hC : ClsOK C T N ty) (hc : vwCl[ci]? = some (C, T, N)) (hf : f < N) (hv : fs[f]? = some u) (hl : Lk M idx (T f)) (hd : decode M.cc pc = .ok (.getfield idx, 3)) (kk : JS CP X M R Z k n (pc + 3) L (u :: st) (ad, A, B, sk, sw, E)) : JS CP X M R Z k n pc L (.ref (sk 1 (80 + 4 * p + i)) :: st) (ad, A, B, sk, sw, E) :=
  fun h hp => J.getfE hp.1.1 hC hc ((hp.hab hs h1 h2).trans (congrArg some hk)) hf hv hl hd (kk h hp)
/-- a field of a habit, told by a subclass -/
theorem js_habS {C ref : String} {T : u_T} {N ci f : Nat} {ty : Nat → FieldType} {fs : List Value} {u : Value} (hk : hbC (sw 1) p i = .inr (ci, fs)) (hs : SqL E 1) (h1 : p < nP (sw 1)) (h2 : i < nL (sw 1) p) (hC : ClsOK C T N ty) (hc : vwCl[ci]? = some (C, T, N)) (hf : f < N) (hv : fs[f]? = some u) (hl : Cond.fieldLink M.y.cls idx ref (T f).2.1 (T f).2.2.1 ∈ lw_all) (hsf : Cond.sameField ref (T f).1 (T f).2.1 (T f).2.2.1 ∈ lw_all) (hd : decode M.cc pc = .ok (.getfield idx, 3)) (kk : JS CP X M R Z k n (pc + 3) L (u :: st) (ad, A, B, sk, sw, E)) : JS CP X M R Z k n pc L (.ref (sk 1 (80 + 4 * p + i)) :: st) (ad, A, B, sk, sw, E) :=
  fun h hp => J.getfS hC hc ((hp.hab hs h1 h2).trans (congrArg some hk)) hf hv hl hsf hd (kk h hp)
/-- a number of an array of the component -/
theorem js_ia {q N j : Nat} (ha : arrK E q = some (N, 0)) (hj : j < N) (hN : N < 100000) (hd : decode M.cc pc = .ok (.iaload, 1)) (kk : JS CP X M R Z k n (pc + 1) L (.int (A q j) :: st) (ad, A, B, sk, sw, E)) : JS CP X M R Z k n pc L (.int (nI j) :: .ref (ad q) :: st) (ad, A, B, sk, sw, E) := by
  intro h hp
  refine J.iald (hp.at q (celK_arr ha)) ((vpI (by omega)).mpr hj) hd ?_
  rw [nI_clamp (by omega)]
  exact kk h hp
/-- a row of an array of rows -/
theorem js_row {i0 base nr j t : Nat} {ty : FieldType} (ht : (tysAll X)[t]? = some (X.dA t, .array ty)) (hv : ∀ a b, celK X ad sk E i0 a b = some (rfA X t nr (fun q => if q < nr then some (ad (base + q)) else none))) (hj : j < nr) (hN : nr < 100000) (hd : decode M.cc pc = .ok (.aaload, 1)) (kk : JS CP X M R Z k n (pc + 1) L (.ref (ad (base + j)) :: st) (ad, A, B, sk, sw, E)) : JS CP X M R Z k n pc L (.int (nI j) :: .ref (ad i0) :: st) (ad, A, B, sk, sw, E) := by
  intro h hp
  refine J.aaldA ht (hp.at i0 (hv _ _)) ((vpI (by omega)).mpr hj) hd ?_
  rw [nI_clamp (by omega), if_pos hj]
  exact kk h hp
/-- super.m(..) -/
theorem J.callSU {mc ms b ci : Nat} {h : AH} {Q : Outcome → AH → Prop} {fs : List Value} {q : vw_C} (hC : Cg X M' mc ms (.ref b :: As) h Q) (hret : ∀ o h', Q o h' → ∃ v, o = .returned v) (hb : h b = some (.inr (ci, fs))) (hci : vwCl[ci]? = some q) (hd : decode M.cc pc = .ok (.invokespecial idx, 3)) (hG : GoodIn lw_all (va_wsSU M.y.cls idx M'.y (ws_ M'.y M'.cc M'.nL M'.ret)))
    (hy : M'.y.name ≠ "<init>" ∧ (parseMethodDescriptor M'.y.desc).map (fun d => d.parameters.length) = some As.length) (hR : M'.lv + 1 ≤ M.lv ∧ M'.nL ≤ 421) (hf : k + mc ≤ R.cells ∧ n + ms ≤ R.slots) (hst : (st.map fun v => v.category).sum ≤ 8)
    (kk : ∀ v h', Q (.returned v) h' → J X M R Z (pc + 3) L (v.toList ++ st) h' (k + mc) (n + ms)) : J X M R Z pc L (As.reverse ++ .ref b :: st) h k n := by
  intro p e s m args below meth c B rk H locs ls hW hS hL
  obtain ⟨ws, hP, hD, hh⟩ := id hW
  obtain ⟨q0, hq0⟩ := hh b _ hb
  refine J.after (va_runSU (C := q.1) (As := As) (rest := st) (B.2.2.2.2.2.2.2.1.1.1 ci q hci).2 ⟨B.1, B.2.1, B.2.2.2.2.1, B.2.2.2.2.2.1, B.2.2.2.2.2.2.1⟩ (hC.met hret) (va_cwSU As.length B.2.2.2.2.2.2.1 hG rfl rfl rfl hy ⟨Nat.le_trans hR.1 rk.1, by have := rk.2.1; have := hR.1; have := hR.2; simp only [rmOf]; omega⟩) ⟨Cg.blind, va_recv B.2.2.2.2.2.2.2.1.1 hP hci hq0, J.pre B.2.2.2.2.2.2.2.1 hW hS (.ref b :: As)⟩ rfl rfl hL.1 rfl (lv_room hst) hd hf) B rk hf hS hL kk
theorem lw_SU {own : String} {y : MethodName} {bb : ByteArray} {Lo : Nat} {r : Option FieldType} (h1 : Cond.methodLink own idx y ∈ lw_all) (h2 : Cond.sameMethod y.cls y.cls y.name y.desc ∈ lw_all) (h3 : Cond.superclass own y.cls ∈ lw_all) (h4 : Cond.instanceMethod y ∈ lw_all) (h5 : Cond.initialized y.cls ∈ lw_all) (h6 : Cond.code y bb Lo r ∈ lw_all) : GoodIn lw_all (va_wsSU own idx y (ws_ y bb Lo r)) := by
  refine lw_app ?_ (lw_meth h6)
  intro w hw
  simp only [List.mem_cons, List.not_mem_nil, or_false] at hw
  rcases hw with rfl | rfl | rfl | rfl | rfl
  · exact h1
  · exact h2
  · exact h3
  · exact h4
  · exact h5
end HabC0
/-! a minute of the component's course -/
def nwI (e : Int32) : Int32 := if e = -1 then nI 1 else if e = nI 1 then nI 2 else nI 0
def mcC (A : Nat → Nat → Int32) (w : Nat → Int32) (t : Nat) : MC := (w, fun p c => seeB w p c t, fun p i => !decide (A 3 16 = 0) && !decide (A (70 + p) i = 0), fun p => A (50 + p) (t - 1), fun c => A (60 + c) (t - 1), t)
theorem nwI_b2 (b : Bool) : nwI (b2 b) = if b = true then nI 2 else nI 0 := by cases b <;> decide +kernel
theorem hbC_k {w : Nat → Int32} {p i k : Nat} (hk : lkI w p i 1 = nI k) (h5 : k ≤ 5) : hbC w p i = (if k = 0 then .inr (10, [.int (lkI w p i 0)]) else if k = 1 then .inr (11, [.int (lkI w p i 0), .int (lkI w p i 2), .int (lkI w p i 3)]) else if k = 2 then .inr (12, [.int (lkI w p i 0), .int (lkI w p i 2), .int (lkI w p i 3)]) else if k = 3 then .inr (13, [.int (lkI w p i 0), .int (lkI w p i 2)]) else if k = 4 then .inr (14, [.int (lkI w p i 0), .int (lkI w p i 2)]) else .inr (15, [.int (lkI w p i 0), .int (lkI w p i 2)])) := by
  unfold hbC
  rw [hk]
  simp only [nI_eq (show k < 2 ^ 31 by omega) (show 0 < 2 ^ 31 by omega), nI_eq (show k < 2 ^ 31 by omega) (show 1 < 2 ^ 31 by omega), nI_eq (show k < 2 ^ 31 by omega) (show 2 < 2 ^ 31 by omega), nI_eq (show k < 2 ^ 31 by omega) (show 3 < 2 ^ 31 by omega), nI_eq (show k < 2 ^ 31 by omega) (show 4 < 2 ^ 31 by omega)]
/-! by -/
theorem bX13_by_0 : Blk PE mX13_by 0 1 [oIL 1] := blk_c (s_iload_n dX13_by_0 rfl) <| blk_nil
theorem bX13_by_4 : Blk PE mX13_by 4 9 [oC (nI 2), .inl (fun s => some s)] := blk_c (s_iconst dX13_by_4 (by decide +kernel)) <| blk_c (s_goto (tgt := 9) dX13_by_5 (by decide)) <| blk_nil
theorem bX13_by_8 : Blk PE mX13_by 8 9 [oC (nI 0)] := blk_c (s_iconst dX13_by_8 (by decide +kernel)) <| blk_nil
theorem ok_by13 {X : Cx} {o : Nat} {l : Bool} (h : AH) : Cg X mX13_by 0 0 [.ref o, .int (b2 l)] h (PR (some (.int (if l = true then nI 2 else nI 0))) h) := by
  refine E_start (L := [some (.ref o), some (.int (b2 l))]) 0 rfl ?_
  refine bX13_by_0.go rfl trivial ?_
  refine j_if_eq (tgt := 8) dX13_by_1 (by decide) (fun h1 => ?_) (fun h1 => ?_)
  · refine bX13_by_8.go rfl trivial ?_
    refine e_iret dX13_by_9 rfl ?_
    exact PR_int (by cases l <;> first | rfl | exact absurd h1 (by decide) | exact absurd (by decide) h1)
  · refine bX13_by_4.go rfl trivial ?_
    refine e_iret dX13_by_9 rfl ?_
    exact PR_int (by cases l <;> first | rfl | exact absurd h1 (by decide) | exact absurd (by decide) h1)
theorem hySU13 : mX13_by.y.name ≠ "<init>" ∧ (parseMethodDescriptor mX13_by.y.desc).map (fun d => d.parameters.length) = some 1 := by decide +kernel
theorem bX14_by_0 : Blk PE mX14_by 0 2 [oAL 0, oIL 1] := blk_c (s_aload_n dX14_by_0 rfl) <| blk_c (s_iload_n dX14_by_1 rfl) <| blk_nil
theorem bX14_by_5 : Blk PE mX14_by 5 10 [oC (nI 1), .inl (fun s => some s)] := blk_c (s_iconst dX14_by_5 (by decide +kernel)) <| blk_c (s_goto (tgt := 10) dX14_by_6 (by decide)) <| blk_nil
theorem bX14_by_9 : Blk PE mX14_by 9 10 [oC (nI 0)] := blk_c (s_iconst dX14_by_9 (by decide +kernel)) <| blk_nil
theorem ok_by14 {X : Cx} {o : Nat} {l : Bool} {h : AH} {fs : List Value} (ho : h o = some (.inr (14, fs))) : Cg X mX14_by 0 0 [.ref o, .int (b2 l)] h (PR (some (.int (if l = true then nI 0 else nI 2))) h) := by
  refine E_start (L := [some (.ref o), some (.int (b2 l))]) 0 rfl ?_
  have k10 : JS PE X mX14_by (rmOf mX14_by.lv 0 0) (ZQ X 0 0 (PR (some (.int (if l = true then nI 0 else nI 2))) h)) 0 0 10 [some (.ref o), some (.int (b2 l))] [.int (b2 (!l)), .ref o] h := by
    refine js_of ?_
    intro p e s m args below meth c B rk H locs ls hW hS hL
    refine J.callSU (M' := mX13_by) (As := [.int (b2 (!l))]) (mc := 0) (ms := 0) (ok_by13 h) (fun o h' q => ⟨_, q.1⟩) ho rfl dX14_by_10 (lw_SU q1275 q1271 q1092 q1269 q159 q1276) hySU13 (by decide) ⟨rk.2.2.1, rk.2.2.2⟩ (by decide) (fun u h' q => ?_) p e s m args below meth c B rk H locs ls hW hS hL
    obtain ⟨q1, rfl⟩ := q
    cases q1
    exact J.iret dX14_by_13 rfl (Nat.le_refl _) (Nat.le_refl _) (PR_int (by cases l <;> rfl))
  refine bX14_by_0.go rfl trivial ?_
  refine j_if_ne (tgt := 9) dX14_by_2 (by decide) (fun h2 => ?_) (fun h2 => ?_)
  · rw [b2_n0] at h2
    subst h2
    exact bX14_by_9.go rfl trivial k10
  · rw [b2_0] at h2
    subst h2
    exact bX14_by_5.go rfl trivial k10
section HabNow
variable {X : Cx} {ad : Nat → Nat} {A : Nat → Nat → Int32} {B : Nat → Nat → Int64} {sk : Nat → Nat → Nat} {sw : Nat → Nat → Int32} {E : Nat → Nat} {v : Nat → Nat} {p i t : Nat}
/-- a habit's answer -/
abbrev HQ (X : Cx) (M : MD) (ad : Nat → Nat) (A : Nat → Nat → Int32) (B : Nat → Nat → Int64) (sk : Nat → Nat → Nat) (sw : Nat → Nat → Int32) (E : Nat → Nat) (p i t : Nat) : Prop := QC X M [.ref (sk 1 (80 + 4 * p + i)), .ref (ad 3), .int (nI p), .int (nI t)] ad A B sk sw E (fun r A' B' => r = some (.int (nwI (holdV (mcC A (sw 1) t) (vf (fA A)) p i))) ∧ B' = B ∧ A' = A)
theorem bX10_now_0 : Blk CP mX10_now 0 1 [oC (nI 2)] := blk_c (s_iconst dX10_now_0 (by decide +kernel)) <| blk_nil
theorem ok_now10 (hk : lkI (sw 1) p i 1 = nI 0) : HQ X mX10_now ad A B sk sw E p i t := by
  refine C_start (L := [some (.ref (sk 1 (80 + 4 * p + i))), some (.ref (ad 3)), some (.int (nI p)), some (.int (nI t))]) 0 rfl ?_
  refine bX10_now_0.go rfl trivial ?_
  refine c_iret dX10_now_1 rfl ⟨_, _, rfl, ?_, rfl, rfl⟩
  simp only [holdV, mcC, hk, if_true]
  rfl
theorem bX11_now_0 : Blk CP mX11_now 0 2 [oIL 3, oAL 0] := blk_c (s_iload_n dX11_now_0 rfl) <| blk_c (s_aload_n dX11_now_1 rfl) <| blk_nil
theorem bX11_now_8 : Blk CP mX11_now 8 10 [oIL 3, oAL 0] := blk_c (s_iload_n dX11_now_8 rfl) <| blk_c (s_aload_n dX11_now_9 rfl) <| blk_nil
theorem bX11_now_13 : Blk CP mX11_now 13 15 [oSub, oAL 0] := blk_c (s_isub dX11_now_13) <| blk_c (s_aload_n dX11_now_14 rfl) <| blk_nil
theorem bX11_now_18 : Blk CP mX11_now 18 19 [oRem] := blk_c (s_irem dX11_now_18) <| blk_nil
theorem bX11_now_22 : Blk CP mX11_now 22 27 [oC (nI 2), .inl (fun s => some s)] := blk_c (s_iconst dX11_now_22 (by decide +kernel)) <| blk_c (s_goto (tgt := 27) dX11_now_23 (by decide)) <| blk_nil
theorem bX11_now_26 : Blk CP mX11_now 26 27 [oC (nI 0)] := blk_c (s_iconst dX11_now_26 (by decide +kernel)) <| blk_nil
theorem ok_now11 (hO : CrO A sw E v) (hp : p < v 2) (hi : i < v (56 + 33 * p + 4)) (ht : t < v 6) (hk : lkI (sw 1) p i 1 = nI 1) : HQ X mX11_now ad A B sk sw E p i t := by
  obtain ⟨hs, hw, -, -⟩ := hO
  have h40 := hw.sp40
  have npE := hw.npE
  have nlE := hw.nlE hp
  obtain ⟨c, k, n, q, ec, ek, en, eq, hc, hk5, hn, hq, hk1, hk2⟩ := hw.look hp hi
  have ek1 : k = 1 := (nI_eq (by omega) (by omega)).mp (ek.symm.trans hk)
  subst ek1
  have hb := hbC_k hk (by decide)
  simp only [show ¬ (1 = 0) by decide, if_false, if_true, ec, en, eq] at hb
  have hn0 : ¬ nI n = 0 := nI_ne0 (hk1 rfl) (by omega)
  have hH : holdV (mcC A (sw 1) t) (vf (fA A)) p i = b2 (decide (nI q ≤ nI t) && decide ((nI t - nI q) - (nI t - nI q) / nI n * nI n = 0)) := by
    simp only [holdV, mcC, ek, en, eq, show ¬ nI 1 = nI 0 by decide, if_false, if_true]
  refine C_start (L := [some (.ref (sk 1 (80 + 4 * p + i))), some (.ref (ad 3)), some (.int (nI p)), some (.int (nI t))]) 0 rfl ?_
  rw [hH, nwI_b2]
  refine bX11_now_0.go rfl trivial ?_
  refine js_hab (f := 2) hb hs (by omega) (by omega) clsX11 rfl (by decide) rfl (Or.inl q1048) dX11_now_2 ?_
  refine j_icmp_lt (tgt := 26) dX11_now_5 (by decide) (fun h5 => ?_) (fun h5 => ?_)
  · refine bX11_now_26.go rfl trivial ?_
    refine c_iret dX11_now_27 rfl ⟨_, _, rfl, ?_, rfl, rfl⟩
    rw [decide_eq_false (Int32.not_le.mpr h5)]; rfl
  · refine bX11_now_8.go rfl trivial ?_
    refine js_hab (f := 2) hb hs (by omega) (by omega) clsX11 rfl (by decide) rfl (Or.inl q1048) dX11_now_10 ?_
    refine bX11_now_13.go rfl trivial ?_
    refine js_hab (f := 1) hb hs (by omega) (by omega) clsX11 rfl (by decide) rfl (Or.inl q1047) dX11_now_15 ?_
    refine bX11_now_18.go rfl ⟨hn0, trivial⟩ ?_
    refine j_if_ne (tgt := 26) dX11_now_19 (by decide) (fun h19 => ?_) (fun h19 => ?_)
    · refine bX11_now_26.go rfl trivial ?_
      refine c_iret dX11_now_27 rfl ⟨_, _, rfl, ?_, rfl, rfl⟩
      rw [decide_eq_false h19, Bool.and_false]; rfl
    · refine bX11_now_22.go rfl trivial ?_
      refine c_iret dX11_now_27 rfl ⟨_, _, rfl, ?_, rfl, rfl⟩
      rw [decide_eq_true h19, decide_eq_true (Int32.not_lt.mp h5)]; rfl
theorem bX12_now_0 : Blk CP mX12_now 0 1 [oIL 3] := blk_c (s_iload_n dX12_now_0 rfl) <| blk_nil
theorem bX12_now_4 : Blk CP mX12_now 4 15 [oAL 1, cR 3 0 30, oIL 2, cW 30 50 8, oIL 3, oC (nI 1), oSub, cWI 50 8 40 2, oAL 0] := blk_c (s_aload_n dX12_now_4 rfl) <| blk_c (cgX3_0 (Or.inr ⟨_, nq484⟩) dX12_now_5) <| blk_c (s_iload_n dX12_now_8 rfl) <| blk_c (c_W (t := 8) (ty := .int) (fun _ => rfl) (fun _ _ _ _ _ _ => rfl) dX12_now_9) <| blk_c (s_iload_n dX12_now_10 rfl) <| blk_c (s_iconst dX12_now_11 (by decide +kernel)) <| blk_c (s_isub dX12_now_12) <| blk_c (c_wiald ar_look dX12_now_13) <| blk_c (s_aload_n dX12_now_14 rfl) <| blk_nil
theorem bX12_now_18 : Blk CP mX12_now 18 21 [oS_II pT2 fOn] := blk_c (s_S_II ok_sX0_isOn (fun _ _ _ h => h.1.1) (Or.inr ⟨lw_meth q1141, q1140, q131, _, nq1256⟩) hy_X0_isOn (by decide) dX12_now_18) <| blk_nil
theorem bX12_now_24 : Blk CP mX12_now 24 29 [oAL 1, cR 3 1 31, oAL 0] := blk_c (s_aload_n dX12_now_24 rfl) <| blk_c (cgX3_1 (Or.inr ⟨_, nq488⟩) dX12_now_25) <| blk_c (s_aload_n dX12_now_28 rfl) <| blk_nil
theorem bX12_now_33 : Blk CP mX12_now 33 36 [oIL 3, oC (nI 1), oSub] := blk_c (s_iload_n dX12_now_33 rfl) <| blk_c (s_iconst dX12_now_34 (by decide +kernel)) <| blk_c (s_isub dX12_now_35) <| blk_nil
theorem bX12_now_37 : Blk CP mX12_now 37 38 [oAL 0] := blk_c (s_aload_n dX12_now_37 rfl) <| blk_nil
theorem bX12_now_44 : Blk CP mX12_now 44 49 [oC (nI 2), .inl (fun s => some s)] := blk_c (s_iconst dX12_now_44 (by decide +kernel)) <| blk_c (s_goto (tgt := 49) dX12_now_45 (by decide)) <| blk_nil
theorem bX12_now_48 : Blk CP mX12_now 48 49 [oC (nI 0)] := blk_c (s_iconst dX12_now_48 (by decide +kernel)) <| blk_nil
theorem ok_now12 (hO : CrO A sw E v) (hp : p < v 2) (hi : i < v (56 + 33 * p + 4)) (ht : t < v 6) (hk : lkI (sw 1) p i 1 = nI 2) : HQ X mX12_now ad A B sk sw E p i t := by
  obtain ⟨hs, hw, -, -⟩ := hO
  have h40 := hw.sp40
  have h8 := hw.np8
  have h4 := hw.nc4
  have npE := hw.npE
  have nlE := hw.nlE hp
  obtain ⟨c, k, n, q, ec, ek, en, eq, hc, hk5, hn, hq, hk1, hk2⟩ := hw.look hp hi
  have ek1 : k = 2 := (nI_eq (by omega) (by omega)).mp (ek.symm.trans hk)
  subst ek1
  have hn1 := hk2 rfl
  have hb := hbC_k hk (by decide)
  simp only [show ¬ (2 = 0) by decide, show ¬ (2 = 1) by decide, if_false, if_true, ec, en, eq] at hb
  have hH : holdV (mcC A (sw 1) t) (vf (fA A)) p i = b2 (decide (0 < t) && (bitI (A (50 + p) (t - 1)) n && decide (A (60 + n) (t - 1) = nI q))) := by
    simp only [holdV, mcC, ek, en, eq, show ¬ nI 2 = nI 0 by decide, show ¬ nI 2 = nI 1 by decide, if_false, if_true, nI_clamp (show n < 2 ^ 31 by omega)]
    rfl
  refine C_start (L := [some (.ref (sk 1 (80 + 4 * p + i))), some (.ref (ad 3)), some (.int (nI p)), some (.int (nI t))]) 0 rfl ?_
  rw [hH, nwI_b2]
  have no : (decide (0 < t) && (bitI (A (50 + p) (t - 1)) n && decide (A (60 + n) (t - 1) = nI q))) = false → JS CP X mX12_now (rmOf mX12_now.lv 0 0) (ZC X 0 0 (fun r x' => ∃ A' B', x' = (ad, A', B', sk, sw, E) ∧ (r = some (.int (if (decide (0 < t) && (bitI (A (50 + p) (t - 1)) n && decide (A (60 + n) (t - 1) = nI q))) = true then nI 2 else nI 0)) ∧ B' = B ∧ A' = A))) 0 0 48 [some (.ref (sk 1 (80 + 4 * p + i))), some (.ref (ad 3)), some (.int (nI p)), some (.int (nI t))] [] (ad, A, B, sk, sw, E) := by
    intro hz
    refine bX12_now_48.go rfl trivial ?_
    refine c_iret dX12_now_49 rfl ⟨_, _, rfl, ?_, rfl, rfl⟩
    rw [hz]; rfl
  refine bX12_now_0.go rfl trivial ?_
  refine j_if_le (tgt := 48) dX12_now_1 (by decide) (fun h1 => ?_) (fun h1 => ?_)
  · rw [← nI_0, nI_leI (by omega) (by omega)] at h1
    exact no (by rw [decide_eq_false (by omega)]; rfl)
  · rw [← nI_0, nI_leI (by omega) (by omega)] at h1
    refine bX12_now_4.go rfl (by (try simp (disch := omega) only [nI_add, pk_mul, pk_sub, nI_clamp, vpI]); repeat' first | exact trivial | rfl | assumption | omega | apply And.intro) ?_
    simp (disch := omega) only [nI_clamp, pk_sub]
    refine js_hab (f := 1) hb hs (by omega) (by omega) clsX12 rfl (by decide) rfl (Or.inl q1063) dX12_now_15 ?_
    refine bX12_now_18.go rfl (by repeat' first | exact trivial | rfl | assumption | omega | apply And.intro) ?_
    refine j_if_eq (tgt := 48) dX12_now_21 (by decide) (fun h21 => ?_) (fun h21 => ?_)
    · rw [fOn, b2_0] at h21
      exact no (by rw [show bitI (A (50 + p) (t - 1)) n = false from h21]; simp)
    · rw [fOn, b2_n0] at h21
      refine bX12_now_24.go rfl (by repeat' first | exact trivial | rfl | assumption | omega | apply And.intro) ?_
      refine js_hab (f := 1) hb hs (by omega) (by omega) clsX12 rfl (by decide) rfl (Or.inl q1063) dX12_now_29 ?_
      refine js_row (i0 := 31) (base := 60) (nr := 4) (t := 8) (ty := .int) rfl (fun _ _ => rfl) (by omega) (by decide) dX12_now_32 ?_
      refine bX12_now_33.go rfl trivial ?_
      simp (disch := omega) only [pk_sub]
      refine js_ia (ar_shows E n (by omega)) (by omega) (by decide) dX12_now_36 ?_
      refine bX12_now_37.go rfl trivial ?_
      refine js_hab (f := 2) hb hs (by omega) (by omega) clsX12 rfl (by decide) rfl (Or.inl q1064) dX12_now_38 ?_
      refine j_icmp_ne (tgt := 48) dX12_now_41 (by decide) (fun h41 => ?_) (fun h41 => ?_)
      · exact no (by rw [decide_eq_false h41]; simp)
      · refine bX12_now_44.go rfl trivial ?_
        refine c_iret dX12_now_49 rfl ⟨_, _, rfl, ?_, rfl, rfl⟩
        rw [decide_eq_true h41, show bitI (A (50 + p) (t - 1)) n = true from h21, decide_eq_true (show 0 < t by omega)]; rfl
theorem bX15_now_0 : Blk CP mX15_now 0 3 [oAL 1, oIL 2, oAL 0] := blk_c (s_aload_n dX15_now_0 rfl) <| blk_c (s_iload_n dX15_now_1 rfl) <| blk_c (s_aload_n dX15_now_2 rfl) <| blk_nil
theorem bX15_now_9 : Blk CP mX15_now 9 14 [oC (nI 2), .inl (fun s => some s)] := blk_c (s_iconst dX15_now_9 (by decide +kernel)) <| blk_c (s_goto (tgt := 14) dX15_now_10 (by decide)) <| blk_nil
theorem bX15_now_13 : Blk CP mX15_now 13 14 [oC (nI 0)] := blk_c (s_iconst dX15_now_13 (by decide +kernel)) <| blk_nil
theorem ok_now15 (hO : CrO A sw E v) (hp : p < v 2) (hi : i < v (56 + 33 * p + 4)) (hb : ¬ A 3 16 = 0 → ∃ b, A (70 + p) i = b2 b) (hk : lkI (sw 1) p i 1 = nI 5) : HQ X mX15_now ad A B sk sw E p i t := by
  have hH : holdV (mcC A (sw 1) t) (vf (fA A)) p i = b2 (!decide (A 3 16 = 0) && !decide (A (70 + p) i = 0)) := by
    simp only [holdV, mcC, hk, show ¬ nI 5 = nI 0 by decide, show ¬ nI 5 = nI 1 by decide, show ¬ nI 5 = nI 2 by decide, show ¬ nI 5 = nI 3 by decide, show ¬ nI 5 = nI 4 by decide, if_false]
  refine C_start (L := [some (.ref (sk 1 (80 + 4 * p + i))), some (.ref (ad 3)), some (.int (nI p)), some (.int (nI t))]) 0 rfl ?_
  rw [hH, nwI_b2]
  refine bX15_now_0.go rfl trivial ?_
  refine cq (M' := mX3_isDrawn) (As := [.int (nI p), .ref (sk 1 (80 + 4 * p + i))]) (nA := 2) (ok_isDrawn hO hp hi hb) rec3 rfl (lw_V q1249 q1250 q1251 q137 q1252) dX15_now_3 rfl hy_X3_isDrawn (fun r A1 B1 q => ?_)
  obtain ⟨rfl, rfl, rfl⟩ := q
  refine j_if_eq (tgt := 13) dX15_now_6 (by decide) (fun h6 => ?_) (fun h6 => ?_)
  · rw [b2_0] at h6
    refine bX15_now_13.go rfl trivial ?_
    refine c_iret dX15_now_14 rfl ⟨_, _, rfl, ?_, rfl, rfl⟩
    rw [h6]; rfl
  · rw [b2_n0] at h6
    refine bX15_now_9.go rfl trivial ?_
    refine c_iret dX15_now_14 rfl ⟨_, _, rfl, ?_, rfl, rfl⟩
    rw [h6]; rfl
end HabNow
