set_option maxRecDepth 100000
/-! ===== UnseenClock$Square: walks ===== -/
def SPC (X : Cx) (M : MD) (av : List Value) (x : SPv) (Q : Option Value → SPv → Prop) : Prop := ∀ h, SP X x h → Cg X M 0 0 av h (fun oc h' => ∃ r x', oc = .returned r ∧ Q r x' ∧ SP X x' h')
abbrev ZSp (X : Cx) (mc ms : Nat) (Q : Option Value → SPv → Prop) : ZT := ZQ X mc ms (fun oc h' => ∃ r x', oc = .returned r ∧ Q r x' ∧ SP X x' h')
section WkA
variable {X : Cx} {M M' : MD} {R : Room} {Z : ZT} {mc ms k n pc idx i p : Nat} {L : List (Option Value)} {st As : List Value} {x : SPv} {Q : Option Value → SPv → Prop} {av : List Value} {hz : AH} {tp : Nat} {T w : Nat → Int32} {sk : Nat → Nat} {S S' : Nat → Nat → Int32} {N : Nat → Nat}
theorem SPC_start (pad : Nat) (hL : L = entL av ++ List.replicate pad none) (k : JS SP X M (rmOf M.lv 0 0) (ZSp X 0 0 Q) 0 0 0 L [] x) (hy : plainFor M.y = true := by first | exact plainFor_of_name (by decide) | decide +kernel) (hE : M.eh = noEH := by rfl) (hn : (lg_sl av).length ≤ M.nL := by exact Nat.le_of_ble_eq_true rfl) : SPC X M av x Q := fun h hp => Cg.of hy hE pad hL hn (k h hp)
theorem spc_vret (hd : decode M.cc pc = .ok (.return_, 1)) (hr : M.ret = none) (hq : Q none x) (hk : k ≤ mc := by omega) (hn : n ≤ ms := by omega) : JS SP X M R (ZSp X mc ms Q) k n pc L [] x := fun h hp => J.vret hd hr hk hn ⟨_, x, rfl, hq, hp⟩
theorem sw_I {f : Nat} (hf1 : (f == 4 || f == 5 || f == 6 || f == 7 || f == 8) = true) (hl : Cond.fieldLink M.y.cls idx (TX2 f).1 (TX2 f).2.1 (TX2 f).2.2.1 ∈ lw_all) (hd : decode M.cc pc = .ok (.getfield idx, 3)) (kk : JS SP X M R Z k n (pc + 3) L (.int (S 0 f) :: st) (hz, tp, T, sk, S, N)) : JS SP X M R Z k n pc L (.ref (sk 0) :: st) (hz, tp, T, sk, S, N) := by
  intro h hp
  exact J.getf (f := f) clsX2 rfl (hp.at (u_lo (by decide))) (sq_at hf1 (fun _ => 0) (fun _ => 0) 0).1 (sq_at hf1 _ _ 0).2.1 hl hd (kk _ hp)
theorem sw_R {f : Nat} (hf1 : (f == 0 || f == 1 || f == 3) = true) (hl : Cond.fieldLink M.y.cls idx (TX2 f).1 (TX2 f).2.1 (TX2 f).2.2.1 ∈ lw_all) (hd : decode M.cc pc = .ok (.getfield idx, 3)) (kk : JS SP X M R Z k n (pc + 3) L (.ref (sk (f + 1)) :: st) (hz, tp, T, sk, S, N)) : JS SP X M R Z k n pc L (.ref (sk 0) :: st) (hz, tp, T, sk, S, N) := by
  intro h hp
  simp only [Bool.or_eq_true, beq_iff_eq] at hf1
  rcases hf1 with (rfl | rfl) | rfl <;> exact J.getf clsX2 rfl (hp.at (u_lo (by decide : 0 < 7))) (by decide) rfl hl hd (kk _ hp)
theorem sw_row (hp8 : p < 8) (hd : decode M.cc pc = .ok (.aaload, 1)) (kk : JS SP X M R Z k n (pc + 1) L (.ref (sk (10 + p)) :: st) (hz, tp, T, sk, S, N)) : JS SP X M R Z k n pc L (.int (nI p) :: .ref (sk 4) :: st) (hz, tp, T, sk, S, N) := by
  intro h hp
  refine J.aaldA (t := 8) rfl (hp.at (u_lo (by decide : 4 < 7))) ((vpI (by omega)).mpr hp8) hd ?_
  rw [nI_clamp (by omega), if_pos hp8]
  exact kk h hp
theorem u_c (hp8 : p < 8) : SpU N (10 + p) := Or.inr (Or.inl ⟨by omega, by omega⟩)
theorem SP.row {h : AH} (hp : SP X (hz, tp, T, sk, S, N) h) (hp8 : p < 8) : h (sk (10 + p)) = some (.inl (X.dA 0, 40, .inl (S (10 + p)))) := by
  rw [hp.at (u_c hp8), spc_c (by omega) (by omega)]
theorem SP.rowU {h : AH} {g : Nat → Int32} (hp : SP X (hz, tp, T, sk, S, N) h) (hp8 : p < 8) : SP X (hz, tp, T, sk, va_up S (10 + p) g, N) (va_up h (sk (10 + p)) (some (.inl (X.dA 0, 40, .inl g)))) := by
  have := hp.upd (i := 10 + p) (S' := va_up S (10 + p) g) (u_c hp8) (fun j hj => va_up_ne _ _ hj)
  rw [spc_c (by omega) (by omega), va_up_self] at this
  exact this
theorem sw_fill {v : Int32} (hp8 : p < 8) (hd : decode M.cc pc = .ok (.invokestatic idx, 3)) (hG : GoodIn lw_all (va_wsS M.y.cls idx yJ13_fill (ws_ yJ13_fill cJ13_fill 4 none))) (hR : 2 ≤ M.lv) (kk : ∀ g, (∀ j, j < 40 → g j = v) → JS SP X M R Z k n (pc + 3) L st (hz, tp, T, sk, va_up S (10 + p) g, N)) (hst : wt8 st = true := by rfl) : JS SP X M R Z k n pc L (.int v :: .ref (sk (10 + p)) :: st) (hz, tp, T, sk, S, N) := by
  intro h hp p' e s m args below meth c B' rk H locs ls hW hS hL
  refine J.callS (M' := mJ13_fill) (As := [.ref (sk (10 + p)), .int v]) (mc := 0) (ms := 0) (ok_fill (hp.row hp8) (by decide)) (fun o h' q => ⟨_, q.1⟩) hd hG hy_J13_fill ⟨hR, by decide⟩ ⟨rk.2.2.1, rk.2.2.2⟩ (Nat.le_of_ble_eq_true hst) (fun r h' q => ?_) p' e s m args below meth c B' rk H locs ls hW hS hL
  obtain ⟨q1, g, q2, rfl⟩ := q
  cases q1
  exact kk g q2 _ (hp.rowU hp8)
theorem sw_st {t : Nat} {v : Int32} (hp8 : p < 8) (ht : t < 40) (hd : decode M.cc pc = .ok (.iastore, 1)) (kk : JS SP X M R Z k n (pc + 1) L st (hz, tp, T, sk, upA S (10 + p) t v, N)) : JS SP X M R Z k n pc L (.int v :: .int (nI t) :: .ref (sk (10 + p)) :: st) (hz, tp, T, sk, S, N) := by
  intro h hp
  refine J.iast (hp.row hp8) (vp_in_nI (by omega) (by decide)) hd ?_
  rw [nI_clamp (by omega)]
  exact kk _ (hp.rowU hp8)
theorem sw_pI {host : String} {f : Nat} (hf : (f == 0 || f == 1 || f == 2 || f == 6) = true) (hpp : p < N 1) (h8 : N 1 ≤ 8) (hl : Cond.fieldLinkNest M.y.cls idx (TX8 f).1 (TX8 f).2.1 (TX8 f).2.2.1 host ∈ nwL) (hd : decode M.cc pc = .ok (.getfield idx, 3)) (kk : JS SP X M R Z k n (pc + 3) L (.int (S (30 + p) f) :: st) (hz, tp, T, sk, S, N)) : JS SP X M R Z k n pc L (.ref (sk (30 + p)) :: st) (hz, tp, T, sk, S, N) := by
  intro h hp
  simp only [Bool.or_eq_true, beq_iff_eq] at hf
  rcases hf with ((rfl | rfl) | rfl) | rfl <;> exact J.getfN hp.1.1 clsX8 rfl (hp.prs hpp h8) (by decide) rfl hl hd (kk _ hp)
theorem sw_pA {j : Nat} (hi : i = 40 + p ∨ i = 50 + p) (hpp : p < N 1) (h8 : N 1 ≤ 8) (hj : j < 6) (hd : decode M.cc pc = .ok (.iaload, 1)) (kk : JS SP X M R Z k n (pc + 1) L (.int (S i j) :: st) (hz, tp, T, sk, S, N)) : JS SP X M R Z k n pc L (.int (nI j) :: .ref (sk i) :: st) (hz, tp, T, sk, S, N) := by
  intro h hp
  have hu : SpU N i := by
    rcases hi with rfl | rfl
    · exact u_p (by omega) hpp h8
    · exact u_p (by omega) hpp h8
  have ha := hp.at hu
  rw [spc_a (by omega) (by omega)] at ha
  refine J.iald ha (vp_in_nI (by omega) (by decide)) hd ?_
  rw [nI_clamp (by omega)]
  exact kk _ hp
theorem sw_free {x y : Int32} (hr : SR S N w) (hw : ∃ a b : Nat, a ≤ 12 ∧ b ≤ 12 ∧ w 4 = nI a ∧ w 5 = nI b) (hd : decode M.cc pc = .ok (.invokevirtual idx, 3)) (hl : Cond.methodLink M.y.cls idx yX2_isFree ∈ lw_all) (hR : 6 ≤ M.lv) (hst : wt8 st = true) (kk : JS SP X M R Z k n (pc + 3) L (.int (b2 (freeB w x y)) :: st) (hz, tp, T, sk, S, N)) : JS SP X M R Z k n pc L (.int y :: .int x :: .ref (sk 0) :: st) (hz, tp, T, sk, S, N) := by
  intro h hp p' e s m args below meth c B' rk H locs ls hW hS hL
  have hsq : SqW X h sk w := hp.sqw hr
  refine J.callV (M' := mX2_isFree) (ci := 2) (q := (RX2, TX2, 9)) (As := [.int x, .int y]) (mc := 0) (ms := 0) (ok_isFreeX X h sk w x y hp.1.1 hsq hw) (fun o h' q => ⟨_, q.1⟩) hsq.1 rfl hd (lw_V hl q786 q787 q133 q788) ⟨rfl, hy_X2_isFree.1, hy_X2_isFree.2.1, hy_X2_isFree.2.2⟩ ⟨hR, by decide⟩ ⟨rk.2.2.1, rk.2.2.2⟩ (Nat.le_of_ble_eq_true hst) (fun v h' q => ?_) p' e s m args below meth c B' rk H locs ls hW hS hL
  obtain ⟨q1, q2⟩ := q
  cases q1
  rw [q2]
  exact kk _ hp
theorem SR.cel (h : SR S N w) (hS : ∀ i, i < 10 ∨ 18 ≤ i → S' i = S i) : SR S' N w := by
  obtain ⟨c1, p1, ⟨s4, s5, s6, s7, s8⟩, hwl, hd, hper⟩ := h
  have h0 := hS 0 (by omega)
  refine ⟨c1, p1, ⟨by rw [h0]; exact s4, by rw [h0]; exact s5, by rw [h0]; exact s6, by rw [h0]; exact s7, by rw [h0]; exact s8⟩, fun a b ha hb => by rw [hS 3 (by omega)]; exact hwl a b ha hb, fun c hc j hj => by rw [hS _ (by omega)]; exact hd c hc j hj, fun p hp => ?_⟩
  obtain ⟨f1, ⟨f2, f3, f4⟩, f5, f8, f9⟩ := hper p hp
  refine ⟨fun j hj => by rw [hS _ (by omega)]; exact f1 j hj, ⟨by rw [hS _ (by omega)]; exact f2, f3, f4⟩, f5, fun k hk => by rw [hS _ (by omega), hS _ (by omega)]; exact f8 k hk, fun i hi => by rw [hS _ (by omega)]; exact f9 i hi⟩
end WkA
section Wks
variable {X : Cx} {hz : AH} {tp : Nat} {T w : Nat → Int32} {sk : Nat → Nat} {S : Nat → Nat → Int32} {N : Nat → Nat} {v : Nat → Nat}
theorem way_dx {a : Int32} : (if wayI a = nI 1 then nI 1 else if wayI a = nI 3 then (-1 : Int32) else nI 0) = dxI a := by
  unfold wayI dxI
  by_cases h : a = nI 4
  · rw [if_pos h, h]; decide +kernel
  · rw [if_neg h]
theorem way_dy {a : Int32} : (if wayI a = nI 2 then nI 1 else if wayI a = 0 then (-1 : Int32) else nI 0) = dyI a := by
  unfold wayI dyI
  by_cases h : a = nI 4
  · rw [if_pos h, h]; decide +kernel
  · rw [if_neg h]; rfl
/-- the cells of a row of people -/
def RowC (w : Nat → Int32) (g : Nat → Int32) (F : Nat → Option (Int32 × Int32)) : Prop := ∀ t, t < spanW w → g t = cellI (F t)
theorem bX2_walks_0 : Blk SP mX2_walks 0 2 [oC (nI 0), oIS 1] := blk_c (s_iconst dX2_walks_0 (by decide +kernel)) <| blk_c (s_istore_n dX2_walks_1 rfl (by decide)) <| blk_nil
theorem bX2_walks_2 : Blk SP mX2_walks 2 4 [oIL 1, oAL 0] := blk_c (s_iload_n dX2_walks_2 rfl) <| blk_c (s_aload_n dX2_walks_3 rfl) <| blk_nil
theorem bX2_walks_15 : Blk SP mX2_walks 15 16 [oAL 0] := blk_c (s_aload_n dX2_walks_15 rfl) <| blk_nil
theorem bX2_walks_19 : Blk SP mX2_walks 19 20 [oIL 1] := blk_c (s_iload_n dX2_walks_19 rfl) <| blk_nil
theorem bX2_walks_21 : Blk SP mX2_walks 21 22 [oC (-1)] := blk_c (s_iconst dX2_walks_21 (by decide +kernel)) <| blk_nil
theorem bX2_walks_25 : Blk SP mX2_walks 25 26 [oAL 0] := blk_c (s_aload_n dX2_walks_25 rfl) <| blk_nil
theorem bX2_walks_29 : Blk SP mX2_walks 29 30 [oIL 1] := blk_c (s_iload_n dX2_walks_29 rfl) <| blk_nil
theorem bX2_walks_38 : Blk SP mX2_walks 38 40 [oAS 2, oAL 2] := blk_c (s_astore_n dX2_walks_38 rfl (by decide)) <| blk_c (s_aload_n dX2_walks_39 rfl) <| blk_nil
theorem bX2_walks_43 : Blk SP mX2_walks 43 45 [oIS 3, oAL 2] := blk_c (s_istore_n dX2_walks_43 rfl (by decide)) <| blk_c (s_aload_n dX2_walks_44 rfl) <| blk_nil
theorem bX2_walks_48 : Blk SP mX2_walks 48 51 [oIS 4, oAL 2] := blk_c (s_istore dX2_walks_48 (by decide)) <| blk_c (s_aload_n dX2_walks_50 rfl) <| blk_nil
theorem bX2_walks_54 : Blk SP mX2_walks 54 57 [oIS 5, oAL 0] := blk_c (s_istore dX2_walks_54 (by decide)) <| blk_c (s_aload_n dX2_walks_56 rfl) <| blk_nil
theorem bX2_walks_60 : Blk SP mX2_walks 60 61 [oIL 1] := blk_c (s_iload_n dX2_walks_60 rfl) <| blk_nil
theorem bX2_walks_62 : Blk SP mX2_walks 62 71 [oIL 5, oIL 3, oC (nI 100), oIL 4, oMul, oAdd] := blk_c (s_iload dX2_walks_62) <| blk_c (s_iload_n dX2_walks_64 rfl) <| blk_c (s_bipush dX2_walks_65 (by decide +kernel)) <| blk_c (s_iload dX2_walks_67) <| blk_c (s_imul dX2_walks_69) <| blk_c (s_iadd dX2_walks_70) <| blk_nil
theorem bX2_walks_72 : Blk SP mX2_walks 72 78 [oInc 5 1, oC (nI 0), oIS 6] := blk_c (s_iinc dX2_walks_72 (by decide +kernel) (by decide)) <| blk_c (s_iconst dX2_walks_75 (by decide +kernel)) <| blk_c (s_istore dX2_walks_76 (by decide)) <| blk_nil
theorem bX2_walks_78 : Blk SP mX2_walks 78 81 [oIL 6, oAL 2] := blk_c (s_iload dX2_walks_78) <| blk_c (s_aload_n dX2_walks_80 rfl) <| blk_nil
theorem bX2_walks_87 : Blk SP mX2_walks 87 90 [oC (nI 0), oIS 7] := blk_c (s_iconst dX2_walks_87 (by decide +kernel)) <| blk_c (s_istore dX2_walks_88 (by decide)) <| blk_nil
theorem bX2_walks_90 : Blk SP mX2_walks 90 93 [oIL 7, oAL 2] := blk_c (s_iload dX2_walks_90) <| blk_c (s_aload_n dX2_walks_92 rfl) <| blk_nil
theorem bX2_walks_96 : Blk SP mX2_walks 96 98 [oIL 6] := blk_c (s_iload dX2_walks_96) <| blk_nil
theorem bX2_walks_102 : Blk SP mX2_walks 102 104 [oIL 3, oAL 2] := blk_c (s_iload_n dX2_walks_102 rfl) <| blk_c (s_aload_n dX2_walks_103 rfl) <| blk_nil
theorem bX2_walks_107 : Blk SP mX2_walks 107 109 [oIL 6] := blk_c (s_iload dX2_walks_107) <| blk_nil
theorem bX2_walks_110 : Blk SP mX2_walks 110 111 [oC (nI 1)] := blk_c (s_iconst dX2_walks_110 (by decide +kernel)) <| blk_nil
theorem bX2_walks_114 : Blk SP mX2_walks 114 134 [oC (nI 1), .inl (fun s => some s)] := blk_c (s_iconst dX2_walks_114 (by decide +kernel)) <| blk_c (s_goto (tgt := 134) dX2_walks_115 (by decide)) <| blk_nil
theorem bX2_walks_118 : Blk SP mX2_walks 118 119 [oAL 2] := blk_c (s_aload_n dX2_walks_118 rfl) <| blk_nil
theorem bX2_walks_122 : Blk SP mX2_walks 122 124 [oIL 6] := blk_c (s_iload dX2_walks_122) <| blk_nil
theorem bX2_walks_125 : Blk SP mX2_walks 125 126 [oC (nI 3)] := blk_c (s_iconst dX2_walks_125 (by decide +kernel)) <| blk_nil
theorem bX2_walks_129 : Blk SP mX2_walks 129 134 [oC (-1), .inl (fun s => some s)] := blk_c (s_iconst dX2_walks_129 (by decide +kernel)) <| blk_c (s_goto (tgt := 134) dX2_walks_130 (by decide)) <| blk_nil
theorem bX2_walks_133 : Blk SP mX2_walks 133 134 [oC (nI 0)] := blk_c (s_iconst dX2_walks_133 (by decide +kernel)) <| blk_nil
theorem bX2_walks_134 : Blk SP mX2_walks 134 140 [oAdd, oIS 8, oIL 4, oAL 2] := blk_c (s_iadd dX2_walks_134) <| blk_c (s_istore dX2_walks_135 (by decide)) <| blk_c (s_iload dX2_walks_137) <| blk_c (s_aload_n dX2_walks_139 rfl) <| blk_nil
theorem bX2_walks_143 : Blk SP mX2_walks 143 145 [oIL 6] := blk_c (s_iload dX2_walks_143) <| blk_nil
theorem bX2_walks_146 : Blk SP mX2_walks 146 147 [oC (nI 2)] := blk_c (s_iconst dX2_walks_146 (by decide +kernel)) <| blk_nil
theorem bX2_walks_150 : Blk SP mX2_walks 150 169 [oC (nI 1), .inl (fun s => some s)] := blk_c (s_iconst dX2_walks_150 (by decide +kernel)) <| blk_c (s_goto (tgt := 169) dX2_walks_151 (by decide)) <| blk_nil
theorem bX2_walks_154 : Blk SP mX2_walks 154 155 [oAL 2] := blk_c (s_aload_n dX2_walks_154 rfl) <| blk_nil
theorem bX2_walks_158 : Blk SP mX2_walks 158 160 [oIL 6] := blk_c (s_iload dX2_walks_158) <| blk_nil
theorem bX2_walks_164 : Blk SP mX2_walks 164 169 [oC (-1), .inl (fun s => some s)] := blk_c (s_iconst dX2_walks_164 (by decide +kernel)) <| blk_c (s_goto (tgt := 169) dX2_walks_165 (by decide)) <| blk_nil
theorem bX2_walks_168 : Blk SP mX2_walks 168 169 [oC (nI 0)] := blk_c (s_iconst dX2_walks_168 (by decide +kernel)) <| blk_nil
theorem bX2_walks_169 : Blk SP mX2_walks 169 177 [oAdd, oIS 9, oAL 0, oIL 8, oIL 9] := blk_c (s_iadd dX2_walks_169) <| blk_c (s_istore dX2_walks_170 (by decide)) <| blk_c (s_aload_n dX2_walks_172 rfl) <| blk_c (s_iload dX2_walks_173) <| blk_c (s_iload dX2_walks_175) <| blk_nil
theorem bX2_walks_183 : Blk SP mX2_walks 183 190 [oIL 8, oIS 3, oIL 9, oIS 4] := blk_c (s_iload dX2_walks_183) <| blk_c (s_istore_n dX2_walks_185 rfl (by decide)) <| blk_c (s_iload dX2_walks_186) <| blk_c (s_istore dX2_walks_188 (by decide)) <| blk_nil
theorem bX2_walks_190 : Blk SP mX2_walks 190 193 [oIL 5, oAL 0] := blk_c (s_iload dX2_walks_190) <| blk_c (s_aload_n dX2_walks_192 rfl) <| blk_nil
theorem bX2_walks_199 : Blk SP mX2_walks 199 200 [oAL 0] := blk_c (s_aload_n dX2_walks_199 rfl) <| blk_nil
theorem bX2_walks_203 : Blk SP mX2_walks 203 204 [oIL 1] := blk_c (s_iload_n dX2_walks_203 rfl) <| blk_nil
theorem bX2_walks_205 : Blk SP mX2_walks 205 214 [oIL 5, oIL 3, oC (nI 100), oIL 4, oMul, oAdd] := blk_c (s_iload dX2_walks_205) <| blk_c (s_iload_n dX2_walks_207 rfl) <| blk_c (s_bipush dX2_walks_208 (by decide +kernel)) <| blk_c (s_iload dX2_walks_210) <| blk_c (s_imul dX2_walks_212) <| blk_c (s_iadd dX2_walks_213) <| blk_nil
theorem bX2_walks_215 : Blk SP mX2_walks 215 90 [oInc 5 1, oInc 7 1, .inl (fun s => some s)] := blk_c (s_iinc dX2_walks_215 (by decide +kernel) (by decide)) <| blk_c (s_iinc dX2_walks_218 (by decide +kernel) (by decide)) <| blk_c (s_goto (tgt := 90) dX2_walks_221 (by decide)) <| blk_nil
theorem bX2_walks_224 : Blk SP mX2_walks 224 78 [oInc 6 1, .inl (fun s => some s)] := blk_c (s_iinc dX2_walks_224 (by decide +kernel) (by decide)) <| blk_c (s_goto (tgt := 78) dX2_walks_227 (by decide)) <| blk_nil
theorem bX2_walks_230 : Blk SP mX2_walks 230 2 [oInc 1 1, .inl (fun s => some s)] := blk_c (s_iinc dX2_walks_230 (by decide +kernel) (by decide)) <| blk_c (s_goto (tgt := 2) dX2_walks_233 (by decide)) <| blk_nil
theorem ok_walks (hr : SR S N w) (hw : WOk w v) : SPC X mX2_walks [.ref (sk 0)] (hz, tp, T, sk, S, N) (fun r x' => r = none ∧ ∃ S', x' = (hz, tp, T, sk, S', N) ∧ (∀ i, i < 10 ∨ 18 ≤ i → S' i = S i) ∧ ∀ p, p < N 1 → RowC w (S' (10 + p)) (spotF w p)) := by
  have hB := hr.bd
  obtain ⟨w1, hV⟩ := id hw
  have n2 : v 2 = N 1 := by
    have h2 := hr.2.1.2.1
    rw [w1 2 (by decide)] at h2
    exact (nI_eq (by have := hV.2.2.1; omega) (by omega)).mp h2
  have b4 : v 4 ≤ 12 := hV.2.2.2.2.1
  have b5 : v 5 ≤ 12 := hV.2.2.2.2.2.1
  have b6 : v 6 ≤ 40 := hV.2.2.2.2.2.2.1
  have sp : spanW w = v 6 := by unfold spanW; rw [w1 6 (by decide), nI_clamp (by omega)]
  have hfr : ∃ a b : Nat, a ≤ 12 ∧ b ≤ 12 ∧ w 4 = nI a ∧ w 5 = nI b := ⟨v 4, v 5, b4, b5, w1 4 (by decide), w1 5 (by decide)⟩
  generalize hQ : (fun (r : Option Value) (x' : SPv) => r = none ∧ ∃ S', x' = (hz, tp, T, sk, S', N) ∧ (∀ i, i < 10 ∨ 18 ≤ i → S' i = S i) ∧ ∀ p, p < N 1 → RowC w (S' (10 + p)) (spotF w p)) = Q
  refine SPC_start (L := [some (.ref (sk 0)), none, none, none, none, none, none, none, none, none]) 9 rfl ?_
  refine bX2_walks_0.go rfl trivial ?_
  have main : ∀ p, p ≤ N 1 → True → ∀ S1 : Nat → Nat → Int32, (∀ i, i < 10 ∨ 18 ≤ i → S1 i = S i) → (∀ q, q < p → RowC w (S1 (10 + q)) (spotF w q)) → JS SP X mX2_walks (rmOf mX2_walks.lv 0 0) (ZSp X 0 0 Q) 0 0 2 [some (.ref (sk 0)), some (.int (nI p)), none, none, none, none, none, none, none, none] [] (hz, tp, T, sk, S1, N) := by
    refine loop_down (N := N 1) (I := fun _ => True) (P := fun p => ∀ S1 : Nat → Nat → Int32, (∀ i, i < 10 ∨ 18 ≤ i → S1 i = S i) → (∀ q, q < p → RowC w (S1 (10 + q)) (spotF w q)) → JS SP X mX2_walks (rmOf mX2_walks.lv 0 0) (ZSp X 0 0 Q) 0 0 2 [some (.ref (sk 0)), some (.int (nI p)), none, none, none, none, none, none, none, none] [] (hz, tp, T, sk, S1, N)) (fun _ S1 hS1 hC1 => ?_) (fun p hp _ ih S1 hS1 hC1 => ?_)
    · refine bX2_walks_2.go rfl trivial ?_
      refine sw_R (f := 1) (by decide) q429 dX2_walks_4 ?_
      refine sp_size (lsn2 hB.2.1) dX2_walks_7 (lw_F q799 q803 q805 q136 q807) (by decide) rfl ?_
      refine j_icmp_ge (tgt := 236) dX2_walks_12 (by decide) (fun h12 => ?_) (fun h12 => absurd (nI_le (Nat.le_refl _) (by omega)) h12)
      exact spc_vret dX2_walks_236 rfl (by rw [← hQ]; exact ⟨rfl, S1, rfl, hS1, hC1⟩)
    have ih := ih trivial
    have hp8 : p < 8 := by omega
    have hP := hV.2.2.2.2.2.2.2.2.2.2.1 p (by omega)
    obtain ⟨P0, P1, P2, P3, P4, P5, -⟩ := hP
    obtain ⟨f1, ⟨f2, f3, f4⟩, -, f8, -⟩ := hr.pr hp
    have m3 : nM w p = v (56 + 33 * p + 3) := by unfold nM; rw [w1 _ (by omega), nI_clamp (by omega)]
    refine bX2_walks_2.go rfl trivial ?_
    refine sw_R (f := 1) (by decide) q429 dX2_walks_4 ?_
    refine sp_size (lsn2 hB.2.1) dX2_walks_7 (lw_F q799 q803 q805 q136 q807) (by decide) rfl ?_
    refine j_icmp_ge (tgt := 236) dX2_walks_12 (by decide) (fun h12 => absurd h12 (by rw [nI_leI (by omega) (by omega)]; omega)) (fun h12 => ?_)
    refine bX2_walks_15.go rfl trivial ?_
    refine sw_R (f := 3) (by decide) q435 dX2_walks_16 ?_
    refine bX2_walks_19.go rfl trivial ?_
    refine sw_row hp8 dX2_walks_20 ?_
    refine bX2_walks_21.go rfl trivial ?_
    refine sw_fill hp8 dX2_walks_22 (lw_S q1109 q1110 q152 q1111) (by decide) (fun g0 hg0 => ?_)
    refine bX2_walks_25.go rfl trivial ?_
    refine sw_R (f := 1) (by decide) q429 dX2_walks_26 ?_
    refine bX2_walks_29.go rfl trivial ?_
    refine sp_get (lsn2 hB.2.1) hp dX2_walks_30 (lw_F q809 q812 q814 q136 q816) (by decide) rfl ?_
    refine (fun (z : JS SP X mX2_walks (rmOf mX2_walks.lv 0 0) (ZSp X 0 0 Q) 0 0 38 _ [.ref (sk (30 + p))] (hz, tp, T, sk, va_up S1 (10 + p) g0, N)) => fun h hpp => J.castS (ci := 8) (hpp.prs hp hB.2.1) rfl q1112 dX2_walks_35 (z h hpp)) ?_
    refine bX2_walks_38.go rfl trivial ?_
    refine sw_pI (f := 0) (by decide) hp hB.2.1 nq953 dX2_walks_40 ?_
    refine bX2_walks_43.go rfl trivial ?_
    refine sw_pI (f := 1) (by decide) hp hB.2.1 nq955 dX2_walks_45 ?_
    refine bX2_walks_48.go rfl trivial ?_
    refine sw_pI (f := 2) (by decide) hp hB.2.1 nq957 dX2_walks_51 ?_
    refine bX2_walks_54.go rfl trivial ?_
    refine sw_R (f := 3) (by decide) q435 dX2_walks_57 ?_
    refine bX2_walks_60.go rfl trivial ?_
    refine sw_row hp8 dX2_walks_61 ?_
    refine bX2_walks_62.go rfl trivial ?_
    have s30 : ∀ j, va_up S1 (10 + p) g0 (30 + p) j = S (30 + p) j := fun j => by rw [va_up_ne _ _ (by omega), hS1 _ (by omega)]
    rw [s30, s30, s30, f1 0 (by decide), f1 1 (by decide), f1 2 (by decide)]
    have t0 : perI w p 2 = nI (v (56 + 33 * p + 2)) := w1 _ (by omega)
    rw [t0]
    refine sw_st hp8 (by omega) dX2_walks_71 ?_
    refine bX2_walks_72.go rfl trivial ?_
    rw [show (1 : Int32) = nI 1 from rfl, nI_add]
    -- legs
    have leg : ∀ kk, kk ≤ v (56 + 33 * p + 3) → True → ∀ S2 : Nat → Nat → Int32, (∀ i, i ≠ 10 + p → S2 i = S1 i) → RowC w (S2 (10 + p)) (wkO w p kk).2.2 → JS SP X mX2_walks (rmOf mX2_walks.lv 0 0) (ZSp X 0 0 Q) 0 0 78 [some (.ref (sk 0)), some (.int (nI p)), some (.ref (sk (30 + p))), some (.int (wkO w p kk).1.1), some (.int (wkO w p kk).1.2), some (.int (nI ((wkO w p kk).2.1 + 1))), some (.int (nI kk)), none, none, none] [] (hz, tp, T, sk, S2, N) := by
      refine loop_down (N := v (56 + 33 * p + 3)) (I := fun _ => True) (P := fun kk => ∀ S2 : Nat → Nat → Int32, (∀ i, i ≠ 10 + p → S2 i = S1 i) → RowC w (S2 (10 + p)) (wkO w p kk).2.2 → JS SP X mX2_walks (rmOf mX2_walks.lv 0 0) (ZSp X 0 0 Q) 0 0 78 [some (.ref (sk 0)), some (.int (nI p)), some (.ref (sk (30 + p))), some (.int (wkO w p kk).1.1), some (.int (wkO w p kk).1.2), some (.int (nI ((wkO w p kk).2.1 + 1))), some (.int (nI kk)), none, none, none] [] (hz, tp, T, sk, S2, N)) (fun _ S2 hS2 hC2 => ?_) (fun kk hk _ ih2 S2 hS2 hC2 => ?_)
      · have s36 : S2 (30 + p) 6 = nI (v (56 + 33 * p + 3)) := by rw [hS2 _ (by omega), hS1 _ (by omega), f2, f4, m3]
        refine bX2_walks_78.go rfl trivial ?_
        refine sw_pI (f := 6) (by decide) hp hB.2.1 nq967 dX2_walks_81 ?_
        rw [s36]
        refine j_icmp_ge (tgt := 230) dX2_walks_84 (by decide) (fun h84 => ?_) (fun h84 => absurd (nI_le (Nat.le_refl _) (by omega)) h84)
        refine bX2_walks_230.go rfl trivial ?_
        rw [show (1 : Int32) = nI 1 from rfl, nI_add]
        refine JS.weak (by simp [lsub]) (ih S2 (fun i hi => by rw [hS2 i (by omega)]; exact hS1 i hi) (fun q hq => ?_))
        by_cases y : q = p
        · rw [y]
          have : spotF w p = (wkO w p (v (56 + 33 * p + 3))).2.2 := by
            unfold spotF
            rw [show perI w p 3 = nI (v (56 + 33 * p + 3)) from w1 _ (by omega), nI_clamp (by omega)]
          rw [this]; exact hC2
        · rw [hS2 _ (by omega)]; exact hC1 q (by omega)
      have ih2 := ih2 trivial
      have hm0 := wkO_m hw (p := p) (by omega) kk (by omega)
      obtain ⟨L1, L2, L3⟩ := P5 kk hk
      have s36 : S2 (30 + p) 6 = nI (v (56 + 33 * p + 3)) := by rw [hS2 _ (by omega), hS1 _ (by omega), f2, f4, m3]
      refine bX2_walks_78.go rfl trivial ?_
      refine sw_pI (f := 6) (by decide) hp hB.2.1 nq967 dX2_walks_81 ?_
      rw [s36]
      refine j_icmp_ge (tgt := 230) dX2_walks_84 (by decide) (fun h84 => absurd h84 (by rw [nI_leI (by omega) (by omega)]; omega)) (fun h84 => ?_)
      refine bX2_walks_87.go rfl trivial ?_
      have wy : perI w p (5 + 2 * kk + 1) = nI (v (56 + 33 * p + (5 + 2 * kk + 1))) := w1 _ (by omega)
      have ck : (perI w p (5 + 2 * kk + 1)).toNatClampNeg = v (56 + 33 * p + (5 + 2 * kk + 1)) := by rw [wy, nI_clamp (by omega)]
      have eW : wkO w p (kk + 1) = wkI w (perI w p (5 + 2 * kk)) (v (56 + 33 * p + (5 + 2 * kk + 1))) (wkO w p kk) := by rw [wkO, ck]
      generalize hwy : perI w p (5 + 2 * kk) = way at eW
      generalize hs0 : wkO w p kk = s0 at eW hC2 hm0 ⊢
      have inr : ∀ j, j ≤ v (56 + 33 * p + (5 + 2 * kk + 1)) → True → ∀ S3 : Nat → Nat → Int32, (∀ i, i ≠ 10 + p → S3 i = S1 i) → RowC w (S3 (10 + p)) (wkI w way j s0).2.2 → JS SP X mX2_walks (rmOf mX2_walks.lv 0 0) (ZSp X 0 0 Q) 0 0 90 [some (.ref (sk 0)), some (.int (nI p)), some (.ref (sk (30 + p))), some (.int (wkI w way j s0).1.1), some (.int (wkI w way j s0).1.2), some (.int (nI ((wkI w way j s0).2.1 + 1))), some (.int (nI kk)), some (.int (nI j)), none, none] [] (hz, tp, T, sk, S3, N) := by
        refine loop_down (N := v (56 + 33 * p + (5 + 2 * kk + 1))) (I := fun _ => True) (P := fun j => ∀ S3 : Nat → Nat → Int32, (∀ i, i ≠ 10 + p → S3 i = S1 i) → RowC w (S3 (10 + p)) (wkI w way j s0).2.2 → JS SP X mX2_walks (rmOf mX2_walks.lv 0 0) (ZSp X 0 0 Q) 0 0 90 [some (.ref (sk 0)), some (.int (nI p)), some (.ref (sk (30 + p))), some (.int (wkI w way j s0).1.1), some (.int (wkI w way j s0).1.2), some (.int (nI ((wkI w way j s0).2.1 + 1))), some (.int (nI kk)), some (.int (nI j)), none, none] [] (hz, tp, T, sk, S3, N)) (fun _ S3 hS3 hC3 => ?_) (fun j hj _ ih3 S3 hS3 hC3 => ?_)
        · have s50 : S3 (50 + p) kk = nI (v (56 + 33 * p + (5 + 2 * kk + 1))) := by rw [hS3 _ (by omega), hS1 _ (by omega), (f8 kk (by omega)).2, wy]
          refine bX2_walks_90.go rfl trivial ?_
          refine sp_pR (f := 4) (by decide) hp hB.2.1 nq962 dX2_walks_93 ?_
          refine bX2_walks_96.go rfl trivial ?_
          refine sw_pA (i := 50 + p) (Or.inr rfl) hp hB.2.1 (by omega) dX2_walks_98 ?_
          rw [s50]
          refine j_icmp_ge (tgt := 224) dX2_walks_99 (by decide) (fun h99 => ?_) (fun h99 => absurd (nI_le (Nat.le_refl _) (by omega)) h99)
          refine bX2_walks_224.go rfl trivial ?_
          rw [show (1 : Int32) = nI 1 from rfl, nI_add]
          have := ih2 S3 hS3 (by rw [eW]; exact hC3)
          rw [eW] at this
          exact JS.weak (by simp [lsub]) this
        have ih3 := ih3 trivial
        have s50 : S3 (50 + p) kk = nI (v (56 + 33 * p + (5 + 2 * kk + 1))) := by rw [hS3 _ (by omega), hS1 _ (by omega), (f8 kk (by omega)).2, wy]
        have s40 : S3 (40 + p) kk = wayI way := by rw [hS3 _ (by omega), hS1 _ (by omega), (f8 kk (by omega)).1, hwy]
        have s06 : S3 0 6 = nI (v 6) := by rw [hS3 _ (by omega), hS1 _ (by omega), hr.2.2.1.2.2.1, w1 6 (by decide)]
        have hr3 : SR S3 N w := hr.cel (fun i hi => by rw [hS3 i (by omega), hS1 i hi])
        have hmj : (wkI w way j s0).2.1 = s0.2.1 + j := wkI_m _ _ _ _
        refine bX2_walks_90.go rfl trivial ?_
        refine sp_pR (f := 4) (by decide) hp hB.2.1 nq962 dX2_walks_93 ?_
        refine bX2_walks_96.go rfl trivial ?_
        refine sw_pA (i := 50 + p) (Or.inr rfl) hp hB.2.1 (by omega) dX2_walks_98 ?_
        rw [s50]
        refine j_icmp_ge (tgt := 224) dX2_walks_99 (by decide) (fun h99 => absurd h99 (by rw [nI_leI (by omega) (by omega)]; omega)) (fun h99 => ?_)
        generalize hsj : wkI w way j s0 = sj at hC3 hmj ⊢
        obtain ⟨⟨x, y⟩, mj, Fj⟩ := sj
        dsimp only at hC3 hmj ⊢
        have eS : wkI w way (j + 1) s0 = (stepP w way (x, y), mj + 1, va_up Fj (mj + 1) (some (stepP w way (x, y)))) := by rw [wkI, hsj]
        -- the row is written, the minute goes on
        have j190 : ∀ x' y', stepP w way (x, y) = (x', y') → ∀ l8 l9, JS SP X mX2_walks (rmOf mX2_walks.lv 0 0) (ZSp X 0 0 Q) 0 0 190 [some (.ref (sk 0)), some (.int (nI p)), some (.ref (sk (30 + p))), some (.int x'), some (.int y'), some (.int (nI (mj + 1))), some (.int (nI kk)), some (.int (nI j)), l8, l9] [] (hz, tp, T, sk, S3, N) := by
          intro x' y' es l8 l9
          rw [es] at eS
          have go : ∀ S4 : Nat → Nat → Int32, (∀ i, i ≠ 10 + p → S4 i = S1 i) → RowC w (S4 (10 + p)) (va_up Fj (mj + 1) (some (x', y'))) → JS SP X mX2_walks (rmOf mX2_walks.lv 0 0) (ZSp X 0 0 Q) 0 0 215 [some (.ref (sk 0)), some (.int (nI p)), some (.ref (sk (30 + p))), some (.int x'), some (.int y'), some (.int (nI (mj + 1))), some (.int (nI kk)), some (.int (nI j)), l8, l9] [] (hz, tp, T, sk, S4, N) := by
            intro S4 hS4 hC4
            refine bX2_walks_215.go rfl trivial ?_
            rw [show (1 : Int32) = nI 1 from rfl, nI_add, nI_add]
            have := ih3 S4 hS4 (by rw [eS]; exact hC4)
            rw [eS] at this
            exact JS.weak (by simp [lsub]) this
          refine bX2_walks_190.go rfl trivial ?_
          refine sw_I (f := 6) (by decide) q445 dX2_walks_193 ?_
          rw [s06]
          refine j_icmp_ge (tgt := 215) dX2_walks_196 (by decide) (fun h196 => ?_) (fun h196 => ?_)
          · rw [nI_leI (by omega) (by omega)] at h196
            refine go S3 hS3 (fun t ht => ?_)
            rw [sp] at ht
            rw [va_up_ne _ _ (by omega)]
            exact hC3 t (by omega)
          · rw [nI_leI (by omega) (by omega)] at h196
            refine bX2_walks_199.go rfl trivial ?_
            refine sw_R (f := 3) (by decide) q435 dX2_walks_200 ?_
            refine bX2_walks_203.go rfl trivial ?_
            refine sw_row hp8 dX2_walks_204 ?_
            refine bX2_walks_205.go rfl trivial ?_
            refine sw_st hp8 (by omega) dX2_walks_214 ?_
            refine go _ (fun i hi => by rw [upA_ne hi]; exact hS3 i hi) (fun t ht => ?_)
            rw [upA_s, up_at, up_at]
            by_cases y0 : t = mj + 1
            · rw [if_pos y0, if_pos y0]; rfl
            · rw [if_neg y0, if_neg y0]; exact hC3 t ht
        have j169 : ∀ tx b, tx = x + dxI way → b = dyI way → JS SP X mX2_walks (rmOf mX2_walks.lv 0 0) (ZSp X 0 0 Q) 0 0 169 [some (.ref (sk 0)), some (.int (nI p)), some (.ref (sk (30 + p))), some (.int x), some (.int y), some (.int (nI (mj + 1))), some (.int (nI kk)), some (.int (nI j)), some (.int tx), none] [.int b, .int y] (hz, tp, T, sk, S3, N) := by
          rintro tx b rfl rfl
          refine bX2_walks_169.go rfl trivial ?_
          refine sw_free hr3 hfr dX2_walks_177 q1113 (by decide) rfl ?_
          by_cases y4 : way = nI 4
          · have st : stepP w way (x, y) = (x, y) := by rw [stepP, goesB, decide_eq_true y4]; rfl
            have d0 : x + dxI way = x := by rw [y4, show dxI (nI 4) = 0 by decide +kernel, Int32.add_zero]
            have d1 : y + dyI way = y := by rw [y4, show dyI (nI 4) = 0 by decide +kernel, Int32.add_zero]
            refine j_if_eq (tgt := 190) dX2_walks_180 (by decide) (fun h180 => j190 _ _ st _ _) (fun h180 => ?_)
            refine bX2_walks_183.go rfl trivial ?_
            rw [d0, d1]
            exact j190 _ _ st _ _
          · refine j_if_eq (tgt := 190) dX2_walks_180 (by decide) (fun h180 => ?_) (fun h180 => ?_)
            · rw [b2_0] at h180
              exact j190 _ _ (by rw [stepP, goesB, decide_eq_false y4, h180]; rfl) _ _
            · rw [b2_n0] at h180
              refine bX2_walks_183.go rfl trivial ?_
              exact j190 _ _ (by rw [stepP, goesB, decide_eq_false y4, h180]; rfl) _ _
        have j134 : ∀ a, a = dxI way → JS SP X mX2_walks (rmOf mX2_walks.lv 0 0) (ZSp X 0 0 Q) 0 0 134 [some (.ref (sk 0)), some (.int (nI p)), some (.ref (sk (30 + p))), some (.int x), some (.int y), some (.int (nI (mj + 1))), some (.int (nI kk)), some (.int (nI j)), none, none] [.int a, .int x] (hz, tp, T, sk, S3, N) := by
          rintro a rfl
          refine bX2_walks_134.go rfl trivial ?_
          refine sp_pR (f := 3) (by decide) hp hB.2.1 nq959 dX2_walks_140 ?_
          refine bX2_walks_143.go rfl trivial ?_
          refine sw_pA (i := 40 + p) (Or.inl rfl) hp hB.2.1 (by omega) dX2_walks_145 ?_
          rw [s40]
          refine bX2_walks_146.go rfl trivial ?_
          refine j_icmp_ne (tgt := 154) dX2_walks_147 (by decide) (fun h147 => ?_) (fun h147 => ?_)
          · refine bX2_walks_154.go rfl trivial ?_
            refine sp_pR (f := 3) (by decide) hp hB.2.1 nq959 dX2_walks_155 ?_
            refine bX2_walks_158.go rfl trivial ?_
            refine sw_pA (i := 40 + p) (Or.inl rfl) hp hB.2.1 (by omega) dX2_walks_160 ?_
            rw [s40]
            refine j_if_ne (tgt := 168) dX2_walks_161 (by decide) (fun h161 => ?_) (fun h161 => ?_)
            · refine bX2_walks_168.go rfl trivial ?_
              exact j169 _ _ rfl (by rw [← way_dy, if_neg h147, if_neg h161])
            · refine bX2_walks_164.go rfl trivial ?_
              exact j169 _ _ rfl (by rw [← way_dy, if_neg h147, if_pos h161])
          · refine bX2_walks_150.go rfl trivial ?_
            exact j169 _ _ rfl (by rw [← way_dy, if_pos h147])
        refine bX2_walks_102.go rfl trivial ?_
        refine sp_pR (f := 3) (by decide) hp hB.2.1 nq959 dX2_walks_104 ?_
        refine bX2_walks_107.go rfl trivial ?_
        refine sw_pA (i := 40 + p) (Or.inl rfl) hp hB.2.1 (by omega) dX2_walks_109 ?_
        rw [s40]
        refine bX2_walks_110.go rfl trivial ?_
        refine j_icmp_ne (tgt := 118) dX2_walks_111 (by decide) (fun h111 => ?_) (fun h111 => ?_)
        · refine bX2_walks_118.go rfl trivial ?_
          refine sp_pR (f := 3) (by decide) hp hB.2.1 nq959 dX2_walks_119 ?_
          refine bX2_walks_122.go rfl trivial ?_
          refine sw_pA (i := 40 + p) (Or.inl rfl) hp hB.2.1 (by omega) dX2_walks_124 ?_
          rw [s40]
          refine bX2_walks_125.go rfl trivial ?_
          refine j_icmp_ne (tgt := 133) dX2_walks_126 (by decide) (fun h126 => ?_) (fun h126 => ?_)
          · refine bX2_walks_133.go rfl trivial ?_
            exact j134 _ (by rw [← way_dx, if_neg h111, if_neg h126])
          · refine bX2_walks_129.go rfl trivial ?_
            exact j134 _ (by rw [← way_dx, if_neg h111, if_pos h126])
        · refine bX2_walks_114.go rfl trivial ?_
          exact j134 _ (by rw [← way_dx, if_pos h111])
      exact inr 0 (Nat.zero_le _) trivial S2 hS2 hC2
    have l0 := leg 0 (Nat.zero_le _) trivial (upA (va_up S1 (10 + p) g0) (10 + p) (v (56 + 33 * p + 2)) (perI w p 0 + nI 100 * perI w p 1)) (fun i hi => by rw [upA_ne hi, va_up_ne _ _ hi]) (fun t ht => by
      rw [upA_s, va_up_self]
      show _ = cellI (va_up (fun _ => none) (perI w p 2).toNatClampNeg (some (perI w p 0, perI w p 1)) t)
      rw [t0, nI_clamp (by omega), up_at, up_at]
      by_cases y0 : t = v (56 + 33 * p + 2)
      · rw [if_pos y0, if_pos y0]; rfl
      · rw [if_neg y0, if_neg y0]; exact hg0 t (by omega))
    have e1 : (wkO w p 0).2.1 = v (56 + 33 * p + 2) := by show (perI w p 2).toNatClampNeg = _; rw [t0, nI_clamp (by omega)]
    rw [e1] at l0
    exact l0
  exact main 0 (Nat.zero_le _) trivial S (fun _ _ => rfl) (fun q hq => absurd hq (Nat.not_lt_zero _))
end Wks
