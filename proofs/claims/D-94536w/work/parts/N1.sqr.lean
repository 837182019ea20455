set_option maxRecDepth 100000
/-! ===== UnseenClock: square ===== -/
theorem bX0_square_0 : Blk CP mX0_square 0 1 [oAL 0] := blk_c (s_aload_n dX0_square_0 rfl) <| blk_nil
theorem bX0_square_4 : Blk CP mX0_square 4 13 [oDupR, oAL 0, cR 0 8 6, oAL 0, cI 0 9] := blk_c (s_dupR dX0_square_4) <| blk_c (s_aload_n dX0_square_5 rfl) <| blk_c (cgX0_8 (Or.inl q564) dX0_square_6) <| blk_c (s_aload_n dX0_square_9 rfl) <| blk_c (cgX0_9 (Or.inl q565) dX0_square_10) <| blk_nil
theorem bX0_square_22 : Blk CP mX0_square 22 24 [oC (nI 0), oIS 1] := blk_c (s_iconst dX0_square_22 (by decide +kernel)) <| blk_c (s_istore_n dX0_square_23 rfl (by decide)) <| blk_nil
theorem bX0_square_24 : Blk CP mX0_square 24 37 [oIL 1, oAL 0, cQ0, qR 0 0 1, qSzC 0] := blk_c (s_iload_n dX0_square_24 rfl) <| blk_c (s_aload_n dX0_square_25 rfl) <| blk_c (cgX0_1 (Or.inl q557) dX0_square_26) <| blk_c (q_R (by decide) (fun _ _ => rfl) (Or.inr ⟨_, nq427⟩) dX0_square_29) <| blk_c (q_SzC (lw_F q1115 q803 q805 q136 q807) (by decide) dX0_square_32) <| blk_nil
theorem bX0_square_40 : Blk CP mX0_square 40 61 [oAL 0, cR 0 2 2, oIL 1, oAL 0, cQ0, qR 0 0 1, oIL 1, qDial 0] := blk_c (s_aload_n dX0_square_40 rfl) <| blk_c (cgX0_2 (Or.inl q558) dX0_square_41) <| blk_c (s_iload_n dX0_square_44 rfl) <| blk_c (s_aload_n dX0_square_45 rfl) <| blk_c (cgX0_1 (Or.inl q557) dX0_square_46) <| blk_c (q_R (by decide) (fun _ _ => rfl) (Or.inr ⟨_, nq427⟩) dX0_square_49) <| blk_c (s_iload_n dX0_square_52 rfl) <| blk_c (q_Dial (lw_F q1117 q812 q814 q136 q816) (by decide) dX0_square_53 q1118 dX0_square_58) <| blk_nil
theorem bX0_square_64 : Blk CP mX0_square 64 24 [cSI 2 4, oInc 1 1, .inl (fun s => some s)] := blk_c (c_iast (fun _ => rfl) dX0_square_64) <| blk_c (s_iinc dX0_square_65 (by decide +kernel) (by decide)) <| blk_c (s_goto (tgt := 24) dX0_square_68 (by decide)) <| blk_nil
theorem bX0_square_71 : Blk CP mX0_square 71 100 [oAL 0, oC (nI 0), cPI 0 3, oAL 0, oC (nI 0), cPI 0 10, oAL 0, oC (-1), cPI 0 11, oAL 0, cQ0, qI 0 8 3, oIS 1, oAL 0, oC (nI 0), cPI 0 9, oIL 1] := blk_c (s_aload_n dX0_square_71 rfl) <| blk_c (s_iconst dX0_square_72 (by decide +kernel)) <| blk_c (cpX0_3 (Or.inl q559) dX0_square_73) <| blk_c (s_aload_n dX0_square_76 rfl) <| blk_c (s_iconst dX0_square_77 (by decide +kernel)) <| blk_c (cpX0_10 (Or.inl q566) dX0_square_78) <| blk_c (s_aload_n dX0_square_81 rfl) <| blk_c (s_iconst dX0_square_82 (by decide +kernel)) <| blk_c (cpX0_11 (Or.inl q567) dX0_square_83) <| blk_c (s_aload_n dX0_square_86 rfl) <| blk_c (cgX0_1 (Or.inl q557) dX0_square_87) <| blk_c (q_I (by decide) (fun _ _ => rfl) (Or.inr ⟨_, nq452⟩) dX0_square_90) <| blk_c (s_istore_n dX0_square_93 rfl (by decide)) <| blk_c (s_aload_n dX0_square_94 rfl) <| blk_c (s_iconst dX0_square_95 (by decide +kernel)) <| blk_c (cpX0_9 (Or.inl q565) dX0_square_96) <| blk_c (s_iload_n dX0_square_99 rfl) <| blk_nil
theorem pS_0 : Blk PE mX0_square 0 1 [oAL 0] := blk_c (s_aload_n dX0_square_0 rfl) <| blk_nil
theorem pS_4 : Blk PE mX0_square 4 6 [oDupR, oAL 0] := blk_c (s_dupR dX0_square_4) <| blk_c (s_aload_n dX0_square_5 rfl) <| blk_nil
theorem pS_9 : Blk PE mX0_square 9 10 [oAL 0] := blk_c (s_aload_n dX0_square_9 rfl) <| blk_nil
theorem dS_22 : Blk CPD mX0_square 22 24 [oC (nI 0), oIS 1] := blk_c (s_iconst dX0_square_22 (by decide +kernel)) <| blk_c (s_istore_n dX0_square_23 rfl (by decide)) <| blk_nil
theorem dS_24 : Blk CPD mX0_square 24 26 [oIL 1, oAL 0] := blk_c (s_iload_n dX0_square_24 rfl) <| blk_c (s_aload_n dX0_square_25 rfl) <| blk_nil
theorem dS_40 : Blk CPD mX0_square 40 41 [oAL 0] := blk_c (s_aload_n dX0_square_40 rfl) <| blk_nil
theorem dS_44 : Blk CPD mX0_square 44 46 [oIL 1, oAL 0] := blk_c (s_iload_n dX0_square_44 rfl) <| blk_c (s_aload_n dX0_square_45 rfl) <| blk_nil
theorem dS_52 : Blk CPD mX0_square 52 53 [oIL 1] := blk_c (s_iload_n dX0_square_52 rfl) <| blk_nil
theorem dS_65 : Blk CPD mX0_square 65 24 [oInc 1 1, .inl (fun s => some s)] := blk_c (s_iinc dX0_square_65 (by decide +kernel) (by decide)) <| blk_c (s_goto (tgt := 24) dX0_square_68 (by decide)) <| blk_nil
theorem pS_101 : Blk PE mX0_square 101 104 [oAS 1, oAL 0, oAL 1] := blk_c (s_astore_n dX0_square_101 rfl (by decide)) <| blk_c (s_aload_n dX0_square_102 rfl) <| blk_c (s_aload_n dX0_square_103 rfl) <| blk_nil
theorem pS_110 : Blk PE mX0_square 110 112 [oAL 0, oAL 1] := blk_c (s_aload_n dX0_square_110 rfl) <| blk_c (s_aload_n dX0_square_111 rfl) <| blk_nil
theorem pS_118 : Blk PE mX0_square 118 123 [oC (-4), oIS 2, oAL 0, oC (nI 0)] := blk_c (s_bipush dX0_square_118 (by decide +kernel)) <| blk_c (s_istore_n dX0_square_120 rfl (by decide)) <| blk_c (s_aload_n dX0_square_121 rfl) <| blk_c (s_iconst dX0_square_122 (by decide +kernel)) <| blk_nil
theorem pS_126 : Blk PE mX0_square 126 127 [oIL 2] := blk_c (s_iload_n dX0_square_126 rfl) <| blk_nil
theorem sr_sq : Srch RX0 RX6 16 ehSq (some 101) := Or.inr (Or.inr ⟨by decide, by decide, RX6, q608, Or.inl ⟨Or.inl rfl, rfl⟩⟩)
section Sqr
variable {X : Cx} {ad : Nat → Nat} {A : Nat → Nat → Int32} {B : Nat → Nat → Int64} {sk : Nat → Nat → Nat} {sw : Nat → Nat → Int32} {E : Nat → Nat} {h : AH} {n : Nat} {w0 : Nat → Int32} {aK aV : Nat → Nat}
def Qc_square (ad : Nat → Nat) (A : Nat → Nat → Int32) (B : Nat → Nat → Int64) (sk : Nat → Nat → Nat) (sw : Nat → Nat → Int32) (E : Nat → Nat) (F : RdE × (Nat → Int32)) (r : Option Value) (x' : Cv) : Prop := match F.1 with
  | .inl (k, p) => r = some (.int (-4)) ∧ x' = (ad, upA (upA (upA A 0 10 k) 0 11 (nI p)) 0 9 (nI 0), B, sk, sw, E)
  | .inr _ => r = some (.int (F.2 3)) ∧ ∃ sk' A', x' = (ad, A', B, va_up sk 0 sk', va_up sw 0 F.2, E) ∧ (∀ f, f ≠ 0 → f ≠ 2 → A' f = A f) ∧ (∀ j, A' 0 j = if j = 9 then nI 0 else if j = 11 then -1 else if j = 10 then nI 0 else if j = 3 then nI 0 else A 0 j) ∧ ∀ j, A' 2 j = if j < nC F.2 then F.2 (32 + 6 * j + 2) else A 2 j
theorem pb_square (hC : RdC X aK aV (A 6)) (h9 : A 0 9 = nI n) (hn : n ≤ 2400) (hz0 : Zero w0) (hp : CP X (ad, A, B, sk, sw, E) h) : CgX X mX0_square cwSq (rSqr n) [.ref (ad 0)] h (fun r h' => ∃ x', Qc_square ad A B sk sw E (sqE (A 6) n w0) r x' ∧ CP X x' h') (fun _ _ _ => False) := by
  have hX := hC.1
  generalize hQ : (fun (r : Option Value) (h' : AH) => ∃ x', Qc_square ad A B sk sw E (sqE (A 6) n w0) r x' ∧ CP X x' h') = Q
  refine CgX.ofW (hh := ehSq) (L := [some (.ref (ad 0)), none, none, none]) (by decide +kernel) rfl 3 rfl (Nat.le_of_ble_eq_true rfl) ⟨Nat.le_refl _, Nat.le_refl _⟩ ?_
  refine of_js ?_
  refine pS_0.go rfl trivial ?_
  have a0 : h (ad 0) = some (.inr (0, fsX0 ad A sk)) := hp.at 0 rfl
  refine js_of (J.new (C := RX5) (T := TX5) (N := 7) (ty := tyX5) (ci := 5) (fs := [.null, .int 0, .null, .int 0, .int 0, .int 0, .int 0]) hp.1.2 clsX5 rfl q609 q610 q139 (by decide +kernel) ⟨by show 0 + 1 ≤ 13 * (n + 1) + 17; omega, by show 0 + 7 ≤ 102 * (n + 1) + 770; omega⟩ dX0_square_1 (fun r hr => ?_))
  refine of_js ?_
  refine pS_4.go rfl trivial ?_
  refine js_of (J.getf (f := 8) clsX0 rfl (up_k a0 hr) (by decide) rfl q564 dX0_square_6 ?_)
  refine of_js ?_
  refine pS_9.go rfl trivial ?_
  refine js_of (J.getf (f := 9) clsX0 rfl (up_k a0 hr) (by decide) rfl q565 dX0_square_10 ?_)
  rw [h9]
  have a6 : h (ad 6) = some (.inl (X.dA 2, 2400, .inl (A 6))) := hp.at 6 rfl
  refine J.callI (M' := mX5_init) (As := [.ref (ad 6), .int (nI n)]) (mc := 15) (ms := 755) (ok_X5_init (hz := h) hp.1.1 hp.1.2 hC.2.2.2.2 hn (va_up_self _ _ _) (fun z e hz => up_k hz hr) hr a6) rfl (fun o h' q => ⟨_, q.1⟩) dX0_square_13 q613 q139 q611 q612 rfl hy_i5 (by decide) ⟨by show 0 + 1 + 15 ≤ 13 * (n + 1) + 17; omega, by show 0 + 7 + 755 ≤ 102 * (n + 1) + 770; omega⟩ (Nat.le_of_ble_eq_true rfl) (fun v h2 q0 => ?_)
  obtain ⟨q0, skn, S, rfl, hsp, hS, hg⟩ := q0
  cases q0
  refine J.callX (M' := mX5_reads) (R' := rmOf mX5_reads.lv (13 * (n + 1) + 1) (102 * (n + 1) + 8)) (ci := 5) (q := (RX5, TX5, 7)) (As := []) (st := [.ref (ad 0)]) (ok_reads hC (SR.zero hS hz0) (LpI.start (A 6) n hz0) hg hn h2 hsp) q655 (Or.inl rfl) (hsp.at u_rd) rfl dX0_square_16 q652 q653 q654 q139 ⟨hy_X5_reads.1, hy_X5_reads.2.1, hy_X5_reads.2.2⟩ ⟨by show 13 + 1 ≤ 14; omega, by show 8 + (1 + 11) + 440 * 13 ≤ 6160; omega⟩ ⟨by show 0 + 1 + 15 + (13 * (n + 1) + 1) ≤ 13 * (n + 1) + 17; omega, by show 0 + 7 + 755 + (102 * (n + 1) + 8) ≤ 102 * (n + 1) + 770; omega⟩ (Nat.le_of_ble_eq_true rfl) (fun v h3 q => ?_) (fun C a h3 q => ?_)
  · obtain ⟨x', ⟨rfl, ts', sk', S', N', e1, rfl, ⟨e120, e00⟩, hr', hc'⟩, hp3⟩ := q
    have e1 : (sqE (A 6) n w0).1 = .inr ts' := e1
    have hr' : SR S' N' (sqE (A 6) n w0).2 := hr'
    have hc' : ∀ p, p < N' 1 → RowC (sqE (A 6) n w0).2 (S' (10 + p)) (spotF (sqE (A 6) n w0).2 p) := hc'
    have eQ : ∀ r h', Q r h' ↔ ∃ x', (r = some (.int ((sqE (A 6) n w0).2 3)) ∧ ∃ sk' A', x' = (ad, A', B, va_up sk 0 sk', va_up sw 0 (sqE (A 6) n w0).2, E) ∧ (∀ f, f ≠ 0 → f ≠ 2 → A' f = A f) ∧ (∀ j, A' 0 j = if j = 9 then nI 0 else if j = 11 then -1 else if j = 10 then nI 0 else if j = 3 then nI 0 else A 0 j) ∧ ∀ j, A' 2 j = if j < nC (sqE (A 6) n w0).2 then (sqE (A 6) n w0).2 (32 + 6 * j + 2) else A 2 j) ∧ CP X x' h' := fun r h' => by
      rw [← hQ]
      unfold Qc_square
      rw [e1]
    clear hQ
    generalize (sqE (A 6) n w0).2 = w at eQ hr' hc'
    have b4 := hr'.bd.1
    have hw4 : nC w = N' 0 := hr'.1.1.symm
    refine J.putf (f := 1) (fs := fsX0 ad A sk) clsX0 rfl (hp3.2.2.2.1 _ _ a0) (by decide) (Nat.le_of_ble_eq_true rfl) rfl rfl rfl q557 dX0_square_19 ?_
    have hcd : CPD X (ad, A, B, va_up sk 0 sk', va_up sw 0 w, E) (va_up h3 (ad 0) (some (.inr (0, fsX0 ad A (va_up sk 0 sk'))))) := by
      refine ⟨hp.nsq hp3 hr' hc', fun c hc => ?_⟩
      have hc : c < N' 0 := by rw [← hw4]; exact hc
      have ud : SpU N' (20 + c) := u_d hc
      have hn0 : ∀ k e, h (ad k) = some e → sk' (20 + c) ≠ ad k := fun k e he y => by
        have : h (sk' (20 + c)) = none := hp3.2.2.2.2.1 _ ud
        rw [y, he] at this; cases this
      refine ⟨?_, hn0 2 _ (hp.at 2 rfl)⟩
      show va_up h3 (ad 0) _ (sk' (20 + c)) = some (.inr (7, [.int (w (32 + 6 * c)), .int (w (32 + 6 * c + 1)), .int (w (32 + 6 * c + 2)), .int (w (32 + 6 * c + 3)), .int (w (32 + 6 * c + 4)), .int (w (32 + 6 * c + 5))]) : va_E)
      rw [va_up_ne _ _ (hn0 0 _ a0), hp3.at ud, spc_d (by omega)]
      have f := hr'.2.2.2.2.1 c hc
      rw [f 0 (by decide), f 1 (by decide), f 2 (by decide), f 3 (by decide), f 4 (by decide), f 5 (by decide)]
      rfl
    have eF : (fsX0 ad A sk).set 1 (.ref (skn 0)) = fsX0 ad A (va_up sk 0 sk') := by
      show _ = [Value.ref (ad 1), .ref (va_up sk 0 sk' 0 0), .ref (ad 2), .int (A 0 3), .ref (ad 3), .ref (ad 4), .int (A 0 6), .ref (ad 5), .ref (ad 6), .int (A 0 9), .int (A 0 10), .int (A 0 11), .ref (ad 7)]
      rw [va_up_self, e00]; rfl
    rw [eF]
    refine (show JS CPD X mX0_square (rSqr n) (ZX X (rSqr n).cells (rSqr n).slots Q (fun _ _ _ => False)) (0 + 1 + 15 + (13 * (n + 1) + 1)) (0 + 7 + 755 + (102 * (n + 1) + 8)) 22 _ _ _ from ?_) _ hcd
    refine dS_22.go rfl trivial ?_
    have main : ∀ k, k ≤ nC w → True → ∀ A1 : Nat → Nat → Int32, (∀ f, f ≠ 2 → A1 f = A f) → (∀ j, A1 2 j = if j < k then w (32 + 6 * j + 2) else A 2 j) → JS CPD X mX0_square (rSqr n) (ZX X (rSqr n).cells (rSqr n).slots Q (fun _ _ _ => False)) (0 + 1 + 15 + (13 * (n + 1) + 1)) (0 + 7 + 755 + (102 * (n + 1) + 8)) 24 [some (.ref (ad 0)), some (.int (nI k)), none, none] [] (ad, A1, B, va_up sk 0 sk', va_up sw 0 w, E) := by
      have es : va_up sw 0 w 0 = w := va_up_self _ _ _
      refine loop_down (N := nC w) (I := fun _ => True) (P := fun k => ∀ A1 : Nat → Nat → Int32, (∀ f, f ≠ 2 → A1 f = A f) → (∀ j, A1 2 j = if j < k then w (32 + 6 * j + 2) else A 2 j) → JS CPD X mX0_square (rSqr n) (ZX X (rSqr n).cells (rSqr n).slots Q (fun _ _ _ => False)) (0 + 1 + 15 + (13 * (n + 1) + 1)) (0 + 7 + 755 + (102 * (n + 1) + 8)) 24 [some (.ref (ad 0)), some (.int (nI k)), none, none] [] (ad, A1, B, va_up sk 0 sk', va_up sw 0 w, E)) (fun _ A1 hA1 hA2 => ?_) (fun k hk _ ih A1 hA1 hA2 => ?_)
      · refine dS_24.go rfl trivial ?_
        refine sd_now q557 dX0_square_26 ?_
        refine sd_cl nq427 dX0_square_29 ?_
        refine sd_size dX0_square_32 (lw_F q1115 q803 q805 q136 q807) (by decide) rfl ?_
        rw [es]
        refine j_icmp_ge (tgt := 71) dX0_square_37 (by decide) (fun h37 => ?_) (fun h37 => absurd (nI_le (Nat.le_refl _) (by omega)) h37)
        refine fun hh hhp => ?_
        refine (show JS CP X mX0_square (rSqr n) (ZX X (rSqr n).cells (rSqr n).slots Q (fun _ _ _ => False)) _ _ 71 _ _ _ from ?_) hh hhp.1
        refine bX0_square_71.go rfl (by repeat' first | exact trivial | rfl | assumption | omega | exact Or.inl rfl | apply And.intro) ?_
        intro h5 hp5
        refine J.toX (J.iret dX0_square_100 rfl (by show 0 + 1 + 15 + (13 * (n + 1) + 1) ≤ 13 * (n + 1) + 17; omega) (by show 0 + 7 + 755 + (102 * (n + 1) + 8) ≤ 102 * (n + 1) + 770; omega) ⟨_, rfl, (eQ _ _).mpr ⟨_, ⟨by rw [es], sk', _, rfl, fun f f0 f2 => ?_, fun j => ?_, fun j => ?_⟩, hp5⟩⟩)
        · rw [upA_ne f0, upA_ne f0, upA_ne f0, upA_ne f0, hA1 f f2]
        · rw [upA_at, upA_at, upA_at, upA_at, hA1 0 (by decide)]
        · rw [upA_ne (by decide), upA_ne (by decide), upA_ne (by decide), upA_ne (by decide), hA2 j]
      · have ih := ih trivial
        refine dS_24.go rfl trivial ?_
        refine sd_now q557 dX0_square_26 ?_
        refine sd_cl nq427 dX0_square_29 ?_
        refine sd_size dX0_square_32 (lw_F q1115 q803 q805 q136 q807) (by decide) rfl ?_
        rw [es]
        refine j_icmp_ge (tgt := 71) dX0_square_37 (by decide) (fun h37 => absurd h37 (by rw [nI_leI (by omega) (by omega)]; omega)) (fun h37 => ?_)
        refine dS_40.go rfl trivial ?_
        refine sd_pcs q558 dX0_square_41 ?_
        refine dS_44.go rfl trivial ?_
        refine sd_now q557 dX0_square_46 ?_
        refine sd_cl nq427 dX0_square_49 ?_
        refine dS_52.go rfl trivial ?_
        have hk' : k < nC (va_up sw 0 w 0) := by rw [es]; exact hk
        refine sd_get hk' dX0_square_53 (lw_F q1117 q812 q814 q136 q816) (by decide) rfl ?_
        refine sd_cast hk' q1118 dX0_square_58 ?_
        refine sd_pace hk' nq848 dX0_square_61 ?_
        refine sd_st (by omega) dX0_square_64 ?_
        refine dS_65.go rfl trivial ?_
        rw [show (1 : Int32) = nI 1 from rfl, nI_add, es]
        refine ih _ (fun f hf => by rw [upA_ne hf]; exact hA1 f hf) (fun j => ?_)
        rw [upA_at, hA2 j]
        by_cases y : j = k
        · rw [if_pos y, y, if_pos (by omega)]
        · rw [if_neg y]
          by_cases y2 : j < k
          · rw [if_pos y2, if_pos (by omega)]
          · rw [if_neg y2, if_neg (by omega)]
    exact main 0 (Nat.zero_le _) trivial A (fun _ _ => rfl) (fun j => (if_neg (Nat.not_lt_zero _)).symm)
  · obtain ⟨rfl, k, p, hk, ha, hl, hna⟩ := q
    have hk : (sqE (A 6) n w0).1 = .inl (k, p) := hk
    have eQ : ∀ r h', Q r h' ↔ ∃ x', (r = some (.int (-4)) ∧ x' = (ad, upA (upA (upA A 0 10 k) 0 11 (nI p)) 0 9 (nI 0), B, sk, sw, E)) ∧ CP X x' h' := fun r h' => by
      rw [← hQ]
      unfold Qc_square
      rw [hk]
    have n0 : a ≠ ad 0 := fun y => by rw [y] at hna; rw [show h (ad 0) = none from hna] at a0; cases a0
    refine JT.catch hX rfl sr_sq ?_
    refine of_js ?_
    refine pS_101.go rfl trivial ?_
    refine js_of (J.getfN (f := 6) hp.1.1 clsX6 rfl ha (by decide) rfl nq747 dX0_square_104 ?_)
    refine J.putf (f := 10) (fs := fsX0 ad A sk) clsX0 rfl (hl _ _ a0) (by decide) (Nat.le_of_ble_eq_true rfl) rfl rfl rfl q566 dX0_square_107 ?_
    refine of_js ?_
    refine pS_110.go rfl trivial ?_
    refine js_of (J.getfN (f := 7) hp.1.1 clsX6 rfl (by rw [va_up_ne _ _ n0]; exact ha) (by decide) rfl nq749 dX0_square_112 ?_)
    refine J.putf (f := 11) clsX0 rfl (va_up_self _ _ _) (by decide) (Nat.le_of_ble_eq_true rfl) rfl rfl rfl q567 dX0_square_115 ?_
    rw [up_up]
    refine of_js ?_
    refine pS_118.go rfl trivial ?_
    refine js_of (J.putf (f := 9) clsX0 rfl (va_up_self _ _ _) (by decide) (Nat.le_of_ble_eq_true rfl) rfl rfl rfl q565 dX0_square_123 ?_)
    rw [up_up]
    refine of_js ?_
    refine pS_126.go rfl trivial ?_
    refine js_of (J.toX (J.iret dX0_square_127 rfl (by show 0 + 1 + 15 + (13 * (n + 1) + 1) ≤ 13 * (n + 1) + 17; omega) (by show 0 + 7 + 755 + (102 * (n + 1) + 8) ≤ 102 * (n + 1) + 770; omega) ⟨_, rfl, (eQ _ _).mpr ⟨_, ⟨rfl, rfl⟩, ?_⟩⟩))
    exact (hp.le hl).upd (k := 0) (A' := upA (upA (upA A 0 10 k) 0 11 (nI p)) 0 9 (nI 0)) (fun j hj => by rw [upA_ne hj, upA_ne hj, upA_ne hj]) (fun _ _ => rfl) rfl
end Sqr
