set_option maxRecDepth 100000
/-! ===== UnseenClock$Reader: person ===== -/
section Prs
variable {X : Cx} {M : MD} {R : Room} {Z : ZT} {k m pc idx : Nat} {L : List (Option Value)} {st : List Value} {hz : AH} {tp n : Nat} {T w w' : Nat → Int32} {sk : Nat → Nat} {S S' : Nat → Nat → Int32} {N : Nat → Nat} {aK aV : Nat → Nat} {ts : TS} {x : Int32}
theorem bX5_person_0 : Blk SP mX5_person 0 8 [oAL 0, oAL 0, pRs, pSR 1] := blk_c (s_aload_n dX5_person_0 rfl) <| blk_c (s_aload_n dX5_person_1 rfl) <| blk_c (p_Rs q632 dX5_person_2) <| blk_c (p_SR (f := 1) (by decide) nq432 dX5_person_5) <| blk_nil
theorem bX5_person_13 : Blk SP mX5_person 13 15 [oC (nI 8)] := blk_c (s_bipush dX5_person_13 (by decide +kernel)) <| blk_nil
theorem bX5_person_18 : Blk SP mX5_person 18 23 [oC (nI 1), .inl (fun s => some s)] := blk_c (s_iconst dX5_person_18 (by decide +kernel)) <| blk_c (s_goto (tgt := 23) dX5_person_19 (by decide)) <| blk_nil
theorem bX5_person_22 : Blk SP mX5_person 22 23 [oC (nI 0)] := blk_c (s_iconst dX5_person_22 (by decide +kernel)) <| blk_nil
theorem bX5_person_26 : Blk SP mX5_person 26 27 [oAL 0] := blk_c (s_aload_n dX5_person_26 rfl) <| blk_nil
theorem bX5_person_29 : Blk SP mX5_person 29 39 [oC (nI 0), oAL 0, pRs, pSI 4, oC (nI 1), oSub] := blk_c (s_iconst dX5_person_29 (by decide +kernel)) <| blk_c (s_aload_n dX5_person_30 rfl) <| blk_c (p_Rs q632 dX5_person_31) <| blk_c (p_SI (f := 4) (by decide) nq439 dX5_person_34) <| blk_c (s_iconst dX5_person_37 (by decide +kernel)) <| blk_c (s_isub dX5_person_38) <| blk_nil
theorem bX5_person_42 : Blk SP mX5_person 42 45 [oIS 1, oAL 0, oIL 1] := blk_c (s_istore_n dX5_person_42 rfl (by decide)) <| blk_c (s_aload_n dX5_person_43 rfl) <| blk_c (s_iload_n dX5_person_44 rfl) <| blk_nil
theorem bX5_person_48 : Blk SP mX5_person 48 56 [oIS 2, oAL 0, pRs, pSR 1] := blk_c (s_istore_n dX5_person_48 rfl (by decide)) <| blk_c (s_aload_n dX5_person_49 rfl) <| blk_c (p_Rs q632 dX5_person_50) <| blk_c (p_SR (f := 1) (by decide) nq432 dX5_person_53) <| blk_nil
theorem bX5_person_59 : Blk SP mX5_person 59 63 [oDupR, oIL 1, oIL 2, oAL 0] := blk_c (s_dupR dX5_person_59) <| blk_c (s_iload_n dX5_person_60 rfl) <| blk_c (s_iload_n dX5_person_61 rfl) <| blk_c (s_aload_n dX5_person_62 rfl) <| blk_nil
theorem bX5_person_65 : Blk SP mX5_person 65 75 [oC (nI 0), oAL 0, pRs, pSI 6, oC (nI 1), oSub] := blk_c (s_iconst dX5_person_65 (by decide +kernel)) <| blk_c (s_aload_n dX5_person_66 rfl) <| blk_c (p_Rs q632 dX5_person_67) <| blk_c (p_SI (f := 6) (by decide) nq447 dX5_person_70) <| blk_c (s_iconst dX5_person_73 (by decide +kernel)) <| blk_c (s_isub dX5_person_74) <| blk_nil
theorem bX5_person_86 : Blk SP mX5_person 86 87 [oPopI] := blk_c (s_popI dX5_person_86) <| blk_nil
theorem ok_person (hC : RdC X aK aV T) (hr : SR S N w) (hF : FrOk w) (hE : ∀ q, nP w ≤ q → q < 8 → w (56 + 33 * q + 3) = nI 0 ∧ w (56 + 33 * q + 4) = nI 0) (hw : ∃ a b : Nat, a ≤ 12 ∧ b ≤ 12 ∧ w 4 = nI a ∧ w 5 = nI b) (hg : TokG (S 120) n ts) (hts : TsW T n ts) (hn : n ≤ 2400) : SPX X mX5_person 11 74 [.ref (sk 120)] (hz, tp, T, sk, S, N) (fun r x' => ¬ w 2 = nI 8 ∧ QLn hz tp T n sk (personE T n (nP w) (.inr (advS T n ts.1)) w) r x') (fun k p => (w 2 = nI 8 ∧ (k, p) = (nI 3, ts.2.1)) ∨ (¬ w 2 = nI 8 ∧ (personE T n (nP w) (.inr (advS T n ts.1)) w).1 = .inl (k, p))) := by
  have hX := hC.1
  have hN := hC.2.1
  have hK := hC.2.2.2.1
  have hB := hr.bd
  obtain ⟨wa, wb, hwa, hwb, e4, e5⟩ := id hw
  obtain ⟨⟨w0, w12⟩, -⟩ := id hF
  have hc0 : nP w = N 1 := hr.2.1.1.symm
  have w1e : w 2 = nI (N 1) := hr.2.1.2.1
  rw [hc0] at hE ⊢
  refine SPX_start (L := [some (.ref (sk 120)), none, none]) 2 rfl ?_
  generalize hs : (Sum.inr (advS T n ts.1) : RdE) = s
  have j23 : ∀ b, b = !decide (w 2 = nI 8) → JS SP X mX5_person (rmOf mX5_person.lv 11 74) (ZSX X 11 74 hz (fun r x' => ¬ w 2 = nI 8 ∧ QLn hz tp T n sk (personE T n (N 1) s w) r x') (fun k p => (w 2 = nI 8 ∧ (k, p) = (nI 3, ts.2.1)) ∨ (¬ w 2 = nI 8 ∧ (personE T n (N 1) s w).1 = .inl (k, p)))) 0 0 23 [some (.ref (sk 120)), none, none] [.int (b2 b), .ref (sk 120)] (hz, tp, T, sk, S, N) := by
    intro b hb
    refine sp_room hC hg hts hn q776 dX5_person_23 (by decide) rfl ⟨by show 0 + 1 ≤ 11; omega, by show 0 + 8 ≤ 74; omega⟩ (fun g1 hb1 w1 hg1 => ?_) (fun a h' q => sp_out hX rfl (q.mono (fun k p z => Or.inl ⟨?_, z.2⟩)))
    rotate_left
    · rw [hb] at z
      exact of_decide_eq_true (by simpa using z.1)
    have hne : ¬ w 2 = nI 8 := by rw [hb] at hb1; simpa using hb1
    have hk8 : N 1 < 8 := by
      have : N 1 ≠ 8 := fun z => hne (by rw [w1e, z])
      omega
    refine bX5_person_26.go rfl trivial ?_
    refine js_ldcS (tx := "at") (i := 4) hK (by decide +kernel) dX5_person_27 ?_
    refine bX5_person_29.go rfl (by repeat' first | exact trivial | rfl | assumption | omega | apply And.intro) ?_
    have s4 : va_up S 120 g1 0 4 = w 4 := by rw [va_up_ne _ _ (by decide)]; exact hr.2.2.1.1
    rw [s4]
    refine sp_told (i := 4) hC (by decide) (by rw [va_up_self]; exact hg1) w1 hn q757 dX5_person_39 (by decide) rfl ⟨by show 0 + 1 + 2 ≤ 11; omega, by show 0 + 8 + 16 ≤ 74; omega⟩ (fun v2 t2 g2 e2 w2 hg2 => ?_) (fun a h' q => sp_out hX rfl (q.mono (fun k p z => Or.inr ⟨hne, ?_⟩)))
    rotate_left
    · rw [hs] at z
      have c1 : (cell1 T n s w).2 = .inl (k, p) := z
      refine per_e1 ?_
      rw [cell3, cell2, c1]; rfl
    rw [hs] at e2
    have c1 : cell1 T n s w = (v2, .inr t2) := e2
    have hx : inI v2 (nI 0) (w 4 - nI 1) = true := by
      have := (told_good (show (toldE T n 4 (nI 0) (w 4 - nI 1) s).2 = .inr t2 by rw [e2])).2
      rw [e2] at this; exact this
    refine bX5_person_42.go rfl (by repeat' first | exact trivial | rfl | assumption | omega | apply And.intro) ?_
    refine sp_free (w := w) hC ((hr.rd g1).rd g2) hx hw (by rw [va_up_self]; exact hg2) w2 hn q781 dX5_person_45 (by decide) rfl ⟨by show 0 + 1 + 2 + 1 ≤ 11; omega, by show 0 + 8 + 16 + 8 ≤ 74; omega⟩ (fun v3 t3 g3 e3 w3 hg3 => ?_) (fun a h' q => sp_out hX rfl (q.mono (fun k p z => Or.inr ⟨hne, ?_⟩)))
    rotate_left
    · refine per_e1 ?_
      rw [cell3, cell2, c1]; exact z
    have c3 : cell3 T n s w = (v3, .inr t3) := by rw [cell3, cell2, c1]; exact e3
    refine bX5_person_48.go rfl (by repeat' first | exact trivial | rfl | assumption | omega | apply And.intro) ?_
    intro h hp
    have htp : hz tp = some (.inl (X.dA 2, 2400, .inl T)) := hp.2.2.2.2.2
    refine J.new (C := RX8) (T := TX8) (N := 7) (ty := tyX8) (ci := 8) (fs := [.int 0, .int 0, .int 0, .null, .null, .null, .int 0]) hp.1.2 clsX8 rfl q944 q945 q154 (by decide +kernel) ⟨by show 0 + 1 + 2 + 1 + 1 ≤ 11; omega, by show 0 + 8 + 16 + 8 + 7 ≤ 74; omega⟩ dX5_person_56 (fun q hq => ?_)
    have hzq := (hp.nsk hq).2.2
    have hqt := (hp.nsk hq).2.1
    refine (show JS SP X mX5_person (rmOf mX5_person.lv 11 74) _ _ _ 59 _ _ _ from ?_) _ (hp.frz0 hq)
    refine bX5_person_59.go rfl trivial ?_
    refine js_ldcS (tx := "from") (i := 8) hK (by decide +kernel) dX5_person_63 ?_
    refine bX5_person_65.go rfl (by repeat' first | exact trivial | rfl | assumption | omega | apply And.intro) ?_
    have s6 : (va_up (va_up (va_up S 120 g1) 120 g2) 120 g3) 0 6 = w 6 := by rw [va_up_ne _ _ (by decide), va_up_ne _ _ (by decide), va_up_ne _ _ (by decide)]; exact hr.2.2.1.2.2.1
    rw [s6]
    refine sp_told (i := 8) hC (by decide) (by rw [va_up_self]; exact hg3) w3 hn q757 dX5_person_75 (by decide) rfl ⟨by show 0 + 1 + 2 + 1 + 1 + 2 ≤ 11; omega, by show 0 + 8 + 16 + 8 + 7 + 16 ≤ 74; omega⟩ (fun v4 t4 g4 e4' w4 hg4 => ?_) (fun a h' q => sp_out hX rfl ((q.thaw hzq).mono (fun k p z => Or.inr ⟨hne, ?_⟩)))
    rotate_left
    · show (per1 T n (56 + 33 * N 1) s w).2 = _
      rw [per1, show (cellE T n (56 + 33 * N 1) s w).1 = (cell3 T n s w).2 from rfl, c3]; exact z
    have k1 : per1 T n (56 + 33 * N 1) s w = (v4, .inr t4) := by rw [per1, show (cellE T n (56 + 33 * N 1) s w).1 = (cell3 T n s w).2 from rfl, c3]; exact e4'
    intro h2 hp2
    refine J.callI (M' := mX8_init) (As := [.int v2, .int v3, .int v4]) (mc := 4) (ms := 19) (ok_X8_init hp2.1.1 hN hp2.nfz.1) rfl (fun o h' q => ⟨_, q.1⟩) dX5_person_78 q948 q154 q946 q947 rfl hy_i8 (by decide) ⟨by show 0 + 1 + 2 + 1 + 1 + 2 + 4 ≤ 11; omega, by show 0 + 8 + 16 + 8 + 7 + 16 + 19 ≤ 74; omega⟩ (Nat.le_of_ble_eq_true rfl) (fun v h3 q0 => ?_)
    obtain ⟨q0, b1, b2, b3, b4, ⟨x1, x2, x3, x4⟩, hnn, ⟨y1, y2, y3, y4⟩, ya, yz⟩ := q0
    cases q0
    obtain ⟨a2, a6⟩ := hp2.ls9 (lsn2 hB.2.1)
    have fr : ∀ z c, h2 z = some c → z ≠ q → h3 z = some c := fun z c hc hzq' => by
      rw [yz z hzq' (fun y => by rw [y, x1] at hc; cases hc) (fun y => by rw [y, x2] at hc; cases hc) (fun y => by rw [y, x3] at hc; cases hc) (fun y => by rw [y, x4] at hc; cases hc)]; exact hc
    have nq2 := hp2.nfz.2 2 (u_lo (by decide))
    have nq6 := hp2.nfz.2 6 (u_lo (by decide))
    have a2' := fr _ _ a2 (fun y => nq2 y.symm)
    have a6' := fr _ _ a6 (fun y => nq6 y.symm)
    refine J.callF (M' := mJ2_add) (x := xAdd) (As := [.ref q]) (mc := 0) (ms := 0) hp2.1.1 (ok_addr hp2.1.1 a2' (hp2.inj (u_lo (by decide)) (u_lo (by decide)) (by decide)) a6' hk8 (by decide) ya rfl nq2320 nq2) (fun o h' q => ⟨_, q.1⟩) a2' dX5_person_81 (lw_F q870 q873 q875 q136 q877) (List.mem_of_getElem? (i := 2) rfl) hy_xAdd (by decide) ⟨by show 0 + 1 + 2 + 1 + 1 + 2 + 4 + 0 ≤ 11; omega, by show 0 + 8 + 16 + 8 + 7 + 16 + 19 + 0 ≤ 74; omega⟩ (Nat.le_of_ble_eq_true rfl) (fun v h4 q0 => ?_)
    obtain ⟨q0, ⟨mm, z2⟩, z6, zz⟩ := q0
    cases q0
    have nb : ∀ b, h2 b = none → b ≠ sk 2 ∧ b ≠ sk 6 := fun b hb => ⟨(fun y => by rw [y, a2] at hb; cases hb), (fun y => by rw [y, a6] at hb; cases hb)⟩
    have hp4 := SP.person (g := fun j => match j with | 0 => v2 | 1 => v3 | 2 => v4 | _ => 0) (m := mm) (h' := h4) hp2 hzq htp hk8 hB ⟨x1, x2, x3, x4⟩ hnn (by rw [zz _ (nb _ x1).1 (nb _ x1).2]; exact y1) (by rw [zz _ (nb _ x2).1 (nb _ x2).2]; exact y2) (by rw [zz _ (nb _ x3).1 (nb _ x3).2]; exact y3) (by rw [zz _ (nb _ x4).1 (nb _ x4).2]; exact y4) (by rw [zz _ nq2 nq6]; exact ya) z2 z6 (fun z t t1 t2 t3 t4 t5 t6 => by rw [zz z t5 t6, yz z t t1 t2 t3 t4])
    refine (show JS SP X mX5_person (rmOf mX5_person.lv 11 74) _ _ _ 86 _ _ _ from ?_) _ hp4
    refine bX5_person_86.go rfl trivial ?_
    obtain ⟨n0, n1, n2, n3⟩ := pkN_at (N := N)
    refine sp_vret dX5_person_87 rfl ⟨hne, rfl, t4, _, _, _, ?_, w4, rfl, ⟨pkA_ne (by omega) (by omega), pkA_ne (by omega) (by omega)⟩, ?_, ?_⟩ (by show 0 + 1 + 2 + 1 + 1 + 2 + 4 + 0 ≤ 11; omega) (by show 0 + 8 + 16 + 8 + 7 + 16 + 19 + 0 ≤ 74; omega)
    · show (per1 T n (56 + 33 * N 1) s w).2 = _
      rw [k1]
    · have ew : (personE T n (N 1) s w).2 = va_up (va_up (va_up (va_up w (56 + 33 * N 1) v2) (56 + 33 * N 1 + 1) v3) (56 + 33 * N 1 + 2) v4) 2 (nI (N 1 + 1)) := by
        rw [personE, k1, cellE, c3, c1]; rfl
      rw [ew]
      have s' : ∀ i, i ≠ 120 → va_up (va_up (va_up (va_up S 120 g1) 120 g2) 120 g3) 120 g4 i = S i := fun i hi => by simp only [va_up_ne _ _ hi]
      have wo : ∀ q, q ≠ 2 → (q < 56 + 33 * N 1 ∨ 56 + 33 * N 1 + 3 ≤ q) → va_up (va_up (va_up (va_up w (56 + 33 * N 1) v2) (56 + 33 * N 1 + 1) v3) (56 + 33 * N 1 + 2) v4) 2 (nI (N 1 + 1)) q = w q := fun q y1 y2 => by
        simp (disch := omega) only [va_up_ne]
      refine hr.per w12 (fun q y1 y2 => wo q y2 (by omega)) ?_ ?_ (fun c hc => ?_) n0 (by rw [n1]; omega) (by rw [n1, va_up_self]) (fun p hp => ?_)
      · rw [pkS_ne (by omega) (by omega) (by omega), s' 0 (by omega)]
      · rw [pkS_ne (by omega) (by omega) (by omega), s' 3 (by omega)]
      · rw [pkS_ne (by omega) (by omega) (by omega), s' (20 + c) (by omega)]
      · rw [n1] at hp
        by_cases y : p = N 1
        · obtain ⟨r1, r2, r3, r4, r5⟩ := pkS_at (S := va_up (va_up (va_up (va_up S 120 g1) 120 g2) 120 g3) 120 g4) (m := mm) (g := fun j => match j with | 0 => v2 | 1 => v3 | 2 => v4 | _ => 0) (p := N 1) (by omega)
          obtain ⟨w3', w4'⟩ := hE (N 1) (Nat.le_refl _) hk8
          have o3 := wo (56 + 33 * N 1 + 3) (by omega) (by omega)
          have o4 := wo (56 + 33 * N 1 + 4) (by omega) (by omega)
          rw [w3'] at o3
          rw [w4'] at o4
          have z3 : nM (va_up (va_up (va_up (va_up w (56 + 33 * N 1) v2) (56 + 33 * N 1 + 1) v3) (56 + 33 * N 1 + 2) v4) 2 (nI (N 1 + 1))) (N 1) = 0 := by unfold nM; rw [o3]; exact nI_clamp (by decide)
          have z4 : nL (va_up (va_up (va_up (va_up w (56 + 33 * N 1) v2) (56 + 33 * N 1 + 1) v3) (56 + 33 * N 1 + 2) v4) 2 (nI (N 1 + 1))) (N 1) = 0 := by unfold nL; rw [o4]; exact nI_clamp (by decide)
          rw [y]
          refine ⟨fun j hj => ?_, ⟨?_, ?_, ?_⟩, ⟨?_, ?_, ?_⟩, fun k hk => ?_, fun i hi => ?_⟩
          · rw [r1]
            have : j = 0 ∨ j = 1 ∨ j = 2 := by omega
            unfold perI
            rcases this with rfl | rfl | rfl <;> (rw [va_up_ne _ _ (by omega)]; simp [up_at])
          · rw [r1]; unfold perI; rw [o3]; rfl
          · rw [z3]; omega
          · rw [z3]; exact o3
          · rw [n2, z4]
          · rw [z4]; omega
          · rw [z4]; exact o4
          · rw [z3] at hk; omega
          · rw [z4] at hi; omega
        · refine (hr.pr (by omega : p < N 1)).cg (fun j hj => wo _ (by omega) (by omega)) ?_ ?_ ?_ (n3 _ (by omega) (by omega)) (fun i hi => ⟨n3 _ (by omega) (by omega), ?_⟩)
          · rw [pkS_ne (by omega) (by omega) (by omega), s' _ (by omega)]
          · rw [pkS_ne (by omega) (by omega) (by omega), s' _ (by omega)]
          · rw [pkS_ne (by omega) (by omega) (by omega), s' _ (by omega)]
          · rw [pkS_ne (by omega) (by omega) (by omega), s' _ (by omega)]
    · rw [pkS_ne (by omega) (by omega) (by omega), va_up_self]; exact hg4
  refine bX5_person_0.go rfl (by repeat' first | exact trivial | rfl | assumption | omega | apply And.intro) ?_
  refine sp_size (lsn2 hB.2.1) dX5_person_8 (lw_F q832 q803 q805 q136 q807) (by decide) rfl ?_
  refine bX5_person_13.go rfl trivial ?_
  refine j_icmp_ge (tgt := 22) dX5_person_15 (by decide) (fun z => ?_) (fun z => ?_)
  · rw [nI_leI (by omega) (by omega)] at z
    refine bX5_person_22.go rfl trivial ?_
    exact j23 false (by rw [decide_eq_true (show w 2 = nI 8 by rw [w1e]; congr 1; omega)]; rfl)
  · rw [nI_leI (by omega) (by omega)] at z
    refine bX5_person_18.go rfl trivial ?_
    exact j23 true (by rw [decide_eq_false (fun y => z (by rw [w1e] at y; have := (nI_eq (by omega) (by omega)).mp y; omega))]; rfl)
end Prs
