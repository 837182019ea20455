set_option maxRecDepth 100000
/-! ===== UnseenClockModel: at, sees ===== -/
theorem eX_n1 {w : Nat → Int32} {v : Nat → Nat} (hw : WOk w v) {p t : Nat} (hp : p < v 2) : eX (spotF w p t) = -1 ↔ spotF w p t = none := by
  constructor
  · intro h
    cases hs : spotF w p t with
    | none => rfl
    | some q =>
      exfalso
      obtain ⟨a, b, ha, hb', rfl⟩ := spotF_in hw hp hs
      rw [hs] at h
      have ha12 : a < 12 := by have := hw.2.2.2.2.2.1; omega
      have := congrArg Int32.toInt h
      simp only [eX] at this
      rw [nI_toInt (by omega)] at this
      rw [show (-1 : Int32).toInt = -1 by decide +kernel] at this
      omega
  · intro h; rw [h]; rfl
/-- whether a person is there in a minute -/
def thrB (w : Nat → Int32) (p m : Nat) : Bool := !bitI (w 7) p && (spotF w p m).isSome
theorem thr_e {w : Nat → Int32} {v : Nat → Nat} (hw : WOk w v) {p t : Nat} (hp : p < v 2) : (!bitI (w 7) p && !decide (eX (spotF w p t) = -1)) = thrB w p t := by
  unfold thrB
  congr 1
  cases hs : spotF w p t with
  | none => rfl
  | some q => rw [decide_eq_false (fun h => by rw [← hs] at h; rw [(eX_n1 hw hp).mp h] at hs; cases hs)]; rfl
theorem SpA.keeps {A A' : Nat → Nat → Int32} {B : Nat → Nat → Int64} {p : Nat} {F : Nat → Option (Int32 × Int32)} (h : SpA A A' p F) : Keeps2 A B A' B := ⟨h.1 1 (by decide) (by decide), h.1 2 (by decide) (by decide), h.1 3 (by decide) (by decide), h.1 4 (by decide) (by decide), h.1 37 (by decide) (by decide), h.1 38 (by decide) (by decide), by rw [h.1 0 (by decide) (by decide)], by rw [h.1 0 (by decide) (by decide)], by rw [h.1 0 (by decide) (by decide)], rfl⟩
def q_at (w : Nat → Int32) (p m : Int32) : Int32 := if (pB w p && mB w m) = true then (if thrB w p.toNatClampNeg m.toNatClampNeg = true then eX (spotF w p.toNatClampNeg m.toNatClampNeg) + nI 100 * eY (spotF w p.toNatClampNeg m.toNatClampNeg) else -1) else -2
theorem bX4_at_0 : Blk TP mX4_at 0 5 [oAL 0, oIL 1, tC_I F_isPerson] := blk_c (s_aload_n dX4_at_0 rfl) <| blk_c (s_iload_n dX4_at_1 rfl) <| blk_c (tc_I ok_isPerson gX4_isPerson (by decide +kernel) (by decide) dX4_at_2) <| blk_nil
theorem bX4_at_8 : Blk TP mX4_at 8 13 [oAL 0, oIL 2, tC_I F_isMinute] := blk_c (s_aload_n dX4_at_8 rfl) <| blk_c (s_iload_n dX4_at_9 rfl) <| blk_c (tc_I ok_isMinute gX4_isMinute (by decide +kernel) (by decide) dX4_at_10) <| blk_nil
theorem bX4_at_16 : Blk TP mX4_at 16 18 [oC (-2)] := blk_c (s_bipush dX4_at_16 (by decide +kernel)) <| blk_nil
theorem bX4_at_19 : Blk TP mX4_at 19 21 [oAL 0, oIL 1] := blk_c (s_aload_n dX4_at_19 rfl) <| blk_c (s_iload_n dX4_at_20 rfl) <| blk_nil
theorem bX4_at_24 : Blk TP mX4_at 24 30 [oAL 0, oIL 1, oIL 2, tC_II F_isThere] := blk_c (s_aload_n dX4_at_24 rfl) <| blk_c (s_iload_n dX4_at_25 rfl) <| blk_c (s_iload_n dX4_at_26 rfl) <| blk_c (tc_II ok_isThere gX4_isThere (by decide +kernel) (by decide) dX4_at_27) <| blk_nil
theorem bX4_at_33 : Blk TP mX4_at 33 63 [oAL 0, tR 15, oC (nI 40), oIL 1, oMul, oIL 2, oAdd, tAI 15 320, oC (nI 100), oAL 0, tR 16, oC (nI 40), oIL 1, oMul, oIL 2, oAdd, tAI 16 320, oMul, oAdd, .inl (fun s => some s)] := blk_c (s_aload_n dX4_at_33 rfl) <| blk_c (tgX4_15 rfl dX4_at_34) <| blk_c (s_bipush dX4_at_37 (by decide +kernel)) <| blk_c (s_iload_n dX4_at_39 rfl) <| blk_c (s_imul dX4_at_40) <| blk_c (s_iload_n dX4_at_41 rfl) <| blk_c (s_iadd dX4_at_42) <| blk_c (t_iald rfl dX4_at_43) <| blk_c (s_bipush dX4_at_44 (by decide +kernel)) <| blk_c (s_aload_n dX4_at_46 rfl) <| blk_c (tgX4_16 rfl dX4_at_47) <| blk_c (s_bipush dX4_at_50 (by decide +kernel)) <| blk_c (s_iload_n dX4_at_52 rfl) <| blk_c (s_imul dX4_at_53) <| blk_c (s_iload_n dX4_at_54 rfl) <| blk_c (s_iadd dX4_at_55) <| blk_c (t_iald rfl dX4_at_56) <| blk_c (s_imul dX4_at_57) <| blk_c (s_iadd dX4_at_58) <| blk_c (s_goto (tgt := 63) dX4_at_59 (by decide)) <| blk_nil
theorem bX4_at_62 : Blk TP mX4_at 62 63 [oC (-1)] := blk_c (s_iconst dX4_at_62 (by decide +kernel)) <| blk_nil
theorem ok_at : RC_II mX4_at (fun _ _ A B => Pre_runs A B) (fun p m A B => Qq (q_at (A 1) p m) A B) := by
  intro X p m o ad A B hpre
  obtain ⟨v, hw⟩ := id hpre
  have h6 : v 6 ≤ 40 := hw.2.2.2.2.2.2.2.1
  have h8 : v 2 ≤ 8 := hw.2.2.2.1
  have main : (pB (A 1) p && mB (A 1) m) = true → JS TP X mX4_at (rmOf mX4_at.lv 0 0) (ZR X o ad (Qq (q_at (A 1) p m) A B)) 0 0 19 [some (.ref o), some (.int p), some (.int m)] [] (o, ad, A, B) := by
    intro hg
    rw [q_at, if_pos hg]
    simp only [Bool.and_eq_true] at hg
    obtain ⟨pn, hp, rfl⟩ := hw.pOf hg.1
    obtain ⟨mn, hm, rfl⟩ := hw.mOf hg.2
    rw [nI_clamp (by omega), nI_clamp (by omega)]
    refine bX4_at_19.go rfl trivial ?_
    refine rc_I ok_fillSpots gX4_fillSpots dX4_at_21 rfl ⟨pn, v, rfl, hw, hp⟩ (fun r A1 B1 q => ?_)
    obtain ⟨rfl, hB, hS⟩ := q
    have hB := hB.symm; subst hB
    rw [nI_clamp (by omega)] at hS
    have hk : Keeps2 A B A1 B := hS.keeps
    obtain ⟨sx, sy⟩ := hS.2.2 mn (by omega)
    refine bX4_at_24.go rfl (by simp (disch := omega) only [vpI]; exact ⟨⟨trivial, by omega, by omega⟩, trivial⟩) ?_
    simp (disch := omega) only [nI_clamp, hk.1, sx]
    rw [thr_e hw hp]
    refine j_if_eq (tgt := 62) dX4_at_30 (by decide) (fun h30 => ?_) (fun h30 => ?_)
    · rw [b2_0] at h30
      refine bX4_at_62.go rfl trivial ?_
      exact r_iret dX4_at_63 rfl ⟨ans (by rw [h30]; rfl), hk⟩
    · rw [b2_n0] at h30
      refine bX4_at_33.go rfl (by simp (disch := omega) only [nI_add, pk_mul, vpI]; exact ⟨trivial, ⟨trivial, by omega⟩, trivial, ⟨trivial, by omega⟩, trivial⟩) ?_
      simp (disch := omega) only [nI_add, pk_mul, nI_clamp, sx, sy]
      exact r_iret dX4_at_63 rfl ⟨ans (by rw [if_pos h30]), hk⟩
  refine R_start (L := [some (.ref o), some (.int p), some (.int m)]) 0 rfl ?_
  refine bX4_at_0.go rfl (by exact ⟨⟨rfl, trivial⟩, trivial⟩) ?_
  refine j_if_eq (tgt := 16) dX4_at_5 (by decide) (fun h5 => ?_) (fun h5 => ?_)
  · refine bX4_at_16.go rfl trivial ?_
    refine r_iret dX4_at_18 rfl ?_
    exact ⟨ans (by clear main; simp only [b2_0, b2_n0] at *; simp_all [q_at, pB, mB]), Keeps2.rf⟩
  · refine bX4_at_8.go rfl (by exact ⟨⟨rfl, trivial⟩, trivial⟩) ?_
    refine j_if_ne (tgt := 19) dX4_at_13 (by decide) (fun h13 => ?_) (fun h13 => ?_)
    · exact main (by clear main; simp only [b2_0, b2_n0] at *; simp_all [pB, mB])
    · refine bX4_at_16.go rfl trivial ?_
      refine r_iret dX4_at_18 rfl ?_
      exact ⟨ans (by clear main; simp only [b2_0, b2_n0] at *; simp_all [q_at, pB, mB]), Keeps2.rf⟩
def q_sees (w : Nat → Int32) (p c m : Int32) : Int32 := if (pB w p && (cB w c && mB w m)) = true then b2 (seeB w p.toNatClampNeg c.toNatClampNeg m.toNatClampNeg) else -2
theorem bX4_sees_0 : Blk TP mX4_sees 0 5 [oAL 0, oIL 1, tC_I F_isPerson] := blk_c (s_aload_n dX4_sees_0 rfl) <| blk_c (s_iload_n dX4_sees_1 rfl) <| blk_c (tc_I ok_isPerson gX4_isPerson (by decide +kernel) (by decide) dX4_sees_2) <| blk_nil
theorem bX4_sees_8 : Blk TP mX4_sees 8 13 [oAL 0, oIL 2, tC_I F_isClock] := blk_c (s_aload_n dX4_sees_8 rfl) <| blk_c (s_iload_n dX4_sees_9 rfl) <| blk_c (tc_I ok_isClock gX4_isClock (by decide +kernel) (by decide) dX4_sees_10) <| blk_nil
theorem bX4_sees_16 : Blk TP mX4_sees 16 21 [oAL 0, oIL 3, tC_I F_isMinute] := blk_c (s_aload_n dX4_sees_16 rfl) <| blk_c (s_iload_n dX4_sees_17 rfl) <| blk_c (tc_I ok_isMinute gX4_isMinute (by decide +kernel) (by decide) dX4_sees_18) <| blk_nil
theorem bX4_sees_24 : Blk TP mX4_sees 24 26 [oC (-2)] := blk_c (s_bipush dX4_sees_24 (by decide +kernel)) <| blk_nil
theorem bX4_sees_27 : Blk TP mX4_sees 27 29 [oAL 0, oIL 1] := blk_c (s_aload_n dX4_sees_27 rfl) <| blk_c (s_iload_n dX4_sees_28 rfl) <| blk_nil
theorem bX4_sees_32 : Blk TP mX4_sees 32 38 [oAL 0, oIL 1, oIL 3, tC_II F_isThere] := blk_c (s_aload_n dX4_sees_32 rfl) <| blk_c (s_iload_n dX4_sees_33 rfl) <| blk_c (s_iload_n dX4_sees_34 rfl) <| blk_c (tc_II ok_isThere gX4_isThere (by decide +kernel) (by decide) dX4_sees_35) <| blk_nil
theorem bX4_sees_41 : Blk TP mX4_sees 41 68 [oAL 0, oAL 0, tR 15, oC (nI 40), oIL 1, oMul, oIL 3, oAdd, tAI 15 320, oAL 0, tR 16, oC (nI 40), oIL 1, oMul, oIL 3, oAdd, tAI 16 320, oIL 2, tC_III F_seesFrom] := blk_c (s_aload_n dX4_sees_41 rfl) <| blk_c (s_aload_n dX4_sees_42 rfl) <| blk_c (tgX4_15 rfl dX4_sees_43) <| blk_c (s_bipush dX4_sees_46 (by decide +kernel)) <| blk_c (s_iload_n dX4_sees_48 rfl) <| blk_c (s_imul dX4_sees_49) <| blk_c (s_iload_n dX4_sees_50 rfl) <| blk_c (s_iadd dX4_sees_51) <| blk_c (t_iald rfl dX4_sees_52) <| blk_c (s_aload_n dX4_sees_53 rfl) <| blk_c (tgX4_16 rfl dX4_sees_54) <| blk_c (s_bipush dX4_sees_57 (by decide +kernel)) <| blk_c (s_iload_n dX4_sees_59 rfl) <| blk_c (s_imul dX4_sees_60) <| blk_c (s_iload_n dX4_sees_61 rfl) <| blk_c (s_iadd dX4_sees_62) <| blk_c (t_iald rfl dX4_sees_63) <| blk_c (s_iload_n dX4_sees_64 rfl) <| blk_c (tc_III ok_seesFrom gX4_seesFrom (by decide +kernel) (by decide) dX4_sees_65) <| blk_nil
theorem bX4_sees_71 : Blk TP mX4_sees 71 76 [oC (nI 1), .inl (fun s => some s)] := blk_c (s_iconst dX4_sees_71 (by decide +kernel)) <| blk_c (s_goto (tgt := 76) dX4_sees_72 (by decide)) <| blk_nil
theorem bX4_sees_75 : Blk TP mX4_sees 75 76 [oC (nI 0)] := blk_c (s_iconst dX4_sees_75 (by decide +kernel)) <| blk_nil
theorem ok_sees : RC_III mX4_sees (fun _ _ _ A B => Pre_runs A B) (fun p c m A B => Qq (q_sees (A 1) p c m) A B) := by
  intro X p c m o ad A B hpre
  obtain ⟨v, hw⟩ := id hpre
  have h6 : v 6 ≤ 40 := hw.2.2.2.2.2.2.2.1
  have h8 : v 2 ≤ 8 := hw.2.2.2.1
  have h4 : v 1 ≤ 4 := hw.2.2.1
  have main : (pB (A 1) p && (cB (A 1) c && mB (A 1) m)) = true → JS TP X mX4_sees (rmOf mX4_sees.lv 0 0) (ZR X o ad (Qq (q_sees (A 1) p c m) A B)) 0 0 27 [some (.ref o), some (.int p), some (.int c), some (.int m)] [] (o, ad, A, B) := by
    intro hg
    rw [q_sees, if_pos hg]
    simp only [Bool.and_eq_true] at hg
    obtain ⟨pn, hp, rfl⟩ := hw.pOf hg.1
    obtain ⟨cn, hc, rfl⟩ := hw.cOf hg.2.1
    obtain ⟨mn, hm, rfl⟩ := hw.mOf hg.2.2
    rw [nI_clamp (by omega), nI_clamp (by omega), nI_clamp (by omega)]
    refine bX4_sees_27.go rfl trivial ?_
    refine rc_I ok_fillSpots gX4_fillSpots dX4_sees_29 rfl ⟨pn, v, rfl, hw, hp⟩ (fun r A1 B1 q => ?_)
    obtain ⟨rfl, hB, hS⟩ := q
    have hB := hB.symm; subst hB
    rw [nI_clamp (by omega)] at hS
    have hk : Keeps2 A B A1 B := hS.keeps
    obtain ⟨sx, sy⟩ := hS.2.2 mn (by omega)
    refine bX4_sees_32.go rfl (by simp (disch := omega) only [vpI]; exact ⟨⟨trivial, by omega, by omega⟩, trivial⟩) ?_
    simp (disch := omega) only [nI_clamp, hk.1, sx]
    rw [thr_e hw hp]
    refine j_if_eq (tgt := 75) dX4_sees_38 (by decide) (fun h38 => ?_) (fun h38 => ?_)
    · rw [b2_0] at h38
      refine bX4_sees_75.go rfl trivial ?_
      refine r_iret dX4_sees_76 rfl ⟨ans (b2_f ?_), hk⟩
      unfold thrB at h38
      unfold seeB
      cases hb : bitI (A 1 7) pn with
      | true => rfl
      | false =>
        cases hs : spotF (A 1) pn mn with
        | none => rfl
        | some q => rw [hb, hs] at h38; cases h38
    · rw [b2_n0] at h38
      unfold thrB at h38
      simp only [Bool.and_eq_true, Bool.not_eq_true'] at h38
      obtain ⟨hb, h38⟩ := h38
      cases hs : spotF (A 1) pn mn with
      | none => rw [hs] at h38; cases h38
      | some q =>
        obtain ⟨a, b, ha, hb', rfl⟩ := spotF_in hw hp hs
        have ha12 : a < 12 := by have := hw.2.2.2.2.2.1; omega
        have hb12 : b < 12 := by have := hw.2.2.2.2.2.2.1; omega
        rw [hs] at sx sy
        refine bX4_sees_41.go rfl (by simp (disch := omega) only [nI_add, pk_mul, vpI, nI_clamp, sx, sy]; exact ⟨trivial, ⟨trivial, by omega⟩, trivial, ⟨trivial, by omega⟩, ⟨trivial, v, a, b, by rw [hk.1]; exact hw, hc, by omega, by omega, rfl, rfl⟩, trivial⟩) ?_
        simp (disch := omega) only [nI_add, pk_mul, nI_clamp, hk.1, sx, sy, eX, eY]
        refine j_if_eq (tgt := 75) dX4_sees_68 (by decide) (fun h68 => ?_) (fun h68 => ?_)
        · rw [b2_0] at h68
          refine bX4_sees_75.go rfl trivial ?_
          exact r_iret dX4_sees_76 rfl ⟨ans (b2_f (by simp only [seeB, hs, hb, h68]; rfl)), hk⟩
        · rw [b2_n0] at h68
          refine bX4_sees_71.go rfl trivial ?_
          exact r_iret dX4_sees_76 rfl ⟨ans (b2_t (by simp only [seeB, hs, hb, h68]; rfl)), hk⟩
  refine R_start (L := [some (.ref o), some (.int p), some (.int c), some (.int m)]) 0 rfl ?_
  refine bX4_sees_0.go rfl (by exact ⟨⟨rfl, trivial⟩, trivial⟩) ?_
  refine j_if_eq (tgt := 24) dX4_sees_5 (by decide) (fun h5 => ?_) (fun h5 => ?_)
  · refine bX4_sees_24.go rfl trivial ?_
    refine r_iret dX4_sees_26 rfl ?_
    exact ⟨ans (by clear main; simp only [b2_0, b2_n0] at *; simp_all [q_sees, pB, cB, mB]), Keeps2.rf⟩
  · refine bX4_sees_8.go rfl (by exact ⟨⟨rfl, trivial⟩, trivial⟩) ?_
    refine j_if_eq (tgt := 24) dX4_sees_13 (by decide) (fun h13 => ?_) (fun h13 => ?_)
    · refine bX4_sees_24.go rfl trivial ?_
      refine r_iret dX4_sees_26 rfl ?_
      exact ⟨ans (by clear main; simp only [b2_0, b2_n0] at *; simp_all [q_sees, pB, cB, mB]), Keeps2.rf⟩
    · refine bX4_sees_16.go rfl (by exact ⟨⟨rfl, trivial⟩, trivial⟩) ?_
      refine j_if_ne (tgt := 27) dX4_sees_21 (by decide) (fun h21 => ?_) (fun h21 => ?_)
      · exact main (by clear main; simp only [b2_0, b2_n0] at *; simp_all [pB, cB, mB])
      · refine bX4_sees_24.go rfl trivial ?_
        refine r_iret dX4_sees_26 rfl ?_
        exact ⟨ans (by clear main; simp only [b2_0, b2_n0] at *; simp_all [q_sees, pB, cB, mB]), Keeps2.rf⟩
