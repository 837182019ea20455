set_option maxRecDepth 100000
/-! ===== UnseenClockModel: questions to the plain course ===== -/
def pB (w : Nat → Int32) (a : Int32) : Bool := inI a (nI 0) (w 2 - nI 1)
def cB (w : Nat → Int32) (a : Int32) : Bool := inI a (nI 0) (w 1 - nI 1)
def mB (w : Nat → Int32) (a : Int32) : Bool := inI a (nI 0) (w 6 - nI 1)
def tB (w : Nat → Int32) (a : Int32) : Bool := decide (0 < w 4) && inI a (nI 0) (w 6)
def sqB (w : Nat → Int32) : Bool := decide (0 < w 4)
def hB (a : Int32) : Bool := inI a (nI 0) (nI 59)
theorem inI_le {X : Int32} {n : Nat} (hn : n < 1000) (h : inI X (nI 0) (nI n) = true) : ∃ a, a ≤ n ∧ X = nI a := by
  simp only [inI, Bool.and_eq_true, decide_eq_true_eq] at h
  obtain ⟨h1, h2⟩ := h
  have h0 : ¬ X < 0 := by rw [nI_0] at h1; exact Int32.not_lt.mpr h1
  obtain ⟨j, hj, rfl⟩ := nI_of h0
  rw [nI_leI hj (by omega)] at h2
  exact ⟨j, h2, rfl⟩
theorem WOk.cOf {w : Nat → Int32} {v : Nat → Nat} (h : WOk w v) {a : Int32} (ha : cB w a = true) : ∃ c, c < v 1 ∧ a = nI c := by
  rw [cB, h.1 1 (by decide)] at ha; exact inI_nat (by have := h.2.2.1; omega) ha
theorem WOk.pOf {w : Nat → Int32} {v : Nat → Nat} (h : WOk w v) {a : Int32} (ha : pB w a = true) : ∃ p, p < v 2 ∧ a = nI p := by
  rw [pB, h.1 2 (by decide)] at ha; exact inI_nat (by have := h.2.2.2.1; omega) ha
theorem WOk.mOf {w : Nat → Int32} {v : Nat → Nat} (h : WOk w v) {a : Int32} (ha : mB w a = true) : ∃ m, m < v 6 ∧ a = nI m := by
  rw [mB, h.1 6 (by decide)] at ha; exact inI_nat (by have := h.2.2.2.2.2.2.2.1; omega) ha
theorem WOk.tOf {w : Nat → Int32} {v : Nat → Nat} (h : WOk w v) {a : Int32} (ha : tB w a = true) : ∃ m, m ≤ v 6 ∧ a = nI m := by
  simp only [tB, Bool.and_eq_true] at ha
  have := ha.2
  rw [h.1 6 (by decide)] at this; exact inI_le (by have := h.2.2.2.2.2.2.2.1; omega) this
theorem ans {a b : Int32} (h : a = b) : some (Value.int a) = some (Value.int b) := by rw [h]
/-- a public question: answers q, and what lasts stays -/
abbrev Qq (q : Int32) (A : Nat → Nat → Int32) (B : Nat → Nat → Int64) : QR := fun r A' B' => r = some (.int q) ∧ Keeps2 A B A' B'
/-- what a clock shows in the plain course -/
def showsP (w : Nat → Int32) (c m : Nat) : Int32 := shW w (rsP w m).pt c
def q_shows (w : Nat → Int32) (c m : Int32) : Int32 := if (cB w c && tB w m) = true then showsP w c.toNatClampNeg m.toNatClampNeg else -2
theorem bX4_shows_0 : Blk TP mX4_shows 0 5 [oAL 0, oIL 1, tC_I F_isClock] := blk_c (s_aload_n dX4_shows_0 rfl) <| blk_c (s_iload_n dX4_shows_1 rfl) <| blk_c (tc_I ok_isClock gX4_isClock (by decide +kernel) (by decide) dX4_shows_2) <| blk_nil
theorem bX4_shows_8 : Blk TP mX4_shows 8 13 [oAL 0, oIL 2, tC_I F_isTime] := blk_c (s_aload_n dX4_shows_8 rfl) <| blk_c (s_iload_n dX4_shows_9 rfl) <| blk_c (tc_I ok_isTime gX4_isTime (by decide +kernel) (by decide) dX4_shows_10) <| blk_nil
theorem bX4_shows_16 : Blk TP mX4_shows 16 18 [oC (-2)] := blk_c (s_bipush dX4_shows_16 (by decide +kernel)) <| blk_nil
theorem bX4_shows_19 : Blk TP mX4_shows 19 20 [oAL 0] := blk_c (s_aload_n dX4_shows_19 rfl) <| blk_nil
theorem bX4_shows_23 : Blk TP mX4_shows 23 29 [oAL 0, oIL 1, oIL 2, tC_II F_shownAt] := blk_c (s_aload_n dX4_shows_23 rfl) <| blk_c (s_iload_n dX4_shows_24 rfl) <| blk_c (s_iload_n dX4_shows_25 rfl) <| blk_c (tc_II ok_shownAt gX4_shownAt (by decide +kernel) (by decide) dX4_shows_26) <| blk_nil
theorem ok_shows : RC_II mX4_shows (fun _ _ A B => Pre_runs A B) (fun c m A B => Qq (q_shows (A 1) c m) A B) := by
  intro X c m o ad A B hpre
  obtain ⟨v, hw⟩ := id hpre
  have h6 : v 6 ≤ 40 := hw.2.2.2.2.2.2.2.1
  have h4 : v 1 ≤ 4 := hw.2.2.1
  have main : (cB (A 1) c && tB (A 1) m) = true → JS TP X mX4_shows (rmOf mX4_shows.lv 0 0) (ZR X o ad (Qq (q_shows (A 1) c m) A B)) 0 0 19 [some (.ref o), some (.int c), some (.int m)] [] (o, ad, A, B) := by
    intro hg
    rw [q_shows, if_pos hg]
    simp only [Bool.and_eq_true] at hg
    obtain ⟨cn, hc, rfl⟩ := hw.cOf hg.1
    obtain ⟨mn, hm, rfl⟩ := hw.tOf hg.2
    refine bX4_shows_19.go rfl trivial ?_
    refine rc_V ok_plain gX4_plain dX4_shows_20 rfl hpre (fun r A1 B1 q => ?_)
    obtain ⟨rfl, hk, hq⟩ := q
    have hC := hq v hw
    refine bX4_shows_23.go rfl (by simp (disch := omega) only [vpI, nI_clamp, hk.1]; exact ⟨⟨trivial, by omega, by omega, hw.clock hc⟩, trivial⟩) ?_
    simp (disch := omega) only [nI_clamp, hk.1]
    refine r_iret dX4_shows_29 rfl ⟨ans ?_, hk⟩
    rw [hC.2.2.2.1 mn hm cn hc]; rfl
  refine R_start (L := [some (.ref o), some (.int c), some (.int m)]) 0 rfl ?_
  refine bX4_shows_0.go rfl (by exact ⟨⟨rfl, trivial⟩, trivial⟩) ?_
  refine j_if_eq (tgt := 16) dX4_shows_5 (by decide) (fun h5 => ?_) (fun h5 => ?_)
  · refine bX4_shows_16.go rfl trivial ?_
    refine r_iret dX4_shows_18 rfl ?_
    exact ⟨ans (by clear main; simp only [b2_0, b2_n0] at *; simp_all [q_shows, cB, tB]), Keeps2.rf⟩
  · refine bX4_shows_8.go rfl (by exact ⟨⟨rfl, trivial⟩, trivial⟩) ?_
    refine j_if_ne (tgt := 19) dX4_shows_13 (by decide) (fun h13 => ?_) (fun h13 => ?_)
    · exact main (by clear main; simp only [b2_0, b2_n0] at *; simp_all [cB, tB])
    · refine bX4_shows_16.go rfl trivial ?_
      refine r_iret dX4_shows_18 rfl ?_
      exact ⟨ans (by clear main; simp only [b2_0, b2_n0] at *; simp_all [q_shows, cB, tB]), Keeps2.rf⟩
/-- how many look at a clock in a minute of the plain course -/
def eyesN (w : Nat → Int32) (c m : Nat) : Nat → Int32
  | 0 => nI 0
  | p + 1 => eyesN w c m p + b2 (bitI (minL (cfP w) m (rsP w m) p) c)
def q_eyes (w : Nat → Int32) (c m : Int32) : Int32 := if (cB w c && mB w m) = true then eyesN w c.toNatClampNeg m.toNatClampNeg (nP w) else -2
theorem bX4_eyes_0 : Blk TP mX4_eyes 0 5 [oAL 0, oIL 1, tC_I F_isClock] := blk_c (s_aload_n dX4_eyes_0 rfl) <| blk_c (s_iload_n dX4_eyes_1 rfl) <| blk_c (tc_I ok_isClock gX4_isClock (by decide +kernel) (by decide) dX4_eyes_2) <| blk_nil
theorem bX4_eyes_8 : Blk TP mX4_eyes 8 13 [oAL 0, oIL 2, tC_I F_isMinute] := blk_c (s_aload_n dX4_eyes_8 rfl) <| blk_c (s_iload_n dX4_eyes_9 rfl) <| blk_c (tc_I ok_isMinute gX4_isMinute (by decide +kernel) (by decide) dX4_eyes_10) <| blk_nil
theorem bX4_eyes_16 : Blk TP mX4_eyes 16 18 [oC (-2)] := blk_c (s_bipush dX4_eyes_16 (by decide +kernel)) <| blk_nil
theorem bX4_eyes_19 : Blk TP mX4_eyes 19 20 [oAL 0] := blk_c (s_aload_n dX4_eyes_19 rfl) <| blk_nil
theorem bX4_eyes_23 : Blk TP mX4_eyes 23 28 [oC (nI 0), oIS 3, oC (nI 0), oIS 4] := blk_c (s_iconst dX4_eyes_23 (by decide +kernel)) <| blk_c (s_istore_n dX4_eyes_24 rfl (by decide)) <| blk_c (s_iconst dX4_eyes_25 (by decide +kernel)) <| blk_c (s_istore dX4_eyes_26 (by decide)) <| blk_nil
theorem bX4_eyes_28 : Blk TP mX4_eyes 28 36 [oIL 4, oAL 0, tR 1, oC (nI 2), tAI 1 320] := blk_c (s_iload dX4_eyes_28) <| blk_c (s_aload_n dX4_eyes_30 rfl) <| blk_c (tgX4_1 rfl dX4_eyes_31) <| blk_c (s_iconst dX4_eyes_34 (by decide +kernel)) <| blk_c (t_iald rfl dX4_eyes_35) <| blk_nil
theorem bX4_eyes_39 : Blk TP mX4_eyes 39 28 [oIL 3, oAL 0, tR 19, oC (nI 8), oIL 2, oMul, oIL 4, oAdd, tAI 19 320, oIL 1, oShr, oC (nI 1), oAnd, oAdd, oIS 3, oInc 4 1, .inl (fun s => some s)] := blk_c (s_iload_n dX4_eyes_39 rfl) <| blk_c (s_aload_n dX4_eyes_40 rfl) <| blk_c (tgX4_19 rfl dX4_eyes_41) <| blk_c (s_bipush dX4_eyes_44 (by decide +kernel)) <| blk_c (s_iload_n dX4_eyes_46 rfl) <| blk_c (s_imul dX4_eyes_47) <| blk_c (s_iload dX4_eyes_48) <| blk_c (s_iadd dX4_eyes_50) <| blk_c (t_iald rfl dX4_eyes_51) <| blk_c (s_iload_n dX4_eyes_52 rfl) <| blk_c (s_ishr dX4_eyes_53) <| blk_c (s_iconst dX4_eyes_54 (by decide +kernel)) <| blk_c (s_iand dX4_eyes_55) <| blk_c (s_iadd dX4_eyes_56) <| blk_c (s_istore_n dX4_eyes_57 rfl (by decide)) <| blk_c (s_iinc dX4_eyes_58 (by decide +kernel) (by decide)) <| blk_c (s_goto (tgt := 28) dX4_eyes_61 (by decide)) <| blk_nil
theorem bX4_eyes_64 : Blk TP mX4_eyes 64 65 [oIL 3] := blk_c (s_iload_n dX4_eyes_64 rfl) <| blk_nil
theorem ok_eyes : RC_II mX4_eyes (fun _ _ A B => Pre_runs A B) (fun c m A B => Qq (q_eyes (A 1) c m) A B) := by
  intro X c m o ad A B hpre
  obtain ⟨v, hw⟩ := id hpre
  have h6 : v 6 ≤ 40 := hw.2.2.2.2.2.2.2.1
  have h4 : v 1 ≤ 4 := hw.2.2.1
  have h8 : v 2 ≤ 8 := hw.2.2.2.1
  have e2 : A 1 2 = nI (v 2) := hw.1 2 (by decide)
  have main : (cB (A 1) c && mB (A 1) m) = true → JS TP X mX4_eyes (rmOf mX4_eyes.lv 0 0) (ZR X o ad (Qq (q_eyes (A 1) c m) A B)) 0 0 19 [some (.ref o), some (.int c), some (.int m), none, none] [] (o, ad, A, B) := by
    intro hg
    rw [q_eyes, if_pos hg]
    simp only [Bool.and_eq_true] at hg
    obtain ⟨cn, hc, rfl⟩ := hw.cOf hg.1
    obtain ⟨mn, hm, rfl⟩ := hw.mOf hg.2
    rw [nI_clamp (by omega), nI_clamp (by omega), hw.npE]
    refine bX4_eyes_19.go rfl trivial ?_
    refine rc_V ok_plain gX4_plain dX4_eyes_20 rfl hpre (fun r A1 B1 q => ?_)
    obtain ⟨rfl, hk, hq⟩ := q
    have hC := hq v hw
    refine bX4_eyes_23.go rfl trivial ?_
    refine loop_down (N := v 2) (I := fun _ => True) (P := fun p => JS TP X mX4_eyes (rmOf mX4_eyes.lv 0 0) _ 0 0 28 [some (.ref o), some (.int (nI cn)), some (.int (nI mn)), some (.int (eyesN (A 1) cn mn p)), some (.int (nI p))] [] (o, ad, A1, B1)) ?_ ?_ 0 (by omega) trivial
    · intro _
      refine bX4_eyes_28.go rfl ⟨rfl, ⟨rfl, vp_in_nI (by decide) (by decide)⟩, trivial⟩ ?_
      refine j_icmp_ge (tgt := 64) dX4_eyes_36 (by decide) (fun h36 => ?_) (fun h36 => ?_)
      · refine bX4_eyes_64.go rfl trivial ?_
        exact r_iret dX4_eyes_65 rfl ⟨rfl, hk⟩
      · simp (disch := omega) only [nI_clamp, hk.1, e2, nI_leI] at h36; omega
    · intro p hp _ ih
      refine bX4_eyes_28.go rfl ⟨rfl, ⟨rfl, vp_in_nI (by decide) (by decide)⟩, trivial⟩ ?_
      refine j_icmp_ge (tgt := 64) dX4_eyes_36 (by decide) (fun h36 => ?_) (fun h36 => ?_)
      · simp (disch := omega) only [nI_clamp, hk.1, e2, nI_leI] at h36; omega
      · refine bX4_eyes_39.go rfl (by simp (disch := omega) only [nI_add, pk_mul, vpI]; exact ⟨trivial, ⟨trivial, by omega⟩, trivial⟩) ?_
        simp (disch := omega) only [nI_1, nI_add, pk_mul, nI_clamp]
        rw [(hC.2.2.2.2.1 mn hm p (by omega)).1, if_pos hp, bitI_v]
        exact ih trivial
  refine R_start (L := [some (.ref o), some (.int c), some (.int m), none, none]) 2 rfl ?_
  refine bX4_eyes_0.go rfl (by exact ⟨⟨rfl, trivial⟩, trivial⟩) ?_
  refine j_if_eq (tgt := 16) dX4_eyes_5 (by decide) (fun h5 => ?_) (fun h5 => ?_)
  · refine bX4_eyes_16.go rfl trivial ?_
    refine r_iret dX4_eyes_18 rfl ?_
    exact ⟨ans (by clear main; simp only [b2_0, b2_n0] at *; simp_all [q_eyes, cB, mB]), Keeps2.rf⟩
  · refine bX4_eyes_8.go rfl (by exact ⟨⟨rfl, trivial⟩, trivial⟩) ?_
    refine j_if_ne (tgt := 19) dX4_eyes_13 (by decide) (fun h13 => ?_) (fun h13 => ?_)
    · exact main (by clear main; simp only [b2_0, b2_n0] at *; simp_all [cB, mB])
    · refine bX4_eyes_16.go rfl trivial ?_
      refine r_iret dX4_eyes_18 rfl ?_
      exact ⟨ans (by clear main; simp only [b2_0, b2_n0] at *; simp_all [q_eyes, cB, mB]), Keeps2.rf⟩
