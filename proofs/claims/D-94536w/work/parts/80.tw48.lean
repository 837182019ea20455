set_option maxRecDepth 100000
/-! ===== UnseenClockModel: agree, sure, needs ===== -/
theorem inJ_nat {x : Int64} {n : Nat} (hn : n < 1000) (h : inJ x (lN 0) (nI n).toInt64 = true) : ∃ a, a ≤ n ∧ x = lN a := by
  simp only [inJ, Bool.and_eq_true, decide_eq_true_eq] at h
  obtain ⟨h1, h2⟩ := h
  rw [Int64.le_iff_toInt_le, lN_toInt (by decide)] at h1
  rw [Int64.le_iff_toInt_le, Int32.toInt_toInt64, nI_toInt (by omega)] at h2
  refine ⟨x.toInt.toNat, by omega, Int64.toInt_inj.mp ?_⟩
  rw [lN_toInt (by omega)]
  omega
theorem inJ_no {x : Int64} (h : inJ x (lN 0) (nI 0 - nI 1).toInt64 = true) : False := by
  simp only [inJ, Bool.and_eq_true, decide_eq_true_eq] at h
  exact absurd (Int64.le_trans h.1 h.2) (by decide +kernel)
theorem sg1_nat {w : Nat → Int32} {v : Nat → Nat} (hw : WOk w v) {b : Nat → Int64} {j : Nat} (h : sg1 w b j = true) : ∃ c m, c < v 1 ∧ m ≤ v 6 ∧ (b j).toInt32 = nI c ∧ (b (j + 1)).toInt32 = nI m := by
  have h6 : v 6 ≤ 40 := hw.2.2.2.2.2.2.2.1
  have h4 : v 1 ≤ 4 := hw.2.2.1
  simp only [sg1, Bool.and_eq_true] at h
  obtain ⟨h1, h2, -⟩ := h
  rw [hw.1 1 (by decide)] at h1
  rw [hw.1 6 (by decide)] at h2
  obtain ⟨m, hm, em⟩ := inJ_nat (by omega) h2
  rcases Nat.eq_zero_or_pos (v 1) with h0 | h0
  · rw [h0] at h1; exact (inJ_no h1).elim
  · rw [pk_sub (by omega)] at h1
    obtain ⟨c, hc, ec⟩ := inJ_nat (by omega) h1
    exact ⟨c, m, by omega, hm, by rw [ec, lN_i], by rw [em, lN_i]⟩
theorem asV_0 {w m37 : Nat → Int32} {b : Nat → Int64} {s is most : Int32} (hsl : ∀ s, s < 4 → m37 s = -1 ∨ ∃ n, n ≤ 60 ∧ m37 s = nI n) (h : asV w m37 b s is most = nI 0) : ∃ sn n, sn < 4 ∧ s = nI sn ∧ m37 sn = nI n ∧ n ≤ 60 ∧ n % 3 = 0 ∧ n ≤ 3 * most.toNatClampNeg ∧ (∀ i, i < n / 3 → sg1 w b (60 * sn + 3 * i) = true) ∧ cnC w ≤ 128 := by
  unfold asV at h
  split at h
  · rename_i hg
    simp only [Bool.and_eq_true] at hg
    obtain ⟨sn, hs, rfl⟩ := slB_nat hg.1
    rw [nI_clamp (by omega)] at h
    split at h
    · exact absurd h (by decide +kernel)
    · rename_i h1
      obtain ⟨n, hn, en⟩ := (hsl sn hs).resolve_left h1
      rw [en, nI_clamp (by omega)] at h
      split at h
      · exact absurd h (by decide +kernel)
      · rename_i h2
        split at h
        · rename_i h3
          split at h
          · exact ⟨sn, n, hs, rfl, en, hn, by omega, by omega, allN_true.mp h3, by assumption⟩
          · exact absurd h (by decide +kernel)
        · exact absurd h (by decide +kernel)
  · exact absurd h (by decide +kernel)
theorem asV_neg {w m37 : Nat → Int32} {b : Nat → Int64} {s is most : Int32} : asV w m37 b s is most < 0 ↔ ¬ asV w m37 b s is most = nI 0 := by
  have : asV w m37 b s is most = nI 0 ∨ asV w m37 b s is most = -2 ∨ asV w m37 b s is most = -3 ∨ asV w m37 b s is most = -6 := by
    unfold asV
    split
    · split
      · simp
      · split
        · simp
        · split
          · split <;> simp
          · simp
    · simp
  rcases this with h | h | h | h <;> rw [h] <;> decide +kernel
theorem SgR.of {w : Nat → Int32} {v : Nat → Nat} (hw : WOk w v) {A : Nat → Nat → Int32} {B : Nat → Nat → Int64} {sn n : Nat} (hs : sn < 4) (hn : n ≤ 60) (h3 : n % 3 = 0) (e : A 37 sn = nI n) (h : ∀ i, i < n / 3 → sg1 w (B 39) (60 * sn + 3 * i) = true) : SgR A B sn n := by
  have h6 : v 6 ≤ 40 := hw.2.2.2.2.2.2.2.1
  have h4 : v 1 ≤ 4 := hw.2.2.1
  refine ⟨hs, hn, h3, e, fun i hi => ?_⟩
  obtain ⟨c, m, hc, hm, ec, em⟩ := sg1_nat hw (h i hi)
  exact ⟨c, m, by omega, by omega, ec, em⟩
/-- in the k-th course some sightings of slot s are so -/
def agC (w m37 : Nat → Int32) (b : Nat → Int64) (s : Nat) (set : Int32) (k : Nat) : Bool := agS (shC w k) b s (m37 s).toNatClampNeg set
theorem agC_eq {w : Nat → Int32} {v : Nat → Nat} (hw : WOk w v) {A : Nat → Nat → Int32} {b : Nat → Int64} {m37 : Nat → Int32} {sn n N k : Nat} (hn : n ≤ 60) (e : m37 sn = nI n) (h : ∀ i, i < n / 3 → sg1 w b (60 * sn + 3 * i) = true) (hC : CoA A v w N) (hk : k < N) (set : Int32) : agS (fun c m => A 32 (164 * k + 4 * m + c)) b sn n set = agC w m37 b sn set k := by
  have h6 : v 6 ≤ 40 := hw.2.2.2.2.2.2.2.1
  have h4 : v 1 ≤ 4 := hw.2.2.1
  rw [agC, e, nI_clamp (by omega)]
  refine allN_congr (fun i hi => ?_)
  obtain ⟨c, m, hc, hm, ec, em⟩ := sg1_nat hw (h i hi)
  show (!bitI set i || decide ((A 32 (164 * k + 4 * (b (60 * sn + 3 * i + 1)).toInt32.toNatClampNeg + (b (60 * sn + 3 * i)).toInt32.toNatClampNeg)).toInt64 = b (60 * sn + 3 * i + 2))) = _
  rw [ec, em, nI_clamp (by omega), nI_clamp (by omega), (hC.2 k hk).1 m hm c hc]
theorem srF_cg {ag ag' : Nat → Bool} {sh sh' : Nat → Int32} {N : Nat} (ha : ∀ k, k < N → ag k = ag' k) (hs : ∀ k, k < N → sh k = sh' k) : ∀ f k x, k + f = N → srF ag sh f k x = srF ag' sh' f k x := by
  intro f
  induction f with
  | zero => intro k x _; rfl
  | succ f ih =>
    intro k x h
    rw [srF, srF, ha k (by omega), hs k (by omega), ih (k + 1) _ (by omega), ih (k + 1) _ (by omega)]
def srC (w m37 : Nat → Int32) (b : Nat → Int64) (s : Nat) (set : Int32) (c m : Nat) : Int32 := srF (agC w m37 b s set) (fun k => shC w k c m) (cnC w) 0 (-1)
theorem srC_eq {w : Nat → Int32} {v : Nat → Nat} (hw : WOk w v) {A : Nat → Nat → Int32} {b : Nat → Int64} {m37 : Nat → Int32} {sn n c m : Nat} (hn : n ≤ 60) (e : m37 sn = nI n) (h : ∀ i, i < n / 3 → sg1 w b (60 * sn + 3 * i) = true) (hC : CoA A v w (cnC w)) (hc : c < v 1) (hm : m ≤ v 6) (set : Int32) : srF (fun k => agS (fun c m => A 32 (164 * k + 4 * m + c)) b sn n set) (fun k => A 32 (164 * k + 4 * m + c)) (cnC w) 0 (-1) = srC w m37 b sn set c m :=
  srF_cg (fun k hk => agC_eq hw hn e h hC hk set) (fun k hk => (hC.2 k hk).1 m hm c hc) _ _ _ (by omega)
def q_agree (w m37 : Nat → Int32) (b : Nat → Int64) (s : Int32) : Int32 := if asV w m37 b s (nI 1) (nI 20) = nI 0 then sumI (fun k => b2 (agC w m37 b s.toNatClampNeg (-1) k)) (cnC w) else asV w m37 b s (nI 1) (nI 20)
theorem bX4_agree_0 : Blk TP mX4_agree 0 5 [oAL 0, oIL 1, oC (nI 1), oC (nI 20)] := blk_c (s_aload_n dX4_agree_0 rfl) <| blk_c (s_iload_n dX4_agree_1 rfl) <| blk_c (s_iconst dX4_agree_2 (by decide +kernel)) <| blk_c (s_bipush dX4_agree_3 (by decide +kernel)) <| blk_nil
theorem bX4_agree_8 : Blk TP mX4_agree 8 10 [oIS 2, oIL 2] := blk_c (s_istore_n dX4_agree_8 rfl (by decide)) <| blk_c (s_iload_n dX4_agree_9 rfl) <| blk_nil
theorem bX4_agree_13 : Blk TP mX4_agree 13 14 [oIL 2] := blk_c (s_iload_n dX4_agree_13 rfl) <| blk_nil
theorem bX4_agree_15 : Blk TP mX4_agree 15 20 [oC (nI 0), oIS 3, oC (nI 0), oIS 4] := blk_c (s_iconst dX4_agree_15 (by decide +kernel)) <| blk_c (s_istore_n dX4_agree_16 rfl (by decide)) <| blk_c (s_iconst dX4_agree_17 (by decide +kernel)) <| blk_c (s_istore dX4_agree_18 (by decide)) <| blk_nil
theorem bX4_agree_20 : Blk TP mX4_agree 20 26 [oIL 4, oAL 0, tI 34] := blk_c (s_iload dX4_agree_20) <| blk_c (s_aload_n dX4_agree_22 rfl) <| blk_c (tgX4_34 rfl dX4_agree_23) <| blk_nil
theorem bX4_agree_29 : Blk TP mX4_agree 29 38 [oIL 3, oAL 0, oIL 1, oC (-1), oIL 4, tC_III F_agrees] := blk_c (s_iload_n dX4_agree_29 rfl) <| blk_c (s_aload_n dX4_agree_30 rfl) <| blk_c (s_iload_n dX4_agree_31 rfl) <| blk_c (s_iconst dX4_agree_32 (by decide +kernel)) <| blk_c (s_iload dX4_agree_33) <| blk_c (tc_III ok_agrees gX4_agrees (by decide +kernel) (by decide) dX4_agree_35) <| blk_nil
theorem bX4_agree_41 : Blk TP mX4_agree 41 46 [oC (nI 1), .inl (fun s => some s)] := blk_c (s_iconst dX4_agree_41 (by decide +kernel)) <| blk_c (s_goto (tgt := 46) dX4_agree_42 (by decide)) <| blk_nil
theorem bX4_agree_45 : Blk TP mX4_agree 45 46 [oC (nI 0)] := blk_c (s_iconst dX4_agree_45 (by decide +kernel)) <| blk_nil
theorem bX4_agree_46 : Blk TP mX4_agree 46 20 [oAdd, oIS 3, oInc 4 1, .inl (fun s => some s)] := blk_c (s_iadd dX4_agree_46) <| blk_c (s_istore_n dX4_agree_47 rfl (by decide)) <| blk_c (s_iinc dX4_agree_48 (by decide +kernel) (by decide)) <| blk_c (s_goto (tgt := 20) dX4_agree_51 (by decide)) <| blk_nil
theorem bX4_agree_54 : Blk TP mX4_agree 54 55 [oIL 3] := blk_c (s_iload_n dX4_agree_54 rfl) <| blk_nil
theorem ok_agree : RC_I mX4_agree (fun _ A B => Pre_runs A B ∧ SlOk A) (fun s A B => Qq (q_agree (A 1) (A 37) (B 39) s) A B) := by
  intro X s o ad A B hpre
  obtain ⟨hpr, hsl⟩ := hpre
  obtain ⟨v, hw⟩ := id hpr
  refine R_start (L := [some (.ref o), some (.int s), none, none, none]) 3 rfl ?_
  refine bX4_agree_0.go rfl trivial ?_
  refine rc_III ok_asksSightings gX4_asksSightings dX4_agree_5 rfl ⟨hpr, hsl, 20, rfl, by omega⟩ (fun r A1 B1 q => ?_)
  obtain ⟨rfl, hk, hq⟩ := q
  refine bX4_agree_8.go rfl trivial ?_
  refine j_if_ge (tgt := 15) dX4_agree_10 (by decide) (fun h10 => ?_) (fun h10 => ?_)
  · have h0 : asV (A 1) (A 37) (B 39) s (nI 1) (nI 20) = nI 0 := by
      apply Classical.byContradiction
      intro h
      exact absurd (asV_neg.mpr h) (Int32.not_lt.mpr h10)
    obtain ⟨hcn, hC⟩ := hq h0 v hw
    obtain ⟨sn, n, hs, rfl, en, hn, hn3, -, hsg, -⟩ := asV_0 hsl h0
    have hb39 : B1 39 = B 39 := hk.2.2.2.2.2.2.2.2.2
    have h37 : A1 37 = A 37 := hk.2.2.2.2.1
    have hR : SgR A1 B1 sn n := SgR.of hw hs hn hn3 (by rw [h37]; exact en) (by rw [hb39]; exact hsg)
    dsimp only
    rw [q_agree, if_pos h0, nI_clamp (by omega)]
    refine bX4_agree_15.go rfl trivial ?_
    refine JS.weak (L' := [some (.ref o), some (.int (nI sn)), none, some (.int (nI 0)), some (.int (nI 0))]) (by simp [lsub]) ?_
    refine loop_down (N := cnC (A 1)) (I := fun _ => True) (P := fun k => JS TP X mX4_agree (rmOf mX4_agree.lv 0 0) (ZR X o ad (Qq (sumI (fun k => b2 (agC (A 1) (A 37) (B 39) sn (-1) k)) (cnC (A 1))) A B)) 0 0 20 [some (.ref o), some (.int (nI sn)), none, some (.int (sumI (fun k => b2 (agC (A 1) (A 37) (B 39) sn (-1) k)) k)), some (.int (nI k))] [] (o, ad, A1, B1)) ?_ ?_ 0 (Nat.zero_le _) trivial
    · intro _
      refine bX4_agree_20.go rfl (by exact ⟨rfl, trivial⟩) ?_
      rw [hC.1]
      refine j_icmp_ge (tgt := 54) dX4_agree_26 (by decide) (fun h26 => ?_) (fun h26 => absurd (nI_le (Nat.le_refl _) (by omega)) h26)
      refine bX4_agree_54.go rfl trivial ?_
      exact r_iret dX4_agree_55 rfl ⟨rfl, hk⟩
    · intro k hkn _ ih
      refine bX4_agree_20.go rfl (by exact ⟨rfl, trivial⟩) ?_
      rw [hC.1]
      refine j_icmp_ge (tgt := 54) dX4_agree_26 (by decide) (fun h26 => ?_) (fun h26 => ?_)
      · simp (disch := omega) only [nI_leI] at h26; omega
      · refine bX4_agree_29.go rfl (by simp (disch := omega) only [vpI]; exact ⟨⟨trivial, by omega, sn, n, rfl, hR⟩, trivial⟩) ?_
        simp (disch := omega) only [nI_clamp, h37, hb39, en]
        rw [agC_eq (m37 := A 37) hw hn en hsg hC hkn]
        have jn : ∀ z, z = b2 (agC (A 1) (A 37) (B 39) sn (-1) k) → JS TP X mX4_agree (rmOf mX4_agree.lv 0 0) (ZR X o ad (Qq (sumI (fun k => b2 (agC (A 1) (A 37) (B 39) sn (-1) k)) (cnC (A 1))) A B)) 0 0 46 [some (.ref o), some (.int (nI sn)), none, some (.int (sumI (fun k => b2 (agC (A 1) (A 37) (B 39) sn (-1) k)) k)), some (.int (nI k))] [.int z, .int (sumI (fun k => b2 (agC (A 1) (A 37) (B 39) sn (-1) k)) k)] (o, ad, A1, B1) := by
          intro z hz
          subst hz
          refine bX4_agree_46.go rfl trivial ?_
          rw [nI_1]
          exact ih trivial
        refine j_if_eq (tgt := 45) dX4_agree_38 (by decide) (fun h38 => ?_) (fun h38 => ?_)
        · rw [b2_0] at h38
          refine bX4_agree_45.go rfl trivial ?_
          exact jn _ (b2_f h38)
        · rw [b2_n0] at h38
          refine bX4_agree_41.go rfl trivial ?_
          exact jn _ (b2_t h38)
  · have h0 : ¬ asV (A 1) (A 37) (B 39) s (nI 1) (nI 20) = nI 0 := asV_neg.mp (Int32.not_le.mp h10)
    refine bX4_agree_13.go rfl trivial ?_
    exact r_iret dX4_agree_14 rfl ⟨ans (by rw [q_agree, if_neg h0]), hk⟩
def ctB (w : Nat → Int32) (c m : Int32) : Bool := cB w c && tB w m
def q_sure (w m37 : Nat → Int32) (b : Nat → Int64) (s c m : Int32) : Int32 := if asV w m37 b s (b2 (ctB w c m)) (nI 20) = nI 0 then srC w m37 b s.toNatClampNeg (-1) c.toNatClampNeg m.toNatClampNeg else asV w m37 b s (b2 (ctB w c m)) (nI 20)
theorem asV_is {w m37 : Nat → Int32} {b : Nat → Int64} {s most : Int32} {t : Bool} (h : asV w m37 b s (b2 t) most = nI 0) : t = true := by
  cases t with
  | true => rfl
  | false =>
    unfold asV at h
    rw [if_neg (by rw [show decide (b2 false = 0) = true by decide +kernel]; simp)] at h
    exact absurd h (by decide +kernel)
theorem bX4_sure_0 : Blk TP mX4_sure 0 7 [oAL 0, oIL 1, oAL 0, oIL 2, tC_I F_isClock] := blk_c (s_aload_n dX4_sure_0 rfl) <| blk_c (s_iload_n dX4_sure_1 rfl) <| blk_c (s_aload_n dX4_sure_2 rfl) <| blk_c (s_iload_n dX4_sure_3 rfl) <| blk_c (tc_I ok_isClock gX4_isClock (by decide +kernel) (by decide) dX4_sure_4) <| blk_nil
theorem bX4_sure_10 : Blk TP mX4_sure 10 15 [oAL 0, oIL 3, tC_I F_isTime] := blk_c (s_aload_n dX4_sure_10 rfl) <| blk_c (s_iload_n dX4_sure_11 rfl) <| blk_c (tc_I ok_isTime gX4_isTime (by decide +kernel) (by decide) dX4_sure_12) <| blk_nil
theorem bX4_sure_18 : Blk TP mX4_sure 18 23 [oC (nI 1), .inl (fun s => some s)] := blk_c (s_iconst dX4_sure_18 (by decide +kernel)) <| blk_c (s_goto (tgt := 23) dX4_sure_19 (by decide)) <| blk_nil
theorem bX4_sure_22 : Blk TP mX4_sure 22 23 [oC (nI 0)] := blk_c (s_iconst dX4_sure_22 (by decide +kernel)) <| blk_nil
theorem bX4_sure_23 : Blk TP mX4_sure 23 25 [oC (nI 20)] := blk_c (s_bipush dX4_sure_23 (by decide +kernel)) <| blk_nil
theorem bX4_sure_28 : Blk TP mX4_sure 28 32 [oIS 4, oIL 4] := blk_c (s_istore dX4_sure_28 (by decide)) <| blk_c (s_iload dX4_sure_30) <| blk_nil
theorem bX4_sure_35 : Blk TP mX4_sure 35 48 [oIL 4, .inl (fun s => some s)] := blk_c (s_iload dX4_sure_35) <| blk_c (s_goto (tgt := 48) dX4_sure_37 (by decide)) <| blk_nil
theorem bX4_sure_40 : Blk TP mX4_sure 40 48 [oAL 0, oIL 1, oC (-1), oIL 2, oIL 3, tC_IIII F_sureBy] := blk_c (s_aload_n dX4_sure_40 rfl) <| blk_c (s_iload_n dX4_sure_41 rfl) <| blk_c (s_iconst dX4_sure_42 (by decide +kernel)) <| blk_c (s_iload_n dX4_sure_43 rfl) <| blk_c (s_iload_n dX4_sure_44 rfl) <| blk_c (tc_IIII ok_sureBy gX4_sureBy (by decide +kernel) (by decide) dX4_sure_45) <| blk_nil
theorem ok_sure : RC_III mX4_sure (fun _ _ _ A B => Pre_runs A B ∧ SlOk A) (fun s c m A B => Qq (q_sure (A 1) (A 37) (B 39) s c m) A B) := by
  intro X s c m o ad A B hpre
  obtain ⟨hpr, hsl⟩ := hpre
  obtain ⟨v, hw⟩ := id hpr
  have h6 : v 6 ≤ 40 := hw.2.2.2.2.2.2.2.1
  have h4 : v 1 ≤ 4 := hw.2.2.1
  have m23 : ∀ z, z = b2 (ctB (A 1) c m) → JS TP X mX4_sure (rmOf mX4_sure.lv 0 0) (ZR X o ad (Qq (q_sure (A 1) (A 37) (B 39) s c m) A B)) 0 0 23 [some (.ref o), some (.int s), some (.int c), some (.int m), none] [.int z, .int s, .ref o] (o, ad, A, B) := by
    intro z hz
    subst hz
    refine bX4_sure_23.go rfl trivial ?_
    refine rc_III ok_asksSightings gX4_asksSightings dX4_sure_25 rfl ⟨hpr, hsl, 20, rfl, by omega⟩ (fun r A1 B1 q => ?_)
    obtain ⟨rfl, hk, hq⟩ := q
    refine bX4_sure_28.go rfl trivial ?_
    refine j_if_ge (tgt := 40) dX4_sure_32 (by decide) (fun h32 => ?_) (fun h32 => ?_)
    · have h0 : asV (A 1) (A 37) (B 39) s (b2 (ctB (A 1) c m)) (nI 20) = nI 0 := by
        apply Classical.byContradiction
        intro h
        exact absurd (asV_neg.mpr h) (Int32.not_lt.mpr h32)
      obtain ⟨hcn, hC⟩ := hq h0 v hw
      have hct := asV_is h0
      simp only [ctB, Bool.and_eq_true] at hct
      obtain ⟨cn, hc, rfl⟩ := hw.cOf hct.1
      obtain ⟨mn, hm, rfl⟩ := hw.tOf hct.2
      obtain ⟨sn, n, hs, rfl, en, hn, hn3, -, hsg, -⟩ := asV_0 hsl h0
      have hb39 : B1 39 = B 39 := hk.2.2.2.2.2.2.2.2.2
      have h37 : A1 37 = A 37 := hk.2.2.2.2.1
      have hR : SgR A1 B1 sn n := SgR.of hw hs hn hn3 (by rw [h37]; exact en) (by rw [hb39]; exact hsg)
      rw [q_sure, if_pos h0, nI_clamp (by omega), nI_clamp (by omega), nI_clamp (by omega)]
      refine bX4_sure_40.go rfl (by simp (disch := omega) only [vpI]; exact ⟨⟨trivial, by omega, by omega, ⟨_, hcn, hC.1⟩, sn, n, rfl, hR⟩, trivial⟩) ?_
      simp (disch := omega) only [nI_clamp, h37, hb39, en, hC.1]
      exact r_iret dX4_sure_48 rfl ⟨ans (srC_eq hw hn en hsg hC hc hm _), hk⟩
    · have h0 : ¬ asV (A 1) (A 37) (B 39) s (b2 (ctB (A 1) c m)) (nI 20) = nI 0 := asV_neg.mp (Int32.not_le.mp h32)
      refine bX4_sure_35.go rfl trivial ?_
      exact r_iret dX4_sure_48 rfl ⟨ans (by rw [q_sure, if_neg h0]), hk⟩
  refine R_start (L := [some (.ref o), some (.int s), some (.int c), some (.int m), none]) 1 rfl ?_
  refine bX4_sure_0.go rfl (by exact ⟨⟨rfl, trivial⟩, trivial⟩) ?_
  refine j_if_eq (tgt := 22) dX4_sure_7 (by decide) (fun h7 => ?_) (fun h7 => ?_)
  · rw [b2_0] at h7
    refine bX4_sure_22.go rfl trivial ?_
    exact m23 _ (b2_f (by rw [ctB, show cB (A 1) c = false from h7]; rfl))
  · rw [b2_n0] at h7
    refine bX4_sure_10.go rfl (by exact ⟨⟨rfl, trivial⟩, trivial⟩) ?_
    refine j_if_eq (tgt := 22) dX4_sure_15 (by decide) (fun h15 => ?_) (fun h15 => ?_)
    · rw [b2_0] at h15
      refine bX4_sure_22.go rfl trivial ?_
      exact m23 _ (b2_f (by rw [ctB, show tB (A 1) m = false from h15]; simp))
    · rw [b2_n0] at h15
      refine bX4_sure_18.go rfl trivial ?_
      exact m23 _ (b2_t (by rw [ctB, show cB (A 1) c = true from h7, show tB (A 1) m = true from h15]; rfl))
/-- the fewest sightings that make it sure, among the first sets -/
def ndF (sr : Nat → Int32) (n : Nat) : Nat → Int32
  | 0 => nI n
  | k + 1 => if sr k = -1 then ndF sr n k else minI (ndF sr n k) (bitsI (nI k))
def q_needs (w m37 : Nat → Int32) (b : Nat → Int64) (s c m : Int32) : Int32 := if asV w m37 b s (b2 (ctB w c m)) (nI 8) = nI 0 then (if srC w m37 b s.toNatClampNeg (-1) c.toNatClampNeg m.toNatClampNeg = -1 then -1 else ndF (fun k => srC w m37 b s.toNatClampNeg (nI k) c.toNatClampNeg m.toNatClampNeg) ((m37 s.toNatClampNeg).toNatClampNeg / 3) (2 ^ ((m37 s.toNatClampNeg).toNatClampNeg / 3))) else asV w m37 b s (b2 (ctB w c m)) (nI 8)
theorem bX4_needs_2_0 : Blk TP mX4_needs_2 0 7 [oAL 0, oIL 1, oAL 0, oIL 2, tC_I F_isClock] := blk_c (s_aload_n dX4_needs_2_0 rfl) <| blk_c (s_iload_n dX4_needs_2_1 rfl) <| blk_c (s_aload_n dX4_needs_2_2 rfl) <| blk_c (s_iload_n dX4_needs_2_3 rfl) <| blk_c (tc_I ok_isClock gX4_isClock (by decide +kernel) (by decide) dX4_needs_2_4) <| blk_nil
theorem bX4_needs_2_10 : Blk TP mX4_needs_2 10 15 [oAL 0, oIL 3, tC_I F_isTime] := blk_c (s_aload_n dX4_needs_2_10 rfl) <| blk_c (s_iload_n dX4_needs_2_11 rfl) <| blk_c (tc_I ok_isTime gX4_isTime (by decide +kernel) (by decide) dX4_needs_2_12) <| blk_nil
theorem bX4_needs_2_18 : Blk TP mX4_needs_2 18 23 [oC (nI 1), .inl (fun s => some s)] := blk_c (s_iconst dX4_needs_2_18 (by decide +kernel)) <| blk_c (s_goto (tgt := 23) dX4_needs_2_19 (by decide)) <| blk_nil
theorem bX4_needs_2_22 : Blk TP mX4_needs_2 22 23 [oC (nI 0)] := blk_c (s_iconst dX4_needs_2_22 (by decide +kernel)) <| blk_nil
theorem bX4_needs_2_23 : Blk TP mX4_needs_2 23 25 [oC (nI 8)] := blk_c (s_bipush dX4_needs_2_23 (by decide +kernel)) <| blk_nil
theorem bX4_needs_2_28 : Blk TP mX4_needs_2 28 32 [oIS 4, oIL 4] := blk_c (s_istore dX4_needs_2_28 (by decide)) <| blk_c (s_iload dX4_needs_2_30) <| blk_nil
theorem bX4_needs_2_35 : Blk TP mX4_needs_2 35 37 [oIL 4] := blk_c (s_iload dX4_needs_2_35) <| blk_nil
theorem bX4_needs_2_38 : Blk TP mX4_needs_2 38 47 [oAL 0, oIL 1, oC (-1), oIL 2, oIL 3, tC_IIII F_sureBy, oC (-1)] := blk_c (s_aload_n dX4_needs_2_38 rfl) <| blk_c (s_iload_n dX4_needs_2_39 rfl) <| blk_c (s_iconst dX4_needs_2_40 (by decide +kernel)) <| blk_c (s_iload_n dX4_needs_2_41 rfl) <| blk_c (s_iload_n dX4_needs_2_42 rfl) <| blk_c (tc_IIII ok_sureBy gX4_sureBy (by decide +kernel) (by decide) dX4_needs_2_43) <| blk_c (s_iconst dX4_needs_2_46 (by decide +kernel)) <| blk_nil
theorem bX4_needs_2_50 : Blk TP mX4_needs_2 50 51 [oC (-1)] := blk_c (s_iconst dX4_needs_2_50 (by decide +kernel)) <| blk_nil
theorem bX4_needs_2_52 : Blk TP mX4_needs_2 52 65 [oAL 0, tR 37, oIL 1, tAI 37 4, oC (nI 3), oDiv, oIS 5, oC (nI 0), oIS 6] := blk_c (s_aload_n dX4_needs_2_52 rfl) <| blk_c (tgX4_37 rfl dX4_needs_2_53) <| blk_c (s_iload_n dX4_needs_2_56 rfl) <| blk_c (t_iald rfl dX4_needs_2_57) <| blk_c (s_iconst dX4_needs_2_58 (by decide +kernel)) <| blk_c (s_idiv dX4_needs_2_59) <| blk_c (s_istore dX4_needs_2_60 (by decide)) <| blk_c (s_iconst dX4_needs_2_62 (by decide +kernel)) <| blk_c (s_istore dX4_needs_2_63 (by decide)) <| blk_nil
theorem bX4_needs_2_65 : Blk TP mX4_needs_2 65 77 [oIL 6, oC (nI 1), oAL 0, tR 37, oIL 1, tAI 37 4, oC (nI 3), oDiv, oShl] := blk_c (s_iload dX4_needs_2_65) <| blk_c (s_iconst dX4_needs_2_67 (by decide +kernel)) <| blk_c (s_aload_n dX4_needs_2_68 rfl) <| blk_c (tgX4_37 rfl dX4_needs_2_69) <| blk_c (s_iload_n dX4_needs_2_72 rfl) <| blk_c (t_iald rfl dX4_needs_2_73) <| blk_c (s_iconst dX4_needs_2_74 (by decide +kernel)) <| blk_c (s_idiv dX4_needs_2_75) <| blk_c (s_ishl dX4_needs_2_76) <| blk_nil
theorem bX4_needs_2_80 : Blk TP mX4_needs_2 80 90 [oAL 0, oIL 1, oIL 6, oIL 2, oIL 3, tC_IIII F_sureBy, oC (-1)] := blk_c (s_aload_n dX4_needs_2_80 rfl) <| blk_c (s_iload_n dX4_needs_2_81 rfl) <| blk_c (s_iload dX4_needs_2_82) <| blk_c (s_iload_n dX4_needs_2_84 rfl) <| blk_c (s_iload_n dX4_needs_2_85 rfl) <| blk_c (tc_IIII ok_sureBy gX4_sureBy (by decide +kernel) (by decide) dX4_needs_2_86) <| blk_c (s_iconst dX4_needs_2_89 (by decide +kernel)) <| blk_nil
theorem bX4_needs_2_93 : Blk TP mX4_needs_2 93 108 [oIL 5, .inl (fun s => some s)] := blk_c (s_iload dX4_needs_2_93) <| blk_c (s_goto (tgt := 108) dX4_needs_2_95 (by decide)) <| blk_nil
theorem bX4_needs_2_98 : Blk TP mX4_needs_2 98 108 [oIL 5, oIL 6, tS_I F_bits, tS_II F_Mmin] := blk_c (s_iload dX4_needs_2_98) <| blk_c (s_iload dX4_needs_2_100) <| blk_c (ts_I ok_bits gX4_bits (by decide +kernel) (by decide) dX4_needs_2_102) <| blk_c (ts_II ok_Mmin gJ3_min_X4 (by decide +kernel) (by decide) dX4_needs_2_105) <| blk_nil
theorem bX4_needs_2_108 : Blk TP mX4_needs_2 108 65 [oIS 5, oInc 6 1, .inl (fun s => some s)] := blk_c (s_istore dX4_needs_2_108 (by decide)) <| blk_c (s_iinc dX4_needs_2_110 (by decide +kernel) (by decide)) <| blk_c (s_goto (tgt := 65) dX4_needs_2_113 (by decide)) <| blk_nil
theorem bX4_needs_2_116 : Blk TP mX4_needs_2 116 118 [oIL 5] := blk_c (s_iload dX4_needs_2_116) <| blk_nil
theorem ok_needs_2 : RC_III mX4_needs_2 (fun _ _ _ A B => Pre_runs A B ∧ SlOk A) (fun s c m A B => Qq (q_needs (A 1) (A 37) (B 39) s c m) A B) := by
  intro X s c m o ad A B hpre
  obtain ⟨hpr, hsl⟩ := hpre
  obtain ⟨v, hw⟩ := id hpr
  have h6 : v 6 ≤ 40 := hw.2.2.2.2.2.2.2.1
  have h4 : v 1 ≤ 4 := hw.2.2.1
  have m23 : ∀ z, z = b2 (ctB (A 1) c m) → JS TP X mX4_needs_2 (rmOf mX4_needs_2.lv 0 0) (ZR X o ad (Qq (q_needs (A 1) (A 37) (B 39) s c m) A B)) 0 0 23 [some (.ref o), some (.int s), some (.int c), some (.int m), none, none, none] [.int z, .int s, .ref o] (o, ad, A, B) := by
    intro z hz
    subst hz
    refine bX4_needs_2_23.go rfl trivial ?_
    refine rc_III ok_asksSightings gX4_asksSightings dX4_needs_2_25 rfl ⟨hpr, hsl, 8, rfl, by omega⟩ (fun r A1 B1 q => ?_)
    obtain ⟨rfl, hk, hq⟩ := q
    refine bX4_needs_2_28.go rfl trivial ?_
    refine j_if_ge (tgt := 38) dX4_needs_2_32 (by decide) (fun h32 => ?_) (fun h32 => ?_)
    · have h0 : asV (A 1) (A 37) (B 39) s (b2 (ctB (A 1) c m)) (nI 8) = nI 0 := by
        apply Classical.byContradiction
        intro h
        exact absurd (asV_neg.mpr h) (Int32.not_lt.mpr h32)
      obtain ⟨hcn, hC⟩ := hq h0 v hw
      have hct := asV_is h0
      simp only [ctB, Bool.and_eq_true] at hct
      obtain ⟨cn, hc, rfl⟩ := hw.cOf hct.1
      obtain ⟨mn, hm, rfl⟩ := hw.tOf hct.2
      obtain ⟨sn, n, hs, rfl, en, hn, hn3, hn8, hsg, -⟩ := asV_0 hsl h0
      rw [nI_clamp (by omega)] at hn8
      have hb39 : B1 39 = B 39 := hk.2.2.2.2.2.2.2.2.2
      have h37 : A1 37 = A 37 := hk.2.2.2.2.1
      have hR : SgR A1 B1 sn n := SgR.of hw hs hn hn3 (by rw [h37]; exact en) (by rw [hb39]; exact hsg)
      rw [q_needs, if_pos h0, nI_clamp (by omega), nI_clamp (by omega), nI_clamp (by omega), en, nI_clamp (by omega)]
      refine bX4_needs_2_38.go rfl (by simp (disch := omega) only [vpI]; exact ⟨⟨trivial, by omega, by omega, ⟨_, hcn, hC.1⟩, sn, n, rfl, hR⟩, trivial⟩) ?_
      simp (disch := omega) only [nI_clamp, h37, hb39, en, hC.1]
      rw [srC_eq hw hn en hsg hC hc hm]
      refine j_icmp_ne (tgt := 52) dX4_needs_2_47 (by decide) (fun h47 => ?_) (fun h47 => ?_)
      · rw [if_neg h47]
        refine bX4_needs_2_52.go rfl (by simp (disch := omega) only [vpI]; exact ⟨trivial, ⟨trivial, by omega⟩, by decide +kernel, trivial⟩) ?_
        simp (disch := omega) only [nI_clamp, h37, en, pk_div]
        obtain ⟨p1, p2⟩ := shl1 (n / 3) (by omega)
        refine JS.weak (L' := [some (.ref o), some (.int (nI sn)), some (.int (nI cn)), some (.int (nI mn)), none, some (.int (nI (n / 3))), some (.int (nI 0))]) (by simp [lsub]) ?_
        refine loop_down (N := 2 ^ (n / 3)) (I := fun _ => True) (P := fun k => JS TP X mX4_needs_2 (rmOf mX4_needs_2.lv 0 0) (ZR X o ad (Qq (ndF (fun k => srC (A 1) (A 37) (B 39) sn (nI k) cn mn) (n / 3) (2 ^ (n / 3))) A B)) 0 0 65 [some (.ref o), some (.int (nI sn)), some (.int (nI cn)), some (.int (nI mn)), none, some (.int (ndF (fun k => srC (A 1) (A 37) (B 39) sn (nI k) cn mn) (n / 3) k)), some (.int (nI k))] [] (o, ad, A1, B1)) ?_ ?_ 0 (Nat.zero_le _) trivial
        · intro _
          refine bX4_needs_2_65.go rfl (by simp (disch := omega) only [vpI]; exact ⟨trivial, ⟨trivial, by omega⟩, by decide +kernel, trivial⟩) ?_
          simp (disch := omega) only [nI_clamp, h37, en, pk_div, p1]
          refine j_icmp_ge (tgt := 116) dX4_needs_2_77 (by decide) (fun h77 => ?_) (fun h77 => absurd (nI_le (Nat.le_refl _) (by omega)) h77)
          refine bX4_needs_2_116.go rfl trivial ?_
          exact r_iret dX4_needs_2_118 rfl ⟨rfl, hk⟩
        · intro k hkn _ ih
          refine bX4_needs_2_65.go rfl (by simp (disch := omega) only [vpI]; exact ⟨trivial, ⟨trivial, by omega⟩, by decide +kernel, trivial⟩) ?_
          simp (disch := omega) only [nI_clamp, h37, en, pk_div, p1]
          refine j_icmp_ge (tgt := 116) dX4_needs_2_77 (by decide) (fun h77 => ?_) (fun h77 => ?_)
          · simp (disch := omega) only [nI_leI] at h77; omega
          · refine bX4_needs_2_80.go rfl (by simp (disch := omega) only [vpI]; exact ⟨⟨trivial, by omega, by omega, ⟨_, hcn, hC.1⟩, sn, n, rfl, hR⟩, trivial⟩) ?_
            simp (disch := omega) only [nI_clamp, h37, hb39, en, hC.1]
            rw [srC_eq hw hn en hsg hC hc hm]
            have jn : ∀ z, z = ndF (fun k => srC (A 1) (A 37) (B 39) sn (nI k) cn mn) (n / 3) (k + 1) → JS TP X mX4_needs_2 (rmOf mX4_needs_2.lv 0 0) (ZR X o ad (Qq (ndF (fun k => srC (A 1) (A 37) (B 39) sn (nI k) cn mn) (n / 3) (2 ^ (n / 3))) A B)) 0 0 108 [some (.ref o), some (.int (nI sn)), some (.int (nI cn)), some (.int (nI mn)), none, some (.int (ndF (fun k => srC (A 1) (A 37) (B 39) sn (nI k) cn mn) (n / 3) k)), some (.int (nI k))] [.int z] (o, ad, A1, B1) := by
              intro z hz
              subst hz
              refine bX4_needs_2_108.go rfl trivial ?_
              rw [nI_1]
              exact ih trivial
            refine j_icmp_ne (tgt := 98) dX4_needs_2_90 (by decide) (fun h90 => ?_) (fun h90 => ?_)
            · refine bX4_needs_2_98.go rfl (by exact ⟨trivial, trivial, trivial⟩) ?_
              exact jn _ (by rw [ndF, if_neg h90]; rfl)
            · refine bX4_needs_2_93.go rfl trivial ?_
              exact jn _ (by rw [ndF, if_pos h90])
      · refine bX4_needs_2_50.go rfl trivial ?_
        exact r_iret dX4_needs_2_51 rfl ⟨ans (by rw [if_pos h47]), hk⟩
    · have h0 : ¬ asV (A 1) (A 37) (B 39) s (b2 (ctB (A 1) c m)) (nI 8) = nI 0 := asV_neg.mp (Int32.not_le.mp h32)
      refine bX4_needs_2_35.go rfl trivial ?_
      exact r_iret dX4_needs_2_37 rfl ⟨ans (by rw [q_needs, if_neg h0]), hk⟩
  refine R_start (L := [some (.ref o), some (.int s), some (.int c), some (.int m), none, none, none]) 3 rfl ?_
  refine bX4_needs_2_0.go rfl (by exact ⟨⟨rfl, trivial⟩, trivial⟩) ?_
  refine j_if_eq (tgt := 22) dX4_needs_2_7 (by decide) (fun h7 => ?_) (fun h7 => ?_)
  · rw [b2_0] at h7
    refine bX4_needs_2_22.go rfl trivial ?_
    exact m23 _ (b2_f (by rw [ctB, show cB (A 1) c = false from h7]; rfl))
  · rw [b2_n0] at h7
    refine bX4_needs_2_10.go rfl (by exact ⟨⟨rfl, trivial⟩, trivial⟩) ?_
    refine j_if_eq (tgt := 22) dX4_needs_2_15 (by decide) (fun h15 => ?_) (fun h15 => ?_)
    · rw [b2_0] at h15
      refine bX4_needs_2_22.go rfl trivial ?_
      exact m23 _ (b2_f (by rw [ctB, show tB (A 1) m = false from h15]; simp))
    · rw [b2_n0] at h15
      refine bX4_needs_2_18.go rfl trivial ?_
      exact m23 _ (b2_t (by rw [ctB, show cB (A 1) c = true from h7, show tB (A 1) m = true from h15]; rfl))
