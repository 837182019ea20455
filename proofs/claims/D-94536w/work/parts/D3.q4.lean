set_option maxRecDepth 100000
/-! ===== UnseenClock: still, without, away, hush ===== -/
/-- a public walk's goal -/
abbrev PJ (X : Cx) (M : MD) (x0 : Cv) (q : Int32) (pc : Nat) (L : List (Option Value)) (st : List Value) (x : Cv) : Prop := JS CP X M (rmOf M.lv 1000 70000) (ZC X 1000 70000 (PubQ x0 q)) 0 0 pc L st x
theorem fIn_L (a : Int32) (b c : Int64) : fIn a.toInt64 b c = b2 (inL a b c) := rfl
theorem bst_b (f : Nat → Bool) : ∀ n, n ≤ 256 → ¬ bstF f n = -1 → ∃ s, s < 256 ∧ bstF f n = nI s := by
  intro n
  induction n with
  | zero => intro _ h; exact absurd rfl h
  | succ n ih =>
    intro hn h
    rw [bstF] at h ⊢
    by_cases h1 : ¬ bstF f n = -1 ∧ ¬ bitsI (nI n) < bitsI (bstF f n)
    · rw [if_pos h1]; exact ih (by omega) h1.1
    · rw [if_neg h1] at h ⊢
      by_cases h2 : f n = true
      · rw [if_pos h2]; exact ⟨n, by omega, rfl⟩
      · rw [if_neg h2] at h ⊢; exact ih (by omega) h
section Q4
variable {X : Cx} {M M' : MD} {R : Room} {Z : ZT} {k n pc idx : Nat} {L : List (Option Value)} {st As : List Value} {ad : Nat → Nat} {A A1 A2 : Nat → Nat → Int32} {B B1 B2 : Nat → Nat → Int64} {sk : Nat → Nat → Nat} {sw : Nat → Nat → Int32} {E : Nat → Nat} {v : Nat → Nat}
theorem CrsC.lkE {A' : Nat → Nat → Int32} {w : Nat → Int32} {t c : Nat} (hw : WOk w v) (h : CrsC A' v (cfP w) (rsP w)) (ht : t < v 6) : (0 < eyN (fun p => A' (50 + p) t) (nI c) (nP w)) ↔ lookedP w c t = true := by
  have h8 := hw.np8
  rw [eyN_pos _ _ _ (by rw [hw.npE]; omega)]
  have e : nP (cfP w).1 = v 2 := hw.npE
  simp only [lookedP, lkdB, e, hw.npE]
  rw [orP_congr (fun p hp => h.2.2.2.2.2.1 t ht p hp)]
theorem bX0_still_0 : Blk CP mX0_still 0 6 [oAL 0, oIL 1, oI2L, cF_J F_isClockC] := blk_c (s_aload_n dX0_still_0 rfl) <| blk_c (s_iload_n dX0_still_1 rfl) <| blk_c (s_i2l dX0_still_2) <| blk_c (c_F_J ok_isClockC (ci := 0) rfl (lw_V q1146 q1148 qs31 q131 q1149) hy_X0_isClock rfl (by decide) dX0_still_3) <| blk_nil
theorem bX0_still_9 : Blk CP mX0_still 9 18 [oIL 2, oI2L, oCL (lN 0), oCL (2), oS_JJJ pT3 fIn] := blk_c (s_iload_n dX0_still_9 rfl) <| blk_c (s_i2l dX0_still_10) <| blk_c (s_lconst dX0_still_11 (by decide +kernel)) <| blk_c (s_ldc2 dX0_still_12 q1320) <| blk_c (s_S_JJJ ok_sX0_in (fun _ _ _ h => h.1.1) (Or.inl (lw_S q179 q180 q131 q181)) hy_X0_in (by decide) dX0_still_15) <| blk_nil
theorem bX0_still_21 : Blk CP mX0_still 21 23 [oC (-2)] := blk_c (s_bipush dX0_still_21 (by decide +kernel)) <| blk_nil
theorem bX0_still_24 : Blk CP mX0_still 24 25 [oAL 0] := blk_c (s_aload_n dX0_still_24 rfl) <| blk_nil
theorem bX0_still_28 : Blk CP mX0_still 28 43 [oPopR, oC (nI 0), oIS 3, oC (nI 0), oIS 4, oC (nI 0), oIS 5, oC (-1), oIS 6, oC (nI 0), oIS 7] := blk_c (s_popR dX0_still_28) <| blk_c (s_iconst dX0_still_29 (by decide +kernel)) <| blk_c (s_istore_n dX0_still_30 rfl (by decide)) <| blk_c (s_iconst dX0_still_31 (by decide +kernel)) <| blk_c (s_istore dX0_still_32 (by decide)) <| blk_c (s_iconst dX0_still_34 (by decide +kernel)) <| blk_c (s_istore dX0_still_35 (by decide)) <| blk_c (s_iconst dX0_still_37 (by decide +kernel)) <| blk_c (s_istore dX0_still_38 (by decide)) <| blk_c (s_iconst dX0_still_40 (by decide +kernel)) <| blk_c (s_istore dX0_still_41 (by decide)) <| blk_nil
theorem bX0_still_43 : Blk CP mX0_still 43 52 [oIL 7, oAL 0, cQ0, qI 0 6 6] := blk_c (s_iload dX0_still_43) <| blk_c (s_aload_n dX0_still_45 rfl) <| blk_c (cgX0_1 (Or.inl q557) dX0_still_46) <| blk_c (q_I (by decide) (fun _ _ => rfl) (Or.inr ⟨_, nq448⟩) dX0_still_49) <| blk_nil
theorem bX0_still_55 : Blk CP mX0_still 55 65 [oAL 0, cR 0 4 3, oIL 1, oIL 7, cF_II F_eyesC] := blk_c (s_aload_n dX0_still_55 rfl) <| blk_c (cgX0_4 (Or.inl q560) dX0_still_56) <| blk_c (s_iload_n dX0_still_59 rfl) <| blk_c (s_iload dX0_still_60) <| blk_c (c_F_II ok_eyesC (ci := 3) rfl (lw_V q1303 q1296 q1297 q137 q1298) hy_X3_eyes rfl (by decide) dX0_still_62) <| blk_nil
theorem bX0_still_68 : Blk CP mX0_still 68 73 [oC (nI 1), .inl (fun s => some s)] := blk_c (s_iconst dX0_still_68 (by decide +kernel)) <| blk_c (s_goto (tgt := 73) dX0_still_69 (by decide)) <| blk_nil
theorem bX0_still_72 : Blk CP mX0_still 72 73 [oC (nI 0)] := blk_c (s_iconst dX0_still_72 (by decide +kernel)) <| blk_nil
theorem bX0_still_73 : Blk CP mX0_still 73 78 [oIS 8, oIL 3, oIL 8] := blk_c (s_istore dX0_still_73 (by decide)) <| blk_c (s_iload_n dX0_still_75 rfl) <| blk_c (s_iload dX0_still_76) <| blk_nil
theorem bX0_still_81 : Blk CP mX0_still 81 86 [oC (nI 1), .inl (fun s => some s)] := blk_c (s_iconst dX0_still_81 (by decide +kernel)) <| blk_c (s_goto (tgt := 86) dX0_still_82 (by decide)) <| blk_nil
theorem bX0_still_85 : Blk CP mX0_still 85 86 [oC (nI 0)] := blk_c (s_iconst dX0_still_85 (by decide +kernel)) <| blk_nil
theorem bX0_still_86 : Blk CP mX0_still 86 90 [oAdd, oIS 3, oIL 8] := blk_c (s_iadd dX0_still_86) <| blk_c (s_istore_n dX0_still_87 rfl (by decide)) <| blk_c (s_iload dX0_still_88) <| blk_nil
theorem bX0_still_93 : Blk CP mX0_still 93 101 [oIL 4, oC (nI 1), oAdd, .inl (fun s => some s)] := blk_c (s_iload dX0_still_93) <| blk_c (s_iconst dX0_still_95 (by decide +kernel)) <| blk_c (s_iadd dX0_still_96) <| blk_c (s_goto (tgt := 101) dX0_still_97 (by decide)) <| blk_nil
theorem bX0_still_100 : Blk CP mX0_still 100 101 [oC (nI 0)] := blk_c (s_iconst dX0_still_100 (by decide +kernel)) <| blk_nil
theorem bX0_still_101 : Blk CP mX0_still 101 114 [oIS 4, oIL 5, oIL 4, oS_II pT2 maxI, oIS 5, oIL 8] := blk_c (s_istore dX0_still_101 (by decide)) <| blk_c (s_iload dX0_still_103) <| blk_c (s_iload dX0_still_105) <| blk_c (s_S_II ok_sJ3_max (fun _ _ _ h => h.1.1) (Or.inl (lw_S q1325 q896 q140 q897)) hy_J3_max (by decide) dX0_still_107) <| blk_c (s_istore dX0_still_110 (by decide)) <| blk_c (s_iload dX0_still_112) <| blk_nil
theorem bX0_still_117 : Blk CP mX0_still 117 120 [oIL 6, oC (-1)] := blk_c (s_iload dX0_still_117) <| blk_c (s_iconst dX0_still_119 (by decide +kernel)) <| blk_nil
theorem bX0_still_123 : Blk CP mX0_still 123 127 [oIL 7, oIS 6] := blk_c (s_iload dX0_still_123) <| blk_c (s_istore dX0_still_125 (by decide)) <| blk_nil
theorem bX0_still_127 : Blk CP mX0_still 127 43 [oInc 7 1, .inl (fun s => some s)] := blk_c (s_iinc dX0_still_127 (by decide +kernel) (by decide)) <| blk_c (s_goto (tgt := 43) dX0_still_130 (by decide)) <| blk_nil
theorem bX0_still_133 : Blk CP mX0_still 133 134 [oIL 2] := blk_c (s_iload_n dX0_still_133 rfl) <| blk_nil
theorem bX0_still_137 : Blk CP mX0_still 137 153 [oIL 3, .inl (fun s => some s)] := blk_c (s_iload_n dX0_still_137 rfl) <| blk_c (s_goto (tgt := 153) dX0_still_138 (by decide)) <| blk_nil
theorem bX0_still_141 : Blk CP mX0_still 141 143 [oIL 2, oC (nI 1)] := blk_c (s_iload_n dX0_still_141 rfl) <| blk_c (s_iconst dX0_still_142 (by decide +kernel)) <| blk_nil
theorem bX0_still_146 : Blk CP mX0_still 146 153 [oIL 5, .inl (fun s => some s)] := blk_c (s_iload dX0_still_146) <| blk_c (s_goto (tgt := 153) dX0_still_148 (by decide)) <| blk_nil
theorem bX0_still_151 : Blk CP mX0_still 151 153 [oIL 6] := blk_c (s_iload dX0_still_151) <| blk_nil
theorem pb_still (hS : SW v A sw) {c u : Int32} : RCc X mX0_still 1000 70000 [.ref (ad 0), .int c, .int u] (ad, A, B, sk, sw, E) (PubQ (ad, A, B, sk, sw, E) (q_still (sw 0) c u)) := by
  obtain ⟨-, hw, e7, ep⟩ := id hS
  have h4 := hw.nc4
  have h8 := hw.np8
  have h40 := hw.sp40
  have npE := hw.npE
  have spE := hw.span
  have e6 : sw 0 6 = nI (v 6) := hw.1 6 (by decide)
  have main : (cB (sw 0) c && inL u (lN 0) 2) = true → PJ X mX0_still (ad, A, B, sk, sw, E) (q_still (sw 0) c u) 24 [some (.ref (ad 0)), some (.int c), some (.int u), none, none, none, none, none, none] [] (ad, A, B, sk, sw, E) := by
    intro hg
    rw [q_still, if_pos hg, spE]
    simp only [Bool.and_eq_true] at hg
    obtain ⟨c, hc, rfl⟩ := hw.cOf hg.1
    rw [nI_clamp (by omega)]
    refine bX0_still_24.go rfl trivial ?_
    refine xq (M' := mX0_plain) (As := []) (nA := 0) (ok_plainC hS) rec0 rfl (lw_V q1184 q1186 qs34 q131 q1187) dX0_still_25 rfl hy_X0_plain (fun r A1 B1 sk1 sw1 E1 k1 q1 => ?_)
    obtain ⟨rfl, q1, e1, s1⟩ := q1
    have e0 : sw1 0 = sw 0 := k1.2.2.2.1 0 (by decide)
    refine bX0_still_28.go rfl trivial ?_
    refine loop_down (N := v 6) (I := fun _ => True) (P := fun t => PJ X mX0_still (ad, A, B, sk, sw, E) _ 43 [some (.ref (ad 0)), some (.int (nI c)), some (.int u), some (.int (stS (sw 0) c t).1), some (.int (stS (sw 0) c t).2.1), some (.int (stS (sw 0) c t).2.2.1), some (.int (stS (sw 0) c t).2.2.2), some (.int (nI t)), none] [] (ad, A1, B1, sk1, sw1, E1)) ?_ ?_ 0 (by omega) trivial
    · intro _
      refine bX0_still_43.go rfl ⟨rfl, ⟨rfl, sq0⟩, trivial⟩ ?_
      rw [e0, e6]
      refine j_icmp_ge (tgt := 133) dX0_still_52 (by decide) (fun h50 => ?_) (fun h50 => absurd (nI_le (Nat.le_refl _) (by omega)) h50)
      refine bX0_still_133.go rfl trivial ?_
      refine j_if_ne (tgt := 141) dX0_still_134 (by decide) (fun h126 => ?_) (fun h126 => ?_)
      · refine bX0_still_141.go rfl trivial ?_
        refine j_icmp_ne (tgt := 151) dX0_still_143 (by decide) (fun h135 => ?_) (fun h135 => ?_)
        · refine bX0_still_151.go rfl trivial ?_
          exact x_ret dX0_still_153 rfl (by rw [if_neg h126, if_neg h135]) k1
        · refine bX0_still_146.go rfl trivial ?_
          exact x_ret dX0_still_153 rfl (by rw [if_neg h126, if_pos h135]) k1
      · refine bX0_still_137.go rfl trivial ?_
        exact x_ret dX0_still_153 rfl (by rw [if_pos h126]) k1
    · intro t ht _ ih
      have nx : ∀ f, f = (stS (sw 0) c (t + 1)).2.2.2 → PJ X mX0_still (ad, A, B, sk, sw, E) (if u = 0 then (stS (sw 0) c (v 6)).1 else if u = nI 1 then (stS (sw 0) c (v 6)).2.2.1 else (stS (sw 0) c (v 6)).2.2.2) 127 [some (.ref (ad 0)), some (.int (nI c)), some (.int u), some (.int (stS (sw 0) c (t + 1)).1), some (.int (stS (sw 0) c (t + 1)).2.1), some (.int (stS (sw 0) c (t + 1)).2.2.1), some (.int f), some (.int (nI t)), some (.int (b2 (lookedP (sw 0) c t)))] [] (ad, A1, B1, sk1, sw1, E1) := by
        intro f hf
        subst hf
        refine bX0_still_127.go rfl trivial ?_
        rw [nI_1]
        exact JS.weak (by simp [lsub]) (ih trivial)
      have j101 : ∀ z, z = (if lookedP (sw 0) c t = true then (stS (sw 0) c t).2.1 + nI 1 else nI 0) → PJ X mX0_still (ad, A, B, sk, sw, E) (if u = 0 then (stS (sw 0) c (v 6)).1 else if u = nI 1 then (stS (sw 0) c (v 6)).2.2.1 else (stS (sw 0) c (v 6)).2.2.2) 101 [some (.ref (ad 0)), some (.int (nI c)), some (.int u), some (.int (stS (sw 0) c (t + 1)).1), some (.int (stS (sw 0) c t).2.1), some (.int (stS (sw 0) c t).2.2.1), some (.int (stS (sw 0) c t).2.2.2), some (.int (nI t)), some (.int (b2 (lookedP (sw 0) c t)))] [.int z] (ad, A1, B1, sk1, sw1, E1) := by
        intro z hz
        refine bX0_still_101.go rfl ⟨trivial, trivial⟩ ?_
        subst hz
        refine j_if_ne (tgt := 127) dX0_still_114 (by decide) (fun h101 => ?_) (fun h101 => ?_)
        · rw [b2_n0] at h101
          exact nx _ (by simp only [stS]; rw [if_neg (by rw [h101]; simp)])
        · rw [b2_0] at h101
          refine bX0_still_117.go rfl trivial ?_
          refine j_icmp_ne (tgt := 127) dX0_still_120 (by decide) (fun h107 => ?_) (fun h107 => ?_)
          · exact nx _ (by simp only [stS]; rw [if_neg (fun q => h107 q.2)])
          · refine bX0_still_123.go rfl trivial ?_
            exact nx _ (by simp only [stS]; rw [if_pos ⟨h101, h107⟩])
      have j86 : ∀ z, z = b2 (lookedP (sw 0) c t) → PJ X mX0_still (ad, A, B, sk, sw, E) (if u = 0 then (stS (sw 0) c (v 6)).1 else if u = nI 1 then (stS (sw 0) c (v 6)).2.2.1 else (stS (sw 0) c (v 6)).2.2.2) 86 [some (.ref (ad 0)), some (.int (nI c)), some (.int u), some (.int (stS (sw 0) c t).1), some (.int (stS (sw 0) c t).2.1), some (.int (stS (sw 0) c t).2.2.1), some (.int (stS (sw 0) c t).2.2.2), some (.int (nI t)), some (.int (b2 (lookedP (sw 0) c t)))] [.int z, .int (stS (sw 0) c t).1] (ad, A1, B1, sk1, sw1, E1) := by
        intro z hz
        subst hz
        refine bX0_still_86.go rfl trivial ?_
        refine j_if_eq (tgt := 100) dX0_still_90 (by decide) (fun h77 => ?_) (fun h77 => ?_)
        · rw [b2_0] at h77
          refine bX0_still_100.go rfl trivial ?_
          exact j101 _ (by rw [if_neg (by rw [h77]; decide)])
        · rw [b2_n0] at h77
          refine bX0_still_93.go rfl trivial ?_
          exact j101 _ (by rw [if_pos h77])
      have j73 : ∀ z, z = b2 (lookedP (sw 0) c t) → PJ X mX0_still (ad, A, B, sk, sw, E) (if u = 0 then (stS (sw 0) c (v 6)).1 else if u = nI 1 then (stS (sw 0) c (v 6)).2.2.1 else (stS (sw 0) c (v 6)).2.2.2) 73 [some (.ref (ad 0)), some (.int (nI c)), some (.int u), some (.int (stS (sw 0) c t).1), some (.int (stS (sw 0) c t).2.1), some (.int (stS (sw 0) c t).2.2.1), some (.int (stS (sw 0) c t).2.2.2), some (.int (nI t)), none] [.int z] (ad, A1, B1, sk1, sw1, E1) := by
        intro z hz
        subst hz
        refine bX0_still_73.go rfl trivial ?_
        refine j_if_eq (tgt := 85) dX0_still_78 (by decide) (fun h77 => ?_) (fun h77 => ?_)
        · rw [b2_0] at h77
          refine bX0_still_85.go rfl trivial ?_
          exact j86 _ (b2_f h77)
        · rw [b2_n0] at h77
          refine bX0_still_81.go rfl trivial ?_
          exact j86 _ (b2_t h77)
      refine bX0_still_43.go rfl ⟨rfl, ⟨rfl, sq0⟩, trivial⟩ ?_
      rw [e0, e6]
      refine j_icmp_ge (tgt := 133) dX0_still_52 (by decide) (fun h50 => ?_) (fun h50 => ?_)
      · rw [nI_leI (by omega) (by omega)] at h50; omega
      · refine bX0_still_55.go rfl ⟨rfl, ⟨rfl, s1, t, by omega, by rw [e1, npE]; exact h8, rfl⟩, trivial⟩ ?_
        simp (disch := omega) only [nI_clamp, e1]
        refine j_if_le (tgt := 72) dX0_still_65 (by decide) (fun h65 => ?_) (fun h65 => ?_)
        · refine bX0_still_72.go rfl trivial ?_
          refine j73 _ (b2_ne (fun hh => ?_))
          exact absurd ((q1.lkE hw ht).mpr hh) (Int32.not_lt.mpr h65)
        · refine bX0_still_68.go rfl trivial ?_
          exact j73 _ (b2_t ((q1.lkE hw ht).mp (Int32.not_le.mp h65)))
  refine C_start (L := [some (.ref (ad 0)), some (.int c), some (.int u), none, none, none, none, none, none]) 6 rfl ?_
  refine bX0_still_0.go rfl (by first | exact ⟨⟨rfl, v, hw⟩, trivial⟩ | exact ⟨rfl, trivial⟩ | exact ⟨trivial, trivial⟩) ?_
  refine j_if_eq (tgt := 21) dX0_still_6 (by decide) (fun h6 => ?_) (fun h6 => ?_)
  · refine bX0_still_21.go rfl trivial ?_
    refine c_iret dX0_still_23 rfl ?_
    exact ⟨ans (by clear main; simp only [clL_i, tmL_i, hrL_i, fIn_L, b2_0, b2_n0] at *; simp_all [q_still]), KpX.rf.kp⟩
  · refine bX0_still_9.go rfl (by first | exact ⟨⟨rfl, v, hw⟩, trivial⟩ | exact ⟨rfl, trivial⟩ | exact ⟨trivial, trivial⟩) ?_
    refine j_if_ne (tgt := 24) dX0_still_18 (by decide) (fun h18 => ?_) (fun h18 => ?_)
    · exact main (by clear main; simp only [clL_i, tmL_i, hrL_i, fIn_L, b2_0, b2_n0] at *; simp_all)
    · refine bX0_still_21.go rfl trivial ?_
      refine c_iret dX0_still_23 rfl ?_
      exact ⟨ans (by clear main; simp only [clL_i, tmL_i, hrL_i, fIn_L, b2_0, b2_n0] at *; simp_all [q_still]), KpX.rf.kp⟩
/-- away: others gone -/
theorem gn_eq (w : Nat → Int32) (x : Int32) : SqEq w (gnW w x) := fun i _ h7 _ => gnW_ne h7
theorem gn_pl {A A1 A2 : Nat → Nat → Int32} {B1 B2 : Nat → Nat → Int64} {w : Nat → Int32} {s : Nat} (hw : WOk w v) (hs : s < 256) (b1 : BegA A A1 (nI s)) (g2 : GoC A1 A2 B1 B2 (va_up v 7 s) (cfC A1 (gnW w (nI s))) (rsS (cfC A1 (gnW w (nI s))) (A1 35) (B1 3 17))) : CrsC A2 (va_up v 7 s) (cfP (gnW w (nI s))) (rsP (gnW w (nI s))) :=
  CrsC.z rfl (g2.crs (od' := fun _ => nI 0) (hw.gn hs) (b1.plain (hw.gn hs).nc4 _))
theorem gn_cro {A A1 : Nat → Nat → Int32} {sw1 : Nat → Nat → Int32} {E1 : Nat → Nat} {w : Nat → Int32} {s : Nat} (hw : WOk w v) (hs : s < 256) (b1 : BegA A A1 (nI s)) (s1 : SqL E1 1) (e1 : sw1 1 = gnW w (nI s)) (ep : ∀ c, c < v 1 → A 2 c = w (32 + 6 * c + 2)) : CrO A1 sw1 E1 (va_up v 7 s) :=
  b1.cro s1 e1 (hw.gn hs) gnW_at (fun c hc => by rw [gnW_ne (by omega)]; exact ep c (by rw [va_up_ne _ _ (by decide)] at hc; exact hc))
theorem bX0_without_0 : Blk CP mX0_without 0 5 [oAL 0, oIL 1, cF_I F_isPersonC] := blk_c (s_aload_n dX0_without_0 rfl) <| blk_c (s_iload_n dX0_without_1 rfl) <| blk_c (c_F_I ok_isPersonC (ci := 0) rfl (lw_V q1127 q1129 qs28 q131 q1130) hy_X0_isPerson rfl (by decide) dX0_without_2) <| blk_nil
theorem bX0_without_8 : Blk CP mX0_without 8 14 [oAL 0, oIL 2, oI2L, cF_J F_isClockC] := blk_c (s_aload_n dX0_without_8 rfl) <| blk_c (s_iload_n dX0_without_9 rfl) <| blk_c (s_i2l dX0_without_10) <| blk_c (c_F_J ok_isClockC (ci := 0) rfl (lw_V q1146 q1148 qs31 q131 q1149) hy_X0_isClock rfl (by decide) dX0_without_11) <| blk_nil
theorem bX0_without_17 : Blk CP mX0_without 17 23 [oAL 0, oIL 3, oI2L, cF_J F_isMomentC] := blk_c (s_aload_n dX0_without_17 rfl) <| blk_c (s_iload_n dX0_without_18 rfl) <| blk_c (s_i2l dX0_without_19) <| blk_c (c_F_J ok_isMomentC (ci := 0) rfl (lw_V q1308 q1310 qs43 q131 q1311) hy_X0_isMoment rfl (by decide) dX0_without_20) <| blk_nil
theorem bX0_without_26 : Blk CP mX0_without 26 28 [oC (-2)] := blk_c (s_bipush dX0_without_26 (by decide +kernel)) <| blk_nil
theorem bX0_without_29 : Blk CP mX0_without 29 49 [oAL 0, cR 0 4 3, oAL 0, cQ0, oAL 0, cR 0 2 2, oAL 0, cI 0 3, oC (nI 1), oIL 1, oShl, oOr] := blk_c (s_aload_n dX0_without_29 rfl) <| blk_c (cgX0_4 (Or.inl q560) dX0_without_30) <| blk_c (s_aload_n dX0_without_33 rfl) <| blk_c (cgX0_1 (Or.inl q557) dX0_without_34) <| blk_c (s_aload_n dX0_without_37 rfl) <| blk_c (cgX0_2 (Or.inl q558) dX0_without_38) <| blk_c (s_aload_n dX0_without_41 rfl) <| blk_c (cgX0_3 (Or.inl q559) dX0_without_42) <| blk_c (s_iconst dX0_without_45 (by decide +kernel)) <| blk_c (s_iload_n dX0_without_46 rfl) <| blk_c (s_ishl dX0_without_47) <| blk_c (s_ior dX0_without_48) <| blk_nil
theorem bX0_without_52 : Blk CP mX0_without 52 56 [oAL 0, cR 0 4 3] := blk_c (s_aload_n dX0_without_52 rfl) <| blk_c (cgX0_4 (Or.inl q560) dX0_without_53) <| blk_nil
theorem bX0_without_59 : Blk CP mX0_without 59 70 [oAL 0, cR 0 4 3, cR 3 1 31, oIL 2, cW 31 60 4, oIL 3, cWI 60 4 41 2] := blk_c (s_aload_n dX0_without_59 rfl) <| blk_c (cgX0_4 (Or.inl q560) dX0_without_60) <| blk_c (cgX3_1 (Or.inr ⟨_, nq490⟩) dX0_without_63) <| blk_c (s_iload_n dX0_without_66 rfl) <| blk_c (c_W (t := 8) (ty := .int) (fun _ => rfl) (fun _ _ _ _ _ _ => rfl) dX0_without_67) <| blk_c (s_iload_n dX0_without_68 rfl) <| blk_c (c_wiald ar_shows dX0_without_69) <| blk_nil
theorem pb_without (hS : SW v A sw) {p c m : Int32} : RCc X mX0_without 1000 70000 [.ref (ad 0), .int p, .int c, .int m] (ad, A, B, sk, sw, E) (PubQ (ad, A, B, sk, sw, E) (q_without (sw 0) p c m)) := by
  obtain ⟨-, hw, e7, ep⟩ := id hS
  have h4 := hw.nc4
  have h8 := hw.np8
  have h40 := hw.sp40
  have ew : sw 0 7 = nI (v 7) := hw.1 7 (by decide)
  have main : (pB (sw 0) p && (cB (sw 0) c && tB (sw 0) m)) = true → PJ X mX0_without (ad, A, B, sk, sw, E) (q_without (sw 0) p c m) 29 [some (.ref (ad 0)), some (.int p), some (.int c), some (.int m)] [] (ad, A, B, sk, sw, E) := by
    intro hg
    rw [q_without, if_pos hg]
    simp only [Bool.and_eq_true] at hg
    obtain ⟨p, hp, rfl⟩ := hw.pOf hg.1
    obtain ⟨c, hc, rfl⟩ := hw.cOf hg.2.1
    obtain ⟨m, hm, rfl⟩ := hw.tOf hg.2.2
    obtain ⟨og, ol⟩ := or_g (v 7) hw.2.2.2.2.2.2.2.2.1 p (by omega)
    rw [nI_clamp (by omega), nI_clamp (by omega), ew, og]
    have hw1 := hw.gn ol
    refine bX0_without_29.go rfl (by repeat' first | exact trivial | rfl | assumption | omega | apply And.intro) ?_
    rw [e7, ew, og]
    refine js_begins (w1 := gnW (sw 0) (nI (v 7 ||| 2 ^ p))) hw (gn_eq _ _) (lw_V q1154 q1155 q1156 q137 q1157) dX0_without_49 (by decide) rfl (fun A1 sk1 sw1 E1 k1 b1 e1 s1 => ?_)
    refine bX0_without_52.go rfl (by repeat' first | exact trivial | rfl | assumption | omega | apply And.intro) ?_
    refine js_goes (gn_cro hw ol b1 s1 e1 ep) (lw_V q1188 q1189 q1190 q137 q1191) dX0_without_56 (by decide) rfl (fun A2 B2 k2 g2 => ?_)
    rw [e1] at g2
    have C := gn_pl hw ol b1 g2
    refine bX0_without_59.go rfl (by (try simp (disch := omega) only [nI_add, pk_mul, pk_sub, nI_clamp, vpI]); repeat' first | exact trivial | rfl | assumption | omega | apply And.intro) ?_
    refine x_ret dX0_without_70 rfl ?_ (k1.tr k2)
    simp (disch := omega) only [nI_clamp]
    rw [C.2.2.2.2.1 m (by rw [va_up_ne _ _ (by decide)]; exact hm) c (by rw [va_up_ne _ _ (by decide)]; exact hc)]
    rfl
  refine C_start (L := [some (.ref (ad 0)), some (.int p), some (.int c), some (.int m)]) 0 rfl ?_
  refine bX0_without_0.go rfl (by first | exact ⟨⟨rfl, v, hw⟩, trivial⟩ | exact ⟨rfl, trivial⟩ | exact ⟨trivial, trivial⟩) ?_
  refine j_if_eq (tgt := 26) dX0_without_5 (by decide) (fun h5 => ?_) (fun h5 => ?_)
  · refine bX0_without_26.go rfl trivial ?_
    refine c_iret dX0_without_28 rfl ?_
    exact ⟨ans (by clear main; simp only [clL_i, tmL_i, hrL_i, fIn_L, b2_0, b2_n0] at *; simp_all [q_without]), KpX.rf.kp⟩
  · refine bX0_without_8.go rfl (by first | exact ⟨⟨rfl, v, hw⟩, trivial⟩ | exact ⟨rfl, trivial⟩ | exact ⟨trivial, trivial⟩) ?_
    refine j_if_eq (tgt := 26) dX0_without_14 (by decide) (fun h14 => ?_) (fun h14 => ?_)
    · refine bX0_without_26.go rfl trivial ?_
      refine c_iret dX0_without_28 rfl ?_
      exact ⟨ans (by clear main; simp only [clL_i, tmL_i, hrL_i, fIn_L, b2_0, b2_n0] at *; simp_all [q_without]), KpX.rf.kp⟩
    · refine bX0_without_17.go rfl (by first | exact ⟨⟨rfl, v, hw⟩, trivial⟩ | exact ⟨rfl, trivial⟩ | exact ⟨trivial, trivial⟩) ?_
      refine j_if_ne (tgt := 29) dX0_without_23 (by decide) (fun h23 => ?_) (fun h23 => ?_)
      · exact main (by clear main; simp only [clL_i, tmL_i, hrL_i, fIn_L, b2_0, b2_n0] at *; simp_all)
      · refine bX0_without_26.go rfl trivial ?_
        refine c_iret dX0_without_28 rfl ?_
        exact ⟨ans (by clear main; simp only [clL_i, tmL_i, hrL_i, fIn_L, b2_0, b2_n0] at *; simp_all [q_without]), KpX.rf.kp⟩
theorem bX0_away_0 : Blk CP mX0_away 0 7 [oAL 0, oIL 1, oIL 2, oIL 3, cF_III F_isAskedC] := blk_c (s_aload_n dX0_away_0 rfl) <| blk_c (s_iload_n dX0_away_1 rfl) <| blk_c (s_iload_n dX0_away_2 rfl) <| blk_c (s_iload_n dX0_away_3 rfl) <| blk_c (c_F_III ok_isAskedC (ci := 0) rfl (lw_V q1386 q1388 qs47 q131 q1389) hy_X0_isAsked rfl (by decide) dX0_away_4) <| blk_nil
theorem bX0_away_10 : Blk CP mX0_away 10 18 [oIL 4, oI2L, oCL (lN 0), oCL (lN 1), oS_JJJ pT3 fIn] := blk_c (s_iload dX0_away_10) <| blk_c (s_i2l dX0_away_12) <| blk_c (s_lconst dX0_away_13 (by decide +kernel)) <| blk_c (s_lconst dX0_away_14 (by decide +kernel)) <| blk_c (s_S_JJJ ok_sX0_in (fun _ _ _ h => h.1.1) (Or.inl (lw_S q179 q180 q131 q181)) hy_X0_in (by decide) dX0_away_15) <| blk_nil
theorem bX0_away_21 : Blk CP mX0_away 21 23 [oC (-2)] := blk_c (s_bipush dX0_away_21 (by decide +kernel)) <| blk_nil
theorem bX0_away_24 : Blk CP mX0_away 24 30 [oC (-1), oIS 5, oC (nI 0), oIS 6] := blk_c (s_iconst dX0_away_24 (by decide +kernel)) <| blk_c (s_istore dX0_away_25 (by decide)) <| blk_c (s_iconst dX0_away_27 (by decide +kernel)) <| blk_c (s_istore dX0_away_28 (by decide)) <| blk_nil
theorem bX0_away_30 : Blk CP mX0_away 30 38 [oIL 6, oC (nI 1), oAL 0, cF_V F_peopleC, oShl] := blk_c (s_iload dX0_away_30) <| blk_c (s_iconst dX0_away_32 (by decide +kernel)) <| blk_c (s_aload_n dX0_away_33 rfl) <| blk_c (c_F_V ok_peopleC (ci := 0) rfl (lw_V q1131 q1133 qs29 q131 q1134) hy_X0_people rfl (by decide) dX0_away_34) <| blk_c (s_ishl dX0_away_37) <| blk_nil
theorem bX0_away_41 : Blk CP mX0_away 41 44 [oIL 5, oC (-1)] := blk_c (s_iload dX0_away_41) <| blk_c (s_iconst dX0_away_43 (by decide +kernel)) <| blk_nil
theorem bX0_away_47 : Blk CP mX0_away 47 57 [oIL 6, oS_I pBits bitsI, oIL 5, oS_I pBits bitsI] := blk_c (s_iload dX0_away_47) <| blk_c (s_S_I ok_sJ14_bitCount (fun _ _ _ h => h.1.1) (Or.inl (lw_S q1426 q1427 q162 q1428)) hy_J14_bitCount (by decide) dX0_away_49) <| blk_c (s_iload dX0_away_52) <| blk_c (s_S_I ok_sJ14_bitCount (fun _ _ _ h => h.1.1) (Or.inl (lw_S q1426 q1427 q162 q1428)) hy_J14_bitCount (by decide) dX0_away_54) <| blk_nil
theorem bX0_away_60 : Blk CP mX0_away 60 106 [.inl (fun s => some s)] := blk_c (s_goto (tgt := 106) dX0_away_60 (by decide)) <| blk_nil
theorem bX0_away_63 : Blk CP mX0_away 63 77 [oAL 0, cR 0 4 3, oAL 0, cQ0, oAL 0, cR 0 2 2, oIL 6] := blk_c (s_aload_n dX0_away_63 rfl) <| blk_c (cgX0_4 (Or.inl q560) dX0_away_64) <| blk_c (s_aload_n dX0_away_67 rfl) <| blk_c (cgX0_1 (Or.inl q557) dX0_away_68) <| blk_c (s_aload_n dX0_away_71 rfl) <| blk_c (cgX0_2 (Or.inl q558) dX0_away_72) <| blk_c (s_iload dX0_away_75) <| blk_nil
theorem bX0_away_80 : Blk CP mX0_away 80 84 [oAL 0, cR 0 4 3] := blk_c (s_aload_n dX0_away_80 rfl) <| blk_c (cgX0_4 (Or.inl q560) dX0_away_81) <| blk_nil
theorem bX0_away_87 : Blk CP mX0_away 87 99 [oAL 0, cR 0 4 3, cR 3 1 31, oIL 1, cW 31 60 4, oIL 2, cWI 60 4 41 1, oIL 3] := blk_c (s_aload_n dX0_away_87 rfl) <| blk_c (cgX0_4 (Or.inl q560) dX0_away_88) <| blk_c (cgX3_1 (Or.inr ⟨_, nq490⟩) dX0_away_91) <| blk_c (s_iload_n dX0_away_94 rfl) <| blk_c (c_W (t := 8) (ty := .int) (fun _ => rfl) (fun _ _ _ _ _ _ => rfl) dX0_away_95) <| blk_c (s_iload_n dX0_away_96 rfl) <| blk_c (c_wiald ar_shows dX0_away_97) <| blk_c (s_iload_n dX0_away_98 rfl) <| blk_nil
theorem bX0_away_102 : Blk CP mX0_away 102 106 [oIL 6, oIS 5] := blk_c (s_iload dX0_away_102) <| blk_c (s_istore dX0_away_104 (by decide)) <| blk_nil
theorem bX0_away_106 : Blk CP mX0_away 106 30 [oInc 6 1, .inl (fun s => some s)] := blk_c (s_iinc dX0_away_106 (by decide +kernel) (by decide)) <| blk_c (s_goto (tgt := 30) dX0_away_109 (by decide)) <| blk_nil
theorem bX0_away_112 : Blk CP mX0_away 112 115 [oIL 5, oC (-1)] := blk_c (s_iload dX0_away_112) <| blk_c (s_iconst dX0_away_114 (by decide +kernel)) <| blk_nil
theorem bX0_away_118 : Blk CP mX0_away 118 121 [oIL 4, oC (nI 1)] := blk_c (s_iload dX0_away_118) <| blk_c (s_iconst dX0_away_120 (by decide +kernel)) <| blk_nil
theorem bX0_away_124 : Blk CP mX0_away 124 134 [oIL 5, .inl (fun s => some s)] := blk_c (s_iload dX0_away_124) <| blk_c (s_goto (tgt := 134) dX0_away_126 (by decide)) <| blk_nil
theorem bX0_away_129 : Blk CP mX0_away 129 134 [oIL 5, oS_I pBits bitsI] := blk_c (s_iload dX0_away_129) <| blk_c (s_S_I ok_sJ14_bitCount (fun _ _ _ h => h.1.1) (Or.inl (lw_S q1426 q1427 q162 q1428)) hy_J14_bitCount (by decide) dX0_away_131) <| blk_nil
theorem pb_away (hS : SW v A sw) {c m h u : Int32} : RCc X mX0_away 1000 70000 [.ref (ad 0), .int c, .int m, .int h, .int u] (ad, A, B, sk, sw, E) (PubQ (ad, A, B, sk, sw, E) (q_away (sw 0) c m h u)) := by
  obtain ⟨-, hw, e7, ep⟩ := id hS
  have h4 := hw.nc4
  have h8 := hw.np8
  have h40 := hw.sp40
  have npE := hw.npE
  obtain ⟨es, hs⟩ := shl1 (v 2) (by omega)
  have main : (cB (sw 0) c && (tB (sw 0) m && (hB h && inL u (lN 0) (lN 1)))) = true → PJ X mX0_away (ad, A, B, sk, sw, E) (q_away (sw 0) c m h u) 24 [some (.ref (ad 0)), some (.int c), some (.int m), some (.int h), some (.int u), none, none] [] (ad, A, B, sk, sw, E) := by
    intro hg
    rw [q_away, if_pos hg]
    simp only [Bool.and_eq_true] at hg
    obtain ⟨c, hc, rfl⟩ := hw.cOf hg.1
    obtain ⟨m, hm, rfl⟩ := hw.tOf hg.2.1
    rw [nI_clamp (by omega), nI_clamp (by omega), awV, npE]
    refine bX0_away_24.go rfl trivial ?_
    refine loop_down (N := 2 ^ v 2) (I := fun _ => True) (P := fun s => ∀ A' B' sk' sw' E', KpX A B sk sw E A' B' sk' sw' E' → PJ X mX0_away (ad, A, B, sk, sw, E) _ 30 [some (.ref (ad 0)), some (.int (nI c)), some (.int (nI m)), some (.int h), some (.int u), some (.int (bstF (awB (sw 0) c m h) s)), some (.int (nI s))] [] (ad, A', B', sk', sw', E')) ?_ ?_ 0 (Nat.zero_le _) trivial A B sk sw E KpX.rf
    · intro _ A' B' sk' sw' E' k0
      have e0 : sw' 0 = sw 0 := k0.2.2.2.1 0 (by decide)
      refine bX0_away_30.go rfl ⟨rfl, trivial⟩ ?_
      rw [e0, npE, es]
      refine j_icmp_ge (tgt := 112) dX0_away_38 (by decide) (fun h38 => ?_) (fun h38 => absurd (nI_le (Nat.le_refl _) (by omega)) h38)
      refine bX0_away_112.go rfl trivial ?_
      refine j_icmp_eq (tgt := 124) dX0_away_115 (by decide) (fun h49 => ?_) (fun h49 => ?_)
      · refine bX0_away_124.go rfl trivial ?_
        exact x_ret dX0_away_134 rfl (by rw [if_pos (Or.inl h49)]) k0
      · refine bX0_away_118.go rfl trivial ?_
        refine j_icmp_ne (tgt := 129) dX0_away_121 (by decide) (fun h55 => ?_) (fun h55 => ?_)
        · refine bX0_away_129.go rfl ⟨bst_b _ _ (by omega) h49, trivial⟩ ?_
          exact x_ret dX0_away_134 rfl (by rw [if_neg (fun h => h.elim h49 h55)]) k0
        · refine bX0_away_124.go rfl trivial ?_
          exact x_ret dX0_away_134 rfl (by rw [if_pos (Or.inr h55)]) k0
    · intro s hsn _ ih A' B' sk' sw' E' k0
      have e0 : sw' 0 = sw 0 := k0.2.2.2.1 0 (by decide)
      have hS' := hS.kp k0
      refine bX0_away_30.go rfl ⟨rfl, trivial⟩ ?_
      rw [e0, npE, es]
      refine j_icmp_ge (tgt := 112) dX0_away_38 (by decide) (fun h38 => ?_) (fun h38 => ?_)
      · rw [nI_leI (by omega) (by omega)] at h38; omega
      · have go63 : ¬ (¬ bstF (awB (sw 0) c m h) s = -1 ∧ ¬ bitsI (nI s) < bitsI (bstF (awB (sw 0) c m h) s)) → PJ X mX0_away (ad, A, B, sk, sw, E) (if bstF (awB (sw 0) c m h) (2 ^ v 2) = -1 ∨ u = nI 1 then bstF (awB (sw 0) c m h) (2 ^ v 2) else bitsI (bstF (awB (sw 0) c m h) (2 ^ v 2))) 63 [some (.ref (ad 0)), some (.int (nI c)), some (.int (nI m)), some (.int h), some (.int u), some (.int (bstF (awB (sw 0) c m h) s)), some (.int (nI s))] [] (ad, A', B', sk', sw', E') := by
          intro hb
          refine bX0_away_63.go rfl (by repeat' first | exact trivial | rfl | assumption | omega | apply And.intro) ?_
          refine js_begins (w1 := gnW (sw 0) (nI s)) (by rw [e0]; exact hw) (by rw [e0]; exact gn_eq _ _) (lw_V q1154 q1155 q1156 q137 q1157) dX0_away_77 (by decide) rfl (fun A1 sk1 sw1 E1 k1 b1 e1 s1 => ?_)
          refine bX0_away_80.go rfl (by repeat' first | exact trivial | rfl | assumption | omega | apply And.intro) ?_
          refine js_goes (gn_cro hw (by omega) b1 s1 e1 hS'.2.2.2) (lw_V q1188 q1189 q1190 q137 q1191) dX0_away_84 (by decide) rfl (fun A2 B2 k2 g2 => ?_)
          rw [e1] at g2
          have C := gn_pl hw (by omega) b1 g2
          have k3 := k0.tr (k1.tr k2)
          refine bX0_away_87.go rfl (by (try simp (disch := omega) only [nI_add, pk_mul, pk_sub, nI_clamp, vpI]); repeat' first | exact trivial | rfl | assumption | omega | apply And.intro) ?_
          simp (disch := omega) only [nI_clamp]
          rw [C.2.2.2.2.1 m (by rw [va_up_ne _ _ (by decide)]; exact hm) c (by rw [va_up_ne _ _ (by decide)]; exact hc)]
          refine j_icmp_ne (tgt := 106) dX0_away_99 (by decide) (fun h70 => ?_) (fun h70 => ?_)
          · have e : bstF (awB (sw 0) c m h) (s + 1) = bstF (awB (sw 0) c m h) s := by
              rw [bstF, if_neg hb, if_neg (by rw [awB, decide_eq_true_eq]; exact h70)]
            refine bX0_away_106.go rfl trivial ?_
            have := ih trivial A2 B2 sk1 sw1 E1 k3
            rw [e] at this
            rw [nI_1]
            exact this
          · have e : bstF (awB (sw 0) c m h) (s + 1) = nI s := by
              rw [bstF, if_neg hb, if_pos (by rw [awB, decide_eq_true_eq]; exact h70)]
            refine bX0_away_102.go rfl trivial ?_
            refine bX0_away_106.go rfl trivial ?_
            have := ih trivial A2 B2 sk1 sw1 E1 k3
            rw [e] at this
            rw [nI_1]
            exact this
        refine bX0_away_41.go rfl trivial ?_
        refine j_icmp_eq (tgt := 63) dX0_away_44 (by decide) (fun h31 => go63 (fun h => h.1 h31)) (fun h31 => ?_)
        refine bX0_away_47.go rfl ⟨⟨s, by omega, rfl⟩, bst_b _ _ (by omega) h31, trivial⟩ ?_
        refine j_icmp_lt (tgt := 63) dX0_away_57 (by decide) (fun h44 => go63 (fun h => h.2 h44)) (fun h44 => ?_)
        have e : bstF (awB (sw 0) c m h) (s + 1) = bstF (awB (sw 0) c m h) s := by
          rw [bstF, if_pos ⟨h31, h44⟩]
        refine bX0_away_60.go rfl trivial ?_
        refine bX0_away_106.go rfl trivial ?_
        have := ih trivial A' B' sk' sw' E' k0
        rw [e] at this
        rw [nI_1]
        exact this
  refine C_start (L := [some (.ref (ad 0)), some (.int c), some (.int m), some (.int h), some (.int u), none, none]) 2 rfl ?_
  refine bX0_away_0.go rfl (by first | exact ⟨⟨rfl, v, hw⟩, trivial⟩ | exact ⟨rfl, trivial⟩ | exact ⟨trivial, trivial⟩) ?_
  refine j_if_eq (tgt := 21) dX0_away_7 (by decide) (fun h7 => ?_) (fun h7 => ?_)
  · refine bX0_away_21.go rfl trivial ?_
    refine c_iret dX0_away_23 rfl ?_
    exact ⟨ans (by clear main; simp only [clL_i, tmL_i, hrL_i, fIn_L, b2_0, b2_n0] at *; simp_all [q_away]), KpX.rf.kp⟩
  · refine bX0_away_10.go rfl (by first | exact ⟨⟨rfl, v, hw⟩, trivial⟩ | exact ⟨rfl, trivial⟩ | exact ⟨trivial, trivial⟩) ?_
    refine j_if_ne (tgt := 24) dX0_away_18 (by decide) (fun h18 => ?_) (fun h18 => ?_)
    · exact main (by clear main; simp only [clL_i, tmL_i, hrL_i, fIn_L, b2_0, b2_n0] at *; simp_all)
    · refine bX0_away_21.go rfl trivial ?_
      refine c_iret dX0_away_23 rfl ?_
      exact ⟨ans (by clear main; simp only [clL_i, tmL_i, hrL_i, fIn_L, b2_0, b2_n0] at *; simp_all [q_away]), KpX.rf.kp⟩
end Q4
