set_option maxRecDepth 100000
/-! ===== UnseenClock: sureBy, agree, sure, needs ===== -/
section Sur
variable {X : Cx} {M : MD} {mi pc idx : Nat} {L : List (Option Value)} {st : List Value} {ad ad' : Nat → Nat} {A A' : Nat → Nat → Int32} {B B' : Nat → Nat → Int64} {sk sk' : Nat → Nat → Nat} {sw sw' : Nat → Nat → Int32} {E E' : Nat → Nat} {v : Nat → Nat}
theorem agC_C {w : Nat → Int32} (hw : WOk w v) {b : Nat → Int64} {m37 : Nat → Int32} {sn n N k : Nat} (hn : n ≤ 60) (e : m37 sn = nI n) (h : ∀ i, i < n / 3 → sg1 w b (60 * sn + 3 * i) = true) (hC : CoC A v w N) (hk : k < N) (set : Int32) : agS (fun c m => A (101 + 3 * k) (41 * c + m)) b sn n set = agC w m37 b sn set k := by
  have h6 : v 6 ≤ 40 := hw.2.2.2.2.2.2.2.1
  have h4 : v 1 ≤ 4 := hw.2.2.1
  rw [agC, e, nI_clamp (by omega)]
  refine allN_congr (fun i hi => ?_)
  obtain ⟨c, m, hc, hm, ec, em⟩ := sg1_nat hw (h i hi)
  show (!bitI set i || decide ((A (101 + 3 * k) (41 * (b (60 * sn + 3 * i)).toInt32.toNatClampNeg + (b (60 * sn + 3 * i + 1)).toInt32.toNatClampNeg)).toInt64 = b (60 * sn + 3 * i + 2))) = _
  rw [ec, em, nI_clamp (by omega), nI_clamp (by omega), (hC k hk).1 m hm c hc]
theorem srC_C {w : Nat → Int32} (hw : WOk w v) {b : Nat → Int64} {m37 : Nat → Int32} {sn n c m : Nat} (hn : n ≤ 60) (e : m37 sn = nI n) (h : ∀ i, i < n / 3 → sg1 w b (60 * sn + 3 * i) = true) (hC : CoC A v w (cnC w)) (hc : c < v 1) (hm : m ≤ v 6) (set : Int32) : srF (fun k => agS (fun c m => A (101 + 3 * k) (41 * c + m)) b sn n set) (fun k => A (101 + 3 * k) (41 * c + m)) (cnC w) 0 (-1) = srC w m37 b sn set c m :=
  srF_cg (fun k hk => agC_C hw hn e h hC hk set) (fun k hk => (hC k hk).1 m hm c hc) _ _ _ (by omega)
theorem bX0_sureBy_0 : Blk CP mX0_sureBy 0 6 [oC (-1), oIS 5, oC (nI 0), oIS 6] := blk_c (s_iconst dX0_sureBy_0 (by decide +kernel)) <| blk_c (s_istore dX0_sureBy_1 (by decide)) <| blk_c (s_iconst dX0_sureBy_3 (by decide +kernel)) <| blk_c (s_istore dX0_sureBy_4 (by decide)) <| blk_nil
theorem bX0_sureBy_6 : Blk CP mX0_sureBy 6 12 [oIL 6, oAL 0, cI 0 6] := blk_c (s_iload dX0_sureBy_6) <| blk_c (s_aload_n dX0_sureBy_8 rfl) <| blk_c (cgX0_6 (Or.inl q562) dX0_sureBy_9) <| blk_nil
theorem bX0_sureBy_15 : Blk CP mX0_sureBy 15 22 [oAL 0, oAL 0, cR 0 5 4, oIL 6] := blk_c (s_aload_n dX0_sureBy_15 rfl) <| blk_c (s_aload_n dX0_sureBy_16 rfl) <| blk_c (cgX0_5 (Or.inl q561) dX0_sureBy_17) <| blk_c (s_iload dX0_sureBy_20) <| blk_nil
theorem bX0_sureBy_30 : Blk CP mX0_sureBy 30 35 [oAL 0, cR 0 0 1, oIL 1] := blk_c (s_aload_n dX0_sureBy_30 rfl) <| blk_c (cgX0_0 (Or.inl q556) dX0_sureBy_31) <| blk_c (s_iload_n dX0_sureBy_34 rfl) <| blk_nil
theorem bX0_sureBy_36 : Blk CP mX0_sureBy 36 37 [oIL 2] := blk_c (s_iload_n dX0_sureBy_36 rfl) <| blk_nil
theorem bX0_sureBy_43 : Blk CP mX0_sureBy 43 87 [.inl (fun s => some s)] := blk_c (s_goto (tgt := 87) dX0_sureBy_43 (by decide)) <| blk_nil
theorem bX0_sureBy_46 : Blk CP mX0_sureBy 46 52 [oAL 0, cR 0 5 4, oIL 6] := blk_c (s_aload_n dX0_sureBy_46 rfl) <| blk_c (cgX0_5 (Or.inl q561) dX0_sureBy_47) <| blk_c (s_iload dX0_sureBy_50) <| blk_nil
theorem bX0_sureBy_60 : Blk CP mX0_sureBy 60 63 [oIL 3, oIL 4] := blk_c (s_iload_n dX0_sureBy_60 rfl) <| blk_c (s_iload dX0_sureBy_61) <| blk_nil
theorem bX0_sureBy_66 : Blk CP mX0_sureBy 66 71 [oIS 7, oIL 5, oC (-1)] := blk_c (s_istore dX0_sureBy_66 (by decide)) <| blk_c (s_iload dX0_sureBy_68) <| blk_c (s_iconst dX0_sureBy_70 (by decide +kernel)) <| blk_nil
theorem bX0_sureBy_74 : Blk CP mX0_sureBy 74 78 [oIL 5, oIL 7] := blk_c (s_iload dX0_sureBy_74) <| blk_c (s_iload dX0_sureBy_76) <| blk_nil
theorem bX0_sureBy_81 : Blk CP mX0_sureBy 81 82 [oC (-1)] := blk_c (s_iconst dX0_sureBy_81 (by decide +kernel)) <| blk_nil
theorem bX0_sureBy_83 : Blk CP mX0_sureBy 83 87 [oIL 7, oIS 5] := blk_c (s_iload dX0_sureBy_83) <| blk_c (s_istore dX0_sureBy_85 (by decide)) <| blk_nil
theorem bX0_sureBy_87 : Blk CP mX0_sureBy 87 6 [oInc 6 1, .inl (fun s => some s)] := blk_c (s_iinc dX0_sureBy_87 (by decide +kernel) (by decide)) <| blk_c (s_goto (tgt := 6) dX0_sureBy_90 (by decide)) <| blk_nil
theorem bX0_sureBy_93 : Blk CP mX0_sureBy 93 95 [oIL 5] := blk_c (s_iload dX0_sureBy_93) <| blk_nil
theorem ok_sureByC (hX : ThX X) (hSl : SlC E) (hLI : LI E) {s n c m N : Nat} {set : Int32} (hsg : SgC A B E s n) (h6 : A 0 6 = nI N) (hN : N ≤ E 0) (hc : c < 4) (hm : m ≤ 40) : RCc X mX0_sureBy 0 0 [.ref (ad 0), .int (nI s), .int set, .int (nI c), .int (nI m)] (ad, A, B, sk, sw, E) (fun r x' => r = some (.int (srF (fun k => agS (fun c m => A (101 + 3 * k) (41 * c + m)) (bC A B E) s n set) (fun k => A (101 + 3 * k) (41 * c + m)) N 0 (-1))) ∧ x' = (ad, A, B, sk, sw, E)) := by
  have hs : s < 4 := hsg.1
  have l128 : E 0 ≤ 128 := hLI.1
  refine C_start (L := [some (.ref (ad 0)), some (.int (nI s)), some (.int set), some (.int (nI c)), some (.int (nI m)), none, none, none]) 3 rfl ?_
  generalize hR : srF (fun k => agS (fun c m => A (101 + 3 * k) (41 * c + m)) (bC A B E) s n set) (fun k => A (101 + 3 * k) (41 * c + m)) N 0 (-1) = R0
  refine bX0_sureBy_0.go rfl trivial ?_
  have lp : ∀ d k, k + d = N → ∀ x o7, srF (fun k => agS (fun c m => A (101 + 3 * k) (41 * c + m)) (bC A B E) s n set) (fun k => A (101 + 3 * k) (41 * c + m)) d k x = R0 → JS CP X mX0_sureBy (rmOf mX0_sureBy.lv 0 0) (ZC X 0 0 (fun r x' => r = some (.int R0) ∧ x' = (ad, A, B, sk, sw, E))) 0 0 6 [some (.ref (ad 0)), some (.int (nI s)), some (.int set), some (.int (nI c)), some (.int (nI m)), some (.int x), some (.int (nI k)), o7] [] (ad, A, B, sk, sw, E) := by
    intro d
    induction d with
    | zero =>
      intro k hk x o7 hx
      refine bX0_sureBy_6.go rfl (by repeat' first | exact trivial | rfl | assumption | omega | apply And.intro) ?_
      rw [h6]
      refine j_icmp_ge (tgt := 93) dX0_sureBy_12 (by decide) (fun h12 => ?_) (fun h12 => ?_)
      · refine bX0_sureBy_93.go rfl trivial ?_
        exact c_iret dX0_sureBy_95 rfl ⟨by rw [← hx]; rfl, rfl⟩
      · simp (disch := omega) only [nI_leI] at h12; omega
    | succ d ih =>
      intro k hk x o7 hx
      refine bX0_sureBy_6.go rfl (by repeat' first | exact trivial | rfl | assumption | omega | apply And.intro) ?_
      rw [h6]
      refine j_icmp_ge (tgt := 93) dX0_sureBy_12 (by decide) (fun h12 => ?_) (fun h12 => ?_)
      · simp (disch := omega) only [nI_leI] at h12; omega
      rw [srF] at hx
      have nx : ∀ x' o7, srF (fun k => agS (fun c m => A (101 + 3 * k) (41 * c + m)) (bC A B E) s n set) (fun k => A (101 + 3 * k) (41 * c + m)) d (k + 1) x' = R0 → JS CP X mX0_sureBy (rmOf mX0_sureBy.lv 0 0) (ZC X 0 0 (fun r x' => r = some (.int R0) ∧ x' = (ad, A, B, sk, sw, E))) 0 0 87 [some (.ref (ad 0)), some (.int (nI s)), some (.int set), some (.int (nI c)), some (.int (nI m)), some (.int x'), some (.int (nI k)), o7] [] (ad, A, B, sk, sw, E) := by
        intro x' o7 hx'
        refine bX0_sureBy_87.go rfl trivial ?_
        rw [nI_1]
        exact ih (k + 1) (by omega) x' o7 hx'
      refine bX0_sureBy_15.go rfl (by repeat' first | exact trivial | rfl | assumption | omega | apply And.intro) ?_
      refine js_lget (i := k) hLI (by omega) dX0_sureBy_22 (lw_F q1117 q812 q814 q136 q816) (by decide) rfl ?_
      refine js_scast (i := k) (by omega) q1359 dX0_sureBy_27 ?_
      refine bX0_sureBy_30.go rfl (by repeat' first | exact trivial | rfl | assumption | omega | apply And.intro) ?_
      refine js_slots hs dX0_sureBy_35 ?_
      refine bX0_sureBy_36.go rfl trivial ?_
      refine cc0 (M' := mX0_agrees) (nA := 3) (As := [.ref (ad (100 + 3 * k)), .ref (ad (10 + s)), .int set]) (ok_agreesC hX hSl hsg (by omega)) rec0 rfl ((lw_V q1410 q1412 qs49 q131 q1413)) dX0_sureBy_37 rfl (fun r x' q => ?_) hy_X0_agrees
      obtain ⟨rfl, rfl⟩ := q
      refine j_if_ne (tgt := 46) dX0_sureBy_40 (by decide) (fun h40 => ?_) (fun h40 => ?_)
      rotate_left
      · rw [b2_0] at h40
        rw [if_neg (by rw [h40]; decide)] at hx
        refine bX0_sureBy_43.go rfl trivial ?_
        exact nx x o7 hx
      rw [b2_n0] at h40
      rw [if_pos h40] at hx
      refine bX0_sureBy_46.go rfl (by repeat' first | exact trivial | rfl | assumption | omega | apply And.intro) ?_
      refine js_lget (i := k) hLI (by omega) dX0_sureBy_52 (lw_F q1117 q812 q814 q136 q816) (by decide) rfl ?_
      refine js_scast (i := k) (by omega) q1359 dX0_sureBy_57 ?_
      refine bX0_sureBy_60.go rfl trivial ?_
      refine cc0 (M' := mX16_shows) (nA := 2) (As := [.int (nI c), .int (nI m)]) (ok_snShows (i := k) (by omega) hc hm) (recS (by omega)) rfl ((lw_V q1390 q1391 q1392 q163 q1393)) dX0_sureBy_63 rfl (fun r x' q => ?_) hy_X16_shows
      obtain ⟨rfl, rfl⟩ := q
      have m83 : ¬ (¬ x = -1 ∧ ¬ x = A (101 + 3 * k) (41 * c + m)) → JS CP X mX0_sureBy (rmOf mX0_sureBy.lv 0 0) (ZC X 0 0 (fun r x' => r = some (.int R0) ∧ x' = (ad, A, B, sk, sw, E))) 0 0 83 [some (.ref (ad 0)), some (.int (nI s)), some (.int set), some (.int (nI c)), some (.int (nI m)), some (.int x), some (.int (nI k)), some (.int (A (101 + 3 * k) (41 * c + m)))] [] (ad, A, B, sk, sw, E) := by
        intro hc2
        rw [if_neg hc2] at hx
        refine bX0_sureBy_83.go rfl trivial ?_
        exact nx _ _ hx
      refine bX0_sureBy_66.go rfl trivial ?_
      refine j_icmp_eq (tgt := 83) dX0_sureBy_71 (by decide) (fun h71 => m83 (fun h => h.1 h71)) (fun h71 => ?_)
      refine bX0_sureBy_74.go rfl trivial ?_
      refine j_icmp_eq (tgt := 83) dX0_sureBy_78 (by decide) (fun h78 => m83 (fun h => h.2 h78)) (fun h78 => ?_)
      rw [if_pos ⟨h71, h78⟩] at hx
      refine bX0_sureBy_81.go rfl trivial ?_
      exact c_iret dX0_sureBy_82 rfl ⟨by rw [← hx], rfl⟩
  exact lp N 0 (by omega) (-1) none hR
/-- the call of whyNot -/
theorem wq (hM : WkM X mi) (hX : ThX X) (hS : SW v A sw) (hLI : LI E) (hSl : SlC E) {x0 : Cv} {q s : Int32} (hG : GoodIn lw_all (wsV M.y.cls idx RX0 yX0_whyNot (ws_ yX0_whyNot cX0_whyNot 4 (some .int)))) (hd : decode M.cc pc = .ok (.invokevirtual idx, 3)) (hR : 14 ≤ M.lv) (hst : wt8 st = true)
    (kk : ∀ ad' A' B' sk' sw' E', ad' 0 = ad 0 → Kp (ad, A, B, sk, sw, E) (ad', A', B', sk', sw', E') → SlC E' → (asV (sw 0) (m37C E) (bC A B E) s (nI 1) (nI 20) = nI 0 → A' 0 6 = nI (cnC (sw 0)) ∧ cnC (sw 0) ≤ E' 0 ∧ LI E' ∧ CoC A' v (sw 0) (cnC (sw 0)) ∧ ∃ sn n, sn < 4 ∧ s = nI sn ∧ SgC A' B' E' sn n ∧ m37C E sn = nI n ∧ n ≤ 60 ∧ ∀ i, i < n / 3 → sg1 (sw 0) (bC A B E) (60 * sn + 3 * i) = true) → GJ X M x0 q (pc + 3) L (.int (asV (sw 0) (m37C E) (bC A B E) s (nI 1) (nI 20)) :: st) (ad', A', B', sk', sw', E')) : JS CP X M (rmOf M.lv 1000 70000) (ZC X 1000 70000 (PubQ x0 q)) 0 0 pc L (.int s :: .ref (ad 0) :: st) (ad, A, B, sk, sw, E) := by
  obtain ⟨-, hw, -, -⟩ := id hS
  have h6 : v 6 ≤ 40 := hw.2.2.2.2.2.2.2.1
  have h4 : v 1 ≤ 4 := hw.2.2.1
  refine ccm (M' := mX0_whyNot) (nA := 1) (As := [.int s]) (mc := 600) (ms := 64000) (ok_whyNot hM hX hS hLI hSl) rec0 rfl hG hd rfl ⟨by show 0 + 600 ≤ 1000; omega, by show 0 + 64000 ≤ 70000; omega⟩ (fun r x' q => ?_) hy_X0_whyNot rfl rfl ⟨hR, by decide⟩ hst
  obtain ⟨ad', A', B', sk', sw', E'⟩ := x'
  obtain ⟨rfl, h1, h2⟩ := q
  obtain ⟨k1, k2, k3⟩ := h1.slots
  refine kk ad' A' B' sk' sw' E' (h1.1 0 (by decide) (by decide)) h1 (k2 hSl) (fun h0 => ?_)
  obtain ⟨a1, a2, a3, a4⟩ := h2 h0
  obtain ⟨sn, n, hs, es, em, hn, n3, -, hsg, -⟩ := asV_0 (m37C_ok hSl) h0
  have em' := em
  unfold m37C at em'
  have e0 : ¬ E (2 + sn) = 0 := fun z => by
    rw [if_pos z] at em'
    exact absurd (em' ▸ nI_pos (by omega) : ¬ (-1 : Int32) < 0) (by decide +kernel)
  rw [if_neg e0] at em'
  have en : E (6 + sn) = n := (nI_eq (by have := (hSl sn hs).2; omega) (by omega)).mp em'
  refine ⟨a1, a2, a3, a4, sn, n, hs, es, ⟨hs, by rw [(k1 sn hs).1]; exact e0, by rw [(k1 sn hs).2]; exact en, n3, fun i hi => ?_⟩, em, hn, hsg⟩
  obtain ⟨c, m, hc, hm, ec, eM⟩ := sg1_nat hw (hsg i hi)
  rw [bC_at hs (by omega)] at ec
  rw [Nat.add_assoc, bC_at hs (by omega)] at eM
  exact ⟨c, m, by omega, by omega, by rw [k3 sn hs]; exact ec, by rw [k3 sn hs]; exact eM⟩
theorem bX0_agree_0 : Blk CP mX0_agree 0 2 [oAL 0, oIL 1] := blk_c (s_aload_n dX0_agree_0 rfl) <| blk_c (s_iload_n dX0_agree_1 rfl) <| blk_nil
theorem bX0_agree_5 : Blk CP mX0_agree 5 7 [oIS 2, oIL 2] := blk_c (s_istore_n dX0_agree_5 rfl (by decide)) <| blk_c (s_iload_n dX0_agree_6 rfl) <| blk_nil
theorem bX0_agree_10 : Blk CP mX0_agree 10 11 [oIL 2] := blk_c (s_iload_n dX0_agree_10 rfl) <| blk_nil
theorem bX0_agree_12 : Blk CP mX0_agree 12 17 [oC (nI 0), oIS 3, oC (nI 0), oIS 4] := blk_c (s_iconst dX0_agree_12 (by decide +kernel)) <| blk_c (s_istore_n dX0_agree_13 rfl (by decide)) <| blk_c (s_iconst dX0_agree_14 (by decide +kernel)) <| blk_c (s_istore dX0_agree_15 (by decide)) <| blk_nil
theorem bX0_agree_17 : Blk CP mX0_agree 17 23 [oIL 4, oAL 0, cI 0 6] := blk_c (s_iload dX0_agree_17) <| blk_c (s_aload_n dX0_agree_19 rfl) <| blk_c (cgX0_6 (Or.inl q562) dX0_agree_20) <| blk_nil
theorem bX0_agree_26 : Blk CP mX0_agree 26 34 [oIL 3, oAL 0, oAL 0, cR 0 5 4, oIL 4] := blk_c (s_iload_n dX0_agree_26 rfl) <| blk_c (s_aload_n dX0_agree_27 rfl) <| blk_c (s_aload_n dX0_agree_28 rfl) <| blk_c (cgX0_5 (Or.inl q561) dX0_agree_29) <| blk_c (s_iload dX0_agree_32) <| blk_nil
theorem bX0_agree_42 : Blk CP mX0_agree 42 47 [oAL 0, cR 0 0 1, oIL 1] := blk_c (s_aload_n dX0_agree_42 rfl) <| blk_c (cgX0_0 (Or.inl q556) dX0_agree_43) <| blk_c (s_iload_n dX0_agree_46 rfl) <| blk_nil
theorem bX0_agree_48 : Blk CP mX0_agree 48 49 [oC (-1)] := blk_c (s_iconst dX0_agree_48 (by decide +kernel)) <| blk_nil
theorem bX0_agree_55 : Blk CP mX0_agree 55 60 [oC (nI 1), .inl (fun s => some s)] := blk_c (s_iconst dX0_agree_55 (by decide +kernel)) <| blk_c (s_goto (tgt := 60) dX0_agree_56 (by decide)) <| blk_nil
theorem bX0_agree_59 : Blk CP mX0_agree 59 60 [oC (nI 0)] := blk_c (s_iconst dX0_agree_59 (by decide +kernel)) <| blk_nil
theorem bX0_agree_60 : Blk CP mX0_agree 60 17 [oAdd, oIS 3, oInc 4 1, .inl (fun s => some s)] := blk_c (s_iadd dX0_agree_60) <| blk_c (s_istore_n dX0_agree_61 rfl (by decide)) <| blk_c (s_iinc dX0_agree_62 (by decide +kernel) (by decide)) <| blk_c (s_goto (tgt := 17) dX0_agree_65 (by decide)) <| blk_nil
theorem bX0_agree_68 : Blk CP mX0_agree 68 69 [oIL 3] := blk_c (s_iload_n dX0_agree_68 rfl) <| blk_nil
theorem pb_agree (hM : WkM X mi) (hX : ThX X) (hS : SW v A sw) (hLI : LI E) (hSl : SlC E) {s : Int32} : RCc X mX0_agree 1000 70000 [.ref (ad 0), .int s] (ad, A, B, sk, sw, E) (PubQ (ad, A, B, sk, sw, E) (q_agree (sw 0) (m37C E) (bC A B E) s)) := by
  obtain ⟨-, hw, -, -⟩ := id hS
  refine C_start (L := [some (.ref (ad 0)), some (.int s), none, none, none]) 3 rfl ?_
  refine bX0_agree_0.go rfl trivial ?_
  refine wq hM hX hS hLI hSl ((lw_V q1398 q1400 qs48 q131 q1401)) dX0_agree_2 (by decide) rfl (fun ad' A' B' sk' sw' E' q0 hk hSl' hC => ?_)
  refine bX0_agree_5.go rfl trivial ?_
  refine j_if_eq (tgt := 12) dX0_agree_7 (by decide) (fun h7 => ?_) (fun h7 => ?_)
  rotate_left
  · refine bX0_agree_10.go rfl trivial ?_
    exact g_ret dX0_agree_11 rfl (by rw [q_agree, if_neg (show ¬ asV (sw 0) (m37C E) (bC A B E) s (nI 1) (nI 20) = nI 0 from h7)]) hk
  have h7 : asV (sw 0) (m37C E) (bC A B E) s (nI 1) (nI 20) = nI 0 := h7
  obtain ⟨h6, hE, hLI', hCo, sn, n, hs, rfl, hsg, em, hn, hsi⟩ := hC h7
  have l128 : E' 0 ≤ 128 := hLI'.1
  rw [q_agree, if_pos h7, nI_clamp (by omega), ← q0]
  refine bX0_agree_12.go rfl trivial ?_
  rw [h7]
  refine loop_down (N := cnC (sw 0)) (I := fun _ => True) (P := fun k => GJ X mX0_agree (ad, A, B, sk, sw, E) (sumI (fun k => b2 (agC (sw 0) (m37C E) (bC A B E) sn (-1) k)) (cnC (sw 0))) 17 [some (.ref (ad' 0)), some (.int (nI sn)), some (.int (nI 0)), some (.int (sumI (fun k => b2 (agC (sw 0) (m37C E) (bC A B E) sn (-1) k)) k)), some (.int (nI k))] [] (ad', A', B', sk', sw', E')) ?_ ?_ 0 (Nat.zero_le _) trivial
  · intro _
    refine bX0_agree_17.go rfl (by repeat' first | exact trivial | rfl | assumption | omega | apply And.intro) ?_
    rw [h6]
    refine j_icmp_ge (tgt := 68) dX0_agree_23 (by decide) (fun _ => ?_) (fun q => absurd (nI_le (Nat.le_refl _) (by omega)) q)
    refine bX0_agree_68.go rfl trivial ?_
    exact g_ret dX0_agree_69 rfl rfl hk
  · intro k hkk _ ih
    refine bX0_agree_17.go rfl (by repeat' first | exact trivial | rfl | assumption | omega | apply And.intro) ?_
    rw [h6]
    refine j_icmp_ge (tgt := 68) dX0_agree_23 (by decide) (fun q => ?_) (fun _ => ?_)
    · rw [nI_leI (by omega) (by omega)] at q; omega
    refine bX0_agree_26.go rfl (by repeat' first | exact trivial | rfl | assumption | omega | apply And.intro) ?_
    refine js_lget (i := k) hLI' (by omega) dX0_agree_34 (lw_F q1117 q812 q814 q136 q816) (by decide) rfl ?_
    refine js_scast (i := k) (by omega) q1359 dX0_agree_39 ?_
    refine bX0_agree_42.go rfl (by repeat' first | exact trivial | rfl | assumption | omega | apply And.intro) ?_
    refine js_slots hs dX0_agree_47 ?_
    refine bX0_agree_48.go rfl trivial ?_
    refine cc0 (M' := mX0_agrees) (nA := 3) (As := [.ref (ad' (100 + 3 * k)), .ref (ad' (10 + sn)), .int (-1)]) (ok_agreesC hX hSl' hsg (by omega)) rec0 rfl ((lw_V q1410 q1412 qs49 q131 q1413)) dX0_agree_49 rfl (fun r x' q => ?_) hy_X0_agrees
    obtain ⟨rfl, rfl⟩ := q
    rw [hk.b, agC_C hw hn em hsi hCo hkk]
    have := ih trivial
    simp only [sumI] at this
    refine j_if_eq (tgt := 59) dX0_agree_52 (by decide) (fun h52 => ?_) (fun h52 => ?_)
    · rw [b2_0] at h52
      refine bX0_agree_59.go rfl trivial ?_
      refine bX0_agree_60.go rfl trivial ?_
      rw [nI_1]
      rw [h52] at this
      exact this
    · rw [b2_n0] at h52
      refine bX0_agree_55.go rfl trivial ?_
      refine bX0_agree_60.go rfl trivial ?_
      rw [nI_1]
      rw [h52] at this
      exact this
theorem asV_20 {w m37 : Nat → Int32} {b : Nat → Int64} {s : Int32} {t : Bool} : asV w m37 b s (b2 t) (nI 20) = if t = true then asV w m37 b s (nI 1) (nI 20) else -2 := by
  cases t
  · rw [if_neg (by decide), asV, if_neg]
    rw [show (b2 false : Int32) = 0 from rfl, decide_eq_true rfl]
    simp
  · rfl
theorem bX0_sure_0 : Blk CP mX0_sure 0 6 [oAL 0, oIL 2, oI2L, cF_J F_isClockC] := blk_c (s_aload_n dX0_sure_0 rfl) <| blk_c (s_iload_n dX0_sure_1 rfl) <| blk_c (s_i2l dX0_sure_2) <| blk_c (c_F_J ok_isClockC (ci := 0) rfl (lw_V q1146 q1148 qs31 q131 q1149) hy_X0_isClock rfl (by decide) dX0_sure_3) <| blk_nil
theorem bX0_sure_9 : Blk CP mX0_sure 9 15 [oAL 0, oIL 3, oI2L, cF_J F_isMomentC] := blk_c (s_aload_n dX0_sure_9 rfl) <| blk_c (s_iload_n dX0_sure_10 rfl) <| blk_c (s_i2l dX0_sure_11) <| blk_c (c_F_J ok_isMomentC (ci := 0) rfl (lw_V q1308 q1310 qs43 q131 q1311) hy_X0_isMoment rfl (by decide) dX0_sure_12) <| blk_nil
theorem bX0_sure_18 : Blk CP mX0_sure 18 20 [oC (-2)] := blk_c (s_bipush dX0_sure_18 (by decide +kernel)) <| blk_nil
theorem bX0_sure_21 : Blk CP mX0_sure 21 23 [oAL 0, oIL 1] := blk_c (s_aload_n dX0_sure_21 rfl) <| blk_c (s_iload_n dX0_sure_22 rfl) <| blk_nil
theorem bX0_sure_26 : Blk CP mX0_sure 26 30 [oIS 4, oIL 4] := blk_c (s_istore dX0_sure_26 (by decide)) <| blk_c (s_iload dX0_sure_28) <| blk_nil
theorem bX0_sure_33 : Blk CP mX0_sure 33 46 [oIL 4, .inl (fun s => some s)] := blk_c (s_iload dX0_sure_33) <| blk_c (s_goto (tgt := 46) dX0_sure_35 (by decide)) <| blk_nil
theorem bX0_sure_38 : Blk CP mX0_sure 38 43 [oAL 0, oIL 1, oC (-1), oIL 2, oIL 3] := blk_c (s_aload_n dX0_sure_38 rfl) <| blk_c (s_iload_n dX0_sure_39 rfl) <| blk_c (s_iconst dX0_sure_40 (by decide +kernel)) <| blk_c (s_iload_n dX0_sure_41 rfl) <| blk_c (s_iload_n dX0_sure_42 rfl) <| blk_nil
theorem pb_sure (hM : WkM X mi) (hX : ThX X) (hS : SW v A sw) (hLI : LI E) (hSl : SlC E) {s c m : Int32} : RCc X mX0_sure 1000 70000 [.ref (ad 0), .int s, .int c, .int m] (ad, A, B, sk, sw, E) (PubQ (ad, A, B, sk, sw, E) (q_sure (sw 0) (m37C E) (bC A B E) s c m)) := by
  obtain ⟨-, hw, -, -⟩ := id hS
  have v6 : v 6 ≤ 40 := hw.2.2.2.2.2.2.2.1
  have v4 : v 1 ≤ 4 := hw.2.2.1
  refine C_start (L := [some (.ref (ad 0)), some (.int s), some (.int c), some (.int m), none]) 1 rfl ?_
  have out : ctB (sw 0) c m = false → PJ X mX0_sure (ad, A, B, sk, sw, E) (q_sure (sw 0) (m37C E) (bC A B E) s c m) 18 [some (.ref (ad 0)), some (.int s), some (.int c), some (.int m), none] [] (ad, A, B, sk, sw, E) := by
    intro hf
    have ew : q_sure (sw 0) (m37C E) (bC A B E) s c m = -2 := by
      rw [q_sure, asV_20, hf, if_neg (by decide : ¬ false = true), if_neg (by decide +kernel)]
    refine bX0_sure_18.go rfl trivial ?_
    exact x_ret dX0_sure_20 rfl ew.symm KpX.rf
  refine bX0_sure_0.go rfl ⟨⟨rfl, v, hw⟩, trivial⟩ ?_
  rw [clL_i]
  refine j_if_eq (tgt := 18) dX0_sure_6 (by decide) (fun h => ?_) (fun h6 => ?_)
  · rw [b2_0] at h
    exact out (by rw [ctB, h]; rfl)
  rw [b2_n0] at h6
  refine bX0_sure_9.go rfl ⟨⟨rfl, v, hw⟩, trivial⟩ ?_
  rw [tmL_i]
  refine j_if_ne (tgt := 21) dX0_sure_15 (by decide) (fun h15 => ?_) (fun h => ?_)
  rotate_left
  · rw [b2_0] at h
    exact out (by rw [ctB, h, Bool.and_false])
  rw [b2_n0] at h15
  have hct : ctB (sw 0) c m = true := by rw [ctB, h6, h15]; rfl
  rw [q_sure, asV_20, hct, if_pos rfl]
  obtain ⟨c, hc, rfl⟩ := hw.cOf h6
  obtain ⟨m, hm, rfl⟩ := hw.tOf h15
  refine bX0_sure_21.go rfl trivial ?_
  refine wq hM hX hS hLI hSl ((lw_V q1398 q1400 qs48 q131 q1401)) dX0_sure_23 (by decide) rfl (fun ad' A' B' sk' sw' E' q0 hk hSl' hC => ?_)
  refine bX0_sure_26.go rfl trivial ?_
  refine j_if_eq (tgt := 38) dX0_sure_30 (by decide) (fun h7 => ?_) (fun h7 => ?_)
  rotate_left
  · refine bX0_sure_33.go rfl trivial ?_
    exact g_ret dX0_sure_46 rfl (by rw [if_neg (show ¬ asV (sw 0) (m37C E) (bC A B E) s (nI 1) (nI 20) = nI 0 from h7)]) hk
  have h7 : asV (sw 0) (m37C E) (bC A B E) s (nI 1) (nI 20) = nI 0 := h7
  obtain ⟨e6, hE, hLI', hCo, sn, n, hs, rfl, hsg, em, hn, hsi⟩ := hC h7
  rw [if_pos h7, nI_clamp (by omega), nI_clamp (by omega), nI_clamp (by omega), ← q0]
  refine bX0_sure_38.go rfl trivial ?_
  refine cc0 (M' := mX0_sureBy) (nA := 4) (As := [.int (nI sn), .int (-1), .int (nI c), .int (nI m)]) (ok_sureByC hX hSl' hLI' hsg e6 hE (by omega) (by omega)) rec0 rfl ((lw_V q1418 q1420 qs50 q131 q1421)) dX0_sure_43 rfl (fun r x' q => ?_) hy_X0_sureBy
  obtain ⟨rfl, rfl⟩ := q
  exact g_ret dX0_sure_46 rfl (by rw [hk.b]; exact srC_C hw hn em hsi hCo hc hm _) hk
end Sur
