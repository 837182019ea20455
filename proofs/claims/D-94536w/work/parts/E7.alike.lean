set_option maxRecDepth 100000
/-! ===== UnseenClock$Seen.isAlike; UnseenClock: courses, among ===== -/
section Alike
variable {X : Cx} {M M' : MD} {R : Room} {Z : ZT} {k n pc idx mi i j : Nat} {L : List (Option Value)} {st : List Value} {ad : Nat → Nat} {A A' : Nat → Nat → Int32} {B : Nat → Nat → Int64} {sk : Nat → Nat → Nat} {sw : Nat → Nat → Int32} {E : Nat → Nat} {v : Nat → Nat} {w : Nat → Int32}
/-- two Seens are alike to somebody -/
def alA (A : Nat → Nat → Int32) (i j p t : Nat) : Bool := alS 4 (fun m => A (102 + 3 * i) (40 * p + m)) (fun m => A (102 + 3 * j) (40 * p + m)) (fun c m => A (101 + 3 * i) (41 * c + m)) (fun c m => A (101 + 3 * j) (41 * c + m)) t
theorem alA_eq {N p t : Nat} (hw : WOk w v) (hC : CoC A v w N) (hi : i < N) (hj : j < N) (hp : p < v 2) (ht : t ≤ v 6) : alA A i j p t = alC w p i j t := by
  have h4 := hw.nc4
  have h8 := hw.np8
  refine allN_congr (fun m hm => ?_)
  show (decide (A (102 + 3 * i) (40 * p + m) = A (102 + 3 * j) (40 * p + m)) && allN (fun c => !bitI (A (102 + 3 * i) (40 * p + m)) c || decide (A (101 + 3 * i) (41 * c + m) = A (101 + 3 * j) (41 * c + m))) 4) = (decide (lkC w i m p = lkC w j m p) && allN (fun c => !bitI (lkC w i m p) c || decide (shC w i c m = shC w j c m)) (nC w))
  rw [(hC i hi).2 m (by omega) p hp, (hC j hj).2 m (by omega) p hp]
  congr 1
  obtain ⟨b, hb, q⟩ := mL_b (cf := cfE w (eC w i)) hw (m := m) (rsE w (eC w i) m) hp
  have hl : lkC w i m p = nI b := by rw [lkC, lkE, if_pos (by rw [hw.npE]; exact hp)]; exact q
  rw [Bool.eq_iff_iff, allN_true, allN_true, hw.ncE]
  constructor
  · intro h c hc
    have := h c (by omega)
    rw [(hC i hi).1 m (by omega) c hc, (hC j hj).1 m (by omega) c hc] at this
    exact this
  · intro h c hc
    by_cases e : c < v 1
    · rw [(hC i hi).1 m (by omega) c e, (hC j hj).1 m (by omega) c e]; exact h c e
    · have : 2 ^ v 1 ≤ 2 ^ c := Nat.pow_le_pow_right (by decide) (by omega)
      rw [hl, bt_hi c hc b (by omega)]; rfl
theorem bX16_isAlike_0 : Blk CP mX16_isAlike 0 3 [oC (nI 0), oIS 4] := blk_c (s_iconst dX16_isAlike_0 (by decide +kernel)) <| blk_c (s_istore dX16_isAlike_1 (by decide)) <| blk_nil
theorem bX16_isAlike_3 : Blk CP mX16_isAlike 3 6 [oIL 4, oIL 3] := blk_c (s_iload dX16_isAlike_3) <| blk_c (s_iload_n dX16_isAlike_5 rfl) <| blk_nil
theorem bX16_isAlike_9 : Blk CP mX16_isAlike 9 10 [oAL 0] := blk_c (s_aload_n dX16_isAlike_9 rfl) <| blk_nil
theorem bX16_isAlike_13 : Blk CP mX16_isAlike 13 20 [oC (nI 40), oIL 2, oMul, oIL 4, oAdd] := blk_c (s_bipush dX16_isAlike_13 (by decide +kernel)) <| blk_c (s_iload_n dX16_isAlike_15 rfl) <| blk_c (s_imul dX16_isAlike_16) <| blk_c (s_iload dX16_isAlike_17) <| blk_c (s_iadd dX16_isAlike_19) <| blk_nil
theorem bX16_isAlike_21 : Blk CP mX16_isAlike 21 26 [oIS 5, oIL 5, oAL 1] := blk_c (s_istore dX16_isAlike_21 (by decide)) <| blk_c (s_iload dX16_isAlike_23) <| blk_c (s_aload_n dX16_isAlike_25 rfl) <| blk_nil
theorem bX16_isAlike_29 : Blk CP mX16_isAlike 29 36 [oC (nI 40), oIL 2, oMul, oIL 4, oAdd] := blk_c (s_bipush dX16_isAlike_29 (by decide +kernel)) <| blk_c (s_iload_n dX16_isAlike_31 rfl) <| blk_c (s_imul dX16_isAlike_32) <| blk_c (s_iload dX16_isAlike_33) <| blk_c (s_iadd dX16_isAlike_35) <| blk_nil
theorem bX16_isAlike_40 : Blk CP mX16_isAlike 40 41 [oC (nI 0)] := blk_c (s_iconst dX16_isAlike_40 (by decide +kernel)) <| blk_nil
theorem bX16_isAlike_42 : Blk CP mX16_isAlike 42 45 [oC (nI 0), oIS 6] := blk_c (s_iconst dX16_isAlike_42 (by decide +kernel)) <| blk_c (s_istore dX16_isAlike_43 (by decide)) <| blk_nil
theorem bX16_isAlike_45 : Blk CP mX16_isAlike 45 48 [oIL 6, oC (nI 4)] := blk_c (s_iload dX16_isAlike_45) <| blk_c (s_iconst dX16_isAlike_47 (by decide +kernel)) <| blk_nil
theorem bX16_isAlike_51 : Blk CP mX16_isAlike 51 58 [oIL 5, oIL 6, oS_II pT2 fOn] := blk_c (s_iload dX16_isAlike_51) <| blk_c (s_iload dX16_isAlike_53) <| blk_c (s_S_II ok_sX0_isOn (fun _ _ _ h => h.1.1) (Or.inr ⟨lw_meth q1141, q1140, q131, _, nq1448⟩) hy_X0_isOn (by decide) dX16_isAlike_55) <| blk_nil
theorem bX16_isAlike_61 : Blk CP mX16_isAlike 61 66 [oAL 0, oIL 6, oIL 4] := blk_c (s_aload_n dX16_isAlike_61 rfl) <| blk_c (s_iload dX16_isAlike_62) <| blk_c (s_iload dX16_isAlike_64) <| blk_nil
theorem bX16_isAlike_69 : Blk CP mX16_isAlike 69 74 [oAL 1, oIL 6, oIL 4] := blk_c (s_aload_n dX16_isAlike_69 rfl) <| blk_c (s_iload dX16_isAlike_70) <| blk_c (s_iload dX16_isAlike_72) <| blk_nil
theorem bX16_isAlike_80 : Blk CP mX16_isAlike 80 81 [oC (nI 0)] := blk_c (s_iconst dX16_isAlike_80 (by decide +kernel)) <| blk_nil
theorem bX16_isAlike_82 : Blk CP mX16_isAlike 82 45 [oInc 6 1, .inl (fun s => some s)] := blk_c (s_iinc dX16_isAlike_82 (by decide +kernel) (by decide)) <| blk_c (s_goto (tgt := 45) dX16_isAlike_85 (by decide)) <| blk_nil
theorem bX16_isAlike_88 : Blk CP mX16_isAlike 88 3 [oInc 4 1, .inl (fun s => some s)] := blk_c (s_iinc dX16_isAlike_88 (by decide +kernel) (by decide)) <| blk_c (s_goto (tgt := 3) dX16_isAlike_91 (by decide)) <| blk_nil
theorem bX16_isAlike_94 : Blk CP mX16_isAlike 94 95 [oC (nI 1)] := blk_c (s_iconst dX16_isAlike_94 (by decide +kernel)) <| blk_nil
theorem ok_snAlike (hi : i < E 0) (hj : j < E 0) {p t : Nat} (hp : p < 8) (ht : t ≤ 40) : RCc X mX16_isAlike 0 0 [.ref (ad (100 + 3 * i)), .ref (ad (100 + 3 * j)), .int (nI p), .int (nI t)] (ad, A, B, sk, sw, E) (fun r x' => r = some (.int (b2 (alA A i j p t))) ∧ x' = (ad, A, B, sk, sw, E)) := by
  refine C_start (L := [some (.ref (ad (100 + 3 * i))), some (.ref (ad (100 + 3 * j))), some (.int (nI p)), some (.int (nI t)), none, none, none]) 3 rfl ?_
  refine bX16_isAlike_0.go rfl trivial ?_
  generalize hRR : alA A i j p t = RR
  have no : ∀ m, m < t → (decide (A (102 + 3 * i) (40 * p + m) = A (102 + 3 * j) (40 * p + m)) && allN (fun c => !bitI (A (102 + 3 * i) (40 * p + m)) c || decide (A (101 + 3 * i) (41 * c + m) = A (101 + 3 * j) (41 * c + m))) 4) = false → RR = false := fun m hm hf => by rw [← hRR]; exact allN_false hm hf
  refine loop_down (N := t) (I := fun t' => ∀ m, m < t' → (decide (A (102 + 3 * i) (40 * p + m) = A (102 + 3 * j) (40 * p + m)) && allN (fun c => !bitI (A (102 + 3 * i) (40 * p + m)) c || decide (A (101 + 3 * i) (41 * c + m) = A (101 + 3 * j) (41 * c + m))) 4) = true) (P := fun t' => ∀ o5 o6, JS CP X mX16_isAlike (rmOf mX16_isAlike.lv 0 0) (ZC X 0 0 (fun r x' => r = some (.int (b2 RR)) ∧ x' = (ad, A, B, sk, sw, E))) 0 0 3 [some (.ref (ad (100 + 3 * i))), some (.ref (ad (100 + 3 * j))), some (.int (nI p)), some (.int (nI t)), some (.int (nI t')), o5, o6] [] (ad, A, B, sk, sw, E)) ?_ ?_ 0 (by omega) (fun m hm => absurd hm (Nat.not_lt_zero _)) none none
  · intro hI o5 o6
    refine bX16_isAlike_3.go rfl trivial ?_
    refine j_icmp_ge (tgt := 94) dX16_isAlike_6 (by decide) (fun _ => ?_) (fun q => absurd (nI_le (Nat.le_refl _) (by omega)) q)
    refine bX16_isAlike_94.go rfl trivial ?_
    have : RR = true := by rw [← hRR]; exact allN_true.mpr hI
    exact c_zret dX16_isAlike_95 rfl rfl ⟨by rw [this]; rfl, rfl⟩
  · intro t' ht' hI ih o5 o6
    refine bX16_isAlike_3.go rfl trivial ?_
    refine j_icmp_ge (tgt := 94) dX16_isAlike_6 (by decide) (fun q => ?_) (fun _ => ?_)
    · rw [nI_leI (by omega) (by omega)] at q; omega
    refine bX16_isAlike_9.go rfl trivial ?_
    refine js_snL hi q1366 dX16_isAlike_10 ?_
    refine bX16_isAlike_13.go rfl trivial ?_
    rw [pk_mul, nI_add]
    refine js_bld (arrS2 hi) (by omega) (by decide) dX16_isAlike_20 ?_
    refine bX16_isAlike_21.go rfl trivial ?_
    refine js_snL hj q1366 dX16_isAlike_26 ?_
    refine bX16_isAlike_29.go rfl trivial ?_
    rw [pk_mul, nI_add]
    refine js_bld (arrS2 hj) (by omega) (by decide) dX16_isAlike_36 ?_
    refine j_icmp_eq (tgt := 42) dX16_isAlike_37 (by decide) (fun q => ?_) (fun q => ?_)
    · refine bX16_isAlike_42.go rfl trivial ?_
      refine loop_down (N := 4) (I := fun c => ∀ d, d < c → (!bitI (A (102 + 3 * i) (40 * p + t')) d || decide (A (101 + 3 * i) (41 * d + t') = A (101 + 3 * j) (41 * d + t'))) = true) (P := fun c => JS CP X mX16_isAlike (rmOf mX16_isAlike.lv 0 0) (ZC X 0 0 (fun r x' => r = some (.int (b2 RR)) ∧ x' = (ad, A, B, sk, sw, E))) 0 0 45 [some (.ref (ad (100 + 3 * i))), some (.ref (ad (100 + 3 * j))), some (.int (nI p)), some (.int (nI t)), some (.int (nI t')), some (.int (A (102 + 3 * i) (40 * p + t'))), some (.int (nI c))] [] (ad, A, B, sk, sw, E)) ?_ ?_ 0 (by omega) (fun m hm => absurd hm (Nat.not_lt_zero _))
      · intro hJ
        refine bX16_isAlike_45.go rfl trivial ?_
        refine j_icmp_ge (tgt := 88) dX16_isAlike_48 (by decide) (fun _ => ?_) (fun q => absurd (nI_le (Nat.le_refl _) (by omega)) q)
        refine bX16_isAlike_88.go rfl trivial ?_
        rw [nI_1]
        refine ih (fun m hm => ?_) _ _
        by_cases e : m = t'
        · subst e; rw [decide_eq_true q, Bool.true_and]; exact allN_true.mpr hJ
        · exact hI m (by omega)
      · intro c hc hJ ih2
        have nx : (!bitI (A (102 + 3 * i) (40 * p + t')) c || decide (A (101 + 3 * i) (41 * c + t') = A (101 + 3 * j) (41 * c + t'))) = true → JS CP X mX16_isAlike (rmOf mX16_isAlike.lv 0 0) (ZC X 0 0 (fun r x' => r = some (.int (b2 RR)) ∧ x' = (ad, A, B, sk, sw, E))) 0 0 82 [some (.ref (ad (100 + 3 * i))), some (.ref (ad (100 + 3 * j))), some (.int (nI p)), some (.int (nI t)), some (.int (nI t')), some (.int (A (102 + 3 * i) (40 * p + t'))), some (.int (nI c))] [] (ad, A, B, sk, sw, E) := by
          intro hh
          refine bX16_isAlike_82.go rfl trivial ?_
          rw [nI_1]
          refine ih2 (fun d hd => ?_)
          by_cases e : d = c
          · subst e; exact hh
          · exact hJ d (by omega)
        refine bX16_isAlike_45.go rfl trivial ?_
        refine j_icmp_ge (tgt := 88) dX16_isAlike_48 (by decide) (fun q => ?_) (fun _ => ?_)
        · rw [nI_leI (by omega) (by omega)] at q; omega
        refine bX16_isAlike_51.go rfl ⟨trivial, trivial⟩ ?_
        rw [show fOn (A (102 + 3 * i) (40 * p + t')) (nI c) = b2 (bitI (A (102 + 3 * i) (40 * p + t')) c) from rfl]
        refine j_if_eq (tgt := 82) dX16_isAlike_58 (by decide) (fun z => nx (by rw [(b2_0 _).mp z]; rfl)) (fun z => ?_)
        rw [b2_n0] at z
        refine bX16_isAlike_61.go rfl trivial ?_
        refine cc0 (M' := mX16_shows) (nA := 2) (As := [.int (nI c), .int (nI t')]) (ok_snShows hi hc (by omega)) (recS hi) rfl (lw_V q1449 q1391 q1392 q163 q1393) dX16_isAlike_66 rfl (fun r x' q => ?_) hy_X16_shows
        obtain ⟨rfl, rfl⟩ := q
        refine bX16_isAlike_69.go rfl trivial ?_
        refine cc0 (M' := mX16_shows) (nA := 2) (As := [.int (nI c), .int (nI t')]) (ok_snShows hj hc (by omega)) (recS hj) rfl (lw_V q1449 q1391 q1392 q163 q1393) dX16_isAlike_74 rfl (fun r x' q => ?_) hy_X16_shows
        obtain ⟨rfl, rfl⟩ := q
        refine j_icmp_eq (tgt := 82) dX16_isAlike_77 (by decide) (fun y => nx (by rw [decide_eq_true y, Bool.or_true])) (fun y => ?_)
        refine bX16_isAlike_80.go rfl trivial ?_
        have : RR = false := no t' ht' (by rw [allN_false hc (by rw [z, decide_eq_false y]; rfl), Bool.and_false])
        exact c_zret dX16_isAlike_81 rfl rfl ⟨by rw [this]; rfl, rfl⟩
    · refine bX16_isAlike_40.go rfl trivial ?_
      have : RR = false := no t' ht' (by rw [decide_eq_false q]; rfl)
      exact c_zret dX16_isAlike_41 rfl rfl ⟨by rw [this]; rfl, rfl⟩
/-! questions to all courses -/
theorem g_ret {a q : Int32} {x x' : Cv} (hd : decode M.cc pc = .ok (.ireturn, 1)) (hr : M.ret = some .int) (hv : a = q) (hk : Kp x x') (h1 : k ≤ 1000 := by omega) (h2 : n ≤ 70000 := by omega) : JS CP X M R (ZC X 1000 70000 (PubQ x q)) k n pc L [.int a] x' := c_iret hd hr ⟨by rw [hv], hk⟩ h1 h2
/-- a walk behind gathers -/
abbrev GJ (X : Cx) (M : MD) (x0 : Cv) (q : Int32) (pc : Nat) (L : List (Option Value)) (st : List Value) (x : Cv) : Prop := JS CP X M (rmOf M.lv 1000 70000) (ZC X 1000 70000 (PubQ x0 q)) (0 + 600) (0 + 64000) pc L st x
theorem gq (hM : WkM X mi) (hS : SX w v A sw) (hLI : LI E) {x0 : Cv} {q : Int32} (hG : GoodIn lw_all (wsV M.y.cls idx RX0 yX0_gathers (ws_ yX0_gathers cX0_gathers 2 (some .boolean)))) (hd : decode M.cc pc = .ok (.invokevirtual idx, 3)) (hR : 13 ≤ M.lv) (hst : wt8 st = true)
    (kk : ∀ ad' A' B' sk' sw' E', ad' 0 = ad 0 → Kp (ad, A, B, sk, sw, E) (ad', A', B', sk', sw', E') → SX w v A' sw' → (cnC w ≤ 128 → A' 0 6 = nI (cnC w) ∧ cnC w ≤ E' 0 ∧ LI E' ∧ CoC A' v w (cnC w)) → GJ X M x0 q (pc + 3) L (.int (b2 (decide (cnC w ≤ 128))) :: st) (ad', A', B', sk', sw', E')) : JS CP X M (rmOf M.lv 1000 70000) (ZC X 1000 70000 (PubQ x0 q)) 0 0 pc L (.ref (ad 0) :: st) (ad, A, B, sk, sw, E) := by
  refine ccm (M' := mX0_gathers) (nA := 0) (As := []) (mc := 600) (ms := 64000) (ok_gathers hM hS hLI) rec0 rfl hG hd rfl ⟨by show 0 + 600 ≤ 1000; omega, by show 0 + 64000 ≤ 70000; omega⟩ (fun r x' q => ?_) hy_X0_gathers rfl rfl ⟨hR, by decide⟩ hst
  obtain ⟨ad', A', B', sk', sw', E'⟩ := x'
  obtain ⟨rfl, h1, h2⟩ := q
  exact kk ad' A' B' sk' sw' E' (h1.1 0 (by decide) (by decide)) h1 (Kp.sx hS h1) h2
theorem bX0_courses_0 : Blk CP mX0_courses 0 7 [oAL 0, cQ0, qC_V 0 pTw fSqIs] := blk_c (s_aload_n dX0_courses_0 rfl) <| blk_c (cgX0_1 (Or.inl q557) dX0_courses_1) <| blk_c (q_C_V ok_sqIs (lw_V q1312 q1313 q1314 q133 q1315) hy_X2_is rfl (by decide) dX0_courses_4) <| blk_nil
theorem bX0_courses_10 : Blk CP mX0_courses 10 31 [oC (-2), .inl (fun s => some s)] := blk_c (s_bipush dX0_courses_10 (by decide +kernel)) <| blk_c (s_goto (tgt := 31) dX0_courses_12 (by decide)) <| blk_nil
theorem bX0_courses_15 : Blk CP mX0_courses 15 16 [oAL 0] := blk_c (s_aload_n dX0_courses_15 rfl) <| blk_nil
theorem bX0_courses_22 : Blk CP mX0_courses 22 31 [oAL 0, cI 0 6, .inl (fun s => some s)] := blk_c (s_aload_n dX0_courses_22 rfl) <| blk_c (cgX0_6 (Or.inl q562) dX0_courses_23) <| blk_c (s_goto (tgt := 31) dX0_courses_26 (by decide)) <| blk_nil
theorem bX0_courses_29 : Blk CP mX0_courses 29 31 [oC (-3)] := blk_c (s_bipush dX0_courses_29 (by decide +kernel)) <| blk_nil
theorem pb_courses (hM : WkM X mi) (hS : SW v A sw) (hLI : LI E) : RCc X mX0_courses 1000 70000 [.ref (ad 0)] (ad, A, B, sk, sw, E) (PubQ (ad, A, B, sk, sw, E) (q_courses (sw 0))) := by
  obtain ⟨-, hw, -, -⟩ := id hS
  refine C_start (L := [some (.ref (ad 0))]) 0 rfl ?_
  refine bX0_courses_0.go rfl ⟨rfl, ⟨⟨rfl, trivial⟩, sq0⟩, trivial⟩ ?_
  rw [hw.is]
  refine j_if_ne (tgt := 15) dX0_courses_7 (by decide) (fun h7 => ?_) (fun h7 => ?_)
  · rw [b2_n0] at h7
    refine bX0_courses_15.go rfl trivial ?_
    refine gq hM hS hLI ((lw_V q1355 q1357 qs46 q131 q1358)) dX0_courses_16 (by decide) rfl (fun ad' A' B' sk' sw' E' q0 hk hS' hC => ?_)
    refine j_if_eq (tgt := 29) dX0_courses_19 (by decide) (fun h19 => ?_) (fun h19 => ?_)
    · rw [b2_0, decide_eq_false_iff_not] at h19
      refine bX0_courses_29.go rfl trivial ?_
      exact g_ret dX0_courses_31 rfl (by rw [q_courses, if_pos h7, if_neg h19]) hk
    · rw [b2_n0, decide_eq_true_eq] at h19
      rw [← q0]
      refine bX0_courses_22.go rfl (by repeat' first | exact trivial | rfl | assumption | omega | apply And.intro) ?_
      exact g_ret dX0_courses_31 rfl (by rw [(hC h19).1, q_courses, if_pos h7, if_pos h19]) hk
  · rw [b2_0] at h7
    refine bX0_courses_10.go rfl trivial ?_
    exact x_ret dX0_courses_31 rfl (by rw [q_courses, h7]; rfl) KpX.rf
end Alike
