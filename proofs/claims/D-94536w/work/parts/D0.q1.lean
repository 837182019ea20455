set_option maxRecDepth 100000
/-! ===== UnseenClock: questions to the plain course ===== -/
/-- the list of courses has room -/
def LI (E : Nat → Nat) : Prop := E 0 ≤ 128 ∧ E 0 ≤ E 1 ∧ 16 ≤ E 1 ∧ E 1 < 1000
/-- what a question keeps -/
def Kp (x x' : Cv) : Prop := (∀ k, k < 100 → k ≠ 8 → x'.1 k = x.1 k) ∧ (∀ j, j = 2 ∨ j = 6 ∨ (10 ≤ j ∧ j < 24) → x'.2.1 j = x.2.1 j) ∧ (∀ q, q ≠ 6 → x'.2.1 0 q = x.2.1 0 q) ∧ (∀ j, 10 ≤ j → j < 24 → x'.2.2.1 j = x.2.2.1 j) ∧ (∀ j, j ≠ 1 → x'.2.2.2.1 j = x.2.2.2.1 j) ∧ (∀ j, j ≠ 1 → x'.2.2.2.2.1 j = x.2.2.2.2.1 j) ∧ (∀ q, 2 ≤ q → q < 20 → x'.2.2.2.2.2 q = x.2.2.2.2.2 q) ∧ (LI x.2.2.2.2.2 → LI x'.2.2.2.2.2)
abbrev PubQ (x : Cv) (q : Int32) : Option Value → Cv → Prop := fun r x' => r = some (.int q) ∧ Kp x x'
section Q1
variable {X : Cx} {M M' : MD} {R : Room} {Z : ZT} {k n pc idx : Nat} {L : List (Option Value)} {st As : List Value} {ad : Nat → Nat} {A A' : Nat → Nat → Int32} {B B' : Nat → Nat → Int64} {sk sk' : Nat → Nat → Nat} {sw sw' : Nat → Nat → Int32} {E E' : Nat → Nat} {v : Nat → Nat}
theorem KpX.kp (h : KpX A B sk sw E A' B' sk' sw' E') : Kp (ad, A, B, sk, sw, E) (ad, A', B', sk', sw', E') := by
  obtain ⟨a, b, c, d, e⟩ := h
  refine ⟨fun _ _ _ => rfl, fun j hj => a j (by omega) (by omega), fun q _ => by show A' 0 q = A 0 q; rw [a 0 (by decide) (by omega)], fun j _ _ => b j (by omega), c, d, fun q h1 h2 => e q (by omega), fun hl => ?_⟩
  show LI E'
  unfold LI
  rw [e 0 (by decide), e 1 (by decide)]; exact hl
theorem x_ret {a q : Int32} (hd : decode M.cc pc = .ok (.ireturn, 1)) (hr : M.ret = some .int) (hv : a = q) (hk : KpX A B sk sw E A' B' sk' sw' E') : JS CP X M R (ZC X 1000 70000 (PubQ (ad, A, B, sk, sw, E) q)) 0 0 pc L [.int a] (ad, A', B', sk', sw', E') := c_iret hd hr ⟨by rw [hv], hk.kp⟩
/-- the world row, by itself -/
abbrev SW (v : Nat → Nat) (A : Nat → Nat → Int32) (sw : Nat → Nat → Int32) : Prop := SX (sw 0) v A sw
theorem bX0_shows_0 : Blk CP mX0_shows 0 6 [oAL 0, oIL 1, oI2L, cF_J F_isClockC] := blk_c (s_aload_n dX0_shows_0 rfl) <| blk_c (s_iload_n dX0_shows_1 rfl) <| blk_c (s_i2l dX0_shows_2) <| blk_c (c_F_J ok_isClockC (ci := 0) rfl (lw_V q1146 q1148 qs31 q131 q1149) hy_X0_isClock rfl (by decide) dX0_shows_3) <| blk_nil
theorem bX0_shows_9 : Blk CP mX0_shows 9 15 [oAL 0, oIL 2, oI2L, cF_J F_isMomentC] := blk_c (s_aload_n dX0_shows_9 rfl) <| blk_c (s_iload_n dX0_shows_10 rfl) <| blk_c (s_i2l dX0_shows_11) <| blk_c (c_F_J ok_isMomentC (ci := 0) rfl (lw_V q1308 q1310 qs43 q131 q1311) hy_X0_isMoment rfl (by decide) dX0_shows_12) <| blk_nil
theorem bX0_shows_18 : Blk CP mX0_shows 18 19 [oAL 0] := blk_c (s_aload_n dX0_shows_18 rfl) <| blk_nil
theorem bX0_shows_22 : Blk CP mX0_shows 22 34 [cR 3 1 31, oIL 1, cW 31 60 4, oIL 2, cWI 60 4 41 1, .inl (fun s => some s)] := blk_c (cgX3_1 (Or.inr ⟨_, nq490⟩) dX0_shows_22) <| blk_c (s_iload_n dX0_shows_25 rfl) <| blk_c (c_W (t := 8) (ty := .int) (fun _ => rfl) (fun _ _ _ _ _ _ => rfl) dX0_shows_26) <| blk_c (s_iload_n dX0_shows_27 rfl) <| blk_c (c_wiald ar_shows dX0_shows_28) <| blk_c (s_goto (tgt := 34) dX0_shows_29 (by decide)) <| blk_nil
theorem bX0_shows_32 : Blk CP mX0_shows 32 34 [oC (-2)] := blk_c (s_bipush dX0_shows_32 (by decide +kernel)) <| blk_nil
theorem pb_shows (hS : SW v A sw) {c m : Int32} : RCc X mX0_shows 1000 70000 [.ref (ad 0), .int c, .int m] (ad, A, B, sk, sw, E) (PubQ (ad, A, B, sk, sw, E) (q_shows (sw 0) c m)) := by
  obtain ⟨-, hw, e7, ep⟩ := id hS
  have h4 := hw.nc4
  have h40 := hw.sp40
  refine C_start (L := [some (.ref (ad 0)), some (.int c), some (.int m)]) 0 rfl ?_
  refine bX0_shows_0.go rfl ⟨⟨rfl, v, hw⟩, trivial⟩ ?_
  rw [clL_i]
  refine j_if_eq (tgt := 32) dX0_shows_6 (by decide) (fun h6 => ?_) (fun h6 => ?_)
  · rw [b2_0] at h6
    refine bX0_shows_32.go rfl trivial ?_
    exact x_ret dX0_shows_34 rfl (by rw [q_shows, h6]; rfl) KpX.rf
  · rw [b2_n0] at h6
    refine bX0_shows_9.go rfl ⟨⟨rfl, v, hw⟩, trivial⟩ ?_
    rw [tmL_i]
    refine j_if_eq (tgt := 32) dX0_shows_15 (by decide) (fun h15 => ?_) (fun h15 => ?_)
    · rw [b2_0] at h15
      refine bX0_shows_32.go rfl trivial ?_
      exact x_ret dX0_shows_34 rfl (by rw [q_shows, h15, Bool.and_false]; rfl) KpX.rf
    · rw [b2_n0] at h15
      obtain ⟨c, hc, rfl⟩ := hw.cOf h6
      obtain ⟨m, hm, rfl⟩ := hw.tOf h15
      refine bX0_shows_18.go rfl trivial ?_
      refine xq (M' := mX0_plain) (As := []) (nA := 0) (ok_plainC hS) rec0 rfl (lw_V q1184 q1186 qs34 q131 q1187) dX0_shows_19 rfl hy_X0_plain (fun r A1 B1 sk1 sw1 E1 k1 q1 => ?_)
      obtain ⟨rfl, q1, -, -⟩ := q1
      refine bX0_shows_22.go rfl (by (try simp (disch := omega) only [nI_add, pk_mul, pk_sub, nI_clamp, vpI]); repeat' first | exact trivial | rfl | assumption | omega | apply And.intro) ?_
      refine x_ret dX0_shows_34 rfl ?_ k1
      simp (disch := omega) only [nI_clamp]
      rw [q1.2.2.2.2.1 m hm c hc, q_shows, h6, h15, nI_clamp (by omega), nI_clamp (by omega)]
      rfl
theorem bX0_at_0 : Blk CP mX0_at 0 5 [oAL 0, oIL 1, cF_I F_isPersonC] := blk_c (s_aload_n dX0_at_0 rfl) <| blk_c (s_iload_n dX0_at_1 rfl) <| blk_c (c_F_I ok_isPersonC (ci := 0) rfl (lw_V q1127 q1129 qs28 q131 q1130) hy_X0_isPerson rfl (by decide) dX0_at_2) <| blk_nil
theorem bX0_at_8 : Blk CP mX0_at 8 13 [oAL 0, oIL 2, cF_I F_isMinuteC] := blk_c (s_aload_n dX0_at_8 rfl) <| blk_c (s_iload_n dX0_at_9 rfl) <| blk_c (c_F_I ok_isMinuteC (ci := 0) rfl (lw_V q1135 q1137 qs30 q131 q1138) hy_X0_isMinute rfl (by decide) dX0_at_10) <| blk_nil
theorem bX0_at_16 : Blk CP mX0_at 16 18 [oC (-2)] := blk_c (s_bipush dX0_at_16 (by decide +kernel)) <| blk_nil
theorem bX0_at_19 : Blk CP mX0_at 19 27 [oAL 0, cI 0 3, oIL 1, oS_II pT2 fOn] := blk_c (s_aload_n dX0_at_19 rfl) <| blk_c (cgX0_3 (Or.inl q559) dX0_at_20) <| blk_c (s_iload_n dX0_at_23 rfl) <| blk_c (s_S_II ok_sX0_isOn (fun _ _ _ h => h.1.1) (Or.inl (lw_S q1139 q1140 q131 q1141)) hy_X0_isOn (by decide) dX0_at_24) <| blk_nil
theorem bX0_at_30 : Blk CP mX0_at 30 45 [oC (-1), .inl (fun s => some s)] := blk_c (s_iconst dX0_at_30 (by decide +kernel)) <| blk_c (s_goto (tgt := 45) dX0_at_31 (by decide)) <| blk_nil
theorem bX0_at_34 : Blk CP mX0_at 34 45 [oAL 0, cQ0, qR 0 3 4, oIL 1, qCl 0, oIL 2, qCe 0 1] := blk_c (s_aload_n dX0_at_34 rfl) <| blk_c (cgX0_1 (Or.inl q557) dX0_at_35) <| blk_c (q_R (by decide) (fun _ _ => rfl) (Or.inr ⟨_, nq437⟩) dX0_at_38) <| blk_c (s_iload_n dX0_at_41 rfl) <| blk_c (q_Cl dX0_at_42) <| blk_c (s_iload_n dX0_at_43 rfl) <| blk_c (q_Ce dX0_at_44) <| blk_nil
theorem pb_at (hS : SW v A sw) {p m : Int32} : RCc X mX0_at 1000 70000 [.ref (ad 0), .int p, .int m] (ad, A, B, sk, sw, E) (PubQ (ad, A, B, sk, sw, E) (q_at (sw 0) p m)) := by
  obtain ⟨-, hw, e7, ep⟩ := id hS
  have h8 := hw.np8
  have h40 := hw.sp40
  have npE := hw.npE
  have spE := hw.span
  refine C_start (L := [some (.ref (ad 0)), some (.int p), some (.int m)]) 0 rfl ?_
  refine bX0_at_0.go rfl ⟨⟨rfl, v, hw⟩, trivial⟩ ?_
  refine j_if_eq (tgt := 16) dX0_at_5 (by decide) (fun h5 => ?_) (fun h5 => ?_)
  · rw [b2_0] at h5
    refine bX0_at_16.go rfl trivial ?_
    exact x_ret dX0_at_18 rfl (by rw [q_at, h5]; rfl) KpX.rf
  · rw [b2_n0] at h5
    refine bX0_at_8.go rfl ⟨rfl, trivial⟩ ?_
    refine j_if_ne (tgt := 19) dX0_at_13 (by decide) (fun h13 => ?_) (fun h13 => ?_)
    · rw [b2_n0] at h13
      obtain ⟨p, hp, rfl⟩ := hw.pOf h5
      obtain ⟨m, hm, rfl⟩ := hw.mOf h13
      have hq : q_at (sw 0) (nI p) (nI m) = if thrB (sw 0) p m = true then eX (spotF (sw 0) p m) + nI 100 * eY (spotF (sw 0) p m) else -1 := by
        rw [q_at, h5, h13, nI_clamp (by omega), nI_clamp (by omega)]; rfl
      refine bX0_at_19.go rfl ⟨rfl, trivial, trivial⟩ ?_
      rw [e7]
      refine j_if_eq (tgt := 34) dX0_at_27 (by decide) (fun h27 => ?_) (fun h27 => ?_)
      · rw [fOn, b2_0] at h27
        refine bX0_at_34.go rfl (by simp (disch := omega) only [nI_clamp, vpI, npE, spE]; (repeat' first | exact trivial | rfl | exact sq0 | omega | apply And.intro)) ?_
        simp (disch := omega) only [nI_clamp]
        refine x_ret dX0_at_45 rfl ?_ KpX.rf
        rw [hq, thrB, show bitI (sw 0 7) p = false from h27]
        cases e : spotF (sw 0) p m with
        | none => rfl
        | some q => rfl
      · rw [fOn, b2_n0] at h27
        refine bX0_at_30.go rfl trivial ?_
        refine x_ret dX0_at_45 rfl ?_ KpX.rf
        rw [hq, thrB, show bitI (sw 0 7) p = true from h27]; rfl
    · rw [b2_0] at h13
      refine bX0_at_16.go rfl trivial ?_
      exact x_ret dX0_at_18 rfl (by rw [q_at, h13, Bool.and_false]; rfl) KpX.rf
theorem bX0_sees_0 : Blk CP mX0_sees 0 5 [oAL 0, oIL 1, cF_I F_isPersonC] := blk_c (s_aload_n dX0_sees_0 rfl) <| blk_c (s_iload_n dX0_sees_1 rfl) <| blk_c (c_F_I ok_isPersonC (ci := 0) rfl (lw_V q1127 q1129 qs28 q131 q1130) hy_X0_isPerson rfl (by decide) dX0_sees_2) <| blk_nil
theorem bX0_sees_8 : Blk CP mX0_sees 8 14 [oAL 0, oIL 2, oI2L, cF_J F_isClockC] := blk_c (s_aload_n dX0_sees_8 rfl) <| blk_c (s_iload_n dX0_sees_9 rfl) <| blk_c (s_i2l dX0_sees_10) <| blk_c (c_F_J ok_isClockC (ci := 0) rfl (lw_V q1146 q1148 qs31 q131 q1149) hy_X0_isClock rfl (by decide) dX0_sees_11) <| blk_nil
theorem bX0_sees_17 : Blk CP mX0_sees 17 22 [oAL 0, oIL 3, cF_I F_isMinuteC] := blk_c (s_aload_n dX0_sees_17 rfl) <| blk_c (s_iload_n dX0_sees_18 rfl) <| blk_c (c_F_I ok_isMinuteC (ci := 0) rfl (lw_V q1135 q1137 qs30 q131 q1138) hy_X0_isMinute rfl (by decide) dX0_sees_19) <| blk_nil
theorem bX0_sees_25 : Blk CP mX0_sees 25 27 [oC (-2)] := blk_c (s_bipush dX0_sees_25 (by decide +kernel)) <| blk_nil
theorem bX0_sees_28 : Blk CP mX0_sees 28 44 [oAL 0, cR 0 4 3, oAL 0, cQ0, oAL 0, cR 0 2 2, oAL 0, cI 0 3] := blk_c (s_aload_n dX0_sees_28 rfl) <| blk_c (cgX0_4 (Or.inl q560) dX0_sees_29) <| blk_c (s_aload_n dX0_sees_32 rfl) <| blk_c (cgX0_1 (Or.inl q557) dX0_sees_33) <| blk_c (s_aload_n dX0_sees_36 rfl) <| blk_c (cgX0_2 (Or.inl q558) dX0_sees_37) <| blk_c (s_aload_n dX0_sees_40 rfl) <| blk_c (cgX0_3 (Or.inl q559) dX0_sees_41) <| blk_nil
theorem bX0_sees_47 : Blk CP mX0_sees 47 57 [oAL 0, cR 0 4 3, oIL 1, oIL 2, oIL 3, cF_III F_seesC] := blk_c (s_aload_n dX0_sees_47 rfl) <| blk_c (cgX0_4 (Or.inl q560) dX0_sees_48) <| blk_c (s_iload_n dX0_sees_51 rfl) <| blk_c (s_iload_n dX0_sees_52 rfl) <| blk_c (s_iload_n dX0_sees_53 rfl) <| blk_c (c_F_III ok_seesC (ci := 3) rfl (lw_V q1160 q1161 q1162 q137 q1163) hy_X3_sees rfl (by decide) dX0_sees_54) <| blk_nil
theorem bX0_sees_60 : Blk CP mX0_sees 60 65 [oC (nI 1), .inl (fun s => some s)] := blk_c (s_iconst dX0_sees_60 (by decide +kernel)) <| blk_c (s_goto (tgt := 65) dX0_sees_61 (by decide)) <| blk_nil
theorem bX0_sees_64 : Blk CP mX0_sees 64 65 [oC (nI 0)] := blk_c (s_iconst dX0_sees_64 (by decide +kernel)) <| blk_nil
theorem pb_sees (hS : SW v A sw) {p c m : Int32} : RCc X mX0_sees 1000 70000 [.ref (ad 0), .int p, .int c, .int m] (ad, A, B, sk, sw, E) (PubQ (ad, A, B, sk, sw, E) (q_sees (sw 0) p c m)) := by
  obtain ⟨-, hw, e7, ep⟩ := id hS
  have h8 := hw.np8
  have h4 := hw.nc4
  have h40 := hw.sp40
  refine C_start (L := [some (.ref (ad 0)), some (.int p), some (.int c), some (.int m)]) 0 rfl ?_
  have no : (pB (sw 0) p && (cB (sw 0) c && mB (sw 0) m)) = false → JS CP X mX0_sees (rmOf mX0_sees.lv 1000 70000) (ZC X 1000 70000 (PubQ (ad, A, B, sk, sw, E) (q_sees (sw 0) p c m))) 0 0 25 [some (.ref (ad 0)), some (.int p), some (.int c), some (.int m)] [] (ad, A, B, sk, sw, E) := by
    intro hz
    refine bX0_sees_25.go rfl trivial ?_
    exact x_ret dX0_sees_27 rfl (by rw [q_sees, hz]; rfl) KpX.rf
  refine bX0_sees_0.go rfl ⟨⟨rfl, v, hw⟩, trivial⟩ ?_
  refine j_if_eq (tgt := 25) dX0_sees_5 (by decide) (fun h5 => no (by rw [(b2_0 _).mp h5]; rfl)) (fun h5 => ?_)
  rw [b2_n0] at h5
  refine bX0_sees_8.go rfl ⟨⟨rfl, v, hw⟩, trivial⟩ ?_
  rw [clL_i]
  refine j_if_eq (tgt := 25) dX0_sees_14 (by decide) (fun h14 => no (by rw [(b2_0 _).mp h14]; simp)) (fun h14 => ?_)
  rw [b2_n0] at h14
  refine bX0_sees_17.go rfl ⟨rfl, trivial⟩ ?_
  refine j_if_ne (tgt := 28) dX0_sees_22 (by decide) (fun h22 => ?_) (fun h22 => no (by rw [(b2_0 _).mp h22]; simp))
  rw [b2_n0] at h22
  obtain ⟨p, hp, rfl⟩ := hw.pOf h5
  obtain ⟨c, hc, rfl⟩ := hw.cOf h14
  obtain ⟨m, hm, rfl⟩ := hw.mOf h22
  have hq : q_sees (sw 0) (nI p) (nI c) (nI m) = b2 (seeB (sw 0) p c m) := by
    rw [q_sees, h5, h14, h22, nI_clamp (by omega), nI_clamp (by omega), nI_clamp (by omega)]; rfl
  refine bX0_sees_28.go rfl (by repeat' first | exact trivial | rfl | assumption | omega | apply And.intro) ?_
  refine js_begins (w1 := sw 0) hw (SqEq.rf _) (lw_V q1154 q1155 q1156 q137 q1157) dX0_sees_44 (by decide) rfl (fun A1 sk1 sw1 E1 k1 b1 e1 s1 => ?_)
  refine bX0_sees_47.go rfl ⟨rfl, ⟨rfl, v, p, c, m, b1.cro s1 e1 hw e7.symm ep, hp, hc, hm, rfl, rfl, rfl⟩, trivial⟩ ?_
  simp (disch := omega) only [nI_clamp, e1]
  refine j_if_eq (tgt := 64) dX0_sees_57 (by decide) (fun h57 => ?_) (fun h57 => ?_)
  · rw [b2_0] at h57
    refine bX0_sees_64.go rfl trivial ?_
    exact x_ret dX0_sees_65 rfl (by rw [hq, h57]; rfl) k1
  · rw [b2_n0] at h57
    refine bX0_sees_60.go rfl trivial ?_
    exact x_ret dX0_sees_65 rfl (by rw [hq, h57]; rfl) k1
theorem eyes_e {w : Nat → Int32} {c m : Nat} {f : Nat → Int32} : ∀ n, (∀ p, p < n → f p = minL (cfP w) m (rsP w m) p) → eyN f (nI c) n = eyesN w c m n := by
  intro n
  induction n with
  | zero => intro _; rfl
  | succ n ih =>
    intro h
    have := ih (fun p hp => h p (by omega))
    simp only [eyN, sumI, eyesN] at this ⊢
    rw [this, h n (by omega), bitI_v]
theorem bX0_eyes_0 : Blk CP mX0_eyes 0 6 [oAL 0, oIL 1, oI2L, cF_J F_isClockC] := blk_c (s_aload_n dX0_eyes_0 rfl) <| blk_c (s_iload_n dX0_eyes_1 rfl) <| blk_c (s_i2l dX0_eyes_2) <| blk_c (c_F_J ok_isClockC (ci := 0) rfl (lw_V q1146 q1148 qs31 q131 q1149) hy_X0_isClock rfl (by decide) dX0_eyes_3) <| blk_nil
theorem bX0_eyes_9 : Blk CP mX0_eyes 9 14 [oAL 0, oIL 2, cF_I F_isMinuteC] := blk_c (s_aload_n dX0_eyes_9 rfl) <| blk_c (s_iload_n dX0_eyes_10 rfl) <| blk_c (c_F_I ok_isMinuteC (ci := 0) rfl (lw_V q1135 q1137 qs30 q131 q1138) hy_X0_isMinute rfl (by decide) dX0_eyes_11) <| blk_nil
theorem bX0_eyes_17 : Blk CP mX0_eyes 17 18 [oAL 0] := blk_c (s_aload_n dX0_eyes_17 rfl) <| blk_nil
theorem bX0_eyes_21 : Blk CP mX0_eyes 21 31 [oIL 1, oIL 2, cF_II F_eyesC, .inl (fun s => some s)] := blk_c (s_iload_n dX0_eyes_21 rfl) <| blk_c (s_iload_n dX0_eyes_22 rfl) <| blk_c (c_F_II ok_eyesC (ci := 3) rfl (lw_V q1303 q1296 q1297 q137 q1298) hy_X3_eyes rfl (by decide) dX0_eyes_23) <| blk_c (s_goto (tgt := 31) dX0_eyes_26 (by decide)) <| blk_nil
theorem bX0_eyes_29 : Blk CP mX0_eyes 29 31 [oC (-2)] := blk_c (s_bipush dX0_eyes_29 (by decide +kernel)) <| blk_nil
theorem pb_eyes (hS : SW v A sw) {c m : Int32} : RCc X mX0_eyes 1000 70000 [.ref (ad 0), .int c, .int m] (ad, A, B, sk, sw, E) (PubQ (ad, A, B, sk, sw, E) (q_eyes (sw 0) c m)) := by
  obtain ⟨-, hw, e7, ep⟩ := id hS
  have h4 := hw.nc4
  have h8 := hw.np8
  have h40 := hw.sp40
  have npE := hw.npE
  refine C_start (L := [some (.ref (ad 0)), some (.int c), some (.int m)]) 0 rfl ?_
  refine bX0_eyes_0.go rfl ⟨⟨rfl, v, hw⟩, trivial⟩ ?_
  rw [clL_i]
  refine j_if_eq (tgt := 29) dX0_eyes_6 (by decide) (fun h6 => ?_) (fun h6 => ?_)
  · rw [b2_0] at h6
    refine bX0_eyes_29.go rfl trivial ?_
    exact x_ret dX0_eyes_31 rfl (by rw [q_eyes, h6]; rfl) KpX.rf
  · rw [b2_n0] at h6
    refine bX0_eyes_9.go rfl ⟨rfl, trivial⟩ ?_
    refine j_if_eq (tgt := 29) dX0_eyes_14 (by decide) (fun h14 => ?_) (fun h14 => ?_)
    · rw [b2_0] at h14
      refine bX0_eyes_29.go rfl trivial ?_
      exact x_ret dX0_eyes_31 rfl (by rw [q_eyes, h14, Bool.and_false]; rfl) KpX.rf
    · rw [b2_n0] at h14
      obtain ⟨c, hc, rfl⟩ := hw.cOf h6
      obtain ⟨m, hm, rfl⟩ := hw.mOf h14
      refine bX0_eyes_17.go rfl trivial ?_
      refine xq (M' := mX0_plain) (As := []) (nA := 0) (ok_plainC hS) rec0 rfl (lw_V q1184 q1186 qs34 q131 q1187) dX0_eyes_18 rfl hy_X0_plain (fun r A1 B1 sk1 sw1 E1 k1 q1 => ?_)
      obtain ⟨rfl, q1, e1, s1⟩ := q1
      refine bX0_eyes_21.go rfl ⟨⟨rfl, s1, m, by omega, by rw [e1, npE]; exact h8, rfl⟩, trivial⟩ ?_
      refine x_ret dX0_eyes_31 rfl ?_ k1
      simp (disch := omega) only [nI_clamp, e1]
      rw [q_eyes, h6, h14, nI_clamp (by omega), nI_clamp (by omega), npE]
      exact eyes_e (v 2) (fun p hp => q1.2.2.2.2.2.1 m hm p hp)
end Q1
