set_option maxRecDepth 100000
/-! ===== UnseenClockModel: the small methods ===== -/
theorem T_start {X : Cx} {M : MD} {av : List Value} {x y : Tau} {r : Option Value} {L : List (Option Value)} (pad : Nat) (hL : L = entL av ++ List.replicate pad none) (k : JS TP X M (rmOf M.lv 0 0) (TZ X r y) 0 0 0 L [] x) (hy : plainFor M.y = true := by first | exact plainFor_of_name (by decide) | decide +kernel) (hE : M.eh = noEH := by rfl) (hn : (lg_sl av).length ≤ M.nL := by exact Nat.le_of_ble_eq_true rfl) : ∀ h, TP X x h → Cg X M 0 0 av h (fun o h' => o = .returned r ∧ TP X y h') := fun h hp => Cg.of hy hE pad hL hn (k h hp)
def b2 (b : Bool) : Int32 := if b = true then nI 1 else nI 0
theorem b2_t {b : Bool} (h : b = true) : nI 1 = b2 b := by rw [h]; rfl
theorem b2_f {b : Bool} (h : b = false) : nI 0 = b2 b := by rw [h]; rfl
theorem b2_ne {b : Bool} (h : ¬ b = true) : nI 0 = b2 b := by rw [show b = false by cases b <;> simp_all]; rfl
theorem sv_int {a b : Int32} (h : a = b) : some (Value.int b) = some (Value.int a) := by rw [h]
theorem b2_z (b : Bool) : narrow .boolean (.int (b2 b)) = .int (b2 b) := by cases b <;> decide +kernel
theorem b2_0 (b : Bool) : b2 b = 0 ↔ b = false := by cases b <;> decide +kernel
theorem b2_n0 (b : Bool) : ¬ b2 b = 0 ↔ b = true := by cases b <;> decide +kernel
/-- a number lies between two -/
def inI (v lo hi : Int32) : Bool := decide (lo ≤ v) && decide (v ≤ hi)
theorem i2l_le (a b : Int32) : a.toInt64 ≤ b.toInt64 ↔ a ≤ b := by rw [Int64.le_iff_toInt_le, Int32.le_iff_toInt_le, Int32.toInt_toInt64, Int32.toInt_toInt64]
theorem in_i2l (v lo hi : Int32) : (decide (lo.toInt64 ≤ v.toInt64) && decide (v.toInt64 ≤ hi.toInt64)) = inI v lo hi := by simp only [inI, i2l_le]
def F_in (v lo hi : Int64) (x : Tau) : Prop × Option Value × Tau := (True, some (.int (b2 (decide (lo ≤ v) && decide (v ≤ hi)))), x)
theorem bX4_in_0 : Blk TP mX4_in 0 3 [oLL 0, oLL 2, oLcmp] := blk_c (s_lload_n dX4_in_0 rfl) <| blk_c (s_lload_n dX4_in_1 rfl) <| blk_c (s_lcmp dX4_in_2) <| blk_nil
theorem bX4_in_6 : Blk TP mX4_in 6 10 [oLL 0, oLL 4, oLcmp] := blk_c (s_lload_n dX4_in_6 rfl) <| blk_c (s_lload dX4_in_7) <| blk_c (s_lcmp dX4_in_9) <| blk_nil
theorem bX4_in_13 : Blk TP mX4_in 13 18 [oC (nI 1), .inl (fun s => some s)] := blk_c (s_iconst dX4_in_13 (by decide +kernel)) <| blk_c (s_goto (tgt := 18) dX4_in_14 (by decide)) <| blk_nil
theorem bX4_in_17 : Blk TP mX4_in 17 18 [oC (nI 0)] := blk_c (s_iconst dX4_in_17 (by decide +kernel)) <| blk_nil
theorem ok_in : TS_JJJ mX4_in F_in := by
  intro X v lo hi x P r y hF _
  cases hF
  refine T_start (L := [some (.long v), none, some (.long lo), none, some (.long hi), none]) 0 rfl ?_
  refine bX4_in_0.go rfl trivial ?_
  refine j_if_lt (tgt := 17) dX4_in_3 (by decide) (fun h3 => ?_) (fun h3 => ?_)
  · refine bX4_in_17.go rfl trivial ?_
    exact t_zret dX4_in_18 rfl (by first | rfl | exact sv_int (b2_t (by simp only [lg_cmp_lt, lg_cmp_gt, Int64.not_lt] at *; simp [*])) | exact sv_int (b2_ne (by simp only [lg_cmp_lt, lg_cmp_gt, ← Int64.not_lt, Bool.and_eq_true, decide_eq_true_eq] at *; simp [*, -Int64.not_lt]))) (by first | rfl | exact sv_int (b2_t (by simp only [lg_cmp_lt, lg_cmp_gt, Int64.not_lt] at *; simp [*])) | exact sv_int (b2_ne (by simp only [lg_cmp_lt, lg_cmp_gt, ← Int64.not_lt, Bool.and_eq_true, decide_eq_true_eq] at *; simp [*, -Int64.not_lt]))) (by first | rfl | exact sv_int (b2_t (by simp only [lg_cmp_lt, lg_cmp_gt, Int64.not_lt] at *; simp [*])) | exact sv_int (b2_ne (by simp only [lg_cmp_lt, lg_cmp_gt, ← Int64.not_lt, Bool.and_eq_true, decide_eq_true_eq] at *; simp [*, -Int64.not_lt])))
  · refine bX4_in_6.go rfl trivial ?_
    refine j_if_gt (tgt := 17) dX4_in_10 (by decide) (fun h10 => ?_) (fun h10 => ?_)
    · refine bX4_in_17.go rfl trivial ?_
      exact t_zret dX4_in_18 rfl (by first | rfl | exact sv_int (b2_t (by simp only [lg_cmp_lt, lg_cmp_gt, Int64.not_lt] at *; simp [*])) | exact sv_int (b2_ne (by simp only [lg_cmp_lt, lg_cmp_gt, ← Int64.not_lt, Bool.and_eq_true, decide_eq_true_eq] at *; simp [*, -Int64.not_lt]))) (by first | rfl | exact sv_int (b2_t (by simp only [lg_cmp_lt, lg_cmp_gt, Int64.not_lt] at *; simp [*])) | exact sv_int (b2_ne (by simp only [lg_cmp_lt, lg_cmp_gt, ← Int64.not_lt, Bool.and_eq_true, decide_eq_true_eq] at *; simp [*, -Int64.not_lt]))) (by first | rfl | exact sv_int (b2_t (by simp only [lg_cmp_lt, lg_cmp_gt, Int64.not_lt] at *; simp [*])) | exact sv_int (b2_ne (by simp only [lg_cmp_lt, lg_cmp_gt, ← Int64.not_lt, Bool.and_eq_true, decide_eq_true_eq] at *; simp [*, -Int64.not_lt])))
    · refine bX4_in_13.go rfl trivial ?_
      exact t_zret dX4_in_18 rfl (by first | rfl | exact sv_int (b2_t (by simp only [lg_cmp_lt, lg_cmp_gt, Int64.not_lt] at *; simp [*])) | exact sv_int (b2_ne (by simp only [lg_cmp_lt, lg_cmp_gt, ← Int64.not_lt, Bool.and_eq_true, decide_eq_true_eq] at *; simp [*, -Int64.not_lt]))) (by first | rfl | exact sv_int (b2_t (by simp only [lg_cmp_lt, lg_cmp_gt, Int64.not_lt] at *; simp [*])) | exact sv_int (b2_ne (by simp only [lg_cmp_lt, lg_cmp_gt, ← Int64.not_lt, Bool.and_eq_true, decide_eq_true_eq] at *; simp [*, -Int64.not_lt]))) (by first | rfl | exact sv_int (b2_t (by simp only [lg_cmp_lt, lg_cmp_gt, Int64.not_lt] at *; simp [*])) | exact sv_int (b2_ne (by simp only [lg_cmp_lt, lg_cmp_gt, ← Int64.not_lt, Bool.and_eq_true, decide_eq_true_eq] at *; simp [*, -Int64.not_lt])))
def F_isHour (a : Int32) (x : Tau) : Prop × Option Value × Tau := (True, some (.int (b2 (inI a (nI 0) (nI 59)))), x)
theorem bX4_isHour_0 : Blk TP mX4_isHour 0 9 [oIL 0, oI2L, oCL (lN 0), oCL (59), tS_JJJ F_in] := blk_c (s_iload_n dX4_isHour_0 rfl) <| blk_c (s_i2l dX4_isHour_1) <| blk_c (s_lconst dX4_isHour_2 (by decide +kernel)) <| blk_c (s_ldc2 dX4_isHour_3 q2066) <| blk_c (ts_JJJ ok_in gX4_in (by decide +kernel) (by decide) dX4_isHour_6) <| blk_nil
theorem ok_isHour : TS_I mX4_isHour F_isHour := by
  intro X a x P r y hF _
  cases hF
  refine T_start (L := [some (.int a)]) 0 rfl ?_
  refine bX4_isHour_0.go rfl (by exact ⟨trivial, trivial⟩) ?_
  exact t_zret dX4_isHour_9 rfl (by first | rfl | exact b2_z _ | (rw [← in_i2l]; rfl)) (by first | rfl | exact b2_z _ | (rw [← in_i2l]; rfl)) (by first | rfl | exact b2_z _ | (rw [← in_i2l]; rfl))
def F_isSquare : Tau → Prop × Option Value × Tau := fun (o, ad, A, B) => (True, some (.int (b2 (decide (0 < A 1 4)))), (o, ad, A, B))
theorem bX4_isSquare_0 : Blk TP mX4_isSquare 0 6 [oAL 0, tR 1, oC (nI 4), tAI 1 320] := blk_c (s_aload_n dX4_isSquare_0 rfl) <| blk_c (tgX4_1 rfl dX4_isSquare_1) <| blk_c (s_iconst dX4_isSquare_4 (by decide +kernel)) <| blk_c (t_iald rfl dX4_isSquare_5) <| blk_nil
theorem bX4_isSquare_9 : Blk TP mX4_isSquare 9 14 [oC (nI 1), .inl (fun s => some s)] := blk_c (s_iconst dX4_isSquare_9 (by decide +kernel)) <| blk_c (s_goto (tgt := 14) dX4_isSquare_10 (by decide)) <| blk_nil
theorem bX4_isSquare_13 : Blk TP mX4_isSquare 13 14 [oC (nI 0)] := blk_c (s_iconst dX4_isSquare_13 (by decide +kernel)) <| blk_nil
theorem ok_isSquare : TC_V mX4_isSquare F_isSquare := by
  intro X ⟨o, ad, A, B⟩ P r y hF _
  cases hF
  refine T_start (L := [some (.ref o)]) 0 rfl ?_
  refine bX4_isSquare_0.go rfl (by exact ⟨rfl, ⟨rfl, vp_in_nI (by decide) (by decide)⟩, trivial⟩) ?_
  refine j_if_le (tgt := 13) dX4_isSquare_6 (by decide) (fun h6 => ?_) (fun h6 => ?_)
  · refine bX4_isSquare_13.go rfl trivial ?_
    exact t_zret dX4_isSquare_14 rfl (by first | rfl | exact sv_int (b2_t (by simp only [← Int32.not_lt, Classical.not_not] at *; simp_all [nI_clamp, -Int32.not_lt])) | exact sv_int (b2_ne (by simp only [← Int32.not_lt] at *; simp_all [nI_clamp, -Int32.not_lt]))) (by first | rfl | exact sv_int (b2_t (by simp only [← Int32.not_lt, Classical.not_not] at *; simp_all [nI_clamp, -Int32.not_lt])) | exact sv_int (b2_ne (by simp only [← Int32.not_lt] at *; simp_all [nI_clamp, -Int32.not_lt]))) (by first | rfl | exact sv_int (b2_t (by simp only [← Int32.not_lt, Classical.not_not] at *; simp_all [nI_clamp, -Int32.not_lt])) | exact sv_int (b2_ne (by simp only [← Int32.not_lt] at *; simp_all [nI_clamp, -Int32.not_lt])))
  · refine bX4_isSquare_9.go rfl trivial ?_
    exact t_zret dX4_isSquare_14 rfl (by first | rfl | exact sv_int (b2_t (by simp only [← Int32.not_lt, Classical.not_not] at *; simp_all [nI_clamp, -Int32.not_lt])) | exact sv_int (b2_ne (by simp only [← Int32.not_lt] at *; simp_all [nI_clamp, -Int32.not_lt]))) (by first | rfl | exact sv_int (b2_t (by simp only [← Int32.not_lt, Classical.not_not] at *; simp_all [nI_clamp, -Int32.not_lt])) | exact sv_int (b2_ne (by simp only [← Int32.not_lt] at *; simp_all [nI_clamp, -Int32.not_lt]))) (by first | rfl | exact sv_int (b2_t (by simp only [← Int32.not_lt, Classical.not_not] at *; simp_all [nI_clamp, -Int32.not_lt])) | exact sv_int (b2_ne (by simp only [← Int32.not_lt] at *; simp_all [nI_clamp, -Int32.not_lt])))
def F_isClock (a : Int32) : Tau → Prop × Option Value × Tau := fun (o, ad, A, B) => (True, some (.int (b2 (inI a (nI 0) (A 1 1 - nI 1)))), (o, ad, A, B))
theorem bX4_isClock_0 : Blk TP mX4_isClock 0 15 [oIL 1, oI2L, oCL (lN 0), oAL 0, tR 1, oC (nI 1), tAI 1 320, oC (nI 1), oSub, oI2L, tS_JJJ F_in] := blk_c (s_iload_n dX4_isClock_0 rfl) <| blk_c (s_i2l dX4_isClock_1) <| blk_c (s_lconst dX4_isClock_2 (by decide +kernel)) <| blk_c (s_aload_n dX4_isClock_3 rfl) <| blk_c (tgX4_1 rfl dX4_isClock_4) <| blk_c (s_iconst dX4_isClock_7 (by decide +kernel)) <| blk_c (t_iald rfl dX4_isClock_8) <| blk_c (s_iconst dX4_isClock_9 (by decide +kernel)) <| blk_c (s_isub dX4_isClock_10) <| blk_c (s_i2l dX4_isClock_11) <| blk_c (ts_JJJ ok_in gX4_in (by decide +kernel) (by decide) dX4_isClock_12) <| blk_nil
theorem ok_isClock : TC_I mX4_isClock F_isClock := by
  intro X a ⟨o, ad, A, B⟩ P r y hF _
  cases hF
  refine T_start (L := [some (.ref o), some (.int a)]) 0 rfl ?_
  refine bX4_isClock_0.go rfl (by exact ⟨rfl, ⟨rfl, vp_in_nI (by decide) (by decide)⟩, trivial, trivial⟩) ?_
  exact t_zret dX4_isClock_15 rfl (by first | rfl | exact b2_z _ | (rw [← in_i2l]; rfl)) (by first | rfl | exact b2_z _ | (rw [← in_i2l]; rfl)) (by first | rfl | exact b2_z _ | (rw [← in_i2l]; rfl))
def F_isPerson (a : Int32) : Tau → Prop × Option Value × Tau := fun (o, ad, A, B) => (True, some (.int (b2 (inI a (nI 0) (A 1 2 - nI 1)))), (o, ad, A, B))
theorem bX4_isPerson_0 : Blk TP mX4_isPerson 0 15 [oIL 1, oI2L, oCL (lN 0), oAL 0, tR 1, oC (nI 2), tAI 1 320, oC (nI 1), oSub, oI2L, tS_JJJ F_in] := blk_c (s_iload_n dX4_isPerson_0 rfl) <| blk_c (s_i2l dX4_isPerson_1) <| blk_c (s_lconst dX4_isPerson_2 (by decide +kernel)) <| blk_c (s_aload_n dX4_isPerson_3 rfl) <| blk_c (tgX4_1 rfl dX4_isPerson_4) <| blk_c (s_iconst dX4_isPerson_7 (by decide +kernel)) <| blk_c (t_iald rfl dX4_isPerson_8) <| blk_c (s_iconst dX4_isPerson_9 (by decide +kernel)) <| blk_c (s_isub dX4_isPerson_10) <| blk_c (s_i2l dX4_isPerson_11) <| blk_c (ts_JJJ ok_in gX4_in (by decide +kernel) (by decide) dX4_isPerson_12) <| blk_nil
theorem ok_isPerson : TC_I mX4_isPerson F_isPerson := by
  intro X a ⟨o, ad, A, B⟩ P r y hF _
  cases hF
  refine T_start (L := [some (.ref o), some (.int a)]) 0 rfl ?_
  refine bX4_isPerson_0.go rfl (by exact ⟨rfl, ⟨rfl, vp_in_nI (by decide) (by decide)⟩, trivial, trivial⟩) ?_
  exact t_zret dX4_isPerson_15 rfl (by first | rfl | exact b2_z _ | (rw [← in_i2l]; rfl)) (by first | rfl | exact b2_z _ | (rw [← in_i2l]; rfl)) (by first | rfl | exact b2_z _ | (rw [← in_i2l]; rfl))
def F_isMinute (a : Int32) : Tau → Prop × Option Value × Tau := fun (o, ad, A, B) => (True, some (.int (b2 (inI a (nI 0) (A 1 6 - nI 1)))), (o, ad, A, B))
theorem bX4_isMinute_0 : Blk TP mX4_isMinute 0 16 [oIL 1, oI2L, oCL (lN 0), oAL 0, tR 1, oC (nI 6), tAI 1 320, oC (nI 1), oSub, oI2L, tS_JJJ F_in] := blk_c (s_iload_n dX4_isMinute_0 rfl) <| blk_c (s_i2l dX4_isMinute_1) <| blk_c (s_lconst dX4_isMinute_2 (by decide +kernel)) <| blk_c (s_aload_n dX4_isMinute_3 rfl) <| blk_c (tgX4_1 rfl dX4_isMinute_4) <| blk_c (s_bipush dX4_isMinute_7 (by decide +kernel)) <| blk_c (t_iald rfl dX4_isMinute_9) <| blk_c (s_iconst dX4_isMinute_10 (by decide +kernel)) <| blk_c (s_isub dX4_isMinute_11) <| blk_c (s_i2l dX4_isMinute_12) <| blk_c (ts_JJJ ok_in gX4_in (by decide +kernel) (by decide) dX4_isMinute_13) <| blk_nil
theorem ok_isMinute : TC_I mX4_isMinute F_isMinute := by
  intro X a ⟨o, ad, A, B⟩ P r y hF _
  cases hF
  refine T_start (L := [some (.ref o), some (.int a)]) 0 rfl ?_
  refine bX4_isMinute_0.go rfl (by exact ⟨rfl, ⟨rfl, vp_in_nI (by decide) (by decide)⟩, trivial, trivial⟩) ?_
  exact t_zret dX4_isMinute_16 rfl (by first | rfl | exact b2_z _ | (rw [← in_i2l]; rfl)) (by first | rfl | exact b2_z _ | (rw [← in_i2l]; rfl)) (by first | rfl | exact b2_z _ | (rw [← in_i2l]; rfl))
def F_isTime (a : Int32) : Tau → Prop × Option Value × Tau := fun (o, ad, A, B) => (True, some (.int (b2 (decide (0 < A 1 4) && inI a (nI 0) (A 1 6)))), (o, ad, A, B))
theorem bX4_isTime_0 : Blk TP mX4_isTime 0 4 [oAL 0, tC_V F_isSquare] := blk_c (s_aload_n dX4_isTime_0 rfl) <| blk_c (tc_V ok_isSquare gX4_isSquare (by decide +kernel) (by decide) dX4_isTime_1) <| blk_nil
theorem bX4_isTime_7 : Blk TP mX4_isTime 7 21 [oIL 1, oI2L, oCL (lN 0), oAL 0, tR 1, oC (nI 6), tAI 1 320, oI2L, tS_JJJ F_in] := blk_c (s_iload_n dX4_isTime_7 rfl) <| blk_c (s_i2l dX4_isTime_8) <| blk_c (s_lconst dX4_isTime_9 (by decide +kernel)) <| blk_c (s_aload_n dX4_isTime_10 rfl) <| blk_c (tgX4_1 rfl dX4_isTime_11) <| blk_c (s_bipush dX4_isTime_14 (by decide +kernel)) <| blk_c (t_iald rfl dX4_isTime_16) <| blk_c (s_i2l dX4_isTime_17) <| blk_c (ts_JJJ ok_in gX4_in (by decide +kernel) (by decide) dX4_isTime_18) <| blk_nil
theorem bX4_isTime_24 : Blk TP mX4_isTime 24 29 [oC (nI 1), .inl (fun s => some s)] := blk_c (s_iconst dX4_isTime_24 (by decide +kernel)) <| blk_c (s_goto (tgt := 29) dX4_isTime_25 (by decide)) <| blk_nil
theorem bX4_isTime_28 : Blk TP mX4_isTime 28 29 [oC (nI 0)] := blk_c (s_iconst dX4_isTime_28 (by decide +kernel)) <| blk_nil
theorem ok_isTime : TC_I mX4_isTime F_isTime := by
  intro X a ⟨o, ad, A, B⟩ P r y hF _
  cases hF
  refine T_start (L := [some (.ref o), some (.int a)]) 0 rfl ?_
  refine bX4_isTime_0.go rfl (by exact ⟨⟨rfl, trivial⟩, trivial⟩) ?_
  refine j_if_eq (tgt := 28) dX4_isTime_4 (by decide) (fun h4 => ?_) (fun h4 => ?_)
  · rw [b2_0] at h4
    refine bX4_isTime_28.go rfl trivial ?_
    exact t_zret dX4_isTime_29 rfl rfl (sv_int (b2_f (by simp [h4]))) rfl
  · rw [b2_n0] at h4
    refine bX4_isTime_7.go rfl (by exact ⟨rfl, ⟨rfl, vp_in_nI (by decide) (by decide)⟩, trivial, trivial⟩) ?_
    refine j_if_eq (tgt := 28) dX4_isTime_21 (by decide) (fun h21 => ?_) (fun h21 => ?_)
    · rw [b2_0, show lN 0 = (nI 0).toInt64 by decide +kernel, in_i2l] at h21
      refine bX4_isTime_28.go rfl trivial ?_
      exact t_zret dX4_isTime_29 rfl rfl (sv_int (b2_f (by simp [h4]; exact h21))) rfl
    · rw [b2_n0, show lN 0 = (nI 0).toInt64 by decide +kernel, in_i2l] at h21
      refine bX4_isTime_24.go rfl trivial ?_
      exact t_zret dX4_isTime_29 rfl rfl (sv_int (b2_t (by simp [h4]; exact h21))) rfl
