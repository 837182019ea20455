set_option maxRecDepth 100000
/-! ===== UnseenClockModel: see, good ===== -/
def seeI (T : Nat → Int32) (n k : Nat) : Int32 := if k < n then T k &&& nI 255 else -1
def F_see (k : Int32) : Tau → Prop × Option Value × Tau := fun (o, ad, A, B) => (∃ kn n, k = nI kn ∧ kn < 100000 ∧ A 0 7 = nI n ∧ n ≤ 2400, some (.int (seeI (A 4) (A 0 7).toNatClampNeg k.toNatClampNeg)), (o, ad, A, B))
theorem bX4_see_0 : Blk TP mX4_see 0 5 [oIL 1, oAL 0, tI 7] := blk_c (s_iload_n dX4_see_0 rfl) <| blk_c (s_aload_n dX4_see_1 rfl) <| blk_c (tgX4_7 rfl dX4_see_2) <| blk_nil
theorem bX4_see_8 : Blk TP mX4_see 8 22 [oAL 0, tR 4, oIL 1, tAI 4 2400, oC (nI 255), oAnd, .inl (fun s => some s)] := blk_c (s_aload_n dX4_see_8 rfl) <| blk_c (tgX4_4 rfl dX4_see_9) <| blk_c (s_iload_n dX4_see_12 rfl) <| blk_c (t_bald rfl dX4_see_13) <| blk_c (s_sipush dX4_see_14 (by decide +kernel)) <| blk_c (s_iand dX4_see_17) <| blk_c (s_goto (tgt := 22) dX4_see_18 (by decide)) <| blk_nil
theorem bX4_see_21 : Blk TP mX4_see 21 22 [oC (-1)] := blk_c (s_iconst dX4_see_21 (by decide +kernel)) <| blk_nil
theorem ok_see : TC_I mX4_see F_see := by
  intro X k ⟨o, ad, A, B⟩ P r y hF hP
  cases hF
  obtain ⟨kn, n, rfl, hk, hn, hn2⟩ := hP
  refine T_start (L := [some (.ref o), some (.int (nI kn))]) 0 rfl ?_
  rw [hn, nI_clamp (by omega), nI_clamp (by omega)]
  refine bX4_see_0.go rfl (by exact ⟨rfl, trivial⟩) ?_
  rw [hn]
  refine j_icmp_ge (tgt := 21) dX4_see_5 (by decide) (fun h5 => ?_) (fun h5 => ?_)
  · rw [nI_leI (by omega) (by omega)] at h5
    refine bX4_see_21.go rfl trivial ?_
    exact t_iret dX4_see_22 rfl (by rw [seeI, if_neg (by omega)]) rfl
  · rw [nI_leI (by omega) (by omega)] at h5
    refine bX4_see_8.go rfl (by simp (disch := omega) only [vpI]; exact ⟨trivial, ⟨trivial, by omega⟩, trivial⟩) ?_
    simp (disch := omega) only [nI_clamp]
    exact t_iret dX4_see_22 rfl (by rw [seeI, if_pos (by omega)]) rfl
def F_good : Tau → Prop × Option Value × Tau := fun (o, ad, A, B) => (True, some (.int (b2 (decide (A 0 12 = 0)))), (o, ad, A, B))
theorem bX4_good_0 : Blk TP mX4_good 0 4 [oAL 0, tI 12] := blk_c (s_aload_n dX4_good_0 rfl) <| blk_c (tgX4_12 rfl dX4_good_1) <| blk_nil
theorem bX4_good_7 : Blk TP mX4_good 7 12 [oC (nI 1), .inl (fun s => some s)] := blk_c (s_iconst dX4_good_7 (by decide +kernel)) <| blk_c (s_goto (tgt := 12) dX4_good_8 (by decide)) <| blk_nil
theorem bX4_good_11 : Blk TP mX4_good 11 12 [oC (nI 0)] := blk_c (s_iconst dX4_good_11 (by decide +kernel)) <| blk_nil
theorem ok_good : TC_V mX4_good F_good := by
  intro X ⟨o, ad, A, B⟩ P r y hF _
  cases hF
  refine T_start (L := [some (.ref o)]) 0 rfl ?_
  refine bX4_good_0.go rfl (by exact ⟨rfl, trivial⟩) ?_
  refine j_if_ne (tgt := 11) dX4_good_4 (by decide) (fun h4 => ?_) (fun h4 => ?_)
  · refine bX4_good_11.go rfl trivial ?_
    exact t_zret dX4_good_12 rfl (by first | rfl | exact sv_int (b2_t (by simp [*])) | exact sv_int (b2_f (by simp [*]))) (by first | rfl | exact sv_int (b2_t (by simp [*])) | exact sv_int (b2_f (by simp [*]))) (by first | rfl | exact sv_int (b2_t (by simp [*])) | exact sv_int (b2_f (by simp [*])))
  · refine bX4_good_7.go rfl trivial ?_
    exact t_zret dX4_good_12 rfl (by first | rfl | exact sv_int (b2_t (by simp [*])) | exact sv_int (b2_f (by simp [*]))) (by first | rfl | exact sv_int (b2_t (by simp [*])) | exact sv_int (b2_f (by simp [*]))) (by first | rfl | exact sv_int (b2_t (by simp [*])) | exact sv_int (b2_f (by simp [*])))
