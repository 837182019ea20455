set_option maxRecDepth 100000
/-! ===== UnseenClockModel: image, back ===== -/
def imB (k : Int32) : Bool := inL k (lN 0) 2
theorem imB_nat {s : Int32} (h : imB s = true) : ∃ a, a < 3 ∧ s = nI a := by
  obtain ⟨a, ha, e⟩ := inL0_nat (X := s) (n := 2) (by decide) (by rw [show (nI 2).toInt64 = 2 by decide +kernel]; exact h)
  exact ⟨a, by omega, e⟩
def Q_image (k : Int32) (A : Nat → Nat → Int32) (B : Nat → Nat → Int64) : QR := fun r A' B' => r = some (.int (if imB k = true then nI 0 else -2)) ∧ B' = B ∧ (∀ f, f ≠ 2 → f ≠ 3 → A' f = A f) ∧ (imB k = false → A' = A) ∧ (imB k = true → A' 3 = va_up (A 3) k.toNatClampNeg (nI 1) ∧ ∀ j, A' 2 j = if 320 * k.toNatClampNeg ≤ j ∧ j < 320 * k.toNatClampNeg + 320 then A 1 (j - 320 * k.toNatClampNeg) else A 2 j)
theorem bX4_image_0 : Blk TP mX4_image 0 9 [oIL 1, oI2L, oCL (lN 0), oCL (2), tS_JJJ F_in] := blk_c (s_iload_n dX4_image_0 rfl) <| blk_c (s_i2l dX4_image_1) <| blk_c (s_lconst dX4_image_2 (by decide +kernel)) <| blk_c (s_ldc2 dX4_image_3 q1766) <| blk_c (ts_JJJ ok_in gX4_in (by decide +kernel) (by decide) dX4_image_6) <| blk_nil
theorem bX4_image_12 : Blk TP mX4_image 12 14 [oC (-2)] := blk_c (s_bipush dX4_image_12 (by decide +kernel)) <| blk_nil
theorem bX4_image_15 : Blk TP mX4_image 15 17 [oC (nI 0), oIS 2] := blk_c (s_iconst dX4_image_15 (by decide +kernel)) <| blk_c (s_istore_n dX4_image_16 rfl (by decide)) <| blk_nil
theorem bX4_image_17 : Blk TP mX4_image 17 21 [oIL 2, oC (nI 320)] := blk_c (s_iload_n dX4_image_17 rfl) <| blk_c (s_sipush dX4_image_18 (by decide +kernel)) <| blk_nil
theorem bX4_image_24 : Blk TP mX4_image 24 17 [oAL 0, tR 2, oC (nI 320), oIL 1, oMul, oIL 2, oAdd, oAL 0, tR 1, oIL 2, tAI 1 320, tSI 2 960, oInc 2 1, .inl (fun s => some s)] := blk_c (s_aload_n dX4_image_24 rfl) <| blk_c (tgX4_2 rfl dX4_image_25) <| blk_c (s_sipush dX4_image_28 (by decide +kernel)) <| blk_c (s_iload_n dX4_image_31 rfl) <| blk_c (s_imul dX4_image_32) <| blk_c (s_iload_n dX4_image_33 rfl) <| blk_c (s_iadd dX4_image_34) <| blk_c (s_aload_n dX4_image_35 rfl) <| blk_c (tgX4_1 rfl dX4_image_36) <| blk_c (s_iload_n dX4_image_39 rfl) <| blk_c (t_iald rfl dX4_image_40) <| blk_c (t_iast rfl dX4_image_41) <| blk_c (s_iinc dX4_image_42 (by decide +kernel) (by decide)) <| blk_c (s_goto (tgt := 17) dX4_image_45 (by decide)) <| blk_nil
theorem bX4_image_48 : Blk TP mX4_image 48 56 [oAL 0, tR 3, oIL 1, oC (nI 1), tSZ 3 3, oC (nI 0)] := blk_c (s_aload_n dX4_image_48 rfl) <| blk_c (tgX4_3 rfl dX4_image_49) <| blk_c (s_iload_n dX4_image_52 rfl) <| blk_c (s_iconst dX4_image_53 (by decide +kernel)) <| blk_c (t_zast rfl dX4_image_54) <| blk_c (s_iconst dX4_image_55 (by decide +kernel)) <| blk_nil
theorem ok_image : RC_I mX4_image (fun _ _ _ => True) Q_image := by
  intro X k o ad A B _
  refine R_start (L := [some (.ref o), some (.int k), none]) 1 rfl ?_
  refine bX4_image_0.go rfl (by exact ⟨trivial, trivial⟩) ?_
  refine j_if_ne (tgt := 15) dX4_image_9 (by decide) (fun h9 => ?_) (fun h9 => ?_)
  · rw [b2_n0] at h9
    have h9 : imB k = true := h9
    obtain ⟨kn, hk, rfl⟩ := imB_nat h9
    refine bX4_image_15.go rfl trivial ?_
    refine loop_down (N := 320) (I := fun _ => True) (P := fun i => ∀ A', (∀ f, f ≠ 2 → A' f = A f) → (∀ j, A' 2 j = if 320 * kn ≤ j ∧ j < 320 * kn + i then A 1 (j - 320 * kn) else A 2 j) → JS TP X mX4_image (rmOf mX4_image.lv 0 0) _ 0 0 17 [some (.ref o), some (.int (nI kn)), some (.int (nI i))] [] (o, ad, A', B)) ?_ ?_ 0 (by omega) trivial A (fun _ _ => rfl) (fun j => by rw [if_neg (by omega)])
    · intro _ A' a1 a2
      refine bX4_image_17.go rfl trivial ?_
      refine j_icmp_ge (tgt := 48) dX4_image_21 (by decide) (fun h21 => ?_) (fun h21 => ?_)
      · refine bX4_image_48.go rfl (by simp (disch := omega) only [vpI]; exact ⟨trivial, ⟨trivial, by omega⟩, trivial⟩) ?_
        simp (disch := omega) only [nI_clamp]
        refine r_iret dX4_image_56 rfl ?_
        unfold Q_image
        rw [nI_clamp (by omega)]
        refine ⟨by rw [if_pos h9], rfl, fun f h2 h3 => by rw [upA_ne h3, a1 f h2], fun h => absurd (h9.symm.trans h) (by decide), fun _ => ⟨?_, fun j => ?_⟩⟩
        · rw [upA, va_up_self, a1 3 (by decide), show vp_nar .boolean (nI 1) = nI 1 by decide +kernel]
        · rw [upA_ne (by decide)]; exact a2 j
      · simp (disch := omega) only [nI_leI] at h21; omega
    · intro i hi _ ih A' a1 a2
      refine bX4_image_17.go rfl trivial ?_
      refine j_icmp_ge (tgt := 48) dX4_image_21 (by decide) (fun h21 => ?_) (fun h21 => ?_)
      · simp (disch := omega) only [nI_leI] at h21; omega
      · refine bX4_image_24.go rfl (by simp (disch := omega) only [nI_add, pk_mul, vpI]; exact ⟨trivial, trivial, ⟨trivial, by omega⟩, ⟨trivial, by omega⟩, trivial⟩) ?_
        simp (disch := omega) only [nI_add, pk_mul, nI_clamp, nI_1]
        refine ih trivial _ (fun f hf => by rw [upA_ne hf]; exact a1 f hf) (fun j => ?_)
        rw [upA_at, a1 1 (by decide)]
        by_cases e : j = 320 * kn + i
        · subst e; rw [if_pos rfl, if_pos (by omega)]; congr 1; omega
        · rw [if_neg e, a2 j]
          by_cases e2 : 320 * kn ≤ j ∧ j < 320 * kn + i
          · rw [if_pos e2, if_pos (by omega)]
          · rw [if_neg e2, if_neg (by omega)]
  · rw [b2_0] at h9
    have h9 : imB k = false := h9
    refine bX4_image_12.go rfl trivial ?_
    refine r_iret dX4_image_14 rfl ?_
    unfold Q_image
    rw [h9]
    exact ⟨rfl, rfl, fun _ _ _ => rfl, fun _ => rfl, fun h => by cases h⟩
