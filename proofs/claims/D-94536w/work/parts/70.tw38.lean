set_option maxRecDepth 100000
/-! ===== UnseenClockModel: back ===== -/
def q_back (A : Nat → Nat → Int32) (k : Int32) : Int32 := if imB k = true then (if A 3 k.toNatClampNeg = 0 then -6 else nI 0) else -2
def Q_back (k : Int32) (A : Nat → Nat → Int32) (B : Nat → Nat → Int64) : QR := fun r A' B' => r = some (.int (q_back A k)) ∧ B' = B ∧ (∀ f, f ≠ 1 → A' f = A f) ∧ (¬ q_back A k = 0 → A' = A) ∧ (q_back A k = 0 → ∀ j, A' 1 j = if j < 320 then A 2 (320 * k.toNatClampNeg + j) else A 1 j)
theorem bX4_back_0 : Blk TP mX4_back 0 9 [oIL 1, oI2L, oCL (lN 0), oCL (2), tS_JJJ F_in] := blk_c (s_iload_n dX4_back_0 rfl) <| blk_c (s_i2l dX4_back_1) <| blk_c (s_lconst dX4_back_2 (by decide +kernel)) <| blk_c (s_ldc2 dX4_back_3 q1766) <| blk_c (ts_JJJ ok_in gX4_in (by decide +kernel) (by decide) dX4_back_6) <| blk_nil
theorem bX4_back_12 : Blk TP mX4_back 12 14 [oC (-2)] := blk_c (s_bipush dX4_back_12 (by decide +kernel)) <| blk_nil
theorem bX4_back_15 : Blk TP mX4_back 15 21 [oAL 0, tR 3, oIL 1, tAI 3 3] := blk_c (s_aload_n dX4_back_15 rfl) <| blk_c (tgX4_3 rfl dX4_back_16) <| blk_c (s_iload_n dX4_back_19 rfl) <| blk_c (t_zald rfl dX4_back_20) <| blk_nil
theorem bX4_back_24 : Blk TP mX4_back 24 26 [oC (-6)] := blk_c (s_bipush dX4_back_24 (by decide +kernel)) <| blk_nil
theorem bX4_back_27 : Blk TP mX4_back 27 29 [oC (nI 0), oIS 2] := blk_c (s_iconst dX4_back_27 (by decide +kernel)) <| blk_c (s_istore_n dX4_back_28 rfl (by decide)) <| blk_nil
theorem bX4_back_29 : Blk TP mX4_back 29 33 [oIL 2, oC (nI 320)] := blk_c (s_iload_n dX4_back_29 rfl) <| blk_c (s_sipush dX4_back_30 (by decide +kernel)) <| blk_nil
theorem bX4_back_36 : Blk TP mX4_back 36 29 [oAL 0, tR 1, oIL 2, oAL 0, tR 2, oC (nI 320), oIL 1, oMul, oIL 2, oAdd, tAI 2 960, tSI 1 320, oInc 2 1, .inl (fun s => some s)] := blk_c (s_aload_n dX4_back_36 rfl) <| blk_c (tgX4_1 rfl dX4_back_37) <| blk_c (s_iload_n dX4_back_40 rfl) <| blk_c (s_aload_n dX4_back_41 rfl) <| blk_c (tgX4_2 rfl dX4_back_42) <| blk_c (s_sipush dX4_back_45 (by decide +kernel)) <| blk_c (s_iload_n dX4_back_48 rfl) <| blk_c (s_imul dX4_back_49) <| blk_c (s_iload_n dX4_back_50 rfl) <| blk_c (s_iadd dX4_back_51) <| blk_c (t_iald rfl dX4_back_52) <| blk_c (t_iast rfl dX4_back_53) <| blk_c (s_iinc dX4_back_54 (by decide +kernel) (by decide)) <| blk_c (s_goto (tgt := 29) dX4_back_57 (by decide)) <| blk_nil
theorem bX4_back_60 : Blk TP mX4_back 60 61 [oC (nI 0)] := blk_c (s_iconst dX4_back_60 (by decide +kernel)) <| blk_nil
theorem back_no {k : Int32} {A : Nat → Nat → Int32} {B : Nat → Nat → Int64} {x : Int32} (e : q_back A k = x) (hx : ¬ x = 0) : Q_back k A B (some (.int x)) A B := by
  unfold Q_back
  rw [e]
  exact ⟨rfl, rfl, fun _ _ => rfl, fun _ => rfl, fun h => absurd h hx⟩
theorem ok_back : RC_I mX4_back (fun _ _ _ => True) Q_back := by
  intro X k o ad A B _
  refine R_start (L := [some (.ref o), some (.int k), none]) 1 rfl ?_
  refine bX4_back_0.go rfl (by exact ⟨trivial, trivial⟩) ?_
  refine j_if_ne (tgt := 15) dX4_back_9 (by decide) (fun h9 => ?_) (fun h9 => ?_)
  · rw [b2_n0] at h9
    have h9 : imB k = true := h9
    obtain ⟨kn, hk, rfl⟩ := imB_nat h9
    have ck : (nI kn).toNatClampNeg = kn := nI_clamp (by omega)
    refine bX4_back_15.go rfl (by simp (disch := omega) only [vpI]; exact ⟨trivial, ⟨trivial, by omega⟩, trivial⟩) ?_
    rw [ck]
    refine j_if_ne (tgt := 27) dX4_back_21 (by decide) (fun h21 => ?_) (fun h21 => ?_)
    · have e : q_back A (nI kn) = 0 := by rw [q_back, if_pos h9, ck, if_neg h21]; rfl
      refine bX4_back_27.go rfl trivial ?_
      refine loop_down (N := 320) (I := fun _ => True) (P := fun i => ∀ A', (∀ f, f ≠ 1 → A' f = A f) → (∀ j, A' 1 j = if j < i then A 2 (320 * kn + j) else A 1 j) → JS TP X mX4_back (rmOf mX4_back.lv 0 0) _ 0 0 29 [some (.ref o), some (.int (nI kn)), some (.int (nI i))] [] (o, ad, A', B)) ?_ ?_ 0 (by omega) trivial A (fun _ _ => rfl) (fun j => by rw [if_neg (by omega)])
      · intro _ A' a1 a2
        refine bX4_back_29.go rfl trivial ?_
        refine j_icmp_ge (tgt := 60) dX4_back_33 (by decide) (fun h33 => ?_) (fun h33 => ?_)
        · refine bX4_back_60.go rfl trivial ?_
          refine r_iret dX4_back_61 rfl ?_
          unfold Q_back
          rw [e, ck]
          exact ⟨rfl, rfl, a1, fun h => absurd rfl h, fun _ => a2⟩
        · simp (disch := omega) only [nI_leI] at h33; omega
      · intro i hi _ ih A' a1 a2
        refine bX4_back_29.go rfl trivial ?_
        refine j_icmp_ge (tgt := 60) dX4_back_33 (by decide) (fun h33 => ?_) (fun h33 => ?_)
        · simp (disch := omega) only [nI_leI] at h33; omega
        · refine bX4_back_36.go rfl (by simp (disch := omega) only [nI_add, pk_mul, vpI]; exact ⟨trivial, trivial, ⟨trivial, by omega⟩, ⟨trivial, by omega⟩, trivial⟩) ?_
          simp (disch := omega) only [nI_add, pk_mul, nI_clamp, nI_1]
          refine ih trivial _ (fun f hf => by rw [upA_ne hf]; exact a1 f hf) (fun j => ?_)
          rw [upA_at, a1 2 (by decide)]
          by_cases e : j = i
          · subst e; rw [if_pos rfl, if_pos (by omega)]
          · rw [if_neg e, a2 j]
            by_cases e2 : j < i
            · rw [if_pos e2, if_pos (by omega)]
            · rw [if_neg e2, if_neg (by omega)]
    · refine bX4_back_24.go rfl trivial ?_
      exact r_iret dX4_back_26 rfl (back_no (by rw [q_back, if_pos h9, ck, if_pos h21]) (by decide +kernel))
  · rw [b2_0] at h9
    have h9 : imB k = false := h9
    refine bX4_back_12.go rfl trivial ?_
    exact r_iret dX4_back_14 rfl (back_no (by rw [q_back, h9]; rfl) (by decide +kernel))
