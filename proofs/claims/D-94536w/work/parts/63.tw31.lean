set_option maxRecDepth 100000
/-! ===== UnseenClockModel: slots: isSlot, row ===== -/
def F_isSlot (s : Int32) (x : Tau) : Prop × Option Value × Tau := (True, some (.int (b2 (inL s (lN 0) 3))), x)
theorem bX4_isSlot_0 : Blk TP mX4_isSlot 0 9 [oIL 0, oI2L, oCL (lN 0), oCL (3), tS_JJJ F_in] := blk_c (s_iload_n dX4_isSlot_0 rfl) <| blk_c (s_i2l dX4_isSlot_1) <| blk_c (s_lconst dX4_isSlot_2 (by decide +kernel)) <| blk_c (s_ldc2 dX4_isSlot_3 q2106) <| blk_c (ts_JJJ ok_in gX4_in (by decide +kernel) (by decide) dX4_isSlot_6) <| blk_nil
theorem ok_isSlot : TS_I mX4_isSlot F_isSlot := by
  intro X a x P r y hF _
  cases hF
  refine T_start (L := [some (.int a)]) 0 rfl ?_
  refine bX4_isSlot_0.go rfl (by exact ⟨trivial, trivial⟩) ?_
  exact t_zret dX4_isSlot_9 rfl (by first | rfl | exact b2_z _) (by first | rfl | exact b2_z _) (by first | rfl | exact b2_z _)
def slB (s : Int32) : Bool := inL s (lN 0) 3
theorem slB_nat {s : Int32} (h : slB s = true) : ∃ a, a < 4 ∧ s = nI a := by
  obtain ⟨a, ha, e⟩ := inL0_nat (X := s) (n := 3) (by decide) (by rw [show (nI 3).toInt64 = 3 by decide +kernel]; exact h)
  exact ⟨a, by omega, e⟩
def rowB (s w n : Int32) : Bool := slB s && (inL w (lN 0) 3 && decide (n ≤ nI 60))
def q_row (s w n : Int32) : Int32 := if rowB s w n = true then (if n < 0 then -3 else nI 0) else -2
/-- what a new row leaves: how many, widths, numbers -/
def Q_row (s w n : Int32) (A : Nat → Nat → Int32) (B : Nat → Nat → Int64) : QR := fun r A' B' => r = some (.int (q_row s w n)) ∧ (∀ k, k ≠ 37 → k ≠ 38 → A' k = A k) ∧ (∀ k, k ≠ 39 → B' k = B k) ∧
  (¬ q_row s w n = 0 → A' = A ∧ B' = B) ∧ (q_row s w n = 0 → A' 37 = va_up (A 37) s.toNatClampNeg n ∧ A' 38 = va_up (A 38) s.toNatClampNeg w ∧ ∀ i, B' 39 i = if 60 * s.toNatClampNeg ≤ i ∧ i < 60 * s.toNatClampNeg + 60 then 0 else B 39 i)
theorem bX4_row_0 : Blk TP mX4_row 0 4 [oIL 1, tS_I F_isSlot] := blk_c (s_iload_n dX4_row_0 rfl) <| blk_c (ts_I ok_isSlot gX4_isSlot (by decide +kernel) (by decide) dX4_row_1) <| blk_nil
theorem bX4_row_7 : Blk TP mX4_row 7 16 [oIL 2, oI2L, oCL (lN 0), oCL (3), tS_JJJ F_in] := blk_c (s_iload_n dX4_row_7 rfl) <| blk_c (s_i2l dX4_row_8) <| blk_c (s_lconst dX4_row_9 (by decide +kernel)) <| blk_c (s_ldc2 dX4_row_10 q2106) <| blk_c (ts_JJJ ok_in gX4_in (by decide +kernel) (by decide) dX4_row_13) <| blk_nil
theorem bX4_row_19 : Blk TP mX4_row 19 22 [oIL 3, oC (nI 60)] := blk_c (s_iload_n dX4_row_19 rfl) <| blk_c (s_bipush dX4_row_20 (by decide +kernel)) <| blk_nil
theorem bX4_row_25 : Blk TP mX4_row 25 27 [oC (-2)] := blk_c (s_bipush dX4_row_25 (by decide +kernel)) <| blk_nil
theorem bX4_row_28 : Blk TP mX4_row 28 29 [oIL 3] := blk_c (s_iload_n dX4_row_28 rfl) <| blk_nil
theorem bX4_row_32 : Blk TP mX4_row 32 34 [oC (-3)] := blk_c (s_bipush dX4_row_32 (by decide +kernel)) <| blk_nil
theorem bX4_row_35 : Blk TP mX4_row 35 52 [oAL 0, tR 37, oIL 1, oIL 3, tSI 37 4, oAL 0, tR 38, oIL 1, oIL 2, tSI 38 4, oC (nI 0), oIS 4] := blk_c (s_aload_n dX4_row_35 rfl) <| blk_c (tgX4_37 rfl dX4_row_36) <| blk_c (s_iload_n dX4_row_39 rfl) <| blk_c (s_iload_n dX4_row_40 rfl) <| blk_c (t_iast rfl dX4_row_41) <| blk_c (s_aload_n dX4_row_42 rfl) <| blk_c (tgX4_38 rfl dX4_row_43) <| blk_c (s_iload_n dX4_row_46 rfl) <| blk_c (s_iload_n dX4_row_47 rfl) <| blk_c (t_iast rfl dX4_row_48) <| blk_c (s_iconst dX4_row_49 (by decide +kernel)) <| blk_c (s_istore dX4_row_50 (by decide)) <| blk_nil
theorem bX4_row_52 : Blk TP mX4_row 52 56 [oIL 4, oC (nI 60)] := blk_c (s_iload dX4_row_52) <| blk_c (s_bipush dX4_row_54 (by decide +kernel)) <| blk_nil
theorem bX4_row_59 : Blk TP mX4_row 59 52 [oAL 0, tR 39, oC (nI 60), oIL 1, oMul, oIL 4, oAdd, oCL (lN 0), tSL 39 240, oInc 4 1, .inl (fun s => some s)] := blk_c (s_aload_n dX4_row_59 rfl) <| blk_c (tgX4_39 rfl dX4_row_60) <| blk_c (s_bipush dX4_row_63 (by decide +kernel)) <| blk_c (s_iload_n dX4_row_65 rfl) <| blk_c (s_imul dX4_row_66) <| blk_c (s_iload dX4_row_67) <| blk_c (s_iadd dX4_row_69) <| blk_c (s_lconst dX4_row_70 (by decide +kernel)) <| blk_c (t_last rfl dX4_row_71) <| blk_c (s_iinc dX4_row_72 (by decide +kernel) (by decide)) <| blk_c (s_goto (tgt := 52) dX4_row_75 (by decide)) <| blk_nil
theorem bX4_row_78 : Blk TP mX4_row 78 79 [oC (nI 0)] := blk_c (s_iconst dX4_row_78 (by decide +kernel)) <| blk_nil
theorem ok_row : RC_III mX4_row (fun _ _ _ _ _ => True) Q_row := by
  intro X s w n o ad A B _
  have main : rowB s w n = true → JS TP X mX4_row (rmOf mX4_row.lv 0 0) (ZR X o ad (Q_row s w n A B)) 0 0 28 [some (.ref o), some (.int s), some (.int w), some (.int n), none] [] (o, ad, A, B) := by
    intro hg
    obtain ⟨sn, hs, rfl⟩ := slB_nat (by simp only [rowB, Bool.and_eq_true] at hg; exact hg.1)
    refine bX4_row_28.go rfl trivial ?_
    refine j_if_ge (tgt := 35) dX4_row_29 (by decide) (fun h29 => ?_) (fun h29 => ?_)
    · have e : q_row (nI sn) w n = 0 := by rw [q_row, if_pos hg, if_neg (Int32.not_lt.mpr h29)]; rfl
      refine bX4_row_35.go rfl (by simp (disch := omega) only [vpI]; exact ⟨trivial, ⟨trivial, by omega⟩, trivial, ⟨trivial, by omega⟩, trivial⟩) ?_
      simp (disch := omega) only [nI_clamp]
      generalize hA3 : upA (upA A 37 sn n) 38 sn w = A3
      refine loop_down (N := 60) (I := fun _ => True) (P := fun i => ∀ B', (∀ k, k ≠ 39 → B' k = B k) → (∀ j, B' 39 j = if 60 * sn ≤ j ∧ j < 60 * sn + i then 0 else B 39 j) → JS TP X mX4_row (rmOf mX4_row.lv 0 0) _ 0 0 52 [some (.ref o), some (.int (nI sn)), some (.int w), some (.int n), some (.int (nI i))] [] (o, ad, A3, B')) ?_ ?_ 0 (by omega) trivial B (fun _ _ => rfl) (fun j => by rw [if_neg (by omega)])
      · intro _ B' b1 b2
        refine bX4_row_52.go rfl trivial ?_
        refine j_icmp_ge (tgt := 78) dX4_row_56 (by decide) (fun h56 => ?_) (fun h56 => ?_)
        · refine bX4_row_78.go rfl trivial ?_
          refine r_iret dX4_row_79 rfl ?_
          unfold Q_row
          rw [e, nI_clamp (by omega)]
          exact ⟨rfl, fun k h1 h2 => by rw [← hA3, upA_ne h2, upA_ne h1], b1, fun h => absurd rfl h, fun _ => ⟨by rw [← hA3, upA_ne (by decide), upA, va_up_self], by rw [← hA3, upA, va_up_self, upA_ne (by decide)], b2⟩⟩
        · simp (disch := omega) only [nI_leI] at h56; omega
      · intro i hi _ ih B' b1 b2
        refine bX4_row_52.go rfl trivial ?_
        refine j_icmp_ge (tgt := 78) dX4_row_56 (by decide) (fun h56 => ?_) (fun h56 => ?_)
        · simp (disch := omega) only [nI_leI] at h56; omega
        · refine bX4_row_59.go rfl (by simp (disch := omega) only [nI_add, pk_mul, vpI]; exact ⟨trivial, ⟨trivial, by omega⟩, trivial⟩) ?_
          simp (disch := omega) only [nI_add, pk_mul, nI_clamp, nI_1]
          refine ih trivial _ (fun k hk => by unfold upB; rw [va_up_ne _ _ hk]; exact b1 k hk) (fun j => ?_)
          unfold upB
          rw [va_up_self]
          by_cases e : j = 60 * sn + i
          · subst e; rw [va_up_self, if_pos (by omega)]; rfl
          · rw [va_up_ne _ _ e, b2 j]
            by_cases e2 : 60 * sn ≤ j ∧ j < 60 * sn + i
            · rw [if_pos e2, if_pos (by omega)]
            · rw [if_neg e2, if_neg (by omega)]
    · have e : q_row (nI sn) w n = -3 := by rw [q_row, if_pos hg, if_pos (Int32.not_le.mp h29)]
      refine bX4_row_32.go rfl trivial ?_
      refine r_iret dX4_row_34 rfl ?_
      unfold Q_row
      rw [e]
      exact ⟨rfl, fun _ _ _ => rfl, fun _ _ => rfl, fun _ => ⟨rfl, rfl⟩, fun h => absurd h (by decide +kernel)⟩
  have out : ¬ rowB s w n = true → Q_row s w n A B (some (.int (-2))) A B := by
    intro hg
    have e : q_row s w n = -2 := by rw [q_row, if_neg hg]
    unfold Q_row
    rw [e]
    exact ⟨rfl, fun _ _ _ => rfl, fun _ _ => rfl, fun _ => ⟨rfl, rfl⟩, fun h => absurd h (by decide +kernel)⟩
  refine R_start (L := [some (.ref o), some (.int s), some (.int w), some (.int n), none]) 1 rfl ?_
  refine bX4_row_0.go rfl (by first | exact ⟨⟨rfl, trivial⟩, trivial⟩ | exact ⟨trivial, trivial⟩ | trivial) ?_
  refine j_if_eq (tgt := 25) dX4_row_4 (by decide) (fun h4 => ?_) (fun h4 => ?_)
  · refine bX4_row_25.go rfl trivial ?_
    refine r_iret dX4_row_27 rfl ?_
    exact out (by clear main out; simp only [b2_0, b2_n0, inL_def] at *; simp_all [rowB, slB])
  · refine bX4_row_7.go rfl (by first | exact ⟨⟨rfl, trivial⟩, trivial⟩ | exact ⟨trivial, trivial⟩ | trivial) ?_
    refine j_if_eq (tgt := 25) dX4_row_16 (by decide) (fun h16 => ?_) (fun h16 => ?_)
    · refine bX4_row_25.go rfl trivial ?_
      refine r_iret dX4_row_27 rfl ?_
      exact out (by clear main out; simp only [b2_0, b2_n0, inL_def] at *; simp_all [rowB, slB])
    · refine bX4_row_19.go rfl trivial ?_
      refine j_icmp_le (tgt := 28) dX4_row_22 (by decide) (fun h22 => ?_) (fun h22 => ?_)
      · exact main (by clear main out; simp only [b2_0, b2_n0, inL_def] at *; simp_all [rowB, slB])
      · refine bX4_row_25.go rfl trivial ?_
        refine r_iret dX4_row_27 rfl ?_
        exact out (by clear main out; simp only [b2_0, b2_n0, inL_def] at *; simp_all [rowB, slB])
