set_option maxRecDepth 100000
/-! ===== UnseenClockModel: fault, end ===== -/
def q_fault (A : Nat → Nat → Int32) (what : Int32) : Int32 := if what = 0 then A 0 12 else if what = nI 1 then A 0 13 else -1
theorem bX4_fault_0 : Blk TP mX4_fault 0 1 [oIL 1] := blk_c (s_iload_n dX4_fault_0 rfl) <| blk_nil
theorem bX4_fault_4 : Blk TP mX4_fault 4 24 [oAL 0, tI 12, .inl (fun s => some s)] := blk_c (s_aload_n dX4_fault_4 rfl) <| blk_c (tgX4_12 rfl dX4_fault_5) <| blk_c (s_goto (tgt := 24) dX4_fault_8 (by decide)) <| blk_nil
theorem bX4_fault_11 : Blk TP mX4_fault 11 13 [oIL 1, oC (nI 1)] := blk_c (s_iload_n dX4_fault_11 rfl) <| blk_c (s_iconst dX4_fault_12 (by decide +kernel)) <| blk_nil
theorem bX4_fault_16 : Blk TP mX4_fault 16 24 [oAL 0, tI 13, .inl (fun s => some s)] := blk_c (s_aload_n dX4_fault_16 rfl) <| blk_c (tgX4_13 rfl dX4_fault_17) <| blk_c (s_goto (tgt := 24) dX4_fault_20 (by decide)) <| blk_nil
theorem bX4_fault_23 : Blk TP mX4_fault 23 24 [oC (-1)] := blk_c (s_iconst dX4_fault_23 (by decide +kernel)) <| blk_nil
theorem ok_fault : RC_I mX4_fault (fun _ _ _ => True) (fun what A B => Qq (q_fault A what) A B) := by
  intro X what o ad A B _
  refine R_start (L := [some (.ref o), some (.int what)]) 0 rfl ?_
  refine bX4_fault_0.go rfl trivial ?_
  refine j_if_ne (tgt := 11) dX4_fault_1 (by decide) (fun h1 => ?_) (fun h1 => ?_)
  · refine bX4_fault_11.go rfl trivial ?_
    refine j_icmp_ne (tgt := 23) dX4_fault_13 (by decide) (fun h13 => ?_) (fun h13 => ?_)
    · refine bX4_fault_23.go rfl trivial ?_
      exact r_iret dX4_fault_24 rfl ⟨ans (by rw [q_fault, if_neg h1, if_neg h13]), Keeps2.rf⟩
    · refine bX4_fault_16.go rfl (by exact ⟨rfl, trivial⟩) ?_
      exact r_iret dX4_fault_24 rfl ⟨ans (by rw [q_fault, if_neg h1, if_pos h13]), Keeps2.rf⟩
  · refine bX4_fault_4.go rfl (by exact ⟨rfl, trivial⟩) ?_
    exact r_iret dX4_fault_24 rfl ⟨ans (by rw [q_fault, if_pos h1]), Keeps2.rf⟩
def q_end (A : Nat → Nat → Int32) (n : Int32) : Int32 := if inI n (nI 0) (A 0 5) = true then n else -1
theorem bX4_end_0 : Blk TP mX4_end 0 11 [oIL 1, oI2L, oCL (lN 0), oAL 0, tI 5, oI2L, tS_JJJ F_in] := blk_c (s_iload_n dX4_end_0 rfl) <| blk_c (s_i2l dX4_end_1) <| blk_c (s_lconst dX4_end_2 (by decide +kernel)) <| blk_c (s_aload_n dX4_end_3 rfl) <| blk_c (tgX4_5 rfl dX4_end_4) <| blk_c (s_i2l dX4_end_7) <| blk_c (ts_JJJ ok_in gX4_in (by decide +kernel) (by decide) dX4_end_8) <| blk_nil
theorem bX4_end_14 : Blk TP mX4_end 14 15 [oC (-1)] := blk_c (s_iconst dX4_end_14 (by decide +kernel)) <| blk_nil
theorem bX4_end_16 : Blk TP mX4_end 16 22 [oAL 0, oIL 1, tPI 5, oIL 1] := blk_c (s_aload_n dX4_end_16 rfl) <| blk_c (s_iload_n dX4_end_17 rfl) <| blk_c (tpX4_5 rfl dX4_end_18) <| blk_c (s_iload_n dX4_end_21 rfl) <| blk_nil
theorem ok_end : RC_I mX4_end (fun _ _ _ => True) (fun n A B => fun r A' B' => r = some (.int (q_end A n)) ∧ B' = B ∧ A' = (if inI n (nI 0) (A 0 5) = true then upA A 0 5 n else A)) := by
  intro X n o ad A B _
  refine R_start (L := [some (.ref o), some (.int n)]) 0 rfl ?_
  refine bX4_end_0.go rfl (by exact ⟨rfl, trivial, trivial⟩) ?_
  simp only [lN0, in_i2l]
  refine j_if_ne (tgt := 16) dX4_end_11 (by decide) (fun h11 => ?_) (fun h11 => ?_)
  · rw [b2_n0] at h11
    refine bX4_end_16.go rfl (by exact ⟨rfl, trivial⟩) ?_
    exact r_iret dX4_end_22 rfl ⟨ans (by rw [q_end, if_pos h11]), rfl, by rw [if_pos h11]⟩
  · rw [b2_0] at h11
    refine bX4_end_14.go rfl trivial ?_
    exact r_iret dX4_end_15 rfl ⟨ans (by rw [q_end, h11]; rfl), rfl, by rw [h11]; rfl⟩
