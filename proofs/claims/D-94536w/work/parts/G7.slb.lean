set_option maxRecDepth 100000
/-! ===== UnseenClock$Slot: begins ===== -/
theorem bX1_begins_0 : Blk PE mX1_begins 0 1 [oIL 1] := blk_c (s_iload_n dX1_begins_0 rfl) <| blk_nil
theorem bX1_begins_28 : Blk PE mX1_begins 28 30 [oAL 0, oIL 2] := blk_c (s_aload_n dX1_begins_28 rfl) <| blk_c (s_iload_n dX1_begins_29 rfl) <| blk_nil
theorem bX1_begins_38 : Blk PE mX1_begins 38 40 [oAL 0, oIL 2] := blk_c (s_aload_n dX1_begins_38 rfl) <| blk_c (s_iload_n dX1_begins_39 rfl) <| blk_nil
theorem bX1_begins_48 : Blk PE mX1_begins 48 50 [oAL 0, oIL 2] := blk_c (s_aload_n dX1_begins_48 rfl) <| blk_c (s_iload_n dX1_begins_49 rfl) <| blk_nil
theorem bX1_begins_58 : Blk PE mX1_begins 58 60 [oAL 0, oIL 2] := blk_c (s_aload_n dX1_begins_58 rfl) <| blk_c (s_iload_n dX1_begins_59 rfl) <| blk_nil
theorem bX1_begins_35 : Blk PE mX1_begins 35 72 [.inl (fun s => some s), .inl (fun s => some s), oC (nI 1)] := blk_c (s_goto (tgt := 65) dX1_begins_35 (by decide)) <| blk_c (s_goto (tgt := 71) dX1_begins_65 (by decide)) <| blk_c (s_iconst dX1_begins_71 (by decide +kernel)) <| blk_nil
theorem bX1_begins_45 : Blk PE mX1_begins 45 72 [.inl (fun s => some s), .inl (fun s => some s), oC (nI 1)] := blk_c (s_goto (tgt := 65) dX1_begins_45 (by decide)) <| blk_c (s_goto (tgt := 71) dX1_begins_65 (by decide)) <| blk_c (s_iconst dX1_begins_71 (by decide +kernel)) <| blk_nil
theorem bX1_begins_55 : Blk PE mX1_begins 55 72 [.inl (fun s => some s), .inl (fun s => some s), oC (nI 1)] := blk_c (s_goto (tgt := 65) dX1_begins_55 (by decide)) <| blk_c (s_goto (tgt := 71) dX1_begins_65 (by decide)) <| blk_c (s_iconst dX1_begins_71 (by decide +kernel)) <| blk_nil
theorem bX1_begins_65 : Blk PE mX1_begins 65 72 [.inl (fun s => some s), oC (nI 1)] := blk_c (s_goto (tgt := 71) dX1_begins_65 (by decide)) <| blk_c (s_iconst dX1_begins_71 (by decide +kernel)) <| blk_nil
theorem bX1_begins_68 : Blk PE mX1_begins 68 70 [oAS 3, oC (nI 0)] := blk_c (s_astore_n dX1_begins_68 rfl (by decide)) <| blk_c (s_iconst dX1_begins_69 (by decide +kernel)) <| blk_nil
section Slb
variable {X : Cx} {h : AH} {o N : Nat} {n : Int32} {hv : Value}
theorem sr_b0 : Srch RX1 cNeg 30 [(0, 65, 68, 15)] (some 68) := Or.inr (Or.inr ⟨by decide, by decide, cNeg, q186, Or.inl ⟨Or.inl rfl, rfl⟩⟩)
theorem bg_byte (hN : NewOK X) (h1 : h o = some (.inr (1, [hv]))) (hn : N ≤ 60) : CgX X mX1_begins cwBg rBg [.ref o, .int (nI 0), .int (nI N)] h (fun r h' => r = some (.int (nI 1)) ∧ ∃ q, h q = none ∧ h' = va_up (va_up h q (some (.inl (X.dA 2, (N, .inl (fun _ => 0)))))) o (some (.inr (1, [.ref q])))) (fun _ _ _ => False) := by
  refine CgX.ofW (L := [some (.ref o), some (.int (nI 0)), some (.int (nI N)), none]) (by decide +kernel) rfl 1 rfl (Nat.le_of_ble_eq_true rfl) (by decide) ?_
  refine of_js ?_
  refine bX1_begins_0.go rfl trivial ?_
  refine j_tableIn (off := 27) (tgt := 28) dX1_begins_1 (by decide +kernel) (by decide +kernel) (by decide +kernel) (by decide) ?_
  refine bX1_begins_28.go rfl trivial ?_
  refine js_of (J.newa (atype := .byte) (ty := .byte) (t := 2) (N := N) (a0 := (N, .inl (fun _ => 0))) hN rfl rfl (fun _ _ z => z) q269 (vc_byte N) (by omega) (by simp only [componentBytes]; omega) ⟨by show 0 + 1 ≤ 3; omega, by show 0 + N ≤ 100; omega⟩ dX1_begins_30 (fun q hq => ?_))
  have hne : o ≠ q := fun e => by rw [e, hq] at h1; cases h1
  refine J.putf (f := 0) (fs := [hv]) clsX1 rfl (by rw [va_up_ne _ _ hne]; exact h1) (by decide) Nat.zero_lt_one rfl rfl rfl q384 dX1_begins_32 ?_
  refine of_js ?_
  refine bX1_begins_35.go rfl trivial ?_
  exact js_of (J.toX (J.zret dX1_begins_72 rfl (by decide +kernel) (by show 0 + 1 ≤ 3; omega) (by show 0 + N ≤ 100; omega) ⟨_, rfl, rfl, q, hq, rfl⟩))
theorem bn_byte (hX : ThX X) (hn : n < 0) : CgX X mX1_begins cwBg rBg [.ref o, .int (nI 0), .int n] h (fun r h' => r = some (.int (nI 0)) ∧ h' = h) (fun _ _ _ => False) := by
  refine CgX.ofW (L := [some (.ref o), some (.int (nI 0)), some (.int n), none]) (by decide +kernel) rfl 1 rfl (Nat.le_of_ble_eq_true rfl) (by decide) ?_
  refine of_js ?_
  refine bX1_begins_0.go rfl trivial ?_
  refine j_tableIn (off := 27) (tgt := 28) dX1_begins_1 (by decide +kernel) (by decide +kernel) (by decide +kernel) (by decide) ?_
  refine bX1_begins_28.go rfl trivial ?_
  refine js_of (J.newaNeg hX hn dX1_begins_30 (by decide) (Nat.le_of_ble_eq_true rfl) (by decide) (fun a => ?_))
  refine JT.catch hX rfl sr_b0 ?_
  refine of_js ?_
  refine bX1_begins_68.go rfl trivial ?_
  exact js_of (J.toX (J.zret dX1_begins_70 rfl (by decide +kernel) (by decide) (by decide) ⟨_, rfl, rfl, rfl⟩))
theorem sr_b1 : Srch RX1 cNeg 40 [(0, 65, 68, 15)] (some 68) := Or.inr (Or.inr ⟨by decide, by decide, cNeg, q186, Or.inl ⟨Or.inl rfl, rfl⟩⟩)
theorem bg_short (hN : NewOK X) (h1 : h o = some (.inr (1, [hv]))) (hn : N ≤ 60) : CgX X mX1_begins cwBg rBg [.ref o, .int (nI 1), .int (nI N)] h (fun r h' => r = some (.int (nI 1)) ∧ ∃ q, h q = none ∧ h' = va_up (va_up h q (some (.inl (X.dA 3, (N, .inl (fun _ => 0)))))) o (some (.inr (1, [.ref q])))) (fun _ _ _ => False) := by
  refine CgX.ofW (L := [some (.ref o), some (.int (nI 1)), some (.int (nI N)), none]) (by decide +kernel) rfl 1 rfl (Nat.le_of_ble_eq_true rfl) (by decide) ?_
  refine of_js ?_
  refine bX1_begins_0.go rfl trivial ?_
  refine j_tableIn (off := 37) (tgt := 38) dX1_begins_1 (by decide +kernel) (by decide +kernel) (by decide +kernel) (by decide) ?_
  refine bX1_begins_38.go rfl trivial ?_
  refine js_of (J.newa (atype := .short) (ty := .short) (t := 3) (N := N) (a0 := (N, .inl (fun _ => 0))) hN rfl rfl (fun _ _ z => z) q274 (vc_short N) (by omega) (by simp only [componentBytes]; omega) ⟨by show 0 + 1 ≤ 3; omega, by show 0 + N ≤ 100; omega⟩ dX1_begins_40 (fun q hq => ?_))
  have hne : o ≠ q := fun e => by rw [e, hq] at h1; cases h1
  refine J.putf (f := 0) (fs := [hv]) clsX1 rfl (by rw [va_up_ne _ _ hne]; exact h1) (by decide) Nat.zero_lt_one rfl rfl rfl q384 dX1_begins_42 ?_
  refine of_js ?_
  refine bX1_begins_45.go rfl trivial ?_
  exact js_of (J.toX (J.zret dX1_begins_72 rfl (by decide +kernel) (by show 0 + 1 ≤ 3; omega) (by show 0 + N ≤ 100; omega) ⟨_, rfl, rfl, q, hq, rfl⟩))
theorem bn_short (hX : ThX X) (hn : n < 0) : CgX X mX1_begins cwBg rBg [.ref o, .int (nI 1), .int n] h (fun r h' => r = some (.int (nI 0)) ∧ h' = h) (fun _ _ _ => False) := by
  refine CgX.ofW (L := [some (.ref o), some (.int (nI 1)), some (.int n), none]) (by decide +kernel) rfl 1 rfl (Nat.le_of_ble_eq_true rfl) (by decide) ?_
  refine of_js ?_
  refine bX1_begins_0.go rfl trivial ?_
  refine j_tableIn (off := 37) (tgt := 38) dX1_begins_1 (by decide +kernel) (by decide +kernel) (by decide +kernel) (by decide) ?_
  refine bX1_begins_38.go rfl trivial ?_
  refine js_of (J.newaNeg hX hn dX1_begins_40 (by decide) (Nat.le_of_ble_eq_true rfl) (by decide) (fun a => ?_))
  refine JT.catch hX rfl sr_b1 ?_
  refine of_js ?_
  refine bX1_begins_68.go rfl trivial ?_
  exact js_of (J.toX (J.zret dX1_begins_70 rfl (by decide +kernel) (by decide) (by decide) ⟨_, rfl, rfl, rfl⟩))
theorem sr_b2 : Srch RX1 cNeg 50 [(0, 65, 68, 15)] (some 68) := Or.inr (Or.inr ⟨by decide, by decide, cNeg, q186, Or.inl ⟨Or.inl rfl, rfl⟩⟩)
theorem bg_int (hN : NewOK X) (h1 : h o = some (.inr (1, [hv]))) (hn : N ≤ 60) : CgX X mX1_begins cwBg rBg [.ref o, .int (nI 2), .int (nI N)] h (fun r h' => r = some (.int (nI 1)) ∧ ∃ q, h q = none ∧ h' = va_up (va_up h q (some (.inl (X.dA 0, (N, .inl (fun _ => 0)))))) o (some (.inr (1, [.ref q])))) (fun _ _ _ => False) := by
  refine CgX.ofW (L := [some (.ref o), some (.int (nI 2)), some (.int (nI N)), none]) (by decide +kernel) rfl 1 rfl (Nat.le_of_ble_eq_true rfl) (by decide) ?_
  refine of_js ?_
  refine bX1_begins_0.go rfl trivial ?_
  refine j_tableIn (off := 47) (tgt := 48) dX1_begins_1 (by decide +kernel) (by decide +kernel) (by decide +kernel) (by decide) ?_
  refine bX1_begins_48.go rfl trivial ?_
  refine js_of (J.newa (atype := .int) (ty := .int) (t := 0) (N := N) (a0 := (N, .inl (fun _ => 0))) hN rfl rfl (fun _ _ z => z) q275 (vc_int N) (by omega) (by simp only [componentBytes]; omega) ⟨by show 0 + 1 ≤ 3; omega, by show 0 + N ≤ 100; omega⟩ dX1_begins_50 (fun q hq => ?_))
  have hne : o ≠ q := fun e => by rw [e, hq] at h1; cases h1
  refine J.putf (f := 0) (fs := [hv]) clsX1 rfl (by rw [va_up_ne _ _ hne]; exact h1) (by decide) Nat.zero_lt_one rfl rfl rfl q384 dX1_begins_52 ?_
  refine of_js ?_
  refine bX1_begins_55.go rfl trivial ?_
  exact js_of (J.toX (J.zret dX1_begins_72 rfl (by decide +kernel) (by show 0 + 1 ≤ 3; omega) (by show 0 + N ≤ 100; omega) ⟨_, rfl, rfl, q, hq, rfl⟩))
theorem bn_int (hX : ThX X) (hn : n < 0) : CgX X mX1_begins cwBg rBg [.ref o, .int (nI 2), .int n] h (fun r h' => r = some (.int (nI 0)) ∧ h' = h) (fun _ _ _ => False) := by
  refine CgX.ofW (L := [some (.ref o), some (.int (nI 2)), some (.int n), none]) (by decide +kernel) rfl 1 rfl (Nat.le_of_ble_eq_true rfl) (by decide) ?_
  refine of_js ?_
  refine bX1_begins_0.go rfl trivial ?_
  refine j_tableIn (off := 47) (tgt := 48) dX1_begins_1 (by decide +kernel) (by decide +kernel) (by decide +kernel) (by decide) ?_
  refine bX1_begins_48.go rfl trivial ?_
  refine js_of (J.newaNeg hX hn dX1_begins_50 (by decide) (Nat.le_of_ble_eq_true rfl) (by decide) (fun a => ?_))
  refine JT.catch hX rfl sr_b2 ?_
  refine of_js ?_
  refine bX1_begins_68.go rfl trivial ?_
  exact js_of (J.toX (J.zret dX1_begins_70 rfl (by decide +kernel) (by decide) (by decide) ⟨_, rfl, rfl, rfl⟩))
theorem sr_b3 : Srch RX1 cNeg 60 [(0, 65, 68, 15)] (some 68) := Or.inr (Or.inr ⟨by decide, by decide, cNeg, q186, Or.inl ⟨Or.inl rfl, rfl⟩⟩)
theorem bg_long (hN : NewOK X) (h1 : h o = some (.inr (1, [hv]))) (hn : N ≤ 60) : CgX X mX1_begins cwBg rBg [.ref o, .int (nI 3), .int (nI N)] h (fun r h' => r = some (.int (nI 1)) ∧ ∃ q, h q = none ∧ h' = va_up (va_up h q (some (.inl (X.dA 1, (N, .inr (.inl (fun _ => 0))))))) o (some (.inr (1, [.ref q])))) (fun _ _ _ => False) := by
  refine CgX.ofW (L := [some (.ref o), some (.int (nI 3)), some (.int (nI N)), none]) (by decide +kernel) rfl 1 rfl (Nat.le_of_ble_eq_true rfl) (by decide) ?_
  refine of_js ?_
  refine bX1_begins_0.go rfl trivial ?_
  refine j_tableOut (tgt := 58) dX1_begins_1 (Or.inr (by decide +kernel)) (by decide) ?_
  refine bX1_begins_58.go rfl trivial ?_
  refine js_of (J.newa (atype := .long) (ty := .long) (t := 1) (N := N) (a0 := (N, .inr (.inl (fun _ => 0)))) hN rfl rfl (fun _ _ z => z) q276 (vc_long N) (by omega) (by simp only [componentBytes]; omega) ⟨by show 0 + 1 ≤ 3; omega, by show 0 + N ≤ 100; omega⟩ dX1_begins_60 (fun q hq => ?_))
  have hne : o ≠ q := fun e => by rw [e, hq] at h1; cases h1
  refine J.putf (f := 0) (fs := [hv]) clsX1 rfl (by rw [va_up_ne _ _ hne]; exact h1) (by decide) Nat.zero_lt_one rfl rfl rfl q384 dX1_begins_62 ?_
  refine of_js ?_
  refine bX1_begins_65.go rfl trivial ?_
  exact js_of (J.toX (J.zret dX1_begins_72 rfl (by decide +kernel) (by show 0 + 1 ≤ 3; omega) (by show 0 + N ≤ 100; omega) ⟨_, rfl, rfl, q, hq, rfl⟩))
theorem bn_long (hX : ThX X) (hn : n < 0) : CgX X mX1_begins cwBg rBg [.ref o, .int (nI 3), .int n] h (fun r h' => r = some (.int (nI 0)) ∧ h' = h) (fun _ _ _ => False) := by
  refine CgX.ofW (L := [some (.ref o), some (.int (nI 3)), some (.int n), none]) (by decide +kernel) rfl 1 rfl (Nat.le_of_ble_eq_true rfl) (by decide) ?_
  refine of_js ?_
  refine bX1_begins_0.go rfl trivial ?_
  refine j_tableOut (tgt := 58) dX1_begins_1 (Or.inr (by decide +kernel)) (by decide) ?_
  refine bX1_begins_58.go rfl trivial ?_
  refine js_of (J.newaNeg hX hn dX1_begins_60 (by decide) (Nat.le_of_ble_eq_true rfl) (by decide) (fun a => ?_))
  refine JT.catch hX rfl sr_b3 ?_
  refine of_js ?_
  refine bX1_begins_68.go rfl trivial ?_
  exact js_of (J.toX (J.zret dX1_begins_70 rfl (by decide +kernel) (by decide) (by decide) ⟨_, rfl, rfl, rfl⟩))
end Slb
