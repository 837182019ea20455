set_option maxRecDepth 100000
/-! ===== UnseenClock$Slot: many, number, width ===== -/
section Rdn
variable {X : Cx} {h : AH} {o b len : Nat} {i : Int32} {f : Nat → Int32} {g : Nat → Int64}
theorem bX1_many_0 : Blk PE mX1_many 0 1 [oAL 0] := blk_c (s_aload_n dX1_many_0 rfl) <| blk_nil
theorem bX1_many_10 : Blk PE mX1_many 10 11 [oAL 0] := blk_c (s_aload_n dX1_many_10 rfl) <| blk_nil
theorem bX1_many_19 : Blk PE mX1_many 19 20 [oAL 0] := blk_c (s_aload_n dX1_many_19 rfl) <| blk_nil
theorem bX1_many_29 : Blk PE mX1_many 29 30 [oAL 0] := blk_c (s_aload_n dX1_many_29 rfl) <| blk_nil
theorem bX1_many_38 : Blk PE mX1_many 38 39 [oAL 0] := blk_c (s_aload_n dX1_many_38 rfl) <| blk_nil
theorem bX1_many_48 : Blk PE mX1_many 48 49 [oAL 0] := blk_c (s_aload_n dX1_many_48 rfl) <| blk_nil
theorem bX1_many_56 : Blk PE mX1_many 56 67 [.inl (fun s => some s)] := blk_c (s_goto (tgt := 67) dX1_many_56 (by decide)) <| blk_nil
theorem bX1_many_59 : Blk PE mX1_many 59 60 [oAL 0] := blk_c (s_aload_n dX1_many_59 rfl) <| blk_nil
theorem bX1_number_0 : Blk PE mX1_number 0 1 [oAL 0] := blk_c (s_aload_n dX1_number_0 rfl) <| blk_nil
theorem bX1_number_10 : Blk PE mX1_number 10 11 [oAL 0] := blk_c (s_aload_n dX1_number_10 rfl) <| blk_nil
theorem bX1_number_17 : Blk PE mX1_number 17 18 [oIL 1] := blk_c (s_iload_n dX1_number_17 rfl) <| blk_nil
theorem bX1_number_19 : Blk PE mX1_number 19 20 [oI2L] := blk_c (s_i2l dX1_number_19) <| blk_nil
theorem bX1_number_21 : Blk PE mX1_number 21 22 [oAL 0] := blk_c (s_aload_n dX1_number_21 rfl) <| blk_nil
theorem bX1_number_31 : Blk PE mX1_number 31 32 [oAL 0] := blk_c (s_aload_n dX1_number_31 rfl) <| blk_nil
theorem bX1_number_38 : Blk PE mX1_number 38 39 [oIL 1] := blk_c (s_iload_n dX1_number_38 rfl) <| blk_nil
theorem bX1_number_40 : Blk PE mX1_number 40 41 [oI2L] := blk_c (s_i2l dX1_number_40) <| blk_nil
theorem bX1_number_42 : Blk PE mX1_number 42 43 [oAL 0] := blk_c (s_aload_n dX1_number_42 rfl) <| blk_nil
theorem bX1_number_52 : Blk PE mX1_number 52 53 [oAL 0] := blk_c (s_aload_n dX1_number_52 rfl) <| blk_nil
theorem bX1_number_59 : Blk PE mX1_number 59 60 [oIL 1] := blk_c (s_iload_n dX1_number_59 rfl) <| blk_nil
theorem bX1_number_61 : Blk PE mX1_number 61 74 [oI2L, .inl (fun s => some s)] := blk_c (s_i2l dX1_number_61) <| blk_c (s_goto (tgt := 74) dX1_number_62 (by decide)) <| blk_nil
theorem bX1_number_65 : Blk PE mX1_number 65 66 [oAL 0] := blk_c (s_aload_n dX1_number_65 rfl) <| blk_nil
theorem bX1_number_72 : Blk PE mX1_number 72 73 [oIL 1] := blk_c (s_iload_n dX1_number_72 rfl) <| blk_nil
theorem bX1_width_0 : Blk PE mX1_width 0 1 [oAL 0] := blk_c (s_aload_n dX1_width_0 rfl) <| blk_nil
theorem bX1_width_10 : Blk PE mX1_width 10 43 [oC (nI 0), .inl (fun s => some s)] := blk_c (s_iconst dX1_width_10 (by decide +kernel)) <| blk_c (s_goto (tgt := 43) dX1_width_11 (by decide)) <| blk_nil
theorem bX1_width_14 : Blk PE mX1_width 14 15 [oAL 0] := blk_c (s_aload_n dX1_width_14 rfl) <| blk_nil
theorem bX1_width_24 : Blk PE mX1_width 24 43 [oC (nI 1), .inl (fun s => some s)] := blk_c (s_iconst dX1_width_24 (by decide +kernel)) <| blk_c (s_goto (tgt := 43) dX1_width_25 (by decide)) <| blk_nil
theorem bX1_width_28 : Blk PE mX1_width 28 29 [oAL 0] := blk_c (s_aload_n dX1_width_28 rfl) <| blk_nil
theorem bX1_width_38 : Blk PE mX1_width 38 43 [oC (nI 2), .inl (fun s => some s)] := blk_c (s_iconst dX1_width_38 (by decide +kernel)) <| blk_c (s_goto (tgt := 43) dX1_width_39 (by decide)) <| blk_nil
theorem bX1_width_42 : Blk PE mX1_width 42 43 [oC (nI 3)] := blk_c (s_iconst dX1_width_42 (by decide +kernel)) <| blk_nil
theorem mn_byte (hX : ThX X) (h1 : h o = some (.inr (1, [.ref b]))) (h2 : h b = some (.inl (X.dA 2, len, .inl f))) : Cg X mX1_many 0 0 [.ref o] h (PR (some (.int (nI len))) h) := by
  refine E_start (L := [some (.ref o)]) 0 rfl ?_
  refine bX1_many_0.go rfl trivial ?_
  refine js_of (J.getf (f := 0) clsX1 rfl h1 (by decide) rfl q384 dX1_many_1 ?_)
  refine J.instA (t := 2) (t' := 2) hX (by decide) (by decide) h2 q334 dX1_many_4 ?_
  refine of_js ?_
  refine j_if_eq (tgt := 19) dX1_many_7 (by decide) (fun z => absurd z (by decide +kernel)) (fun _ => ?_)
  refine bX1_many_10.go rfl trivial ?_
  refine js_of (J.getf (f := 0) clsX1 rfl h1 (by decide) rfl q384 dX1_many_11 ?_)
  refine J.castA (t := 2) (by decide) h2 q334 dX1_many_14 ?_
  refine J.alen (t := 2) h2 rfl dX1_many_17 ?_
  refine of_js ?_
  exact e_iret dX1_many_18 rfl (PR_int rfl)
theorem mn_short (hX : ThX X) (h1 : h o = some (.inr (1, [.ref b]))) (h2 : h b = some (.inl (X.dA 3, len, .inl f))) : Cg X mX1_many 0 0 [.ref o] h (PR (some (.int (nI len))) h) := by
  refine E_start (L := [some (.ref o)]) 0 rfl ?_
  refine bX1_many_0.go rfl trivial ?_
  refine js_of (J.getf (f := 0) clsX1 rfl h1 (by decide) rfl q384 dX1_many_1 ?_)
  refine J.instA (t := 3) (t' := 2) hX (by decide) (by decide) h2 q334 dX1_many_4 ?_
  refine of_js ?_
  refine j_if_eq (tgt := 19) dX1_many_7 (by decide) (fun _ => ?_) (fun z => absurd (by decide +kernel) z)
  refine bX1_many_19.go rfl trivial ?_
  refine js_of (J.getf (f := 0) clsX1 rfl h1 (by decide) rfl q384 dX1_many_20 ?_)
  refine J.instA (t := 3) (t' := 3) hX (by decide) (by decide) h2 q335 dX1_many_23 ?_
  refine of_js ?_
  refine j_if_eq (tgt := 38) dX1_many_26 (by decide) (fun z => absurd z (by decide +kernel)) (fun _ => ?_)
  refine bX1_many_29.go rfl trivial ?_
  refine js_of (J.getf (f := 0) clsX1 rfl h1 (by decide) rfl q384 dX1_many_30 ?_)
  refine J.castA (t := 3) (by decide) h2 q335 dX1_many_33 ?_
  refine J.alen (t := 3) h2 rfl dX1_many_36 ?_
  refine of_js ?_
  exact e_iret dX1_many_37 rfl (PR_int rfl)
theorem mn_int (hX : ThX X) (h1 : h o = some (.inr (1, [.ref b]))) (h2 : h b = some (.inl (X.dA 0, len, .inl f))) : Cg X mX1_many 0 0 [.ref o] h (PR (some (.int (nI len))) h) := by
  refine E_start (L := [some (.ref o)]) 0 rfl ?_
  refine bX1_many_0.go rfl trivial ?_
  refine js_of (J.getf (f := 0) clsX1 rfl h1 (by decide) rfl q384 dX1_many_1 ?_)
  refine J.instA (t := 0) (t' := 2) hX (by decide) (by decide) h2 q334 dX1_many_4 ?_
  refine of_js ?_
  refine j_if_eq (tgt := 19) dX1_many_7 (by decide) (fun _ => ?_) (fun z => absurd (by decide +kernel) z)
  refine bX1_many_19.go rfl trivial ?_
  refine js_of (J.getf (f := 0) clsX1 rfl h1 (by decide) rfl q384 dX1_many_20 ?_)
  refine J.instA (t := 0) (t' := 3) hX (by decide) (by decide) h2 q335 dX1_many_23 ?_
  refine of_js ?_
  refine j_if_eq (tgt := 38) dX1_many_26 (by decide) (fun _ => ?_) (fun z => absurd (by decide +kernel) z)
  refine bX1_many_38.go rfl trivial ?_
  refine js_of (J.getf (f := 0) clsX1 rfl h1 (by decide) rfl q384 dX1_many_39 ?_)
  refine J.instA (t := 0) (t' := 0) hX (by decide) (by decide) h2 q354 dX1_many_42 ?_
  refine of_js ?_
  refine j_if_eq (tgt := 59) dX1_many_45 (by decide) (fun z => absurd z (by decide +kernel)) (fun _ => ?_)
  refine bX1_many_48.go rfl trivial ?_
  refine js_of (J.getf (f := 0) clsX1 rfl h1 (by decide) rfl q384 dX1_many_49 ?_)
  refine J.castA (t := 0) (by decide) h2 q354 dX1_many_52 ?_
  refine J.alen (t := 0) h2 rfl dX1_many_55 ?_
  refine of_js ?_
  refine bX1_many_56.go rfl trivial ?_
  exact e_iret dX1_many_67 rfl (PR_int rfl)
theorem mn_long (hX : ThX X) (h1 : h o = some (.inr (1, [.ref b]))) (h2 : h b = some (.inl (X.dA 1, len, .inr (.inl g)))) : Cg X mX1_many 0 0 [.ref o] h (PR (some (.int (nI len))) h) := by
  refine E_start (L := [some (.ref o)]) 0 rfl ?_
  refine bX1_many_0.go rfl trivial ?_
  refine js_of (J.getf (f := 0) clsX1 rfl h1 (by decide) rfl q384 dX1_many_1 ?_)
  refine J.instA (t := 1) (t' := 2) hX (by decide) (by decide) h2 q334 dX1_many_4 ?_
  refine of_js ?_
  refine j_if_eq (tgt := 19) dX1_many_7 (by decide) (fun _ => ?_) (fun z => absurd (by decide +kernel) z)
  refine bX1_many_19.go rfl trivial ?_
  refine js_of (J.getf (f := 0) clsX1 rfl h1 (by decide) rfl q384 dX1_many_20 ?_)
  refine J.instA (t := 1) (t' := 3) hX (by decide) (by decide) h2 q335 dX1_many_23 ?_
  refine of_js ?_
  refine j_if_eq (tgt := 38) dX1_many_26 (by decide) (fun _ => ?_) (fun z => absurd (by decide +kernel) z)
  refine bX1_many_38.go rfl trivial ?_
  refine js_of (J.getf (f := 0) clsX1 rfl h1 (by decide) rfl q384 dX1_many_39 ?_)
  refine J.instA (t := 1) (t' := 0) hX (by decide) (by decide) h2 q354 dX1_many_42 ?_
  refine of_js ?_
  refine j_if_eq (tgt := 59) dX1_many_45 (by decide) (fun _ => ?_) (fun z => absurd (by decide +kernel) z)
  refine bX1_many_59.go rfl trivial ?_
  refine js_of (J.getf (f := 0) clsX1 rfl h1 (by decide) rfl q384 dX1_many_60 ?_)
  refine J.castA (t := 1) (by decide) h2 q355 dX1_many_63 ?_
  refine J.alen (t := 1) h2 rfl dX1_many_66 ?_
  refine of_js ?_
  exact e_iret dX1_many_67 rfl (PR_int rfl)
theorem nu_byte (hX : ThX X) (h1 : h o = some (.inr (1, [.ref b]))) (h2 : h b = some (.inl (X.dA 2, len, .inl f))) (hi : vp_in i len) : Cg X mX1_number 0 0 [.ref o, .int i] h (PR (some (.long (f i.toNatClampNeg).toInt64)) h) := by
  refine E_start (L := [some (.ref o), some (.int i)]) 0 rfl ?_
  refine bX1_number_0.go rfl trivial ?_
  refine js_of (J.getf (f := 0) clsX1 rfl h1 (by decide) rfl q384 dX1_number_1 ?_)
  refine J.instA (t := 2) (t' := 2) hX (by decide) (by decide) h2 q334 dX1_number_4 ?_
  refine of_js ?_
  refine j_if_eq (tgt := 21) dX1_number_7 (by decide) (fun z => absurd z (by decide +kernel)) (fun _ => ?_)
  refine bX1_number_10.go rfl trivial ?_
  refine js_of (J.getf (f := 0) clsX1 rfl h1 (by decide) rfl q384 dX1_number_11 ?_)
  refine J.castA (t := 2) (by decide) h2 q334 dX1_number_14 ?_
  refine of_js ?_
  refine bX1_number_17.go rfl trivial ?_
  refine js_of (J.bald h2 hi dX1_number_18 ?_)
  refine of_js ?_
  refine bX1_number_19.go rfl trivial ?_
  exact js_of (J.lret dX1_number_20 rfl (Nat.le_refl _) (Nat.le_refl _) ⟨rfl, rfl⟩)
theorem nu_short (hX : ThX X) (h1 : h o = some (.inr (1, [.ref b]))) (h2 : h b = some (.inl (X.dA 3, len, .inl f))) (hi : vp_in i len) : Cg X mX1_number 0 0 [.ref o, .int i] h (PR (some (.long (f i.toNatClampNeg).toInt64)) h) := by
  refine E_start (L := [some (.ref o), some (.int i)]) 0 rfl ?_
  refine bX1_number_0.go rfl trivial ?_
  refine js_of (J.getf (f := 0) clsX1 rfl h1 (by decide) rfl q384 dX1_number_1 ?_)
  refine J.instA (t := 3) (t' := 2) hX (by decide) (by decide) h2 q334 dX1_number_4 ?_
  refine of_js ?_
  refine j_if_eq (tgt := 21) dX1_number_7 (by decide) (fun _ => ?_) (fun z => absurd (by decide +kernel) z)
  refine bX1_number_21.go rfl trivial ?_
  refine js_of (J.getf (f := 0) clsX1 rfl h1 (by decide) rfl q384 dX1_number_22 ?_)
  refine J.instA (t := 3) (t' := 3) hX (by decide) (by decide) h2 q335 dX1_number_25 ?_
  refine of_js ?_
  refine j_if_eq (tgt := 42) dX1_number_28 (by decide) (fun z => absurd z (by decide +kernel)) (fun _ => ?_)
  refine bX1_number_31.go rfl trivial ?_
  refine js_of (J.getf (f := 0) clsX1 rfl h1 (by decide) rfl q384 dX1_number_32 ?_)
  refine J.castA (t := 3) (by decide) h2 q335 dX1_number_35 ?_
  refine of_js ?_
  refine bX1_number_38.go rfl trivial ?_
  refine js_of (J.sald h2 hi dX1_number_39 ?_)
  refine of_js ?_
  refine bX1_number_40.go rfl trivial ?_
  exact js_of (J.lret dX1_number_41 rfl (Nat.le_refl _) (Nat.le_refl _) ⟨rfl, rfl⟩)
theorem nu_int (hX : ThX X) (h1 : h o = some (.inr (1, [.ref b]))) (h2 : h b = some (.inl (X.dA 0, len, .inl f))) (hi : vp_in i len) : Cg X mX1_number 0 0 [.ref o, .int i] h (PR (some (.long (f i.toNatClampNeg).toInt64)) h) := by
  refine E_start (L := [some (.ref o), some (.int i)]) 0 rfl ?_
  refine bX1_number_0.go rfl trivial ?_
  refine js_of (J.getf (f := 0) clsX1 rfl h1 (by decide) rfl q384 dX1_number_1 ?_)
  refine J.instA (t := 0) (t' := 2) hX (by decide) (by decide) h2 q334 dX1_number_4 ?_
  refine of_js ?_
  refine j_if_eq (tgt := 21) dX1_number_7 (by decide) (fun _ => ?_) (fun z => absurd (by decide +kernel) z)
  refine bX1_number_21.go rfl trivial ?_
  refine js_of (J.getf (f := 0) clsX1 rfl h1 (by decide) rfl q384 dX1_number_22 ?_)
  refine J.instA (t := 0) (t' := 3) hX (by decide) (by decide) h2 q335 dX1_number_25 ?_
  refine of_js ?_
  refine j_if_eq (tgt := 42) dX1_number_28 (by decide) (fun _ => ?_) (fun z => absurd (by decide +kernel) z)
  refine bX1_number_42.go rfl trivial ?_
  refine js_of (J.getf (f := 0) clsX1 rfl h1 (by decide) rfl q384 dX1_number_43 ?_)
  refine J.instA (t := 0) (t' := 0) hX (by decide) (by decide) h2 q354 dX1_number_46 ?_
  refine of_js ?_
  refine j_if_eq (tgt := 65) dX1_number_49 (by decide) (fun z => absurd z (by decide +kernel)) (fun _ => ?_)
  refine bX1_number_52.go rfl trivial ?_
  refine js_of (J.getf (f := 0) clsX1 rfl h1 (by decide) rfl q384 dX1_number_53 ?_)
  refine J.castA (t := 0) (by decide) h2 q354 dX1_number_56 ?_
  refine of_js ?_
  refine bX1_number_59.go rfl trivial ?_
  refine js_of (J.iald h2 hi dX1_number_60 ?_)
  refine of_js ?_
  refine bX1_number_61.go rfl trivial ?_
  exact js_of (J.lret dX1_number_74 rfl (Nat.le_refl _) (Nat.le_refl _) ⟨rfl, rfl⟩)
theorem nu_long (hX : ThX X) (h1 : h o = some (.inr (1, [.ref b]))) (h2 : h b = some (.inl (X.dA 1, len, .inr (.inl g)))) (hi : vp_in i len) : Cg X mX1_number 0 0 [.ref o, .int i] h (PR (some (.long (g i.toNatClampNeg))) h) := by
  refine E_start (L := [some (.ref o), some (.int i)]) 0 rfl ?_
  refine bX1_number_0.go rfl trivial ?_
  refine js_of (J.getf (f := 0) clsX1 rfl h1 (by decide) rfl q384 dX1_number_1 ?_)
  refine J.instA (t := 1) (t' := 2) hX (by decide) (by decide) h2 q334 dX1_number_4 ?_
  refine of_js ?_
  refine j_if_eq (tgt := 21) dX1_number_7 (by decide) (fun _ => ?_) (fun z => absurd (by decide +kernel) z)
  refine bX1_number_21.go rfl trivial ?_
  refine js_of (J.getf (f := 0) clsX1 rfl h1 (by decide) rfl q384 dX1_number_22 ?_)
  refine J.instA (t := 1) (t' := 3) hX (by decide) (by decide) h2 q335 dX1_number_25 ?_
  refine of_js ?_
  refine j_if_eq (tgt := 42) dX1_number_28 (by decide) (fun _ => ?_) (fun z => absurd (by decide +kernel) z)
  refine bX1_number_42.go rfl trivial ?_
  refine js_of (J.getf (f := 0) clsX1 rfl h1 (by decide) rfl q384 dX1_number_43 ?_)
  refine J.instA (t := 1) (t' := 0) hX (by decide) (by decide) h2 q354 dX1_number_46 ?_
  refine of_js ?_
  refine j_if_eq (tgt := 65) dX1_number_49 (by decide) (fun _ => ?_) (fun z => absurd (by decide +kernel) z)
  refine bX1_number_65.go rfl trivial ?_
  refine js_of (J.getf (f := 0) clsX1 rfl h1 (by decide) rfl q384 dX1_number_66 ?_)
  refine J.castA (t := 1) (by decide) h2 q355 dX1_number_69 ?_
  refine of_js ?_
  refine bX1_number_72.go rfl trivial ?_
  refine js_of (J.lald h2 hi dX1_number_73 ?_)
  refine of_js ?_
  exact js_of (J.lret dX1_number_74 rfl (Nat.le_refl _) (Nat.le_refl _) ⟨rfl, rfl⟩)
theorem wd_byte (hX : ThX X) (h1 : h o = some (.inr (1, [.ref b]))) (h2 : h b = some (.inl (X.dA 2, len, .inl f))) : Cg X mX1_width 0 0 [.ref o] h (PR (some (.int (nI 0))) h) := by
  refine E_start (L := [some (.ref o)]) 0 rfl ?_
  refine bX1_width_0.go rfl trivial ?_
  refine js_of (J.getf (f := 0) clsX1 rfl h1 (by decide) rfl q384 dX1_width_1 ?_)
  refine J.instA (t := 2) (t' := 2) hX (by decide) (by decide) h2 q334 dX1_width_4 ?_
  refine of_js ?_
  refine j_if_eq (tgt := 14) dX1_width_7 (by decide) (fun z => absurd z (by decide +kernel)) (fun _ => ?_)
  refine bX1_width_10.go rfl trivial ?_
  exact e_iret dX1_width_43 rfl (PR_int rfl)
theorem wd_short (hX : ThX X) (h1 : h o = some (.inr (1, [.ref b]))) (h2 : h b = some (.inl (X.dA 3, len, .inl f))) : Cg X mX1_width 0 0 [.ref o] h (PR (some (.int (nI 1))) h) := by
  refine E_start (L := [some (.ref o)]) 0 rfl ?_
  refine bX1_width_0.go rfl trivial ?_
  refine js_of (J.getf (f := 0) clsX1 rfl h1 (by decide) rfl q384 dX1_width_1 ?_)
  refine J.instA (t := 3) (t' := 2) hX (by decide) (by decide) h2 q334 dX1_width_4 ?_
  refine of_js ?_
  refine j_if_eq (tgt := 14) dX1_width_7 (by decide) (fun _ => ?_) (fun z => absurd (by decide +kernel) z)
  refine bX1_width_14.go rfl trivial ?_
  refine js_of (J.getf (f := 0) clsX1 rfl h1 (by decide) rfl q384 dX1_width_15 ?_)
  refine J.instA (t := 3) (t' := 3) hX (by decide) (by decide) h2 q335 dX1_width_18 ?_
  refine of_js ?_
  refine j_if_eq (tgt := 28) dX1_width_21 (by decide) (fun z => absurd z (by decide +kernel)) (fun _ => ?_)
  refine bX1_width_24.go rfl trivial ?_
  exact e_iret dX1_width_43 rfl (PR_int rfl)
theorem wd_int (hX : ThX X) (h1 : h o = some (.inr (1, [.ref b]))) (h2 : h b = some (.inl (X.dA 0, len, .inl f))) : Cg X mX1_width 0 0 [.ref o] h (PR (some (.int (nI 2))) h) := by
  refine E_start (L := [some (.ref o)]) 0 rfl ?_
  refine bX1_width_0.go rfl trivial ?_
  refine js_of (J.getf (f := 0) clsX1 rfl h1 (by decide) rfl q384 dX1_width_1 ?_)
  refine J.instA (t := 0) (t' := 2) hX (by decide) (by decide) h2 q334 dX1_width_4 ?_
  refine of_js ?_
  refine j_if_eq (tgt := 14) dX1_width_7 (by decide) (fun _ => ?_) (fun z => absurd (by decide +kernel) z)
  refine bX1_width_14.go rfl trivial ?_
  refine js_of (J.getf (f := 0) clsX1 rfl h1 (by decide) rfl q384 dX1_width_15 ?_)
  refine J.instA (t := 0) (t' := 3) hX (by decide) (by decide) h2 q335 dX1_width_18 ?_
  refine of_js ?_
  refine j_if_eq (tgt := 28) dX1_width_21 (by decide) (fun _ => ?_) (fun z => absurd (by decide +kernel) z)
  refine bX1_width_28.go rfl trivial ?_
  refine js_of (J.getf (f := 0) clsX1 rfl h1 (by decide) rfl q384 dX1_width_29 ?_)
  refine J.instA (t := 0) (t' := 0) hX (by decide) (by decide) h2 q354 dX1_width_32 ?_
  refine of_js ?_
  refine j_if_eq (tgt := 42) dX1_width_35 (by decide) (fun z => absurd z (by decide +kernel)) (fun _ => ?_)
  refine bX1_width_38.go rfl trivial ?_
  exact e_iret dX1_width_43 rfl (PR_int rfl)
theorem wd_long (hX : ThX X) (h1 : h o = some (.inr (1, [.ref b]))) (h2 : h b = some (.inl (X.dA 1, len, .inr (.inl g)))) : Cg X mX1_width 0 0 [.ref o] h (PR (some (.int (nI 3))) h) := by
  refine E_start (L := [some (.ref o)]) 0 rfl ?_
  refine bX1_width_0.go rfl trivial ?_
  refine js_of (J.getf (f := 0) clsX1 rfl h1 (by decide) rfl q384 dX1_width_1 ?_)
  refine J.instA (t := 1) (t' := 2) hX (by decide) (by decide) h2 q334 dX1_width_4 ?_
  refine of_js ?_
  refine j_if_eq (tgt := 14) dX1_width_7 (by decide) (fun _ => ?_) (fun z => absurd (by decide +kernel) z)
  refine bX1_width_14.go rfl trivial ?_
  refine js_of (J.getf (f := 0) clsX1 rfl h1 (by decide) rfl q384 dX1_width_15 ?_)
  refine J.instA (t := 1) (t' := 3) hX (by decide) (by decide) h2 q335 dX1_width_18 ?_
  refine of_js ?_
  refine j_if_eq (tgt := 28) dX1_width_21 (by decide) (fun _ => ?_) (fun z => absurd (by decide +kernel) z)
  refine bX1_width_28.go rfl trivial ?_
  refine js_of (J.getf (f := 0) clsX1 rfl h1 (by decide) rfl q384 dX1_width_29 ?_)
  refine J.instA (t := 1) (t' := 0) hX (by decide) (by decide) h2 q354 dX1_width_32 ?_
  refine of_js ?_
  refine j_if_eq (tgt := 42) dX1_width_35 (by decide) (fun _ => ?_) (fun z => absurd (by decide +kernel) z)
  refine bX1_width_42.go rfl trivial ?_
  exact e_iret dX1_width_43 rfl (PR_int rfl)
end Rdn
theorem RCc.pure {X : Cx} {M : MD} {av : List Value} {x : Cv} {r : Option Value} (hC : ∀ h, CP X x h → Cg X M 0 0 av h (PR r h)) : RCc X M 0 0 av x (fun r' x' => r' = r ∧ x' = x) := by
  intro h hp
  refine MetFree.mono (hC h hp) (fun _ _ z => z) (fun _ _ _ _ _ z => z) (fun a s oc t _ hz => ⟨?_, hz.2⟩)
  obtain ⟨h', ⟨rfl, rfl⟩, hw⟩ := hz.1
  exact ⟨_, ⟨r, x, rfl, ⟨rfl, rfl⟩, hp⟩, hw⟩
section Rdc
variable {X : Cx} {M : MD} {R : Room} {Z : ZT} {k n pc idx : Nat} {L : List (Option Value)} {st : List Value} {ad : Nat → Nat} {A : Nat → Nat → Int32} {B : Nat → Nat → Int64} {sk : Nat → Nat → Nat} {sw : Nat → Nat → Int32} {E : Nat → Nat} {s j : Nat}
theorem CP.heldR {h : AH} (hp : CP X (ad, A, B, sk, sw, E) h) (hs : s < 4) (h0 : ¬ E (2 + s) = 0) : h (ad (10 + s)) = some (.inr (1, [.ref (ad (14 + s))])) := by
  have e1 : h (ad (10 + s)) = some (slO ad E s) := hp.slot hs
  rw [slO, if_neg h0] at e1
  exact e1
theorem ok_manyC (hX : ThX X) (hS : SlC E) (hs : s < 4) (h0 : ¬ E (2 + s) = 0) : RCc X mX1_many 0 0 [.ref (ad (10 + s))] (ad, A, B, sk, sw, E) (fun r' x' => r' = some (.int (nI (E (6 + s)))) ∧ x' = (ad, A, B, sk, sw, E)) := by
  obtain ⟨k4, l60⟩ := hS s hs
  refine RCc.pure (fun h hp => ?_)
  have e1 := hp.heldR hs h0
  rcases (by omega : E (2 + s) = 1 ∨ E (2 + s) = 2 ∨ E (2 + s) = 3 ∨ E (2 + s) = 4) with e | e | e | e
  · exact mn_byte hX e1 (hp.held hs (by rw [e]; rfl))
  · exact mn_short hX e1 (hp.held hs (by rw [e]; rfl))
  · exact mn_int hX e1 (hp.held hs (by rw [e]; rfl))
  · exact mn_long hX e1 (hp.held hs (by rw [e]; rfl))
theorem ok_numberC (hX : ThX X) (hS : SlC E) (hs : s < 4) (h0 : ¬ E (2 + s) = 0) (hj : j < E (6 + s)) : RCc X mX1_number 0 0 [.ref (ad (10 + s)), .int (nI j)] (ad, A, B, sk, sw, E) (fun r' x' => r' = some (.long (nbC A B E s j)) ∧ x' = (ad, A, B, sk, sw, E)) := by
  obtain ⟨k4, l60⟩ := hS s hs
  refine RCc.pure (fun h hp => ?_)
  have e1 := hp.heldR hs h0
  rcases (by omega : E (2 + s) = 1 ∨ E (2 + s) = 2 ∨ E (2 + s) = 3 ∨ E (2 + s) = 4) with e | e | e | e
  · have z := nu_byte hX e1 (hp.held hs (by rw [e]; rfl)) (vp_in_nI hj (by omega))
    rw [nI_clamp (by omega)] at z
    rw [nbC, if_neg (by omega)]
    exact z
  · have z := nu_short hX e1 (hp.held hs (by rw [e]; rfl)) (vp_in_nI hj (by omega))
    rw [nI_clamp (by omega)] at z
    rw [nbC, if_neg (by omega)]
    exact z
  · have z := nu_int hX e1 (hp.held hs (by rw [e]; rfl)) (vp_in_nI hj (by omega))
    rw [nI_clamp (by omega)] at z
    rw [nbC, if_neg (by omega)]
    exact z
  · have z := nu_long hX e1 (hp.held hs (by rw [e]; rfl)) (vp_in_nI hj (by omega))
    rw [nI_clamp (by omega)] at z
    rw [nbC, if_pos e]
    exact z
theorem ok_widthC (hX : ThX X) (hS : SlC E) (hs : s < 4) (h0 : ¬ E (2 + s) = 0) : RCc X mX1_width 0 0 [.ref (ad (10 + s))] (ad, A, B, sk, sw, E) (fun r' x' => r' = some (.int (nI (E (2 + s) - 1))) ∧ x' = (ad, A, B, sk, sw, E)) := by
  obtain ⟨k4, l60⟩ := hS s hs
  refine RCc.pure (fun h hp => ?_)
  have e1 := hp.heldR hs h0
  rcases (by omega : E (2 + s) = 1 ∨ E (2 + s) = 2 ∨ E (2 + s) = 3 ∨ E (2 + s) = 4) with e | e | e | e
  · rw [e]; exact wd_byte hX e1 (hp.held hs (by rw [e]; rfl))
  · rw [e]; exact wd_short hX e1 (hp.held hs (by rw [e]; rfl))
  · rw [e]; exact wd_int hX e1 (hp.held hs (by rw [e]; rfl))
  · rw [e]; exact wd_long hX e1 (hp.held hs (by rw [e]; rfl))
theorem recSl (hs : s < 4) (h : AH) (hp : CP X (ad, A, B, sk, sw, E) h) : ∃ fs, h (ad (10 + s)) = some (.inr (1, fs)) := ⟨_, hp.slot hs⟩
end Rdc
