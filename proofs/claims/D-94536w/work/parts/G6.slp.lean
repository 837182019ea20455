set_option maxRecDepth 100000
/-! ===== UnseenClock$Slot: put, puts, begins ===== -/
theorem bX1_put_0a : Blk PE mX1_put 0 1 [oAL 0] := blk_c (s_aload_n dX1_put_0 rfl) <| blk_nil
theorem bX1_put_10a : Blk PE mX1_put 10 11 [oAL 0] := blk_c (s_aload_n dX1_put_10 rfl) <| blk_nil
theorem bX1_put_29a : Blk PE mX1_put 29 30 [oAL 0] := blk_c (s_aload_n dX1_put_29 rfl) <| blk_nil
theorem bX1_put_39a : Blk PE mX1_put 39 40 [oAL 0] := blk_c (s_aload_n dX1_put_39 rfl) <| blk_nil
theorem bX1_put_17 : Blk PE mX1_put 17 25 [oAS 4, oAL 4, oIL 1, oLL 2, oL2I, oI2B] := blk_c (s_astore dX1_put_17 (by decide)) <| blk_c (s_aload dX1_put_19) <| blk_c (s_iload_n dX1_put_21 rfl) <| blk_c (s_lload_n dX1_put_22 rfl) <| blk_c (s_l2i dX1_put_23) <| blk_c (s_i2b dX1_put_24) <| blk_nil
theorem bX1_put_46 : Blk PE mX1_put 46 54 [oAS 4, oAL 4, oIL 1, oLL 2, oL2I, oI2S] := blk_c (s_astore dX1_put_46 (by decide)) <| blk_c (s_aload dX1_put_48) <| blk_c (s_iload_n dX1_put_50 rfl) <| blk_c (s_lload_n dX1_put_51 rfl) <| blk_c (s_l2i dX1_put_52) <| blk_c (s_i2s dX1_put_53) <| blk_nil
theorem bX1_put_26 : Blk PE mX1_put 26 64 [.inl (fun s => some s)] := blk_c (s_goto (tgt := 64) dX1_put_26 (by decide)) <| blk_nil
theorem bX1_put_55 : Blk PE mX1_put 55 64 [.inl (fun s => some s)] := blk_c (s_goto (tgt := 64) dX1_put_55 (by decide)) <| blk_nil
theorem bX1_put_58 : Blk PE mX1_put 58 61 [oAL 0, oIL 1, oLL 2] := blk_c (s_aload_n dX1_put_58 rfl) <| blk_c (s_iload_n dX1_put_59 rfl) <| blk_c (s_lload_n dX1_put_60 rfl) <| blk_nil
theorem bX1_puts_0 : Blk PE mX1_puts 0 3 [oAL 0, oIL 1, oLL 2] := blk_c (s_aload_n dX1_puts_0 rfl) <| blk_c (s_iload_n dX1_puts_1 rfl) <| blk_c (s_lload_n dX1_puts_2 rfl) <| blk_nil
theorem bX1_puts_6 : Blk PE mX1_puts 6 20 [.inl (fun s => some s), oC (nI 0)] := blk_c (s_goto (tgt := 19) dX1_puts_6 (by decide)) <| blk_c (s_iconst dX1_puts_19 (by decide +kernel)) <| blk_nil
theorem bX1_puts_9 : Blk PE mX1_puts 9 13 [oAS 4, oC (-6)] := blk_c (s_astore dX1_puts_9 (by decide)) <| blk_c (s_bipush dX1_puts_11 (by decide +kernel)) <| blk_nil
theorem bX1_puts_14 : Blk PE mX1_puts 14 18 [oAS 4, oC (-7)] := blk_c (s_astore dX1_puts_14 (by decide)) <| blk_c (s_bipush dX1_puts_16 (by decide +kernel)) <| blk_nil
theorem hc_put : mX1_put.y.cls ≠ "java/lang/invoke/MethodHandle" ∧ mX1_put.y.cls ≠ "java/lang/invoke/VarHandle" ∧ (parseMethodDescriptor mX1_put.y.desc).map (fun d => d.parameters.length) = some 2 := by decide +kernel
theorem hc_putWider : mX1_putWider.y.cls ≠ "java/lang/invoke/MethodHandle" ∧ mX1_putWider.y.cls ≠ "java/lang/invoke/VarHandle" ∧ (parseMethodDescriptor mX1_putWider.y.desc).map (fun d => d.parameters.length) = some 2 := by decide +kernel
theorem hc_puts : mX1_puts.y.cls ≠ "java/lang/invoke/MethodHandle" ∧ mX1_puts.y.cls ≠ "java/lang/invoke/VarHandle" ∧ (parseMethodDescriptor mX1_puts.y.desc).map (fun d => d.parameters.length) = some 2 := by decide +kernel
theorem hc_begins : mX1_begins.y.cls ≠ "java/lang/invoke/MethodHandle" ∧ mX1_begins.y.cls ≠ "java/lang/invoke/VarHandle" ∧ (parseMethodDescriptor mX1_begins.y.desc).map (fun d => d.parameters.length) = some 2 := by decide +kernel
section Slp
variable {X : Cx} {h : AH} {o b len : Nat} {i : Int32} {v : Int64} {f : Nat → Int32} {g : Nat → Int64}
abbrev cwPt : Cond := .code yX1_put cX1_put 5 (Option.none : Option FieldType)
theorem pt_null (hX : ThX X) (h1 : h o = some (.inr (1, [.null]))) : CgX X mX1_put cwPt rPt [.ref o, .int i, .long v] h (fun _ _ => False) (fun C _ h' => C = cNpe ∧ h' = h) := by
  refine CgX.of0 (L := [some (.ref o), some (.int i), some (.long v), none, none]) (by decide +kernel) rfl 1 rfl (Nat.le_of_ble_eq_true rfl) (by decide) ?_
  refine of_js ?_
  refine bX1_put_0a.go rfl trivial ?_
  refine js_of (J.getf (f := 0) clsX1 rfl h1 (by decide) rfl q384 dX1_put_1 ?_)
  refine J.instNull dX1_put_4 ?_
  refine of_js ?_
  refine j_if_eq (tgt := 29) dX1_put_7 (by decide) (fun _ => ?_) (fun z => absurd rfl z)
  refine bX1_put_29a.go rfl trivial ?_
  refine js_of (J.getf (f := 0) clsX1 rfl h1 (by decide) rfl q384 dX1_put_30 ?_)
  refine J.instNull dX1_put_33 ?_
  refine of_js ?_
  refine j_if_eq (tgt := 58) dX1_put_36 (by decide) (fun _ => ?_) (fun z => absurd rfl z)
  refine bX1_put_58.go rfl trivial ?_
  refine js_of (J.callX (As := [.int i, .long v]) (st := []) (pw_null hX h1) q339 (Or.inr ⟨_, rfl⟩) h1 rfl dX1_put_61 q336 q338 qs3 q132 hc_putWider (by decide) (by decide) (by decide) (fun r h' q => ?_) (fun C a h' q => ?_))
  · exact q.elim
  · obtain ⟨rfl, rfl⟩ := q
    exact JT.out hX (fun c q => ehT_nil q) rfl (by decide) (by decide) ⟨rfl, rfl⟩
theorem pt_byte (hX : ThX X) (h1 : h o = some (.inr (1, [.ref b]))) (h2 : h b = some (.inl (X.dA 2, len, .inl f))) (hl : len < 2 ^ 31) : CgX X mX1_put cwPt rPt [.ref o, .int i, .long v] h (fun r h' => r = none ∧ vp_in i len ∧ h' = va_up h b (some (.inl (X.dA 2, len, .inl (upd f i.toNatClampNeg (vp_nar .byte v.toInt32.toInt8.toInt32)))))) (fun C _ h' => C = cIdx ∧ ¬ vp_in i len ∧ h' = h) := by
  refine CgX.of0 (L := [some (.ref o), some (.int i), some (.long v), none, none]) (by decide +kernel) rfl 1 rfl (Nat.le_of_ble_eq_true rfl) (by decide) ?_
  refine of_js ?_
  refine bX1_put_0a.go rfl trivial ?_
  refine js_of (J.getf (f := 0) clsX1 rfl h1 (by decide) rfl q384 dX1_put_1 ?_)
  refine J.instA (t := 2) (t' := 2) hX (by decide) (by decide) h2 q334 dX1_put_4 ?_
  refine of_js ?_
  refine j_if_eq (tgt := 29) dX1_put_7 (by decide) (fun z => absurd z (by decide)) (fun _ => ?_)
  refine bX1_put_10a.go rfl trivial ?_
  refine js_of (J.getf (f := 0) clsX1 rfl h1 (by decide) rfl q384 dX1_put_11 ?_)
  refine J.castA (t := 2) (by decide) h2 q334 dX1_put_14 ?_
  refine of_js ?_
  refine bX1_put_17.go rfl trivial ?_
  by_cases hi : vp_in i len
  · refine js_of (J.bast h2 hi dX1_put_25 ?_)
    refine of_js ?_
    refine bX1_put_26.go rfl trivial ?_
    exact js_of (J.toX (J.vret dX1_put_64 rfl (by decide) (by decide) ⟨none, rfl, rfl, hi, rfl⟩))
  · refine js_of (J.bastOut hX h2 hl hi dX1_put_25 (by decide) (by decide) (by decide) (fun a => ?_))
    exact JT.out hX (fun c q => ehT_nil q) rfl (by decide) (by decide) ⟨rfl, hi, rfl⟩
theorem pt_short (hX : ThX X) (h1 : h o = some (.inr (1, [.ref b]))) (h2 : h b = some (.inl (X.dA 3, len, .inl f))) (hl : len < 2 ^ 31) : CgX X mX1_put cwPt rPt [.ref o, .int i, .long v] h (fun r h' => r = none ∧ vp_in i len ∧ h' = va_up h b (some (.inl (X.dA 3, len, .inl (upd f i.toNatClampNeg (vp_nar .short v.toInt32.toInt16.toInt32)))))) (fun C _ h' => C = cIdx ∧ ¬ vp_in i len ∧ h' = h) := by
  refine CgX.of0 (L := [some (.ref o), some (.int i), some (.long v), none, none]) (by decide +kernel) rfl 1 rfl (Nat.le_of_ble_eq_true rfl) (by decide) ?_
  refine of_js ?_
  refine bX1_put_0a.go rfl trivial ?_
  refine js_of (J.getf (f := 0) clsX1 rfl h1 (by decide) rfl q384 dX1_put_1 ?_)
  refine J.instA (t := 3) (t' := 2) hX (by decide) (by decide) h2 q334 dX1_put_4 ?_
  refine of_js ?_
  refine j_if_eq (tgt := 29) dX1_put_7 (by decide) (fun _ => ?_) (fun z => absurd rfl z)
  refine bX1_put_29a.go rfl trivial ?_
  refine js_of (J.getf (f := 0) clsX1 rfl h1 (by decide) rfl q384 dX1_put_30 ?_)
  refine J.instA (t := 3) (t' := 3) hX (by decide) (by decide) h2 q335 dX1_put_33 ?_
  refine of_js ?_
  refine j_if_eq (tgt := 58) dX1_put_36 (by decide) (fun z => absurd z (by decide)) (fun _ => ?_)
  refine bX1_put_39a.go rfl trivial ?_
  refine js_of (J.getf (f := 0) clsX1 rfl h1 (by decide) rfl q384 dX1_put_40 ?_)
  refine J.castA (t := 3) (by decide) h2 q335 dX1_put_43 ?_
  refine of_js ?_
  refine bX1_put_46.go rfl trivial ?_
  by_cases hi : vp_in i len
  · refine js_of (J.sast h2 hi dX1_put_54 ?_)
    refine of_js ?_
    refine bX1_put_55.go rfl trivial ?_
    exact js_of (J.toX (J.vret dX1_put_64 rfl (by decide) (by decide) ⟨none, rfl, rfl, hi, rfl⟩))
  · refine js_of (J.sastOut hX h2 hl hi dX1_put_54 (by decide) (by decide) (by decide) (fun a => ?_))
    exact JT.out hX (fun c q => ehT_nil q) rfl (by decide) (by decide) ⟨rfl, hi, rfl⟩
theorem pt_int (hX : ThX X) (h1 : h o = some (.inr (1, [.ref b]))) (h2 : h b = some (.inl (X.dA 0, len, .inl f))) (hl : len < 2 ^ 31) : CgX X mX1_put cwPt rPt [.ref o, .int i, .long v] h (fun r h' => r = none ∧ vp_in i len ∧ h' = va_up h b (some (.inl (X.dA 0, len, .inl (upd f i.toNatClampNeg v.toInt32))))) (fun C _ h' => C = cIdx ∧ ¬ vp_in i len ∧ h' = h) := by
  refine CgX.of0 (L := [some (.ref o), some (.int i), some (.long v), none, none]) (by decide +kernel) rfl 1 rfl (Nat.le_of_ble_eq_true rfl) (by decide) ?_
  refine of_js ?_
  refine bX1_put_0a.go rfl trivial ?_
  refine js_of (J.getf (f := 0) clsX1 rfl h1 (by decide) rfl q384 dX1_put_1 ?_)
  refine J.instA (t := 0) (t' := 2) hX (by decide) (by decide) h2 q334 dX1_put_4 ?_
  refine of_js ?_
  refine j_if_eq (tgt := 29) dX1_put_7 (by decide) (fun _ => ?_) (fun z => absurd rfl z)
  refine bX1_put_29a.go rfl trivial ?_
  refine js_of (J.getf (f := 0) clsX1 rfl h1 (by decide) rfl q384 dX1_put_30 ?_)
  refine J.instA (t := 0) (t' := 3) hX (by decide) (by decide) h2 q335 dX1_put_33 ?_
  refine of_js ?_
  refine j_if_eq (tgt := 58) dX1_put_36 (by decide) (fun _ => ?_) (fun z => absurd rfl z)
  refine bX1_put_58.go rfl trivial ?_
  refine js_of (J.callX (As := [.int i, .long v]) (st := []) (pw_int hX h1 h2 hl) q339 (Or.inr ⟨_, rfl⟩) h1 rfl dX1_put_61 q336 q338 qs3 q132 hc_putWider (by decide) (by decide) (by decide) (fun r h' q => ?_) (fun C a h' q => ?_))
  · obtain ⟨rfl, hi, rfl⟩ := q
    exact J.toX (J.vret dX1_put_64 rfl (by decide) (by decide) ⟨none, rfl, rfl, hi, rfl⟩)
  · obtain ⟨rfl, hi, rfl⟩ := q
    exact JT.out hX (fun c q => ehT_nil q) rfl (by decide) (by decide) ⟨rfl, hi, rfl⟩
theorem pt_long (hX : ThX X) (h1 : h o = some (.inr (1, [.ref b]))) (h2 : h b = some (.inl (X.dA 1, len, .inr (.inl g)))) (hl : len < 2 ^ 31) : CgX X mX1_put cwPt rPt [.ref o, .int i, .long v] h (fun r h' => r = none ∧ vp_in i len ∧ h' = va_up h b (some (.inl (X.dA 1, len, .inr (.inl (vp_updL g i.toNatClampNeg v)))))) (fun C _ h' => C = cIdx ∧ ¬ vp_in i len ∧ h' = h) := by
  refine CgX.of0 (L := [some (.ref o), some (.int i), some (.long v), none, none]) (by decide +kernel) rfl 1 rfl (Nat.le_of_ble_eq_true rfl) (by decide) ?_
  refine of_js ?_
  refine bX1_put_0a.go rfl trivial ?_
  refine js_of (J.getf (f := 0) clsX1 rfl h1 (by decide) rfl q384 dX1_put_1 ?_)
  refine J.instA (t := 1) (t' := 2) hX (by decide) (by decide) h2 q334 dX1_put_4 ?_
  refine of_js ?_
  refine j_if_eq (tgt := 29) dX1_put_7 (by decide) (fun _ => ?_) (fun z => absurd rfl z)
  refine bX1_put_29a.go rfl trivial ?_
  refine js_of (J.getf (f := 0) clsX1 rfl h1 (by decide) rfl q384 dX1_put_30 ?_)
  refine J.instA (t := 1) (t' := 3) hX (by decide) (by decide) h2 q335 dX1_put_33 ?_
  refine of_js ?_
  refine j_if_eq (tgt := 58) dX1_put_36 (by decide) (fun _ => ?_) (fun z => absurd rfl z)
  refine bX1_put_58.go rfl trivial ?_
  refine js_of (J.callX (As := [.int i, .long v]) (st := []) (pw_long hX h1 h2 hl) q339 (Or.inr ⟨_, rfl⟩) h1 rfl dX1_put_61 q336 q338 qs3 q132 hc_putWider (by decide) (by decide) (by decide) (fun r h' q => ?_) (fun C a h' q => ?_))
  · obtain ⟨rfl, hi, rfl⟩ := q
    exact J.toX (J.vret dX1_put_64 rfl (by decide) (by decide) ⟨none, rfl, rfl, hi, rfl⟩)
  · obtain ⟨rfl, hi, rfl⟩ := q
    exact JT.out hX (fun c q => ehT_nil q) rfl (by decide) (by decide) ⟨rfl, hi, rfl⟩
theorem sr_p1 : Srch RX1 cNpe 3 [(0, 6, 9, 29), (0, 6, 14, 31)] (some 9) := Or.inr (Or.inr ⟨by decide, by decide, cNpe, q285, Or.inl ⟨Or.inl rfl, rfl⟩⟩)
theorem sr_p2 : Srch RX1 cIdx 3 [(0, 6, 9, 29), (0, 6, 14, 31)] (some 14) := Or.inr (Or.inr ⟨by decide, by decide, cNpe, q285, Or.inr ⟨th_mem 30 rfl, Or.inr (Or.inr ⟨by decide, by decide, cIdx, q310, Or.inl ⟨Or.inl rfl, rfl⟩⟩)⟩⟩)
theorem ps_null (hX : ThX X) (h1 : h o = some (.inr (1, [.null]))) : CgX X mX1_puts cwPs rPs [.ref o, .int i, .long v] h (fun r h' => r = some (.int (-6)) ∧ h' = h) (fun _ _ _ => False) := by
  refine CgX.ofW (L := [some (.ref o), some (.int i), some (.long v), none, none]) (by decide +kernel) rfl 1 rfl (Nat.le_of_ble_eq_true rfl) (by decide) ?_
  refine of_js ?_
  refine bX1_puts_0.go rfl trivial ?_
  refine js_of (J.callX (As := [.int i, .long v]) (st := []) (pt_null hX h1) q333 (Or.inl rfl) h1 rfl dX1_puts_3 q329 q331 qs2 q132 hc_put (by decide) (by decide) (by decide) (fun r h' q => ?_) (fun C a h' q => ?_))
  · exact q.elim
  · obtain ⟨rfl, rfl⟩ := q
    refine JT.catch hX rfl sr_p1 ?_
    refine of_js ?_
    refine bX1_puts_9.go rfl trivial ?_
    exact js_of (J.toX (J.iret dX1_puts_13 rfl (by decide) (by decide) ⟨_, rfl, rfl, rfl⟩))
theorem ps_byte (hX : ThX X) (h1 : h o = some (.inr (1, [.ref b]))) (h2 : h b = some (.inl (X.dA 2, len, .inl f))) (hl : len < 2 ^ 31) : CgX X mX1_puts cwPs rPs [.ref o, .int i, .long v] h (fun r h' => (r = some (.int (nI 0)) ∧ vp_in i len ∧ h' = va_up h b (some (.inl (X.dA 2, len, .inl (upd f i.toNatClampNeg (vp_nar .byte v.toInt32.toInt8.toInt32)))))) ∨ (r = some (.int (-7)) ∧ ¬ vp_in i len ∧ h' = h)) (fun _ _ _ => False) := by
  refine CgX.ofW (L := [some (.ref o), some (.int i), some (.long v), none, none]) (by decide +kernel) rfl 1 rfl (Nat.le_of_ble_eq_true rfl) (by decide) ?_
  refine of_js ?_
  refine bX1_puts_0.go rfl trivial ?_
  refine js_of (J.callX (As := [.int i, .long v]) (st := []) (pt_byte hX h1 h2 hl) q333 (Or.inl rfl) h1 rfl dX1_puts_3 q329 q331 qs2 q132 hc_put (by decide) (by decide) (by decide) (fun r h' q => ?_) (fun C a h' q => ?_))
  · obtain ⟨rfl, hi, rfl⟩ := q
    refine of_js ?_
    refine bX1_puts_6.go rfl trivial ?_
    exact js_of (J.toX (J.iret dX1_puts_20 rfl (by decide) (by decide) ⟨_, rfl, Or.inl ⟨rfl, hi, rfl⟩⟩))
  · obtain ⟨rfl, hi, rfl⟩ := q
    refine JT.catch hX rfl sr_p2 ?_
    refine of_js ?_
    refine bX1_puts_14.go rfl trivial ?_
    exact js_of (J.toX (J.iret dX1_puts_18 rfl (by decide) (by decide) ⟨_, rfl, Or.inr ⟨rfl, hi, rfl⟩⟩))
theorem ps_short (hX : ThX X) (h1 : h o = some (.inr (1, [.ref b]))) (h2 : h b = some (.inl (X.dA 3, len, .inl f))) (hl : len < 2 ^ 31) : CgX X mX1_puts cwPs rPs [.ref o, .int i, .long v] h (fun r h' => (r = some (.int (nI 0)) ∧ vp_in i len ∧ h' = va_up h b (some (.inl (X.dA 3, len, .inl (upd f i.toNatClampNeg (vp_nar .short v.toInt32.toInt16.toInt32)))))) ∨ (r = some (.int (-7)) ∧ ¬ vp_in i len ∧ h' = h)) (fun _ _ _ => False) := by
  refine CgX.ofW (L := [some (.ref o), some (.int i), some (.long v), none, none]) (by decide +kernel) rfl 1 rfl (Nat.le_of_ble_eq_true rfl) (by decide) ?_
  refine of_js ?_
  refine bX1_puts_0.go rfl trivial ?_
  refine js_of (J.callX (As := [.int i, .long v]) (st := []) (pt_short hX h1 h2 hl) q333 (Or.inl rfl) h1 rfl dX1_puts_3 q329 q331 qs2 q132 hc_put (by decide) (by decide) (by decide) (fun r h' q => ?_) (fun C a h' q => ?_))
  · obtain ⟨rfl, hi, rfl⟩ := q
    refine of_js ?_
    refine bX1_puts_6.go rfl trivial ?_
    exact js_of (J.toX (J.iret dX1_puts_20 rfl (by decide) (by decide) ⟨_, rfl, Or.inl ⟨rfl, hi, rfl⟩⟩))
  · obtain ⟨rfl, hi, rfl⟩ := q
    refine JT.catch hX rfl sr_p2 ?_
    refine of_js ?_
    refine bX1_puts_14.go rfl trivial ?_
    exact js_of (J.toX (J.iret dX1_puts_18 rfl (by decide) (by decide) ⟨_, rfl, Or.inr ⟨rfl, hi, rfl⟩⟩))
theorem ps_int (hX : ThX X) (h1 : h o = some (.inr (1, [.ref b]))) (h2 : h b = some (.inl (X.dA 0, len, .inl f))) (hl : len < 2 ^ 31) : CgX X mX1_puts cwPs rPs [.ref o, .int i, .long v] h (fun r h' => (r = some (.int (nI 0)) ∧ vp_in i len ∧ h' = va_up h b (some (.inl (X.dA 0, len, .inl (upd f i.toNatClampNeg v.toInt32))))) ∨ (r = some (.int (-7)) ∧ ¬ vp_in i len ∧ h' = h)) (fun _ _ _ => False) := by
  refine CgX.ofW (L := [some (.ref o), some (.int i), some (.long v), none, none]) (by decide +kernel) rfl 1 rfl (Nat.le_of_ble_eq_true rfl) (by decide) ?_
  refine of_js ?_
  refine bX1_puts_0.go rfl trivial ?_
  refine js_of (J.callX (As := [.int i, .long v]) (st := []) (pt_int hX h1 h2 hl) q333 (Or.inl rfl) h1 rfl dX1_puts_3 q329 q331 qs2 q132 hc_put (by decide) (by decide) (by decide) (fun r h' q => ?_) (fun C a h' q => ?_))
  · obtain ⟨rfl, hi, rfl⟩ := q
    refine of_js ?_
    refine bX1_puts_6.go rfl trivial ?_
    exact js_of (J.toX (J.iret dX1_puts_20 rfl (by decide) (by decide) ⟨_, rfl, Or.inl ⟨rfl, hi, rfl⟩⟩))
  · obtain ⟨rfl, hi, rfl⟩ := q
    refine JT.catch hX rfl sr_p2 ?_
    refine of_js ?_
    refine bX1_puts_14.go rfl trivial ?_
    exact js_of (J.toX (J.iret dX1_puts_18 rfl (by decide) (by decide) ⟨_, rfl, Or.inr ⟨rfl, hi, rfl⟩⟩))
theorem ps_long (hX : ThX X) (h1 : h o = some (.inr (1, [.ref b]))) (h2 : h b = some (.inl (X.dA 1, len, .inr (.inl g)))) (hl : len < 2 ^ 31) : CgX X mX1_puts cwPs rPs [.ref o, .int i, .long v] h (fun r h' => (r = some (.int (nI 0)) ∧ vp_in i len ∧ h' = va_up h b (some (.inl (X.dA 1, len, .inr (.inl (vp_updL g i.toNatClampNeg v)))))) ∨ (r = some (.int (-7)) ∧ ¬ vp_in i len ∧ h' = h)) (fun _ _ _ => False) := by
  refine CgX.ofW (L := [some (.ref o), some (.int i), some (.long v), none, none]) (by decide +kernel) rfl 1 rfl (Nat.le_of_ble_eq_true rfl) (by decide) ?_
  refine of_js ?_
  refine bX1_puts_0.go rfl trivial ?_
  refine js_of (J.callX (As := [.int i, .long v]) (st := []) (pt_long hX h1 h2 hl) q333 (Or.inl rfl) h1 rfl dX1_puts_3 q329 q331 qs2 q132 hc_put (by decide) (by decide) (by decide) (fun r h' q => ?_) (fun C a h' q => ?_))
  · obtain ⟨rfl, hi, rfl⟩ := q
    refine of_js ?_
    refine bX1_puts_6.go rfl trivial ?_
    exact js_of (J.toX (J.iret dX1_puts_20 rfl (by decide) (by decide) ⟨_, rfl, Or.inl ⟨rfl, hi, rfl⟩⟩))
  · obtain ⟨rfl, hi, rfl⟩ := q
    refine JT.catch hX rfl sr_p2 ?_
    refine of_js ?_
    refine bX1_puts_14.go rfl trivial ?_
    exact js_of (J.toX (J.iret dX1_puts_18 rfl (by decide) (by decide) ⟨_, rfl, Or.inr ⟨rfl, hi, rfl⟩⟩))
end Slp
