set_option maxRecDepth 100000
/-! ===== UnseenClock$Slot: putWider, put, puts, begins ===== -/
section OpN
variable {σ : Type} {Pic : Cx → σ → AH → Prop} {M : MD} {pc : Nat}
def oASN (i : Nat) : OPS σ := .inl (fun s => match s with
  | (L, .null :: st, x) => lset1K L i .null (fun L1 => some (L1, st, x))
  | _ => none)
theorem s_astoreN {i : Nat} (hd : decode M.cc pc = .ok (.astore i, 2)) (hn : i < M.nL) : JStp Pic M pc (pc + 2) (oASN i) := by
  intro X R Z k n L st x L' st' x' hf kk h hp p e s m args below meth c B rk H locs ls hW hS hL
  dsimp only at hf
  split at hf
  · rename_i heq
    cases heq
    simp only [lset1K_eq, Option.some.injEq, Prod.mk.injEq] at hf
    obtain ⟨rfl, rfl, rfl⟩ := hf
    exact lv_astoreN B.1 B.2.1 hd hL.has hn rfl (fun ls' hl' => kk h hp p e s m args below meth c B rk H locs ls' hW hS (LV.of1 hl'))
  · cases hf
def oALN (i : Nat) : OPS σ := .inl (fun s => match s with
  | (L, st, x) => match L[i]? with
    | some (some .null) => some (L, .null :: st, x)
    | _ => none)
theorem s_aloadN {i : Nat} (hd : decode M.cc pc = .ok (.aload i, 2)) : JStp Pic M pc (pc + 2) (oALN i) := by
  intro X R Z k n L st x L' st' x' hf kk h hp p e s m args below meth c B rk H locs ls hW hS hL
  dsimp only at hf
  split at hf
  · rename_i hv
    simp only [Option.some.injEq, Prod.mk.injEq] at hf
    obtain ⟨rfl, rfl, rfl⟩ := hf
    exact lv_aloadN B.1 B.2.1 hd (hL.2.2 _ _ hv) (kk h hp p e s m args below meth c B rk H locs ls hW hS hL)
  · cases hf
end OpN
abbrev mX1_begins : MD := (yX1_begins, cX1_begins, 4, (Option.some .boolean), 1, ehT [(0, 65, 68, 15)])
abbrev mX1_puts : MD := (yX1_puts, cX1_puts, 5, (Option.some .int), 3, ehT [(0, 6, 9, 29), (0, 6, 14, 31)])
abbrev mX1_putWider : MD := (yX1_putWider, cX1_putWider, 6, (Option.none : Option FieldType), 1, ehT [(0, 15, 18, 36)])
abbrev rPW : Room := { frames := 8, cells := 6, slots := 700, locals := 10248 }
abbrev rPt : Room := { frames := 9, cells := 6, slots := 700, locals := 10300 }
abbrev rPs : Room := { frames := 10, cells := 6, slots := 700, locals := 10350 }
abbrev rBg : Room := { frames := 8, cells := 3, slots := 100, locals := 10248 }
abbrev cwPW : Cond := .codeWith yX1_putWider cX1_putWider 6 (Option.none : Option FieldType) [(0, 15, 18, 36)]
abbrev cwPs : Cond := .codeWith yX1_puts cX1_puts 5 (Option.some .int) [(0, 6, 9, 29), (0, 6, 14, 31)]
abbrev cwBg : Cond := .codeWith yX1_begins cX1_begins 4 (Option.some .boolean) [(0, 65, 68, 15)]
theorem th_mem (i : Nat) {w : Cond} (q : thL[i]? = some w) : w ∈ thL := List.mem_of_getElem? q
section Slt
variable {X : Cx} {h : AH} {o b len : Nat} {i : Int32} {v : Int64} {f : Nat → Int32} {g : Nat → Int64}
theorem bX1_putWider_0 : Blk PE mX1_putWider 0 1 [oAL 0] := blk_c (s_aload_n dX1_putWider_0 rfl) <| blk_nil
theorem bX1_putWider_7 : Blk PE mX1_putWider 7 14 [oAS 4, oAL 4, oIL 1, oLL 2, oL2I] := blk_c (s_astore dX1_putWider_7 (by decide)) <| blk_c (s_aload dX1_putWider_9) <| blk_c (s_iload_n dX1_putWider_11 rfl) <| blk_c (s_lload_n dX1_putWider_12 rfl) <| blk_c (s_l2i dX1_putWider_13) <| blk_nil
theorem bX1_putWider_15 : Blk PE mX1_putWider 15 34 [.inl (fun s => some s)] := blk_c (s_goto (tgt := 34) dX1_putWider_15 (by decide)) <| blk_nil
theorem bX1_putWider_7N : Blk PE mX1_putWider 7 14 [oASN 4, oALN 4, oIL 1, oLL 2, oL2I] := (blk_c (s_astoreN dX1_putWider_7 (by decide)) <| blk_c (s_aloadN dX1_putWider_9) <| blk_c (s_iload_n dX1_putWider_11 rfl) <| blk_c (s_lload_n dX1_putWider_12 rfl) <| blk_c (s_l2i dX1_putWider_13) <| blk_nil)
theorem bX1_putWider_18 : Blk PE mX1_putWider 18 21 [oAS 4, oAL 0] := (blk_c (s_astore dX1_putWider_18 (by decide)) <| blk_c (s_aload_n dX1_putWider_20 rfl) <| blk_nil)
theorem bX1_putWider_27 : Blk PE mX1_putWider 27 33 [oAS 5, oAL 5, oIL 1, oLL 2] := (blk_c (s_astore dX1_putWider_27 (by decide)) <| blk_c (s_aload dX1_putWider_29) <| blk_c (s_iload_n dX1_putWider_31 rfl) <| blk_c (s_lload_n dX1_putWider_32 rfl) <| blk_nil)
theorem sr_npe : Srch RX1 cNpe 14 [(0, 15, 18, 36)] none := Or.inr (Or.inr ⟨by decide, by decide, cCast, q340, Or.inr ⟨th_mem 29 rfl, rfl⟩⟩)
theorem sr_idx : Srch RX1 cIdx 14 [(0, 15, 18, 36)] none := Or.inr (Or.inr ⟨by decide, by decide, cCast, q340, Or.inr ⟨th_mem 28 rfl, rfl⟩⟩)
theorem sr_cst : Srch RX1 cCast 4 [(0, 15, 18, 36)] (some 18) := Or.inr (Or.inr ⟨by decide, by decide, cCast, q340, Or.inl ⟨Or.inl rfl, rfl⟩⟩)
theorem sr_33 : Srch RX1 cIdx 33 [(0, 15, 18, 36)] none := Or.inl ⟨by decide, rfl⟩
theorem pw_null (hX : ThX X) (h1 : h o = some (.inr (1, [.null]))) : CgX X mX1_putWider cwPW rPW [.ref o, .int i, .long v] h (fun _ _ => False) (fun C _ h' => C = cNpe ∧ h' = h) := by
  refine CgX.ofW (L := [some (.ref o), some (.int i), some (.long v), none, none, none]) (by decide +kernel) rfl 2 rfl (Nat.le_of_ble_eq_true rfl) (by decide) ?_
  refine of_js ?_
  refine bX1_putWider_0.go rfl trivial ?_
  refine js_of (J.getf (f := 0) clsX1 rfl h1 (by decide) rfl q384 dX1_putWider_1 ?_)
  refine J.castNull dX1_putWider_4 ?_
  refine of_js ?_
  refine bX1_putWider_7N.go rfl trivial ?_
  refine js_of (J.iastNull hX dX1_putWider_14 (by decide) (by decide) (by decide) (fun a => ?_))
  exact JT.out hX (fun c q => q) sr_npe (by decide) (by decide) ⟨rfl, rfl⟩
theorem pw_int (hX : ThX X) (h1 : h o = some (.inr (1, [.ref b]))) (h2 : h b = some (.inl (X.dA 0, len, .inl f))) (hl : len < 2 ^ 31) : CgX X mX1_putWider cwPW rPW [.ref o, .int i, .long v] h (fun r h' => r = none ∧ vp_in i len ∧ h' = va_up h b (some (.inl (X.dA 0, len, .inl (upd f i.toNatClampNeg v.toInt32))))) (fun C _ h' => C = cIdx ∧ ¬ vp_in i len ∧ h' = h) := by
  refine CgX.ofW (L := [some (.ref o), some (.int i), some (.long v), none, none, none]) (by decide +kernel) rfl 2 rfl (Nat.le_of_ble_eq_true rfl) (by decide) ?_
  refine of_js ?_
  refine bX1_putWider_0.go rfl trivial ?_
  refine js_of (J.getf (f := 0) clsX1 rfl h1 (by decide) rfl q384 dX1_putWider_1 ?_)
  refine J.castA (t := 0) (by decide) h2 q354 dX1_putWider_4 ?_
  refine of_js ?_
  refine bX1_putWider_7.go rfl trivial ?_
  by_cases hi : vp_in i len
  · refine js_of (J.iast h2 hi dX1_putWider_14 ?_)
    refine of_js ?_
    refine bX1_putWider_15.go rfl trivial ?_
    exact js_of (J.toX (J.vret dX1_putWider_34 rfl (by decide) (by decide) ⟨none, rfl, rfl, hi, rfl⟩))
  · refine js_of (J.iastOut hX h2 hl hi dX1_putWider_14 (by decide) (by decide) (by decide) (fun a => ?_))
    exact JT.out hX (fun c q => q) sr_idx (by decide) (by decide) ⟨rfl, hi, rfl⟩
theorem pw_long (hX : ThX X) (h1 : h o = some (.inr (1, [.ref b]))) (h2 : h b = some (.inl (X.dA 1, len, .inr (.inl g)))) (hl : len < 2 ^ 31) : CgX X mX1_putWider cwPW rPW [.ref o, .int i, .long v] h (fun r h' => r = none ∧ vp_in i len ∧ h' = va_up h b (some (.inl (X.dA 1, len, .inr (.inl (vp_updL g i.toNatClampNeg v)))))) (fun C _ h' => C = cIdx ∧ ¬ vp_in i len ∧ h' = h) := by
  refine CgX.ofW (L := [some (.ref o), some (.int i), some (.long v), none, none, none]) (by decide +kernel) rfl 2 rfl (Nat.le_of_ble_eq_true rfl) (by decide) ?_
  refine of_js ?_
  refine bX1_putWider_0.go rfl trivial ?_
  refine js_of (J.getf (f := 0) clsX1 rfl h1 (by decide) rfl q384 dX1_putWider_1 ?_)
  refine J.castNo hX h2 q354 dX1_putWider_4 (by decide) (by decide) (by decide) (fun a => ?_)
  refine JT.catch hX rfl sr_cst ?_
  refine of_js ?_
  refine bX1_putWider_18.go rfl trivial ?_
  refine js_of (J.getf (f := 0) clsX1 rfl h1 (by decide) rfl q384 dX1_putWider_21 ?_)
  refine J.castA (t := 1) (by decide) h2 q355 dX1_putWider_24 ?_
  refine of_js ?_
  refine bX1_putWider_27.go rfl trivial ?_
  by_cases hi : vp_in i len
  · refine js_of (J.last h2 hi dX1_putWider_33 ?_)
    exact J.toX (J.vret dX1_putWider_34 rfl (by decide) (by decide) ⟨none, rfl, rfl, hi, rfl⟩)
  · refine js_of (J.lastOut hX h2 hl hi dX1_putWider_33 (by decide) (by decide) (by decide) (fun a => ?_))
    exact JT.out hX (fun c q => q) sr_33 (by decide) (by decide) ⟨rfl, hi, rfl⟩
end Slt
