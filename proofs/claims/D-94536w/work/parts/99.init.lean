set_option maxRecDepth 100000
/-! ===== UnseenClockModel: its constructor ===== -/
/-- while it is made: the object's fields so far, the arrays so far -/
def PI (h : AH) (o : Nat) (fs : List Value) (l : List (Nat × va_E)) : Prop := h o = some (.inr (4, fs)) ∧ (∀ x ∈ l, h x.1 = some x.2 ∧ x.1 ≠ o) ∧ l.Pairwise (fun x y => x.1 ≠ y.1)
theorem PI.new {h : AH} {o : Nat} {fs : List Value} {l : List (Nat × va_E)} (hI : PI h o fs l) {q : Nat} {e : va_E} (hq : h q = none) : PI (va_up h q (some e)) o fs ((q, e) :: l) := by
  obtain ⟨h1, h2, h3⟩ := hI
  have hqo : q ≠ o := fun e => by rw [e, h1] at hq; cases hq
  have hqx : ∀ x ∈ l, x.1 ≠ q := fun x hx e => by rw [← e, (h2 x hx).1] at hq; cases hq
  refine ⟨by rw [va_up_ne _ _ (fun e => hqo e.symm)]; exact h1, fun x hx => ?_, ?_⟩
  · rcases List.mem_cons.mp hx with rfl | hx
    · exact ⟨va_up_self _ _ _, hqo⟩
    · exact ⟨by rw [va_up_ne _ _ (hqx x hx)]; exact (h2 x hx).1, (h2 x hx).2⟩
  · exact List.pairwise_cons.mpr ⟨fun x hx e => hqx x hx e.symm, h3⟩
theorem PI.fld {h : AH} {o : Nat} {fs fs' : List Value} {l : List (Nat × va_E)} (hI : PI h o fs l) : PI (va_up h o (some (.inr (4, fs')))) o fs' l := by
  obtain ⟨h1, h2, h3⟩ := hI
  exact ⟨va_up_self _ _ _, fun x hx => ⟨by rw [va_up_ne _ _ (h2 x hx).2]; exact (h2 x hx).1, (h2 x hx).2⟩, h3⟩
theorem PI.arr {h : AH} {o : Nat} {fs : List Value} {l : List (Nat × va_E)} {q : Nat} {e e' : va_E} (hI : PI h o fs ((q, e) :: l)) : PI (va_up h q (some e')) o fs ((q, e') :: l) := by
  obtain ⟨h1, h2, h3⟩ := hI
  obtain ⟨k1, k2⟩ := h2 (q, e) List.mem_cons_self
  have h4 := List.pairwise_cons.mp h3
  refine ⟨by rw [va_up_ne _ _ (fun e => k2 e.symm)]; exact h1, fun x hx => ?_, List.pairwise_cons.mpr ⟨fun x hx => h4.1 x hx, h4.2⟩⟩
  rcases List.mem_cons.mp hx with rfl | hx
  · exact ⟨va_up_self _ _ _, k2⟩
  · have := h2 x (List.mem_cons_of_mem _ hx)
    exact ⟨by rw [va_up_ne _ _ (fun e => h4.1 x hx e.symm)]; exact this.1, this.2⟩
theorem vc_int (N : Nat) : ∀ cA : ClassId, vp_cell cA (N, .inl (fun _ => 0)) = arrV cA N (fun _ => defaultValue .int) := fun _ => rfl
theorem vc_boolean (N : Nat) : ∀ cA : ClassId, vp_cell cA (N, .inl (fun _ => 0)) = arrV cA N (fun _ => defaultValue .boolean) := fun _ => rfl
theorem vc_byte (N : Nat) : ∀ cA : ClassId, vp_cell cA (N, .inl (fun _ => 0)) = arrV cA N (fun _ => defaultValue .byte) := fun _ => rfl
theorem vc_short (N : Nat) : ∀ cA : ClassId, vp_cell cA (N, .inl (fun _ => 0)) = arrV cA N (fun _ => defaultValue .short) := fun _ => rfl
theorem vc_long (N : Nat) : ∀ cA : ClassId, vp_cell cA (N, .inr (.inl (fun _ => 0))) = arrV cA N (fun _ => defaultValue .long) := fun _ => rfl
section Init99
variable {X : Cx} {R : Room} {Z : ZT} {k n pc p1 idx o : Nat} {h : AH} {fs : List Value} {l : List (Nat × va_E)}
/-- this.f = new T[N] -/
theorem i_arr {M : MD} {f t N : Nat} {atype : ArrayType} {ty : FieldType} {a0 : vp_A} (hI : PI h o fs l) (hN : NewOK X) (hM : M.y.cls = RX4 ∧ M.y.name = "<init>") (b0 : Blk PE M pc p1 [oAL 0, oC (nI N)]) (hty : newarray.typeOf atype = ty) (ht : (tysAll X)[t]? = some (X.dA t, ty)) (hra : ∀ U c, va_RA U c ty → U.vm.findClass ("[" ++ ty.toString) = some c) (harr : Cond.arrayClass (newarray.typeOf atype) ∈ lw_all) (ha : ∀ cA : ClassId, vp_cell cA a0 = arrV cA N (fun _ => defaultValue ty)) (hlt : N < 2 ^ 31) (hbytes : N * componentBytes ty ≤ 536870912) (hf : k + 1 ≤ R.cells ∧ n + N ≤ R.slots) (hd : decode M.cc p1 = .ok (.newarray atype, 2)) (hf1 : f < 41) (hfs : f < fs.length) (hfin : (TX4 f).2.2.2 = true) (hdecl : (TX4 f).1 = RX4) (hfit : tyX4 f = .array ty) (hl : Cond.fieldLink RX4 idx (TX4 f).1 (TX4 f).2.1 (TX4 f).2.2.1 ∈ lw_all) (hd2 : decode M.cc (p1 + 2) = .ok (.putfield idx, 3))
    (kk : ∀ q h', PI h' o (fs.set f (.ref q)) ((q, .inl (X.dA t, a0)) :: l) → JS PE X M R Z (k + 1) (n + N) (p1 + 2 + 3) [some (.ref o)] [] h') : JS PE X M R Z k n pc [some (.ref o)] [] h := by
  refine b0.go rfl trivial ?_
  rintro _ rfl
  refine J.newa hN hty ht hra harr ha hlt hbytes hf hd (fun q hq => ?_)
  have hI1 := hI.new (e := .inl (X.dA t, a0)) hq
  refine J.putfF clsX4 rfl hI1.1 hf1 hfs hfin hM.2 (by rw [hM.1]; exact hdecl) (by rw [hfit]; rfl) (by rw [hfit]; rfl) (by rw [hM.1]; exact hl) hd2 ?_
  exact kk q _ hI1.fld _ rfl
theorem i_int {M : MD} {f : Nat} {v : Int32} (hI : PI h o fs l) (hM : M.y.cls = RX4) (b0 : Blk PE M pc p1 [oAL 0, oC v]) (hf1 : f < 41) (hfs : f < fs.length) (hfin : (TX4 f).2.2.2 = false) (hty : tyX4 f = .int) (hl : Cond.fieldLink RX4 idx (TX4 f).1 (TX4 f).2.1 (TX4 f).2.2.1 ∈ lw_all) (hd2 : decode M.cc p1 = .ok (.putfield idx, 3))
    (kk : ∀ h', PI h' o (fs.set f (.int v)) l → JS PE X M R Z k n (p1 + 3) [some (.ref o)] [] h') : JS PE X M R Z k n pc [some (.ref o)] [] h := by
  refine b0.go rfl trivial ?_
  rintro _ rfl
  refine J.putf clsX4 rfl hI.1 hf1 hfs hfin (by rw [hty]; rfl) (by rw [hty]; rfl) (by rw [hM]; exact hl) hd2 ?_
  exact kk _ hI.fld _ rfl
end Init99
/-- the fields of a new object -/
abbrev dfX4 : List Value := [.int 0, .null, .null, .null, .null, .int 0, .null, .int 0, .int 0, .int 0, .int 0, .int 0, .int 0, .int 0, .null, .null, .null, .null, .null, .null, .null, .null, .int 0, .null, .int 0, .null, .null, .null, .int 0, .long 0, .null, .null, .null, .null, .int 0, .null, .null, .null, .null, .null, .null]
/-- a new UnseenClockModel -/
def Ini4 (A : Nat → Nat → Int32) (B : Nat → Nat → Int64) : Prop := (∀ f, f ≠ 0 → f ≠ 37 → A f = fun _ => 0) ∧ (∀ i, i ≠ 13 → A 0 i = 0) ∧ A 0 13 = -1 ∧ (∀ s, s < 4 → A 37 s = -1) ∧ B = fun _ _ => 0
/-- where a field's array stands in the list -/
def pos4 : Nat → Nat
  | 1 => 26
  | 2 => 25
  | 3 => 24
  | 4 => 23
  | 6 => 22
  | 14 => 21
  | 15 => 20
  | 16 => 19
  | 17 => 18
  | 18 => 17
  | 19 => 16
  | 20 => 15
  | 21 => 14
  | 23 => 13
  | 25 => 12
  | 26 => 11
  | 27 => 10
  | 30 => 9
  | 31 => 8
  | 32 => 7
  | 33 => 6
  | 35 => 5
  | 36 => 4
  | 37 => 3
  | 38 => 2
  | 39 => 1
  | 40 => 0
  | _ => 0
theorem ini_c0 {X : Cx} (hN : NewOK X) {R : Room} {Z : ZT} {o : Nat} {h : AH} {fs : List Value} {l : List (Nat × va_E)} (hR : 27 ≤ R.cells ∧ 70636 ≤ R.slots) (h41 : fs.length = 41) (hI : PI h o fs l)
    (kk : ∀ q4 q13 q22 q29 h', PI h' o ((((fs.set 1 (.ref q4)).set 2 (.ref q13)).set 3 (.ref q22)).set 4 (.ref q29)) ((q29, .inl (X.dA 2, 2400, .inl (fun _ => 0))) :: (q22, .inl (X.dA 4, 3, .inl (fun _ => 0))) :: (q13, .inl (X.dA 0, 960, .inl (fun _ => 0))) :: (q4, .inl (X.dA 0, 320, .inl (fun _ => 0))) :: l) → JS PE X mX4_init R Z 4 3683 38 [some (.ref o)] [] h') : JS PE X mX4_init R Z 0 0 4 [some (.ref o)] [] h := by
  have hR1 := hR.1
  have hR2 := hR.2
  refine i_arr (atype := .int) (ty := .int) (f := 1) (t := 0) (N := 320) (a0 := (320, .inl (fun _ => 0))) hI hN ⟨rfl, rfl⟩ (blk_c (s_aload_n dX4_init_4 rfl) <| blk_c (s_sipush dX4_init_5 (by decide +kernel)) <| blk_nil) rfl rfl (fun _ _ z => z) q275 (vc_int 320) (by decide) (by decide) ⟨by omega, by omega⟩ dX4_init_8 (by decide) (by simp only [List.length_set, h41]; decide) rfl rfl rfl q1639 dX4_init_10 (fun q4 h4 hI4 => ?_)
  refine i_arr (atype := .int) (ty := .int) (f := 2) (t := 0) (N := 960) (a0 := (960, .inl (fun _ => 0))) hI4 hN ⟨rfl, rfl⟩ (blk_c (s_aload_n dX4_init_13 rfl) <| blk_c (s_sipush dX4_init_14 (by decide +kernel)) <| blk_nil) rfl rfl (fun _ _ z => z) q275 (vc_int 960) (by decide) (by decide) ⟨by omega, by omega⟩ dX4_init_17 (by decide) (by simp only [List.length_set, h41]; decide) rfl rfl rfl q1640 dX4_init_19 (fun q13 h13 hI13 => ?_)
  refine i_arr (atype := .boolean) (ty := .boolean) (f := 3) (t := 4) (N := 3) (a0 := (3, .inl (fun _ => 0))) hI13 hN ⟨rfl, rfl⟩ (blk_c (s_aload_n dX4_init_22 rfl) <| blk_c (s_iconst dX4_init_23 (by decide +kernel)) <| blk_nil) rfl rfl (fun _ _ z => z) q473 (vc_boolean 3) (by decide) (by decide) ⟨by omega, by omega⟩ dX4_init_24 (by decide) (by simp only [List.length_set, h41]; decide) rfl rfl rfl q1641 dX4_init_26 (fun q22 h22 hI22 => ?_)
  refine i_arr (atype := .byte) (ty := .byte) (f := 4) (t := 2) (N := 2400) (a0 := (2400, .inl (fun _ => 0))) hI22 hN ⟨rfl, rfl⟩ (blk_c (s_aload_n dX4_init_29 rfl) <| blk_c (s_sipush dX4_init_30 (by decide +kernel)) <| blk_nil) rfl rfl (fun _ _ z => z) q269 (vc_byte 2400) (by decide) (by decide) ⟨by omega, by omega⟩ dX4_init_33 (by decide) (by simp only [List.length_set, h41]; decide) rfl rfl rfl q1642 dX4_init_35 (fun q29 h29 hI29 => ?_)
  exact kk q4 q13 q22 q29 _ hI29
theorem ini_c1 {X : Cx} (hN : NewOK X) {R : Room} {Z : ZT} {o : Nat} {h : AH} {fs : List Value} {l : List (Nat × va_E)} (hR : 27 ≤ R.cells ∧ 70636 ≤ R.slots) (h41 : fs.length = 41) (hI : PI h o fs l)
    (kk : ∀ q38 q50 q59 h', PI h' o ((((fs.set 6 (.ref q38)).set 13 (.int (-1))).set 14 (.ref q50)).set 15 (.ref q59)) ((q59, .inl (X.dA 0, 320, .inl (fun _ => 0))) :: (q50, .inl (X.dA 0, 320, .inl (fun _ => 0))) :: (q38, .inl (X.dA 0, 5, .inl (fun _ => 0))) :: l) → JS PE X mX4_init R Z 7 4328 68 [some (.ref o)] [] h') : JS PE X mX4_init R Z 4 3683 38 [some (.ref o)] [] h := by
  have hR1 := hR.1
  have hR2 := hR.2
  refine i_arr (atype := .int) (ty := .int) (f := 6) (t := 0) (N := 5) (a0 := (5, .inl (fun _ => 0))) hI hN ⟨rfl, rfl⟩ (blk_c (s_aload_n dX4_init_38 rfl) <| blk_c (s_iconst dX4_init_39 (by decide +kernel)) <| blk_nil) rfl rfl (fun _ _ z => z) q275 (vc_int 5) (by decide) (by decide) ⟨by omega, by omega⟩ dX4_init_40 (by decide) (by simp only [List.length_set, h41]; decide) rfl rfl rfl q1644 dX4_init_42 (fun q38 h38 hI38 => ?_)
  refine i_int (f := 13) (v := -1) hI38 rfl (blk_c (s_aload_n dX4_init_45 rfl) <| blk_c (s_iconst dX4_init_46 (by decide +kernel)) <| blk_nil) (by decide) (by simp only [List.length_set, h41]; decide) rfl rfl q1651 dX4_init_47 (fun hh45 hS45 => ?_)
  refine i_arr (atype := .int) (ty := .int) (f := 14) (t := 0) (N := 320) (a0 := (320, .inl (fun _ => 0))) hS45 hN ⟨rfl, rfl⟩ (blk_c (s_aload_n dX4_init_50 rfl) <| blk_c (s_sipush dX4_init_51 (by decide +kernel)) <| blk_nil) rfl rfl (fun _ _ z => z) q275 (vc_int 320) (by decide) (by decide) ⟨by omega, by omega⟩ dX4_init_54 (by decide) (by simp only [List.length_set, h41]; decide) rfl rfl rfl q1652 dX4_init_56 (fun q50 h50 hI50 => ?_)
  refine i_arr (atype := .int) (ty := .int) (f := 15) (t := 0) (N := 320) (a0 := (320, .inl (fun _ => 0))) hI50 hN ⟨rfl, rfl⟩ (blk_c (s_aload_n dX4_init_59 rfl) <| blk_c (s_sipush dX4_init_60 (by decide +kernel)) <| blk_nil) rfl rfl (fun _ _ z => z) q275 (vc_int 320) (by decide) (by decide) ⟨by omega, by omega⟩ dX4_init_63 (by decide) (by simp only [List.length_set, h41]; decide) rfl rfl rfl q1653 dX4_init_65 (fun q59 h59 hI59 => ?_)
  exact kk q38 q50 q59 _ hI59
theorem ini_c2 {X : Cx} (hN : NewOK X) {R : Room} {Z : ZT} {o : Nat} {h : AH} {fs : List Value} {l : List (Nat × va_E)} (hR : 27 ≤ R.cells ∧ 70636 ≤ R.slots) (h41 : fs.length = 41) (hI : PI h o fs l)
    (kk : ∀ q68 q77 q85 q94 h', PI h' o ((((fs.set 16 (.ref q68)).set 17 (.ref q77)).set 18 (.ref q85)).set 19 (.ref q94)) ((q94, .inl (X.dA 0, 320, .inl (fun _ => 0))) :: (q85, .inl (X.dA 0, 164, .inl (fun _ => 0))) :: (q77, .inl (X.dA 4, 32, .inl (fun _ => 0))) :: (q68, .inl (X.dA 0, 320, .inl (fun _ => 0))) :: l) → JS PE X mX4_init R Z 11 5164 103 [some (.ref o)] [] h') : JS PE X mX4_init R Z 7 4328 68 [some (.ref o)] [] h := by
  have hR1 := hR.1
  have hR2 := hR.2
  refine i_arr (atype := .int) (ty := .int) (f := 16) (t := 0) (N := 320) (a0 := (320, .inl (fun _ => 0))) hI hN ⟨rfl, rfl⟩ (blk_c (s_aload_n dX4_init_68 rfl) <| blk_c (s_sipush dX4_init_69 (by decide +kernel)) <| blk_nil) rfl rfl (fun _ _ z => z) q275 (vc_int 320) (by decide) (by decide) ⟨by omega, by omega⟩ dX4_init_72 (by decide) (by simp only [List.length_set, h41]; decide) rfl rfl rfl q1654 dX4_init_74 (fun q68 h68 hI68 => ?_)
  refine i_arr (atype := .boolean) (ty := .boolean) (f := 17) (t := 4) (N := 32) (a0 := (32, .inl (fun _ => 0))) hI68 hN ⟨rfl, rfl⟩ (blk_c (s_aload_n dX4_init_77 rfl) <| blk_c (s_bipush dX4_init_78 (by decide +kernel)) <| blk_nil) rfl rfl (fun _ _ z => z) q473 (vc_boolean 32) (by decide) (by decide) ⟨by omega, by omega⟩ dX4_init_80 (by decide) (by simp only [List.length_set, h41]; decide) rfl rfl rfl q1655 dX4_init_82 (fun q77 h77 hI77 => ?_)
  refine i_arr (atype := .int) (ty := .int) (f := 18) (t := 0) (N := 164) (a0 := (164, .inl (fun _ => 0))) hI77 hN ⟨rfl, rfl⟩ (blk_c (s_aload_n dX4_init_85 rfl) <| blk_c (s_sipush dX4_init_86 (by decide +kernel)) <| blk_nil) rfl rfl (fun _ _ z => z) q275 (vc_int 164) (by decide) (by decide) ⟨by omega, by omega⟩ dX4_init_89 (by decide) (by simp only [List.length_set, h41]; decide) rfl rfl rfl q1656 dX4_init_91 (fun q85 h85 hI85 => ?_)
  refine i_arr (atype := .int) (ty := .int) (f := 19) (t := 0) (N := 320) (a0 := (320, .inl (fun _ => 0))) hI85 hN ⟨rfl, rfl⟩ (blk_c (s_aload_n dX4_init_94 rfl) <| blk_c (s_sipush dX4_init_95 (by decide +kernel)) <| blk_nil) rfl rfl (fun _ _ z => z) q275 (vc_int 320) (by decide) (by decide) ⟨by omega, by omega⟩ dX4_init_98 (by decide) (by simp only [List.length_set, h41]; decide) rfl rfl rfl q1657 dX4_init_100 (fun q94 h94 hI94 => ?_)
  exact kk q68 q77 q85 q94 _ hI94
theorem ini_c3 {X : Cx} (hN : NewOK X) {R : Room} {Z : ZT} {o : Nat} {h : AH} {fs : List Value} {l : List (Nat × va_E)} (hR : 27 ≤ R.cells ∧ 70636 ≤ R.slots) (h41 : fs.length = 41) (hI : PI h o fs l)
    (kk : ∀ q103 q112 q121 q130 h', PI h' o ((((fs.set 20 (.ref q103)).set 21 (.ref q112)).set 23 (.ref q121)).set 25 (.ref q130)) ((q130, .inl (X.dA 0, 4, .inl (fun _ => 0))) :: (q121, .inl (X.dA 4, 1280, .inl (fun _ => 0))) :: (q112, .inl (X.dA 0, 1280, .inl (fun _ => 0))) :: (q103, .inl (X.dA 0, 320, .inl (fun _ => 0))) :: l) → JS PE X mX4_init R Z 15 8048 137 [some (.ref o)] [] h') : JS PE X mX4_init R Z 11 5164 103 [some (.ref o)] [] h := by
  have hR1 := hR.1
  have hR2 := hR.2
  refine i_arr (atype := .int) (ty := .int) (f := 20) (t := 0) (N := 320) (a0 := (320, .inl (fun _ => 0))) hI hN ⟨rfl, rfl⟩ (blk_c (s_aload_n dX4_init_103 rfl) <| blk_c (s_sipush dX4_init_104 (by decide +kernel)) <| blk_nil) rfl rfl (fun _ _ z => z) q275 (vc_int 320) (by decide) (by decide) ⟨by omega, by omega⟩ dX4_init_107 (by decide) (by simp only [List.length_set, h41]; decide) rfl rfl rfl q1658 dX4_init_109 (fun q103 h103 hI103 => ?_)
  refine i_arr (atype := .int) (ty := .int) (f := 21) (t := 0) (N := 1280) (a0 := (1280, .inl (fun _ => 0))) hI103 hN ⟨rfl, rfl⟩ (blk_c (s_aload_n dX4_init_112 rfl) <| blk_c (s_sipush dX4_init_113 (by decide +kernel)) <| blk_nil) rfl rfl (fun _ _ z => z) q275 (vc_int 1280) (by decide) (by decide) ⟨by omega, by omega⟩ dX4_init_116 (by decide) (by simp only [List.length_set, h41]; decide) rfl rfl rfl q1659 dX4_init_118 (fun q112 h112 hI112 => ?_)
  refine i_arr (atype := .boolean) (ty := .boolean) (f := 23) (t := 4) (N := 1280) (a0 := (1280, .inl (fun _ => 0))) hI112 hN ⟨rfl, rfl⟩ (blk_c (s_aload_n dX4_init_121 rfl) <| blk_c (s_sipush dX4_init_122 (by decide +kernel)) <| blk_nil) rfl rfl (fun _ _ z => z) q473 (vc_boolean 1280) (by decide) (by decide) ⟨by omega, by omega⟩ dX4_init_125 (by decide) (by simp only [List.length_set, h41]; decide) rfl rfl rfl q1661 dX4_init_127 (fun q121 h121 hI121 => ?_)
  refine i_arr (atype := .int) (ty := .int) (f := 25) (t := 0) (N := 4) (a0 := (4, .inl (fun _ => 0))) hI121 hN ⟨rfl, rfl⟩ (blk_c (s_aload_n dX4_init_130 rfl) <| blk_c (s_iconst dX4_init_131 (by decide +kernel)) <| blk_nil) rfl rfl (fun _ _ z => z) q275 (vc_int 4) (by decide) (by decide) ⟨by omega, by omega⟩ dX4_init_132 (by decide) (by simp only [List.length_set, h41]; decide) rfl rfl rfl q1663 dX4_init_134 (fun q130 h130 hI130 => ?_)
  exact kk q103 q112 q121 q130 _ hI130
theorem ini_c4 {X : Cx} (hN : NewOK X) {R : Room} {Z : ZT} {o : Nat} {h : AH} {fs : List Value} {l : List (Nat × va_E)} (hR : 27 ≤ R.cells ∧ 70636 ≤ R.slots) (h41 : fs.length = 41) (hI : PI h o fs l)
    (kk : ∀ q137 q144 q151 q159 h', PI h' o ((((fs.set 26 (.ref q137)).set 27 (.ref q144)).set 30 (.ref q151)).set 31 (.ref q159)) ((q159, .inl (X.dA 4, 32, .inl (fun _ => 0))) :: (q151, .inl (X.dA 0, 32, .inl (fun _ => 0))) :: (q144, .inl (X.dA 0, 4, .inl (fun _ => 0))) :: (q137, .inl (X.dA 0, 4, .inl (fun _ => 0))) :: l) → JS PE X mX4_init R Z 19 8120 167 [some (.ref o)] [] h') : JS PE X mX4_init R Z 15 8048 137 [some (.ref o)] [] h := by
  have hR1 := hR.1
  have hR2 := hR.2
  refine i_arr (atype := .int) (ty := .int) (f := 26) (t := 0) (N := 4) (a0 := (4, .inl (fun _ => 0))) hI hN ⟨rfl, rfl⟩ (blk_c (s_aload_n dX4_init_137 rfl) <| blk_c (s_iconst dX4_init_138 (by decide +kernel)) <| blk_nil) rfl rfl (fun _ _ z => z) q275 (vc_int 4) (by decide) (by decide) ⟨by omega, by omega⟩ dX4_init_139 (by decide) (by simp only [List.length_set, h41]; decide) rfl rfl rfl q1664 dX4_init_141 (fun q137 h137 hI137 => ?_)
  refine i_arr (atype := .int) (ty := .int) (f := 27) (t := 0) (N := 4) (a0 := (4, .inl (fun _ => 0))) hI137 hN ⟨rfl, rfl⟩ (blk_c (s_aload_n dX4_init_144 rfl) <| blk_c (s_iconst dX4_init_145 (by decide +kernel)) <| blk_nil) rfl rfl (fun _ _ z => z) q275 (vc_int 4) (by decide) (by decide) ⟨by omega, by omega⟩ dX4_init_146 (by decide) (by simp only [List.length_set, h41]; decide) rfl rfl rfl q1665 dX4_init_148 (fun q144 h144 hI144 => ?_)
  refine i_arr (atype := .int) (ty := .int) (f := 30) (t := 0) (N := 32) (a0 := (32, .inl (fun _ => 0))) hI144 hN ⟨rfl, rfl⟩ (blk_c (s_aload_n dX4_init_151 rfl) <| blk_c (s_bipush dX4_init_152 (by decide +kernel)) <| blk_nil) rfl rfl (fun _ _ z => z) q275 (vc_int 32) (by decide) (by decide) ⟨by omega, by omega⟩ dX4_init_154 (by decide) (by simp only [List.length_set, h41]; decide) rfl rfl rfl q1668 dX4_init_156 (fun q151 h151 hI151 => ?_)
  refine i_arr (atype := .boolean) (ty := .boolean) (f := 31) (t := 4) (N := 32) (a0 := (32, .inl (fun _ => 0))) hI151 hN ⟨rfl, rfl⟩ (blk_c (s_aload_n dX4_init_159 rfl) <| blk_c (s_bipush dX4_init_160 (by decide +kernel)) <| blk_nil) rfl rfl (fun _ _ z => z) q473 (vc_boolean 32) (by decide) (by decide) ⟨by omega, by omega⟩ dX4_init_162 (by decide) (by simp only [List.length_set, h41]; decide) rfl rfl rfl q1669 dX4_init_164 (fun q159 h159 hI159 => ?_)
  exact kk q137 q144 q151 q159 _ hI159
theorem ini_c5 {X : Cx} (hN : NewOK X) {R : Room} {Z : ZT} {o : Nat} {h : AH} {fs : List Value} {l : List (Nat × va_E)} (hR : 27 ≤ R.cells ∧ 70636 ≤ R.slots) (h41 : fs.length = 41) (hI : PI h o fs l)
    (kk : ∀ q167 q176 q184 q193 h', PI h' o ((((fs.set 32 (.ref q167)).set 33 (.ref q176)).set 35 (.ref q184)).set 36 (.ref q193)) ((q193, .inl (X.dA 0, 128, .inl (fun _ => 0))) :: (q184, .inl (X.dA 4, 128, .inl (fun _ => 0))) :: (q176, .inl (X.dA 0, 40960, .inl (fun _ => 0))) :: (q167, .inl (X.dA 0, 20992, .inl (fun _ => 0))) :: l) → JS PE X mX4_init R Z 23 70328 202 [some (.ref o)] [] h') : JS PE X mX4_init R Z 19 8120 167 [some (.ref o)] [] h := by
  have hR1 := hR.1
  have hR2 := hR.2
  refine i_arr (atype := .int) (ty := .int) (f := 32) (t := 0) (N := 20992) (a0 := (20992, .inl (fun _ => 0))) hI hN ⟨rfl, rfl⟩ (blk_c (s_aload_n dX4_init_167 rfl) <| blk_c (s_sipush dX4_init_168 (by decide +kernel)) <| blk_nil) rfl rfl (fun _ _ z => z) q275 (vc_int 20992) (by decide) (by decide) ⟨by omega, by omega⟩ dX4_init_171 (by decide) (by simp only [List.length_set, h41]; decide) rfl rfl rfl q1670 dX4_init_173 (fun q167 h167 hI167 => ?_)
  refine i_arr (atype := .int) (ty := .int) (f := 33) (t := 0) (N := 40960) (a0 := (40960, .inl (fun _ => 0))) hI167 hN ⟨rfl, rfl⟩ (blk_c (s_aload_n dX4_init_176 rfl) <| blk_c (s_ldc dX4_init_177 q1638) <| blk_nil) rfl rfl (fun _ _ z => z) q275 (vc_int 40960) (by decide) (by decide) ⟨by omega, by omega⟩ dX4_init_179 (by decide) (by simp only [List.length_set, h41]; decide) rfl rfl rfl q1671 dX4_init_181 (fun q176 h176 hI176 => ?_)
  refine i_arr (atype := .boolean) (ty := .boolean) (f := 35) (t := 4) (N := 128) (a0 := (128, .inl (fun _ => 0))) hI176 hN ⟨rfl, rfl⟩ (blk_c (s_aload_n dX4_init_184 rfl) <| blk_c (s_sipush dX4_init_185 (by decide +kernel)) <| blk_nil) rfl rfl (fun _ _ z => z) q473 (vc_boolean 128) (by decide) (by decide) ⟨by omega, by omega⟩ dX4_init_188 (by decide) (by simp only [List.length_set, h41]; decide) rfl rfl rfl q1673 dX4_init_190 (fun q184 h184 hI184 => ?_)
  refine i_arr (atype := .int) (ty := .int) (f := 36) (t := 0) (N := 128) (a0 := (128, .inl (fun _ => 0))) hI184 hN ⟨rfl, rfl⟩ (blk_c (s_aload_n dX4_init_193 rfl) <| blk_c (s_sipush dX4_init_194 (by decide +kernel)) <| blk_nil) rfl rfl (fun _ _ z => z) q275 (vc_int 128) (by decide) (by decide) ⟨by omega, by omega⟩ dX4_init_197 (by decide) (by simp only [List.length_set, h41]; decide) rfl rfl rfl q1674 dX4_init_199 (fun q193 h193 hI193 => ?_)
  exact kk q167 q176 q184 q193 _ hI193
theorem ini_c6 {X : Cx} (hN : NewOK X) {R : Room} {Z : ZT} {o : Nat} {h : AH} {fs : List Value} {l : List (Nat × va_E)} (hR : 27 ≤ R.cells ∧ 70636 ≤ R.slots) (h41 : fs.length = 41) (hI : PI h o fs l)
    (kk : ∀ q202 q225 q232 q241 h', PI h' o ((((fs.set 37 (.ref q202)).set 38 (.ref q225)).set 39 (.ref q232)).set 40 (.ref q241)) ((q241, .inl (X.dA 1, 60, .inr (.inl (fun _ => 0)))) :: (q232, .inl (X.dA 1, 240, .inr (.inl (fun _ => 0)))) :: (q225, .inl (X.dA 0, 4, .inl (fun _ => 0))) :: (q202, .inl (X.dA 0, 4, .inl (upd (upd (upd (upd (fun _ => 0) (nI 0).toNatClampNeg (-1)) (nI 1).toNatClampNeg (-1)) (nI 2).toNatClampNeg (-1)) (nI 3).toNatClampNeg (-1)))) :: l) → JS PE X mX4_init R Z 27 70636 249 [some (.ref o)] [] h') : JS PE X mX4_init R Z 23 70328 202 [some (.ref o)] [] h := by
  have hR1 := hR.1
  have hR2 := hR.2
  refine (blk_c (s_aload_n dX4_init_202 rfl) <| blk_c (s_iconst dX4_init_203 (by decide +kernel)) <| blk_nil : Blk PE mX4_init 202 204 [oAL 0, oC (nI 4)]).go rfl trivial ?_
  rintro _ rfl
  refine J.newa (atype := .int) (ty := .int) (t := 0) (N := 4) (a0 := (4, .inl (fun _ => 0))) hN rfl rfl (fun _ _ z => z) q275 (vc_int 4) (by decide) (by decide) ⟨by omega, by omega⟩ dX4_init_204 (fun q202 hq202 => ?_)
  have hI202 := hI.new (e := .inl (X.dA 0, 4, .inl (fun _ => 0))) hq202
  refine (fun (z : JS PE X mX4_init R Z 24 70332 206 [some (.ref o)] [.ref q202, .ref o] _) => z _ rfl) ?_
  refine (blk_c (s_dupR dX4_init_206) <| blk_c (s_iconst dX4_init_207 (by decide +kernel)) <| blk_c (s_iconst dX4_init_208 (by decide +kernel)) <| blk_nil : Blk PE mX4_init 206 209 [oDupR, oC (nI 0), oC (-1)]).go rfl trivial ?_
  rintro _ rfl
  refine J.iast (len := 4) (g := (fun _ => 0)) (hI202.2.1 _ List.mem_cons_self).1 (vp_in_nI (by decide) (by decide)) dX4_init_209 ?_
  have hI209 := hI202.arr (e' := .inl (X.dA 0, 4, .inl (upd (fun _ => 0) (nI 0).toNatClampNeg (-1))))
  refine (fun (z : JS PE X mX4_init R Z 24 70332 210 [some (.ref o)] [.ref q202, .ref o] _) => z _ rfl) ?_
  refine (blk_c (s_dupR dX4_init_210) <| blk_c (s_iconst dX4_init_211 (by decide +kernel)) <| blk_c (s_iconst dX4_init_212 (by decide +kernel)) <| blk_nil : Blk PE mX4_init 210 213 [oDupR, oC (nI 1), oC (-1)]).go rfl trivial ?_
  rintro _ rfl
  refine J.iast (len := 4) (g := (upd (fun _ => 0) (nI 0).toNatClampNeg (-1))) (hI209.2.1 _ List.mem_cons_self).1 (vp_in_nI (by decide) (by decide)) dX4_init_213 ?_
  have hI213 := hI209.arr (e' := .inl (X.dA 0, 4, .inl (upd (upd (fun _ => 0) (nI 0).toNatClampNeg (-1)) (nI 1).toNatClampNeg (-1))))
  refine (fun (z : JS PE X mX4_init R Z 24 70332 214 [some (.ref o)] [.ref q202, .ref o] _) => z _ rfl) ?_
  refine (blk_c (s_dupR dX4_init_214) <| blk_c (s_iconst dX4_init_215 (by decide +kernel)) <| blk_c (s_iconst dX4_init_216 (by decide +kernel)) <| blk_nil : Blk PE mX4_init 214 217 [oDupR, oC (nI 2), oC (-1)]).go rfl trivial ?_
  rintro _ rfl
  refine J.iast (len := 4) (g := (upd (upd (fun _ => 0) (nI 0).toNatClampNeg (-1)) (nI 1).toNatClampNeg (-1))) (hI213.2.1 _ List.mem_cons_self).1 (vp_in_nI (by decide) (by decide)) dX4_init_217 ?_
  have hI217 := hI213.arr (e' := .inl (X.dA 0, 4, .inl (upd (upd (upd (fun _ => 0) (nI 0).toNatClampNeg (-1)) (nI 1).toNatClampNeg (-1)) (nI 2).toNatClampNeg (-1))))
  refine (fun (z : JS PE X mX4_init R Z 24 70332 218 [some (.ref o)] [.ref q202, .ref o] _) => z _ rfl) ?_
  refine (blk_c (s_dupR dX4_init_218) <| blk_c (s_iconst dX4_init_219 (by decide +kernel)) <| blk_c (s_iconst dX4_init_220 (by decide +kernel)) <| blk_nil : Blk PE mX4_init 218 221 [oDupR, oC (nI 3), oC (-1)]).go rfl trivial ?_
  rintro _ rfl
  refine J.iast (len := 4) (g := (upd (upd (upd (fun _ => 0) (nI 0).toNatClampNeg (-1)) (nI 1).toNatClampNeg (-1)) (nI 2).toNatClampNeg (-1))) (hI217.2.1 _ List.mem_cons_self).1 (vp_in_nI (by decide) (by decide)) dX4_init_221 ?_
  have hI221 := hI217.arr (e' := .inl (X.dA 0, 4, .inl (upd (upd (upd (upd (fun _ => 0) (nI 0).toNatClampNeg (-1)) (nI 1).toNatClampNeg (-1)) (nI 2).toNatClampNeg (-1)) (nI 3).toNatClampNeg (-1))))
  refine J.putfF (f := 37) clsX4 rfl hI221.1 (by decide) (by simp only [List.length_set, h41]; decide) rfl rfl rfl rfl rfl q1675 dX4_init_222 ?_
  have hI222 := hI221.fld (fs' := (fs.set 37 (.ref q202)))
  refine (fun (z : JS PE X mX4_init R Z 24 70332 225 [some (.ref o)] [] _) => z _ rfl) ?_
  refine i_arr (atype := .int) (ty := .int) (f := 38) (t := 0) (N := 4) (a0 := (4, .inl (fun _ => 0))) hI222 hN ⟨rfl, rfl⟩ (blk_c (s_aload_n dX4_init_225 rfl) <| blk_c (s_iconst dX4_init_226 (by decide +kernel)) <| blk_nil) rfl rfl (fun _ _ z => z) q275 (vc_int 4) (by decide) (by decide) ⟨by omega, by omega⟩ dX4_init_227 (by decide) (by simp only [List.length_set, h41]; decide) rfl rfl rfl q1676 dX4_init_229 (fun q225 h225 hI225 => ?_)
  refine i_arr (atype := .long) (ty := .long) (f := 39) (t := 1) (N := 240) (a0 := (240, .inr (.inl (fun _ => 0)))) hI225 hN ⟨rfl, rfl⟩ (blk_c (s_aload_n dX4_init_232 rfl) <| blk_c (s_sipush dX4_init_233 (by decide +kernel)) <| blk_nil) rfl rfl (fun _ _ z => z) q276 (vc_long 240) (by decide) (by decide) ⟨by omega, by omega⟩ dX4_init_236 (by decide) (by simp only [List.length_set, h41]; decide) rfl rfl rfl q1677 dX4_init_238 (fun q232 h232 hI232 => ?_)
  refine i_arr (atype := .long) (ty := .long) (f := 40) (t := 1) (N := 60) (a0 := (60, .inr (.inl (fun _ => 0)))) hI232 hN ⟨rfl, rfl⟩ (blk_c (s_aload_n dX4_init_241 rfl) <| blk_c (s_bipush dX4_init_242 (by decide +kernel)) <| blk_nil) rfl rfl (fun _ _ z => z) q276 (vc_long 60) (by decide) (by decide) ⟨by omega, by omega⟩ dX4_init_244 (by decide) (by simp only [List.length_set, h41]; decide) rfl rfl rfl q1678 dX4_init_246 (fun q241 h241 hI241 => ?_)
  exact kk q202 q225 q232 q241 _ hI241
theorem getD_lt {α : Type} {l : List α} {i : Nat} {d : α} (h : i < l.length) : l.getD i d = l[i] := by rw [List.getD_eq_getElem?_getD, List.getElem?_eq_getElem h, Option.getD_some]
theorem pw_inj {l : List (Nat × va_E)} (h : l.Pairwise (fun x y => x.1 ≠ y.1)) {i j : Nat} {d : Nat × va_E} (hi : i < l.length) (hj : j < l.length) (e : (l.getD i d).1 = (l.getD j d).1) : i = j := by
  rw [getD_lt hi, getD_lt hj] at e
  have key := List.pairwise_iff_getElem.mp h
  rcases Nat.lt_trichotomy i j with q | q | q
  · exact absurd e (key i j hi hj q)
  · exact q
  · exact absurd e.symm (key j i hj hi q)
theorem twIs_lt {k : Nat} (h : twIs k = true) : k < 41 := by
  apply Classical.byContradiction
  intro hk
  have e1 : twArr k = none := by
    unfold twArr
    split <;> first | omega | rfl
  have e2 : twLArr k = none := by
    unfold twLArr
    split <;> first | omega | rfl
  rw [twIs, e1, e2] at h; cases h
theorem pos4_lt : ∀ k, k < 41 → pos4 k < 27 := by decide +kernel
theorem pos4_inj : ∀ k, k < 41 → ∀ j, j < 41 → twIs k = true → twIs j = true → pos4 k = pos4 j → k = j := by decide +kernel
def A4 : Nat → Nat → Int32 := fun f => if f = 0 then (fun i => if i = 13 then -1 else 0) else if f = 37 then upd (upd (upd (upd (fun _ => 0) (nI 0).toNatClampNeg (-1)) (nI 1).toNatClampNeg (-1)) (nI 2).toNatClampNeg (-1)) (nI 3).toNatClampNeg (-1) else fun _ => 0
theorem ini4 : Ini4 A4 (fun _ _ => 0) := by
  refine ⟨fun f h0 h37 => by rw [A4, if_neg h0, if_neg h37], fun i hi => ?_, rfl, ?_, rfl⟩
  · show (if i = 13 then (-1 : Int32) else 0) = 0
    rw [if_neg hi]
  · have : ∀ s, s < 4 → A4 37 s = -1 := by decide +kernel
    exact this
theorem ok_X4_init {X : Cx} (hN : NewOK X) {o : Nat} {h : AH} (ho : h o = some (.inr (4, dfX4))) : Cg X mX4_init 27 70636 [.ref o] h (fun oc h' => oc = .returned none ∧ ∃ ad A B, Ini4 A B ∧ TP X (o, ad, A, B) h') := by
  have hI : PI h o dfX4 [] := ⟨ho, fun x hx => absurd hx List.not_mem_nil, List.Pairwise.nil⟩
  have hR : 27 ≤ (rmOf mX4_init.lv 27 70636).cells ∧ 70636 ≤ (rmOf mX4_init.lv 27 70636).slots := ⟨Nat.le_refl _, Nat.le_refl _⟩
  refine E_start (L := [some (.ref o)]) 0 rfl ?_
  refine (blk_c (s_aload_n dX4_init_0 rfl) <| blk_nil).go rfl trivial ?_
  have st1 : JS PE X mX4_init (rmOf mX4_init.lv 27 70636) (ZQ X 27 70636 (fun oc h' => oc = .returned none ∧ ∃ ad A B, Ini4 A B ∧ TP X (o, ad, A, B) h')) 0 0 4 [some (.ref o)] [] h := by
    refine ini_c0 hN hR (by first | (simp only [List.length_set]; rfl) | rfl) hI (fun q4 q13 q22 q29 g0 hJ0 => ?_)
    refine ini_c1 hN hR (by first | (simp only [List.length_set]; rfl) | rfl) hJ0 (fun q38 q50 q59 g1 hJ1 => ?_)
    refine ini_c2 hN hR (by first | (simp only [List.length_set]; rfl) | rfl) hJ1 (fun q68 q77 q85 q94 g2 hJ2 => ?_)
    refine ini_c3 hN hR (by first | (simp only [List.length_set]; rfl) | rfl) hJ2 (fun q103 q112 q121 q130 g3 hJ3 => ?_)
    refine ini_c4 hN hR (by first | (simp only [List.length_set]; rfl) | rfl) hJ3 (fun q137 q144 q151 q159 g4 hJ4 => ?_)
    refine ini_c5 hN hR (by first | (simp only [List.length_set]; rfl) | rfl) hJ4 (fun q167 q176 q184 q193 g5 hJ5 => ?_)
    refine ini_c6 hN hR (by first | (simp only [List.length_set]; rfl) | rfl) hJ5 (fun q202 q225 q232 q241 g6 hJ6 => ?_)
    refine e_vret dX4_init_249 rfl ⟨rfl, ?_⟩
    refine ⟨fun k => (List.getD ([(q241, .inl (X.dA 1, 60, .inr (.inl (fun _ => 0)))), (q232, .inl (X.dA 1, 240, .inr (.inl (fun _ => 0)))), (q225, .inl (X.dA 0, 4, .inl (fun _ => 0))), (q202, .inl (X.dA 0, 4, .inl (upd (upd (upd (upd (fun _ => 0) (nI 0).toNatClampNeg (-1)) (nI 1).toNatClampNeg (-1)) (nI 2).toNatClampNeg (-1)) (nI 3).toNatClampNeg (-1)))), (q193, .inl (X.dA 0, 128, .inl (fun _ => 0))), (q184, .inl (X.dA 4, 128, .inl (fun _ => 0))), (q176, .inl (X.dA 0, 40960, .inl (fun _ => 0))), (q167, .inl (X.dA 0, 20992, .inl (fun _ => 0))), (q159, .inl (X.dA 4, 32, .inl (fun _ => 0))), (q151, .inl (X.dA 0, 32, .inl (fun _ => 0))), (q144, .inl (X.dA 0, 4, .inl (fun _ => 0))), (q137, .inl (X.dA 0, 4, .inl (fun _ => 0))), (q130, .inl (X.dA 0, 4, .inl (fun _ => 0))), (q121, .inl (X.dA 4, 1280, .inl (fun _ => 0))), (q112, .inl (X.dA 0, 1280, .inl (fun _ => 0))), (q103, .inl (X.dA 0, 320, .inl (fun _ => 0))), (q94, .inl (X.dA 0, 320, .inl (fun _ => 0))), (q85, .inl (X.dA 0, 164, .inl (fun _ => 0))), (q77, .inl (X.dA 4, 32, .inl (fun _ => 0))), (q68, .inl (X.dA 0, 320, .inl (fun _ => 0))), (q59, .inl (X.dA 0, 320, .inl (fun _ => 0))), (q50, .inl (X.dA 0, 320, .inl (fun _ => 0))), (q38, .inl (X.dA 0, 5, .inl (fun _ => 0))), (q29, .inl (X.dA 2, 2400, .inl (fun _ => 0))), (q22, .inl (X.dA 4, 3, .inl (fun _ => 0))), (q13, .inl (X.dA 0, 960, .inl (fun _ => 0))), (q4, .inl (X.dA 0, 320, .inl (fun _ => 0)))] : List (Nat × va_E)) (pos4 k) (0, .inr (0, []))).1, A4, fun _ _ => 0, ini4, ?_⟩
    obtain ⟨J1, J2, J3⟩ := hJ6
    refine ⟨?_, fun k n t hk => ?_, fun k n hk => ?_, fun k hk => ?_, fun k j hk hj e => ?_⟩
    · rw [J1]
      simp only [List.set_cons_succ, List.set_cons_zero]
      rfl
    · unfold twArr at hk
      split at hk
      · cases hk; exact (J2 _ (List.mem_of_getElem? (i := 26) rfl)).1
      · cases hk; exact (J2 _ (List.mem_of_getElem? (i := 25) rfl)).1
      · cases hk; exact (J2 _ (List.mem_of_getElem? (i := 24) rfl)).1
      · cases hk; exact (J2 _ (List.mem_of_getElem? (i := 23) rfl)).1
      · cases hk; exact (J2 _ (List.mem_of_getElem? (i := 22) rfl)).1
      · cases hk; exact (J2 _ (List.mem_of_getElem? (i := 21) rfl)).1
      · cases hk; exact (J2 _ (List.mem_of_getElem? (i := 20) rfl)).1
      · cases hk; exact (J2 _ (List.mem_of_getElem? (i := 19) rfl)).1
      · cases hk; exact (J2 _ (List.mem_of_getElem? (i := 18) rfl)).1
      · cases hk; exact (J2 _ (List.mem_of_getElem? (i := 17) rfl)).1
      · cases hk; exact (J2 _ (List.mem_of_getElem? (i := 16) rfl)).1
      · cases hk; exact (J2 _ (List.mem_of_getElem? (i := 15) rfl)).1
      · cases hk; exact (J2 _ (List.mem_of_getElem? (i := 14) rfl)).1
      · cases hk; exact (J2 _ (List.mem_of_getElem? (i := 13) rfl)).1
      · cases hk; exact (J2 _ (List.mem_of_getElem? (i := 12) rfl)).1
      · cases hk; exact (J2 _ (List.mem_of_getElem? (i := 11) rfl)).1
      · cases hk; exact (J2 _ (List.mem_of_getElem? (i := 10) rfl)).1
      · cases hk; exact (J2 _ (List.mem_of_getElem? (i := 9) rfl)).1
      · cases hk; exact (J2 _ (List.mem_of_getElem? (i := 8) rfl)).1
      · cases hk; exact (J2 _ (List.mem_of_getElem? (i := 7) rfl)).1
      · cases hk; exact (J2 _ (List.mem_of_getElem? (i := 6) rfl)).1
      · cases hk; exact (J2 _ (List.mem_of_getElem? (i := 5) rfl)).1
      · cases hk; exact (J2 _ (List.mem_of_getElem? (i := 4) rfl)).1
      · cases hk; exact (J2 _ (List.mem_of_getElem? (i := 3) rfl)).1
      · cases hk; exact (J2 _ (List.mem_of_getElem? (i := 2) rfl)).1
      · cases hk
    · unfold twLArr at hk
      split at hk
      · cases hk; exact (J2 _ (List.mem_of_getElem? (i := 1) rfl)).1
      · cases hk; exact (J2 _ (List.mem_of_getElem? (i := 0) rfl)).1
      · cases hk
    · have hlt := pos4_lt k (twIs_lt hk)
      refine (J2 _ ?_).2
      rw [getD_lt hlt]
      exact List.getElem_mem _
    · exact pos4_inj k (twIs_lt hk) j (twIs_lt hj) hk hj (pw_inj J3 (pos4_lt k (twIs_lt hk)) (pos4_lt j (twIs_lt hj)) e)
  rintro _ rfl
  exact J.objInit q1637 q200 q201 (by decide) (by decide) dX4_init_1 (st1 _ rfl)
