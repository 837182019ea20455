set_option maxRecDepth 100000
/-! ===== cells that are made; UnseenClock$Square, UnseenClock$Reader: constructors ===== -/
/-- the cells that differ from before, each once -/
def Gw (h H : AH) (l : List Nat) : Prop := (∀ z, z ∉ l → H z = h z) ∧ (∀ x, x ∈ l → H x ≠ none) ∧ l.Nodup
theorem nd_inj {f : Nat → Nat} : ∀ {l : List Nat}, (l.map f).Nodup → ∀ {x y}, x ∈ l → y ∈ l → f x = f y → x = y := by
  intro l
  induction l with
  | nil => intro _ x y hx; cases hx
  | cons a l ih =>
    intro hn x y hx hy e
    rw [List.map_cons, List.nodup_cons] at hn
    rcases List.mem_cons.mp hx with x1 | x1
    · rcases List.mem_cons.mp hy with y1 | y1
      · rw [x1, y1]
      · exact absurd (List.mem_map.mpr ⟨y, y1, by rw [← e, x1]⟩) hn.1
    · rcases List.mem_cons.mp hy with y1 | y1
      · exact absurd (List.mem_map.mpr ⟨x, x1, by rw [e, y1]⟩) hn.1
      · exact ih hn.2 x1 y1 e
section GwA
variable {X : Cx} {h H H' : AH} {l l' : List Nat} {q x a : Nat} {e e' : va_E}
theorem Gw.one (hx : h x = some e) : Gw h h [x] := ⟨fun _ _ => rfl, fun y hy => by rw [List.mem_singleton.mp hy, hx]; simp, by simp⟩
theorem Gw.fr (g : Gw h H l) (hq : H q = none) : q ∉ l ∧ h q = none := by
  have : q ∉ l := fun hm => g.2.1 q hm hq
  exact ⟨this, by rw [← g.1 q this]; exact hq⟩
theorem Gw.new (g : Gw h H l) (hq : H q = none) : Gw h (va_up H q (some e)) (q :: l) := by
  refine ⟨fun z hz => ?_, fun y hy => ?_, List.nodup_cons.mpr ⟨(g.fr hq).1, g.2.2⟩⟩
  · rw [List.mem_cons, not_or] at hz
    rw [va_up_ne _ _ hz.1]; exact g.1 z hz.2
  · by_cases y0 : y = q
    · rw [y0, va_up_self]; simp
    · rw [va_up_ne _ _ y0]
      exact g.2.1 y ((List.mem_cons.mp hy).resolve_left y0)
theorem Gw.up (g : Gw h H l) (hx : x ∈ l) : Gw h (va_up H x (some e)) l := by
  refine ⟨fun z hz => ?_, fun y hy => ?_, g.2.2⟩
  · rw [va_up_ne _ _ (fun y => hz (by rw [y]; exact hx))]; exact g.1 z hz
  · by_cases y0 : y = x
    · rw [y0, va_up_self]; simp
    · rw [va_up_ne _ _ y0]; exact g.2.1 y hy
/-- cells made by a call, at an object that is there -/
theorem Gw.app (g : Gw h H l) (g' : Gw H H' (l' ++ [a])) (ha : a ∈ l) (hf : ∀ x, x ∈ l' → H x = none) : Gw h H' (l' ++ l) := by
  have hd : ∀ x, x ∈ l' → x ∉ l := fun x hx hm => g.2.1 x hm (hf x hx)
  refine ⟨fun z hz => ?_, fun y hy => ?_, ?_⟩
  · rw [List.mem_append, not_or] at hz
    rw [g'.1 z (fun hm => (List.mem_append.mp hm).elim hz.1 (fun y => hz.2 (List.mem_singleton.mp y ▸ ha)))]
    exact g.1 z hz.2
  · by_cases y1 : y ∈ l' ++ [a]
    · exact g'.2.1 y y1
    · rw [g'.1 y y1]
      rcases List.mem_append.mp hy with y2 | y2
      · exact absurd (List.mem_append.mpr (Or.inl y2)) y1
      · exact g.2.1 y y2
  · rw [List.nodup_append]
    exact ⟨(List.nodup_append.mp g'.2.2).1, g.2.2, fun x hx y hy e => hd x hx (e ▸ hy)⟩
theorem nd_map {q : Nat → Nat} : ∀ N, (∀ i j, i < N → j < N → q i = q j → i = j) → ((List.range N).map q).Nodup := by
  intro N hi
  rw [List.Nodup, List.pairwise_map]
  refine List.Pairwise.imp_of_mem (R := fun a b => a ≠ b) (fun {i j} hi' hj' hij e => hij (hi i j (List.mem_range.mp hi') (List.mem_range.mp hj') e)) ?_
  exact List.nodup_range
theorem Gw.mul {t N o : Nat} {q : Nat → Nat} (g : Gw h H l) (m : MulQ X H H' t N e o q) : Gw h H' ((List.range N).map q ++ (o :: l)) := by
  obtain ⟨⟨m1, m2⟩, ⟨m3, m4⟩, m5, m6, m7⟩ := m
  have mem : ∀ z, z ∈ (List.range N).map q ↔ ∃ j, j < N ∧ q j = z := fun z => by simp [List.mem_map, List.mem_range]
  refine ⟨fun z hz => ?_, fun y hy => ?_, ?_⟩
  · rw [List.mem_append, List.mem_cons, not_or, not_or, mem] at hz
    rw [m7 z hz.2.1 (fun j hj y => hz.1 ⟨j, hj, y.symm⟩)]
    exact g.1 z hz.2.2
  · rw [List.mem_append, List.mem_cons, mem] at hy
    rcases hy with ⟨j, hj, rfl⟩ | rfl | hy
    · rw [m6 j hj]; simp
    · rw [m5]; simp
    · have y1 := g.2.1 y hy
      rw [m7 y (fun z => y1 (z ▸ m1)) (fun j hj z => y1 (z ▸ m2 j hj))]
      exact y1
  · rw [List.nodup_append]
    refine ⟨nd_map N m4, List.nodup_cons.mpr ⟨(g.fr m1).1, g.2.2⟩, fun x hx y hy z => ?_⟩
    obtain ⟨j, hj, rfl⟩ := (mem x).mp hx
    rcases List.mem_cons.mp hy with rfl | hy
    · exact m3 j hj z.symm
    · exact (g.fr (m2 j hj)).1 (z ▸ hy)
theorem up_k (hx : H x = some e) (hq : H q = none) : va_up H q (some e') x = some e := by rw [va_up_ne _ _ (fun y => by rw [y, hq] at hx; cases hx)]; exact hx
theorem MulQ.k {t N o : Nat} {q : Nat → Nat} {ee : va_E} (m : MulQ X H H' t N ee o q) (hx : H x = some e) : H' x = some e := by
  rw [m.2.2.2.2 x (fun y => by rw [y, m.1.1] at hx; cases hx) (fun j hj y => by rw [y, m.1.2 j hj] at hx; cases hx)]; exact hx
end GwA
section SqI
variable {X : Cx} {h : AH} {a : Nat}
/-- the numbers of a square that is new -/
abbrev sqIds : List Nat := [10, 11, 12, 13, 14, 15, 16, 17, 4, 3, 6, 2, 5, 1]
/-- a square that is new -/
def SqN (X : Cx) (h h' : AH) (a : Nat) (sk : Nat → Nat) : Prop := sk 0 = a ∧ Gw h h' (sqIds.map sk ++ [sk 0]) ∧ (∀ i, i ∈ sqIds → h (sk i) = none) ∧ ∀ i, i ∈ sqIds ++ [0] → ∀ tp, h' (sk i) = some (spC X tp sk (fun _ => 0) i (fun _ => 0))
theorem hy_i2 : mX2_init.y.cls ≠ "java/lang/invoke/MethodHandle" ∧ mX2_init.y.cls ≠ "java/lang/invoke/VarHandle" ∧ (parseMethodDescriptor mX2_init.y.desc).map (fun d => d.parameters.length) = some 0 := by decide +kernel
theorem bX2i_0 : Blk PE mX2_init 0 1 [oAL 0] := blk_c (s_aload_n dX2_init_0 rfl) <| blk_nil
theorem bX2i_4 : Blk PE mX2_init 4 5 [oAL 0] := blk_c (s_aload_n dX2_init_4 rfl) <| blk_nil
theorem bX2i_8 : Blk PE mX2_init 8 10 [oDupR, oC (nI 4)] := blk_c (s_dupR dX2_init_8) <| blk_c (s_iconst dX2_init_9 (by decide +kernel)) <| blk_nil
theorem bX2i_16 : Blk PE mX2_init 16 17 [oAL 0] := blk_c (s_aload_n dX2_init_16 rfl) <| blk_nil
theorem bX2i_20 : Blk PE mX2_init 20 23 [oDupR, oC (nI 8)] := blk_c (s_dupR dX2_init_20) <| blk_c (s_bipush dX2_init_21 (by decide +kernel)) <| blk_nil
theorem bX2i_29 : Blk PE mX2_init 29 33 [oAL 0, oC (nI 400)] := blk_c (s_aload_n dX2_init_29 rfl) <| blk_c (s_sipush dX2_init_30 (by decide +kernel)) <| blk_nil
theorem bX2i_38 : Blk PE mX2_init 38 43 [oAL 0, oC (nI 8), oC (nI 40)] := blk_c (s_aload_n dX2_init_38 rfl) <| blk_c (s_bipush dX2_init_39 (by decide +kernel)) <| blk_c (s_bipush dX2_init_41 (by decide +kernel)) <| blk_nil
theorem ok_X2_init (hX : WkX X) (hN : NewOK X) (h1 : h a = some (.inr (2, [.null, .null, .null, .null, .int 0, .int 0, .int 0, .int 0, .int 0]))) : Cg X mX2_init 14 746 [.ref a] h (fun o h' => o = .returned none ∧ ∃ sk, SqN X h h' a sk) := by
  refine E_start (L := [some (.ref a)]) 0 rfl ?_
  refine bX2i_0.go rfl trivial ?_
  refine js_of (J.objInit q394 q200 q201 (by decide) (by decide) dX2_init_1 ?_)
  refine of_js ?_
  have g0 : Gw h h [a] := Gw.one h1
  -- the first list
  refine bX2i_4.go rfl trivial ?_
  refine js_of (J.new (C := RJ2) (T := TJ2) (N := 3) (ty := tyJ2) (ci := 9) (fs := [.int 0, .null, .int 0]) hN clsJ2 rfl q395 q396 q136 (by decide +kernel) ⟨by show 0 + 1 ≤ 14; omega, by show 0 + 3 ≤ 746; omega⟩ dX2_init_5 (fun q1 n1 => ?_))
  refine of_js ?_
  refine bX2i_8.go rfl trivial ?_
  refine js_of (J.callI (M' := mJ2_init) (As := [.int (nI 4)]) (mc := 1) (ms := 4) (ok_J2_init hX hN (va_up_self _ _ _) (by decide) (by decide)) rfl (fun o h' q => ⟨_, q.1⟩) dX2_init_10 q399 q136 q397 q398 rfl hy_iJ2 (by decide) ⟨by show 0 + 1 + 1 ≤ 14; omega, by show 0 + 3 + 4 ≤ 746; omega⟩ (Nat.le_of_ble_eq_true rfl) (fun v h' q => ?_))
  obtain ⟨q0, e1, n2, rfl⟩ := q
  cases q0
  have g1 := ((g0.new (e := .inr (9, [.int 0, .null, .int 0])) n1).new (e := .inl (X.dA 5, 4, .inr (.inr (.inr (.inr (fun _ => none)))))) n2).up (x := q1) (e := .inr (9, [.int 0, .ref e1, .int 0])) (by simp)
  have d1 : e1 ≠ q1 ∧ e1 ≠ a := by have := (Gw.fr (g0.new (e := .inr (9, [.int 0, .null, .int 0])) n1) n2).1; simp at this; exact this
  have d2 : q1 ≠ a := by have := (g0.fr n1).1; simp at this; exact this
  have va : va_up (va_up (va_up h q1 (some (.inr (9, [.int 0, .null, .int 0])))) e1 (some (.inl (X.dA 5, 4, .inr (.inr (.inr (.inr (fun _ => none)))))))) q1 (some (.inr (9, [.int 0, .ref e1, .int 0]))) a = some (.inr (2, [.null, .null, .null, .null, .int 0, .int 0, .int 0, .int 0, .int 0])) := by
    rw [va_up_ne _ _ (fun y => d2 y.symm), va_up_ne _ _ (fun y => d1.2 y.symm), va_up_ne _ _ (fun y => d2 y.symm)]; exact h1
  refine J.putfF (f := 0) clsX2 rfl va (by decide) (Nat.le_of_ble_eq_true rfl) rfl rfl rfl rfl rfl q425 dX2_init_13 ?_
  have g2 := g1.up (x := a) (e := .inr (2, [.ref q1, .null, .null, .null, .int 0, .int 0, .int 0, .int 0, .int 0])) (by simp)
  have k1 : va_up (va_up (va_up (va_up h q1 (some (.inr (9, [.int 0, .null, .int 0])))) e1 (some (.inl (X.dA 5, 4, .inr (.inr (.inr (.inr (fun _ => none)))))))) q1 (some (.inr (9, [.int 0, .ref e1, .int 0])))) a (some (.inr (2, [.ref q1, .null, .null, .null, .int 0, .int 0, .int 0, .int 0, .int 0]))) q1 = some (.inr (9, [.int 0, .ref e1, .int 0])) := by
    rw [va_up_ne _ _ d2, va_up_self]
  have k2 : va_up (va_up (va_up (va_up h q1 (some (.inr (9, [.int 0, .null, .int 0])))) e1 (some (.inl (X.dA 5, 4, .inr (.inr (.inr (.inr (fun _ => none)))))))) q1 (some (.inr (9, [.int 0, .ref e1, .int 0])))) a (some (.inr (2, [.ref q1, .null, .null, .null, .int 0, .int 0, .int 0, .int 0, .int 0]))) e1 = some (rfA X 5 4 (fun _ => none)) := by
    rw [va_up_ne _ _ d1.2, va_up_ne _ _ d1.1, va_up_self]
  have ka := va_up_self (va_up (va_up (va_up h q1 (some (.inr (9, [.int 0, .null, .int 0])))) e1 (some (.inl (X.dA 5, 4, .inr (.inr (.inr (.inr (fun _ => none)))))))) q1 (some (.inr (9, [.int 0, .ref e1, .int 0])))) a (some (.inr (2, [.ref q1, .null, .null, .null, .int 0, .int 0, .int 0, .int 0, .int 0])) : Option va_E)
  show J X mX2_init _ _ 16 _ _ (va_up (va_up (va_up (va_up h q1 (some (.inr (9, [.int 0, .null, .int 0])))) e1 (some (.inl (X.dA 5, 4, .inr (.inr (.inr (.inr (fun _ => none)))))))) q1 (some (.inr (9, [.int 0, .ref e1, .int 0])))) a (some (.inr (2, [.ref q1, .null, .null, .null, .int 0, .int 0, .int 0, .int 0, .int 0])))) _ _
  generalize va_up (va_up (va_up (va_up h q1 (some (.inr (9, [.int 0, .null, .int 0])))) e1 (some (.inl (X.dA 5, 4, .inr (.inr (.inr (.inr (fun _ => none)))))))) q1 (some (.inr (9, [.int 0, .ref e1, .int 0])))) a (some (.inr (2, [.ref q1, .null, .null, .null, .int 0, .int 0, .int 0, .int 0, .int 0]))) = H at g2 k1 k2 ka
  clear va g1
  -- the second list
  refine of_js ?_
  refine bX2i_16.go rfl trivial ?_
  refine js_of (J.new (C := RJ2) (T := TJ2) (N := 3) (ty := tyJ2) (ci := 9) (fs := [.int 0, .null, .int 0]) hN clsJ2 rfl q395 q396 q136 (by decide +kernel) ⟨by show 0 + 1 + 1 + 1 ≤ 14; omega, by show 0 + 3 + 4 + 3 ≤ 746; omega⟩ dX2_init_17 (fun q2 n3 => ?_))
  refine of_js ?_
  refine bX2i_20.go rfl trivial ?_
  refine js_of (J.callI (M' := mJ2_init) (As := [.int (nI 8)]) (mc := 1) (ms := 8) (ok_J2_init hX hN (va_up_self _ _ _) (by decide) (by decide)) rfl (fun o h' q => ⟨_, q.1⟩) dX2_init_23 q399 q136 q397 q398 rfl hy_iJ2 (by decide) ⟨by show 0 + 1 + 1 + 1 + 1 ≤ 14; omega, by show 0 + 3 + 4 + 3 + 8 ≤ 746; omega⟩ (Nat.le_of_ble_eq_true rfl) (fun v h' q => ?_))
  obtain ⟨q0, e2, n4, rfl⟩ := q
  cases q0
  have g3 := ((g2.new (e := .inr (9, [.int 0, .null, .int 0])) n3).new (e := .inl (X.dA 5, 8, .inr (.inr (.inr (.inr (fun _ => none)))))) n4).up (x := q2) (e := .inr (9, [.int 0, .ref e2, .int 0])) (by simp)
  have c1 : e2 ≠ q2 ∧ e2 ≠ e1 ∧ e2 ≠ q1 ∧ e2 ≠ a := by have := (Gw.fr (g2.new (e := .inr (9, [.int 0, .null, .int 0])) n3) n4).1; simp at this; exact this
  have c2 : q2 ≠ e1 ∧ q2 ≠ q1 ∧ q2 ≠ a := by have := (g2.fr n3).1; simp at this; exact this
  have sv : ∀ z e, H z = some e → z ≠ q2 → z ≠ e2 → va_up (va_up (va_up H q2 (some (.inr (9, [.int 0, .null, .int 0])))) e2 (some (.inl (X.dA 5, 8, .inr (.inr (.inr (.inr (fun _ => none)))))))) q2 (some (.inr (9, [.int 0, .ref e2, .int 0]))) z = some e := fun z e hz y1 y2 => by
    rw [va_up_ne _ _ y1, va_up_ne _ _ y2, va_up_ne _ _ y1]; exact hz
  have ka' := sv _ _ ka (fun y => c2.2.2 y.symm) (fun y => c1.2.2.2 y.symm)
  have k1' := sv _ _ k1 (fun y => c2.2.1 y.symm) (fun y => c1.2.2.1 y.symm)
  have k2' := sv _ _ k2 (fun y => c2.1 y.symm) (fun y => c1.2.1 y.symm)
  have k3' : va_up (va_up (va_up H q2 (some (.inr (9, [.int 0, .null, .int 0])))) e2 (some (.inl (X.dA 5, 8, .inr (.inr (.inr (.inr (fun _ => none)))))))) q2 (some (.inr (9, [.int 0, .ref e2, .int 0]))) q2 = some (.inr (9, [.int 0, .ref e2, .int 0])) := va_up_self _ _ _
  have k4' : va_up (va_up (va_up H q2 (some (.inr (9, [.int 0, .null, .int 0])))) e2 (some (.inl (X.dA 5, 8, .inr (.inr (.inr (.inr (fun _ => none)))))))) q2 (some (.inr (9, [.int 0, .ref e2, .int 0]))) e2 = some (rfA X 5 8 (fun _ => none)) := by rw [va_up_ne _ _ c1.1, va_up_self]
  generalize va_up (va_up (va_up H q2 (some (.inr (9, [.int 0, .null, .int 0])))) e2 (some (.inl (X.dA 5, 8, .inr (.inr (.inr (.inr (fun _ => none)))))))) q2 (some (.inr (9, [.int 0, .ref e2, .int 0]))) = H2 at g3 ka' k1' k2' k3' k4' ⊢
  clear sv ka k1 k2
  refine J.putfF (f := 1) clsX2 rfl ka' (by decide) (Nat.le_of_ble_eq_true rfl) rfl rfl rfl rfl rfl q429 dX2_init_26 ?_
  have g4 := g3.up (x := a) (e := .inr (2, [.ref q1, .ref q2, .null, .null, .int 0, .int 0, .int 0, .int 0, .int 0])) (by simp)
  have ua : ∀ {G : AH} {e e0 : va_E} {z : Nat}, G z = some e → z ≠ a → va_up G a (some e0) z = some e := fun hz y => by rw [va_up_ne _ _ y]; exact hz
  have k1 := ua (e0 := .inr (2, [.ref q1, .ref q2, .null, .null, .int 0, .int 0, .int 0, .int 0, .int 0])) k1' d2
  have k2 := ua (e0 := .inr (2, [.ref q1, .ref q2, .null, .null, .int 0, .int 0, .int 0, .int 0, .int 0])) k2' d1.2
  have k3 := ua (e0 := .inr (2, [.ref q1, .ref q2, .null, .null, .int 0, .int 0, .int 0, .int 0, .int 0])) k3' c2.2.2
  have k4 := ua (e0 := .inr (2, [.ref q1, .ref q2, .null, .null, .int 0, .int 0, .int 0, .int 0, .int 0])) k4' c1.2.2.2
  have ka := va_up_self H2 a (some (.inr (2, [.ref q1, .ref q2, .null, .null, .int 0, .int 0, .int 0, .int 0, .int 0])) : Option va_E)
  show J X mX2_init _ _ 29 _ _ (va_up H2 a (some (.inr (2, [.ref q1, .ref q2, .null, .null, .int 0, .int 0, .int 0, .int 0, .int 0])))) _ _
  generalize va_up H2 a (some (.inr (2, [.ref q1, .ref q2, .null, .null, .int 0, .int 0, .int 0, .int 0, .int 0]))) = H3 at g4 k1 k2 k3 k4 ka ⊢
  clear g3 ka' k1' k2' k3' k4'
  -- the walls
  refine of_js ?_
  refine bX2i_29.go rfl trivial ?_
  refine js_of (J.newa (atype := .boolean) (ty := .boolean) (t := 4) (N := 400) (a0 := (400, .inl (fun _ => 0))) hN rfl rfl (fun _ _ z => z) q473 (vc_boolean 400) (by decide) (by decide) ⟨by show 0 + 1 + 1 + 1 + 1 + 1 ≤ 14; omega, by show 0 + 3 + 4 + 3 + 8 + 400 ≤ 746; omega⟩ dX2_init_33 (fun q3 n5 => ?_))
  have g5 := g4.new (e := .inl (X.dA 4, 400, .inl (fun _ => 0))) n5
  have c3 : q3 ≠ e2 ∧ q3 ≠ q2 ∧ q3 ≠ e1 ∧ q3 ≠ q1 ∧ q3 ≠ a := by have := (g4.fr n5).1; simp at this; exact this
  refine J.putfF (f := 2) clsX2 rfl (up_k ka n5) (by decide) (Nat.le_of_ble_eq_true rfl) rfl rfl rfl rfl rfl q433 dX2_init_35 ?_
  have g6 := g5.up (x := a) (e := .inr (2, [.ref q1, .ref q2, .ref q3, .null, .int 0, .int 0, .int 0, .int 0, .int 0])) (by simp)
  have k1' := ua (e0 := .inr (2, [.ref q1, .ref q2, .ref q3, .null, .int 0, .int 0, .int 0, .int 0, .int 0])) (up_k (e' := .inl (X.dA 4, 400, .inl (fun _ => 0))) k1 n5) d2
  have k2' := ua (e0 := .inr (2, [.ref q1, .ref q2, .ref q3, .null, .int 0, .int 0, .int 0, .int 0, .int 0])) (up_k (e' := .inl (X.dA 4, 400, .inl (fun _ => 0))) k2 n5) d1.2
  have k3' := ua (e0 := .inr (2, [.ref q1, .ref q2, .ref q3, .null, .int 0, .int 0, .int 0, .int 0, .int 0])) (up_k (e' := .inl (X.dA 4, 400, .inl (fun _ => 0))) k3 n5) c2.2.2
  have k4' := ua (e0 := .inr (2, [.ref q1, .ref q2, .ref q3, .null, .int 0, .int 0, .int 0, .int 0, .int 0])) (up_k (e' := .inl (X.dA 4, 400, .inl (fun _ => 0))) k4 n5) c1.2.2.2
  have k5' := ua (e0 := .inr (2, [.ref q1, .ref q2, .ref q3, .null, .int 0, .int 0, .int 0, .int 0, .int 0])) (va_up_self H3 q3 (some (.inl (X.dA 4, 400, .inl (fun _ => 0)) : va_E))) c3.2.2.2.2
  have ka' := va_up_self (va_up H3 q3 (some (.inl (X.dA 4, 400, .inl (fun _ => 0))))) a (some (.inr (2, [.ref q1, .ref q2, .ref q3, .null, .int 0, .int 0, .int 0, .int 0, .int 0])) : Option va_E)
  show J X mX2_init _ _ 38 _ _ (va_up (va_up H3 q3 (some (.inl (X.dA 4, 400, .inl (fun _ => 0))))) a (some (.inr (2, [.ref q1, .ref q2, .ref q3, .null, .int 0, .int 0, .int 0, .int 0, .int 0])))) _ _
  generalize va_up (va_up H3 q3 (some (.inl (X.dA 4, 400, .inl (fun _ => 0))))) a (some (.inr (2, [.ref q1, .ref q2, .ref q3, .null, .int 0, .int 0, .int 0, .int 0, .int 0]))) = H4 at g6 k1' k2' k3' k4' k5' ka' ⊢
  clear g5 ka k1 k2 k3 k4
  -- the cells
  refine of_js ?_
  refine bX2i_38.go rfl trivial ?_
  refine js_of (J.multi (t := 8) (t2 := 0) (N := 8) (K := 40) (ty := .int) (a0 := (40, .inl (fun _ => 0))) hN rfl rfl (fun _ _ z => z) q423 (fun U hU => (hX U hU).2.2.2.1) (vc_int 40) rfl rfl (by decide) (by decide) ⟨by show 0 + 1 + 1 + 1 + 1 + 1 + (1 + 8) ≤ 14; omega, by show 0 + 3 + 4 + 3 + 8 + 400 + (8 + 8 * 40) ≤ 746; omega⟩ dX2_init_43 (fun o q H5 mq => ?_))
  have g7 := g6.mul mq
  have oa : a ≠ o := fun y => by rw [y, mq.1.1] at ka'; cases ka'
  have qa : ∀ j, j < 8 → q j ≠ a := fun j hj y => by rw [← y, mq.1.2 j hj] at ka'; cases ka'
  refine J.putfF (f := 3) clsX2 rfl (mq.k ka') (by decide) (Nat.le_of_ble_eq_true rfl) rfl rfl rfl rfl rfl q435 dX2_init_47 ?_
  have g8 := g7.up (x := a) (e := .inr (2, [.ref q1, .ref q2, .ref q3, .ref o, .int 0, .int 0, .int 0, .int 0, .int 0])) (by simp)
  refine J.vret dX2_init_50 rfl (by show 0 + 1 + 1 + 1 + 1 + 1 + (1 + 8) ≤ 14; omega) (by show 0 + 3 + 4 + 3 + 8 + 400 + (8 + 8 * 40) ≤ 746; omega) ⟨rfl, (fun i => match i with | 0 => a | 1 => q1 | 2 => q2 | 3 => q3 | 4 => o | 5 => e1 | 6 => e2 | i => q (i - 10)), rfl, ?_, fun i hi => ?_, fun i hi tp => ?_⟩
  · exact g8
  · have hm : ∀ x, x ∈ (List.range 8).map q ++ (o :: [q3, e2, q2, e1, q1]) → h x = none := by
      intro x hx
      have nx : x ≠ a := by
        intro y
        have := g8.2.2
        rw [show (List.range 8).map q ++ (o :: [q3, e2, q2, e1, q1, a]) = ((List.range 8).map q ++ (o :: [q3, e2, q2, e1, q1])) ++ [a] by simp, List.nodup_append] at this
        exact this.2.2 x hx a (by simp) y
      rcases List.mem_append.mp hx with y | y
      · obtain ⟨j, hj, rfl⟩ := List.mem_map.mp y
        exact (g6.fr (mq.1.2 j (List.mem_range.mp hj))).2
      · rcases List.mem_cons.mp y with rfl | y
        · exact (g6.fr mq.1.1).2
        · simp at y
          rcases y with rfl | rfl | rfl | rfl | rfl
          · exact (g4.fr n5).2
          · exact (Gw.fr (g2.new (e := .inr (9, [.int 0, .null, .int 0])) n3) n4).2
          · exact (g2.fr n3).2
          · exact (Gw.fr (g0.new (e := .inr (9, [.int 0, .null, .int 0])) n1) n2).2
          · exact n1
    refine hm _ ?_
    simp at hi
    rcases hi with rfl | rfl | rfl | rfl | rfl | rfl | rfl | rfl | rfl | rfl | rfl | rfl | rfl | rfl <;> simp [List.range_succ]
  · simp at hi
    have row : ∀ j, j < 8 → va_up H5 a (some (.inr (2, [.ref q1, .ref q2, .ref q3, .ref o, .int 0, .int 0, .int 0, .int 0, .int 0]))) (q j) = some (.inl (X.dA 0, 40, .inl (fun _ => 0))) := fun j hj => ua (mq.2.2.2.1 j hj) (qa j hj)
    rcases hi with rfl | rfl | rfl | rfl | rfl | rfl | rfl | rfl | rfl | rfl | rfl | rfl | rfl | rfl | rfl
    · exact row 0 (by decide)
    · exact row 1 (by decide)
    · exact row 2 (by decide)
    · exact row 3 (by decide)
    · exact row 4 (by decide)
    · exact row 5 (by decide)
    · exact row 6 (by decide)
    · exact row 7 (by decide)
    · refine (ua mq.2.2.1 (fun y => oa y.symm)).trans ?_
      refine congrArg some (congrArg (rfA X 8 8) (funext fun j => ?_))
      by_cases hj : j < 8
      · rw [if_pos hj, if_pos hj]
        have : j = 0 ∨ j = 1 ∨ j = 2 ∨ j = 3 ∨ j = 4 ∨ j = 5 ∨ j = 6 ∨ j = 7 := by omega
        rcases this with rfl | rfl | rfl | rfl | rfl | rfl | rfl | rfl <;> rfl
      · rw [if_neg hj, if_neg hj]
    · exact ua (mq.k k5') c3.2.2.2.2
    · exact ua (mq.k k4') c1.2.2.2
    · exact ua (mq.k k3') c2.2.2
    · exact ua (mq.k k2') d1.2
    · exact ua (mq.k k1') d2
    · exact va_up_self _ _ _
end SqI
