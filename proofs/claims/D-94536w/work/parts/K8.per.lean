set_option maxRecDepth 100000
/-! ===== UnseenClock$Reader: person ===== -/
section PeI
variable {X : Cx} {h : AH} {a : Nat} {v1 v2 v3 : Int32}
theorem hy_i8 : mX8_init.y.cls ≠ "java/lang/invoke/MethodHandle" ∧ mX8_init.y.cls ≠ "java/lang/invoke/VarHandle" ∧ (parseMethodDescriptor mX8_init.y.desc).map (fun d => d.parameters.length) = some 3 := by decide +kernel
theorem hy_iJ2 : mJ2_init.y.cls ≠ "java/lang/invoke/MethodHandle" ∧ mJ2_init.y.cls ≠ "java/lang/invoke/VarHandle" ∧ (parseMethodDescriptor mJ2_init.y.desc).map (fun d => d.parameters.length) = some 1 := by decide +kernel
theorem bX8_0 : Blk PE mX8_init 0 1 [oAL 0] := blk_c (s_aload_n dX8_init_0 rfl) <| blk_nil
theorem bX8_4 : Blk PE mX8_init 4 7 [oAL 0, oC (nI 6)] := blk_c (s_aload_n dX8_init_4 rfl) <| blk_c (s_bipush dX8_init_5 (by decide +kernel)) <| blk_nil
theorem bX8_12 : Blk PE mX8_init 12 15 [oAL 0, oC (nI 6)] := blk_c (s_aload_n dX8_init_12 rfl) <| blk_c (s_bipush dX8_init_13 (by decide +kernel)) <| blk_nil
theorem bX8_20 : Blk PE mX8_init 20 21 [oAL 0] := blk_c (s_aload_n dX8_init_20 rfl) <| blk_nil
theorem bX8_24 : Blk PE mX8_init 24 26 [oDupR, oC (nI 4)] := blk_c (s_dupR dX8_init_24) <| blk_c (s_iconst dX8_init_25 (by decide +kernel)) <| blk_nil
theorem bX8_32 : Blk PE mX8_init 32 34 [oAL 0, oIL 1] := blk_c (s_aload_n dX8_init_32 rfl) <| blk_c (s_iload_n dX8_init_33 rfl) <| blk_nil
theorem bX8_37 : Blk PE mX8_init 37 39 [oAL 0, oIL 2] := blk_c (s_aload_n dX8_init_37 rfl) <| blk_c (s_iload_n dX8_init_38 rfl) <| blk_nil
theorem bX8_42 : Blk PE mX8_init 42 44 [oAL 0, oIL 3] := blk_c (s_aload_n dX8_init_42 rfl) <| blk_c (s_iload_n dX8_init_43 rfl) <| blk_nil
/-- the cells that new Person makes -/
def PeN (X : Cx) (h h' : AH) (a q1 q2 q3 q4 : Nat) (v1 v2 v3 : Int32) : Prop := (h q1 = none ∧ h q2 = none ∧ h q3 = none ∧ h q4 = none) ∧ (q1 ≠ q2 ∧ q1 ≠ q3 ∧ q1 ≠ q4 ∧ q2 ≠ q3 ∧ q2 ≠ q4 ∧ q3 ≠ q4) ∧ (h' q1 = some (.inl (X.dA 0, 6, .inl (fun _ => 0))) ∧ h' q2 = some (.inl (X.dA 0, 6, .inl (fun _ => 0))) ∧ h' q3 = some (.inr (9, [.int 0, .ref q4, .int 0])) ∧ h' q4 = some (rfA X 5 4 (fun _ => none))) ∧ h' a = some (.inr (8, [.int v1, .int v2, .int v3, .ref q1, .ref q2, .ref q3, .int 0])) ∧ ∀ z, z ≠ a → z ≠ q1 → z ≠ q2 → z ≠ q3 → z ≠ q4 → h' z = h z
theorem ok_X8_init (hX : WkX X) (hN : NewOK X) (h1 : h a = some (.inr (8, [.int 0, .int 0, .int 0, .null, .null, .null, .int 0]))) : Cg X mX8_init 4 19 [.ref a, .int v1, .int v2, .int v3] h (fun o h' => o = .returned none ∧ ∃ q1 q2 q3 q4, PeN X h h' a q1 q2 q3 q4 v1 v2 v3) := by
  refine E_start (L := [some (.ref a), some (.int v1), some (.int v2), some (.int v3)]) 0 rfl ?_
  refine bX8_0.go rfl trivial ?_
  refine js_of (J.objInit q949 q200 q201 (by decide) (by decide) dX8_init_1 ?_)
  refine of_js ?_
  refine bX8_4.go rfl trivial ?_
  refine js_of (J.newa (atype := .int) (ty := .int) (t := 0) (N := 6) (a0 := (6, .inl (fun _ => 0))) hN rfl rfl (fun _ _ z => z) q275 (vc_int 6) (by decide) (by decide) ⟨by show 0 + 1 ≤ 4; omega, by show 0 + 6 ≤ 19; omega⟩ dX8_init_7 (fun q1 hq1 => ?_))
  have n1 : q1 ≠ a := fun e => by rw [e, h1] at hq1; cases hq1
  refine J.putfF (f := 3) clsX8 rfl (by rw [va_up_ne _ _ (fun e => n1 e.symm)]; exact h1) (by decide) (Nat.le_of_ble_eq_true rfl) rfl rfl rfl rfl rfl q958 dX8_init_9 ?_
  generalize hh : va_up (va_up h q1 _) a _ = hA
  have a1 : hA a = some (.inr (8, [.int 0, .int 0, .int 0, .ref q1, .null, .null, .int 0])) := by rw [← hh, va_up_self]; rfl
  have a2 : hA q1 = some (.inl (X.dA 0, 6, .inl (fun _ => 0))) := by rw [← hh, va_up_ne _ _ n1, va_up_self]
  have a3 : ∀ z, z ≠ a → z ≠ q1 → hA z = h z := fun z y1 y2 => by rw [← hh, va_up_ne _ _ y1, va_up_ne _ _ y2]
  clear hh
  refine of_js ?_
  refine bX8_12.go rfl trivial ?_
  refine js_of (J.newa (atype := .int) (ty := .int) (t := 0) (N := 6) (a0 := (6, .inl (fun _ => 0))) hN rfl rfl (fun _ _ z => z) q275 (vc_int 6) (by decide) (by decide) ⟨by show 0 + 1 + 1 ≤ 4; omega, by show 0 + 6 + 6 ≤ 19; omega⟩ dX8_init_15 (fun q2 hq2 => ?_))
  have n2 : q2 ≠ a := fun e => by rw [e, a1] at hq2; cases hq2
  have n12 : q1 ≠ q2 := fun e => by rw [← e, a2] at hq2; cases hq2
  refine J.putfF (f := 4) clsX8 rfl (by rw [va_up_ne _ _ (fun e => n2 e.symm)]; exact a1) (by decide) (Nat.le_of_ble_eq_true rfl) rfl rfl rfl rfl rfl q961 dX8_init_17 ?_
  generalize hh : va_up (va_up hA q2 _) a _ = hB
  have b1 : hB a = some (.inr (8, [.int 0, .int 0, .int 0, .ref q1, .ref q2, .null, .int 0])) := by rw [← hh, va_up_self]; rfl
  have b2 : hB q2 = some (.inl (X.dA 0, 6, .inl (fun _ => 0))) := by rw [← hh, va_up_ne _ _ n2, va_up_self]
  have b3 : ∀ z, z ≠ a → z ≠ q2 → hB z = hA z := fun z y1 y2 => by rw [← hh, va_up_ne _ _ y1, va_up_ne _ _ y2]
  clear hh
  have b4 : hB q1 = some (.inl (X.dA 0, 6, .inl (fun _ => 0))) := by rw [b3 q1 n1 n12]; exact a2
  refine of_js ?_
  refine bX8_20.go rfl trivial ?_
  refine js_of (J.new (C := RJ2) (T := TJ2) (N := 3) (ty := tyJ2) (ci := 9) (fs := [.int 0, .null, .int 0]) hN clsJ2 rfl q950 q396 q136 (by decide +kernel) ⟨by show 0 + 1 + 1 + 1 ≤ 4; omega, by show 0 + 6 + 6 + 3 ≤ 19; omega⟩ dX8_init_21 (fun q3 hq3 => ?_))
  have n3 : q3 ≠ a := fun e => by rw [e, b1] at hq3; cases hq3
  have n13 : q1 ≠ q3 := fun e => by rw [← e, b4] at hq3; cases hq3
  have n23 : q2 ≠ q3 := fun e => by rw [← e, b2] at hq3; cases hq3
  refine of_js ?_
  refine bX8_24.go rfl trivial ?_
  refine js_of (J.callI (M' := mJ2_init) (As := [.int (nI 4)]) (mc := 1) (ms := 4) (ok_J2_init hX hN (va_up_self _ _ _) (by decide) (by decide)) rfl (fun o h' q => ⟨_, q.1⟩) dX8_init_26 q399 q136 q951 q398 rfl hy_iJ2 (by decide) ⟨by show 0 + 1 + 1 + 1 + 1 ≤ 4; omega, by show 0 + 6 + 6 + 3 + 4 ≤ 19; omega⟩ (Nat.le_of_ble_eq_true rfl) (fun v h' q => ?_))
  obtain ⟨q0, q4, hq4, rfl⟩ := q
  cases q0
  have n43 : q3 ≠ q4 := fun e => by rw [← e, va_up_self] at hq4; cases hq4
  have hq4' : hB q4 = none := by rw [va_up_ne _ _ (fun e => n43 e.symm)] at hq4; exact hq4
  have n4 : q4 ≠ a := fun e => by rw [e, b1] at hq4'; cases hq4'
  have n14 : q1 ≠ q4 := fun e => by rw [← e, b4] at hq4'; cases hq4'
  have n24 : q2 ≠ q4 := fun e => by rw [← e, b2] at hq4'; cases hq4'
  refine J.putfF (f := 5) clsX8 rfl (by rw [va_up_ne _ _ (fun e => n3 e.symm), va_up_ne _ _ (fun e => n4 e.symm), va_up_ne _ _ (fun e => n3 e.symm)]; exact b1) (by decide) (Nat.le_of_ble_eq_true rfl) rfl rfl rfl rfl rfl q964 dX8_init_29 ?_
  generalize hh : va_up (va_up (va_up (va_up hB q3 _) q4 _) q3 _) a _ = hD
  have d1 : hD a = some (.inr (8, [.int 0, .int 0, .int 0, .ref q1, .ref q2, .ref q3, .int 0])) := by rw [← hh, va_up_self]; rfl
  have d3 : hD q3 = some (.inr (9, [.int 0, .ref q4, .int 0])) := by rw [← hh, va_up_ne _ _ n3, va_up_self]
  have d4 : hD q4 = some (rfA X 5 4 (fun _ => none)) := by rw [← hh, va_up_ne _ _ n4, va_up_ne _ _ (fun e => n43 e.symm), va_up_self]
  have d5 : ∀ z, z ≠ a → z ≠ q3 → z ≠ q4 → hD z = hB z := fun z y1 y2 y3 => by rw [← hh, va_up_ne _ _ y1, va_up_ne _ _ y2, va_up_ne _ _ y3, va_up_ne _ _ y2]
  clear hh
  refine of_js ?_
  refine bX8_32.go rfl trivial ?_
  refine js_of (J.putfF (f := 0) clsX8 rfl d1 (by decide) (Nat.le_of_ble_eq_true rfl) rfl rfl rfl rfl rfl q952 dX8_init_34 ?_)
  refine of_js ?_
  refine bX8_37.go rfl trivial ?_
  refine js_of (J.putfF (f := 1) clsX8 rfl (va_up_self _ _ _) (by decide) (Nat.le_of_ble_eq_true rfl) rfl rfl rfl rfl rfl q954 dX8_init_39 ?_)
  rw [up_up]
  refine of_js ?_
  refine bX8_42.go rfl trivial ?_
  refine js_of (J.putfF (f := 2) clsX8 rfl (va_up_self _ _ _) (by decide) (Nat.le_of_ble_eq_true rfl) rfl rfl rfl rfl rfl q956 dX8_init_44 ?_)
  rw [up_up]
  refine J.vret dX8_init_47 rfl (by show 0 + 1 + 1 + 1 + 1 ≤ 4; omega) (by show 0 + 6 + 6 + 3 + 4 ≤ 19; omega) ⟨rfl, q1, q2, q3, q4, ⟨hq1, ?_, ?_, ?_⟩, ⟨n12, n13, n14, n23, n24, n43⟩, ⟨?_, ?_, ?_, ?_⟩, va_up_self _ _ _, fun z y y1 y2 y3 y4 => ?_⟩
  · rw [← a3 q2 n2 (fun e => n12 e.symm)]; exact hq2
  · rw [← a3 q3 n3 (fun e => n13 e.symm), ← b3 q3 n3 (fun e => n23 e.symm)]; exact hq3
  · rw [← a3 q4 n4 (fun e => n14 e.symm), ← b3 q4 n4 (fun e => n24 e.symm)]; exact hq4'
  · rw [va_up_ne _ _ n1, d5 q1 n1 n13 n14]; exact b4
  · rw [va_up_ne _ _ n2, d5 q2 n2 n23 n24]; exact b2
  · rw [va_up_ne _ _ n3]; exact d3
  · rw [va_up_ne _ _ n4]; exact d4
  · rw [va_up_ne _ _ y, d5 z y y3 y4, b3 z y y2, a3 z y y1]
end PeI
section PeA
variable {X : Cx} {hz h h' : AH} {tp : Nat} {T w w' : Nat → Int32} {sk : Nat → Nat} {S S' : Nat → Nat → Int32} {N N' : Nat → Nat} {a q1 q2 q3 q4 n p : Nat} {g : Nat → Int32} {s : RdE} {e : Int32 × Nat} {c0 : va_E} {m : Int32}
def pkA (sk : Nat → Nat) (p a q1 q2 q3 q4 : Nat) : Nat → Nat := va_up (va_up (va_up (va_up (va_up sk (30 + p) a) (40 + p) q1) (50 + p) q2) (60 + p) q3) (70 + p) q4
def pkS (S : Nat → Nat → Int32) (p : Nat) (m : Int32) (g : Nat → Int32) : Nat → Nat → Int32 := va_up (va_up (va_up (va_up (upA S 2 0 m) (30 + p) g) (40 + p) (fun _ => 0)) (50 + p) (fun _ => 0)) (60 + p) (fun _ => 0)
def pkN (N : Nat → Nat) : Nat → Nat := va_up (va_up N 1 (N 1 + 1)) (2 + N 1) 0
theorem pkA_ne {i : Nat} (h : ¬ (30 ≤ i ∧ i < 80 ∧ i % 10 = p)) (hp : p < 10) : pkA sk p a q1 q2 q3 q4 i = sk i := by
  unfold pkA
  rw [va_up_ne _ _ (by omega), va_up_ne _ _ (by omega), va_up_ne _ _ (by omega), va_up_ne _ _ (by omega), va_up_ne _ _ (by omega)]
theorem pkA_at (hp : p < 10) : pkA sk p a q1 q2 q3 q4 (30 + p) = a ∧ pkA sk p a q1 q2 q3 q4 (40 + p) = q1 ∧ pkA sk p a q1 q2 q3 q4 (50 + p) = q2 ∧ pkA sk p a q1 q2 q3 q4 (60 + p) = q3 ∧ pkA sk p a q1 q2 q3 q4 (70 + p) = q4 := by
  unfold pkA
  refine ⟨?_, ?_, ?_, ?_, va_up_self _ _ _⟩
  · rw [va_up_ne _ _ (by omega), va_up_ne _ _ (by omega), va_up_ne _ _ (by omega), va_up_ne _ _ (by omega), va_up_self]
  · rw [va_up_ne _ _ (by omega), va_up_ne _ _ (by omega), va_up_ne _ _ (by omega), va_up_self]
  · rw [va_up_ne _ _ (by omega), va_up_ne _ _ (by omega), va_up_self]
  · rw [va_up_ne _ _ (by omega), va_up_self]
theorem pkS_ne {i : Nat} (h : ¬ (30 ≤ i ∧ i < 80 ∧ i % 10 = p)) (h2 : i ≠ 2) (hp : p < 10) : pkS S p m g i = S i := by
  unfold pkS
  rw [va_up_ne _ _ (by omega), va_up_ne _ _ (by omega), va_up_ne _ _ (by omega), va_up_ne _ _ (by omega), upA_ne h2]
theorem pkS_at (hp : p < 10) : pkS S p m g (30 + p) = g ∧ pkS S p m g (40 + p) = (fun _ => 0) ∧ pkS S p m g (50 + p) = (fun _ => 0) ∧ pkS S p m g (60 + p) = (fun _ => 0) ∧ pkS S p m g 2 0 = m := by
  unfold pkS
  refine ⟨?_, ?_, ?_, va_up_self _ _ _, ?_⟩
  · rw [va_up_ne _ _ (by omega), va_up_ne _ _ (by omega), va_up_ne _ _ (by omega), va_up_self]
  · rw [va_up_ne _ _ (by omega), va_up_ne _ _ (by omega), va_up_self]
  · rw [va_up_ne _ _ (by omega), va_up_self]
  · rw [va_up_ne _ _ (by omega), va_up_ne _ _ (by omega), va_up_ne _ _ (by omega), va_up_ne _ _ (by omega), upA_s, va_up_self]
theorem pkN_at : pkN N 0 = N 0 ∧ pkN N 1 = N 1 + 1 ∧ pkN N (2 + N 1) = 0 ∧ ∀ i, i ≠ 1 → i ≠ 2 + N 1 → pkN N i = N i := by
  unfold pkN
  refine ⟨?_, ?_, va_up_self _ _ _, fun i h1 h2 => ?_⟩
  · rw [va_up_ne _ _ (by omega), va_up_ne _ _ (by omega)]
  · rw [va_up_ne _ _ (by omega), va_up_self]
  · rw [va_up_ne _ _ h2, va_up_ne _ _ h1]
/-- a person more -/
theorem SP.person (hp : SP X (va_up hz a (some c0), tp, T, sk, S, N) h) (hq : hz a = none) (htp : hz tp = some (.inl (X.dA 2, 2400, .inl T))) (h8 : N 1 < 8) (hB : N 0 ≤ 4 ∧ N 1 ≤ 8 ∧ ∀ p, p < N 1 → N (2 + p) ≤ 4)
    (hf : h q1 = none ∧ h q2 = none ∧ h q3 = none ∧ h q4 = none) (hne : q1 ≠ q2 ∧ q1 ≠ q3 ∧ q1 ≠ q4 ∧ q2 ≠ q3 ∧ q2 ≠ q4 ∧ q3 ≠ q4) (k1 : h' q1 = some (.inl (X.dA 0, 6, .inl (fun _ => 0)))) (k2 : h' q2 = some (.inl (X.dA 0, 6, .inl (fun _ => 0)))) (k3 : h' q3 = some (.inr (9, [.int 0, .ref q4, .int 0]))) (k4 : h' q4 = some (rfA X 5 4 (fun _ => none))) (ka : h' a = some (.inr (8, [.int (g 0), .int (g 1), .int (g 2), .ref q1, .ref q2, .ref q3, .int (g 6)])))
    (l2 : h' (sk 2) = some (.inr (9, [.int m, .ref (sk 6), .int (nI (N 1 + 1))]))) (l6 : h' (sk 6) = some (rfA X 5 8 (va_up (fun j => if j < N 1 then some (sk (30 + j)) else none) (N 1) (some a)))) (hz' : ∀ z, z ≠ a → z ≠ q1 → z ≠ q2 → z ≠ q3 → z ≠ q4 → z ≠ sk 2 → z ≠ sk 6 → h' z = h z) : SP X (hz, tp, T, pkA sk (N 1) a q1 q2 q3 q4, pkS S (N 1) m g, pkN N) h' := by
  obtain ⟨f1, f2⟩ := hp.nfz
  obtain ⟨x1, x2, x3, x4⟩ := hf
  obtain ⟨n12, n13, n14, n23, n24, n34⟩ := hne
  obtain ⟨s1, s2, s3, s4, s5⟩ := pkA_at (sk := sk) (a := a) (q1 := q1) (q2 := q2) (q3 := q3) (q4 := q4) (p := N 1) (by omega)
  obtain ⟨g1, g2, g3, g4, g5⟩ := pkS_at (S := S) (m := m) (g := g) (p := N 1) (by omega)
  obtain ⟨e0, e1, e2, e3⟩ := pkN_at (N := N)
  have fz : ∀ z, h z = none → hz z = none ∧ (∀ j, SpU N j → z ≠ sk j) ∧ z ≠ a := fun z y => by
    have y2 := hp.nsk y
    have ne : z ≠ a := fun e => by rw [e, f1] at y; cases y
    have y3 : va_up hz a (some c0) z = none := y2.2.2
    rw [va_up_ne _ _ ne] at y3
    exact ⟨y3, y2.1, ne⟩
  have u2 : SpU N 2 := u_lo (by decide)
  have u6 : SpU N 6 := u_lo (by decide)
  have sn2 : pkA sk (N 1) a q1 q2 q3 q4 2 = sk 2 := pkA_ne (by omega) (by omega)
  have sn6 : pkA sk (N 1) a q1 q2 q3 q4 6 = sk 6 := pkA_ne (by omega) (by omega)
  have dd : ∀ i, (i = 2 ∨ i = 6 ∨ (30 ≤ i ∧ i < 80 ∧ i % 10 = N 1)) → i = 2 ∨ i = 6 ∨ i = 30 + N 1 ∨ i = 40 + N 1 ∨ i = 50 + N 1 ∨ i = 60 + N 1 ∨ i = 70 + N 1 := fun i => by omega
  have nu : ∀ j, SpU N j → ¬ (30 ≤ j ∧ j < 80 ∧ j % 10 = N 1) := fun j uj y => by
    simp only [SpU] at uj
    omega
  have v1 := fz q1 x1
  have v2 := fz q2 x2
  have v3 := fz q3 x3
  have v4 := fz q4 x4
  have n62 : sk 2 ≠ sk 6 := hp.inj u2 u6 (by decide)
  refine hp.chg2 (D := fun i => i = 2 ∨ i = 6 ∨ (30 ≤ i ∧ i < 80 ∧ i % 10 = N 1)) (fun z c hc => by rw [va_up_ne _ _ (fun y => by rw [y, hq] at hc; cases hc)]; exact hc) htp (fun i di ui => ?_) (fun i di ui => ?_) (fun i di ui => ?_) (fun i j di dj ui uj z => ?_) (fun z c hc hn hn' => ?_)
  · have d2 : i ≠ 2 := fun y => di (Or.inl y)
    have d6 : i ≠ 6 := fun y => di (Or.inr (Or.inl y))
    have d3 : ¬ (30 ≤ i ∧ i < 80 ∧ i % 10 = N 1) := fun y => di (Or.inr (Or.inr y))
    have ui' : SpU N i := by
      rcases ui with ui | ui | ui | ui | ui | ui
      · exact Or.inl ui
      · exact Or.inr (Or.inl ui)
      · rw [e0] at ui; exact Or.inr (Or.inr (Or.inl ui))
      · rw [e1] at ui; exact Or.inr (Or.inr (Or.inr (Or.inl (by omega))))
      · obtain ⟨y1, y2, y3, y4⟩ := ui
        rw [e1] at y3
        have ne : (i - 80) / 4 ≠ N 1 := fun y => by rw [y, e2] at y4; omega
        rw [e3 _ (by omega) (by omega)] at y4
        exact Or.inr (Or.inr (Or.inr (Or.inr (Or.inl ⟨y1, y2, by omega, y4⟩))))
      · exact Or.inr (Or.inr (Or.inr (Or.inr (Or.inr ui))))
    refine ⟨ui', pkA_ne d3 (by omega), ?_⟩
    rw [pkS_ne d3 d2 (by omega)]
    exact spC_cg hB.1 hB.2.1 hB.2.2 (fun j uj => pkA_ne (nu j uj) (by omega)) (fun _ => e0) (fun y => by omega) (fun p _ hp => e3 _ (by omega) (by omega)) (fun y _ => e3 _ (by omega) (by omega)) ui'
  · rcases dd i di with rfl | rfl | rfl | rfl | rfl | rfl | rfl
    · rw [sn2, l2]
      show _ = some (.inr (9, [.int (pkS S (N 1) m g 2 0), .ref (pkA sk (N 1) a q1 q2 q3 q4 6), .int (nI (pkN N 1))]) : va_E)
      rw [sn6, e1, g5]
    · rw [sn6, l6]
      show _ = some (rfA X 5 8 (fun j => if j < pkN N 1 then some (pkA sk (N 1) a q1 q2 q3 q4 (30 + j)) else none))
      rw [e1]
      refine congrArg some (congrArg (rfA X 5 8) (funext fun j => ?_))
      by_cases hj : j = N 1
      · rw [hj, va_up_self, s1, if_pos (by omega)]
      · rw [va_up_ne _ _ hj]
        by_cases hj2 : j < N 1
        · rw [if_pos hj2, if_pos (by omega), pkA_ne (by omega) (by omega)]
        · rw [if_neg hj2, if_neg (by omega)]
    · rw [s1, spc_p (by omega), g1, s2, s3, s4, ka]
    · rw [s2, spc_a (by omega) (by omega), g2, k1]
    · rw [s3, spc_a (by omega) (by omega), g3, k2]
    · rw [s4, spc_l (by omega), g4, s5, e2, k3]; rfl
    · rw [s5, spc_e (by omega), e2, k4]
      exact congrArg some (congrArg (rfA X 5 4) (funext fun j => (if_neg (by omega)).symm))
  · rcases dd i di with rfl | rfl | rfl | rfl | rfl | rfl | rfl
    · exact Or.inr ⟨2, Or.inl rfl, u2, sn2⟩
    · exact Or.inr ⟨6, Or.inr (Or.inl rfl), u6, sn6⟩
    · rw [s1]; exact Or.inl ⟨hq, f2⟩
    · rw [s2]; exact Or.inl ⟨v1.1, v1.2.1⟩
    · rw [s3]; exact Or.inl ⟨v2.1, v2.2.1⟩
    · rw [s4]; exact Or.inl ⟨v3.1, v3.2.1⟩
    · rw [s5]; exact Or.inl ⟨v4.1, v4.2.1⟩
  · have cl : ∀ {x y : Nat}, x ≠ y → x = y → i = j := fun h1 h2 => absurd h2 h1
    rcases dd i di with rfl | rfl | rfl | rfl | rfl | rfl | rfl <;> rcases dd j dj with rfl | rfl | rfl | rfl | rfl | rfl | rfl <;> first
      | rfl
      | (simp only [sn2, sn6, s1, s2, s3, s4, s5] at z; exfalso; first | exact n62 z | exact n62 z.symm | exact n12 z | exact n12 z.symm | exact n13 z | exact n13 z.symm | exact n14 z | exact n14 z.symm | exact n23 z | exact n23 z.symm | exact n24 z | exact n24 z.symm | exact n34 z | exact n34 z.symm | exact f2 _ u2 z | exact f2 _ u2 z.symm | exact f2 _ u6 z | exact f2 _ u6 z.symm | exact v1.2.2 z | exact v1.2.2 z.symm | exact v2.2.2 z | exact v2.2.2 z.symm | exact v3.2.2 z | exact v3.2.2 z.symm | exact v4.2.2 z | exact v4.2.2 z.symm | exact v1.2.1 _ u2 z | exact v1.2.1 _ u2 z.symm | exact v1.2.1 _ u6 z | exact v1.2.1 _ u6 z.symm | exact v2.2.1 _ u2 z | exact v2.2.1 _ u2 z.symm | exact v2.2.1 _ u6 z | exact v2.2.1 _ u6 z.symm | exact v3.2.1 _ u2 z | exact v3.2.1 _ u2 z.symm | exact v3.2.1 _ u6 z | exact v3.2.1 _ u6 z.symm | exact v4.2.1 _ u2 z | exact v4.2.1 _ u2 z.symm | exact v4.2.1 _ u6 z | exact v4.2.1 _ u6 z.symm)
  · have un : ∀ b, (b = 30 ∨ b = 40 ∨ b = 50 ∨ b = 60 ∨ b = 70) → SpU (pkN N) (b + N 1) := fun b hb => u_p hb (by rw [e1]; omega) (by rw [e1]; omega)
    have w1 := hn' (30 + N 1) (Or.inr (Or.inr (by omega))) (un 30 (by omega))
    have w2 := hn' (40 + N 1) (Or.inr (Or.inr (by omega))) (un 40 (by omega))
    have w3 := hn' (50 + N 1) (Or.inr (Or.inr (by omega))) (un 50 (by omega))
    have w4 := hn' (60 + N 1) (Or.inr (Or.inr (by omega))) (un 60 (by omega))
    have w5 := hn' (70 + N 1) (Or.inr (Or.inr (by omega))) (un 70 (by omega))
    rw [s1] at w1
    rw [s2] at w2
    rw [s3] at w3
    rw [s4] at w4
    rw [s5] at w5
    rw [hz' z w1 w2 w3 w4 w5 (hn 2 (Or.inl rfl) u2) (hn 6 (Or.inr (Or.inl rfl)) u6)]
    exact hc
/-- what is filled of a person -/
def PerR (S : Nat → Nat → Int32) (N : Nat → Nat) (w : Nat → Int32) (p : Nat) : Prop := (∀ j, j < 3 → S (30 + p) j = perI w p j) ∧ (S (30 + p) 6 = perI w p 3 ∧ nM w p ≤ 6 ∧ perI w p 3 = nI (nM w p)) ∧ (N (2 + p) = nL w p ∧ nL w p ≤ 4 ∧ perI w p 4 = nI (nL w p)) ∧ (∀ k, k < nM w p → S (40 + p) k = wayI (perI w p (5 + 2 * k)) ∧ S (50 + p) k = perI w p (5 + 2 * k + 1)) ∧ ∀ i, i < nL w p → hbL (N (80 + 4 * p + i)) (S (80 + 4 * p + i)) = hbC w p i
theorem SR.pr (h : SR S N w) (hp : p < N 1) : PerR S N w p := h.2.2.2.2.2 p hp
theorem PerR.cg (h : PerR S N w p) (hw : ∀ j, j < 33 → w' (56 + 33 * p + j) = w (56 + 33 * p + j)) (h3 : S' (30 + p) = S (30 + p)) (h4 : S' (40 + p) = S (40 + p)) (h5 : S' (50 + p) = S (50 + p)) (hn : N' (2 + p) = N (2 + p)) (hh : ∀ i, i < 4 → N' (80 + 4 * p + i) = N (80 + 4 * p + i) ∧ S' (80 + 4 * p + i) = S (80 + 4 * p + i)) : PerR S' N' w' p := by
  obtain ⟨f1, ⟨f2, f3, f4⟩, ⟨f5, f6, f7⟩, f8, f9⟩ := h
  have eM : nM w' p = nM w p := by unfold nM; rw [hw 3 (by decide)]
  have eL : nL w' p = nL w p := by unfold nL; rw [hw 4 (by decide)]
  have eP : ∀ j, j < 33 → perI w' p j = perI w p j := hw
  refine ⟨fun j hj => by rw [h3, eP j (by omega)]; exact f1 j hj, ⟨by rw [h3, eP 3 (by decide)]; exact f2, by rw [eM]; exact f3, by rw [eP 3 (by decide), eM]; exact f4⟩, ⟨by rw [eL, hn]; exact f5, by rw [eL]; exact f6, by rw [eP 4 (by decide), eL]; exact f7⟩, fun k hk => ?_, fun i hi => ?_⟩
  · rw [eM] at hk
    rw [h4, h5, eP _ (by omega), eP _ (by omega)]; exact f8 k hk
  · rw [eL] at hi
    rw [(hh i (by omega)).1, (hh i (by omega)).2, f9 i hi]
    exact (hbC_cg (fun j hj => hw _ (by omega))).symm
theorem SR.per (h : SR S N w) (hW : nW w ≤ 12) (hw : ∀ q, q < 56 → q ≠ 2 → w' q = w q) (h0 : S' 0 = S 0) (h3 : S' 3 = S 3) (hd' : ∀ c, c < 4 → S' (20 + c) = S (20 + c)) (hN : N' 0 = N 0) (h8 : N' 1 ≤ 8) (h2 : w' 2 = nI (N' 1)) (hper : ∀ p, p < N' 1 → PerR S' N' w' p) : SR S' N' w' := by
  obtain ⟨⟨c1, c2, c3⟩, ⟨p1, p2, p3⟩, ⟨s4, s5, s6, s7, s8⟩, hwl, hd, -⟩ := h
  refine ⟨⟨by rw [hN, c1]; unfold nC; rw [hw 1 (by decide) (by decide)], by rw [hN, hw 1 (by decide) (by decide)]; exact c2, by rw [hN]; exact c3⟩, ⟨by unfold nP; rw [h2, nI_clamp (by omega)], h2, h8⟩, ⟨by rw [h0, hw 4 (by decide) (by decide)]; exact s4, by rw [h0, hw 5 (by decide) (by decide)]; exact s5, by rw [h0, hw 6 (by decide) (by decide)]; exact s6, by rw [h0, hw 0 (by decide) (by decide)]; exact s7, by rw [h0, hw 3 (by decide) (by decide)]; exact s8⟩, fun a b ha hb => ?_, fun c hc j hj => ?_, hper⟩
  · rw [h3, hwl a b ha hb]
    have n0 : nW w' = nW w := by unfold nW; rw [hw 0 (by decide) (by decide)]
    rw [n0]
    refine congrArg b2 ?_
    refine (anyN_congr (fun j hj => ?_)).symm
    unfold wallAt
    rw [hw _ (by omega) (by omega), hw _ (by omega) (by omega)]
  · rw [hN] at hc
    rw [hd' c (by omega), hw _ (by omega) (by omega)]; exact hd c hc j hj
theorem per_e1 (z : (cell3 T n s w).2 = .inl e) : (personE T n p s w).1 = .inl e := by
  show (per1 T n (56 + 33 * p) s w).2 = _
  rw [per1, show (cellE T n (56 + 33 * p) s w).1 = (cell3 T n s w).2 from rfl, z]; rfl
end PeA
