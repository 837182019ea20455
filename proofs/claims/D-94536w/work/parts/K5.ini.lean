set_option maxRecDepth 100000
/-! ===== constructors: Dial, Habit and its kinds (printed by gen_k5.py) ===== -/
section KIni
variable {X : Cx} {h : AH} {a : Nat}
theorem hy_X7_init : mX7_init.y.cls ≠ "java/lang/invoke/MethodHandle" ∧ mX7_init.y.cls ≠ "java/lang/invoke/VarHandle" ∧ (parseMethodDescriptor mX7_init.y.desc).map (fun d => d.parameters.length) = some 6 := by decide +kernel
theorem hy_X9_init : mX9_init.y.cls ≠ "java/lang/invoke/MethodHandle" ∧ mX9_init.y.cls ≠ "java/lang/invoke/VarHandle" ∧ (parseMethodDescriptor mX9_init.y.desc).map (fun d => d.parameters.length) = some 1 := by decide +kernel
theorem hy_X13_init : mX13_init.y.cls ≠ "java/lang/invoke/MethodHandle" ∧ mX13_init.y.cls ≠ "java/lang/invoke/VarHandle" ∧ (parseMethodDescriptor mX13_init.y.desc).map (fun d => d.parameters.length) = some 2 := by decide +kernel
theorem hy_X10_init : mX10_init.y.cls ≠ "java/lang/invoke/MethodHandle" ∧ mX10_init.y.cls ≠ "java/lang/invoke/VarHandle" ∧ (parseMethodDescriptor mX10_init.y.desc).map (fun d => d.parameters.length) = some 1 := by decide +kernel
theorem hy_X11_init : mX11_init.y.cls ≠ "java/lang/invoke/MethodHandle" ∧ mX11_init.y.cls ≠ "java/lang/invoke/VarHandle" ∧ (parseMethodDescriptor mX11_init.y.desc).map (fun d => d.parameters.length) = some 3 := by decide +kernel
theorem hy_X12_init : mX12_init.y.cls ≠ "java/lang/invoke/MethodHandle" ∧ mX12_init.y.cls ≠ "java/lang/invoke/VarHandle" ∧ (parseMethodDescriptor mX12_init.y.desc).map (fun d => d.parameters.length) = some 3 := by decide +kernel
theorem hy_X14_init : mX14_init.y.cls ≠ "java/lang/invoke/MethodHandle" ∧ mX14_init.y.cls ≠ "java/lang/invoke/VarHandle" ∧ (parseMethodDescriptor mX14_init.y.desc).map (fun d => d.parameters.length) = some 2 := by decide +kernel
theorem hy_X15_init : mX15_init.y.cls ≠ "java/lang/invoke/MethodHandle" ∧ mX15_init.y.cls ≠ "java/lang/invoke/VarHandle" ∧ (parseMethodDescriptor mX15_init.y.desc).map (fun d => d.parameters.length) = some 2 := by decide +kernel
theorem bX7_init_0 : Blk PE mX7_init 0 1 [oAL 0] := blk_c (s_aload_n dX7_init_0 rfl) <| blk_nil
theorem bX7_init_4 : Blk PE mX7_init 4 6 [oAL 0, oIL 1] := blk_c (s_aload_n dX7_init_4 rfl) <| blk_c (s_iload_n dX7_init_5 rfl) <| blk_nil
theorem bX7_init_9 : Blk PE mX7_init 9 11 [oAL 0, oIL 2] := blk_c (s_aload_n dX7_init_9 rfl) <| blk_c (s_iload_n dX7_init_10 rfl) <| blk_nil
theorem bX7_init_14 : Blk PE mX7_init 14 16 [oAL 0, oIL 3] := blk_c (s_aload_n dX7_init_14 rfl) <| blk_c (s_iload_n dX7_init_15 rfl) <| blk_nil
theorem bX7_init_19 : Blk PE mX7_init 19 22 [oAL 0, oIL 4] := blk_c (s_aload_n dX7_init_19 rfl) <| blk_c (s_iload dX7_init_20) <| blk_nil
theorem bX7_init_25 : Blk PE mX7_init 25 28 [oAL 0, oIL 5] := blk_c (s_aload_n dX7_init_25 rfl) <| blk_c (s_iload dX7_init_26) <| blk_nil
theorem bX7_init_31 : Blk PE mX7_init 31 34 [oAL 0, oIL 6] := blk_c (s_aload_n dX7_init_31 rfl) <| blk_c (s_iload dX7_init_32) <| blk_nil
theorem ok_X7_init {v1 v2 v3 v4 v5 v6 f0 f1 f2 f3 f4 f5 : Int32} (h1 : h a = some (.inr (7, [.int f0, .int f1, .int f2, .int f3, .int f4, .int f5]))) : Cg X mX7_init 0 0 [.ref a, .int v1, .int v2, .int v3, .int v4, .int v5, .int v6] h (fun o h' => o = .returned none ∧ h' = va_up h a (some (.inr (7, [.int v1, .int v2, .int v3, .int v4, .int v5, .int v6])))) := by
  refine E_start (L := [some (.ref a), some (.int v1), some (.int v2), some (.int v3), some (.int v4), some (.int v5), some (.int v6)]) 0 rfl ?_
  refine bX7_init_0.go rfl trivial ?_
  refine js_of (J.objInit q842 q200 q201 (by decide) (by decide) dX7_init_1 ?_)
  refine of_js ?_
  refine bX7_init_4.go rfl trivial ?_
  refine js_of (J.putfF (f := 0) clsX7 rfl h1 (by decide) (Nat.le_of_ble_eq_true rfl) rfl rfl rfl rfl rfl q843 dX7_init_6 ?_)
  refine of_js ?_
  refine bX7_init_9.go rfl trivial ?_
  refine js_of (J.putfF (f := 1) clsX7 rfl (va_up_self _ _ _) (by decide) (Nat.le_of_ble_eq_true rfl) rfl rfl rfl rfl rfl q845 dX7_init_11 ?_)
  rw [up_up]
  refine of_js ?_
  refine bX7_init_14.go rfl trivial ?_
  refine js_of (J.putfF (f := 2) clsX7 rfl (va_up_self _ _ _) (by decide) (Nat.le_of_ble_eq_true rfl) rfl rfl rfl rfl rfl q847 dX7_init_16 ?_)
  rw [up_up]
  refine of_js ?_
  refine bX7_init_19.go rfl trivial ?_
  refine js_of (J.putfF (f := 3) clsX7 rfl (va_up_self _ _ _) (by decide) (Nat.le_of_ble_eq_true rfl) rfl rfl rfl rfl rfl q849 dX7_init_22 ?_)
  rw [up_up]
  refine of_js ?_
  refine bX7_init_25.go rfl trivial ?_
  refine js_of (J.putfF (f := 4) clsX7 rfl (va_up_self _ _ _) (by decide) (Nat.le_of_ble_eq_true rfl) rfl rfl rfl rfl rfl q852 dX7_init_28 ?_)
  rw [up_up]
  refine of_js ?_
  refine bX7_init_31.go rfl trivial ?_
  refine js_of (J.putfF (f := 5) clsX7 rfl (va_up_self _ _ _) (by decide) (Nat.le_of_ble_eq_true rfl) rfl rfl rfl rfl rfl q854 dX7_init_34 ?_)
  rw [up_up]
  refine of_js ?_
  exact js_of (J.vret dX7_init_37 rfl (Nat.le_refl _) (Nat.le_refl _) ⟨rfl, rfl⟩)
theorem bX9_init_0 : Blk PE mX9_init 0 1 [oAL 0] := blk_c (s_aload_n dX9_init_0 rfl) <| blk_nil
theorem bX9_init_4 : Blk PE mX9_init 4 6 [oAL 0, oIL 1] := blk_c (s_aload_n dX9_init_4 rfl) <| blk_c (s_iload_n dX9_init_5 rfl) <| blk_nil
theorem ok_X9_init_10 {v1 f0 : Int32} (h1 : h a = some (.inr (10, [.int f0]))) : Cg X mX9_init 0 0 [.ref a, .int v1] h (fun o h' => o = .returned none ∧ h' = va_up h a (some (.inr (10, [.int v1])))) := by
  refine E_start (L := [some (.ref a), some (.int v1)]) 0 rfl ?_
  refine bX9_init_0.go rfl trivial ?_
  refine js_of (J.objInit q1031 q200 q201 (by decide) (by decide) dX9_init_1 ?_)
  refine of_js ?_
  refine bX9_init_4.go rfl trivial ?_
  refine js_of (J.putfF (f := 0) clsX10 rfl h1 (by decide) (Nat.le_of_ble_eq_true rfl) rfl rfl rfl rfl rfl q1032 dX9_init_6 ?_)
  refine of_js ?_
  exact js_of (J.vret dX9_init_9 rfl (Nat.le_refl _) (Nat.le_refl _) ⟨rfl, rfl⟩)
theorem ok_X9_init_11 {v1 f0 f1 f2 : Int32} (h1 : h a = some (.inr (11, [.int f0, .int f1, .int f2]))) : Cg X mX9_init 0 0 [.ref a, .int v1] h (fun o h' => o = .returned none ∧ h' = va_up h a (some (.inr (11, [.int v1, .int f1, .int f2])))) := by
  refine E_start (L := [some (.ref a), some (.int v1)]) 0 rfl ?_
  refine bX9_init_0.go rfl trivial ?_
  refine js_of (J.objInit q1031 q200 q201 (by decide) (by decide) dX9_init_1 ?_)
  refine of_js ?_
  refine bX9_init_4.go rfl trivial ?_
  refine js_of (J.putfF (f := 0) clsX11 rfl h1 (by decide) (Nat.le_of_ble_eq_true rfl) rfl rfl rfl rfl rfl q1032 dX9_init_6 ?_)
  refine of_js ?_
  exact js_of (J.vret dX9_init_9 rfl (Nat.le_refl _) (Nat.le_refl _) ⟨rfl, rfl⟩)
theorem ok_X9_init_12 {v1 f0 f1 f2 : Int32} (h1 : h a = some (.inr (12, [.int f0, .int f1, .int f2]))) : Cg X mX9_init 0 0 [.ref a, .int v1] h (fun o h' => o = .returned none ∧ h' = va_up h a (some (.inr (12, [.int v1, .int f1, .int f2])))) := by
  refine E_start (L := [some (.ref a), some (.int v1)]) 0 rfl ?_
  refine bX9_init_0.go rfl trivial ?_
  refine js_of (J.objInit q1031 q200 q201 (by decide) (by decide) dX9_init_1 ?_)
  refine of_js ?_
  refine bX9_init_4.go rfl trivial ?_
  refine js_of (J.putfF (f := 0) clsX12 rfl h1 (by decide) (Nat.le_of_ble_eq_true rfl) rfl rfl rfl rfl rfl q1032 dX9_init_6 ?_)
  refine of_js ?_
  exact js_of (J.vret dX9_init_9 rfl (Nat.le_refl _) (Nat.le_refl _) ⟨rfl, rfl⟩)
theorem ok_X9_init_13 {v1 f0 f1 : Int32} (h1 : h a = some (.inr (13, [.int f0, .int f1]))) : Cg X mX9_init 0 0 [.ref a, .int v1] h (fun o h' => o = .returned none ∧ h' = va_up h a (some (.inr (13, [.int v1, .int f1])))) := by
  refine E_start (L := [some (.ref a), some (.int v1)]) 0 rfl ?_
  refine bX9_init_0.go rfl trivial ?_
  refine js_of (J.objInit q1031 q200 q201 (by decide) (by decide) dX9_init_1 ?_)
  refine of_js ?_
  refine bX9_init_4.go rfl trivial ?_
  refine js_of (J.putfF (f := 0) clsX13 rfl h1 (by decide) (Nat.le_of_ble_eq_true rfl) rfl rfl rfl rfl rfl q1032 dX9_init_6 ?_)
  refine of_js ?_
  exact js_of (J.vret dX9_init_9 rfl (Nat.le_refl _) (Nat.le_refl _) ⟨rfl, rfl⟩)
theorem ok_X9_init_14 {v1 f0 f1 : Int32} (h1 : h a = some (.inr (14, [.int f0, .int f1]))) : Cg X mX9_init 0 0 [.ref a, .int v1] h (fun o h' => o = .returned none ∧ h' = va_up h a (some (.inr (14, [.int v1, .int f1])))) := by
  refine E_start (L := [some (.ref a), some (.int v1)]) 0 rfl ?_
  refine bX9_init_0.go rfl trivial ?_
  refine js_of (J.objInit q1031 q200 q201 (by decide) (by decide) dX9_init_1 ?_)
  refine of_js ?_
  refine bX9_init_4.go rfl trivial ?_
  refine js_of (J.putfF (f := 0) clsX14 rfl h1 (by decide) (Nat.le_of_ble_eq_true rfl) rfl rfl rfl rfl rfl q1032 dX9_init_6 ?_)
  refine of_js ?_
  exact js_of (J.vret dX9_init_9 rfl (Nat.le_refl _) (Nat.le_refl _) ⟨rfl, rfl⟩)
theorem ok_X9_init_15 {v1 f0 f1 : Int32} (h1 : h a = some (.inr (15, [.int f0, .int f1]))) : Cg X mX9_init 0 0 [.ref a, .int v1] h (fun o h' => o = .returned none ∧ h' = va_up h a (some (.inr (15, [.int v1, .int f1])))) := by
  refine E_start (L := [some (.ref a), some (.int v1)]) 0 rfl ?_
  refine bX9_init_0.go rfl trivial ?_
  refine js_of (J.objInit q1031 q200 q201 (by decide) (by decide) dX9_init_1 ?_)
  refine of_js ?_
  refine bX9_init_4.go rfl trivial ?_
  refine js_of (J.putfF (f := 0) clsX15 rfl h1 (by decide) (Nat.le_of_ble_eq_true rfl) rfl rfl rfl rfl rfl q1032 dX9_init_6 ?_)
  refine of_js ?_
  exact js_of (J.vret dX9_init_9 rfl (Nat.le_refl _) (Nat.le_refl _) ⟨rfl, rfl⟩)
theorem bX10_init_0 : Blk PE mX10_init 0 2 [oAL 0, oIL 1] := blk_c (s_aload_n dX10_init_0 rfl) <| blk_c (s_iload_n dX10_init_1 rfl) <| blk_nil
theorem ok_X10_init {v1 f0 : Int32} (h1 : h a = some (.inr (10, [.int f0]))) : Cg X mX10_init 0 0 [.ref a, .int v1] h (fun o h' => o = .returned none ∧ h' = va_up h a (some (.inr (10, [.int v1])))) := by
  refine E_start (L := [some (.ref a), some (.int v1)]) 0 rfl ?_
  refine bX10_init_0.go rfl trivial ?_
  refine js_of (J.callI (M' := mX9_init) (As := [.int v1]) (st := []) (mc := 0) (ms := 0) (ok_X9_init_10 h1) rfl (fun o h' q => ⟨_, q.1⟩) dX10_init_2 q1030 q155 q1028 q1029 rfl hy_X9_init (by decide) (by decide) (by decide) (fun v h' q => ?_))
  obtain ⟨q, rfl⟩ := q
  cases q
  refine of_js ?_
  exact js_of (J.vret dX10_init_5 rfl (Nat.le_refl _) (Nat.le_refl _) ⟨rfl, rfl⟩)
theorem bX11_init_0 : Blk PE mX11_init 0 2 [oAL 0, oIL 1] := blk_c (s_aload_n dX11_init_0 rfl) <| blk_c (s_iload_n dX11_init_1 rfl) <| blk_nil
theorem bX11_init_5 : Blk PE mX11_init 5 7 [oAL 0, oIL 2] := blk_c (s_aload_n dX11_init_5 rfl) <| blk_c (s_iload_n dX11_init_6 rfl) <| blk_nil
theorem bX11_init_10 : Blk PE mX11_init 10 12 [oAL 0, oIL 3] := blk_c (s_aload_n dX11_init_10 rfl) <| blk_c (s_iload_n dX11_init_11 rfl) <| blk_nil
theorem ok_X11_init {v1 v2 v3 f0 f1 f2 : Int32} (h1 : h a = some (.inr (11, [.int f0, .int f1, .int f2]))) : Cg X mX11_init 0 0 [.ref a, .int v1, .int v2, .int v3] h (fun o h' => o = .returned none ∧ h' = va_up h a (some (.inr (11, [.int v1, .int v2, .int v3])))) := by
  refine E_start (L := [some (.ref a), some (.int v1), some (.int v2), some (.int v3)]) 0 rfl ?_
  refine bX11_init_0.go rfl trivial ?_
  refine js_of (J.callI (M' := mX9_init) (As := [.int v1]) (st := []) (mc := 0) (ms := 0) (ok_X9_init_11 h1) rfl (fun o h' q => ⟨_, q.1⟩) dX11_init_2 q1030 q155 q1046 q1029 rfl hy_X9_init (by decide) (by decide) (by decide) (fun v h' q => ?_))
  obtain ⟨q, rfl⟩ := q
  cases q
  refine of_js ?_
  refine bX11_init_5.go rfl trivial ?_
  refine js_of (J.putfF (f := 1) clsX11 rfl (va_up_self _ _ _) (by decide) (Nat.le_of_ble_eq_true rfl) rfl rfl rfl rfl rfl q1047 dX11_init_7 ?_)
  rw [up_up]
  refine of_js ?_
  refine bX11_init_10.go rfl trivial ?_
  refine js_of (J.putfF (f := 2) clsX11 rfl (va_up_self _ _ _) (by decide) (Nat.le_of_ble_eq_true rfl) rfl rfl rfl rfl rfl q1048 dX11_init_12 ?_)
  rw [up_up]
  refine of_js ?_
  exact js_of (J.vret dX11_init_15 rfl (Nat.le_refl _) (Nat.le_refl _) ⟨rfl, rfl⟩)
theorem bX12_init_0 : Blk PE mX12_init 0 2 [oAL 0, oIL 1] := blk_c (s_aload_n dX12_init_0 rfl) <| blk_c (s_iload_n dX12_init_1 rfl) <| blk_nil
theorem bX12_init_5 : Blk PE mX12_init 5 7 [oAL 0, oIL 2] := blk_c (s_aload_n dX12_init_5 rfl) <| blk_c (s_iload_n dX12_init_6 rfl) <| blk_nil
theorem bX12_init_10 : Blk PE mX12_init 10 12 [oAL 0, oIL 3] := blk_c (s_aload_n dX12_init_10 rfl) <| blk_c (s_iload_n dX12_init_11 rfl) <| blk_nil
theorem ok_X12_init {v1 v2 v3 f0 f1 f2 : Int32} (h1 : h a = some (.inr (12, [.int f0, .int f1, .int f2]))) : Cg X mX12_init 0 0 [.ref a, .int v1, .int v2, .int v3] h (fun o h' => o = .returned none ∧ h' = va_up h a (some (.inr (12, [.int v1, .int v2, .int v3])))) := by
  refine E_start (L := [some (.ref a), some (.int v1), some (.int v2), some (.int v3)]) 0 rfl ?_
  refine bX12_init_0.go rfl trivial ?_
  refine js_of (J.callI (M' := mX9_init) (As := [.int v1]) (st := []) (mc := 0) (ms := 0) (ok_X9_init_12 h1) rfl (fun o h' q => ⟨_, q.1⟩) dX12_init_2 q1030 q155 q1062 q1029 rfl hy_X9_init (by decide) (by decide) (by decide) (fun v h' q => ?_))
  obtain ⟨q, rfl⟩ := q
  cases q
  refine of_js ?_
  refine bX12_init_5.go rfl trivial ?_
  refine js_of (J.putfF (f := 1) clsX12 rfl (va_up_self _ _ _) (by decide) (Nat.le_of_ble_eq_true rfl) rfl rfl rfl rfl rfl q1063 dX12_init_7 ?_)
  rw [up_up]
  refine of_js ?_
  refine bX12_init_10.go rfl trivial ?_
  refine js_of (J.putfF (f := 2) clsX12 rfl (va_up_self _ _ _) (by decide) (Nat.le_of_ble_eq_true rfl) rfl rfl rfl rfl rfl q1064 dX12_init_12 ?_)
  rw [up_up]
  refine of_js ?_
  exact js_of (J.vret dX12_init_15 rfl (Nat.le_refl _) (Nat.le_refl _) ⟨rfl, rfl⟩)
theorem bX13_init_0 : Blk PE mX13_init 0 2 [oAL 0, oIL 1] := blk_c (s_aload_n dX13_init_0 rfl) <| blk_c (s_iload_n dX13_init_1 rfl) <| blk_nil
theorem bX13_init_5 : Blk PE mX13_init 5 7 [oAL 0, oIL 2] := blk_c (s_aload_n dX13_init_5 rfl) <| blk_c (s_iload_n dX13_init_6 rfl) <| blk_nil
theorem ok_X13_init {v1 v2 f0 f1 : Int32} (h1 : h a = some (.inr (13, [.int f0, .int f1]))) : Cg X mX13_init 0 0 [.ref a, .int v1, .int v2] h (fun o h' => o = .returned none ∧ h' = va_up h a (some (.inr (13, [.int v1, .int v2])))) := by
  refine E_start (L := [some (.ref a), some (.int v1), some (.int v2)]) 0 rfl ?_
  refine bX13_init_0.go rfl trivial ?_
  refine js_of (J.callI (M' := mX9_init) (As := [.int v1]) (st := []) (mc := 0) (ms := 0) (ok_X9_init_13 h1) rfl (fun o h' q => ⟨_, q.1⟩) dX13_init_2 q1030 q155 q1077 q1029 rfl hy_X9_init (by decide) (by decide) (by decide) (fun v h' q => ?_))
  obtain ⟨q, rfl⟩ := q
  cases q
  refine of_js ?_
  refine bX13_init_5.go rfl trivial ?_
  refine js_of (J.putfF (f := 1) clsX13 rfl (va_up_self _ _ _) (by decide) (Nat.le_of_ble_eq_true rfl) rfl rfl rfl rfl rfl q1078 dX13_init_7 ?_)
  rw [up_up]
  refine of_js ?_
  exact js_of (J.vret dX13_init_10 rfl (Nat.le_refl _) (Nat.le_refl _) ⟨rfl, rfl⟩)
theorem ok_X13_init_14 {v1 v2 f0 f1 : Int32} (h1 : h a = some (.inr (14, [.int f0, .int f1]))) : Cg X mX13_init 0 0 [.ref a, .int v1, .int v2] h (fun o h' => o = .returned none ∧ h' = va_up h a (some (.inr (14, [.int v1, .int v2])))) := by
  refine E_start (L := [some (.ref a), some (.int v1), some (.int v2)]) 0 rfl ?_
  refine bX13_init_0.go rfl trivial ?_
  refine js_of (J.callI (M' := mX9_init) (As := [.int v1]) (st := []) (mc := 0) (ms := 0) (ok_X9_init_14 h1) rfl (fun o h' q => ⟨_, q.1⟩) dX13_init_2 q1030 q155 q1077 q1029 rfl hy_X9_init (by decide) (by decide) (by decide) (fun v h' q => ?_))
  obtain ⟨q, rfl⟩ := q
  cases q
  refine of_js ?_
  refine bX13_init_5.go rfl trivial ?_
  refine js_of (J.putfF (f := 1) clsX14 rfl (va_up_self _ _ _) (by decide) (Nat.le_of_ble_eq_true rfl) rfl rfl rfl rfl rfl q1078 dX13_init_7 ?_)
  rw [up_up]
  refine of_js ?_
  exact js_of (J.vret dX13_init_10 rfl (Nat.le_refl _) (Nat.le_refl _) ⟨rfl, rfl⟩)
theorem bX14_init_0 : Blk PE mX14_init 0 3 [oAL 0, oIL 1, oIL 2] := blk_c (s_aload_n dX14_init_0 rfl) <| blk_c (s_iload_n dX14_init_1 rfl) <| blk_c (s_iload_n dX14_init_2 rfl) <| blk_nil
theorem ok_X14_init {v1 v2 f0 f1 : Int32} (h1 : h a = some (.inr (14, [.int f0, .int f1]))) : Cg X mX14_init 0 0 [.ref a, .int v1, .int v2] h (fun o h' => o = .returned none ∧ h' = va_up h a (some (.inr (14, [.int v1, .int v2])))) := by
  refine E_start (L := [some (.ref a), some (.int v1), some (.int v2)]) 0 rfl ?_
  refine bX14_init_0.go rfl trivial ?_
  refine js_of (J.callI (M' := mX13_init) (As := [.int v1, .int v2]) (st := []) (mc := 0) (ms := 0) (ok_X13_init_14 h1) rfl (fun o h' q => ⟨_, q.1⟩) dX14_init_3 q1076 q159 q1089 q1075 rfl hy_X13_init (by decide) (by decide) (by decide) (fun v h' q => ?_))
  obtain ⟨q, rfl⟩ := q
  cases q
  refine of_js ?_
  exact js_of (J.vret dX14_init_6 rfl (Nat.le_refl _) (Nat.le_refl _) ⟨rfl, rfl⟩)
theorem bX15_init_0 : Blk PE mX15_init 0 2 [oAL 0, oIL 1] := blk_c (s_aload_n dX15_init_0 rfl) <| blk_c (s_iload_n dX15_init_1 rfl) <| blk_nil
theorem bX15_init_5 : Blk PE mX15_init 5 7 [oAL 0, oIL 2] := blk_c (s_aload_n dX15_init_5 rfl) <| blk_c (s_iload_n dX15_init_6 rfl) <| blk_nil
theorem ok_X15_init {v1 v2 f0 f1 : Int32} (h1 : h a = some (.inr (15, [.int f0, .int f1]))) : Cg X mX15_init 0 0 [.ref a, .int v1, .int v2] h (fun o h' => o = .returned none ∧ h' = va_up h a (some (.inr (15, [.int v1, .int v2])))) := by
  refine E_start (L := [some (.ref a), some (.int v1), some (.int v2)]) 0 rfl ?_
  refine bX15_init_0.go rfl trivial ?_
  refine js_of (J.callI (M' := mX9_init) (As := [.int v1]) (st := []) (mc := 0) (ms := 0) (ok_X9_init_15 h1) rfl (fun o h' q => ⟨_, q.1⟩) dX15_init_2 q1030 q155 q1099 q1029 rfl hy_X9_init (by decide) (by decide) (by decide) (fun v h' q => ?_))
  obtain ⟨q, rfl⟩ := q
  cases q
  refine of_js ?_
  refine bX15_init_5.go rfl trivial ?_
  refine js_of (J.putfF (f := 1) clsX15 rfl (va_up_self _ _ _) (by decide) (Nat.le_of_ble_eq_true rfl) rfl rfl rfl rfl rfl q1100 dX15_init_7 ?_)
  rw [up_up]
  refine of_js ?_
  exact js_of (J.vret dX15_init_10 rfl (Nat.le_refl _) (Nat.le_refl _) ⟨rfl, rfl⟩)
end KIni
