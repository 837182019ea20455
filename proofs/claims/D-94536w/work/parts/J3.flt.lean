set_option maxRecDepth 100000
/-! ===== UnseenClock$Fault: its making ===== -/
section FltO
variable {σ : Type} {Pic : Cx → σ → AH → Prop} {M : MD} {pc : Nat}
def oALn (i : Nat) : OPS σ := .inl (fun s => match s with
  | (L, st, x) => match L[i]? with
    | some (some .null) => some (L, .null :: st, x)
    | _ => none)
theorem s_aload_nN {j : Fin 4} {i : Nat} (hd : decode M.cc pc = .ok (.aload_n j, 1)) (hj : (j : Nat) = i) : JStp Pic M pc (pc + 1) (oALn i) := by
  intro X R Z k n L st x L' st' x' hf kk h hp p e s m args below meth c B rk H locs ls hW hS hL
  dsimp only at hf
  split at hf
  · rename_i hv
    simp only [Option.some.injEq, Prod.mk.injEq] at hf
    obtain ⟨rfl, rfl, rfl⟩ := hf
    exact lv_aload_nN B.1 B.2.1 hd hj (hL.2.2 _ _ hv) (kk h hp p e s m args below meth c B rk H locs ls hW hS hL)
  · cases hf
end FltO
/-- Throwable's statics, all through -/
def ThZ (X : Cx) : Prop := ∀ U, X.G U → va_Zq "java/lang/Throwable" "UNASSIGNED_STACK" "[Ljava/lang/StackTraceElement;" X.A U U.heap ∧ va_Zq "java/lang/Throwable" "SUPPRESSED_SENTINEL" "Ljava/util/List;" X.A U U.heap
abbrev mJ8_init_3 : MD := (yJ8_init_3, cJ8_init_3, 5, (Option.none : Option FieldType), 2, noEH)
abbrev mJ9_init_3 : MD := (yJ9_init_3, cJ9_init_3, 5, (Option.none : Option FieldType), 3, noEH)
abbrev mJ10_init_3 : MD := (yJ10_init_3, cJ10_init_3, 5, (Option.none : Option FieldType), 4, noEH)
theorem hy_J8i : mJ8_init_3.y.cls ≠ "java/lang/invoke/MethodHandle" ∧ mJ8_init_3.y.cls ≠ "java/lang/invoke/VarHandle" ∧ (parseMethodDescriptor mJ8_init_3.y.desc).map (fun d => d.parameters.length) = some 4 := by decide +kernel
theorem hy_J9i : mJ9_init_3.y.cls ≠ "java/lang/invoke/MethodHandle" ∧ mJ9_init_3.y.cls ≠ "java/lang/invoke/VarHandle" ∧ (parseMethodDescriptor mJ9_init_3.y.desc).map (fun d => d.parameters.length) = some 4 := by decide +kernel
theorem hy_J10i : mJ10_init_3.y.cls ≠ "java/lang/invoke/MethodHandle" ∧ mJ10_init_3.y.cls ≠ "java/lang/invoke/VarHandle" ∧ (parseMethodDescriptor mJ10_init_3.y.desc).map (fun d => d.parameters.length) = some 4 := by decide +kernel
theorem hy_X6i : mX6_init.y.cls ≠ "java/lang/invoke/MethodHandle" ∧ mX6_init.y.cls ≠ "java/lang/invoke/VarHandle" ∧ (parseMethodDescriptor mX6_init.y.desc).map (fun d => d.parameters.length) = some 2 := by decide +kernel
abbrev flL (u : Value) (v d k p : Int32) : List Value := [.null, .null, .null, .null, u, .int d, .int k, .int p]
section Flt
variable {X : Cx} {h : AH} {a : Nat} {k p : Int32}
theorem bJ8_0 : Blk PE mJ8_init_3 0 1 [oAL 0] := blk_c (s_aload_n dJ8_init_3_0 rfl) <| blk_nil
theorem bJ8_4 : Blk PE mJ8_init_3 4 6 [oAL 0, oAL 0] := blk_c (s_aload_n dJ8_init_3_4 rfl) <| blk_c (s_aload_n dJ8_init_3_5 rfl) <| blk_nil
theorem bJ8_9 : Blk PE mJ8_init_3 9 10 [oAL 0] := blk_c (s_aload_n dJ8_init_3_9 rfl) <| blk_nil
theorem bJ8_16 : Blk PE mJ8_init_3 16 17 [oAL 0] := blk_c (s_aload_n dJ8_init_3_16 rfl) <| blk_nil
theorem bJ8_23 : Blk PE mJ8_init_3 23 25 [oIL 4] := blk_c (s_iload dJ8_init_3_23) <| blk_nil
theorem bJ8_36 : Blk PE mJ8_init_3 36 38 [oAL 0, oN] := blk_c (s_aload_n dJ8_init_3_36 rfl) <| blk_c (s_null dJ8_init_3_37) <| blk_nil
theorem bJ8_41 : Blk PE mJ8_init_3 41 43 [oAL 0, oALn 1] := blk_c (s_aload_n dJ8_init_3_41 rfl) <| blk_c (s_aload_nN dJ8_init_3_42 rfl) <| blk_nil
theorem bJ8_46 : Blk PE mJ8_init_3 46 48 [oAL 0, oALn 2] := blk_c (s_aload_n dJ8_init_3_46 rfl) <| blk_c (s_aload_nN dJ8_init_3_47 rfl) <| blk_nil
theorem bJ8_51 : Blk PE mJ8_init_3 51 52 [oIL 3] := blk_c (s_iload_n dJ8_init_3_51 rfl) <| blk_nil
theorem bJ8_55 : Blk PE mJ8_init_3 55 57 [oAL 0, oN] := blk_c (s_aload_n dJ8_init_3_55 rfl) <| blk_c (s_null dJ8_init_3_56) <| blk_nil
theorem ok_J8i (hZ : ThZ X) {u0 u1 u2 u3 v4 v5 v6 v7 : Value} (h1 : h a = some (.inr (6, [u0, u1, u2, u3, v4, v5, v6, v7]))) : Cg X mJ8_init_3 0 0 [.ref a, .null, .null, .int (nI 0), .int (nI 0)] h (fun o h' => o = .returned none ∧ h' = va_up h a (some (.inr (6, [.null, .null, .null, .null, v4, v5, v6, v7])))) := by
  refine E_start (L := [some (.ref a), some .null, some .null, some (.int (nI 0)), some (.int (nI 0))]) 0 rfl ?_
  refine bJ8_0.go rfl trivial ?_
  refine js_of ?_
  refine J.objInit q199 q200 q201 (by decide) (by decide) dJ8_init_3_1 ?_
  refine of_js ?_
  refine bJ8_4.go rfl trivial ?_
  refine js_of (J.putf (f := 0) clsX6 rfl h1 (by decide) (Nat.le_of_ble_eq_true rfl) rfl rfl rfl q235 dJ8_init_3_6 ?_)
  refine of_js ?_
  refine bJ8_9.go rfl trivial ?_
  have j13 : ∀ w0, w0 = .null ∨ (∃ t, w0 = .ref t) → JS PE X mJ8_init_3 (rmOf mJ8_init_3.lv 0 0) (ZQ X 0 0 (fun o h' => o = .returned none ∧ h' = va_up h a (some (.inr (6, [.null, .null, .null, .null, v4, v5, v6, v7]))))) 0 0 13 [some (.ref a), some .null, some .null, some (.int (nI 0)), some (.int (nI 0))] [w0, .ref a] (va_up h a (some (.inr (6, [.ref a, u1, u2, u3, v4, v5, v6, v7])))) := by
    intro w0 hw0
    refine js_of (J.putf (f := 1) clsX6 rfl (va_up_self _ _ _) (by decide) (Nat.le_of_ble_eq_true rfl) rfl (by rcases hw0 with rfl | ⟨t, rfl⟩ <;> rfl) (by rcases hw0 with rfl | ⟨t, rfl⟩ <;> rfl) q236 dJ8_init_3_13 ?_)
    rw [up_up]
    refine of_js ?_
    refine bJ8_16.go rfl trivial ?_
    have j20 : ∀ w1, w1 = .null ∨ (∃ t, w1 = .ref t) → JS PE X mJ8_init_3 (rmOf mJ8_init_3.lv 0 0) (ZQ X 0 0 (fun o h' => o = .returned none ∧ h' = va_up h a (some (.inr (6, [.null, .null, .null, .null, v4, v5, v6, v7]))))) 0 0 20 [some (.ref a), some .null, some .null, some (.int (nI 0)), some (.int (nI 0))] [w1, .ref a] (va_up h a (some (.inr (6, List.set [.ref a, u1, u2, u3, v4, v5, v6, v7] 1 w0)))) := by
      intro w1 hw1
      refine js_of (J.putf (f := 2) clsX6 rfl (va_up_self _ _ _) (by decide) (Nat.le_of_ble_eq_true rfl) rfl (by rcases hw1 with rfl | ⟨t, rfl⟩ <;> rfl) (by rcases hw1 with rfl | ⟨t, rfl⟩ <;> rfl) q237 dJ8_init_3_20 ?_)
      rw [up_up]
      refine of_js ?_
      refine bJ8_23.go rfl trivial ?_
      refine j_if_eq (tgt := 36) dJ8_init_3_25 (by decide) (fun _ => ?_) (fun z => absurd rfl z)
      refine bJ8_36.go rfl trivial ?_
      refine js_of (J.putf (f := 1) clsX6 rfl (va_up_self _ _ _) (by decide) (Nat.le_of_ble_eq_true rfl) rfl rfl rfl q236 dJ8_init_3_38 ?_)
      rw [up_up]
      refine of_js ?_
      refine bJ8_41.go rfl trivial ?_
      refine js_of (J.putf (f := 3) clsX6 rfl (va_up_self _ _ _) (by decide) (Nat.le_of_ble_eq_true rfl) rfl rfl rfl q234 dJ8_init_3_43 ?_)
      rw [up_up]
      refine of_js ?_
      refine bJ8_46.go rfl trivial ?_
      refine js_of (J.putf (f := 0) clsX6 rfl (va_up_self _ _ _) (by decide) (Nat.le_of_ble_eq_true rfl) rfl rfl rfl q235 dJ8_init_3_48 ?_)
      rw [up_up]
      refine of_js ?_
      refine bJ8_51.go rfl trivial ?_
      refine j_if_ne (tgt := 60) dJ8_init_3_52 (by decide) (fun z => absurd rfl z) (fun _ => ?_)
      refine bJ8_55.go rfl trivial ?_
      refine js_of (J.putf (f := 2) clsX6 rfl (va_up_self _ _ _) (by decide) (Nat.le_of_ble_eq_true rfl) rfl rfl rfl q237 dJ8_init_3_57 ?_)
      rw [up_up]
      exact J.vret dJ8_init_3_60 rfl (Nat.le_refl _) (Nat.le_refl _) ⟨rfl, rfl⟩
    exact js_getsQ (fun U hU => (hZ U hU).2) q204 dJ8_init_3_17 (j20 _ (Or.inl rfl)) (fun t => j20 _ (Or.inr ⟨t, rfl⟩))
  exact js_getsQ (fun U hU => (hZ U hU).1) q202 dJ8_init_3_10 (j13 _ (Or.inl rfl)) (fun t => j13 _ (Or.inr ⟨t, rfl⟩))
theorem bJ9_0 : Blk PE mJ9_init_3 0 6 [oAL 0, oALn 1, oALn 2, oIL 3, oIL 4] := blk_c (s_aload_n dJ9_init_3_0 rfl) <| blk_c (s_aload_nN dJ9_init_3_1 rfl) <| blk_c (s_aload_nN dJ9_init_3_2 rfl) <| blk_c (s_iload_n dJ9_init_3_3 rfl) <| blk_c (s_iload dJ9_init_3_4) <| blk_nil
theorem ok_J9i (hZ : ThZ X) {u0 u1 u2 u3 v4 v5 v6 v7 : Value} (h1 : h a = some (.inr (6, [u0, u1, u2, u3, v4, v5, v6, v7]))) : Cg X mJ9_init_3 0 0 [.ref a, .null, .null, .int (nI 0), .int (nI 0)] h (fun o h' => o = .returned none ∧ h' = va_up h a (some (.inr (6, [.null, .null, .null, .null, v4, v5, v6, v7])))) := by
  refine E_start (L := [some (.ref a), some .null, some .null, some (.int (nI 0)), some (.int (nI 0))]) 0 rfl ?_
  refine bJ9_0.go rfl trivial ?_
  refine js_of (J.callI (M' := mJ8_init_3) (As := [.null, .null, .int (nI 0), .int (nI 0)]) (st := []) (mc := 0) (ms := 0) (ok_J8i hZ h1) rfl (fun o h' q => ⟨_, q.1⟩) dJ9_init_3_6 q745 q145 q743 q744 rfl hy_J8i (by decide) (by decide) (by decide) (fun v h' q => ?_))
  obtain ⟨q, rfl⟩ := q
  cases q
  exact J.vret dJ9_init_3_9 rfl (Nat.le_refl _) (Nat.le_refl _) ⟨rfl, rfl⟩
theorem bJ10_0 : Blk PE mJ10_init_3 0 6 [oAL 0, oALn 1, oALn 2, oIL 3, oIL 4] := blk_c (s_aload_n dJ10_init_3_0 rfl) <| blk_c (s_aload_nN dJ10_init_3_1 rfl) <| blk_c (s_aload_nN dJ10_init_3_2 rfl) <| blk_c (s_iload_n dJ10_init_3_3 rfl) <| blk_c (s_iload dJ10_init_3_4) <| blk_nil
theorem ok_J10i (hZ : ThZ X) {u0 u1 u2 u3 v4 v5 v6 v7 : Value} (h1 : h a = some (.inr (6, [u0, u1, u2, u3, v4, v5, v6, v7]))) : Cg X mJ10_init_3 0 0 [.ref a, .null, .null, .int (nI 0), .int (nI 0)] h (fun o h' => o = .returned none ∧ h' = va_up h a (some (.inr (6, [.null, .null, .null, .null, v4, v5, v6, v7])))) := by
  refine E_start (L := [some (.ref a), some .null, some .null, some (.int (nI 0)), some (.int (nI 0))]) 0 rfl ?_
  refine bJ10_0.go rfl trivial ?_
  refine js_of (J.callI (M' := mJ9_init_3) (As := [.null, .null, .int (nI 0), .int (nI 0)]) (st := []) (mc := 0) (ms := 0) (ok_J9i hZ h1) rfl (fun o h' q => ⟨_, q.1⟩) dJ10_init_3_6 q742 q146 q740 q741 rfl hy_J9i (by decide) (by decide) (by decide) (fun v h' q => ?_))
  obtain ⟨q, rfl⟩ := q
  cases q
  exact J.vret dJ10_init_3_9 rfl (Nat.le_refl _) (Nat.le_refl _) ⟨rfl, rfl⟩
theorem bX6_0 : Blk PE mX6_init 0 5 [oAL 0, oN, oN, oC (nI 0), oC (nI 0)] := blk_c (s_aload_n dX6_init_0 rfl) <| blk_c (s_null dX6_init_1) <| blk_c (s_null dX6_init_2) <| blk_c (s_iconst dX6_init_3 (by decide +kernel)) <| blk_c (s_iconst dX6_init_4 (by decide +kernel)) <| blk_nil
theorem bX6_8 : Blk PE mX6_init 8 10 [oAL 0, oIL 1] := blk_c (s_aload_n dX6_init_8 rfl) <| blk_c (s_iload_n dX6_init_9 rfl) <| blk_nil
theorem bX6_13 : Blk PE mX6_init 13 15 [oAL 0, oIL 2] := blk_c (s_aload_n dX6_init_13 rfl) <| blk_c (s_iload_n dX6_init_14 rfl) <| blk_nil
theorem ok_X6i (hZ : ThZ X) (h1 : h a = some (.inr (6, [.null, .null, .null, .null, .null, .int 0, .int 0, .int 0]))) : Cg X mX6_init 0 0 [.ref a, .int k, .int p] h (fun o h' => o = .returned none ∧ h' = va_up h a (some (.inr (6, [.null, .null, .null, .null, .null, .int 0, .int k, .int p])))) := by
  refine E_start (L := [some (.ref a), some (.int k), some (.int p)]) 0 rfl ?_
  refine bX6_0.go rfl trivial ?_
  refine js_of (J.callI (M' := mJ10_init_3) (As := [.null, .null, .int (nI 0), .int (nI 0)]) (st := []) (mc := 0) (ms := 0) (ok_J10i hZ h1) rfl (fun o h' q => ⟨_, q.1⟩) dX6_init_5 q739 q147 q737 q738 rfl hy_J10i (by decide) (by decide) (by decide) (fun v h' q => ?_))
  obtain ⟨q, rfl⟩ := q
  cases q
  refine of_js ?_
  refine bX6_8.go rfl trivial ?_
  refine js_of (J.putfF (f := 6) clsX6 rfl (va_up_self _ _ _) (by decide) (Nat.le_of_ble_eq_true rfl) rfl rfl rfl rfl rfl q746 dX6_init_10 ?_)
  rw [up_up]
  refine of_js ?_
  refine bX6_13.go rfl trivial ?_
  refine js_of (J.putfF (f := 7) clsX6 rfl (va_up_self _ _ _) (by decide) (Nat.le_of_ble_eq_true rfl) rfl rfl rfl rfl rfl q748 dX6_init_15 ?_)
  rw [up_up]
  exact J.vret dX6_init_18 rfl (Nat.le_refl _) (Nat.le_refl _) ⟨rfl, rfl⟩
end Flt
