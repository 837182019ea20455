set_option maxRecDepth 100000
/-! ===== fields and arrays in J ===== -/
def ClsOK (C : String) (T : u_T) (N : Nat) (ty : Nat → FieldType) : Prop := (∀ w ∈ u_ws C T N, w ∈ lw_all) ∧ (∀ k, k < N → parseFieldDescriptor (T k).2.2.1 = some (ty k)) ∧ (∀ a, a < N → ∀ b, b < N → a ≠ b → (T a).2.1 ≠ (T b).2.1)
section Heap13
variable {X : Cx} {M : MD} {R : Room} {Z : ZT} {k n pc idx a : Nat} {L : List (Option Value)} {st : List Value} {h : AH}
theorem J.getf {C : String} {T : u_T} {N ci f : Nat} {ty : Nat → FieldType} {fs : List Value} {v : Value} (hC : ClsOK C T N ty) (hc : vwCl[ci]? = some (C, T, N)) (ha : h a = some (.inr (ci, fs))) (hf : f < N) (hv : fs[f]? = some v) (hl : Cond.fieldLink M.y.cls idx (T f).1 (T f).2.1 (T f).2.2.1 ∈ lw_all) (hd : decode M.cc pc = .ok (.getfield idx, 3))
    (kk : J X M R Z (pc + 3) L (v :: st) h k n) : J X M R Z pc L (.ref a :: st) h k n := by
  intro p e s m args below meth c B rk H locs ls hW hS hL
  obtain ⟨ws, hP, hD, hh⟩ := id hW
  obtain ⟨q0, hq0⟩ := hh a _ ha
  exact va_get B.1 B.2.1 B.2.2.2.2.2.2.1 hC.1 B.2.2.2.2.2.1 B.2.2.2.2.2.2.2.1.1 hP q0 hq0 hc f hf (B.2.2.2.2.2.2.1 _ hl) (fun _ q => q) hv hd (kk p e s m args below meth c B rk H locs ls hW hS hL)
theorem J.putf {C : String} {T : u_T} {N ci f : Nat} {ty : Nat → FieldType} {fs : List Value} {v : Value} (hC : ClsOK C T N ty) (hc : vwCl[ci]? = some (C, T, N)) (ha : h a = some (.inr (ci, fs))) (hf : f < N) (hfs : f < fs.length) (hfin : (T f).2.2.2 = false) (hn : narrow (ty f) v = v) (hfit : fits (ty f) v = true) (hl : Cond.fieldLink M.y.cls idx (T f).1 (T f).2.1 (T f).2.2.1 ∈ lw_all) (hd : decode M.cc pc = .ok (.putfield idx, 3))
    (kk : J X M R Z (pc + 3) L st (va_up h a (some (.inr (ci, fs.set f v)))) k n) : J X M R Z pc L (v :: .ref a :: st) h k n := by
  intro p e s m args below meth c B rk H locs ls hW hS hL
  obtain ⟨ws, hP, hD, hh⟩ := id hW
  obtain ⟨q0, hq0⟩ := hh a _ ha
  exact va_put B.1 B.2.1 B.2.2.2.2.2.2.1 hC.1 ty hC.2.1 hC.2.2 B.2.2.2.2.2.1 B.2.2.2.2.2.2.2.1.1 hP hD hS q0 hq0 hc f hf (B.2.2.2.2.2.2.1 _ hl) (fun _ q => q) hfin (hC.2.1 f hf) hn hfit hfs hd
    (fun H1 locs1 hP1 hD1 hS1 => kk p e s m args below meth c B rk H1 locs1 ls (Wd.set hD hh hq0 hP1 hD1) hS1 hL)
/-- a final field in the constructor -/
theorem J.putfF {C : String} {T : u_T} {N ci f : Nat} {ty : Nat → FieldType} {fs : List Value} {v : Value} (hC : ClsOK C T N ty) (hc : vwCl[ci]? = some (C, T, N)) (ha : h a = some (.inr (ci, fs))) (hf : f < N) (hfs : f < fs.length) (hfin : (T f).2.2.2 = true) (hi : M.y.name = "<init>") (hdecl : (T f).1 = M.y.cls) (hn : narrow (ty f) v = v) (hfit : fits (ty f) v = true) (hl : Cond.fieldLink M.y.cls idx (T f).1 (T f).2.1 (T f).2.2.1 ∈ lw_all) (hd : decode M.cc pc = .ok (.putfield idx, 3))
    (kk : J X M R Z (pc + 3) L st (va_up h a (some (.inr (ci, fs.set f v)))) k n) : J X M R Z pc L (v :: .ref a :: st) h k n := by
  intro p e s m args below meth c B rk H locs ls hW hS hL
  obtain ⟨ws, hP, hD, hh⟩ := id hW
  obtain ⟨q0, hq0⟩ := hh a _ ha
  exact va_putF B.1 B.2.1 B.2.2.2.2.2.2.1 hC.1 ty hC.2.1 hC.2.2 B.2.2.2.2.2.1 B.2.2.2.2.2.2.2.1.1 hP hD hS q0 hq0 hc f hf (B.2.2.2.2.2.2.1 _ hl) (fun _ q => q) hfin (B.2.2.2.2.2.2.2.2.2.trans hi) hdecl (hC.2.1 f hf) hn hfit hfs hd
    (fun H1 locs1 hP1 hD1 hS1 => kk p e s m args below meth c B rk H1 locs1 ls (Wd.set hD hh hq0 hP1 hD1) hS1 hL)
theorem J.iald {len : Nat} {g : Nat → Int32} {i : Int32} (ha : h a = some (.inl (X.dA 0, len, .inl g))) (hi : vp_in i len) (hd : decode M.cc pc = .ok (.iaload, 1)) (kk : J X M R Z (pc + 1) L (.int (g i.toNatClampNeg) :: st) h k n) : J X M R Z pc L (.int i :: .ref a :: st) h k n := by
  intro p e s m args below meth c B rk H locs ls hW hS hL
  obtain ⟨ws, hP, hD, hh⟩ := id hW
  obtain ⟨q0, hq0⟩ := hh a _ ha
  exact va_iald B.1 B.2.1 B.2.2.2.2.2.2.2.1.1 hP q0 0 hq0 rfl hi hd (kk p e s m args below meth c B rk H locs ls hW hS hL)
theorem J.bald {len : Nat} {g : Nat → Int32} {i : Int32} (ha : h a = some (.inl (X.dA 2, len, .inl g))) (hi : vp_in i len) (hd : decode M.cc pc = .ok (.baload, 1)) (kk : J X M R Z (pc + 1) L (.int (g i.toNatClampNeg) :: st) h k n) : J X M R Z pc L (.int i :: .ref a :: st) h k n := by
  intro p e s m args below meth c B rk H locs ls hW hS hL
  obtain ⟨ws, hP, hD, hh⟩ := id hW
  obtain ⟨q0, hq0⟩ := hh a _ ha
  exact va_bald B.1 B.2.1 B.2.2.2.2.2.2.2.1.1 hP q0 2 hq0 rfl hi hd (kk p e s m args below meth c B rk H locs ls hW hS hL)
theorem J.zald {len : Nat} {g : Nat → Int32} {i : Int32} (ha : h a = some (.inl (X.dA 4, len, .inl g))) (hi : vp_in i len) (hd : decode M.cc pc = .ok (.baload, 1)) (kk : J X M R Z (pc + 1) L (.int (g i.toNatClampNeg) :: st) h k n) : J X M R Z pc L (.int i :: .ref a :: st) h k n := by
  intro p e s m args below meth c B rk H locs ls hW hS hL
  obtain ⟨ws, hP, hD, hh⟩ := id hW
  obtain ⟨q0, hq0⟩ := hh a _ ha
  exact va_zald B.1 B.2.1 B.2.2.2.2.2.2.2.1.1 hP q0 4 hq0 rfl hi hd (kk p e s m args below meth c B rk H locs ls hW hS hL)
theorem J.sald {len : Nat} {g : Nat → Int32} {i : Int32} (ha : h a = some (.inl (X.dA 3, len, .inl g))) (hi : vp_in i len) (hd : decode M.cc pc = .ok (.saload, 1)) (kk : J X M R Z (pc + 1) L (.int (g i.toNatClampNeg) :: st) h k n) : J X M R Z pc L (.int i :: .ref a :: st) h k n := by
  intro p e s m args below meth c B rk H locs ls hW hS hL
  obtain ⟨ws, hP, hD, hh⟩ := id hW
  obtain ⟨q0, hq0⟩ := hh a _ ha
  exact va_sald B.1 B.2.1 B.2.2.2.2.2.2.2.1.1 hP q0 3 hq0 rfl hi hd (kk p e s m args below meth c B rk H locs ls hW hS hL)
theorem J.lald {len : Nat} {g : Nat → Int64} {i : Int32} (ha : h a = some (.inl (X.dA 1, len, .inr (.inl g)))) (hi : vp_in i len) (hd : decode M.cc pc = .ok (.laload, 1)) (kk : J X M R Z (pc + 1) L (.long (g i.toNatClampNeg) :: st) h k n) : J X M R Z pc L (.int i :: .ref a :: st) h k n := by
  intro p e s m args below meth c B rk H locs ls hW hS hL
  obtain ⟨ws, hP, hD, hh⟩ := id hW
  obtain ⟨q0, hq0⟩ := hh a _ ha
  exact va_lald B.1 B.2.1 B.2.2.2.2.2.2.2.1.1 hP q0 1 hq0 rfl hi hd (kk p e s m args below meth c B rk H locs ls hW hS hL)
theorem J.iast {len : Nat} {g : Nat → Int32} {i : Int32} {v : Int32} (ha : h a = some (.inl (X.dA 0, len, .inl g))) (hi : vp_in i len) (hd : decode M.cc pc = .ok (.iastore, 1)) (kk : J X M R Z (pc + 1) L st (va_up h a (some (.inl (X.dA 0, len, .inl (upd g i.toNatClampNeg v))))) k n) : J X M R Z pc L (.int v :: .int i :: .ref a :: st) h k n := by
  intro p e s m args below meth c B rk H locs ls hW hS hL
  obtain ⟨ws, hP, hD, hh⟩ := id hW
  obtain ⟨q0, hq0⟩ := hh a _ ha
  exact va_iast B.1 B.2.1 B.2.2.2.2.2.2.2.1.1 hP hD hS q0 0 hq0 rfl hi hd (fun H1 locs1 hP1 hD1 hS1 => kk p e s m args below meth c B rk H1 locs1 ls (Wd.set hD hh hq0 hP1 hD1) hS1 hL)
theorem J.bast {len : Nat} {g : Nat → Int32} {i : Int32} {v : Int32} (ha : h a = some (.inl (X.dA 2, len, .inl g))) (hi : vp_in i len) (hd : decode M.cc pc = .ok (.bastore, 1)) (kk : J X M R Z (pc + 1) L st (va_up h a (some (.inl (X.dA 2, len, .inl (upd g i.toNatClampNeg (vp_nar .byte v)))))) k n) : J X M R Z pc L (.int v :: .int i :: .ref a :: st) h k n := by
  intro p e s m args below meth c B rk H locs ls hW hS hL
  obtain ⟨ws, hP, hD, hh⟩ := id hW
  obtain ⟨q0, hq0⟩ := hh a _ ha
  exact va_bast B.1 B.2.1 B.2.2.2.2.2.2.2.1.1 hP hD hS q0 2 hq0 rfl hi hd (fun H1 locs1 hP1 hD1 hS1 => kk p e s m args below meth c B rk H1 locs1 ls (Wd.set hD hh hq0 hP1 hD1) hS1 hL)
theorem J.zast {len : Nat} {g : Nat → Int32} {i : Int32} {v : Int32} (ha : h a = some (.inl (X.dA 4, len, .inl g))) (hi : vp_in i len) (hd : decode M.cc pc = .ok (.bastore, 1)) (kk : J X M R Z (pc + 1) L st (va_up h a (some (.inl (X.dA 4, len, .inl (upd g i.toNatClampNeg (vp_nar .boolean v)))))) k n) : J X M R Z pc L (.int v :: .int i :: .ref a :: st) h k n := by
  intro p e s m args below meth c B rk H locs ls hW hS hL
  obtain ⟨ws, hP, hD, hh⟩ := id hW
  obtain ⟨q0, hq0⟩ := hh a _ ha
  exact va_zast B.1 B.2.1 B.2.2.2.2.2.2.2.1.1 hP hD hS q0 4 hq0 rfl hi hd (fun H1 locs1 hP1 hD1 hS1 => kk p e s m args below meth c B rk H1 locs1 ls (Wd.set hD hh hq0 hP1 hD1) hS1 hL)
theorem J.sast {len : Nat} {g : Nat → Int32} {i : Int32} {v : Int32} (ha : h a = some (.inl (X.dA 3, len, .inl g))) (hi : vp_in i len) (hd : decode M.cc pc = .ok (.sastore, 1)) (kk : J X M R Z (pc + 1) L st (va_up h a (some (.inl (X.dA 3, len, .inl (upd g i.toNatClampNeg (vp_nar .short v)))))) k n) : J X M R Z pc L (.int v :: .int i :: .ref a :: st) h k n := by
  intro p e s m args below meth c B rk H locs ls hW hS hL
  obtain ⟨ws, hP, hD, hh⟩ := id hW
  obtain ⟨q0, hq0⟩ := hh a _ ha
  exact va_sast B.1 B.2.1 B.2.2.2.2.2.2.2.1.1 hP hD hS q0 3 hq0 rfl hi hd (fun H1 locs1 hP1 hD1 hS1 => kk p e s m args below meth c B rk H1 locs1 ls (Wd.set hD hh hq0 hP1 hD1) hS1 hL)
theorem J.last {len : Nat} {g : Nat → Int64} {i : Int32} {v : Int64} (ha : h a = some (.inl (X.dA 1, len, .inr (.inl g)))) (hi : vp_in i len) (hd : decode M.cc pc = .ok (.lastore, 1)) (kk : J X M R Z (pc + 1) L st (va_up h a (some (.inl (X.dA 1, len, .inr (.inl (vp_updL g i.toNatClampNeg v)))))) k n) : J X M R Z pc L (.long v :: .int i :: .ref a :: st) h k n := by
  intro p e s m args below meth c B rk H locs ls hW hS hL
  obtain ⟨ws, hP, hD, hh⟩ := id hW
  obtain ⟨q0, hq0⟩ := hh a _ ha
  exact va_last B.1 B.2.1 B.2.2.2.2.2.2.2.1.1 hP hD hS q0 1 hq0 rfl hi hd (fun H1 locs1 hP1 hD1 hS1 => kk p e s m args below meth c B rk H1 locs1 ls (Wd.set hD hh hq0 hP1 hD1) hS1 hL)
end Heap13
