set_option maxRecDepth 100000
/-! ===== J: what is made anew: objects, arrays ===== -/
/-- new cells may be written -/
def NewOK (X : Cx) : Prop := ∀ U, X.G U → ∀ q : Nat, U.heap.size ≤ q → X.A q
theorem Wd.push {X : Cx} {h : AH} {H1 : Heap} {ws : va_W} {q : Nat} {e : va_E} (hh : ∀ (a : Nat) (e : va_E), h a = some e → ∃ k : Nat, ws[k]? = some (a, e)) (hP1 : va_P X.D vwCl (ws ++ [(q, e)]) H1) (hD1 : va_D X.A (ws ++ [(q, e)])) : h q = none ∧ Wd X (va_up h q (some e)) H1 := by
  refine ⟨?_, ws ++ [(q, e)], hP1, hD1, fun b f hb => ?_⟩
  · cases hq : h q with
    | none => rfl
    | some e0 =>
      obtain ⟨k, hk⟩ := hh q e0 hq
      have hlt : k < ws.length := (List.getElem?_eq_some_iff.mp hk).1
      have := hD1.1 k ws.length (q, e0) (q, e) (by rw [List.getElem?_append_left hlt]; exact hk) (by simp) rfl
      omega
  · by_cases hab : b = q
    · subst hab
      rw [va_up_self] at hb
      cases hb
      exact ⟨ws.length, by simp⟩
    · rw [va_up_ne _ _ hab] at hb
      obtain ⟨k, hk⟩ := hh b f hb
      exact ⟨k, by rw [List.getElem?_append_left (List.getElem?_eq_some_iff.mp hk).1]; exact hk⟩
section New98
variable {X : Cx} {M : MD} {R : Room} {Z : ZT} {k n pc idx a : Nat} {L : List (Option Value)} {st : List Value} {h : AH}
theorem J.newa {atype : ArrayType} {ty : FieldType} {t N : Nat} {a0 : vp_A} (hN : NewOK X) (hty : newarray.typeOf atype = ty) (ht : (tysAll X)[t]? = some (X.dA t, ty)) (hra : ∀ U c, va_RA U c ty → U.vm.findClass ("[" ++ ty.toString) = some c) (harr : Cond.arrayClass (newarray.typeOf atype) ∈ lw_all) (ha : ∀ cA : ClassId, vp_cell cA a0 = arrV cA N (fun _ => defaultValue ty)) (hlt : N < 2 ^ 31) (hbytes : N * componentBytes ty ≤ 536870912) (hf : k + 1 ≤ R.cells ∧ n + N ≤ R.slots) (hd : decode M.cc pc = .ok (.newarray atype, 2))
    (kk : ∀ q, h q = none → J X M R Z (pc + 2) L (.ref q :: st) (va_up h q (some (.inl (X.dA t, a0)))) (k + 1) (n + N)) : J X M R Z pc L (.int (nI N) :: st) h k n := by
  intro p e s m args below meth c B rk H locs ls hW hS hL
  obtain ⟨ws, hP, hD, hh⟩ := id hW
  have hG := B.2.2.2.2.2.2.2.1
  refine va_newa (N' := N) (a0 := a0) B.1 B.2.1 (B.2.2.2.2.2.2.1 _ harr) hty hG.1 hP hD hS (hN s hG.2.1) ha (nI_pos hlt) (nI_clamp hlt) hbytes hf.1 hf.2 hd (fun q cA H1 hK1 hP1 hD1 hS1 => ?_)
  have e1 : cA = X.dA t := by
    have h1 := hra _ _ (hK1.2 (tysAll X).length (cA, ty) (by simp)).2
    have h2 := hra _ _ (hG.1.2 t _ ht).2
    exact Option.some.inj (h1.symm.trans h2)
  subst e1
  obtain ⟨hq, hW1⟩ := Wd.push hh hP1 hD1
  exact kk q hq p e s m args below meth c B ⟨rk.1, rk.2.1, hf.1, hf.2⟩ H1 locs ls hW1 hS1 hL
theorem J.new {C : String} {T : u_T} {N ci : Nat} {ty : Nat → FieldType} {fs : List Value} (hN : NewOK X) (hC : ClsOK C T N ty) (hc : vwCl[ci]? = some (C, T, N)) (hcl : Cond.classLink M.y.cls idx C ∈ lw_all) (hinst : Cond.instantiable C N ∈ lw_all) (hini : Cond.initialized C ∈ lw_all) (hfs : ∀ j, j < N → defaultValue (ty j) = vp_V fs j) (hf : k + 1 ≤ R.cells ∧ n + N ≤ R.slots) (hd : decode M.cc pc = .ok (.new idx, 3))
    (kk : ∀ q, h q = none → J X M R Z (pc + 3) L (.ref q :: st) (va_up h q (some (.inr (ci, fs)))) (k + 1) (n + N)) : J X M R Z pc L st h k n := by
  intro p e s m args below meth c B rk H locs ls hW hS hL
  obtain ⟨ws, hP, hD, hh⟩ := id hW
  have hG := B.2.2.2.2.2.2.2.1
  have hts := B.2.2.2.2.2.2.1
  refine va_new (T := T) (ci := ci) B.1 B.2.1 hts hC.1 ty hC.2.1 B.2.2.2.2.2.1 (hts _ hcl) (hts _ hinst) (hts _ hini) hG.1 hP hD hS (hN s hG.2.1) hc hfs hf.1 hf.2 hd (fun q H1 hP1 hD1 hS1 => ?_)
  obtain ⟨hq, hW1⟩ := Wd.push hh hP1 hD1
  exact kk q hq p e s m args below meth c B ⟨rk.1, rk.2.1, hf.1, hf.2⟩ H1 locs ls hW1 hS1 hL
theorem J.anew {C : String} {t N : Nat} (hN : NewOK X) (ht : (tysAll X)[t]? = some (X.dA t, .object C)) (hcl : Cond.classLink M.y.cls idx C ∈ lw_all) (hAO : ∀ U, X.G U → va_AO C U) (hlt : N < 2 ^ 31) (hbytes : N * 4 ≤ 536870912) (hf : k + 1 ≤ R.cells ∧ n + N ≤ R.slots) (hd : decode M.cc pc = .ok (.anewarray idx, 3))
    (kk : ∀ q, h q = none → J X M R Z (pc + 3) L (.ref q :: st) (va_up h q (some (.inl (X.dA t, N, .inr (.inr (.inr (.inr (fun _ => none)))))))) (k + 1) (n + N)) : J X M R Z pc L (.int (nI N) :: st) h k n := by
  intro p e s m args below meth c B rk H locs ls hW hS hL
  obtain ⟨ws, hP, hD, hh⟩ := id hW
  have hG := B.2.2.2.2.2.2.2.1
  have hts := B.2.2.2.2.2.2.1
  refine va_newq (N' := N) B.1 B.2.1 B.2.2.2.2.2.1 (hts _ hcl) (hAO s hG.2.1) hG.1 hP hD hS (hN s hG.2.1) (nI_pos hlt) (nI_clamp hlt) hbytes hf.1 hf.2 hd (fun q cA H1 hK1 hP1 hD1 hS1 => ?_)
  have e1 : cA = X.dA t := by
    obtain ⟨kA, comp, -, -, -, h1⟩ := (hK1.2 (tysAll X).length (cA, .object C) (by simp)).2
    obtain ⟨kA', comp', -, -, -, h2⟩ := (hG.1.2 t _ ht).2
    exact Option.some.inj (h1.symm.trans h2)
  subst e1
  obtain ⟨hq, hW1⟩ := Wd.push hh hP1 hD1
  exact kk q hq p e s m args below meth c B ⟨rk.1, rk.2.1, hf.1, hf.2⟩ H1 locs ls hW1 hS1 hL
theorem J.objInit (hl : Cond.methodLink M.y.cls idx Lib.objectInit ∈ lw_all) (hinst : Cond.instanceMethod Lib.objectInit ∈ lw_all) (hcode : Cond.code Lib.objectInit ⟨#[0xb1]⟩ 1 none ∈ lw_all) (hlv : 1 ≤ M.lv) (hst : (st.map fun v => v.category).sum ≤ 8) (hd : decode M.cc pc = .ok (.invokespecial idx, 3)) (kk : J X M R Z (pc + 3) L st h k n) : J X M R Z pc L (.ref a :: st) h k n := by
  intro p e s m args below meth c B rk H locs ls hW hS hL
  have hts := B.2.2.2.2.2.2.1
  have r1 := rk.1
  have r2 := rk.2.1
  refine W.objInit B.1 B.2.1 B.2.2.2.2.2.1 (hts _ hl) (hts _ hinst) (hts _ hcode) rfl (by rw [B.2.2.2.2.1]; exact hL.1) rfl hd (by omega) (by show 2 * 0 + _ + 12 ≤ _; omega) (kk p e s m args below meth c B rk H locs ls hW hS hL)
theorem J.alen {cA : ClassId} {x : vp_A} {t : Nat} {ty : FieldType} (ha : h a = some (.inl (cA, x))) (ht : (tysAll X)[t]? = some (cA, ty)) (hd : decode M.cc pc = .ok (.arraylength, 1)) (kk : J X M R Z (pc + 1) L (.int (nI x.1) :: st) h k n) : J X M R Z pc L (.ref a :: st) h k n := by
  intro p e s m args below meth c B rk H locs ls hW hS hL
  obtain ⟨ws, hP, hD, hh⟩ := id hW
  obtain ⟨q0, hq0⟩ := hh a _ ha
  exact va_alen B.1 B.2.1 B.2.2.2.2.2.2.2.1.1 hP q0 t hq0 ht rfl hd (kk p e s m args below meth c B rk H locs ls hW hS hL)
end New98
