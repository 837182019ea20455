set_option maxRecDepth 100000
/-! ===== J: arrays of arrays, made at once ===== -/
theorem ao_spec {args : Array Value} {s : State} {t : FieldType} (h : (Cond.arrayOver (.array t)).before args s = true) : ∃ d c k, s.vm.findClass (FieldType.array t).toString = some d ∧ s.vm.classes[c]? = some k ∧ k.kind = .array d (.array t) ∧ s.vm.findClass ("[" ++ (FieldType.array t).toString) = some c := by
  have h : (Cond.arrayOver (.array t)).holds args s none s [] = true := h
  simp only [Cond.holds, Cond.value, beq_iff_eq] at h
  cases hd : s.vm.findClass (FieldType.array t).toString with
  | none => simp [hd] at h
  | some d =>
    simp only [hd, Option.bind_some, Option.bind_eq_some_iff, Option.map_eq_some_iff] at h
    obtain ⟨c, h1, k, h2, h3⟩ := h
    obtain ⟨h4, h5, -⟩ := Array.findIdx?_eq_some_iff_getElem.mp h1
    rw [(Array.getElem?_eq_some_iff.mp h2).2] at h5
    cases hk : k.kind with
    | array d' t' =>
      rw [hk] at h3 h5
      simp at h3 h5
      exact ⟨d, c, k, rfl, h2, by rw [hk, h5, h3.1], h3.2⟩
    | _ => rw [hk] at h3; simp at h3
section Mlt
variable {X : Cx} {M : MD} {R : Room} {Z : ZT} {k n pc idx : Nat} {L : List (Option Value)} {st : List Value} {h : AH}
/-- what is there after an array of N rows is made -/
def MulQ (X : Cx) (h h' : AH) (t N : Nat) (e : va_E) (o : Nat) (q : Nat → Nat) : Prop := (h o = none ∧ ∀ j, j < N → h (q j) = none) ∧ ((∀ j, j < N → o ≠ q j) ∧ ∀ i j, i < N → j < N → q i = q j → i = j) ∧ h' o = some (rfA X t N (fun j => if j < N then some (q j) else none)) ∧ (∀ j, j < N → h' (q j) = some e) ∧ ∀ z, z ≠ o → (∀ j, j < N → z ≠ q j) → h' z = h z
theorem J.multi {t t2 N K : Nat} {ty : FieldType} {a0 : vp_A} (hN : NewOK X) (ht : (tysAll X)[t]? = some (X.dA t, .array ty)) (ht2 : (tysAll X)[t2]? = some (X.dA t2, ty)) (hra : ∀ U c, va_RA U c ty → U.vm.findClass ("[" ++ ty.toString) = some c) (hcl : Cond.classLink M.y.cls idx ("[" ++ (FieldType.array ty).toString) ∈ lw_all) (hov : ∀ U, X.G U → (Cond.arrayOver (.array ty)).before #[] U = true) (ha : ∀ cA : ClassId, vp_cell cA a0 = arrV cA K (fun _ => defaultValue ty)) (hf : fits ty (defaultValue ty) = true) (hv : (defaultValue ty).isDefault = true) (h31 : N < 1000 ∧ K < 1000) (hb : componentBytes ty ≤ 8)
    (hR : k + (1 + N) ≤ R.cells ∧ n + (N + N * K) ≤ R.slots) (hd : decode M.cc pc = .ok (.multianewarray idx 2, 4))
    (kk : ∀ o q h', MulQ X h h' t N (.inl (X.dA t2, a0)) o q → J X M R Z (pc + 4) L (.ref o :: st) h' (k + (1 + N)) (n + (N + N * K))) : J X M R Z pc L (.int (nI K) :: .int (nI N) :: st) h k n := by
  intro p e s m args below meth c B rk H locs ls hW hS hL
  obtain ⟨ws, hP, hD, hh⟩ := id hW
  have hG := B.2.2.2.2.2.2.2.1
  have hts := B.2.2.2.2.2.2.1
  obtain ⟨d, cA, kA, a1, a2, a3, a4⟩ := ao_spec (hov s hG.2.1)
  have eA : cA = X.dA t := Option.some.inj (a4.symm.trans (show s.vm.findClass ("[" ++ (FieldType.array ty).toString) = some (X.dA t) from (hG.1.2 t _ ht).2))
  have eD : d = X.dA t2 := Option.some.inj (a1.symm.trans (hra _ _ (hG.1.2 t2 _ ht2).2))
  subst eA
  subst eD
  obtain ⟨-, kr, r1, cc, r2⟩ := (hG.1.2 t2 _ ht2).1 0 (fun _ => .null)
  have cN : (nI N).toNatClampNeg = N := nI_clamp (by omega)
  have cK : (nI K).toNatClampNeg = K := nI_clamp (by omega)
  intro T hT S
  have hKb : K * componentBytes ty ≤ 536870912 := by
    have := Nat.mul_le_mul (show K ≤ 1000 by omega) hb
    omega
  obtain ⟨vm₁, S', go⟩ := mul_step (ty := ty) (n := nI N) (k := nI K) S B.1 B.2.2.2.2.2.1 (hts _ hcl) a4 a2 a3 r1 r2 (g := F0 m pc ls (.int (nI K) :: .int (nI N) :: st)) rfl (by rw [B.2.1]; exact hd) rfl (nI_pos (by omega)) (nI_pos (by omega)) (by rw [cN]; omega) (by rw [cK]; exact hKb) (by rw [cK]; omega) hf hv (by rw [cN]; exact hR.1) (by rw [cN, cK]; exact hR.2)
  rw [cN, cK] at S' go
  obtain ⟨f1, f2, -, -⟩ := mR_f (s := T.setVm vm₁) (c := X.dA t) (d := X.dA t2) (n := N) (k := K) (v := defaultValue ty) N
  have f3 := mR_in (s := T.setVm vm₁) (c := X.dA t) (d := X.dA t2) (n := N) (k := K) (v := defaultValue ty) N
  have f4 : ∀ a : Nat, a < H.size → (mR (T.setVm vm₁) (X.dA t) (X.dA t2) N K (defaultValue ty) N).heap[a]? = H[a]? := fun a ha => by
    rw [mR_old (s := T.setVm vm₁) (by show a < T.heap.size; rw [hT]; exact ha)]
    show T.heap[a]? = _
    rw [hT]
  have eT : (T.setVm vm₁).heap = H := hT
  rw [eT] at f1 f2 f3
  generalize hH1 : (mR (T.setVm vm₁) (X.dA t) (X.dA t2) N K (defaultValue ty) N).heap = H1 at f1 f2 f3 f4
  have hlt : ∀ (j : Nat) (x : Nat × va_E), ws[j]? = some x → x.1 < H.size := fun j x hx => (hP j x hx).lt
  have fresh : ∀ z, H.size ≤ z → h z = none := fun z hz => by
    cases y : h z with
    | none => rfl
    | some e0 =>
      obtain ⟨j, hj⟩ := hh z e0 y
      have := hlt j _ hj
      exact absurd hz (by show ¬ H.size ≤ z; have : z < H.size := this; omega)
  generalize hw2 : ((H.size, rfA X t N (fun j => if j < N then some (H.size + 1 + j) else none)) :: (List.range N).map (fun j => (H.size + 1 + j, (.inl (X.dA t2, a0) : va_E))) : va_W) = w2
  have w2s : ∀ j x, w2[j]? = some x → (j = 0 ∧ x = (H.size, rfA X t N (fun j => if j < N then some (H.size + 1 + j) else none))) ∨ (0 < j ∧ j ≤ N ∧ x = (H.size + j, .inl (X.dA t2, a0))) := fun j x hx => by
    rw [← hw2] at hx
    cases j with
    | zero => left; simp at hx; exact ⟨rfl, hx.symm⟩
    | succ j =>
      right
      rw [List.getElem?_cons_succ, List.getElem?_map] at hx
      by_cases y : j < N
      · rw [List.getElem?_range y] at hx
        simp at hx
        exact ⟨by omega, by omega, by rw [← hx, show H.size + 1 + j = H.size + (j + 1) by omega]⟩
      · rw [List.getElem?_eq_none (by simpa using y)] at hx
        cases hx
  have hA : ∀ z, H.size ≤ z → X.A z := fun z hz => hN s hG.2.1 z (Nat.le_trans hS.1 hz)
  have hP1 : va_P X.D vwCl (ws ++ w2) H1 := by
    refine (hP.kept (fun j x hx => f4 _ (hlt j x hx))).app (fun j x hx => ?_)
    rcases w2s j x hx with ⟨-, rfl⟩ | ⟨y1, y2, rfl⟩
    · show H1[H.size]? = some (vp_cell _ _)
      rw [vp_cell_q, f2]
      refine congrArg some (congrArg (arrV (X.dA t) N) (funext fun j => ?_))
      by_cases y : j < N
      · rw [if_pos y, if_pos y]; rfl
      · rw [if_neg y, if_neg y]; rfl
    · show H1[H.size + j]? = some (vp_cell _ _)
      rw [ha, show H.size + j = H.size + 1 + (j - 1) by omega, f3 (j - 1) (by omega)]
  have hD1 : va_D X.A (ws ++ w2) := by
    refine hD.app ⟨fun i j x y hx hy hxy => ?_, fun j x hx => ?_⟩ (fun i j x y hx hy hxy => ?_)
    · rcases w2s i x hx with ⟨x1, rfl⟩ | ⟨x1, x2, rfl⟩ <;> rcases w2s j y hy with ⟨y1, rfl⟩ | ⟨y1, y2, rfl⟩ <;> dsimp only at hxy <;> omega
    · rcases w2s j x hx with ⟨-, rfl⟩ | ⟨y1, y2, rfl⟩
      · exact hA _ (Nat.le_refl _)
      · exact hA _ (by show H.size ≤ H.size + j; omega)
    · have := hlt i x hx
      rcases w2s j y hy with ⟨-, rfl⟩ | ⟨y1, y2, rfl⟩ <;> dsimp only at hxy <;> omega
  generalize hh' : (fun z => if z < H.size then h z else if z = H.size then some (rfA X t N (fun j => if j < N then some (H.size + 1 + j) else none)) else if z < H.size + 1 + N then some (.inl (X.dA t2, a0) : va_E) else none : AH) = h'
  have hW1 : Wd X h' H1 := by
    refine ⟨ws ++ w2, hP1, hD1, fun z e0 hz => ?_⟩
    rw [← hh'] at hz
    dsimp only at hz
    by_cases y1 : z < H.size
    · rw [if_pos y1] at hz
      obtain ⟨j, hj⟩ := hh z e0 hz
      exact ⟨j, by rw [List.getElem?_append_left (List.getElem?_eq_some_iff.mp hj).1]; exact hj⟩
    · rw [if_neg y1] at hz
      by_cases y2 : z = H.size
      · rw [if_pos y2] at hz
        refine ⟨ws.length, ?_⟩
        rw [List.getElem?_append_right (Nat.le_refl _), Nat.sub_self, ← hw2, List.getElem?_cons_zero, y2]
        cases hz
        rfl
      · rw [if_neg y2] at hz
        by_cases y3 : z < H.size + 1 + N
        · rw [if_pos y3] at hz
          refine ⟨ws.length + (z - H.size), ?_⟩
          rw [List.getElem?_append_right (by omega), Nat.add_sub_cancel_left, ← hw2, show z - H.size = (z - H.size - 1) + 1 by omega, List.getElem?_cons_succ, List.getElem?_map, List.getElem?_range (by omega)]
          rw [Option.map_some, show H.size + 1 + (z - H.size - 1) = z by omega]
          cases hz
          rfl
        · rw [if_neg y3] at hz; cases hz
  have hS1 : va_S X.A s.heap H1 locs := ⟨Nat.le_trans hS.1 (by rw [f1]; omega), fun z y1 y2 => (f4 z (Nat.lt_of_lt_of_le y1 hS.1)).trans (hS.2.1 z y1 y2), hS.2.2⟩
  have mq : MulQ X h h' t N (.inl (X.dA t2, a0)) H.size (fun j => H.size + 1 + j) := by
    refine ⟨⟨fresh _ (Nat.le_refl _), fun j _ => fresh _ (by show H.size ≤ H.size + 1 + j; omega)⟩, ⟨fun j _ y => by dsimp only at y; omega, fun i j _ _ y => by dsimp only at y; omega⟩, ?_, fun j hj => ?_, fun z y1 y2 => ?_⟩
    · rw [← hh']; dsimp only; rw [if_neg (by omega), if_pos rfl]
    · rw [← hh']; dsimp only; rw [if_neg (by omega), if_neg (by omega), if_pos (by omega)]
    · rw [← hh']
      dsimp only
      by_cases y3 : z < H.size
      · rw [if_pos y3]
      · rw [if_neg y3, if_neg y1, if_neg (fun y4 => y2 (z - H.size - 1) (by omega) (by show z = H.size + 1 + (z - H.size - 1); omega)), fresh z (by omega)]
  obtain ⟨t2', g1, g2⟩ := kk _ _ h' mq p e s m args below meth c B ⟨rk.1, rk.2.1, hR.1, hR.2⟩ H1 locs ls hW1 hS1 hL _ hH1 (S'.more (by omega) (by omega))
  refine ⟨t2', go t2' ?_, g2⟩
  rw [hT]
  exact g1
end Mlt
