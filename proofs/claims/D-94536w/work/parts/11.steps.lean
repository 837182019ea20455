set_option maxRecDepth 100000
/-! ===== steps of J, one an opcode; blocks: a run of such steps, computed ===== -/
theorem LV.of1 {ls' : Array Slot} {nL i : Nat} {L : List (Option Value)} {v : Value} (h : lv_has ls' nL ((i, v) :: (lpairs L).filter (fun q => !(q.1 == i) && !(q.1 + 1 == i && q.2.category == 2)))) : LV ls' nL (lset1 L i v) := by
  obtain ⟨a, b, c⟩ := h
  refine ⟨a, b, fun j w hj => ?_⟩
  refine c (j, w) ?_
  rcases lset1_spec L i v j w hj with ⟨e1, e2⟩ | ⟨e1, e2, e3⟩
  · subst e1; subst e2; exact List.mem_cons_self
  · refine List.mem_cons_of_mem _ (List.mem_filter.mpr ⟨mem_lpairs.mpr e2, ?_⟩)
    simp only [Bool.and_eq_true, Bool.not_eq_true', beq_eq_false_iff_ne, ne_eq, Bool.and_eq_false_iff]
    refine ⟨e1, ?_⟩
    by_cases q : j + 1 = i
    · exact Or.inr (fun q2 => e3 ⟨q, q2⟩)
    · exact Or.inl q
theorem LV.of2 {ls' : Array Slot} {nL i : Nat} {L : List (Option Value)} {v : Value} (h : lv_has ls' nL ((i, v) :: (lpairs L).filter (fun q => !(q.1 == i) && (!(q.1 == i + 1) && !(q.1 + 1 == i && q.2.category == 2))))) : LV ls' nL (lset2 L i v) := by
  obtain ⟨a, b, c⟩ := h
  refine ⟨a, b, fun j w hj => ?_⟩
  refine c (j, w) ?_
  rcases lset2_spec L i v j w hj with ⟨e1, e2⟩ | ⟨e1, e0, e2, e3⟩
  · subst e1; subst e2; exact List.mem_cons_self
  · refine List.mem_cons_of_mem _ (List.mem_filter.mpr ⟨mem_lpairs.mpr e2, ?_⟩)
    simp only [Bool.and_eq_true, Bool.not_eq_true', beq_eq_false_iff_ne, ne_eq, Bool.and_eq_false_iff]
    refine ⟨e1, e0, ?_⟩
    by_cases q : j + 1 = i
    · exact Or.inr (fun q2 => e3 ⟨q, q2⟩)
    · exact Or.inl q
/-- a judgement over pictures: x stands for every abstract heap that has its picture -/
def JS {σ : Type} (Pic : Cx → σ → AH → Prop) (X : Cx) (M : MD) (R : Room) (Z : ZT) (k n : Nat) (pc : Nat) (L : List (Option Value)) (st : List Value) (x : σ) : Prop := ∀ h, Pic X x h → J X M R Z pc L st h k n
abbrev LSt (σ : Type) : Type := List (Option Value) × List Value × σ
abbrev OPS (σ : Type) : Type := (LSt σ → Option (LSt σ)) ⊕ (LSt σ → Option (Prop × LSt σ))
def runO {σ : Type} : List (OPS σ) → LSt σ → Option (Prop × LSt σ)
  | [], s => some (True, s)
  | .inl f :: fs, s => match f s with
    | some s' => runO fs s'
    | none => none
  | .inr f :: fs, s => match f s with
    | some (c, s') => match runO fs s' with
      | some (cs, s'') => some (c ∧ cs, s'')
      | none => none
    | none => none
def JStp {σ : Type} (Pic : Cx → σ → AH → Prop) (M : MD) (pc pc' : Nat) (f : OPS σ) : Prop := match f with
  | .inl f => ∀ X R Z k n L st x L' st' x', f (L, st, x) = some (L', st', x') → JS Pic X M R Z k n pc' L' st' x' → JS Pic X M R Z k n pc L st x
  | .inr f => ∀ X R Z k n L st x c L' st' x', f (L, st, x) = some (c, L', st', x') → c → JS Pic X M R Z k n pc' L' st' x' → JS Pic X M R Z k n pc L st x
def Blk {σ : Type} (Pic : Cx → σ → AH → Prop) (M : MD) (pc pc' : Nat) (ops : List (OPS σ)) : Prop :=
  ∀ X R Z k n L st x P L' st' x', runO ops (L, st, x) = some (P, L', st', x') → P → JS Pic X M R Z k n pc' L' st' x' → JS Pic X M R Z k n pc L st x
theorem blk_nil {σ : Type} {Pic : Cx → σ → AH → Prop} {M : MD} {pc : Nat} : Blk Pic M pc pc [] := by
  intro X R Z k n L st x P L' st' x' h _ kk
  simp only [runO, Option.some.injEq, Prod.mk.injEq] at h
  obtain ⟨-, rfl, rfl, rfl⟩ := h
  exact kk
theorem blk_c {σ : Type} {Pic : Cx → σ → AH → Prop} {M : MD} {pc pc1 pc' : Nat} {f : OPS σ} {ops : List (OPS σ)} (s : JStp Pic M pc pc1 f) (k : Blk Pic M pc1 pc' ops) : Blk Pic M pc pc' (f :: ops) := by
  intro X R Z kk n L st x P L' st' x' h hP K
  cases f with
  | inl f =>
    simp only [runO] at h
    split at h
    · rename_i s' hs
      obtain ⟨L1, st1, x1⟩ := s'
      exact s X R Z kk n L st x L1 st1 x1 hs (k X R Z kk n L1 st1 x1 P L' st' x' h hP K)
    · cases h
  | inr f =>
    simp only [runO] at h
    split at h
    · rename_i c s' hs
      obtain ⟨L1, st1, x1⟩ := s'
      split at h
      · rename_i cs s'' hr
        simp only [Option.some.injEq, Prod.mk.injEq] at h
        obtain ⟨e1, e2⟩ := h
        subst e1; subst e2
        exact s X R Z kk n L st x c L1 st1 x1 hs hP.1 (k X R Z kk n L1 st1 x1 cs L' st' x' hr hP.2 K)
      · cases h
    · cases h
/-- use of a block -/
theorem Blk.go {σ : Type} {Pic : Cx → σ → AH → Prop} {M : MD} {pc pc' : Nat} {ops : List (OPS σ)} (b : Blk Pic M pc pc' ops) {X : Cx} {R : Room} {Z : ZT} {k n : Nat} {L : List (Option Value)} {st : List Value} {x : σ} {P : Prop} {L' : List (Option Value)} {st' : List Value} {x' : σ} (h : runO ops (L, st, x) = some (P, L', st', x')) (hP : P) (kk : JS Pic X M R Z k n pc' L' st' x') : JS Pic X M R Z k n pc L st x := b X R Z k n L st x P L' st' x' h hP kk
/-- fewer known locals -/
theorem JS.weak {σ : Type} {Pic : Cx → σ → AH → Prop} {X : Cx} {M : MD} {R : Room} {Z : ZT} {k n pc : Nat} {L L' : List (Option Value)} {st : List Value} {x : σ} (hs : lsub L' L) (kk : JS Pic X M R Z k n pc L' st x) : JS Pic X M R Z k n pc L st x :=
  fun h hp p e s m args below meth c B rk H locs ls hW hS hL => kk h hp p e s m args below meth c B rk H locs ls hW hS (hL.weak (lsub_spec L' L hs))
/-- the same stores, computed at once -/
def lset1K {β : Type} : List (Option Value) → Nat → Value → (List (Option Value) → β) → β
  | [], _, _, k => k []
  | _ :: L, 0, v, k => k (some v :: L)
  | x :: L, 1, v, k => match x with
    | some (.long _) => lset1K L 0 v (fun L1 => k (none :: L1))
    | some (.double _) => lset1K L 0 v (fun L1 => k (none :: L1))
    | y => lset1K L 0 v (fun L1 => k (y :: L1))
  | x :: L, i + 2, v, k => lset1K L (i + 1) v (fun L1 => k (x :: L1))
theorem lset1K_eq {β : Type} : ∀ (L : List (Option Value)) (i : Nat) (v : Value) (k : List (Option Value) → β), lset1K L i v k = k (lset1 L i v) := by
  intro L
  induction L with
  | nil => intro i v k; cases i <;> rfl
  | cons x L ih =>
    intro i v k
    match i with
    | 0 => rfl
    | 1 =>
      simp only [lset1K, lset1]
      split <;> simp_all
    | i + 2 => simp only [lset1K, lset1, ih]
def lsetN {β : Type} : List (Option Value) → Nat → (List (Option Value) → β) → β
  | [], _, k => k []
  | _ :: L, 0, k => k (none :: L)
  | x :: L, i + 1, k => lsetN L i (fun L1 => k (x :: L1))
theorem lsetN_eq {β : Type} : ∀ (L : List (Option Value)) (i : Nat) (k : List (Option Value) → β), lsetN L i k = k (L.set i none) := by
  intro L
  induction L with
  | nil => intro i k; cases i <;> rfl
  | cons x L ih =>
    intro i k
    cases i with
    | zero => rfl
    | succ i => simp only [lsetN, ih, List.set_cons_succ]
def lset2K {β : Type} (L : List (Option Value)) (i : Nat) (v : Value) (k : List (Option Value) → β) : β := lset1K L i v (fun L1 => lsetN L1 (i + 1) k)
theorem lset2K_eq {β : Type} (L : List (Option Value)) (i : Nat) (v : Value) (k : List (Option Value) → β) : lset2K L i v k = k (lset2 L i v) := by simp only [lset2K, lset1K_eq, lsetN_eq, lset2]
section Steps
variable {σ : Type} {Pic : Cx → σ → AH → Prop} {M : MD} {pc : Nat}
def oC (v : Int32) : OPS σ := .inl (fun s => match s with
  | (L, st, x) => some (L, .int v :: st, x))
def oCL (v : Int64) : OPS σ := .inl (fun s => match s with
  | (L, st, x) => some (L, .long v :: st, x))
def oN  : OPS σ := .inl (fun s => match s with
  | (L, st, x) => some (L, .null :: st, x))
theorem s_iconst {n : Int} {v : Int32} (hd : decode M.cc pc = .ok (.iconst n, 1)) (hv : Int32.ofInt n = v) : JStp Pic M pc (pc + 1) (oC v) := by
  intro X R Z k n L st x L' st' x' hf kk h hp p e s m args below meth c B rk H locs ls hW hS hL
  simp only [Option.some.injEq, Prod.mk.injEq] at hf
  obtain ⟨rfl, rfl, rfl⟩ := hf
  exact lv_iconst B.1 B.2.1 hd hv (kk h hp p e s m args below meth c B rk H locs ls hW hS hL)
theorem s_bipush {n : Int} {v : Int32} (hd : decode M.cc pc = .ok (.bipush n, 2)) (hv : (Int8.ofInt n).toInt32 = v) : JStp Pic M pc (pc + 2) (oC v) := by
  intro X R Z k n L st x L' st' x' hf kk h hp p e s m args below meth c B rk H locs ls hW hS hL
  simp only [Option.some.injEq, Prod.mk.injEq] at hf
  obtain ⟨rfl, rfl, rfl⟩ := hf
  exact lv_bipush B.1 B.2.1 hd hv (kk h hp p e s m args below meth c B rk H locs ls hW hS hL)
theorem s_sipush {n : Int} {v : Int32} (hd : decode M.cc pc = .ok (.sipush n, 3)) (hv : (Int16.ofInt n).toInt32 = v) : JStp Pic M pc (pc + 3) (oC v) := by
  intro X R Z k n L st x L' st' x' hf kk h hp p e s m args below meth c B rk H locs ls hW hS hL
  simp only [Option.some.injEq, Prod.mk.injEq] at hf
  obtain ⟨rfl, rfl, rfl⟩ := hf
  exact lv_sipush B.1 B.2.1 hd hv (kk h hp p e s m args below meth c B rk H locs ls hW hS hL)
theorem s_lconst {n : Fin 2} {v : Int64} (hd : decode M.cc pc = .ok (.lconst n, 1)) (hv : Int64.ofNat (n : Nat) = v) : JStp Pic M pc (pc + 1) (oCL v) := by
  intro X R Z k n L st x L' st' x' hf kk h hp p e s m args below meth c B rk H locs ls hW hS hL
  simp only [Option.some.injEq, Prod.mk.injEq] at hf
  obtain ⟨rfl, rfl, rfl⟩ := hf
  exact lv_lconst B.1 B.2.1 hd hv (kk h hp p e s m args below meth c B rk H locs ls hW hS hL)
theorem s_null  (hd : decode M.cc pc = .ok (.aconst_null, 1)) : JStp Pic M pc (pc + 1) oN := by
  intro X R Z k n L st x L' st' x' hf kk h hp p e s m args below meth c B rk H locs ls hW hS hL
  simp only [Option.some.injEq, Prod.mk.injEq] at hf
  obtain ⟨rfl, rfl, rfl⟩ := hf
  exact lv_null B.1 B.2.1 hd (kk h hp p e s m args below meth c B rk H locs ls hW hS hL)
theorem s_ldc {i : Nat} {v : Int32} (hd : decode M.cc pc = .ok (.ldc i, 2)) (hw : Cond.constant M.y.cls i v ∈ lw_all) : JStp Pic M pc (pc + 2) (oC v) := by
  intro X R Z k n L st x L' st' x' hf kk h hp p e s m args below meth c B rk H locs ls hW hS hL
  simp only [Option.some.injEq, Prod.mk.injEq] at hf
  obtain ⟨rfl, rfl, rfl⟩ := hf
  exact lv_ldc B.1 B.2.1 B.2.2.2.2.2.1 (B.2.2.2.2.2.2.1 _ hw) hd (kk h hp p e s m args below meth c B rk H locs ls hW hS hL)
theorem s_ldc2 {i : Nat} {v : Int64} (hd : decode M.cc pc = .ok (.ldc2_w i, 3)) (hw : Cond.constantLong M.y.cls i v ∈ lw_all) : JStp Pic M pc (pc + 3) (oCL v) := by
  intro X R Z k n L st x L' st' x' hf kk h hp p e s m args below meth c B rk H locs ls hW hS hL
  simp only [Option.some.injEq, Prod.mk.injEq] at hf
  obtain ⟨rfl, rfl, rfl⟩ := hf
  exact lv_ldc2 B.1 B.2.1 B.2.2.2.2.2.1 (B.2.2.2.2.2.2.1 _ hw) hd (kk h hp p e s m args below meth c B rk H locs ls hW hS hL)
def oIL (i : Nat) : OPS σ := .inl (fun s => match s with
  | (L, st, x) => match L[i]? with
    | some (some (.int v)) => some (L, .int v :: st, x)
    | _ => none)
theorem s_iload_n {j : Fin 4} {i : Nat} (hd : decode M.cc pc = .ok (.iload_n j, 1)) (hj : (j : Nat) = i) : JStp Pic M pc (pc + 1) (oIL i) := by
  intro X R Z k n L st x L' st' x' hf kk h hp p e s m args below meth c B rk H locs ls hW hS hL
  dsimp only at hf
  split at hf
  · rename_i v hv
    simp only [Option.some.injEq, Prod.mk.injEq] at hf
    obtain ⟨rfl, rfl, rfl⟩ := hf
    exact lv_iload_n B.1 B.2.1 hd hj (hL.2.2 _ _ hv) (kk h hp p e s m args below meth c B rk H locs ls hW hS hL)
  · cases hf
theorem s_iload {i : Nat} (hd : decode M.cc pc = .ok (.iload i, 2)) : JStp Pic M pc (pc + 2) (oIL i) := by
  intro X R Z k n L st x L' st' x' hf kk h hp p e s m args below meth c B rk H locs ls hW hS hL
  dsimp only at hf
  split at hf
  · rename_i v hv
    simp only [Option.some.injEq, Prod.mk.injEq] at hf
    obtain ⟨rfl, rfl, rfl⟩ := hf
    exact lv_iload B.1 B.2.1 hd (hL.2.2 _ _ hv) (kk h hp p e s m args below meth c B rk H locs ls hW hS hL)
  · cases hf
def oLL (i : Nat) : OPS σ := .inl (fun s => match s with
  | (L, st, x) => match L[i]? with
    | some (some (.long v)) => some (L, .long v :: st, x)
    | _ => none)
theorem s_lload_n {j : Fin 4} {i : Nat} (hd : decode M.cc pc = .ok (.lload_n j, 1)) (hj : (j : Nat) = i) : JStp Pic M pc (pc + 1) (oLL i) := by
  intro X R Z k n L st x L' st' x' hf kk h hp p e s m args below meth c B rk H locs ls hW hS hL
  dsimp only at hf
  split at hf
  · rename_i v hv
    simp only [Option.some.injEq, Prod.mk.injEq] at hf
    obtain ⟨rfl, rfl, rfl⟩ := hf
    exact lv_lload_n B.1 B.2.1 hd hj (hL.2.2 _ _ hv) (kk h hp p e s m args below meth c B rk H locs ls hW hS hL)
  · cases hf
theorem s_lload {i : Nat} (hd : decode M.cc pc = .ok (.lload i, 2)) : JStp Pic M pc (pc + 2) (oLL i) := by
  intro X R Z k n L st x L' st' x' hf kk h hp p e s m args below meth c B rk H locs ls hW hS hL
  dsimp only at hf
  split at hf
  · rename_i v hv
    simp only [Option.some.injEq, Prod.mk.injEq] at hf
    obtain ⟨rfl, rfl, rfl⟩ := hf
    exact lv_lload B.1 B.2.1 hd (hL.2.2 _ _ hv) (kk h hp p e s m args below meth c B rk H locs ls hW hS hL)
  · cases hf
def oAL (i : Nat) : OPS σ := .inl (fun s => match s with
  | (L, st, x) => match L[i]? with
    | some (some (.ref v)) => some (L, .ref v :: st, x)
    | _ => none)
theorem s_aload_n {j : Fin 4} {i : Nat} (hd : decode M.cc pc = .ok (.aload_n j, 1)) (hj : (j : Nat) = i) : JStp Pic M pc (pc + 1) (oAL i) := by
  intro X R Z k n L st x L' st' x' hf kk h hp p e s m args below meth c B rk H locs ls hW hS hL
  dsimp only at hf
  split at hf
  · rename_i v hv
    simp only [Option.some.injEq, Prod.mk.injEq] at hf
    obtain ⟨rfl, rfl, rfl⟩ := hf
    exact lv_aload_n B.1 B.2.1 hd hj (hL.2.2 _ _ hv) (kk h hp p e s m args below meth c B rk H locs ls hW hS hL)
  · cases hf
theorem s_aload {i : Nat} (hd : decode M.cc pc = .ok (.aload i, 2)) : JStp Pic M pc (pc + 2) (oAL i) := by
  intro X R Z k n L st x L' st' x' hf kk h hp p e s m args below meth c B rk H locs ls hW hS hL
  dsimp only at hf
  split at hf
  · rename_i v hv
    simp only [Option.some.injEq, Prod.mk.injEq] at hf
    obtain ⟨rfl, rfl, rfl⟩ := hf
    exact lv_aload B.1 B.2.1 hd (hL.2.2 _ _ hv) (kk h hp p e s m args below meth c B rk H locs ls hW hS hL)
  · cases hf
def oIS (i : Nat) : OPS σ := .inl (fun s => match s with
  | (L, .int v :: st, x) => lset1K L i (.int v) (fun L1 => some (L1, st, x))
  | _ => none)
theorem s_istore_n {j : Fin 4} {i : Nat} (hd : decode M.cc pc = .ok (.istore_n j, 1)) (hj : (j : Nat) = i) (hn : i < M.nL) : JStp Pic M pc (pc + 1) (oIS i) := by
  intro X R Z k n L st x L' st' x' hf kk h hp p e s m args below meth c B rk H locs ls hW hS hL
  dsimp only at hf
  split at hf
  · rename_i heq
    cases heq
    simp only [lset1K_eq, Option.some.injEq, Prod.mk.injEq] at hf
    obtain ⟨rfl, rfl, rfl⟩ := hf
    exact lv_istore_n B.1 B.2.1 hd hj hL.has hn rfl (fun ls' hl' => kk h hp p e s m args below meth c B rk H locs ls' hW hS (LV.of1 hl'))
  · cases hf
theorem s_istore {i : Nat} (hd : decode M.cc pc = .ok (.istore i, 2)) (hn : i < M.nL) : JStp Pic M pc (pc + 2) (oIS i) := by
  intro X R Z k n L st x L' st' x' hf kk h hp p e s m args below meth c B rk H locs ls hW hS hL
  dsimp only at hf
  split at hf
  · rename_i heq
    cases heq
    simp only [lset1K_eq, Option.some.injEq, Prod.mk.injEq] at hf
    obtain ⟨rfl, rfl, rfl⟩ := hf
    exact lv_istore B.1 B.2.1 hd hL.has hn rfl (fun ls' hl' => kk h hp p e s m args below meth c B rk H locs ls' hW hS (LV.of1 hl'))
  · cases hf
def oLS (i : Nat) : OPS σ := .inl (fun s => match s with
  | (L, .long v :: st, x) => lset2K L i (.long v) (fun L1 => some (L1, st, x))
  | _ => none)
theorem s_lstore_n {j : Fin 4} {i : Nat} (hd : decode M.cc pc = .ok (.lstore_n j, 1)) (hj : (j : Nat) = i) (hn : i + 1 < M.nL) : JStp Pic M pc (pc + 1) (oLS i) := by
  intro X R Z k n L st x L' st' x' hf kk h hp p e s m args below meth c B rk H locs ls hW hS hL
  dsimp only at hf
  split at hf
  · rename_i heq
    cases heq
    simp only [lset2K_eq, Option.some.injEq, Prod.mk.injEq] at hf
    obtain ⟨rfl, rfl, rfl⟩ := hf
    exact lv_lstore_n B.1 B.2.1 hd hj hL.has hn rfl (fun ls' hl' => kk h hp p e s m args below meth c B rk H locs ls' hW hS (LV.of2 hl'))
  · cases hf
theorem s_lstore {i : Nat} (hd : decode M.cc pc = .ok (.lstore i, 2)) (hn : i + 1 < M.nL) : JStp Pic M pc (pc + 2) (oLS i) := by
  intro X R Z k n L st x L' st' x' hf kk h hp p e s m args below meth c B rk H locs ls hW hS hL
  dsimp only at hf
  split at hf
  · rename_i heq
    cases heq
    simp only [lset2K_eq, Option.some.injEq, Prod.mk.injEq] at hf
    obtain ⟨rfl, rfl, rfl⟩ := hf
    exact lv_lstore B.1 B.2.1 hd hL.has hn rfl (fun ls' hl' => kk h hp p e s m args below meth c B rk H locs ls' hW hS (LV.of2 hl'))
  · cases hf
def oAS (i : Nat) : OPS σ := .inl (fun s => match s with
  | (L, .ref v :: st, x) => lset1K L i (.ref v) (fun L1 => some (L1, st, x))
  | _ => none)
theorem s_astore_n {j : Fin 4} {i : Nat} (hd : decode M.cc pc = .ok (.astore_n j, 1)) (hj : (j : Nat) = i) (hn : i < M.nL) : JStp Pic M pc (pc + 1) (oAS i) := by
  intro X R Z k n L st x L' st' x' hf kk h hp p e s m args below meth c B rk H locs ls hW hS hL
  dsimp only at hf
  split at hf
  · rename_i heq
    cases heq
    simp only [lset1K_eq, Option.some.injEq, Prod.mk.injEq] at hf
    obtain ⟨rfl, rfl, rfl⟩ := hf
    exact lv_astore_n B.1 B.2.1 hd hj hL.has hn rfl (fun ls' hl' => kk h hp p e s m args below meth c B rk H locs ls' hW hS (LV.of1 hl'))
  · cases hf
theorem s_astore {i : Nat} (hd : decode M.cc pc = .ok (.astore i, 2)) (hn : i < M.nL) : JStp Pic M pc (pc + 2) (oAS i) := by
  intro X R Z k n L st x L' st' x' hf kk h hp p e s m args below meth c B rk H locs ls hW hS hL
  dsimp only at hf
  split at hf
  · rename_i heq
    cases heq
    simp only [lset1K_eq, Option.some.injEq, Prod.mk.injEq] at hf
    obtain ⟨rfl, rfl, rfl⟩ := hf
    exact lv_astore B.1 B.2.1 hd hL.has hn rfl (fun ls' hl' => kk h hp p e s m args below meth c B rk H locs ls' hW hS (LV.of1 hl'))
  · cases hf
def oInc (i : Nat) (d : Int32) : OPS σ := .inl (fun s => match s with
  | (L, st, x) => match L[i]? with
    | some (some (.int v)) => lset1K L i (.int (v + d)) (fun L1 => some (L1, st, x))
    | _ => none)
theorem s_iinc {i : Nat} {n : Int} {d : Int32} (hd : decode M.cc pc = .ok (.iinc i n, 3)) (hv : Int32.ofInt n = d) (hn : i < M.nL) : JStp Pic M pc (pc + 3) (oInc i d) := by
  intro X R Z k n L st x L' st' x' hf kk h hp p e s m args below meth c B rk H locs ls hW hS hL
  dsimp only at hf
  split at hf
  · rename_i v hg
    simp only [lset1K_eq, Option.some.injEq, Prod.mk.injEq] at hf
    obtain ⟨rfl, rfl, rfl⟩ := hf
    obtain ⟨q, hq⟩ := List.getElem?_of_mem (mem_lpairs.mpr hg)
    exact lv_iinc B.1 B.2.1 hd hL.has hq (by rw [hv]) hn rfl (fun ls' hl' => kk h hp p e s m args below meth c B rk H locs ls' hW hS (LV.of1 hl'))
  · cases hf
def oAdd : OPS σ := .inl (fun s => match s with
  | (L, .int y :: .int x :: st, z) => some (L, .int (x + y) :: st, z)
  | _ => none)
theorem s_iadd (hd : decode M.cc pc = .ok (.iadd, 1)) : JStp Pic M pc (pc + 1) oAdd := by
  intro X R Z k n L st x L' st' x' hf kk h hp p e s m args below meth c B rk H locs ls hW hS hL
  dsimp only at hf
  split at hf
  · rename_i heq
    cases heq
    simp only [Option.some.injEq, Prod.mk.injEq] at hf
    obtain ⟨rfl, rfl, rfl⟩ := hf
    exact lv_iadd B.1 B.2.1 hd (kk h hp p e s m args below meth c B rk H locs ls hW hS hL)
  · cases hf
def oSub : OPS σ := .inl (fun s => match s with
  | (L, .int y :: .int x :: st, z) => some (L, .int (x - y) :: st, z)
  | _ => none)
theorem s_isub (hd : decode M.cc pc = .ok (.isub, 1)) : JStp Pic M pc (pc + 1) oSub := by
  intro X R Z k n L st x L' st' x' hf kk h hp p e s m args below meth c B rk H locs ls hW hS hL
  dsimp only at hf
  split at hf
  · rename_i heq
    cases heq
    simp only [Option.some.injEq, Prod.mk.injEq] at hf
    obtain ⟨rfl, rfl, rfl⟩ := hf
    exact lv_isub B.1 B.2.1 hd (kk h hp p e s m args below meth c B rk H locs ls hW hS hL)
  · cases hf
def oMul : OPS σ := .inl (fun s => match s with
  | (L, .int y :: .int x :: st, z) => some (L, .int (x * y) :: st, z)
  | _ => none)
theorem s_imul (hd : decode M.cc pc = .ok (.imul, 1)) : JStp Pic M pc (pc + 1) oMul := by
  intro X R Z k n L st x L' st' x' hf kk h hp p e s m args below meth c B rk H locs ls hW hS hL
  dsimp only at hf
  split at hf
  · rename_i heq
    cases heq
    simp only [Option.some.injEq, Prod.mk.injEq] at hf
    obtain ⟨rfl, rfl, rfl⟩ := hf
    exact lv_imul B.1 B.2.1 hd (kk h hp p e s m args below meth c B rk H locs ls hW hS hL)
  · cases hf
def oAnd : OPS σ := .inl (fun s => match s with
  | (L, .int y :: .int x :: st, z) => some (L, .int (x &&& y) :: st, z)
  | _ => none)
theorem s_iand (hd : decode M.cc pc = .ok (.iand, 1)) : JStp Pic M pc (pc + 1) oAnd := by
  intro X R Z k n L st x L' st' x' hf kk h hp p e s m args below meth c B rk H locs ls hW hS hL
  dsimp only at hf
  split at hf
  · rename_i heq
    cases heq
    simp only [Option.some.injEq, Prod.mk.injEq] at hf
    obtain ⟨rfl, rfl, rfl⟩ := hf
    exact lv_iand B.1 B.2.1 hd (kk h hp p e s m args below meth c B rk H locs ls hW hS hL)
  · cases hf
def oOr : OPS σ := .inl (fun s => match s with
  | (L, .int y :: .int x :: st, z) => some (L, .int (x ||| y) :: st, z)
  | _ => none)
theorem s_ior (hd : decode M.cc pc = .ok (.ior, 1)) : JStp Pic M pc (pc + 1) oOr := by
  intro X R Z k n L st x L' st' x' hf kk h hp p e s m args below meth c B rk H locs ls hW hS hL
  dsimp only at hf
  split at hf
  · rename_i heq
    cases heq
    simp only [Option.some.injEq, Prod.mk.injEq] at hf
    obtain ⟨rfl, rfl, rfl⟩ := hf
    exact lv_ior B.1 B.2.1 hd (kk h hp p e s m args below meth c B rk H locs ls hW hS hL)
  · cases hf
def oXor : OPS σ := .inl (fun s => match s with
  | (L, .int y :: .int x :: st, z) => some (L, .int (x ^^^ y) :: st, z)
  | _ => none)
theorem s_ixor (hd : decode M.cc pc = .ok (.ixor, 1)) : JStp Pic M pc (pc + 1) oXor := by
  intro X R Z k n L st x L' st' x' hf kk h hp p e s m args below meth c B rk H locs ls hW hS hL
  dsimp only at hf
  split at hf
  · rename_i heq
    cases heq
    simp only [Option.some.injEq, Prod.mk.injEq] at hf
    obtain ⟨rfl, rfl, rfl⟩ := hf
    exact lv_ixor B.1 B.2.1 hd (kk h hp p e s m args below meth c B rk H locs ls hW hS hL)
  · cases hf
def oShl : OPS σ := .inl (fun s => match s with
  | (L, .int y :: .int x :: st, z) => some (L, .int (x <<< (y &&& 31)) :: st, z)
  | _ => none)
theorem s_ishl (hd : decode M.cc pc = .ok (.ishl, 1)) : JStp Pic M pc (pc + 1) oShl := by
  intro X R Z k n L st x L' st' x' hf kk h hp p e s m args below meth c B rk H locs ls hW hS hL
  dsimp only at hf
  split at hf
  · rename_i heq
    cases heq
    simp only [Option.some.injEq, Prod.mk.injEq] at hf
    obtain ⟨rfl, rfl, rfl⟩ := hf
    exact lv_ishl B.1 B.2.1 hd (kk h hp p e s m args below meth c B rk H locs ls hW hS hL)
  · cases hf
def oShr : OPS σ := .inl (fun s => match s with
  | (L, .int y :: .int x :: st, z) => some (L, .int (x >>> (y &&& 31)) :: st, z)
  | _ => none)
theorem s_ishr (hd : decode M.cc pc = .ok (.ishr, 1)) : JStp Pic M pc (pc + 1) oShr := by
  intro X R Z k n L st x L' st' x' hf kk h hp p e s m args below meth c B rk H locs ls hW hS hL
  dsimp only at hf
  split at hf
  · rename_i heq
    cases heq
    simp only [Option.some.injEq, Prod.mk.injEq] at hf
    obtain ⟨rfl, rfl, rfl⟩ := hf
    exact lv_ishr B.1 B.2.1 hd (kk h hp p e s m args below meth c B rk H locs ls hW hS hL)
  · cases hf
def oUshr : OPS σ := .inl (fun s => match s with
  | (L, .int y :: .int x :: st, z) => some (L, .int (x.toUInt32 >>> (y.toUInt32 &&& Int32.toUInt32 31)).toInt32 :: st, z)
  | _ => none)
theorem s_iushr (hd : decode M.cc pc = .ok (.iushr, 1)) : JStp Pic M pc (pc + 1) oUshr := by
  intro X R Z k n L st x L' st' x' hf kk h hp p e s m args below meth c B rk H locs ls hW hS hL
  dsimp only at hf
  split at hf
  · rename_i heq
    cases heq
    simp only [Option.some.injEq, Prod.mk.injEq] at hf
    obtain ⟨rfl, rfl, rfl⟩ := hf
    exact lv_iushr B.1 B.2.1 hd rfl (kk h hp p e s m args below meth c B rk H locs ls hW hS hL)
  · cases hf
def oLAdd : OPS σ := .inl (fun s => match s with
  | (L, .long y :: .long x :: st, z) => some (L, .long (x + y) :: st, z)
  | _ => none)
theorem s_ladd (hd : decode M.cc pc = .ok (.ladd, 1)) : JStp Pic M pc (pc + 1) oLAdd := by
  intro X R Z k n L st x L' st' x' hf kk h hp p e s m args below meth c B rk H locs ls hW hS hL
  dsimp only at hf
  split at hf
  · rename_i heq
    cases heq
    simp only [Option.some.injEq, Prod.mk.injEq] at hf
    obtain ⟨rfl, rfl, rfl⟩ := hf
    exact lv_ladd B.1 B.2.1 hd (kk h hp p e s m args below meth c B rk H locs ls hW hS hL)
  · cases hf
def oLSub : OPS σ := .inl (fun s => match s with
  | (L, .long y :: .long x :: st, z) => some (L, .long (x - y) :: st, z)
  | _ => none)
theorem s_lsub (hd : decode M.cc pc = .ok (.lsub, 1)) : JStp Pic M pc (pc + 1) oLSub := by
  intro X R Z k n L st x L' st' x' hf kk h hp p e s m args below meth c B rk H locs ls hW hS hL
  dsimp only at hf
  split at hf
  · rename_i heq
    cases heq
    simp only [Option.some.injEq, Prod.mk.injEq] at hf
    obtain ⟨rfl, rfl, rfl⟩ := hf
    exact lv_lsub B.1 B.2.1 hd (kk h hp p e s m args below meth c B rk H locs ls hW hS hL)
  · cases hf
def oLMul : OPS σ := .inl (fun s => match s with
  | (L, .long y :: .long x :: st, z) => some (L, .long (x * y) :: st, z)
  | _ => none)
theorem s_lmul (hd : decode M.cc pc = .ok (.lmul, 1)) : JStp Pic M pc (pc + 1) oLMul := by
  intro X R Z k n L st x L' st' x' hf kk h hp p e s m args below meth c B rk H locs ls hW hS hL
  dsimp only at hf
  split at hf
  · rename_i heq
    cases heq
    simp only [Option.some.injEq, Prod.mk.injEq] at hf
    obtain ⟨rfl, rfl, rfl⟩ := hf
    exact lv_lmul B.1 B.2.1 hd (kk h hp p e s m args below meth c B rk H locs ls hW hS hL)
  · cases hf
def oLAnd : OPS σ := .inl (fun s => match s with
  | (L, .long y :: .long x :: st, z) => some (L, .long (x &&& y) :: st, z)
  | _ => none)
theorem s_land (hd : decode M.cc pc = .ok (.land, 1)) : JStp Pic M pc (pc + 1) oLAnd := by
  intro X R Z k n L st x L' st' x' hf kk h hp p e s m args below meth c B rk H locs ls hW hS hL
  dsimp only at hf
  split at hf
  · rename_i heq
    cases heq
    simp only [Option.some.injEq, Prod.mk.injEq] at hf
    obtain ⟨rfl, rfl, rfl⟩ := hf
    exact lv_land B.1 B.2.1 hd (kk h hp p e s m args below meth c B rk H locs ls hW hS hL)
  · cases hf
def oLOr : OPS σ := .inl (fun s => match s with
  | (L, .long y :: .long x :: st, z) => some (L, .long (x ||| y) :: st, z)
  | _ => none)
theorem s_lor (hd : decode M.cc pc = .ok (.lor, 1)) : JStp Pic M pc (pc + 1) oLOr := by
  intro X R Z k n L st x L' st' x' hf kk h hp p e s m args below meth c B rk H locs ls hW hS hL
  dsimp only at hf
  split at hf
  · rename_i heq
    cases heq
    simp only [Option.some.injEq, Prod.mk.injEq] at hf
    obtain ⟨rfl, rfl, rfl⟩ := hf
    exact lv_lor B.1 B.2.1 hd (kk h hp p e s m args below meth c B rk H locs ls hW hS hL)
  · cases hf
def oLXor : OPS σ := .inl (fun s => match s with
  | (L, .long y :: .long x :: st, z) => some (L, .long (x ^^^ y) :: st, z)
  | _ => none)
theorem s_lxor (hd : decode M.cc pc = .ok (.lxor, 1)) : JStp Pic M pc (pc + 1) oLXor := by
  intro X R Z k n L st x L' st' x' hf kk h hp p e s m args below meth c B rk H locs ls hW hS hL
  dsimp only at hf
  split at hf
  · rename_i heq
    cases heq
    simp only [Option.some.injEq, Prod.mk.injEq] at hf
    obtain ⟨rfl, rfl, rfl⟩ := hf
    exact lv_lxor B.1 B.2.1 hd (kk h hp p e s m args below meth c B rk H locs ls hW hS hL)
  · cases hf
def oLShl : OPS σ := .inl (fun s => match s with
  | (L, .int y :: .long x :: st, z) => some (L, .long (x <<< (y.toInt64 &&& 63)) :: st, z)
  | _ => none)
theorem s_lshl (hd : decode M.cc pc = .ok (.lshl, 1)) : JStp Pic M pc (pc + 1) oLShl := by
  intro X R Z k n L st x L' st' x' hf kk h hp p e s m args below meth c B rk H locs ls hW hS hL
  dsimp only at hf
  split at hf
  · rename_i heq
    cases heq
    simp only [Option.some.injEq, Prod.mk.injEq] at hf
    obtain ⟨rfl, rfl, rfl⟩ := hf
    exact lv_lshl B.1 B.2.1 hd rfl (kk h hp p e s m args below meth c B rk H locs ls hW hS hL)
  · cases hf
def oLShr : OPS σ := .inl (fun s => match s with
  | (L, .int y :: .long x :: st, z) => some (L, .long (x >>> (y.toInt64 &&& 63)) :: st, z)
  | _ => none)
theorem s_lshr (hd : decode M.cc pc = .ok (.lshr, 1)) : JStp Pic M pc (pc + 1) oLShr := by
  intro X R Z k n L st x L' st' x' hf kk h hp p e s m args below meth c B rk H locs ls hW hS hL
  dsimp only at hf
  split at hf
  · rename_i heq
    cases heq
    simp only [Option.some.injEq, Prod.mk.injEq] at hf
    obtain ⟨rfl, rfl, rfl⟩ := hf
    exact lv_lshr B.1 B.2.1 hd rfl (kk h hp p e s m args below meth c B rk H locs ls hW hS hL)
  · cases hf
def oLUshr : OPS σ := .inl (fun s => match s with
  | (L, .int y :: .long x :: st, z) => some (L, .long (x.toUInt64 >>> (y.toInt64.toUInt64 &&& Int64.toUInt64 63)).toInt64 :: st, z)
  | _ => none)
theorem s_lushr (hd : decode M.cc pc = .ok (.lushr, 1)) : JStp Pic M pc (pc + 1) oLUshr := by
  intro X R Z k n L st x L' st' x' hf kk h hp p e s m args below meth c B rk H locs ls hW hS hL
  dsimp only at hf
  split at hf
  · rename_i heq
    cases heq
    simp only [Option.some.injEq, Prod.mk.injEq] at hf
    obtain ⟨rfl, rfl, rfl⟩ := hf
    exact lv_lushr B.1 B.2.1 hd rfl (kk h hp p e s m args below meth c B rk H locs ls hW hS hL)
  · cases hf
def oLcmp : OPS σ := .inl (fun s => match s with
  | (L, .long y :: .long x :: st, z) => some (L, .int (lg_cmp x y) :: st, z)
  | _ => none)
theorem s_lcmp (hd : decode M.cc pc = .ok (.lcmp, 1)) : JStp Pic M pc (pc + 1) oLcmp := by
  intro X R Z k n L st x L' st' x' hf kk h hp p e s m args below meth c B rk H locs ls hW hS hL
  dsimp only at hf
  split at hf
  · rename_i heq
    cases heq
    simp only [Option.some.injEq, Prod.mk.injEq] at hf
    obtain ⟨rfl, rfl, rfl⟩ := hf
    exact W.lcmp B.1 B.2.1 hd (kk h hp p e s m args below meth c B rk H locs ls hW hS hL)
  · cases hf
def oNeg : OPS σ := .inl (fun s => match s with
  | (L, .int x :: st, z) => some (L, .int (-x) :: st, z)
  | _ => none)
theorem s_ineg (hd : decode M.cc pc = .ok (.ineg, 1)) : JStp Pic M pc (pc + 1) oNeg := by
  intro X R Z k n L st x L' st' x' hf kk h hp p e s m args below meth c B rk H locs ls hW hS hL
  dsimp only at hf
  split at hf
  · rename_i heq
    cases heq
    simp only [Option.some.injEq, Prod.mk.injEq] at hf
    obtain ⟨rfl, rfl, rfl⟩ := hf
    exact lv_ineg B.1 B.2.1 hd (kk h hp p e s m args below meth c B rk H locs ls hW hS hL)
  · cases hf
def oI2L : OPS σ := .inl (fun s => match s with
  | (L, .int x :: st, z) => some (L, .long x.toInt64 :: st, z)
  | _ => none)
theorem s_i2l (hd : decode M.cc pc = .ok (.i2l, 1)) : JStp Pic M pc (pc + 1) oI2L := by
  intro X R Z k n L st x L' st' x' hf kk h hp p e s m args below meth c B rk H locs ls hW hS hL
  dsimp only at hf
  split at hf
  · rename_i heq
    cases heq
    simp only [Option.some.injEq, Prod.mk.injEq] at hf
    obtain ⟨rfl, rfl, rfl⟩ := hf
    exact lv_i2l B.1 B.2.1 hd rfl (kk h hp p e s m args below meth c B rk H locs ls hW hS hL)
  · cases hf
def oL2I : OPS σ := .inl (fun s => match s with
  | (L, .long x :: st, z) => some (L, .int x.toInt32 :: st, z)
  | _ => none)
theorem s_l2i (hd : decode M.cc pc = .ok (.l2i, 1)) : JStp Pic M pc (pc + 1) oL2I := by
  intro X R Z k n L st x L' st' x' hf kk h hp p e s m args below meth c B rk H locs ls hW hS hL
  dsimp only at hf
  split at hf
  · rename_i heq
    cases heq
    simp only [Option.some.injEq, Prod.mk.injEq] at hf
    obtain ⟨rfl, rfl, rfl⟩ := hf
    exact lv_l2i B.1 B.2.1 hd rfl (kk h hp p e s m args below meth c B rk H locs ls hW hS hL)
  · cases hf
def oI2B : OPS σ := .inl (fun s => match s with
  | (L, .int x :: st, z) => some (L, .int x.toInt8.toInt32 :: st, z)
  | _ => none)
theorem s_i2b (hd : decode M.cc pc = .ok (.i2b, 1)) : JStp Pic M pc (pc + 1) oI2B := by
  intro X R Z k n L st x L' st' x' hf kk h hp p e s m args below meth c B rk H locs ls hW hS hL
  dsimp only at hf
  split at hf
  · rename_i heq
    cases heq
    simp only [Option.some.injEq, Prod.mk.injEq] at hf
    obtain ⟨rfl, rfl, rfl⟩ := hf
    exact lv_i2b B.1 B.2.1 hd rfl (kk h hp p e s m args below meth c B rk H locs ls hW hS hL)
  · cases hf
def oI2S : OPS σ := .inl (fun s => match s with
  | (L, .int x :: st, z) => some (L, .int x.toInt16.toInt32 :: st, z)
  | _ => none)
theorem s_i2s (hd : decode M.cc pc = .ok (.i2s, 1)) : JStp Pic M pc (pc + 1) oI2S := by
  intro X R Z k n L st x L' st' x' hf kk h hp p e s m args below meth c B rk H locs ls hW hS hL
  dsimp only at hf
  split at hf
  · rename_i heq
    cases heq
    simp only [Option.some.injEq, Prod.mk.injEq] at hf
    obtain ⟨rfl, rfl, rfl⟩ := hf
    exact lv_i2s B.1 B.2.1 hd rfl (kk h hp p e s m args below meth c B rk H locs ls hW hS hL)
  · cases hf
def oI2C : OPS σ := .inl (fun s => match s with
  | (L, .int x :: st, z) => some (L, .int (x.toUInt32 % 65536).toInt32 :: st, z)
  | _ => none)
theorem s_i2c (hd : decode M.cc pc = .ok (.i2c, 1)) : JStp Pic M pc (pc + 1) oI2C := by
  intro X R Z k n L st x L' st' x' hf kk h hp p e s m args below meth c B rk H locs ls hW hS hL
  dsimp only at hf
  split at hf
  · rename_i heq
    cases heq
    simp only [Option.some.injEq, Prod.mk.injEq] at hf
    obtain ⟨rfl, rfl, rfl⟩ := hf
    exact lv_i2c B.1 B.2.1 hd rfl (kk h hp p e s m args below meth c B rk H locs ls hW hS hL)
  · cases hf
def oDiv : OPS σ := .inr (fun s => match s with
  | (L, .int y :: .int x :: st, w) => some (¬ y = 0, L, .int (x / y) :: st, w)
  | _ => none)
theorem s_idiv (hd : decode M.cc pc = .ok (.idiv, 1)) : JStp Pic M pc (pc + 1) oDiv := by
  intro X R Z k n L st x cnd L' st' x' hf hc kk h hp p e s m args below meth c B rk H locs ls hW hS hL
  dsimp only at hf
  split at hf
  · rename_i heq
    cases heq
    simp only [Option.some.injEq, Prod.mk.injEq] at hf
    obtain ⟨rfl, rfl, rfl, rfl⟩ := hf
    exact lv_idiv B.1 B.2.1 hd hc (kk h hp p e s m args below meth c B rk H locs ls hW hS hL)
  · cases hf
def oRem : OPS σ := .inr (fun s => match s with
  | (L, .int y :: .int x :: st, w) => some (¬ y = 0, L, .int (x - x / y * y) :: st, w)
  | _ => none)
theorem s_irem (hd : decode M.cc pc = .ok (.irem, 1)) : JStp Pic M pc (pc + 1) oRem := by
  intro X R Z k n L st x cnd L' st' x' hf hc kk h hp p e s m args below meth c B rk H locs ls hW hS hL
  dsimp only at hf
  split at hf
  · rename_i heq
    cases heq
    simp only [Option.some.injEq, Prod.mk.injEq] at hf
    obtain ⟨rfl, rfl, rfl, rfl⟩ := hf
    exact lv_irem B.1 B.2.1 hd hc (kk h hp p e s m args below meth c B rk H locs ls hW hS hL)
  · cases hf
def oLDiv : OPS σ := .inr (fun s => match s with
  | (L, .long y :: .long x :: st, w) => some (¬ y = 0, L, .long (x / y) :: st, w)
  | _ => none)
theorem s_ldiv (hd : decode M.cc pc = .ok (.ldiv, 1)) : JStp Pic M pc (pc + 1) oLDiv := by
  intro X R Z k n L st x cnd L' st' x' hf hc kk h hp p e s m args below meth c B rk H locs ls hW hS hL
  dsimp only at hf
  split at hf
  · rename_i heq
    cases heq
    simp only [Option.some.injEq, Prod.mk.injEq] at hf
    obtain ⟨rfl, rfl, rfl, rfl⟩ := hf
    exact lv_ldiv B.1 B.2.1 hd hc (kk h hp p e s m args below meth c B rk H locs ls hW hS hL)
  · cases hf
def oLRem : OPS σ := .inr (fun s => match s with
  | (L, .long y :: .long x :: st, w) => some (¬ y = 0, L, .long (x - x / y * y) :: st, w)
  | _ => none)
theorem s_lrem (hd : decode M.cc pc = .ok (.lrem, 1)) : JStp Pic M pc (pc + 1) oLRem := by
  intro X R Z k n L st x cnd L' st' x' hf hc kk h hp p e s m args below meth c B rk H locs ls hW hS hL
  dsimp only at hf
  split at hf
  · rename_i heq
    cases heq
    simp only [Option.some.injEq, Prod.mk.injEq] at hf
    obtain ⟨rfl, rfl, rfl, rfl⟩ := hf
    exact lv_lrem B.1 B.2.1 hd hc (kk h hp p e s m args below meth c B rk H locs ls hW hS hL)
  · cases hf
def oDupI : OPS σ := .inl (fun s => match s with
  | (L, .int a :: st, z) => some (L, .int a :: .int a :: st, z)
  | _ => none)
theorem s_dupI (hd : decode M.cc pc = .ok (.dup, 1)) : JStp Pic M pc (pc + 1) oDupI := by
  intro X R Z k n L st x L' st' x' hf kk h hp p e s m args below meth c B rk H locs ls hW hS hL
  dsimp only at hf
  split at hf
  · rename_i heq
    cases heq
    simp only [Option.some.injEq, Prod.mk.injEq] at hf
    obtain ⟨rfl, rfl, rfl⟩ := hf
    exact lv_dup B.1 B.2.1 hd rfl (kk h hp p e s m args below meth c B rk H locs ls hW hS hL)
  · cases hf
def oDupR : OPS σ := .inl (fun s => match s with
  | (L, .ref a :: st, z) => some (L, .ref a :: .ref a :: st, z)
  | _ => none)
theorem s_dupR (hd : decode M.cc pc = .ok (.dup, 1)) : JStp Pic M pc (pc + 1) oDupR := by
  intro X R Z k n L st x L' st' x' hf kk h hp p e s m args below meth c B rk H locs ls hW hS hL
  dsimp only at hf
  split at hf
  · rename_i heq
    cases heq
    simp only [Option.some.injEq, Prod.mk.injEq] at hf
    obtain ⟨rfl, rfl, rfl⟩ := hf
    exact lv_dup B.1 B.2.1 hd rfl (kk h hp p e s m args below meth c B rk H locs ls hW hS hL)
  · cases hf
def oDup2IR : OPS σ := .inl (fun s => match s with
  | (L, .int a :: .ref b :: st, z) => some (L, .int a :: .ref b :: .int a :: .ref b :: st, z)
  | _ => none)
theorem s_dup2IR (hd : decode M.cc pc = .ok (.dup2, 1)) : JStp Pic M pc (pc + 1) oDup2IR := by
  intro X R Z k n L st x L' st' x' hf kk h hp p e s m args below meth c B rk H locs ls hW hS hL
  dsimp only at hf
  split at hf
  · rename_i heq
    cases heq
    simp only [Option.some.injEq, Prod.mk.injEq] at hf
    obtain ⟨rfl, rfl, rfl⟩ := hf
    exact lv_dup2_11 B.1 B.2.1 hd rfl rfl (kk h hp p e s m args below meth c B rk H locs ls hW hS hL)
  · cases hf
def oDup2L : OPS σ := .inl (fun s => match s with
  | (L, .long a :: st, z) => some (L, .long a :: .long a :: st, z)
  | _ => none)
theorem s_dup2L (hd : decode M.cc pc = .ok (.dup2, 1)) : JStp Pic M pc (pc + 1) oDup2L := by
  intro X R Z k n L st x L' st' x' hf kk h hp p e s m args below meth c B rk H locs ls hW hS hL
  dsimp only at hf
  split at hf
  · rename_i heq
    cases heq
    simp only [Option.some.injEq, Prod.mk.injEq] at hf
    obtain ⟨rfl, rfl, rfl⟩ := hf
    exact lv_dup2_2 B.1 B.2.1 hd rfl (kk h hp p e s m args below meth c B rk H locs ls hW hS hL)
  · cases hf
def oDupX1IR : OPS σ := .inl (fun s => match s with
  | (L, .int a :: .ref b :: st, z) => some (L, .int a :: .ref b :: .int a :: st, z)
  | _ => none)
theorem s_dup_x1IR (hd : decode M.cc pc = .ok (.dup_x1, 1)) : JStp Pic M pc (pc + 1) oDupX1IR := by
  intro X R Z k n L st x L' st' x' hf kk h hp p e s m args below meth c B rk H locs ls hW hS hL
  dsimp only at hf
  split at hf
  · rename_i heq
    cases heq
    simp only [Option.some.injEq, Prod.mk.injEq] at hf
    obtain ⟨rfl, rfl, rfl⟩ := hf
    exact lv_dup_x1 B.1 B.2.1 hd rfl rfl (kk h hp p e s m args below meth c B rk H locs ls hW hS hL)
  · cases hf
def oPopI : OPS σ := .inl (fun s => match s with
  | (L, .int a :: st, x) => some (L, st, x)
  | _ => none)
theorem s_popI (hd : decode M.cc pc = .ok (.pop, 1)) : JStp Pic M pc (pc + 1) oPopI := by
  intro X R Z k n L st x L' st' x' hf kk h hp p e s m args below meth c B rk H locs ls hW hS hL
  dsimp only at hf
  split at hf
  · rename_i heq
    cases heq
    simp only [Option.some.injEq, Prod.mk.injEq] at hf
    obtain ⟨rfl, rfl, rfl⟩ := hf
    exact lv_pop B.1 B.2.1 hd rfl (kk h hp p e s m args below meth c B rk H locs ls hW hS hL)
  · cases hf
def oPopR : OPS σ := .inl (fun s => match s with
  | (L, .ref a :: st, x) => some (L, st, x)
  | _ => none)
theorem s_popR (hd : decode M.cc pc = .ok (.pop, 1)) : JStp Pic M pc (pc + 1) oPopR := by
  intro X R Z k n L st x L' st' x' hf kk h hp p e s m args below meth c B rk H locs ls hW hS hL
  dsimp only at hf
  split at hf
  · rename_i heq
    cases heq
    simp only [Option.some.injEq, Prod.mk.injEq] at hf
    obtain ⟨rfl, rfl, rfl⟩ := hf
    exact lv_pop B.1 B.2.1 hd rfl (kk h hp p e s m args below meth c B rk H locs ls hW hS hL)
  · cases hf
theorem s_goto {off : Int} {tgt : Nat} (hd : decode M.cc pc = .ok (.goto off, 3)) (ht : (pc : Int) + off = (tgt : Int)) : JStp Pic M pc tgt (.inl (fun s => some s)) := by
  intro X R Z k n L st x L' st' x' hf kk h hp p e s m args below meth c B rk H locs ls hW hS hL
  simp only [Option.some.injEq, Prod.mk.injEq] at hf
  obtain ⟨rfl, rfl, rfl⟩ := hf
  exact lv_goto B.1 B.2.1 hd ht (kk h hp p e s m args below meth c B rk H locs ls hW hS hL)
variable {X : Cx} {R : Room} {Z : ZT} {k n : Nat} {L : List (Option Value)} {st : List Value} {x : σ}
theorem j_if_eq {a : Int32} {off : Int} {tgt : Nat} (hd : decode M.cc pc = .ok (.ifCond .eq off, 3)) (ht : (pc : Int) + off = (tgt : Int)) (kt : a = 0 → JS Pic X M R Z k n tgt L st x) (kf : ¬ a = 0 → JS Pic X M R Z k n (pc + 3) L st x) : JS Pic X M R Z k n pc L (.int a :: st) x :=
  fun h hp p e s m args below meth c B rk H locs ls hW hS hL => lv_if_eq B.1 B.2.1 hd ht (fun q => kt q h hp p e s m args below meth c B rk H locs ls hW hS hL) (fun q => kf q h hp p e s m args below meth c B rk H locs ls hW hS hL)
theorem j_icmp_eq {a b : Int32} {off : Int} {tgt : Nat} (hd : decode M.cc pc = .ok (.if_icmp .eq off, 3)) (ht : (pc : Int) + off = (tgt : Int)) (kt : a = b → JS Pic X M R Z k n tgt L st x) (kf : ¬ a = b → JS Pic X M R Z k n (pc + 3) L st x) : JS Pic X M R Z k n pc L (.int b :: .int a :: st) x :=
  fun h hp p e s m args below meth c B rk H locs ls hW hS hL => lv_icmp_eq B.1 B.2.1 hd ht (fun q => kt q h hp p e s m args below meth c B rk H locs ls hW hS hL) (fun q => kf q h hp p e s m args below meth c B rk H locs ls hW hS hL)
theorem j_if_ne {a : Int32} {off : Int} {tgt : Nat} (hd : decode M.cc pc = .ok (.ifCond .ne off, 3)) (ht : (pc : Int) + off = (tgt : Int)) (kt : ¬ a = 0 → JS Pic X M R Z k n tgt L st x) (kf : a = 0 → JS Pic X M R Z k n (pc + 3) L st x) : JS Pic X M R Z k n pc L (.int a :: st) x :=
  fun h hp p e s m args below meth c B rk H locs ls hW hS hL => lv_if_ne B.1 B.2.1 hd ht (fun q => kt q h hp p e s m args below meth c B rk H locs ls hW hS hL) (fun q => kf q h hp p e s m args below meth c B rk H locs ls hW hS hL)
theorem j_icmp_ne {a b : Int32} {off : Int} {tgt : Nat} (hd : decode M.cc pc = .ok (.if_icmp .ne off, 3)) (ht : (pc : Int) + off = (tgt : Int)) (kt : ¬ a = b → JS Pic X M R Z k n tgt L st x) (kf : a = b → JS Pic X M R Z k n (pc + 3) L st x) : JS Pic X M R Z k n pc L (.int b :: .int a :: st) x :=
  fun h hp p e s m args below meth c B rk H locs ls hW hS hL => lv_icmp_ne B.1 B.2.1 hd ht (fun q => kt q h hp p e s m args below meth c B rk H locs ls hW hS hL) (fun q => kf q h hp p e s m args below meth c B rk H locs ls hW hS hL)
theorem j_if_lt {a : Int32} {off : Int} {tgt : Nat} (hd : decode M.cc pc = .ok (.ifCond .lt off, 3)) (ht : (pc : Int) + off = (tgt : Int)) (kt : a < 0 → JS Pic X M R Z k n tgt L st x) (kf : ¬ a < 0 → JS Pic X M R Z k n (pc + 3) L st x) : JS Pic X M R Z k n pc L (.int a :: st) x :=
  fun h hp p e s m args below meth c B rk H locs ls hW hS hL => lv_if_lt B.1 B.2.1 hd ht (fun q => kt q h hp p e s m args below meth c B rk H locs ls hW hS hL) (fun q => kf q h hp p e s m args below meth c B rk H locs ls hW hS hL)
theorem j_icmp_lt {a b : Int32} {off : Int} {tgt : Nat} (hd : decode M.cc pc = .ok (.if_icmp .lt off, 3)) (ht : (pc : Int) + off = (tgt : Int)) (kt : a < b → JS Pic X M R Z k n tgt L st x) (kf : ¬ a < b → JS Pic X M R Z k n (pc + 3) L st x) : JS Pic X M R Z k n pc L (.int b :: .int a :: st) x :=
  fun h hp p e s m args below meth c B rk H locs ls hW hS hL => lv_icmp_lt B.1 B.2.1 hd ht (fun q => kt q h hp p e s m args below meth c B rk H locs ls hW hS hL) (fun q => kf q h hp p e s m args below meth c B rk H locs ls hW hS hL)
theorem j_if_ge {a : Int32} {off : Int} {tgt : Nat} (hd : decode M.cc pc = .ok (.ifCond .ge off, 3)) (ht : (pc : Int) + off = (tgt : Int)) (kt : 0 ≤ a → JS Pic X M R Z k n tgt L st x) (kf : ¬ 0 ≤ a → JS Pic X M R Z k n (pc + 3) L st x) : JS Pic X M R Z k n pc L (.int a :: st) x :=
  fun h hp p e s m args below meth c B rk H locs ls hW hS hL => lv_if_ge B.1 B.2.1 hd ht (fun q => kt q h hp p e s m args below meth c B rk H locs ls hW hS hL) (fun q => kf q h hp p e s m args below meth c B rk H locs ls hW hS hL)
theorem j_icmp_ge {a b : Int32} {off : Int} {tgt : Nat} (hd : decode M.cc pc = .ok (.if_icmp .ge off, 3)) (ht : (pc : Int) + off = (tgt : Int)) (kt : b ≤ a → JS Pic X M R Z k n tgt L st x) (kf : ¬ b ≤ a → JS Pic X M R Z k n (pc + 3) L st x) : JS Pic X M R Z k n pc L (.int b :: .int a :: st) x :=
  fun h hp p e s m args below meth c B rk H locs ls hW hS hL => lv_icmp_ge B.1 B.2.1 hd ht (fun q => kt q h hp p e s m args below meth c B rk H locs ls hW hS hL) (fun q => kf q h hp p e s m args below meth c B rk H locs ls hW hS hL)
theorem j_if_gt {a : Int32} {off : Int} {tgt : Nat} (hd : decode M.cc pc = .ok (.ifCond .gt off, 3)) (ht : (pc : Int) + off = (tgt : Int)) (kt : 0 < a → JS Pic X M R Z k n tgt L st x) (kf : ¬ 0 < a → JS Pic X M R Z k n (pc + 3) L st x) : JS Pic X M R Z k n pc L (.int a :: st) x :=
  fun h hp p e s m args below meth c B rk H locs ls hW hS hL => lv_if_gt B.1 B.2.1 hd ht (fun q => kt q h hp p e s m args below meth c B rk H locs ls hW hS hL) (fun q => kf q h hp p e s m args below meth c B rk H locs ls hW hS hL)
theorem j_icmp_gt {a b : Int32} {off : Int} {tgt : Nat} (hd : decode M.cc pc = .ok (.if_icmp .gt off, 3)) (ht : (pc : Int) + off = (tgt : Int)) (kt : b < a → JS Pic X M R Z k n tgt L st x) (kf : ¬ b < a → JS Pic X M R Z k n (pc + 3) L st x) : JS Pic X M R Z k n pc L (.int b :: .int a :: st) x :=
  fun h hp p e s m args below meth c B rk H locs ls hW hS hL => lv_icmp_gt B.1 B.2.1 hd ht (fun q => kt q h hp p e s m args below meth c B rk H locs ls hW hS hL) (fun q => kf q h hp p e s m args below meth c B rk H locs ls hW hS hL)
theorem j_if_le {a : Int32} {off : Int} {tgt : Nat} (hd : decode M.cc pc = .ok (.ifCond .le off, 3)) (ht : (pc : Int) + off = (tgt : Int)) (kt : a ≤ 0 → JS Pic X M R Z k n tgt L st x) (kf : ¬ a ≤ 0 → JS Pic X M R Z k n (pc + 3) L st x) : JS Pic X M R Z k n pc L (.int a :: st) x :=
  fun h hp p e s m args below meth c B rk H locs ls hW hS hL => lv_if_le B.1 B.2.1 hd ht (fun q => kt q h hp p e s m args below meth c B rk H locs ls hW hS hL) (fun q => kf q h hp p e s m args below meth c B rk H locs ls hW hS hL)
theorem j_icmp_le {a b : Int32} {off : Int} {tgt : Nat} (hd : decode M.cc pc = .ok (.if_icmp .le off, 3)) (ht : (pc : Int) + off = (tgt : Int)) (kt : a ≤ b → JS Pic X M R Z k n tgt L st x) (kf : ¬ a ≤ b → JS Pic X M R Z k n (pc + 3) L st x) : JS Pic X M R Z k n pc L (.int b :: .int a :: st) x :=
  fun h hp p e s m args below meth c B rk H locs ls hW hS hL => lv_icmp_le B.1 B.2.1 hd ht (fun q => kt q h hp p e s m args below meth c B rk H locs ls hW hS hL) (fun q => kf q h hp p e s m args below meth c B rk H locs ls hW hS hL)
theorem j_tableOut {dflt lo hi : Int} {offs : Array Int} {len : Nat} {a : Int32} {tgt : Nat} (hd : decode M.cc pc = .ok (.tableswitch dflt lo hi offs, len)) (hx : a.toInt < lo ∨ hi < a.toInt) (ht : (pc : Int) + dflt = (tgt : Int)) (kk : JS Pic X M R Z k n tgt L st x) : JS Pic X M R Z k n pc L (.int a :: st) x :=
  fun h hp p e s m args below meth c B rk H locs ls hW hS hL => lv_tableOut B.1 B.2.1 hd hx ht (kk h hp p e s m args below meth c B rk H locs ls hW hS hL)
theorem j_tableIn {dflt lo hi : Int} {offs : Array Int} {len : Nat} {a : Int32} {off : Int} {tgt : Nat} (hd : decode M.cc pc = .ok (.tableswitch dflt lo hi offs, len)) (h1 : ¬ a.toInt < lo) (h2 : ¬ hi < a.toInt) (ho : offs[(a.toInt - lo).toNat]? = some off) (ht : (pc : Int) + off = (tgt : Int)) (kk : JS Pic X M R Z k n tgt L st x) : JS Pic X M R Z k n pc L (.int a :: st) x :=
  fun h hp p e s m args below meth c B rk H locs ls hW hS hL => lv_tableIn B.1 B.2.1 hd h1 h2 ho ht (kk h hp p e s m args below meth c B rk H locs ls hW hS hL)
theorem j_ifnullR {a : Nat} {off : Int} (hd : decode M.cc pc = .ok (.ifnull off, 3)) (kk : JS Pic X M R Z k n (pc + 3) L st x) : JS Pic X M R Z k n pc L (.ref a :: st) x :=
  fun h hp p e s m args below meth c B rk H locs ls hW hS hL => lv_ifnull B.1 B.2.1 hd (kk h hp p e s m args below meth c B rk H locs ls hW hS hL)
theorem j_ifnonnullR {a : Nat} {off : Int} {tgt : Nat} (hd : decode M.cc pc = .ok (.ifnonnull off, 3)) (ht : (pc : Int) + off = (tgt : Int)) (kk : JS Pic X M R Z k n tgt L st x) : JS Pic X M R Z k n pc L (.ref a :: st) x :=
  fun h hp p e s m args below meth c B rk H locs ls hW hS hL => lv_ifnonnull B.1 B.2.1 hd ht (kk h hp p e s m args below meth c B rk H locs ls hW hS hL)
theorem j_ifnullN {off : Int} {tgt : Nat} (hd : decode M.cc pc = .ok (.ifnull off, 3)) (ht : (pc : Int) + off = (tgt : Int)) (kk : JS Pic X M R Z k n tgt L st x) : JS Pic X M R Z k n pc L (.null :: st) x :=
  fun h hp p e s m args below meth c B rk H locs ls hW hS hL => lv_ifnullN B.1 B.2.1 hd ht (kk h hp p e s m args below meth c B rk H locs ls hW hS hL)
theorem j_ifnonnullN {off : Int} (hd : decode M.cc pc = .ok (.ifnonnull off, 3)) (kk : JS Pic X M R Z k n (pc + 3) L st x) : JS Pic X M R Z k n pc L (.null :: st) x :=
  fun h hp p e s m args below meth c B rk H locs ls hW hS hL => lv_ifnonnullN B.1 B.2.1 hd (kk h hp p e s m args below meth c B rk H locs ls hW hS hL)
end Steps
