set_option maxRecDepth 100000
/-! ===== UnseenClockModel as a value: address of the object, addresses of its arrays by field, int contents by field (scalars: row 0), long contents by field ===== -/
abbrev Tau : Type := Nat × (Nat → Nat) × (Nat → Nat → Int32) × (Nat → Nat → Int64)
abbrev Tau.o (x : Tau) : Nat := x.1
abbrev Tau.adr (x : Tau) : Nat → Nat := x.2.1
abbrev Tau.A (x : Tau) : Nat → Nat → Int32 := x.2.2.1
abbrev Tau.B (x : Tau) : Nat → Nat → Int64 := x.2.2.2
def upA (A : Nat → Nat → Int32) (k i : Nat) (v : Int32) : Nat → Nat → Int32 := va_up A k (va_up (A k) i v)
def upB (B : Nat → Nat → Int64) (k i : Nat) (v : Int64) : Nat → Nat → Int64 := va_up B k (va_up (B k) i v)
def Tau.setA (x : Tau) (k i : Nat) (v : Int32) : Tau := (x.o, x.adr, va_up x.A k (va_up (x.A k) i v), x.B)
def Tau.setB (x : Tau) (k i : Nat) (v : Int64) : Tau := (x.o, x.adr, x.A, va_up x.B k (va_up (x.B k) i v))
def twFs (x : Tau) : List Value := [.int (x.A 0 0), .ref (x.adr 1), .ref (x.adr 2), .ref (x.adr 3), .ref (x.adr 4), .int (x.A 0 5), .ref (x.adr 6), .int (x.A 0 7), .int (x.A 0 8), .int (x.A 0 9), .int (x.A 0 10), .int (x.A 0 11), .int (x.A 0 12), .int (x.A 0 13), .ref (x.adr 14), .ref (x.adr 15), .ref (x.adr 16), .ref (x.adr 17), .ref (x.adr 18), .ref (x.adr 19), .ref (x.adr 20), .ref (x.adr 21), .int (x.A 0 22), .ref (x.adr 23), .int (x.A 0 24), .ref (x.adr 25), .ref (x.adr 26), .ref (x.adr 27), .int (x.A 0 28), .long (x.B 29 0), .ref (x.adr 30), .ref (x.adr 31), .ref (x.adr 32), .ref (x.adr 33), .int (x.A 0 34), .ref (x.adr 35), .ref (x.adr 36), .ref (x.adr 37), .ref (x.adr 38), .ref (x.adr 39), .ref (x.adr 40)]
/-- the int-like arrays: length, kind -/
def twArr : Nat → Option (Nat × Nat)
  | 1 => some (320, 0)
  | 2 => some (960, 0)
  | 3 => some (3, 4)
  | 4 => some (2400, 2)
  | 6 => some (5, 0)
  | 14 => some (320, 0)
  | 15 => some (320, 0)
  | 16 => some (320, 0)
  | 17 => some (32, 4)
  | 18 => some (164, 0)
  | 19 => some (320, 0)
  | 20 => some (320, 0)
  | 21 => some (1280, 0)
  | 23 => some (1280, 4)
  | 25 => some (4, 0)
  | 26 => some (4, 0)
  | 27 => some (4, 0)
  | 30 => some (32, 0)
  | 31 => some (32, 4)
  | 32 => some (20992, 0)
  | 33 => some (40960, 0)
  | 35 => some (128, 4)
  | 36 => some (128, 0)
  | 37 => some (4, 0)
  | 38 => some (4, 0)
  | _ => none
def twLArr : Nat → Option Nat
  | 39 => some 240
  | 40 => some 60
  | _ => none
def twIs : Nat → Bool := fun k => (twArr k).isSome || (twLArr k).isSome
def TP (X : Cx) (x : Tau) (h : AH) : Prop := h x.o = some (.inr (4, twFs x)) ∧ (∀ k n t, twArr k = some (n, t) → h (x.adr k) = some (.inl (X.dA t, n, .inl (x.A k)))) ∧ (∀ k n, twLArr k = some n → h (x.adr k) = some (.inl (X.dA 1, n, .inr (.inl (x.B k))))) ∧ (∀ k, twIs k = true → x.adr k ≠ x.o) ∧ ∀ k j, twIs k = true → twIs j = true → x.adr k = x.adr j → k = j
theorem clsX4 : ClsOK RX4 TX4 41 tyX4 := ⟨in_X4, tyX4_ok, nmX4⟩
theorem twIs_A {k n t : Nat} (h : twArr k = some (n, t)) : twIs k = true := by simp [twIs, h]
theorem twIs_B {k n : Nat} (h : twLArr k = some n) : twIs k = true := by simp [twIs, h]
theorem twLA {k n : Nat} (h : twLArr k = some n) : twArr k = none := by
  unfold twLArr at h
  split at h <;> first | rfl | cases h
theorem twFs_setA {x : Tau} {k i : Nat} {v : Int32} (hk : twIs k = true) : twFs (x.setA k i v) = twFs x := by
  have hk0 : k ≠ 0 := by rintro rfl; cases hk
  have e : va_up x.A k (va_up (x.A k) i v) 0 = x.A 0 := va_up_ne _ _ (fun q => hk0 q.symm)
  simp only [twFs, Tau.setA, Tau.A, Tau.o, Tau.adr, Tau.B] at e ⊢
  simp only [e]
theorem twFs_setB {x : Tau} {k i : Nat} {v : Int64} (hk : twIs k = true) : twFs (x.setB k i v) = twFs x := by
  have hk0 : k ≠ 29 := by rintro rfl; cases hk
  have e : va_up x.B k (va_up (x.B k) i v) 29 = x.B 29 := va_up_ne _ _ (fun q => hk0 q.symm)
  simp only [twFs, Tau.setB, Tau.A, Tau.o, Tau.adr, Tau.B] at e ⊢
  simp only [e]
/-- an int-like array is written -/
theorem TP.setA {X : Cx} {x : Tau} {h : AH} (hT : TP X x h) {k n t i : Nat} {v : Int32} (hk : twArr k = some (n, t)) : TP X (x.setA k i v) (va_up h (x.adr k) (some (.inl (X.dA t, n, .inl (upd (x.A k) i v))))) := by
  obtain ⟨h1, h2, h3, h4, h5⟩ := hT
  have hI := twIs_A hk
  refine ⟨?_, ?_, ?_, h4, h5⟩
  · rw [twFs_setA hI, show (x.setA k i v).o = x.o from rfl, va_up_ne _ _ (fun q => h4 k hI q.symm)]; exact h1
  · intro j n' t' hj
    show va_up h (x.adr k) _ (x.adr j) = _
    by_cases hjk : j = k
    · subst hjk
      cases hk.symm.trans hj
      rw [va_up_self]
      show some (Sum.inl (X.dA t, n, Sum.inl (upd (x.A j) i v))) = some (Sum.inl (X.dA t, n, Sum.inl (va_up x.A j (va_up (x.A j) i v) j)))
      rw [va_up_self]; rfl
    · rw [va_up_ne _ _ (fun q => hjk (h5 j k (twIs_A hj) hI q)), h2 j n' t' hj]
      show some (Sum.inl (X.dA t', n', Sum.inl (x.A j))) = some (Sum.inl (X.dA t', n', Sum.inl (va_up x.A k (va_up (x.A k) i v) j)))
      rw [va_up_ne _ _ hjk]
  · intro j n' hj
    show va_up h (x.adr k) _ (x.adr j) = _
    have hjk : j ≠ k := by rintro rfl; rw [twLA hj] at hk; cases hk
    rw [va_up_ne _ _ (fun q => hjk (h5 j k (twIs_B hj) hI q)), h3 j n' hj]; rfl
theorem TP.setB {X : Cx} {x : Tau} {h : AH} (hT : TP X x h) {k n i : Nat} {v : Int64} (hk : twLArr k = some n) : TP X (x.setB k i v) (va_up h (x.adr k) (some (.inl (X.dA 1, n, .inr (.inl (vp_updL (x.B k) i v)))))) := by
  obtain ⟨h1, h2, h3, h4, h5⟩ := hT
  have hI := twIs_B hk
  refine ⟨?_, ?_, ?_, h4, h5⟩
  · rw [twFs_setB hI, show (x.setB k i v).o = x.o from rfl, va_up_ne _ _ (fun q => h4 k hI q.symm)]; exact h1
  · intro j n' t' hj
    show va_up h (x.adr k) _ (x.adr j) = _
    have hjk : j ≠ k := by rintro rfl; rw [twLA hk] at hj; cases hj
    rw [va_up_ne _ _ (fun q => hjk (h5 j k (twIs_A hj) hI q)), h2 j n' t' hj]; rfl
  · intro j n' hj
    show va_up h (x.adr k) _ (x.adr j) = _
    by_cases hjk : j = k
    · subst hjk
      cases hk.symm.trans hj
      rw [va_up_self]
      show some (Sum.inl (X.dA 1, n, Sum.inr (Sum.inl (vp_updL (x.B j) i v)))) = some (Sum.inl (X.dA 1, n, Sum.inr (Sum.inl (va_up x.B j (va_up (x.B j) i v) j))))
      rw [va_up_self]; rfl
    · rw [va_up_ne _ _ (fun q => hjk (h5 j k (twIs_B hj) hI q)), h3 j n' hj]
      show some (Sum.inl (X.dA 1, n', Sum.inr (Sum.inl (x.B j)))) = some (Sum.inl (X.dA 1, n', Sum.inr (Sum.inl (va_up x.B k (va_up (x.B k) i v) j))))
      rw [va_up_ne _ _ hjk]
/-- a scalar is written: the object's cell -/
theorem TP.setS {X : Cx} {x x' : Tau} {h : AH} (hT : TP X x h) (ho : x'.o = x.o) (ha : x'.adr = x.adr) (hA : ∀ k, twIs k = true → x'.A k = x.A k) (hB : ∀ k, twIs k = true → x'.B k = x.B k) : TP X x' (va_up h x.o (some (.inr (4, twFs x')))) := by
  obtain ⟨h1, h2, h3, h4, h5⟩ := hT
  refine ⟨by rw [ho, va_up_self], ?_, ?_, by rw [ho, ha]; exact h4, by rw [ha]; exact h5⟩
  · intro k n t hk
    rw [ha, va_up_ne _ _ (h4 k (twIs_A hk)), h2 k n t hk, hA k (twIs_A hk)]
  · intro k n hk
    rw [ha, va_up_ne _ _ (h4 k (twIs_B hk)), h3 k n hk, hB k (twIs_B hk)]
section TwSteps
variable {M : MD} {pc idx : Nat}
/-- this.array -/
def tR (k : Nat) : OPS Tau := .inr (fun s => match s with
  | (L, .ref a :: st, (o, ad, A, B)) => some (a = o, L, .ref (ad k) :: st, (o, ad, A, B))
  | _ => none)
def tI (k : Nat) : OPS Tau := .inr (fun s => match s with
  | (L, .ref a :: st, (o, ad, A, B)) => some (a = o, L, .int (A 0 k) :: st, (o, ad, A, B))
  | _ => none)
def tJ (k : Nat) : OPS Tau := .inr (fun s => match s with
  | (L, .ref a :: st, (o, ad, A, B)) => some (a = o, L, .long (B k 0) :: st, (o, ad, A, B))
  | _ => none)
def tPI (k : Nat) : OPS Tau := .inr (fun s => match s with
  | (L, .int v :: .ref a :: st, (o, ad, A, B)) => some (a = o, L, st, (o, ad, upA A 0 k v, B))
  | _ => none)
def tPZ (k : Nat) : OPS Tau := .inr (fun s => match s with
  | (L, .int v :: .ref a :: st, (o, ad, A, B)) => some (a = o ∧ narrow .boolean (.int v) = .int v ∧ fits .boolean (.int v) = true, L, st, (o, ad, upA A 0 k v, B))
  | _ => none)
def tPJ (k : Nat) : OPS Tau := .inr (fun s => match s with
  | (L, .long v :: .ref a :: st, (o, ad, A, B)) => some (a = o, L, st, (o, ad, A, upB B k 0 v))
  | _ => none)
/-- array[i] -/
def tAI (k len : Nat) : OPS Tau := .inr (fun s => match s with
  | (L, .int i :: .ref a :: st, (o, ad, A, B)) => some (a = ad k ∧ vp_in i len, L, .int (A k i.toNatClampNeg) :: st, (o, ad, A, B))
  | _ => none)
def tAL (k len : Nat) : OPS Tau := .inr (fun s => match s with
  | (L, .int i :: .ref a :: st, (o, ad, A, B)) => some (a = ad k ∧ vp_in i len, L, .long (B k i.toNatClampNeg) :: st, (o, ad, A, B))
  | _ => none)
def tSI (k len : Nat) : OPS Tau := .inr (fun s => match s with
  | (L, .int v :: .int i :: .ref a :: st, (o, ad, A, B)) => some (a = ad k ∧ vp_in i len, L, st, (o, ad, upA A k i.toNatClampNeg v, B))
  | _ => none)
def tSB (k len : Nat) : OPS Tau := .inr (fun s => match s with
  | (L, .int v :: .int i :: .ref a :: st, (o, ad, A, B)) => some (a = ad k ∧ vp_in i len, L, st, (o, ad, upA A k i.toNatClampNeg (vp_nar .byte v), B))
  | _ => none)
def tSZ (k len : Nat) : OPS Tau := .inr (fun s => match s with
  | (L, .int v :: .int i :: .ref a :: st, (o, ad, A, B)) => some (a = ad k ∧ vp_in i len, L, st, (o, ad, upA A k i.toNatClampNeg (vp_nar .boolean v), B))
  | _ => none)
def tSL (k len : Nat) : OPS Tau := .inr (fun s => match s with
  | (L, .long v :: .int i :: .ref a :: st, (o, ad, A, B)) => some (a = ad k ∧ vp_in i len, L, st, (o, ad, A, upB B k i.toNatClampNeg v))
  | _ => none)
theorem t_getR {f : Nat} (hf1 : f < 41) (hv : ∀ x : Tau, (twFs x)[f]? = some (.ref (x.adr f))) (hl : Cond.fieldLink M.y.cls idx (TX4 f).1 (TX4 f).2.1 (TX4 f).2.2.1 ∈ lw_all) (hd : decode M.cc pc = .ok (.getfield idx, 3)) : JStp TP M pc (pc + 3) (tR f) := by
  intro X R Z k n L st x cnd L' st' x' hf hc kk h hp
  dsimp only at hf
  split at hf
  · rename_i heq
    cases heq
    simp only [Option.some.injEq, Prod.mk.injEq] at hf
    obtain ⟨rfl, rfl, rfl, rfl⟩ := hf
    subst hc
    exact J.getf clsX4 rfl hp.1 hf1 (hv _) hl hd (kk h hp)
  · cases hf
theorem t_getI {f : Nat} (hf1 : f < 41) (hv : ∀ x : Tau, (twFs x)[f]? = some (.int (x.A 0 f))) (hl : Cond.fieldLink M.y.cls idx (TX4 f).1 (TX4 f).2.1 (TX4 f).2.2.1 ∈ lw_all) (hd : decode M.cc pc = .ok (.getfield idx, 3)) : JStp TP M pc (pc + 3) (tI f) := by
  intro X R Z k n L st x cnd L' st' x' hf hc kk h hp
  dsimp only at hf
  split at hf
  · rename_i heq
    cases heq
    simp only [Option.some.injEq, Prod.mk.injEq] at hf
    obtain ⟨rfl, rfl, rfl, rfl⟩ := hf
    subst hc
    exact J.getf clsX4 rfl hp.1 hf1 (hv _) hl hd (kk h hp)
  · cases hf
theorem t_getJ {f : Nat} (hf1 : f < 41) (hv : ∀ x : Tau, (twFs x)[f]? = some (.long (x.B f 0))) (hl : Cond.fieldLink M.y.cls idx (TX4 f).1 (TX4 f).2.1 (TX4 f).2.2.1 ∈ lw_all) (hd : decode M.cc pc = .ok (.getfield idx, 3)) : JStp TP M pc (pc + 3) (tJ f) := by
  intro X R Z k n L st x cnd L' st' x' hf hc kk h hp
  dsimp only at hf
  split at hf
  · rename_i heq
    cases heq
    simp only [Option.some.injEq, Prod.mk.injEq] at hf
    obtain ⟨rfl, rfl, rfl, rfl⟩ := hf
    subst hc
    exact J.getf clsX4 rfl hp.1 hf1 (hv _) hl hd (kk h hp)
  · cases hf
theorem t_putI {f : Nat} (hf1 : f < 41) (hfin : (TX4 f).2.2.2 = false) (hty : tyX4 f = .int) (hz : ∀ (x : Tau) v, (twFs x).set f (.int v) = twFs (x.setA 0 f v)) (hl : Cond.fieldLink M.y.cls idx (TX4 f).1 (TX4 f).2.1 (TX4 f).2.2.1 ∈ lw_all) (hd : decode M.cc pc = .ok (.putfield idx, 3)) : JStp TP M pc (pc + 3) (tPI f) := by
  intro X R Z k n L st x cnd L' st' x' hf hc kk h hp
  dsimp only at hf
  split at hf
  · rename_i heq
    cases heq
    simp only [Option.some.injEq, Prod.mk.injEq] at hf
    obtain ⟨rfl, rfl, rfl, rfl⟩ := hf
    subst hc
    refine J.putf clsX4 rfl hp.1 hf1 hf1 hfin (by rw [hty]; rfl) (by rw [hty]; rfl) hl hd ?_
    rw [hz]
    exact kk _ (hp.setS rfl rfl (fun j hj => va_up_ne _ _ (by rintro rfl; cases hj)) (fun j hj => rfl))
  · cases hf
theorem t_putZ {f : Nat} (hf1 : f < 41) (hfin : (TX4 f).2.2.2 = false) (hty : tyX4 f = .boolean) (hz : ∀ (x : Tau) v, (twFs x).set f (.int v) = twFs (x.setA 0 f v)) (hl : Cond.fieldLink M.y.cls idx (TX4 f).1 (TX4 f).2.1 (TX4 f).2.2.1 ∈ lw_all) (hd : decode M.cc pc = .ok (.putfield idx, 3)) : JStp TP M pc (pc + 3) (tPZ f) := by
  intro X R Z k n L st x cnd L' st' x' hf hc kk h hp
  dsimp only at hf
  split at hf
  · rename_i heq
    cases heq
    simp only [Option.some.injEq, Prod.mk.injEq] at hf
    obtain ⟨rfl, rfl, rfl, rfl⟩ := hf
    obtain ⟨e, h1, h2⟩ := hc
    subst e
    refine J.putf clsX4 rfl hp.1 hf1 hf1 hfin (by rw [hty]; exact h1) (by rw [hty]; exact h2) hl hd ?_
    rw [hz]
    exact kk _ (hp.setS rfl rfl (fun j hj => va_up_ne _ _ (by rintro rfl; cases hj)) (fun j hj => rfl))
  · cases hf
theorem t_putJ {f : Nat} (hf1 : f < 41) (hfin : (TX4 f).2.2.2 = false) (hnf : twIs f = false) (hty : tyX4 f = .long) (hz : ∀ (x : Tau) v, (twFs x).set f (.long v) = twFs (x.setB f 0 v)) (hl : Cond.fieldLink M.y.cls idx (TX4 f).1 (TX4 f).2.1 (TX4 f).2.2.1 ∈ lw_all) (hd : decode M.cc pc = .ok (.putfield idx, 3)) : JStp TP M pc (pc + 3) (tPJ f) := by
  intro X R Z k n L st x cnd L' st' x' hf hc kk h hp
  dsimp only at hf
  split at hf
  · rename_i heq
    cases heq
    simp only [Option.some.injEq, Prod.mk.injEq] at hf
    obtain ⟨rfl, rfl, rfl, rfl⟩ := hf
    subst hc
    refine J.putf clsX4 rfl hp.1 hf1 hf1 hfin (by rw [hty]; rfl) (by rw [hty]; rfl) hl hd ?_
    rw [hz]
    exact kk _ (hp.setS rfl rfl (fun j hj => rfl) (fun j hj => va_up_ne _ _ (by rintro rfl; rw [hnf] at hj; cases hj)))
  · cases hf
theorem t_iald {f len : Nat} (ha : twArr f = some (len, 0)) (hd : decode M.cc pc = .ok (.iaload, 1)) : JStp TP M pc (pc + 1) (tAI f len) := by
  intro X R Z k n L st x cnd L' st' x' hf hc kk h hp
  dsimp only at hf
  split at hf
  · rename_i heq
    cases heq
    simp only [Option.some.injEq, Prod.mk.injEq] at hf
    obtain ⟨rfl, rfl, rfl, rfl⟩ := hf
    obtain ⟨e, h1⟩ := hc
    subst e
    exact J.iald (hp.2.1 f len 0 ha) h1 hd (kk h hp)
  · cases hf
theorem t_bald {f len : Nat} (ha : twArr f = some (len, 2)) (hd : decode M.cc pc = .ok (.baload, 1)) : JStp TP M pc (pc + 1) (tAI f len) := by
  intro X R Z k n L st x cnd L' st' x' hf hc kk h hp
  dsimp only at hf
  split at hf
  · rename_i heq
    cases heq
    simp only [Option.some.injEq, Prod.mk.injEq] at hf
    obtain ⟨rfl, rfl, rfl, rfl⟩ := hf
    obtain ⟨e, h1⟩ := hc
    subst e
    exact J.bald (hp.2.1 f len 2 ha) h1 hd (kk h hp)
  · cases hf
theorem t_zald {f len : Nat} (ha : twArr f = some (len, 4)) (hd : decode M.cc pc = .ok (.baload, 1)) : JStp TP M pc (pc + 1) (tAI f len) := by
  intro X R Z k n L st x cnd L' st' x' hf hc kk h hp
  dsimp only at hf
  split at hf
  · rename_i heq
    cases heq
    simp only [Option.some.injEq, Prod.mk.injEq] at hf
    obtain ⟨rfl, rfl, rfl, rfl⟩ := hf
    obtain ⟨e, h1⟩ := hc
    subst e
    exact J.zald (hp.2.1 f len 4 ha) h1 hd (kk h hp)
  · cases hf
theorem t_lald {f len : Nat} (ha : twLArr f = some len) (hd : decode M.cc pc = .ok (.laload, 1)) : JStp TP M pc (pc + 1) (tAL f len) := by
  intro X R Z k n L st x cnd L' st' x' hf hc kk h hp
  dsimp only at hf
  split at hf
  · rename_i heq
    cases heq
    simp only [Option.some.injEq, Prod.mk.injEq] at hf
    obtain ⟨rfl, rfl, rfl, rfl⟩ := hf
    obtain ⟨e, h1⟩ := hc
    subst e
    exact J.lald (hp.2.2.1 f len ha) h1 hd (kk h hp)
  · cases hf
theorem t_iast {f len : Nat} (ha : twArr f = some (len, 0)) (hd : decode M.cc pc = .ok (.iastore, 1)) : JStp TP M pc (pc + 1) (tSI f len) := by
  intro X R Z k n L st x cnd L' st' x' hf hc kk h hp
  dsimp only at hf
  split at hf
  · rename_i heq
    cases heq
    simp only [Option.some.injEq, Prod.mk.injEq] at hf
    obtain ⟨rfl, rfl, rfl, rfl⟩ := hf
    obtain ⟨e, h1⟩ := hc
    subst e
    exact J.iast (hp.2.1 f len 0 ha) h1 hd (kk _ (hp.setA ha))
  · cases hf
theorem t_bast {f len : Nat} (ha : twArr f = some (len, 2)) (hd : decode M.cc pc = .ok (.bastore, 1)) : JStp TP M pc (pc + 1) (tSB f len) := by
  intro X R Z k n L st x cnd L' st' x' hf hc kk h hp
  dsimp only at hf
  split at hf
  · rename_i heq
    cases heq
    simp only [Option.some.injEq, Prod.mk.injEq] at hf
    obtain ⟨rfl, rfl, rfl, rfl⟩ := hf
    obtain ⟨e, h1⟩ := hc
    subst e
    exact J.bast (hp.2.1 f len 2 ha) h1 hd (kk _ (hp.setA ha))
  · cases hf
theorem t_zast {f len : Nat} (ha : twArr f = some (len, 4)) (hd : decode M.cc pc = .ok (.bastore, 1)) : JStp TP M pc (pc + 1) (tSZ f len) := by
  intro X R Z k n L st x cnd L' st' x' hf hc kk h hp
  dsimp only at hf
  split at hf
  · rename_i heq
    cases heq
    simp only [Option.some.injEq, Prod.mk.injEq] at hf
    obtain ⟨rfl, rfl, rfl, rfl⟩ := hf
    obtain ⟨e, h1⟩ := hc
    subst e
    exact J.zast (hp.2.1 f len 4 ha) h1 hd (kk _ (hp.setA ha))
  · cases hf
theorem t_last {f len : Nat} (ha : twLArr f = some len) (hd : decode M.cc pc = .ok (.lastore, 1)) : JStp TP M pc (pc + 1) (tSL f len) := by
  intro X R Z k n L st x cnd L' st' x' hf hc kk h hp
  dsimp only at hf
  split at hf
  · rename_i heq
    cases heq
    simp only [Option.some.injEq, Prod.mk.injEq] at hf
    obtain ⟨rfl, rfl, rfl, rfl⟩ := hf
    obtain ⟨e, h1⟩ := hc
    subst e
    exact J.last (hp.2.2.1 f len ha) h1 hd (kk _ (hp.setB ha))
  · cases hf
end TwSteps
def wt8 (st : List Value) : Bool := Nat.ble (st.map fun v => v.category).sum 8
/-- the end of a method with a functional contract -/
abbrev TZ (X : Cx) (r : Option Value) (y : Tau) : ZT := ZQ X 0 0 (fun o h' => o = .returned r ∧ TP X y h')
section TwRet
variable {X : Cx} {M : MD} {R : Room} {pc : Nat} {L : List (Option Value)} {x y : Tau} {r : Option Value}
theorem t_iret {v : Int32} (hd : decode M.cc pc = .ok (.ireturn, 1)) (hr : M.ret = some .int) (h1 : r = some (.int v)) (h2 : y = x) : JS TP X M R (TZ X r y) 0 0 pc L [.int v] x := by
  intro h hp; subst h1; subst h2
  exact J.iret hd hr (Nat.le_refl _) (Nat.le_refl _) ⟨rfl, hp⟩
theorem t_zret {v : Int32} (hd : decode M.cc pc = .ok (.ireturn, 1)) (hr : M.ret = some .boolean) (hz : narrow .boolean (.int v) = .int v) (h1 : r = some (.int v)) (h2 : y = x) : JS TP X M R (TZ X r y) 0 0 pc L [.int v] x := by
  intro h hp; subst h1; subst h2
  exact J.zret hd hr hz (Nat.le_refl _) (Nat.le_refl _) ⟨rfl, hp⟩
theorem t_lret {v : Int64} (hd : decode M.cc pc = .ok (.lreturn, 1)) (hr : M.ret = some .long) (h1 : r = some (.long v)) (h2 : y = x) : JS TP X M R (TZ X r y) 0 0 pc L [.long v] x := by
  intro h hp; subst h1; subst h2
  exact J.lret hd hr (Nat.le_refl _) (Nat.le_refl _) ⟨rfl, hp⟩
theorem t_vret (hd : decode M.cc pc = .ok (.return_, 1)) (hr : M.ret = none) (h1 : r = none) (h2 : y = x) : JS TP X M R (TZ X r y) 0 0 pc L [] x := by
  intro h hp; subst h1; subst h2
  exact J.vret hd hr (Nat.le_refl _) (Nat.le_refl _) ⟨rfl, hp⟩
end TwRet
