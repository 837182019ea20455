set_option maxRecDepth 100000
/-! ===== ops of the component's picture; contracts, calls, returns ===== -/
theorem SqL.one {E : Nat → Nat} (h : SqL E 1) : E 20 = 1 := by
  rcases h with q | q | q
  · cases q
  · exact q.2
  · omega
section OpsB2
variable {M : MD} {pc idx : Nat}
def cI (i f : Nat) : OPS Cv := .inr (fun s => match s with
  | (L, .ref a :: st, (ad, A, B, sk, sw, E)) => some (a = ad i, L, .int (A i f) :: st, (ad, A, B, sk, sw, E))
  | _ => none)
theorem c_I {i f : Nat} {C : String} {T : u_T} {N ci : Nat} {ty : Nat → FieldType} (hC : ClsOK C T N ty) (hc' : vwCl[ci]? = some (C, T, N)) (hf1 : f < N) (hv : ∀ (X : Cx) ad sk E a b, ∃ fs, celK X ad sk E i a b = some (.inr (ci, fs)) ∧ fs[f]? = some (.int (a f))) (hl : Lk M idx (T f)) (hd : decode M.cc pc = .ok (.getfield idx, 3)) : JStp CP M pc (pc + 3) (cI i f) := by
  intro X R Z k n L st x cnd L' st' x' hf hc kk h hp
  dsimp only at hf
  split at hf
  · rename_i heq
    cases heq
    simp only [Option.some.injEq, Prod.mk.injEq] at hf
    obtain ⟨rfl, rfl, rfl, rfl⟩ := hf
    subst hc
    obtain ⟨fs, e1, e2⟩ := hv X _ _ _ (_ : Nat → Int32) (_ : Nat → Int64)
    exact J.getfE hp.1.1 hC hc' (hp.at i e1) hf1 e2 hl hd (kk h hp)
  · cases hf
def cL (i f : Nat) : OPS Cv := .inr (fun s => match s with
  | (L, .ref a :: st, (ad, A, B, sk, sw, E)) => some (a = ad i, L, .long (B i f) :: st, (ad, A, B, sk, sw, E))
  | _ => none)
theorem c_L {i f : Nat} {C : String} {T : u_T} {N ci : Nat} {ty : Nat → FieldType} (hC : ClsOK C T N ty) (hc' : vwCl[ci]? = some (C, T, N)) (hf1 : f < N) (hv : ∀ (X : Cx) ad sk E a b, ∃ fs, celK X ad sk E i a b = some (.inr (ci, fs)) ∧ fs[f]? = some (.long (b f))) (hl : Lk M idx (T f)) (hd : decode M.cc pc = .ok (.getfield idx, 3)) : JStp CP M pc (pc + 3) (cL i f) := by
  intro X R Z k n L st x cnd L' st' x' hf hc kk h hp
  dsimp only at hf
  split at hf
  · rename_i heq
    cases heq
    simp only [Option.some.injEq, Prod.mk.injEq] at hf
    obtain ⟨rfl, rfl, rfl, rfl⟩ := hf
    subst hc
    obtain ⟨fs, e1, e2⟩ := hv X _ _ _ (_ : Nat → Int32) (_ : Nat → Int64)
    exact J.getfE hp.1.1 hC hc' (hp.at i e1) hf1 e2 hl hd (kk h hp)
  · cases hf
def cR (i f m : Nat) : OPS Cv := .inr (fun s => match s with
  | (L, .ref a :: st, (ad, A, B, sk, sw, E)) => some (a = ad i, L, .ref (ad m) :: st, (ad, A, B, sk, sw, E))
  | _ => none)
theorem c_R {i f m : Nat} {C : String} {T : u_T} {N ci : Nat} {ty : Nat → FieldType} (hC : ClsOK C T N ty) (hc' : vwCl[ci]? = some (C, T, N)) (hf1 : f < N) (hv : ∀ (X : Cx) ad sk E a b, ∃ fs, celK X ad sk E i a b = some (.inr (ci, fs)) ∧ fs[f]? = some (.ref (ad m))) (hl : Lk M idx (T f)) (hd : decode M.cc pc = .ok (.getfield idx, 3)) : JStp CP M pc (pc + 3) (cR i f m) := by
  intro X R Z k n L st x cnd L' st' x' hf hc kk h hp
  dsimp only at hf
  split at hf
  · rename_i heq
    cases heq
    simp only [Option.some.injEq, Prod.mk.injEq] at hf
    obtain ⟨rfl, rfl, rfl, rfl⟩ := hf
    subst hc
    obtain ⟨fs, e1, e2⟩ := hv X _ _ _ (_ : Nat → Int32) (_ : Nat → Int64)
    exact J.getfE hp.1.1 hC hc' (hp.at i e1) hf1 e2 hl hd (kk h hp)
  · cases hf
def cQ0  : OPS Cv := .inr (fun s => match s with
  | (L, .ref a :: st, (ad, A, B, sk, sw, E)) => some (a = ad 0, L, .ref (sk 0 0) :: st, (ad, A, B, sk, sw, E))
  | _ => none)
theorem c_Q0  (hl : Lk M idx (TX0 1)) (hd : decode M.cc pc = .ok (.getfield idx, 3)) : JStp CP M pc (pc + 3) (cQ0 ) := by
  intro X R Z k n L st x cnd L' st' x' hf hc kk h hp
  dsimp only at hf
  split at hf
  · rename_i heq
    cases heq
    simp only [Option.some.injEq, Prod.mk.injEq] at hf
    obtain ⟨rfl, rfl, rfl, rfl⟩ := hf
    subst hc
    exact J.getfE (f := 1) hp.1.1 clsX0 rfl (hp.at 0 rfl) (by decide) rfl hl hd (kk h hp)
  · cases hf
def cQ1  : OPS Cv := .inr (fun s => match s with
  | (L, .ref a :: st, (ad, A, B, sk, sw, E)) => some (a = ad 3 ∧ SqL E 1, L, .ref (sk 1 0) :: st, (ad, A, B, sk, sw, E))
  | _ => none)
theorem c_Q1  (hl : Lk M idx (TX3 12)) (hd : decode M.cc pc = .ok (.getfield idx, 3)) : JStp CP M pc (pc + 3) (cQ1 ) := by
  intro X R Z k n L st x cnd L' st' x' hf hc kk h hp
  dsimp only at hf
  split at hf
  · rename_i heq
    cases heq
    simp only [Option.some.injEq, Prod.mk.injEq] at hf
    obtain ⟨rfl, rfl, rfl, rfl⟩ := hf
    obtain ⟨hc, hs⟩ := hc
    subst hc
    refine J.getfE (f := 12) hp.1.1 clsX3 rfl (hp.at 3 rfl) (by decide) ?_ hl hd (kk h hp)
    simp only [List.getElem?_cons_succ, List.getElem?_cons_zero, hs.one, if_true]
  · cases hf
def cPI (i f : Nat) : OPS Cv := .inr (fun s => match s with
  | (L, .int v :: .ref a :: st, (ad, A, B, sk, sw, E)) => some (a = ad i, L, st, (ad, upA A i f v, B, sk, sw, E))
  | _ => none)
theorem c_PI {i f : Nat} {C : String} {T : u_T} {N ci : Nat} {ty : Nat → FieldType} (hC : ClsOK C T N ty) (hc' : vwCl[ci]? = some (C, T, N)) (hf1 : f < N) (hfin : (T f).2.2.2 = false) (hty : ty f = .int) (hv : ∀ (X : Cx) ad sk E a b v, ∃ fs, celK X ad sk E i a b = some (.inr (ci, fs)) ∧ celK X ad sk E i (va_up a f v) b = some (.inr (ci, fs.set f (.int v))) ∧ f < fs.length) (hl : Lk M idx (T f)) (hd : decode M.cc pc = .ok (.putfield idx, 3)) : JStp CP M pc (pc + 3) (cPI i f) := by
  intro X R Z k n L st x cnd L' st' x' hf hc kk h hp
  dsimp only at hf
  split at hf
  · rename_i heq
    cases heq
    simp only [Option.some.injEq, Prod.mk.injEq] at hf
    obtain ⟨rfl, rfl, rfl, rfl⟩ := hf
    subst hc
    obtain ⟨fs, e1, e2, e3⟩ := hv X _ _ _ (_ : Nat → Int32) (_ : Nat → Int64) _
    refine J.putfE hp.1.1 hC hc' (hp.at i e1) hf1 e3 hfin (by rw [hty]; rfl) (by rw [hty]; rfl) hl hd (kk _ (hp.upd (k := i) (fun j hj => upA_ne hj) (fun j hj => rfl) ?_))
    rw [show upA _ i f _ i = va_up _ f _ from va_up_self _ _ _]; exact e2
  · cases hf
def cPZ (i f : Nat) : OPS Cv := .inr (fun s => match s with
  | (L, .int v :: .ref a :: st, (ad, A, B, sk, sw, E)) => some (a = ad i ∧ narrow .boolean (.int v) = .int v ∧ fits .boolean (.int v) = true, L, st, (ad, upA A i f v, B, sk, sw, E))
  | _ => none)
theorem c_PZ {i f : Nat} {C : String} {T : u_T} {N ci : Nat} {ty : Nat → FieldType} (hC : ClsOK C T N ty) (hc' : vwCl[ci]? = some (C, T, N)) (hf1 : f < N) (hfin : (T f).2.2.2 = false) (hty : ty f = .boolean) (hv : ∀ (X : Cx) ad sk E a b v, ∃ fs, celK X ad sk E i a b = some (.inr (ci, fs)) ∧ celK X ad sk E i (va_up a f v) b = some (.inr (ci, fs.set f (.int v))) ∧ f < fs.length) (hl : Lk M idx (T f)) (hd : decode M.cc pc = .ok (.putfield idx, 3)) : JStp CP M pc (pc + 3) (cPZ i f) := by
  intro X R Z k n L st x cnd L' st' x' hf hc kk h hp
  dsimp only at hf
  split at hf
  · rename_i heq
    cases heq
    simp only [Option.some.injEq, Prod.mk.injEq] at hf
    obtain ⟨rfl, rfl, rfl, rfl⟩ := hf
    obtain ⟨hc, hn1, hn2⟩ := hc
    subst hc
    obtain ⟨fs, e1, e2, e3⟩ := hv X _ _ _ (_ : Nat → Int32) (_ : Nat → Int64) _
    refine J.putfE hp.1.1 hC hc' (hp.at i e1) hf1 e3 hfin (by rw [hty]; exact hn1) (by rw [hty]; exact hn2) hl hd (kk _ (hp.upd (k := i) (fun j hj => upA_ne hj) (fun j hj => rfl) ?_))
    rw [show upA _ i f _ i = va_up _ f _ from va_up_self _ _ _]; exact e2
  · cases hf
def cPL (i f : Nat) : OPS Cv := .inr (fun s => match s with
  | (L, .long v :: .ref a :: st, (ad, A, B, sk, sw, E)) => some (a = ad i, L, st, (ad, A, upB B i f v, sk, sw, E))
  | _ => none)
theorem c_PL {i f : Nat} {C : String} {T : u_T} {N ci : Nat} {ty : Nat → FieldType} (hC : ClsOK C T N ty) (hc' : vwCl[ci]? = some (C, T, N)) (hf1 : f < N) (hfin : (T f).2.2.2 = false) (hty : ty f = .long) (hv : ∀ (X : Cx) ad sk E a b v, ∃ fs, celK X ad sk E i a b = some (.inr (ci, fs)) ∧ celK X ad sk E i a (va_up b f v) = some (.inr (ci, fs.set f (.long v))) ∧ f < fs.length) (hl : Lk M idx (T f)) (hd : decode M.cc pc = .ok (.putfield idx, 3)) : JStp CP M pc (pc + 3) (cPL i f) := by
  intro X R Z k n L st x cnd L' st' x' hf hc kk h hp
  dsimp only at hf
  split at hf
  · rename_i heq
    cases heq
    simp only [Option.some.injEq, Prod.mk.injEq] at hf
    obtain ⟨rfl, rfl, rfl, rfl⟩ := hf
    subst hc
    obtain ⟨fs, e1, e2, e3⟩ := hv X _ _ _ (_ : Nat → Int32) (_ : Nat → Int64) _
    refine J.putfE hp.1.1 hC hc' (hp.at i e1) hf1 e3 hfin (by rw [hty]; rfl) (by rw [hty]; rfl) hl hd (kk _ (hp.upd (k := i) (fun j hj => rfl) (fun j hj => va_up_ne _ _ hj) ?_))
    first | (rw [va_up_self]; exact e2) | (rw [show upB _ i f _ i = va_up _ f _ from va_up_self _ _ _]; exact e2)
  · cases hf
theorem celK_arr {X : Cx} {ad : Nat → Nat} {sk : Nat → Nat → Nat} {E : Nat → Nat} {k n t : Nat} {a : Nat → Int32} {b : Nat → Int64} (ha : arrK E k = some (n, t)) : celK X ad sk E k a b = some (.inl (X.dA t, n, .inl a)) := by unfold celK; rw [ha]
def cAI (i len : Nat) : OPS Cv := .inr (fun s => match s with
  | (L, .int j :: .ref a :: st, (ad, A, B, sk, sw, E)) => some (a = ad i ∧ vp_in j len, L, .int (A i j.toNatClampNeg) :: st, (ad, A, B, sk, sw, E))
  | _ => none)
theorem c_iald {i len : Nat} (ha : ∀ E, arrK E i = some (len, 0)) (hd : decode M.cc pc = .ok (.iaload, 1)) : JStp CP M pc (pc + 1) (cAI i len) := by
  intro X R Z k n L st x cnd L' st' x' hf hc kk h hp
  dsimp only at hf
  split at hf
  · rename_i heq
    cases heq
    simp only [Option.some.injEq, Prod.mk.injEq] at hf
    obtain ⟨rfl, rfl, rfl, rfl⟩ := hf
    obtain ⟨hc, hi⟩ := hc
    subst hc
    exact J.iald (hp.at i (celK_arr (ha _))) hi hd (kk h hp)
  · cases hf
theorem c_bald {i len : Nat} (ha : ∀ E, arrK E i = some (len, 2)) (hd : decode M.cc pc = .ok (.baload, 1)) : JStp CP M pc (pc + 1) (cAI i len) := by
  intro X R Z k n L st x cnd L' st' x' hf hc kk h hp
  dsimp only at hf
  split at hf
  · rename_i heq
    cases heq
    simp only [Option.some.injEq, Prod.mk.injEq] at hf
    obtain ⟨rfl, rfl, rfl, rfl⟩ := hf
    obtain ⟨hc, hi⟩ := hc
    subst hc
    exact J.bald (hp.at i (celK_arr (ha _))) hi hd (kk h hp)
  · cases hf
theorem c_zald {i len : Nat} (ha : ∀ E, arrK E i = some (len, 4)) (hd : decode M.cc pc = .ok (.baload, 1)) : JStp CP M pc (pc + 1) (cAI i len) := by
  intro X R Z k n L st x cnd L' st' x' hf hc kk h hp
  dsimp only at hf
  split at hf
  · rename_i heq
    cases heq
    simp only [Option.some.injEq, Prod.mk.injEq] at hf
    obtain ⟨rfl, rfl, rfl, rfl⟩ := hf
    obtain ⟨hc, hi⟩ := hc
    subst hc
    exact J.zald (hp.at i (celK_arr (ha _))) hi hd (kk h hp)
  · cases hf
def cSI (i len : Nat) : OPS Cv := .inr (fun s => match s with
  | (L, .int v :: .int j :: .ref a :: st, (ad, A, B, sk, sw, E)) => some (a = ad i ∧ vp_in j len, L, st, (ad, upA A i j.toNatClampNeg v, B, sk, sw, E))
  | _ => none)
theorem c_iast {i len : Nat} (ha : ∀ E, arrK E i = some (len, 0)) (hd : decode M.cc pc = .ok (.iastore, 1)) : JStp CP M pc (pc + 1) (cSI i len) := by
  intro X R Z k n L st x cnd L' st' x' hf hc kk h hp
  dsimp only at hf
  split at hf
  · rename_i heq
    cases heq
    simp only [Option.some.injEq, Prod.mk.injEq] at hf
    obtain ⟨rfl, rfl, rfl, rfl⟩ := hf
    obtain ⟨hc, hi⟩ := hc
    subst hc
    refine J.iast (hp.at i (celK_arr (ha _))) hi hd (kk _ (hp.upd (k := i) (fun j hj => upA_ne hj) (fun j hj => rfl) ?_))
    rw [celK_arr (ha _), show upA _ i _ _ i = va_up _ _ _ from va_up_self _ _ _]
    rfl
  · cases hf
def cSZ (i len : Nat) : OPS Cv := .inr (fun s => match s with
  | (L, .int v :: .int j :: .ref a :: st, (ad, A, B, sk, sw, E)) => some (a = ad i ∧ vp_in j len, L, st, (ad, upA A i j.toNatClampNeg (vp_nar .boolean v), B, sk, sw, E))
  | _ => none)
theorem c_zast {i len : Nat} (ha : ∀ E, arrK E i = some (len, 4)) (hd : decode M.cc pc = .ok (.bastore, 1)) : JStp CP M pc (pc + 1) (cSZ i len) := by
  intro X R Z k n L st x cnd L' st' x' hf hc kk h hp
  dsimp only at hf
  split at hf
  · rename_i heq
    cases heq
    simp only [Option.some.injEq, Prod.mk.injEq] at hf
    obtain ⟨rfl, rfl, rfl, rfl⟩ := hf
    obtain ⟨hc, hi⟩ := hc
    subst hc
    refine J.zast (hp.at i (celK_arr (ha _))) hi hd (kk _ (hp.upd (k := i) (fun j hj => upA_ne hj) (fun j hj => rfl) ?_))
    rw [celK_arr (ha _), show upA _ i _ _ i = va_up _ _ _ from va_up_self _ _ _]
    rfl
  · cases hf
def cSB (i len : Nat) : OPS Cv := .inr (fun s => match s with
  | (L, .int v :: .int j :: .ref a :: st, (ad, A, B, sk, sw, E)) => some (a = ad i ∧ vp_in j len, L, st, (ad, upA A i j.toNatClampNeg (vp_nar .byte v), B, sk, sw, E))
  | _ => none)
theorem c_bast {i len : Nat} (ha : ∀ E, arrK E i = some (len, 2)) (hd : decode M.cc pc = .ok (.bastore, 1)) : JStp CP M pc (pc + 1) (cSB i len) := by
  intro X R Z k n L st x cnd L' st' x' hf hc kk h hp
  dsimp only at hf
  split at hf
  · rename_i heq
    cases heq
    simp only [Option.some.injEq, Prod.mk.injEq] at hf
    obtain ⟨rfl, rfl, rfl, rfl⟩ := hf
    obtain ⟨hc, hi⟩ := hc
    subst hc
    refine J.bast (hp.at i (celK_arr (ha _))) hi hd (kk _ (hp.upd (k := i) (fun j hj => upA_ne hj) (fun j hj => rfl) ?_))
    rw [celK_arr (ha _), show upA _ i _ _ i = va_up _ _ _ from va_up_self _ _ _]
    rfl
  · cases hf
def cW (i base nr : Nat) : OPS Cv := .inr (fun s => match s with
  | (L, .int j :: .ref a :: st, (ad, A, B, sk, sw, E)) => some (a = ad i ∧ vp_in j nr, L, .ref (ad (base + j.toNatClampNeg)) :: st, (ad, A, B, sk, sw, E))
  | _ => none)
theorem c_W {i base nr : Nat} {t : Nat} {ty : FieldType} (ht : ∀ X : Cx, (tysAll X)[t]? = some (X.dA t, .array ty)) (hv : ∀ (X : Cx) ad sk E a b, celK X ad sk E i a b = some (rfA X t nr (fun q => if q < nr then some (ad (base + q)) else none))) (hd : decode M.cc pc = .ok (.aaload, 1)) : JStp CP M pc (pc + 1) (cW i base nr) := by
  intro X R Z k n L st x cnd L' st' x' hf hc kk h hp
  dsimp only at hf
  split at hf
  · rename_i heq
    cases heq
    simp only [Option.some.injEq, Prod.mk.injEq] at hf
    obtain ⟨rfl, rfl, rfl, rfl⟩ := hf
    obtain ⟨hc, hi⟩ := hc
    subst hc
    refine J.aaldA (ht X) (hp.at i (hv _ _ _ _ _ _)) hi hd ?_
    rw [if_pos (Nat.not_le.mp fun q => hi (Or.inr q))]
    exact kk h hp
  · cases hf
def cWI (base nr len loc : Nat) : OPS Cv := .inr (fun s => match s with
  | (L, .int j :: .ref a :: st, (ad, A, B, sk, sw, E)) => match L[loc]? with
    | some (some (.int z)) => some (a = ad (base + z.toNatClampNeg) ∧ z.toNatClampNeg < nr ∧ vp_in j len, L, .int (A (base + z.toNatClampNeg) j.toNatClampNeg) :: st, (ad, A, B, sk, sw, E))
    | _ => none
  | _ => none)
theorem c_wiald {base nr len loc : Nat} (ha : ∀ E q, q < nr → arrK E (base + q) = some (len, 0)) (hd : decode M.cc pc = .ok (.iaload, 1)) : JStp CP M pc (pc + 1) (cWI base nr len loc) := by
  intro X R Z k n L st x cnd L' st' x' hf hc kk h hp
  dsimp only at hf
  split at hf
  · rename_i heq
    cases heq
    split at hf
    · simp only [Option.some.injEq, Prod.mk.injEq] at hf
      obtain ⟨rfl, rfl, rfl, rfl⟩ := hf
      obtain ⟨hc, hz, hi⟩ := hc
      subst hc
      exact J.iald (hp.at _ (celK_arr (ha _ _ hz))) hi hd (kk h hp)
    · cases hf
  · cases hf
theorem c_wzald {base nr len loc : Nat} (ha : ∀ E q, q < nr → arrK E (base + q) = some (len, 4)) (hd : decode M.cc pc = .ok (.baload, 1)) : JStp CP M pc (pc + 1) (cWI base nr len loc) := by
  intro X R Z k n L st x cnd L' st' x' hf hc kk h hp
  dsimp only at hf
  split at hf
  · rename_i heq
    cases heq
    split at hf
    · simp only [Option.some.injEq, Prod.mk.injEq] at hf
      obtain ⟨rfl, rfl, rfl, rfl⟩ := hf
      obtain ⟨hc, hz, hi⟩ := hc
      subst hc
      exact J.zald (hp.at _ (celK_arr (ha _ _ hz))) hi hd (kk h hp)
    · cases hf
  · cases hf
def cWS (base nr len loc : Nat) : OPS Cv := .inr (fun s => match s with
  | (L, .int v :: .int j :: .ref a :: st, (ad, A, B, sk, sw, E)) => match L[loc]? with
    | some (some (.int z)) => some (a = ad (base + z.toNatClampNeg) ∧ z.toNatClampNeg < nr ∧ vp_in j len, L, st, (ad, upA A (base + z.toNatClampNeg) j.toNatClampNeg v, B, sk, sw, E))
    | _ => none
  | _ => none)
theorem c_wiast {base nr len loc : Nat} (ha : ∀ E q, q < nr → arrK E (base + q) = some (len, 0)) (hd : decode M.cc pc = .ok (.iastore, 1)) : JStp CP M pc (pc + 1) (cWS base nr len loc) := by
  intro X R Z k n L st x cnd L' st' x' hf hc kk h hp
  dsimp only at hf
  split at hf
  · rename_i heq
    cases heq
    split at hf
    · simp only [Option.some.injEq, Prod.mk.injEq] at hf
      obtain ⟨rfl, rfl, rfl, rfl⟩ := hf
      obtain ⟨hc, hz, hi⟩ := hc
      subst hc
      refine J.iast (hp.at _ (celK_arr (ha _ _ hz))) hi hd (kk _ (hp.upd (k := _) (fun j hj => upA_ne hj) (fun j hj => rfl) ?_))
      rw [celK_arr (ha _ _ hz), show upA _ _ _ _ _ = va_up _ _ _ from va_up_self _ _ _]
      rfl
    · cases hf
  · cases hf
def cWZ (base nr len loc : Nat) : OPS Cv := .inr (fun s => match s with
  | (L, .int v :: .int j :: .ref a :: st, (ad, A, B, sk, sw, E)) => match L[loc]? with
    | some (some (.int z)) => some (a = ad (base + z.toNatClampNeg) ∧ z.toNatClampNeg < nr ∧ vp_in j len, L, st, (ad, upA A (base + z.toNatClampNeg) j.toNatClampNeg (vp_nar .boolean v), B, sk, sw, E))
    | _ => none
  | _ => none)
theorem c_wzast {base nr len loc : Nat} (ha : ∀ E q, q < nr → arrK E (base + q) = some (len, 4)) (hd : decode M.cc pc = .ok (.bastore, 1)) : JStp CP M pc (pc + 1) (cWZ base nr len loc) := by
  intro X R Z k n L st x cnd L' st' x' hf hc kk h hp
  dsimp only at hf
  split at hf
  · rename_i heq
    cases heq
    split at hf
    · simp only [Option.some.injEq, Prod.mk.injEq] at hf
      obtain ⟨rfl, rfl, rfl, rfl⟩ := hf
      obtain ⟨hc, hz, hi⟩ := hc
      subst hc
      refine J.zast (hp.at _ (celK_arr (ha _ _ hz))) hi hd (kk _ (hp.upd (k := _) (fun j hj => upA_ne hj) (fun j hj => rfl) ?_))
      rw [celK_arr (ha _ _ hz), show upA _ _ _ _ _ = va_up _ _ _ from va_up_self _ _ _]
      rfl
    · cases hf
  · cases hf
end OpsB2
/-- the contract of a method of the component, at given arguments -/
def RCc (X : Cx) (M : MD) (mc ms : Nat) (av : List Value) (x : Cv) (Q : Option Value → Cv → Prop) : Prop := ∀ h, CP X x h → Cg X M mc ms av h (fun oc h' => ∃ r x', oc = .returned r ∧ Q r x' ∧ CP X x' h')
abbrev ZC (X : Cx) (mc ms : Nat) (Q : Option Value → Cv → Prop) : ZT := ZQ X mc ms (fun oc h' => ∃ r x', oc = .returned r ∧ Q r x' ∧ CP X x' h')
theorem C_start {X : Cx} {M : MD} {mc ms : Nat} {av : List Value} {x : Cv} {Q : Option Value → Cv → Prop} {L : List (Option Value)} (pad : Nat) (hL : L = entL av ++ List.replicate pad none) (k : JS CP X M (rmOf M.lv mc ms) (ZC X mc ms Q) 0 0 0 L [] x) (hy : plainFor M.y = true := by first | exact plainFor_of_name (by decide) | decide +kernel) (hE : M.eh = noEH := by rfl) (hn : (lg_sl av).length ≤ M.nL := by exact Nat.le_of_ble_eq_true rfl) : RCc X M mc ms av x Q := fun h hp => Cg.of hy hE pad hL hn (k h hp)
section RetB2
variable {X : Cx} {M M' : MD} {R : Room} {Z : ZT} {mc ms k n pc idx : Nat} {L : List (Option Value)} {st As : List Value} {x : Cv} {Q : Option Value → Cv → Prop}
theorem c_iret {v : Int32} (hd : decode M.cc pc = .ok (.ireturn, 1)) (hr : M.ret = some .int) (hq : Q (some (.int v)) x) (hk : k ≤ mc := by omega) (hn : n ≤ ms := by omega) : JS CP X M R (ZC X mc ms Q) k n pc L [.int v] x :=
  fun h hp => J.iret hd hr hk hn ⟨_, _, rfl, hq, hp⟩
theorem c_zret {v : Int32} (hd : decode M.cc pc = .ok (.ireturn, 1)) (hr : M.ret = some .boolean) (hz : narrow .boolean (.int v) = .int v) (hq : Q (some (.int v)) x) (hk : k ≤ mc := by omega) (hn : n ≤ ms := by omega) : JS CP X M R (ZC X mc ms Q) k n pc L [.int v] x :=
  fun h hp => J.zret hd hr hz hk hn ⟨_, _, rfl, hq, hp⟩
theorem c_vret (hd : decode M.cc pc = .ok (.return_, 1)) (hr : M.ret = none) (hq : Q none x) (hk : k ≤ mc := by omega) (hn : n ≤ ms := by omega) : JS CP X M R (ZC X mc ms Q) k n pc L [] x :=
  fun h hp => J.vret hd hr hk hn ⟨_, _, rfl, hq, hp⟩
theorem c_aret {a : Nat} {rt : FieldType} (hd : decode M.cc pc = .ok (.areturn, 1)) (hr : M.ret = some rt) (hrt : (∃ n, rt = .object n) ∨ ∃ t, rt = .array t) (hq : Q (some (.ref a)) x) (hk : k ≤ mc := by omega) (hn : n ≤ ms := by omega) : JS CP X M R (ZC X mc ms Q) k n pc L [.ref a] x :=
  fun h hp => J.aret hd hr hrt (Or.inr ⟨_, rfl⟩) hk hn ⟨_, _, rfl, hq, hp⟩
/-- a call with room -/
theorem ccm {b ci nA : Nat} {q : vw_C} (hM : RCc X M' mc ms (.ref b :: As) x Q) (hrec : ∀ h, CP X x h → ∃ fs, h b = some (.inr (ci, fs))) (hci : vwCl[ci]? = some q) (hG : GoodIn lw_all (wsV M.y.cls idx q.1 M'.y (ws_ M'.y M'.cc M'.nL M'.ret))) (hd : decode M.cc pc = .ok (.invokevirtual idx, 3)) {st0 : List Value} (h0 : st0 = As.reverse ++ .ref b :: st) (hf : k + mc ≤ R.cells ∧ n + ms ≤ R.slots)
    (kk : ∀ r x', Q r x' → JS CP X M R Z (k + mc) (n + ms) (pc + 3) L (r.toList ++ st) x') (hy : hyS M' nA) (hyc : M'.y.cls = q.1 := by rfl) (hA : As.length = nA := by rfl) (hR : M'.lv + 1 ≤ M.lv ∧ M'.nL ≤ 421 := by decide) (hst : wt8 st = true := by rfl) : JS CP X M R Z k n pc L st0 x := by
  subst h0
  subst hA
  intro h hp
  obtain ⟨fs, hb⟩ := hrec h hp
  refine J.callV (hM h hp) (fun o h' q => ⟨q.choose, q.choose_spec.choose_spec.1⟩) hb hci hd hG ⟨hyc, hy⟩ hR hf (Nat.le_of_ble_eq_true hst) (fun v h' q => ?_)
  obtain ⟨r, x', q1, q2, q3⟩ := q
  cases q1
  exact kk _ x' q2 h' q3
/-- a call that makes nothing -/
theorem cc0 {b ci nA : Nat} {q : vw_C} (hM : RCc X M' 0 0 (.ref b :: As) x Q) (hrec : ∀ h, CP X x h → ∃ fs, h b = some (.inr (ci, fs))) (hci : vwCl[ci]? = some q) (hG : GoodIn lw_all (wsV M.y.cls idx q.1 M'.y (ws_ M'.y M'.cc M'.nL M'.ret))) (hd : decode M.cc pc = .ok (.invokevirtual idx, 3)) {st0 : List Value} (h0 : st0 = As.reverse ++ .ref b :: st)
    (kk : ∀ r x', Q r x' → JS CP X M R Z k n (pc + 3) L (r.toList ++ st) x') (hy : hyS M' nA) (hyc : M'.y.cls = q.1 := by rfl) (hA : As.length = nA := by rfl) (hR : M'.lv + 1 ≤ M.lv ∧ M'.nL ≤ 421 := by decide) (hst : wt8 st = true := by rfl) : JS CP X M R Z k n pc L st0 x := by
  intro h hp p e s m args below meth c B rk H locs ls hW hS hL
  exact ccm hM hrec hci hG hd h0 ⟨rk.2.2.1, rk.2.2.2⟩ kk hy hyc hA hR hst h hp p e s m args below meth c B rk H locs ls hW hS hL
end RetB2
section FnB2
variable {M M' : MD} {pc idx ci : Nat}
def FC_V (M : MD) (ci : Nat) (F : Nat → Cv → Prop × Value) : Prop := ∀ (X : Cx) (o : Nat)  (x : Cv), (F o  x).1 → RCc X M 0 0 [.ref o] x (fun r x' => r = some (F o  x).2 ∧ x' = x) ∧ ∀ h, CP X x h → ∃ fs, h o = some (.inr (ci, fs))
def cF_V (F : Nat → Cv → Prop × Value) : OPS Cv := .inr (fun s => match s with
  | (L, .ref o :: st, x) => match wt8 st with
    | true => match F o  x with
      | (P, v) => some (P, L, v :: st, x)
    | false => none
  | _ => none)
theorem c_F_V {F : Nat → Cv → Prop × Value} {q : vw_C} (hM : FC_V M' ci F) (hci : vwCl[ci]? = some q) (hG : GoodIn lw_all (wsV M.y.cls idx q.1 M'.y (ws_ M'.y M'.cc M'.nL M'.ret))) (hy : hyS M' 0) (hyc : M'.y.cls = q.1) (hR : M'.lv + 1 ≤ M.lv ∧ M'.nL ≤ 421) (hd : decode M.cc pc = .ok (.invokevirtual idx, 3)) : JStp CP M pc (pc + 3) (cF_V F) := by
  intro X R Z k n L st x cnd L' st' x' hf hc kk
  dsimp only at hf
  split at hf
  · rename_i heq
    cases heq
    split at hf
    · rename_i hw
      simp only [Option.some.injEq, Prod.mk.injEq] at hf
      obtain ⟨rfl, rfl, rfl, rfl⟩ := hf
      obtain ⟨m1, m2⟩ := hM X _ _ hc
      refine cc0 (As := []) m1 m2 hci hG hd rfl (fun r x' q => ?_) hy hyc rfl hR hw
      obtain ⟨q1, q2⟩ := q
      subst q2
      subst q1
      exact kk
    · cases hf
  · cases hf
def FC_I (M : MD) (ci : Nat) (F : Nat → Int32 → Cv → Prop × Value) : Prop := ∀ (X : Cx) (o : Nat) (a1 : Int32) (x : Cv), (F o a1 x).1 → RCc X M 0 0 [.ref o, .int a1] x (fun r x' => r = some (F o a1 x).2 ∧ x' = x) ∧ ∀ h, CP X x h → ∃ fs, h o = some (.inr (ci, fs))
def cF_I (F : Nat → Int32 → Cv → Prop × Value) : OPS Cv := .inr (fun s => match s with
  | (L, .int a1 :: .ref o :: st, x) => match wt8 st with
    | true => match F o a1 x with
      | (P, v) => some (P, L, v :: st, x)
    | false => none
  | _ => none)
theorem c_F_I {F : Nat → Int32 → Cv → Prop × Value} {q : vw_C} (hM : FC_I M' ci F) (hci : vwCl[ci]? = some q) (hG : GoodIn lw_all (wsV M.y.cls idx q.1 M'.y (ws_ M'.y M'.cc M'.nL M'.ret))) (hy : hyS M' 1) (hyc : M'.y.cls = q.1) (hR : M'.lv + 1 ≤ M.lv ∧ M'.nL ≤ 421) (hd : decode M.cc pc = .ok (.invokevirtual idx, 3)) : JStp CP M pc (pc + 3) (cF_I F) := by
  intro X R Z k n L st x cnd L' st' x' hf hc kk
  dsimp only at hf
  split at hf
  · rename_i heq
    cases heq
    split at hf
    · rename_i hw
      simp only [Option.some.injEq, Prod.mk.injEq] at hf
      obtain ⟨rfl, rfl, rfl, rfl⟩ := hf
      obtain ⟨m1, m2⟩ := hM X _ _ _ hc
      refine cc0 (As := [.int _]) m1 m2 hci hG hd rfl (fun r x' q => ?_) hy hyc rfl hR hw
      obtain ⟨q1, q2⟩ := q
      subst q2
      subst q1
      exact kk
    · cases hf
  · cases hf
def FC_II (M : MD) (ci : Nat) (F : Nat → Int32 → Int32 → Cv → Prop × Value) : Prop := ∀ (X : Cx) (o : Nat) (a1 : Int32) (a2 : Int32) (x : Cv), (F o a1 a2 x).1 → RCc X M 0 0 [.ref o, .int a1, .int a2] x (fun r x' => r = some (F o a1 a2 x).2 ∧ x' = x) ∧ ∀ h, CP X x h → ∃ fs, h o = some (.inr (ci, fs))
def cF_II (F : Nat → Int32 → Int32 → Cv → Prop × Value) : OPS Cv := .inr (fun s => match s with
  | (L, .int a2 :: .int a1 :: .ref o :: st, x) => match wt8 st with
    | true => match F o a1 a2 x with
      | (P, v) => some (P, L, v :: st, x)
    | false => none
  | _ => none)
theorem c_F_II {F : Nat → Int32 → Int32 → Cv → Prop × Value} {q : vw_C} (hM : FC_II M' ci F) (hci : vwCl[ci]? = some q) (hG : GoodIn lw_all (wsV M.y.cls idx q.1 M'.y (ws_ M'.y M'.cc M'.nL M'.ret))) (hy : hyS M' 2) (hyc : M'.y.cls = q.1) (hR : M'.lv + 1 ≤ M.lv ∧ M'.nL ≤ 421) (hd : decode M.cc pc = .ok (.invokevirtual idx, 3)) : JStp CP M pc (pc + 3) (cF_II F) := by
  intro X R Z k n L st x cnd L' st' x' hf hc kk
  dsimp only at hf
  split at hf
  · rename_i heq
    cases heq
    split at hf
    · rename_i hw
      simp only [Option.some.injEq, Prod.mk.injEq] at hf
      obtain ⟨rfl, rfl, rfl, rfl⟩ := hf
      obtain ⟨m1, m2⟩ := hM X _ _ _ _ hc
      refine cc0 (As := [.int _, .int _]) m1 m2 hci hG hd rfl (fun r x' q => ?_) hy hyc rfl hR hw
      obtain ⟨q1, q2⟩ := q
      subst q2
      subst q1
      exact kk
    · cases hf
  · cases hf
def FC_III (M : MD) (ci : Nat) (F : Nat → Int32 → Int32 → Int32 → Cv → Prop × Value) : Prop := ∀ (X : Cx) (o : Nat) (a1 : Int32) (a2 : Int32) (a3 : Int32) (x : Cv), (F o a1 a2 a3 x).1 → RCc X M 0 0 [.ref o, .int a1, .int a2, .int a3] x (fun r x' => r = some (F o a1 a2 a3 x).2 ∧ x' = x) ∧ ∀ h, CP X x h → ∃ fs, h o = some (.inr (ci, fs))
def cF_III (F : Nat → Int32 → Int32 → Int32 → Cv → Prop × Value) : OPS Cv := .inr (fun s => match s with
  | (L, .int a3 :: .int a2 :: .int a1 :: .ref o :: st, x) => match wt8 st with
    | true => match F o a1 a2 a3 x with
      | (P, v) => some (P, L, v :: st, x)
    | false => none
  | _ => none)
theorem c_F_III {F : Nat → Int32 → Int32 → Int32 → Cv → Prop × Value} {q : vw_C} (hM : FC_III M' ci F) (hci : vwCl[ci]? = some q) (hG : GoodIn lw_all (wsV M.y.cls idx q.1 M'.y (ws_ M'.y M'.cc M'.nL M'.ret))) (hy : hyS M' 3) (hyc : M'.y.cls = q.1) (hR : M'.lv + 1 ≤ M.lv ∧ M'.nL ≤ 421) (hd : decode M.cc pc = .ok (.invokevirtual idx, 3)) : JStp CP M pc (pc + 3) (cF_III F) := by
  intro X R Z k n L st x cnd L' st' x' hf hc kk
  dsimp only at hf
  split at hf
  · rename_i heq
    cases heq
    split at hf
    · rename_i hw
      simp only [Option.some.injEq, Prod.mk.injEq] at hf
      obtain ⟨rfl, rfl, rfl, rfl⟩ := hf
      obtain ⟨m1, m2⟩ := hM X _ _ _ _ _ hc
      refine cc0 (As := [.int _, .int _, .int _]) m1 m2 hci hG hd rfl (fun r x' q => ?_) hy hyc rfl hR hw
      obtain ⟨q1, q2⟩ := q
      subst q2
      subst q1
      exact kk
    · cases hf
  · cases hf
def FC_J (M : MD) (ci : Nat) (F : Nat → Int64 → Cv → Prop × Value) : Prop := ∀ (X : Cx) (o : Nat) (a1 : Int64) (x : Cv), (F o a1 x).1 → RCc X M 0 0 [.ref o, .long a1] x (fun r x' => r = some (F o a1 x).2 ∧ x' = x) ∧ ∀ h, CP X x h → ∃ fs, h o = some (.inr (ci, fs))
def cF_J (F : Nat → Int64 → Cv → Prop × Value) : OPS Cv := .inr (fun s => match s with
  | (L, .long a1 :: .ref o :: st, x) => match wt8 st with
    | true => match F o a1 x with
      | (P, v) => some (P, L, v :: st, x)
    | false => none
  | _ => none)
theorem c_F_J {F : Nat → Int64 → Cv → Prop × Value} {q : vw_C} (hM : FC_J M' ci F) (hci : vwCl[ci]? = some q) (hG : GoodIn lw_all (wsV M.y.cls idx q.1 M'.y (ws_ M'.y M'.cc M'.nL M'.ret))) (hy : hyS M' 1) (hyc : M'.y.cls = q.1) (hR : M'.lv + 1 ≤ M.lv ∧ M'.nL ≤ 421) (hd : decode M.cc pc = .ok (.invokevirtual idx, 3)) : JStp CP M pc (pc + 3) (cF_J F) := by
  intro X R Z k n L st x cnd L' st' x' hf hc kk
  dsimp only at hf
  split at hf
  · rename_i heq
    cases heq
    split at hf
    · rename_i hw
      simp only [Option.some.injEq, Prod.mk.injEq] at hf
      obtain ⟨rfl, rfl, rfl, rfl⟩ := hf
      obtain ⟨m1, m2⟩ := hM X _ _ _ hc
      refine cc0 (As := [.long _]) m1 m2 hci hG hd rfl (fun r x' q => ?_) hy hyc rfl hR hw
      obtain ⟨q1, q2⟩ := q
      subst q2
      subst q1
      exact kk
    · cases hf
  · cases hf
def FC_IIII (M : MD) (ci : Nat) (F : Nat → Int32 → Int32 → Int32 → Int32 → Cv → Prop × Value) : Prop := ∀ (X : Cx) (o : Nat) (a1 : Int32) (a2 : Int32) (a3 : Int32) (a4 : Int32) (x : Cv), (F o a1 a2 a3 a4 x).1 → RCc X M 0 0 [.ref o, .int a1, .int a2, .int a3, .int a4] x (fun r x' => r = some (F o a1 a2 a3 a4 x).2 ∧ x' = x) ∧ ∀ h, CP X x h → ∃ fs, h o = some (.inr (ci, fs))
def cF_IIII (F : Nat → Int32 → Int32 → Int32 → Int32 → Cv → Prop × Value) : OPS Cv := .inr (fun s => match s with
  | (L, .int a4 :: .int a3 :: .int a2 :: .int a1 :: .ref o :: st, x) => match wt8 st with
    | true => match F o a1 a2 a3 a4 x with
      | (P, v) => some (P, L, v :: st, x)
    | false => none
  | _ => none)
theorem c_F_IIII {F : Nat → Int32 → Int32 → Int32 → Int32 → Cv → Prop × Value} {q : vw_C} (hM : FC_IIII M' ci F) (hci : vwCl[ci]? = some q) (hG : GoodIn lw_all (wsV M.y.cls idx q.1 M'.y (ws_ M'.y M'.cc M'.nL M'.ret))) (hy : hyS M' 4) (hyc : M'.y.cls = q.1) (hR : M'.lv + 1 ≤ M.lv ∧ M'.nL ≤ 421) (hd : decode M.cc pc = .ok (.invokevirtual idx, 3)) : JStp CP M pc (pc + 3) (cF_IIII F) := by
  intro X R Z k n L st x cnd L' st' x' hf hc kk
  dsimp only at hf
  split at hf
  · rename_i heq
    cases heq
    split at hf
    · rename_i hw
      simp only [Option.some.injEq, Prod.mk.injEq] at hf
      obtain ⟨rfl, rfl, rfl, rfl⟩ := hf
      obtain ⟨m1, m2⟩ := hM X _ _ _ _ _ _ hc
      refine cc0 (As := [.int _, .int _, .int _, .int _]) m1 m2 hci hG hd rfl (fun r x' q => ?_) hy hyc rfl hR hw
      obtain ⟨q1, q2⟩ := q
      subst q2
      subst q1
      exact kk
    · cases hf
  · cases hf
end FnB2
section FldB2
variable {M : MD} {pc idx : Nat}
theorem cgX0_0 (hl : Lk M idx (TX0 0)) (hd : decode M.cc pc = .ok (.getfield idx, 3)) : JStp CP M pc (pc + 3) (cR 0 0 1) := c_R clsX0 (ci := 0) rfl (by decide) (fun _ _ _ _ _ _ => ⟨_, rfl, rfl⟩) hl hd
theorem cgX0_1 (hl : Lk M idx (TX0 1)) (hd : decode M.cc pc = .ok (.getfield idx, 3)) : JStp CP M pc (pc + 3) cQ0 := c_Q0 hl hd
theorem cgX0_2 (hl : Lk M idx (TX0 2)) (hd : decode M.cc pc = .ok (.getfield idx, 3)) : JStp CP M pc (pc + 3) (cR 0 2 2) := c_R clsX0 (ci := 0) rfl (by decide) (fun _ _ _ _ _ _ => ⟨_, rfl, rfl⟩) hl hd
theorem cgX0_3 (hl : Lk M idx (TX0 3)) (hd : decode M.cc pc = .ok (.getfield idx, 3)) : JStp CP M pc (pc + 3) (cI 0 3) := c_I clsX0 (ci := 0) rfl (by decide) (fun _ _ _ _ _ _ => ⟨_, rfl, rfl⟩) hl hd
theorem cpX0_3 (hl : Lk M idx (TX0 3)) (hd : decode M.cc pc = .ok (.putfield idx, 3)) : JStp CP M pc (pc + 3) (cPI 0 3) := c_PI clsX0 (ci := 0) rfl (by decide) rfl rfl (fun _ _ _ _ _ _ _ => ⟨_, rfl, rfl, Nat.le_of_ble_eq_true rfl⟩) hl hd
theorem cgX0_4 (hl : Lk M idx (TX0 4)) (hd : decode M.cc pc = .ok (.getfield idx, 3)) : JStp CP M pc (pc + 3) (cR 0 4 3) := c_R clsX0 (ci := 0) rfl (by decide) (fun _ _ _ _ _ _ => ⟨_, rfl, rfl⟩) hl hd
theorem cgX0_5 (hl : Lk M idx (TX0 5)) (hd : decode M.cc pc = .ok (.getfield idx, 3)) : JStp CP M pc (pc + 3) (cR 0 5 4) := c_R clsX0 (ci := 0) rfl (by decide) (fun _ _ _ _ _ _ => ⟨_, rfl, rfl⟩) hl hd
theorem cgX0_6 (hl : Lk M idx (TX0 6)) (hd : decode M.cc pc = .ok (.getfield idx, 3)) : JStp CP M pc (pc + 3) (cI 0 6) := c_I clsX0 (ci := 0) rfl (by decide) (fun _ _ _ _ _ _ => ⟨_, rfl, rfl⟩) hl hd
theorem cpX0_6 (hl : Lk M idx (TX0 6)) (hd : decode M.cc pc = .ok (.putfield idx, 3)) : JStp CP M pc (pc + 3) (cPI 0 6) := c_PI clsX0 (ci := 0) rfl (by decide) rfl rfl (fun _ _ _ _ _ _ _ => ⟨_, rfl, rfl, Nat.le_of_ble_eq_true rfl⟩) hl hd
theorem cgX0_7 (hl : Lk M idx (TX0 7)) (hd : decode M.cc pc = .ok (.getfield idx, 3)) : JStp CP M pc (pc + 3) (cR 0 7 5) := c_R clsX0 (ci := 0) rfl (by decide) (fun _ _ _ _ _ _ => ⟨_, rfl, rfl⟩) hl hd
theorem cgX0_8 (hl : Lk M idx (TX0 8)) (hd : decode M.cc pc = .ok (.getfield idx, 3)) : JStp CP M pc (pc + 3) (cR 0 8 6) := c_R clsX0 (ci := 0) rfl (by decide) (fun _ _ _ _ _ _ => ⟨_, rfl, rfl⟩) hl hd
theorem cgX0_9 (hl : Lk M idx (TX0 9)) (hd : decode M.cc pc = .ok (.getfield idx, 3)) : JStp CP M pc (pc + 3) (cI 0 9) := c_I clsX0 (ci := 0) rfl (by decide) (fun _ _ _ _ _ _ => ⟨_, rfl, rfl⟩) hl hd
theorem cpX0_9 (hl : Lk M idx (TX0 9)) (hd : decode M.cc pc = .ok (.putfield idx, 3)) : JStp CP M pc (pc + 3) (cPI 0 9) := c_PI clsX0 (ci := 0) rfl (by decide) rfl rfl (fun _ _ _ _ _ _ _ => ⟨_, rfl, rfl, Nat.le_of_ble_eq_true rfl⟩) hl hd
theorem cgX0_10 (hl : Lk M idx (TX0 10)) (hd : decode M.cc pc = .ok (.getfield idx, 3)) : JStp CP M pc (pc + 3) (cI 0 10) := c_I clsX0 (ci := 0) rfl (by decide) (fun _ _ _ _ _ _ => ⟨_, rfl, rfl⟩) hl hd
theorem cpX0_10 (hl : Lk M idx (TX0 10)) (hd : decode M.cc pc = .ok (.putfield idx, 3)) : JStp CP M pc (pc + 3) (cPI 0 10) := c_PI clsX0 (ci := 0) rfl (by decide) rfl rfl (fun _ _ _ _ _ _ _ => ⟨_, rfl, rfl, Nat.le_of_ble_eq_true rfl⟩) hl hd
theorem cgX0_11 (hl : Lk M idx (TX0 11)) (hd : decode M.cc pc = .ok (.getfield idx, 3)) : JStp CP M pc (pc + 3) (cI 0 11) := c_I clsX0 (ci := 0) rfl (by decide) (fun _ _ _ _ _ _ => ⟨_, rfl, rfl⟩) hl hd
theorem cpX0_11 (hl : Lk M idx (TX0 11)) (hd : decode M.cc pc = .ok (.putfield idx, 3)) : JStp CP M pc (pc + 3) (cPI 0 11) := c_PI clsX0 (ci := 0) rfl (by decide) rfl rfl (fun _ _ _ _ _ _ _ => ⟨_, rfl, rfl, Nat.le_of_ble_eq_true rfl⟩) hl hd
theorem cgX0_12 (hl : Lk M idx (TX0 12)) (hd : decode M.cc pc = .ok (.getfield idx, 3)) : JStp CP M pc (pc + 3) (cR 0 12 7) := c_R clsX0 (ci := 0) rfl (by decide) (fun _ _ _ _ _ _ => ⟨_, rfl, rfl⟩) hl hd
theorem cgX3_0 (hl : Lk M idx (TX3 0)) (hd : decode M.cc pc = .ok (.getfield idx, 3)) : JStp CP M pc (pc + 3) (cR 3 0 30) := c_R clsX3 (ci := 3) rfl (by decide) (fun _ _ _ _ _ _ => ⟨_, rfl, rfl⟩) hl hd
theorem cgX3_1 (hl : Lk M idx (TX3 1)) (hd : decode M.cc pc = .ok (.getfield idx, 3)) : JStp CP M pc (pc + 3) (cR 3 1 31) := c_R clsX3 (ci := 3) rfl (by decide) (fun _ _ _ _ _ _ => ⟨_, rfl, rfl⟩) hl hd
theorem cgX3_2 (hl : Lk M idx (TX3 2)) (hd : decode M.cc pc = .ok (.getfield idx, 3)) : JStp CP M pc (pc + 3) (cR 3 2 32) := c_R clsX3 (ci := 3) rfl (by decide) (fun _ _ _ _ _ _ => ⟨_, rfl, rfl⟩) hl hd
theorem cgX3_3 (hl : Lk M idx (TX3 3)) (hd : decode M.cc pc = .ok (.getfield idx, 3)) : JStp CP M pc (pc + 3) (cR 3 3 33) := c_R clsX3 (ci := 3) rfl (by decide) (fun _ _ _ _ _ _ => ⟨_, rfl, rfl⟩) hl hd
theorem cgX3_4 (hl : Lk M idx (TX3 4)) (hd : decode M.cc pc = .ok (.getfield idx, 3)) : JStp CP M pc (pc + 3) (cR 3 4 34) := c_R clsX3 (ci := 3) rfl (by decide) (fun _ _ _ _ _ _ => ⟨_, rfl, rfl⟩) hl hd
theorem cgX3_5 (hl : Lk M idx (TX3 5)) (hd : decode M.cc pc = .ok (.getfield idx, 3)) : JStp CP M pc (pc + 3) (cR 3 5 35) := c_R clsX3 (ci := 3) rfl (by decide) (fun _ _ _ _ _ _ => ⟨_, rfl, rfl⟩) hl hd
theorem cgX3_6 (hl : Lk M idx (TX3 6)) (hd : decode M.cc pc = .ok (.getfield idx, 3)) : JStp CP M pc (pc + 3) (cR 3 6 36) := c_R clsX3 (ci := 3) rfl (by decide) (fun _ _ _ _ _ _ => ⟨_, rfl, rfl⟩) hl hd
theorem cgX3_7 (hl : Lk M idx (TX3 7)) (hd : decode M.cc pc = .ok (.getfield idx, 3)) : JStp CP M pc (pc + 3) (cR 3 7 37) := c_R clsX3 (ci := 3) rfl (by decide) (fun _ _ _ _ _ _ => ⟨_, rfl, rfl⟩) hl hd
theorem cgX3_8 (hl : Lk M idx (TX3 8)) (hd : decode M.cc pc = .ok (.getfield idx, 3)) : JStp CP M pc (pc + 3) (cR 3 8 38) := c_R clsX3 (ci := 3) rfl (by decide) (fun _ _ _ _ _ _ => ⟨_, rfl, rfl⟩) hl hd
theorem cgX3_9 (hl : Lk M idx (TX3 9)) (hd : decode M.cc pc = .ok (.getfield idx, 3)) : JStp CP M pc (pc + 3) (cR 3 9 39) := c_R clsX3 (ci := 3) rfl (by decide) (fun _ _ _ _ _ _ => ⟨_, rfl, rfl⟩) hl hd
theorem cgX3_10 (hl : Lk M idx (TX3 10)) (hd : decode M.cc pc = .ok (.getfield idx, 3)) : JStp CP M pc (pc + 3) (cR 3 10 40) := c_R clsX3 (ci := 3) rfl (by decide) (fun _ _ _ _ _ _ => ⟨_, rfl, rfl⟩) hl hd
theorem cgX3_11 (hl : Lk M idx (TX3 11)) (hd : decode M.cc pc = .ok (.getfield idx, 3)) : JStp CP M pc (pc + 3) (cR 3 11 41) := c_R clsX3 (ci := 3) rfl (by decide) (fun _ _ _ _ _ _ => ⟨_, rfl, rfl⟩) hl hd
theorem cgX3_12 (hl : Lk M idx (TX3 12)) (hd : decode M.cc pc = .ok (.getfield idx, 3)) : JStp CP M pc (pc + 3) cQ1 := c_Q1 hl hd
theorem cgX3_13 (hl : Lk M idx (TX3 13)) (hd : decode M.cc pc = .ok (.getfield idx, 3)) : JStp CP M pc (pc + 3) (cI 3 13) := c_I clsX3 (ci := 3) rfl (by decide) (fun _ _ _ _ _ _ => ⟨_, rfl, rfl⟩) hl hd
theorem cpX3_13 (hl : Lk M idx (TX3 13)) (hd : decode M.cc pc = .ok (.putfield idx, 3)) : JStp CP M pc (pc + 3) (cPI 3 13) := c_PI clsX3 (ci := 3) rfl (by decide) rfl rfl (fun _ _ _ _ _ _ _ => ⟨_, rfl, rfl, Nat.le_of_ble_eq_true rfl⟩) hl hd
theorem cgX3_14 (hl : Lk M idx (TX3 14)) (hd : decode M.cc pc = .ok (.getfield idx, 3)) : JStp CP M pc (pc + 3) (cI 3 14) := c_I clsX3 (ci := 3) rfl (by decide) (fun _ _ _ _ _ _ => ⟨_, rfl, rfl⟩) hl hd
theorem cpX3_14 (hl : Lk M idx (TX3 14)) (hd : decode M.cc pc = .ok (.putfield idx, 3)) : JStp CP M pc (pc + 3) (cPI 3 14) := c_PI clsX3 (ci := 3) rfl (by decide) rfl rfl (fun _ _ _ _ _ _ _ => ⟨_, rfl, rfl, Nat.le_of_ble_eq_true rfl⟩) hl hd
theorem cgX3_15 (hl : Lk M idx (TX3 15)) (hd : decode M.cc pc = .ok (.getfield idx, 3)) : JStp CP M pc (pc + 3) (cI 3 15) := c_I clsX3 (ci := 3) rfl (by decide) (fun _ _ _ _ _ _ => ⟨_, rfl, rfl⟩) hl hd
theorem cpX3_15 (hl : Lk M idx (TX3 15)) (hd : decode M.cc pc = .ok (.putfield idx, 3)) : JStp CP M pc (pc + 3) (cPI 3 15) := c_PI clsX3 (ci := 3) rfl (by decide) rfl rfl (fun _ _ _ _ _ _ _ => ⟨_, rfl, rfl, Nat.le_of_ble_eq_true rfl⟩) hl hd
theorem cgX3_16 (hl : Lk M idx (TX3 16)) (hd : decode M.cc pc = .ok (.getfield idx, 3)) : JStp CP M pc (pc + 3) (cI 3 16) := c_I clsX3 (ci := 3) rfl (by decide) (fun _ _ _ _ _ _ => ⟨_, rfl, rfl⟩) hl hd
theorem cpX3_16 (hl : Lk M idx (TX3 16)) (hd : decode M.cc pc = .ok (.putfield idx, 3)) : JStp CP M pc (pc + 3) (cPZ 3 16) := c_PZ clsX3 (ci := 3) rfl (by decide) rfl rfl (fun _ _ _ _ _ _ _ => ⟨_, rfl, rfl, Nat.le_of_ble_eq_true rfl⟩) hl hd
theorem cgX3_17 (hl : Lk M idx (TX3 17)) (hd : decode M.cc pc = .ok (.getfield idx, 3)) : JStp CP M pc (pc + 3) (cL 3 17) := c_L clsX3 (ci := 3) rfl (by decide) (fun _ _ _ _ _ _ => ⟨_, rfl, rfl⟩) hl hd
theorem cpX3_17 (hl : Lk M idx (TX3 17)) (hd : decode M.cc pc = .ok (.putfield idx, 3)) : JStp CP M pc (pc + 3) (cPL 3 17) := c_PL clsX3 (ci := 3) rfl (by decide) rfl rfl (fun _ _ _ _ _ _ _ => ⟨_, rfl, rfl, Nat.le_of_ble_eq_true rfl⟩) hl hd
theorem ar_look (E : Nat → Nat) (q : Nat) (hq : q < 8) : arrK E (50 + q) = some (40, 0) := by unfold arrK; rw [if_neg (by omega), if_pos (by omega)]
theorem ar_sv (E : Nat → Nat) (q : Nat) (hq : q < 8) : arrK E (60 + q) = some (41, 0) := by unfold arrK; rw [if_neg (by omega), if_neg (by omega), if_neg (by omega), if_pos (by omega)]
theorem ar_shows (E : Nat → Nat) (q : Nat) (hq : q < 4) : arrK E (60 + q) = some (41, 0) := ar_sv E q (by omega)
theorem ar_value (E : Nat → Nat) (q : Nat) (hq : q < 4) : arrK E (64 + q) = some (41, 0) := by have := ar_sv E (4 + q) (by omega); rwa [← Nat.add_assoc] at this
theorem ar_drawn (E : Nat → Nat) (q : Nat) (hq : q < 8) : arrK E (70 + q) = some (4, 4) := by unfold arrK; rw [if_neg (by omega), if_neg (by omega), if_neg (by omega), if_neg (by omega), if_neg (by omega), if_pos (by omega)]
end FldB2
