set_option maxRecDepth 100000
/-! ===== the program logic J: an abstract heap, locals as a list, one judgement a point of a method ===== -/
/-- the abstract heap: what is known of the cells -/
abbrev AH : Type := Nat → Option va_E
/-- launch, cells that may be written, numbers of classes, array classes, what else is known all through -/
abbrev Cx : Type := Launch × (Nat → Prop) × va_G × (Nat → ClassId) × (State → Prop)
abbrev Cx.l (X : Cx) : Launch := X.1
abbrev Cx.A (X : Cx) : Nat → Prop := X.2.1
abbrev Cx.D (X : Cx) : va_G := X.2.2.1
abbrev Cx.dA (X : Cx) : Nat → ClassId := X.2.2.2.1
abbrev Cx.G (X : Cx) : State → Prop := X.2.2.2.2
/-- the classes whose fields are known; number 9 is ArrayList (UnseenClock$Habit has no object of its own) -/
abbrev vwCl : List vw_C := [(RX0, TX0, 13), (RX1, TX1, 1), (RX2, TX2, 9), (RX3, TX3, 18), (RX4, TX4, 41), (RX5, TX5, 7), (RX6, TX6, 8), (RX7, TX7, 6), (RX8, TX8, 7), (RJ2, TJ2, 3), (RX10, TX10, 1), (RX11, TX11, 3), (RX12, TX12, 3), (RX13, TX13, 2), (RX14, TX14, 2), (RX15, TX15, 2), (RX16, TX16, 2), (RX17, TX17, 3), (RJ16, TJ16, 6), (RJ17, TJ17, 8), (RJ19, TJ19, 6), (RJ20, TJ20, 6), (RJ4, TJ4, 2)]
/-- the array classes, by their components -/
abbrev tysAll (X : Cx) : List (ClassId × FieldType) := [(X.dA 0, .int), (X.dA 1, .long), (X.dA 2, .byte), (X.dA 3, .short), (X.dA 4, .boolean), (X.dA 5, .object "java/lang/Object"), (X.dA 6, .object "UnseenClock$Slot"), (X.dA 7, .object "UnseenClock$Image"), (X.dA 8, .array .int), (X.dA 9, .array .boolean)]
def GSt (X : Cx) : Prop := ∀ U V : State, U.WarmedH V.vm → U.heap.size ≤ V.heap.size → (∀ q : Nat, q < U.heap.size → ¬ X.A q → V.heap[q]? = U.heap[q]?) → X.G U → X.G V
def GI (X : Cx) (U : State) : Prop := va_K X.D vwCl (tysAll X) U ∧ X.G U ∧ GSt X
def Wd (X : Cx) (h : AH) (H : Heap) : Prop := ∃ ws : va_W, va_P X.D vwCl ws H ∧ va_D X.A ws ∧ ∀ (a : Nat) (e : va_E), h a = some e → ∃ k : Nat, ws[k]? = some (a, e)
def LV (ls : Array Slot) (nL : Nat) (L : List (Option Value)) : Prop := ls.size = nL ∧ lv_wf ls ∧ ∀ (i : Nat) (v : Value), L[i]? = some (some v) → ls[i]? = some (.val v)
/-- a method: name, code, locals, answer, level (frames that it may nest), what is known of its handlers -/
abbrev MD : Type := MethodName × ByteArray × Nat × Option FieldType × Nat × (Code → Prop)
abbrev MD.y (M : MD) : MethodName := M.1
abbrev MD.cc (M : MD) : ByteArray := M.2.1
abbrev MD.nL (M : MD) : Nat := M.2.2.1
abbrev MD.ret (M : MD) : Option FieldType := M.2.2.2.1
abbrev MD.lv (M : MD) : Nat := M.2.2.2.2.1
abbrev MD.eh (M : MD) : Code → Prop := M.2.2.2.2.2
abbrev noEH : Code → Prop := fun c => c.exceptionTable.isEmpty = true
abbrev rmOf (n mc ms : Nat) : Room := { frames := n, cells := mc, slots := ms, locals := 440 * n }
def Bd (X : Cx) (M : MD) (p : Program) (s : State) (m : MethodId) (args : Array Value) (meth : Method) (c : Code) : Prop :=
  p.tables.exec = Jvm.exec ∧ c.code = M.cc ∧ meth.sig.returnType = M.ret ∧ meth.locks = false ∧ c.maxLocals = M.nL ∧ s.vm.findClass M.y.cls = some m.cls ∧ (∀ w ∈ lw_all, w.before args s = true) ∧ GI X s ∧ M.eh c ∧ meth.name = M.y.name
abbrev ZT : Type := List Frame → Array Value → State → State → Prop
/-- the room: the method's level fits it, and what was made so far -/
def RK (M : MD) (R : Room) (k n : Nat) : Prop := M.lv ≤ R.frames ∧ 440 * M.lv ≤ R.locals ∧ k ≤ R.cells ∧ n ≤ R.slots
def J (X : Cx) (M : MD) (R : Room) (Z : ZT) (pc : Nat) (L : List (Option Value)) (st : List Value) (h : AH) (k n : Nat) : Prop :=
  ∀ p e s m args below meth c, Bd X M p s m args meth c → RK M R k n → ∀ H locs ls, Wd X h H → va_S X.A s.heap H locs → LV ls M.nL L → W p X.l e R s m args below meth c H locs k n (Z below args s) (F0 m pc ls st)
/-- how a method ends: with the outcome o and the abstract heap h' -/
def ZQ (X : Cx) (mc ms : Nat) (Q : Outcome → AH → Prop) : ZT := fun below _ s t =>
  ∃ o, t.status = .running ∧ Ended t below o ∧ (∃ h', Q o h' ∧ Wd X h' t.heap) ∧ va_F X.A s t ∧ ∃ L, (s.WarmedH t.vm ∧ s.sameButNew ({ t with vm := s.vm } : State) L mc ms) ∧ ∀ q ∈ L, X.A q.base
/-- the contract of a method -/
def Cg (X : Cx) (M : MD) (mc ms : Nat) (av : List Value) (h : AH) (Q : Outcome → AH → Prop) : Prop :=
  MetFree X.l M.y (headSpec (ws_ M.y M.cc M.nL M.ret) (rmOf M.lv mc ms)) (va_Pc av (fun U => GI X U ∧ Wd X h U.heap)) (fun _ _ _ _ _ => True)
    (fun _ st o t => (∃ h', Q o h' ∧ Wd X h' t.heap) ∧ va_F X.A st t ∧ ∃ L, (st.WarmedH t.vm ∧ st.sameButNew ({ t with vm := st.vm } : State) L mc ms) ∧ ∀ q ∈ L, X.A q.base)
/-! locals -/
def lset1 : List (Option Value) → Nat → Value → List (Option Value)
  | [], _, _ => []
  | _ :: L, 0, v => some v :: L
  | x :: L, i + 1, v => (match i, x with | 0, some (.long _) => none | 0, some (.double _) => none | _, y => y) :: lset1 L i v
theorem lset1_spec : ∀ (L : List (Option Value)) (i : Nat) (v : Value) (j : Nat) (w : Value), (lset1 L i v)[j]? = some (some w) → (j = i ∧ w = v) ∨ (j ≠ i ∧ L[j]? = some (some w) ∧ ¬ (j + 1 = i ∧ w.category = 2)) := by
  intro L
  induction L with
  | nil => intro i v j w h; simp [lset1] at h
  | cons x L ih =>
    intro i v j w h
    cases i with
    | zero =>
      cases j with
      | zero => simp only [lset1, List.getElem?_cons_zero, Option.some.injEq] at h; exact Or.inl ⟨rfl, h.symm⟩
      | succ j => simp only [lset1, List.getElem?_cons_succ] at h; exact Or.inr ⟨by omega, by simpa using h, by omega⟩
    | succ i =>
      cases j with
      | zero =>
        refine Or.inr ⟨by omega, ?_, ?_⟩
        · simp only [lset1, List.getElem?_cons_zero, Option.some.injEq] at h ⊢
          split at h <;> simp_all
        · rintro ⟨e1, e2⟩
          have : i = 0 := by omega
          subst this
          simp only [lset1, List.getElem?_cons_zero, Option.some.injEq] at h
          split at h
          · simp at h
          · simp at h
          · rename_i y n1 n2
            subst h
            cases w <;> simp_all [Value.category]
      | succ j =>
        simp only [lset1, List.getElem?_cons_succ] at h
        rcases ih i v j w h with ⟨e1, e2⟩ | ⟨e1, e2, e3⟩
        · exact Or.inl ⟨by omega, e2⟩
        · exact Or.inr ⟨by omega, by simpa using e2, by omega⟩
def lset2 (L : List (Option Value)) (i : Nat) (v : Value) : List (Option Value) := (lset1 L i v).set (i + 1) none
theorem lset2_spec (L : List (Option Value)) (i : Nat) (v : Value) (j : Nat) (w : Value) (h : (lset2 L i v)[j]? = some (some w)) : (j = i ∧ w = v) ∨ (j ≠ i ∧ j ≠ i + 1 ∧ L[j]? = some (some w) ∧ ¬ (j + 1 = i ∧ w.category = 2)) := by
  unfold lset2 at h
  by_cases hj : j = i + 1
  · subst hj
    by_cases hl : i + 1 < (lset1 L i v).length
    · rw [List.getElem?_set_self hl] at h
      simp at h
    · rw [List.getElem?_eq_none (by simp; omega)] at h
      simp at h
  · rw [List.getElem?_set_ne (fun e => hj e.symm)] at h
    rcases lset1_spec L i v j w h with a | ⟨a, b, c⟩
    · exact Or.inl a
    · exact Or.inr ⟨a, hj, b, c⟩
/-- the known locals as the kit's list of pairs -/
def lpairs (L : List (Option Value)) : List (Nat × Value) := (List.range L.length).filterMap (fun i => match L[i]? with | some (some v) => some (i, v) | _ => none)
theorem mem_lpairs {L : List (Option Value)} {i : Nat} {v : Value} : (i, v) ∈ lpairs L ↔ L[i]? = some (some v) := by
  unfold lpairs
  rw [List.mem_filterMap]
  constructor
  · rintro ⟨j, -, hj⟩
    split at hj
    · rename_i w hw
      simp only [Option.some.injEq, Prod.mk.injEq] at hj
      rw [← hj.1, ← hj.2]; exact hw
    · simp at hj
  · intro h
    refine ⟨i, List.mem_range.mpr (List.getElem?_eq_some_iff.mp h).1, ?_⟩
    simp [h]
theorem LV.has {ls : Array Slot} {nL : Nat} {L : List (Option Value)} (h : LV ls nL L) : lv_has ls nL (lpairs L) := ⟨h.1, h.2.1, fun q hq => h.2.2 q.1 q.2 (mem_lpairs.mp hq)⟩
theorem LV.store1 {ls : Array Slot} {nL i : Nat} {L : List (Option Value)} {v : Value} (h : LV ls nL L) (hi : i < nL) (hc : v.category = 1) : ∃ ls', storeLocals ls i v = some ls' ∧ LV ls' nL (lset1 L i v) := by
  obtain ⟨ls', e, a, b, c⟩ := lv_store1 h.has hi hc
  refine ⟨ls', e, a, b, fun j w hj => ?_⟩
  refine c (j, w) ?_
  rcases lset1_spec L i v j w hj with ⟨e1, e2⟩ | ⟨e1, e2, e3⟩
  · subst e1; subst e2; exact List.mem_cons_self
  · refine List.mem_cons_of_mem _ (List.mem_filter.mpr ⟨mem_lpairs.mpr e2, ?_⟩)
    simp only [Bool.and_eq_true, Bool.not_eq_true', beq_eq_false_iff_ne, ne_eq, Bool.and_eq_false_iff]
    refine ⟨e1, ?_⟩
    by_cases q : j + 1 = i
    · exact Or.inr (fun q2 => e3 ⟨q, q2⟩)
    · exact Or.inl q
theorem LV.store2 {ls : Array Slot} {nL i : Nat} {L : List (Option Value)} {v : Value} (h : LV ls nL L) (hi : i + 1 < nL) (hc : v.category = 2) : ∃ ls', storeLocals ls i v = some ls' ∧ LV ls' nL (lset2 L i v) := by
  obtain ⟨ls', e, a, b, c⟩ := lv_store2 h.has hi hc
  refine ⟨ls', e, a, b, fun j w hj => ?_⟩
  refine c (j, w) ?_
  rcases lset2_spec L i v j w hj with ⟨e1, e2⟩ | ⟨e1, e0, e2, e3⟩
  · subst e1; subst e2; exact List.mem_cons_self
  · refine List.mem_cons_of_mem _ (List.mem_filter.mpr ⟨mem_lpairs.mpr e2, ?_⟩)
    simp only [Bool.and_eq_true, Bool.not_eq_true', beq_eq_false_iff_ne, ne_eq, Bool.and_eq_false_iff]
    refine ⟨e1, e0, ?_⟩
    by_cases q : j + 1 = i
    · exact Or.inr (fun q2 => e3 ⟨q, q2⟩)
    · exact Or.inl q
theorem LV.weak {ls : Array Slot} {nL : Nat} {L L' : List (Option Value)} (h : LV ls nL L) (hw : ∀ (i : Nat) (v : Value), L'[i]? = some (some v) → L[i]? = some (some v)) : LV ls nL L' := ⟨h.1, h.2.1, fun i v hv => h.2.2 i v (hw i v hv)⟩
/-- L' knows no more than L -/
def lsub : List (Option Value) → List (Option Value) → Prop
  | [], _ => True
  | none :: L', _ :: L => lsub L' L
  | some v :: L', x :: L => x = some v ∧ lsub L' L
  | _ :: _, [] => False
theorem lsub_spec : ∀ (L' L : List (Option Value)), lsub L' L → ∀ (i : Nat) (v : Value), L'[i]? = some (some v) → L[i]? = some (some v) := by
  intro L'
  induction L' with
  | nil => intro L _ i v h; simp at h
  | cons x L' ih =>
    intro L h i v hv
    cases L with
    | nil => cases x <;> simp [lsub] at h
    | cons y L =>
      cases x with
      | none =>
        cases i with
        | zero => simp at hv
        | succ i => simpa using ih L (by simpa [lsub] using h) i v (by simpa using hv)
      | some w =>
        simp only [lsub] at h
        cases i with
        | zero => simp only [List.getElem?_cons_zero, Option.some.injEq] at hv ⊢; rw [h.1, hv]
        | succ i => simpa using ih L h.2 i v (by simpa using hv)
/-! the entry -/
def entL : List Value → List (Option Value)
  | [] => []
  | v :: vs => if v.category = 2 then some v :: none :: entL vs else some v :: entL vs
theorem entL_args : ∀ (vs : List Value) (b i : Nat) (v : Value), (entL vs)[i]? = some (some v) → (b + i, v) ∈ lv_args b vs := by
  intro vs
  induction vs with
  | nil => intro b i v h; simp [entL] at h
  | cons x vs ih =>
    intro b i v h
    by_cases hc : x.category = 2
    · simp only [entL, hc, if_true] at h
      simp only [lv_args, hc, if_true]
      match i, h with
      | 0, h => simp at h; subst h; exact List.mem_cons_self
      | 1, h => simp at h
      | i + 2, h =>
        refine List.mem_cons_of_mem _ ?_
        have := ih (b + 2) i v (by simpa using h)
        rwa [show b + 2 + i = b + (i + 2) by omega] at this
    · simp only [entL, hc, if_false] at h
      simp only [lv_args, hc, if_false]
      match i, h with
      | 0, h => simp at h; subst h; exact List.mem_cons_self
      | i + 1, h =>
        refine List.mem_cons_of_mem _ ?_
        have := ih (b + 1) i v (by simpa using h)
        rwa [show b + 1 + i = b + (i + 1) by omega] at this
theorem LV.entry {vs : List Value} {n : Nat} {L : List (Option Value)} (pad : Nat) (hL : L = entL vs ++ List.replicate pad none) (h : (lg_sl vs).length ≤ n) : LV ((lg_sl vs ++ List.replicate (n - (lg_sl vs).length) Slot.unset).toArray) n L := by
  obtain ⟨a, b, c⟩ := lv_entry vs h
  refine ⟨a, b, fun i v hv => ?_⟩
  rw [hL] at hv
  have h1 : (entL vs)[i]? = some (some v) := by
    by_cases hi : i < (entL vs).length
    · rwa [List.getElem?_append_left hi] at hv
    · rw [List.getElem?_append_right (by omega), List.getElem?_replicate] at hv
      split at hv <;> simp at hv
  have := entL_args vs 0 i v h1
  rw [Nat.zero_add] at this
  exact c (i, v) this
/-! the abstract heap's moves -/
theorem Wd.lt {X : Cx} {h : AH} {H : Heap} (w : Wd X h H) {a : Nat} {e : va_E} (he : h a = some e) : a < H.size := by
  obtain ⟨ws, hP, -, hh⟩ := w
  obtain ⟨k, hk⟩ := hh a e he
  exact (hP k _ hk).lt
theorem Wd.sub {X : Cx} {h h' : AH} {H : Heap} (w : Wd X h H) (hs : ∀ a e, h' a = some e → h a = some e) : Wd X h' H := by
  obtain ⟨ws, hP, hD, hh⟩ := w
  exact ⟨ws, hP, hD, fun a e he => hh a e (hs a e he)⟩
theorem Wd.inA {X : Cx} {h : AH} {H : Heap} (w : Wd X h H) {a : Nat} {e : va_E} (he : h a = some e) : X.A a := by
  obtain ⟨ws, hP, hD, hh⟩ := w
  obtain ⟨k, hk⟩ := hh a e he
  exact hD.2 k _ hk
/-- a cell is changed: the kit's list with one place set -/
theorem Wd.set {X : Cx} {h : AH} {H1 : Heap} {ws : va_W} {q0 a : Nat} {e e' : va_E} (hD : va_D X.A ws) (hh : ∀ (a : Nat) (e : va_E), h a = some e → ∃ k : Nat, ws[k]? = some (a, e)) (hq : ws[q0]? = some (a, e)) (hP1 : va_P X.D vwCl (ws.set q0 (a, e')) H1) (hD1 : va_D X.A (ws.set q0 (a, e'))) : Wd X (va_up h a (some e')) H1 := by
  refine ⟨_, hP1, hD1, fun b f hb => ?_⟩
  have hlt : q0 < ws.length := (List.getElem?_eq_some_iff.mp hq).1
  by_cases hab : b = a
  · subst hab
    rw [va_up_self] at hb
    cases hb
    exact ⟨q0, by rw [List.getElem?_set_self hlt]⟩
  · rw [va_up_ne _ _ hab] at hb
    obtain ⟨k, hk⟩ := hh b f hb
    refine ⟨k, ?_⟩
    rw [List.getElem?_set_ne, hk]
    intro e
    subst e
    rw [hq] at hk
    exact hab (by cases hk; rfl)
