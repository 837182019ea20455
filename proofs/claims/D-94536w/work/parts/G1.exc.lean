set_option maxRecDepth 100000
/-! ===== J with throws: what is known all through; the search; two outcomes ===== -/
section Exc1
/-- words of the tables and premises that throwing asks and that are not among lw_all -/
def thL : List Cond := [.laysStatic Bundle.tN "UNASSIGNED_STACK" Bundle.steD, .laysStatic Bundle.tN "SUPPRESSED_SENTINEL" Bundle.listD, .isRef (.static Bundle.tN "UNASSIGNED_STACK" Bundle.steD), .isRef (.static Bundle.tN "SUPPRESSED_SENTINEL" Bundle.listD),
  .castable "java/lang/NegativeArraySizeException" "java/lang/NegativeArraySizeException", .castable "java/lang/NullPointerException" "java/lang/NullPointerException", .castable "java/lang/ArrayIndexOutOfBoundsException" "java/lang/ArrayIndexOutOfBoundsException", .castable "java/lang/ClassCastException" "java/lang/ClassCastException", .castable "java/lang/RuntimeException" "java/lang/Throwable",
  .declares ⟨"java/lang/IndexOutOfBoundsException", "<init>", "(Ljava/lang/String;)V"⟩, .declares ⟨"java/lang/RuntimeException", "<init>", "(Ljava/lang/String;)V"⟩, .declares ⟨"java/lang/Exception", "<init>", "(Ljava/lang/String;)V"⟩, .declares ⟨"java/lang/Throwable", "<init>", "(Ljava/lang/String;)V"⟩,
  .declares ⟨"java/lang/RuntimeException", "<init>", "()V"⟩, .declares ⟨"java/lang/Exception", "<init>", "()V"⟩, .declares ⟨"java/lang/Throwable", "<init>", "()V"⟩,
  .not (.castable "[B" "[I"), .not (.castable "[B" "[J"), .not (.castable "[B" "[S"), .not (.castable "[I" "[B"), .not (.castable "[I" "[J"), .not (.castable "[I" "[S"), .not (.castable "[J" "[B"), .not (.castable "[J" "[I"), .not (.castable "[J" "[S"), .not (.castable "[S" "[B"), .not (.castable "[S" "[I"), .not (.castable "[S" "[J"),
  .not (.castable "java/lang/ArrayIndexOutOfBoundsException" "java/lang/ClassCastException"), .not (.castable "java/lang/NullPointerException" "java/lang/ClassCastException"), .not (.castable "java/lang/ArrayIndexOutOfBoundsException" "java/lang/NullPointerException"), .castable "java/lang/ArrayIndexOutOfBoundsException" "java/lang/IndexOutOfBoundsException"]
def ThX (X : Cx) : Prop := X.l.flags = pinnedFlags ++ [noTraceFlag] ∧ ∀ U, X.G U → (∀ w ∈ thL, ∀ args, w.before args U = true) ∧ ∀ cT kT aS, U.vm.findClass Bundle.tN = some cT → U.vm.classes[cT]? = some kT → kT.statics = some aS → ¬ X.A aS
def thLook : Nat ⊕ Nat → Option Cond
  | .inl i => lw_tbl[i]?
  | .inr i => thL[i]?
def thGood : Nat ⊕ Nat → Bool
  | .inl i => (lw_tbl[i]?.map goodWord).getD false
  | .inr _ => true
theorem th_at {X : Cx} (hX : ThX X) {l : List Cond} (codes : List (Nat ⊕ Nat)) (hp : l = codes.filterMap thLook) (hg : codes.all thGood = true) {s : State} {args : Array Value} (hts : ∀ w ∈ lw_all, w.before args s = true) (hG : X.G s) : ∀ a ∈ l, a.before args s = true := by
  intro a ha
  rw [hp] at ha
  obtain ⟨i, hi, hl⟩ := List.mem_filterMap.mp ha
  have g := List.all_eq_true.mp hg i hi
  cases i with
  | inl i =>
    simp only [thLook] at hl
    simp only [thGood, hl, Option.map_some, Option.getD_some] at g
    exact hts _ (lw_w i hl g)
  | inr i =>
    simp only [thLook] at hl
    exact ((hX.2 s hG).1 a (List.mem_of_getElem? hl)) args
abbrev cNeg : String := "java/lang/NegativeArraySizeException"
abbrev cIdx : String := "java/lang/ArrayIndexOutOfBoundsException"
abbrev cCast : String := "java/lang/ClassCastException"
abbrev cNpe : String := "java/lang/NullPointerException"
def nmOf (C : String) : List String := if C = "java/lang/ArrayIndexOutOfBoundsException" then ["java/lang/IndexOutOfBoundsException", "java/lang/RuntimeException", "java/lang/Exception"] else ["java/lang/RuntimeException", "java/lang/Exception"]
theorem at_neg {X : Cx} (hX : ThX X) {s : State} {args : Array Value} (hts : ∀ w ∈ lw_all, w.before args s = true) (hG : X.G s) : ∀ a ∈ Bundle.messageArmAtoms cNeg ["java/lang/RuntimeException", "java/lang/Exception"], a.before args s = true := th_at hX [.inl 145, .inl 265, .inl 207, .inl 227, .inl 230, .inl 232, .inl 266, .inl 267, .inl 200, .inl 201, .inl 199, .inl 206, .inl 228, .inl 235, .inl 259, .inl 236, .inl 260, .inl 237, .inl 261, .inl 202, .inr 0, .inl 204, .inr 1, .inl 262, .inl 197, .inl 198, .inl 234, .inl 262, .inl 188, .inl 189, .inl 190, .inl 191, .inr 10, .inl 191, .inl 192, .inl 193, .inl 194, .inr 11, .inl 194, .inl 195, .inl 196, .inl 197, .inr 12, .inl 141, .inl 268, .inl 269, .inl 270, .inl 272, .inl 271, .inl 273, .inl 166, .inl 187, .inr 4, .inl 258, .inl 212, .inl 242, .inl 244, .inl 248, .inl 240, .inr 2, .inr 3, .inl 233, .inl 263, .inl 238] (by rfl) (by decide +kernel) hts hG
theorem at_idx {X : Cx} (hX : ThX X) {s : State} {args : Array Value} (hts : ∀ w ∈ lw_all, w.before args s = true) (hG : X.G s) : ∀ a ∈ Bundle.messageArmAtoms cIdx ["java/lang/IndexOutOfBoundsException", "java/lang/RuntimeException", "java/lang/Exception"], a.before args s = true := th_at hX [.inl 145, .inl 265, .inl 207, .inl 227, .inl 230, .inl 232, .inl 266, .inl 267, .inl 200, .inl 201, .inl 199, .inl 206, .inl 228, .inl 235, .inl 259, .inl 236, .inl 260, .inl 237, .inl 261, .inl 202, .inr 0, .inl 204, .inr 1, .inl 262, .inl 197, .inl 198, .inl 234, .inl 262, .inl 312, .inl 313, .inl 314, .inl 315, .inr 9, .inl 315, .inl 316, .inl 317, .inl 191, .inr 10, .inl 191, .inl 192, .inl 193, .inl 194, .inr 11, .inl 194, .inl 195, .inl 196, .inl 197, .inr 12, .inl 141, .inl 268, .inl 269, .inl 270, .inl 272, .inl 271, .inl 273, .inl 169, .inl 311, .inr 6, .inl 328, .inl 210, .inl 320, .inl 321, .inl 323, .inl 319, .inr 2, .inr 3, .inl 233, .inl 263, .inl 318] (by rfl) (by decide +kernel) hts hG
theorem at_cast {X : Cx} (hX : ThX X) {s : State} {args : Array Value} (hts : ∀ w ∈ lw_all, w.before args s = true) (hG : X.G s) : ∀ a ∈ Bundle.messageArmAtoms cCast ["java/lang/RuntimeException", "java/lang/Exception"], a.before args s = true := th_at hX [.inl 145, .inl 265, .inl 207, .inl 227, .inl 230, .inl 232, .inl 266, .inl 267, .inl 200, .inl 201, .inl 199, .inl 206, .inl 228, .inl 235, .inl 259, .inl 236, .inl 260, .inl 237, .inl 261, .inl 202, .inr 0, .inl 204, .inr 1, .inl 262, .inl 197, .inl 198, .inl 234, .inl 262, .inl 342, .inl 343, .inl 344, .inl 191, .inr 10, .inl 191, .inl 192, .inl 193, .inl 194, .inr 11, .inl 194, .inl 195, .inl 196, .inl 197, .inr 12, .inl 141, .inl 268, .inl 269, .inl 270, .inl 272, .inl 271, .inl 273, .inl 170, .inl 341, .inr 7, .inl 353, .inl 211, .inl 347, .inl 348, .inl 350, .inl 346, .inr 2, .inr 3, .inl 233, .inl 263, .inl 345] (by rfl) (by decide +kernel) hts hG
theorem at_npe {X : Cx} (hX : ThX X) {s : State} {args : Array Value} (hts : ∀ w ∈ lw_all, w.before args s = true) (hG : X.G s) : ∀ a ∈ Bundle.npeArmAtoms 8, a.before args s = true := th_at hX [.inl 145, .inl 265, .inl 207, .inl 227, .inl 230, .inl 232, .inl 266, .inl 267, .inl 200, .inl 201, .inl 199, .inl 206, .inl 228, .inl 235, .inl 259, .inl 236, .inl 260, .inl 237, .inl 261, .inl 202, .inr 0, .inl 204, .inr 1, .inl 262, .inl 224, .inl 214, .inl 215, .inl 295, .inl 297, .inl 221, .inl 222, .inr 8, .inl 286, .inl 287, .inl 288, .inl 289, .inr 13, .inl 289, .inl 290, .inl 291, .inl 292, .inr 14, .inl 292, .inl 293, .inl 294, .inl 266, .inr 15, .inl 167, .inl 219, .inr 5, .inl 308, .inl 213, .inl 303, .inl 304, .inl 306, .inr 2, .inr 3, .inl 233, .inl 263, .inl 301] (by rfl) (by decide +kernel) hts hG
theorem ncast_spec {args : Array Value} {s : State} {a b : String} {ca cb : ClassId} (h : (Cond.not (.castable a b)).before args s = true) (ha : s.vm.findClass a = some ca) (hb : s.vm.findClass b = some cb) : s.vm.assignable ca cb = false := by
  simp only [Cond.before, Cond.holds, Cond.value, ha, hb] at h
  simpa using h
theorem asg_self (vm : Vm) (c : ClassId) : vm.assignable c c = true := by
  show vm.assignableAux (255 + 1) c c = true
  rw [Vm.assignableAux, beq_self_eq_true, Bool.true_or]
/-- an exception of the class C lies at a -/
def ExcAt (C : String) (a : Addr) (s : State) (H : Heap) : Prop := ∃ cell : Cell, H[a]? = some cell ∧ cell.vm = .none ∧ s.vm.findClass C = some cell.cls
def CastY (C C' : String) : Prop := C = C' ∨ Cond.castable C C' ∈ thL
def CastN (C C' : String) : Prop := Cond.not (.castable C C') ∈ thL
def ehT (hh : List (Nat × Nat × Nat × Nat)) : Code → Prop := fun c => c.exceptionTable.toList.map (fun h => (h.startPc, h.endPc, h.handlerPc, h.catchType)) = hh
theorem ehT_nil {c : Code} (h : noEH c) : ehT [] c := by
  unfold ehT
  have h : c.exceptionTable.isEmpty = true := h
  rw [Array.isEmpty_iff] at h
  rw [h]; rfl
/-- the search over a table: r is where it ends -/
def Srch (own C : String) (pc : Nat) : List (Nat × Nat × Nat × Nat) → Option Nat → Prop
  | [], r => r = none
  | q :: t, r => ((decide (q.1 ≤ pc) && decide (pc < q.2.1)) = false ∧ Srch own C pc t r) ∨ ((decide (q.1 ≤ pc) && decide (pc < q.2.1)) = true ∧ q.2.2.2 = 0 ∧ r = some q.2.2.1) ∨ ((decide (q.1 ≤ pc) && decide (pc < q.2.1)) = true ∧ q.2.2.2 ≠ 0 ∧ ∃ C', Cond.classLink own q.2.2.2 C' ∈ lw_all ∧ ((CastY C C' ∧ r = some q.2.2.1) ∨ (CastN C C' ∧ Srch own C pc t r)))
def hdOf : Option Nat → Handler
  | none => .none
  | some p => .found p
theorem srch_fg {X : Cx} (hX : ThX X) {own C : String} {e : Env} {s : State} {args : Array Value} {f : JFrame} {a : Addr} {cell : Cell} (hpl : e.platform.magicAccessors = ({} : Platform).magicAccessors) (hts : ∀ w ∈ lw_all, w.before args s = true) (hG : X.G s) (hown : s.vm.findClass own = some f.method.cls) (hvm : cell.vm = .none) (hC : s.vm.findClass C = some cell.cls) :
    ∀ (l : List ExceptionTableEntry) (r : Option Nat) (s' : State), Srch own C f.pc (l.map (fun h => (h.startPc, h.endPc, h.handlerPc, h.catchType))) r → s.WarmedH s'.vm → s'.heap[a]? = some cell → ∃ vm', s.WarmedH vm' ∧ FG e f a l s' (hdOf r) vm' := by
  intro l
  induction l with
  | nil =>
    intro r s' h hW _
    have h : r = none := h
    subst h
    exact ⟨s'.vm, hW, FG.nil⟩
  | cons x t ih =>
    intro r s' h hW hcell
    rw [List.map_cons] at h
    rcases h with ⟨h1, h2⟩ | ⟨h1, h2, h3⟩ | ⟨h1, h2, C', h3, h4⟩
    · obtain ⟨vm', w, g⟩ := ih r s' h2 hW hcell
      exact ⟨vm', w, FG.skip h1 g⟩
    · subst h3
      exact ⟨s'.vm, hW, FG.any h1 h2⟩
    · obtain ⟨c', hc', hcl⟩ := Cond.classLink_spec hown (hts _ h3) e.platform hpl
      obtain ⟨dk, _, _, kt, hd, _, _, _, _, hkt, _, hopen⟩ := hcl.here
      have hcl' := hW.classLinks hcl
      have hobj : ∀ k, cell.vm ≠ .statics k := fun k q => by rw [hvm] at q; cases q
      obtain ⟨k1, hk1⟩ := Vm.classAt_of_findClass hC
      obtain ⟨k1', hk1', -⟩ := hW.alike.2.2 _ _ hk1
      obtain ⟨kt', hkt', -⟩ := hW.alike.2.2 _ _ hkt
      have hW' : s.WarmedH (s'.vm.noted f.method.cls x.catchType (.cls c')) := hW.noted hd hopen (State.rightAt_cls hcl)
      rcases h4 with ⟨h4, h5⟩ | ⟨h4, h5⟩
      · subst h5
        refine ⟨_, hW', FG.hit h1 h2 hcl' hcell hobj ⟨_, hk1'⟩ ⟨_, hkt'⟩ ?_⟩
        rw [hW.alike.assignable]
        rcases h4 with h4 | h4
        · subst h4
          have : c' = cell.cls := Option.some.inj (hc'.symm.trans hC)
          rw [this]
          exact asg_self _ _
        · obtain ⟨c3, c4, q1, q2, q3⟩ := Cond.castable_spec ((hX.2 s hG).1 _ h4 args)
          cases Option.some.inj (q1.symm.trans hC)
          cases Option.some.inj (q2.symm.trans hc')
          exact q3
      · obtain ⟨vm', w, g⟩ := ih r (s'.setVm (s'.vm.noted f.method.cls x.catchType (.cls c'))) h5 hW' hcell
        refine ⟨vm', w, FG.pass h1 h2 hcl' hcell hobj ⟨_, hk1'⟩ ⟨_, hkt'⟩ ?_ g⟩
        rw [hW.alike.assignable]
        exact ncast_spec ((hX.2 s hG).1 _ h4 args) hC hc'
end Exc1
