set_option maxRecDepth 100000
/-! ===== a native throws; arraycopy out of its bounds ===== -/
section NatT
variable {p : Program} {l : Launch} {e : Env} {R : Room} {s : State} {m₀ : MethodId} {args : Array Value} {below : List Frame} {meth : Method} {c : Code} {T' : State} {locs : List Loc} {cells slots : Nat}
/-- a native's throw: the note over the native's frame turns into the object, made -/
theorem natThrown (X : Stand p l e R s m₀ args below meth c T' locs cells slots) (hexec : p.tables.exec = Jvm.exec) (htr : e.platform.stackTraces = false) {cls : String} {names : List String} {text : String}
    (hcls : Bundle.fit cls = true) (hnames : ∀ n ∈ names, Bundle.fit n = true) (hsoe : (cls == "java/lang/StackOverflowError") = false) (hoom : (cls == "java/lang/OutOfMemoryError") = false)
    (h : ∀ a ∈ Bundle.messageArmAtoms cls names, a.before args s = true)
    (hlocs : ∀ cT kT aS, s.vm.findClass Bundle.tN = some cT → s.vm.classes[cT]? = some kT → kT.statics = some aS → ∀ x ∈ locs, x.base ≠ aS)
    (htext : (text == notModelled) = false) (hlimit : ¬ (stringBytes (stringToUtf16 text)).size > e.platform.arrayLengthLimit) (hheap : ¬ (stringBytes (stringToUtf16 text)).size * componentBytes .byte > e.platform.maxHeapBytes)
    {g : JFrame} (hsize : g.locals.size = c.maxLocals) {nf : NFrame} (hnf : nf.words = 0)
    (hRframes : names.length + 5 < R.frames) (hRlocals : 2 * g.monitorRoom + (g.stack.map fun v => v.category).sum + 10240 ≤ R.locals) (hshort : 13 * names.length + 55 ≤ 10240)
    (hRcells : cells + 3 ≤ R.cells) (hRslots : slots + ((stringBytes (stringToUtf16 text)).size + 4 + 6) ≤ R.slots) :
    ∃ vm' cb cs ce, s.WarmedH vm' ∧ cb.slots.size = (stringBytes (stringToUtf16 text)).size ∧ cs.slots.size = 4 ∧ ce.slots.size = 6 ∧ ce.vm = .none ∧ s.vm.findClass cls = some ce.cls ∧ (∃ k, s.vm.classes[ce.cls]? = some k) ∧
      ∀ target, Steps p.tables e below (((((T'.pushCell cb).pushCell cs).pushCell ce).setVm vm').setFrames (.throwing (T'.heap.size + 2) :: .native nf :: .java g :: below)) target →
        Steps p.tables e below (T'.setFrames (.throwNew cls (some text) none :: .native nf :: .java g :: below)) target := by
  have howns : e.platform.frameOwnsMonitors = true := by rw [X.admits.platform]
  have hfin : e.platform.finalization = false := by rw [X.admits.platform]
  have hpl : e.platform.magicAccessors = ({} : Platform).magicAccessors := by rw [X.admits.platform]
  have a : ∀ x, x ∈ Bundle.messageArmAtoms cls names → x.holds args s none s [] = true := fun x hx => h x hx
  obtain ⟨T, Z0, L, -, Y⟩ := ThrowableC.of_atoms (args := args) howns hfin hpl (fun x hx => h x (by simp [Bundle.messageArmAtoms, hx]))
  obtain ⟨Z, M, LZ, LM, hnZ⟩ := Init0T.ofS_atoms (args := args) hpl L Y (fun x hx => h x (by simp [Bundle.messageArmAtoms, hx]))
  obtain ⟨P1, Ps, hlen, L1, hL, hP1m, hlink1, hlink⟩ := Bundle.chainS (args := args) hpl hnZ names cls hcls hnames (fun x hx => h x (by simp [Bundle.messageArmAtoms, hx]))
  obtain ⟨Zs, LZs, hn4, hfitv, hfitc⟩ := StringT.of_atoms (args := args) (fun x hx => h x (by simp [Bundle.messageArmAtoms, hx]))
  have hfound : s.vm.findClass cls = some P1.m.cls := findClass_of_methodNamed hP1m
  obtain ⟨c1, kX, hc1, hk, hord, -, -, hn6⟩ := Cond.instantiable_spec (a (.instantiable cls 6) (by simp [Bundle.messageArmAtoms]))
  cases Option.some.inj (hc1.symm.trans hfound)
  have hinit := Cond.initialized_spec hfound hk (a (.initialized cls) (by simp [Bundle.messageArmAtoms]))
  have hctor : kX.findMethod "<init>" "(Ljava/lang/String;)V" = some P1.m.idx := findMethod_of_methodNamed hP1m hk
  have hsel0 : selectMethod e.platform s.vm P1.m.cls T.fill0 = .method T.fill0 := by
    obtain ⟨c2, r2, m2, q1, q2, q3, q4, -⟩ := Cond.selects_spec (a (.selects cls Bundle.tFill0 Bundle.tFill0) (by simp [Bundle.messageArmAtoms]))
    cases Option.some.inj (q1.symm.trans hfound)
    cases Option.some.inj (q2.symm.trans (State.methodFound?_of_named Y.fill0 (by decide)))
    cases Option.some.inj (q3.symm.trans Y.fill0)
    rw [Launch.admits_selectMethod X.admits]; exact q4
  have hselF : selectMethod e.platform s.vm P1.m.cls T.fill = .method T.fill := by
    obtain ⟨c2, r2, m2, q1, q2, q3, q4, -⟩ := Cond.selects_spec (a (.selects cls Bundle.tFill Bundle.tFill) (by simp [Bundle.messageArmAtoms]))
    cases Option.some.inj (q1.symm.trans hfound)
    cases Option.some.inj (q2.symm.trans (State.methodFound?_of_named Y.fill (by decide)))
    cases Option.some.inj (q3.symm.trans Y.fill)
    rw [Launch.admits_selectMethod X.admits]; exact q4
  obtain ⟨cellS0, hcS0, hiss⟩ := Y.statics
  obtain ⟨u0, hu0⟩ := Cond.staticRefV Y.unassigned L.unassignedStatic L.statics hcS0 hiss (a (.isRef (.static Bundle.tN "UNASSIGNED_STACK" Bundle.steD)) (by simp [Bundle.messageArmAtoms]))
  obtain ⟨sen, hsen⟩ := Cond.staticRefV Y.sentinel L.sentinelStatic L.statics hcS0 hiss (a (.isRef (.static Bundle.tN "SUPPRESSED_SENTINEL" Bundle.listD)) (by simp [Bundle.messageArmAtoms]))
  obtain ⟨ci198, i198, fB, hk198, hg198, ha198, hsB, -, hnB, htB, hffB⟩ := Cond.ownField (t := .object "java/lang/Object") Y.found L.cls (by decide +kernel) (a (.fieldLink Bundle.tN 198 Bundle.tN "backtrace" "Ljava/lang/Object;") (by simp [Bundle.messageArmAtoms])) (a (.lays Bundle.tN Bundle.tN "backtrace" "Ljava/lang/Object;") (by simp [Bundle.messageArmAtoms])) e.platform hpl
  obtain ⟨cellS, hcS', heS, -, hkeep⟩ := X.same.2.2.2.2.2 T.aS cellS0 hcS0
  have hcellS : T'.heap[T.aS]? = some cellS := hcS'
  have hout' : ∀ i, (⟨T.aS, i⟩ : Loc) ∉ locs := fun i hmem => hlocs _ _ _ Y.found L.cls L.statics _ hmem rfl
  have hknownS : cellS.vm ≠ .unknown := by
    rw [heS]; intro hu
    rw [show cellS0.vm = .unknown from hu] at hiss
    cases hiss
  obtain ⟨iM, hffM⟩ := Y.msg
  obtain ⟨tyC, dC, hdC, hdnC⟩ := Cond.laysAt hfound hk Y.cause (a (.lays cls Bundle.tN "cause" "Ljava/lang/Throwable;") (by simp [Bundle.messageArmAtoms]))
  obtain ⟨tyS, dS, hdS, hdnS⟩ := Cond.laysAt hfound hk Y.stack (a (.lays cls Bundle.tN "stackTrace" Bundle.steD) (by simp [Bundle.messageArmAtoms]))
  obtain ⟨tyP, dP, hdP, hdnP⟩ := Cond.laysAt hfound hk Y.supp (a (.lays cls Bundle.tN "suppressedExceptions" Bundle.listD) (by simp [Bundle.messageArmAtoms]))
  obtain ⟨tyM, dM, hdM, hdnM⟩ := Cond.laysAt hfound hk hffM (a (.lays cls Bundle.tN "detailMessage" "Ljava/lang/String;") (by simp [Bundle.messageArmAtoms]))
  obtain ⟨tyB, dB, hdB, hdnB⟩ := Cond.laysAt hfound hk hffB (a (.lays cls Bundle.tN "backtrace" "Ljava/lang/Object;") (by simp [Bundle.messageArmAtoms]))
  have bC := Cond.laysApart hdB hdC hdnB hdnC (by rw [hnB, Y.causeName]; decide)
  have bS := Cond.laysApart hdB hdS hdnB hdnS (by rw [hnB, Y.stackName]; decide)
  have bP := Cond.laysApart hdB hdP hdnB hdnP (by rw [hnB, Y.suppName]; decide)
  have hskip : SkipFacts T e.platform s (fun u => u) u0 ((preparedCellV T.toThrowableT (freshCell P1.m.cls kX) (T'.heap.size + 2) u0 sen).withEntry T'.cur) :=
    ⟨{ ci198 := ci198, i198 := i198, fBack := fB }, ⟨hk198, hg198, ha198, hsB⟩, by
      have := fresh_default (c := P1.m.cls) tyB
      rw [htB] at this
      simpa [preparedCellV, Cell.setSlot, Cell.withEntry, Array.getElem?_setIfInBounds, bC, bS, bP, bC.symm, bS.symm, bP.symm, defaultValue] using this, fun _ _ => rfl⟩
  obtain ⟨g₁, hfr⟩ := X.frames_eq
  have hcur : T'.cur < T'.threads.size := State.cur_lt_of_frames hfr
  have use0 : (stackUse (.native nf :: .java g :: below)).2 = (stackUse (.java g :: below)).2 := by rw [stackUse_light (.native nf) _ (fun f hf => by cases hf) hnf]
  have tl : T'.frames.tail = below := X.tail
  have hwd' : (stackUse (.native nf :: .java g :: below)).2 + 13 * Ps.length + 55 ≤ (e.platform.stackLimits T'.me).2 := by
    have := X.stackAbove hsize (K := 13 * Ps.length + 55) (by omega)
    rw [tl] at this
    rw [use0]; omega
  have hfr' : (Frame.native nf :: .java g :: below).length + Ps.length + 4 < (e.platform.stackLimits T'.me).1 := by
    have := X.framesAbove hRframes
    rw [hfr] at this
    simp only [List.length_cons] at this ⊢
    omega
  have hslots : T'.slotsUsed + (stringBytes (stringToUtf16 text)).size + Zs.kS.instanceTypes.size + kX.instanceTypes.size ≤ e.platform.maxSlots := by have := X.slotsAbove hRslots; omega
  obtain ⟨hbeyond, hfreeW⟩ : e.platform.stackBeyond ((((T'.setFrames (.throwNew cls (some text) none :: .native nf :: .java g :: below)).threads[T'.cur]?).map (·.stackBytes)).getD 0) (T'.setFrames (.throwNew cls (some text) none :: .native nf :: .java g :: below)).frames = false ∧
      e.platform.vmThrowRoom ≤ e.platform.stackFree ((((T'.setFrames (.throwNew cls (some text) none :: .native nf :: .java g :: below)).threads[T'.cur]?).map (·.stackBytes)).getD 0) (T'.setFrames (.throwNew cls (some text) none :: .native nf :: .java g :: below)).frames := by
    have hb : ((((T'.setFrames (.throwNew cls (some text) none :: .native nf :: .java g :: below)).threads[T'.cur]?).map (·.stackBytes)).getD 0) = T'.me.stackBytes := by
      rw [← State.stackBytes_setFrames T' (.throwNew cls (some text) none :: .native nf :: .java g :: below)]
      exact State.stackBytes_me (T'.setFrames (.throwNew cls (some text) none :: .native nf :: .java g :: below))
    have hA := X.stackAbove hsize hRlocals
    rw [tl] at hA
    have hlimit' : (e.platform.stackLimits T'.me).2 = (e.platform.limitsFor T'.me.stackBytes).2 := rfl
    rw [hb, State.frames_setFrames _ hcur, Launch.admits_vmThrowRoom X.admits]
    unfold Platform.stackBeyond Platform.stackFree
    rw [stackUse_light _ _ (fun f hf => by cases hf) rfl, use0]
    exact ⟨decide_eq_false (by omega), by omega⟩
  obtain ⟨kX', hk', he'⟩ := X.warmed.alike.2.2 _ _ hk
  have hty : kX'.instanceTypes = kX.instanceTypes := by rw [he']
  have hfresh : freshCell P1.m.cls kX' = (freshCell P1.m.cls kX) := by
    show ({ cls := P1.m.cls, slots := kX'.instanceTypes.map defaultValue, vm := .none } : Cell) = _
    rw [hty]
  obtain ⟨kS', kB', LZ', htyS⟩ := LZs.warmer X.warmed.alike
  have hsame : withThrown T' { Zs with kS := kS', kB := kB' } text P1.m.cls kX' = (withThrown T' Zs text P1.m.cls kX) := by
    rw [← withThrown_warmer T' Zs (kB' := kB') htyS text P1.m.cls kX]
    show (withString T' _ _ _ _ _ _).pushCell (freshCell P1.m.cls kX') = (withString T' _ _ _ _ _ _).pushCell (freshCell P1.m.cls kX)
    rw [hfresh]
  have hfs : T'.fitsSlot = s.fitsSlot := (show T'.fitsSlot = (s.setVm T'.vm).fitsSlot from rfl).trans (State.fitsSlot_setVm X.warmed.alike)
  obtain ⟨w1, w2, -, w4, w5, -, w7⟩ := withThrown_facts e.platform T' Zs text P1.m.cls kX
  have hltS : T.aS < T'.heap.size := (Array.getElem?_eq_some_iff.mp hcellS).1
  have hWcur : (withThrown T' Zs text P1.m.cls kX).cur = T'.cur := by simp [withThrown, withString]
  have hWat : At (withThrown T' Zs text P1.m.cls kX) m₀ c below := by simpa [withThrown, withString] using X.here
  have hWlt : (withThrown T' Zs text P1.m.cls kX).cur < (withThrown T' Zs text P1.m.cls kX).threads.size := State.cur_lt_of_frames (w2.trans hfr)
  have hmW : ∀ {m meth}, s.vm.method? m = some meth → (withThrown T' Zs text P1.m.cls kX).vm.method? m = some meth := fun hm => by rw [w1]; exact X.warmed.methodAt hm
  have hW0 : s.WarmedH (withThrown T' Zs text P1.m.cls kX).vm := by rw [w1]; exact X.warmed
  generalize hWd : withThrown T' Zs text P1.m.cls kX = W at *
  have go : ∀ (U : State), At U m₀ c below → ∀ fs, (U.setFrames fs).goesOn := fun U hU fs => ⟨hU.running, by simpa using hU.runnable, by simpa using hU.alone⟩
  have hfN : ∀ vm : Vm, ((W.setVm vm).setFrames (.thenThrow (T'.heap.size + 2) :: .native nf :: .java g :: below)).frames = .thenThrow (T'.heap.size + 2) :: .native nf :: .java g :: below := fun vm => State.frames_setFrames _ hWlt
  have hI : ∀ vm : Vm, s.WarmedH vm → At (((W.setVm vm).setFrames (.thenThrow (T'.heap.size + 2) :: .native nf :: .java g :: below)).pushFrame (.java (passJ P1.m (T'.heap.size + 2) (.ref (T'.heap.size + 1)) 0 []))) P1.m P1.code below := fun vm hv =>
    At.pushOn _ (go _ (hWat.setVm (hW0.alike.symm.trans hv.alike)) _) (State.cur_lt_of_frames (hfN vm)) ⟨[.thenThrow (T'.heap.size + 2), .native nf, .java g], by rw [hfN vm]; rfl⟩ (hv.methodAt L1.method) L1.code (hv.plainAt (U := W.setVm vm) L1.plain)
  have hfI : ∀ vm : Vm, (((W.setVm vm).setFrames (.thenThrow (T'.heap.size + 2) :: .native nf :: .java g :: below)).pushFrame (.java (passJ P1.m (T'.heap.size + 2) (.ref (T'.heap.size + 1)) 0 []))).frames = .java (passJ P1.m (T'.heap.size + 2) (.ref (T'.heap.size + 1)) 0 []) :: .thenThrow (T'.heap.size + 2) :: .native nf :: .java g :: below := fun vm => by
    rw [State.pushFrame, State.frames_setFrames _ (State.cur_lt_of_frames (hfN vm)), hfN vm]
  have hI0 : At ((W.setFrames (.thenThrow (T'.heap.size + 2) :: .native nf :: .java g :: below)).pushFrame (.java (passJ P1.m (T'.heap.size + 2) (.ref (T'.heap.size + 1)) 0 []))) P1.m P1.code below := hI W.vm hW0
  obtain ⟨vm1, hW1, st1⟩ := Steps.invokeInitCold (tb := p.tables) (s₀ := s) (U := ((W.setFrames (.thenThrow (T'.heap.size + 2) :: .native nf :: .java g :: below)).pushFrame (.java (passJ P1.m (T'.heap.size + 2) (.ref (T'.heap.size + 1)) 0 [])))) (f := passJ P1.m (T'.heap.size + 2) (.ref (T'.heap.size + 1)) 2 [.ref (T'.heap.size + 1), .ref (T'.heap.size + 2)]) (args := [.ref (T'.heap.size + 1)]) (rest := []) (a := T'.heap.size + 2) hI0 hexec L1.at2 hW0 L1.links L1.right L1.notHandle L1.cls L1.file L1.pool
    L1.supClass L1.supMethod L1.supName L1.supStatic L1.supAbstract L1.supFound L1.supParams.symm rfl
  have hXlim : e.platform.stackLimits (((W.setVm vm1).setFrames (.thenThrow (T'.heap.size + 2) :: .native nf :: .java g :: below)).pushFrame (.java (passJ P1.m (T'.heap.size + 2) (.ref (T'.heap.size + 1)) 0 []))).me = e.platform.stackLimits T'.me := by
    rw [State.stackLimits_pushFrame, State.stackLimits_setFrames]; exact w7
  have hXfr := hfI vm1
  have hXc : (((W.setVm vm1).setFrames (.thenThrow (T'.heap.size + 2) :: .native nf :: .java g :: below)).pushFrame (.java (passJ P1.m (T'.heap.size + 2) (.ref (T'.heap.size + 1)) 0 []))).heap[T'.heap.size + 2]? = some (freshCell P1.m.cls kX) := w4
  have hXS : (((W.setVm vm1).setFrames (.thenThrow (T'.heap.size + 2) :: .native nf :: .java g :: below)).pushFrame (.java (passJ P1.m (T'.heap.size + 2) (.ref (T'.heap.size + 1)) 0 []))).heap[T.aS]? = some cellS := (w5 _ hltS).trans hcellS
  have hXvm : ∀ w, (((W.setVm vm1).setFrames (.thenThrow (T'.heap.size + 2) :: .native nf :: .java g :: below)).pushFrame (.java (passJ P1.m (T'.heap.size + 2) (.ref (T'.heap.size + 1)) 0 []))).setVm w = (((W.setVm w).setFrames (.thenThrow (T'.heap.size + 2) :: .native nf :: .java g :: below)).pushFrame (.java (passJ P1.m (T'.heap.size + 2) (.ref (T'.heap.size + 1)) 0 []))) := fun w => by rw [State.pushFrame_setVm, State.setFrames_setVm, State.setVm_twice]
  obtain ⟨vm2, hW2, st2⟩ := Steps.initThrowableSColdByV p (s₀ := s) (V := (((W.setVm vm1).setFrames (.thenThrow (T'.heap.size + 2) :: .native nf :: .java g :: below)).pushFrame (.java (passJ P1.m (T'.heap.size + 2) (.ref (T'.heap.size + 1)) 0 [])))) (g := passJ P1.m (T'.heap.size + 2) (.ref (T'.heap.size + 1)) 2 []) (c := P1.code) (self := T'.heap.size + 2) (hI vm1 hW1) hexec T L Z LZ M LM hW1 (t := T'.cur) hWcur
    (Nn := fun u => u) heapOnly_id (fun _ _ => rfl) (fun _ => rfl) (fun u x y => setCell_twice _ _ _ _) (fun _ => Nat.le_refl _) (u0 := u0) (sen := sen) (cN := ((preparedCellV T.toThrowableT (freshCell P1.m.cls kX) (T'.heap.size + 2) u0 sen).withEntry T'.cur)) (msg := .ref (T'.heap.size + 1)) rfl hXc (by intro k hk'; cases hk') (by intro hk'; cases hk') rfl
    hsel0 hXS (Nat.ne_of_lt (Nat.lt_of_lt_of_le hltS (Nat.le_add_right _ 2))) hknownS (by rw [hkeep _ (hout' _)]; exact hu0) (Takes.of_laid hk hord tyS (by rw [Y.stackType]; exact fits_refV_array _ u0)) (fun _ hu => hu) (fun _ hu => hu) rfl rfl rfl (by simp [preparedCellV, Cell.setSlot, Cell.withEntry]) hskip
    (fun _ _ hA hW _ hroom _ hrest => L.nativeOff p htr hA hW hroom hrest) hselF (by rw [hkeep _ (hout' _)]; exact hsen) (Takes.of_laid hk hord tyC (by rw [Y.causeType]; rfl)) (Takes.of_laid hk hord tyP (by rw [Y.suppType]; exact fits_refV_object _ sen)) (Takes.of_laid hk hord tyM (by rw [Y.msgType]; rfl)) Y.objLocals Ps hL hlink (ig := .invokespecial P1.index) (len := 3) [] hXlim
    (by rw [hXfr]; simp only [List.length_cons] at hfr' ⊢; omega)
    (by rw [hXfr, List.tail_cons, stackUse_java, stackUse_light _ _ (fun f hf => by cases hf) rfl]
        show (stackUse (.native nf :: .java g :: below)).2 + (2 + 11 + 2 * 0 + operandWords []) + 13 * Ps.length + 42 ≤ _
        simp only [operandWords, List.foldl_nil]
        omega)
    L1.at2
  rw [plainBareV_eq T.toThrowableT (T'.heap.size + 2) u0 sen (.ref (T'.heap.size + 1)) T'.cur rfl rfl] at st2
  have hsz : (freshCell P1.m.cls kX).slots.size = (plainBareV T.toThrowableT (freshCell P1.m.cls kX) (T'.heap.size + 2) u0 sen (.ref (T'.heap.size + 1))).slots.size := by simp [plainBareV, preparedCellV, Cell.setSlot]
  refine ⟨vm2, bytesOf Zs.cB (stringToUtf16 text), stringAt Zs.cS Zs.kS Zs.fv Zs.fc (stringToUtf16 text) T'.heap.size, plainBareV T.toThrowableT (freshCell P1.m.cls kX) (T'.heap.size + 2) u0 sen (.ref (T'.heap.size + 1)), hW2, by rw [(Cell.writeAll_facts _ _).2.2]; simp [bytes0], by simp [string0, Cell.setSlot, hn4], by rw [← hsz]; simp [hn6], rfl, hfound, ⟨kX, hk⟩, fun target hrest => ?_⟩
  have e1 : (W.setVm vm2).setCell (T'.heap.size + 2) (plainBareV T.toThrowableT (freshCell P1.m.cls kX) (T'.heap.size + 2) u0 sen (.ref (T'.heap.size + 1))) = (((T'.pushCell (bytesOf Zs.cB (stringToUtf16 text))).pushCell (stringAt Zs.cS Zs.kS Zs.fv Zs.fc (stringToUtf16 text) T'.heap.size)).pushCell (plainBareV T.toThrowableT (freshCell P1.m.cls kX) (T'.heap.size + 2) u0 sen (.ref (T'.heap.size + 1)))).setVm vm2 := by
    rw [← hWd, withString_eq2, ← pushSet _ _ _ hsz, pushSz, pushSz]
    rfl
  rw [← e1] at hrest
  have hv1 : T'.fitsSlot Zs.cS .none Zs.fv.slot (.ref T'.heap.size) = true := by rw [hfs]; exact hfitv _
  have hv2 : T'.fitsSlot Zs.cS .none Zs.fc.slot (.int (stringCoder (stringToUtf16 text))) = true := by rw [hfs]; exact hfitc _
  have hf0 : (T'.setFrames (.throwNew cls (some text) none :: .native nf :: .java g :: below)).frames = .throwNew cls (some text) none :: .native nf :: .java g :: below := State.frames_setFrames _ hcur
  refine Steps.head (go T' X.here _) ⟨[.throwNew cls (some text) none, .native nf, .java g], by rw [hf0]; rfl, by simp, by simp⟩ ?_
  rw [stepThread_throwNew hf0, stepThrowNew_message (s := T'.setFrames (.throwNew cls (some text) none :: .native nf :: .java g :: below)) (c := P1.m.cls) (k := kX') (i := P1.m.idx) { Zs with kS := kS', kB := kB' } LZ' hsoe hoom (by show T'.vm.findClass cls = _; rw [X.warmed.alike.findClass]; exact hfound) hk' (by rw [he']; exact hinit) (by rw [he']; exact hord)
    (Launch.admits_hotImplicitExceptions X.admits) hbeyond hfreeW htext (by rw [he']; exact hctor) hlimit hheap (X.cellsAbove hRcells) (by show T'.slotsUsed + _ + kS'.instanceTypes.size + kX'.instanceTypes.size ≤ _; rw [htyS, hty]; exact hslots) hv1 hv2]
  have hN : (withThrown (T'.setFrames (.throwNew cls (some text) none :: .native nf :: .java g :: below)) { Zs with kS := kS', kB := kB' } text P1.m.cls kX').setFrames (.thenThrow ((T'.setFrames (.throwNew cls (some text) none :: .native nf :: .java g :: below)).heap.size + 2) :: .native nf :: .java g :: below) = W.setFrames (.thenThrow (T'.heap.size + 2) :: .native nf :: .java g :: below) := by
    rw [withThrown_setFrames, State.setFrames_setFrames, hsame]
    rfl
  rw [hN]
  have hroom := roomAbove (pl := e.platform) (u := W.setFrames (.thenThrow (T'.heap.size + 2) :: .native nf :: .java g :: below)) (vars := 2) (pushed := [.thenThrow (T'.heap.size + 2)]) (base := .native nf :: .java g :: below) (free := 13 * Ps.length + 55) (lim := e.platform.stackLimits T'.me) (hfN W.vm) (by rw [State.stackLimits_setFrames]; exact w7)
    (by simp only [List.length_cons, List.length_nil] at hfr' ⊢; omega) (by omega) (by rw [stackUse_light _ _ (fun f hf => by cases hf) rfl, stackUse_nil]; show 0 + 2 + 11 ≤ _; omega)
  show Steps p.tables e below (doInvoke e (W.setFrames (.thenThrow (T'.heap.size + 2) :: .native nf :: .java g :: below)) [] P1.m #[.ref (T'.heap.size + 2), .ref (T'.heap.size + 1)]).1 target
  rw [(doInvoke_java (s := (W.setFrames (.thenThrow (T'.heap.size + 2) :: .native nf :: .java g :: below))) (e := e) (acts := []) (args := #[.ref (T'.heap.size + 2), .ref (T'.heap.size + 1)]) (meth := P1.meth) (code := P1.code) (hW0.methodAt L1.method) L1.code L1.locks (by rw [L1.locals]; exact hroom)).1, L1.locals]
  show Steps p.tables e below ((W.setFrames (.thenThrow (T'.heap.size + 2) :: .native nf :: .java g :: below)).pushFrame (.java (passJ P1.m (T'.heap.size + 2) (.ref (T'.heap.size + 1)) 0 []))) target
  rw [← State.setTop_self (s := ((W.setFrames (.thenThrow (T'.heap.size + 2) :: .native nf :: .java g :: below)).pushFrame (.java (passJ P1.m (T'.heap.size + 2) (.ref (T'.heap.size + 1)) 0 [])))) (State.topJava?_of_frames (hfI W.vm))]
  jvm_step hI0 [hexec, L1.at0, Value.isRef]
  jvm_step hI0 [hexec, L1.at1, Value.isRef]
  refine st1 target ?_
  rw [hlink1]
  have hV : ((W.setFrames (.thenThrow (T'.heap.size + 2) :: .native nf :: .java g :: below)).pushFrame (.java (passJ P1.m (T'.heap.size + 2) (.ref (T'.heap.size + 1)) 0 []))).setVm vm1 = ((W.setVm vm1).setFrames (.thenThrow (T'.heap.size + 2) :: .native nf :: .java g :: below)).pushFrame (.java (passJ P1.m (T'.heap.size + 2) (.ref (T'.heap.size + 1)) 0 [])) := by rw [State.pushFrame_setVm, State.setFrames_setVm]
  rw [hV]
  refine st2 target ?_
  rw [hXvm]
  generalize plainBareV T.toThrowableT (freshCell P1.m.cls kX) (T'.heap.size + 2) u0 sen (.ref (T'.heap.size + 1)) = cx at hrest
  have hB : At ((((W.setVm vm2).setFrames (.thenThrow (T'.heap.size + 2) :: .native nf :: .java g :: below)).pushFrame (.java (passJ P1.m (T'.heap.size + 2) (.ref (T'.heap.size + 1)) 0 []))).setCell (T'.heap.size + 2) cx) P1.m P1.code below := by simpa using hI vm2 hW2
  have hfH : ((((W.setVm vm2).setFrames (.thenThrow (T'.heap.size + 2) :: .native nf :: .java g :: below)).pushFrame (.java (passJ P1.m (T'.heap.size + 2) (.ref (T'.heap.size + 1)) 0 []))).setCell (T'.heap.size + 2) cx).frames = .java (passJ P1.m (T'.heap.size + 2) (.ref (T'.heap.size + 1)) 0 []) :: .thenThrow (T'.heap.size + 2) :: .native nf :: .java g :: below := by simpa using hfI vm2
  have hme : ((((W.setVm vm2).setFrames (.thenThrow (T'.heap.size + 2) :: .native nf :: .java g :: below)).pushFrame (.java (passJ P1.m (T'.heap.size + 2) (.ref (T'.heap.size + 1)) 0 []))).setCell (T'.heap.size + 2) cx).vm.method? P1.m = some P1.meth := by
    rw [show ((((W.setVm vm2).setFrames (.thenThrow (T'.heap.size + 2) :: .native nf :: .java g :: below)).pushFrame (.java (passJ P1.m (T'.heap.size + 2) (.ref (T'.heap.size + 1)) 0 []))).setCell (T'.heap.size + 2) cx).vm = vm2 from (heapOnly_id.thenSetCell (T'.heap.size + 2) cx).vm _]
    exact hW2.methodAt L1.method
  have hHI : ∀ F, ((((W.setVm vm2).setFrames (.thenThrow (T'.heap.size + 2) :: .native nf :: .java g :: below)).pushFrame (.java (passJ P1.m (T'.heap.size + 2) (.ref (T'.heap.size + 1)) 0 []))).setCell (T'.heap.size + 2) cx).setFrames F = ((W.setVm vm2).setCell (T'.heap.size + 2) cx).setFrames F := fun F => by
    have hs : ∀ (u : State) fs, (u.setFrames fs).setCell (T'.heap.size + 2) cx = (u.setCell (T'.heap.size + 2) cx).setFrames fs := fun u fs => (heapOnly_id.thenSetCell (T'.heap.size + 2) cx).setFrames u fs
    rw [State.pushFrame, hs, State.setFrames_setFrames, hs, State.setFrames_setFrames]
  generalize (((W.setVm vm2).setFrames (.thenThrow (T'.heap.size + 2) :: .native nf :: .java g :: below)).pushFrame (.java (passJ P1.m (T'.heap.size + 2) (.ref (T'.heap.size + 1)) 0 []))).setCell (T'.heap.size + 2) cx = U at hB hfH hme hHI ⊢
  show Steps p.tables e below (U.setTop (passJ P1.m (T'.heap.size + 2) (.ref (T'.heap.size + 1)) 5 [])) target
  jvm_step hB [hexec, L1.at5, return_.wp_sem]
  intro acts2
  rw [ret_to (t := U) (f := passJ P1.m (T'.heap.size + 2) (.ref (T'.heap.size + 1)) 5 []) (f₀ := passJ P1.m (T'.heap.size + 2) (.ref (T'.heap.size + 1)) 0 []) (below := .thenThrow (T'.heap.size + 2) :: .native nf :: .java g :: below)
      (fs := .thenThrow (T'.heap.size + 2) :: .native nf :: .java g :: below) (meth := P1.meth) hfH hme L1.locks rfl rfl rfl acts2]
  have hf1 : (U.setFrames (.thenThrow (T'.heap.size + 2) :: .native nf :: .java g :: below)).frames = .thenThrow (T'.heap.size + 2) :: .native nf :: .java g :: below := State.frames_setFrames _ (State.cur_lt_of_frames hfH)
  refine Steps.head ⟨hB.running, by simpa using hB.runnable, by simpa using hB.alone⟩ ⟨[.thenThrow (T'.heap.size + 2), .native nf, .java g], by rw [hf1]; rfl, by simp, by simp⟩ ?_
  rw [stepThread_thenThrow hf1]
  show Steps p.tables e below ((U.setFrames (.thenThrow (T'.heap.size + 2) :: .native nf :: .java g :: below)).setFrames (.throwing (T'.heap.size + 2) :: .native nf :: .java g :: below)) target
  rw [State.setFrames_setFrames, hHI]
  exact hrest
end NatT
section NatC
theorem int_print {i : Int} (h1 : i < 2 ^ 32) (h2 : -(2 : Int) ^ 32 ≤ i) : (toString i).toList.length ≤ 11 := by
  show (Int.repr i).toList.length ≤ 11
  cases h : i with
  | ofNat m =>
    rw [h] at h1
    have h1' : (m : Int) < 2 ^ 32 := h1
    have := nat_print (n := m) (by omega)
    show (toString m).toList.length ≤ 11
    omega
  | negSucc m =>
    rw [h] at h2
    have h2' : -(2 : Int) ^ 32 ≤ -((m : Int) + 1) := by simpa [Int.negSucc_eq] using h2
    have := nat_print (n := m.succ) (by omega)
    show ("-" ++ toString m.succ).toList.length ≤ 11
    rw [String.toList_append, List.length_append]
    have h0 : "-".toList.length = 1 := by decide
    omega
theorem kind_print (ty : FieldType) : (toString (Native.java_lang_System.arraycopy.kindName ty)).toList.length ≤ 12 := by
  cases ty <;> first | decide | (show (toString "object array").toList.length ≤ 12; decide)
theorem acp_text (what : String) : (("arraycopy: " ++ what) == notModelled) = false := by
  rw [beq_eq_false_iff_ne]
  intro h
  have h2 := congrArg String.toList h
  rw [String.toList_append, show "arraycopy: ".toList = 'a' :: "rraycopy: ".toList by decide, show notModelled.toList = '\u0000' :: " a message that is not modelled".toList by decide] at h2
  simp at h2
theorem acp_bytes {what : String} (h : what.toList.length ≤ 100) : (stringBytes (stringToUtf16 ("arraycopy: " ++ what))).size ≤ 444 := by
  have b1 := stringBytes_size_le (stringToUtf16 ("arraycopy: " ++ what))
  have b2 := utf16_size_le ("arraycopy: " ++ what)
  rw [String.toList_append, List.length_append, show "arraycopy: ".toList.length = 11 by decide] at b2
  omega
/-- arraycopy out of its bounds -/
theorem copyBad {e : Env} {d : Bool} {s : State} {src dst : Addr} {sp dp len : Int32} {cs cd : Cell} {ks kd : Class} {sC dC : ClassId} {ty : FieldType} (hs : s.heap[src]? = some cs) (hd : s.heap[dst]? = some cd) (hsobj : ∀ k, cs.vm ≠ .statics k) (hdobj : ∀ k, cd.vm ≠ .statics k)
    (hks : s.vm.classes[cs.cls]? = some ks) (hkd : s.vm.classes[cd.cls]? = some kd) (hsk : ks.kind = .array sC ty) (hdk : kd.kind = .array dC ty) (hty : ((refKind ty != refKind ty) || (!refKind ty && ty != ty)) = false) (z1 : cs.slots.size < 2 ^ 31) (z2 : cd.slots.size < 2 ^ 31)
    (bad : sp < 0 ∨ dp < 0 ∨ len < 0 ∨ sp.toInt + len.toInt > cs.slots.size ∨ dp.toInt + len.toInt > cd.slots.size) :
    ∃ what : String, what.toList.length ≤ 100 ∧ ∀ (Q : Option Value → Pre) (E : CtlPost) (acts : List Action), E (.throwNew "java/lang/ArrayIndexOutOfBoundsException" (some ("arraycopy: " ++ what))) acts s → wp (Native.java_lang_System.arraycopy.sem #[.ref src, .int sp, .ref dst, .int dp, .int len]) Q E e d acts s := by
  have i1 := Int32.toInt_lt sp
  have i2 := Int32.le_toInt sp
  have i3 := Int32.toInt_lt dp
  have i4 := Int32.le_toInt dp
  have i5 := Int32.toInt_lt len
  have i6 := Int32.le_toInt len
  unfold refKind at hty
  have key : ∀ what : String, (if sp < 0 then some (toString "source index " ++ toString sp ++ toString " out of bounds for " ++ toString (toString (Native.java_lang_System.arraycopy.kindName ty) ++ toString "[" ++ toString cs.slots.size ++ toString "]"))
    else if dp < 0 then some (toString "destination index " ++ toString dp ++ toString " out of bounds for " ++ toString (toString (Native.java_lang_System.arraycopy.kindName ty) ++ toString "[" ++ toString cd.slots.size ++ toString "]"))
    else if len < 0 then some (toString "length " ++ toString len ++ toString " is negative")
    else if sp.toInt + len.toInt > cs.slots.size then some (toString "last source index " ++ toString (sp.toInt + len.toInt) ++ toString " out of bounds for " ++ toString (toString (Native.java_lang_System.arraycopy.kindName ty) ++ toString "[" ++ toString cs.slots.size ++ toString "]"))
    else if dp.toInt + len.toInt > cd.slots.size then some (toString "last destination index " ++ toString (dp.toInt + len.toInt) ++ toString " out of bounds for " ++ toString (toString (Native.java_lang_System.arraycopy.kindName ty) ++ toString "[" ++ toString cd.slots.size ++ toString "]"))
    else none) = some what → ∀ (Q : Option Value → Pre) (E : CtlPost) (acts : List Action), E (.throwNew "java/lang/ArrayIndexOutOfBoundsException" (some ("arraycopy: " ++ what))) acts s → wp (Native.java_lang_System.arraycopy.sem #[.ref src, .int sp, .ref dst, .int dp, .int len]) Q E e d acts s := by
    intro what hf Q E acts hE
    rw [Native.java_lang_System.arraycopy.sem_refs]
    unfold Native.java_lang_System.arraycopy.behind
    simp only [wp_bind', W.classOf, W.theClass, hs, hd, hks, hkd, Option.some.injEq, exists_eq_left', hsk, hdk]
    refine ⟨hsobj, hdobj, ?_⟩
    simp only [hty, Bool.false_eq_true, if_false]
    simp only [wp_bind', W.sizeOf, hs, hd, Option.some.injEq, exists_eq_left']
    rw [hf]
    simp only [wp_bind', W.mark, W.throwNew]
    exact hE
  have k0 := kind_print ty
  have k1 := nat_print (n := cs.slots.size) (by omega)
  have k2 := nat_print (n := cd.slots.size) (by omega)
  have a1 : (toString "[").toList.length = 1 := by decide
  have a2 : (toString "]").toList.length = 1 := by decide
  have a3 : (toString " out of bounds for ").toList.length = 19 := by decide
  have tt : ∀ x : String, toString x = x := fun _ => rfl
  by_cases c1 : sp < 0
  · refine ⟨_, ?_, key _ (if_pos c1)⟩
    have := int32_print sp
    have a4 : (toString "source index ").toList.length = 13 := by decide
    simp only [tt, String.toList_append, List.length_append] at *
    omega
  by_cases c2 : dp < 0
  · refine ⟨_, ?_, key _ (by rw [if_neg c1, if_pos c2])⟩
    have := int32_print dp
    have a4 : (toString "destination index ").toList.length = 18 := by decide
    simp only [tt, String.toList_append, List.length_append] at *
    omega
  by_cases c3 : len < 0
  · refine ⟨_, ?_, key _ (by rw [if_neg c1, if_neg c2, if_pos c3])⟩
    have := int32_print len
    have a4 : (toString "length ").toList.length = 7 := by decide
    have a5 : (toString " is negative").toList.length = 12 := by decide
    simp only [tt, String.toList_append, List.length_append] at *
    omega
  by_cases c4 : sp.toInt + len.toInt > cs.slots.size
  · refine ⟨_, ?_, key _ (by rw [if_neg c1, if_neg c2, if_neg c3, if_pos c4])⟩
    have := int_print (i := sp.toInt + len.toInt) (by omega) (by omega)
    have a4 : (toString "last source index ").toList.length = 18 := by decide
    simp only [tt, String.toList_append, List.length_append] at *
    omega
  have c5 : dp.toInt + len.toInt > cd.slots.size := by
    rcases bad with q | q | q | q | q
    · exact absurd q c1
    · exact absurd q c2
    · exact absurd q c3
    · exact absurd q c4
    · exact q
  refine ⟨_, ?_, key _ (by rw [if_neg c1, if_neg c2, if_neg c3, if_neg c4, if_pos c5])⟩
  have := int_print (i := dp.toInt + len.toInt) (by omega) (by omega)
  have a4 : (toString "last destination index ").toList.length = 23 := by decide
  simp only [tt, String.toList_append, List.length_append] at *
  omega
/-- a native that throws, in a walk -/
theorem natCall {tb : Tables} {e : Env} {below : List Frame} {s target : State} {g : JFrame} {c : Code} (h : At s g.method c below) {m : MethodId} {meth : Method} {k : Class} {row : NativeRow} {args : Array Value} (acts : List Action)
    (hk : s.vm.classes[m.cls]? = some k) (hx : k.methods[m.idx]? = some meth) (hboot : k.loader = none) (hnat : meth.isNative = true) (hc : meth.code = none) (hl : meth.locks = false) (hrow : NativeRow.find? tb.natives k.name meth.name meth.desc = some row)
    (hroom : e.platform.stackFull (((s.setTop g).threads[(s.setTop g).cur]?).getD { frames := [] }) (s.setTop g).frames (nativeFrameWords k.name meth.name (operandWords args.toList)) = false) {cls text : String}
    (hw : ∀ (Q : Option Value → Pre) (E : CtlPost) (as : List Action), E (.throwNew cls (some text)) as ((s.setTop g).pushFrame (.native { method := m, args := seenByNative meth args, locked := none })) → wp (row.sem (seenByNative meth args)) Q E e false as ((s.setTop g).pushFrame (.native { method := m, args := seenByNative meth args, locked := none })))
    (hrest : Steps tb e below (((s.setTop g).pushFrame (.native { method := m, args := seenByNative meth args, locked := none })).pushFrame (.throwNew cls (some text) none)) target) :
    Steps tb e below (doInvoke e (s.setTop g) acts m args).1 target := by
  have hm : (s.setTop g).vm.method? m = some meth := by
    show s.vm.method? m = some meth
    simp [Vm.method?, hk, hx]
  have hr0 : (((s.setTop g).vm.classes[m.cls]?).map (·.name)).getD "" = k.name := by
    show ((s.vm.classes[m.cls]?).map (·.name)).getD "" = k.name
    simp [hk]
  rw [(Fast.doInvoke_native (s := s.setTop g) (e := e) (acts := acts) (args := args) hm hnat hc hl (by rw [hr0]; exact hroom)).1]
  have hfe := frames_entered (g := g) h.top (.native { method := m, args := seenByNative meth args, locked := none })
  obtain ⟨mid, hmid⟩ := h.above
  refine Steps.head ⟨h.running, by simpa using h.runnable, by simpa using h.alone⟩ ⟨.native { method := m, args := seenByNative meth args, locked := none } :: .java g :: mid, by rw [hfe, hmid]; rfl, by simp, by simp⟩ ?_
  rw [stepThread_native (f := { method := m, args := seenByNative meth args, locked := none }) (k := k) (x := meth) (row := row) hfe hk hx hboot hrow rfl]
  have hw1 := (wpRun_iff_run (row.sem (seenByNative meth args)) (fun _ _ _ => False) (fun x s₁ _ => x = .throwNew cls (some text) ∧ s₁ = (s.setTop g).pushFrame (.native { method := m, args := seenByNative meth args, locked := none })) e _).mp (hw _ _ _ ⟨rfl, rfl⟩)
  cases hr : (row.sem (seenByNative meth args)).run e ((s.setTop g).pushFrame (.native { method := m, args := seenByNative meth args, locked := none })) with
  | ok v s₁ as₁ => rw [hr] at hw1; exact hw1.elim
  | ctl x s₁ as₁ =>
    rw [hr] at hw1
    cases x <;> first
      | exact hw1.elim
      | (obtain ⟨h1, h2⟩ := hw1; cases h1; subst h2; exact hrest)
      | (obtain ⟨h1, -⟩ := hw1; cases h1)
/-- the throw leaves the native -/
theorem natLeave {tb : Tables} {e : Env} {below : List Frame} {u target : State} {a : Addr} {f : NFrame} {g : JFrame} (hgo : u.goesOn) (hcur : u.cur < u.threads.size) (haw : f.awaiting = false) (hl : f.locked = none) (hrest : Steps tb e below (u.setFrames (.throwing a :: .java g :: below)) target) :
    Steps tb e below (u.setFrames (.throwing a :: .native f :: .java g :: below)) target := by
  have hf : (u.setFrames (.throwing a :: .native f :: .java g :: below)).frames = .throwing a :: .native f :: .java g :: below := State.frames_setFrames _ hcur
  refine Steps.head ⟨hgo.1, by simpa using hgo.2.1, by simpa using hgo.2.2⟩ ⟨[.throwing a, .native f, .java g], by rw [hf]; rfl, by simp, by simp⟩ ?_
  have st : (stepThread tb e (u.setFrames (.throwing a :: .native f :: .java g :: below))).1 = (u.setFrames (.throwing a :: .native f :: .java g :: below)).setFrames (.throwing a :: .java g :: below) := by
    unfold stepThread
    simp only [hf]
    unfold stepThrowing
    simp only [haw, Bool.false_eq_true, if_false, hl]
    unfold vmDo
    generalize hr : Sem.go _ e false _ _ = res
    obtain ⟨as, rfl, -⟩ := Sem.eq_ok_of hr (a := true) (s' := u.setFrames (.throwing a :: .native f :: .java g :: below)) (acts' := []) (by simp [leaveIfLocked, unmarked, Action.isMark])
    rfl
  rw [st, State.setFrames_setFrames]
  exact hrest
section
variable {p : Program} {l : Launch} {e : Env} {R : Room} {s : State} {m₀ : MethodId} {args : Array Value} {below : List Frame} {meth : Method} {c : Code} {T : State} {locs : List Loc} {cells slots : Nat}
/-- arraycopy out of its bounds throws -/
theorem copyThrown (X : Stand p l e R s m₀ args below meth c T locs cells slots) (hexec : p.tables.exec = Jvm.exec) (htr : e.platform.stackTraces = false) {names : List String}
    (hcls : Bundle.fit "java/lang/ArrayIndexOutOfBoundsException" = true) (hnames : ∀ n ∈ names, Bundle.fit n = true) (h : ∀ a ∈ Bundle.messageArmAtoms "java/lang/ArrayIndexOutOfBoundsException" names, a.before args s = true) (hlen : names.length ≤ 3)
    (hlocs : ∀ cT kT aS, s.vm.findClass Bundle.tN = some cT → s.vm.classes[cT]? = some kT → kT.statics = some aS → ∀ x ∈ locs, x.base ≠ aS)
    {own : String} {index : Nat} (hown : s.vm.findClass own = some m₀.cls) (hlink : (Cond.methodLink own index arraycopyName).before args s = true) (hnat : (Cond.native arraycopyName).before args s = true) (hstat : (Cond.static arraycopyName).before args s = true) (hinit : (Cond.initialized "java/lang/System").before args s = true)
    {src dst : Addr} {sp dp n : Int32} {cs cd : Cell} {ks kd : Class} {sC dC : ClassId} {ty : FieldType} (hs : T.heap[src]? = some cs) (hd : T.heap[dst]? = some cd) (hsobj : ∀ k, cs.vm ≠ .statics k) (hdobj : ∀ k, cd.vm ≠ .statics k)
    (hks : s.vm.classes[cs.cls]? = some ks) (hkd : s.vm.classes[cd.cls]? = some kd) (hsk : ks.kind = .array sC ty) (hdk : kd.kind = .array dC ty) (hty : ((refKind ty != refKind ty) || (!refKind ty && ty != ty)) = false) (z1 : cs.slots.size < 2 ^ 31) (z2 : cd.slots.size < 2 ^ 31)
    (bad : sp < 0 ∨ dp < 0 ∨ n < 0 ∨ sp.toInt + n.toInt > cs.slots.size ∨ dp.toInt + n.toInt > cd.slots.size)
    {g : JFrame} (hg : g.method = m₀) (hsize : g.locals.size = c.maxLocals) {rest : List Value} (hstack : g.stack = .int n :: .int dp :: .ref dst :: .int sp :: .ref src :: rest) (hdg : decode c.code g.pc = .ok (.invokestatic index, 3))
    (hRframes : 9 ≤ R.frames) (hRlocals : 2 * g.monitorRoom + (rest.map fun v => v.category).sum + 10240 ≤ R.locals) (hRcells : cells + 3 ≤ R.cells) (hRslots : slots + 454 ≤ R.slots) :
    ∃ vm' cb cx ce, s.WarmedH vm' ∧ cb.slots.size ≤ 444 ∧ cx.slots.size = 4 ∧ ce.slots.size = 6 ∧ ce.vm = .none ∧ s.vm.findClass "java/lang/ArrayIndexOutOfBoundsException" = some ce.cls ∧
      ∀ target, Steps p.tables e below ((((((T.pushCell cb).pushCell cx).pushCell ce).setVm vm').setTop { g with stack := rest }).pushFrame (.throwing (T.heap.size + 2))) target → Steps p.tables e below (T.setTop g) target := by
  obtain ⟨r, kS, methS, hnS, hmS, hkS, N⟩ := NativeOf.of_static hnat hstat (ps := [.object "java/lang/Object", .int, .object "java/lang/Object", .int, .int]) (ret := none) (by decide +kernel)
  have hinitS : kS.init = .initialized := Cond.initialized_spec (findClass_of_methodNamed hnS) hkS hinit
  obtain ⟨vm1, X', step⟩ := X.invokestatic hexec hown hlink hnS hmS N.static hkS hinitS (by decide) hg (argsL := [.ref src, .int sp, .ref dst, .int dp, .int n]) (rest := rest) (by rw [N.sig]; rfl) hstack hdg
  have hA' : s.vm.Alike vm1 := X'.warmed.alike
  obtain ⟨kS', N'⟩ := N.alike hA'
  obtain ⟨ks', hks', hes⟩ := hA'.2.2 _ _ hks
  obtain ⟨kd', hkd', hed⟩ := hA'.2.2 _ _ hkd
  have hseen : seenByNative methS #[.ref src, .int sp, .ref dst, .int dp, .int n] = #[.ref src, .int sp, .ref dst, .int dp, .int n] := by simp [seenByNative, N'.static, N'.sig, narrow]
  obtain ⟨what, wl, hwp⟩ := copyBad (e := e) (d := false) (s := (((T.setVm vm1).setTop { g with stack := rest }).pushFrame (.native { method := r, args := seenByNative methS #[.ref src, .int sp, .ref dst, .int dp, .int n], locked := none }))) (sp := sp) (dp := dp) (len := n) hs hd hsobj hdobj hks' hkd' (by rw [hes]; exact hsk) (by rw [hed]; exact hdk) hty z1 z2 bad
  obtain ⟨vm', cb, cx, ce, q1, q2, q3, q4, q5, q6, -, q8⟩ := natThrown X' hexec htr (text := "arraycopy: " ++ what) hcls hnames (by decide) (by decide) h hlocs (acp_text what) (by rw [Launch.admits_arrayLengthLimit X.admits]; have := acp_bytes wl; omega) (by rw [Launch.admits_maxHeapBytes X.admits]; have := acp_bytes wl; simp only [componentBytes]; omega)
    (g := { g with stack := rest }) (by exact hsize) (nf := { method := r, args := seenByNative methS #[.ref src, .int sp, .ref dst, .int dp, .int n], locked := none }) rfl (by omega) hRlocals (by omega) hRcells (by have := acp_bytes wl; omega)
  refine ⟨vm', cb, cx, ce, q1, by rw [q2]; exact acp_bytes wl, q3, q4, q5, q6, fun target hrest => step target fun acts => ?_⟩
  subst hg
  obtain ⟨g₁, hfr⟩ := X'.frames_eq
  have hw5 : nativeFrameWords "java/lang/System" "arraycopy" 5 ≤ 100 := by decide +kernel
  refine natCall (g := { g with stack := rest }) X'.here acts N'.cls N'.meth N'.boot N'.native N'.noCode N'.noLock (row := arraycopyRow) (by rw [N'.className, N'.name, N'.desc]; exact arraycopy_row p)
    (by rw [N'.className, N'.name]; exact X'.notFull (g := { g with stack := rest }) hsize (vars := nativeFrameWords "java/lang/System" "arraycopy" 5) (by omega) (by show 2 * g.monitorRoom + (rest.map fun v => v.category).sum + _ ≤ _; omega)) (cls := "java/lang/ArrayIndexOutOfBoundsException") (text := "arraycopy: " ++ what) (fun Q E as hE => ?_) ?_
  · rw [arraycopyRow_sem]
    have := hwp Q E as hE
    rw [hseen] at this ⊢
    exact this
  · have hcur : (T.setVm vm1).cur < (T.setVm vm1).threads.size := State.cur_lt_of_frames hfr
    have e0 : ((((T.setVm vm1).setTop { g with stack := rest }).pushFrame (.native { method := r, args := seenByNative methS #[.ref src, .int sp, .ref dst, .int dp, .int n], locked := none })).pushFrame (.throwNew "java/lang/ArrayIndexOutOfBoundsException" (some ("arraycopy: " ++ what)) none)) = (T.setVm vm1).setFrames (.throwNew "java/lang/ArrayIndexOutOfBoundsException" (some ("arraycopy: " ++ what)) none :: .native { method := r, args := seenByNative methS #[.ref src, .int sp, .ref dst, .int dp, .int n], locked := none } :: .java { g with stack := rest } :: below) := by
      have h1 : ((T.setVm vm1).setTop { g with stack := rest }) = (T.setVm vm1).setFrames (.java { g with stack := rest } :: below) := State.setTop_of_frames _ hfr
      rw [h1]
      have hc1 : ((T.setVm vm1).setFrames (.java { g with stack := rest } :: below)).frames = .java { g with stack := rest } :: below := State.frames_setFrames _ hcur
      rw [State.pushFrame, State.pushFrame, hc1, State.frames_setFrames _ (State.cur_lt_of_frames hc1), State.setFrames_setFrames, State.setFrames_setFrames]
    rw [e0]
    refine q8 target ?_
    have hgo : ((((((T.setVm vm1).pushCell cb).pushCell cx).pushCell ce).setVm vm')).goesOn := by
      have := (((X'.pushed cb).pushed cx).pushed ce).noted q1
      exact ⟨this.here.running, this.here.runnable, this.here.alone⟩
    have S3 := (((X'.pushed cb).pushed cx).pushed ce).noted q1
    obtain ⟨g₂, hfr3⟩ := S3.frames_eq
    refine natLeave hgo (State.cur_lt_of_frames hfr3) rfl rfl ?_
    rw [State.pushFrame, State.frames_setTop _ (show (((((T.pushCell cb).pushCell cx).pushCell ce).setVm vm')).frames = .java g₂ :: below from hfr3), State.setTop_of_frames _ (show (((((T.pushCell cb).pushCell cx).pushCell ce).setVm vm')).frames = .java g₂ :: below from hfr3), State.setFrames_setFrames] at hrest
    exact hrest
end
end NatC
