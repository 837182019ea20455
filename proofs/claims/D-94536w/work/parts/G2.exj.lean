set_option maxRecDepth 100000
/-! ===== J: a throw on the way (JT), contracts with two outcomes (CgX), calls of such ===== -/
/-- the note of a throw lies over the frame at pc: the exception at a is of the class C -/
def JT (X : Cx) (M : MD) (R : Room) (Z : ZT) (C : String) (a : Addr) (pc : Nat) (L : List (Option Value)) (h : AH) (k n : Nat) : Prop :=
  ∀ p e s m args below meth c, Bd X M p s m args meth c → RK M R k n → ∀ T locs ls st, Stand p X.l e R s m args below meth c T locs k n → Wd X h T.heap → va_S X.A s.heap T.heap locs → LV ls M.nL L → ExcAt C a s T.heap → ∃ t, Steps p.tables e below ((T.setTop (F0 m pc ls st)).pushFrame (.throwing a)) t ∧ Z below args s t
/-- how a method ends that may throw -/
def EndX (X : Cx) (Q : Option Value → AH → Prop) (QT : String → Addr → AH → Prop) (s : State) (o : Outcome) (t : State) : Prop :=
  match o with
  | .returned v => ∃ h', Q v h' ∧ Wd X h' t.heap
  | .threw a => ∃ C h', QT C a h' ∧ Wd X h' t.heap ∧ ExcAt C a s t.heap
def ZX (X : Cx) (mc ms : Nat) (Q : Option Value → AH → Prop) (QT : String → Addr → AH → Prop) : ZT := fun below _ s t =>
  ∃ o, t.status = .running ∧ Ended t below o ∧ EndX X Q QT s o t ∧ va_F X.A s t ∧ ∃ L, (s.WarmedH t.vm ∧ s.sameButNew ({ t with vm := s.vm } : State) L mc ms) ∧ ∀ q ∈ L, X.A q.base
def CgX (X : Cx) (M : MD) (cw : Cond) (R : Room) (av : List Value) (h : AH) (Q : Option Value → AH → Prop) (QT : String → Addr → AH → Prop) : Prop :=
  MetFree X.l M.y (headSpec (cw :: lw_all) R) (va_Pc av (fun U => GI X U ∧ Wd X h U.heap)) (fun _ _ _ _ _ => True)
    (fun _ st o t => EndX X Q QT st o t ∧ va_F X.A st t ∧ ∃ L, (st.WarmedH t.vm ∧ st.sameButNew ({ t with vm := st.vm } : State) L R.cells R.slots) ∧ ∀ q ∈ L, X.A q.base)
section Exc2
variable {X : Cx} {M M' : MD} {R R' : Room} {Z Z' : ZT} {mc ms k n pc idx : Nat} {L : List (Option Value)} {st As : List Value} {h : AH} {Q : Option Value → AH → Prop} {QT : String → Addr → AH → Prop}
theorem J.monoZ (hz : ∀ below args s t, Z below args s t → Z' below args s t) (kk : J X M R Z pc L st h k n) : J X M R Z' pc L st h k n := by
  intro p e s m args below meth c B rk H locs ls hW hS hL
  exact W.mono (kk p e s m args below meth c B rk H locs ls hW hS hL) (hz below args s)
theorem ZX.ofQ {below : List Frame} {args : Array Value} {s t : State} (hz : ZQ X mc ms (fun o h' => ∃ v, o = .returned v ∧ Q v h') below args s t) : ZX X mc ms Q QT below args s t := by
  obtain ⟨o, h1, h2, ⟨h', ⟨v, rfl, hq⟩, hw⟩, h4, h5⟩ := hz
  exact ⟨.returned v, h1, h2, ⟨h', hq, hw⟩, h4, h5⟩
/-- a return, where the contract allows a throw too -/
theorem J.toX (kk : J X M R (ZQ X mc ms (fun o h' => ∃ v, o = .returned v ∧ Q v h')) pc L st h k n) : J X M R (ZX X mc ms Q QT) pc L st h k n := J.monoZ (fun _ _ _ _ => ZX.ofQ) kk
/-- the handler that the search finds -/
theorem JT.catch {hh : List (Nat × Nat × Nat × Nat)} {C : String} {a : Addr} {hp : Nat} (hX : ThX X) (hE : M.eh = ehT hh) (hs : Srch M.y.cls C pc hh (some hp)) (kk : J X M R Z hp L [.ref a] h k n) : JT X M R Z C a pc L h k n := by
  intro p e s m args below meth c B rk T locs ls st S hW hS hL hA
  obtain ⟨cell, hc, hv, hcl⟩ := hA
  have hT : ehT hh c := by rw [← hE]; exact B.2.2.2.2.2.2.2.2.1
  have hpl : e.platform.magicAccessors = ({} : Platform).magicAccessors := by rw [S.admits.platform]
  obtain ⟨vm', hW', hF⟩ := srch_fg hX (own := M.y.cls) (C := C) (e := e) (f := F0 m pc ls st) (a := a) hpl B.2.2.2.2.2.2.1 B.2.2.2.2.2.2.2.1.2.1 B.2.2.2.2.2.1 hv hcl c.exceptionTable.toList (some hp) ((T.setTop (F0 m pc ls st)).pushFrame (.throwing a)) (by rw [show c.exceptionTable.toList.map _ = hh from hT]; exact hs) (by rw [Stand.throwing_vm]; exact S.warmed) (by rw [Stand.throwing_heap]; exact hc)
  have hf : Finds2 e ((T.setTop (F0 m pc ls st)).pushFrame (.throwing a)) (F0 m pc ls st) a (.found hp) vm' := FG.whole (meth := meth) (code := c) (by rw [Stand.throwing_vm]; exact S.method') S.code hF
  obtain ⟨t, a1, b1⟩ := kk p e s m args below meth c B rk T.heap locs ls hW hS hL (T.setVm vm') rfl (S.noted hW')
  exact ⟨t, Steps.caught2 (c := c) S.here hf a1, b1⟩
/-- no handler: the method ends by the throw -/
theorem JT.out {hh : List (Nat × Nat × Nat × Nat)} {C : String} {a : Addr} (hX : ThX X) (hE : ∀ c, M.eh c → ehT hh c) (hs : Srch M.y.cls C pc hh none) (hk : k ≤ mc) (hn : n ≤ ms) (hq : QT C a h) : JT X M R (ZX X mc ms Q QT) C a pc L h k n := by
  intro p e s m args below meth c B rk T locs ls st S0 hW hS hL hA
  have S := stand_widen S0 hk hn
  obtain ⟨cell, hc, hv, hcl⟩ := id hA
  have hT : ehT hh c := hE c B.2.2.2.2.2.2.2.2.1
  have hpl : e.platform.magicAccessors = ({} : Platform).magicAccessors := by rw [S.admits.platform]
  obtain ⟨vm', hW', hF⟩ := srch_fg hX (own := M.y.cls) (C := C) (e := e) (f := F0 m pc ls st) (a := a) hpl B.2.2.2.2.2.2.1 B.2.2.2.2.2.2.2.1.2.1 B.2.2.2.2.2.1 hv hcl c.exceptionTable.toList none ((T.setTop (F0 m pc ls st)).pushFrame (.throwing a)) (by rw [show c.exceptionTable.toList.map _ = hh from hT]; exact hs) (by rw [Stand.throwing_vm]; exact S.warmed) (by rw [Stand.throwing_heap]; exact hc)
  have hf : Finds2 e ((T.setTop (F0 m pc ls st)).pushFrame (.throwing a)) (F0 m pc ls st) a .none vm' := FG.whole (meth := meth) (code := c) (by rw [Stand.throwing_vm]; exact S.method') S.code hF
  have S' := S.noted hW'
  obtain ⟨g₀, hfr⟩ := S'.frames_eq
  refine ⟨(T.setVm vm').setFrames (.throwing a :: below), ?_, .threw a, S'.here.running, State.frames_setFrames _ (State.cur_lt_of_frames hfr), ⟨C, h, hq, hW, cell, hc, hv, hcl⟩, ⟨hS.1, fun q h1 h2 => hS.2.1 q h1 h2⟩, locs, ⟨(S'.ends _).1, (S'.ends _).2⟩, hS.2.2⟩
  refine Steps.out2 (c := c) (meth := meth) S.here S.method' S'.method' B.2.2.2.1 rfl rfl hf ?_
  rw [S.tail]
  exact Steps.refl _
theorem CgX.ofW {hh : List (Nat × Nat × Nat × Nat)} {av : List Value} (hy : plainFor M.y = true) (hE : M.eh = ehT hh) (pad : Nat) (hL : L = entL av ++ List.replicate pad none) (hn : (lg_sl av).length ≤ M.nL) (hR : M.lv ≤ R.frames ∧ 440 * M.lv ≤ R.locals)
    (kk : J X M R (ZX X R.cells R.slots Q QT) 0 L [] h 0 0) : CgX X M (.codeWith M.y M.cc M.nL M.ret hh) R av h Q QT := by
  refine MetFree.of_bodySF (code := M.cc) (maxLocals := M.nL) (ret := M.ret) hy ?_ ?_
  · intro args s m hp hn
    obtain ⟨m9, meth, c, hn9, h1, h2, h3, h4, -, h5, h6, -⟩ := Cond.codeWith_spec (atoms_spec (ws := Cond.codeWith M.y M.cc M.nL M.ret hh :: lw_all) hp _ List.mem_cons_self)
    cases hn.symm.trans hn9
    exact ⟨meth, c, h1, h2, h3, h4, h5, h6⟩
  · intro p e s m args below meth c s₁ B hml hP _
    obtain ⟨rfl, hG, hW⟩ := hP
    have hh0 : s₁.heap = s.heap := by rw [B.state]; rfl
    have hts := atoms_spec (ws := Cond.codeWith M.y M.cc M.nL M.ret hh :: lw_all) B.pre
    obtain ⟨m9, meth9, c9, hn9, h1, h2, -, -, ht, -⟩ := Cond.codeWith_spec (hts _ List.mem_cons_self)
    cases B.named.symm.trans hn9
    cases B.method.symm.trans h1
    cases (Stand.of_body B).code.symm.trans h2
    have hb : Bd X M p s m av.toArray meth c := ⟨B.exec, B.bytes, B.returns, B.notSynchronized, hml, findClass_of_methodNamed B.named, fun w h => hts w (List.mem_cons_of_mem _ h), hG, by rw [hE]; exact ht, (name_of_methodNamed B.named B.method).1⟩
    have hw := kk p e s m av.toArray below meth c hb ⟨hR.1, hR.2, Nat.zero_le _, Nat.zero_le _⟩ s.heap [] _ hW va_S.rf (LV.entry pad hL hn)
    rw [← lg_entry_eq] at hw
    obtain ⟨t, a1, o, b1, b2, b3⟩ := hw s₁ hh0 (Stand.of_body B)
    exact ⟨t, o, a1, b1, b2, b3⟩
theorem CgX.of0 {av : List Value} (hy : plainFor M.y = true) (hE : M.eh = noEH) (pad : Nat) (hL : L = entL av ++ List.replicate pad none) (hn : (lg_sl av).length ≤ M.nL) (hR : M.lv ≤ R.frames ∧ 440 * M.lv ≤ R.locals)
    (kk : J X M R (ZX X R.cells R.slots Q QT) 0 L [] h 0 0) : CgX X M (.code M.y M.cc M.nL M.ret) R av h Q QT := by
  refine MetFree.of_bodySF (code := M.cc) (maxLocals := M.nL) (ret := M.ret) hy ?_ ?_
  · intro args s m hp hn
    obtain ⟨meth, c, h1, h2, h3, h4, h5, h6, -, -⟩ := Cond.code_spec hn (atoms_spec (ws := ws_ M.y M.cc M.nL M.ret) hp _ List.mem_cons_self)
    exact ⟨meth, c, h1, h2, h3, h4, h5, h6⟩
  · intro p e s m args below meth c s₁ B hml hP _
    obtain ⟨rfl, hG, hW⟩ := hP
    have hh0 : s₁.heap = s.heap := by rw [B.state]; rfl
    have hts := atoms_spec (ws := ws_ M.y M.cc M.nL M.ret) B.pre
    have hb : Bd X M p s m av.toArray meth c := ⟨B.exec, B.bytes, B.returns, B.notSynchronized, hml, findClass_of_methodNamed B.named, fun w h => hts w (List.mem_cons_of_mem _ h), hG, by rw [hE]; exact B.noHandlers (hts _ List.mem_cons_self), (name_of_methodNamed B.named B.method).1⟩
    have hw := kk p e s m av.toArray below meth c hb ⟨hR.1, hR.2, Nat.zero_le _, Nat.zero_le _⟩ s.heap [] _ hW va_S.rf (LV.entry pad hL hn)
    rw [← lg_entry_eq] at hw
    obtain ⟨t, a1, o, b1, b2, b3⟩ := hw s₁ hh0 (Stand.of_body B)
    exact ⟨t, o, a1, b1, b2, b3⟩
/-- the two outcomes of a call that is under way -/
theorem callX_run {p : Program} {e : Env} {s : State} {m mk : MethodId} {args : Array Value} {below : List Frame} {meth methY : Method} {c cY : Code} {T : State} {locs : List Loc} {g : JFrame} {ig : Instr} {len : Nat} {cw : Cond} {av : List Value}
    (hC : CgX X M' cw R' av h Q QT) (hcw : cw ∈ lw_all) (S : Stand p X.l e R s m args below meth c T locs k n) (B : Bd X M p s m args meth c) (hg : g.method = m) (hsize : g.locals.size = c.maxLocals) (hdg : decode c.code g.pc = .ok (ig, len))
    (hn : T.methodNamed? M'.y = some mk) (hmY : T.vm.method? mk = some methY) (hcY : methY.code = some cY) (hlY : cY.maxLocals = M'.nL) (hini : Cond.initialized M'.y.cls ∈ lw_all)
    (hR : R'.frames + 1 ≤ R.frames ∧ 2 * g.monitorRoom + (g.stack.map fun v => v.category).sum + (M'.nL + 11) + R'.locals ≤ R.locals) (hf : k + R'.cells ≤ R.cells ∧ n + R'.slots ≤ R.slots) (hW : Wd X h T.heap) (hS : va_S X.A s.heap T.heap locs) :
    ∃ o T' L1, Stand p X.l e R s m args below meth c T' (locs ++ L1) (k + R'.cells) (n + R'.slots) ∧ va_S X.A s.heap T'.heap (locs ++ L1) ∧ EndX X Q QT s o T' ∧
      Steps p.tables e below (doInvoke e (T.setTop g) [] mk av.toArray).1 (match o with | .returned v => T'.setTop { g with pc := g.pc + len, stack := v.toList ++ g.stack } | .threw a => (T'.setTop g).pushFrame (.throwing a)) := by
  have hts := B.2.2.2.2.2.2.1
  have hAt : At T g.method c below := by rw [hg]; exact S.here
  have pay : ∀ w ∈ cw :: lw_all, w.before av.toArray T = true := by
    intro w hw
    have hw' : w ∈ lw_all := by
      rcases List.mem_cons.mp hw with e | h
      · rw [e]; exact hcw
      · exact h
    exact pay_in hts lw_self w hw' _ _ S.warmed
  obtain ⟨kY, hkY, -⟩ := className_of_methodNamed hn
  have hinitY : kY.init = .initialized := Cond.initialized_spec (findClass_of_methodNamed hn) hkY (pay _ (List.mem_cons_of_mem _ hini))
  have happ : (headSpec (cw :: lw_all) R').appliesLoose M'.y e.platform (T.calling g mk av.toArray) = true :=
    Spec.appliesLoose_calling (g := g) hAt hdg hn hkY hinitY (S.room_calling (g := g) (R' := R') hsize hmY hcY hR.1 (by rw [hlY]; exact hR.2) hf.1 hf.2) (atoms_intro pay)
  obtain ⟨mid, hmid⟩ := hAt.above
  have hfr : (T.setTop g).frames = (.java g :: mid) ++ below := by rw [State.frames_setTop' g hAt.top, hmid]; rfl
  have hP : va_Pc av (fun U => GI X U ∧ Wd X h U.heap) av.toArray (T.calling g mk av.toArray) :=
    Cg.blind _ _ _ _ ⟨rfl, B.2.2.2.2.2.2.2.1.moved S.warmed hS.1 hS.2.1, hW⟩
  obtain ⟨o, s₂, hsteps, -, hend, hE, hF, L1, ⟨hW₂, e2, q2, q3, q4, q5, q6⟩, hL1⟩ := Steps.callFree hC p S.admits S.cas S.clock (acts := []) hfr happ hP trivial
  rw [State.frames_setTop' g hAt.top] at hend
  have hW' : T.WarmedH s₂.vm := hW₂
  have e2' : ({ s₂ with vm := (T.calling g mk av.toArray).vm } : State) = ({ (T.calling g mk av.toArray).setFrames s₂.frames with heap := s₂.heap, slotsUsed := s₂.slotsUsed } : State) := e2
  have e3 : s₂ = ({ (T.calling g mk av.toArray).setFrames s₂.frames with heap := s₂.heap, slotsUsed := s₂.slotsUsed } : State).setVm s₂.vm := by
    have : s₂ = ({ s₂ with vm := (T.calling g mk av.toArray).vm } : State).setVm s₂.vm := rfl
    rw [e2'] at this
    exact this
  obtain ⟨g₀, hg0⟩ := Option.isSome_iff_exists.mp hAt.top
  obtain ⟨r, hr⟩ := State.topJava?_eq_some.mp hg0
  have hsame : T.sameButNew ({ T with heap := s₂.heap, slotsUsed := s₂.slotsUsed } : State) L1 R'.cells R'.slots := by
    refine ⟨?_, q2, q3, q4, q5, q6⟩
    obtain ⟨t, ht, -⟩ := State.frames_cons hr
    show ({ T with heap := s₂.heap, slotsUsed := s₂.slotsUsed } : State) = { T.setFrames T.frames with heap := s₂.heap, slotsUsed := s₂.slotsUsed }
    rw [State.setFrames_self ht]
  have hr' : (({ T with heap := s₂.heap, slotsUsed := s₂.slotsUsed } : State).setVm s₂.vm).frames = .java g₀ :: r := hr
  have S' : Stand p X.l e R s m args below meth c (({ T with heap := s₂.heap, slotsUsed := s₂.slotsUsed } : State).setVm s₂.vm) (locs ++ L1) (k + R'.cells) (n + R'.slots) :=
    ⟨S.admits, S.cas, S.clock, S.frames, S.room, S.hears, S.method, S.code, (S.here.setHeapUsed s₂.heap s₂.slotsUsed).setVm hW'.alike, S.tail, State.WarmedH.trans S.warmed hW', S.limits, S.bytes, S.same.trans (hsame.setVm s.vm)⟩
  have hS' : va_S X.A s.heap s₂.heap (locs ++ L1) := by
    refine ⟨Nat.le_trans hS.1 hF.1, fun q h1 h2 => ?_, fun q hq => ?_⟩
    · rw [hF.2 q (Nat.lt_of_lt_of_le h1 hS.1) h2]; exact hS.2.1 q h1 h2
    · rcases List.mem_append.mp hq with h | h
      · exact hS.2.2 q h
      · exact hL1 q h
  have hfc : ∀ C, T.vm.findClass C = s.vm.findClass C := fun C => S.warmed.alike.findClass C none
  have hE' : EndX X Q QT s o (({ T with heap := s₂.heap, slotsUsed := s₂.slotsUsed } : State).setVm s₂.vm) := by
    cases o with
    | returned v => exact hE
    | threw a =>
      obtain ⟨C, h', q1, q2, cell, q3, q4, q5⟩ := hE
      exact ⟨C, h', q1, q2, cell, q3, q4, by rw [← hfc C]; exact q5⟩
  refine ⟨o, _, L1, S', hS', hE', ?_⟩
  cases o with
  | returned v =>
    obtain ⟨c₂, i₂, len₂, hc₂, hd₂, hf₂⟩ := hend
    have hcc : c₂ = c := by
      have h1 : s₂.code? g.method = T.code? g.method := by
        rw [State.code?_eq, State.code?_eq, hW'.alike.method?]
      exact Option.some.inj (hc₂.symm.trans (h1.trans hAt.code))
    subst hcc
    have hlen : len₂ = len := by rw [hdg] at hd₂; cases hd₂; rfl
    subst hlen
    have hs₂ : s₂ = (({ T with heap := s₂.heap, slotsUsed := s₂.slotsUsed } : State).setVm s₂.vm).setTop { g with pc := g.pc + len₂, stack := v.toList ++ g.stack } := by
      refine e3.trans ?_
      rw [hf₂, State.calling_eq hAt.top, State.setFrames_setFrames, State.setTop_of_frames _ hr', hr]
      rfl
    show Steps p.tables e below _ ((({ T with heap := s₂.heap, slotsUsed := s₂.slotsUsed } : State).setVm s₂.vm).setTop { g with pc := g.pc + len₂, stack := v.toList ++ g.stack })
    rw [← hs₂]
    exact hsteps
  | threw a =>
    have hf₂ : s₂.frames = .throwing a :: .java g :: T.frames.tail := hend
    have hs₂ : s₂ = ((({ T with heap := s₂.heap, slotsUsed := s₂.slotsUsed } : State).setVm s₂.vm).setTop g).pushFrame (.throwing a) := by
      refine e3.trans ?_
      rw [hf₂, State.calling_eq hAt.top, State.setFrames_setFrames, State.pushFrame, State.frames_setTop _ hr', State.setTop_of_frames _ hr', State.setFrames_setFrames, hr]
      rfl
    show Steps p.tables e below _ (((({ T with heap := s₂.heap, slotsUsed := s₂.slotsUsed } : State).setVm s₂.vm).setTop g).pushFrame (.throwing a))
    rw [← hs₂]
    exact hsteps
end Exc2
