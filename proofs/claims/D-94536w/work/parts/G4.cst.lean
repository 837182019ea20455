set_option maxRecDepth 100000
/-! ===== instanceof and checkcast of arrays; the cast that fails ===== -/
def arN : Nat → String
  | 0 => "[I"
  | 1 => "[J"
  | 2 => "[B"
  | _ => "[S"
def arT : Nat → FieldType
  | 0 => .int
  | 1 => .long
  | 2 => .byte
  | _ => .short
theorem nc_mem : ∀ t t', t < 4 → t' < 4 → t ≠ t' → Cond.not (.castable (arN t) (arN t')) ∈ thL := by
  intro t t' h h' hne
  have key : ∀ i (w : Cond), thL[i]? = some w → w ∈ thL := fun i w q => List.mem_of_getElem? q
  match t, t', h, h', hne with
  | 0, 0, _, _, hne => exact absurd rfl hne
  | 0, 1, _, _, _ => exact key 20 _ rfl
  | 0, 2, _, _, _ => exact key 19 _ rfl
  | 0, 3, _, _, _ => exact key 21 _ rfl
  | 1, 0, _, _, _ => exact key 23 _ rfl
  | 1, 1, _, _, hne => exact absurd rfl hne
  | 1, 2, _, _, _ => exact key 22 _ rfl
  | 1, 3, _, _, _ => exact key 24 _ rfl
  | 2, 0, _, _, _ => exact key 16 _ rfl
  | 2, 1, _, _, _ => exact key 17 _ rfl
  | 2, 2, _, _, hne => exact absurd rfl hne
  | 2, 3, _, _, _ => exact key 18 _ rfl
  | 3, 0, _, _, _ => exact key 26 _ rfl
  | 3, 1, _, _, _ => exact key 27 _ rfl
  | 3, 2, _, _, _ => exact key 25 _ rfl
  | 3, 3, _, _, hne => exact absurd rfl hne
section Exc4
variable {X : Cx} {M : MD} {R : Room} {Z : ZT} {k n pc idx a t t' : Nat} {L : List (Option Value)} {st : List Value} {h : AH} {x : vp_A}
theorem vp_cls (cA : ClassId) (x : vp_A) : (vp_cell cA x).cls = cA ∧ (vp_cell cA x).vm = .none := by
  obtain ⟨n, f⟩ := x
  rcases f with f | f | f | f | f <;> exact ⟨rfl, rfl⟩
theorem ar_find {s : State} (hG : GI X s) (ht : t < 4) : s.vm.findClass (arN t) = some (X.dA t) := by
  have e0 : "[" ++ FieldType.int.toString = "[I" := by decide +kernel
  have e1 : "[" ++ FieldType.long.toString = "[J" := by decide +kernel
  have e2 : "[" ++ FieldType.byte.toString = "[B" := by decide +kernel
  have e3 : "[" ++ FieldType.short.toString = "[S" := by decide +kernel
  match t, ht with
  | 0, _ => show s.vm.findClass "[I" = _; rw [← e0]; exact (hG.1.2 0 (X.dA 0, .int) rfl).2
  | 1, _ => show s.vm.findClass "[J" = _; rw [← e1]; exact (hG.1.2 1 (X.dA 1, .long) rfl).2
  | 2, _ => show s.vm.findClass "[B" = _; rw [← e2]; exact (hG.1.2 2 (X.dA 2, .byte) rfl).2
  | 3, _ => show s.vm.findClass "[S" = _; rw [← e3]; exact (hG.1.2 3 (X.dA 3, .short) rfl).2
theorem ar_recv {s : State} {H : Heap} (hG : GI X s) (hW : Wd X h H) (ht : t < 4) (ha : h a = some (.inl (X.dA t, x))) : ∃ cell : Cell, H[a]? = some cell ∧ cell.vm.isStatics = false ∧ s.vm.findClass (arN t) = some cell.cls := by
  obtain ⟨ws, hP, hD, hh⟩ := hW
  obtain ⟨q0, hq0⟩ := hh a _ ha
  have hc : H[a]? = some (vp_cell (X.dA t) x) := hP q0 _ hq0
  exact ⟨_, hc, by rw [(vp_cls _ _).2]; rfl, by rw [(vp_cls _ _).1]; exact ar_find hG ht⟩
/-- instanceof of an array of numbers -/
theorem J.instA (hX : ThX X) (ht : t < 4) (ht' : t' < 4) (ha : h a = some (.inl (X.dA t, x))) (hl : Cond.classLink M.y.cls idx (arN t') ∈ lw_all) (hd : decode M.cc pc = .ok (.instanceof idx, 3)) (kk : J X M R Z (pc + 3) L (.int (b2 (decide (t = t'))) :: st) h k n) : J X M R Z pc L (.ref a :: st) h k n := by
  intro p e s m args below meth c B rk H locs ls hW hS hL
  have hG := B.2.2.2.2.2.2.2.1
  have hts := B.2.2.2.2.2.2.1
  have hr := ar_recv hG hW ht ha
  have kk' := kk p e s m args below meth c B rk H locs ls hW hS hL
  by_cases e1 : t = t'
  · subst e1
    rw [decide_eq_true rfl] at kk'
    intro T hT S
    obtain ⟨cell, h1, h2, h3⟩ := hr
    obtain ⟨vm', S', step⟩ := S.instanceofYes B.1 B.2.2.2.2.2.1 (hts _ hl) (by rw [hT]; exact h1) h2 h3 (asg_self _ _) (g := F0 m pc ls (.ref a :: st)) rfl rfl (by rw [B.2.1]; exact hd)
    obtain ⟨t, a1, b1⟩ := kk' (T.setVm vm') hT S'
    exact ⟨t, step t a1, b1⟩
  · rw [decide_eq_false e1] at kk'
    exact va_instNo B.1 B.2.1 B.2.2.2.2.2.1 (hts _ hl) (va_Nc.of ((hX.2 s hG.2.1).1 _ (nc_mem t t' ht ht' e1) args)) hr hd kk'
theorem J.instNull (hd : decode M.cc pc = .ok (.instanceof idx, 3)) (kk : J X M R Z (pc + 3) L (.int 0 :: st) h k n) : J X M R Z pc L (.null :: st) h k n := by
  intro p e s m args below meth c B rk H locs ls hW hS hL T hT S
  obtain ⟨t, a1, b1⟩ := kk p e s m args below meth c B rk H locs ls hW hS hL T hT S
  exact ⟨t, S.instanceofNull B.1 (g := F0 m pc ls (.null :: st)) rfl rfl (by rw [B.2.1]; exact hd) t a1, b1⟩
theorem J.castNull (hd : decode M.cc pc = .ok (.checkcast idx, 3)) (kk : J X M R Z (pc + 3) L (.null :: st) h k n) : J X M R Z pc L (.null :: st) h k n := by
  intro p e s m args below meth c B rk H locs ls hW hS hL T hT S
  obtain ⟨t, a1, b1⟩ := kk p e s m args below meth c B rk H locs ls hW hS hL T hT S
  exact ⟨t, S.checkcastNull B.1 (g := F0 m pc ls (.null :: st)) rfl rfl (by rw [B.2.1]; exact hd) t a1, b1⟩
theorem J.castA (ht : t < 4) (ha : h a = some (.inl (X.dA t, x))) (hl : Cond.classLink M.y.cls idx (arN t) ∈ lw_all) (hd : decode M.cc pc = .ok (.checkcast idx, 3)) (kk : J X M R Z (pc + 3) L (.ref a :: st) h k n) : J X M R Z pc L (.ref a :: st) h k n := by
  intro p e s m args below meth c B rk H locs ls hW hS hL T hT S
  obtain ⟨cell, h1, h2, h3⟩ := ar_recv B.2.2.2.2.2.2.2.1 hW ht ha
  obtain ⟨vm', S', step⟩ := S.checkcastYes B.1 B.2.2.2.2.2.1 (B.2.2.2.2.2.2.1 _ hl) (by rw [hT]; exact h1) h2 h3 (asg_self _ _) (g := F0 m pc ls (.ref a :: st)) rfl rfl (by rw [B.2.1]; exact hd)
  obtain ⟨t, a1, b1⟩ := kk p e s m args below meth c B rk H locs ls hW hS hL (T.setVm vm') hT S'
  exact ⟨t, step t a1, b1⟩
/-- the two texts of the cast that fails: long[] to int[] -/
theorem cast_text {vm : Vm} {ks kt : Class} {comp1 comp2 : ClassId} {ty1 ty2 : FieldType} (h1 : ks.name = "[J") (h2 : kt.name = "[I") (g1 : ks.hidden = none) (g2 : kt.hidden = none) (l1 : ks.loader = none) (l2 : kt.loader = none) (k1 : ks.kind = .array comp1 ty1) (k2 : kt.kind = .array comp2 ty2) :
    checkcast.message vm ks kt = "class [J cannot be cast to class [I ([J and [I are in module java.base of loader 'bootstrap')" ∨ checkcast.message vm ks kt = "class [J cannot be cast to class [I ([J and [I are in unnamed module of loader 'bootstrap')" := by
  have p1 : ks.ofPrimitives = true := by unfold Class.ofPrimitives; rw [k1, h1]; show ((withoutBrackets "[J").length == 1) = true; decide +kernel
  have p2 : kt.ofPrimitives = true := by unfold Class.ofPrimitives; rw [k2, h2]; show ((withoutBrackets "[I").length == 1) = true; decide +kernel
  have d1 : dotted "[J" = "[J" := by decide +kernel
  have d2 : dotted "[I" = "[I" := by decide +kernel
  have s1 : ks.shown = "[J" := by unfold Class.shown; rw [g1, h1]; exact d1
  have s2 : kt.shown = "[I" := by unfold Class.shown; rw [g2, h2]; exact d2
  unfold checkcast.message Vm.homes Vm.sameModule Vm.home Vm.moduleOf
  rw [p1, p2, s1, s2, l1, l2]
  simp only [if_true]
  cases hm : vm.modules.find? (fun x => x.name == "java.base") with
  | none =>
    right
    simp only [hm, beq_self_eq_true, if_true, Vm.loaderName]
    decide +kernel
  | some mo =>
    left
    have hb : mo.name = "java.base" := by
      have := List.find?_some hm
      simpa using this
    simp only [hm, beq_self_eq_true, if_true, Vm.loaderName, hb]
    decide +kernel
theorem fc_facts {vm : Vm} {name : String} {c : ClassId} (h : vm.findClass name = some c) : ∃ k, vm.classes[c]? = some k ∧ k.name = name ∧ k.hidden = none ∧ k.loader = none := by
  obtain ⟨hlt, hp, _⟩ := Array.findIdx?_eq_some_iff_getElem.mp h
  refine ⟨vm.classes[c], by simp [hlt], ?_⟩
  simp only [Bool.and_eq_true, beq_iff_eq] at hp
  exact ⟨hp.1.1.1, Option.isNone_iff_eq_none.mp hp.1.1.2, Option.isNone_iff_eq_none.mp hp.2⟩
theorem castFails {p : Program} {l : Launch} {e : Env} {s : State} {m : MethodId} {args : Array Value} {below : List Frame} {meth : Method} {c : Code} {T : State} {locs : List Loc} (S : Stand p l e R s m args below meth c T locs k n) (hexec : p.tables.exec = Jvm.exec)
    {own name : String} {index : Nat} (hown : s.vm.findClass own = some m.cls) (hlink : (Cond.classLink own index name).before args s = true)
    {b : Addr} {cell : Cell} {cT : ClassId} {ks : Class} (hcell : T.heap[b]? = some cell) (hobj : cell.vm.isStatics = false) (hks : s.vm.classes[cell.cls]? = some ks) (hcT : s.vm.findClass name = some cT) (hasg : s.vm.assignable cell.cls cT = false)
    {g : JFrame} (hg : g.method = m) {rest : List Value} (hstack : g.stack = .ref b :: rest) (hdg : decode c.code g.pc = .ok (.checkcast index, 3)) :
    ∃ vm' ks' kt', s.WarmedH vm' ∧ vm'.classes[cell.cls]? = some ks' ∧ vm'.classes[cT]? = some kt' ∧ Stand p l e R s m args below meth c (T.setVm vm') locs k n ∧
      ∀ target, Steps p.tables e below (((T.setVm vm').setTop g).pushFrame (.throwNew "java/lang/ClassCastException" (some (checkcast.message vm' ks' kt')) none)) target → Steps p.tables e below (T.setTop g) target := by
  have hpl : e.platform.magicAccessors = ({} : Platform).magicAccessors := by rw [S.admits.platform]
  obtain ⟨c', hc', hcl⟩ := Cond.classLink_spec hown hlink e.platform hpl
  cases hcT.symm.trans hc'
  obtain ⟨dk, _, _, kt, hd, _, _, _, _, hkt, _, hopen⟩ := hcl.here
  have hcl₀ := S.warmed.classLinks hcl
  have hW' : s.WarmedH (T.vm.noted m.cls index (.cls cT)) := S.warmed.noted hd hopen (State.rightAt_cls hcl)
  obtain ⟨ks', hks', -⟩ := hW'.alike.2.2 _ _ hks
  obtain ⟨kt', hkt', -⟩ := hW'.alike.2.2 _ _ hkt
  refine ⟨_, ks', kt', hW', hks', hkt', S.noted hW', fun target hrest => ?_⟩
  subst hg
  jvm_step S.here [hexec, hdg, checkcast.wp_cold (e := e) (s := T) (f := g) S.here.top hstack (resolveClass_links e.toSetting hcl₀) hcl₀.ready,
    checkcast.wp_ready (e := e) (s := T.setVm (T.vm.noted g.method.cls index (.cls cT))) (f := g) S.here.top hcl₀.ready hstack]
  refine ⟨cell, hcell, VmData.noStatics_of hobj, ks', hks', kt', hkt', ?_⟩
  have h1 : (T.vm.noted g.method.cls index (Resolved.cls cT)).assignable cell.cls cT = false := by rw [hW'.alike.assignable]; exact hasg
  simp only [h1]
  exact hrest
/-- checkcast of a long[] to int[] -/
theorem J.castNo (hX : ThX X) (ha : h a = some (.inl (X.dA 1, x))) (hl : Cond.classLink M.y.cls idx "[I" ∈ lw_all) (hd : decode M.cc pc = .ok (.checkcast idx, 3)) (hR : 8 ≤ R.frames ∧ 10248 ≤ R.locals) (hst : (st.map fun v => v.category).sum ≤ 7) (hf : k + 3 ≤ R.cells ∧ n + (400 + 10) ≤ R.slots) (kk : ∀ b, JT X M R Z cCast b pc L h (k + 3) (n + (400 + 10))) : J X M R Z pc L (.ref a :: st) h k n := by
  intro p e s m args below meth c B rk H locs ls hW hS hL T hT S
  subst hT
  have hG := B.2.2.2.2.2.2.2.1
  have hts := B.2.2.2.2.2.2.1
  obtain ⟨cell, h1, h2, h3⟩ := ar_recv hG hW (t := 1) (by decide) ha
  have f1 : s.vm.findClass "[J" = some cell.cls := h3
  have f2 : s.vm.findClass "[I" = some (X.dA 0) := ar_find (t := 0) hG (by decide)
  have e1 : cell.cls = X.dA 1 := Option.some.inj (h3.symm.trans (ar_find hG (by decide)))
  obtain ⟨ks, q1, q2, q3, q4⟩ := fc_facts f1
  obtain ⟨kt, r1, r2, r3, r4⟩ := fc_facts f2
  obtain ⟨-, ks2, w1, cm1, w2⟩ := (hG.1.2 1 (X.dA 1, .long) rfl).1 0 (fun _ => .null)
  obtain ⟨-, kt2, w3, cm2, w4⟩ := (hG.1.2 0 (X.dA 0, .int) rfl).1 0 (fun _ => .null)
  have w1 : s.vm.classes[X.dA 1]? = some ks2 := w1
  have w3 : s.vm.classes[X.dA 0]? = some kt2 := w3
  rw [← e1] at w1
  cases Option.some.inj (q1.symm.trans w1)
  cases Option.some.inj (r1.symm.trans w3)
  have hasg := ncast_spec ((hX.2 s hG.2.1).1 _ (nc_mem 1 0 (by decide) (by decide) (by decide)) args) f1 f2
  obtain ⟨vm', ks', kt', hW', v1, v2, S', step⟩ := castFails S B.1 B.2.2.2.2.2.1 (hts _ hl) h1 h2 q1 f2 hasg (g := F0 m pc ls (.ref a :: st)) rfl rfl (by rw [B.2.1]; exact hd)
  obtain ⟨ks3, u1, u2⟩ := hW'.alike.2.2 _ _ q1
  obtain ⟨kt3, u3, u4⟩ := hW'.alike.2.2 _ _ r1
  cases Option.some.inj (v1.symm.trans u1)
  cases Option.some.inj (v2.symm.trans u3)
  have tx := cast_text (vm := vm') (ks := ks') (kt := kt') (comp1 := cm1) (comp2 := cm2) (ty1 := .long) (ty2 := .int) (by rw [u2]; exact q2) (by rw [u4]; exact r2) (by rw [u2]; exact q3) (by rw [u4]; exact r3) (by rw [u2]; exact q4) (by rw [u4]; exact r4) (by rw [u2]; exact w2) (by rw [u4]; exact w4)
  have tx1 : ((checkcast.message vm' ks' kt') == notModelled) = false ∧ (stringBytes (stringToUtf16 (checkcast.message vm' ks' kt'))).size ≤ 400 := by
    rcases tx with tx | tx <;> rw [tx] <;> exact ⟨by decide +kernel, by decide +kernel⟩
  obtain ⟨t, a1, b1⟩ := msgJ (st := .ref a :: st) hX B rk S' hW hS hL (at_cast hX hts hG.2.1) (by decide +kernel) (by decide +kernel) (by decide +kernel) (by decide +kernel) (by decide) tx1.1 tx1.2 (by decide) hR (by show 1 + (st.map fun v => v.category).sum ≤ 8; omega) hf kk
  exact ⟨t, step t a1, b1⟩
end Exc4
