set_option maxRecDepth 100000
/-! ===== arrays of arrays, made at once (multianewarray of two dimensions) ===== -/
/-- the array of rows, i of which are there -/
def mC (c : ClassId) (n b i : Nat) : Cell := arrV c n (fun j => if j < i then .ref (b + 1 + j) else .null)
def mR (s : State) (c d : ClassId) (n k : Nat) (v : Value) : Nat → State
  | 0 => s.pushCell (mC c n s.heap.size 0)
  | i + 1 => ((mR s c d n k v i).pushCell (arrV d k (fun _ => v))).setCell s.heap.size (mC c n s.heap.size (i + 1))
section MulA
variable {s : State} {c d : ClassId} {n k b i : Nat} {v : Value}
theorem mC_0 : mC c n b 0 = arrV c n (fun _ => .null) := congrArg (arrV c n) (funext fun j => if_neg (Nat.not_lt_zero j))
theorem mC_s (hi : i < n) : (mC c n b i).setSlot i (.ref (b + 1 + i)) = mC c n b (i + 1) := by
  unfold mC arrV Cell.setSlot
  congr 1
  apply Array.ext
  · simp
  · intro j h1 h2
    simp only [Array.size_setIfInBounds, Array.size_ofFn] at h1 h2
    have h3 : j < (Array.ofFn (n := n) fun j => if j.val < i then Value.ref (b + 1 + j.val) else Value.null).size := by simpa using h1
    show ((Array.ofFn (n := n) fun j => if j.val < i then Value.ref (b + 1 + j.val) else Value.null).setIfInBounds i (.ref (b + 1 + i)))[j] = (Array.ofFn (n := n) fun j => if j.val < i + 1 then Value.ref (b + 1 + j.val) else Value.null)[j]
    rw [Array.getElem_setIfInBounds h3]
    simp only [Array.getElem_ofFn]
    by_cases y : i = j
    · subst y; simp
    · rw [if_neg y]
      by_cases y2 : j < i
      · rw [if_pos y2, if_pos (by omega)]
      · rw [if_neg y2, if_neg (by omega)]
theorem mR_f : ∀ i, (mR s c d n k v i).heap.size = s.heap.size + 1 + i ∧ (mR s c d n k v i).heap[s.heap.size]? = some (mC c n s.heap.size i) ∧ (mR s c d n k v i).vm = s.vm ∧ (mR s c d n k v i).slotsUsed = s.slotsUsed + n + i * k
  | 0 => ⟨by simp [mR], by simp [mR], rfl, by simp [mR, mC, arrV]⟩
  | i + 1 => by
    obtain ⟨a, b, g, u⟩ := mR_f i
    have hl : s.heap.size < (mR s c d n k v i).heap.size := by omega
    have hb : ((mR s c d n k v i).pushCell (arrV d k (fun _ => v))).heap[s.heap.size]? = some (mC c n s.heap.size i) := by rw [State.heap_pushCell_of_lt (h := hl)]; exact b
    refine ⟨?_, State.heap_setCell_self hb, by simp [mR, g], ?_⟩
    · simp [mR, State.setCell, a]; omega
    · simp [mR, u, arrV, Nat.succ_mul]; omega
theorem mR_top (f : JFrame) : ∀ i, mR (s.setTop f) c d n k v i = (mR s c d n k v i).setTop f
  | 0 => rfl
  | i + 1 => by simp only [mR, mR_top f i, State.heap_setTop, State.pushCell_setTop, State.setCell_setTop]
theorem mR_old {a : Addr} (ha : a < s.heap.size) : ∀ i, (mR s c d n k v i).heap[a]? = s.heap[a]?
  | 0 => State.heap_pushCell_of_lt _ _ ha
  | i + 1 => by
    have f1 := (mR_f (s := s) (c := c) (d := d) (n := n) (k := k) (v := v) i).1
    have hl : a < (mR s c d n k v i).heap.size := by rw [f1]; exact Nat.lt_of_lt_of_le ha (by omega)
    show (((mR s c d n k v i).pushCell (arrV d k (fun _ => v))).setCell s.heap.size _).heap[a]? = _
    rw [State.heap_setCell_other (Nat.ne_of_gt ha), State.heap_pushCell_of_lt (h := hl)]
    exact mR_old ha i
theorem mR_in : ∀ i j, j < i → (mR s c d n k v i).heap[s.heap.size + 1 + j]? = some (arrV d k (fun _ => v))
  | 0, _, h => absurd h (Nat.not_lt_zero _)
  | i + 1, j, h => by
    have f1 := (mR_f (s := s) (c := c) (d := d) (n := n) (k := k) (v := v) i).1
    show (((mR s c d n k v i).pushCell (arrV d k (fun _ => v))).setCell s.heap.size _).heap[s.heap.size + 1 + j]? = _
    rw [State.heap_setCell_other (show s.heap.size ≠ s.heap.size + 1 + j by omega)]
    by_cases y : j = i
    · rw [y, ← f1]; exact State.heap_pushCell_size _ _
    · have hl : s.heap.size + 1 + j < (mR s c d n k v i).heap.size := by rw [f1]; omega
      rw [State.heap_pushCell_of_lt (h := hl)]
      exact mR_in i j (by omega)
end MulA
section MulB
variable {E : CtlPost} {e : Env} {d : Bool} {acts : List Action} {s : State}
theorem wp_arr {c cc : ClassId} {k : Class} {ty : FieldType} {n : Nat} {v : Value} (hk : s.vm.classes[c]? = some k) (hd : k.kind = .array cc ty) (h1 : ¬ n > e.platform.arrayLengthLimit) (h2 : ¬ n * componentBytes ty > e.platform.maxHeapBytes) (hf : fits ty v = true) (hv : v.isDefault = true) {Q : Addr → Pre} (h3 : s.heap.size < e.platform.maxCells) (h4 : s.slotsUsed + n ≤ e.platform.maxSlots)
    (hq : Q s.heap.size d acts (s.pushCell (arrV c n (fun _ => v)))) : wp (Jvm.newArray c n v) Q E e d acts s := by
  rw [← arrV_new] at hq
  have g1 : ∀ i w, (Array.replicate n v)[i]? = some w → s.fitsSlot c .none i w = true := by
    intro i w hw
    rw [Array.getElem?_replicate] at hw
    split at hw
    · cases hw; simp [State.fitsSlot, State.slotType?, hk, hd, hf]
    · cases hw
  have g2 : allocActs (Array.replicate n v) s.heap.size acts = acts := by
    unfold allocActs
    rw [if_pos (by rw [Array.all_replicate]; split <;> simp [hv])]
  simp only [Jvm.newArray, Jvm.arrayFits, wp_bind', W.ask, W.ite, h1, if_false, wp_pure', W.theClass, hk, hd, h2, W.alloc, W.stop, Option.some.injEq, exists_eq_left', Array.size_replicate, g2]
  rw [if_neg (by omega)]
  exact ⟨h3, h4, g1, hq⟩
/-- the rows, one by one -/
theorem wp_mul {c cc cr : ClassId} {k kr : Class} {ty : FieldType} {n m : Int32} (hk : s.vm.classes[c]? = some k) (hkd : k.kind = .array cr (.array ty)) (hkr : s.vm.classes[cr]? = some kr) (hkrd : kr.kind = .array cc ty) (hn : ¬ n < 0) (hm : ¬ m < 0) (h1 : ¬ n.toNatClampNeg > e.platform.arrayLengthLimit) (h2 : ¬ n.toNatClampNeg * 4 > e.platform.maxHeapBytes) (h3 : ¬ m.toNatClampNeg > e.platform.arrayLengthLimit) (h4 : ¬ m.toNatClampNeg * componentBytes ty > e.platform.maxHeapBytes)
    (hf : fits ty (defaultValue ty) = true) (hv : (defaultValue ty).isDefault = true) (h5 : s.heap.size + 1 + n.toNatClampNeg ≤ e.platform.maxCells) (h6 : s.slotsUsed + n.toNatClampNeg + n.toNatClampNeg * m.toNatClampNeg ≤ e.platform.maxSlots) {Q : Addr → Pre}
    (hq : ∀ d' acts', Q s.heap.size d' acts' (mR s c cr n.toNatClampNeg m.toNatClampNeg (defaultValue ty) n.toNatClampNeg)) : wp (multianewarray.make c [n, m]) Q E e d acts s := by
  generalize hN : n.toNatClampNeg = N at *
  generalize hK : m.toNatClampNeg = K at *
  have fnd : ([m].find? (· < 0)) = none := by simp [hm]
  rw [multianewarray.make]
  simp only [wp_bind', W.ite, hn, if_false, wp_pure', W.theClass, hk, hkd, Option.some.injEq, exists_eq_left', hN]
  refine wp_arr hk hkd h1 h2 rfl rfl (by omega) (by have := Nat.zero_le (N * K); omega) ?_
  rw [← mC_0 (b := s.heap.size)]
  simp only [fnd]
  rw [ite_self, wp_bind', Std.Legacy.Range.forIn_eq_forIn_range']
  rw [show ([:N] : Std.Legacy.Range).size = N by simp [Std.Legacy.Range.size]]
  show wp (forIn (List.range' 0 N 1) PUnit.unit _) _ E e d acts _
  refine wp_forIn_inv (fun rest s' => ∃ i, i ≤ N ∧ rest = List.range' i (N - i) ∧ s' = mR s c cr N K (defaultValue ty) i) _ _ ⟨0, Nat.zero_le _, rfl, rfl⟩ ?_ ?_
  · rintro x rest s' d' acts' Q' ⟨i, hi, hl, rfl⟩ next
    have hi' : i < N := by
      apply Classical.byContradiction
      intro y
      rw [show N - i = 0 by omega] at hl
      cases hl
    rw [show N - i = (N - (i + 1)) + 1 by omega, List.range'_succ] at hl
    obtain ⟨rfl, hrest⟩ := List.cons.inj hl
    obtain ⟨f1, f2, f3, f4⟩ := mR_f (s := s) (c := c) (d := cr) (n := N) (k := K) (v := defaultValue ty) x
    have hmul : x * K + K ≤ N * K := by
      have := Nat.mul_le_mul_right K (show x + 1 ≤ N from hi')
      rw [Nat.succ_mul] at this; exact this
    simp only [wp_bind']
    rw [multianewarray.make]
    simp only [wp_bind', W.ite, hm, if_false, wp_pure', W.theClass, f3, hkr, hkrd, Option.some.injEq, exists_eq_left', hK]
    refine wp_arr (by rw [f3]; exact hkr) hkrd h3 h4 hf hv (by rw [f1]; omega) (by rw [f4]; omega) ?_
    have hl0 : s.heap.size < (mR s c cr N K (defaultValue ty) x).heap.size := by rw [f1]; omega
    simp only [wp_bind', W.writeLoc, wp_pure']
    refine ⟨mC c N s.heap.size x, by rw [State.heap_pushCell_of_lt (h := hl0)]; exact f2, ?_, ?_, ?_, next _ _ _ ⟨x + 1, hi', hrest, ?_⟩⟩
    · simp [mC, arrV]
    · rw [mC, arrV_size]; exact hi'
    · show State.fitsSlot _ c .none x (.ref _) = true
      simp [State.fitsSlot, State.slotType?, f3, hk, hkd, fits]
    · rw [f1, mC_s hi']; rfl
  · rintro s' d' acts' ⟨i, hi, hl, rfl⟩
    have : i = N := by
      apply Classical.byContradiction
      intro y
      rw [show N - i = (N - (i + 1)) + 1 by omega, List.range'_succ] at hl
      cases hl
    subst this
    simp only [wp_pure']
    exact hq _ _
end MulB
section MulC
variable {p : Program} {l : Launch} {e : Env} {R : Room} {s : State} {m : MethodId} {args : Array Value} {below : List Frame} {meth : Method} {c : Code} {T : State} {locs : List Loc} {cells slots : Nat}
theorem mR_stand (X : Stand p l e R s m args below meth c T locs cells slots) (cA cr : ClassId) (N K : Nat) (v : Value) : ∀ i, i ≤ N → Stand p l e R s m args below meth c (mR T cA cr N K v i) locs (cells + 1 + i) (slots + N + i * K)
  | 0, _ => by
    have h := X.pushed (mC cA N T.heap.size 0)
    rw [show (mC cA N T.heap.size 0).slots.size = N from arrV_size _ _ _] at h
    simpa [mR] using h
  | i + 1, hi => by
    have Xi := mR_stand X cA cr N K v i (by omega)
    obtain ⟨f1, f2, -, -⟩ := mR_f (s := T) (c := cA) (d := cr) (n := N) (k := K) (v := v) i
    have hl : T.heap.size < (mR T cA cr N K v i).heap.size := by rw [f1]; omega
    have hc : ((mR T cA cr N K v i).pushCell (arrV cr K (fun _ => v))).heap[T.heap.size]? = some (mC cA N T.heap.size i) := by rw [State.heap_pushCell_of_lt (h := hl)]; exact f2
    have h := ((Xi.pushed (arrV cr K (fun _ => v))).stored hc i (.ref (T.heap.size + 1 + i))).dropFresh (fun x hx => by rw [List.mem_singleton.mp hx]; exact X.heapGrown)
    rw [arrV_size, mC_s (by omega)] at h
    rw [show slots + N + (i + 1) * K = slots + N + i * K + K by rw [Nat.succ_mul]; omega]
    exact h
/-- the step -/
theorem mul_step (X : Stand p l e R s m args below meth c T locs cells slots) (hx : p.tables.exec = Jvm.exec) {own : String} {idx : Nat} {ty : FieldType} (hown : s.vm.findClass own = some m.cls) (hcl : (Cond.classLink own idx ("[" ++ (FieldType.array ty).toString)).before args s = true)
    {cA cr cc : ClassId} {kA kr : Class} (hA : s.vm.findClass ("[" ++ (FieldType.array ty).toString) = some cA) (hkA : s.vm.classes[cA]? = some kA) (hkAd : kA.kind = .array cr (.array ty)) (hkr : s.vm.classes[cr]? = some kr) (hkrd : kr.kind = .array cc ty)
    {g : JFrame} (hg : g.method = m) (hd : decode c.code g.pc = .ok (.multianewarray idx 2, 4)) {n k : Int32} {rest : List Value} (hs : g.stack = .int k :: .int n :: rest) (hn : ¬ n < 0) (hk : ¬ k < 0) (b1 : n.toNatClampNeg * 4 ≤ 536870912) (b2 : k.toNatClampNeg * componentBytes ty ≤ 536870912) (b3 : k.toNatClampNeg ≤ 536870912) (hf : fits ty (defaultValue ty) = true) (hv : (defaultValue ty).isDefault = true)
    (hc : cells + (1 + n.toNatClampNeg) ≤ R.cells) (hl : slots + (n.toNatClampNeg + n.toNatClampNeg * k.toNatClampNeg) ≤ R.slots) :
    ∃ vm₁, Stand p l e R s m args below meth c (mR (T.setVm vm₁) cA cr n.toNatClampNeg k.toNatClampNeg (defaultValue ty) n.toNatClampNeg) locs (cells + 1 + n.toNatClampNeg) (slots + n.toNatClampNeg + n.toNatClampNeg * k.toNatClampNeg) ∧
      ∀ t, Steps p.tables e below ((mR (T.setVm vm₁) cA cr n.toNatClampNeg k.toNatClampNeg (defaultValue ty) n.toNatClampNeg).setTop { g with pc := g.pc + 4, stack := .ref T.heap.size :: rest }) t → Steps p.tables e below (T.setTop g) t := by
  subst hg
  have hpl : e.platform.magicAccessors = ({} : Platform).magicAccessors := by rw [X.admits.platform]
  obtain ⟨c0, hc0, hcl⟩ := Cond.classLink_spec hown hcl e.platform hpl
  cases hA.symm.trans hc0
  obtain ⟨hg₁, hw, -⟩ := State.classEntry (e := e) X.warmed hcl
  generalize T.vm.noted g.method.cls idx (.cls cA) = vm₁ at hg₁ hw
  obtain ⟨kA₁, a1, a2⟩ := hw.alike.2.2 _ _ hkA
  obtain ⟨kr₁, r1, r2⟩ := hw.alike.2.2 _ _ hkr
  have X₁ := X.noted hw
  obtain ⟨z1, z2⟩ := X.roomAbove hc hl
  have XF := mR_stand X₁ cA cr n.toNatClampNeg k.toNatClampNeg (defaultValue ty) n.toNatClampNeg (Nat.le_refl _)
  refine ⟨vm₁, XF, fun t ht => ?_⟩
  have l1 : ¬ n.toNatClampNeg > e.platform.arrayLengthLimit := by rw [Launch.admits_arrayLengthLimit X.admits]; omega
  have l2 : ¬ n.toNatClampNeg * 4 > e.platform.maxHeapBytes := by rw [Launch.admits_maxHeapBytes X.admits]; omega
  have l3 : ¬ k.toNatClampNeg > e.platform.arrayLengthLimit := by rw [Launch.admits_arrayLengthLimit X.admits]; omega
  have l4 : ¬ k.toNatClampNeg * componentBytes ty > e.platform.maxHeapBytes := by rw [Launch.admits_maxHeapBytes X.admits]; omega
  jvm_step X.here [hx, hd]
  simp only [multianewarray.sem, wp_bind', W.resolveClassAt_links (State.method?_setTop g X.here.top) hg₁]
  rw [W.popN, if_neg (by decide)]
  refine ⟨g, State.topJava?_setTop' (s := T.setVm vm₁) g X.here.top, [.int n, .int k], rest, rfl, hs, ?_⟩
  simp only [List.mapM_cons, List.mapM_nil, wp_bind', wp_pure']
  refine wp_mul (k := kA₁) (kr := kr₁) (cr := cr) (cc := cc) (ty := ty) a1 (by rw [a2]; exact hkAd) r1 (by rw [r2]; exact hkrd) hn hk l1 l2 l3 l4 hf hv (by show T.heap.size + 1 + _ ≤ _; omega) (by show T.slotsUsed + _ + _ ≤ _; omega) (fun d' acts' => ?_)
  rw [show ((T.setTop g).setVm vm₁).setTop { g with stack := rest } = (T.setVm vm₁).setTop { g with stack := rest } from State.setTop_setTop (s := T.setVm vm₁) .., mR_top]
  simp only [wp_bind', W.mark, W.pushRef, State.topJava?_setTop' _ XF.here.top, Option.some.injEq, exists_eq_left', State.setTop_setTop, State.heap_setTop]
  intro acts
  simp [jvm, XF.here.top]
  exact ht
end MulC
