set_option maxRecDepth 100000
/-! ===== rules: fields (own or a nest mate's), lists, pure calls; ops of squares ===== -/
def Lk (M : MD) (idx : Nat) (t : String × String × String × Bool) : Prop := Cond.fieldLink M.y.cls idx t.1 t.2.1 t.2.2.1 ∈ lw_all ∨ ∃ host, Cond.fieldLinkNest M.y.cls idx t.1 t.2.1 t.2.2.1 host ∈ nwL
theorem lw_F {own : String} {idx : Nat} {C : String} {x y : MethodName} {b : ByteArray} {L : Nat} {r : Option FieldType} (h1 : Cond.methodLink own idx x ∈ lw_all) (h2 : Cond.selects C x y ∈ lw_all) (h3 : Cond.instanceMethod y ∈ lw_all) (h4 : Cond.initialized y.cls ∈ lw_all) (h5 : Cond.code y b L r ∈ lw_all) : GoodIn lw_all (va_wsF own idx C x y (ws_ y b L r)) := by
  refine lw_app ?_ (lw_meth h5)
  intro w hw
  simp only [List.mem_cons, List.not_mem_nil, or_false] at hw
  rcases hw with rfl | rfl | rfl | rfl
  · exact h1
  · exact h2
  · exact h3
  · exact h4
/-- the words of a static call: own, or of the nest's host -/
def StG (M : MD) (idx : Nat) (M' : MD) : Prop := GoodIn lw_all (va_wsS M.y.cls idx M'.y (ws_ M'.y M'.cc M'.nL M'.ret)) ∨ (GoodIn lw_all (ws_ M'.y M'.cc M'.nL M'.ret) ∧ Cond.static M'.y ∈ lw_all ∧ Cond.initialized M'.y.cls ∈ lw_all ∧ ∃ host, Cond.methodLinkNest M.y.cls idx M'.y host ∈ nwL)
abbrev hyS (M' : MD) (n : Nat) : Prop := M'.y.cls ≠ "java/lang/invoke/MethodHandle" ∧ M'.y.cls ≠ "java/lang/invoke/VarHandle" ∧ (parseMethodDescriptor M'.y.desc).map (fun d => d.parameters.length) = some n
abbrev xSize : MethodName := ⟨"java/util/List", "size", "()I"⟩
abbrev xGet : MethodName := ⟨"java/util/List", "get", "(I)Ljava/lang/Object;"⟩
abbrev xAdd : MethodName := ⟨"java/util/List", "add", "(Ljava/lang/Object;)Z"⟩
abbrev xEmpty : MethodName := ⟨"java/util/List", "isEmpty", "()Z"⟩
theorem hy_xSize : xSize.cls ≠ "java/lang/invoke/MethodHandle" ∧ xSize.cls ≠ "java/lang/invoke/VarHandle" ∧ (parseMethodDescriptor xSize.desc).map (fun d => d.parameters.length) = some 0 := by decide +kernel
theorem hy_xGet : xGet.cls ≠ "java/lang/invoke/MethodHandle" ∧ xGet.cls ≠ "java/lang/invoke/VarHandle" ∧ (parseMethodDescriptor xGet.desc).map (fun d => d.parameters.length) = some 1 := by decide +kernel
theorem hy_xEmpty : xEmpty.cls ≠ "java/lang/invoke/MethodHandle" ∧ xEmpty.cls ≠ "java/lang/invoke/VarHandle" ∧ (parseMethodDescriptor xEmpty.desc).map (fun d => d.parameters.length) = some 0 := by decide +kernel
section RulesB1
variable {X : Cx} {M M' : MD} {R : Room} {Z : ZT} {k n pc idx a : Nat} {L : List (Option Value)} {st As : List Value} {h : AH}
theorem J.getfE {C : String} {T : u_T} {N ci f : Nat} {ty : Nat → FieldType} {fs : List Value} {v : Value} (hX : WkX X) (hC : ClsOK C T N ty) (hc : vwCl[ci]? = some (C, T, N)) (ha : h a = some (.inr (ci, fs))) (hf : f < N) (hv : fs[f]? = some v) (hl : Lk M idx (T f)) (hd : decode M.cc pc = .ok (.getfield idx, 3))
    (kk : J X M R Z (pc + 3) L (v :: st) h k n) : J X M R Z pc L (.ref a :: st) h k n := by
  rcases hl with q | ⟨host, q⟩
  · exact J.getf hC hc ha hf hv q hd kk
  · exact J.getfN hX hC hc ha hf hv q hd kk
theorem J.putfE {C : String} {T : u_T} {N ci f : Nat} {ty : Nat → FieldType} {fs : List Value} {v : Value} (hX : WkX X) (hC : ClsOK C T N ty) (hc : vwCl[ci]? = some (C, T, N)) (ha : h a = some (.inr (ci, fs))) (hf : f < N) (hfs : f < fs.length) (hfin : (T f).2.2.2 = false) (hn : narrow (ty f) v = v) (hfit : fits (ty f) v = true) (hl : Lk M idx (T f)) (hd : decode M.cc pc = .ok (.putfield idx, 3))
    (kk : J X M R Z (pc + 3) L st (va_up h a (some (.inr (ci, fs.set f v)))) k n) : J X M R Z pc L (v :: .ref a :: st) h k n := by
  rcases hl with q | ⟨host, q⟩
  · exact J.putf hC hc ha hf hfs hfin hn hfit q hd kk
  · exact J.putfN hX hC hc ha hf hfs hfin hn hfit q hd kk
theorem J.lsize {count ed cap sz : Nat} {f : Nat → Nat} (hX : WkX X) (hl : LsAt X h a ed cap sz f) (hd : decode M.cc pc = .ok (.invokeinterface idx count, 5)) (hG : GoodIn lw_all (va_wsF M.y.cls idx RJ2 xSize yJ2_size (ws_ yJ2_size cJ2_size 1 (Option.some .int)))) (hR : 2 ≤ M.lv) (hst : wt8 st = true) (kk : J X M R Z (pc + 5) L (.int (nI sz) :: st) h k n) : J X M R Z pc L (.ref a :: st) h k n := by
  intro p e s m args below meth c B rk H locs ls hW hS hL
  obtain ⟨⟨mm, h1⟩, -⟩ := id hl
  refine J.callF (M' := mJ2_size) (x := xSize) (As := []) (mc := 0) (ms := 0) hX (ok_size hl) (fun o h' q => ⟨_, q.1⟩) h1 hd hG (List.mem_of_getElem? (i := 0) rfl) hy_xSize ⟨hR, by decide⟩ ⟨rk.2.2.1, rk.2.2.2⟩ (Nat.le_of_ble_eq_true hst) (fun v h' q => ?_) p e s m args below meth c B rk H locs ls hW hS hL
  obtain ⟨q1, rfl⟩ := q
  cases q1
  exact kk
theorem J.lempty {count ed cap sz : Nat} {f : Nat → Nat} (hX : WkX X) (hl : LsAt X h a ed cap sz f) (hd : decode M.cc pc = .ok (.invokeinterface idx count, 5)) (hG : GoodIn lw_all (va_wsF M.y.cls idx RJ2 xEmpty yJ2_isEmpty (ws_ yJ2_isEmpty cJ2_isEmpty 1 (Option.some .boolean)))) (hR : 2 ≤ M.lv) (hst : wt8 st = true) (kk : J X M R Z (pc + 5) L (.int (b2 (decide (sz = 0))) :: st) h k n) : J X M R Z pc L (.ref a :: st) h k n := by
  intro p e s m args below meth c B rk H locs ls hW hS hL
  obtain ⟨⟨mm, h1⟩, -⟩ := id hl
  refine J.callF (M' := mJ2_isEmpty) (x := xEmpty) (As := []) (mc := 0) (ms := 0) hX (ok_isEmpty hl) (fun o h' q => ⟨_, q.1⟩) h1 hd hG (List.mem_of_getElem? (i := 3) rfl) hy_xEmpty ⟨hR, by decide⟩ ⟨rk.2.2.1, rk.2.2.2⟩ (Nat.le_of_ble_eq_true hst) (fun v h' q => ?_) p e s m args below meth c B rk H locs ls hW hS hL
  obtain ⟨q1, rfl⟩ := q
  cases q1
  exact kk
theorem J.lget {count ed cap sz i : Nat} {f : Nat → Nat} (hX : WkX X) (hl : LsAt X h a ed cap sz f) (hi : i < sz) (hd : decode M.cc pc = .ok (.invokeinterface idx count, 5)) (hG : GoodIn lw_all (va_wsF M.y.cls idx RJ2 xGet yJ2_get (ws_ yJ2_get cJ2_get 2 (Option.some (.object "java/lang/Object"))))) (hR : 4 ≤ M.lv) (hst : wt8 st = true) (kk : J X M R Z (pc + 5) L (.ref (f i) :: st) h k n) : J X M R Z pc L (.int (nI i) :: .ref a :: st) h k n := by
  intro p e s m args below meth c B rk H locs ls hW hS hL
  obtain ⟨⟨mm, h1⟩, -⟩ := id hl
  refine J.callF (M' := mJ2_get) (x := xGet) (As := [.int (nI i)]) (mc := 0) (ms := 0) hX (ok_get hl hi) (fun o h' q => ⟨_, q.1⟩) h1 hd hG (List.mem_of_getElem? (i := 1) rfl) hy_xGet ⟨hR, by decide⟩ ⟨rk.2.2.1, rk.2.2.2⟩ (Nat.le_of_ble_eq_true hst) (fun v h' q => ?_) p e s m args below meth c B rk H locs ls hW hS hL
  obtain ⟨q1, rfl⟩ := q
  cases q1
  exact kk
theorem J.pureS {r : Value} {nA : Nat} (hX : WkX X) (hC : Cg X M' 0 0 As h (PR (some r) h)) (hd : decode M.cc pc = .ok (.invokestatic idx, 3)) (hG : StG M idx M') (hy : hyS M' nA) (hA : As.length = nA) (hR : M'.lv + 1 ≤ M.lv ∧ M'.nL ≤ 421) (hst : wt8 st = true) (kk : J X M R Z (pc + 3) L (r :: st) h k n) : J X M R Z pc L (As.reverse ++ st) h k n := by
  intro p e s m args below meth c B rk H locs ls hW hS hL
  subst hA
  rcases hG with hG | ⟨hG, h1, h2, host, h3⟩
  · refine J.callS (mc := 0) (ms := 0) hC (fun o h' q => ⟨_, q.1⟩) hd hG hy hR ⟨rk.2.2.1, rk.2.2.2⟩ (Nat.le_of_ble_eq_true hst) (fun v h' q => ?_) p e s m args below meth c B rk H locs ls hW hS hL
    obtain ⟨q1, rfl⟩ := q
    cases q1
    exact kk
  · refine J.callSN (mc := 0) (ms := 0) hX hC (fun o h' q => ⟨_, q.1⟩) hd hG h3 h1 h2 hy hR ⟨rk.2.2.1, rk.2.2.2⟩ (Nat.le_of_ble_eq_true hst) (fun v h' q => ?_) p e s m args below meth c B rk H locs ls hW hS hL
    obtain ⟨q1, rfl⟩ := q
    cases q1
    exact kk
theorem J.pureV {b ci nA : Nat} {fs : List Value} {q : vw_C} {r : Value} (hC : Cg X M' 0 0 (.ref b :: As) h (PR (some r) h)) (hb : h b = some (.inr (ci, fs))) (hci : vwCl[ci]? = some q) (hd : decode M.cc pc = .ok (.invokevirtual idx, 3)) (hG : GoodIn lw_all (wsV M.y.cls idx q.1 M'.y (ws_ M'.y M'.cc M'.nL M'.ret)))
    (hy : hyS M' nA) (hyc : M'.y.cls = q.1) (hA : As.length = nA) (hR : M'.lv + 1 ≤ M.lv ∧ M'.nL ≤ 421) (hst : wt8 st = true) (kk : J X M R Z (pc + 3) L (r :: st) h k n) : J X M R Z pc L (As.reverse ++ .ref b :: st) h k n := by
  intro p e s m args below meth c B rk H locs ls hW hS hL
  subst hA
  refine J.callV (mc := 0) (ms := 0) hC (fun o h' q => ⟨_, q.1⟩) hb hci hd hG ⟨hyc, hy⟩ hR ⟨rk.2.2.1, rk.2.2.2⟩ (Nat.le_of_ble_eq_true hst) (fun v h' q => ?_) p e s m args below meth c B rk H locs ls hW hS hL
  obtain ⟨q1, rfl⟩ := q
  cases q1
  exact kk
end RulesB1
theorem clsX0 : ClsOK RX0 TX0 13 tyX0 := ⟨in_X0, tyX0_ok, nmX0⟩
theorem clsX1 : ClsOK RX1 TX1 1 tyX1 := ⟨in_X1, tyX1_ok, nmX1⟩
theorem clsX2 : ClsOK RX2 TX2 9 tyX2 := ⟨in_X2, tyX2_ok, nmX2⟩
theorem clsX3 : ClsOK RX3 TX3 18 tyX3 := ⟨in_X3, tyX3_ok, nmX3⟩
theorem clsX5 : ClsOK RX5 TX5 7 tyX5 := ⟨in_X5, tyX5_ok, nmX5⟩
theorem clsX6 : ClsOK RX6 TX6 8 tyX6 := ⟨in_X6, tyX6_ok, nmX6⟩
theorem clsX7 : ClsOK RX7 TX7 6 tyX7 := ⟨in_X7, tyX7_ok, nmX7⟩
theorem clsX8 : ClsOK RX8 TX8 7 tyX8 := ⟨in_X8, tyX8_ok, nmX8⟩
theorem clsX10 : ClsOK RX10 TX10 1 tyX10 := ⟨in_X10, tyX10_ok, nmX10⟩
theorem clsX11 : ClsOK RX11 TX11 3 tyX11 := ⟨in_X11, tyX11_ok, nmX11⟩
theorem clsX12 : ClsOK RX12 TX12 3 tyX12 := ⟨in_X12, tyX12_ok, nmX12⟩
theorem clsX13 : ClsOK RX13 TX13 2 tyX13 := ⟨in_X13, tyX13_ok, nmX13⟩
theorem clsX14 : ClsOK RX14 TX14 2 tyX14 := ⟨in_X14, tyX14_ok, nmX14⟩
theorem clsX15 : ClsOK RX15 TX15 2 tyX15 := ⟨in_X15, tyX15_ok, nmX15⟩
theorem clsX16 : ClsOK RX16 TX16 2 tyX16 := ⟨in_X16, tyX16_ok, nmX16⟩
theorem clsX17 : ClsOK RX17 TX17 3 tyX17 := ⟨in_X17, tyX17_ok, nmX17⟩
/-- a picture with a square at hand: the heap is h0 -/
abbrev PSv : Type := AH × (Nat → Nat) × (Nat → Int32)
def PSq (X : Cx) (x : PSv) (h : AH) : Prop := h = x.1 ∧ WkX X ∧ SqW X h x.2.1 x.2.2

section StB1
variable {σ : Type} {Pic : Cx → σ → AH → Prop} {M M' : MD} {pc idx : Nat}
def SP_I (M : MD) (P : Int32 → Prop) (F : Int32 → Int32) : Prop := ∀ (X : Cx) (h : AH) (a1 : Int32), P a1 → Cg X M 0 0 [.int a1] h (PR (some (.int (F a1))) h)
def oS_I (P : Int32 → Prop) (F : Int32 → Int32) : OPS σ := .inr (fun s => match s with
  | (L, .int a1 :: st, x) => match wt8 st with
    | true => some (P a1, L, .int (F a1) :: st, x)
    | false => none
  | _ => none)
theorem s_S_I {P : Int32 → Prop} {F : Int32 → Int32} (hM : SP_I M' P F) (hPW : ∀ X x h, Pic X x h → WkX X) (hG : StG M idx M') (hy : hyS M' 1) (hR : M'.lv + 1 ≤ M.lv ∧ M'.nL ≤ 421) (hd : decode M.cc pc = .ok (.invokestatic idx, 3)) : JStp Pic M pc (pc + 3) (oS_I P F) := by
  intro X R Z k n L st x cnd L' st' x' hf hc kk h hp
  dsimp only at hf
  split at hf
  · rename_i heq
    cases heq
    split at hf
    · rename_i hw
      simp only [Option.some.injEq, Prod.mk.injEq] at hf
      obtain ⟨rfl, rfl, rfl, rfl⟩ := hf
      exact J.pureS (As := [.int _]) (hPW X _ h hp) (hM X h _ hc) hd hG hy rfl hR hw (kk h hp)
    · cases hf
  · cases hf
def SP_II (M : MD) (P : Int32 → Int32 → Prop) (F : Int32 → Int32 → Int32) : Prop := ∀ (X : Cx) (h : AH) (a1 : Int32) (a2 : Int32), P a1 a2 → Cg X M 0 0 [.int a1, .int a2] h (PR (some (.int (F a1 a2))) h)
def oS_II (P : Int32 → Int32 → Prop) (F : Int32 → Int32 → Int32) : OPS σ := .inr (fun s => match s with
  | (L, .int a2 :: .int a1 :: st, x) => match wt8 st with
    | true => some (P a1 a2, L, .int (F a1 a2) :: st, x)
    | false => none
  | _ => none)
theorem s_S_II {P : Int32 → Int32 → Prop} {F : Int32 → Int32 → Int32} (hM : SP_II M' P F) (hPW : ∀ X x h, Pic X x h → WkX X) (hG : StG M idx M') (hy : hyS M' 2) (hR : M'.lv + 1 ≤ M.lv ∧ M'.nL ≤ 421) (hd : decode M.cc pc = .ok (.invokestatic idx, 3)) : JStp Pic M pc (pc + 3) (oS_II P F) := by
  intro X R Z k n L st x cnd L' st' x' hf hc kk h hp
  dsimp only at hf
  split at hf
  · rename_i heq
    cases heq
    split at hf
    · rename_i hw
      simp only [Option.some.injEq, Prod.mk.injEq] at hf
      obtain ⟨rfl, rfl, rfl, rfl⟩ := hf
      exact J.pureS (As := [.int _, .int _]) (hPW X _ h hp) (hM X h _ _ hc) hd hG hy rfl hR hw (kk h hp)
    · cases hf
  · cases hf
def SP_J (M : MD) (P : Int64 → Prop) (F : Int64 → Int32) : Prop := ∀ (X : Cx) (h : AH) (a1 : Int64), P a1 → Cg X M 0 0 [.long a1] h (PR (some (.int (F a1))) h)
def oS_J (P : Int64 → Prop) (F : Int64 → Int32) : OPS σ := .inr (fun s => match s with
  | (L, .long a1 :: st, x) => match wt8 st with
    | true => some (P a1, L, .int (F a1) :: st, x)
    | false => none
  | _ => none)
theorem s_S_J {P : Int64 → Prop} {F : Int64 → Int32} (hM : SP_J M' P F) (hPW : ∀ X x h, Pic X x h → WkX X) (hG : StG M idx M') (hy : hyS M' 1) (hR : M'.lv + 1 ≤ M.lv ∧ M'.nL ≤ 421) (hd : decode M.cc pc = .ok (.invokestatic idx, 3)) : JStp Pic M pc (pc + 3) (oS_J P F) := by
  intro X R Z k n L st x cnd L' st' x' hf hc kk h hp
  dsimp only at hf
  split at hf
  · rename_i heq
    cases heq
    split at hf
    · rename_i hw
      simp only [Option.some.injEq, Prod.mk.injEq] at hf
      obtain ⟨rfl, rfl, rfl, rfl⟩ := hf
      exact J.pureS (As := [.long _]) (hPW X _ h hp) (hM X h _ hc) hd hG hy rfl hR hw (kk h hp)
    · cases hf
  · cases hf
def SP_JJJ (M : MD) (P : Int64 → Int64 → Int64 → Prop) (F : Int64 → Int64 → Int64 → Int32) : Prop := ∀ (X : Cx) (h : AH) (a1 : Int64) (a2 : Int64) (a3 : Int64), P a1 a2 a3 → Cg X M 0 0 [.long a1, .long a2, .long a3] h (PR (some (.int (F a1 a2 a3))) h)
def oS_JJJ (P : Int64 → Int64 → Int64 → Prop) (F : Int64 → Int64 → Int64 → Int32) : OPS σ := .inr (fun s => match s with
  | (L, .long a3 :: .long a2 :: .long a1 :: st, x) => match wt8 st with
    | true => some (P a1 a2 a3, L, .int (F a1 a2 a3) :: st, x)
    | false => none
  | _ => none)
theorem s_S_JJJ {P : Int64 → Int64 → Int64 → Prop} {F : Int64 → Int64 → Int64 → Int32} (hM : SP_JJJ M' P F) (hPW : ∀ X x h, Pic X x h → WkX X) (hG : StG M idx M') (hy : hyS M' 3) (hR : M'.lv + 1 ≤ M.lv ∧ M'.nL ≤ 421) (hd : decode M.cc pc = .ok (.invokestatic idx, 3)) : JStp Pic M pc (pc + 3) (oS_JJJ P F) := by
  intro X R Z k n L st x cnd L' st' x' hf hc kk h hp
  dsimp only at hf
  split at hf
  · rename_i heq
    cases heq
    split at hf
    · rename_i hw
      simp only [Option.some.injEq, Prod.mk.injEq] at hf
      obtain ⟨rfl, rfl, rfl, rfl⟩ := hf
      exact J.pureS (As := [.long _, .long _, .long _]) (hPW X _ h hp) (hM X h _ _ _ hc) hd hG hy rfl hR hw (kk h hp)
    · cases hf
  · cases hf
end StB1
def pI (f i : Nat) : OPS PSv := .inr (fun s => match s with
  | (L, .ref a :: st, (h0, sk, w)) => some (a = sk 0 ∧ True, L, .int (w i) :: st, (h0, sk, w))
  | _ => none)
theorem p_I {M : MD} {pc idx : Nat} {f i : Nat} (hf1 : f < 9) (hv : ∀ (sk : Nat → Nat) (w : Nat → Int32), ([.ref (sk 1), .ref (sk 2), .ref (sk 3), .ref (sk 4), .int (w 4), .int (w 5), .int (w 6), .int (w 0), .int (w 3)] : List Value)[f]? = some (.int (w i))) (hl : Lk M idx (TX2 f)) (hd : decode M.cc pc = .ok (.getfield idx, 3)) : JStp PSq M pc (pc + 3) (pI f i) := by
  intro X R Z k n L st x cnd L' st' x' hf hc kk h hp
  dsimp only at hf
  split at hf
  · rename_i heq
    cases heq
    simp only [Option.some.injEq, Prod.mk.injEq] at hf
    obtain ⟨rfl, rfl, rfl, rfl⟩ := hf
    obtain ⟨hc0, hs⟩ := hc
    have hw := (show WkX X ∧ SqW X h _ _ from ⟨hp.2.1, hp.2.2⟩).1
    have hz := (show WkX X ∧ SqW X h _ _ from ⟨hp.2.1, hp.2.2⟩).2
    try dsimp only at hz
    subst hc0
    exact J.getfE (f := f) hw clsX2 rfl hz.1 hf1 (hv _ _) hl hd (kk h hp)
  · cases hf
def pR (f i : Nat) : OPS PSv := .inr (fun s => match s with
  | (L, .ref a :: st, (h0, sk, w)) => some (a = sk 0 ∧ True, L, .ref (sk i) :: st, (h0, sk, w))
  | _ => none)
theorem p_R {M : MD} {pc idx : Nat} {f i : Nat} (hf1 : f < 9) (hv : ∀ (sk : Nat → Nat) (w : Nat → Int32), ([.ref (sk 1), .ref (sk 2), .ref (sk 3), .ref (sk 4), .int (w 4), .int (w 5), .int (w 6), .int (w 0), .int (w 3)] : List Value)[f]? = some (.ref (sk i))) (hl : Lk M idx (TX2 f)) (hd : decode M.cc pc = .ok (.getfield idx, 3)) : JStp PSq M pc (pc + 3) (pR f i) := by
  intro X R Z k n L st x cnd L' st' x' hf hc kk h hp
  dsimp only at hf
  split at hf
  · rename_i heq
    cases heq
    simp only [Option.some.injEq, Prod.mk.injEq] at hf
    obtain ⟨rfl, rfl, rfl, rfl⟩ := hf
    obtain ⟨hc0, hs⟩ := hc
    have hw := (show WkX X ∧ SqW X h _ _ from ⟨hp.2.1, hp.2.2⟩).1
    have hz := (show WkX X ∧ SqW X h _ _ from ⟨hp.2.1, hp.2.2⟩).2
    try dsimp only at hz
    subst hc0
    exact J.getfE (f := f) hw clsX2 rfl hz.1 hf1 (hv _ _) hl hd (kk h hp)
  · cases hf
def pSzC  : OPS PSv := .inr (fun s => match s with
  | (L, .ref a :: st, (h0, sk, w)) => some (a = sk 1 ∧ wt8 st = true ∧ True, L, .int (nI (nC (w))) :: st, (h0, sk, w))
  | _ => none)
theorem p_SzC {M : MD} {pc idx count : Nat}  (hG : GoodIn lw_all (va_wsF M.y.cls idx RJ2 xSize yJ2_size (ws_ yJ2_size cJ2_size 1 (Option.some .int)))) (hR : 2 ≤ M.lv) (hd : decode M.cc pc = .ok (.invokeinterface idx count, 5)) : JStp PSq M pc (pc + 5) (pSzC ) := by
  intro X R Z k n L st x cnd L' st' x' hf hc kk h hp
  dsimp only at hf
  split at hf
  · rename_i heq
    cases heq
    simp only [Option.some.injEq, Prod.mk.injEq] at hf
    obtain ⟨rfl, rfl, rfl, rfl⟩ := hf
    obtain ⟨hc0, hs0, hs⟩ := hc
    have hw := (show WkX X ∧ SqW X h _ _ from ⟨hp.2.1, hp.2.2⟩).1
    have hz := (show WkX X ∧ SqW X h _ _ from ⟨hp.2.1, hp.2.2⟩).2
    try dsimp only at hz
    subst hc0
    exact J.lsize hw hz.2.1 hd hG hR hs0 (kk h hp)
  · cases hf
def pSzP  : OPS PSv := .inr (fun s => match s with
  | (L, .ref a :: st, (h0, sk, w)) => some (a = sk 2 ∧ wt8 st = true ∧ True, L, .int (nI (nP (w))) :: st, (h0, sk, w))
  | _ => none)
theorem p_SzP {M : MD} {pc idx count : Nat}  (hG : GoodIn lw_all (va_wsF M.y.cls idx RJ2 xSize yJ2_size (ws_ yJ2_size cJ2_size 1 (Option.some .int)))) (hR : 2 ≤ M.lv) (hd : decode M.cc pc = .ok (.invokeinterface idx count, 5)) : JStp PSq M pc (pc + 5) (pSzP ) := by
  intro X R Z k n L st x cnd L' st' x' hf hc kk h hp
  dsimp only at hf
  split at hf
  · rename_i heq
    cases heq
    simp only [Option.some.injEq, Prod.mk.injEq] at hf
    obtain ⟨rfl, rfl, rfl, rfl⟩ := hf
    obtain ⟨hc0, hs0, hs⟩ := hc
    have hw := (show WkX X ∧ SqW X h _ _ from ⟨hp.2.1, hp.2.2⟩).1
    have hz := (show WkX X ∧ SqW X h _ _ from ⟨hp.2.1, hp.2.2⟩).2
    try dsimp only at hz
    subst hc0
    exact J.lsize hw hz.2.2.1 hd hG hR hs0 (kk h hp)
  · cases hf
def pDial  : OPS PSv := .inr (fun s => match s with
  | (L, .int i :: .ref a :: st, (h0, sk, w)) => some ((a = sk 1 ∧ wt8 st = true ∧ vp_in i (nC (w))) ∧ True, L, .ref (sk (20 + i.toNatClampNeg)) :: st, (h0, sk, w))
  | _ => none)
theorem p_Dial {M : MD} {pc idx count idx2 : Nat}  (hG : GoodIn lw_all (va_wsF M.y.cls idx RJ2 xGet yJ2_get (ws_ yJ2_get cJ2_get 2 (Option.some (.object "java/lang/Object"))))) (hR : 4 ≤ M.lv) (hd : decode M.cc pc = .ok (.invokeinterface idx count, 5)) (hl : Cond.classLink M.y.cls idx2 RX7 ∈ lw_all) (hd2 : decode M.cc (pc + 5) = .ok (.checkcast idx2, 3)) : JStp PSq M pc (pc + 8) (pDial ) := by
  intro X R Z k n L st x cnd L' st' x' hf hc kk h hp
  dsimp only at hf
  split at hf
  · rename_i heq
    cases heq
    simp only [Option.some.injEq, Prod.mk.injEq] at hf
    obtain ⟨rfl, rfl, rfl, rfl⟩ := hf
    obtain ⟨⟨hc0, hs0, hi⟩, hs⟩ := hc
    have hw := (show WkX X ∧ SqW X h _ _ from ⟨hp.2.1, hp.2.2⟩).1
    have hz := (show WkX X ∧ SqW X h _ _ from ⟨hp.2.1, hp.2.2⟩).2
    try dsimp only at hz
    subst hc0
    obtain ⟨i, hii, rfl⟩ := vp_in_of hi (by have := hz.2.1.2.2.2; omega)
    rw [nI_clamp (by have := hz.2.1.2.2.2; omega)] at kk
    obtain ⟨pcc, hdl⟩ := hz.2.2.2.2.1 i hii
    exact J.lget hw hz.2.1 hii hd hG hR hs0 (J.castS hdl rfl hl hd2 (kk h hp))
  · cases hf
def pDF (f loc : Nat) : OPS PSv := .inr (fun s => match s with
  | (L, .ref a :: st, (h0, sk, w)) => match L[loc]? with
    | some (some (.int z)) => some ((a = sk (20 + z.toNatClampNeg) ∧ z.toNatClampNeg < nC (w)) ∧ True, L, .int (w (32 + 6 * z.toNatClampNeg + f)) :: st, (h0, sk, w))
    | _ => none
  | _ => none)
theorem p_DF {M : MD} {pc idx : Nat} {f loc : Nat} (hf1 : f < 6) (hf2 : f ≠ 2) (hl : Lk M idx (TX7 f)) (hd : decode M.cc pc = .ok (.getfield idx, 3)) : JStp PSq M pc (pc + 3) (pDF f loc) := by
  intro X R Z k n L st x cnd L' st' x' hf hc kk h hp
  dsimp only at hf
  split at hf
  · rename_i heq
    cases heq
    split at hf
    · simp only [Option.some.injEq, Prod.mk.injEq] at hf
      obtain ⟨rfl, rfl, rfl, rfl⟩ := hf
      obtain ⟨⟨hc0, hi⟩, hs⟩ := hc
      have hw := (show WkX X ∧ SqW X h _ _ from ⟨hp.2.1, hp.2.2⟩).1
      have hz := (show WkX X ∧ SqW X h _ _ from ⟨hp.2.1, hp.2.2⟩).2
      try dsimp only at hz
      subst hc0
      obtain ⟨pcc, hdl⟩ := hz.2.2.2.2.1 _ hi
      refine J.getfE (f := f) hw clsX7 rfl hdl hf1 ?_ hl hd (kk h hp)
      match f, hf1, hf2 with
      | 0, _, _ => rfl
      | 1, _, _ => rfl
      | 3, _, _ => rfl
      | 4, _, _ => rfl
      | 5, _, _ => rfl
    · cases hf
  · cases hf
def qI (j : Nat) (f i : Nat) : OPS Cv := .inr (fun s => match s with
  | (L, .ref a :: st, (ad, A, B, sk, sw, E)) => some (a = sk j 0 ∧ SqL E j, L, .int (sw j i) :: st, (ad, A, B, sk, sw, E))
  | _ => none)
theorem q_I {M : MD} {pc idx : Nat} {j : Nat} {f i : Nat} (hf1 : f < 9) (hv : ∀ (sk : Nat → Nat) (w : Nat → Int32), ([.ref (sk 1), .ref (sk 2), .ref (sk 3), .ref (sk 4), .int (w 4), .int (w 5), .int (w 6), .int (w 0), .int (w 3)] : List Value)[f]? = some (.int (w i))) (hl : Lk M idx (TX2 f)) (hd : decode M.cc pc = .ok (.getfield idx, 3)) : JStp CP M pc (pc + 3) (qI j f i) := by
  intro X R Z k n L st x cnd L' st' x' hf hc kk h hp
  dsimp only at hf
  split at hf
  · rename_i heq
    cases heq
    simp only [Option.some.injEq, Prod.mk.injEq] at hf
    obtain ⟨rfl, rfl, rfl, rfl⟩ := hf
    obtain ⟨hc0, hs⟩ := hc
    have hw := (show WkX X ∧ SqW X h _ _ from ⟨hp.1.1, (hp.sq hs).1⟩).1
    have hz := (show WkX X ∧ SqW X h _ _ from ⟨hp.1.1, (hp.sq hs).1⟩).2
    try dsimp only at hz
    subst hc0
    exact J.getfE (f := f) hw clsX2 rfl hz.1 hf1 (hv _ _) hl hd (kk h hp)
  · cases hf
def qR (j : Nat) (f i : Nat) : OPS Cv := .inr (fun s => match s with
  | (L, .ref a :: st, (ad, A, B, sk, sw, E)) => some (a = sk j 0 ∧ SqL E j, L, .ref (sk j i) :: st, (ad, A, B, sk, sw, E))
  | _ => none)
theorem q_R {M : MD} {pc idx : Nat} {j : Nat} {f i : Nat} (hf1 : f < 9) (hv : ∀ (sk : Nat → Nat) (w : Nat → Int32), ([.ref (sk 1), .ref (sk 2), .ref (sk 3), .ref (sk 4), .int (w 4), .int (w 5), .int (w 6), .int (w 0), .int (w 3)] : List Value)[f]? = some (.ref (sk i))) (hl : Lk M idx (TX2 f)) (hd : decode M.cc pc = .ok (.getfield idx, 3)) : JStp CP M pc (pc + 3) (qR j f i) := by
  intro X R Z k n L st x cnd L' st' x' hf hc kk h hp
  dsimp only at hf
  split at hf
  · rename_i heq
    cases heq
    simp only [Option.some.injEq, Prod.mk.injEq] at hf
    obtain ⟨rfl, rfl, rfl, rfl⟩ := hf
    obtain ⟨hc0, hs⟩ := hc
    have hw := (show WkX X ∧ SqW X h _ _ from ⟨hp.1.1, (hp.sq hs).1⟩).1
    have hz := (show WkX X ∧ SqW X h _ _ from ⟨hp.1.1, (hp.sq hs).1⟩).2
    try dsimp only at hz
    subst hc0
    exact J.getfE (f := f) hw clsX2 rfl hz.1 hf1 (hv _ _) hl hd (kk h hp)
  · cases hf
def qSzC (j : Nat)  : OPS Cv := .inr (fun s => match s with
  | (L, .ref a :: st, (ad, A, B, sk, sw, E)) => some (a = sk j 1 ∧ wt8 st = true ∧ SqL E j, L, .int (nI (nC (sw j))) :: st, (ad, A, B, sk, sw, E))
  | _ => none)
theorem q_SzC {M : MD} {pc idx count : Nat} {j : Nat}  (hG : GoodIn lw_all (va_wsF M.y.cls idx RJ2 xSize yJ2_size (ws_ yJ2_size cJ2_size 1 (Option.some .int)))) (hR : 2 ≤ M.lv) (hd : decode M.cc pc = .ok (.invokeinterface idx count, 5)) : JStp CP M pc (pc + 5) (qSzC j ) := by
  intro X R Z k n L st x cnd L' st' x' hf hc kk h hp
  dsimp only at hf
  split at hf
  · rename_i heq
    cases heq
    simp only [Option.some.injEq, Prod.mk.injEq] at hf
    obtain ⟨rfl, rfl, rfl, rfl⟩ := hf
    obtain ⟨hc0, hs0, hs⟩ := hc
    have hw := (show WkX X ∧ SqW X h _ _ from ⟨hp.1.1, (hp.sq hs).1⟩).1
    have hz := (show WkX X ∧ SqW X h _ _ from ⟨hp.1.1, (hp.sq hs).1⟩).2
    try dsimp only at hz
    subst hc0
    exact J.lsize hw hz.2.1 hd hG hR hs0 (kk h hp)
  · cases hf
def qSzP (j : Nat)  : OPS Cv := .inr (fun s => match s with
  | (L, .ref a :: st, (ad, A, B, sk, sw, E)) => some (a = sk j 2 ∧ wt8 st = true ∧ SqL E j, L, .int (nI (nP (sw j))) :: st, (ad, A, B, sk, sw, E))
  | _ => none)
theorem q_SzP {M : MD} {pc idx count : Nat} {j : Nat}  (hG : GoodIn lw_all (va_wsF M.y.cls idx RJ2 xSize yJ2_size (ws_ yJ2_size cJ2_size 1 (Option.some .int)))) (hR : 2 ≤ M.lv) (hd : decode M.cc pc = .ok (.invokeinterface idx count, 5)) : JStp CP M pc (pc + 5) (qSzP j ) := by
  intro X R Z k n L st x cnd L' st' x' hf hc kk h hp
  dsimp only at hf
  split at hf
  · rename_i heq
    cases heq
    simp only [Option.some.injEq, Prod.mk.injEq] at hf
    obtain ⟨rfl, rfl, rfl, rfl⟩ := hf
    obtain ⟨hc0, hs0, hs⟩ := hc
    have hw := (show WkX X ∧ SqW X h _ _ from ⟨hp.1.1, (hp.sq hs).1⟩).1
    have hz := (show WkX X ∧ SqW X h _ _ from ⟨hp.1.1, (hp.sq hs).1⟩).2
    try dsimp only at hz
    subst hc0
    exact J.lsize hw hz.2.2.1 hd hG hR hs0 (kk h hp)
  · cases hf
def qDial (j : Nat)  : OPS Cv := .inr (fun s => match s with
  | (L, .int i :: .ref a :: st, (ad, A, B, sk, sw, E)) => some ((a = sk j 1 ∧ wt8 st = true ∧ vp_in i (nC (sw j))) ∧ SqL E j, L, .ref (sk j (20 + i.toNatClampNeg)) :: st, (ad, A, B, sk, sw, E))
  | _ => none)
theorem q_Dial {M : MD} {pc idx count idx2 : Nat} {j : Nat}  (hG : GoodIn lw_all (va_wsF M.y.cls idx RJ2 xGet yJ2_get (ws_ yJ2_get cJ2_get 2 (Option.some (.object "java/lang/Object"))))) (hR : 4 ≤ M.lv) (hd : decode M.cc pc = .ok (.invokeinterface idx count, 5)) (hl : Cond.classLink M.y.cls idx2 RX7 ∈ lw_all) (hd2 : decode M.cc (pc + 5) = .ok (.checkcast idx2, 3)) : JStp CP M pc (pc + 8) (qDial j ) := by
  intro X R Z k n L st x cnd L' st' x' hf hc kk h hp
  dsimp only at hf
  split at hf
  · rename_i heq
    cases heq
    simp only [Option.some.injEq, Prod.mk.injEq] at hf
    obtain ⟨rfl, rfl, rfl, rfl⟩ := hf
    obtain ⟨⟨hc0, hs0, hi⟩, hs⟩ := hc
    have hw := (show WkX X ∧ SqW X h _ _ from ⟨hp.1.1, (hp.sq hs).1⟩).1
    have hz := (show WkX X ∧ SqW X h _ _ from ⟨hp.1.1, (hp.sq hs).1⟩).2
    try dsimp only at hz
    subst hc0
    obtain ⟨i, hii, rfl⟩ := vp_in_of hi (by have := hz.2.1.2.2.2; omega)
    rw [nI_clamp (by have := hz.2.1.2.2.2; omega)] at kk
    obtain ⟨pcc, hdl⟩ := hz.2.2.2.2.1 i hii
    exact J.lget hw hz.2.1 hii hd hG hR hs0 (J.castS hdl rfl hl hd2 (kk h hp))
  · cases hf
def qDF (j : Nat) (f loc : Nat) : OPS Cv := .inr (fun s => match s with
  | (L, .ref a :: st, (ad, A, B, sk, sw, E)) => match L[loc]? with
    | some (some (.int z)) => some ((a = sk j (20 + z.toNatClampNeg) ∧ z.toNatClampNeg < nC (sw j)) ∧ SqL E j, L, .int (sw j (32 + 6 * z.toNatClampNeg + f)) :: st, (ad, A, B, sk, sw, E))
    | _ => none
  | _ => none)
theorem q_DF {M : MD} {pc idx : Nat} {j : Nat} {f loc : Nat} (hf1 : f < 6) (hf2 : f ≠ 2) (hl : Lk M idx (TX7 f)) (hd : decode M.cc pc = .ok (.getfield idx, 3)) : JStp CP M pc (pc + 3) (qDF j f loc) := by
  intro X R Z k n L st x cnd L' st' x' hf hc kk h hp
  dsimp only at hf
  split at hf
  · rename_i heq
    cases heq
    split at hf
    · simp only [Option.some.injEq, Prod.mk.injEq] at hf
      obtain ⟨rfl, rfl, rfl, rfl⟩ := hf
      obtain ⟨⟨hc0, hi⟩, hs⟩ := hc
      have hw := (show WkX X ∧ SqW X h _ _ from ⟨hp.1.1, (hp.sq hs).1⟩).1
      have hz := (show WkX X ∧ SqW X h _ _ from ⟨hp.1.1, (hp.sq hs).1⟩).2
      try dsimp only at hz
      subst hc0
      obtain ⟨pcc, hdl⟩ := hz.2.2.2.2.1 _ hi
      refine J.getfE (f := f) hw clsX7 rfl hdl hf1 ?_ hl hd (kk h hp)
      match f, hf1, hf2 with
      | 0, _, _ => rfl
      | 1, _, _ => rfl
      | 3, _, _ => rfl
      | 4, _, _ => rfl
      | 5, _, _ => rfl
    · cases hf
  · cases hf
def qPL (j : Nat)  : OPS Cv := .inr (fun s => match s with
  | (L, .int i :: .ref a :: st, (ad, A, B, sk, sw, E)) => some ((a = sk j 2 ∧ wt8 st = true ∧ vp_in i (nP (sw j))) ∧ SqL E j, L, .ref (sk j (60 + i.toNatClampNeg)) :: st, (ad, A, B, sk, sw, E))
  | _ => none)
theorem q_PL {M : MD} {pc idx count idx2 idx3 : Nat} {j : Nat}  (hG : GoodIn lw_all (va_wsF M.y.cls idx RJ2 xGet yJ2_get (ws_ yJ2_get cJ2_get 2 (Option.some (.object "java/lang/Object"))))) (hR : 4 ≤ M.lv) (hd : decode M.cc pc = .ok (.invokeinterface idx count, 5)) (hl : Cond.classLink M.y.cls idx2 RX8 ∈ lw_all) (hd2 : decode M.cc (pc + 5) = .ok (.checkcast idx2, 3)) (hl3 : Lk M idx3 (TX8 5)) (hd3 : decode M.cc (pc + 8) = .ok (.getfield idx3, 3)) : JStp CP M pc (pc + 11) (qPL j ) := by
  intro X R Z k n L st x cnd L' st' x' hf hc kk h hp
  dsimp only at hf
  split at hf
  · rename_i heq
    cases heq
    simp only [Option.some.injEq, Prod.mk.injEq] at hf
    obtain ⟨rfl, rfl, rfl, rfl⟩ := hf
    obtain ⟨⟨hc0, hs0, hi⟩, hs⟩ := hc
    have hw := (show WkX X ∧ SqW X h _ _ from ⟨hp.1.1, (hp.sq hs).1⟩).1
    have hz := (show WkX X ∧ SqW X h _ _ from ⟨hp.1.1, (hp.sq hs).1⟩).2
    have hy := (hp.sq hs).2
    try dsimp only at hz hy
    subst hc0
    obtain ⟨i, hii, rfl⟩ := vp_in_of hi (by have := hz.2.2.1.2.2.2; omega)
    rw [nI_clamp (by have := hz.2.2.1.2.2.2; omega)] at kk
    have hpe := hz.2.2.2.2.2 i hii
    exact J.lget hw hz.2.2.1 hii hd hG hR hs0 (J.castS hpe.1 rfl hl hd2 (J.getfE (f := 5) hw clsX8 rfl hpe.1 (by decide) rfl hl3 hd3 (kk h hp)))
  · cases hf
def qLs (j : Nat) (loc : Nat) : OPS Cv := .inr (fun s => match s with
  | (L, .ref a :: st, (ad, A, B, sk, sw, E)) => match L[loc]? with
    | some (some (.int z)) => some ((a = sk j (60 + z.toNatClampNeg) ∧ wt8 st = true ∧ z.toNatClampNeg < nP (sw j)) ∧ SqL E j, L, .int (nI (nL (sw j) z.toNatClampNeg)) :: st, (ad, A, B, sk, sw, E))
    | _ => none
  | _ => none)
theorem q_Ls {M : MD} {pc idx count : Nat} {j : Nat} {loc : Nat} (hG : GoodIn lw_all (va_wsF M.y.cls idx RJ2 xSize yJ2_size (ws_ yJ2_size cJ2_size 1 (Option.some .int)))) (hR : 2 ≤ M.lv) (hd : decode M.cc pc = .ok (.invokeinterface idx count, 5)) : JStp CP M pc (pc + 5) (qLs j loc) := by
  intro X R Z k n L st x cnd L' st' x' hf hc kk h hp
  dsimp only at hf
  split at hf
  · rename_i heq
    cases heq
    split at hf
    · simp only [Option.some.injEq, Prod.mk.injEq] at hf
      obtain ⟨rfl, rfl, rfl, rfl⟩ := hf
      obtain ⟨⟨hc0, hs0, hi⟩, hs⟩ := hc
      have hw := (show WkX X ∧ SqW X h _ _ from ⟨hp.1.1, (hp.sq hs).1⟩).1
      have hz := (show WkX X ∧ SqW X h _ _ from ⟨hp.1.1, (hp.sq hs).1⟩).2
      have hy := (hp.sq hs).2
      try dsimp only at hz hy
      subst hc0
      exact J.lsize hw (hz.2.2.2.2.2 _ hi).2.1 hd hG hR hs0 (kk h hp)
    · cases hf
  · cases hf
def qLg (j : Nat) (loc : Nat) : OPS Cv := .inr (fun s => match s with
  | (L, .int i :: .ref a :: st, (ad, A, B, sk, sw, E)) => match L[loc]? with
    | some (some (.int z)) => some ((a = sk j (60 + z.toNatClampNeg) ∧ wt8 st = true ∧ z.toNatClampNeg < nP (sw j) ∧ vp_in i (nL (sw j) z.toNatClampNeg)) ∧ SqL E j, L, .ref (sk j (80 + 4 * z.toNatClampNeg + i.toNatClampNeg)) :: st, (ad, A, B, sk, sw, E))
    | _ => none
  | _ => none)
theorem q_Lg {M : MD} {pc idx count : Nat} {j : Nat} {loc : Nat} (hG : GoodIn lw_all (va_wsF M.y.cls idx RJ2 xGet yJ2_get (ws_ yJ2_get cJ2_get 2 (Option.some (.object "java/lang/Object"))))) (hR : 4 ≤ M.lv) (hd : decode M.cc pc = .ok (.invokeinterface idx count, 5)) : JStp CP M pc (pc + 5) (qLg j loc) := by
  intro X R Z k n L st x cnd L' st' x' hf hc kk h hp
  dsimp only at hf
  split at hf
  · rename_i heq
    cases heq
    split at hf
    · simp only [Option.some.injEq, Prod.mk.injEq] at hf
      obtain ⟨rfl, rfl, rfl, rfl⟩ := hf
      obtain ⟨⟨hc0, hs0, hi, hj⟩, hs⟩ := hc
      have hw := (show WkX X ∧ SqW X h _ _ from ⟨hp.1.1, (hp.sq hs).1⟩).1
      have hz := (show WkX X ∧ SqW X h _ _ from ⟨hp.1.1, (hp.sq hs).1⟩).2
      have hy := (hp.sq hs).2
      try dsimp only at hz hy
      subst hc0
      obtain ⟨i, hjj, rfl⟩ := vp_in_of hj (by have := (hz.2.2.2.2.2 _ hi).2.1.2.2.2; omega)
      rw [nI_clamp (by have := (hz.2.2.2.2.2 _ hi).2.1.2.2.2; omega)] at kk
      exact J.lget hw (hz.2.2.2.2.2 _ hi).2.1 hjj hd hG hR hs0 (kk h hp)
    · cases hf
  · cases hf
def qCl (j : Nat)  : OPS Cv := .inr (fun s => match s with
  | (L, .int i :: .ref a :: st, (ad, A, B, sk, sw, E)) => some ((a = sk j 4 ∧ vp_in i 8) ∧ SqL E j, L, .ref (sk j (10 + i.toNatClampNeg)) :: st, (ad, A, B, sk, sw, E))
  | _ => none)
theorem q_Cl {M : MD} {pc : Nat} {j : Nat}  (hd : decode M.cc pc = .ok (.aaload, 1)) : JStp CP M pc (pc + 1) (qCl j ) := by
  intro X R Z k n L st x cnd L' st' x' hf hc kk h hp
  dsimp only at hf
  split at hf
  · rename_i heq
    cases heq
    simp only [Option.some.injEq, Prod.mk.injEq] at hf
    obtain ⟨rfl, rfl, rfl, rfl⟩ := hf
    obtain ⟨⟨hc0, hi⟩, hs⟩ := hc
    have hw := (show WkX X ∧ SqW X h _ _ from ⟨hp.1.1, (hp.sq hs).1⟩).1
    have hz := (show WkX X ∧ SqW X h _ _ from ⟨hp.1.1, (hp.sq hs).1⟩).2
    have hy := (hp.sq hs).2
    try dsimp only at hz hy
    subst hc0
    obtain ⟨i, hii, rfl⟩ := vp_in_of hi (by decide)
    rw [nI_clamp (by omega)] at kk
    obtain ⟨⟨g, h1, h2⟩, -⟩ := hy
    refine J.aaldA (t := 8) rfl h1 ((vpI (by omega)).mpr hii) hd ?_
    rw [nI_clamp (by omega), h2 i hii]
    exact kk h hp
  · cases hf
def qCe (j : Nat) (loc : Nat) : OPS Cv := .inr (fun s => match s with
  | (L, .int i :: .ref a :: st, (ad, A, B, sk, sw, E)) => match L[loc]? with
    | some (some (.int z)) => some ((a = sk j (10 + z.toNatClampNeg) ∧ z.toNatClampNeg < nP (sw j) ∧ vp_in i (spanW (sw j)) ∧ spanW (sw j) ≤ 40) ∧ SqL E j, L, .int (cellI (spotF (sw j) z.toNatClampNeg i.toNatClampNeg)) :: st, (ad, A, B, sk, sw, E))
    | _ => none
  | _ => none)
theorem q_Ce {M : MD} {pc : Nat} {j : Nat} {loc : Nat} (hd : decode M.cc pc = .ok (.iaload, 1)) : JStp CP M pc (pc + 1) (qCe j loc) := by
  intro X R Z k n L st x cnd L' st' x' hf hc kk h hp
  dsimp only at hf
  split at hf
  · rename_i heq
    cases heq
    split at hf
    · simp only [Option.some.injEq, Prod.mk.injEq] at hf
      obtain ⟨rfl, rfl, rfl, rfl⟩ := hf
      obtain ⟨⟨hc0, hi, hj, hsp⟩, hs⟩ := hc
      have hw := (show WkX X ∧ SqW X h _ _ from ⟨hp.1.1, (hp.sq hs).1⟩).1
      have hz := (show WkX X ∧ SqW X h _ _ from ⟨hp.1.1, (hp.sq hs).1⟩).2
      have hy := (hp.sq hs).2
      try dsimp only at hz hy
      subst hc0
      obtain ⟨i, hjj, rfl⟩ := vp_in_of hj (by omega)
      rw [nI_clamp (by omega)] at kk
      obtain ⟨-, h2⟩ := hy
      obtain ⟨g, h3, h4⟩ := h2 _ hi
      refine J.iald h3 ((vpI (by omega)).mpr (by omega)) hd ?_
      rw [nI_clamp (by omega), h4 i hjj]
      exact kk h hp
    · cases hf
  · cases hf
