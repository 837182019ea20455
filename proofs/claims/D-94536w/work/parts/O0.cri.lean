set_option maxRecDepth 100000
/-! ===== what a constructor makes; UnseenClock$Course, UnseenClock$Slot: constructors (printed by gen_o0.py) ===== -/
/-- the cells that differ from before, with what they hold -/
def Gv (o : Nat) (h H : AH) (l : List (Nat × va_E)) : Prop := (∀ z, z ∉ l.map (fun x => x.1) → H z = h z) ∧ (∀ x, x ∈ l → H x.1 = some x.2) ∧ (l.map (fun x => x.1)).Nodup ∧ ∀ x, x ∈ l → x.1 = o ∨ h x.1 = none
section GvA
variable {X : Cx} {h H H' : AH} {l l' r r' : List (Nat × va_E)} {o q a b : Nat} {e e' e0 e1 eb : va_E}
theorem Gv.one (hx : h a = some e) : Gv a h h [(a, e)] := ⟨fun _ _ => rfl, fun y hy => by rw [List.mem_singleton.mp hy]; exact hx, by simp, fun y hy => by rw [List.mem_singleton.mp hy]; exact Or.inl rfl⟩
theorem Gv.fr (g : Gv o h H l) (hq : H q = none) : q ∉ l.map (fun x => x.1) ∧ h q = none := by
  have : q ∉ l.map (fun x => x.1) := fun hm => by
    obtain ⟨x, hx, rfl⟩ := List.mem_map.mp hm
    rw [g.2.1 x hx] at hq; cases hq
  exact ⟨this, by rw [← g.1 q this]; exact hq⟩
theorem Gv.cons (g : Gv o h H l) (hq : H q = none) : Gv o h (va_up H q (some e)) ((q, e) :: l) := by
  have hf := (g.fr hq).1
  refine ⟨fun z hz => ?_, fun y hy => ?_, ?_, fun y hy => ?_⟩
  · rw [List.map_cons, List.mem_cons, not_or] at hz
    rw [va_up_ne _ _ hz.1]; exact g.1 z hz.2
  · rcases List.mem_cons.mp hy with rfl | hy
    · exact va_up_self _ _ _
    · rw [va_up_ne _ _ (fun w => hf (by rw [← w]; exact List.mem_map.mpr ⟨y, hy, rfl⟩))]
      exact g.2.1 y hy
  · rw [List.map_cons, List.nodup_cons]
    exact ⟨hf, g.2.2.1⟩
  · rcases List.mem_cons.mp hy with rfl | hy
    · exact Or.inr (g.fr hq).2
    · exact g.2.2.2 y hy
theorem Gv.perm (g : Gv o h H l) (p : l.Perm l') : Gv o h H l' := by
  have pm := p.map (fun x => x.1)
  exact ⟨fun z hz => g.1 z (fun hm => hz (pm.mem_iff.mp hm)), fun x hx => g.2.1 x (p.mem_iff.mpr hx), pm.nodup_iff.mp g.2.2.1, fun x hx => g.2.2.2 x (p.mem_iff.mpr hx)⟩
theorem Gv.new (g : Gv o h H ((a, e0) :: r)) (hq : H q = none) : Gv o h (va_up H q (some e)) ((a, e0) :: (q, e) :: r) := (g.cons hq).perm (List.Perm.swap _ _ _)
theorem Gv.fld (g : Gv o h H ((a, e0) :: r)) : Gv o h (va_up H a (some e1)) ((a, e1) :: r) := by
  have nd := g.2.2.1
  rw [List.map_cons, List.nodup_cons] at nd
  refine ⟨fun z hz => ?_, fun y hy => ?_, g.2.2.1, fun y hy => ?_⟩
  · rw [va_up_ne _ _ (fun w => hz (by rw [w]; exact List.mem_cons_self))]; exact g.1 z hz
  · rcases List.mem_cons.mp hy with rfl | hy
    · exact va_up_self _ _ _
    · rw [va_up_ne _ _ (fun w => nd.1 (by rw [← show y.1 = (a, e0).1 from w]; exact List.mem_map.mpr ⟨y, hy, rfl⟩))]
      exact g.2.1 y (List.mem_cons_of_mem _ hy)
  · rcases List.mem_cons.mp hy with rfl | hy
    · exact g.2.2.2 (a, e0) List.mem_cons_self
    · exact g.2.2.2 y (List.mem_cons_of_mem _ hy)
/-- the second one -/
theorem Gv.snd (g : Gv o h H ((a, e0) :: (b, eb) :: r)) : Gv o h (va_up H b (some e1)) ((a, e0) :: (b, e1) :: r) := (Gv.fld (g.perm (List.Perm.swap _ _ _))).perm (List.Perm.swap _ _ _)
/-- the third one -/
theorem Gv.thd {c : Nat} {ec : va_E} (g : Gv o h H ((a, e0) :: (b, eb) :: (c, ec) :: r)) : Gv o h (va_up H c (some e1)) ((a, e0) :: (b, eb) :: (c, e1) :: r) := by
  have p : ∀ x : va_E, List.Perm ((a, e0) :: (b, eb) :: (c, x) :: r) ((c, x) :: (a, e0) :: (b, eb) :: r) := fun x => ((List.Perm.swap (c, x) (b, eb) r).cons (a, e0)).trans (List.Perm.swap (c, x) (a, e0) ((b, eb) :: r))
  exact (Gv.fld (g.perm (p ec))).perm (p e1).symm
theorem Gv.mul {t N u : Nat} {q : Nat → Nat} (g : Gv o h H ((a, e0) :: r)) (m : MulQ X H H' t N e u q) : Gv o h H' ((a, e0) :: ((List.range N).map (fun j => (q j, e)) ++ (u, rfA X t N (fun j => if j < N then some (q j) else none)) :: r)) := by
  obtain ⟨⟨m1, m2⟩, ⟨m3, m4⟩, m5, m6, m7⟩ := m
  have key : Gv o h H' (((List.range N).map (fun j => (q j, e)) ++ (u, rfA X t N (fun j => if j < N then some (q j) else none)) :: (a, e0) :: r)) := by
    have mem : ∀ z, z ∈ (List.range N).map q ↔ ∃ j, j < N ∧ q j = z := fun z => by simp [List.mem_map, List.mem_range]
    have em : ((List.range N).map (fun j => (q j, e)) ++ (u, rfA X t N (fun j => if j < N then some (q j) else none)) :: (a, e0) :: r).map (fun x => x.1) = (List.range N).map q ++ (u :: ((a, e0) :: r).map (fun x => x.1)) := by
      rw [List.map_append, List.map_map, List.map_cons]; rfl
    refine ⟨fun z hz => ?_, fun y hy => ?_, ?_, fun y hy => ?_⟩
    · rw [em, List.mem_append, List.mem_cons, not_or, not_or, mem] at hz
      rw [m7 z hz.2.1 (fun j hj y => hz.1 ⟨j, hj, y.symm⟩)]
      exact g.1 z hz.2.2
    · rcases List.mem_append.mp hy with hy | hy
      · obtain ⟨j, hj, rfl⟩ := List.mem_map.mp hy
        exact m6 j (List.mem_range.mp hj)
      · rcases List.mem_cons.mp hy with rfl | hy
        · exact m5
        · have y1 := g.2.1 y hy
          rw [m7 y.1 (fun z => by rw [z, m1] at y1; cases y1) (fun j hj z => by rw [z, m2 j hj] at y1; cases y1)]
          exact y1
    · rw [em, List.nodup_append]
      refine ⟨nd_map N m4, List.nodup_cons.mpr ⟨(g.fr m1).1, g.2.2.1⟩, fun x hx y hy z => ?_⟩
      obtain ⟨j, hj, rfl⟩ := (mem x).mp hx
      rcases List.mem_cons.mp hy with rfl | hy
      · exact m3 j hj z.symm
      · exact (g.fr (m2 j hj)).1 (z ▸ hy)
    · rcases List.mem_append.mp hy with hy | hy
      · obtain ⟨j, hj, rfl⟩ := List.mem_map.mp hy
        exact Or.inr (g.fr (m2 j (List.mem_range.mp hj))).2
      · rcases List.mem_cons.mp hy with rfl | hy
        · exact Or.inr (g.fr m1).2
        · exact g.2.2.2 y hy
  refine key.perm ?_
  have := List.perm_middle (a := (a, e0)) (l₁ := (List.range N).map (fun j => (q j, e)) ++ [(u, rfA X t N (fun j => if j < N then some (q j) else none))]) (l₂ := r)
  simpa using this
/-- what a constructor that is called makes -/
theorem Gv.call (g : Gv o h H ((a, e0) :: (b, eb) :: r)) (g' : Gv b H H' ((b, e1) :: r')) : Gv o h H' ((a, e0) :: (b, e1) :: (r' ++ r)) := by
  have hf : ∀ x, x ∈ r' → H x.1 = none := fun x hx => by
    have n1 := g'.2.2.1
    rw [List.map_cons, List.nodup_cons] at n1
    exact (g'.2.2.2 x (List.mem_cons_of_mem _ hx)).resolve_left (fun w => n1.1 (by rw [show (b, e1).1 = x.1 from w.symm]; exact List.mem_map.mpr ⟨x, hx, rfl⟩))
  have hd : ∀ x, x ∈ r' → ∀ y, y ∈ (a, e0) :: (b, eb) :: r → x.1 ≠ y.1 := fun x hx y hy w => by
    have := hf x hx
    rw [w, g.2.1 y hy] at this; cases this
  have nd := g.2.2.1
  have nd' := g'.2.2.1
  have inb : ∀ y, y ∈ (a, e0) :: r → y.1 ∉ ((b, e1) :: r').map (fun x => x.1) := fun y hy hm => by
    obtain ⟨x, hx, w⟩ := List.mem_map.mp hm
    rcases List.mem_cons.mp hx with rfl | hx
    · rw [List.map_cons, List.nodup_cons, List.map_cons, List.nodup_cons] at nd
      rcases List.mem_cons.mp hy with rfl | hy
      · exact nd.1 (by rw [← w]; exact List.mem_cons_self)
      · exact nd.2.1 (by rw [show (b, eb).1 = y.1 from w]; exact List.mem_map.mpr ⟨y, hy, rfl⟩)
    · exact hd x hx y (by rcases List.mem_cons.mp hy with rfl | hy; exact List.mem_cons_self; exact List.mem_cons_of_mem _ (List.mem_cons_of_mem _ hy)) w
  refine ⟨fun z hz => ?_, fun y hy => ?_, ?_, fun y hy => ?_⟩
  · simp only [List.map_cons, List.map_append, List.mem_cons, List.mem_append, not_or] at hz
    rw [g'.1 z (by simp only [List.map_cons, List.mem_cons, not_or]; exact ⟨hz.2.1, hz.2.2.1⟩)]
    exact g.1 z (by simp only [List.map_cons, List.mem_cons, not_or]; exact ⟨hz.1, hz.2.1, hz.2.2.2⟩)
  · rcases List.mem_cons.mp hy with rfl | hy
    · rw [g'.1 _ (inb _ List.mem_cons_self)]; exact g.2.1 _ List.mem_cons_self
    · rcases List.mem_cons.mp hy with rfl | hy
      · exact g'.2.1 _ List.mem_cons_self
      · rcases List.mem_append.mp hy with hy | hy
        · exact g'.2.1 _ (List.mem_cons_of_mem _ hy)
        · rw [g'.1 _ (inb y (List.mem_cons_of_mem _ hy))]
          exact g.2.1 _ (List.mem_cons_of_mem _ (List.mem_cons_of_mem _ hy))
  · simp only [List.map_cons, List.nodup_cons, List.map_append, List.mem_cons, List.mem_append, not_or] at nd nd' ⊢
    refine ⟨⟨nd.1.1, fun hm => ?_, nd.1.2⟩, ⟨nd'.1, nd.2.1⟩, List.nodup_append.mpr ⟨nd'.2, nd.2.2, fun x hx y hy w => ?_⟩⟩
    · obtain ⟨x, hx, w⟩ := List.mem_map.mp hm
      exact hd x hx (a, e0) List.mem_cons_self w
    · obtain ⟨x', hx', rfl⟩ := List.mem_map.mp hx
      obtain ⟨y', hy', rfl⟩ := List.mem_map.mp hy
      exact hd x' hx' y' (List.mem_cons_of_mem _ (List.mem_cons_of_mem _ hy')) w
  · rcases List.mem_cons.mp hy with rfl | hy
    · exact g.2.2.2 _ List.mem_cons_self
    · rcases List.mem_cons.mp hy with rfl | hy
      · exact g.2.2.2 (b, eb) (List.mem_cons_of_mem _ List.mem_cons_self)
      · rcases List.mem_append.mp hy with hy | hy
        · exact Or.inr (g.fr (hf y hy)).2
        · exact g.2.2.2 y (List.mem_cons_of_mem _ (List.mem_cons_of_mem _ hy))
end GvA
section GvB
variable {X : Cx} {M : MD} {R : Room} {Z : ZT} {k n pc p1 idx a ob f ci Nf : Nat} {h H : AH} {fs : List Value} {r : List (Nat × va_E)} {C : String} {T : u_T} {tyf : Nat → FieldType}
/-- this.f = new T[N] -/
theorem g_arr {t N : Nat} {atype : ArrayType} {ty : FieldType} {a0 : vp_A} (g : Gv ob h H ((a, .inr (ci, fs)) :: r)) (hN : NewOK X) (b0 : Blk PE M pc p1 [oAL 0, oC (nI N)]) (hty : newarray.typeOf atype = ty) (ht : (tysAll X)[t]? = some (X.dA t, ty)) (hra : ∀ U c, va_RA U c ty → U.vm.findClass ("[" ++ ty.toString) = some c) (harr : Cond.arrayClass (newarray.typeOf atype) ∈ lw_all) (ha : ∀ cA : ClassId, vp_cell cA a0 = arrV cA N (fun _ => defaultValue ty)) (hlt : N < 2 ^ 31) (hbytes : N * componentBytes ty ≤ 536870912) (hf : k + 1 ≤ R.cells ∧ n + N ≤ R.slots) (hd : decode M.cc p1 = .ok (.newarray atype, 2)) (hC : ClsOK C T Nf tyf) (hc : vwCl[ci]? = some (C, T, Nf)) (hf1 : f < Nf) (hfs : f < fs.length) (hfin : (T f).2.2.2 = true) (hi : M.y.name = "<init>") (hdecl : (T f).1 = M.y.cls) (hfit : tyf f = .array ty) (hl : Cond.fieldLink M.y.cls idx (T f).1 (T f).2.1 (T f).2.2.1 ∈ lw_all) (hd2 : decode M.cc (p1 + 2) = .ok (.putfield idx, 3))
    (kk : ∀ q H', Gv ob h H' ((a, .inr (ci, fs.set f (.ref q))) :: (q, .inl (X.dA t, a0)) :: r) → JS PE X M R Z (k + 1) (n + N) (p1 + 2 + 3) [some (.ref a)] [] H') : JS PE X M R Z k n pc [some (.ref a)] [] H := by
  refine b0.go rfl trivial ?_
  rintro _ rfl
  refine J.newa hN hty ht hra harr ha hlt hbytes hf hd (fun q hq => ?_)
  have g1 := g.new (e := .inl (X.dA t, a0)) hq
  refine J.putfF hC hc (g1.2.1 _ List.mem_cons_self) hf1 hfs hfin hi hdecl (by rw [hfit]; rfl) (by rw [hfit]; rfl) hl hd2 ?_
  exact kk q _ g1.fld _ rfl
/-- this.f = new T[N][K] -/
theorem g_mul {t t2 N K : Nat} {ty : FieldType} {a0 : vp_A} (g : Gv ob h H ((a, .inr (ci, fs)) :: r)) (hN : NewOK X) (b0 : Blk PE M pc p1 [oAL 0, oC (nI N), oC (nI K)]) (ht : (tysAll X)[t]? = some (X.dA t, .array ty)) (ht2 : (tysAll X)[t2]? = some (X.dA t2, ty)) (hra : ∀ U c, va_RA U c ty → U.vm.findClass ("[" ++ ty.toString) = some c) (hcl : ∃ ix, Cond.classLink M.y.cls ix ("[" ++ (FieldType.array ty).toString) ∈ lw_all ∧ decode M.cc p1 = .ok (.multianewarray ix 2, 4)) (hov : ∀ U, X.G U → (Cond.arrayOver (.array ty)).before #[] U = true) (ha : ∀ cA : ClassId, vp_cell cA a0 = arrV cA K (fun _ => defaultValue ty)) (hfd : fits ty (defaultValue ty) = true) (hv : (defaultValue ty).isDefault = true) (h31 : N < 1000 ∧ K < 1000) (hb : componentBytes ty ≤ 8)
    (hR : k + (1 + N) ≤ R.cells ∧ n + (N + N * K) ≤ R.slots) (hC : ClsOK C T Nf tyf) (hc : vwCl[ci]? = some (C, T, Nf)) (hf1 : f < Nf) (hfs : f < fs.length) (hfin : (T f).2.2.2 = true) (hi : M.y.name = "<init>") (hdecl : (T f).1 = M.y.cls) (hfit : tyf f = .array (.array ty)) (hl : Cond.fieldLink M.y.cls idx (T f).1 (T f).2.1 (T f).2.2.1 ∈ lw_all) (hd2 : decode M.cc (p1 + 4) = .ok (.putfield idx, 3))
    (kk : ∀ (o : Nat) (q : Nat → Nat) (H' : AH), Gv ob h H' ((a, .inr (ci, fs.set f (.ref o))) :: ((List.range N).map (fun j => (q j, (.inl (X.dA t2, a0) : va_E))) ++ (o, rfA X t N (fun j => if j < N then some (q j) else none)) :: r)) → JS PE X M R Z (k + (1 + N)) (n + (N + N * K)) (p1 + 4 + 3) [some (.ref a)] [] H') : JS PE X M R Z k n pc [some (.ref a)] [] H := by
  obtain ⟨ix, hcl, hd⟩ := hcl
  refine b0.go rfl trivial ?_
  rintro _ rfl
  refine J.multi hN ht ht2 hra hcl hov ha hfd hv h31 hb hR hd (fun o q H' m => ?_)
  have g1 := g.mul m
  refine J.putfF hC hc (g1.2.1 _ List.mem_cons_self) hf1 hfs hfin hi hdecl (by rw [hfit]; rfl) (by rw [hfit]; rfl) hl hd2 ?_
  exact kk o q _ g1.fld _ rfl
end GvB
section CrI
variable {X : Cx} {h : AH} {a : Nat}
theorem bX3i_0 : Blk PE mX3_init 0 1 [oAL 0] := blk_c (s_aload_n dX3_init_0 rfl) <| blk_nil
theorem bX3i_4 : Blk PE mX3_init 4 9 [oAL 0, oC (nI 8), oC (nI 40)] := blk_c (s_aload_n dX3_init_4 rfl) <| blk_c (s_bipush dX3_init_5 (by decide +kernel)) <| blk_c (s_bipush dX3_init_7 (by decide +kernel)) <| blk_nil
theorem bX3i_16 : Blk PE mX3_init 16 20 [oAL 0, oC (nI 4), oC (nI 41)] := blk_c (s_aload_n dX3_init_16 rfl) <| blk_c (s_iconst dX3_init_17 (by decide +kernel)) <| blk_c (s_bipush dX3_init_18 (by decide +kernel)) <| blk_nil
theorem bX3i_27 : Blk PE mX3_init 27 31 [oAL 0, oC (nI 4), oC (nI 41)] := blk_c (s_aload_n dX3_init_27 rfl) <| blk_c (s_iconst dX3_init_28 (by decide +kernel)) <| blk_c (s_bipush dX3_init_29 (by decide +kernel)) <| blk_nil
theorem bX3i_38 : Blk PE mX3_init 38 41 [oAL 0, oC (nI 8)] := blk_c (s_aload_n dX3_init_38 rfl) <| blk_c (s_bipush dX3_init_39 (by decide +kernel)) <| blk_nil
theorem bX3i_46 : Blk PE mX3_init 46 49 [oAL 0, oC (nI 8)] := blk_c (s_aload_n dX3_init_46 rfl) <| blk_c (s_bipush dX3_init_47 (by decide +kernel)) <| blk_nil
theorem bX3i_54 : Blk PE mX3_init 54 58 [oAL 0, oC (nI 1280)] := blk_c (s_aload_n dX3_init_54 rfl) <| blk_c (s_sipush dX3_init_55 (by decide +kernel)) <| blk_nil
theorem bX3i_63 : Blk PE mX3_init 63 67 [oAL 0, oC (nI 1280)] := blk_c (s_aload_n dX3_init_63 rfl) <| blk_c (s_sipush dX3_init_64 (by decide +kernel)) <| blk_nil
theorem bX3i_72 : Blk PE mX3_init 72 74 [oAL 0, oC (nI 4)] := blk_c (s_aload_n dX3_init_72 rfl) <| blk_c (s_iconst dX3_init_73 (by decide +kernel)) <| blk_nil
theorem bX3i_79 : Blk PE mX3_init 79 81 [oAL 0, oC (nI 4)] := blk_c (s_aload_n dX3_init_79 rfl) <| blk_c (s_iconst dX3_init_80 (by decide +kernel)) <| blk_nil
theorem bX3i_86 : Blk PE mX3_init 86 88 [oAL 0, oC (nI 4)] := blk_c (s_aload_n dX3_init_86 rfl) <| blk_c (s_iconst dX3_init_87 (by decide +kernel)) <| blk_nil
theorem bX3i_93 : Blk PE mX3_init 93 95 [oAL 0, oC (nI 4)] := blk_c (s_aload_n dX3_init_93 rfl) <| blk_c (s_iconst dX3_init_94 (by decide +kernel)) <| blk_nil
theorem bX3i_100 : Blk PE mX3_init 100 104 [oAL 0, oC (nI 8), oC (nI 4)] := blk_c (s_aload_n dX3_init_100 rfl) <| blk_c (s_bipush dX3_init_101 (by decide +kernel)) <| blk_c (s_iconst dX3_init_103 (by decide +kernel)) <| blk_nil
theorem hy_i3 : mX3_init.y.cls ≠ "java/lang/invoke/MethodHandle" ∧ mX3_init.y.cls ≠ "java/lang/invoke/VarHandle" ∧ (parseMethodDescriptor mX3_init.y.desc).map (fun d => d.parameters.length) = some 0 := by decide +kernel
/-- the numbers of a course -/
abbrev crIds : List Nat := [70, 71, 72, 73, 74, 75, 76, 77, 41, 40, 39, 38, 37, 36, 35, 34, 33, 64, 65, 66, 67, 32, 60, 61, 62, 63, 31, 50, 51, 52, 53, 54, 55, 56, 57, 30]
/-- a cell of a new course -/
def crC (X : Cx) (ad : Nat → Nat) (i : Nat) : va_E := (celK X ad (fun _ _ => 0) (fun _ => 0) i (fun _ => 0) (fun _ => 0)).getD (.inr (0, []))
def CrN (X : Cx) (h h' : AH) (a : Nat) (ad : Nat → Nat) : Prop := Gv a h h' ((a, .inr (3, [.ref (ad 30), .ref (ad 31), .ref (ad 32), .ref (ad 33), .ref (ad 34), .ref (ad 35), .ref (ad 36), .ref (ad 37), .ref (ad 38), .ref (ad 39), .ref (ad 40), .ref (ad 41), .null, .int 0, .int 0, .int 0, .int 0, .long 0])) :: crIds.map (fun i => (ad i, crC X ad i)))
theorem ok_X3_init (hX : WkX X) (hN : NewOK X) (h1 : h a = some (.inr (3, [.null, .null, .null, .null, .null, .null, .null, .null, .null, .null, .null, .null, .null, .int 0, .int 0, .int 0, .int 0, .long 0]))) : Cg X mX3_init 36 3296 [.ref a] h (fun o h' => o = .returned none ∧ ∃ ad, CrN X h h' a ad) := by
  refine E_start (L := [some (.ref a)]) 0 rfl ?_
  refine bX3i_0.go rfl trivial ?_
  refine js_of (J.objInit q479 q200 q201 (by decide) (by decide) dX3_init_1 ?_)
  refine of_js ?_
  have g0 : Gv a h h [(a, .inr (3, [.null, .null, .null, .null, .null, .null, .null, .null, .null, .null, .null, .null, .null, .int 0, .int 0, .int 0, .int 0, .long 0]))] := Gv.one h1
  refine g_mul (ty := .int) (f := 0) (t := 8) (t2 := 0) (N := 8) (K := 40) (a0 := (40, .inl (fun _ => 0))) g0 hN bX3i_4 rfl rfl (fun _ _ z => z) ⟨_, q480, dX3_init_9⟩ (fun U hU => (hX U hU).2.2.2.1) (vc_int 40) rfl rfl (by decide) (by decide) ⟨by show 0 + (1 + 8) ≤ 36; omega, by show 0 + (8 + 8 * 40) ≤ 3296; omega⟩ clsX3 rfl (by decide) (Nat.le_of_ble_eq_true rfl) rfl rfl rfl rfl q483 dX3_init_13 (fun c0 w0 H0 g1 => ?_)
  refine g_mul (ty := .int) (f := 1) (t := 8) (t2 := 0) (N := 4) (K := 41) (a0 := (41, .inl (fun _ => 0))) g1 hN bX3i_16 rfl rfl (fun _ _ z => z) ⟨_, q480, dX3_init_20⟩ (fun U hU => (hX U hU).2.2.2.1) (vc_int 41) rfl rfl (by decide) (by decide) ⟨by show 0 + (1 + 8) + (1 + 4) ≤ 36; omega, by show 0 + (8 + 8 * 40) + (4 + 4 * 41) ≤ 3296; omega⟩ clsX3 rfl (by decide) (Nat.le_of_ble_eq_true rfl) rfl rfl rfl rfl q487 dX3_init_24 (fun c1 w1 H1 g2 => ?_)
  refine g_mul (ty := .int) (f := 2) (t := 8) (t2 := 0) (N := 4) (K := 41) (a0 := (41, .inl (fun _ => 0))) g2 hN bX3i_27 rfl rfl (fun _ _ z => z) ⟨_, q480, dX3_init_31⟩ (fun U hU => (hX U hU).2.2.2.1) (vc_int 41) rfl rfl (by decide) (by decide) ⟨by show 0 + (1 + 8) + (1 + 4) + (1 + 4) ≤ 36; omega, by show 0 + (8 + 8 * 40) + (4 + 4 * 41) + (4 + 4 * 41) ≤ 3296; omega⟩ clsX3 rfl (by decide) (Nat.le_of_ble_eq_true rfl) rfl rfl rfl rfl q491 dX3_init_35 (fun c2 w2 H2 g3 => ?_)
  refine g_arr (atype := .int) (ty := .int) (f := 3) (t := 0) (N := 8) (a0 := (8, .inl (fun _ => 0))) g3 hN bX3i_38 rfl rfl (fun _ _ z => z) q275 (vc_int 8) (by decide) (by decide) ⟨by show 0 + (1 + 8) + (1 + 4) + (1 + 4) + 1 ≤ 36; omega, by show 0 + (8 + 8 * 40) + (4 + 4 * 41) + (4 + 4 * 41) + 8 ≤ 3296; omega⟩ dX3_init_41 clsX3 rfl (by decide) (Nat.le_of_ble_eq_true rfl) rfl rfl rfl rfl q493 dX3_init_43 (fun c3 H3 g4 => ?_)
  refine g_arr (atype := .int) (ty := .int) (f := 4) (t := 0) (N := 8) (a0 := (8, .inl (fun _ => 0))) g4 hN bX3i_46 rfl rfl (fun _ _ z => z) q275 (vc_int 8) (by decide) (by decide) ⟨by show 0 + (1 + 8) + (1 + 4) + (1 + 4) + 1 + 1 ≤ 36; omega, by show 0 + (8 + 8 * 40) + (4 + 4 * 41) + (4 + 4 * 41) + 8 + 8 ≤ 3296; omega⟩ dX3_init_49 clsX3 rfl (by decide) (Nat.le_of_ble_eq_true rfl) rfl rfl rfl rfl q494 dX3_init_51 (fun c4 H4 g5 => ?_)
  refine g_arr (atype := .int) (ty := .int) (f := 5) (t := 0) (N := 1280) (a0 := (1280, .inl (fun _ => 0))) g5 hN bX3i_54 rfl rfl (fun _ _ z => z) q275 (vc_int 1280) (by decide) (by decide) ⟨by show 0 + (1 + 8) + (1 + 4) + (1 + 4) + 1 + 1 + 1 ≤ 36; omega, by show 0 + (8 + 8 * 40) + (4 + 4 * 41) + (4 + 4 * 41) + 8 + 8 + 1280 ≤ 3296; omega⟩ dX3_init_58 clsX3 rfl (by decide) (Nat.le_of_ble_eq_true rfl) rfl rfl rfl rfl q495 dX3_init_60 (fun c5 H5 g6 => ?_)
  refine g_arr (atype := .boolean) (ty := .boolean) (f := 6) (t := 4) (N := 1280) (a0 := (1280, .inl (fun _ => 0))) g6 hN bX3i_63 rfl rfl (fun _ _ z => z) q473 (vc_boolean 1280) (by decide) (by decide) ⟨by show 0 + (1 + 8) + (1 + 4) + (1 + 4) + 1 + 1 + 1 + 1 ≤ 36; omega, by show 0 + (8 + 8 * 40) + (4 + 4 * 41) + (4 + 4 * 41) + 8 + 8 + 1280 + 1280 ≤ 3296; omega⟩ dX3_init_67 clsX3 rfl (by decide) (Nat.le_of_ble_eq_true rfl) rfl rfl rfl rfl q497 dX3_init_69 (fun c6 H6 g7 => ?_)
  refine g_arr (atype := .int) (ty := .int) (f := 7) (t := 0) (N := 4) (a0 := (4, .inl (fun _ => 0))) g7 hN bX3i_72 rfl rfl (fun _ _ z => z) q275 (vc_int 4) (by decide) (by decide) ⟨by show 0 + (1 + 8) + (1 + 4) + (1 + 4) + 1 + 1 + 1 + 1 + 1 ≤ 36; omega, by show 0 + (8 + 8 * 40) + (4 + 4 * 41) + (4 + 4 * 41) + 8 + 8 + 1280 + 1280 + 4 ≤ 3296; omega⟩ dX3_init_74 clsX3 rfl (by decide) (Nat.le_of_ble_eq_true rfl) rfl rfl rfl rfl q498 dX3_init_76 (fun c7 H7 g8 => ?_)
  refine g_arr (atype := .int) (ty := .int) (f := 8) (t := 0) (N := 4) (a0 := (4, .inl (fun _ => 0))) g8 hN bX3i_79 rfl rfl (fun _ _ z => z) q275 (vc_int 4) (by decide) (by decide) ⟨by show 0 + (1 + 8) + (1 + 4) + (1 + 4) + 1 + 1 + 1 + 1 + 1 + 1 ≤ 36; omega, by show 0 + (8 + 8 * 40) + (4 + 4 * 41) + (4 + 4 * 41) + 8 + 8 + 1280 + 1280 + 4 + 4 ≤ 3296; omega⟩ dX3_init_81 clsX3 rfl (by decide) (Nat.le_of_ble_eq_true rfl) rfl rfl rfl rfl q499 dX3_init_83 (fun c8 H8 g9 => ?_)
  refine g_arr (atype := .int) (ty := .int) (f := 9) (t := 0) (N := 4) (a0 := (4, .inl (fun _ => 0))) g9 hN bX3i_86 rfl rfl (fun _ _ z => z) q275 (vc_int 4) (by decide) (by decide) ⟨by show 0 + (1 + 8) + (1 + 4) + (1 + 4) + 1 + 1 + 1 + 1 + 1 + 1 + 1 ≤ 36; omega, by show 0 + (8 + 8 * 40) + (4 + 4 * 41) + (4 + 4 * 41) + 8 + 8 + 1280 + 1280 + 4 + 4 + 4 ≤ 3296; omega⟩ dX3_init_88 clsX3 rfl (by decide) (Nat.le_of_ble_eq_true rfl) rfl rfl rfl rfl q501 dX3_init_90 (fun c9 H9 g10 => ?_)
  refine g_arr (atype := .int) (ty := .int) (f := 10) (t := 0) (N := 4) (a0 := (4, .inl (fun _ => 0))) g10 hN bX3i_93 rfl rfl (fun _ _ z => z) q275 (vc_int 4) (by decide) (by decide) ⟨by show 0 + (1 + 8) + (1 + 4) + (1 + 4) + 1 + 1 + 1 + 1 + 1 + 1 + 1 + 1 ≤ 36; omega, by show 0 + (8 + 8 * 40) + (4 + 4 * 41) + (4 + 4 * 41) + 8 + 8 + 1280 + 1280 + 4 + 4 + 4 + 4 ≤ 3296; omega⟩ dX3_init_95 clsX3 rfl (by decide) (Nat.le_of_ble_eq_true rfl) rfl rfl rfl rfl q502 dX3_init_97 (fun c10 H10 g11 => ?_)
  refine g_mul (ty := .boolean) (f := 11) (t := 9) (t2 := 4) (N := 8) (K := 4) (a0 := (4, .inl (fun _ => 0))) g11 hN bX3i_100 rfl rfl (fun _ _ z => z) ⟨_, q481, dX3_init_104⟩ (fun U hU => (hX U hU).2.2.2.2) (vc_boolean 4) rfl rfl (by decide) (by decide) ⟨by show 0 + (1 + 8) + (1 + 4) + (1 + 4) + 1 + 1 + 1 + 1 + 1 + 1 + 1 + 1 + (1 + 8) ≤ 36; omega, by show 0 + (8 + 8 * 40) + (4 + 4 * 41) + (4 + 4 * 41) + 8 + 8 + 1280 + 1280 + 4 + 4 + 4 + 4 + (8 + 8 * 4) ≤ 3296; omega⟩ clsX3 rfl (by decide) (Nat.le_of_ble_eq_true rfl) rfl rfl rfl rfl q504 dX3_init_108 (fun c11 w11 H11 g12 => ?_)
  refine e_vret dX3_init_111 rfl ⟨rfl, (fun i => if i < 30 then 0 else if i < 42 then (match i with | 30 => c0 | 31 => c1 | 32 => c2 | 33 => c3 | 34 => c4 | 35 => c5 | 36 => c6 | 37 => c7 | 38 => c8 | 39 => c9 | 40 => c10 | _ => c11) else if i < 58 then w0 (i - 50) else if i < 64 then w1 (i - 60) else if i < 68 then w2 (i - 64) else w11 (i - 70)), ?_⟩ (by show 0 + (1 + 8) + (1 + 4) + (1 + 4) + 1 + 1 + 1 + 1 + 1 + 1 + 1 + 1 + (1 + 8) ≤ 36; omega) (by show 0 + (8 + 8 * 40) + (4 + 4 * 41) + (4 + 4 * 41) + 8 + 8 + 1280 + 1280 + 4 + 4 + 4 + 4 + (8 + 8 * 4) ≤ 3296; omega)
  have rw8 : ∀ (t : Nat) (f1 f2 : Nat → Nat), (∀ j, j < 8 → f1 j = f2 j) → rfA X t 8 (fun j => if j < 8 then some (f1 j) else none) = rfA X t 8 (fun j => if j < 8 then some (f2 j) else none) := fun t f1 f2 hf => congrArg (rfA X t 8) (funext fun j => by by_cases hj : j < 8; rw [if_pos hj, if_pos hj, hf j hj]; rw [if_neg hj, if_neg hj])
  have rw4 : ∀ (t : Nat) (f1 f2 : Nat → Nat), (∀ j, j < 4 → f1 j = f2 j) → rfA X t 4 (fun j => if j < 4 then some (f1 j) else none) = rfA X t 4 (fun j => if j < 4 then some (f2 j) else none) := fun t f1 f2 hf => congrArg (rfA X t 4) (funext fun j => by by_cases hj : j < 4; rw [if_pos hj, if_pos hj, hf j hj]; rw [if_neg hj, if_neg hj])
  generalize hcr : (fun i => if i < 30 then 0 else if i < 42 then (match i with | 30 => c0 | 31 => c1 | 32 => c2 | 33 => c3 | 34 => c4 | 35 => c5 | 36 => c6 | 37 => c7 | 38 => c8 | 39 => c9 | 40 => c10 | _ => c11) else if i < 58 then w0 (i - 50) else if i < 64 then w1 (i - 60) else if i < 68 then w2 (i - 64) else w11 (i - 70) : Nat → Nat) = cr
  have v0 : ∀ j, j < 8 → w0 j = cr (50 + j) := fun j hj => by rw [← hcr]; dsimp only; rw [if_neg (by omega), if_neg (by omega), if_pos (by omega), Nat.add_sub_cancel_left]
  have v1 : ∀ j, j < 4 → w1 j = cr (60 + j) := fun j hj => by rw [← hcr]; dsimp only; rw [if_neg (by omega), if_neg (by omega), if_neg (by omega), if_pos (by omega), Nat.add_sub_cancel_left]
  have v2 : ∀ j, j < 4 → w2 j = cr (64 + j) := fun j hj => by rw [← hcr]; dsimp only; rw [if_neg (by omega), if_neg (by omega), if_neg (by omega), if_neg (by omega), if_pos (by omega), Nat.add_sub_cancel_left]
  have v11 : ∀ j, j < 8 → w11 j = cr (70 + j) := fun j hj => by rw [← hcr]; dsimp only; rw [if_neg (by omega), if_neg (by omega), if_neg (by omega), if_neg (by omega), if_neg (by omega), Nat.add_sub_cancel_left]
  rw [rw8 8 w0 (fun j => cr (50 + j)) v0, rw4 8 w1 (fun j => cr (60 + j)) v1, rw4 8 w2 (fun j => cr (64 + j)) v2, rw8 9 w11 (fun j => cr (70 + j)) v11] at g12
  have e8 : ∀ (w : Nat → Nat) (b : Nat) (e : va_E), (∀ j, j < 8 → w j = cr (b + j)) → (List.range 8).map (fun j => (w j, e)) = [(cr (b + 0), e), (cr (b + 1), e), (cr (b + 2), e), (cr (b + 3), e), (cr (b + 4), e), (cr (b + 5), e), (cr (b + 6), e), (cr (b + 7), e)] := fun w b e hw => by
    rw [← hw 0 (by decide), ← hw 1 (by decide), ← hw 2 (by decide), ← hw 3 (by decide), ← hw 4 (by decide), ← hw 5 (by decide), ← hw 6 (by decide), ← hw 7 (by decide)]; rfl
  have e4 : ∀ (w : Nat → Nat) (b : Nat) (e : va_E), (∀ j, j < 4 → w j = cr (b + j)) → (List.range 4).map (fun j => (w j, e)) = [(cr (b + 0), e), (cr (b + 1), e), (cr (b + 2), e), (cr (b + 3), e)] := fun w b e hw => by
    rw [← hw 0 (by decide), ← hw 1 (by decide), ← hw 2 (by decide), ← hw 3 (by decide)]; rfl
  rw [e8 w0 50 _ v0, e4 w1 60 _ v1, e4 w2 64 _ v2, e8 w11 70 _ v11] at g12
  have d : c0 = cr 30 ∧ c1 = cr 31 ∧ c2 = cr 32 ∧ c3 = cr 33 ∧ c4 = cr 34 ∧ c5 = cr 35 ∧ c6 = cr 36 ∧ c7 = cr 37 ∧ c8 = cr 38 ∧ c9 = cr 39 ∧ c10 = cr 40 ∧ c11 = cr 41 := by rw [← hcr]; exact ⟨rfl, rfl, rfl, rfl, rfl, rfl, rfl, rfl, rfl, rfl, rfl, rfl⟩
  obtain ⟨d0, d1, d2, d3, d4, d5, d6, d7, d8, d9, d10, d11⟩ := d
  rw [d0, d1, d2, d3, d4, d5, d6, d7, d8, d9, d10, d11] at g12
  exact g12
theorem hy_i1 : mX1_init.y.cls ≠ "java/lang/invoke/MethodHandle" ∧ mX1_init.y.cls ≠ "java/lang/invoke/VarHandle" ∧ (parseMethodDescriptor mX1_init.y.desc).map (fun d => d.parameters.length) = some 0 := by decide +kernel
theorem bX1i_0 : Blk PE mX1_init 0 1 [oAL 0] := blk_c (s_aload_n dX1_init_0 rfl) <| blk_nil
theorem ok_X1_init : Cg X mX1_init 0 0 [.ref a] h (fun o h' => o = .returned none ∧ h' = h) := by
  refine E_start (L := [some (.ref a)]) 0 rfl ?_
  refine bX1i_0.go rfl trivial ?_
  refine js_of (J.objInit q383 q200 q201 (by decide) (by decide) dX1_init_1 ?_)
  refine of_js ?_
  exact e_vret dX1_init_4 rfl ⟨rfl, rfl⟩
end CrI
