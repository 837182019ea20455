set_option maxRecDepth 100000
/-! ===== ArrayList: its constructor, add where there is room ===== -/
theorem js_of {X : Cx} {M : MD} {R : Room} {Z : ZT} {k n pc : Nat} {L : List (Option Value)} {st : List Value} {h : AH} (kk : J X M R Z pc L st h k n) : JS PE X M R Z k n pc L st h := by
  rintro _ rfl; exact kk
theorem of_js {X : Cx} {M : MD} {R : Room} {Z : ZT} {k n pc : Nat} {L : List (Option Value)} {st : List Value} {h : AH} (kk : JS PE X M R Z k n pc L st h) : J X M R Z pc L st h k n := kk h rfl
section ListA2
variable {X : Cx} {h : AH} {a ed cap sz : Nat} {f : Nat → Nat}
abbrev mJ0_init : MD := (yJ0_init, cJ0_init, 1, (Option.none : Option FieldType), 2, noEH)
abbrev mJ1_init : MD := (yJ1_init, cJ1_init, 1, (Option.none : Option FieldType), 3, noEH)
abbrev mJ2_init : MD := (yJ2_init, cJ2_init, 2, (Option.none : Option FieldType), 4, noEH)
abbrev mJ2_add_2 : MD := (yJ2_add_2, cJ2_add_2, 4, (Option.none : Option FieldType), 6, noEH)
abbrev mJ2_add : MD := (yJ2_add, cJ2_add, 2, (Option.some .boolean), 7, noEH)
theorem gJ2_add_2_J2 : GoodIn lw_all (wsV RJ2 131 RJ2 yJ2_add_2 (ws_ yJ2_add_2 cJ2_add_2 4 (Option.none : Option FieldType))) := lw_V q878 q880 qs19 q136 q881
theorem hy_v0 {y : MethodName} (h1 : y.cls = "java/util/AbstractList" ∨ y.cls = "java/util/AbstractCollection" ∨ y.cls = "java/util/ArrayList") : y.cls ≠ "java/lang/invoke/MethodHandle" ∧ y.cls ≠ "java/lang/invoke/VarHandle" := by
  rcases h1 with h | h | h <;> rw [h] <;> decide
theorem ok_J0_init (a : Nat) (h : AH) : Cg X mJ0_init 0 0 [.ref a] h (PR none h) := by
  refine E_start (L := [some (.ref a)]) 0 rfl ?_
  refine (blk_c (s_aload_n dJ0_init_0 rfl) <| blk_nil).go rfl trivial ?_
  refine js_of ?_
  refine J.objInit q406 q200 q201 (by decide) (by decide) dJ0_init_1 ?_
  exact J.vret dJ0_init_4 rfl (Nat.le_refl _) (Nat.le_refl _) ⟨rfl, rfl⟩
theorem ok_J1_init {fs : List Value} (h1 : h a = some (.inr (9, fs))) (h3 : 0 < fs.length) : Cg X mJ1_init 0 0 [.ref a] h (fun o h' => o = .returned none ∧ h' = va_up h a (some (.inr (9, fs.set 0 (.int 0))))) := by
  refine E_start (L := [some (.ref a)]) 0 rfl ?_
  refine (blk_c (s_aload_n dJ1_init_0 rfl) <| blk_nil).go rfl trivial ?_
  refine js_of ?_
  refine J.callI (M' := mJ0_init) (As := []) (mc := 0) (ms := 0) (ok_J0_init a h) rfl (fun o h' q => ⟨_, q.1⟩) dJ1_init_1 q405 q134 q403 q404 rfl (by decide +kernel) (by decide) ⟨Nat.le_refl _, Nat.le_refl _⟩ (by decide) (fun v h' q => ?_)
  obtain ⟨q1, rfl⟩ := q
  cases q1
  refine (fun (z : JS PE X mJ1_init _ _ 0 0 4 [some (.ref a)] [] _) => z _ rfl) ?_
  refine (blk_c (s_aload_n dJ1_init_4 rfl) <| blk_c (s_iconst dJ1_init_5 (v := 0) (by decide +kernel)) <| blk_nil).go rfl trivial ?_
  refine js_of ?_
  refine J.putf (f := 0) clsJ2 rfl h1 (by decide) h3 rfl rfl rfl q413 dJ1_init_6 ?_
  exact J.vret dJ1_init_9 rfl (Nat.le_refl _) (Nat.le_refl _) ⟨rfl, rfl⟩
/-- new ArrayList<>(cap) -/
theorem ok_J2_init (hX : WkX X) (hN : NewOK X) (h1 : h a = some (.inr (9, [.int 0, .null, .int 0]))) (hc0 : 0 < cap) (hc : cap < 1000) : Cg X mJ2_init 1 cap [.ref a, .int (nI cap)] h (fun o h' => o = .returned none ∧ ∃ ed, h ed = none ∧ h' = va_up (va_up h ed (some (.inl (X.dA 5, cap, .inr (.inr (.inr (.inr (fun _ => none)))))))) a (some (.inr (9, [.int 0, .ref ed, .int 0])))) := by
  refine E_start (L := [some (.ref a), some (.int (nI cap))]) 0 rfl ?_
  refine (blk_c (s_aload_n dJ2_init_0 rfl) <| blk_nil).go rfl trivial ?_
  refine js_of ?_
  refine J.callI (M' := mJ1_init) (As := []) (mc := 0) (ms := 0) (ok_J1_init h1 (by decide)) rfl (fun o h' q => ⟨_, q.1⟩) dJ2_init_1 q402 q135 q400 q401 rfl (by decide +kernel) (by decide) ⟨by show 0 + 0 ≤ 1; omega, by show 0 + 0 ≤ cap; omega⟩ (by decide) (fun v h' q => ?_)
  obtain ⟨q1, rfl⟩ := q
  cases q1
  have e0 : va_up h a (some (.inr (9, List.set [.int 0, .null, .int 0] 0 (.int 0)))) = h := by
    funext x
    rw [up_at]
    split
    · rename_i e; rw [e, h1]; rfl
    · rfl
  rw [e0]
  refine (fun (z : JS PE X mJ2_init (rmOf mJ2_init.lv 1 cap) _ 0 0 4 [some (.ref a), some (.int (nI cap))] [] h) => z _ rfl) ?_
  refine (blk_c (s_iload_n dJ2_init_4 rfl) <| blk_nil).go rfl trivial ?_
  refine j_if_le (tgt := 19) dJ2_init_5 (by decide) (fun h5 => absurd h5 (nI_nle hc0 (by omega))) (fun h5 => ?_)
  refine (blk_c (s_aload_n dJ2_init_8 rfl) <| blk_c (s_iload_n dJ2_init_9 rfl) <| blk_nil).go rfl trivial ?_
  refine js_of ?_
  refine J.anew (C := "java/lang/Object") (t := 5) (N := cap) hN rfl q407 (fun U hU => (hX U hU).2.2.1.2.1) (by omega) (by omega) ⟨by show 0 + 1 ≤ 1; omega, by show 0 + cap ≤ cap; omega⟩ dJ2_init_10 (fun ed hed => ?_)
  have hne : ed ≠ a := fun e => by rw [e, h1] at hed; cases hed
  refine J.putf (f := 1) clsJ2 rfl (by rw [va_up_ne _ _ (fun e => hne e.symm)]; exact h1) (by decide) (by decide) rfl rfl rfl q411 dJ2_init_13 ?_
  refine (fun (z : JS PE X mJ2_init (rmOf mJ2_init.lv 1 cap) _ (0 + 1) (0 + cap) 16 [some (.ref a), some (.int (nI cap))] [] _) => z _ rfl) ?_
  refine (blk_c (s_goto (tgt := 60) dJ2_init_16 (by decide)) <| blk_nil).go rfl trivial ?_
  exact e_vret dJ2_init_60 rfl ⟨rfl, ed, hed, rfl⟩
theorem ok_add_2 (hX : WkX X) (hl : LsAt X h a ed cap sz f) (hs : sz < cap) {b ci : Nat} {vs : List Value} {r : vw_C} (hb : h b = some (.inr (ci, vs))) (hc : vwCl[ci]? = some r) (hca : Cond.castable r.1 "java/lang/Object" ∈ nwL) : Cg X mJ2_add_2 0 0 [.ref a, .ref b, .ref ed, .int (nI sz)] h (fun o h' => o = .returned none ∧ LsAt X h' a ed cap (sz + 1) (va_up f sz b) ∧ ∀ q, q ≠ a → q ≠ ed → h' q = h q) := by
  obtain ⟨⟨m, h1⟩, h2, ⟨g, h3, h4⟩, h5, h6⟩ := id hl
  refine E_start (L := [some (.ref a), some (.ref b), some (.ref ed), some (.int (nI sz))]) 0 rfl ?_
  refine (blk_c (s_iload_n dJ2_add_2_0 rfl) <| blk_c (s_aload_n dJ2_add_2_1 rfl) <| blk_nil).go rfl trivial ?_
  refine js_of ?_
  refine J.alen (t := 5) h3 rfl dJ2_add_2_2 ?_
  refine (fun (z : JS PE X mJ2_add_2 (rmOf mJ2_add_2.lv 0 0) _ 0 0 3 [some (.ref a), some (.ref b), some (.ref ed), some (.int (nI sz))] [.int (nI cap), .int (nI sz)] h) => z _ rfl) ?_
  refine j_icmp_ne (tgt := 11) dJ2_add_2_3 (by decide) (fun h3' => ?_) (fun h3' => absurd ((nI_eq (by omega) (by omega)).mp h3') (by omega))
  refine (blk_c (s_aload_n dJ2_add_2_11 rfl) <| blk_c (s_iload_n dJ2_add_2_12 rfl) <| blk_c (s_aload_n dJ2_add_2_13 rfl) <| blk_nil).go rfl trivial ?_
  refine js_of ?_
  refine J.aast (t := 5) hX rfl h3 hb hc hca ((vpI (by omega)).mpr (by omega)) dJ2_add_2_14 ?_
  rw [nI_clamp (by omega)]
  refine (fun (z : JS PE X mJ2_add_2 (rmOf mJ2_add_2.lv 0 0) _ 0 0 15 [some (.ref a), some (.ref b), some (.ref ed), some (.int (nI sz))] [] _) => z _ rfl) ?_
  refine (blk_c (s_aload_n dJ2_add_2_15 rfl) <| blk_c (s_iload_n dJ2_add_2_16 rfl) <| blk_c (s_iconst dJ2_add_2_17 (v := nI 1) (by decide +kernel)) <| blk_c (s_iadd dJ2_add_2_18) <| blk_nil).go rfl trivial ?_
  rw [nI_add]
  refine js_of ?_
  refine J.putf (f := 2) clsJ2 rfl (by rw [va_up_ne _ _ (fun e => h2 e.symm)]; exact h1) (by decide) (Nat.le_of_ble_eq_true rfl) rfl rfl rfl q412 dJ2_add_2_19 ?_
  refine J.vret dJ2_add_2_22 rfl (Nat.le_refl _) (Nat.le_refl _) ⟨rfl, ⟨⟨m, va_up_self _ _ _⟩, h2, ⟨va_up g sz (some b), ?_, fun i hi => ?_⟩, by omega, h6⟩, fun q hqa hqe => ?_⟩
  · rw [va_up_ne _ _ h2, va_up_self]
  · by_cases e : i = sz
    · subst e; rw [va_up_self, va_up_self]
    · rw [va_up_ne _ _ e, va_up_ne _ _ e]; exact h4 i (by omega)
  · rw [va_up_ne _ _ hqa, va_up_ne _ _ hqe]
theorem hy_add2 : mJ2_add_2.y.cls = RJ2 ∧ mJ2_add_2.y.cls ≠ "java/lang/invoke/MethodHandle" ∧ mJ2_add_2.y.cls ≠ "java/lang/invoke/VarHandle" ∧ (parseMethodDescriptor mJ2_add_2.y.desc).map (fun d => d.parameters.length) = some 3 := by decide +kernel
theorem ok_add (hX : WkX X) (hl : LsAt X h a ed cap sz f) (hs : sz < cap) {b ci : Nat} {vs : List Value} {r : vw_C} (hb : h b = some (.inr (ci, vs))) (hc : vwCl[ci]? = some r) (hca : Cond.castable r.1 "java/lang/Object" ∈ nwL) (hba : b ≠ a) : Cg X mJ2_add 0 0 [.ref a, .ref b] h (fun o h' => o = .returned (some (.int (nI 1))) ∧ LsAt X h' a ed cap (sz + 1) (va_up f sz b) ∧ ∀ q, q ≠ a → q ≠ ed → h' q = h q) := by
  obtain ⟨⟨m, h1⟩, h2, ⟨g, h3, h4⟩, h5, h6⟩ := id hl
  refine E_start (L := [some (.ref a), some (.ref b)]) 0 rfl ?_
  refine (blk_c (s_aload_n dJ2_add_0 rfl) <| blk_c (s_dupR dJ2_add_1) <| blk_nil).go rfl trivial ?_
  refine js_of ?_
  refine J.getfS (f := 0) clsJ2 rfl h1 (by decide) rfl q414 q415 dJ2_add_2 ?_
  refine (fun (z : JS PE X mJ2_add (rmOf mJ2_add.lv 0 0) _ 0 0 5 [some (.ref a), some (.ref b)] [.int m, .ref a] h) => z _ rfl) ?_
  refine (blk_c (s_iconst dJ2_add_5 (v := nI 1) (by decide +kernel)) <| blk_c (s_iadd dJ2_add_6) <| blk_nil).go rfl trivial ?_
  refine js_of ?_
  refine J.putfS (f := 0) clsJ2 rfl h1 (by decide) (Nat.le_of_ble_eq_true rfl) rfl rfl rfl q414 q415 dJ2_add_7 ?_
  generalize hh : va_up h a (some (.inr (9, List.set [.int m, .ref ed, .int (nI sz)] 0 (.int (m + nI 1))))) = h'
  have k1 : h' a = some (.inr (9, [.int (m + nI 1), .ref ed, .int (nI sz)])) := by rw [← hh, va_up_self]; rfl
  have kq : ∀ q, q ≠ a → h' q = h q := fun q hq => by rw [← hh, va_up_ne _ _ hq]
  have hl' : LsAt X h' a ed cap sz f := ⟨⟨_, k1⟩, h2, ⟨g, by rw [kq ed h2]; exact h3, h4⟩, h5, h6⟩
  refine (fun (z : JS PE X mJ2_add (rmOf mJ2_add.lv 0 0) _ 0 0 10 [some (.ref a), some (.ref b)] [] h') => z _ rfl) ?_
  refine (blk_c (s_aload_n dJ2_add_10 rfl) <| blk_c (s_aload_n dJ2_add_11 rfl) <| blk_c (s_aload_n dJ2_add_12 rfl) <| blk_nil).go rfl trivial ?_
  refine js_of ?_
  refine J.getf (f := 1) clsJ2 rfl k1 (by decide) rfl q411 dJ2_add_13 ?_
  refine (fun (z : JS PE X mJ2_add (rmOf mJ2_add.lv 0 0) _ 0 0 16 [some (.ref a), some (.ref b)] [.ref ed, .ref b, .ref a] h') => z _ rfl) ?_
  refine (blk_c (s_aload_n dJ2_add_16 rfl) <| blk_nil).go rfl trivial ?_
  refine js_of ?_
  refine J.getf (f := 2) clsJ2 rfl k1 (by decide) rfl q412 dJ2_add_17 ?_
  refine J.callV (M' := mJ2_add_2) (As := [.ref b, .ref ed, .int (nI sz)]) (mc := 0) (ms := 0) (ok_add_2 hX hl' hs (by rw [kq b hba]; exact hb) hc hca) (fun o h' q => ⟨_, q.1⟩) k1 rfl dJ2_add_20 gJ2_add_2_J2 hy_add2 (by decide) ⟨Nat.le_refl _, Nat.le_refl _⟩ (by decide) (fun v h2' q => ?_)
  obtain ⟨q1, q2, q3⟩ := q
  cases q1
  refine (fun (z : JS PE X mJ2_add (rmOf mJ2_add.lv 0 0) _ 0 0 23 [some (.ref a), some (.ref b)] [] h2') => z _ rfl) ?_
  refine (blk_c (s_iconst dJ2_add_23 (v := nI 1) (by decide +kernel)) <| blk_nil).go rfl trivial ?_
  exact e_zret dJ2_add_24 rfl rfl ⟨rfl, q2, fun q ha he => by rw [q3 q ha he, kq q ha]⟩
end ListA2
