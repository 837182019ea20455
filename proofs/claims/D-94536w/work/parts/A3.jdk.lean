set_option maxRecDepth 100000
/-! ===== Arrays.fill; Integer.bitCount, signum, numberOfTrailingZeros ===== -/
section FillA3
variable {X : Cx} {h : AH} {a N : Nat}
abbrev mJ13_fill : MD := (yJ13_fill, cJ13_fill, 4, (Option.none : Option FieldType), 1, noEH)
abbrev mJ13_fill_2 : MD := (yJ13_fill_2, cJ13_fill_2, 4, (Option.none : Option FieldType), 1, noEH)
/-- Arrays.fill(int[], v) -/
theorem ok_fill {g : Nat → Int32} {v : Int32} (h1 : h a = some (.inl (X.dA 0, N, .inl g))) (hN : N < 100000) : Cg X mJ13_fill 0 0 [.ref a, .int v] h (fun o h' => o = .returned none ∧ ∃ g', (∀ i, i < N → g' i = v) ∧ h' = va_up h a (some (.inl (X.dA 0, N, .inl g')))) := by
  refine E_start (L := [some (.ref a), some (.int v), none, none]) 2 rfl ?_
  refine (blk_c (s_iconst dJ13_fill_0 (v := nI 0) (by decide +kernel)) <| blk_c (s_istore_n dJ13_fill_1 rfl (by decide)) <| blk_c (s_aload_n dJ13_fill_2 rfl) <| blk_nil).go rfl trivial ?_
  refine js_of (J.alen (t := 0) h1 rfl dJ13_fill_3 (of_js ?_))
  refine (blk_c (s_istore_n dJ13_fill_4 rfl (by decide)) <| blk_nil).go rfl trivial ?_
  have e0 : va_up h a (some (.inl (X.dA 0, N, .inl g))) = h := by
    funext x
    rw [up_at]
    split
    · rename_i e; rw [e, h1]
    · rfl
  refine Eq.mp (congrArg (JS PE X mJ13_fill _ _ 0 0 5 [some (.ref a), some (.int v), some (.int (nI 0)), some (.int (nI N))] []) e0) ?_
  refine loop_down (N := N) (I := fun _ => True) (P := fun i => ∀ g', (∀ j, j < i → g' j = v) → JS PE X mJ13_fill (rmOf mJ13_fill.lv 0 0) (ZQ X 0 0 (fun o h' => o = .returned none ∧ ∃ g', (∀ i, i < N → g' i = v) ∧ h' = va_up h a (some (.inl (X.dA 0, N, .inl g'))))) 0 0 5 [some (.ref a), some (.int v), some (.int (nI i)), some (.int (nI N))] [] (va_up h a (some (.inl (X.dA 0, N, .inl g'))))) ?_ ?_ 0 (Nat.zero_le _) trivial g (fun j hj => by omega)
  · intro _ g' hg
    refine (blk_c (s_iload_n dJ13_fill_5 rfl) <| blk_c (s_iload_n dJ13_fill_6 rfl) <| blk_nil).go rfl trivial ?_
    refine j_icmp_ge (tgt := 20) dJ13_fill_7 (by decide) (fun h7 => ?_) (fun h7 => absurd (nI_le (Nat.le_refl _) (by omega)) h7)
    exact e_vret dJ13_fill_20 rfl ⟨rfl, g', hg, rfl⟩
  · intro i hi _ ih g' hg
    refine (blk_c (s_iload_n dJ13_fill_5 rfl) <| blk_c (s_iload_n dJ13_fill_6 rfl) <| blk_nil).go rfl trivial ?_
    refine j_icmp_ge (tgt := 20) dJ13_fill_7 (by decide) (fun h7 => ?_) (fun h7 => ?_)
    · rw [nI_leI (by omega) (by omega)] at h7; omega
    · refine (blk_c (s_aload_n dJ13_fill_10 rfl) <| blk_c (s_iload_n dJ13_fill_11 rfl) <| blk_c (s_iload_n dJ13_fill_12 rfl) <| blk_nil).go rfl trivial ?_
      refine js_of (J.iast (va_up_self _ _ _) ((vpI (by omega)).mpr hi) dJ13_fill_13 (of_js ?_))
      rw [nI_clamp (by omega)]
      have e1 : va_up (va_up h a (some (.inl (X.dA 0, N, .inl g')))) a (some (.inl (X.dA 0, N, .inl (upd g' i v)))) = va_up h a (some (.inl (X.dA 0, N, .inl (upd g' i v)))) := by
        funext x
        rw [up_at, up_at, up_at]
        split <;> rfl
      rw [e1]
      refine (blk_c (s_iinc dJ13_fill_14 (by decide +kernel) (by decide)) <| blk_c (s_goto (tgt := 5) dJ13_fill_17 (by decide)) <| blk_nil : Blk PE mJ13_fill 14 5 [oInc 2 1, .inl (fun s => some s)]).go rfl trivial ?_
      rw [nI_1]
      refine ih trivial (upd g' i v) (fun j hj => ?_)
      show (if j = i then v else g' j) = v
      split
      · rfl
      · exact hg j (by omega)
/-- Arrays.fill(boolean[], v) -/
theorem ok_fill_2 {g : Nat → Int32} {v : Int32} (hv : vp_nar .boolean v = v) (h1 : h a = some (.inl (X.dA 4, N, .inl g))) (hN : N < 100000) : Cg X mJ13_fill_2 0 0 [.ref a, .int v] h (fun o h' => o = .returned none ∧ ∃ g', (∀ i, i < N → g' i = v) ∧ h' = va_up h a (some (.inl (X.dA 4, N, .inl g')))) := by
  refine E_start (L := [some (.ref a), some (.int v), none, none]) 2 rfl ?_
  refine (blk_c (s_iconst dJ13_fill_2_0 (v := nI 0) (by decide +kernel)) <| blk_c (s_istore_n dJ13_fill_2_1 rfl (by decide)) <| blk_c (s_aload_n dJ13_fill_2_2 rfl) <| blk_nil).go rfl trivial ?_
  refine js_of (J.alen (t := 4) h1 rfl dJ13_fill_2_3 (of_js ?_))
  refine (blk_c (s_istore_n dJ13_fill_2_4 rfl (by decide)) <| blk_nil).go rfl trivial ?_
  have e0 : va_up h a (some (.inl (X.dA 4, N, .inl g))) = h := by
    funext x
    rw [up_at]
    split
    · rename_i e; rw [e, h1]
    · rfl
  refine Eq.mp (congrArg (JS PE X mJ13_fill_2 _ _ 0 0 5 [some (.ref a), some (.int v), some (.int (nI 0)), some (.int (nI N))] []) e0) ?_
  refine loop_down (N := N) (I := fun _ => True) (P := fun i => ∀ g', (∀ j, j < i → g' j = v) → JS PE X mJ13_fill_2 (rmOf mJ13_fill_2.lv 0 0) (ZQ X 0 0 (fun o h' => o = .returned none ∧ ∃ g', (∀ i, i < N → g' i = v) ∧ h' = va_up h a (some (.inl (X.dA 4, N, .inl g'))))) 0 0 5 [some (.ref a), some (.int v), some (.int (nI i)), some (.int (nI N))] [] (va_up h a (some (.inl (X.dA 4, N, .inl g'))))) ?_ ?_ 0 (Nat.zero_le _) trivial g (fun j hj => by omega)
  · intro _ g' hg
    refine (blk_c (s_iload_n dJ13_fill_2_5 rfl) <| blk_c (s_iload_n dJ13_fill_2_6 rfl) <| blk_nil).go rfl trivial ?_
    refine j_icmp_ge (tgt := 20) dJ13_fill_2_7 (by decide) (fun h7 => ?_) (fun h7 => absurd (nI_le (Nat.le_refl _) (by omega)) h7)
    exact e_vret dJ13_fill_2_20 rfl ⟨rfl, g', hg, rfl⟩
  · intro i hi _ ih g' hg
    refine (blk_c (s_iload_n dJ13_fill_2_5 rfl) <| blk_c (s_iload_n dJ13_fill_2_6 rfl) <| blk_nil).go rfl trivial ?_
    refine j_icmp_ge (tgt := 20) dJ13_fill_2_7 (by decide) (fun h7 => ?_) (fun h7 => ?_)
    · rw [nI_leI (by omega) (by omega)] at h7; omega
    · refine (blk_c (s_aload_n dJ13_fill_2_10 rfl) <| blk_c (s_iload_n dJ13_fill_2_11 rfl) <| blk_c (s_iload_n dJ13_fill_2_12 rfl) <| blk_nil).go rfl trivial ?_
      refine js_of (J.zast (va_up_self _ _ _) ((vpI (by omega)).mpr hi) dJ13_fill_2_13 (of_js ?_))
      rw [nI_clamp (by omega), hv]
      have e1 : va_up (va_up h a (some (.inl (X.dA 4, N, .inl g')))) a (some (.inl (X.dA 4, N, .inl (upd g' i v)))) = va_up h a (some (.inl (X.dA 4, N, .inl (upd g' i v)))) := by
        funext x
        rw [up_at, up_at, up_at]
        split <;> rfl
      rw [e1]
      refine (blk_c (s_iinc dJ13_fill_2_14 (by decide +kernel) (by decide)) <| blk_c (s_goto (tgt := 5) dJ13_fill_2_17 (by decide)) <| blk_nil : Blk PE mJ13_fill_2 14 5 [oInc 2 1, .inl (fun s => some s)]).go rfl trivial ?_
      rw [nI_1]
      refine ih trivial (upd g' i v) (fun j hj => ?_)
      show (if j = i then v else g' j) = v
      split
      · rfl
      · exact hg j (by omega)
end FillA3
