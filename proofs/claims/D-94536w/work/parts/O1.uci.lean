set_option maxRecDepth 100000
/-! ===== UnseenClock: constructor (printed by gen_o1.py) ===== -/
section SlI
variable {X : Cx} {R : Room} {Z : ZT} {k n pc ob a s : Nat} {h H : AH} {r : List (Nat × va_E)} {e0 : va_E} {f : Nat → Option Nat}
/-- slots[i] = new Slot() -/
theorem g_slot {i : Nat} (hX : WkX X) (hN : NewOK X) (hi : i < 4) (g : Gv ob h H ((a, e0) :: (s, rfA X 6 4 f) :: r)) (b0 : Blk PE mX0_init pc (pc + 2) [oDupR, oC (nI i)]) (hd : decode mX0_init.cc (pc + 2) = .ok (.new 18, 3)) (b1 : Blk PE mX0_init (pc + 5) (pc + 6) [oDupR]) (hd2 : decode mX0_init.cc (pc + 6) = .ok (.invokespecial 37, 3)) (hd3 : decode mX0_init.cc (pc + 9) = .ok (.aastore, 1)) (hf : k + 1 ≤ R.cells ∧ n + 1 ≤ R.slots)
    (kk : ∀ x H', Gv ob h H' ((a, e0) :: (s, rfA X 6 4 (va_up f i (some x))) :: (x, .inr (1, [.null])) :: r) → JS PE X mX0_init R Z (k + 1) (n + 1) (pc + 10) [some (.ref a)] [.ref s, .ref a] H') : JS PE X mX0_init R Z k n pc [some (.ref a)] [.ref s, .ref a] H := by
  refine b0.go rfl trivial ?_
  rintro _ rfl
  refine J.new (C := RX1) (T := TX1) (N := 1) (ty := tyX1) (ci := 1) (fs := [.null]) hN clsX1 rfl q378 q332 q132 (by decide +kernel) hf hd (fun x hx => ?_)
  have g1 := g.new (e := .inr (1, [.null])) hx
  refine (show JS PE X mX0_init R Z _ _ (pc + 5) _ _ _ from ?_) _ rfl
  refine b1.go rfl trivial ?_
  rintro _ rfl
  refine J.callIN (M' := mX1_init) (As := []) (mc := 0) (ms := 0) hX ok_X1_init rfl (fun o h' q => ⟨_, q.1⟩) hd2 q382 q132 nq380 q381 rfl hy_i1 (by decide) ⟨hf.1, hf.2⟩ (Nat.le_of_ble_eq_true rfl) (fun v h' q => ?_)
  obtain ⟨q, rfl⟩ := q
  cases q
  refine J.aastS (t := 6) (N := 4) (r := (RX1, TX1, 1)) rfl (g1.2.1 (s, rfA X 6 4 f) (by simp)) (g1.2.1 (x, .inr (1, [.null])) (by simp)) rfl (vp_in_nI (by omega) (by decide)) hd3 ?_
  rw [nI_clamp (by omega)]
  exact kk x _ ((g1.thd (e1 := rfA X 6 4 (va_up f i (some x)))).perm ((List.Perm.swap _ _ _).cons _)) _ rfl
/-- a new square, as cells -/
theorem SqN.gv {h h' : AH} {q : Nat} {sk : Nat → Nat} (hs : SqN X h h' q sk) : Gv q h h' ((q, spC X 0 sk (fun _ => 0) 0 (fun _ => 0)) :: sqIds.map (fun i => (sk i, spC X 0 sk (fun _ => 0) i (fun _ => 0)))) := by
  obtain ⟨s0, gw, sf, sv⟩ := hs
  have em : (((q, spC X 0 sk (fun _ => 0) 0 (fun _ => 0)) :: sqIds.map (fun i => (sk i, spC X 0 sk (fun _ => 0) i (fun _ => 0)))) : List (Nat × va_E)).map (fun x => x.1) = q :: sqIds.map sk := by
    rw [List.map_cons, List.map_map]; rfl
  have pm : (sqIds.map sk ++ [sk 0]).Perm (q :: sqIds.map sk) := by
    rw [← s0]
    exact List.perm_append_comm
  refine ⟨fun z hz => ?_, fun x hx => ?_, ?_, fun x hx => ?_⟩
  · rw [em] at hz
    exact gw.1 z (fun hm => hz (pm.mem_iff.mp hm))
  · rcases List.mem_cons.mp hx with rfl | hx
    · rw [← s0]; exact sv 0 (by simp) 0
    · obtain ⟨i, hi, rfl⟩ := List.mem_map.mp hx
      exact sv i (List.mem_append.mpr (Or.inl hi)) 0
  · rw [em]; exact pm.nodup_iff.mp gw.2.2
  · rcases List.mem_cons.mp hx with rfl | hx
    · exact Or.inl rfl
    · obtain ⟨i, hi, rfl⟩ := List.mem_map.mp hx
      exact Or.inr (sf i hi)
end SlI
/-- the shapes of a new component -/
def E0c : Nat → Nat := fun j => if j = 1 then 16 else 0
def A0c : Nat → Nat → Int32 := fun k j => if k = 0 ∧ j = 11 then -1 else 0
/-- the numbers that a new component has -/
abbrev ids0 : List Nat := [0, 7, 6, 5, 8, 4, 3] ++ (crIds ++ [2] ++ [1, 13, 12, 11, 10])
theorem use0 (X : Cx) {k : Nat} (hu : Use E0c k) : k ∈ ids0 := by
  apply Classical.byContradiction
  intro hn
  by_cases h100 : k < 100
  · simp at hn
    have : k = 9 ∨ k = 14 ∨ k = 15 ∨ k = 16 ∨ k = 17 ∨ k = 18 ∨ k = 19 ∨ k = 20 ∨ k = 21 ∨ k = 22 ∨ k = 23 ∨ k = 24 ∨ k = 25 ∨ k = 26 ∨ k = 27 ∨ k = 28 ∨ k = 29 ∨ k = 42 ∨ k = 43 ∨ k = 44 ∨ k = 45 ∨ k = 46 ∨ k = 47 ∨ k = 48 ∨ k = 49 ∨ k = 58 ∨ k = 59 ∨ k = 68 ∨ k = 69 ∨ k = 78 ∨ k = 79 ∨ k = 80 ∨ k = 81 ∨ k = 82 ∨ k = 83 ∨ k = 84 ∨ k = 85 ∨ k = 86 ∨ k = 87 ∨ k = 88 ∨ k = 89 ∨ k = 90 ∨ k = 91 ∨ k = 92 ∨ k = 93 ∨ k = 94 ∨ k = 95 ∨ k = 96 ∨ k = 97 ∨ k = 98 ∨ k = 99 := by omega
    rcases this with rfl | rfl | rfl | rfl | rfl | rfl | rfl | rfl | rfl | rfl | rfl | rfl | rfl | rfl | rfl | rfl | rfl | rfl | rfl | rfl | rfl | rfl | rfl | rfl | rfl | rfl | rfl | rfl | rfl | rfl | rfl | rfl | rfl | rfl | rfl | rfl | rfl | rfl | rfl | rfl | rfl | rfl | rfl | rfl | rfl | rfl | rfl | rfl | rfl | rfl | rfl <;> exact absurd (show false = true from hu X (fun _ => 0) (fun _ _ => 0) (fun _ => 0) (fun _ => 0)) Bool.false_ne_true
  · have := hu X (fun _ => 0) (fun _ _ => 0) (fun _ => 0) (fun _ => 0)
    have a1 : arrK E0c k = none := by
      unfold arrK
      simp only [show ¬ k < 50 by omega, show ¬ k < 58 by omega, show ¬ k < 60 by omega, show ¬ k < 68 by omega, show ¬ k < 70 by omega, show ¬ k < 78 by omega, show ¬ k < 100 by omega, if_false]
      simp [E0c]
    unfold celK celO at this
    rw [a1] at this
    simp [show ¬ k < 50 by omega, E0c] at this
section CpN
variable {X : Cx} {h H : AH} {w0 : Nat → Int32} {a b7 t6 i5 e8 l4 c3 p2 q s1 x0 x1 x2 x3 : Nat} {sk0 cr : Nat → Nat}
/-- the cells of a new component, without its square's -/
abbrev nwAa (X : Cx) (cr : Nat → Nat) (a b7 t6 i5 e8 l4 c3 q s1 p2 : Nat) : List (Nat × va_E) := [(a, .inr (0, [.ref s1, .ref q, .ref p2, .int 0, .ref c3, .ref l4, .int 0, .ref i5, .ref t6, .int 0, .int 0, .int (-1), .ref b7])), (b7, .inl (X.dA 4, 128, .inl (fun _ => 0))), (t6, .inl (X.dA 2, 2400, .inl (fun _ => 0))), (i5, rfA X 7 3 (fun _ => none)), (e8, rfA X 5 16 (fun _ => none)), (l4, .inr (9, [.int 0, .ref e8, .int 0])), (c3, .inr (3, [.ref (cr 30), .ref (cr 31), .ref (cr 32), .ref (cr 33), .ref (cr 34), .ref (cr 35), .ref (cr 36), .ref (cr 37), .ref (cr 38), .ref (cr 39), .ref (cr 40), .ref (cr 41), .null, .int 0, .int 0, .int 0, .int 0, .long 0]))]
abbrev nwBb (X : Cx) (s1 x0 x1 x2 x3 : Nat) : List (Nat × va_E) := [(s1, rfA X 6 4 (va_up (va_up (va_up (va_up (fun _ => none) 0 (some x0)) 1 (some x1)) 2 (some x2)) 3 (some x3))), (x3, .inr (1, [.null])), (x2, .inr (1, [.null])), (x1, .inr (1, [.null])), (x0, .inr (1, [.null]))]
abbrev nwSs (X : Cx) (q : Nat) (sk0 : Nat → Nat) : List (Nat × va_E) := (q, spC X 0 sk0 (fun _ => 0) 0 (fun _ => 0)) :: sqIds.map (fun i => (sk0 i, spC X 0 sk0 (fun _ => 0) i (fun _ => 0)))
theorem cp_new (hX : WkX X) (hN : NewOK X) (hw : Zero w0) (hs0 : sk0 0 = q) (g : Gv a h H (nwAa X cr a b7 t6 i5 e8 l4 c3 q s1 p2 ++ (crIds.map (fun i => (cr i, crC X cr i)) ++ ((p2, .inl (X.dA 0, 4, .inl (fun _ => 0))) :: (nwSs X q sk0 ++ nwBb X s1 x0 x1 x2 x3))))) : ∃ ad sk, ad 0 = a ∧ CP X (ad, A0c, fun _ _ => 0, sk, fun _ => w0, E0c) H := by
  obtain ⟨ad, had⟩ : ∃ ad : Nat → Nat, ad = fun k => if k < 30 then (match k with | 0 => a | 1 => s1 | 2 => p2 | 3 => c3 | 4 => l4 | 5 => i5 | 6 => t6 | 7 => b7 | 8 => e8 | 10 => x0 | 11 => x1 | 12 => x2 | 13 => x3 | _ => 0) else cr k := ⟨_, rfl⟩
  have lo : ad 0 = a ∧ ad 1 = s1 ∧ ad 2 = p2 ∧ ad 3 = c3 ∧ ad 4 = l4 ∧ ad 5 = i5 ∧ ad 6 = t6 ∧ ad 7 = b7 ∧ ad 8 = e8 ∧ ad 10 = x0 ∧ ad 11 = x1 ∧ ad 12 = x2 ∧ ad 13 = x3 := by rw [had]; exact ⟨rfl, rfl, rfl, rfl, rfl, rfl, rfl, rfl, rfl, rfl, rfl, rfl, rfl⟩
  have hi : ∀ k, 30 ≤ k → ad k = cr k := fun k hk => by rw [had]; exact if_neg (by omega)
  clear had
  obtain ⟨rfl, rfl, rfl, rfl, rfl, rfl, rfl, rfl, rfl, rfl, rfl, rfl, rfl⟩ := lo
  have hcm : ∀ i, i ∈ crIds → 30 ≤ i := fun i hi => by simp at hi; omega
  have pm : (nwAa X cr (ad 0) (ad 7) (ad 6) (ad 5) (ad 8) (ad 4) (ad 3) q (ad 1) (ad 2) ++ (crIds.map (fun i => (cr i, crC X cr i)) ++ ((ad 2, (.inl (X.dA 0, 4, .inl (fun _ => 0)) : va_E)) :: (nwSs X q sk0 ++ nwBb X (ad 1) (ad 10) (ad 11) (ad 12) (ad 13))))).Perm ((nwAa X cr (ad 0) (ad 7) (ad 6) (ad 5) (ad 8) (ad 4) (ad 3) q (ad 1) (ad 2) ++ (crIds.map (fun i => (cr i, crC X cr i)) ++ ((ad 2, (.inl (X.dA 0, 4, .inl (fun _ => 0)) : va_E)) :: nwBb X (ad 1) (ad 10) (ad 11) (ad 12) (ad 13)))) ++ nwSs X q sk0) := by
    rw [List.append_assoc, List.append_assoc]
    refine List.Perm.append_left _ (List.Perm.append_left _ ?_)
    rw [List.cons_append]
    exact List.Perm.cons _ (List.perm_append_comm (l₁ := nwSs X q sk0) (l₂ := nwBb X (ad 1) (ad 10) (ad 11) (ad 12) (ad 13)))
  have g2 := g.perm pm
  have em : (nwAa X cr (ad 0) (ad 7) (ad 6) (ad 5) (ad 8) (ad 4) (ad 3) q (ad 1) (ad 2) ++ (crIds.map (fun i => (cr i, crC X cr i)) ++ ((ad 2, (.inl (X.dA 0, 4, .inl (fun _ => 0)) : va_E)) :: nwBb X (ad 1) (ad 10) (ad 11) (ad 12) (ad 13)))).map (fun x => x.1) = ids0.map ad := by
    rw [List.map_append, List.map_append, List.map_map, List.map_append, List.map_append, List.map_append]
    have : crIds.map ((fun x : Nat × va_E => x.1) ∘ fun i => (cr i, crC X cr i)) = crIds.map ad := List.map_congr_left (fun i hi' => (hi i (hcm i hi')).symm)
    rw [this]; simp
  have nd := g2.2.2.1
  rw [List.map_append, em, List.nodup_append] at nd
  obtain ⟨nd1, nd2, nd3⟩ := nd
  have es : (nwSs X q sk0).map (fun x => x.1) = q :: sqIds.map sk0 := by rw [List.map_cons, List.map_map]; rfl
  rw [es] at nd2 nd3
  have vA : ∀ x, x ∈ nwAa X cr (ad 0) (ad 7) (ad 6) (ad 5) (ad 8) (ad 4) (ad 3) q (ad 1) (ad 2) → H x.1 = some x.2 := fun x hx => g.2.1 x (List.mem_append.mpr (Or.inl hx))
  have vC : ∀ i, i ∈ crIds → H (cr i) = some (crC X cr i) := fun i hi' => g.2.1 (cr i, crC X cr i) (List.mem_append.mpr (Or.inr (List.mem_append.mpr (Or.inl (List.mem_map.mpr ⟨i, hi', rfl⟩)))))
  have v2 : H (ad 2) = some (.inl (X.dA 0, 4, .inl (fun _ => 0))) := g.2.1 (ad 2, _) (List.mem_append.mpr (Or.inr (List.mem_append.mpr (Or.inr List.mem_cons_self))))
  have vB : ∀ x, x ∈ nwBb X (ad 1) (ad 10) (ad 11) (ad 12) (ad 13) → H x.1 = some x.2 := fun x hx => g.2.1 x (List.mem_append.mpr (Or.inr (List.mem_append.mpr (Or.inr (List.mem_cons_of_mem _ (List.mem_append.mpr (Or.inr hx)))))))
  have vS : ∀ x, x ∈ nwSs X q sk0 → H x.1 = some x.2 := fun x hx => g.2.1 x (List.mem_append.mpr (Or.inr (List.mem_append.mpr (Or.inr (List.mem_cons_of_mem _ (List.mem_append.mpr (Or.inl hx)))))))
  have hA : ∀ k, k ≠ 0 → A0c k = fun _ => 0 := fun k hk => funext fun j => if_neg (fun y => hk y.1)
  have cC : ∀ k, k ∈ crIds → celK X ad (fun _ => va_up sk0 120 (ad 0)) E0c k (fun _ => 0) (fun _ => 0) = some (crC X cr k) := by
    intro k hk
    simp at hk
    have o8 : ∀ t b, 30 ≤ b → some (rfA X t 8 (fun j => if j < 8 then some (ad (b + j)) else none)) = some (rfA X t 8 (fun j => if j < 8 then some (cr (b + j)) else none)) := fun t b hb => congrArg some (congrArg (rfA X t 8) (funext fun j => by rw [hi (b + j) (by omega)]))
    have o4 : ∀ t b, 30 ≤ b → some (rfA X t 4 (fun j => if j < 4 then some (ad (b + j)) else none)) = some (rfA X t 4 (fun j => if j < 4 then some (cr (b + j)) else none)) := fun t b hb => congrArg some (congrArg (rfA X t 4) (funext fun j => by rw [hi (b + j) (by omega)]))
    rcases hk with rfl | rfl | rfl | rfl | rfl | rfl | rfl | rfl | rfl | rfl | rfl | rfl | rfl | rfl | rfl | rfl | rfl | rfl | rfl | rfl | rfl | rfl | rfl | rfl | rfl | rfl | rfl | rfl | rfl | rfl | rfl | rfl | rfl | rfl | rfl | rfl <;> first | rfl | exact o8 8 50 (by decide) | exact o4 8 60 (by decide) | exact o4 8 64 (by decide) | exact o8 9 70 (by decide)
  refine ⟨ad, fun _ => va_up sk0 120 (ad 0), rfl, ⟨hX, hN⟩, fun k e he => ?_, fun k j uk uj y => nd_inj nd1 (use0 X uk) (use0 X uj) y, (fun z => @ite _ (z ∈ ids0.map ad) (Classical.propDecidable _) none (H z)), fun z e he => ?_, fun k uk => ?_, fun j hj => ?_⟩
  · have he : celK X ad (fun _ => va_up sk0 120 (ad 0)) E0c k (A0c k) (fun _ => 0) = some e := he
    show H (ad k) = some e
    have hk := use0 X (use_of he)
    rcases List.mem_append.mp hk with hk | hk
    · simp at hk
      rcases hk with rfl | rfl | rfl | rfl | rfl | rfl | rfl
      · cases he
        have := vA _ (List.mem_of_getElem? (i := 0) rfl)
        rw [← hs0] at this
        exact this
      · rw [hA 7 (by decide)] at he; cases he; exact vA _ (List.mem_of_getElem? (i := 1) rfl)
      · rw [hA 6 (by decide)] at he; cases he; exact vA _ (List.mem_of_getElem? (i := 2) rfl)
      · cases he
        refine (vA _ (List.mem_of_getElem? (i := 3) rfl)).trans (congrArg some (congrArg (rfA X 7 3) (funext fun j => ?_)))
        by_cases h3 : j < 3
        · rw [if_pos h3, if_neg (by unfold E0c; rw [if_neg (by omega)]; decide)]
        · rw [if_neg h3]
      · cases he
        refine (vA _ (List.mem_of_getElem? (i := 4) rfl)).trans (congrArg some (congrArg (rfA X 5 16) (funext fun j => ?_)))
        exact (if_neg (by show ¬ j < 0; omega)).symm
      · rw [hA 4 (by decide)] at he; cases he; exact vA _ (List.mem_of_getElem? (i := 5) rfl)
      · rw [hA 3 (by decide)] at he
        cases he
        have := vA _ (List.mem_of_getElem? (i := 6) rfl)
        rw [← hi 30 (by decide), ← hi 31 (by decide), ← hi 32 (by decide), ← hi 33 (by decide), ← hi 34 (by decide), ← hi 35 (by decide), ← hi 36 (by decide), ← hi 37 (by decide), ← hi 38 (by decide), ← hi 39 (by decide), ← hi 40 (by decide), ← hi 41 (by decide)] at this
        exact this
    · rcases List.mem_append.mp hk with hk | hk
      · rcases List.mem_append.mp hk with hk | hk
        · rw [hA k (by have := hcm k hk; omega), cC k hk] at he
          cases he
          rw [hi k (hcm k hk)]
          exact vC k hk
        · rw [List.mem_singleton.mp hk] at he ⊢
          rw [hA 2 (by decide)] at he
          cases he
          exact v2
      · simp at hk
        rcases hk with rfl | rfl | rfl | rfl | rfl
        · cases he
          refine (vB _ (List.mem_of_getElem? (i := 0) rfl)).trans (congrArg some (congrArg (rfA X 6 4) (funext fun j => ?_)))
          by_cases h4 : j < 4
          · rw [if_pos h4]
            have : j = 0 ∨ j = 1 ∨ j = 2 ∨ j = 3 := by omega
            rcases this with rfl | rfl | rfl | rfl <;> rfl
          · rw [if_neg h4, va_up_ne _ _ (by omega), va_up_ne _ _ (by omega), va_up_ne _ _ (by omega), va_up_ne _ _ (by omega)]
        · cases he; exact vB _ (List.mem_of_getElem? (i := 1) rfl)
        · cases he; exact vB _ (List.mem_of_getElem? (i := 2) rfl)
        · cases he; exact vB _ (List.mem_of_getElem? (i := 3) rfl)
        · cases he; exact vB _ (List.mem_of_getElem? (i := 4) rfl)
  · by_cases y : z ∈ ids0.map ad
    · rw [show (fun z => @ite _ (z ∈ ids0.map ad) (Classical.propDecidable _) none (H z)) z = none from if_pos y] at he; cases he
    · rw [show (fun z => @ite _ (z ∈ ids0.map ad) (Classical.propDecidable _) none (H z)) z = H z from if_neg y] at he; exact he
  · exact if_pos (List.mem_map.mpr ⟨k, use0 X uk, rfl⟩)
  · have hj : SqL E0c j := hj
    have ns : ∀ i, i ∈ sqIds ++ [0] → sk0 i ∉ ids0.map ad := fun i hi' hm => by
      rcases List.mem_append.mp hi' with y | y
      · exact nd3 _ hm _ (List.mem_cons_of_mem _ (List.mem_map.mpr ⟨i, y, rfl⟩)) rfl
      · rw [List.mem_singleton.mp y, hs0] at hm
        exact nd3 _ hm _ List.mem_cons_self rfl
    have sp : ∀ i, i ∈ sqIds ++ [0, 120] → i ∈ sqIds ++ [0] ∨ i = 120 := fun i hi' => by
      rw [show sqIds ++ [0, 120] = (sqIds ++ [0]) ++ [120] from rfl] at hi'
      rcases List.mem_append.mp hi' with y | y
      · exact Or.inl y
      · exact Or.inr (List.mem_singleton.mp y)
    have lt : ∀ i, i ∈ sqIds ++ [0] → (i < 7 ∨ (10 ≤ i ∧ i < 18)) ∧ i ≠ 120 := fun i hi' => by
      rcases List.mem_append.mp hi' with w | w
      · have := (sq_ids w).1; omega
      · rw [List.mem_singleton.mp w]; omega
    refine sqat_of (tp := 0) (S := fun _ _ => 0) (N := fun _ => 0) (fun i ui ni => ?_) (fun i i' ui ui' ne y => ?_) (SR.zero (fun _ _ => rfl) hw) (fun p hp => absurd hp (Nat.not_lt_zero _))
    · have hm := (sp i (u_0 ui)).resolve_right ni
      show @ite _ (va_up sk0 120 (ad 0) i ∈ ids0.map ad) (Classical.propDecidable _) none (H (va_up sk0 120 (ad 0) i)) = _
      rw [va_up_ne _ _ ni, if_neg (ns i hm), spC_120 (lt i hm).1]
      rcases List.mem_append.mp hm with y | y
      · exact vS (sk0 i, spC X 0 sk0 (fun _ => 0) i (fun _ => 0)) (List.mem_cons_of_mem _ (List.mem_map.mpr ⟨i, y, rfl⟩))
      · rw [List.mem_singleton.mp y, hs0]
        exact vS (q, spC X 0 sk0 (fun _ => 0) 0 (fun _ => 0)) List.mem_cons_self
    · have y : va_up sk0 120 (ad 0) i = va_up sk0 120 (ad 0) i' := y
      have a0 : ad 0 ∈ ids0.map ad := List.mem_map.mpr ⟨0, by simp, rfl⟩
      have ndq : ((0 :: sqIds).map sk0).Nodup := by rw [List.map_cons, hs0]; exact nd2
      have inq : ∀ i, i ∈ sqIds ++ [0] → i ∈ 0 :: sqIds := fun i hi' => by
        rcases List.mem_append.mp hi' with w | w
        · exact List.mem_cons_of_mem _ w
        · rw [List.mem_singleton.mp w]; exact List.mem_cons_self
      rcases sp i (u_0 ui) with hm | rfl
      · rcases sp i' (u_0 ui') with hm' | rfl
        · rw [va_up_ne _ _ (lt i hm).2, va_up_ne _ _ (lt i' hm').2] at y
          exact ne (nd_inj ndq (inq i hm) (inq i' hm') y)
        · rw [va_up_ne _ _ (lt i hm).2, va_up_self] at y
          exact ns i hm (by rw [y]; exact a0)
      · rcases sp i' (u_0 ui') with hm' | rfl
        · rw [va_up_self, va_up_ne _ _ (lt i' hm').2] at y
          exact ns i' hm' (by rw [← y]; exact a0)
        · exact ne rfl
end CpN
section UcI
variable {X : Cx} {h : AH} {a : Nat} {w0 : Nat → Int32}
theorem bX0i_0 : Blk PE mX0_init 0 1 [oAL 0] := blk_c (s_aload_n dX0_init_0 rfl) <| blk_nil
theorem bX0i_4 : Blk PE mX0_init 4 6 [oAL 0, oC (nI 4)] := blk_c (s_aload_n dX0_init_4 rfl) <| blk_c (s_iconst dX0_init_5 (by decide +kernel)) <| blk_nil
theorem bX0i_9 : Blk PE mX0_init 9 11 [oDupR, oC (nI 0)] := blk_c (s_dupR dX0_init_9) <| blk_c (s_iconst dX0_init_10 (by decide +kernel)) <| blk_nil
theorem bX0i_14 : Blk PE mX0_init 14 15 [oDupR] := blk_c (s_dupR dX0_init_14) <| blk_nil
theorem bX0i_19 : Blk PE mX0_init 19 21 [oDupR, oC (nI 1)] := blk_c (s_dupR dX0_init_19) <| blk_c (s_iconst dX0_init_20 (by decide +kernel)) <| blk_nil
theorem bX0i_24 : Blk PE mX0_init 24 25 [oDupR] := blk_c (s_dupR dX0_init_24) <| blk_nil
theorem bX0i_29 : Blk PE mX0_init 29 31 [oDupR, oC (nI 2)] := blk_c (s_dupR dX0_init_29) <| blk_c (s_iconst dX0_init_30 (by decide +kernel)) <| blk_nil
theorem bX0i_34 : Blk PE mX0_init 34 35 [oDupR] := blk_c (s_dupR dX0_init_34) <| blk_nil
theorem bX0i_39 : Blk PE mX0_init 39 41 [oDupR, oC (nI 3)] := blk_c (s_dupR dX0_init_39) <| blk_c (s_iconst dX0_init_40 (by decide +kernel)) <| blk_nil
theorem bX0i_44 : Blk PE mX0_init 44 45 [oDupR] := blk_c (s_dupR dX0_init_44) <| blk_nil
theorem bX0i_52 : Blk PE mX0_init 52 53 [oAL 0] := blk_c (s_aload_n dX0_init_52 rfl) <| blk_nil
theorem bX0i_56 : Blk PE mX0_init 56 57 [oDupR] := blk_c (s_dupR dX0_init_56) <| blk_nil
theorem bX0i_63 : Blk PE mX0_init 63 65 [oAL 0, oC (nI 4)] := blk_c (s_aload_n dX0_init_63 rfl) <| blk_c (s_iconst dX0_init_64 (by decide +kernel)) <| blk_nil
theorem bX0i_70 : Blk PE mX0_init 70 71 [oAL 0] := blk_c (s_aload_n dX0_init_70 rfl) <| blk_nil
theorem bX0i_74 : Blk PE mX0_init 74 75 [oDupR] := blk_c (s_dupR dX0_init_74) <| blk_nil
theorem bX0i_81 : Blk PE mX0_init 81 82 [oAL 0] := blk_c (s_aload_n dX0_init_81 rfl) <| blk_nil
theorem bX0i_85 : Blk PE mX0_init 85 88 [oDupR, oC (nI 16)] := blk_c (s_dupR dX0_init_85) <| blk_c (s_bipush dX0_init_86 (by decide +kernel)) <| blk_nil
theorem bX0i_94 : Blk PE mX0_init 94 96 [oAL 0, oC (nI 3)] := blk_c (s_aload_n dX0_init_94 rfl) <| blk_c (s_iconst dX0_init_95 (by decide +kernel)) <| blk_nil
theorem bX0i_102 : Blk PE mX0_init 102 106 [oAL 0, oC (nI 2400)] := blk_c (s_aload_n dX0_init_102 rfl) <| blk_c (s_sipush dX0_init_103 (by decide +kernel)) <| blk_nil
theorem bX0i_111 : Blk PE mX0_init 111 113 [oAL 0, oC (-1)] := blk_c (s_aload_n dX0_init_111 rfl) <| blk_c (s_iconst dX0_init_112 (by decide +kernel)) <| blk_nil
theorem bX0i_116 : Blk PE mX0_init 116 120 [oAL 0, oC (nI 128)] := blk_c (s_aload_n dX0_init_116 rfl) <| blk_c (s_sipush dX0_init_117 (by decide +kernel)) <| blk_nil
abbrev fsU : List Value := [.null, .null, .null, .int 0, .null, .null, .int 0, .null, .null, .int 0, .int 0, .int 0, .null]
theorem hy_i0 : mX0_init.y.cls ≠ "java/lang/invoke/MethodHandle" ∧ mX0_init.y.cls ≠ "java/lang/invoke/VarHandle" ∧ (parseMethodDescriptor mX0_init.y.desc).map (fun d => d.parameters.length) = some 0 := by decide +kernel
theorem ok_X0_init (hX : WkX X) (hN : NewOK X) (h1 : h a = some (.inr (0, fsU))) (hw : Zero w0) : Cg X mX0_init 63 6631 [.ref a] h (fun o h' => o = .returned none ∧ ∃ ad sk, ad 0 = a ∧ CP X (ad, A0c, fun _ _ => 0, sk, fun _ => w0, E0c) h') := by
  refine E_start (L := [some (.ref a)]) 0 rfl ?_
  refine bX0i_0.go rfl trivial ?_
  refine js_of (J.objInit q377 q200 q201 (by decide) (by decide) dX0_init_1 ?_)
  refine of_js ?_
  have g0 : Gv a h h [(a, .inr (0, fsU))] := Gv.one h1
  refine bX0i_4.go rfl trivial ?_
  refine js_of (J.anew (C := "UnseenClock$Slot") (t := 6) (N := 4) hN rfl q378 (fun U hU => (hX U hU).2.2.1.1) (by decide) (by decide) ⟨by show 0 + 1 ≤ 63; omega, by show 0 + 4 ≤ 6631; omega⟩ dX0_init_6 (fun s1 ns1 => ?_))
  have g1 := g0.new (e := rfA X 6 4 (fun _ => none)) ns1
  refine (show JS PE X mX0_init (rmOf mX0_init.lv 63 6631) _ _ _ 9 _ _ _ from ?_) _ rfl
  refine g_slot (i := 0) hX hN (by decide) g1 bX0i_9 dX0_init_11 bX0i_14 dX0_init_15 dX0_init_18 ⟨by show 0 + 1 + 1 ≤ 63; omega, by show 0 + 4 + 1 ≤ 6631; omega⟩ (fun x0 Hs0 gs0 => ?_)
  refine g_slot (i := 1) hX hN (by decide) gs0 bX0i_19 dX0_init_21 bX0i_24 dX0_init_25 dX0_init_28 ⟨by show 0 + 1 + 1 + 1 ≤ 63; omega, by show 0 + 4 + 1 + 1 ≤ 6631; omega⟩ (fun x1 Hs1 gs1 => ?_)
  refine g_slot (i := 2) hX hN (by decide) gs1 bX0i_29 dX0_init_31 bX0i_34 dX0_init_35 dX0_init_38 ⟨by show 0 + 1 + 1 + 1 + 1 ≤ 63; omega, by show 0 + 4 + 1 + 1 + 1 ≤ 6631; omega⟩ (fun x2 Hs2 gs2 => ?_)
  refine g_slot (i := 3) hX hN (by decide) gs2 bX0i_39 dX0_init_41 bX0i_44 dX0_init_45 dX0_init_48 ⟨by show 0 + 1 + 1 + 1 + 1 + 1 ≤ 63; omega, by show 0 + 4 + 1 + 1 + 1 + 1 ≤ 6631; omega⟩ (fun x3 Hs3 gs3 => ?_)
  refine js_of ?_
  refine J.putfF (f := 0) clsX0 rfl (gs3.2.1 _ List.mem_cons_self) (by decide) (Nat.le_of_ble_eq_true rfl) rfl rfl rfl rfl rfl q556 dX0_init_49 ?_
  have g5 := gs3.fld (e1 := .inr (0, fsU.set 0 (.ref s1)))
  refine (show JS PE X mX0_init (rmOf mX0_init.lv 63 6631) _ _ _ 52 _ _ (va_up Hs3 a (some (.inr (0, fsU.set 0 (.ref s1))))) from ?_) _ rfl
  generalize va_up Hs3 a (some (.inr (0, fsU.set 0 (.ref s1)))) = H5 at g5 ⊢
  clear gs0 gs1 gs2 gs3
  refine bX0i_52.go rfl trivial ?_
  refine js_of (J.new (C := RX2) (T := TX2) (N := 9) (ty := tyX2) (ci := 2) (fs := [.null, .null, .null, .null, .int 0, .int 0, .int 0, .int 0, .int 0]) hN clsX2 rfl q389 q390 q133 (by decide +kernel) ⟨by show 0 + 1 + 1 + 1 + 1 + 1 + 1 ≤ 63; omega, by show 0 + 4 + 1 + 1 + 1 + 1 + 9 ≤ 6631; omega⟩ dX0_init_53 (fun q nq => ?_))
  have g6 := g5.new (e := .inr (2, [.null, .null, .null, .null, .int 0, .int 0, .int 0, .int 0, .int 0])) nq
  refine of_js ?_
  refine bX0i_56.go rfl trivial ?_
  refine js_of (J.callIN (M' := mX2_init) (As := []) (mc := 14) (ms := 746) hX (ok_X2_init hX hN (va_up_self _ _ _)) rfl (fun o h' q => ⟨_, q.1⟩) dX0_init_57 q393 q133 nq391 q392 rfl hy_i2 (by decide) ⟨by show 0 + 1 + 1 + 1 + 1 + 1 + 1 + 14 ≤ 63; omega, by show 0 + 4 + 1 + 1 + 1 + 1 + 9 + 746 ≤ 6631; omega⟩ (Nat.le_of_ble_eq_true rfl) (fun v H7 q0 => ?_))
  obtain ⟨q0, skn, hs⟩ := q0
  cases q0
  have g7 := g6.call hs.gv
  refine J.putf (f := 1) clsX0 rfl (g7.2.1 _ List.mem_cons_self) (by decide) (Nat.le_of_ble_eq_true rfl) rfl rfl rfl q557 dX0_init_60 ?_
  have g8 := g7.fld (e1 := .inr (0, (fsU.set 0 (.ref s1)).set 1 (.ref q)))
  refine (show JS PE X mX0_init (rmOf mX0_init.lv 63 6631) _ _ _ 63 _ _ (va_up H7 a (some (.inr (0, (fsU.set 0 (.ref s1)).set 1 (.ref q))))) from ?_) _ rfl
  generalize va_up H7 a (some (.inr (0, (fsU.set 0 (.ref s1)).set 1 (.ref q)))) = H8 at g8 ⊢
  have hs0 := hs.1
  clear g5 g6 g7 hs nq
  refine g_arr (atype := .int) (ty := .int) (f := 2) (t := 0) (N := 4) (a0 := (4, .inl (fun _ => 0))) g8 hN bX0i_63 rfl rfl (fun _ _ z => z) q275 (vc_int 4) (by decide) (by decide) ⟨by show 0 + 1 + 1 + 1 + 1 + 1 + 1 + 14 + 1 ≤ 63; omega, by show 0 + 4 + 1 + 1 + 1 + 1 + 9 + 746 + 4 ≤ 6631; omega⟩ dX0_init_65 clsX0 rfl (by decide) (Nat.le_of_ble_eq_true rfl) rfl rfl rfl rfl q558 dX0_init_67 (fun p2 H9 g9 => ?_)
  refine bX0i_70.go rfl trivial ?_
  refine js_of (J.new (C := RX3) (T := TX3) (N := 18) (ty := tyX3) (ci := 3) (fs := [.null, .null, .null, .null, .null, .null, .null, .null, .null, .null, .null, .null, .null, .int 0, .int 0, .int 0, .int 0, .long 0]) hN clsX3 rfl q474 q475 q137 (by decide +kernel) ⟨by show 0 + 1 + 1 + 1 + 1 + 1 + 1 + 14 + 1 + 1 ≤ 63; omega, by show 0 + 4 + 1 + 1 + 1 + 1 + 9 + 746 + 4 + 18 ≤ 6631; omega⟩ dX0_init_71 (fun c3 nc => ?_))
  have g10 := g9.new (e := .inr (3, [.null, .null, .null, .null, .null, .null, .null, .null, .null, .null, .null, .null, .null, .int 0, .int 0, .int 0, .int 0, .long 0])) nc
  refine of_js ?_
  refine bX0i_74.go rfl trivial ?_
  refine js_of (J.callIN (M' := mX3_init) (As := []) (mc := 36) (ms := 3296) hX (ok_X3_init hX hN (va_up_self _ _ _)) rfl (fun o h' q => ⟨_, q.1⟩) dX0_init_75 q478 q137 nq476 q477 rfl hy_i3 (by decide) ⟨by show 0 + 1 + 1 + 1 + 1 + 1 + 1 + 14 + 1 + 1 + 36 ≤ 63; omega, by show 0 + 4 + 1 + 1 + 1 + 1 + 9 + 746 + 4 + 18 + 3296 ≤ 6631; omega⟩ (Nat.le_of_ble_eq_true rfl) (fun v H11 q0 => ?_))
  obtain ⟨q0, cr, hc⟩ := q0
  cases q0
  have g11 := g10.call hc
  refine J.putfF (f := 4) clsX0 rfl (g11.2.1 _ List.mem_cons_self) (by decide) (Nat.le_of_ble_eq_true rfl) rfl rfl rfl rfl rfl q560 dX0_init_78 ?_
  have g12 := g11.fld (e1 := .inr (0, (((fsU.set 0 (.ref s1)).set 1 (.ref q)).set 2 (.ref p2)).set 4 (.ref c3)))
  refine (show JS PE X mX0_init (rmOf mX0_init.lv 63 6631) _ _ _ 81 _ _ (va_up H11 a (some (.inr (0, (((fsU.set 0 (.ref s1)).set 1 (.ref q)).set 2 (.ref p2)).set 4 (.ref c3))))) from ?_) _ rfl
  generalize va_up H11 a (some (.inr (0, (((fsU.set 0 (.ref s1)).set 1 (.ref q)).set 2 (.ref p2)).set 4 (.ref c3)))) = H12 at g12 ⊢
  clear g8 g9 g10 g11 nc hc
  refine bX0i_81.go rfl trivial ?_
  refine js_of (J.new (C := RJ2) (T := TJ2) (N := 3) (ty := tyJ2) (ci := 9) (fs := [.int 0, .null, .int 0]) hN clsJ2 rfl q552 q396 q136 (by decide +kernel) ⟨by show 0 + 1 + 1 + 1 + 1 + 1 + 1 + 14 + 1 + 1 + 36 + 1 ≤ 63; omega, by show 0 + 4 + 1 + 1 + 1 + 1 + 9 + 746 + 4 + 18 + 3296 + 3 ≤ 6631; omega⟩ dX0_init_82 (fun l4 nl => ?_))
  have g13 := g12.new (e := .inr (9, [.int 0, .null, .int 0])) nl
  refine of_js ?_
  refine bX0i_85.go rfl trivial ?_
  refine js_of (J.callI (M' := mJ2_init) (As := [.int (nI 16)]) (mc := 1) (ms := 16) (ok_J2_init hX hN (va_up_self _ _ _) (by decide) (by decide)) rfl (fun o h' q => ⟨_, q.1⟩) dX0_init_88 q399 q136 q553 q398 rfl hy_iJ2 (by decide) ⟨by show 0 + 1 + 1 + 1 + 1 + 1 + 1 + 14 + 1 + 1 + 36 + 1 + 1 ≤ 63; omega, by show 0 + 4 + 1 + 1 + 1 + 1 + 9 + 746 + 4 + 18 + 3296 + 3 + 16 ≤ 6631; omega⟩ (Nat.le_of_ble_eq_true rfl) (fun v h' q0 => ?_))
  obtain ⟨q0, e8, n8, rfl⟩ := q0
  cases q0
  have g14 := (g13.new (e := rfA X 5 16 (fun _ => none)) n8).thd (e1 := .inr (9, [.int 0, .ref e8, .int 0]))
  refine J.putfF (f := 5) clsX0 rfl (g14.2.1 _ List.mem_cons_self) (by decide) (Nat.le_of_ble_eq_true rfl) rfl rfl rfl rfl rfl q561 dX0_init_91 ?_
  have g15 := g14.fld (e1 := .inr (0, ((((fsU.set 0 (.ref s1)).set 1 (.ref q)).set 2 (.ref p2)).set 4 (.ref c3)).set 5 (.ref l4)))
  refine (show JS PE X mX0_init (rmOf mX0_init.lv 63 6631) _ _ _ 94 _ _ (va_up (va_up (va_up (va_up H12 l4 (some (.inr (9, [.int 0, .null, .int 0])))) e8 (some (rfA X 5 16 (fun _ => none)))) l4 (some (.inr (9, [.int 0, .ref e8, .int 0])))) a (some (.inr (0, ((((fsU.set 0 (.ref s1)).set 1 (.ref q)).set 2 (.ref p2)).set 4 (.ref c3)).set 5 (.ref l4))))) from ?_) _ rfl
  generalize va_up (va_up (va_up (va_up H12 l4 (some (.inr (9, [.int 0, .null, .int 0])))) e8 (some (rfA X 5 16 (fun _ => none)))) l4 (some (.inr (9, [.int 0, .ref e8, .int 0])))) a (some (.inr (0, ((((fsU.set 0 (.ref s1)).set 1 (.ref q)).set 2 (.ref p2)).set 4 (.ref c3)).set 5 (.ref l4)))) = H15 at g15 ⊢
  clear g12 g13 g14 nl n8
  refine bX0i_94.go rfl trivial ?_
  refine js_of (J.anew (C := "UnseenClock$Image") (t := 7) (N := 3) hN rfl q554 (fun U hU => (hX U hU).2.2.1.2.2) (by decide) (by decide) ⟨by show 0 + 1 + 1 + 1 + 1 + 1 + 1 + 14 + 1 + 1 + 36 + 1 + 1 + 1 ≤ 63; omega, by show 0 + 4 + 1 + 1 + 1 + 1 + 9 + 746 + 4 + 18 + 3296 + 3 + 16 + 3 ≤ 6631; omega⟩ dX0_init_96 (fun i5 n5 => ?_))
  have g16 := g15.new (e := rfA X 7 3 (fun _ => none)) n5
  refine J.putfF (f := 7) clsX0 rfl (g16.2.1 _ List.mem_cons_self) (by decide) (Nat.le_of_ble_eq_true rfl) rfl rfl rfl rfl rfl q563 dX0_init_99 ?_
  have g17 := g16.fld (e1 := .inr (0, (((((fsU.set 0 (.ref s1)).set 1 (.ref q)).set 2 (.ref p2)).set 4 (.ref c3)).set 5 (.ref l4)).set 7 (.ref i5)))
  refine (show JS PE X mX0_init (rmOf mX0_init.lv 63 6631) _ _ _ 102 _ _ (va_up (va_up H15 i5 (some (rfA X 7 3 (fun _ => none)))) a (some (.inr (0, (((((fsU.set 0 (.ref s1)).set 1 (.ref q)).set 2 (.ref p2)).set 4 (.ref c3)).set 5 (.ref l4)).set 7 (.ref i5))))) from ?_) _ rfl
  generalize va_up (va_up H15 i5 (some (rfA X 7 3 (fun _ => none)))) a (some (.inr (0, (((((fsU.set 0 (.ref s1)).set 1 (.ref q)).set 2 (.ref p2)).set 4 (.ref c3)).set 5 (.ref l4)).set 7 (.ref i5)))) = H17 at g17 ⊢
  clear g15 g16 n5
  refine g_arr (atype := .byte) (ty := .byte) (f := 8) (t := 2) (N := 2400) (a0 := (2400, .inl (fun _ => 0))) g17 hN bX0i_102 rfl rfl (fun _ _ z => z) q269 (vc_byte 2400) (by decide) (by decide) ⟨by show 0 + 1 + 1 + 1 + 1 + 1 + 1 + 14 + 1 + 1 + 36 + 1 + 1 + 1 + 1 ≤ 63; omega, by show 0 + 4 + 1 + 1 + 1 + 1 + 9 + 746 + 4 + 18 + 3296 + 3 + 16 + 3 + 2400 ≤ 6631; omega⟩ dX0_init_106 clsX0 rfl (by decide) (Nat.le_of_ble_eq_true rfl) rfl rfl rfl rfl q564 dX0_init_108 (fun t6 H18 g18 => ?_)
  refine bX0i_111.go rfl trivial ?_
  refine js_of (J.putf (f := 11) clsX0 rfl (g18.2.1 _ List.mem_cons_self) (by decide) (Nat.le_of_ble_eq_true rfl) rfl rfl rfl q567 dX0_init_113 ?_)
  have g19 := g18.fld (e1 := .inr (0, (((((((fsU.set 0 (.ref s1)).set 1 (.ref q)).set 2 (.ref p2)).set 4 (.ref c3)).set 5 (.ref l4)).set 7 (.ref i5)).set 8 (.ref t6)).set 11 (.int (-1))))
  refine (show JS PE X mX0_init (rmOf mX0_init.lv 63 6631) _ _ _ 116 _ _ (va_up H18 a (some (.inr (0, (((((((fsU.set 0 (.ref s1)).set 1 (.ref q)).set 2 (.ref p2)).set 4 (.ref c3)).set 5 (.ref l4)).set 7 (.ref i5)).set 8 (.ref t6)).set 11 (.int (-1)))))) from ?_) _ rfl
  generalize va_up H18 a (some (.inr (0, (((((((fsU.set 0 (.ref s1)).set 1 (.ref q)).set 2 (.ref p2)).set 4 (.ref c3)).set 5 (.ref l4)).set 7 (.ref i5)).set 8 (.ref t6)).set 11 (.int (-1))))) = H19 at g19 ⊢
  clear g17 g18
  refine g_arr (atype := .boolean) (ty := .boolean) (f := 12) (t := 4) (N := 128) (a0 := (128, .inl (fun _ => 0))) g19 hN bX0i_116 rfl rfl (fun _ _ z => z) q473 (vc_boolean 128) (by decide) (by decide) ⟨by show 0 + 1 + 1 + 1 + 1 + 1 + 1 + 14 + 1 + 1 + 36 + 1 + 1 + 1 + 1 + 1 ≤ 63; omega, by show 0 + 4 + 1 + 1 + 1 + 1 + 9 + 746 + 4 + 18 + 3296 + 3 + 16 + 3 + 2400 + 128 ≤ 6631; omega⟩ dX0_init_120 clsX0 rfl (by decide) (Nat.le_of_ble_eq_true rfl) rfl rfl rfl rfl q568 dX0_init_122 (fun b7 H20 g20 => ?_)
  refine e_vret dX0_init_125 rfl ⟨rfl, ?_⟩ (by show 0 + 1 + 1 + 1 + 1 + 1 + 1 + 14 + 1 + 1 + 36 + 1 + 1 + 1 + 1 + 1 ≤ 63; omega) (by show 0 + 4 + 1 + 1 + 1 + 1 + 9 + 746 + 4 + 18 + 3296 + 3 + 16 + 3 + 2400 + 128 ≤ 6631; omega)
  exact cp_new (sk0 := skn) (cr := cr) hX hN hw hs0 g20

end UcI
