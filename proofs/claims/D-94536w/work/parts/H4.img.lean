set_option maxRecDepth 100000
/-! ===== UnseenClock: image, back ===== -/
section Img0
variable {X : Cx} {M : MD} {R : Room} {Z : ZT} {k n pc idx : Nat} {L : List (Option Value)} {st : List Value} {h : AH} {a : Nat}
/-- an object goes into an array of its own class -/
theorem J.aastS {t N b ci : Nat} {f : Nat → Option Nat} {i : Int32} {vs : List Value} {r : vw_C} (ht : (tysAll X)[t]? = some (X.dA t, .object r.1)) (ha : h a = some (.inl (X.dA t, N, .inr (.inr (.inr (.inr f)))))) (hb : h b = some (.inr (ci, vs))) (hc : vwCl[ci]? = some r) (hi : vp_in i N) (hd : decode M.cc pc = .ok (.aastore, 1)) (kk : J X M R Z (pc + 1) L st (va_up h a (some (.inl (X.dA t, N, .inr (.inr (.inr (.inr (va_up f i.toNatClampNeg (some b))))))))) k n) : J X M R Z pc L (.ref b :: .int i :: .ref a :: st) h k n := by
  intro p e s m args below meth c B rk H locs ls hW hS hL
  obtain ⟨ws, hP, hD, hh⟩ := id hW
  obtain ⟨q0, hq0⟩ := hh a _ ha
  obtain ⟨q1, hq1⟩ := hh b _ hb
  exact va_astq B.1 B.2.1 B.2.2.2.2.2.2.2.1.1 hP hD hS q0 t q1 ci hq0 ht hq1 hc hi hd (fun H1 locs1 hP1 hD1 hS1 => kk p e s m args below meth c B rk H1 locs1 ls (Wd.set hD hh hq0 hP1 hD1) hS1 hL)
/-- new Image() -/
theorem ok_X17_init (hN : NewOK X) (h1 : h a = some (.inr (17, [.null, .null, .int 0]))) : Cg X mX17_init 1 4 [.ref a] h (fun o h' => o = .returned none ∧ ∃ q, h q = none ∧ q ≠ a ∧ h' = va_up (va_up h q (some (.inl (X.dA 0, 4, .inl (fun _ => 0))))) a (some (.inr (17, [.ref q, .null, .int 0])))) := by
  refine E_start (L := [some (.ref a)]) 0 rfl ?_
  refine (blk_c (s_aload_n dX17_init_0 rfl) <| blk_nil).go rfl trivial ?_
  refine js_of ?_
  refine J.objInit q1615 q200 q201 (by decide) (by decide) dX17_init_1 ?_
  refine (fun (z : JS PE X mX17_init (rmOf mX17_init.lv 1 4) _ 0 0 4 [some (.ref a)] [] h) => z _ rfl) ?_
  refine (blk_c (s_aload_n dX17_init_4 rfl) <| blk_c (s_iconst dX17_init_5 (v := nI 4) (by decide +kernel)) <| blk_nil).go rfl trivial ?_
  refine js_of ?_
  refine J.newa (atype := .int) (ty := .int) (t := 0) (N := 4) (a0 := (4, .inl (fun _ => 0))) hN rfl rfl (fun _ _ z => z) q275 (vc_int 4) (by decide) (by decide) ⟨by show 0 + 1 ≤ 1; omega, by show 0 + 4 ≤ 4; omega⟩ dX17_init_6 (fun q hq => ?_)
  have n1 : q ≠ a := fun e => by rw [e, h1] at hq; cases hq
  refine J.putfF (f := 0) clsX17 rfl (by rw [va_up_ne _ _ (fun e => n1 e.symm)]; exact h1) (by decide) (Nat.le_of_ble_eq_true rfl) rfl rfl rfl rfl rfl q1616 dX17_init_8 ?_
  exact J.vret dX17_init_11 rfl (by show 0 + 1 ≤ 1; omega) (by show 0 + 4 ≤ 4; omega) ⟨rfl, q, hq, n1, rfl⟩
theorem hy_i17 : mX17_init.y.cls ≠ "java/lang/invoke/MethodHandle" ∧ mX17_init.y.cls ≠ "java/lang/invoke/VarHandle" ∧ (parseMethodDescriptor mX17_init.y.desc).map (fun d => d.parameters.length) = some 0 := by decide +kernel
end Img0
section Img1
variable {X : Cx} {ad ad' : Nat → Nat} {A A' : Nat → Nat → Int32} {B B' : Nat → Nat → Int64} {sk sk' : Nat → Nat → Nat} {sw : Nat → Nat → Int32} {E E' : Nat → Nat} {h h' : AH} {k i : Nat}
theorem arrK_im (hi : i < 3) (hE : ∀ j, j ≠ 10 + i → E' j = E j) (h2 : k ≠ 21 + i) : arrK E' k = arrK E k := by
  have e0 : E' 0 = E 0 := hE 0 (by omega)
  unfold arrK
  by_cases h50 : k < 50
  · rw [if_pos h50, if_pos h50]
    split <;> first | rfl | (simp (disch := omega) only [hE]; done)
  · rw [if_neg h50, if_neg h50, e0]
theorem celK_im (hi : i < 3) (hE : ∀ j, j ≠ 10 + i → E' j = E j) (hA : ∀ j, j ≠ 18 + i → j ≠ 21 + i → ad' j = ad j) (hs : ∀ j, j ≠ 2 + i → sk' j = sk j) (h1 : k ≠ 5) (h2 : k ≠ 18 + i) (h3 : k ≠ 21 + i) {a : Nat → Int32} {b : Nat → Int64} : celK X ad' sk' E' k a b = celK X ad sk E k a b := by
  have e0 : E' 0 = E 0 := hE 0 (by omega)
  have e1 : E' 1 = E 1 := hE 1 (by omega)
  unfold celK
  rw [arrK_im hi hE h3]
  split
  · rfl
  · unfold celO
    by_cases h50 : k < 50
    · rw [if_pos h50, if_pos h50]
      split <;> first
        | rfl
        | exact absurd rfl h1
        | (simp (disch := omega) only [slO, hlL, imO, hA, hE, hs]; done)
        | (rw [e1, e0]; refine congrArg some (congrArg (rfA X _ _) (funext fun i => ?_)); split <;> first | rfl | (rw [hA _ (by omega) (by omega)]))
        | (refine congrArg some (congrArg (rfA X _ _) (funext fun i => ?_)); split <;> first | rfl | (rw [hA _ (by omega) (by omega)]))
    · rw [if_neg h50, if_neg h50, e0]
      split
      · rename_i z
        rw [hA (k + 1) (by omega) (by omega), hA (k + 2) (by omega) (by omega)]
      · rfl
theorem celK_18 (hi : i < 3) (a : Nat → Int32) (b : Nat → Int64) : celK X ad sk E (18 + i) a b = imO ad sk E i a := by
  match i, hi with
  | 0, _ => rfl
  | 1, _ => rfl
  | 2, _ => rfl
theorem celK_21 (hi : i < 3) (a : Nat → Int32) (b : Nat → Int64) : celK X ad sk E (21 + i) a b = if E (10 + i) = 1 then some (.inl (X.dA 0, 4, .inl a)) else none := by
  have aux : ∀ (P : Prop) [Decidable P], (match (if P then some (4, 0) else none : Option (Nat × Nat)) with
    | some (n, t) => some (.inl (X.dA t, n, .inl a))
    | none => none : Option va_E) = if P then some (.inl (X.dA 0, 4, .inl a)) else none := fun P _ => by
    by_cases z : P
    · rw [if_pos z, if_pos z]
    · rw [if_neg z, if_neg z]
  match i, hi with
  | 0, _ => exact aux (E 10 = 1)
  | 1, _ => exact aux (E 11 = 1)
  | 2, _ => exact aux (E 12 = 1)
theorem use_5 : Use E 5 := fun _ _ _ _ _ => rfl
theorem use_18 (X : Cx) (hi : i < 3) : Use E (18 + i) ↔ E (10 + i) = 1 := by
  constructor
  · intro u
    have := u X (fun _ => 0) (fun _ _ => 0) (fun _ => 0) (fun _ => 0)
    rw [celK_18 hi, imO] at this
    by_cases z : E (10 + i) = 1
    · exact z
    · rw [if_neg z] at this; cases this
  · intro z _ _ _ _ _
    rw [celK_18 hi, imO, if_pos z]; rfl
theorem use_21 (X : Cx) (hi : i < 3) : Use E (21 + i) ↔ E (10 + i) = 1 := by
  constructor
  · intro u
    have := u X (fun _ => 0) (fun _ _ => 0) (fun _ => 0) (fun _ => 0)
    rw [celK_21 hi] at this
    by_cases z : E (10 + i) = 1
    · exact z
    · rw [if_neg z] at this; cases this
  · intro z _ _ _ _ _
    rw [celK_21 hi, if_pos z]; rfl
/-- an image is taken -/
theorem CP.img (hp : CP X (ad, A, B, sk, sw, E) h) (hi : i < 3) {o q : Nat} {g : Nat → Int32} {a3 : Int32} (hoq : (E (10 + i) = 1 ∧ o = ad (18 + i) ∧ q = ad (21 + i)) ∨ (¬ E (10 + i) = 1 ∧ h o = none ∧ h q = none)) (hne : o ≠ q)
    (k5 : h' (ad 5) = some (rfA X 7 3 (fun j => if j < 3 then (if va_up E (10 + i) 1 (10 + j) = 1 then some (va_up ad (18 + i) o (18 + j)) else none) else none)))
    (ko : h' o = some (.inr (17, [.ref q, .ref (sk 0 0), .int a3]))) (kq : h' q = some (.inl (X.dA 0, 4, .inl g))) (kz : ∀ z e, h z = some e → z ≠ ad 5 → z ≠ o → z ≠ q → h' z = some e) :
    CP X (va_up (va_up ad (18 + i) o) (21 + i) q, va_up (upA A (18 + i) 2 a3) (21 + i) g, B, va_up sk (2 + i) (sk 0), va_up sw (2 + i) (sw 0), va_up E (10 + i) 1) h' := by
  have eA : ∀ j, j ≠ 18 + i → j ≠ 21 + i → va_up (va_up ad (18 + i) o) (21 + i) q j = ad j := fun j a b => by rw [va_up_ne _ _ b, va_up_ne _ _ a]
  have a18 : va_up (va_up ad (18 + i) o) (21 + i) q (18 + i) = o := by rw [va_up_ne _ _ (by omega), va_up_self]
  have a21 : va_up (va_up ad (18 + i) o) (21 + i) q (21 + i) = q := va_up_self _ _ _
  have u5 : Use E 5 := use_5
  have n5 : ∀ z, (z = o ∨ z = q) → z ≠ ad 5 := by
    intro z hz e
    obtain ⟨c, hc⟩ := hp.some_ u5
    rcases hoq with ⟨w1, w2, w3⟩ | ⟨w1, w2, w3⟩
    · rcases hz with rfl | rfl
      · exact absurd (hp.2.2.1 _ _ ((use_18 X hi).mpr w1) u5 (w2.symm.trans e)) (by show ¬ 18 + i = 5; omega)
      · exact absurd (hp.2.2.1 _ _ ((use_21 X hi).mpr w1) u5 (w3.symm.trans e)) (by show ¬ 21 + i = 5; omega)
    · rcases hz with rfl | rfl
      · rw [e, hc] at w2; cases w2
      · rw [e, hc] at w3; cases w3
  refine hp.chg (D := fun k => k = 5 ∨ k = 18 + i ∨ k = 21 + i) (fun k dk => ?_) (fun k dk a b => ?_) (fun k dk c hc => ?_) (fun k dk uk => ?_) (fun k j dk dj _ _ z => ?_) (fun z c hc hn => ?_) (fun j hj => ?_)
  · have d1 : k ≠ 18 + i := fun z => dk (Or.inr (Or.inl z))
    have d2 : k ≠ 21 + i := fun z => dk (Or.inr (Or.inr z))
    exact ⟨eA k d1 d2, by rw [va_up_ne _ _ d2, upA_ne d1], rfl⟩
  · exact celK_im hi (fun j hj => va_up_ne _ _ hj) eA (fun j hj => va_up_ne _ _ hj) (fun z => dk (Or.inl z)) (fun z => dk (Or.inr (Or.inl z))) (fun z => dk (Or.inr (Or.inr z)))
  · rcases dk with rfl | rfl | rfl
    · cases hc
      rw [eA 5 (by omega) (by omega), k5]
      refine congrArg some (congrArg (rfA X 7 3) (funext fun j => ?_))
      by_cases z : j < 3
      · rw [if_pos z, if_pos z, va_up_ne _ _ (by omega : 18 + j ≠ 21 + i)]
      · rw [if_neg z, if_neg z]
    · rw [celK_18 hi, imO, if_pos (va_up_self _ _ _), a21, va_up_self] at hc
      cases hc
      rw [a18, ko, va_up_ne _ _ (by omega : 18 + i ≠ 21 + i), upA, va_up_self, va_up_self]
    · rw [celK_21 hi, if_pos (va_up_self _ _ _), va_up_self] at hc
      cases hc
      rw [a21, kq]
  · rcases dk with rfl | rfl | rfl
    · exact Or.inr ⟨5, Or.inl rfl, u5, eA 5 (by omega) (by omega)⟩
    · rw [a18]
      rcases hoq with ⟨w1, w2, w3⟩ | ⟨w1, w2, w3⟩
      · exact Or.inr ⟨18 + i, Or.inr (Or.inl rfl), (use_18 X hi).mpr w1, w2⟩
      · exact Or.inl w2
    · rw [a21]
      rcases hoq with ⟨w1, w2, w3⟩ | ⟨w1, w2, w3⟩
      · exact Or.inr ⟨21 + i, Or.inr (Or.inr rfl), (use_21 X hi).mpr w1, w3⟩
      · exact Or.inl w3
  · rcases dk with rfl | rfl | rfl <;> rcases dj with rfl | rfl | rfl
    · rfl
    · rw [eA 5 (by omega) (by omega), a18] at z; exact absurd z.symm (n5 o (Or.inl rfl))
    · rw [eA 5 (by omega) (by omega), a21] at z; exact absurd z.symm (n5 q (Or.inr rfl))
    · rw [eA 5 (by omega) (by omega), a18] at z; exact absurd z (n5 o (Or.inl rfl))
    · rfl
    · rw [a18, a21] at z; exact absurd z hne
    · rw [eA 5 (by omega) (by omega), a21] at z; exact absurd z (n5 q (Or.inr rfl))
    · rw [a18, a21] at z; exact absurd z.symm hne
    · rfl
  · refine kz z c hc (hn 5 (Or.inl rfl) u5) (fun y => ?_) (fun y => ?_)
    · rcases hoq with ⟨w1, w2, w3⟩ | ⟨w1, w2, w3⟩
      · exact hn (18 + i) (Or.inr (Or.inl rfl)) ((use_18 X hi).mpr w1) (y.trans w2)
      · rw [y, w2] at hc; cases hc
    · rcases hoq with ⟨w1, w2, w3⟩ | ⟨w1, w2, w3⟩
      · exact hn (21 + i) (Or.inr (Or.inr rfl)) ((use_21 X hi).mpr w1) (y.trans w3)
      · rw [y, w3] at hc; cases hc
  · by_cases e2 : j = 2 + i
    · subst e2
      exact ⟨0, Or.inl rfl, va_up_self _ _ _, va_up_self _ _ _⟩
    · refine ⟨j, ?_, va_up_ne _ _ e2, va_up_ne _ _ e2⟩
      rcases hj with q | q | q
      · exact Or.inl q
      · exact Or.inr (Or.inl ⟨q.1, by have := q.2; rw [va_up_ne _ _ (by omega)] at this; exact this⟩)
      · exact Or.inr (Or.inr ⟨q.1, q.2.1, by have := q.2.2; rw [va_up_ne _ _ (by omega)] at this; exact this⟩)
theorem CP.imgAt (hp : CP X (ad, A, B, sk, sw, E) h) (hi : i < 3) (he : E (10 + i) = 1) : h (ad (18 + i)) = some (.inr (17, [.ref (ad (21 + i)), .ref (sk (2 + i) 0), .int (A (18 + i) 2)])) := hp.at (18 + i) (by show celK X ad sk E (18 + i) (A (18 + i)) (B (18 + i)) = _; rw [celK_18 hi, imO, if_pos he])
theorem CP.imgPc (hp : CP X (ad, A, B, sk, sw, E) h) (hi : i < 3) (he : E (10 + i) = 1) : h (ad (21 + i)) = some (.inl (X.dA 0, 4, .inl (A (21 + i)))) := hp.at (21 + i) (by show celK X ad sk E (21 + i) (A (21 + i)) (B (21 + i)) = _; rw [celK_21 hi, if_pos he])
end Img1
section Img2
variable {X : Cx} {R : Room} {Z : ZT} {k n : Nat} {ad : Nat → Nat} {A : Nat → Nat → Int32} {B : Nat → Nat → Int64} {sk : Nat → Nat → Nat} {sw : Nat → Nat → Int32} {E : Nat → Nat} {h : AH} {i : Nat}
theorem bX0_image_0 : Blk CP mX0_image 0 9 [oIL 1, oI2L, oCL (lN 0), oCL (2), oS_JJJ pT3 fIn] := blk_c (s_iload_n dX0_image_0 rfl) <| blk_c (s_i2l dX0_image_1) <| blk_c (s_lconst dX0_image_2 (by decide +kernel)) <| blk_c (s_ldc2 dX0_image_3 q1320) <| blk_c (s_S_JJJ ok_sX0_in (fun _ _ _ h => h.1.1) (Or.inl (lw_S q179 q180 q131 q181)) hy_X0_in (by decide) dX0_image_6) <| blk_nil
theorem bX0_image_12 : Blk CP mX0_image 12 14 [oC (-2)] := blk_c (s_bipush dX0_image_12 (by decide +kernel)) <| blk_nil
theorem bX0_image_15 : Blk CP mX0_image 15 20 [oAL 0, cR 0 7 5, oIL 1] := blk_c (s_aload_n dX0_image_15 rfl) <| blk_c (cgX0_7 (Or.inl q563) dX0_image_16) <| blk_c (s_iload_n dX0_image_19 rfl) <| blk_nil
theorem bX0_image_24 : Blk CP mX0_image 24 29 [oAL 0, cR 0 7 5, oIL 1] := blk_c (s_aload_n dX0_image_24 rfl) <| blk_c (cgX0_7 (Or.inl q563) dX0_image_25) <| blk_c (s_iload_n dX0_image_28 rfl) <| blk_nil
theorem bX0_image_32 : Blk CP mX0_image 32 33 [oDupR] := blk_c (s_dupR dX0_image_32) <| blk_nil
theorem bX0_image_37 : Blk CP mX0_image 37 42 [oAL 0, cR 0 7 5, oIL 1] := blk_c (s_aload_n dX0_image_37 rfl) <| blk_c (cgX0_7 (Or.inl q563) dX0_image_38) <| blk_c (s_iload_n dX0_image_41 rfl) <| blk_nil
theorem bX0_image_43 : Blk CP mX0_image 43 47 [oAL 0, cQ0] := blk_c (s_aload_n dX0_image_43 rfl) <| blk_c (cgX0_1 (Or.inl q557) dX0_image_44) <| blk_nil
theorem bX0_image_50 : Blk CP mX0_image 50 55 [oAL 0, cR 0 7 5, oIL 1] := blk_c (s_aload_n dX0_image_50 rfl) <| blk_c (cgX0_7 (Or.inl q563) dX0_image_51) <| blk_c (s_iload_n dX0_image_54 rfl) <| blk_nil
theorem bX0_image_56 : Blk CP mX0_image 56 60 [oAL 0, cI 0 3] := blk_c (s_aload_n dX0_image_56 rfl) <| blk_c (cgX0_3 (Or.inl q559) dX0_image_57) <| blk_nil
theorem bX0_image_63 : Blk CP mX0_image 63 73 [oAL 0, cR 0 2 2, oC (nI 0), oAL 0, cR 0 7 5, oIL 1] := blk_c (s_aload_n dX0_image_63 rfl) <| blk_c (cgX0_2 (Or.inl q558) dX0_image_64) <| blk_c (s_iconst dX0_image_67 (by decide +kernel)) <| blk_c (s_aload_n dX0_image_68 rfl) <| blk_c (cgX0_7 (Or.inl q563) dX0_image_69) <| blk_c (s_iload_n dX0_image_72 rfl) <| blk_nil
theorem bX0_image_77 : Blk CP mX0_image 77 79 [oC (nI 0), oC (nI 4)] := blk_c (s_iconst dX0_image_77 (by decide +kernel)) <| blk_c (s_iconst dX0_image_78 (by decide +kernel)) <| blk_nil
theorem bX0_image_82 : Blk CP mX0_image 82 83 [oC (nI 0)] := blk_c (s_iconst dX0_image_82 (by decide +kernel)) <| blk_nil
theorem bim1 {p : Nat} (d : decode mX0_image.cc p = .ok (.aload_n 0, 1)) : Blk PE mX0_image p (p + 1) [oAL 0] := blk_c (s_aload_n d rfl) <| blk_nil
theorem bim2 {p : Nat} (d : decode mX0_image.cc p = .ok (.iload_n 1, 1)) : Blk PE mX0_image p (p + 1) [oIL 1] := blk_c (s_iload_n d rfl) <| blk_nil
theorem bim3 : Blk PE mX0_image 67 69 [oC (nI 0), oAL 0] := blk_c (s_iconst dX0_image_67 (by decide +kernel)) <| blk_c (s_aload_n dX0_image_68 rfl) <| blk_nil
theorem bim4 : Blk PE mX0_image 77 79 [oC (nI 0), oC (nI 4)] := blk_c (s_iconst dX0_image_77 (by decide +kernel)) <| blk_c (s_iconst dX0_image_78 (by decide +kernel)) <| blk_nil
theorem bim5 : Blk PE mX0_image 32 33 [oDupR] := blk_c (s_dupR dX0_image_32) <| blk_nil
theorem bim6 : Blk PE mX0_image 82 83 [oC (nI 0)] := blk_c (s_iconst dX0_image_82 (by decide +kernel)) <| blk_nil
abbrev fsX0 (ad : Nat → Nat) (A : Nat → Nat → Int32) (sk : Nat → Nat → Nat) : List Value := [.ref (ad 1), .ref (sk 0 0), .ref (ad 2), .int (A 0 3), .ref (ad 3), .ref (ad 4), .int (A 0 6), .ref (ad 5), .ref (ad 6), .int (A 0 9), .int (A 0 10), .int (A 0 11), .ref (ad 7)]
/-- what image does from 37 on -/
theorem im_tail (hX : WkX X) {o q : Nat} {f : Nat → Option Nat} {sv : Value} {aw : Int32} {g : Nat → Int32} (hi : i < 3) (g0 : h (ad 0) = some (.inr (0, fsX0 ad A sk))) (g5 : h (ad 5) = some (rfA X 7 3 f)) (hf : f i = some o) (go : h o = some (.inr (17, [.ref q, sv, .int aw]))) (gq : h q = some (.inl (X.dA 0, 4, .inl g))) (g2 : h (ad 2) = some (.inl (X.dA 0, 4, .inl (A 2)))) (n0 : ad 0 ≠ o) (n5 : ad 5 ≠ o) (n2 : ad 2 ≠ o) (nq : q ≠ o)
    (kk : JS PE X mX0_image R Z k n 82 [some (.ref (ad 0)), some (.int (nI i))] [] (va_up (va_up h o (some (.inr (17, [.ref q, .ref (sk 0 0), .int (A 0 3)])))) q (some (.inl (X.dA 0, 4, .inl (va_cpy (A 2) g 0 0 4)))))) : JS PE X mX0_image R Z k n 37 [some (.ref (ad 0)), some (.int (nI i))] [] h := by
  have vi : vp_in (nI i) 3 := vp_in_nI hi (by decide)
  have ci : (nI i).toNatClampNeg = i := nI_clamp (by omega)
  refine (bim1 dX0_image_37).go rfl trivial ?_
  refine js_of (J.getf (f := 7) clsX0 rfl g0 (by decide) rfl q563 dX0_image_38 ?_)
  refine of_js ?_
  refine (bim2 dX0_image_41).go rfl trivial ?_
  refine js_of (J.aald (t := 7) rfl g5 vi dX0_image_42 ?_)
  rw [ci, hf]
  refine of_js ?_
  refine (bim1 dX0_image_43).go rfl trivial ?_
  refine js_of (J.getf (f := 1) clsX0 rfl g0 (by decide) rfl q557 dX0_image_44 ?_)
  refine J.putfN (f := 1) hX clsX17 rfl go (by decide) (Nat.le_of_ble_eq_true rfl) rfl rfl rfl nq1618 dX0_image_47 ?_
  refine of_js ?_
  have m : ∀ {z : Nat} {w e : Option va_E}, z ≠ o → h z = e → va_up h o w z = e := fun hz he => (va_up_ne _ _ hz).trans he
  refine (bim1 dX0_image_50).go rfl trivial ?_
  refine js_of (J.getf (f := 7) clsX0 rfl (m n0 g0) (by decide) rfl q563 dX0_image_51 ?_)
  refine of_js ?_
  refine (bim2 dX0_image_54).go rfl trivial ?_
  refine js_of (J.aald (t := 7) rfl (m n5 g5) vi dX0_image_55 ?_)
  rw [ci, hf]
  refine of_js ?_
  refine (bim1 dX0_image_56).go rfl trivial ?_
  refine js_of (J.getf (f := 3) clsX0 rfl (m n0 g0) (by decide) rfl q559 dX0_image_57 ?_)
  refine J.putfN (f := 2) hX clsX17 rfl (va_up_self _ _ _) (by decide) (Nat.le_of_ble_eq_true rfl) rfl rfl rfl nq1619 dX0_image_60 ?_
  rw [up_up]
  refine of_js ?_
  refine (bim1 dX0_image_63).go rfl trivial ?_
  refine js_of (J.getf (f := 2) clsX0 rfl (m n0 g0) (by decide) rfl q558 dX0_image_64 ?_)
  refine of_js ?_
  refine bim3.go rfl trivial ?_
  refine js_of (J.getf (f := 7) clsX0 rfl (m n0 g0) (by decide) rfl q563 dX0_image_69 ?_)
  refine of_js ?_
  refine (bim2 dX0_image_72).go rfl trivial ?_
  refine js_of (J.aald (t := 7) rfl (m n5 g5) vi dX0_image_73 ?_)
  rw [ci, hf]
  refine J.getfN (f := 0) hX clsX17 rfl (va_up_self _ _ _) (by decide) rfl nq1617 dX0_image_74 ?_
  refine of_js ?_
  refine bim4.go rfl trivial ?_
  refine js_of (J.copyi (t := 0) (ty := .int) (sp := 0) (dp := 0) (m := 4) (m n2 g2) (m nq gq) rfl rfl (by decide) (by decide) (by decide) (by decide) (fun _ _ => rfl) q1627 (by decide) rfl dX0_image_79 ?_)
  exact kk _ rfl
def Qc_image (ad : Nat → Nat) (A : Nat → Nat → Int32) (B : Nat → Nat → Int64) (sk : Nat → Nat → Nat) (sw : Nat → Nat → Int32) (E : Nat → Nat) (t : Int32) (r : Option Value) (x' : Cv) : Prop := (imB t = false → r = some (.int (-2)) ∧ x' = (ad, A, B, sk, sw, E)) ∧ (imB t = true → r = some (.int (nI 0)) ∧ ∃ o q A', x' = (va_up (va_up ad (18 + t.toNatClampNeg) o) (21 + t.toNatClampNeg) q, A', B, va_up sk (2 + t.toNatClampNeg) (sk 0), va_up sw (2 + t.toNatClampNeg) (sw 0), va_up E (10 + t.toNatClampNeg) 1) ∧ (∀ j, j ≠ 18 + t.toNatClampNeg → j ≠ 21 + t.toNatClampNeg → A' j = A j) ∧ A' (18 + t.toNatClampNeg) 2 = A 0 3 ∧ ∀ c, c < 4 → A' (21 + t.toNatClampNeg) c = A 2 c)
theorem cpy4 (f g : Nat → Int32) {c : Nat} (hc : c < 4) : va_cpy f g 0 0 4 c = f c := by
  unfold va_cpy
  rw [if_pos (by omega)]
  congr 1
  omega
theorem pb_image {t : Int32} : RCc X mX0_image 1000 70000 [.ref (ad 0), .int t] (ad, A, B, sk, sw, E) (Qc_image ad A B sk sw E t) := by
  refine C_start (L := [some (.ref (ad 0)), some (.int t)]) 0 rfl ?_
  refine bX0_image_0.go rfl ⟨trivial, trivial⟩ ?_
  rw [fIn_L, show inL t (lN 0) 2 = imB t from rfl]
  refine j_if_ne (tgt := 15) dX0_image_9 (by decide) (fun h9 => ?_) (fun h9 => ?_)
  rotate_left
  · rw [b2_0] at h9
    refine bX0_image_12.go rfl trivial ?_
    exact c_iret dX0_image_14 rfl ⟨fun _ => ⟨rfl, rfl⟩, fun z => by rw [h9] at z; cases z⟩
  rw [b2_n0] at h9
  obtain ⟨i, hi, rfl⟩ := imB_nat h9
  have ci : (nI i).toNatClampNeg = i := nI_clamp (by omega)
  have vi : vp_in (nI i) 3 := vp_in_nI hi (by decide)
  intro h hp
  have g0 : h (ad 0) = some (.inr (0, fsX0 ad A sk)) := hp.at 0 rfl
  have g2 : h (ad 2) = some (.inl (X.dA 0, 4, .inl (A 2))) := hp.at 2 rfl
  have g5 : h (ad 5) = some (rfA X 7 3 (fun i => if i < 3 then (if E (10 + i) = 1 then some (ad (18 + i)) else none) else none)) := hp.at 5 rfl
  have u0 : Use E 0 := fun _ _ _ _ _ => rfl
  have u2 : Use E 2 := fun _ _ _ _ _ => rfl
  have inj := hp.2.2.1
  refine of_js ?_
  refine (bim1 dX0_image_15).go rfl trivial ?_
  refine js_of (J.getf (f := 7) clsX0 rfl g0 (by decide) rfl q563 dX0_image_16 ?_)
  refine of_js ?_
  refine (bim2 dX0_image_19).go rfl trivial ?_
  refine js_of (J.aald (t := 7) rfl g5 vi dX0_image_20 ?_)
  rw [ci, if_pos hi]
  refine of_js ?_
  by_cases he : E (10 + i) = 1
  · have u18 := (use_18 X hi).mpr he
    have u21 := (use_21 X hi).mpr he
    rw [if_pos he]
    refine j_ifnonnullR (tgt := 37) dX0_image_21 (by decide) ?_
    have d : ∀ {a b : Nat}, Use E a → Use E b → a ≠ b → ad a ≠ ad b := fun ua ub hab z => hab (inj _ _ ua ub z)
    refine im_tail (A := A) (sk := sk) (ad := ad) hp.1.1 hi g0 g5 (by rw [if_pos hi, if_pos he]) (hp.imgAt hi he) (hp.imgPc hi he) g2 (d u0 u18 (by omega)) (d use_5 u18 (by omega)) (d u2 u18 (by omega)) (d u21 u18 (by omega)) ?_
    refine bim6.go rfl trivial ?_
    have nq : ad (21 + i) ≠ ad (18 + i) := d u21 u18 (by omega)
    have hc := hp.img (h' := va_up (va_up h (ad (18 + i)) (some (.inr (17, [.ref (ad (21 + i)), .ref (sk 0 0), .int (A 0 3)])))) (ad (21 + i)) (some (.inl (X.dA 0, 4, .inl (va_cpy (A 2) (A (21 + i)) 0 0 4))))) hi (Or.inl ⟨he, rfl, rfl⟩) (fun z => nq z.symm) (g := va_cpy (A 2) (A (21 + i)) 0 0 4) (a3 := A 0 3) ?_ (by rw [va_up_ne _ _ (fun z => nq z.symm), va_up_self]) (va_up_self _ _ _) (fun z e hz h5 ho hq => by rw [va_up_ne _ _ hq, va_up_ne _ _ ho]; exact hz)
    · refine e_iret dX0_image_83 rfl ⟨_, _, rfl, ⟨(fun z => by rw [h9] at z; cases z), fun _ => ⟨rfl, ?_⟩⟩, hc⟩
      rw [ci]
      exact ⟨_, _, _, rfl, fun j a b => by rw [va_up_ne _ _ b, upA_ne a], by rw [va_up_ne _ _ (by omega), upA, va_up_self, va_up_self], fun c hc => by rw [va_up_self]; exact cpy4 _ _ hc⟩
    · rw [va_up_ne _ _ (d use_5 u21 (by omega)), va_up_ne _ _ (d use_5 u18 (by omega)), g5]
      refine congrArg some (congrArg (rfA X 7 3) (funext fun j => ?_))
      by_cases z : j < 3
      · rw [if_pos z, if_pos z]
        by_cases z2 : j = i
        · subst z2; rw [if_pos he, if_pos (va_up_self _ _ _), va_up_self]
        · rw [va_up_ne _ _ (by omega : 10 + j ≠ 10 + i), va_up_ne _ _ (by omega : 18 + j ≠ 18 + i)]
      · rw [if_neg z, if_neg z]
  · rw [if_neg he]
    refine j_ifnonnullN dX0_image_21 ?_
    refine (bim1 dX0_image_24).go rfl trivial ?_
    refine js_of (J.getf (f := 7) clsX0 rfl g0 (by decide) rfl q563 dX0_image_25 ?_)
    refine of_js ?_
    refine (bim2 dX0_image_28).go rfl trivial ?_
    refine js_of (J.new (C := RX17) (T := TX17) (N := 3) (ty := tyX17) (ci := 17) (fs := [.null, .null, .int 0]) hp.1.2 clsX17 rfl q554 q1611 q165 (by decide +kernel) ⟨by show 0 + 1 ≤ 1000; omega, by show 0 + 3 ≤ 70000; omega⟩ dX0_image_29 (fun o ho => ?_))
    refine of_js ?_
    refine bim5.go rfl trivial ?_
    refine js_of ?_
    refine J.callIN (M' := mX17_init) (As := []) (mc := 1) (ms := 4) hp.1.1 (ok_X17_init hp.1.2 (va_up_self _ _ _)) rfl (fun o h' q => ⟨_, q.1⟩) dX0_image_33 q1614 q165 nq1612 q1613 rfl hy_i17 (by decide) ⟨by show 0 + 1 + 1 ≤ 1000; omega, by show 0 + 3 + 4 ≤ 70000; omega⟩ (Nat.le_of_ble_eq_true rfl) (fun v h2 q => ?_)
    obtain ⟨q0, q, hq, nqo, rfl⟩ := q
    cases q0
    have hq' : h q = none := by rw [va_up_ne _ _ nqo] at hq; exact hq
    have fr : ∀ z, h z = none → ∀ w e, h w = some e → w ≠ z := fun z hz w e hw ee => by rw [ee, hz] at hw; cases hw
    have l : ∀ {z : Nat} {e w1 w2 w3}, h z = some e → va_up (va_up (va_up h o w1) q w2) o w3 z = some e := fun {z e w1 w2 w3} hz => by
      rw [va_up_ne _ _ (fr o ho z e hz), va_up_ne _ _ (fr q hq' z e hz), va_up_ne _ _ (fr o ho z e hz)]; exact hz
    refine J.aastS (t := 7) (r := (RX17, TX17, 3)) rfl (l g5) (va_up_self _ _ _) rfl vi dX0_image_36 ?_
    rw [ci]
    generalize hh : va_up (va_up (va_up (va_up h o (some (.inr (17, [.null, .null, .int 0])))) q (some (.inl (X.dA 0, 4, .inl (fun _ => 0))))) o (some (.inr (17, [.ref q, .null, .int 0])))) (ad 5) (some (.inl (X.dA 7, 3, .inr (.inr (.inr (.inr (va_up (fun i => if i < 3 then (if E (10 + i) = 1 then some (ad (18 + i)) else none) else none) i (some o)))))))) = h3
    have no5 : o ≠ ad 5 := fun z => fr o ho _ _ g5 z.symm
    have nq5 : q ≠ ad 5 := fun z => fr q hq' _ _ g5 z.symm
    have c5 : h3 (ad 5) = some (rfA X 7 3 (va_up (fun i => if i < 3 then (if E (10 + i) = 1 then some (ad (18 + i)) else none) else none) i (some o))) := by rw [← hh, va_up_self]
    have co : h3 o = some (.inr (17, [.ref q, .null, .int 0])) := by rw [← hh, va_up_ne _ _ no5, va_up_self]
    have cq : h3 q = some (.inl (X.dA 0, 4, .inl (fun _ => 0))) := by rw [← hh, va_up_ne _ _ nq5, va_up_ne _ _ nqo, va_up_self]
    have cz : ∀ z e, h z = some e → z ≠ ad 5 → h3 z = some e := fun z e hz h5 => by rw [← hh, va_up_ne _ _ h5]; exact l hz
    have d05 : ad 0 ≠ ad 5 := fun z => absurd (inj _ _ u0 use_5 z) (by decide)
    have d25 : ad 2 ≠ ad 5 := fun z => absurd (inj _ _ u2 use_5 z) (by decide)
    refine of_js ?_
    refine im_tail (A := A) (sk := sk) (ad := ad) hp.1.1 hi (cz _ _ g0 d05) c5 (va_up_self _ _ _) co cq (cz _ _ g2 d25) (fr o ho _ _ g0) (fun z => no5 z.symm) (fr o ho _ _ g2) nqo ?_
    refine bim6.go rfl trivial ?_
    have hc := hp.img (h' := va_up (va_up h3 o (some (.inr (17, [.ref q, .ref (sk 0 0), .int (A 0 3)])))) q (some (.inl (X.dA 0, 4, .inl (va_cpy (A 2) (fun _ => 0) 0 0 4))))) hi (Or.inr ⟨he, ho, hq'⟩) (fun z => nqo z.symm) (g := va_cpy (A 2) (fun _ => 0) 0 0 4) (a3 := A 0 3) ?_ (by rw [va_up_ne _ _ (fun z => nqo z.symm), va_up_self]) (va_up_self _ _ _) (fun z e hz h5 ho hq => by rw [va_up_ne _ _ hq, va_up_ne _ _ ho]; exact cz z e hz h5)
    · refine e_iret dX0_image_83 rfl ⟨_, _, rfl, ⟨(fun z => by rw [h9] at z; cases z), fun _ => ⟨rfl, ?_⟩⟩, hc⟩ (by show 0 + 1 + 1 ≤ 1000; omega) (by show 0 + 3 + 4 ≤ 70000; omega)
      rw [ci]
      exact ⟨_, _, _, rfl, fun j a b => by rw [va_up_ne _ _ b, upA_ne a], by rw [va_up_ne _ _ (by omega), upA, va_up_self, va_up_self], fun c hc => by rw [va_up_self]; exact cpy4 _ _ hc⟩
    · rw [va_up_ne _ _ (fun z => nq5 z.symm), va_up_ne _ _ (fun z => no5 z.symm), c5]
      refine congrArg some (congrArg (rfA X 7 3) (funext fun j => ?_))
      by_cases z2 : j = i
      · subst z2; rw [va_up_self, if_pos hi, if_pos (va_up_self _ _ _), va_up_self]
      · rw [va_up_ne _ _ z2, va_up_ne _ _ (by omega : 10 + j ≠ 10 + i), va_up_ne _ _ (by omega : 18 + j ≠ 18 + i)]
end Img2
