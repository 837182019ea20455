set_option maxRecDepth 100000
/-! ===== UnseenClockModel: lookOf, draw, drawsMaybes ===== -/
/-- number j of look i of person p -/
def lkI (w : Nat → Int32) (p i j : Nat) : Int32 := w (56 + 33 * p + (17 + 4 * i + j))
def F_lookOf (p i what : Int32) : Tau → Prop × Option Value × Tau := fun (o, ad, A, B) => (vp_in p 8 ∧ vp_in i 4 ∧ vp_in what 4, some (.int (lkI (A 1) p.toNatClampNeg i.toNatClampNeg what.toNatClampNeg)), (o, ad, A, B))
theorem bX4_lookOf_0 : Blk TP mX4_lookOf 0 13 [oAL 0, oIL 1, oC (nI 17), oC (nI 4), oIL 2, oMul, oAdd, oIL 3, oAdd, tC_II F_of] := blk_c (s_aload_n dX4_lookOf_0 rfl) <| blk_c (s_iload_n dX4_lookOf_1 rfl) <| blk_c (s_bipush dX4_lookOf_2 (by decide +kernel)) <| blk_c (s_iconst dX4_lookOf_4 (by decide +kernel)) <| blk_c (s_iload_n dX4_lookOf_5 rfl) <| blk_c (s_imul dX4_lookOf_6) <| blk_c (s_iadd dX4_lookOf_7) <| blk_c (s_iload_n dX4_lookOf_8 rfl) <| blk_c (s_iadd dX4_lookOf_9) <| blk_c (tc_II ok_of gX4_of (by decide +kernel) (by decide) dX4_lookOf_10) <| blk_nil
theorem ok_lookOf : TC_III mX4_lookOf F_lookOf := by
  intro X p i what ⟨o, ad, A, B⟩ P r y hF hP
  cases hF
  obtain ⟨a, ha, rfl⟩ := vp_in_of hP.1 (by decide)
  obtain ⟨b, hb, rfl⟩ := vp_in_of hP.2.1 (by decide)
  obtain ⟨c, hc, rfl⟩ := vp_in_of hP.2.2 (by decide)
  refine T_start (L := [some (.ref o), some (.int (nI a)), some (.int (nI b)), some (.int (nI c))]) 0 rfl ?_
  refine bX4_lookOf_0.go rfl (by simp (disch := omega) only [nI_add, pk_mul, vpI]; exact ⟨⟨trivial, by omega, by omega⟩, trivial⟩) ?_
  exact t_iret dX4_lookOf_13 rfl (by simp (disch := omega) only [nI_add, pk_mul, nI_clamp, lkI]) rfl
def lcg (z : Int64) : Int64 := (1103515245 * z + 12345) - (1103515245 * z + 12345) / 2147483648 * 2147483648
def drawV (z : Int64) : Int32 := (z / 65536 - z / 65536 / 100 * 100).toInt32
def F_draw : Tau → Prop × Option Value × Tau := fun (o, ad, A, B) => (True, some (.int (drawV (lcg (B 29 0)))), (o, ad, A, upB B 29 0 (lcg (B 29 0))))
theorem upB_at {B : Nat → Nat → Int64} {k i : Nat} {v : Int64} (j : Nat) : upB B k i v k j = if j = i then v else B k j := by
  unfold upB; rw [va_up_self]; rfl
theorem upB_ne {B : Nat → Nat → Int64} {k j i : Nat} {v : Int64} (h : j ≠ k) : upB B k i v j = B j := va_up_ne _ _ h
theorem bX4_draw_0 : Blk TP mX4_draw 0 33 [oAL 0, oCL (1103515245), oAL 0, tJ 29, oLMul, oCL (12345), oLAdd, oCL (2147483648), oLRem, tPJ 29, oAL 0, tJ 29, oCL (65536), oLDiv, oCL (100), oLRem, oL2I] := blk_c (s_aload_n dX4_draw_0 rfl) <| blk_c (s_ldc2 dX4_draw_1 q1997) <| blk_c (s_aload_n dX4_draw_4 rfl) <| blk_c (tgX4_29 rfl dX4_draw_5) <| blk_c (s_lmul dX4_draw_8) <| blk_c (s_ldc2 dX4_draw_9 q1998) <| blk_c (s_ladd dX4_draw_12) <| blk_c (s_ldc2 dX4_draw_13 q1999) <| blk_c (s_lrem dX4_draw_16) <| blk_c (tpX4_29 rfl dX4_draw_17) <| blk_c (s_aload_n dX4_draw_20 rfl) <| blk_c (tgX4_29 rfl dX4_draw_21) <| blk_c (s_ldc2 dX4_draw_24 q2000) <| blk_c (s_ldiv dX4_draw_27) <| blk_c (s_ldc2 dX4_draw_28 q2001) <| blk_c (s_lrem dX4_draw_31) <| blk_c (s_l2i dX4_draw_32) <| blk_nil
theorem ok_draw : TC_V mX4_draw F_draw := by
  intro X ⟨o, ad, A, B⟩ P r y hF hP
  cases hF
  refine T_start (L := [some (.ref o)]) 0 rfl ?_
  refine bX4_draw_0.go rfl (by exact ⟨rfl, by decide +kernel, rfl, rfl, by decide +kernel, by decide +kernel, trivial⟩) ?_
  exact t_iret dX4_draw_33 rfl rfl rfl
/-- whether a look is drawn; the numbers drawn; whether a maybe holds -/
def drB (w : Nat → Int32) (see : Nat → Nat → Bool) (dr : Bool) (p i : Nat) : Bool := dr && (decide (lkI w p i 1 = nI 5) && see p (lkI w p i 0).toNatClampNeg)
def rngI (w : Nat → Int32) (see : Nat → Nat → Bool) (dr : Bool) (p : Nat) : Nat → Int64 → Int64
  | 0, z => z
  | i + 1, z => if drB w see dr p i = true then lcg (rngI w see dr p i z) else rngI w see dr p i z
def rngP (w : Nat → Int32) (see : Nat → Nat → Bool) (dr : Bool) : Nat → Int64 → Int64
  | 0, z => z
  | p + 1, z => rngI w see dr p (perI w p 4).toNatClampNeg (rngP w see dr p z)
def mbF (w : Nat → Int32) (see : Nat → Nat → Bool) (dr : Bool) (z : Int64) (p i : Nat) : Bool := drB w see dr p i && decide (drawV (lcg (rngI w see dr p i (rngP w see dr p z))) < lkI w p i 2)
def seeA (A : Nat → Nat → Int32) (p c : Nat) : Bool := !decide (A 17 (4 * p + c) = 0)
def drA (A : Nat → Nat → Int32) : Bool := !decide (A 0 28 = 0)
def Pre_drawsMaybes (A : Nat → Nat → Int32) (_ : Nat → Nat → Int64) : Prop := ∃ v, WOk (A 1) v
def Q_drawsMaybes (A : Nat → Nat → Int32) (B : Nat → Nat → Int64) : QR := fun r A' B' => r = none ∧ (∀ k, k ≠ 31 → A' k = A k) ∧ (∀ k, k ≠ 29 → B' k = B k) ∧ ∀ v, WOk (A 1) v → B' 29 0 = rngP (A 1) (seeA A) (drA A) (v 2) (B 29 0) ∧ ∀ p, p < v 2 → ∀ i, i < v (56 + 33 * p + 4) → A' 31 (4 * p + i) = b2 (mbF (A 1) (seeA A) (drA A) (B 29 0) p i)
theorem bX4_drawsMaybes_0 : Blk TP mX4_drawsMaybes 0 2 [oC (nI 0), oIS 1] := blk_c (s_iconst dX4_drawsMaybes_0 (by decide +kernel)) <| blk_c (s_istore_n dX4_drawsMaybes_1 rfl (by decide)) <| blk_nil
theorem bX4_drawsMaybes_2 : Blk TP mX4_drawsMaybes 2 9 [oIL 1, oAL 0, tR 1, oC (nI 2), tAI 1 320] := blk_c (s_iload_n dX4_drawsMaybes_2 rfl) <| blk_c (s_aload_n dX4_drawsMaybes_3 rfl) <| blk_c (tgX4_1 rfl dX4_drawsMaybes_4) <| blk_c (s_iconst dX4_drawsMaybes_7 (by decide +kernel)) <| blk_c (t_iald rfl dX4_drawsMaybes_8) <| blk_nil
theorem bX4_drawsMaybes_12 : Blk TP mX4_drawsMaybes 12 14 [oC (nI 0), oIS 2] := blk_c (s_iconst dX4_drawsMaybes_12 (by decide +kernel)) <| blk_c (s_istore_n dX4_drawsMaybes_13 rfl (by decide)) <| blk_nil
theorem bX4_drawsMaybes_14 : Blk TP mX4_drawsMaybes 14 21 [oIL 2, oAL 0, oIL 1, oC (nI 4), tC_II F_of] := blk_c (s_iload_n dX4_drawsMaybes_14 rfl) <| blk_c (s_aload_n dX4_drawsMaybes_15 rfl) <| blk_c (s_iload_n dX4_drawsMaybes_16 rfl) <| blk_c (s_iconst dX4_drawsMaybes_17 (by decide +kernel)) <| blk_c (tc_II ok_of gX4_of (by decide +kernel) (by decide) dX4_drawsMaybes_18) <| blk_nil
theorem bX4_drawsMaybes_24 : Blk TP mX4_drawsMaybes 24 28 [oAL 0, tI 28] := blk_c (s_aload_n dX4_drawsMaybes_24 rfl) <| blk_c (tgX4_28 rfl dX4_drawsMaybes_25) <| blk_nil
theorem bX4_drawsMaybes_31 : Blk TP mX4_drawsMaybes 31 39 [oAL 0, oIL 1, oIL 2, oC (nI 1), tC_III F_lookOf, oC (nI 5)] := blk_c (s_aload_n dX4_drawsMaybes_31 rfl) <| blk_c (s_iload_n dX4_drawsMaybes_32 rfl) <| blk_c (s_iload_n dX4_drawsMaybes_33 rfl) <| blk_c (s_iconst dX4_drawsMaybes_34 (by decide +kernel)) <| blk_c (tc_III ok_lookOf gX4_lookOf (by decide +kernel) (by decide) dX4_drawsMaybes_35) <| blk_c (s_iconst dX4_drawsMaybes_38 (by decide +kernel)) <| blk_nil
theorem bX4_drawsMaybes_42 : Blk TP mX4_drawsMaybes 42 58 [oAL 0, tR 17, oC (nI 4), oIL 1, oMul, oAL 0, oIL 1, oIL 2, oC (nI 0), tC_III F_lookOf, oAdd, tAI 17 32] := blk_c (s_aload_n dX4_drawsMaybes_42 rfl) <| blk_c (tgX4_17 rfl dX4_drawsMaybes_43) <| blk_c (s_iconst dX4_drawsMaybes_46 (by decide +kernel)) <| blk_c (s_iload_n dX4_drawsMaybes_47 rfl) <| blk_c (s_imul dX4_drawsMaybes_48) <| blk_c (s_aload_n dX4_drawsMaybes_49 rfl) <| blk_c (s_iload_n dX4_drawsMaybes_50 rfl) <| blk_c (s_iload_n dX4_drawsMaybes_51 rfl) <| blk_c (s_iconst dX4_drawsMaybes_52 (by decide +kernel)) <| blk_c (tc_III ok_lookOf gX4_lookOf (by decide +kernel) (by decide) dX4_drawsMaybes_53) <| blk_c (s_iadd dX4_drawsMaybes_56) <| blk_c (t_zald rfl dX4_drawsMaybes_57) <| blk_nil
theorem bX4_drawsMaybes_61 : Blk TP mX4_drawsMaybes 61 66 [oC (nI 1), .inl (fun s => some s)] := blk_c (s_iconst dX4_drawsMaybes_61 (by decide +kernel)) <| blk_c (s_goto (tgt := 66) dX4_drawsMaybes_62 (by decide)) <| blk_nil
theorem bX4_drawsMaybes_65 : Blk TP mX4_drawsMaybes 65 66 [oC (nI 0)] := blk_c (s_iconst dX4_drawsMaybes_65 (by decide +kernel)) <| blk_nil
theorem bX4_drawsMaybes_66 : Blk TP mX4_drawsMaybes 66 77 [oIS 3, oAL 0, tR 31, oC (nI 4), oIL 1, oMul, oIL 2, oAdd, oIL 3] := blk_c (s_istore_n dX4_drawsMaybes_66 rfl (by decide)) <| blk_c (s_aload_n dX4_drawsMaybes_67 rfl) <| blk_c (tgX4_31 rfl dX4_drawsMaybes_68) <| blk_c (s_iconst dX4_drawsMaybes_71 (by decide +kernel)) <| blk_c (s_iload_n dX4_drawsMaybes_72 rfl) <| blk_c (s_imul dX4_drawsMaybes_73) <| blk_c (s_iload_n dX4_drawsMaybes_74 rfl) <| blk_c (s_iadd dX4_drawsMaybes_75) <| blk_c (s_iload_n dX4_drawsMaybes_76 rfl) <| blk_nil
theorem bX4_drawsMaybes_80 : Blk TP mX4_drawsMaybes 80 91 [oAL 0, tC_V F_draw, oAL 0, oIL 1, oIL 2, oC (nI 2), tC_III F_lookOf] := blk_c (s_aload_n dX4_drawsMaybes_80 rfl) <| blk_c (tc_V ok_draw gX4_draw (by decide +kernel) (by decide) dX4_drawsMaybes_81) <| blk_c (s_aload_n dX4_drawsMaybes_84 rfl) <| blk_c (s_iload_n dX4_drawsMaybes_85 rfl) <| blk_c (s_iload_n dX4_drawsMaybes_86 rfl) <| blk_c (s_iconst dX4_drawsMaybes_87 (by decide +kernel)) <| blk_c (tc_III ok_lookOf gX4_lookOf (by decide +kernel) (by decide) dX4_drawsMaybes_88) <| blk_nil
theorem bX4_drawsMaybes_94 : Blk TP mX4_drawsMaybes 94 99 [oC (nI 1), .inl (fun s => some s)] := blk_c (s_iconst dX4_drawsMaybes_94 (by decide +kernel)) <| blk_c (s_goto (tgt := 99) dX4_drawsMaybes_95 (by decide)) <| blk_nil
theorem bX4_drawsMaybes_98 : Blk TP mX4_drawsMaybes 98 99 [oC (nI 0)] := blk_c (s_iconst dX4_drawsMaybes_98 (by decide +kernel)) <| blk_nil
theorem bX4_drawsMaybes_99 : Blk TP mX4_drawsMaybes 99 14 [tSZ 31 32, oInc 2 1, .inl (fun s => some s)] := blk_c (t_zast rfl dX4_drawsMaybes_99) <| blk_c (s_iinc dX4_drawsMaybes_100 (by decide +kernel) (by decide)) <| blk_c (s_goto (tgt := 14) dX4_drawsMaybes_103 (by decide)) <| blk_nil
theorem bX4_drawsMaybes_106 : Blk TP mX4_drawsMaybes 106 2 [oInc 1 1, .inl (fun s => some s)] := blk_c (s_iinc dX4_drawsMaybes_106 (by decide +kernel) (by decide)) <| blk_c (s_goto (tgt := 2) dX4_drawsMaybes_109 (by decide)) <| blk_nil
theorem ok_drawsMaybes : RC_V mX4_drawsMaybes Pre_drawsMaybes Q_drawsMaybes := by
  intro X o ad A B hpre
  obtain ⟨v, hw⟩ := hpre
  have h4 : v 1 ≤ 4 := hw.2.2.1
  have h8 : v 2 ≤ 8 := hw.2.2.2.1
  have e2 : A 1 2 = nI (v 2) := hw.1 2 (by decide)
  have hPs := hw.2.2.2.2.2.2.2.2.2.2.2.1
  refine R_start (L := [some (.ref o), none, none, none]) 3 rfl ?_
  refine bX4_drawsMaybes_0.go rfl trivial ?_
  refine loop_down (N := v 2) (I := fun _ => True) (P := fun p => ∀ A' B', (∀ k, k ≠ 31 → A' k = A k) → (∀ k, k ≠ 29 → B' k = B k) → B' 29 0 = rngP (A 1) (seeA A) (drA A) p (B 29 0) → (∀ p', p' < p → ∀ i, i < v (56 + 33 * p' + 4) → A' 31 (4 * p' + i) = b2 (mbF (A 1) (seeA A) (drA A) (B 29 0) p' i)) → JS TP X mX4_drawsMaybes (rmOf mX4_drawsMaybes.lv 0 0) _ 0 0 2 [some (.ref o), some (.int (nI p)), none, none] [] (o, ad, A', B')) ?_ ?_ 0 (by omega) trivial A B (fun _ _ => rfl) (fun _ _ => rfl) rfl (fun p' h => by omega)
  · intro _ A' B' hA hB hz hS
    have eA : A' 1 = A 1 := hA 1 (by decide)
    refine bX4_drawsMaybes_2.go rfl ⟨rfl, ⟨rfl, vp_in_nI (by decide) (by decide)⟩, trivial⟩ ?_
    refine j_icmp_ge (tgt := 112) dX4_drawsMaybes_9 (by decide) (fun h9 => ?_) (fun h9 => ?_)
    · refine r_vret dX4_drawsMaybes_112 rfl ⟨rfl, hA, hB, fun v' hv' => ?_⟩
      obtain ⟨u1, u2, -⟩ := hw.uniq hv'
      refine ⟨by rw [← u2]; exact hz, fun p hp i hi => hS p (by omega) i ?_⟩
      have a1 := hw.1 (56 + 33 * p + 4) (by omega)
      have a2 := hv'.1 (56 + 33 * p + 4) (by omega)
      have b1 := (hPs p (by omega)).2.2.2.2.1
      have b2 := (hv'.2.2.2.2.2.2.2.2.2.2.2.1 p (by omega)).2.2.2.2.1
      have := (nI_eq (by omega) (by omega)).mp (a1.symm.trans a2)
      omega
    · simp (disch := omega) only [nI_clamp, eA, e2, nI_leI] at h9; omega
  · intro p hp _ ih A' B' hA hB hz hS
    have eA : A' 1 = A 1 := hA 1 (by decide)
    have hP := hPs p hp
    have e4 : A 1 (56 + 33 * p + 4) = nI (v (56 + 33 * p + 4)) := hw.1 _ (by omega)
    have b4 : v (56 + 33 * p + 4) ≤ 4 := hP.2.2.2.2.1
    refine bX4_drawsMaybes_2.go rfl ⟨rfl, ⟨rfl, vp_in_nI (by decide) (by decide)⟩, trivial⟩ ?_
    refine j_icmp_ge (tgt := 112) dX4_drawsMaybes_9 (by decide) (fun h9 => ?_) (fun h9 => ?_)
    · simp (disch := omega) only [nI_clamp, eA, e2, nI_leI] at h9; omega
    · refine bX4_drawsMaybes_12.go rfl trivial ?_
      refine loop_down (N := v (56 + 33 * p + 4)) (I := fun _ => True) (P := fun i => ∀ A' B', (∀ k, k ≠ 31 → A' k = A k) → (∀ k, k ≠ 29 → B' k = B k) → B' 29 0 = rngI (A 1) (seeA A) (drA A) p i (rngP (A 1) (seeA A) (drA A) p (B 29 0)) → (∀ p' i', p' < p ∧ i' < v (56 + 33 * p' + 4) ∨ p' = p ∧ i' < i → A' 31 (4 * p' + i') = b2 (mbF (A 1) (seeA A) (drA A) (B 29 0) p' i')) → JS TP X mX4_drawsMaybes (rmOf mX4_drawsMaybes.lv 0 0) _ 0 0 14 [some (.ref o), some (.int (nI p)), some (.int (nI i)), none] [] (o, ad, A', B')) ?_ ?_ 0 (by omega) trivial A' B' hA hB hz (fun p' i' h => by rcases h with h | h; exact hS p' h.1 i' h.2; omega)
      · intro _ A' B' hA hB hz hS
        have eA : A' 1 = A 1 := hA 1 (by decide)
        refine bX4_drawsMaybes_14.go rfl (by simp (disch := omega) only [vpI]; exact ⟨⟨trivial, by omega, by omega⟩, trivial⟩) ?_
        refine j_icmp_ge (tgt := 106) dX4_drawsMaybes_21 (by decide) (fun h21 => ?_) (fun h21 => ?_)
        · refine bX4_drawsMaybes_106.go rfl trivial ?_
          rw [nI_1]
          refine JS.weak (by simp [lsub]) (ih trivial A' B' hA hB ?_ (fun p' hp' i hi => hS p' i ?_))
          · rw [hz]; simp only [rngP, perI, e4, nI_clamp (show v (56 + 33 * p + 4) < 2 ^ 31 by omega)]
          · rcases Nat.lt_succ_iff_lt_or_eq.mp hp' with h | h
            · exact Or.inl ⟨h, hi⟩
            · subst h; exact Or.inr ⟨rfl, hi⟩
        · simp (disch := omega) only [nI_clamp, eA, e4, nI_leI] at h21; omega
      · intro i hi _ ih2 A' B' hA hB hz hS
        have eA : A' 1 = A 1 := hA 1 (by decide)
        have eL := hP.2.2.2.2.2.2 i hi
        have ec : lkI (A 1) p i 0 = nI (v (56 + 33 * p + (17 + 4 * i))) := hw.1 _ (by omega)
        have bc : v (56 + 33 * p + (17 + 4 * i)) < v 1 := eL.1
        have j99 : ∀ z B2, (∀ k, k ≠ 29 → B2 k = B k) → B2 29 0 = rngI (A 1) (seeA A) (drA A) p (i + 1) (rngP (A 1) (seeA A) (drA A) p (B 29 0)) → z = b2 (mbF (A 1) (seeA A) (drA A) (B 29 0) p i) → JS TP X mX4_drawsMaybes (rmOf mX4_drawsMaybes.lv 0 0) (ZR X o ad (Q_drawsMaybes A B)) 0 0 99 [some (.ref o), some (.int (nI p)), some (.int (nI i)), none] [.int z, .int (nI 4 * nI p + nI i), .ref (ad 31)] (o, ad, A', B2) := by
          intro z B2 hB2 hz2 hz
          subst hz
          refine bX4_drawsMaybes_99.go rfl (by simp (disch := omega) only [nI_add, pk_mul, vpI]; exact ⟨⟨trivial, by omega⟩, trivial⟩) ?_
          simp (disch := omega) only [nI_1, nI_clamp, nI_add, pk_mul, nar_b2]
          refine ih2 trivial _ _ (fun k hk => by rw [upA_ne hk, hA k hk]) hB2 hz2 (fun p' i' h => ?_)
          rw [upA_at]
          have : p' < p → v (56 + 33 * p' + 4) ≤ 4 := fun h => (hPs p' (by omega)).2.2.2.2.1
          by_cases e : 4 * p' + i' = 4 * p + i
          · have : p' = p ∧ i' = i := by omega
            obtain ⟨rfl, rfl⟩ := this
            rw [if_pos rfl]
          · rw [if_neg e]
            exact hS p' i' (by omega)
        have j66 : ∀ d, d = b2 (drB (A 1) (seeA A) (drA A) p i) → JS TP X mX4_drawsMaybes (rmOf mX4_drawsMaybes.lv 0 0) (ZR X o ad (Q_drawsMaybes A B)) 0 0 66 [some (.ref o), some (.int (nI p)), some (.int (nI i)), none] [.int d] (o, ad, A', B') := by
          intro d hd
          subst hd
          refine bX4_drawsMaybes_66.go rfl ⟨rfl, trivial⟩ ?_
          refine j_if_eq (tgt := 98) dX4_drawsMaybes_77 (by decide) (fun h77 => ?_) (fun h77 => ?_)
          · rw [b2_0] at h77
            refine bX4_drawsMaybes_98.go rfl trivial ?_
            exact JS.weak (by simp [lsub]) (j99 _ B' hB (by rw [hz]; simp [rngI, h77]) (b2_f (by simp [mbF, h77])))
          · rw [b2_n0] at h77
            refine bX4_drawsMaybes_80.go rfl (by simp (disch := omega) only [vpI]; exact ⟨⟨trivial, trivial⟩, ⟨trivial, by omega, by omega, by omega⟩, trivial⟩) ?_
            simp (disch := omega) only [nI_clamp, eA]
            have hB2 : ∀ k, k ≠ 29 → upB B' 29 0 (lcg (B' 29 0)) k = B k := fun k hk => by rw [upB_ne hk, hB k hk]
            have hz2 : upB B' 29 0 (lcg (B' 29 0)) 29 0 = rngI (A 1) (seeA A) (drA A) p (i + 1) (rngP (A 1) (seeA A) (drA A) p (B 29 0)) := by rw [upB_at, if_pos rfl, hz]; simp [rngI, h77]
            refine j_icmp_ge (tgt := 98) dX4_drawsMaybes_91 (by decide) (fun h91 => ?_) (fun h91 => ?_)
            · refine bX4_drawsMaybes_98.go rfl trivial ?_
              exact JS.weak (by simp [lsub]) (j99 _ _ hB2 hz2 (b2_f (by rw [hz] at h91; simp only [mbF, h77, Bool.true_and, decide_eq_false_iff_not, Int32.not_lt]; exact h91)))
            · refine bX4_drawsMaybes_94.go rfl trivial ?_
              exact JS.weak (by simp [lsub]) (j99 _ _ hB2 hz2 (b2_t (by rw [hz] at h91; simp only [mbF, h77, Bool.true_and, decide_eq_true_eq]; exact Int32.not_le.mp h91)))
        refine bX4_drawsMaybes_14.go rfl (by simp (disch := omega) only [vpI]; exact ⟨⟨trivial, by omega, by omega⟩, trivial⟩) ?_
        refine j_icmp_ge (tgt := 106) dX4_drawsMaybes_21 (by decide) (fun h21 => ?_) (fun h21 => ?_)
        · simp (disch := omega) only [nI_clamp, eA, e4, nI_leI] at h21; omega
        · refine bX4_drawsMaybes_24.go rfl ⟨rfl, trivial⟩ ?_
          rw [hA 0 (by decide)]
          refine j_if_eq (tgt := 65) dX4_drawsMaybes_28 (by decide) (fun h28 => ?_) (fun h28 => ?_)
          · refine bX4_drawsMaybes_65.go rfl trivial ?_
            exact j66 _ (b2_f (by simp [drB, drA, h28]))
          · refine bX4_drawsMaybes_31.go rfl (by simp (disch := omega) only [vpI]; exact ⟨⟨trivial, by omega, by omega, by omega⟩, trivial⟩) ?_
            simp (disch := omega) only [nI_clamp, eA]
            refine j_icmp_ne (tgt := 65) dX4_drawsMaybes_39 (by decide) (fun h39 => ?_) (fun h39 => ?_)
            · refine bX4_drawsMaybes_65.go rfl trivial ?_
              exact j66 _ (b2_f (by simp [drB, h39]))
            · refine bX4_drawsMaybes_42.go rfl (by simp (disch := omega) only [vpI, nI_clamp, eA, ec, nI_add, pk_mul]; exact ⟨trivial, ⟨trivial, by omega, by omega, by omega⟩, ⟨trivial, by omega⟩, trivial⟩) ?_
              simp (disch := omega) only [nI_clamp, eA, ec, nI_add, pk_mul, hA 17 (by decide)]
              refine j_if_eq (tgt := 65) dX4_drawsMaybes_58 (by decide) (fun h58 => ?_) (fun h58 => ?_)
              · refine bX4_drawsMaybes_65.go rfl trivial ?_
                exact j66 _ (b2_f (by simp (disch := omega) only [drB, ec, nI_clamp, seeA, h58]; simp))
              · refine bX4_drawsMaybes_61.go rfl trivial ?_
                exact j66 _ (b2_t (by simp (disch := omega) only [drB, drA, h28, h39, ec, nI_clamp, seeA, h58]; simp))
