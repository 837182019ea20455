set_option maxRecDepth 100000
/-! ===== UnseenClockModel: settled, firstUnknown ===== -/
def F_settled (p c m : Int32) : Tau → Prop × Option Value × Tau := fun (o, ad, A, B) => (∃ (v : Nat → Nat) (pn cn mn : Nat), WOk (A 1) v ∧ pn < v 2 ∧ cn < v 1 ∧ mn < 40 ∧ p = nI pn ∧ c = nI cn ∧ m = nI mn, some (.int (evV (mcA A m.toNatClampNeg) (VA A) p.toNatClampNeg c.toNatClampNeg)), (o, ad, A, B))
theorem bX4_settled_0 : Blk TP mX4_settled 0 10 [oAL 0, tR 17, oC (nI 4), oIL 1, oMul, oIL 2, oAdd, tAI 17 32] := blk_c (s_aload_n dX4_settled_0 rfl) <| blk_c (tgX4_17 rfl dX4_settled_1) <| blk_c (s_iconst dX4_settled_4 (by decide +kernel)) <| blk_c (s_iload_n dX4_settled_5 rfl) <| blk_c (s_imul dX4_settled_6) <| blk_c (s_iload_n dX4_settled_7 rfl) <| blk_c (s_iadd dX4_settled_8) <| blk_c (t_zald rfl dX4_settled_9) <| blk_nil
theorem bX4_settled_13 : Blk TP mX4_settled 13 14 [oC (nI 0)] := blk_c (s_iconst dX4_settled_13 (by decide +kernel)) <| blk_nil
theorem bX4_settled_15 : Blk TP mX4_settled 15 21 [oC (nI 0), oIS 4, oC (nI 0), oIS 5] := blk_c (s_iconst dX4_settled_15 (by decide +kernel)) <| blk_c (s_istore dX4_settled_16 (by decide)) <| blk_c (s_iconst dX4_settled_18 (by decide +kernel)) <| blk_c (s_istore dX4_settled_19 (by decide)) <| blk_nil
theorem bX4_settled_21 : Blk TP mX4_settled 21 29 [oIL 5, oAL 0, oIL 1, oC (nI 4), tC_II F_of] := blk_c (s_iload dX4_settled_21) <| blk_c (s_aload_n dX4_settled_23 rfl) <| blk_c (s_iload_n dX4_settled_24 rfl) <| blk_c (s_iconst dX4_settled_25 (by decide +kernel)) <| blk_c (tc_II ok_of gX4_of (by decide +kernel) (by decide) dX4_settled_26) <| blk_nil
theorem bX4_settled_32 : Blk TP mX4_settled 32 41 [oAL 0, oIL 1, oIL 5, oC (nI 0), tC_III F_lookOf, oIL 2] := blk_c (s_aload_n dX4_settled_32 rfl) <| blk_c (s_iload_n dX4_settled_33 rfl) <| blk_c (s_iload dX4_settled_34) <| blk_c (s_iconst dX4_settled_36 (by decide +kernel)) <| blk_c (tc_III ok_lookOf gX4_lookOf (by decide +kernel) (by decide) dX4_settled_37) <| blk_c (s_iload_n dX4_settled_40 rfl) <| blk_nil
theorem bX4_settled_44 : Blk TP mX4_settled 44 56 [oAL 0, oIL 1, oIL 5, oIL 3, tC_III F_holds, .inl (fun s => some s)] := blk_c (s_aload_n dX4_settled_44 rfl) <| blk_c (s_iload_n dX4_settled_45 rfl) <| blk_c (s_iload dX4_settled_46) <| blk_c (s_iload_n dX4_settled_48 rfl) <| blk_c (tc_III ok_holds gX4_holds (by decide +kernel) (by decide) dX4_settled_49) <| blk_c (s_goto (tgt := 56) dX4_settled_52 (by decide)) <| blk_nil
theorem bX4_settled_55 : Blk TP mX4_settled 55 56 [oC (nI 0)] := blk_c (s_iconst dX4_settled_55 (by decide +kernel)) <| blk_nil
theorem bX4_settled_56 : Blk TP mX4_settled 56 61 [oIS 6, oIL 6, oC (nI 1)] := blk_c (s_istore dX4_settled_56 (by decide)) <| blk_c (s_iload dX4_settled_58) <| blk_c (s_iconst dX4_settled_60 (by decide +kernel)) <| blk_nil
theorem bX4_settled_64 : Blk TP mX4_settled 64 65 [oC (nI 1)] := blk_c (s_iconst dX4_settled_64 (by decide +kernel)) <| blk_nil
theorem bX4_settled_66 : Blk TP mX4_settled 66 69 [oIL 6, oC (-1)] := blk_c (s_iload dX4_settled_66) <| blk_c (s_iconst dX4_settled_68 (by decide +kernel)) <| blk_nil
theorem bX4_settled_72 : Blk TP mX4_settled 72 78 [oC (-1), .inl (fun s => some s)] := blk_c (s_iconst dX4_settled_72 (by decide +kernel)) <| blk_c (s_goto (tgt := 78) dX4_settled_73 (by decide)) <| blk_nil
theorem bX4_settled_76 : Blk TP mX4_settled 76 78 [oIL 4] := blk_c (s_iload dX4_settled_76) <| blk_nil
theorem bX4_settled_78 : Blk TP mX4_settled 78 21 [oIS 4, oInc 5 1, .inl (fun s => some s)] := blk_c (s_istore dX4_settled_78 (by decide)) <| blk_c (s_iinc dX4_settled_80 (by decide +kernel) (by decide)) <| blk_c (s_goto (tgt := 21) dX4_settled_83 (by decide)) <| blk_nil
theorem bX4_settled_86 : Blk TP mX4_settled 86 88 [oIL 4] := blk_c (s_iload dX4_settled_86) <| blk_nil
theorem ok_settled : TC_III mX4_settled F_settled := by
  intro X p c m ⟨o, ad, A, B⟩ P r y hF hP
  cases hF
  obtain ⟨v, pn, cn, mn, hw, hp, hc, hm, rfl, rfl, rfl⟩ := hP
  have h8 : v 2 ≤ 8 := hw.2.2.2.1
  have h4 : v 1 ≤ 4 := hw.2.2.1
  have e4 : A 1 (56 + 33 * pn + 4) = nI (v (56 + 33 * pn + 4)) := hw.1 _ (by omega)
  have b4 : v (56 + 33 * pn + 4) ≤ 4 := (hw.2.2.2.2.2.2.2.2.2.2.2.1 pn hp).2.2.2.2.1
  have eP : (perI (mcA A mn).1 pn 4).toNatClampNeg = v (56 + 33 * pn + 4) := by simp only [mcA, perI, e4]; exact nI_clamp (by omega)
  refine T_start (L := [some (.ref o), some (.int (nI pn)), some (.int (nI cn)), some (.int (nI mn)), none, none, none]) 3 rfl ?_
  simp (disch := omega) only [nI_clamp]
  refine bX4_settled_0.go rfl (by simp (disch := omega) only [nI_add, pk_mul, vpI]; exact ⟨trivial, ⟨trivial, by omega⟩, trivial⟩) ?_
  simp (disch := omega) only [nI_add, pk_mul, nI_clamp]
  refine j_if_ne (tgt := 15) dX4_settled_10 (by decide) (fun h10 => ?_) (fun h10 => ?_)
  · have hsee : (mcA A mn).2.1 pn cn = true := by simp [mcA, seeA, h10]
    refine bX4_settled_15.go rfl trivial ?_
    refine loop_down (N := v (56 + 33 * pn + 4)) (I := fun i => ∀ k, k < i → decide (hasV (mcA A mn) (VA A) pn cn k = nI 1) = false) (P := fun i => JS TP X mX4_settled (rmOf mX4_settled.lv 0 0) _ 0 0 21 [some (.ref o), some (.int (nI pn)), some (.int (nI cn)), some (.int (nI mn)), some (.int (if anyN (fun i => decide (hasV (mcA A mn) (VA A) pn cn i = -1)) i = true then -1 else nI 0)), some (.int (nI i)), none] [] (o, ad, A, B)) ?_ ?_ 0 (by omega) (by intro k hk; omega)
    · intro hI
      refine bX4_settled_21.go rfl (by simp (disch := omega) only [vpI]; exact ⟨⟨trivial, by omega, by omega⟩, trivial⟩) ?_
      refine j_icmp_ge (tgt := 86) dX4_settled_29 (by decide) (fun h29 => ?_) (fun h29 => ?_)
      · refine bX4_settled_86.go rfl trivial ?_
        refine t_iret dX4_settled_88 rfl (sv_int ?_) rfl
        have : anyN (fun i => decide (hasV (mcA A mn) (VA A) pn cn i = nI 1)) (v (56 + 33 * pn + 4)) = false := anyN_false.mpr hI
        simp only [evV, hsee, eP, this]
        simp
      · simp (disch := omega) only [nI_clamp, e4, nI_leI] at h29; omega
    · intro i hi hI ih
      obtain ⟨c', k', n', q', ec, -, -, -, hc', -⟩ := hw.look hp hi
      have j56 : ∀ z, z = hasV (mcA A mn) (VA A) pn cn i → JS TP X mX4_settled (rmOf mX4_settled.lv 0 0) (TZ X (some (.int (evV (mcA A mn) (VA A) pn cn))) (o, ad, A, B)) 0 0 56 [some (.ref o), some (.int (nI pn)), some (.int (nI cn)), some (.int (nI mn)), some (.int (if anyN (fun i => decide (hasV (mcA A mn) (VA A) pn cn i = -1)) i = true then -1 else nI 0)), some (.int (nI i)), none] [.int z] (o, ad, A, B) := by
        intro z hz
        refine bX4_settled_56.go rfl trivial ?_
        refine j_icmp_ne (tgt := 66) dX4_settled_61 (by decide) (fun h61 => ?_) (fun h61 => ?_)
        · have nx : ∀ b, b = (if anyN (fun i => decide (hasV (mcA A mn) (VA A) pn cn i = -1)) (i + 1) = true then -1 else nI 0) → JS TP X mX4_settled (rmOf mX4_settled.lv 0 0) (TZ X (some (.int (evV (mcA A mn) (VA A) pn cn))) (o, ad, A, B)) 0 0 78 [some (.ref o), some (.int (nI pn)), some (.int (nI cn)), some (.int (nI mn)), some (.int (if anyN (fun i => decide (hasV (mcA A mn) (VA A) pn cn i = -1)) i = true then -1 else nI 0)), some (.int (nI i)), some (.int z)] [.int b] (o, ad, A, B) := by
            intro b hb
            subst hb
            refine bX4_settled_78.go rfl trivial ?_
            rw [nI_1]
            refine JS.weak (by simp [lsub]) (ih (fun k hk => ?_))
            rcases Nat.lt_succ_iff_lt_or_eq.mp hk with h | h
            · exact hI k h
            · rw [h, ← hz]; simp [h61]
          refine bX4_settled_66.go rfl trivial ?_
          refine j_icmp_ne (tgt := 76) dX4_settled_69 (by decide) (fun h69 => ?_) (fun h69 => ?_)
          · refine bX4_settled_76.go rfl trivial ?_
            exact nx _ (by simp only [anyN, ← hz, h69]; simp)
          · refine bX4_settled_72.go rfl trivial ?_
            exact nx _ (by simp only [anyN, ← hz, h69]; simp)
        · refine bX4_settled_64.go rfl trivial ?_
          refine t_iret dX4_settled_65 rfl (sv_int ?_) rfl
          have : anyN (fun i => decide (hasV (mcA A mn) (VA A) pn cn i = nI 1)) (v (56 + 33 * pn + 4)) = true := anyN_true.mpr ⟨i, hi, by rw [← hz]; simp [h61]⟩
          simp only [evV, hsee, eP, this]
          simp
      refine bX4_settled_21.go rfl (by simp (disch := omega) only [vpI]; exact ⟨⟨trivial, by omega, by omega⟩, trivial⟩) ?_
      refine j_icmp_ge (tgt := 86) dX4_settled_29 (by decide) (fun h29 => ?_) (fun h29 => ?_)
      · simp (disch := omega) only [nI_clamp, e4, nI_leI] at h29; omega
      · refine bX4_settled_32.go rfl (by simp (disch := omega) only [vpI]; exact ⟨⟨trivial, by omega, by omega, by omega⟩, trivial⟩) ?_
        simp (disch := omega) only [nI_clamp]
        refine j_icmp_ne (tgt := 55) dX4_settled_41 (by decide) (fun h41 => ?_) (fun h41 => ?_)
        · refine bX4_settled_55.go rfl trivial ?_
          exact j56 _ (by rw [hasV]; exact (if_neg h41).symm)
        · refine bX4_settled_44.go rfl (by exact ⟨⟨rfl, v, pn, i, mn, hw, hp, hi, hm, rfl, rfl, rfl⟩, trivial⟩) ?_
          simp (disch := omega) only [nI_clamp]
          exact j56 _ (by rw [hasV]; exact (if_pos h41).symm)
  · refine bX4_settled_13.go rfl trivial ?_
    have hsee : (mcA A mn).2.1 pn cn = false := by simp [mcA, seeA, h10]
    exact t_iret dX4_settled_14 rfl (sv_int (by rw [evV, if_pos hsee])) rfl
/-- the first pair that isn't known: 4 p + c, or -1 -/
def fuC (V : Nat → Nat → Int32) (p : Nat) : Nat → Nat → Option Nat
  | 0, _ => none
  | n + 1, c => if V p c = -1 then some (4 * p + c) else fuC V p n (c + 1)
def fuP (V : Nat → Nat → Int32) (nc : Nat) : Nat → Nat → Option Nat
  | 0, _ => none
  | n + 1, p => match fuC V p nc 0 with
    | some k => some k
    | none => fuP V nc n (p + 1)
def optI (k : Option Nat) : Int32 := match k with
  | none => -1
  | some k => nI k
def F_firstUnknown : Tau → Prop × Option Value × Tau := fun (o, ad, A, B) => (∃ v, WOk (A 1) v, some (.int (optI (fuP (VA A) (A 1 1).toNatClampNeg (A 1 2).toNatClampNeg 0))), (o, ad, A, B))
theorem bX4_firstUnknown_0 : Blk TP mX4_firstUnknown 0 2 [oC (nI 0), oIS 1] := blk_c (s_iconst dX4_firstUnknown_0 (by decide +kernel)) <| blk_c (s_istore_n dX4_firstUnknown_1 rfl (by decide)) <| blk_nil
theorem bX4_firstUnknown_2 : Blk TP mX4_firstUnknown 2 9 [oIL 1, oAL 0, tR 1, oC (nI 2), tAI 1 320] := blk_c (s_iload_n dX4_firstUnknown_2 rfl) <| blk_c (s_aload_n dX4_firstUnknown_3 rfl) <| blk_c (tgX4_1 rfl dX4_firstUnknown_4) <| blk_c (s_iconst dX4_firstUnknown_7 (by decide +kernel)) <| blk_c (t_iald rfl dX4_firstUnknown_8) <| blk_nil
theorem bX4_firstUnknown_12 : Blk TP mX4_firstUnknown 12 14 [oC (nI 0), oIS 2] := blk_c (s_iconst dX4_firstUnknown_12 (by decide +kernel)) <| blk_c (s_istore_n dX4_firstUnknown_13 rfl (by decide)) <| blk_nil
theorem bX4_firstUnknown_14 : Blk TP mX4_firstUnknown 14 21 [oIL 2, oAL 0, tR 1, oC (nI 1), tAI 1 320] := blk_c (s_iload_n dX4_firstUnknown_14 rfl) <| blk_c (s_aload_n dX4_firstUnknown_15 rfl) <| blk_c (tgX4_1 rfl dX4_firstUnknown_16) <| blk_c (s_iconst dX4_firstUnknown_19 (by decide +kernel)) <| blk_c (t_iald rfl dX4_firstUnknown_20) <| blk_nil
theorem bX4_firstUnknown_24 : Blk TP mX4_firstUnknown 24 35 [oAL 0, tR 30, oC (nI 4), oIL 1, oMul, oIL 2, oAdd, tAI 30 32, oC (-1)] := blk_c (s_aload_n dX4_firstUnknown_24 rfl) <| blk_c (tgX4_30 rfl dX4_firstUnknown_25) <| blk_c (s_iconst dX4_firstUnknown_28 (by decide +kernel)) <| blk_c (s_iload_n dX4_firstUnknown_29 rfl) <| blk_c (s_imul dX4_firstUnknown_30) <| blk_c (s_iload_n dX4_firstUnknown_31 rfl) <| blk_c (s_iadd dX4_firstUnknown_32) <| blk_c (t_iald rfl dX4_firstUnknown_33) <| blk_c (s_iconst dX4_firstUnknown_34 (by decide +kernel)) <| blk_nil
theorem bX4_firstUnknown_38 : Blk TP mX4_firstUnknown 38 43 [oC (nI 4), oIL 1, oMul, oIL 2, oAdd] := blk_c (s_iconst dX4_firstUnknown_38 (by decide +kernel)) <| blk_c (s_iload_n dX4_firstUnknown_39 rfl) <| blk_c (s_imul dX4_firstUnknown_40) <| blk_c (s_iload_n dX4_firstUnknown_41 rfl) <| blk_c (s_iadd dX4_firstUnknown_42) <| blk_nil
theorem bX4_firstUnknown_44 : Blk TP mX4_firstUnknown 44 14 [oInc 2 1, .inl (fun s => some s)] := blk_c (s_iinc dX4_firstUnknown_44 (by decide +kernel) (by decide)) <| blk_c (s_goto (tgt := 14) dX4_firstUnknown_47 (by decide)) <| blk_nil
theorem bX4_firstUnknown_50 : Blk TP mX4_firstUnknown 50 2 [oInc 1 1, .inl (fun s => some s)] := blk_c (s_iinc dX4_firstUnknown_50 (by decide +kernel) (by decide)) <| blk_c (s_goto (tgt := 2) dX4_firstUnknown_53 (by decide)) <| blk_nil
theorem bX4_firstUnknown_56 : Blk TP mX4_firstUnknown 56 57 [oC (-1)] := blk_c (s_iconst dX4_firstUnknown_56 (by decide +kernel)) <| blk_nil
theorem ok_firstUnknown : TC_V mX4_firstUnknown F_firstUnknown := by
  intro X ⟨o, ad, A, B⟩ P r y hF hP
  cases hF
  obtain ⟨v, hw⟩ := hP
  have h8 : v 2 ≤ 8 := hw.2.2.2.1
  have h4 : v 1 ≤ 4 := hw.2.2.1
  have e1 : A 1 1 = nI (v 1) := hw.1 1 (by decide)
  have e2 : A 1 2 = nI (v 2) := hw.1 2 (by decide)
  refine T_start (L := [some (.ref o), none, none]) 2 rfl ?_
  simp (disch := omega) only [e1, e2, nI_clamp]
  refine bX4_firstUnknown_0.go rfl trivial ?_
  refine loop_down (N := v 2) (I := fun p => fuP (VA A) (v 1) (v 2) 0 = fuP (VA A) (v 1) (v 2 - p) p) (P := fun p => JS TP X mX4_firstUnknown (rmOf mX4_firstUnknown.lv 0 0) _ 0 0 2 [some (.ref o), some (.int (nI p)), none] [] (o, ad, A, B)) ?_ ?_ 0 (by omega) rfl
  · intro hI
    refine bX4_firstUnknown_2.go rfl ⟨rfl, ⟨rfl, vp_in_nI (by decide) (by decide)⟩, trivial⟩ ?_
    refine j_icmp_ge (tgt := 56) dX4_firstUnknown_9 (by decide) (fun h9 => ?_) (fun h9 => ?_)
    · refine bX4_firstUnknown_56.go rfl trivial ?_
      refine t_iret dX4_firstUnknown_57 rfl (sv_int ?_) rfl
      rw [hI, Nat.sub_self]; rfl
    · simp (disch := omega) only [nI_clamp, e2, nI_leI] at h9; omega
  · intro p hp hI ih
    obtain ⟨n, hn⟩ : ∃ n, v 2 - p = n + 1 := ⟨v 2 - p - 1, by omega⟩
    refine bX4_firstUnknown_2.go rfl ⟨rfl, ⟨rfl, vp_in_nI (by decide) (by decide)⟩, trivial⟩ ?_
    refine j_icmp_ge (tgt := 56) dX4_firstUnknown_9 (by decide) (fun h9 => ?_) (fun h9 => ?_)
    · simp (disch := omega) only [nI_clamp, e2, nI_leI] at h9; omega
    · refine bX4_firstUnknown_12.go rfl trivial ?_
      refine loop_down (N := v 1) (I := fun c => fuC (VA A) p (v 1) 0 = fuC (VA A) p (v 1 - c) c) (P := fun c => JS TP X mX4_firstUnknown (rmOf mX4_firstUnknown.lv 0 0) _ 0 0 14 [some (.ref o), some (.int (nI p)), some (.int (nI c))] [] (o, ad, A, B)) ?_ ?_ 0 (by omega) rfl
      · intro hJ
        refine bX4_firstUnknown_14.go rfl ⟨rfl, ⟨rfl, vp_in_nI (by decide) (by decide)⟩, trivial⟩ ?_
        refine j_icmp_ge (tgt := 50) dX4_firstUnknown_21 (by decide) (fun h21 => ?_) (fun h21 => ?_)
        · refine bX4_firstUnknown_50.go rfl trivial ?_
          rw [nI_1]
          refine JS.weak (by simp [lsub]) (ih ?_)
          rw [hI, hn, fuP, hJ, Nat.sub_self, show v 2 - (p + 1) = n by omega]; rfl
        · simp (disch := omega) only [nI_clamp, e1, nI_leI] at h21; omega
      · intro c hc hJ ih2
        obtain ⟨n', hn'⟩ : ∃ n, v 1 - c = n + 1 := ⟨v 1 - c - 1, by omega⟩
        refine bX4_firstUnknown_14.go rfl ⟨rfl, ⟨rfl, vp_in_nI (by decide) (by decide)⟩, trivial⟩ ?_
        refine j_icmp_ge (tgt := 50) dX4_firstUnknown_21 (by decide) (fun h21 => ?_) (fun h21 => ?_)
        · simp (disch := omega) only [nI_clamp, e1, nI_leI] at h21; omega
        · refine bX4_firstUnknown_24.go rfl (by simp (disch := omega) only [nI_add, pk_mul, vpI]; exact ⟨trivial, ⟨trivial, by omega⟩, trivial⟩) ?_
          simp (disch := omega) only [nI_add, pk_mul, nI_clamp]
          refine j_icmp_ne (tgt := 44) dX4_firstUnknown_35 (by decide) (fun h35 => ?_) (fun h35 => ?_)
          · refine bX4_firstUnknown_44.go rfl trivial ?_
            rw [nI_1]
            refine ih2 ?_
            rw [hJ, hn', fuC, if_neg (show ¬ VA A p c = -1 from h35), show v 1 - (c + 1) = n' by omega]
          · refine bX4_firstUnknown_38.go rfl trivial ?_
            refine t_iret dX4_firstUnknown_43 rfl (sv_int ?_) rfl
            rw [hI, hn, fuP, hJ, hn', fuC, if_pos (show VA A p c = -1 from h35)]
            simp only [nI_add, pk_mul, optI]
