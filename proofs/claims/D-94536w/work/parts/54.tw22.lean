set_option maxRecDepth 100000
/-! ===== UnseenClockModel: others called away; call, without ===== -/
/-- the world row with others away -/
def gnW (w : Nat → Int32) (x : Int32) : Nat → Int32 := va_up w 7 x
theorem WOk.gn {w : Nat → Int32} {v : Nat → Nat} (h : WOk w v) {x : Nat} (hx : x < 256) : WOk (gnW w (nI x)) (va_up v 7 x) := by
  obtain ⟨h1, h2⟩ := h
  refine ⟨fun k hk => ?_, ?_⟩
  · by_cases e : k = 7
    · subst e; unfold gnW; rw [va_up_self, va_up_self]
    · unfold gnW; rw [va_up_ne _ _ e, va_up_ne _ _ e, h1 k hk]
  · obtain ⟨a0, a1, a2, a3, a4, a5, a6, a7, a8⟩ := h2
    simp (disch := omega) only [VOk, KOk, POk, va_up_ne, va_up_self]
    exact ⟨a0, a1, a2, a3, a4, a5, a6, hx, a8⟩
theorem gnW_ne {w : Nat → Int32} {x : Int32} {k : Nat} (h : k ≠ 7) : gnW w x k = w k := va_up_ne _ _ h
theorem gnW_at {w : Nat → Int32} {x : Int32} : gnW w x 7 = x := va_up_self _ _ _
theorem gnW_back (w : Nat → Int32) (x : Int32) : va_up (gnW w x) 7 (w 7) = w := by
  funext k
  by_cases e : k = 7
  · subst e; rw [va_up_self]
  · rw [va_up_ne _ _ e, gnW_ne e]
theorem Keeps2.back {A A2 : Nat → Nat → Int32} {B B2 : Nat → Nat → Int64} {x : Int32} (h : Keeps2 (upA A 1 7 x) B A2 B2) : Keeps2 A B (upA A2 1 7 (A 1 7)) B2 := by
  obtain ⟨a1, a2, a3, a4, a5, a6, a7, a8, a9, a10⟩ := h
  refine ⟨?_, ?_, ?_, ?_, ?_, ?_, ?_, ?_, ?_, a10⟩
  · rw [upA, va_up_self, a1, upA, va_up_self]; exact gnW_back _ _
  all_goals rw [upA_ne (by decide)]
  · exact a2
  · exact a3
  · exact a4
  · exact a5
  · exact a6
  · exact a7
  · exact a8
  · exact a9
theorem or_g : ∀ a, a < 256 → ∀ p, p < 8 → (nI a ||| nI 1 <<< (nI p &&& 31)) = nI (a ||| 2 ^ p) ∧ a ||| 2 ^ p < 256 := by decide +kernel
theorem an_g : ∀ a, a < 256 → ∀ p, p < 8 → (nI a &&& ((nI 1 <<< (nI p &&& 31)) ^^^ -1)) = nI (a &&& (255 - 2 ^ p)) ∧ a &&& (255 - 2 ^ p) < 256 := by decide +kernel
def q_without (w : Nat → Int32) (p c m : Int32) : Int32 := if (pB w p && (cB w c && tB w m)) = true then showsP (gnW w (w 7 ||| nI 1 <<< (p &&& 31))) c.toNatClampNeg m.toNatClampNeg else -2
theorem bX4_without_0 : Blk TP mX4_without 0 5 [oAL 0, oIL 1, tC_I F_isPerson] := blk_c (s_aload_n dX4_without_0 rfl) <| blk_c (s_iload_n dX4_without_1 rfl) <| blk_c (tc_I ok_isPerson gX4_isPerson (by decide +kernel) (by decide) dX4_without_2) <| blk_nil
theorem bX4_without_8 : Blk TP mX4_without 8 13 [oAL 0, oIL 2, tC_I F_isClock] := blk_c (s_aload_n dX4_without_8 rfl) <| blk_c (s_iload_n dX4_without_9 rfl) <| blk_c (tc_I ok_isClock gX4_isClock (by decide +kernel) (by decide) dX4_without_10) <| blk_nil
theorem bX4_without_16 : Blk TP mX4_without 16 21 [oAL 0, oIL 3, tC_I F_isTime] := blk_c (s_aload_n dX4_without_16 rfl) <| blk_c (s_iload_n dX4_without_17 rfl) <| blk_c (tc_I ok_isTime gX4_isTime (by decide +kernel) (by decide) dX4_without_18) <| blk_nil
theorem bX4_without_24 : Blk TP mX4_without 24 26 [oC (-2)] := blk_c (s_bipush dX4_without_24 (by decide +kernel)) <| blk_nil
theorem bX4_without_27 : Blk TP mX4_without 27 50 [oAL 0, tR 1, oC (nI 7), tAI 1 320, oIS 4, oAL 0, tR 1, oC (nI 7), oIL 4, oC (nI 1), oIL 1, oShl, oOr, tSI 1 320, oAL 0] := blk_c (s_aload_n dX4_without_27 rfl) <| blk_c (tgX4_1 rfl dX4_without_28) <| blk_c (s_bipush dX4_without_31 (by decide +kernel)) <| blk_c (t_iald rfl dX4_without_33) <| blk_c (s_istore dX4_without_34 (by decide)) <| blk_c (s_aload_n dX4_without_36 rfl) <| blk_c (tgX4_1 rfl dX4_without_37) <| blk_c (s_bipush dX4_without_40 (by decide +kernel)) <| blk_c (s_iload dX4_without_42) <| blk_c (s_iconst dX4_without_44 (by decide +kernel)) <| blk_c (s_iload_n dX4_without_45 rfl) <| blk_c (s_ishl dX4_without_46) <| blk_c (s_ior dX4_without_47) <| blk_c (t_iast rfl dX4_without_48) <| blk_c (s_aload_n dX4_without_49 rfl) <| blk_nil
theorem bX4_without_53 : Blk TP mX4_without 53 68 [oAL 0, tR 1, oC (nI 7), oIL 4, tSI 1 320, oAL 0, oIL 2, oIL 3, tC_II F_shownAt] := blk_c (s_aload_n dX4_without_53 rfl) <| blk_c (tgX4_1 rfl dX4_without_54) <| blk_c (s_bipush dX4_without_57 (by decide +kernel)) <| blk_c (s_iload dX4_without_59) <| blk_c (t_iast rfl dX4_without_61) <| blk_c (s_aload_n dX4_without_62 rfl) <| blk_c (s_iload_n dX4_without_63 rfl) <| blk_c (s_iload_n dX4_without_64 rfl) <| blk_c (tc_II ok_shownAt gX4_shownAt (by decide +kernel) (by decide) dX4_without_65) <| blk_nil
theorem ok_without : RC_III mX4_without (fun _ _ _ A B => Pre_runs A B) (fun p c m A B => Qq (q_without (A 1) p c m) A B) := by
  intro X p c m o ad A B hpre
  obtain ⟨v, hw⟩ := id hpre
  have h6 : v 6 ≤ 40 := hw.2.2.2.2.2.2.2.1
  have h8 : v 2 ≤ 8 := hw.2.2.2.1
  have h4 : v 1 ≤ 4 := hw.2.2.1
  have h7 : v 7 < 256 := hw.2.2.2.2.2.2.2.2.1
  have e7 : A 1 7 = nI (v 7) := hw.1 7 (by decide)
  have main : (pB (A 1) p && (cB (A 1) c && tB (A 1) m)) = true → JS TP X mX4_without (rmOf mX4_without.lv 0 0) (ZR X o ad (Qq (q_without (A 1) p c m) A B)) 0 0 27 [some (.ref o), some (.int p), some (.int c), some (.int m), none] [] (o, ad, A, B) := by
    intro hg
    rw [q_without, if_pos hg]
    simp only [Bool.and_eq_true] at hg
    obtain ⟨pn, hp, rfl⟩ := hw.pOf hg.1
    obtain ⟨cn, hc, rfl⟩ := hw.cOf hg.2.1
    obtain ⟨mn, hm, rfl⟩ := hw.tOf hg.2.2
    obtain ⟨og, ol⟩ := or_g (v 7) h7 pn (by omega)
    rw [nI_clamp (by omega), nI_clamp (by omega), e7, og]
    have hw' := hw.gn ol
    refine bX4_without_27.go rfl ⟨rfl, ⟨rfl, vp_in_nI (by decide) (by decide)⟩, rfl, ⟨rfl, vp_in_nI (by decide) (by decide)⟩, trivial⟩ ?_
    simp (disch := omega) only [nI_clamp, e7, og]
    refine rc_V ok_plain gX4_plain dX4_without_50 rfl ⟨_, by rw [upA, va_up_self]; exact hw'⟩ (fun r A1 B1 q => ?_)
    obtain ⟨rfl, hk, hq⟩ := q
    rw [upA, va_up_self] at hq
    have hC := hq _ hw'
    have hkb := hk.back
    rw [e7] at hkb
    refine bX4_without_53.go rfl (by simp (disch := omega) only [vpI, nI_clamp, hkb.1]; exact ⟨trivial, ⟨trivial, by omega⟩, ⟨trivial, by omega, by omega, hw.clock hc⟩, trivial⟩) ?_
    simp (disch := omega) only [nI_clamp, hkb.1]
    refine r_iret dX4_without_68 rfl ⟨ans ?_, hkb⟩
    rw [upA_ne (by decide), hC.2.2.2.1 mn (by rw [va_up_ne _ _ (by decide)]; exact hm) cn (by rw [va_up_ne _ _ (by decide)]; exact hc)]
    unfold showsP shW
    rw [gnW_ne (by omega), gnW_ne (by omega)]
    rfl
  refine R_start (L := [some (.ref o), some (.int p), some (.int c), some (.int m), none]) 1 rfl ?_
  refine bX4_without_0.go rfl (by exact ⟨⟨rfl, trivial⟩, trivial⟩) ?_
  refine j_if_eq (tgt := 24) dX4_without_5 (by decide) (fun h5 => ?_) (fun h5 => ?_)
  · refine bX4_without_24.go rfl trivial ?_
    refine r_iret dX4_without_26 rfl ?_
    exact ⟨ans (by clear main; simp only [b2_0, b2_n0] at *; simp_all [q_without, pB, cB, tB]), Keeps2.rf⟩
  · refine bX4_without_8.go rfl (by exact ⟨⟨rfl, trivial⟩, trivial⟩) ?_
    refine j_if_eq (tgt := 24) dX4_without_13 (by decide) (fun h13 => ?_) (fun h13 => ?_)
    · refine bX4_without_24.go rfl trivial ?_
      refine r_iret dX4_without_26 rfl ?_
      exact ⟨ans (by clear main; simp only [b2_0, b2_n0] at *; simp_all [q_without, pB, cB, tB]), Keeps2.rf⟩
    · refine bX4_without_16.go rfl (by exact ⟨⟨rfl, trivial⟩, trivial⟩) ?_
      refine j_if_ne (tgt := 27) dX4_without_21 (by decide) (fun h21 => ?_) (fun h21 => ?_)
      · exact main (by clear main; simp only [b2_0, b2_n0] at *; simp_all [pB, cB, tB])
      · refine bX4_without_24.go rfl trivial ?_
        refine r_iret dX4_without_26 rfl ?_
        exact ⟨ans (by clear main; simp only [b2_0, b2_n0] at *; simp_all [q_without, pB, cB, tB]), Keeps2.rf⟩
/-- what a call leaves of the world row -/
def c_call (w : Nat → Int32) (p b : Int32) : Nat → Int32 := if pB w p = true then gnW w (if b = 0 then w 7 &&& ((nI 1 <<< (p &&& 31)) ^^^ -1) else w 7 ||| nI 1 <<< (p &&& 31)) else w
def q_call (w : Nat → Int32) (p b : Int32) : Int32 := if pB w p = true then (if w 7 = c_call w p b 7 then nI 0 else nI 1) else -2
theorem c_call_ok {w : Nat → Int32} (p b : Int32) (h : ∃ v, WOk w v) : ∃ v, WOk (c_call w p b) v := by
  obtain ⟨v, hw⟩ := h
  unfold c_call
  have h7 : v 7 < 256 := hw.2.2.2.2.2.2.2.2.1
  have h8 : v 2 ≤ 8 := hw.2.2.2.1
  split
  · rename_i hg
    obtain ⟨pn, hp, rfl⟩ := hw.pOf hg
    rw [hw.1 7 (by decide)]
    obtain ⟨og, ol⟩ := or_g (v 7) h7 pn (by omega)
    obtain ⟨ag, al⟩ := an_g (v 7) h7 pn (by omega)
    rw [og, ag]
    split
    · exact ⟨_, hw.gn al⟩
    · exact ⟨_, hw.gn ol⟩
  · exact ⟨v, hw⟩
theorem bX4_call_0 : Blk TP mX4_call 0 5 [oAL 0, oIL 1, tC_I F_isPerson] := blk_c (s_aload_n dX4_call_0 rfl) <| blk_c (s_iload_n dX4_call_1 rfl) <| blk_c (tc_I ok_isPerson gX4_isPerson (by decide +kernel) (by decide) dX4_call_2) <| blk_nil
theorem bX4_call_8 : Blk TP mX4_call 8 10 [oC (-2)] := blk_c (s_bipush dX4_call_8 (by decide +kernel)) <| blk_nil
theorem bX4_call_11 : Blk TP mX4_call 11 26 [oAL 0, tR 1, oC (nI 7), tAI 1 320, oIS 3, oAL 0, tR 1, oC (nI 7), oIL 2] := blk_c (s_aload_n dX4_call_11 rfl) <| blk_c (tgX4_1 rfl dX4_call_12) <| blk_c (s_bipush dX4_call_15 (by decide +kernel)) <| blk_c (t_iald rfl dX4_call_17) <| blk_c (s_istore_n dX4_call_18 rfl (by decide)) <| blk_c (s_aload_n dX4_call_19 rfl) <| blk_c (tgX4_1 rfl dX4_call_20) <| blk_c (s_bipush dX4_call_23 (by decide +kernel)) <| blk_c (s_iload_n dX4_call_25 rfl) <| blk_nil
theorem bX4_call_29 : Blk TP mX4_call 29 44 [oIL 3, oC (nI 1), oIL 1, oShl, oOr, .inl (fun s => some s)] := blk_c (s_iload_n dX4_call_29 rfl) <| blk_c (s_iconst dX4_call_30 (by decide +kernel)) <| blk_c (s_iload_n dX4_call_31 rfl) <| blk_c (s_ishl dX4_call_32) <| blk_c (s_ior dX4_call_33) <| blk_c (s_goto (tgt := 44) dX4_call_34 (by decide)) <| blk_nil
theorem bX4_call_37 : Blk TP mX4_call 37 44 [oIL 3, oC (nI 1), oIL 1, oShl, oC (-1), oXor, oAnd] := blk_c (s_iload_n dX4_call_37 rfl) <| blk_c (s_iconst dX4_call_38 (by decide +kernel)) <| blk_c (s_iload_n dX4_call_39 rfl) <| blk_c (s_ishl dX4_call_40) <| blk_c (s_iconst dX4_call_41 (by decide +kernel)) <| blk_c (s_ixor dX4_call_42) <| blk_c (s_iand dX4_call_43) <| blk_nil
theorem bX4_call_44 : Blk TP mX4_call 44 53 [tSI 1 320, oIL 3, oAL 0, tR 1, oC (nI 7), tAI 1 320] := blk_c (t_iast rfl dX4_call_44) <| blk_c (s_iload_n dX4_call_45 rfl) <| blk_c (s_aload_n dX4_call_46 rfl) <| blk_c (tgX4_1 rfl dX4_call_47) <| blk_c (s_bipush dX4_call_50 (by decide +kernel)) <| blk_c (t_iald rfl dX4_call_52) <| blk_nil
theorem bX4_call_56 : Blk TP mX4_call 56 61 [oC (nI 0), .inl (fun s => some s)] := blk_c (s_iconst dX4_call_56 (by decide +kernel)) <| blk_c (s_goto (tgt := 61) dX4_call_57 (by decide)) <| blk_nil
theorem bX4_call_60 : Blk TP mX4_call 60 61 [oC (nI 1)] := blk_c (s_iconst dX4_call_60 (by decide +kernel)) <| blk_nil
theorem ok_call : RC_II mX4_call (fun _ _ A B => Pre_runs A B) (fun p b A B => fun r A' B' => r = some (.int (q_call (A 1) p b)) ∧ B' = B ∧ (∀ k, k ≠ 1 → A' k = A k) ∧ A' 1 = c_call (A 1) p b) := by
  intro X p b o ad A B hpre
  refine R_start (L := [some (.ref o), some (.int p), some (.int b), none]) 1 rfl ?_
  refine bX4_call_0.go rfl ⟨⟨rfl, trivial⟩, trivial⟩ ?_
  refine j_if_ne (tgt := 11) dX4_call_5 (by decide) (fun h5 => ?_) (fun h5 => ?_)
  · rw [b2_n0] at h5
    have h5 : pB (A 1) p = true := h5
    have j44 : ∀ z, z = c_call (A 1) p b 7 → JS TP X mX4_call (rmOf mX4_call.lv 0 0) (ZR X o ad (fun r A' B' => r = some (.int (q_call (A 1) p b)) ∧ B' = B ∧ (∀ k, k ≠ 1 → A' k = A k) ∧ A' 1 = c_call (A 1) p b)) 0 0 44 [some (.ref o), some (.int p), some (.int b), some (.int (A 1 7))] [.int z, .int (nI 7), .ref (ad 1)] (o, ad, A, B) := by
      intro z hz
      refine bX4_call_44.go rfl (by simp (disch := omega) only [vpI]; exact ⟨⟨trivial, by omega⟩, trivial, ⟨trivial, by omega⟩, trivial⟩) ?_
      simp (disch := omega) only [nI_clamp]
      have e1 : upA A 1 7 z 1 = c_call (A 1) p b := by
        rw [upA, va_up_self, hz, c_call, if_pos h5, gnW_at]; rfl
      refine j_icmp_ne (tgt := 60) dX4_call_53 (by decide) (fun h53 => ?_) (fun h53 => ?_)
      · refine bX4_call_60.go rfl trivial ?_
        refine r_iret dX4_call_61 rfl ⟨ans ?_, rfl, fun k hk => upA_ne hk, e1⟩
        rw [e1] at h53
        rw [q_call, if_pos h5, if_neg h53]
      · refine bX4_call_56.go rfl trivial ?_
        refine r_iret dX4_call_61 rfl ⟨ans ?_, rfl, fun k hk => upA_ne hk, e1⟩
        rw [e1] at h53
        rw [q_call, if_pos h5, if_pos h53]
    refine bX4_call_11.go rfl (by simp (disch := omega) only [vpI]; exact ⟨trivial, ⟨trivial, by omega⟩, trivial, trivial⟩) ?_
    simp (disch := omega) only [nI_clamp]
    refine j_if_eq (tgt := 37) dX4_call_26 (by decide) (fun h26 => ?_) (fun h26 => ?_)
    · refine bX4_call_37.go rfl trivial ?_
      exact j44 _ (by rw [c_call, if_pos h5, gnW_at, if_pos h26])
    · refine bX4_call_29.go rfl trivial ?_
      exact j44 _ (by rw [c_call, if_pos h5, gnW_at, if_neg h26])
  · rw [b2_0] at h5
    refine bX4_call_8.go rfl trivial ?_
    have h5 : ¬ pB (A 1) p = true := by simp only [pB, h5]; decide
    exact r_iret dX4_call_10 rfl ⟨ans (by rw [q_call, if_neg h5]), rfl, fun _ _ => rfl, by rw [c_call, if_neg h5]⟩
