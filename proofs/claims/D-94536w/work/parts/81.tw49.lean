set_option maxRecDepth 100000
/-! ===== UnseenClockModel: isAlikeTill, isAlike, commonOf ===== -/
/-- two courses are the same to somebody: what he looks at, what it shows -/
def alS (nc : Nat) (la lb : Nat → Int32) (sa sb : Nat → Nat → Int32) (t : Nat) : Bool := allN (fun m => decide (la m = lb m) && allN (fun c => !bitI (la m) c || decide (sa c m = sb c m)) nc) t
def alC (w : Nat → Int32) (p a b t : Nat) : Bool := alS (nC w) (fun m => lkC w a m p) (fun m => lkC w b m p) (shC w a) (shC w b) t
theorem alC_eq {w : Nat → Int32} {v : Nat → Nat} (hw : WOk w v) {A : Nat → Nat → Int32} {N a b p t : Nat} (hC : CoA A v w N) (ha : a < N) (hb : b < N) (hp : p < 8) (ht : t ≤ v 6) : alS (nC w) (fun m => A 33 (320 * a + 8 * m + p)) (fun m => A 33 (320 * b + 8 * m + p)) (fun c m => A 32 (164 * a + 4 * m + c)) (fun c m => A 32 (164 * b + 4 * m + c)) t = alC w p a b t := by
  refine allN_congr (fun m hm => ?_)
  show (decide (A 33 (320 * a + 8 * m + p) = A 33 (320 * b + 8 * m + p)) && allN (fun c => !bitI (A 33 (320 * a + 8 * m + p)) c || decide (A 32 (164 * a + 4 * m + c) = A 32 (164 * b + 4 * m + c))) (nC w)) = _
  rw [(hC.2 a ha).2 m (by omega) p hp, (hC.2 b hb).2 m (by omega) p hp]
  congr 1
  refine allN_congr (fun c hc => ?_)
  rw [hw.ncE] at hc
  show (!bitI (lkC w a m p) c || decide (A 32 (164 * a + 4 * m + c) = A 32 (164 * b + 4 * m + c))) = _
  rw [(hC.2 a ha).1 m (by omega) c hc, (hC.2 b hb).1 m (by omega) c hc]
def F_isAlikeTill (p a b t : Int32) : Tau → Prop × Option Value × Tau := fun (o, ad, A, B) => (vp_in p 8 ∧ vp_in a 128 ∧ vp_in b 128 ∧ (∃ tn, tn ≤ 40 ∧ t = nI tn) ∧ ∃ v, WOk (A 1) v, some (.int (b2 (alS (nC (A 1)) (fun m => A 33 (320 * a.toNatClampNeg + 8 * m + p.toNatClampNeg)) (fun m => A 33 (320 * b.toNatClampNeg + 8 * m + p.toNatClampNeg)) (fun c m => A 32 (164 * a.toNatClampNeg + 4 * m + c)) (fun c m => A 32 (164 * b.toNatClampNeg + 4 * m + c)) t.toNatClampNeg))), (o, ad, A, B))
theorem bX4_isAlikeTill_0 : Blk TP mX4_isAlikeTill 0 3 [oC (nI 0), oIS 5] := blk_c (s_iconst dX4_isAlikeTill_0 (by decide +kernel)) <| blk_c (s_istore dX4_isAlikeTill_1 (by decide)) <| blk_nil
theorem bX4_isAlikeTill_3 : Blk TP mX4_isAlikeTill 3 7 [oIL 5, oIL 4] := blk_c (s_iload dX4_isAlikeTill_3) <| blk_c (s_iload dX4_isAlikeTill_5) <| blk_nil
theorem bX4_isAlikeTill_10 : Blk TP mX4_isAlikeTill 10 50 [oAL 0, tR 33, oC (nI 320), oIL 2, oMul, oC (nI 8), oIL 5, oMul, oAdd, oIL 1, oAdd, tAI 33 40960, oIS 6, oIL 6, oAL 0, tR 33, oC (nI 320), oIL 3, oMul, oC (nI 8), oIL 5, oMul, oAdd, oIL 1, oAdd, tAI 33 40960] := blk_c (s_aload_n dX4_isAlikeTill_10 rfl) <| blk_c (tgX4_33 rfl dX4_isAlikeTill_11) <| blk_c (s_sipush dX4_isAlikeTill_14 (by decide +kernel)) <| blk_c (s_iload_n dX4_isAlikeTill_17 rfl) <| blk_c (s_imul dX4_isAlikeTill_18) <| blk_c (s_bipush dX4_isAlikeTill_19 (by decide +kernel)) <| blk_c (s_iload dX4_isAlikeTill_21) <| blk_c (s_imul dX4_isAlikeTill_23) <| blk_c (s_iadd dX4_isAlikeTill_24) <| blk_c (s_iload_n dX4_isAlikeTill_25 rfl) <| blk_c (s_iadd dX4_isAlikeTill_26) <| blk_c (t_iald rfl dX4_isAlikeTill_27) <| blk_c (s_istore dX4_isAlikeTill_28 (by decide)) <| blk_c (s_iload dX4_isAlikeTill_30) <| blk_c (s_aload_n dX4_isAlikeTill_32 rfl) <| blk_c (tgX4_33 rfl dX4_isAlikeTill_33) <| blk_c (s_sipush dX4_isAlikeTill_36 (by decide +kernel)) <| blk_c (s_iload_n dX4_isAlikeTill_39 rfl) <| blk_c (s_imul dX4_isAlikeTill_40) <| blk_c (s_bipush dX4_isAlikeTill_41 (by decide +kernel)) <| blk_c (s_iload dX4_isAlikeTill_43) <| blk_c (s_imul dX4_isAlikeTill_45) <| blk_c (s_iadd dX4_isAlikeTill_46) <| blk_c (s_iload_n dX4_isAlikeTill_47 rfl) <| blk_c (s_iadd dX4_isAlikeTill_48) <| blk_c (t_iald rfl dX4_isAlikeTill_49) <| blk_nil
theorem bX4_isAlikeTill_53 : Blk TP mX4_isAlikeTill 53 54 [oC (nI 0)] := blk_c (s_iconst dX4_isAlikeTill_53 (by decide +kernel)) <| blk_nil
theorem bX4_isAlikeTill_55 : Blk TP mX4_isAlikeTill 55 58 [oC (nI 0), oIS 7] := blk_c (s_iconst dX4_isAlikeTill_55 (by decide +kernel)) <| blk_c (s_istore dX4_isAlikeTill_56 (by decide)) <| blk_nil
theorem bX4_isAlikeTill_58 : Blk TP mX4_isAlikeTill 58 66 [oIL 7, oAL 0, tR 1, oC (nI 1), tAI 1 320] := blk_c (s_iload dX4_isAlikeTill_58) <| blk_c (s_aload_n dX4_isAlikeTill_60 rfl) <| blk_c (tgX4_1 rfl dX4_isAlikeTill_61) <| blk_c (s_iconst dX4_isAlikeTill_64 (by decide +kernel)) <| blk_c (t_iald rfl dX4_isAlikeTill_65) <| blk_nil
theorem bX4_isAlikeTill_69 : Blk TP mX4_isAlikeTill 69 77 [oIL 6, oIL 7, oShr, oC (nI 1), oAnd, oC (nI 1)] := blk_c (s_iload dX4_isAlikeTill_69) <| blk_c (s_iload dX4_isAlikeTill_71) <| blk_c (s_ishr dX4_isAlikeTill_73) <| blk_c (s_iconst dX4_isAlikeTill_74 (by decide +kernel)) <| blk_c (s_iand dX4_isAlikeTill_75) <| blk_c (s_iconst dX4_isAlikeTill_76 (by decide +kernel)) <| blk_nil
theorem bX4_isAlikeTill_80 : Blk TP mX4_isAlikeTill 80 98 [oAL 0, oIL 2, oIL 7, oIL 5, tC_III F_shownIn, oAL 0, oIL 3, oIL 7, oIL 5, tC_III F_shownIn] := blk_c (s_aload_n dX4_isAlikeTill_80 rfl) <| blk_c (s_iload_n dX4_isAlikeTill_81 rfl) <| blk_c (s_iload dX4_isAlikeTill_82) <| blk_c (s_iload dX4_isAlikeTill_84) <| blk_c (tc_III ok_shownIn gX4_shownIn (by decide +kernel) (by decide) dX4_isAlikeTill_86) <| blk_c (s_aload_n dX4_isAlikeTill_89 rfl) <| blk_c (s_iload_n dX4_isAlikeTill_90 rfl) <| blk_c (s_iload dX4_isAlikeTill_91) <| blk_c (s_iload dX4_isAlikeTill_93) <| blk_c (tc_III ok_shownIn gX4_shownIn (by decide +kernel) (by decide) dX4_isAlikeTill_95) <| blk_nil
theorem bX4_isAlikeTill_101 : Blk TP mX4_isAlikeTill 101 102 [oC (nI 0)] := blk_c (s_iconst dX4_isAlikeTill_101 (by decide +kernel)) <| blk_nil
theorem bX4_isAlikeTill_103 : Blk TP mX4_isAlikeTill 103 58 [oInc 7 1, .inl (fun s => some s)] := blk_c (s_iinc dX4_isAlikeTill_103 (by decide +kernel) (by decide)) <| blk_c (s_goto (tgt := 58) dX4_isAlikeTill_106 (by decide)) <| blk_nil
theorem bX4_isAlikeTill_109 : Blk TP mX4_isAlikeTill 109 3 [oInc 5 1, .inl (fun s => some s)] := blk_c (s_iinc dX4_isAlikeTill_109 (by decide +kernel) (by decide)) <| blk_c (s_goto (tgt := 3) dX4_isAlikeTill_112 (by decide)) <| blk_nil
theorem bX4_isAlikeTill_115 : Blk TP mX4_isAlikeTill 115 116 [oC (nI 1)] := blk_c (s_iconst dX4_isAlikeTill_115 (by decide +kernel)) <| blk_nil
theorem ok_isAlikeTill : TC_IIII mX4_isAlikeTill F_isAlikeTill := by
  intro X p a b t ⟨o, ad, A, B⟩ P r y hF hP
  cases hF
  obtain ⟨h1, h2, h3, ⟨tn, ht, rfl⟩, v, hw⟩ := hP
  obtain ⟨p, hp, rfl⟩ := vp_in_of h1 (by decide)
  obtain ⟨a, ha, rfl⟩ := vp_in_of h2 (by decide)
  obtain ⟨b, hb, rfl⟩ := vp_in_of h3 (by decide)
  have h4 : v 1 ≤ 4 := hw.2.2.1
  have e1 : A 1 1 = nI (v 1) := hw.1 1 (by decide)
  refine T_start (L := [some (.ref o), some (.int (nI p)), some (.int (nI a)), some (.int (nI b)), some (.int (nI tn)), none, none, none]) 3 rfl ?_
  simp (disch := omega) only [nI_clamp, hw.ncE]
  generalize hR : alS (v 1) (fun m => A 33 (320 * a + 8 * m + p)) (fun m => A 33 (320 * b + 8 * m + p)) (fun c m => A 32 (164 * a + 4 * m + c)) (fun c m => A 32 (164 * b + 4 * m + c)) tn = R0
  refine bX4_isAlikeTill_0.go rfl trivial ?_
  refine loop_down (N := tn) (I := fun j => ∀ m, m < j → (decide (A 33 (320 * a + 8 * m + p) = A 33 (320 * b + 8 * m + p)) && allN (fun c => !bitI (A 33 (320 * a + 8 * m + p)) c || decide (A 32 (164 * a + 4 * m + c) = A 32 (164 * b + 4 * m + c))) (v 1)) = true) (P := fun j => JS TP X mX4_isAlikeTill (rmOf mX4_isAlikeTill.lv 0 0) (TZ X (some (.int (b2 R0))) (o, ad, A, B)) 0 0 3 [some (.ref o), some (.int (nI p)), some (.int (nI a)), some (.int (nI b)), some (.int (nI tn)), some (.int (nI j)), none, none] [] (o, ad, A, B)) ?_ ?_ 0 (Nat.zero_le _) (fun m h => by omega)
  · intro hI
    refine bX4_isAlikeTill_3.go rfl trivial ?_
    refine j_icmp_ge (tgt := 115) dX4_isAlikeTill_7 (by decide) (fun h7 => ?_) (fun h7 => absurd (nI_le (Nat.le_refl _) (by omega)) h7)
    refine bX4_isAlikeTill_115.go rfl trivial ?_
    exact t_zret dX4_isAlikeTill_116 rfl rfl (sv_int (b2_t (by rw [← hR]; exact allN_true.mpr hI))) rfl
  · intro m hm hI ih
    have no : (decide (A 33 (320 * a + 8 * m + p) = A 33 (320 * b + 8 * m + p)) && allN (fun c => !bitI (A 33 (320 * a + 8 * m + p)) c || decide (A 32 (164 * a + 4 * m + c) = A 32 (164 * b + 4 * m + c))) (v 1)) = false → R0 = false := fun h => by rw [← hR]; exact allN_false hm h
    refine bX4_isAlikeTill_3.go rfl trivial ?_
    refine j_icmp_ge (tgt := 115) dX4_isAlikeTill_7 (by decide) (fun h7 => ?_) (fun h7 => ?_)
    · simp (disch := omega) only [nI_leI] at h7; omega
    · refine bX4_isAlikeTill_10.go rfl (by simp (disch := omega) only [nI_add, pk_mul, vpI]; exact ⟨trivial, ⟨trivial, by omega⟩, trivial, ⟨trivial, by omega⟩, trivial⟩) ?_
      simp (disch := omega) only [nI_add, pk_mul, nI_clamp]
      refine j_icmp_eq (tgt := 55) dX4_isAlikeTill_50 (by decide) (fun h50 => ?_) (fun h50 => ?_)
      · refine bX4_isAlikeTill_55.go rfl trivial ?_
        refine loop_down (N := v 1) (I := fun j => ∀ c, c < j → (!bitI (A 33 (320 * a + 8 * m + p)) c || decide (A 32 (164 * a + 4 * m + c) = A 32 (164 * b + 4 * m + c))) = true) (P := fun j => JS TP X mX4_isAlikeTill (rmOf mX4_isAlikeTill.lv 0 0) (TZ X (some (.int (b2 R0))) (o, ad, A, B)) 0 0 58 [some (.ref o), some (.int (nI p)), some (.int (nI a)), some (.int (nI b)), some (.int (nI tn)), some (.int (nI m)), some (.int (A 33 (320 * a + 8 * m + p))), some (.int (nI j))] [] (o, ad, A, B)) ?_ ?_ 0 (Nat.zero_le _) (fun m h => by omega)
        · intro hJ
          refine bX4_isAlikeTill_58.go rfl (by exact ⟨rfl, ⟨rfl, vp_in_nI (by decide) (by decide)⟩, trivial⟩) ?_
          simp (disch := omega) only [nI_clamp, e1]
          refine j_icmp_ge (tgt := 109) dX4_isAlikeTill_66 (by decide) (fun h66 => ?_) (fun h66 => absurd (nI_le (Nat.le_refl _) (by omega)) h66)
          refine bX4_isAlikeTill_109.go rfl trivial ?_
          rw [nI_1]
          refine JS.weak (L' := [some (.ref o), some (.int (nI p)), some (.int (nI a)), some (.int (nI b)), some (.int (nI tn)), some (.int (nI (m + 1))), none, none]) (by simp [lsub]) (ih (fun j hj => ?_))
          by_cases e : j = m
          · subst e
            rw [decide_eq_true h50, allN_true.mpr hJ]; rfl
          · exact hI j (by omega)
        · intro c hc hJ ih2
          have nx : (!bitI (A 33 (320 * a + 8 * m + p)) c || decide (A 32 (164 * a + 4 * m + c) = A 32 (164 * b + 4 * m + c))) = true → JS TP X mX4_isAlikeTill (rmOf mX4_isAlikeTill.lv 0 0) (TZ X (some (.int (b2 R0))) (o, ad, A, B)) 0 0 103 [some (.ref o), some (.int (nI p)), some (.int (nI a)), some (.int (nI b)), some (.int (nI tn)), some (.int (nI m)), some (.int (A 33 (320 * a + 8 * m + p))), some (.int (nI c))] [] (o, ad, A, B) := by
            intro hf
            refine bX4_isAlikeTill_103.go rfl trivial ?_
            rw [nI_1]
            refine ih2 (fun j hj => ?_)
            by_cases e : j = c
            · rw [e]; exact hf
            · exact hJ j (by omega)
          refine bX4_isAlikeTill_58.go rfl (by exact ⟨rfl, ⟨rfl, vp_in_nI (by decide) (by decide)⟩, trivial⟩) ?_
          simp (disch := omega) only [nI_clamp, e1]
          refine j_icmp_ge (tgt := 109) dX4_isAlikeTill_66 (by decide) (fun h66 => ?_) (fun h66 => ?_)
          · simp (disch := omega) only [nI_leI] at h66; omega
          · refine bX4_isAlikeTill_69.go rfl trivial ?_
            refine j_icmp_ne (tgt := 103) dX4_isAlikeTill_77 (by decide) (fun h77 => ?_) (fun h77 => ?_)
            · rw [bitI_1] at h77
              exact nx (by rw [show bitI (A 33 (320 * a + 8 * m + p)) c = false by cases hb : bitI (A 33 (320 * a + 8 * m + p)) c <;> simp_all]; rfl)
            · rw [bitI_1] at h77
              refine bX4_isAlikeTill_80.go rfl (by simp (disch := omega) only [vpI]; exact ⟨⟨trivial, by omega, by omega, by omega⟩, ⟨trivial, by omega, by omega, by omega⟩, trivial⟩) ?_
              simp (disch := omega) only [nI_clamp]
              refine j_icmp_eq (tgt := 103) dX4_isAlikeTill_98 (by decide) (fun h98 => ?_) (fun h98 => ?_)
              · exact nx (by rw [decide_eq_true h98]; simp)
              · refine bX4_isAlikeTill_101.go rfl trivial ?_
                refine t_zret dX4_isAlikeTill_102 rfl rfl (sv_int (b2_f (no ?_))) rfl
                rw [allN_false hc (by rw [h77, decide_eq_false h98]; rfl)]; simp
      · refine bX4_isAlikeTill_53.go rfl trivial ?_
        exact t_zret dX4_isAlikeTill_54 rfl rfl (sv_int (b2_f (no (by rw [decide_eq_false h50]; rfl)))) rfl
def F_isAlike (p a b : Int32) : Tau → Prop × Option Value × Tau := fun (o, ad, A, B) => (vp_in p 8 ∧ vp_in a 128 ∧ vp_in b 128 ∧ ∃ v, WOk (A 1) v, some (.int (b2 (alS (nC (A 1)) (fun m => A 33 (320 * a.toNatClampNeg + 8 * m + p.toNatClampNeg)) (fun m => A 33 (320 * b.toNatClampNeg + 8 * m + p.toNatClampNeg)) (fun c m => A 32 (164 * a.toNatClampNeg + 4 * m + c)) (fun c m => A 32 (164 * b.toNatClampNeg + 4 * m + c)) (spanW (A 1))))), (o, ad, A, B))
theorem bX4_isAlike_0 : Blk TP mX4_isAlike 0 14 [oAL 0, oIL 1, oIL 2, oIL 3, oAL 0, tR 1, oC (nI 6), tAI 1 320, tC_IIII F_isAlikeTill] := blk_c (s_aload_n dX4_isAlike_0 rfl) <| blk_c (s_iload_n dX4_isAlike_1 rfl) <| blk_c (s_iload_n dX4_isAlike_2 rfl) <| blk_c (s_iload_n dX4_isAlike_3 rfl) <| blk_c (s_aload_n dX4_isAlike_4 rfl) <| blk_c (tgX4_1 rfl dX4_isAlike_5) <| blk_c (s_bipush dX4_isAlike_8 (by decide +kernel)) <| blk_c (t_iald rfl dX4_isAlike_10) <| blk_c (tc_IIII ok_isAlikeTill gX4_isAlikeTill (by decide +kernel) (by decide) dX4_isAlike_11) <| blk_nil
theorem ok_isAlike : TC_III mX4_isAlike F_isAlike := by
  intro X p a b ⟨o, ad, A, B⟩ P r y hF hP
  cases hF
  obtain ⟨h1, h2, h3, v, hw⟩ := hP
  have h6 : v 6 ≤ 40 := hw.2.2.2.2.2.2.2.1
  refine T_start (L := [some (.ref o), some (.int p), some (.int a), some (.int b)]) 0 rfl ?_
  refine bX4_isAlike_0.go rfl (by exact ⟨rfl, ⟨rfl, vp_in_nI (by decide) (by decide)⟩, ⟨rfl, h1, h2, h3, ⟨v 6, h6, hw.1 6 (by decide)⟩, v, hw⟩, trivial⟩) ?_
  exact t_zret dX4_isAlike_14 rfl (b2_z _) rfl rfl
/-- what is common: the hour of the first course, if all those have it; none -/
def cmF (com : Nat → Bool) (sh : Nat → Int32) (n : Nat) : Int32 := if anyN (fun k => com k && !decide (sh k = sh 0)) n = true then -1 else sh 0
theorem cmF_cg {com com' : Nat → Bool} {sh sh' : Nat → Int32} {n : Nat} (hn : 0 < n) (hc : ∀ k, k < n → com k = com' k) (hs : ∀ k, k < n → sh k = sh' k) : cmF com sh n = cmF com' sh' n := by
  unfold cmF
  rw [hs 0 hn, anyN_congr (f := fun k => com k && !decide (sh k = sh' 0)) (g := fun k => com' k && !decide (sh' k = sh' 0)) (fun k hk => by rw [hc k hk, hs k hk])]
def F_commonOf (c m : Int32) : Tau → Prop × Option Value × Tau := fun (o, ad, A, B) => (vp_in c 4 ∧ vp_in m 41 ∧ (∃ nk, nk ≤ 128 ∧ A 0 34 = nI nk), some (.int (cmF (fun k => !decide (A 35 k = 0)) (fun k => A 32 (164 * k + 4 * m.toNatClampNeg + c.toNatClampNeg)) (A 0 34).toNatClampNeg)), (o, ad, A, B))
theorem bX4_commonOf_0 : Blk TP mX4_commonOf 0 11 [oAL 0, oC (nI 0), oIL 1, oIL 2, tC_III F_shownIn, oIS 3, oC (nI 0), oIS 4] := blk_c (s_aload_n dX4_commonOf_0 rfl) <| blk_c (s_iconst dX4_commonOf_1 (by decide +kernel)) <| blk_c (s_iload_n dX4_commonOf_2 rfl) <| blk_c (s_iload_n dX4_commonOf_3 rfl) <| blk_c (tc_III ok_shownIn gX4_shownIn (by decide +kernel) (by decide) dX4_commonOf_4) <| blk_c (s_istore_n dX4_commonOf_7 rfl (by decide)) <| blk_c (s_iconst dX4_commonOf_8 (by decide +kernel)) <| blk_c (s_istore dX4_commonOf_9 (by decide)) <| blk_nil
theorem bX4_commonOf_11 : Blk TP mX4_commonOf 11 17 [oIL 4, oAL 0, tI 34] := blk_c (s_iload dX4_commonOf_11) <| blk_c (s_aload_n dX4_commonOf_13 rfl) <| blk_c (tgX4_34 rfl dX4_commonOf_14) <| blk_nil
theorem bX4_commonOf_20 : Blk TP mX4_commonOf 20 27 [oAL 0, tR 35, oIL 4, tAI 35 128] := blk_c (s_aload_n dX4_commonOf_20 rfl) <| blk_c (tgX4_35 rfl dX4_commonOf_21) <| blk_c (s_iload dX4_commonOf_24) <| blk_c (t_zald rfl dX4_commonOf_26) <| blk_nil
theorem bX4_commonOf_30 : Blk TP mX4_commonOf 30 39 [oAL 0, oIL 4, oIL 1, oIL 2, tC_III F_shownIn, oIL 3] := blk_c (s_aload_n dX4_commonOf_30 rfl) <| blk_c (s_iload dX4_commonOf_31) <| blk_c (s_iload_n dX4_commonOf_33 rfl) <| blk_c (s_iload_n dX4_commonOf_34 rfl) <| blk_c (tc_III ok_shownIn gX4_shownIn (by decide +kernel) (by decide) dX4_commonOf_35) <| blk_c (s_iload_n dX4_commonOf_38 rfl) <| blk_nil
theorem bX4_commonOf_42 : Blk TP mX4_commonOf 42 43 [oC (-1)] := blk_c (s_iconst dX4_commonOf_42 (by decide +kernel)) <| blk_nil
theorem bX4_commonOf_44 : Blk TP mX4_commonOf 44 11 [oInc 4 1, .inl (fun s => some s)] := blk_c (s_iinc dX4_commonOf_44 (by decide +kernel) (by decide)) <| blk_c (s_goto (tgt := 11) dX4_commonOf_47 (by decide)) <| blk_nil
theorem bX4_commonOf_50 : Blk TP mX4_commonOf 50 51 [oIL 3] := blk_c (s_iload_n dX4_commonOf_50 rfl) <| blk_nil
theorem ok_commonOf : TC_II mX4_commonOf F_commonOf := by
  intro X c m ⟨o, ad, A, B⟩ P r y hF hP
  cases hF
  obtain ⟨h1, h2, nk, hnk, enk⟩ := hP
  obtain ⟨c, hc, rfl⟩ := vp_in_of h1 (by decide)
  obtain ⟨m, hm, rfl⟩ := vp_in_of h2 (by decide)
  refine T_start (L := [some (.ref o), some (.int (nI c)), some (.int (nI m)), none, none]) 2 rfl ?_
  simp (disch := omega) only [nI_clamp, enk]
  refine bX4_commonOf_0.go rfl (by simp (disch := omega) only [vpI]; exact ⟨⟨trivial, by omega, by omega, by omega⟩, trivial⟩) ?_
  simp (disch := omega) only [nI_clamp]
  refine loop_down (N := nk) (I := fun j => ∀ k, k < j → (!decide (A 35 k = 0) && !decide (A 32 (164 * k + 4 * m + c) = A 32 (164 * 0 + 4 * m + c))) = false) (P := fun j => JS TP X mX4_commonOf (rmOf mX4_commonOf.lv 0 0) (TZ X (some (.int (cmF (fun k => !decide (A 35 k = 0)) (fun k => A 32 (164 * k + 4 * m + c)) nk))) (o, ad, A, B)) 0 0 11 [some (.ref o), some (.int (nI c)), some (.int (nI m)), some (.int (A 32 (164 * 0 + 4 * m + c))), some (.int (nI j))] [] (o, ad, A, B)) ?_ ?_ 0 (Nat.zero_le _) (fun m h => by omega)
  · intro hI
    refine bX4_commonOf_11.go rfl (by exact ⟨rfl, trivial⟩) ?_
    rw [enk]
    refine j_icmp_ge (tgt := 50) dX4_commonOf_17 (by decide) (fun h17 => ?_) (fun h17 => absurd (nI_le (Nat.le_refl _) (by omega)) h17)
    refine bX4_commonOf_50.go rfl trivial ?_
    exact t_iret dX4_commonOf_51 rfl (sv_int (by rw [cmF, if_neg (by rw [anyN_false.mpr hI]; decide)])) rfl
  · intro k hk hI ih
    have nx : (!decide (A 35 k = 0) && !decide (A 32 (164 * k + 4 * m + c) = A 32 (164 * 0 + 4 * m + c))) = false → JS TP X mX4_commonOf (rmOf mX4_commonOf.lv 0 0) (TZ X (some (.int (cmF (fun k => !decide (A 35 k = 0)) (fun k => A 32 (164 * k + 4 * m + c)) nk))) (o, ad, A, B)) 0 0 44 [some (.ref o), some (.int (nI c)), some (.int (nI m)), some (.int (A 32 (164 * 0 + 4 * m + c))), some (.int (nI k))] [] (o, ad, A, B) := by
      intro hf
      refine bX4_commonOf_44.go rfl trivial ?_
      rw [nI_1]
      refine ih (fun j hj => ?_)
      by_cases e : j = k
      · rw [e]; exact hf
      · exact hI j (by omega)
    refine bX4_commonOf_11.go rfl (by exact ⟨rfl, trivial⟩) ?_
    rw [enk]
    refine j_icmp_ge (tgt := 50) dX4_commonOf_17 (by decide) (fun h17 => ?_) (fun h17 => ?_)
    · simp (disch := omega) only [nI_leI] at h17; omega
    · refine bX4_commonOf_20.go rfl (by simp (disch := omega) only [vpI]; exact ⟨trivial, ⟨trivial, by omega⟩, trivial⟩) ?_
      simp (disch := omega) only [nI_clamp]
      refine j_if_eq (tgt := 44) dX4_commonOf_27 (by decide) (fun h27 => ?_) (fun h27 => ?_)
      · exact nx (by rw [decide_eq_true h27]; rfl)
      · refine bX4_commonOf_30.go rfl (by simp (disch := omega) only [vpI]; exact ⟨⟨trivial, by omega, by omega, by omega⟩, trivial⟩) ?_
        simp (disch := omega) only [nI_clamp]
        refine j_icmp_eq (tgt := 44) dX4_commonOf_39 (by decide) (fun h39 => ?_) (fun h39 => ?_)
        · exact nx (by rw [decide_eq_true h39]; simp)
        · refine bX4_commonOf_42.go rfl trivial ?_
          refine t_iret dX4_commonOf_43 rfl (sv_int ?_) rfl
          rw [cmF, if_pos (anyN_true.mpr ⟨k, hk, by rw [decide_eq_false h27, decide_eq_false h39]; rfl⟩)]
