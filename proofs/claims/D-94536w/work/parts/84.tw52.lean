set_option maxRecDepth 100000
/-! ===== UnseenClockModel: isAsked, shownBy, lie, shown ===== -/
def akB (w : Nat → Int32) (p c m h : Int32) : Bool := pB w p && (cB w c && (tB w m && hB h))
def F_isAsked (p c m h : Int32) : Tau → Prop × Option Value × Tau := fun (o, ad, A, B) => (True, some (.int (b2 (akB (A 1) p c m h))), (o, ad, A, B))
theorem bX4_isAsked_0 : Blk TP mX4_isAsked 0 5 [oAL 0, oIL 1, tC_I F_isPerson] := blk_c (s_aload_n dX4_isAsked_0 rfl) <| blk_c (s_iload_n dX4_isAsked_1 rfl) <| blk_c (tc_I ok_isPerson gX4_isPerson (by decide +kernel) (by decide) dX4_isAsked_2) <| blk_nil
theorem bX4_isAsked_8 : Blk TP mX4_isAsked 8 13 [oAL 0, oIL 2, tC_I F_isClock] := blk_c (s_aload_n dX4_isAsked_8 rfl) <| blk_c (s_iload_n dX4_isAsked_9 rfl) <| blk_c (tc_I ok_isClock gX4_isClock (by decide +kernel) (by decide) dX4_isAsked_10) <| blk_nil
theorem bX4_isAsked_16 : Blk TP mX4_isAsked 16 21 [oAL 0, oIL 3, tC_I F_isTime] := blk_c (s_aload_n dX4_isAsked_16 rfl) <| blk_c (s_iload_n dX4_isAsked_17 rfl) <| blk_c (tc_I ok_isTime gX4_isTime (by decide +kernel) (by decide) dX4_isAsked_18) <| blk_nil
theorem bX4_isAsked_24 : Blk TP mX4_isAsked 24 29 [oIL 4, tS_I F_isHour] := blk_c (s_iload dX4_isAsked_24) <| blk_c (ts_I ok_isHour gX4_isHour (by decide +kernel) (by decide) dX4_isAsked_26) <| blk_nil
theorem bX4_isAsked_32 : Blk TP mX4_isAsked 32 37 [oC (nI 1), .inl (fun s => some s)] := blk_c (s_iconst dX4_isAsked_32 (by decide +kernel)) <| blk_c (s_goto (tgt := 37) dX4_isAsked_33 (by decide)) <| blk_nil
theorem bX4_isAsked_36 : Blk TP mX4_isAsked 36 37 [oC (nI 0)] := blk_c (s_iconst dX4_isAsked_36 (by decide +kernel)) <| blk_nil
theorem ok_isAsked : TC_IIII mX4_isAsked F_isAsked := by
  intro X p c m h ⟨o, ad, A, B⟩ P r y hF _
  cases hF
  refine T_start (L := [some (.ref o), some (.int p), some (.int c), some (.int m), some (.int h)]) 0 rfl ?_
  refine bX4_isAsked_0.go rfl (by first | exact ⟨⟨rfl, trivial⟩, trivial⟩ | exact ⟨trivial, trivial⟩) ?_
  refine j_if_eq (tgt := 36) dX4_isAsked_5 (by decide) (fun h5 => ?_) (fun h5 => ?_)
  · refine bX4_isAsked_36.go rfl trivial ?_
    exact t_zret dX4_isAsked_37 rfl (by first | rfl | (simp only [b2_0, b2_n0] at *; first | exact sv_int (b2_t (by simp_all [akB, pB, cB, tB, hB])) | exact sv_int (b2_f (by simp_all [akB, pB, cB, tB, hB])))) (by first | rfl | (simp only [b2_0, b2_n0] at *; first | exact sv_int (b2_t (by simp_all [akB, pB, cB, tB, hB])) | exact sv_int (b2_f (by simp_all [akB, pB, cB, tB, hB])))) (by first | rfl | (simp only [b2_0, b2_n0] at *; first | exact sv_int (b2_t (by simp_all [akB, pB, cB, tB, hB])) | exact sv_int (b2_f (by simp_all [akB, pB, cB, tB, hB]))))
  · refine bX4_isAsked_8.go rfl (by first | exact ⟨⟨rfl, trivial⟩, trivial⟩ | exact ⟨trivial, trivial⟩) ?_
    refine j_if_eq (tgt := 36) dX4_isAsked_13 (by decide) (fun h13 => ?_) (fun h13 => ?_)
    · refine bX4_isAsked_36.go rfl trivial ?_
      exact t_zret dX4_isAsked_37 rfl (by first | rfl | (simp only [b2_0, b2_n0] at *; first | exact sv_int (b2_t (by simp_all [akB, pB, cB, tB, hB])) | exact sv_int (b2_f (by simp_all [akB, pB, cB, tB, hB])))) (by first | rfl | (simp only [b2_0, b2_n0] at *; first | exact sv_int (b2_t (by simp_all [akB, pB, cB, tB, hB])) | exact sv_int (b2_f (by simp_all [akB, pB, cB, tB, hB])))) (by first | rfl | (simp only [b2_0, b2_n0] at *; first | exact sv_int (b2_t (by simp_all [akB, pB, cB, tB, hB])) | exact sv_int (b2_f (by simp_all [akB, pB, cB, tB, hB]))))
    · refine bX4_isAsked_16.go rfl (by first | exact ⟨⟨rfl, trivial⟩, trivial⟩ | exact ⟨trivial, trivial⟩) ?_
      refine j_if_eq (tgt := 36) dX4_isAsked_21 (by decide) (fun h21 => ?_) (fun h21 => ?_)
      · refine bX4_isAsked_36.go rfl trivial ?_
        exact t_zret dX4_isAsked_37 rfl (by first | rfl | (simp only [b2_0, b2_n0] at *; first | exact sv_int (b2_t (by simp_all [akB, pB, cB, tB, hB])) | exact sv_int (b2_f (by simp_all [akB, pB, cB, tB, hB])))) (by first | rfl | (simp only [b2_0, b2_n0] at *; first | exact sv_int (b2_t (by simp_all [akB, pB, cB, tB, hB])) | exact sv_int (b2_f (by simp_all [akB, pB, cB, tB, hB])))) (by first | rfl | (simp only [b2_0, b2_n0] at *; first | exact sv_int (b2_t (by simp_all [akB, pB, cB, tB, hB])) | exact sv_int (b2_f (by simp_all [akB, pB, cB, tB, hB]))))
      · refine bX4_isAsked_24.go rfl (by first | exact ⟨⟨rfl, trivial⟩, trivial⟩ | exact ⟨trivial, trivial⟩) ?_
        refine j_if_eq (tgt := 36) dX4_isAsked_29 (by decide) (fun h29 => ?_) (fun h29 => ?_)
        · refine bX4_isAsked_36.go rfl trivial ?_
          exact t_zret dX4_isAsked_37 rfl (by first | rfl | (simp only [b2_0, b2_n0] at *; first | exact sv_int (b2_t (by simp_all [akB, pB, cB, tB, hB])) | exact sv_int (b2_f (by simp_all [akB, pB, cB, tB, hB])))) (by first | rfl | (simp only [b2_0, b2_n0] at *; first | exact sv_int (b2_t (by simp_all [akB, pB, cB, tB, hB])) | exact sv_int (b2_f (by simp_all [akB, pB, cB, tB, hB])))) (by first | rfl | (simp only [b2_0, b2_n0] at *; first | exact sv_int (b2_t (by simp_all [akB, pB, cB, tB, hB])) | exact sv_int (b2_f (by simp_all [akB, pB, cB, tB, hB]))))
        · refine bX4_isAsked_32.go rfl trivial ?_
          exact t_zret dX4_isAsked_37 rfl (by first | rfl | (simp only [b2_0, b2_n0] at *; first | exact sv_int (b2_t (by simp_all [akB, pB, cB, tB, hB])) | exact sv_int (b2_f (by simp_all [akB, pB, cB, tB, hB])))) (by first | rfl | (simp only [b2_0, b2_n0] at *; first | exact sv_int (b2_t (by simp_all [akB, pB, cB, tB, hB])) | exact sv_int (b2_f (by simp_all [akB, pB, cB, tB, hB])))) (by first | rfl | (simp only [b2_0, b2_n0] at *; first | exact sv_int (b2_t (by simp_all [akB, pB, cB, tB, hB])) | exact sv_int (b2_f (by simp_all [akB, pB, cB, tB, hB]))))
/-- to person q it can't have been so -/
def wrgB (al : Nat → Nat → Bool) (sh : Nat → Int32) (n p : Nat) (h : Int32) (q : Nat) : Bool := !decide (q = p) && !anyN (fun k => decide (sh k = h) && al q k) n
def F_shownBy (p c m h : Int32) : Tau → Prop × Option Value × Tau := fun (o, ad, A, B) => (vp_in p 8 ∧ vp_in c 4 ∧ vp_in m 41 ∧ (∃ nk, 0 < nk ∧ nk ≤ 128 ∧ A 0 34 = nI nk) ∧ ∃ v, WOk (A 1) v, some (.int (firstF (wrgB (fun q k => alS (nC (A 1)) (fun m => A 33 (320 * 0 + 8 * m + q)) (fun m => A 33 (320 * k + 8 * m + q)) (fun c m => A 32 (164 * 0 + 4 * m + c)) (fun c m => A 32 (164 * k + 4 * m + c)) (spanW (A 1))) (fun k => A 32 (164 * k + 4 * m.toNatClampNeg + c.toNatClampNeg)) (A 0 34).toNatClampNeg p.toNatClampNeg h) (nP (A 1)) 0)), (o, ad, A, B))
theorem bX4_shownBy_0 : Blk TP mX4_shownBy 0 3 [oC (nI 0), oIS 5] := blk_c (s_iconst dX4_shownBy_0 (by decide +kernel)) <| blk_c (s_istore dX4_shownBy_1 (by decide)) <| blk_nil
theorem bX4_shownBy_3 : Blk TP mX4_shownBy 3 11 [oIL 5, oAL 0, tR 1, oC (nI 2), tAI 1 320] := blk_c (s_iload dX4_shownBy_3) <| blk_c (s_aload_n dX4_shownBy_5 rfl) <| blk_c (tgX4_1 rfl dX4_shownBy_6) <| blk_c (s_iconst dX4_shownBy_9 (by decide +kernel)) <| blk_c (t_iald rfl dX4_shownBy_10) <| blk_nil
theorem bX4_shownBy_14 : Blk TP mX4_shownBy 14 17 [oIL 5, oIL 1] := blk_c (s_iload dX4_shownBy_14) <| blk_c (s_iload_n dX4_shownBy_16 rfl) <| blk_nil
theorem bX4_shownBy_20 : Blk TP mX4_shownBy 20 25 [oC (nI 1), .inl (fun s => some s)] := blk_c (s_iconst dX4_shownBy_20 (by decide +kernel)) <| blk_c (s_goto (tgt := 25) dX4_shownBy_21 (by decide)) <| blk_nil
theorem bX4_shownBy_24 : Blk TP mX4_shownBy 24 25 [oC (nI 0)] := blk_c (s_iconst dX4_shownBy_24 (by decide +kernel)) <| blk_nil
theorem bX4_shownBy_25 : Blk TP mX4_shownBy 25 30 [oIS 6, oC (nI 0), oIS 7] := blk_c (s_istore dX4_shownBy_25 (by decide)) <| blk_c (s_iconst dX4_shownBy_27 (by decide +kernel)) <| blk_c (s_istore dX4_shownBy_28 (by decide)) <| blk_nil
theorem bX4_shownBy_30 : Blk TP mX4_shownBy 30 36 [oIL 7, oAL 0, tI 34] := blk_c (s_iload dX4_shownBy_30) <| blk_c (s_aload_n dX4_shownBy_32 rfl) <| blk_c (tgX4_34 rfl dX4_shownBy_33) <| blk_nil
theorem bX4_shownBy_39 : Blk TP mX4_shownBy 39 41 [oIL 6] := blk_c (s_iload dX4_shownBy_39) <| blk_nil
theorem bX4_shownBy_44 : Blk TP mX4_shownBy 44 54 [oAL 0, oIL 7, oIL 2, oIL 3, tC_III F_shownIn, oIL 4] := blk_c (s_aload_n dX4_shownBy_44 rfl) <| blk_c (s_iload dX4_shownBy_45) <| blk_c (s_iload_n dX4_shownBy_47 rfl) <| blk_c (s_iload_n dX4_shownBy_48 rfl) <| blk_c (tc_III ok_shownIn gX4_shownIn (by decide +kernel) (by decide) dX4_shownBy_49) <| blk_c (s_iload dX4_shownBy_52) <| blk_nil
theorem bX4_shownBy_57 : Blk TP mX4_shownBy 57 66 [oAL 0, oIL 5, oC (nI 0), oIL 7, tC_III F_isAlike] := blk_c (s_aload_n dX4_shownBy_57 rfl) <| blk_c (s_iload dX4_shownBy_58) <| blk_c (s_iconst dX4_shownBy_60 (by decide +kernel)) <| blk_c (s_iload dX4_shownBy_61) <| blk_c (tc_III ok_isAlike gX4_isAlike (by decide +kernel) (by decide) dX4_shownBy_63) <| blk_nil
theorem bX4_shownBy_69 : Blk TP mX4_shownBy 69 74 [oC (nI 1), .inl (fun s => some s)] := blk_c (s_iconst dX4_shownBy_69 (by decide +kernel)) <| blk_c (s_goto (tgt := 74) dX4_shownBy_70 (by decide)) <| blk_nil
theorem bX4_shownBy_73 : Blk TP mX4_shownBy 73 74 [oC (nI 0)] := blk_c (s_iconst dX4_shownBy_73 (by decide +kernel)) <| blk_nil
theorem bX4_shownBy_74 : Blk TP mX4_shownBy 74 30 [oIS 6, oInc 7 1, .inl (fun s => some s)] := blk_c (s_istore dX4_shownBy_74 (by decide)) <| blk_c (s_iinc dX4_shownBy_76 (by decide +kernel) (by decide)) <| blk_c (s_goto (tgt := 30) dX4_shownBy_79 (by decide)) <| blk_nil
theorem bX4_shownBy_82 : Blk TP mX4_shownBy 82 84 [oIL 6] := blk_c (s_iload dX4_shownBy_82) <| blk_nil
theorem bX4_shownBy_87 : Blk TP mX4_shownBy 87 89 [oIL 5] := blk_c (s_iload dX4_shownBy_87) <| blk_nil
theorem bX4_shownBy_90 : Blk TP mX4_shownBy 90 3 [oInc 5 1, .inl (fun s => some s)] := blk_c (s_iinc dX4_shownBy_90 (by decide +kernel) (by decide)) <| blk_c (s_goto (tgt := 3) dX4_shownBy_93 (by decide)) <| blk_nil
theorem bX4_shownBy_96 : Blk TP mX4_shownBy 96 97 [oC (-1)] := blk_c (s_iconst dX4_shownBy_96 (by decide +kernel)) <| blk_nil
theorem ok_shownBy : TC_IIII mX4_shownBy F_shownBy := by
  intro X p c m h ⟨o, ad, A, B⟩ P r y hF hP
  cases hF
  obtain ⟨h1, h2, h3, ⟨nk, hnk0, hnk, enk⟩, v, hw⟩ := hP
  obtain ⟨p, hp, rfl⟩ := vp_in_of h1 (by decide)
  obtain ⟨c, hc, rfl⟩ := vp_in_of h2 (by decide)
  obtain ⟨m, hm, rfl⟩ := vp_in_of h3 (by decide)
  have h8 : v 2 ≤ 8 := hw.2.2.2.1
  have e2 : A 1 2 = nI (v 2) := hw.1 2 (by decide)
  refine T_start (L := [some (.ref o), some (.int (nI p)), some (.int (nI c)), some (.int (nI m)), some (.int h), none, none, none]) 3 rfl ?_
  simp (disch := omega) only [nI_clamp, enk, hw.npE]
  generalize hal : (fun q k => alS (nC (A 1)) (fun m => A 33 (320 * 0 + 8 * m + q)) (fun m => A 33 (320 * k + 8 * m + q)) (fun c m => A 32 (164 * 0 + 4 * m + c)) (fun c m => A 32 (164 * k + 4 * m + c)) (spanW (A 1))) = al
  generalize hR : firstF (wrgB al (fun k => A 32 (164 * k + 4 * m + c)) nk p h) (v 2) 0 = R0
  refine bX4_shownBy_0.go rfl trivial ?_
  have lp : ∀ d q, q + d = v 2 → firstF (wrgB al (fun k => A 32 (164 * k + 4 * m + c)) nk p h) d q = R0 → JS TP X mX4_shownBy (rmOf mX4_shownBy.lv 0 0) (TZ X (some (.int R0)) (o, ad, A, B)) 0 0 3 [some (.ref o), some (.int (nI p)), some (.int (nI c)), some (.int (nI m)), some (.int h), some (.int (nI q)), none, none] [] (o, ad, A, B) := by
    intro d
    induction d with
    | zero =>
      intro q hq hr
      refine bX4_shownBy_3.go rfl (by exact ⟨rfl, ⟨rfl, vp_in_nI (by decide) (by decide)⟩, trivial⟩) ?_
      simp (disch := omega) only [nI_clamp, e2]
      refine j_icmp_ge (tgt := 96) dX4_shownBy_11 (by decide) (fun h11 => ?_) (fun h11 => ?_)
      · refine bX4_shownBy_96.go rfl trivial ?_
        exact t_iret dX4_shownBy_97 rfl (sv_int hr) rfl
      · simp (disch := omega) only [nI_leI] at h11; omega
    | succ d ih =>
      intro q hq hr
      rw [firstF] at hr
      refine bX4_shownBy_3.go rfl (by exact ⟨rfl, ⟨rfl, vp_in_nI (by decide) (by decide)⟩, trivial⟩) ?_
      simp (disch := omega) only [nI_clamp, e2]
      refine j_icmp_ge (tgt := 96) dX4_shownBy_11 (by decide) (fun h11 => ?_) (fun h11 => ?_)
      · simp (disch := omega) only [nI_leI] at h11; omega
      · have m82 : ∀ z l7, z = b2 (!wrgB al (fun k => A 32 (164 * k + 4 * m + c)) nk p h q) → JS TP X mX4_shownBy (rmOf mX4_shownBy.lv 0 0) (TZ X (some (.int R0)) (o, ad, A, B)) 0 0 82 [some (.ref o), some (.int (nI p)), some (.int (nI c)), some (.int (nI m)), some (.int h), some (.int (nI q)), some (.int z), l7] [] (o, ad, A, B) := by
          intro z l7 hz
          subst hz
          refine bX4_shownBy_82.go rfl trivial ?_
          refine j_if_ne (tgt := 90) dX4_shownBy_84 (by decide) (fun h84 => ?_) (fun h84 => ?_)
          · rw [b2_n0, Bool.not_eq_true'] at h84
            rw [if_neg (by rw [h84]; decide)] at hr
            refine bX4_shownBy_90.go rfl trivial ?_
            rw [nI_1]
            exact JS.weak (L' := [some (.ref o), some (.int (nI p)), some (.int (nI c)), some (.int (nI m)), some (.int h), some (.int (nI (q + 1))), none, none]) (by simp [lsub]) (ih (q + 1) (by omega) hr)
          · rw [b2_0, Bool.not_eq_false'] at h84
            rw [if_pos h84] at hr
            refine bX4_shownBy_87.go rfl trivial ?_
            exact t_iret dX4_shownBy_89 rfl (sv_int hr) rfl
        have m25 : ∀ z, z = b2 (decide (q = p)) → JS TP X mX4_shownBy (rmOf mX4_shownBy.lv 0 0) (TZ X (some (.int R0)) (o, ad, A, B)) 0 0 25 [some (.ref o), some (.int (nI p)), some (.int (nI c)), some (.int (nI m)), some (.int h), some (.int (nI q)), none, none] [.int z] (o, ad, A, B) := by
          intro z hz
          subst hz
          refine bX4_shownBy_25.go rfl trivial ?_
          refine loop_down (N := nk) (I := fun _ => True) (P := fun k => ∀ z, z = b2 (decide (q = p) || anyN (fun k => decide (A 32 (164 * k + 4 * m + c) = h) && al q k) k) → JS TP X mX4_shownBy (rmOf mX4_shownBy.lv 0 0) (TZ X (some (.int R0)) (o, ad, A, B)) 0 0 30 [some (.ref o), some (.int (nI p)), some (.int (nI c)), some (.int (nI m)), some (.int h), some (.int (nI q)), some (.int z), some (.int (nI k))] [] (o, ad, A, B)) ?_ ?_ 0 (Nat.zero_le _) trivial _ (by rw [anyN, Bool.or_false])
          · intro _ z hz
            refine bX4_shownBy_30.go rfl (by exact ⟨rfl, trivial⟩) ?_
            rw [enk]
            refine j_icmp_ge (tgt := 82) dX4_shownBy_36 (by decide) (fun h36 => ?_) (fun h36 => absurd (nI_le (Nat.le_refl _) (by omega)) h36)
            exact m82 _ _ (by rw [hz, wrgB, Bool.not_and, Bool.not_not, Bool.not_not])
          · intro k hk _ ih2 z hz
            refine bX4_shownBy_30.go rfl (by exact ⟨rfl, trivial⟩) ?_
            rw [enk]
            refine j_icmp_ge (tgt := 82) dX4_shownBy_36 (by decide) (fun h36 => ?_) (fun h36 => ?_)
            · simp (disch := omega) only [nI_leI] at h36; omega
            · refine bX4_shownBy_39.go rfl trivial ?_
              refine j_if_ne (tgt := 82) dX4_shownBy_41 (by decide) (fun h41 => ?_) (fun h41 => ?_)
              · refine m82 _ _ ?_
                rw [hz, b2_n0] at h41
                rw [hz, h41, wrgB, Bool.not_and, Bool.not_not, Bool.not_not]
                congr 1
                rw [Bool.or_eq_true] at h41
                rcases h41 with h41 | h41
                · rw [h41]; rfl
                · obtain ⟨j, hj, hf⟩ := anyN_true.mp h41
                  rw [anyN_true.mpr ⟨j, by omega, hf⟩]; simp
              · rw [hz, b2_0, Bool.or_eq_false_iff] at h41
                have j74 : ∀ z', z' = b2 (decide (A 32 (164 * k + 4 * m + c) = h) && al q k) → JS TP X mX4_shownBy (rmOf mX4_shownBy.lv 0 0) (TZ X (some (.int R0)) (o, ad, A, B)) 0 0 74 [some (.ref o), some (.int (nI p)), some (.int (nI c)), some (.int (nI m)), some (.int h), some (.int (nI q)), some (.int z), some (.int (nI k))] [.int z'] (o, ad, A, B) := by
                  intro z' hz'
                  refine bX4_shownBy_74.go rfl trivial ?_
                  rw [nI_1]
                  exact ih2 trivial _ (by rw [hz', anyN, h41.1, h41.2]; rfl)
                refine bX4_shownBy_44.go rfl (by simp (disch := omega) only [vpI]; exact ⟨⟨trivial, by omega, by omega, by omega⟩, trivial⟩) ?_
                simp (disch := omega) only [nI_clamp]
                refine j_icmp_ne (tgt := 73) dX4_shownBy_54 (by decide) (fun h54 => ?_) (fun h54 => ?_)
                · refine bX4_shownBy_73.go rfl trivial ?_
                  exact j74 _ (b2_f (by rw [decide_eq_false h54]; rfl))
                · refine bX4_shownBy_57.go rfl (by simp (disch := omega) only [vpI]; exact ⟨⟨trivial, by omega, by omega, by omega, v, hw⟩, trivial⟩) ?_
                  simp (disch := omega) only [nI_clamp]
                  have ealk : alS (nC (A 1)) (fun m => A 33 (320 * 0 + 8 * m + q)) (fun m => A 33 (320 * k + 8 * m + q)) (fun c m => A 32 (164 * 0 + 4 * m + c)) (fun c m => A 32 (164 * k + 4 * m + c)) (spanW (A 1)) = al q k := by rw [← hal]
                  rw [ealk]
                  refine j_if_eq (tgt := 73) dX4_shownBy_66 (by decide) (fun h66 => ?_) (fun h66 => ?_)
                  · rw [b2_0] at h66
                    refine bX4_shownBy_73.go rfl trivial ?_
                    exact j74 _ (b2_f (by rw [h66]; simp))
                  · rw [b2_n0] at h66
                    refine bX4_shownBy_69.go rfl trivial ?_
                    exact j74 _ (b2_t (by rw [h66, decide_eq_true h54]; rfl))
        refine bX4_shownBy_14.go rfl trivial ?_
        refine j_icmp_ne (tgt := 24) dX4_shownBy_17 (by decide) (fun h17 => ?_) (fun h17 => ?_)
        · refine bX4_shownBy_24.go rfl trivial ?_
          exact m25 _ (b2_f (decide_eq_false (fun e => h17 (by rw [e]))))
        · refine bX4_shownBy_20.go rfl trivial ?_
          exact m25 _ (b2_t (decide_eq_true ((nI_eq (by omega) (by omega)).mp h17)))
  exact lp (v 2) 0 (by omega) hR
def wrC (w : Nat → Int32) (p c m : Nat) (h : Int32) : Int32 := firstF (wrgB (fun q k => alC w q 0 k (spanW w)) (fun k => shC w k c m) (cnC w) p h) (nP w) 0
theorem firstF_cg {f g : Nat → Bool} {N : Nat} (h : ∀ k, k < N → f k = g k) : ∀ d t, t + d = N → firstF f d t = firstF g d t := by
  intro d
  induction d with
  | zero => intro t _; rfl
  | succ d ih => intro t ht; rw [firstF, firstF, h t (by omega), ih (t + 1) (by omega)]
theorem wrC_eq {w : Nat → Int32} {v : Nat → Nat} (hw : WOk w v) {A : Nat → Nat → Int32} {p c m : Nat} {h : Int32} (hC : CoA A v w (cnC w)) (hc : c < v 1) (hm : m ≤ v 6) : firstF (wrgB (fun q k => alS (nC w) (fun m => A 33 (320 * 0 + 8 * m + q)) (fun m => A 33 (320 * k + 8 * m + q)) (fun c m => A 32 (164 * 0 + 4 * m + c)) (fun c m => A 32 (164 * k + 4 * m + c)) (spanW w)) (fun k => A 32 (164 * k + 4 * m + c)) (cnC w) p h) (nP w) 0 = wrC w p c m h := by
  have h8 : v 2 ≤ 8 := hw.2.2.2.1
  refine firstF_cg (N := nP w) (fun q hq => ?_) _ _ (by omega)
  rw [hw.npE] at hq
  unfold wrgB
  congr 2
  refine anyN_congr (fun k hk => ?_)
  show (decide (A 32 (164 * k + 4 * m + c) = h) && alS (nC w) (fun m => A 33 (320 * 0 + 8 * m + q)) (fun m => A 33 (320 * k + 8 * m + q)) (fun c m => A 32 (164 * 0 + 4 * m + c)) (fun c m => A 32 (164 * k + 4 * m + c)) (spanW w)) = _
  rw [(hC.2 k hk).1 m hm c hc, alC_eq hw hC (cnC_pos w) hk (by omega) (by rw [hw.span]; omega)]
def q_lie (w : Nat → Int32) (p c m h : Int32) : Int32 := if akB w p c m h = true then (if cnC w ≤ 128 then b2 (decide (wrC w p.toNatClampNeg c.toNatClampNeg m.toNatClampNeg h = -1)) else -3) else -2
theorem bX4_lie_0 : Blk TP mX4_lie 0 9 [oAL 0, oIL 1, oIL 2, oIL 3, oIL 4, tC_IIII F_isAsked] := blk_c (s_aload_n dX4_lie_0 rfl) <| blk_c (s_iload_n dX4_lie_1 rfl) <| blk_c (s_iload_n dX4_lie_2 rfl) <| blk_c (s_iload_n dX4_lie_3 rfl) <| blk_c (s_iload dX4_lie_4) <| blk_c (tc_IIII ok_isAsked gX4_isAsked (by decide +kernel) (by decide) dX4_lie_6) <| blk_nil
theorem bX4_lie_12 : Blk TP mX4_lie 12 14 [oC (-2)] := blk_c (s_bipush dX4_lie_12 (by decide +kernel)) <| blk_nil
theorem bX4_lie_15 : Blk TP mX4_lie 15 16 [oAL 0] := blk_c (s_aload_n dX4_lie_15 rfl) <| blk_nil
theorem bX4_lie_22 : Blk TP mX4_lie 22 24 [oC (-3)] := blk_c (s_bipush dX4_lie_22 (by decide +kernel)) <| blk_nil
theorem bX4_lie_25 : Blk TP mX4_lie 25 35 [oAL 0, oIL 1, oIL 2, oIL 3, oIL 4, tC_IIII F_shownBy, oC (-1)] := blk_c (s_aload_n dX4_lie_25 rfl) <| blk_c (s_iload_n dX4_lie_26 rfl) <| blk_c (s_iload_n dX4_lie_27 rfl) <| blk_c (s_iload_n dX4_lie_28 rfl) <| blk_c (s_iload dX4_lie_29) <| blk_c (tc_IIII ok_shownBy gX4_shownBy (by decide +kernel) (by decide) dX4_lie_31) <| blk_c (s_iconst dX4_lie_34 (by decide +kernel)) <| blk_nil
theorem bX4_lie_38 : Blk TP mX4_lie 38 43 [oC (nI 1), .inl (fun s => some s)] := blk_c (s_iconst dX4_lie_38 (by decide +kernel)) <| blk_c (s_goto (tgt := 43) dX4_lie_39 (by decide)) <| blk_nil
theorem bX4_lie_42 : Blk TP mX4_lie 42 43 [oC (nI 0)] := blk_c (s_iconst dX4_lie_42 (by decide +kernel)) <| blk_nil
theorem ok_lie : RC_IIII mX4_lie (fun _ _ _ _ A B => Pre_runs A B) (fun p c m h A B => Qq (q_lie (A 1) p c m h) A B) := by
  intro X p c m h o ad A B hpre
  obtain ⟨v, hw⟩ := id hpre
  have h6 : v 6 ≤ 40 := hw.2.2.2.2.2.2.2.1
  have h4 : v 1 ≤ 4 := hw.2.2.1
  have h8 : v 2 ≤ 8 := hw.2.2.2.1
  refine R_start (L := [some (.ref o), some (.int p), some (.int c), some (.int m), some (.int h)]) 0 rfl ?_
  refine bX4_lie_0.go rfl (by exact ⟨⟨rfl, trivial⟩, trivial⟩) ?_
  refine j_if_ne (tgt := 15) dX4_lie_9 (by decide) (fun h9 => ?_) (fun h9 => ?_)
  · rw [b2_n0] at h9
    dsimp only
    rw [q_lie, if_pos h9]
    simp only [akB, Bool.and_eq_true] at h9
    obtain ⟨pn, hp, rfl⟩ := hw.pOf h9.1
    obtain ⟨cn, hc, rfl⟩ := hw.cOf h9.2.1
    obtain ⟨mn, hm, rfl⟩ := hw.tOf h9.2.2.1
    rw [nI_clamp (show cn < 2 ^ 31 by omega), nI_clamp (show mn < 2 ^ 31 by omega), nI_clamp (show pn < 2 ^ 31 by omega)]
    refine bX4_lie_15.go rfl trivial ?_
    refine rc_V ok_fillCourses gX4_fillCourses dX4_lie_16 rfl hpre (fun r A1 B1 q => ?_)
    obtain ⟨rfl, hk, hq⟩ := q
    refine j_if_ne (tgt := 25) dX4_lie_19 (by decide) (fun h19 => ?_) (fun h19 => ?_)
    · rw [b2_n0] at h19
      have hn := of_decide_eq_true h19
      have hC := hq hn v hw
      rw [if_pos hn]
      refine bX4_lie_25.go rfl (by simp (disch := omega) only [vpI]; exact ⟨⟨trivial, by omega, by omega, by omega, ⟨_, cnC_pos _, hn, hC.1⟩, v, by rw [hk.1]; exact hw⟩, trivial⟩) ?_
      simp (disch := omega) only [nI_clamp, hC.1, hk.1]
      rw [wrC_eq hw hC hc hm]
      refine j_icmp_ne (tgt := 42) dX4_lie_35 (by decide) (fun h35 => ?_) (fun h35 => ?_)
      · refine bX4_lie_42.go rfl trivial ?_
        exact r_iret dX4_lie_43 rfl ⟨ans (b2_f (decide_eq_false h35)), hk⟩
      · refine bX4_lie_38.go rfl trivial ?_
        exact r_iret dX4_lie_43 rfl ⟨ans (b2_t (decide_eq_true h35)), hk⟩
    · rw [b2_0] at h19
      refine bX4_lie_22.go rfl trivial ?_
      exact r_iret dX4_lie_24 rfl ⟨ans (by rw [if_neg (of_decide_eq_false h19)]), hk⟩
  · rw [b2_0] at h9
    refine bX4_lie_12.go rfl trivial ?_
    exact r_iret dX4_lie_14 rfl ⟨ans (by rw [q_lie, if_neg (by rw [h9]; decide)]), Keeps2.rf⟩
def q_shown (w : Nat → Int32) (p c m h : Int32) : Int32 := if akB w p c m h = true then (if cnC w ≤ 128 then wrC w p.toNatClampNeg c.toNatClampNeg m.toNatClampNeg h else -3) else -2
theorem bX4_shown_0 : Blk TP mX4_shown 0 9 [oAL 0, oIL 1, oIL 2, oIL 3, oIL 4, tC_IIII F_isAsked] := blk_c (s_aload_n dX4_shown_0 rfl) <| blk_c (s_iload_n dX4_shown_1 rfl) <| blk_c (s_iload_n dX4_shown_2 rfl) <| blk_c (s_iload_n dX4_shown_3 rfl) <| blk_c (s_iload dX4_shown_4) <| blk_c (tc_IIII ok_isAsked gX4_isAsked (by decide +kernel) (by decide) dX4_shown_6) <| blk_nil
theorem bX4_shown_12 : Blk TP mX4_shown 12 14 [oC (-2)] := blk_c (s_bipush dX4_shown_12 (by decide +kernel)) <| blk_nil
theorem bX4_shown_15 : Blk TP mX4_shown 15 16 [oAL 0] := blk_c (s_aload_n dX4_shown_15 rfl) <| blk_nil
theorem bX4_shown_22 : Blk TP mX4_shown 22 36 [oAL 0, oIL 1, oIL 2, oIL 3, oIL 4, tC_IIII F_shownBy, .inl (fun s => some s)] := blk_c (s_aload_n dX4_shown_22 rfl) <| blk_c (s_iload_n dX4_shown_23 rfl) <| blk_c (s_iload_n dX4_shown_24 rfl) <| blk_c (s_iload_n dX4_shown_25 rfl) <| blk_c (s_iload dX4_shown_26) <| blk_c (tc_IIII ok_shownBy gX4_shownBy (by decide +kernel) (by decide) dX4_shown_28) <| blk_c (s_goto (tgt := 36) dX4_shown_31 (by decide)) <| blk_nil
theorem bX4_shown_34 : Blk TP mX4_shown 34 36 [oC (-3)] := blk_c (s_bipush dX4_shown_34 (by decide +kernel)) <| blk_nil
theorem ok_shown : RC_IIII mX4_shown (fun _ _ _ _ A B => Pre_runs A B) (fun p c m h A B => Qq (q_shown (A 1) p c m h) A B) := by
  intro X p c m h o ad A B hpre
  obtain ⟨v, hw⟩ := id hpre
  have h6 : v 6 ≤ 40 := hw.2.2.2.2.2.2.2.1
  have h4 : v 1 ≤ 4 := hw.2.2.1
  have h8 : v 2 ≤ 8 := hw.2.2.2.1
  refine R_start (L := [some (.ref o), some (.int p), some (.int c), some (.int m), some (.int h)]) 0 rfl ?_
  refine bX4_shown_0.go rfl (by exact ⟨⟨rfl, trivial⟩, trivial⟩) ?_
  refine j_if_ne (tgt := 15) dX4_shown_9 (by decide) (fun h9 => ?_) (fun h9 => ?_)
  · rw [b2_n0] at h9
    dsimp only
    rw [q_shown, if_pos h9]
    simp only [akB, Bool.and_eq_true] at h9
    obtain ⟨pn, hp, rfl⟩ := hw.pOf h9.1
    obtain ⟨cn, hc, rfl⟩ := hw.cOf h9.2.1
    obtain ⟨mn, hm, rfl⟩ := hw.tOf h9.2.2.1
    rw [nI_clamp (show cn < 2 ^ 31 by omega), nI_clamp (show mn < 2 ^ 31 by omega), nI_clamp (show pn < 2 ^ 31 by omega)]
    refine bX4_shown_15.go rfl trivial ?_
    refine rc_V ok_fillCourses gX4_fillCourses dX4_shown_16 rfl hpre (fun r A1 B1 q => ?_)
    obtain ⟨rfl, hk, hq⟩ := q
    refine j_if_eq (tgt := 34) dX4_shown_19 (by decide) (fun h19 => ?_) (fun h19 => ?_)
    · rw [b2_0] at h19
      refine bX4_shown_34.go rfl trivial ?_
      exact r_iret dX4_shown_36 rfl ⟨ans (by rw [if_neg (of_decide_eq_false h19)]), hk⟩
    · rw [b2_n0] at h19
      have hn := of_decide_eq_true h19
      have hC := hq hn v hw
      rw [if_pos hn]
      refine bX4_shown_22.go rfl (by simp (disch := omega) only [vpI]; exact ⟨⟨trivial, by omega, by omega, by omega, ⟨_, cnC_pos _, hn, hC.1⟩, v, by rw [hk.1]; exact hw⟩, trivial⟩) ?_
      simp (disch := omega) only [nI_clamp, hC.1, hk.1]
      rw [wrC_eq hw hC hc hm]
      exact r_iret dX4_shown_36 rfl ⟨rfl, hk⟩
  · rw [b2_0] at h9
    refine bX4_shown_12.go rfl trivial ?_
    exact r_iret dX4_shown_14 rfl ⟨ans (by rw [q_shown, if_neg (by rw [h9]; decide)]), Keeps2.rf⟩
