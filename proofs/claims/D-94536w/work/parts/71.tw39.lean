set_option maxRecDepth 100000
/-! ===== UnseenClockModel: feed ===== -/
/-- the k-th byte of five ints -/
def fivI (a b c d e : Int32) (i : Nat) : Int32 := if i = 0 then a else if i = 1 then b else if i = 2 then c else if i = 3 then d else e
def bytI (x : Int32) (k : Nat) : Int32 := vp_nar .byte (x >>> (nI (24 - 8 * (k % 4)) &&& 31)).toInt8.toInt32
def Q_feed (a b c d e : Int32) (A : Nat → Nat → Int32) (B : Nat → Nat → Int64) : QR := fun r A' B' => B' = B ∧ ∀ n, A 0 5 = nI n → n ≤ 2400 → (2400 < n + 20 → r = some (.int (-1)) ∧ A' = A) ∧ (n + 20 ≤ 2400 → r = some (.int (nI (n + 20))) ∧ (∀ f, f ≠ 0 → f ≠ 4 → f ≠ 6 → A' f = A f) ∧ (∀ j, A' 0 j = if j = 5 then nI (n + 20) else A 0 j) ∧ ∀ j, A' 4 j = if n ≤ j ∧ j < n + 20 then bytI (fivI a b c d e ((j - n) / 4)) (j - n) else A 4 j)
theorem bX4_feed_0 : Blk TP mX4_feed 0 10 [oAL 0, tI 5, oC (nI 20), oAdd, oC (nI 2400)] := blk_c (s_aload_n dX4_feed_0 rfl) <| blk_c (tgX4_5 rfl dX4_feed_1) <| blk_c (s_bipush dX4_feed_4 (by decide +kernel)) <| blk_c (s_iadd dX4_feed_6) <| blk_c (s_sipush dX4_feed_7 (by decide +kernel)) <| blk_nil
theorem bX4_feed_13 : Blk TP mX4_feed 13 14 [oC (-1)] := blk_c (s_iconst dX4_feed_13 (by decide +kernel)) <| blk_nil
theorem bX4_feed_15 : Blk TP mX4_feed 15 55 [oAL 0, tR 6, oC (nI 0), oIL 1, tSI 6 5, oAL 0, tR 6, oC (nI 1), oIL 2, tSI 6 5, oAL 0, tR 6, oC (nI 2), oIL 3, tSI 6 5, oAL 0, tR 6, oC (nI 3), oIL 4, tSI 6 5, oAL 0, tR 6, oC (nI 4), oIL 5, tSI 6 5, oC (nI 0), oIS 6] := blk_c (s_aload_n dX4_feed_15 rfl) <| blk_c (tgX4_6 rfl dX4_feed_16) <| blk_c (s_iconst dX4_feed_19 (by decide +kernel)) <| blk_c (s_iload_n dX4_feed_20 rfl) <| blk_c (t_iast rfl dX4_feed_21) <| blk_c (s_aload_n dX4_feed_22 rfl) <| blk_c (tgX4_6 rfl dX4_feed_23) <| blk_c (s_iconst dX4_feed_26 (by decide +kernel)) <| blk_c (s_iload_n dX4_feed_27 rfl) <| blk_c (t_iast rfl dX4_feed_28) <| blk_c (s_aload_n dX4_feed_29 rfl) <| blk_c (tgX4_6 rfl dX4_feed_30) <| blk_c (s_iconst dX4_feed_33 (by decide +kernel)) <| blk_c (s_iload_n dX4_feed_34 rfl) <| blk_c (t_iast rfl dX4_feed_35) <| blk_c (s_aload_n dX4_feed_36 rfl) <| blk_c (tgX4_6 rfl dX4_feed_37) <| blk_c (s_iconst dX4_feed_40 (by decide +kernel)) <| blk_c (s_iload dX4_feed_41) <| blk_c (t_iast rfl dX4_feed_43) <| blk_c (s_aload_n dX4_feed_44 rfl) <| blk_c (tgX4_6 rfl dX4_feed_45) <| blk_c (s_iconst dX4_feed_48 (by decide +kernel)) <| blk_c (s_iload dX4_feed_49) <| blk_c (t_iast rfl dX4_feed_51) <| blk_c (s_iconst dX4_feed_52 (by decide +kernel)) <| blk_c (s_istore dX4_feed_53 (by decide)) <| blk_nil
theorem bX4_feed_55 : Blk TP mX4_feed 55 59 [oIL 6, oC (nI 20)] := blk_c (s_iload dX4_feed_55) <| blk_c (s_bipush dX4_feed_57 (by decide +kernel)) <| blk_nil
theorem bX4_feed_62 : Blk TP mX4_feed 62 55 [oAL 0, tR 4, oAL 0, tI 5, oIL 6, oAdd, oAL 0, tR 6, oIL 6, oC (nI 4), oDiv, tAI 6 5, oC (nI 24), oC (nI 8), oIL 6, oC (nI 4), oRem, oMul, oSub, oShr, oI2B, tSB 4 2400, oInc 6 1, .inl (fun s => some s)] := blk_c (s_aload_n dX4_feed_62 rfl) <| blk_c (tgX4_4 rfl dX4_feed_63) <| blk_c (s_aload_n dX4_feed_66 rfl) <| blk_c (tgX4_5 rfl dX4_feed_67) <| blk_c (s_iload dX4_feed_70) <| blk_c (s_iadd dX4_feed_72) <| blk_c (s_aload_n dX4_feed_73 rfl) <| blk_c (tgX4_6 rfl dX4_feed_74) <| blk_c (s_iload dX4_feed_77) <| blk_c (s_iconst dX4_feed_79 (by decide +kernel)) <| blk_c (s_idiv dX4_feed_80) <| blk_c (t_iald rfl dX4_feed_81) <| blk_c (s_bipush dX4_feed_82 (by decide +kernel)) <| blk_c (s_bipush dX4_feed_84 (by decide +kernel)) <| blk_c (s_iload dX4_feed_86) <| blk_c (s_iconst dX4_feed_88 (by decide +kernel)) <| blk_c (s_irem dX4_feed_89) <| blk_c (s_imul dX4_feed_90) <| blk_c (s_isub dX4_feed_91) <| blk_c (s_ishr dX4_feed_92) <| blk_c (s_i2b dX4_feed_93) <| blk_c (t_bast rfl dX4_feed_94) <| blk_c (s_iinc dX4_feed_95 (by decide +kernel) (by decide)) <| blk_c (s_goto (tgt := 55) dX4_feed_98 (by decide)) <| blk_nil
theorem bX4_feed_101 : Blk TP mX4_feed 101 116 [oAL 0, oDupR, tI 5, oC (nI 20), oAdd, tPI 5, oAL 0, tI 5] := blk_c (s_aload_n dX4_feed_101 rfl) <| blk_c (s_dupR dX4_feed_102) <| blk_c (tgX4_5 rfl dX4_feed_103) <| blk_c (s_bipush dX4_feed_106 (by decide +kernel)) <| blk_c (s_iadd dX4_feed_108) <| blk_c (tpX4_5 rfl dX4_feed_109) <| blk_c (s_aload_n dX4_feed_112 rfl) <| blk_c (tgX4_5 rfl dX4_feed_113) <| blk_nil
theorem ok_feed : RC_IIIII mX4_feed (fun _ _ _ _ _ A _ => ∃ n, A 0 5 = nI n ∧ n ≤ 2400) Q_feed := by
  intro X a b c d e o ad A B hpre
  obtain ⟨n, hn, hn2⟩ := hpre
  have uq : ∀ n', A 0 5 = nI n' → n' ≤ 2400 → n' = n := fun n' h h2 => (nI_eq (by omega) (by omega)).mp (h.symm.trans hn)
  refine R_start (L := [some (.ref o), some (.int a), some (.int b), some (.int c), some (.int d), some (.int e), none]) 1 rfl ?_
  refine bX4_feed_0.go rfl (by exact ⟨rfl, trivial⟩) ?_
  simp (disch := omega) only [hn, nI_add]
  refine j_icmp_le (tgt := 15) dX4_feed_10 (by decide) (fun h10 => ?_) (fun h10 => ?_)
  · rw [nI_leI (by omega) (by omega)] at h10
    refine bX4_feed_15.go rfl (by simp (disch := omega) only [vpI]; exact ⟨trivial, ⟨trivial, by omega⟩, trivial, ⟨trivial, by omega⟩, trivial, ⟨trivial, by omega⟩, trivial, ⟨trivial, by omega⟩, trivial, ⟨trivial, by omega⟩, trivial⟩) ?_
    simp (disch := omega) only [nI_clamp]
    generalize hA1 : upA (upA (upA (upA (upA A 6 0 a) 6 1 b) 6 2 c) 6 3 d) 6 4 e = A1
    have k1 : ∀ f, f ≠ 6 → A1 f = A f := fun f hf => by rw [← hA1, upA_ne hf, upA_ne hf, upA_ne hf, upA_ne hf, upA_ne hf]
    have k6 : ∀ i, i < 5 → A1 6 i = fivI a b c d e i := fun i hi => by
      rw [← hA1, upA_at, upA_at, upA_at, upA_at, upA_at]
      unfold fivI
      match i, hi with
      | 0, _ => rfl
      | 1, _ => rfl
      | 2, _ => rfl
      | 3, _ => rfl
      | 4, _ => rfl
    refine loop_down (N := 20) (I := fun _ => True) (P := fun k => ∀ A', (∀ f, f ≠ 4 → A' f = A1 f) → (∀ j, A' 4 j = if n ≤ j ∧ j < n + k then bytI (fivI a b c d e ((j - n) / 4)) (j - n) else A 4 j) → JS TP X mX4_feed (rmOf mX4_feed.lv 0 0) _ 0 0 55 [some (.ref o), some (.int a), some (.int b), some (.int c), some (.int d), some (.int e), some (.int (nI k))] [] (o, ad, A', B)) ?_ ?_ 0 (by omega) trivial A1 (fun _ _ => rfl) (fun j => by rw [if_neg (by omega), k1 4 (by decide)])
    · intro _ A' a1 a2
      have e5 : A' 0 5 = nI n := by rw [a1 0 (by decide), k1 0 (by decide)]; exact hn
      refine bX4_feed_55.go rfl trivial ?_
      refine j_icmp_ge (tgt := 101) dX4_feed_59 (by decide) (fun h59 => ?_) (fun h59 => ?_)
      · refine bX4_feed_101.go rfl (by exact ⟨rfl, rfl, rfl, trivial⟩) ?_
        simp (disch := omega) only [e5, nI_add]
        refine r_iret dX4_feed_116 rfl ⟨rfl, fun n' h' h2' => ?_⟩
        obtain rfl := uq n' h' h2'
        refine ⟨fun h => by omega, fun _ => ⟨by rw [upA_at, if_pos rfl], fun f h0 h4 h6 => by rw [upA_ne h0, a1 f h4, k1 f h6], fun j => by rw [upA_at, a1 0 (by decide), k1 0 (by decide)], fun j => by rw [upA_ne (by decide)]; exact a2 j⟩⟩
      · simp (disch := omega) only [nI_leI] at h59; omega
    · intro k hk _ ih A' a1 a2
      have e5 : A' 0 5 = nI n := by rw [a1 0 (by decide), k1 0 (by decide)]; exact hn
      have hmod : nI k - nI (k / 4) * nI 4 = nI (k % 4) := by rw [pk_mul, pk_sub (by omega)]; congr 1; omega
      refine bX4_feed_55.go rfl trivial ?_
      refine j_icmp_ge (tgt := 101) dX4_feed_59 (by decide) (fun h59 => ?_) (fun h59 => ?_)
      · simp (disch := omega) only [nI_leI] at h59; omega
      · refine bX4_feed_62.go rfl (by simp (disch := omega) only [e5, nI_add, pk_mul, pk_div, vpI]; exact ⟨trivial, trivial, trivial, by decide +kernel, ⟨trivial, by omega⟩, by decide +kernel, ⟨trivial, by omega⟩, trivial⟩) ?_
        simp (disch := omega) only [e5, nI_add, pk_div, hmod, nI_clamp, nI_1]
        simp (disch := omega) only [pk_mul, pk_sub]
        refine ih trivial _ (fun f hf => by rw [upA_ne hf]; exact a1 f hf) (fun j => ?_)
        rw [upA_at, a1 6 (by decide), k6 _ (by omega)]
        by_cases e : j = n + k
        · subst e; rw [if_pos rfl, if_pos (by omega), show n + k - n = k by omega]; rfl
        · rw [if_neg e, a2 j]
          by_cases e2 : n ≤ j ∧ j < n + k
          · rw [if_pos e2, if_pos (by omega)]
          · rw [if_neg e2, if_neg (by omega)]
  · rw [nI_leI (by omega) (by omega)] at h10
    refine bX4_feed_13.go rfl trivial ?_
    refine r_iret dX4_feed_14 rfl ⟨rfl, fun n' h' h2' => ?_⟩
    obtain rfl := uq n' h' h2'
    exact ⟨fun _ => ⟨rfl, rfl⟩, fun h => by omega⟩
