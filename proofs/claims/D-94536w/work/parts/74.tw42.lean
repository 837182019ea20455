set_option maxRecDepth 100000
/-! ===== ways of taking open looks; UnseenClockModel: nextTaking ===== -/
/-- the last no among the first n -/
def lastNo (e : Nat → Bool) : Nat → Option Nat
  | 0 => none
  | k + 1 => if e k = true then lastNo e k else some k
theorem lastNo_lt {e : Nat → Bool} {n k : Nat} (h : lastNo e n = some k) : k < n := by
  induction n with
  | zero => cases h
  | succ n ih =>
    rw [lastNo] at h
    split at h
    · have := ih h; omega
    · cases h; omega
theorem lastNo_cg {e e' : Nat → Bool} {n : Nat} (h : ∀ k, k < n → e k = e' k) : lastNo e n = lastNo e' n := by
  induction n with
  | zero => rfl
  | succ n ih => rw [lastNo, lastNo, h n (by omega), ih (fun k hk => h k (by omega))]
/-- the last no becomes yes -/
def nxtE (e : Nat → Bool) (k n : Nat) : Bool := if n < k then e n else decide (n = k)
def Pre_nextTaking (A : Nat → Nat → Int32) (_ : Nat → Nat → Int64) : Prop := ∃ tm on, A 0 24 = nI tm ∧ A 0 22 = nI on ∧ tm ≤ 1280 ∧ on ≤ 1280
def NxA (A A' : Nat → Nat → Int32) (r : Option Value) (q : Option Nat) : Prop := match q with
  | none => r = some (.int (nI 0))
  | some k => r = some (.int (nI 1)) ∧ A' 0 24 = nI (k + 1) ∧ ∀ n, n < 2000 → tkA A' n = nxtE (tkA A) k n
def Q_nextTaking (A : Nat → Nat → Int32) (B : Nat → Nat → Int64) : QR := fun r A' B' => B' = B ∧ (∀ f, f ≠ 0 → f ≠ 23 → A' f = A f) ∧ (∀ j, j ≠ 24 → A' 0 j = A 0 j) ∧ ∀ on, A 0 22 = nI on → on ≤ 1280 → NxA A A' r (lastNo (tkA A) on)
theorem bX4_nextTaking_0 : Blk TP mX4_nextTaking 0 5 [oAL 0, tI 24, oIS 1] := blk_c (s_aload_n dX4_nextTaking_0 rfl) <| blk_c (tgX4_24 rfl dX4_nextTaking_1) <| blk_c (s_istore_n dX4_nextTaking_4 rfl (by decide)) <| blk_nil
theorem bX4_nextTaking_5 : Blk TP mX4_nextTaking 5 10 [oIL 1, oAL 0, tI 22] := blk_c (s_iload_n dX4_nextTaking_5 rfl) <| blk_c (s_aload_n dX4_nextTaking_6 rfl) <| blk_c (tgX4_22 rfl dX4_nextTaking_7) <| blk_nil
theorem bX4_nextTaking_13 : Blk TP mX4_nextTaking 13 5 [oAL 0, tR 23, oIL 1, oC (nI 0), tSZ 23 1280, oInc 1 1, .inl (fun s => some s)] := blk_c (s_aload_n dX4_nextTaking_13 rfl) <| blk_c (tgX4_23 rfl dX4_nextTaking_14) <| blk_c (s_iload_n dX4_nextTaking_17 rfl) <| blk_c (s_iconst dX4_nextTaking_18 (by decide +kernel)) <| blk_c (t_zast rfl dX4_nextTaking_19) <| blk_c (s_iinc dX4_nextTaking_20 (by decide +kernel) (by decide)) <| blk_c (s_goto (tgt := 5) dX4_nextTaking_23 (by decide)) <| blk_nil
theorem bX4_nextTaking_26 : Blk TP mX4_nextTaking 26 33 [oAL 0, tI 22, oC (nI 1), oSub, oIS 1] := blk_c (s_aload_n dX4_nextTaking_26 rfl) <| blk_c (tgX4_22 rfl dX4_nextTaking_27) <| blk_c (s_iconst dX4_nextTaking_30 (by decide +kernel)) <| blk_c (s_isub dX4_nextTaking_31) <| blk_c (s_istore_n dX4_nextTaking_32 rfl (by decide)) <| blk_nil
theorem bX4_nextTaking_33 : Blk TP mX4_nextTaking 33 34 [oIL 1] := blk_c (s_iload_n dX4_nextTaking_33 rfl) <| blk_nil
theorem bX4_nextTaking_37 : Blk TP mX4_nextTaking 37 43 [oAL 0, tR 23, oIL 1, tAI 23 1280] := blk_c (s_aload_n dX4_nextTaking_37 rfl) <| blk_c (tgX4_23 rfl dX4_nextTaking_38) <| blk_c (s_iload_n dX4_nextTaking_41 rfl) <| blk_c (t_zald rfl dX4_nextTaking_42) <| blk_nil
theorem bX4_nextTaking_46 : Blk TP mX4_nextTaking 46 33 [oInc 1 (-1), .inl (fun s => some s)] := blk_c (s_iinc dX4_nextTaking_46 (by decide +kernel) (by decide)) <| blk_c (s_goto (tgt := 33) dX4_nextTaking_49 (by decide)) <| blk_nil
theorem bX4_nextTaking_52 : Blk TP mX4_nextTaking 52 53 [oIL 1] := blk_c (s_iload_n dX4_nextTaking_52 rfl) <| blk_nil
theorem bX4_nextTaking_56 : Blk TP mX4_nextTaking 56 57 [oC (nI 0)] := blk_c (s_iconst dX4_nextTaking_56 (by decide +kernel)) <| blk_nil
theorem bX4_nextTaking_58 : Blk TP mX4_nextTaking 58 73 [oAL 0, tR 23, oIL 1, oC (nI 1), tSZ 23 1280, oAL 0, oIL 1, oC (nI 1), oAdd, tPI 24, oC (nI 1)] := blk_c (s_aload_n dX4_nextTaking_58 rfl) <| blk_c (tgX4_23 rfl dX4_nextTaking_59) <| blk_c (s_iload_n dX4_nextTaking_62 rfl) <| blk_c (s_iconst dX4_nextTaking_63 (by decide +kernel)) <| blk_c (t_zast rfl dX4_nextTaking_64) <| blk_c (s_aload_n dX4_nextTaking_65 rfl) <| blk_c (s_iload_n dX4_nextTaking_66 rfl) <| blk_c (s_iconst dX4_nextTaking_67 (by decide +kernel)) <| blk_c (s_iadd dX4_nextTaking_68) <| blk_c (tpX4_24 rfl dX4_nextTaking_69) <| blk_c (s_iconst dX4_nextTaking_72 (by decide +kernel)) <| blk_nil
theorem nar_z0 : vp_nar .boolean (nI 0) = nI 0 := by decide +kernel
theorem nar_z1 : vp_nar .boolean (nI 1) = nI 1 := by decide +kernel
theorem ok_nextTaking : RC_V mX4_nextTaking Pre_nextTaking Q_nextTaking := by
  intro X o ad A B hpre
  obtain ⟨tm, on, h24, h22, htm, hon⟩ := hpre
  have uq : ∀ on', A 0 22 = nI on' → on' ≤ 1280 → on' = on := fun on' h h2 => (nI_eq (by omega) (by omega)).mp (h.symm.trans h22)
  have etk : ∀ j, j < 2000 → tkA A j = (decide (j < tm) && !decide (A 23 j = 0)) := fun j hj => by
    rw [tkA, h24]
    congr 1
    exact decide_eq_decide.mpr (nI_ltI (by omega) (by omega))
  have m26 : ∀ A1, (∀ f, f ≠ 23 → A1 f = A f) → (∀ j, j < on → (A1 23 j = 0 ↔ tkA A j = false)) → ∀ l1, JS TP X mX4_nextTaking (rmOf mX4_nextTaking.lv 0 0) (ZR X o ad (Q_nextTaking A B)) 0 0 26 [some (.ref o), l1] [] (o, ad, A1, B) := by
    intro A1 k1 k2 l1
    have e0 : A1 0 = A 0 := k1 0 (by decide)
    refine bX4_nextTaking_26.go rfl (by exact ⟨rfl, trivial⟩) ?_
    rw [e0, h22]
    have lp : ∀ d, d ≤ on → lastNo (tkA A) d = lastNo (tkA A) on → JS TP X mX4_nextTaking (rmOf mX4_nextTaking.lv 0 0) (ZR X o ad (Q_nextTaking A B)) 0 0 33 [some (.ref o), some (.int (nI d - nI 1))] [] (o, ad, A1, B) := by
      intro d
      induction d with
      | zero =>
        intro _ hl
        refine bX4_nextTaking_33.go rfl trivial ?_
        refine j_if_lt (tgt := 52) dX4_nextTaking_34 (by decide) (fun h34 => ?_) (fun h34 => absurd (by decide +kernel) h34)
        refine bX4_nextTaking_52.go rfl trivial ?_
        refine j_if_ge (tgt := 58) dX4_nextTaking_53 (by decide) (fun h53 => absurd h53 (by decide +kernel)) (fun h53 => ?_)
        refine bX4_nextTaking_56.go rfl trivial ?_
        refine r_zret dX4_nextTaking_57 rfl rfl ⟨rfl, fun f _ h => k1 f h, fun j _ => by rw [e0], fun on' a b => ?_⟩
        rw [uq on' a b, ← hl]; rfl
      | succ d ih =>
        intro hd hl
        rw [pk_sub (by omega), show d + 1 - 1 = d by omega]
        refine bX4_nextTaking_33.go rfl trivial ?_
        refine j_if_lt (tgt := 52) dX4_nextTaking_34 (by decide) (fun h34 => absurd h34 (nI_pos (by omega))) (fun h34 => ?_)
        refine bX4_nextTaking_37.go rfl (by simp (disch := omega) only [vpI]; exact ⟨trivial, ⟨trivial, by omega⟩, trivial⟩) ?_
        simp (disch := omega) only [nI_clamp]
        refine j_if_eq (tgt := 52) dX4_nextTaking_43 (by decide) (fun h43 => ?_) (fun h43 => ?_)
        · rw [k2 d (by omega)] at h43
          have hlast : lastNo (tkA A) on = some d := by rw [← hl, lastNo, h43]; rfl
          refine bX4_nextTaking_52.go rfl trivial ?_
          refine j_if_ge (tgt := 58) dX4_nextTaking_53 (by decide) (fun h53 => ?_) (fun h53 => absurd (nI_pos' (by omega)) h53)
          refine bX4_nextTaking_58.go rfl (by simp (disch := omega) only [vpI]; exact ⟨trivial, ⟨trivial, by omega⟩, trivial, trivial⟩) ?_
          simp (disch := omega) only [nI_clamp, nI_add, nar_z1]
          refine r_zret dX4_nextTaking_73 rfl rfl ⟨rfl, fun f h0 h => by rw [upA_ne h0, upA_ne h]; exact k1 f h, fun j hj => by rw [upA_at, if_neg hj, upA_ne (by decide), e0], fun on' a b => ?_⟩
          rw [uq on' a b, hlast]
          refine ⟨rfl, by rw [upA_at, if_pos rfl], fun n hn => ?_⟩
          rw [tkA, upA_at, if_pos rfl, upA_ne (by decide), upA_at, nxtE]
          by_cases c1 : n < d
          · rw [if_pos c1, if_neg (by omega), decide_eq_true ((nI_ltI (by omega) (by omega)).mpr (by omega))]
            have := k2 n (by omega)
            cases hb : tkA A n with
            | false => rw [decide_eq_true (this.mpr hb)]; rfl
            | true => rw [decide_eq_false (fun h => by rw [this, hb] at h; cases h)]; rfl
          · rw [if_neg c1]
            by_cases c2 : n = d
            · subst c2
              rw [if_pos rfl, decide_eq_true ((nI_ltI (by omega) (by omega)).mpr (by omega)), decide_eq_true rfl]; decide +kernel
            · rw [decide_eq_false (fun h => by rw [nI_ltI (by omega) (by omega)] at h; omega), decide_eq_false c2]; rfl
        · have hb : tkA A d = true := by
            cases hb : tkA A d with
            | true => rfl
            | false => exact absurd ((k2 d (by omega)).mpr hb) h43
          refine bX4_nextTaking_46.go rfl trivial ?_
          rw [show nI d + (-1) = nI d - nI 1 by rw [Int32.sub_eq_add_neg, show -(nI 1) = -1 by decide +kernel]]
          exact ih (by omega) (by rw [← hl, lastNo, if_pos hb])
    exact lp on (Nat.le_refl _) rfl
  refine R_start (L := [some (.ref o), none]) 1 rfl ?_
  refine bX4_nextTaking_0.go rfl (by exact ⟨rfl, trivial⟩) ?_
  rw [h24]
  rcases Nat.lt_or_ge on tm with hlt | hge
  · refine bX4_nextTaking_5.go rfl (by exact ⟨rfl, trivial⟩) ?_
    rw [h22]
    refine j_icmp_ge (tgt := 26) dX4_nextTaking_10 (by decide) (fun h10 => ?_) (fun h10 => ?_)
    · refine m26 A (fun _ _ => rfl) (fun j hj => ?_) _
      rw [etk j (by omega), decide_eq_true (show j < tm by omega)]
      simp
    · simp (disch := omega) only [nI_leI] at h10; omega
  · refine loop_down (N := on) (I := fun i => tm ≤ i) (P := fun i => ∀ A1, (∀ f, f ≠ 23 → A1 f = A f) → (∀ j, A1 23 j = if tm ≤ j ∧ j < i then nI 0 else A 23 j) → JS TP X mX4_nextTaking (rmOf mX4_nextTaking.lv 0 0) (ZR X o ad (Q_nextTaking A B)) 0 0 5 [some (.ref o), some (.int (nI i))] [] (o, ad, A1, B)) ?_ ?_ tm hge (Nat.le_refl _) A (fun _ _ => rfl) (fun j => by rw [if_neg (by omega)])
    · intro _ A1 k1 k2
      have e0 : A1 0 = A 0 := k1 0 (by decide)
      refine bX4_nextTaking_5.go rfl (by exact ⟨rfl, trivial⟩) ?_
      rw [e0, h22]
      refine j_icmp_ge (tgt := 26) dX4_nextTaking_10 (by decide) (fun h10 => ?_) (fun h10 => ?_)
      · refine m26 A1 k1 (fun j hj => ?_) _
        rw [k2 j, etk j (by omega)]
        by_cases c : tm ≤ j
        · rw [if_pos ⟨c, hj⟩, decide_eq_false (show ¬ j < tm by omega)]; simp; decide +kernel
        · rw [if_neg (by omega), decide_eq_true (show j < tm by omega)]; simp
      · simp (disch := omega) only [nI_leI] at h10; omega
    · intro i hi hti ih A1 k1 k2
      have e0 : A1 0 = A 0 := k1 0 (by decide)
      refine bX4_nextTaking_5.go rfl (by exact ⟨rfl, trivial⟩) ?_
      rw [e0, h22]
      refine j_icmp_ge (tgt := 26) dX4_nextTaking_10 (by decide) (fun h10 => ?_) (fun h10 => ?_)
      · simp (disch := omega) only [nI_leI] at h10; omega
      · refine bX4_nextTaking_13.go rfl (by simp (disch := omega) only [vpI]; exact ⟨trivial, ⟨trivial, by omega⟩, trivial⟩) ?_
        simp (disch := omega) only [nI_clamp, nI_1, nar_z0]
        refine ih (by omega) _ (fun f hf => by rw [upA_ne hf]; exact k1 f hf) (fun j => ?_)
        rw [upA_at, k2 j]
        by_cases c : j = i
        · rw [if_pos c, if_pos (by omega)]
        · rw [if_neg c]
          by_cases c2 : tm ≤ j ∧ j < i
          · rw [if_pos c2, if_pos (by omega)]
          · rw [if_neg c2, if_neg (by omega)]
