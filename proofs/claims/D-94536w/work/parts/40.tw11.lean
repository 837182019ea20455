set_option maxRecDepth 100000
/-! ===== settling all that can be settled; UnseenClockModel: settles ===== -/
def vf (F : Nat → Int32) : Nat → Nat → Int32 := fun p c => F (4 * p + c)
theorem VA_vf (A : Nat → Nat → Int32) : VA A = vf (A 30) := rfl
/-- values, and whether one was settled -/
abbrev PS : Type := (Nat → Int32) × Bool
def st1 (K : MC) (p c : Nat) (s : PS) : PS := if s.1 (4 * p + c) = -1 then (va_up s.1 (4 * p + c) (evV K (vf s.1) p c), s.2 || !decide (evV K (vf s.1) p c = -1)) else s
def psC (K : MC) (p : Nat) : Nat → PS → PS
  | 0, s => s
  | c + 1, s => st1 K p c (psC K p c s)
def psP (K : MC) (nc : Nat) : Nat → PS → PS
  | 0, s => s
  | p + 1, s => psC K p nc (psP K nc p s)
def stl (K : MC) (nc np : Nat) : Nat → (Nat → Int32) → (Nat → Int32)
  | 0, F => F
  | f + 1, F => if (psP K nc np (F, false)).2 = true then stl K nc np f (psP K nc np (F, false)).1 else (psP K nc np (F, false)).1
/-- how many of the first n are open -/
def cntU (F : Nat → Int32) : Nat → Nat
  | 0 => 0
  | n + 1 => cntU F n + (if F n = -1 then 1 else 0)
theorem cntU_le (F : Nat → Int32) (n : Nat) : cntU F n ≤ n := by
  induction n with
  | zero => exact Nat.le_refl _
  | succ n ih => simp only [cntU]; split <;> omega
theorem cntU_up {F : Nat → Int32} {k : Nat} {x : Int32} (hk : F k = -1) (hx : ¬ x = -1) : ∀ n, cntU (va_up F k x) n + (if k < n then 1 else 0) = cntU F n := by
  intro n
  induction n with
  | zero => simp [cntU]
  | succ n ih =>
    simp only [cntU]
    by_cases e : n = k
    · subst e
      rw [va_up_self, if_neg hx, if_pos hk]
      rw [if_neg (by omega)] at ih
      rw [if_pos (by omega)]; omega
    · rw [va_up_ne _ _ e]
      have hk2 : (k < n + 1) ↔ (k < n) := by omega
      simp only [hk2]
      omega
theorem va_up_same {F : Nat → Int32} {k : Nat} {x : Int32} (h : F k = x) : va_up F k x = F := by
  funext j
  by_cases e : j = k
  · subst e; rw [va_up_self, h]
  · rw [va_up_ne _ _ e]
theorem st1_cnt (K : MC) {p c n : Nat} (hn : 4 * p + c < n) (s : PS) : (st1 K p c s).2 = s.2 ∧ (st1 K p c s).1 = s.1 ∨ (st1 K p c s).2 = true ∧ cntU (st1 K p c s).1 n < cntU s.1 n := by
  unfold st1
  split
  · rename_i h
    by_cases e : evV K (vf s.1) p c = -1
    · left; rw [e]; exact ⟨by simp, va_up_same h⟩
    · right
      have := cntU_up h e n
      rw [if_pos hn] at this
      exact ⟨by simp [e], by simp only; omega⟩
  · exact Or.inl ⟨rfl, rfl⟩
/-- nothing was settled, or fewer are open -/
def psOk (n : Nat) (F : Nat → Int32) (s : PS) : Prop := s.2 = false ∧ s.1 = F ∨ s.2 = true ∧ cntU s.1 n < cntU F n
theorem psOk.st (K : MC) {n p c : Nat} (hn : 4 * p + c < n) {F : Nat → Int32} {s : PS} (h : psOk n F s) : psOk n F (st1 K p c s) := by
  rcases st1_cnt K hn s with ⟨a, b⟩ | ⟨a, b⟩
  · unfold psOk; rw [a, b]; exact h
  · rcases h with ⟨h1, h2⟩ | ⟨h1, h2⟩
    · right; rw [h2] at b; exact ⟨a, b⟩
    · right; exact ⟨a, by omega⟩
theorem psC_ok (K : MC) {n p : Nat} {F : Nat → Int32} {s : PS} (h : psOk n F s) : ∀ c, 4 * p + c ≤ n → psOk n F (psC K p c s) := by
  intro c
  induction c with
  | zero => intro _; exact h
  | succ c ih => intro hc; exact (ih (by omega)).st K (by omega)
theorem psP_ok (K : MC) {nc n : Nat} (hc : nc ≤ 4) {F : Nat → Int32} : ∀ p, 4 * p ≤ n → psOk n F (psP K nc p (F, false)) := by
  intro p
  induction p with
  | zero => intro _; exact Or.inl ⟨rfl, rfl⟩
  | succ p ih => intro hp; exact psC_ok K (ih (by omega)) nc (by omega)
theorem mcA_congr {A A' : Nat → Nat → Int32} (h : ∀ k, k ≠ 30 → A' k = A k) (m : Nat) : mcA A' m = mcA A m := by
  have e1 := h 1 (by decide); have e17 := h 17 (by decide); have e31 := h 31 (by decide); have e19 := h 19 (by decide); have e18 := h 18 (by decide)
  have s1 : seeA A' = seeA A := by funext p c; simp only [seeA, e17]
  have s2 : mbA A' = mbA A := by funext p c; simp only [mbA, e31]
  have s3 : shA A' (m - 1) = shA A (m - 1) := by funext c; simp only [shA, e18, e1]
  simp only [mcA, s1, s2, s3, e1, e19]
def Pre_settles (m : Int32) (A : Nat → Nat → Int32) (_ : Nat → Nat → Int64) : Prop := ∃ (v : Nat → Nat) (mn : Nat), WOk (A 1) v ∧ mn < 40 ∧ m = nI mn
def Q_settles (m : Int32) (A : Nat → Nat → Int32) (B : Nat → Nat → Int64) : QR := fun r A' B' => r = none ∧ B' = B ∧ (∀ k, k ≠ 30 → A' k = A k) ∧ A' 30 = stl (mcA A m.toNatClampNeg) (A 1 1).toNatClampNeg (A 1 2).toNatClampNeg 33 (A 30)
theorem bX4_settles_0 : Blk TP mX4_settles 0 2 [oC (nI 1), oIS 2] := blk_c (s_iconst dX4_settles_0 (by decide +kernel)) <| blk_c (s_istore_n dX4_settles_1 rfl (by decide)) <| blk_nil
theorem bX4_settles_2 : Blk TP mX4_settles 2 3 [oIL 2] := blk_c (s_iload_n dX4_settles_2 rfl) <| blk_nil
theorem bX4_settles_6 : Blk TP mX4_settles 6 10 [oC (nI 0), oIS 2, oC (nI 0), oIS 3] := blk_c (s_iconst dX4_settles_6 (by decide +kernel)) <| blk_c (s_istore_n dX4_settles_7 rfl (by decide)) <| blk_c (s_iconst dX4_settles_8 (by decide +kernel)) <| blk_c (s_istore_n dX4_settles_9 rfl (by decide)) <| blk_nil
theorem bX4_settles_10 : Blk TP mX4_settles 10 17 [oIL 3, oAL 0, tR 1, oC (nI 2), tAI 1 320] := blk_c (s_iload_n dX4_settles_10 rfl) <| blk_c (s_aload_n dX4_settles_11 rfl) <| blk_c (tgX4_1 rfl dX4_settles_12) <| blk_c (s_iconst dX4_settles_15 (by decide +kernel)) <| blk_c (t_iald rfl dX4_settles_16) <| blk_nil
theorem bX4_settles_20 : Blk TP mX4_settles 20 23 [oC (nI 0), oIS 4] := blk_c (s_iconst dX4_settles_20 (by decide +kernel)) <| blk_c (s_istore dX4_settles_21 (by decide)) <| blk_nil
theorem bX4_settles_23 : Blk TP mX4_settles 23 31 [oIL 4, oAL 0, tR 1, oC (nI 1), tAI 1 320] := blk_c (s_iload dX4_settles_23) <| blk_c (s_aload_n dX4_settles_25 rfl) <| blk_c (tgX4_1 rfl dX4_settles_26) <| blk_c (s_iconst dX4_settles_29 (by decide +kernel)) <| blk_c (t_iald rfl dX4_settles_30) <| blk_nil
theorem bX4_settles_34 : Blk TP mX4_settles 34 46 [oAL 0, tR 30, oC (nI 4), oIL 3, oMul, oIL 4, oAdd, tAI 30 32, oC (-1)] := blk_c (s_aload_n dX4_settles_34 rfl) <| blk_c (tgX4_30 rfl dX4_settles_35) <| blk_c (s_iconst dX4_settles_38 (by decide +kernel)) <| blk_c (s_iload_n dX4_settles_39 rfl) <| blk_c (s_imul dX4_settles_40) <| blk_c (s_iload dX4_settles_41) <| blk_c (s_iadd dX4_settles_43) <| blk_c (t_iald rfl dX4_settles_44) <| blk_c (s_iconst dX4_settles_45 (by decide +kernel)) <| blk_nil
theorem bX4_settles_49 : Blk TP mX4_settles 49 96 [.inl (fun s => some s)] := blk_c (s_goto (tgt := 96) dX4_settles_49 (by decide)) <| blk_nil
theorem bX4_settles_52 : Blk TP mX4_settles 52 72 [oAL 0, tR 30, oC (nI 4), oIL 3, oMul, oIL 4, oAdd, oAL 0, oIL 3, oIL 4, oIL 1, tC_III F_settled, tSI 30 32, oIL 2] := blk_c (s_aload_n dX4_settles_52 rfl) <| blk_c (tgX4_30 rfl dX4_settles_53) <| blk_c (s_iconst dX4_settles_56 (by decide +kernel)) <| blk_c (s_iload_n dX4_settles_57 rfl) <| blk_c (s_imul dX4_settles_58) <| blk_c (s_iload dX4_settles_59) <| blk_c (s_iadd dX4_settles_61) <| blk_c (s_aload_n dX4_settles_62 rfl) <| blk_c (s_iload_n dX4_settles_63 rfl) <| blk_c (s_iload dX4_settles_64) <| blk_c (s_iload_n dX4_settles_66 rfl) <| blk_c (tc_III ok_settled gX4_settled (by decide +kernel) (by decide) dX4_settles_67) <| blk_c (t_iast rfl dX4_settles_70) <| blk_c (s_iload_n dX4_settles_71 rfl) <| blk_nil
theorem bX4_settles_75 : Blk TP mX4_settles 75 87 [oAL 0, tR 30, oC (nI 4), oIL 3, oMul, oIL 4, oAdd, tAI 30 32, oC (-1)] := blk_c (s_aload_n dX4_settles_75 rfl) <| blk_c (tgX4_30 rfl dX4_settles_76) <| blk_c (s_iconst dX4_settles_79 (by decide +kernel)) <| blk_c (s_iload_n dX4_settles_80 rfl) <| blk_c (s_imul dX4_settles_81) <| blk_c (s_iload dX4_settles_82) <| blk_c (s_iadd dX4_settles_84) <| blk_c (t_iald rfl dX4_settles_85) <| blk_c (s_iconst dX4_settles_86 (by decide +kernel)) <| blk_nil
theorem bX4_settles_90 : Blk TP mX4_settles 90 95 [oC (nI 1), .inl (fun s => some s)] := blk_c (s_iconst dX4_settles_90 (by decide +kernel)) <| blk_c (s_goto (tgt := 95) dX4_settles_91 (by decide)) <| blk_nil
theorem bX4_settles_94 : Blk TP mX4_settles 94 95 [oC (nI 0)] := blk_c (s_iconst dX4_settles_94 (by decide +kernel)) <| blk_nil
theorem bX4_settles_95 : Blk TP mX4_settles 95 96 [oIS 2] := blk_c (s_istore_n dX4_settles_95 rfl (by decide)) <| blk_nil
theorem bX4_settles_96 : Blk TP mX4_settles 96 23 [oInc 4 1, .inl (fun s => some s)] := blk_c (s_iinc dX4_settles_96 (by decide +kernel) (by decide)) <| blk_c (s_goto (tgt := 23) dX4_settles_99 (by decide)) <| blk_nil
theorem bX4_settles_102 : Blk TP mX4_settles 102 10 [oInc 3 1, .inl (fun s => some s)] := blk_c (s_iinc dX4_settles_102 (by decide +kernel) (by decide)) <| blk_c (s_goto (tgt := 10) dX4_settles_105 (by decide)) <| blk_nil
theorem bX4_settles_108 : Blk TP mX4_settles 108 2 [.inl (fun s => some s)] := blk_c (s_goto (tgt := 2) dX4_settles_108 (by decide)) <| blk_nil
theorem ok_settles : RC_I mX4_settles Pre_settles Q_settles := by
  intro X m o ad A B hpre
  obtain ⟨v, mn, hw, hm, rfl⟩ := hpre
  have h8 : v 2 ≤ 8 := hw.2.2.2.1
  have h4 : v 1 ≤ 4 := hw.2.2.1
  have e1 : A 1 1 = nI (v 1) := hw.1 1 (by decide)
  have e2 : A 1 2 = nI (v 2) := hw.1 2 (by decide)
  refine R_start (L := [some (.ref o), some (.int (nI mn)), none, none, none]) 3 rfl ?_
  refine bX4_settles_0.go rfl trivial ?_
  have main : ∀ f A', (∀ k, k ≠ 30 → A' k = A k) → cntU (A' 30) 32 < f → stl (mcA A mn) (v 1) (v 2) f (A' 30) = stl (mcA A mn) (v 1) (v 2) 33 (A 30) → JS TP X mX4_settles (rmOf mX4_settles.lv 0 0) (ZR X o ad (Q_settles (nI mn) A B)) 0 0 2 [some (.ref o), some (.int (nI mn)), some (.int (nI 1)), none, none] [] (o, ad, A', B) := by
    intro f
    induction f with
    | zero => intro A' _ h; omega
    | succ f ihf =>
      intro A0 hA0 hcnt hst
      refine bX4_settles_2.go rfl trivial ?_
      refine j_if_eq (tgt := 111) dX4_settles_3 (by decide) (fun h3 => absurd h3 (by decide +kernel)) (fun h3 => ?_)
      refine bX4_settles_6.go rfl trivial ?_
      refine loop_down (N := v 2) (I := fun _ => True) (P := fun p => ∀ A', (∀ k, k ≠ 30 → A' k = A k) → A' 30 = (psP (mcA A mn) (v 1) p (A0 30, false)).1 → JS TP X mX4_settles (rmOf mX4_settles.lv 0 0) _ 0 0 10 [some (.ref o), some (.int (nI mn)), some (.int (b2 (psP (mcA A mn) (v 1) p (A0 30, false)).2)), some (.int (nI p)), none] [] (o, ad, A', B)) ?_ ?_ 0 (by omega) trivial A0 hA0 rfl
      · intro _ A' hA hF
        have eA : A' 1 = A 1 := hA 1 (by decide)
        refine bX4_settles_10.go rfl ⟨rfl, ⟨rfl, vp_in_nI (by decide) (by decide)⟩, trivial⟩ ?_
        refine j_icmp_ge (tgt := 108) dX4_settles_17 (by decide) (fun h17 => ?_) (fun h17 => ?_)
        · refine bX4_settles_108.go rfl trivial ?_
          have ok := psP_ok (mcA A mn) h4 (n := 32) (F := A0 30) (v 2) (by omega)
          rw [stl] at hst
          cases hb : (psP (mcA A mn) (v 1) (v 2) (A0 30, false)).2 with
          | true =>
            rw [if_pos hb] at hst
            rcases ok with ⟨q, -⟩ | ⟨-, q⟩
            · rw [hb] at q; cases q
            · exact JS.weak (by simp [lsub, b2]) (ihf A' hA (by rw [hF]; omega) (by rw [hF]; exact hst))
          | false =>
            rw [if_neg (by rw [hb]; decide)] at hst
            refine bX4_settles_2.go rfl trivial ?_
            refine j_if_eq (tgt := 111) dX4_settles_3 (by decide) (fun _ => ?_) (fun h3 => absurd (by decide +kernel) h3)
            refine r_vret dX4_settles_111 rfl ⟨rfl, rfl, hA, ?_⟩
            simp (disch := omega) only [nI_clamp, e1, e2]
            rw [hF, hst]
        · simp (disch := omega) only [nI_clamp, eA, e2, nI_leI] at h17; omega
      · intro p hp _ ih A' hA hF
        have eA : A' 1 = A 1 := hA 1 (by decide)
        refine bX4_settles_10.go rfl ⟨rfl, ⟨rfl, vp_in_nI (by decide) (by decide)⟩, trivial⟩ ?_
        refine j_icmp_ge (tgt := 108) dX4_settles_17 (by decide) (fun h17 => ?_) (fun h17 => ?_)
        · simp (disch := omega) only [nI_clamp, eA, e2, nI_leI] at h17; omega
        · refine bX4_settles_20.go rfl trivial ?_
          refine loop_down (N := v 1) (I := fun _ => True) (P := fun c => ∀ A', (∀ k, k ≠ 30 → A' k = A k) → A' 30 = (psC (mcA A mn) p c (psP (mcA A mn) (v 1) p (A0 30, false))).1 → JS TP X mX4_settles (rmOf mX4_settles.lv 0 0) _ 0 0 23 [some (.ref o), some (.int (nI mn)), some (.int (b2 (psC (mcA A mn) p c (psP (mcA A mn) (v 1) p (A0 30, false))).2)), some (.int (nI p)), some (.int (nI c))] [] (o, ad, A', B)) ?_ ?_ 0 (by omega) trivial A' hA hF
          · intro _ A' hA hF
            have eA : A' 1 = A 1 := hA 1 (by decide)
            refine bX4_settles_23.go rfl ⟨rfl, ⟨rfl, vp_in_nI (by decide) (by decide)⟩, trivial⟩ ?_
            refine j_icmp_ge (tgt := 102) dX4_settles_31 (by decide) (fun h31 => ?_) (fun h31 => ?_)
            · refine bX4_settles_102.go rfl trivial ?_
              rw [nI_1]
              exact JS.weak (by simp [lsub]; rfl) (ih trivial A' hA hF)
            · simp (disch := omega) only [nI_clamp, eA, e1, nI_leI] at h31; omega
          · intro c hc _ ih2 A' hA hF
            have eA : A' 1 = A 1 := hA 1 (by decide)
            revert ih2 hF
            simp only [psC]
            generalize psC (mcA A mn) p c (psP (mcA A mn) (v 1) p (A0 30, false)) = s
            intro ih2 hF
            refine bX4_settles_23.go rfl ⟨rfl, ⟨rfl, vp_in_nI (by decide) (by decide)⟩, trivial⟩ ?_
            refine j_icmp_ge (tgt := 102) dX4_settles_31 (by decide) (fun h31 => ?_) (fun h31 => ?_)
            · simp (disch := omega) only [nI_clamp, eA, e1, nI_leI] at h31; omega
            · refine bX4_settles_34.go rfl (by simp (disch := omega) only [nI_add, pk_mul, vpI]; exact ⟨trivial, ⟨trivial, by omega⟩, trivial⟩) ?_
              simp (disch := omega) only [nI_add, pk_mul, nI_clamp, hF]
              refine j_icmp_eq (tgt := 52) dX4_settles_46 (by decide) (fun h46 => ?_) (fun h46 => ?_)
              · have e : evV (mcA A' mn) (VA A') p c = evV (mcA A mn) (vf s.1) p c := by rw [mcA_congr hA, VA_vf, hF]
                refine bX4_settles_52.go rfl (by simp (disch := omega) only [nI_add, pk_mul, vpI]; exact ⟨trivial, ⟨trivial, v, p, c, mn, by rw [eA]; exact hw, hp, hc, hm, rfl, rfl, rfl⟩, ⟨trivial, by omega⟩, trivial⟩) ?_
                simp (disch := omega) only [nI_add, pk_mul, nI_clamp, e]
                have hA2 : ∀ k, k ≠ 30 → upA A' 30 (4 * p + c) (evV (mcA A mn) (vf s.1) p c) k = A k := fun k hk => by rw [upA_ne hk, hA k hk]
                have hF2 : upA A' 30 (4 * p + c) (evV (mcA A mn) (vf s.1) p c) 30 = va_up s.1 (4 * p + c) (evV (mcA A mn) (vf s.1) p c) := by unfold upA; rw [va_up_self, hF]
                have j95 : ∀ z, z = b2 (s.2 || !decide (evV (mcA A mn) (vf s.1) p c = -1)) → JS TP X mX4_settles (rmOf mX4_settles.lv 0 0) (ZR X o ad (Q_settles (nI mn) A B)) 0 0 95 [some (.ref o), some (.int (nI mn)), some (.int (b2 s.2)), some (.int (nI p)), some (.int (nI c))] [.int z] (o, ad, upA A' 30 (4 * p + c) (evV (mcA A mn) (vf s.1) p c), B) := by
                  intro z hz
                  subst hz
                  refine bX4_settles_95.go rfl trivial ?_
                  refine bX4_settles_96.go rfl trivial ?_
                  rw [nI_1]
                  have := ih2 trivial _ hA2 (by rw [hF2, st1, if_pos h46])
                  rw [st1, if_pos h46] at this
                  exact this
                refine j_if_ne (tgt := 90) dX4_settles_72 (by decide) (fun h72 => ?_) (fun h72 => ?_)
                · rw [b2_n0] at h72
                  refine bX4_settles_90.go rfl trivial ?_
                  exact j95 _ (b2_t (by simp [h72]))
                · rw [b2_0] at h72
                  refine bX4_settles_75.go rfl (by simp (disch := omega) only [nI_add, pk_mul, vpI]; exact ⟨trivial, ⟨trivial, by omega⟩, trivial⟩) ?_
                  simp (disch := omega) only [nI_add, pk_mul, nI_clamp, hF2, va_up_self]
                  refine j_icmp_eq (tgt := 94) dX4_settles_87 (by decide) (fun h87 => ?_) (fun h87 => ?_)
                  · refine bX4_settles_94.go rfl trivial ?_
                    exact j95 _ (b2_f (by simp [h72, h87]))
                  · refine bX4_settles_90.go rfl trivial ?_
                    exact j95 _ (b2_t (by simp [h87]))
              · refine bX4_settles_49.go rfl trivial ?_
                refine bX4_settles_96.go rfl trivial ?_
                rw [nI_1]
                have := ih2 trivial A' hA (by rw [hF, st1, if_neg h46])
                rw [st1, if_neg h46] at this
                exact this
  exact main 33 A (fun _ _ => rfl) (by have := cntU_le (A 30) 32; omega) rfl
