set_option maxRecDepth 100000
/-! ===== all courses; UnseenClockModel: fillCourses ===== -/
/-- a course by how its open looks are taken -/
def cfE (w : Nat → Int32) (e : Nat → Bool) : CF := (w, fun _ => nI 0, e, false)
def rsE (w : Nat → Int32) (e : Nat → Bool) : Nat → RS := rsS (cfE w e) (fun _ => nI 0) 0
def onE (w : Nat → Int32) (e : Nat → Bool) : Nat := (rsE w e (spanW w)).on
/-- what a clock shows; at which clocks a person looks -/
def shE (w : Nat → Int32) (e : Nat → Bool) (c m : Nat) : Int32 := shW w (rsE w e m).pt c
def lkE (w : Nat → Int32) (e : Nat → Bool) (m p : Nat) : Int32 := if p < nP w then minL (cfE w e) m (rsE w e m) p else nI 0
/-- the k-th way of taking open looks -/
def crE (w : Nat → Int32) : Nat → Option (Nat → Bool)
  | 0 => some (fun _ => false)
  | k + 1 => match crE w k with
    | none => none
    | some e => match lastNo e (onE w e) with
      | none => none
      | some j => some (nxtE e j)
def eC (w : Nat → Int32) (k : Nat) : Nat → Bool := (crE w k).getD (fun _ => false)
def shC (w : Nat → Int32) (k c m : Nat) : Int32 := shE w (eC w k) c m
def lkC (w : Nat → Int32) (k m p : Nat) : Int32 := lkE w (eC w k) m p
def cnF (w : Nat → Int32) : Nat → Nat → Nat
  | 0, k => k
  | f + 1, k => if (crE w k).isNone = true then k else cnF w f (k + 1)
/-- how many courses there are (129: too many) -/
def cnC (w : Nat → Int32) : Nat := cnF w 129 0
theorem cnF_at {w : Nat → Int32} {n : Nat} : ∀ f k, k ≤ n → n < k + f → (∀ j, k ≤ j → j < n → (crE w j).isNone = false) → (crE w n).isNone = true → cnF w f k = n := by
  intro f
  induction f with
  | zero => intro k _ h; omega
  | succ f ih =>
    intro k h1 h2 h3 h4
    rw [cnF]
    by_cases e : k = n
    · subst e; rw [if_pos h4]
    · rw [if_neg (by rw [h3 k (Nat.le_refl _) (by omega)]; decide)]
      exact ih (k + 1) (by omega) (by omega) (fun j a b => h3 j (by omega) b) h4
theorem cnF_all {w : Nat → Int32} : ∀ f k, (∀ j, k ≤ j → j < k + f → (crE w j).isNone = false) → cnF w f k = k + f := by
  intro f
  induction f with
  | zero => intro k _; rfl
  | succ f ih =>
    intro k h
    rw [cnF, if_neg (by rw [h k (Nat.le_refl _) (by omega)]; decide), ih (k + 1) (fun j a b => h j (by omega) (by omega))]
    omega
/-- the arrays hold the first n courses -/
def CoA (A' : Nat → Nat → Int32) (v : Nat → Nat) (w : Nat → Int32) (n : Nat) : Prop := A' 0 34 = nI n ∧ ∀ k, k < n → (∀ m, m ≤ v 6 → ∀ c, c < v 1 → A' 32 (164 * k + 4 * m + c) = shC w k c m) ∧ ∀ m, m < v 6 → ∀ p, p < 8 → A' 33 (320 * k + 8 * m + p) = lkC w k m p
def Q_fillCourses (A : Nat → Nat → Int32) (B : Nat → Nat → Int64) : QR := fun r A' B' => r = some (.int (b2 (decide (cnC (A 1) ≤ 128)))) ∧ Keeps2 A B A' B' ∧ (cnC (A 1) ≤ 128 → ∀ v, WOk (A 1) v → CoA A' v (A 1) (cnC (A 1)))
theorem cfEq_E {A : Nat → Nat → Int32} {v : Nat → Nat} {w : Nat → Int32} {e : Nat → Bool} (h4 : v 1 ≤ 4) (hw : A 1 = w) (hk : ∀ c, c < 4 → A 25 c = nI 0) (ht : ∀ n, n < 2000 → tkA A n = e n) (hd : A 0 28 = nI 0) : cfEq v (cfA A) (cfE w e) := by
  refine ⟨hw, fun c hc => hk c (by omega), ht, ?_⟩
  show drA A = false
  simp only [drA, hd]; decide +kernel
theorem bX4_fillCourses_0 : Blk TP mX4_fillCourses 0 1 [oAL 0] := blk_c (s_aload_n dX4_fillCourses_0 rfl) <| blk_nil
theorem bX4_fillCourses_4 : Blk TP mX4_fillCourses 4 21 [oAL 0, oC (nI 0), tPZ 28, oAL 0, oC (nI 0), tPI 24, oAL 0, oC (nI 0), tPI 34, oC (nI 1), oIS 1] := blk_c (s_aload_n dX4_fillCourses_4 rfl) <| blk_c (s_iconst dX4_fillCourses_5 (by decide +kernel)) <| blk_c (tpX4_28 rfl dX4_fillCourses_6) <| blk_c (s_aload_n dX4_fillCourses_9 rfl) <| blk_c (s_iconst dX4_fillCourses_10 (by decide +kernel)) <| blk_c (tpX4_24 rfl dX4_fillCourses_11) <| blk_c (s_aload_n dX4_fillCourses_14 rfl) <| blk_c (s_iconst dX4_fillCourses_15 (by decide +kernel)) <| blk_c (tpX4_34 rfl dX4_fillCourses_16) <| blk_c (s_iconst dX4_fillCourses_19 (by decide +kernel)) <| blk_c (s_istore_n dX4_fillCourses_20 rfl (by decide)) <| blk_nil
theorem bX4_fillCourses_21 : Blk TP mX4_fillCourses 21 22 [oIL 1] := blk_c (s_iload_n dX4_fillCourses_21 rfl) <| blk_nil
theorem bX4_fillCourses_25 : Blk TP mX4_fillCourses 25 26 [oAL 0] := blk_c (s_aload_n dX4_fillCourses_25 rfl) <| blk_nil
theorem bX4_fillCourses_29 : Blk TP mX4_fillCourses 29 36 [oAL 0, tI 34, oC (nI 128)] := blk_c (s_aload_n dX4_fillCourses_29 rfl) <| blk_c (tgX4_34 rfl dX4_fillCourses_30) <| blk_c (s_sipush dX4_fillCourses_33 (by decide +kernel)) <| blk_nil
theorem bX4_fillCourses_39 : Blk TP mX4_fillCourses 39 40 [oC (nI 0)] := blk_c (s_iconst dX4_fillCourses_39 (by decide +kernel)) <| blk_nil
theorem bX4_fillCourses_41 : Blk TP mX4_fillCourses 41 42 [oAL 0] := blk_c (s_aload_n dX4_fillCourses_41 rfl) <| blk_nil
theorem bX4_fillCourses_45 : Blk TP mX4_fillCourses 45 46 [oAL 0] := blk_c (s_aload_n dX4_fillCourses_45 rfl) <| blk_nil
theorem bX4_fillCourses_49 : Blk TP mX4_fillCourses 49 21 [oIS 1, .inl (fun s => some s)] := blk_c (s_istore_n dX4_fillCourses_49 rfl (by decide)) <| blk_c (s_goto (tgt := 21) dX4_fillCourses_50 (by decide)) <| blk_nil
theorem bX4_fillCourses_53 : Blk TP mX4_fillCourses 53 54 [oC (nI 1)] := blk_c (s_iconst dX4_fillCourses_53 (by decide +kernel)) <| blk_nil
theorem ok_fillCourses : RC_V mX4_fillCourses Pre_runs Q_fillCourses := by
  intro X o ad A B hpre
  obtain ⟨v, hw⟩ := hpre
  have h6 : v 6 ≤ 40 := hw.2.2.2.2.2.2.2.1
  have h4 : v 1 ≤ 4 := hw.2.2.1
  have h8 : v 2 ≤ 8 := hw.2.2.2.1
  have e1 : A 1 1 = nI (v 1) := hw.1 1 (by decide)
  have e6 : A 1 6 = nI (v 6) := hw.1 6 (by decide)
  have uv : ∀ v', WOk (A 1) v' → v' 1 = v 1 ∧ v' 6 = v 6 := fun v' hv' => by
    have a := hv'.1 1 (by decide)
    have b := hv'.1 6 (by decide)
    have c := hv'.2.2.1
    have d := hv'.2.2.2.2.2.2.2.1
    exact ⟨(nI_eq (by omega) (by omega)).mp (a.symm.trans e1), (nI_eq (by omega) (by omega)).mp (b.symm.trans e6)⟩
  refine R_start (L := [some (.ref o), none]) 1 rfl ?_
  refine bX4_fillCourses_0.go rfl trivial ?_
  refine rc_V ok_keepsNone gX4_keepsNone dX4_fillCourses_1 rfl trivial (fun r1 A1 B1 q1 => ?_)
  obtain ⟨rfl, hB, s1, s2⟩ := q1
  have hB := hB.symm
  subst hB
  refine bX4_fillCourses_4.go rfl (by exact ⟨⟨rfl, by decide +kernel, by decide +kernel⟩, rfl, rfl, trivial⟩) ?_
  have lp : ∀ d k, k + d = 128 → ∀ A1 B1 tm, Keeps2 A B A1 B1 → (∀ c, c < 4 → A1 25 c = nI 0) → A1 0 28 = nI 0 → A1 0 24 = nI tm → tm ≤ 1280 → CoA A1 v (A 1) k → (∀ n, n < 2000 → tkA A1 n = eC (A 1) k n) → (∀ j, j ≤ k → (crE (A 1) j).isNone = false) → JS TP X mX4_fillCourses (rmOf mX4_fillCourses.lv 0 0) (ZR X o ad (Q_fillCourses A B)) 0 0 21 [some (.ref o), some (.int (nI 1))] [] (o, ad, A1, B1) := by
    intro d
    induction d with
    | zero =>
      intro k hk A1 B1 tm kp z25 z28 z24 htm hco htk hcr
      refine bX4_fillCourses_21.go rfl trivial ?_
      refine j_if_eq (tgt := 53) dX4_fillCourses_22 (by decide) (fun h22 => absurd h22 (by decide +kernel)) (fun h22 => ?_)
      refine bX4_fillCourses_25.go rfl trivial ?_
      refine rc_V ok_runs gX4_runs dX4_fillCourses_26 rfl ⟨v, by rw [kp.1]; exact hw⟩ (fun r2 A2 B2 q2 => ?_)
      obtain ⟨rfl, hq⟩ := q2
      have hR := hq v (by rw [kp.1]; exact hw)
      refine bX4_fillCourses_29.go rfl (by exact ⟨rfl, trivial⟩) ?_
      rw [hR.2.1 34 (by decide), hco.1]
      refine j_icmp_ne (tgt := 41) dX4_fillCourses_36 (by decide) (fun h36 => ?_) (fun h36 => ?_)
      · exact absurd (by rw [show k = 128 by omega]) h36
      · have hc : cnC (A 1) = 129 := by rw [cnC, cnF_all 129 0 (fun j _ hj => hcr j (by omega))]
        refine bX4_fillCourses_39.go rfl trivial ?_
        refine r_zret dX4_fillCourses_40 rfl rfl ⟨by rw [hc]; rfl, kp.trans hR.keeps, fun h => by omega⟩
    | succ d ih =>
      intro k hk A1 B1 tm kp z25 z28 z24 htm hco htk hcr
      refine bX4_fillCourses_21.go rfl trivial ?_
      refine j_if_eq (tgt := 53) dX4_fillCourses_22 (by decide) (fun h22 => absurd h22 (by decide +kernel)) (fun h22 => ?_)
      refine bX4_fillCourses_25.go rfl trivial ?_
      refine rc_V ok_runs gX4_runs dX4_fillCourses_26 rfl ⟨v, by rw [kp.1]; exact hw⟩ (fun r2 A2 B2 q2 => ?_)
      obtain ⟨rfl, hq⟩ := q2
      have hR := hq v (by rw [kp.1]; exact hw)
      have hC : CrsA A2 v (cfE (A 1) (eC (A 1) k)) (rsE (A 1) (eC (A 1) k)) (v 6) := CrsA.z rfl (hR.crs (od' := fun _ => nI 0) (cf' := cfE (A 1) (eC (A 1) k)) h6 (by show WOk (A1 1) v; rw [kp.1]; exact hw) (cfEq_E h4 kp.1 z25 htk z28))
      have kp2 := kp.trans hR.keeps
      have f1 := hR.1
      have f2 := hR.2.1
      have hon : (rsE (A 1) (eC (A 1) k) (v 6)).on ≤ 1280 := by have := hC.2.2.1; omega
      refine bX4_fillCourses_29.go rfl (by exact ⟨rfl, trivial⟩) ?_
      rw [f2 34 (by decide), hco.1]
      refine j_icmp_ne (tgt := 41) dX4_fillCourses_36 (by decide) (fun h36 => ?_) (fun h36 => ?_)
      · refine bX4_fillCourses_41.go rfl trivial ?_
        refine rc_V ok_keepsCourse gX4_keepsCourse dX4_fillCourses_42 rfl ⟨v, k, by rw [kp2.1]; exact hw, by rw [f2 34 (by decide), hco.1], by omega⟩ (fun r3 A3 B3 q3 => ?_)
        obtain ⟨rfl, hB3, c1, c2, c3⟩ := q3
        have hB3 := hB3.symm
        subst hB3
        have c3 := c3 v k (by rw [kp2.1]; exact hw) (by rw [f2 34 (by decide), hco.1]) (by omega)
        have hco3 : CoA A3 v (A 1) (k + 1) := by
          refine ⟨c3.1, fun j hj => ?_⟩
          by_cases e : j = k
          · subst e
            refine ⟨fun m hm c hc => ?_, fun m hm p hp => ?_⟩
            · rw [c3.2.1 m hm c hc, hC.2.2.2.1 m hm c hc, kp2.1]; rfl
            · rw [c3.2.2.1 m hm p hp, (hC.2.2.2.2.1 m hm p hp).1, lkC, lkE, hw.npE]
          · obtain ⟨g1, g2⟩ := hco.2 j (by omega)
            refine ⟨fun m hm c hc => ?_, fun m hm p hp => ?_⟩
            · rw [c3.2.2.2.1 _ (by omega), f1 32 (by decide) (by decide) (by decide) (by decide) (by decide) (by decide) (by decide) (by decide) (by decide) (by decide) (by decide) (by decide)]; exact g1 m hm c hc
            · rw [c3.2.2.2.2 _ (by omega), f1 33 (by decide) (by decide) (by decide) (by decide) (by decide) (by decide) (by decide) (by decide) (by decide) (by decide) (by decide) (by decide)]; exact g2 m hm p hp
        have k3 : Keeps2 A B A3 B2 := kp2.trans ⟨c1 1 (by decide) (by decide) (by decide), c1 2 (by decide) (by decide) (by decide), c1 3 (by decide) (by decide) (by decide), c1 4 (by decide) (by decide) (by decide), c1 37 (by decide) (by decide) (by decide), c1 38 (by decide) (by decide) (by decide), c2 5 (by decide), c2 12 (by decide), c2 13 (by decide), rfl⟩
        have t3 : ∀ n, n < 2000 → tkA A3 n = eC (A 1) k n := fun n hn => by
          rw [← htk n hn]
          simp only [tkA, c2 24 (by decide), f2 24 (by decide), c1 23 (by decide) (by decide) (by decide), f1 23 (by decide) (by decide) (by decide) (by decide) (by decide) (by decide) (by decide) (by decide) (by decide) (by decide) (by decide) (by decide)]
        refine bX4_fillCourses_45.go rfl trivial ?_
        have p22 : A3 0 22 = nI (rsE (A 1) (eC (A 1) k) (v 6)).on := by rw [c2 22 (by decide), hC.1]
        refine rc_V ok_nextTaking gX4_nextTaking dX4_fillCourses_46 rfl ⟨tm, _, by rw [c2 24 (by decide), f2 24 (by decide), z24], p22, htm, hon⟩ (fun r4 A4 B4 q4 => ?_)
        obtain ⟨hB4, d1, d2, d3⟩ := q4
        have hB4 := hB4.symm
        subst hB4
        have d3 := d3 _ p22 hon
        rw [lastNo_cg (e' := eC (A 1) k) (fun n hn => t3 n (by omega))] at d3
        have k4 : Keeps2 A B A4 B2 := k3.trans ⟨d1 1 (by decide) (by decide), d1 2 (by decide) (by decide), d1 3 (by decide) (by decide), d1 4 (by decide) (by decide), d1 37 (by decide) (by decide), d1 38 (by decide) (by decide), d2 5 (by decide), d2 12 (by decide), d2 13 (by decide), rfl⟩
        have hco4 : CoA A4 v (A 1) (k + 1) := by
          obtain ⟨x1, x2⟩ := hco3
          refine ⟨by rw [d2 34 (by decide)]; exact x1, ?_⟩
          rw [d1 32 (by decide) (by decide), d1 33 (by decide) (by decide)]
          exact x2
        have hcrk : crE (A 1) k = some (eC (A 1) k) := by
          have := hcr k (Nat.le_refl _)
          cases hx : crE (A 1) k with
          | none => rw [hx] at this; cases this
          | some e => rw [eC, hx]; rfl
        have hsp : onE (A 1) (eC (A 1) k) = (rsE (A 1) (eC (A 1) k) (v 6)).on := by rw [onE, hw.span]
        have hnx : crE (A 1) (k + 1) = match lastNo (eC (A 1) k) (rsE (A 1) (eC (A 1) k) (v 6)).on with
          | none => none
          | some j => some (nxtE (eC (A 1) k) j) := by
          rw [crE, hcrk]
          show (match lastNo (eC (A 1) k) (onE (A 1) (eC (A 1) k)) with
            | none => none
            | some j => some (nxtE (eC (A 1) k) j)) = _
          rw [hsp]
        cases hl : lastNo (eC (A 1) k) (rsE (A 1) (eC (A 1) k) (v 6)).on with
        | none =>
          rw [hl] at d3 hnx
          obtain rfl : r4 = some (.int (nI 0)) := d3
          have hcn : cnC (A 1) = k + 1 := cnF_at 129 0 (by omega) (by omega) (fun j _ hj => hcr j (by omega)) (by rw [hnx]; rfl)
          refine bX4_fillCourses_49.go rfl trivial ?_
          refine bX4_fillCourses_21.go rfl trivial ?_
          refine j_if_eq (tgt := 53) dX4_fillCourses_22 (by decide) (fun h22 => ?_) (fun h22 => absurd (by decide +kernel) h22)
          refine bX4_fillCourses_53.go rfl trivial ?_
          refine r_zret dX4_fillCourses_54 rfl rfl ⟨?_, k4, fun _ v' hv' => ?_⟩
          · rw [hcn, decide_eq_true (by omega)]; rfl
          · obtain ⟨u1, u6⟩ := uv v' hv'
            rw [hcn]
            obtain ⟨x1, x2⟩ := hco4
            exact ⟨x1, by rw [u1, u6]; exact x2⟩
        | some j =>
          rw [hl] at d3 hnx
          obtain ⟨rfl, d4, d5⟩ := d3
          have hj := lastNo_lt hl
          refine bX4_fillCourses_49.go rfl trivial ?_
          have e25 : A4 25 = A1 25 := by rw [d1 25 (by decide) (by decide), c1 25 (by decide) (by decide) (by decide), f1 25 (by decide) (by decide) (by decide) (by decide) (by decide) (by decide) (by decide) (by decide) (by decide) (by decide) (by decide) (by decide)]
          refine ih (k + 1) (by omega) A4 B2 (j + 1) k4 (fun c hc => by rw [e25]; exact z25 c hc) (by rw [d2 28 (by decide), c2 28 (by decide), f2 28 (by decide), z28]) d4 (by omega) hco4 (fun n hn => ?_) (fun i hi => ?_)
          · rw [d5 n hn, eC, hnx]
            show nxtE (tkA A3) j n = nxtE (eC (A 1) k) j n
            simp only [nxtE]
            split
            · exact t3 n hn
            · rfl
          · by_cases e : i = k + 1
            · rw [e, hnx]; rfl
            · exact hcr i (by omega)
      · exact absurd h36 (by rw [nI_eq (by omega) (by omega)]; omega)
  refine lp 128 0 (by omega) _ _ 0 ⟨?_, ?_, ?_, ?_, ?_, ?_, ?_, ?_, ?_, rfl⟩ ?_ ?_ ?_ (by omega) ⟨?_, fun k hk => by omega⟩ ?_ ?_
  · rw [upA_ne (by decide), upA_ne (by decide), upA_ne (by decide)]; exact s1 1 (by decide)
  · rw [upA_ne (by decide), upA_ne (by decide), upA_ne (by decide)]; exact s1 2 (by decide)
  · rw [upA_ne (by decide), upA_ne (by decide), upA_ne (by decide)]; exact s1 3 (by decide)
  · rw [upA_ne (by decide), upA_ne (by decide), upA_ne (by decide)]; exact s1 4 (by decide)
  · rw [upA_ne (by decide), upA_ne (by decide), upA_ne (by decide)]; exact s1 37 (by decide)
  · rw [upA_ne (by decide), upA_ne (by decide), upA_ne (by decide)]; exact s1 38 (by decide)
  · rw [upA_at, if_neg (by decide), upA_at, if_neg (by decide), upA_at, if_neg (by decide), s1 0 (by decide)]
  · rw [upA_at, if_neg (by decide), upA_at, if_neg (by decide), upA_at, if_neg (by decide), s1 0 (by decide)]
  · rw [upA_at, if_neg (by decide), upA_at, if_neg (by decide), upA_at, if_neg (by decide), s1 0 (by decide)]
  · intro c hc; rw [upA_ne (by decide), upA_ne (by decide), upA_ne (by decide)]; exact s2 c hc
  · rw [upA_at, if_neg (by decide), upA_at, if_neg (by decide), upA_at, if_pos rfl]
  · rw [upA_at, if_neg (by decide), upA_at, if_pos rfl]
  · rw [upA_at, if_pos rfl]
  · intro n hn
    show tkA _ n = false
    simp only [tkA]
    rw [upA_at, if_neg (by decide), upA_at, if_pos rfl, decide_eq_false (by rw [nI_ltI (by omega) (by omega)]; omega)]; rfl
  · intro j hj
    have : j = 0 := by omega
    subst this; rfl
