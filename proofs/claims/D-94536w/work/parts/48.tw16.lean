set_option maxRecDepth 100000
/-! ===== UnseenClockModel: plain; what stays from call to call ===== -/
/-- what lasts is as it was: world, images, tape, slots, fault -/
def Keeps2 (A : Nat → Nat → Int32) (B : Nat → Nat → Int64) (A' : Nat → Nat → Int32) (B' : Nat → Nat → Int64) : Prop := A' 1 = A 1 ∧ A' 2 = A 2 ∧ A' 3 = A 3 ∧ A' 4 = A 4 ∧ A' 37 = A 37 ∧ A' 38 = A 38 ∧ A' 0 5 = A 0 5 ∧ A' 0 12 = A 0 12 ∧ A' 0 13 = A 0 13 ∧ B' 39 = B 39
theorem Keeps2.rf {A : Nat → Nat → Int32} {B : Nat → Nat → Int64} : Keeps2 A B A B := ⟨rfl, rfl, rfl, rfl, rfl, rfl, rfl, rfl, rfl, rfl⟩
theorem Keeps2.trans {A A1 A2 : Nat → Nat → Int32} {B B1 B2 : Nat → Nat → Int64} (h : Keeps2 A B A1 B1) (h' : Keeps2 A1 B1 A2 B2) : Keeps2 A B A2 B2 := by
  obtain ⟨a1, a2, a3, a4, a5, a6, a7, a8, a9, a10⟩ := h
  obtain ⟨b1, b2, b3, b4, b5, b6, b7, b8, b9, b10⟩ := h'
  exact ⟨b1.trans a1, b2.trans a2, b3.trans a3, b4.trans a4, b5.trans a5, b6.trans a6, b7.trans a7, b8.trans a8, b9.trans a9, b10.trans a10⟩
/-- the arrays hold a course of m minutes -/
def CrsA (A' : Nat → Nat → Int32) (v : Nat → Nat) (cf : CF) (rs : Nat → RS) (m : Nat) : Prop :=
  A' 0 22 = nI (rs m).on ∧ (∀ i, i < (rs m).on → A' 21 i = (rs m).od i) ∧ (rs m).on ≤ 32 * m ∧ (∀ t, t ≤ m → ∀ c, c < v 1 → A' 18 (4 * t + c) = (rs t).pt c) ∧
  (∀ t, t < m → ∀ p, p < 8 → A' 19 (8 * t + p) = (if p < v 2 then minL cf t (rs t) p else nI 0) ∧ A' 20 (8 * t + p) = (minO cf t (rs t)).2.2.2 p) ∧ ∀ c, c < v 1 → A' 27 c = (rs m).kM c ∧ A' 26 c = (rs m).kL c
theorem RunA.crs {A A' : Nat → Nat → Int32} {B B' : Nat → Nat → Int64} {v : Nat → Nat} {cf cf' : CF} {od od' : Nat → Int32} {z : Int64} {m : Nat} (hm : m ≤ 40) (hw : WOk cf.1 v) (hc : cfEq v cf cf') (h : RunA A B A' B' v (rsS cf od z) cf m) : CrsA A' v cf' (rsS cf' od' z) m := by
  obtain ⟨f1, f2, f3, f4, f5, f6, f7, f8, f9, f10, f11⟩ := h
  have q := fun t (ht : t ≤ 40) => rsS_cg hw hc od od' z t ht
  have qm := q m hm
  refine ⟨by rw [f3, qm.2.2.1], fun i hi => ?_, by rw [← qm.2.2.1]; exact f5, fun t ht c hcc => ?_, fun t ht p hp => ?_, fun c hcc => ?_⟩
  · rw [f4]; exact qm.2.2.2.1 i (by rw [qm.2.2.1]; exact hi)
  · rw [f7 t ht c hcc]; exact ((q t (by omega)).1 c hcc).1
  · obtain ⟨a, b⟩ := f8 t ht p hp
    have hon : (rsS cf od z t).on + 33 ≤ 2000 := by have := rsS_on cf od z t; omega
    have hO := minO_cg hw hc (m := t) (q t (by omega)) hon
    refine ⟨?_, by rw [b, hO.2.2.2]⟩
    rw [a]
    split
    · exact minL_cg hw hc (q t (by omega)) hon hp
    · rfl
  · rw [(f9 c hcc).1, (f9 c hcc).2]; exact ⟨(qm.1 c hcc).2.1, (qm.1 c hcc).2.2.1⟩
theorem CrsA.z {A' : Nat → Nat → Int32} {v : Nat → Nat} {cf : CF} {od : Nat → Int32} {z z' : Int64} {m : Nat} (hd : cf.2.2.2 = false) (h : CrsA A' v cf (rsS cf od z) m) : CrsA A' v cf (rsS cf od z') m := by
  obtain ⟨a1, a2, a3, a4, a5, a6⟩ := h
  have q := rsS_z hd od z z'
  have eO : ∀ t, minO cf t (rsS cf od z t) = minO cf t (rsS cf od z' t) := fun t => by
    obtain ⟨-, -, -, b4, b5, b6, b7⟩ := q t
    simp only [minO, KS, b4, b5, b6, b7, hd, mbF_false]
  refine ⟨by rw [a1, (q m).2.2.2.2.2.1], fun i hi => ?_, by rw [← (q m).2.2.2.2.2.1]; exact a3, fun t ht c hc => ?_, fun t ht p hp => ?_, fun c hc => ?_⟩
  · rw [← (q m).2.2.2.2.2.2]; exact a2 i (by rw [(q m).2.2.2.2.2.1]; exact hi)
  · rw [a4 t ht c hc]; exact congrFun (q t).1 c
  · obtain ⟨x1, x2⟩ := a5 t ht p hp
    refine ⟨?_, by rw [x2, eO t]⟩
    rw [x1]; simp only [minL, eO t]
  · rw [(a6 c hc).1, (a6 c hc).2]; exact ⟨congrFun (q m).2.1 c, congrFun (q m).2.2.1 c⟩
theorem RunA.keeps {A A' : Nat → Nat → Int32} {B B' : Nat → Nat → Int64} {v : Nat → Nat} {rs : Nat → RS} {cf : CF} {m : Nat} (h : RunA A B A' B' v rs cf m) : Keeps2 A B A' B' := by
  obtain ⟨f1, f2, f3, f4, f5, f6, f7, f8, f9, f10, f11⟩ := h
  have k : ∀ k, k = 1 ∨ k = 2 ∨ k = 3 ∨ k = 4 ∨ k = 37 ∨ k = 38 → A' k = A k := fun k hk => f1 k (by omega) (by omega) (by omega) (by omega) (by omega) (by omega) (by omega) (by omega) (by omega) (by omega) (by omega) (by omega)
  exact ⟨k 1 (by omega), k 2 (by omega), k 3 (by omega), k 4 (by omega), k 37 (by omega), k 38 (by omega), f2 5 (by decide), f2 12 (by decide), f2 13 (by decide), f10 39 (by decide)⟩
/-- the plain course by the minutes -/
def rsP (w : Nat → Int32) : Nat → RS := rsS (cfP w) (fun _ => nI 0) 0
theorem cfEq_plain {A : Nat → Nat → Int32} {v : Nat → Nat} {w : Nat → Int32} (h4 : v 1 ≤ 4) (hw : A 1 = w) (hk : ∀ c, c < 4 → A 25 c = nI 0) (ht : A 0 24 = nI 0) (hd : A 0 28 = nI 0) : cfEq v (cfA A) (cfP w) := by
  refine ⟨hw, fun c hc => hk c (by omega), fun n hn => ?_, ?_⟩
  · show tkA A n = false
    simp only [tkA, ht]
    rw [decide_eq_false (by rw [nI_ltI (by omega) (by omega)]; omega)]; rfl
  · show drA A = false
    simp only [drA, hd]; decide +kernel
def Q_plain (A : Nat → Nat → Int32) (B : Nat → Nat → Int64) : QR := fun r A' B' => r = none ∧ Keeps2 A B A' B' ∧ ∀ v, WOk (A 1) v → CrsA A' v (cfP (A 1)) (rsP (A 1)) (v 6)
theorem bX4_plain_0 : Blk TP mX4_plain 0 1 [oAL 0] := blk_c (s_aload_n dX4_plain_0 rfl) <| blk_nil
theorem bX4_plain_4 : Blk TP mX4_plain 4 15 [oAL 0, oC (nI 0), tPI 24, oAL 0, oC (nI 0), tPZ 28, oAL 0] := blk_c (s_aload_n dX4_plain_4 rfl) <| blk_c (s_iconst dX4_plain_5 (by decide +kernel)) <| blk_c (tpX4_24 rfl dX4_plain_6) <| blk_c (s_aload_n dX4_plain_9 rfl) <| blk_c (s_iconst dX4_plain_10 (by decide +kernel)) <| blk_c (tpX4_28 rfl dX4_plain_11) <| blk_c (s_aload_n dX4_plain_14 rfl) <| blk_nil
theorem ok_plain : RC_V mX4_plain Pre_runs Q_plain := by
  intro X o ad A B hpre
  obtain ⟨v, hw⟩ := hpre
  have h6 : v 6 ≤ 40 := hw.2.2.2.2.2.2.2.1
  have h4 : v 1 ≤ 4 := hw.2.2.1
  refine R_start (L := [some (.ref o)]) 0 rfl ?_
  refine bX4_plain_0.go rfl trivial ?_
  refine rc_V ok_keepsNone gX4_keepsNone dX4_plain_1 rfl trivial (fun r1 A1 B1 q1 => ?_)
  obtain ⟨rfl, hB, s1, s2⟩ := q1
  have hB := hB.symm
  subst hB
  refine bX4_plain_4.go rfl ⟨rfl, ⟨rfl, by decide +kernel, by decide +kernel⟩, trivial⟩ ?_
  have g1 : upA (upA A1 0 24 (nI 0)) 0 28 (nI 0) 1 = A 1 := by rw [upA_ne (by decide), upA_ne (by decide)]; exact s1 1 (by decide)
  refine rc_V ok_runs gX4_runs dX4_plain_15 rfl ⟨v, by rw [g1]; exact hw⟩ (fun r A2 B2 q2 => ?_)
  obtain ⟨rfl, hq⟩ := q2
  have hR := hq v (by rw [g1]; exact hw)
  refine r_vret dX4_plain_18 rfl ⟨rfl, Keeps2.trans ?_ hR.keeps, fun v' hv' => ?_⟩
  · refine ⟨g1, ?_, ?_, ?_, ?_, ?_, ?_, ?_, ?_, rfl⟩
    · rw [upA_ne (by decide), upA_ne (by decide)]; exact s1 2 (by decide)
    · rw [upA_ne (by decide), upA_ne (by decide)]; exact s1 3 (by decide)
    · rw [upA_ne (by decide), upA_ne (by decide)]; exact s1 4 (by decide)
    · rw [upA_ne (by decide), upA_ne (by decide)]; exact s1 37 (by decide)
    · rw [upA_ne (by decide), upA_ne (by decide)]; exact s1 38 (by decide)
    · rw [upA_at, if_neg (by decide), upA_at, if_neg (by decide), s1 0 (by decide)]
    · rw [upA_at, if_neg (by decide), upA_at, if_neg (by decide), s1 0 (by decide)]
    · rw [upA_at, if_neg (by decide), upA_at, if_neg (by decide), s1 0 (by decide)]
  · have hR := hq v' (by rw [g1]; exact hv')
    have h4' : v' 1 ≤ 4 := hv'.2.2.1
    have := hR.crs (od' := fun _ => nI 0) (cf' := cfP (A 1)) hv'.2.2.2.2.2.2.2.1 (by show WOk (upA (upA A1 0 24 (nI 0)) 0 28 (nI 0) 1) v'; rw [g1]; exact hv') (cfEq_plain h4' g1 (fun c hc => by rw [upA_ne (by decide), upA_ne (by decide)]; exact s2 c hc) (by rw [upA_at, if_neg (by decide), upA_at, if_pos rfl]) (by rw [upA_at, if_pos rfl]))
    exact CrsA.z rfl this
