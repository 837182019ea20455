set_option maxRecDepth 100000
/-! ===== UnseenClockModel: paste ===== -/
theorem i64_sum {a b c : Nat} (ha : a < 2 ^ 31) (hb : b < 2 ^ 31) (hc : c < 2 ^ 31) : (nI a).toInt64 + (nI b).toInt64 ≤ (nI c).toInt64 ↔ a + b ≤ c := by
  rw [Int64.le_iff_toInt_le, Int64.toInt_add, Int32.toInt_toInt64, Int32.toInt_toInt64, Int32.toInt_toInt64, nI_toInt ha, nI_toInt hb, nI_toInt hc, Int.bmod_eq_of_le (by omega) (by omega)]
  omega
def psB (A : Nat → Nat → Int32) (s i t k n : Int32) : Bool := !decide (i < 0) && (!decide (k < 0) && (!decide (n < 0) && (!decide ((A 37 s.toNatClampNeg).toInt64 < i.toInt64 + n.toInt64) && !decide ((A 37 t.toNatClampNeg).toInt64 < k.toInt64 + n.toInt64))))
def q_paste (A : Nat → Nat → Int32) (s i t k n : Int32) : Int32 := if (slB s && slB t) = true then (if A 37 s.toNatClampNeg = -1 ∨ A 37 t.toNatClampNeg = -1 then -6 else if A 38 s.toNatClampNeg = A 38 t.toNatClampNeg then (if psB A s i t k n = true then nI 0 else -7) else -8) else -2
def Q_paste (s i t k n : Int32) (A : Nat → Nat → Int32) (B : Nat → Nat → Int64) : QR := fun r A' B' => r = some (.int (q_paste A s i t k n)) ∧ A' = A ∧ (¬ q_paste A s i t k n = 0 → B' = B) ∧ (q_paste A s i t k n = 0 → (∀ f, f ≠ 39 → f ≠ 40 → B' f = B f) ∧ B' 39 = pstN (B 39) s.toNatClampNeg i.toNatClampNeg t.toNatClampNeg k.toNatClampNeg n.toNatClampNeg)
theorem paste_no {s i t k n : Int32} {A : Nat → Nat → Int32} {B : Nat → Nat → Int64} {x : Int32} (e : q_paste A s i t k n = x) (hx : ¬ x = 0) : Q_paste s i t k n A B (some (.int x)) A B := by
  unfold Q_paste
  rw [e]
  exact ⟨rfl, rfl, fun _ => rfl, fun h => absurd h hx⟩
theorem ok_paste : RC_IIIII mX4_paste (fun _ _ _ _ _ A _ => SlOk A) Q_paste := by
  intro X s i t k n o ad A B hpre
  refine R_start (L := [some (.ref o), some (.int s), some (.int i), some (.int t), some (.int k), some (.int n), none]) 1 rfl ?_
  have no2 : ¬ (slB s && slB t) = true → JS TP X mX4_paste (rmOf mX4_paste.lv 0 0) (ZR X o ad (Q_paste s i t k n A B)) 0 0 14 [some (.ref o), some (.int s), some (.int i), some (.int t), some (.int k), some (.int n), none] [] (o, ad, A, B) := fun h => by
    refine bX4_paste_14.go rfl trivial ?_
    exact r_iret dX4_paste_16 rfl (paste_no (by rw [q_paste, if_neg h]) (by decide +kernel))
  refine bX4_paste_0.go rfl (by exact ⟨trivial, trivial⟩) ?_
  refine j_if_eq (tgt := 14) dX4_paste_4 (by decide) (fun h4 => ?_) (fun h4 => ?_)
  · rw [b2_0] at h4
    exact no2 (by rw [show slB s = false from h4, Bool.false_and]; decide)
  rw [b2_n0] at h4
  refine bX4_paste_7.go rfl (by exact ⟨trivial, trivial⟩) ?_
  refine j_if_ne (tgt := 17) dX4_paste_11 (by decide) (fun h11 => ?_) (fun h11 => ?_)
  rotate_left
  · rw [b2_0] at h11
    exact no2 (by rw [show slB t = false from h11, Bool.and_false]; decide)
  rw [b2_n0] at h11
  have hst : (slB s && slB t) = true := by rw [show slB s = true from h4, show slB t = true from h11]; rfl
  obtain ⟨sn, hs, rfl⟩ := slB_nat h4
  obtain ⟨tn, ht, rfl⟩ := slB_nat h11
  have cs : (nI sn).toNatClampNeg = sn := nI_clamp (by omega)
  have ct : (nI tn).toNatClampNeg = tn := nI_clamp (by omega)
  have no6 : A 37 sn = -1 ∨ A 37 tn = -1 → JS TP X mX4_paste (rmOf mX4_paste.lv 0 0) (ZR X o ad (Q_paste (nI sn) i (nI tn) k n A B)) 0 0 37 [some (.ref o), some (.int (nI sn)), some (.int i), some (.int (nI tn)), some (.int k), some (.int n), none] [] (o, ad, A, B) := fun h => by
    refine bX4_paste_37.go rfl trivial ?_
    exact r_iret dX4_paste_39 rfl (paste_no (by rw [q_paste, if_pos hst, cs, ct, if_pos h]) (by decide +kernel))
  refine bX4_paste_17.go rfl (by simp (disch := omega) only [vpI]; exact ⟨trivial, ⟨trivial, by omega⟩, trivial⟩) ?_
  rw [cs]
  refine j_icmp_eq (tgt := 37) dX4_paste_24 (by decide) (fun h24 => no6 (Or.inl h24)) (fun h24 => ?_)
  refine bX4_paste_27.go rfl (by simp (disch := omega) only [vpI]; exact ⟨trivial, ⟨trivial, by omega⟩, trivial⟩) ?_
  rw [ct]
  refine j_icmp_ne (tgt := 40) dX4_paste_34 (by decide) (fun h34 => ?_) (fun h34 => no6 (Or.inr h34))
  have n6 : ¬ (A 37 sn = -1 ∨ A 37 tn = -1) := fun h => h.elim h24 h34
  refine bX4_paste_40.go rfl (by simp (disch := omega) only [vpI]; exact ⟨trivial, ⟨trivial, by omega⟩, trivial, ⟨trivial, by omega⟩, trivial⟩) ?_
  rw [cs, ct]
  refine j_icmp_eq (tgt := 58) dX4_paste_52 (by decide) (fun h52 => ?_) (fun h52 => ?_)
  rotate_left
  · refine bX4_paste_55.go rfl trivial ?_
    exact r_iret dX4_paste_57 rfl (paste_no (by rw [q_paste, if_pos hst, cs, ct, if_neg n6, if_neg h52]) (by decide +kernel))
  have no7 : psB A (nI sn) i (nI tn) k n = false → JS TP X mX4_paste (rmOf mX4_paste.lv 0 0) (ZR X o ad (Q_paste (nI sn) i (nI tn) k n A B)) 0 0 107 [some (.ref o), some (.int (nI sn)), some (.int i), some (.int (nI tn)), some (.int k), some (.int n), none] [] (o, ad, A, B) := fun h => by
    refine bX4_paste_107.go rfl trivial ?_
    exact r_iret dX4_paste_109 rfl (paste_no (by rw [q_paste, if_pos hst, cs, ct, if_neg n6, if_pos h52, h]; rfl) (by decide +kernel))
  refine bX4_paste_58.go rfl trivial ?_
  refine j_if_lt (tgt := 107) dX4_paste_59 (by decide) (fun h59 => no7 (by simp [psB, h59])) (fun h59 => ?_)
  refine bX4_paste_62.go rfl trivial ?_
  refine j_if_lt (tgt := 107) dX4_paste_64 (by decide) (fun h64 => no7 (by simp [psB, h64])) (fun h64 => ?_)
  refine bX4_paste_67.go rfl trivial ?_
  refine j_if_lt (tgt := 107) dX4_paste_69 (by decide) (fun h69 => no7 (by simp [psB, h69])) (fun h69 => ?_)
  refine bX4_paste_72.go rfl (by simp (disch := omega) only [vpI]; exact ⟨trivial, ⟨trivial, by omega⟩, trivial⟩) ?_
  rw [cs]
  refine j_if_gt (tgt := 107) dX4_paste_86 (by decide) (fun h86 => ?_) (fun h86 => ?_)
  · rw [lg_cmp_gt] at h86
    exact no7 (by rw [psB, cs, ct, decide_eq_true h86]; simp)
  rw [lg_cmp_gt] at h86
  refine bX4_paste_89.go rfl (by simp (disch := omega) only [vpI]; exact ⟨trivial, ⟨trivial, by omega⟩, trivial⟩) ?_
  rw [ct]
  refine j_if_le (tgt := 110) dX4_paste_104 (by decide) (fun h104 => ?_) (fun h104 => ?_)
  rotate_left
  · rw [Int32.not_le, lg_cmp_gt] at h104
    exact no7 (by rw [psB, cs, ct, decide_eq_true h104]; simp)
  rw [← Int32.not_lt, lg_cmp_gt] at h104
  obtain ⟨m1, hm1, e1⟩ := (hpre sn hs).resolve_left h24
  obtain ⟨m2, hm2, e2⟩ := (hpre tn ht).resolve_left h34
  have hB : psB A (nI sn) i (nI tn) k n = true := by rw [psB, cs, ct, decide_eq_false h59, decide_eq_false h64, decide_eq_false h69, decide_eq_false h86, decide_eq_false h104]; rfl
  have e : q_paste A (nI sn) i (nI tn) k n = 0 := by rw [q_paste, if_pos hst, cs, ct, if_neg n6, if_pos h52, if_pos hB]; rfl
  obtain ⟨iN, hi, rfl⟩ := nI_of h59
  obtain ⟨kN, hk, rfl⟩ := nI_of h64
  obtain ⟨nN, hn, rfl⟩ := nI_of h69
  rw [e1, Int64.not_lt, i64_sum hi hn (by omega)] at h86
  rw [e2, Int64.not_lt, i64_sum hk hn (by omega)] at h104
  refine pasteN hs ht (by omega) (by omega) (fun B' b1 b2 => ?_)
  unfold Q_paste
  rw [e, cs, ct, nI_clamp hi, nI_clamp hk, nI_clamp hn]
  exact ⟨rfl, rfl, fun h => absurd rfl h, fun _ => ⟨b1, b2⟩⟩
