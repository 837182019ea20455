set_option maxRecDepth 100000
/-! ===== UnseenClock.gathers: a Seen more ===== -/
section New4
variable {X : Cx} {R : Room} {Z : ZT} {k n mi : Nat} {L : List (Option Value)} {ad : Nat → Nat} {A : Nat → Nat → Int32} {B : Nat → Nat → Int64} {sk : Nat → Nat → Nat} {sw : Nat → Nat → Int32} {E : Nat → Nat}
theorem hy_xAdd : (⟨"java/util/List", "add", "(Ljava/lang/Object;)Z"⟩ : MethodName).cls ≠ "java/lang/invoke/MethodHandle" ∧ (⟨"java/util/List", "add", "(Ljava/lang/Object;)Z"⟩ : MethodName).cls ≠ "java/lang/invoke/VarHandle" ∧ (parseMethodDescriptor (⟨"java/util/List", "add", "(Ljava/lang/Object;)Z"⟩ : MethodName).desc).map (fun d => d.parameters.length) = some 1 := by decide +kernel
theorem hy_i16 : mX16_init.y.cls ≠ "java/lang/invoke/MethodHandle" ∧ mX16_init.y.cls ≠ "java/lang/invoke/VarHandle" ∧ (parseMethodDescriptor mX16_init.y.desc).map (fun d => d.parameters.length) = some 0 := by decide +kernel
theorem js_newSeen (hM : WkM X mi) (h0 : E 0 < 128) (hLI : LI E) (hk : k + 4 ≤ R.cells) (hn : n + 486 + (E 1 + E 1 / 2) ≤ R.slots)
    (kk : ∀ e8 s q1 q2 cap m mc ms, (E 0 < E 1 ∧ cap = E 1 ∧ mc = 3 ∧ ms = 486) ∨ (E 0 = E 1 ∧ cap = E 1 + E 1 / 2 ∧ mc = 4 ∧ ms = 486 + cap) → JS CP X mX0_gathers R Z (k + mc) (n + ms) 81 L [.int (nI 1)] (xAd ad (E 0) e8 s q1 q2, xA A (E 0) m, B, sk, sw, xE E cap)) : JS CP X mX0_gathers R Z k n 69 L [.ref (ad 4)] (ad, A, B, sk, sw, E) := by
  intro h hp
  obtain ⟨l1, l2, l3, l4⟩ := hLI
  have a4 : h (ad 4) = some (.inr (9, [.int (A 4 0), .ref (ad 8), .int (nI (E 0))])) := hp.at 4 rfl
  have a8 : h (ad 8) = some (rfA X 5 (E 1) (fun i => if i < E 0 then some (ad (100 + 3 * i)) else none)) := hp.at 8 rfl
  have n48 : ad 8 ≠ ad 4 := fun e => absurd (hp.2.2.1 8 4 use_8 use_4 e) (by decide)
  refine J.new (C := RX16) (T := TX16) (N := 2) (ty := tyX16) (ci := 16) (fs := [.null, .null]) hp.1.2 clsX16 rfl q1359 q1360 q163 (by decide +kernel) ⟨by omega, by omega⟩ dX0_gathers_69 (fun s hs => ?_)
  have fr : ∀ z, h z = none → ∀ q e, h q = some e → q ≠ z := fun z hz q e hq ee => by rw [ee, hz] at hq; cases hq
  generalize hh1 : va_up h s (some (.inr (16, [.null, .null]))) = h1
  have z1 : ∀ z, z ≠ s → h1 z = h z := fun z hz => by rw [← hh1, va_up_ne _ _ hz]
  have s1 : h1 s = some (.inr (16, [.null, .null])) := by rw [← hh1, va_up_self]
  refine (fun (z : JS PE X mX0_gathers R Z (k + 1) (n + 2) 72 L [.ref s, .ref (ad 4)] h1) => z _ rfl) ?_
  refine (blk_c (s_dupR dX0_gathers_72) <| blk_nil).go rfl trivial ?_
  refine js_of ?_
  refine J.callIN (M' := mX16_init) (As := []) (mc := 2) (ms := 484) hp.1.1 (ok_X16_init hp.1.2 s1) rfl (fun o h' q => ⟨_, q.1⟩) dX0_gathers_73 q1363 q163 nq1361 q1362 rfl hy_i16 (by decide) ⟨by omega, by omega⟩ (Nat.le_of_ble_eq_true rfl) (fun v h2 q => ?_)
  obtain ⟨q0, q1, q2, b1, b2, b12, b1s, b2s, c1, c2, c3, c4⟩ := q
  cases q0
  have hq1 : h q1 = none := by rw [← z1 q1 b1s]; exact b1
  have hq2 : h q2 = none := by rw [← z1 q2 b2s]; exact b2
  have z2 : ∀ z e, h z = some e → h2 z = some e := fun z e hz => by
    rw [c4 z (fr s hs z e hz) (fr q1 hq1 z e hz) (fr q2 hq2 z e hz), z1 z (fr s hs z e hz)]; exact hz
  have f4 : s ≠ ad 4 := fun e => fr s hs _ _ a4 e.symm
  have el : ∀ i y, i < E 1 → (if i < E 0 then some (ad (100 + 3 * i)) else none) = some y → y ≠ ad 4 ∧ ∃ vs, h2 y = some (.inr (16, vs)) := fun i y hi hy => by
    by_cases e : i < E 0
    · rw [if_pos e] at hy
      cases hy
      have us : Use E (100 + 3 * i) := use_of (X := X) (ad := ad) (sk := sk) (a := A 0) (b := B 0) (celS0 e)
      exact ⟨fun ee => absurd (hp.2.2.1 _ 4 us use_4 ee) (by show ¬ 100 + 3 * i = 4; omega), _, z2 _ _ (hp.seen e)⟩
    · rw [if_neg e] at hy; cases hy
  by_cases hcap : E 0 < E 1
  · refine J.callF (M' := mJ2_add) (x := ⟨"java/util/List", "add", "(Ljava/lang/Object;)Z"⟩) (As := [.ref s]) (mc := 0) (ms := 0) hp.1.1 (ok_addr hp.1.1 (z2 _ _ a4) n48 (z2 _ _ a8) hcap (by omega) c3 rfl nq2327 f4) (fun o h' q => ⟨_, q.1⟩) (z2 _ _ a4) dX0_gathers_76 (lw_F q1373 q873 q875 q136 q877) (List.mem_of_getElem? (i := 2) rfl) hy_xAdd (by decide) ⟨by omega, by omega⟩ (Nat.le_of_ble_eq_true rfl) (fun v h3 q => ?_)
    obtain ⟨q, ⟨m', p4⟩, p8, pz⟩ := q
    cases q
    have := kk (ad 8) s q1 q2 (E 1) m' 3 486 (Or.inl ⟨hcap, rfl, rfl, rfl⟩) h3 (hp.ext hs hq1 hq2 (fun e => b1s e.symm) (fun e => b2s e.symm) b12 (Or.inl rfl) p4 ?_ ?_ ?_ ?_ (fun z w1 w2 w3 w4 w5 w6 => ?_))
    · exact this
    · rw [p8]
      refine congrArg some (congrArg (rfA X 5 (E 1)) (funext fun i => ?_))
      by_cases e : i = E 0
      · subst e; rw [va_up_self, if_pos (by omega), va_up_self]
      · rw [va_up_ne _ _ e]
        by_cases e2 : i < E 0
        · rw [if_pos e2, if_pos (by omega), va_up_ne _ _ e]
        · rw [if_neg e2, if_neg (by omega)]
    · rw [pz s f4 (fun e => fr s hs _ _ a8 e.symm)]; exact c3
    · rw [pz q1 (fun e => fr q1 hq1 _ _ a4 e.symm) (fun e => fr q1 hq1 _ _ a8 e.symm)]; exact c1
    · rw [pz q2 (fun e => fr q2 hq2 _ _ a4 e.symm) (fun e => fr q2 hq2 _ _ a8 e.symm)]; exact c2
    · rw [pz z w1 w2, c4 z w4 w5 w6, z1 z w4]
  · have ec : E 0 = E 1 := by omega
    have a4' : h2 (ad 4) = some (.inr (9, [.int (A 4 0), .ref (ad 8), .int (nI (E 1))])) := by rw [← ec]; exact z2 _ _ a4
    refine J.callF (M' := mJ2_add) (x := ⟨"java/util/List", "add", "(Ljava/lang/Object;)Z"⟩) (As := [.ref s]) (mc := 1) (ms := E 1 + E 1 / 2) hp.1.1 (ok_addg hp.1.1 hp.1.2 hM a4' n48 (z2 _ _ a8) (by omega) (by omega) c3 rfl nq2327 f4 el) (fun o h' q => ⟨_, q.1⟩) a4' dX0_gathers_76 (lw_F q1373 q873 q875 q136 q877) (List.mem_of_getElem? (i := 2) rfl) hy_xAdd (by decide) ⟨by omega, by omega⟩ (Nat.le_of_ble_eq_true rfl) (fun v h3 q => ?_)
    obtain ⟨q, e8, m', p0, p4, p8, pz⟩ := q
    cases q
    have n0e : h e8 = none := by
      cases he : h e8 with
      | none => rfl
      | some e => have := z2 e8 e he; rw [p0] at this; cases this
    have nes : e8 ≠ s := fun e => by rw [e, c3] at p0; cases p0
    have ne1 : e8 ≠ q1 := fun e => by rw [e, c1] at p0; cases p0
    have ne2 : e8 ≠ q2 := fun e => by rw [e, c2] at p0; cases p0
    have := kk e8 s q1 q2 (E 1 + E 1 / 2) m' 4 (486 + (E 1 + E 1 / 2)) (Or.inr ⟨ec, rfl, rfl, rfl⟩) h3 (hp.ext hs hq1 hq2 (fun e => b1s e.symm) (fun e => b2s e.symm) b12 (Or.inr ⟨n0e, nes, ne1, ne2⟩) (by rw [p4, ec]) ?_ ?_ ?_ ?_ (fun z w1 w2 w3 w4 w5 w6 => ?_))
    · rw [show n + (486 + (E 1 + E 1 / 2)) = n + 2 + 484 + (E 1 + E 1 / 2) by omega] at this
      exact this
    · rw [p8]
      refine congrArg some (congrArg (rfA X 5 (E 1 + E 1 / 2)) (funext fun i => ?_))
      by_cases e : i = E 1
      · rw [e, va_up_self, if_pos (by omega), ← ec, va_up_self]
      · rw [va_up_ne _ _ e, va_cpy]
        by_cases e2 : i < E 1
        · rw [if_pos ⟨by omega, by omega⟩, show 0 + (i - 0) = i by omega, if_pos (by omega), if_pos (by omega), va_up_ne _ _ (by omega)]
        · rw [if_neg (by omega), if_neg (by omega)]
    · rw [pz s f4 (fun e => nes e.symm)]; exact c3
    · rw [pz q1 (fun e => fr q1 hq1 _ _ a4 e.symm) (fun e => ne1 e.symm)]; exact c1
    · rw [pz q2 (fun e => fr q2 hq2 _ _ a4 e.symm) (fun e => ne2 e.symm)]; exact c2
    · rw [pz z w1 w3, c4 z w4 w5 w6, z1 z w4]
end New4
