set_option maxRecDepth 100000
/-! ===== UnseenClock: count ===== -/
def hlN (E : Nat → Nat) : Nat → Int32 := sumI (fun s => b2 (!decide (E (2 + s) = 0)))
def qc_count (sw : Nat → Nat → Int32) (A : Nat → Nat → Int32) (E : Nat → Nat) (u : Int32) : Int32 := if u = nI 0 then sw 0 4 else if u = nI 1 then sw 0 5 else if u = nI 2 then sw 0 6 else if u = nI 3 then sw 0 1 else if u = nI 4 then sw 0 2 else if u = nI 5 then sw 0 0 else if u = nI 6 then sw 0 3 else if u = nI 7 then A 0 9 else if u = nI 8 then A 0 3 else if u = nI 9 then hlN E 4 else -1
section Q9
variable {X : Cx} {M : MD} {R : Room} {Z : ZT} {k n pc idx : Nat} {L : List (Option Value)} {st : List Value} {ad : Nat → Nat} {A : Nat → Nat → Int32} {B : Nat → Nat → Int64} {sk : Nat → Nat → Nat} {sw : Nat → Nat → Int32} {E : Nat → Nat} {v : Nat → Nat} {w : Nat → Int32}
/-! slots -/
theorem js_slots {s : Nat} (hs : s < 4) (hd : decode M.cc pc = .ok (.aaload, 1)) (kk : JS CP X M R Z k n (pc + 1) L (.ref (ad (10 + s)) :: st) (ad, A, B, sk, sw, E)) : JS CP X M R Z k n pc L (.int (nI s) :: .ref (ad 1) :: st) (ad, A, B, sk, sw, E) := by
  intro h hp
  have e1 : h (ad 1) = some (.inl (X.dA 6, 4, .inr (.inr (.inr (.inr (fun i => if i < 4 then some (ad (10 + i)) else none)))))) := hp.at 1 rfl
  refine J.aald (C := "UnseenClock$Slot") (t := 6) rfl e1 (vp_in_nI hs (by omega)) hd ?_
  rw [nI_clamp (by omega), if_pos hs]
  exact kk h hp
theorem js_slen (hd : decode M.cc pc = .ok (.arraylength, 1)) (kk : JS CP X M R Z k n (pc + 1) L (.int (nI 4) :: st) (ad, A, B, sk, sw, E)) : JS CP X M R Z k n pc L (.ref (ad 1) :: st) (ad, A, B, sk, sw, E) := by
  intro h hp
  have e1 : h (ad 1) = some (.inl (X.dA 6, 4, .inr (.inr (.inr (.inr (fun i => if i < 4 then some (ad (10 + i)) else none)))))) := hp.at 1 rfl
  exact J.alen (t := 6) e1 rfl hd (kk h hp)
theorem CP.slot {x : Cv} {h : AH} (hp : CP X x h) {s : Nat} (hs : s < 4) : h (x.1 (10 + s)) = some (slO x.1 x.2.2.2.2.2 s) := by
  match s, hs with
  | 0, _ => exact hp.at 10 rfl
  | 1, _ => exact hp.at 11 rfl
  | 2, _ => exact hp.at 12 rfl
  | 3, _ => exact hp.at 13 rfl
theorem js_held {s : Nat} (hs : s < 4) (hl : Cond.fieldLinkNest M.y.cls idx (TX1 0).1 (TX1 0).2.1 (TX1 0).2.2.1 "UnseenClock" ∈ nwL) (hd : decode M.cc pc = .ok (.getfield idx, 3)) (kk : JS CP X M R Z k n (pc + 3) L ((if E (2 + s) = 0 then .null else .ref (ad (14 + s))) :: st) (ad, A, B, sk, sw, E)) : JS CP X M R Z k n pc L (.ref (ad (10 + s)) :: st) (ad, A, B, sk, sw, E) := by
  intro h hp
  exact J.getfN (f := 0) hp.1.1 clsX1 rfl (hp.slot hs) (by decide) rfl hl hd (kk h hp)
theorem bX0_count_0 : Blk CP mX0_count 0 1 [oIL 1] := blk_c (s_iload_n dX0_count_0 rfl) <| blk_nil
theorem bX0_count_56 : Blk CP mX0_count 56 63 [oAL 0, cQ0, qI 0 4 4] := blk_c (s_aload_n dX0_count_56 rfl) <| blk_c (cgX0_1 (Or.inl q557) dX0_count_57) <| blk_c (q_I (by decide) (fun _ _ => rfl) (Or.inr ⟨_, nq440⟩) dX0_count_60) <| blk_nil
theorem bX0_count_64 : Blk CP mX0_count 64 71 [oAL 0, cQ0, qI 0 5 5] := blk_c (s_aload_n dX0_count_64 rfl) <| blk_c (cgX0_1 (Or.inl q557) dX0_count_65) <| blk_c (q_I (by decide) (fun _ _ => rfl) (Or.inr ⟨_, nq443⟩) dX0_count_68) <| blk_nil
theorem bX0_count_72 : Blk CP mX0_count 72 79 [oAL 0, cQ0, qI 0 6 6] := blk_c (s_aload_n dX0_count_72 rfl) <| blk_c (cgX0_1 (Or.inl q557) dX0_count_73) <| blk_c (q_I (by decide) (fun _ _ => rfl) (Or.inr ⟨_, nq448⟩) dX0_count_76) <| blk_nil
theorem bX0_count_80 : Blk CP mX0_count 80 84 [oAL 0, cF_V F_clocksC] := blk_c (s_aload_n dX0_count_80 rfl) <| blk_c (c_F_V ok_clocksC (ci := 0) rfl (lw_V q1150 q1152 qs32 q131 q1153) hy_X0_clocks rfl (by decide) dX0_count_81) <| blk_nil
theorem bX0_count_85 : Blk CP mX0_count 85 89 [oAL 0, cF_V F_peopleC] := blk_c (s_aload_n dX0_count_85 rfl) <| blk_c (c_F_V ok_peopleC (ci := 0) rfl (lw_V q1131 q1133 qs29 q131 q1134) hy_X0_people rfl (by decide) dX0_count_86) <| blk_nil
theorem bX0_count_90 : Blk CP mX0_count 90 97 [oAL 0, cQ0, qI 0 7 0] := blk_c (s_aload_n dX0_count_90 rfl) <| blk_c (cgX0_1 (Or.inl q557) dX0_count_91) <| blk_c (q_I (by decide) (fun _ _ => rfl) (Or.inr ⟨_, nq450⟩) dX0_count_94) <| blk_nil
theorem bX0_count_98 : Blk CP mX0_count 98 105 [oAL 0, cQ0, qI 0 8 3] := blk_c (s_aload_n dX0_count_98 rfl) <| blk_c (cgX0_1 (Or.inl q557) dX0_count_99) <| blk_c (q_I (by decide) (fun _ _ => rfl) (Or.inr ⟨_, nq452⟩) dX0_count_102) <| blk_nil
theorem bX0_count_106 : Blk CP mX0_count 106 110 [oAL 0, cI 0 9] := blk_c (s_aload_n dX0_count_106 rfl) <| blk_c (cgX0_9 (Or.inl q565) dX0_count_107) <| blk_nil
theorem bX0_count_111 : Blk CP mX0_count 111 115 [oAL 0, cI 0 3] := blk_c (s_aload_n dX0_count_111 rfl) <| blk_c (cgX0_3 (Or.inl q559) dX0_count_112) <| blk_nil
theorem bX0_count_116 : Blk CP mX0_count 116 124 [oC (nI 0), oIS 2, oAL 0, cR 0 0 1, oAS 3, oAL 3] := blk_c (s_iconst dX0_count_116 (by decide +kernel)) <| blk_c (s_istore_n dX0_count_117 rfl (by decide)) <| blk_c (s_aload_n dX0_count_118 rfl) <| blk_c (cgX0_0 (Or.inl q556) dX0_count_119) <| blk_c (s_astore_n dX0_count_122 rfl (by decide)) <| blk_c (s_aload_n dX0_count_123 rfl) <| blk_nil
theorem bX0_count_125 : Blk CP mX0_count 125 130 [oIS 4, oC (nI 0), oIS 5] := blk_c (s_istore dX0_count_125 (by decide)) <| blk_c (s_iconst dX0_count_127 (by decide +kernel)) <| blk_c (s_istore dX0_count_128 (by decide)) <| blk_nil
theorem bX0_count_130 : Blk CP mX0_count 130 134 [oIL 5, oIL 4] := blk_c (s_iload dX0_count_130) <| blk_c (s_iload dX0_count_132) <| blk_nil
theorem bX0_count_137 : Blk CP mX0_count 137 140 [oAL 3, oIL 5] := blk_c (s_aload_n dX0_count_137 rfl) <| blk_c (s_iload dX0_count_138) <| blk_nil
theorem bX0_count_141 : Blk CP mX0_count 141 146 [oAS 6, oIL 2, oAL 6] := blk_c (s_astore dX0_count_141 (by decide)) <| blk_c (s_iload_n dX0_count_143 rfl) <| blk_c (s_aload dX0_count_144) <| blk_nil
theorem bX0_count_152 : Blk CP mX0_count 152 157 [oC (nI 0), .inl (fun s => some s)] := blk_c (s_iconst dX0_count_152 (by decide +kernel)) <| blk_c (s_goto (tgt := 157) dX0_count_153 (by decide)) <| blk_nil
theorem bX0_count_156 : Blk CP mX0_count 156 157 [oC (nI 1)] := blk_c (s_iconst dX0_count_156 (by decide +kernel)) <| blk_nil
theorem bX0_count_157 : Blk CP mX0_count 157 130 [oAdd, oIS 2, oInc 5 1, .inl (fun s => some s)] := blk_c (s_iadd dX0_count_157) <| blk_c (s_istore_n dX0_count_158 rfl (by decide)) <| blk_c (s_iinc dX0_count_159 (by decide +kernel) (by decide)) <| blk_c (s_goto (tgt := 130) dX0_count_162 (by decide)) <| blk_nil
theorem bX0_count_165 : Blk CP mX0_count 165 166 [oIL 2] := blk_c (s_iload_n dX0_count_165 rfl) <| blk_nil
theorem bX0_count_167 : Blk CP mX0_count 167 168 [oC (-1)] := blk_c (s_iconst dX0_count_167 (by decide +kernel)) <| blk_nil
theorem pb_count (hS : SW v A sw) {u : Int32} : RCc X mX0_count 1000 70000 [.ref (ad 0), .int u] (ad, A, B, sk, sw, E) (PubQ (ad, A, B, sk, sw, E) (qc_count sw A E u)) := by
  obtain ⟨-, hw, e7, ep⟩ := id hS
  refine C_start (L := [some (.ref (ad 0)), some (.int u), none, none, none, none, none]) 5 rfl ?_
  refine bX0_count_0.go rfl trivial ?_
  by_cases e0 : u = nI 0
  · subst e0
    refine j_tableIn (off := 55) (tgt := 56) dX0_count_1 (by decide +kernel) (by decide +kernel) (by decide +kernel) (by decide) ?_
    refine bX0_count_56.go rfl ⟨rfl, ⟨rfl, sq0⟩, trivial⟩ ?_
    exact x_ret dX0_count_63 rfl (by rw [qc_count, if_pos rfl]) KpX.rf
  by_cases e1 : u = nI 1
  · subst e1
    refine j_tableIn (off := 63) (tgt := 64) dX0_count_1 (by decide +kernel) (by decide +kernel) (by decide +kernel) (by decide) ?_
    refine bX0_count_64.go rfl ⟨rfl, ⟨rfl, sq0⟩, trivial⟩ ?_
    exact x_ret dX0_count_71 rfl (by rw [qc_count, if_neg e0, if_pos rfl]) KpX.rf
  by_cases e2 : u = nI 2
  · subst e2
    refine j_tableIn (off := 71) (tgt := 72) dX0_count_1 (by decide +kernel) (by decide +kernel) (by decide +kernel) (by decide) ?_
    refine bX0_count_72.go rfl ⟨rfl, ⟨rfl, sq0⟩, trivial⟩ ?_
    exact x_ret dX0_count_79 rfl (by rw [qc_count, if_neg e0, if_neg e1, if_pos rfl]) KpX.rf
  by_cases e3 : u = nI 3
  · subst e3
    refine j_tableIn (off := 79) (tgt := 80) dX0_count_1 (by decide +kernel) (by decide +kernel) (by decide +kernel) (by decide) ?_
    refine bX0_count_80.go rfl ⟨rfl, trivial⟩ ?_
    exact x_ret dX0_count_84 rfl (by rw [hw.w1]; rw [qc_count, if_neg e0, if_neg e1, if_neg e2, if_pos rfl]) KpX.rf
  by_cases e4 : u = nI 4
  · subst e4
    refine j_tableIn (off := 84) (tgt := 85) dX0_count_1 (by decide +kernel) (by decide +kernel) (by decide +kernel) (by decide) ?_
    refine bX0_count_85.go rfl ⟨rfl, trivial⟩ ?_
    exact x_ret dX0_count_89 rfl (by rw [hw.w2]; rw [qc_count, if_neg e0, if_neg e1, if_neg e2, if_neg e3, if_pos rfl]) KpX.rf
  by_cases e5 : u = nI 5
  · subst e5
    refine j_tableIn (off := 89) (tgt := 90) dX0_count_1 (by decide +kernel) (by decide +kernel) (by decide +kernel) (by decide) ?_
    refine bX0_count_90.go rfl ⟨rfl, ⟨rfl, sq0⟩, trivial⟩ ?_
    exact x_ret dX0_count_97 rfl (by rw [qc_count, if_neg e0, if_neg e1, if_neg e2, if_neg e3, if_neg e4, if_pos rfl]) KpX.rf
  by_cases e6 : u = nI 6
  · subst e6
    refine j_tableIn (off := 97) (tgt := 98) dX0_count_1 (by decide +kernel) (by decide +kernel) (by decide +kernel) (by decide) ?_
    refine bX0_count_98.go rfl ⟨rfl, ⟨rfl, sq0⟩, trivial⟩ ?_
    exact x_ret dX0_count_105 rfl (by rw [qc_count, if_neg e0, if_neg e1, if_neg e2, if_neg e3, if_neg e4, if_neg e5, if_pos rfl]) KpX.rf
  by_cases e7 : u = nI 7
  · subst e7
    refine j_tableIn (off := 105) (tgt := 106) dX0_count_1 (by decide +kernel) (by decide +kernel) (by decide +kernel) (by decide) ?_
    refine bX0_count_106.go rfl ⟨rfl, trivial⟩ ?_
    exact x_ret dX0_count_110 rfl (by rw [qc_count, if_neg e0, if_neg e1, if_neg e2, if_neg e3, if_neg e4, if_neg e5, if_neg e6, if_pos rfl]) KpX.rf
  by_cases e8 : u = nI 8
  · subst e8
    refine j_tableIn (off := 110) (tgt := 111) dX0_count_1 (by decide +kernel) (by decide +kernel) (by decide +kernel) (by decide) ?_
    refine bX0_count_111.go rfl ⟨rfl, trivial⟩ ?_
    exact x_ret dX0_count_115 rfl (by rw [qc_count, if_neg e0, if_neg e1, if_neg e2, if_neg e3, if_neg e4, if_neg e5, if_neg e6, if_neg e7, if_pos rfl]) KpX.rf
  by_cases e9 : u = nI 9
  · subst e9
    refine j_tableIn (off := 115) (tgt := 116) dX0_count_1 (by decide +kernel) (by decide +kernel) (by decide +kernel) (by decide) ?_
    have eq : qc_count sw A E (nI 9) = hlN E 4 := by rw [qc_count, if_neg e0, if_neg e1, if_neg e2, if_neg e3, if_neg e4, if_neg e5, if_neg e6, if_neg e7, if_neg e8, if_pos rfl]
    rw [eq]
    refine bX0_count_116.go rfl ⟨rfl, trivial⟩ ?_
    refine js_slen dX0_count_124 ?_
    refine bX0_count_125.go rfl trivial ?_
    refine loop_down (N := 4) (I := fun _ => True) (P := fun s => ∀ o6, PJ X mX0_count (ad, A, B, sk, sw, E) (hlN E 4) 130 [some (.ref (ad 0)), some (.int (nI 9)), some (.int (hlN E s)), some (.ref (ad 1)), some (.int (nI 4)), some (.int (nI s)), o6] [] (ad, A, B, sk, sw, E)) ?_ ?_ 0 (by omega) trivial none
    · intro _ o6
      refine bX0_count_130.go rfl trivial ?_
      refine j_icmp_ge (tgt := 165) dX0_count_134 (by decide) (fun h134 => ?_) (fun h134 => absurd (nI_le (Nat.le_refl _) (by omega)) h134)
      refine bX0_count_165.go rfl trivial ?_
      exact x_ret dX0_count_166 rfl rfl KpX.rf
    · intro s hs _ ih o6
      refine bX0_count_130.go rfl trivial ?_
      refine j_icmp_ge (tgt := 165) dX0_count_134 (by decide) (fun h134 => ?_) (fun h134 => ?_)
      · rw [nI_leI (by omega) (by omega)] at h134; omega
      · refine bX0_count_137.go rfl trivial ?_
        refine js_slots hs dX0_count_140 ?_
        refine bX0_count_141.go rfl trivial ?_
        refine js_held hs nq385 dX0_count_146 ?_
        by_cases hE : E (2 + s) = 0
        · rw [if_pos hE]
          refine j_ifnonnullN dX0_count_149 ?_
          refine bX0_count_152.go rfl trivial ?_
          refine bX0_count_157.go rfl trivial ?_
          have := ih trivial (some (.ref (ad (10 + s))))
          have e : hlN E (s + 1) = hlN E s + nI 0 := by simp only [hlN, sumI, decide_eq_true hE]; rfl
          rw [e] at this
          rw [nI_1]
          exact this
        · rw [if_neg hE]
          refine j_ifnonnullR (tgt := 156) dX0_count_149 (by decide) ?_
          refine bX0_count_156.go rfl trivial ?_
          refine bX0_count_157.go rfl trivial ?_
          have := ih trivial (some (.ref (ad (10 + s))))
          have e : hlN E (s + 1) = hlN E s + nI 1 := by simp only [hlN, sumI, decide_eq_false hE]; rfl
          rw [e] at this
          rw [nI_1]
          exact this
  refine j_tableOut (tgt := 167) dX0_count_1 (sw_out (n := 9) (by decide) (fun k hk => ?_)) (by decide) ?_
  · match k, hk with
    | 0, _ => exact e0
    | 1, _ => exact e1
    | 2, _ => exact e2
    | 3, _ => exact e3
    | 4, _ => exact e4
    | 5, _ => exact e5
    | 6, _ => exact e6
    | 7, _ => exact e7
    | 8, _ => exact e8
    | 9, _ => exact e9
  · refine bX0_count_167.go rfl trivial ?_
    exact x_ret dX0_count_168 rfl (by rw [qc_count, if_neg e0, if_neg e1, if_neg e2, if_neg e3, if_neg e4, if_neg e5, if_neg e6, if_neg e7, if_neg e8, if_neg e9]) KpX.rf
end Q9
