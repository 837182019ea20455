set_option maxRecDepth 100000
/-! ===== UnseenClock$Reader: constructor ===== -/
section RdI
variable {X : Cx} {h hz : AH} {r tp n : Nat} {T : Nat → Int32}
theorem spC_120 {tp : Nat} {sk : Nat → Nat} {i : Nat} {a : Nat → Int32} (hi : i < 7 ∨ (10 ≤ i ∧ i < 18)) : spC X tp (va_up sk 120 r) (fun _ => 0) i a = spC X tp sk (fun _ => 0) i a := by
  rcases hi with hi | hi
  · have : i = 0 ∨ i = 1 ∨ i = 2 ∨ i = 3 ∨ i = 4 ∨ i = 5 ∨ i = 6 := by omega
    rcases this with rfl | rfl | rfl | rfl | rfl | rfl | rfl
    · rfl
    · rfl
    · rfl
    · rfl
    · refine congrArg (rfA X 8 8) (funext fun j => ?_)
      by_cases hj : j < 8
      · rw [if_pos hj, if_pos hj, va_up_ne _ _ (by omega)]
      · rw [if_neg hj, if_neg hj]
    · refine congrArg (rfA X 5 4) (funext fun j => ?_)
      rw [if_neg (Nat.not_lt_zero _), if_neg (Nat.not_lt_zero _)]
    · refine congrArg (rfA X 5 8) (funext fun j => ?_)
      rw [if_neg (Nat.not_lt_zero _), if_neg (Nat.not_lt_zero _)]
  · rw [spc_c hi.1 (by omega), spc_c hi.1 (by omega)]
theorem u_0 {i : Nat} (h : SpU (fun _ => 0) i) : i ∈ sqIds ++ [0, 120] := by
  simp only [SpU] at h
  have : i = 0 ∨ i = 1 ∨ i = 2 ∨ i = 3 ∨ i = 4 ∨ i = 5 ∨ i = 6 ∨ i = 10 ∨ i = 11 ∨ i = 12 ∨ i = 13 ∨ i = 14 ∨ i = 15 ∨ i = 16 ∨ i = 17 ∨ i = 120 := by omega
  rcases this with rfl | rfl | rfl | rfl | rfl | rfl | rfl | rfl | rfl | rfl | rfl | rfl | rfl | rfl | rfl | rfl <;> simp
theorem sq_ids {i : Nat} (h : i ∈ sqIds) : (i < 7 ∨ (10 ≤ i ∧ i < 18)) ∧ i ≠ 0 := by
  simp at h
  omega
/-- a reader and its square, both new -/
theorem SP.start (hX : WkX X) (hN : NewOK X) {q : Nat} {sk : Nat → Nat} {e0 : va_E} {h2 : AH} {g : Nat → Int32} (hr : h r = some e0) (hq : h q = none) (hs : SqN X (va_up h q (some (.inr (2, [.null, .null, .null, .null, .int 0, .int 0, .int 0, .int 0, .int 0])))) h2 q sk) (hzh : hle hz h) (hzr : hz r = none) (htp : hz tp = some (.inl (X.dA 2, 2400, .inl T))) : SP X (hz, tp, T, va_up sk 120 r, va_up (fun _ _ => 0) 120 g, fun _ => 0) (va_up h2 r (some (.inr (5, rdF tp q g)))) := by
  obtain ⟨s0, gw, sf, sv⟩ := hs
  have f1 : ∀ i, i ∈ sqIds → h (sk i) = none ∧ sk i ≠ q := fun i hi => by
    have := sf i hi
    have ne : sk i ≠ q := fun y => by rw [y, va_up_self] at this; cases this
    rw [va_up_ne _ _ ne] at this
    exact ⟨this, ne⟩
  have f2 : ∀ i, i ∈ sqIds ++ [0] → h (sk i) = none ∧ sk i ≠ r := fun i hi => by
    have : h (sk i) = none := by
      rcases List.mem_append.mp hi with y | y
      · exact (f1 i y).1
      · rw [List.mem_singleton.mp y, s0]; exact hq
    exact ⟨this, fun y => by rw [y, hr] at this; cases this⟩
  have sk0 : ∀ i, i ∈ sqIds ++ [0] → va_up sk 120 r i = sk i := fun i hi => va_up_ne _ _ (fun y => by rw [y] at hi; revert hi; decide)
  have sk12 : va_up sk 120 r 120 = r := va_up_self _ _ _
  have sp : ∀ i, i ∈ sqIds ++ [0, 120] → i ∈ sqIds ++ [0] ∨ i = 120 := fun i hi => by
    rw [show sqIds ++ [0, 120] = (sqIds ++ [0]) ++ [120] from rfl] at hi
    rcases List.mem_append.mp hi with y | y
    · exact Or.inl y
    · exact Or.inr (List.mem_singleton.mp y)
  have hr2 : ∀ z e, h z = some e → z ≠ r → z ≠ q → va_up h2 r (some (.inr (5, rdF tp q g))) z = some e := fun z e hz y1 y2 => by
    rw [va_up_ne _ _ y1, gw.1 z (fun hm => ?_), va_up_ne _ _ y2]
    · exact hz
    · rcases List.mem_append.mp hm with y | y
      · obtain ⟨i, hi, rfl⟩ := List.mem_map.mp y
        rw [(f1 i hi).1] at hz; cases hz
      · rw [List.mem_singleton.mp y, s0, hq] at hz; cases hz
  refine ⟨⟨hX, hN⟩, fun i ui => ?_, fun i j ui uj e => ?_, fun z e he => ?_, fun i ui => ?_, htp⟩
  · show va_up h2 r (some (.inr (5, rdF tp q g))) (va_up sk 120 r i) = some (spC X tp (va_up sk 120 r) (fun _ => 0) i (va_up (fun _ _ => 0) 120 g i))
    rcases sp i (u_0 ui) with y | y
    · have n120 : i ≠ 120 := fun z => by rw [z] at y; revert y; decide
      have r1 : i < 7 ∨ (10 ≤ i ∧ i < 18) := by
        rcases List.mem_append.mp y with w | w
        · exact (sq_ids w).1
        · rw [List.mem_singleton.mp w]; omega
      rw [sk0 i y, va_up_ne _ _ (f2 i y).2, va_up_ne _ _ n120, spC_120 r1]
      exact sv i y tp
    · rw [y, sk12, va_up_self, va_up_self]
      show _ = some (.inr (5, rdF tp (va_up sk 120 r 0) g) : va_E)
      rw [va_up_ne _ _ (by decide), s0]
  · have e : va_up sk 120 r i = va_up sk 120 r j := e
    have nd : ((sqIds ++ [0, 120]).map (va_up sk 120 r)).Nodup := by
      have e1 : (sqIds ++ [0, 120]).map (va_up sk 120 r) = (sqIds.map sk ++ [sk 0]) ++ [r] := rfl
      rw [e1, List.nodup_append]
      refine ⟨gw.2.2, by simp, fun x hx y hy z => ?_⟩
      rw [List.mem_singleton.mp hy] at z
      rcases List.mem_append.mp hx with w | w
      · obtain ⟨k, hk, rfl⟩ := List.mem_map.mp w
        exact (f2 k (List.mem_append.mpr (Or.inl hk))).2 z
      · rw [List.mem_singleton.mp w] at z
        exact (f2 0 (by simp)).2 z
    exact nd_inj nd (u_0 ui) (u_0 uj) e
  · have he : hz z = some e := he
    have h3 := hzh z e he
    exact hr2 z e h3 (fun y => by rw [y, hzr] at he; cases he) (fun y => by rw [y, hq] at h3; cases h3)
  · show hz (va_up sk 120 r i) = none
    rcases sp i (u_0 ui) with y | y
    · rw [sk0 i y]
      cases w : hz (sk i) with
      | none => rfl
      | some c => exact absurd (f2 i y).1 (by rw [hzh _ _ w]; simp)
    · rw [y, sk12]; exact hzr
theorem hy_i5 : mX5_init.y.cls ≠ "java/lang/invoke/MethodHandle" ∧ mX5_init.y.cls ≠ "java/lang/invoke/VarHandle" ∧ (parseMethodDescriptor mX5_init.y.desc).map (fun d => d.parameters.length) = some 2 := by decide +kernel
theorem bX5i_0 : Blk PE mX5_init 0 1 [oAL 0] := blk_c (s_aload_n dX5_init_0 rfl) <| blk_nil
theorem bX5i_4 : Blk PE mX5_init 4 5 [oAL 0] := blk_c (s_aload_n dX5_init_4 rfl) <| blk_nil
theorem bX5i_8 : Blk PE mX5_init 8 9 [oDupR] := blk_c (s_dupR dX5_init_8) <| blk_nil
theorem bX5i_15 : Blk PE mX5_init 15 17 [oAL 0, oAL 1] := blk_c (s_aload_n dX5_init_15 rfl) <| blk_c (s_aload_n dX5_init_16 rfl) <| blk_nil
theorem bX5i_20 : Blk PE mX5_init 20 22 [oAL 0, oIL 2] := blk_c (s_aload_n dX5_init_20 rfl) <| blk_c (s_iload_n dX5_init_21 rfl) <| blk_nil
theorem bX5i_25 : Blk SP mX5_init 25 26 [oAL 0] := blk_c (s_aload_n dX5_init_25 rfl) <| blk_nil
theorem sp_next0 {M : MD} {R : Room} {Z : ZT} {k m pc idx : Nat} {L : List (Option Value)} {st : List Value} {sk : Nat → Nat} {S : Nat → Nat → Int32} {N : Nat → Nat} {b : Nat} (hT : byT T) (hg : S 120 1 = nI n ∧ S 120 3 = nI b) (hb : b ≤ n) (hn : n ≤ 2400) (hl : Cond.methodLink M.y.cls idx yX5_next ∈ lw_all) (hd : decode M.cc pc = .ok (.invokevirtual idx, 3)) (hR : 4 ≤ M.lv) (hst : wt8 st = true)
    (kk : ∀ g, TokG g n (advS T n b) → JS SP X M R Z k m (pc + 3) L st (hz, tp, T, sk, va_up S 120 g, N)) : JS SP X M R Z k m pc L (.ref (sk 120) :: st) (hz, tp, T, sk, S, N) := by
  refine sp_rpc (M' := mX5_next) (nA := 0) (As := []) (Q' := fun r x' => r = none ∧ TokG x'.2.2.2 n (advS T n b)) (fun h _ => ?_) (lw_V hl q619 qs5 q139 q620) hd rfl hy_X5_next (fun r g h q => ?_) rfl rfl ⟨hR, by decide⟩ hst
  · intro h' hp'
    refine MetFree.mono (ok_next hT hg.1 hg.2 hn hb h' hp') (fun _ _ z => z) (fun _ _ _ _ _ z => z) (fun a s oc t _ z => ⟨?_, z.2⟩)
    obtain ⟨h2', ⟨r, x', e1, ⟨e2, g', rfl, e3⟩, e4⟩, hw⟩ := z.1
    exact ⟨h2', ⟨r, _, e1, ⟨⟨e2, e3⟩, g', rfl⟩, e4⟩, hw⟩
  · obtain ⟨rfl, q⟩ := q
    exact kk g q
/-- what a new reader is -/
def RdN (X : Cx) (hz : AH) (r tp n : Nat) (T : Nat → Int32) (h' : AH) : Prop := ∃ sk S, sk 120 = r ∧ SP X (hz, tp, T, sk, S, fun _ => 0) h' ∧ (∀ i, i ≠ 120 → S i = fun _ => 0) ∧ TokG (S 120) n (advS T n 0)
theorem ok_X5_init (hX : WkX X) (hN : NewOK X) (hT : byT T) (hn : n ≤ 2400) (h1 : h r = some (.inr (5, [.null, .int 0, .null, .int 0, .int 0, .int 0, .int 0]))) (hzh : hle hz h) (hzr : hz r = none) (htp : hz tp = some (.inl (X.dA 2, 2400, .inl T))) : Cg X mX5_init 15 755 [.ref r, .ref tp, .int (nI n)] h (fun o h' => o = .returned none ∧ RdN X hz r tp n T h') := by
  refine E_start (L := [some (.ref r), some (.ref tp), some (.int (nI n))]) 0 rfl ?_
  refine bX5i_0.go rfl trivial ?_
  refine js_of (J.objInit q614 q200 q201 (by decide) (by decide) dX5_init_1 ?_)
  refine of_js ?_
  refine bX5i_4.go rfl trivial ?_
  refine js_of (J.new (C := RX2) (T := TX2) (N := 9) (ty := tyX2) (ci := 2) (fs := [.null, .null, .null, .null, .int 0, .int 0, .int 0, .int 0, .int 0]) hN clsX2 rfl q615 q390 q133 (by decide +kernel) ⟨by show 0 + 1 ≤ 15; omega, by show 0 + 9 ≤ 755; omega⟩ dX5_init_5 (fun q hq => ?_))
  have nq : q ≠ r := fun y => by rw [y, h1] at hq; cases hq
  refine of_js ?_
  refine bX5i_8.go rfl trivial ?_
  refine js_of (J.callIN (M' := mX2_init) (As := []) (mc := 14) (ms := 746) hX (ok_X2_init hX hN (va_up_self _ _ _)) rfl (fun o h' q => ⟨_, q.1⟩) dX5_init_9 q393 q133 nq616 q392 rfl hy_i2 (by decide) ⟨by show 0 + 1 + 14 ≤ 15; omega, by show 0 + 9 + 746 ≤ 755; omega⟩ (Nat.le_of_ble_eq_true rfl) (fun v h2 q0 => ?_))
  obtain ⟨q0, sk, hs⟩ := q0
  cases q0
  have hr2 : h2 r = some (.inr (5, [.null, .int 0, .null, .int 0, .int 0, .int 0, .int 0])) := by
    rw [hs.2.1.1 r (fun hm => ?_), va_up_ne _ _ (fun y => nq y.symm)]
    · exact h1
    · rcases List.mem_append.mp hm with y | y
      · obtain ⟨i, hi, e⟩ := List.mem_map.mp y
        have := hs.2.2.1 i hi
        rw [e, va_up_ne _ _ (fun y => nq y.symm), h1] at this; cases this
      · rw [List.mem_singleton.mp y, hs.1] at nq; exact nq rfl
  refine J.putfF (f := 2) clsX5 rfl hr2 (by decide) (Nat.le_of_ble_eq_true rfl) rfl rfl rfl rfl rfl q632 dX5_init_12 ?_
  refine of_js ?_
  refine bX5i_15.go rfl trivial ?_
  refine js_of (J.putfF (f := 0) clsX5 rfl (va_up_self _ _ _) (by decide) (Nat.le_of_ble_eq_true rfl) rfl rfl rfl rfl rfl q630 dX5_init_17 ?_)
  rw [up_up]
  refine of_js ?_
  refine bX5i_20.go rfl trivial ?_
  refine js_of (J.putfF (f := 1) clsX5 rfl (va_up_self _ _ _) (by decide) (Nat.le_of_ble_eq_true rfl) rfl rfl rfl rfl rfl q631 dX5_init_22 ?_)
  rw [up_up]
  have hp := SP.start (g := fun j => match j with | 1 => nI n | _ => 0) hX hN h1 hq hs hzh hzr htp
  refine (show JS SP X mX5_init (rmOf mX5_init.lv 15 755) _ (0 + 1 + 14) (0 + 9 + 746) 25 _ _ _ from ?_) _ hp
  refine bX5i_25.go rfl trivial ?_
  refine (fun (z : JS SP X mX5_init (rmOf mX5_init.lv 15 755) _ (0 + 1 + 14) (0 + 9 + 746) 26 _ (.ref (va_up sk 120 r 120) :: []) _) => by rw [va_up_self] at z; exact z) ?_
  refine sp_next0 hT ⟨by rw [va_up_self]; rfl, by rw [va_up_self]; rfl⟩ (Nat.zero_le _) hn q617 dX5_init_26 (by decide) rfl (fun g hg => ?_)
  intro h4 hp4
  refine J.vret dX5_init_29 rfl (by show 0 + 1 + 14 ≤ 15; omega) (by show 0 + 9 + 746 ≤ 755; omega) ⟨rfl, _, _, va_up_self _ _ _, hp4, fun i hi => ?_, ?_⟩
  · rw [va_up_ne _ _ hi, va_up_ne _ _ hi]
  · rw [va_up_self]; exact hg
end RdI
