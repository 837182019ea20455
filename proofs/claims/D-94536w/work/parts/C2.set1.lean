set_option maxRecDepth 100000
/-! ===== Course.now, settlesSome ===== -/
section OpsC2
variable {M : MD} {pc idx : Nat}
def qHC (j pl il : Nat) : OPS Cv := .inr (fun s => match s with
  | (L, .ref a :: st, (ad, A, B, sk, sw, E)) => match L[pl]? with
    | some (some (.int z)) => match L[il]? with
      | some (some (.int y)) => some ((a = sk j (80 + 4 * z.toNatClampNeg + y.toNatClampNeg) ∧ z.toNatClampNeg < nP (sw j) ∧ y.toNatClampNeg < nL (sw j) z.toNatClampNeg) ∧ SqL E j, L, .ref a :: st, (ad, A, B, sk, sw, E))
      | _ => none
    | _ => none
  | _ => none)
theorem q_HC {j pl il : Nat} (hl : Cond.classLink M.y.cls idx RX9 ∈ lw_all) (hd : decode M.cc pc = .ok (.checkcast idx, 3)) : JStp CP M pc (pc + 3) (qHC j pl il) := by
  intro X R Z k n L st x cnd L' st' x' hf hc kk h hp
  dsimp only at hf
  split at hf
  · rename_i heq
    cases heq
    split at hf
    · split at hf
      · simp only [Option.some.injEq, Prod.mk.injEq] at hf
        obtain ⟨rfl, rfl, rfl, rfl⟩ := hf
        obtain ⟨⟨hc0, hi, hj⟩, hs⟩ := hc
        have hb := hp.hab hs hi hj
        subst hc0
        unfold hbC at hb
        split at hb
        · exact J.cast hp.1.1 hb rfl hl nq2304 hd (kk h hp)
        · split at hb
          · exact J.cast hp.1.1 hb rfl hl nq2305 hd (kk h hp)
          · split at hb
            · exact J.cast hp.1.1 hb rfl hl nq2307 hd (kk h hp)
            · split at hb
              · exact J.cast hp.1.1 hb rfl hl nq2309 hd (kk h hp)
              · split at hb
                · exact J.cast hp.1.1 hb rfl hl nq2308 hd (kk h hp)
                · exact J.cast hp.1.1 hb rfl hl nq2306 hd (kk h hp)
      · cases hf
    · cases hf
  · cases hf
def qHk (j pl il : Nat) : OPS Cv := .inr (fun s => match s with
  | (L, .ref a :: st, (ad, A, B, sk, sw, E)) => match L[pl]? with
    | some (some (.int z)) => match L[il]? with
      | some (some (.int y)) => some ((a = sk j (80 + 4 * z.toNatClampNeg + y.toNatClampNeg) ∧ z.toNatClampNeg < nP (sw j) ∧ y.toNatClampNeg < nL (sw j) z.toNatClampNeg) ∧ SqL E j, L, .int (lkI (sw j) z.toNatClampNeg y.toNatClampNeg 0) :: st, (ad, A, B, sk, sw, E))
      | _ => none
    | _ => none
  | _ => none)
theorem q_Hk {j pl il : Nat} (hl : Lk M idx (TX10 0)) (hd : decode M.cc pc = .ok (.getfield idx, 3)) : JStp CP M pc (pc + 3) (qHk j pl il) := by
  intro X R Z k n L st x cnd L' st' x' hf hc kk h hp
  dsimp only at hf
  split at hf
  · rename_i heq
    cases heq
    split at hf
    · split at hf
      · simp only [Option.some.injEq, Prod.mk.injEq] at hf
        obtain ⟨rfl, rfl, rfl, rfl⟩ := hf
        obtain ⟨⟨hc0, hi, hj⟩, hs⟩ := hc
        have hb := hp.hab hs hi hj
        subst hc0
        unfold hbC at hb
        split at hb
        · exact J.getfE (f := 0) hp.1.1 clsX10 rfl hb (by decide) rfl hl hd (kk h hp)
        · split at hb
          · exact J.getfE (f := 0) hp.1.1 clsX11 rfl hb (by decide) rfl hl hd (kk h hp)
          · split at hb
            · exact J.getfE (f := 0) hp.1.1 clsX12 rfl hb (by decide) rfl hl hd (kk h hp)
            · split at hb
              · exact J.getfE (f := 0) hp.1.1 clsX13 rfl hb (by decide) rfl hl hd (kk h hp)
              · split at hb
                · exact J.getfE (f := 0) hp.1.1 clsX14 rfl hb (by decide) rfl hl hd (kk h hp)
                · exact J.getfE (f := 0) hp.1.1 clsX15 rfl hb (by decide) rfl hl hd (kk h hp)
      · cases hf
    · cases hf
  · cases hf
end OpsC2
/-! values -/
def V3 (e : Int32) : Prop := e = -1 ∨ e = nI 0 ∨ e = nI 1
theorem V3.b2 (b : Bool) : V3 (b2 b) := by cases b; exact Or.inr (Or.inl rfl); exact Or.inr (Or.inr rfl)
theorem fSL_3 (s l : Int32) (c : Nat) : V3 (fSL s l c) := by
  unfold fSL
  split
  · exact V3.b2 _
  · exact Or.inl rfl
theorem hold_3 {K : MC} {V : Nat → Nat → Int32} (hV : ∀ p c, V3 (V p c)) (p i : Nat) : V3 (holdV K V p i) := by
  obtain ⟨w, see, mb, lp, sp, m⟩ := K
  simp only [holdV]
  split
  · exact Or.inr (Or.inr rfl)
  split
  · exact V3.b2 _
  split
  · exact V3.b2 _
  split
  · split
    · exact hV _ _
    · exact Or.inr (Or.inl rfl)
  split
  · split
    · split
      · exact Or.inl rfl
      · rename_i h
        rcases hV (lkI w p i 2).toNatClampNeg (lkI w p i 0).toNatClampNeg with q | q | q
        · exact absurd q h
        · rw [q]; exact Or.inr (Or.inr (by decide))
        · rw [q]; exact Or.inr (Or.inl (by decide))
    · exact Or.inr (Or.inr rfl)
  · exact V3.b2 _
theorem has_3 {K : MC} {V : Nat → Nat → Int32} (hV : ∀ p c, V3 (V p c)) (p c i : Nat) : V3 (hasV K V p c i) := by
  unfold hasV
  split
  · exact hold_3 hV p i
  · exact Or.inr (Or.inl rfl)
def hm2 (a b : Bool) : Int32 := if a = true then nI 2 else if b = true then nI 1 else nI 0
theorem hm2_s (a b : Bool) {e : Int32} (h : V3 e) : hm2 (a || decide (e = nI 1)) (b || decide (e = -1)) = maxI (hm2 a b) (nwI e) := by
  rcases h with rfl | rfl | rfl <;> cases a <;> cases b <;> decide
def hsM (K : MC) (V : Nat → Nat → Int32) (p c i : Nat) : Int32 := hm2 (anyN (fun j => decide (hasV K V p c j = nI 1)) i) (anyN (fun j => decide (hasV K V p c j = -1)) i)
theorem hsM_s {K : MC} {V : Nat → Nat → Int32} (hV : ∀ p c, V3 (V p c)) (p c i : Nat) : hsM K V p c (i + 1) = maxI (hsM K V p c i) (nwI (hasV K V p c i)) := hm2_s _ _ (has_3 hV p c i)
theorem nwI_ev (K : MC) (V : Nat → Nat → Int32) (p c : Nat) : nwI (evV K V p c) = if K.2.1 p c = false then nI 0 else hsM K V p c (perI K.1 p 4).toNatClampNeg := by
  unfold evV hsM hm2
  split
  · rfl
  · split
    · rfl
    · split <;> rfl
def DrOk (A : Nat → Nat → Int32) (v : Nat → Nat) : Prop := ¬ A 3 16 = 0 → ∀ p, p < v 2 → ∀ i, i < v (56 + 33 * p + 4) → ∃ b, A (70 + p) i = b2 b
def F_nowC (o : Nat) (p k t : Int32) : Cv → Prop × Value := fun (ad, A, B, sk, sw, E) => (o = ad 3 ∧ ∃ (v : Nat → Nat) (pn kn tn : Nat), CrO A sw E v ∧ DrOk A v ∧ pn < v 2 ∧ kn < v 1 ∧ tn < v 6 ∧ p = nI pn ∧ k = nI kn ∧ t = nI tn, .int (nwI (evV (mcC A (sw 1) t.toNatClampNeg) (vf (fA A)) p.toNatClampNeg k.toNatClampNeg)))
theorem bX3_now_0 : Blk CP mX3_now 0 7 [oAL 0, oIL 1, oIL 2, oIL 3, cF_III F_seesC] := blk_c (s_aload_n dX3_now_0 rfl) <| blk_c (s_iload_n dX3_now_1 rfl) <| blk_c (s_iload_n dX3_now_2 rfl) <| blk_c (s_iload_n dX3_now_3 rfl) <| blk_c (c_F_III ok_seesC (ci := 3) rfl (lw_V q1219 q1161 q1162 q137 q1163) hy_X3_sees rfl (by decide) dX3_now_4) <| blk_nil
theorem bX3_now_10 : Blk CP mX3_now 10 11 [oC (nI 0)] := blk_c (s_iconst dX3_now_10 (by decide +kernel)) <| blk_nil
theorem bX3_now_12 : Blk CP mX3_now 12 39 [oC (nI 0), oIS 4, oAL 0, cQ1, qR 1 1 2, oIL 1, qPL 1, oAS 5, oC (nI 0), oIS 6] := blk_c (s_iconst dX3_now_12 (by decide +kernel)) <| blk_c (s_istore dX3_now_13 (by decide)) <| blk_c (s_aload_n dX3_now_15 rfl) <| blk_c (cgX3_12 (Or.inl q505) dX3_now_16) <| blk_c (q_R (by decide) (fun _ _ => rfl) (Or.inr ⟨_, nq430⟩) dX3_now_19) <| blk_c (s_iload_n dX3_now_22 rfl) <| blk_c (q_PL (lw_F q1195 q812 q814 q136 q816) (by decide) dX3_now_23 q1205 dX3_now_28 (Or.inr ⟨_, nq965⟩) dX3_now_31) <| blk_c (s_astore dX3_now_34 (by decide)) <| blk_c (s_iconst dX3_now_36 (by decide +kernel)) <| blk_c (s_istore dX3_now_37 (by decide)) <| blk_nil
theorem bX3_now_39 : Blk CP mX3_now 39 48 [oIL 6, oAL 5, qLs 1 1] := blk_c (s_iload dX3_now_39) <| blk_c (s_aload dX3_now_41) <| blk_c (q_Ls (lw_F q1193 q803 q805 q136 q807) (by decide) dX3_now_43) <| blk_nil
theorem bX3_now_51 : Blk CP mX3_now 51 67 [oAL 5, oIL 6, qLg 1 1, qHC 1 1 6, qHk 1 1 6, oIL 2] := blk_c (s_aload dX3_now_51) <| blk_c (s_iload dX3_now_53) <| blk_c (q_Lg (lw_F q1195 q812 q814 q136 q816) (by decide) dX3_now_55) <| blk_c (q_HC q1206 dX3_now_60) <| blk_c (q_Hk (Or.inl q1035) dX3_now_63) <| blk_c (s_iload_n dX3_now_66 rfl) <| blk_nil
theorem bX3_now_70 : Blk CP mX3_now 70 87 [oIL 4, oAL 5, oIL 6, qLg 1 1, qHC 1 1 6, oAL 0, oIL 1, oIL 3] := blk_c (s_iload dX3_now_70) <| blk_c (s_aload dX3_now_72) <| blk_c (s_iload dX3_now_74) <| blk_c (q_Lg (lw_F q1195 q812 q814 q136 q816) (by decide) dX3_now_76) <| blk_c (q_HC q1206 dX3_now_81) <| blk_c (s_aload_n dX3_now_84 rfl) <| blk_c (s_iload_n dX3_now_85 rfl) <| blk_c (s_iload_n dX3_now_86 rfl) <| blk_nil
theorem bX3_now_90 : Blk CP mX3_now 90 95 [oS_II pT2 maxI, oIS 4] := blk_c (s_S_II ok_sJ3_max (fun _ _ _ h => h.1.1) (Or.inl (lw_S q1278 q896 q140 q897)) hy_J3_max (by decide) dX3_now_90) <| blk_c (s_istore dX3_now_93 (by decide)) <| blk_nil
theorem bX3_now_95 : Blk CP mX3_now 95 39 [oInc 6 1, .inl (fun s => some s)] := blk_c (s_iinc dX3_now_95 (by decide +kernel) (by decide)) <| blk_c (s_goto (tgt := 39) dX3_now_98 (by decide)) <| blk_nil
theorem bX3_now_101 : Blk CP mX3_now 101 103 [oIL 4] := blk_c (s_iload dX3_now_101) <| blk_nil
theorem ok_nowC : FC_III mX3_now 3 F_nowC := by
  rintro X o p k t ⟨ad, A, B, sk, sw, E⟩ ⟨rfl, v, pn, kn, tn, hO, hD, hp, hk, ht, rfl, rfl, rfl⟩
  obtain ⟨hs, hw, e13, -⟩ := id hO
  have h8 := hw.np8
  have h4 := hw.nc4
  have h40 := hw.sp40
  have npE := hw.npE
  have nlE := hw.nlE hp
  have l4 := hw.nl4 hp
  have hV : ∀ p c, V3 (vf (fA A) p c) := fun p c => fSL_3 _ _ _
  refine ⟨?_, rec3⟩
  dsimp only [F_nowC]
  simp (disch := omega) only [nI_clamp]
  have e4 : (perI (sw 1) pn 4).toNatClampNeg = v (56 + 33 * pn + 4) := nlE
  refine C_start (L := [some (.ref (ad 3)), some (.int (nI pn)), some (.int (nI kn)), some (.int (nI tn)), none, none, none]) 3 rfl ?_
  rw [nwI_ev, show (mcC A (sw 1) tn).2.1 pn kn = seeB (sw 1) pn kn tn from rfl, show (mcC A (sw 1) tn).1 = sw 1 from rfl, e4]
  refine bX3_now_0.go rfl ⟨⟨rfl, v, pn, kn, tn, hO, hp, hk, ht, rfl, rfl, rfl⟩, trivial⟩ ?_
  simp (disch := omega) only [nI_clamp]
  refine j_if_ne (tgt := 12) dX3_now_7 (by decide) (fun h7 => ?_) (fun h7 => ?_)
  · rw [b2_n0] at h7
    rw [h7]
    refine bX3_now_12.go rfl (by simp (disch := omega) only [nI_clamp, vpI, npE]; repeat' first | exact trivial | rfl | assumption | omega | apply And.intro) ?_
    simp (disch := omega) only [nI_clamp]
    refine loop_down (N := v (56 + 33 * pn + 4)) (I := fun _ => True) (P := fun i => JS CP X mX3_now (rmOf mX3_now.lv 0 0) (ZC X 0 0 (fun r x' => r = some (.int (if true = false then nI 0 else hsM (mcC A (sw 1) tn) (vf (fA A)) pn kn (v (56 + 33 * pn + 4)))) ∧ x' = (ad, A, B, sk, sw, E))) 0 0 39 [some (.ref (ad 3)), some (.int (nI pn)), some (.int (nI kn)), some (.int (nI tn)), some (.int (hsM (mcC A (sw 1) tn) (vf (fA A)) pn kn i)), some (.ref (sk 1 (60 + pn))), some (.int (nI i))] [] (ad, A, B, sk, sw, E)) ?_ ?_ 0 (Nat.zero_le _) trivial
    · intro _
      refine bX3_now_39.go rfl (by simp (disch := omega) only [nI_clamp, vpI, npE]; repeat' first | exact trivial | rfl | assumption | omega | apply And.intro) ?_
      simp (disch := omega) only [nI_clamp, nlE]
      refine j_icmp_ge (tgt := 101) dX3_now_48 (by decide) (fun h48 => ?_) (fun h48 => absurd (nI_le (Nat.le_refl _) (by omega)) h48)
      refine bX3_now_101.go rfl trivial ?_
      exact c_iret dX3_now_103 rfl ⟨rfl, rfl⟩
    · intro i hi _ ih
      have hst := hsM_s (K := mcC A (sw 1) tn) hV pn kn i
      refine bX3_now_39.go rfl (by simp (disch := omega) only [nI_clamp, vpI, npE]; repeat' first | exact trivial | rfl | assumption | omega | apply And.intro) ?_
      simp (disch := omega) only [nI_clamp, nlE]
      refine j_icmp_ge (tgt := 101) dX3_now_48 (by decide) (fun h48 => ?_) (fun h48 => ?_)
      · rw [nI_leI (by omega) (by omega)] at h48; omega
      · refine bX3_now_51.go rfl (by simp (disch := omega) only [nI_clamp, vpI, npE, nlE]; repeat' first | exact trivial | rfl | assumption | omega | apply And.intro) ?_
        simp (disch := omega) only [nI_clamp]
        refine j_icmp_ne (tgt := 95) dX3_now_67 (by decide) (fun h67 => ?_) (fun h67 => ?_)
        · refine bX3_now_95.go rfl trivial ?_
          rw [nI_1]
          have e0 : hasV (mcC A (sw 1) tn) (vf (fA A)) pn kn i = nI 0 := if_neg h67
          rw [e0] at hst
          have e1 : hsM (mcC A (sw 1) tn) (vf (fA A)) pn kn (i + 1) = hsM (mcC A (sw 1) tn) (vf (fA A)) pn kn i := by
            rw [hst]
            unfold hsM hm2
            split
            · decide
            · split <;> decide
          have := ih trivial
          rw [e1] at this
          exact this
        · refine bX3_now_70.go rfl (by simp (disch := omega) only [nI_clamp, vpI, npE, nlE]; repeat' first | exact trivial | rfl | assumption | omega | apply And.intro) ?_
          simp (disch := omega) only [nI_clamp]
          refine js_hnow hO hp hi ht (fun _ hd => hD hd pn hp i hi) ?_
          have e0 : hasV (mcC A (sw 1) tn) (vf (fA A)) pn kn i = holdV (mcC A (sw 1) tn) (vf (fA A)) pn i := if_pos h67
          rw [e0] at hst
          refine bX3_now_90.go rfl ⟨trivial, trivial⟩ ?_
          refine bX3_now_95.go rfl trivial ?_
          rw [nI_1, ← hst]
          exact ih trivial
  · rw [b2_0] at h7
    rw [h7]
    refine bX3_now_10.go rfl trivial ?_
    exact c_iret dX3_now_11 rfl ⟨rfl, rfl⟩
