set_option maxRecDepth 100000
/-! ===== UnseenClockModel: count ===== -/
def slN (A : Nat → Nat → Int32) : Nat → Int32 := sumI (fun s => b2 (!decide (A 37 s = -1)))
def q_count (A : Nat → Nat → Int32) (what : Int32) : Int32 := if what = nI 0 then A 1 4 else if what = nI 1 then A 1 5 else if what = nI 2 then A 1 6 else if what = nI 3 then A 1 1 else if what = nI 4 then A 1 2 else if what = nI 5 then A 1 0 else if what = nI 6 then A 1 3 else if what = nI 7 then A 0 5 else if what = nI 8 then A 1 7 else if what = nI 9 then slN A 4 else -1
theorem sw_out {a : Int32} {n : Nat} (hn : n < 1000) (h : ∀ k, k ≤ n → ¬ a = nI k) : a.toInt < 0 ∨ (n : Int) < a.toInt := by
  by_cases h0 : a < 0
  · exact Or.inl (by have := Int32.lt_iff_toInt_lt.mp h0; simpa using this)
  · obtain ⟨j, hj, rfl⟩ := nI_of h0
    refine Or.inr ?_
    rw [nI_toInt hj]
    by_cases e : j ≤ n
    · exact absurd rfl (h j e)
    · omega
theorem bX4_count_0 : Blk TP mX4_count 0 3 [oC (nI 0), oIS 2, oIL 1] := blk_c (s_iconst dX4_count_0 (by decide +kernel)) <| blk_c (s_istore_n dX4_count_1 rfl (by decide)) <| blk_c (s_iload_n dX4_count_2 rfl) <| blk_nil
theorem bX4_count_56 : Blk TP mX4_count 56 62 [oAL 0, tR 1, oC (nI 4), tAI 1 320] := blk_c (s_aload_n dX4_count_56 rfl) <| blk_c (tgX4_1 rfl dX4_count_57) <| blk_c (s_iconst dX4_count_60 (by decide +kernel)) <| blk_c (t_iald rfl dX4_count_61) <| blk_nil
theorem bX4_count_63 : Blk TP mX4_count 63 69 [oAL 0, tR 1, oC (nI 5), tAI 1 320] := blk_c (s_aload_n dX4_count_63 rfl) <| blk_c (tgX4_1 rfl dX4_count_64) <| blk_c (s_iconst dX4_count_67 (by decide +kernel)) <| blk_c (t_iald rfl dX4_count_68) <| blk_nil
theorem bX4_count_70 : Blk TP mX4_count 70 77 [oAL 0, tR 1, oC (nI 6), tAI 1 320] := blk_c (s_aload_n dX4_count_70 rfl) <| blk_c (tgX4_1 rfl dX4_count_71) <| blk_c (s_bipush dX4_count_74 (by decide +kernel)) <| blk_c (t_iald rfl dX4_count_76) <| blk_nil
theorem bX4_count_78 : Blk TP mX4_count 78 84 [oAL 0, tR 1, oC (nI 1), tAI 1 320] := blk_c (s_aload_n dX4_count_78 rfl) <| blk_c (tgX4_1 rfl dX4_count_79) <| blk_c (s_iconst dX4_count_82 (by decide +kernel)) <| blk_c (t_iald rfl dX4_count_83) <| blk_nil
theorem bX4_count_85 : Blk TP mX4_count 85 91 [oAL 0, tR 1, oC (nI 2), tAI 1 320] := blk_c (s_aload_n dX4_count_85 rfl) <| blk_c (tgX4_1 rfl dX4_count_86) <| blk_c (s_iconst dX4_count_89 (by decide +kernel)) <| blk_c (t_iald rfl dX4_count_90) <| blk_nil
theorem bX4_count_92 : Blk TP mX4_count 92 98 [oAL 0, tR 1, oC (nI 0), tAI 1 320] := blk_c (s_aload_n dX4_count_92 rfl) <| blk_c (tgX4_1 rfl dX4_count_93) <| blk_c (s_iconst dX4_count_96 (by decide +kernel)) <| blk_c (t_iald rfl dX4_count_97) <| blk_nil
theorem bX4_count_99 : Blk TP mX4_count 99 105 [oAL 0, tR 1, oC (nI 3), tAI 1 320] := blk_c (s_aload_n dX4_count_99 rfl) <| blk_c (tgX4_1 rfl dX4_count_100) <| blk_c (s_iconst dX4_count_103 (by decide +kernel)) <| blk_c (t_iald rfl dX4_count_104) <| blk_nil
theorem bX4_count_106 : Blk TP mX4_count 106 110 [oAL 0, tI 5] := blk_c (s_aload_n dX4_count_106 rfl) <| blk_c (tgX4_5 rfl dX4_count_107) <| blk_nil
theorem bX4_count_111 : Blk TP mX4_count 111 118 [oAL 0, tR 1, oC (nI 7), tAI 1 320] := blk_c (s_aload_n dX4_count_111 rfl) <| blk_c (tgX4_1 rfl dX4_count_112) <| blk_c (s_bipush dX4_count_115 (by decide +kernel)) <| blk_c (t_iald rfl dX4_count_117) <| blk_nil
theorem bX4_count_119 : Blk TP mX4_count 119 121 [oC (nI 0), oIS 3] := blk_c (s_iconst dX4_count_119 (by decide +kernel)) <| blk_c (s_istore_n dX4_count_120 rfl (by decide)) <| blk_nil
theorem bX4_count_121 : Blk TP mX4_count 121 123 [oIL 3, oC (nI 4)] := blk_c (s_iload_n dX4_count_121 rfl) <| blk_c (s_iconst dX4_count_122 (by decide +kernel)) <| blk_nil
theorem bX4_count_126 : Blk TP mX4_count 126 134 [oIL 2, oAL 0, tR 37, oIL 3, tAI 37 4, oC (-1)] := blk_c (s_iload_n dX4_count_126 rfl) <| blk_c (s_aload_n dX4_count_127 rfl) <| blk_c (tgX4_37 rfl dX4_count_128) <| blk_c (s_iload_n dX4_count_131 rfl) <| blk_c (t_iald rfl dX4_count_132) <| blk_c (s_iconst dX4_count_133 (by decide +kernel)) <| blk_nil
theorem bX4_count_137 : Blk TP mX4_count 137 142 [oC (nI 0), .inl (fun s => some s)] := blk_c (s_iconst dX4_count_137 (by decide +kernel)) <| blk_c (s_goto (tgt := 142) dX4_count_138 (by decide)) <| blk_nil
theorem bX4_count_141 : Blk TP mX4_count 141 142 [oC (nI 1)] := blk_c (s_iconst dX4_count_141 (by decide +kernel)) <| blk_nil
theorem bX4_count_142 : Blk TP mX4_count 142 121 [oAdd, oIS 2, oInc 3 1, .inl (fun s => some s)] := blk_c (s_iadd dX4_count_142) <| blk_c (s_istore_n dX4_count_143 rfl (by decide)) <| blk_c (s_iinc dX4_count_144 (by decide +kernel) (by decide)) <| blk_c (s_goto (tgt := 121) dX4_count_147 (by decide)) <| blk_nil
theorem bX4_count_150 : Blk TP mX4_count 150 151 [oIL 2] := blk_c (s_iload_n dX4_count_150 rfl) <| blk_nil
theorem bX4_count_152 : Blk TP mX4_count 152 153 [oC (-1)] := blk_c (s_iconst dX4_count_152 (by decide +kernel)) <| blk_nil
theorem ok_count : RC_I mX4_count (fun _ _ _ => True) (fun what A B => Qq (q_count A what) A B) := by
  intro X what o ad A B _
  refine R_start (L := [some (.ref o), some (.int what), none, none]) 2 rfl ?_
  refine bX4_count_0.go rfl trivial ?_
  by_cases e0 : what = nI 0
  · subst e0
    refine j_tableIn (off := 53) (tgt := 56) dX4_count_3 (by decide +kernel) (by decide +kernel) (by decide +kernel) (by decide) ?_
    refine bX4_count_56.go rfl (by simp (disch := omega) only [vpI]; exact ⟨trivial, ⟨trivial, by omega⟩, trivial⟩) ?_
    simp (disch := omega) only [nI_clamp]
    exact r_iret dX4_count_62 rfl ⟨ans (by rw [q_count, if_pos rfl]), Keeps2.rf⟩
  by_cases e1 : what = nI 1
  · subst e1
    refine j_tableIn (off := 60) (tgt := 63) dX4_count_3 (by decide +kernel) (by decide +kernel) (by decide +kernel) (by decide) ?_
    refine bX4_count_63.go rfl (by simp (disch := omega) only [vpI]; exact ⟨trivial, ⟨trivial, by omega⟩, trivial⟩) ?_
    simp (disch := omega) only [nI_clamp]
    exact r_iret dX4_count_69 rfl ⟨ans (by rw [q_count, if_neg e0, if_pos rfl]), Keeps2.rf⟩
  by_cases e2 : what = nI 2
  · subst e2
    refine j_tableIn (off := 67) (tgt := 70) dX4_count_3 (by decide +kernel) (by decide +kernel) (by decide +kernel) (by decide) ?_
    refine bX4_count_70.go rfl (by simp (disch := omega) only [vpI]; exact ⟨trivial, ⟨trivial, by omega⟩, trivial⟩) ?_
    simp (disch := omega) only [nI_clamp]
    exact r_iret dX4_count_77 rfl ⟨ans (by rw [q_count, if_neg e0, if_neg e1, if_pos rfl]), Keeps2.rf⟩
  by_cases e3 : what = nI 3
  · subst e3
    refine j_tableIn (off := 75) (tgt := 78) dX4_count_3 (by decide +kernel) (by decide +kernel) (by decide +kernel) (by decide) ?_
    refine bX4_count_78.go rfl (by simp (disch := omega) only [vpI]; exact ⟨trivial, ⟨trivial, by omega⟩, trivial⟩) ?_
    simp (disch := omega) only [nI_clamp]
    exact r_iret dX4_count_84 rfl ⟨ans (by rw [q_count, if_neg e0, if_neg e1, if_neg e2, if_pos rfl]), Keeps2.rf⟩
  by_cases e4 : what = nI 4
  · subst e4
    refine j_tableIn (off := 82) (tgt := 85) dX4_count_3 (by decide +kernel) (by decide +kernel) (by decide +kernel) (by decide) ?_
    refine bX4_count_85.go rfl (by simp (disch := omega) only [vpI]; exact ⟨trivial, ⟨trivial, by omega⟩, trivial⟩) ?_
    simp (disch := omega) only [nI_clamp]
    exact r_iret dX4_count_91 rfl ⟨ans (by rw [q_count, if_neg e0, if_neg e1, if_neg e2, if_neg e3, if_pos rfl]), Keeps2.rf⟩
  by_cases e5 : what = nI 5
  · subst e5
    refine j_tableIn (off := 89) (tgt := 92) dX4_count_3 (by decide +kernel) (by decide +kernel) (by decide +kernel) (by decide) ?_
    refine bX4_count_92.go rfl (by simp (disch := omega) only [vpI]; exact ⟨trivial, ⟨trivial, by omega⟩, trivial⟩) ?_
    simp (disch := omega) only [nI_clamp]
    exact r_iret dX4_count_98 rfl ⟨ans (by rw [q_count, if_neg e0, if_neg e1, if_neg e2, if_neg e3, if_neg e4, if_pos rfl]), Keeps2.rf⟩
  by_cases e6 : what = nI 6
  · subst e6
    refine j_tableIn (off := 96) (tgt := 99) dX4_count_3 (by decide +kernel) (by decide +kernel) (by decide +kernel) (by decide) ?_
    refine bX4_count_99.go rfl (by simp (disch := omega) only [vpI]; exact ⟨trivial, ⟨trivial, by omega⟩, trivial⟩) ?_
    simp (disch := omega) only [nI_clamp]
    exact r_iret dX4_count_105 rfl ⟨ans (by rw [q_count, if_neg e0, if_neg e1, if_neg e2, if_neg e3, if_neg e4, if_neg e5, if_pos rfl]), Keeps2.rf⟩
  by_cases e7 : what = nI 7
  · subst e7
    refine j_tableIn (off := 103) (tgt := 106) dX4_count_3 (by decide +kernel) (by decide +kernel) (by decide +kernel) (by decide) ?_
    refine bX4_count_106.go rfl (by exact ⟨rfl, trivial⟩) ?_
    exact r_iret dX4_count_110 rfl ⟨ans (by rw [q_count, if_neg e0, if_neg e1, if_neg e2, if_neg e3, if_neg e4, if_neg e5, if_neg e6, if_pos rfl]), Keeps2.rf⟩
  by_cases e8 : what = nI 8
  · subst e8
    refine j_tableIn (off := 108) (tgt := 111) dX4_count_3 (by decide +kernel) (by decide +kernel) (by decide +kernel) (by decide) ?_
    refine bX4_count_111.go rfl (by simp (disch := omega) only [vpI]; exact ⟨trivial, ⟨trivial, by omega⟩, trivial⟩) ?_
    simp (disch := omega) only [nI_clamp]
    exact r_iret dX4_count_118 rfl ⟨ans (by rw [q_count, if_neg e0, if_neg e1, if_neg e2, if_neg e3, if_neg e4, if_neg e5, if_neg e6, if_neg e7, if_pos rfl]), Keeps2.rf⟩
  by_cases e9 : what = nI 9
  · subst e9
    refine j_tableIn (off := 116) (tgt := 119) dX4_count_3 (by decide +kernel) (by decide +kernel) (by decide +kernel) (by decide) ?_
    have eq : q_count A (nI 9) = slN A 4 := by rw [q_count, if_neg e0, if_neg e1, if_neg e2, if_neg e3, if_neg e4, if_neg e5, if_neg e6, if_neg e7, if_neg e8, if_pos rfl]
    simp only [eq]
    refine bX4_count_119.go rfl trivial ?_
    refine loop_down (N := 4) (I := fun _ => True) (P := fun s => JS TP X mX4_count (rmOf mX4_count.lv 0 0) _ 0 0 121 [some (.ref o), some (.int (nI 9)), some (.int (slN A s)), some (.int (nI s))] [] (o, ad, A, B)) ?_ ?_ 0 (by omega) trivial
    · intro _
      refine bX4_count_121.go rfl trivial ?_
      refine j_icmp_ge (tgt := 150) dX4_count_123 (by decide) (fun h123 => ?_) (fun h123 => ?_)
      · refine bX4_count_150.go rfl trivial ?_
        exact r_iret dX4_count_151 rfl ⟨rfl, Keeps2.rf⟩
      · simp (disch := omega) only [nI_leI] at h123; omega
    · intro s hs _ ih
      refine bX4_count_121.go rfl trivial ?_
      refine j_icmp_ge (tgt := 150) dX4_count_123 (by decide) (fun h123 => ?_) (fun h123 => ?_)
      · simp (disch := omega) only [nI_leI] at h123; omega
      · refine bX4_count_126.go rfl (by simp (disch := omega) only [vpI]; exact ⟨trivial, ⟨trivial, by omega⟩, trivial⟩) ?_
        simp (disch := omega) only [nI_clamp]
        have nx : ∀ y, y = b2 (!decide (A 37 s = -1)) → JS TP X mX4_count (rmOf mX4_count.lv 0 0) (ZR X o ad (Qq (slN A 4) A B)) 0 0 142 [some (.ref o), some (.int (nI 9)), some (.int (slN A s)), some (.int (nI s))] [.int y, .int (slN A s)] (o, ad, A, B) := by
          intro y hy
          subst hy
          refine bX4_count_142.go rfl trivial ?_
          rw [nI_1]
          exact ih trivial
        refine j_icmp_ne (tgt := 141) dX4_count_134 (by decide) (fun h134 => ?_) (fun h134 => ?_)
        · refine bX4_count_141.go rfl trivial ?_
          exact nx _ (b2_t (by rw [decide_eq_false h134]; rfl))
        · refine bX4_count_137.go rfl trivial ?_
          exact nx _ (b2_f (by rw [decide_eq_true h134]; rfl))
  refine j_tableOut (tgt := 152) dX4_count_3 (sw_out (n := 9) (by decide) (fun k hk => ?_)) (by decide) ?_
  · match k, hk with
    | 0, _ => exact e0
    | 1, _ => exact e1
    | 2, _ => exact e2
    | 3, _ => exact e3
    | 4, _ => exact e4
    | 5, _ => exact e5
    | 6, _ => exact e6
    | 7, _ => exact e7
    | 8, _ => exact e8
    | 9, _ => exact e9
  · refine bX4_count_152.go rfl trivial ?_
    exact r_iret dX4_count_153 rfl ⟨ans (by rw [q_count, if_neg e0, if_neg e1, if_neg e2, if_neg e3, if_neg e4, if_neg e5, if_neg e6, if_neg e7, if_neg e8, if_neg e9]), Keeps2.rf⟩
