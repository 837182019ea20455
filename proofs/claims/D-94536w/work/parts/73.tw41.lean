set_option maxRecDepth 100000
/-! ===== tokens as a function of the text; UnseenClockModel: advance ===== -/
/-- how far a run goes -/
def runF (f : Nat → Bool) : Nat → Nat → Nat
  | 0, a => a
  | k + 1, a => if f a = true then runF f k (a + 1) else a
def skF (f : Nat → Bool) (n a : Nat) : Nat := runF f (n - a) a
theorem skF_t {f : Nat → Bool} {n a : Nat} (h : f a = true) (ha : a < n) : skF f n a = skF f n (a + 1) := by
  unfold skF
  rw [show n - a = (n - (a + 1)) + 1 by omega, runF, if_pos h]
theorem skF_f {f : Nat → Bool} {n a : Nat} (h : f a = false) : skF f n a = a := by
  unfold skF
  cases n - a with
  | zero => rfl
  | succ k => rw [runF, h]; rfl
theorem runF_le (f : Nat → Bool) : ∀ k a, a ≤ runF f k a ∧ runF f k a ≤ a + k := by
  intro k
  induction k with
  | zero => intro a; exact ⟨Nat.le_refl _, Nat.le_refl _⟩
  | succ k ih =>
    intro a
    rw [runF]
    split
    · have := ih (a + 1); omega
    · omega
theorem skF_le (f : Nat → Bool) {n a : Nat} (h : a ≤ n) : a ≤ skF f n a ∧ skF f n a ≤ n := by
  have := runF_le f (n - a) a
  unfold skF; omega
def spcB (T : Nat → Int32) (n a : Nat) : Bool := decide (seeI T n a = nI 32) || decide (seeI T n a = nI 10)
def letB (T : Nat → Int32) (n a : Nat) : Bool := inL (seeI T n a) 97 122
def digB (T : Nat → Int32) (n a : Nat) : Bool := inL (seeI T n a) 48 57
/-- a number that is read -/
def accF (T : Nat → Int32) (n : Nat) : Nat → Nat → Int32 → Int32
  | 0, _, v => v
  | k + 1, a, v => if digB T n a = true then accF T n k (a + 1) (minI 99999 (nI 10 * v + seeI T n a - nI 48)) else v
def acV (T : Nat → Int32) (n a : Nat) (v : Int32) : Int32 := accF T n (n - a) a v
theorem acV_t {T : Nat → Int32} {n a : Nat} {v : Int32} (h : digB T n a = true) (ha : a < n) : acV T n a v = acV T n (a + 1) (minI 99999 (nI 10 * v + seeI T n a - nI 48)) := by
  unfold acV
  rw [show n - a = (n - (a + 1)) + 1 by omega, accF, if_pos h]
theorem acV_f {T : Nat → Int32} {n a : Nat} {v : Int32} (h : digB T n a = false) : acV T n a v = v := by
  unfold acV
  cases n - a with
  | zero => rfl
  | succ k => rw [accF, h]; rfl
/-- a token: where it ends, where it begins, what it is, its number -/
abbrev TS : Type := Nat × Nat × Int32 × Int32
def advS (T : Nat → Int32) (n a : Nat) : TS :=
  if seeI T n (skF (spcB T n) n a) = -1 then (skF (spcB T n) n a, skF (spcB T n) n a, nI 0, nI 0)
  else if letB T n (skF (spcB T n) n a) = true then (skF (letB T n) n (skF (spcB T n) n a), skF (spcB T n) n a, nI 1, nI 0)
  else if digB T n (skF (spcB T n) n a) = true then (skF (digB T n) n (skF (spcB T n) n a), skF (spcB T n) n a, nI 2, acV T n (skF (spcB T n) n a) (nI 0))
  else (skF (spcB T n) n a + 1, skF (spcB T n) n a, if seeI T n (skF (spcB T n) n a) = nI 59 then nI 3 else nI 4, nI 0)
theorem seeI_end {T : Nat → Int32} {n a : Nat} (h : ¬ a < n) : seeI T n a = -1 := if_neg h
theorem seeI_lt {T : Nat → Int32} {n a : Nat} (h : ¬ seeI T n a = -1) : a < n := by
  apply Classical.byContradiction
  intro h2
  exact h (seeI_end h2)
theorem spcB_lt {T : Nat → Int32} {n a : Nat} (h : spcB T n a = true) : a < n := seeI_lt (fun e => by rw [spcB, e] at h; revert h; decide +kernel)
theorem letB_lt {T : Nat → Int32} {n a : Nat} (h : letB T n a = true) : a < n := seeI_lt (fun e => by rw [letB, e] at h; revert h; decide +kernel)
theorem digB_lt {T : Nat → Int32} {n a : Nat} (h : digB T n a = true) : a < n := seeI_lt (fun e => by rw [digB, e] at h; revert h; decide +kernel)
theorem advS_le {T : Nat → Int32} {n a : Nat} (h : a ≤ n) : a ≤ (advS T n a).2.1 ∧ (advS T n a).2.1 ≤ (advS T n a).1 ∧ (advS T n a).1 ≤ n := by
  have h1 := skF_le (spcB T n) h
  have h2 := skF_le (letB T n) h1.2
  have h3 := skF_le (digB T n) h1.2
  unfold advS
  by_cases e : seeI T n (skF (spcB T n) n a) = -1
  · rw [if_pos e]; exact ⟨h1.1, Nat.le_refl _, h1.2⟩
  · rw [if_neg e]
    have := seeI_lt e
    split
    · exact ⟨h1.1, h2.1, h2.2⟩
    · split
      · exact ⟨h1.1, h3.1, h3.2⟩
      · exact ⟨h1.1, Nat.le_succ _, this⟩
def TokA (A : Nat → Nat → Int32) (ts : TS) : Prop := A 0 8 = nI ts.1 ∧ A 0 9 = nI ts.2.1 ∧ A 0 10 = ts.2.2.1 ∧ (ts.2.2.1 = nI 2 → A 0 11 = ts.2.2.2)
def Pre_advance (A : Nat → Nat → Int32) (_ : Nat → Nat → Int64) : Prop := ∃ a n, A 0 8 = nI a ∧ A 0 7 = nI n ∧ n ≤ 2400 ∧ a ≤ n
def Q_advance (A : Nat → Nat → Int32) (B : Nat → Nat → Int64) : QR := fun r A' B' => r = none ∧ B' = B ∧ (∀ f, f ≠ 0 → A' f = A f) ∧ (∀ i, i ≠ 8 → i ≠ 9 → i ≠ 10 → i ≠ 11 → A' 0 i = A 0 i) ∧ ∀ a n, A 0 8 = nI a → A 0 7 = nI n → n ≤ 2400 → a ≤ n → TokA A' (advS (A 4) n a)
theorem bX4_advance_0 : Blk TP mX4_advance 0 10 [oAL 0, oAL 0, tI 8, tC_I F_see, oC (nI 32)] := blk_c (s_aload_n dX4_advance_0 rfl) <| blk_c (s_aload_n dX4_advance_1 rfl) <| blk_c (tgX4_8 rfl dX4_advance_2) <| blk_c (tc_I ok_see gX4_see (by decide +kernel) (by decide) dX4_advance_5) <| blk_c (s_bipush dX4_advance_8 (by decide +kernel)) <| blk_nil
theorem bX4_advance_13 : Blk TP mX4_advance 13 23 [oAL 0, oAL 0, tI 8, tC_I F_see, oC (nI 10)] := blk_c (s_aload_n dX4_advance_13 rfl) <| blk_c (s_aload_n dX4_advance_14 rfl) <| blk_c (tgX4_8 rfl dX4_advance_15) <| blk_c (tc_I ok_see gX4_see (by decide +kernel) (by decide) dX4_advance_18) <| blk_c (s_bipush dX4_advance_21 (by decide +kernel)) <| blk_nil
theorem bX4_advance_26 : Blk TP mX4_advance 26 0 [oAL 0, oDupR, tI 8, oC (nI 1), oAdd, tPI 8, .inl (fun s => some s)] := blk_c (s_aload_n dX4_advance_26 rfl) <| blk_c (s_dupR dX4_advance_27) <| blk_c (tgX4_8 rfl dX4_advance_28) <| blk_c (s_iconst dX4_advance_31 (by decide +kernel)) <| blk_c (s_iadd dX4_advance_32) <| blk_c (tpX4_8 rfl dX4_advance_33) <| blk_c (s_goto (tgt := 0) dX4_advance_36 (by decide)) <| blk_nil
theorem bX4_advance_39 : Blk TP mX4_advance 39 58 [oAL 0, oAL 0, tI 8, tPI 9, oAL 0, oAL 0, tI 8, tC_I F_see, oIS 1, oIL 1, oC (-1)] := blk_c (s_aload_n dX4_advance_39 rfl) <| blk_c (s_aload_n dX4_advance_40 rfl) <| blk_c (tgX4_8 rfl dX4_advance_41) <| blk_c (tpX4_9 rfl dX4_advance_44) <| blk_c (s_aload_n dX4_advance_47 rfl) <| blk_c (s_aload_n dX4_advance_48 rfl) <| blk_c (tgX4_8 rfl dX4_advance_49) <| blk_c (tc_I ok_see gX4_see (by decide +kernel) (by decide) dX4_advance_52) <| blk_c (s_istore_n dX4_advance_55 rfl (by decide)) <| blk_c (s_iload_n dX4_advance_56 rfl) <| blk_c (s_iconst dX4_advance_57 (by decide +kernel)) <| blk_nil
theorem bX4_advance_61 : Blk TP mX4_advance 61 239 [oAL 0, oC (nI 0), tPI 10, .inl (fun s => some s)] := blk_c (s_aload_n dX4_advance_61 rfl) <| blk_c (s_iconst dX4_advance_62 (by decide +kernel)) <| blk_c (tpX4_10 rfl dX4_advance_63) <| blk_c (s_goto (tgt := 239) dX4_advance_66 (by decide)) <| blk_nil
theorem bX4_advance_69 : Blk TP mX4_advance 69 80 [oIL 1, oI2L, oCL (97), oCL (122), tS_JJJ F_in] := blk_c (s_iload_n dX4_advance_69 rfl) <| blk_c (s_i2l dX4_advance_70) <| blk_c (s_ldc2 dX4_advance_71 q1798) <| blk_c (s_ldc2 dX4_advance_74 q1799) <| blk_c (ts_JJJ ok_in gX4_in (by decide +kernel) (by decide) dX4_advance_77) <| blk_nil
theorem bX4_advance_83 : Blk TP mX4_advance 83 101 [oAL 0, oAL 0, tI 8, tC_I F_see, oI2L, oCL (97), oCL (122), tS_JJJ F_in] := blk_c (s_aload_n dX4_advance_83 rfl) <| blk_c (s_aload_n dX4_advance_84 rfl) <| blk_c (tgX4_8 rfl dX4_advance_85) <| blk_c (tc_I ok_see gX4_see (by decide +kernel) (by decide) dX4_advance_88) <| blk_c (s_i2l dX4_advance_91) <| blk_c (s_ldc2 dX4_advance_92 q1798) <| blk_c (s_ldc2 dX4_advance_95 q1799) <| blk_c (ts_JJJ ok_in gX4_in (by decide +kernel) (by decide) dX4_advance_98) <| blk_nil
theorem bX4_advance_104 : Blk TP mX4_advance 104 83 [oAL 0, oDupR, tI 8, oC (nI 1), oAdd, tPI 8, .inl (fun s => some s)] := blk_c (s_aload_n dX4_advance_104 rfl) <| blk_c (s_dupR dX4_advance_105) <| blk_c (tgX4_8 rfl dX4_advance_106) <| blk_c (s_iconst dX4_advance_109 (by decide +kernel)) <| blk_c (s_iadd dX4_advance_110) <| blk_c (tpX4_8 rfl dX4_advance_111) <| blk_c (s_goto (tgt := 83) dX4_advance_114 (by decide)) <| blk_nil
theorem bX4_advance_117 : Blk TP mX4_advance 117 239 [oAL 0, oC (nI 1), tPI 10, .inl (fun s => some s)] := blk_c (s_aload_n dX4_advance_117 rfl) <| blk_c (s_iconst dX4_advance_118 (by decide +kernel)) <| blk_c (tpX4_10 rfl dX4_advance_119) <| blk_c (s_goto (tgt := 239) dX4_advance_122 (by decide)) <| blk_nil
theorem bX4_advance_125 : Blk TP mX4_advance 125 136 [oIL 1, oI2L, oCL (48), oCL (57), tS_JJJ F_in] := blk_c (s_iload_n dX4_advance_125 rfl) <| blk_c (s_i2l dX4_advance_126) <| blk_c (s_ldc2 dX4_advance_127 q1800) <| blk_c (s_ldc2 dX4_advance_130 q1801) <| blk_c (ts_JJJ ok_in gX4_in (by decide +kernel) (by decide) dX4_advance_133) <| blk_nil
theorem bX4_advance_139 : Blk TP mX4_advance 139 144 [oAL 0, oC (nI 0), tPI 11] := blk_c (s_aload_n dX4_advance_139 rfl) <| blk_c (s_iconst dX4_advance_140 (by decide +kernel)) <| blk_c (tpX4_11 rfl dX4_advance_141) <| blk_nil
theorem bX4_advance_144 : Blk TP mX4_advance 144 162 [oAL 0, oAL 0, tI 8, tC_I F_see, oI2L, oCL (48), oCL (57), tS_JJJ F_in] := blk_c (s_aload_n dX4_advance_144 rfl) <| blk_c (s_aload_n dX4_advance_145 rfl) <| blk_c (tgX4_8 rfl dX4_advance_146) <| blk_c (tc_I ok_see gX4_see (by decide +kernel) (by decide) dX4_advance_149) <| blk_c (s_i2l dX4_advance_152) <| blk_c (s_ldc2 dX4_advance_153 q1800) <| blk_c (s_ldc2 dX4_advance_156 q1801) <| blk_c (ts_JJJ ok_in gX4_in (by decide +kernel) (by decide) dX4_advance_159) <| blk_nil
theorem bX4_advance_165 : Blk TP mX4_advance 165 144 [oAL 0, oC (99999), oC (nI 10), oAL 0, tI 11, oMul, oAL 0, oAL 0, tI 8, tC_I F_see, oAdd, oC (nI 48), oSub, tS_II F_Mmin, tPI 11, oAL 0, oDupR, tI 8, oC (nI 1), oAdd, tPI 8, .inl (fun s => some s)] := blk_c (s_aload_n dX4_advance_165 rfl) <| blk_c (s_ldc dX4_advance_166 q1802) <| blk_c (s_bipush dX4_advance_168 (by decide +kernel)) <| blk_c (s_aload_n dX4_advance_170 rfl) <| blk_c (tgX4_11 rfl dX4_advance_171) <| blk_c (s_imul dX4_advance_174) <| blk_c (s_aload_n dX4_advance_175 rfl) <| blk_c (s_aload_n dX4_advance_176 rfl) <| blk_c (tgX4_8 rfl dX4_advance_177) <| blk_c (tc_I ok_see gX4_see (by decide +kernel) (by decide) dX4_advance_180) <| blk_c (s_iadd dX4_advance_183) <| blk_c (s_bipush dX4_advance_184 (by decide +kernel)) <| blk_c (s_isub dX4_advance_186) <| blk_c (ts_II ok_Mmin gJ3_min_X4 (by decide +kernel) (by decide) dX4_advance_187) <| blk_c (tpX4_11 rfl dX4_advance_190) <| blk_c (s_aload_n dX4_advance_193 rfl) <| blk_c (s_dupR dX4_advance_194) <| blk_c (tgX4_8 rfl dX4_advance_195) <| blk_c (s_iconst dX4_advance_198 (by decide +kernel)) <| blk_c (s_iadd dX4_advance_199) <| blk_c (tpX4_8 rfl dX4_advance_200) <| blk_c (s_goto (tgt := 144) dX4_advance_203 (by decide)) <| blk_nil
theorem bX4_advance_206 : Blk TP mX4_advance 206 239 [oAL 0, oC (nI 2), tPI 10, .inl (fun s => some s)] := blk_c (s_aload_n dX4_advance_206 rfl) <| blk_c (s_iconst dX4_advance_207 (by decide +kernel)) <| blk_c (tpX4_10 rfl dX4_advance_208) <| blk_c (s_goto (tgt := 239) dX4_advance_211 (by decide)) <| blk_nil
theorem bX4_advance_214 : Blk TP mX4_advance 214 218 [oAL 0, oIL 1, oC (nI 59)] := blk_c (s_aload_n dX4_advance_214 rfl) <| blk_c (s_iload_n dX4_advance_215 rfl) <| blk_c (s_bipush dX4_advance_216 (by decide +kernel)) <| blk_nil
theorem bX4_advance_221 : Blk TP mX4_advance 221 226 [oC (nI 3), .inl (fun s => some s)] := blk_c (s_iconst dX4_advance_221 (by decide +kernel)) <| blk_c (s_goto (tgt := 226) dX4_advance_222 (by decide)) <| blk_nil
theorem bX4_advance_225 : Blk TP mX4_advance 225 226 [oC (nI 4)] := blk_c (s_iconst dX4_advance_225 (by decide +kernel)) <| blk_nil
theorem bX4_advance_226 : Blk TP mX4_advance 226 239 [tPI 10, oAL 0, oDupR, tI 8, oC (nI 1), oAdd, tPI 8] := blk_c (tpX4_10 rfl dX4_advance_226) <| blk_c (s_aload_n dX4_advance_229 rfl) <| blk_c (s_dupR dX4_advance_230) <| blk_c (tgX4_8 rfl dX4_advance_231) <| blk_c (s_iconst dX4_advance_234 (by decide +kernel)) <| blk_c (s_iadd dX4_advance_235) <| blk_c (tpX4_8 rfl dX4_advance_236) <| blk_nil
theorem ok_advance : RC_V mX4_advance Pre_advance Q_advance := by
  intro X o ad A B hpre
  obtain ⟨a0, n, h80, h7, hn, ha0⟩ := hpre
  have fin : ∀ A', (∀ f, f ≠ 0 → A' f = A f) → (∀ i, i ≠ 8 → i ≠ 9 → i ≠ 10 → i ≠ 11 → A' 0 i = A 0 i) → TokA A' (advS (A 4) n a0) → ∀ l1, JS TP X mX4_advance (rmOf mX4_advance.lv 0 0) (ZR X o ad (Q_advance A B)) 0 0 239 [some (.ref o), l1] [] (o, ad, A', B) := by
    intro A' k1 k2 k3 l1
    refine r_vret dX4_advance_239 rfl ⟨rfl, rfl, k1, k2, fun a' n' h8' h7' hn' ha' => ?_⟩
    have e1 : n' = n := (nI_eq (by omega) (by omega)).mp (h7'.symm.trans h7)
    have e2 : a' = a0 := (nI_eq (by omega) (by omega)).mp (h8'.symm.trans h80)
    rw [e1, e2]
    exact k3
  have hb := skF_le (spcB (A 4) n) ha0
  have m39 : ∀ A1, (∀ f, f ≠ 0 → A1 f = A f) → (∀ i, i ≠ 8 → A1 0 i = A 0 i) → A1 0 8 = nI (skF (spcB (A 4) n) n a0) → JS TP X mX4_advance (rmOf mX4_advance.lv 0 0) (ZR X o ad (Q_advance A B)) 0 0 39 [some (.ref o), none] [] (o, ad, A1, B) := by
    intro A1 k1 k2 k8
    have hadv : advS (A 4) n a0 = advS (A 4) n a0 := rfl
    conv at hadv => rhs; unfold advS
    generalize hbe : skF (spcB (A 4) n) n a0 = b at *
    have z7 : A1 0 7 = nI n := by rw [k2 7 (by decide)]; exact h7
    refine bX4_advance_39.go rfl (by exact ⟨rfl, rfl, rfl, ⟨rfl, b, n, by rw [upA_at, if_neg (by decide)]; exact k8, by omega, by rw [upA_at, if_neg (by decide)]; exact z7, hn⟩, trivial⟩) ?_
    generalize hA2 : upA A1 0 9 (A1 0 8) = A2
    have j1 : ∀ f, f ≠ 0 → A2 f = A f := fun f hf => by rw [← hA2, upA_ne hf]; exact k1 f hf
    have j2 : ∀ i, i ≠ 8 → i ≠ 9 → A2 0 i = A 0 i := fun i a b => by rw [← hA2, upA_at, if_neg b]; exact k2 i a
    have j8 : A2 0 8 = nI b := by rw [← hA2, upA_at, if_neg (by decide)]; exact k8
    have j9 : A2 0 9 = nI b := by rw [← hA2, upA_at, if_pos rfl]; exact k8
    have j7 : A2 0 7 = nI n := by rw [j2 7 (by decide) (by decide)]; exact h7
    simp (disch := omega) only [j1 4 (by decide), j7, j8, nI_clamp]
    refine j_icmp_ne (tgt := 69) dX4_advance_58 (by decide) (fun h58 => ?_) (fun h58 => ?_)
    · rw [if_neg h58] at hadv
      have hlt := seeI_lt h58
      refine bX4_advance_69.go rfl (by exact ⟨trivial, trivial⟩) ?_
      simp only [inL_def]
      refine j_if_eq (tgt := 125) dX4_advance_80 (by decide) (fun h80 => ?_) (fun h80 => ?_)
      · rw [b2_0] at h80
        rw [if_neg (by rw [letB, h80]; decide)] at hadv
        refine bX4_advance_125.go rfl (by exact ⟨trivial, trivial⟩) ?_
        simp only [inL_def]
        refine j_if_eq (tgt := 214) dX4_advance_136 (by decide) (fun h136 => ?_) (fun h136 => ?_)
        · rw [b2_0] at h136
          rw [if_neg (by rw [digB, h136]; decide)] at hadv
          have j226 : ∀ z, z = (if seeI (A 4) n b = nI 59 then nI 3 else nI 4) → JS TP X mX4_advance (rmOf mX4_advance.lv 0 0) (ZR X o ad (Q_advance A B)) 0 0 226 [some (.ref o), some (.int (seeI (A 4) n b))] [.int z, .ref o] (o, ad, A2, B) := by
            intro z hz
            refine bX4_advance_226.go rfl (by exact ⟨rfl, rfl, rfl, trivial⟩) ?_
            refine fin _ (fun f hf => by rw [upA_ne hf, upA_ne hf]; exact j1 f hf) (fun i a b c d => by rw [upA_at, if_neg a, upA_at, if_neg c]; exact j2 i a b) ?_ _
            rw [hadv]
            refine ⟨?_, ?_, ?_, fun h => ?_⟩
            · rw [upA_at, if_pos rfl, upA_at, if_neg (by decide), j8, nI_add]
            · rw [upA_at, if_neg (by decide), upA_at, if_neg (by decide)]; exact j9
            · rw [upA_at, if_neg (by decide), upA_at, if_pos rfl]; exact hz
            · exfalso; revert h; show ¬ (if seeI (A 4) n b = nI 59 then nI 3 else nI 4) = nI 2; split <;> decide +kernel
          refine bX4_advance_214.go rfl trivial ?_
          refine j_icmp_ne (tgt := 225) dX4_advance_218 (by decide) (fun h218 => ?_) (fun h218 => ?_)
          · refine bX4_advance_225.go rfl trivial ?_
            exact j226 _ (by rw [if_neg h218])
          · refine bX4_advance_221.go rfl trivial ?_
            exact j226 _ (by rw [if_pos h218])
        · rw [b2_n0] at h136
          rw [if_pos (show digB (A 4) n b = true from h136)] at hadv
          refine bX4_advance_139.go rfl (by exact ⟨rfl, trivial⟩) ?_
          have lp : ∀ d a, a + d = n → ∀ A3, (∀ f, f ≠ 0 → A3 f = A f) → (∀ i, i ≠ 8 → i ≠ 9 → i ≠ 11 → A3 0 i = A 0 i) → A3 0 8 = nI a → A3 0 9 = nI b → skF (digB (A 4) n) n a = skF (digB (A 4) n) n b → acV (A 4) n a (A3 0 11) = acV (A 4) n b (nI 0) → JS TP X mX4_advance (rmOf mX4_advance.lv 0 0) (ZR X o ad (Q_advance A B)) 0 0 144 [some (.ref o), some (.int (seeI (A 4) n b))] [] (o, ad, A3, B) := by
            intro d
            induction d with
            | zero =>
              intro a had A3 l1 l2 l8 l9 ls lv
              have l7 : A3 0 7 = nI n := by rw [l2 7 (by decide) (by decide) (by decide)]; exact h7
              refine bX4_advance_144.go rfl (by exact ⟨rfl, ⟨rfl, a, n, l8, by omega, l7, hn⟩, trivial, trivial⟩) ?_
              simp (disch := omega) only [l1 4 (by decide), l7, l8, nI_clamp, inL_def]
              refine j_if_eq (tgt := 206) dX4_advance_162 (by decide) (fun h162 => ?_) (fun h162 => ?_)
              · rw [b2_0] at h162
                refine bX4_advance_206.go rfl (by exact ⟨rfl, trivial⟩) ?_
                refine fin _ (fun f hf => by rw [upA_ne hf]; exact l1 f hf) (fun i a b c d => by rw [upA_at, if_neg c]; exact l2 i a b d) ?_ _
                rw [hadv, ← ls, ← lv, skF_f h162, acV_f h162]
                exact ⟨by rw [upA_at, if_neg (by decide)]; exact l8, by rw [upA_at, if_neg (by decide)]; exact l9, by rw [upA_at, if_pos rfl], fun _ => by rw [upA_at, if_neg (by decide)]⟩
              · rw [b2_n0] at h162
                have := digB_lt h162
                omega
            | succ d ih =>
              intro a had A3 l1 l2 l8 l9 ls lv
              have l7 : A3 0 7 = nI n := by rw [l2 7 (by decide) (by decide) (by decide)]; exact h7
              refine bX4_advance_144.go rfl (by exact ⟨rfl, ⟨rfl, a, n, l8, by omega, l7, hn⟩, trivial, trivial⟩) ?_
              simp (disch := omega) only [l1 4 (by decide), l7, l8, nI_clamp, inL_def]
              refine j_if_eq (tgt := 206) dX4_advance_162 (by decide) (fun h162 => ?_) (fun h162 => ?_)
              · rw [b2_0] at h162
                refine bX4_advance_206.go rfl (by exact ⟨rfl, trivial⟩) ?_
                refine fin _ (fun f hf => by rw [upA_ne hf]; exact l1 f hf) (fun i a b c d => by rw [upA_at, if_neg c]; exact l2 i a b d) ?_ _
                rw [hadv, ← ls, ← lv, skF_f h162, acV_f h162]
                exact ⟨by rw [upA_at, if_neg (by decide)]; exact l8, by rw [upA_at, if_neg (by decide)]; exact l9, by rw [upA_at, if_pos rfl], fun _ => by rw [upA_at, if_neg (by decide)]⟩
              · rw [b2_n0] at h162
                refine bX4_advance_165.go rfl (by exact ⟨rfl, rfl, ⟨rfl, a, n, l8, by omega, l7, hn⟩, trivial, rfl, rfl, rfl, trivial⟩) ?_
                simp (disch := omega) only [l1 4 (by decide), l7, l8, nI_clamp]
                refine ih (a + 1) (by omega) _ (fun f hf => by rw [upA_ne hf, upA_ne hf]; exact l1 f hf) (fun i a b c => by rw [upA_at, if_neg a, upA_at, if_neg c]; exact l2 i a b c) ?_ ?_ ?_ ?_
                · rw [upA_at, if_pos rfl, upA_at, if_neg (by decide), l8, nI_add]
                · rw [upA_at, if_neg (by decide), upA_at, if_neg (by decide)]; exact l9
                · rw [← skF_t h162 (by omega)]; exact ls
                · rw [upA_at, if_neg (by decide), upA_at, if_pos rfl, ← acV_t h162 (by omega)]; exact lv
          refine lp (n - b) b (by omega) _ (fun f hf => by rw [upA_ne hf]; exact j1 f hf) (fun i a b c => by rw [upA_at, if_neg c]; exact j2 i a b) ?_ ?_ rfl ?_
          · rw [upA_at, if_neg (by decide)]; exact j8
          · rw [upA_at, if_neg (by decide)]; exact j9
          · rw [upA_at, if_pos rfl]
      · rw [b2_n0] at h80
        rw [if_pos (show letB (A 4) n b = true from h80)] at hadv
        have lp : ∀ d a, a + d = n → ∀ A3, (∀ f, f ≠ 0 → A3 f = A f) → (∀ i, i ≠ 8 → i ≠ 9 → A3 0 i = A 0 i) → A3 0 8 = nI a → A3 0 9 = nI b → skF (letB (A 4) n) n a = skF (letB (A 4) n) n b → JS TP X mX4_advance (rmOf mX4_advance.lv 0 0) (ZR X o ad (Q_advance A B)) 0 0 83 [some (.ref o), some (.int (seeI (A 4) n b))] [] (o, ad, A3, B) := by
          intro d
          induction d with
          | zero =>
            intro a had A3 l1 l2 l8 l9 ls
            have l7 : A3 0 7 = nI n := by rw [l2 7 (by decide) (by decide)]; exact h7
            refine bX4_advance_83.go rfl (by exact ⟨rfl, ⟨rfl, a, n, l8, by omega, l7, hn⟩, trivial, trivial⟩) ?_
            simp (disch := omega) only [l1 4 (by decide), l7, l8, nI_clamp, inL_def]
            refine j_if_eq (tgt := 117) dX4_advance_101 (by decide) (fun h101 => ?_) (fun h101 => ?_)
            · rw [b2_0] at h101
              refine bX4_advance_117.go rfl (by exact ⟨rfl, trivial⟩) ?_
              refine fin _ (fun f hf => by rw [upA_ne hf]; exact l1 f hf) (fun i a b c d => by rw [upA_at, if_neg c]; exact l2 i a b) ?_ _
              rw [hadv, ← ls, skF_f h101]
              exact ⟨by rw [upA_at, if_neg (by decide)]; exact l8, by rw [upA_at, if_neg (by decide)]; exact l9, by rw [upA_at, if_pos rfl], fun h => absurd (show nI 1 = nI 2 from h) (by decide +kernel)⟩
            · rw [b2_n0] at h101
              have := letB_lt h101
              omega
          | succ d ih =>
            intro a had A3 l1 l2 l8 l9 ls
            have l7 : A3 0 7 = nI n := by rw [l2 7 (by decide) (by decide)]; exact h7
            refine bX4_advance_83.go rfl (by exact ⟨rfl, ⟨rfl, a, n, l8, by omega, l7, hn⟩, trivial, trivial⟩) ?_
            simp (disch := omega) only [l1 4 (by decide), l7, l8, nI_clamp, inL_def]
            refine j_if_eq (tgt := 117) dX4_advance_101 (by decide) (fun h101 => ?_) (fun h101 => ?_)
            · rw [b2_0] at h101
              refine bX4_advance_117.go rfl (by exact ⟨rfl, trivial⟩) ?_
              refine fin _ (fun f hf => by rw [upA_ne hf]; exact l1 f hf) (fun i a b c d => by rw [upA_at, if_neg c]; exact l2 i a b) ?_ _
              rw [hadv, ← ls, skF_f h101]
              exact ⟨by rw [upA_at, if_neg (by decide)]; exact l8, by rw [upA_at, if_neg (by decide)]; exact l9, by rw [upA_at, if_pos rfl], fun h => absurd (show nI 1 = nI 2 from h) (by decide +kernel)⟩
            · rw [b2_n0] at h101
              refine bX4_advance_104.go rfl (by exact ⟨rfl, rfl, trivial⟩) ?_
              refine ih (a + 1) (by omega) _ (fun f hf => by rw [upA_ne hf]; exact l1 f hf) (fun i a b => by rw [upA_at, if_neg a]; exact l2 i a b) ?_ ?_ ?_
              · rw [upA_at, if_pos rfl, l8, nI_add]
              · rw [upA_at, if_neg (by decide)]; exact l9
              · rw [← skF_t h101 (by omega)]; exact ls
        exact lp (n - b) b (by omega) A2 j1 j2 j8 j9 rfl
    · rw [if_pos h58] at hadv
      refine bX4_advance_61.go rfl (by exact ⟨rfl, trivial⟩) ?_
      refine fin _ (fun f hf => by rw [upA_ne hf]; exact j1 f hf) (fun i a b c d => by rw [upA_at, if_neg c]; exact j2 i a b) ?_ _
      rw [hadv]
      exact ⟨by rw [upA_at, if_neg (by decide)]; exact j8, by rw [upA_at, if_neg (by decide)]; exact j9, by rw [upA_at, if_pos rfl], fun h => absurd (show nI 0 = nI 2 from h) (by decide +kernel)⟩
  refine R_start (L := [some (.ref o), none]) 1 rfl ?_
  have lp : ∀ d a, a + d = n → ∀ A1, (∀ f, f ≠ 0 → A1 f = A f) → (∀ i, i ≠ 8 → A1 0 i = A 0 i) → A1 0 8 = nI a → skF (spcB (A 4) n) n a = skF (spcB (A 4) n) n a0 → JS TP X mX4_advance (rmOf mX4_advance.lv 0 0) (ZR X o ad (Q_advance A B)) 0 0 0 [some (.ref o), none] [] (o, ad, A1, B) := by
    intro d
    induction d with
    | zero =>
      intro a had A1 l1 l2 l8 ls
      have l7 : A1 0 7 = nI n := by rw [l2 7 (by decide)]; exact h7
      refine bX4_advance_0.go rfl (by exact ⟨rfl, ⟨rfl, a, n, l8, by omega, l7, hn⟩, trivial⟩) ?_
      simp (disch := omega) only [l1 4 (by decide), l7, l8, nI_clamp]
      have e : seeI (A 4) n a = -1 := seeI_end (by omega)
      refine j_icmp_eq (tgt := 26) dX4_advance_10 (by decide) (fun h10 => ?_) (fun h10 => ?_)
      · rw [e] at h10; exact absurd h10 (by decide +kernel)
      · refine bX4_advance_13.go rfl (by exact ⟨rfl, ⟨rfl, a, n, l8, by omega, l7, hn⟩, trivial⟩) ?_
        simp (disch := omega) only [l1 4 (by decide), l7, l8, nI_clamp]
        refine j_icmp_ne (tgt := 39) dX4_advance_23 (by decide) (fun h23 => ?_) (fun h23 => ?_)
        · refine m39 A1 l1 l2 ?_
          rw [← ls, skF_f (by simp [spcB, h10, h23])]; exact l8
        · rw [e] at h23; exact absurd h23 (by decide +kernel)
    | succ d ih =>
      intro a had A1 l1 l2 l8 ls
      have l7 : A1 0 7 = nI n := by rw [l2 7 (by decide)]; exact h7
      have nx : spcB (A 4) n a = true → JS TP X mX4_advance (rmOf mX4_advance.lv 0 0) (ZR X o ad (Q_advance A B)) 0 0 26 [some (.ref o), none] [] (o, ad, A1, B) := by
        intro hs
        refine bX4_advance_26.go rfl (by exact ⟨rfl, rfl, trivial⟩) ?_
        refine ih (a + 1) (by omega) _ (fun f hf => by rw [upA_ne hf]; exact l1 f hf) (fun i a => by rw [upA_at, if_neg a]; exact l2 i a) ?_ ?_
        · rw [upA_at, if_pos rfl, l8, nI_add]
        · rw [← skF_t hs (by omega)]; exact ls
      refine bX4_advance_0.go rfl (by exact ⟨rfl, ⟨rfl, a, n, l8, by omega, l7, hn⟩, trivial⟩) ?_
      simp (disch := omega) only [l1 4 (by decide), l7, l8, nI_clamp]
      refine j_icmp_eq (tgt := 26) dX4_advance_10 (by decide) (fun h10 => ?_) (fun h10 => ?_)
      · exact nx (by simp [spcB, h10])
      · refine bX4_advance_13.go rfl (by exact ⟨rfl, ⟨rfl, a, n, l8, by omega, l7, hn⟩, trivial⟩) ?_
        simp (disch := omega) only [l1 4 (by decide), l7, l8, nI_clamp]
        refine j_icmp_ne (tgt := 39) dX4_advance_23 (by decide) (fun h23 => ?_) (fun h23 => ?_)
        · refine m39 A1 l1 l2 ?_
          rw [← ls, skF_f (by simp [spcB, h10, h23])]; exact l8
        · exact nx (by simp [spcB, h23])
  exact lp (n - a0) a0 (by omega) A (fun _ _ => rfl) (fun _ _ => rfl) h80 rfl
theorem bX4_errs_0 : Blk TP mX4_errs 0 4 [oAL 0, tC_V F_good] := blk_c (s_aload_n dX4_errs_0 rfl) <| blk_c (tc_V ok_good gX4_good (by decide +kernel) (by decide) dX4_errs_1) <| blk_nil
theorem bX4_errs_8 : Blk TP mX4_errs 8 21 [oAL 0, oIL 1, tPI 12, oAL 0, oAL 0, tI 9, tPI 13] := blk_c (s_aload_n dX4_errs_8 rfl) <| blk_c (s_iload_n dX4_errs_9 rfl) <| blk_c (tpX4_12 rfl dX4_errs_10) <| blk_c (s_aload_n dX4_errs_13 rfl) <| blk_c (s_aload_n dX4_errs_14 rfl) <| blk_c (tgX4_9 rfl dX4_errs_15) <| blk_c (tpX4_13 rfl dX4_errs_18) <| blk_nil
/-- a fault that is told, if there is none yet -/
def erA (A : Nat → Nat → Int32) (k : Int32) : Nat → Nat → Int32 := if A 0 12 = 0 then upA (upA A 0 12 k) 0 13 (A 0 9) else A
theorem ok_errs : RC_I mX4_errs (fun _ _ _ => True) (fun k A B => fun r A' B' => r = none ∧ B' = B ∧ A' = erA A k) := by
  intro X k o ad A B _
  refine R_start (L := [some (.ref o), some (.int k)]) 0 rfl ?_
  refine bX4_errs_0.go rfl (by exact ⟨⟨rfl, trivial⟩, trivial⟩) ?_
  refine j_if_ne (tgt := 8) dX4_errs_4 (by decide) (fun h4 => ?_) (fun h4 => ?_)
  · rw [b2_n0] at h4
    refine bX4_errs_8.go rfl (by exact ⟨rfl, rfl, rfl, trivial⟩) ?_
    refine r_vret dX4_errs_21 rfl ⟨rfl, rfl, ?_⟩
    rw [erA, if_pos (of_decide_eq_true h4), upA_at, if_neg (by decide)]
  · rw [b2_0] at h4
    refine r_vret dX4_errs_7 rfl ⟨rfl, rfl, ?_⟩
    rw [erA, if_neg (of_decide_eq_false h4)]
