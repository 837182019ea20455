set_option maxRecDepth 100000
/-! ===== the words that are read; String.length, charAt; what is known all through ===== -/
/-- the words, by number -/
def wdS : List (List Int32) := [[115, 113, 117, 97, 114, 101], [119, 105, 100, 101], [108, 111, 110, 103], [109, 105, 110, 117, 116, 101, 115], [97, 116], [112, 97, 99, 101], [111, 118, 101, 114], [115, 104, 111, 119, 115], [102, 114, 111, 109], [110, 111, 114, 116, 104], [101, 97, 115, 116], [115, 111, 117, 116, 104], [119, 101, 115, 116], [97, 108, 119, 97, 121, 115], [101, 97, 99, 104], [97, 102, 116, 101, 114], [115, 101, 101, 105, 110, 103], [105, 115], [119, 105, 116, 104], [117, 110, 108, 101, 115, 115], [109, 97, 121, 98, 101], [119, 97, 108, 108], [99, 108, 111, 99, 107], [112, 101, 114, 115, 111, 110], [103, 111], [119, 97, 105, 116], [108, 111, 111, 107]]
def wdL (i : Nat) : Nat := (wdS.getD i []).length
def wdC (i k : Nat) : Int32 := (wdS.getD i []).getD k 0
/-- where they stand in the class files -/
def strL : List (String × Nat × String × Nat) := [("UnseenClock$Reader", 89, "square", 0), ("UnseenClock$Reader", 91, "wide", 1), ("UnseenClock$Reader", 98, "long", 2), ("UnseenClock$Reader", 102, "minutes", 3), ("UnseenClock$Reader", 116, "at", 4), ("UnseenClock$Reader", 134, "pace", 5), ("UnseenClock$Reader", 136, "over", 6), ("UnseenClock$Reader", 138, "shows", 7), ("UnseenClock$Reader", 142, "from", 8), ("UnseenClock$Reader", 182, "north", 9), ("UnseenClock$Reader", 184, "east", 10), ("UnseenClock$Reader", 186, "south", 11), ("UnseenClock$Reader", 188, "west", 12), ("UnseenClock$Reader", 197, "always", 13), ("UnseenClock$Reader", 204, "each", 14), ("UnseenClock$Reader", 208, "after", 15), ("UnseenClock$Reader", 211, "seeing", 16), ("UnseenClock$Reader", 215, "is", 17), ("UnseenClock$Reader", 217, "with", 18), ("UnseenClock$Reader", 222, "unless", 19), ("UnseenClock$Reader", 229, "maybe", 20), ("UnseenClock$Reader", 232, "wall", 21), ("UnseenClock$Reader", 235, "clock", 22), ("UnseenClock$Reader", 239, "person", 23), ("UnseenClock$Reader", 243, "go", 24), ("UnseenClock$Reader", 248, "wait", 25), ("UnseenClock$Reader", 250, "look", 26), ("UnseenClockModel", 188, "at", 4), ("UnseenClockModel", 196, "pace", 5), ("UnseenClockModel", 202, "over", 6), ("UnseenClockModel", 204, "shows", 7), ("UnseenClockModel", 206, "from", 8), ("UnseenClockModel", 210, "north", 9), ("UnseenClockModel", 212, "east", 10), ("UnseenClockModel", 214, "south", 11), ("UnseenClockModel", 216, "west", 12), ("UnseenClockModel", 221, "always", 13), ("UnseenClockModel", 223, "each", 14), ("UnseenClockModel", 225, "after", 15), ("UnseenClockModel", 227, "seeing", 16), ("UnseenClockModel", 228, "is", 17), ("UnseenClockModel", 229, "with", 18), ("UnseenClockModel", 231, "unless", 19), ("UnseenClockModel", 233, "maybe", 20), ("UnseenClockModel", 235, "go", 24), ("UnseenClockModel", 237, "wait", 25), ("UnseenClockModel", 239, "look", 26), ("UnseenClockModel", 241, "wall", 21), ("UnseenClockModel", 243, "clock", 22), ("UnseenClockModel", 245, "person", 23), ("UnseenClockModel", 260, "square", 0), ("UnseenClockModel", 262, "wide", 1), ("UnseenClockModel", 264, "long", 2), ("UnseenClockModel", 266, "minutes", 3)]
/-- the words' objects are there, all through -/
def StrOK (X : Cx) (aK aV : Nat → Nat) : Prop := ∀ U, X.G U → (∀ i, i < 27 → va_O "java/lang/String" (aK i) X.A U U.heap ∧ va_OF "java/lang/String" "coder" "B" (.int 0) (aK i) X.A U U.heap ∧ va_OF "java/lang/String" "value" "[B" (.ref (aV i)) (aK i) X.A U U.heap ∧ va_T .byte (aV i) (wdL i) (fun j => .int (wdC i j)) X.A U U.heap) ∧ va_Z "java/lang/String" "COMPACT_STRINGS" "Z" (.int 1) X.A U U.heap ∧ va_Zq "jdk/internal/util/Preconditions" "SIOOBE_FORMATTER" "Ljava/util/function/BiFunction;" X.A U U.heap ∧ ∀ e ∈ strL, vk_R e.1 e.2.1 e.2.2.1 (aK e.2.2.2) U
/-- the picture that is the abstract heap itself -/
abbrev PE : Cx → AH → AH → Prop := fun _ x h => h = x
theorem E_start {X : Cx} {M : MD} {mc ms : Nat} {av : List Value} {h : AH} {Q : Outcome → AH → Prop} {L : List (Option Value)} (pad : Nat) (hL : L = entL av ++ List.replicate pad none) (k : JS PE X M (rmOf M.lv mc ms) (ZQ X mc ms Q) 0 0 0 L [] h) (hy : plainFor M.y = true := by first | exact plainFor_of_name (by decide) | decide +kernel) (hE : M.eh = noEH := by rfl) (hn : (lg_sl av).length ≤ M.nL := by exact Nat.le_of_ble_eq_true rfl) : Cg X M mc ms av h Q := Cg.of hy hE pad hL hn (k h rfl)
/-- it returns r, the heap is as it was -/
abbrev PR (r : Option Value) (h : AH) : Outcome → AH → Prop := fun o h' => o = .returned r ∧ h' = h
section Str86
variable {σ : Type} {Pic : Cx → σ → AH → Prop} {X : Cx} {M M' : MD} {R : Room} {Z : ZT} {k n pc idx : Nat} {L : List (Option Value)} {st As : List Value} {x : σ} {aK aV : Nat → Nat} {i : Nat}
theorem js_gets {C nm d : String} {v : Value} (hZ : ∀ U, X.G U → va_Z C nm d v X.A U U.heap) (hl : Cond.fieldLink M.y.cls idx C nm d ∈ lw_all) (hd : decode M.cc pc = .ok (.getstatic idx, 3)) (kk : JS Pic X M R Z k n (pc + 3) L (v :: st) x) : JS Pic X M R Z k n pc L st x :=
  fun h hp p e s m args below meth c B rk H locs ls hW hS hL => va_gets B.1 B.2.1 (hZ s B.2.2.2.2.2.2.2.1.2.1) hS B.2.2.2.2.2.1 (B.2.2.2.2.2.2.1 _ hl) (fun _ q => q) hd (kk h hp p e s m args below meth c B rk H locs ls hW hS hL)
theorem js_getsQ {C nm d : String} (hZ : ∀ U, X.G U → va_Zq C nm d X.A U U.heap) (hl : Cond.fieldLink M.y.cls idx C nm d ∈ lw_all) (hd : decode M.cc pc = .ok (.getstatic idx, 3)) (k1 : JS Pic X M R Z k n (pc + 3) L (.null :: st) x) (k2 : ∀ t, JS Pic X M R Z k n (pc + 3) L (.ref t :: st) x) : JS Pic X M R Z k n pc L st x := by
  intro h hp p e s m args below meth c B rk H locs ls hW hS hL
  rcases hZ s B.2.2.2.2.2.2.2.1.2.1 with hz | ⟨t, hz⟩
  · exact va_gets B.1 B.2.1 hz hS B.2.2.2.2.2.1 (B.2.2.2.2.2.2.1 _ hl) (fun _ q => q) hd (k1 h hp p e s m args below meth c B rk H locs ls hW hS hL)
  · exact va_gets B.1 B.2.1 hz hS B.2.2.2.2.2.1 (B.2.2.2.2.2.2.1 _ hl) (fun _ q => q) hd (k2 t h hp p e s m args below meth c B rk H locs ls hW hS hL)
/-- a field of an old object that nobody writes -/
theorem js_getO {o nm d : String} {v : Value} {a : Nat} (hO : ∀ U, X.G U → va_OF o nm d v a X.A U U.heap) (hl : Cond.fieldLink M.y.cls idx o nm d ∈ lw_all) (hd : decode M.cc pc = .ok (.getfield idx, 3)) (kk : JS Pic X M R Z k n (pc + 3) L (v :: st) x) : JS Pic X M R Z k n pc L (.ref a :: st) x :=
  fun h hp p e s m args below meth c B rk H locs ls hW hS hL => vk_getf B.1 B.2.1 (hO s B.2.2.2.2.2.2.2.1.2.1) hS B.2.2.2.2.2.1 (B.2.2.2.2.2.2.1 _ hl) (fun _ q => q) hd (kk h hp p e s m args below meth c B rk H locs ls hW hS hL)
theorem js_tlen {ty : FieldType} {t N : Nat} {f : Nat → Value} (hT : ∀ U, X.G U → va_T ty t N f X.A U U.heap) (hd : decode M.cc pc = .ok (.arraylength, 1)) (kk : JS Pic X M R Z k n (pc + 1) L (.int (nI N) :: st) x) : JS Pic X M R Z k n pc L (.ref t :: st) x :=
  fun h hp p e s m args below meth c B rk H locs ls hW hS hL => va_tlen B.1 B.2.1 (hT s B.2.2.2.2.2.2.2.1.2.1) hS rfl hd (kk h hp p e s m args below meth c B rk H locs ls hW hS hL)
theorem js_tb {t N : Nat} {f : Nat → Value} {j : Int32} {v : Value} (hT : ∀ U, X.G U → va_T .byte t N f X.A U U.heap) (hi : vp_in j N) (hv : f j.toNatClampNeg = v) (hd : decode M.cc pc = .ok (.baload, 1)) (kk : JS Pic X M R Z k n (pc + 1) L (v :: st) x) : JS Pic X M R Z k n pc L (.int j :: .ref t :: st) x :=
  fun h hp p e s m args below meth c B rk H locs ls hW hS hL => va_tb B.1 B.2.1 (hT s B.2.2.2.2.2.2.2.1.2.1) hS hi hv hd (kk h hp p e s m args below meth c B rk H locs ls hW hS hL)
/-- a word is loaded -/
theorem js_ldcS {tx : String} (hX : StrOK X aK aV) (hm : (M.y.cls, idx, tx, i) ∈ strL) (hd : decode M.cc pc = .ok (.ldc idx, 2)) (kk : JS Pic X M R Z k n (pc + 2) L (.ref (aK i) :: st) x) : JS Pic X M R Z k n pc L st x :=
  fun h hp p e s m args below meth c B rk H locs ls hW hS hL => va_ldcS B.1 B.2.1 B.2.2.2.2.2.1 ((hX s B.2.2.2.2.2.2.2.1.2.1).2.2.2 _ hm) hd (kk h hp p e s m args below meth c B rk H locs ls hW hS hL)
/-- calls of methods that change nothing -/
theorem js_pureS {nA : Nat} {r : Option Value} (hC : ∀ h, Cg X M' 0 0 As h (PR r h)) (hd : decode M.cc pc = .ok (.invokestatic idx, 3)) (hG : GoodIn lw_all (va_wsS M.y.cls idx M'.y (ws_ M'.y M'.cc M'.nL M'.ret))) {st0 : List Value} (h0 : st0 = As.reverse ++ st) (kk : JS Pic X M R Z k n (pc + 3) L (r.toList ++ st) x)
    (hy : M'.y.cls ≠ "java/lang/invoke/MethodHandle" ∧ M'.y.cls ≠ "java/lang/invoke/VarHandle" ∧ (parseMethodDescriptor M'.y.desc).map (fun d => d.parameters.length) = some nA := by decide +kernel) (hA : As.length = nA := by rfl) (hR : M'.lv + 1 ≤ M.lv ∧ M'.nL ≤ 421 := by decide) (hst : wt8 st = true := by rfl) : JS Pic X M R Z k n pc L st0 x := by
  subst h0
  subst hA
  intro h hp p e s m args below meth c B rk H locs ls hW hS hL
  refine J.callS (mc := 0) (ms := 0) (hC h) (fun o h' q => ⟨_, q.1⟩) hd hG hy hR ⟨rk.2.2.1, rk.2.2.2⟩ (Nat.le_of_ble_eq_true hst) (fun v h' q => ?_) p e s m args below meth c B rk H locs ls hW hS hL
  obtain ⟨q1, rfl⟩ := q
  cases q1
  exact kk h' hp
theorem js_pureVO {nA : Nat} {C : String} {b : Nat} {r : Option Value} (hC : ∀ h, Cg X M' 0 0 (.ref b :: As) h (PR r h)) (hO : ∀ U, X.G U → va_O C b X.A U U.heap) (hd : decode M.cc pc = .ok (.invokevirtual idx, 3)) (hG : GoodIn lw_all (wsV M.y.cls idx C M'.y (ws_ M'.y M'.cc M'.nL M'.ret))) {st0 : List Value} (h0 : st0 = As.reverse ++ .ref b :: st) (kk : JS Pic X M R Z k n (pc + 3) L (r.toList ++ st) x)
    (hy : M'.y.cls = C ∧ M'.y.cls ≠ "java/lang/invoke/MethodHandle" ∧ M'.y.cls ≠ "java/lang/invoke/VarHandle" ∧ (parseMethodDescriptor M'.y.desc).map (fun d => d.parameters.length) = some nA := by decide +kernel) (hA : As.length = nA := by rfl) (hR : M'.lv + 1 ≤ M.lv ∧ M'.nL ≤ 421 := by decide) (hst : wt8 st = true := by rfl) : JS Pic X M R Z k n pc L st0 x := by
  subst h0
  subst hA
  intro h hp p e s m args below meth c B rk H locs ls hW hS hL
  have hr : ∃ cell : Cell, H[b]? = some cell ∧ cell.vm.isStatics = false ∧ s.vm.findClass C = some cell.cls := by
    obtain ⟨cell, h1, h2, h3, -⟩ := (hO s B.2.2.2.2.2.2.2.1.2.1).kept hS.2.1
    exact ⟨cell, h1, h2, h3⟩
  refine J.after (va_runV (As := As) (rest := st) ⟨B.1, B.2.1, B.2.2.2.2.1, B.2.2.2.2.2.1, B.2.2.2.2.2.2.1⟩ ((hC h).met (fun o h' q => ⟨_, q.1⟩)) (cwV As.length B.2.2.2.2.2.2.1 hG rfl rfl rfl hy ⟨Nat.le_trans hR.1 rk.1, by have := rk.2.1; have := hR.1; have := hR.2; simp only [rmOf]; omega⟩) ⟨Cg.blind, hr, J.pre B.2.2.2.2.2.2.2.1 hW hS (.ref b :: As)⟩ rfl rfl hL.1 rfl (lv_room (Nat.le_of_ble_eq_true hst)) hd ⟨rk.2.2.1, rk.2.2.2⟩) B rk ⟨rk.2.2.1, rk.2.2.2⟩ hS hL (fun v h' q => ?_)
  obtain ⟨q1, rfl⟩ := q
  cases q1
  exact kk h' hp
end Str86
section Ret86
variable {X : Cx} {M : MD} {R : Room} {mc ms k n pc : Nat} {L : List (Option Value)} {h : AH} {Q : Outcome → AH → Prop}
theorem e_iret {v : Int32} (hd : decode M.cc pc = .ok (.ireturn, 1)) (hr : M.ret = some .int) (hq : Q (.returned (some (.int v))) h) (hk : k ≤ mc := by omega) (hn : n ≤ ms := by omega) : JS PE X M R (ZQ X mc ms Q) k n pc L [.int v] h := by
  rintro _ rfl; exact J.iret hd hr hk hn hq
theorem e_zret {v : Int32} {ty : FieldType} (hd : decode M.cc pc = .ok (.ireturn, 1)) (hr : M.ret = some ty) (hz : narrow ty (.int v) = .int v) (hq : Q (.returned (some (.int v))) h) (hk : k ≤ mc := by omega) (hn : n ≤ ms := by omega) : JS PE X M R (ZQ X mc ms Q) k n pc L [.int v] h := by
  rintro _ rfl; exact J.zret hd hr hz hk hn hq
theorem e_vret (hd : decode M.cc pc = .ok (.return_, 1)) (hr : M.ret = none) (hq : Q (.returned none) h) (hk : k ≤ mc := by omega) (hn : n ≤ ms := by omega) : JS PE X M R (ZQ X mc ms Q) k n pc L [] h := by
  rintro _ rfl; exact J.vret hd hr hk hn hq
end Ret86
abbrev mJ6_checkIndex : MD := (yJ6_checkIndex, cJ6_checkIndex, 3, (Option.some .int), 1, noEH)
abbrev mJ4_checkIndex : MD := (yJ4_checkIndex, cJ4_checkIndex, 2, (Option.none : Option FieldType), 2, noEH)
abbrev mJ4_coder : MD := (yJ4_coder, cJ4_coder, 1, (Option.some .byte), 1, noEH)
abbrev mJ4_isLatin1 : MD := (yJ4_isLatin1, cJ4_isLatin1, 1, (Option.some .boolean), 1, noEH)
abbrev mJ5_charAt : MD := (yJ5_charAt, cJ5_charAt, 2, (Option.some .char), 3, noEH)
abbrev mJ4_length : MD := (yJ4_length, cJ4_length, 1, (Option.some .int), 2, noEH)
abbrev mJ4_charAt : MD := (yJ4_charAt, cJ4_charAt, 2, (Option.some .char), 5, noEH)
theorem gJ6_checkIndex_J4 : GoodIn lw_all (va_wsS RJ4 1059 yJ6_checkIndex (ws_ yJ6_checkIndex cJ6_checkIndex 3 (Option.some .int))) := lw_S q699 q700 q143 q701
theorem gJ4_checkIndex_J5 : GoodIn lw_all (va_wsS RJ5 9 yJ4_checkIndex (ws_ yJ4_checkIndex cJ4_checkIndex 2 (Option.none : Option FieldType))) := lw_S q694 q695 q141 q696
theorem gJ5_charAt_J4 : GoodIn lw_all (va_wsS RJ4 495 yJ5_charAt (ws_ yJ5_charAt cJ5_charAt 2 (Option.some .char))) := lw_S q691 q692 q142 q693
theorem gJ4_coder_J4 : GoodIn lw_all (wsV RJ4 335 RJ4 yJ4_coder (ws_ yJ4_coder cJ4_coder 1 (Option.some .byte))) := lw_V q677 q678 q679 q141 q680
theorem gJ4_isLatin1_J4 : GoodIn lw_all (wsV RJ4 492 RJ4 yJ4_isLatin1 (ws_ yJ4_isLatin1 cJ4_isLatin1 1 (Option.some .boolean))) := lw_V q687 q688 q689 q141 q690
theorem gJ4_length_X4 : GoodIn lw_all (wsV RX4 157 RJ4 yJ4_length (ws_ yJ4_length cJ4_length 1 (Option.some .int))) := lw_V q1825 q674 q675 q141 q676
theorem gJ4_charAt_X4 : GoodIn lw_all (wsV RX4 163 RJ4 yJ4_charAt (ws_ yJ4_charAt cJ4_charAt 2 (Option.some .char))) := lw_V q1826 q684 q685 q141 q686
theorem gJ4_length_X5 : GoodIn lw_all (wsV RX5 61 RJ4 yJ4_length (ws_ yJ4_length cJ4_length 1 (Option.some .int))) := lw_V q673 q674 q675 q141 q676
theorem gJ4_charAt_X5 : GoodIn lw_all (wsV RX5 67 RJ4 yJ4_charAt (ws_ yJ4_charAt cJ4_charAt 2 (Option.some .char))) := lw_V q683 q684 q685 q141 q686
theorem ok_J6_checkIndex {X : Cx} {a b : Nat} (hab : a < b) (hb : b < 2 ^ 31) {v : Value} (hv : v = .null ∨ ∃ t, v = .ref t) (h : AH) : Cg X mJ6_checkIndex 0 0 [.int (nI a), .int (nI b), v] h (PR (some (.int (nI a))) h) := by
  have key : ∀ l2 : Option Value, JS PE X mJ6_checkIndex (rmOf mJ6_checkIndex.lv 0 0) (ZQ X 0 0 (PR (some (.int (nI a))) h)) 0 0 0 [some (.int (nI a)), some (.int (nI b)), l2] [] h := by
    intro l2
    refine (blk_c (s_iload_n dJ6_checkIndex_0 rfl) <| blk_nil).go rfl trivial ?_
    refine j_if_lt (tgt := 9) dJ6_checkIndex_1 (by decide) (fun h1 => absurd h1 (nI_pos (by omega))) (fun h1 => ?_)
    refine (blk_c (s_iload_n dJ6_checkIndex_4 rfl) <| blk_c (s_iload_n dJ6_checkIndex_5 rfl) <| blk_nil).go rfl trivial ?_
    refine j_icmp_lt (tgt := 16) dJ6_checkIndex_6 (by decide) (fun h6 => ?_) (fun h6 => absurd (nI_lt hab hb) h6)
    refine (blk_c (s_iload_n dJ6_checkIndex_16 rfl) <| blk_nil).go rfl trivial ?_
    exact e_iret dJ6_checkIndex_17 rfl ⟨rfl, rfl⟩
  rcases hv with rfl | ⟨t, rfl⟩
  · exact E_start (L := [some (.int (nI a)), some (.int (nI b)), some .null]) 0 rfl (key _)
  · exact E_start (L := [some (.int (nI a)), some (.int (nI b)), some (.ref t)]) 0 rfl (key _)
theorem ok_J4_checkIndex {X : Cx} {aK aV : Nat → Nat} (hX : StrOK X aK aV) {a b : Nat} (hab : a < b) (hb : b < 2 ^ 31) (h : AH) : Cg X mJ4_checkIndex 0 0 [.int (nI a), .int (nI b)] h (PR none h) := by
  refine E_start (L := [some (.int (nI a)), some (.int (nI b))]) 0 rfl ?_
  refine (blk_c (s_iload_n dJ4_checkIndex_0 rfl) <| blk_c (s_iload_n dJ4_checkIndex_1 rfl) <| blk_nil).go rfl trivial ?_
  refine js_getsQ (fun U hU => (hX U hU).2.2.1) q697 dJ4_checkIndex_2 ?_ (fun t => ?_)
  · refine js_pureS (nA := 3) (As := [.int (nI a), .int (nI b), .null]) (ok_J6_checkIndex hab hb (Or.inl rfl)) dJ4_checkIndex_5 gJ6_checkIndex_J4 rfl ?_
    refine (blk_c (s_popI dJ4_checkIndex_8) <| blk_nil).go rfl trivial ?_
    exact e_vret dJ4_checkIndex_9 rfl ⟨rfl, rfl⟩
  · refine js_pureS (nA := 3) (As := [.int (nI a), .int (nI b), .ref t]) (ok_J6_checkIndex hab hb (Or.inr ⟨t, rfl⟩)) dJ4_checkIndex_5 gJ6_checkIndex_J4 rfl ?_
    refine (blk_c (s_popI dJ4_checkIndex_8) <| blk_nil).go rfl trivial ?_
    exact e_vret dJ4_checkIndex_9 rfl ⟨rfl, rfl⟩
theorem ok_J4_coder {X : Cx} {aK aV : Nat → Nat} (hX : StrOK X aK aV) {i : Nat} (hi : i < 27) (h : AH) : Cg X mJ4_coder 0 0 [.ref (aK i)] h (PR (some (.int 0)) h) := by
  refine E_start (L := [some (.ref (aK i))]) 0 rfl ?_
  refine js_gets (fun U hU => (hX U hU).2.1) q681 dJ4_coder_0 ?_
  refine j_if_eq (tgt := 13) dJ4_coder_3 (by decide) (fun h3 => absurd h3 (by decide)) (fun h3 => ?_)
  refine (blk_c (s_aload_n dJ4_coder_6 rfl) <| blk_nil).go rfl trivial ?_
  refine js_getO (fun U hU => ((hX U hU).1 i hi).2.1) q2348 dJ4_coder_7 ?_
  refine (blk_c (s_goto (tgt := 14) dJ4_coder_10 (by decide)) <| blk_nil).go rfl trivial ?_
  exact e_zret dJ4_coder_14 rfl (by decide +kernel) ⟨rfl, rfl⟩
theorem ok_J4_isLatin1 {X : Cx} {aK aV : Nat → Nat} (hX : StrOK X aK aV) {i : Nat} (hi : i < 27) (h : AH) : Cg X mJ4_isLatin1 0 0 [.ref (aK i)] h (PR (some (.int (nI 1))) h) := by
  refine E_start (L := [some (.ref (aK i))]) 0 rfl ?_
  refine js_gets (fun U hU => (hX U hU).2.1) q681 dJ4_isLatin1_0 ?_
  refine j_if_eq (tgt := 17) dJ4_isLatin1_3 (by decide) (fun h3 => absurd h3 (by decide)) (fun h3 => ?_)
  refine (blk_c (s_aload_n dJ4_isLatin1_6 rfl) <| blk_nil).go rfl trivial ?_
  refine js_getO (fun U hU => ((hX U hU).1 i hi).2.1) q2348 dJ4_isLatin1_7 ?_
  refine j_if_ne (tgt := 17) dJ4_isLatin1_10 (by decide) (fun h10 => absurd rfl h10) (fun h10 => ?_)
  refine (blk_c (s_iconst dJ4_isLatin1_13 (v := nI 1) (by decide +kernel)) <| blk_c (s_goto (tgt := 18) dJ4_isLatin1_14 (by decide)) <| blk_nil).go rfl trivial ?_
  exact e_zret dJ4_isLatin1_18 rfl (by decide +kernel) ⟨rfl, rfl⟩
theorem wdL_lt (i : Nat) (hi : i < 27) : wdL i < 100 := by
  have : ∀ i, i < 27 → wdL i < 100 := by decide +kernel
  exact this i hi
theorem wdC_c : ∀ i, i < 27 → ∀ k, k < wdL i → ((wdC i k &&& nI 255).toUInt32 % 65536).toInt32 = wdC i k ∧ narrow .char (.int (wdC i k)) = .int (wdC i k) := by decide +kernel
theorem ok_J5_charAt {X : Cx} {aK aV : Nat → Nat} (hX : StrOK X aK aV) {i k : Nat} (hi : i < 27) (hk : k < wdL i) (h : AH) : Cg X mJ5_charAt 0 0 [.ref (aV i), .int (nI k)] h (PR (some (.int (wdC i k))) h) := by
  have hl := wdL_lt i hi
  obtain ⟨c1, c2⟩ := wdC_c i hi k hk
  refine E_start (L := [some (.ref (aV i)), some (.int (nI k))]) 0 rfl ?_
  refine (blk_c (s_iload_n dJ5_charAt_0 rfl) <| blk_c (s_aload_n dJ5_charAt_1 rfl) <| blk_nil).go rfl trivial ?_
  refine js_tlen (fun U hU => ((hX U hU).1 i hi).2.2.2) dJ5_charAt_2 ?_
  refine js_pureS (nA := 2) (As := [.int (nI k), .int (nI (wdL i))]) (ok_J4_checkIndex hX hk (by omega)) dJ5_charAt_3 gJ4_checkIndex_J5 rfl ?_
  refine (blk_c (s_aload_n dJ5_charAt_6 rfl) <| blk_c (s_iload_n dJ5_charAt_7 rfl) <| blk_nil).go rfl trivial ?_
  refine js_tb (v := .int (wdC i k)) (fun U hU => ((hX U hU).1 i hi).2.2.2) ((vpI (by omega)).mpr hk) (by rw [nI_clamp (by omega)]) dJ5_charAt_8 ?_
  refine (blk_c (s_sipush dJ5_charAt_9 (v := nI 255) (by decide +kernel)) <| blk_c (s_iand dJ5_charAt_12) <| blk_c (s_i2c dJ5_charAt_13) <| blk_nil).go rfl trivial ?_
  rw [c1]
  exact e_zret dJ5_charAt_14 rfl c2 ⟨rfl, rfl⟩
theorem ok_J4_length {X : Cx} {aK aV : Nat → Nat} (hX : StrOK X aK aV) {i : Nat} (hi : i < 27) (h : AH) : Cg X mJ4_length 0 0 [.ref (aK i)] h (PR (some (.int (nI (wdL i)))) h) := by
  refine E_start (L := [some (.ref (aK i))]) 0 rfl ?_
  refine (blk_c (s_aload_n dJ4_length_0 rfl) <| blk_nil).go rfl trivial ?_
  refine js_getO (fun U hU => ((hX U hU).1 i hi).2.2.1) q2347 dJ4_length_1 ?_
  refine js_tlen (fun U hU => ((hX U hU).1 i hi).2.2.2) dJ4_length_4 ?_
  refine (blk_c (s_aload_n dJ4_length_5 rfl) <| blk_nil).go rfl trivial ?_
  refine js_pureVO (nA := 0) (As := []) (C := RJ4) (b := aK i) (ok_J4_coder hX hi) (fun U hU => ((hX U hU).1 i hi).1) dJ4_length_6 gJ4_coder_J4 rfl ?_
  refine (blk_c (s_ishr dJ4_length_9) <| blk_nil).go rfl trivial ?_
  refine e_iret dJ4_length_10 rfl ⟨?_, rfl⟩
  have : ∀ i, i < 27 → nI (wdL i) >>> ((0 : Int32) &&& 31) = nI (wdL i) := by decide +kernel
  rw [this i hi]
theorem ok_J4_charAt {X : Cx} {aK aV : Nat → Nat} (hX : StrOK X aK aV) {i k : Nat} (hi : i < 27) (hk : k < wdL i) (h : AH) : Cg X mJ4_charAt 0 0 [.ref (aK i), .int (nI k)] h (PR (some (.int (wdC i k))) h) := by
  obtain ⟨c1, c2⟩ := wdC_c i hi k hk
  refine E_start (L := [some (.ref (aK i)), some (.int (nI k))]) 0 rfl ?_
  refine (blk_c (s_aload_n dJ4_charAt_0 rfl) <| blk_nil).go rfl trivial ?_
  refine js_pureVO (nA := 0) (As := []) (C := RJ4) (b := aK i) (ok_J4_isLatin1 hX hi) (fun U hU => ((hX U hU).1 i hi).1) dJ4_charAt_1 gJ4_isLatin1_J4 rfl ?_
  refine j_if_eq (tgt := 16) dJ4_charAt_4 (by decide) (fun h4 => absurd h4 (by decide +kernel)) (fun h4 => ?_)
  refine (blk_c (s_aload_n dJ4_charAt_7 rfl) <| blk_nil).go rfl trivial ?_
  refine js_getO (fun U hU => ((hX U hU).1 i hi).2.2.1) q2347 dJ4_charAt_8 ?_
  refine (blk_c (s_iload_n dJ4_charAt_11 rfl) <| blk_nil).go rfl trivial ?_
  refine js_pureS (nA := 2) (As := [.ref (aV i), .int (nI k)]) (ok_J5_charAt hX hi hk) dJ4_charAt_12 gJ5_charAt_J4 rfl ?_
  exact e_zret dJ4_charAt_15 rfl c2 ⟨rfl, rfl⟩
