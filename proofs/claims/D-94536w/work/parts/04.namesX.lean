/-! UnseenClock -/
set_option maxRecDepth 100000
def RX0 : String := "UnseenClock"
def TX0 : u_T := fun k => match k with
  | 0 => ("UnseenClock", "slots", "[LUnseenClock$Slot;", true)
  | 1 => ("UnseenClock", "now", "LUnseenClock$Square;", false)
  | 2 => ("UnseenClock", "paces", "[I", true)
  | 3 => ("UnseenClock", "away", "I", false)
  | 4 => ("UnseenClock", "course", "LUnseenClock$Course;", true)
  | 5 => ("UnseenClock", "all", "Ljava/util/List;", true)
  | 6 => ("UnseenClock", "many", "I", false)
  | 7 => ("UnseenClock", "images", "[LUnseenClock$Image;", true)
  | 8 => ("UnseenClock", "tape", "[B", true)
  | 9 => ("UnseenClock", "taped", "I", false)
  | 10 => ("UnseenClock", "faultKind", "I", false)
  | 11 => ("UnseenClock", "faultPlace", "I", false)
  | _ => ("UnseenClock", "isMet", "[Z", true)
def tyX0 : Nat → FieldType := fun k => match k with
  | 0 => .array (.object "UnseenClock$Slot")
  | 1 => .object "UnseenClock$Square"
  | 2 => .array .int
  | 3 => .int
  | 4 => .object "UnseenClock$Course"
  | 5 => .object "java/util/List"
  | 6 => .int
  | 7 => .array (.object "UnseenClock$Image")
  | 8 => .array .byte
  | 9 => .int
  | 10 => .int
  | 11 => .int
  | _ => .array .boolean
abbrev wsX00 : List Cond := u_ws RX0 TX0 13
set_option maxRecDepth 100000 in
theorem nmX0 : ∀ a, a < 13 → ∀ b, b < 13 → a ≠ b → (TX0 a).2.1 ≠ (TX0 b).2.1 := by decide +kernel
set_option maxRecDepth 100000 in
theorem tyX0_ok : ∀ k, k < 13 → parseFieldDescriptor (TX0 k).2.2.1 = some (tyX0 k) := by decide +kernel
abbrev cX0_row : ByteArray := prog_1_method_4_code
def yX0_row : MethodName := ⟨RX0, "row", "(III)I"⟩
def dkwX0_row_2 : List UInt8 := [16, 253, 172]
abbrev dktX0_row_2 : List UInt8 := dkwX0_row_2 ++ []
def dkwX0_row_1 : List UInt8 := [164, 0, 6, 16, 254, 172, 42, 180, 0, 13, 27, 50, 28, 29, 182, 0, 17, 153, 0, 7, 3, 167, 0, 5]
abbrev dktX0_row_1 : List UInt8 := dkwX0_row_1 ++ dktX0_row_2
def dkwX0_row_0 : List UInt8 := [27, 184, 0, 9, 153, 0, 21, 28, 133, 9, 20, 0, 3, 184, 0, 5, 153, 0, 9, 29, 16, 60]
abbrev dktX0_row_0 : List UInt8 := dkwX0_row_0 ++ dktX0_row_1
theorem dksX0_row_0 : cX0_row.data.toList.drop 0 = dktX0_row_0 := by decide +kernel
theorem dksX0_row_1 : cX0_row.data.toList.drop 22 = dktX0_row_1 := dk_seg dksX0_row_0 22 rfl rfl
theorem dksX0_row_2 : cX0_row.data.toList.drop 46 = dktX0_row_2 := dk_seg dksX0_row_1 24 rfl rfl
theorem dX0_row_0 : decode cX0_row 0 = .ok (.iload_n 1, 1) := dk_27 (dk_at dksX0_row_0 0 rfl rfl)
theorem dX0_row_1 : decode cX0_row 1 = .ok (.invokestatic 9, 3) := dk_184 0 9 (dk_at dksX0_row_0 1 rfl rfl)
theorem dX0_row_4 : decode cX0_row 4 = .ok (.ifCond .eq 21, 3) := dk_153 0 21 (dk_at dksX0_row_0 4 rfl rfl)
theorem dX0_row_7 : decode cX0_row 7 = .ok (.iload_n 2, 1) := dk_28 (dk_at dksX0_row_0 7 rfl rfl)
theorem dX0_row_8 : decode cX0_row 8 = .ok (.i2l, 1) := dk_133 (dk_at dksX0_row_0 8 rfl rfl)
theorem dX0_row_9 : decode cX0_row 9 = .ok (.lconst 0, 1) := dk_9 (dk_at dksX0_row_0 9 rfl rfl)
theorem dX0_row_10 : decode cX0_row 10 = .ok (.ldc2_w 3, 3) := dk_20 0 3 (dk_at dksX0_row_0 10 rfl rfl)
theorem dX0_row_13 : decode cX0_row 13 = .ok (.invokestatic 5, 3) := dk_184 0 5 (dk_at dksX0_row_0 13 rfl rfl)
theorem dX0_row_16 : decode cX0_row 16 = .ok (.ifCond .eq 9, 3) := dk_153 0 9 (dk_at dksX0_row_0 16 rfl rfl)
theorem dX0_row_19 : decode cX0_row 19 = .ok (.iload_n 3, 1) := dk_29 (dk_at dksX0_row_0 19 rfl rfl)
theorem dX0_row_20 : decode cX0_row 20 = .ok (.bipush 60, 2) := dk_16 60 (dk_at dksX0_row_0 20 rfl rfl)
theorem dX0_row_22 : decode cX0_row 22 = .ok (.if_icmp .le 6, 3) := dk_164 0 6 (dk_at dksX0_row_1 0 rfl rfl)
theorem dX0_row_25 : decode cX0_row 25 = .ok (.bipush (-2), 2) := dk_16 254 (dk_at dksX0_row_1 3 rfl rfl)
theorem dX0_row_27 : decode cX0_row 27 = .ok (.ireturn, 1) := dk_172 (dk_at dksX0_row_1 5 rfl rfl)
theorem dX0_row_28 : decode cX0_row 28 = .ok (.aload_n 0, 1) := dk_42 (dk_at dksX0_row_1 6 rfl rfl)
theorem dX0_row_29 : decode cX0_row 29 = .ok (.getfield 13, 3) := dk_180 0 13 (dk_at dksX0_row_1 7 rfl rfl)
theorem dX0_row_32 : decode cX0_row 32 = .ok (.iload_n 1, 1) := dk_27 (dk_at dksX0_row_1 10 rfl rfl)
theorem dX0_row_33 : decode cX0_row 33 = .ok (.aaload, 1) := dk_50 (dk_at dksX0_row_1 11 rfl rfl)
theorem dX0_row_34 : decode cX0_row 34 = .ok (.iload_n 2, 1) := dk_28 (dk_at dksX0_row_1 12 rfl rfl)
theorem dX0_row_35 : decode cX0_row 35 = .ok (.iload_n 3, 1) := dk_29 (dk_at dksX0_row_1 13 rfl rfl)
theorem dX0_row_36 : decode cX0_row 36 = .ok (.invokevirtual 17, 3) := dk_182 0 17 (dk_at dksX0_row_1 14 rfl rfl)
theorem dX0_row_39 : decode cX0_row 39 = .ok (.ifCond .eq 7, 3) := dk_153 0 7 (dk_at dksX0_row_1 17 rfl rfl)
theorem dX0_row_42 : decode cX0_row 42 = .ok (.iconst 0, 1) := dk_3 (dk_at dksX0_row_1 20 rfl rfl)
theorem dX0_row_43 : decode cX0_row 43 = .ok (.goto 5, 3) := dk_167 0 5 (dk_at dksX0_row_1 21 rfl rfl)
theorem dX0_row_46 : decode cX0_row 46 = .ok (.bipush (-3), 2) := dk_16 253 (dk_at dksX0_row_2 0 rfl rfl)
theorem dX0_row_48 : decode cX0_row 48 = .ok (.ireturn, 1) := dk_172 (dk_at dksX0_row_2 2 rfl rfl)
abbrev cX0_isSlot : ByteArray := prog_1_method_3_code
def yX0_isSlot : MethodName := ⟨RX0, "isSlot", "(I)Z"⟩
def dkwX0_isSlot_0 : List UInt8 := [26, 133, 9, 20, 0, 3, 184, 0, 5, 172]
abbrev dktX0_isSlot_0 : List UInt8 := dkwX0_isSlot_0 ++ []
theorem dksX0_isSlot_0 : cX0_isSlot.data.toList.drop 0 = dktX0_isSlot_0 := by decide +kernel
theorem dX0_isSlot_0 : decode cX0_isSlot 0 = .ok (.iload_n 0, 1) := dk_26 (dk_at dksX0_isSlot_0 0 rfl rfl)
theorem dX0_isSlot_1 : decode cX0_isSlot 1 = .ok (.i2l, 1) := dk_133 (dk_at dksX0_isSlot_0 1 rfl rfl)
theorem dX0_isSlot_2 : decode cX0_isSlot 2 = .ok (.lconst 0, 1) := dk_9 (dk_at dksX0_isSlot_0 2 rfl rfl)
theorem dX0_isSlot_3 : decode cX0_isSlot 3 = .ok (.ldc2_w 3, 3) := dk_20 0 3 (dk_at dksX0_isSlot_0 3 rfl rfl)
theorem dX0_isSlot_6 : decode cX0_isSlot 6 = .ok (.invokestatic 5, 3) := dk_184 0 5 (dk_at dksX0_isSlot_0 6 rfl rfl)
theorem dX0_isSlot_9 : decode cX0_isSlot 9 = .ok (.ireturn, 1) := dk_172 (dk_at dksX0_isSlot_0 9 rfl rfl)
abbrev cX0_in : ByteArray := prog_1_method_1_code
def yX0_in : MethodName := ⟨RX0, "in", "(JJJ)Z"⟩
def dkwX0_in_0 : List UInt8 := [30, 32, 148, 155, 0, 14, 30, 22, 4, 148, 157, 0, 7, 4, 167, 0, 4, 3, 172]
abbrev dktX0_in_0 : List UInt8 := dkwX0_in_0 ++ []
theorem dksX0_in_0 : cX0_in.data.toList.drop 0 = dktX0_in_0 := by decide +kernel
theorem dX0_in_0 : decode cX0_in 0 = .ok (.lload_n 0, 1) := dk_30 (dk_at dksX0_in_0 0 rfl rfl)
theorem dX0_in_1 : decode cX0_in 1 = .ok (.lload_n 2, 1) := dk_32 (dk_at dksX0_in_0 1 rfl rfl)
theorem dX0_in_2 : decode cX0_in 2 = .ok (.lcmp, 1) := dk_148 (dk_at dksX0_in_0 2 rfl rfl)
theorem dX0_in_3 : decode cX0_in 3 = .ok (.ifCond .lt 14, 3) := dk_155 0 14 (dk_at dksX0_in_0 3 rfl rfl)
theorem dX0_in_6 : decode cX0_in 6 = .ok (.lload_n 0, 1) := dk_30 (dk_at dksX0_in_0 6 rfl rfl)
theorem dX0_in_7 : decode cX0_in 7 = .ok (.lload 4, 2) := dk_22 4 (dk_at dksX0_in_0 7 rfl rfl)
theorem dX0_in_9 : decode cX0_in 9 = .ok (.lcmp, 1) := dk_148 (dk_at dksX0_in_0 9 rfl rfl)
theorem dX0_in_10 : decode cX0_in 10 = .ok (.ifCond .gt 7, 3) := dk_157 0 7 (dk_at dksX0_in_0 10 rfl rfl)
theorem dX0_in_13 : decode cX0_in 13 = .ok (.iconst 1, 1) := dk_4 (dk_at dksX0_in_0 13 rfl rfl)
theorem dX0_in_14 : decode cX0_in 14 = .ok (.goto 4, 3) := dk_167 0 4 (dk_at dksX0_in_0 14 rfl rfl)
theorem dX0_in_17 : decode cX0_in 17 = .ok (.iconst 0, 1) := dk_3 (dk_at dksX0_in_0 17 rfl rfl)
theorem dX0_in_18 : decode cX0_in 18 = .ok (.ireturn, 1) := dk_172 (dk_at dksX0_in_0 18 rfl rfl)
abbrev cX0_write : ByteArray := prog_1_method_5_code
def yX0_write : MethodName := ⟨RX0, "write", "(IIJ)I"⟩
def dkwX0_write_0 : List UInt8 := [27, 184, 0, 9, 153, 0, 17, 42, 180, 0, 13, 27, 50, 28, 33, 182, 0, 23, 167, 0, 5, 16, 254, 172]
abbrev dktX0_write_0 : List UInt8 := dkwX0_write_0 ++ []
theorem dksX0_write_0 : cX0_write.data.toList.drop 0 = dktX0_write_0 := by decide +kernel
theorem dX0_write_0 : decode cX0_write 0 = .ok (.iload_n 1, 1) := dk_27 (dk_at dksX0_write_0 0 rfl rfl)
theorem dX0_write_1 : decode cX0_write 1 = .ok (.invokestatic 9, 3) := dk_184 0 9 (dk_at dksX0_write_0 1 rfl rfl)
theorem dX0_write_4 : decode cX0_write 4 = .ok (.ifCond .eq 17, 3) := dk_153 0 17 (dk_at dksX0_write_0 4 rfl rfl)
theorem dX0_write_7 : decode cX0_write 7 = .ok (.aload_n 0, 1) := dk_42 (dk_at dksX0_write_0 7 rfl rfl)
theorem dX0_write_8 : decode cX0_write 8 = .ok (.getfield 13, 3) := dk_180 0 13 (dk_at dksX0_write_0 8 rfl rfl)
theorem dX0_write_11 : decode cX0_write 11 = .ok (.iload_n 1, 1) := dk_27 (dk_at dksX0_write_0 11 rfl rfl)
theorem dX0_write_12 : decode cX0_write 12 = .ok (.aaload, 1) := dk_50 (dk_at dksX0_write_0 12 rfl rfl)
theorem dX0_write_13 : decode cX0_write 13 = .ok (.iload_n 2, 1) := dk_28 (dk_at dksX0_write_0 13 rfl rfl)
theorem dX0_write_14 : decode cX0_write 14 = .ok (.lload_n 3, 1) := dk_33 (dk_at dksX0_write_0 14 rfl rfl)
theorem dX0_write_15 : decode cX0_write 15 = .ok (.invokevirtual 23, 3) := dk_182 0 23 (dk_at dksX0_write_0 15 rfl rfl)
theorem dX0_write_18 : decode cX0_write 18 = .ok (.goto 5, 3) := dk_167 0 5 (dk_at dksX0_write_0 18 rfl rfl)
theorem dX0_write_21 : decode cX0_write 21 = .ok (.bipush (-2), 2) := dk_16 254 (dk_at dksX0_write_0 21 rfl rfl)
theorem dX0_write_23 : decode cX0_write 23 = .ok (.ireturn, 1) := dk_172 (dk_at dksX0_write_0 23 rfl rfl)
abbrev cX0_paste : ByteArray := prog_1_method_6_code
def yX0_paste : MethodName := ⟨RX0, "paste", "(IIIII)I"⟩
def dkwX0_paste_1 : List UInt8 := [180, 0, 13, 29, 50, 21, 4, 21, 5, 182, 0, 27, 167, 0, 5, 16, 254, 172]
abbrev dktX0_paste_1 : List UInt8 := dkwX0_paste_1 ++ []
def dkwX0_paste_0 : List UInt8 := [27, 184, 0, 9, 153, 0, 33, 29, 184, 0, 9, 153, 0, 26, 42, 180, 0, 13, 27, 50, 28, 42]
abbrev dktX0_paste_0 : List UInt8 := dkwX0_paste_0 ++ dktX0_paste_1
theorem dksX0_paste_0 : cX0_paste.data.toList.drop 0 = dktX0_paste_0 := by decide +kernel
theorem dksX0_paste_1 : cX0_paste.data.toList.drop 22 = dktX0_paste_1 := dk_seg dksX0_paste_0 22 rfl rfl
theorem dX0_paste_0 : decode cX0_paste 0 = .ok (.iload_n 1, 1) := dk_27 (dk_at dksX0_paste_0 0 rfl rfl)
theorem dX0_paste_1 : decode cX0_paste 1 = .ok (.invokestatic 9, 3) := dk_184 0 9 (dk_at dksX0_paste_0 1 rfl rfl)
theorem dX0_paste_4 : decode cX0_paste 4 = .ok (.ifCond .eq 33, 3) := dk_153 0 33 (dk_at dksX0_paste_0 4 rfl rfl)
theorem dX0_paste_7 : decode cX0_paste 7 = .ok (.iload_n 3, 1) := dk_29 (dk_at dksX0_paste_0 7 rfl rfl)
theorem dX0_paste_8 : decode cX0_paste 8 = .ok (.invokestatic 9, 3) := dk_184 0 9 (dk_at dksX0_paste_0 8 rfl rfl)
theorem dX0_paste_11 : decode cX0_paste 11 = .ok (.ifCond .eq 26, 3) := dk_153 0 26 (dk_at dksX0_paste_0 11 rfl rfl)
theorem dX0_paste_14 : decode cX0_paste 14 = .ok (.aload_n 0, 1) := dk_42 (dk_at dksX0_paste_0 14 rfl rfl)
theorem dX0_paste_15 : decode cX0_paste 15 = .ok (.getfield 13, 3) := dk_180 0 13 (dk_at dksX0_paste_0 15 rfl rfl)
theorem dX0_paste_18 : decode cX0_paste 18 = .ok (.iload_n 1, 1) := dk_27 (dk_at dksX0_paste_0 18 rfl rfl)
theorem dX0_paste_19 : decode cX0_paste 19 = .ok (.aaload, 1) := dk_50 (dk_at dksX0_paste_0 19 rfl rfl)
theorem dX0_paste_20 : decode cX0_paste 20 = .ok (.iload_n 2, 1) := dk_28 (dk_at dksX0_paste_0 20 rfl rfl)
theorem dX0_paste_21 : decode cX0_paste 21 = .ok (.aload_n 0, 1) := dk_42 (dk_at dksX0_paste_0 21 rfl rfl)
theorem dX0_paste_22 : decode cX0_paste 22 = .ok (.getfield 13, 3) := dk_180 0 13 (dk_at dksX0_paste_1 0 rfl rfl)
theorem dX0_paste_25 : decode cX0_paste 25 = .ok (.iload_n 3, 1) := dk_29 (dk_at dksX0_paste_1 3 rfl rfl)
theorem dX0_paste_26 : decode cX0_paste 26 = .ok (.aaload, 1) := dk_50 (dk_at dksX0_paste_1 4 rfl rfl)
theorem dX0_paste_27 : decode cX0_paste 27 = .ok (.iload 4, 2) := dk_21 4 (dk_at dksX0_paste_1 5 rfl rfl)
theorem dX0_paste_29 : decode cX0_paste 29 = .ok (.iload 5, 2) := dk_21 5 (dk_at dksX0_paste_1 7 rfl rfl)
theorem dX0_paste_31 : decode cX0_paste 31 = .ok (.invokevirtual 27, 3) := dk_182 0 27 (dk_at dksX0_paste_1 9 rfl rfl)
theorem dX0_paste_34 : decode cX0_paste 34 = .ok (.goto 5, 3) := dk_167 0 5 (dk_at dksX0_paste_1 12 rfl rfl)
theorem dX0_paste_37 : decode cX0_paste 37 = .ok (.bipush (-2), 2) := dk_16 254 (dk_at dksX0_paste_1 15 rfl rfl)
theorem dX0_paste_39 : decode cX0_paste 39 = .ok (.ireturn, 1) := dk_172 (dk_at dksX0_paste_1 17 rfl rfl)
abbrev cX0_init : ByteArray := prog_1_method_7_code
def yX0_init : MethodName := ⟨RX0, "<init>", "()V"⟩
def dkwX0_init_5 : List UInt8 := [17, 0, 128, 188, 4, 181, 0, 79, 177]
abbrev dktX0_init_5 : List UInt8 := dkwX0_init_5 ++ []
def dkwX0_init_4 : List UInt8 := [6, 189, 0, 65, 181, 0, 67, 42, 17, 9, 96, 188, 8, 181, 0, 71, 42, 2, 181, 0, 75, 42]
abbrev dktX0_init_4 : List UInt8 := dkwX0_init_4 ++ dktX0_init_5
def dkwX0_init_3 : List UInt8 := [187, 0, 49, 89, 183, 0, 51, 181, 0, 52, 42, 187, 0, 56, 89, 16, 16, 183, 0, 58, 181, 0, 61, 42]
abbrev dktX0_init_3 : List UInt8 := dkwX0_init_3 ++ dktX0_init_4
def dkwX0_init_2 : List UInt8 := [83, 181, 0, 13, 42, 187, 0, 38, 89, 183, 0, 40, 181, 0, 41, 42, 7, 188, 10, 181, 0, 45, 42]
abbrev dktX0_init_2 : List UInt8 := dkwX0_init_2 ++ dktX0_init_3
def dkwX0_init_1 : List UInt8 := [89, 183, 0, 37, 83, 89, 5, 187, 0, 18, 89, 183, 0, 37, 83, 89, 6, 187, 0, 18, 89, 183, 0, 37]
abbrev dktX0_init_1 : List UInt8 := dkwX0_init_1 ++ dktX0_init_2
def dkwX0_init_0 : List UInt8 := [42, 183, 0, 31, 42, 7, 189, 0, 18, 89, 3, 187, 0, 18, 89, 183, 0, 37, 83, 89, 4, 187, 0, 18]
abbrev dktX0_init_0 : List UInt8 := dkwX0_init_0 ++ dktX0_init_1
theorem dksX0_init_0 : cX0_init.data.toList.drop 0 = dktX0_init_0 := by decide +kernel
theorem dksX0_init_1 : cX0_init.data.toList.drop 24 = dktX0_init_1 := dk_seg dksX0_init_0 24 rfl rfl
theorem dksX0_init_2 : cX0_init.data.toList.drop 48 = dktX0_init_2 := dk_seg dksX0_init_1 24 rfl rfl
theorem dksX0_init_3 : cX0_init.data.toList.drop 71 = dktX0_init_3 := dk_seg dksX0_init_2 23 rfl rfl
theorem dksX0_init_4 : cX0_init.data.toList.drop 95 = dktX0_init_4 := dk_seg dksX0_init_3 24 rfl rfl
theorem dksX0_init_5 : cX0_init.data.toList.drop 117 = dktX0_init_5 := dk_seg dksX0_init_4 22 rfl rfl
theorem dX0_init_0 : decode cX0_init 0 = .ok (.aload_n 0, 1) := dk_42 (dk_at dksX0_init_0 0 rfl rfl)
theorem dX0_init_1 : decode cX0_init 1 = .ok (.invokespecial 31, 3) := dk_183 0 31 (dk_at dksX0_init_0 1 rfl rfl)
theorem dX0_init_4 : decode cX0_init 4 = .ok (.aload_n 0, 1) := dk_42 (dk_at dksX0_init_0 4 rfl rfl)
theorem dX0_init_5 : decode cX0_init 5 = .ok (.iconst 4, 1) := dk_7 (dk_at dksX0_init_0 5 rfl rfl)
theorem dX0_init_6 : decode cX0_init 6 = .ok (.anewarray 18, 3) := dk_189 0 18 (dk_at dksX0_init_0 6 rfl rfl)
theorem dX0_init_9 : decode cX0_init 9 = .ok (.dup, 1) := dk_89 (dk_at dksX0_init_0 9 rfl rfl)
theorem dX0_init_10 : decode cX0_init 10 = .ok (.iconst 0, 1) := dk_3 (dk_at dksX0_init_0 10 rfl rfl)
theorem dX0_init_11 : decode cX0_init 11 = .ok (.new 18, 3) := dk_187 0 18 (dk_at dksX0_init_0 11 rfl rfl)
theorem dX0_init_14 : decode cX0_init 14 = .ok (.dup, 1) := dk_89 (dk_at dksX0_init_0 14 rfl rfl)
theorem dX0_init_15 : decode cX0_init 15 = .ok (.invokespecial 37, 3) := dk_183 0 37 (dk_at dksX0_init_0 15 rfl rfl)
theorem dX0_init_18 : decode cX0_init 18 = .ok (.aastore, 1) := dk_83 (dk_at dksX0_init_0 18 rfl rfl)
theorem dX0_init_19 : decode cX0_init 19 = .ok (.dup, 1) := dk_89 (dk_at dksX0_init_0 19 rfl rfl)
theorem dX0_init_20 : decode cX0_init 20 = .ok (.iconst 1, 1) := dk_4 (dk_at dksX0_init_0 20 rfl rfl)
theorem dX0_init_21 : decode cX0_init 21 = .ok (.new 18, 3) := dk_187 0 18 (dk_at dksX0_init_0 21 rfl rfl)
theorem dX0_init_24 : decode cX0_init 24 = .ok (.dup, 1) := dk_89 (dk_at dksX0_init_1 0 rfl rfl)
theorem dX0_init_25 : decode cX0_init 25 = .ok (.invokespecial 37, 3) := dk_183 0 37 (dk_at dksX0_init_1 1 rfl rfl)
theorem dX0_init_28 : decode cX0_init 28 = .ok (.aastore, 1) := dk_83 (dk_at dksX0_init_1 4 rfl rfl)
theorem dX0_init_29 : decode cX0_init 29 = .ok (.dup, 1) := dk_89 (dk_at dksX0_init_1 5 rfl rfl)
theorem dX0_init_30 : decode cX0_init 30 = .ok (.iconst 2, 1) := dk_5 (dk_at dksX0_init_1 6 rfl rfl)
theorem dX0_init_31 : decode cX0_init 31 = .ok (.new 18, 3) := dk_187 0 18 (dk_at dksX0_init_1 7 rfl rfl)
theorem dX0_init_34 : decode cX0_init 34 = .ok (.dup, 1) := dk_89 (dk_at dksX0_init_1 10 rfl rfl)
theorem dX0_init_35 : decode cX0_init 35 = .ok (.invokespecial 37, 3) := dk_183 0 37 (dk_at dksX0_init_1 11 rfl rfl)
theorem dX0_init_38 : decode cX0_init 38 = .ok (.aastore, 1) := dk_83 (dk_at dksX0_init_1 14 rfl rfl)
theorem dX0_init_39 : decode cX0_init 39 = .ok (.dup, 1) := dk_89 (dk_at dksX0_init_1 15 rfl rfl)
theorem dX0_init_40 : decode cX0_init 40 = .ok (.iconst 3, 1) := dk_6 (dk_at dksX0_init_1 16 rfl rfl)
theorem dX0_init_41 : decode cX0_init 41 = .ok (.new 18, 3) := dk_187 0 18 (dk_at dksX0_init_1 17 rfl rfl)
theorem dX0_init_44 : decode cX0_init 44 = .ok (.dup, 1) := dk_89 (dk_at dksX0_init_1 20 rfl rfl)
theorem dX0_init_45 : decode cX0_init 45 = .ok (.invokespecial 37, 3) := dk_183 0 37 (dk_at dksX0_init_1 21 rfl rfl)
theorem dX0_init_48 : decode cX0_init 48 = .ok (.aastore, 1) := dk_83 (dk_at dksX0_init_2 0 rfl rfl)
theorem dX0_init_49 : decode cX0_init 49 = .ok (.putfield 13, 3) := dk_181 0 13 (dk_at dksX0_init_2 1 rfl rfl)
theorem dX0_init_52 : decode cX0_init 52 = .ok (.aload_n 0, 1) := dk_42 (dk_at dksX0_init_2 4 rfl rfl)
theorem dX0_init_53 : decode cX0_init 53 = .ok (.new 38, 3) := dk_187 0 38 (dk_at dksX0_init_2 5 rfl rfl)
theorem dX0_init_56 : decode cX0_init 56 = .ok (.dup, 1) := dk_89 (dk_at dksX0_init_2 8 rfl rfl)
theorem dX0_init_57 : decode cX0_init 57 = .ok (.invokespecial 40, 3) := dk_183 0 40 (dk_at dksX0_init_2 9 rfl rfl)
theorem dX0_init_60 : decode cX0_init 60 = .ok (.putfield 41, 3) := dk_181 0 41 (dk_at dksX0_init_2 12 rfl rfl)
theorem dX0_init_63 : decode cX0_init 63 = .ok (.aload_n 0, 1) := dk_42 (dk_at dksX0_init_2 15 rfl rfl)
theorem dX0_init_64 : decode cX0_init 64 = .ok (.iconst 4, 1) := dk_7 (dk_at dksX0_init_2 16 rfl rfl)
theorem dX0_init_65 : decode cX0_init 65 = .ok (.newarray .int, 2) := dk_188_10 (dk_at dksX0_init_2 17 rfl rfl)
theorem dX0_init_67 : decode cX0_init 67 = .ok (.putfield 45, 3) := dk_181 0 45 (dk_at dksX0_init_2 19 rfl rfl)
theorem dX0_init_70 : decode cX0_init 70 = .ok (.aload_n 0, 1) := dk_42 (dk_at dksX0_init_2 22 rfl rfl)
theorem dX0_init_71 : decode cX0_init 71 = .ok (.new 49, 3) := dk_187 0 49 (dk_at dksX0_init_3 0 rfl rfl)
theorem dX0_init_74 : decode cX0_init 74 = .ok (.dup, 1) := dk_89 (dk_at dksX0_init_3 3 rfl rfl)
theorem dX0_init_75 : decode cX0_init 75 = .ok (.invokespecial 51, 3) := dk_183 0 51 (dk_at dksX0_init_3 4 rfl rfl)
theorem dX0_init_78 : decode cX0_init 78 = .ok (.putfield 52, 3) := dk_181 0 52 (dk_at dksX0_init_3 7 rfl rfl)
theorem dX0_init_81 : decode cX0_init 81 = .ok (.aload_n 0, 1) := dk_42 (dk_at dksX0_init_3 10 rfl rfl)
theorem dX0_init_82 : decode cX0_init 82 = .ok (.new 56, 3) := dk_187 0 56 (dk_at dksX0_init_3 11 rfl rfl)
theorem dX0_init_85 : decode cX0_init 85 = .ok (.dup, 1) := dk_89 (dk_at dksX0_init_3 14 rfl rfl)
theorem dX0_init_86 : decode cX0_init 86 = .ok (.bipush 16, 2) := dk_16 16 (dk_at dksX0_init_3 15 rfl rfl)
theorem dX0_init_88 : decode cX0_init 88 = .ok (.invokespecial 58, 3) := dk_183 0 58 (dk_at dksX0_init_3 17 rfl rfl)
theorem dX0_init_91 : decode cX0_init 91 = .ok (.putfield 61, 3) := dk_181 0 61 (dk_at dksX0_init_3 20 rfl rfl)
theorem dX0_init_94 : decode cX0_init 94 = .ok (.aload_n 0, 1) := dk_42 (dk_at dksX0_init_3 23 rfl rfl)
theorem dX0_init_95 : decode cX0_init 95 = .ok (.iconst 3, 1) := dk_6 (dk_at dksX0_init_4 0 rfl rfl)
theorem dX0_init_96 : decode cX0_init 96 = .ok (.anewarray 65, 3) := dk_189 0 65 (dk_at dksX0_init_4 1 rfl rfl)
theorem dX0_init_99 : decode cX0_init 99 = .ok (.putfield 67, 3) := dk_181 0 67 (dk_at dksX0_init_4 4 rfl rfl)
theorem dX0_init_102 : decode cX0_init 102 = .ok (.aload_n 0, 1) := dk_42 (dk_at dksX0_init_4 7 rfl rfl)
theorem dX0_init_103 : decode cX0_init 103 = .ok (.sipush 2400, 3) := dk_17 9 96 (dk_at dksX0_init_4 8 rfl rfl)
theorem dX0_init_106 : decode cX0_init 106 = .ok (.newarray .byte, 2) := dk_188_8 (dk_at dksX0_init_4 11 rfl rfl)
theorem dX0_init_108 : decode cX0_init 108 = .ok (.putfield 71, 3) := dk_181 0 71 (dk_at dksX0_init_4 13 rfl rfl)
theorem dX0_init_111 : decode cX0_init 111 = .ok (.aload_n 0, 1) := dk_42 (dk_at dksX0_init_4 16 rfl rfl)
theorem dX0_init_112 : decode cX0_init 112 = .ok (.iconst (-1), 1) := dk_2 (dk_at dksX0_init_4 17 rfl rfl)
theorem dX0_init_113 : decode cX0_init 113 = .ok (.putfield 75, 3) := dk_181 0 75 (dk_at dksX0_init_4 18 rfl rfl)
theorem dX0_init_116 : decode cX0_init 116 = .ok (.aload_n 0, 1) := dk_42 (dk_at dksX0_init_4 21 rfl rfl)
theorem dX0_init_117 : decode cX0_init 117 = .ok (.sipush 128, 3) := dk_17 0 128 (dk_at dksX0_init_5 0 rfl rfl)
theorem dX0_init_120 : decode cX0_init 120 = .ok (.newarray .boolean, 2) := dk_188_4 (dk_at dksX0_init_5 3 rfl rfl)
theorem dX0_init_122 : decode cX0_init 122 = .ok (.putfield 79, 3) := dk_181 0 79 (dk_at dksX0_init_5 5 rfl rfl)
theorem dX0_init_125 : decode cX0_init 125 = .ok (.return_, 1) := dk_177 (dk_at dksX0_init_5 8 rfl rfl)
abbrev cX0_feed : ByteArray := prog_1_method_8_code
def yX0_feed : MethodName := ⟨RX0, "feed", "(IIIII)I"⟩
def dkwX0_feed_4 : List UInt8 := [16, 20, 96, 181, 0, 83, 42, 180, 0, 83, 172]
abbrev dktX0_feed_4 : List UInt8 := dkwX0_feed_4 ++ []
def dkwX0_feed_3 : List UInt8 := [16, 24, 16, 8, 21, 7, 7, 112, 104, 100, 122, 145, 84, 132, 7, 1, 167, 255, 215, 42, 89, 180, 0, 83]
abbrev dktX0_feed_3 : List UInt8 := dkwX0_feed_3 ++ dktX0_feed_4
def dkwX0_feed_2 : List UInt8 := [16, 20, 162, 0, 40, 42, 180, 0, 71, 42, 180, 0, 83, 21, 7, 96, 25, 6, 21, 7, 7, 108, 46]
abbrev dktX0_feed_2 : List UInt8 := dkwX0_feed_2 ++ dktX0_feed_3
def dkwX0_feed_1 : List UInt8 := [28, 79, 89, 5, 29, 79, 89, 6, 21, 4, 79, 89, 7, 21, 5, 79, 58, 6, 3, 54, 7, 21, 7]
abbrev dktX0_feed_1 : List UInt8 := dkwX0_feed_1 ++ dktX0_feed_2
def dkwX0_feed_0 : List UInt8 := [42, 180, 0, 83, 16, 20, 96, 17, 9, 96, 164, 0, 5, 2, 172, 8, 188, 10, 89, 3, 27, 79, 89, 4]
abbrev dktX0_feed_0 : List UInt8 := dkwX0_feed_0 ++ dktX0_feed_1
theorem dksX0_feed_0 : cX0_feed.data.toList.drop 0 = dktX0_feed_0 := by decide +kernel
theorem dksX0_feed_1 : cX0_feed.data.toList.drop 24 = dktX0_feed_1 := dk_seg dksX0_feed_0 24 rfl rfl
theorem dksX0_feed_2 : cX0_feed.data.toList.drop 47 = dktX0_feed_2 := dk_seg dksX0_feed_1 23 rfl rfl
theorem dksX0_feed_3 : cX0_feed.data.toList.drop 70 = dktX0_feed_3 := dk_seg dksX0_feed_2 23 rfl rfl
theorem dksX0_feed_4 : cX0_feed.data.toList.drop 94 = dktX0_feed_4 := dk_seg dksX0_feed_3 24 rfl rfl
theorem dX0_feed_0 : decode cX0_feed 0 = .ok (.aload_n 0, 1) := dk_42 (dk_at dksX0_feed_0 0 rfl rfl)
theorem dX0_feed_1 : decode cX0_feed 1 = .ok (.getfield 83, 3) := dk_180 0 83 (dk_at dksX0_feed_0 1 rfl rfl)
theorem dX0_feed_4 : decode cX0_feed 4 = .ok (.bipush 20, 2) := dk_16 20 (dk_at dksX0_feed_0 4 rfl rfl)
theorem dX0_feed_6 : decode cX0_feed 6 = .ok (.iadd, 1) := dk_96 (dk_at dksX0_feed_0 6 rfl rfl)
theorem dX0_feed_7 : decode cX0_feed 7 = .ok (.sipush 2400, 3) := dk_17 9 96 (dk_at dksX0_feed_0 7 rfl rfl)
theorem dX0_feed_10 : decode cX0_feed 10 = .ok (.if_icmp .le 5, 3) := dk_164 0 5 (dk_at dksX0_feed_0 10 rfl rfl)
theorem dX0_feed_13 : decode cX0_feed 13 = .ok (.iconst (-1), 1) := dk_2 (dk_at dksX0_feed_0 13 rfl rfl)
theorem dX0_feed_14 : decode cX0_feed 14 = .ok (.ireturn, 1) := dk_172 (dk_at dksX0_feed_0 14 rfl rfl)
theorem dX0_feed_15 : decode cX0_feed 15 = .ok (.iconst 5, 1) := dk_8 (dk_at dksX0_feed_0 15 rfl rfl)
theorem dX0_feed_16 : decode cX0_feed 16 = .ok (.newarray .int, 2) := dk_188_10 (dk_at dksX0_feed_0 16 rfl rfl)
theorem dX0_feed_18 : decode cX0_feed 18 = .ok (.dup, 1) := dk_89 (dk_at dksX0_feed_0 18 rfl rfl)
theorem dX0_feed_19 : decode cX0_feed 19 = .ok (.iconst 0, 1) := dk_3 (dk_at dksX0_feed_0 19 rfl rfl)
theorem dX0_feed_20 : decode cX0_feed 20 = .ok (.iload_n 1, 1) := dk_27 (dk_at dksX0_feed_0 20 rfl rfl)
theorem dX0_feed_21 : decode cX0_feed 21 = .ok (.iastore, 1) := dk_79 (dk_at dksX0_feed_0 21 rfl rfl)
theorem dX0_feed_22 : decode cX0_feed 22 = .ok (.dup, 1) := dk_89 (dk_at dksX0_feed_0 22 rfl rfl)
theorem dX0_feed_23 : decode cX0_feed 23 = .ok (.iconst 1, 1) := dk_4 (dk_at dksX0_feed_0 23 rfl rfl)
theorem dX0_feed_24 : decode cX0_feed 24 = .ok (.iload_n 2, 1) := dk_28 (dk_at dksX0_feed_1 0 rfl rfl)
theorem dX0_feed_25 : decode cX0_feed 25 = .ok (.iastore, 1) := dk_79 (dk_at dksX0_feed_1 1 rfl rfl)
theorem dX0_feed_26 : decode cX0_feed 26 = .ok (.dup, 1) := dk_89 (dk_at dksX0_feed_1 2 rfl rfl)
theorem dX0_feed_27 : decode cX0_feed 27 = .ok (.iconst 2, 1) := dk_5 (dk_at dksX0_feed_1 3 rfl rfl)
theorem dX0_feed_28 : decode cX0_feed 28 = .ok (.iload_n 3, 1) := dk_29 (dk_at dksX0_feed_1 4 rfl rfl)
theorem dX0_feed_29 : decode cX0_feed 29 = .ok (.iastore, 1) := dk_79 (dk_at dksX0_feed_1 5 rfl rfl)
theorem dX0_feed_30 : decode cX0_feed 30 = .ok (.dup, 1) := dk_89 (dk_at dksX0_feed_1 6 rfl rfl)
theorem dX0_feed_31 : decode cX0_feed 31 = .ok (.iconst 3, 1) := dk_6 (dk_at dksX0_feed_1 7 rfl rfl)
theorem dX0_feed_32 : decode cX0_feed 32 = .ok (.iload 4, 2) := dk_21 4 (dk_at dksX0_feed_1 8 rfl rfl)
theorem dX0_feed_34 : decode cX0_feed 34 = .ok (.iastore, 1) := dk_79 (dk_at dksX0_feed_1 10 rfl rfl)
theorem dX0_feed_35 : decode cX0_feed 35 = .ok (.dup, 1) := dk_89 (dk_at dksX0_feed_1 11 rfl rfl)
theorem dX0_feed_36 : decode cX0_feed 36 = .ok (.iconst 4, 1) := dk_7 (dk_at dksX0_feed_1 12 rfl rfl)
theorem dX0_feed_37 : decode cX0_feed 37 = .ok (.iload 5, 2) := dk_21 5 (dk_at dksX0_feed_1 13 rfl rfl)
theorem dX0_feed_39 : decode cX0_feed 39 = .ok (.iastore, 1) := dk_79 (dk_at dksX0_feed_1 15 rfl rfl)
theorem dX0_feed_40 : decode cX0_feed 40 = .ok (.astore 6, 2) := dk_58 6 (dk_at dksX0_feed_1 16 rfl rfl)
theorem dX0_feed_42 : decode cX0_feed 42 = .ok (.iconst 0, 1) := dk_3 (dk_at dksX0_feed_1 18 rfl rfl)
theorem dX0_feed_43 : decode cX0_feed 43 = .ok (.istore 7, 2) := dk_54 7 (dk_at dksX0_feed_1 19 rfl rfl)
theorem dX0_feed_45 : decode cX0_feed 45 = .ok (.iload 7, 2) := dk_21 7 (dk_at dksX0_feed_1 21 rfl rfl)
theorem dX0_feed_47 : decode cX0_feed 47 = .ok (.bipush 20, 2) := dk_16 20 (dk_at dksX0_feed_2 0 rfl rfl)
theorem dX0_feed_49 : decode cX0_feed 49 = .ok (.if_icmp .ge 40, 3) := dk_162 0 40 (dk_at dksX0_feed_2 2 rfl rfl)
theorem dX0_feed_52 : decode cX0_feed 52 = .ok (.aload_n 0, 1) := dk_42 (dk_at dksX0_feed_2 5 rfl rfl)
theorem dX0_feed_53 : decode cX0_feed 53 = .ok (.getfield 71, 3) := dk_180 0 71 (dk_at dksX0_feed_2 6 rfl rfl)
theorem dX0_feed_56 : decode cX0_feed 56 = .ok (.aload_n 0, 1) := dk_42 (dk_at dksX0_feed_2 9 rfl rfl)
theorem dX0_feed_57 : decode cX0_feed 57 = .ok (.getfield 83, 3) := dk_180 0 83 (dk_at dksX0_feed_2 10 rfl rfl)
theorem dX0_feed_60 : decode cX0_feed 60 = .ok (.iload 7, 2) := dk_21 7 (dk_at dksX0_feed_2 13 rfl rfl)
theorem dX0_feed_62 : decode cX0_feed 62 = .ok (.iadd, 1) := dk_96 (dk_at dksX0_feed_2 15 rfl rfl)
theorem dX0_feed_63 : decode cX0_feed 63 = .ok (.aload 6, 2) := dk_25 6 (dk_at dksX0_feed_2 16 rfl rfl)
theorem dX0_feed_65 : decode cX0_feed 65 = .ok (.iload 7, 2) := dk_21 7 (dk_at dksX0_feed_2 18 rfl rfl)
theorem dX0_feed_67 : decode cX0_feed 67 = .ok (.iconst 4, 1) := dk_7 (dk_at dksX0_feed_2 20 rfl rfl)
theorem dX0_feed_68 : decode cX0_feed 68 = .ok (.idiv, 1) := dk_108 (dk_at dksX0_feed_2 21 rfl rfl)
theorem dX0_feed_69 : decode cX0_feed 69 = .ok (.iaload, 1) := dk_46 (dk_at dksX0_feed_2 22 rfl rfl)
theorem dX0_feed_70 : decode cX0_feed 70 = .ok (.bipush 24, 2) := dk_16 24 (dk_at dksX0_feed_3 0 rfl rfl)
theorem dX0_feed_72 : decode cX0_feed 72 = .ok (.bipush 8, 2) := dk_16 8 (dk_at dksX0_feed_3 2 rfl rfl)
theorem dX0_feed_74 : decode cX0_feed 74 = .ok (.iload 7, 2) := dk_21 7 (dk_at dksX0_feed_3 4 rfl rfl)
theorem dX0_feed_76 : decode cX0_feed 76 = .ok (.iconst 4, 1) := dk_7 (dk_at dksX0_feed_3 6 rfl rfl)
theorem dX0_feed_77 : decode cX0_feed 77 = .ok (.irem, 1) := dk_112 (dk_at dksX0_feed_3 7 rfl rfl)
theorem dX0_feed_78 : decode cX0_feed 78 = .ok (.imul, 1) := dk_104 (dk_at dksX0_feed_3 8 rfl rfl)
theorem dX0_feed_79 : decode cX0_feed 79 = .ok (.isub, 1) := dk_100 (dk_at dksX0_feed_3 9 rfl rfl)
theorem dX0_feed_80 : decode cX0_feed 80 = .ok (.ishr, 1) := dk_122 (dk_at dksX0_feed_3 10 rfl rfl)
theorem dX0_feed_81 : decode cX0_feed 81 = .ok (.i2b, 1) := dk_145 (dk_at dksX0_feed_3 11 rfl rfl)
theorem dX0_feed_82 : decode cX0_feed 82 = .ok (.bastore, 1) := dk_84 (dk_at dksX0_feed_3 12 rfl rfl)
theorem dX0_feed_83 : decode cX0_feed 83 = .ok (.iinc 7 1, 3) := dk_132 7 1 (dk_at dksX0_feed_3 13 rfl rfl)
theorem dX0_feed_86 : decode cX0_feed 86 = .ok (.goto (-41), 3) := dk_167 255 215 (dk_at dksX0_feed_3 16 rfl rfl)
theorem dX0_feed_89 : decode cX0_feed 89 = .ok (.aload_n 0, 1) := dk_42 (dk_at dksX0_feed_3 19 rfl rfl)
theorem dX0_feed_90 : decode cX0_feed 90 = .ok (.dup, 1) := dk_89 (dk_at dksX0_feed_3 20 rfl rfl)
theorem dX0_feed_91 : decode cX0_feed 91 = .ok (.getfield 83, 3) := dk_180 0 83 (dk_at dksX0_feed_3 21 rfl rfl)
theorem dX0_feed_94 : decode cX0_feed 94 = .ok (.bipush 20, 2) := dk_16 20 (dk_at dksX0_feed_4 0 rfl rfl)
theorem dX0_feed_96 : decode cX0_feed 96 = .ok (.iadd, 1) := dk_96 (dk_at dksX0_feed_4 2 rfl rfl)
theorem dX0_feed_97 : decode cX0_feed 97 = .ok (.putfield 83, 3) := dk_181 0 83 (dk_at dksX0_feed_4 3 rfl rfl)
theorem dX0_feed_100 : decode cX0_feed 100 = .ok (.aload_n 0, 1) := dk_42 (dk_at dksX0_feed_4 6 rfl rfl)
theorem dX0_feed_101 : decode cX0_feed 101 = .ok (.getfield 83, 3) := dk_180 0 83 (dk_at dksX0_feed_4 7 rfl rfl)
theorem dX0_feed_104 : decode cX0_feed 104 = .ok (.ireturn, 1) := dk_172 (dk_at dksX0_feed_4 10 rfl rfl)
abbrev cX0_end : ByteArray := prog_1_method_9_code
def yX0_end : MethodName := ⟨RX0, "end", "(I)I"⟩
def dkwX0_end_0 : List UInt8 := [27, 133, 9, 42, 180, 0, 83, 133, 184, 0, 5, 154, 0, 5, 2, 172, 42, 27, 181, 0, 83, 27, 172]
abbrev dktX0_end_0 : List UInt8 := dkwX0_end_0 ++ []
theorem dksX0_end_0 : cX0_end.data.toList.drop 0 = dktX0_end_0 := by decide +kernel
theorem dX0_end_0 : decode cX0_end 0 = .ok (.iload_n 1, 1) := dk_27 (dk_at dksX0_end_0 0 rfl rfl)
theorem dX0_end_1 : decode cX0_end 1 = .ok (.i2l, 1) := dk_133 (dk_at dksX0_end_0 1 rfl rfl)
theorem dX0_end_2 : decode cX0_end 2 = .ok (.lconst 0, 1) := dk_9 (dk_at dksX0_end_0 2 rfl rfl)
theorem dX0_end_3 : decode cX0_end 3 = .ok (.aload_n 0, 1) := dk_42 (dk_at dksX0_end_0 3 rfl rfl)
theorem dX0_end_4 : decode cX0_end 4 = .ok (.getfield 83, 3) := dk_180 0 83 (dk_at dksX0_end_0 4 rfl rfl)
theorem dX0_end_7 : decode cX0_end 7 = .ok (.i2l, 1) := dk_133 (dk_at dksX0_end_0 7 rfl rfl)
theorem dX0_end_8 : decode cX0_end 8 = .ok (.invokestatic 5, 3) := dk_184 0 5 (dk_at dksX0_end_0 8 rfl rfl)
theorem dX0_end_11 : decode cX0_end 11 = .ok (.ifCond .ne 5, 3) := dk_154 0 5 (dk_at dksX0_end_0 11 rfl rfl)
theorem dX0_end_14 : decode cX0_end 14 = .ok (.iconst (-1), 1) := dk_2 (dk_at dksX0_end_0 14 rfl rfl)
theorem dX0_end_15 : decode cX0_end 15 = .ok (.ireturn, 1) := dk_172 (dk_at dksX0_end_0 15 rfl rfl)
theorem dX0_end_16 : decode cX0_end 16 = .ok (.aload_n 0, 1) := dk_42 (dk_at dksX0_end_0 16 rfl rfl)
theorem dX0_end_17 : decode cX0_end 17 = .ok (.iload_n 1, 1) := dk_27 (dk_at dksX0_end_0 17 rfl rfl)
theorem dX0_end_18 : decode cX0_end 18 = .ok (.putfield 83, 3) := dk_181 0 83 (dk_at dksX0_end_0 18 rfl rfl)
theorem dX0_end_21 : decode cX0_end 21 = .ok (.iload_n 1, 1) := dk_27 (dk_at dksX0_end_0 21 rfl rfl)
theorem dX0_end_22 : decode cX0_end 22 = .ok (.ireturn, 1) := dk_172 (dk_at dksX0_end_0 22 rfl rfl)
abbrev cX0_square : ByteArray := prog_1_method_10_code
def yX0_square : MethodName := ⟨RX0, "square", "()I"⟩
def dkwX0_square_5 : List UInt8 := [180, 0, 127, 181, 0, 75, 16, 252, 61, 42, 3, 181, 0, 83, 28, 172, 78, 42, 3, 181, 0, 83, 45, 191]
abbrev dktX0_square_5 : List UInt8 := dkwX0_square_5 ++ []
def dkwX0_square_4 : List UInt8 := [180, 0, 119, 60, 42, 3, 181, 0, 83, 27, 172, 76, 42, 43, 180, 0, 124, 181, 0, 116, 42, 43]
abbrev dktX0_square_4 : List UInt8 := dkwX0_square_4 ++ dktX0_square_5
def dkwX0_square_3 : List UInt8 := [167, 255, 212, 42, 3, 181, 0, 113, 42, 3, 181, 0, 116, 42, 2, 181, 0, 75, 42, 180, 0, 41]
abbrev dktX0_square_3 : List UInt8 := dkwX0_square_3 ++ dktX0_square_4
def dkwX0_square_2 : List UInt8 := [180, 0, 41, 180, 0, 95, 27, 185, 0, 104, 2, 0, 192, 0, 108, 180, 0, 110, 79, 132, 1, 1]
abbrev dktX0_square_2 : List UInt8 := dkwX0_square_2 ++ dktX0_square_3
def dkwX0_square_1 : List UInt8 := [27, 42, 180, 0, 41, 180, 0, 95, 185, 0, 98, 1, 0, 162, 0, 34, 42, 180, 0, 45, 27, 42]
abbrev dktX0_square_1 : List UInt8 := dkwX0_square_1 ++ dktX0_square_2
def dkwX0_square_0 : List UInt8 := [42, 187, 0, 86, 89, 42, 180, 0, 71, 42, 180, 0, 83, 183, 0, 88, 182, 0, 91, 181, 0, 41, 3, 60]
abbrev dktX0_square_0 : List UInt8 := dkwX0_square_0 ++ dktX0_square_1
theorem dksX0_square_0 : cX0_square.data.toList.drop 0 = dktX0_square_0 := by decide +kernel
theorem dksX0_square_1 : cX0_square.data.toList.drop 24 = dktX0_square_1 := dk_seg dksX0_square_0 24 rfl rfl
theorem dksX0_square_2 : cX0_square.data.toList.drop 46 = dktX0_square_2 := dk_seg dksX0_square_1 22 rfl rfl
theorem dksX0_square_3 : cX0_square.data.toList.drop 68 = dktX0_square_3 := dk_seg dksX0_square_2 22 rfl rfl
theorem dksX0_square_4 : cX0_square.data.toList.drop 90 = dktX0_square_4 := dk_seg dksX0_square_3 22 rfl rfl
theorem dksX0_square_5 : cX0_square.data.toList.drop 112 = dktX0_square_5 := dk_seg dksX0_square_4 22 rfl rfl
theorem dX0_square_0 : decode cX0_square 0 = .ok (.aload_n 0, 1) := dk_42 (dk_at dksX0_square_0 0 rfl rfl)
theorem dX0_square_1 : decode cX0_square 1 = .ok (.new 86, 3) := dk_187 0 86 (dk_at dksX0_square_0 1 rfl rfl)
theorem dX0_square_4 : decode cX0_square 4 = .ok (.dup, 1) := dk_89 (dk_at dksX0_square_0 4 rfl rfl)
theorem dX0_square_5 : decode cX0_square 5 = .ok (.aload_n 0, 1) := dk_42 (dk_at dksX0_square_0 5 rfl rfl)
theorem dX0_square_6 : decode cX0_square 6 = .ok (.getfield 71, 3) := dk_180 0 71 (dk_at dksX0_square_0 6 rfl rfl)
theorem dX0_square_9 : decode cX0_square 9 = .ok (.aload_n 0, 1) := dk_42 (dk_at dksX0_square_0 9 rfl rfl)
theorem dX0_square_10 : decode cX0_square 10 = .ok (.getfield 83, 3) := dk_180 0 83 (dk_at dksX0_square_0 10 rfl rfl)
theorem dX0_square_13 : decode cX0_square 13 = .ok (.invokespecial 88, 3) := dk_183 0 88 (dk_at dksX0_square_0 13 rfl rfl)
theorem dX0_square_16 : decode cX0_square 16 = .ok (.invokevirtual 91, 3) := dk_182 0 91 (dk_at dksX0_square_0 16 rfl rfl)
theorem dX0_square_19 : decode cX0_square 19 = .ok (.putfield 41, 3) := dk_181 0 41 (dk_at dksX0_square_0 19 rfl rfl)
theorem dX0_square_22 : decode cX0_square 22 = .ok (.iconst 0, 1) := dk_3 (dk_at dksX0_square_0 22 rfl rfl)
theorem dX0_square_23 : decode cX0_square 23 = .ok (.istore_n 1, 1) := dk_60 (dk_at dksX0_square_0 23 rfl rfl)
theorem dX0_square_24 : decode cX0_square 24 = .ok (.iload_n 1, 1) := dk_27 (dk_at dksX0_square_1 0 rfl rfl)
theorem dX0_square_25 : decode cX0_square 25 = .ok (.aload_n 0, 1) := dk_42 (dk_at dksX0_square_1 1 rfl rfl)
theorem dX0_square_26 : decode cX0_square 26 = .ok (.getfield 41, 3) := dk_180 0 41 (dk_at dksX0_square_1 2 rfl rfl)
theorem dX0_square_29 : decode cX0_square 29 = .ok (.getfield 95, 3) := dk_180 0 95 (dk_at dksX0_square_1 5 rfl rfl)
theorem dX0_square_32 : decode cX0_square 32 = .ok (.invokeinterface 98 1, 5) := by decide +kernel
theorem dX0_square_37 : decode cX0_square 37 = .ok (.if_icmp .ge 34, 3) := dk_162 0 34 (dk_at dksX0_square_1 13 rfl rfl)
theorem dX0_square_40 : decode cX0_square 40 = .ok (.aload_n 0, 1) := dk_42 (dk_at dksX0_square_1 16 rfl rfl)
theorem dX0_square_41 : decode cX0_square 41 = .ok (.getfield 45, 3) := dk_180 0 45 (dk_at dksX0_square_1 17 rfl rfl)
theorem dX0_square_44 : decode cX0_square 44 = .ok (.iload_n 1, 1) := dk_27 (dk_at dksX0_square_1 20 rfl rfl)
theorem dX0_square_45 : decode cX0_square 45 = .ok (.aload_n 0, 1) := dk_42 (dk_at dksX0_square_1 21 rfl rfl)
theorem dX0_square_46 : decode cX0_square 46 = .ok (.getfield 41, 3) := dk_180 0 41 (dk_at dksX0_square_2 0 rfl rfl)
theorem dX0_square_49 : decode cX0_square 49 = .ok (.getfield 95, 3) := dk_180 0 95 (dk_at dksX0_square_2 3 rfl rfl)
theorem dX0_square_52 : decode cX0_square 52 = .ok (.iload_n 1, 1) := dk_27 (dk_at dksX0_square_2 6 rfl rfl)
theorem dX0_square_53 : decode cX0_square 53 = .ok (.invokeinterface 104 2, 5) := by decide +kernel
theorem dX0_square_58 : decode cX0_square 58 = .ok (.checkcast 108, 3) := dk_192 0 108 (dk_at dksX0_square_2 12 rfl rfl)
theorem dX0_square_61 : decode cX0_square 61 = .ok (.getfield 110, 3) := dk_180 0 110 (dk_at dksX0_square_2 15 rfl rfl)
theorem dX0_square_64 : decode cX0_square 64 = .ok (.iastore, 1) := dk_79 (dk_at dksX0_square_2 18 rfl rfl)
theorem dX0_square_65 : decode cX0_square 65 = .ok (.iinc 1 1, 3) := dk_132 1 1 (dk_at dksX0_square_2 19 rfl rfl)
theorem dX0_square_68 : decode cX0_square 68 = .ok (.goto (-44), 3) := dk_167 255 212 (dk_at dksX0_square_3 0 rfl rfl)
theorem dX0_square_71 : decode cX0_square 71 = .ok (.aload_n 0, 1) := dk_42 (dk_at dksX0_square_3 3 rfl rfl)
theorem dX0_square_72 : decode cX0_square 72 = .ok (.iconst 0, 1) := dk_3 (dk_at dksX0_square_3 4 rfl rfl)
theorem dX0_square_73 : decode cX0_square 73 = .ok (.putfield 113, 3) := dk_181 0 113 (dk_at dksX0_square_3 5 rfl rfl)
theorem dX0_square_76 : decode cX0_square 76 = .ok (.aload_n 0, 1) := dk_42 (dk_at dksX0_square_3 8 rfl rfl)
theorem dX0_square_77 : decode cX0_square 77 = .ok (.iconst 0, 1) := dk_3 (dk_at dksX0_square_3 9 rfl rfl)
theorem dX0_square_78 : decode cX0_square 78 = .ok (.putfield 116, 3) := dk_181 0 116 (dk_at dksX0_square_3 10 rfl rfl)
theorem dX0_square_81 : decode cX0_square 81 = .ok (.aload_n 0, 1) := dk_42 (dk_at dksX0_square_3 13 rfl rfl)
theorem dX0_square_82 : decode cX0_square 82 = .ok (.iconst (-1), 1) := dk_2 (dk_at dksX0_square_3 14 rfl rfl)
theorem dX0_square_83 : decode cX0_square 83 = .ok (.putfield 75, 3) := dk_181 0 75 (dk_at dksX0_square_3 15 rfl rfl)
theorem dX0_square_86 : decode cX0_square 86 = .ok (.aload_n 0, 1) := dk_42 (dk_at dksX0_square_3 18 rfl rfl)
theorem dX0_square_87 : decode cX0_square 87 = .ok (.getfield 41, 3) := dk_180 0 41 (dk_at dksX0_square_3 19 rfl rfl)
theorem dX0_square_90 : decode cX0_square 90 = .ok (.getfield 119, 3) := dk_180 0 119 (dk_at dksX0_square_4 0 rfl rfl)
theorem dX0_square_93 : decode cX0_square 93 = .ok (.istore_n 1, 1) := dk_60 (dk_at dksX0_square_4 3 rfl rfl)
theorem dX0_square_94 : decode cX0_square 94 = .ok (.aload_n 0, 1) := dk_42 (dk_at dksX0_square_4 4 rfl rfl)
theorem dX0_square_95 : decode cX0_square 95 = .ok (.iconst 0, 1) := dk_3 (dk_at dksX0_square_4 5 rfl rfl)
theorem dX0_square_96 : decode cX0_square 96 = .ok (.putfield 83, 3) := dk_181 0 83 (dk_at dksX0_square_4 6 rfl rfl)
theorem dX0_square_99 : decode cX0_square 99 = .ok (.iload_n 1, 1) := dk_27 (dk_at dksX0_square_4 9 rfl rfl)
theorem dX0_square_100 : decode cX0_square 100 = .ok (.ireturn, 1) := dk_172 (dk_at dksX0_square_4 10 rfl rfl)
theorem dX0_square_101 : decode cX0_square 101 = .ok (.astore_n 1, 1) := dk_76 (dk_at dksX0_square_4 11 rfl rfl)
theorem dX0_square_102 : decode cX0_square 102 = .ok (.aload_n 0, 1) := dk_42 (dk_at dksX0_square_4 12 rfl rfl)
theorem dX0_square_103 : decode cX0_square 103 = .ok (.aload_n 1, 1) := dk_43 (dk_at dksX0_square_4 13 rfl rfl)
theorem dX0_square_104 : decode cX0_square 104 = .ok (.getfield 124, 3) := dk_180 0 124 (dk_at dksX0_square_4 14 rfl rfl)
theorem dX0_square_107 : decode cX0_square 107 = .ok (.putfield 116, 3) := dk_181 0 116 (dk_at dksX0_square_4 17 rfl rfl)
theorem dX0_square_110 : decode cX0_square 110 = .ok (.aload_n 0, 1) := dk_42 (dk_at dksX0_square_4 20 rfl rfl)
theorem dX0_square_111 : decode cX0_square 111 = .ok (.aload_n 1, 1) := dk_43 (dk_at dksX0_square_4 21 rfl rfl)
theorem dX0_square_112 : decode cX0_square 112 = .ok (.getfield 127, 3) := dk_180 0 127 (dk_at dksX0_square_5 0 rfl rfl)
theorem dX0_square_115 : decode cX0_square 115 = .ok (.putfield 75, 3) := dk_181 0 75 (dk_at dksX0_square_5 3 rfl rfl)
theorem dX0_square_118 : decode cX0_square 118 = .ok (.bipush (-4), 2) := dk_16 252 (dk_at dksX0_square_5 6 rfl rfl)
theorem dX0_square_120 : decode cX0_square 120 = .ok (.istore_n 2, 1) := dk_61 (dk_at dksX0_square_5 8 rfl rfl)
theorem dX0_square_121 : decode cX0_square 121 = .ok (.aload_n 0, 1) := dk_42 (dk_at dksX0_square_5 9 rfl rfl)
theorem dX0_square_122 : decode cX0_square 122 = .ok (.iconst 0, 1) := dk_3 (dk_at dksX0_square_5 10 rfl rfl)
theorem dX0_square_123 : decode cX0_square 123 = .ok (.putfield 83, 3) := dk_181 0 83 (dk_at dksX0_square_5 11 rfl rfl)
theorem dX0_square_126 : decode cX0_square 126 = .ok (.iload_n 2, 1) := dk_28 (dk_at dksX0_square_5 14 rfl rfl)
theorem dX0_square_127 : decode cX0_square 127 = .ok (.ireturn, 1) := dk_172 (dk_at dksX0_square_5 15 rfl rfl)
theorem dX0_square_128 : decode cX0_square 128 = .ok (.astore_n 3, 1) := dk_78 (dk_at dksX0_square_5 16 rfl rfl)
theorem dX0_square_129 : decode cX0_square 129 = .ok (.aload_n 0, 1) := dk_42 (dk_at dksX0_square_5 17 rfl rfl)
theorem dX0_square_130 : decode cX0_square 130 = .ok (.iconst 0, 1) := dk_3 (dk_at dksX0_square_5 18 rfl rfl)
theorem dX0_square_131 : decode cX0_square 131 = .ok (.putfield 83, 3) := dk_181 0 83 (dk_at dksX0_square_5 19 rfl rfl)
theorem dX0_square_134 : decode cX0_square 134 = .ok (.aload_n 3, 1) := dk_45 (dk_at dksX0_square_5 22 rfl rfl)
theorem dX0_square_135 : decode cX0_square 135 = .ok (.athrow, 1) := dk_191 (dk_at dksX0_square_5 23 rfl rfl)
abbrev cX0_fault : ByteArray := prog_1_method_11_code
def yX0_fault : MethodName := ⟨RX0, "fault", "(I)I"⟩
def dkwX0_fault_1 : List UInt8 := [172]
abbrev dktX0_fault_1 : List UInt8 := dkwX0_fault_1 ++ []
def dkwX0_fault_0 : List UInt8 := [27, 154, 0, 10, 42, 180, 0, 116, 167, 0, 16, 27, 4, 160, 0, 10, 42, 180, 0, 75, 167, 0, 4, 2]
abbrev dktX0_fault_0 : List UInt8 := dkwX0_fault_0 ++ dktX0_fault_1
theorem dksX0_fault_0 : cX0_fault.data.toList.drop 0 = dktX0_fault_0 := by decide +kernel
theorem dksX0_fault_1 : cX0_fault.data.toList.drop 24 = dktX0_fault_1 := dk_seg dksX0_fault_0 24 rfl rfl
theorem dX0_fault_0 : decode cX0_fault 0 = .ok (.iload_n 1, 1) := dk_27 (dk_at dksX0_fault_0 0 rfl rfl)
theorem dX0_fault_1 : decode cX0_fault 1 = .ok (.ifCond .ne 10, 3) := dk_154 0 10 (dk_at dksX0_fault_0 1 rfl rfl)
theorem dX0_fault_4 : decode cX0_fault 4 = .ok (.aload_n 0, 1) := dk_42 (dk_at dksX0_fault_0 4 rfl rfl)
theorem dX0_fault_5 : decode cX0_fault 5 = .ok (.getfield 116, 3) := dk_180 0 116 (dk_at dksX0_fault_0 5 rfl rfl)
theorem dX0_fault_8 : decode cX0_fault 8 = .ok (.goto 16, 3) := dk_167 0 16 (dk_at dksX0_fault_0 8 rfl rfl)
theorem dX0_fault_11 : decode cX0_fault 11 = .ok (.iload_n 1, 1) := dk_27 (dk_at dksX0_fault_0 11 rfl rfl)
theorem dX0_fault_12 : decode cX0_fault 12 = .ok (.iconst 1, 1) := dk_4 (dk_at dksX0_fault_0 12 rfl rfl)
theorem dX0_fault_13 : decode cX0_fault 13 = .ok (.if_icmp .ne 10, 3) := dk_160 0 10 (dk_at dksX0_fault_0 13 rfl rfl)
theorem dX0_fault_16 : decode cX0_fault 16 = .ok (.aload_n 0, 1) := dk_42 (dk_at dksX0_fault_0 16 rfl rfl)
theorem dX0_fault_17 : decode cX0_fault 17 = .ok (.getfield 75, 3) := dk_180 0 75 (dk_at dksX0_fault_0 17 rfl rfl)
theorem dX0_fault_20 : decode cX0_fault 20 = .ok (.goto 4, 3) := dk_167 0 4 (dk_at dksX0_fault_0 20 rfl rfl)
theorem dX0_fault_23 : decode cX0_fault 23 = .ok (.iconst (-1), 1) := dk_2 (dk_at dksX0_fault_0 23 rfl rfl)
theorem dX0_fault_24 : decode cX0_fault 24 = .ok (.ireturn, 1) := dk_172 (dk_at dksX0_fault_1 0 rfl rfl)
abbrev cX0_at : ByteArray := prog_1_method_21_code
def yX0_at : MethodName := ⟨RX0, "at", "(II)I"⟩
def dkwX0_at_1 : List UInt8 := [184, 0, 168, 153, 0, 7, 2, 167, 0, 14, 42, 180, 0, 41, 180, 0, 171, 27, 50, 28, 46, 172]
abbrev dktX0_at_1 : List UInt8 := dkwX0_at_1 ++ []
def dkwX0_at_0 : List UInt8 := [42, 27, 182, 0, 162, 153, 0, 11, 42, 28, 182, 0, 165, 154, 0, 6, 16, 254, 172, 42, 180, 0, 113, 27]
abbrev dktX0_at_0 : List UInt8 := dkwX0_at_0 ++ dktX0_at_1
theorem dksX0_at_0 : cX0_at.data.toList.drop 0 = dktX0_at_0 := by decide +kernel
theorem dksX0_at_1 : cX0_at.data.toList.drop 24 = dktX0_at_1 := dk_seg dksX0_at_0 24 rfl rfl
theorem dX0_at_0 : decode cX0_at 0 = .ok (.aload_n 0, 1) := dk_42 (dk_at dksX0_at_0 0 rfl rfl)
theorem dX0_at_1 : decode cX0_at 1 = .ok (.iload_n 1, 1) := dk_27 (dk_at dksX0_at_0 1 rfl rfl)
theorem dX0_at_2 : decode cX0_at 2 = .ok (.invokevirtual 162, 3) := dk_182 0 162 (dk_at dksX0_at_0 2 rfl rfl)
theorem dX0_at_5 : decode cX0_at 5 = .ok (.ifCond .eq 11, 3) := dk_153 0 11 (dk_at dksX0_at_0 5 rfl rfl)
theorem dX0_at_8 : decode cX0_at 8 = .ok (.aload_n 0, 1) := dk_42 (dk_at dksX0_at_0 8 rfl rfl)
theorem dX0_at_9 : decode cX0_at 9 = .ok (.iload_n 2, 1) := dk_28 (dk_at dksX0_at_0 9 rfl rfl)
theorem dX0_at_10 : decode cX0_at 10 = .ok (.invokevirtual 165, 3) := dk_182 0 165 (dk_at dksX0_at_0 10 rfl rfl)
theorem dX0_at_13 : decode cX0_at 13 = .ok (.ifCond .ne 6, 3) := dk_154 0 6 (dk_at dksX0_at_0 13 rfl rfl)
theorem dX0_at_16 : decode cX0_at 16 = .ok (.bipush (-2), 2) := dk_16 254 (dk_at dksX0_at_0 16 rfl rfl)
theorem dX0_at_18 : decode cX0_at 18 = .ok (.ireturn, 1) := dk_172 (dk_at dksX0_at_0 18 rfl rfl)
theorem dX0_at_19 : decode cX0_at 19 = .ok (.aload_n 0, 1) := dk_42 (dk_at dksX0_at_0 19 rfl rfl)
theorem dX0_at_20 : decode cX0_at 20 = .ok (.getfield 113, 3) := dk_180 0 113 (dk_at dksX0_at_0 20 rfl rfl)
theorem dX0_at_23 : decode cX0_at 23 = .ok (.iload_n 1, 1) := dk_27 (dk_at dksX0_at_0 23 rfl rfl)
theorem dX0_at_24 : decode cX0_at 24 = .ok (.invokestatic 168, 3) := dk_184 0 168 (dk_at dksX0_at_1 0 rfl rfl)
theorem dX0_at_27 : decode cX0_at 27 = .ok (.ifCond .eq 7, 3) := dk_153 0 7 (dk_at dksX0_at_1 3 rfl rfl)
theorem dX0_at_30 : decode cX0_at 30 = .ok (.iconst (-1), 1) := dk_2 (dk_at dksX0_at_1 6 rfl rfl)
theorem dX0_at_31 : decode cX0_at 31 = .ok (.goto 14, 3) := dk_167 0 14 (dk_at dksX0_at_1 7 rfl rfl)
theorem dX0_at_34 : decode cX0_at 34 = .ok (.aload_n 0, 1) := dk_42 (dk_at dksX0_at_1 10 rfl rfl)
theorem dX0_at_35 : decode cX0_at 35 = .ok (.getfield 41, 3) := dk_180 0 41 (dk_at dksX0_at_1 11 rfl rfl)
theorem dX0_at_38 : decode cX0_at 38 = .ok (.getfield 171, 3) := dk_180 0 171 (dk_at dksX0_at_1 14 rfl rfl)
theorem dX0_at_41 : decode cX0_at 41 = .ok (.iload_n 1, 1) := dk_27 (dk_at dksX0_at_1 17 rfl rfl)
theorem dX0_at_42 : decode cX0_at 42 = .ok (.aaload, 1) := dk_50 (dk_at dksX0_at_1 18 rfl rfl)
theorem dX0_at_43 : decode cX0_at 43 = .ok (.iload_n 2, 1) := dk_28 (dk_at dksX0_at_1 19 rfl rfl)
theorem dX0_at_44 : decode cX0_at 44 = .ok (.iaload, 1) := dk_46 (dk_at dksX0_at_1 20 rfl rfl)
theorem dX0_at_45 : decode cX0_at 45 = .ok (.ireturn, 1) := dk_172 (dk_at dksX0_at_1 21 rfl rfl)
abbrev cX0_isPerson : ByteArray := prog_1_method_14_code
def yX0_isPerson : MethodName := ⟨RX0, "isPerson", "(I)Z"⟩
def dkwX0_isPerson_0 : List UInt8 := [27, 133, 9, 42, 182, 0, 133, 4, 100, 133, 184, 0, 5, 172]
abbrev dktX0_isPerson_0 : List UInt8 := dkwX0_isPerson_0 ++ []
theorem dksX0_isPerson_0 : cX0_isPerson.data.toList.drop 0 = dktX0_isPerson_0 := by decide +kernel
theorem dX0_isPerson_0 : decode cX0_isPerson 0 = .ok (.iload_n 1, 1) := dk_27 (dk_at dksX0_isPerson_0 0 rfl rfl)
theorem dX0_isPerson_1 : decode cX0_isPerson 1 = .ok (.i2l, 1) := dk_133 (dk_at dksX0_isPerson_0 1 rfl rfl)
theorem dX0_isPerson_2 : decode cX0_isPerson 2 = .ok (.lconst 0, 1) := dk_9 (dk_at dksX0_isPerson_0 2 rfl rfl)
theorem dX0_isPerson_3 : decode cX0_isPerson 3 = .ok (.aload_n 0, 1) := dk_42 (dk_at dksX0_isPerson_0 3 rfl rfl)
theorem dX0_isPerson_4 : decode cX0_isPerson 4 = .ok (.invokevirtual 133, 3) := dk_182 0 133 (dk_at dksX0_isPerson_0 4 rfl rfl)
theorem dX0_isPerson_7 : decode cX0_isPerson 7 = .ok (.iconst 1, 1) := dk_4 (dk_at dksX0_isPerson_0 7 rfl rfl)
theorem dX0_isPerson_8 : decode cX0_isPerson 8 = .ok (.isub, 1) := dk_100 (dk_at dksX0_isPerson_0 8 rfl rfl)
theorem dX0_isPerson_9 : decode cX0_isPerson 9 = .ok (.i2l, 1) := dk_133 (dk_at dksX0_isPerson_0 9 rfl rfl)
theorem dX0_isPerson_10 : decode cX0_isPerson 10 = .ok (.invokestatic 5, 3) := dk_184 0 5 (dk_at dksX0_isPerson_0 10 rfl rfl)
theorem dX0_isPerson_13 : decode cX0_isPerson 13 = .ok (.ireturn, 1) := dk_172 (dk_at dksX0_isPerson_0 13 rfl rfl)
abbrev cX0_people : ByteArray := prog_1_method_13_code
def yX0_people : MethodName := ⟨RX0, "people", "()I"⟩
def dkwX0_people_0 : List UInt8 := [42, 180, 0, 41, 180, 0, 130, 185, 0, 98, 1, 0, 172]
abbrev dktX0_people_0 : List UInt8 := dkwX0_people_0 ++ []
theorem dksX0_people_0 : cX0_people.data.toList.drop 0 = dktX0_people_0 := by decide +kernel
theorem dX0_people_0 : decode cX0_people 0 = .ok (.aload_n 0, 1) := dk_42 (dk_at dksX0_people_0 0 rfl rfl)
theorem dX0_people_1 : decode cX0_people 1 = .ok (.getfield 41, 3) := dk_180 0 41 (dk_at dksX0_people_0 1 rfl rfl)
theorem dX0_people_4 : decode cX0_people 4 = .ok (.getfield 130, 3) := dk_180 0 130 (dk_at dksX0_people_0 4 rfl rfl)
theorem dX0_people_7 : decode cX0_people 7 = .ok (.invokeinterface 98 1, 5) := by decide +kernel
theorem dX0_people_12 : decode cX0_people 12 = .ok (.ireturn, 1) := dk_172 (dk_at dksX0_people_0 12 rfl rfl)
abbrev cX0_isMinute : ByteArray := prog_1_method_16_code
def yX0_isMinute : MethodName := ⟨RX0, "isMinute", "(I)Z"⟩
def dkwX0_isMinute_0 : List UInt8 := [27, 133, 9, 42, 180, 0, 41, 180, 0, 137, 4, 100, 133, 184, 0, 5, 172]
abbrev dktX0_isMinute_0 : List UInt8 := dkwX0_isMinute_0 ++ []
theorem dksX0_isMinute_0 : cX0_isMinute.data.toList.drop 0 = dktX0_isMinute_0 := by decide +kernel
theorem dX0_isMinute_0 : decode cX0_isMinute 0 = .ok (.iload_n 1, 1) := dk_27 (dk_at dksX0_isMinute_0 0 rfl rfl)
theorem dX0_isMinute_1 : decode cX0_isMinute 1 = .ok (.i2l, 1) := dk_133 (dk_at dksX0_isMinute_0 1 rfl rfl)
theorem dX0_isMinute_2 : decode cX0_isMinute 2 = .ok (.lconst 0, 1) := dk_9 (dk_at dksX0_isMinute_0 2 rfl rfl)
theorem dX0_isMinute_3 : decode cX0_isMinute 3 = .ok (.aload_n 0, 1) := dk_42 (dk_at dksX0_isMinute_0 3 rfl rfl)
theorem dX0_isMinute_4 : decode cX0_isMinute 4 = .ok (.getfield 41, 3) := dk_180 0 41 (dk_at dksX0_isMinute_0 4 rfl rfl)
theorem dX0_isMinute_7 : decode cX0_isMinute 7 = .ok (.getfield 137, 3) := dk_180 0 137 (dk_at dksX0_isMinute_0 7 rfl rfl)
theorem dX0_isMinute_10 : decode cX0_isMinute 10 = .ok (.iconst 1, 1) := dk_4 (dk_at dksX0_isMinute_0 10 rfl rfl)
theorem dX0_isMinute_11 : decode cX0_isMinute 11 = .ok (.isub, 1) := dk_100 (dk_at dksX0_isMinute_0 11 rfl rfl)
theorem dX0_isMinute_12 : decode cX0_isMinute 12 = .ok (.i2l, 1) := dk_133 (dk_at dksX0_isMinute_0 12 rfl rfl)
theorem dX0_isMinute_13 : decode cX0_isMinute 13 = .ok (.invokestatic 5, 3) := dk_184 0 5 (dk_at dksX0_isMinute_0 13 rfl rfl)
theorem dX0_isMinute_16 : decode cX0_isMinute 16 = .ok (.ireturn, 1) := dk_172 (dk_at dksX0_isMinute_0 16 rfl rfl)
abbrev cX0_isOn : ByteArray := prog_1_method_2_code
def yX0_isOn : MethodName := ⟨RX0, "isOn", "(II)Z"⟩
def dkwX0_isOn_0 : List UInt8 := [26, 27, 122, 4, 126, 4, 160, 0, 7, 4, 167, 0, 4, 3, 172]
abbrev dktX0_isOn_0 : List UInt8 := dkwX0_isOn_0 ++ []
theorem dksX0_isOn_0 : cX0_isOn.data.toList.drop 0 = dktX0_isOn_0 := by decide +kernel
theorem dX0_isOn_0 : decode cX0_isOn 0 = .ok (.iload_n 0, 1) := dk_26 (dk_at dksX0_isOn_0 0 rfl rfl)
theorem dX0_isOn_1 : decode cX0_isOn 1 = .ok (.iload_n 1, 1) := dk_27 (dk_at dksX0_isOn_0 1 rfl rfl)
theorem dX0_isOn_2 : decode cX0_isOn 2 = .ok (.ishr, 1) := dk_122 (dk_at dksX0_isOn_0 2 rfl rfl)
theorem dX0_isOn_3 : decode cX0_isOn 3 = .ok (.iconst 1, 1) := dk_4 (dk_at dksX0_isOn_0 3 rfl rfl)
theorem dX0_isOn_4 : decode cX0_isOn 4 = .ok (.iand, 1) := dk_126 (dk_at dksX0_isOn_0 4 rfl rfl)
theorem dX0_isOn_5 : decode cX0_isOn 5 = .ok (.iconst 1, 1) := dk_4 (dk_at dksX0_isOn_0 5 rfl rfl)
theorem dX0_isOn_6 : decode cX0_isOn 6 = .ok (.if_icmp .ne 7, 3) := dk_160 0 7 (dk_at dksX0_isOn_0 6 rfl rfl)
theorem dX0_isOn_9 : decode cX0_isOn 9 = .ok (.iconst 1, 1) := dk_4 (dk_at dksX0_isOn_0 9 rfl rfl)
theorem dX0_isOn_10 : decode cX0_isOn 10 = .ok (.goto 4, 3) := dk_167 0 4 (dk_at dksX0_isOn_0 10 rfl rfl)
theorem dX0_isOn_13 : decode cX0_isOn 13 = .ok (.iconst 0, 1) := dk_3 (dk_at dksX0_isOn_0 13 rfl rfl)
theorem dX0_isOn_14 : decode cX0_isOn 14 = .ok (.ireturn, 1) := dk_172 (dk_at dksX0_isOn_0 14 rfl rfl)
abbrev cX0_sees : ByteArray := prog_1_method_22_code
def yX0_sees : MethodName := ⟨RX0, "sees", "(III)I"⟩
def dkwX0_sees_2 : List UInt8 := [182, 0, 156, 42, 180, 0, 52, 27, 28, 29, 182, 0, 175, 153, 0, 7, 4, 167, 0, 4, 3, 172]
abbrev dktX0_sees_2 : List UInt8 := dkwX0_sees_2 ++ []
def dkwX0_sees_1 : List UInt8 := [154, 0, 6, 16, 254, 172, 42, 180, 0, 52, 42, 180, 0, 41, 42, 180, 0, 45, 42, 180, 0, 113]
abbrev dktX0_sees_1 : List UInt8 := dkwX0_sees_1 ++ dktX0_sees_2
def dkwX0_sees_0 : List UInt8 := [42, 27, 182, 0, 162, 153, 0, 20, 42, 28, 133, 182, 0, 146, 153, 0, 11, 42, 29, 182, 0, 165]
abbrev dktX0_sees_0 : List UInt8 := dkwX0_sees_0 ++ dktX0_sees_1
theorem dksX0_sees_0 : cX0_sees.data.toList.drop 0 = dktX0_sees_0 := by decide +kernel
theorem dksX0_sees_1 : cX0_sees.data.toList.drop 22 = dktX0_sees_1 := dk_seg dksX0_sees_0 22 rfl rfl
theorem dksX0_sees_2 : cX0_sees.data.toList.drop 44 = dktX0_sees_2 := dk_seg dksX0_sees_1 22 rfl rfl
theorem dX0_sees_0 : decode cX0_sees 0 = .ok (.aload_n 0, 1) := dk_42 (dk_at dksX0_sees_0 0 rfl rfl)
theorem dX0_sees_1 : decode cX0_sees 1 = .ok (.iload_n 1, 1) := dk_27 (dk_at dksX0_sees_0 1 rfl rfl)
theorem dX0_sees_2 : decode cX0_sees 2 = .ok (.invokevirtual 162, 3) := dk_182 0 162 (dk_at dksX0_sees_0 2 rfl rfl)
theorem dX0_sees_5 : decode cX0_sees 5 = .ok (.ifCond .eq 20, 3) := dk_153 0 20 (dk_at dksX0_sees_0 5 rfl rfl)
theorem dX0_sees_8 : decode cX0_sees 8 = .ok (.aload_n 0, 1) := dk_42 (dk_at dksX0_sees_0 8 rfl rfl)
theorem dX0_sees_9 : decode cX0_sees 9 = .ok (.iload_n 2, 1) := dk_28 (dk_at dksX0_sees_0 9 rfl rfl)
theorem dX0_sees_10 : decode cX0_sees 10 = .ok (.i2l, 1) := dk_133 (dk_at dksX0_sees_0 10 rfl rfl)
theorem dX0_sees_11 : decode cX0_sees 11 = .ok (.invokevirtual 146, 3) := dk_182 0 146 (dk_at dksX0_sees_0 11 rfl rfl)
theorem dX0_sees_14 : decode cX0_sees 14 = .ok (.ifCond .eq 11, 3) := dk_153 0 11 (dk_at dksX0_sees_0 14 rfl rfl)
theorem dX0_sees_17 : decode cX0_sees 17 = .ok (.aload_n 0, 1) := dk_42 (dk_at dksX0_sees_0 17 rfl rfl)
theorem dX0_sees_18 : decode cX0_sees 18 = .ok (.iload_n 3, 1) := dk_29 (dk_at dksX0_sees_0 18 rfl rfl)
theorem dX0_sees_19 : decode cX0_sees 19 = .ok (.invokevirtual 165, 3) := dk_182 0 165 (dk_at dksX0_sees_0 19 rfl rfl)
theorem dX0_sees_22 : decode cX0_sees 22 = .ok (.ifCond .ne 6, 3) := dk_154 0 6 (dk_at dksX0_sees_1 0 rfl rfl)
theorem dX0_sees_25 : decode cX0_sees 25 = .ok (.bipush (-2), 2) := dk_16 254 (dk_at dksX0_sees_1 3 rfl rfl)
theorem dX0_sees_27 : decode cX0_sees 27 = .ok (.ireturn, 1) := dk_172 (dk_at dksX0_sees_1 5 rfl rfl)
theorem dX0_sees_28 : decode cX0_sees 28 = .ok (.aload_n 0, 1) := dk_42 (dk_at dksX0_sees_1 6 rfl rfl)
theorem dX0_sees_29 : decode cX0_sees 29 = .ok (.getfield 52, 3) := dk_180 0 52 (dk_at dksX0_sees_1 7 rfl rfl)
theorem dX0_sees_32 : decode cX0_sees 32 = .ok (.aload_n 0, 1) := dk_42 (dk_at dksX0_sees_1 10 rfl rfl)
theorem dX0_sees_33 : decode cX0_sees 33 = .ok (.getfield 41, 3) := dk_180 0 41 (dk_at dksX0_sees_1 11 rfl rfl)
theorem dX0_sees_36 : decode cX0_sees 36 = .ok (.aload_n 0, 1) := dk_42 (dk_at dksX0_sees_1 14 rfl rfl)
theorem dX0_sees_37 : decode cX0_sees 37 = .ok (.getfield 45, 3) := dk_180 0 45 (dk_at dksX0_sees_1 15 rfl rfl)
theorem dX0_sees_40 : decode cX0_sees 40 = .ok (.aload_n 0, 1) := dk_42 (dk_at dksX0_sees_1 18 rfl rfl)
theorem dX0_sees_41 : decode cX0_sees 41 = .ok (.getfield 113, 3) := dk_180 0 113 (dk_at dksX0_sees_1 19 rfl rfl)
theorem dX0_sees_44 : decode cX0_sees 44 = .ok (.invokevirtual 156, 3) := dk_182 0 156 (dk_at dksX0_sees_2 0 rfl rfl)
theorem dX0_sees_47 : decode cX0_sees 47 = .ok (.aload_n 0, 1) := dk_42 (dk_at dksX0_sees_2 3 rfl rfl)
theorem dX0_sees_48 : decode cX0_sees 48 = .ok (.getfield 52, 3) := dk_180 0 52 (dk_at dksX0_sees_2 4 rfl rfl)
theorem dX0_sees_51 : decode cX0_sees 51 = .ok (.iload_n 1, 1) := dk_27 (dk_at dksX0_sees_2 7 rfl rfl)
theorem dX0_sees_52 : decode cX0_sees 52 = .ok (.iload_n 2, 1) := dk_28 (dk_at dksX0_sees_2 8 rfl rfl)
theorem dX0_sees_53 : decode cX0_sees 53 = .ok (.iload_n 3, 1) := dk_29 (dk_at dksX0_sees_2 9 rfl rfl)
theorem dX0_sees_54 : decode cX0_sees 54 = .ok (.invokevirtual 175, 3) := dk_182 0 175 (dk_at dksX0_sees_2 10 rfl rfl)
theorem dX0_sees_57 : decode cX0_sees 57 = .ok (.ifCond .eq 7, 3) := dk_153 0 7 (dk_at dksX0_sees_2 13 rfl rfl)
theorem dX0_sees_60 : decode cX0_sees 60 = .ok (.iconst 1, 1) := dk_4 (dk_at dksX0_sees_2 16 rfl rfl)
theorem dX0_sees_61 : decode cX0_sees 61 = .ok (.goto 4, 3) := dk_167 0 4 (dk_at dksX0_sees_2 17 rfl rfl)
theorem dX0_sees_64 : decode cX0_sees 64 = .ok (.iconst 0, 1) := dk_3 (dk_at dksX0_sees_2 20 rfl rfl)
theorem dX0_sees_65 : decode cX0_sees 65 = .ok (.ireturn, 1) := dk_172 (dk_at dksX0_sees_2 21 rfl rfl)
abbrev cX0_isClock : ByteArray := prog_1_method_15_code
def yX0_isClock : MethodName := ⟨RX0, "isClock", "(J)Z"⟩
def dkwX0_isClock_0 : List UInt8 := [31, 9, 42, 182, 0, 135, 4, 100, 133, 184, 0, 5, 172]
abbrev dktX0_isClock_0 : List UInt8 := dkwX0_isClock_0 ++ []
theorem dksX0_isClock_0 : cX0_isClock.data.toList.drop 0 = dktX0_isClock_0 := by decide +kernel
theorem dX0_isClock_0 : decode cX0_isClock 0 = .ok (.lload_n 1, 1) := dk_31 (dk_at dksX0_isClock_0 0 rfl rfl)
theorem dX0_isClock_1 : decode cX0_isClock 1 = .ok (.lconst 0, 1) := dk_9 (dk_at dksX0_isClock_0 1 rfl rfl)
theorem dX0_isClock_2 : decode cX0_isClock 2 = .ok (.aload_n 0, 1) := dk_42 (dk_at dksX0_isClock_0 2 rfl rfl)
theorem dX0_isClock_3 : decode cX0_isClock 3 = .ok (.invokevirtual 135, 3) := dk_182 0 135 (dk_at dksX0_isClock_0 3 rfl rfl)
theorem dX0_isClock_6 : decode cX0_isClock 6 = .ok (.iconst 1, 1) := dk_4 (dk_at dksX0_isClock_0 6 rfl rfl)
theorem dX0_isClock_7 : decode cX0_isClock 7 = .ok (.isub, 1) := dk_100 (dk_at dksX0_isClock_0 7 rfl rfl)
theorem dX0_isClock_8 : decode cX0_isClock 8 = .ok (.i2l, 1) := dk_133 (dk_at dksX0_isClock_0 8 rfl rfl)
theorem dX0_isClock_9 : decode cX0_isClock 9 = .ok (.invokestatic 5, 3) := dk_184 0 5 (dk_at dksX0_isClock_0 9 rfl rfl)
theorem dX0_isClock_12 : decode cX0_isClock 12 = .ok (.ireturn, 1) := dk_172 (dk_at dksX0_isClock_0 12 rfl rfl)
abbrev cX0_clocks : ByteArray := prog_1_method_12_code
def yX0_clocks : MethodName := ⟨RX0, "clocks", "()I"⟩
def dkwX0_clocks_0 : List UInt8 := [42, 180, 0, 41, 180, 0, 95, 185, 0, 98, 1, 0, 172]
abbrev dktX0_clocks_0 : List UInt8 := dkwX0_clocks_0 ++ []
theorem dksX0_clocks_0 : cX0_clocks.data.toList.drop 0 = dktX0_clocks_0 := by decide +kernel
theorem dX0_clocks_0 : decode cX0_clocks 0 = .ok (.aload_n 0, 1) := dk_42 (dk_at dksX0_clocks_0 0 rfl rfl)
theorem dX0_clocks_1 : decode cX0_clocks 1 = .ok (.getfield 41, 3) := dk_180 0 41 (dk_at dksX0_clocks_0 1 rfl rfl)
theorem dX0_clocks_4 : decode cX0_clocks 4 = .ok (.getfield 95, 3) := dk_180 0 95 (dk_at dksX0_clocks_0 4 rfl rfl)
theorem dX0_clocks_7 : decode cX0_clocks 7 = .ok (.invokeinterface 98 1, 5) := by decide +kernel
theorem dX0_clocks_12 : decode cX0_clocks 12 = .ok (.ireturn, 1) := dk_172 (dk_at dksX0_clocks_0 12 rfl rfl)
abbrev cX0_looks : ByteArray := prog_1_method_23_code
def yX0_looks : MethodName := ⟨RX0, "looks", "(III)I"⟩
def dkwX0_looks_4 : List UInt8 := [4, 126, 172]
abbrev dktX0_looks_4 : List UInt8 := dkwX0_looks_4 ++ []
def dkwX0_looks_3 : List UInt8 := [160, 0, 5, 5, 172, 132, 4, 1, 167, 255, 215, 42, 180, 0, 52, 180, 0, 189, 27, 50, 29, 46, 28, 122]
abbrev dktX0_looks_3 : List UInt8 := dkwX0_looks_3 ++ dktX0_looks_4
def dkwX0_looks_2 : List UInt8 := [162, 0, 35, 42, 180, 0, 52, 180, 0, 186, 21, 4, 46, 16, 100, 29, 104, 16, 10, 27, 104, 96, 28, 96]
abbrev dktX0_looks_2 : List UInt8 := dkwX0_looks_2 ++ dktX0_looks_3
def dkwX0_looks_1 : List UInt8 := [154, 0, 6, 16, 254, 172, 42, 182, 0, 179, 87, 3, 54, 4, 21, 4, 42, 180, 0, 52, 180, 0, 183]
abbrev dktX0_looks_1 : List UInt8 := dkwX0_looks_1 ++ dktX0_looks_2
def dkwX0_looks_0 : List UInt8 := [42, 27, 182, 0, 162, 153, 0, 20, 42, 28, 133, 182, 0, 146, 153, 0, 11, 42, 29, 182, 0, 165]
abbrev dktX0_looks_0 : List UInt8 := dkwX0_looks_0 ++ dktX0_looks_1
theorem dksX0_looks_0 : cX0_looks.data.toList.drop 0 = dktX0_looks_0 := by decide +kernel
theorem dksX0_looks_1 : cX0_looks.data.toList.drop 22 = dktX0_looks_1 := dk_seg dksX0_looks_0 22 rfl rfl
theorem dksX0_looks_2 : cX0_looks.data.toList.drop 45 = dktX0_looks_2 := dk_seg dksX0_looks_1 23 rfl rfl
theorem dksX0_looks_3 : cX0_looks.data.toList.drop 69 = dktX0_looks_3 := dk_seg dksX0_looks_2 24 rfl rfl
theorem dksX0_looks_4 : cX0_looks.data.toList.drop 93 = dktX0_looks_4 := dk_seg dksX0_looks_3 24 rfl rfl
theorem dX0_looks_0 : decode cX0_looks 0 = .ok (.aload_n 0, 1) := dk_42 (dk_at dksX0_looks_0 0 rfl rfl)
theorem dX0_looks_1 : decode cX0_looks 1 = .ok (.iload_n 1, 1) := dk_27 (dk_at dksX0_looks_0 1 rfl rfl)
theorem dX0_looks_2 : decode cX0_looks 2 = .ok (.invokevirtual 162, 3) := dk_182 0 162 (dk_at dksX0_looks_0 2 rfl rfl)
theorem dX0_looks_5 : decode cX0_looks 5 = .ok (.ifCond .eq 20, 3) := dk_153 0 20 (dk_at dksX0_looks_0 5 rfl rfl)
theorem dX0_looks_8 : decode cX0_looks 8 = .ok (.aload_n 0, 1) := dk_42 (dk_at dksX0_looks_0 8 rfl rfl)
theorem dX0_looks_9 : decode cX0_looks 9 = .ok (.iload_n 2, 1) := dk_28 (dk_at dksX0_looks_0 9 rfl rfl)
theorem dX0_looks_10 : decode cX0_looks 10 = .ok (.i2l, 1) := dk_133 (dk_at dksX0_looks_0 10 rfl rfl)
theorem dX0_looks_11 : decode cX0_looks 11 = .ok (.invokevirtual 146, 3) := dk_182 0 146 (dk_at dksX0_looks_0 11 rfl rfl)
theorem dX0_looks_14 : decode cX0_looks 14 = .ok (.ifCond .eq 11, 3) := dk_153 0 11 (dk_at dksX0_looks_0 14 rfl rfl)
theorem dX0_looks_17 : decode cX0_looks 17 = .ok (.aload_n 0, 1) := dk_42 (dk_at dksX0_looks_0 17 rfl rfl)
theorem dX0_looks_18 : decode cX0_looks 18 = .ok (.iload_n 3, 1) := dk_29 (dk_at dksX0_looks_0 18 rfl rfl)
theorem dX0_looks_19 : decode cX0_looks 19 = .ok (.invokevirtual 165, 3) := dk_182 0 165 (dk_at dksX0_looks_0 19 rfl rfl)
theorem dX0_looks_22 : decode cX0_looks 22 = .ok (.ifCond .ne 6, 3) := dk_154 0 6 (dk_at dksX0_looks_1 0 rfl rfl)
theorem dX0_looks_25 : decode cX0_looks 25 = .ok (.bipush (-2), 2) := dk_16 254 (dk_at dksX0_looks_1 3 rfl rfl)
theorem dX0_looks_27 : decode cX0_looks 27 = .ok (.ireturn, 1) := dk_172 (dk_at dksX0_looks_1 5 rfl rfl)
theorem dX0_looks_28 : decode cX0_looks 28 = .ok (.aload_n 0, 1) := dk_42 (dk_at dksX0_looks_1 6 rfl rfl)
theorem dX0_looks_29 : decode cX0_looks 29 = .ok (.invokevirtual 179, 3) := dk_182 0 179 (dk_at dksX0_looks_1 7 rfl rfl)
theorem dX0_looks_32 : decode cX0_looks 32 = .ok (.pop, 1) := dk_87 (dk_at dksX0_looks_1 10 rfl rfl)
theorem dX0_looks_33 : decode cX0_looks 33 = .ok (.iconst 0, 1) := dk_3 (dk_at dksX0_looks_1 11 rfl rfl)
theorem dX0_looks_34 : decode cX0_looks 34 = .ok (.istore 4, 2) := dk_54 4 (dk_at dksX0_looks_1 12 rfl rfl)
theorem dX0_looks_36 : decode cX0_looks 36 = .ok (.iload 4, 2) := dk_21 4 (dk_at dksX0_looks_1 14 rfl rfl)
theorem dX0_looks_38 : decode cX0_looks 38 = .ok (.aload_n 0, 1) := dk_42 (dk_at dksX0_looks_1 16 rfl rfl)
theorem dX0_looks_39 : decode cX0_looks 39 = .ok (.getfield 52, 3) := dk_180 0 52 (dk_at dksX0_looks_1 17 rfl rfl)
theorem dX0_looks_42 : decode cX0_looks 42 = .ok (.getfield 183, 3) := dk_180 0 183 (dk_at dksX0_looks_1 20 rfl rfl)
theorem dX0_looks_45 : decode cX0_looks 45 = .ok (.if_icmp .ge 35, 3) := dk_162 0 35 (dk_at dksX0_looks_2 0 rfl rfl)
theorem dX0_looks_48 : decode cX0_looks 48 = .ok (.aload_n 0, 1) := dk_42 (dk_at dksX0_looks_2 3 rfl rfl)
theorem dX0_looks_49 : decode cX0_looks 49 = .ok (.getfield 52, 3) := dk_180 0 52 (dk_at dksX0_looks_2 4 rfl rfl)
theorem dX0_looks_52 : decode cX0_looks 52 = .ok (.getfield 186, 3) := dk_180 0 186 (dk_at dksX0_looks_2 7 rfl rfl)
theorem dX0_looks_55 : decode cX0_looks 55 = .ok (.iload 4, 2) := dk_21 4 (dk_at dksX0_looks_2 10 rfl rfl)
theorem dX0_looks_57 : decode cX0_looks 57 = .ok (.iaload, 1) := dk_46 (dk_at dksX0_looks_2 12 rfl rfl)
theorem dX0_looks_58 : decode cX0_looks 58 = .ok (.bipush 100, 2) := dk_16 100 (dk_at dksX0_looks_2 13 rfl rfl)
theorem dX0_looks_60 : decode cX0_looks 60 = .ok (.iload_n 3, 1) := dk_29 (dk_at dksX0_looks_2 15 rfl rfl)
theorem dX0_looks_61 : decode cX0_looks 61 = .ok (.imul, 1) := dk_104 (dk_at dksX0_looks_2 16 rfl rfl)
theorem dX0_looks_62 : decode cX0_looks 62 = .ok (.bipush 10, 2) := dk_16 10 (dk_at dksX0_looks_2 17 rfl rfl)
theorem dX0_looks_64 : decode cX0_looks 64 = .ok (.iload_n 1, 1) := dk_27 (dk_at dksX0_looks_2 19 rfl rfl)
theorem dX0_looks_65 : decode cX0_looks 65 = .ok (.imul, 1) := dk_104 (dk_at dksX0_looks_2 20 rfl rfl)
theorem dX0_looks_66 : decode cX0_looks 66 = .ok (.iadd, 1) := dk_96 (dk_at dksX0_looks_2 21 rfl rfl)
theorem dX0_looks_67 : decode cX0_looks 67 = .ok (.iload_n 2, 1) := dk_28 (dk_at dksX0_looks_2 22 rfl rfl)
theorem dX0_looks_68 : decode cX0_looks 68 = .ok (.iadd, 1) := dk_96 (dk_at dksX0_looks_2 23 rfl rfl)
theorem dX0_looks_69 : decode cX0_looks 69 = .ok (.if_icmp .ne 5, 3) := dk_160 0 5 (dk_at dksX0_looks_3 0 rfl rfl)
theorem dX0_looks_72 : decode cX0_looks 72 = .ok (.iconst 2, 1) := dk_5 (dk_at dksX0_looks_3 3 rfl rfl)
theorem dX0_looks_73 : decode cX0_looks 73 = .ok (.ireturn, 1) := dk_172 (dk_at dksX0_looks_3 4 rfl rfl)
theorem dX0_looks_74 : decode cX0_looks 74 = .ok (.iinc 4 1, 3) := dk_132 4 1 (dk_at dksX0_looks_3 5 rfl rfl)
theorem dX0_looks_77 : decode cX0_looks 77 = .ok (.goto (-41), 3) := dk_167 255 215 (dk_at dksX0_looks_3 8 rfl rfl)
theorem dX0_looks_80 : decode cX0_looks 80 = .ok (.aload_n 0, 1) := dk_42 (dk_at dksX0_looks_3 11 rfl rfl)
theorem dX0_looks_81 : decode cX0_looks 81 = .ok (.getfield 52, 3) := dk_180 0 52 (dk_at dksX0_looks_3 12 rfl rfl)
theorem dX0_looks_84 : decode cX0_looks 84 = .ok (.getfield 189, 3) := dk_180 0 189 (dk_at dksX0_looks_3 15 rfl rfl)
theorem dX0_looks_87 : decode cX0_looks 87 = .ok (.iload_n 1, 1) := dk_27 (dk_at dksX0_looks_3 18 rfl rfl)
theorem dX0_looks_88 : decode cX0_looks 88 = .ok (.aaload, 1) := dk_50 (dk_at dksX0_looks_3 19 rfl rfl)
theorem dX0_looks_89 : decode cX0_looks 89 = .ok (.iload_n 3, 1) := dk_29 (dk_at dksX0_looks_3 20 rfl rfl)
theorem dX0_looks_90 : decode cX0_looks 90 = .ok (.iaload, 1) := dk_46 (dk_at dksX0_looks_3 21 rfl rfl)
theorem dX0_looks_91 : decode cX0_looks 91 = .ok (.iload_n 2, 1) := dk_28 (dk_at dksX0_looks_3 22 rfl rfl)
theorem dX0_looks_92 : decode cX0_looks 92 = .ok (.ishr, 1) := dk_122 (dk_at dksX0_looks_3 23 rfl rfl)
theorem dX0_looks_93 : decode cX0_looks 93 = .ok (.iconst 1, 1) := dk_4 (dk_at dksX0_looks_4 0 rfl rfl)
theorem dX0_looks_94 : decode cX0_looks 94 = .ok (.iand, 1) := dk_126 (dk_at dksX0_looks_4 1 rfl rfl)
theorem dX0_looks_95 : decode cX0_looks 95 = .ok (.ireturn, 1) := dk_172 (dk_at dksX0_looks_4 2 rfl rfl)
abbrev cX0_plain : ByteArray := prog_1_method_20_code
def yX0_plain : MethodName := ⟨RX0, "plain", "()LUnseenClock$Course;"⟩
def dkwX0_plain_1 : List UInt8 := [182, 0, 159, 42, 180, 0, 52, 176]
abbrev dktX0_plain_1 : List UInt8 := dkwX0_plain_1 ++ []
def dkwX0_plain_0 : List UInt8 := [42, 180, 0, 52, 42, 180, 0, 41, 42, 180, 0, 45, 42, 180, 0, 113, 182, 0, 156, 42, 180, 0, 52]
abbrev dktX0_plain_0 : List UInt8 := dkwX0_plain_0 ++ dktX0_plain_1
theorem dksX0_plain_0 : cX0_plain.data.toList.drop 0 = dktX0_plain_0 := by decide +kernel
theorem dksX0_plain_1 : cX0_plain.data.toList.drop 23 = dktX0_plain_1 := dk_seg dksX0_plain_0 23 rfl rfl
theorem dX0_plain_0 : decode cX0_plain 0 = .ok (.aload_n 0, 1) := dk_42 (dk_at dksX0_plain_0 0 rfl rfl)
theorem dX0_plain_1 : decode cX0_plain 1 = .ok (.getfield 52, 3) := dk_180 0 52 (dk_at dksX0_plain_0 1 rfl rfl)
theorem dX0_plain_4 : decode cX0_plain 4 = .ok (.aload_n 0, 1) := dk_42 (dk_at dksX0_plain_0 4 rfl rfl)
theorem dX0_plain_5 : decode cX0_plain 5 = .ok (.getfield 41, 3) := dk_180 0 41 (dk_at dksX0_plain_0 5 rfl rfl)
theorem dX0_plain_8 : decode cX0_plain 8 = .ok (.aload_n 0, 1) := dk_42 (dk_at dksX0_plain_0 8 rfl rfl)
theorem dX0_plain_9 : decode cX0_plain 9 = .ok (.getfield 45, 3) := dk_180 0 45 (dk_at dksX0_plain_0 9 rfl rfl)
theorem dX0_plain_12 : decode cX0_plain 12 = .ok (.aload_n 0, 1) := dk_42 (dk_at dksX0_plain_0 12 rfl rfl)
theorem dX0_plain_13 : decode cX0_plain 13 = .ok (.getfield 113, 3) := dk_180 0 113 (dk_at dksX0_plain_0 13 rfl rfl)
theorem dX0_plain_16 : decode cX0_plain 16 = .ok (.invokevirtual 156, 3) := dk_182 0 156 (dk_at dksX0_plain_0 16 rfl rfl)
theorem dX0_plain_19 : decode cX0_plain 19 = .ok (.aload_n 0, 1) := dk_42 (dk_at dksX0_plain_0 19 rfl rfl)
theorem dX0_plain_20 : decode cX0_plain 20 = .ok (.getfield 52, 3) := dk_180 0 52 (dk_at dksX0_plain_0 20 rfl rfl)
theorem dX0_plain_23 : decode cX0_plain 23 = .ok (.invokevirtual 159, 3) := dk_182 0 159 (dk_at dksX0_plain_1 0 rfl rfl)
theorem dX0_plain_26 : decode cX0_plain 26 = .ok (.aload_n 0, 1) := dk_42 (dk_at dksX0_plain_1 3 rfl rfl)
theorem dX0_plain_27 : decode cX0_plain 27 = .ok (.getfield 52, 3) := dk_180 0 52 (dk_at dksX0_plain_1 4 rfl rfl)
theorem dX0_plain_30 : decode cX0_plain 30 = .ok (.areturn, 1) := dk_176 (dk_at dksX0_plain_1 7 rfl rfl)
abbrev cX0_eyes : ByteArray := prog_1_method_24_code
def yX0_eyes : MethodName := ⟨RX0, "eyes", "(II)I"⟩
def dkwX0_eyes_1 : List UInt8 := [182, 0, 192, 167, 0, 5, 16, 254, 172]
abbrev dktX0_eyes_1 : List UInt8 := dkwX0_eyes_1 ++ []
def dkwX0_eyes_0 : List UInt8 := [42, 27, 133, 182, 0, 146, 153, 0, 23, 42, 28, 182, 0, 165, 153, 0, 15, 42, 182, 0, 179, 27, 28]
abbrev dktX0_eyes_0 : List UInt8 := dkwX0_eyes_0 ++ dktX0_eyes_1
theorem dksX0_eyes_0 : cX0_eyes.data.toList.drop 0 = dktX0_eyes_0 := by decide +kernel
theorem dksX0_eyes_1 : cX0_eyes.data.toList.drop 23 = dktX0_eyes_1 := dk_seg dksX0_eyes_0 23 rfl rfl
theorem dX0_eyes_0 : decode cX0_eyes 0 = .ok (.aload_n 0, 1) := dk_42 (dk_at dksX0_eyes_0 0 rfl rfl)
theorem dX0_eyes_1 : decode cX0_eyes 1 = .ok (.iload_n 1, 1) := dk_27 (dk_at dksX0_eyes_0 1 rfl rfl)
theorem dX0_eyes_2 : decode cX0_eyes 2 = .ok (.i2l, 1) := dk_133 (dk_at dksX0_eyes_0 2 rfl rfl)
theorem dX0_eyes_3 : decode cX0_eyes 3 = .ok (.invokevirtual 146, 3) := dk_182 0 146 (dk_at dksX0_eyes_0 3 rfl rfl)
theorem dX0_eyes_6 : decode cX0_eyes 6 = .ok (.ifCond .eq 23, 3) := dk_153 0 23 (dk_at dksX0_eyes_0 6 rfl rfl)
theorem dX0_eyes_9 : decode cX0_eyes 9 = .ok (.aload_n 0, 1) := dk_42 (dk_at dksX0_eyes_0 9 rfl rfl)
theorem dX0_eyes_10 : decode cX0_eyes 10 = .ok (.iload_n 2, 1) := dk_28 (dk_at dksX0_eyes_0 10 rfl rfl)
theorem dX0_eyes_11 : decode cX0_eyes 11 = .ok (.invokevirtual 165, 3) := dk_182 0 165 (dk_at dksX0_eyes_0 11 rfl rfl)
theorem dX0_eyes_14 : decode cX0_eyes 14 = .ok (.ifCond .eq 15, 3) := dk_153 0 15 (dk_at dksX0_eyes_0 14 rfl rfl)
theorem dX0_eyes_17 : decode cX0_eyes 17 = .ok (.aload_n 0, 1) := dk_42 (dk_at dksX0_eyes_0 17 rfl rfl)
theorem dX0_eyes_18 : decode cX0_eyes 18 = .ok (.invokevirtual 179, 3) := dk_182 0 179 (dk_at dksX0_eyes_0 18 rfl rfl)
theorem dX0_eyes_21 : decode cX0_eyes 21 = .ok (.iload_n 1, 1) := dk_27 (dk_at dksX0_eyes_0 21 rfl rfl)
theorem dX0_eyes_22 : decode cX0_eyes 22 = .ok (.iload_n 2, 1) := dk_28 (dk_at dksX0_eyes_0 22 rfl rfl)
theorem dX0_eyes_23 : decode cX0_eyes 23 = .ok (.invokevirtual 192, 3) := dk_182 0 192 (dk_at dksX0_eyes_1 0 rfl rfl)
theorem dX0_eyes_26 : decode cX0_eyes 26 = .ok (.goto 5, 3) := dk_167 0 5 (dk_at dksX0_eyes_1 3 rfl rfl)
theorem dX0_eyes_29 : decode cX0_eyes 29 = .ok (.bipush (-2), 2) := dk_16 254 (dk_at dksX0_eyes_1 6 rfl rfl)
theorem dX0_eyes_31 : decode cX0_eyes 31 = .ok (.ireturn, 1) := dk_172 (dk_at dksX0_eyes_1 8 rfl rfl)
abbrev cX0_shows : ByteArray := prog_1_method_25_code
def yX0_shows : MethodName := ⟨RX0, "shows", "(II)I"⟩
def dkwX0_shows_1 : List UInt8 := [180, 0, 196, 27, 50, 28, 46, 167, 0, 5, 16, 254, 172]
abbrev dktX0_shows_1 : List UInt8 := dkwX0_shows_1 ++ []
def dkwX0_shows_0 : List UInt8 := [42, 27, 133, 182, 0, 146, 153, 0, 26, 42, 28, 133, 182, 0, 150, 153, 0, 17, 42, 182, 0, 179]
abbrev dktX0_shows_0 : List UInt8 := dkwX0_shows_0 ++ dktX0_shows_1
theorem dksX0_shows_0 : cX0_shows.data.toList.drop 0 = dktX0_shows_0 := by decide +kernel
theorem dksX0_shows_1 : cX0_shows.data.toList.drop 22 = dktX0_shows_1 := dk_seg dksX0_shows_0 22 rfl rfl
theorem dX0_shows_0 : decode cX0_shows 0 = .ok (.aload_n 0, 1) := dk_42 (dk_at dksX0_shows_0 0 rfl rfl)
theorem dX0_shows_1 : decode cX0_shows 1 = .ok (.iload_n 1, 1) := dk_27 (dk_at dksX0_shows_0 1 rfl rfl)
theorem dX0_shows_2 : decode cX0_shows 2 = .ok (.i2l, 1) := dk_133 (dk_at dksX0_shows_0 2 rfl rfl)
theorem dX0_shows_3 : decode cX0_shows 3 = .ok (.invokevirtual 146, 3) := dk_182 0 146 (dk_at dksX0_shows_0 3 rfl rfl)
theorem dX0_shows_6 : decode cX0_shows 6 = .ok (.ifCond .eq 26, 3) := dk_153 0 26 (dk_at dksX0_shows_0 6 rfl rfl)
theorem dX0_shows_9 : decode cX0_shows 9 = .ok (.aload_n 0, 1) := dk_42 (dk_at dksX0_shows_0 9 rfl rfl)
theorem dX0_shows_10 : decode cX0_shows 10 = .ok (.iload_n 2, 1) := dk_28 (dk_at dksX0_shows_0 10 rfl rfl)
theorem dX0_shows_11 : decode cX0_shows 11 = .ok (.i2l, 1) := dk_133 (dk_at dksX0_shows_0 11 rfl rfl)
theorem dX0_shows_12 : decode cX0_shows 12 = .ok (.invokevirtual 150, 3) := dk_182 0 150 (dk_at dksX0_shows_0 12 rfl rfl)
theorem dX0_shows_15 : decode cX0_shows 15 = .ok (.ifCond .eq 17, 3) := dk_153 0 17 (dk_at dksX0_shows_0 15 rfl rfl)
theorem dX0_shows_18 : decode cX0_shows 18 = .ok (.aload_n 0, 1) := dk_42 (dk_at dksX0_shows_0 18 rfl rfl)
theorem dX0_shows_19 : decode cX0_shows 19 = .ok (.invokevirtual 179, 3) := dk_182 0 179 (dk_at dksX0_shows_0 19 rfl rfl)
theorem dX0_shows_22 : decode cX0_shows 22 = .ok (.getfield 196, 3) := dk_180 0 196 (dk_at dksX0_shows_1 0 rfl rfl)
theorem dX0_shows_25 : decode cX0_shows 25 = .ok (.iload_n 1, 1) := dk_27 (dk_at dksX0_shows_1 3 rfl rfl)
theorem dX0_shows_26 : decode cX0_shows 26 = .ok (.aaload, 1) := dk_50 (dk_at dksX0_shows_1 4 rfl rfl)
theorem dX0_shows_27 : decode cX0_shows 27 = .ok (.iload_n 2, 1) := dk_28 (dk_at dksX0_shows_1 5 rfl rfl)
theorem dX0_shows_28 : decode cX0_shows 28 = .ok (.iaload, 1) := dk_46 (dk_at dksX0_shows_1 6 rfl rfl)
theorem dX0_shows_29 : decode cX0_shows 29 = .ok (.goto 5, 3) := dk_167 0 5 (dk_at dksX0_shows_1 7 rfl rfl)
theorem dX0_shows_32 : decode cX0_shows 32 = .ok (.bipush (-2), 2) := dk_16 254 (dk_at dksX0_shows_1 10 rfl rfl)
theorem dX0_shows_34 : decode cX0_shows 34 = .ok (.ireturn, 1) := dk_172 (dk_at dksX0_shows_1 12 rfl rfl)
abbrev cX0_isMoment : ByteArray := prog_1_method_17_code
def yX0_isMoment : MethodName := ⟨RX0, "isMoment", "(J)Z"⟩
def dkwX0_isMoment_1 : List UInt8 := [153, 0, 7, 4, 167, 0, 4, 3, 172]
abbrev dktX0_isMoment_1 : List UInt8 := dkwX0_isMoment_1 ++ []
def dkwX0_isMoment_0 : List UInt8 := [42, 180, 0, 41, 182, 0, 140, 153, 0, 23, 31, 9, 42, 180, 0, 41, 180, 0, 137, 133, 184, 0, 5]
abbrev dktX0_isMoment_0 : List UInt8 := dkwX0_isMoment_0 ++ dktX0_isMoment_1
theorem dksX0_isMoment_0 : cX0_isMoment.data.toList.drop 0 = dktX0_isMoment_0 := by decide +kernel
theorem dksX0_isMoment_1 : cX0_isMoment.data.toList.drop 23 = dktX0_isMoment_1 := dk_seg dksX0_isMoment_0 23 rfl rfl
theorem dX0_isMoment_0 : decode cX0_isMoment 0 = .ok (.aload_n 0, 1) := dk_42 (dk_at dksX0_isMoment_0 0 rfl rfl)
theorem dX0_isMoment_1 : decode cX0_isMoment 1 = .ok (.getfield 41, 3) := dk_180 0 41 (dk_at dksX0_isMoment_0 1 rfl rfl)
theorem dX0_isMoment_4 : decode cX0_isMoment 4 = .ok (.invokevirtual 140, 3) := dk_182 0 140 (dk_at dksX0_isMoment_0 4 rfl rfl)
theorem dX0_isMoment_7 : decode cX0_isMoment 7 = .ok (.ifCond .eq 23, 3) := dk_153 0 23 (dk_at dksX0_isMoment_0 7 rfl rfl)
theorem dX0_isMoment_10 : decode cX0_isMoment 10 = .ok (.lload_n 1, 1) := dk_31 (dk_at dksX0_isMoment_0 10 rfl rfl)
theorem dX0_isMoment_11 : decode cX0_isMoment 11 = .ok (.lconst 0, 1) := dk_9 (dk_at dksX0_isMoment_0 11 rfl rfl)
theorem dX0_isMoment_12 : decode cX0_isMoment 12 = .ok (.aload_n 0, 1) := dk_42 (dk_at dksX0_isMoment_0 12 rfl rfl)
theorem dX0_isMoment_13 : decode cX0_isMoment 13 = .ok (.getfield 41, 3) := dk_180 0 41 (dk_at dksX0_isMoment_0 13 rfl rfl)
theorem dX0_isMoment_16 : decode cX0_isMoment 16 = .ok (.getfield 137, 3) := dk_180 0 137 (dk_at dksX0_isMoment_0 16 rfl rfl)
theorem dX0_isMoment_19 : decode cX0_isMoment 19 = .ok (.i2l, 1) := dk_133 (dk_at dksX0_isMoment_0 19 rfl rfl)
theorem dX0_isMoment_20 : decode cX0_isMoment 20 = .ok (.invokestatic 5, 3) := dk_184 0 5 (dk_at dksX0_isMoment_0 20 rfl rfl)
theorem dX0_isMoment_23 : decode cX0_isMoment 23 = .ok (.ifCond .eq 7, 3) := dk_153 0 7 (dk_at dksX0_isMoment_1 0 rfl rfl)
theorem dX0_isMoment_26 : decode cX0_isMoment 26 = .ok (.iconst 1, 1) := dk_4 (dk_at dksX0_isMoment_1 3 rfl rfl)
theorem dX0_isMoment_27 : decode cX0_isMoment 27 = .ok (.goto 4, 3) := dk_167 0 4 (dk_at dksX0_isMoment_1 4 rfl rfl)
theorem dX0_isMoment_30 : decode cX0_isMoment 30 = .ok (.iconst 0, 1) := dk_3 (dk_at dksX0_isMoment_1 7 rfl rfl)
theorem dX0_isMoment_31 : decode cX0_isMoment 31 = .ok (.ireturn, 1) := dk_172 (dk_at dksX0_isMoment_1 8 rfl rfl)
abbrev cX0_value : ByteArray := prog_1_method_26_code
def yX0_value : MethodName := ⟨RX0, "value", "(III)I"⟩
def dkwX0_value_4 : List UInt8 := [21, 4, 172]
abbrev dktX0_value_4 : List UInt8 := dkwX0_value_4 ++ []
def dkwX0_value_3 : List UInt8 := [154, 0, 11, 21, 5, 21, 4, 108, 167, 0, 18, 29, 4, 160, 0, 11, 21, 5, 21, 4, 112, 167, 0, 5]
abbrev dktX0_value_3 : List UInt8 := dkwX0_value_3 ++ dktX0_value_4
def dkwX0_value_2 : List UInt8 := [192, 0, 108, 180, 0, 201, 54, 4, 42, 182, 0, 179, 180, 0, 204, 27, 50, 28, 46, 54, 5, 29]
abbrev dktX0_value_2 : List UInt8 := dkwX0_value_2 ++ dktX0_value_3
def dkwX0_value_1 : List UInt8 := [184, 0, 5, 154, 0, 6, 16, 254, 172, 42, 180, 0, 41, 180, 0, 95, 27, 185, 0, 104, 2, 0]
abbrev dktX0_value_1 : List UInt8 := dkwX0_value_1 ++ dktX0_value_2
def dkwX0_value_0 : List UInt8 := [42, 27, 133, 182, 0, 146, 153, 0, 24, 42, 28, 133, 182, 0, 150, 153, 0, 15, 29, 133, 9, 20, 0, 199]
abbrev dktX0_value_0 : List UInt8 := dkwX0_value_0 ++ dktX0_value_1
theorem dksX0_value_0 : cX0_value.data.toList.drop 0 = dktX0_value_0 := by decide +kernel
theorem dksX0_value_1 : cX0_value.data.toList.drop 24 = dktX0_value_1 := dk_seg dksX0_value_0 24 rfl rfl
theorem dksX0_value_2 : cX0_value.data.toList.drop 46 = dktX0_value_2 := dk_seg dksX0_value_1 22 rfl rfl
theorem dksX0_value_3 : cX0_value.data.toList.drop 68 = dktX0_value_3 := dk_seg dksX0_value_2 22 rfl rfl
theorem dksX0_value_4 : cX0_value.data.toList.drop 92 = dktX0_value_4 := dk_seg dksX0_value_3 24 rfl rfl
theorem dX0_value_0 : decode cX0_value 0 = .ok (.aload_n 0, 1) := dk_42 (dk_at dksX0_value_0 0 rfl rfl)
theorem dX0_value_1 : decode cX0_value 1 = .ok (.iload_n 1, 1) := dk_27 (dk_at dksX0_value_0 1 rfl rfl)
theorem dX0_value_2 : decode cX0_value 2 = .ok (.i2l, 1) := dk_133 (dk_at dksX0_value_0 2 rfl rfl)
theorem dX0_value_3 : decode cX0_value 3 = .ok (.invokevirtual 146, 3) := dk_182 0 146 (dk_at dksX0_value_0 3 rfl rfl)
theorem dX0_value_6 : decode cX0_value 6 = .ok (.ifCond .eq 24, 3) := dk_153 0 24 (dk_at dksX0_value_0 6 rfl rfl)
theorem dX0_value_9 : decode cX0_value 9 = .ok (.aload_n 0, 1) := dk_42 (dk_at dksX0_value_0 9 rfl rfl)
theorem dX0_value_10 : decode cX0_value 10 = .ok (.iload_n 2, 1) := dk_28 (dk_at dksX0_value_0 10 rfl rfl)
theorem dX0_value_11 : decode cX0_value 11 = .ok (.i2l, 1) := dk_133 (dk_at dksX0_value_0 11 rfl rfl)
theorem dX0_value_12 : decode cX0_value 12 = .ok (.invokevirtual 150, 3) := dk_182 0 150 (dk_at dksX0_value_0 12 rfl rfl)
theorem dX0_value_15 : decode cX0_value 15 = .ok (.ifCond .eq 15, 3) := dk_153 0 15 (dk_at dksX0_value_0 15 rfl rfl)
theorem dX0_value_18 : decode cX0_value 18 = .ok (.iload_n 3, 1) := dk_29 (dk_at dksX0_value_0 18 rfl rfl)
theorem dX0_value_19 : decode cX0_value 19 = .ok (.i2l, 1) := dk_133 (dk_at dksX0_value_0 19 rfl rfl)
theorem dX0_value_20 : decode cX0_value 20 = .ok (.lconst 0, 1) := dk_9 (dk_at dksX0_value_0 20 rfl rfl)
theorem dX0_value_21 : decode cX0_value 21 = .ok (.ldc2_w 199, 3) := dk_20 0 199 (dk_at dksX0_value_0 21 rfl rfl)
theorem dX0_value_24 : decode cX0_value 24 = .ok (.invokestatic 5, 3) := dk_184 0 5 (dk_at dksX0_value_1 0 rfl rfl)
theorem dX0_value_27 : decode cX0_value 27 = .ok (.ifCond .ne 6, 3) := dk_154 0 6 (dk_at dksX0_value_1 3 rfl rfl)
theorem dX0_value_30 : decode cX0_value 30 = .ok (.bipush (-2), 2) := dk_16 254 (dk_at dksX0_value_1 6 rfl rfl)
theorem dX0_value_32 : decode cX0_value 32 = .ok (.ireturn, 1) := dk_172 (dk_at dksX0_value_1 8 rfl rfl)
theorem dX0_value_33 : decode cX0_value 33 = .ok (.aload_n 0, 1) := dk_42 (dk_at dksX0_value_1 9 rfl rfl)
theorem dX0_value_34 : decode cX0_value 34 = .ok (.getfield 41, 3) := dk_180 0 41 (dk_at dksX0_value_1 10 rfl rfl)
theorem dX0_value_37 : decode cX0_value 37 = .ok (.getfield 95, 3) := dk_180 0 95 (dk_at dksX0_value_1 13 rfl rfl)
theorem dX0_value_40 : decode cX0_value 40 = .ok (.iload_n 1, 1) := dk_27 (dk_at dksX0_value_1 16 rfl rfl)
theorem dX0_value_41 : decode cX0_value 41 = .ok (.invokeinterface 104 2, 5) := by decide +kernel
theorem dX0_value_46 : decode cX0_value 46 = .ok (.checkcast 108, 3) := dk_192 0 108 (dk_at dksX0_value_2 0 rfl rfl)
theorem dX0_value_49 : decode cX0_value 49 = .ok (.getfield 201, 3) := dk_180 0 201 (dk_at dksX0_value_2 3 rfl rfl)
theorem dX0_value_52 : decode cX0_value 52 = .ok (.istore 4, 2) := dk_54 4 (dk_at dksX0_value_2 6 rfl rfl)
theorem dX0_value_54 : decode cX0_value 54 = .ok (.aload_n 0, 1) := dk_42 (dk_at dksX0_value_2 8 rfl rfl)
theorem dX0_value_55 : decode cX0_value 55 = .ok (.invokevirtual 179, 3) := dk_182 0 179 (dk_at dksX0_value_2 9 rfl rfl)
theorem dX0_value_58 : decode cX0_value 58 = .ok (.getfield 204, 3) := dk_180 0 204 (dk_at dksX0_value_2 12 rfl rfl)
theorem dX0_value_61 : decode cX0_value 61 = .ok (.iload_n 1, 1) := dk_27 (dk_at dksX0_value_2 15 rfl rfl)
theorem dX0_value_62 : decode cX0_value 62 = .ok (.aaload, 1) := dk_50 (dk_at dksX0_value_2 16 rfl rfl)
theorem dX0_value_63 : decode cX0_value 63 = .ok (.iload_n 2, 1) := dk_28 (dk_at dksX0_value_2 17 rfl rfl)
theorem dX0_value_64 : decode cX0_value 64 = .ok (.iaload, 1) := dk_46 (dk_at dksX0_value_2 18 rfl rfl)
theorem dX0_value_65 : decode cX0_value 65 = .ok (.istore 5, 2) := dk_54 5 (dk_at dksX0_value_2 19 rfl rfl)
theorem dX0_value_67 : decode cX0_value 67 = .ok (.iload_n 3, 1) := dk_29 (dk_at dksX0_value_2 21 rfl rfl)
theorem dX0_value_68 : decode cX0_value 68 = .ok (.ifCond .ne 11, 3) := dk_154 0 11 (dk_at dksX0_value_3 0 rfl rfl)
theorem dX0_value_71 : decode cX0_value 71 = .ok (.iload 5, 2) := dk_21 5 (dk_at dksX0_value_3 3 rfl rfl)
theorem dX0_value_73 : decode cX0_value 73 = .ok (.iload 4, 2) := dk_21 4 (dk_at dksX0_value_3 5 rfl rfl)
theorem dX0_value_75 : decode cX0_value 75 = .ok (.idiv, 1) := dk_108 (dk_at dksX0_value_3 7 rfl rfl)
theorem dX0_value_76 : decode cX0_value 76 = .ok (.goto 18, 3) := dk_167 0 18 (dk_at dksX0_value_3 8 rfl rfl)
theorem dX0_value_79 : decode cX0_value 79 = .ok (.iload_n 3, 1) := dk_29 (dk_at dksX0_value_3 11 rfl rfl)
theorem dX0_value_80 : decode cX0_value 80 = .ok (.iconst 1, 1) := dk_4 (dk_at dksX0_value_3 12 rfl rfl)
theorem dX0_value_81 : decode cX0_value 81 = .ok (.if_icmp .ne 11, 3) := dk_160 0 11 (dk_at dksX0_value_3 13 rfl rfl)
theorem dX0_value_84 : decode cX0_value 84 = .ok (.iload 5, 2) := dk_21 5 (dk_at dksX0_value_3 16 rfl rfl)
theorem dX0_value_86 : decode cX0_value 86 = .ok (.iload 4, 2) := dk_21 4 (dk_at dksX0_value_3 18 rfl rfl)
theorem dX0_value_88 : decode cX0_value 88 = .ok (.irem, 1) := dk_112 (dk_at dksX0_value_3 20 rfl rfl)
theorem dX0_value_89 : decode cX0_value 89 = .ok (.goto 5, 3) := dk_167 0 5 (dk_at dksX0_value_3 21 rfl rfl)
theorem dX0_value_92 : decode cX0_value 92 = .ok (.iload 4, 2) := dk_21 4 (dk_at dksX0_value_4 0 rfl rfl)
theorem dX0_value_94 : decode cX0_value 94 = .ok (.ireturn, 1) := dk_172 (dk_at dksX0_value_4 2 rfl rfl)
abbrev cX0_still : ByteArray := prog_1_method_27_code
def yX0_still : MethodName := ⟨RX0, "still", "(II)I"⟩
def dkwX0_still_6 : List UInt8 := [28, 4, 160, 0, 8, 21, 5, 167, 0, 5, 21, 6, 172]
abbrev dktX0_still_6 : List UInt8 := dkwX0_still_6 ++ []
def dkwX0_still_5 : List UInt8 := [21, 6, 2, 160, 0, 7, 21, 7, 54, 6, 132, 7, 1, 167, 255, 169, 28, 154, 0, 7, 29, 167, 0, 15]
abbrev dktX0_still_5 : List UInt8 := dkwX0_still_5 ++ dktX0_still_6
def dkwX0_still_4 : List UInt8 := [21, 4, 4, 96, 167, 0, 4, 3, 54, 4, 21, 5, 21, 4, 184, 0, 207, 54, 5, 21, 8, 154, 0, 13]
abbrev dktX0_still_4 : List UInt8 := dkwX0_still_4 ++ dktX0_still_5
def dkwX0_still_3 : List UInt8 := [167, 0, 4, 3, 54, 8, 29, 21, 8, 153, 0, 7, 4, 167, 0, 4, 3, 96, 62, 21, 8, 153, 0, 10]
abbrev dktX0_still_3 : List UInt8 := dkwX0_still_3 ++ dktX0_still_4
def dkwX0_still_2 : List UInt8 := [180, 0, 41, 180, 0, 137, 162, 0, 81, 42, 180, 0, 52, 27, 21, 7, 182, 0, 192, 158, 0, 7, 4]
abbrev dktX0_still_2 : List UInt8 := dkwX0_still_2 ++ dktX0_still_3
def dkwX0_still_1 : List UInt8 := [42, 182, 0, 179, 87, 3, 62, 3, 54, 4, 3, 54, 5, 2, 54, 6, 3, 54, 7, 21, 7, 42]
abbrev dktX0_still_1 : List UInt8 := dkwX0_still_1 ++ dktX0_still_2
def dkwX0_still_0 : List UInt8 := [42, 27, 133, 182, 0, 146, 153, 0, 15, 28, 133, 9, 20, 0, 199, 184, 0, 5, 154, 0, 6, 16, 254, 172]
abbrev dktX0_still_0 : List UInt8 := dkwX0_still_0 ++ dktX0_still_1
theorem dksX0_still_0 : cX0_still.data.toList.drop 0 = dktX0_still_0 := by decide +kernel
theorem dksX0_still_1 : cX0_still.data.toList.drop 24 = dktX0_still_1 := dk_seg dksX0_still_0 24 rfl rfl
theorem dksX0_still_2 : cX0_still.data.toList.drop 46 = dktX0_still_2 := dk_seg dksX0_still_1 22 rfl rfl
theorem dksX0_still_3 : cX0_still.data.toList.drop 69 = dktX0_still_3 := dk_seg dksX0_still_2 23 rfl rfl
theorem dksX0_still_4 : cX0_still.data.toList.drop 93 = dktX0_still_4 := dk_seg dksX0_still_3 24 rfl rfl
theorem dksX0_still_5 : cX0_still.data.toList.drop 117 = dktX0_still_5 := dk_seg dksX0_still_4 24 rfl rfl
theorem dksX0_still_6 : cX0_still.data.toList.drop 141 = dktX0_still_6 := dk_seg dksX0_still_5 24 rfl rfl
theorem dX0_still_0 : decode cX0_still 0 = .ok (.aload_n 0, 1) := dk_42 (dk_at dksX0_still_0 0 rfl rfl)
theorem dX0_still_1 : decode cX0_still 1 = .ok (.iload_n 1, 1) := dk_27 (dk_at dksX0_still_0 1 rfl rfl)
theorem dX0_still_2 : decode cX0_still 2 = .ok (.i2l, 1) := dk_133 (dk_at dksX0_still_0 2 rfl rfl)
theorem dX0_still_3 : decode cX0_still 3 = .ok (.invokevirtual 146, 3) := dk_182 0 146 (dk_at dksX0_still_0 3 rfl rfl)
theorem dX0_still_6 : decode cX0_still 6 = .ok (.ifCond .eq 15, 3) := dk_153 0 15 (dk_at dksX0_still_0 6 rfl rfl)
theorem dX0_still_9 : decode cX0_still 9 = .ok (.iload_n 2, 1) := dk_28 (dk_at dksX0_still_0 9 rfl rfl)
theorem dX0_still_10 : decode cX0_still 10 = .ok (.i2l, 1) := dk_133 (dk_at dksX0_still_0 10 rfl rfl)
theorem dX0_still_11 : decode cX0_still 11 = .ok (.lconst 0, 1) := dk_9 (dk_at dksX0_still_0 11 rfl rfl)
theorem dX0_still_12 : decode cX0_still 12 = .ok (.ldc2_w 199, 3) := dk_20 0 199 (dk_at dksX0_still_0 12 rfl rfl)
theorem dX0_still_15 : decode cX0_still 15 = .ok (.invokestatic 5, 3) := dk_184 0 5 (dk_at dksX0_still_0 15 rfl rfl)
theorem dX0_still_18 : decode cX0_still 18 = .ok (.ifCond .ne 6, 3) := dk_154 0 6 (dk_at dksX0_still_0 18 rfl rfl)
theorem dX0_still_21 : decode cX0_still 21 = .ok (.bipush (-2), 2) := dk_16 254 (dk_at dksX0_still_0 21 rfl rfl)
theorem dX0_still_23 : decode cX0_still 23 = .ok (.ireturn, 1) := dk_172 (dk_at dksX0_still_0 23 rfl rfl)
theorem dX0_still_24 : decode cX0_still 24 = .ok (.aload_n 0, 1) := dk_42 (dk_at dksX0_still_1 0 rfl rfl)
theorem dX0_still_25 : decode cX0_still 25 = .ok (.invokevirtual 179, 3) := dk_182 0 179 (dk_at dksX0_still_1 1 rfl rfl)
theorem dX0_still_28 : decode cX0_still 28 = .ok (.pop, 1) := dk_87 (dk_at dksX0_still_1 4 rfl rfl)
theorem dX0_still_29 : decode cX0_still 29 = .ok (.iconst 0, 1) := dk_3 (dk_at dksX0_still_1 5 rfl rfl)
theorem dX0_still_30 : decode cX0_still 30 = .ok (.istore_n 3, 1) := dk_62 (dk_at dksX0_still_1 6 rfl rfl)
theorem dX0_still_31 : decode cX0_still 31 = .ok (.iconst 0, 1) := dk_3 (dk_at dksX0_still_1 7 rfl rfl)
theorem dX0_still_32 : decode cX0_still 32 = .ok (.istore 4, 2) := dk_54 4 (dk_at dksX0_still_1 8 rfl rfl)
theorem dX0_still_34 : decode cX0_still 34 = .ok (.iconst 0, 1) := dk_3 (dk_at dksX0_still_1 10 rfl rfl)
theorem dX0_still_35 : decode cX0_still 35 = .ok (.istore 5, 2) := dk_54 5 (dk_at dksX0_still_1 11 rfl rfl)
theorem dX0_still_37 : decode cX0_still 37 = .ok (.iconst (-1), 1) := dk_2 (dk_at dksX0_still_1 13 rfl rfl)
theorem dX0_still_38 : decode cX0_still 38 = .ok (.istore 6, 2) := dk_54 6 (dk_at dksX0_still_1 14 rfl rfl)
theorem dX0_still_40 : decode cX0_still 40 = .ok (.iconst 0, 1) := dk_3 (dk_at dksX0_still_1 16 rfl rfl)
theorem dX0_still_41 : decode cX0_still 41 = .ok (.istore 7, 2) := dk_54 7 (dk_at dksX0_still_1 17 rfl rfl)
theorem dX0_still_43 : decode cX0_still 43 = .ok (.iload 7, 2) := dk_21 7 (dk_at dksX0_still_1 19 rfl rfl)
theorem dX0_still_45 : decode cX0_still 45 = .ok (.aload_n 0, 1) := dk_42 (dk_at dksX0_still_1 21 rfl rfl)
theorem dX0_still_46 : decode cX0_still 46 = .ok (.getfield 41, 3) := dk_180 0 41 (dk_at dksX0_still_2 0 rfl rfl)
theorem dX0_still_49 : decode cX0_still 49 = .ok (.getfield 137, 3) := dk_180 0 137 (dk_at dksX0_still_2 3 rfl rfl)
theorem dX0_still_52 : decode cX0_still 52 = .ok (.if_icmp .ge 81, 3) := dk_162 0 81 (dk_at dksX0_still_2 6 rfl rfl)
theorem dX0_still_55 : decode cX0_still 55 = .ok (.aload_n 0, 1) := dk_42 (dk_at dksX0_still_2 9 rfl rfl)
theorem dX0_still_56 : decode cX0_still 56 = .ok (.getfield 52, 3) := dk_180 0 52 (dk_at dksX0_still_2 10 rfl rfl)
theorem dX0_still_59 : decode cX0_still 59 = .ok (.iload_n 1, 1) := dk_27 (dk_at dksX0_still_2 13 rfl rfl)
theorem dX0_still_60 : decode cX0_still 60 = .ok (.iload 7, 2) := dk_21 7 (dk_at dksX0_still_2 14 rfl rfl)
theorem dX0_still_62 : decode cX0_still 62 = .ok (.invokevirtual 192, 3) := dk_182 0 192 (dk_at dksX0_still_2 16 rfl rfl)
theorem dX0_still_65 : decode cX0_still 65 = .ok (.ifCond .le 7, 3) := dk_158 0 7 (dk_at dksX0_still_2 19 rfl rfl)
theorem dX0_still_68 : decode cX0_still 68 = .ok (.iconst 1, 1) := dk_4 (dk_at dksX0_still_2 22 rfl rfl)
theorem dX0_still_69 : decode cX0_still 69 = .ok (.goto 4, 3) := dk_167 0 4 (dk_at dksX0_still_3 0 rfl rfl)
theorem dX0_still_72 : decode cX0_still 72 = .ok (.iconst 0, 1) := dk_3 (dk_at dksX0_still_3 3 rfl rfl)
theorem dX0_still_73 : decode cX0_still 73 = .ok (.istore 8, 2) := dk_54 8 (dk_at dksX0_still_3 4 rfl rfl)
theorem dX0_still_75 : decode cX0_still 75 = .ok (.iload_n 3, 1) := dk_29 (dk_at dksX0_still_3 6 rfl rfl)
theorem dX0_still_76 : decode cX0_still 76 = .ok (.iload 8, 2) := dk_21 8 (dk_at dksX0_still_3 7 rfl rfl)
theorem dX0_still_78 : decode cX0_still 78 = .ok (.ifCond .eq 7, 3) := dk_153 0 7 (dk_at dksX0_still_3 9 rfl rfl)
theorem dX0_still_81 : decode cX0_still 81 = .ok (.iconst 1, 1) := dk_4 (dk_at dksX0_still_3 12 rfl rfl)
theorem dX0_still_82 : decode cX0_still 82 = .ok (.goto 4, 3) := dk_167 0 4 (dk_at dksX0_still_3 13 rfl rfl)
theorem dX0_still_85 : decode cX0_still 85 = .ok (.iconst 0, 1) := dk_3 (dk_at dksX0_still_3 16 rfl rfl)
theorem dX0_still_86 : decode cX0_still 86 = .ok (.iadd, 1) := dk_96 (dk_at dksX0_still_3 17 rfl rfl)
theorem dX0_still_87 : decode cX0_still 87 = .ok (.istore_n 3, 1) := dk_62 (dk_at dksX0_still_3 18 rfl rfl)
theorem dX0_still_88 : decode cX0_still 88 = .ok (.iload 8, 2) := dk_21 8 (dk_at dksX0_still_3 19 rfl rfl)
theorem dX0_still_90 : decode cX0_still 90 = .ok (.ifCond .eq 10, 3) := dk_153 0 10 (dk_at dksX0_still_3 21 rfl rfl)
theorem dX0_still_93 : decode cX0_still 93 = .ok (.iload 4, 2) := dk_21 4 (dk_at dksX0_still_4 0 rfl rfl)
theorem dX0_still_95 : decode cX0_still 95 = .ok (.iconst 1, 1) := dk_4 (dk_at dksX0_still_4 2 rfl rfl)
theorem dX0_still_96 : decode cX0_still 96 = .ok (.iadd, 1) := dk_96 (dk_at dksX0_still_4 3 rfl rfl)
theorem dX0_still_97 : decode cX0_still 97 = .ok (.goto 4, 3) := dk_167 0 4 (dk_at dksX0_still_4 4 rfl rfl)
theorem dX0_still_100 : decode cX0_still 100 = .ok (.iconst 0, 1) := dk_3 (dk_at dksX0_still_4 7 rfl rfl)
theorem dX0_still_101 : decode cX0_still 101 = .ok (.istore 4, 2) := dk_54 4 (dk_at dksX0_still_4 8 rfl rfl)
theorem dX0_still_103 : decode cX0_still 103 = .ok (.iload 5, 2) := dk_21 5 (dk_at dksX0_still_4 10 rfl rfl)
theorem dX0_still_105 : decode cX0_still 105 = .ok (.iload 4, 2) := dk_21 4 (dk_at dksX0_still_4 12 rfl rfl)
theorem dX0_still_107 : decode cX0_still 107 = .ok (.invokestatic 207, 3) := dk_184 0 207 (dk_at dksX0_still_4 14 rfl rfl)
theorem dX0_still_110 : decode cX0_still 110 = .ok (.istore 5, 2) := dk_54 5 (dk_at dksX0_still_4 17 rfl rfl)
theorem dX0_still_112 : decode cX0_still 112 = .ok (.iload 8, 2) := dk_21 8 (dk_at dksX0_still_4 19 rfl rfl)
theorem dX0_still_114 : decode cX0_still 114 = .ok (.ifCond .ne 13, 3) := dk_154 0 13 (dk_at dksX0_still_4 21 rfl rfl)
theorem dX0_still_117 : decode cX0_still 117 = .ok (.iload 6, 2) := dk_21 6 (dk_at dksX0_still_5 0 rfl rfl)
theorem dX0_still_119 : decode cX0_still 119 = .ok (.iconst (-1), 1) := dk_2 (dk_at dksX0_still_5 2 rfl rfl)
theorem dX0_still_120 : decode cX0_still 120 = .ok (.if_icmp .ne 7, 3) := dk_160 0 7 (dk_at dksX0_still_5 3 rfl rfl)
theorem dX0_still_123 : decode cX0_still 123 = .ok (.iload 7, 2) := dk_21 7 (dk_at dksX0_still_5 6 rfl rfl)
theorem dX0_still_125 : decode cX0_still 125 = .ok (.istore 6, 2) := dk_54 6 (dk_at dksX0_still_5 8 rfl rfl)
theorem dX0_still_127 : decode cX0_still 127 = .ok (.iinc 7 1, 3) := dk_132 7 1 (dk_at dksX0_still_5 10 rfl rfl)
theorem dX0_still_130 : decode cX0_still 130 = .ok (.goto (-87), 3) := dk_167 255 169 (dk_at dksX0_still_5 13 rfl rfl)
theorem dX0_still_133 : decode cX0_still 133 = .ok (.iload_n 2, 1) := dk_28 (dk_at dksX0_still_5 16 rfl rfl)
theorem dX0_still_134 : decode cX0_still 134 = .ok (.ifCond .ne 7, 3) := dk_154 0 7 (dk_at dksX0_still_5 17 rfl rfl)
theorem dX0_still_137 : decode cX0_still 137 = .ok (.iload_n 3, 1) := dk_29 (dk_at dksX0_still_5 20 rfl rfl)
theorem dX0_still_138 : decode cX0_still 138 = .ok (.goto 15, 3) := dk_167 0 15 (dk_at dksX0_still_5 21 rfl rfl)
theorem dX0_still_141 : decode cX0_still 141 = .ok (.iload_n 2, 1) := dk_28 (dk_at dksX0_still_6 0 rfl rfl)
theorem dX0_still_142 : decode cX0_still 142 = .ok (.iconst 1, 1) := dk_4 (dk_at dksX0_still_6 1 rfl rfl)
theorem dX0_still_143 : decode cX0_still 143 = .ok (.if_icmp .ne 8, 3) := dk_160 0 8 (dk_at dksX0_still_6 2 rfl rfl)
theorem dX0_still_146 : decode cX0_still 146 = .ok (.iload 5, 2) := dk_21 5 (dk_at dksX0_still_6 5 rfl rfl)
theorem dX0_still_148 : decode cX0_still 148 = .ok (.goto 5, 3) := dk_167 0 5 (dk_at dksX0_still_6 7 rfl rfl)
theorem dX0_still_151 : decode cX0_still 151 = .ok (.iload 6, 2) := dk_21 6 (dk_at dksX0_still_6 10 rfl rfl)
theorem dX0_still_153 : decode cX0_still 153 = .ok (.ireturn, 1) := dk_172 (dk_at dksX0_still_6 12 rfl rfl)
abbrev cX0_open : ByteArray := prog_1_method_28_code
def yX0_open : MethodName := ⟨RX0, "open", "()I"⟩
def dkwX0_open_0 : List UInt8 := [42, 180, 0, 41, 182, 0, 140, 153, 0, 13, 42, 182, 0, 179, 180, 0, 183, 167, 0, 5, 16, 254, 172]
abbrev dktX0_open_0 : List UInt8 := dkwX0_open_0 ++ []
theorem dksX0_open_0 : cX0_open.data.toList.drop 0 = dktX0_open_0 := by decide +kernel
theorem dX0_open_0 : decode cX0_open 0 = .ok (.aload_n 0, 1) := dk_42 (dk_at dksX0_open_0 0 rfl rfl)
theorem dX0_open_1 : decode cX0_open 1 = .ok (.getfield 41, 3) := dk_180 0 41 (dk_at dksX0_open_0 1 rfl rfl)
theorem dX0_open_4 : decode cX0_open 4 = .ok (.invokevirtual 140, 3) := dk_182 0 140 (dk_at dksX0_open_0 4 rfl rfl)
theorem dX0_open_7 : decode cX0_open 7 = .ok (.ifCond .eq 13, 3) := dk_153 0 13 (dk_at dksX0_open_0 7 rfl rfl)
theorem dX0_open_10 : decode cX0_open 10 = .ok (.aload_n 0, 1) := dk_42 (dk_at dksX0_open_0 10 rfl rfl)
theorem dX0_open_11 : decode cX0_open 11 = .ok (.invokevirtual 179, 3) := dk_182 0 179 (dk_at dksX0_open_0 11 rfl rfl)
theorem dX0_open_14 : decode cX0_open 14 = .ok (.getfield 183, 3) := dk_180 0 183 (dk_at dksX0_open_0 14 rfl rfl)
theorem dX0_open_17 : decode cX0_open 17 = .ok (.goto 5, 3) := dk_167 0 5 (dk_at dksX0_open_0 17 rfl rfl)
theorem dX0_open_20 : decode cX0_open 20 = .ok (.bipush (-2), 2) := dk_16 254 (dk_at dksX0_open_0 20 rfl rfl)
theorem dX0_open_22 : decode cX0_open 22 = .ok (.ireturn, 1) := dk_172 (dk_at dksX0_open_0 22 rfl rfl)
abbrev cX0_opens : ByteArray := prog_1_method_29_code
def yX0_opens : MethodName := ⟨RX0, "opens", "(I)I"⟩
def dkwX0_opens_2 : List UInt8 := [2, 172]
abbrev dktX0_opens_2 : List UInt8 := dkwX0_opens_2 ++ []
def dkwX0_opens_1 : List UInt8 := [180, 0, 183, 4, 100, 133, 184, 0, 5, 153, 0, 15, 42, 180, 0, 52, 180, 0, 186, 27, 46, 167, 0, 4]
abbrev dktX0_opens_1 : List UInt8 := dkwX0_opens_1 ++ dktX0_opens_2
def dkwX0_opens_0 : List UInt8 := [42, 180, 0, 41, 182, 0, 140, 154, 0, 8, 16, 254, 167, 0, 35, 27, 133, 9, 42, 182, 0, 179]
abbrev dktX0_opens_0 : List UInt8 := dkwX0_opens_0 ++ dktX0_opens_1
theorem dksX0_opens_0 : cX0_opens.data.toList.drop 0 = dktX0_opens_0 := by decide +kernel
theorem dksX0_opens_1 : cX0_opens.data.toList.drop 22 = dktX0_opens_1 := dk_seg dksX0_opens_0 22 rfl rfl
theorem dksX0_opens_2 : cX0_opens.data.toList.drop 46 = dktX0_opens_2 := dk_seg dksX0_opens_1 24 rfl rfl
theorem dX0_opens_0 : decode cX0_opens 0 = .ok (.aload_n 0, 1) := dk_42 (dk_at dksX0_opens_0 0 rfl rfl)
theorem dX0_opens_1 : decode cX0_opens 1 = .ok (.getfield 41, 3) := dk_180 0 41 (dk_at dksX0_opens_0 1 rfl rfl)
theorem dX0_opens_4 : decode cX0_opens 4 = .ok (.invokevirtual 140, 3) := dk_182 0 140 (dk_at dksX0_opens_0 4 rfl rfl)
theorem dX0_opens_7 : decode cX0_opens 7 = .ok (.ifCond .ne 8, 3) := dk_154 0 8 (dk_at dksX0_opens_0 7 rfl rfl)
theorem dX0_opens_10 : decode cX0_opens 10 = .ok (.bipush (-2), 2) := dk_16 254 (dk_at dksX0_opens_0 10 rfl rfl)
theorem dX0_opens_12 : decode cX0_opens 12 = .ok (.goto 35, 3) := dk_167 0 35 (dk_at dksX0_opens_0 12 rfl rfl)
theorem dX0_opens_15 : decode cX0_opens 15 = .ok (.iload_n 1, 1) := dk_27 (dk_at dksX0_opens_0 15 rfl rfl)
theorem dX0_opens_16 : decode cX0_opens 16 = .ok (.i2l, 1) := dk_133 (dk_at dksX0_opens_0 16 rfl rfl)
theorem dX0_opens_17 : decode cX0_opens 17 = .ok (.lconst 0, 1) := dk_9 (dk_at dksX0_opens_0 17 rfl rfl)
theorem dX0_opens_18 : decode cX0_opens 18 = .ok (.aload_n 0, 1) := dk_42 (dk_at dksX0_opens_0 18 rfl rfl)
theorem dX0_opens_19 : decode cX0_opens 19 = .ok (.invokevirtual 179, 3) := dk_182 0 179 (dk_at dksX0_opens_0 19 rfl rfl)
theorem dX0_opens_22 : decode cX0_opens 22 = .ok (.getfield 183, 3) := dk_180 0 183 (dk_at dksX0_opens_1 0 rfl rfl)
theorem dX0_opens_25 : decode cX0_opens 25 = .ok (.iconst 1, 1) := dk_4 (dk_at dksX0_opens_1 3 rfl rfl)
theorem dX0_opens_26 : decode cX0_opens 26 = .ok (.isub, 1) := dk_100 (dk_at dksX0_opens_1 4 rfl rfl)
theorem dX0_opens_27 : decode cX0_opens 27 = .ok (.i2l, 1) := dk_133 (dk_at dksX0_opens_1 5 rfl rfl)
theorem dX0_opens_28 : decode cX0_opens 28 = .ok (.invokestatic 5, 3) := dk_184 0 5 (dk_at dksX0_opens_1 6 rfl rfl)
theorem dX0_opens_31 : decode cX0_opens 31 = .ok (.ifCond .eq 15, 3) := dk_153 0 15 (dk_at dksX0_opens_1 9 rfl rfl)
theorem dX0_opens_34 : decode cX0_opens 34 = .ok (.aload_n 0, 1) := dk_42 (dk_at dksX0_opens_1 12 rfl rfl)
theorem dX0_opens_35 : decode cX0_opens 35 = .ok (.getfield 52, 3) := dk_180 0 52 (dk_at dksX0_opens_1 13 rfl rfl)
theorem dX0_opens_38 : decode cX0_opens 38 = .ok (.getfield 186, 3) := dk_180 0 186 (dk_at dksX0_opens_1 16 rfl rfl)
theorem dX0_opens_41 : decode cX0_opens 41 = .ok (.iload_n 1, 1) := dk_27 (dk_at dksX0_opens_1 19 rfl rfl)
theorem dX0_opens_42 : decode cX0_opens 42 = .ok (.iaload, 1) := dk_46 (dk_at dksX0_opens_1 20 rfl rfl)
theorem dX0_opens_43 : decode cX0_opens 43 = .ok (.goto 4, 3) := dk_167 0 4 (dk_at dksX0_opens_1 21 rfl rfl)
theorem dX0_opens_46 : decode cX0_opens 46 = .ok (.iconst (-1), 1) := dk_2 (dk_at dksX0_opens_2 0 rfl rfl)
theorem dX0_opens_47 : decode cX0_opens 47 = .ok (.ireturn, 1) := dk_172 (dk_at dksX0_opens_2 1 rfl rfl)
abbrev cX0_bell : ByteArray := prog_1_method_32_code
def yX0_bell : MethodName := ⟨RX0, "bell", "(II)I"⟩
def dkwX0_bell_2 : List UInt8 := [2, 172]
abbrev dktX0_bell_2 : List UInt8 := dkwX0_bell_2 ++ []
def dkwX0_bell_1 : List UInt8 := [180, 0, 137, 163, 0, 21, 42, 29, 28, 182, 0, 217, 27, 161, 0, 5, 29, 172, 132, 3, 1, 167, 255, 230]
abbrev dktX0_bell_1 : List UInt8 := dkwX0_bell_1 ++ dktX0_bell_2
def dkwX0_bell_0 : List UInt8 := [42, 27, 28, 182, 0, 214, 154, 0, 6, 16, 254, 172, 42, 182, 0, 179, 87, 3, 62, 29, 42, 180, 0, 41]
abbrev dktX0_bell_0 : List UInt8 := dkwX0_bell_0 ++ dktX0_bell_1
theorem dksX0_bell_0 : cX0_bell.data.toList.drop 0 = dktX0_bell_0 := by decide +kernel
theorem dksX0_bell_1 : cX0_bell.data.toList.drop 24 = dktX0_bell_1 := dk_seg dksX0_bell_0 24 rfl rfl
theorem dksX0_bell_2 : cX0_bell.data.toList.drop 48 = dktX0_bell_2 := dk_seg dksX0_bell_1 24 rfl rfl
theorem dX0_bell_0 : decode cX0_bell 0 = .ok (.aload_n 0, 1) := dk_42 (dk_at dksX0_bell_0 0 rfl rfl)
theorem dX0_bell_1 : decode cX0_bell 1 = .ok (.iload_n 1, 1) := dk_27 (dk_at dksX0_bell_0 1 rfl rfl)
theorem dX0_bell_2 : decode cX0_bell 2 = .ok (.iload_n 2, 1) := dk_28 (dk_at dksX0_bell_0 2 rfl rfl)
theorem dX0_bell_3 : decode cX0_bell 3 = .ok (.invokevirtual 214, 3) := dk_182 0 214 (dk_at dksX0_bell_0 3 rfl rfl)
theorem dX0_bell_6 : decode cX0_bell 6 = .ok (.ifCond .ne 6, 3) := dk_154 0 6 (dk_at dksX0_bell_0 6 rfl rfl)
theorem dX0_bell_9 : decode cX0_bell 9 = .ok (.bipush (-2), 2) := dk_16 254 (dk_at dksX0_bell_0 9 rfl rfl)
theorem dX0_bell_11 : decode cX0_bell 11 = .ok (.ireturn, 1) := dk_172 (dk_at dksX0_bell_0 11 rfl rfl)
theorem dX0_bell_12 : decode cX0_bell 12 = .ok (.aload_n 0, 1) := dk_42 (dk_at dksX0_bell_0 12 rfl rfl)
theorem dX0_bell_13 : decode cX0_bell 13 = .ok (.invokevirtual 179, 3) := dk_182 0 179 (dk_at dksX0_bell_0 13 rfl rfl)
theorem dX0_bell_16 : decode cX0_bell 16 = .ok (.pop, 1) := dk_87 (dk_at dksX0_bell_0 16 rfl rfl)
theorem dX0_bell_17 : decode cX0_bell 17 = .ok (.iconst 0, 1) := dk_3 (dk_at dksX0_bell_0 17 rfl rfl)
theorem dX0_bell_18 : decode cX0_bell 18 = .ok (.istore_n 3, 1) := dk_62 (dk_at dksX0_bell_0 18 rfl rfl)
theorem dX0_bell_19 : decode cX0_bell 19 = .ok (.iload_n 3, 1) := dk_29 (dk_at dksX0_bell_0 19 rfl rfl)
theorem dX0_bell_20 : decode cX0_bell 20 = .ok (.aload_n 0, 1) := dk_42 (dk_at dksX0_bell_0 20 rfl rfl)
theorem dX0_bell_21 : decode cX0_bell 21 = .ok (.getfield 41, 3) := dk_180 0 41 (dk_at dksX0_bell_0 21 rfl rfl)
theorem dX0_bell_24 : decode cX0_bell 24 = .ok (.getfield 137, 3) := dk_180 0 137 (dk_at dksX0_bell_1 0 rfl rfl)
theorem dX0_bell_27 : decode cX0_bell 27 = .ok (.if_icmp .gt 21, 3) := dk_163 0 21 (dk_at dksX0_bell_1 3 rfl rfl)
theorem dX0_bell_30 : decode cX0_bell 30 = .ok (.aload_n 0, 1) := dk_42 (dk_at dksX0_bell_1 6 rfl rfl)
theorem dX0_bell_31 : decode cX0_bell 31 = .ok (.iload_n 3, 1) := dk_29 (dk_at dksX0_bell_1 7 rfl rfl)
theorem dX0_bell_32 : decode cX0_bell 32 = .ok (.iload_n 2, 1) := dk_28 (dk_at dksX0_bell_1 8 rfl rfl)
theorem dX0_bell_33 : decode cX0_bell 33 = .ok (.invokevirtual 217, 3) := dk_182 0 217 (dk_at dksX0_bell_1 9 rfl rfl)
theorem dX0_bell_36 : decode cX0_bell 36 = .ok (.iload_n 1, 1) := dk_27 (dk_at dksX0_bell_1 12 rfl rfl)
theorem dX0_bell_37 : decode cX0_bell 37 = .ok (.if_icmp .lt 5, 3) := dk_161 0 5 (dk_at dksX0_bell_1 13 rfl rfl)
theorem dX0_bell_40 : decode cX0_bell 40 = .ok (.iload_n 3, 1) := dk_29 (dk_at dksX0_bell_1 16 rfl rfl)
theorem dX0_bell_41 : decode cX0_bell 41 = .ok (.ireturn, 1) := dk_172 (dk_at dksX0_bell_1 17 rfl rfl)
theorem dX0_bell_42 : decode cX0_bell 42 = .ok (.iinc 3 1, 3) := dk_132 3 1 (dk_at dksX0_bell_1 18 rfl rfl)
theorem dX0_bell_45 : decode cX0_bell 45 = .ok (.goto (-26), 3) := dk_167 255 230 (dk_at dksX0_bell_1 21 rfl rfl)
theorem dX0_bell_48 : decode cX0_bell 48 = .ok (.iconst (-1), 1) := dk_2 (dk_at dksX0_bell_2 0 rfl rfl)
theorem dX0_bell_49 : decode cX0_bell 49 = .ok (.ireturn, 1) := dk_172 (dk_at dksX0_bell_2 1 rfl rfl)
abbrev cX0_isMany : ByteArray := prog_1_method_31_code
def yX0_isMany : MethodName := ⟨RX0, "isMany", "(II)Z"⟩
def dkwX0_isMany_1 : List UInt8 := [184, 0, 153, 153, 0, 7, 4, 167, 0, 4, 3, 172]
abbrev dktX0_isMany_1 : List UInt8 := dkwX0_isMany_1 ++ []
def dkwX0_isMany_0 : List UInt8 := [42, 180, 0, 41, 182, 0, 140, 153, 0, 27, 27, 133, 10, 20, 0, 212, 184, 0, 5, 153, 0, 15, 28, 133]
abbrev dktX0_isMany_0 : List UInt8 := dkwX0_isMany_0 ++ dktX0_isMany_1
theorem dksX0_isMany_0 : cX0_isMany.data.toList.drop 0 = dktX0_isMany_0 := by decide +kernel
theorem dksX0_isMany_1 : cX0_isMany.data.toList.drop 24 = dktX0_isMany_1 := dk_seg dksX0_isMany_0 24 rfl rfl
theorem dX0_isMany_0 : decode cX0_isMany 0 = .ok (.aload_n 0, 1) := dk_42 (dk_at dksX0_isMany_0 0 rfl rfl)
theorem dX0_isMany_1 : decode cX0_isMany 1 = .ok (.getfield 41, 3) := dk_180 0 41 (dk_at dksX0_isMany_0 1 rfl rfl)
theorem dX0_isMany_4 : decode cX0_isMany 4 = .ok (.invokevirtual 140, 3) := dk_182 0 140 (dk_at dksX0_isMany_0 4 rfl rfl)
theorem dX0_isMany_7 : decode cX0_isMany 7 = .ok (.ifCond .eq 27, 3) := dk_153 0 27 (dk_at dksX0_isMany_0 7 rfl rfl)
theorem dX0_isMany_10 : decode cX0_isMany 10 = .ok (.iload_n 1, 1) := dk_27 (dk_at dksX0_isMany_0 10 rfl rfl)
theorem dX0_isMany_11 : decode cX0_isMany 11 = .ok (.i2l, 1) := dk_133 (dk_at dksX0_isMany_0 11 rfl rfl)
theorem dX0_isMany_12 : decode cX0_isMany 12 = .ok (.lconst 1, 1) := dk_10 (dk_at dksX0_isMany_0 12 rfl rfl)
theorem dX0_isMany_13 : decode cX0_isMany 13 = .ok (.ldc2_w 212, 3) := dk_20 0 212 (dk_at dksX0_isMany_0 13 rfl rfl)
theorem dX0_isMany_16 : decode cX0_isMany 16 = .ok (.invokestatic 5, 3) := dk_184 0 5 (dk_at dksX0_isMany_0 16 rfl rfl)
theorem dX0_isMany_19 : decode cX0_isMany 19 = .ok (.ifCond .eq 15, 3) := dk_153 0 15 (dk_at dksX0_isMany_0 19 rfl rfl)
theorem dX0_isMany_22 : decode cX0_isMany 22 = .ok (.iload_n 2, 1) := dk_28 (dk_at dksX0_isMany_0 22 rfl rfl)
theorem dX0_isMany_23 : decode cX0_isMany 23 = .ok (.i2l, 1) := dk_133 (dk_at dksX0_isMany_0 23 rfl rfl)
theorem dX0_isMany_24 : decode cX0_isMany 24 = .ok (.invokestatic 153, 3) := dk_184 0 153 (dk_at dksX0_isMany_1 0 rfl rfl)
theorem dX0_isMany_27 : decode cX0_isMany 27 = .ok (.ifCond .eq 7, 3) := dk_153 0 7 (dk_at dksX0_isMany_1 3 rfl rfl)
theorem dX0_isMany_30 : decode cX0_isMany 30 = .ok (.iconst 1, 1) := dk_4 (dk_at dksX0_isMany_1 6 rfl rfl)
theorem dX0_isMany_31 : decode cX0_isMany 31 = .ok (.goto 4, 3) := dk_167 0 4 (dk_at dksX0_isMany_1 7 rfl rfl)
theorem dX0_isMany_34 : decode cX0_isMany 34 = .ok (.iconst 0, 1) := dk_3 (dk_at dksX0_isMany_1 10 rfl rfl)
theorem dX0_isMany_35 : decode cX0_isMany 35 = .ok (.ireturn, 1) := dk_172 (dk_at dksX0_isMany_1 11 rfl rfl)
abbrev cX0_isHour : ByteArray := prog_1_method_18_code
def yX0_isHour : MethodName := ⟨RX0, "isHour", "(J)Z"⟩
def dkwX0_isHour_0 : List UInt8 := [30, 9, 20, 0, 144, 184, 0, 5, 172]
abbrev dktX0_isHour_0 : List UInt8 := dkwX0_isHour_0 ++ []
theorem dksX0_isHour_0 : cX0_isHour.data.toList.drop 0 = dktX0_isHour_0 := by decide +kernel
theorem dX0_isHour_0 : decode cX0_isHour 0 = .ok (.lload_n 0, 1) := dk_30 (dk_at dksX0_isHour_0 0 rfl rfl)
theorem dX0_isHour_1 : decode cX0_isHour 1 = .ok (.lconst 0, 1) := dk_9 (dk_at dksX0_isHour_0 1 rfl rfl)
theorem dX0_isHour_2 : decode cX0_isHour 2 = .ok (.ldc2_w 144, 3) := dk_20 0 144 (dk_at dksX0_isHour_0 2 rfl rfl)
theorem dX0_isHour_5 : decode cX0_isHour 5 = .ok (.invokestatic 5, 3) := dk_184 0 5 (dk_at dksX0_isHour_0 5 rfl rfl)
theorem dX0_isHour_8 : decode cX0_isHour 8 = .ok (.ireturn, 1) := dk_172 (dk_at dksX0_isHour_0 8 rfl rfl)
abbrev cX0_manyShow : ByteArray := prog_1_method_30_code
def yX0_manyShow : MethodName := ⟨RX0, "manyShow", "(II)I"⟩
def dkwX0_manyShow_1 : List UInt8 := [50, 27, 46, 28, 160, 0, 7, 4, 167, 0, 4, 3, 96, 62, 132, 4, 1, 167, 255, 220, 29, 172]
abbrev dktX0_manyShow_1 : List UInt8 := dkwX0_manyShow_1 ++ []
def dkwX0_manyShow_0 : List UInt8 := [3, 62, 3, 54, 4, 21, 4, 42, 182, 0, 135, 162, 0, 33, 29, 42, 180, 0, 52, 180, 0, 196, 21, 4]
abbrev dktX0_manyShow_0 : List UInt8 := dkwX0_manyShow_0 ++ dktX0_manyShow_1
theorem dksX0_manyShow_0 : cX0_manyShow.data.toList.drop 0 = dktX0_manyShow_0 := by decide +kernel
theorem dksX0_manyShow_1 : cX0_manyShow.data.toList.drop 24 = dktX0_manyShow_1 := dk_seg dksX0_manyShow_0 24 rfl rfl
theorem dX0_manyShow_0 : decode cX0_manyShow 0 = .ok (.iconst 0, 1) := dk_3 (dk_at dksX0_manyShow_0 0 rfl rfl)
theorem dX0_manyShow_1 : decode cX0_manyShow 1 = .ok (.istore_n 3, 1) := dk_62 (dk_at dksX0_manyShow_0 1 rfl rfl)
theorem dX0_manyShow_2 : decode cX0_manyShow 2 = .ok (.iconst 0, 1) := dk_3 (dk_at dksX0_manyShow_0 2 rfl rfl)
theorem dX0_manyShow_3 : decode cX0_manyShow 3 = .ok (.istore 4, 2) := dk_54 4 (dk_at dksX0_manyShow_0 3 rfl rfl)
theorem dX0_manyShow_5 : decode cX0_manyShow 5 = .ok (.iload 4, 2) := dk_21 4 (dk_at dksX0_manyShow_0 5 rfl rfl)
theorem dX0_manyShow_7 : decode cX0_manyShow 7 = .ok (.aload_n 0, 1) := dk_42 (dk_at dksX0_manyShow_0 7 rfl rfl)
theorem dX0_manyShow_8 : decode cX0_manyShow 8 = .ok (.invokevirtual 135, 3) := dk_182 0 135 (dk_at dksX0_manyShow_0 8 rfl rfl)
theorem dX0_manyShow_11 : decode cX0_manyShow 11 = .ok (.if_icmp .ge 33, 3) := dk_162 0 33 (dk_at dksX0_manyShow_0 11 rfl rfl)
theorem dX0_manyShow_14 : decode cX0_manyShow 14 = .ok (.iload_n 3, 1) := dk_29 (dk_at dksX0_manyShow_0 14 rfl rfl)
theorem dX0_manyShow_15 : decode cX0_manyShow 15 = .ok (.aload_n 0, 1) := dk_42 (dk_at dksX0_manyShow_0 15 rfl rfl)
theorem dX0_manyShow_16 : decode cX0_manyShow 16 = .ok (.getfield 52, 3) := dk_180 0 52 (dk_at dksX0_manyShow_0 16 rfl rfl)
theorem dX0_manyShow_19 : decode cX0_manyShow 19 = .ok (.getfield 196, 3) := dk_180 0 196 (dk_at dksX0_manyShow_0 19 rfl rfl)
theorem dX0_manyShow_22 : decode cX0_manyShow 22 = .ok (.iload 4, 2) := dk_21 4 (dk_at dksX0_manyShow_0 22 rfl rfl)
theorem dX0_manyShow_24 : decode cX0_manyShow 24 = .ok (.aaload, 1) := dk_50 (dk_at dksX0_manyShow_1 0 rfl rfl)
theorem dX0_manyShow_25 : decode cX0_manyShow 25 = .ok (.iload_n 1, 1) := dk_27 (dk_at dksX0_manyShow_1 1 rfl rfl)
theorem dX0_manyShow_26 : decode cX0_manyShow 26 = .ok (.iaload, 1) := dk_46 (dk_at dksX0_manyShow_1 2 rfl rfl)
theorem dX0_manyShow_27 : decode cX0_manyShow 27 = .ok (.iload_n 2, 1) := dk_28 (dk_at dksX0_manyShow_1 3 rfl rfl)
theorem dX0_manyShow_28 : decode cX0_manyShow 28 = .ok (.if_icmp .ne 7, 3) := dk_160 0 7 (dk_at dksX0_manyShow_1 4 rfl rfl)
theorem dX0_manyShow_31 : decode cX0_manyShow 31 = .ok (.iconst 1, 1) := dk_4 (dk_at dksX0_manyShow_1 7 rfl rfl)
theorem dX0_manyShow_32 : decode cX0_manyShow 32 = .ok (.goto 4, 3) := dk_167 0 4 (dk_at dksX0_manyShow_1 8 rfl rfl)
theorem dX0_manyShow_35 : decode cX0_manyShow 35 = .ok (.iconst 0, 1) := dk_3 (dk_at dksX0_manyShow_1 11 rfl rfl)
theorem dX0_manyShow_36 : decode cX0_manyShow 36 = .ok (.iadd, 1) := dk_96 (dk_at dksX0_manyShow_1 12 rfl rfl)
theorem dX0_manyShow_37 : decode cX0_manyShow 37 = .ok (.istore_n 3, 1) := dk_62 (dk_at dksX0_manyShow_1 13 rfl rfl)
theorem dX0_manyShow_38 : decode cX0_manyShow 38 = .ok (.iinc 4 1, 3) := dk_132 4 1 (dk_at dksX0_manyShow_1 14 rfl rfl)
theorem dX0_manyShow_41 : decode cX0_manyShow 41 = .ok (.goto (-36), 3) := dk_167 255 220 (dk_at dksX0_manyShow_1 17 rfl rfl)
theorem dX0_manyShow_44 : decode cX0_manyShow 44 = .ok (.iload_n 3, 1) := dk_29 (dk_at dksX0_manyShow_1 20 rfl rfl)
theorem dX0_manyShow_45 : decode cX0_manyShow 45 = .ok (.ireturn, 1) := dk_172 (dk_at dksX0_manyShow_1 21 rfl rfl)
abbrev cX0_courses : ByteArray := prog_1_method_35_code
def yX0_courses : MethodName := ⟨RX0, "courses", "()I"⟩
def dkwX0_courses_1 : List UInt8 := [180, 0, 220, 167, 0, 5, 16, 253, 172]
abbrev dktX0_courses_1 : List UInt8 := dkwX0_courses_1 ++ []
def dkwX0_courses_0 : List UInt8 := [42, 180, 0, 41, 182, 0, 140, 154, 0, 8, 16, 254, 167, 0, 19, 42, 182, 0, 237, 153, 0, 10, 42]
abbrev dktX0_courses_0 : List UInt8 := dkwX0_courses_0 ++ dktX0_courses_1
theorem dksX0_courses_0 : cX0_courses.data.toList.drop 0 = dktX0_courses_0 := by decide +kernel
theorem dksX0_courses_1 : cX0_courses.data.toList.drop 23 = dktX0_courses_1 := dk_seg dksX0_courses_0 23 rfl rfl
theorem dX0_courses_0 : decode cX0_courses 0 = .ok (.aload_n 0, 1) := dk_42 (dk_at dksX0_courses_0 0 rfl rfl)
theorem dX0_courses_1 : decode cX0_courses 1 = .ok (.getfield 41, 3) := dk_180 0 41 (dk_at dksX0_courses_0 1 rfl rfl)
theorem dX0_courses_4 : decode cX0_courses 4 = .ok (.invokevirtual 140, 3) := dk_182 0 140 (dk_at dksX0_courses_0 4 rfl rfl)
theorem dX0_courses_7 : decode cX0_courses 7 = .ok (.ifCond .ne 8, 3) := dk_154 0 8 (dk_at dksX0_courses_0 7 rfl rfl)
theorem dX0_courses_10 : decode cX0_courses 10 = .ok (.bipush (-2), 2) := dk_16 254 (dk_at dksX0_courses_0 10 rfl rfl)
theorem dX0_courses_12 : decode cX0_courses 12 = .ok (.goto 19, 3) := dk_167 0 19 (dk_at dksX0_courses_0 12 rfl rfl)
theorem dX0_courses_15 : decode cX0_courses 15 = .ok (.aload_n 0, 1) := dk_42 (dk_at dksX0_courses_0 15 rfl rfl)
theorem dX0_courses_16 : decode cX0_courses 16 = .ok (.invokevirtual 237, 3) := dk_182 0 237 (dk_at dksX0_courses_0 16 rfl rfl)
theorem dX0_courses_19 : decode cX0_courses 19 = .ok (.ifCond .eq 10, 3) := dk_153 0 10 (dk_at dksX0_courses_0 19 rfl rfl)
theorem dX0_courses_22 : decode cX0_courses 22 = .ok (.aload_n 0, 1) := dk_42 (dk_at dksX0_courses_0 22 rfl rfl)
theorem dX0_courses_23 : decode cX0_courses 23 = .ok (.getfield 220, 3) := dk_180 0 220 (dk_at dksX0_courses_1 0 rfl rfl)
theorem dX0_courses_26 : decode cX0_courses 26 = .ok (.goto 5, 3) := dk_167 0 5 (dk_at dksX0_courses_1 3 rfl rfl)
theorem dX0_courses_29 : decode cX0_courses 29 = .ok (.bipush (-3), 2) := dk_16 253 (dk_at dksX0_courses_1 6 rfl rfl)
theorem dX0_courses_31 : decode cX0_courses 31 = .ok (.ireturn, 1) := dk_172 (dk_at dksX0_courses_1 8 rfl rfl)
abbrev cX0_gathers : ByteArray := prog_1_method_33_code
def yX0_gathers : MethodName := ⟨RX0, "gathers", "()Z"⟩
def dkwX0_gathers_5 : List UInt8 := [181, 0, 220, 42, 180, 0, 52, 182, 0, 234, 60, 167, 255, 159, 4, 172]
abbrev dktX0_gathers_5 : List UInt8 := dkwX0_gathers_5 ++ []
def dkwX0_gathers_4 : List UInt8 := [185, 0, 104, 2, 0, 192, 0, 223, 42, 180, 0, 52, 182, 0, 230, 42, 89, 180, 0, 220, 4, 96]
abbrev dktX0_gathers_4 : List UInt8 := dkwX0_gathers_4 ++ dktX0_gathers_5
def dkwX0_gathers_3 : List UInt8 := [187, 0, 223, 89, 183, 0, 225, 185, 0, 226, 2, 0, 87, 42, 180, 0, 61, 42, 180, 0, 220]
abbrev dktX0_gathers_3 : List UInt8 := dkwX0_gathers_3 ++ dktX0_gathers_4
def dkwX0_gathers_2 : List UInt8 := [182, 0, 159, 42, 180, 0, 61, 185, 0, 98, 1, 0, 42, 180, 0, 220, 160, 0, 20, 42, 180, 0, 61]
abbrev dktX0_gathers_2 : List UInt8 := dkwX0_gathers_2 ++ dktX0_gathers_3
def dkwX0_gathers_1 : List UInt8 := [4, 60, 27, 153, 0, 99, 42, 180, 0, 220, 17, 0, 128, 160, 0, 5, 3, 172, 42, 180, 0, 52]
abbrev dktX0_gathers_1 : List UInt8 := dkwX0_gathers_1 ++ dktX0_gathers_2
def dkwX0_gathers_0 : List UInt8 := [42, 3, 181, 0, 220, 42, 180, 0, 52, 42, 180, 0, 41, 42, 180, 0, 45, 42, 180, 0, 113, 182, 0, 156]
abbrev dktX0_gathers_0 : List UInt8 := dkwX0_gathers_0 ++ dktX0_gathers_1
theorem dksX0_gathers_0 : cX0_gathers.data.toList.drop 0 = dktX0_gathers_0 := by decide +kernel
theorem dksX0_gathers_1 : cX0_gathers.data.toList.drop 24 = dktX0_gathers_1 := dk_seg dksX0_gathers_0 24 rfl rfl
theorem dksX0_gathers_2 : cX0_gathers.data.toList.drop 46 = dktX0_gathers_2 := dk_seg dksX0_gathers_1 22 rfl rfl
theorem dksX0_gathers_3 : cX0_gathers.data.toList.drop 69 = dktX0_gathers_3 := dk_seg dksX0_gathers_2 23 rfl rfl
theorem dksX0_gathers_4 : cX0_gathers.data.toList.drop 90 = dktX0_gathers_4 := dk_seg dksX0_gathers_3 21 rfl rfl
theorem dksX0_gathers_5 : cX0_gathers.data.toList.drop 112 = dktX0_gathers_5 := dk_seg dksX0_gathers_4 22 rfl rfl
theorem dX0_gathers_0 : decode cX0_gathers 0 = .ok (.aload_n 0, 1) := dk_42 (dk_at dksX0_gathers_0 0 rfl rfl)
theorem dX0_gathers_1 : decode cX0_gathers 1 = .ok (.iconst 0, 1) := dk_3 (dk_at dksX0_gathers_0 1 rfl rfl)
theorem dX0_gathers_2 : decode cX0_gathers 2 = .ok (.putfield 220, 3) := dk_181 0 220 (dk_at dksX0_gathers_0 2 rfl rfl)
theorem dX0_gathers_5 : decode cX0_gathers 5 = .ok (.aload_n 0, 1) := dk_42 (dk_at dksX0_gathers_0 5 rfl rfl)
theorem dX0_gathers_6 : decode cX0_gathers 6 = .ok (.getfield 52, 3) := dk_180 0 52 (dk_at dksX0_gathers_0 6 rfl rfl)
theorem dX0_gathers_9 : decode cX0_gathers 9 = .ok (.aload_n 0, 1) := dk_42 (dk_at dksX0_gathers_0 9 rfl rfl)
theorem dX0_gathers_10 : decode cX0_gathers 10 = .ok (.getfield 41, 3) := dk_180 0 41 (dk_at dksX0_gathers_0 10 rfl rfl)
theorem dX0_gathers_13 : decode cX0_gathers 13 = .ok (.aload_n 0, 1) := dk_42 (dk_at dksX0_gathers_0 13 rfl rfl)
theorem dX0_gathers_14 : decode cX0_gathers 14 = .ok (.getfield 45, 3) := dk_180 0 45 (dk_at dksX0_gathers_0 14 rfl rfl)
theorem dX0_gathers_17 : decode cX0_gathers 17 = .ok (.aload_n 0, 1) := dk_42 (dk_at dksX0_gathers_0 17 rfl rfl)
theorem dX0_gathers_18 : decode cX0_gathers 18 = .ok (.getfield 113, 3) := dk_180 0 113 (dk_at dksX0_gathers_0 18 rfl rfl)
theorem dX0_gathers_21 : decode cX0_gathers 21 = .ok (.invokevirtual 156, 3) := dk_182 0 156 (dk_at dksX0_gathers_0 21 rfl rfl)
theorem dX0_gathers_24 : decode cX0_gathers 24 = .ok (.iconst 1, 1) := dk_4 (dk_at dksX0_gathers_1 0 rfl rfl)
theorem dX0_gathers_25 : decode cX0_gathers 25 = .ok (.istore_n 1, 1) := dk_60 (dk_at dksX0_gathers_1 1 rfl rfl)
theorem dX0_gathers_26 : decode cX0_gathers 26 = .ok (.iload_n 1, 1) := dk_27 (dk_at dksX0_gathers_1 2 rfl rfl)
theorem dX0_gathers_27 : decode cX0_gathers 27 = .ok (.ifCond .eq 99, 3) := dk_153 0 99 (dk_at dksX0_gathers_1 3 rfl rfl)
theorem dX0_gathers_30 : decode cX0_gathers 30 = .ok (.aload_n 0, 1) := dk_42 (dk_at dksX0_gathers_1 6 rfl rfl)
theorem dX0_gathers_31 : decode cX0_gathers 31 = .ok (.getfield 220, 3) := dk_180 0 220 (dk_at dksX0_gathers_1 7 rfl rfl)
theorem dX0_gathers_34 : decode cX0_gathers 34 = .ok (.sipush 128, 3) := dk_17 0 128 (dk_at dksX0_gathers_1 10 rfl rfl)
theorem dX0_gathers_37 : decode cX0_gathers 37 = .ok (.if_icmp .ne 5, 3) := dk_160 0 5 (dk_at dksX0_gathers_1 13 rfl rfl)
theorem dX0_gathers_40 : decode cX0_gathers 40 = .ok (.iconst 0, 1) := dk_3 (dk_at dksX0_gathers_1 16 rfl rfl)
theorem dX0_gathers_41 : decode cX0_gathers 41 = .ok (.ireturn, 1) := dk_172 (dk_at dksX0_gathers_1 17 rfl rfl)
theorem dX0_gathers_42 : decode cX0_gathers 42 = .ok (.aload_n 0, 1) := dk_42 (dk_at dksX0_gathers_1 18 rfl rfl)
theorem dX0_gathers_43 : decode cX0_gathers 43 = .ok (.getfield 52, 3) := dk_180 0 52 (dk_at dksX0_gathers_1 19 rfl rfl)
theorem dX0_gathers_46 : decode cX0_gathers 46 = .ok (.invokevirtual 159, 3) := dk_182 0 159 (dk_at dksX0_gathers_2 0 rfl rfl)
theorem dX0_gathers_49 : decode cX0_gathers 49 = .ok (.aload_n 0, 1) := dk_42 (dk_at dksX0_gathers_2 3 rfl rfl)
theorem dX0_gathers_50 : decode cX0_gathers 50 = .ok (.getfield 61, 3) := dk_180 0 61 (dk_at dksX0_gathers_2 4 rfl rfl)
theorem dX0_gathers_53 : decode cX0_gathers 53 = .ok (.invokeinterface 98 1, 5) := by decide +kernel
theorem dX0_gathers_58 : decode cX0_gathers 58 = .ok (.aload_n 0, 1) := dk_42 (dk_at dksX0_gathers_2 12 rfl rfl)
theorem dX0_gathers_59 : decode cX0_gathers 59 = .ok (.getfield 220, 3) := dk_180 0 220 (dk_at dksX0_gathers_2 13 rfl rfl)
theorem dX0_gathers_62 : decode cX0_gathers 62 = .ok (.if_icmp .ne 20, 3) := dk_160 0 20 (dk_at dksX0_gathers_2 16 rfl rfl)
theorem dX0_gathers_65 : decode cX0_gathers 65 = .ok (.aload_n 0, 1) := dk_42 (dk_at dksX0_gathers_2 19 rfl rfl)
theorem dX0_gathers_66 : decode cX0_gathers 66 = .ok (.getfield 61, 3) := dk_180 0 61 (dk_at dksX0_gathers_2 20 rfl rfl)
theorem dX0_gathers_69 : decode cX0_gathers 69 = .ok (.new 223, 3) := dk_187 0 223 (dk_at dksX0_gathers_3 0 rfl rfl)
theorem dX0_gathers_72 : decode cX0_gathers 72 = .ok (.dup, 1) := dk_89 (dk_at dksX0_gathers_3 3 rfl rfl)
theorem dX0_gathers_73 : decode cX0_gathers 73 = .ok (.invokespecial 225, 3) := dk_183 0 225 (dk_at dksX0_gathers_3 4 rfl rfl)
theorem dX0_gathers_76 : decode cX0_gathers 76 = .ok (.invokeinterface 226 2, 5) := by decide +kernel
theorem dX0_gathers_81 : decode cX0_gathers 81 = .ok (.pop, 1) := dk_87 (dk_at dksX0_gathers_3 12 rfl rfl)
theorem dX0_gathers_82 : decode cX0_gathers 82 = .ok (.aload_n 0, 1) := dk_42 (dk_at dksX0_gathers_3 13 rfl rfl)
theorem dX0_gathers_83 : decode cX0_gathers 83 = .ok (.getfield 61, 3) := dk_180 0 61 (dk_at dksX0_gathers_3 14 rfl rfl)
theorem dX0_gathers_86 : decode cX0_gathers 86 = .ok (.aload_n 0, 1) := dk_42 (dk_at dksX0_gathers_3 17 rfl rfl)
theorem dX0_gathers_87 : decode cX0_gathers 87 = .ok (.getfield 220, 3) := dk_180 0 220 (dk_at dksX0_gathers_3 18 rfl rfl)
theorem dX0_gathers_90 : decode cX0_gathers 90 = .ok (.invokeinterface 104 2, 5) := by decide +kernel
theorem dX0_gathers_95 : decode cX0_gathers 95 = .ok (.checkcast 223, 3) := dk_192 0 223 (dk_at dksX0_gathers_4 5 rfl rfl)
theorem dX0_gathers_98 : decode cX0_gathers 98 = .ok (.aload_n 0, 1) := dk_42 (dk_at dksX0_gathers_4 8 rfl rfl)
theorem dX0_gathers_99 : decode cX0_gathers 99 = .ok (.getfield 52, 3) := dk_180 0 52 (dk_at dksX0_gathers_4 9 rfl rfl)
theorem dX0_gathers_102 : decode cX0_gathers 102 = .ok (.invokevirtual 230, 3) := dk_182 0 230 (dk_at dksX0_gathers_4 12 rfl rfl)
theorem dX0_gathers_105 : decode cX0_gathers 105 = .ok (.aload_n 0, 1) := dk_42 (dk_at dksX0_gathers_4 15 rfl rfl)
theorem dX0_gathers_106 : decode cX0_gathers 106 = .ok (.dup, 1) := dk_89 (dk_at dksX0_gathers_4 16 rfl rfl)
theorem dX0_gathers_107 : decode cX0_gathers 107 = .ok (.getfield 220, 3) := dk_180 0 220 (dk_at dksX0_gathers_4 17 rfl rfl)
theorem dX0_gathers_110 : decode cX0_gathers 110 = .ok (.iconst 1, 1) := dk_4 (dk_at dksX0_gathers_4 20 rfl rfl)
theorem dX0_gathers_111 : decode cX0_gathers 111 = .ok (.iadd, 1) := dk_96 (dk_at dksX0_gathers_4 21 rfl rfl)
theorem dX0_gathers_112 : decode cX0_gathers 112 = .ok (.putfield 220, 3) := dk_181 0 220 (dk_at dksX0_gathers_5 0 rfl rfl)
theorem dX0_gathers_115 : decode cX0_gathers 115 = .ok (.aload_n 0, 1) := dk_42 (dk_at dksX0_gathers_5 3 rfl rfl)
theorem dX0_gathers_116 : decode cX0_gathers 116 = .ok (.getfield 52, 3) := dk_180 0 52 (dk_at dksX0_gathers_5 4 rfl rfl)
theorem dX0_gathers_119 : decode cX0_gathers 119 = .ok (.invokevirtual 234, 3) := dk_182 0 234 (dk_at dksX0_gathers_5 7 rfl rfl)
theorem dX0_gathers_122 : decode cX0_gathers 122 = .ok (.istore_n 1, 1) := dk_60 (dk_at dksX0_gathers_5 10 rfl rfl)
theorem dX0_gathers_123 : decode cX0_gathers 123 = .ok (.goto (-97), 3) := dk_167 255 159 (dk_at dksX0_gathers_5 11 rfl rfl)
theorem dX0_gathers_126 : decode cX0_gathers 126 = .ok (.iconst 1, 1) := dk_4 (dk_at dksX0_gathers_5 14 rfl rfl)
theorem dX0_gathers_127 : decode cX0_gathers 127 = .ok (.ireturn, 1) := dk_172 (dk_at dksX0_gathers_5 15 rfl rfl)
abbrev cX0_among : ByteArray := prog_1_method_36_code
def yX0_among : MethodName := ⟨RX0, "among", "(III)I"⟩
def dkwX0_among_3 : List UInt8 := [54, 4, 132, 5, 1, 167, 255, 211, 21, 4, 172]
abbrev dktX0_among_3 : List UInt8 := dkwX0_among_3 ++ []
def dkwX0_among_2 : List UInt8 := [185, 0, 104, 2, 0, 192, 0, 223, 27, 28, 182, 0, 243, 29, 160, 0, 7, 4, 167, 0, 4, 3, 96]
abbrev dktX0_among_2 : List UInt8 := dkwX0_among_2 ++ dktX0_among_3
def dkwX0_among_1 : List UInt8 := [54, 4, 3, 54, 5, 21, 5, 42, 180, 0, 220, 162, 0, 42, 21, 4, 42, 180, 0, 61, 21, 5]
abbrev dktX0_among_1 : List UInt8 := dkwX0_among_1 ++ dktX0_among_2
def dkwX0_among_0 : List UInt8 := [42, 27, 28, 29, 182, 0, 240, 154, 0, 6, 16, 254, 172, 42, 182, 0, 237, 154, 0, 6, 16, 253, 172, 3]
abbrev dktX0_among_0 : List UInt8 := dkwX0_among_0 ++ dktX0_among_1
theorem dksX0_among_0 : cX0_among.data.toList.drop 0 = dktX0_among_0 := by decide +kernel
theorem dksX0_among_1 : cX0_among.data.toList.drop 24 = dktX0_among_1 := dk_seg dksX0_among_0 24 rfl rfl
theorem dksX0_among_2 : cX0_among.data.toList.drop 46 = dktX0_among_2 := dk_seg dksX0_among_1 22 rfl rfl
theorem dksX0_among_3 : cX0_among.data.toList.drop 69 = dktX0_among_3 := dk_seg dksX0_among_2 23 rfl rfl
theorem dX0_among_0 : decode cX0_among 0 = .ok (.aload_n 0, 1) := dk_42 (dk_at dksX0_among_0 0 rfl rfl)
theorem dX0_among_1 : decode cX0_among 1 = .ok (.iload_n 1, 1) := dk_27 (dk_at dksX0_among_0 1 rfl rfl)
theorem dX0_among_2 : decode cX0_among 2 = .ok (.iload_n 2, 1) := dk_28 (dk_at dksX0_among_0 2 rfl rfl)
theorem dX0_among_3 : decode cX0_among 3 = .ok (.iload_n 3, 1) := dk_29 (dk_at dksX0_among_0 3 rfl rfl)
theorem dX0_among_4 : decode cX0_among 4 = .ok (.invokevirtual 240, 3) := dk_182 0 240 (dk_at dksX0_among_0 4 rfl rfl)
theorem dX0_among_7 : decode cX0_among 7 = .ok (.ifCond .ne 6, 3) := dk_154 0 6 (dk_at dksX0_among_0 7 rfl rfl)
theorem dX0_among_10 : decode cX0_among 10 = .ok (.bipush (-2), 2) := dk_16 254 (dk_at dksX0_among_0 10 rfl rfl)
theorem dX0_among_12 : decode cX0_among 12 = .ok (.ireturn, 1) := dk_172 (dk_at dksX0_among_0 12 rfl rfl)
theorem dX0_among_13 : decode cX0_among 13 = .ok (.aload_n 0, 1) := dk_42 (dk_at dksX0_among_0 13 rfl rfl)
theorem dX0_among_14 : decode cX0_among 14 = .ok (.invokevirtual 237, 3) := dk_182 0 237 (dk_at dksX0_among_0 14 rfl rfl)
theorem dX0_among_17 : decode cX0_among 17 = .ok (.ifCond .ne 6, 3) := dk_154 0 6 (dk_at dksX0_among_0 17 rfl rfl)
theorem dX0_among_20 : decode cX0_among 20 = .ok (.bipush (-3), 2) := dk_16 253 (dk_at dksX0_among_0 20 rfl rfl)
theorem dX0_among_22 : decode cX0_among 22 = .ok (.ireturn, 1) := dk_172 (dk_at dksX0_among_0 22 rfl rfl)
theorem dX0_among_23 : decode cX0_among 23 = .ok (.iconst 0, 1) := dk_3 (dk_at dksX0_among_0 23 rfl rfl)
theorem dX0_among_24 : decode cX0_among 24 = .ok (.istore 4, 2) := dk_54 4 (dk_at dksX0_among_1 0 rfl rfl)
theorem dX0_among_26 : decode cX0_among 26 = .ok (.iconst 0, 1) := dk_3 (dk_at dksX0_among_1 2 rfl rfl)
theorem dX0_among_27 : decode cX0_among 27 = .ok (.istore 5, 2) := dk_54 5 (dk_at dksX0_among_1 3 rfl rfl)
theorem dX0_among_29 : decode cX0_among 29 = .ok (.iload 5, 2) := dk_21 5 (dk_at dksX0_among_1 5 rfl rfl)
theorem dX0_among_31 : decode cX0_among 31 = .ok (.aload_n 0, 1) := dk_42 (dk_at dksX0_among_1 7 rfl rfl)
theorem dX0_among_32 : decode cX0_among 32 = .ok (.getfield 220, 3) := dk_180 0 220 (dk_at dksX0_among_1 8 rfl rfl)
theorem dX0_among_35 : decode cX0_among 35 = .ok (.if_icmp .ge 42, 3) := dk_162 0 42 (dk_at dksX0_among_1 11 rfl rfl)
theorem dX0_among_38 : decode cX0_among 38 = .ok (.iload 4, 2) := dk_21 4 (dk_at dksX0_among_1 14 rfl rfl)
theorem dX0_among_40 : decode cX0_among 40 = .ok (.aload_n 0, 1) := dk_42 (dk_at dksX0_among_1 16 rfl rfl)
theorem dX0_among_41 : decode cX0_among 41 = .ok (.getfield 61, 3) := dk_180 0 61 (dk_at dksX0_among_1 17 rfl rfl)
theorem dX0_among_44 : decode cX0_among 44 = .ok (.iload 5, 2) := dk_21 5 (dk_at dksX0_among_1 20 rfl rfl)
theorem dX0_among_46 : decode cX0_among 46 = .ok (.invokeinterface 104 2, 5) := by decide +kernel
theorem dX0_among_51 : decode cX0_among 51 = .ok (.checkcast 223, 3) := dk_192 0 223 (dk_at dksX0_among_2 5 rfl rfl)
theorem dX0_among_54 : decode cX0_among 54 = .ok (.iload_n 1, 1) := dk_27 (dk_at dksX0_among_2 8 rfl rfl)
theorem dX0_among_55 : decode cX0_among 55 = .ok (.iload_n 2, 1) := dk_28 (dk_at dksX0_among_2 9 rfl rfl)
theorem dX0_among_56 : decode cX0_among 56 = .ok (.invokevirtual 243, 3) := dk_182 0 243 (dk_at dksX0_among_2 10 rfl rfl)
theorem dX0_among_59 : decode cX0_among 59 = .ok (.iload_n 3, 1) := dk_29 (dk_at dksX0_among_2 13 rfl rfl)
theorem dX0_among_60 : decode cX0_among 60 = .ok (.if_icmp .ne 7, 3) := dk_160 0 7 (dk_at dksX0_among_2 14 rfl rfl)
theorem dX0_among_63 : decode cX0_among 63 = .ok (.iconst 1, 1) := dk_4 (dk_at dksX0_among_2 17 rfl rfl)
theorem dX0_among_64 : decode cX0_among 64 = .ok (.goto 4, 3) := dk_167 0 4 (dk_at dksX0_among_2 18 rfl rfl)
theorem dX0_among_67 : decode cX0_among 67 = .ok (.iconst 0, 1) := dk_3 (dk_at dksX0_among_2 21 rfl rfl)
theorem dX0_among_68 : decode cX0_among 68 = .ok (.iadd, 1) := dk_96 (dk_at dksX0_among_2 22 rfl rfl)
theorem dX0_among_69 : decode cX0_among 69 = .ok (.istore 4, 2) := dk_54 4 (dk_at dksX0_among_3 0 rfl rfl)
theorem dX0_among_71 : decode cX0_among 71 = .ok (.iinc 5 1, 3) := dk_132 5 1 (dk_at dksX0_among_3 2 rfl rfl)
theorem dX0_among_74 : decode cX0_among 74 = .ok (.goto (-45), 3) := dk_167 255 211 (dk_at dksX0_among_3 5 rfl rfl)
theorem dX0_among_77 : decode cX0_among 77 = .ok (.iload 4, 2) := dk_21 4 (dk_at dksX0_among_3 8 rfl rfl)
theorem dX0_among_79 : decode cX0_among 79 = .ok (.ireturn, 1) := dk_172 (dk_at dksX0_among_3 10 rfl rfl)
abbrev cX0_isAsked : ByteArray := prog_1_method_19_code
def yX0_isAsked : MethodName := ⟨RX0, "isAsked", "(III)Z"⟩
def dkwX0_isAsked_1 : List UInt8 := [153, 0, 7, 4, 167, 0, 4, 3, 172]
abbrev dktX0_isAsked_1 : List UInt8 := dkwX0_isAsked_1 ++ []
def dkwX0_isAsked_0 : List UInt8 := [42, 27, 133, 182, 0, 146, 153, 0, 24, 42, 28, 133, 182, 0, 150, 153, 0, 15, 29, 133, 184, 0, 153]
abbrev dktX0_isAsked_0 : List UInt8 := dkwX0_isAsked_0 ++ dktX0_isAsked_1
theorem dksX0_isAsked_0 : cX0_isAsked.data.toList.drop 0 = dktX0_isAsked_0 := by decide +kernel
theorem dksX0_isAsked_1 : cX0_isAsked.data.toList.drop 23 = dktX0_isAsked_1 := dk_seg dksX0_isAsked_0 23 rfl rfl
theorem dX0_isAsked_0 : decode cX0_isAsked 0 = .ok (.aload_n 0, 1) := dk_42 (dk_at dksX0_isAsked_0 0 rfl rfl)
theorem dX0_isAsked_1 : decode cX0_isAsked 1 = .ok (.iload_n 1, 1) := dk_27 (dk_at dksX0_isAsked_0 1 rfl rfl)
theorem dX0_isAsked_2 : decode cX0_isAsked 2 = .ok (.i2l, 1) := dk_133 (dk_at dksX0_isAsked_0 2 rfl rfl)
theorem dX0_isAsked_3 : decode cX0_isAsked 3 = .ok (.invokevirtual 146, 3) := dk_182 0 146 (dk_at dksX0_isAsked_0 3 rfl rfl)
theorem dX0_isAsked_6 : decode cX0_isAsked 6 = .ok (.ifCond .eq 24, 3) := dk_153 0 24 (dk_at dksX0_isAsked_0 6 rfl rfl)
theorem dX0_isAsked_9 : decode cX0_isAsked 9 = .ok (.aload_n 0, 1) := dk_42 (dk_at dksX0_isAsked_0 9 rfl rfl)
theorem dX0_isAsked_10 : decode cX0_isAsked 10 = .ok (.iload_n 2, 1) := dk_28 (dk_at dksX0_isAsked_0 10 rfl rfl)
theorem dX0_isAsked_11 : decode cX0_isAsked 11 = .ok (.i2l, 1) := dk_133 (dk_at dksX0_isAsked_0 11 rfl rfl)
theorem dX0_isAsked_12 : decode cX0_isAsked 12 = .ok (.invokevirtual 150, 3) := dk_182 0 150 (dk_at dksX0_isAsked_0 12 rfl rfl)
theorem dX0_isAsked_15 : decode cX0_isAsked 15 = .ok (.ifCond .eq 15, 3) := dk_153 0 15 (dk_at dksX0_isAsked_0 15 rfl rfl)
theorem dX0_isAsked_18 : decode cX0_isAsked 18 = .ok (.iload_n 3, 1) := dk_29 (dk_at dksX0_isAsked_0 18 rfl rfl)
theorem dX0_isAsked_19 : decode cX0_isAsked 19 = .ok (.i2l, 1) := dk_133 (dk_at dksX0_isAsked_0 19 rfl rfl)
theorem dX0_isAsked_20 : decode cX0_isAsked 20 = .ok (.invokestatic 153, 3) := dk_184 0 153 (dk_at dksX0_isAsked_0 20 rfl rfl)
theorem dX0_isAsked_23 : decode cX0_isAsked 23 = .ok (.ifCond .eq 7, 3) := dk_153 0 7 (dk_at dksX0_isAsked_1 0 rfl rfl)
theorem dX0_isAsked_26 : decode cX0_isAsked 26 = .ok (.iconst 1, 1) := dk_4 (dk_at dksX0_isAsked_1 3 rfl rfl)
theorem dX0_isAsked_27 : decode cX0_isAsked 27 = .ok (.goto 4, 3) := dk_167 0 4 (dk_at dksX0_isAsked_1 4 rfl rfl)
theorem dX0_isAsked_30 : decode cX0_isAsked 30 = .ok (.iconst 0, 1) := dk_3 (dk_at dksX0_isAsked_1 7 rfl rfl)
theorem dX0_isAsked_31 : decode cX0_isAsked 31 = .ok (.ireturn, 1) := dk_172 (dk_at dksX0_isAsked_1 8 rfl rfl)
abbrev cX0_agree : ByteArray := prog_1_method_39_code
def yX0_agree : MethodName := ⟨RX0, "agree", "(I)I"⟩
def dkwX0_agree_2 : List UInt8 := [50, 2, 182, 1, 3, 153, 0, 7, 4, 167, 0, 4, 3, 96, 62, 132, 4, 1, 167, 255, 208, 29, 172]
abbrev dktX0_agree_2 : List UInt8 := dkwX0_agree_2 ++ []
def dkwX0_agree_1 : List UInt8 := [162, 0, 45, 29, 42, 42, 180, 0, 61, 21, 4, 185, 0, 104, 2, 0, 192, 0, 223, 42, 180, 0, 13, 27]
abbrev dktX0_agree_1 : List UInt8 := dkwX0_agree_1 ++ dktX0_agree_2
def dkwX0_agree_0 : List UInt8 := [42, 27, 182, 0, 255, 61, 28, 153, 0, 5, 28, 172, 3, 62, 3, 54, 4, 21, 4, 42, 180, 0, 220]
abbrev dktX0_agree_0 : List UInt8 := dkwX0_agree_0 ++ dktX0_agree_1
theorem dksX0_agree_0 : cX0_agree.data.toList.drop 0 = dktX0_agree_0 := by decide +kernel
theorem dksX0_agree_1 : cX0_agree.data.toList.drop 23 = dktX0_agree_1 := dk_seg dksX0_agree_0 23 rfl rfl
theorem dksX0_agree_2 : cX0_agree.data.toList.drop 47 = dktX0_agree_2 := dk_seg dksX0_agree_1 24 rfl rfl
theorem dX0_agree_0 : decode cX0_agree 0 = .ok (.aload_n 0, 1) := dk_42 (dk_at dksX0_agree_0 0 rfl rfl)
theorem dX0_agree_1 : decode cX0_agree 1 = .ok (.iload_n 1, 1) := dk_27 (dk_at dksX0_agree_0 1 rfl rfl)
theorem dX0_agree_2 : decode cX0_agree 2 = .ok (.invokevirtual 255, 3) := dk_182 0 255 (dk_at dksX0_agree_0 2 rfl rfl)
theorem dX0_agree_5 : decode cX0_agree 5 = .ok (.istore_n 2, 1) := dk_61 (dk_at dksX0_agree_0 5 rfl rfl)
theorem dX0_agree_6 : decode cX0_agree 6 = .ok (.iload_n 2, 1) := dk_28 (dk_at dksX0_agree_0 6 rfl rfl)
theorem dX0_agree_7 : decode cX0_agree 7 = .ok (.ifCond .eq 5, 3) := dk_153 0 5 (dk_at dksX0_agree_0 7 rfl rfl)
theorem dX0_agree_10 : decode cX0_agree 10 = .ok (.iload_n 2, 1) := dk_28 (dk_at dksX0_agree_0 10 rfl rfl)
theorem dX0_agree_11 : decode cX0_agree 11 = .ok (.ireturn, 1) := dk_172 (dk_at dksX0_agree_0 11 rfl rfl)
theorem dX0_agree_12 : decode cX0_agree 12 = .ok (.iconst 0, 1) := dk_3 (dk_at dksX0_agree_0 12 rfl rfl)
theorem dX0_agree_13 : decode cX0_agree 13 = .ok (.istore_n 3, 1) := dk_62 (dk_at dksX0_agree_0 13 rfl rfl)
theorem dX0_agree_14 : decode cX0_agree 14 = .ok (.iconst 0, 1) := dk_3 (dk_at dksX0_agree_0 14 rfl rfl)
theorem dX0_agree_15 : decode cX0_agree 15 = .ok (.istore 4, 2) := dk_54 4 (dk_at dksX0_agree_0 15 rfl rfl)
theorem dX0_agree_17 : decode cX0_agree 17 = .ok (.iload 4, 2) := dk_21 4 (dk_at dksX0_agree_0 17 rfl rfl)
theorem dX0_agree_19 : decode cX0_agree 19 = .ok (.aload_n 0, 1) := dk_42 (dk_at dksX0_agree_0 19 rfl rfl)
theorem dX0_agree_20 : decode cX0_agree 20 = .ok (.getfield 220, 3) := dk_180 0 220 (dk_at dksX0_agree_0 20 rfl rfl)
theorem dX0_agree_23 : decode cX0_agree 23 = .ok (.if_icmp .ge 45, 3) := dk_162 0 45 (dk_at dksX0_agree_1 0 rfl rfl)
theorem dX0_agree_26 : decode cX0_agree 26 = .ok (.iload_n 3, 1) := dk_29 (dk_at dksX0_agree_1 3 rfl rfl)
theorem dX0_agree_27 : decode cX0_agree 27 = .ok (.aload_n 0, 1) := dk_42 (dk_at dksX0_agree_1 4 rfl rfl)
theorem dX0_agree_28 : decode cX0_agree 28 = .ok (.aload_n 0, 1) := dk_42 (dk_at dksX0_agree_1 5 rfl rfl)
theorem dX0_agree_29 : decode cX0_agree 29 = .ok (.getfield 61, 3) := dk_180 0 61 (dk_at dksX0_agree_1 6 rfl rfl)
theorem dX0_agree_32 : decode cX0_agree 32 = .ok (.iload 4, 2) := dk_21 4 (dk_at dksX0_agree_1 9 rfl rfl)
theorem dX0_agree_34 : decode cX0_agree 34 = .ok (.invokeinterface 104 2, 5) := by decide +kernel
theorem dX0_agree_39 : decode cX0_agree 39 = .ok (.checkcast 223, 3) := dk_192 0 223 (dk_at dksX0_agree_1 16 rfl rfl)
theorem dX0_agree_42 : decode cX0_agree 42 = .ok (.aload_n 0, 1) := dk_42 (dk_at dksX0_agree_1 19 rfl rfl)
theorem dX0_agree_43 : decode cX0_agree 43 = .ok (.getfield 13, 3) := dk_180 0 13 (dk_at dksX0_agree_1 20 rfl rfl)
theorem dX0_agree_46 : decode cX0_agree 46 = .ok (.iload_n 1, 1) := dk_27 (dk_at dksX0_agree_1 23 rfl rfl)
theorem dX0_agree_47 : decode cX0_agree 47 = .ok (.aaload, 1) := dk_50 (dk_at dksX0_agree_2 0 rfl rfl)
theorem dX0_agree_48 : decode cX0_agree 48 = .ok (.iconst (-1), 1) := dk_2 (dk_at dksX0_agree_2 1 rfl rfl)
theorem dX0_agree_49 : decode cX0_agree 49 = .ok (.invokevirtual 259, 3) := dk_182 1 3 (dk_at dksX0_agree_2 2 rfl rfl)
theorem dX0_agree_52 : decode cX0_agree 52 = .ok (.ifCond .eq 7, 3) := dk_153 0 7 (dk_at dksX0_agree_2 5 rfl rfl)
theorem dX0_agree_55 : decode cX0_agree 55 = .ok (.iconst 1, 1) := dk_4 (dk_at dksX0_agree_2 8 rfl rfl)
theorem dX0_agree_56 : decode cX0_agree 56 = .ok (.goto 4, 3) := dk_167 0 4 (dk_at dksX0_agree_2 9 rfl rfl)
theorem dX0_agree_59 : decode cX0_agree 59 = .ok (.iconst 0, 1) := dk_3 (dk_at dksX0_agree_2 12 rfl rfl)
theorem dX0_agree_60 : decode cX0_agree 60 = .ok (.iadd, 1) := dk_96 (dk_at dksX0_agree_2 13 rfl rfl)
theorem dX0_agree_61 : decode cX0_agree 61 = .ok (.istore_n 3, 1) := dk_62 (dk_at dksX0_agree_2 14 rfl rfl)
theorem dX0_agree_62 : decode cX0_agree 62 = .ok (.iinc 4 1, 3) := dk_132 4 1 (dk_at dksX0_agree_2 15 rfl rfl)
theorem dX0_agree_65 : decode cX0_agree 65 = .ok (.goto (-48), 3) := dk_167 255 208 (dk_at dksX0_agree_2 18 rfl rfl)
theorem dX0_agree_68 : decode cX0_agree 68 = .ok (.iload_n 3, 1) := dk_29 (dk_at dksX0_agree_2 21 rfl rfl)
theorem dX0_agree_69 : decode cX0_agree 69 = .ok (.ireturn, 1) := dk_172 (dk_at dksX0_agree_2 22 rfl rfl)
abbrev cX0_whyNot : ByteArray := prog_1_method_38_code
def yX0_whyNot : MethodName := ⟨RX0, "whyNot", "(I)I"⟩
def dkwX0_whyNot_5 : List UInt8 := [16, 253, 172]
abbrev dktX0_whyNot_5 : List UInt8 := dkwX0_whyNot_5 ++ []
def dkwX0_whyNot_4 : List UInt8 := [154, 0, 6, 16, 254, 172, 132, 3, 3, 167, 255, 203, 42, 182, 0, 237, 153, 0, 7, 3, 167, 0, 5]
abbrev dktX0_whyNot_4 : List UInt8 := dkwX0_whyNot_4 ++ dktX0_whyNot_5
def dkwX0_whyNot_3 : List UInt8 := [44, 29, 4, 96, 182, 0, 247, 182, 0, 150, 153, 0, 16, 44, 29, 5, 96, 182, 0, 247, 184, 0, 153]
abbrev dktX0_whyNot_3 : List UInt8 := dkwX0_whyNot_3 ++ dktX0_whyNot_4
def dkwX0_whyNot_2 : List UInt8 := [172, 3, 62, 29, 44, 182, 0, 245, 162, 0, 51, 42, 44, 29, 182, 0, 247, 182, 0, 146, 153, 0, 30, 42]
abbrev dktX0_whyNot_2 : List UInt8 := dkwX0_whyNot_2 ++ dktX0_whyNot_3
def dkwX0_whyNot_1 : List UInt8 := [27, 50, 77, 44, 180, 0, 251, 199, 0, 6, 16, 250, 172, 44, 182, 0, 245, 6, 112, 153, 0, 6, 16, 254]
abbrev dktX0_whyNot_1 : List UInt8 := dkwX0_whyNot_1 ++ dktX0_whyNot_2
def dkwX0_whyNot_0 : List UInt8 := [27, 184, 0, 9, 153, 0, 13, 42, 180, 0, 41, 182, 0, 140, 154, 0, 6, 16, 254, 172, 42, 180, 0, 13]
abbrev dktX0_whyNot_0 : List UInt8 := dkwX0_whyNot_0 ++ dktX0_whyNot_1
theorem dksX0_whyNot_0 : cX0_whyNot.data.toList.drop 0 = dktX0_whyNot_0 := by decide +kernel
theorem dksX0_whyNot_1 : cX0_whyNot.data.toList.drop 24 = dktX0_whyNot_1 := dk_seg dksX0_whyNot_0 24 rfl rfl
theorem dksX0_whyNot_2 : cX0_whyNot.data.toList.drop 48 = dktX0_whyNot_2 := dk_seg dksX0_whyNot_1 24 rfl rfl
theorem dksX0_whyNot_3 : cX0_whyNot.data.toList.drop 72 = dktX0_whyNot_3 := dk_seg dksX0_whyNot_2 24 rfl rfl
theorem dksX0_whyNot_4 : cX0_whyNot.data.toList.drop 95 = dktX0_whyNot_4 := dk_seg dksX0_whyNot_3 23 rfl rfl
theorem dksX0_whyNot_5 : cX0_whyNot.data.toList.drop 118 = dktX0_whyNot_5 := dk_seg dksX0_whyNot_4 23 rfl rfl
theorem dX0_whyNot_0 : decode cX0_whyNot 0 = .ok (.iload_n 1, 1) := dk_27 (dk_at dksX0_whyNot_0 0 rfl rfl)
theorem dX0_whyNot_1 : decode cX0_whyNot 1 = .ok (.invokestatic 9, 3) := dk_184 0 9 (dk_at dksX0_whyNot_0 1 rfl rfl)
theorem dX0_whyNot_4 : decode cX0_whyNot 4 = .ok (.ifCond .eq 13, 3) := dk_153 0 13 (dk_at dksX0_whyNot_0 4 rfl rfl)
theorem dX0_whyNot_7 : decode cX0_whyNot 7 = .ok (.aload_n 0, 1) := dk_42 (dk_at dksX0_whyNot_0 7 rfl rfl)
theorem dX0_whyNot_8 : decode cX0_whyNot 8 = .ok (.getfield 41, 3) := dk_180 0 41 (dk_at dksX0_whyNot_0 8 rfl rfl)
theorem dX0_whyNot_11 : decode cX0_whyNot 11 = .ok (.invokevirtual 140, 3) := dk_182 0 140 (dk_at dksX0_whyNot_0 11 rfl rfl)
theorem dX0_whyNot_14 : decode cX0_whyNot 14 = .ok (.ifCond .ne 6, 3) := dk_154 0 6 (dk_at dksX0_whyNot_0 14 rfl rfl)
theorem dX0_whyNot_17 : decode cX0_whyNot 17 = .ok (.bipush (-2), 2) := dk_16 254 (dk_at dksX0_whyNot_0 17 rfl rfl)
theorem dX0_whyNot_19 : decode cX0_whyNot 19 = .ok (.ireturn, 1) := dk_172 (dk_at dksX0_whyNot_0 19 rfl rfl)
theorem dX0_whyNot_20 : decode cX0_whyNot 20 = .ok (.aload_n 0, 1) := dk_42 (dk_at dksX0_whyNot_0 20 rfl rfl)
theorem dX0_whyNot_21 : decode cX0_whyNot 21 = .ok (.getfield 13, 3) := dk_180 0 13 (dk_at dksX0_whyNot_0 21 rfl rfl)
theorem dX0_whyNot_24 : decode cX0_whyNot 24 = .ok (.iload_n 1, 1) := dk_27 (dk_at dksX0_whyNot_1 0 rfl rfl)
theorem dX0_whyNot_25 : decode cX0_whyNot 25 = .ok (.aaload, 1) := dk_50 (dk_at dksX0_whyNot_1 1 rfl rfl)
theorem dX0_whyNot_26 : decode cX0_whyNot 26 = .ok (.astore_n 2, 1) := dk_77 (dk_at dksX0_whyNot_1 2 rfl rfl)
theorem dX0_whyNot_27 : decode cX0_whyNot 27 = .ok (.aload_n 2, 1) := dk_44 (dk_at dksX0_whyNot_1 3 rfl rfl)
theorem dX0_whyNot_28 : decode cX0_whyNot 28 = .ok (.getfield 251, 3) := dk_180 0 251 (dk_at dksX0_whyNot_1 4 rfl rfl)
theorem dX0_whyNot_31 : decode cX0_whyNot 31 = .ok (.ifnonnull 6, 3) := dk_199 0 6 (dk_at dksX0_whyNot_1 7 rfl rfl)
theorem dX0_whyNot_34 : decode cX0_whyNot 34 = .ok (.bipush (-6), 2) := dk_16 250 (dk_at dksX0_whyNot_1 10 rfl rfl)
theorem dX0_whyNot_36 : decode cX0_whyNot 36 = .ok (.ireturn, 1) := dk_172 (dk_at dksX0_whyNot_1 12 rfl rfl)
theorem dX0_whyNot_37 : decode cX0_whyNot 37 = .ok (.aload_n 2, 1) := dk_44 (dk_at dksX0_whyNot_1 13 rfl rfl)
theorem dX0_whyNot_38 : decode cX0_whyNot 38 = .ok (.invokevirtual 245, 3) := dk_182 0 245 (dk_at dksX0_whyNot_1 14 rfl rfl)
theorem dX0_whyNot_41 : decode cX0_whyNot 41 = .ok (.iconst 3, 1) := dk_6 (dk_at dksX0_whyNot_1 17 rfl rfl)
theorem dX0_whyNot_42 : decode cX0_whyNot 42 = .ok (.irem, 1) := dk_112 (dk_at dksX0_whyNot_1 18 rfl rfl)
theorem dX0_whyNot_43 : decode cX0_whyNot 43 = .ok (.ifCond .eq 6, 3) := dk_153 0 6 (dk_at dksX0_whyNot_1 19 rfl rfl)
theorem dX0_whyNot_46 : decode cX0_whyNot 46 = .ok (.bipush (-2), 2) := dk_16 254 (dk_at dksX0_whyNot_1 22 rfl rfl)
theorem dX0_whyNot_48 : decode cX0_whyNot 48 = .ok (.ireturn, 1) := dk_172 (dk_at dksX0_whyNot_2 0 rfl rfl)
theorem dX0_whyNot_49 : decode cX0_whyNot 49 = .ok (.iconst 0, 1) := dk_3 (dk_at dksX0_whyNot_2 1 rfl rfl)
theorem dX0_whyNot_50 : decode cX0_whyNot 50 = .ok (.istore_n 3, 1) := dk_62 (dk_at dksX0_whyNot_2 2 rfl rfl)
theorem dX0_whyNot_51 : decode cX0_whyNot 51 = .ok (.iload_n 3, 1) := dk_29 (dk_at dksX0_whyNot_2 3 rfl rfl)
theorem dX0_whyNot_52 : decode cX0_whyNot 52 = .ok (.aload_n 2, 1) := dk_44 (dk_at dksX0_whyNot_2 4 rfl rfl)
theorem dX0_whyNot_53 : decode cX0_whyNot 53 = .ok (.invokevirtual 245, 3) := dk_182 0 245 (dk_at dksX0_whyNot_2 5 rfl rfl)
theorem dX0_whyNot_56 : decode cX0_whyNot 56 = .ok (.if_icmp .ge 51, 3) := dk_162 0 51 (dk_at dksX0_whyNot_2 8 rfl rfl)
theorem dX0_whyNot_59 : decode cX0_whyNot 59 = .ok (.aload_n 0, 1) := dk_42 (dk_at dksX0_whyNot_2 11 rfl rfl)
theorem dX0_whyNot_60 : decode cX0_whyNot 60 = .ok (.aload_n 2, 1) := dk_44 (dk_at dksX0_whyNot_2 12 rfl rfl)
theorem dX0_whyNot_61 : decode cX0_whyNot 61 = .ok (.iload_n 3, 1) := dk_29 (dk_at dksX0_whyNot_2 13 rfl rfl)
theorem dX0_whyNot_62 : decode cX0_whyNot 62 = .ok (.invokevirtual 247, 3) := dk_182 0 247 (dk_at dksX0_whyNot_2 14 rfl rfl)
theorem dX0_whyNot_65 : decode cX0_whyNot 65 = .ok (.invokevirtual 146, 3) := dk_182 0 146 (dk_at dksX0_whyNot_2 17 rfl rfl)
theorem dX0_whyNot_68 : decode cX0_whyNot 68 = .ok (.ifCond .eq 30, 3) := dk_153 0 30 (dk_at dksX0_whyNot_2 20 rfl rfl)
theorem dX0_whyNot_71 : decode cX0_whyNot 71 = .ok (.aload_n 0, 1) := dk_42 (dk_at dksX0_whyNot_2 23 rfl rfl)
theorem dX0_whyNot_72 : decode cX0_whyNot 72 = .ok (.aload_n 2, 1) := dk_44 (dk_at dksX0_whyNot_3 0 rfl rfl)
theorem dX0_whyNot_73 : decode cX0_whyNot 73 = .ok (.iload_n 3, 1) := dk_29 (dk_at dksX0_whyNot_3 1 rfl rfl)
theorem dX0_whyNot_74 : decode cX0_whyNot 74 = .ok (.iconst 1, 1) := dk_4 (dk_at dksX0_whyNot_3 2 rfl rfl)
theorem dX0_whyNot_75 : decode cX0_whyNot 75 = .ok (.iadd, 1) := dk_96 (dk_at dksX0_whyNot_3 3 rfl rfl)
theorem dX0_whyNot_76 : decode cX0_whyNot 76 = .ok (.invokevirtual 247, 3) := dk_182 0 247 (dk_at dksX0_whyNot_3 4 rfl rfl)
theorem dX0_whyNot_79 : decode cX0_whyNot 79 = .ok (.invokevirtual 150, 3) := dk_182 0 150 (dk_at dksX0_whyNot_3 7 rfl rfl)
theorem dX0_whyNot_82 : decode cX0_whyNot 82 = .ok (.ifCond .eq 16, 3) := dk_153 0 16 (dk_at dksX0_whyNot_3 10 rfl rfl)
theorem dX0_whyNot_85 : decode cX0_whyNot 85 = .ok (.aload_n 2, 1) := dk_44 (dk_at dksX0_whyNot_3 13 rfl rfl)
theorem dX0_whyNot_86 : decode cX0_whyNot 86 = .ok (.iload_n 3, 1) := dk_29 (dk_at dksX0_whyNot_3 14 rfl rfl)
theorem dX0_whyNot_87 : decode cX0_whyNot 87 = .ok (.iconst 2, 1) := dk_5 (dk_at dksX0_whyNot_3 15 rfl rfl)
theorem dX0_whyNot_88 : decode cX0_whyNot 88 = .ok (.iadd, 1) := dk_96 (dk_at dksX0_whyNot_3 16 rfl rfl)
theorem dX0_whyNot_89 : decode cX0_whyNot 89 = .ok (.invokevirtual 247, 3) := dk_182 0 247 (dk_at dksX0_whyNot_3 17 rfl rfl)
theorem dX0_whyNot_92 : decode cX0_whyNot 92 = .ok (.invokestatic 153, 3) := dk_184 0 153 (dk_at dksX0_whyNot_3 20 rfl rfl)
theorem dX0_whyNot_95 : decode cX0_whyNot 95 = .ok (.ifCond .ne 6, 3) := dk_154 0 6 (dk_at dksX0_whyNot_4 0 rfl rfl)
theorem dX0_whyNot_98 : decode cX0_whyNot 98 = .ok (.bipush (-2), 2) := dk_16 254 (dk_at dksX0_whyNot_4 3 rfl rfl)
theorem dX0_whyNot_100 : decode cX0_whyNot 100 = .ok (.ireturn, 1) := dk_172 (dk_at dksX0_whyNot_4 5 rfl rfl)
theorem dX0_whyNot_101 : decode cX0_whyNot 101 = .ok (.iinc 3 3, 3) := dk_132 3 3 (dk_at dksX0_whyNot_4 6 rfl rfl)
theorem dX0_whyNot_104 : decode cX0_whyNot 104 = .ok (.goto (-53), 3) := dk_167 255 203 (dk_at dksX0_whyNot_4 9 rfl rfl)
theorem dX0_whyNot_107 : decode cX0_whyNot 107 = .ok (.aload_n 0, 1) := dk_42 (dk_at dksX0_whyNot_4 12 rfl rfl)
theorem dX0_whyNot_108 : decode cX0_whyNot 108 = .ok (.invokevirtual 237, 3) := dk_182 0 237 (dk_at dksX0_whyNot_4 13 rfl rfl)
theorem dX0_whyNot_111 : decode cX0_whyNot 111 = .ok (.ifCond .eq 7, 3) := dk_153 0 7 (dk_at dksX0_whyNot_4 16 rfl rfl)
theorem dX0_whyNot_114 : decode cX0_whyNot 114 = .ok (.iconst 0, 1) := dk_3 (dk_at dksX0_whyNot_4 19 rfl rfl)
theorem dX0_whyNot_115 : decode cX0_whyNot 115 = .ok (.goto 5, 3) := dk_167 0 5 (dk_at dksX0_whyNot_4 20 rfl rfl)
theorem dX0_whyNot_118 : decode cX0_whyNot 118 = .ok (.bipush (-3), 2) := dk_16 253 (dk_at dksX0_whyNot_5 0 rfl rfl)
theorem dX0_whyNot_120 : decode cX0_whyNot 120 = .ok (.ireturn, 1) := dk_172 (dk_at dksX0_whyNot_5 2 rfl rfl)
abbrev cX0_agrees : ByteArray := prog_1_method_37_code
def yX0_agrees : MethodName := ⟨RX0, "agrees", "(LUnseenClock$Seen;LUnseenClock$Slot;I)Z"⟩
def dkwX0_agrees_2 : List UInt8 := [44, 6, 21, 4, 104, 5, 96, 182, 0, 247, 148, 153, 0, 5, 3, 172, 132, 4, 1, 167, 255, 192, 4, 172]
abbrev dktX0_agrees_2 : List UInt8 := dkwX0_agrees_2 ++ []
def dkwX0_agrees_1 : List UInt8 := [44, 6, 21, 4, 104, 182, 0, 247, 136, 44, 6, 21, 4, 104, 4, 96, 182, 0, 247, 136, 182, 0, 243, 133]
abbrev dktX0_agrees_1 : List UInt8 := dkwX0_agrees_1 ++ dktX0_agrees_2
def dkwX0_agrees_0 : List UInt8 := [3, 54, 4, 6, 21, 4, 104, 44, 182, 0, 245, 162, 0, 59, 29, 21, 4, 184, 0, 168, 153, 0, 44, 43]
abbrev dktX0_agrees_0 : List UInt8 := dkwX0_agrees_0 ++ dktX0_agrees_1
theorem dksX0_agrees_0 : cX0_agrees.data.toList.drop 0 = dktX0_agrees_0 := by decide +kernel
theorem dksX0_agrees_1 : cX0_agrees.data.toList.drop 24 = dktX0_agrees_1 := dk_seg dksX0_agrees_0 24 rfl rfl
theorem dksX0_agrees_2 : cX0_agrees.data.toList.drop 48 = dktX0_agrees_2 := dk_seg dksX0_agrees_1 24 rfl rfl
theorem dX0_agrees_0 : decode cX0_agrees 0 = .ok (.iconst 0, 1) := dk_3 (dk_at dksX0_agrees_0 0 rfl rfl)
theorem dX0_agrees_1 : decode cX0_agrees 1 = .ok (.istore 4, 2) := dk_54 4 (dk_at dksX0_agrees_0 1 rfl rfl)
theorem dX0_agrees_3 : decode cX0_agrees 3 = .ok (.iconst 3, 1) := dk_6 (dk_at dksX0_agrees_0 3 rfl rfl)
theorem dX0_agrees_4 : decode cX0_agrees 4 = .ok (.iload 4, 2) := dk_21 4 (dk_at dksX0_agrees_0 4 rfl rfl)
theorem dX0_agrees_6 : decode cX0_agrees 6 = .ok (.imul, 1) := dk_104 (dk_at dksX0_agrees_0 6 rfl rfl)
theorem dX0_agrees_7 : decode cX0_agrees 7 = .ok (.aload_n 2, 1) := dk_44 (dk_at dksX0_agrees_0 7 rfl rfl)
theorem dX0_agrees_8 : decode cX0_agrees 8 = .ok (.invokevirtual 245, 3) := dk_182 0 245 (dk_at dksX0_agrees_0 8 rfl rfl)
theorem dX0_agrees_11 : decode cX0_agrees 11 = .ok (.if_icmp .ge 59, 3) := dk_162 0 59 (dk_at dksX0_agrees_0 11 rfl rfl)
theorem dX0_agrees_14 : decode cX0_agrees 14 = .ok (.iload_n 3, 1) := dk_29 (dk_at dksX0_agrees_0 14 rfl rfl)
theorem dX0_agrees_15 : decode cX0_agrees 15 = .ok (.iload 4, 2) := dk_21 4 (dk_at dksX0_agrees_0 15 rfl rfl)
theorem dX0_agrees_17 : decode cX0_agrees 17 = .ok (.invokestatic 168, 3) := dk_184 0 168 (dk_at dksX0_agrees_0 17 rfl rfl)
theorem dX0_agrees_20 : decode cX0_agrees 20 = .ok (.ifCond .eq 44, 3) := dk_153 0 44 (dk_at dksX0_agrees_0 20 rfl rfl)
theorem dX0_agrees_23 : decode cX0_agrees 23 = .ok (.aload_n 1, 1) := dk_43 (dk_at dksX0_agrees_0 23 rfl rfl)
theorem dX0_agrees_24 : decode cX0_agrees 24 = .ok (.aload_n 2, 1) := dk_44 (dk_at dksX0_agrees_1 0 rfl rfl)
theorem dX0_agrees_25 : decode cX0_agrees 25 = .ok (.iconst 3, 1) := dk_6 (dk_at dksX0_agrees_1 1 rfl rfl)
theorem dX0_agrees_26 : decode cX0_agrees 26 = .ok (.iload 4, 2) := dk_21 4 (dk_at dksX0_agrees_1 2 rfl rfl)
theorem dX0_agrees_28 : decode cX0_agrees 28 = .ok (.imul, 1) := dk_104 (dk_at dksX0_agrees_1 4 rfl rfl)
theorem dX0_agrees_29 : decode cX0_agrees 29 = .ok (.invokevirtual 247, 3) := dk_182 0 247 (dk_at dksX0_agrees_1 5 rfl rfl)
theorem dX0_agrees_32 : decode cX0_agrees 32 = .ok (.l2i, 1) := dk_136 (dk_at dksX0_agrees_1 8 rfl rfl)
theorem dX0_agrees_33 : decode cX0_agrees 33 = .ok (.aload_n 2, 1) := dk_44 (dk_at dksX0_agrees_1 9 rfl rfl)
theorem dX0_agrees_34 : decode cX0_agrees 34 = .ok (.iconst 3, 1) := dk_6 (dk_at dksX0_agrees_1 10 rfl rfl)
theorem dX0_agrees_35 : decode cX0_agrees 35 = .ok (.iload 4, 2) := dk_21 4 (dk_at dksX0_agrees_1 11 rfl rfl)
theorem dX0_agrees_37 : decode cX0_agrees 37 = .ok (.imul, 1) := dk_104 (dk_at dksX0_agrees_1 13 rfl rfl)
theorem dX0_agrees_38 : decode cX0_agrees 38 = .ok (.iconst 1, 1) := dk_4 (dk_at dksX0_agrees_1 14 rfl rfl)
theorem dX0_agrees_39 : decode cX0_agrees 39 = .ok (.iadd, 1) := dk_96 (dk_at dksX0_agrees_1 15 rfl rfl)
theorem dX0_agrees_40 : decode cX0_agrees 40 = .ok (.invokevirtual 247, 3) := dk_182 0 247 (dk_at dksX0_agrees_1 16 rfl rfl)
theorem dX0_agrees_43 : decode cX0_agrees 43 = .ok (.l2i, 1) := dk_136 (dk_at dksX0_agrees_1 19 rfl rfl)
theorem dX0_agrees_44 : decode cX0_agrees 44 = .ok (.invokevirtual 243, 3) := dk_182 0 243 (dk_at dksX0_agrees_1 20 rfl rfl)
theorem dX0_agrees_47 : decode cX0_agrees 47 = .ok (.i2l, 1) := dk_133 (dk_at dksX0_agrees_1 23 rfl rfl)
theorem dX0_agrees_48 : decode cX0_agrees 48 = .ok (.aload_n 2, 1) := dk_44 (dk_at dksX0_agrees_2 0 rfl rfl)
theorem dX0_agrees_49 : decode cX0_agrees 49 = .ok (.iconst 3, 1) := dk_6 (dk_at dksX0_agrees_2 1 rfl rfl)
theorem dX0_agrees_50 : decode cX0_agrees 50 = .ok (.iload 4, 2) := dk_21 4 (dk_at dksX0_agrees_2 2 rfl rfl)
theorem dX0_agrees_52 : decode cX0_agrees 52 = .ok (.imul, 1) := dk_104 (dk_at dksX0_agrees_2 4 rfl rfl)
theorem dX0_agrees_53 : decode cX0_agrees 53 = .ok (.iconst 2, 1) := dk_5 (dk_at dksX0_agrees_2 5 rfl rfl)
theorem dX0_agrees_54 : decode cX0_agrees 54 = .ok (.iadd, 1) := dk_96 (dk_at dksX0_agrees_2 6 rfl rfl)
theorem dX0_agrees_55 : decode cX0_agrees 55 = .ok (.invokevirtual 247, 3) := dk_182 0 247 (dk_at dksX0_agrees_2 7 rfl rfl)
theorem dX0_agrees_58 : decode cX0_agrees 58 = .ok (.lcmp, 1) := dk_148 (dk_at dksX0_agrees_2 10 rfl rfl)
theorem dX0_agrees_59 : decode cX0_agrees 59 = .ok (.ifCond .eq 5, 3) := dk_153 0 5 (dk_at dksX0_agrees_2 11 rfl rfl)
theorem dX0_agrees_62 : decode cX0_agrees 62 = .ok (.iconst 0, 1) := dk_3 (dk_at dksX0_agrees_2 14 rfl rfl)
theorem dX0_agrees_63 : decode cX0_agrees 63 = .ok (.ireturn, 1) := dk_172 (dk_at dksX0_agrees_2 15 rfl rfl)
theorem dX0_agrees_64 : decode cX0_agrees 64 = .ok (.iinc 4 1, 3) := dk_132 4 1 (dk_at dksX0_agrees_2 16 rfl rfl)
theorem dX0_agrees_67 : decode cX0_agrees 67 = .ok (.goto (-64), 3) := dk_167 255 192 (dk_at dksX0_agrees_2 19 rfl rfl)
theorem dX0_agrees_70 : decode cX0_agrees 70 = .ok (.iconst 1, 1) := dk_4 (dk_at dksX0_agrees_2 22 rfl rfl)
theorem dX0_agrees_71 : decode cX0_agrees 71 = .ok (.ireturn, 1) := dk_172 (dk_at dksX0_agrees_2 23 rfl rfl)
abbrev cX0_sure : ByteArray := prog_1_method_41_code
def yX0_sure : MethodName := ⟨RX0, "sure", "(III)I"⟩
def dkwX0_sure_1 : List UInt8 := [182, 0, 255, 54, 4, 21, 4, 153, 0, 8, 21, 4, 167, 0, 11, 42, 27, 2, 28, 29, 182, 1, 7, 172]
abbrev dktX0_sure_1 : List UInt8 := dkwX0_sure_1 ++ []
def dkwX0_sure_0 : List UInt8 := [42, 28, 133, 182, 0, 146, 153, 0, 12, 42, 29, 133, 182, 0, 150, 154, 0, 6, 16, 254, 172, 42, 27]
abbrev dktX0_sure_0 : List UInt8 := dkwX0_sure_0 ++ dktX0_sure_1
theorem dksX0_sure_0 : cX0_sure.data.toList.drop 0 = dktX0_sure_0 := by decide +kernel
theorem dksX0_sure_1 : cX0_sure.data.toList.drop 23 = dktX0_sure_1 := dk_seg dksX0_sure_0 23 rfl rfl
theorem dX0_sure_0 : decode cX0_sure 0 = .ok (.aload_n 0, 1) := dk_42 (dk_at dksX0_sure_0 0 rfl rfl)
theorem dX0_sure_1 : decode cX0_sure 1 = .ok (.iload_n 2, 1) := dk_28 (dk_at dksX0_sure_0 1 rfl rfl)
theorem dX0_sure_2 : decode cX0_sure 2 = .ok (.i2l, 1) := dk_133 (dk_at dksX0_sure_0 2 rfl rfl)
theorem dX0_sure_3 : decode cX0_sure 3 = .ok (.invokevirtual 146, 3) := dk_182 0 146 (dk_at dksX0_sure_0 3 rfl rfl)
theorem dX0_sure_6 : decode cX0_sure 6 = .ok (.ifCond .eq 12, 3) := dk_153 0 12 (dk_at dksX0_sure_0 6 rfl rfl)
theorem dX0_sure_9 : decode cX0_sure 9 = .ok (.aload_n 0, 1) := dk_42 (dk_at dksX0_sure_0 9 rfl rfl)
theorem dX0_sure_10 : decode cX0_sure 10 = .ok (.iload_n 3, 1) := dk_29 (dk_at dksX0_sure_0 10 rfl rfl)
theorem dX0_sure_11 : decode cX0_sure 11 = .ok (.i2l, 1) := dk_133 (dk_at dksX0_sure_0 11 rfl rfl)
theorem dX0_sure_12 : decode cX0_sure 12 = .ok (.invokevirtual 150, 3) := dk_182 0 150 (dk_at dksX0_sure_0 12 rfl rfl)
theorem dX0_sure_15 : decode cX0_sure 15 = .ok (.ifCond .ne 6, 3) := dk_154 0 6 (dk_at dksX0_sure_0 15 rfl rfl)
theorem dX0_sure_18 : decode cX0_sure 18 = .ok (.bipush (-2), 2) := dk_16 254 (dk_at dksX0_sure_0 18 rfl rfl)
theorem dX0_sure_20 : decode cX0_sure 20 = .ok (.ireturn, 1) := dk_172 (dk_at dksX0_sure_0 20 rfl rfl)
theorem dX0_sure_21 : decode cX0_sure 21 = .ok (.aload_n 0, 1) := dk_42 (dk_at dksX0_sure_0 21 rfl rfl)
theorem dX0_sure_22 : decode cX0_sure 22 = .ok (.iload_n 1, 1) := dk_27 (dk_at dksX0_sure_0 22 rfl rfl)
theorem dX0_sure_23 : decode cX0_sure 23 = .ok (.invokevirtual 255, 3) := dk_182 0 255 (dk_at dksX0_sure_1 0 rfl rfl)
theorem dX0_sure_26 : decode cX0_sure 26 = .ok (.istore 4, 2) := dk_54 4 (dk_at dksX0_sure_1 3 rfl rfl)
theorem dX0_sure_28 : decode cX0_sure 28 = .ok (.iload 4, 2) := dk_21 4 (dk_at dksX0_sure_1 5 rfl rfl)
theorem dX0_sure_30 : decode cX0_sure 30 = .ok (.ifCond .eq 8, 3) := dk_153 0 8 (dk_at dksX0_sure_1 7 rfl rfl)
theorem dX0_sure_33 : decode cX0_sure 33 = .ok (.iload 4, 2) := dk_21 4 (dk_at dksX0_sure_1 10 rfl rfl)
theorem dX0_sure_35 : decode cX0_sure 35 = .ok (.goto 11, 3) := dk_167 0 11 (dk_at dksX0_sure_1 12 rfl rfl)
theorem dX0_sure_38 : decode cX0_sure 38 = .ok (.aload_n 0, 1) := dk_42 (dk_at dksX0_sure_1 15 rfl rfl)
theorem dX0_sure_39 : decode cX0_sure 39 = .ok (.iload_n 1, 1) := dk_27 (dk_at dksX0_sure_1 16 rfl rfl)
theorem dX0_sure_40 : decode cX0_sure 40 = .ok (.iconst (-1), 1) := dk_2 (dk_at dksX0_sure_1 17 rfl rfl)
theorem dX0_sure_41 : decode cX0_sure 41 = .ok (.iload_n 2, 1) := dk_28 (dk_at dksX0_sure_1 18 rfl rfl)
theorem dX0_sure_42 : decode cX0_sure 42 = .ok (.iload_n 3, 1) := dk_29 (dk_at dksX0_sure_1 19 rfl rfl)
theorem dX0_sure_43 : decode cX0_sure 43 = .ok (.invokevirtual 263, 3) := dk_182 1 7 (dk_at dksX0_sure_1 20 rfl rfl)
theorem dX0_sure_46 : decode cX0_sure 46 = .ok (.ireturn, 1) := dk_172 (dk_at dksX0_sure_1 23 rfl rfl)
abbrev cX0_sureBy : ByteArray := prog_1_method_40_code
def yX0_sureBy : MethodName := ⟨RX0, "sureBy", "(IIII)I"⟩
def dkwX0_sureBy_4 : List UInt8 := [21, 5, 172]
abbrev dktX0_sureBy_4 : List UInt8 := dkwX0_sureBy_4 ++ []
def dkwX0_sureBy_3 : List UInt8 := [2, 159, 0, 12, 21, 5, 21, 7, 159, 0, 5, 2, 172, 21, 7, 54, 5, 132, 6, 1, 167, 255, 172]
abbrev dktX0_sureBy_3 : List UInt8 := dkwX0_sureBy_3 ++ dktX0_sureBy_4
def dkwX0_sureBy_2 : List UInt8 := [42, 180, 0, 61, 21, 6, 185, 0, 104, 2, 0, 192, 0, 223, 29, 21, 4, 182, 0, 243, 54, 7, 21, 5]
abbrev dktX0_sureBy_2 : List UInt8 := dkwX0_sureBy_2 ++ dktX0_sureBy_3
def dkwX0_sureBy_1 : List UInt8 := [185, 0, 104, 2, 0, 192, 0, 223, 42, 180, 0, 13, 27, 50, 28, 182, 1, 3, 154, 0, 6, 167, 0, 44]
abbrev dktX0_sureBy_1 : List UInt8 := dkwX0_sureBy_1 ++ dktX0_sureBy_2
def dkwX0_sureBy_0 : List UInt8 := [2, 54, 5, 3, 54, 6, 21, 6, 42, 180, 0, 220, 162, 0, 81, 42, 42, 180, 0, 61, 21, 6]
abbrev dktX0_sureBy_0 : List UInt8 := dkwX0_sureBy_0 ++ dktX0_sureBy_1
theorem dksX0_sureBy_0 : cX0_sureBy.data.toList.drop 0 = dktX0_sureBy_0 := by decide +kernel
theorem dksX0_sureBy_1 : cX0_sureBy.data.toList.drop 22 = dktX0_sureBy_1 := dk_seg dksX0_sureBy_0 22 rfl rfl
theorem dksX0_sureBy_2 : cX0_sureBy.data.toList.drop 46 = dktX0_sureBy_2 := dk_seg dksX0_sureBy_1 24 rfl rfl
theorem dksX0_sureBy_3 : cX0_sureBy.data.toList.drop 70 = dktX0_sureBy_3 := dk_seg dksX0_sureBy_2 24 rfl rfl
theorem dksX0_sureBy_4 : cX0_sureBy.data.toList.drop 93 = dktX0_sureBy_4 := dk_seg dksX0_sureBy_3 23 rfl rfl
theorem dX0_sureBy_0 : decode cX0_sureBy 0 = .ok (.iconst (-1), 1) := dk_2 (dk_at dksX0_sureBy_0 0 rfl rfl)
theorem dX0_sureBy_1 : decode cX0_sureBy 1 = .ok (.istore 5, 2) := dk_54 5 (dk_at dksX0_sureBy_0 1 rfl rfl)
theorem dX0_sureBy_3 : decode cX0_sureBy 3 = .ok (.iconst 0, 1) := dk_3 (dk_at dksX0_sureBy_0 3 rfl rfl)
theorem dX0_sureBy_4 : decode cX0_sureBy 4 = .ok (.istore 6, 2) := dk_54 6 (dk_at dksX0_sureBy_0 4 rfl rfl)
theorem dX0_sureBy_6 : decode cX0_sureBy 6 = .ok (.iload 6, 2) := dk_21 6 (dk_at dksX0_sureBy_0 6 rfl rfl)
theorem dX0_sureBy_8 : decode cX0_sureBy 8 = .ok (.aload_n 0, 1) := dk_42 (dk_at dksX0_sureBy_0 8 rfl rfl)
theorem dX0_sureBy_9 : decode cX0_sureBy 9 = .ok (.getfield 220, 3) := dk_180 0 220 (dk_at dksX0_sureBy_0 9 rfl rfl)
theorem dX0_sureBy_12 : decode cX0_sureBy 12 = .ok (.if_icmp .ge 81, 3) := dk_162 0 81 (dk_at dksX0_sureBy_0 12 rfl rfl)
theorem dX0_sureBy_15 : decode cX0_sureBy 15 = .ok (.aload_n 0, 1) := dk_42 (dk_at dksX0_sureBy_0 15 rfl rfl)
theorem dX0_sureBy_16 : decode cX0_sureBy 16 = .ok (.aload_n 0, 1) := dk_42 (dk_at dksX0_sureBy_0 16 rfl rfl)
theorem dX0_sureBy_17 : decode cX0_sureBy 17 = .ok (.getfield 61, 3) := dk_180 0 61 (dk_at dksX0_sureBy_0 17 rfl rfl)
theorem dX0_sureBy_20 : decode cX0_sureBy 20 = .ok (.iload 6, 2) := dk_21 6 (dk_at dksX0_sureBy_0 20 rfl rfl)
theorem dX0_sureBy_22 : decode cX0_sureBy 22 = .ok (.invokeinterface 104 2, 5) := by decide +kernel
theorem dX0_sureBy_27 : decode cX0_sureBy 27 = .ok (.checkcast 223, 3) := dk_192 0 223 (dk_at dksX0_sureBy_1 5 rfl rfl)
theorem dX0_sureBy_30 : decode cX0_sureBy 30 = .ok (.aload_n 0, 1) := dk_42 (dk_at dksX0_sureBy_1 8 rfl rfl)
theorem dX0_sureBy_31 : decode cX0_sureBy 31 = .ok (.getfield 13, 3) := dk_180 0 13 (dk_at dksX0_sureBy_1 9 rfl rfl)
theorem dX0_sureBy_34 : decode cX0_sureBy 34 = .ok (.iload_n 1, 1) := dk_27 (dk_at dksX0_sureBy_1 12 rfl rfl)
theorem dX0_sureBy_35 : decode cX0_sureBy 35 = .ok (.aaload, 1) := dk_50 (dk_at dksX0_sureBy_1 13 rfl rfl)
theorem dX0_sureBy_36 : decode cX0_sureBy 36 = .ok (.iload_n 2, 1) := dk_28 (dk_at dksX0_sureBy_1 14 rfl rfl)
theorem dX0_sureBy_37 : decode cX0_sureBy 37 = .ok (.invokevirtual 259, 3) := dk_182 1 3 (dk_at dksX0_sureBy_1 15 rfl rfl)
theorem dX0_sureBy_40 : decode cX0_sureBy 40 = .ok (.ifCond .ne 6, 3) := dk_154 0 6 (dk_at dksX0_sureBy_1 18 rfl rfl)
theorem dX0_sureBy_43 : decode cX0_sureBy 43 = .ok (.goto 44, 3) := dk_167 0 44 (dk_at dksX0_sureBy_1 21 rfl rfl)
theorem dX0_sureBy_46 : decode cX0_sureBy 46 = .ok (.aload_n 0, 1) := dk_42 (dk_at dksX0_sureBy_2 0 rfl rfl)
theorem dX0_sureBy_47 : decode cX0_sureBy 47 = .ok (.getfield 61, 3) := dk_180 0 61 (dk_at dksX0_sureBy_2 1 rfl rfl)
theorem dX0_sureBy_50 : decode cX0_sureBy 50 = .ok (.iload 6, 2) := dk_21 6 (dk_at dksX0_sureBy_2 4 rfl rfl)
theorem dX0_sureBy_52 : decode cX0_sureBy 52 = .ok (.invokeinterface 104 2, 5) := by decide +kernel
theorem dX0_sureBy_57 : decode cX0_sureBy 57 = .ok (.checkcast 223, 3) := dk_192 0 223 (dk_at dksX0_sureBy_2 11 rfl rfl)
theorem dX0_sureBy_60 : decode cX0_sureBy 60 = .ok (.iload_n 3, 1) := dk_29 (dk_at dksX0_sureBy_2 14 rfl rfl)
theorem dX0_sureBy_61 : decode cX0_sureBy 61 = .ok (.iload 4, 2) := dk_21 4 (dk_at dksX0_sureBy_2 15 rfl rfl)
theorem dX0_sureBy_63 : decode cX0_sureBy 63 = .ok (.invokevirtual 243, 3) := dk_182 0 243 (dk_at dksX0_sureBy_2 17 rfl rfl)
theorem dX0_sureBy_66 : decode cX0_sureBy 66 = .ok (.istore 7, 2) := dk_54 7 (dk_at dksX0_sureBy_2 20 rfl rfl)
theorem dX0_sureBy_68 : decode cX0_sureBy 68 = .ok (.iload 5, 2) := dk_21 5 (dk_at dksX0_sureBy_2 22 rfl rfl)
theorem dX0_sureBy_70 : decode cX0_sureBy 70 = .ok (.iconst (-1), 1) := dk_2 (dk_at dksX0_sureBy_3 0 rfl rfl)
theorem dX0_sureBy_71 : decode cX0_sureBy 71 = .ok (.if_icmp .eq 12, 3) := dk_159 0 12 (dk_at dksX0_sureBy_3 1 rfl rfl)
theorem dX0_sureBy_74 : decode cX0_sureBy 74 = .ok (.iload 5, 2) := dk_21 5 (dk_at dksX0_sureBy_3 4 rfl rfl)
theorem dX0_sureBy_76 : decode cX0_sureBy 76 = .ok (.iload 7, 2) := dk_21 7 (dk_at dksX0_sureBy_3 6 rfl rfl)
theorem dX0_sureBy_78 : decode cX0_sureBy 78 = .ok (.if_icmp .eq 5, 3) := dk_159 0 5 (dk_at dksX0_sureBy_3 8 rfl rfl)
theorem dX0_sureBy_81 : decode cX0_sureBy 81 = .ok (.iconst (-1), 1) := dk_2 (dk_at dksX0_sureBy_3 11 rfl rfl)
theorem dX0_sureBy_82 : decode cX0_sureBy 82 = .ok (.ireturn, 1) := dk_172 (dk_at dksX0_sureBy_3 12 rfl rfl)
theorem dX0_sureBy_83 : decode cX0_sureBy 83 = .ok (.iload 7, 2) := dk_21 7 (dk_at dksX0_sureBy_3 13 rfl rfl)
theorem dX0_sureBy_85 : decode cX0_sureBy 85 = .ok (.istore 5, 2) := dk_54 5 (dk_at dksX0_sureBy_3 15 rfl rfl)
theorem dX0_sureBy_87 : decode cX0_sureBy 87 = .ok (.iinc 6 1, 3) := dk_132 6 1 (dk_at dksX0_sureBy_3 17 rfl rfl)
theorem dX0_sureBy_90 : decode cX0_sureBy 90 = .ok (.goto (-84), 3) := dk_167 255 172 (dk_at dksX0_sureBy_3 20 rfl rfl)
theorem dX0_sureBy_93 : decode cX0_sureBy 93 = .ok (.iload 5, 2) := dk_21 5 (dk_at dksX0_sureBy_4 0 rfl rfl)
theorem dX0_sureBy_95 : decode cX0_sureBy 95 = .ok (.ireturn, 1) := dk_172 (dk_at dksX0_sureBy_4 2 rfl rfl)
abbrev cX0_needs : ByteArray := prog_1_method_42_code
def yX0_needs : MethodName := ⟨RX0, "needs", "(III)I"⟩
def dkwX0_needs_6 : List UInt8 := [54, 6, 132, 7, 1, 167, 255, 214, 21, 6, 172]
abbrev dktX0_needs_6 : List UInt8 := dkwX0_needs_6 ++ []
def dkwX0_needs_5 : List UInt8 := [21, 6, 162, 0, 23, 42, 27, 21, 7, 28, 29, 182, 1, 7, 2, 159, 0, 10, 21, 7, 184, 1, 11]
abbrev dktX0_needs_5 : List UInt8 := dkwX0_needs_5 ++ dktX0_needs_6
def dkwX0_needs_4 : List UInt8 := [54, 5, 21, 5, 54, 6, 3, 54, 7, 21, 7, 4, 21, 5, 120, 162, 0, 39, 21, 7, 184, 1, 11]
abbrev dktX0_needs_4 : List UInt8 := dkwX0_needs_4 ++ dktX0_needs_5
def dkwX0_needs_3 : List UInt8 := [27, 2, 28, 29, 182, 1, 7, 2, 160, 0, 5, 2, 172, 42, 180, 0, 13, 27, 50, 182, 0, 245, 6, 108]
abbrev dktX0_needs_3 : List UInt8 := dkwX0_needs_3 ++ dktX0_needs_4
def dkwX0_needs_2 : List UInt8 := [16, 24, 164, 0, 6, 16, 254, 172, 42, 27, 182, 0, 255, 54, 4, 21, 4, 153, 0, 6, 21, 4, 172, 42]
abbrev dktX0_needs_2 : List UInt8 := dkwX0_needs_2 ++ dktX0_needs_3
def dkwX0_needs_1 : List UInt8 := [153, 0, 32, 42, 180, 0, 13, 27, 50, 180, 0, 251, 198, 0, 20, 42, 180, 0, 13, 27, 50, 182, 0, 245]
abbrev dktX0_needs_1 : List UInt8 := dkwX0_needs_1 ++ dktX0_needs_2
def dkwX0_needs_0 : List UInt8 := [42, 28, 133, 182, 0, 146, 153, 0, 45, 42, 29, 133, 182, 0, 150, 153, 0, 36, 27, 184, 0, 9]
abbrev dktX0_needs_0 : List UInt8 := dkwX0_needs_0 ++ dktX0_needs_1
theorem dksX0_needs_0 : cX0_needs.data.toList.drop 0 = dktX0_needs_0 := by decide +kernel
theorem dksX0_needs_1 : cX0_needs.data.toList.drop 22 = dktX0_needs_1 := dk_seg dksX0_needs_0 22 rfl rfl
theorem dksX0_needs_2 : cX0_needs.data.toList.drop 46 = dktX0_needs_2 := dk_seg dksX0_needs_1 24 rfl rfl
theorem dksX0_needs_3 : cX0_needs.data.toList.drop 70 = dktX0_needs_3 := dk_seg dksX0_needs_2 24 rfl rfl
theorem dksX0_needs_4 : cX0_needs.data.toList.drop 94 = dktX0_needs_4 := dk_seg dksX0_needs_3 24 rfl rfl
theorem dksX0_needs_5 : cX0_needs.data.toList.drop 117 = dktX0_needs_5 := dk_seg dksX0_needs_4 23 rfl rfl
theorem dksX0_needs_6 : cX0_needs.data.toList.drop 140 = dktX0_needs_6 := dk_seg dksX0_needs_5 23 rfl rfl
theorem dX0_needs_0 : decode cX0_needs 0 = .ok (.aload_n 0, 1) := dk_42 (dk_at dksX0_needs_0 0 rfl rfl)
theorem dX0_needs_1 : decode cX0_needs 1 = .ok (.iload_n 2, 1) := dk_28 (dk_at dksX0_needs_0 1 rfl rfl)
theorem dX0_needs_2 : decode cX0_needs 2 = .ok (.i2l, 1) := dk_133 (dk_at dksX0_needs_0 2 rfl rfl)
theorem dX0_needs_3 : decode cX0_needs 3 = .ok (.invokevirtual 146, 3) := dk_182 0 146 (dk_at dksX0_needs_0 3 rfl rfl)
theorem dX0_needs_6 : decode cX0_needs 6 = .ok (.ifCond .eq 45, 3) := dk_153 0 45 (dk_at dksX0_needs_0 6 rfl rfl)
theorem dX0_needs_9 : decode cX0_needs 9 = .ok (.aload_n 0, 1) := dk_42 (dk_at dksX0_needs_0 9 rfl rfl)
theorem dX0_needs_10 : decode cX0_needs 10 = .ok (.iload_n 3, 1) := dk_29 (dk_at dksX0_needs_0 10 rfl rfl)
theorem dX0_needs_11 : decode cX0_needs 11 = .ok (.i2l, 1) := dk_133 (dk_at dksX0_needs_0 11 rfl rfl)
theorem dX0_needs_12 : decode cX0_needs 12 = .ok (.invokevirtual 150, 3) := dk_182 0 150 (dk_at dksX0_needs_0 12 rfl rfl)
theorem dX0_needs_15 : decode cX0_needs 15 = .ok (.ifCond .eq 36, 3) := dk_153 0 36 (dk_at dksX0_needs_0 15 rfl rfl)
theorem dX0_needs_18 : decode cX0_needs 18 = .ok (.iload_n 1, 1) := dk_27 (dk_at dksX0_needs_0 18 rfl rfl)
theorem dX0_needs_19 : decode cX0_needs 19 = .ok (.invokestatic 9, 3) := dk_184 0 9 (dk_at dksX0_needs_0 19 rfl rfl)
theorem dX0_needs_22 : decode cX0_needs 22 = .ok (.ifCond .eq 32, 3) := dk_153 0 32 (dk_at dksX0_needs_1 0 rfl rfl)
theorem dX0_needs_25 : decode cX0_needs 25 = .ok (.aload_n 0, 1) := dk_42 (dk_at dksX0_needs_1 3 rfl rfl)
theorem dX0_needs_26 : decode cX0_needs 26 = .ok (.getfield 13, 3) := dk_180 0 13 (dk_at dksX0_needs_1 4 rfl rfl)
theorem dX0_needs_29 : decode cX0_needs 29 = .ok (.iload_n 1, 1) := dk_27 (dk_at dksX0_needs_1 7 rfl rfl)
theorem dX0_needs_30 : decode cX0_needs 30 = .ok (.aaload, 1) := dk_50 (dk_at dksX0_needs_1 8 rfl rfl)
theorem dX0_needs_31 : decode cX0_needs 31 = .ok (.getfield 251, 3) := dk_180 0 251 (dk_at dksX0_needs_1 9 rfl rfl)
theorem dX0_needs_34 : decode cX0_needs 34 = .ok (.ifnull 20, 3) := dk_198 0 20 (dk_at dksX0_needs_1 12 rfl rfl)
theorem dX0_needs_37 : decode cX0_needs 37 = .ok (.aload_n 0, 1) := dk_42 (dk_at dksX0_needs_1 15 rfl rfl)
theorem dX0_needs_38 : decode cX0_needs 38 = .ok (.getfield 13, 3) := dk_180 0 13 (dk_at dksX0_needs_1 16 rfl rfl)
theorem dX0_needs_41 : decode cX0_needs 41 = .ok (.iload_n 1, 1) := dk_27 (dk_at dksX0_needs_1 19 rfl rfl)
theorem dX0_needs_42 : decode cX0_needs 42 = .ok (.aaload, 1) := dk_50 (dk_at dksX0_needs_1 20 rfl rfl)
theorem dX0_needs_43 : decode cX0_needs 43 = .ok (.invokevirtual 245, 3) := dk_182 0 245 (dk_at dksX0_needs_1 21 rfl rfl)
theorem dX0_needs_46 : decode cX0_needs 46 = .ok (.bipush 24, 2) := dk_16 24 (dk_at dksX0_needs_2 0 rfl rfl)
theorem dX0_needs_48 : decode cX0_needs 48 = .ok (.if_icmp .le 6, 3) := dk_164 0 6 (dk_at dksX0_needs_2 2 rfl rfl)
theorem dX0_needs_51 : decode cX0_needs 51 = .ok (.bipush (-2), 2) := dk_16 254 (dk_at dksX0_needs_2 5 rfl rfl)
theorem dX0_needs_53 : decode cX0_needs 53 = .ok (.ireturn, 1) := dk_172 (dk_at dksX0_needs_2 7 rfl rfl)
theorem dX0_needs_54 : decode cX0_needs 54 = .ok (.aload_n 0, 1) := dk_42 (dk_at dksX0_needs_2 8 rfl rfl)
theorem dX0_needs_55 : decode cX0_needs 55 = .ok (.iload_n 1, 1) := dk_27 (dk_at dksX0_needs_2 9 rfl rfl)
theorem dX0_needs_56 : decode cX0_needs 56 = .ok (.invokevirtual 255, 3) := dk_182 0 255 (dk_at dksX0_needs_2 10 rfl rfl)
theorem dX0_needs_59 : decode cX0_needs 59 = .ok (.istore 4, 2) := dk_54 4 (dk_at dksX0_needs_2 13 rfl rfl)
theorem dX0_needs_61 : decode cX0_needs 61 = .ok (.iload 4, 2) := dk_21 4 (dk_at dksX0_needs_2 15 rfl rfl)
theorem dX0_needs_63 : decode cX0_needs 63 = .ok (.ifCond .eq 6, 3) := dk_153 0 6 (dk_at dksX0_needs_2 17 rfl rfl)
theorem dX0_needs_66 : decode cX0_needs 66 = .ok (.iload 4, 2) := dk_21 4 (dk_at dksX0_needs_2 20 rfl rfl)
theorem dX0_needs_68 : decode cX0_needs 68 = .ok (.ireturn, 1) := dk_172 (dk_at dksX0_needs_2 22 rfl rfl)
theorem dX0_needs_69 : decode cX0_needs 69 = .ok (.aload_n 0, 1) := dk_42 (dk_at dksX0_needs_2 23 rfl rfl)
theorem dX0_needs_70 : decode cX0_needs 70 = .ok (.iload_n 1, 1) := dk_27 (dk_at dksX0_needs_3 0 rfl rfl)
theorem dX0_needs_71 : decode cX0_needs 71 = .ok (.iconst (-1), 1) := dk_2 (dk_at dksX0_needs_3 1 rfl rfl)
theorem dX0_needs_72 : decode cX0_needs 72 = .ok (.iload_n 2, 1) := dk_28 (dk_at dksX0_needs_3 2 rfl rfl)
theorem dX0_needs_73 : decode cX0_needs 73 = .ok (.iload_n 3, 1) := dk_29 (dk_at dksX0_needs_3 3 rfl rfl)
theorem dX0_needs_74 : decode cX0_needs 74 = .ok (.invokevirtual 263, 3) := dk_182 1 7 (dk_at dksX0_needs_3 4 rfl rfl)
theorem dX0_needs_77 : decode cX0_needs 77 = .ok (.iconst (-1), 1) := dk_2 (dk_at dksX0_needs_3 7 rfl rfl)
theorem dX0_needs_78 : decode cX0_needs 78 = .ok (.if_icmp .ne 5, 3) := dk_160 0 5 (dk_at dksX0_needs_3 8 rfl rfl)
theorem dX0_needs_81 : decode cX0_needs 81 = .ok (.iconst (-1), 1) := dk_2 (dk_at dksX0_needs_3 11 rfl rfl)
theorem dX0_needs_82 : decode cX0_needs 82 = .ok (.ireturn, 1) := dk_172 (dk_at dksX0_needs_3 12 rfl rfl)
theorem dX0_needs_83 : decode cX0_needs 83 = .ok (.aload_n 0, 1) := dk_42 (dk_at dksX0_needs_3 13 rfl rfl)
theorem dX0_needs_84 : decode cX0_needs 84 = .ok (.getfield 13, 3) := dk_180 0 13 (dk_at dksX0_needs_3 14 rfl rfl)
theorem dX0_needs_87 : decode cX0_needs 87 = .ok (.iload_n 1, 1) := dk_27 (dk_at dksX0_needs_3 17 rfl rfl)
theorem dX0_needs_88 : decode cX0_needs 88 = .ok (.aaload, 1) := dk_50 (dk_at dksX0_needs_3 18 rfl rfl)
theorem dX0_needs_89 : decode cX0_needs 89 = .ok (.invokevirtual 245, 3) := dk_182 0 245 (dk_at dksX0_needs_3 19 rfl rfl)
theorem dX0_needs_92 : decode cX0_needs 92 = .ok (.iconst 3, 1) := dk_6 (dk_at dksX0_needs_3 22 rfl rfl)
theorem dX0_needs_93 : decode cX0_needs 93 = .ok (.idiv, 1) := dk_108 (dk_at dksX0_needs_3 23 rfl rfl)
theorem dX0_needs_94 : decode cX0_needs 94 = .ok (.istore 5, 2) := dk_54 5 (dk_at dksX0_needs_4 0 rfl rfl)
theorem dX0_needs_96 : decode cX0_needs 96 = .ok (.iload 5, 2) := dk_21 5 (dk_at dksX0_needs_4 2 rfl rfl)
theorem dX0_needs_98 : decode cX0_needs 98 = .ok (.istore 6, 2) := dk_54 6 (dk_at dksX0_needs_4 4 rfl rfl)
theorem dX0_needs_100 : decode cX0_needs 100 = .ok (.iconst 0, 1) := dk_3 (dk_at dksX0_needs_4 6 rfl rfl)
theorem dX0_needs_101 : decode cX0_needs 101 = .ok (.istore 7, 2) := dk_54 7 (dk_at dksX0_needs_4 7 rfl rfl)
theorem dX0_needs_103 : decode cX0_needs 103 = .ok (.iload 7, 2) := dk_21 7 (dk_at dksX0_needs_4 9 rfl rfl)
theorem dX0_needs_105 : decode cX0_needs 105 = .ok (.iconst 1, 1) := dk_4 (dk_at dksX0_needs_4 11 rfl rfl)
theorem dX0_needs_106 : decode cX0_needs 106 = .ok (.iload 5, 2) := dk_21 5 (dk_at dksX0_needs_4 12 rfl rfl)
theorem dX0_needs_108 : decode cX0_needs 108 = .ok (.ishl, 1) := dk_120 (dk_at dksX0_needs_4 14 rfl rfl)
theorem dX0_needs_109 : decode cX0_needs 109 = .ok (.if_icmp .ge 39, 3) := dk_162 0 39 (dk_at dksX0_needs_4 15 rfl rfl)
theorem dX0_needs_112 : decode cX0_needs 112 = .ok (.iload 7, 2) := dk_21 7 (dk_at dksX0_needs_4 18 rfl rfl)
theorem dX0_needs_114 : decode cX0_needs 114 = .ok (.invokestatic 267, 3) := dk_184 1 11 (dk_at dksX0_needs_4 20 rfl rfl)
theorem dX0_needs_117 : decode cX0_needs 117 = .ok (.iload 6, 2) := dk_21 6 (dk_at dksX0_needs_5 0 rfl rfl)
theorem dX0_needs_119 : decode cX0_needs 119 = .ok (.if_icmp .ge 23, 3) := dk_162 0 23 (dk_at dksX0_needs_5 2 rfl rfl)
theorem dX0_needs_122 : decode cX0_needs 122 = .ok (.aload_n 0, 1) := dk_42 (dk_at dksX0_needs_5 5 rfl rfl)
theorem dX0_needs_123 : decode cX0_needs 123 = .ok (.iload_n 1, 1) := dk_27 (dk_at dksX0_needs_5 6 rfl rfl)
theorem dX0_needs_124 : decode cX0_needs 124 = .ok (.iload 7, 2) := dk_21 7 (dk_at dksX0_needs_5 7 rfl rfl)
theorem dX0_needs_126 : decode cX0_needs 126 = .ok (.iload_n 2, 1) := dk_28 (dk_at dksX0_needs_5 9 rfl rfl)
theorem dX0_needs_127 : decode cX0_needs 127 = .ok (.iload_n 3, 1) := dk_29 (dk_at dksX0_needs_5 10 rfl rfl)
theorem dX0_needs_128 : decode cX0_needs 128 = .ok (.invokevirtual 263, 3) := dk_182 1 7 (dk_at dksX0_needs_5 11 rfl rfl)
theorem dX0_needs_131 : decode cX0_needs 131 = .ok (.iconst (-1), 1) := dk_2 (dk_at dksX0_needs_5 14 rfl rfl)
theorem dX0_needs_132 : decode cX0_needs 132 = .ok (.if_icmp .eq 10, 3) := dk_159 0 10 (dk_at dksX0_needs_5 15 rfl rfl)
theorem dX0_needs_135 : decode cX0_needs 135 = .ok (.iload 7, 2) := dk_21 7 (dk_at dksX0_needs_5 18 rfl rfl)
theorem dX0_needs_137 : decode cX0_needs 137 = .ok (.invokestatic 267, 3) := dk_184 1 11 (dk_at dksX0_needs_5 20 rfl rfl)
theorem dX0_needs_140 : decode cX0_needs 140 = .ok (.istore 6, 2) := dk_54 6 (dk_at dksX0_needs_6 0 rfl rfl)
theorem dX0_needs_142 : decode cX0_needs 142 = .ok (.iinc 7 1, 3) := dk_132 7 1 (dk_at dksX0_needs_6 2 rfl rfl)
theorem dX0_needs_145 : decode cX0_needs 145 = .ok (.goto (-42), 3) := dk_167 255 214 (dk_at dksX0_needs_6 5 rfl rfl)
theorem dX0_needs_148 : decode cX0_needs 148 = .ok (.iload 6, 2) := dk_21 6 (dk_at dksX0_needs_6 8 rfl rfl)
theorem dX0_needs_150 : decode cX0_needs 150 = .ok (.ireturn, 1) := dk_172 (dk_at dksX0_needs_6 10 rfl rfl)
abbrev cX0_knows : ByteArray := prog_1_method_44_code
def yX0_knows : MethodName := ⟨RX0, "knows", "(III)I"⟩
def dkwX0_knows_5 : List UInt8 := [132, 5, 1, 167, 255, 192, 21, 4, 172]
abbrev dktX0_knows_5 : List UInt8 := dkwX0_knows_5 ++ []
def dkwX0_knows_4 : List UInt8 := [21, 5, 185, 0, 104, 2, 0, 192, 0, 223, 28, 29, 182, 0, 243, 21, 4, 159, 0, 5, 2, 172]
abbrev dktX0_knows_4 : List UInt8 := dkwX0_knows_4 ++ dktX0_knows_5
def dkwX0_knows_3 : List UInt8 := [180, 0, 61, 21, 5, 185, 0, 104, 2, 0, 192, 0, 223, 27, 182, 1, 24, 153, 0, 29, 42, 180, 0, 61]
abbrev dktX0_knows_3 : List UInt8 := dkwX0_knows_3 ++ dktX0_knows_4
def dkwX0_knows_2 : List UInt8 := [182, 0, 243, 54, 4, 3, 54, 5, 21, 5, 42, 180, 0, 220, 162, 0, 61, 42, 42, 182, 1, 20, 42]
abbrev dktX0_knows_2 : List UInt8 := dkwX0_knows_2 ++ dktX0_knows_3
def dkwX0_knows_1 : List UInt8 := [154, 0, 6, 16, 254, 172, 42, 182, 0, 237, 154, 0, 6, 16, 253, 172, 42, 182, 1, 20, 28, 29]
abbrev dktX0_knows_1 : List UInt8 := dkwX0_knows_1 ++ dktX0_knows_2
def dkwX0_knows_0 : List UInt8 := [42, 27, 182, 0, 162, 153, 0, 21, 42, 28, 133, 182, 0, 146, 153, 0, 12, 42, 29, 133, 182, 0, 150]
abbrev dktX0_knows_0 : List UInt8 := dkwX0_knows_0 ++ dktX0_knows_1
theorem dksX0_knows_0 : cX0_knows.data.toList.drop 0 = dktX0_knows_0 := by decide +kernel
theorem dksX0_knows_1 : cX0_knows.data.toList.drop 23 = dktX0_knows_1 := dk_seg dksX0_knows_0 23 rfl rfl
theorem dksX0_knows_2 : cX0_knows.data.toList.drop 45 = dktX0_knows_2 := dk_seg dksX0_knows_1 22 rfl rfl
theorem dksX0_knows_3 : cX0_knows.data.toList.drop 68 = dktX0_knows_3 := dk_seg dksX0_knows_2 23 rfl rfl
theorem dksX0_knows_4 : cX0_knows.data.toList.drop 92 = dktX0_knows_4 := dk_seg dksX0_knows_3 24 rfl rfl
theorem dksX0_knows_5 : cX0_knows.data.toList.drop 114 = dktX0_knows_5 := dk_seg dksX0_knows_4 22 rfl rfl
theorem dX0_knows_0 : decode cX0_knows 0 = .ok (.aload_n 0, 1) := dk_42 (dk_at dksX0_knows_0 0 rfl rfl)
theorem dX0_knows_1 : decode cX0_knows 1 = .ok (.iload_n 1, 1) := dk_27 (dk_at dksX0_knows_0 1 rfl rfl)
theorem dX0_knows_2 : decode cX0_knows 2 = .ok (.invokevirtual 162, 3) := dk_182 0 162 (dk_at dksX0_knows_0 2 rfl rfl)
theorem dX0_knows_5 : decode cX0_knows 5 = .ok (.ifCond .eq 21, 3) := dk_153 0 21 (dk_at dksX0_knows_0 5 rfl rfl)
theorem dX0_knows_8 : decode cX0_knows 8 = .ok (.aload_n 0, 1) := dk_42 (dk_at dksX0_knows_0 8 rfl rfl)
theorem dX0_knows_9 : decode cX0_knows 9 = .ok (.iload_n 2, 1) := dk_28 (dk_at dksX0_knows_0 9 rfl rfl)
theorem dX0_knows_10 : decode cX0_knows 10 = .ok (.i2l, 1) := dk_133 (dk_at dksX0_knows_0 10 rfl rfl)
theorem dX0_knows_11 : decode cX0_knows 11 = .ok (.invokevirtual 146, 3) := dk_182 0 146 (dk_at dksX0_knows_0 11 rfl rfl)
theorem dX0_knows_14 : decode cX0_knows 14 = .ok (.ifCond .eq 12, 3) := dk_153 0 12 (dk_at dksX0_knows_0 14 rfl rfl)
theorem dX0_knows_17 : decode cX0_knows 17 = .ok (.aload_n 0, 1) := dk_42 (dk_at dksX0_knows_0 17 rfl rfl)
theorem dX0_knows_18 : decode cX0_knows 18 = .ok (.iload_n 3, 1) := dk_29 (dk_at dksX0_knows_0 18 rfl rfl)
theorem dX0_knows_19 : decode cX0_knows 19 = .ok (.i2l, 1) := dk_133 (dk_at dksX0_knows_0 19 rfl rfl)
theorem dX0_knows_20 : decode cX0_knows 20 = .ok (.invokevirtual 150, 3) := dk_182 0 150 (dk_at dksX0_knows_0 20 rfl rfl)
theorem dX0_knows_23 : decode cX0_knows 23 = .ok (.ifCond .ne 6, 3) := dk_154 0 6 (dk_at dksX0_knows_1 0 rfl rfl)
theorem dX0_knows_26 : decode cX0_knows 26 = .ok (.bipush (-2), 2) := dk_16 254 (dk_at dksX0_knows_1 3 rfl rfl)
theorem dX0_knows_28 : decode cX0_knows 28 = .ok (.ireturn, 1) := dk_172 (dk_at dksX0_knows_1 5 rfl rfl)
theorem dX0_knows_29 : decode cX0_knows 29 = .ok (.aload_n 0, 1) := dk_42 (dk_at dksX0_knows_1 6 rfl rfl)
theorem dX0_knows_30 : decode cX0_knows 30 = .ok (.invokevirtual 237, 3) := dk_182 0 237 (dk_at dksX0_knows_1 7 rfl rfl)
theorem dX0_knows_33 : decode cX0_knows 33 = .ok (.ifCond .ne 6, 3) := dk_154 0 6 (dk_at dksX0_knows_1 10 rfl rfl)
theorem dX0_knows_36 : decode cX0_knows 36 = .ok (.bipush (-3), 2) := dk_16 253 (dk_at dksX0_knows_1 13 rfl rfl)
theorem dX0_knows_38 : decode cX0_knows 38 = .ok (.ireturn, 1) := dk_172 (dk_at dksX0_knows_1 15 rfl rfl)
theorem dX0_knows_39 : decode cX0_knows 39 = .ok (.aload_n 0, 1) := dk_42 (dk_at dksX0_knows_1 16 rfl rfl)
theorem dX0_knows_40 : decode cX0_knows 40 = .ok (.invokevirtual 276, 3) := dk_182 1 20 (dk_at dksX0_knows_1 17 rfl rfl)
theorem dX0_knows_43 : decode cX0_knows 43 = .ok (.iload_n 2, 1) := dk_28 (dk_at dksX0_knows_1 20 rfl rfl)
theorem dX0_knows_44 : decode cX0_knows 44 = .ok (.iload_n 3, 1) := dk_29 (dk_at dksX0_knows_1 21 rfl rfl)
theorem dX0_knows_45 : decode cX0_knows 45 = .ok (.invokevirtual 243, 3) := dk_182 0 243 (dk_at dksX0_knows_2 0 rfl rfl)
theorem dX0_knows_48 : decode cX0_knows 48 = .ok (.istore 4, 2) := dk_54 4 (dk_at dksX0_knows_2 3 rfl rfl)
theorem dX0_knows_50 : decode cX0_knows 50 = .ok (.iconst 0, 1) := dk_3 (dk_at dksX0_knows_2 5 rfl rfl)
theorem dX0_knows_51 : decode cX0_knows 51 = .ok (.istore 5, 2) := dk_54 5 (dk_at dksX0_knows_2 6 rfl rfl)
theorem dX0_knows_53 : decode cX0_knows 53 = .ok (.iload 5, 2) := dk_21 5 (dk_at dksX0_knows_2 8 rfl rfl)
theorem dX0_knows_55 : decode cX0_knows 55 = .ok (.aload_n 0, 1) := dk_42 (dk_at dksX0_knows_2 10 rfl rfl)
theorem dX0_knows_56 : decode cX0_knows 56 = .ok (.getfield 220, 3) := dk_180 0 220 (dk_at dksX0_knows_2 11 rfl rfl)
theorem dX0_knows_59 : decode cX0_knows 59 = .ok (.if_icmp .ge 61, 3) := dk_162 0 61 (dk_at dksX0_knows_2 14 rfl rfl)
theorem dX0_knows_62 : decode cX0_knows 62 = .ok (.aload_n 0, 1) := dk_42 (dk_at dksX0_knows_2 17 rfl rfl)
theorem dX0_knows_63 : decode cX0_knows 63 = .ok (.aload_n 0, 1) := dk_42 (dk_at dksX0_knows_2 18 rfl rfl)
theorem dX0_knows_64 : decode cX0_knows 64 = .ok (.invokevirtual 276, 3) := dk_182 1 20 (dk_at dksX0_knows_2 19 rfl rfl)
theorem dX0_knows_67 : decode cX0_knows 67 = .ok (.aload_n 0, 1) := dk_42 (dk_at dksX0_knows_2 22 rfl rfl)
theorem dX0_knows_68 : decode cX0_knows 68 = .ok (.getfield 61, 3) := dk_180 0 61 (dk_at dksX0_knows_3 0 rfl rfl)
theorem dX0_knows_71 : decode cX0_knows 71 = .ok (.iload 5, 2) := dk_21 5 (dk_at dksX0_knows_3 3 rfl rfl)
theorem dX0_knows_73 : decode cX0_knows 73 = .ok (.invokeinterface 104 2, 5) := by decide +kernel
theorem dX0_knows_78 : decode cX0_knows 78 = .ok (.checkcast 223, 3) := dk_192 0 223 (dk_at dksX0_knows_3 10 rfl rfl)
theorem dX0_knows_81 : decode cX0_knows 81 = .ok (.iload_n 1, 1) := dk_27 (dk_at dksX0_knows_3 13 rfl rfl)
theorem dX0_knows_82 : decode cX0_knows 82 = .ok (.invokevirtual 280, 3) := dk_182 1 24 (dk_at dksX0_knows_3 14 rfl rfl)
theorem dX0_knows_85 : decode cX0_knows 85 = .ok (.ifCond .eq 29, 3) := dk_153 0 29 (dk_at dksX0_knows_3 17 rfl rfl)
theorem dX0_knows_88 : decode cX0_knows 88 = .ok (.aload_n 0, 1) := dk_42 (dk_at dksX0_knows_3 20 rfl rfl)
theorem dX0_knows_89 : decode cX0_knows 89 = .ok (.getfield 61, 3) := dk_180 0 61 (dk_at dksX0_knows_3 21 rfl rfl)
theorem dX0_knows_92 : decode cX0_knows 92 = .ok (.iload 5, 2) := dk_21 5 (dk_at dksX0_knows_4 0 rfl rfl)
theorem dX0_knows_94 : decode cX0_knows 94 = .ok (.invokeinterface 104 2, 5) := by decide +kernel
theorem dX0_knows_99 : decode cX0_knows 99 = .ok (.checkcast 223, 3) := dk_192 0 223 (dk_at dksX0_knows_4 7 rfl rfl)
theorem dX0_knows_102 : decode cX0_knows 102 = .ok (.iload_n 2, 1) := dk_28 (dk_at dksX0_knows_4 10 rfl rfl)
theorem dX0_knows_103 : decode cX0_knows 103 = .ok (.iload_n 3, 1) := dk_29 (dk_at dksX0_knows_4 11 rfl rfl)
theorem dX0_knows_104 : decode cX0_knows 104 = .ok (.invokevirtual 243, 3) := dk_182 0 243 (dk_at dksX0_knows_4 12 rfl rfl)
theorem dX0_knows_107 : decode cX0_knows 107 = .ok (.iload 4, 2) := dk_21 4 (dk_at dksX0_knows_4 15 rfl rfl)
theorem dX0_knows_109 : decode cX0_knows 109 = .ok (.if_icmp .eq 5, 3) := dk_159 0 5 (dk_at dksX0_knows_4 17 rfl rfl)
theorem dX0_knows_112 : decode cX0_knows 112 = .ok (.iconst (-1), 1) := dk_2 (dk_at dksX0_knows_4 20 rfl rfl)
theorem dX0_knows_113 : decode cX0_knows 113 = .ok (.ireturn, 1) := dk_172 (dk_at dksX0_knows_4 21 rfl rfl)
theorem dX0_knows_114 : decode cX0_knows 114 = .ok (.iinc 5 1, 3) := dk_132 5 1 (dk_at dksX0_knows_5 0 rfl rfl)
theorem dX0_knows_117 : decode cX0_knows 117 = .ok (.goto (-64), 3) := dk_167 255 192 (dk_at dksX0_knows_5 3 rfl rfl)
theorem dX0_knows_120 : decode cX0_knows 120 = .ok (.iload 4, 2) := dk_21 4 (dk_at dksX0_knows_5 6 rfl rfl)
theorem dX0_knows_122 : decode cX0_knows 122 = .ok (.ireturn, 1) := dk_172 (dk_at dksX0_knows_5 8 rfl rfl)
abbrev cX0_plainSeen : ByteArray := prog_1_method_34_code
def yX0_plainSeen : MethodName := ⟨RX0, "plainSeen", "()LUnseenClock$Seen;"⟩
def dkwX0_plainSeen_0 : List UInt8 := [42, 180, 0, 61, 3, 185, 0, 104, 2, 0, 192, 0, 223, 176]
abbrev dktX0_plainSeen_0 : List UInt8 := dkwX0_plainSeen_0 ++ []
theorem dksX0_plainSeen_0 : cX0_plainSeen.data.toList.drop 0 = dktX0_plainSeen_0 := by decide +kernel
theorem dX0_plainSeen_0 : decode cX0_plainSeen 0 = .ok (.aload_n 0, 1) := dk_42 (dk_at dksX0_plainSeen_0 0 rfl rfl)
theorem dX0_plainSeen_1 : decode cX0_plainSeen 1 = .ok (.getfield 61, 3) := dk_180 0 61 (dk_at dksX0_plainSeen_0 1 rfl rfl)
theorem dX0_plainSeen_4 : decode cX0_plainSeen 4 = .ok (.iconst 0, 1) := dk_3 (dk_at dksX0_plainSeen_0 4 rfl rfl)
theorem dX0_plainSeen_5 : decode cX0_plainSeen 5 = .ok (.invokeinterface 104 2, 5) := by decide +kernel
theorem dX0_plainSeen_10 : decode cX0_plainSeen 10 = .ok (.checkcast 223, 3) := dk_192 0 223 (dk_at dksX0_plainSeen_0 10 rfl rfl)
theorem dX0_plainSeen_13 : decode cX0_plainSeen 13 = .ok (.areturn, 1) := dk_176 (dk_at dksX0_plainSeen_0 13 rfl rfl)
abbrev cX0_isAlike : ByteArray := prog_1_method_43_code
def yX0_isAlike : MethodName := ⟨RX0, "isAlike", "(LUnseenClock$Seen;LUnseenClock$Seen;I)Z"⟩
def dkwX0_isAlike_0 : List UInt8 := [43, 44, 29, 42, 180, 0, 41, 180, 0, 137, 182, 1, 16, 172]
abbrev dktX0_isAlike_0 : List UInt8 := dkwX0_isAlike_0 ++ []
theorem dksX0_isAlike_0 : cX0_isAlike.data.toList.drop 0 = dktX0_isAlike_0 := by decide +kernel
theorem dX0_isAlike_0 : decode cX0_isAlike 0 = .ok (.aload_n 1, 1) := dk_43 (dk_at dksX0_isAlike_0 0 rfl rfl)
theorem dX0_isAlike_1 : decode cX0_isAlike 1 = .ok (.aload_n 2, 1) := dk_44 (dk_at dksX0_isAlike_0 1 rfl rfl)
theorem dX0_isAlike_2 : decode cX0_isAlike 2 = .ok (.iload_n 3, 1) := dk_29 (dk_at dksX0_isAlike_0 2 rfl rfl)
theorem dX0_isAlike_3 : decode cX0_isAlike 3 = .ok (.aload_n 0, 1) := dk_42 (dk_at dksX0_isAlike_0 3 rfl rfl)
theorem dX0_isAlike_4 : decode cX0_isAlike 4 = .ok (.getfield 41, 3) := dk_180 0 41 (dk_at dksX0_isAlike_0 4 rfl rfl)
theorem dX0_isAlike_7 : decode cX0_isAlike 7 = .ok (.getfield 137, 3) := dk_180 0 137 (dk_at dksX0_isAlike_0 7 rfl rfl)
theorem dX0_isAlike_10 : decode cX0_isAlike 10 = .ok (.invokevirtual 272, 3) := dk_182 1 16 (dk_at dksX0_isAlike_0 10 rfl rfl)
theorem dX0_isAlike_13 : decode cX0_isAlike 13 = .ok (.ireturn, 1) := dk_172 (dk_at dksX0_isAlike_0 13 rfl rfl)
abbrev cX0_common : ByteArray := prog_1_method_47_code
def yX0_common : MethodName := ⟨RX0, "common", "(III)I"⟩
def dkwX0_common_5 : List UInt8 := [159, 0, 5, 2, 172, 132, 5, 1, 167, 255, 208, 21, 4, 172]
abbrev dktX0_common_5 : List UInt8 := dkwX0_common_5 ++ []
def dkwX0_common_4 : List UInt8 := [153, 0, 29, 42, 180, 0, 61, 21, 5, 185, 0, 104, 2, 0, 192, 0, 223, 28, 29, 182, 0, 243, 21, 4]
abbrev dktX0_common_4 : List UInt8 := dkwX0_common_4 ++ dktX0_common_5
def dkwX0_common_3 : List UInt8 := [182, 0, 243, 54, 4, 3, 54, 5, 21, 5, 42, 180, 0, 220, 162, 0, 45, 42, 180, 0, 79, 21, 5, 51]
abbrev dktX0_common_3 : List UInt8 := dkwX0_common_3 ++ dktX0_common_4
def dkwX0_common_2 : List UInt8 := [16, 254, 172, 42, 182, 0, 237, 154, 0, 6, 16, 253, 172, 42, 27, 182, 1, 37, 42, 182, 1, 20, 28, 29]
abbrev dktX0_common_2 : List UInt8 := dkwX0_common_2 ++ dktX0_common_3
def dkwX0_common_1 : List UInt8 := [184, 0, 5, 153, 0, 21, 42, 28, 133, 182, 0, 146, 153, 0, 12, 42, 29, 133, 182, 0, 150, 154, 0, 6]
abbrev dktX0_common_1 : List UInt8 := dkwX0_common_1 ++ dktX0_common_2
def dkwX0_common_0 : List UInt8 := [42, 180, 0, 41, 182, 0, 140, 153, 0, 39, 27, 133, 9, 4, 42, 182, 0, 133, 120, 4, 100, 133]
abbrev dktX0_common_0 : List UInt8 := dkwX0_common_0 ++ dktX0_common_1
theorem dksX0_common_0 : cX0_common.data.toList.drop 0 = dktX0_common_0 := by decide +kernel
theorem dksX0_common_1 : cX0_common.data.toList.drop 22 = dktX0_common_1 := dk_seg dksX0_common_0 22 rfl rfl
theorem dksX0_common_2 : cX0_common.data.toList.drop 46 = dktX0_common_2 := dk_seg dksX0_common_1 24 rfl rfl
theorem dksX0_common_3 : cX0_common.data.toList.drop 70 = dktX0_common_3 := dk_seg dksX0_common_2 24 rfl rfl
theorem dksX0_common_4 : cX0_common.data.toList.drop 94 = dktX0_common_4 := dk_seg dksX0_common_3 24 rfl rfl
theorem dksX0_common_5 : cX0_common.data.toList.drop 118 = dktX0_common_5 := dk_seg dksX0_common_4 24 rfl rfl
theorem dX0_common_0 : decode cX0_common 0 = .ok (.aload_n 0, 1) := dk_42 (dk_at dksX0_common_0 0 rfl rfl)
theorem dX0_common_1 : decode cX0_common 1 = .ok (.getfield 41, 3) := dk_180 0 41 (dk_at dksX0_common_0 1 rfl rfl)
theorem dX0_common_4 : decode cX0_common 4 = .ok (.invokevirtual 140, 3) := dk_182 0 140 (dk_at dksX0_common_0 4 rfl rfl)
theorem dX0_common_7 : decode cX0_common 7 = .ok (.ifCond .eq 39, 3) := dk_153 0 39 (dk_at dksX0_common_0 7 rfl rfl)
theorem dX0_common_10 : decode cX0_common 10 = .ok (.iload_n 1, 1) := dk_27 (dk_at dksX0_common_0 10 rfl rfl)
theorem dX0_common_11 : decode cX0_common 11 = .ok (.i2l, 1) := dk_133 (dk_at dksX0_common_0 11 rfl rfl)
theorem dX0_common_12 : decode cX0_common 12 = .ok (.lconst 0, 1) := dk_9 (dk_at dksX0_common_0 12 rfl rfl)
theorem dX0_common_13 : decode cX0_common 13 = .ok (.iconst 1, 1) := dk_4 (dk_at dksX0_common_0 13 rfl rfl)
theorem dX0_common_14 : decode cX0_common 14 = .ok (.aload_n 0, 1) := dk_42 (dk_at dksX0_common_0 14 rfl rfl)
theorem dX0_common_15 : decode cX0_common 15 = .ok (.invokevirtual 133, 3) := dk_182 0 133 (dk_at dksX0_common_0 15 rfl rfl)
theorem dX0_common_18 : decode cX0_common 18 = .ok (.ishl, 1) := dk_120 (dk_at dksX0_common_0 18 rfl rfl)
theorem dX0_common_19 : decode cX0_common 19 = .ok (.iconst 1, 1) := dk_4 (dk_at dksX0_common_0 19 rfl rfl)
theorem dX0_common_20 : decode cX0_common 20 = .ok (.isub, 1) := dk_100 (dk_at dksX0_common_0 20 rfl rfl)
theorem dX0_common_21 : decode cX0_common 21 = .ok (.i2l, 1) := dk_133 (dk_at dksX0_common_0 21 rfl rfl)
theorem dX0_common_22 : decode cX0_common 22 = .ok (.invokestatic 5, 3) := dk_184 0 5 (dk_at dksX0_common_1 0 rfl rfl)
theorem dX0_common_25 : decode cX0_common 25 = .ok (.ifCond .eq 21, 3) := dk_153 0 21 (dk_at dksX0_common_1 3 rfl rfl)
theorem dX0_common_28 : decode cX0_common 28 = .ok (.aload_n 0, 1) := dk_42 (dk_at dksX0_common_1 6 rfl rfl)
theorem dX0_common_29 : decode cX0_common 29 = .ok (.iload_n 2, 1) := dk_28 (dk_at dksX0_common_1 7 rfl rfl)
theorem dX0_common_30 : decode cX0_common 30 = .ok (.i2l, 1) := dk_133 (dk_at dksX0_common_1 8 rfl rfl)
theorem dX0_common_31 : decode cX0_common 31 = .ok (.invokevirtual 146, 3) := dk_182 0 146 (dk_at dksX0_common_1 9 rfl rfl)
theorem dX0_common_34 : decode cX0_common 34 = .ok (.ifCond .eq 12, 3) := dk_153 0 12 (dk_at dksX0_common_1 12 rfl rfl)
theorem dX0_common_37 : decode cX0_common 37 = .ok (.aload_n 0, 1) := dk_42 (dk_at dksX0_common_1 15 rfl rfl)
theorem dX0_common_38 : decode cX0_common 38 = .ok (.iload_n 3, 1) := dk_29 (dk_at dksX0_common_1 16 rfl rfl)
theorem dX0_common_39 : decode cX0_common 39 = .ok (.i2l, 1) := dk_133 (dk_at dksX0_common_1 17 rfl rfl)
theorem dX0_common_40 : decode cX0_common 40 = .ok (.invokevirtual 150, 3) := dk_182 0 150 (dk_at dksX0_common_1 18 rfl rfl)
theorem dX0_common_43 : decode cX0_common 43 = .ok (.ifCond .ne 6, 3) := dk_154 0 6 (dk_at dksX0_common_1 21 rfl rfl)
theorem dX0_common_46 : decode cX0_common 46 = .ok (.bipush (-2), 2) := dk_16 254 (dk_at dksX0_common_2 0 rfl rfl)
theorem dX0_common_48 : decode cX0_common 48 = .ok (.ireturn, 1) := dk_172 (dk_at dksX0_common_2 2 rfl rfl)
theorem dX0_common_49 : decode cX0_common 49 = .ok (.aload_n 0, 1) := dk_42 (dk_at dksX0_common_2 3 rfl rfl)
theorem dX0_common_50 : decode cX0_common 50 = .ok (.invokevirtual 237, 3) := dk_182 0 237 (dk_at dksX0_common_2 4 rfl rfl)
theorem dX0_common_53 : decode cX0_common 53 = .ok (.ifCond .ne 6, 3) := dk_154 0 6 (dk_at dksX0_common_2 7 rfl rfl)
theorem dX0_common_56 : decode cX0_common 56 = .ok (.bipush (-3), 2) := dk_16 253 (dk_at dksX0_common_2 10 rfl rfl)
theorem dX0_common_58 : decode cX0_common 58 = .ok (.ireturn, 1) := dk_172 (dk_at dksX0_common_2 12 rfl rfl)
theorem dX0_common_59 : decode cX0_common 59 = .ok (.aload_n 0, 1) := dk_42 (dk_at dksX0_common_2 13 rfl rfl)
theorem dX0_common_60 : decode cX0_common 60 = .ok (.iload_n 1, 1) := dk_27 (dk_at dksX0_common_2 14 rfl rfl)
theorem dX0_common_61 : decode cX0_common 61 = .ok (.invokevirtual 293, 3) := dk_182 1 37 (dk_at dksX0_common_2 15 rfl rfl)
theorem dX0_common_64 : decode cX0_common 64 = .ok (.aload_n 0, 1) := dk_42 (dk_at dksX0_common_2 18 rfl rfl)
theorem dX0_common_65 : decode cX0_common 65 = .ok (.invokevirtual 276, 3) := dk_182 1 20 (dk_at dksX0_common_2 19 rfl rfl)
theorem dX0_common_68 : decode cX0_common 68 = .ok (.iload_n 2, 1) := dk_28 (dk_at dksX0_common_2 22 rfl rfl)
theorem dX0_common_69 : decode cX0_common 69 = .ok (.iload_n 3, 1) := dk_29 (dk_at dksX0_common_2 23 rfl rfl)
theorem dX0_common_70 : decode cX0_common 70 = .ok (.invokevirtual 243, 3) := dk_182 0 243 (dk_at dksX0_common_3 0 rfl rfl)
theorem dX0_common_73 : decode cX0_common 73 = .ok (.istore 4, 2) := dk_54 4 (dk_at dksX0_common_3 3 rfl rfl)
theorem dX0_common_75 : decode cX0_common 75 = .ok (.iconst 0, 1) := dk_3 (dk_at dksX0_common_3 5 rfl rfl)
theorem dX0_common_76 : decode cX0_common 76 = .ok (.istore 5, 2) := dk_54 5 (dk_at dksX0_common_3 6 rfl rfl)
theorem dX0_common_78 : decode cX0_common 78 = .ok (.iload 5, 2) := dk_21 5 (dk_at dksX0_common_3 8 rfl rfl)
theorem dX0_common_80 : decode cX0_common 80 = .ok (.aload_n 0, 1) := dk_42 (dk_at dksX0_common_3 10 rfl rfl)
theorem dX0_common_81 : decode cX0_common 81 = .ok (.getfield 220, 3) := dk_180 0 220 (dk_at dksX0_common_3 11 rfl rfl)
theorem dX0_common_84 : decode cX0_common 84 = .ok (.if_icmp .ge 45, 3) := dk_162 0 45 (dk_at dksX0_common_3 14 rfl rfl)
theorem dX0_common_87 : decode cX0_common 87 = .ok (.aload_n 0, 1) := dk_42 (dk_at dksX0_common_3 17 rfl rfl)
theorem dX0_common_88 : decode cX0_common 88 = .ok (.getfield 79, 3) := dk_180 0 79 (dk_at dksX0_common_3 18 rfl rfl)
theorem dX0_common_91 : decode cX0_common 91 = .ok (.iload 5, 2) := dk_21 5 (dk_at dksX0_common_3 21 rfl rfl)
theorem dX0_common_93 : decode cX0_common 93 = .ok (.baload, 1) := dk_51 (dk_at dksX0_common_3 23 rfl rfl)
theorem dX0_common_94 : decode cX0_common 94 = .ok (.ifCond .eq 29, 3) := dk_153 0 29 (dk_at dksX0_common_4 0 rfl rfl)
theorem dX0_common_97 : decode cX0_common 97 = .ok (.aload_n 0, 1) := dk_42 (dk_at dksX0_common_4 3 rfl rfl)
theorem dX0_common_98 : decode cX0_common 98 = .ok (.getfield 61, 3) := dk_180 0 61 (dk_at dksX0_common_4 4 rfl rfl)
theorem dX0_common_101 : decode cX0_common 101 = .ok (.iload 5, 2) := dk_21 5 (dk_at dksX0_common_4 7 rfl rfl)
theorem dX0_common_103 : decode cX0_common 103 = .ok (.invokeinterface 104 2, 5) := by decide +kernel
theorem dX0_common_108 : decode cX0_common 108 = .ok (.checkcast 223, 3) := dk_192 0 223 (dk_at dksX0_common_4 14 rfl rfl)
theorem dX0_common_111 : decode cX0_common 111 = .ok (.iload_n 2, 1) := dk_28 (dk_at dksX0_common_4 17 rfl rfl)
theorem dX0_common_112 : decode cX0_common 112 = .ok (.iload_n 3, 1) := dk_29 (dk_at dksX0_common_4 18 rfl rfl)
theorem dX0_common_113 : decode cX0_common 113 = .ok (.invokevirtual 243, 3) := dk_182 0 243 (dk_at dksX0_common_4 19 rfl rfl)
theorem dX0_common_116 : decode cX0_common 116 = .ok (.iload 4, 2) := dk_21 4 (dk_at dksX0_common_4 22 rfl rfl)
theorem dX0_common_118 : decode cX0_common 118 = .ok (.if_icmp .eq 5, 3) := dk_159 0 5 (dk_at dksX0_common_5 0 rfl rfl)
theorem dX0_common_121 : decode cX0_common 121 = .ok (.iconst (-1), 1) := dk_2 (dk_at dksX0_common_5 3 rfl rfl)
theorem dX0_common_122 : decode cX0_common 122 = .ok (.ireturn, 1) := dk_172 (dk_at dksX0_common_5 4 rfl rfl)
theorem dX0_common_123 : decode cX0_common 123 = .ok (.iinc 5 1, 3) := dk_132 5 1 (dk_at dksX0_common_5 5 rfl rfl)
theorem dX0_common_126 : decode cX0_common 126 = .ok (.goto (-48), 3) := dk_167 255 208 (dk_at dksX0_common_5 8 rfl rfl)
theorem dX0_common_129 : decode cX0_common 129 = .ok (.iload 4, 2) := dk_21 4 (dk_at dksX0_common_5 11 rfl rfl)
theorem dX0_common_131 : decode cX0_common 131 = .ok (.ireturn, 1) := dk_172 (dk_at dksX0_common_5 13 rfl rfl)
abbrev cX0_meets : ByteArray := prog_1_method_45_code
def yX0_meets : MethodName := ⟨RX0, "meets", "(I)V"⟩
def dkwX0_meets_5 : List UInt8 := [167, 255, 177, 132, 3, 1, 167, 255, 160, 167, 255, 149, 177]
abbrev dktX0_meets_5 : List UInt8 := dkwX0_meets_5 ++ []
def dkwX0_meets_4 : List UInt8 := [182, 1, 33, 154, 0, 6, 167, 0, 13, 42, 180, 0, 79, 21, 4, 4, 84, 4, 61, 132, 4, 1]
abbrev dktX0_meets_4 : List UInt8 := dkwX0_meets_4 ++ dktX0_meets_5
def dkwX0_meets_3 : List UInt8 := [29, 185, 0, 104, 2, 0, 192, 0, 223, 42, 180, 0, 61, 21, 4, 185, 0, 104, 2, 0, 192, 0, 223]
abbrev dktX0_meets_3 : List UInt8 := dkwX0_meets_3 ++ dktX0_meets_4
def dkwX0_meets_2 : List UInt8 := [180, 0, 79, 29, 51, 153, 0, 67, 42, 180, 0, 79, 21, 4, 51, 154, 0, 51, 42, 27, 42, 180, 0, 61]
abbrev dktX0_meets_2 : List UInt8 := dkwX0_meets_2 ++ dktX0_meets_3
def dkwX0_meets_1 : List UInt8 := [62, 29, 42, 180, 0, 220, 162, 0, 94, 3, 54, 4, 21, 4, 42, 180, 0, 220, 162, 0, 76, 42]
abbrev dktX0_meets_1 : List UInt8 := dkwX0_meets_1 ++ dktX0_meets_2
def dkwX0_meets_0 : List UInt8 := [42, 180, 0, 79, 3, 184, 1, 27, 42, 180, 0, 79, 3, 4, 84, 4, 61, 28, 153, 0, 109, 3, 61, 3]
abbrev dktX0_meets_0 : List UInt8 := dkwX0_meets_0 ++ dktX0_meets_1
theorem dksX0_meets_0 : cX0_meets.data.toList.drop 0 = dktX0_meets_0 := by decide +kernel
theorem dksX0_meets_1 : cX0_meets.data.toList.drop 24 = dktX0_meets_1 := dk_seg dksX0_meets_0 24 rfl rfl
theorem dksX0_meets_2 : cX0_meets.data.toList.drop 46 = dktX0_meets_2 := dk_seg dksX0_meets_1 22 rfl rfl
theorem dksX0_meets_3 : cX0_meets.data.toList.drop 70 = dktX0_meets_3 := dk_seg dksX0_meets_2 24 rfl rfl
theorem dksX0_meets_4 : cX0_meets.data.toList.drop 93 = dktX0_meets_4 := dk_seg dksX0_meets_3 23 rfl rfl
theorem dksX0_meets_5 : cX0_meets.data.toList.drop 115 = dktX0_meets_5 := dk_seg dksX0_meets_4 22 rfl rfl
theorem dX0_meets_0 : decode cX0_meets 0 = .ok (.aload_n 0, 1) := dk_42 (dk_at dksX0_meets_0 0 rfl rfl)
theorem dX0_meets_1 : decode cX0_meets 1 = .ok (.getfield 79, 3) := dk_180 0 79 (dk_at dksX0_meets_0 1 rfl rfl)
theorem dX0_meets_4 : decode cX0_meets 4 = .ok (.iconst 0, 1) := dk_3 (dk_at dksX0_meets_0 4 rfl rfl)
theorem dX0_meets_5 : decode cX0_meets 5 = .ok (.invokestatic 283, 3) := dk_184 1 27 (dk_at dksX0_meets_0 5 rfl rfl)
theorem dX0_meets_8 : decode cX0_meets 8 = .ok (.aload_n 0, 1) := dk_42 (dk_at dksX0_meets_0 8 rfl rfl)
theorem dX0_meets_9 : decode cX0_meets 9 = .ok (.getfield 79, 3) := dk_180 0 79 (dk_at dksX0_meets_0 9 rfl rfl)
theorem dX0_meets_12 : decode cX0_meets 12 = .ok (.iconst 0, 1) := dk_3 (dk_at dksX0_meets_0 12 rfl rfl)
theorem dX0_meets_13 : decode cX0_meets 13 = .ok (.iconst 1, 1) := dk_4 (dk_at dksX0_meets_0 13 rfl rfl)
theorem dX0_meets_14 : decode cX0_meets 14 = .ok (.bastore, 1) := dk_84 (dk_at dksX0_meets_0 14 rfl rfl)
theorem dX0_meets_15 : decode cX0_meets 15 = .ok (.iconst 1, 1) := dk_4 (dk_at dksX0_meets_0 15 rfl rfl)
theorem dX0_meets_16 : decode cX0_meets 16 = .ok (.istore_n 2, 1) := dk_61 (dk_at dksX0_meets_0 16 rfl rfl)
theorem dX0_meets_17 : decode cX0_meets 17 = .ok (.iload_n 2, 1) := dk_28 (dk_at dksX0_meets_0 17 rfl rfl)
theorem dX0_meets_18 : decode cX0_meets 18 = .ok (.ifCond .eq 109, 3) := dk_153 0 109 (dk_at dksX0_meets_0 18 rfl rfl)
theorem dX0_meets_21 : decode cX0_meets 21 = .ok (.iconst 0, 1) := dk_3 (dk_at dksX0_meets_0 21 rfl rfl)
theorem dX0_meets_22 : decode cX0_meets 22 = .ok (.istore_n 2, 1) := dk_61 (dk_at dksX0_meets_0 22 rfl rfl)
theorem dX0_meets_23 : decode cX0_meets 23 = .ok (.iconst 0, 1) := dk_3 (dk_at dksX0_meets_0 23 rfl rfl)
theorem dX0_meets_24 : decode cX0_meets 24 = .ok (.istore_n 3, 1) := dk_62 (dk_at dksX0_meets_1 0 rfl rfl)
theorem dX0_meets_25 : decode cX0_meets 25 = .ok (.iload_n 3, 1) := dk_29 (dk_at dksX0_meets_1 1 rfl rfl)
theorem dX0_meets_26 : decode cX0_meets 26 = .ok (.aload_n 0, 1) := dk_42 (dk_at dksX0_meets_1 2 rfl rfl)
theorem dX0_meets_27 : decode cX0_meets 27 = .ok (.getfield 220, 3) := dk_180 0 220 (dk_at dksX0_meets_1 3 rfl rfl)
theorem dX0_meets_30 : decode cX0_meets 30 = .ok (.if_icmp .ge 94, 3) := dk_162 0 94 (dk_at dksX0_meets_1 6 rfl rfl)
theorem dX0_meets_33 : decode cX0_meets 33 = .ok (.iconst 0, 1) := dk_3 (dk_at dksX0_meets_1 9 rfl rfl)
theorem dX0_meets_34 : decode cX0_meets 34 = .ok (.istore 4, 2) := dk_54 4 (dk_at dksX0_meets_1 10 rfl rfl)
theorem dX0_meets_36 : decode cX0_meets 36 = .ok (.iload 4, 2) := dk_21 4 (dk_at dksX0_meets_1 12 rfl rfl)
theorem dX0_meets_38 : decode cX0_meets 38 = .ok (.aload_n 0, 1) := dk_42 (dk_at dksX0_meets_1 14 rfl rfl)
theorem dX0_meets_39 : decode cX0_meets 39 = .ok (.getfield 220, 3) := dk_180 0 220 (dk_at dksX0_meets_1 15 rfl rfl)
theorem dX0_meets_42 : decode cX0_meets 42 = .ok (.if_icmp .ge 76, 3) := dk_162 0 76 (dk_at dksX0_meets_1 18 rfl rfl)
theorem dX0_meets_45 : decode cX0_meets 45 = .ok (.aload_n 0, 1) := dk_42 (dk_at dksX0_meets_1 21 rfl rfl)
theorem dX0_meets_46 : decode cX0_meets 46 = .ok (.getfield 79, 3) := dk_180 0 79 (dk_at dksX0_meets_2 0 rfl rfl)
theorem dX0_meets_49 : decode cX0_meets 49 = .ok (.iload_n 3, 1) := dk_29 (dk_at dksX0_meets_2 3 rfl rfl)
theorem dX0_meets_50 : decode cX0_meets 50 = .ok (.baload, 1) := dk_51 (dk_at dksX0_meets_2 4 rfl rfl)
theorem dX0_meets_51 : decode cX0_meets 51 = .ok (.ifCond .eq 67, 3) := dk_153 0 67 (dk_at dksX0_meets_2 5 rfl rfl)
theorem dX0_meets_54 : decode cX0_meets 54 = .ok (.aload_n 0, 1) := dk_42 (dk_at dksX0_meets_2 8 rfl rfl)
theorem dX0_meets_55 : decode cX0_meets 55 = .ok (.getfield 79, 3) := dk_180 0 79 (dk_at dksX0_meets_2 9 rfl rfl)
theorem dX0_meets_58 : decode cX0_meets 58 = .ok (.iload 4, 2) := dk_21 4 (dk_at dksX0_meets_2 12 rfl rfl)
theorem dX0_meets_60 : decode cX0_meets 60 = .ok (.baload, 1) := dk_51 (dk_at dksX0_meets_2 14 rfl rfl)
theorem dX0_meets_61 : decode cX0_meets 61 = .ok (.ifCond .ne 51, 3) := dk_154 0 51 (dk_at dksX0_meets_2 15 rfl rfl)
theorem dX0_meets_64 : decode cX0_meets 64 = .ok (.aload_n 0, 1) := dk_42 (dk_at dksX0_meets_2 18 rfl rfl)
theorem dX0_meets_65 : decode cX0_meets 65 = .ok (.iload_n 1, 1) := dk_27 (dk_at dksX0_meets_2 19 rfl rfl)
theorem dX0_meets_66 : decode cX0_meets 66 = .ok (.aload_n 0, 1) := dk_42 (dk_at dksX0_meets_2 20 rfl rfl)
theorem dX0_meets_67 : decode cX0_meets 67 = .ok (.getfield 61, 3) := dk_180 0 61 (dk_at dksX0_meets_2 21 rfl rfl)
theorem dX0_meets_70 : decode cX0_meets 70 = .ok (.iload_n 3, 1) := dk_29 (dk_at dksX0_meets_3 0 rfl rfl)
theorem dX0_meets_71 : decode cX0_meets 71 = .ok (.invokeinterface 104 2, 5) := by decide +kernel
theorem dX0_meets_76 : decode cX0_meets 76 = .ok (.checkcast 223, 3) := dk_192 0 223 (dk_at dksX0_meets_3 6 rfl rfl)
theorem dX0_meets_79 : decode cX0_meets 79 = .ok (.aload_n 0, 1) := dk_42 (dk_at dksX0_meets_3 9 rfl rfl)
theorem dX0_meets_80 : decode cX0_meets 80 = .ok (.getfield 61, 3) := dk_180 0 61 (dk_at dksX0_meets_3 10 rfl rfl)
theorem dX0_meets_83 : decode cX0_meets 83 = .ok (.iload 4, 2) := dk_21 4 (dk_at dksX0_meets_3 13 rfl rfl)
theorem dX0_meets_85 : decode cX0_meets 85 = .ok (.invokeinterface 104 2, 5) := by decide +kernel
theorem dX0_meets_90 : decode cX0_meets 90 = .ok (.checkcast 223, 3) := dk_192 0 223 (dk_at dksX0_meets_3 20 rfl rfl)
theorem dX0_meets_93 : decode cX0_meets 93 = .ok (.invokevirtual 289, 3) := dk_182 1 33 (dk_at dksX0_meets_4 0 rfl rfl)
theorem dX0_meets_96 : decode cX0_meets 96 = .ok (.ifCond .ne 6, 3) := dk_154 0 6 (dk_at dksX0_meets_4 3 rfl rfl)
theorem dX0_meets_99 : decode cX0_meets 99 = .ok (.goto 13, 3) := dk_167 0 13 (dk_at dksX0_meets_4 6 rfl rfl)
theorem dX0_meets_102 : decode cX0_meets 102 = .ok (.aload_n 0, 1) := dk_42 (dk_at dksX0_meets_4 9 rfl rfl)
theorem dX0_meets_103 : decode cX0_meets 103 = .ok (.getfield 79, 3) := dk_180 0 79 (dk_at dksX0_meets_4 10 rfl rfl)
theorem dX0_meets_106 : decode cX0_meets 106 = .ok (.iload 4, 2) := dk_21 4 (dk_at dksX0_meets_4 13 rfl rfl)
theorem dX0_meets_108 : decode cX0_meets 108 = .ok (.iconst 1, 1) := dk_4 (dk_at dksX0_meets_4 15 rfl rfl)
theorem dX0_meets_109 : decode cX0_meets 109 = .ok (.bastore, 1) := dk_84 (dk_at dksX0_meets_4 16 rfl rfl)
theorem dX0_meets_110 : decode cX0_meets 110 = .ok (.iconst 1, 1) := dk_4 (dk_at dksX0_meets_4 17 rfl rfl)
theorem dX0_meets_111 : decode cX0_meets 111 = .ok (.istore_n 2, 1) := dk_61 (dk_at dksX0_meets_4 18 rfl rfl)
theorem dX0_meets_112 : decode cX0_meets 112 = .ok (.iinc 4 1, 3) := dk_132 4 1 (dk_at dksX0_meets_4 19 rfl rfl)
theorem dX0_meets_115 : decode cX0_meets 115 = .ok (.goto (-79), 3) := dk_167 255 177 (dk_at dksX0_meets_5 0 rfl rfl)
theorem dX0_meets_118 : decode cX0_meets 118 = .ok (.iinc 3 1, 3) := dk_132 3 1 (dk_at dksX0_meets_5 3 rfl rfl)
theorem dX0_meets_121 : decode cX0_meets 121 = .ok (.goto (-96), 3) := dk_167 255 160 (dk_at dksX0_meets_5 6 rfl rfl)
theorem dX0_meets_124 : decode cX0_meets 124 = .ok (.goto (-107), 3) := dk_167 255 149 (dk_at dksX0_meets_5 9 rfl rfl)
theorem dX0_meets_127 : decode cX0_meets 127 = .ok (.return_, 1) := dk_177 (dk_at dksX0_meets_5 12 rfl rfl)
abbrev cX0_isStep : ByteArray := prog_1_method_46_code
def yX0_isStep : MethodName := ⟨RX0, "isStep", "(ILUnseenClock$Seen;LUnseenClock$Seen;)Z"⟩
def dkwX0_isStep_1 : List UInt8 := [21, 4, 182, 1, 24, 153, 0, 5, 4, 172, 132, 4, 1, 167, 255, 222, 3, 172]
abbrev dktX0_isStep_1 : List UInt8 := dkwX0_isStep_1 ++ []
def dkwX0_isStep_0 : List UInt8 := [3, 54, 4, 21, 4, 42, 182, 0, 133, 162, 0, 31, 27, 21, 4, 184, 0, 168, 153, 0, 16, 42, 44, 45]
abbrev dktX0_isStep_0 : List UInt8 := dkwX0_isStep_0 ++ dktX0_isStep_1
theorem dksX0_isStep_0 : cX0_isStep.data.toList.drop 0 = dktX0_isStep_0 := by decide +kernel
theorem dksX0_isStep_1 : cX0_isStep.data.toList.drop 24 = dktX0_isStep_1 := dk_seg dksX0_isStep_0 24 rfl rfl
theorem dX0_isStep_0 : decode cX0_isStep 0 = .ok (.iconst 0, 1) := dk_3 (dk_at dksX0_isStep_0 0 rfl rfl)
theorem dX0_isStep_1 : decode cX0_isStep 1 = .ok (.istore 4, 2) := dk_54 4 (dk_at dksX0_isStep_0 1 rfl rfl)
theorem dX0_isStep_3 : decode cX0_isStep 3 = .ok (.iload 4, 2) := dk_21 4 (dk_at dksX0_isStep_0 3 rfl rfl)
theorem dX0_isStep_5 : decode cX0_isStep 5 = .ok (.aload_n 0, 1) := dk_42 (dk_at dksX0_isStep_0 5 rfl rfl)
theorem dX0_isStep_6 : decode cX0_isStep 6 = .ok (.invokevirtual 133, 3) := dk_182 0 133 (dk_at dksX0_isStep_0 6 rfl rfl)
theorem dX0_isStep_9 : decode cX0_isStep 9 = .ok (.if_icmp .ge 31, 3) := dk_162 0 31 (dk_at dksX0_isStep_0 9 rfl rfl)
theorem dX0_isStep_12 : decode cX0_isStep 12 = .ok (.iload_n 1, 1) := dk_27 (dk_at dksX0_isStep_0 12 rfl rfl)
theorem dX0_isStep_13 : decode cX0_isStep 13 = .ok (.iload 4, 2) := dk_21 4 (dk_at dksX0_isStep_0 13 rfl rfl)
theorem dX0_isStep_15 : decode cX0_isStep 15 = .ok (.invokestatic 168, 3) := dk_184 0 168 (dk_at dksX0_isStep_0 15 rfl rfl)
theorem dX0_isStep_18 : decode cX0_isStep 18 = .ok (.ifCond .eq 16, 3) := dk_153 0 16 (dk_at dksX0_isStep_0 18 rfl rfl)
theorem dX0_isStep_21 : decode cX0_isStep 21 = .ok (.aload_n 0, 1) := dk_42 (dk_at dksX0_isStep_0 21 rfl rfl)
theorem dX0_isStep_22 : decode cX0_isStep 22 = .ok (.aload_n 2, 1) := dk_44 (dk_at dksX0_isStep_0 22 rfl rfl)
theorem dX0_isStep_23 : decode cX0_isStep 23 = .ok (.aload_n 3, 1) := dk_45 (dk_at dksX0_isStep_0 23 rfl rfl)
theorem dX0_isStep_24 : decode cX0_isStep 24 = .ok (.iload 4, 2) := dk_21 4 (dk_at dksX0_isStep_1 0 rfl rfl)
theorem dX0_isStep_26 : decode cX0_isStep 26 = .ok (.invokevirtual 280, 3) := dk_182 1 24 (dk_at dksX0_isStep_1 2 rfl rfl)
theorem dX0_isStep_29 : decode cX0_isStep 29 = .ok (.ifCond .eq 5, 3) := dk_153 0 5 (dk_at dksX0_isStep_1 5 rfl rfl)
theorem dX0_isStep_32 : decode cX0_isStep 32 = .ok (.iconst 1, 1) := dk_4 (dk_at dksX0_isStep_1 8 rfl rfl)
theorem dX0_isStep_33 : decode cX0_isStep 33 = .ok (.ireturn, 1) := dk_172 (dk_at dksX0_isStep_1 9 rfl rfl)
theorem dX0_isStep_34 : decode cX0_isStep 34 = .ok (.iinc 4 1, 3) := dk_132 4 1 (dk_at dksX0_isStep_1 10 rfl rfl)
theorem dX0_isStep_37 : decode cX0_isStep 37 = .ok (.goto (-34), 3) := dk_167 255 222 (dk_at dksX0_isStep_1 13 rfl rfl)
theorem dX0_isStep_40 : decode cX0_isStep 40 = .ok (.iconst 0, 1) := dk_3 (dk_at dksX0_isStep_1 16 rfl rfl)
theorem dX0_isStep_41 : decode cX0_isStep 41 = .ok (.ireturn, 1) := dk_172 (dk_at dksX0_isStep_1 17 rfl rfl)
abbrev cX0_alike : ByteArray := prog_1_method_48_code
def yX0_alike : MethodName := ⟨RX0, "alike", "(I)I"⟩
def dkwX0_alike_3 : List UInt8 := [132, 3, 1, 167, 255, 212, 28, 172]
abbrev dktX0_alike_3 : List UInt8 := dkwX0_alike_3 ++ []
def dkwX0_alike_2 : List UInt8 := [185, 0, 104, 2, 0, 192, 0, 223, 27, 182, 1, 24, 153, 0, 7, 4, 167, 0, 4, 3, 96, 61]
abbrev dktX0_alike_2 : List UInt8 := dkwX0_alike_2 ++ dktX0_alike_3
def dkwX0_alike_1 : List UInt8 := [62, 29, 42, 180, 0, 220, 162, 0, 42, 28, 42, 42, 182, 1, 20, 42, 180, 0, 61, 29]
abbrev dktX0_alike_1 : List UInt8 := dkwX0_alike_1 ++ dktX0_alike_2
def dkwX0_alike_0 : List UInt8 := [42, 27, 182, 0, 162, 154, 0, 6, 16, 254, 172, 42, 182, 0, 237, 154, 0, 6, 16, 253, 172, 3, 61, 3]
abbrev dktX0_alike_0 : List UInt8 := dkwX0_alike_0 ++ dktX0_alike_1
theorem dksX0_alike_0 : cX0_alike.data.toList.drop 0 = dktX0_alike_0 := by decide +kernel
theorem dksX0_alike_1 : cX0_alike.data.toList.drop 24 = dktX0_alike_1 := dk_seg dksX0_alike_0 24 rfl rfl
theorem dksX0_alike_2 : cX0_alike.data.toList.drop 44 = dktX0_alike_2 := dk_seg dksX0_alike_1 20 rfl rfl
theorem dksX0_alike_3 : cX0_alike.data.toList.drop 66 = dktX0_alike_3 := dk_seg dksX0_alike_2 22 rfl rfl
theorem dX0_alike_0 : decode cX0_alike 0 = .ok (.aload_n 0, 1) := dk_42 (dk_at dksX0_alike_0 0 rfl rfl)
theorem dX0_alike_1 : decode cX0_alike 1 = .ok (.iload_n 1, 1) := dk_27 (dk_at dksX0_alike_0 1 rfl rfl)
theorem dX0_alike_2 : decode cX0_alike 2 = .ok (.invokevirtual 162, 3) := dk_182 0 162 (dk_at dksX0_alike_0 2 rfl rfl)
theorem dX0_alike_5 : decode cX0_alike 5 = .ok (.ifCond .ne 6, 3) := dk_154 0 6 (dk_at dksX0_alike_0 5 rfl rfl)
theorem dX0_alike_8 : decode cX0_alike 8 = .ok (.bipush (-2), 2) := dk_16 254 (dk_at dksX0_alike_0 8 rfl rfl)
theorem dX0_alike_10 : decode cX0_alike 10 = .ok (.ireturn, 1) := dk_172 (dk_at dksX0_alike_0 10 rfl rfl)
theorem dX0_alike_11 : decode cX0_alike 11 = .ok (.aload_n 0, 1) := dk_42 (dk_at dksX0_alike_0 11 rfl rfl)
theorem dX0_alike_12 : decode cX0_alike 12 = .ok (.invokevirtual 237, 3) := dk_182 0 237 (dk_at dksX0_alike_0 12 rfl rfl)
theorem dX0_alike_15 : decode cX0_alike 15 = .ok (.ifCond .ne 6, 3) := dk_154 0 6 (dk_at dksX0_alike_0 15 rfl rfl)
theorem dX0_alike_18 : decode cX0_alike 18 = .ok (.bipush (-3), 2) := dk_16 253 (dk_at dksX0_alike_0 18 rfl rfl)
theorem dX0_alike_20 : decode cX0_alike 20 = .ok (.ireturn, 1) := dk_172 (dk_at dksX0_alike_0 20 rfl rfl)
theorem dX0_alike_21 : decode cX0_alike 21 = .ok (.iconst 0, 1) := dk_3 (dk_at dksX0_alike_0 21 rfl rfl)
theorem dX0_alike_22 : decode cX0_alike 22 = .ok (.istore_n 2, 1) := dk_61 (dk_at dksX0_alike_0 22 rfl rfl)
theorem dX0_alike_23 : decode cX0_alike 23 = .ok (.iconst 0, 1) := dk_3 (dk_at dksX0_alike_0 23 rfl rfl)
theorem dX0_alike_24 : decode cX0_alike 24 = .ok (.istore_n 3, 1) := dk_62 (dk_at dksX0_alike_1 0 rfl rfl)
theorem dX0_alike_25 : decode cX0_alike 25 = .ok (.iload_n 3, 1) := dk_29 (dk_at dksX0_alike_1 1 rfl rfl)
theorem dX0_alike_26 : decode cX0_alike 26 = .ok (.aload_n 0, 1) := dk_42 (dk_at dksX0_alike_1 2 rfl rfl)
theorem dX0_alike_27 : decode cX0_alike 27 = .ok (.getfield 220, 3) := dk_180 0 220 (dk_at dksX0_alike_1 3 rfl rfl)
theorem dX0_alike_30 : decode cX0_alike 30 = .ok (.if_icmp .ge 42, 3) := dk_162 0 42 (dk_at dksX0_alike_1 6 rfl rfl)
theorem dX0_alike_33 : decode cX0_alike 33 = .ok (.iload_n 2, 1) := dk_28 (dk_at dksX0_alike_1 9 rfl rfl)
theorem dX0_alike_34 : decode cX0_alike 34 = .ok (.aload_n 0, 1) := dk_42 (dk_at dksX0_alike_1 10 rfl rfl)
theorem dX0_alike_35 : decode cX0_alike 35 = .ok (.aload_n 0, 1) := dk_42 (dk_at dksX0_alike_1 11 rfl rfl)
theorem dX0_alike_36 : decode cX0_alike 36 = .ok (.invokevirtual 276, 3) := dk_182 1 20 (dk_at dksX0_alike_1 12 rfl rfl)
theorem dX0_alike_39 : decode cX0_alike 39 = .ok (.aload_n 0, 1) := dk_42 (dk_at dksX0_alike_1 15 rfl rfl)
theorem dX0_alike_40 : decode cX0_alike 40 = .ok (.getfield 61, 3) := dk_180 0 61 (dk_at dksX0_alike_1 16 rfl rfl)
theorem dX0_alike_43 : decode cX0_alike 43 = .ok (.iload_n 3, 1) := dk_29 (dk_at dksX0_alike_1 19 rfl rfl)
theorem dX0_alike_44 : decode cX0_alike 44 = .ok (.invokeinterface 104 2, 5) := by decide +kernel
theorem dX0_alike_49 : decode cX0_alike 49 = .ok (.checkcast 223, 3) := dk_192 0 223 (dk_at dksX0_alike_2 5 rfl rfl)
theorem dX0_alike_52 : decode cX0_alike 52 = .ok (.iload_n 1, 1) := dk_27 (dk_at dksX0_alike_2 8 rfl rfl)
theorem dX0_alike_53 : decode cX0_alike 53 = .ok (.invokevirtual 280, 3) := dk_182 1 24 (dk_at dksX0_alike_2 9 rfl rfl)
theorem dX0_alike_56 : decode cX0_alike 56 = .ok (.ifCond .eq 7, 3) := dk_153 0 7 (dk_at dksX0_alike_2 12 rfl rfl)
theorem dX0_alike_59 : decode cX0_alike 59 = .ok (.iconst 1, 1) := dk_4 (dk_at dksX0_alike_2 15 rfl rfl)
theorem dX0_alike_60 : decode cX0_alike 60 = .ok (.goto 4, 3) := dk_167 0 4 (dk_at dksX0_alike_2 16 rfl rfl)
theorem dX0_alike_63 : decode cX0_alike 63 = .ok (.iconst 0, 1) := dk_3 (dk_at dksX0_alike_2 19 rfl rfl)
theorem dX0_alike_64 : decode cX0_alike 64 = .ok (.iadd, 1) := dk_96 (dk_at dksX0_alike_2 20 rfl rfl)
theorem dX0_alike_65 : decode cX0_alike 65 = .ok (.istore_n 2, 1) := dk_61 (dk_at dksX0_alike_2 21 rfl rfl)
theorem dX0_alike_66 : decode cX0_alike 66 = .ok (.iinc 3 1, 3) := dk_132 3 1 (dk_at dksX0_alike_3 0 rfl rfl)
theorem dX0_alike_69 : decode cX0_alike 69 = .ok (.goto (-44), 3) := dk_167 255 212 (dk_at dksX0_alike_3 3 rfl rfl)
theorem dX0_alike_72 : decode cX0_alike 72 = .ok (.iload_n 2, 1) := dk_28 (dk_at dksX0_alike_3 6 rfl rfl)
theorem dX0_alike_73 : decode cX0_alike 73 = .ok (.ireturn, 1) := dk_172 (dk_at dksX0_alike_3 7 rfl rfl)
abbrev cX0_both : ByteArray := prog_1_method_49_code
def yX0_both : MethodName := ⟨RX0, "both", "(IIII)I"⟩
def dkwX0_both_7 : List UInt8 := [167, 255, 165, 21, 5, 172]
abbrev dktX0_both_7 : List UInt8 := dkwX0_both_7 ++ []
def dkwX0_both_6 : List UInt8 := [185, 0, 104, 2, 0, 192, 0, 223, 29, 21, 4, 182, 0, 243, 21, 5, 159, 0, 5, 2, 172, 132, 6, 1]
abbrev dktX0_both_6 : List UInt8 := dkwX0_both_6 ++ dktX0_both_7
def dkwX0_both_5 : List UInt8 := [185, 0, 104, 2, 0, 192, 0, 223, 28, 182, 1, 24, 153, 0, 30, 42, 180, 0, 61, 21, 6]
abbrev dktX0_both_5 : List UInt8 := dkwX0_both_5 ++ dktX0_both_6
def dkwX0_both_4 : List UInt8 := [192, 0, 223, 27, 182, 1, 24, 153, 0, 56, 42, 42, 182, 1, 20, 42, 180, 0, 61, 21, 6]
abbrev dktX0_both_4 : List UInt8 := dkwX0_both_4 ++ dktX0_both_5
def dkwX0_both_3 : List UInt8 := [180, 0, 220, 162, 0, 88, 42, 42, 182, 1, 20, 42, 180, 0, 61, 21, 6, 185, 0, 104, 2, 0]
abbrev dktX0_both_3 : List UInt8 := dkwX0_both_3 ++ dktX0_both_4
def dkwX0_both_2 : List UInt8 := [154, 0, 6, 16, 253, 172, 42, 182, 1, 20, 29, 21, 4, 182, 0, 243, 54, 5, 3, 54, 6, 21, 6, 42]
abbrev dktX0_both_2 : List UInt8 := dkwX0_both_2 ++ dktX0_both_3
def dkwX0_both_1 : List UInt8 := [182, 0, 146, 153, 0, 13, 42, 21, 4, 133, 182, 0, 150, 154, 0, 6, 16, 254, 172, 42, 182, 0, 237]
abbrev dktX0_both_1 : List UInt8 := dkwX0_both_1 ++ dktX0_both_2
def dkwX0_both_0 : List UInt8 := [42, 27, 182, 0, 162, 153, 0, 35, 42, 28, 182, 0, 162, 153, 0, 27, 27, 28, 159, 0, 22, 42, 29, 133]
abbrev dktX0_both_0 : List UInt8 := dkwX0_both_0 ++ dktX0_both_1
theorem dksX0_both_0 : cX0_both.data.toList.drop 0 = dktX0_both_0 := by decide +kernel
theorem dksX0_both_1 : cX0_both.data.toList.drop 24 = dktX0_both_1 := dk_seg dksX0_both_0 24 rfl rfl
theorem dksX0_both_2 : cX0_both.data.toList.drop 47 = dktX0_both_2 := dk_seg dksX0_both_1 23 rfl rfl
theorem dksX0_both_3 : cX0_both.data.toList.drop 71 = dktX0_both_3 := dk_seg dksX0_both_2 24 rfl rfl
theorem dksX0_both_4 : cX0_both.data.toList.drop 93 = dktX0_both_4 := dk_seg dksX0_both_3 22 rfl rfl
theorem dksX0_both_5 : cX0_both.data.toList.drop 114 = dktX0_both_5 := dk_seg dksX0_both_4 21 rfl rfl
theorem dksX0_both_6 : cX0_both.data.toList.drop 135 = dktX0_both_6 := dk_seg dksX0_both_5 21 rfl rfl
theorem dksX0_both_7 : cX0_both.data.toList.drop 159 = dktX0_both_7 := dk_seg dksX0_both_6 24 rfl rfl
theorem dX0_both_0 : decode cX0_both 0 = .ok (.aload_n 0, 1) := dk_42 (dk_at dksX0_both_0 0 rfl rfl)
theorem dX0_both_1 : decode cX0_both 1 = .ok (.iload_n 1, 1) := dk_27 (dk_at dksX0_both_0 1 rfl rfl)
theorem dX0_both_2 : decode cX0_both 2 = .ok (.invokevirtual 162, 3) := dk_182 0 162 (dk_at dksX0_both_0 2 rfl rfl)
theorem dX0_both_5 : decode cX0_both 5 = .ok (.ifCond .eq 35, 3) := dk_153 0 35 (dk_at dksX0_both_0 5 rfl rfl)
theorem dX0_both_8 : decode cX0_both 8 = .ok (.aload_n 0, 1) := dk_42 (dk_at dksX0_both_0 8 rfl rfl)
theorem dX0_both_9 : decode cX0_both 9 = .ok (.iload_n 2, 1) := dk_28 (dk_at dksX0_both_0 9 rfl rfl)
theorem dX0_both_10 : decode cX0_both 10 = .ok (.invokevirtual 162, 3) := dk_182 0 162 (dk_at dksX0_both_0 10 rfl rfl)
theorem dX0_both_13 : decode cX0_both 13 = .ok (.ifCond .eq 27, 3) := dk_153 0 27 (dk_at dksX0_both_0 13 rfl rfl)
theorem dX0_both_16 : decode cX0_both 16 = .ok (.iload_n 1, 1) := dk_27 (dk_at dksX0_both_0 16 rfl rfl)
theorem dX0_both_17 : decode cX0_both 17 = .ok (.iload_n 2, 1) := dk_28 (dk_at dksX0_both_0 17 rfl rfl)
theorem dX0_both_18 : decode cX0_both 18 = .ok (.if_icmp .eq 22, 3) := dk_159 0 22 (dk_at dksX0_both_0 18 rfl rfl)
theorem dX0_both_21 : decode cX0_both 21 = .ok (.aload_n 0, 1) := dk_42 (dk_at dksX0_both_0 21 rfl rfl)
theorem dX0_both_22 : decode cX0_both 22 = .ok (.iload_n 3, 1) := dk_29 (dk_at dksX0_both_0 22 rfl rfl)
theorem dX0_both_23 : decode cX0_both 23 = .ok (.i2l, 1) := dk_133 (dk_at dksX0_both_0 23 rfl rfl)
theorem dX0_both_24 : decode cX0_both 24 = .ok (.invokevirtual 146, 3) := dk_182 0 146 (dk_at dksX0_both_1 0 rfl rfl)
theorem dX0_both_27 : decode cX0_both 27 = .ok (.ifCond .eq 13, 3) := dk_153 0 13 (dk_at dksX0_both_1 3 rfl rfl)
theorem dX0_both_30 : decode cX0_both 30 = .ok (.aload_n 0, 1) := dk_42 (dk_at dksX0_both_1 6 rfl rfl)
theorem dX0_both_31 : decode cX0_both 31 = .ok (.iload 4, 2) := dk_21 4 (dk_at dksX0_both_1 7 rfl rfl)
theorem dX0_both_33 : decode cX0_both 33 = .ok (.i2l, 1) := dk_133 (dk_at dksX0_both_1 9 rfl rfl)
theorem dX0_both_34 : decode cX0_both 34 = .ok (.invokevirtual 150, 3) := dk_182 0 150 (dk_at dksX0_both_1 10 rfl rfl)
theorem dX0_both_37 : decode cX0_both 37 = .ok (.ifCond .ne 6, 3) := dk_154 0 6 (dk_at dksX0_both_1 13 rfl rfl)
theorem dX0_both_40 : decode cX0_both 40 = .ok (.bipush (-2), 2) := dk_16 254 (dk_at dksX0_both_1 16 rfl rfl)
theorem dX0_both_42 : decode cX0_both 42 = .ok (.ireturn, 1) := dk_172 (dk_at dksX0_both_1 18 rfl rfl)
theorem dX0_both_43 : decode cX0_both 43 = .ok (.aload_n 0, 1) := dk_42 (dk_at dksX0_both_1 19 rfl rfl)
theorem dX0_both_44 : decode cX0_both 44 = .ok (.invokevirtual 237, 3) := dk_182 0 237 (dk_at dksX0_both_1 20 rfl rfl)
theorem dX0_both_47 : decode cX0_both 47 = .ok (.ifCond .ne 6, 3) := dk_154 0 6 (dk_at dksX0_both_2 0 rfl rfl)
theorem dX0_both_50 : decode cX0_both 50 = .ok (.bipush (-3), 2) := dk_16 253 (dk_at dksX0_both_2 3 rfl rfl)
theorem dX0_both_52 : decode cX0_both 52 = .ok (.ireturn, 1) := dk_172 (dk_at dksX0_both_2 5 rfl rfl)
theorem dX0_both_53 : decode cX0_both 53 = .ok (.aload_n 0, 1) := dk_42 (dk_at dksX0_both_2 6 rfl rfl)
theorem dX0_both_54 : decode cX0_both 54 = .ok (.invokevirtual 276, 3) := dk_182 1 20 (dk_at dksX0_both_2 7 rfl rfl)
theorem dX0_both_57 : decode cX0_both 57 = .ok (.iload_n 3, 1) := dk_29 (dk_at dksX0_both_2 10 rfl rfl)
theorem dX0_both_58 : decode cX0_both 58 = .ok (.iload 4, 2) := dk_21 4 (dk_at dksX0_both_2 11 rfl rfl)
theorem dX0_both_60 : decode cX0_both 60 = .ok (.invokevirtual 243, 3) := dk_182 0 243 (dk_at dksX0_both_2 13 rfl rfl)
theorem dX0_both_63 : decode cX0_both 63 = .ok (.istore 5, 2) := dk_54 5 (dk_at dksX0_both_2 16 rfl rfl)
theorem dX0_both_65 : decode cX0_both 65 = .ok (.iconst 0, 1) := dk_3 (dk_at dksX0_both_2 18 rfl rfl)
theorem dX0_both_66 : decode cX0_both 66 = .ok (.istore 6, 2) := dk_54 6 (dk_at dksX0_both_2 19 rfl rfl)
theorem dX0_both_68 : decode cX0_both 68 = .ok (.iload 6, 2) := dk_21 6 (dk_at dksX0_both_2 21 rfl rfl)
theorem dX0_both_70 : decode cX0_both 70 = .ok (.aload_n 0, 1) := dk_42 (dk_at dksX0_both_2 23 rfl rfl)
theorem dX0_both_71 : decode cX0_both 71 = .ok (.getfield 220, 3) := dk_180 0 220 (dk_at dksX0_both_3 0 rfl rfl)
theorem dX0_both_74 : decode cX0_both 74 = .ok (.if_icmp .ge 88, 3) := dk_162 0 88 (dk_at dksX0_both_3 3 rfl rfl)
theorem dX0_both_77 : decode cX0_both 77 = .ok (.aload_n 0, 1) := dk_42 (dk_at dksX0_both_3 6 rfl rfl)
theorem dX0_both_78 : decode cX0_both 78 = .ok (.aload_n 0, 1) := dk_42 (dk_at dksX0_both_3 7 rfl rfl)
theorem dX0_both_79 : decode cX0_both 79 = .ok (.invokevirtual 276, 3) := dk_182 1 20 (dk_at dksX0_both_3 8 rfl rfl)
theorem dX0_both_82 : decode cX0_both 82 = .ok (.aload_n 0, 1) := dk_42 (dk_at dksX0_both_3 11 rfl rfl)
theorem dX0_both_83 : decode cX0_both 83 = .ok (.getfield 61, 3) := dk_180 0 61 (dk_at dksX0_both_3 12 rfl rfl)
theorem dX0_both_86 : decode cX0_both 86 = .ok (.iload 6, 2) := dk_21 6 (dk_at dksX0_both_3 15 rfl rfl)
theorem dX0_both_88 : decode cX0_both 88 = .ok (.invokeinterface 104 2, 5) := by decide +kernel
theorem dX0_both_93 : decode cX0_both 93 = .ok (.checkcast 223, 3) := dk_192 0 223 (dk_at dksX0_both_4 0 rfl rfl)
theorem dX0_both_96 : decode cX0_both 96 = .ok (.iload_n 1, 1) := dk_27 (dk_at dksX0_both_4 3 rfl rfl)
theorem dX0_both_97 : decode cX0_both 97 = .ok (.invokevirtual 280, 3) := dk_182 1 24 (dk_at dksX0_both_4 4 rfl rfl)
theorem dX0_both_100 : decode cX0_both 100 = .ok (.ifCond .eq 56, 3) := dk_153 0 56 (dk_at dksX0_both_4 7 rfl rfl)
theorem dX0_both_103 : decode cX0_both 103 = .ok (.aload_n 0, 1) := dk_42 (dk_at dksX0_both_4 10 rfl rfl)
theorem dX0_both_104 : decode cX0_both 104 = .ok (.aload_n 0, 1) := dk_42 (dk_at dksX0_both_4 11 rfl rfl)
theorem dX0_both_105 : decode cX0_both 105 = .ok (.invokevirtual 276, 3) := dk_182 1 20 (dk_at dksX0_both_4 12 rfl rfl)
theorem dX0_both_108 : decode cX0_both 108 = .ok (.aload_n 0, 1) := dk_42 (dk_at dksX0_both_4 15 rfl rfl)
theorem dX0_both_109 : decode cX0_both 109 = .ok (.getfield 61, 3) := dk_180 0 61 (dk_at dksX0_both_4 16 rfl rfl)
theorem dX0_both_112 : decode cX0_both 112 = .ok (.iload 6, 2) := dk_21 6 (dk_at dksX0_both_4 19 rfl rfl)
theorem dX0_both_114 : decode cX0_both 114 = .ok (.invokeinterface 104 2, 5) := by decide +kernel
theorem dX0_both_119 : decode cX0_both 119 = .ok (.checkcast 223, 3) := dk_192 0 223 (dk_at dksX0_both_5 5 rfl rfl)
theorem dX0_both_122 : decode cX0_both 122 = .ok (.iload_n 2, 1) := dk_28 (dk_at dksX0_both_5 8 rfl rfl)
theorem dX0_both_123 : decode cX0_both 123 = .ok (.invokevirtual 280, 3) := dk_182 1 24 (dk_at dksX0_both_5 9 rfl rfl)
theorem dX0_both_126 : decode cX0_both 126 = .ok (.ifCond .eq 30, 3) := dk_153 0 30 (dk_at dksX0_both_5 12 rfl rfl)
theorem dX0_both_129 : decode cX0_both 129 = .ok (.aload_n 0, 1) := dk_42 (dk_at dksX0_both_5 15 rfl rfl)
theorem dX0_both_130 : decode cX0_both 130 = .ok (.getfield 61, 3) := dk_180 0 61 (dk_at dksX0_both_5 16 rfl rfl)
theorem dX0_both_133 : decode cX0_both 133 = .ok (.iload 6, 2) := dk_21 6 (dk_at dksX0_both_5 19 rfl rfl)
theorem dX0_both_135 : decode cX0_both 135 = .ok (.invokeinterface 104 2, 5) := by decide +kernel
theorem dX0_both_140 : decode cX0_both 140 = .ok (.checkcast 223, 3) := dk_192 0 223 (dk_at dksX0_both_6 5 rfl rfl)
theorem dX0_both_143 : decode cX0_both 143 = .ok (.iload_n 3, 1) := dk_29 (dk_at dksX0_both_6 8 rfl rfl)
theorem dX0_both_144 : decode cX0_both 144 = .ok (.iload 4, 2) := dk_21 4 (dk_at dksX0_both_6 9 rfl rfl)
theorem dX0_both_146 : decode cX0_both 146 = .ok (.invokevirtual 243, 3) := dk_182 0 243 (dk_at dksX0_both_6 11 rfl rfl)
theorem dX0_both_149 : decode cX0_both 149 = .ok (.iload 5, 2) := dk_21 5 (dk_at dksX0_both_6 14 rfl rfl)
theorem dX0_both_151 : decode cX0_both 151 = .ok (.if_icmp .eq 5, 3) := dk_159 0 5 (dk_at dksX0_both_6 16 rfl rfl)
theorem dX0_both_154 : decode cX0_both 154 = .ok (.iconst (-1), 1) := dk_2 (dk_at dksX0_both_6 19 rfl rfl)
theorem dX0_both_155 : decode cX0_both 155 = .ok (.ireturn, 1) := dk_172 (dk_at dksX0_both_6 20 rfl rfl)
theorem dX0_both_156 : decode cX0_both 156 = .ok (.iinc 6 1, 3) := dk_132 6 1 (dk_at dksX0_both_6 21 rfl rfl)
theorem dX0_both_159 : decode cX0_both 159 = .ok (.goto (-91), 3) := dk_167 255 165 (dk_at dksX0_both_7 0 rfl rfl)
theorem dX0_both_162 : decode cX0_both 162 = .ok (.iload 5, 2) := dk_21 5 (dk_at dksX0_both_7 3 rfl rfl)
theorem dX0_both_164 : decode cX0_both 164 = .ok (.ireturn, 1) := dk_172 (dk_at dksX0_both_7 5 rfl rfl)
abbrev cX0_learns : ByteArray := prog_1_method_51_code
def yX0_learns : MethodName := ⟨RX0, "learns", "(III)I"⟩
def dkwX0_learns_3 : List UInt8 := [132, 4, 1, 167, 255, 226, 2, 172]
abbrev dktX0_learns_3 : List UInt8 := dkwX0_learns_3 ++ []
def dkwX0_learns_2 : List UInt8 := [180, 0, 41, 180, 0, 137, 163, 0, 24, 42, 27, 21, 4, 28, 29, 182, 1, 40, 153, 0, 6, 21, 4, 172]
abbrev dktX0_learns_2 : List UInt8 := dkwX0_learns_2 ++ dktX0_learns_3
def dkwX0_learns_1 : List UInt8 := [154, 0, 6, 16, 254, 172, 42, 182, 0, 237, 154, 0, 6, 16, 253, 172, 3, 54, 4, 21, 4, 42]
abbrev dktX0_learns_1 : List UInt8 := dkwX0_learns_1 ++ dktX0_learns_2
def dkwX0_learns_0 : List UInt8 := [42, 27, 182, 0, 162, 153, 0, 21, 42, 28, 133, 182, 0, 146, 153, 0, 12, 42, 29, 133, 182, 0, 150]
abbrev dktX0_learns_0 : List UInt8 := dkwX0_learns_0 ++ dktX0_learns_1
theorem dksX0_learns_0 : cX0_learns.data.toList.drop 0 = dktX0_learns_0 := by decide +kernel
theorem dksX0_learns_1 : cX0_learns.data.toList.drop 23 = dktX0_learns_1 := dk_seg dksX0_learns_0 23 rfl rfl
theorem dksX0_learns_2 : cX0_learns.data.toList.drop 45 = dktX0_learns_2 := dk_seg dksX0_learns_1 22 rfl rfl
theorem dksX0_learns_3 : cX0_learns.data.toList.drop 69 = dktX0_learns_3 := dk_seg dksX0_learns_2 24 rfl rfl
theorem dX0_learns_0 : decode cX0_learns 0 = .ok (.aload_n 0, 1) := dk_42 (dk_at dksX0_learns_0 0 rfl rfl)
theorem dX0_learns_1 : decode cX0_learns 1 = .ok (.iload_n 1, 1) := dk_27 (dk_at dksX0_learns_0 1 rfl rfl)
theorem dX0_learns_2 : decode cX0_learns 2 = .ok (.invokevirtual 162, 3) := dk_182 0 162 (dk_at dksX0_learns_0 2 rfl rfl)
theorem dX0_learns_5 : decode cX0_learns 5 = .ok (.ifCond .eq 21, 3) := dk_153 0 21 (dk_at dksX0_learns_0 5 rfl rfl)
theorem dX0_learns_8 : decode cX0_learns 8 = .ok (.aload_n 0, 1) := dk_42 (dk_at dksX0_learns_0 8 rfl rfl)
theorem dX0_learns_9 : decode cX0_learns 9 = .ok (.iload_n 2, 1) := dk_28 (dk_at dksX0_learns_0 9 rfl rfl)
theorem dX0_learns_10 : decode cX0_learns 10 = .ok (.i2l, 1) := dk_133 (dk_at dksX0_learns_0 10 rfl rfl)
theorem dX0_learns_11 : decode cX0_learns 11 = .ok (.invokevirtual 146, 3) := dk_182 0 146 (dk_at dksX0_learns_0 11 rfl rfl)
theorem dX0_learns_14 : decode cX0_learns 14 = .ok (.ifCond .eq 12, 3) := dk_153 0 12 (dk_at dksX0_learns_0 14 rfl rfl)
theorem dX0_learns_17 : decode cX0_learns 17 = .ok (.aload_n 0, 1) := dk_42 (dk_at dksX0_learns_0 17 rfl rfl)
theorem dX0_learns_18 : decode cX0_learns 18 = .ok (.iload_n 3, 1) := dk_29 (dk_at dksX0_learns_0 18 rfl rfl)
theorem dX0_learns_19 : decode cX0_learns 19 = .ok (.i2l, 1) := dk_133 (dk_at dksX0_learns_0 19 rfl rfl)
theorem dX0_learns_20 : decode cX0_learns 20 = .ok (.invokevirtual 150, 3) := dk_182 0 150 (dk_at dksX0_learns_0 20 rfl rfl)
theorem dX0_learns_23 : decode cX0_learns 23 = .ok (.ifCond .ne 6, 3) := dk_154 0 6 (dk_at dksX0_learns_1 0 rfl rfl)
theorem dX0_learns_26 : decode cX0_learns 26 = .ok (.bipush (-2), 2) := dk_16 254 (dk_at dksX0_learns_1 3 rfl rfl)
theorem dX0_learns_28 : decode cX0_learns 28 = .ok (.ireturn, 1) := dk_172 (dk_at dksX0_learns_1 5 rfl rfl)
theorem dX0_learns_29 : decode cX0_learns 29 = .ok (.aload_n 0, 1) := dk_42 (dk_at dksX0_learns_1 6 rfl rfl)
theorem dX0_learns_30 : decode cX0_learns 30 = .ok (.invokevirtual 237, 3) := dk_182 0 237 (dk_at dksX0_learns_1 7 rfl rfl)
theorem dX0_learns_33 : decode cX0_learns 33 = .ok (.ifCond .ne 6, 3) := dk_154 0 6 (dk_at dksX0_learns_1 10 rfl rfl)
theorem dX0_learns_36 : decode cX0_learns 36 = .ok (.bipush (-3), 2) := dk_16 253 (dk_at dksX0_learns_1 13 rfl rfl)
theorem dX0_learns_38 : decode cX0_learns 38 = .ok (.ireturn, 1) := dk_172 (dk_at dksX0_learns_1 15 rfl rfl)
theorem dX0_learns_39 : decode cX0_learns 39 = .ok (.iconst 0, 1) := dk_3 (dk_at dksX0_learns_1 16 rfl rfl)
theorem dX0_learns_40 : decode cX0_learns 40 = .ok (.istore 4, 2) := dk_54 4 (dk_at dksX0_learns_1 17 rfl rfl)
theorem dX0_learns_42 : decode cX0_learns 42 = .ok (.iload 4, 2) := dk_21 4 (dk_at dksX0_learns_1 19 rfl rfl)
theorem dX0_learns_44 : decode cX0_learns 44 = .ok (.aload_n 0, 1) := dk_42 (dk_at dksX0_learns_1 21 rfl rfl)
theorem dX0_learns_45 : decode cX0_learns 45 = .ok (.getfield 41, 3) := dk_180 0 41 (dk_at dksX0_learns_2 0 rfl rfl)
theorem dX0_learns_48 : decode cX0_learns 48 = .ok (.getfield 137, 3) := dk_180 0 137 (dk_at dksX0_learns_2 3 rfl rfl)
theorem dX0_learns_51 : decode cX0_learns 51 = .ok (.if_icmp .gt 24, 3) := dk_163 0 24 (dk_at dksX0_learns_2 6 rfl rfl)
theorem dX0_learns_54 : decode cX0_learns 54 = .ok (.aload_n 0, 1) := dk_42 (dk_at dksX0_learns_2 9 rfl rfl)
theorem dX0_learns_55 : decode cX0_learns 55 = .ok (.iload_n 1, 1) := dk_27 (dk_at dksX0_learns_2 10 rfl rfl)
theorem dX0_learns_56 : decode cX0_learns 56 = .ok (.iload 4, 2) := dk_21 4 (dk_at dksX0_learns_2 11 rfl rfl)
theorem dX0_learns_58 : decode cX0_learns 58 = .ok (.iload_n 2, 1) := dk_28 (dk_at dksX0_learns_2 13 rfl rfl)
theorem dX0_learns_59 : decode cX0_learns 59 = .ok (.iload_n 3, 1) := dk_29 (dk_at dksX0_learns_2 14 rfl rfl)
theorem dX0_learns_60 : decode cX0_learns 60 = .ok (.invokevirtual 296, 3) := dk_182 1 40 (dk_at dksX0_learns_2 15 rfl rfl)
theorem dX0_learns_63 : decode cX0_learns 63 = .ok (.ifCond .eq 6, 3) := dk_153 0 6 (dk_at dksX0_learns_2 18 rfl rfl)
theorem dX0_learns_66 : decode cX0_learns 66 = .ok (.iload 4, 2) := dk_21 4 (dk_at dksX0_learns_2 21 rfl rfl)
theorem dX0_learns_68 : decode cX0_learns 68 = .ok (.ireturn, 1) := dk_172 (dk_at dksX0_learns_2 23 rfl rfl)
theorem dX0_learns_69 : decode cX0_learns 69 = .ok (.iinc 4 1, 3) := dk_132 4 1 (dk_at dksX0_learns_3 0 rfl rfl)
theorem dX0_learns_72 : decode cX0_learns 72 = .ok (.goto (-30), 3) := dk_167 255 226 (dk_at dksX0_learns_3 3 rfl rfl)
theorem dX0_learns_75 : decode cX0_learns 75 = .ok (.iconst (-1), 1) := dk_2 (dk_at dksX0_learns_3 6 rfl rfl)
theorem dX0_learns_76 : decode cX0_learns 76 = .ok (.ireturn, 1) := dk_172 (dk_at dksX0_learns_3 7 rfl rfl)
abbrev cX0_isLearnt : ByteArray := prog_1_method_50_code
def yX0_isLearnt : MethodName := ⟨RX0, "isLearnt", "(IIII)Z"⟩
def dkwX0_isLearnt_3 : List UInt8 := [159, 0, 5, 3, 172, 132, 5, 1, 167, 255, 183, 4, 172]
abbrev dktX0_isLearnt_3 : List UInt8 := dkwX0_isLearnt_3 ++ []
def dkwX0_isLearnt_2 : List UInt8 := [185, 0, 104, 2, 0, 192, 0, 223, 29, 21, 4, 182, 0, 243, 42, 182, 1, 20, 29, 21, 4, 182, 0, 243]
abbrev dktX0_isLearnt_2 : List UInt8 := dkwX0_isLearnt_2 ++ dktX0_isLearnt_3
def dkwX0_isLearnt_1 : List UInt8 := [185, 0, 104, 2, 0, 192, 0, 223, 27, 28, 182, 1, 16, 153, 0, 38, 42, 180, 0, 61, 21, 5]
abbrev dktX0_isLearnt_1 : List UInt8 := dkwX0_isLearnt_1 ++ dktX0_isLearnt_2
def dkwX0_isLearnt_0 : List UInt8 := [3, 54, 5, 21, 5, 42, 180, 0, 220, 162, 0, 70, 42, 182, 1, 20, 42, 180, 0, 61, 21, 5]
abbrev dktX0_isLearnt_0 : List UInt8 := dkwX0_isLearnt_0 ++ dktX0_isLearnt_1
theorem dksX0_isLearnt_0 : cX0_isLearnt.data.toList.drop 0 = dktX0_isLearnt_0 := by decide +kernel
theorem dksX0_isLearnt_1 : cX0_isLearnt.data.toList.drop 22 = dktX0_isLearnt_1 := dk_seg dksX0_isLearnt_0 22 rfl rfl
theorem dksX0_isLearnt_2 : cX0_isLearnt.data.toList.drop 44 = dktX0_isLearnt_2 := dk_seg dksX0_isLearnt_1 22 rfl rfl
theorem dksX0_isLearnt_3 : cX0_isLearnt.data.toList.drop 68 = dktX0_isLearnt_3 := dk_seg dksX0_isLearnt_2 24 rfl rfl
theorem dX0_isLearnt_0 : decode cX0_isLearnt 0 = .ok (.iconst 0, 1) := dk_3 (dk_at dksX0_isLearnt_0 0 rfl rfl)
theorem dX0_isLearnt_1 : decode cX0_isLearnt 1 = .ok (.istore 5, 2) := dk_54 5 (dk_at dksX0_isLearnt_0 1 rfl rfl)
theorem dX0_isLearnt_3 : decode cX0_isLearnt 3 = .ok (.iload 5, 2) := dk_21 5 (dk_at dksX0_isLearnt_0 3 rfl rfl)
theorem dX0_isLearnt_5 : decode cX0_isLearnt 5 = .ok (.aload_n 0, 1) := dk_42 (dk_at dksX0_isLearnt_0 5 rfl rfl)
theorem dX0_isLearnt_6 : decode cX0_isLearnt 6 = .ok (.getfield 220, 3) := dk_180 0 220 (dk_at dksX0_isLearnt_0 6 rfl rfl)
theorem dX0_isLearnt_9 : decode cX0_isLearnt 9 = .ok (.if_icmp .ge 70, 3) := dk_162 0 70 (dk_at dksX0_isLearnt_0 9 rfl rfl)
theorem dX0_isLearnt_12 : decode cX0_isLearnt 12 = .ok (.aload_n 0, 1) := dk_42 (dk_at dksX0_isLearnt_0 12 rfl rfl)
theorem dX0_isLearnt_13 : decode cX0_isLearnt 13 = .ok (.invokevirtual 276, 3) := dk_182 1 20 (dk_at dksX0_isLearnt_0 13 rfl rfl)
theorem dX0_isLearnt_16 : decode cX0_isLearnt 16 = .ok (.aload_n 0, 1) := dk_42 (dk_at dksX0_isLearnt_0 16 rfl rfl)
theorem dX0_isLearnt_17 : decode cX0_isLearnt 17 = .ok (.getfield 61, 3) := dk_180 0 61 (dk_at dksX0_isLearnt_0 17 rfl rfl)
theorem dX0_isLearnt_20 : decode cX0_isLearnt 20 = .ok (.iload 5, 2) := dk_21 5 (dk_at dksX0_isLearnt_0 20 rfl rfl)
theorem dX0_isLearnt_22 : decode cX0_isLearnt 22 = .ok (.invokeinterface 104 2, 5) := by decide +kernel
theorem dX0_isLearnt_27 : decode cX0_isLearnt 27 = .ok (.checkcast 223, 3) := dk_192 0 223 (dk_at dksX0_isLearnt_1 5 rfl rfl)
theorem dX0_isLearnt_30 : decode cX0_isLearnt 30 = .ok (.iload_n 1, 1) := dk_27 (dk_at dksX0_isLearnt_1 8 rfl rfl)
theorem dX0_isLearnt_31 : decode cX0_isLearnt 31 = .ok (.iload_n 2, 1) := dk_28 (dk_at dksX0_isLearnt_1 9 rfl rfl)
theorem dX0_isLearnt_32 : decode cX0_isLearnt 32 = .ok (.invokevirtual 272, 3) := dk_182 1 16 (dk_at dksX0_isLearnt_1 10 rfl rfl)
theorem dX0_isLearnt_35 : decode cX0_isLearnt 35 = .ok (.ifCond .eq 38, 3) := dk_153 0 38 (dk_at dksX0_isLearnt_1 13 rfl rfl)
theorem dX0_isLearnt_38 : decode cX0_isLearnt 38 = .ok (.aload_n 0, 1) := dk_42 (dk_at dksX0_isLearnt_1 16 rfl rfl)
theorem dX0_isLearnt_39 : decode cX0_isLearnt 39 = .ok (.getfield 61, 3) := dk_180 0 61 (dk_at dksX0_isLearnt_1 17 rfl rfl)
theorem dX0_isLearnt_42 : decode cX0_isLearnt 42 = .ok (.iload 5, 2) := dk_21 5 (dk_at dksX0_isLearnt_1 20 rfl rfl)
theorem dX0_isLearnt_44 : decode cX0_isLearnt 44 = .ok (.invokeinterface 104 2, 5) := by decide +kernel
theorem dX0_isLearnt_49 : decode cX0_isLearnt 49 = .ok (.checkcast 223, 3) := dk_192 0 223 (dk_at dksX0_isLearnt_2 5 rfl rfl)
theorem dX0_isLearnt_52 : decode cX0_isLearnt 52 = .ok (.iload_n 3, 1) := dk_29 (dk_at dksX0_isLearnt_2 8 rfl rfl)
theorem dX0_isLearnt_53 : decode cX0_isLearnt 53 = .ok (.iload 4, 2) := dk_21 4 (dk_at dksX0_isLearnt_2 9 rfl rfl)
theorem dX0_isLearnt_55 : decode cX0_isLearnt 55 = .ok (.invokevirtual 243, 3) := dk_182 0 243 (dk_at dksX0_isLearnt_2 11 rfl rfl)
theorem dX0_isLearnt_58 : decode cX0_isLearnt 58 = .ok (.aload_n 0, 1) := dk_42 (dk_at dksX0_isLearnt_2 14 rfl rfl)
theorem dX0_isLearnt_59 : decode cX0_isLearnt 59 = .ok (.invokevirtual 276, 3) := dk_182 1 20 (dk_at dksX0_isLearnt_2 15 rfl rfl)
theorem dX0_isLearnt_62 : decode cX0_isLearnt 62 = .ok (.iload_n 3, 1) := dk_29 (dk_at dksX0_isLearnt_2 18 rfl rfl)
theorem dX0_isLearnt_63 : decode cX0_isLearnt 63 = .ok (.iload 4, 2) := dk_21 4 (dk_at dksX0_isLearnt_2 19 rfl rfl)
theorem dX0_isLearnt_65 : decode cX0_isLearnt 65 = .ok (.invokevirtual 243, 3) := dk_182 0 243 (dk_at dksX0_isLearnt_2 21 rfl rfl)
theorem dX0_isLearnt_68 : decode cX0_isLearnt 68 = .ok (.if_icmp .eq 5, 3) := dk_159 0 5 (dk_at dksX0_isLearnt_3 0 rfl rfl)
theorem dX0_isLearnt_71 : decode cX0_isLearnt 71 = .ok (.iconst 0, 1) := dk_3 (dk_at dksX0_isLearnt_3 3 rfl rfl)
theorem dX0_isLearnt_72 : decode cX0_isLearnt 72 = .ok (.ireturn, 1) := dk_172 (dk_at dksX0_isLearnt_3 4 rfl rfl)
theorem dX0_isLearnt_73 : decode cX0_isLearnt 73 = .ok (.iinc 5 1, 3) := dk_132 5 1 (dk_at dksX0_isLearnt_3 5 rfl rfl)
theorem dX0_isLearnt_76 : decode cX0_isLearnt 76 = .ok (.goto (-73), 3) := dk_167 255 183 (dk_at dksX0_isLearnt_3 8 rfl rfl)
theorem dX0_isLearnt_79 : decode cX0_isLearnt 79 = .ok (.iconst 1, 1) := dk_4 (dk_at dksX0_isLearnt_3 11 rfl rfl)
theorem dX0_isLearnt_80 : decode cX0_isLearnt 80 = .ok (.ireturn, 1) := dk_172 (dk_at dksX0_isLearnt_3 12 rfl rfl)
abbrev cX0_sights : ByteArray := prog_1_method_52_code
def yX0_sights : MethodName := ⟨RX0, "sights", "(I)I"⟩
def dkwX0_sights_5 : List UInt8 := [167, 255, 167, 28, 172]
abbrev dktX0_sights_5 : List UInt8 := dkwX0_sights_5 ++ []
def dkwX0_sights_4 : List UInt8 := [132, 5, 1, 167, 255, 200, 28, 21, 4, 153, 0, 7, 4, 167, 0, 4, 3, 96, 61, 132, 3, 1]
abbrev dktX0_sights_4 : List UInt8 := dkwX0_sights_4 ++ dktX0_sights_5
def dkwX0_sights_3 : List UInt8 := [185, 0, 104, 2, 0, 192, 0, 223, 27, 182, 1, 24, 154, 0, 7, 4, 167, 0, 4, 3, 54, 4]
abbrev dktX0_sights_3 : List UInt8 := dkwX0_sights_3 ++ dktX0_sights_4
def dkwX0_sights_2 : List UInt8 := [153, 0, 51, 42, 42, 180, 0, 61, 21, 5, 185, 0, 104, 2, 0, 192, 0, 223, 42, 180, 0, 61, 29]
abbrev dktX0_sights_2 : List UInt8 := dkwX0_sights_2 ++ dktX0_sights_3
def dkwX0_sights_1 : List UInt8 := [62, 29, 42, 180, 0, 220, 162, 0, 87, 4, 54, 4, 3, 54, 5, 21, 5, 29, 162, 0, 56, 21, 4]
abbrev dktX0_sights_1 : List UInt8 := dkwX0_sights_1 ++ dktX0_sights_2
def dkwX0_sights_0 : List UInt8 := [42, 27, 182, 0, 162, 154, 0, 6, 16, 254, 172, 42, 182, 0, 237, 154, 0, 6, 16, 253, 172, 3, 61, 3]
abbrev dktX0_sights_0 : List UInt8 := dkwX0_sights_0 ++ dktX0_sights_1
theorem dksX0_sights_0 : cX0_sights.data.toList.drop 0 = dktX0_sights_0 := by decide +kernel
theorem dksX0_sights_1 : cX0_sights.data.toList.drop 24 = dktX0_sights_1 := dk_seg dksX0_sights_0 24 rfl rfl
theorem dksX0_sights_2 : cX0_sights.data.toList.drop 47 = dktX0_sights_2 := dk_seg dksX0_sights_1 23 rfl rfl
theorem dksX0_sights_3 : cX0_sights.data.toList.drop 70 = dktX0_sights_3 := dk_seg dksX0_sights_2 23 rfl rfl
theorem dksX0_sights_4 : cX0_sights.data.toList.drop 92 = dktX0_sights_4 := dk_seg dksX0_sights_3 22 rfl rfl
theorem dksX0_sights_5 : cX0_sights.data.toList.drop 114 = dktX0_sights_5 := dk_seg dksX0_sights_4 22 rfl rfl
theorem dX0_sights_0 : decode cX0_sights 0 = .ok (.aload_n 0, 1) := dk_42 (dk_at dksX0_sights_0 0 rfl rfl)
theorem dX0_sights_1 : decode cX0_sights 1 = .ok (.iload_n 1, 1) := dk_27 (dk_at dksX0_sights_0 1 rfl rfl)
theorem dX0_sights_2 : decode cX0_sights 2 = .ok (.invokevirtual 162, 3) := dk_182 0 162 (dk_at dksX0_sights_0 2 rfl rfl)
theorem dX0_sights_5 : decode cX0_sights 5 = .ok (.ifCond .ne 6, 3) := dk_154 0 6 (dk_at dksX0_sights_0 5 rfl rfl)
theorem dX0_sights_8 : decode cX0_sights 8 = .ok (.bipush (-2), 2) := dk_16 254 (dk_at dksX0_sights_0 8 rfl rfl)
theorem dX0_sights_10 : decode cX0_sights 10 = .ok (.ireturn, 1) := dk_172 (dk_at dksX0_sights_0 10 rfl rfl)
theorem dX0_sights_11 : decode cX0_sights 11 = .ok (.aload_n 0, 1) := dk_42 (dk_at dksX0_sights_0 11 rfl rfl)
theorem dX0_sights_12 : decode cX0_sights 12 = .ok (.invokevirtual 237, 3) := dk_182 0 237 (dk_at dksX0_sights_0 12 rfl rfl)
theorem dX0_sights_15 : decode cX0_sights 15 = .ok (.ifCond .ne 6, 3) := dk_154 0 6 (dk_at dksX0_sights_0 15 rfl rfl)
theorem dX0_sights_18 : decode cX0_sights 18 = .ok (.bipush (-3), 2) := dk_16 253 (dk_at dksX0_sights_0 18 rfl rfl)
theorem dX0_sights_20 : decode cX0_sights 20 = .ok (.ireturn, 1) := dk_172 (dk_at dksX0_sights_0 20 rfl rfl)
theorem dX0_sights_21 : decode cX0_sights 21 = .ok (.iconst 0, 1) := dk_3 (dk_at dksX0_sights_0 21 rfl rfl)
theorem dX0_sights_22 : decode cX0_sights 22 = .ok (.istore_n 2, 1) := dk_61 (dk_at dksX0_sights_0 22 rfl rfl)
theorem dX0_sights_23 : decode cX0_sights 23 = .ok (.iconst 0, 1) := dk_3 (dk_at dksX0_sights_0 23 rfl rfl)
theorem dX0_sights_24 : decode cX0_sights 24 = .ok (.istore_n 3, 1) := dk_62 (dk_at dksX0_sights_1 0 rfl rfl)
theorem dX0_sights_25 : decode cX0_sights 25 = .ok (.iload_n 3, 1) := dk_29 (dk_at dksX0_sights_1 1 rfl rfl)
theorem dX0_sights_26 : decode cX0_sights 26 = .ok (.aload_n 0, 1) := dk_42 (dk_at dksX0_sights_1 2 rfl rfl)
theorem dX0_sights_27 : decode cX0_sights 27 = .ok (.getfield 220, 3) := dk_180 0 220 (dk_at dksX0_sights_1 3 rfl rfl)
theorem dX0_sights_30 : decode cX0_sights 30 = .ok (.if_icmp .ge 87, 3) := dk_162 0 87 (dk_at dksX0_sights_1 6 rfl rfl)
theorem dX0_sights_33 : decode cX0_sights 33 = .ok (.iconst 1, 1) := dk_4 (dk_at dksX0_sights_1 9 rfl rfl)
theorem dX0_sights_34 : decode cX0_sights 34 = .ok (.istore 4, 2) := dk_54 4 (dk_at dksX0_sights_1 10 rfl rfl)
theorem dX0_sights_36 : decode cX0_sights 36 = .ok (.iconst 0, 1) := dk_3 (dk_at dksX0_sights_1 12 rfl rfl)
theorem dX0_sights_37 : decode cX0_sights 37 = .ok (.istore 5, 2) := dk_54 5 (dk_at dksX0_sights_1 13 rfl rfl)
theorem dX0_sights_39 : decode cX0_sights 39 = .ok (.iload 5, 2) := dk_21 5 (dk_at dksX0_sights_1 15 rfl rfl)
theorem dX0_sights_41 : decode cX0_sights 41 = .ok (.iload_n 3, 1) := dk_29 (dk_at dksX0_sights_1 17 rfl rfl)
theorem dX0_sights_42 : decode cX0_sights 42 = .ok (.if_icmp .ge 56, 3) := dk_162 0 56 (dk_at dksX0_sights_1 18 rfl rfl)
theorem dX0_sights_45 : decode cX0_sights 45 = .ok (.iload 4, 2) := dk_21 4 (dk_at dksX0_sights_1 21 rfl rfl)
theorem dX0_sights_47 : decode cX0_sights 47 = .ok (.ifCond .eq 51, 3) := dk_153 0 51 (dk_at dksX0_sights_2 0 rfl rfl)
theorem dX0_sights_50 : decode cX0_sights 50 = .ok (.aload_n 0, 1) := dk_42 (dk_at dksX0_sights_2 3 rfl rfl)
theorem dX0_sights_51 : decode cX0_sights 51 = .ok (.aload_n 0, 1) := dk_42 (dk_at dksX0_sights_2 4 rfl rfl)
theorem dX0_sights_52 : decode cX0_sights 52 = .ok (.getfield 61, 3) := dk_180 0 61 (dk_at dksX0_sights_2 5 rfl rfl)
theorem dX0_sights_55 : decode cX0_sights 55 = .ok (.iload 5, 2) := dk_21 5 (dk_at dksX0_sights_2 8 rfl rfl)
theorem dX0_sights_57 : decode cX0_sights 57 = .ok (.invokeinterface 104 2, 5) := by decide +kernel
theorem dX0_sights_62 : decode cX0_sights 62 = .ok (.checkcast 223, 3) := dk_192 0 223 (dk_at dksX0_sights_2 15 rfl rfl)
theorem dX0_sights_65 : decode cX0_sights 65 = .ok (.aload_n 0, 1) := dk_42 (dk_at dksX0_sights_2 18 rfl rfl)
theorem dX0_sights_66 : decode cX0_sights 66 = .ok (.getfield 61, 3) := dk_180 0 61 (dk_at dksX0_sights_2 19 rfl rfl)
theorem dX0_sights_69 : decode cX0_sights 69 = .ok (.iload_n 3, 1) := dk_29 (dk_at dksX0_sights_2 22 rfl rfl)
theorem dX0_sights_70 : decode cX0_sights 70 = .ok (.invokeinterface 104 2, 5) := by decide +kernel
theorem dX0_sights_75 : decode cX0_sights 75 = .ok (.checkcast 223, 3) := dk_192 0 223 (dk_at dksX0_sights_3 5 rfl rfl)
theorem dX0_sights_78 : decode cX0_sights 78 = .ok (.iload_n 1, 1) := dk_27 (dk_at dksX0_sights_3 8 rfl rfl)
theorem dX0_sights_79 : decode cX0_sights 79 = .ok (.invokevirtual 280, 3) := dk_182 1 24 (dk_at dksX0_sights_3 9 rfl rfl)
theorem dX0_sights_82 : decode cX0_sights 82 = .ok (.ifCond .ne 7, 3) := dk_154 0 7 (dk_at dksX0_sights_3 12 rfl rfl)
theorem dX0_sights_85 : decode cX0_sights 85 = .ok (.iconst 1, 1) := dk_4 (dk_at dksX0_sights_3 15 rfl rfl)
theorem dX0_sights_86 : decode cX0_sights 86 = .ok (.goto 4, 3) := dk_167 0 4 (dk_at dksX0_sights_3 16 rfl rfl)
theorem dX0_sights_89 : decode cX0_sights 89 = .ok (.iconst 0, 1) := dk_3 (dk_at dksX0_sights_3 19 rfl rfl)
theorem dX0_sights_90 : decode cX0_sights 90 = .ok (.istore 4, 2) := dk_54 4 (dk_at dksX0_sights_3 20 rfl rfl)
theorem dX0_sights_92 : decode cX0_sights 92 = .ok (.iinc 5 1, 3) := dk_132 5 1 (dk_at dksX0_sights_4 0 rfl rfl)
theorem dX0_sights_95 : decode cX0_sights 95 = .ok (.goto (-56), 3) := dk_167 255 200 (dk_at dksX0_sights_4 3 rfl rfl)
theorem dX0_sights_98 : decode cX0_sights 98 = .ok (.iload_n 2, 1) := dk_28 (dk_at dksX0_sights_4 6 rfl rfl)
theorem dX0_sights_99 : decode cX0_sights 99 = .ok (.iload 4, 2) := dk_21 4 (dk_at dksX0_sights_4 7 rfl rfl)
theorem dX0_sights_101 : decode cX0_sights 101 = .ok (.ifCond .eq 7, 3) := dk_153 0 7 (dk_at dksX0_sights_4 9 rfl rfl)
theorem dX0_sights_104 : decode cX0_sights 104 = .ok (.iconst 1, 1) := dk_4 (dk_at dksX0_sights_4 12 rfl rfl)
theorem dX0_sights_105 : decode cX0_sights 105 = .ok (.goto 4, 3) := dk_167 0 4 (dk_at dksX0_sights_4 13 rfl rfl)
theorem dX0_sights_108 : decode cX0_sights 108 = .ok (.iconst 0, 1) := dk_3 (dk_at dksX0_sights_4 16 rfl rfl)
theorem dX0_sights_109 : decode cX0_sights 109 = .ok (.iadd, 1) := dk_96 (dk_at dksX0_sights_4 17 rfl rfl)
theorem dX0_sights_110 : decode cX0_sights 110 = .ok (.istore_n 2, 1) := dk_61 (dk_at dksX0_sights_4 18 rfl rfl)
theorem dX0_sights_111 : decode cX0_sights 111 = .ok (.iinc 3 1, 3) := dk_132 3 1 (dk_at dksX0_sights_4 19 rfl rfl)
theorem dX0_sights_114 : decode cX0_sights 114 = .ok (.goto (-89), 3) := dk_167 255 167 (dk_at dksX0_sights_5 0 rfl rfl)
theorem dX0_sights_117 : decode cX0_sights 117 = .ok (.iload_n 2, 1) := dk_28 (dk_at dksX0_sights_5 3 rfl rfl)
theorem dX0_sights_118 : decode cX0_sights 118 = .ok (.ireturn, 1) := dk_172 (dk_at dksX0_sights_5 4 rfl rfl)
abbrev cX0_lie : ByteArray := prog_1_method_54_code
def yX0_lie : MethodName := ⟨RX0, "lie", "(IIII)I"⟩
def dkwX0_lie_2 : List UInt8 := [4, 167, 0, 4, 3, 172]
abbrev dktX0_lie_2 : List UInt8 := dkwX0_lie_2 ++ []
def dkwX0_lie_1 : List UInt8 := [182, 0, 237, 154, 0, 8, 16, 253, 167, 0, 21, 42, 27, 28, 29, 21, 4, 182, 1, 44, 2, 160, 0, 7]
abbrev dktX0_lie_1 : List UInt8 := dkwX0_lie_1 ++ dktX0_lie_2
def dkwX0_lie_0 : List UInt8 := [42, 27, 182, 0, 162, 153, 0, 14, 42, 28, 29, 21, 4, 182, 0, 240, 154, 0, 6, 16, 254, 172, 42]
abbrev dktX0_lie_0 : List UInt8 := dkwX0_lie_0 ++ dktX0_lie_1
theorem dksX0_lie_0 : cX0_lie.data.toList.drop 0 = dktX0_lie_0 := by decide +kernel
theorem dksX0_lie_1 : cX0_lie.data.toList.drop 23 = dktX0_lie_1 := dk_seg dksX0_lie_0 23 rfl rfl
theorem dksX0_lie_2 : cX0_lie.data.toList.drop 47 = dktX0_lie_2 := dk_seg dksX0_lie_1 24 rfl rfl
theorem dX0_lie_0 : decode cX0_lie 0 = .ok (.aload_n 0, 1) := dk_42 (dk_at dksX0_lie_0 0 rfl rfl)
theorem dX0_lie_1 : decode cX0_lie 1 = .ok (.iload_n 1, 1) := dk_27 (dk_at dksX0_lie_0 1 rfl rfl)
theorem dX0_lie_2 : decode cX0_lie 2 = .ok (.invokevirtual 162, 3) := dk_182 0 162 (dk_at dksX0_lie_0 2 rfl rfl)
theorem dX0_lie_5 : decode cX0_lie 5 = .ok (.ifCond .eq 14, 3) := dk_153 0 14 (dk_at dksX0_lie_0 5 rfl rfl)
theorem dX0_lie_8 : decode cX0_lie 8 = .ok (.aload_n 0, 1) := dk_42 (dk_at dksX0_lie_0 8 rfl rfl)
theorem dX0_lie_9 : decode cX0_lie 9 = .ok (.iload_n 2, 1) := dk_28 (dk_at dksX0_lie_0 9 rfl rfl)
theorem dX0_lie_10 : decode cX0_lie 10 = .ok (.iload_n 3, 1) := dk_29 (dk_at dksX0_lie_0 10 rfl rfl)
theorem dX0_lie_11 : decode cX0_lie 11 = .ok (.iload 4, 2) := dk_21 4 (dk_at dksX0_lie_0 11 rfl rfl)
theorem dX0_lie_13 : decode cX0_lie 13 = .ok (.invokevirtual 240, 3) := dk_182 0 240 (dk_at dksX0_lie_0 13 rfl rfl)
theorem dX0_lie_16 : decode cX0_lie 16 = .ok (.ifCond .ne 6, 3) := dk_154 0 6 (dk_at dksX0_lie_0 16 rfl rfl)
theorem dX0_lie_19 : decode cX0_lie 19 = .ok (.bipush (-2), 2) := dk_16 254 (dk_at dksX0_lie_0 19 rfl rfl)
theorem dX0_lie_21 : decode cX0_lie 21 = .ok (.ireturn, 1) := dk_172 (dk_at dksX0_lie_0 21 rfl rfl)
theorem dX0_lie_22 : decode cX0_lie 22 = .ok (.aload_n 0, 1) := dk_42 (dk_at dksX0_lie_0 22 rfl rfl)
theorem dX0_lie_23 : decode cX0_lie 23 = .ok (.invokevirtual 237, 3) := dk_182 0 237 (dk_at dksX0_lie_1 0 rfl rfl)
theorem dX0_lie_26 : decode cX0_lie 26 = .ok (.ifCond .ne 8, 3) := dk_154 0 8 (dk_at dksX0_lie_1 3 rfl rfl)
theorem dX0_lie_29 : decode cX0_lie 29 = .ok (.bipush (-3), 2) := dk_16 253 (dk_at dksX0_lie_1 6 rfl rfl)
theorem dX0_lie_31 : decode cX0_lie 31 = .ok (.goto 21, 3) := dk_167 0 21 (dk_at dksX0_lie_1 8 rfl rfl)
theorem dX0_lie_34 : decode cX0_lie 34 = .ok (.aload_n 0, 1) := dk_42 (dk_at dksX0_lie_1 11 rfl rfl)
theorem dX0_lie_35 : decode cX0_lie 35 = .ok (.iload_n 1, 1) := dk_27 (dk_at dksX0_lie_1 12 rfl rfl)
theorem dX0_lie_36 : decode cX0_lie 36 = .ok (.iload_n 2, 1) := dk_28 (dk_at dksX0_lie_1 13 rfl rfl)
theorem dX0_lie_37 : decode cX0_lie 37 = .ok (.iload_n 3, 1) := dk_29 (dk_at dksX0_lie_1 14 rfl rfl)
theorem dX0_lie_38 : decode cX0_lie 38 = .ok (.iload 4, 2) := dk_21 4 (dk_at dksX0_lie_1 15 rfl rfl)
theorem dX0_lie_40 : decode cX0_lie 40 = .ok (.invokevirtual 300, 3) := dk_182 1 44 (dk_at dksX0_lie_1 17 rfl rfl)
theorem dX0_lie_43 : decode cX0_lie 43 = .ok (.iconst (-1), 1) := dk_2 (dk_at dksX0_lie_1 20 rfl rfl)
theorem dX0_lie_44 : decode cX0_lie 44 = .ok (.if_icmp .ne 7, 3) := dk_160 0 7 (dk_at dksX0_lie_1 21 rfl rfl)
theorem dX0_lie_47 : decode cX0_lie 47 = .ok (.iconst 1, 1) := dk_4 (dk_at dksX0_lie_2 0 rfl rfl)
theorem dX0_lie_48 : decode cX0_lie 48 = .ok (.goto 4, 3) := dk_167 0 4 (dk_at dksX0_lie_2 1 rfl rfl)
theorem dX0_lie_51 : decode cX0_lie 51 = .ok (.iconst 0, 1) := dk_3 (dk_at dksX0_lie_2 4 rfl rfl)
theorem dX0_lie_52 : decode cX0_lie 52 = .ok (.ireturn, 1) := dk_172 (dk_at dksX0_lie_2 5 rfl rfl)
abbrev cX0_showsWrong : ByteArray := prog_1_method_53_code
def yX0_showsWrong : MethodName := ⟨RX0, "showsWrong", "(IIII)I"⟩
def dkwX0_showsWrong_4 : List UInt8 := [54, 6, 132, 7, 1, 167, 255, 183, 21, 6, 154, 0, 6, 21, 5, 172, 132, 5, 1, 167, 255, 145, 2, 172]
abbrev dktX0_showsWrong_4 : List UInt8 := dkwX0_showsWrong_4 ++ []
def dkwX0_showsWrong_3 : List UInt8 := [185, 0, 104, 2, 0, 192, 0, 223, 28, 29, 182, 0, 243, 21, 4, 160, 0, 7, 4, 167, 0, 4, 3, 128]
abbrev dktX0_showsWrong_3 : List UInt8 := dkwX0_showsWrong_3 ++ dktX0_showsWrong_4
def dkwX0_showsWrong_2 : List UInt8 := [21, 7, 185, 0, 104, 2, 0, 192, 0, 223, 21, 5, 182, 1, 24, 153, 0, 31, 42, 180, 0, 61, 21, 7]
abbrev dktX0_showsWrong_2 : List UInt8 := dkwX0_showsWrong_2 ++ dktX0_showsWrong_3
def dkwX0_showsWrong_1 : List UInt8 := [3, 54, 7, 21, 7, 42, 180, 0, 220, 162, 0, 70, 21, 6, 42, 42, 182, 1, 20, 42, 180, 0, 61]
abbrev dktX0_showsWrong_1 : List UInt8 := dkwX0_showsWrong_1 ++ dktX0_showsWrong_2
def dkwX0_showsWrong_0 : List UInt8 := [3, 54, 5, 21, 5, 42, 182, 0, 133, 162, 0, 108, 21, 5, 27, 160, 0, 6, 167, 0, 93, 3, 54, 6]
abbrev dktX0_showsWrong_0 : List UInt8 := dkwX0_showsWrong_0 ++ dktX0_showsWrong_1
theorem dksX0_showsWrong_0 : cX0_showsWrong.data.toList.drop 0 = dktX0_showsWrong_0 := by decide +kernel
theorem dksX0_showsWrong_1 : cX0_showsWrong.data.toList.drop 24 = dktX0_showsWrong_1 := dk_seg dksX0_showsWrong_0 24 rfl rfl
theorem dksX0_showsWrong_2 : cX0_showsWrong.data.toList.drop 47 = dktX0_showsWrong_2 := dk_seg dksX0_showsWrong_1 23 rfl rfl
theorem dksX0_showsWrong_3 : cX0_showsWrong.data.toList.drop 71 = dktX0_showsWrong_3 := dk_seg dksX0_showsWrong_2 24 rfl rfl
theorem dksX0_showsWrong_4 : cX0_showsWrong.data.toList.drop 95 = dktX0_showsWrong_4 := dk_seg dksX0_showsWrong_3 24 rfl rfl
theorem dX0_showsWrong_0 : decode cX0_showsWrong 0 = .ok (.iconst 0, 1) := dk_3 (dk_at dksX0_showsWrong_0 0 rfl rfl)
theorem dX0_showsWrong_1 : decode cX0_showsWrong 1 = .ok (.istore 5, 2) := dk_54 5 (dk_at dksX0_showsWrong_0 1 rfl rfl)
theorem dX0_showsWrong_3 : decode cX0_showsWrong 3 = .ok (.iload 5, 2) := dk_21 5 (dk_at dksX0_showsWrong_0 3 rfl rfl)
theorem dX0_showsWrong_5 : decode cX0_showsWrong 5 = .ok (.aload_n 0, 1) := dk_42 (dk_at dksX0_showsWrong_0 5 rfl rfl)
theorem dX0_showsWrong_6 : decode cX0_showsWrong 6 = .ok (.invokevirtual 133, 3) := dk_182 0 133 (dk_at dksX0_showsWrong_0 6 rfl rfl)
theorem dX0_showsWrong_9 : decode cX0_showsWrong 9 = .ok (.if_icmp .ge 108, 3) := dk_162 0 108 (dk_at dksX0_showsWrong_0 9 rfl rfl)
theorem dX0_showsWrong_12 : decode cX0_showsWrong 12 = .ok (.iload 5, 2) := dk_21 5 (dk_at dksX0_showsWrong_0 12 rfl rfl)
theorem dX0_showsWrong_14 : decode cX0_showsWrong 14 = .ok (.iload_n 1, 1) := dk_27 (dk_at dksX0_showsWrong_0 14 rfl rfl)
theorem dX0_showsWrong_15 : decode cX0_showsWrong 15 = .ok (.if_icmp .ne 6, 3) := dk_160 0 6 (dk_at dksX0_showsWrong_0 15 rfl rfl)
theorem dX0_showsWrong_18 : decode cX0_showsWrong 18 = .ok (.goto 93, 3) := dk_167 0 93 (dk_at dksX0_showsWrong_0 18 rfl rfl)
theorem dX0_showsWrong_21 : decode cX0_showsWrong 21 = .ok (.iconst 0, 1) := dk_3 (dk_at dksX0_showsWrong_0 21 rfl rfl)
theorem dX0_showsWrong_22 : decode cX0_showsWrong 22 = .ok (.istore 6, 2) := dk_54 6 (dk_at dksX0_showsWrong_0 22 rfl rfl)
theorem dX0_showsWrong_24 : decode cX0_showsWrong 24 = .ok (.iconst 0, 1) := dk_3 (dk_at dksX0_showsWrong_1 0 rfl rfl)
theorem dX0_showsWrong_25 : decode cX0_showsWrong 25 = .ok (.istore 7, 2) := dk_54 7 (dk_at dksX0_showsWrong_1 1 rfl rfl)
theorem dX0_showsWrong_27 : decode cX0_showsWrong 27 = .ok (.iload 7, 2) := dk_21 7 (dk_at dksX0_showsWrong_1 3 rfl rfl)
theorem dX0_showsWrong_29 : decode cX0_showsWrong 29 = .ok (.aload_n 0, 1) := dk_42 (dk_at dksX0_showsWrong_1 5 rfl rfl)
theorem dX0_showsWrong_30 : decode cX0_showsWrong 30 = .ok (.getfield 220, 3) := dk_180 0 220 (dk_at dksX0_showsWrong_1 6 rfl rfl)
theorem dX0_showsWrong_33 : decode cX0_showsWrong 33 = .ok (.if_icmp .ge 70, 3) := dk_162 0 70 (dk_at dksX0_showsWrong_1 9 rfl rfl)
theorem dX0_showsWrong_36 : decode cX0_showsWrong 36 = .ok (.iload 6, 2) := dk_21 6 (dk_at dksX0_showsWrong_1 12 rfl rfl)
theorem dX0_showsWrong_38 : decode cX0_showsWrong 38 = .ok (.aload_n 0, 1) := dk_42 (dk_at dksX0_showsWrong_1 14 rfl rfl)
theorem dX0_showsWrong_39 : decode cX0_showsWrong 39 = .ok (.aload_n 0, 1) := dk_42 (dk_at dksX0_showsWrong_1 15 rfl rfl)
theorem dX0_showsWrong_40 : decode cX0_showsWrong 40 = .ok (.invokevirtual 276, 3) := dk_182 1 20 (dk_at dksX0_showsWrong_1 16 rfl rfl)
theorem dX0_showsWrong_43 : decode cX0_showsWrong 43 = .ok (.aload_n 0, 1) := dk_42 (dk_at dksX0_showsWrong_1 19 rfl rfl)
theorem dX0_showsWrong_44 : decode cX0_showsWrong 44 = .ok (.getfield 61, 3) := dk_180 0 61 (dk_at dksX0_showsWrong_1 20 rfl rfl)
theorem dX0_showsWrong_47 : decode cX0_showsWrong 47 = .ok (.iload 7, 2) := dk_21 7 (dk_at dksX0_showsWrong_2 0 rfl rfl)
theorem dX0_showsWrong_49 : decode cX0_showsWrong 49 = .ok (.invokeinterface 104 2, 5) := by decide +kernel
theorem dX0_showsWrong_54 : decode cX0_showsWrong 54 = .ok (.checkcast 223, 3) := dk_192 0 223 (dk_at dksX0_showsWrong_2 7 rfl rfl)
theorem dX0_showsWrong_57 : decode cX0_showsWrong 57 = .ok (.iload 5, 2) := dk_21 5 (dk_at dksX0_showsWrong_2 10 rfl rfl)
theorem dX0_showsWrong_59 : decode cX0_showsWrong 59 = .ok (.invokevirtual 280, 3) := dk_182 1 24 (dk_at dksX0_showsWrong_2 12 rfl rfl)
theorem dX0_showsWrong_62 : decode cX0_showsWrong 62 = .ok (.ifCond .eq 31, 3) := dk_153 0 31 (dk_at dksX0_showsWrong_2 15 rfl rfl)
theorem dX0_showsWrong_65 : decode cX0_showsWrong 65 = .ok (.aload_n 0, 1) := dk_42 (dk_at dksX0_showsWrong_2 18 rfl rfl)
theorem dX0_showsWrong_66 : decode cX0_showsWrong 66 = .ok (.getfield 61, 3) := dk_180 0 61 (dk_at dksX0_showsWrong_2 19 rfl rfl)
theorem dX0_showsWrong_69 : decode cX0_showsWrong 69 = .ok (.iload 7, 2) := dk_21 7 (dk_at dksX0_showsWrong_2 22 rfl rfl)
theorem dX0_showsWrong_71 : decode cX0_showsWrong 71 = .ok (.invokeinterface 104 2, 5) := by decide +kernel
theorem dX0_showsWrong_76 : decode cX0_showsWrong 76 = .ok (.checkcast 223, 3) := dk_192 0 223 (dk_at dksX0_showsWrong_3 5 rfl rfl)
theorem dX0_showsWrong_79 : decode cX0_showsWrong 79 = .ok (.iload_n 2, 1) := dk_28 (dk_at dksX0_showsWrong_3 8 rfl rfl)
theorem dX0_showsWrong_80 : decode cX0_showsWrong 80 = .ok (.iload_n 3, 1) := dk_29 (dk_at dksX0_showsWrong_3 9 rfl rfl)
theorem dX0_showsWrong_81 : decode cX0_showsWrong 81 = .ok (.invokevirtual 243, 3) := dk_182 0 243 (dk_at dksX0_showsWrong_3 10 rfl rfl)
theorem dX0_showsWrong_84 : decode cX0_showsWrong 84 = .ok (.iload 4, 2) := dk_21 4 (dk_at dksX0_showsWrong_3 13 rfl rfl)
theorem dX0_showsWrong_86 : decode cX0_showsWrong 86 = .ok (.if_icmp .ne 7, 3) := dk_160 0 7 (dk_at dksX0_showsWrong_3 15 rfl rfl)
theorem dX0_showsWrong_89 : decode cX0_showsWrong 89 = .ok (.iconst 1, 1) := dk_4 (dk_at dksX0_showsWrong_3 18 rfl rfl)
theorem dX0_showsWrong_90 : decode cX0_showsWrong 90 = .ok (.goto 4, 3) := dk_167 0 4 (dk_at dksX0_showsWrong_3 19 rfl rfl)
theorem dX0_showsWrong_93 : decode cX0_showsWrong 93 = .ok (.iconst 0, 1) := dk_3 (dk_at dksX0_showsWrong_3 22 rfl rfl)
theorem dX0_showsWrong_94 : decode cX0_showsWrong 94 = .ok (.ior, 1) := dk_128 (dk_at dksX0_showsWrong_3 23 rfl rfl)
theorem dX0_showsWrong_95 : decode cX0_showsWrong 95 = .ok (.istore 6, 2) := dk_54 6 (dk_at dksX0_showsWrong_4 0 rfl rfl)
theorem dX0_showsWrong_97 : decode cX0_showsWrong 97 = .ok (.iinc 7 1, 3) := dk_132 7 1 (dk_at dksX0_showsWrong_4 2 rfl rfl)
theorem dX0_showsWrong_100 : decode cX0_showsWrong 100 = .ok (.goto (-73), 3) := dk_167 255 183 (dk_at dksX0_showsWrong_4 5 rfl rfl)
theorem dX0_showsWrong_103 : decode cX0_showsWrong 103 = .ok (.iload 6, 2) := dk_21 6 (dk_at dksX0_showsWrong_4 8 rfl rfl)
theorem dX0_showsWrong_105 : decode cX0_showsWrong 105 = .ok (.ifCond .ne 6, 3) := dk_154 0 6 (dk_at dksX0_showsWrong_4 10 rfl rfl)
theorem dX0_showsWrong_108 : decode cX0_showsWrong 108 = .ok (.iload 5, 2) := dk_21 5 (dk_at dksX0_showsWrong_4 13 rfl rfl)
theorem dX0_showsWrong_110 : decode cX0_showsWrong 110 = .ok (.ireturn, 1) := dk_172 (dk_at dksX0_showsWrong_4 15 rfl rfl)
theorem dX0_showsWrong_111 : decode cX0_showsWrong 111 = .ok (.iinc 5 1, 3) := dk_132 5 1 (dk_at dksX0_showsWrong_4 16 rfl rfl)
theorem dX0_showsWrong_114 : decode cX0_showsWrong 114 = .ok (.goto (-111), 3) := dk_167 255 145 (dk_at dksX0_showsWrong_4 19 rfl rfl)
theorem dX0_showsWrong_117 : decode cX0_showsWrong 117 = .ok (.iconst (-1), 1) := dk_2 (dk_at dksX0_showsWrong_4 22 rfl rfl)
theorem dX0_showsWrong_118 : decode cX0_showsWrong 118 = .ok (.ireturn, 1) := dk_172 (dk_at dksX0_showsWrong_4 23 rfl rfl)
abbrev cX0_shown : ByteArray := prog_1_method_55_code
def yX0_shown : MethodName := ⟨RX0, "shown", "(IIII)I"⟩
def dkwX0_shown_1 : List UInt8 := [182, 0, 237, 154, 0, 8, 16, 253, 167, 0, 12, 42, 27, 28, 29, 21, 4, 182, 1, 44, 172]
abbrev dktX0_shown_1 : List UInt8 := dkwX0_shown_1 ++ []
def dkwX0_shown_0 : List UInt8 := [42, 27, 182, 0, 162, 153, 0, 14, 42, 28, 29, 21, 4, 182, 0, 240, 154, 0, 6, 16, 254, 172, 42]
abbrev dktX0_shown_0 : List UInt8 := dkwX0_shown_0 ++ dktX0_shown_1
theorem dksX0_shown_0 : cX0_shown.data.toList.drop 0 = dktX0_shown_0 := by decide +kernel
theorem dksX0_shown_1 : cX0_shown.data.toList.drop 23 = dktX0_shown_1 := dk_seg dksX0_shown_0 23 rfl rfl
theorem dX0_shown_0 : decode cX0_shown 0 = .ok (.aload_n 0, 1) := dk_42 (dk_at dksX0_shown_0 0 rfl rfl)
theorem dX0_shown_1 : decode cX0_shown 1 = .ok (.iload_n 1, 1) := dk_27 (dk_at dksX0_shown_0 1 rfl rfl)
theorem dX0_shown_2 : decode cX0_shown 2 = .ok (.invokevirtual 162, 3) := dk_182 0 162 (dk_at dksX0_shown_0 2 rfl rfl)
theorem dX0_shown_5 : decode cX0_shown 5 = .ok (.ifCond .eq 14, 3) := dk_153 0 14 (dk_at dksX0_shown_0 5 rfl rfl)
theorem dX0_shown_8 : decode cX0_shown 8 = .ok (.aload_n 0, 1) := dk_42 (dk_at dksX0_shown_0 8 rfl rfl)
theorem dX0_shown_9 : decode cX0_shown 9 = .ok (.iload_n 2, 1) := dk_28 (dk_at dksX0_shown_0 9 rfl rfl)
theorem dX0_shown_10 : decode cX0_shown 10 = .ok (.iload_n 3, 1) := dk_29 (dk_at dksX0_shown_0 10 rfl rfl)
theorem dX0_shown_11 : decode cX0_shown 11 = .ok (.iload 4, 2) := dk_21 4 (dk_at dksX0_shown_0 11 rfl rfl)
theorem dX0_shown_13 : decode cX0_shown 13 = .ok (.invokevirtual 240, 3) := dk_182 0 240 (dk_at dksX0_shown_0 13 rfl rfl)
theorem dX0_shown_16 : decode cX0_shown 16 = .ok (.ifCond .ne 6, 3) := dk_154 0 6 (dk_at dksX0_shown_0 16 rfl rfl)
theorem dX0_shown_19 : decode cX0_shown 19 = .ok (.bipush (-2), 2) := dk_16 254 (dk_at dksX0_shown_0 19 rfl rfl)
theorem dX0_shown_21 : decode cX0_shown 21 = .ok (.ireturn, 1) := dk_172 (dk_at dksX0_shown_0 21 rfl rfl)
theorem dX0_shown_22 : decode cX0_shown 22 = .ok (.aload_n 0, 1) := dk_42 (dk_at dksX0_shown_0 22 rfl rfl)
theorem dX0_shown_23 : decode cX0_shown 23 = .ok (.invokevirtual 237, 3) := dk_182 0 237 (dk_at dksX0_shown_1 0 rfl rfl)
theorem dX0_shown_26 : decode cX0_shown 26 = .ok (.ifCond .ne 8, 3) := dk_154 0 8 (dk_at dksX0_shown_1 3 rfl rfl)
theorem dX0_shown_29 : decode cX0_shown 29 = .ok (.bipush (-3), 2) := dk_16 253 (dk_at dksX0_shown_1 6 rfl rfl)
theorem dX0_shown_31 : decode cX0_shown 31 = .ok (.goto 12, 3) := dk_167 0 12 (dk_at dksX0_shown_1 8 rfl rfl)
theorem dX0_shown_34 : decode cX0_shown 34 = .ok (.aload_n 0, 1) := dk_42 (dk_at dksX0_shown_1 11 rfl rfl)
theorem dX0_shown_35 : decode cX0_shown 35 = .ok (.iload_n 1, 1) := dk_27 (dk_at dksX0_shown_1 12 rfl rfl)
theorem dX0_shown_36 : decode cX0_shown 36 = .ok (.iload_n 2, 1) := dk_28 (dk_at dksX0_shown_1 13 rfl rfl)
theorem dX0_shown_37 : decode cX0_shown 37 = .ok (.iload_n 3, 1) := dk_29 (dk_at dksX0_shown_1 14 rfl rfl)
theorem dX0_shown_38 : decode cX0_shown 38 = .ok (.iload 4, 2) := dk_21 4 (dk_at dksX0_shown_1 15 rfl rfl)
theorem dX0_shown_40 : decode cX0_shown 40 = .ok (.invokevirtual 300, 3) := dk_182 1 44 (dk_at dksX0_shown_1 17 rfl rfl)
theorem dX0_shown_43 : decode cX0_shown 43 = .ok (.ireturn, 1) := dk_172 (dk_at dksX0_shown_1 20 rfl rfl)
abbrev cX0_meets_2 : ByteArray := prog_1_method_57_code
def yX0_meets_2 : MethodName := ⟨RX0, "meets", "(II)I"⟩
def dkwX0_meets_2_3 : List UInt8 := [153, 0, 7, 4, 167, 0, 4, 3, 96, 62, 132, 4, 1, 167, 255, 202, 29, 172]
abbrev dktX0_meets_2_3 : List UInt8 := dkwX0_meets_2_3 ++ []
def dkwX0_meets_2_2 : List UInt8 := [180, 0, 171, 27, 50, 21, 4, 46, 42, 180, 0, 41, 180, 0, 171, 28, 50, 21, 4, 46, 182, 1, 50]
abbrev dktX0_meets_2_2 : List UInt8 := dkwX0_meets_2_2 ++ dktX0_meets_2_3
def dkwX0_meets_2_1 : List UInt8 := [3, 62, 3, 54, 4, 21, 4, 42, 180, 0, 41, 180, 0, 137, 162, 0, 48, 29, 42, 42, 180, 0, 41]
abbrev dktX0_meets_2_1 : List UInt8 := dkwX0_meets_2_1 ++ dktX0_meets_2_2
def dkwX0_meets_2_0 : List UInt8 := [42, 27, 182, 0, 162, 153, 0, 16, 42, 28, 182, 0, 162, 153, 0, 8, 27, 28, 160, 0, 6, 16, 254, 172]
abbrev dktX0_meets_2_0 : List UInt8 := dkwX0_meets_2_0 ++ dktX0_meets_2_1
theorem dksX0_meets_2_0 : cX0_meets_2.data.toList.drop 0 = dktX0_meets_2_0 := by decide +kernel
theorem dksX0_meets_2_1 : cX0_meets_2.data.toList.drop 24 = dktX0_meets_2_1 := dk_seg dksX0_meets_2_0 24 rfl rfl
theorem dksX0_meets_2_2 : cX0_meets_2.data.toList.drop 47 = dktX0_meets_2_2 := dk_seg dksX0_meets_2_1 23 rfl rfl
theorem dksX0_meets_2_3 : cX0_meets_2.data.toList.drop 70 = dktX0_meets_2_3 := dk_seg dksX0_meets_2_2 23 rfl rfl
theorem dX0_meets_2_0 : decode cX0_meets_2 0 = .ok (.aload_n 0, 1) := dk_42 (dk_at dksX0_meets_2_0 0 rfl rfl)
theorem dX0_meets_2_1 : decode cX0_meets_2 1 = .ok (.iload_n 1, 1) := dk_27 (dk_at dksX0_meets_2_0 1 rfl rfl)
theorem dX0_meets_2_2 : decode cX0_meets_2 2 = .ok (.invokevirtual 162, 3) := dk_182 0 162 (dk_at dksX0_meets_2_0 2 rfl rfl)
theorem dX0_meets_2_5 : decode cX0_meets_2 5 = .ok (.ifCond .eq 16, 3) := dk_153 0 16 (dk_at dksX0_meets_2_0 5 rfl rfl)
theorem dX0_meets_2_8 : decode cX0_meets_2 8 = .ok (.aload_n 0, 1) := dk_42 (dk_at dksX0_meets_2_0 8 rfl rfl)
theorem dX0_meets_2_9 : decode cX0_meets_2 9 = .ok (.iload_n 2, 1) := dk_28 (dk_at dksX0_meets_2_0 9 rfl rfl)
theorem dX0_meets_2_10 : decode cX0_meets_2 10 = .ok (.invokevirtual 162, 3) := dk_182 0 162 (dk_at dksX0_meets_2_0 10 rfl rfl)
theorem dX0_meets_2_13 : decode cX0_meets_2 13 = .ok (.ifCond .eq 8, 3) := dk_153 0 8 (dk_at dksX0_meets_2_0 13 rfl rfl)
theorem dX0_meets_2_16 : decode cX0_meets_2 16 = .ok (.iload_n 1, 1) := dk_27 (dk_at dksX0_meets_2_0 16 rfl rfl)
theorem dX0_meets_2_17 : decode cX0_meets_2 17 = .ok (.iload_n 2, 1) := dk_28 (dk_at dksX0_meets_2_0 17 rfl rfl)
theorem dX0_meets_2_18 : decode cX0_meets_2 18 = .ok (.if_icmp .ne 6, 3) := dk_160 0 6 (dk_at dksX0_meets_2_0 18 rfl rfl)
theorem dX0_meets_2_21 : decode cX0_meets_2 21 = .ok (.bipush (-2), 2) := dk_16 254 (dk_at dksX0_meets_2_0 21 rfl rfl)
theorem dX0_meets_2_23 : decode cX0_meets_2 23 = .ok (.ireturn, 1) := dk_172 (dk_at dksX0_meets_2_0 23 rfl rfl)
theorem dX0_meets_2_24 : decode cX0_meets_2 24 = .ok (.iconst 0, 1) := dk_3 (dk_at dksX0_meets_2_1 0 rfl rfl)
theorem dX0_meets_2_25 : decode cX0_meets_2 25 = .ok (.istore_n 3, 1) := dk_62 (dk_at dksX0_meets_2_1 1 rfl rfl)
theorem dX0_meets_2_26 : decode cX0_meets_2 26 = .ok (.iconst 0, 1) := dk_3 (dk_at dksX0_meets_2_1 2 rfl rfl)
theorem dX0_meets_2_27 : decode cX0_meets_2 27 = .ok (.istore 4, 2) := dk_54 4 (dk_at dksX0_meets_2_1 3 rfl rfl)
theorem dX0_meets_2_29 : decode cX0_meets_2 29 = .ok (.iload 4, 2) := dk_21 4 (dk_at dksX0_meets_2_1 5 rfl rfl)
theorem dX0_meets_2_31 : decode cX0_meets_2 31 = .ok (.aload_n 0, 1) := dk_42 (dk_at dksX0_meets_2_1 7 rfl rfl)
theorem dX0_meets_2_32 : decode cX0_meets_2 32 = .ok (.getfield 41, 3) := dk_180 0 41 (dk_at dksX0_meets_2_1 8 rfl rfl)
theorem dX0_meets_2_35 : decode cX0_meets_2 35 = .ok (.getfield 137, 3) := dk_180 0 137 (dk_at dksX0_meets_2_1 11 rfl rfl)
theorem dX0_meets_2_38 : decode cX0_meets_2 38 = .ok (.if_icmp .ge 48, 3) := dk_162 0 48 (dk_at dksX0_meets_2_1 14 rfl rfl)
theorem dX0_meets_2_41 : decode cX0_meets_2 41 = .ok (.iload_n 3, 1) := dk_29 (dk_at dksX0_meets_2_1 17 rfl rfl)
theorem dX0_meets_2_42 : decode cX0_meets_2 42 = .ok (.aload_n 0, 1) := dk_42 (dk_at dksX0_meets_2_1 18 rfl rfl)
theorem dX0_meets_2_43 : decode cX0_meets_2 43 = .ok (.aload_n 0, 1) := dk_42 (dk_at dksX0_meets_2_1 19 rfl rfl)
theorem dX0_meets_2_44 : decode cX0_meets_2 44 = .ok (.getfield 41, 3) := dk_180 0 41 (dk_at dksX0_meets_2_1 20 rfl rfl)
theorem dX0_meets_2_47 : decode cX0_meets_2 47 = .ok (.getfield 171, 3) := dk_180 0 171 (dk_at dksX0_meets_2_2 0 rfl rfl)
theorem dX0_meets_2_50 : decode cX0_meets_2 50 = .ok (.iload_n 1, 1) := dk_27 (dk_at dksX0_meets_2_2 3 rfl rfl)
theorem dX0_meets_2_51 : decode cX0_meets_2 51 = .ok (.aaload, 1) := dk_50 (dk_at dksX0_meets_2_2 4 rfl rfl)
theorem dX0_meets_2_52 : decode cX0_meets_2 52 = .ok (.iload 4, 2) := dk_21 4 (dk_at dksX0_meets_2_2 5 rfl rfl)
theorem dX0_meets_2_54 : decode cX0_meets_2 54 = .ok (.iaload, 1) := dk_46 (dk_at dksX0_meets_2_2 7 rfl rfl)
theorem dX0_meets_2_55 : decode cX0_meets_2 55 = .ok (.aload_n 0, 1) := dk_42 (dk_at dksX0_meets_2_2 8 rfl rfl)
theorem dX0_meets_2_56 : decode cX0_meets_2 56 = .ok (.getfield 41, 3) := dk_180 0 41 (dk_at dksX0_meets_2_2 9 rfl rfl)
theorem dX0_meets_2_59 : decode cX0_meets_2 59 = .ok (.getfield 171, 3) := dk_180 0 171 (dk_at dksX0_meets_2_2 12 rfl rfl)
theorem dX0_meets_2_62 : decode cX0_meets_2 62 = .ok (.iload_n 2, 1) := dk_28 (dk_at dksX0_meets_2_2 15 rfl rfl)
theorem dX0_meets_2_63 : decode cX0_meets_2 63 = .ok (.aaload, 1) := dk_50 (dk_at dksX0_meets_2_2 16 rfl rfl)
theorem dX0_meets_2_64 : decode cX0_meets_2 64 = .ok (.iload 4, 2) := dk_21 4 (dk_at dksX0_meets_2_2 17 rfl rfl)
theorem dX0_meets_2_66 : decode cX0_meets_2 66 = .ok (.iaload, 1) := dk_46 (dk_at dksX0_meets_2_2 19 rfl rfl)
theorem dX0_meets_2_67 : decode cX0_meets_2 67 = .ok (.invokevirtual 306, 3) := dk_182 1 50 (dk_at dksX0_meets_2_2 20 rfl rfl)
theorem dX0_meets_2_70 : decode cX0_meets_2 70 = .ok (.ifCond .eq 7, 3) := dk_153 0 7 (dk_at dksX0_meets_2_3 0 rfl rfl)
theorem dX0_meets_2_73 : decode cX0_meets_2 73 = .ok (.iconst 1, 1) := dk_4 (dk_at dksX0_meets_2_3 3 rfl rfl)
theorem dX0_meets_2_74 : decode cX0_meets_2 74 = .ok (.goto 4, 3) := dk_167 0 4 (dk_at dksX0_meets_2_3 4 rfl rfl)
theorem dX0_meets_2_77 : decode cX0_meets_2 77 = .ok (.iconst 0, 1) := dk_3 (dk_at dksX0_meets_2_3 7 rfl rfl)
theorem dX0_meets_2_78 : decode cX0_meets_2 78 = .ok (.iadd, 1) := dk_96 (dk_at dksX0_meets_2_3 8 rfl rfl)
theorem dX0_meets_2_79 : decode cX0_meets_2 79 = .ok (.istore_n 3, 1) := dk_62 (dk_at dksX0_meets_2_3 9 rfl rfl)
theorem dX0_meets_2_80 : decode cX0_meets_2 80 = .ok (.iinc 4 1, 3) := dk_132 4 1 (dk_at dksX0_meets_2_3 10 rfl rfl)
theorem dX0_meets_2_83 : decode cX0_meets_2 83 = .ok (.goto (-54), 3) := dk_167 255 202 (dk_at dksX0_meets_2_3 13 rfl rfl)
theorem dX0_meets_2_86 : decode cX0_meets_2 86 = .ok (.iload_n 3, 1) := dk_29 (dk_at dksX0_meets_2_3 16 rfl rfl)
theorem dX0_meets_2_87 : decode cX0_meets_2 87 = .ok (.ireturn, 1) := dk_172 (dk_at dksX0_meets_2_3 17 rfl rfl)
abbrev cX0_areBeside : ByteArray := prog_1_method_56_code
def yX0_areBeside : MethodName := ⟨RX0, "areBeside", "(II)Z"⟩
def dkwX0_areBeside_2 : List UInt8 := [172]
abbrev dktX0_areBeside_2 : List UInt8 := dkwX0_areBeside_2 ++ []
def dkwX0_areBeside_1 : List UInt8 := [163, 0, 23, 27, 16, 100, 108, 28, 16, 100, 108, 100, 184, 1, 47, 4, 163, 0, 7, 4, 167, 0, 4, 3]
abbrev dktX0_areBeside_1 : List UInt8 := dkwX0_areBeside_1 ++ dktX0_areBeside_2
def dkwX0_areBeside_0 : List UInt8 := [27, 2, 159, 0, 44, 28, 2, 159, 0, 39, 27, 16, 100, 112, 28, 16, 100, 112, 100, 184, 1, 47, 4]
abbrev dktX0_areBeside_0 : List UInt8 := dkwX0_areBeside_0 ++ dktX0_areBeside_1
theorem dksX0_areBeside_0 : cX0_areBeside.data.toList.drop 0 = dktX0_areBeside_0 := by decide +kernel
theorem dksX0_areBeside_1 : cX0_areBeside.data.toList.drop 23 = dktX0_areBeside_1 := dk_seg dksX0_areBeside_0 23 rfl rfl
theorem dksX0_areBeside_2 : cX0_areBeside.data.toList.drop 47 = dktX0_areBeside_2 := dk_seg dksX0_areBeside_1 24 rfl rfl
theorem dX0_areBeside_0 : decode cX0_areBeside 0 = .ok (.iload_n 1, 1) := dk_27 (dk_at dksX0_areBeside_0 0 rfl rfl)
theorem dX0_areBeside_1 : decode cX0_areBeside 1 = .ok (.iconst (-1), 1) := dk_2 (dk_at dksX0_areBeside_0 1 rfl rfl)
theorem dX0_areBeside_2 : decode cX0_areBeside 2 = .ok (.if_icmp .eq 44, 3) := dk_159 0 44 (dk_at dksX0_areBeside_0 2 rfl rfl)
theorem dX0_areBeside_5 : decode cX0_areBeside 5 = .ok (.iload_n 2, 1) := dk_28 (dk_at dksX0_areBeside_0 5 rfl rfl)
theorem dX0_areBeside_6 : decode cX0_areBeside 6 = .ok (.iconst (-1), 1) := dk_2 (dk_at dksX0_areBeside_0 6 rfl rfl)
theorem dX0_areBeside_7 : decode cX0_areBeside 7 = .ok (.if_icmp .eq 39, 3) := dk_159 0 39 (dk_at dksX0_areBeside_0 7 rfl rfl)
theorem dX0_areBeside_10 : decode cX0_areBeside 10 = .ok (.iload_n 1, 1) := dk_27 (dk_at dksX0_areBeside_0 10 rfl rfl)
theorem dX0_areBeside_11 : decode cX0_areBeside 11 = .ok (.bipush 100, 2) := dk_16 100 (dk_at dksX0_areBeside_0 11 rfl rfl)
theorem dX0_areBeside_13 : decode cX0_areBeside 13 = .ok (.irem, 1) := dk_112 (dk_at dksX0_areBeside_0 13 rfl rfl)
theorem dX0_areBeside_14 : decode cX0_areBeside 14 = .ok (.iload_n 2, 1) := dk_28 (dk_at dksX0_areBeside_0 14 rfl rfl)
theorem dX0_areBeside_15 : decode cX0_areBeside 15 = .ok (.bipush 100, 2) := dk_16 100 (dk_at dksX0_areBeside_0 15 rfl rfl)
theorem dX0_areBeside_17 : decode cX0_areBeside 17 = .ok (.irem, 1) := dk_112 (dk_at dksX0_areBeside_0 17 rfl rfl)
theorem dX0_areBeside_18 : decode cX0_areBeside 18 = .ok (.isub, 1) := dk_100 (dk_at dksX0_areBeside_0 18 rfl rfl)
theorem dX0_areBeside_19 : decode cX0_areBeside 19 = .ok (.invokestatic 303, 3) := dk_184 1 47 (dk_at dksX0_areBeside_0 19 rfl rfl)
theorem dX0_areBeside_22 : decode cX0_areBeside 22 = .ok (.iconst 1, 1) := dk_4 (dk_at dksX0_areBeside_0 22 rfl rfl)
theorem dX0_areBeside_23 : decode cX0_areBeside 23 = .ok (.if_icmp .gt 23, 3) := dk_163 0 23 (dk_at dksX0_areBeside_1 0 rfl rfl)
theorem dX0_areBeside_26 : decode cX0_areBeside 26 = .ok (.iload_n 1, 1) := dk_27 (dk_at dksX0_areBeside_1 3 rfl rfl)
theorem dX0_areBeside_27 : decode cX0_areBeside 27 = .ok (.bipush 100, 2) := dk_16 100 (dk_at dksX0_areBeside_1 4 rfl rfl)
theorem dX0_areBeside_29 : decode cX0_areBeside 29 = .ok (.idiv, 1) := dk_108 (dk_at dksX0_areBeside_1 6 rfl rfl)
theorem dX0_areBeside_30 : decode cX0_areBeside 30 = .ok (.iload_n 2, 1) := dk_28 (dk_at dksX0_areBeside_1 7 rfl rfl)
theorem dX0_areBeside_31 : decode cX0_areBeside 31 = .ok (.bipush 100, 2) := dk_16 100 (dk_at dksX0_areBeside_1 8 rfl rfl)
theorem dX0_areBeside_33 : decode cX0_areBeside 33 = .ok (.idiv, 1) := dk_108 (dk_at dksX0_areBeside_1 10 rfl rfl)
theorem dX0_areBeside_34 : decode cX0_areBeside 34 = .ok (.isub, 1) := dk_100 (dk_at dksX0_areBeside_1 11 rfl rfl)
theorem dX0_areBeside_35 : decode cX0_areBeside 35 = .ok (.invokestatic 303, 3) := dk_184 1 47 (dk_at dksX0_areBeside_1 12 rfl rfl)
theorem dX0_areBeside_38 : decode cX0_areBeside 38 = .ok (.iconst 1, 1) := dk_4 (dk_at dksX0_areBeside_1 15 rfl rfl)
theorem dX0_areBeside_39 : decode cX0_areBeside 39 = .ok (.if_icmp .gt 7, 3) := dk_163 0 7 (dk_at dksX0_areBeside_1 16 rfl rfl)
theorem dX0_areBeside_42 : decode cX0_areBeside 42 = .ok (.iconst 1, 1) := dk_4 (dk_at dksX0_areBeside_1 19 rfl rfl)
theorem dX0_areBeside_43 : decode cX0_areBeside 43 = .ok (.goto 4, 3) := dk_167 0 4 (dk_at dksX0_areBeside_1 20 rfl rfl)
theorem dX0_areBeside_46 : decode cX0_areBeside 46 = .ok (.iconst 0, 1) := dk_3 (dk_at dksX0_areBeside_1 23 rfl rfl)
theorem dX0_areBeside_47 : decode cX0_areBeside 47 = .ok (.ireturn, 1) := dk_172 (dk_at dksX0_areBeside_2 0 rfl rfl)
abbrev cX0_spots : ByteArray := prog_1_method_58_code
def yX0_spots : MethodName := ⟨RX0, "spots", "(I)I"⟩
def dkwX0_spots_3 : List UInt8 := [153, 0, 7, 4, 167, 0, 4, 3, 96, 61, 132, 4, 1, 167, 255, 202, 132, 3, 1, 167, 255, 182, 28, 172]
abbrev dktX0_spots_3 : List UInt8 := dkwX0_spots_3 ++ []
def dkwX0_spots_2 : List UInt8 := [21, 4, 182, 1, 59, 153, 0, 25, 42, 180, 0, 41, 29, 16, 100, 21, 4, 104, 96, 27, 182, 1, 62]
abbrev dktX0_spots_2 : List UInt8 := dkwX0_spots_2 ++ dktX0_spots_3
def dkwX0_spots_1 : List UInt8 := [162, 0, 69, 3, 54, 4, 21, 4, 42, 180, 0, 41, 180, 1, 56, 162, 0, 48, 28, 42, 180, 0, 41, 29]
abbrev dktX0_spots_1 : List UInt8 := dkwX0_spots_1 ++ dktX0_spots_2
def dkwX0_spots_0 : List UInt8 := [42, 27, 133, 182, 0, 146, 154, 0, 6, 16, 254, 172, 3, 61, 3, 62, 29, 42, 180, 0, 41, 180, 1, 53]
abbrev dktX0_spots_0 : List UInt8 := dkwX0_spots_0 ++ dktX0_spots_1
theorem dksX0_spots_0 : cX0_spots.data.toList.drop 0 = dktX0_spots_0 := by decide +kernel
theorem dksX0_spots_1 : cX0_spots.data.toList.drop 24 = dktX0_spots_1 := dk_seg dksX0_spots_0 24 rfl rfl
theorem dksX0_spots_2 : cX0_spots.data.toList.drop 48 = dktX0_spots_2 := dk_seg dksX0_spots_1 24 rfl rfl
theorem dksX0_spots_3 : cX0_spots.data.toList.drop 71 = dktX0_spots_3 := dk_seg dksX0_spots_2 23 rfl rfl
theorem dX0_spots_0 : decode cX0_spots 0 = .ok (.aload_n 0, 1) := dk_42 (dk_at dksX0_spots_0 0 rfl rfl)
theorem dX0_spots_1 : decode cX0_spots 1 = .ok (.iload_n 1, 1) := dk_27 (dk_at dksX0_spots_0 1 rfl rfl)
theorem dX0_spots_2 : decode cX0_spots 2 = .ok (.i2l, 1) := dk_133 (dk_at dksX0_spots_0 2 rfl rfl)
theorem dX0_spots_3 : decode cX0_spots 3 = .ok (.invokevirtual 146, 3) := dk_182 0 146 (dk_at dksX0_spots_0 3 rfl rfl)
theorem dX0_spots_6 : decode cX0_spots 6 = .ok (.ifCond .ne 6, 3) := dk_154 0 6 (dk_at dksX0_spots_0 6 rfl rfl)
theorem dX0_spots_9 : decode cX0_spots 9 = .ok (.bipush (-2), 2) := dk_16 254 (dk_at dksX0_spots_0 9 rfl rfl)
theorem dX0_spots_11 : decode cX0_spots 11 = .ok (.ireturn, 1) := dk_172 (dk_at dksX0_spots_0 11 rfl rfl)
theorem dX0_spots_12 : decode cX0_spots 12 = .ok (.iconst 0, 1) := dk_3 (dk_at dksX0_spots_0 12 rfl rfl)
theorem dX0_spots_13 : decode cX0_spots 13 = .ok (.istore_n 2, 1) := dk_61 (dk_at dksX0_spots_0 13 rfl rfl)
theorem dX0_spots_14 : decode cX0_spots 14 = .ok (.iconst 0, 1) := dk_3 (dk_at dksX0_spots_0 14 rfl rfl)
theorem dX0_spots_15 : decode cX0_spots 15 = .ok (.istore_n 3, 1) := dk_62 (dk_at dksX0_spots_0 15 rfl rfl)
theorem dX0_spots_16 : decode cX0_spots 16 = .ok (.iload_n 3, 1) := dk_29 (dk_at dksX0_spots_0 16 rfl rfl)
theorem dX0_spots_17 : decode cX0_spots 17 = .ok (.aload_n 0, 1) := dk_42 (dk_at dksX0_spots_0 17 rfl rfl)
theorem dX0_spots_18 : decode cX0_spots 18 = .ok (.getfield 41, 3) := dk_180 0 41 (dk_at dksX0_spots_0 18 rfl rfl)
theorem dX0_spots_21 : decode cX0_spots 21 = .ok (.getfield 309, 3) := dk_180 1 53 (dk_at dksX0_spots_0 21 rfl rfl)
theorem dX0_spots_24 : decode cX0_spots 24 = .ok (.if_icmp .ge 69, 3) := dk_162 0 69 (dk_at dksX0_spots_1 0 rfl rfl)
theorem dX0_spots_27 : decode cX0_spots 27 = .ok (.iconst 0, 1) := dk_3 (dk_at dksX0_spots_1 3 rfl rfl)
theorem dX0_spots_28 : decode cX0_spots 28 = .ok (.istore 4, 2) := dk_54 4 (dk_at dksX0_spots_1 4 rfl rfl)
theorem dX0_spots_30 : decode cX0_spots 30 = .ok (.iload 4, 2) := dk_21 4 (dk_at dksX0_spots_1 6 rfl rfl)
theorem dX0_spots_32 : decode cX0_spots 32 = .ok (.aload_n 0, 1) := dk_42 (dk_at dksX0_spots_1 8 rfl rfl)
theorem dX0_spots_33 : decode cX0_spots 33 = .ok (.getfield 41, 3) := dk_180 0 41 (dk_at dksX0_spots_1 9 rfl rfl)
theorem dX0_spots_36 : decode cX0_spots 36 = .ok (.getfield 312, 3) := dk_180 1 56 (dk_at dksX0_spots_1 12 rfl rfl)
theorem dX0_spots_39 : decode cX0_spots 39 = .ok (.if_icmp .ge 48, 3) := dk_162 0 48 (dk_at dksX0_spots_1 15 rfl rfl)
theorem dX0_spots_42 : decode cX0_spots 42 = .ok (.iload_n 2, 1) := dk_28 (dk_at dksX0_spots_1 18 rfl rfl)
theorem dX0_spots_43 : decode cX0_spots 43 = .ok (.aload_n 0, 1) := dk_42 (dk_at dksX0_spots_1 19 rfl rfl)
theorem dX0_spots_44 : decode cX0_spots 44 = .ok (.getfield 41, 3) := dk_180 0 41 (dk_at dksX0_spots_1 20 rfl rfl)
theorem dX0_spots_47 : decode cX0_spots 47 = .ok (.iload_n 3, 1) := dk_29 (dk_at dksX0_spots_1 23 rfl rfl)
theorem dX0_spots_48 : decode cX0_spots 48 = .ok (.iload 4, 2) := dk_21 4 (dk_at dksX0_spots_2 0 rfl rfl)
theorem dX0_spots_50 : decode cX0_spots 50 = .ok (.invokevirtual 315, 3) := dk_182 1 59 (dk_at dksX0_spots_2 2 rfl rfl)
theorem dX0_spots_53 : decode cX0_spots 53 = .ok (.ifCond .eq 25, 3) := dk_153 0 25 (dk_at dksX0_spots_2 5 rfl rfl)
theorem dX0_spots_56 : decode cX0_spots 56 = .ok (.aload_n 0, 1) := dk_42 (dk_at dksX0_spots_2 8 rfl rfl)
theorem dX0_spots_57 : decode cX0_spots 57 = .ok (.getfield 41, 3) := dk_180 0 41 (dk_at dksX0_spots_2 9 rfl rfl)
theorem dX0_spots_60 : decode cX0_spots 60 = .ok (.iload_n 3, 1) := dk_29 (dk_at dksX0_spots_2 12 rfl rfl)
theorem dX0_spots_61 : decode cX0_spots 61 = .ok (.bipush 100, 2) := dk_16 100 (dk_at dksX0_spots_2 13 rfl rfl)
theorem dX0_spots_63 : decode cX0_spots 63 = .ok (.iload 4, 2) := dk_21 4 (dk_at dksX0_spots_2 15 rfl rfl)
theorem dX0_spots_65 : decode cX0_spots 65 = .ok (.imul, 1) := dk_104 (dk_at dksX0_spots_2 17 rfl rfl)
theorem dX0_spots_66 : decode cX0_spots 66 = .ok (.iadd, 1) := dk_96 (dk_at dksX0_spots_2 18 rfl rfl)
theorem dX0_spots_67 : decode cX0_spots 67 = .ok (.iload_n 1, 1) := dk_27 (dk_at dksX0_spots_2 19 rfl rfl)
theorem dX0_spots_68 : decode cX0_spots 68 = .ok (.invokevirtual 318, 3) := dk_182 1 62 (dk_at dksX0_spots_2 20 rfl rfl)
theorem dX0_spots_71 : decode cX0_spots 71 = .ok (.ifCond .eq 7, 3) := dk_153 0 7 (dk_at dksX0_spots_3 0 rfl rfl)
theorem dX0_spots_74 : decode cX0_spots 74 = .ok (.iconst 1, 1) := dk_4 (dk_at dksX0_spots_3 3 rfl rfl)
theorem dX0_spots_75 : decode cX0_spots 75 = .ok (.goto 4, 3) := dk_167 0 4 (dk_at dksX0_spots_3 4 rfl rfl)
theorem dX0_spots_78 : decode cX0_spots 78 = .ok (.iconst 0, 1) := dk_3 (dk_at dksX0_spots_3 7 rfl rfl)
theorem dX0_spots_79 : decode cX0_spots 79 = .ok (.iadd, 1) := dk_96 (dk_at dksX0_spots_3 8 rfl rfl)
theorem dX0_spots_80 : decode cX0_spots 80 = .ok (.istore_n 2, 1) := dk_61 (dk_at dksX0_spots_3 9 rfl rfl)
theorem dX0_spots_81 : decode cX0_spots 81 = .ok (.iinc 4 1, 3) := dk_132 4 1 (dk_at dksX0_spots_3 10 rfl rfl)
theorem dX0_spots_84 : decode cX0_spots 84 = .ok (.goto (-54), 3) := dk_167 255 202 (dk_at dksX0_spots_3 13 rfl rfl)
theorem dX0_spots_87 : decode cX0_spots 87 = .ok (.iinc 3 1, 3) := dk_132 3 1 (dk_at dksX0_spots_3 16 rfl rfl)
theorem dX0_spots_90 : decode cX0_spots 90 = .ok (.goto (-74), 3) := dk_167 255 182 (dk_at dksX0_spots_3 19 rfl rfl)
theorem dX0_spots_93 : decode cX0_spots 93 = .ok (.iload_n 2, 1) := dk_28 (dk_at dksX0_spots_3 22 rfl rfl)
theorem dX0_spots_94 : decode cX0_spots 94 = .ok (.ireturn, 1) := dk_172 (dk_at dksX0_spots_3 23 rfl rfl)
abbrev cX0_when : ByteArray := prog_1_method_59_code
def yX0_when : MethodName := ⟨RX0, "when", "(II)I"⟩
def dkwX0_when_2 : List UInt8 := [46, 28, 160, 0, 5, 29, 172, 132, 3, 1, 167, 255, 225, 2, 172]
abbrev dktX0_when_2 : List UInt8 := dkwX0_when_2 ++ []
def dkwX0_when_1 : List UInt8 := [87, 3, 62, 29, 42, 180, 0, 41, 180, 0, 137, 163, 0, 26, 42, 180, 0, 52, 180, 0, 196, 27, 50, 29]
abbrev dktX0_when_1 : List UInt8 := dkwX0_when_1 ++ dktX0_when_2
def dkwX0_when_0 : List UInt8 := [42, 27, 133, 182, 0, 146, 153, 0, 11, 28, 133, 184, 0, 153, 154, 0, 6, 16, 254, 172, 42, 182, 0, 179]
abbrev dktX0_when_0 : List UInt8 := dkwX0_when_0 ++ dktX0_when_1
theorem dksX0_when_0 : cX0_when.data.toList.drop 0 = dktX0_when_0 := by decide +kernel
theorem dksX0_when_1 : cX0_when.data.toList.drop 24 = dktX0_when_1 := dk_seg dksX0_when_0 24 rfl rfl
theorem dksX0_when_2 : cX0_when.data.toList.drop 48 = dktX0_when_2 := dk_seg dksX0_when_1 24 rfl rfl
theorem dX0_when_0 : decode cX0_when 0 = .ok (.aload_n 0, 1) := dk_42 (dk_at dksX0_when_0 0 rfl rfl)
theorem dX0_when_1 : decode cX0_when 1 = .ok (.iload_n 1, 1) := dk_27 (dk_at dksX0_when_0 1 rfl rfl)
theorem dX0_when_2 : decode cX0_when 2 = .ok (.i2l, 1) := dk_133 (dk_at dksX0_when_0 2 rfl rfl)
theorem dX0_when_3 : decode cX0_when 3 = .ok (.invokevirtual 146, 3) := dk_182 0 146 (dk_at dksX0_when_0 3 rfl rfl)
theorem dX0_when_6 : decode cX0_when 6 = .ok (.ifCond .eq 11, 3) := dk_153 0 11 (dk_at dksX0_when_0 6 rfl rfl)
theorem dX0_when_9 : decode cX0_when 9 = .ok (.iload_n 2, 1) := dk_28 (dk_at dksX0_when_0 9 rfl rfl)
theorem dX0_when_10 : decode cX0_when 10 = .ok (.i2l, 1) := dk_133 (dk_at dksX0_when_0 10 rfl rfl)
theorem dX0_when_11 : decode cX0_when 11 = .ok (.invokestatic 153, 3) := dk_184 0 153 (dk_at dksX0_when_0 11 rfl rfl)
theorem dX0_when_14 : decode cX0_when 14 = .ok (.ifCond .ne 6, 3) := dk_154 0 6 (dk_at dksX0_when_0 14 rfl rfl)
theorem dX0_when_17 : decode cX0_when 17 = .ok (.bipush (-2), 2) := dk_16 254 (dk_at dksX0_when_0 17 rfl rfl)
theorem dX0_when_19 : decode cX0_when 19 = .ok (.ireturn, 1) := dk_172 (dk_at dksX0_when_0 19 rfl rfl)
theorem dX0_when_20 : decode cX0_when 20 = .ok (.aload_n 0, 1) := dk_42 (dk_at dksX0_when_0 20 rfl rfl)
theorem dX0_when_21 : decode cX0_when 21 = .ok (.invokevirtual 179, 3) := dk_182 0 179 (dk_at dksX0_when_0 21 rfl rfl)
theorem dX0_when_24 : decode cX0_when 24 = .ok (.pop, 1) := dk_87 (dk_at dksX0_when_1 0 rfl rfl)
theorem dX0_when_25 : decode cX0_when 25 = .ok (.iconst 0, 1) := dk_3 (dk_at dksX0_when_1 1 rfl rfl)
theorem dX0_when_26 : decode cX0_when 26 = .ok (.istore_n 3, 1) := dk_62 (dk_at dksX0_when_1 2 rfl rfl)
theorem dX0_when_27 : decode cX0_when 27 = .ok (.iload_n 3, 1) := dk_29 (dk_at dksX0_when_1 3 rfl rfl)
theorem dX0_when_28 : decode cX0_when 28 = .ok (.aload_n 0, 1) := dk_42 (dk_at dksX0_when_1 4 rfl rfl)
theorem dX0_when_29 : decode cX0_when 29 = .ok (.getfield 41, 3) := dk_180 0 41 (dk_at dksX0_when_1 5 rfl rfl)
theorem dX0_when_32 : decode cX0_when 32 = .ok (.getfield 137, 3) := dk_180 0 137 (dk_at dksX0_when_1 8 rfl rfl)
theorem dX0_when_35 : decode cX0_when 35 = .ok (.if_icmp .gt 26, 3) := dk_163 0 26 (dk_at dksX0_when_1 11 rfl rfl)
theorem dX0_when_38 : decode cX0_when 38 = .ok (.aload_n 0, 1) := dk_42 (dk_at dksX0_when_1 14 rfl rfl)
theorem dX0_when_39 : decode cX0_when 39 = .ok (.getfield 52, 3) := dk_180 0 52 (dk_at dksX0_when_1 15 rfl rfl)
theorem dX0_when_42 : decode cX0_when 42 = .ok (.getfield 196, 3) := dk_180 0 196 (dk_at dksX0_when_1 18 rfl rfl)
theorem dX0_when_45 : decode cX0_when 45 = .ok (.iload_n 1, 1) := dk_27 (dk_at dksX0_when_1 21 rfl rfl)
theorem dX0_when_46 : decode cX0_when 46 = .ok (.aaload, 1) := dk_50 (dk_at dksX0_when_1 22 rfl rfl)
theorem dX0_when_47 : decode cX0_when 47 = .ok (.iload_n 3, 1) := dk_29 (dk_at dksX0_when_1 23 rfl rfl)
theorem dX0_when_48 : decode cX0_when 48 = .ok (.iaload, 1) := dk_46 (dk_at dksX0_when_2 0 rfl rfl)
theorem dX0_when_49 : decode cX0_when 49 = .ok (.iload_n 2, 1) := dk_28 (dk_at dksX0_when_2 1 rfl rfl)
theorem dX0_when_50 : decode cX0_when 50 = .ok (.if_icmp .ne 5, 3) := dk_160 0 5 (dk_at dksX0_when_2 2 rfl rfl)
theorem dX0_when_53 : decode cX0_when 53 = .ok (.iload_n 3, 1) := dk_29 (dk_at dksX0_when_2 5 rfl rfl)
theorem dX0_when_54 : decode cX0_when 54 = .ok (.ireturn, 1) := dk_172 (dk_at dksX0_when_2 6 rfl rfl)
theorem dX0_when_55 : decode cX0_when 55 = .ok (.iinc 3 1, 3) := dk_132 3 1 (dk_at dksX0_when_2 7 rfl rfl)
theorem dX0_when_58 : decode cX0_when 58 = .ok (.goto (-31), 3) := dk_167 255 225 (dk_at dksX0_when_2 10 rfl rfl)
theorem dX0_when_61 : decode cX0_when 61 = .ok (.iconst (-1), 1) := dk_2 (dk_at dksX0_when_2 13 rfl rfl)
theorem dX0_when_62 : decode cX0_when 62 = .ok (.ireturn, 1) := dk_172 (dk_at dksX0_when_2 14 rfl rfl)
abbrev cX0_hours : ByteArray := prog_1_method_60_code
def yX0_hours : MethodName := ⟨RX0, "hours", "(I)I"⟩
def dkwX0_hours_2 : List UInt8 := [121, 129, 65, 132, 4, 1, 167, 255, 224, 32, 184, 1, 65, 172]
abbrev dktX0_hours_2 : List UInt8 := dkwX0_hours_2 ++ []
def dkwX0_hours_1 : List UInt8 := [42, 180, 0, 41, 180, 0, 137, 163, 0, 26, 32, 10, 42, 180, 0, 52, 180, 0, 196, 27, 50, 21, 4, 46]
abbrev dktX0_hours_1 : List UInt8 := dkwX0_hours_1 ++ dktX0_hours_2
def dkwX0_hours_0 : List UInt8 := [42, 27, 133, 182, 0, 146, 154, 0, 6, 16, 254, 172, 42, 182, 0, 179, 87, 9, 65, 3, 54, 4, 21, 4]
abbrev dktX0_hours_0 : List UInt8 := dkwX0_hours_0 ++ dktX0_hours_1
theorem dksX0_hours_0 : cX0_hours.data.toList.drop 0 = dktX0_hours_0 := by decide +kernel
theorem dksX0_hours_1 : cX0_hours.data.toList.drop 24 = dktX0_hours_1 := dk_seg dksX0_hours_0 24 rfl rfl
theorem dksX0_hours_2 : cX0_hours.data.toList.drop 48 = dktX0_hours_2 := dk_seg dksX0_hours_1 24 rfl rfl
theorem dX0_hours_0 : decode cX0_hours 0 = .ok (.aload_n 0, 1) := dk_42 (dk_at dksX0_hours_0 0 rfl rfl)
theorem dX0_hours_1 : decode cX0_hours 1 = .ok (.iload_n 1, 1) := dk_27 (dk_at dksX0_hours_0 1 rfl rfl)
theorem dX0_hours_2 : decode cX0_hours 2 = .ok (.i2l, 1) := dk_133 (dk_at dksX0_hours_0 2 rfl rfl)
theorem dX0_hours_3 : decode cX0_hours 3 = .ok (.invokevirtual 146, 3) := dk_182 0 146 (dk_at dksX0_hours_0 3 rfl rfl)
theorem dX0_hours_6 : decode cX0_hours 6 = .ok (.ifCond .ne 6, 3) := dk_154 0 6 (dk_at dksX0_hours_0 6 rfl rfl)
theorem dX0_hours_9 : decode cX0_hours 9 = .ok (.bipush (-2), 2) := dk_16 254 (dk_at dksX0_hours_0 9 rfl rfl)
theorem dX0_hours_11 : decode cX0_hours 11 = .ok (.ireturn, 1) := dk_172 (dk_at dksX0_hours_0 11 rfl rfl)
theorem dX0_hours_12 : decode cX0_hours 12 = .ok (.aload_n 0, 1) := dk_42 (dk_at dksX0_hours_0 12 rfl rfl)
theorem dX0_hours_13 : decode cX0_hours 13 = .ok (.invokevirtual 179, 3) := dk_182 0 179 (dk_at dksX0_hours_0 13 rfl rfl)
theorem dX0_hours_16 : decode cX0_hours 16 = .ok (.pop, 1) := dk_87 (dk_at dksX0_hours_0 16 rfl rfl)
theorem dX0_hours_17 : decode cX0_hours 17 = .ok (.lconst 0, 1) := dk_9 (dk_at dksX0_hours_0 17 rfl rfl)
theorem dX0_hours_18 : decode cX0_hours 18 = .ok (.lstore_n 2, 1) := dk_65 (dk_at dksX0_hours_0 18 rfl rfl)
theorem dX0_hours_19 : decode cX0_hours 19 = .ok (.iconst 0, 1) := dk_3 (dk_at dksX0_hours_0 19 rfl rfl)
theorem dX0_hours_20 : decode cX0_hours 20 = .ok (.istore 4, 2) := dk_54 4 (dk_at dksX0_hours_0 20 rfl rfl)
theorem dX0_hours_22 : decode cX0_hours 22 = .ok (.iload 4, 2) := dk_21 4 (dk_at dksX0_hours_0 22 rfl rfl)
theorem dX0_hours_24 : decode cX0_hours 24 = .ok (.aload_n 0, 1) := dk_42 (dk_at dksX0_hours_1 0 rfl rfl)
theorem dX0_hours_25 : decode cX0_hours 25 = .ok (.getfield 41, 3) := dk_180 0 41 (dk_at dksX0_hours_1 1 rfl rfl)
theorem dX0_hours_28 : decode cX0_hours 28 = .ok (.getfield 137, 3) := dk_180 0 137 (dk_at dksX0_hours_1 4 rfl rfl)
theorem dX0_hours_31 : decode cX0_hours 31 = .ok (.if_icmp .gt 26, 3) := dk_163 0 26 (dk_at dksX0_hours_1 7 rfl rfl)
theorem dX0_hours_34 : decode cX0_hours 34 = .ok (.lload_n 2, 1) := dk_32 (dk_at dksX0_hours_1 10 rfl rfl)
theorem dX0_hours_35 : decode cX0_hours 35 = .ok (.lconst 1, 1) := dk_10 (dk_at dksX0_hours_1 11 rfl rfl)
theorem dX0_hours_36 : decode cX0_hours 36 = .ok (.aload_n 0, 1) := dk_42 (dk_at dksX0_hours_1 12 rfl rfl)
theorem dX0_hours_37 : decode cX0_hours 37 = .ok (.getfield 52, 3) := dk_180 0 52 (dk_at dksX0_hours_1 13 rfl rfl)
theorem dX0_hours_40 : decode cX0_hours 40 = .ok (.getfield 196, 3) := dk_180 0 196 (dk_at dksX0_hours_1 16 rfl rfl)
theorem dX0_hours_43 : decode cX0_hours 43 = .ok (.iload_n 1, 1) := dk_27 (dk_at dksX0_hours_1 19 rfl rfl)
theorem dX0_hours_44 : decode cX0_hours 44 = .ok (.aaload, 1) := dk_50 (dk_at dksX0_hours_1 20 rfl rfl)
theorem dX0_hours_45 : decode cX0_hours 45 = .ok (.iload 4, 2) := dk_21 4 (dk_at dksX0_hours_1 21 rfl rfl)
theorem dX0_hours_47 : decode cX0_hours 47 = .ok (.iaload, 1) := dk_46 (dk_at dksX0_hours_1 23 rfl rfl)
theorem dX0_hours_48 : decode cX0_hours 48 = .ok (.lshl, 1) := dk_121 (dk_at dksX0_hours_2 0 rfl rfl)
theorem dX0_hours_49 : decode cX0_hours 49 = .ok (.lor, 1) := dk_129 (dk_at dksX0_hours_2 1 rfl rfl)
theorem dX0_hours_50 : decode cX0_hours 50 = .ok (.lstore_n 2, 1) := dk_65 (dk_at dksX0_hours_2 2 rfl rfl)
theorem dX0_hours_51 : decode cX0_hours 51 = .ok (.iinc 4 1, 3) := dk_132 4 1 (dk_at dksX0_hours_2 3 rfl rfl)
theorem dX0_hours_54 : decode cX0_hours 54 = .ok (.goto (-32), 3) := dk_167 255 224 (dk_at dksX0_hours_2 6 rfl rfl)
theorem dX0_hours_57 : decode cX0_hours 57 = .ok (.lload_n 2, 1) := dk_32 (dk_at dksX0_hours_2 9 rfl rfl)
theorem dX0_hours_58 : decode cX0_hours 58 = .ok (.invokestatic 321, 3) := dk_184 1 65 (dk_at dksX0_hours_2 10 rfl rfl)
theorem dX0_hours_61 : decode cX0_hours 61 = .ok (.ireturn, 1) := dk_172 (dk_at dksX0_hours_2 13 rfl rfl)
abbrev cX0_without : ByteArray := prog_1_method_61_code
def yX0_without : MethodName := ⟨RX0, "without", "(III)I"⟩
def dkwX0_without_2 : List UInt8 := [120, 128, 182, 0, 156, 42, 180, 0, 52, 182, 0, 159, 42, 180, 0, 52, 180, 0, 196, 28, 50, 29, 46, 172]
abbrev dktX0_without_2 : List UInt8 := dkwX0_without_2 ++ []
def dkwX0_without_1 : List UInt8 := [154, 0, 6, 16, 254, 172, 42, 180, 0, 52, 42, 180, 0, 41, 42, 180, 0, 45, 42, 180, 0, 113, 4, 27]
abbrev dktX0_without_1 : List UInt8 := dkwX0_without_1 ++ dktX0_without_2
def dkwX0_without_0 : List UInt8 := [42, 27, 182, 0, 162, 153, 0, 21, 42, 28, 133, 182, 0, 146, 153, 0, 12, 42, 29, 133, 182, 0, 150]
abbrev dktX0_without_0 : List UInt8 := dkwX0_without_0 ++ dktX0_without_1
theorem dksX0_without_0 : cX0_without.data.toList.drop 0 = dktX0_without_0 := by decide +kernel
theorem dksX0_without_1 : cX0_without.data.toList.drop 23 = dktX0_without_1 := dk_seg dksX0_without_0 23 rfl rfl
theorem dksX0_without_2 : cX0_without.data.toList.drop 47 = dktX0_without_2 := dk_seg dksX0_without_1 24 rfl rfl
theorem dX0_without_0 : decode cX0_without 0 = .ok (.aload_n 0, 1) := dk_42 (dk_at dksX0_without_0 0 rfl rfl)
theorem dX0_without_1 : decode cX0_without 1 = .ok (.iload_n 1, 1) := dk_27 (dk_at dksX0_without_0 1 rfl rfl)
theorem dX0_without_2 : decode cX0_without 2 = .ok (.invokevirtual 162, 3) := dk_182 0 162 (dk_at dksX0_without_0 2 rfl rfl)
theorem dX0_without_5 : decode cX0_without 5 = .ok (.ifCond .eq 21, 3) := dk_153 0 21 (dk_at dksX0_without_0 5 rfl rfl)
theorem dX0_without_8 : decode cX0_without 8 = .ok (.aload_n 0, 1) := dk_42 (dk_at dksX0_without_0 8 rfl rfl)
theorem dX0_without_9 : decode cX0_without 9 = .ok (.iload_n 2, 1) := dk_28 (dk_at dksX0_without_0 9 rfl rfl)
theorem dX0_without_10 : decode cX0_without 10 = .ok (.i2l, 1) := dk_133 (dk_at dksX0_without_0 10 rfl rfl)
theorem dX0_without_11 : decode cX0_without 11 = .ok (.invokevirtual 146, 3) := dk_182 0 146 (dk_at dksX0_without_0 11 rfl rfl)
theorem dX0_without_14 : decode cX0_without 14 = .ok (.ifCond .eq 12, 3) := dk_153 0 12 (dk_at dksX0_without_0 14 rfl rfl)
theorem dX0_without_17 : decode cX0_without 17 = .ok (.aload_n 0, 1) := dk_42 (dk_at dksX0_without_0 17 rfl rfl)
theorem dX0_without_18 : decode cX0_without 18 = .ok (.iload_n 3, 1) := dk_29 (dk_at dksX0_without_0 18 rfl rfl)
theorem dX0_without_19 : decode cX0_without 19 = .ok (.i2l, 1) := dk_133 (dk_at dksX0_without_0 19 rfl rfl)
theorem dX0_without_20 : decode cX0_without 20 = .ok (.invokevirtual 150, 3) := dk_182 0 150 (dk_at dksX0_without_0 20 rfl rfl)
theorem dX0_without_23 : decode cX0_without 23 = .ok (.ifCond .ne 6, 3) := dk_154 0 6 (dk_at dksX0_without_1 0 rfl rfl)
theorem dX0_without_26 : decode cX0_without 26 = .ok (.bipush (-2), 2) := dk_16 254 (dk_at dksX0_without_1 3 rfl rfl)
theorem dX0_without_28 : decode cX0_without 28 = .ok (.ireturn, 1) := dk_172 (dk_at dksX0_without_1 5 rfl rfl)
theorem dX0_without_29 : decode cX0_without 29 = .ok (.aload_n 0, 1) := dk_42 (dk_at dksX0_without_1 6 rfl rfl)
theorem dX0_without_30 : decode cX0_without 30 = .ok (.getfield 52, 3) := dk_180 0 52 (dk_at dksX0_without_1 7 rfl rfl)
theorem dX0_without_33 : decode cX0_without 33 = .ok (.aload_n 0, 1) := dk_42 (dk_at dksX0_without_1 10 rfl rfl)
theorem dX0_without_34 : decode cX0_without 34 = .ok (.getfield 41, 3) := dk_180 0 41 (dk_at dksX0_without_1 11 rfl rfl)
theorem dX0_without_37 : decode cX0_without 37 = .ok (.aload_n 0, 1) := dk_42 (dk_at dksX0_without_1 14 rfl rfl)
theorem dX0_without_38 : decode cX0_without 38 = .ok (.getfield 45, 3) := dk_180 0 45 (dk_at dksX0_without_1 15 rfl rfl)
theorem dX0_without_41 : decode cX0_without 41 = .ok (.aload_n 0, 1) := dk_42 (dk_at dksX0_without_1 18 rfl rfl)
theorem dX0_without_42 : decode cX0_without 42 = .ok (.getfield 113, 3) := dk_180 0 113 (dk_at dksX0_without_1 19 rfl rfl)
theorem dX0_without_45 : decode cX0_without 45 = .ok (.iconst 1, 1) := dk_4 (dk_at dksX0_without_1 22 rfl rfl)
theorem dX0_without_46 : decode cX0_without 46 = .ok (.iload_n 1, 1) := dk_27 (dk_at dksX0_without_1 23 rfl rfl)
theorem dX0_without_47 : decode cX0_without 47 = .ok (.ishl, 1) := dk_120 (dk_at dksX0_without_2 0 rfl rfl)
theorem dX0_without_48 : decode cX0_without 48 = .ok (.ior, 1) := dk_128 (dk_at dksX0_without_2 1 rfl rfl)
theorem dX0_without_49 : decode cX0_without 49 = .ok (.invokevirtual 156, 3) := dk_182 0 156 (dk_at dksX0_without_2 2 rfl rfl)
theorem dX0_without_52 : decode cX0_without 52 = .ok (.aload_n 0, 1) := dk_42 (dk_at dksX0_without_2 5 rfl rfl)
theorem dX0_without_53 : decode cX0_without 53 = .ok (.getfield 52, 3) := dk_180 0 52 (dk_at dksX0_without_2 6 rfl rfl)
theorem dX0_without_56 : decode cX0_without 56 = .ok (.invokevirtual 159, 3) := dk_182 0 159 (dk_at dksX0_without_2 9 rfl rfl)
theorem dX0_without_59 : decode cX0_without 59 = .ok (.aload_n 0, 1) := dk_42 (dk_at dksX0_without_2 12 rfl rfl)
theorem dX0_without_60 : decode cX0_without 60 = .ok (.getfield 52, 3) := dk_180 0 52 (dk_at dksX0_without_2 13 rfl rfl)
theorem dX0_without_63 : decode cX0_without 63 = .ok (.getfield 196, 3) := dk_180 0 196 (dk_at dksX0_without_2 16 rfl rfl)
theorem dX0_without_66 : decode cX0_without 66 = .ok (.iload_n 2, 1) := dk_28 (dk_at dksX0_without_2 19 rfl rfl)
theorem dX0_without_67 : decode cX0_without 67 = .ok (.aaload, 1) := dk_50 (dk_at dksX0_without_2 20 rfl rfl)
theorem dX0_without_68 : decode cX0_without 68 = .ok (.iload_n 3, 1) := dk_29 (dk_at dksX0_without_2 21 rfl rfl)
theorem dX0_without_69 : decode cX0_without 69 = .ok (.iaload, 1) := dk_46 (dk_at dksX0_without_2 22 rfl rfl)
theorem dX0_without_70 : decode cX0_without 70 = .ok (.ireturn, 1) := dk_172 (dk_at dksX0_without_2 23 rfl rfl)
abbrev cX0_hush : ByteArray := prog_1_method_63_code
def yX0_hush : MethodName := ⟨RX0, "hush", "(IIII)I"⟩
def dkwX0_hush_5 : List UInt8 := [21, 5, 2, 159, 0, 9, 21, 4, 4, 160, 0, 8, 21, 5, 167, 0, 8, 21, 5, 184, 1, 11, 172]
abbrev dktX0_hush_5 : List UInt8 := dkwX0_hush_5 ++ []
def dkwX0_hush_4 : List UInt8 := [182, 0, 159, 42, 27, 28, 29, 182, 1, 70, 153, 0, 7, 21, 6, 54, 5, 132, 6, 1, 167, 255, 182]
abbrev dktX0_hush_4 : List UInt8 := dkwX0_hush_4 ++ dktX0_hush_5
def dkwX0_hush_3 : List UInt8 := [167, 0, 41, 42, 180, 0, 52, 42, 180, 0, 41, 42, 180, 0, 45, 21, 6, 182, 0, 156, 42, 180, 0, 52]
abbrev dktX0_hush_3 : List UInt8 := dkwX0_hush_3 ++ dktX0_hush_4
def dkwX0_hush_2 : List UInt8 := [162, 0, 69, 21, 5, 2, 159, 0, 19, 21, 6, 184, 1, 11, 21, 5, 184, 1, 11, 161, 0, 6]
abbrev dktX0_hush_2 : List UInt8 := dkwX0_hush_2 ++ dktX0_hush_3
def dkwX0_hush_1 : List UInt8 := [184, 0, 5, 154, 0, 6, 16, 254, 172, 2, 54, 5, 3, 54, 6, 21, 6, 4, 42, 182, 0, 133, 120]
abbrev dktX0_hush_1 : List UInt8 := dkwX0_hush_1 ++ dktX0_hush_2
def dkwX0_hush_0 : List UInt8 := [42, 27, 28, 182, 0, 214, 153, 0, 23, 42, 29, 133, 182, 0, 150, 153, 0, 14, 21, 4, 133, 9, 10]
abbrev dktX0_hush_0 : List UInt8 := dkwX0_hush_0 ++ dktX0_hush_1
theorem dksX0_hush_0 : cX0_hush.data.toList.drop 0 = dktX0_hush_0 := by decide +kernel
theorem dksX0_hush_1 : cX0_hush.data.toList.drop 23 = dktX0_hush_1 := dk_seg dksX0_hush_0 23 rfl rfl
theorem dksX0_hush_2 : cX0_hush.data.toList.drop 46 = dktX0_hush_2 := dk_seg dksX0_hush_1 23 rfl rfl
theorem dksX0_hush_3 : cX0_hush.data.toList.drop 68 = dktX0_hush_3 := dk_seg dksX0_hush_2 22 rfl rfl
theorem dksX0_hush_4 : cX0_hush.data.toList.drop 92 = dktX0_hush_4 := dk_seg dksX0_hush_3 24 rfl rfl
theorem dksX0_hush_5 : cX0_hush.data.toList.drop 115 = dktX0_hush_5 := dk_seg dksX0_hush_4 23 rfl rfl
theorem dX0_hush_0 : decode cX0_hush 0 = .ok (.aload_n 0, 1) := dk_42 (dk_at dksX0_hush_0 0 rfl rfl)
theorem dX0_hush_1 : decode cX0_hush 1 = .ok (.iload_n 1, 1) := dk_27 (dk_at dksX0_hush_0 1 rfl rfl)
theorem dX0_hush_2 : decode cX0_hush 2 = .ok (.iload_n 2, 1) := dk_28 (dk_at dksX0_hush_0 2 rfl rfl)
theorem dX0_hush_3 : decode cX0_hush 3 = .ok (.invokevirtual 214, 3) := dk_182 0 214 (dk_at dksX0_hush_0 3 rfl rfl)
theorem dX0_hush_6 : decode cX0_hush 6 = .ok (.ifCond .eq 23, 3) := dk_153 0 23 (dk_at dksX0_hush_0 6 rfl rfl)
theorem dX0_hush_9 : decode cX0_hush 9 = .ok (.aload_n 0, 1) := dk_42 (dk_at dksX0_hush_0 9 rfl rfl)
theorem dX0_hush_10 : decode cX0_hush 10 = .ok (.iload_n 3, 1) := dk_29 (dk_at dksX0_hush_0 10 rfl rfl)
theorem dX0_hush_11 : decode cX0_hush 11 = .ok (.i2l, 1) := dk_133 (dk_at dksX0_hush_0 11 rfl rfl)
theorem dX0_hush_12 : decode cX0_hush 12 = .ok (.invokevirtual 150, 3) := dk_182 0 150 (dk_at dksX0_hush_0 12 rfl rfl)
theorem dX0_hush_15 : decode cX0_hush 15 = .ok (.ifCond .eq 14, 3) := dk_153 0 14 (dk_at dksX0_hush_0 15 rfl rfl)
theorem dX0_hush_18 : decode cX0_hush 18 = .ok (.iload 4, 2) := dk_21 4 (dk_at dksX0_hush_0 18 rfl rfl)
theorem dX0_hush_20 : decode cX0_hush 20 = .ok (.i2l, 1) := dk_133 (dk_at dksX0_hush_0 20 rfl rfl)
theorem dX0_hush_21 : decode cX0_hush 21 = .ok (.lconst 0, 1) := dk_9 (dk_at dksX0_hush_0 21 rfl rfl)
theorem dX0_hush_22 : decode cX0_hush 22 = .ok (.lconst 1, 1) := dk_10 (dk_at dksX0_hush_0 22 rfl rfl)
theorem dX0_hush_23 : decode cX0_hush 23 = .ok (.invokestatic 5, 3) := dk_184 0 5 (dk_at dksX0_hush_1 0 rfl rfl)
theorem dX0_hush_26 : decode cX0_hush 26 = .ok (.ifCond .ne 6, 3) := dk_154 0 6 (dk_at dksX0_hush_1 3 rfl rfl)
theorem dX0_hush_29 : decode cX0_hush 29 = .ok (.bipush (-2), 2) := dk_16 254 (dk_at dksX0_hush_1 6 rfl rfl)
theorem dX0_hush_31 : decode cX0_hush 31 = .ok (.ireturn, 1) := dk_172 (dk_at dksX0_hush_1 8 rfl rfl)
theorem dX0_hush_32 : decode cX0_hush 32 = .ok (.iconst (-1), 1) := dk_2 (dk_at dksX0_hush_1 9 rfl rfl)
theorem dX0_hush_33 : decode cX0_hush 33 = .ok (.istore 5, 2) := dk_54 5 (dk_at dksX0_hush_1 10 rfl rfl)
theorem dX0_hush_35 : decode cX0_hush 35 = .ok (.iconst 0, 1) := dk_3 (dk_at dksX0_hush_1 12 rfl rfl)
theorem dX0_hush_36 : decode cX0_hush 36 = .ok (.istore 6, 2) := dk_54 6 (dk_at dksX0_hush_1 13 rfl rfl)
theorem dX0_hush_38 : decode cX0_hush 38 = .ok (.iload 6, 2) := dk_21 6 (dk_at dksX0_hush_1 15 rfl rfl)
theorem dX0_hush_40 : decode cX0_hush 40 = .ok (.iconst 1, 1) := dk_4 (dk_at dksX0_hush_1 17 rfl rfl)
theorem dX0_hush_41 : decode cX0_hush 41 = .ok (.aload_n 0, 1) := dk_42 (dk_at dksX0_hush_1 18 rfl rfl)
theorem dX0_hush_42 : decode cX0_hush 42 = .ok (.invokevirtual 133, 3) := dk_182 0 133 (dk_at dksX0_hush_1 19 rfl rfl)
theorem dX0_hush_45 : decode cX0_hush 45 = .ok (.ishl, 1) := dk_120 (dk_at dksX0_hush_1 22 rfl rfl)
theorem dX0_hush_46 : decode cX0_hush 46 = .ok (.if_icmp .ge 69, 3) := dk_162 0 69 (dk_at dksX0_hush_2 0 rfl rfl)
theorem dX0_hush_49 : decode cX0_hush 49 = .ok (.iload 5, 2) := dk_21 5 (dk_at dksX0_hush_2 3 rfl rfl)
theorem dX0_hush_51 : decode cX0_hush 51 = .ok (.iconst (-1), 1) := dk_2 (dk_at dksX0_hush_2 5 rfl rfl)
theorem dX0_hush_52 : decode cX0_hush 52 = .ok (.if_icmp .eq 19, 3) := dk_159 0 19 (dk_at dksX0_hush_2 6 rfl rfl)
theorem dX0_hush_55 : decode cX0_hush 55 = .ok (.iload 6, 2) := dk_21 6 (dk_at dksX0_hush_2 9 rfl rfl)
theorem dX0_hush_57 : decode cX0_hush 57 = .ok (.invokestatic 267, 3) := dk_184 1 11 (dk_at dksX0_hush_2 11 rfl rfl)
theorem dX0_hush_60 : decode cX0_hush 60 = .ok (.iload 5, 2) := dk_21 5 (dk_at dksX0_hush_2 14 rfl rfl)
theorem dX0_hush_62 : decode cX0_hush 62 = .ok (.invokestatic 267, 3) := dk_184 1 11 (dk_at dksX0_hush_2 16 rfl rfl)
theorem dX0_hush_65 : decode cX0_hush 65 = .ok (.if_icmp .lt 6, 3) := dk_161 0 6 (dk_at dksX0_hush_2 19 rfl rfl)
theorem dX0_hush_68 : decode cX0_hush 68 = .ok (.goto 41, 3) := dk_167 0 41 (dk_at dksX0_hush_3 0 rfl rfl)
theorem dX0_hush_71 : decode cX0_hush 71 = .ok (.aload_n 0, 1) := dk_42 (dk_at dksX0_hush_3 3 rfl rfl)
theorem dX0_hush_72 : decode cX0_hush 72 = .ok (.getfield 52, 3) := dk_180 0 52 (dk_at dksX0_hush_3 4 rfl rfl)
theorem dX0_hush_75 : decode cX0_hush 75 = .ok (.aload_n 0, 1) := dk_42 (dk_at dksX0_hush_3 7 rfl rfl)
theorem dX0_hush_76 : decode cX0_hush 76 = .ok (.getfield 41, 3) := dk_180 0 41 (dk_at dksX0_hush_3 8 rfl rfl)
theorem dX0_hush_79 : decode cX0_hush 79 = .ok (.aload_n 0, 1) := dk_42 (dk_at dksX0_hush_3 11 rfl rfl)
theorem dX0_hush_80 : decode cX0_hush 80 = .ok (.getfield 45, 3) := dk_180 0 45 (dk_at dksX0_hush_3 12 rfl rfl)
theorem dX0_hush_83 : decode cX0_hush 83 = .ok (.iload 6, 2) := dk_21 6 (dk_at dksX0_hush_3 15 rfl rfl)
theorem dX0_hush_85 : decode cX0_hush 85 = .ok (.invokevirtual 156, 3) := dk_182 0 156 (dk_at dksX0_hush_3 17 rfl rfl)
theorem dX0_hush_88 : decode cX0_hush 88 = .ok (.aload_n 0, 1) := dk_42 (dk_at dksX0_hush_3 20 rfl rfl)
theorem dX0_hush_89 : decode cX0_hush 89 = .ok (.getfield 52, 3) := dk_180 0 52 (dk_at dksX0_hush_3 21 rfl rfl)
theorem dX0_hush_92 : decode cX0_hush 92 = .ok (.invokevirtual 159, 3) := dk_182 0 159 (dk_at dksX0_hush_4 0 rfl rfl)
theorem dX0_hush_95 : decode cX0_hush 95 = .ok (.aload_n 0, 1) := dk_42 (dk_at dksX0_hush_4 3 rfl rfl)
theorem dX0_hush_96 : decode cX0_hush 96 = .ok (.iload_n 1, 1) := dk_27 (dk_at dksX0_hush_4 4 rfl rfl)
theorem dX0_hush_97 : decode cX0_hush 97 = .ok (.iload_n 2, 1) := dk_28 (dk_at dksX0_hush_4 5 rfl rfl)
theorem dX0_hush_98 : decode cX0_hush 98 = .ok (.iload_n 3, 1) := dk_29 (dk_at dksX0_hush_4 6 rfl rfl)
theorem dX0_hush_99 : decode cX0_hush 99 = .ok (.invokevirtual 326, 3) := dk_182 1 70 (dk_at dksX0_hush_4 7 rfl rfl)
theorem dX0_hush_102 : decode cX0_hush 102 = .ok (.ifCond .eq 7, 3) := dk_153 0 7 (dk_at dksX0_hush_4 10 rfl rfl)
theorem dX0_hush_105 : decode cX0_hush 105 = .ok (.iload 6, 2) := dk_21 6 (dk_at dksX0_hush_4 13 rfl rfl)
theorem dX0_hush_107 : decode cX0_hush 107 = .ok (.istore 5, 2) := dk_54 5 (dk_at dksX0_hush_4 15 rfl rfl)
theorem dX0_hush_109 : decode cX0_hush 109 = .ok (.iinc 6 1, 3) := dk_132 6 1 (dk_at dksX0_hush_4 17 rfl rfl)
theorem dX0_hush_112 : decode cX0_hush 112 = .ok (.goto (-74), 3) := dk_167 255 182 (dk_at dksX0_hush_4 20 rfl rfl)
theorem dX0_hush_115 : decode cX0_hush 115 = .ok (.iload 5, 2) := dk_21 5 (dk_at dksX0_hush_5 0 rfl rfl)
theorem dX0_hush_117 : decode cX0_hush 117 = .ok (.iconst (-1), 1) := dk_2 (dk_at dksX0_hush_5 2 rfl rfl)
theorem dX0_hush_118 : decode cX0_hush 118 = .ok (.if_icmp .eq 9, 3) := dk_159 0 9 (dk_at dksX0_hush_5 3 rfl rfl)
theorem dX0_hush_121 : decode cX0_hush 121 = .ok (.iload 4, 2) := dk_21 4 (dk_at dksX0_hush_5 6 rfl rfl)
theorem dX0_hush_123 : decode cX0_hush 123 = .ok (.iconst 1, 1) := dk_4 (dk_at dksX0_hush_5 8 rfl rfl)
theorem dX0_hush_124 : decode cX0_hush 124 = .ok (.if_icmp .ne 8, 3) := dk_160 0 8 (dk_at dksX0_hush_5 9 rfl rfl)
theorem dX0_hush_127 : decode cX0_hush 127 = .ok (.iload 5, 2) := dk_21 5 (dk_at dksX0_hush_5 12 rfl rfl)
theorem dX0_hush_129 : decode cX0_hush 129 = .ok (.goto 8, 3) := dk_167 0 8 (dk_at dksX0_hush_5 14 rfl rfl)
theorem dX0_hush_132 : decode cX0_hush 132 = .ok (.iload 5, 2) := dk_21 5 (dk_at dksX0_hush_5 17 rfl rfl)
theorem dX0_hush_134 : decode cX0_hush 134 = .ok (.invokestatic 267, 3) := dk_184 1 11 (dk_at dksX0_hush_5 19 rfl rfl)
theorem dX0_hush_137 : decode cX0_hush 137 = .ok (.ireturn, 1) := dk_172 (dk_at dksX0_hush_5 22 rfl rfl)
abbrev cX0_rings : ByteArray := prog_1_method_62_code
def yX0_rings : MethodName := ⟨RX0, "rings", "(III)Z"⟩
def dkwX0_rings_1 : List UInt8 := [132, 4, 1, 167, 255, 234, 3, 172]
abbrev dktX0_rings_1 : List UInt8 := dkwX0_rings_1 ++ []
def dkwX0_rings_0 : List UInt8 := [3, 54, 4, 21, 4, 29, 163, 0, 22, 42, 21, 4, 28, 182, 0, 217, 27, 161, 0, 5, 4, 172]
abbrev dktX0_rings_0 : List UInt8 := dkwX0_rings_0 ++ dktX0_rings_1
theorem dksX0_rings_0 : cX0_rings.data.toList.drop 0 = dktX0_rings_0 := by decide +kernel
theorem dksX0_rings_1 : cX0_rings.data.toList.drop 22 = dktX0_rings_1 := dk_seg dksX0_rings_0 22 rfl rfl
theorem dX0_rings_0 : decode cX0_rings 0 = .ok (.iconst 0, 1) := dk_3 (dk_at dksX0_rings_0 0 rfl rfl)
theorem dX0_rings_1 : decode cX0_rings 1 = .ok (.istore 4, 2) := dk_54 4 (dk_at dksX0_rings_0 1 rfl rfl)
theorem dX0_rings_3 : decode cX0_rings 3 = .ok (.iload 4, 2) := dk_21 4 (dk_at dksX0_rings_0 3 rfl rfl)
theorem dX0_rings_5 : decode cX0_rings 5 = .ok (.iload_n 3, 1) := dk_29 (dk_at dksX0_rings_0 5 rfl rfl)
theorem dX0_rings_6 : decode cX0_rings 6 = .ok (.if_icmp .gt 22, 3) := dk_163 0 22 (dk_at dksX0_rings_0 6 rfl rfl)
theorem dX0_rings_9 : decode cX0_rings 9 = .ok (.aload_n 0, 1) := dk_42 (dk_at dksX0_rings_0 9 rfl rfl)
theorem dX0_rings_10 : decode cX0_rings 10 = .ok (.iload 4, 2) := dk_21 4 (dk_at dksX0_rings_0 10 rfl rfl)
theorem dX0_rings_12 : decode cX0_rings 12 = .ok (.iload_n 2, 1) := dk_28 (dk_at dksX0_rings_0 12 rfl rfl)
theorem dX0_rings_13 : decode cX0_rings 13 = .ok (.invokevirtual 217, 3) := dk_182 0 217 (dk_at dksX0_rings_0 13 rfl rfl)
theorem dX0_rings_16 : decode cX0_rings 16 = .ok (.iload_n 1, 1) := dk_27 (dk_at dksX0_rings_0 16 rfl rfl)
theorem dX0_rings_17 : decode cX0_rings 17 = .ok (.if_icmp .lt 5, 3) := dk_161 0 5 (dk_at dksX0_rings_0 17 rfl rfl)
theorem dX0_rings_20 : decode cX0_rings 20 = .ok (.iconst 1, 1) := dk_4 (dk_at dksX0_rings_0 20 rfl rfl)
theorem dX0_rings_21 : decode cX0_rings 21 = .ok (.ireturn, 1) := dk_172 (dk_at dksX0_rings_0 21 rfl rfl)
theorem dX0_rings_22 : decode cX0_rings 22 = .ok (.iinc 4 1, 3) := dk_132 4 1 (dk_at dksX0_rings_1 0 rfl rfl)
theorem dX0_rings_25 : decode cX0_rings 25 = .ok (.goto (-22), 3) := dk_167 255 234 (dk_at dksX0_rings_1 3 rfl rfl)
theorem dX0_rings_28 : decode cX0_rings 28 = .ok (.iconst 0, 1) := dk_3 (dk_at dksX0_rings_1 6 rfl rfl)
theorem dX0_rings_29 : decode cX0_rings 29 = .ok (.ireturn, 1) := dk_172 (dk_at dksX0_rings_1 7 rfl rfl)
abbrev cX0_call : ByteArray := prog_1_method_64_code
def yX0_call : MethodName := ⟨RX0, "call", "(IZ)I"⟩
def dkwX0_call_1 : List UInt8 := [172, 42, 89, 180, 0, 113, 4, 27, 120, 130, 181, 0, 113, 4, 172]
abbrev dktX0_call_1 : List UInt8 := dkwX0_call_1 ++ []
def dkwX0_call_0 : List UInt8 := [42, 27, 182, 0, 162, 154, 0, 6, 16, 254, 172, 42, 180, 0, 113, 27, 184, 0, 168, 28, 160, 0, 5, 3]
abbrev dktX0_call_0 : List UInt8 := dkwX0_call_0 ++ dktX0_call_1
theorem dksX0_call_0 : cX0_call.data.toList.drop 0 = dktX0_call_0 := by decide +kernel
theorem dksX0_call_1 : cX0_call.data.toList.drop 24 = dktX0_call_1 := dk_seg dksX0_call_0 24 rfl rfl
theorem dX0_call_0 : decode cX0_call 0 = .ok (.aload_n 0, 1) := dk_42 (dk_at dksX0_call_0 0 rfl rfl)
theorem dX0_call_1 : decode cX0_call 1 = .ok (.iload_n 1, 1) := dk_27 (dk_at dksX0_call_0 1 rfl rfl)
theorem dX0_call_2 : decode cX0_call 2 = .ok (.invokevirtual 162, 3) := dk_182 0 162 (dk_at dksX0_call_0 2 rfl rfl)
theorem dX0_call_5 : decode cX0_call 5 = .ok (.ifCond .ne 6, 3) := dk_154 0 6 (dk_at dksX0_call_0 5 rfl rfl)
theorem dX0_call_8 : decode cX0_call 8 = .ok (.bipush (-2), 2) := dk_16 254 (dk_at dksX0_call_0 8 rfl rfl)
theorem dX0_call_10 : decode cX0_call 10 = .ok (.ireturn, 1) := dk_172 (dk_at dksX0_call_0 10 rfl rfl)
theorem dX0_call_11 : decode cX0_call 11 = .ok (.aload_n 0, 1) := dk_42 (dk_at dksX0_call_0 11 rfl rfl)
theorem dX0_call_12 : decode cX0_call 12 = .ok (.getfield 113, 3) := dk_180 0 113 (dk_at dksX0_call_0 12 rfl rfl)
theorem dX0_call_15 : decode cX0_call 15 = .ok (.iload_n 1, 1) := dk_27 (dk_at dksX0_call_0 15 rfl rfl)
theorem dX0_call_16 : decode cX0_call 16 = .ok (.invokestatic 168, 3) := dk_184 0 168 (dk_at dksX0_call_0 16 rfl rfl)
theorem dX0_call_19 : decode cX0_call 19 = .ok (.iload_n 2, 1) := dk_28 (dk_at dksX0_call_0 19 rfl rfl)
theorem dX0_call_20 : decode cX0_call 20 = .ok (.if_icmp .ne 5, 3) := dk_160 0 5 (dk_at dksX0_call_0 20 rfl rfl)
theorem dX0_call_23 : decode cX0_call 23 = .ok (.iconst 0, 1) := dk_3 (dk_at dksX0_call_0 23 rfl rfl)
theorem dX0_call_24 : decode cX0_call 24 = .ok (.ireturn, 1) := dk_172 (dk_at dksX0_call_1 0 rfl rfl)
theorem dX0_call_25 : decode cX0_call 25 = .ok (.aload_n 0, 1) := dk_42 (dk_at dksX0_call_1 1 rfl rfl)
theorem dX0_call_26 : decode cX0_call 26 = .ok (.dup, 1) := dk_89 (dk_at dksX0_call_1 2 rfl rfl)
theorem dX0_call_27 : decode cX0_call 27 = .ok (.getfield 113, 3) := dk_180 0 113 (dk_at dksX0_call_1 3 rfl rfl)
theorem dX0_call_30 : decode cX0_call 30 = .ok (.iconst 1, 1) := dk_4 (dk_at dksX0_call_1 6 rfl rfl)
theorem dX0_call_31 : decode cX0_call 31 = .ok (.iload_n 1, 1) := dk_27 (dk_at dksX0_call_1 7 rfl rfl)
theorem dX0_call_32 : decode cX0_call 32 = .ok (.ishl, 1) := dk_120 (dk_at dksX0_call_1 8 rfl rfl)
theorem dX0_call_33 : decode cX0_call 33 = .ok (.ixor, 1) := dk_130 (dk_at dksX0_call_1 9 rfl rfl)
theorem dX0_call_34 : decode cX0_call 34 = .ok (.putfield 113, 3) := dk_181 0 113 (dk_at dksX0_call_1 10 rfl rfl)
theorem dX0_call_37 : decode cX0_call 37 = .ok (.iconst 1, 1) := dk_4 (dk_at dksX0_call_1 13 rfl rfl)
theorem dX0_call_38 : decode cX0_call 38 = .ok (.ireturn, 1) := dk_172 (dk_at dksX0_call_1 14 rfl rfl)
abbrev cX0_away : ByteArray := prog_1_method_65_code
def yX0_away : MethodName := ⟨RX0, "away", "(IIII)I"⟩
def dkwX0_away_5 : List UInt8 := [21, 4, 4, 160, 0, 8, 21, 5, 167, 0, 8, 21, 5, 184, 1, 11, 172]
abbrev dktX0_away_5 : List UInt8 := dkwX0_away_5 ++ []
def dkwX0_away_4 : List UInt8 := [50, 28, 46, 29, 160, 0, 7, 21, 6, 54, 5, 132, 6, 1, 167, 255, 177, 21, 5, 2, 159, 0, 9]
abbrev dktX0_away_4 : List UInt8 := dkwX0_away_4 ++ dktX0_away_5
def dkwX0_away_3 : List UInt8 := [42, 180, 0, 45, 21, 6, 182, 0, 156, 42, 180, 0, 52, 182, 0, 159, 42, 180, 0, 52, 180, 0, 196, 27]
abbrev dktX0_away_3 : List UInt8 := dkwX0_away_3 ++ dktX0_away_4
def dkwX0_away_2 : List UInt8 := [21, 6, 184, 1, 11, 21, 5, 184, 1, 11, 161, 0, 6, 167, 0, 46, 42, 180, 0, 52, 42, 180, 0, 41]
abbrev dktX0_away_2 : List UInt8 := dkwX0_away_2 ++ dktX0_away_3
def dkwX0_away_1 : List UInt8 := [2, 54, 5, 3, 54, 6, 21, 6, 4, 42, 182, 0, 133, 120, 162, 0, 74, 21, 5, 2, 159, 0, 19]
abbrev dktX0_away_1 : List UInt8 := dkwX0_away_1 ++ dktX0_away_2
def dkwX0_away_0 : List UInt8 := [42, 27, 28, 29, 182, 0, 240, 153, 0, 14, 21, 4, 133, 9, 10, 184, 0, 5, 154, 0, 6, 16, 254, 172]
abbrev dktX0_away_0 : List UInt8 := dkwX0_away_0 ++ dktX0_away_1
theorem dksX0_away_0 : cX0_away.data.toList.drop 0 = dktX0_away_0 := by decide +kernel
theorem dksX0_away_1 : cX0_away.data.toList.drop 24 = dktX0_away_1 := dk_seg dksX0_away_0 24 rfl rfl
theorem dksX0_away_2 : cX0_away.data.toList.drop 47 = dktX0_away_2 := dk_seg dksX0_away_1 23 rfl rfl
theorem dksX0_away_3 : cX0_away.data.toList.drop 71 = dktX0_away_3 := dk_seg dksX0_away_2 24 rfl rfl
theorem dksX0_away_4 : cX0_away.data.toList.drop 95 = dktX0_away_4 := dk_seg dksX0_away_3 24 rfl rfl
theorem dksX0_away_5 : cX0_away.data.toList.drop 118 = dktX0_away_5 := dk_seg dksX0_away_4 23 rfl rfl
theorem dX0_away_0 : decode cX0_away 0 = .ok (.aload_n 0, 1) := dk_42 (dk_at dksX0_away_0 0 rfl rfl)
theorem dX0_away_1 : decode cX0_away 1 = .ok (.iload_n 1, 1) := dk_27 (dk_at dksX0_away_0 1 rfl rfl)
theorem dX0_away_2 : decode cX0_away 2 = .ok (.iload_n 2, 1) := dk_28 (dk_at dksX0_away_0 2 rfl rfl)
theorem dX0_away_3 : decode cX0_away 3 = .ok (.iload_n 3, 1) := dk_29 (dk_at dksX0_away_0 3 rfl rfl)
theorem dX0_away_4 : decode cX0_away 4 = .ok (.invokevirtual 240, 3) := dk_182 0 240 (dk_at dksX0_away_0 4 rfl rfl)
theorem dX0_away_7 : decode cX0_away 7 = .ok (.ifCond .eq 14, 3) := dk_153 0 14 (dk_at dksX0_away_0 7 rfl rfl)
theorem dX0_away_10 : decode cX0_away 10 = .ok (.iload 4, 2) := dk_21 4 (dk_at dksX0_away_0 10 rfl rfl)
theorem dX0_away_12 : decode cX0_away 12 = .ok (.i2l, 1) := dk_133 (dk_at dksX0_away_0 12 rfl rfl)
theorem dX0_away_13 : decode cX0_away 13 = .ok (.lconst 0, 1) := dk_9 (dk_at dksX0_away_0 13 rfl rfl)
theorem dX0_away_14 : decode cX0_away 14 = .ok (.lconst 1, 1) := dk_10 (dk_at dksX0_away_0 14 rfl rfl)
theorem dX0_away_15 : decode cX0_away 15 = .ok (.invokestatic 5, 3) := dk_184 0 5 (dk_at dksX0_away_0 15 rfl rfl)
theorem dX0_away_18 : decode cX0_away 18 = .ok (.ifCond .ne 6, 3) := dk_154 0 6 (dk_at dksX0_away_0 18 rfl rfl)
theorem dX0_away_21 : decode cX0_away 21 = .ok (.bipush (-2), 2) := dk_16 254 (dk_at dksX0_away_0 21 rfl rfl)
theorem dX0_away_23 : decode cX0_away 23 = .ok (.ireturn, 1) := dk_172 (dk_at dksX0_away_0 23 rfl rfl)
theorem dX0_away_24 : decode cX0_away 24 = .ok (.iconst (-1), 1) := dk_2 (dk_at dksX0_away_1 0 rfl rfl)
theorem dX0_away_25 : decode cX0_away 25 = .ok (.istore 5, 2) := dk_54 5 (dk_at dksX0_away_1 1 rfl rfl)
theorem dX0_away_27 : decode cX0_away 27 = .ok (.iconst 0, 1) := dk_3 (dk_at dksX0_away_1 3 rfl rfl)
theorem dX0_away_28 : decode cX0_away 28 = .ok (.istore 6, 2) := dk_54 6 (dk_at dksX0_away_1 4 rfl rfl)
theorem dX0_away_30 : decode cX0_away 30 = .ok (.iload 6, 2) := dk_21 6 (dk_at dksX0_away_1 6 rfl rfl)
theorem dX0_away_32 : decode cX0_away 32 = .ok (.iconst 1, 1) := dk_4 (dk_at dksX0_away_1 8 rfl rfl)
theorem dX0_away_33 : decode cX0_away 33 = .ok (.aload_n 0, 1) := dk_42 (dk_at dksX0_away_1 9 rfl rfl)
theorem dX0_away_34 : decode cX0_away 34 = .ok (.invokevirtual 133, 3) := dk_182 0 133 (dk_at dksX0_away_1 10 rfl rfl)
theorem dX0_away_37 : decode cX0_away 37 = .ok (.ishl, 1) := dk_120 (dk_at dksX0_away_1 13 rfl rfl)
theorem dX0_away_38 : decode cX0_away 38 = .ok (.if_icmp .ge 74, 3) := dk_162 0 74 (dk_at dksX0_away_1 14 rfl rfl)
theorem dX0_away_41 : decode cX0_away 41 = .ok (.iload 5, 2) := dk_21 5 (dk_at dksX0_away_1 17 rfl rfl)
theorem dX0_away_43 : decode cX0_away 43 = .ok (.iconst (-1), 1) := dk_2 (dk_at dksX0_away_1 19 rfl rfl)
theorem dX0_away_44 : decode cX0_away 44 = .ok (.if_icmp .eq 19, 3) := dk_159 0 19 (dk_at dksX0_away_1 20 rfl rfl)
theorem dX0_away_47 : decode cX0_away 47 = .ok (.iload 6, 2) := dk_21 6 (dk_at dksX0_away_2 0 rfl rfl)
theorem dX0_away_49 : decode cX0_away 49 = .ok (.invokestatic 267, 3) := dk_184 1 11 (dk_at dksX0_away_2 2 rfl rfl)
theorem dX0_away_52 : decode cX0_away 52 = .ok (.iload 5, 2) := dk_21 5 (dk_at dksX0_away_2 5 rfl rfl)
theorem dX0_away_54 : decode cX0_away 54 = .ok (.invokestatic 267, 3) := dk_184 1 11 (dk_at dksX0_away_2 7 rfl rfl)
theorem dX0_away_57 : decode cX0_away 57 = .ok (.if_icmp .lt 6, 3) := dk_161 0 6 (dk_at dksX0_away_2 10 rfl rfl)
theorem dX0_away_60 : decode cX0_away 60 = .ok (.goto 46, 3) := dk_167 0 46 (dk_at dksX0_away_2 13 rfl rfl)
theorem dX0_away_63 : decode cX0_away 63 = .ok (.aload_n 0, 1) := dk_42 (dk_at dksX0_away_2 16 rfl rfl)
theorem dX0_away_64 : decode cX0_away 64 = .ok (.getfield 52, 3) := dk_180 0 52 (dk_at dksX0_away_2 17 rfl rfl)
theorem dX0_away_67 : decode cX0_away 67 = .ok (.aload_n 0, 1) := dk_42 (dk_at dksX0_away_2 20 rfl rfl)
theorem dX0_away_68 : decode cX0_away 68 = .ok (.getfield 41, 3) := dk_180 0 41 (dk_at dksX0_away_2 21 rfl rfl)
theorem dX0_away_71 : decode cX0_away 71 = .ok (.aload_n 0, 1) := dk_42 (dk_at dksX0_away_3 0 rfl rfl)
theorem dX0_away_72 : decode cX0_away 72 = .ok (.getfield 45, 3) := dk_180 0 45 (dk_at dksX0_away_3 1 rfl rfl)
theorem dX0_away_75 : decode cX0_away 75 = .ok (.iload 6, 2) := dk_21 6 (dk_at dksX0_away_3 4 rfl rfl)
theorem dX0_away_77 : decode cX0_away 77 = .ok (.invokevirtual 156, 3) := dk_182 0 156 (dk_at dksX0_away_3 6 rfl rfl)
theorem dX0_away_80 : decode cX0_away 80 = .ok (.aload_n 0, 1) := dk_42 (dk_at dksX0_away_3 9 rfl rfl)
theorem dX0_away_81 : decode cX0_away 81 = .ok (.getfield 52, 3) := dk_180 0 52 (dk_at dksX0_away_3 10 rfl rfl)
theorem dX0_away_84 : decode cX0_away 84 = .ok (.invokevirtual 159, 3) := dk_182 0 159 (dk_at dksX0_away_3 13 rfl rfl)
theorem dX0_away_87 : decode cX0_away 87 = .ok (.aload_n 0, 1) := dk_42 (dk_at dksX0_away_3 16 rfl rfl)
theorem dX0_away_88 : decode cX0_away 88 = .ok (.getfield 52, 3) := dk_180 0 52 (dk_at dksX0_away_3 17 rfl rfl)
theorem dX0_away_91 : decode cX0_away 91 = .ok (.getfield 196, 3) := dk_180 0 196 (dk_at dksX0_away_3 20 rfl rfl)
theorem dX0_away_94 : decode cX0_away 94 = .ok (.iload_n 1, 1) := dk_27 (dk_at dksX0_away_3 23 rfl rfl)
theorem dX0_away_95 : decode cX0_away 95 = .ok (.aaload, 1) := dk_50 (dk_at dksX0_away_4 0 rfl rfl)
theorem dX0_away_96 : decode cX0_away 96 = .ok (.iload_n 2, 1) := dk_28 (dk_at dksX0_away_4 1 rfl rfl)
theorem dX0_away_97 : decode cX0_away 97 = .ok (.iaload, 1) := dk_46 (dk_at dksX0_away_4 2 rfl rfl)
theorem dX0_away_98 : decode cX0_away 98 = .ok (.iload_n 3, 1) := dk_29 (dk_at dksX0_away_4 3 rfl rfl)
theorem dX0_away_99 : decode cX0_away 99 = .ok (.if_icmp .ne 7, 3) := dk_160 0 7 (dk_at dksX0_away_4 4 rfl rfl)
theorem dX0_away_102 : decode cX0_away 102 = .ok (.iload 6, 2) := dk_21 6 (dk_at dksX0_away_4 7 rfl rfl)
theorem dX0_away_104 : decode cX0_away 104 = .ok (.istore 5, 2) := dk_54 5 (dk_at dksX0_away_4 9 rfl rfl)
theorem dX0_away_106 : decode cX0_away 106 = .ok (.iinc 6 1, 3) := dk_132 6 1 (dk_at dksX0_away_4 11 rfl rfl)
theorem dX0_away_109 : decode cX0_away 109 = .ok (.goto (-79), 3) := dk_167 255 177 (dk_at dksX0_away_4 14 rfl rfl)
theorem dX0_away_112 : decode cX0_away 112 = .ok (.iload 5, 2) := dk_21 5 (dk_at dksX0_away_4 17 rfl rfl)
theorem dX0_away_114 : decode cX0_away 114 = .ok (.iconst (-1), 1) := dk_2 (dk_at dksX0_away_4 19 rfl rfl)
theorem dX0_away_115 : decode cX0_away 115 = .ok (.if_icmp .eq 9, 3) := dk_159 0 9 (dk_at dksX0_away_4 20 rfl rfl)
theorem dX0_away_118 : decode cX0_away 118 = .ok (.iload 4, 2) := dk_21 4 (dk_at dksX0_away_5 0 rfl rfl)
theorem dX0_away_120 : decode cX0_away 120 = .ok (.iconst 1, 1) := dk_4 (dk_at dksX0_away_5 2 rfl rfl)
theorem dX0_away_121 : decode cX0_away 121 = .ok (.if_icmp .ne 8, 3) := dk_160 0 8 (dk_at dksX0_away_5 3 rfl rfl)
theorem dX0_away_124 : decode cX0_away 124 = .ok (.iload 5, 2) := dk_21 5 (dk_at dksX0_away_5 6 rfl rfl)
theorem dX0_away_126 : decode cX0_away 126 = .ok (.goto 8, 3) := dk_167 0 8 (dk_at dksX0_away_5 8 rfl rfl)
theorem dX0_away_129 : decode cX0_away 129 = .ok (.iload 5, 2) := dk_21 5 (dk_at dksX0_away_5 11 rfl rfl)
theorem dX0_away_131 : decode cX0_away 131 = .ok (.invokestatic 267, 3) := dk_184 1 11 (dk_at dksX0_away_5 13 rfl rfl)
theorem dX0_away_134 : decode cX0_away 134 = .ok (.ireturn, 1) := dk_172 (dk_at dksX0_away_5 16 rfl rfl)
abbrev cX0_kept : ByteArray := prog_1_method_67_code
def yX0_kept : MethodName := ⟨RX0, "kept", "(III)I"⟩
def dkwX0_kept_2 : List UInt8 := [172]
abbrev dktX0_kept_2 : List UInt8 := dkwX0_kept_2 ++ []
def dkwX0_kept_1 : List UInt8 := [182, 0, 150, 153, 0, 19, 42, 27, 28, 182, 1, 78, 180, 0, 196, 27, 50, 29, 46, 167, 0, 5, 16, 254]
abbrev dktX0_kept_1 : List UInt8 := dkwX0_kept_1 ++ dktX0_kept_2
def dkwX0_kept_0 : List UInt8 := [42, 27, 133, 182, 0, 146, 153, 0, 40, 28, 133, 9, 20, 1, 76, 184, 0, 5, 153, 0, 28, 42, 29, 133]
abbrev dktX0_kept_0 : List UInt8 := dkwX0_kept_0 ++ dktX0_kept_1
theorem dksX0_kept_0 : cX0_kept.data.toList.drop 0 = dktX0_kept_0 := by decide +kernel
theorem dksX0_kept_1 : cX0_kept.data.toList.drop 24 = dktX0_kept_1 := dk_seg dksX0_kept_0 24 rfl rfl
theorem dksX0_kept_2 : cX0_kept.data.toList.drop 48 = dktX0_kept_2 := dk_seg dksX0_kept_1 24 rfl rfl
theorem dX0_kept_0 : decode cX0_kept 0 = .ok (.aload_n 0, 1) := dk_42 (dk_at dksX0_kept_0 0 rfl rfl)
theorem dX0_kept_1 : decode cX0_kept 1 = .ok (.iload_n 1, 1) := dk_27 (dk_at dksX0_kept_0 1 rfl rfl)
theorem dX0_kept_2 : decode cX0_kept 2 = .ok (.i2l, 1) := dk_133 (dk_at dksX0_kept_0 2 rfl rfl)
theorem dX0_kept_3 : decode cX0_kept 3 = .ok (.invokevirtual 146, 3) := dk_182 0 146 (dk_at dksX0_kept_0 3 rfl rfl)
theorem dX0_kept_6 : decode cX0_kept 6 = .ok (.ifCond .eq 40, 3) := dk_153 0 40 (dk_at dksX0_kept_0 6 rfl rfl)
theorem dX0_kept_9 : decode cX0_kept 9 = .ok (.iload_n 2, 1) := dk_28 (dk_at dksX0_kept_0 9 rfl rfl)
theorem dX0_kept_10 : decode cX0_kept 10 = .ok (.i2l, 1) := dk_133 (dk_at dksX0_kept_0 10 rfl rfl)
theorem dX0_kept_11 : decode cX0_kept 11 = .ok (.lconst 0, 1) := dk_9 (dk_at dksX0_kept_0 11 rfl rfl)
theorem dX0_kept_12 : decode cX0_kept 12 = .ok (.ldc2_w 332, 3) := dk_20 1 76 (dk_at dksX0_kept_0 12 rfl rfl)
theorem dX0_kept_15 : decode cX0_kept 15 = .ok (.invokestatic 5, 3) := dk_184 0 5 (dk_at dksX0_kept_0 15 rfl rfl)
theorem dX0_kept_18 : decode cX0_kept 18 = .ok (.ifCond .eq 28, 3) := dk_153 0 28 (dk_at dksX0_kept_0 18 rfl rfl)
theorem dX0_kept_21 : decode cX0_kept 21 = .ok (.aload_n 0, 1) := dk_42 (dk_at dksX0_kept_0 21 rfl rfl)
theorem dX0_kept_22 : decode cX0_kept 22 = .ok (.iload_n 3, 1) := dk_29 (dk_at dksX0_kept_0 22 rfl rfl)
theorem dX0_kept_23 : decode cX0_kept 23 = .ok (.i2l, 1) := dk_133 (dk_at dksX0_kept_0 23 rfl rfl)
theorem dX0_kept_24 : decode cX0_kept 24 = .ok (.invokevirtual 150, 3) := dk_182 0 150 (dk_at dksX0_kept_1 0 rfl rfl)
theorem dX0_kept_27 : decode cX0_kept 27 = .ok (.ifCond .eq 19, 3) := dk_153 0 19 (dk_at dksX0_kept_1 3 rfl rfl)
theorem dX0_kept_30 : decode cX0_kept 30 = .ok (.aload_n 0, 1) := dk_42 (dk_at dksX0_kept_1 6 rfl rfl)
theorem dX0_kept_31 : decode cX0_kept 31 = .ok (.iload_n 1, 1) := dk_27 (dk_at dksX0_kept_1 7 rfl rfl)
theorem dX0_kept_32 : decode cX0_kept 32 = .ok (.iload_n 2, 1) := dk_28 (dk_at dksX0_kept_1 8 rfl rfl)
theorem dX0_kept_33 : decode cX0_kept 33 = .ok (.invokevirtual 334, 3) := dk_182 1 78 (dk_at dksX0_kept_1 9 rfl rfl)
theorem dX0_kept_36 : decode cX0_kept 36 = .ok (.getfield 196, 3) := dk_180 0 196 (dk_at dksX0_kept_1 12 rfl rfl)
theorem dX0_kept_39 : decode cX0_kept 39 = .ok (.iload_n 1, 1) := dk_27 (dk_at dksX0_kept_1 15 rfl rfl)
theorem dX0_kept_40 : decode cX0_kept 40 = .ok (.aaload, 1) := dk_50 (dk_at dksX0_kept_1 16 rfl rfl)
theorem dX0_kept_41 : decode cX0_kept 41 = .ok (.iload_n 3, 1) := dk_29 (dk_at dksX0_kept_1 17 rfl rfl)
theorem dX0_kept_42 : decode cX0_kept 42 = .ok (.iaload, 1) := dk_46 (dk_at dksX0_kept_1 18 rfl rfl)
theorem dX0_kept_43 : decode cX0_kept 43 = .ok (.goto 5, 3) := dk_167 0 5 (dk_at dksX0_kept_1 19 rfl rfl)
theorem dX0_kept_46 : decode cX0_kept 46 = .ok (.bipush (-2), 2) := dk_16 254 (dk_at dksX0_kept_1 22 rfl rfl)
theorem dX0_kept_48 : decode cX0_kept 48 = .ok (.ireturn, 1) := dk_172 (dk_at dksX0_kept_2 0 rfl rfl)
abbrev cX0_keptBy : ByteArray := prog_1_method_66_code
def yX0_keptBy : MethodName := ⟨RX0, "keptBy", "(II)LUnseenClock$Course;"⟩
def dkwX0_keptBy_1 : List UInt8 := [180, 1, 73, 27, 28, 79, 42, 180, 0, 52, 182, 0, 159, 42, 180, 0, 52, 176]
abbrev dktX0_keptBy_1 : List UInt8 := dkwX0_keptBy_1 ++ []
def dkwX0_keptBy_0 : List UInt8 := [42, 180, 0, 52, 42, 180, 0, 41, 42, 180, 0, 45, 42, 180, 0, 113, 182, 0, 156, 42, 180, 0, 52]
abbrev dktX0_keptBy_0 : List UInt8 := dkwX0_keptBy_0 ++ dktX0_keptBy_1
theorem dksX0_keptBy_0 : cX0_keptBy.data.toList.drop 0 = dktX0_keptBy_0 := by decide +kernel
theorem dksX0_keptBy_1 : cX0_keptBy.data.toList.drop 23 = dktX0_keptBy_1 := dk_seg dksX0_keptBy_0 23 rfl rfl
theorem dX0_keptBy_0 : decode cX0_keptBy 0 = .ok (.aload_n 0, 1) := dk_42 (dk_at dksX0_keptBy_0 0 rfl rfl)
theorem dX0_keptBy_1 : decode cX0_keptBy 1 = .ok (.getfield 52, 3) := dk_180 0 52 (dk_at dksX0_keptBy_0 1 rfl rfl)
theorem dX0_keptBy_4 : decode cX0_keptBy 4 = .ok (.aload_n 0, 1) := dk_42 (dk_at dksX0_keptBy_0 4 rfl rfl)
theorem dX0_keptBy_5 : decode cX0_keptBy 5 = .ok (.getfield 41, 3) := dk_180 0 41 (dk_at dksX0_keptBy_0 5 rfl rfl)
theorem dX0_keptBy_8 : decode cX0_keptBy 8 = .ok (.aload_n 0, 1) := dk_42 (dk_at dksX0_keptBy_0 8 rfl rfl)
theorem dX0_keptBy_9 : decode cX0_keptBy 9 = .ok (.getfield 45, 3) := dk_180 0 45 (dk_at dksX0_keptBy_0 9 rfl rfl)
theorem dX0_keptBy_12 : decode cX0_keptBy 12 = .ok (.aload_n 0, 1) := dk_42 (dk_at dksX0_keptBy_0 12 rfl rfl)
theorem dX0_keptBy_13 : decode cX0_keptBy 13 = .ok (.getfield 113, 3) := dk_180 0 113 (dk_at dksX0_keptBy_0 13 rfl rfl)
theorem dX0_keptBy_16 : decode cX0_keptBy 16 = .ok (.invokevirtual 156, 3) := dk_182 0 156 (dk_at dksX0_keptBy_0 16 rfl rfl)
theorem dX0_keptBy_19 : decode cX0_keptBy 19 = .ok (.aload_n 0, 1) := dk_42 (dk_at dksX0_keptBy_0 19 rfl rfl)
theorem dX0_keptBy_20 : decode cX0_keptBy 20 = .ok (.getfield 52, 3) := dk_180 0 52 (dk_at dksX0_keptBy_0 20 rfl rfl)
theorem dX0_keptBy_23 : decode cX0_keptBy 23 = .ok (.getfield 329, 3) := dk_180 1 73 (dk_at dksX0_keptBy_1 0 rfl rfl)
theorem dX0_keptBy_26 : decode cX0_keptBy 26 = .ok (.iload_n 1, 1) := dk_27 (dk_at dksX0_keptBy_1 3 rfl rfl)
theorem dX0_keptBy_27 : decode cX0_keptBy 27 = .ok (.iload_n 2, 1) := dk_28 (dk_at dksX0_keptBy_1 4 rfl rfl)
theorem dX0_keptBy_28 : decode cX0_keptBy 28 = .ok (.iastore, 1) := dk_79 (dk_at dksX0_keptBy_1 5 rfl rfl)
theorem dX0_keptBy_29 : decode cX0_keptBy 29 = .ok (.aload_n 0, 1) := dk_42 (dk_at dksX0_keptBy_1 6 rfl rfl)
theorem dX0_keptBy_30 : decode cX0_keptBy 30 = .ok (.getfield 52, 3) := dk_180 0 52 (dk_at dksX0_keptBy_1 7 rfl rfl)
theorem dX0_keptBy_33 : decode cX0_keptBy 33 = .ok (.invokevirtual 159, 3) := dk_182 0 159 (dk_at dksX0_keptBy_1 10 rfl rfl)
theorem dX0_keptBy_36 : decode cX0_keptBy 36 = .ok (.aload_n 0, 1) := dk_42 (dk_at dksX0_keptBy_1 13 rfl rfl)
theorem dX0_keptBy_37 : decode cX0_keptBy 37 = .ok (.getfield 52, 3) := dk_180 0 52 (dk_at dksX0_keptBy_1 14 rfl rfl)
theorem dX0_keptBy_40 : decode cX0_keptBy 40 = .ok (.areturn, 1) := dk_176 (dk_at dksX0_keptBy_1 17 rfl rfl)
abbrev cX0_keep : ByteArray := prog_1_method_69_code
def yX0_keep : MethodName := ⟨RX0, "keep", "(III)I"⟩
def dkwX0_keep_0 : List UInt8 := [42, 27, 28, 29, 182, 0, 240, 153, 0, 13, 42, 27, 28, 29, 182, 1, 82, 167, 0, 5, 16, 254, 172]
abbrev dktX0_keep_0 : List UInt8 := dkwX0_keep_0 ++ []
theorem dksX0_keep_0 : cX0_keep.data.toList.drop 0 = dktX0_keep_0 := by decide +kernel
theorem dX0_keep_0 : decode cX0_keep 0 = .ok (.aload_n 0, 1) := dk_42 (dk_at dksX0_keep_0 0 rfl rfl)
theorem dX0_keep_1 : decode cX0_keep 1 = .ok (.iload_n 1, 1) := dk_27 (dk_at dksX0_keep_0 1 rfl rfl)
theorem dX0_keep_2 : decode cX0_keep 2 = .ok (.iload_n 2, 1) := dk_28 (dk_at dksX0_keep_0 2 rfl rfl)
theorem dX0_keep_3 : decode cX0_keep 3 = .ok (.iload_n 3, 1) := dk_29 (dk_at dksX0_keep_0 3 rfl rfl)
theorem dX0_keep_4 : decode cX0_keep 4 = .ok (.invokevirtual 240, 3) := dk_182 0 240 (dk_at dksX0_keep_0 4 rfl rfl)
theorem dX0_keep_7 : decode cX0_keep 7 = .ok (.ifCond .eq 13, 3) := dk_153 0 13 (dk_at dksX0_keep_0 7 rfl rfl)
theorem dX0_keep_10 : decode cX0_keep 10 = .ok (.aload_n 0, 1) := dk_42 (dk_at dksX0_keep_0 10 rfl rfl)
theorem dX0_keep_11 : decode cX0_keep 11 = .ok (.iload_n 1, 1) := dk_27 (dk_at dksX0_keep_0 11 rfl rfl)
theorem dX0_keep_12 : decode cX0_keep 12 = .ok (.iload_n 2, 1) := dk_28 (dk_at dksX0_keep_0 12 rfl rfl)
theorem dX0_keep_13 : decode cX0_keep 13 = .ok (.iload_n 3, 1) := dk_29 (dk_at dksX0_keep_0 13 rfl rfl)
theorem dX0_keep_14 : decode cX0_keep 14 = .ok (.invokevirtual 338, 3) := dk_182 1 82 (dk_at dksX0_keep_0 14 rfl rfl)
theorem dX0_keep_17 : decode cX0_keep 17 = .ok (.goto 5, 3) := dk_167 0 5 (dk_at dksX0_keep_0 17 rfl rfl)
theorem dX0_keep_20 : decode cX0_keep 20 = .ok (.bipush (-2), 2) := dk_16 254 (dk_at dksX0_keep_0 20 rfl rfl)
theorem dX0_keep_22 : decode cX0_keep 22 = .ok (.ireturn, 1) := dk_172 (dk_at dksX0_keep_0 22 rfl rfl)
abbrev cX0_leastKept : ByteArray := prog_1_method_68_code
def yX0_leastKept : MethodName := ⟨RX0, "leastKept", "(III)I"⟩
def dkwX0_leastKept_1 : List UInt8 := [29, 160, 0, 6, 21, 4, 172, 132, 4, 1, 167, 255, 225, 2, 172]
abbrev dktX0_leastKept_1 : List UInt8 := dkwX0_leastKept_1 ++ []
def dkwX0_leastKept_0 : List UInt8 := [3, 54, 4, 21, 4, 16, 40, 163, 0, 30, 42, 27, 21, 4, 182, 1, 78, 180, 0, 196, 27, 50, 28, 46]
abbrev dktX0_leastKept_0 : List UInt8 := dkwX0_leastKept_0 ++ dktX0_leastKept_1
theorem dksX0_leastKept_0 : cX0_leastKept.data.toList.drop 0 = dktX0_leastKept_0 := by decide +kernel
theorem dksX0_leastKept_1 : cX0_leastKept.data.toList.drop 24 = dktX0_leastKept_1 := dk_seg dksX0_leastKept_0 24 rfl rfl
theorem dX0_leastKept_0 : decode cX0_leastKept 0 = .ok (.iconst 0, 1) := dk_3 (dk_at dksX0_leastKept_0 0 rfl rfl)
theorem dX0_leastKept_1 : decode cX0_leastKept 1 = .ok (.istore 4, 2) := dk_54 4 (dk_at dksX0_leastKept_0 1 rfl rfl)
theorem dX0_leastKept_3 : decode cX0_leastKept 3 = .ok (.iload 4, 2) := dk_21 4 (dk_at dksX0_leastKept_0 3 rfl rfl)
theorem dX0_leastKept_5 : decode cX0_leastKept 5 = .ok (.bipush 40, 2) := dk_16 40 (dk_at dksX0_leastKept_0 5 rfl rfl)
theorem dX0_leastKept_7 : decode cX0_leastKept 7 = .ok (.if_icmp .gt 30, 3) := dk_163 0 30 (dk_at dksX0_leastKept_0 7 rfl rfl)
theorem dX0_leastKept_10 : decode cX0_leastKept 10 = .ok (.aload_n 0, 1) := dk_42 (dk_at dksX0_leastKept_0 10 rfl rfl)
theorem dX0_leastKept_11 : decode cX0_leastKept 11 = .ok (.iload_n 1, 1) := dk_27 (dk_at dksX0_leastKept_0 11 rfl rfl)
theorem dX0_leastKept_12 : decode cX0_leastKept 12 = .ok (.iload 4, 2) := dk_21 4 (dk_at dksX0_leastKept_0 12 rfl rfl)
theorem dX0_leastKept_14 : decode cX0_leastKept 14 = .ok (.invokevirtual 334, 3) := dk_182 1 78 (dk_at dksX0_leastKept_0 14 rfl rfl)
theorem dX0_leastKept_17 : decode cX0_leastKept 17 = .ok (.getfield 196, 3) := dk_180 0 196 (dk_at dksX0_leastKept_0 17 rfl rfl)
theorem dX0_leastKept_20 : decode cX0_leastKept 20 = .ok (.iload_n 1, 1) := dk_27 (dk_at dksX0_leastKept_0 20 rfl rfl)
theorem dX0_leastKept_21 : decode cX0_leastKept 21 = .ok (.aaload, 1) := dk_50 (dk_at dksX0_leastKept_0 21 rfl rfl)
theorem dX0_leastKept_22 : decode cX0_leastKept 22 = .ok (.iload_n 2, 1) := dk_28 (dk_at dksX0_leastKept_0 22 rfl rfl)
theorem dX0_leastKept_23 : decode cX0_leastKept 23 = .ok (.iaload, 1) := dk_46 (dk_at dksX0_leastKept_0 23 rfl rfl)
theorem dX0_leastKept_24 : decode cX0_leastKept 24 = .ok (.iload_n 3, 1) := dk_29 (dk_at dksX0_leastKept_1 0 rfl rfl)
theorem dX0_leastKept_25 : decode cX0_leastKept 25 = .ok (.if_icmp .ne 6, 3) := dk_160 0 6 (dk_at dksX0_leastKept_1 1 rfl rfl)
theorem dX0_leastKept_28 : decode cX0_leastKept 28 = .ok (.iload 4, 2) := dk_21 4 (dk_at dksX0_leastKept_1 4 rfl rfl)
theorem dX0_leastKept_30 : decode cX0_leastKept 30 = .ok (.ireturn, 1) := dk_172 (dk_at dksX0_leastKept_1 6 rfl rfl)
theorem dX0_leastKept_31 : decode cX0_leastKept 31 = .ok (.iinc 4 1, 3) := dk_132 4 1 (dk_at dksX0_leastKept_1 7 rfl rfl)
theorem dX0_leastKept_34 : decode cX0_leastKept 34 = .ok (.goto (-31), 3) := dk_167 255 225 (dk_at dksX0_leastKept_1 10 rfl rfl)
theorem dX0_leastKept_37 : decode cX0_leastKept 37 = .ok (.iconst (-1), 1) := dk_2 (dk_at dksX0_leastKept_1 13 rfl rfl)
theorem dX0_leastKept_38 : decode cX0_leastKept 38 = .ok (.ireturn, 1) := dk_172 (dk_at dksX0_leastKept_1 14 rfl rfl)
abbrev cX0_shifts : ByteArray := prog_1_method_70_code
def yX0_shifts : MethodName := ⟨RX0, "shifts", "(IIII)I"⟩
def dkwX0_shifts_2 : List UInt8 := [21, 4, 96, 4, 100, 21, 4, 108, 172]
abbrev dktX0_shifts_2 : List UInt8 := dkwX0_shifts_2 ++ []
def dkwX0_shifts_1 : List UInt8 := [16, 254, 172, 42, 27, 28, 29, 182, 1, 82, 54, 5, 21, 5, 2, 160, 0, 7, 2, 167, 0, 13, 21, 5]
abbrev dktX0_shifts_1 : List UInt8 := dkwX0_shifts_1 ++ dktX0_shifts_2
def dkwX0_shifts_0 : List UInt8 := [42, 27, 28, 29, 182, 0, 240, 153, 0, 16, 21, 4, 133, 10, 20, 1, 76, 184, 0, 5, 154, 0, 6]
abbrev dktX0_shifts_0 : List UInt8 := dkwX0_shifts_0 ++ dktX0_shifts_1
theorem dksX0_shifts_0 : cX0_shifts.data.toList.drop 0 = dktX0_shifts_0 := by decide +kernel
theorem dksX0_shifts_1 : cX0_shifts.data.toList.drop 23 = dktX0_shifts_1 := dk_seg dksX0_shifts_0 23 rfl rfl
theorem dksX0_shifts_2 : cX0_shifts.data.toList.drop 47 = dktX0_shifts_2 := dk_seg dksX0_shifts_1 24 rfl rfl
theorem dX0_shifts_0 : decode cX0_shifts 0 = .ok (.aload_n 0, 1) := dk_42 (dk_at dksX0_shifts_0 0 rfl rfl)
theorem dX0_shifts_1 : decode cX0_shifts 1 = .ok (.iload_n 1, 1) := dk_27 (dk_at dksX0_shifts_0 1 rfl rfl)
theorem dX0_shifts_2 : decode cX0_shifts 2 = .ok (.iload_n 2, 1) := dk_28 (dk_at dksX0_shifts_0 2 rfl rfl)
theorem dX0_shifts_3 : decode cX0_shifts 3 = .ok (.iload_n 3, 1) := dk_29 (dk_at dksX0_shifts_0 3 rfl rfl)
theorem dX0_shifts_4 : decode cX0_shifts 4 = .ok (.invokevirtual 240, 3) := dk_182 0 240 (dk_at dksX0_shifts_0 4 rfl rfl)
theorem dX0_shifts_7 : decode cX0_shifts 7 = .ok (.ifCond .eq 16, 3) := dk_153 0 16 (dk_at dksX0_shifts_0 7 rfl rfl)
theorem dX0_shifts_10 : decode cX0_shifts 10 = .ok (.iload 4, 2) := dk_21 4 (dk_at dksX0_shifts_0 10 rfl rfl)
theorem dX0_shifts_12 : decode cX0_shifts 12 = .ok (.i2l, 1) := dk_133 (dk_at dksX0_shifts_0 12 rfl rfl)
theorem dX0_shifts_13 : decode cX0_shifts 13 = .ok (.lconst 1, 1) := dk_10 (dk_at dksX0_shifts_0 13 rfl rfl)
theorem dX0_shifts_14 : decode cX0_shifts 14 = .ok (.ldc2_w 332, 3) := dk_20 1 76 (dk_at dksX0_shifts_0 14 rfl rfl)
theorem dX0_shifts_17 : decode cX0_shifts 17 = .ok (.invokestatic 5, 3) := dk_184 0 5 (dk_at dksX0_shifts_0 17 rfl rfl)
theorem dX0_shifts_20 : decode cX0_shifts 20 = .ok (.ifCond .ne 6, 3) := dk_154 0 6 (dk_at dksX0_shifts_0 20 rfl rfl)
theorem dX0_shifts_23 : decode cX0_shifts 23 = .ok (.bipush (-2), 2) := dk_16 254 (dk_at dksX0_shifts_1 0 rfl rfl)
theorem dX0_shifts_25 : decode cX0_shifts 25 = .ok (.ireturn, 1) := dk_172 (dk_at dksX0_shifts_1 2 rfl rfl)
theorem dX0_shifts_26 : decode cX0_shifts 26 = .ok (.aload_n 0, 1) := dk_42 (dk_at dksX0_shifts_1 3 rfl rfl)
theorem dX0_shifts_27 : decode cX0_shifts 27 = .ok (.iload_n 1, 1) := dk_27 (dk_at dksX0_shifts_1 4 rfl rfl)
theorem dX0_shifts_28 : decode cX0_shifts 28 = .ok (.iload_n 2, 1) := dk_28 (dk_at dksX0_shifts_1 5 rfl rfl)
theorem dX0_shifts_29 : decode cX0_shifts 29 = .ok (.iload_n 3, 1) := dk_29 (dk_at dksX0_shifts_1 6 rfl rfl)
theorem dX0_shifts_30 : decode cX0_shifts 30 = .ok (.invokevirtual 338, 3) := dk_182 1 82 (dk_at dksX0_shifts_1 7 rfl rfl)
theorem dX0_shifts_33 : decode cX0_shifts 33 = .ok (.istore 5, 2) := dk_54 5 (dk_at dksX0_shifts_1 10 rfl rfl)
theorem dX0_shifts_35 : decode cX0_shifts 35 = .ok (.iload 5, 2) := dk_21 5 (dk_at dksX0_shifts_1 12 rfl rfl)
theorem dX0_shifts_37 : decode cX0_shifts 37 = .ok (.iconst (-1), 1) := dk_2 (dk_at dksX0_shifts_1 14 rfl rfl)
theorem dX0_shifts_38 : decode cX0_shifts 38 = .ok (.if_icmp .ne 7, 3) := dk_160 0 7 (dk_at dksX0_shifts_1 15 rfl rfl)
theorem dX0_shifts_41 : decode cX0_shifts 41 = .ok (.iconst (-1), 1) := dk_2 (dk_at dksX0_shifts_1 18 rfl rfl)
theorem dX0_shifts_42 : decode cX0_shifts 42 = .ok (.goto 13, 3) := dk_167 0 13 (dk_at dksX0_shifts_1 19 rfl rfl)
theorem dX0_shifts_45 : decode cX0_shifts 45 = .ok (.iload 5, 2) := dk_21 5 (dk_at dksX0_shifts_1 22 rfl rfl)
theorem dX0_shifts_47 : decode cX0_shifts 47 = .ok (.iload 4, 2) := dk_21 4 (dk_at dksX0_shifts_2 0 rfl rfl)
theorem dX0_shifts_49 : decode cX0_shifts 49 = .ok (.iadd, 1) := dk_96 (dk_at dksX0_shifts_2 2 rfl rfl)
theorem dX0_shifts_50 : decode cX0_shifts 50 = .ok (.iconst 1, 1) := dk_4 (dk_at dksX0_shifts_2 3 rfl rfl)
theorem dX0_shifts_51 : decode cX0_shifts 51 = .ok (.isub, 1) := dk_100 (dk_at dksX0_shifts_2 4 rfl rfl)
theorem dX0_shifts_52 : decode cX0_shifts 52 = .ok (.iload 4, 2) := dk_21 4 (dk_at dksX0_shifts_2 5 rfl rfl)
theorem dX0_shifts_54 : decode cX0_shifts 54 = .ok (.idiv, 1) := dk_108 (dk_at dksX0_shifts_2 7 rfl rfl)
theorem dX0_shifts_55 : decode cX0_shifts 55 = .ok (.ireturn, 1) := dk_172 (dk_at dksX0_shifts_2 8 rfl rfl)
abbrev cX0_last : ByteArray := prog_1_method_71_code
def yX0_last : MethodName := ⟨RX0, "last", "(III)I"⟩
def dkwX0_last_1 : List UInt8 := [2, 167, 0, 12, 42, 180, 0, 52, 180, 1, 86, 27, 46, 172]
abbrev dktX0_last_1 : List UInt8 := dkwX0_last_1 ++ []
def dkwX0_last_0 : List UInt8 := [42, 27, 28, 29, 182, 0, 240, 154, 0, 6, 16, 254, 172, 42, 27, 28, 29, 182, 1, 82, 2, 160, 0, 7]
abbrev dktX0_last_0 : List UInt8 := dkwX0_last_0 ++ dktX0_last_1
theorem dksX0_last_0 : cX0_last.data.toList.drop 0 = dktX0_last_0 := by decide +kernel
theorem dksX0_last_1 : cX0_last.data.toList.drop 24 = dktX0_last_1 := dk_seg dksX0_last_0 24 rfl rfl
theorem dX0_last_0 : decode cX0_last 0 = .ok (.aload_n 0, 1) := dk_42 (dk_at dksX0_last_0 0 rfl rfl)
theorem dX0_last_1 : decode cX0_last 1 = .ok (.iload_n 1, 1) := dk_27 (dk_at dksX0_last_0 1 rfl rfl)
theorem dX0_last_2 : decode cX0_last 2 = .ok (.iload_n 2, 1) := dk_28 (dk_at dksX0_last_0 2 rfl rfl)
theorem dX0_last_3 : decode cX0_last 3 = .ok (.iload_n 3, 1) := dk_29 (dk_at dksX0_last_0 3 rfl rfl)
theorem dX0_last_4 : decode cX0_last 4 = .ok (.invokevirtual 240, 3) := dk_182 0 240 (dk_at dksX0_last_0 4 rfl rfl)
theorem dX0_last_7 : decode cX0_last 7 = .ok (.ifCond .ne 6, 3) := dk_154 0 6 (dk_at dksX0_last_0 7 rfl rfl)
theorem dX0_last_10 : decode cX0_last 10 = .ok (.bipush (-2), 2) := dk_16 254 (dk_at dksX0_last_0 10 rfl rfl)
theorem dX0_last_12 : decode cX0_last 12 = .ok (.ireturn, 1) := dk_172 (dk_at dksX0_last_0 12 rfl rfl)
theorem dX0_last_13 : decode cX0_last 13 = .ok (.aload_n 0, 1) := dk_42 (dk_at dksX0_last_0 13 rfl rfl)
theorem dX0_last_14 : decode cX0_last 14 = .ok (.iload_n 1, 1) := dk_27 (dk_at dksX0_last_0 14 rfl rfl)
theorem dX0_last_15 : decode cX0_last 15 = .ok (.iload_n 2, 1) := dk_28 (dk_at dksX0_last_0 15 rfl rfl)
theorem dX0_last_16 : decode cX0_last 16 = .ok (.iload_n 3, 1) := dk_29 (dk_at dksX0_last_0 16 rfl rfl)
theorem dX0_last_17 : decode cX0_last 17 = .ok (.invokevirtual 338, 3) := dk_182 1 82 (dk_at dksX0_last_0 17 rfl rfl)
theorem dX0_last_20 : decode cX0_last 20 = .ok (.iconst (-1), 1) := dk_2 (dk_at dksX0_last_0 20 rfl rfl)
theorem dX0_last_21 : decode cX0_last 21 = .ok (.if_icmp .ne 7, 3) := dk_160 0 7 (dk_at dksX0_last_0 21 rfl rfl)
theorem dX0_last_24 : decode cX0_last 24 = .ok (.iconst (-1), 1) := dk_2 (dk_at dksX0_last_1 0 rfl rfl)
theorem dX0_last_25 : decode cX0_last 25 = .ok (.goto 12, 3) := dk_167 0 12 (dk_at dksX0_last_1 1 rfl rfl)
theorem dX0_last_28 : decode cX0_last 28 = .ok (.aload_n 0, 1) := dk_42 (dk_at dksX0_last_1 4 rfl rfl)
theorem dX0_last_29 : decode cX0_last 29 = .ok (.getfield 52, 3) := dk_180 0 52 (dk_at dksX0_last_1 5 rfl rfl)
theorem dX0_last_32 : decode cX0_last 32 = .ok (.getfield 342, 3) := dk_180 1 86 (dk_at dksX0_last_1 8 rfl rfl)
theorem dX0_last_35 : decode cX0_last 35 = .ok (.iload_n 1, 1) := dk_27 (dk_at dksX0_last_1 11 rfl rfl)
theorem dX0_last_36 : decode cX0_last 36 = .ok (.iaload, 1) := dk_46 (dk_at dksX0_last_1 12 rfl rfl)
theorem dX0_last_37 : decode cX0_last 37 = .ok (.ireturn, 1) := dk_172 (dk_at dksX0_last_1 13 rfl rfl)
abbrev cX0_all : ByteArray := prog_1_method_72_code
def yX0_all : MethodName := ⟨RX0, "all", "(III)I"⟩
def dkwX0_all_3 : List UInt8 := [29, 182, 0, 217, 27, 161, 0, 6, 21, 4, 172, 132, 4, 1, 167, 255, 195, 2, 172]
abbrev dktX0_all_3 : List UInt8 := dkwX0_all_3 ++ []
def dkwX0_all_2 : List UInt8 := [182, 0, 156, 42, 180, 0, 52, 180, 1, 73, 21, 4, 184, 1, 89, 42, 180, 0, 52, 182, 0, 159, 42, 28]
abbrev dktX0_all_2 : List UInt8 := dkwX0_all_2 ++ dktX0_all_3
def dkwX0_all_1 : List UInt8 := [21, 4, 16, 40, 163, 0, 60, 42, 180, 0, 52, 42, 180, 0, 41, 42, 180, 0, 45, 42, 180, 0, 113]
abbrev dktX0_all_1 : List UInt8 := dkwX0_all_1 ++ dktX0_all_2
def dkwX0_all_0 : List UInt8 := [42, 27, 29, 182, 0, 214, 153, 0, 12, 42, 28, 133, 182, 0, 150, 154, 0, 6, 16, 254, 172, 3, 54, 4]
abbrev dktX0_all_0 : List UInt8 := dkwX0_all_0 ++ dktX0_all_1
theorem dksX0_all_0 : cX0_all.data.toList.drop 0 = dktX0_all_0 := by decide +kernel
theorem dksX0_all_1 : cX0_all.data.toList.drop 24 = dktX0_all_1 := dk_seg dksX0_all_0 24 rfl rfl
theorem dksX0_all_2 : cX0_all.data.toList.drop 47 = dktX0_all_2 := dk_seg dksX0_all_1 23 rfl rfl
theorem dksX0_all_3 : cX0_all.data.toList.drop 71 = dktX0_all_3 := dk_seg dksX0_all_2 24 rfl rfl
theorem dX0_all_0 : decode cX0_all 0 = .ok (.aload_n 0, 1) := dk_42 (dk_at dksX0_all_0 0 rfl rfl)
theorem dX0_all_1 : decode cX0_all 1 = .ok (.iload_n 1, 1) := dk_27 (dk_at dksX0_all_0 1 rfl rfl)
theorem dX0_all_2 : decode cX0_all 2 = .ok (.iload_n 3, 1) := dk_29 (dk_at dksX0_all_0 2 rfl rfl)
theorem dX0_all_3 : decode cX0_all 3 = .ok (.invokevirtual 214, 3) := dk_182 0 214 (dk_at dksX0_all_0 3 rfl rfl)
theorem dX0_all_6 : decode cX0_all 6 = .ok (.ifCond .eq 12, 3) := dk_153 0 12 (dk_at dksX0_all_0 6 rfl rfl)
theorem dX0_all_9 : decode cX0_all 9 = .ok (.aload_n 0, 1) := dk_42 (dk_at dksX0_all_0 9 rfl rfl)
theorem dX0_all_10 : decode cX0_all 10 = .ok (.iload_n 2, 1) := dk_28 (dk_at dksX0_all_0 10 rfl rfl)
theorem dX0_all_11 : decode cX0_all 11 = .ok (.i2l, 1) := dk_133 (dk_at dksX0_all_0 11 rfl rfl)
theorem dX0_all_12 : decode cX0_all 12 = .ok (.invokevirtual 150, 3) := dk_182 0 150 (dk_at dksX0_all_0 12 rfl rfl)
theorem dX0_all_15 : decode cX0_all 15 = .ok (.ifCond .ne 6, 3) := dk_154 0 6 (dk_at dksX0_all_0 15 rfl rfl)
theorem dX0_all_18 : decode cX0_all 18 = .ok (.bipush (-2), 2) := dk_16 254 (dk_at dksX0_all_0 18 rfl rfl)
theorem dX0_all_20 : decode cX0_all 20 = .ok (.ireturn, 1) := dk_172 (dk_at dksX0_all_0 20 rfl rfl)
theorem dX0_all_21 : decode cX0_all 21 = .ok (.iconst 0, 1) := dk_3 (dk_at dksX0_all_0 21 rfl rfl)
theorem dX0_all_22 : decode cX0_all 22 = .ok (.istore 4, 2) := dk_54 4 (dk_at dksX0_all_0 22 rfl rfl)
theorem dX0_all_24 : decode cX0_all 24 = .ok (.iload 4, 2) := dk_21 4 (dk_at dksX0_all_1 0 rfl rfl)
theorem dX0_all_26 : decode cX0_all 26 = .ok (.bipush 40, 2) := dk_16 40 (dk_at dksX0_all_1 2 rfl rfl)
theorem dX0_all_28 : decode cX0_all 28 = .ok (.if_icmp .gt 60, 3) := dk_163 0 60 (dk_at dksX0_all_1 4 rfl rfl)
theorem dX0_all_31 : decode cX0_all 31 = .ok (.aload_n 0, 1) := dk_42 (dk_at dksX0_all_1 7 rfl rfl)
theorem dX0_all_32 : decode cX0_all 32 = .ok (.getfield 52, 3) := dk_180 0 52 (dk_at dksX0_all_1 8 rfl rfl)
theorem dX0_all_35 : decode cX0_all 35 = .ok (.aload_n 0, 1) := dk_42 (dk_at dksX0_all_1 11 rfl rfl)
theorem dX0_all_36 : decode cX0_all 36 = .ok (.getfield 41, 3) := dk_180 0 41 (dk_at dksX0_all_1 12 rfl rfl)
theorem dX0_all_39 : decode cX0_all 39 = .ok (.aload_n 0, 1) := dk_42 (dk_at dksX0_all_1 15 rfl rfl)
theorem dX0_all_40 : decode cX0_all 40 = .ok (.getfield 45, 3) := dk_180 0 45 (dk_at dksX0_all_1 16 rfl rfl)
theorem dX0_all_43 : decode cX0_all 43 = .ok (.aload_n 0, 1) := dk_42 (dk_at dksX0_all_1 19 rfl rfl)
theorem dX0_all_44 : decode cX0_all 44 = .ok (.getfield 113, 3) := dk_180 0 113 (dk_at dksX0_all_1 20 rfl rfl)
theorem dX0_all_47 : decode cX0_all 47 = .ok (.invokevirtual 156, 3) := dk_182 0 156 (dk_at dksX0_all_2 0 rfl rfl)
theorem dX0_all_50 : decode cX0_all 50 = .ok (.aload_n 0, 1) := dk_42 (dk_at dksX0_all_2 3 rfl rfl)
theorem dX0_all_51 : decode cX0_all 51 = .ok (.getfield 52, 3) := dk_180 0 52 (dk_at dksX0_all_2 4 rfl rfl)
theorem dX0_all_54 : decode cX0_all 54 = .ok (.getfield 329, 3) := dk_180 1 73 (dk_at dksX0_all_2 7 rfl rfl)
theorem dX0_all_57 : decode cX0_all 57 = .ok (.iload 4, 2) := dk_21 4 (dk_at dksX0_all_2 10 rfl rfl)
theorem dX0_all_59 : decode cX0_all 59 = .ok (.invokestatic 345, 3) := dk_184 1 89 (dk_at dksX0_all_2 12 rfl rfl)
theorem dX0_all_62 : decode cX0_all 62 = .ok (.aload_n 0, 1) := dk_42 (dk_at dksX0_all_2 15 rfl rfl)
theorem dX0_all_63 : decode cX0_all 63 = .ok (.getfield 52, 3) := dk_180 0 52 (dk_at dksX0_all_2 16 rfl rfl)
theorem dX0_all_66 : decode cX0_all 66 = .ok (.invokevirtual 159, 3) := dk_182 0 159 (dk_at dksX0_all_2 19 rfl rfl)
theorem dX0_all_69 : decode cX0_all 69 = .ok (.aload_n 0, 1) := dk_42 (dk_at dksX0_all_2 22 rfl rfl)
theorem dX0_all_70 : decode cX0_all 70 = .ok (.iload_n 2, 1) := dk_28 (dk_at dksX0_all_2 23 rfl rfl)
theorem dX0_all_71 : decode cX0_all 71 = .ok (.iload_n 3, 1) := dk_29 (dk_at dksX0_all_3 0 rfl rfl)
theorem dX0_all_72 : decode cX0_all 72 = .ok (.invokevirtual 217, 3) := dk_182 0 217 (dk_at dksX0_all_3 1 rfl rfl)
theorem dX0_all_75 : decode cX0_all 75 = .ok (.iload_n 1, 1) := dk_27 (dk_at dksX0_all_3 4 rfl rfl)
theorem dX0_all_76 : decode cX0_all 76 = .ok (.if_icmp .lt 6, 3) := dk_161 0 6 (dk_at dksX0_all_3 5 rfl rfl)
theorem dX0_all_79 : decode cX0_all 79 = .ok (.iload 4, 2) := dk_21 4 (dk_at dksX0_all_3 8 rfl rfl)
theorem dX0_all_81 : decode cX0_all 81 = .ok (.ireturn, 1) := dk_172 (dk_at dksX0_all_3 10 rfl rfl)
theorem dX0_all_82 : decode cX0_all 82 = .ok (.iinc 4 1, 3) := dk_132 4 1 (dk_at dksX0_all_3 11 rfl rfl)
theorem dX0_all_85 : decode cX0_all 85 = .ok (.goto (-61), 3) := dk_167 255 195 (dk_at dksX0_all_3 14 rfl rfl)
theorem dX0_all_88 : decode cX0_all 88 = .ok (.iconst (-1), 1) := dk_2 (dk_at dksX0_all_3 17 rfl rfl)
theorem dX0_all_89 : decode cX0_all 89 = .ok (.ireturn, 1) := dk_172 (dk_at dksX0_all_3 18 rfl rfl)
abbrev cX0_pace : ByteArray := prog_1_method_73_code
def yX0_pace : MethodName := ⟨RX0, "pace", "(III)I"⟩
def dkwX0_pace_3 : List UInt8 := [132, 6, 1, 167, 255, 209, 42, 180, 0, 45, 27, 21, 4, 79, 21, 5, 172]
abbrev dktX0_pace_3 : List UInt8 := dkwX0_pace_3 ++ []
def dkwX0_pace_2 : List UInt8 := [42, 182, 0, 179, 180, 0, 196, 27, 50, 28, 46, 29, 160, 0, 8, 21, 6, 167, 0, 4, 2, 54, 5]
abbrev dktX0_pace_2 : List UInt8 := dkwX0_pace_2 ++ dktX0_pace_3
def dkwX0_pace_1 : List UInt8 := [3, 54, 6, 21, 6, 16, 60, 163, 0, 46, 21, 5, 2, 160, 0, 40, 42, 180, 0, 45, 27, 21, 6, 79]
abbrev dktX0_pace_1 : List UInt8 := dkwX0_pace_1 ++ dktX0_pace_2
def dkwX0_pace_0 : List UInt8 := [42, 27, 28, 29, 182, 0, 240, 154, 0, 6, 16, 254, 172, 42, 180, 0, 45, 27, 46, 54, 4, 2, 54, 5]
abbrev dktX0_pace_0 : List UInt8 := dkwX0_pace_0 ++ dktX0_pace_1
theorem dksX0_pace_0 : cX0_pace.data.toList.drop 0 = dktX0_pace_0 := by decide +kernel
theorem dksX0_pace_1 : cX0_pace.data.toList.drop 24 = dktX0_pace_1 := dk_seg dksX0_pace_0 24 rfl rfl
theorem dksX0_pace_2 : cX0_pace.data.toList.drop 48 = dktX0_pace_2 := dk_seg dksX0_pace_1 24 rfl rfl
theorem dksX0_pace_3 : cX0_pace.data.toList.drop 71 = dktX0_pace_3 := dk_seg dksX0_pace_2 23 rfl rfl
theorem dX0_pace_0 : decode cX0_pace 0 = .ok (.aload_n 0, 1) := dk_42 (dk_at dksX0_pace_0 0 rfl rfl)
theorem dX0_pace_1 : decode cX0_pace 1 = .ok (.iload_n 1, 1) := dk_27 (dk_at dksX0_pace_0 1 rfl rfl)
theorem dX0_pace_2 : decode cX0_pace 2 = .ok (.iload_n 2, 1) := dk_28 (dk_at dksX0_pace_0 2 rfl rfl)
theorem dX0_pace_3 : decode cX0_pace 3 = .ok (.iload_n 3, 1) := dk_29 (dk_at dksX0_pace_0 3 rfl rfl)
theorem dX0_pace_4 : decode cX0_pace 4 = .ok (.invokevirtual 240, 3) := dk_182 0 240 (dk_at dksX0_pace_0 4 rfl rfl)
theorem dX0_pace_7 : decode cX0_pace 7 = .ok (.ifCond .ne 6, 3) := dk_154 0 6 (dk_at dksX0_pace_0 7 rfl rfl)
theorem dX0_pace_10 : decode cX0_pace 10 = .ok (.bipush (-2), 2) := dk_16 254 (dk_at dksX0_pace_0 10 rfl rfl)
theorem dX0_pace_12 : decode cX0_pace 12 = .ok (.ireturn, 1) := dk_172 (dk_at dksX0_pace_0 12 rfl rfl)
theorem dX0_pace_13 : decode cX0_pace 13 = .ok (.aload_n 0, 1) := dk_42 (dk_at dksX0_pace_0 13 rfl rfl)
theorem dX0_pace_14 : decode cX0_pace 14 = .ok (.getfield 45, 3) := dk_180 0 45 (dk_at dksX0_pace_0 14 rfl rfl)
theorem dX0_pace_17 : decode cX0_pace 17 = .ok (.iload_n 1, 1) := dk_27 (dk_at dksX0_pace_0 17 rfl rfl)
theorem dX0_pace_18 : decode cX0_pace 18 = .ok (.iaload, 1) := dk_46 (dk_at dksX0_pace_0 18 rfl rfl)
theorem dX0_pace_19 : decode cX0_pace 19 = .ok (.istore 4, 2) := dk_54 4 (dk_at dksX0_pace_0 19 rfl rfl)
theorem dX0_pace_21 : decode cX0_pace 21 = .ok (.iconst (-1), 1) := dk_2 (dk_at dksX0_pace_0 21 rfl rfl)
theorem dX0_pace_22 : decode cX0_pace 22 = .ok (.istore 5, 2) := dk_54 5 (dk_at dksX0_pace_0 22 rfl rfl)
theorem dX0_pace_24 : decode cX0_pace 24 = .ok (.iconst 0, 1) := dk_3 (dk_at dksX0_pace_1 0 rfl rfl)
theorem dX0_pace_25 : decode cX0_pace 25 = .ok (.istore 6, 2) := dk_54 6 (dk_at dksX0_pace_1 1 rfl rfl)
theorem dX0_pace_27 : decode cX0_pace 27 = .ok (.iload 6, 2) := dk_21 6 (dk_at dksX0_pace_1 3 rfl rfl)
theorem dX0_pace_29 : decode cX0_pace 29 = .ok (.bipush 60, 2) := dk_16 60 (dk_at dksX0_pace_1 5 rfl rfl)
theorem dX0_pace_31 : decode cX0_pace 31 = .ok (.if_icmp .gt 46, 3) := dk_163 0 46 (dk_at dksX0_pace_1 7 rfl rfl)
theorem dX0_pace_34 : decode cX0_pace 34 = .ok (.iload 5, 2) := dk_21 5 (dk_at dksX0_pace_1 10 rfl rfl)
theorem dX0_pace_36 : decode cX0_pace 36 = .ok (.iconst (-1), 1) := dk_2 (dk_at dksX0_pace_1 12 rfl rfl)
theorem dX0_pace_37 : decode cX0_pace 37 = .ok (.if_icmp .ne 40, 3) := dk_160 0 40 (dk_at dksX0_pace_1 13 rfl rfl)
theorem dX0_pace_40 : decode cX0_pace 40 = .ok (.aload_n 0, 1) := dk_42 (dk_at dksX0_pace_1 16 rfl rfl)
theorem dX0_pace_41 : decode cX0_pace 41 = .ok (.getfield 45, 3) := dk_180 0 45 (dk_at dksX0_pace_1 17 rfl rfl)
theorem dX0_pace_44 : decode cX0_pace 44 = .ok (.iload_n 1, 1) := dk_27 (dk_at dksX0_pace_1 20 rfl rfl)
theorem dX0_pace_45 : decode cX0_pace 45 = .ok (.iload 6, 2) := dk_21 6 (dk_at dksX0_pace_1 21 rfl rfl)
theorem dX0_pace_47 : decode cX0_pace 47 = .ok (.iastore, 1) := dk_79 (dk_at dksX0_pace_1 23 rfl rfl)
theorem dX0_pace_48 : decode cX0_pace 48 = .ok (.aload_n 0, 1) := dk_42 (dk_at dksX0_pace_2 0 rfl rfl)
theorem dX0_pace_49 : decode cX0_pace 49 = .ok (.invokevirtual 179, 3) := dk_182 0 179 (dk_at dksX0_pace_2 1 rfl rfl)
theorem dX0_pace_52 : decode cX0_pace 52 = .ok (.getfield 196, 3) := dk_180 0 196 (dk_at dksX0_pace_2 4 rfl rfl)
theorem dX0_pace_55 : decode cX0_pace 55 = .ok (.iload_n 1, 1) := dk_27 (dk_at dksX0_pace_2 7 rfl rfl)
theorem dX0_pace_56 : decode cX0_pace 56 = .ok (.aaload, 1) := dk_50 (dk_at dksX0_pace_2 8 rfl rfl)
theorem dX0_pace_57 : decode cX0_pace 57 = .ok (.iload_n 2, 1) := dk_28 (dk_at dksX0_pace_2 9 rfl rfl)
theorem dX0_pace_58 : decode cX0_pace 58 = .ok (.iaload, 1) := dk_46 (dk_at dksX0_pace_2 10 rfl rfl)
theorem dX0_pace_59 : decode cX0_pace 59 = .ok (.iload_n 3, 1) := dk_29 (dk_at dksX0_pace_2 11 rfl rfl)
theorem dX0_pace_60 : decode cX0_pace 60 = .ok (.if_icmp .ne 8, 3) := dk_160 0 8 (dk_at dksX0_pace_2 12 rfl rfl)
theorem dX0_pace_63 : decode cX0_pace 63 = .ok (.iload 6, 2) := dk_21 6 (dk_at dksX0_pace_2 15 rfl rfl)
theorem dX0_pace_65 : decode cX0_pace 65 = .ok (.goto 4, 3) := dk_167 0 4 (dk_at dksX0_pace_2 17 rfl rfl)
theorem dX0_pace_68 : decode cX0_pace 68 = .ok (.iconst (-1), 1) := dk_2 (dk_at dksX0_pace_2 20 rfl rfl)
theorem dX0_pace_69 : decode cX0_pace 69 = .ok (.istore 5, 2) := dk_54 5 (dk_at dksX0_pace_2 21 rfl rfl)
theorem dX0_pace_71 : decode cX0_pace 71 = .ok (.iinc 6 1, 3) := dk_132 6 1 (dk_at dksX0_pace_3 0 rfl rfl)
theorem dX0_pace_74 : decode cX0_pace 74 = .ok (.goto (-47), 3) := dk_167 255 209 (dk_at dksX0_pace_3 3 rfl rfl)
theorem dX0_pace_77 : decode cX0_pace 77 = .ok (.aload_n 0, 1) := dk_42 (dk_at dksX0_pace_3 6 rfl rfl)
theorem dX0_pace_78 : decode cX0_pace 78 = .ok (.getfield 45, 3) := dk_180 0 45 (dk_at dksX0_pace_3 7 rfl rfl)
theorem dX0_pace_81 : decode cX0_pace 81 = .ok (.iload_n 1, 1) := dk_27 (dk_at dksX0_pace_3 10 rfl rfl)
theorem dX0_pace_82 : decode cX0_pace 82 = .ok (.iload 4, 2) := dk_21 4 (dk_at dksX0_pace_3 11 rfl rfl)
theorem dX0_pace_84 : decode cX0_pace 84 = .ok (.iastore, 1) := dk_79 (dk_at dksX0_pace_3 13 rfl rfl)
theorem dX0_pace_85 : decode cX0_pace 85 = .ok (.iload 5, 2) := dk_21 5 (dk_at dksX0_pace_3 14 rfl rfl)
theorem dX0_pace_87 : decode cX0_pace 87 = .ok (.ireturn, 1) := dk_172 (dk_at dksX0_pace_3 16 rfl rfl)
abbrev cX0_mends : ByteArray := prog_1_method_74_code
def yX0_mends : MethodName := ⟨RX0, "mends", "(II)I"⟩
def dkwX0_mends_1 : List UInt8 := [42, 180, 0, 45, 27, 46, 62, 42, 180, 0, 45, 27, 28, 79, 29, 172]
abbrev dktX0_mends_1 : List UInt8 := dkwX0_mends_1 ++ []
def dkwX0_mends_0 : List UInt8 := [42, 27, 133, 182, 0, 146, 153, 0, 15, 28, 133, 9, 20, 1, 92, 184, 0, 5, 154, 0, 6, 16, 254, 172]
abbrev dktX0_mends_0 : List UInt8 := dkwX0_mends_0 ++ dktX0_mends_1
theorem dksX0_mends_0 : cX0_mends.data.toList.drop 0 = dktX0_mends_0 := by decide +kernel
theorem dksX0_mends_1 : cX0_mends.data.toList.drop 24 = dktX0_mends_1 := dk_seg dksX0_mends_0 24 rfl rfl
theorem dX0_mends_0 : decode cX0_mends 0 = .ok (.aload_n 0, 1) := dk_42 (dk_at dksX0_mends_0 0 rfl rfl)
theorem dX0_mends_1 : decode cX0_mends 1 = .ok (.iload_n 1, 1) := dk_27 (dk_at dksX0_mends_0 1 rfl rfl)
theorem dX0_mends_2 : decode cX0_mends 2 = .ok (.i2l, 1) := dk_133 (dk_at dksX0_mends_0 2 rfl rfl)
theorem dX0_mends_3 : decode cX0_mends 3 = .ok (.invokevirtual 146, 3) := dk_182 0 146 (dk_at dksX0_mends_0 3 rfl rfl)
theorem dX0_mends_6 : decode cX0_mends 6 = .ok (.ifCond .eq 15, 3) := dk_153 0 15 (dk_at dksX0_mends_0 6 rfl rfl)
theorem dX0_mends_9 : decode cX0_mends 9 = .ok (.iload_n 2, 1) := dk_28 (dk_at dksX0_mends_0 9 rfl rfl)
theorem dX0_mends_10 : decode cX0_mends 10 = .ok (.i2l, 1) := dk_133 (dk_at dksX0_mends_0 10 rfl rfl)
theorem dX0_mends_11 : decode cX0_mends 11 = .ok (.lconst 0, 1) := dk_9 (dk_at dksX0_mends_0 11 rfl rfl)
theorem dX0_mends_12 : decode cX0_mends 12 = .ok (.ldc2_w 348, 3) := dk_20 1 92 (dk_at dksX0_mends_0 12 rfl rfl)
theorem dX0_mends_15 : decode cX0_mends 15 = .ok (.invokestatic 5, 3) := dk_184 0 5 (dk_at dksX0_mends_0 15 rfl rfl)
theorem dX0_mends_18 : decode cX0_mends 18 = .ok (.ifCond .ne 6, 3) := dk_154 0 6 (dk_at dksX0_mends_0 18 rfl rfl)
theorem dX0_mends_21 : decode cX0_mends 21 = .ok (.bipush (-2), 2) := dk_16 254 (dk_at dksX0_mends_0 21 rfl rfl)
theorem dX0_mends_23 : decode cX0_mends 23 = .ok (.ireturn, 1) := dk_172 (dk_at dksX0_mends_0 23 rfl rfl)
theorem dX0_mends_24 : decode cX0_mends 24 = .ok (.aload_n 0, 1) := dk_42 (dk_at dksX0_mends_1 0 rfl rfl)
theorem dX0_mends_25 : decode cX0_mends 25 = .ok (.getfield 45, 3) := dk_180 0 45 (dk_at dksX0_mends_1 1 rfl rfl)
theorem dX0_mends_28 : decode cX0_mends 28 = .ok (.iload_n 1, 1) := dk_27 (dk_at dksX0_mends_1 4 rfl rfl)
theorem dX0_mends_29 : decode cX0_mends 29 = .ok (.iaload, 1) := dk_46 (dk_at dksX0_mends_1 5 rfl rfl)
theorem dX0_mends_30 : decode cX0_mends 30 = .ok (.istore_n 3, 1) := dk_62 (dk_at dksX0_mends_1 6 rfl rfl)
theorem dX0_mends_31 : decode cX0_mends 31 = .ok (.aload_n 0, 1) := dk_42 (dk_at dksX0_mends_1 7 rfl rfl)
theorem dX0_mends_32 : decode cX0_mends 32 = .ok (.getfield 45, 3) := dk_180 0 45 (dk_at dksX0_mends_1 8 rfl rfl)
theorem dX0_mends_35 : decode cX0_mends 35 = .ok (.iload_n 1, 1) := dk_27 (dk_at dksX0_mends_1 11 rfl rfl)
theorem dX0_mends_36 : decode cX0_mends 36 = .ok (.iload_n 2, 1) := dk_28 (dk_at dksX0_mends_1 12 rfl rfl)
theorem dX0_mends_37 : decode cX0_mends 37 = .ok (.iastore, 1) := dk_79 (dk_at dksX0_mends_1 13 rfl rfl)
theorem dX0_mends_38 : decode cX0_mends 38 = .ok (.iload_n 3, 1) := dk_29 (dk_at dksX0_mends_1 14 rfl rfl)
theorem dX0_mends_39 : decode cX0_mends 39 = .ok (.ireturn, 1) := dk_172 (dk_at dksX0_mends_1 15 rfl rfl)
abbrev cX0_day : ByteArray := prog_1_method_77_code
def yX0_day : MethodName := ⟨RX0, "day", "(III)I"⟩
def dkwX0_day_1 : List UInt8 := [167, 0, 5, 16, 254, 172]
abbrev dktX0_day_1 : List UInt8 := dkwX0_day_1 ++ []
def dkwX0_day_0 : List UInt8 := [42, 27, 28, 29, 182, 1, 104, 153, 0, 19, 42, 27, 133, 182, 1, 106, 180, 0, 196, 28, 50, 29, 46]
abbrev dktX0_day_0 : List UInt8 := dkwX0_day_0 ++ dktX0_day_1
theorem dksX0_day_0 : cX0_day.data.toList.drop 0 = dktX0_day_0 := by decide +kernel
theorem dksX0_day_1 : cX0_day.data.toList.drop 23 = dktX0_day_1 := dk_seg dksX0_day_0 23 rfl rfl
theorem dX0_day_0 : decode cX0_day 0 = .ok (.aload_n 0, 1) := dk_42 (dk_at dksX0_day_0 0 rfl rfl)
theorem dX0_day_1 : decode cX0_day 1 = .ok (.iload_n 1, 1) := dk_27 (dk_at dksX0_day_0 1 rfl rfl)
theorem dX0_day_2 : decode cX0_day 2 = .ok (.iload_n 2, 1) := dk_28 (dk_at dksX0_day_0 2 rfl rfl)
theorem dX0_day_3 : decode cX0_day 3 = .ok (.iload_n 3, 1) := dk_29 (dk_at dksX0_day_0 3 rfl rfl)
theorem dX0_day_4 : decode cX0_day 4 = .ok (.invokevirtual 360, 3) := dk_182 1 104 (dk_at dksX0_day_0 4 rfl rfl)
theorem dX0_day_7 : decode cX0_day 7 = .ok (.ifCond .eq 19, 3) := dk_153 0 19 (dk_at dksX0_day_0 7 rfl rfl)
theorem dX0_day_10 : decode cX0_day 10 = .ok (.aload_n 0, 1) := dk_42 (dk_at dksX0_day_0 10 rfl rfl)
theorem dX0_day_11 : decode cX0_day 11 = .ok (.iload_n 1, 1) := dk_27 (dk_at dksX0_day_0 11 rfl rfl)
theorem dX0_day_12 : decode cX0_day 12 = .ok (.i2l, 1) := dk_133 (dk_at dksX0_day_0 12 rfl rfl)
theorem dX0_day_13 : decode cX0_day 13 = .ok (.invokevirtual 362, 3) := dk_182 1 106 (dk_at dksX0_day_0 13 rfl rfl)
theorem dX0_day_16 : decode cX0_day 16 = .ok (.getfield 196, 3) := dk_180 0 196 (dk_at dksX0_day_0 16 rfl rfl)
theorem dX0_day_19 : decode cX0_day 19 = .ok (.iload_n 2, 1) := dk_28 (dk_at dksX0_day_0 19 rfl rfl)
theorem dX0_day_20 : decode cX0_day 20 = .ok (.aaload, 1) := dk_50 (dk_at dksX0_day_0 20 rfl rfl)
theorem dX0_day_21 : decode cX0_day 21 = .ok (.iload_n 3, 1) := dk_29 (dk_at dksX0_day_0 21 rfl rfl)
theorem dX0_day_22 : decode cX0_day 22 = .ok (.iaload, 1) := dk_46 (dk_at dksX0_day_0 22 rfl rfl)
theorem dX0_day_23 : decode cX0_day 23 = .ok (.goto 5, 3) := dk_167 0 5 (dk_at dksX0_day_1 0 rfl rfl)
theorem dX0_day_26 : decode cX0_day 26 = .ok (.bipush (-2), 2) := dk_16 254 (dk_at dksX0_day_1 3 rfl rfl)
theorem dX0_day_28 : decode cX0_day 28 = .ok (.ireturn, 1) := dk_172 (dk_at dksX0_day_1 5 rfl rfl)
abbrev cX0_isDay : ByteArray := prog_1_method_76_code
def yX0_isDay : MethodName := ⟨RX0, "isDay", "(III)Z"⟩
def dkwX0_isDay_1 : List UInt8 := [182, 0, 150, 153, 0, 7, 4, 167, 0, 4, 3, 172]
abbrev dktX0_isDay_1 : List UInt8 := dkwX0_isDay_1 ++ []
def dkwX0_isDay_0 : List UInt8 := [27, 133, 9, 20, 1, 102, 184, 0, 5, 153, 0, 25, 42, 28, 133, 182, 0, 146, 153, 0, 16, 42, 29, 133]
abbrev dktX0_isDay_0 : List UInt8 := dkwX0_isDay_0 ++ dktX0_isDay_1
theorem dksX0_isDay_0 : cX0_isDay.data.toList.drop 0 = dktX0_isDay_0 := by decide +kernel
theorem dksX0_isDay_1 : cX0_isDay.data.toList.drop 24 = dktX0_isDay_1 := dk_seg dksX0_isDay_0 24 rfl rfl
theorem dX0_isDay_0 : decode cX0_isDay 0 = .ok (.iload_n 1, 1) := dk_27 (dk_at dksX0_isDay_0 0 rfl rfl)
theorem dX0_isDay_1 : decode cX0_isDay 1 = .ok (.i2l, 1) := dk_133 (dk_at dksX0_isDay_0 1 rfl rfl)
theorem dX0_isDay_2 : decode cX0_isDay 2 = .ok (.lconst 0, 1) := dk_9 (dk_at dksX0_isDay_0 2 rfl rfl)
theorem dX0_isDay_3 : decode cX0_isDay 3 = .ok (.ldc2_w 358, 3) := dk_20 1 102 (dk_at dksX0_isDay_0 3 rfl rfl)
theorem dX0_isDay_6 : decode cX0_isDay 6 = .ok (.invokestatic 5, 3) := dk_184 0 5 (dk_at dksX0_isDay_0 6 rfl rfl)
theorem dX0_isDay_9 : decode cX0_isDay 9 = .ok (.ifCond .eq 25, 3) := dk_153 0 25 (dk_at dksX0_isDay_0 9 rfl rfl)
theorem dX0_isDay_12 : decode cX0_isDay 12 = .ok (.aload_n 0, 1) := dk_42 (dk_at dksX0_isDay_0 12 rfl rfl)
theorem dX0_isDay_13 : decode cX0_isDay 13 = .ok (.iload_n 2, 1) := dk_28 (dk_at dksX0_isDay_0 13 rfl rfl)
theorem dX0_isDay_14 : decode cX0_isDay 14 = .ok (.i2l, 1) := dk_133 (dk_at dksX0_isDay_0 14 rfl rfl)
theorem dX0_isDay_15 : decode cX0_isDay 15 = .ok (.invokevirtual 146, 3) := dk_182 0 146 (dk_at dksX0_isDay_0 15 rfl rfl)
theorem dX0_isDay_18 : decode cX0_isDay 18 = .ok (.ifCond .eq 16, 3) := dk_153 0 16 (dk_at dksX0_isDay_0 18 rfl rfl)
theorem dX0_isDay_21 : decode cX0_isDay 21 = .ok (.aload_n 0, 1) := dk_42 (dk_at dksX0_isDay_0 21 rfl rfl)
theorem dX0_isDay_22 : decode cX0_isDay 22 = .ok (.iload_n 3, 1) := dk_29 (dk_at dksX0_isDay_0 22 rfl rfl)
theorem dX0_isDay_23 : decode cX0_isDay 23 = .ok (.i2l, 1) := dk_133 (dk_at dksX0_isDay_0 23 rfl rfl)
theorem dX0_isDay_24 : decode cX0_isDay 24 = .ok (.invokevirtual 150, 3) := dk_182 0 150 (dk_at dksX0_isDay_1 0 rfl rfl)
theorem dX0_isDay_27 : decode cX0_isDay 27 = .ok (.ifCond .eq 7, 3) := dk_153 0 7 (dk_at dksX0_isDay_1 3 rfl rfl)
theorem dX0_isDay_30 : decode cX0_isDay 30 = .ok (.iconst 1, 1) := dk_4 (dk_at dksX0_isDay_1 6 rfl rfl)
theorem dX0_isDay_31 : decode cX0_isDay 31 = .ok (.goto 4, 3) := dk_167 0 4 (dk_at dksX0_isDay_1 7 rfl rfl)
theorem dX0_isDay_34 : decode cX0_isDay 34 = .ok (.iconst 0, 1) := dk_3 (dk_at dksX0_isDay_1 10 rfl rfl)
theorem dX0_isDay_35 : decode cX0_isDay 35 = .ok (.ireturn, 1) := dk_172 (dk_at dksX0_isDay_1 11 rfl rfl)
abbrev cX0_drawn : ByteArray := prog_1_method_75_code
def yX0_drawn : MethodName := ⟨RX0, "drawn", "(J)LUnseenClock$Course;"⟩
def dkwX0_drawn_1 : List UInt8 := [181, 1, 94, 42, 180, 0, 52, 31, 181, 1, 98, 42, 180, 0, 52, 182, 0, 159, 42, 180, 0, 52, 176]
abbrev dktX0_drawn_1 : List UInt8 := dkwX0_drawn_1 ++ []
def dkwX0_drawn_0 : List UInt8 := [42, 180, 0, 52, 42, 180, 0, 41, 42, 180, 0, 45, 42, 180, 0, 113, 182, 0, 156, 42, 180, 0, 52, 4]
abbrev dktX0_drawn_0 : List UInt8 := dkwX0_drawn_0 ++ dktX0_drawn_1
theorem dksX0_drawn_0 : cX0_drawn.data.toList.drop 0 = dktX0_drawn_0 := by decide +kernel
theorem dksX0_drawn_1 : cX0_drawn.data.toList.drop 24 = dktX0_drawn_1 := dk_seg dksX0_drawn_0 24 rfl rfl
theorem dX0_drawn_0 : decode cX0_drawn 0 = .ok (.aload_n 0, 1) := dk_42 (dk_at dksX0_drawn_0 0 rfl rfl)
theorem dX0_drawn_1 : decode cX0_drawn 1 = .ok (.getfield 52, 3) := dk_180 0 52 (dk_at dksX0_drawn_0 1 rfl rfl)
theorem dX0_drawn_4 : decode cX0_drawn 4 = .ok (.aload_n 0, 1) := dk_42 (dk_at dksX0_drawn_0 4 rfl rfl)
theorem dX0_drawn_5 : decode cX0_drawn 5 = .ok (.getfield 41, 3) := dk_180 0 41 (dk_at dksX0_drawn_0 5 rfl rfl)
theorem dX0_drawn_8 : decode cX0_drawn 8 = .ok (.aload_n 0, 1) := dk_42 (dk_at dksX0_drawn_0 8 rfl rfl)
theorem dX0_drawn_9 : decode cX0_drawn 9 = .ok (.getfield 45, 3) := dk_180 0 45 (dk_at dksX0_drawn_0 9 rfl rfl)
theorem dX0_drawn_12 : decode cX0_drawn 12 = .ok (.aload_n 0, 1) := dk_42 (dk_at dksX0_drawn_0 12 rfl rfl)
theorem dX0_drawn_13 : decode cX0_drawn 13 = .ok (.getfield 113, 3) := dk_180 0 113 (dk_at dksX0_drawn_0 13 rfl rfl)
theorem dX0_drawn_16 : decode cX0_drawn 16 = .ok (.invokevirtual 156, 3) := dk_182 0 156 (dk_at dksX0_drawn_0 16 rfl rfl)
theorem dX0_drawn_19 : decode cX0_drawn 19 = .ok (.aload_n 0, 1) := dk_42 (dk_at dksX0_drawn_0 19 rfl rfl)
theorem dX0_drawn_20 : decode cX0_drawn 20 = .ok (.getfield 52, 3) := dk_180 0 52 (dk_at dksX0_drawn_0 20 rfl rfl)
theorem dX0_drawn_23 : decode cX0_drawn 23 = .ok (.iconst 1, 1) := dk_4 (dk_at dksX0_drawn_0 23 rfl rfl)
theorem dX0_drawn_24 : decode cX0_drawn 24 = .ok (.putfield 350, 3) := dk_181 1 94 (dk_at dksX0_drawn_1 0 rfl rfl)
theorem dX0_drawn_27 : decode cX0_drawn 27 = .ok (.aload_n 0, 1) := dk_42 (dk_at dksX0_drawn_1 3 rfl rfl)
theorem dX0_drawn_28 : decode cX0_drawn 28 = .ok (.getfield 52, 3) := dk_180 0 52 (dk_at dksX0_drawn_1 4 rfl rfl)
theorem dX0_drawn_31 : decode cX0_drawn 31 = .ok (.lload_n 1, 1) := dk_31 (dk_at dksX0_drawn_1 7 rfl rfl)
theorem dX0_drawn_32 : decode cX0_drawn 32 = .ok (.putfield 354, 3) := dk_181 1 98 (dk_at dksX0_drawn_1 8 rfl rfl)
theorem dX0_drawn_35 : decode cX0_drawn 35 = .ok (.aload_n 0, 1) := dk_42 (dk_at dksX0_drawn_1 11 rfl rfl)
theorem dX0_drawn_36 : decode cX0_drawn 36 = .ok (.getfield 52, 3) := dk_180 0 52 (dk_at dksX0_drawn_1 12 rfl rfl)
theorem dX0_drawn_39 : decode cX0_drawn 39 = .ok (.invokevirtual 159, 3) := dk_182 0 159 (dk_at dksX0_drawn_1 15 rfl rfl)
theorem dX0_drawn_42 : decode cX0_drawn 42 = .ok (.aload_n 0, 1) := dk_42 (dk_at dksX0_drawn_1 18 rfl rfl)
theorem dX0_drawn_43 : decode cX0_drawn 43 = .ok (.getfield 52, 3) := dk_180 0 52 (dk_at dksX0_drawn_1 19 rfl rfl)
theorem dX0_drawn_46 : decode cX0_drawn 46 = .ok (.areturn, 1) := dk_176 (dk_at dksX0_drawn_1 22 rfl rfl)
abbrev cX0_days : ByteArray := prog_1_method_78_code
def yX0_days : MethodName := ⟨RX0, "days", "(IIIII)I"⟩
def dkwX0_days_3 : List UInt8 := [160, 0, 7, 4, 167, 0, 4, 3, 96, 54, 6, 132, 7, 1, 167, 255, 214, 21, 6, 172]
abbrev dktX0_days_3 : List UInt8 := dkwX0_days_3 ++ []
def dkwX0_days_2 : List UInt8 := [21, 6, 42, 27, 133, 21, 7, 133, 97, 182, 1, 106, 180, 0, 196, 29, 50, 21, 4, 46, 21, 5]
abbrev dktX0_days_2 : List UInt8 := dkwX0_days_2 ++ dktX0_days_3
def dkwX0_days_1 : List UInt8 := [21, 5, 133, 184, 0, 153, 154, 0, 6, 16, 254, 172, 3, 54, 6, 3, 54, 7, 21, 7, 28, 162, 0, 42]
abbrev dktX0_days_1 : List UInt8 := dkwX0_days_1 ++ dktX0_days_2
def dkwX0_days_0 : List UInt8 := [42, 27, 29, 21, 4, 182, 1, 104, 153, 0, 24, 28, 133, 10, 20, 1, 110, 184, 0, 5, 153, 0, 12]
abbrev dktX0_days_0 : List UInt8 := dkwX0_days_0 ++ dktX0_days_1
theorem dksX0_days_0 : cX0_days.data.toList.drop 0 = dktX0_days_0 := by decide +kernel
theorem dksX0_days_1 : cX0_days.data.toList.drop 23 = dktX0_days_1 := dk_seg dksX0_days_0 23 rfl rfl
theorem dksX0_days_2 : cX0_days.data.toList.drop 47 = dktX0_days_2 := dk_seg dksX0_days_1 24 rfl rfl
theorem dksX0_days_3 : cX0_days.data.toList.drop 69 = dktX0_days_3 := dk_seg dksX0_days_2 22 rfl rfl
theorem dX0_days_0 : decode cX0_days 0 = .ok (.aload_n 0, 1) := dk_42 (dk_at dksX0_days_0 0 rfl rfl)
theorem dX0_days_1 : decode cX0_days 1 = .ok (.iload_n 1, 1) := dk_27 (dk_at dksX0_days_0 1 rfl rfl)
theorem dX0_days_2 : decode cX0_days 2 = .ok (.iload_n 3, 1) := dk_29 (dk_at dksX0_days_0 2 rfl rfl)
theorem dX0_days_3 : decode cX0_days 3 = .ok (.iload 4, 2) := dk_21 4 (dk_at dksX0_days_0 3 rfl rfl)
theorem dX0_days_5 : decode cX0_days 5 = .ok (.invokevirtual 360, 3) := dk_182 1 104 (dk_at dksX0_days_0 5 rfl rfl)
theorem dX0_days_8 : decode cX0_days 8 = .ok (.ifCond .eq 24, 3) := dk_153 0 24 (dk_at dksX0_days_0 8 rfl rfl)
theorem dX0_days_11 : decode cX0_days 11 = .ok (.iload_n 2, 1) := dk_28 (dk_at dksX0_days_0 11 rfl rfl)
theorem dX0_days_12 : decode cX0_days 12 = .ok (.i2l, 1) := dk_133 (dk_at dksX0_days_0 12 rfl rfl)
theorem dX0_days_13 : decode cX0_days 13 = .ok (.lconst 1, 1) := dk_10 (dk_at dksX0_days_0 13 rfl rfl)
theorem dX0_days_14 : decode cX0_days 14 = .ok (.ldc2_w 366, 3) := dk_20 1 110 (dk_at dksX0_days_0 14 rfl rfl)
theorem dX0_days_17 : decode cX0_days 17 = .ok (.invokestatic 5, 3) := dk_184 0 5 (dk_at dksX0_days_0 17 rfl rfl)
theorem dX0_days_20 : decode cX0_days 20 = .ok (.ifCond .eq 12, 3) := dk_153 0 12 (dk_at dksX0_days_0 20 rfl rfl)
theorem dX0_days_23 : decode cX0_days 23 = .ok (.iload 5, 2) := dk_21 5 (dk_at dksX0_days_1 0 rfl rfl)
theorem dX0_days_25 : decode cX0_days 25 = .ok (.i2l, 1) := dk_133 (dk_at dksX0_days_1 2 rfl rfl)
theorem dX0_days_26 : decode cX0_days 26 = .ok (.invokestatic 153, 3) := dk_184 0 153 (dk_at dksX0_days_1 3 rfl rfl)
theorem dX0_days_29 : decode cX0_days 29 = .ok (.ifCond .ne 6, 3) := dk_154 0 6 (dk_at dksX0_days_1 6 rfl rfl)
theorem dX0_days_32 : decode cX0_days 32 = .ok (.bipush (-2), 2) := dk_16 254 (dk_at dksX0_days_1 9 rfl rfl)
theorem dX0_days_34 : decode cX0_days 34 = .ok (.ireturn, 1) := dk_172 (dk_at dksX0_days_1 11 rfl rfl)
theorem dX0_days_35 : decode cX0_days 35 = .ok (.iconst 0, 1) := dk_3 (dk_at dksX0_days_1 12 rfl rfl)
theorem dX0_days_36 : decode cX0_days 36 = .ok (.istore 6, 2) := dk_54 6 (dk_at dksX0_days_1 13 rfl rfl)
theorem dX0_days_38 : decode cX0_days 38 = .ok (.iconst 0, 1) := dk_3 (dk_at dksX0_days_1 15 rfl rfl)
theorem dX0_days_39 : decode cX0_days 39 = .ok (.istore 7, 2) := dk_54 7 (dk_at dksX0_days_1 16 rfl rfl)
theorem dX0_days_41 : decode cX0_days 41 = .ok (.iload 7, 2) := dk_21 7 (dk_at dksX0_days_1 18 rfl rfl)
theorem dX0_days_43 : decode cX0_days 43 = .ok (.iload_n 2, 1) := dk_28 (dk_at dksX0_days_1 20 rfl rfl)
theorem dX0_days_44 : decode cX0_days 44 = .ok (.if_icmp .ge 42, 3) := dk_162 0 42 (dk_at dksX0_days_1 21 rfl rfl)
theorem dX0_days_47 : decode cX0_days 47 = .ok (.iload 6, 2) := dk_21 6 (dk_at dksX0_days_2 0 rfl rfl)
theorem dX0_days_49 : decode cX0_days 49 = .ok (.aload_n 0, 1) := dk_42 (dk_at dksX0_days_2 2 rfl rfl)
theorem dX0_days_50 : decode cX0_days 50 = .ok (.iload_n 1, 1) := dk_27 (dk_at dksX0_days_2 3 rfl rfl)
theorem dX0_days_51 : decode cX0_days 51 = .ok (.i2l, 1) := dk_133 (dk_at dksX0_days_2 4 rfl rfl)
theorem dX0_days_52 : decode cX0_days 52 = .ok (.iload 7, 2) := dk_21 7 (dk_at dksX0_days_2 5 rfl rfl)
theorem dX0_days_54 : decode cX0_days 54 = .ok (.i2l, 1) := dk_133 (dk_at dksX0_days_2 7 rfl rfl)
theorem dX0_days_55 : decode cX0_days 55 = .ok (.ladd, 1) := dk_97 (dk_at dksX0_days_2 8 rfl rfl)
theorem dX0_days_56 : decode cX0_days 56 = .ok (.invokevirtual 362, 3) := dk_182 1 106 (dk_at dksX0_days_2 9 rfl rfl)
theorem dX0_days_59 : decode cX0_days 59 = .ok (.getfield 196, 3) := dk_180 0 196 (dk_at dksX0_days_2 12 rfl rfl)
theorem dX0_days_62 : decode cX0_days 62 = .ok (.iload_n 3, 1) := dk_29 (dk_at dksX0_days_2 15 rfl rfl)
theorem dX0_days_63 : decode cX0_days 63 = .ok (.aaload, 1) := dk_50 (dk_at dksX0_days_2 16 rfl rfl)
theorem dX0_days_64 : decode cX0_days 64 = .ok (.iload 4, 2) := dk_21 4 (dk_at dksX0_days_2 17 rfl rfl)
theorem dX0_days_66 : decode cX0_days 66 = .ok (.iaload, 1) := dk_46 (dk_at dksX0_days_2 19 rfl rfl)
theorem dX0_days_67 : decode cX0_days 67 = .ok (.iload 5, 2) := dk_21 5 (dk_at dksX0_days_2 20 rfl rfl)
theorem dX0_days_69 : decode cX0_days 69 = .ok (.if_icmp .ne 7, 3) := dk_160 0 7 (dk_at dksX0_days_3 0 rfl rfl)
theorem dX0_days_72 : decode cX0_days 72 = .ok (.iconst 1, 1) := dk_4 (dk_at dksX0_days_3 3 rfl rfl)
theorem dX0_days_73 : decode cX0_days 73 = .ok (.goto 4, 3) := dk_167 0 4 (dk_at dksX0_days_3 4 rfl rfl)
theorem dX0_days_76 : decode cX0_days 76 = .ok (.iconst 0, 1) := dk_3 (dk_at dksX0_days_3 7 rfl rfl)
theorem dX0_days_77 : decode cX0_days 77 = .ok (.iadd, 1) := dk_96 (dk_at dksX0_days_3 8 rfl rfl)
theorem dX0_days_78 : decode cX0_days 78 = .ok (.istore 6, 2) := dk_54 6 (dk_at dksX0_days_3 9 rfl rfl)
theorem dX0_days_80 : decode cX0_days 80 = .ok (.iinc 7 1, 3) := dk_132 7 1 (dk_at dksX0_days_3 11 rfl rfl)
theorem dX0_days_83 : decode cX0_days 83 = .ok (.goto (-42), 3) := dk_167 255 214 (dk_at dksX0_days_3 14 rfl rfl)
theorem dX0_days_86 : decode cX0_days 86 = .ok (.iload 6, 2) := dk_21 6 (dk_at dksX0_days_3 17 rfl rfl)
theorem dX0_days_88 : decode cX0_days 88 = .ok (.ireturn, 1) := dk_172 (dk_at dksX0_days_3 19 rfl rfl)
abbrev cX0_count : ByteArray := prog_1_method_79_code
def yX0_count : MethodName := ⟨RX0, "count", "(I)I"⟩
def dkwX0_count_6 : List UInt8 := [199, 0, 7, 3, 167, 0, 4, 4, 96, 61, 132, 5, 1, 167, 255, 224, 28, 172, 2, 172]
abbrev dktX0_count_6 : List UInt8 := dkwX0_count_6 ++ []
def dkwX0_count_5 : List UInt8 := [54, 4, 3, 54, 5, 21, 5, 21, 4, 162, 0, 31, 45, 21, 5, 50, 58, 6, 28, 25, 6, 180, 0, 251]
abbrev dktX0_count_5 : List UInt8 := dkwX0_count_5 ++ dktX0_count_6
def dkwX0_count_4 : List UInt8 := [180, 0, 119, 172, 42, 180, 0, 83, 172, 42, 180, 0, 113, 172, 3, 61, 42, 180, 0, 13, 78, 45, 190]
abbrev dktX0_count_4 : List UInt8 := dkwX0_count_4 ++ dktX0_count_5
def dkwX0_count_3 : List UInt8 := [42, 182, 0, 135, 172, 42, 182, 0, 133, 172, 42, 180, 0, 41, 180, 1, 112, 172, 42, 180, 0, 41]
abbrev dktX0_count_3 : List UInt8 := dkwX0_count_3 ++ dktX0_count_4
def dkwX0_count_2 : List UInt8 := [42, 180, 0, 41, 180, 1, 53, 172, 42, 180, 0, 41, 180, 1, 56, 172, 42, 180, 0, 41, 180, 0, 137, 172]
abbrev dktX0_count_2 : List UInt8 := dkwX0_count_2 ++ dktX0_count_3
def dkwX0_count_1 : List UInt8 := [170, 0, 0, 0, 0, 0, 166, 0, 0, 0, 0, 0, 0, 0, 9, 0, 0, 0, 55, 0, 0, 0, 63, 0, 0, 0, 71, 0, 0, 0, 79, 0, 0, 0, 84, 0, 0, 0, 89, 0, 0, 0, 97, 0, 0, 0, 105, 0, 0, 0, 110, 0, 0, 0, 115]
abbrev dktX0_count_1 : List UInt8 := dkwX0_count_1 ++ dktX0_count_2
def dkwX0_count_0 : List UInt8 := [27]
abbrev dktX0_count_0 : List UInt8 := dkwX0_count_0 ++ dktX0_count_1
theorem dksX0_count_0 : cX0_count.data.toList.drop 0 = dktX0_count_0 := by decide +kernel
theorem dksX0_count_1 : cX0_count.data.toList.drop 1 = dktX0_count_1 := dk_seg dksX0_count_0 1 rfl rfl
theorem dksX0_count_2 : cX0_count.data.toList.drop 56 = dktX0_count_2 := dk_seg dksX0_count_1 55 rfl rfl
theorem dksX0_count_3 : cX0_count.data.toList.drop 80 = dktX0_count_3 := dk_seg dksX0_count_2 24 rfl rfl
theorem dksX0_count_4 : cX0_count.data.toList.drop 102 = dktX0_count_4 := dk_seg dksX0_count_3 22 rfl rfl
theorem dksX0_count_5 : cX0_count.data.toList.drop 125 = dktX0_count_5 := dk_seg dksX0_count_4 23 rfl rfl
theorem dksX0_count_6 : cX0_count.data.toList.drop 149 = dktX0_count_6 := dk_seg dksX0_count_5 24 rfl rfl
theorem dX0_count_0 : decode cX0_count 0 = .ok (.iload_n 1, 1) := dk_27 (dk_at dksX0_count_0 0 rfl rfl)
theorem dX0_count_1 : decode cX0_count 1 = .ok (.tableswitch 166 0 9 #[55, 63, 71, 79, 84, 89, 97, 105, 110, 115], 55) := by decide +kernel
theorem dX0_count_56 : decode cX0_count 56 = .ok (.aload_n 0, 1) := dk_42 (dk_at dksX0_count_2 0 rfl rfl)
theorem dX0_count_57 : decode cX0_count 57 = .ok (.getfield 41, 3) := dk_180 0 41 (dk_at dksX0_count_2 1 rfl rfl)
theorem dX0_count_60 : decode cX0_count 60 = .ok (.getfield 309, 3) := dk_180 1 53 (dk_at dksX0_count_2 4 rfl rfl)
theorem dX0_count_63 : decode cX0_count 63 = .ok (.ireturn, 1) := dk_172 (dk_at dksX0_count_2 7 rfl rfl)
theorem dX0_count_64 : decode cX0_count 64 = .ok (.aload_n 0, 1) := dk_42 (dk_at dksX0_count_2 8 rfl rfl)
theorem dX0_count_65 : decode cX0_count 65 = .ok (.getfield 41, 3) := dk_180 0 41 (dk_at dksX0_count_2 9 rfl rfl)
theorem dX0_count_68 : decode cX0_count 68 = .ok (.getfield 312, 3) := dk_180 1 56 (dk_at dksX0_count_2 12 rfl rfl)
theorem dX0_count_71 : decode cX0_count 71 = .ok (.ireturn, 1) := dk_172 (dk_at dksX0_count_2 15 rfl rfl)
theorem dX0_count_72 : decode cX0_count 72 = .ok (.aload_n 0, 1) := dk_42 (dk_at dksX0_count_2 16 rfl rfl)
theorem dX0_count_73 : decode cX0_count 73 = .ok (.getfield 41, 3) := dk_180 0 41 (dk_at dksX0_count_2 17 rfl rfl)
theorem dX0_count_76 : decode cX0_count 76 = .ok (.getfield 137, 3) := dk_180 0 137 (dk_at dksX0_count_2 20 rfl rfl)
theorem dX0_count_79 : decode cX0_count 79 = .ok (.ireturn, 1) := dk_172 (dk_at dksX0_count_2 23 rfl rfl)
theorem dX0_count_80 : decode cX0_count 80 = .ok (.aload_n 0, 1) := dk_42 (dk_at dksX0_count_3 0 rfl rfl)
theorem dX0_count_81 : decode cX0_count 81 = .ok (.invokevirtual 135, 3) := dk_182 0 135 (dk_at dksX0_count_3 1 rfl rfl)
theorem dX0_count_84 : decode cX0_count 84 = .ok (.ireturn, 1) := dk_172 (dk_at dksX0_count_3 4 rfl rfl)
theorem dX0_count_85 : decode cX0_count 85 = .ok (.aload_n 0, 1) := dk_42 (dk_at dksX0_count_3 5 rfl rfl)
theorem dX0_count_86 : decode cX0_count 86 = .ok (.invokevirtual 133, 3) := dk_182 0 133 (dk_at dksX0_count_3 6 rfl rfl)
theorem dX0_count_89 : decode cX0_count 89 = .ok (.ireturn, 1) := dk_172 (dk_at dksX0_count_3 9 rfl rfl)
theorem dX0_count_90 : decode cX0_count 90 = .ok (.aload_n 0, 1) := dk_42 (dk_at dksX0_count_3 10 rfl rfl)
theorem dX0_count_91 : decode cX0_count 91 = .ok (.getfield 41, 3) := dk_180 0 41 (dk_at dksX0_count_3 11 rfl rfl)
theorem dX0_count_94 : decode cX0_count 94 = .ok (.getfield 368, 3) := dk_180 1 112 (dk_at dksX0_count_3 14 rfl rfl)
theorem dX0_count_97 : decode cX0_count 97 = .ok (.ireturn, 1) := dk_172 (dk_at dksX0_count_3 17 rfl rfl)
theorem dX0_count_98 : decode cX0_count 98 = .ok (.aload_n 0, 1) := dk_42 (dk_at dksX0_count_3 18 rfl rfl)
theorem dX0_count_99 : decode cX0_count 99 = .ok (.getfield 41, 3) := dk_180 0 41 (dk_at dksX0_count_3 19 rfl rfl)
theorem dX0_count_102 : decode cX0_count 102 = .ok (.getfield 119, 3) := dk_180 0 119 (dk_at dksX0_count_4 0 rfl rfl)
theorem dX0_count_105 : decode cX0_count 105 = .ok (.ireturn, 1) := dk_172 (dk_at dksX0_count_4 3 rfl rfl)
theorem dX0_count_106 : decode cX0_count 106 = .ok (.aload_n 0, 1) := dk_42 (dk_at dksX0_count_4 4 rfl rfl)
theorem dX0_count_107 : decode cX0_count 107 = .ok (.getfield 83, 3) := dk_180 0 83 (dk_at dksX0_count_4 5 rfl rfl)
theorem dX0_count_110 : decode cX0_count 110 = .ok (.ireturn, 1) := dk_172 (dk_at dksX0_count_4 8 rfl rfl)
theorem dX0_count_111 : decode cX0_count 111 = .ok (.aload_n 0, 1) := dk_42 (dk_at dksX0_count_4 9 rfl rfl)
theorem dX0_count_112 : decode cX0_count 112 = .ok (.getfield 113, 3) := dk_180 0 113 (dk_at dksX0_count_4 10 rfl rfl)
theorem dX0_count_115 : decode cX0_count 115 = .ok (.ireturn, 1) := dk_172 (dk_at dksX0_count_4 13 rfl rfl)
theorem dX0_count_116 : decode cX0_count 116 = .ok (.iconst 0, 1) := dk_3 (dk_at dksX0_count_4 14 rfl rfl)
theorem dX0_count_117 : decode cX0_count 117 = .ok (.istore_n 2, 1) := dk_61 (dk_at dksX0_count_4 15 rfl rfl)
theorem dX0_count_118 : decode cX0_count 118 = .ok (.aload_n 0, 1) := dk_42 (dk_at dksX0_count_4 16 rfl rfl)
theorem dX0_count_119 : decode cX0_count 119 = .ok (.getfield 13, 3) := dk_180 0 13 (dk_at dksX0_count_4 17 rfl rfl)
theorem dX0_count_122 : decode cX0_count 122 = .ok (.astore_n 3, 1) := dk_78 (dk_at dksX0_count_4 20 rfl rfl)
theorem dX0_count_123 : decode cX0_count 123 = .ok (.aload_n 3, 1) := dk_45 (dk_at dksX0_count_4 21 rfl rfl)
theorem dX0_count_124 : decode cX0_count 124 = .ok (.arraylength, 1) := dk_190 (dk_at dksX0_count_4 22 rfl rfl)
theorem dX0_count_125 : decode cX0_count 125 = .ok (.istore 4, 2) := dk_54 4 (dk_at dksX0_count_5 0 rfl rfl)
theorem dX0_count_127 : decode cX0_count 127 = .ok (.iconst 0, 1) := dk_3 (dk_at dksX0_count_5 2 rfl rfl)
theorem dX0_count_128 : decode cX0_count 128 = .ok (.istore 5, 2) := dk_54 5 (dk_at dksX0_count_5 3 rfl rfl)
theorem dX0_count_130 : decode cX0_count 130 = .ok (.iload 5, 2) := dk_21 5 (dk_at dksX0_count_5 5 rfl rfl)
theorem dX0_count_132 : decode cX0_count 132 = .ok (.iload 4, 2) := dk_21 4 (dk_at dksX0_count_5 7 rfl rfl)
theorem dX0_count_134 : decode cX0_count 134 = .ok (.if_icmp .ge 31, 3) := dk_162 0 31 (dk_at dksX0_count_5 9 rfl rfl)
theorem dX0_count_137 : decode cX0_count 137 = .ok (.aload_n 3, 1) := dk_45 (dk_at dksX0_count_5 12 rfl rfl)
theorem dX0_count_138 : decode cX0_count 138 = .ok (.iload 5, 2) := dk_21 5 (dk_at dksX0_count_5 13 rfl rfl)
theorem dX0_count_140 : decode cX0_count 140 = .ok (.aaload, 1) := dk_50 (dk_at dksX0_count_5 15 rfl rfl)
theorem dX0_count_141 : decode cX0_count 141 = .ok (.astore 6, 2) := dk_58 6 (dk_at dksX0_count_5 16 rfl rfl)
theorem dX0_count_143 : decode cX0_count 143 = .ok (.iload_n 2, 1) := dk_28 (dk_at dksX0_count_5 18 rfl rfl)
theorem dX0_count_144 : decode cX0_count 144 = .ok (.aload 6, 2) := dk_25 6 (dk_at dksX0_count_5 19 rfl rfl)
theorem dX0_count_146 : decode cX0_count 146 = .ok (.getfield 251, 3) := dk_180 0 251 (dk_at dksX0_count_5 21 rfl rfl)
theorem dX0_count_149 : decode cX0_count 149 = .ok (.ifnonnull 7, 3) := dk_199 0 7 (dk_at dksX0_count_6 0 rfl rfl)
theorem dX0_count_152 : decode cX0_count 152 = .ok (.iconst 0, 1) := dk_3 (dk_at dksX0_count_6 3 rfl rfl)
theorem dX0_count_153 : decode cX0_count 153 = .ok (.goto 4, 3) := dk_167 0 4 (dk_at dksX0_count_6 4 rfl rfl)
theorem dX0_count_156 : decode cX0_count 156 = .ok (.iconst 1, 1) := dk_4 (dk_at dksX0_count_6 7 rfl rfl)
theorem dX0_count_157 : decode cX0_count 157 = .ok (.iadd, 1) := dk_96 (dk_at dksX0_count_6 8 rfl rfl)
theorem dX0_count_158 : decode cX0_count 158 = .ok (.istore_n 2, 1) := dk_61 (dk_at dksX0_count_6 9 rfl rfl)
theorem dX0_count_159 : decode cX0_count 159 = .ok (.iinc 5 1, 3) := dk_132 5 1 (dk_at dksX0_count_6 10 rfl rfl)
theorem dX0_count_162 : decode cX0_count 162 = .ok (.goto (-32), 3) := dk_167 255 224 (dk_at dksX0_count_6 13 rfl rfl)
theorem dX0_count_165 : decode cX0_count 165 = .ok (.iload_n 2, 1) := dk_28 (dk_at dksX0_count_6 16 rfl rfl)
theorem dX0_count_166 : decode cX0_count 166 = .ok (.ireturn, 1) := dk_172 (dk_at dksX0_count_6 17 rfl rfl)
theorem dX0_count_167 : decode cX0_count 167 = .ok (.iconst (-1), 1) := dk_2 (dk_at dksX0_count_6 18 rfl rfl)
theorem dX0_count_168 : decode cX0_count 168 = .ok (.ireturn, 1) := dk_172 (dk_at dksX0_count_6 19 rfl rfl)
abbrev cX0_image : ByteArray := prog_1_method_80_code
def yX0_image : MethodName := ⟨RX0, "image", "(I)I"⟩
def dkwX0_image_3 : List UInt8 := [180, 0, 67, 27, 50, 180, 1, 120, 3, 7, 184, 1, 121, 3, 172]
abbrev dktX0_image_3 : List UInt8 := dkwX0_image_3 ++ []
def dkwX0_image_2 : List UInt8 := [181, 1, 116, 42, 180, 0, 67, 27, 50, 42, 180, 0, 113, 181, 1, 119, 42, 180, 0, 45, 3, 42]
abbrev dktX0_image_2 : List UInt8 := dkwX0_image_2 ++ dktX0_image_3
def dkwX0_image_1 : List UInt8 := [42, 180, 0, 67, 27, 187, 0, 65, 89, 183, 1, 115, 83, 42, 180, 0, 67, 27, 50, 42, 180, 0, 41]
abbrev dktX0_image_1 : List UInt8 := dkwX0_image_1 ++ dktX0_image_2
def dkwX0_image_0 : List UInt8 := [27, 133, 9, 20, 0, 199, 184, 0, 5, 154, 0, 6, 16, 254, 172, 42, 180, 0, 67, 27, 50, 199, 0, 16]
abbrev dktX0_image_0 : List UInt8 := dkwX0_image_0 ++ dktX0_image_1
theorem dksX0_image_0 : cX0_image.data.toList.drop 0 = dktX0_image_0 := by decide +kernel
theorem dksX0_image_1 : cX0_image.data.toList.drop 24 = dktX0_image_1 := dk_seg dksX0_image_0 24 rfl rfl
theorem dksX0_image_2 : cX0_image.data.toList.drop 47 = dktX0_image_2 := dk_seg dksX0_image_1 23 rfl rfl
theorem dksX0_image_3 : cX0_image.data.toList.drop 69 = dktX0_image_3 := dk_seg dksX0_image_2 22 rfl rfl
theorem dX0_image_0 : decode cX0_image 0 = .ok (.iload_n 1, 1) := dk_27 (dk_at dksX0_image_0 0 rfl rfl)
theorem dX0_image_1 : decode cX0_image 1 = .ok (.i2l, 1) := dk_133 (dk_at dksX0_image_0 1 rfl rfl)
theorem dX0_image_2 : decode cX0_image 2 = .ok (.lconst 0, 1) := dk_9 (dk_at dksX0_image_0 2 rfl rfl)
theorem dX0_image_3 : decode cX0_image 3 = .ok (.ldc2_w 199, 3) := dk_20 0 199 (dk_at dksX0_image_0 3 rfl rfl)
theorem dX0_image_6 : decode cX0_image 6 = .ok (.invokestatic 5, 3) := dk_184 0 5 (dk_at dksX0_image_0 6 rfl rfl)
theorem dX0_image_9 : decode cX0_image 9 = .ok (.ifCond .ne 6, 3) := dk_154 0 6 (dk_at dksX0_image_0 9 rfl rfl)
theorem dX0_image_12 : decode cX0_image 12 = .ok (.bipush (-2), 2) := dk_16 254 (dk_at dksX0_image_0 12 rfl rfl)
theorem dX0_image_14 : decode cX0_image 14 = .ok (.ireturn, 1) := dk_172 (dk_at dksX0_image_0 14 rfl rfl)
theorem dX0_image_15 : decode cX0_image 15 = .ok (.aload_n 0, 1) := dk_42 (dk_at dksX0_image_0 15 rfl rfl)
theorem dX0_image_16 : decode cX0_image 16 = .ok (.getfield 67, 3) := dk_180 0 67 (dk_at dksX0_image_0 16 rfl rfl)
theorem dX0_image_19 : decode cX0_image 19 = .ok (.iload_n 1, 1) := dk_27 (dk_at dksX0_image_0 19 rfl rfl)
theorem dX0_image_20 : decode cX0_image 20 = .ok (.aaload, 1) := dk_50 (dk_at dksX0_image_0 20 rfl rfl)
theorem dX0_image_21 : decode cX0_image 21 = .ok (.ifnonnull 16, 3) := dk_199 0 16 (dk_at dksX0_image_0 21 rfl rfl)
theorem dX0_image_24 : decode cX0_image 24 = .ok (.aload_n 0, 1) := dk_42 (dk_at dksX0_image_1 0 rfl rfl)
theorem dX0_image_25 : decode cX0_image 25 = .ok (.getfield 67, 3) := dk_180 0 67 (dk_at dksX0_image_1 1 rfl rfl)
theorem dX0_image_28 : decode cX0_image 28 = .ok (.iload_n 1, 1) := dk_27 (dk_at dksX0_image_1 4 rfl rfl)
theorem dX0_image_29 : decode cX0_image 29 = .ok (.new 65, 3) := dk_187 0 65 (dk_at dksX0_image_1 5 rfl rfl)
theorem dX0_image_32 : decode cX0_image 32 = .ok (.dup, 1) := dk_89 (dk_at dksX0_image_1 8 rfl rfl)
theorem dX0_image_33 : decode cX0_image 33 = .ok (.invokespecial 371, 3) := dk_183 1 115 (dk_at dksX0_image_1 9 rfl rfl)
theorem dX0_image_36 : decode cX0_image 36 = .ok (.aastore, 1) := dk_83 (dk_at dksX0_image_1 12 rfl rfl)
theorem dX0_image_37 : decode cX0_image 37 = .ok (.aload_n 0, 1) := dk_42 (dk_at dksX0_image_1 13 rfl rfl)
theorem dX0_image_38 : decode cX0_image 38 = .ok (.getfield 67, 3) := dk_180 0 67 (dk_at dksX0_image_1 14 rfl rfl)
theorem dX0_image_41 : decode cX0_image 41 = .ok (.iload_n 1, 1) := dk_27 (dk_at dksX0_image_1 17 rfl rfl)
theorem dX0_image_42 : decode cX0_image 42 = .ok (.aaload, 1) := dk_50 (dk_at dksX0_image_1 18 rfl rfl)
theorem dX0_image_43 : decode cX0_image 43 = .ok (.aload_n 0, 1) := dk_42 (dk_at dksX0_image_1 19 rfl rfl)
theorem dX0_image_44 : decode cX0_image 44 = .ok (.getfield 41, 3) := dk_180 0 41 (dk_at dksX0_image_1 20 rfl rfl)
theorem dX0_image_47 : decode cX0_image 47 = .ok (.putfield 372, 3) := dk_181 1 116 (dk_at dksX0_image_2 0 rfl rfl)
theorem dX0_image_50 : decode cX0_image 50 = .ok (.aload_n 0, 1) := dk_42 (dk_at dksX0_image_2 3 rfl rfl)
theorem dX0_image_51 : decode cX0_image 51 = .ok (.getfield 67, 3) := dk_180 0 67 (dk_at dksX0_image_2 4 rfl rfl)
theorem dX0_image_54 : decode cX0_image 54 = .ok (.iload_n 1, 1) := dk_27 (dk_at dksX0_image_2 7 rfl rfl)
theorem dX0_image_55 : decode cX0_image 55 = .ok (.aaload, 1) := dk_50 (dk_at dksX0_image_2 8 rfl rfl)
theorem dX0_image_56 : decode cX0_image 56 = .ok (.aload_n 0, 1) := dk_42 (dk_at dksX0_image_2 9 rfl rfl)
theorem dX0_image_57 : decode cX0_image 57 = .ok (.getfield 113, 3) := dk_180 0 113 (dk_at dksX0_image_2 10 rfl rfl)
theorem dX0_image_60 : decode cX0_image 60 = .ok (.putfield 375, 3) := dk_181 1 119 (dk_at dksX0_image_2 13 rfl rfl)
theorem dX0_image_63 : decode cX0_image 63 = .ok (.aload_n 0, 1) := dk_42 (dk_at dksX0_image_2 16 rfl rfl)
theorem dX0_image_64 : decode cX0_image 64 = .ok (.getfield 45, 3) := dk_180 0 45 (dk_at dksX0_image_2 17 rfl rfl)
theorem dX0_image_67 : decode cX0_image 67 = .ok (.iconst 0, 1) := dk_3 (dk_at dksX0_image_2 20 rfl rfl)
theorem dX0_image_68 : decode cX0_image 68 = .ok (.aload_n 0, 1) := dk_42 (dk_at dksX0_image_2 21 rfl rfl)
theorem dX0_image_69 : decode cX0_image 69 = .ok (.getfield 67, 3) := dk_180 0 67 (dk_at dksX0_image_3 0 rfl rfl)
theorem dX0_image_72 : decode cX0_image 72 = .ok (.iload_n 1, 1) := dk_27 (dk_at dksX0_image_3 3 rfl rfl)
theorem dX0_image_73 : decode cX0_image 73 = .ok (.aaload, 1) := dk_50 (dk_at dksX0_image_3 4 rfl rfl)
theorem dX0_image_74 : decode cX0_image 74 = .ok (.getfield 376, 3) := dk_180 1 120 (dk_at dksX0_image_3 5 rfl rfl)
theorem dX0_image_77 : decode cX0_image 77 = .ok (.iconst 0, 1) := dk_3 (dk_at dksX0_image_3 8 rfl rfl)
theorem dX0_image_78 : decode cX0_image 78 = .ok (.iconst 4, 1) := dk_7 (dk_at dksX0_image_3 9 rfl rfl)
theorem dX0_image_79 : decode cX0_image 79 = .ok (.invokestatic 377, 3) := dk_184 1 121 (dk_at dksX0_image_3 10 rfl rfl)
theorem dX0_image_82 : decode cX0_image 82 = .ok (.iconst 0, 1) := dk_3 (dk_at dksX0_image_3 13 rfl rfl)
theorem dX0_image_83 : decode cX0_image 83 = .ok (.ireturn, 1) := dk_172 (dk_at dksX0_image_3 14 rfl rfl)
abbrev cX0_back : ByteArray := prog_1_method_81_code
def yX0_back : MethodName := ⟨RX0, "back", "(I)I"⟩
def dkwX0_back_3 : List UInt8 := [184, 1, 121, 3, 172]
abbrev dktX0_back_3 : List UInt8 := dkwX0_back_3 ++ []
def dkwX0_back_2 : List UInt8 := [180, 1, 119, 181, 0, 113, 42, 180, 0, 67, 27, 50, 180, 1, 120, 3, 42, 180, 0, 45, 3, 7]
abbrev dktX0_back_2 : List UInt8 := dkwX0_back_2 ++ dktX0_back_3
def dkwX0_back_1 : List UInt8 := [16, 250, 172, 42, 42, 180, 0, 67, 27, 50, 180, 1, 116, 181, 0, 41, 42, 42, 180, 0, 67, 27, 50]
abbrev dktX0_back_1 : List UInt8 := dkwX0_back_1 ++ dktX0_back_2
def dkwX0_back_0 : List UInt8 := [27, 133, 9, 20, 0, 199, 184, 0, 5, 154, 0, 6, 16, 254, 172, 42, 180, 0, 67, 27, 50, 199, 0, 6]
abbrev dktX0_back_0 : List UInt8 := dkwX0_back_0 ++ dktX0_back_1
theorem dksX0_back_0 : cX0_back.data.toList.drop 0 = dktX0_back_0 := by decide +kernel
theorem dksX0_back_1 : cX0_back.data.toList.drop 24 = dktX0_back_1 := dk_seg dksX0_back_0 24 rfl rfl
theorem dksX0_back_2 : cX0_back.data.toList.drop 47 = dktX0_back_2 := dk_seg dksX0_back_1 23 rfl rfl
theorem dksX0_back_3 : cX0_back.data.toList.drop 69 = dktX0_back_3 := dk_seg dksX0_back_2 22 rfl rfl
theorem dX0_back_0 : decode cX0_back 0 = .ok (.iload_n 1, 1) := dk_27 (dk_at dksX0_back_0 0 rfl rfl)
theorem dX0_back_1 : decode cX0_back 1 = .ok (.i2l, 1) := dk_133 (dk_at dksX0_back_0 1 rfl rfl)
theorem dX0_back_2 : decode cX0_back 2 = .ok (.lconst 0, 1) := dk_9 (dk_at dksX0_back_0 2 rfl rfl)
theorem dX0_back_3 : decode cX0_back 3 = .ok (.ldc2_w 199, 3) := dk_20 0 199 (dk_at dksX0_back_0 3 rfl rfl)
theorem dX0_back_6 : decode cX0_back 6 = .ok (.invokestatic 5, 3) := dk_184 0 5 (dk_at dksX0_back_0 6 rfl rfl)
theorem dX0_back_9 : decode cX0_back 9 = .ok (.ifCond .ne 6, 3) := dk_154 0 6 (dk_at dksX0_back_0 9 rfl rfl)
theorem dX0_back_12 : decode cX0_back 12 = .ok (.bipush (-2), 2) := dk_16 254 (dk_at dksX0_back_0 12 rfl rfl)
theorem dX0_back_14 : decode cX0_back 14 = .ok (.ireturn, 1) := dk_172 (dk_at dksX0_back_0 14 rfl rfl)
theorem dX0_back_15 : decode cX0_back 15 = .ok (.aload_n 0, 1) := dk_42 (dk_at dksX0_back_0 15 rfl rfl)
theorem dX0_back_16 : decode cX0_back 16 = .ok (.getfield 67, 3) := dk_180 0 67 (dk_at dksX0_back_0 16 rfl rfl)
theorem dX0_back_19 : decode cX0_back 19 = .ok (.iload_n 1, 1) := dk_27 (dk_at dksX0_back_0 19 rfl rfl)
theorem dX0_back_20 : decode cX0_back 20 = .ok (.aaload, 1) := dk_50 (dk_at dksX0_back_0 20 rfl rfl)
theorem dX0_back_21 : decode cX0_back 21 = .ok (.ifnonnull 6, 3) := dk_199 0 6 (dk_at dksX0_back_0 21 rfl rfl)
theorem dX0_back_24 : decode cX0_back 24 = .ok (.bipush (-6), 2) := dk_16 250 (dk_at dksX0_back_1 0 rfl rfl)
theorem dX0_back_26 : decode cX0_back 26 = .ok (.ireturn, 1) := dk_172 (dk_at dksX0_back_1 2 rfl rfl)
theorem dX0_back_27 : decode cX0_back 27 = .ok (.aload_n 0, 1) := dk_42 (dk_at dksX0_back_1 3 rfl rfl)
theorem dX0_back_28 : decode cX0_back 28 = .ok (.aload_n 0, 1) := dk_42 (dk_at dksX0_back_1 4 rfl rfl)
theorem dX0_back_29 : decode cX0_back 29 = .ok (.getfield 67, 3) := dk_180 0 67 (dk_at dksX0_back_1 5 rfl rfl)
theorem dX0_back_32 : decode cX0_back 32 = .ok (.iload_n 1, 1) := dk_27 (dk_at dksX0_back_1 8 rfl rfl)
theorem dX0_back_33 : decode cX0_back 33 = .ok (.aaload, 1) := dk_50 (dk_at dksX0_back_1 9 rfl rfl)
theorem dX0_back_34 : decode cX0_back 34 = .ok (.getfield 372, 3) := dk_180 1 116 (dk_at dksX0_back_1 10 rfl rfl)
theorem dX0_back_37 : decode cX0_back 37 = .ok (.putfield 41, 3) := dk_181 0 41 (dk_at dksX0_back_1 13 rfl rfl)
theorem dX0_back_40 : decode cX0_back 40 = .ok (.aload_n 0, 1) := dk_42 (dk_at dksX0_back_1 16 rfl rfl)
theorem dX0_back_41 : decode cX0_back 41 = .ok (.aload_n 0, 1) := dk_42 (dk_at dksX0_back_1 17 rfl rfl)
theorem dX0_back_42 : decode cX0_back 42 = .ok (.getfield 67, 3) := dk_180 0 67 (dk_at dksX0_back_1 18 rfl rfl)
theorem dX0_back_45 : decode cX0_back 45 = .ok (.iload_n 1, 1) := dk_27 (dk_at dksX0_back_1 21 rfl rfl)
theorem dX0_back_46 : decode cX0_back 46 = .ok (.aaload, 1) := dk_50 (dk_at dksX0_back_1 22 rfl rfl)
theorem dX0_back_47 : decode cX0_back 47 = .ok (.getfield 375, 3) := dk_180 1 119 (dk_at dksX0_back_2 0 rfl rfl)
theorem dX0_back_50 : decode cX0_back 50 = .ok (.putfield 113, 3) := dk_181 0 113 (dk_at dksX0_back_2 3 rfl rfl)
theorem dX0_back_53 : decode cX0_back 53 = .ok (.aload_n 0, 1) := dk_42 (dk_at dksX0_back_2 6 rfl rfl)
theorem dX0_back_54 : decode cX0_back 54 = .ok (.getfield 67, 3) := dk_180 0 67 (dk_at dksX0_back_2 7 rfl rfl)
theorem dX0_back_57 : decode cX0_back 57 = .ok (.iload_n 1, 1) := dk_27 (dk_at dksX0_back_2 10 rfl rfl)
theorem dX0_back_58 : decode cX0_back 58 = .ok (.aaload, 1) := dk_50 (dk_at dksX0_back_2 11 rfl rfl)
theorem dX0_back_59 : decode cX0_back 59 = .ok (.getfield 376, 3) := dk_180 1 120 (dk_at dksX0_back_2 12 rfl rfl)
theorem dX0_back_62 : decode cX0_back 62 = .ok (.iconst 0, 1) := dk_3 (dk_at dksX0_back_2 15 rfl rfl)
theorem dX0_back_63 : decode cX0_back 63 = .ok (.aload_n 0, 1) := dk_42 (dk_at dksX0_back_2 16 rfl rfl)
theorem dX0_back_64 : decode cX0_back 64 = .ok (.getfield 45, 3) := dk_180 0 45 (dk_at dksX0_back_2 17 rfl rfl)
theorem dX0_back_67 : decode cX0_back 67 = .ok (.iconst 0, 1) := dk_3 (dk_at dksX0_back_2 20 rfl rfl)
theorem dX0_back_68 : decode cX0_back 68 = .ok (.iconst 4, 1) := dk_7 (dk_at dksX0_back_2 21 rfl rfl)
theorem dX0_back_69 : decode cX0_back 69 = .ok (.invokestatic 377, 3) := dk_184 1 121 (dk_at dksX0_back_3 0 rfl rfl)
theorem dX0_back_72 : decode cX0_back 72 = .ok (.iconst 0, 1) := dk_3 (dk_at dksX0_back_3 3 rfl rfl)
theorem dX0_back_73 : decode cX0_back 73 = .ok (.ireturn, 1) := dk_172 (dk_at dksX0_back_3 4 rfl rfl)
theorem q131 : (Jvm.Cond.initialized "UnseenClock") ∈ lw_all := lw_g (lw_at lw_m1 1 rfl) rfl
theorem q172 : (Jvm.Cond.instanceMethod ({ cls := "UnseenClock", name := "row", desc := "(III)I" } : Jvm.MethodName)) ∈ lw_all := lw_g (lw_at lw_m1 42 rfl) rfl
theorem q173 : (Jvm.Cond.selects "UnseenClock" ({ cls := "UnseenClock", name := "row", desc := "(III)I" } : Jvm.MethodName) ({ cls := "UnseenClock", name := "row", desc := "(III)I" } : Jvm.MethodName)) ∈ lw_all := lw_g (lw_at lw_m1 43 rfl) rfl
theorem q174 : (Jvm.Cond.code ({ cls := "UnseenClock", name := "row", desc := "(III)I" } : Jvm.MethodName) prog_1_method_4_code (4 : Nat) (Option.some Jvm.ClassFile.FieldType.int)) ∈ lw_all := lw_g (lw_at lw_m1 44 rfl) rfl
theorem q175 : (Jvm.Cond.methodLink "UnseenClock" (9 : Nat) ({ cls := "UnseenClock", name := "isSlot", desc := "(I)Z" } : Jvm.MethodName)) ∈ lw_all := lw_g (lw_at lw_m1 45 rfl) rfl
theorem q176 : (Jvm.Cond.static ({ cls := "UnseenClock", name := "isSlot", desc := "(I)Z" } : Jvm.MethodName)) ∈ lw_all := lw_g (lw_at lw_m1 46 rfl) rfl
theorem q177 : (Jvm.Cond.code ({ cls := "UnseenClock", name := "isSlot", desc := "(I)Z" } : Jvm.MethodName) prog_1_method_3_code (1 : Nat) (Option.some Jvm.ClassFile.FieldType.boolean)) ∈ lw_all := lw_g (lw_at lw_m1 47 rfl) rfl
theorem q178 : (Jvm.Cond.constantLong "UnseenClock" (3 : Nat) (3 : Int64)) ∈ lw_all := lw_g (lw_at lw_m1 48 rfl) rfl
theorem q179 : (Jvm.Cond.methodLink "UnseenClock" (5 : Nat) ({ cls := "UnseenClock", name := "in", desc := "(JJJ)Z" } : Jvm.MethodName)) ∈ lw_all := lw_g (lw_at lw_m1 49 rfl) rfl
theorem q180 : (Jvm.Cond.static ({ cls := "UnseenClock", name := "in", desc := "(JJJ)Z" } : Jvm.MethodName)) ∈ lw_all := lw_g (lw_at lw_m1 50 rfl) rfl
theorem q181 : (Jvm.Cond.code ({ cls := "UnseenClock", name := "in", desc := "(JJJ)Z" } : Jvm.MethodName) prog_1_method_1_code (6 : Nat) (Option.some Jvm.ClassFile.FieldType.boolean)) ∈ lw_all := lw_g (lw_at lw_m1 51 rfl) rfl
theorem q182 : (Jvm.Cond.methodLink "UnseenClock" (17 : Nat) ({ cls := "UnseenClock$Slot", name := "begins", desc := "(II)Z" } : Jvm.MethodName)) ∈ lw_all := lw_g (lw_at lw_m1 52 rfl) rfl
theorem q278 : (Jvm.Cond.instanceMethod ({ cls := "UnseenClock", name := "write", desc := "(IIJ)I" } : Jvm.MethodName)) ∈ lw_all := lw_g (lw_at lw_m1 148 rfl) rfl
theorem q279 : (Jvm.Cond.selects "UnseenClock" ({ cls := "UnseenClock", name := "write", desc := "(IIJ)I" } : Jvm.MethodName) ({ cls := "UnseenClock", name := "write", desc := "(IIJ)I" } : Jvm.MethodName)) ∈ lw_all := lw_g (lw_at lw_m1 149 rfl) rfl
theorem q280 : (Jvm.Cond.code ({ cls := "UnseenClock", name := "write", desc := "(IIJ)I" } : Jvm.MethodName) prog_1_method_5_code (5 : Nat) (Option.some Jvm.ClassFile.FieldType.int)) ∈ lw_all := lw_g (lw_at lw_m1 150 rfl) rfl
theorem q281 : (Jvm.Cond.methodLink "UnseenClock" (23 : Nat) ({ cls := "UnseenClock$Slot", name := "puts", desc := "(IJ)I" } : Jvm.MethodName)) ∈ lw_all := lw_g (lw_at lw_m1 151 rfl) rfl
theorem q357 : (Jvm.Cond.instanceMethod ({ cls := "UnseenClock", name := "paste", desc := "(IIIII)I" } : Jvm.MethodName)) ∈ lw_all := lw_g (lw_at lw_m1 227 rfl) rfl
theorem q358 : (Jvm.Cond.selects "UnseenClock" ({ cls := "UnseenClock", name := "paste", desc := "(IIIII)I" } : Jvm.MethodName) ({ cls := "UnseenClock", name := "paste", desc := "(IIIII)I" } : Jvm.MethodName)) ∈ lw_all := lw_g (lw_at lw_m1 228 rfl) rfl
theorem q359 : (Jvm.Cond.code ({ cls := "UnseenClock", name := "paste", desc := "(IIIII)I" } : Jvm.MethodName) prog_1_method_6_code (6 : Nat) (Option.some Jvm.ClassFile.FieldType.int)) ∈ lw_all := lw_g (lw_at lw_m1 229 rfl) rfl
theorem q360 : (Jvm.Cond.methodLink "UnseenClock" (27 : Nat) ({ cls := "UnseenClock$Slot", name := "pastes", desc := "(ILUnseenClock$Slot;II)I" } : Jvm.MethodName)) ∈ lw_all := lw_g (lw_at lw_m1 230 rfl) rfl
theorem q373 : (Jvm.Cond.instantiable "UnseenClock" (13 : Nat)) ∈ lw_all := lw_g (lw_at lw_m2 3 rfl) rfl
theorem q375 : (Jvm.Cond.instanceMethod ({ cls := "UnseenClock", name := "<init>", desc := "()V" } : Jvm.MethodName)) ∈ lw_all := lw_g (lw_at lw_m2 5 rfl) rfl
theorem q376 : (Jvm.Cond.code ({ cls := "UnseenClock", name := "<init>", desc := "()V" } : Jvm.MethodName) prog_1_method_7_code (1 : Nat) (Option.none : Option Jvm.ClassFile.FieldType)) ∈ lw_all := lw_g (lw_at lw_m2 6 rfl) rfl
theorem q377 : (Jvm.Cond.methodLink "UnseenClock" (31 : Nat) ({ cls := "java/lang/Object", name := "<init>", desc := "()V" } : Jvm.MethodName)) ∈ lw_all := lw_g (lw_at lw_m2 7 rfl) rfl
theorem q378 : (Jvm.Cond.classLink "UnseenClock" (18 : Nat) "UnseenClock$Slot") ∈ lw_all := lw_g (lw_at lw_m2 8 rfl) rfl
theorem q380 : (Jvm.Cond.methodLinkNest "UnseenClock" (37 : Nat) ({ cls := "UnseenClock$Slot", name := "<init>", desc := "()V" } : Jvm.MethodName) "UnseenClock") ∈ lw_tbl := lw_at lw_m2 10 rfl
theorem q385 : (Jvm.Cond.fieldLinkNest "UnseenClock" (251 : Nat) "UnseenClock$Slot" "held" "Ljava/lang/Object;" "UnseenClock") ∈ lw_tbl := lw_at lw_m2 15 rfl
theorem q389 : (Jvm.Cond.classLink "UnseenClock" (38 : Nat) "UnseenClock$Square") ∈ lw_all := lw_g (lw_at lw_m2 19 rfl) rfl
theorem q391 : (Jvm.Cond.methodLinkNest "UnseenClock" (40 : Nat) ({ cls := "UnseenClock$Square", name := "<init>", desc := "()V" } : Jvm.MethodName) "UnseenClock") ∈ lw_tbl := lw_at lw_m2 21 rfl
theorem q427 : (Jvm.Cond.fieldLinkNest "UnseenClock" (95 : Nat) "UnseenClock$Square" "clocks" "Ljava/util/List;" "UnseenClock") ∈ lw_tbl := lw_at lw_m2 57 rfl
theorem q431 : (Jvm.Cond.fieldLinkNest "UnseenClock" (130 : Nat) "UnseenClock$Square" "people" "Ljava/util/List;" "UnseenClock") ∈ lw_tbl := lw_at lw_m2 61 rfl
theorem q437 : (Jvm.Cond.fieldLinkNest "UnseenClock" (171 : Nat) "UnseenClock$Square" "cell" "[[I" "UnseenClock") ∈ lw_tbl := lw_at lw_m2 67 rfl
theorem q440 : (Jvm.Cond.fieldLinkNest "UnseenClock" (309 : Nat) "UnseenClock$Square" "wide" "I" "UnseenClock") ∈ lw_tbl := lw_at lw_m2 70 rfl
theorem q443 : (Jvm.Cond.fieldLinkNest "UnseenClock" (312 : Nat) "UnseenClock$Square" "length" "I" "UnseenClock") ∈ lw_tbl := lw_at lw_m2 73 rfl
theorem q448 : (Jvm.Cond.fieldLinkNest "UnseenClock" (137 : Nat) "UnseenClock$Square" "minutes" "I" "UnseenClock") ∈ lw_tbl := lw_at lw_m2 78 rfl
theorem q450 : (Jvm.Cond.fieldLinkNest "UnseenClock" (368 : Nat) "UnseenClock$Square" "walls" "I" "UnseenClock") ∈ lw_tbl := lw_at lw_m2 80 rfl
theorem q452 : (Jvm.Cond.fieldLinkNest "UnseenClock" (119 : Nat) "UnseenClock$Square" "lines" "I" "UnseenClock") ∈ lw_tbl := lw_at lw_m2 82 rfl
theorem q474 : (Jvm.Cond.classLink "UnseenClock" (49 : Nat) "UnseenClock$Course") ∈ lw_all := lw_g (lw_at lw_m2 104 rfl) rfl
theorem q476 : (Jvm.Cond.methodLinkNest "UnseenClock" (51 : Nat) ({ cls := "UnseenClock$Course", name := "<init>", desc := "()V" } : Jvm.MethodName) "UnseenClock") ∈ lw_tbl := lw_at lw_m2 106 rfl
theorem q486 : (Jvm.Cond.fieldLinkNest "UnseenClock" (189 : Nat) "UnseenClock$Course" "look" "[[I" "UnseenClock") ∈ lw_tbl := lw_at lw_m2 116 rfl
theorem q490 : (Jvm.Cond.fieldLinkNest "UnseenClock" (196 : Nat) "UnseenClock$Course" "shows" "[[I" "UnseenClock") ∈ lw_tbl := lw_at lw_m2 120 rfl
theorem q492 : (Jvm.Cond.fieldLinkNest "UnseenClock" (204 : Nat) "UnseenClock$Course" "value" "[[I" "UnseenClock") ∈ lw_tbl := lw_at lw_m2 122 rfl
theorem q496 : (Jvm.Cond.fieldLinkNest "UnseenClock" (186 : Nat) "UnseenClock$Course" "opened" "[I" "UnseenClock") ∈ lw_tbl := lw_at lw_m2 126 rfl
theorem q500 : (Jvm.Cond.fieldLinkNest "UnseenClock" (329 : Nat) "UnseenClock$Course" "keeps" "[I" "UnseenClock") ∈ lw_tbl := lw_at lw_m2 130 rfl
theorem q503 : (Jvm.Cond.fieldLinkNest "UnseenClock" (342 : Nat) "UnseenClock$Course" "last" "[I" "UnseenClock") ∈ lw_tbl := lw_at lw_m2 133 rfl
theorem q509 : (Jvm.Cond.fieldLinkNest "UnseenClock" (183 : Nat) "UnseenClock$Course" "opens" "I" "UnseenClock") ∈ lw_tbl := lw_at lw_m2 139 rfl
theorem q512 : (Jvm.Cond.fieldLinkNest "UnseenClock" (350 : Nat) "UnseenClock$Course" "isDay" "Z" "UnseenClock") ∈ lw_tbl := lw_at lw_m2 142 rfl
theorem q514 : (Jvm.Cond.fieldLinkNest "UnseenClock" (354 : Nat) "UnseenClock$Course" "x" "J" "UnseenClock") ∈ lw_tbl := lw_at lw_m2 144 rfl
theorem q552 : (Jvm.Cond.classLink "UnseenClock" (56 : Nat) "java/util/ArrayList") ∈ lw_all := lw_g (lw_at lw_m2 182 rfl) rfl
theorem q553 : (Jvm.Cond.methodLink "UnseenClock" (58 : Nat) ({ cls := "java/util/ArrayList", name := "<init>", desc := "(I)V" } : Jvm.MethodName)) ∈ lw_all := lw_g (lw_at lw_m2 183 rfl) rfl
theorem q554 : (Jvm.Cond.classLink "UnseenClock" (65 : Nat) "UnseenClock$Image") ∈ lw_all := lw_g (lw_at lw_m2 184 rfl) rfl
theorem q556 : (Jvm.Cond.fieldLink "UnseenClock" (13 : Nat) "UnseenClock" "slots" "[LUnseenClock$Slot;") ∈ lw_all := lw_g (lw_at lw_m2 186 rfl) rfl
theorem q557 : (Jvm.Cond.fieldLink "UnseenClock" (41 : Nat) "UnseenClock" "now" "LUnseenClock$Square;") ∈ lw_all := lw_g (lw_at lw_m2 187 rfl) rfl
theorem q558 : (Jvm.Cond.fieldLink "UnseenClock" (45 : Nat) "UnseenClock" "paces" "[I") ∈ lw_all := lw_g (lw_at lw_m2 188 rfl) rfl
theorem q559 : (Jvm.Cond.fieldLink "UnseenClock" (113 : Nat) "UnseenClock" "away" "I") ∈ lw_all := lw_g (lw_at lw_m2 189 rfl) rfl
theorem q560 : (Jvm.Cond.fieldLink "UnseenClock" (52 : Nat) "UnseenClock" "course" "LUnseenClock$Course;") ∈ lw_all := lw_g (lw_at lw_m2 190 rfl) rfl
theorem q561 : (Jvm.Cond.fieldLink "UnseenClock" (61 : Nat) "UnseenClock" "all" "Ljava/util/List;") ∈ lw_all := lw_g (lw_at lw_m2 191 rfl) rfl
theorem q562 : (Jvm.Cond.fieldLink "UnseenClock" (220 : Nat) "UnseenClock" "many" "I") ∈ lw_all := lw_g (lw_at lw_m2 192 rfl) rfl
theorem q563 : (Jvm.Cond.fieldLink "UnseenClock" (67 : Nat) "UnseenClock" "images" "[LUnseenClock$Image;") ∈ lw_all := lw_g (lw_at lw_m2 193 rfl) rfl
theorem q564 : (Jvm.Cond.fieldLink "UnseenClock" (71 : Nat) "UnseenClock" "tape" "[B") ∈ lw_all := lw_g (lw_at lw_m2 194 rfl) rfl
theorem q565 : (Jvm.Cond.fieldLink "UnseenClock" (83 : Nat) "UnseenClock" "taped" "I") ∈ lw_all := lw_g (lw_at lw_m2 195 rfl) rfl
theorem q566 : (Jvm.Cond.fieldLink "UnseenClock" (116 : Nat) "UnseenClock" "faultKind" "I") ∈ lw_all := lw_g (lw_at lw_m2 196 rfl) rfl
theorem q567 : (Jvm.Cond.fieldLink "UnseenClock" (75 : Nat) "UnseenClock" "faultPlace" "I") ∈ lw_all := lw_g (lw_at lw_m2 197 rfl) rfl
theorem q568 : (Jvm.Cond.fieldLink "UnseenClock" (79 : Nat) "UnseenClock" "isMet" "[Z") ∈ lw_all := lw_g (lw_at lw_m2 198 rfl) rfl
theorem q569 : (Jvm.Cond.laysFinal "UnseenClock" "UnseenClock" "slots" "[LUnseenClock$Slot;") ∈ lw_all := lw_g (lw_at lw_m2 199 rfl) rfl
theorem q570 : (Jvm.Cond.soleField "UnseenClock" "slots") ∈ lw_all := lw_g (lw_at lw_m2 200 rfl) rfl
theorem q571 : (Jvm.Cond.lays "UnseenClock" "UnseenClock" "now" "LUnseenClock$Square;") ∈ lw_all := lw_g (lw_at lw_m2 201 rfl) rfl
theorem q572 : (Jvm.Cond.soleField "UnseenClock" "now") ∈ lw_all := lw_g (lw_at lw_m2 202 rfl) rfl
theorem q573 : (Jvm.Cond.laysFinal "UnseenClock" "UnseenClock" "paces" "[I") ∈ lw_all := lw_g (lw_at lw_m2 203 rfl) rfl
theorem q574 : (Jvm.Cond.soleField "UnseenClock" "paces") ∈ lw_all := lw_g (lw_at lw_m2 204 rfl) rfl
theorem q575 : (Jvm.Cond.lays "UnseenClock" "UnseenClock" "away" "I") ∈ lw_all := lw_g (lw_at lw_m2 205 rfl) rfl
theorem q576 : (Jvm.Cond.soleField "UnseenClock" "away") ∈ lw_all := lw_g (lw_at lw_m2 206 rfl) rfl
theorem q577 : (Jvm.Cond.laysFinal "UnseenClock" "UnseenClock" "course" "LUnseenClock$Course;") ∈ lw_all := lw_g (lw_at lw_m2 207 rfl) rfl
theorem q578 : (Jvm.Cond.soleField "UnseenClock" "course") ∈ lw_all := lw_g (lw_at lw_m2 208 rfl) rfl
theorem q579 : (Jvm.Cond.laysFinal "UnseenClock" "UnseenClock" "all" "Ljava/util/List;") ∈ lw_all := lw_g (lw_at lw_m2 209 rfl) rfl
theorem q580 : (Jvm.Cond.soleField "UnseenClock" "all") ∈ lw_all := lw_g (lw_at lw_m2 210 rfl) rfl
theorem q581 : (Jvm.Cond.lays "UnseenClock" "UnseenClock" "many" "I") ∈ lw_all := lw_g (lw_at lw_m2 211 rfl) rfl
theorem q582 : (Jvm.Cond.soleField "UnseenClock" "many") ∈ lw_all := lw_g (lw_at lw_m2 212 rfl) rfl
theorem q583 : (Jvm.Cond.laysFinal "UnseenClock" "UnseenClock" "images" "[LUnseenClock$Image;") ∈ lw_all := lw_g (lw_at lw_m2 213 rfl) rfl
theorem q584 : (Jvm.Cond.soleField "UnseenClock" "images") ∈ lw_all := lw_g (lw_at lw_m2 214 rfl) rfl
theorem q585 : (Jvm.Cond.laysFinal "UnseenClock" "UnseenClock" "tape" "[B") ∈ lw_all := lw_g (lw_at lw_m2 215 rfl) rfl
theorem q586 : (Jvm.Cond.soleField "UnseenClock" "tape") ∈ lw_all := lw_g (lw_at lw_m2 216 rfl) rfl
theorem q587 : (Jvm.Cond.lays "UnseenClock" "UnseenClock" "taped" "I") ∈ lw_all := lw_g (lw_at lw_m2 217 rfl) rfl
theorem q588 : (Jvm.Cond.soleField "UnseenClock" "taped") ∈ lw_all := lw_g (lw_at lw_m2 218 rfl) rfl
theorem q589 : (Jvm.Cond.lays "UnseenClock" "UnseenClock" "faultKind" "I") ∈ lw_all := lw_g (lw_at lw_m2 219 rfl) rfl
theorem q590 : (Jvm.Cond.soleField "UnseenClock" "faultKind") ∈ lw_all := lw_g (lw_at lw_m2 220 rfl) rfl
theorem q591 : (Jvm.Cond.lays "UnseenClock" "UnseenClock" "faultPlace" "I") ∈ lw_all := lw_g (lw_at lw_m2 221 rfl) rfl
theorem q592 : (Jvm.Cond.soleField "UnseenClock" "faultPlace") ∈ lw_all := lw_g (lw_at lw_m2 222 rfl) rfl
theorem q593 : (Jvm.Cond.laysFinal "UnseenClock" "UnseenClock" "isMet" "[Z") ∈ lw_all := lw_g (lw_at lw_m2 223 rfl) rfl
theorem q594 : (Jvm.Cond.soleField "UnseenClock" "isMet") ∈ lw_all := lw_g (lw_at lw_m2 224 rfl) rfl
theorem q595 : (Jvm.Cond.superclass "UnseenClock" "java/lang/Object") ∈ lw_all := lw_g (lw_at lw_m2 225 rfl) rfl
theorem q597 : (Jvm.Cond.instanceMethod ({ cls := "UnseenClock", name := "feed", desc := "(IIIII)I" } : Jvm.MethodName)) ∈ lw_all := lw_g (lw_at lw_m2 227 rfl) rfl
theorem q598 : (Jvm.Cond.selects "UnseenClock" ({ cls := "UnseenClock", name := "feed", desc := "(IIIII)I" } : Jvm.MethodName) ({ cls := "UnseenClock", name := "feed", desc := "(IIIII)I" } : Jvm.MethodName)) ∈ lw_all := lw_g (lw_at lw_m2 228 rfl) rfl
theorem q599 : (Jvm.Cond.code ({ cls := "UnseenClock", name := "feed", desc := "(IIIII)I" } : Jvm.MethodName) prog_1_method_8_code (8 : Nat) (Option.some Jvm.ClassFile.FieldType.int)) ∈ lw_all := lw_g (lw_at lw_m2 229 rfl) rfl
theorem q601 : (Jvm.Cond.instanceMethod ({ cls := "UnseenClock", name := "end", desc := "(I)I" } : Jvm.MethodName)) ∈ lw_all := lw_g (lw_at lw_m2 231 rfl) rfl
theorem q602 : (Jvm.Cond.selects "UnseenClock" ({ cls := "UnseenClock", name := "end", desc := "(I)I" } : Jvm.MethodName) ({ cls := "UnseenClock", name := "end", desc := "(I)I" } : Jvm.MethodName)) ∈ lw_all := lw_g (lw_at lw_m2 232 rfl) rfl
theorem q603 : (Jvm.Cond.code ({ cls := "UnseenClock", name := "end", desc := "(I)I" } : Jvm.MethodName) prog_1_method_9_code (2 : Nat) (Option.some Jvm.ClassFile.FieldType.int)) ∈ lw_all := lw_g (lw_at lw_m2 233 rfl) rfl
theorem q605 : (Jvm.Cond.instanceMethod ({ cls := "UnseenClock", name := "square", desc := "()I" } : Jvm.MethodName)) ∈ lw_all := lw_g (lw_at lw_m2 235 rfl) rfl
theorem q606 : (Jvm.Cond.selects "UnseenClock" ({ cls := "UnseenClock", name := "square", desc := "()I" } : Jvm.MethodName) ({ cls := "UnseenClock", name := "square", desc := "()I" } : Jvm.MethodName)) ∈ lw_all := lw_g (lw_at lw_m2 236 rfl) rfl
theorem q607 : (Jvm.Cond.codeWith ({ cls := "UnseenClock", name := "square", desc := "()I" } : Jvm.MethodName) prog_1_method_10_code (4 : Nat) (Option.some Jvm.ClassFile.FieldType.int) [((0 : Nat), (94 : Nat), (101 : Nat), (122 : Nat)), ((0 : Nat), (94 : Nat), (128 : Nat), (0 : Nat)), ((101 : Nat), (121 : Nat), (128 : Nat), (0 : Nat))]) ∈ lw_all := lw_g (lw_at lw_m2 237 rfl) rfl
theorem q608 : (Jvm.Cond.classLink "UnseenClock" (122 : Nat) "UnseenClock$Fault") ∈ lw_all := lw_g (lw_at lw_m2 238 rfl) rfl
theorem q609 : (Jvm.Cond.classLink "UnseenClock" (86 : Nat) "UnseenClock$Reader") ∈ lw_all := lw_g (lw_at lw_m2 239 rfl) rfl
theorem q611 : (Jvm.Cond.methodLink "UnseenClock" (88 : Nat) ({ cls := "UnseenClock$Reader", name := "<init>", desc := "([BI)V" } : Jvm.MethodName)) ∈ lw_all := lw_g (lw_at lw_m3 1 rfl) rfl
theorem q652 : (Jvm.Cond.methodLink "UnseenClock" (91 : Nat) ({ cls := "UnseenClock$Reader", name := "reads", desc := "()LUnseenClock$Square;" } : Jvm.MethodName)) ∈ lw_all := lw_g (lw_at lw_m3 42 rfl) rfl
theorem q747 : (Jvm.Cond.fieldLinkNest "UnseenClock" (124 : Nat) "UnseenClock$Fault" "kind" "I" "UnseenClock") ∈ lw_tbl := lw_at lw_m3 137 rfl
theorem q749 : (Jvm.Cond.fieldLinkNest "UnseenClock" (127 : Nat) "UnseenClock$Fault" "place" "I" "UnseenClock") ∈ lw_tbl := lw_at lw_m3 139 rfl
theorem q848 : (Jvm.Cond.fieldLinkNest "UnseenClock" (110 : Nat) "UnseenClock$Dial" "pace" "I" "UnseenClock") ∈ lw_tbl := lw_at lw_m3 238 rfl
theorem q851 : (Jvm.Cond.fieldLinkNest "UnseenClock" (201 : Nat) "UnseenClock$Dial" "over" "I" "UnseenClock") ∈ lw_tbl := lw_at lw_m4 1 rfl
theorem q908 : (Jvm.Cond.selects "UnseenClock" ({ cls := "java/lang/Object", name := "getClass", desc := "()Ljava/lang/Class;" } : Jvm.MethodName) ({ cls := "java/lang/Object", name := "getClass", desc := "()Ljava/lang/Class;" } : Jvm.MethodName)) ∈ lw_all := lw_g (lw_at lw_m4 58 rfl) rfl
theorem q1114 : (Jvm.Cond.interfaceEntry "UnseenClock" (98 : Nat)) ∈ lw_tbl := lw_at lw_m5 24 rfl
theorem q1115 : (Jvm.Cond.methodLink "UnseenClock" (98 : Nat) ({ cls := "java/util/List", name := "size", desc := "()I" } : Jvm.MethodName)) ∈ lw_all := lw_g (lw_at lw_m5 25 rfl) rfl
theorem q1116 : (Jvm.Cond.interfaceEntry "UnseenClock" (104 : Nat)) ∈ lw_tbl := lw_at lw_m5 26 rfl
theorem q1117 : (Jvm.Cond.methodLink "UnseenClock" (104 : Nat) ({ cls := "java/util/List", name := "get", desc := "(I)Ljava/lang/Object;" } : Jvm.MethodName)) ∈ lw_all := lw_g (lw_at lw_m5 27 rfl) rfl
theorem q1118 : (Jvm.Cond.classLink "UnseenClock" (108 : Nat) "UnseenClock$Dial") ∈ lw_all := lw_g (lw_at lw_m5 28 rfl) rfl
theorem q1120 : (Jvm.Cond.instanceMethod ({ cls := "UnseenClock", name := "fault", desc := "(I)I" } : Jvm.MethodName)) ∈ lw_all := lw_g (lw_at lw_m5 30 rfl) rfl
theorem q1121 : (Jvm.Cond.selects "UnseenClock" ({ cls := "UnseenClock", name := "fault", desc := "(I)I" } : Jvm.MethodName) ({ cls := "UnseenClock", name := "fault", desc := "(I)I" } : Jvm.MethodName)) ∈ lw_all := lw_g (lw_at lw_m5 31 rfl) rfl
theorem q1122 : (Jvm.Cond.code ({ cls := "UnseenClock", name := "fault", desc := "(I)I" } : Jvm.MethodName) prog_1_method_11_code (2 : Nat) (Option.some Jvm.ClassFile.FieldType.int)) ∈ lw_all := lw_g (lw_at lw_m5 32 rfl) rfl
theorem q1124 : (Jvm.Cond.instanceMethod ({ cls := "UnseenClock", name := "at", desc := "(II)I" } : Jvm.MethodName)) ∈ lw_all := lw_g (lw_at lw_m5 34 rfl) rfl
theorem q1125 : (Jvm.Cond.selects "UnseenClock" ({ cls := "UnseenClock", name := "at", desc := "(II)I" } : Jvm.MethodName) ({ cls := "UnseenClock", name := "at", desc := "(II)I" } : Jvm.MethodName)) ∈ lw_all := lw_g (lw_at lw_m5 35 rfl) rfl
theorem q1126 : (Jvm.Cond.code ({ cls := "UnseenClock", name := "at", desc := "(II)I" } : Jvm.MethodName) prog_1_method_21_code (3 : Nat) (Option.some Jvm.ClassFile.FieldType.int)) ∈ lw_all := lw_g (lw_at lw_m5 36 rfl) rfl
theorem q1127 : (Jvm.Cond.methodLink "UnseenClock" (162 : Nat) ({ cls := "UnseenClock", name := "isPerson", desc := "(I)Z" } : Jvm.MethodName)) ∈ lw_all := lw_g (lw_at lw_m5 37 rfl) rfl
theorem q1128 : (Jvm.Cond.privateMethod ({ cls := "UnseenClock", name := "isPerson", desc := "(I)Z" } : Jvm.MethodName)) ∈ lw_tbl := lw_at lw_m5 38 rfl
theorem q1129 : (Jvm.Cond.instanceMethod ({ cls := "UnseenClock", name := "isPerson", desc := "(I)Z" } : Jvm.MethodName)) ∈ lw_all := lw_g (lw_at lw_m5 39 rfl) rfl
theorem q1130 : (Jvm.Cond.code ({ cls := "UnseenClock", name := "isPerson", desc := "(I)Z" } : Jvm.MethodName) prog_1_method_14_code (2 : Nat) (Option.some Jvm.ClassFile.FieldType.boolean)) ∈ lw_all := lw_g (lw_at lw_m5 40 rfl) rfl
theorem q1131 : (Jvm.Cond.methodLink "UnseenClock" (133 : Nat) ({ cls := "UnseenClock", name := "people", desc := "()I" } : Jvm.MethodName)) ∈ lw_all := lw_g (lw_at lw_m5 41 rfl) rfl
theorem q1132 : (Jvm.Cond.privateMethod ({ cls := "UnseenClock", name := "people", desc := "()I" } : Jvm.MethodName)) ∈ lw_tbl := lw_at lw_m5 42 rfl
theorem q1133 : (Jvm.Cond.instanceMethod ({ cls := "UnseenClock", name := "people", desc := "()I" } : Jvm.MethodName)) ∈ lw_all := lw_g (lw_at lw_m5 43 rfl) rfl
theorem q1134 : (Jvm.Cond.code ({ cls := "UnseenClock", name := "people", desc := "()I" } : Jvm.MethodName) prog_1_method_13_code (1 : Nat) (Option.some Jvm.ClassFile.FieldType.int)) ∈ lw_all := lw_g (lw_at lw_m5 44 rfl) rfl
theorem q1135 : (Jvm.Cond.methodLink "UnseenClock" (165 : Nat) ({ cls := "UnseenClock", name := "isMinute", desc := "(I)Z" } : Jvm.MethodName)) ∈ lw_all := lw_g (lw_at lw_m5 45 rfl) rfl
theorem q1136 : (Jvm.Cond.privateMethod ({ cls := "UnseenClock", name := "isMinute", desc := "(I)Z" } : Jvm.MethodName)) ∈ lw_tbl := lw_at lw_m5 46 rfl
theorem q1137 : (Jvm.Cond.instanceMethod ({ cls := "UnseenClock", name := "isMinute", desc := "(I)Z" } : Jvm.MethodName)) ∈ lw_all := lw_g (lw_at lw_m5 47 rfl) rfl
theorem q1138 : (Jvm.Cond.code ({ cls := "UnseenClock", name := "isMinute", desc := "(I)Z" } : Jvm.MethodName) prog_1_method_16_code (2 : Nat) (Option.some Jvm.ClassFile.FieldType.boolean)) ∈ lw_all := lw_g (lw_at lw_m5 48 rfl) rfl
theorem q1139 : (Jvm.Cond.methodLink "UnseenClock" (168 : Nat) ({ cls := "UnseenClock", name := "isOn", desc := "(II)Z" } : Jvm.MethodName)) ∈ lw_all := lw_g (lw_at lw_m5 49 rfl) rfl
theorem q1140 : (Jvm.Cond.static ({ cls := "UnseenClock", name := "isOn", desc := "(II)Z" } : Jvm.MethodName)) ∈ lw_all := lw_g (lw_at lw_m5 50 rfl) rfl
theorem q1141 : (Jvm.Cond.code ({ cls := "UnseenClock", name := "isOn", desc := "(II)Z" } : Jvm.MethodName) prog_1_method_2_code (2 : Nat) (Option.some Jvm.ClassFile.FieldType.boolean)) ∈ lw_all := lw_g (lw_at lw_m5 51 rfl) rfl
theorem q1143 : (Jvm.Cond.instanceMethod ({ cls := "UnseenClock", name := "sees", desc := "(III)I" } : Jvm.MethodName)) ∈ lw_all := lw_g (lw_at lw_m5 53 rfl) rfl
theorem q1144 : (Jvm.Cond.selects "UnseenClock" ({ cls := "UnseenClock", name := "sees", desc := "(III)I" } : Jvm.MethodName) ({ cls := "UnseenClock", name := "sees", desc := "(III)I" } : Jvm.MethodName)) ∈ lw_all := lw_g (lw_at lw_m5 54 rfl) rfl
theorem q1145 : (Jvm.Cond.code ({ cls := "UnseenClock", name := "sees", desc := "(III)I" } : Jvm.MethodName) prog_1_method_22_code (4 : Nat) (Option.some Jvm.ClassFile.FieldType.int)) ∈ lw_all := lw_g (lw_at lw_m5 55 rfl) rfl
theorem q1146 : (Jvm.Cond.methodLink "UnseenClock" (146 : Nat) ({ cls := "UnseenClock", name := "isClock", desc := "(J)Z" } : Jvm.MethodName)) ∈ lw_all := lw_g (lw_at lw_m5 56 rfl) rfl
theorem q1147 : (Jvm.Cond.privateMethod ({ cls := "UnseenClock", name := "isClock", desc := "(J)Z" } : Jvm.MethodName)) ∈ lw_tbl := lw_at lw_m5 57 rfl
theorem q1148 : (Jvm.Cond.instanceMethod ({ cls := "UnseenClock", name := "isClock", desc := "(J)Z" } : Jvm.MethodName)) ∈ lw_all := lw_g (lw_at lw_m5 58 rfl) rfl
theorem q1149 : (Jvm.Cond.code ({ cls := "UnseenClock", name := "isClock", desc := "(J)Z" } : Jvm.MethodName) prog_1_method_15_code (3 : Nat) (Option.some Jvm.ClassFile.FieldType.boolean)) ∈ lw_all := lw_g (lw_at lw_m5 59 rfl) rfl
theorem q1150 : (Jvm.Cond.methodLink "UnseenClock" (135 : Nat) ({ cls := "UnseenClock", name := "clocks", desc := "()I" } : Jvm.MethodName)) ∈ lw_all := lw_g (lw_at lw_m5 60 rfl) rfl
theorem q1151 : (Jvm.Cond.privateMethod ({ cls := "UnseenClock", name := "clocks", desc := "()I" } : Jvm.MethodName)) ∈ lw_tbl := lw_at lw_m5 61 rfl
theorem q1152 : (Jvm.Cond.instanceMethod ({ cls := "UnseenClock", name := "clocks", desc := "()I" } : Jvm.MethodName)) ∈ lw_all := lw_g (lw_at lw_m5 62 rfl) rfl
theorem q1153 : (Jvm.Cond.code ({ cls := "UnseenClock", name := "clocks", desc := "()I" } : Jvm.MethodName) prog_1_method_12_code (1 : Nat) (Option.some Jvm.ClassFile.FieldType.int)) ∈ lw_all := lw_g (lw_at lw_m5 63 rfl) rfl
theorem q1154 : (Jvm.Cond.methodLink "UnseenClock" (156 : Nat) ({ cls := "UnseenClock$Course", name := "begins", desc := "(LUnseenClock$Square;[II)V" } : Jvm.MethodName)) ∈ lw_all := lw_g (lw_at lw_m5 64 rfl) rfl
theorem q1160 : (Jvm.Cond.methodLink "UnseenClock" (175 : Nat) ({ cls := "UnseenClock$Course", name := "sees", desc := "(III)Z" } : Jvm.MethodName)) ∈ lw_all := lw_g (lw_at lw_m5 70 rfl) rfl
theorem q1181 : (Jvm.Cond.instanceMethod ({ cls := "UnseenClock", name := "looks", desc := "(III)I" } : Jvm.MethodName)) ∈ lw_all := lw_g (lw_at lw_m5 91 rfl) rfl
theorem q1182 : (Jvm.Cond.selects "UnseenClock" ({ cls := "UnseenClock", name := "looks", desc := "(III)I" } : Jvm.MethodName) ({ cls := "UnseenClock", name := "looks", desc := "(III)I" } : Jvm.MethodName)) ∈ lw_all := lw_g (lw_at lw_m5 92 rfl) rfl
theorem q1183 : (Jvm.Cond.code ({ cls := "UnseenClock", name := "looks", desc := "(III)I" } : Jvm.MethodName) prog_1_method_23_code (5 : Nat) (Option.some Jvm.ClassFile.FieldType.int)) ∈ lw_all := lw_g (lw_at lw_m5 93 rfl) rfl
theorem q1184 : (Jvm.Cond.methodLink "UnseenClock" (179 : Nat) ({ cls := "UnseenClock", name := "plain", desc := "()LUnseenClock$Course;" } : Jvm.MethodName)) ∈ lw_all := lw_g (lw_at lw_m5 94 rfl) rfl
theorem q1185 : (Jvm.Cond.privateMethod ({ cls := "UnseenClock", name := "plain", desc := "()LUnseenClock$Course;" } : Jvm.MethodName)) ∈ lw_tbl := lw_at lw_m5 95 rfl
theorem q1186 : (Jvm.Cond.instanceMethod ({ cls := "UnseenClock", name := "plain", desc := "()LUnseenClock$Course;" } : Jvm.MethodName)) ∈ lw_all := lw_g (lw_at lw_m5 96 rfl) rfl
theorem q1187 : (Jvm.Cond.code ({ cls := "UnseenClock", name := "plain", desc := "()LUnseenClock$Course;" } : Jvm.MethodName) prog_1_method_20_code (1 : Nat) (Option.some (Jvm.ClassFile.FieldType.object "UnseenClock$Course"))) ∈ lw_all := lw_g (lw_at lw_m5 97 rfl) rfl
theorem q1188 : (Jvm.Cond.methodLink "UnseenClock" (159 : Nat) ({ cls := "UnseenClock$Course", name := "goes", desc := "()V" } : Jvm.MethodName)) ∈ lw_all := lw_g (lw_at lw_m5 98 rfl) rfl
theorem q1300 : (Jvm.Cond.instanceMethod ({ cls := "UnseenClock", name := "eyes", desc := "(II)I" } : Jvm.MethodName)) ∈ lw_all := lw_g (lw_at lw_m5 210 rfl) rfl
theorem q1301 : (Jvm.Cond.selects "UnseenClock" ({ cls := "UnseenClock", name := "eyes", desc := "(II)I" } : Jvm.MethodName) ({ cls := "UnseenClock", name := "eyes", desc := "(II)I" } : Jvm.MethodName)) ∈ lw_all := lw_g (lw_at lw_m5 211 rfl) rfl
theorem q1302 : (Jvm.Cond.code ({ cls := "UnseenClock", name := "eyes", desc := "(II)I" } : Jvm.MethodName) prog_1_method_24_code (3 : Nat) (Option.some Jvm.ClassFile.FieldType.int)) ∈ lw_all := lw_g (lw_at lw_m5 212 rfl) rfl
theorem q1303 : (Jvm.Cond.methodLink "UnseenClock" (192 : Nat) ({ cls := "UnseenClock$Course", name := "eyes", desc := "(II)I" } : Jvm.MethodName)) ∈ lw_all := lw_g (lw_at lw_m5 213 rfl) rfl
theorem q1305 : (Jvm.Cond.instanceMethod ({ cls := "UnseenClock", name := "shows", desc := "(II)I" } : Jvm.MethodName)) ∈ lw_all := lw_g (lw_at lw_m5 215 rfl) rfl
theorem q1306 : (Jvm.Cond.selects "UnseenClock" ({ cls := "UnseenClock", name := "shows", desc := "(II)I" } : Jvm.MethodName) ({ cls := "UnseenClock", name := "shows", desc := "(II)I" } : Jvm.MethodName)) ∈ lw_all := lw_g (lw_at lw_m5 216 rfl) rfl
theorem q1307 : (Jvm.Cond.code ({ cls := "UnseenClock", name := "shows", desc := "(II)I" } : Jvm.MethodName) prog_1_method_25_code (3 : Nat) (Option.some Jvm.ClassFile.FieldType.int)) ∈ lw_all := lw_g (lw_at lw_m5 217 rfl) rfl
theorem q1308 : (Jvm.Cond.methodLink "UnseenClock" (150 : Nat) ({ cls := "UnseenClock", name := "isMoment", desc := "(J)Z" } : Jvm.MethodName)) ∈ lw_all := lw_g (lw_at lw_m5 218 rfl) rfl
theorem q1309 : (Jvm.Cond.privateMethod ({ cls := "UnseenClock", name := "isMoment", desc := "(J)Z" } : Jvm.MethodName)) ∈ lw_tbl := lw_at lw_m5 219 rfl
theorem q1310 : (Jvm.Cond.instanceMethod ({ cls := "UnseenClock", name := "isMoment", desc := "(J)Z" } : Jvm.MethodName)) ∈ lw_all := lw_g (lw_at lw_m5 220 rfl) rfl
theorem q1311 : (Jvm.Cond.code ({ cls := "UnseenClock", name := "isMoment", desc := "(J)Z" } : Jvm.MethodName) prog_1_method_17_code (3 : Nat) (Option.some Jvm.ClassFile.FieldType.boolean)) ∈ lw_all := lw_g (lw_at lw_m5 221 rfl) rfl
theorem q1312 : (Jvm.Cond.methodLink "UnseenClock" (140 : Nat) ({ cls := "UnseenClock$Square", name := "is", desc := "()Z" } : Jvm.MethodName)) ∈ lw_all := lw_g (lw_at lw_m5 222 rfl) rfl
theorem q1317 : (Jvm.Cond.instanceMethod ({ cls := "UnseenClock", name := "value", desc := "(III)I" } : Jvm.MethodName)) ∈ lw_all := lw_g (lw_at lw_m5 227 rfl) rfl
theorem q1318 : (Jvm.Cond.selects "UnseenClock" ({ cls := "UnseenClock", name := "value", desc := "(III)I" } : Jvm.MethodName) ({ cls := "UnseenClock", name := "value", desc := "(III)I" } : Jvm.MethodName)) ∈ lw_all := lw_g (lw_at lw_m5 228 rfl) rfl
theorem q1319 : (Jvm.Cond.code ({ cls := "UnseenClock", name := "value", desc := "(III)I" } : Jvm.MethodName) prog_1_method_26_code (6 : Nat) (Option.some Jvm.ClassFile.FieldType.int)) ∈ lw_all := lw_g (lw_at lw_m5 229 rfl) rfl
theorem q1320 : (Jvm.Cond.constantLong "UnseenClock" (199 : Nat) (2 : Int64)) ∈ lw_all := lw_g (lw_at lw_m5 230 rfl) rfl
theorem q1322 : (Jvm.Cond.instanceMethod ({ cls := "UnseenClock", name := "still", desc := "(II)I" } : Jvm.MethodName)) ∈ lw_all := lw_g (lw_at lw_m5 232 rfl) rfl
theorem q1323 : (Jvm.Cond.selects "UnseenClock" ({ cls := "UnseenClock", name := "still", desc := "(II)I" } : Jvm.MethodName) ({ cls := "UnseenClock", name := "still", desc := "(II)I" } : Jvm.MethodName)) ∈ lw_all := lw_g (lw_at lw_m5 233 rfl) rfl
theorem q1324 : (Jvm.Cond.code ({ cls := "UnseenClock", name := "still", desc := "(II)I" } : Jvm.MethodName) prog_1_method_27_code (9 : Nat) (Option.some Jvm.ClassFile.FieldType.int)) ∈ lw_all := lw_g (lw_at lw_m5 234 rfl) rfl
theorem q1325 : (Jvm.Cond.methodLink "UnseenClock" (207 : Nat) ({ cls := "java/lang/Math", name := "max", desc := "(II)I" } : Jvm.MethodName)) ∈ lw_all := lw_g (lw_at lw_m5 235 rfl) rfl
theorem q1327 : (Jvm.Cond.instanceMethod ({ cls := "UnseenClock", name := "open", desc := "()I" } : Jvm.MethodName)) ∈ lw_all := lw_g (lw_at lw_m5 237 rfl) rfl
theorem q1328 : (Jvm.Cond.selects "UnseenClock" ({ cls := "UnseenClock", name := "open", desc := "()I" } : Jvm.MethodName) ({ cls := "UnseenClock", name := "open", desc := "()I" } : Jvm.MethodName)) ∈ lw_all := lw_g (lw_at lw_m5 238 rfl) rfl
theorem q1329 : (Jvm.Cond.code ({ cls := "UnseenClock", name := "open", desc := "()I" } : Jvm.MethodName) prog_1_method_28_code (1 : Nat) (Option.some Jvm.ClassFile.FieldType.int)) ∈ lw_all := lw_g (lw_at lw_m5 239 rfl) rfl
theorem q1331 : (Jvm.Cond.instanceMethod ({ cls := "UnseenClock", name := "opens", desc := "(I)I" } : Jvm.MethodName)) ∈ lw_all := lw_g (lw_at lw_m6 1 rfl) rfl
theorem q1332 : (Jvm.Cond.selects "UnseenClock" ({ cls := "UnseenClock", name := "opens", desc := "(I)I" } : Jvm.MethodName) ({ cls := "UnseenClock", name := "opens", desc := "(I)I" } : Jvm.MethodName)) ∈ lw_all := lw_g (lw_at lw_m6 2 rfl) rfl
theorem q1333 : (Jvm.Cond.code ({ cls := "UnseenClock", name := "opens", desc := "(I)I" } : Jvm.MethodName) prog_1_method_29_code (2 : Nat) (Option.some Jvm.ClassFile.FieldType.int)) ∈ lw_all := lw_g (lw_at lw_m6 3 rfl) rfl
theorem q1335 : (Jvm.Cond.instanceMethod ({ cls := "UnseenClock", name := "bell", desc := "(II)I" } : Jvm.MethodName)) ∈ lw_all := lw_g (lw_at lw_m6 5 rfl) rfl
theorem q1336 : (Jvm.Cond.selects "UnseenClock" ({ cls := "UnseenClock", name := "bell", desc := "(II)I" } : Jvm.MethodName) ({ cls := "UnseenClock", name := "bell", desc := "(II)I" } : Jvm.MethodName)) ∈ lw_all := lw_g (lw_at lw_m6 6 rfl) rfl
theorem q1337 : (Jvm.Cond.code ({ cls := "UnseenClock", name := "bell", desc := "(II)I" } : Jvm.MethodName) prog_1_method_32_code (4 : Nat) (Option.some Jvm.ClassFile.FieldType.int)) ∈ lw_all := lw_g (lw_at lw_m6 7 rfl) rfl
theorem q1338 : (Jvm.Cond.methodLink "UnseenClock" (214 : Nat) ({ cls := "UnseenClock", name := "isMany", desc := "(II)Z" } : Jvm.MethodName)) ∈ lw_all := lw_g (lw_at lw_m6 8 rfl) rfl
theorem q1339 : (Jvm.Cond.privateMethod ({ cls := "UnseenClock", name := "isMany", desc := "(II)Z" } : Jvm.MethodName)) ∈ lw_tbl := lw_at lw_m6 9 rfl
theorem q1340 : (Jvm.Cond.instanceMethod ({ cls := "UnseenClock", name := "isMany", desc := "(II)Z" } : Jvm.MethodName)) ∈ lw_all := lw_g (lw_at lw_m6 10 rfl) rfl
theorem q1341 : (Jvm.Cond.code ({ cls := "UnseenClock", name := "isMany", desc := "(II)Z" } : Jvm.MethodName) prog_1_method_31_code (3 : Nat) (Option.some Jvm.ClassFile.FieldType.boolean)) ∈ lw_all := lw_g (lw_at lw_m6 11 rfl) rfl
theorem q1342 : (Jvm.Cond.constantLong "UnseenClock" (212 : Nat) (4 : Int64)) ∈ lw_all := lw_g (lw_at lw_m6 12 rfl) rfl
theorem q1343 : (Jvm.Cond.methodLink "UnseenClock" (153 : Nat) ({ cls := "UnseenClock", name := "isHour", desc := "(J)Z" } : Jvm.MethodName)) ∈ lw_all := lw_g (lw_at lw_m6 13 rfl) rfl
theorem q1344 : (Jvm.Cond.static ({ cls := "UnseenClock", name := "isHour", desc := "(J)Z" } : Jvm.MethodName)) ∈ lw_all := lw_g (lw_at lw_m6 14 rfl) rfl
theorem q1345 : (Jvm.Cond.code ({ cls := "UnseenClock", name := "isHour", desc := "(J)Z" } : Jvm.MethodName) prog_1_method_18_code (2 : Nat) (Option.some Jvm.ClassFile.FieldType.boolean)) ∈ lw_all := lw_g (lw_at lw_m6 15 rfl) rfl
theorem q1346 : (Jvm.Cond.constantLong "UnseenClock" (144 : Nat) (59 : Int64)) ∈ lw_all := lw_g (lw_at lw_m6 16 rfl) rfl
theorem q1347 : (Jvm.Cond.methodLink "UnseenClock" (217 : Nat) ({ cls := "UnseenClock", name := "manyShow", desc := "(II)I" } : Jvm.MethodName)) ∈ lw_all := lw_g (lw_at lw_m6 17 rfl) rfl
theorem q1348 : (Jvm.Cond.privateMethod ({ cls := "UnseenClock", name := "manyShow", desc := "(II)I" } : Jvm.MethodName)) ∈ lw_tbl := lw_at lw_m6 18 rfl
theorem q1349 : (Jvm.Cond.instanceMethod ({ cls := "UnseenClock", name := "manyShow", desc := "(II)I" } : Jvm.MethodName)) ∈ lw_all := lw_g (lw_at lw_m6 19 rfl) rfl
theorem q1350 : (Jvm.Cond.code ({ cls := "UnseenClock", name := "manyShow", desc := "(II)I" } : Jvm.MethodName) prog_1_method_30_code (5 : Nat) (Option.some Jvm.ClassFile.FieldType.int)) ∈ lw_all := lw_g (lw_at lw_m6 20 rfl) rfl
theorem q1352 : (Jvm.Cond.instanceMethod ({ cls := "UnseenClock", name := "courses", desc := "()I" } : Jvm.MethodName)) ∈ lw_all := lw_g (lw_at lw_m6 22 rfl) rfl
theorem q1353 : (Jvm.Cond.selects "UnseenClock" ({ cls := "UnseenClock", name := "courses", desc := "()I" } : Jvm.MethodName) ({ cls := "UnseenClock", name := "courses", desc := "()I" } : Jvm.MethodName)) ∈ lw_all := lw_g (lw_at lw_m6 23 rfl) rfl
theorem q1354 : (Jvm.Cond.code ({ cls := "UnseenClock", name := "courses", desc := "()I" } : Jvm.MethodName) prog_1_method_35_code (1 : Nat) (Option.some Jvm.ClassFile.FieldType.int)) ∈ lw_all := lw_g (lw_at lw_m6 24 rfl) rfl
theorem q1355 : (Jvm.Cond.methodLink "UnseenClock" (237 : Nat) ({ cls := "UnseenClock", name := "gathers", desc := "()Z" } : Jvm.MethodName)) ∈ lw_all := lw_g (lw_at lw_m6 25 rfl) rfl
theorem q1356 : (Jvm.Cond.privateMethod ({ cls := "UnseenClock", name := "gathers", desc := "()Z" } : Jvm.MethodName)) ∈ lw_tbl := lw_at lw_m6 26 rfl
theorem q1357 : (Jvm.Cond.instanceMethod ({ cls := "UnseenClock", name := "gathers", desc := "()Z" } : Jvm.MethodName)) ∈ lw_all := lw_g (lw_at lw_m6 27 rfl) rfl
theorem q1358 : (Jvm.Cond.code ({ cls := "UnseenClock", name := "gathers", desc := "()Z" } : Jvm.MethodName) prog_1_method_33_code (2 : Nat) (Option.some Jvm.ClassFile.FieldType.boolean)) ∈ lw_all := lw_g (lw_at lw_m6 28 rfl) rfl
theorem q1359 : (Jvm.Cond.classLink "UnseenClock" (223 : Nat) "UnseenClock$Seen") ∈ lw_all := lw_g (lw_at lw_m6 29 rfl) rfl
theorem q1361 : (Jvm.Cond.methodLinkNest "UnseenClock" (225 : Nat) ({ cls := "UnseenClock$Seen", name := "<init>", desc := "()V" } : Jvm.MethodName) "UnseenClock") ∈ lw_tbl := lw_at lw_m6 31 rfl
theorem q1372 : (Jvm.Cond.interfaceEntry "UnseenClock" (226 : Nat)) ∈ lw_tbl := lw_at lw_m6 42 rfl
theorem q1373 : (Jvm.Cond.methodLink "UnseenClock" (226 : Nat) ({ cls := "java/util/List", name := "add", desc := "(Ljava/lang/Object;)Z" } : Jvm.MethodName)) ∈ lw_all := lw_g (lw_at lw_m6 43 rfl) rfl
theorem q1374 : (Jvm.Cond.methodLink "UnseenClock" (230 : Nat) ({ cls := "UnseenClock$Seen", name := "becomes", desc := "(LUnseenClock$Course;)V" } : Jvm.MethodName)) ∈ lw_all := lw_g (lw_at lw_m6 44 rfl) rfl
theorem q1378 : (Jvm.Cond.methodLink "UnseenClock" (234 : Nat) ({ cls := "UnseenClock$Course", name := "takesOtherwise", desc := "()Z" } : Jvm.MethodName)) ∈ lw_all := lw_g (lw_at lw_m6 48 rfl) rfl
theorem q1383 : (Jvm.Cond.instanceMethod ({ cls := "UnseenClock", name := "among", desc := "(III)I" } : Jvm.MethodName)) ∈ lw_all := lw_g (lw_at lw_m6 53 rfl) rfl
theorem q1384 : (Jvm.Cond.selects "UnseenClock" ({ cls := "UnseenClock", name := "among", desc := "(III)I" } : Jvm.MethodName) ({ cls := "UnseenClock", name := "among", desc := "(III)I" } : Jvm.MethodName)) ∈ lw_all := lw_g (lw_at lw_m6 54 rfl) rfl
theorem q1385 : (Jvm.Cond.code ({ cls := "UnseenClock", name := "among", desc := "(III)I" } : Jvm.MethodName) prog_1_method_36_code (6 : Nat) (Option.some Jvm.ClassFile.FieldType.int)) ∈ lw_all := lw_g (lw_at lw_m6 55 rfl) rfl
theorem q1386 : (Jvm.Cond.methodLink "UnseenClock" (240 : Nat) ({ cls := "UnseenClock", name := "isAsked", desc := "(III)Z" } : Jvm.MethodName)) ∈ lw_all := lw_g (lw_at lw_m6 56 rfl) rfl
theorem q1387 : (Jvm.Cond.privateMethod ({ cls := "UnseenClock", name := "isAsked", desc := "(III)Z" } : Jvm.MethodName)) ∈ lw_tbl := lw_at lw_m6 57 rfl
theorem q1388 : (Jvm.Cond.instanceMethod ({ cls := "UnseenClock", name := "isAsked", desc := "(III)Z" } : Jvm.MethodName)) ∈ lw_all := lw_g (lw_at lw_m6 58 rfl) rfl
theorem q1389 : (Jvm.Cond.code ({ cls := "UnseenClock", name := "isAsked", desc := "(III)Z" } : Jvm.MethodName) prog_1_method_19_code (4 : Nat) (Option.some Jvm.ClassFile.FieldType.boolean)) ∈ lw_all := lw_g (lw_at lw_m6 59 rfl) rfl
theorem q1390 : (Jvm.Cond.methodLink "UnseenClock" (243 : Nat) ({ cls := "UnseenClock$Seen", name := "shows", desc := "(II)I" } : Jvm.MethodName)) ∈ lw_all := lw_g (lw_at lw_m6 60 rfl) rfl
theorem q1395 : (Jvm.Cond.instanceMethod ({ cls := "UnseenClock", name := "agree", desc := "(I)I" } : Jvm.MethodName)) ∈ lw_all := lw_g (lw_at lw_m6 65 rfl) rfl
theorem q1396 : (Jvm.Cond.selects "UnseenClock" ({ cls := "UnseenClock", name := "agree", desc := "(I)I" } : Jvm.MethodName) ({ cls := "UnseenClock", name := "agree", desc := "(I)I" } : Jvm.MethodName)) ∈ lw_all := lw_g (lw_at lw_m6 66 rfl) rfl
theorem q1397 : (Jvm.Cond.code ({ cls := "UnseenClock", name := "agree", desc := "(I)I" } : Jvm.MethodName) prog_1_method_39_code (5 : Nat) (Option.some Jvm.ClassFile.FieldType.int)) ∈ lw_all := lw_g (lw_at lw_m6 67 rfl) rfl
theorem q1398 : (Jvm.Cond.methodLink "UnseenClock" (255 : Nat) ({ cls := "UnseenClock", name := "whyNot", desc := "(I)I" } : Jvm.MethodName)) ∈ lw_all := lw_g (lw_at lw_m6 68 rfl) rfl
theorem q1399 : (Jvm.Cond.privateMethod ({ cls := "UnseenClock", name := "whyNot", desc := "(I)I" } : Jvm.MethodName)) ∈ lw_tbl := lw_at lw_m6 69 rfl
theorem q1400 : (Jvm.Cond.instanceMethod ({ cls := "UnseenClock", name := "whyNot", desc := "(I)I" } : Jvm.MethodName)) ∈ lw_all := lw_g (lw_at lw_m6 70 rfl) rfl
theorem q1401 : (Jvm.Cond.code ({ cls := "UnseenClock", name := "whyNot", desc := "(I)I" } : Jvm.MethodName) prog_1_method_38_code (4 : Nat) (Option.some Jvm.ClassFile.FieldType.int)) ∈ lw_all := lw_g (lw_at lw_m6 71 rfl) rfl
theorem q1402 : (Jvm.Cond.methodLink "UnseenClock" (245 : Nat) ({ cls := "UnseenClock$Slot", name := "many", desc := "()I" } : Jvm.MethodName)) ∈ lw_all := lw_g (lw_at lw_m6 72 rfl) rfl
theorem q1406 : (Jvm.Cond.methodLink "UnseenClock" (247 : Nat) ({ cls := "UnseenClock$Slot", name := "number", desc := "(I)J" } : Jvm.MethodName)) ∈ lw_all := lw_g (lw_at lw_m6 76 rfl) rfl
theorem q1410 : (Jvm.Cond.methodLink "UnseenClock" (259 : Nat) ({ cls := "UnseenClock", name := "agrees", desc := "(LUnseenClock$Seen;LUnseenClock$Slot;I)Z" } : Jvm.MethodName)) ∈ lw_all := lw_g (lw_at lw_m6 80 rfl) rfl
theorem q1411 : (Jvm.Cond.privateMethod ({ cls := "UnseenClock", name := "agrees", desc := "(LUnseenClock$Seen;LUnseenClock$Slot;I)Z" } : Jvm.MethodName)) ∈ lw_tbl := lw_at lw_m6 81 rfl
theorem q1412 : (Jvm.Cond.instanceMethod ({ cls := "UnseenClock", name := "agrees", desc := "(LUnseenClock$Seen;LUnseenClock$Slot;I)Z" } : Jvm.MethodName)) ∈ lw_all := lw_g (lw_at lw_m6 82 rfl) rfl
theorem q1413 : (Jvm.Cond.code ({ cls := "UnseenClock", name := "agrees", desc := "(LUnseenClock$Seen;LUnseenClock$Slot;I)Z" } : Jvm.MethodName) prog_1_method_37_code (5 : Nat) (Option.some Jvm.ClassFile.FieldType.boolean)) ∈ lw_all := lw_g (lw_at lw_m6 83 rfl) rfl
theorem q1415 : (Jvm.Cond.instanceMethod ({ cls := "UnseenClock", name := "sure", desc := "(III)I" } : Jvm.MethodName)) ∈ lw_all := lw_g (lw_at lw_m6 85 rfl) rfl
theorem q1416 : (Jvm.Cond.selects "UnseenClock" ({ cls := "UnseenClock", name := "sure", desc := "(III)I" } : Jvm.MethodName) ({ cls := "UnseenClock", name := "sure", desc := "(III)I" } : Jvm.MethodName)) ∈ lw_all := lw_g (lw_at lw_m6 86 rfl) rfl
theorem q1417 : (Jvm.Cond.code ({ cls := "UnseenClock", name := "sure", desc := "(III)I" } : Jvm.MethodName) prog_1_method_41_code (5 : Nat) (Option.some Jvm.ClassFile.FieldType.int)) ∈ lw_all := lw_g (lw_at lw_m6 87 rfl) rfl
theorem q1418 : (Jvm.Cond.methodLink "UnseenClock" (263 : Nat) ({ cls := "UnseenClock", name := "sureBy", desc := "(IIII)I" } : Jvm.MethodName)) ∈ lw_all := lw_g (lw_at lw_m6 88 rfl) rfl
theorem q1419 : (Jvm.Cond.privateMethod ({ cls := "UnseenClock", name := "sureBy", desc := "(IIII)I" } : Jvm.MethodName)) ∈ lw_tbl := lw_at lw_m6 89 rfl
theorem q1420 : (Jvm.Cond.instanceMethod ({ cls := "UnseenClock", name := "sureBy", desc := "(IIII)I" } : Jvm.MethodName)) ∈ lw_all := lw_g (lw_at lw_m6 90 rfl) rfl
theorem q1421 : (Jvm.Cond.code ({ cls := "UnseenClock", name := "sureBy", desc := "(IIII)I" } : Jvm.MethodName) prog_1_method_40_code (8 : Nat) (Option.some Jvm.ClassFile.FieldType.int)) ∈ lw_all := lw_g (lw_at lw_m6 91 rfl) rfl
theorem q1423 : (Jvm.Cond.instanceMethod ({ cls := "UnseenClock", name := "needs", desc := "(III)I" } : Jvm.MethodName)) ∈ lw_all := lw_g (lw_at lw_m6 93 rfl) rfl
theorem q1424 : (Jvm.Cond.selects "UnseenClock" ({ cls := "UnseenClock", name := "needs", desc := "(III)I" } : Jvm.MethodName) ({ cls := "UnseenClock", name := "needs", desc := "(III)I" } : Jvm.MethodName)) ∈ lw_all := lw_g (lw_at lw_m6 94 rfl) rfl
theorem q1425 : (Jvm.Cond.code ({ cls := "UnseenClock", name := "needs", desc := "(III)I" } : Jvm.MethodName) prog_1_method_42_code (8 : Nat) (Option.some Jvm.ClassFile.FieldType.int)) ∈ lw_all := lw_g (lw_at lw_m6 95 rfl) rfl
theorem q1426 : (Jvm.Cond.methodLink "UnseenClock" (267 : Nat) ({ cls := "java/lang/Integer", name := "bitCount", desc := "(I)I" } : Jvm.MethodName)) ∈ lw_all := lw_g (lw_at lw_m6 96 rfl) rfl
theorem q1433 : (Jvm.Cond.instanceMethod ({ cls := "UnseenClock", name := "knows", desc := "(III)I" } : Jvm.MethodName)) ∈ lw_all := lw_g (lw_at lw_m6 103 rfl) rfl
theorem q1434 : (Jvm.Cond.selects "UnseenClock" ({ cls := "UnseenClock", name := "knows", desc := "(III)I" } : Jvm.MethodName) ({ cls := "UnseenClock", name := "knows", desc := "(III)I" } : Jvm.MethodName)) ∈ lw_all := lw_g (lw_at lw_m6 104 rfl) rfl
theorem q1435 : (Jvm.Cond.code ({ cls := "UnseenClock", name := "knows", desc := "(III)I" } : Jvm.MethodName) prog_1_method_44_code (6 : Nat) (Option.some Jvm.ClassFile.FieldType.int)) ∈ lw_all := lw_g (lw_at lw_m6 105 rfl) rfl
theorem q1436 : (Jvm.Cond.methodLink "UnseenClock" (276 : Nat) ({ cls := "UnseenClock", name := "plainSeen", desc := "()LUnseenClock$Seen;" } : Jvm.MethodName)) ∈ lw_all := lw_g (lw_at lw_m6 106 rfl) rfl
theorem q1437 : (Jvm.Cond.privateMethod ({ cls := "UnseenClock", name := "plainSeen", desc := "()LUnseenClock$Seen;" } : Jvm.MethodName)) ∈ lw_tbl := lw_at lw_m6 107 rfl
theorem q1438 : (Jvm.Cond.instanceMethod ({ cls := "UnseenClock", name := "plainSeen", desc := "()LUnseenClock$Seen;" } : Jvm.MethodName)) ∈ lw_all := lw_g (lw_at lw_m6 108 rfl) rfl
theorem q1439 : (Jvm.Cond.code ({ cls := "UnseenClock", name := "plainSeen", desc := "()LUnseenClock$Seen;" } : Jvm.MethodName) prog_1_method_34_code (1 : Nat) (Option.some (Jvm.ClassFile.FieldType.object "UnseenClock$Seen"))) ∈ lw_all := lw_g (lw_at lw_m6 109 rfl) rfl
theorem q1440 : (Jvm.Cond.methodLink "UnseenClock" (280 : Nat) ({ cls := "UnseenClock", name := "isAlike", desc := "(LUnseenClock$Seen;LUnseenClock$Seen;I)Z" } : Jvm.MethodName)) ∈ lw_all := lw_g (lw_at lw_m6 110 rfl) rfl
theorem q1441 : (Jvm.Cond.privateMethod ({ cls := "UnseenClock", name := "isAlike", desc := "(LUnseenClock$Seen;LUnseenClock$Seen;I)Z" } : Jvm.MethodName)) ∈ lw_tbl := lw_at lw_m6 111 rfl
theorem q1442 : (Jvm.Cond.instanceMethod ({ cls := "UnseenClock", name := "isAlike", desc := "(LUnseenClock$Seen;LUnseenClock$Seen;I)Z" } : Jvm.MethodName)) ∈ lw_all := lw_g (lw_at lw_m6 112 rfl) rfl
theorem q1443 : (Jvm.Cond.code ({ cls := "UnseenClock", name := "isAlike", desc := "(LUnseenClock$Seen;LUnseenClock$Seen;I)Z" } : Jvm.MethodName) prog_1_method_43_code (4 : Nat) (Option.some Jvm.ClassFile.FieldType.boolean)) ∈ lw_all := lw_g (lw_at lw_m6 113 rfl) rfl
theorem q1444 : (Jvm.Cond.methodLink "UnseenClock" (272 : Nat) ({ cls := "UnseenClock$Seen", name := "isAlike", desc := "(LUnseenClock$Seen;II)Z" } : Jvm.MethodName)) ∈ lw_all := lw_g (lw_at lw_m6 114 rfl) rfl
theorem q1451 : (Jvm.Cond.instanceMethod ({ cls := "UnseenClock", name := "common", desc := "(III)I" } : Jvm.MethodName)) ∈ lw_all := lw_g (lw_at lw_m6 121 rfl) rfl
theorem q1452 : (Jvm.Cond.selects "UnseenClock" ({ cls := "UnseenClock", name := "common", desc := "(III)I" } : Jvm.MethodName) ({ cls := "UnseenClock", name := "common", desc := "(III)I" } : Jvm.MethodName)) ∈ lw_all := lw_g (lw_at lw_m6 122 rfl) rfl
theorem q1453 : (Jvm.Cond.code ({ cls := "UnseenClock", name := "common", desc := "(III)I" } : Jvm.MethodName) prog_1_method_47_code (6 : Nat) (Option.some Jvm.ClassFile.FieldType.int)) ∈ lw_all := lw_g (lw_at lw_m6 123 rfl) rfl
theorem q1454 : (Jvm.Cond.methodLink "UnseenClock" (293 : Nat) ({ cls := "UnseenClock", name := "meets", desc := "(I)V" } : Jvm.MethodName)) ∈ lw_all := lw_g (lw_at lw_m6 124 rfl) rfl
theorem q1455 : (Jvm.Cond.privateMethod ({ cls := "UnseenClock", name := "meets", desc := "(I)V" } : Jvm.MethodName)) ∈ lw_tbl := lw_at lw_m6 125 rfl
theorem q1456 : (Jvm.Cond.instanceMethod ({ cls := "UnseenClock", name := "meets", desc := "(I)V" } : Jvm.MethodName)) ∈ lw_all := lw_g (lw_at lw_m6 126 rfl) rfl
theorem q1457 : (Jvm.Cond.code ({ cls := "UnseenClock", name := "meets", desc := "(I)V" } : Jvm.MethodName) prog_1_method_45_code (5 : Nat) (Option.none : Option Jvm.ClassFile.FieldType)) ∈ lw_all := lw_g (lw_at lw_m6 127 rfl) rfl
theorem q1458 : (Jvm.Cond.methodLink "UnseenClock" (283 : Nat) ({ cls := "java/util/Arrays", name := "fill", desc := "([ZZ)V" } : Jvm.MethodName)) ∈ lw_all := lw_g (lw_at lw_m6 128 rfl) rfl
theorem q1461 : (Jvm.Cond.methodLink "UnseenClock" (289 : Nat) ({ cls := "UnseenClock", name := "isStep", desc := "(ILUnseenClock$Seen;LUnseenClock$Seen;)Z" } : Jvm.MethodName)) ∈ lw_all := lw_g (lw_at lw_m6 131 rfl) rfl
theorem q1462 : (Jvm.Cond.privateMethod ({ cls := "UnseenClock", name := "isStep", desc := "(ILUnseenClock$Seen;LUnseenClock$Seen;)Z" } : Jvm.MethodName)) ∈ lw_tbl := lw_at lw_m6 132 rfl
theorem q1463 : (Jvm.Cond.instanceMethod ({ cls := "UnseenClock", name := "isStep", desc := "(ILUnseenClock$Seen;LUnseenClock$Seen;)Z" } : Jvm.MethodName)) ∈ lw_all := lw_g (lw_at lw_m6 133 rfl) rfl
theorem q1464 : (Jvm.Cond.code ({ cls := "UnseenClock", name := "isStep", desc := "(ILUnseenClock$Seen;LUnseenClock$Seen;)Z" } : Jvm.MethodName) prog_1_method_46_code (5 : Nat) (Option.some Jvm.ClassFile.FieldType.boolean)) ∈ lw_all := lw_g (lw_at lw_m6 134 rfl) rfl
theorem q1466 : (Jvm.Cond.instanceMethod ({ cls := "UnseenClock", name := "alike", desc := "(I)I" } : Jvm.MethodName)) ∈ lw_all := lw_g (lw_at lw_m6 136 rfl) rfl
theorem q1467 : (Jvm.Cond.selects "UnseenClock" ({ cls := "UnseenClock", name := "alike", desc := "(I)I" } : Jvm.MethodName) ({ cls := "UnseenClock", name := "alike", desc := "(I)I" } : Jvm.MethodName)) ∈ lw_all := lw_g (lw_at lw_m6 137 rfl) rfl
theorem q1468 : (Jvm.Cond.code ({ cls := "UnseenClock", name := "alike", desc := "(I)I" } : Jvm.MethodName) prog_1_method_48_code (4 : Nat) (Option.some Jvm.ClassFile.FieldType.int)) ∈ lw_all := lw_g (lw_at lw_m6 138 rfl) rfl
theorem q1470 : (Jvm.Cond.instanceMethod ({ cls := "UnseenClock", name := "both", desc := "(IIII)I" } : Jvm.MethodName)) ∈ lw_all := lw_g (lw_at lw_m6 140 rfl) rfl
theorem q1471 : (Jvm.Cond.selects "UnseenClock" ({ cls := "UnseenClock", name := "both", desc := "(IIII)I" } : Jvm.MethodName) ({ cls := "UnseenClock", name := "both", desc := "(IIII)I" } : Jvm.MethodName)) ∈ lw_all := lw_g (lw_at lw_m6 141 rfl) rfl
theorem q1472 : (Jvm.Cond.code ({ cls := "UnseenClock", name := "both", desc := "(IIII)I" } : Jvm.MethodName) prog_1_method_49_code (7 : Nat) (Option.some Jvm.ClassFile.FieldType.int)) ∈ lw_all := lw_g (lw_at lw_m6 142 rfl) rfl
theorem q1474 : (Jvm.Cond.instanceMethod ({ cls := "UnseenClock", name := "learns", desc := "(III)I" } : Jvm.MethodName)) ∈ lw_all := lw_g (lw_at lw_m6 144 rfl) rfl
theorem q1475 : (Jvm.Cond.selects "UnseenClock" ({ cls := "UnseenClock", name := "learns", desc := "(III)I" } : Jvm.MethodName) ({ cls := "UnseenClock", name := "learns", desc := "(III)I" } : Jvm.MethodName)) ∈ lw_all := lw_g (lw_at lw_m6 145 rfl) rfl
theorem q1476 : (Jvm.Cond.code ({ cls := "UnseenClock", name := "learns", desc := "(III)I" } : Jvm.MethodName) prog_1_method_51_code (5 : Nat) (Option.some Jvm.ClassFile.FieldType.int)) ∈ lw_all := lw_g (lw_at lw_m6 146 rfl) rfl
theorem q1477 : (Jvm.Cond.methodLink "UnseenClock" (296 : Nat) ({ cls := "UnseenClock", name := "isLearnt", desc := "(IIII)Z" } : Jvm.MethodName)) ∈ lw_all := lw_g (lw_at lw_m6 147 rfl) rfl
theorem q1478 : (Jvm.Cond.privateMethod ({ cls := "UnseenClock", name := "isLearnt", desc := "(IIII)Z" } : Jvm.MethodName)) ∈ lw_tbl := lw_at lw_m6 148 rfl
theorem q1479 : (Jvm.Cond.instanceMethod ({ cls := "UnseenClock", name := "isLearnt", desc := "(IIII)Z" } : Jvm.MethodName)) ∈ lw_all := lw_g (lw_at lw_m6 149 rfl) rfl
theorem q1480 : (Jvm.Cond.code ({ cls := "UnseenClock", name := "isLearnt", desc := "(IIII)Z" } : Jvm.MethodName) prog_1_method_50_code (6 : Nat) (Option.some Jvm.ClassFile.FieldType.boolean)) ∈ lw_all := lw_g (lw_at lw_m6 150 rfl) rfl
theorem q1482 : (Jvm.Cond.instanceMethod ({ cls := "UnseenClock", name := "sights", desc := "(I)I" } : Jvm.MethodName)) ∈ lw_all := lw_g (lw_at lw_m6 152 rfl) rfl
theorem q1483 : (Jvm.Cond.selects "UnseenClock" ({ cls := "UnseenClock", name := "sights", desc := "(I)I" } : Jvm.MethodName) ({ cls := "UnseenClock", name := "sights", desc := "(I)I" } : Jvm.MethodName)) ∈ lw_all := lw_g (lw_at lw_m6 153 rfl) rfl
theorem q1484 : (Jvm.Cond.code ({ cls := "UnseenClock", name := "sights", desc := "(I)I" } : Jvm.MethodName) prog_1_method_52_code (6 : Nat) (Option.some Jvm.ClassFile.FieldType.int)) ∈ lw_all := lw_g (lw_at lw_m6 154 rfl) rfl
theorem q1486 : (Jvm.Cond.instanceMethod ({ cls := "UnseenClock", name := "lie", desc := "(IIII)I" } : Jvm.MethodName)) ∈ lw_all := lw_g (lw_at lw_m6 156 rfl) rfl
theorem q1487 : (Jvm.Cond.selects "UnseenClock" ({ cls := "UnseenClock", name := "lie", desc := "(IIII)I" } : Jvm.MethodName) ({ cls := "UnseenClock", name := "lie", desc := "(IIII)I" } : Jvm.MethodName)) ∈ lw_all := lw_g (lw_at lw_m6 157 rfl) rfl
theorem q1488 : (Jvm.Cond.code ({ cls := "UnseenClock", name := "lie", desc := "(IIII)I" } : Jvm.MethodName) prog_1_method_54_code (5 : Nat) (Option.some Jvm.ClassFile.FieldType.int)) ∈ lw_all := lw_g (lw_at lw_m6 158 rfl) rfl
theorem q1489 : (Jvm.Cond.methodLink "UnseenClock" (300 : Nat) ({ cls := "UnseenClock", name := "showsWrong", desc := "(IIII)I" } : Jvm.MethodName)) ∈ lw_all := lw_g (lw_at lw_m6 159 rfl) rfl
theorem q1490 : (Jvm.Cond.privateMethod ({ cls := "UnseenClock", name := "showsWrong", desc := "(IIII)I" } : Jvm.MethodName)) ∈ lw_tbl := lw_at lw_m6 160 rfl
theorem q1491 : (Jvm.Cond.instanceMethod ({ cls := "UnseenClock", name := "showsWrong", desc := "(IIII)I" } : Jvm.MethodName)) ∈ lw_all := lw_g (lw_at lw_m6 161 rfl) rfl
theorem q1492 : (Jvm.Cond.code ({ cls := "UnseenClock", name := "showsWrong", desc := "(IIII)I" } : Jvm.MethodName) prog_1_method_53_code (8 : Nat) (Option.some Jvm.ClassFile.FieldType.int)) ∈ lw_all := lw_g (lw_at lw_m6 162 rfl) rfl
theorem q1494 : (Jvm.Cond.instanceMethod ({ cls := "UnseenClock", name := "shown", desc := "(IIII)I" } : Jvm.MethodName)) ∈ lw_all := lw_g (lw_at lw_m6 164 rfl) rfl
theorem q1495 : (Jvm.Cond.selects "UnseenClock" ({ cls := "UnseenClock", name := "shown", desc := "(IIII)I" } : Jvm.MethodName) ({ cls := "UnseenClock", name := "shown", desc := "(IIII)I" } : Jvm.MethodName)) ∈ lw_all := lw_g (lw_at lw_m6 165 rfl) rfl
theorem q1496 : (Jvm.Cond.code ({ cls := "UnseenClock", name := "shown", desc := "(IIII)I" } : Jvm.MethodName) prog_1_method_55_code (5 : Nat) (Option.some Jvm.ClassFile.FieldType.int)) ∈ lw_all := lw_g (lw_at lw_m6 166 rfl) rfl
theorem q1498 : (Jvm.Cond.instanceMethod ({ cls := "UnseenClock", name := "meets", desc := "(II)I" } : Jvm.MethodName)) ∈ lw_all := lw_g (lw_at lw_m6 168 rfl) rfl
theorem q1499 : (Jvm.Cond.selects "UnseenClock" ({ cls := "UnseenClock", name := "meets", desc := "(II)I" } : Jvm.MethodName) ({ cls := "UnseenClock", name := "meets", desc := "(II)I" } : Jvm.MethodName)) ∈ lw_all := lw_g (lw_at lw_m6 169 rfl) rfl
theorem q1500 : (Jvm.Cond.code ({ cls := "UnseenClock", name := "meets", desc := "(II)I" } : Jvm.MethodName) prog_1_method_57_code (5 : Nat) (Option.some Jvm.ClassFile.FieldType.int)) ∈ lw_all := lw_g (lw_at lw_m6 170 rfl) rfl
theorem q1501 : (Jvm.Cond.methodLink "UnseenClock" (306 : Nat) ({ cls := "UnseenClock", name := "areBeside", desc := "(II)Z" } : Jvm.MethodName)) ∈ lw_all := lw_g (lw_at lw_m6 171 rfl) rfl
theorem q1502 : (Jvm.Cond.privateMethod ({ cls := "UnseenClock", name := "areBeside", desc := "(II)Z" } : Jvm.MethodName)) ∈ lw_tbl := lw_at lw_m6 172 rfl
theorem q1503 : (Jvm.Cond.instanceMethod ({ cls := "UnseenClock", name := "areBeside", desc := "(II)Z" } : Jvm.MethodName)) ∈ lw_all := lw_g (lw_at lw_m6 173 rfl) rfl
theorem q1504 : (Jvm.Cond.code ({ cls := "UnseenClock", name := "areBeside", desc := "(II)Z" } : Jvm.MethodName) prog_1_method_56_code (3 : Nat) (Option.some Jvm.ClassFile.FieldType.boolean)) ∈ lw_all := lw_g (lw_at lw_m6 174 rfl) rfl
theorem q1505 : (Jvm.Cond.methodLink "UnseenClock" (303 : Nat) ({ cls := "java/lang/Math", name := "abs", desc := "(I)I" } : Jvm.MethodName)) ∈ lw_all := lw_g (lw_at lw_m6 175 rfl) rfl
theorem q1507 : (Jvm.Cond.instanceMethod ({ cls := "UnseenClock", name := "spots", desc := "(I)I" } : Jvm.MethodName)) ∈ lw_all := lw_g (lw_at lw_m6 177 rfl) rfl
theorem q1508 : (Jvm.Cond.selects "UnseenClock" ({ cls := "UnseenClock", name := "spots", desc := "(I)I" } : Jvm.MethodName) ({ cls := "UnseenClock", name := "spots", desc := "(I)I" } : Jvm.MethodName)) ∈ lw_all := lw_g (lw_at lw_m6 178 rfl) rfl
theorem q1509 : (Jvm.Cond.code ({ cls := "UnseenClock", name := "spots", desc := "(I)I" } : Jvm.MethodName) prog_1_method_58_code (5 : Nat) (Option.some Jvm.ClassFile.FieldType.int)) ∈ lw_all := lw_g (lw_at lw_m6 179 rfl) rfl
theorem q1510 : (Jvm.Cond.methodLink "UnseenClock" (315 : Nat) ({ cls := "UnseenClock$Square", name := "isFree", desc := "(II)Z" } : Jvm.MethodName)) ∈ lw_all := lw_g (lw_at lw_m6 180 rfl) rfl
theorem q1511 : (Jvm.Cond.methodLink "UnseenClock" (318 : Nat) ({ cls := "UnseenClock$Square", name := "isSeen", desc := "(II)Z" } : Jvm.MethodName)) ∈ lw_all := lw_g (lw_at lw_m6 181 rfl) rfl
theorem q1513 : (Jvm.Cond.instanceMethod ({ cls := "UnseenClock", name := "when", desc := "(II)I" } : Jvm.MethodName)) ∈ lw_all := lw_g (lw_at lw_m6 183 rfl) rfl
theorem q1514 : (Jvm.Cond.selects "UnseenClock" ({ cls := "UnseenClock", name := "when", desc := "(II)I" } : Jvm.MethodName) ({ cls := "UnseenClock", name := "when", desc := "(II)I" } : Jvm.MethodName)) ∈ lw_all := lw_g (lw_at lw_m6 184 rfl) rfl
theorem q1515 : (Jvm.Cond.code ({ cls := "UnseenClock", name := "when", desc := "(II)I" } : Jvm.MethodName) prog_1_method_59_code (4 : Nat) (Option.some Jvm.ClassFile.FieldType.int)) ∈ lw_all := lw_g (lw_at lw_m6 185 rfl) rfl
theorem q1517 : (Jvm.Cond.instanceMethod ({ cls := "UnseenClock", name := "hours", desc := "(I)I" } : Jvm.MethodName)) ∈ lw_all := lw_g (lw_at lw_m6 187 rfl) rfl
theorem q1518 : (Jvm.Cond.selects "UnseenClock" ({ cls := "UnseenClock", name := "hours", desc := "(I)I" } : Jvm.MethodName) ({ cls := "UnseenClock", name := "hours", desc := "(I)I" } : Jvm.MethodName)) ∈ lw_all := lw_g (lw_at lw_m6 188 rfl) rfl
theorem q1519 : (Jvm.Cond.code ({ cls := "UnseenClock", name := "hours", desc := "(I)I" } : Jvm.MethodName) prog_1_method_60_code (5 : Nat) (Option.some Jvm.ClassFile.FieldType.int)) ∈ lw_all := lw_g (lw_at lw_m6 189 rfl) rfl
theorem q1520 : (Jvm.Cond.methodLink "UnseenClock" (321 : Nat) ({ cls := "java/lang/Long", name := "bitCount", desc := "(J)I" } : Jvm.MethodName)) ∈ lw_all := lw_g (lw_at lw_m6 190 rfl) rfl
theorem q1527 : (Jvm.Cond.instanceMethod ({ cls := "UnseenClock", name := "without", desc := "(III)I" } : Jvm.MethodName)) ∈ lw_all := lw_g (lw_at lw_m6 197 rfl) rfl
theorem q1528 : (Jvm.Cond.selects "UnseenClock" ({ cls := "UnseenClock", name := "without", desc := "(III)I" } : Jvm.MethodName) ({ cls := "UnseenClock", name := "without", desc := "(III)I" } : Jvm.MethodName)) ∈ lw_all := lw_g (lw_at lw_m6 198 rfl) rfl
theorem q1529 : (Jvm.Cond.code ({ cls := "UnseenClock", name := "without", desc := "(III)I" } : Jvm.MethodName) prog_1_method_61_code (4 : Nat) (Option.some Jvm.ClassFile.FieldType.int)) ∈ lw_all := lw_g (lw_at lw_m6 199 rfl) rfl
theorem q1531 : (Jvm.Cond.instanceMethod ({ cls := "UnseenClock", name := "hush", desc := "(IIII)I" } : Jvm.MethodName)) ∈ lw_all := lw_g (lw_at lw_m6 201 rfl) rfl
theorem q1532 : (Jvm.Cond.selects "UnseenClock" ({ cls := "UnseenClock", name := "hush", desc := "(IIII)I" } : Jvm.MethodName) ({ cls := "UnseenClock", name := "hush", desc := "(IIII)I" } : Jvm.MethodName)) ∈ lw_all := lw_g (lw_at lw_m6 202 rfl) rfl
theorem q1533 : (Jvm.Cond.code ({ cls := "UnseenClock", name := "hush", desc := "(IIII)I" } : Jvm.MethodName) prog_1_method_63_code (7 : Nat) (Option.some Jvm.ClassFile.FieldType.int)) ∈ lw_all := lw_g (lw_at lw_m6 203 rfl) rfl
theorem q1534 : (Jvm.Cond.methodLink "UnseenClock" (326 : Nat) ({ cls := "UnseenClock", name := "rings", desc := "(III)Z" } : Jvm.MethodName)) ∈ lw_all := lw_g (lw_at lw_m6 204 rfl) rfl
theorem q1535 : (Jvm.Cond.privateMethod ({ cls := "UnseenClock", name := "rings", desc := "(III)Z" } : Jvm.MethodName)) ∈ lw_tbl := lw_at lw_m6 205 rfl
theorem q1536 : (Jvm.Cond.instanceMethod ({ cls := "UnseenClock", name := "rings", desc := "(III)Z" } : Jvm.MethodName)) ∈ lw_all := lw_g (lw_at lw_m6 206 rfl) rfl
theorem q1537 : (Jvm.Cond.code ({ cls := "UnseenClock", name := "rings", desc := "(III)Z" } : Jvm.MethodName) prog_1_method_62_code (5 : Nat) (Option.some Jvm.ClassFile.FieldType.boolean)) ∈ lw_all := lw_g (lw_at lw_m6 207 rfl) rfl
theorem q1539 : (Jvm.Cond.instanceMethod ({ cls := "UnseenClock", name := "call", desc := "(IZ)I" } : Jvm.MethodName)) ∈ lw_all := lw_g (lw_at lw_m6 209 rfl) rfl
theorem q1540 : (Jvm.Cond.selects "UnseenClock" ({ cls := "UnseenClock", name := "call", desc := "(IZ)I" } : Jvm.MethodName) ({ cls := "UnseenClock", name := "call", desc := "(IZ)I" } : Jvm.MethodName)) ∈ lw_all := lw_g (lw_at lw_m6 210 rfl) rfl
theorem q1541 : (Jvm.Cond.code ({ cls := "UnseenClock", name := "call", desc := "(IZ)I" } : Jvm.MethodName) prog_1_method_64_code (3 : Nat) (Option.some Jvm.ClassFile.FieldType.int)) ∈ lw_all := lw_g (lw_at lw_m6 211 rfl) rfl
theorem q1543 : (Jvm.Cond.instanceMethod ({ cls := "UnseenClock", name := "away", desc := "(IIII)I" } : Jvm.MethodName)) ∈ lw_all := lw_g (lw_at lw_m6 213 rfl) rfl
theorem q1544 : (Jvm.Cond.selects "UnseenClock" ({ cls := "UnseenClock", name := "away", desc := "(IIII)I" } : Jvm.MethodName) ({ cls := "UnseenClock", name := "away", desc := "(IIII)I" } : Jvm.MethodName)) ∈ lw_all := lw_g (lw_at lw_m6 214 rfl) rfl
theorem q1545 : (Jvm.Cond.code ({ cls := "UnseenClock", name := "away", desc := "(IIII)I" } : Jvm.MethodName) prog_1_method_65_code (7 : Nat) (Option.some Jvm.ClassFile.FieldType.int)) ∈ lw_all := lw_g (lw_at lw_m6 215 rfl) rfl
theorem q1547 : (Jvm.Cond.instanceMethod ({ cls := "UnseenClock", name := "kept", desc := "(III)I" } : Jvm.MethodName)) ∈ lw_all := lw_g (lw_at lw_m6 217 rfl) rfl
theorem q1548 : (Jvm.Cond.selects "UnseenClock" ({ cls := "UnseenClock", name := "kept", desc := "(III)I" } : Jvm.MethodName) ({ cls := "UnseenClock", name := "kept", desc := "(III)I" } : Jvm.MethodName)) ∈ lw_all := lw_g (lw_at lw_m6 218 rfl) rfl
theorem q1549 : (Jvm.Cond.code ({ cls := "UnseenClock", name := "kept", desc := "(III)I" } : Jvm.MethodName) prog_1_method_67_code (4 : Nat) (Option.some Jvm.ClassFile.FieldType.int)) ∈ lw_all := lw_g (lw_at lw_m6 219 rfl) rfl
theorem q1550 : (Jvm.Cond.constantLong "UnseenClock" (332 : Nat) (40 : Int64)) ∈ lw_all := lw_g (lw_at lw_m6 220 rfl) rfl
theorem q1551 : (Jvm.Cond.methodLink "UnseenClock" (334 : Nat) ({ cls := "UnseenClock", name := "keptBy", desc := "(II)LUnseenClock$Course;" } : Jvm.MethodName)) ∈ lw_all := lw_g (lw_at lw_m6 221 rfl) rfl
theorem q1552 : (Jvm.Cond.privateMethod ({ cls := "UnseenClock", name := "keptBy", desc := "(II)LUnseenClock$Course;" } : Jvm.MethodName)) ∈ lw_tbl := lw_at lw_m6 222 rfl
theorem q1553 : (Jvm.Cond.instanceMethod ({ cls := "UnseenClock", name := "keptBy", desc := "(II)LUnseenClock$Course;" } : Jvm.MethodName)) ∈ lw_all := lw_g (lw_at lw_m6 223 rfl) rfl
theorem q1554 : (Jvm.Cond.code ({ cls := "UnseenClock", name := "keptBy", desc := "(II)LUnseenClock$Course;" } : Jvm.MethodName) prog_1_method_66_code (3 : Nat) (Option.some (Jvm.ClassFile.FieldType.object "UnseenClock$Course"))) ∈ lw_all := lw_g (lw_at lw_m6 224 rfl) rfl
theorem q1556 : (Jvm.Cond.instanceMethod ({ cls := "UnseenClock", name := "keep", desc := "(III)I" } : Jvm.MethodName)) ∈ lw_all := lw_g (lw_at lw_m6 226 rfl) rfl
theorem q1557 : (Jvm.Cond.selects "UnseenClock" ({ cls := "UnseenClock", name := "keep", desc := "(III)I" } : Jvm.MethodName) ({ cls := "UnseenClock", name := "keep", desc := "(III)I" } : Jvm.MethodName)) ∈ lw_all := lw_g (lw_at lw_m6 227 rfl) rfl
theorem q1558 : (Jvm.Cond.code ({ cls := "UnseenClock", name := "keep", desc := "(III)I" } : Jvm.MethodName) prog_1_method_69_code (4 : Nat) (Option.some Jvm.ClassFile.FieldType.int)) ∈ lw_all := lw_g (lw_at lw_m6 228 rfl) rfl
theorem q1559 : (Jvm.Cond.methodLink "UnseenClock" (338 : Nat) ({ cls := "UnseenClock", name := "leastKept", desc := "(III)I" } : Jvm.MethodName)) ∈ lw_all := lw_g (lw_at lw_m6 229 rfl) rfl
theorem q1560 : (Jvm.Cond.privateMethod ({ cls := "UnseenClock", name := "leastKept", desc := "(III)I" } : Jvm.MethodName)) ∈ lw_tbl := lw_at lw_m6 230 rfl
theorem q1561 : (Jvm.Cond.instanceMethod ({ cls := "UnseenClock", name := "leastKept", desc := "(III)I" } : Jvm.MethodName)) ∈ lw_all := lw_g (lw_at lw_m6 231 rfl) rfl
theorem q1562 : (Jvm.Cond.code ({ cls := "UnseenClock", name := "leastKept", desc := "(III)I" } : Jvm.MethodName) prog_1_method_68_code (5 : Nat) (Option.some Jvm.ClassFile.FieldType.int)) ∈ lw_all := lw_g (lw_at lw_m6 232 rfl) rfl
theorem q1564 : (Jvm.Cond.instanceMethod ({ cls := "UnseenClock", name := "shifts", desc := "(IIII)I" } : Jvm.MethodName)) ∈ lw_all := lw_g (lw_at lw_m6 234 rfl) rfl
theorem q1565 : (Jvm.Cond.selects "UnseenClock" ({ cls := "UnseenClock", name := "shifts", desc := "(IIII)I" } : Jvm.MethodName) ({ cls := "UnseenClock", name := "shifts", desc := "(IIII)I" } : Jvm.MethodName)) ∈ lw_all := lw_g (lw_at lw_m6 235 rfl) rfl
theorem q1566 : (Jvm.Cond.code ({ cls := "UnseenClock", name := "shifts", desc := "(IIII)I" } : Jvm.MethodName) prog_1_method_70_code (6 : Nat) (Option.some Jvm.ClassFile.FieldType.int)) ∈ lw_all := lw_g (lw_at lw_m6 236 rfl) rfl
theorem q1568 : (Jvm.Cond.instanceMethod ({ cls := "UnseenClock", name := "last", desc := "(III)I" } : Jvm.MethodName)) ∈ lw_all := lw_g (lw_at lw_m6 238 rfl) rfl
theorem q1569 : (Jvm.Cond.selects "UnseenClock" ({ cls := "UnseenClock", name := "last", desc := "(III)I" } : Jvm.MethodName) ({ cls := "UnseenClock", name := "last", desc := "(III)I" } : Jvm.MethodName)) ∈ lw_all := lw_g (lw_at lw_m6 239 rfl) rfl
theorem q1570 : (Jvm.Cond.code ({ cls := "UnseenClock", name := "last", desc := "(III)I" } : Jvm.MethodName) prog_1_method_71_code (4 : Nat) (Option.some Jvm.ClassFile.FieldType.int)) ∈ lw_all := lw_g (lw_at lw_m7 0 rfl) rfl
theorem q1572 : (Jvm.Cond.instanceMethod ({ cls := "UnseenClock", name := "all", desc := "(III)I" } : Jvm.MethodName)) ∈ lw_all := lw_g (lw_at lw_m7 2 rfl) rfl
theorem q1573 : (Jvm.Cond.selects "UnseenClock" ({ cls := "UnseenClock", name := "all", desc := "(III)I" } : Jvm.MethodName) ({ cls := "UnseenClock", name := "all", desc := "(III)I" } : Jvm.MethodName)) ∈ lw_all := lw_g (lw_at lw_m7 3 rfl) rfl
theorem q1574 : (Jvm.Cond.code ({ cls := "UnseenClock", name := "all", desc := "(III)I" } : Jvm.MethodName) prog_1_method_72_code (5 : Nat) (Option.some Jvm.ClassFile.FieldType.int)) ∈ lw_all := lw_g (lw_at lw_m7 4 rfl) rfl
theorem q1575 : (Jvm.Cond.methodLink "UnseenClock" (345 : Nat) ({ cls := "java/util/Arrays", name := "fill", desc := "([II)V" } : Jvm.MethodName)) ∈ lw_all := lw_g (lw_at lw_m7 5 rfl) rfl
theorem q1577 : (Jvm.Cond.instanceMethod ({ cls := "UnseenClock", name := "pace", desc := "(III)I" } : Jvm.MethodName)) ∈ lw_all := lw_g (lw_at lw_m7 7 rfl) rfl
theorem q1578 : (Jvm.Cond.selects "UnseenClock" ({ cls := "UnseenClock", name := "pace", desc := "(III)I" } : Jvm.MethodName) ({ cls := "UnseenClock", name := "pace", desc := "(III)I" } : Jvm.MethodName)) ∈ lw_all := lw_g (lw_at lw_m7 8 rfl) rfl
theorem q1579 : (Jvm.Cond.code ({ cls := "UnseenClock", name := "pace", desc := "(III)I" } : Jvm.MethodName) prog_1_method_73_code (7 : Nat) (Option.some Jvm.ClassFile.FieldType.int)) ∈ lw_all := lw_g (lw_at lw_m7 9 rfl) rfl
theorem q1581 : (Jvm.Cond.instanceMethod ({ cls := "UnseenClock", name := "mends", desc := "(II)I" } : Jvm.MethodName)) ∈ lw_all := lw_g (lw_at lw_m7 11 rfl) rfl
theorem q1582 : (Jvm.Cond.selects "UnseenClock" ({ cls := "UnseenClock", name := "mends", desc := "(II)I" } : Jvm.MethodName) ({ cls := "UnseenClock", name := "mends", desc := "(II)I" } : Jvm.MethodName)) ∈ lw_all := lw_g (lw_at lw_m7 12 rfl) rfl
theorem q1583 : (Jvm.Cond.code ({ cls := "UnseenClock", name := "mends", desc := "(II)I" } : Jvm.MethodName) prog_1_method_74_code (4 : Nat) (Option.some Jvm.ClassFile.FieldType.int)) ∈ lw_all := lw_g (lw_at lw_m7 13 rfl) rfl
theorem q1584 : (Jvm.Cond.constantLong "UnseenClock" (348 : Nat) (60 : Int64)) ∈ lw_all := lw_g (lw_at lw_m7 14 rfl) rfl
theorem q1586 : (Jvm.Cond.instanceMethod ({ cls := "UnseenClock", name := "day", desc := "(III)I" } : Jvm.MethodName)) ∈ lw_all := lw_g (lw_at lw_m7 16 rfl) rfl
theorem q1587 : (Jvm.Cond.selects "UnseenClock" ({ cls := "UnseenClock", name := "day", desc := "(III)I" } : Jvm.MethodName) ({ cls := "UnseenClock", name := "day", desc := "(III)I" } : Jvm.MethodName)) ∈ lw_all := lw_g (lw_at lw_m7 17 rfl) rfl
theorem q1588 : (Jvm.Cond.code ({ cls := "UnseenClock", name := "day", desc := "(III)I" } : Jvm.MethodName) prog_1_method_77_code (4 : Nat) (Option.some Jvm.ClassFile.FieldType.int)) ∈ lw_all := lw_g (lw_at lw_m7 18 rfl) rfl
theorem q1589 : (Jvm.Cond.methodLink "UnseenClock" (360 : Nat) ({ cls := "UnseenClock", name := "isDay", desc := "(III)Z" } : Jvm.MethodName)) ∈ lw_all := lw_g (lw_at lw_m7 19 rfl) rfl
theorem q1590 : (Jvm.Cond.privateMethod ({ cls := "UnseenClock", name := "isDay", desc := "(III)Z" } : Jvm.MethodName)) ∈ lw_tbl := lw_at lw_m7 20 rfl
theorem q1591 : (Jvm.Cond.instanceMethod ({ cls := "UnseenClock", name := "isDay", desc := "(III)Z" } : Jvm.MethodName)) ∈ lw_all := lw_g (lw_at lw_m7 21 rfl) rfl
theorem q1592 : (Jvm.Cond.code ({ cls := "UnseenClock", name := "isDay", desc := "(III)Z" } : Jvm.MethodName) prog_1_method_76_code (4 : Nat) (Option.some Jvm.ClassFile.FieldType.boolean)) ∈ lw_all := lw_g (lw_at lw_m7 22 rfl) rfl
theorem q1593 : (Jvm.Cond.constantLong "UnseenClock" (358 : Nat) (2000000000 : Int64)) ∈ lw_all := lw_g (lw_at lw_m7 23 rfl) rfl
theorem q1594 : (Jvm.Cond.methodLink "UnseenClock" (362 : Nat) ({ cls := "UnseenClock", name := "drawn", desc := "(J)LUnseenClock$Course;" } : Jvm.MethodName)) ∈ lw_all := lw_g (lw_at lw_m7 24 rfl) rfl
theorem q1595 : (Jvm.Cond.privateMethod ({ cls := "UnseenClock", name := "drawn", desc := "(J)LUnseenClock$Course;" } : Jvm.MethodName)) ∈ lw_tbl := lw_at lw_m7 25 rfl
theorem q1596 : (Jvm.Cond.instanceMethod ({ cls := "UnseenClock", name := "drawn", desc := "(J)LUnseenClock$Course;" } : Jvm.MethodName)) ∈ lw_all := lw_g (lw_at lw_m7 26 rfl) rfl
theorem q1597 : (Jvm.Cond.code ({ cls := "UnseenClock", name := "drawn", desc := "(J)LUnseenClock$Course;" } : Jvm.MethodName) prog_1_method_75_code (3 : Nat) (Option.some (Jvm.ClassFile.FieldType.object "UnseenClock$Course"))) ∈ lw_all := lw_g (lw_at lw_m7 27 rfl) rfl
theorem q1599 : (Jvm.Cond.instanceMethod ({ cls := "UnseenClock", name := "days", desc := "(IIIII)I" } : Jvm.MethodName)) ∈ lw_all := lw_g (lw_at lw_m7 29 rfl) rfl
theorem q1600 : (Jvm.Cond.selects "UnseenClock" ({ cls := "UnseenClock", name := "days", desc := "(IIIII)I" } : Jvm.MethodName) ({ cls := "UnseenClock", name := "days", desc := "(IIIII)I" } : Jvm.MethodName)) ∈ lw_all := lw_g (lw_at lw_m7 30 rfl) rfl
theorem q1601 : (Jvm.Cond.code ({ cls := "UnseenClock", name := "days", desc := "(IIIII)I" } : Jvm.MethodName) prog_1_method_78_code (8 : Nat) (Option.some Jvm.ClassFile.FieldType.int)) ∈ lw_all := lw_g (lw_at lw_m7 31 rfl) rfl
theorem q1602 : (Jvm.Cond.constantLong "UnseenClock" (366 : Nat) (20 : Int64)) ∈ lw_all := lw_g (lw_at lw_m7 32 rfl) rfl
theorem q1604 : (Jvm.Cond.instanceMethod ({ cls := "UnseenClock", name := "count", desc := "(I)I" } : Jvm.MethodName)) ∈ lw_all := lw_g (lw_at lw_m7 34 rfl) rfl
theorem q1605 : (Jvm.Cond.selects "UnseenClock" ({ cls := "UnseenClock", name := "count", desc := "(I)I" } : Jvm.MethodName) ({ cls := "UnseenClock", name := "count", desc := "(I)I" } : Jvm.MethodName)) ∈ lw_all := lw_g (lw_at lw_m7 35 rfl) rfl
theorem q1606 : (Jvm.Cond.code ({ cls := "UnseenClock", name := "count", desc := "(I)I" } : Jvm.MethodName) prog_1_method_79_code (7 : Nat) (Option.some Jvm.ClassFile.FieldType.int)) ∈ lw_all := lw_g (lw_at lw_m7 36 rfl) rfl
theorem q1608 : (Jvm.Cond.instanceMethod ({ cls := "UnseenClock", name := "image", desc := "(I)I" } : Jvm.MethodName)) ∈ lw_all := lw_g (lw_at lw_m7 38 rfl) rfl
theorem q1609 : (Jvm.Cond.selects "UnseenClock" ({ cls := "UnseenClock", name := "image", desc := "(I)I" } : Jvm.MethodName) ({ cls := "UnseenClock", name := "image", desc := "(I)I" } : Jvm.MethodName)) ∈ lw_all := lw_g (lw_at lw_m7 39 rfl) rfl
theorem q1610 : (Jvm.Cond.code ({ cls := "UnseenClock", name := "image", desc := "(I)I" } : Jvm.MethodName) prog_1_method_80_code (2 : Nat) (Option.some Jvm.ClassFile.FieldType.int)) ∈ lw_all := lw_g (lw_at lw_m7 40 rfl) rfl
theorem q1612 : (Jvm.Cond.methodLinkNest "UnseenClock" (371 : Nat) ({ cls := "UnseenClock$Image", name := "<init>", desc := "()V" } : Jvm.MethodName) "UnseenClock") ∈ lw_tbl := lw_at lw_m7 42 rfl
theorem q1617 : (Jvm.Cond.fieldLinkNest "UnseenClock" (376 : Nat) "UnseenClock$Image" "paces" "[I" "UnseenClock") ∈ lw_tbl := lw_at lw_m7 47 rfl
theorem q1618 : (Jvm.Cond.fieldLinkNest "UnseenClock" (372 : Nat) "UnseenClock$Image" "square" "LUnseenClock$Square;" "UnseenClock") ∈ lw_tbl := lw_at lw_m7 48 rfl
theorem q1619 : (Jvm.Cond.fieldLinkNest "UnseenClock" (375 : Nat) "UnseenClock$Image" "away" "I" "UnseenClock") ∈ lw_tbl := lw_at lw_m7 49 rfl
theorem q1627 : (Jvm.Cond.methodLink "UnseenClock" (377 : Nat) ({ cls := "java/lang/System", name := "arraycopy", desc := "(Ljava/lang/Object;ILjava/lang/Object;II)V" } : Jvm.MethodName)) ∈ lw_all := lw_g (lw_at lw_m7 57 rfl) rfl
theorem q1629 : (Jvm.Cond.instanceMethod ({ cls := "UnseenClock", name := "back", desc := "(I)I" } : Jvm.MethodName)) ∈ lw_all := lw_g (lw_at lw_m7 59 rfl) rfl
theorem q1630 : (Jvm.Cond.selects "UnseenClock" ({ cls := "UnseenClock", name := "back", desc := "(I)I" } : Jvm.MethodName) ({ cls := "UnseenClock", name := "back", desc := "(I)I" } : Jvm.MethodName)) ∈ lw_all := lw_g (lw_at lw_m7 60 rfl) rfl
theorem q1631 : (Jvm.Cond.code ({ cls := "UnseenClock", name := "back", desc := "(I)I" } : Jvm.MethodName) prog_1_method_81_code (2 : Nat) (Option.some Jvm.ClassFile.FieldType.int)) ∈ lw_all := lw_g (lw_at lw_m7 61 rfl) rfl
theorem q2312 : (Jvm.Cond.castable "UnseenClock" "java/lang/Object") ∈ lw_tbl := lw_at lw_m10 22 rfl
theorem in_X0 : ∀ w ∈ wsX00, w ∈ lw_all := lw_in wsX00 [569, 571, 573, 575, 577, 579, 581, 583, 585, 587, 589, 591, 593] (by decide +kernel) (by decide +kernel)
/-! UnseenClock$Slot -/
set_option maxRecDepth 100000
def RX1 : String := "UnseenClock$Slot"
def TX1 : u_T := fun k => match k with
  | _ => ("UnseenClock$Slot", "held", "Ljava/lang/Object;", false)
def tyX1 : Nat → FieldType := fun k => match k with
  | _ => .object "java/lang/Object"
abbrev wsX10 : List Cond := u_ws RX1 TX1 1
theorem nmX1 : ∀ a, a < 1 → ∀ b, b < 1 → a ≠ b → (TX1 a).2.1 ≠ (TX1 b).2.1 := by decide +kernel
theorem tyX1_ok : ∀ k, k < 1 → parseFieldDescriptor (TX1 k).2.2.1 = some (tyX1 k) := by decide +kernel
abbrev cX1_begins : ByteArray := prog_14_method_2_code
def yX1_begins : MethodName := ⟨RX1, "begins", "(II)Z"⟩
def dkwX1_begins_3 : List UInt8 := [181, 0, 9, 167, 0, 10, 42, 28, 188, 11, 181, 0, 9, 167, 0, 6, 78, 3, 172, 4, 172]
abbrev dktX1_begins_3 : List UInt8 := dkwX1_begins_3 ++ []
def dkwX1_begins_2 : List UInt8 := [42, 28, 188, 8, 181, 0, 9, 167, 0, 30, 42, 28, 188, 9, 181, 0, 9, 167, 0, 20, 42, 28, 188, 10]
abbrev dktX1_begins_2 : List UInt8 := dkwX1_begins_2 ++ dktX1_begins_3
def dkwX1_begins_1 : List UInt8 := [170, 0, 0, 0, 0, 0, 57, 0, 0, 0, 0, 0, 0, 0, 2, 0, 0, 0, 27, 0, 0, 0, 37, 0, 0, 0, 47]
abbrev dktX1_begins_1 : List UInt8 := dkwX1_begins_1 ++ dktX1_begins_2
def dkwX1_begins_0 : List UInt8 := [27]
abbrev dktX1_begins_0 : List UInt8 := dkwX1_begins_0 ++ dktX1_begins_1
theorem dksX1_begins_0 : cX1_begins.data.toList.drop 0 = dktX1_begins_0 := by decide +kernel
theorem dksX1_begins_1 : cX1_begins.data.toList.drop 1 = dktX1_begins_1 := dk_seg dksX1_begins_0 1 rfl rfl
theorem dksX1_begins_2 : cX1_begins.data.toList.drop 28 = dktX1_begins_2 := dk_seg dksX1_begins_1 27 rfl rfl
theorem dksX1_begins_3 : cX1_begins.data.toList.drop 52 = dktX1_begins_3 := dk_seg dksX1_begins_2 24 rfl rfl
theorem dX1_begins_0 : decode cX1_begins 0 = .ok (.iload_n 1, 1) := dk_27 (dk_at dksX1_begins_0 0 rfl rfl)
theorem dX1_begins_1 : decode cX1_begins 1 = .ok (.tableswitch 57 0 2 #[27, 37, 47], 27) := by decide +kernel
theorem dX1_begins_28 : decode cX1_begins 28 = .ok (.aload_n 0, 1) := dk_42 (dk_at dksX1_begins_2 0 rfl rfl)
theorem dX1_begins_29 : decode cX1_begins 29 = .ok (.iload_n 2, 1) := dk_28 (dk_at dksX1_begins_2 1 rfl rfl)
theorem dX1_begins_30 : decode cX1_begins 30 = .ok (.newarray .byte, 2) := dk_188_8 (dk_at dksX1_begins_2 2 rfl rfl)
theorem dX1_begins_32 : decode cX1_begins 32 = .ok (.putfield 9, 3) := dk_181 0 9 (dk_at dksX1_begins_2 4 rfl rfl)
theorem dX1_begins_35 : decode cX1_begins 35 = .ok (.goto 30, 3) := dk_167 0 30 (dk_at dksX1_begins_2 7 rfl rfl)
theorem dX1_begins_38 : decode cX1_begins 38 = .ok (.aload_n 0, 1) := dk_42 (dk_at dksX1_begins_2 10 rfl rfl)
theorem dX1_begins_39 : decode cX1_begins 39 = .ok (.iload_n 2, 1) := dk_28 (dk_at dksX1_begins_2 11 rfl rfl)
theorem dX1_begins_40 : decode cX1_begins 40 = .ok (.newarray .short, 2) := dk_188_9 (dk_at dksX1_begins_2 12 rfl rfl)
theorem dX1_begins_42 : decode cX1_begins 42 = .ok (.putfield 9, 3) := dk_181 0 9 (dk_at dksX1_begins_2 14 rfl rfl)
theorem dX1_begins_45 : decode cX1_begins 45 = .ok (.goto 20, 3) := dk_167 0 20 (dk_at dksX1_begins_2 17 rfl rfl)
theorem dX1_begins_48 : decode cX1_begins 48 = .ok (.aload_n 0, 1) := dk_42 (dk_at dksX1_begins_2 20 rfl rfl)
theorem dX1_begins_49 : decode cX1_begins 49 = .ok (.iload_n 2, 1) := dk_28 (dk_at dksX1_begins_2 21 rfl rfl)
theorem dX1_begins_50 : decode cX1_begins 50 = .ok (.newarray .int, 2) := dk_188_10 (dk_at dksX1_begins_2 22 rfl rfl)
theorem dX1_begins_52 : decode cX1_begins 52 = .ok (.putfield 9, 3) := dk_181 0 9 (dk_at dksX1_begins_3 0 rfl rfl)
theorem dX1_begins_55 : decode cX1_begins 55 = .ok (.goto 10, 3) := dk_167 0 10 (dk_at dksX1_begins_3 3 rfl rfl)
theorem dX1_begins_58 : decode cX1_begins 58 = .ok (.aload_n 0, 1) := dk_42 (dk_at dksX1_begins_3 6 rfl rfl)
theorem dX1_begins_59 : decode cX1_begins 59 = .ok (.iload_n 2, 1) := dk_28 (dk_at dksX1_begins_3 7 rfl rfl)
theorem dX1_begins_60 : decode cX1_begins 60 = .ok (.newarray .long, 2) := dk_188_11 (dk_at dksX1_begins_3 8 rfl rfl)
theorem dX1_begins_62 : decode cX1_begins 62 = .ok (.putfield 9, 3) := dk_181 0 9 (dk_at dksX1_begins_3 10 rfl rfl)
theorem dX1_begins_65 : decode cX1_begins 65 = .ok (.goto 6, 3) := dk_167 0 6 (dk_at dksX1_begins_3 13 rfl rfl)
theorem dX1_begins_68 : decode cX1_begins 68 = .ok (.astore_n 3, 1) := dk_78 (dk_at dksX1_begins_3 16 rfl rfl)
theorem dX1_begins_69 : decode cX1_begins 69 = .ok (.iconst 0, 1) := dk_3 (dk_at dksX1_begins_3 17 rfl rfl)
theorem dX1_begins_70 : decode cX1_begins 70 = .ok (.ireturn, 1) := dk_172 (dk_at dksX1_begins_3 18 rfl rfl)
theorem dX1_begins_71 : decode cX1_begins 71 = .ok (.iconst 1, 1) := dk_4 (dk_at dksX1_begins_3 19 rfl rfl)
theorem dX1_begins_72 : decode cX1_begins 72 = .ok (.ireturn, 1) := dk_172 (dk_at dksX1_begins_3 20 rfl rfl)
abbrev cX1_puts : ByteArray := prog_14_method_5_code
def yX1_puts : MethodName := ⟨RX1, "puts", "(IJ)I"⟩
def dkwX1_puts_0 : List UInt8 := [42, 27, 32, 182, 0, 25, 167, 0, 13, 58, 4, 16, 250, 172, 58, 4, 16, 249, 172, 3, 172]
abbrev dktX1_puts_0 : List UInt8 := dkwX1_puts_0 ++ []
theorem dksX1_puts_0 : cX1_puts.data.toList.drop 0 = dktX1_puts_0 := by decide +kernel
theorem dX1_puts_0 : decode cX1_puts 0 = .ok (.aload_n 0, 1) := dk_42 (dk_at dksX1_puts_0 0 rfl rfl)
theorem dX1_puts_1 : decode cX1_puts 1 = .ok (.iload_n 1, 1) := dk_27 (dk_at dksX1_puts_0 1 rfl rfl)
theorem dX1_puts_2 : decode cX1_puts 2 = .ok (.lload_n 2, 1) := dk_32 (dk_at dksX1_puts_0 2 rfl rfl)
theorem dX1_puts_3 : decode cX1_puts 3 = .ok (.invokevirtual 25, 3) := dk_182 0 25 (dk_at dksX1_puts_0 3 rfl rfl)
theorem dX1_puts_6 : decode cX1_puts 6 = .ok (.goto 13, 3) := dk_167 0 13 (dk_at dksX1_puts_0 6 rfl rfl)
theorem dX1_puts_9 : decode cX1_puts 9 = .ok (.astore 4, 2) := dk_58 4 (dk_at dksX1_puts_0 9 rfl rfl)
theorem dX1_puts_11 : decode cX1_puts 11 = .ok (.bipush (-6), 2) := dk_16 250 (dk_at dksX1_puts_0 11 rfl rfl)
theorem dX1_puts_13 : decode cX1_puts 13 = .ok (.ireturn, 1) := dk_172 (dk_at dksX1_puts_0 13 rfl rfl)
theorem dX1_puts_14 : decode cX1_puts 14 = .ok (.astore 4, 2) := dk_58 4 (dk_at dksX1_puts_0 14 rfl rfl)
theorem dX1_puts_16 : decode cX1_puts 16 = .ok (.bipush (-7), 2) := dk_16 249 (dk_at dksX1_puts_0 16 rfl rfl)
theorem dX1_puts_18 : decode cX1_puts 18 = .ok (.ireturn, 1) := dk_172 (dk_at dksX1_puts_0 18 rfl rfl)
theorem dX1_puts_19 : decode cX1_puts 19 = .ok (.iconst 0, 1) := dk_3 (dk_at dksX1_puts_0 19 rfl rfl)
theorem dX1_puts_20 : decode cX1_puts 20 = .ok (.ireturn, 1) := dk_172 (dk_at dksX1_puts_0 20 rfl rfl)
abbrev cX1_put : ByteArray := prog_14_method_6_code
def yX1_put : MethodName := ⟨RX1, "put", "(IJ)V"⟩
def dkwX1_put_2 : List UInt8 := [25, 4, 27, 32, 136, 147, 86, 167, 0, 9, 42, 27, 32, 182, 0, 33, 177]
abbrev dktX1_put_2 : List UInt8 := dkwX1_put_2 ++ []
def dkwX1_put_1 : List UInt8 := [145, 84, 167, 0, 38, 42, 180, 0, 9, 193, 0, 19, 153, 0, 22, 42, 180, 0, 9, 192, 0, 19, 58, 4]
abbrev dktX1_put_1 : List UInt8 := dkwX1_put_1 ++ dktX1_put_2
def dkwX1_put_0 : List UInt8 := [42, 180, 0, 9, 193, 0, 17, 153, 0, 22, 42, 180, 0, 9, 192, 0, 17, 58, 4, 25, 4, 27, 32, 136]
abbrev dktX1_put_0 : List UInt8 := dkwX1_put_0 ++ dktX1_put_1
theorem dksX1_put_0 : cX1_put.data.toList.drop 0 = dktX1_put_0 := by decide +kernel
theorem dksX1_put_1 : cX1_put.data.toList.drop 24 = dktX1_put_1 := dk_seg dksX1_put_0 24 rfl rfl
theorem dksX1_put_2 : cX1_put.data.toList.drop 48 = dktX1_put_2 := dk_seg dksX1_put_1 24 rfl rfl
theorem dX1_put_0 : decode cX1_put 0 = .ok (.aload_n 0, 1) := dk_42 (dk_at dksX1_put_0 0 rfl rfl)
theorem dX1_put_1 : decode cX1_put 1 = .ok (.getfield 9, 3) := dk_180 0 9 (dk_at dksX1_put_0 1 rfl rfl)
theorem dX1_put_4 : decode cX1_put 4 = .ok (.instanceof 17, 3) := dk_193 0 17 (dk_at dksX1_put_0 4 rfl rfl)
theorem dX1_put_7 : decode cX1_put 7 = .ok (.ifCond .eq 22, 3) := dk_153 0 22 (dk_at dksX1_put_0 7 rfl rfl)
theorem dX1_put_10 : decode cX1_put 10 = .ok (.aload_n 0, 1) := dk_42 (dk_at dksX1_put_0 10 rfl rfl)
theorem dX1_put_11 : decode cX1_put 11 = .ok (.getfield 9, 3) := dk_180 0 9 (dk_at dksX1_put_0 11 rfl rfl)
theorem dX1_put_14 : decode cX1_put 14 = .ok (.checkcast 17, 3) := dk_192 0 17 (dk_at dksX1_put_0 14 rfl rfl)
theorem dX1_put_17 : decode cX1_put 17 = .ok (.astore 4, 2) := dk_58 4 (dk_at dksX1_put_0 17 rfl rfl)
theorem dX1_put_19 : decode cX1_put 19 = .ok (.aload 4, 2) := dk_25 4 (dk_at dksX1_put_0 19 rfl rfl)
theorem dX1_put_21 : decode cX1_put 21 = .ok (.iload_n 1, 1) := dk_27 (dk_at dksX1_put_0 21 rfl rfl)
theorem dX1_put_22 : decode cX1_put 22 = .ok (.lload_n 2, 1) := dk_32 (dk_at dksX1_put_0 22 rfl rfl)
theorem dX1_put_23 : decode cX1_put 23 = .ok (.l2i, 1) := dk_136 (dk_at dksX1_put_0 23 rfl rfl)
theorem dX1_put_24 : decode cX1_put 24 = .ok (.i2b, 1) := dk_145 (dk_at dksX1_put_1 0 rfl rfl)
theorem dX1_put_25 : decode cX1_put 25 = .ok (.bastore, 1) := dk_84 (dk_at dksX1_put_1 1 rfl rfl)
theorem dX1_put_26 : decode cX1_put 26 = .ok (.goto 38, 3) := dk_167 0 38 (dk_at dksX1_put_1 2 rfl rfl)
theorem dX1_put_29 : decode cX1_put 29 = .ok (.aload_n 0, 1) := dk_42 (dk_at dksX1_put_1 5 rfl rfl)
theorem dX1_put_30 : decode cX1_put 30 = .ok (.getfield 9, 3) := dk_180 0 9 (dk_at dksX1_put_1 6 rfl rfl)
theorem dX1_put_33 : decode cX1_put 33 = .ok (.instanceof 19, 3) := dk_193 0 19 (dk_at dksX1_put_1 9 rfl rfl)
theorem dX1_put_36 : decode cX1_put 36 = .ok (.ifCond .eq 22, 3) := dk_153 0 22 (dk_at dksX1_put_1 12 rfl rfl)
theorem dX1_put_39 : decode cX1_put 39 = .ok (.aload_n 0, 1) := dk_42 (dk_at dksX1_put_1 15 rfl rfl)
theorem dX1_put_40 : decode cX1_put 40 = .ok (.getfield 9, 3) := dk_180 0 9 (dk_at dksX1_put_1 16 rfl rfl)
theorem dX1_put_43 : decode cX1_put 43 = .ok (.checkcast 19, 3) := dk_192 0 19 (dk_at dksX1_put_1 19 rfl rfl)
theorem dX1_put_46 : decode cX1_put 46 = .ok (.astore 4, 2) := dk_58 4 (dk_at dksX1_put_1 22 rfl rfl)
theorem dX1_put_48 : decode cX1_put 48 = .ok (.aload 4, 2) := dk_25 4 (dk_at dksX1_put_2 0 rfl rfl)
theorem dX1_put_50 : decode cX1_put 50 = .ok (.iload_n 1, 1) := dk_27 (dk_at dksX1_put_2 2 rfl rfl)
theorem dX1_put_51 : decode cX1_put 51 = .ok (.lload_n 2, 1) := dk_32 (dk_at dksX1_put_2 3 rfl rfl)
theorem dX1_put_52 : decode cX1_put 52 = .ok (.l2i, 1) := dk_136 (dk_at dksX1_put_2 4 rfl rfl)
theorem dX1_put_53 : decode cX1_put 53 = .ok (.i2s, 1) := dk_147 (dk_at dksX1_put_2 5 rfl rfl)
theorem dX1_put_54 : decode cX1_put 54 = .ok (.sastore, 1) := dk_86 (dk_at dksX1_put_2 6 rfl rfl)
theorem dX1_put_55 : decode cX1_put 55 = .ok (.goto 9, 3) := dk_167 0 9 (dk_at dksX1_put_2 7 rfl rfl)
theorem dX1_put_58 : decode cX1_put 58 = .ok (.aload_n 0, 1) := dk_42 (dk_at dksX1_put_2 10 rfl rfl)
theorem dX1_put_59 : decode cX1_put 59 = .ok (.iload_n 1, 1) := dk_27 (dk_at dksX1_put_2 11 rfl rfl)
theorem dX1_put_60 : decode cX1_put 60 = .ok (.lload_n 2, 1) := dk_32 (dk_at dksX1_put_2 12 rfl rfl)
theorem dX1_put_61 : decode cX1_put 61 = .ok (.invokevirtual 33, 3) := dk_182 0 33 (dk_at dksX1_put_2 13 rfl rfl)
theorem dX1_put_64 : decode cX1_put 64 = .ok (.return_, 1) := dk_177 (dk_at dksX1_put_2 16 rfl rfl)
abbrev cX1_putWider : ByteArray := prog_14_method_7_code
def yX1_putWider : MethodName := ⟨RX1, "putWider", "(IJ)V"⟩
def dkwX1_putWider_1 : List UInt8 := [192, 0, 23, 58, 5, 25, 5, 27, 32, 80, 177]
abbrev dktX1_putWider_1 : List UInt8 := dkwX1_putWider_1 ++ []
def dkwX1_putWider_0 : List UInt8 := [42, 180, 0, 9, 192, 0, 21, 58, 4, 25, 4, 27, 32, 136, 79, 167, 0, 19, 58, 4, 42, 180, 0, 9]
abbrev dktX1_putWider_0 : List UInt8 := dkwX1_putWider_0 ++ dktX1_putWider_1
theorem dksX1_putWider_0 : cX1_putWider.data.toList.drop 0 = dktX1_putWider_0 := by decide +kernel
theorem dksX1_putWider_1 : cX1_putWider.data.toList.drop 24 = dktX1_putWider_1 := dk_seg dksX1_putWider_0 24 rfl rfl
theorem dX1_putWider_0 : decode cX1_putWider 0 = .ok (.aload_n 0, 1) := dk_42 (dk_at dksX1_putWider_0 0 rfl rfl)
theorem dX1_putWider_1 : decode cX1_putWider 1 = .ok (.getfield 9, 3) := dk_180 0 9 (dk_at dksX1_putWider_0 1 rfl rfl)
theorem dX1_putWider_4 : decode cX1_putWider 4 = .ok (.checkcast 21, 3) := dk_192 0 21 (dk_at dksX1_putWider_0 4 rfl rfl)
theorem dX1_putWider_7 : decode cX1_putWider 7 = .ok (.astore 4, 2) := dk_58 4 (dk_at dksX1_putWider_0 7 rfl rfl)
theorem dX1_putWider_9 : decode cX1_putWider 9 = .ok (.aload 4, 2) := dk_25 4 (dk_at dksX1_putWider_0 9 rfl rfl)
theorem dX1_putWider_11 : decode cX1_putWider 11 = .ok (.iload_n 1, 1) := dk_27 (dk_at dksX1_putWider_0 11 rfl rfl)
theorem dX1_putWider_12 : decode cX1_putWider 12 = .ok (.lload_n 2, 1) := dk_32 (dk_at dksX1_putWider_0 12 rfl rfl)
theorem dX1_putWider_13 : decode cX1_putWider 13 = .ok (.l2i, 1) := dk_136 (dk_at dksX1_putWider_0 13 rfl rfl)
theorem dX1_putWider_14 : decode cX1_putWider 14 = .ok (.iastore, 1) := dk_79 (dk_at dksX1_putWider_0 14 rfl rfl)
theorem dX1_putWider_15 : decode cX1_putWider 15 = .ok (.goto 19, 3) := dk_167 0 19 (dk_at dksX1_putWider_0 15 rfl rfl)
theorem dX1_putWider_18 : decode cX1_putWider 18 = .ok (.astore 4, 2) := dk_58 4 (dk_at dksX1_putWider_0 18 rfl rfl)
theorem dX1_putWider_20 : decode cX1_putWider 20 = .ok (.aload_n 0, 1) := dk_42 (dk_at dksX1_putWider_0 20 rfl rfl)
theorem dX1_putWider_21 : decode cX1_putWider 21 = .ok (.getfield 9, 3) := dk_180 0 9 (dk_at dksX1_putWider_0 21 rfl rfl)
theorem dX1_putWider_24 : decode cX1_putWider 24 = .ok (.checkcast 23, 3) := dk_192 0 23 (dk_at dksX1_putWider_1 0 rfl rfl)
theorem dX1_putWider_27 : decode cX1_putWider 27 = .ok (.astore 5, 2) := dk_58 5 (dk_at dksX1_putWider_1 3 rfl rfl)
theorem dX1_putWider_29 : decode cX1_putWider 29 = .ok (.aload 5, 2) := dk_25 5 (dk_at dksX1_putWider_1 5 rfl rfl)
theorem dX1_putWider_31 : decode cX1_putWider 31 = .ok (.iload_n 1, 1) := dk_27 (dk_at dksX1_putWider_1 7 rfl rfl)
theorem dX1_putWider_32 : decode cX1_putWider 32 = .ok (.lload_n 2, 1) := dk_32 (dk_at dksX1_putWider_1 8 rfl rfl)
theorem dX1_putWider_33 : decode cX1_putWider 33 = .ok (.lastore, 1) := dk_80 (dk_at dksX1_putWider_1 9 rfl rfl)
theorem dX1_putWider_34 : decode cX1_putWider 34 = .ok (.return_, 1) := dk_177 (dk_at dksX1_putWider_1 10 rfl rfl)
abbrev cX1_pastes : ByteArray := prog_14_method_9_code
def yX1_pastes : MethodName := ⟨RX1, "pastes", "(ILUnseenClock$Slot;II)I"⟩
def dkwX1_pastes_2 : List UInt8 := [167, 0, 8, 58, 5, 16, 249, 172, 3, 172]
abbrev dktX1_pastes_2 : List UInt8 := dkwX1_pastes_2 ++ []
def dkwX1_pastes_1 : List UInt8 := [182, 0, 38, 159, 0, 6, 16, 248, 172, 42, 180, 0, 9, 27, 44, 180, 0, 9, 29, 21, 4, 184, 0, 42]
abbrev dktX1_pastes_1 : List UInt8 := dkwX1_pastes_1 ++ dktX1_pastes_2
def dkwX1_pastes_0 : List UInt8 := [42, 180, 0, 9, 198, 0, 10, 44, 180, 0, 9, 199, 0, 6, 16, 250, 172, 42, 182, 0, 38, 44]
abbrev dktX1_pastes_0 : List UInt8 := dkwX1_pastes_0 ++ dktX1_pastes_1
theorem dksX1_pastes_0 : cX1_pastes.data.toList.drop 0 = dktX1_pastes_0 := by decide +kernel
theorem dksX1_pastes_1 : cX1_pastes.data.toList.drop 22 = dktX1_pastes_1 := dk_seg dksX1_pastes_0 22 rfl rfl
theorem dksX1_pastes_2 : cX1_pastes.data.toList.drop 46 = dktX1_pastes_2 := dk_seg dksX1_pastes_1 24 rfl rfl
theorem dX1_pastes_0 : decode cX1_pastes 0 = .ok (.aload_n 0, 1) := dk_42 (dk_at dksX1_pastes_0 0 rfl rfl)
theorem dX1_pastes_1 : decode cX1_pastes 1 = .ok (.getfield 9, 3) := dk_180 0 9 (dk_at dksX1_pastes_0 1 rfl rfl)
theorem dX1_pastes_4 : decode cX1_pastes 4 = .ok (.ifnull 10, 3) := dk_198 0 10 (dk_at dksX1_pastes_0 4 rfl rfl)
theorem dX1_pastes_7 : decode cX1_pastes 7 = .ok (.aload_n 2, 1) := dk_44 (dk_at dksX1_pastes_0 7 rfl rfl)
theorem dX1_pastes_8 : decode cX1_pastes 8 = .ok (.getfield 9, 3) := dk_180 0 9 (dk_at dksX1_pastes_0 8 rfl rfl)
theorem dX1_pastes_11 : decode cX1_pastes 11 = .ok (.ifnonnull 6, 3) := dk_199 0 6 (dk_at dksX1_pastes_0 11 rfl rfl)
theorem dX1_pastes_14 : decode cX1_pastes 14 = .ok (.bipush (-6), 2) := dk_16 250 (dk_at dksX1_pastes_0 14 rfl rfl)
theorem dX1_pastes_16 : decode cX1_pastes 16 = .ok (.ireturn, 1) := dk_172 (dk_at dksX1_pastes_0 16 rfl rfl)
theorem dX1_pastes_17 : decode cX1_pastes 17 = .ok (.aload_n 0, 1) := dk_42 (dk_at dksX1_pastes_0 17 rfl rfl)
theorem dX1_pastes_18 : decode cX1_pastes 18 = .ok (.invokevirtual 38, 3) := dk_182 0 38 (dk_at dksX1_pastes_0 18 rfl rfl)
theorem dX1_pastes_21 : decode cX1_pastes 21 = .ok (.aload_n 2, 1) := dk_44 (dk_at dksX1_pastes_0 21 rfl rfl)
theorem dX1_pastes_22 : decode cX1_pastes 22 = .ok (.invokevirtual 38, 3) := dk_182 0 38 (dk_at dksX1_pastes_1 0 rfl rfl)
theorem dX1_pastes_25 : decode cX1_pastes 25 = .ok (.if_icmp .eq 6, 3) := dk_159 0 6 (dk_at dksX1_pastes_1 3 rfl rfl)
theorem dX1_pastes_28 : decode cX1_pastes 28 = .ok (.bipush (-8), 2) := dk_16 248 (dk_at dksX1_pastes_1 6 rfl rfl)
theorem dX1_pastes_30 : decode cX1_pastes 30 = .ok (.ireturn, 1) := dk_172 (dk_at dksX1_pastes_1 8 rfl rfl)
theorem dX1_pastes_31 : decode cX1_pastes 31 = .ok (.aload_n 0, 1) := dk_42 (dk_at dksX1_pastes_1 9 rfl rfl)
theorem dX1_pastes_32 : decode cX1_pastes 32 = .ok (.getfield 9, 3) := dk_180 0 9 (dk_at dksX1_pastes_1 10 rfl rfl)
theorem dX1_pastes_35 : decode cX1_pastes 35 = .ok (.iload_n 1, 1) := dk_27 (dk_at dksX1_pastes_1 13 rfl rfl)
theorem dX1_pastes_36 : decode cX1_pastes 36 = .ok (.aload_n 2, 1) := dk_44 (dk_at dksX1_pastes_1 14 rfl rfl)
theorem dX1_pastes_37 : decode cX1_pastes 37 = .ok (.getfield 9, 3) := dk_180 0 9 (dk_at dksX1_pastes_1 15 rfl rfl)
theorem dX1_pastes_40 : decode cX1_pastes 40 = .ok (.iload_n 3, 1) := dk_29 (dk_at dksX1_pastes_1 18 rfl rfl)
theorem dX1_pastes_41 : decode cX1_pastes 41 = .ok (.iload 4, 2) := dk_21 4 (dk_at dksX1_pastes_1 19 rfl rfl)
theorem dX1_pastes_43 : decode cX1_pastes 43 = .ok (.invokestatic 42, 3) := dk_184 0 42 (dk_at dksX1_pastes_1 21 rfl rfl)
theorem dX1_pastes_46 : decode cX1_pastes 46 = .ok (.goto 8, 3) := dk_167 0 8 (dk_at dksX1_pastes_2 0 rfl rfl)
theorem dX1_pastes_49 : decode cX1_pastes 49 = .ok (.astore 5, 2) := dk_58 5 (dk_at dksX1_pastes_2 3 rfl rfl)
theorem dX1_pastes_51 : decode cX1_pastes 51 = .ok (.bipush (-7), 2) := dk_16 249 (dk_at dksX1_pastes_2 5 rfl rfl)
theorem dX1_pastes_53 : decode cX1_pastes 53 = .ok (.ireturn, 1) := dk_172 (dk_at dksX1_pastes_2 7 rfl rfl)
theorem dX1_pastes_54 : decode cX1_pastes 54 = .ok (.iconst 0, 1) := dk_3 (dk_at dksX1_pastes_2 8 rfl rfl)
theorem dX1_pastes_55 : decode cX1_pastes 55 = .ok (.ireturn, 1) := dk_172 (dk_at dksX1_pastes_2 9 rfl rfl)
abbrev cX1_width : ByteArray := prog_14_method_8_code
def yX1_width : MethodName := ⟨RX1, "width", "()I"⟩
def dkwX1_width_1 : List UInt8 := [4, 167, 0, 18, 42, 180, 0, 9, 193, 0, 21, 153, 0, 7, 5, 167, 0, 4, 6, 172]
abbrev dktX1_width_1 : List UInt8 := dkwX1_width_1 ++ []
def dkwX1_width_0 : List UInt8 := [42, 180, 0, 9, 193, 0, 17, 153, 0, 7, 3, 167, 0, 32, 42, 180, 0, 9, 193, 0, 19, 153, 0, 7]
abbrev dktX1_width_0 : List UInt8 := dkwX1_width_0 ++ dktX1_width_1
theorem dksX1_width_0 : cX1_width.data.toList.drop 0 = dktX1_width_0 := by decide +kernel
theorem dksX1_width_1 : cX1_width.data.toList.drop 24 = dktX1_width_1 := dk_seg dksX1_width_0 24 rfl rfl
theorem dX1_width_0 : decode cX1_width 0 = .ok (.aload_n 0, 1) := dk_42 (dk_at dksX1_width_0 0 rfl rfl)
theorem dX1_width_1 : decode cX1_width 1 = .ok (.getfield 9, 3) := dk_180 0 9 (dk_at dksX1_width_0 1 rfl rfl)
theorem dX1_width_4 : decode cX1_width 4 = .ok (.instanceof 17, 3) := dk_193 0 17 (dk_at dksX1_width_0 4 rfl rfl)
theorem dX1_width_7 : decode cX1_width 7 = .ok (.ifCond .eq 7, 3) := dk_153 0 7 (dk_at dksX1_width_0 7 rfl rfl)
theorem dX1_width_10 : decode cX1_width 10 = .ok (.iconst 0, 1) := dk_3 (dk_at dksX1_width_0 10 rfl rfl)
theorem dX1_width_11 : decode cX1_width 11 = .ok (.goto 32, 3) := dk_167 0 32 (dk_at dksX1_width_0 11 rfl rfl)
theorem dX1_width_14 : decode cX1_width 14 = .ok (.aload_n 0, 1) := dk_42 (dk_at dksX1_width_0 14 rfl rfl)
theorem dX1_width_15 : decode cX1_width 15 = .ok (.getfield 9, 3) := dk_180 0 9 (dk_at dksX1_width_0 15 rfl rfl)
theorem dX1_width_18 : decode cX1_width 18 = .ok (.instanceof 19, 3) := dk_193 0 19 (dk_at dksX1_width_0 18 rfl rfl)
theorem dX1_width_21 : decode cX1_width 21 = .ok (.ifCond .eq 7, 3) := dk_153 0 7 (dk_at dksX1_width_0 21 rfl rfl)
theorem dX1_width_24 : decode cX1_width 24 = .ok (.iconst 1, 1) := dk_4 (dk_at dksX1_width_1 0 rfl rfl)
theorem dX1_width_25 : decode cX1_width 25 = .ok (.goto 18, 3) := dk_167 0 18 (dk_at dksX1_width_1 1 rfl rfl)
theorem dX1_width_28 : decode cX1_width 28 = .ok (.aload_n 0, 1) := dk_42 (dk_at dksX1_width_1 4 rfl rfl)
theorem dX1_width_29 : decode cX1_width 29 = .ok (.getfield 9, 3) := dk_180 0 9 (dk_at dksX1_width_1 5 rfl rfl)
theorem dX1_width_32 : decode cX1_width 32 = .ok (.instanceof 21, 3) := dk_193 0 21 (dk_at dksX1_width_1 8 rfl rfl)
theorem dX1_width_35 : decode cX1_width 35 = .ok (.ifCond .eq 7, 3) := dk_153 0 7 (dk_at dksX1_width_1 11 rfl rfl)
theorem dX1_width_38 : decode cX1_width 38 = .ok (.iconst 2, 1) := dk_5 (dk_at dksX1_width_1 14 rfl rfl)
theorem dX1_width_39 : decode cX1_width 39 = .ok (.goto 4, 3) := dk_167 0 4 (dk_at dksX1_width_1 15 rfl rfl)
theorem dX1_width_42 : decode cX1_width 42 = .ok (.iconst 3, 1) := dk_6 (dk_at dksX1_width_1 18 rfl rfl)
theorem dX1_width_43 : decode cX1_width 43 = .ok (.ireturn, 1) := dk_172 (dk_at dksX1_width_1 19 rfl rfl)
abbrev cX1_init : ByteArray := prog_14_method_1_code
def yX1_init : MethodName := ⟨RX1, "<init>", "()V"⟩
theorem dX1_init_0 : decode cX1_init 0 = .ok (.aload_n 0, 1) := by decide +kernel
theorem dX1_init_1 : decode cX1_init 1 = .ok (.invokespecial 3, 3) := by decide +kernel
theorem dX1_init_4 : decode cX1_init 4 = .ok (.return_, 1) := by decide +kernel
abbrev cX1_many : ByteArray := prog_14_method_3_code
def yX1_many : MethodName := ⟨RX1, "many", "()I"⟩
def dkwX1_many_2 : List UInt8 := [153, 0, 14, 42, 180, 0, 9, 192, 0, 21, 190, 167, 0, 11, 42, 180, 0, 9, 192, 0, 23, 190, 172]
abbrev dktX1_many_2 : List UInt8 := dkwX1_many_2 ++ []
def dkwX1_many_1 : List UInt8 := [193, 0, 19, 153, 0, 12, 42, 180, 0, 9, 192, 0, 19, 190, 172, 42, 180, 0, 9, 193, 0, 21]
abbrev dktX1_many_1 : List UInt8 := dkwX1_many_1 ++ dktX1_many_2
def dkwX1_many_0 : List UInt8 := [42, 180, 0, 9, 193, 0, 17, 153, 0, 12, 42, 180, 0, 9, 192, 0, 17, 190, 172, 42, 180, 0, 9]
abbrev dktX1_many_0 : List UInt8 := dkwX1_many_0 ++ dktX1_many_1
theorem dksX1_many_0 : cX1_many.data.toList.drop 0 = dktX1_many_0 := by decide +kernel
theorem dksX1_many_1 : cX1_many.data.toList.drop 23 = dktX1_many_1 := dk_seg dksX1_many_0 23 rfl rfl
theorem dksX1_many_2 : cX1_many.data.toList.drop 45 = dktX1_many_2 := dk_seg dksX1_many_1 22 rfl rfl
theorem dX1_many_0 : decode cX1_many 0 = .ok (.aload_n 0, 1) := dk_42 (dk_at dksX1_many_0 0 rfl rfl)
theorem dX1_many_1 : decode cX1_many 1 = .ok (.getfield 9, 3) := dk_180 0 9 (dk_at dksX1_many_0 1 rfl rfl)
theorem dX1_many_4 : decode cX1_many 4 = .ok (.instanceof 17, 3) := dk_193 0 17 (dk_at dksX1_many_0 4 rfl rfl)
theorem dX1_many_7 : decode cX1_many 7 = .ok (.ifCond .eq 12, 3) := dk_153 0 12 (dk_at dksX1_many_0 7 rfl rfl)
theorem dX1_many_10 : decode cX1_many 10 = .ok (.aload_n 0, 1) := dk_42 (dk_at dksX1_many_0 10 rfl rfl)
theorem dX1_many_11 : decode cX1_many 11 = .ok (.getfield 9, 3) := dk_180 0 9 (dk_at dksX1_many_0 11 rfl rfl)
theorem dX1_many_14 : decode cX1_many 14 = .ok (.checkcast 17, 3) := dk_192 0 17 (dk_at dksX1_many_0 14 rfl rfl)
theorem dX1_many_17 : decode cX1_many 17 = .ok (.arraylength, 1) := dk_190 (dk_at dksX1_many_0 17 rfl rfl)
theorem dX1_many_18 : decode cX1_many 18 = .ok (.ireturn, 1) := dk_172 (dk_at dksX1_many_0 18 rfl rfl)
theorem dX1_many_19 : decode cX1_many 19 = .ok (.aload_n 0, 1) := dk_42 (dk_at dksX1_many_0 19 rfl rfl)
theorem dX1_many_20 : decode cX1_many 20 = .ok (.getfield 9, 3) := dk_180 0 9 (dk_at dksX1_many_0 20 rfl rfl)
theorem dX1_many_23 : decode cX1_many 23 = .ok (.instanceof 19, 3) := dk_193 0 19 (dk_at dksX1_many_1 0 rfl rfl)
theorem dX1_many_26 : decode cX1_many 26 = .ok (.ifCond .eq 12, 3) := dk_153 0 12 (dk_at dksX1_many_1 3 rfl rfl)
theorem dX1_many_29 : decode cX1_many 29 = .ok (.aload_n 0, 1) := dk_42 (dk_at dksX1_many_1 6 rfl rfl)
theorem dX1_many_30 : decode cX1_many 30 = .ok (.getfield 9, 3) := dk_180 0 9 (dk_at dksX1_many_1 7 rfl rfl)
theorem dX1_many_33 : decode cX1_many 33 = .ok (.checkcast 19, 3) := dk_192 0 19 (dk_at dksX1_many_1 10 rfl rfl)
theorem dX1_many_36 : decode cX1_many 36 = .ok (.arraylength, 1) := dk_190 (dk_at dksX1_many_1 13 rfl rfl)
theorem dX1_many_37 : decode cX1_many 37 = .ok (.ireturn, 1) := dk_172 (dk_at dksX1_many_1 14 rfl rfl)
theorem dX1_many_38 : decode cX1_many 38 = .ok (.aload_n 0, 1) := dk_42 (dk_at dksX1_many_1 15 rfl rfl)
theorem dX1_many_39 : decode cX1_many 39 = .ok (.getfield 9, 3) := dk_180 0 9 (dk_at dksX1_many_1 16 rfl rfl)
theorem dX1_many_42 : decode cX1_many 42 = .ok (.instanceof 21, 3) := dk_193 0 21 (dk_at dksX1_many_1 19 rfl rfl)
theorem dX1_many_45 : decode cX1_many 45 = .ok (.ifCond .eq 14, 3) := dk_153 0 14 (dk_at dksX1_many_2 0 rfl rfl)
theorem dX1_many_48 : decode cX1_many 48 = .ok (.aload_n 0, 1) := dk_42 (dk_at dksX1_many_2 3 rfl rfl)
theorem dX1_many_49 : decode cX1_many 49 = .ok (.getfield 9, 3) := dk_180 0 9 (dk_at dksX1_many_2 4 rfl rfl)
theorem dX1_many_52 : decode cX1_many 52 = .ok (.checkcast 21, 3) := dk_192 0 21 (dk_at dksX1_many_2 7 rfl rfl)
theorem dX1_many_55 : decode cX1_many 55 = .ok (.arraylength, 1) := dk_190 (dk_at dksX1_many_2 10 rfl rfl)
theorem dX1_many_56 : decode cX1_many 56 = .ok (.goto 11, 3) := dk_167 0 11 (dk_at dksX1_many_2 11 rfl rfl)
theorem dX1_many_59 : decode cX1_many 59 = .ok (.aload_n 0, 1) := dk_42 (dk_at dksX1_many_2 14 rfl rfl)
theorem dX1_many_60 : decode cX1_many 60 = .ok (.getfield 9, 3) := dk_180 0 9 (dk_at dksX1_many_2 15 rfl rfl)
theorem dX1_many_63 : decode cX1_many 63 = .ok (.checkcast 23, 3) := dk_192 0 23 (dk_at dksX1_many_2 18 rfl rfl)
theorem dX1_many_66 : decode cX1_many 66 = .ok (.arraylength, 1) := dk_190 (dk_at dksX1_many_2 21 rfl rfl)
theorem dX1_many_67 : decode cX1_many 67 = .ok (.ireturn, 1) := dk_172 (dk_at dksX1_many_2 22 rfl rfl)
abbrev cX1_number : ByteArray := prog_14_method_4_code
def yX1_number : MethodName := ⟨RX1, "number", "(I)J"⟩
def dkwX1_number_3 : List UInt8 := [192, 0, 23, 27, 47, 173]
abbrev dktX1_number_3 : List UInt8 := dkwX1_number_3 ++ []
def dkwX1_number_2 : List UInt8 := [193, 0, 21, 153, 0, 16, 42, 180, 0, 9, 192, 0, 21, 27, 46, 133, 167, 0, 12, 42, 180, 0, 9]
abbrev dktX1_number_2 : List UInt8 := dkwX1_number_2 ++ dktX1_number_3
def dkwX1_number_1 : List UInt8 := [180, 0, 9, 193, 0, 19, 153, 0, 14, 42, 180, 0, 9, 192, 0, 19, 27, 53, 133, 173, 42, 180, 0, 9]
abbrev dktX1_number_1 : List UInt8 := dkwX1_number_1 ++ dktX1_number_2
def dkwX1_number_0 : List UInt8 := [42, 180, 0, 9, 193, 0, 17, 153, 0, 14, 42, 180, 0, 9, 192, 0, 17, 27, 51, 133, 173, 42]
abbrev dktX1_number_0 : List UInt8 := dkwX1_number_0 ++ dktX1_number_1
theorem dksX1_number_0 : cX1_number.data.toList.drop 0 = dktX1_number_0 := by decide +kernel
theorem dksX1_number_1 : cX1_number.data.toList.drop 22 = dktX1_number_1 := dk_seg dksX1_number_0 22 rfl rfl
theorem dksX1_number_2 : cX1_number.data.toList.drop 46 = dktX1_number_2 := dk_seg dksX1_number_1 24 rfl rfl
theorem dksX1_number_3 : cX1_number.data.toList.drop 69 = dktX1_number_3 := dk_seg dksX1_number_2 23 rfl rfl
theorem dX1_number_0 : decode cX1_number 0 = .ok (.aload_n 0, 1) := dk_42 (dk_at dksX1_number_0 0 rfl rfl)
theorem dX1_number_1 : decode cX1_number 1 = .ok (.getfield 9, 3) := dk_180 0 9 (dk_at dksX1_number_0 1 rfl rfl)
theorem dX1_number_4 : decode cX1_number 4 = .ok (.instanceof 17, 3) := dk_193 0 17 (dk_at dksX1_number_0 4 rfl rfl)
theorem dX1_number_7 : decode cX1_number 7 = .ok (.ifCond .eq 14, 3) := dk_153 0 14 (dk_at dksX1_number_0 7 rfl rfl)
theorem dX1_number_10 : decode cX1_number 10 = .ok (.aload_n 0, 1) := dk_42 (dk_at dksX1_number_0 10 rfl rfl)
theorem dX1_number_11 : decode cX1_number 11 = .ok (.getfield 9, 3) := dk_180 0 9 (dk_at dksX1_number_0 11 rfl rfl)
theorem dX1_number_14 : decode cX1_number 14 = .ok (.checkcast 17, 3) := dk_192 0 17 (dk_at dksX1_number_0 14 rfl rfl)
theorem dX1_number_17 : decode cX1_number 17 = .ok (.iload_n 1, 1) := dk_27 (dk_at dksX1_number_0 17 rfl rfl)
theorem dX1_number_18 : decode cX1_number 18 = .ok (.baload, 1) := dk_51 (dk_at dksX1_number_0 18 rfl rfl)
theorem dX1_number_19 : decode cX1_number 19 = .ok (.i2l, 1) := dk_133 (dk_at dksX1_number_0 19 rfl rfl)
theorem dX1_number_20 : decode cX1_number 20 = .ok (.lreturn, 1) := dk_173 (dk_at dksX1_number_0 20 rfl rfl)
theorem dX1_number_21 : decode cX1_number 21 = .ok (.aload_n 0, 1) := dk_42 (dk_at dksX1_number_0 21 rfl rfl)
theorem dX1_number_22 : decode cX1_number 22 = .ok (.getfield 9, 3) := dk_180 0 9 (dk_at dksX1_number_1 0 rfl rfl)
theorem dX1_number_25 : decode cX1_number 25 = .ok (.instanceof 19, 3) := dk_193 0 19 (dk_at dksX1_number_1 3 rfl rfl)
theorem dX1_number_28 : decode cX1_number 28 = .ok (.ifCond .eq 14, 3) := dk_153 0 14 (dk_at dksX1_number_1 6 rfl rfl)
theorem dX1_number_31 : decode cX1_number 31 = .ok (.aload_n 0, 1) := dk_42 (dk_at dksX1_number_1 9 rfl rfl)
theorem dX1_number_32 : decode cX1_number 32 = .ok (.getfield 9, 3) := dk_180 0 9 (dk_at dksX1_number_1 10 rfl rfl)
theorem dX1_number_35 : decode cX1_number 35 = .ok (.checkcast 19, 3) := dk_192 0 19 (dk_at dksX1_number_1 13 rfl rfl)
theorem dX1_number_38 : decode cX1_number 38 = .ok (.iload_n 1, 1) := dk_27 (dk_at dksX1_number_1 16 rfl rfl)
theorem dX1_number_39 : decode cX1_number 39 = .ok (.saload, 1) := dk_53 (dk_at dksX1_number_1 17 rfl rfl)
theorem dX1_number_40 : decode cX1_number 40 = .ok (.i2l, 1) := dk_133 (dk_at dksX1_number_1 18 rfl rfl)
theorem dX1_number_41 : decode cX1_number 41 = .ok (.lreturn, 1) := dk_173 (dk_at dksX1_number_1 19 rfl rfl)
theorem dX1_number_42 : decode cX1_number 42 = .ok (.aload_n 0, 1) := dk_42 (dk_at dksX1_number_1 20 rfl rfl)
theorem dX1_number_43 : decode cX1_number 43 = .ok (.getfield 9, 3) := dk_180 0 9 (dk_at dksX1_number_1 21 rfl rfl)
theorem dX1_number_46 : decode cX1_number 46 = .ok (.instanceof 21, 3) := dk_193 0 21 (dk_at dksX1_number_2 0 rfl rfl)
theorem dX1_number_49 : decode cX1_number 49 = .ok (.ifCond .eq 16, 3) := dk_153 0 16 (dk_at dksX1_number_2 3 rfl rfl)
theorem dX1_number_52 : decode cX1_number 52 = .ok (.aload_n 0, 1) := dk_42 (dk_at dksX1_number_2 6 rfl rfl)
theorem dX1_number_53 : decode cX1_number 53 = .ok (.getfield 9, 3) := dk_180 0 9 (dk_at dksX1_number_2 7 rfl rfl)
theorem dX1_number_56 : decode cX1_number 56 = .ok (.checkcast 21, 3) := dk_192 0 21 (dk_at dksX1_number_2 10 rfl rfl)
theorem dX1_number_59 : decode cX1_number 59 = .ok (.iload_n 1, 1) := dk_27 (dk_at dksX1_number_2 13 rfl rfl)
theorem dX1_number_60 : decode cX1_number 60 = .ok (.iaload, 1) := dk_46 (dk_at dksX1_number_2 14 rfl rfl)
theorem dX1_number_61 : decode cX1_number 61 = .ok (.i2l, 1) := dk_133 (dk_at dksX1_number_2 15 rfl rfl)
theorem dX1_number_62 : decode cX1_number 62 = .ok (.goto 12, 3) := dk_167 0 12 (dk_at dksX1_number_2 16 rfl rfl)
theorem dX1_number_65 : decode cX1_number 65 = .ok (.aload_n 0, 1) := dk_42 (dk_at dksX1_number_2 19 rfl rfl)
theorem dX1_number_66 : decode cX1_number 66 = .ok (.getfield 9, 3) := dk_180 0 9 (dk_at dksX1_number_2 20 rfl rfl)
theorem dX1_number_69 : decode cX1_number 69 = .ok (.checkcast 23, 3) := dk_192 0 23 (dk_at dksX1_number_3 0 rfl rfl)
theorem dX1_number_72 : decode cX1_number 72 = .ok (.iload_n 1, 1) := dk_27 (dk_at dksX1_number_3 3 rfl rfl)
theorem dX1_number_73 : decode cX1_number 73 = .ok (.laload, 1) := dk_47 (dk_at dksX1_number_3 4 rfl rfl)
theorem dX1_number_74 : decode cX1_number 74 = .ok (.lreturn, 1) := dk_173 (dk_at dksX1_number_3 5 rfl rfl)
theorem q132 : (Jvm.Cond.initialized "UnseenClock$Slot") ∈ lw_all := lw_g (lw_at lw_m1 2 rfl) rfl
theorem q183 : (Jvm.Cond.instanceMethod ({ cls := "UnseenClock$Slot", name := "begins", desc := "(II)Z" } : Jvm.MethodName)) ∈ lw_all := lw_g (lw_at lw_m1 53 rfl) rfl
theorem q184 : (Jvm.Cond.selects "UnseenClock$Slot" ({ cls := "UnseenClock$Slot", name := "begins", desc := "(II)Z" } : Jvm.MethodName) ({ cls := "UnseenClock$Slot", name := "begins", desc := "(II)Z" } : Jvm.MethodName)) ∈ lw_all := lw_g (lw_at lw_m1 54 rfl) rfl
theorem q185 : (Jvm.Cond.codeWith ({ cls := "UnseenClock$Slot", name := "begins", desc := "(II)Z" } : Jvm.MethodName) prog_14_method_2_code (4 : Nat) (Option.some Jvm.ClassFile.FieldType.boolean) [((0 : Nat), (65 : Nat), (68 : Nat), (15 : Nat))]) ∈ lw_all := lw_g (lw_at lw_m1 55 rfl) rfl
theorem q186 : (Jvm.Cond.classLink "UnseenClock$Slot" (15 : Nat) "java/lang/NegativeArraySizeException") ∈ lw_all := lw_g (lw_at lw_m1 56 rfl) rfl
theorem q282 : (Jvm.Cond.instanceMethod ({ cls := "UnseenClock$Slot", name := "puts", desc := "(IJ)I" } : Jvm.MethodName)) ∈ lw_all := lw_g (lw_at lw_m1 152 rfl) rfl
theorem q283 : (Jvm.Cond.selects "UnseenClock$Slot" ({ cls := "UnseenClock$Slot", name := "puts", desc := "(IJ)I" } : Jvm.MethodName) ({ cls := "UnseenClock$Slot", name := "puts", desc := "(IJ)I" } : Jvm.MethodName)) ∈ lw_all := lw_g (lw_at lw_m1 153 rfl) rfl
theorem q284 : (Jvm.Cond.codeWith ({ cls := "UnseenClock$Slot", name := "puts", desc := "(IJ)I" } : Jvm.MethodName) prog_14_method_5_code (5 : Nat) (Option.some Jvm.ClassFile.FieldType.int) [((0 : Nat), (6 : Nat), (9 : Nat), (29 : Nat)), ((0 : Nat), (6 : Nat), (14 : Nat), (31 : Nat))]) ∈ lw_all := lw_g (lw_at lw_m1 154 rfl) rfl
theorem q285 : (Jvm.Cond.classLink "UnseenClock$Slot" (29 : Nat) "java/lang/NullPointerException") ∈ lw_all := lw_g (lw_at lw_m1 155 rfl) rfl
theorem q310 : (Jvm.Cond.classLink "UnseenClock$Slot" (31 : Nat) "java/lang/ArrayIndexOutOfBoundsException") ∈ lw_all := lw_g (lw_at lw_m1 180 rfl) rfl
theorem q329 : (Jvm.Cond.methodLink "UnseenClock$Slot" (25 : Nat) ({ cls := "UnseenClock$Slot", name := "put", desc := "(IJ)V" } : Jvm.MethodName)) ∈ lw_all := lw_g (lw_at lw_m1 199 rfl) rfl
theorem q330 : (Jvm.Cond.privateMethod ({ cls := "UnseenClock$Slot", name := "put", desc := "(IJ)V" } : Jvm.MethodName)) ∈ lw_tbl := lw_at lw_m1 200 rfl
theorem q331 : (Jvm.Cond.instanceMethod ({ cls := "UnseenClock$Slot", name := "put", desc := "(IJ)V" } : Jvm.MethodName)) ∈ lw_all := lw_g (lw_at lw_m1 201 rfl) rfl
theorem q332 : (Jvm.Cond.instantiable "UnseenClock$Slot" (1 : Nat)) ∈ lw_all := lw_g (lw_at lw_m1 202 rfl) rfl
theorem q333 : (Jvm.Cond.code ({ cls := "UnseenClock$Slot", name := "put", desc := "(IJ)V" } : Jvm.MethodName) prog_14_method_6_code (5 : Nat) (Option.none : Option Jvm.ClassFile.FieldType)) ∈ lw_all := lw_g (lw_at lw_m1 203 rfl) rfl
theorem q334 : (Jvm.Cond.classLink "UnseenClock$Slot" (17 : Nat) "[B") ∈ lw_all := lw_g (lw_at lw_m1 204 rfl) rfl
theorem q335 : (Jvm.Cond.classLink "UnseenClock$Slot" (19 : Nat) "[S") ∈ lw_all := lw_g (lw_at lw_m1 205 rfl) rfl
theorem q336 : (Jvm.Cond.methodLink "UnseenClock$Slot" (33 : Nat) ({ cls := "UnseenClock$Slot", name := "putWider", desc := "(IJ)V" } : Jvm.MethodName)) ∈ lw_all := lw_g (lw_at lw_m1 206 rfl) rfl
theorem q337 : (Jvm.Cond.privateMethod ({ cls := "UnseenClock$Slot", name := "putWider", desc := "(IJ)V" } : Jvm.MethodName)) ∈ lw_tbl := lw_at lw_m1 207 rfl
theorem q338 : (Jvm.Cond.instanceMethod ({ cls := "UnseenClock$Slot", name := "putWider", desc := "(IJ)V" } : Jvm.MethodName)) ∈ lw_all := lw_g (lw_at lw_m1 208 rfl) rfl
theorem q339 : (Jvm.Cond.codeWith ({ cls := "UnseenClock$Slot", name := "putWider", desc := "(IJ)V" } : Jvm.MethodName) prog_14_method_7_code (6 : Nat) (Option.none : Option Jvm.ClassFile.FieldType) [((0 : Nat), (15 : Nat), (18 : Nat), (36 : Nat))]) ∈ lw_all := lw_g (lw_at lw_m1 209 rfl) rfl
theorem q340 : (Jvm.Cond.classLink "UnseenClock$Slot" (36 : Nat) "java/lang/ClassCastException") ∈ lw_all := lw_g (lw_at lw_m1 210 rfl) rfl
theorem q354 : (Jvm.Cond.classLink "UnseenClock$Slot" (21 : Nat) "[I") ∈ lw_all := lw_g (lw_at lw_m1 224 rfl) rfl
theorem q355 : (Jvm.Cond.classLink "UnseenClock$Slot" (23 : Nat) "[J") ∈ lw_all := lw_g (lw_at lw_m1 225 rfl) rfl
theorem q361 : (Jvm.Cond.instanceMethod ({ cls := "UnseenClock$Slot", name := "pastes", desc := "(ILUnseenClock$Slot;II)I" } : Jvm.MethodName)) ∈ lw_all := lw_g (lw_at lw_m1 231 rfl) rfl
theorem q362 : (Jvm.Cond.selects "UnseenClock$Slot" ({ cls := "UnseenClock$Slot", name := "pastes", desc := "(ILUnseenClock$Slot;II)I" } : Jvm.MethodName) ({ cls := "UnseenClock$Slot", name := "pastes", desc := "(ILUnseenClock$Slot;II)I" } : Jvm.MethodName)) ∈ lw_all := lw_g (lw_at lw_m1 232 rfl) rfl
theorem q363 : (Jvm.Cond.codeWith ({ cls := "UnseenClock$Slot", name := "pastes", desc := "(ILUnseenClock$Slot;II)I" } : Jvm.MethodName) prog_14_method_9_code (6 : Nat) (Option.some Jvm.ClassFile.FieldType.int) [((31 : Nat), (46 : Nat), (49 : Nat), (48 : Nat))]) ∈ lw_all := lw_g (lw_at lw_m1 233 rfl) rfl
theorem q364 : (Jvm.Cond.classLink "UnseenClock$Slot" (48 : Nat) "java/lang/IndexOutOfBoundsException") ∈ lw_all := lw_g (lw_at lw_m1 234 rfl) rfl
theorem q365 : (Jvm.Cond.methodLink "UnseenClock$Slot" (38 : Nat) ({ cls := "UnseenClock$Slot", name := "width", desc := "()I" } : Jvm.MethodName)) ∈ lw_all := lw_g (lw_at lw_m1 235 rfl) rfl
theorem q366 : (Jvm.Cond.privateMethod ({ cls := "UnseenClock$Slot", name := "width", desc := "()I" } : Jvm.MethodName)) ∈ lw_tbl := lw_at lw_m1 236 rfl
theorem q367 : (Jvm.Cond.instanceMethod ({ cls := "UnseenClock$Slot", name := "width", desc := "()I" } : Jvm.MethodName)) ∈ lw_all := lw_g (lw_at lw_m1 237 rfl) rfl
theorem q368 : (Jvm.Cond.code ({ cls := "UnseenClock$Slot", name := "width", desc := "()I" } : Jvm.MethodName) prog_14_method_8_code (1 : Nat) (Option.some Jvm.ClassFile.FieldType.int)) ∈ lw_all := lw_g (lw_at lw_m1 238 rfl) rfl
theorem q369 : (Jvm.Cond.methodLink "UnseenClock$Slot" (42 : Nat) ({ cls := "java/lang/System", name := "arraycopy", desc := "(Ljava/lang/Object;ILjava/lang/Object;II)V" } : Jvm.MethodName)) ∈ lw_all := lw_g (lw_at lw_m1 239 rfl) rfl
theorem q381 : (Jvm.Cond.instanceMethod ({ cls := "UnseenClock$Slot", name := "<init>", desc := "()V" } : Jvm.MethodName)) ∈ lw_all := lw_g (lw_at lw_m2 11 rfl) rfl
theorem q382 : (Jvm.Cond.code ({ cls := "UnseenClock$Slot", name := "<init>", desc := "()V" } : Jvm.MethodName) prog_14_method_1_code (1 : Nat) (Option.none : Option Jvm.ClassFile.FieldType)) ∈ lw_all := lw_g (lw_at lw_m2 12 rfl) rfl
theorem q383 : (Jvm.Cond.methodLink "UnseenClock$Slot" (3 : Nat) ({ cls := "java/lang/Object", name := "<init>", desc := "()V" } : Jvm.MethodName)) ∈ lw_all := lw_g (lw_at lw_m2 13 rfl) rfl
theorem q384 : (Jvm.Cond.fieldLink "UnseenClock$Slot" (9 : Nat) "UnseenClock$Slot" "held" "Ljava/lang/Object;") ∈ lw_all := lw_g (lw_at lw_m2 14 rfl) rfl
theorem q386 : (Jvm.Cond.lays "UnseenClock$Slot" "UnseenClock$Slot" "held" "Ljava/lang/Object;") ∈ lw_all := lw_g (lw_at lw_m2 16 rfl) rfl
theorem q387 : (Jvm.Cond.soleField "UnseenClock$Slot" "held") ∈ lw_all := lw_g (lw_at lw_m2 17 rfl) rfl
theorem q388 : (Jvm.Cond.superclass "UnseenClock$Slot" "java/lang/Object") ∈ lw_all := lw_g (lw_at lw_m2 18 rfl) rfl
theorem q920 : (Jvm.Cond.selects "UnseenClock$Slot" ({ cls := "java/lang/Object", name := "getClass", desc := "()Ljava/lang/Class;" } : Jvm.MethodName) ({ cls := "java/lang/Object", name := "getClass", desc := "()Ljava/lang/Class;" } : Jvm.MethodName)) ∈ lw_all := lw_g (lw_at lw_m4 70 rfl) rfl
theorem q1403 : (Jvm.Cond.instanceMethod ({ cls := "UnseenClock$Slot", name := "many", desc := "()I" } : Jvm.MethodName)) ∈ lw_all := lw_g (lw_at lw_m6 73 rfl) rfl
theorem q1404 : (Jvm.Cond.selects "UnseenClock$Slot" ({ cls := "UnseenClock$Slot", name := "many", desc := "()I" } : Jvm.MethodName) ({ cls := "UnseenClock$Slot", name := "many", desc := "()I" } : Jvm.MethodName)) ∈ lw_all := lw_g (lw_at lw_m6 74 rfl) rfl
theorem q1405 : (Jvm.Cond.code ({ cls := "UnseenClock$Slot", name := "many", desc := "()I" } : Jvm.MethodName) prog_14_method_3_code (1 : Nat) (Option.some Jvm.ClassFile.FieldType.int)) ∈ lw_all := lw_g (lw_at lw_m6 75 rfl) rfl
theorem q1407 : (Jvm.Cond.instanceMethod ({ cls := "UnseenClock$Slot", name := "number", desc := "(I)J" } : Jvm.MethodName)) ∈ lw_all := lw_g (lw_at lw_m6 77 rfl) rfl
theorem q1408 : (Jvm.Cond.selects "UnseenClock$Slot" ({ cls := "UnseenClock$Slot", name := "number", desc := "(I)J" } : Jvm.MethodName) ({ cls := "UnseenClock$Slot", name := "number", desc := "(I)J" } : Jvm.MethodName)) ∈ lw_all := lw_g (lw_at lw_m6 78 rfl) rfl
theorem q1409 : (Jvm.Cond.code ({ cls := "UnseenClock$Slot", name := "number", desc := "(I)J" } : Jvm.MethodName) prog_14_method_4_code (2 : Nat) (Option.some Jvm.ClassFile.FieldType.long)) ∈ lw_all := lw_g (lw_at lw_m6 79 rfl) rfl
theorem q2310 : (Jvm.Cond.castable "UnseenClock$Slot" "java/lang/Object") ∈ lw_tbl := lw_at lw_m10 20 rfl
theorem in_X1 : ∀ w ∈ wsX10, w ∈ lw_all := lw_in wsX10 [386] (by decide +kernel) (by decide +kernel)
/-! UnseenClock$Square -/
set_option maxRecDepth 100000
def RX2 : String := "UnseenClock$Square"
def TX2 : u_T := fun k => match k with
  | 0 => ("UnseenClock$Square", "clocks", "Ljava/util/List;", true)
  | 1 => ("UnseenClock$Square", "people", "Ljava/util/List;", true)
  | 2 => ("UnseenClock$Square", "wall", "[Z", true)
  | 3 => ("UnseenClock$Square", "cell", "[[I", true)
  | 4 => ("UnseenClock$Square", "wide", "I", false)
  | 5 => ("UnseenClock$Square", "length", "I", false)
  | 6 => ("UnseenClock$Square", "minutes", "I", false)
  | 7 => ("UnseenClock$Square", "walls", "I", false)
  | _ => ("UnseenClock$Square", "lines", "I", false)
def tyX2 : Nat → FieldType := fun k => match k with
  | 0 => .object "java/util/List"
  | 1 => .object "java/util/List"
  | 2 => .array .boolean
  | 3 => .array (.array .int)
  | 4 => .int
  | 5 => .int
  | 6 => .int
  | 7 => .int
  | _ => .int
abbrev wsX20 : List Cond := u_ws RX2 TX2 9
theorem nmX2 : ∀ a, a < 9 → ∀ b, b < 9 → a ≠ b → (TX2 a).2.1 ≠ (TX2 b).2.1 := by decide +kernel
theorem tyX2_ok : ∀ k, k < 9 → parseFieldDescriptor (TX2 k).2.2.1 = some (tyX2 k) := by decide +kernel
abbrev cX2_init : ByteArray := prog_15_method_1_code
def yX2_init : MethodName := ⟨RX2, "<init>", "()V"⟩
def dkwX2_init_2 : List UInt8 := [181, 0, 29, 177]
abbrev dktX2_init_2 : List UInt8 := dkwX2_init_2 ++ []
def dkwX2_init_1 : List UInt8 := [183, 0, 11, 181, 0, 20, 42, 17, 1, 144, 188, 4, 181, 0, 23, 42, 16, 8, 16, 40, 197, 0, 27, 2]
abbrev dktX2_init_1 : List UInt8 := dkwX2_init_1 ++ dktX2_init_2
def dkwX2_init_0 : List UInt8 := [42, 183, 0, 3, 42, 187, 0, 9, 89, 7, 183, 0, 11, 181, 0, 14, 42, 187, 0, 9, 89, 16, 8]
abbrev dktX2_init_0 : List UInt8 := dkwX2_init_0 ++ dktX2_init_1
theorem dksX2_init_0 : cX2_init.data.toList.drop 0 = dktX2_init_0 := by decide +kernel
theorem dksX2_init_1 : cX2_init.data.toList.drop 23 = dktX2_init_1 := dk_seg dksX2_init_0 23 rfl rfl
theorem dksX2_init_2 : cX2_init.data.toList.drop 47 = dktX2_init_2 := dk_seg dksX2_init_1 24 rfl rfl
theorem dX2_init_0 : decode cX2_init 0 = .ok (.aload_n 0, 1) := dk_42 (dk_at dksX2_init_0 0 rfl rfl)
theorem dX2_init_1 : decode cX2_init 1 = .ok (.invokespecial 3, 3) := dk_183 0 3 (dk_at dksX2_init_0 1 rfl rfl)
theorem dX2_init_4 : decode cX2_init 4 = .ok (.aload_n 0, 1) := dk_42 (dk_at dksX2_init_0 4 rfl rfl)
theorem dX2_init_5 : decode cX2_init 5 = .ok (.new 9, 3) := dk_187 0 9 (dk_at dksX2_init_0 5 rfl rfl)
theorem dX2_init_8 : decode cX2_init 8 = .ok (.dup, 1) := dk_89 (dk_at dksX2_init_0 8 rfl rfl)
theorem dX2_init_9 : decode cX2_init 9 = .ok (.iconst 4, 1) := dk_7 (dk_at dksX2_init_0 9 rfl rfl)
theorem dX2_init_10 : decode cX2_init 10 = .ok (.invokespecial 11, 3) := dk_183 0 11 (dk_at dksX2_init_0 10 rfl rfl)
theorem dX2_init_13 : decode cX2_init 13 = .ok (.putfield 14, 3) := dk_181 0 14 (dk_at dksX2_init_0 13 rfl rfl)
theorem dX2_init_16 : decode cX2_init 16 = .ok (.aload_n 0, 1) := dk_42 (dk_at dksX2_init_0 16 rfl rfl)
theorem dX2_init_17 : decode cX2_init 17 = .ok (.new 9, 3) := dk_187 0 9 (dk_at dksX2_init_0 17 rfl rfl)
theorem dX2_init_20 : decode cX2_init 20 = .ok (.dup, 1) := dk_89 (dk_at dksX2_init_0 20 rfl rfl)
theorem dX2_init_21 : decode cX2_init 21 = .ok (.bipush 8, 2) := dk_16 8 (dk_at dksX2_init_0 21 rfl rfl)
theorem dX2_init_23 : decode cX2_init 23 = .ok (.invokespecial 11, 3) := dk_183 0 11 (dk_at dksX2_init_1 0 rfl rfl)
theorem dX2_init_26 : decode cX2_init 26 = .ok (.putfield 20, 3) := dk_181 0 20 (dk_at dksX2_init_1 3 rfl rfl)
theorem dX2_init_29 : decode cX2_init 29 = .ok (.aload_n 0, 1) := dk_42 (dk_at dksX2_init_1 6 rfl rfl)
theorem dX2_init_30 : decode cX2_init 30 = .ok (.sipush 400, 3) := dk_17 1 144 (dk_at dksX2_init_1 7 rfl rfl)
theorem dX2_init_33 : decode cX2_init 33 = .ok (.newarray .boolean, 2) := dk_188_4 (dk_at dksX2_init_1 10 rfl rfl)
theorem dX2_init_35 : decode cX2_init 35 = .ok (.putfield 23, 3) := dk_181 0 23 (dk_at dksX2_init_1 12 rfl rfl)
theorem dX2_init_38 : decode cX2_init 38 = .ok (.aload_n 0, 1) := dk_42 (dk_at dksX2_init_1 15 rfl rfl)
theorem dX2_init_39 : decode cX2_init 39 = .ok (.bipush 8, 2) := dk_16 8 (dk_at dksX2_init_1 16 rfl rfl)
theorem dX2_init_41 : decode cX2_init 41 = .ok (.bipush 40, 2) := dk_16 40 (dk_at dksX2_init_1 18 rfl rfl)
theorem dX2_init_43 : decode cX2_init 43 = .ok (.multianewarray 27 2, 4) := by decide +kernel
theorem dX2_init_47 : decode cX2_init 47 = .ok (.putfield 29, 3) := dk_181 0 29 (dk_at dksX2_init_2 0 rfl rfl)
theorem dX2_init_50 : decode cX2_init 50 = .ok (.return_, 1) := dk_177 (dk_at dksX2_init_2 3 rfl rfl)
abbrev cX2_isFree : ByteArray := prog_15_method_5_code
def yX2_isFree : MethodName := ⟨RX2, "isFree", "(II)Z"⟩
def dkwX2_isFree_1 : List UInt8 := [27, 28, 182, 0, 68, 2, 160, 0, 7, 4, 167, 0, 4, 3, 172]
abbrev dktX2_isFree_1 : List UInt8 := dkwX2_isFree_1 ++ []
def dkwX2_isFree_0 : List UInt8 := [42, 27, 28, 182, 0, 64, 153, 0, 31, 42, 180, 0, 23, 16, 20, 28, 104, 27, 96, 51, 154, 0, 17, 42]
abbrev dktX2_isFree_0 : List UInt8 := dkwX2_isFree_0 ++ dktX2_isFree_1
theorem dksX2_isFree_0 : cX2_isFree.data.toList.drop 0 = dktX2_isFree_0 := by decide +kernel
theorem dksX2_isFree_1 : cX2_isFree.data.toList.drop 24 = dktX2_isFree_1 := dk_seg dksX2_isFree_0 24 rfl rfl
theorem dX2_isFree_0 : decode cX2_isFree 0 = .ok (.aload_n 0, 1) := dk_42 (dk_at dksX2_isFree_0 0 rfl rfl)
theorem dX2_isFree_1 : decode cX2_isFree 1 = .ok (.iload_n 1, 1) := dk_27 (dk_at dksX2_isFree_0 1 rfl rfl)
theorem dX2_isFree_2 : decode cX2_isFree 2 = .ok (.iload_n 2, 1) := dk_28 (dk_at dksX2_isFree_0 2 rfl rfl)
theorem dX2_isFree_3 : decode cX2_isFree 3 = .ok (.invokevirtual 64, 3) := dk_182 0 64 (dk_at dksX2_isFree_0 3 rfl rfl)
theorem dX2_isFree_6 : decode cX2_isFree 6 = .ok (.ifCond .eq 31, 3) := dk_153 0 31 (dk_at dksX2_isFree_0 6 rfl rfl)
theorem dX2_isFree_9 : decode cX2_isFree 9 = .ok (.aload_n 0, 1) := dk_42 (dk_at dksX2_isFree_0 9 rfl rfl)
theorem dX2_isFree_10 : decode cX2_isFree 10 = .ok (.getfield 23, 3) := dk_180 0 23 (dk_at dksX2_isFree_0 10 rfl rfl)
theorem dX2_isFree_13 : decode cX2_isFree 13 = .ok (.bipush 20, 2) := dk_16 20 (dk_at dksX2_isFree_0 13 rfl rfl)
theorem dX2_isFree_15 : decode cX2_isFree 15 = .ok (.iload_n 2, 1) := dk_28 (dk_at dksX2_isFree_0 15 rfl rfl)
theorem dX2_isFree_16 : decode cX2_isFree 16 = .ok (.imul, 1) := dk_104 (dk_at dksX2_isFree_0 16 rfl rfl)
theorem dX2_isFree_17 : decode cX2_isFree 17 = .ok (.iload_n 1, 1) := dk_27 (dk_at dksX2_isFree_0 17 rfl rfl)
theorem dX2_isFree_18 : decode cX2_isFree 18 = .ok (.iadd, 1) := dk_96 (dk_at dksX2_isFree_0 18 rfl rfl)
theorem dX2_isFree_19 : decode cX2_isFree 19 = .ok (.baload, 1) := dk_51 (dk_at dksX2_isFree_0 19 rfl rfl)
theorem dX2_isFree_20 : decode cX2_isFree 20 = .ok (.ifCond .ne 17, 3) := dk_154 0 17 (dk_at dksX2_isFree_0 20 rfl rfl)
theorem dX2_isFree_23 : decode cX2_isFree 23 = .ok (.aload_n 0, 1) := dk_42 (dk_at dksX2_isFree_0 23 rfl rfl)
theorem dX2_isFree_24 : decode cX2_isFree 24 = .ok (.iload_n 1, 1) := dk_27 (dk_at dksX2_isFree_1 0 rfl rfl)
theorem dX2_isFree_25 : decode cX2_isFree 25 = .ok (.iload_n 2, 1) := dk_28 (dk_at dksX2_isFree_1 1 rfl rfl)
theorem dX2_isFree_26 : decode cX2_isFree 26 = .ok (.invokevirtual 68, 3) := dk_182 0 68 (dk_at dksX2_isFree_1 2 rfl rfl)
theorem dX2_isFree_29 : decode cX2_isFree 29 = .ok (.iconst (-1), 1) := dk_2 (dk_at dksX2_isFree_1 5 rfl rfl)
theorem dX2_isFree_30 : decode cX2_isFree 30 = .ok (.if_icmp .ne 7, 3) := dk_160 0 7 (dk_at dksX2_isFree_1 6 rfl rfl)
theorem dX2_isFree_33 : decode cX2_isFree 33 = .ok (.iconst 1, 1) := dk_4 (dk_at dksX2_isFree_1 9 rfl rfl)
theorem dX2_isFree_34 : decode cX2_isFree 34 = .ok (.goto 4, 3) := dk_167 0 4 (dk_at dksX2_isFree_1 10 rfl rfl)
theorem dX2_isFree_37 : decode cX2_isFree 37 = .ok (.iconst 0, 1) := dk_3 (dk_at dksX2_isFree_1 13 rfl rfl)
theorem dX2_isFree_38 : decode cX2_isFree 38 = .ok (.ireturn, 1) := dk_172 (dk_at dksX2_isFree_1 14 rfl rfl)
abbrev cX2_has : ByteArray := prog_15_method_3_code
def yX2_has : MethodName := ⟨RX2, "has", "(II)Z"⟩
def dkwX2_has_1 : List UInt8 := [100, 133, 184, 0, 39, 153, 0, 7, 4, 167, 0, 4, 3, 172]
abbrev dktX2_has_1 : List UInt8 := dkwX2_has_1 ++ []
def dkwX2_has_0 : List UInt8 := [27, 133, 9, 42, 180, 0, 36, 4, 100, 133, 184, 0, 39, 153, 0, 23, 28, 133, 9, 42, 180, 0, 43, 4]
abbrev dktX2_has_0 : List UInt8 := dkwX2_has_0 ++ dktX2_has_1
theorem dksX2_has_0 : cX2_has.data.toList.drop 0 = dktX2_has_0 := by decide +kernel
theorem dksX2_has_1 : cX2_has.data.toList.drop 24 = dktX2_has_1 := dk_seg dksX2_has_0 24 rfl rfl
theorem dX2_has_0 : decode cX2_has 0 = .ok (.iload_n 1, 1) := dk_27 (dk_at dksX2_has_0 0 rfl rfl)
theorem dX2_has_1 : decode cX2_has 1 = .ok (.i2l, 1) := dk_133 (dk_at dksX2_has_0 1 rfl rfl)
theorem dX2_has_2 : decode cX2_has 2 = .ok (.lconst 0, 1) := dk_9 (dk_at dksX2_has_0 2 rfl rfl)
theorem dX2_has_3 : decode cX2_has 3 = .ok (.aload_n 0, 1) := dk_42 (dk_at dksX2_has_0 3 rfl rfl)
theorem dX2_has_4 : decode cX2_has 4 = .ok (.getfield 36, 3) := dk_180 0 36 (dk_at dksX2_has_0 4 rfl rfl)
theorem dX2_has_7 : decode cX2_has 7 = .ok (.iconst 1, 1) := dk_4 (dk_at dksX2_has_0 7 rfl rfl)
theorem dX2_has_8 : decode cX2_has 8 = .ok (.isub, 1) := dk_100 (dk_at dksX2_has_0 8 rfl rfl)
theorem dX2_has_9 : decode cX2_has 9 = .ok (.i2l, 1) := dk_133 (dk_at dksX2_has_0 9 rfl rfl)
theorem dX2_has_10 : decode cX2_has 10 = .ok (.invokestatic 39, 3) := dk_184 0 39 (dk_at dksX2_has_0 10 rfl rfl)
theorem dX2_has_13 : decode cX2_has 13 = .ok (.ifCond .eq 23, 3) := dk_153 0 23 (dk_at dksX2_has_0 13 rfl rfl)
theorem dX2_has_16 : decode cX2_has 16 = .ok (.iload_n 2, 1) := dk_28 (dk_at dksX2_has_0 16 rfl rfl)
theorem dX2_has_17 : decode cX2_has 17 = .ok (.i2l, 1) := dk_133 (dk_at dksX2_has_0 17 rfl rfl)
theorem dX2_has_18 : decode cX2_has 18 = .ok (.lconst 0, 1) := dk_9 (dk_at dksX2_has_0 18 rfl rfl)
theorem dX2_has_19 : decode cX2_has 19 = .ok (.aload_n 0, 1) := dk_42 (dk_at dksX2_has_0 19 rfl rfl)
theorem dX2_has_20 : decode cX2_has 20 = .ok (.getfield 43, 3) := dk_180 0 43 (dk_at dksX2_has_0 20 rfl rfl)
theorem dX2_has_23 : decode cX2_has 23 = .ok (.iconst 1, 1) := dk_4 (dk_at dksX2_has_0 23 rfl rfl)
theorem dX2_has_24 : decode cX2_has 24 = .ok (.isub, 1) := dk_100 (dk_at dksX2_has_1 0 rfl rfl)
theorem dX2_has_25 : decode cX2_has 25 = .ok (.i2l, 1) := dk_133 (dk_at dksX2_has_1 1 rfl rfl)
theorem dX2_has_26 : decode cX2_has 26 = .ok (.invokestatic 39, 3) := dk_184 0 39 (dk_at dksX2_has_1 2 rfl rfl)
theorem dX2_has_29 : decode cX2_has 29 = .ok (.ifCond .eq 7, 3) := dk_153 0 7 (dk_at dksX2_has_1 5 rfl rfl)
theorem dX2_has_32 : decode cX2_has 32 = .ok (.iconst 1, 1) := dk_4 (dk_at dksX2_has_1 8 rfl rfl)
theorem dX2_has_33 : decode cX2_has 33 = .ok (.goto 4, 3) := dk_167 0 4 (dk_at dksX2_has_1 9 rfl rfl)
theorem dX2_has_36 : decode cX2_has 36 = .ok (.iconst 0, 1) := dk_3 (dk_at dksX2_has_1 12 rfl rfl)
theorem dX2_has_37 : decode cX2_has 37 = .ok (.ireturn, 1) := dk_172 (dk_at dksX2_has_1 13 rfl rfl)
abbrev cX2_clockAt : ByteArray := prog_15_method_4_code
def yX2_clockAt : MethodName := ⟨RX2, "clockAt", "(II)I"⟩
def dkwX2_clockAt_3 : List UInt8 := [172]
abbrev dktX2_clockAt_3 : List UInt8 := dkwX2_clockAt_3 ++ []
def dkwX2_clockAt_2 : List UInt8 := [185, 0, 52, 2, 0, 192, 0, 56, 180, 0, 61, 28, 160, 0, 5, 29, 172, 132, 3, 1, 167, 255, 198, 2]
abbrev dktX2_clockAt_2 : List UInt8 := dkwX2_clockAt_2 ++ dktX2_clockAt_3
def dkwX2_clockAt_1 : List UInt8 := [185, 0, 52, 2, 0, 192, 0, 56, 180, 0, 58, 27, 160, 0, 25, 42, 180, 0, 14, 29]
abbrev dktX2_clockAt_1 : List UInt8 := dkwX2_clockAt_1 ++ dktX2_clockAt_2
def dkwX2_clockAt_0 : List UInt8 := [3, 62, 29, 42, 180, 0, 14, 185, 0, 46, 1, 0, 162, 0, 51, 42, 180, 0, 14, 29]
abbrev dktX2_clockAt_0 : List UInt8 := dkwX2_clockAt_0 ++ dktX2_clockAt_1
theorem dksX2_clockAt_0 : cX2_clockAt.data.toList.drop 0 = dktX2_clockAt_0 := by decide +kernel
theorem dksX2_clockAt_1 : cX2_clockAt.data.toList.drop 20 = dktX2_clockAt_1 := dk_seg dksX2_clockAt_0 20 rfl rfl
theorem dksX2_clockAt_2 : cX2_clockAt.data.toList.drop 40 = dktX2_clockAt_2 := dk_seg dksX2_clockAt_1 20 rfl rfl
theorem dksX2_clockAt_3 : cX2_clockAt.data.toList.drop 64 = dktX2_clockAt_3 := dk_seg dksX2_clockAt_2 24 rfl rfl
theorem dX2_clockAt_0 : decode cX2_clockAt 0 = .ok (.iconst 0, 1) := dk_3 (dk_at dksX2_clockAt_0 0 rfl rfl)
theorem dX2_clockAt_1 : decode cX2_clockAt 1 = .ok (.istore_n 3, 1) := dk_62 (dk_at dksX2_clockAt_0 1 rfl rfl)
theorem dX2_clockAt_2 : decode cX2_clockAt 2 = .ok (.iload_n 3, 1) := dk_29 (dk_at dksX2_clockAt_0 2 rfl rfl)
theorem dX2_clockAt_3 : decode cX2_clockAt 3 = .ok (.aload_n 0, 1) := dk_42 (dk_at dksX2_clockAt_0 3 rfl rfl)
theorem dX2_clockAt_4 : decode cX2_clockAt 4 = .ok (.getfield 14, 3) := dk_180 0 14 (dk_at dksX2_clockAt_0 4 rfl rfl)
theorem dX2_clockAt_7 : decode cX2_clockAt 7 = .ok (.invokeinterface 46 1, 5) := by decide +kernel
theorem dX2_clockAt_12 : decode cX2_clockAt 12 = .ok (.if_icmp .ge 51, 3) := dk_162 0 51 (dk_at dksX2_clockAt_0 12 rfl rfl)
theorem dX2_clockAt_15 : decode cX2_clockAt 15 = .ok (.aload_n 0, 1) := dk_42 (dk_at dksX2_clockAt_0 15 rfl rfl)
theorem dX2_clockAt_16 : decode cX2_clockAt 16 = .ok (.getfield 14, 3) := dk_180 0 14 (dk_at dksX2_clockAt_0 16 rfl rfl)
theorem dX2_clockAt_19 : decode cX2_clockAt 19 = .ok (.iload_n 3, 1) := dk_29 (dk_at dksX2_clockAt_0 19 rfl rfl)
theorem dX2_clockAt_20 : decode cX2_clockAt 20 = .ok (.invokeinterface 52 2, 5) := by decide +kernel
theorem dX2_clockAt_25 : decode cX2_clockAt 25 = .ok (.checkcast 56, 3) := dk_192 0 56 (dk_at dksX2_clockAt_1 5 rfl rfl)
theorem dX2_clockAt_28 : decode cX2_clockAt 28 = .ok (.getfield 58, 3) := dk_180 0 58 (dk_at dksX2_clockAt_1 8 rfl rfl)
theorem dX2_clockAt_31 : decode cX2_clockAt 31 = .ok (.iload_n 1, 1) := dk_27 (dk_at dksX2_clockAt_1 11 rfl rfl)
theorem dX2_clockAt_32 : decode cX2_clockAt 32 = .ok (.if_icmp .ne 25, 3) := dk_160 0 25 (dk_at dksX2_clockAt_1 12 rfl rfl)
theorem dX2_clockAt_35 : decode cX2_clockAt 35 = .ok (.aload_n 0, 1) := dk_42 (dk_at dksX2_clockAt_1 15 rfl rfl)
theorem dX2_clockAt_36 : decode cX2_clockAt 36 = .ok (.getfield 14, 3) := dk_180 0 14 (dk_at dksX2_clockAt_1 16 rfl rfl)
theorem dX2_clockAt_39 : decode cX2_clockAt 39 = .ok (.iload_n 3, 1) := dk_29 (dk_at dksX2_clockAt_1 19 rfl rfl)
theorem dX2_clockAt_40 : decode cX2_clockAt 40 = .ok (.invokeinterface 52 2, 5) := by decide +kernel
theorem dX2_clockAt_45 : decode cX2_clockAt 45 = .ok (.checkcast 56, 3) := dk_192 0 56 (dk_at dksX2_clockAt_2 5 rfl rfl)
theorem dX2_clockAt_48 : decode cX2_clockAt 48 = .ok (.getfield 61, 3) := dk_180 0 61 (dk_at dksX2_clockAt_2 8 rfl rfl)
theorem dX2_clockAt_51 : decode cX2_clockAt 51 = .ok (.iload_n 2, 1) := dk_28 (dk_at dksX2_clockAt_2 11 rfl rfl)
theorem dX2_clockAt_52 : decode cX2_clockAt 52 = .ok (.if_icmp .ne 5, 3) := dk_160 0 5 (dk_at dksX2_clockAt_2 12 rfl rfl)
theorem dX2_clockAt_55 : decode cX2_clockAt 55 = .ok (.iload_n 3, 1) := dk_29 (dk_at dksX2_clockAt_2 15 rfl rfl)
theorem dX2_clockAt_56 : decode cX2_clockAt 56 = .ok (.ireturn, 1) := dk_172 (dk_at dksX2_clockAt_2 16 rfl rfl)
theorem dX2_clockAt_57 : decode cX2_clockAt 57 = .ok (.iinc 3 1, 3) := dk_132 3 1 (dk_at dksX2_clockAt_2 17 rfl rfl)
theorem dX2_clockAt_60 : decode cX2_clockAt 60 = .ok (.goto (-58), 3) := dk_167 255 198 (dk_at dksX2_clockAt_2 20 rfl rfl)
theorem dX2_clockAt_63 : decode cX2_clockAt 63 = .ok (.iconst (-1), 1) := dk_2 (dk_at dksX2_clockAt_2 23 rfl rfl)
theorem dX2_clockAt_64 : decode cX2_clockAt 64 = .ok (.ireturn, 1) := dk_172 (dk_at dksX2_clockAt_3 0 rfl rfl)
abbrev cX2_walks : ByteArray := prog_15_method_6_code
def yX2_walks : MethodName := ⟨RX2, "walks", "()V"⟩
def dkwX2_walks_10 : List UInt8 := [132, 1, 1, 167, 255, 25, 177]
abbrev dktX2_walks_10 : List UInt8 := dkwX2_walks_10 ++ []
def dkwX2_walks_9 : List UInt8 := [16, 100, 21, 4, 104, 96, 79, 132, 5, 1, 132, 7, 1, 167, 255, 125, 132, 6, 1, 167, 255, 107]
abbrev dktX2_walks_9 : List UInt8 := dkwX2_walks_9 ++ dktX2_walks_10
def dkwX2_walks_8 : List UInt8 := [62, 21, 9, 54, 4, 21, 5, 42, 180, 0, 98, 162, 0, 19, 42, 180, 0, 29, 27, 50, 21, 5, 29]
abbrev dktX2_walks_8 : List UInt8 := dkwX2_walks_8 ++ dktX2_walks_9
def dkwX2_walks_7 : List UInt8 := [154, 0, 7, 2, 167, 0, 4, 3, 96, 54, 9, 42, 21, 8, 21, 9, 182, 0, 95, 153, 0, 10, 21, 8]
abbrev dktX2_walks_7 : List UInt8 := dkwX2_walks_7 ++ dktX2_walks_8
def dkwX2_walks_6 : List UInt8 := [44, 180, 0, 92, 21, 6, 46, 5, 160, 0, 7, 4, 167, 0, 18, 44, 180, 0, 92, 21, 6, 46]
abbrev dktX2_walks_6 : List UInt8 := dkwX2_walks_6 ++ dktX2_walks_7
def dkwX2_walks_5 : List UInt8 := [167, 0, 19, 44, 180, 0, 92, 21, 6, 46, 6, 160, 0, 7, 2, 167, 0, 4, 3, 96, 54, 8, 21, 4]
abbrev dktX2_walks_5 : List UInt8 := dkwX2_walks_5 ++ dktX2_walks_6
def dkwX2_walks_4 : List UInt8 := [180, 0, 88, 21, 6, 46, 162, 0, 125, 29, 44, 180, 0, 92, 21, 6, 46, 4, 160, 0, 7, 4]
abbrev dktX2_walks_4 : List UInt8 := dkwX2_walks_4 ++ dktX2_walks_5
def dkwX2_walks_3 : List UInt8 := [104, 96, 79, 132, 5, 1, 3, 54, 6, 21, 6, 44, 180, 0, 85, 162, 0, 146, 3, 54, 7, 21, 7, 44]
abbrev dktX2_walks_3 : List UInt8 := dkwX2_walks_3 ++ dktX2_walks_4
def dkwX2_walks_2 : List UInt8 := [180, 0, 81, 54, 4, 44, 180, 0, 82, 54, 5, 42, 180, 0, 29, 27, 50, 21, 5, 29, 16, 100, 21, 4]
abbrev dktX2_walks_2 : List UInt8 := dkwX2_walks_2 ++ dktX2_walks_3
def dkwX2_walks_1 : List UInt8 := [184, 0, 72, 42, 180, 0, 20, 27, 185, 0, 52, 2, 0, 192, 0, 78, 77, 44, 180, 0, 80, 62, 44]
abbrev dktX2_walks_1 : List UInt8 := dkwX2_walks_1 ++ dktX2_walks_2
def dkwX2_walks_0 : List UInt8 := [3, 60, 27, 42, 180, 0, 20, 185, 0, 46, 1, 0, 162, 0, 224, 42, 180, 0, 29, 27, 50, 2]
abbrev dktX2_walks_0 : List UInt8 := dkwX2_walks_0 ++ dktX2_walks_1
theorem dksX2_walks_0 : cX2_walks.data.toList.drop 0 = dktX2_walks_0 := by decide +kernel
theorem dksX2_walks_1 : cX2_walks.data.toList.drop 22 = dktX2_walks_1 := dk_seg dksX2_walks_0 22 rfl rfl
theorem dksX2_walks_2 : cX2_walks.data.toList.drop 45 = dktX2_walks_2 := dk_seg dksX2_walks_1 23 rfl rfl
theorem dksX2_walks_3 : cX2_walks.data.toList.drop 69 = dktX2_walks_3 := dk_seg dksX2_walks_2 24 rfl rfl
theorem dksX2_walks_4 : cX2_walks.data.toList.drop 93 = dktX2_walks_4 := dk_seg dksX2_walks_3 24 rfl rfl
theorem dksX2_walks_5 : cX2_walks.data.toList.drop 115 = dktX2_walks_5 := dk_seg dksX2_walks_4 22 rfl rfl
theorem dksX2_walks_6 : cX2_walks.data.toList.drop 139 = dktX2_walks_6 := dk_seg dksX2_walks_5 24 rfl rfl
theorem dksX2_walks_7 : cX2_walks.data.toList.drop 161 = dktX2_walks_7 := dk_seg dksX2_walks_6 22 rfl rfl
theorem dksX2_walks_8 : cX2_walks.data.toList.drop 185 = dktX2_walks_8 := dk_seg dksX2_walks_7 24 rfl rfl
theorem dksX2_walks_9 : cX2_walks.data.toList.drop 208 = dktX2_walks_9 := dk_seg dksX2_walks_8 23 rfl rfl
theorem dksX2_walks_10 : cX2_walks.data.toList.drop 230 = dktX2_walks_10 := dk_seg dksX2_walks_9 22 rfl rfl
theorem dX2_walks_0 : decode cX2_walks 0 = .ok (.iconst 0, 1) := dk_3 (dk_at dksX2_walks_0 0 rfl rfl)
theorem dX2_walks_1 : decode cX2_walks 1 = .ok (.istore_n 1, 1) := dk_60 (dk_at dksX2_walks_0 1 rfl rfl)
theorem dX2_walks_2 : decode cX2_walks 2 = .ok (.iload_n 1, 1) := dk_27 (dk_at dksX2_walks_0 2 rfl rfl)
theorem dX2_walks_3 : decode cX2_walks 3 = .ok (.aload_n 0, 1) := dk_42 (dk_at dksX2_walks_0 3 rfl rfl)
theorem dX2_walks_4 : decode cX2_walks 4 = .ok (.getfield 20, 3) := dk_180 0 20 (dk_at dksX2_walks_0 4 rfl rfl)
theorem dX2_walks_7 : decode cX2_walks 7 = .ok (.invokeinterface 46 1, 5) := by decide +kernel
theorem dX2_walks_12 : decode cX2_walks 12 = .ok (.if_icmp .ge 224, 3) := dk_162 0 224 (dk_at dksX2_walks_0 12 rfl rfl)
theorem dX2_walks_15 : decode cX2_walks 15 = .ok (.aload_n 0, 1) := dk_42 (dk_at dksX2_walks_0 15 rfl rfl)
theorem dX2_walks_16 : decode cX2_walks 16 = .ok (.getfield 29, 3) := dk_180 0 29 (dk_at dksX2_walks_0 16 rfl rfl)
theorem dX2_walks_19 : decode cX2_walks 19 = .ok (.iload_n 1, 1) := dk_27 (dk_at dksX2_walks_0 19 rfl rfl)
theorem dX2_walks_20 : decode cX2_walks 20 = .ok (.aaload, 1) := dk_50 (dk_at dksX2_walks_0 20 rfl rfl)
theorem dX2_walks_21 : decode cX2_walks 21 = .ok (.iconst (-1), 1) := dk_2 (dk_at dksX2_walks_0 21 rfl rfl)
theorem dX2_walks_22 : decode cX2_walks 22 = .ok (.invokestatic 72, 3) := dk_184 0 72 (dk_at dksX2_walks_1 0 rfl rfl)
theorem dX2_walks_25 : decode cX2_walks 25 = .ok (.aload_n 0, 1) := dk_42 (dk_at dksX2_walks_1 3 rfl rfl)
theorem dX2_walks_26 : decode cX2_walks 26 = .ok (.getfield 20, 3) := dk_180 0 20 (dk_at dksX2_walks_1 4 rfl rfl)
theorem dX2_walks_29 : decode cX2_walks 29 = .ok (.iload_n 1, 1) := dk_27 (dk_at dksX2_walks_1 7 rfl rfl)
theorem dX2_walks_30 : decode cX2_walks 30 = .ok (.invokeinterface 52 2, 5) := by decide +kernel
theorem dX2_walks_35 : decode cX2_walks 35 = .ok (.checkcast 78, 3) := dk_192 0 78 (dk_at dksX2_walks_1 13 rfl rfl)
theorem dX2_walks_38 : decode cX2_walks 38 = .ok (.astore_n 2, 1) := dk_77 (dk_at dksX2_walks_1 16 rfl rfl)
theorem dX2_walks_39 : decode cX2_walks 39 = .ok (.aload_n 2, 1) := dk_44 (dk_at dksX2_walks_1 17 rfl rfl)
theorem dX2_walks_40 : decode cX2_walks 40 = .ok (.getfield 80, 3) := dk_180 0 80 (dk_at dksX2_walks_1 18 rfl rfl)
theorem dX2_walks_43 : decode cX2_walks 43 = .ok (.istore_n 3, 1) := dk_62 (dk_at dksX2_walks_1 21 rfl rfl)
theorem dX2_walks_44 : decode cX2_walks 44 = .ok (.aload_n 2, 1) := dk_44 (dk_at dksX2_walks_1 22 rfl rfl)
theorem dX2_walks_45 : decode cX2_walks 45 = .ok (.getfield 81, 3) := dk_180 0 81 (dk_at dksX2_walks_2 0 rfl rfl)
theorem dX2_walks_48 : decode cX2_walks 48 = .ok (.istore 4, 2) := dk_54 4 (dk_at dksX2_walks_2 3 rfl rfl)
theorem dX2_walks_50 : decode cX2_walks 50 = .ok (.aload_n 2, 1) := dk_44 (dk_at dksX2_walks_2 5 rfl rfl)
theorem dX2_walks_51 : decode cX2_walks 51 = .ok (.getfield 82, 3) := dk_180 0 82 (dk_at dksX2_walks_2 6 rfl rfl)
theorem dX2_walks_54 : decode cX2_walks 54 = .ok (.istore 5, 2) := dk_54 5 (dk_at dksX2_walks_2 9 rfl rfl)
theorem dX2_walks_56 : decode cX2_walks 56 = .ok (.aload_n 0, 1) := dk_42 (dk_at dksX2_walks_2 11 rfl rfl)
theorem dX2_walks_57 : decode cX2_walks 57 = .ok (.getfield 29, 3) := dk_180 0 29 (dk_at dksX2_walks_2 12 rfl rfl)
theorem dX2_walks_60 : decode cX2_walks 60 = .ok (.iload_n 1, 1) := dk_27 (dk_at dksX2_walks_2 15 rfl rfl)
theorem dX2_walks_61 : decode cX2_walks 61 = .ok (.aaload, 1) := dk_50 (dk_at dksX2_walks_2 16 rfl rfl)
theorem dX2_walks_62 : decode cX2_walks 62 = .ok (.iload 5, 2) := dk_21 5 (dk_at dksX2_walks_2 17 rfl rfl)
theorem dX2_walks_64 : decode cX2_walks 64 = .ok (.iload_n 3, 1) := dk_29 (dk_at dksX2_walks_2 19 rfl rfl)
theorem dX2_walks_65 : decode cX2_walks 65 = .ok (.bipush 100, 2) := dk_16 100 (dk_at dksX2_walks_2 20 rfl rfl)
theorem dX2_walks_67 : decode cX2_walks 67 = .ok (.iload 4, 2) := dk_21 4 (dk_at dksX2_walks_2 22 rfl rfl)
theorem dX2_walks_69 : decode cX2_walks 69 = .ok (.imul, 1) := dk_104 (dk_at dksX2_walks_3 0 rfl rfl)
theorem dX2_walks_70 : decode cX2_walks 70 = .ok (.iadd, 1) := dk_96 (dk_at dksX2_walks_3 1 rfl rfl)
theorem dX2_walks_71 : decode cX2_walks 71 = .ok (.iastore, 1) := dk_79 (dk_at dksX2_walks_3 2 rfl rfl)
theorem dX2_walks_72 : decode cX2_walks 72 = .ok (.iinc 5 1, 3) := dk_132 5 1 (dk_at dksX2_walks_3 3 rfl rfl)
theorem dX2_walks_75 : decode cX2_walks 75 = .ok (.iconst 0, 1) := dk_3 (dk_at dksX2_walks_3 6 rfl rfl)
theorem dX2_walks_76 : decode cX2_walks 76 = .ok (.istore 6, 2) := dk_54 6 (dk_at dksX2_walks_3 7 rfl rfl)
theorem dX2_walks_78 : decode cX2_walks 78 = .ok (.iload 6, 2) := dk_21 6 (dk_at dksX2_walks_3 9 rfl rfl)
theorem dX2_walks_80 : decode cX2_walks 80 = .ok (.aload_n 2, 1) := dk_44 (dk_at dksX2_walks_3 11 rfl rfl)
theorem dX2_walks_81 : decode cX2_walks 81 = .ok (.getfield 85, 3) := dk_180 0 85 (dk_at dksX2_walks_3 12 rfl rfl)
theorem dX2_walks_84 : decode cX2_walks 84 = .ok (.if_icmp .ge 146, 3) := dk_162 0 146 (dk_at dksX2_walks_3 15 rfl rfl)
theorem dX2_walks_87 : decode cX2_walks 87 = .ok (.iconst 0, 1) := dk_3 (dk_at dksX2_walks_3 18 rfl rfl)
theorem dX2_walks_88 : decode cX2_walks 88 = .ok (.istore 7, 2) := dk_54 7 (dk_at dksX2_walks_3 19 rfl rfl)
theorem dX2_walks_90 : decode cX2_walks 90 = .ok (.iload 7, 2) := dk_21 7 (dk_at dksX2_walks_3 21 rfl rfl)
theorem dX2_walks_92 : decode cX2_walks 92 = .ok (.aload_n 2, 1) := dk_44 (dk_at dksX2_walks_3 23 rfl rfl)
theorem dX2_walks_93 : decode cX2_walks 93 = .ok (.getfield 88, 3) := dk_180 0 88 (dk_at dksX2_walks_4 0 rfl rfl)
theorem dX2_walks_96 : decode cX2_walks 96 = .ok (.iload 6, 2) := dk_21 6 (dk_at dksX2_walks_4 3 rfl rfl)
theorem dX2_walks_98 : decode cX2_walks 98 = .ok (.iaload, 1) := dk_46 (dk_at dksX2_walks_4 5 rfl rfl)
theorem dX2_walks_99 : decode cX2_walks 99 = .ok (.if_icmp .ge 125, 3) := dk_162 0 125 (dk_at dksX2_walks_4 6 rfl rfl)
theorem dX2_walks_102 : decode cX2_walks 102 = .ok (.iload_n 3, 1) := dk_29 (dk_at dksX2_walks_4 9 rfl rfl)
theorem dX2_walks_103 : decode cX2_walks 103 = .ok (.aload_n 2, 1) := dk_44 (dk_at dksX2_walks_4 10 rfl rfl)
theorem dX2_walks_104 : decode cX2_walks 104 = .ok (.getfield 92, 3) := dk_180 0 92 (dk_at dksX2_walks_4 11 rfl rfl)
theorem dX2_walks_107 : decode cX2_walks 107 = .ok (.iload 6, 2) := dk_21 6 (dk_at dksX2_walks_4 14 rfl rfl)
theorem dX2_walks_109 : decode cX2_walks 109 = .ok (.iaload, 1) := dk_46 (dk_at dksX2_walks_4 16 rfl rfl)
theorem dX2_walks_110 : decode cX2_walks 110 = .ok (.iconst 1, 1) := dk_4 (dk_at dksX2_walks_4 17 rfl rfl)
theorem dX2_walks_111 : decode cX2_walks 111 = .ok (.if_icmp .ne 7, 3) := dk_160 0 7 (dk_at dksX2_walks_4 18 rfl rfl)
theorem dX2_walks_114 : decode cX2_walks 114 = .ok (.iconst 1, 1) := dk_4 (dk_at dksX2_walks_4 21 rfl rfl)
theorem dX2_walks_115 : decode cX2_walks 115 = .ok (.goto 19, 3) := dk_167 0 19 (dk_at dksX2_walks_5 0 rfl rfl)
theorem dX2_walks_118 : decode cX2_walks 118 = .ok (.aload_n 2, 1) := dk_44 (dk_at dksX2_walks_5 3 rfl rfl)
theorem dX2_walks_119 : decode cX2_walks 119 = .ok (.getfield 92, 3) := dk_180 0 92 (dk_at dksX2_walks_5 4 rfl rfl)
theorem dX2_walks_122 : decode cX2_walks 122 = .ok (.iload 6, 2) := dk_21 6 (dk_at dksX2_walks_5 7 rfl rfl)
theorem dX2_walks_124 : decode cX2_walks 124 = .ok (.iaload, 1) := dk_46 (dk_at dksX2_walks_5 9 rfl rfl)
theorem dX2_walks_125 : decode cX2_walks 125 = .ok (.iconst 3, 1) := dk_6 (dk_at dksX2_walks_5 10 rfl rfl)
theorem dX2_walks_126 : decode cX2_walks 126 = .ok (.if_icmp .ne 7, 3) := dk_160 0 7 (dk_at dksX2_walks_5 11 rfl rfl)
theorem dX2_walks_129 : decode cX2_walks 129 = .ok (.iconst (-1), 1) := dk_2 (dk_at dksX2_walks_5 14 rfl rfl)
theorem dX2_walks_130 : decode cX2_walks 130 = .ok (.goto 4, 3) := dk_167 0 4 (dk_at dksX2_walks_5 15 rfl rfl)
theorem dX2_walks_133 : decode cX2_walks 133 = .ok (.iconst 0, 1) := dk_3 (dk_at dksX2_walks_5 18 rfl rfl)
theorem dX2_walks_134 : decode cX2_walks 134 = .ok (.iadd, 1) := dk_96 (dk_at dksX2_walks_5 19 rfl rfl)
theorem dX2_walks_135 : decode cX2_walks 135 = .ok (.istore 8, 2) := dk_54 8 (dk_at dksX2_walks_5 20 rfl rfl)
theorem dX2_walks_137 : decode cX2_walks 137 = .ok (.iload 4, 2) := dk_21 4 (dk_at dksX2_walks_5 22 rfl rfl)
theorem dX2_walks_139 : decode cX2_walks 139 = .ok (.aload_n 2, 1) := dk_44 (dk_at dksX2_walks_6 0 rfl rfl)
theorem dX2_walks_140 : decode cX2_walks 140 = .ok (.getfield 92, 3) := dk_180 0 92 (dk_at dksX2_walks_6 1 rfl rfl)
theorem dX2_walks_143 : decode cX2_walks 143 = .ok (.iload 6, 2) := dk_21 6 (dk_at dksX2_walks_6 4 rfl rfl)
theorem dX2_walks_145 : decode cX2_walks 145 = .ok (.iaload, 1) := dk_46 (dk_at dksX2_walks_6 6 rfl rfl)
theorem dX2_walks_146 : decode cX2_walks 146 = .ok (.iconst 2, 1) := dk_5 (dk_at dksX2_walks_6 7 rfl rfl)
theorem dX2_walks_147 : decode cX2_walks 147 = .ok (.if_icmp .ne 7, 3) := dk_160 0 7 (dk_at dksX2_walks_6 8 rfl rfl)
theorem dX2_walks_150 : decode cX2_walks 150 = .ok (.iconst 1, 1) := dk_4 (dk_at dksX2_walks_6 11 rfl rfl)
theorem dX2_walks_151 : decode cX2_walks 151 = .ok (.goto 18, 3) := dk_167 0 18 (dk_at dksX2_walks_6 12 rfl rfl)
theorem dX2_walks_154 : decode cX2_walks 154 = .ok (.aload_n 2, 1) := dk_44 (dk_at dksX2_walks_6 15 rfl rfl)
theorem dX2_walks_155 : decode cX2_walks 155 = .ok (.getfield 92, 3) := dk_180 0 92 (dk_at dksX2_walks_6 16 rfl rfl)
theorem dX2_walks_158 : decode cX2_walks 158 = .ok (.iload 6, 2) := dk_21 6 (dk_at dksX2_walks_6 19 rfl rfl)
theorem dX2_walks_160 : decode cX2_walks 160 = .ok (.iaload, 1) := dk_46 (dk_at dksX2_walks_6 21 rfl rfl)
theorem dX2_walks_161 : decode cX2_walks 161 = .ok (.ifCond .ne 7, 3) := dk_154 0 7 (dk_at dksX2_walks_7 0 rfl rfl)
theorem dX2_walks_164 : decode cX2_walks 164 = .ok (.iconst (-1), 1) := dk_2 (dk_at dksX2_walks_7 3 rfl rfl)
theorem dX2_walks_165 : decode cX2_walks 165 = .ok (.goto 4, 3) := dk_167 0 4 (dk_at dksX2_walks_7 4 rfl rfl)
theorem dX2_walks_168 : decode cX2_walks 168 = .ok (.iconst 0, 1) := dk_3 (dk_at dksX2_walks_7 7 rfl rfl)
theorem dX2_walks_169 : decode cX2_walks 169 = .ok (.iadd, 1) := dk_96 (dk_at dksX2_walks_7 8 rfl rfl)
theorem dX2_walks_170 : decode cX2_walks 170 = .ok (.istore 9, 2) := dk_54 9 (dk_at dksX2_walks_7 9 rfl rfl)
theorem dX2_walks_172 : decode cX2_walks 172 = .ok (.aload_n 0, 1) := dk_42 (dk_at dksX2_walks_7 11 rfl rfl)
theorem dX2_walks_173 : decode cX2_walks 173 = .ok (.iload 8, 2) := dk_21 8 (dk_at dksX2_walks_7 12 rfl rfl)
theorem dX2_walks_175 : decode cX2_walks 175 = .ok (.iload 9, 2) := dk_21 9 (dk_at dksX2_walks_7 14 rfl rfl)
theorem dX2_walks_177 : decode cX2_walks 177 = .ok (.invokevirtual 95, 3) := dk_182 0 95 (dk_at dksX2_walks_7 16 rfl rfl)
theorem dX2_walks_180 : decode cX2_walks 180 = .ok (.ifCond .eq 10, 3) := dk_153 0 10 (dk_at dksX2_walks_7 19 rfl rfl)
theorem dX2_walks_183 : decode cX2_walks 183 = .ok (.iload 8, 2) := dk_21 8 (dk_at dksX2_walks_7 22 rfl rfl)
theorem dX2_walks_185 : decode cX2_walks 185 = .ok (.istore_n 3, 1) := dk_62 (dk_at dksX2_walks_8 0 rfl rfl)
theorem dX2_walks_186 : decode cX2_walks 186 = .ok (.iload 9, 2) := dk_21 9 (dk_at dksX2_walks_8 1 rfl rfl)
theorem dX2_walks_188 : decode cX2_walks 188 = .ok (.istore 4, 2) := dk_54 4 (dk_at dksX2_walks_8 3 rfl rfl)
theorem dX2_walks_190 : decode cX2_walks 190 = .ok (.iload 5, 2) := dk_21 5 (dk_at dksX2_walks_8 5 rfl rfl)
theorem dX2_walks_192 : decode cX2_walks 192 = .ok (.aload_n 0, 1) := dk_42 (dk_at dksX2_walks_8 7 rfl rfl)
theorem dX2_walks_193 : decode cX2_walks 193 = .ok (.getfield 98, 3) := dk_180 0 98 (dk_at dksX2_walks_8 8 rfl rfl)
theorem dX2_walks_196 : decode cX2_walks 196 = .ok (.if_icmp .ge 19, 3) := dk_162 0 19 (dk_at dksX2_walks_8 11 rfl rfl)
theorem dX2_walks_199 : decode cX2_walks 199 = .ok (.aload_n 0, 1) := dk_42 (dk_at dksX2_walks_8 14 rfl rfl)
theorem dX2_walks_200 : decode cX2_walks 200 = .ok (.getfield 29, 3) := dk_180 0 29 (dk_at dksX2_walks_8 15 rfl rfl)
theorem dX2_walks_203 : decode cX2_walks 203 = .ok (.iload_n 1, 1) := dk_27 (dk_at dksX2_walks_8 18 rfl rfl)
theorem dX2_walks_204 : decode cX2_walks 204 = .ok (.aaload, 1) := dk_50 (dk_at dksX2_walks_8 19 rfl rfl)
theorem dX2_walks_205 : decode cX2_walks 205 = .ok (.iload 5, 2) := dk_21 5 (dk_at dksX2_walks_8 20 rfl rfl)
theorem dX2_walks_207 : decode cX2_walks 207 = .ok (.iload_n 3, 1) := dk_29 (dk_at dksX2_walks_8 22 rfl rfl)
theorem dX2_walks_208 : decode cX2_walks 208 = .ok (.bipush 100, 2) := dk_16 100 (dk_at dksX2_walks_9 0 rfl rfl)
theorem dX2_walks_210 : decode cX2_walks 210 = .ok (.iload 4, 2) := dk_21 4 (dk_at dksX2_walks_9 2 rfl rfl)
theorem dX2_walks_212 : decode cX2_walks 212 = .ok (.imul, 1) := dk_104 (dk_at dksX2_walks_9 4 rfl rfl)
theorem dX2_walks_213 : decode cX2_walks 213 = .ok (.iadd, 1) := dk_96 (dk_at dksX2_walks_9 5 rfl rfl)
theorem dX2_walks_214 : decode cX2_walks 214 = .ok (.iastore, 1) := dk_79 (dk_at dksX2_walks_9 6 rfl rfl)
theorem dX2_walks_215 : decode cX2_walks 215 = .ok (.iinc 5 1, 3) := dk_132 5 1 (dk_at dksX2_walks_9 7 rfl rfl)
theorem dX2_walks_218 : decode cX2_walks 218 = .ok (.iinc 7 1, 3) := dk_132 7 1 (dk_at dksX2_walks_9 10 rfl rfl)
theorem dX2_walks_221 : decode cX2_walks 221 = .ok (.goto (-131), 3) := dk_167 255 125 (dk_at dksX2_walks_9 13 rfl rfl)
theorem dX2_walks_224 : decode cX2_walks 224 = .ok (.iinc 6 1, 3) := dk_132 6 1 (dk_at dksX2_walks_9 16 rfl rfl)
theorem dX2_walks_227 : decode cX2_walks 227 = .ok (.goto (-149), 3) := dk_167 255 107 (dk_at dksX2_walks_9 19 rfl rfl)
theorem dX2_walks_230 : decode cX2_walks 230 = .ok (.iinc 1 1, 3) := dk_132 1 1 (dk_at dksX2_walks_10 0 rfl rfl)
theorem dX2_walks_233 : decode cX2_walks 233 = .ok (.goto (-231), 3) := dk_167 255 25 (dk_at dksX2_walks_10 3 rfl rfl)
theorem dX2_walks_236 : decode cX2_walks 236 = .ok (.return_, 1) := dk_177 (dk_at dksX2_walks_10 6 rfl rfl)
abbrev cX2_isSeen : ByteArray := prog_15_method_7_code
def yX2_isSeen : MethodName := ⟨RX2, "isSeen", "(II)Z"⟩
def dkwX2_isSeen_6 : List UInt8 := [167, 255, 216, 4, 172]
abbrev dktX2_isSeen_6 : List UInt8 := dkwX2_isSeen_6 ++ []
def dkwX2_isSeen_5 : List UInt8 := [104, 96, 21, 4, 21, 8, 21, 6, 184, 0, 110, 104, 96, 182, 0, 95, 154, 0, 5, 3, 172, 132, 8, 1]
abbrev dktX2_isSeen_5 : List UInt8 := dkwX2_isSeen_5 ++ dktX2_isSeen_6
def dkwX2_isSeen_4 : List UInt8 := [159, 0, 5, 3, 172, 4, 54, 8, 21, 8, 21, 7, 162, 0, 39, 42, 29, 21, 8, 21, 5, 184, 0, 110]
abbrev dktX2_isSeen_4 : List UInt8 := dkwX2_isSeen_4 ++ dktX2_isSeen_5
def dkwX2_isSeen_3 : List UInt8 := [153, 0, 26, 21, 5, 153, 0, 23, 21, 6, 153, 0, 18, 21, 5, 184, 0, 101, 21, 6, 184, 0, 101]
abbrev dktX2_isSeen_3 : List UInt8 := dkwX2_isSeen_3 ++ dktX2_isSeen_4
def dkwX2_isSeen_2 : List UInt8 := [21, 4, 100, 54, 6, 21, 5, 184, 0, 101, 21, 6, 184, 0, 101, 184, 0, 107, 54, 7, 21, 7]
abbrev dktX2_isSeen_2 : List UInt8 := dkwX2_isSeen_2 ++ dktX2_isSeen_3
def dkwX2_isSeen_1 : List UInt8 := [180, 0, 58, 29, 100, 54, 5, 42, 180, 0, 14, 28, 185, 0, 52, 2, 0, 192, 0, 56, 180, 0, 61]
abbrev dktX2_isSeen_1 : List UInt8 := dkwX2_isSeen_1 ++ dktX2_isSeen_2
def dkwX2_isSeen_0 : List UInt8 := [27, 16, 100, 112, 62, 27, 16, 100, 108, 54, 4, 42, 180, 0, 14, 28, 185, 0, 52, 2, 0, 192, 0, 56]
abbrev dktX2_isSeen_0 : List UInt8 := dkwX2_isSeen_0 ++ dktX2_isSeen_1
theorem dksX2_isSeen_0 : cX2_isSeen.data.toList.drop 0 = dktX2_isSeen_0 := by decide +kernel
theorem dksX2_isSeen_1 : cX2_isSeen.data.toList.drop 24 = dktX2_isSeen_1 := dk_seg dksX2_isSeen_0 24 rfl rfl
theorem dksX2_isSeen_2 : cX2_isSeen.data.toList.drop 47 = dktX2_isSeen_2 := dk_seg dksX2_isSeen_1 23 rfl rfl
theorem dksX2_isSeen_3 : cX2_isSeen.data.toList.drop 69 = dktX2_isSeen_3 := dk_seg dksX2_isSeen_2 22 rfl rfl
theorem dksX2_isSeen_4 : cX2_isSeen.data.toList.drop 92 = dktX2_isSeen_4 := dk_seg dksX2_isSeen_3 23 rfl rfl
theorem dksX2_isSeen_5 : cX2_isSeen.data.toList.drop 116 = dktX2_isSeen_5 := dk_seg dksX2_isSeen_4 24 rfl rfl
theorem dksX2_isSeen_6 : cX2_isSeen.data.toList.drop 140 = dktX2_isSeen_6 := dk_seg dksX2_isSeen_5 24 rfl rfl
theorem dX2_isSeen_0 : decode cX2_isSeen 0 = .ok (.iload_n 1, 1) := dk_27 (dk_at dksX2_isSeen_0 0 rfl rfl)
theorem dX2_isSeen_1 : decode cX2_isSeen 1 = .ok (.bipush 100, 2) := dk_16 100 (dk_at dksX2_isSeen_0 1 rfl rfl)
theorem dX2_isSeen_3 : decode cX2_isSeen 3 = .ok (.irem, 1) := dk_112 (dk_at dksX2_isSeen_0 3 rfl rfl)
theorem dX2_isSeen_4 : decode cX2_isSeen 4 = .ok (.istore_n 3, 1) := dk_62 (dk_at dksX2_isSeen_0 4 rfl rfl)
theorem dX2_isSeen_5 : decode cX2_isSeen 5 = .ok (.iload_n 1, 1) := dk_27 (dk_at dksX2_isSeen_0 5 rfl rfl)
theorem dX2_isSeen_6 : decode cX2_isSeen 6 = .ok (.bipush 100, 2) := dk_16 100 (dk_at dksX2_isSeen_0 6 rfl rfl)
theorem dX2_isSeen_8 : decode cX2_isSeen 8 = .ok (.idiv, 1) := dk_108 (dk_at dksX2_isSeen_0 8 rfl rfl)
theorem dX2_isSeen_9 : decode cX2_isSeen 9 = .ok (.istore 4, 2) := dk_54 4 (dk_at dksX2_isSeen_0 9 rfl rfl)
theorem dX2_isSeen_11 : decode cX2_isSeen 11 = .ok (.aload_n 0, 1) := dk_42 (dk_at dksX2_isSeen_0 11 rfl rfl)
theorem dX2_isSeen_12 : decode cX2_isSeen 12 = .ok (.getfield 14, 3) := dk_180 0 14 (dk_at dksX2_isSeen_0 12 rfl rfl)
theorem dX2_isSeen_15 : decode cX2_isSeen 15 = .ok (.iload_n 2, 1) := dk_28 (dk_at dksX2_isSeen_0 15 rfl rfl)
theorem dX2_isSeen_16 : decode cX2_isSeen 16 = .ok (.invokeinterface 52 2, 5) := by decide +kernel
theorem dX2_isSeen_21 : decode cX2_isSeen 21 = .ok (.checkcast 56, 3) := dk_192 0 56 (dk_at dksX2_isSeen_0 21 rfl rfl)
theorem dX2_isSeen_24 : decode cX2_isSeen 24 = .ok (.getfield 58, 3) := dk_180 0 58 (dk_at dksX2_isSeen_1 0 rfl rfl)
theorem dX2_isSeen_27 : decode cX2_isSeen 27 = .ok (.iload_n 3, 1) := dk_29 (dk_at dksX2_isSeen_1 3 rfl rfl)
theorem dX2_isSeen_28 : decode cX2_isSeen 28 = .ok (.isub, 1) := dk_100 (dk_at dksX2_isSeen_1 4 rfl rfl)
theorem dX2_isSeen_29 : decode cX2_isSeen 29 = .ok (.istore 5, 2) := dk_54 5 (dk_at dksX2_isSeen_1 5 rfl rfl)
theorem dX2_isSeen_31 : decode cX2_isSeen 31 = .ok (.aload_n 0, 1) := dk_42 (dk_at dksX2_isSeen_1 7 rfl rfl)
theorem dX2_isSeen_32 : decode cX2_isSeen 32 = .ok (.getfield 14, 3) := dk_180 0 14 (dk_at dksX2_isSeen_1 8 rfl rfl)
theorem dX2_isSeen_35 : decode cX2_isSeen 35 = .ok (.iload_n 2, 1) := dk_28 (dk_at dksX2_isSeen_1 11 rfl rfl)
theorem dX2_isSeen_36 : decode cX2_isSeen 36 = .ok (.invokeinterface 52 2, 5) := by decide +kernel
theorem dX2_isSeen_41 : decode cX2_isSeen 41 = .ok (.checkcast 56, 3) := dk_192 0 56 (dk_at dksX2_isSeen_1 17 rfl rfl)
theorem dX2_isSeen_44 : decode cX2_isSeen 44 = .ok (.getfield 61, 3) := dk_180 0 61 (dk_at dksX2_isSeen_1 20 rfl rfl)
theorem dX2_isSeen_47 : decode cX2_isSeen 47 = .ok (.iload 4, 2) := dk_21 4 (dk_at dksX2_isSeen_2 0 rfl rfl)
theorem dX2_isSeen_49 : decode cX2_isSeen 49 = .ok (.isub, 1) := dk_100 (dk_at dksX2_isSeen_2 2 rfl rfl)
theorem dX2_isSeen_50 : decode cX2_isSeen 50 = .ok (.istore 6, 2) := dk_54 6 (dk_at dksX2_isSeen_2 3 rfl rfl)
theorem dX2_isSeen_52 : decode cX2_isSeen 52 = .ok (.iload 5, 2) := dk_21 5 (dk_at dksX2_isSeen_2 5 rfl rfl)
theorem dX2_isSeen_54 : decode cX2_isSeen 54 = .ok (.invokestatic 101, 3) := dk_184 0 101 (dk_at dksX2_isSeen_2 7 rfl rfl)
theorem dX2_isSeen_57 : decode cX2_isSeen 57 = .ok (.iload 6, 2) := dk_21 6 (dk_at dksX2_isSeen_2 10 rfl rfl)
theorem dX2_isSeen_59 : decode cX2_isSeen 59 = .ok (.invokestatic 101, 3) := dk_184 0 101 (dk_at dksX2_isSeen_2 12 rfl rfl)
theorem dX2_isSeen_62 : decode cX2_isSeen 62 = .ok (.invokestatic 107, 3) := dk_184 0 107 (dk_at dksX2_isSeen_2 15 rfl rfl)
theorem dX2_isSeen_65 : decode cX2_isSeen 65 = .ok (.istore 7, 2) := dk_54 7 (dk_at dksX2_isSeen_2 18 rfl rfl)
theorem dX2_isSeen_67 : decode cX2_isSeen 67 = .ok (.iload 7, 2) := dk_21 7 (dk_at dksX2_isSeen_2 20 rfl rfl)
theorem dX2_isSeen_69 : decode cX2_isSeen 69 = .ok (.ifCond .eq 26, 3) := dk_153 0 26 (dk_at dksX2_isSeen_3 0 rfl rfl)
theorem dX2_isSeen_72 : decode cX2_isSeen 72 = .ok (.iload 5, 2) := dk_21 5 (dk_at dksX2_isSeen_3 3 rfl rfl)
theorem dX2_isSeen_74 : decode cX2_isSeen 74 = .ok (.ifCond .eq 23, 3) := dk_153 0 23 (dk_at dksX2_isSeen_3 5 rfl rfl)
theorem dX2_isSeen_77 : decode cX2_isSeen 77 = .ok (.iload 6, 2) := dk_21 6 (dk_at dksX2_isSeen_3 8 rfl rfl)
theorem dX2_isSeen_79 : decode cX2_isSeen 79 = .ok (.ifCond .eq 18, 3) := dk_153 0 18 (dk_at dksX2_isSeen_3 10 rfl rfl)
theorem dX2_isSeen_82 : decode cX2_isSeen 82 = .ok (.iload 5, 2) := dk_21 5 (dk_at dksX2_isSeen_3 13 rfl rfl)
theorem dX2_isSeen_84 : decode cX2_isSeen 84 = .ok (.invokestatic 101, 3) := dk_184 0 101 (dk_at dksX2_isSeen_3 15 rfl rfl)
theorem dX2_isSeen_87 : decode cX2_isSeen 87 = .ok (.iload 6, 2) := dk_21 6 (dk_at dksX2_isSeen_3 18 rfl rfl)
theorem dX2_isSeen_89 : decode cX2_isSeen 89 = .ok (.invokestatic 101, 3) := dk_184 0 101 (dk_at dksX2_isSeen_3 20 rfl rfl)
theorem dX2_isSeen_92 : decode cX2_isSeen 92 = .ok (.if_icmp .eq 5, 3) := dk_159 0 5 (dk_at dksX2_isSeen_4 0 rfl rfl)
theorem dX2_isSeen_95 : decode cX2_isSeen 95 = .ok (.iconst 0, 1) := dk_3 (dk_at dksX2_isSeen_4 3 rfl rfl)
theorem dX2_isSeen_96 : decode cX2_isSeen 96 = .ok (.ireturn, 1) := dk_172 (dk_at dksX2_isSeen_4 4 rfl rfl)
theorem dX2_isSeen_97 : decode cX2_isSeen 97 = .ok (.iconst 1, 1) := dk_4 (dk_at dksX2_isSeen_4 5 rfl rfl)
theorem dX2_isSeen_98 : decode cX2_isSeen 98 = .ok (.istore 8, 2) := dk_54 8 (dk_at dksX2_isSeen_4 6 rfl rfl)
theorem dX2_isSeen_100 : decode cX2_isSeen 100 = .ok (.iload 8, 2) := dk_21 8 (dk_at dksX2_isSeen_4 8 rfl rfl)
theorem dX2_isSeen_102 : decode cX2_isSeen 102 = .ok (.iload 7, 2) := dk_21 7 (dk_at dksX2_isSeen_4 10 rfl rfl)
theorem dX2_isSeen_104 : decode cX2_isSeen 104 = .ok (.if_icmp .ge 39, 3) := dk_162 0 39 (dk_at dksX2_isSeen_4 12 rfl rfl)
theorem dX2_isSeen_107 : decode cX2_isSeen 107 = .ok (.aload_n 0, 1) := dk_42 (dk_at dksX2_isSeen_4 15 rfl rfl)
theorem dX2_isSeen_108 : decode cX2_isSeen 108 = .ok (.iload_n 3, 1) := dk_29 (dk_at dksX2_isSeen_4 16 rfl rfl)
theorem dX2_isSeen_109 : decode cX2_isSeen 109 = .ok (.iload 8, 2) := dk_21 8 (dk_at dksX2_isSeen_4 17 rfl rfl)
theorem dX2_isSeen_111 : decode cX2_isSeen 111 = .ok (.iload 5, 2) := dk_21 5 (dk_at dksX2_isSeen_4 19 rfl rfl)
theorem dX2_isSeen_113 : decode cX2_isSeen 113 = .ok (.invokestatic 110, 3) := dk_184 0 110 (dk_at dksX2_isSeen_4 21 rfl rfl)
theorem dX2_isSeen_116 : decode cX2_isSeen 116 = .ok (.imul, 1) := dk_104 (dk_at dksX2_isSeen_5 0 rfl rfl)
theorem dX2_isSeen_117 : decode cX2_isSeen 117 = .ok (.iadd, 1) := dk_96 (dk_at dksX2_isSeen_5 1 rfl rfl)
theorem dX2_isSeen_118 : decode cX2_isSeen 118 = .ok (.iload 4, 2) := dk_21 4 (dk_at dksX2_isSeen_5 2 rfl rfl)
theorem dX2_isSeen_120 : decode cX2_isSeen 120 = .ok (.iload 8, 2) := dk_21 8 (dk_at dksX2_isSeen_5 4 rfl rfl)
theorem dX2_isSeen_122 : decode cX2_isSeen 122 = .ok (.iload 6, 2) := dk_21 6 (dk_at dksX2_isSeen_5 6 rfl rfl)
theorem dX2_isSeen_124 : decode cX2_isSeen 124 = .ok (.invokestatic 110, 3) := dk_184 0 110 (dk_at dksX2_isSeen_5 8 rfl rfl)
theorem dX2_isSeen_127 : decode cX2_isSeen 127 = .ok (.imul, 1) := dk_104 (dk_at dksX2_isSeen_5 11 rfl rfl)
theorem dX2_isSeen_128 : decode cX2_isSeen 128 = .ok (.iadd, 1) := dk_96 (dk_at dksX2_isSeen_5 12 rfl rfl)
theorem dX2_isSeen_129 : decode cX2_isSeen 129 = .ok (.invokevirtual 95, 3) := dk_182 0 95 (dk_at dksX2_isSeen_5 13 rfl rfl)
theorem dX2_isSeen_132 : decode cX2_isSeen 132 = .ok (.ifCond .ne 5, 3) := dk_154 0 5 (dk_at dksX2_isSeen_5 16 rfl rfl)
theorem dX2_isSeen_135 : decode cX2_isSeen 135 = .ok (.iconst 0, 1) := dk_3 (dk_at dksX2_isSeen_5 19 rfl rfl)
theorem dX2_isSeen_136 : decode cX2_isSeen 136 = .ok (.ireturn, 1) := dk_172 (dk_at dksX2_isSeen_5 20 rfl rfl)
theorem dX2_isSeen_137 : decode cX2_isSeen 137 = .ok (.iinc 8 1, 3) := dk_132 8 1 (dk_at dksX2_isSeen_5 21 rfl rfl)
theorem dX2_isSeen_140 : decode cX2_isSeen 140 = .ok (.goto (-40), 3) := dk_167 255 216 (dk_at dksX2_isSeen_6 0 rfl rfl)
theorem dX2_isSeen_143 : decode cX2_isSeen 143 = .ok (.iconst 1, 1) := dk_4 (dk_at dksX2_isSeen_6 3 rfl rfl)
theorem dX2_isSeen_144 : decode cX2_isSeen 144 = .ok (.ireturn, 1) := dk_172 (dk_at dksX2_isSeen_6 4 rfl rfl)
abbrev cX2_is : ByteArray := prog_15_method_2_code
def yX2_is : MethodName := ⟨RX2, "is", "()Z"⟩
def dkwX2_is_0 : List UInt8 := [42, 180, 0, 32, 158, 0, 7, 4, 167, 0, 4, 3, 172]
abbrev dktX2_is_0 : List UInt8 := dkwX2_is_0 ++ []
theorem dksX2_is_0 : cX2_is.data.toList.drop 0 = dktX2_is_0 := by decide +kernel
theorem dX2_is_0 : decode cX2_is 0 = .ok (.aload_n 0, 1) := dk_42 (dk_at dksX2_is_0 0 rfl rfl)
theorem dX2_is_1 : decode cX2_is 1 = .ok (.getfield 32, 3) := dk_180 0 32 (dk_at dksX2_is_0 1 rfl rfl)
theorem dX2_is_4 : decode cX2_is 4 = .ok (.ifCond .le 7, 3) := dk_158 0 7 (dk_at dksX2_is_0 4 rfl rfl)
theorem dX2_is_7 : decode cX2_is 7 = .ok (.iconst 1, 1) := dk_4 (dk_at dksX2_is_0 7 rfl rfl)
theorem dX2_is_8 : decode cX2_is 8 = .ok (.goto 4, 3) := dk_167 0 4 (dk_at dksX2_is_0 8 rfl rfl)
theorem dX2_is_11 : decode cX2_is 11 = .ok (.iconst 0, 1) := dk_3 (dk_at dksX2_is_0 11 rfl rfl)
theorem dX2_is_12 : decode cX2_is 12 = .ok (.ireturn, 1) := dk_172 (dk_at dksX2_is_0 12 rfl rfl)
theorem q133 : (Jvm.Cond.initialized "UnseenClock$Square") ∈ lw_all := lw_g (lw_at lw_m1 3 rfl) rfl
theorem q390 : (Jvm.Cond.instantiable "UnseenClock$Square" (9 : Nat)) ∈ lw_all := lw_g (lw_at lw_m2 20 rfl) rfl
theorem q392 : (Jvm.Cond.instanceMethod ({ cls := "UnseenClock$Square", name := "<init>", desc := "()V" } : Jvm.MethodName)) ∈ lw_all := lw_g (lw_at lw_m2 22 rfl) rfl
theorem q393 : (Jvm.Cond.code ({ cls := "UnseenClock$Square", name := "<init>", desc := "()V" } : Jvm.MethodName) prog_15_method_1_code (1 : Nat) (Option.none : Option Jvm.ClassFile.FieldType)) ∈ lw_all := lw_g (lw_at lw_m2 23 rfl) rfl
theorem q394 : (Jvm.Cond.methodLink "UnseenClock$Square" (3 : Nat) ({ cls := "java/lang/Object", name := "<init>", desc := "()V" } : Jvm.MethodName)) ∈ lw_all := lw_g (lw_at lw_m2 24 rfl) rfl
theorem q395 : (Jvm.Cond.classLink "UnseenClock$Square" (9 : Nat) "java/util/ArrayList") ∈ lw_all := lw_g (lw_at lw_m2 25 rfl) rfl
theorem q397 : (Jvm.Cond.methodLink "UnseenClock$Square" (11 : Nat) ({ cls := "java/util/ArrayList", name := "<init>", desc := "(I)V" } : Jvm.MethodName)) ∈ lw_all := lw_g (lw_at lw_m2 27 rfl) rfl
theorem q423 : (Jvm.Cond.classLink "UnseenClock$Square" (27 : Nat) "[[I") ∈ lw_all := lw_g (lw_at lw_m2 53 rfl) rfl
theorem q425 : (Jvm.Cond.fieldLink "UnseenClock$Square" (14 : Nat) "UnseenClock$Square" "clocks" "Ljava/util/List;") ∈ lw_all := lw_g (lw_at lw_m2 55 rfl) rfl
theorem q429 : (Jvm.Cond.fieldLink "UnseenClock$Square" (20 : Nat) "UnseenClock$Square" "people" "Ljava/util/List;") ∈ lw_all := lw_g (lw_at lw_m2 59 rfl) rfl
theorem q433 : (Jvm.Cond.fieldLink "UnseenClock$Square" (23 : Nat) "UnseenClock$Square" "wall" "[Z") ∈ lw_all := lw_g (lw_at lw_m2 63 rfl) rfl
theorem q435 : (Jvm.Cond.fieldLink "UnseenClock$Square" (29 : Nat) "UnseenClock$Square" "cell" "[[I") ∈ lw_all := lw_g (lw_at lw_m2 65 rfl) rfl
theorem q438 : (Jvm.Cond.fieldLink "UnseenClock$Square" (36 : Nat) "UnseenClock$Square" "wide" "I") ∈ lw_all := lw_g (lw_at lw_m2 68 rfl) rfl
theorem q441 : (Jvm.Cond.fieldLink "UnseenClock$Square" (43 : Nat) "UnseenClock$Square" "length" "I") ∈ lw_all := lw_g (lw_at lw_m2 71 rfl) rfl
theorem q445 : (Jvm.Cond.fieldLink "UnseenClock$Square" (98 : Nat) "UnseenClock$Square" "minutes" "I") ∈ lw_all := lw_g (lw_at lw_m2 75 rfl) rfl
theorem q451 : (Jvm.Cond.fieldLink "UnseenClock$Square" (32 : Nat) "UnseenClock$Square" "lines" "I") ∈ lw_all := lw_g (lw_at lw_m2 81 rfl) rfl
theorem q454 : (Jvm.Cond.laysFinal "UnseenClock$Square" "UnseenClock$Square" "clocks" "Ljava/util/List;") ∈ lw_all := lw_g (lw_at lw_m2 84 rfl) rfl
theorem q455 : (Jvm.Cond.soleField "UnseenClock$Square" "clocks") ∈ lw_all := lw_g (lw_at lw_m2 85 rfl) rfl
theorem q456 : (Jvm.Cond.laysFinal "UnseenClock$Square" "UnseenClock$Square" "people" "Ljava/util/List;") ∈ lw_all := lw_g (lw_at lw_m2 86 rfl) rfl
theorem q457 : (Jvm.Cond.soleField "UnseenClock$Square" "people") ∈ lw_all := lw_g (lw_at lw_m2 87 rfl) rfl
theorem q458 : (Jvm.Cond.laysFinal "UnseenClock$Square" "UnseenClock$Square" "wall" "[Z") ∈ lw_all := lw_g (lw_at lw_m2 88 rfl) rfl
theorem q459 : (Jvm.Cond.soleField "UnseenClock$Square" "wall") ∈ lw_all := lw_g (lw_at lw_m2 89 rfl) rfl
theorem q460 : (Jvm.Cond.laysFinal "UnseenClock$Square" "UnseenClock$Square" "cell" "[[I") ∈ lw_all := lw_g (lw_at lw_m2 90 rfl) rfl
theorem q461 : (Jvm.Cond.soleField "UnseenClock$Square" "cell") ∈ lw_all := lw_g (lw_at lw_m2 91 rfl) rfl
theorem q462 : (Jvm.Cond.lays "UnseenClock$Square" "UnseenClock$Square" "wide" "I") ∈ lw_all := lw_g (lw_at lw_m2 92 rfl) rfl
theorem q463 : (Jvm.Cond.soleField "UnseenClock$Square" "wide") ∈ lw_all := lw_g (lw_at lw_m2 93 rfl) rfl
theorem q464 : (Jvm.Cond.lays "UnseenClock$Square" "UnseenClock$Square" "length" "I") ∈ lw_all := lw_g (lw_at lw_m2 94 rfl) rfl
theorem q465 : (Jvm.Cond.soleField "UnseenClock$Square" "length") ∈ lw_all := lw_g (lw_at lw_m2 95 rfl) rfl
theorem q466 : (Jvm.Cond.lays "UnseenClock$Square" "UnseenClock$Square" "minutes" "I") ∈ lw_all := lw_g (lw_at lw_m2 96 rfl) rfl
theorem q467 : (Jvm.Cond.soleField "UnseenClock$Square" "minutes") ∈ lw_all := lw_g (lw_at lw_m2 97 rfl) rfl
theorem q468 : (Jvm.Cond.lays "UnseenClock$Square" "UnseenClock$Square" "walls" "I") ∈ lw_all := lw_g (lw_at lw_m2 98 rfl) rfl
theorem q469 : (Jvm.Cond.soleField "UnseenClock$Square" "walls") ∈ lw_all := lw_g (lw_at lw_m2 99 rfl) rfl
theorem q470 : (Jvm.Cond.lays "UnseenClock$Square" "UnseenClock$Square" "lines" "I") ∈ lw_all := lw_g (lw_at lw_m2 100 rfl) rfl
theorem q471 : (Jvm.Cond.soleField "UnseenClock$Square" "lines") ∈ lw_all := lw_g (lw_at lw_m2 101 rfl) rfl
theorem q472 : (Jvm.Cond.superclass "UnseenClock$Square" "java/lang/Object") ∈ lw_all := lw_g (lw_at lw_m2 102 rfl) rfl
theorem q786 : (Jvm.Cond.instanceMethod ({ cls := "UnseenClock$Square", name := "isFree", desc := "(II)Z" } : Jvm.MethodName)) ∈ lw_all := lw_g (lw_at lw_m3 176 rfl) rfl
theorem q787 : (Jvm.Cond.selects "UnseenClock$Square" ({ cls := "UnseenClock$Square", name := "isFree", desc := "(II)Z" } : Jvm.MethodName) ({ cls := "UnseenClock$Square", name := "isFree", desc := "(II)Z" } : Jvm.MethodName)) ∈ lw_all := lw_g (lw_at lw_m3 177 rfl) rfl
theorem q788 : (Jvm.Cond.code ({ cls := "UnseenClock$Square", name := "isFree", desc := "(II)Z" } : Jvm.MethodName) prog_15_method_5_code (3 : Nat) (Option.some Jvm.ClassFile.FieldType.boolean)) ∈ lw_all := lw_g (lw_at lw_m3 178 rfl) rfl
theorem q789 : (Jvm.Cond.methodLink "UnseenClock$Square" (64 : Nat) ({ cls := "UnseenClock$Square", name := "has", desc := "(II)Z" } : Jvm.MethodName)) ∈ lw_all := lw_g (lw_at lw_m3 179 rfl) rfl
theorem q790 : (Jvm.Cond.instanceMethod ({ cls := "UnseenClock$Square", name := "has", desc := "(II)Z" } : Jvm.MethodName)) ∈ lw_all := lw_g (lw_at lw_m3 180 rfl) rfl
theorem q791 : (Jvm.Cond.selects "UnseenClock$Square" ({ cls := "UnseenClock$Square", name := "has", desc := "(II)Z" } : Jvm.MethodName) ({ cls := "UnseenClock$Square", name := "has", desc := "(II)Z" } : Jvm.MethodName)) ∈ lw_all := lw_g (lw_at lw_m3 181 rfl) rfl
theorem q792 : (Jvm.Cond.code ({ cls := "UnseenClock$Square", name := "has", desc := "(II)Z" } : Jvm.MethodName) prog_15_method_3_code (3 : Nat) (Option.some Jvm.ClassFile.FieldType.boolean)) ∈ lw_all := lw_g (lw_at lw_m3 182 rfl) rfl
theorem q793 : (Jvm.Cond.methodLinkNest "UnseenClock$Square" (39 : Nat) ({ cls := "UnseenClock", name := "in", desc := "(JJJ)Z" } : Jvm.MethodName) "UnseenClock") ∈ lw_tbl := lw_at lw_m3 183 rfl
theorem q794 : (Jvm.Cond.methodLink "UnseenClock$Square" (68 : Nat) ({ cls := "UnseenClock$Square", name := "clockAt", desc := "(II)I" } : Jvm.MethodName)) ∈ lw_all := lw_g (lw_at lw_m3 184 rfl) rfl
theorem q795 : (Jvm.Cond.instanceMethod ({ cls := "UnseenClock$Square", name := "clockAt", desc := "(II)I" } : Jvm.MethodName)) ∈ lw_all := lw_g (lw_at lw_m3 185 rfl) rfl
theorem q796 : (Jvm.Cond.selects "UnseenClock$Square" ({ cls := "UnseenClock$Square", name := "clockAt", desc := "(II)I" } : Jvm.MethodName) ({ cls := "UnseenClock$Square", name := "clockAt", desc := "(II)I" } : Jvm.MethodName)) ∈ lw_all := lw_g (lw_at lw_m3 186 rfl) rfl
theorem q797 : (Jvm.Cond.code ({ cls := "UnseenClock$Square", name := "clockAt", desc := "(II)I" } : Jvm.MethodName) prog_15_method_4_code (4 : Nat) (Option.some Jvm.ClassFile.FieldType.int)) ∈ lw_all := lw_g (lw_at lw_m3 187 rfl) rfl
theorem q798 : (Jvm.Cond.interfaceEntry "UnseenClock$Square" (46 : Nat)) ∈ lw_tbl := lw_at lw_m3 188 rfl
theorem q799 : (Jvm.Cond.methodLink "UnseenClock$Square" (46 : Nat) ({ cls := "java/util/List", name := "size", desc := "()I" } : Jvm.MethodName)) ∈ lw_all := lw_g (lw_at lw_m3 189 rfl) rfl
theorem q808 : (Jvm.Cond.interfaceEntry "UnseenClock$Square" (52 : Nat)) ∈ lw_tbl := lw_at lw_m3 198 rfl
theorem q809 : (Jvm.Cond.methodLink "UnseenClock$Square" (52 : Nat) ({ cls := "java/util/List", name := "get", desc := "(I)Ljava/lang/Object;" } : Jvm.MethodName)) ∈ lw_all := lw_g (lw_at lw_m3 199 rfl) rfl
theorem q825 : (Jvm.Cond.classLink "UnseenClock$Square" (56 : Nat) "UnseenClock$Dial") ∈ lw_all := lw_g (lw_at lw_m3 215 rfl) rfl
theorem q844 : (Jvm.Cond.fieldLinkNest "UnseenClock$Square" (58 : Nat) "UnseenClock$Dial" "x" "I" "UnseenClock") ∈ lw_tbl := lw_at lw_m3 234 rfl
theorem q846 : (Jvm.Cond.fieldLinkNest "UnseenClock$Square" (61 : Nat) "UnseenClock$Dial" "y" "I" "UnseenClock") ∈ lw_tbl := lw_at lw_m3 236 rfl
theorem q921 : (Jvm.Cond.selects "UnseenClock$Square" ({ cls := "java/lang/Object", name := "getClass", desc := "()Ljava/lang/Class;" } : Jvm.MethodName) ({ cls := "java/lang/Object", name := "getClass", desc := "()Ljava/lang/Class;" } : Jvm.MethodName)) ∈ lw_all := lw_g (lw_at lw_m4 71 rfl) rfl
theorem q953 : (Jvm.Cond.fieldLinkNest "UnseenClock$Square" (80 : Nat) "UnseenClock$Person" "x" "I" "UnseenClock") ∈ lw_tbl := lw_at lw_m4 103 rfl
theorem q955 : (Jvm.Cond.fieldLinkNest "UnseenClock$Square" (81 : Nat) "UnseenClock$Person" "y" "I" "UnseenClock") ∈ lw_tbl := lw_at lw_m4 105 rfl
theorem q957 : (Jvm.Cond.fieldLinkNest "UnseenClock$Square" (82 : Nat) "UnseenClock$Person" "from" "I" "UnseenClock") ∈ lw_tbl := lw_at lw_m4 107 rfl
theorem q959 : (Jvm.Cond.fieldLinkNest "UnseenClock$Square" (92 : Nat) "UnseenClock$Person" "way" "[I" "UnseenClock") ∈ lw_tbl := lw_at lw_m4 109 rfl
theorem q962 : (Jvm.Cond.fieldLinkNest "UnseenClock$Square" (88 : Nat) "UnseenClock$Person" "many" "[I" "UnseenClock") ∈ lw_tbl := lw_at lw_m4 112 rfl
theorem q967 : (Jvm.Cond.fieldLinkNest "UnseenClock$Square" (85 : Nat) "UnseenClock$Person" "legs" "I" "UnseenClock") ∈ lw_tbl := lw_at lw_m4 117 rfl
theorem q1106 : (Jvm.Cond.instanceMethod ({ cls := "UnseenClock$Square", name := "walks", desc := "()V" } : Jvm.MethodName)) ∈ lw_all := lw_g (lw_at lw_m5 16 rfl) rfl
theorem q1107 : (Jvm.Cond.selects "UnseenClock$Square" ({ cls := "UnseenClock$Square", name := "walks", desc := "()V" } : Jvm.MethodName) ({ cls := "UnseenClock$Square", name := "walks", desc := "()V" } : Jvm.MethodName)) ∈ lw_all := lw_g (lw_at lw_m5 17 rfl) rfl
theorem q1108 : (Jvm.Cond.code ({ cls := "UnseenClock$Square", name := "walks", desc := "()V" } : Jvm.MethodName) prog_15_method_6_code (10 : Nat) (Option.none : Option Jvm.ClassFile.FieldType)) ∈ lw_all := lw_g (lw_at lw_m5 18 rfl) rfl
theorem q1109 : (Jvm.Cond.methodLink "UnseenClock$Square" (72 : Nat) ({ cls := "java/util/Arrays", name := "fill", desc := "([II)V" } : Jvm.MethodName)) ∈ lw_all := lw_g (lw_at lw_m5 19 rfl) rfl
theorem q1112 : (Jvm.Cond.classLink "UnseenClock$Square" (78 : Nat) "UnseenClock$Person") ∈ lw_all := lw_g (lw_at lw_m5 22 rfl) rfl
theorem q1113 : (Jvm.Cond.methodLink "UnseenClock$Square" (95 : Nat) ({ cls := "UnseenClock$Square", name := "isFree", desc := "(II)Z" } : Jvm.MethodName)) ∈ lw_all := lw_g (lw_at lw_m5 23 rfl) rfl
theorem q1170 : (Jvm.Cond.instanceMethod ({ cls := "UnseenClock$Square", name := "isSeen", desc := "(II)Z" } : Jvm.MethodName)) ∈ lw_all := lw_g (lw_at lw_m5 80 rfl) rfl
theorem q1171 : (Jvm.Cond.selects "UnseenClock$Square" ({ cls := "UnseenClock$Square", name := "isSeen", desc := "(II)Z" } : Jvm.MethodName) ({ cls := "UnseenClock$Square", name := "isSeen", desc := "(II)Z" } : Jvm.MethodName)) ∈ lw_all := lw_g (lw_at lw_m5 81 rfl) rfl
theorem q1172 : (Jvm.Cond.code ({ cls := "UnseenClock$Square", name := "isSeen", desc := "(II)Z" } : Jvm.MethodName) prog_15_method_7_code (9 : Nat) (Option.some Jvm.ClassFile.FieldType.boolean)) ∈ lw_all := lw_g (lw_at lw_m5 82 rfl) rfl
theorem q1173 : (Jvm.Cond.methodLink "UnseenClock$Square" (101 : Nat) ({ cls := "java/lang/Math", name := "abs", desc := "(I)I" } : Jvm.MethodName)) ∈ lw_all := lw_g (lw_at lw_m5 83 rfl) rfl
theorem q1176 : (Jvm.Cond.methodLink "UnseenClock$Square" (107 : Nat) ({ cls := "java/lang/Math", name := "max", desc := "(II)I" } : Jvm.MethodName)) ∈ lw_all := lw_g (lw_at lw_m5 86 rfl) rfl
theorem q1177 : (Jvm.Cond.methodLink "UnseenClock$Square" (110 : Nat) ({ cls := "java/lang/Integer", name := "signum", desc := "(I)I" } : Jvm.MethodName)) ∈ lw_all := lw_g (lw_at lw_m5 87 rfl) rfl
theorem q1313 : (Jvm.Cond.instanceMethod ({ cls := "UnseenClock$Square", name := "is", desc := "()Z" } : Jvm.MethodName)) ∈ lw_all := lw_g (lw_at lw_m5 223 rfl) rfl
theorem q1314 : (Jvm.Cond.selects "UnseenClock$Square" ({ cls := "UnseenClock$Square", name := "is", desc := "()Z" } : Jvm.MethodName) ({ cls := "UnseenClock$Square", name := "is", desc := "()Z" } : Jvm.MethodName)) ∈ lw_all := lw_g (lw_at lw_m5 224 rfl) rfl
theorem q1315 : (Jvm.Cond.code ({ cls := "UnseenClock$Square", name := "is", desc := "()Z" } : Jvm.MethodName) prog_15_method_2_code (1 : Nat) (Option.some Jvm.ClassFile.FieldType.boolean)) ∈ lw_all := lw_g (lw_at lw_m5 225 rfl) rfl
theorem q2313 : (Jvm.Cond.castable "UnseenClock$Square" "java/lang/Object") ∈ lw_tbl := lw_at lw_m10 23 rfl
theorem in_X2 : ∀ w ∈ wsX20, w ∈ lw_all := lw_in wsX20 [454, 456, 458, 460, 462, 464, 466, 468, 470] (by decide +kernel) (by decide +kernel)
/-! UnseenClock$Course -/
set_option maxRecDepth 100000
def RX3 : String := "UnseenClock$Course"
def TX3 : u_T := fun k => match k with
  | 0 => ("UnseenClock$Course", "look", "[[I", true)
  | 1 => ("UnseenClock$Course", "shows", "[[I", true)
  | 2 => ("UnseenClock$Course", "value", "[[I", true)
  | 3 => ("UnseenClock$Course", "settled", "[I", true)
  | 4 => ("UnseenClock$Course", "looking", "[I", true)
  | 5 => ("UnseenClock$Course", "opened", "[I", true)
  | 6 => ("UnseenClock$Course", "isYes", "[Z", true)
  | 7 => ("UnseenClock$Course", "pace", "[I", true)
  | 8 => ("UnseenClock$Course", "keeps", "[I", true)
  | 9 => ("UnseenClock$Course", "kept", "[I", true)
  | 10 => ("UnseenClock$Course", "last", "[I", true)
  | 11 => ("UnseenClock$Course", "drawn", "[[Z", true)
  | 12 => ("UnseenClock$Course", "square", "LUnseenClock$Square;", false)
  | 13 => ("UnseenClock$Course", "away", "I", false)
  | 14 => ("UnseenClock$Course", "opens", "I", false)
  | 15 => ("UnseenClock$Course", "told", "I", false)
  | 16 => ("UnseenClock$Course", "isDay", "Z", false)
  | _ => ("UnseenClock$Course", "x", "J", false)
def tyX3 : Nat → FieldType := fun k => match k with
  | 0 => .array (.array .int)
  | 1 => .array (.array .int)
  | 2 => .array (.array .int)
  | 3 => .array .int
  | 4 => .array .int
  | 5 => .array .int
  | 6 => .array .boolean
  | 7 => .array .int
  | 8 => .array .int
  | 9 => .array .int
  | 10 => .array .int
  | 11 => .array (.array .boolean)
  | 12 => .object "UnseenClock$Square"
  | 13 => .int
  | 14 => .int
  | 15 => .int
  | 16 => .boolean
  | _ => .long
abbrev wsX30 : List Cond := u_ws RX3 TX3 18
set_option maxRecDepth 100000 in
theorem nmX3 : ∀ a, a < 18 → ∀ b, b < 18 → a ≠ b → (TX3 a).2.1 ≠ (TX3 b).2.1 := by decide +kernel
set_option maxRecDepth 100000 in
theorem tyX3_ok : ∀ k, k < 18 → parseFieldDescriptor (TX3 k).2.2.1 = some (tyX3 k) := by decide +kernel
abbrev cX3_init : ByteArray := prog_3_method_1_code
def yX3_init : MethodName := ⟨RX3, "<init>", "()V"⟩
def dkwX3_init_4 : List UInt8 := [42, 7, 188, 10, 181, 0, 45, 42, 16, 8, 7, 197, 0, 48, 2, 181, 0, 50, 177]
abbrev dktX3_init_4 : List UInt8 := dkwX3_init_4 ++ []
def dkwX3_init_3 : List UInt8 := [181, 0, 32, 42, 7, 188, 10, 181, 0, 36, 42, 7, 188, 10, 181, 0, 39, 42, 7, 188, 10, 181, 0, 42]
abbrev dktX3_init_3 : List UInt8 := dkwX3_init_3 ++ dktX3_init_4
def dkwX3_init_2 : List UInt8 := [16, 8, 188, 10, 181, 0, 26, 42, 17, 5, 0, 188, 10, 181, 0, 29, 42, 17, 5, 0, 188, 4]
abbrev dktX3_init_2 : List UInt8 := dkwX3_init_2 ++ dktX3_init_3
def dkwX3_init_1 : List UInt8 := [181, 0, 16, 42, 7, 16, 41, 197, 0, 9, 2, 181, 0, 19, 42, 16, 8, 188, 10, 181, 0, 22, 42]
abbrev dktX3_init_1 : List UInt8 := dkwX3_init_1 ++ dktX3_init_2
def dkwX3_init_0 : List UInt8 := [42, 183, 0, 3, 42, 16, 8, 16, 40, 197, 0, 9, 2, 181, 0, 11, 42, 7, 16, 41, 197, 0, 9, 2]
abbrev dktX3_init_0 : List UInt8 := dkwX3_init_0 ++ dktX3_init_1
theorem dksX3_init_0 : cX3_init.data.toList.drop 0 = dktX3_init_0 := by decide +kernel
theorem dksX3_init_1 : cX3_init.data.toList.drop 24 = dktX3_init_1 := dk_seg dksX3_init_0 24 rfl rfl
theorem dksX3_init_2 : cX3_init.data.toList.drop 47 = dktX3_init_2 := dk_seg dksX3_init_1 23 rfl rfl
theorem dksX3_init_3 : cX3_init.data.toList.drop 69 = dktX3_init_3 := dk_seg dksX3_init_2 22 rfl rfl
theorem dksX3_init_4 : cX3_init.data.toList.drop 93 = dktX3_init_4 := dk_seg dksX3_init_3 24 rfl rfl
theorem dX3_init_0 : decode cX3_init 0 = .ok (.aload_n 0, 1) := dk_42 (dk_at dksX3_init_0 0 rfl rfl)
theorem dX3_init_1 : decode cX3_init 1 = .ok (.invokespecial 3, 3) := dk_183 0 3 (dk_at dksX3_init_0 1 rfl rfl)
theorem dX3_init_4 : decode cX3_init 4 = .ok (.aload_n 0, 1) := dk_42 (dk_at dksX3_init_0 4 rfl rfl)
theorem dX3_init_5 : decode cX3_init 5 = .ok (.bipush 8, 2) := dk_16 8 (dk_at dksX3_init_0 5 rfl rfl)
theorem dX3_init_7 : decode cX3_init 7 = .ok (.bipush 40, 2) := dk_16 40 (dk_at dksX3_init_0 7 rfl rfl)
theorem dX3_init_9 : decode cX3_init 9 = .ok (.multianewarray 9 2, 4) := by decide +kernel
theorem dX3_init_13 : decode cX3_init 13 = .ok (.putfield 11, 3) := dk_181 0 11 (dk_at dksX3_init_0 13 rfl rfl)
theorem dX3_init_16 : decode cX3_init 16 = .ok (.aload_n 0, 1) := dk_42 (dk_at dksX3_init_0 16 rfl rfl)
theorem dX3_init_17 : decode cX3_init 17 = .ok (.iconst 4, 1) := dk_7 (dk_at dksX3_init_0 17 rfl rfl)
theorem dX3_init_18 : decode cX3_init 18 = .ok (.bipush 41, 2) := dk_16 41 (dk_at dksX3_init_0 18 rfl rfl)
theorem dX3_init_20 : decode cX3_init 20 = .ok (.multianewarray 9 2, 4) := by decide +kernel
theorem dX3_init_24 : decode cX3_init 24 = .ok (.putfield 16, 3) := dk_181 0 16 (dk_at dksX3_init_1 0 rfl rfl)
theorem dX3_init_27 : decode cX3_init 27 = .ok (.aload_n 0, 1) := dk_42 (dk_at dksX3_init_1 3 rfl rfl)
theorem dX3_init_28 : decode cX3_init 28 = .ok (.iconst 4, 1) := dk_7 (dk_at dksX3_init_1 4 rfl rfl)
theorem dX3_init_29 : decode cX3_init 29 = .ok (.bipush 41, 2) := dk_16 41 (dk_at dksX3_init_1 5 rfl rfl)
theorem dX3_init_31 : decode cX3_init 31 = .ok (.multianewarray 9 2, 4) := by decide +kernel
theorem dX3_init_35 : decode cX3_init 35 = .ok (.putfield 19, 3) := dk_181 0 19 (dk_at dksX3_init_1 11 rfl rfl)
theorem dX3_init_38 : decode cX3_init 38 = .ok (.aload_n 0, 1) := dk_42 (dk_at dksX3_init_1 14 rfl rfl)
theorem dX3_init_39 : decode cX3_init 39 = .ok (.bipush 8, 2) := dk_16 8 (dk_at dksX3_init_1 15 rfl rfl)
theorem dX3_init_41 : decode cX3_init 41 = .ok (.newarray .int, 2) := dk_188_10 (dk_at dksX3_init_1 17 rfl rfl)
theorem dX3_init_43 : decode cX3_init 43 = .ok (.putfield 22, 3) := dk_181 0 22 (dk_at dksX3_init_1 19 rfl rfl)
theorem dX3_init_46 : decode cX3_init 46 = .ok (.aload_n 0, 1) := dk_42 (dk_at dksX3_init_1 22 rfl rfl)
theorem dX3_init_47 : decode cX3_init 47 = .ok (.bipush 8, 2) := dk_16 8 (dk_at dksX3_init_2 0 rfl rfl)
theorem dX3_init_49 : decode cX3_init 49 = .ok (.newarray .int, 2) := dk_188_10 (dk_at dksX3_init_2 2 rfl rfl)
theorem dX3_init_51 : decode cX3_init 51 = .ok (.putfield 26, 3) := dk_181 0 26 (dk_at dksX3_init_2 4 rfl rfl)
theorem dX3_init_54 : decode cX3_init 54 = .ok (.aload_n 0, 1) := dk_42 (dk_at dksX3_init_2 7 rfl rfl)
theorem dX3_init_55 : decode cX3_init 55 = .ok (.sipush 1280, 3) := dk_17 5 0 (dk_at dksX3_init_2 8 rfl rfl)
theorem dX3_init_58 : decode cX3_init 58 = .ok (.newarray .int, 2) := dk_188_10 (dk_at dksX3_init_2 11 rfl rfl)
theorem dX3_init_60 : decode cX3_init 60 = .ok (.putfield 29, 3) := dk_181 0 29 (dk_at dksX3_init_2 13 rfl rfl)
theorem dX3_init_63 : decode cX3_init 63 = .ok (.aload_n 0, 1) := dk_42 (dk_at dksX3_init_2 16 rfl rfl)
theorem dX3_init_64 : decode cX3_init 64 = .ok (.sipush 1280, 3) := dk_17 5 0 (dk_at dksX3_init_2 17 rfl rfl)
theorem dX3_init_67 : decode cX3_init 67 = .ok (.newarray .boolean, 2) := dk_188_4 (dk_at dksX3_init_2 20 rfl rfl)
theorem dX3_init_69 : decode cX3_init 69 = .ok (.putfield 32, 3) := dk_181 0 32 (dk_at dksX3_init_3 0 rfl rfl)
theorem dX3_init_72 : decode cX3_init 72 = .ok (.aload_n 0, 1) := dk_42 (dk_at dksX3_init_3 3 rfl rfl)
theorem dX3_init_73 : decode cX3_init 73 = .ok (.iconst 4, 1) := dk_7 (dk_at dksX3_init_3 4 rfl rfl)
theorem dX3_init_74 : decode cX3_init 74 = .ok (.newarray .int, 2) := dk_188_10 (dk_at dksX3_init_3 5 rfl rfl)
theorem dX3_init_76 : decode cX3_init 76 = .ok (.putfield 36, 3) := dk_181 0 36 (dk_at dksX3_init_3 7 rfl rfl)
theorem dX3_init_79 : decode cX3_init 79 = .ok (.aload_n 0, 1) := dk_42 (dk_at dksX3_init_3 10 rfl rfl)
theorem dX3_init_80 : decode cX3_init 80 = .ok (.iconst 4, 1) := dk_7 (dk_at dksX3_init_3 11 rfl rfl)
theorem dX3_init_81 : decode cX3_init 81 = .ok (.newarray .int, 2) := dk_188_10 (dk_at dksX3_init_3 12 rfl rfl)
theorem dX3_init_83 : decode cX3_init 83 = .ok (.putfield 39, 3) := dk_181 0 39 (dk_at dksX3_init_3 14 rfl rfl)
theorem dX3_init_86 : decode cX3_init 86 = .ok (.aload_n 0, 1) := dk_42 (dk_at dksX3_init_3 17 rfl rfl)
theorem dX3_init_87 : decode cX3_init 87 = .ok (.iconst 4, 1) := dk_7 (dk_at dksX3_init_3 18 rfl rfl)
theorem dX3_init_88 : decode cX3_init 88 = .ok (.newarray .int, 2) := dk_188_10 (dk_at dksX3_init_3 19 rfl rfl)
theorem dX3_init_90 : decode cX3_init 90 = .ok (.putfield 42, 3) := dk_181 0 42 (dk_at dksX3_init_3 21 rfl rfl)
theorem dX3_init_93 : decode cX3_init 93 = .ok (.aload_n 0, 1) := dk_42 (dk_at dksX3_init_4 0 rfl rfl)
theorem dX3_init_94 : decode cX3_init 94 = .ok (.iconst 4, 1) := dk_7 (dk_at dksX3_init_4 1 rfl rfl)
theorem dX3_init_95 : decode cX3_init 95 = .ok (.newarray .int, 2) := dk_188_10 (dk_at dksX3_init_4 2 rfl rfl)
theorem dX3_init_97 : decode cX3_init 97 = .ok (.putfield 45, 3) := dk_181 0 45 (dk_at dksX3_init_4 4 rfl rfl)
theorem dX3_init_100 : decode cX3_init 100 = .ok (.aload_n 0, 1) := dk_42 (dk_at dksX3_init_4 7 rfl rfl)
theorem dX3_init_101 : decode cX3_init 101 = .ok (.bipush 8, 2) := dk_16 8 (dk_at dksX3_init_4 8 rfl rfl)
theorem dX3_init_103 : decode cX3_init 103 = .ok (.iconst 4, 1) := dk_7 (dk_at dksX3_init_4 10 rfl rfl)
theorem dX3_init_104 : decode cX3_init 104 = .ok (.multianewarray 48 2, 4) := by decide +kernel
theorem dX3_init_108 : decode cX3_init 108 = .ok (.putfield 50, 3) := dk_181 0 50 (dk_at dksX3_init_4 15 rfl rfl)
theorem dX3_init_111 : decode cX3_init 111 = .ok (.return_, 1) := dk_177 (dk_at dksX3_init_4 18 rfl rfl)
abbrev cX3_begins : ByteArray := prog_3_method_2_code
def yX3_begins : MethodName := ⟨RX3, "begins", "(LUnseenClock$Square;[II)V"⟩
def dkwX3_begins_1 : List UInt8 := [180, 0, 39, 3, 184, 0, 67, 42, 3, 181, 0, 73, 42, 3, 181, 0, 76, 177]
abbrev dktX3_begins_1 : List UInt8 := dkwX3_begins_1 ++ []
def dkwX3_begins_0 : List UInt8 := [42, 43, 181, 0, 53, 44, 3, 42, 180, 0, 36, 3, 7, 184, 0, 57, 42, 29, 181, 0, 63, 42]
abbrev dktX3_begins_0 : List UInt8 := dkwX3_begins_0 ++ dktX3_begins_1
theorem dksX3_begins_0 : cX3_begins.data.toList.drop 0 = dktX3_begins_0 := by decide +kernel
theorem dksX3_begins_1 : cX3_begins.data.toList.drop 22 = dktX3_begins_1 := dk_seg dksX3_begins_0 22 rfl rfl
theorem dX3_begins_0 : decode cX3_begins 0 = .ok (.aload_n 0, 1) := dk_42 (dk_at dksX3_begins_0 0 rfl rfl)
theorem dX3_begins_1 : decode cX3_begins 1 = .ok (.aload_n 1, 1) := dk_43 (dk_at dksX3_begins_0 1 rfl rfl)
theorem dX3_begins_2 : decode cX3_begins 2 = .ok (.putfield 53, 3) := dk_181 0 53 (dk_at dksX3_begins_0 2 rfl rfl)
theorem dX3_begins_5 : decode cX3_begins 5 = .ok (.aload_n 2, 1) := dk_44 (dk_at dksX3_begins_0 5 rfl rfl)
theorem dX3_begins_6 : decode cX3_begins 6 = .ok (.iconst 0, 1) := dk_3 (dk_at dksX3_begins_0 6 rfl rfl)
theorem dX3_begins_7 : decode cX3_begins 7 = .ok (.aload_n 0, 1) := dk_42 (dk_at dksX3_begins_0 7 rfl rfl)
theorem dX3_begins_8 : decode cX3_begins 8 = .ok (.getfield 36, 3) := dk_180 0 36 (dk_at dksX3_begins_0 8 rfl rfl)
theorem dX3_begins_11 : decode cX3_begins 11 = .ok (.iconst 0, 1) := dk_3 (dk_at dksX3_begins_0 11 rfl rfl)
theorem dX3_begins_12 : decode cX3_begins 12 = .ok (.iconst 4, 1) := dk_7 (dk_at dksX3_begins_0 12 rfl rfl)
theorem dX3_begins_13 : decode cX3_begins 13 = .ok (.invokestatic 57, 3) := dk_184 0 57 (dk_at dksX3_begins_0 13 rfl rfl)
theorem dX3_begins_16 : decode cX3_begins 16 = .ok (.aload_n 0, 1) := dk_42 (dk_at dksX3_begins_0 16 rfl rfl)
theorem dX3_begins_17 : decode cX3_begins 17 = .ok (.iload_n 3, 1) := dk_29 (dk_at dksX3_begins_0 17 rfl rfl)
theorem dX3_begins_18 : decode cX3_begins 18 = .ok (.putfield 63, 3) := dk_181 0 63 (dk_at dksX3_begins_0 18 rfl rfl)
theorem dX3_begins_21 : decode cX3_begins 21 = .ok (.aload_n 0, 1) := dk_42 (dk_at dksX3_begins_0 21 rfl rfl)
theorem dX3_begins_22 : decode cX3_begins 22 = .ok (.getfield 39, 3) := dk_180 0 39 (dk_at dksX3_begins_1 0 rfl rfl)
theorem dX3_begins_25 : decode cX3_begins 25 = .ok (.iconst 0, 1) := dk_3 (dk_at dksX3_begins_1 3 rfl rfl)
theorem dX3_begins_26 : decode cX3_begins 26 = .ok (.invokestatic 67, 3) := dk_184 0 67 (dk_at dksX3_begins_1 4 rfl rfl)
theorem dX3_begins_29 : decode cX3_begins 29 = .ok (.aload_n 0, 1) := dk_42 (dk_at dksX3_begins_1 7 rfl rfl)
theorem dX3_begins_30 : decode cX3_begins 30 = .ok (.iconst 0, 1) := dk_3 (dk_at dksX3_begins_1 8 rfl rfl)
theorem dX3_begins_31 : decode cX3_begins 31 = .ok (.putfield 73, 3) := dk_181 0 73 (dk_at dksX3_begins_1 9 rfl rfl)
theorem dX3_begins_34 : decode cX3_begins 34 = .ok (.aload_n 0, 1) := dk_42 (dk_at dksX3_begins_1 12 rfl rfl)
theorem dX3_begins_35 : decode cX3_begins 35 = .ok (.iconst 0, 1) := dk_3 (dk_at dksX3_begins_1 13 rfl rfl)
theorem dX3_begins_36 : decode cX3_begins 36 = .ok (.putfield 76, 3) := dk_181 0 76 (dk_at dksX3_begins_1 14 rfl rfl)
theorem dX3_begins_39 : decode cX3_begins 39 = .ok (.return_, 1) := dk_177 (dk_at dksX3_begins_1 17 rfl rfl)
abbrev cX3_sees : ByteArray := prog_3_method_7_code
def yX3_sees : MethodName := ⟨RX3, "sees", "(III)Z"⟩
def dkwX3_sees_1 : List UInt8 := [28, 182, 0, 111, 153, 0, 7, 4, 167, 0, 4, 3, 172]
abbrev dktX3_sees_1 : List UInt8 := dkwX3_sees_1 ++ []
def dkwX3_sees_0 : List UInt8 := [42, 27, 29, 182, 0, 108, 153, 0, 29, 42, 180, 0, 53, 42, 180, 0, 53, 180, 0, 105, 27, 50, 29, 46]
abbrev dktX3_sees_0 : List UInt8 := dkwX3_sees_0 ++ dktX3_sees_1
theorem dksX3_sees_0 : cX3_sees.data.toList.drop 0 = dktX3_sees_0 := by decide +kernel
theorem dksX3_sees_1 : cX3_sees.data.toList.drop 24 = dktX3_sees_1 := dk_seg dksX3_sees_0 24 rfl rfl
theorem dX3_sees_0 : decode cX3_sees 0 = .ok (.aload_n 0, 1) := dk_42 (dk_at dksX3_sees_0 0 rfl rfl)
theorem dX3_sees_1 : decode cX3_sees 1 = .ok (.iload_n 1, 1) := dk_27 (dk_at dksX3_sees_0 1 rfl rfl)
theorem dX3_sees_2 : decode cX3_sees 2 = .ok (.iload_n 3, 1) := dk_29 (dk_at dksX3_sees_0 2 rfl rfl)
theorem dX3_sees_3 : decode cX3_sees 3 = .ok (.invokevirtual 108, 3) := dk_182 0 108 (dk_at dksX3_sees_0 3 rfl rfl)
theorem dX3_sees_6 : decode cX3_sees 6 = .ok (.ifCond .eq 29, 3) := dk_153 0 29 (dk_at dksX3_sees_0 6 rfl rfl)
theorem dX3_sees_9 : decode cX3_sees 9 = .ok (.aload_n 0, 1) := dk_42 (dk_at dksX3_sees_0 9 rfl rfl)
theorem dX3_sees_10 : decode cX3_sees 10 = .ok (.getfield 53, 3) := dk_180 0 53 (dk_at dksX3_sees_0 10 rfl rfl)
theorem dX3_sees_13 : decode cX3_sees 13 = .ok (.aload_n 0, 1) := dk_42 (dk_at dksX3_sees_0 13 rfl rfl)
theorem dX3_sees_14 : decode cX3_sees 14 = .ok (.getfield 53, 3) := dk_180 0 53 (dk_at dksX3_sees_0 14 rfl rfl)
theorem dX3_sees_17 : decode cX3_sees 17 = .ok (.getfield 105, 3) := dk_180 0 105 (dk_at dksX3_sees_0 17 rfl rfl)
theorem dX3_sees_20 : decode cX3_sees 20 = .ok (.iload_n 1, 1) := dk_27 (dk_at dksX3_sees_0 20 rfl rfl)
theorem dX3_sees_21 : decode cX3_sees 21 = .ok (.aaload, 1) := dk_50 (dk_at dksX3_sees_0 21 rfl rfl)
theorem dX3_sees_22 : decode cX3_sees 22 = .ok (.iload_n 3, 1) := dk_29 (dk_at dksX3_sees_0 22 rfl rfl)
theorem dX3_sees_23 : decode cX3_sees 23 = .ok (.iaload, 1) := dk_46 (dk_at dksX3_sees_0 23 rfl rfl)
theorem dX3_sees_24 : decode cX3_sees 24 = .ok (.iload_n 2, 1) := dk_28 (dk_at dksX3_sees_1 0 rfl rfl)
theorem dX3_sees_25 : decode cX3_sees 25 = .ok (.invokevirtual 111, 3) := dk_182 0 111 (dk_at dksX3_sees_1 1 rfl rfl)
theorem dX3_sees_28 : decode cX3_sees 28 = .ok (.ifCond .eq 7, 3) := dk_153 0 7 (dk_at dksX3_sees_1 4 rfl rfl)
theorem dX3_sees_31 : decode cX3_sees 31 = .ok (.iconst 1, 1) := dk_4 (dk_at dksX3_sees_1 7 rfl rfl)
theorem dX3_sees_32 : decode cX3_sees 32 = .ok (.goto 4, 3) := dk_167 0 4 (dk_at dksX3_sees_1 8 rfl rfl)
theorem dX3_sees_35 : decode cX3_sees 35 = .ok (.iconst 0, 1) := dk_3 (dk_at dksX3_sees_1 11 rfl rfl)
theorem dX3_sees_36 : decode cX3_sees 36 = .ok (.ireturn, 1) := dk_172 (dk_at dksX3_sees_1 12 rfl rfl)
abbrev cX3_isThere : ByteArray := prog_3_method_6_code
def yX3_isThere : MethodName := ⟨RX3, "isThere", "(II)Z"⟩
def dkwX3_isThere_1 : List UInt8 := [159, 0, 7, 4, 167, 0, 4, 3, 172]
abbrev dktX3_isThere_1 : List UInt8 := dkwX3_isThere_1 ++ []
def dkwX3_isThere_0 : List UInt8 := [42, 180, 0, 63, 27, 184, 0, 92, 154, 0, 22, 42, 180, 0, 53, 180, 0, 105, 27, 50, 28, 46, 2]
abbrev dktX3_isThere_0 : List UInt8 := dkwX3_isThere_0 ++ dktX3_isThere_1
theorem dksX3_isThere_0 : cX3_isThere.data.toList.drop 0 = dktX3_isThere_0 := by decide +kernel
theorem dksX3_isThere_1 : cX3_isThere.data.toList.drop 23 = dktX3_isThere_1 := dk_seg dksX3_isThere_0 23 rfl rfl
theorem dX3_isThere_0 : decode cX3_isThere 0 = .ok (.aload_n 0, 1) := dk_42 (dk_at dksX3_isThere_0 0 rfl rfl)
theorem dX3_isThere_1 : decode cX3_isThere 1 = .ok (.getfield 63, 3) := dk_180 0 63 (dk_at dksX3_isThere_0 1 rfl rfl)
theorem dX3_isThere_4 : decode cX3_isThere 4 = .ok (.iload_n 1, 1) := dk_27 (dk_at dksX3_isThere_0 4 rfl rfl)
theorem dX3_isThere_5 : decode cX3_isThere 5 = .ok (.invokestatic 92, 3) := dk_184 0 92 (dk_at dksX3_isThere_0 5 rfl rfl)
theorem dX3_isThere_8 : decode cX3_isThere 8 = .ok (.ifCond .ne 22, 3) := dk_154 0 22 (dk_at dksX3_isThere_0 8 rfl rfl)
theorem dX3_isThere_11 : decode cX3_isThere 11 = .ok (.aload_n 0, 1) := dk_42 (dk_at dksX3_isThere_0 11 rfl rfl)
theorem dX3_isThere_12 : decode cX3_isThere 12 = .ok (.getfield 53, 3) := dk_180 0 53 (dk_at dksX3_isThere_0 12 rfl rfl)
theorem dX3_isThere_15 : decode cX3_isThere 15 = .ok (.getfield 105, 3) := dk_180 0 105 (dk_at dksX3_isThere_0 15 rfl rfl)
theorem dX3_isThere_18 : decode cX3_isThere 18 = .ok (.iload_n 1, 1) := dk_27 (dk_at dksX3_isThere_0 18 rfl rfl)
theorem dX3_isThere_19 : decode cX3_isThere 19 = .ok (.aaload, 1) := dk_50 (dk_at dksX3_isThere_0 19 rfl rfl)
theorem dX3_isThere_20 : decode cX3_isThere 20 = .ok (.iload_n 2, 1) := dk_28 (dk_at dksX3_isThere_0 20 rfl rfl)
theorem dX3_isThere_21 : decode cX3_isThere 21 = .ok (.iaload, 1) := dk_46 (dk_at dksX3_isThere_0 21 rfl rfl)
theorem dX3_isThere_22 : decode cX3_isThere 22 = .ok (.iconst (-1), 1) := dk_2 (dk_at dksX3_isThere_0 22 rfl rfl)
theorem dX3_isThere_23 : decode cX3_isThere 23 = .ok (.if_icmp .eq 7, 3) := dk_159 0 7 (dk_at dksX3_isThere_1 0 rfl rfl)
theorem dX3_isThere_26 : decode cX3_isThere 26 = .ok (.iconst 1, 1) := dk_4 (dk_at dksX3_isThere_1 3 rfl rfl)
theorem dX3_isThere_27 : decode cX3_isThere 27 = .ok (.goto 4, 3) := dk_167 0 4 (dk_at dksX3_isThere_1 4 rfl rfl)
theorem dX3_isThere_30 : decode cX3_isThere 30 = .ok (.iconst 0, 1) := dk_3 (dk_at dksX3_isThere_1 7 rfl rfl)
theorem dX3_isThere_31 : decode cX3_isThere 31 = .ok (.ireturn, 1) := dk_172 (dk_at dksX3_isThere_1 8 rfl rfl)
abbrev cX3_goes : ByteArray := prog_3_method_8_code
def yX3_goes : MethodName := ⟨RX3, "goes", "()V"⟩
def dkwX3_goes_7 : List UInt8 := [182, 0, 131, 177]
abbrev dktX3_goes_7 : List UInt8 := dkwX3_goes_7 ++ []
def dkwX3_goes_6 : List UInt8 := [182, 0, 140, 132, 2, 1, 167, 255, 231, 132, 1, 1, 167, 255, 197, 42, 42, 180, 0, 53, 180, 0, 128]
abbrev dktX3_goes_6 : List UInt8 := dkwX3_goes_6 ++ dktX3_goes_7
def dkwX3_goes_5 : List UInt8 := [182, 0, 137, 3, 61, 28, 42, 180, 0, 53, 180, 0, 117, 185, 0, 86, 1, 0, 162, 0, 15, 42, 28, 27]
abbrev dktX3_goes_5 : List UInt8 := dkwX3_goes_5 ++ dktX3_goes_6
def dkwX3_goes_4 : List UInt8 := [60, 27, 42, 180, 0, 53, 180, 0, 128, 162, 0, 54, 42, 27, 182, 0, 131, 42, 27, 182, 0, 134, 42, 27]
abbrev dktX3_goes_4 : List UInt8 := dkwX3_goes_4 ++ dktX3_goes_5
def dkwX3_goes_3 : List UInt8 := [180, 0, 117, 27, 185, 0, 96, 2, 0, 192, 0, 120, 180, 0, 125, 104, 79, 132, 1, 1, 167, 255, 190, 3]
abbrev dktX3_goes_3 : List UInt8 := dkwX3_goes_3 ++ dktX3_goes_4
def dkwX3_goes_2 : List UInt8 := [180, 0, 53, 180, 0, 117, 27, 185, 0, 96, 2, 0, 192, 0, 120, 180, 0, 122, 42, 180, 0, 53]
abbrev dktX3_goes_2 : List UInt8 := dkwX3_goes_2 ++ dktX3_goes_3
def dkwX3_goes_1 : List UInt8 := [42, 180, 0, 53, 180, 0, 117, 185, 0, 86, 1, 0, 162, 0, 56, 42, 180, 0, 19, 27, 50, 3, 42]
abbrev dktX3_goes_1 : List UInt8 := dkwX3_goes_1 ++ dktX3_goes_2
def dkwX3_goes_0 : List UInt8 := [42, 3, 181, 0, 114, 42, 180, 0, 42, 3, 184, 0, 67, 42, 180, 0, 45, 2, 184, 0, 67, 3, 60, 27]
abbrev dktX3_goes_0 : List UInt8 := dkwX3_goes_0 ++ dktX3_goes_1
theorem dksX3_goes_0 : cX3_goes.data.toList.drop 0 = dktX3_goes_0 := by decide +kernel
theorem dksX3_goes_1 : cX3_goes.data.toList.drop 24 = dktX3_goes_1 := dk_seg dksX3_goes_0 24 rfl rfl
theorem dksX3_goes_2 : cX3_goes.data.toList.drop 47 = dktX3_goes_2 := dk_seg dksX3_goes_1 23 rfl rfl
theorem dksX3_goes_3 : cX3_goes.data.toList.drop 69 = dktX3_goes_3 := dk_seg dksX3_goes_2 22 rfl rfl
theorem dksX3_goes_4 : cX3_goes.data.toList.drop 93 = dktX3_goes_4 := dk_seg dksX3_goes_3 24 rfl rfl
theorem dksX3_goes_5 : cX3_goes.data.toList.drop 117 = dktX3_goes_5 := dk_seg dksX3_goes_4 24 rfl rfl
theorem dksX3_goes_6 : cX3_goes.data.toList.drop 141 = dktX3_goes_6 := dk_seg dksX3_goes_5 24 rfl rfl
theorem dksX3_goes_7 : cX3_goes.data.toList.drop 164 = dktX3_goes_7 := dk_seg dksX3_goes_6 23 rfl rfl
theorem dX3_goes_0 : decode cX3_goes 0 = .ok (.aload_n 0, 1) := dk_42 (dk_at dksX3_goes_0 0 rfl rfl)
theorem dX3_goes_1 : decode cX3_goes 1 = .ok (.iconst 0, 1) := dk_3 (dk_at dksX3_goes_0 1 rfl rfl)
theorem dX3_goes_2 : decode cX3_goes 2 = .ok (.putfield 114, 3) := dk_181 0 114 (dk_at dksX3_goes_0 2 rfl rfl)
theorem dX3_goes_5 : decode cX3_goes 5 = .ok (.aload_n 0, 1) := dk_42 (dk_at dksX3_goes_0 5 rfl rfl)
theorem dX3_goes_6 : decode cX3_goes 6 = .ok (.getfield 42, 3) := dk_180 0 42 (dk_at dksX3_goes_0 6 rfl rfl)
theorem dX3_goes_9 : decode cX3_goes 9 = .ok (.iconst 0, 1) := dk_3 (dk_at dksX3_goes_0 9 rfl rfl)
theorem dX3_goes_10 : decode cX3_goes 10 = .ok (.invokestatic 67, 3) := dk_184 0 67 (dk_at dksX3_goes_0 10 rfl rfl)
theorem dX3_goes_13 : decode cX3_goes 13 = .ok (.aload_n 0, 1) := dk_42 (dk_at dksX3_goes_0 13 rfl rfl)
theorem dX3_goes_14 : decode cX3_goes 14 = .ok (.getfield 45, 3) := dk_180 0 45 (dk_at dksX3_goes_0 14 rfl rfl)
theorem dX3_goes_17 : decode cX3_goes 17 = .ok (.iconst (-1), 1) := dk_2 (dk_at dksX3_goes_0 17 rfl rfl)
theorem dX3_goes_18 : decode cX3_goes 18 = .ok (.invokestatic 67, 3) := dk_184 0 67 (dk_at dksX3_goes_0 18 rfl rfl)
theorem dX3_goes_21 : decode cX3_goes 21 = .ok (.iconst 0, 1) := dk_3 (dk_at dksX3_goes_0 21 rfl rfl)
theorem dX3_goes_22 : decode cX3_goes 22 = .ok (.istore_n 1, 1) := dk_60 (dk_at dksX3_goes_0 22 rfl rfl)
theorem dX3_goes_23 : decode cX3_goes 23 = .ok (.iload_n 1, 1) := dk_27 (dk_at dksX3_goes_0 23 rfl rfl)
theorem dX3_goes_24 : decode cX3_goes 24 = .ok (.aload_n 0, 1) := dk_42 (dk_at dksX3_goes_1 0 rfl rfl)
theorem dX3_goes_25 : decode cX3_goes 25 = .ok (.getfield 53, 3) := dk_180 0 53 (dk_at dksX3_goes_1 1 rfl rfl)
theorem dX3_goes_28 : decode cX3_goes 28 = .ok (.getfield 117, 3) := dk_180 0 117 (dk_at dksX3_goes_1 4 rfl rfl)
theorem dX3_goes_31 : decode cX3_goes 31 = .ok (.invokeinterface 86 1, 5) := by decide +kernel
theorem dX3_goes_36 : decode cX3_goes 36 = .ok (.if_icmp .ge 56, 3) := dk_162 0 56 (dk_at dksX3_goes_1 12 rfl rfl)
theorem dX3_goes_39 : decode cX3_goes 39 = .ok (.aload_n 0, 1) := dk_42 (dk_at dksX3_goes_1 15 rfl rfl)
theorem dX3_goes_40 : decode cX3_goes 40 = .ok (.getfield 19, 3) := dk_180 0 19 (dk_at dksX3_goes_1 16 rfl rfl)
theorem dX3_goes_43 : decode cX3_goes 43 = .ok (.iload_n 1, 1) := dk_27 (dk_at dksX3_goes_1 19 rfl rfl)
theorem dX3_goes_44 : decode cX3_goes 44 = .ok (.aaload, 1) := dk_50 (dk_at dksX3_goes_1 20 rfl rfl)
theorem dX3_goes_45 : decode cX3_goes 45 = .ok (.iconst 0, 1) := dk_3 (dk_at dksX3_goes_1 21 rfl rfl)
theorem dX3_goes_46 : decode cX3_goes 46 = .ok (.aload_n 0, 1) := dk_42 (dk_at dksX3_goes_1 22 rfl rfl)
theorem dX3_goes_47 : decode cX3_goes 47 = .ok (.getfield 53, 3) := dk_180 0 53 (dk_at dksX3_goes_2 0 rfl rfl)
theorem dX3_goes_50 : decode cX3_goes 50 = .ok (.getfield 117, 3) := dk_180 0 117 (dk_at dksX3_goes_2 3 rfl rfl)
theorem dX3_goes_53 : decode cX3_goes 53 = .ok (.iload_n 1, 1) := dk_27 (dk_at dksX3_goes_2 6 rfl rfl)
theorem dX3_goes_54 : decode cX3_goes 54 = .ok (.invokeinterface 96 2, 5) := by decide +kernel
theorem dX3_goes_59 : decode cX3_goes 59 = .ok (.checkcast 120, 3) := dk_192 0 120 (dk_at dksX3_goes_2 12 rfl rfl)
theorem dX3_goes_62 : decode cX3_goes 62 = .ok (.getfield 122, 3) := dk_180 0 122 (dk_at dksX3_goes_2 15 rfl rfl)
theorem dX3_goes_65 : decode cX3_goes 65 = .ok (.aload_n 0, 1) := dk_42 (dk_at dksX3_goes_2 18 rfl rfl)
theorem dX3_goes_66 : decode cX3_goes 66 = .ok (.getfield 53, 3) := dk_180 0 53 (dk_at dksX3_goes_2 19 rfl rfl)
theorem dX3_goes_69 : decode cX3_goes 69 = .ok (.getfield 117, 3) := dk_180 0 117 (dk_at dksX3_goes_3 0 rfl rfl)
theorem dX3_goes_72 : decode cX3_goes 72 = .ok (.iload_n 1, 1) := dk_27 (dk_at dksX3_goes_3 3 rfl rfl)
theorem dX3_goes_73 : decode cX3_goes 73 = .ok (.invokeinterface 96 2, 5) := by decide +kernel
theorem dX3_goes_78 : decode cX3_goes 78 = .ok (.checkcast 120, 3) := dk_192 0 120 (dk_at dksX3_goes_3 9 rfl rfl)
theorem dX3_goes_81 : decode cX3_goes 81 = .ok (.getfield 125, 3) := dk_180 0 125 (dk_at dksX3_goes_3 12 rfl rfl)
theorem dX3_goes_84 : decode cX3_goes 84 = .ok (.imul, 1) := dk_104 (dk_at dksX3_goes_3 15 rfl rfl)
theorem dX3_goes_85 : decode cX3_goes 85 = .ok (.iastore, 1) := dk_79 (dk_at dksX3_goes_3 16 rfl rfl)
theorem dX3_goes_86 : decode cX3_goes 86 = .ok (.iinc 1 1, 3) := dk_132 1 1 (dk_at dksX3_goes_3 17 rfl rfl)
theorem dX3_goes_89 : decode cX3_goes 89 = .ok (.goto (-66), 3) := dk_167 255 190 (dk_at dksX3_goes_3 20 rfl rfl)
theorem dX3_goes_92 : decode cX3_goes 92 = .ok (.iconst 0, 1) := dk_3 (dk_at dksX3_goes_3 23 rfl rfl)
theorem dX3_goes_93 : decode cX3_goes 93 = .ok (.istore_n 1, 1) := dk_60 (dk_at dksX3_goes_4 0 rfl rfl)
theorem dX3_goes_94 : decode cX3_goes 94 = .ok (.iload_n 1, 1) := dk_27 (dk_at dksX3_goes_4 1 rfl rfl)
theorem dX3_goes_95 : decode cX3_goes 95 = .ok (.aload_n 0, 1) := dk_42 (dk_at dksX3_goes_4 2 rfl rfl)
theorem dX3_goes_96 : decode cX3_goes 96 = .ok (.getfield 53, 3) := dk_180 0 53 (dk_at dksX3_goes_4 3 rfl rfl)
theorem dX3_goes_99 : decode cX3_goes 99 = .ok (.getfield 128, 3) := dk_180 0 128 (dk_at dksX3_goes_4 6 rfl rfl)
theorem dX3_goes_102 : decode cX3_goes 102 = .ok (.if_icmp .ge 54, 3) := dk_162 0 54 (dk_at dksX3_goes_4 9 rfl rfl)
theorem dX3_goes_105 : decode cX3_goes 105 = .ok (.aload_n 0, 1) := dk_42 (dk_at dksX3_goes_4 12 rfl rfl)
theorem dX3_goes_106 : decode cX3_goes 106 = .ok (.iload_n 1, 1) := dk_27 (dk_at dksX3_goes_4 13 rfl rfl)
theorem dX3_goes_107 : decode cX3_goes 107 = .ok (.invokevirtual 131, 3) := dk_182 0 131 (dk_at dksX3_goes_4 14 rfl rfl)
theorem dX3_goes_110 : decode cX3_goes 110 = .ok (.aload_n 0, 1) := dk_42 (dk_at dksX3_goes_4 17 rfl rfl)
theorem dX3_goes_111 : decode cX3_goes 111 = .ok (.iload_n 1, 1) := dk_27 (dk_at dksX3_goes_4 18 rfl rfl)
theorem dX3_goes_112 : decode cX3_goes 112 = .ok (.invokevirtual 134, 3) := dk_182 0 134 (dk_at dksX3_goes_4 19 rfl rfl)
theorem dX3_goes_115 : decode cX3_goes 115 = .ok (.aload_n 0, 1) := dk_42 (dk_at dksX3_goes_4 22 rfl rfl)
theorem dX3_goes_116 : decode cX3_goes 116 = .ok (.iload_n 1, 1) := dk_27 (dk_at dksX3_goes_4 23 rfl rfl)
theorem dX3_goes_117 : decode cX3_goes 117 = .ok (.invokevirtual 137, 3) := dk_182 0 137 (dk_at dksX3_goes_5 0 rfl rfl)
theorem dX3_goes_120 : decode cX3_goes 120 = .ok (.iconst 0, 1) := dk_3 (dk_at dksX3_goes_5 3 rfl rfl)
theorem dX3_goes_121 : decode cX3_goes 121 = .ok (.istore_n 2, 1) := dk_61 (dk_at dksX3_goes_5 4 rfl rfl)
theorem dX3_goes_122 : decode cX3_goes 122 = .ok (.iload_n 2, 1) := dk_28 (dk_at dksX3_goes_5 5 rfl rfl)
theorem dX3_goes_123 : decode cX3_goes 123 = .ok (.aload_n 0, 1) := dk_42 (dk_at dksX3_goes_5 6 rfl rfl)
theorem dX3_goes_124 : decode cX3_goes 124 = .ok (.getfield 53, 3) := dk_180 0 53 (dk_at dksX3_goes_5 7 rfl rfl)
theorem dX3_goes_127 : decode cX3_goes 127 = .ok (.getfield 117, 3) := dk_180 0 117 (dk_at dksX3_goes_5 10 rfl rfl)
theorem dX3_goes_130 : decode cX3_goes 130 = .ok (.invokeinterface 86 1, 5) := by decide +kernel
theorem dX3_goes_135 : decode cX3_goes 135 = .ok (.if_icmp .ge 15, 3) := dk_162 0 15 (dk_at dksX3_goes_5 18 rfl rfl)
theorem dX3_goes_138 : decode cX3_goes 138 = .ok (.aload_n 0, 1) := dk_42 (dk_at dksX3_goes_5 21 rfl rfl)
theorem dX3_goes_139 : decode cX3_goes 139 = .ok (.iload_n 2, 1) := dk_28 (dk_at dksX3_goes_5 22 rfl rfl)
theorem dX3_goes_140 : decode cX3_goes 140 = .ok (.iload_n 1, 1) := dk_27 (dk_at dksX3_goes_5 23 rfl rfl)
theorem dX3_goes_141 : decode cX3_goes 141 = .ok (.invokevirtual 140, 3) := dk_182 0 140 (dk_at dksX3_goes_6 0 rfl rfl)
theorem dX3_goes_144 : decode cX3_goes 144 = .ok (.iinc 2 1, 3) := dk_132 2 1 (dk_at dksX3_goes_6 3 rfl rfl)
theorem dX3_goes_147 : decode cX3_goes 147 = .ok (.goto (-25), 3) := dk_167 255 231 (dk_at dksX3_goes_6 6 rfl rfl)
theorem dX3_goes_150 : decode cX3_goes 150 = .ok (.iinc 1 1, 3) := dk_132 1 1 (dk_at dksX3_goes_6 9 rfl rfl)
theorem dX3_goes_153 : decode cX3_goes 153 = .ok (.goto (-59), 3) := dk_167 255 197 (dk_at dksX3_goes_6 12 rfl rfl)
theorem dX3_goes_156 : decode cX3_goes 156 = .ok (.aload_n 0, 1) := dk_42 (dk_at dksX3_goes_6 15 rfl rfl)
theorem dX3_goes_157 : decode cX3_goes 157 = .ok (.aload_n 0, 1) := dk_42 (dk_at dksX3_goes_6 16 rfl rfl)
theorem dX3_goes_158 : decode cX3_goes 158 = .ok (.getfield 53, 3) := dk_180 0 53 (dk_at dksX3_goes_6 17 rfl rfl)
theorem dX3_goes_161 : decode cX3_goes 161 = .ok (.getfield 128, 3) := dk_180 0 128 (dk_at dksX3_goes_6 20 rfl rfl)
theorem dX3_goes_164 : decode cX3_goes 164 = .ok (.invokevirtual 131, 3) := dk_182 0 131 (dk_at dksX3_goes_7 0 rfl rfl)
theorem dX3_goes_167 : decode cX3_goes 167 = .ok (.return_, 1) := dk_177 (dk_at dksX3_goes_7 3 rfl rfl)
abbrev cX3_shows : ByteArray := prog_3_method_9_code
def yX3_shows : MethodName := ⟨RX3, "shows", "(I)V"⟩
def dkwX3_shows_2 : List UInt8 := [28, 50, 27, 46, 45, 180, 0, 125, 108, 45, 180, 0, 144, 112, 79, 132, 2, 1, 167, 255, 194, 177]
abbrev dktX3_shows_2 : List UInt8 := dkwX3_shows_2 ++ []
def dkwX3_shows_1 : List UInt8 := [180, 0, 117, 28, 185, 0, 96, 2, 0, 192, 0, 120, 78, 42, 180, 0, 16, 28, 50, 27, 42, 180, 0, 19]
abbrev dktX3_shows_1 : List UInt8 := dkwX3_shows_1 ++ dktX3_shows_2
def dkwX3_shows_0 : List UInt8 := [3, 61, 28, 42, 180, 0, 53, 180, 0, 117, 185, 0, 86, 1, 0, 162, 0, 52, 42, 180, 0, 53]
abbrev dktX3_shows_0 : List UInt8 := dkwX3_shows_0 ++ dktX3_shows_1
theorem dksX3_shows_0 : cX3_shows.data.toList.drop 0 = dktX3_shows_0 := by decide +kernel
theorem dksX3_shows_1 : cX3_shows.data.toList.drop 22 = dktX3_shows_1 := dk_seg dksX3_shows_0 22 rfl rfl
theorem dksX3_shows_2 : cX3_shows.data.toList.drop 46 = dktX3_shows_2 := dk_seg dksX3_shows_1 24 rfl rfl
theorem dX3_shows_0 : decode cX3_shows 0 = .ok (.iconst 0, 1) := dk_3 (dk_at dksX3_shows_0 0 rfl rfl)
theorem dX3_shows_1 : decode cX3_shows 1 = .ok (.istore_n 2, 1) := dk_61 (dk_at dksX3_shows_0 1 rfl rfl)
theorem dX3_shows_2 : decode cX3_shows 2 = .ok (.iload_n 2, 1) := dk_28 (dk_at dksX3_shows_0 2 rfl rfl)
theorem dX3_shows_3 : decode cX3_shows 3 = .ok (.aload_n 0, 1) := dk_42 (dk_at dksX3_shows_0 3 rfl rfl)
theorem dX3_shows_4 : decode cX3_shows 4 = .ok (.getfield 53, 3) := dk_180 0 53 (dk_at dksX3_shows_0 4 rfl rfl)
theorem dX3_shows_7 : decode cX3_shows 7 = .ok (.getfield 117, 3) := dk_180 0 117 (dk_at dksX3_shows_0 7 rfl rfl)
theorem dX3_shows_10 : decode cX3_shows 10 = .ok (.invokeinterface 86 1, 5) := by decide +kernel
theorem dX3_shows_15 : decode cX3_shows 15 = .ok (.if_icmp .ge 52, 3) := dk_162 0 52 (dk_at dksX3_shows_0 15 rfl rfl)
theorem dX3_shows_18 : decode cX3_shows 18 = .ok (.aload_n 0, 1) := dk_42 (dk_at dksX3_shows_0 18 rfl rfl)
theorem dX3_shows_19 : decode cX3_shows 19 = .ok (.getfield 53, 3) := dk_180 0 53 (dk_at dksX3_shows_0 19 rfl rfl)
theorem dX3_shows_22 : decode cX3_shows 22 = .ok (.getfield 117, 3) := dk_180 0 117 (dk_at dksX3_shows_1 0 rfl rfl)
theorem dX3_shows_25 : decode cX3_shows 25 = .ok (.iload_n 2, 1) := dk_28 (dk_at dksX3_shows_1 3 rfl rfl)
theorem dX3_shows_26 : decode cX3_shows 26 = .ok (.invokeinterface 96 2, 5) := by decide +kernel
theorem dX3_shows_31 : decode cX3_shows 31 = .ok (.checkcast 120, 3) := dk_192 0 120 (dk_at dksX3_shows_1 9 rfl rfl)
theorem dX3_shows_34 : decode cX3_shows 34 = .ok (.astore_n 3, 1) := dk_78 (dk_at dksX3_shows_1 12 rfl rfl)
theorem dX3_shows_35 : decode cX3_shows 35 = .ok (.aload_n 0, 1) := dk_42 (dk_at dksX3_shows_1 13 rfl rfl)
theorem dX3_shows_36 : decode cX3_shows 36 = .ok (.getfield 16, 3) := dk_180 0 16 (dk_at dksX3_shows_1 14 rfl rfl)
theorem dX3_shows_39 : decode cX3_shows 39 = .ok (.iload_n 2, 1) := dk_28 (dk_at dksX3_shows_1 17 rfl rfl)
theorem dX3_shows_40 : decode cX3_shows 40 = .ok (.aaload, 1) := dk_50 (dk_at dksX3_shows_1 18 rfl rfl)
theorem dX3_shows_41 : decode cX3_shows 41 = .ok (.iload_n 1, 1) := dk_27 (dk_at dksX3_shows_1 19 rfl rfl)
theorem dX3_shows_42 : decode cX3_shows 42 = .ok (.aload_n 0, 1) := dk_42 (dk_at dksX3_shows_1 20 rfl rfl)
theorem dX3_shows_43 : decode cX3_shows 43 = .ok (.getfield 19, 3) := dk_180 0 19 (dk_at dksX3_shows_1 21 rfl rfl)
theorem dX3_shows_46 : decode cX3_shows 46 = .ok (.iload_n 2, 1) := dk_28 (dk_at dksX3_shows_2 0 rfl rfl)
theorem dX3_shows_47 : decode cX3_shows 47 = .ok (.aaload, 1) := dk_50 (dk_at dksX3_shows_2 1 rfl rfl)
theorem dX3_shows_48 : decode cX3_shows 48 = .ok (.iload_n 1, 1) := dk_27 (dk_at dksX3_shows_2 2 rfl rfl)
theorem dX3_shows_49 : decode cX3_shows 49 = .ok (.iaload, 1) := dk_46 (dk_at dksX3_shows_2 3 rfl rfl)
theorem dX3_shows_50 : decode cX3_shows 50 = .ok (.aload_n 3, 1) := dk_45 (dk_at dksX3_shows_2 4 rfl rfl)
theorem dX3_shows_51 : decode cX3_shows 51 = .ok (.getfield 125, 3) := dk_180 0 125 (dk_at dksX3_shows_2 5 rfl rfl)
theorem dX3_shows_54 : decode cX3_shows 54 = .ok (.idiv, 1) := dk_108 (dk_at dksX3_shows_2 8 rfl rfl)
theorem dX3_shows_55 : decode cX3_shows 55 = .ok (.aload_n 3, 1) := dk_45 (dk_at dksX3_shows_2 9 rfl rfl)
theorem dX3_shows_56 : decode cX3_shows 56 = .ok (.getfield 144, 3) := dk_180 0 144 (dk_at dksX3_shows_2 10 rfl rfl)
theorem dX3_shows_59 : decode cX3_shows 59 = .ok (.irem, 1) := dk_112 (dk_at dksX3_shows_2 13 rfl rfl)
theorem dX3_shows_60 : decode cX3_shows 60 = .ok (.iastore, 1) := dk_79 (dk_at dksX3_shows_2 14 rfl rfl)
theorem dX3_shows_61 : decode cX3_shows 61 = .ok (.iinc 2 1, 3) := dk_132 2 1 (dk_at dksX3_shows_2 15 rfl rfl)
theorem dX3_shows_64 : decode cX3_shows 64 = .ok (.goto (-62), 3) := dk_167 255 194 (dk_at dksX3_shows_2 18 rfl rfl)
theorem dX3_shows_67 : decode cX3_shows 67 = .ok (.return_, 1) := dk_177 (dk_at dksX3_shows_2 21 rfl rfl)
abbrev cX3_draws : ByteArray := prog_3_method_12_code
def yX3_draws : MethodName := ⟨RX3, "draws", "(I)V"⟩
def dkwX3_draws_8 : List UInt8 := [132, 2, 1, 167, 255, 78, 177]
abbrev dktX3_draws_8 : List UInt8 := dkwX3_draws_8 ++ []
def dkwX3_draws_7 : List UInt8 := [192, 0, 150, 182, 0, 152, 133, 148, 156, 0, 7, 4, 167, 0, 4, 3, 84, 132, 4, 1, 167, 255, 123]
abbrev dktX3_draws_7 : List UInt8 := dkwX3_draws_7 ++ dktX3_draws_8
def dkwX3_draws_6 : List UInt8 := [50, 21, 4, 42, 180, 0, 164, 20, 0, 172, 109, 20, 0, 174, 113, 45, 21, 4, 185, 0, 96, 2, 0]
abbrev dktX3_draws_6 : List UInt8 := dkwX3_draws_6 ++ dktX3_draws_7
def dkwX3_draws_5 : List UInt8 := [20, 0, 162, 42, 180, 0, 164, 105, 20, 0, 168, 97, 20, 0, 170, 113, 181, 0, 164, 42, 180, 0, 50, 28]
abbrev dktX3_draws_5 : List UInt8 := dkwX3_draws_5 ++ dktX3_draws_6
def dkwX3_draws_4 : List UInt8 := [185, 0, 96, 2, 0, 192, 0, 150, 180, 0, 155, 27, 182, 0, 158, 154, 0, 6, 167, 0, 68, 42]
abbrev dktX3_draws_4 : List UInt8 := dkwX3_draws_4 ++ dktX3_draws_5
def dkwX3_draws_3 : List UInt8 := [21, 4, 185, 0, 96, 2, 0, 192, 0, 150, 182, 0, 152, 2, 159, 0, 94, 42, 28, 45, 21, 4]
abbrev dktX3_draws_3 : List UInt8 := dkwX3_draws_3 ++ dktX3_draws_4
def dkwX3_draws_2 : List UInt8 := [54, 4, 21, 4, 45, 185, 0, 86, 1, 0, 162, 0, 128, 42, 180, 0, 50, 28, 50, 21, 4, 3, 84, 45]
abbrev dktX3_draws_2 : List UInt8 := dkwX3_draws_2 ++ dktX3_draws_3
def dkwX3_draws_1 : List UInt8 := [162, 0, 168, 42, 180, 0, 53, 180, 0, 80, 28, 185, 0, 96, 2, 0, 192, 0, 100, 180, 0, 102, 78, 3]
abbrev dktX3_draws_1 : List UInt8 := dkwX3_draws_1 ++ dktX3_draws_2
def dkwX3_draws_0 : List UInt8 := [42, 180, 0, 76, 154, 0, 4, 177, 3, 61, 28, 42, 180, 0, 53, 180, 0, 80, 185, 0, 86, 1, 0]
abbrev dktX3_draws_0 : List UInt8 := dkwX3_draws_0 ++ dktX3_draws_1
theorem dksX3_draws_0 : cX3_draws.data.toList.drop 0 = dktX3_draws_0 := by decide +kernel
theorem dksX3_draws_1 : cX3_draws.data.toList.drop 23 = dktX3_draws_1 := dk_seg dksX3_draws_0 23 rfl rfl
theorem dksX3_draws_2 : cX3_draws.data.toList.drop 47 = dktX3_draws_2 := dk_seg dksX3_draws_1 24 rfl rfl
theorem dksX3_draws_3 : cX3_draws.data.toList.drop 71 = dktX3_draws_3 := dk_seg dksX3_draws_2 24 rfl rfl
theorem dksX3_draws_4 : cX3_draws.data.toList.drop 93 = dktX3_draws_4 := dk_seg dksX3_draws_3 22 rfl rfl
theorem dksX3_draws_5 : cX3_draws.data.toList.drop 115 = dktX3_draws_5 := dk_seg dksX3_draws_4 22 rfl rfl
theorem dksX3_draws_6 : cX3_draws.data.toList.drop 139 = dktX3_draws_6 := dk_seg dksX3_draws_5 24 rfl rfl
theorem dksX3_draws_7 : cX3_draws.data.toList.drop 162 = dktX3_draws_7 := dk_seg dksX3_draws_6 23 rfl rfl
theorem dksX3_draws_8 : cX3_draws.data.toList.drop 185 = dktX3_draws_8 := dk_seg dksX3_draws_7 23 rfl rfl
theorem dX3_draws_0 : decode cX3_draws 0 = .ok (.aload_n 0, 1) := dk_42 (dk_at dksX3_draws_0 0 rfl rfl)
theorem dX3_draws_1 : decode cX3_draws 1 = .ok (.getfield 76, 3) := dk_180 0 76 (dk_at dksX3_draws_0 1 rfl rfl)
theorem dX3_draws_4 : decode cX3_draws 4 = .ok (.ifCond .ne 4, 3) := dk_154 0 4 (dk_at dksX3_draws_0 4 rfl rfl)
theorem dX3_draws_7 : decode cX3_draws 7 = .ok (.return_, 1) := dk_177 (dk_at dksX3_draws_0 7 rfl rfl)
theorem dX3_draws_8 : decode cX3_draws 8 = .ok (.iconst 0, 1) := dk_3 (dk_at dksX3_draws_0 8 rfl rfl)
theorem dX3_draws_9 : decode cX3_draws 9 = .ok (.istore_n 2, 1) := dk_61 (dk_at dksX3_draws_0 9 rfl rfl)
theorem dX3_draws_10 : decode cX3_draws 10 = .ok (.iload_n 2, 1) := dk_28 (dk_at dksX3_draws_0 10 rfl rfl)
theorem dX3_draws_11 : decode cX3_draws 11 = .ok (.aload_n 0, 1) := dk_42 (dk_at dksX3_draws_0 11 rfl rfl)
theorem dX3_draws_12 : decode cX3_draws 12 = .ok (.getfield 53, 3) := dk_180 0 53 (dk_at dksX3_draws_0 12 rfl rfl)
theorem dX3_draws_15 : decode cX3_draws 15 = .ok (.getfield 80, 3) := dk_180 0 80 (dk_at dksX3_draws_0 15 rfl rfl)
theorem dX3_draws_18 : decode cX3_draws 18 = .ok (.invokeinterface 86 1, 5) := by decide +kernel
theorem dX3_draws_23 : decode cX3_draws 23 = .ok (.if_icmp .ge 168, 3) := dk_162 0 168 (dk_at dksX3_draws_1 0 rfl rfl)
theorem dX3_draws_26 : decode cX3_draws 26 = .ok (.aload_n 0, 1) := dk_42 (dk_at dksX3_draws_1 3 rfl rfl)
theorem dX3_draws_27 : decode cX3_draws 27 = .ok (.getfield 53, 3) := dk_180 0 53 (dk_at dksX3_draws_1 4 rfl rfl)
theorem dX3_draws_30 : decode cX3_draws 30 = .ok (.getfield 80, 3) := dk_180 0 80 (dk_at dksX3_draws_1 7 rfl rfl)
theorem dX3_draws_33 : decode cX3_draws 33 = .ok (.iload_n 2, 1) := dk_28 (dk_at dksX3_draws_1 10 rfl rfl)
theorem dX3_draws_34 : decode cX3_draws 34 = .ok (.invokeinterface 96 2, 5) := by decide +kernel
theorem dX3_draws_39 : decode cX3_draws 39 = .ok (.checkcast 100, 3) := dk_192 0 100 (dk_at dksX3_draws_1 16 rfl rfl)
theorem dX3_draws_42 : decode cX3_draws 42 = .ok (.getfield 102, 3) := dk_180 0 102 (dk_at dksX3_draws_1 19 rfl rfl)
theorem dX3_draws_45 : decode cX3_draws 45 = .ok (.astore_n 3, 1) := dk_78 (dk_at dksX3_draws_1 22 rfl rfl)
theorem dX3_draws_46 : decode cX3_draws 46 = .ok (.iconst 0, 1) := dk_3 (dk_at dksX3_draws_1 23 rfl rfl)
theorem dX3_draws_47 : decode cX3_draws 47 = .ok (.istore 4, 2) := dk_54 4 (dk_at dksX3_draws_2 0 rfl rfl)
theorem dX3_draws_49 : decode cX3_draws 49 = .ok (.iload 4, 2) := dk_21 4 (dk_at dksX3_draws_2 2 rfl rfl)
theorem dX3_draws_51 : decode cX3_draws 51 = .ok (.aload_n 3, 1) := dk_45 (dk_at dksX3_draws_2 4 rfl rfl)
theorem dX3_draws_52 : decode cX3_draws 52 = .ok (.invokeinterface 86 1, 5) := by decide +kernel
theorem dX3_draws_57 : decode cX3_draws 57 = .ok (.if_icmp .ge 128, 3) := dk_162 0 128 (dk_at dksX3_draws_2 10 rfl rfl)
theorem dX3_draws_60 : decode cX3_draws 60 = .ok (.aload_n 0, 1) := dk_42 (dk_at dksX3_draws_2 13 rfl rfl)
theorem dX3_draws_61 : decode cX3_draws 61 = .ok (.getfield 50, 3) := dk_180 0 50 (dk_at dksX3_draws_2 14 rfl rfl)
theorem dX3_draws_64 : decode cX3_draws 64 = .ok (.iload_n 2, 1) := dk_28 (dk_at dksX3_draws_2 17 rfl rfl)
theorem dX3_draws_65 : decode cX3_draws 65 = .ok (.aaload, 1) := dk_50 (dk_at dksX3_draws_2 18 rfl rfl)
theorem dX3_draws_66 : decode cX3_draws 66 = .ok (.iload 4, 2) := dk_21 4 (dk_at dksX3_draws_2 19 rfl rfl)
theorem dX3_draws_68 : decode cX3_draws 68 = .ok (.iconst 0, 1) := dk_3 (dk_at dksX3_draws_2 21 rfl rfl)
theorem dX3_draws_69 : decode cX3_draws 69 = .ok (.bastore, 1) := dk_84 (dk_at dksX3_draws_2 22 rfl rfl)
theorem dX3_draws_70 : decode cX3_draws 70 = .ok (.aload_n 3, 1) := dk_45 (dk_at dksX3_draws_2 23 rfl rfl)
theorem dX3_draws_71 : decode cX3_draws 71 = .ok (.iload 4, 2) := dk_21 4 (dk_at dksX3_draws_3 0 rfl rfl)
theorem dX3_draws_73 : decode cX3_draws 73 = .ok (.invokeinterface 96 2, 5) := by decide +kernel
theorem dX3_draws_78 : decode cX3_draws 78 = .ok (.checkcast 150, 3) := dk_192 0 150 (dk_at dksX3_draws_3 7 rfl rfl)
theorem dX3_draws_81 : decode cX3_draws 81 = .ok (.invokevirtual 152, 3) := dk_182 0 152 (dk_at dksX3_draws_3 10 rfl rfl)
theorem dX3_draws_84 : decode cX3_draws 84 = .ok (.iconst (-1), 1) := dk_2 (dk_at dksX3_draws_3 13 rfl rfl)
theorem dX3_draws_85 : decode cX3_draws 85 = .ok (.if_icmp .eq 94, 3) := dk_159 0 94 (dk_at dksX3_draws_3 14 rfl rfl)
theorem dX3_draws_88 : decode cX3_draws 88 = .ok (.aload_n 0, 1) := dk_42 (dk_at dksX3_draws_3 17 rfl rfl)
theorem dX3_draws_89 : decode cX3_draws 89 = .ok (.iload_n 2, 1) := dk_28 (dk_at dksX3_draws_3 18 rfl rfl)
theorem dX3_draws_90 : decode cX3_draws 90 = .ok (.aload_n 3, 1) := dk_45 (dk_at dksX3_draws_3 19 rfl rfl)
theorem dX3_draws_91 : decode cX3_draws 91 = .ok (.iload 4, 2) := dk_21 4 (dk_at dksX3_draws_3 20 rfl rfl)
theorem dX3_draws_93 : decode cX3_draws 93 = .ok (.invokeinterface 96 2, 5) := by decide +kernel
theorem dX3_draws_98 : decode cX3_draws 98 = .ok (.checkcast 150, 3) := dk_192 0 150 (dk_at dksX3_draws_4 5 rfl rfl)
theorem dX3_draws_101 : decode cX3_draws 101 = .ok (.getfield 155, 3) := dk_180 0 155 (dk_at dksX3_draws_4 8 rfl rfl)
theorem dX3_draws_104 : decode cX3_draws 104 = .ok (.iload_n 1, 1) := dk_27 (dk_at dksX3_draws_4 11 rfl rfl)
theorem dX3_draws_105 : decode cX3_draws 105 = .ok (.invokevirtual 158, 3) := dk_182 0 158 (dk_at dksX3_draws_4 12 rfl rfl)
theorem dX3_draws_108 : decode cX3_draws 108 = .ok (.ifCond .ne 6, 3) := dk_154 0 6 (dk_at dksX3_draws_4 15 rfl rfl)
theorem dX3_draws_111 : decode cX3_draws 111 = .ok (.goto 68, 3) := dk_167 0 68 (dk_at dksX3_draws_4 18 rfl rfl)
theorem dX3_draws_114 : decode cX3_draws 114 = .ok (.aload_n 0, 1) := dk_42 (dk_at dksX3_draws_4 21 rfl rfl)
theorem dX3_draws_115 : decode cX3_draws 115 = .ok (.ldc2_w 162, 3) := dk_20 0 162 (dk_at dksX3_draws_5 0 rfl rfl)
theorem dX3_draws_118 : decode cX3_draws 118 = .ok (.aload_n 0, 1) := dk_42 (dk_at dksX3_draws_5 3 rfl rfl)
theorem dX3_draws_119 : decode cX3_draws 119 = .ok (.getfield 164, 3) := dk_180 0 164 (dk_at dksX3_draws_5 4 rfl rfl)
theorem dX3_draws_122 : decode cX3_draws 122 = .ok (.lmul, 1) := dk_105 (dk_at dksX3_draws_5 7 rfl rfl)
theorem dX3_draws_123 : decode cX3_draws 123 = .ok (.ldc2_w 168, 3) := dk_20 0 168 (dk_at dksX3_draws_5 8 rfl rfl)
theorem dX3_draws_126 : decode cX3_draws 126 = .ok (.ladd, 1) := dk_97 (dk_at dksX3_draws_5 11 rfl rfl)
theorem dX3_draws_127 : decode cX3_draws 127 = .ok (.ldc2_w 170, 3) := dk_20 0 170 (dk_at dksX3_draws_5 12 rfl rfl)
theorem dX3_draws_130 : decode cX3_draws 130 = .ok (.lrem, 1) := dk_113 (dk_at dksX3_draws_5 15 rfl rfl)
theorem dX3_draws_131 : decode cX3_draws 131 = .ok (.putfield 164, 3) := dk_181 0 164 (dk_at dksX3_draws_5 16 rfl rfl)
theorem dX3_draws_134 : decode cX3_draws 134 = .ok (.aload_n 0, 1) := dk_42 (dk_at dksX3_draws_5 19 rfl rfl)
theorem dX3_draws_135 : decode cX3_draws 135 = .ok (.getfield 50, 3) := dk_180 0 50 (dk_at dksX3_draws_5 20 rfl rfl)
theorem dX3_draws_138 : decode cX3_draws 138 = .ok (.iload_n 2, 1) := dk_28 (dk_at dksX3_draws_5 23 rfl rfl)
theorem dX3_draws_139 : decode cX3_draws 139 = .ok (.aaload, 1) := dk_50 (dk_at dksX3_draws_6 0 rfl rfl)
theorem dX3_draws_140 : decode cX3_draws 140 = .ok (.iload 4, 2) := dk_21 4 (dk_at dksX3_draws_6 1 rfl rfl)
theorem dX3_draws_142 : decode cX3_draws 142 = .ok (.aload_n 0, 1) := dk_42 (dk_at dksX3_draws_6 3 rfl rfl)
theorem dX3_draws_143 : decode cX3_draws 143 = .ok (.getfield 164, 3) := dk_180 0 164 (dk_at dksX3_draws_6 4 rfl rfl)
theorem dX3_draws_146 : decode cX3_draws 146 = .ok (.ldc2_w 172, 3) := dk_20 0 172 (dk_at dksX3_draws_6 7 rfl rfl)
theorem dX3_draws_149 : decode cX3_draws 149 = .ok (.ldiv, 1) := dk_109 (dk_at dksX3_draws_6 10 rfl rfl)
theorem dX3_draws_150 : decode cX3_draws 150 = .ok (.ldc2_w 174, 3) := dk_20 0 174 (dk_at dksX3_draws_6 11 rfl rfl)
theorem dX3_draws_153 : decode cX3_draws 153 = .ok (.lrem, 1) := dk_113 (dk_at dksX3_draws_6 14 rfl rfl)
theorem dX3_draws_154 : decode cX3_draws 154 = .ok (.aload_n 3, 1) := dk_45 (dk_at dksX3_draws_6 15 rfl rfl)
theorem dX3_draws_155 : decode cX3_draws 155 = .ok (.iload 4, 2) := dk_21 4 (dk_at dksX3_draws_6 16 rfl rfl)
theorem dX3_draws_157 : decode cX3_draws 157 = .ok (.invokeinterface 96 2, 5) := by decide +kernel
theorem dX3_draws_162 : decode cX3_draws 162 = .ok (.checkcast 150, 3) := dk_192 0 150 (dk_at dksX3_draws_7 0 rfl rfl)
theorem dX3_draws_165 : decode cX3_draws 165 = .ok (.invokevirtual 152, 3) := dk_182 0 152 (dk_at dksX3_draws_7 3 rfl rfl)
theorem dX3_draws_168 : decode cX3_draws 168 = .ok (.i2l, 1) := dk_133 (dk_at dksX3_draws_7 6 rfl rfl)
theorem dX3_draws_169 : decode cX3_draws 169 = .ok (.lcmp, 1) := dk_148 (dk_at dksX3_draws_7 7 rfl rfl)
theorem dX3_draws_170 : decode cX3_draws 170 = .ok (.ifCond .ge 7, 3) := dk_156 0 7 (dk_at dksX3_draws_7 8 rfl rfl)
theorem dX3_draws_173 : decode cX3_draws 173 = .ok (.iconst 1, 1) := dk_4 (dk_at dksX3_draws_7 11 rfl rfl)
theorem dX3_draws_174 : decode cX3_draws 174 = .ok (.goto 4, 3) := dk_167 0 4 (dk_at dksX3_draws_7 12 rfl rfl)
theorem dX3_draws_177 : decode cX3_draws 177 = .ok (.iconst 0, 1) := dk_3 (dk_at dksX3_draws_7 15 rfl rfl)
theorem dX3_draws_178 : decode cX3_draws 178 = .ok (.bastore, 1) := dk_84 (dk_at dksX3_draws_7 16 rfl rfl)
theorem dX3_draws_179 : decode cX3_draws 179 = .ok (.iinc 4 1, 3) := dk_132 4 1 (dk_at dksX3_draws_7 17 rfl rfl)
theorem dX3_draws_182 : decode cX3_draws 182 = .ok (.goto (-133), 3) := dk_167 255 123 (dk_at dksX3_draws_7 20 rfl rfl)
theorem dX3_draws_185 : decode cX3_draws 185 = .ok (.iinc 2 1, 3) := dk_132 2 1 (dk_at dksX3_draws_8 0 rfl rfl)
theorem dX3_draws_188 : decode cX3_draws 188 = .ok (.goto (-178), 3) := dk_167 255 78 (dk_at dksX3_draws_8 3 rfl rfl)
theorem dX3_draws_191 : decode cX3_draws 191 = .ok (.return_, 1) := dk_177 (dk_at dksX3_draws_8 6 rfl rfl)
abbrev cX3_settles : ByteArray := prog_3_method_13_code
def yX3_settles : MethodName := ⟨RX3, "settles", "(I)V"⟩
def dkwX3_settles_7 : List UInt8 := [132, 4, 1, 167, 255, 220, 177]
abbrev dktX3_settles_7 : List UInt8 := dkwX3_settles_7 ++ []
def dkwX3_settles_6 : List UInt8 := [185, 0, 86, 1, 0, 162, 0, 25, 42, 180, 0, 11, 21, 4, 50, 27, 42, 180, 0, 26, 21, 4, 46, 79]
abbrev dktX3_settles_6 : List UInt8 := dkwX3_settles_6 ++ dktX3_settles_7
def dkwX3_settles_5 : List UInt8 := [132, 4, 1, 167, 255, 197, 167, 255, 174, 3, 54, 4, 21, 4, 42, 180, 0, 53, 180, 0, 80]
abbrev dktX3_settles_5 : List UInt8 := dkwX3_settles_5 ++ dktX3_settles_6
def dkwX3_settles_4 : List UInt8 := [167, 0, 24, 4, 62, 42, 21, 4, 42, 180, 0, 22, 21, 4, 46, 2, 130, 184, 0, 180, 27, 182, 0, 186]
abbrev dktX3_settles_4 : List UInt8 := dkwX3_settles_4 ++ dktX3_settles_5
def dkwX3_settles_3 : List UInt8 := [185, 0, 86, 1, 0, 162, 0, 48, 29, 154, 0, 44, 42, 180, 0, 22, 21, 4, 46, 28, 160, 0, 6]
abbrev dktX3_settles_3 : List UInt8 := dkwX3_settles_3 ++ dktX3_settles_4
def dkwX3_settles_2 : List UInt8 := [153, 0, 6, 167, 255, 248, 3, 62, 3, 54, 4, 21, 4, 42, 180, 0, 53, 180, 0, 80]
abbrev dktX3_settles_2 : List UInt8 := dkwX3_settles_2 ++ dktX3_settles_3
def dkwX3_settles_1 : List UInt8 := [184, 0, 67, 42, 180, 0, 26, 3, 184, 0, 67, 4, 62, 29, 153, 0, 84, 42, 27, 182, 0, 176]
abbrev dktX3_settles_1 : List UInt8 := dkwX3_settles_1 ++ dktX3_settles_2
def dkwX3_settles_0 : List UInt8 := [4, 42, 180, 0, 53, 180, 0, 117, 185, 0, 86, 1, 0, 120, 4, 100, 61, 42, 180, 0, 22, 3]
abbrev dktX3_settles_0 : List UInt8 := dkwX3_settles_0 ++ dktX3_settles_1
theorem dksX3_settles_0 : cX3_settles.data.toList.drop 0 = dktX3_settles_0 := by decide +kernel
theorem dksX3_settles_1 : cX3_settles.data.toList.drop 22 = dktX3_settles_1 := dk_seg dksX3_settles_0 22 rfl rfl
theorem dksX3_settles_2 : cX3_settles.data.toList.drop 44 = dktX3_settles_2 := dk_seg dksX3_settles_1 22 rfl rfl
theorem dksX3_settles_3 : cX3_settles.data.toList.drop 64 = dktX3_settles_3 := dk_seg dksX3_settles_2 20 rfl rfl
theorem dksX3_settles_4 : cX3_settles.data.toList.drop 87 = dktX3_settles_4 := dk_seg dksX3_settles_3 23 rfl rfl
theorem dksX3_settles_5 : cX3_settles.data.toList.drop 111 = dktX3_settles_5 := dk_seg dksX3_settles_4 24 rfl rfl
theorem dksX3_settles_6 : cX3_settles.data.toList.drop 132 = dktX3_settles_6 := dk_seg dksX3_settles_5 21 rfl rfl
theorem dksX3_settles_7 : cX3_settles.data.toList.drop 156 = dktX3_settles_7 := dk_seg dksX3_settles_6 24 rfl rfl
theorem dX3_settles_0 : decode cX3_settles 0 = .ok (.iconst 1, 1) := dk_4 (dk_at dksX3_settles_0 0 rfl rfl)
theorem dX3_settles_1 : decode cX3_settles 1 = .ok (.aload_n 0, 1) := dk_42 (dk_at dksX3_settles_0 1 rfl rfl)
theorem dX3_settles_2 : decode cX3_settles 2 = .ok (.getfield 53, 3) := dk_180 0 53 (dk_at dksX3_settles_0 2 rfl rfl)
theorem dX3_settles_5 : decode cX3_settles 5 = .ok (.getfield 117, 3) := dk_180 0 117 (dk_at dksX3_settles_0 5 rfl rfl)
theorem dX3_settles_8 : decode cX3_settles 8 = .ok (.invokeinterface 86 1, 5) := by decide +kernel
theorem dX3_settles_13 : decode cX3_settles 13 = .ok (.ishl, 1) := dk_120 (dk_at dksX3_settles_0 13 rfl rfl)
theorem dX3_settles_14 : decode cX3_settles 14 = .ok (.iconst 1, 1) := dk_4 (dk_at dksX3_settles_0 14 rfl rfl)
theorem dX3_settles_15 : decode cX3_settles 15 = .ok (.isub, 1) := dk_100 (dk_at dksX3_settles_0 15 rfl rfl)
theorem dX3_settles_16 : decode cX3_settles 16 = .ok (.istore_n 2, 1) := dk_61 (dk_at dksX3_settles_0 16 rfl rfl)
theorem dX3_settles_17 : decode cX3_settles 17 = .ok (.aload_n 0, 1) := dk_42 (dk_at dksX3_settles_0 17 rfl rfl)
theorem dX3_settles_18 : decode cX3_settles 18 = .ok (.getfield 22, 3) := dk_180 0 22 (dk_at dksX3_settles_0 18 rfl rfl)
theorem dX3_settles_21 : decode cX3_settles 21 = .ok (.iconst 0, 1) := dk_3 (dk_at dksX3_settles_0 21 rfl rfl)
theorem dX3_settles_22 : decode cX3_settles 22 = .ok (.invokestatic 67, 3) := dk_184 0 67 (dk_at dksX3_settles_1 0 rfl rfl)
theorem dX3_settles_25 : decode cX3_settles 25 = .ok (.aload_n 0, 1) := dk_42 (dk_at dksX3_settles_1 3 rfl rfl)
theorem dX3_settles_26 : decode cX3_settles 26 = .ok (.getfield 26, 3) := dk_180 0 26 (dk_at dksX3_settles_1 4 rfl rfl)
theorem dX3_settles_29 : decode cX3_settles 29 = .ok (.iconst 0, 1) := dk_3 (dk_at dksX3_settles_1 7 rfl rfl)
theorem dX3_settles_30 : decode cX3_settles 30 = .ok (.invokestatic 67, 3) := dk_184 0 67 (dk_at dksX3_settles_1 8 rfl rfl)
theorem dX3_settles_33 : decode cX3_settles 33 = .ok (.iconst 1, 1) := dk_4 (dk_at dksX3_settles_1 11 rfl rfl)
theorem dX3_settles_34 : decode cX3_settles 34 = .ok (.istore_n 3, 1) := dk_62 (dk_at dksX3_settles_1 12 rfl rfl)
theorem dX3_settles_35 : decode cX3_settles 35 = .ok (.iload_n 3, 1) := dk_29 (dk_at dksX3_settles_1 13 rfl rfl)
theorem dX3_settles_36 : decode cX3_settles 36 = .ok (.ifCond .eq 84, 3) := dk_153 0 84 (dk_at dksX3_settles_1 14 rfl rfl)
theorem dX3_settles_39 : decode cX3_settles 39 = .ok (.aload_n 0, 1) := dk_42 (dk_at dksX3_settles_1 17 rfl rfl)
theorem dX3_settles_40 : decode cX3_settles 40 = .ok (.iload_n 1, 1) := dk_27 (dk_at dksX3_settles_1 18 rfl rfl)
theorem dX3_settles_41 : decode cX3_settles 41 = .ok (.invokevirtual 176, 3) := dk_182 0 176 (dk_at dksX3_settles_1 19 rfl rfl)
theorem dX3_settles_44 : decode cX3_settles 44 = .ok (.ifCond .eq 6, 3) := dk_153 0 6 (dk_at dksX3_settles_2 0 rfl rfl)
theorem dX3_settles_47 : decode cX3_settles 47 = .ok (.goto (-8), 3) := dk_167 255 248 (dk_at dksX3_settles_2 3 rfl rfl)
theorem dX3_settles_50 : decode cX3_settles 50 = .ok (.iconst 0, 1) := dk_3 (dk_at dksX3_settles_2 6 rfl rfl)
theorem dX3_settles_51 : decode cX3_settles 51 = .ok (.istore_n 3, 1) := dk_62 (dk_at dksX3_settles_2 7 rfl rfl)
theorem dX3_settles_52 : decode cX3_settles 52 = .ok (.iconst 0, 1) := dk_3 (dk_at dksX3_settles_2 8 rfl rfl)
theorem dX3_settles_53 : decode cX3_settles 53 = .ok (.istore 4, 2) := dk_54 4 (dk_at dksX3_settles_2 9 rfl rfl)
theorem dX3_settles_55 : decode cX3_settles 55 = .ok (.iload 4, 2) := dk_21 4 (dk_at dksX3_settles_2 11 rfl rfl)
theorem dX3_settles_57 : decode cX3_settles 57 = .ok (.aload_n 0, 1) := dk_42 (dk_at dksX3_settles_2 13 rfl rfl)
theorem dX3_settles_58 : decode cX3_settles 58 = .ok (.getfield 53, 3) := dk_180 0 53 (dk_at dksX3_settles_2 14 rfl rfl)
theorem dX3_settles_61 : decode cX3_settles 61 = .ok (.getfield 80, 3) := dk_180 0 80 (dk_at dksX3_settles_2 17 rfl rfl)
theorem dX3_settles_64 : decode cX3_settles 64 = .ok (.invokeinterface 86 1, 5) := by decide +kernel
theorem dX3_settles_69 : decode cX3_settles 69 = .ok (.if_icmp .ge 48, 3) := dk_162 0 48 (dk_at dksX3_settles_3 5 rfl rfl)
theorem dX3_settles_72 : decode cX3_settles 72 = .ok (.iload_n 3, 1) := dk_29 (dk_at dksX3_settles_3 8 rfl rfl)
theorem dX3_settles_73 : decode cX3_settles 73 = .ok (.ifCond .ne 44, 3) := dk_154 0 44 (dk_at dksX3_settles_3 9 rfl rfl)
theorem dX3_settles_76 : decode cX3_settles 76 = .ok (.aload_n 0, 1) := dk_42 (dk_at dksX3_settles_3 12 rfl rfl)
theorem dX3_settles_77 : decode cX3_settles 77 = .ok (.getfield 22, 3) := dk_180 0 22 (dk_at dksX3_settles_3 13 rfl rfl)
theorem dX3_settles_80 : decode cX3_settles 80 = .ok (.iload 4, 2) := dk_21 4 (dk_at dksX3_settles_3 16 rfl rfl)
theorem dX3_settles_82 : decode cX3_settles 82 = .ok (.iaload, 1) := dk_46 (dk_at dksX3_settles_3 18 rfl rfl)
theorem dX3_settles_83 : decode cX3_settles 83 = .ok (.iload_n 2, 1) := dk_28 (dk_at dksX3_settles_3 19 rfl rfl)
theorem dX3_settles_84 : decode cX3_settles 84 = .ok (.if_icmp .ne 6, 3) := dk_160 0 6 (dk_at dksX3_settles_3 20 rfl rfl)
theorem dX3_settles_87 : decode cX3_settles 87 = .ok (.goto 24, 3) := dk_167 0 24 (dk_at dksX3_settles_4 0 rfl rfl)
theorem dX3_settles_90 : decode cX3_settles 90 = .ok (.iconst 1, 1) := dk_4 (dk_at dksX3_settles_4 3 rfl rfl)
theorem dX3_settles_91 : decode cX3_settles 91 = .ok (.istore_n 3, 1) := dk_62 (dk_at dksX3_settles_4 4 rfl rfl)
theorem dX3_settles_92 : decode cX3_settles 92 = .ok (.aload_n 0, 1) := dk_42 (dk_at dksX3_settles_4 5 rfl rfl)
theorem dX3_settles_93 : decode cX3_settles 93 = .ok (.iload 4, 2) := dk_21 4 (dk_at dksX3_settles_4 6 rfl rfl)
theorem dX3_settles_95 : decode cX3_settles 95 = .ok (.aload_n 0, 1) := dk_42 (dk_at dksX3_settles_4 8 rfl rfl)
theorem dX3_settles_96 : decode cX3_settles 96 = .ok (.getfield 22, 3) := dk_180 0 22 (dk_at dksX3_settles_4 9 rfl rfl)
theorem dX3_settles_99 : decode cX3_settles 99 = .ok (.iload 4, 2) := dk_21 4 (dk_at dksX3_settles_4 12 rfl rfl)
theorem dX3_settles_101 : decode cX3_settles 101 = .ok (.iaload, 1) := dk_46 (dk_at dksX3_settles_4 14 rfl rfl)
theorem dX3_settles_102 : decode cX3_settles 102 = .ok (.iconst (-1), 1) := dk_2 (dk_at dksX3_settles_4 15 rfl rfl)
theorem dX3_settles_103 : decode cX3_settles 103 = .ok (.ixor, 1) := dk_130 (dk_at dksX3_settles_4 16 rfl rfl)
theorem dX3_settles_104 : decode cX3_settles 104 = .ok (.invokestatic 180, 3) := dk_184 0 180 (dk_at dksX3_settles_4 17 rfl rfl)
theorem dX3_settles_107 : decode cX3_settles 107 = .ok (.iload_n 1, 1) := dk_27 (dk_at dksX3_settles_4 20 rfl rfl)
theorem dX3_settles_108 : decode cX3_settles 108 = .ok (.invokevirtual 186, 3) := dk_182 0 186 (dk_at dksX3_settles_4 21 rfl rfl)
theorem dX3_settles_111 : decode cX3_settles 111 = .ok (.iinc 4 1, 3) := dk_132 4 1 (dk_at dksX3_settles_5 0 rfl rfl)
theorem dX3_settles_114 : decode cX3_settles 114 = .ok (.goto (-59), 3) := dk_167 255 197 (dk_at dksX3_settles_5 3 rfl rfl)
theorem dX3_settles_117 : decode cX3_settles 117 = .ok (.goto (-82), 3) := dk_167 255 174 (dk_at dksX3_settles_5 6 rfl rfl)
theorem dX3_settles_120 : decode cX3_settles 120 = .ok (.iconst 0, 1) := dk_3 (dk_at dksX3_settles_5 9 rfl rfl)
theorem dX3_settles_121 : decode cX3_settles 121 = .ok (.istore 4, 2) := dk_54 4 (dk_at dksX3_settles_5 10 rfl rfl)
theorem dX3_settles_123 : decode cX3_settles 123 = .ok (.iload 4, 2) := dk_21 4 (dk_at dksX3_settles_5 12 rfl rfl)
theorem dX3_settles_125 : decode cX3_settles 125 = .ok (.aload_n 0, 1) := dk_42 (dk_at dksX3_settles_5 14 rfl rfl)
theorem dX3_settles_126 : decode cX3_settles 126 = .ok (.getfield 53, 3) := dk_180 0 53 (dk_at dksX3_settles_5 15 rfl rfl)
theorem dX3_settles_129 : decode cX3_settles 129 = .ok (.getfield 80, 3) := dk_180 0 80 (dk_at dksX3_settles_5 18 rfl rfl)
theorem dX3_settles_132 : decode cX3_settles 132 = .ok (.invokeinterface 86 1, 5) := by decide +kernel
theorem dX3_settles_137 : decode cX3_settles 137 = .ok (.if_icmp .ge 25, 3) := dk_162 0 25 (dk_at dksX3_settles_6 5 rfl rfl)
theorem dX3_settles_140 : decode cX3_settles 140 = .ok (.aload_n 0, 1) := dk_42 (dk_at dksX3_settles_6 8 rfl rfl)
theorem dX3_settles_141 : decode cX3_settles 141 = .ok (.getfield 11, 3) := dk_180 0 11 (dk_at dksX3_settles_6 9 rfl rfl)
theorem dX3_settles_144 : decode cX3_settles 144 = .ok (.iload 4, 2) := dk_21 4 (dk_at dksX3_settles_6 12 rfl rfl)
theorem dX3_settles_146 : decode cX3_settles 146 = .ok (.aaload, 1) := dk_50 (dk_at dksX3_settles_6 14 rfl rfl)
theorem dX3_settles_147 : decode cX3_settles 147 = .ok (.iload_n 1, 1) := dk_27 (dk_at dksX3_settles_6 15 rfl rfl)
theorem dX3_settles_148 : decode cX3_settles 148 = .ok (.aload_n 0, 1) := dk_42 (dk_at dksX3_settles_6 16 rfl rfl)
theorem dX3_settles_149 : decode cX3_settles 149 = .ok (.getfield 26, 3) := dk_180 0 26 (dk_at dksX3_settles_6 17 rfl rfl)
theorem dX3_settles_152 : decode cX3_settles 152 = .ok (.iload 4, 2) := dk_21 4 (dk_at dksX3_settles_6 20 rfl rfl)
theorem dX3_settles_154 : decode cX3_settles 154 = .ok (.iaload, 1) := dk_46 (dk_at dksX3_settles_6 22 rfl rfl)
theorem dX3_settles_155 : decode cX3_settles 155 = .ok (.iastore, 1) := dk_79 (dk_at dksX3_settles_6 23 rfl rfl)
theorem dX3_settles_156 : decode cX3_settles 156 = .ok (.iinc 4 1, 3) := dk_132 4 1 (dk_at dksX3_settles_7 0 rfl rfl)
theorem dX3_settles_159 : decode cX3_settles 159 = .ok (.goto (-36), 3) := dk_167 255 220 (dk_at dksX3_settles_7 3 rfl rfl)
theorem dX3_settles_162 : decode cX3_settles 162 = .ok (.return_, 1) := dk_177 (dk_at dksX3_settles_7 6 rfl rfl)
abbrev cX3_settlesSome : ByteArray := prog_3_method_16_code
def yX3_settlesSome : MethodName := ⟨RX3, "settlesSome", "(I)Z"⟩
def dkwX3_settlesSome_4 : List UInt8 := [4, 61, 132, 4, 1, 167, 255, 180, 132, 3, 1, 167, 255, 155, 28, 172]
abbrev dktX3_settlesSome_4 : List UInt8 := dkwX3_settlesSome_4 ++ []
def dkwX3_settlesSome_3 : List UInt8 := [160, 0, 6, 167, 0, 23, 42, 29, 21, 4, 21, 5, 5, 160, 0, 7, 4, 167, 0, 4, 3, 182, 0, 190]
abbrev dktX3_settlesSome_3 : List UInt8 := dkwX3_settlesSome_3 ++ dktX3_settlesSome_4
def dkwX3_settlesSome_2 : List UInt8 := [21, 4, 184, 0, 92, 153, 0, 6, 167, 0, 42, 42, 29, 21, 4, 27, 182, 0, 194, 54, 5, 21, 5, 4]
abbrev dktX3_settlesSome_2 : List UInt8 := dkwX3_settlesSome_2 ++ dktX3_settlesSome_3
def dkwX3_settlesSome_1 : List UInt8 := [21, 4, 42, 180, 0, 53, 180, 0, 117, 185, 0, 86, 1, 0, 162, 0, 65, 42, 180, 0, 22, 29, 46]
abbrev dktX3_settlesSome_1 : List UInt8 := dkwX3_settlesSome_1 ++ dktX3_settlesSome_2
def dkwX3_settlesSome_0 : List UInt8 := [3, 61, 3, 62, 29, 42, 180, 0, 53, 180, 0, 80, 185, 0, 86, 1, 0, 162, 0, 91, 3, 54, 4]
abbrev dktX3_settlesSome_0 : List UInt8 := dkwX3_settlesSome_0 ++ dktX3_settlesSome_1
theorem dksX3_settlesSome_0 : cX3_settlesSome.data.toList.drop 0 = dktX3_settlesSome_0 := by decide +kernel
theorem dksX3_settlesSome_1 : cX3_settlesSome.data.toList.drop 23 = dktX3_settlesSome_1 := dk_seg dksX3_settlesSome_0 23 rfl rfl
theorem dksX3_settlesSome_2 : cX3_settlesSome.data.toList.drop 46 = dktX3_settlesSome_2 := dk_seg dksX3_settlesSome_1 23 rfl rfl
theorem dksX3_settlesSome_3 : cX3_settlesSome.data.toList.drop 70 = dktX3_settlesSome_3 := dk_seg dksX3_settlesSome_2 24 rfl rfl
theorem dksX3_settlesSome_4 : cX3_settlesSome.data.toList.drop 94 = dktX3_settlesSome_4 := dk_seg dksX3_settlesSome_3 24 rfl rfl
theorem dX3_settlesSome_0 : decode cX3_settlesSome 0 = .ok (.iconst 0, 1) := dk_3 (dk_at dksX3_settlesSome_0 0 rfl rfl)
theorem dX3_settlesSome_1 : decode cX3_settlesSome 1 = .ok (.istore_n 2, 1) := dk_61 (dk_at dksX3_settlesSome_0 1 rfl rfl)
theorem dX3_settlesSome_2 : decode cX3_settlesSome 2 = .ok (.iconst 0, 1) := dk_3 (dk_at dksX3_settlesSome_0 2 rfl rfl)
theorem dX3_settlesSome_3 : decode cX3_settlesSome 3 = .ok (.istore_n 3, 1) := dk_62 (dk_at dksX3_settlesSome_0 3 rfl rfl)
theorem dX3_settlesSome_4 : decode cX3_settlesSome 4 = .ok (.iload_n 3, 1) := dk_29 (dk_at dksX3_settlesSome_0 4 rfl rfl)
theorem dX3_settlesSome_5 : decode cX3_settlesSome 5 = .ok (.aload_n 0, 1) := dk_42 (dk_at dksX3_settlesSome_0 5 rfl rfl)
theorem dX3_settlesSome_6 : decode cX3_settlesSome 6 = .ok (.getfield 53, 3) := dk_180 0 53 (dk_at dksX3_settlesSome_0 6 rfl rfl)
theorem dX3_settlesSome_9 : decode cX3_settlesSome 9 = .ok (.getfield 80, 3) := dk_180 0 80 (dk_at dksX3_settlesSome_0 9 rfl rfl)
theorem dX3_settlesSome_12 : decode cX3_settlesSome 12 = .ok (.invokeinterface 86 1, 5) := by decide +kernel
theorem dX3_settlesSome_17 : decode cX3_settlesSome 17 = .ok (.if_icmp .ge 91, 3) := dk_162 0 91 (dk_at dksX3_settlesSome_0 17 rfl rfl)
theorem dX3_settlesSome_20 : decode cX3_settlesSome 20 = .ok (.iconst 0, 1) := dk_3 (dk_at dksX3_settlesSome_0 20 rfl rfl)
theorem dX3_settlesSome_21 : decode cX3_settlesSome 21 = .ok (.istore 4, 2) := dk_54 4 (dk_at dksX3_settlesSome_0 21 rfl rfl)
theorem dX3_settlesSome_23 : decode cX3_settlesSome 23 = .ok (.iload 4, 2) := dk_21 4 (dk_at dksX3_settlesSome_1 0 rfl rfl)
theorem dX3_settlesSome_25 : decode cX3_settlesSome 25 = .ok (.aload_n 0, 1) := dk_42 (dk_at dksX3_settlesSome_1 2 rfl rfl)
theorem dX3_settlesSome_26 : decode cX3_settlesSome 26 = .ok (.getfield 53, 3) := dk_180 0 53 (dk_at dksX3_settlesSome_1 3 rfl rfl)
theorem dX3_settlesSome_29 : decode cX3_settlesSome 29 = .ok (.getfield 117, 3) := dk_180 0 117 (dk_at dksX3_settlesSome_1 6 rfl rfl)
theorem dX3_settlesSome_32 : decode cX3_settlesSome 32 = .ok (.invokeinterface 86 1, 5) := by decide +kernel
theorem dX3_settlesSome_37 : decode cX3_settlesSome 37 = .ok (.if_icmp .ge 65, 3) := dk_162 0 65 (dk_at dksX3_settlesSome_1 14 rfl rfl)
theorem dX3_settlesSome_40 : decode cX3_settlesSome 40 = .ok (.aload_n 0, 1) := dk_42 (dk_at dksX3_settlesSome_1 17 rfl rfl)
theorem dX3_settlesSome_41 : decode cX3_settlesSome 41 = .ok (.getfield 22, 3) := dk_180 0 22 (dk_at dksX3_settlesSome_1 18 rfl rfl)
theorem dX3_settlesSome_44 : decode cX3_settlesSome 44 = .ok (.iload_n 3, 1) := dk_29 (dk_at dksX3_settlesSome_1 21 rfl rfl)
theorem dX3_settlesSome_45 : decode cX3_settlesSome 45 = .ok (.iaload, 1) := dk_46 (dk_at dksX3_settlesSome_1 22 rfl rfl)
theorem dX3_settlesSome_46 : decode cX3_settlesSome 46 = .ok (.iload 4, 2) := dk_21 4 (dk_at dksX3_settlesSome_2 0 rfl rfl)
theorem dX3_settlesSome_48 : decode cX3_settlesSome 48 = .ok (.invokestatic 92, 3) := dk_184 0 92 (dk_at dksX3_settlesSome_2 2 rfl rfl)
theorem dX3_settlesSome_51 : decode cX3_settlesSome 51 = .ok (.ifCond .eq 6, 3) := dk_153 0 6 (dk_at dksX3_settlesSome_2 5 rfl rfl)
theorem dX3_settlesSome_54 : decode cX3_settlesSome 54 = .ok (.goto 42, 3) := dk_167 0 42 (dk_at dksX3_settlesSome_2 8 rfl rfl)
theorem dX3_settlesSome_57 : decode cX3_settlesSome 57 = .ok (.aload_n 0, 1) := dk_42 (dk_at dksX3_settlesSome_2 11 rfl rfl)
theorem dX3_settlesSome_58 : decode cX3_settlesSome 58 = .ok (.iload_n 3, 1) := dk_29 (dk_at dksX3_settlesSome_2 12 rfl rfl)
theorem dX3_settlesSome_59 : decode cX3_settlesSome 59 = .ok (.iload 4, 2) := dk_21 4 (dk_at dksX3_settlesSome_2 13 rfl rfl)
theorem dX3_settlesSome_61 : decode cX3_settlesSome 61 = .ok (.iload_n 1, 1) := dk_27 (dk_at dksX3_settlesSome_2 15 rfl rfl)
theorem dX3_settlesSome_62 : decode cX3_settlesSome 62 = .ok (.invokevirtual 194, 3) := dk_182 0 194 (dk_at dksX3_settlesSome_2 16 rfl rfl)
theorem dX3_settlesSome_65 : decode cX3_settlesSome 65 = .ok (.istore 5, 2) := dk_54 5 (dk_at dksX3_settlesSome_2 19 rfl rfl)
theorem dX3_settlesSome_67 : decode cX3_settlesSome 67 = .ok (.iload 5, 2) := dk_21 5 (dk_at dksX3_settlesSome_2 21 rfl rfl)
theorem dX3_settlesSome_69 : decode cX3_settlesSome 69 = .ok (.iconst 1, 1) := dk_4 (dk_at dksX3_settlesSome_2 23 rfl rfl)
theorem dX3_settlesSome_70 : decode cX3_settlesSome 70 = .ok (.if_icmp .ne 6, 3) := dk_160 0 6 (dk_at dksX3_settlesSome_3 0 rfl rfl)
theorem dX3_settlesSome_73 : decode cX3_settlesSome 73 = .ok (.goto 23, 3) := dk_167 0 23 (dk_at dksX3_settlesSome_3 3 rfl rfl)
theorem dX3_settlesSome_76 : decode cX3_settlesSome 76 = .ok (.aload_n 0, 1) := dk_42 (dk_at dksX3_settlesSome_3 6 rfl rfl)
theorem dX3_settlesSome_77 : decode cX3_settlesSome 77 = .ok (.iload_n 3, 1) := dk_29 (dk_at dksX3_settlesSome_3 7 rfl rfl)
theorem dX3_settlesSome_78 : decode cX3_settlesSome 78 = .ok (.iload 4, 2) := dk_21 4 (dk_at dksX3_settlesSome_3 8 rfl rfl)
theorem dX3_settlesSome_80 : decode cX3_settlesSome 80 = .ok (.iload 5, 2) := dk_21 5 (dk_at dksX3_settlesSome_3 10 rfl rfl)
theorem dX3_settlesSome_82 : decode cX3_settlesSome 82 = .ok (.iconst 2, 1) := dk_5 (dk_at dksX3_settlesSome_3 12 rfl rfl)
theorem dX3_settlesSome_83 : decode cX3_settlesSome 83 = .ok (.if_icmp .ne 7, 3) := dk_160 0 7 (dk_at dksX3_settlesSome_3 13 rfl rfl)
theorem dX3_settlesSome_86 : decode cX3_settlesSome 86 = .ok (.iconst 1, 1) := dk_4 (dk_at dksX3_settlesSome_3 16 rfl rfl)
theorem dX3_settlesSome_87 : decode cX3_settlesSome 87 = .ok (.goto 4, 3) := dk_167 0 4 (dk_at dksX3_settlesSome_3 17 rfl rfl)
theorem dX3_settlesSome_90 : decode cX3_settlesSome 90 = .ok (.iconst 0, 1) := dk_3 (dk_at dksX3_settlesSome_3 20 rfl rfl)
theorem dX3_settlesSome_91 : decode cX3_settlesSome 91 = .ok (.invokevirtual 190, 3) := dk_182 0 190 (dk_at dksX3_settlesSome_3 21 rfl rfl)
theorem dX3_settlesSome_94 : decode cX3_settlesSome 94 = .ok (.iconst 1, 1) := dk_4 (dk_at dksX3_settlesSome_4 0 rfl rfl)
theorem dX3_settlesSome_95 : decode cX3_settlesSome 95 = .ok (.istore_n 2, 1) := dk_61 (dk_at dksX3_settlesSome_4 1 rfl rfl)
theorem dX3_settlesSome_96 : decode cX3_settlesSome 96 = .ok (.iinc 4 1, 3) := dk_132 4 1 (dk_at dksX3_settlesSome_4 2 rfl rfl)
theorem dX3_settlesSome_99 : decode cX3_settlesSome 99 = .ok (.goto (-76), 3) := dk_167 255 180 (dk_at dksX3_settlesSome_4 5 rfl rfl)
theorem dX3_settlesSome_102 : decode cX3_settlesSome 102 = .ok (.iinc 3 1, 3) := dk_132 3 1 (dk_at dksX3_settlesSome_4 8 rfl rfl)
theorem dX3_settlesSome_105 : decode cX3_settlesSome 105 = .ok (.goto (-101), 3) := dk_167 255 155 (dk_at dksX3_settlesSome_4 11 rfl rfl)
theorem dX3_settlesSome_108 : decode cX3_settlesSome 108 = .ok (.iload_n 2, 1) := dk_28 (dk_at dksX3_settlesSome_4 14 rfl rfl)
theorem dX3_settlesSome_109 : decode cX3_settlesSome 109 = .ok (.ireturn, 1) := dk_172 (dk_at dksX3_settlesSome_4 15 rfl rfl)
abbrev cX3_now : ByteArray := prog_3_method_17_code
def yX3_now : MethodName := ⟨RX3, "now", "(III)I"⟩
def dkwX3_now_4 : List UInt8 := [184, 0, 201, 54, 4, 132, 6, 1, 167, 255, 197, 21, 4, 172]
abbrev dktX3_now_4 : List UInt8 := dkwX3_now_4 ++ []
def dkwX3_now_3 : List UInt8 := [160, 0, 28, 21, 4, 25, 5, 21, 6, 185, 0, 96, 2, 0, 192, 0, 150, 42, 27, 29, 182, 0, 198]
abbrev dktX3_now_3 : List UInt8 := dkwX3_now_3 ++ dktX3_now_4
def dkwX3_now_2 : List UInt8 := [185, 0, 86, 1, 0, 162, 0, 53, 25, 5, 21, 6, 185, 0, 96, 2, 0, 192, 0, 150, 180, 0, 155, 28]
abbrev dktX3_now_2 : List UInt8 := dkwX3_now_2 ++ dktX3_now_3
def dkwX3_now_1 : List UInt8 := [185, 0, 96, 2, 0, 192, 0, 100, 180, 0, 102, 58, 5, 3, 54, 6, 21, 6, 25, 5]
abbrev dktX3_now_1 : List UInt8 := dkwX3_now_1 ++ dktX3_now_2
def dkwX3_now_0 : List UInt8 := [42, 27, 28, 29, 182, 0, 158, 154, 0, 5, 3, 172, 3, 54, 4, 42, 180, 0, 53, 180, 0, 80, 27]
abbrev dktX3_now_0 : List UInt8 := dkwX3_now_0 ++ dktX3_now_1
theorem dksX3_now_0 : cX3_now.data.toList.drop 0 = dktX3_now_0 := by decide +kernel
theorem dksX3_now_1 : cX3_now.data.toList.drop 23 = dktX3_now_1 := dk_seg dksX3_now_0 23 rfl rfl
theorem dksX3_now_2 : cX3_now.data.toList.drop 43 = dktX3_now_2 := dk_seg dksX3_now_1 20 rfl rfl
theorem dksX3_now_3 : cX3_now.data.toList.drop 67 = dktX3_now_3 := dk_seg dksX3_now_2 24 rfl rfl
theorem dksX3_now_4 : cX3_now.data.toList.drop 90 = dktX3_now_4 := dk_seg dksX3_now_3 23 rfl rfl
theorem dX3_now_0 : decode cX3_now 0 = .ok (.aload_n 0, 1) := dk_42 (dk_at dksX3_now_0 0 rfl rfl)
theorem dX3_now_1 : decode cX3_now 1 = .ok (.iload_n 1, 1) := dk_27 (dk_at dksX3_now_0 1 rfl rfl)
theorem dX3_now_2 : decode cX3_now 2 = .ok (.iload_n 2, 1) := dk_28 (dk_at dksX3_now_0 2 rfl rfl)
theorem dX3_now_3 : decode cX3_now 3 = .ok (.iload_n 3, 1) := dk_29 (dk_at dksX3_now_0 3 rfl rfl)
theorem dX3_now_4 : decode cX3_now 4 = .ok (.invokevirtual 158, 3) := dk_182 0 158 (dk_at dksX3_now_0 4 rfl rfl)
theorem dX3_now_7 : decode cX3_now 7 = .ok (.ifCond .ne 5, 3) := dk_154 0 5 (dk_at dksX3_now_0 7 rfl rfl)
theorem dX3_now_10 : decode cX3_now 10 = .ok (.iconst 0, 1) := dk_3 (dk_at dksX3_now_0 10 rfl rfl)
theorem dX3_now_11 : decode cX3_now 11 = .ok (.ireturn, 1) := dk_172 (dk_at dksX3_now_0 11 rfl rfl)
theorem dX3_now_12 : decode cX3_now 12 = .ok (.iconst 0, 1) := dk_3 (dk_at dksX3_now_0 12 rfl rfl)
theorem dX3_now_13 : decode cX3_now 13 = .ok (.istore 4, 2) := dk_54 4 (dk_at dksX3_now_0 13 rfl rfl)
theorem dX3_now_15 : decode cX3_now 15 = .ok (.aload_n 0, 1) := dk_42 (dk_at dksX3_now_0 15 rfl rfl)
theorem dX3_now_16 : decode cX3_now 16 = .ok (.getfield 53, 3) := dk_180 0 53 (dk_at dksX3_now_0 16 rfl rfl)
theorem dX3_now_19 : decode cX3_now 19 = .ok (.getfield 80, 3) := dk_180 0 80 (dk_at dksX3_now_0 19 rfl rfl)
theorem dX3_now_22 : decode cX3_now 22 = .ok (.iload_n 1, 1) := dk_27 (dk_at dksX3_now_0 22 rfl rfl)
theorem dX3_now_23 : decode cX3_now 23 = .ok (.invokeinterface 96 2, 5) := by decide +kernel
theorem dX3_now_28 : decode cX3_now 28 = .ok (.checkcast 100, 3) := dk_192 0 100 (dk_at dksX3_now_1 5 rfl rfl)
theorem dX3_now_31 : decode cX3_now 31 = .ok (.getfield 102, 3) := dk_180 0 102 (dk_at dksX3_now_1 8 rfl rfl)
theorem dX3_now_34 : decode cX3_now 34 = .ok (.astore 5, 2) := dk_58 5 (dk_at dksX3_now_1 11 rfl rfl)
theorem dX3_now_36 : decode cX3_now 36 = .ok (.iconst 0, 1) := dk_3 (dk_at dksX3_now_1 13 rfl rfl)
theorem dX3_now_37 : decode cX3_now 37 = .ok (.istore 6, 2) := dk_54 6 (dk_at dksX3_now_1 14 rfl rfl)
theorem dX3_now_39 : decode cX3_now 39 = .ok (.iload 6, 2) := dk_21 6 (dk_at dksX3_now_1 16 rfl rfl)
theorem dX3_now_41 : decode cX3_now 41 = .ok (.aload 5, 2) := dk_25 5 (dk_at dksX3_now_1 18 rfl rfl)
theorem dX3_now_43 : decode cX3_now 43 = .ok (.invokeinterface 86 1, 5) := by decide +kernel
theorem dX3_now_48 : decode cX3_now 48 = .ok (.if_icmp .ge 53, 3) := dk_162 0 53 (dk_at dksX3_now_2 5 rfl rfl)
theorem dX3_now_51 : decode cX3_now 51 = .ok (.aload 5, 2) := dk_25 5 (dk_at dksX3_now_2 8 rfl rfl)
theorem dX3_now_53 : decode cX3_now 53 = .ok (.iload 6, 2) := dk_21 6 (dk_at dksX3_now_2 10 rfl rfl)
theorem dX3_now_55 : decode cX3_now 55 = .ok (.invokeinterface 96 2, 5) := by decide +kernel
theorem dX3_now_60 : decode cX3_now 60 = .ok (.checkcast 150, 3) := dk_192 0 150 (dk_at dksX3_now_2 17 rfl rfl)
theorem dX3_now_63 : decode cX3_now 63 = .ok (.getfield 155, 3) := dk_180 0 155 (dk_at dksX3_now_2 20 rfl rfl)
theorem dX3_now_66 : decode cX3_now 66 = .ok (.iload_n 2, 1) := dk_28 (dk_at dksX3_now_2 23 rfl rfl)
theorem dX3_now_67 : decode cX3_now 67 = .ok (.if_icmp .ne 28, 3) := dk_160 0 28 (dk_at dksX3_now_3 0 rfl rfl)
theorem dX3_now_70 : decode cX3_now 70 = .ok (.iload 4, 2) := dk_21 4 (dk_at dksX3_now_3 3 rfl rfl)
theorem dX3_now_72 : decode cX3_now 72 = .ok (.aload 5, 2) := dk_25 5 (dk_at dksX3_now_3 5 rfl rfl)
theorem dX3_now_74 : decode cX3_now 74 = .ok (.iload 6, 2) := dk_21 6 (dk_at dksX3_now_3 7 rfl rfl)
theorem dX3_now_76 : decode cX3_now 76 = .ok (.invokeinterface 96 2, 5) := by decide +kernel
theorem dX3_now_81 : decode cX3_now 81 = .ok (.checkcast 150, 3) := dk_192 0 150 (dk_at dksX3_now_3 14 rfl rfl)
theorem dX3_now_84 : decode cX3_now 84 = .ok (.aload_n 0, 1) := dk_42 (dk_at dksX3_now_3 17 rfl rfl)
theorem dX3_now_85 : decode cX3_now 85 = .ok (.iload_n 1, 1) := dk_27 (dk_at dksX3_now_3 18 rfl rfl)
theorem dX3_now_86 : decode cX3_now 86 = .ok (.iload_n 3, 1) := dk_29 (dk_at dksX3_now_3 19 rfl rfl)
theorem dX3_now_87 : decode cX3_now 87 = .ok (.invokevirtual 198, 3) := dk_182 0 198 (dk_at dksX3_now_3 20 rfl rfl)
theorem dX3_now_90 : decode cX3_now 90 = .ok (.invokestatic 201, 3) := dk_184 0 201 (dk_at dksX3_now_4 0 rfl rfl)
theorem dX3_now_93 : decode cX3_now 93 = .ok (.istore 4, 2) := dk_54 4 (dk_at dksX3_now_4 3 rfl rfl)
theorem dX3_now_95 : decode cX3_now 95 = .ok (.iinc 6 1, 3) := dk_132 6 1 (dk_at dksX3_now_4 5 rfl rfl)
theorem dX3_now_98 : decode cX3_now 98 = .ok (.goto (-59), 3) := dk_167 255 197 (dk_at dksX3_now_4 8 rfl rfl)
theorem dX3_now_101 : decode cX3_now 101 = .ok (.iload 4, 2) := dk_21 4 (dk_at dksX3_now_4 11 rfl rfl)
theorem dX3_now_103 : decode cX3_now 103 = .ok (.ireturn, 1) := dk_172 (dk_at dksX3_now_4 13 rfl rfl)
abbrev cX3_isDrawn : ByteArray := prog_3_method_5_code
def yX3_isDrawn : MethodName := ⟨RX3, "isDrawn", "(ILUnseenClock$Habit;)Z"⟩
def dkwX3_isDrawn_3 : List UInt8 := [167, 255, 220, 3, 172]
abbrev dktX3_isDrawn_3 : List UInt8 := dkwX3_isDrawn_3 ++ []
def dkwX3_isDrawn_2 : List UInt8 := [185, 0, 96, 2, 0, 44, 166, 0, 13, 42, 180, 0, 50, 27, 50, 21, 4, 51, 172, 132, 4, 1]
abbrev dktX3_isDrawn_2 : List UInt8 := dkwX3_isDrawn_2 ++ dktX3_isDrawn_3
def dkwX3_isDrawn_1 : List UInt8 := [192, 0, 100, 180, 0, 102, 78, 3, 54, 4, 21, 4, 45, 185, 0, 86, 1, 0, 162, 0, 31, 45, 21, 4]
abbrev dktX3_isDrawn_1 : List UInt8 := dkwX3_isDrawn_1 ++ dktX3_isDrawn_2
def dkwX3_isDrawn_0 : List UInt8 := [42, 180, 0, 76, 154, 0, 5, 3, 172, 42, 180, 0, 53, 180, 0, 80, 27, 185, 0, 96, 2, 0]
abbrev dktX3_isDrawn_0 : List UInt8 := dkwX3_isDrawn_0 ++ dktX3_isDrawn_1
theorem dksX3_isDrawn_0 : cX3_isDrawn.data.toList.drop 0 = dktX3_isDrawn_0 := by decide +kernel
theorem dksX3_isDrawn_1 : cX3_isDrawn.data.toList.drop 22 = dktX3_isDrawn_1 := dk_seg dksX3_isDrawn_0 22 rfl rfl
theorem dksX3_isDrawn_2 : cX3_isDrawn.data.toList.drop 46 = dktX3_isDrawn_2 := dk_seg dksX3_isDrawn_1 24 rfl rfl
theorem dksX3_isDrawn_3 : cX3_isDrawn.data.toList.drop 68 = dktX3_isDrawn_3 := dk_seg dksX3_isDrawn_2 22 rfl rfl
theorem dX3_isDrawn_0 : decode cX3_isDrawn 0 = .ok (.aload_n 0, 1) := dk_42 (dk_at dksX3_isDrawn_0 0 rfl rfl)
theorem dX3_isDrawn_1 : decode cX3_isDrawn 1 = .ok (.getfield 76, 3) := dk_180 0 76 (dk_at dksX3_isDrawn_0 1 rfl rfl)
theorem dX3_isDrawn_4 : decode cX3_isDrawn 4 = .ok (.ifCond .ne 5, 3) := dk_154 0 5 (dk_at dksX3_isDrawn_0 4 rfl rfl)
theorem dX3_isDrawn_7 : decode cX3_isDrawn 7 = .ok (.iconst 0, 1) := dk_3 (dk_at dksX3_isDrawn_0 7 rfl rfl)
theorem dX3_isDrawn_8 : decode cX3_isDrawn 8 = .ok (.ireturn, 1) := dk_172 (dk_at dksX3_isDrawn_0 8 rfl rfl)
theorem dX3_isDrawn_9 : decode cX3_isDrawn 9 = .ok (.aload_n 0, 1) := dk_42 (dk_at dksX3_isDrawn_0 9 rfl rfl)
theorem dX3_isDrawn_10 : decode cX3_isDrawn 10 = .ok (.getfield 53, 3) := dk_180 0 53 (dk_at dksX3_isDrawn_0 10 rfl rfl)
theorem dX3_isDrawn_13 : decode cX3_isDrawn 13 = .ok (.getfield 80, 3) := dk_180 0 80 (dk_at dksX3_isDrawn_0 13 rfl rfl)
theorem dX3_isDrawn_16 : decode cX3_isDrawn 16 = .ok (.iload_n 1, 1) := dk_27 (dk_at dksX3_isDrawn_0 16 rfl rfl)
theorem dX3_isDrawn_17 : decode cX3_isDrawn 17 = .ok (.invokeinterface 96 2, 5) := by decide +kernel
theorem dX3_isDrawn_22 : decode cX3_isDrawn 22 = .ok (.checkcast 100, 3) := dk_192 0 100 (dk_at dksX3_isDrawn_1 0 rfl rfl)
theorem dX3_isDrawn_25 : decode cX3_isDrawn 25 = .ok (.getfield 102, 3) := dk_180 0 102 (dk_at dksX3_isDrawn_1 3 rfl rfl)
theorem dX3_isDrawn_28 : decode cX3_isDrawn 28 = .ok (.astore_n 3, 1) := dk_78 (dk_at dksX3_isDrawn_1 6 rfl rfl)
theorem dX3_isDrawn_29 : decode cX3_isDrawn 29 = .ok (.iconst 0, 1) := dk_3 (dk_at dksX3_isDrawn_1 7 rfl rfl)
theorem dX3_isDrawn_30 : decode cX3_isDrawn 30 = .ok (.istore 4, 2) := dk_54 4 (dk_at dksX3_isDrawn_1 8 rfl rfl)
theorem dX3_isDrawn_32 : decode cX3_isDrawn 32 = .ok (.iload 4, 2) := dk_21 4 (dk_at dksX3_isDrawn_1 10 rfl rfl)
theorem dX3_isDrawn_34 : decode cX3_isDrawn 34 = .ok (.aload_n 3, 1) := dk_45 (dk_at dksX3_isDrawn_1 12 rfl rfl)
theorem dX3_isDrawn_35 : decode cX3_isDrawn 35 = .ok (.invokeinterface 86 1, 5) := by decide +kernel
theorem dX3_isDrawn_40 : decode cX3_isDrawn 40 = .ok (.if_icmp .ge 31, 3) := dk_162 0 31 (dk_at dksX3_isDrawn_1 18 rfl rfl)
theorem dX3_isDrawn_43 : decode cX3_isDrawn 43 = .ok (.aload_n 3, 1) := dk_45 (dk_at dksX3_isDrawn_1 21 rfl rfl)
theorem dX3_isDrawn_44 : decode cX3_isDrawn 44 = .ok (.iload 4, 2) := dk_21 4 (dk_at dksX3_isDrawn_1 22 rfl rfl)
theorem dX3_isDrawn_46 : decode cX3_isDrawn 46 = .ok (.invokeinterface 96 2, 5) := by decide +kernel
theorem dX3_isDrawn_51 : decode cX3_isDrawn 51 = .ok (.aload_n 2, 1) := dk_44 (dk_at dksX3_isDrawn_2 5 rfl rfl)
theorem dX3_isDrawn_52 : decode cX3_isDrawn 52 = .ok (.if_acmp .ne 13, 3) := dk_166 0 13 (dk_at dksX3_isDrawn_2 6 rfl rfl)
theorem dX3_isDrawn_55 : decode cX3_isDrawn 55 = .ok (.aload_n 0, 1) := dk_42 (dk_at dksX3_isDrawn_2 9 rfl rfl)
theorem dX3_isDrawn_56 : decode cX3_isDrawn 56 = .ok (.getfield 50, 3) := dk_180 0 50 (dk_at dksX3_isDrawn_2 10 rfl rfl)
theorem dX3_isDrawn_59 : decode cX3_isDrawn 59 = .ok (.iload_n 1, 1) := dk_27 (dk_at dksX3_isDrawn_2 13 rfl rfl)
theorem dX3_isDrawn_60 : decode cX3_isDrawn 60 = .ok (.aaload, 1) := dk_50 (dk_at dksX3_isDrawn_2 14 rfl rfl)
theorem dX3_isDrawn_61 : decode cX3_isDrawn 61 = .ok (.iload 4, 2) := dk_21 4 (dk_at dksX3_isDrawn_2 15 rfl rfl)
theorem dX3_isDrawn_63 : decode cX3_isDrawn 63 = .ok (.baload, 1) := dk_51 (dk_at dksX3_isDrawn_2 17 rfl rfl)
theorem dX3_isDrawn_64 : decode cX3_isDrawn 64 = .ok (.ireturn, 1) := dk_172 (dk_at dksX3_isDrawn_2 18 rfl rfl)
theorem dX3_isDrawn_65 : decode cX3_isDrawn 65 = .ok (.iinc 4 1, 3) := dk_132 4 1 (dk_at dksX3_isDrawn_2 19 rfl rfl)
theorem dX3_isDrawn_68 : decode cX3_isDrawn 68 = .ok (.goto (-36), 3) := dk_167 255 220 (dk_at dksX3_isDrawn_3 0 rfl rfl)
theorem dX3_isDrawn_71 : decode cX3_isDrawn 71 = .ok (.iconst 0, 1) := dk_3 (dk_at dksX3_isDrawn_3 3 rfl rfl)
theorem dX3_isDrawn_72 : decode cX3_isDrawn 72 = .ok (.ireturn, 1) := dk_172 (dk_at dksX3_isDrawn_3 4 rfl rfl)
abbrev cX3_isSettled : ByteArray := prog_3_method_3_code
def yX3_isSettled : MethodName := ⟨RX3, "isSettled", "(II)Z"⟩
def dkwX3_isSettled_1 : List UInt8 := [184, 0, 92, 153, 0, 7, 4, 167, 0, 4, 3, 172]
abbrev dktX3_isSettled_1 : List UInt8 := dkwX3_isSettled_1 ++ []
def dkwX3_isSettled_0 : List UInt8 := [27, 42, 180, 0, 53, 180, 0, 80, 185, 0, 86, 1, 0, 162, 0, 16, 42, 180, 0, 22, 27, 46, 28]
abbrev dktX3_isSettled_0 : List UInt8 := dkwX3_isSettled_0 ++ dktX3_isSettled_1
theorem dksX3_isSettled_0 : cX3_isSettled.data.toList.drop 0 = dktX3_isSettled_0 := by decide +kernel
theorem dksX3_isSettled_1 : cX3_isSettled.data.toList.drop 23 = dktX3_isSettled_1 := dk_seg dksX3_isSettled_0 23 rfl rfl
theorem dX3_isSettled_0 : decode cX3_isSettled 0 = .ok (.iload_n 1, 1) := dk_27 (dk_at dksX3_isSettled_0 0 rfl rfl)
theorem dX3_isSettled_1 : decode cX3_isSettled 1 = .ok (.aload_n 0, 1) := dk_42 (dk_at dksX3_isSettled_0 1 rfl rfl)
theorem dX3_isSettled_2 : decode cX3_isSettled 2 = .ok (.getfield 53, 3) := dk_180 0 53 (dk_at dksX3_isSettled_0 2 rfl rfl)
theorem dX3_isSettled_5 : decode cX3_isSettled 5 = .ok (.getfield 80, 3) := dk_180 0 80 (dk_at dksX3_isSettled_0 5 rfl rfl)
theorem dX3_isSettled_8 : decode cX3_isSettled 8 = .ok (.invokeinterface 86 1, 5) := by decide +kernel
theorem dX3_isSettled_13 : decode cX3_isSettled 13 = .ok (.if_icmp .ge 16, 3) := dk_162 0 16 (dk_at dksX3_isSettled_0 13 rfl rfl)
theorem dX3_isSettled_16 : decode cX3_isSettled 16 = .ok (.aload_n 0, 1) := dk_42 (dk_at dksX3_isSettled_0 16 rfl rfl)
theorem dX3_isSettled_17 : decode cX3_isSettled 17 = .ok (.getfield 22, 3) := dk_180 0 22 (dk_at dksX3_isSettled_0 17 rfl rfl)
theorem dX3_isSettled_20 : decode cX3_isSettled 20 = .ok (.iload_n 1, 1) := dk_27 (dk_at dksX3_isSettled_0 20 rfl rfl)
theorem dX3_isSettled_21 : decode cX3_isSettled 21 = .ok (.iaload, 1) := dk_46 (dk_at dksX3_isSettled_0 21 rfl rfl)
theorem dX3_isSettled_22 : decode cX3_isSettled 22 = .ok (.iload_n 2, 1) := dk_28 (dk_at dksX3_isSettled_0 22 rfl rfl)
theorem dX3_isSettled_23 : decode cX3_isSettled 23 = .ok (.invokestatic 92, 3) := dk_184 0 92 (dk_at dksX3_isSettled_1 0 rfl rfl)
theorem dX3_isSettled_26 : decode cX3_isSettled 26 = .ok (.ifCond .eq 7, 3) := dk_153 0 7 (dk_at dksX3_isSettled_1 3 rfl rfl)
theorem dX3_isSettled_29 : decode cX3_isSettled 29 = .ok (.iconst 1, 1) := dk_4 (dk_at dksX3_isSettled_1 6 rfl rfl)
theorem dX3_isSettled_30 : decode cX3_isSettled 30 = .ok (.goto 4, 3) := dk_167 0 4 (dk_at dksX3_isSettled_1 7 rfl rfl)
theorem dX3_isSettled_33 : decode cX3_isSettled 33 = .ok (.iconst 0, 1) := dk_3 (dk_at dksX3_isSettled_1 10 rfl rfl)
theorem dX3_isSettled_34 : decode cX3_isSettled 34 = .ok (.ireturn, 1) := dk_172 (dk_at dksX3_isSettled_1 11 rfl rfl)
abbrev cX3_isLooking : ByteArray := prog_3_method_4_code
def yX3_isLooking : MethodName := ⟨RX3, "isLooking", "(II)Z"⟩
def dkwX3_isLooking_1 : List UInt8 := [184, 0, 92, 153, 0, 7, 4, 167, 0, 4, 3, 172]
abbrev dktX3_isLooking_1 : List UInt8 := dkwX3_isLooking_1 ++ []
def dkwX3_isLooking_0 : List UInt8 := [27, 42, 180, 0, 53, 180, 0, 80, 185, 0, 86, 1, 0, 162, 0, 20, 42, 180, 0, 26, 27, 46, 28]
abbrev dktX3_isLooking_0 : List UInt8 := dkwX3_isLooking_0 ++ dktX3_isLooking_1
theorem dksX3_isLooking_0 : cX3_isLooking.data.toList.drop 0 = dktX3_isLooking_0 := by decide +kernel
theorem dksX3_isLooking_1 : cX3_isLooking.data.toList.drop 23 = dktX3_isLooking_1 := dk_seg dksX3_isLooking_0 23 rfl rfl
theorem dX3_isLooking_0 : decode cX3_isLooking 0 = .ok (.iload_n 1, 1) := dk_27 (dk_at dksX3_isLooking_0 0 rfl rfl)
theorem dX3_isLooking_1 : decode cX3_isLooking 1 = .ok (.aload_n 0, 1) := dk_42 (dk_at dksX3_isLooking_0 1 rfl rfl)
theorem dX3_isLooking_2 : decode cX3_isLooking 2 = .ok (.getfield 53, 3) := dk_180 0 53 (dk_at dksX3_isLooking_0 2 rfl rfl)
theorem dX3_isLooking_5 : decode cX3_isLooking 5 = .ok (.getfield 80, 3) := dk_180 0 80 (dk_at dksX3_isLooking_0 5 rfl rfl)
theorem dX3_isLooking_8 : decode cX3_isLooking 8 = .ok (.invokeinterface 86 1, 5) := by decide +kernel
theorem dX3_isLooking_13 : decode cX3_isLooking 13 = .ok (.if_icmp .ge 20, 3) := dk_162 0 20 (dk_at dksX3_isLooking_0 13 rfl rfl)
theorem dX3_isLooking_16 : decode cX3_isLooking 16 = .ok (.aload_n 0, 1) := dk_42 (dk_at dksX3_isLooking_0 16 rfl rfl)
theorem dX3_isLooking_17 : decode cX3_isLooking 17 = .ok (.getfield 26, 3) := dk_180 0 26 (dk_at dksX3_isLooking_0 17 rfl rfl)
theorem dX3_isLooking_20 : decode cX3_isLooking 20 = .ok (.iload_n 1, 1) := dk_27 (dk_at dksX3_isLooking_0 20 rfl rfl)
theorem dX3_isLooking_21 : decode cX3_isLooking 21 = .ok (.iaload, 1) := dk_46 (dk_at dksX3_isLooking_0 21 rfl rfl)
theorem dX3_isLooking_22 : decode cX3_isLooking 22 = .ok (.iload_n 2, 1) := dk_28 (dk_at dksX3_isLooking_0 22 rfl rfl)
theorem dX3_isLooking_23 : decode cX3_isLooking 23 = .ok (.invokestatic 92, 3) := dk_184 0 92 (dk_at dksX3_isLooking_1 0 rfl rfl)
theorem dX3_isLooking_26 : decode cX3_isLooking 26 = .ok (.ifCond .eq 7, 3) := dk_153 0 7 (dk_at dksX3_isLooking_1 3 rfl rfl)
theorem dX3_isLooking_29 : decode cX3_isLooking 29 = .ok (.iconst 1, 1) := dk_4 (dk_at dksX3_isLooking_1 6 rfl rfl)
theorem dX3_isLooking_30 : decode cX3_isLooking 30 = .ok (.goto 4, 3) := dk_167 0 4 (dk_at dksX3_isLooking_1 7 rfl rfl)
theorem dX3_isLooking_33 : decode cX3_isLooking 33 = .ok (.iconst 0, 1) := dk_3 (dk_at dksX3_isLooking_1 10 rfl rfl)
theorem dX3_isLooking_34 : decode cX3_isLooking 34 = .ok (.ireturn, 1) := dk_172 (dk_at dksX3_isLooking_1 11 rfl rfl)
abbrev cX3_is : ByteArray := prog_3_method_15_code
def yX3_is : MethodName := ⟨RX3, "is", "(IIZ)V"⟩
def dkwX3_is_1 : List UInt8 := [28, 120, 167, 0, 4, 3, 128, 79, 177]
abbrev dktX3_is_1 : List UInt8 := dkwX3_is_1 ++ []
def dkwX3_is_0 : List UInt8 := [42, 180, 0, 22, 27, 92, 46, 4, 28, 120, 128, 79, 42, 180, 0, 26, 27, 92, 46, 29, 153, 0, 9, 4]
abbrev dktX3_is_0 : List UInt8 := dkwX3_is_0 ++ dktX3_is_1
theorem dksX3_is_0 : cX3_is.data.toList.drop 0 = dktX3_is_0 := by decide +kernel
theorem dksX3_is_1 : cX3_is.data.toList.drop 24 = dktX3_is_1 := dk_seg dksX3_is_0 24 rfl rfl
theorem dX3_is_0 : decode cX3_is 0 = .ok (.aload_n 0, 1) := dk_42 (dk_at dksX3_is_0 0 rfl rfl)
theorem dX3_is_1 : decode cX3_is 1 = .ok (.getfield 22, 3) := dk_180 0 22 (dk_at dksX3_is_0 1 rfl rfl)
theorem dX3_is_4 : decode cX3_is 4 = .ok (.iload_n 1, 1) := dk_27 (dk_at dksX3_is_0 4 rfl rfl)
theorem dX3_is_5 : decode cX3_is 5 = .ok (.dup2, 1) := dk_92 (dk_at dksX3_is_0 5 rfl rfl)
theorem dX3_is_6 : decode cX3_is 6 = .ok (.iaload, 1) := dk_46 (dk_at dksX3_is_0 6 rfl rfl)
theorem dX3_is_7 : decode cX3_is 7 = .ok (.iconst 1, 1) := dk_4 (dk_at dksX3_is_0 7 rfl rfl)
theorem dX3_is_8 : decode cX3_is 8 = .ok (.iload_n 2, 1) := dk_28 (dk_at dksX3_is_0 8 rfl rfl)
theorem dX3_is_9 : decode cX3_is 9 = .ok (.ishl, 1) := dk_120 (dk_at dksX3_is_0 9 rfl rfl)
theorem dX3_is_10 : decode cX3_is 10 = .ok (.ior, 1) := dk_128 (dk_at dksX3_is_0 10 rfl rfl)
theorem dX3_is_11 : decode cX3_is 11 = .ok (.iastore, 1) := dk_79 (dk_at dksX3_is_0 11 rfl rfl)
theorem dX3_is_12 : decode cX3_is 12 = .ok (.aload_n 0, 1) := dk_42 (dk_at dksX3_is_0 12 rfl rfl)
theorem dX3_is_13 : decode cX3_is 13 = .ok (.getfield 26, 3) := dk_180 0 26 (dk_at dksX3_is_0 13 rfl rfl)
theorem dX3_is_16 : decode cX3_is 16 = .ok (.iload_n 1, 1) := dk_27 (dk_at dksX3_is_0 16 rfl rfl)
theorem dX3_is_17 : decode cX3_is 17 = .ok (.dup2, 1) := dk_92 (dk_at dksX3_is_0 17 rfl rfl)
theorem dX3_is_18 : decode cX3_is 18 = .ok (.iaload, 1) := dk_46 (dk_at dksX3_is_0 18 rfl rfl)
theorem dX3_is_19 : decode cX3_is 19 = .ok (.iload_n 3, 1) := dk_29 (dk_at dksX3_is_0 19 rfl rfl)
theorem dX3_is_20 : decode cX3_is 20 = .ok (.ifCond .eq 9, 3) := dk_153 0 9 (dk_at dksX3_is_0 20 rfl rfl)
theorem dX3_is_23 : decode cX3_is 23 = .ok (.iconst 1, 1) := dk_4 (dk_at dksX3_is_0 23 rfl rfl)
theorem dX3_is_24 : decode cX3_is 24 = .ok (.iload_n 2, 1) := dk_28 (dk_at dksX3_is_1 0 rfl rfl)
theorem dX3_is_25 : decode cX3_is 25 = .ok (.ishl, 1) := dk_120 (dk_at dksX3_is_1 1 rfl rfl)
theorem dX3_is_26 : decode cX3_is 26 = .ok (.goto 4, 3) := dk_167 0 4 (dk_at dksX3_is_1 2 rfl rfl)
theorem dX3_is_29 : decode cX3_is 29 = .ok (.iconst 0, 1) := dk_3 (dk_at dksX3_is_1 5 rfl rfl)
theorem dX3_is_30 : decode cX3_is 30 = .ok (.ior, 1) := dk_128 (dk_at dksX3_is_1 6 rfl rfl)
theorem dX3_is_31 : decode cX3_is 31 = .ok (.iastore, 1) := dk_79 (dk_at dksX3_is_1 7 rfl rfl)
theorem dX3_is_32 : decode cX3_is 32 = .ok (.return_, 1) := dk_177 (dk_at dksX3_is_1 8 rfl rfl)
abbrev cX3_takes : ByteArray := prog_3_method_14_code
def yX3_takes : MethodName := ⟨RX3, "takes", "(III)V"⟩
def dkwX3_takes_2 : List UInt8 := [96, 79, 42, 89, 180, 0, 114, 4, 96, 181, 0, 114, 42, 27, 28, 21, 4, 182, 0, 190, 177]
abbrev dktX3_takes_2 : List UInt8 := dkwX3_takes_2 ++ []
def dkwX3_takes_1 : List UInt8 := [167, 0, 4, 3, 54, 4, 42, 180, 0, 29, 42, 180, 0, 114, 16, 100, 29, 104, 16, 10, 27, 104, 96, 28]
abbrev dktX3_takes_1 : List UInt8 := dkwX3_takes_1 ++ dktX3_takes_2
def dkwX3_takes_0 : List UInt8 := [42, 180, 0, 114, 42, 180, 0, 73, 162, 0, 19, 42, 180, 0, 32, 42, 180, 0, 114, 51, 153, 0, 7, 4]
abbrev dktX3_takes_0 : List UInt8 := dkwX3_takes_0 ++ dktX3_takes_1
theorem dksX3_takes_0 : cX3_takes.data.toList.drop 0 = dktX3_takes_0 := by decide +kernel
theorem dksX3_takes_1 : cX3_takes.data.toList.drop 24 = dktX3_takes_1 := dk_seg dksX3_takes_0 24 rfl rfl
theorem dksX3_takes_2 : cX3_takes.data.toList.drop 48 = dktX3_takes_2 := dk_seg dksX3_takes_1 24 rfl rfl
theorem dX3_takes_0 : decode cX3_takes 0 = .ok (.aload_n 0, 1) := dk_42 (dk_at dksX3_takes_0 0 rfl rfl)
theorem dX3_takes_1 : decode cX3_takes 1 = .ok (.getfield 114, 3) := dk_180 0 114 (dk_at dksX3_takes_0 1 rfl rfl)
theorem dX3_takes_4 : decode cX3_takes 4 = .ok (.aload_n 0, 1) := dk_42 (dk_at dksX3_takes_0 4 rfl rfl)
theorem dX3_takes_5 : decode cX3_takes 5 = .ok (.getfield 73, 3) := dk_180 0 73 (dk_at dksX3_takes_0 5 rfl rfl)
theorem dX3_takes_8 : decode cX3_takes 8 = .ok (.if_icmp .ge 19, 3) := dk_162 0 19 (dk_at dksX3_takes_0 8 rfl rfl)
theorem dX3_takes_11 : decode cX3_takes 11 = .ok (.aload_n 0, 1) := dk_42 (dk_at dksX3_takes_0 11 rfl rfl)
theorem dX3_takes_12 : decode cX3_takes 12 = .ok (.getfield 32, 3) := dk_180 0 32 (dk_at dksX3_takes_0 12 rfl rfl)
theorem dX3_takes_15 : decode cX3_takes 15 = .ok (.aload_n 0, 1) := dk_42 (dk_at dksX3_takes_0 15 rfl rfl)
theorem dX3_takes_16 : decode cX3_takes 16 = .ok (.getfield 114, 3) := dk_180 0 114 (dk_at dksX3_takes_0 16 rfl rfl)
theorem dX3_takes_19 : decode cX3_takes 19 = .ok (.baload, 1) := dk_51 (dk_at dksX3_takes_0 19 rfl rfl)
theorem dX3_takes_20 : decode cX3_takes 20 = .ok (.ifCond .eq 7, 3) := dk_153 0 7 (dk_at dksX3_takes_0 20 rfl rfl)
theorem dX3_takes_23 : decode cX3_takes 23 = .ok (.iconst 1, 1) := dk_4 (dk_at dksX3_takes_0 23 rfl rfl)
theorem dX3_takes_24 : decode cX3_takes 24 = .ok (.goto 4, 3) := dk_167 0 4 (dk_at dksX3_takes_1 0 rfl rfl)
theorem dX3_takes_27 : decode cX3_takes 27 = .ok (.iconst 0, 1) := dk_3 (dk_at dksX3_takes_1 3 rfl rfl)
theorem dX3_takes_28 : decode cX3_takes 28 = .ok (.istore 4, 2) := dk_54 4 (dk_at dksX3_takes_1 4 rfl rfl)
theorem dX3_takes_30 : decode cX3_takes 30 = .ok (.aload_n 0, 1) := dk_42 (dk_at dksX3_takes_1 6 rfl rfl)
theorem dX3_takes_31 : decode cX3_takes 31 = .ok (.getfield 29, 3) := dk_180 0 29 (dk_at dksX3_takes_1 7 rfl rfl)
theorem dX3_takes_34 : decode cX3_takes 34 = .ok (.aload_n 0, 1) := dk_42 (dk_at dksX3_takes_1 10 rfl rfl)
theorem dX3_takes_35 : decode cX3_takes 35 = .ok (.getfield 114, 3) := dk_180 0 114 (dk_at dksX3_takes_1 11 rfl rfl)
theorem dX3_takes_38 : decode cX3_takes 38 = .ok (.bipush 100, 2) := dk_16 100 (dk_at dksX3_takes_1 14 rfl rfl)
theorem dX3_takes_40 : decode cX3_takes 40 = .ok (.iload_n 3, 1) := dk_29 (dk_at dksX3_takes_1 16 rfl rfl)
theorem dX3_takes_41 : decode cX3_takes 41 = .ok (.imul, 1) := dk_104 (dk_at dksX3_takes_1 17 rfl rfl)
theorem dX3_takes_42 : decode cX3_takes 42 = .ok (.bipush 10, 2) := dk_16 10 (dk_at dksX3_takes_1 18 rfl rfl)
theorem dX3_takes_44 : decode cX3_takes 44 = .ok (.iload_n 1, 1) := dk_27 (dk_at dksX3_takes_1 20 rfl rfl)
theorem dX3_takes_45 : decode cX3_takes 45 = .ok (.imul, 1) := dk_104 (dk_at dksX3_takes_1 21 rfl rfl)
theorem dX3_takes_46 : decode cX3_takes 46 = .ok (.iadd, 1) := dk_96 (dk_at dksX3_takes_1 22 rfl rfl)
theorem dX3_takes_47 : decode cX3_takes 47 = .ok (.iload_n 2, 1) := dk_28 (dk_at dksX3_takes_1 23 rfl rfl)
theorem dX3_takes_48 : decode cX3_takes 48 = .ok (.iadd, 1) := dk_96 (dk_at dksX3_takes_2 0 rfl rfl)
theorem dX3_takes_49 : decode cX3_takes 49 = .ok (.iastore, 1) := dk_79 (dk_at dksX3_takes_2 1 rfl rfl)
theorem dX3_takes_50 : decode cX3_takes 50 = .ok (.aload_n 0, 1) := dk_42 (dk_at dksX3_takes_2 2 rfl rfl)
theorem dX3_takes_51 : decode cX3_takes 51 = .ok (.dup, 1) := dk_89 (dk_at dksX3_takes_2 3 rfl rfl)
theorem dX3_takes_52 : decode cX3_takes 52 = .ok (.getfield 114, 3) := dk_180 0 114 (dk_at dksX3_takes_2 4 rfl rfl)
theorem dX3_takes_55 : decode cX3_takes 55 = .ok (.iconst 1, 1) := dk_4 (dk_at dksX3_takes_2 7 rfl rfl)
theorem dX3_takes_56 : decode cX3_takes 56 = .ok (.iadd, 1) := dk_96 (dk_at dksX3_takes_2 8 rfl rfl)
theorem dX3_takes_57 : decode cX3_takes 57 = .ok (.putfield 114, 3) := dk_181 0 114 (dk_at dksX3_takes_2 9 rfl rfl)
theorem dX3_takes_60 : decode cX3_takes 60 = .ok (.aload_n 0, 1) := dk_42 (dk_at dksX3_takes_2 12 rfl rfl)
theorem dX3_takes_61 : decode cX3_takes 61 = .ok (.iload_n 1, 1) := dk_27 (dk_at dksX3_takes_2 13 rfl rfl)
theorem dX3_takes_62 : decode cX3_takes 62 = .ok (.iload_n 2, 1) := dk_28 (dk_at dksX3_takes_2 14 rfl rfl)
theorem dX3_takes_63 : decode cX3_takes 63 = .ok (.iload 4, 2) := dk_21 4 (dk_at dksX3_takes_2 15 rfl rfl)
theorem dX3_takes_65 : decode cX3_takes 65 = .ok (.invokevirtual 190, 3) := dk_182 0 190 (dk_at dksX3_takes_2 17 rfl rfl)
theorem dX3_takes_68 : decode cX3_takes 68 = .ok (.return_, 1) := dk_177 (dk_at dksX3_takes_2 20 rfl rfl)
abbrev cX3_steps : ByteArray := prog_3_method_10_code
def yX3_steps : MethodName := ⟨RX3, "steps", "(II)V"⟩
def dkwX3_steps_3 : List UInt8 := [153, 0, 7, 3, 167, 0, 9, 42, 180, 0, 36, 27, 46, 96, 79, 177]
abbrev dktX3_steps_3 : List UInt8 := dkwX3_steps_3 ++ []
def dkwX3_steps_2 : List UInt8 := [27, 28, 79, 4, 62, 42, 180, 0, 19, 27, 50, 28, 4, 96, 42, 180, 0, 19, 27, 50, 28, 46, 29]
abbrev dktX3_steps_2 : List UInt8 := dkwX3_steps_2 ++ dktX3_steps_3
def dkwX3_steps_1 : List UInt8 := [46, 42, 180, 0, 39, 27, 46, 162, 0, 22, 42, 180, 0, 42, 27, 92, 46, 4, 96, 79, 42, 180, 0, 45]
abbrev dktX3_steps_1 : List UInt8 := dkwX3_steps_1 ++ dktX3_steps_2
def dkwX3_steps_0 : List UInt8 := [42, 27, 28, 182, 0, 146, 158, 0, 7, 4, 167, 0, 4, 3, 62, 29, 154, 0, 37, 42, 180, 0, 42, 27]
abbrev dktX3_steps_0 : List UInt8 := dkwX3_steps_0 ++ dktX3_steps_1
theorem dksX3_steps_0 : cX3_steps.data.toList.drop 0 = dktX3_steps_0 := by decide +kernel
theorem dksX3_steps_1 : cX3_steps.data.toList.drop 24 = dktX3_steps_1 := dk_seg dksX3_steps_0 24 rfl rfl
theorem dksX3_steps_2 : cX3_steps.data.toList.drop 48 = dktX3_steps_2 := dk_seg dksX3_steps_1 24 rfl rfl
theorem dksX3_steps_3 : cX3_steps.data.toList.drop 71 = dktX3_steps_3 := dk_seg dksX3_steps_2 23 rfl rfl
theorem dX3_steps_0 : decode cX3_steps 0 = .ok (.aload_n 0, 1) := dk_42 (dk_at dksX3_steps_0 0 rfl rfl)
theorem dX3_steps_1 : decode cX3_steps 1 = .ok (.iload_n 1, 1) := dk_27 (dk_at dksX3_steps_0 1 rfl rfl)
theorem dX3_steps_2 : decode cX3_steps 2 = .ok (.iload_n 2, 1) := dk_28 (dk_at dksX3_steps_0 2 rfl rfl)
theorem dX3_steps_3 : decode cX3_steps 3 = .ok (.invokevirtual 146, 3) := dk_182 0 146 (dk_at dksX3_steps_0 3 rfl rfl)
theorem dX3_steps_6 : decode cX3_steps 6 = .ok (.ifCond .le 7, 3) := dk_158 0 7 (dk_at dksX3_steps_0 6 rfl rfl)
theorem dX3_steps_9 : decode cX3_steps 9 = .ok (.iconst 1, 1) := dk_4 (dk_at dksX3_steps_0 9 rfl rfl)
theorem dX3_steps_10 : decode cX3_steps 10 = .ok (.goto 4, 3) := dk_167 0 4 (dk_at dksX3_steps_0 10 rfl rfl)
theorem dX3_steps_13 : decode cX3_steps 13 = .ok (.iconst 0, 1) := dk_3 (dk_at dksX3_steps_0 13 rfl rfl)
theorem dX3_steps_14 : decode cX3_steps 14 = .ok (.istore_n 3, 1) := dk_62 (dk_at dksX3_steps_0 14 rfl rfl)
theorem dX3_steps_15 : decode cX3_steps 15 = .ok (.iload_n 3, 1) := dk_29 (dk_at dksX3_steps_0 15 rfl rfl)
theorem dX3_steps_16 : decode cX3_steps 16 = .ok (.ifCond .ne 37, 3) := dk_154 0 37 (dk_at dksX3_steps_0 16 rfl rfl)
theorem dX3_steps_19 : decode cX3_steps 19 = .ok (.aload_n 0, 1) := dk_42 (dk_at dksX3_steps_0 19 rfl rfl)
theorem dX3_steps_20 : decode cX3_steps 20 = .ok (.getfield 42, 3) := dk_180 0 42 (dk_at dksX3_steps_0 20 rfl rfl)
theorem dX3_steps_23 : decode cX3_steps 23 = .ok (.iload_n 1, 1) := dk_27 (dk_at dksX3_steps_0 23 rfl rfl)
theorem dX3_steps_24 : decode cX3_steps 24 = .ok (.iaload, 1) := dk_46 (dk_at dksX3_steps_1 0 rfl rfl)
theorem dX3_steps_25 : decode cX3_steps 25 = .ok (.aload_n 0, 1) := dk_42 (dk_at dksX3_steps_1 1 rfl rfl)
theorem dX3_steps_26 : decode cX3_steps 26 = .ok (.getfield 39, 3) := dk_180 0 39 (dk_at dksX3_steps_1 2 rfl rfl)
theorem dX3_steps_29 : decode cX3_steps 29 = .ok (.iload_n 1, 1) := dk_27 (dk_at dksX3_steps_1 5 rfl rfl)
theorem dX3_steps_30 : decode cX3_steps 30 = .ok (.iaload, 1) := dk_46 (dk_at dksX3_steps_1 6 rfl rfl)
theorem dX3_steps_31 : decode cX3_steps 31 = .ok (.if_icmp .ge 22, 3) := dk_162 0 22 (dk_at dksX3_steps_1 7 rfl rfl)
theorem dX3_steps_34 : decode cX3_steps 34 = .ok (.aload_n 0, 1) := dk_42 (dk_at dksX3_steps_1 10 rfl rfl)
theorem dX3_steps_35 : decode cX3_steps 35 = .ok (.getfield 42, 3) := dk_180 0 42 (dk_at dksX3_steps_1 11 rfl rfl)
theorem dX3_steps_38 : decode cX3_steps 38 = .ok (.iload_n 1, 1) := dk_27 (dk_at dksX3_steps_1 14 rfl rfl)
theorem dX3_steps_39 : decode cX3_steps 39 = .ok (.dup2, 1) := dk_92 (dk_at dksX3_steps_1 15 rfl rfl)
theorem dX3_steps_40 : decode cX3_steps 40 = .ok (.iaload, 1) := dk_46 (dk_at dksX3_steps_1 16 rfl rfl)
theorem dX3_steps_41 : decode cX3_steps 41 = .ok (.iconst 1, 1) := dk_4 (dk_at dksX3_steps_1 17 rfl rfl)
theorem dX3_steps_42 : decode cX3_steps 42 = .ok (.iadd, 1) := dk_96 (dk_at dksX3_steps_1 18 rfl rfl)
theorem dX3_steps_43 : decode cX3_steps 43 = .ok (.iastore, 1) := dk_79 (dk_at dksX3_steps_1 19 rfl rfl)
theorem dX3_steps_44 : decode cX3_steps 44 = .ok (.aload_n 0, 1) := dk_42 (dk_at dksX3_steps_1 20 rfl rfl)
theorem dX3_steps_45 : decode cX3_steps 45 = .ok (.getfield 45, 3) := dk_180 0 45 (dk_at dksX3_steps_1 21 rfl rfl)
theorem dX3_steps_48 : decode cX3_steps 48 = .ok (.iload_n 1, 1) := dk_27 (dk_at dksX3_steps_2 0 rfl rfl)
theorem dX3_steps_49 : decode cX3_steps 49 = .ok (.iload_n 2, 1) := dk_28 (dk_at dksX3_steps_2 1 rfl rfl)
theorem dX3_steps_50 : decode cX3_steps 50 = .ok (.iastore, 1) := dk_79 (dk_at dksX3_steps_2 2 rfl rfl)
theorem dX3_steps_51 : decode cX3_steps 51 = .ok (.iconst 1, 1) := dk_4 (dk_at dksX3_steps_2 3 rfl rfl)
theorem dX3_steps_52 : decode cX3_steps 52 = .ok (.istore_n 3, 1) := dk_62 (dk_at dksX3_steps_2 4 rfl rfl)
theorem dX3_steps_53 : decode cX3_steps 53 = .ok (.aload_n 0, 1) := dk_42 (dk_at dksX3_steps_2 5 rfl rfl)
theorem dX3_steps_54 : decode cX3_steps 54 = .ok (.getfield 19, 3) := dk_180 0 19 (dk_at dksX3_steps_2 6 rfl rfl)
theorem dX3_steps_57 : decode cX3_steps 57 = .ok (.iload_n 1, 1) := dk_27 (dk_at dksX3_steps_2 9 rfl rfl)
theorem dX3_steps_58 : decode cX3_steps 58 = .ok (.aaload, 1) := dk_50 (dk_at dksX3_steps_2 10 rfl rfl)
theorem dX3_steps_59 : decode cX3_steps 59 = .ok (.iload_n 2, 1) := dk_28 (dk_at dksX3_steps_2 11 rfl rfl)
theorem dX3_steps_60 : decode cX3_steps 60 = .ok (.iconst 1, 1) := dk_4 (dk_at dksX3_steps_2 12 rfl rfl)
theorem dX3_steps_61 : decode cX3_steps 61 = .ok (.iadd, 1) := dk_96 (dk_at dksX3_steps_2 13 rfl rfl)
theorem dX3_steps_62 : decode cX3_steps 62 = .ok (.aload_n 0, 1) := dk_42 (dk_at dksX3_steps_2 14 rfl rfl)
theorem dX3_steps_63 : decode cX3_steps 63 = .ok (.getfield 19, 3) := dk_180 0 19 (dk_at dksX3_steps_2 15 rfl rfl)
theorem dX3_steps_66 : decode cX3_steps 66 = .ok (.iload_n 1, 1) := dk_27 (dk_at dksX3_steps_2 18 rfl rfl)
theorem dX3_steps_67 : decode cX3_steps 67 = .ok (.aaload, 1) := dk_50 (dk_at dksX3_steps_2 19 rfl rfl)
theorem dX3_steps_68 : decode cX3_steps 68 = .ok (.iload_n 2, 1) := dk_28 (dk_at dksX3_steps_2 20 rfl rfl)
theorem dX3_steps_69 : decode cX3_steps 69 = .ok (.iaload, 1) := dk_46 (dk_at dksX3_steps_2 21 rfl rfl)
theorem dX3_steps_70 : decode cX3_steps 70 = .ok (.iload_n 3, 1) := dk_29 (dk_at dksX3_steps_2 22 rfl rfl)
theorem dX3_steps_71 : decode cX3_steps 71 = .ok (.ifCond .eq 7, 3) := dk_153 0 7 (dk_at dksX3_steps_3 0 rfl rfl)
theorem dX3_steps_74 : decode cX3_steps 74 = .ok (.iconst 0, 1) := dk_3 (dk_at dksX3_steps_3 3 rfl rfl)
theorem dX3_steps_75 : decode cX3_steps 75 = .ok (.goto 9, 3) := dk_167 0 9 (dk_at dksX3_steps_3 4 rfl rfl)
theorem dX3_steps_78 : decode cX3_steps 78 = .ok (.aload_n 0, 1) := dk_42 (dk_at dksX3_steps_3 7 rfl rfl)
theorem dX3_steps_79 : decode cX3_steps 79 = .ok (.getfield 36, 3) := dk_180 0 36 (dk_at dksX3_steps_3 8 rfl rfl)
theorem dX3_steps_82 : decode cX3_steps 82 = .ok (.iload_n 1, 1) := dk_27 (dk_at dksX3_steps_3 11 rfl rfl)
theorem dX3_steps_83 : decode cX3_steps 83 = .ok (.iaload, 1) := dk_46 (dk_at dksX3_steps_3 12 rfl rfl)
theorem dX3_steps_84 : decode cX3_steps 84 = .ok (.iadd, 1) := dk_96 (dk_at dksX3_steps_3 13 rfl rfl)
theorem dX3_steps_85 : decode cX3_steps 85 = .ok (.iastore, 1) := dk_79 (dk_at dksX3_steps_3 14 rfl rfl)
theorem dX3_steps_86 : decode cX3_steps 86 = .ok (.return_, 1) := dk_177 (dk_at dksX3_steps_3 15 rfl rfl)
abbrev cX3_eyes : ByteArray := prog_3_method_11_code
def yX3_eyes : MethodName := ⟨RX3, "eyes", "(II)I"⟩
def dkwX3_eyes_1 : List UInt8 := [180, 0, 11, 21, 4, 50, 28, 46, 27, 122, 4, 126, 96, 62, 132, 4, 1, 167, 255, 220, 29, 172]
abbrev dktX3_eyes_1 : List UInt8 := dkwX3_eyes_1 ++ []
def dkwX3_eyes_0 : List UInt8 := [3, 62, 3, 54, 4, 21, 4, 42, 180, 0, 53, 180, 0, 80, 185, 0, 86, 1, 0, 162, 0, 25, 29, 42]
abbrev dktX3_eyes_0 : List UInt8 := dkwX3_eyes_0 ++ dktX3_eyes_1
theorem dksX3_eyes_0 : cX3_eyes.data.toList.drop 0 = dktX3_eyes_0 := by decide +kernel
theorem dksX3_eyes_1 : cX3_eyes.data.toList.drop 24 = dktX3_eyes_1 := dk_seg dksX3_eyes_0 24 rfl rfl
theorem dX3_eyes_0 : decode cX3_eyes 0 = .ok (.iconst 0, 1) := dk_3 (dk_at dksX3_eyes_0 0 rfl rfl)
theorem dX3_eyes_1 : decode cX3_eyes 1 = .ok (.istore_n 3, 1) := dk_62 (dk_at dksX3_eyes_0 1 rfl rfl)
theorem dX3_eyes_2 : decode cX3_eyes 2 = .ok (.iconst 0, 1) := dk_3 (dk_at dksX3_eyes_0 2 rfl rfl)
theorem dX3_eyes_3 : decode cX3_eyes 3 = .ok (.istore 4, 2) := dk_54 4 (dk_at dksX3_eyes_0 3 rfl rfl)
theorem dX3_eyes_5 : decode cX3_eyes 5 = .ok (.iload 4, 2) := dk_21 4 (dk_at dksX3_eyes_0 5 rfl rfl)
theorem dX3_eyes_7 : decode cX3_eyes 7 = .ok (.aload_n 0, 1) := dk_42 (dk_at dksX3_eyes_0 7 rfl rfl)
theorem dX3_eyes_8 : decode cX3_eyes 8 = .ok (.getfield 53, 3) := dk_180 0 53 (dk_at dksX3_eyes_0 8 rfl rfl)
theorem dX3_eyes_11 : decode cX3_eyes 11 = .ok (.getfield 80, 3) := dk_180 0 80 (dk_at dksX3_eyes_0 11 rfl rfl)
theorem dX3_eyes_14 : decode cX3_eyes 14 = .ok (.invokeinterface 86 1, 5) := by decide +kernel
theorem dX3_eyes_19 : decode cX3_eyes 19 = .ok (.if_icmp .ge 25, 3) := dk_162 0 25 (dk_at dksX3_eyes_0 19 rfl rfl)
theorem dX3_eyes_22 : decode cX3_eyes 22 = .ok (.iload_n 3, 1) := dk_29 (dk_at dksX3_eyes_0 22 rfl rfl)
theorem dX3_eyes_23 : decode cX3_eyes 23 = .ok (.aload_n 0, 1) := dk_42 (dk_at dksX3_eyes_0 23 rfl rfl)
theorem dX3_eyes_24 : decode cX3_eyes 24 = .ok (.getfield 11, 3) := dk_180 0 11 (dk_at dksX3_eyes_1 0 rfl rfl)
theorem dX3_eyes_27 : decode cX3_eyes 27 = .ok (.iload 4, 2) := dk_21 4 (dk_at dksX3_eyes_1 3 rfl rfl)
theorem dX3_eyes_29 : decode cX3_eyes 29 = .ok (.aaload, 1) := dk_50 (dk_at dksX3_eyes_1 5 rfl rfl)
theorem dX3_eyes_30 : decode cX3_eyes 30 = .ok (.iload_n 2, 1) := dk_28 (dk_at dksX3_eyes_1 6 rfl rfl)
theorem dX3_eyes_31 : decode cX3_eyes 31 = .ok (.iaload, 1) := dk_46 (dk_at dksX3_eyes_1 7 rfl rfl)
theorem dX3_eyes_32 : decode cX3_eyes 32 = .ok (.iload_n 1, 1) := dk_27 (dk_at dksX3_eyes_1 8 rfl rfl)
theorem dX3_eyes_33 : decode cX3_eyes 33 = .ok (.ishr, 1) := dk_122 (dk_at dksX3_eyes_1 9 rfl rfl)
theorem dX3_eyes_34 : decode cX3_eyes 34 = .ok (.iconst 1, 1) := dk_4 (dk_at dksX3_eyes_1 10 rfl rfl)
theorem dX3_eyes_35 : decode cX3_eyes 35 = .ok (.iand, 1) := dk_126 (dk_at dksX3_eyes_1 11 rfl rfl)
theorem dX3_eyes_36 : decode cX3_eyes 36 = .ok (.iadd, 1) := dk_96 (dk_at dksX3_eyes_1 12 rfl rfl)
theorem dX3_eyes_37 : decode cX3_eyes 37 = .ok (.istore_n 3, 1) := dk_62 (dk_at dksX3_eyes_1 13 rfl rfl)
theorem dX3_eyes_38 : decode cX3_eyes 38 = .ok (.iinc 4 1, 3) := dk_132 4 1 (dk_at dksX3_eyes_1 14 rfl rfl)
theorem dX3_eyes_41 : decode cX3_eyes 41 = .ok (.goto (-36), 3) := dk_167 255 220 (dk_at dksX3_eyes_1 17 rfl rfl)
theorem dX3_eyes_44 : decode cX3_eyes 44 = .ok (.iload_n 3, 1) := dk_29 (dk_at dksX3_eyes_1 20 rfl rfl)
theorem dX3_eyes_45 : decode cX3_eyes 45 = .ok (.ireturn, 1) := dk_172 (dk_at dksX3_eyes_1 21 rfl rfl)
abbrev cX3_takesOtherwise : ByteArray := prog_3_method_18_code
def yX3_takesOtherwise : MethodName := ⟨RX3, "takesOtherwise", "()Z"⟩
def dkwX3_takesOtherwise_3 : List UInt8 := [27, 4, 96, 181, 0, 73, 4, 172]
abbrev dktX3_takesOtherwise_3 : List UInt8 := dkwX3_takesOtherwise_3 ++ []
def dkwX3_takesOtherwise_2 : List UInt8 := [162, 0, 16, 42, 180, 0, 32, 28, 3, 84, 132, 2, 1, 167, 255, 241, 42, 180, 0, 32, 27, 4, 84, 42]
abbrev dktX3_takesOtherwise_2 : List UInt8 := dkwX3_takesOtherwise_2 ++ dktX3_takesOtherwise_3
def dkwX3_takesOtherwise_1 : List UInt8 := [51, 153, 0, 9, 132, 1, 255, 167, 255, 232, 27, 156, 0, 5, 3, 172, 42, 180, 0, 73, 61, 28, 27]
abbrev dktX3_takesOtherwise_1 : List UInt8 := dkwX3_takesOtherwise_1 ++ dktX3_takesOtherwise_2
def dkwX3_takesOtherwise_0 : List UInt8 := [42, 180, 0, 114, 4, 100, 60, 27, 155, 0, 26, 27, 42, 180, 0, 73, 162, 0, 18, 42, 180, 0, 32, 27]
abbrev dktX3_takesOtherwise_0 : List UInt8 := dkwX3_takesOtherwise_0 ++ dktX3_takesOtherwise_1
theorem dksX3_takesOtherwise_0 : cX3_takesOtherwise.data.toList.drop 0 = dktX3_takesOtherwise_0 := by decide +kernel
theorem dksX3_takesOtherwise_1 : cX3_takesOtherwise.data.toList.drop 24 = dktX3_takesOtherwise_1 := dk_seg dksX3_takesOtherwise_0 24 rfl rfl
theorem dksX3_takesOtherwise_2 : cX3_takesOtherwise.data.toList.drop 47 = dktX3_takesOtherwise_2 := dk_seg dksX3_takesOtherwise_1 23 rfl rfl
theorem dksX3_takesOtherwise_3 : cX3_takesOtherwise.data.toList.drop 71 = dktX3_takesOtherwise_3 := dk_seg dksX3_takesOtherwise_2 24 rfl rfl
theorem dX3_takesOtherwise_0 : decode cX3_takesOtherwise 0 = .ok (.aload_n 0, 1) := dk_42 (dk_at dksX3_takesOtherwise_0 0 rfl rfl)
theorem dX3_takesOtherwise_1 : decode cX3_takesOtherwise 1 = .ok (.getfield 114, 3) := dk_180 0 114 (dk_at dksX3_takesOtherwise_0 1 rfl rfl)
theorem dX3_takesOtherwise_4 : decode cX3_takesOtherwise 4 = .ok (.iconst 1, 1) := dk_4 (dk_at dksX3_takesOtherwise_0 4 rfl rfl)
theorem dX3_takesOtherwise_5 : decode cX3_takesOtherwise 5 = .ok (.isub, 1) := dk_100 (dk_at dksX3_takesOtherwise_0 5 rfl rfl)
theorem dX3_takesOtherwise_6 : decode cX3_takesOtherwise 6 = .ok (.istore_n 1, 1) := dk_60 (dk_at dksX3_takesOtherwise_0 6 rfl rfl)
theorem dX3_takesOtherwise_7 : decode cX3_takesOtherwise 7 = .ok (.iload_n 1, 1) := dk_27 (dk_at dksX3_takesOtherwise_0 7 rfl rfl)
theorem dX3_takesOtherwise_8 : decode cX3_takesOtherwise 8 = .ok (.ifCond .lt 26, 3) := dk_155 0 26 (dk_at dksX3_takesOtherwise_0 8 rfl rfl)
theorem dX3_takesOtherwise_11 : decode cX3_takesOtherwise 11 = .ok (.iload_n 1, 1) := dk_27 (dk_at dksX3_takesOtherwise_0 11 rfl rfl)
theorem dX3_takesOtherwise_12 : decode cX3_takesOtherwise 12 = .ok (.aload_n 0, 1) := dk_42 (dk_at dksX3_takesOtherwise_0 12 rfl rfl)
theorem dX3_takesOtherwise_13 : decode cX3_takesOtherwise 13 = .ok (.getfield 73, 3) := dk_180 0 73 (dk_at dksX3_takesOtherwise_0 13 rfl rfl)
theorem dX3_takesOtherwise_16 : decode cX3_takesOtherwise 16 = .ok (.if_icmp .ge 18, 3) := dk_162 0 18 (dk_at dksX3_takesOtherwise_0 16 rfl rfl)
theorem dX3_takesOtherwise_19 : decode cX3_takesOtherwise 19 = .ok (.aload_n 0, 1) := dk_42 (dk_at dksX3_takesOtherwise_0 19 rfl rfl)
theorem dX3_takesOtherwise_20 : decode cX3_takesOtherwise 20 = .ok (.getfield 32, 3) := dk_180 0 32 (dk_at dksX3_takesOtherwise_0 20 rfl rfl)
theorem dX3_takesOtherwise_23 : decode cX3_takesOtherwise 23 = .ok (.iload_n 1, 1) := dk_27 (dk_at dksX3_takesOtherwise_0 23 rfl rfl)
theorem dX3_takesOtherwise_24 : decode cX3_takesOtherwise 24 = .ok (.baload, 1) := dk_51 (dk_at dksX3_takesOtherwise_1 0 rfl rfl)
theorem dX3_takesOtherwise_25 : decode cX3_takesOtherwise 25 = .ok (.ifCond .eq 9, 3) := dk_153 0 9 (dk_at dksX3_takesOtherwise_1 1 rfl rfl)
theorem dX3_takesOtherwise_28 : decode cX3_takesOtherwise 28 = .ok (.iinc 1 (-1), 3) := dk_132 1 255 (dk_at dksX3_takesOtherwise_1 4 rfl rfl)
theorem dX3_takesOtherwise_31 : decode cX3_takesOtherwise 31 = .ok (.goto (-24), 3) := dk_167 255 232 (dk_at dksX3_takesOtherwise_1 7 rfl rfl)
theorem dX3_takesOtherwise_34 : decode cX3_takesOtherwise 34 = .ok (.iload_n 1, 1) := dk_27 (dk_at dksX3_takesOtherwise_1 10 rfl rfl)
theorem dX3_takesOtherwise_35 : decode cX3_takesOtherwise 35 = .ok (.ifCond .ge 5, 3) := dk_156 0 5 (dk_at dksX3_takesOtherwise_1 11 rfl rfl)
theorem dX3_takesOtherwise_38 : decode cX3_takesOtherwise 38 = .ok (.iconst 0, 1) := dk_3 (dk_at dksX3_takesOtherwise_1 14 rfl rfl)
theorem dX3_takesOtherwise_39 : decode cX3_takesOtherwise 39 = .ok (.ireturn, 1) := dk_172 (dk_at dksX3_takesOtherwise_1 15 rfl rfl)
theorem dX3_takesOtherwise_40 : decode cX3_takesOtherwise 40 = .ok (.aload_n 0, 1) := dk_42 (dk_at dksX3_takesOtherwise_1 16 rfl rfl)
theorem dX3_takesOtherwise_41 : decode cX3_takesOtherwise 41 = .ok (.getfield 73, 3) := dk_180 0 73 (dk_at dksX3_takesOtherwise_1 17 rfl rfl)
theorem dX3_takesOtherwise_44 : decode cX3_takesOtherwise 44 = .ok (.istore_n 2, 1) := dk_61 (dk_at dksX3_takesOtherwise_1 20 rfl rfl)
theorem dX3_takesOtherwise_45 : decode cX3_takesOtherwise 45 = .ok (.iload_n 2, 1) := dk_28 (dk_at dksX3_takesOtherwise_1 21 rfl rfl)
theorem dX3_takesOtherwise_46 : decode cX3_takesOtherwise 46 = .ok (.iload_n 1, 1) := dk_27 (dk_at dksX3_takesOtherwise_1 22 rfl rfl)
theorem dX3_takesOtherwise_47 : decode cX3_takesOtherwise 47 = .ok (.if_icmp .ge 16, 3) := dk_162 0 16 (dk_at dksX3_takesOtherwise_2 0 rfl rfl)
theorem dX3_takesOtherwise_50 : decode cX3_takesOtherwise 50 = .ok (.aload_n 0, 1) := dk_42 (dk_at dksX3_takesOtherwise_2 3 rfl rfl)
theorem dX3_takesOtherwise_51 : decode cX3_takesOtherwise 51 = .ok (.getfield 32, 3) := dk_180 0 32 (dk_at dksX3_takesOtherwise_2 4 rfl rfl)
theorem dX3_takesOtherwise_54 : decode cX3_takesOtherwise 54 = .ok (.iload_n 2, 1) := dk_28 (dk_at dksX3_takesOtherwise_2 7 rfl rfl)
theorem dX3_takesOtherwise_55 : decode cX3_takesOtherwise 55 = .ok (.iconst 0, 1) := dk_3 (dk_at dksX3_takesOtherwise_2 8 rfl rfl)
theorem dX3_takesOtherwise_56 : decode cX3_takesOtherwise 56 = .ok (.bastore, 1) := dk_84 (dk_at dksX3_takesOtherwise_2 9 rfl rfl)
theorem dX3_takesOtherwise_57 : decode cX3_takesOtherwise 57 = .ok (.iinc 2 1, 3) := dk_132 2 1 (dk_at dksX3_takesOtherwise_2 10 rfl rfl)
theorem dX3_takesOtherwise_60 : decode cX3_takesOtherwise 60 = .ok (.goto (-15), 3) := dk_167 255 241 (dk_at dksX3_takesOtherwise_2 13 rfl rfl)
theorem dX3_takesOtherwise_63 : decode cX3_takesOtherwise 63 = .ok (.aload_n 0, 1) := dk_42 (dk_at dksX3_takesOtherwise_2 16 rfl rfl)
theorem dX3_takesOtherwise_64 : decode cX3_takesOtherwise 64 = .ok (.getfield 32, 3) := dk_180 0 32 (dk_at dksX3_takesOtherwise_2 17 rfl rfl)
theorem dX3_takesOtherwise_67 : decode cX3_takesOtherwise 67 = .ok (.iload_n 1, 1) := dk_27 (dk_at dksX3_takesOtherwise_2 20 rfl rfl)
theorem dX3_takesOtherwise_68 : decode cX3_takesOtherwise 68 = .ok (.iconst 1, 1) := dk_4 (dk_at dksX3_takesOtherwise_2 21 rfl rfl)
theorem dX3_takesOtherwise_69 : decode cX3_takesOtherwise 69 = .ok (.bastore, 1) := dk_84 (dk_at dksX3_takesOtherwise_2 22 rfl rfl)
theorem dX3_takesOtherwise_70 : decode cX3_takesOtherwise 70 = .ok (.aload_n 0, 1) := dk_42 (dk_at dksX3_takesOtherwise_2 23 rfl rfl)
theorem dX3_takesOtherwise_71 : decode cX3_takesOtherwise 71 = .ok (.iload_n 1, 1) := dk_27 (dk_at dksX3_takesOtherwise_3 0 rfl rfl)
theorem dX3_takesOtherwise_72 : decode cX3_takesOtherwise 72 = .ok (.iconst 1, 1) := dk_4 (dk_at dksX3_takesOtherwise_3 1 rfl rfl)
theorem dX3_takesOtherwise_73 : decode cX3_takesOtherwise 73 = .ok (.iadd, 1) := dk_96 (dk_at dksX3_takesOtherwise_3 2 rfl rfl)
theorem dX3_takesOtherwise_74 : decode cX3_takesOtherwise 74 = .ok (.putfield 73, 3) := dk_181 0 73 (dk_at dksX3_takesOtherwise_3 3 rfl rfl)
theorem dX3_takesOtherwise_77 : decode cX3_takesOtherwise 77 = .ok (.iconst 1, 1) := dk_4 (dk_at dksX3_takesOtherwise_3 6 rfl rfl)
theorem dX3_takesOtherwise_78 : decode cX3_takesOtherwise 78 = .ok (.ireturn, 1) := dk_172 (dk_at dksX3_takesOtherwise_3 7 rfl rfl)
theorem q137 : (Jvm.Cond.initialized "UnseenClock$Course") ∈ lw_all := lw_g (lw_at lw_m1 7 rfl) rfl
theorem q426 : (Jvm.Cond.fieldLinkNest "UnseenClock$Course" (117 : Nat) "UnseenClock$Square" "clocks" "Ljava/util/List;" "UnseenClock") ∈ lw_tbl := lw_at lw_m2 56 rfl
theorem q430 : (Jvm.Cond.fieldLinkNest "UnseenClock$Course" (80 : Nat) "UnseenClock$Square" "people" "Ljava/util/List;" "UnseenClock") ∈ lw_tbl := lw_at lw_m2 60 rfl
theorem q436 : (Jvm.Cond.fieldLinkNest "UnseenClock$Course" (105 : Nat) "UnseenClock$Square" "cell" "[[I" "UnseenClock") ∈ lw_tbl := lw_at lw_m2 66 rfl
theorem q446 : (Jvm.Cond.fieldLinkNest "UnseenClock$Course" (128 : Nat) "UnseenClock$Square" "minutes" "I" "UnseenClock") ∈ lw_tbl := lw_at lw_m2 76 rfl
theorem q475 : (Jvm.Cond.instantiable "UnseenClock$Course" (18 : Nat)) ∈ lw_all := lw_g (lw_at lw_m2 105 rfl) rfl
theorem q477 : (Jvm.Cond.instanceMethod ({ cls := "UnseenClock$Course", name := "<init>", desc := "()V" } : Jvm.MethodName)) ∈ lw_all := lw_g (lw_at lw_m2 107 rfl) rfl
theorem q478 : (Jvm.Cond.code ({ cls := "UnseenClock$Course", name := "<init>", desc := "()V" } : Jvm.MethodName) prog_3_method_1_code (1 : Nat) (Option.none : Option Jvm.ClassFile.FieldType)) ∈ lw_all := lw_g (lw_at lw_m2 108 rfl) rfl
theorem q479 : (Jvm.Cond.methodLink "UnseenClock$Course" (3 : Nat) ({ cls := "java/lang/Object", name := "<init>", desc := "()V" } : Jvm.MethodName)) ∈ lw_all := lw_g (lw_at lw_m2 109 rfl) rfl
theorem q480 : (Jvm.Cond.classLink "UnseenClock$Course" (9 : Nat) "[[I") ∈ lw_all := lw_g (lw_at lw_m2 110 rfl) rfl
theorem q481 : (Jvm.Cond.classLink "UnseenClock$Course" (48 : Nat) "[[Z") ∈ lw_all := lw_g (lw_at lw_m2 111 rfl) rfl
theorem q483 : (Jvm.Cond.fieldLink "UnseenClock$Course" (11 : Nat) "UnseenClock$Course" "look" "[[I") ∈ lw_all := lw_g (lw_at lw_m2 113 rfl) rfl
theorem q487 : (Jvm.Cond.fieldLink "UnseenClock$Course" (16 : Nat) "UnseenClock$Course" "shows" "[[I") ∈ lw_all := lw_g (lw_at lw_m2 117 rfl) rfl
theorem q491 : (Jvm.Cond.fieldLink "UnseenClock$Course" (19 : Nat) "UnseenClock$Course" "value" "[[I") ∈ lw_all := lw_g (lw_at lw_m2 121 rfl) rfl
theorem q493 : (Jvm.Cond.fieldLink "UnseenClock$Course" (22 : Nat) "UnseenClock$Course" "settled" "[I") ∈ lw_all := lw_g (lw_at lw_m2 123 rfl) rfl
theorem q494 : (Jvm.Cond.fieldLink "UnseenClock$Course" (26 : Nat) "UnseenClock$Course" "looking" "[I") ∈ lw_all := lw_g (lw_at lw_m2 124 rfl) rfl
theorem q495 : (Jvm.Cond.fieldLink "UnseenClock$Course" (29 : Nat) "UnseenClock$Course" "opened" "[I") ∈ lw_all := lw_g (lw_at lw_m2 125 rfl) rfl
theorem q497 : (Jvm.Cond.fieldLink "UnseenClock$Course" (32 : Nat) "UnseenClock$Course" "isYes" "[Z") ∈ lw_all := lw_g (lw_at lw_m2 127 rfl) rfl
theorem q498 : (Jvm.Cond.fieldLink "UnseenClock$Course" (36 : Nat) "UnseenClock$Course" "pace" "[I") ∈ lw_all := lw_g (lw_at lw_m2 128 rfl) rfl
theorem q499 : (Jvm.Cond.fieldLink "UnseenClock$Course" (39 : Nat) "UnseenClock$Course" "keeps" "[I") ∈ lw_all := lw_g (lw_at lw_m2 129 rfl) rfl
theorem q501 : (Jvm.Cond.fieldLink "UnseenClock$Course" (42 : Nat) "UnseenClock$Course" "kept" "[I") ∈ lw_all := lw_g (lw_at lw_m2 131 rfl) rfl
theorem q502 : (Jvm.Cond.fieldLink "UnseenClock$Course" (45 : Nat) "UnseenClock$Course" "last" "[I") ∈ lw_all := lw_g (lw_at lw_m2 132 rfl) rfl
theorem q504 : (Jvm.Cond.fieldLink "UnseenClock$Course" (50 : Nat) "UnseenClock$Course" "drawn" "[[Z") ∈ lw_all := lw_g (lw_at lw_m2 134 rfl) rfl
theorem q505 : (Jvm.Cond.fieldLink "UnseenClock$Course" (53 : Nat) "UnseenClock$Course" "square" "LUnseenClock$Square;") ∈ lw_all := lw_g (lw_at lw_m2 135 rfl) rfl
theorem q507 : (Jvm.Cond.fieldLink "UnseenClock$Course" (63 : Nat) "UnseenClock$Course" "away" "I") ∈ lw_all := lw_g (lw_at lw_m2 137 rfl) rfl
theorem q508 : (Jvm.Cond.fieldLink "UnseenClock$Course" (114 : Nat) "UnseenClock$Course" "opens" "I") ∈ lw_all := lw_g (lw_at lw_m2 138 rfl) rfl
theorem q510 : (Jvm.Cond.fieldLink "UnseenClock$Course" (73 : Nat) "UnseenClock$Course" "told" "I") ∈ lw_all := lw_g (lw_at lw_m2 140 rfl) rfl
theorem q511 : (Jvm.Cond.fieldLink "UnseenClock$Course" (76 : Nat) "UnseenClock$Course" "isDay" "Z") ∈ lw_all := lw_g (lw_at lw_m2 141 rfl) rfl
theorem q513 : (Jvm.Cond.fieldLink "UnseenClock$Course" (164 : Nat) "UnseenClock$Course" "x" "J") ∈ lw_all := lw_g (lw_at lw_m2 143 rfl) rfl
theorem q515 : (Jvm.Cond.laysFinal "UnseenClock$Course" "UnseenClock$Course" "look" "[[I") ∈ lw_all := lw_g (lw_at lw_m2 145 rfl) rfl
theorem q516 : (Jvm.Cond.soleField "UnseenClock$Course" "look") ∈ lw_all := lw_g (lw_at lw_m2 146 rfl) rfl
theorem q517 : (Jvm.Cond.laysFinal "UnseenClock$Course" "UnseenClock$Course" "shows" "[[I") ∈ lw_all := lw_g (lw_at lw_m2 147 rfl) rfl
theorem q518 : (Jvm.Cond.soleField "UnseenClock$Course" "shows") ∈ lw_all := lw_g (lw_at lw_m2 148 rfl) rfl
theorem q519 : (Jvm.Cond.laysFinal "UnseenClock$Course" "UnseenClock$Course" "value" "[[I") ∈ lw_all := lw_g (lw_at lw_m2 149 rfl) rfl
theorem q520 : (Jvm.Cond.soleField "UnseenClock$Course" "value") ∈ lw_all := lw_g (lw_at lw_m2 150 rfl) rfl
theorem q521 : (Jvm.Cond.laysFinal "UnseenClock$Course" "UnseenClock$Course" "settled" "[I") ∈ lw_all := lw_g (lw_at lw_m2 151 rfl) rfl
theorem q522 : (Jvm.Cond.soleField "UnseenClock$Course" "settled") ∈ lw_all := lw_g (lw_at lw_m2 152 rfl) rfl
theorem q523 : (Jvm.Cond.laysFinal "UnseenClock$Course" "UnseenClock$Course" "looking" "[I") ∈ lw_all := lw_g (lw_at lw_m2 153 rfl) rfl
theorem q524 : (Jvm.Cond.soleField "UnseenClock$Course" "looking") ∈ lw_all := lw_g (lw_at lw_m2 154 rfl) rfl
theorem q525 : (Jvm.Cond.laysFinal "UnseenClock$Course" "UnseenClock$Course" "opened" "[I") ∈ lw_all := lw_g (lw_at lw_m2 155 rfl) rfl
theorem q526 : (Jvm.Cond.soleField "UnseenClock$Course" "opened") ∈ lw_all := lw_g (lw_at lw_m2 156 rfl) rfl
theorem q527 : (Jvm.Cond.laysFinal "UnseenClock$Course" "UnseenClock$Course" "isYes" "[Z") ∈ lw_all := lw_g (lw_at lw_m2 157 rfl) rfl
theorem q528 : (Jvm.Cond.soleField "UnseenClock$Course" "isYes") ∈ lw_all := lw_g (lw_at lw_m2 158 rfl) rfl
theorem q529 : (Jvm.Cond.laysFinal "UnseenClock$Course" "UnseenClock$Course" "pace" "[I") ∈ lw_all := lw_g (lw_at lw_m2 159 rfl) rfl
theorem q530 : (Jvm.Cond.soleField "UnseenClock$Course" "pace") ∈ lw_all := lw_g (lw_at lw_m2 160 rfl) rfl
theorem q531 : (Jvm.Cond.laysFinal "UnseenClock$Course" "UnseenClock$Course" "keeps" "[I") ∈ lw_all := lw_g (lw_at lw_m2 161 rfl) rfl
theorem q532 : (Jvm.Cond.soleField "UnseenClock$Course" "keeps") ∈ lw_all := lw_g (lw_at lw_m2 162 rfl) rfl
theorem q533 : (Jvm.Cond.laysFinal "UnseenClock$Course" "UnseenClock$Course" "kept" "[I") ∈ lw_all := lw_g (lw_at lw_m2 163 rfl) rfl
theorem q534 : (Jvm.Cond.soleField "UnseenClock$Course" "kept") ∈ lw_all := lw_g (lw_at lw_m2 164 rfl) rfl
theorem q535 : (Jvm.Cond.laysFinal "UnseenClock$Course" "UnseenClock$Course" "last" "[I") ∈ lw_all := lw_g (lw_at lw_m2 165 rfl) rfl
theorem q536 : (Jvm.Cond.soleField "UnseenClock$Course" "last") ∈ lw_all := lw_g (lw_at lw_m2 166 rfl) rfl
theorem q537 : (Jvm.Cond.laysFinal "UnseenClock$Course" "UnseenClock$Course" "drawn" "[[Z") ∈ lw_all := lw_g (lw_at lw_m2 167 rfl) rfl
theorem q538 : (Jvm.Cond.soleField "UnseenClock$Course" "drawn") ∈ lw_all := lw_g (lw_at lw_m2 168 rfl) rfl
theorem q539 : (Jvm.Cond.lays "UnseenClock$Course" "UnseenClock$Course" "square" "LUnseenClock$Square;") ∈ lw_all := lw_g (lw_at lw_m2 169 rfl) rfl
theorem q540 : (Jvm.Cond.soleField "UnseenClock$Course" "square") ∈ lw_all := lw_g (lw_at lw_m2 170 rfl) rfl
theorem q541 : (Jvm.Cond.lays "UnseenClock$Course" "UnseenClock$Course" "away" "I") ∈ lw_all := lw_g (lw_at lw_m2 171 rfl) rfl
theorem q542 : (Jvm.Cond.soleField "UnseenClock$Course" "away") ∈ lw_all := lw_g (lw_at lw_m2 172 rfl) rfl
theorem q543 : (Jvm.Cond.lays "UnseenClock$Course" "UnseenClock$Course" "opens" "I") ∈ lw_all := lw_g (lw_at lw_m2 173 rfl) rfl
theorem q544 : (Jvm.Cond.soleField "UnseenClock$Course" "opens") ∈ lw_all := lw_g (lw_at lw_m2 174 rfl) rfl
theorem q545 : (Jvm.Cond.lays "UnseenClock$Course" "UnseenClock$Course" "told" "I") ∈ lw_all := lw_g (lw_at lw_m2 175 rfl) rfl
theorem q546 : (Jvm.Cond.soleField "UnseenClock$Course" "told") ∈ lw_all := lw_g (lw_at lw_m2 176 rfl) rfl
theorem q547 : (Jvm.Cond.lays "UnseenClock$Course" "UnseenClock$Course" "isDay" "Z") ∈ lw_all := lw_g (lw_at lw_m2 177 rfl) rfl
theorem q548 : (Jvm.Cond.soleField "UnseenClock$Course" "isDay") ∈ lw_all := lw_g (lw_at lw_m2 178 rfl) rfl
theorem q549 : (Jvm.Cond.lays "UnseenClock$Course" "UnseenClock$Course" "x" "J") ∈ lw_all := lw_g (lw_at lw_m2 179 rfl) rfl
theorem q550 : (Jvm.Cond.soleField "UnseenClock$Course" "x") ∈ lw_all := lw_g (lw_at lw_m2 180 rfl) rfl
theorem q551 : (Jvm.Cond.superclass "UnseenClock$Course" "java/lang/Object") ∈ lw_all := lw_g (lw_at lw_m2 181 rfl) rfl
theorem q850 : (Jvm.Cond.fieldLinkNest "UnseenClock$Course" (125 : Nat) "UnseenClock$Dial" "over" "I" "UnseenClock") ∈ lw_tbl := lw_at lw_m4 0 rfl
theorem q853 : (Jvm.Cond.fieldLinkNest "UnseenClock$Course" (144 : Nat) "UnseenClock$Dial" "shows" "I" "UnseenClock") ∈ lw_tbl := lw_at lw_m4 3 rfl
theorem q855 : (Jvm.Cond.fieldLinkNest "UnseenClock$Course" (122 : Nat) "UnseenClock$Dial" "from" "I" "UnseenClock") ∈ lw_tbl := lw_at lw_m4 5 rfl
theorem q910 : (Jvm.Cond.selects "UnseenClock$Course" ({ cls := "java/lang/Object", name := "getClass", desc := "()Ljava/lang/Class;" } : Jvm.MethodName) ({ cls := "java/lang/Object", name := "getClass", desc := "()Ljava/lang/Class;" } : Jvm.MethodName)) ∈ lw_all := lw_g (lw_at lw_m4 60 rfl) rfl
theorem q965 : (Jvm.Cond.fieldLinkNest "UnseenClock$Course" (102 : Nat) "UnseenClock$Person" "looks" "Ljava/util/List;" "UnseenClock") ∈ lw_tbl := lw_at lw_m4 115 rfl
theorem q1035 : (Jvm.Cond.fieldLink "UnseenClock$Course" (155 : Nat) "UnseenClock$Habit" "clock" "I") ∈ lw_all := lw_g (lw_at lw_m4 185 rfl) rfl
theorem q1155 : (Jvm.Cond.instanceMethod ({ cls := "UnseenClock$Course", name := "begins", desc := "(LUnseenClock$Square;[II)V" } : Jvm.MethodName)) ∈ lw_all := lw_g (lw_at lw_m5 65 rfl) rfl
theorem q1156 : (Jvm.Cond.selects "UnseenClock$Course" ({ cls := "UnseenClock$Course", name := "begins", desc := "(LUnseenClock$Square;[II)V" } : Jvm.MethodName) ({ cls := "UnseenClock$Course", name := "begins", desc := "(LUnseenClock$Square;[II)V" } : Jvm.MethodName)) ∈ lw_all := lw_g (lw_at lw_m5 66 rfl) rfl
theorem q1157 : (Jvm.Cond.code ({ cls := "UnseenClock$Course", name := "begins", desc := "(LUnseenClock$Square;[II)V" } : Jvm.MethodName) prog_3_method_2_code (4 : Nat) (Option.none : Option Jvm.ClassFile.FieldType)) ∈ lw_all := lw_g (lw_at lw_m5 67 rfl) rfl
theorem q1158 : (Jvm.Cond.methodLink "UnseenClock$Course" (57 : Nat) ({ cls := "java/lang/System", name := "arraycopy", desc := "(Ljava/lang/Object;ILjava/lang/Object;II)V" } : Jvm.MethodName)) ∈ lw_all := lw_g (lw_at lw_m5 68 rfl) rfl
theorem q1159 : (Jvm.Cond.methodLink "UnseenClock$Course" (67 : Nat) ({ cls := "java/util/Arrays", name := "fill", desc := "([II)V" } : Jvm.MethodName)) ∈ lw_all := lw_g (lw_at lw_m5 69 rfl) rfl
theorem q1161 : (Jvm.Cond.instanceMethod ({ cls := "UnseenClock$Course", name := "sees", desc := "(III)Z" } : Jvm.MethodName)) ∈ lw_all := lw_g (lw_at lw_m5 71 rfl) rfl
theorem q1162 : (Jvm.Cond.selects "UnseenClock$Course" ({ cls := "UnseenClock$Course", name := "sees", desc := "(III)Z" } : Jvm.MethodName) ({ cls := "UnseenClock$Course", name := "sees", desc := "(III)Z" } : Jvm.MethodName)) ∈ lw_all := lw_g (lw_at lw_m5 72 rfl) rfl
theorem q1163 : (Jvm.Cond.code ({ cls := "UnseenClock$Course", name := "sees", desc := "(III)Z" } : Jvm.MethodName) prog_3_method_7_code (4 : Nat) (Option.some Jvm.ClassFile.FieldType.boolean)) ∈ lw_all := lw_g (lw_at lw_m5 73 rfl) rfl
theorem q1164 : (Jvm.Cond.methodLink "UnseenClock$Course" (108 : Nat) ({ cls := "UnseenClock$Course", name := "isThere", desc := "(II)Z" } : Jvm.MethodName)) ∈ lw_all := lw_g (lw_at lw_m5 74 rfl) rfl
theorem q1165 : (Jvm.Cond.privateMethod ({ cls := "UnseenClock$Course", name := "isThere", desc := "(II)Z" } : Jvm.MethodName)) ∈ lw_tbl := lw_at lw_m5 75 rfl
theorem q1166 : (Jvm.Cond.instanceMethod ({ cls := "UnseenClock$Course", name := "isThere", desc := "(II)Z" } : Jvm.MethodName)) ∈ lw_all := lw_g (lw_at lw_m5 76 rfl) rfl
theorem q1167 : (Jvm.Cond.code ({ cls := "UnseenClock$Course", name := "isThere", desc := "(II)Z" } : Jvm.MethodName) prog_3_method_6_code (3 : Nat) (Option.some Jvm.ClassFile.FieldType.boolean)) ∈ lw_all := lw_g (lw_at lw_m5 77 rfl) rfl
theorem q1168 : (Jvm.Cond.methodLinkNest "UnseenClock$Course" (92 : Nat) ({ cls := "UnseenClock", name := "isOn", desc := "(II)Z" } : Jvm.MethodName) "UnseenClock") ∈ lw_tbl := lw_at lw_m5 78 rfl
theorem q1169 : (Jvm.Cond.methodLink "UnseenClock$Course" (111 : Nat) ({ cls := "UnseenClock$Square", name := "isSeen", desc := "(II)Z" } : Jvm.MethodName)) ∈ lw_all := lw_g (lw_at lw_m5 79 rfl) rfl
theorem q1189 : (Jvm.Cond.instanceMethod ({ cls := "UnseenClock$Course", name := "goes", desc := "()V" } : Jvm.MethodName)) ∈ lw_all := lw_g (lw_at lw_m5 99 rfl) rfl
theorem q1190 : (Jvm.Cond.selects "UnseenClock$Course" ({ cls := "UnseenClock$Course", name := "goes", desc := "()V" } : Jvm.MethodName) ({ cls := "UnseenClock$Course", name := "goes", desc := "()V" } : Jvm.MethodName)) ∈ lw_all := lw_g (lw_at lw_m5 100 rfl) rfl
theorem q1191 : (Jvm.Cond.code ({ cls := "UnseenClock$Course", name := "goes", desc := "()V" } : Jvm.MethodName) prog_3_method_8_code (3 : Nat) (Option.none : Option Jvm.ClassFile.FieldType)) ∈ lw_all := lw_g (lw_at lw_m5 101 rfl) rfl
theorem q1192 : (Jvm.Cond.interfaceEntry "UnseenClock$Course" (86 : Nat)) ∈ lw_tbl := lw_at lw_m5 102 rfl
theorem q1193 : (Jvm.Cond.methodLink "UnseenClock$Course" (86 : Nat) ({ cls := "java/util/List", name := "size", desc := "()I" } : Jvm.MethodName)) ∈ lw_all := lw_g (lw_at lw_m5 103 rfl) rfl
theorem q1194 : (Jvm.Cond.interfaceEntry "UnseenClock$Course" (96 : Nat)) ∈ lw_tbl := lw_at lw_m5 104 rfl
theorem q1195 : (Jvm.Cond.methodLink "UnseenClock$Course" (96 : Nat) ({ cls := "java/util/List", name := "get", desc := "(I)Ljava/lang/Object;" } : Jvm.MethodName)) ∈ lw_all := lw_g (lw_at lw_m5 105 rfl) rfl
theorem q1196 : (Jvm.Cond.classLink "UnseenClock$Course" (120 : Nat) "UnseenClock$Dial") ∈ lw_all := lw_g (lw_at lw_m5 106 rfl) rfl
theorem q1197 : (Jvm.Cond.methodLink "UnseenClock$Course" (131 : Nat) ({ cls := "UnseenClock$Course", name := "shows", desc := "(I)V" } : Jvm.MethodName)) ∈ lw_all := lw_g (lw_at lw_m5 107 rfl) rfl
theorem q1198 : (Jvm.Cond.privateMethod ({ cls := "UnseenClock$Course", name := "shows", desc := "(I)V" } : Jvm.MethodName)) ∈ lw_tbl := lw_at lw_m5 108 rfl
theorem q1199 : (Jvm.Cond.instanceMethod ({ cls := "UnseenClock$Course", name := "shows", desc := "(I)V" } : Jvm.MethodName)) ∈ lw_all := lw_g (lw_at lw_m5 109 rfl) rfl
theorem q1200 : (Jvm.Cond.code ({ cls := "UnseenClock$Course", name := "shows", desc := "(I)V" } : Jvm.MethodName) prog_3_method_9_code (4 : Nat) (Option.none : Option Jvm.ClassFile.FieldType)) ∈ lw_all := lw_g (lw_at lw_m5 110 rfl) rfl
theorem q1201 : (Jvm.Cond.methodLink "UnseenClock$Course" (134 : Nat) ({ cls := "UnseenClock$Course", name := "draws", desc := "(I)V" } : Jvm.MethodName)) ∈ lw_all := lw_g (lw_at lw_m5 111 rfl) rfl
theorem q1202 : (Jvm.Cond.privateMethod ({ cls := "UnseenClock$Course", name := "draws", desc := "(I)V" } : Jvm.MethodName)) ∈ lw_tbl := lw_at lw_m5 112 rfl
theorem q1203 : (Jvm.Cond.instanceMethod ({ cls := "UnseenClock$Course", name := "draws", desc := "(I)V" } : Jvm.MethodName)) ∈ lw_all := lw_g (lw_at lw_m5 113 rfl) rfl
theorem q1204 : (Jvm.Cond.code ({ cls := "UnseenClock$Course", name := "draws", desc := "(I)V" } : Jvm.MethodName) prog_3_method_12_code (5 : Nat) (Option.none : Option Jvm.ClassFile.FieldType)) ∈ lw_all := lw_g (lw_at lw_m5 114 rfl) rfl
theorem q1205 : (Jvm.Cond.classLink "UnseenClock$Course" (100 : Nat) "UnseenClock$Person") ∈ lw_all := lw_g (lw_at lw_m5 115 rfl) rfl
theorem q1206 : (Jvm.Cond.classLink "UnseenClock$Course" (150 : Nat) "UnseenClock$Habit") ∈ lw_all := lw_g (lw_at lw_m5 116 rfl) rfl
theorem q1207 : (Jvm.Cond.methodLink "UnseenClock$Course" (152 : Nat) ({ cls := "UnseenClock$Habit", name := "odds", desc := "()I" } : Jvm.MethodName)) ∈ lw_all := lw_g (lw_at lw_m5 117 rfl) rfl
theorem q1219 : (Jvm.Cond.methodLink "UnseenClock$Course" (158 : Nat) ({ cls := "UnseenClock$Course", name := "sees", desc := "(III)Z" } : Jvm.MethodName)) ∈ lw_all := lw_g (lw_at lw_m5 129 rfl) rfl
theorem q1220 : (Jvm.Cond.constantLong "UnseenClock$Course" (162 : Nat) (1103515245 : Int64)) ∈ lw_all := lw_g (lw_at lw_m5 130 rfl) rfl
theorem q1221 : (Jvm.Cond.constantLong "UnseenClock$Course" (168 : Nat) (12345 : Int64)) ∈ lw_all := lw_g (lw_at lw_m5 131 rfl) rfl
theorem q1222 : (Jvm.Cond.constantLong "UnseenClock$Course" (170 : Nat) (2147483648 : Int64)) ∈ lw_all := lw_g (lw_at lw_m5 132 rfl) rfl
theorem q1223 : (Jvm.Cond.constantLong "UnseenClock$Course" (172 : Nat) (65536 : Int64)) ∈ lw_all := lw_g (lw_at lw_m5 133 rfl) rfl
theorem q1224 : (Jvm.Cond.constantLong "UnseenClock$Course" (174 : Nat) (100 : Int64)) ∈ lw_all := lw_g (lw_at lw_m5 134 rfl) rfl
theorem q1225 : (Jvm.Cond.methodLink "UnseenClock$Course" (137 : Nat) ({ cls := "UnseenClock$Course", name := "settles", desc := "(I)V" } : Jvm.MethodName)) ∈ lw_all := lw_g (lw_at lw_m5 135 rfl) rfl
theorem q1226 : (Jvm.Cond.privateMethod ({ cls := "UnseenClock$Course", name := "settles", desc := "(I)V" } : Jvm.MethodName)) ∈ lw_tbl := lw_at lw_m5 136 rfl
theorem q1227 : (Jvm.Cond.instanceMethod ({ cls := "UnseenClock$Course", name := "settles", desc := "(I)V" } : Jvm.MethodName)) ∈ lw_all := lw_g (lw_at lw_m5 137 rfl) rfl
theorem q1228 : (Jvm.Cond.code ({ cls := "UnseenClock$Course", name := "settles", desc := "(I)V" } : Jvm.MethodName) prog_3_method_13_code (5 : Nat) (Option.none : Option Jvm.ClassFile.FieldType)) ∈ lw_all := lw_g (lw_at lw_m5 138 rfl) rfl
theorem q1229 : (Jvm.Cond.methodLink "UnseenClock$Course" (176 : Nat) ({ cls := "UnseenClock$Course", name := "settlesSome", desc := "(I)Z" } : Jvm.MethodName)) ∈ lw_all := lw_g (lw_at lw_m5 139 rfl) rfl
theorem q1230 : (Jvm.Cond.privateMethod ({ cls := "UnseenClock$Course", name := "settlesSome", desc := "(I)Z" } : Jvm.MethodName)) ∈ lw_tbl := lw_at lw_m5 140 rfl
theorem q1231 : (Jvm.Cond.instanceMethod ({ cls := "UnseenClock$Course", name := "settlesSome", desc := "(I)Z" } : Jvm.MethodName)) ∈ lw_all := lw_g (lw_at lw_m5 141 rfl) rfl
theorem q1232 : (Jvm.Cond.code ({ cls := "UnseenClock$Course", name := "settlesSome", desc := "(I)Z" } : Jvm.MethodName) prog_3_method_16_code (6 : Nat) (Option.some Jvm.ClassFile.FieldType.boolean)) ∈ lw_all := lw_g (lw_at lw_m5 142 rfl) rfl
theorem q1233 : (Jvm.Cond.methodLink "UnseenClock$Course" (194 : Nat) ({ cls := "UnseenClock$Course", name := "now", desc := "(III)I" } : Jvm.MethodName)) ∈ lw_all := lw_g (lw_at lw_m5 143 rfl) rfl
theorem q1234 : (Jvm.Cond.privateMethod ({ cls := "UnseenClock$Course", name := "now", desc := "(III)I" } : Jvm.MethodName)) ∈ lw_tbl := lw_at lw_m5 144 rfl
theorem q1235 : (Jvm.Cond.instanceMethod ({ cls := "UnseenClock$Course", name := "now", desc := "(III)I" } : Jvm.MethodName)) ∈ lw_all := lw_g (lw_at lw_m5 145 rfl) rfl
theorem q1236 : (Jvm.Cond.code ({ cls := "UnseenClock$Course", name := "now", desc := "(III)I" } : Jvm.MethodName) prog_3_method_17_code (7 : Nat) (Option.some Jvm.ClassFile.FieldType.int)) ∈ lw_all := lw_g (lw_at lw_m5 146 rfl) rfl
theorem q1237 : (Jvm.Cond.methodLink "UnseenClock$Course" (198 : Nat) ({ cls := "UnseenClock$Habit", name := "now", desc := "(LUnseenClock$Course;II)I" } : Jvm.MethodName)) ∈ lw_all := lw_g (lw_at lw_m5 147 rfl) rfl
theorem q1250 : (Jvm.Cond.instanceMethod ({ cls := "UnseenClock$Course", name := "isDrawn", desc := "(ILUnseenClock$Habit;)Z" } : Jvm.MethodName)) ∈ lw_all := lw_g (lw_at lw_m5 160 rfl) rfl
theorem q1251 : (Jvm.Cond.selects "UnseenClock$Course" ({ cls := "UnseenClock$Course", name := "isDrawn", desc := "(ILUnseenClock$Habit;)Z" } : Jvm.MethodName) ({ cls := "UnseenClock$Course", name := "isDrawn", desc := "(ILUnseenClock$Habit;)Z" } : Jvm.MethodName)) ∈ lw_all := lw_g (lw_at lw_m5 161 rfl) rfl
theorem q1252 : (Jvm.Cond.code ({ cls := "UnseenClock$Course", name := "isDrawn", desc := "(ILUnseenClock$Habit;)Z" } : Jvm.MethodName) prog_3_method_5_code (5 : Nat) (Option.some Jvm.ClassFile.FieldType.boolean)) ∈ lw_all := lw_g (lw_at lw_m5 162 rfl) rfl
theorem q1261 : (Jvm.Cond.instanceMethod ({ cls := "UnseenClock$Course", name := "isSettled", desc := "(II)Z" } : Jvm.MethodName)) ∈ lw_all := lw_g (lw_at lw_m5 171 rfl) rfl
theorem q1262 : (Jvm.Cond.selects "UnseenClock$Course" ({ cls := "UnseenClock$Course", name := "isSettled", desc := "(II)Z" } : Jvm.MethodName) ({ cls := "UnseenClock$Course", name := "isSettled", desc := "(II)Z" } : Jvm.MethodName)) ∈ lw_all := lw_g (lw_at lw_m5 172 rfl) rfl
theorem q1263 : (Jvm.Cond.code ({ cls := "UnseenClock$Course", name := "isSettled", desc := "(II)Z" } : Jvm.MethodName) prog_3_method_3_code (3 : Nat) (Option.some Jvm.ClassFile.FieldType.boolean)) ∈ lw_all := lw_g (lw_at lw_m5 173 rfl) rfl
theorem q1265 : (Jvm.Cond.instanceMethod ({ cls := "UnseenClock$Course", name := "isLooking", desc := "(II)Z" } : Jvm.MethodName)) ∈ lw_all := lw_g (lw_at lw_m5 175 rfl) rfl
theorem q1266 : (Jvm.Cond.selects "UnseenClock$Course" ({ cls := "UnseenClock$Course", name := "isLooking", desc := "(II)Z" } : Jvm.MethodName) ({ cls := "UnseenClock$Course", name := "isLooking", desc := "(II)Z" } : Jvm.MethodName)) ∈ lw_all := lw_g (lw_at lw_m5 176 rfl) rfl
theorem q1267 : (Jvm.Cond.code ({ cls := "UnseenClock$Course", name := "isLooking", desc := "(II)Z" } : Jvm.MethodName) prog_3_method_4_code (3 : Nat) (Option.some Jvm.ClassFile.FieldType.boolean)) ∈ lw_all := lw_g (lw_at lw_m5 177 rfl) rfl
theorem q1278 : (Jvm.Cond.methodLink "UnseenClock$Course" (201 : Nat) ({ cls := "java/lang/Math", name := "max", desc := "(II)I" } : Jvm.MethodName)) ∈ lw_all := lw_g (lw_at lw_m5 188 rfl) rfl
theorem q1279 : (Jvm.Cond.methodLink "UnseenClock$Course" (190 : Nat) ({ cls := "UnseenClock$Course", name := "is", desc := "(IIZ)V" } : Jvm.MethodName)) ∈ lw_all := lw_g (lw_at lw_m5 189 rfl) rfl
theorem q1280 : (Jvm.Cond.privateMethod ({ cls := "UnseenClock$Course", name := "is", desc := "(IIZ)V" } : Jvm.MethodName)) ∈ lw_tbl := lw_at lw_m5 190 rfl
theorem q1281 : (Jvm.Cond.instanceMethod ({ cls := "UnseenClock$Course", name := "is", desc := "(IIZ)V" } : Jvm.MethodName)) ∈ lw_all := lw_g (lw_at lw_m5 191 rfl) rfl
theorem q1282 : (Jvm.Cond.code ({ cls := "UnseenClock$Course", name := "is", desc := "(IIZ)V" } : Jvm.MethodName) prog_3_method_15_code (4 : Nat) (Option.none : Option Jvm.ClassFile.FieldType)) ∈ lw_all := lw_g (lw_at lw_m5 192 rfl) rfl
theorem q1283 : (Jvm.Cond.methodLink "UnseenClock$Course" (180 : Nat) ({ cls := "java/lang/Integer", name := "numberOfTrailingZeros", desc := "(I)I" } : Jvm.MethodName)) ∈ lw_all := lw_g (lw_at lw_m5 193 rfl) rfl
theorem q1287 : (Jvm.Cond.methodLink "UnseenClock$Course" (186 : Nat) ({ cls := "UnseenClock$Course", name := "takes", desc := "(III)V" } : Jvm.MethodName)) ∈ lw_all := lw_g (lw_at lw_m5 197 rfl) rfl
theorem q1288 : (Jvm.Cond.privateMethod ({ cls := "UnseenClock$Course", name := "takes", desc := "(III)V" } : Jvm.MethodName)) ∈ lw_tbl := lw_at lw_m5 198 rfl
theorem q1289 : (Jvm.Cond.instanceMethod ({ cls := "UnseenClock$Course", name := "takes", desc := "(III)V" } : Jvm.MethodName)) ∈ lw_all := lw_g (lw_at lw_m5 199 rfl) rfl
theorem q1290 : (Jvm.Cond.code ({ cls := "UnseenClock$Course", name := "takes", desc := "(III)V" } : Jvm.MethodName) prog_3_method_14_code (5 : Nat) (Option.none : Option Jvm.ClassFile.FieldType)) ∈ lw_all := lw_g (lw_at lw_m5 200 rfl) rfl
theorem q1291 : (Jvm.Cond.methodLink "UnseenClock$Course" (140 : Nat) ({ cls := "UnseenClock$Course", name := "steps", desc := "(II)V" } : Jvm.MethodName)) ∈ lw_all := lw_g (lw_at lw_m5 201 rfl) rfl
theorem q1292 : (Jvm.Cond.privateMethod ({ cls := "UnseenClock$Course", name := "steps", desc := "(II)V" } : Jvm.MethodName)) ∈ lw_tbl := lw_at lw_m5 202 rfl
theorem q1293 : (Jvm.Cond.instanceMethod ({ cls := "UnseenClock$Course", name := "steps", desc := "(II)V" } : Jvm.MethodName)) ∈ lw_all := lw_g (lw_at lw_m5 203 rfl) rfl
theorem q1294 : (Jvm.Cond.code ({ cls := "UnseenClock$Course", name := "steps", desc := "(II)V" } : Jvm.MethodName) prog_3_method_10_code (4 : Nat) (Option.none : Option Jvm.ClassFile.FieldType)) ∈ lw_all := lw_g (lw_at lw_m5 204 rfl) rfl
theorem q1295 : (Jvm.Cond.methodLink "UnseenClock$Course" (146 : Nat) ({ cls := "UnseenClock$Course", name := "eyes", desc := "(II)I" } : Jvm.MethodName)) ∈ lw_all := lw_g (lw_at lw_m5 205 rfl) rfl
theorem q1296 : (Jvm.Cond.instanceMethod ({ cls := "UnseenClock$Course", name := "eyes", desc := "(II)I" } : Jvm.MethodName)) ∈ lw_all := lw_g (lw_at lw_m5 206 rfl) rfl
theorem q1297 : (Jvm.Cond.selects "UnseenClock$Course" ({ cls := "UnseenClock$Course", name := "eyes", desc := "(II)I" } : Jvm.MethodName) ({ cls := "UnseenClock$Course", name := "eyes", desc := "(II)I" } : Jvm.MethodName)) ∈ lw_all := lw_g (lw_at lw_m5 207 rfl) rfl
theorem q1298 : (Jvm.Cond.code ({ cls := "UnseenClock$Course", name := "eyes", desc := "(II)I" } : Jvm.MethodName) prog_3_method_11_code (5 : Nat) (Option.some Jvm.ClassFile.FieldType.int)) ∈ lw_all := lw_g (lw_at lw_m5 208 rfl) rfl
theorem q1379 : (Jvm.Cond.instanceMethod ({ cls := "UnseenClock$Course", name := "takesOtherwise", desc := "()Z" } : Jvm.MethodName)) ∈ lw_all := lw_g (lw_at lw_m6 49 rfl) rfl
theorem q1380 : (Jvm.Cond.selects "UnseenClock$Course" ({ cls := "UnseenClock$Course", name := "takesOtherwise", desc := "()Z" } : Jvm.MethodName) ({ cls := "UnseenClock$Course", name := "takesOtherwise", desc := "()Z" } : Jvm.MethodName)) ∈ lw_all := lw_g (lw_at lw_m6 50 rfl) rfl
theorem q1381 : (Jvm.Cond.code ({ cls := "UnseenClock$Course", name := "takesOtherwise", desc := "()Z" } : Jvm.MethodName) prog_3_method_18_code (3 : Nat) (Option.some Jvm.ClassFile.FieldType.boolean)) ∈ lw_all := lw_g (lw_at lw_m6 51 rfl) rfl
theorem q2315 : (Jvm.Cond.castable "UnseenClock$Course" "java/lang/Object") ∈ lw_tbl := lw_at lw_m10 25 rfl
theorem in_X3 : ∀ w ∈ wsX30, w ∈ lw_all := lw_in wsX30 [515, 517, 519, 521, 523, 525, 527, 529, 531, 533, 535, 537, 539, 541, 543, 545, 547, 549] (by decide +kernel) (by decide +kernel)
/-! UnseenClock$Reader -/
set_option maxRecDepth 100000
def RX5 : String := "UnseenClock$Reader"
def TX5 : u_T := fun k => match k with
  | 0 => ("UnseenClock$Reader", "text", "[B", true)
  | 1 => ("UnseenClock$Reader", "many", "I", true)
  | 2 => ("UnseenClock$Reader", "s", "LUnseenClock$Square;", true)
  | 3 => ("UnseenClock$Reader", "at", "I", false)
  | 4 => ("UnseenClock$Reader", "begin", "I", false)
  | 5 => ("UnseenClock$Reader", "token", "I", false)
  | _ => ("UnseenClock$Reader", "value", "I", false)
def tyX5 : Nat → FieldType := fun k => match k with
  | 0 => .array .byte
  | 1 => .int
  | 2 => .object "UnseenClock$Square"
  | 3 => .int
  | 4 => .int
  | 5 => .int
  | _ => .int
abbrev wsX50 : List Cond := u_ws RX5 TX5 7
theorem nmX5 : ∀ a, a < 7 → ∀ b, b < 7 → a ≠ b → (TX5 a).2.1 ≠ (TX5 b).2.1 := by decide +kernel
theorem tyX5_ok : ∀ k, k < 7 → parseFieldDescriptor (TX5 k).2.2.1 = some (tyX5 k) := by decide +kernel
abbrev cX5_init : ByteArray := prog_11_method_1_code
def yX5_init : MethodName := ⟨RX5, "<init>", "([BI)V"⟩
def dkwX5_init_1 : List UInt8 := [181, 0, 22, 42, 182, 0, 26, 177]
abbrev dktX5_init_1 : List UInt8 := dkwX5_init_1 ++ []
def dkwX5_init_0 : List UInt8 := [42, 183, 0, 3, 42, 187, 0, 9, 89, 183, 0, 11, 181, 0, 12, 42, 43, 181, 0, 18, 42, 28]
abbrev dktX5_init_0 : List UInt8 := dkwX5_init_0 ++ dktX5_init_1
theorem dksX5_init_0 : cX5_init.data.toList.drop 0 = dktX5_init_0 := by decide +kernel
theorem dksX5_init_1 : cX5_init.data.toList.drop 22 = dktX5_init_1 := dk_seg dksX5_init_0 22 rfl rfl
theorem dX5_init_0 : decode cX5_init 0 = .ok (.aload_n 0, 1) := dk_42 (dk_at dksX5_init_0 0 rfl rfl)
theorem dX5_init_1 : decode cX5_init 1 = .ok (.invokespecial 3, 3) := dk_183 0 3 (dk_at dksX5_init_0 1 rfl rfl)
theorem dX5_init_4 : decode cX5_init 4 = .ok (.aload_n 0, 1) := dk_42 (dk_at dksX5_init_0 4 rfl rfl)
theorem dX5_init_5 : decode cX5_init 5 = .ok (.new 9, 3) := dk_187 0 9 (dk_at dksX5_init_0 5 rfl rfl)
theorem dX5_init_8 : decode cX5_init 8 = .ok (.dup, 1) := dk_89 (dk_at dksX5_init_0 8 rfl rfl)
theorem dX5_init_9 : decode cX5_init 9 = .ok (.invokespecial 11, 3) := dk_183 0 11 (dk_at dksX5_init_0 9 rfl rfl)
theorem dX5_init_12 : decode cX5_init 12 = .ok (.putfield 12, 3) := dk_181 0 12 (dk_at dksX5_init_0 12 rfl rfl)
theorem dX5_init_15 : decode cX5_init 15 = .ok (.aload_n 0, 1) := dk_42 (dk_at dksX5_init_0 15 rfl rfl)
theorem dX5_init_16 : decode cX5_init 16 = .ok (.aload_n 1, 1) := dk_43 (dk_at dksX5_init_0 16 rfl rfl)
theorem dX5_init_17 : decode cX5_init 17 = .ok (.putfield 18, 3) := dk_181 0 18 (dk_at dksX5_init_0 17 rfl rfl)
theorem dX5_init_20 : decode cX5_init 20 = .ok (.aload_n 0, 1) := dk_42 (dk_at dksX5_init_0 20 rfl rfl)
theorem dX5_init_21 : decode cX5_init 21 = .ok (.iload_n 2, 1) := dk_28 (dk_at dksX5_init_0 21 rfl rfl)
theorem dX5_init_22 : decode cX5_init 22 = .ok (.putfield 22, 3) := dk_181 0 22 (dk_at dksX5_init_1 0 rfl rfl)
theorem dX5_init_25 : decode cX5_init 25 = .ok (.aload_n 0, 1) := dk_42 (dk_at dksX5_init_1 3 rfl rfl)
theorem dX5_init_26 : decode cX5_init 26 = .ok (.invokevirtual 26, 3) := dk_182 0 26 (dk_at dksX5_init_1 4 rfl rfl)
theorem dX5_init_29 : decode cX5_init 29 = .ok (.return_, 1) := dk_177 (dk_at dksX5_init_1 7 rfl rfl)
abbrev cX5_next : ByteArray := prog_11_method_3_code
def yX5_next : MethodName := ⟨RX5, "next", "()V"⟩
def dkwX5_next_8 : List UInt8 := [7, 181, 0, 46, 42, 89, 180, 0, 29, 4, 96, 181, 0, 29, 177]
abbrev dktX5_next_8 : List UInt8 := dkwX5_next_8 ++ []
def dkwX5_next_7 : List UInt8 := [4, 96, 181, 0, 29, 167, 255, 206, 42, 42, 16, 59, 16, 59, 182, 0, 36, 153, 0, 7, 6, 167, 0, 4]
abbrev dktX5_next_7 : List UInt8 := dkwX5_next_7 ++ dktX5_next_8
def dkwX5_next_6 : List UInt8 := [42, 180, 0, 18, 42, 180, 0, 29, 51, 96, 16, 48, 100, 184, 0, 50, 181, 0, 43, 42, 89, 180, 0, 29]
abbrev dktX5_next_6 : List UInt8 := dkwX5_next_6 ++ dktX5_next_7
def dkwX5_next_5 : List UInt8 := [181, 0, 46, 42, 16, 48, 16, 57, 182, 0, 36, 153, 0, 75, 42, 18, 49, 16, 10, 42, 180, 0, 43, 104]
abbrev dktX5_next_5 : List UInt8 := dkwX5_next_5 ++ dktX5_next_6
def dkwX5_next_4 : List UInt8 := [180, 0, 29, 4, 96, 181, 0, 29, 167, 255, 235, 42, 16, 48, 16, 57, 182, 0, 36, 153, 0, 61, 42, 5]
abbrev dktX5_next_4 : List UInt8 := dkwX5_next_4 ++ dktX5_next_5
def dkwX5_next_3 : List UInt8 := [182, 0, 36, 153, 0, 32, 42, 4, 181, 0, 46, 42, 16, 97, 16, 122, 182, 0, 36, 153, 0, 115, 42, 89]
abbrev dktX5_next_3 : List UInt8 := dkwX5_next_3 ++ dktX5_next_4
def dkwX5_next_2 : List UInt8 := [42, 180, 0, 29, 42, 180, 0, 22, 160, 0, 11, 42, 3, 181, 0, 46, 167, 0, 142, 42, 16, 97, 16, 122]
abbrev dktX5_next_2 : List UInt8 := dkwX5_next_2 ++ dktX5_next_3
def dkwX5_next_1 : List UInt8 := [180, 0, 29, 4, 96, 181, 0, 29, 167, 255, 224, 42, 42, 180, 0, 29, 181, 0, 40, 42, 3, 181, 0, 43]
abbrev dktX5_next_1 : List UInt8 := dkwX5_next_1 ++ dktX5_next_2
def dkwX5_next_0 : List UInt8 := [42, 16, 32, 16, 32, 182, 0, 36, 154, 0, 14, 42, 16, 10, 16, 10, 182, 0, 36, 153, 0, 16, 42, 89]
abbrev dktX5_next_0 : List UInt8 := dkwX5_next_0 ++ dktX5_next_1
theorem dksX5_next_0 : cX5_next.data.toList.drop 0 = dktX5_next_0 := by decide +kernel
theorem dksX5_next_1 : cX5_next.data.toList.drop 24 = dktX5_next_1 := dk_seg dksX5_next_0 24 rfl rfl
theorem dksX5_next_2 : cX5_next.data.toList.drop 48 = dktX5_next_2 := dk_seg dksX5_next_1 24 rfl rfl
theorem dksX5_next_3 : cX5_next.data.toList.drop 72 = dktX5_next_3 := dk_seg dksX5_next_2 24 rfl rfl
theorem dksX5_next_4 : cX5_next.data.toList.drop 96 = dktX5_next_4 := dk_seg dksX5_next_3 24 rfl rfl
theorem dksX5_next_5 : cX5_next.data.toList.drop 120 = dktX5_next_5 := dk_seg dksX5_next_4 24 rfl rfl
theorem dksX5_next_6 : cX5_next.data.toList.drop 144 = dktX5_next_6 := dk_seg dksX5_next_5 24 rfl rfl
theorem dksX5_next_7 : cX5_next.data.toList.drop 168 = dktX5_next_7 := dk_seg dksX5_next_6 24 rfl rfl
theorem dksX5_next_8 : cX5_next.data.toList.drop 192 = dktX5_next_8 := dk_seg dksX5_next_7 24 rfl rfl
theorem dX5_next_0 : decode cX5_next 0 = .ok (.aload_n 0, 1) := dk_42 (dk_at dksX5_next_0 0 rfl rfl)
theorem dX5_next_1 : decode cX5_next 1 = .ok (.bipush 32, 2) := dk_16 32 (dk_at dksX5_next_0 1 rfl rfl)
theorem dX5_next_3 : decode cX5_next 3 = .ok (.bipush 32, 2) := dk_16 32 (dk_at dksX5_next_0 3 rfl rfl)
theorem dX5_next_5 : decode cX5_next 5 = .ok (.invokevirtual 36, 3) := dk_182 0 36 (dk_at dksX5_next_0 5 rfl rfl)
theorem dX5_next_8 : decode cX5_next 8 = .ok (.ifCond .ne 14, 3) := dk_154 0 14 (dk_at dksX5_next_0 8 rfl rfl)
theorem dX5_next_11 : decode cX5_next 11 = .ok (.aload_n 0, 1) := dk_42 (dk_at dksX5_next_0 11 rfl rfl)
theorem dX5_next_12 : decode cX5_next 12 = .ok (.bipush 10, 2) := dk_16 10 (dk_at dksX5_next_0 12 rfl rfl)
theorem dX5_next_14 : decode cX5_next 14 = .ok (.bipush 10, 2) := dk_16 10 (dk_at dksX5_next_0 14 rfl rfl)
theorem dX5_next_16 : decode cX5_next 16 = .ok (.invokevirtual 36, 3) := dk_182 0 36 (dk_at dksX5_next_0 16 rfl rfl)
theorem dX5_next_19 : decode cX5_next 19 = .ok (.ifCond .eq 16, 3) := dk_153 0 16 (dk_at dksX5_next_0 19 rfl rfl)
theorem dX5_next_22 : decode cX5_next 22 = .ok (.aload_n 0, 1) := dk_42 (dk_at dksX5_next_0 22 rfl rfl)
theorem dX5_next_23 : decode cX5_next 23 = .ok (.dup, 1) := dk_89 (dk_at dksX5_next_0 23 rfl rfl)
theorem dX5_next_24 : decode cX5_next 24 = .ok (.getfield 29, 3) := dk_180 0 29 (dk_at dksX5_next_1 0 rfl rfl)
theorem dX5_next_27 : decode cX5_next 27 = .ok (.iconst 1, 1) := dk_4 (dk_at dksX5_next_1 3 rfl rfl)
theorem dX5_next_28 : decode cX5_next 28 = .ok (.iadd, 1) := dk_96 (dk_at dksX5_next_1 4 rfl rfl)
theorem dX5_next_29 : decode cX5_next 29 = .ok (.putfield 29, 3) := dk_181 0 29 (dk_at dksX5_next_1 5 rfl rfl)
theorem dX5_next_32 : decode cX5_next 32 = .ok (.goto (-32), 3) := dk_167 255 224 (dk_at dksX5_next_1 8 rfl rfl)
theorem dX5_next_35 : decode cX5_next 35 = .ok (.aload_n 0, 1) := dk_42 (dk_at dksX5_next_1 11 rfl rfl)
theorem dX5_next_36 : decode cX5_next 36 = .ok (.aload_n 0, 1) := dk_42 (dk_at dksX5_next_1 12 rfl rfl)
theorem dX5_next_37 : decode cX5_next 37 = .ok (.getfield 29, 3) := dk_180 0 29 (dk_at dksX5_next_1 13 rfl rfl)
theorem dX5_next_40 : decode cX5_next 40 = .ok (.putfield 40, 3) := dk_181 0 40 (dk_at dksX5_next_1 16 rfl rfl)
theorem dX5_next_43 : decode cX5_next 43 = .ok (.aload_n 0, 1) := dk_42 (dk_at dksX5_next_1 19 rfl rfl)
theorem dX5_next_44 : decode cX5_next 44 = .ok (.iconst 0, 1) := dk_3 (dk_at dksX5_next_1 20 rfl rfl)
theorem dX5_next_45 : decode cX5_next 45 = .ok (.putfield 43, 3) := dk_181 0 43 (dk_at dksX5_next_1 21 rfl rfl)
theorem dX5_next_48 : decode cX5_next 48 = .ok (.aload_n 0, 1) := dk_42 (dk_at dksX5_next_2 0 rfl rfl)
theorem dX5_next_49 : decode cX5_next 49 = .ok (.getfield 29, 3) := dk_180 0 29 (dk_at dksX5_next_2 1 rfl rfl)
theorem dX5_next_52 : decode cX5_next 52 = .ok (.aload_n 0, 1) := dk_42 (dk_at dksX5_next_2 4 rfl rfl)
theorem dX5_next_53 : decode cX5_next 53 = .ok (.getfield 22, 3) := dk_180 0 22 (dk_at dksX5_next_2 5 rfl rfl)
theorem dX5_next_56 : decode cX5_next 56 = .ok (.if_icmp .ne 11, 3) := dk_160 0 11 (dk_at dksX5_next_2 8 rfl rfl)
theorem dX5_next_59 : decode cX5_next 59 = .ok (.aload_n 0, 1) := dk_42 (dk_at dksX5_next_2 11 rfl rfl)
theorem dX5_next_60 : decode cX5_next 60 = .ok (.iconst 0, 1) := dk_3 (dk_at dksX5_next_2 12 rfl rfl)
theorem dX5_next_61 : decode cX5_next 61 = .ok (.putfield 46, 3) := dk_181 0 46 (dk_at dksX5_next_2 13 rfl rfl)
theorem dX5_next_64 : decode cX5_next 64 = .ok (.goto 142, 3) := dk_167 0 142 (dk_at dksX5_next_2 16 rfl rfl)
theorem dX5_next_67 : decode cX5_next 67 = .ok (.aload_n 0, 1) := dk_42 (dk_at dksX5_next_2 19 rfl rfl)
theorem dX5_next_68 : decode cX5_next 68 = .ok (.bipush 97, 2) := dk_16 97 (dk_at dksX5_next_2 20 rfl rfl)
theorem dX5_next_70 : decode cX5_next 70 = .ok (.bipush 122, 2) := dk_16 122 (dk_at dksX5_next_2 22 rfl rfl)
theorem dX5_next_72 : decode cX5_next 72 = .ok (.invokevirtual 36, 3) := dk_182 0 36 (dk_at dksX5_next_3 0 rfl rfl)
theorem dX5_next_75 : decode cX5_next 75 = .ok (.ifCond .eq 32, 3) := dk_153 0 32 (dk_at dksX5_next_3 3 rfl rfl)
theorem dX5_next_78 : decode cX5_next 78 = .ok (.aload_n 0, 1) := dk_42 (dk_at dksX5_next_3 6 rfl rfl)
theorem dX5_next_79 : decode cX5_next 79 = .ok (.iconst 1, 1) := dk_4 (dk_at dksX5_next_3 7 rfl rfl)
theorem dX5_next_80 : decode cX5_next 80 = .ok (.putfield 46, 3) := dk_181 0 46 (dk_at dksX5_next_3 8 rfl rfl)
theorem dX5_next_83 : decode cX5_next 83 = .ok (.aload_n 0, 1) := dk_42 (dk_at dksX5_next_3 11 rfl rfl)
theorem dX5_next_84 : decode cX5_next 84 = .ok (.bipush 97, 2) := dk_16 97 (dk_at dksX5_next_3 12 rfl rfl)
theorem dX5_next_86 : decode cX5_next 86 = .ok (.bipush 122, 2) := dk_16 122 (dk_at dksX5_next_3 14 rfl rfl)
theorem dX5_next_88 : decode cX5_next 88 = .ok (.invokevirtual 36, 3) := dk_182 0 36 (dk_at dksX5_next_3 16 rfl rfl)
theorem dX5_next_91 : decode cX5_next 91 = .ok (.ifCond .eq 115, 3) := dk_153 0 115 (dk_at dksX5_next_3 19 rfl rfl)
theorem dX5_next_94 : decode cX5_next 94 = .ok (.aload_n 0, 1) := dk_42 (dk_at dksX5_next_3 22 rfl rfl)
theorem dX5_next_95 : decode cX5_next 95 = .ok (.dup, 1) := dk_89 (dk_at dksX5_next_3 23 rfl rfl)
theorem dX5_next_96 : decode cX5_next 96 = .ok (.getfield 29, 3) := dk_180 0 29 (dk_at dksX5_next_4 0 rfl rfl)
theorem dX5_next_99 : decode cX5_next 99 = .ok (.iconst 1, 1) := dk_4 (dk_at dksX5_next_4 3 rfl rfl)
theorem dX5_next_100 : decode cX5_next 100 = .ok (.iadd, 1) := dk_96 (dk_at dksX5_next_4 4 rfl rfl)
theorem dX5_next_101 : decode cX5_next 101 = .ok (.putfield 29, 3) := dk_181 0 29 (dk_at dksX5_next_4 5 rfl rfl)
theorem dX5_next_104 : decode cX5_next 104 = .ok (.goto (-21), 3) := dk_167 255 235 (dk_at dksX5_next_4 8 rfl rfl)
theorem dX5_next_107 : decode cX5_next 107 = .ok (.aload_n 0, 1) := dk_42 (dk_at dksX5_next_4 11 rfl rfl)
theorem dX5_next_108 : decode cX5_next 108 = .ok (.bipush 48, 2) := dk_16 48 (dk_at dksX5_next_4 12 rfl rfl)
theorem dX5_next_110 : decode cX5_next 110 = .ok (.bipush 57, 2) := dk_16 57 (dk_at dksX5_next_4 14 rfl rfl)
theorem dX5_next_112 : decode cX5_next 112 = .ok (.invokevirtual 36, 3) := dk_182 0 36 (dk_at dksX5_next_4 16 rfl rfl)
theorem dX5_next_115 : decode cX5_next 115 = .ok (.ifCond .eq 61, 3) := dk_153 0 61 (dk_at dksX5_next_4 19 rfl rfl)
theorem dX5_next_118 : decode cX5_next 118 = .ok (.aload_n 0, 1) := dk_42 (dk_at dksX5_next_4 22 rfl rfl)
theorem dX5_next_119 : decode cX5_next 119 = .ok (.iconst 2, 1) := dk_5 (dk_at dksX5_next_4 23 rfl rfl)
theorem dX5_next_120 : decode cX5_next 120 = .ok (.putfield 46, 3) := dk_181 0 46 (dk_at dksX5_next_5 0 rfl rfl)
theorem dX5_next_123 : decode cX5_next 123 = .ok (.aload_n 0, 1) := dk_42 (dk_at dksX5_next_5 3 rfl rfl)
theorem dX5_next_124 : decode cX5_next 124 = .ok (.bipush 48, 2) := dk_16 48 (dk_at dksX5_next_5 4 rfl rfl)
theorem dX5_next_126 : decode cX5_next 126 = .ok (.bipush 57, 2) := dk_16 57 (dk_at dksX5_next_5 6 rfl rfl)
theorem dX5_next_128 : decode cX5_next 128 = .ok (.invokevirtual 36, 3) := dk_182 0 36 (dk_at dksX5_next_5 8 rfl rfl)
theorem dX5_next_131 : decode cX5_next 131 = .ok (.ifCond .eq 75, 3) := dk_153 0 75 (dk_at dksX5_next_5 11 rfl rfl)
theorem dX5_next_134 : decode cX5_next 134 = .ok (.aload_n 0, 1) := dk_42 (dk_at dksX5_next_5 14 rfl rfl)
theorem dX5_next_135 : decode cX5_next 135 = .ok (.ldc 49, 2) := dk_18 49 (dk_at dksX5_next_5 15 rfl rfl)
theorem dX5_next_137 : decode cX5_next 137 = .ok (.bipush 10, 2) := dk_16 10 (dk_at dksX5_next_5 17 rfl rfl)
theorem dX5_next_139 : decode cX5_next 139 = .ok (.aload_n 0, 1) := dk_42 (dk_at dksX5_next_5 19 rfl rfl)
theorem dX5_next_140 : decode cX5_next 140 = .ok (.getfield 43, 3) := dk_180 0 43 (dk_at dksX5_next_5 20 rfl rfl)
theorem dX5_next_143 : decode cX5_next 143 = .ok (.imul, 1) := dk_104 (dk_at dksX5_next_5 23 rfl rfl)
theorem dX5_next_144 : decode cX5_next 144 = .ok (.aload_n 0, 1) := dk_42 (dk_at dksX5_next_6 0 rfl rfl)
theorem dX5_next_145 : decode cX5_next 145 = .ok (.getfield 18, 3) := dk_180 0 18 (dk_at dksX5_next_6 1 rfl rfl)
theorem dX5_next_148 : decode cX5_next 148 = .ok (.aload_n 0, 1) := dk_42 (dk_at dksX5_next_6 4 rfl rfl)
theorem dX5_next_149 : decode cX5_next 149 = .ok (.getfield 29, 3) := dk_180 0 29 (dk_at dksX5_next_6 5 rfl rfl)
theorem dX5_next_152 : decode cX5_next 152 = .ok (.baload, 1) := dk_51 (dk_at dksX5_next_6 8 rfl rfl)
theorem dX5_next_153 : decode cX5_next 153 = .ok (.iadd, 1) := dk_96 (dk_at dksX5_next_6 9 rfl rfl)
theorem dX5_next_154 : decode cX5_next 154 = .ok (.bipush 48, 2) := dk_16 48 (dk_at dksX5_next_6 10 rfl rfl)
theorem dX5_next_156 : decode cX5_next 156 = .ok (.isub, 1) := dk_100 (dk_at dksX5_next_6 12 rfl rfl)
theorem dX5_next_157 : decode cX5_next 157 = .ok (.invokestatic 50, 3) := dk_184 0 50 (dk_at dksX5_next_6 13 rfl rfl)
theorem dX5_next_160 : decode cX5_next 160 = .ok (.putfield 43, 3) := dk_181 0 43 (dk_at dksX5_next_6 16 rfl rfl)
theorem dX5_next_163 : decode cX5_next 163 = .ok (.aload_n 0, 1) := dk_42 (dk_at dksX5_next_6 19 rfl rfl)
theorem dX5_next_164 : decode cX5_next 164 = .ok (.dup, 1) := dk_89 (dk_at dksX5_next_6 20 rfl rfl)
theorem dX5_next_165 : decode cX5_next 165 = .ok (.getfield 29, 3) := dk_180 0 29 (dk_at dksX5_next_6 21 rfl rfl)
theorem dX5_next_168 : decode cX5_next 168 = .ok (.iconst 1, 1) := dk_4 (dk_at dksX5_next_7 0 rfl rfl)
theorem dX5_next_169 : decode cX5_next 169 = .ok (.iadd, 1) := dk_96 (dk_at dksX5_next_7 1 rfl rfl)
theorem dX5_next_170 : decode cX5_next 170 = .ok (.putfield 29, 3) := dk_181 0 29 (dk_at dksX5_next_7 2 rfl rfl)
theorem dX5_next_173 : decode cX5_next 173 = .ok (.goto (-50), 3) := dk_167 255 206 (dk_at dksX5_next_7 5 rfl rfl)
theorem dX5_next_176 : decode cX5_next 176 = .ok (.aload_n 0, 1) := dk_42 (dk_at dksX5_next_7 8 rfl rfl)
theorem dX5_next_177 : decode cX5_next 177 = .ok (.aload_n 0, 1) := dk_42 (dk_at dksX5_next_7 9 rfl rfl)
theorem dX5_next_178 : decode cX5_next 178 = .ok (.bipush 59, 2) := dk_16 59 (dk_at dksX5_next_7 10 rfl rfl)
theorem dX5_next_180 : decode cX5_next 180 = .ok (.bipush 59, 2) := dk_16 59 (dk_at dksX5_next_7 12 rfl rfl)
theorem dX5_next_182 : decode cX5_next 182 = .ok (.invokevirtual 36, 3) := dk_182 0 36 (dk_at dksX5_next_7 14 rfl rfl)
theorem dX5_next_185 : decode cX5_next 185 = .ok (.ifCond .eq 7, 3) := dk_153 0 7 (dk_at dksX5_next_7 17 rfl rfl)
theorem dX5_next_188 : decode cX5_next 188 = .ok (.iconst 3, 1) := dk_6 (dk_at dksX5_next_7 20 rfl rfl)
theorem dX5_next_189 : decode cX5_next 189 = .ok (.goto 4, 3) := dk_167 0 4 (dk_at dksX5_next_7 21 rfl rfl)
theorem dX5_next_192 : decode cX5_next 192 = .ok (.iconst 4, 1) := dk_7 (dk_at dksX5_next_8 0 rfl rfl)
theorem dX5_next_193 : decode cX5_next 193 = .ok (.putfield 46, 3) := dk_181 0 46 (dk_at dksX5_next_8 1 rfl rfl)
theorem dX5_next_196 : decode cX5_next 196 = .ok (.aload_n 0, 1) := dk_42 (dk_at dksX5_next_8 4 rfl rfl)
theorem dX5_next_197 : decode cX5_next 197 = .ok (.dup, 1) := dk_89 (dk_at dksX5_next_8 5 rfl rfl)
theorem dX5_next_198 : decode cX5_next 198 = .ok (.getfield 29, 3) := dk_180 0 29 (dk_at dksX5_next_8 6 rfl rfl)
theorem dX5_next_201 : decode cX5_next 201 = .ok (.iconst 1, 1) := dk_4 (dk_at dksX5_next_8 9 rfl rfl)
theorem dX5_next_202 : decode cX5_next 202 = .ok (.iadd, 1) := dk_96 (dk_at dksX5_next_8 10 rfl rfl)
theorem dX5_next_203 : decode cX5_next 203 = .ok (.putfield 29, 3) := dk_181 0 29 (dk_at dksX5_next_8 11 rfl rfl)
theorem dX5_next_206 : decode cX5_next 206 = .ok (.return_, 1) := dk_177 (dk_at dksX5_next_8 14 rfl rfl)
abbrev cX5_isAt : ByteArray := prog_11_method_2_code
def yX5_isAt : MethodName := ⟨RX5, "isAt", "(II)Z"⟩
def dkwX5_isAt_1 : List UInt8 := [133, 184, 0, 32, 153, 0, 7, 4, 167, 0, 4, 3, 172]
abbrev dktX5_isAt_1 : List UInt8 := dkwX5_isAt_1 ++ []
def dkwX5_isAt_0 : List UInt8 := [42, 180, 0, 29, 42, 180, 0, 22, 162, 0, 27, 42, 180, 0, 18, 42, 180, 0, 29, 51, 133, 27, 133, 28]
abbrev dktX5_isAt_0 : List UInt8 := dkwX5_isAt_0 ++ dktX5_isAt_1
theorem dksX5_isAt_0 : cX5_isAt.data.toList.drop 0 = dktX5_isAt_0 := by decide +kernel
theorem dksX5_isAt_1 : cX5_isAt.data.toList.drop 24 = dktX5_isAt_1 := dk_seg dksX5_isAt_0 24 rfl rfl
theorem dX5_isAt_0 : decode cX5_isAt 0 = .ok (.aload_n 0, 1) := dk_42 (dk_at dksX5_isAt_0 0 rfl rfl)
theorem dX5_isAt_1 : decode cX5_isAt 1 = .ok (.getfield 29, 3) := dk_180 0 29 (dk_at dksX5_isAt_0 1 rfl rfl)
theorem dX5_isAt_4 : decode cX5_isAt 4 = .ok (.aload_n 0, 1) := dk_42 (dk_at dksX5_isAt_0 4 rfl rfl)
theorem dX5_isAt_5 : decode cX5_isAt 5 = .ok (.getfield 22, 3) := dk_180 0 22 (dk_at dksX5_isAt_0 5 rfl rfl)
theorem dX5_isAt_8 : decode cX5_isAt 8 = .ok (.if_icmp .ge 27, 3) := dk_162 0 27 (dk_at dksX5_isAt_0 8 rfl rfl)
theorem dX5_isAt_11 : decode cX5_isAt 11 = .ok (.aload_n 0, 1) := dk_42 (dk_at dksX5_isAt_0 11 rfl rfl)
theorem dX5_isAt_12 : decode cX5_isAt 12 = .ok (.getfield 18, 3) := dk_180 0 18 (dk_at dksX5_isAt_0 12 rfl rfl)
theorem dX5_isAt_15 : decode cX5_isAt 15 = .ok (.aload_n 0, 1) := dk_42 (dk_at dksX5_isAt_0 15 rfl rfl)
theorem dX5_isAt_16 : decode cX5_isAt 16 = .ok (.getfield 29, 3) := dk_180 0 29 (dk_at dksX5_isAt_0 16 rfl rfl)
theorem dX5_isAt_19 : decode cX5_isAt 19 = .ok (.baload, 1) := dk_51 (dk_at dksX5_isAt_0 19 rfl rfl)
theorem dX5_isAt_20 : decode cX5_isAt 20 = .ok (.i2l, 1) := dk_133 (dk_at dksX5_isAt_0 20 rfl rfl)
theorem dX5_isAt_21 : decode cX5_isAt 21 = .ok (.iload_n 1, 1) := dk_27 (dk_at dksX5_isAt_0 21 rfl rfl)
theorem dX5_isAt_22 : decode cX5_isAt 22 = .ok (.i2l, 1) := dk_133 (dk_at dksX5_isAt_0 22 rfl rfl)
theorem dX5_isAt_23 : decode cX5_isAt 23 = .ok (.iload_n 2, 1) := dk_28 (dk_at dksX5_isAt_0 23 rfl rfl)
theorem dX5_isAt_24 : decode cX5_isAt 24 = .ok (.i2l, 1) := dk_133 (dk_at dksX5_isAt_1 0 rfl rfl)
theorem dX5_isAt_25 : decode cX5_isAt 25 = .ok (.invokestatic 32, 3) := dk_184 0 32 (dk_at dksX5_isAt_1 1 rfl rfl)
theorem dX5_isAt_28 : decode cX5_isAt 28 = .ok (.ifCond .eq 7, 3) := dk_153 0 7 (dk_at dksX5_isAt_1 4 rfl rfl)
theorem dX5_isAt_31 : decode cX5_isAt 31 = .ok (.iconst 1, 1) := dk_4 (dk_at dksX5_isAt_1 7 rfl rfl)
theorem dX5_isAt_32 : decode cX5_isAt 32 = .ok (.goto 4, 3) := dk_167 0 4 (dk_at dksX5_isAt_1 8 rfl rfl)
theorem dX5_isAt_35 : decode cX5_isAt 35 = .ok (.iconst 0, 1) := dk_3 (dk_at dksX5_isAt_1 11 rfl rfl)
theorem dX5_isAt_36 : decode cX5_isAt 36 = .ok (.ireturn, 1) := dk_172 (dk_at dksX5_isAt_1 12 rfl rfl)
abbrev cX5_reads : ByteArray := prog_11_method_22_code
def yX5_reads : MethodName := ⟨RX5, "reads", "()LUnseenClock$Square;"⟩
def dkwX5_reads_3 : List UInt8 := [180, 0, 12, 176]
abbrev dktX5_reads_3 : List UInt8 := dkwX5_reads_3 ++ []
def dkwX5_reads_2 : List UInt8 := [180, 0, 12, 89, 180, 0, 254, 4, 96, 181, 0, 254, 167, 255, 197, 42, 180, 0, 12, 182, 1, 7, 42]
abbrev dktX5_reads_2 : List UInt8 := dkwX5_reads_2 ++ dktX5_reads_3
def dkwX5_reads_1 : List UInt8 := [42, 182, 1, 4, 42, 180, 0, 46, 6, 159, 0, 9, 42, 4, 182, 0, 78, 191, 42, 182, 0, 26, 42]
abbrev dktX5_reads_1 : List UInt8 := dkwX5_reads_1 ++ dktX5_reads_2
def dkwX5_reads_0 : List UInt8 := [42, 180, 0, 46, 153, 0, 58, 42, 180, 0, 12, 180, 0, 254, 154, 0, 10, 42, 182, 1, 1, 167, 0, 7]
abbrev dktX5_reads_0 : List UInt8 := dkwX5_reads_0 ++ dktX5_reads_1
theorem dksX5_reads_0 : cX5_reads.data.toList.drop 0 = dktX5_reads_0 := by decide +kernel
theorem dksX5_reads_1 : cX5_reads.data.toList.drop 24 = dktX5_reads_1 := dk_seg dksX5_reads_0 24 rfl rfl
theorem dksX5_reads_2 : cX5_reads.data.toList.drop 47 = dktX5_reads_2 := dk_seg dksX5_reads_1 23 rfl rfl
theorem dksX5_reads_3 : cX5_reads.data.toList.drop 70 = dktX5_reads_3 := dk_seg dksX5_reads_2 23 rfl rfl
theorem dX5_reads_0 : decode cX5_reads 0 = .ok (.aload_n 0, 1) := dk_42 (dk_at dksX5_reads_0 0 rfl rfl)
theorem dX5_reads_1 : decode cX5_reads 1 = .ok (.getfield 46, 3) := dk_180 0 46 (dk_at dksX5_reads_0 1 rfl rfl)
theorem dX5_reads_4 : decode cX5_reads 4 = .ok (.ifCond .eq 58, 3) := dk_153 0 58 (dk_at dksX5_reads_0 4 rfl rfl)
theorem dX5_reads_7 : decode cX5_reads 7 = .ok (.aload_n 0, 1) := dk_42 (dk_at dksX5_reads_0 7 rfl rfl)
theorem dX5_reads_8 : decode cX5_reads 8 = .ok (.getfield 12, 3) := dk_180 0 12 (dk_at dksX5_reads_0 8 rfl rfl)
theorem dX5_reads_11 : decode cX5_reads 11 = .ok (.getfield 254, 3) := dk_180 0 254 (dk_at dksX5_reads_0 11 rfl rfl)
theorem dX5_reads_14 : decode cX5_reads 14 = .ok (.ifCond .ne 10, 3) := dk_154 0 10 (dk_at dksX5_reads_0 14 rfl rfl)
theorem dX5_reads_17 : decode cX5_reads 17 = .ok (.aload_n 0, 1) := dk_42 (dk_at dksX5_reads_0 17 rfl rfl)
theorem dX5_reads_18 : decode cX5_reads 18 = .ok (.invokevirtual 257, 3) := dk_182 1 1 (dk_at dksX5_reads_0 18 rfl rfl)
theorem dX5_reads_21 : decode cX5_reads 21 = .ok (.goto 7, 3) := dk_167 0 7 (dk_at dksX5_reads_0 21 rfl rfl)
theorem dX5_reads_24 : decode cX5_reads 24 = .ok (.aload_n 0, 1) := dk_42 (dk_at dksX5_reads_1 0 rfl rfl)
theorem dX5_reads_25 : decode cX5_reads 25 = .ok (.invokevirtual 260, 3) := dk_182 1 4 (dk_at dksX5_reads_1 1 rfl rfl)
theorem dX5_reads_28 : decode cX5_reads 28 = .ok (.aload_n 0, 1) := dk_42 (dk_at dksX5_reads_1 4 rfl rfl)
theorem dX5_reads_29 : decode cX5_reads 29 = .ok (.getfield 46, 3) := dk_180 0 46 (dk_at dksX5_reads_1 5 rfl rfl)
theorem dX5_reads_32 : decode cX5_reads 32 = .ok (.iconst 3, 1) := dk_6 (dk_at dksX5_reads_1 8 rfl rfl)
theorem dX5_reads_33 : decode cX5_reads 33 = .ok (.if_icmp .eq 9, 3) := dk_159 0 9 (dk_at dksX5_reads_1 9 rfl rfl)
theorem dX5_reads_36 : decode cX5_reads 36 = .ok (.aload_n 0, 1) := dk_42 (dk_at dksX5_reads_1 12 rfl rfl)
theorem dX5_reads_37 : decode cX5_reads 37 = .ok (.iconst 1, 1) := dk_4 (dk_at dksX5_reads_1 13 rfl rfl)
theorem dX5_reads_38 : decode cX5_reads 38 = .ok (.invokevirtual 78, 3) := dk_182 0 78 (dk_at dksX5_reads_1 14 rfl rfl)
theorem dX5_reads_41 : decode cX5_reads 41 = .ok (.athrow, 1) := dk_191 (dk_at dksX5_reads_1 17 rfl rfl)
theorem dX5_reads_42 : decode cX5_reads 42 = .ok (.aload_n 0, 1) := dk_42 (dk_at dksX5_reads_1 18 rfl rfl)
theorem dX5_reads_43 : decode cX5_reads 43 = .ok (.invokevirtual 26, 3) := dk_182 0 26 (dk_at dksX5_reads_1 19 rfl rfl)
theorem dX5_reads_46 : decode cX5_reads 46 = .ok (.aload_n 0, 1) := dk_42 (dk_at dksX5_reads_1 22 rfl rfl)
theorem dX5_reads_47 : decode cX5_reads 47 = .ok (.getfield 12, 3) := dk_180 0 12 (dk_at dksX5_reads_2 0 rfl rfl)
theorem dX5_reads_50 : decode cX5_reads 50 = .ok (.dup, 1) := dk_89 (dk_at dksX5_reads_2 3 rfl rfl)
theorem dX5_reads_51 : decode cX5_reads 51 = .ok (.getfield 254, 3) := dk_180 0 254 (dk_at dksX5_reads_2 4 rfl rfl)
theorem dX5_reads_54 : decode cX5_reads 54 = .ok (.iconst 1, 1) := dk_4 (dk_at dksX5_reads_2 7 rfl rfl)
theorem dX5_reads_55 : decode cX5_reads 55 = .ok (.iadd, 1) := dk_96 (dk_at dksX5_reads_2 8 rfl rfl)
theorem dX5_reads_56 : decode cX5_reads 56 = .ok (.putfield 254, 3) := dk_181 0 254 (dk_at dksX5_reads_2 9 rfl rfl)
theorem dX5_reads_59 : decode cX5_reads 59 = .ok (.goto (-59), 3) := dk_167 255 197 (dk_at dksX5_reads_2 12 rfl rfl)
theorem dX5_reads_62 : decode cX5_reads 62 = .ok (.aload_n 0, 1) := dk_42 (dk_at dksX5_reads_2 15 rfl rfl)
theorem dX5_reads_63 : decode cX5_reads 63 = .ok (.getfield 12, 3) := dk_180 0 12 (dk_at dksX5_reads_2 16 rfl rfl)
theorem dX5_reads_66 : decode cX5_reads 66 = .ok (.invokevirtual 263, 3) := dk_182 1 7 (dk_at dksX5_reads_2 19 rfl rfl)
theorem dX5_reads_69 : decode cX5_reads 69 = .ok (.aload_n 0, 1) := dk_42 (dk_at dksX5_reads_2 22 rfl rfl)
theorem dX5_reads_70 : decode cX5_reads 70 = .ok (.getfield 12, 3) := dk_180 0 12 (dk_at dksX5_reads_3 0 rfl rfl)
theorem dX5_reads_73 : decode cX5_reads 73 = .ok (.areturn, 1) := dk_176 (dk_at dksX5_reads_3 3 rfl rfl)
abbrev cX5_first : ByteArray := prog_11_method_11_code
def yX5_first : MethodName := ⟨RX5, "first", "()V"⟩
def dkwX5_first_2 : List UInt8 := [16, 40, 182, 0, 93, 181, 0, 104, 177]
abbrev dktX5_first_2 : List UInt8 := dkwX5_first_2 ++ []
def dkwX5_first_1 : List UInt8 := [180, 0, 12, 42, 18, 98, 5, 16, 12, 182, 0, 93, 181, 0, 100, 42, 180, 0, 12, 42, 18, 102, 8]
abbrev dktX5_first_1 : List UInt8 := dkwX5_first_1 ++ dktX5_first_2
def dkwX5_first_0 : List UInt8 := [42, 18, 89, 182, 0, 82, 42, 180, 0, 12, 42, 18, 91, 5, 16, 12, 182, 0, 93, 181, 0, 96, 42]
abbrev dktX5_first_0 : List UInt8 := dkwX5_first_0 ++ dktX5_first_1
theorem dksX5_first_0 : cX5_first.data.toList.drop 0 = dktX5_first_0 := by decide +kernel
theorem dksX5_first_1 : cX5_first.data.toList.drop 23 = dktX5_first_1 := dk_seg dksX5_first_0 23 rfl rfl
theorem dksX5_first_2 : cX5_first.data.toList.drop 46 = dktX5_first_2 := dk_seg dksX5_first_1 23 rfl rfl
theorem dX5_first_0 : decode cX5_first 0 = .ok (.aload_n 0, 1) := dk_42 (dk_at dksX5_first_0 0 rfl rfl)
theorem dX5_first_1 : decode cX5_first 1 = .ok (.ldc 89, 2) := dk_18 89 (dk_at dksX5_first_0 1 rfl rfl)
theorem dX5_first_3 : decode cX5_first 3 = .ok (.invokevirtual 82, 3) := dk_182 0 82 (dk_at dksX5_first_0 3 rfl rfl)
theorem dX5_first_6 : decode cX5_first 6 = .ok (.aload_n 0, 1) := dk_42 (dk_at dksX5_first_0 6 rfl rfl)
theorem dX5_first_7 : decode cX5_first 7 = .ok (.getfield 12, 3) := dk_180 0 12 (dk_at dksX5_first_0 7 rfl rfl)
theorem dX5_first_10 : decode cX5_first 10 = .ok (.aload_n 0, 1) := dk_42 (dk_at dksX5_first_0 10 rfl rfl)
theorem dX5_first_11 : decode cX5_first 11 = .ok (.ldc 91, 2) := dk_18 91 (dk_at dksX5_first_0 11 rfl rfl)
theorem dX5_first_13 : decode cX5_first 13 = .ok (.iconst 2, 1) := dk_5 (dk_at dksX5_first_0 13 rfl rfl)
theorem dX5_first_14 : decode cX5_first 14 = .ok (.bipush 12, 2) := dk_16 12 (dk_at dksX5_first_0 14 rfl rfl)
theorem dX5_first_16 : decode cX5_first 16 = .ok (.invokevirtual 93, 3) := dk_182 0 93 (dk_at dksX5_first_0 16 rfl rfl)
theorem dX5_first_19 : decode cX5_first 19 = .ok (.putfield 96, 3) := dk_181 0 96 (dk_at dksX5_first_0 19 rfl rfl)
theorem dX5_first_22 : decode cX5_first 22 = .ok (.aload_n 0, 1) := dk_42 (dk_at dksX5_first_0 22 rfl rfl)
theorem dX5_first_23 : decode cX5_first 23 = .ok (.getfield 12, 3) := dk_180 0 12 (dk_at dksX5_first_1 0 rfl rfl)
theorem dX5_first_26 : decode cX5_first 26 = .ok (.aload_n 0, 1) := dk_42 (dk_at dksX5_first_1 3 rfl rfl)
theorem dX5_first_27 : decode cX5_first 27 = .ok (.ldc 98, 2) := dk_18 98 (dk_at dksX5_first_1 4 rfl rfl)
theorem dX5_first_29 : decode cX5_first 29 = .ok (.iconst 2, 1) := dk_5 (dk_at dksX5_first_1 6 rfl rfl)
theorem dX5_first_30 : decode cX5_first 30 = .ok (.bipush 12, 2) := dk_16 12 (dk_at dksX5_first_1 7 rfl rfl)
theorem dX5_first_32 : decode cX5_first 32 = .ok (.invokevirtual 93, 3) := dk_182 0 93 (dk_at dksX5_first_1 9 rfl rfl)
theorem dX5_first_35 : decode cX5_first 35 = .ok (.putfield 100, 3) := dk_181 0 100 (dk_at dksX5_first_1 12 rfl rfl)
theorem dX5_first_38 : decode cX5_first 38 = .ok (.aload_n 0, 1) := dk_42 (dk_at dksX5_first_1 15 rfl rfl)
theorem dX5_first_39 : decode cX5_first 39 = .ok (.getfield 12, 3) := dk_180 0 12 (dk_at dksX5_first_1 16 rfl rfl)
theorem dX5_first_42 : decode cX5_first 42 = .ok (.aload_n 0, 1) := dk_42 (dk_at dksX5_first_1 19 rfl rfl)
theorem dX5_first_43 : decode cX5_first 43 = .ok (.ldc 102, 2) := dk_18 102 (dk_at dksX5_first_1 20 rfl rfl)
theorem dX5_first_45 : decode cX5_first 45 = .ok (.iconst 5, 1) := dk_8 (dk_at dksX5_first_1 22 rfl rfl)
theorem dX5_first_46 : decode cX5_first 46 = .ok (.bipush 40, 2) := dk_16 40 (dk_at dksX5_first_2 0 rfl rfl)
theorem dX5_first_48 : decode cX5_first 48 = .ok (.invokevirtual 93, 3) := dk_182 0 93 (dk_at dksX5_first_2 2 rfl rfl)
theorem dX5_first_51 : decode cX5_first 51 = .ok (.putfield 104, 3) := dk_181 0 104 (dk_at dksX5_first_2 5 rfl rfl)
theorem dX5_first_54 : decode cX5_first 54 = .ok (.return_, 1) := dk_177 (dk_at dksX5_first_2 8 rfl rfl)
abbrev cX5_asks : ByteArray := prog_11_method_7_code
def yX5_asks : MethodName := ⟨RX5, "asks", "(Ljava/lang/String;)V"⟩
def dkwX5_asks_0 : List UInt8 := [42, 43, 182, 0, 75, 154, 0, 9, 42, 4, 182, 0, 78, 191, 177]
abbrev dktX5_asks_0 : List UInt8 := dkwX5_asks_0 ++ []
theorem dksX5_asks_0 : cX5_asks.data.toList.drop 0 = dktX5_asks_0 := by decide +kernel
theorem dX5_asks_0 : decode cX5_asks 0 = .ok (.aload_n 0, 1) := dk_42 (dk_at dksX5_asks_0 0 rfl rfl)
theorem dX5_asks_1 : decode cX5_asks 1 = .ok (.aload_n 1, 1) := dk_43 (dk_at dksX5_asks_0 1 rfl rfl)
theorem dX5_asks_2 : decode cX5_asks 2 = .ok (.invokevirtual 75, 3) := dk_182 0 75 (dk_at dksX5_asks_0 2 rfl rfl)
theorem dX5_asks_5 : decode cX5_asks 5 = .ok (.ifCond .ne 9, 3) := dk_154 0 9 (dk_at dksX5_asks_0 5 rfl rfl)
theorem dX5_asks_8 : decode cX5_asks 8 = .ok (.aload_n 0, 1) := dk_42 (dk_at dksX5_asks_0 8 rfl rfl)
theorem dX5_asks_9 : decode cX5_asks 9 = .ok (.iconst 1, 1) := dk_4 (dk_at dksX5_asks_0 9 rfl rfl)
theorem dX5_asks_10 : decode cX5_asks 10 = .ok (.invokevirtual 78, 3) := dk_182 0 78 (dk_at dksX5_asks_0 10 rfl rfl)
theorem dX5_asks_13 : decode cX5_asks 13 = .ok (.athrow, 1) := dk_191 (dk_at dksX5_asks_0 13 rfl rfl)
theorem dX5_asks_14 : decode cX5_asks 14 = .ok (.return_, 1) := dk_177 (dk_at dksX5_asks_0 14 rfl rfl)
abbrev cX5_takes : ByteArray := prog_11_method_6_code
def yX5_takes : MethodName := ⟨RX5, "takes", "(Ljava/lang/String;)Z"⟩
def dkwX5_takes_0 : List UInt8 := [42, 43, 182, 0, 71, 61, 28, 153, 0, 7, 42, 182, 0, 26, 28, 172]
abbrev dktX5_takes_0 : List UInt8 := dkwX5_takes_0 ++ []
theorem dksX5_takes_0 : cX5_takes.data.toList.drop 0 = dktX5_takes_0 := by decide +kernel
theorem dX5_takes_0 : decode cX5_takes 0 = .ok (.aload_n 0, 1) := dk_42 (dk_at dksX5_takes_0 0 rfl rfl)
theorem dX5_takes_1 : decode cX5_takes 1 = .ok (.aload_n 1, 1) := dk_43 (dk_at dksX5_takes_0 1 rfl rfl)
theorem dX5_takes_2 : decode cX5_takes 2 = .ok (.invokevirtual 71, 3) := dk_182 0 71 (dk_at dksX5_takes_0 2 rfl rfl)
theorem dX5_takes_5 : decode cX5_takes 5 = .ok (.istore_n 2, 1) := dk_61 (dk_at dksX5_takes_0 5 rfl rfl)
theorem dX5_takes_6 : decode cX5_takes 6 = .ok (.iload_n 2, 1) := dk_28 (dk_at dksX5_takes_0 6 rfl rfl)
theorem dX5_takes_7 : decode cX5_takes 7 = .ok (.ifCond .eq 7, 3) := dk_153 0 7 (dk_at dksX5_takes_0 7 rfl rfl)
theorem dX5_takes_10 : decode cX5_takes 10 = .ok (.aload_n 0, 1) := dk_42 (dk_at dksX5_takes_0 10 rfl rfl)
theorem dX5_takes_11 : decode cX5_takes 11 = .ok (.invokevirtual 26, 3) := dk_182 0 26 (dk_at dksX5_takes_0 11 rfl rfl)
theorem dX5_takes_14 : decode cX5_takes 14 = .ok (.iload_n 2, 1) := dk_28 (dk_at dksX5_takes_0 14 rfl rfl)
theorem dX5_takes_15 : decode cX5_takes 15 = .ok (.ireturn, 1) := dk_172 (dk_at dksX5_takes_0 15 rfl rfl)
abbrev cX5_is : ByteArray := prog_11_method_5_code
def yX5_is : MethodName := ⟨RX5, "is", "(Ljava/lang/String;)Z"⟩
def dkwX5_is_2 : List UInt8 := [28, 182, 0, 67, 159, 0, 5, 3, 172, 132, 2, 1, 167, 255, 224, 4, 172]
abbrev dktX5_is_2 : List UInt8 := dkwX5_is_2 ++ []
def dkwX5_is_1 : List UInt8 := [3, 172, 3, 61, 28, 43, 182, 0, 61, 162, 0, 30, 42, 180, 0, 18, 42, 180, 0, 40, 28, 96, 51, 43]
abbrev dktX5_is_1 : List UInt8 := dkwX5_is_1 ++ dktX5_is_2
def dkwX5_is_0 : List UInt8 := [42, 180, 0, 46, 4, 160, 0, 19, 42, 180, 0, 29, 42, 180, 0, 40, 100, 43, 182, 0, 61, 159, 0, 5]
abbrev dktX5_is_0 : List UInt8 := dkwX5_is_0 ++ dktX5_is_1
theorem dksX5_is_0 : cX5_is.data.toList.drop 0 = dktX5_is_0 := by decide +kernel
theorem dksX5_is_1 : cX5_is.data.toList.drop 24 = dktX5_is_1 := dk_seg dksX5_is_0 24 rfl rfl
theorem dksX5_is_2 : cX5_is.data.toList.drop 48 = dktX5_is_2 := dk_seg dksX5_is_1 24 rfl rfl
theorem dX5_is_0 : decode cX5_is 0 = .ok (.aload_n 0, 1) := dk_42 (dk_at dksX5_is_0 0 rfl rfl)
theorem dX5_is_1 : decode cX5_is 1 = .ok (.getfield 46, 3) := dk_180 0 46 (dk_at dksX5_is_0 1 rfl rfl)
theorem dX5_is_4 : decode cX5_is 4 = .ok (.iconst 1, 1) := dk_4 (dk_at dksX5_is_0 4 rfl rfl)
theorem dX5_is_5 : decode cX5_is 5 = .ok (.if_icmp .ne 19, 3) := dk_160 0 19 (dk_at dksX5_is_0 5 rfl rfl)
theorem dX5_is_8 : decode cX5_is 8 = .ok (.aload_n 0, 1) := dk_42 (dk_at dksX5_is_0 8 rfl rfl)
theorem dX5_is_9 : decode cX5_is 9 = .ok (.getfield 29, 3) := dk_180 0 29 (dk_at dksX5_is_0 9 rfl rfl)
theorem dX5_is_12 : decode cX5_is 12 = .ok (.aload_n 0, 1) := dk_42 (dk_at dksX5_is_0 12 rfl rfl)
theorem dX5_is_13 : decode cX5_is 13 = .ok (.getfield 40, 3) := dk_180 0 40 (dk_at dksX5_is_0 13 rfl rfl)
theorem dX5_is_16 : decode cX5_is 16 = .ok (.isub, 1) := dk_100 (dk_at dksX5_is_0 16 rfl rfl)
theorem dX5_is_17 : decode cX5_is 17 = .ok (.aload_n 1, 1) := dk_43 (dk_at dksX5_is_0 17 rfl rfl)
theorem dX5_is_18 : decode cX5_is 18 = .ok (.invokevirtual 61, 3) := dk_182 0 61 (dk_at dksX5_is_0 18 rfl rfl)
theorem dX5_is_21 : decode cX5_is 21 = .ok (.if_icmp .eq 5, 3) := dk_159 0 5 (dk_at dksX5_is_0 21 rfl rfl)
theorem dX5_is_24 : decode cX5_is 24 = .ok (.iconst 0, 1) := dk_3 (dk_at dksX5_is_1 0 rfl rfl)
theorem dX5_is_25 : decode cX5_is 25 = .ok (.ireturn, 1) := dk_172 (dk_at dksX5_is_1 1 rfl rfl)
theorem dX5_is_26 : decode cX5_is 26 = .ok (.iconst 0, 1) := dk_3 (dk_at dksX5_is_1 2 rfl rfl)
theorem dX5_is_27 : decode cX5_is 27 = .ok (.istore_n 2, 1) := dk_61 (dk_at dksX5_is_1 3 rfl rfl)
theorem dX5_is_28 : decode cX5_is 28 = .ok (.iload_n 2, 1) := dk_28 (dk_at dksX5_is_1 4 rfl rfl)
theorem dX5_is_29 : decode cX5_is 29 = .ok (.aload_n 1, 1) := dk_43 (dk_at dksX5_is_1 5 rfl rfl)
theorem dX5_is_30 : decode cX5_is 30 = .ok (.invokevirtual 61, 3) := dk_182 0 61 (dk_at dksX5_is_1 6 rfl rfl)
theorem dX5_is_33 : decode cX5_is 33 = .ok (.if_icmp .ge 30, 3) := dk_162 0 30 (dk_at dksX5_is_1 9 rfl rfl)
theorem dX5_is_36 : decode cX5_is 36 = .ok (.aload_n 0, 1) := dk_42 (dk_at dksX5_is_1 12 rfl rfl)
theorem dX5_is_37 : decode cX5_is 37 = .ok (.getfield 18, 3) := dk_180 0 18 (dk_at dksX5_is_1 13 rfl rfl)
theorem dX5_is_40 : decode cX5_is 40 = .ok (.aload_n 0, 1) := dk_42 (dk_at dksX5_is_1 16 rfl rfl)
theorem dX5_is_41 : decode cX5_is 41 = .ok (.getfield 40, 3) := dk_180 0 40 (dk_at dksX5_is_1 17 rfl rfl)
theorem dX5_is_44 : decode cX5_is 44 = .ok (.iload_n 2, 1) := dk_28 (dk_at dksX5_is_1 20 rfl rfl)
theorem dX5_is_45 : decode cX5_is 45 = .ok (.iadd, 1) := dk_96 (dk_at dksX5_is_1 21 rfl rfl)
theorem dX5_is_46 : decode cX5_is 46 = .ok (.baload, 1) := dk_51 (dk_at dksX5_is_1 22 rfl rfl)
theorem dX5_is_47 : decode cX5_is 47 = .ok (.aload_n 1, 1) := dk_43 (dk_at dksX5_is_1 23 rfl rfl)
theorem dX5_is_48 : decode cX5_is 48 = .ok (.iload_n 2, 1) := dk_28 (dk_at dksX5_is_2 0 rfl rfl)
theorem dX5_is_49 : decode cX5_is 49 = .ok (.invokevirtual 67, 3) := dk_182 0 67 (dk_at dksX5_is_2 1 rfl rfl)
theorem dX5_is_52 : decode cX5_is 52 = .ok (.if_icmp .eq 5, 3) := dk_159 0 5 (dk_at dksX5_is_2 4 rfl rfl)
theorem dX5_is_55 : decode cX5_is 55 = .ok (.iconst 0, 1) := dk_3 (dk_at dksX5_is_2 7 rfl rfl)
theorem dX5_is_56 : decode cX5_is 56 = .ok (.ireturn, 1) := dk_172 (dk_at dksX5_is_2 8 rfl rfl)
theorem dX5_is_57 : decode cX5_is 57 = .ok (.iinc 2 1, 3) := dk_132 2 1 (dk_at dksX5_is_2 9 rfl rfl)
theorem dX5_is_60 : decode cX5_is 60 = .ok (.goto (-32), 3) := dk_167 255 224 (dk_at dksX5_is_2 12 rfl rfl)
theorem dX5_is_63 : decode cX5_is 63 = .ok (.iconst 1, 1) := dk_4 (dk_at dksX5_is_2 15 rfl rfl)
theorem dX5_is_64 : decode cX5_is 64 = .ok (.ireturn, 1) := dk_172 (dk_at dksX5_is_2 16 rfl rfl)
abbrev cX5_fault : ByteArray := prog_11_method_4_code
def yX5_fault : MethodName := ⟨RX5, "fault", "(I)LUnseenClock$Fault;"⟩
def dkwX5_fault_0 : List UInt8 := [187, 0, 56, 89, 27, 42, 180, 0, 40, 183, 0, 58, 176]
abbrev dktX5_fault_0 : List UInt8 := dkwX5_fault_0 ++ []
theorem dksX5_fault_0 : cX5_fault.data.toList.drop 0 = dktX5_fault_0 := by decide +kernel
theorem dX5_fault_0 : decode cX5_fault 0 = .ok (.new 56, 3) := dk_187 0 56 (dk_at dksX5_fault_0 0 rfl rfl)
theorem dX5_fault_3 : decode cX5_fault 3 = .ok (.dup, 1) := dk_89 (dk_at dksX5_fault_0 3 rfl rfl)
theorem dX5_fault_4 : decode cX5_fault 4 = .ok (.iload_n 1, 1) := dk_27 (dk_at dksX5_fault_0 4 rfl rfl)
theorem dX5_fault_5 : decode cX5_fault 5 = .ok (.aload_n 0, 1) := dk_42 (dk_at dksX5_fault_0 5 rfl rfl)
theorem dX5_fault_6 : decode cX5_fault 6 = .ok (.getfield 40, 3) := dk_180 0 40 (dk_at dksX5_fault_0 6 rfl rfl)
theorem dX5_fault_9 : decode cX5_fault 9 = .ok (.invokespecial 58, 3) := dk_183 0 58 (dk_at dksX5_fault_0 9 rfl rfl)
theorem dX5_fault_12 : decode cX5_fault 12 = .ok (.areturn, 1) := dk_176 (dk_at dksX5_fault_0 12 rfl rfl)
abbrev cX5_number : ByteArray := prog_11_method_9_code
def yX5_number : MethodName := ⟨RX5, "number", "(Ljava/lang/String;II)I"⟩
def dkwX5_number_0 : List UInt8 := [42, 43, 182, 0, 82, 42, 28, 29, 182, 0, 86, 172]
abbrev dktX5_number_0 : List UInt8 := dkwX5_number_0 ++ []
theorem dksX5_number_0 : cX5_number.data.toList.drop 0 = dktX5_number_0 := by decide +kernel
theorem dX5_number_0 : decode cX5_number 0 = .ok (.aload_n 0, 1) := dk_42 (dk_at dksX5_number_0 0 rfl rfl)
theorem dX5_number_1 : decode cX5_number 1 = .ok (.aload_n 1, 1) := dk_43 (dk_at dksX5_number_0 1 rfl rfl)
theorem dX5_number_2 : decode cX5_number 2 = .ok (.invokevirtual 82, 3) := dk_182 0 82 (dk_at dksX5_number_0 2 rfl rfl)
theorem dX5_number_5 : decode cX5_number 5 = .ok (.aload_n 0, 1) := dk_42 (dk_at dksX5_number_0 5 rfl rfl)
theorem dX5_number_6 : decode cX5_number 6 = .ok (.iload_n 2, 1) := dk_28 (dk_at dksX5_number_0 6 rfl rfl)
theorem dX5_number_7 : decode cX5_number 7 = .ok (.iload_n 3, 1) := dk_29 (dk_at dksX5_number_0 7 rfl rfl)
theorem dX5_number_8 : decode cX5_number 8 = .ok (.invokevirtual 86, 3) := dk_182 0 86 (dk_at dksX5_number_0 8 rfl rfl)
theorem dX5_number_11 : decode cX5_number 11 = .ok (.ireturn, 1) := dk_172 (dk_at dksX5_number_0 11 rfl rfl)
abbrev cX5_number_2 : ByteArray := prog_11_method_8_code
def yX5_number_2 : MethodName := ⟨RX5, "number", "(II)I"⟩
def dkwX5_number_2_1 : List UInt8 := [184, 0, 32, 154, 0, 9, 42, 5, 182, 0, 78, 191, 42, 180, 0, 43, 62, 42, 182, 0, 26, 29, 172]
abbrev dktX5_number_2_1 : List UInt8 := dkwX5_number_2_1 ++ []
def dkwX5_number_2_0 : List UInt8 := [42, 180, 0, 46, 5, 159, 0, 9, 42, 4, 182, 0, 78, 191, 42, 180, 0, 43, 133, 27, 133, 28, 133]
abbrev dktX5_number_2_0 : List UInt8 := dkwX5_number_2_0 ++ dktX5_number_2_1
theorem dksX5_number_2_0 : cX5_number_2.data.toList.drop 0 = dktX5_number_2_0 := by decide +kernel
theorem dksX5_number_2_1 : cX5_number_2.data.toList.drop 23 = dktX5_number_2_1 := dk_seg dksX5_number_2_0 23 rfl rfl
theorem dX5_number_2_0 : decode cX5_number_2 0 = .ok (.aload_n 0, 1) := dk_42 (dk_at dksX5_number_2_0 0 rfl rfl)
theorem dX5_number_2_1 : decode cX5_number_2 1 = .ok (.getfield 46, 3) := dk_180 0 46 (dk_at dksX5_number_2_0 1 rfl rfl)
theorem dX5_number_2_4 : decode cX5_number_2 4 = .ok (.iconst 2, 1) := dk_5 (dk_at dksX5_number_2_0 4 rfl rfl)
theorem dX5_number_2_5 : decode cX5_number_2 5 = .ok (.if_icmp .eq 9, 3) := dk_159 0 9 (dk_at dksX5_number_2_0 5 rfl rfl)
theorem dX5_number_2_8 : decode cX5_number_2 8 = .ok (.aload_n 0, 1) := dk_42 (dk_at dksX5_number_2_0 8 rfl rfl)
theorem dX5_number_2_9 : decode cX5_number_2 9 = .ok (.iconst 1, 1) := dk_4 (dk_at dksX5_number_2_0 9 rfl rfl)
theorem dX5_number_2_10 : decode cX5_number_2 10 = .ok (.invokevirtual 78, 3) := dk_182 0 78 (dk_at dksX5_number_2_0 10 rfl rfl)
theorem dX5_number_2_13 : decode cX5_number_2 13 = .ok (.athrow, 1) := dk_191 (dk_at dksX5_number_2_0 13 rfl rfl)
theorem dX5_number_2_14 : decode cX5_number_2 14 = .ok (.aload_n 0, 1) := dk_42 (dk_at dksX5_number_2_0 14 rfl rfl)
theorem dX5_number_2_15 : decode cX5_number_2 15 = .ok (.getfield 43, 3) := dk_180 0 43 (dk_at dksX5_number_2_0 15 rfl rfl)
theorem dX5_number_2_18 : decode cX5_number_2 18 = .ok (.i2l, 1) := dk_133 (dk_at dksX5_number_2_0 18 rfl rfl)
theorem dX5_number_2_19 : decode cX5_number_2 19 = .ok (.iload_n 1, 1) := dk_27 (dk_at dksX5_number_2_0 19 rfl rfl)
theorem dX5_number_2_20 : decode cX5_number_2 20 = .ok (.i2l, 1) := dk_133 (dk_at dksX5_number_2_0 20 rfl rfl)
theorem dX5_number_2_21 : decode cX5_number_2 21 = .ok (.iload_n 2, 1) := dk_28 (dk_at dksX5_number_2_0 21 rfl rfl)
theorem dX5_number_2_22 : decode cX5_number_2 22 = .ok (.i2l, 1) := dk_133 (dk_at dksX5_number_2_0 22 rfl rfl)
theorem dX5_number_2_23 : decode cX5_number_2 23 = .ok (.invokestatic 32, 3) := dk_184 0 32 (dk_at dksX5_number_2_1 0 rfl rfl)
theorem dX5_number_2_26 : decode cX5_number_2 26 = .ok (.ifCond .ne 9, 3) := dk_154 0 9 (dk_at dksX5_number_2_1 3 rfl rfl)
theorem dX5_number_2_29 : decode cX5_number_2 29 = .ok (.aload_n 0, 1) := dk_42 (dk_at dksX5_number_2_1 6 rfl rfl)
theorem dX5_number_2_30 : decode cX5_number_2 30 = .ok (.iconst 2, 1) := dk_5 (dk_at dksX5_number_2_1 7 rfl rfl)
theorem dX5_number_2_31 : decode cX5_number_2 31 = .ok (.invokevirtual 78, 3) := dk_182 0 78 (dk_at dksX5_number_2_1 8 rfl rfl)
theorem dX5_number_2_34 : decode cX5_number_2 34 = .ok (.athrow, 1) := dk_191 (dk_at dksX5_number_2_1 11 rfl rfl)
theorem dX5_number_2_35 : decode cX5_number_2 35 = .ok (.aload_n 0, 1) := dk_42 (dk_at dksX5_number_2_1 12 rfl rfl)
theorem dX5_number_2_36 : decode cX5_number_2 36 = .ok (.getfield 43, 3) := dk_180 0 43 (dk_at dksX5_number_2_1 13 rfl rfl)
theorem dX5_number_2_39 : decode cX5_number_2 39 = .ok (.istore_n 3, 1) := dk_62 (dk_at dksX5_number_2_1 16 rfl rfl)
theorem dX5_number_2_40 : decode cX5_number_2 40 = .ok (.aload_n 0, 1) := dk_42 (dk_at dksX5_number_2_1 17 rfl rfl)
theorem dX5_number_2_41 : decode cX5_number_2 41 = .ok (.invokevirtual 26, 3) := dk_182 0 26 (dk_at dksX5_number_2_1 18 rfl rfl)
theorem dX5_number_2_44 : decode cX5_number_2 44 = .ok (.iload_n 3, 1) := dk_29 (dk_at dksX5_number_2_1 21 rfl rfl)
theorem dX5_number_2_45 : decode cX5_number_2 45 = .ok (.ireturn, 1) := dk_172 (dk_at dksX5_number_2_1 22 rfl rfl)
abbrev cX5_line : ByteArray := prog_11_method_21_code
def yX5_line : MethodName := ⟨RX5, "line", "()V"⟩
def dkwX5_line_4 : List UInt8 := [182, 0, 252, 167, 0, 9, 42, 4, 182, 0, 78, 191, 177]
abbrev dktX5_line_4 : List UInt8 := dkwX5_line_4 ++ []
def dkwX5_line_3 : List UInt8 := [182, 0, 71, 153, 0, 11, 42, 4, 182, 0, 245, 167, 0, 25, 42, 18, 250, 182, 0, 71, 153, 0, 10, 42]
abbrev dktX5_line_3 : List UInt8 := dkwX5_line_3 ++ dktX5_line_4
def dkwX5_line_2 : List UInt8 := [167, 0, 59, 42, 18, 243, 182, 0, 71, 153, 0, 11, 42, 3, 182, 0, 245, 167, 0, 42, 42, 18, 248]
abbrev dktX5_line_2 : List UInt8 := dkwX5_line_2 ++ dktX5_line_3
def dkwX5_line_1 : List UInt8 := [153, 0, 10, 42, 182, 0, 237, 167, 0, 75, 42, 18, 239, 182, 0, 71, 153, 0, 10, 42, 182, 0, 241]
abbrev dktX5_line_1 : List UInt8 := dkwX5_line_1 ++ dktX5_line_2
def dkwX5_line_0 : List UInt8 := [42, 18, 232, 182, 0, 71, 153, 0, 10, 42, 182, 0, 233, 167, 0, 91, 42, 18, 235, 182, 0, 71]
abbrev dktX5_line_0 : List UInt8 := dkwX5_line_0 ++ dktX5_line_1
theorem dksX5_line_0 : cX5_line.data.toList.drop 0 = dktX5_line_0 := by decide +kernel
theorem dksX5_line_1 : cX5_line.data.toList.drop 22 = dktX5_line_1 := dk_seg dksX5_line_0 22 rfl rfl
theorem dksX5_line_2 : cX5_line.data.toList.drop 45 = dktX5_line_2 := dk_seg dksX5_line_1 23 rfl rfl
theorem dksX5_line_3 : cX5_line.data.toList.drop 68 = dktX5_line_3 := dk_seg dksX5_line_2 23 rfl rfl
theorem dksX5_line_4 : cX5_line.data.toList.drop 92 = dktX5_line_4 := dk_seg dksX5_line_3 24 rfl rfl
theorem dX5_line_0 : decode cX5_line 0 = .ok (.aload_n 0, 1) := dk_42 (dk_at dksX5_line_0 0 rfl rfl)
theorem dX5_line_1 : decode cX5_line 1 = .ok (.ldc 232, 2) := dk_18 232 (dk_at dksX5_line_0 1 rfl rfl)
theorem dX5_line_3 : decode cX5_line 3 = .ok (.invokevirtual 71, 3) := dk_182 0 71 (dk_at dksX5_line_0 3 rfl rfl)
theorem dX5_line_6 : decode cX5_line 6 = .ok (.ifCond .eq 10, 3) := dk_153 0 10 (dk_at dksX5_line_0 6 rfl rfl)
theorem dX5_line_9 : decode cX5_line 9 = .ok (.aload_n 0, 1) := dk_42 (dk_at dksX5_line_0 9 rfl rfl)
theorem dX5_line_10 : decode cX5_line 10 = .ok (.invokevirtual 233, 3) := dk_182 0 233 (dk_at dksX5_line_0 10 rfl rfl)
theorem dX5_line_13 : decode cX5_line 13 = .ok (.goto 91, 3) := dk_167 0 91 (dk_at dksX5_line_0 13 rfl rfl)
theorem dX5_line_16 : decode cX5_line 16 = .ok (.aload_n 0, 1) := dk_42 (dk_at dksX5_line_0 16 rfl rfl)
theorem dX5_line_17 : decode cX5_line 17 = .ok (.ldc 235, 2) := dk_18 235 (dk_at dksX5_line_0 17 rfl rfl)
theorem dX5_line_19 : decode cX5_line 19 = .ok (.invokevirtual 71, 3) := dk_182 0 71 (dk_at dksX5_line_0 19 rfl rfl)
theorem dX5_line_22 : decode cX5_line 22 = .ok (.ifCond .eq 10, 3) := dk_153 0 10 (dk_at dksX5_line_1 0 rfl rfl)
theorem dX5_line_25 : decode cX5_line 25 = .ok (.aload_n 0, 1) := dk_42 (dk_at dksX5_line_1 3 rfl rfl)
theorem dX5_line_26 : decode cX5_line 26 = .ok (.invokevirtual 237, 3) := dk_182 0 237 (dk_at dksX5_line_1 4 rfl rfl)
theorem dX5_line_29 : decode cX5_line 29 = .ok (.goto 75, 3) := dk_167 0 75 (dk_at dksX5_line_1 7 rfl rfl)
theorem dX5_line_32 : decode cX5_line 32 = .ok (.aload_n 0, 1) := dk_42 (dk_at dksX5_line_1 10 rfl rfl)
theorem dX5_line_33 : decode cX5_line 33 = .ok (.ldc 239, 2) := dk_18 239 (dk_at dksX5_line_1 11 rfl rfl)
theorem dX5_line_35 : decode cX5_line 35 = .ok (.invokevirtual 71, 3) := dk_182 0 71 (dk_at dksX5_line_1 13 rfl rfl)
theorem dX5_line_38 : decode cX5_line 38 = .ok (.ifCond .eq 10, 3) := dk_153 0 10 (dk_at dksX5_line_1 16 rfl rfl)
theorem dX5_line_41 : decode cX5_line 41 = .ok (.aload_n 0, 1) := dk_42 (dk_at dksX5_line_1 19 rfl rfl)
theorem dX5_line_42 : decode cX5_line 42 = .ok (.invokevirtual 241, 3) := dk_182 0 241 (dk_at dksX5_line_1 20 rfl rfl)
theorem dX5_line_45 : decode cX5_line 45 = .ok (.goto 59, 3) := dk_167 0 59 (dk_at dksX5_line_2 0 rfl rfl)
theorem dX5_line_48 : decode cX5_line 48 = .ok (.aload_n 0, 1) := dk_42 (dk_at dksX5_line_2 3 rfl rfl)
theorem dX5_line_49 : decode cX5_line 49 = .ok (.ldc 243, 2) := dk_18 243 (dk_at dksX5_line_2 4 rfl rfl)
theorem dX5_line_51 : decode cX5_line 51 = .ok (.invokevirtual 71, 3) := dk_182 0 71 (dk_at dksX5_line_2 6 rfl rfl)
theorem dX5_line_54 : decode cX5_line 54 = .ok (.ifCond .eq 11, 3) := dk_153 0 11 (dk_at dksX5_line_2 9 rfl rfl)
theorem dX5_line_57 : decode cX5_line 57 = .ok (.aload_n 0, 1) := dk_42 (dk_at dksX5_line_2 12 rfl rfl)
theorem dX5_line_58 : decode cX5_line 58 = .ok (.iconst 0, 1) := dk_3 (dk_at dksX5_line_2 13 rfl rfl)
theorem dX5_line_59 : decode cX5_line 59 = .ok (.invokevirtual 245, 3) := dk_182 0 245 (dk_at dksX5_line_2 14 rfl rfl)
theorem dX5_line_62 : decode cX5_line 62 = .ok (.goto 42, 3) := dk_167 0 42 (dk_at dksX5_line_2 17 rfl rfl)
theorem dX5_line_65 : decode cX5_line 65 = .ok (.aload_n 0, 1) := dk_42 (dk_at dksX5_line_2 20 rfl rfl)
theorem dX5_line_66 : decode cX5_line 66 = .ok (.ldc 248, 2) := dk_18 248 (dk_at dksX5_line_2 21 rfl rfl)
theorem dX5_line_68 : decode cX5_line 68 = .ok (.invokevirtual 71, 3) := dk_182 0 71 (dk_at dksX5_line_3 0 rfl rfl)
theorem dX5_line_71 : decode cX5_line 71 = .ok (.ifCond .eq 11, 3) := dk_153 0 11 (dk_at dksX5_line_3 3 rfl rfl)
theorem dX5_line_74 : decode cX5_line 74 = .ok (.aload_n 0, 1) := dk_42 (dk_at dksX5_line_3 6 rfl rfl)
theorem dX5_line_75 : decode cX5_line 75 = .ok (.iconst 1, 1) := dk_4 (dk_at dksX5_line_3 7 rfl rfl)
theorem dX5_line_76 : decode cX5_line 76 = .ok (.invokevirtual 245, 3) := dk_182 0 245 (dk_at dksX5_line_3 8 rfl rfl)
theorem dX5_line_79 : decode cX5_line 79 = .ok (.goto 25, 3) := dk_167 0 25 (dk_at dksX5_line_3 11 rfl rfl)
theorem dX5_line_82 : decode cX5_line 82 = .ok (.aload_n 0, 1) := dk_42 (dk_at dksX5_line_3 14 rfl rfl)
theorem dX5_line_83 : decode cX5_line 83 = .ok (.ldc 250, 2) := dk_18 250 (dk_at dksX5_line_3 15 rfl rfl)
theorem dX5_line_85 : decode cX5_line 85 = .ok (.invokevirtual 71, 3) := dk_182 0 71 (dk_at dksX5_line_3 17 rfl rfl)
theorem dX5_line_88 : decode cX5_line 88 = .ok (.ifCond .eq 10, 3) := dk_153 0 10 (dk_at dksX5_line_3 20 rfl rfl)
theorem dX5_line_91 : decode cX5_line 91 = .ok (.aload_n 0, 1) := dk_42 (dk_at dksX5_line_3 23 rfl rfl)
theorem dX5_line_92 : decode cX5_line 92 = .ok (.invokevirtual 252, 3) := dk_182 0 252 (dk_at dksX5_line_4 0 rfl rfl)
theorem dX5_line_95 : decode cX5_line 95 = .ok (.goto 9, 3) := dk_167 0 9 (dk_at dksX5_line_4 3 rfl rfl)
theorem dX5_line_98 : decode cX5_line 98 = .ok (.aload_n 0, 1) := dk_42 (dk_at dksX5_line_4 6 rfl rfl)
theorem dX5_line_99 : decode cX5_line 99 = .ok (.iconst 1, 1) := dk_4 (dk_at dksX5_line_4 7 rfl rfl)
theorem dX5_line_100 : decode cX5_line 100 = .ok (.invokevirtual 78, 3) := dk_182 0 78 (dk_at dksX5_line_4 8 rfl rfl)
theorem dX5_line_103 : decode cX5_line 103 = .ok (.athrow, 1) := dk_191 (dk_at dksX5_line_4 11 rfl rfl)
theorem dX5_line_104 : decode cX5_line 104 = .ok (.return_, 1) := dk_177 (dk_at dksX5_line_4 12 rfl rfl)
abbrev cX5_wall : ByteArray := prog_11_method_13_code
def yX5_wall : MethodName := ⟨RX5, "wall", "()V"⟩
def dkwX5_wall_2 : List UInt8 := [27, 182, 0, 121, 104, 27, 96, 4, 84, 42, 180, 0, 12, 89, 180, 0, 109, 4, 96, 181, 0, 109, 177]
abbrev dktX5_wall_2 : List UInt8 := dkwX5_wall_2 ++ []
def dkwX5_wall_1 : List UInt8 := [3, 42, 180, 0, 12, 180, 0, 96, 4, 100, 182, 0, 93, 60, 42, 180, 0, 12, 180, 0, 117, 16, 20, 42]
abbrev dktX5_wall_1 : List UInt8 := dkwX5_wall_1 ++ dktX5_wall_2
def dkwX5_wall_0 : List UInt8 := [42, 42, 180, 0, 12, 180, 0, 109, 16, 12, 162, 0, 7, 4, 167, 0, 4, 3, 182, 0, 112, 42, 18, 116]
abbrev dktX5_wall_0 : List UInt8 := dkwX5_wall_0 ++ dktX5_wall_1
theorem dksX5_wall_0 : cX5_wall.data.toList.drop 0 = dktX5_wall_0 := by decide +kernel
theorem dksX5_wall_1 : cX5_wall.data.toList.drop 24 = dktX5_wall_1 := dk_seg dksX5_wall_0 24 rfl rfl
theorem dksX5_wall_2 : cX5_wall.data.toList.drop 48 = dktX5_wall_2 := dk_seg dksX5_wall_1 24 rfl rfl
theorem dX5_wall_0 : decode cX5_wall 0 = .ok (.aload_n 0, 1) := dk_42 (dk_at dksX5_wall_0 0 rfl rfl)
theorem dX5_wall_1 : decode cX5_wall 1 = .ok (.aload_n 0, 1) := dk_42 (dk_at dksX5_wall_0 1 rfl rfl)
theorem dX5_wall_2 : decode cX5_wall 2 = .ok (.getfield 12, 3) := dk_180 0 12 (dk_at dksX5_wall_0 2 rfl rfl)
theorem dX5_wall_5 : decode cX5_wall 5 = .ok (.getfield 109, 3) := dk_180 0 109 (dk_at dksX5_wall_0 5 rfl rfl)
theorem dX5_wall_8 : decode cX5_wall 8 = .ok (.bipush 12, 2) := dk_16 12 (dk_at dksX5_wall_0 8 rfl rfl)
theorem dX5_wall_10 : decode cX5_wall 10 = .ok (.if_icmp .ge 7, 3) := dk_162 0 7 (dk_at dksX5_wall_0 10 rfl rfl)
theorem dX5_wall_13 : decode cX5_wall 13 = .ok (.iconst 1, 1) := dk_4 (dk_at dksX5_wall_0 13 rfl rfl)
theorem dX5_wall_14 : decode cX5_wall 14 = .ok (.goto 4, 3) := dk_167 0 4 (dk_at dksX5_wall_0 14 rfl rfl)
theorem dX5_wall_17 : decode cX5_wall 17 = .ok (.iconst 0, 1) := dk_3 (dk_at dksX5_wall_0 17 rfl rfl)
theorem dX5_wall_18 : decode cX5_wall 18 = .ok (.invokevirtual 112, 3) := dk_182 0 112 (dk_at dksX5_wall_0 18 rfl rfl)
theorem dX5_wall_21 : decode cX5_wall 21 = .ok (.aload_n 0, 1) := dk_42 (dk_at dksX5_wall_0 21 rfl rfl)
theorem dX5_wall_22 : decode cX5_wall 22 = .ok (.ldc 116, 2) := dk_18 116 (dk_at dksX5_wall_0 22 rfl rfl)
theorem dX5_wall_24 : decode cX5_wall 24 = .ok (.iconst 0, 1) := dk_3 (dk_at dksX5_wall_1 0 rfl rfl)
theorem dX5_wall_25 : decode cX5_wall 25 = .ok (.aload_n 0, 1) := dk_42 (dk_at dksX5_wall_1 1 rfl rfl)
theorem dX5_wall_26 : decode cX5_wall 26 = .ok (.getfield 12, 3) := dk_180 0 12 (dk_at dksX5_wall_1 2 rfl rfl)
theorem dX5_wall_29 : decode cX5_wall 29 = .ok (.getfield 96, 3) := dk_180 0 96 (dk_at dksX5_wall_1 5 rfl rfl)
theorem dX5_wall_32 : decode cX5_wall 32 = .ok (.iconst 1, 1) := dk_4 (dk_at dksX5_wall_1 8 rfl rfl)
theorem dX5_wall_33 : decode cX5_wall 33 = .ok (.isub, 1) := dk_100 (dk_at dksX5_wall_1 9 rfl rfl)
theorem dX5_wall_34 : decode cX5_wall 34 = .ok (.invokevirtual 93, 3) := dk_182 0 93 (dk_at dksX5_wall_1 10 rfl rfl)
theorem dX5_wall_37 : decode cX5_wall 37 = .ok (.istore_n 1, 1) := dk_60 (dk_at dksX5_wall_1 13 rfl rfl)
theorem dX5_wall_38 : decode cX5_wall 38 = .ok (.aload_n 0, 1) := dk_42 (dk_at dksX5_wall_1 14 rfl rfl)
theorem dX5_wall_39 : decode cX5_wall 39 = .ok (.getfield 12, 3) := dk_180 0 12 (dk_at dksX5_wall_1 15 rfl rfl)
theorem dX5_wall_42 : decode cX5_wall 42 = .ok (.getfield 117, 3) := dk_180 0 117 (dk_at dksX5_wall_1 18 rfl rfl)
theorem dX5_wall_45 : decode cX5_wall 45 = .ok (.bipush 20, 2) := dk_16 20 (dk_at dksX5_wall_1 21 rfl rfl)
theorem dX5_wall_47 : decode cX5_wall 47 = .ok (.aload_n 0, 1) := dk_42 (dk_at dksX5_wall_1 23 rfl rfl)
theorem dX5_wall_48 : decode cX5_wall 48 = .ok (.iload_n 1, 1) := dk_27 (dk_at dksX5_wall_2 0 rfl rfl)
theorem dX5_wall_49 : decode cX5_wall 49 = .ok (.invokevirtual 121, 3) := dk_182 0 121 (dk_at dksX5_wall_2 1 rfl rfl)
theorem dX5_wall_52 : decode cX5_wall 52 = .ok (.imul, 1) := dk_104 (dk_at dksX5_wall_2 4 rfl rfl)
theorem dX5_wall_53 : decode cX5_wall 53 = .ok (.iload_n 1, 1) := dk_27 (dk_at dksX5_wall_2 5 rfl rfl)
theorem dX5_wall_54 : decode cX5_wall 54 = .ok (.iadd, 1) := dk_96 (dk_at dksX5_wall_2 6 rfl rfl)
theorem dX5_wall_55 : decode cX5_wall 55 = .ok (.iconst 1, 1) := dk_4 (dk_at dksX5_wall_2 7 rfl rfl)
theorem dX5_wall_56 : decode cX5_wall 56 = .ok (.bastore, 1) := dk_84 (dk_at dksX5_wall_2 8 rfl rfl)
theorem dX5_wall_57 : decode cX5_wall 57 = .ok (.aload_n 0, 1) := dk_42 (dk_at dksX5_wall_2 9 rfl rfl)
theorem dX5_wall_58 : decode cX5_wall 58 = .ok (.getfield 12, 3) := dk_180 0 12 (dk_at dksX5_wall_2 10 rfl rfl)
theorem dX5_wall_61 : decode cX5_wall 61 = .ok (.dup, 1) := dk_89 (dk_at dksX5_wall_2 13 rfl rfl)
theorem dX5_wall_62 : decode cX5_wall 62 = .ok (.getfield 109, 3) := dk_180 0 109 (dk_at dksX5_wall_2 14 rfl rfl)
theorem dX5_wall_65 : decode cX5_wall 65 = .ok (.iconst 1, 1) := dk_4 (dk_at dksX5_wall_2 17 rfl rfl)
theorem dX5_wall_66 : decode cX5_wall 66 = .ok (.iadd, 1) := dk_96 (dk_at dksX5_wall_2 18 rfl rfl)
theorem dX5_wall_67 : decode cX5_wall 67 = .ok (.putfield 109, 3) := dk_181 0 109 (dk_at dksX5_wall_2 19 rfl rfl)
theorem dX5_wall_70 : decode cX5_wall 70 = .ok (.return_, 1) := dk_177 (dk_at dksX5_wall_2 22 rfl rfl)
abbrev cX5_room : ByteArray := prog_11_method_10_code
def yX5_room : MethodName := ⟨RX5, "room", "(Z)V"⟩
def dkwX5_room_0 : List UInt8 := [27, 154, 0, 9, 42, 6, 182, 0, 78, 191, 42, 182, 0, 26, 177]
abbrev dktX5_room_0 : List UInt8 := dkwX5_room_0 ++ []
theorem dksX5_room_0 : cX5_room.data.toList.drop 0 = dktX5_room_0 := by decide +kernel
theorem dX5_room_0 : decode cX5_room 0 = .ok (.iload_n 1, 1) := dk_27 (dk_at dksX5_room_0 0 rfl rfl)
theorem dX5_room_1 : decode cX5_room 1 = .ok (.ifCond .ne 9, 3) := dk_154 0 9 (dk_at dksX5_room_0 1 rfl rfl)
theorem dX5_room_4 : decode cX5_room 4 = .ok (.aload_n 0, 1) := dk_42 (dk_at dksX5_room_0 4 rfl rfl)
theorem dX5_room_5 : decode cX5_room 5 = .ok (.iconst 3, 1) := dk_6 (dk_at dksX5_room_0 5 rfl rfl)
theorem dX5_room_6 : decode cX5_room 6 = .ok (.invokevirtual 78, 3) := dk_182 0 78 (dk_at dksX5_room_0 6 rfl rfl)
theorem dX5_room_9 : decode cX5_room 9 = .ok (.athrow, 1) := dk_191 (dk_at dksX5_room_0 9 rfl rfl)
theorem dX5_room_10 : decode cX5_room 10 = .ok (.aload_n 0, 1) := dk_42 (dk_at dksX5_room_0 10 rfl rfl)
theorem dX5_room_11 : decode cX5_room 11 = .ok (.invokevirtual 26, 3) := dk_182 0 26 (dk_at dksX5_room_0 11 rfl rfl)
theorem dX5_room_14 : decode cX5_room 14 = .ok (.return_, 1) := dk_177 (dk_at dksX5_room_0 14 rfl rfl)
abbrev cX5_free : ByteArray := prog_11_method_12_code
def yX5_free : MethodName := ⟨RX5, "free", "(I)I"⟩
def dkwX5_free_2 : List UInt8 := [180, 0, 12, 180, 0, 100, 4, 100, 182, 0, 86, 172]
abbrev dktX5_free_2 : List UInt8 := dkwX5_free_2 ++ []
def dkwX5_free_1 : List UInt8 := [180, 0, 12, 27, 42, 180, 0, 43, 182, 0, 106, 154, 0, 9, 42, 5, 182, 0, 78, 191, 42, 3, 42]
abbrev dktX5_free_1 : List UInt8 := dkwX5_free_1 ++ dktX5_free_2
def dkwX5_free_0 : List UInt8 := [42, 180, 0, 46, 5, 160, 0, 38, 42, 180, 0, 43, 42, 180, 0, 12, 180, 0, 100, 162, 0, 24, 42]
abbrev dktX5_free_0 : List UInt8 := dkwX5_free_0 ++ dktX5_free_1
theorem dksX5_free_0 : cX5_free.data.toList.drop 0 = dktX5_free_0 := by decide +kernel
theorem dksX5_free_1 : cX5_free.data.toList.drop 23 = dktX5_free_1 := dk_seg dksX5_free_0 23 rfl rfl
theorem dksX5_free_2 : cX5_free.data.toList.drop 46 = dktX5_free_2 := dk_seg dksX5_free_1 23 rfl rfl
theorem dX5_free_0 : decode cX5_free 0 = .ok (.aload_n 0, 1) := dk_42 (dk_at dksX5_free_0 0 rfl rfl)
theorem dX5_free_1 : decode cX5_free 1 = .ok (.getfield 46, 3) := dk_180 0 46 (dk_at dksX5_free_0 1 rfl rfl)
theorem dX5_free_4 : decode cX5_free 4 = .ok (.iconst 2, 1) := dk_5 (dk_at dksX5_free_0 4 rfl rfl)
theorem dX5_free_5 : decode cX5_free 5 = .ok (.if_icmp .ne 38, 3) := dk_160 0 38 (dk_at dksX5_free_0 5 rfl rfl)
theorem dX5_free_8 : decode cX5_free 8 = .ok (.aload_n 0, 1) := dk_42 (dk_at dksX5_free_0 8 rfl rfl)
theorem dX5_free_9 : decode cX5_free 9 = .ok (.getfield 43, 3) := dk_180 0 43 (dk_at dksX5_free_0 9 rfl rfl)
theorem dX5_free_12 : decode cX5_free 12 = .ok (.aload_n 0, 1) := dk_42 (dk_at dksX5_free_0 12 rfl rfl)
theorem dX5_free_13 : decode cX5_free 13 = .ok (.getfield 12, 3) := dk_180 0 12 (dk_at dksX5_free_0 13 rfl rfl)
theorem dX5_free_16 : decode cX5_free 16 = .ok (.getfield 100, 3) := dk_180 0 100 (dk_at dksX5_free_0 16 rfl rfl)
theorem dX5_free_19 : decode cX5_free 19 = .ok (.if_icmp .ge 24, 3) := dk_162 0 24 (dk_at dksX5_free_0 19 rfl rfl)
theorem dX5_free_22 : decode cX5_free 22 = .ok (.aload_n 0, 1) := dk_42 (dk_at dksX5_free_0 22 rfl rfl)
theorem dX5_free_23 : decode cX5_free 23 = .ok (.getfield 12, 3) := dk_180 0 12 (dk_at dksX5_free_1 0 rfl rfl)
theorem dX5_free_26 : decode cX5_free 26 = .ok (.iload_n 1, 1) := dk_27 (dk_at dksX5_free_1 3 rfl rfl)
theorem dX5_free_27 : decode cX5_free 27 = .ok (.aload_n 0, 1) := dk_42 (dk_at dksX5_free_1 4 rfl rfl)
theorem dX5_free_28 : decode cX5_free 28 = .ok (.getfield 43, 3) := dk_180 0 43 (dk_at dksX5_free_1 5 rfl rfl)
theorem dX5_free_31 : decode cX5_free 31 = .ok (.invokevirtual 106, 3) := dk_182 0 106 (dk_at dksX5_free_1 8 rfl rfl)
theorem dX5_free_34 : decode cX5_free 34 = .ok (.ifCond .ne 9, 3) := dk_154 0 9 (dk_at dksX5_free_1 11 rfl rfl)
theorem dX5_free_37 : decode cX5_free 37 = .ok (.aload_n 0, 1) := dk_42 (dk_at dksX5_free_1 14 rfl rfl)
theorem dX5_free_38 : decode cX5_free 38 = .ok (.iconst 2, 1) := dk_5 (dk_at dksX5_free_1 15 rfl rfl)
theorem dX5_free_39 : decode cX5_free 39 = .ok (.invokevirtual 78, 3) := dk_182 0 78 (dk_at dksX5_free_1 16 rfl rfl)
theorem dX5_free_42 : decode cX5_free 42 = .ok (.athrow, 1) := dk_191 (dk_at dksX5_free_1 19 rfl rfl)
theorem dX5_free_43 : decode cX5_free 43 = .ok (.aload_n 0, 1) := dk_42 (dk_at dksX5_free_1 20 rfl rfl)
theorem dX5_free_44 : decode cX5_free 44 = .ok (.iconst 0, 1) := dk_3 (dk_at dksX5_free_1 21 rfl rfl)
theorem dX5_free_45 : decode cX5_free 45 = .ok (.aload_n 0, 1) := dk_42 (dk_at dksX5_free_1 22 rfl rfl)
theorem dX5_free_46 : decode cX5_free 46 = .ok (.getfield 12, 3) := dk_180 0 12 (dk_at dksX5_free_2 0 rfl rfl)
theorem dX5_free_49 : decode cX5_free 49 = .ok (.getfield 100, 3) := dk_180 0 100 (dk_at dksX5_free_2 3 rfl rfl)
theorem dX5_free_52 : decode cX5_free 52 = .ok (.iconst 1, 1) := dk_4 (dk_at dksX5_free_2 6 rfl rfl)
theorem dX5_free_53 : decode cX5_free 53 = .ok (.isub, 1) := dk_100 (dk_at dksX5_free_2 7 rfl rfl)
theorem dX5_free_54 : decode cX5_free 54 = .ok (.invokevirtual 86, 3) := dk_182 0 86 (dk_at dksX5_free_2 8 rfl rfl)
theorem dX5_free_57 : decode cX5_free 57 = .ok (.ireturn, 1) := dk_172 (dk_at dksX5_free_2 11 rfl rfl)
abbrev cX5_clock : ByteArray := prog_11_method_14_code
def yX5_clock : MethodName := ⟨RX5, "clock", "()V"⟩
def dkwX5_clock_5 : List UInt8 := [185, 0, 147, 2, 0, 87, 177]
abbrev dktX5_clock_5 : List UInt8 := dkwX5_clock_5 ++ []
def dkwX5_clock_4 : List UInt8 := [27, 28, 29, 21, 4, 21, 5, 42, 18, 142, 3, 21, 5, 4, 100, 182, 0, 93, 183, 0, 144]
abbrev dktX5_clock_4 : List UInt8 := dkwX5_clock_4 ++ dktX5_clock_5
def dkwX5_clock_3 : List UInt8 := [54, 4, 42, 18, 138, 5, 16, 60, 182, 0, 93, 54, 5, 42, 180, 0, 12, 180, 0, 125, 187, 0, 140, 89]
abbrev dktX5_clock_3 : List UInt8 := dkwX5_clock_3 ++ dktX5_clock_4
def dkwX5_clock_2 : List UInt8 := [182, 0, 121, 61, 42, 18, 134, 3, 16, 60, 182, 0, 93, 62, 42, 18, 136, 4, 16, 12, 182, 0, 93]
abbrev dktX5_clock_2 : List UInt8 := dkwX5_clock_2 ++ dktX5_clock_3
def dkwX5_clock_1 : List UInt8 := [182, 0, 112, 42, 18, 116, 3, 42, 180, 0, 12, 180, 0, 96, 4, 100, 182, 0, 93, 60, 42, 27]
abbrev dktX5_clock_1 : List UInt8 := dkwX5_clock_1 ++ dktX5_clock_2
def dkwX5_clock_0 : List UInt8 := [42, 42, 180, 0, 12, 180, 0, 125, 185, 0, 129, 1, 0, 7, 162, 0, 7, 4, 167, 0, 4, 3]
abbrev dktX5_clock_0 : List UInt8 := dkwX5_clock_0 ++ dktX5_clock_1
theorem dksX5_clock_0 : cX5_clock.data.toList.drop 0 = dktX5_clock_0 := by decide +kernel
theorem dksX5_clock_1 : cX5_clock.data.toList.drop 22 = dktX5_clock_1 := dk_seg dksX5_clock_0 22 rfl rfl
theorem dksX5_clock_2 : cX5_clock.data.toList.drop 44 = dktX5_clock_2 := dk_seg dksX5_clock_1 22 rfl rfl
theorem dksX5_clock_3 : cX5_clock.data.toList.drop 67 = dktX5_clock_3 := dk_seg dksX5_clock_2 23 rfl rfl
theorem dksX5_clock_4 : cX5_clock.data.toList.drop 91 = dktX5_clock_4 := dk_seg dksX5_clock_3 24 rfl rfl
theorem dksX5_clock_5 : cX5_clock.data.toList.drop 112 = dktX5_clock_5 := dk_seg dksX5_clock_4 21 rfl rfl
theorem dX5_clock_0 : decode cX5_clock 0 = .ok (.aload_n 0, 1) := dk_42 (dk_at dksX5_clock_0 0 rfl rfl)
theorem dX5_clock_1 : decode cX5_clock 1 = .ok (.aload_n 0, 1) := dk_42 (dk_at dksX5_clock_0 1 rfl rfl)
theorem dX5_clock_2 : decode cX5_clock 2 = .ok (.getfield 12, 3) := dk_180 0 12 (dk_at dksX5_clock_0 2 rfl rfl)
theorem dX5_clock_5 : decode cX5_clock 5 = .ok (.getfield 125, 3) := dk_180 0 125 (dk_at dksX5_clock_0 5 rfl rfl)
theorem dX5_clock_8 : decode cX5_clock 8 = .ok (.invokeinterface 129 1, 5) := by decide +kernel
theorem dX5_clock_13 : decode cX5_clock 13 = .ok (.iconst 4, 1) := dk_7 (dk_at dksX5_clock_0 13 rfl rfl)
theorem dX5_clock_14 : decode cX5_clock 14 = .ok (.if_icmp .ge 7, 3) := dk_162 0 7 (dk_at dksX5_clock_0 14 rfl rfl)
theorem dX5_clock_17 : decode cX5_clock 17 = .ok (.iconst 1, 1) := dk_4 (dk_at dksX5_clock_0 17 rfl rfl)
theorem dX5_clock_18 : decode cX5_clock 18 = .ok (.goto 4, 3) := dk_167 0 4 (dk_at dksX5_clock_0 18 rfl rfl)
theorem dX5_clock_21 : decode cX5_clock 21 = .ok (.iconst 0, 1) := dk_3 (dk_at dksX5_clock_0 21 rfl rfl)
theorem dX5_clock_22 : decode cX5_clock 22 = .ok (.invokevirtual 112, 3) := dk_182 0 112 (dk_at dksX5_clock_1 0 rfl rfl)
theorem dX5_clock_25 : decode cX5_clock 25 = .ok (.aload_n 0, 1) := dk_42 (dk_at dksX5_clock_1 3 rfl rfl)
theorem dX5_clock_26 : decode cX5_clock 26 = .ok (.ldc 116, 2) := dk_18 116 (dk_at dksX5_clock_1 4 rfl rfl)
theorem dX5_clock_28 : decode cX5_clock 28 = .ok (.iconst 0, 1) := dk_3 (dk_at dksX5_clock_1 6 rfl rfl)
theorem dX5_clock_29 : decode cX5_clock 29 = .ok (.aload_n 0, 1) := dk_42 (dk_at dksX5_clock_1 7 rfl rfl)
theorem dX5_clock_30 : decode cX5_clock 30 = .ok (.getfield 12, 3) := dk_180 0 12 (dk_at dksX5_clock_1 8 rfl rfl)
theorem dX5_clock_33 : decode cX5_clock 33 = .ok (.getfield 96, 3) := dk_180 0 96 (dk_at dksX5_clock_1 11 rfl rfl)
theorem dX5_clock_36 : decode cX5_clock 36 = .ok (.iconst 1, 1) := dk_4 (dk_at dksX5_clock_1 14 rfl rfl)
theorem dX5_clock_37 : decode cX5_clock 37 = .ok (.isub, 1) := dk_100 (dk_at dksX5_clock_1 15 rfl rfl)
theorem dX5_clock_38 : decode cX5_clock 38 = .ok (.invokevirtual 93, 3) := dk_182 0 93 (dk_at dksX5_clock_1 16 rfl rfl)
theorem dX5_clock_41 : decode cX5_clock 41 = .ok (.istore_n 1, 1) := dk_60 (dk_at dksX5_clock_1 19 rfl rfl)
theorem dX5_clock_42 : decode cX5_clock 42 = .ok (.aload_n 0, 1) := dk_42 (dk_at dksX5_clock_1 20 rfl rfl)
theorem dX5_clock_43 : decode cX5_clock 43 = .ok (.iload_n 1, 1) := dk_27 (dk_at dksX5_clock_1 21 rfl rfl)
theorem dX5_clock_44 : decode cX5_clock 44 = .ok (.invokevirtual 121, 3) := dk_182 0 121 (dk_at dksX5_clock_2 0 rfl rfl)
theorem dX5_clock_47 : decode cX5_clock 47 = .ok (.istore_n 2, 1) := dk_61 (dk_at dksX5_clock_2 3 rfl rfl)
theorem dX5_clock_48 : decode cX5_clock 48 = .ok (.aload_n 0, 1) := dk_42 (dk_at dksX5_clock_2 4 rfl rfl)
theorem dX5_clock_49 : decode cX5_clock 49 = .ok (.ldc 134, 2) := dk_18 134 (dk_at dksX5_clock_2 5 rfl rfl)
theorem dX5_clock_51 : decode cX5_clock 51 = .ok (.iconst 0, 1) := dk_3 (dk_at dksX5_clock_2 7 rfl rfl)
theorem dX5_clock_52 : decode cX5_clock 52 = .ok (.bipush 60, 2) := dk_16 60 (dk_at dksX5_clock_2 8 rfl rfl)
theorem dX5_clock_54 : decode cX5_clock 54 = .ok (.invokevirtual 93, 3) := dk_182 0 93 (dk_at dksX5_clock_2 10 rfl rfl)
theorem dX5_clock_57 : decode cX5_clock 57 = .ok (.istore_n 3, 1) := dk_62 (dk_at dksX5_clock_2 13 rfl rfl)
theorem dX5_clock_58 : decode cX5_clock 58 = .ok (.aload_n 0, 1) := dk_42 (dk_at dksX5_clock_2 14 rfl rfl)
theorem dX5_clock_59 : decode cX5_clock 59 = .ok (.ldc 136, 2) := dk_18 136 (dk_at dksX5_clock_2 15 rfl rfl)
theorem dX5_clock_61 : decode cX5_clock 61 = .ok (.iconst 1, 1) := dk_4 (dk_at dksX5_clock_2 17 rfl rfl)
theorem dX5_clock_62 : decode cX5_clock 62 = .ok (.bipush 12, 2) := dk_16 12 (dk_at dksX5_clock_2 18 rfl rfl)
theorem dX5_clock_64 : decode cX5_clock 64 = .ok (.invokevirtual 93, 3) := dk_182 0 93 (dk_at dksX5_clock_2 20 rfl rfl)
theorem dX5_clock_67 : decode cX5_clock 67 = .ok (.istore 4, 2) := dk_54 4 (dk_at dksX5_clock_3 0 rfl rfl)
theorem dX5_clock_69 : decode cX5_clock 69 = .ok (.aload_n 0, 1) := dk_42 (dk_at dksX5_clock_3 2 rfl rfl)
theorem dX5_clock_70 : decode cX5_clock 70 = .ok (.ldc 138, 2) := dk_18 138 (dk_at dksX5_clock_3 3 rfl rfl)
theorem dX5_clock_72 : decode cX5_clock 72 = .ok (.iconst 2, 1) := dk_5 (dk_at dksX5_clock_3 5 rfl rfl)
theorem dX5_clock_73 : decode cX5_clock 73 = .ok (.bipush 60, 2) := dk_16 60 (dk_at dksX5_clock_3 6 rfl rfl)
theorem dX5_clock_75 : decode cX5_clock 75 = .ok (.invokevirtual 93, 3) := dk_182 0 93 (dk_at dksX5_clock_3 8 rfl rfl)
theorem dX5_clock_78 : decode cX5_clock 78 = .ok (.istore 5, 2) := dk_54 5 (dk_at dksX5_clock_3 11 rfl rfl)
theorem dX5_clock_80 : decode cX5_clock 80 = .ok (.aload_n 0, 1) := dk_42 (dk_at dksX5_clock_3 13 rfl rfl)
theorem dX5_clock_81 : decode cX5_clock 81 = .ok (.getfield 12, 3) := dk_180 0 12 (dk_at dksX5_clock_3 14 rfl rfl)
theorem dX5_clock_84 : decode cX5_clock 84 = .ok (.getfield 125, 3) := dk_180 0 125 (dk_at dksX5_clock_3 17 rfl rfl)
theorem dX5_clock_87 : decode cX5_clock 87 = .ok (.new 140, 3) := dk_187 0 140 (dk_at dksX5_clock_3 20 rfl rfl)
theorem dX5_clock_90 : decode cX5_clock 90 = .ok (.dup, 1) := dk_89 (dk_at dksX5_clock_3 23 rfl rfl)
theorem dX5_clock_91 : decode cX5_clock 91 = .ok (.iload_n 1, 1) := dk_27 (dk_at dksX5_clock_4 0 rfl rfl)
theorem dX5_clock_92 : decode cX5_clock 92 = .ok (.iload_n 2, 1) := dk_28 (dk_at dksX5_clock_4 1 rfl rfl)
theorem dX5_clock_93 : decode cX5_clock 93 = .ok (.iload_n 3, 1) := dk_29 (dk_at dksX5_clock_4 2 rfl rfl)
theorem dX5_clock_94 : decode cX5_clock 94 = .ok (.iload 4, 2) := dk_21 4 (dk_at dksX5_clock_4 3 rfl rfl)
theorem dX5_clock_96 : decode cX5_clock 96 = .ok (.iload 5, 2) := dk_21 5 (dk_at dksX5_clock_4 5 rfl rfl)
theorem dX5_clock_98 : decode cX5_clock 98 = .ok (.aload_n 0, 1) := dk_42 (dk_at dksX5_clock_4 7 rfl rfl)
theorem dX5_clock_99 : decode cX5_clock 99 = .ok (.ldc 142, 2) := dk_18 142 (dk_at dksX5_clock_4 8 rfl rfl)
theorem dX5_clock_101 : decode cX5_clock 101 = .ok (.iconst 0, 1) := dk_3 (dk_at dksX5_clock_4 10 rfl rfl)
theorem dX5_clock_102 : decode cX5_clock 102 = .ok (.iload 5, 2) := dk_21 5 (dk_at dksX5_clock_4 11 rfl rfl)
theorem dX5_clock_104 : decode cX5_clock 104 = .ok (.iconst 1, 1) := dk_4 (dk_at dksX5_clock_4 13 rfl rfl)
theorem dX5_clock_105 : decode cX5_clock 105 = .ok (.isub, 1) := dk_100 (dk_at dksX5_clock_4 14 rfl rfl)
theorem dX5_clock_106 : decode cX5_clock 106 = .ok (.invokevirtual 93, 3) := dk_182 0 93 (dk_at dksX5_clock_4 15 rfl rfl)
theorem dX5_clock_109 : decode cX5_clock 109 = .ok (.invokespecial 144, 3) := dk_183 0 144 (dk_at dksX5_clock_4 18 rfl rfl)
theorem dX5_clock_112 : decode cX5_clock 112 = .ok (.invokeinterface 147 2, 5) := by decide +kernel
theorem dX5_clock_117 : decode cX5_clock 117 = .ok (.pop, 1) := dk_87 (dk_at dksX5_clock_5 5 rfl rfl)
theorem dX5_clock_118 : decode cX5_clock 118 = .ok (.return_, 1) := dk_177 (dk_at dksX5_clock_5 6 rfl rfl)
abbrev cX5_person : ByteArray := prog_11_method_15_code
def yX5_person : MethodName := ⟨RX5, "person", "()V"⟩
def dkwX5_person_3 : List UInt8 := [180, 0, 12, 180, 0, 104, 4, 100, 182, 0, 93, 183, 0, 156, 185, 0, 147, 2, 0, 87, 177]
abbrev dktX5_person_3 : List UInt8 := dkwX5_person_3 ++ []
def dkwX5_person_2 : List UInt8 := [182, 0, 121, 61, 42, 180, 0, 12, 180, 0, 151, 187, 0, 154, 89, 27, 28, 42, 18, 142, 3, 42]
abbrev dktX5_person_2 : List UInt8 := dkwX5_person_2 ++ dktX5_person_3
def dkwX5_person_1 : List UInt8 := [182, 0, 112, 42, 18, 116, 3, 42, 180, 0, 12, 180, 0, 96, 4, 100, 182, 0, 93, 60, 42, 27]
abbrev dktX5_person_1 : List UInt8 := dkwX5_person_1 ++ dktX5_person_2
def dkwX5_person_0 : List UInt8 := [42, 42, 180, 0, 12, 180, 0, 151, 185, 0, 129, 1, 0, 16, 8, 162, 0, 7, 4, 167, 0, 4, 3]
abbrev dktX5_person_0 : List UInt8 := dkwX5_person_0 ++ dktX5_person_1
theorem dksX5_person_0 : cX5_person.data.toList.drop 0 = dktX5_person_0 := by decide +kernel
theorem dksX5_person_1 : cX5_person.data.toList.drop 23 = dktX5_person_1 := dk_seg dksX5_person_0 23 rfl rfl
theorem dksX5_person_2 : cX5_person.data.toList.drop 45 = dktX5_person_2 := dk_seg dksX5_person_1 22 rfl rfl
theorem dksX5_person_3 : cX5_person.data.toList.drop 67 = dktX5_person_3 := dk_seg dksX5_person_2 22 rfl rfl
theorem dX5_person_0 : decode cX5_person 0 = .ok (.aload_n 0, 1) := dk_42 (dk_at dksX5_person_0 0 rfl rfl)
theorem dX5_person_1 : decode cX5_person 1 = .ok (.aload_n 0, 1) := dk_42 (dk_at dksX5_person_0 1 rfl rfl)
theorem dX5_person_2 : decode cX5_person 2 = .ok (.getfield 12, 3) := dk_180 0 12 (dk_at dksX5_person_0 2 rfl rfl)
theorem dX5_person_5 : decode cX5_person 5 = .ok (.getfield 151, 3) := dk_180 0 151 (dk_at dksX5_person_0 5 rfl rfl)
theorem dX5_person_8 : decode cX5_person 8 = .ok (.invokeinterface 129 1, 5) := by decide +kernel
theorem dX5_person_13 : decode cX5_person 13 = .ok (.bipush 8, 2) := dk_16 8 (dk_at dksX5_person_0 13 rfl rfl)
theorem dX5_person_15 : decode cX5_person 15 = .ok (.if_icmp .ge 7, 3) := dk_162 0 7 (dk_at dksX5_person_0 15 rfl rfl)
theorem dX5_person_18 : decode cX5_person 18 = .ok (.iconst 1, 1) := dk_4 (dk_at dksX5_person_0 18 rfl rfl)
theorem dX5_person_19 : decode cX5_person 19 = .ok (.goto 4, 3) := dk_167 0 4 (dk_at dksX5_person_0 19 rfl rfl)
theorem dX5_person_22 : decode cX5_person 22 = .ok (.iconst 0, 1) := dk_3 (dk_at dksX5_person_0 22 rfl rfl)
theorem dX5_person_23 : decode cX5_person 23 = .ok (.invokevirtual 112, 3) := dk_182 0 112 (dk_at dksX5_person_1 0 rfl rfl)
theorem dX5_person_26 : decode cX5_person 26 = .ok (.aload_n 0, 1) := dk_42 (dk_at dksX5_person_1 3 rfl rfl)
theorem dX5_person_27 : decode cX5_person 27 = .ok (.ldc 116, 2) := dk_18 116 (dk_at dksX5_person_1 4 rfl rfl)
theorem dX5_person_29 : decode cX5_person 29 = .ok (.iconst 0, 1) := dk_3 (dk_at dksX5_person_1 6 rfl rfl)
theorem dX5_person_30 : decode cX5_person 30 = .ok (.aload_n 0, 1) := dk_42 (dk_at dksX5_person_1 7 rfl rfl)
theorem dX5_person_31 : decode cX5_person 31 = .ok (.getfield 12, 3) := dk_180 0 12 (dk_at dksX5_person_1 8 rfl rfl)
theorem dX5_person_34 : decode cX5_person 34 = .ok (.getfield 96, 3) := dk_180 0 96 (dk_at dksX5_person_1 11 rfl rfl)
theorem dX5_person_37 : decode cX5_person 37 = .ok (.iconst 1, 1) := dk_4 (dk_at dksX5_person_1 14 rfl rfl)
theorem dX5_person_38 : decode cX5_person 38 = .ok (.isub, 1) := dk_100 (dk_at dksX5_person_1 15 rfl rfl)
theorem dX5_person_39 : decode cX5_person 39 = .ok (.invokevirtual 93, 3) := dk_182 0 93 (dk_at dksX5_person_1 16 rfl rfl)
theorem dX5_person_42 : decode cX5_person 42 = .ok (.istore_n 1, 1) := dk_60 (dk_at dksX5_person_1 19 rfl rfl)
theorem dX5_person_43 : decode cX5_person 43 = .ok (.aload_n 0, 1) := dk_42 (dk_at dksX5_person_1 20 rfl rfl)
theorem dX5_person_44 : decode cX5_person 44 = .ok (.iload_n 1, 1) := dk_27 (dk_at dksX5_person_1 21 rfl rfl)
theorem dX5_person_45 : decode cX5_person 45 = .ok (.invokevirtual 121, 3) := dk_182 0 121 (dk_at dksX5_person_2 0 rfl rfl)
theorem dX5_person_48 : decode cX5_person 48 = .ok (.istore_n 2, 1) := dk_61 (dk_at dksX5_person_2 3 rfl rfl)
theorem dX5_person_49 : decode cX5_person 49 = .ok (.aload_n 0, 1) := dk_42 (dk_at dksX5_person_2 4 rfl rfl)
theorem dX5_person_50 : decode cX5_person 50 = .ok (.getfield 12, 3) := dk_180 0 12 (dk_at dksX5_person_2 5 rfl rfl)
theorem dX5_person_53 : decode cX5_person 53 = .ok (.getfield 151, 3) := dk_180 0 151 (dk_at dksX5_person_2 8 rfl rfl)
theorem dX5_person_56 : decode cX5_person 56 = .ok (.new 154, 3) := dk_187 0 154 (dk_at dksX5_person_2 11 rfl rfl)
theorem dX5_person_59 : decode cX5_person 59 = .ok (.dup, 1) := dk_89 (dk_at dksX5_person_2 14 rfl rfl)
theorem dX5_person_60 : decode cX5_person 60 = .ok (.iload_n 1, 1) := dk_27 (dk_at dksX5_person_2 15 rfl rfl)
theorem dX5_person_61 : decode cX5_person 61 = .ok (.iload_n 2, 1) := dk_28 (dk_at dksX5_person_2 16 rfl rfl)
theorem dX5_person_62 : decode cX5_person 62 = .ok (.aload_n 0, 1) := dk_42 (dk_at dksX5_person_2 17 rfl rfl)
theorem dX5_person_63 : decode cX5_person 63 = .ok (.ldc 142, 2) := dk_18 142 (dk_at dksX5_person_2 18 rfl rfl)
theorem dX5_person_65 : decode cX5_person 65 = .ok (.iconst 0, 1) := dk_3 (dk_at dksX5_person_2 20 rfl rfl)
theorem dX5_person_66 : decode cX5_person 66 = .ok (.aload_n 0, 1) := dk_42 (dk_at dksX5_person_2 21 rfl rfl)
theorem dX5_person_67 : decode cX5_person 67 = .ok (.getfield 12, 3) := dk_180 0 12 (dk_at dksX5_person_3 0 rfl rfl)
theorem dX5_person_70 : decode cX5_person 70 = .ok (.getfield 104, 3) := dk_180 0 104 (dk_at dksX5_person_3 3 rfl rfl)
theorem dX5_person_73 : decode cX5_person 73 = .ok (.iconst 1, 1) := dk_4 (dk_at dksX5_person_3 6 rfl rfl)
theorem dX5_person_74 : decode cX5_person 74 = .ok (.isub, 1) := dk_100 (dk_at dksX5_person_3 7 rfl rfl)
theorem dX5_person_75 : decode cX5_person 75 = .ok (.invokevirtual 93, 3) := dk_182 0 93 (dk_at dksX5_person_3 8 rfl rfl)
theorem dX5_person_78 : decode cX5_person 78 = .ok (.invokespecial 156, 3) := dk_183 0 156 (dk_at dksX5_person_3 11 rfl rfl)
theorem dX5_person_81 : decode cX5_person 81 = .ok (.invokeinterface 147 2, 5) := by decide +kernel
theorem dX5_person_86 : decode cX5_person 86 = .ok (.pop, 1) := dk_87 (dk_at dksX5_person_3 19 rfl rfl)
theorem dX5_person_87 : decode cX5_person 87 = .ok (.return_, 1) := dk_177 (dk_at dksX5_person_3 20 rfl rfl)
abbrev cX5_leg : ByteArray := prog_11_method_17_code
def yX5_leg : MethodName := ⟨RX5, "leg", "(Z)V"⟩
def dkwX5_leg_3 : List UInt8 := [180, 0, 171, 4, 96, 181, 0, 171, 177]
abbrev dktX5_leg_3 : List UInt8 := dkwX5_leg_3 ++ []
def dkwX5_leg_2 : List UInt8 := [44, 180, 0, 171, 42, 4, 27, 153, 0, 8, 16, 40, 167, 0, 5, 16, 12, 182, 0, 86, 79, 44, 89]
abbrev dktX5_leg_2 : List UInt8 := dkwX5_leg_2 ++ dktX5_leg_3
def dkwX5_leg_1 : List UInt8 := [180, 0, 174, 44, 180, 0, 171, 27, 153, 0, 7, 2, 167, 0, 7, 42, 182, 0, 178, 79, 44, 180, 0, 180]
abbrev dktX5_leg_1 : List UInt8 := dkwX5_leg_1 ++ dktX5_leg_2
def dkwX5_leg_0 : List UInt8 := [42, 182, 0, 167, 77, 42, 44, 180, 0, 171, 16, 6, 162, 0, 7, 4, 167, 0, 4, 3, 182, 0, 112, 44]
abbrev dktX5_leg_0 : List UInt8 := dkwX5_leg_0 ++ dktX5_leg_1
theorem dksX5_leg_0 : cX5_leg.data.toList.drop 0 = dktX5_leg_0 := by decide +kernel
theorem dksX5_leg_1 : cX5_leg.data.toList.drop 24 = dktX5_leg_1 := dk_seg dksX5_leg_0 24 rfl rfl
theorem dksX5_leg_2 : cX5_leg.data.toList.drop 48 = dktX5_leg_2 := dk_seg dksX5_leg_1 24 rfl rfl
theorem dksX5_leg_3 : cX5_leg.data.toList.drop 71 = dktX5_leg_3 := dk_seg dksX5_leg_2 23 rfl rfl
theorem dX5_leg_0 : decode cX5_leg 0 = .ok (.aload_n 0, 1) := dk_42 (dk_at dksX5_leg_0 0 rfl rfl)
theorem dX5_leg_1 : decode cX5_leg 1 = .ok (.invokevirtual 167, 3) := dk_182 0 167 (dk_at dksX5_leg_0 1 rfl rfl)
theorem dX5_leg_4 : decode cX5_leg 4 = .ok (.astore_n 2, 1) := dk_77 (dk_at dksX5_leg_0 4 rfl rfl)
theorem dX5_leg_5 : decode cX5_leg 5 = .ok (.aload_n 0, 1) := dk_42 (dk_at dksX5_leg_0 5 rfl rfl)
theorem dX5_leg_6 : decode cX5_leg 6 = .ok (.aload_n 2, 1) := dk_44 (dk_at dksX5_leg_0 6 rfl rfl)
theorem dX5_leg_7 : decode cX5_leg 7 = .ok (.getfield 171, 3) := dk_180 0 171 (dk_at dksX5_leg_0 7 rfl rfl)
theorem dX5_leg_10 : decode cX5_leg 10 = .ok (.bipush 6, 2) := dk_16 6 (dk_at dksX5_leg_0 10 rfl rfl)
theorem dX5_leg_12 : decode cX5_leg 12 = .ok (.if_icmp .ge 7, 3) := dk_162 0 7 (dk_at dksX5_leg_0 12 rfl rfl)
theorem dX5_leg_15 : decode cX5_leg 15 = .ok (.iconst 1, 1) := dk_4 (dk_at dksX5_leg_0 15 rfl rfl)
theorem dX5_leg_16 : decode cX5_leg 16 = .ok (.goto 4, 3) := dk_167 0 4 (dk_at dksX5_leg_0 16 rfl rfl)
theorem dX5_leg_19 : decode cX5_leg 19 = .ok (.iconst 0, 1) := dk_3 (dk_at dksX5_leg_0 19 rfl rfl)
theorem dX5_leg_20 : decode cX5_leg 20 = .ok (.invokevirtual 112, 3) := dk_182 0 112 (dk_at dksX5_leg_0 20 rfl rfl)
theorem dX5_leg_23 : decode cX5_leg 23 = .ok (.aload_n 2, 1) := dk_44 (dk_at dksX5_leg_0 23 rfl rfl)
theorem dX5_leg_24 : decode cX5_leg 24 = .ok (.getfield 174, 3) := dk_180 0 174 (dk_at dksX5_leg_1 0 rfl rfl)
theorem dX5_leg_27 : decode cX5_leg 27 = .ok (.aload_n 2, 1) := dk_44 (dk_at dksX5_leg_1 3 rfl rfl)
theorem dX5_leg_28 : decode cX5_leg 28 = .ok (.getfield 171, 3) := dk_180 0 171 (dk_at dksX5_leg_1 4 rfl rfl)
theorem dX5_leg_31 : decode cX5_leg 31 = .ok (.iload_n 1, 1) := dk_27 (dk_at dksX5_leg_1 7 rfl rfl)
theorem dX5_leg_32 : decode cX5_leg 32 = .ok (.ifCond .eq 7, 3) := dk_153 0 7 (dk_at dksX5_leg_1 8 rfl rfl)
theorem dX5_leg_35 : decode cX5_leg 35 = .ok (.iconst (-1), 1) := dk_2 (dk_at dksX5_leg_1 11 rfl rfl)
theorem dX5_leg_36 : decode cX5_leg 36 = .ok (.goto 7, 3) := dk_167 0 7 (dk_at dksX5_leg_1 12 rfl rfl)
theorem dX5_leg_39 : decode cX5_leg 39 = .ok (.aload_n 0, 1) := dk_42 (dk_at dksX5_leg_1 15 rfl rfl)
theorem dX5_leg_40 : decode cX5_leg 40 = .ok (.invokevirtual 178, 3) := dk_182 0 178 (dk_at dksX5_leg_1 16 rfl rfl)
theorem dX5_leg_43 : decode cX5_leg 43 = .ok (.iastore, 1) := dk_79 (dk_at dksX5_leg_1 19 rfl rfl)
theorem dX5_leg_44 : decode cX5_leg 44 = .ok (.aload_n 2, 1) := dk_44 (dk_at dksX5_leg_1 20 rfl rfl)
theorem dX5_leg_45 : decode cX5_leg 45 = .ok (.getfield 180, 3) := dk_180 0 180 (dk_at dksX5_leg_1 21 rfl rfl)
theorem dX5_leg_48 : decode cX5_leg 48 = .ok (.aload_n 2, 1) := dk_44 (dk_at dksX5_leg_2 0 rfl rfl)
theorem dX5_leg_49 : decode cX5_leg 49 = .ok (.getfield 171, 3) := dk_180 0 171 (dk_at dksX5_leg_2 1 rfl rfl)
theorem dX5_leg_52 : decode cX5_leg 52 = .ok (.aload_n 0, 1) := dk_42 (dk_at dksX5_leg_2 4 rfl rfl)
theorem dX5_leg_53 : decode cX5_leg 53 = .ok (.iconst 1, 1) := dk_4 (dk_at dksX5_leg_2 5 rfl rfl)
theorem dX5_leg_54 : decode cX5_leg 54 = .ok (.iload_n 1, 1) := dk_27 (dk_at dksX5_leg_2 6 rfl rfl)
theorem dX5_leg_55 : decode cX5_leg 55 = .ok (.ifCond .eq 8, 3) := dk_153 0 8 (dk_at dksX5_leg_2 7 rfl rfl)
theorem dX5_leg_58 : decode cX5_leg 58 = .ok (.bipush 40, 2) := dk_16 40 (dk_at dksX5_leg_2 10 rfl rfl)
theorem dX5_leg_60 : decode cX5_leg 60 = .ok (.goto 5, 3) := dk_167 0 5 (dk_at dksX5_leg_2 12 rfl rfl)
theorem dX5_leg_63 : decode cX5_leg 63 = .ok (.bipush 12, 2) := dk_16 12 (dk_at dksX5_leg_2 15 rfl rfl)
theorem dX5_leg_65 : decode cX5_leg 65 = .ok (.invokevirtual 86, 3) := dk_182 0 86 (dk_at dksX5_leg_2 17 rfl rfl)
theorem dX5_leg_68 : decode cX5_leg 68 = .ok (.iastore, 1) := dk_79 (dk_at dksX5_leg_2 20 rfl rfl)
theorem dX5_leg_69 : decode cX5_leg 69 = .ok (.aload_n 2, 1) := dk_44 (dk_at dksX5_leg_2 21 rfl rfl)
theorem dX5_leg_70 : decode cX5_leg 70 = .ok (.dup, 1) := dk_89 (dk_at dksX5_leg_2 22 rfl rfl)
theorem dX5_leg_71 : decode cX5_leg 71 = .ok (.getfield 171, 3) := dk_180 0 171 (dk_at dksX5_leg_3 0 rfl rfl)
theorem dX5_leg_74 : decode cX5_leg 74 = .ok (.iconst 1, 1) := dk_4 (dk_at dksX5_leg_3 3 rfl rfl)
theorem dX5_leg_75 : decode cX5_leg 75 = .ok (.iadd, 1) := dk_96 (dk_at dksX5_leg_3 4 rfl rfl)
theorem dX5_leg_76 : decode cX5_leg 76 = .ok (.putfield 171, 3) := dk_181 0 171 (dk_at dksX5_leg_3 5 rfl rfl)
theorem dX5_leg_79 : decode cX5_leg 79 = .ok (.return_, 1) := dk_177 (dk_at dksX5_leg_3 8 rfl rfl)
abbrev cX5_latest : ByteArray := prog_11_method_16_code
def yX5_latest : MethodName := ⟨RX5, "latest", "()LUnseenClock$Person;"⟩
def dkwX5_latest_2 : List UInt8 := [185, 0, 163, 2, 0, 192, 0, 154, 176]
abbrev dktX5_latest_2 : List UInt8 := dkwX5_latest_2 ++ []
def dkwX5_latest_1 : List UInt8 := [180, 0, 12, 180, 0, 151, 42, 180, 0, 12, 180, 0, 151, 185, 0, 129, 1, 0, 4, 100]
abbrev dktX5_latest_1 : List UInt8 := dkwX5_latest_1 ++ dktX5_latest_2
def dkwX5_latest_0 : List UInt8 := [42, 180, 0, 12, 180, 0, 151, 185, 0, 159, 1, 0, 153, 0, 9, 42, 5, 182, 0, 78, 191, 42]
abbrev dktX5_latest_0 : List UInt8 := dkwX5_latest_0 ++ dktX5_latest_1
theorem dksX5_latest_0 : cX5_latest.data.toList.drop 0 = dktX5_latest_0 := by decide +kernel
theorem dksX5_latest_1 : cX5_latest.data.toList.drop 22 = dktX5_latest_1 := dk_seg dksX5_latest_0 22 rfl rfl
theorem dksX5_latest_2 : cX5_latest.data.toList.drop 42 = dktX5_latest_2 := dk_seg dksX5_latest_1 20 rfl rfl
theorem dX5_latest_0 : decode cX5_latest 0 = .ok (.aload_n 0, 1) := dk_42 (dk_at dksX5_latest_0 0 rfl rfl)
theorem dX5_latest_1 : decode cX5_latest 1 = .ok (.getfield 12, 3) := dk_180 0 12 (dk_at dksX5_latest_0 1 rfl rfl)
theorem dX5_latest_4 : decode cX5_latest 4 = .ok (.getfield 151, 3) := dk_180 0 151 (dk_at dksX5_latest_0 4 rfl rfl)
theorem dX5_latest_7 : decode cX5_latest 7 = .ok (.invokeinterface 159 1, 5) := by decide +kernel
theorem dX5_latest_12 : decode cX5_latest 12 = .ok (.ifCond .eq 9, 3) := dk_153 0 9 (dk_at dksX5_latest_0 12 rfl rfl)
theorem dX5_latest_15 : decode cX5_latest 15 = .ok (.aload_n 0, 1) := dk_42 (dk_at dksX5_latest_0 15 rfl rfl)
theorem dX5_latest_16 : decode cX5_latest 16 = .ok (.iconst 2, 1) := dk_5 (dk_at dksX5_latest_0 16 rfl rfl)
theorem dX5_latest_17 : decode cX5_latest 17 = .ok (.invokevirtual 78, 3) := dk_182 0 78 (dk_at dksX5_latest_0 17 rfl rfl)
theorem dX5_latest_20 : decode cX5_latest 20 = .ok (.athrow, 1) := dk_191 (dk_at dksX5_latest_0 20 rfl rfl)
theorem dX5_latest_21 : decode cX5_latest 21 = .ok (.aload_n 0, 1) := dk_42 (dk_at dksX5_latest_0 21 rfl rfl)
theorem dX5_latest_22 : decode cX5_latest 22 = .ok (.getfield 12, 3) := dk_180 0 12 (dk_at dksX5_latest_1 0 rfl rfl)
theorem dX5_latest_25 : decode cX5_latest 25 = .ok (.getfield 151, 3) := dk_180 0 151 (dk_at dksX5_latest_1 3 rfl rfl)
theorem dX5_latest_28 : decode cX5_latest 28 = .ok (.aload_n 0, 1) := dk_42 (dk_at dksX5_latest_1 6 rfl rfl)
theorem dX5_latest_29 : decode cX5_latest 29 = .ok (.getfield 12, 3) := dk_180 0 12 (dk_at dksX5_latest_1 7 rfl rfl)
theorem dX5_latest_32 : decode cX5_latest 32 = .ok (.getfield 151, 3) := dk_180 0 151 (dk_at dksX5_latest_1 10 rfl rfl)
theorem dX5_latest_35 : decode cX5_latest 35 = .ok (.invokeinterface 129 1, 5) := by decide +kernel
theorem dX5_latest_40 : decode cX5_latest 40 = .ok (.iconst 1, 1) := dk_4 (dk_at dksX5_latest_1 18 rfl rfl)
theorem dX5_latest_41 : decode cX5_latest 41 = .ok (.isub, 1) := dk_100 (dk_at dksX5_latest_1 19 rfl rfl)
theorem dX5_latest_42 : decode cX5_latest 42 = .ok (.invokeinterface 163 2, 5) := by decide +kernel
theorem dX5_latest_47 : decode cX5_latest 47 = .ok (.checkcast 154, 3) := dk_192 0 154 (dk_at dksX5_latest_2 5 rfl rfl)
theorem dX5_latest_50 : decode cX5_latest 50 = .ok (.areturn, 1) := dk_176 (dk_at dksX5_latest_2 8 rfl rfl)
abbrev cX5_way : ByteArray := prog_11_method_18_code
def yX5_way : MethodName := ⟨RX5, "way", "()I"⟩
def dkwX5_way_3 : List UInt8 := [27, 172]
abbrev dktX5_way_3 : List UInt8 := dkwX5_way_3 ++ []
def dkwX5_way_2 : List UInt8 := [153, 0, 7, 6, 167, 0, 4, 2, 60, 27, 2, 160, 0, 9, 42, 4, 182, 0, 78, 191, 42, 182, 0, 26]
abbrev dktX5_way_2 : List UInt8 := dkwX5_way_2 ++ dktX5_way_3
def dkwX5_way_1 : List UInt8 := [167, 0, 30, 42, 18, 186, 182, 0, 71, 153, 0, 7, 5, 167, 0, 17, 42, 18, 188, 182, 0, 71]
abbrev dktX5_way_1 : List UInt8 := dkwX5_way_1 ++ dktX5_way_2
def dkwX5_way_0 : List UInt8 := [42, 18, 182, 182, 0, 71, 153, 0, 7, 3, 167, 0, 43, 42, 18, 184, 182, 0, 71, 153, 0, 7, 4]
abbrev dktX5_way_0 : List UInt8 := dkwX5_way_0 ++ dktX5_way_1
theorem dksX5_way_0 : cX5_way.data.toList.drop 0 = dktX5_way_0 := by decide +kernel
theorem dksX5_way_1 : cX5_way.data.toList.drop 23 = dktX5_way_1 := dk_seg dksX5_way_0 23 rfl rfl
theorem dksX5_way_2 : cX5_way.data.toList.drop 45 = dktX5_way_2 := dk_seg dksX5_way_1 22 rfl rfl
theorem dksX5_way_3 : cX5_way.data.toList.drop 69 = dktX5_way_3 := dk_seg dksX5_way_2 24 rfl rfl
theorem dX5_way_0 : decode cX5_way 0 = .ok (.aload_n 0, 1) := dk_42 (dk_at dksX5_way_0 0 rfl rfl)
theorem dX5_way_1 : decode cX5_way 1 = .ok (.ldc 182, 2) := dk_18 182 (dk_at dksX5_way_0 1 rfl rfl)
theorem dX5_way_3 : decode cX5_way 3 = .ok (.invokevirtual 71, 3) := dk_182 0 71 (dk_at dksX5_way_0 3 rfl rfl)
theorem dX5_way_6 : decode cX5_way 6 = .ok (.ifCond .eq 7, 3) := dk_153 0 7 (dk_at dksX5_way_0 6 rfl rfl)
theorem dX5_way_9 : decode cX5_way 9 = .ok (.iconst 0, 1) := dk_3 (dk_at dksX5_way_0 9 rfl rfl)
theorem dX5_way_10 : decode cX5_way 10 = .ok (.goto 43, 3) := dk_167 0 43 (dk_at dksX5_way_0 10 rfl rfl)
theorem dX5_way_13 : decode cX5_way 13 = .ok (.aload_n 0, 1) := dk_42 (dk_at dksX5_way_0 13 rfl rfl)
theorem dX5_way_14 : decode cX5_way 14 = .ok (.ldc 184, 2) := dk_18 184 (dk_at dksX5_way_0 14 rfl rfl)
theorem dX5_way_16 : decode cX5_way 16 = .ok (.invokevirtual 71, 3) := dk_182 0 71 (dk_at dksX5_way_0 16 rfl rfl)
theorem dX5_way_19 : decode cX5_way 19 = .ok (.ifCond .eq 7, 3) := dk_153 0 7 (dk_at dksX5_way_0 19 rfl rfl)
theorem dX5_way_22 : decode cX5_way 22 = .ok (.iconst 1, 1) := dk_4 (dk_at dksX5_way_0 22 rfl rfl)
theorem dX5_way_23 : decode cX5_way 23 = .ok (.goto 30, 3) := dk_167 0 30 (dk_at dksX5_way_1 0 rfl rfl)
theorem dX5_way_26 : decode cX5_way 26 = .ok (.aload_n 0, 1) := dk_42 (dk_at dksX5_way_1 3 rfl rfl)
theorem dX5_way_27 : decode cX5_way 27 = .ok (.ldc 186, 2) := dk_18 186 (dk_at dksX5_way_1 4 rfl rfl)
theorem dX5_way_29 : decode cX5_way 29 = .ok (.invokevirtual 71, 3) := dk_182 0 71 (dk_at dksX5_way_1 6 rfl rfl)
theorem dX5_way_32 : decode cX5_way 32 = .ok (.ifCond .eq 7, 3) := dk_153 0 7 (dk_at dksX5_way_1 9 rfl rfl)
theorem dX5_way_35 : decode cX5_way 35 = .ok (.iconst 2, 1) := dk_5 (dk_at dksX5_way_1 12 rfl rfl)
theorem dX5_way_36 : decode cX5_way 36 = .ok (.goto 17, 3) := dk_167 0 17 (dk_at dksX5_way_1 13 rfl rfl)
theorem dX5_way_39 : decode cX5_way 39 = .ok (.aload_n 0, 1) := dk_42 (dk_at dksX5_way_1 16 rfl rfl)
theorem dX5_way_40 : decode cX5_way 40 = .ok (.ldc 188, 2) := dk_18 188 (dk_at dksX5_way_1 17 rfl rfl)
theorem dX5_way_42 : decode cX5_way 42 = .ok (.invokevirtual 71, 3) := dk_182 0 71 (dk_at dksX5_way_1 19 rfl rfl)
theorem dX5_way_45 : decode cX5_way 45 = .ok (.ifCond .eq 7, 3) := dk_153 0 7 (dk_at dksX5_way_2 0 rfl rfl)
theorem dX5_way_48 : decode cX5_way 48 = .ok (.iconst 3, 1) := dk_6 (dk_at dksX5_way_2 3 rfl rfl)
theorem dX5_way_49 : decode cX5_way 49 = .ok (.goto 4, 3) := dk_167 0 4 (dk_at dksX5_way_2 4 rfl rfl)
theorem dX5_way_52 : decode cX5_way 52 = .ok (.iconst (-1), 1) := dk_2 (dk_at dksX5_way_2 7 rfl rfl)
theorem dX5_way_53 : decode cX5_way 53 = .ok (.istore_n 1, 1) := dk_60 (dk_at dksX5_way_2 8 rfl rfl)
theorem dX5_way_54 : decode cX5_way 54 = .ok (.iload_n 1, 1) := dk_27 (dk_at dksX5_way_2 9 rfl rfl)
theorem dX5_way_55 : decode cX5_way 55 = .ok (.iconst (-1), 1) := dk_2 (dk_at dksX5_way_2 10 rfl rfl)
theorem dX5_way_56 : decode cX5_way 56 = .ok (.if_icmp .ne 9, 3) := dk_160 0 9 (dk_at dksX5_way_2 11 rfl rfl)
theorem dX5_way_59 : decode cX5_way 59 = .ok (.aload_n 0, 1) := dk_42 (dk_at dksX5_way_2 14 rfl rfl)
theorem dX5_way_60 : decode cX5_way 60 = .ok (.iconst 1, 1) := dk_4 (dk_at dksX5_way_2 15 rfl rfl)
theorem dX5_way_61 : decode cX5_way 61 = .ok (.invokevirtual 78, 3) := dk_182 0 78 (dk_at dksX5_way_2 16 rfl rfl)
theorem dX5_way_64 : decode cX5_way 64 = .ok (.athrow, 1) := dk_191 (dk_at dksX5_way_2 19 rfl rfl)
theorem dX5_way_65 : decode cX5_way 65 = .ok (.aload_n 0, 1) := dk_42 (dk_at dksX5_way_2 20 rfl rfl)
theorem dX5_way_66 : decode cX5_way 66 = .ok (.invokevirtual 26, 3) := dk_182 0 26 (dk_at dksX5_way_2 21 rfl rfl)
theorem dX5_way_69 : decode cX5_way 69 = .ok (.iload_n 1, 1) := dk_27 (dk_at dksX5_way_3 0 rfl rfl)
theorem dX5_way_70 : decode cX5_way 70 = .ok (.ireturn, 1) := dk_172 (dk_at dksX5_way_3 1 rfl rfl)
abbrev cX5_look : ByteArray := prog_11_method_19_code
def yX5_look : MethodName := ⟨RX5, "look", "()V"⟩
def dkwX5_look_2 : List UInt8 := [61, 43, 180, 0, 190, 42, 28, 182, 0, 193, 185, 0, 147, 2, 0, 87, 177]
abbrev dktX5_look_2 : List UInt8 := dkwX5_look_2 ++ []
def dkwX5_look_1 : List UInt8 := [182, 0, 112, 42, 18, 116, 3, 42, 180, 0, 12, 180, 0, 125, 185, 0, 129, 1, 0, 4, 100, 182, 0, 93]
abbrev dktX5_look_1 : List UInt8 := dkwX5_look_1 ++ dktX5_look_2
def dkwX5_look_0 : List UInt8 := [42, 182, 0, 167, 76, 42, 43, 180, 0, 190, 185, 0, 129, 1, 0, 7, 162, 0, 7, 4, 167, 0, 4, 3]
abbrev dktX5_look_0 : List UInt8 := dkwX5_look_0 ++ dktX5_look_1
theorem dksX5_look_0 : cX5_look.data.toList.drop 0 = dktX5_look_0 := by decide +kernel
theorem dksX5_look_1 : cX5_look.data.toList.drop 24 = dktX5_look_1 := dk_seg dksX5_look_0 24 rfl rfl
theorem dksX5_look_2 : cX5_look.data.toList.drop 48 = dktX5_look_2 := dk_seg dksX5_look_1 24 rfl rfl
theorem dX5_look_0 : decode cX5_look 0 = .ok (.aload_n 0, 1) := dk_42 (dk_at dksX5_look_0 0 rfl rfl)
theorem dX5_look_1 : decode cX5_look 1 = .ok (.invokevirtual 167, 3) := dk_182 0 167 (dk_at dksX5_look_0 1 rfl rfl)
theorem dX5_look_4 : decode cX5_look 4 = .ok (.astore_n 1, 1) := dk_76 (dk_at dksX5_look_0 4 rfl rfl)
theorem dX5_look_5 : decode cX5_look 5 = .ok (.aload_n 0, 1) := dk_42 (dk_at dksX5_look_0 5 rfl rfl)
theorem dX5_look_6 : decode cX5_look 6 = .ok (.aload_n 1, 1) := dk_43 (dk_at dksX5_look_0 6 rfl rfl)
theorem dX5_look_7 : decode cX5_look 7 = .ok (.getfield 190, 3) := dk_180 0 190 (dk_at dksX5_look_0 7 rfl rfl)
theorem dX5_look_10 : decode cX5_look 10 = .ok (.invokeinterface 129 1, 5) := by decide +kernel
theorem dX5_look_15 : decode cX5_look 15 = .ok (.iconst 4, 1) := dk_7 (dk_at dksX5_look_0 15 rfl rfl)
theorem dX5_look_16 : decode cX5_look 16 = .ok (.if_icmp .ge 7, 3) := dk_162 0 7 (dk_at dksX5_look_0 16 rfl rfl)
theorem dX5_look_19 : decode cX5_look 19 = .ok (.iconst 1, 1) := dk_4 (dk_at dksX5_look_0 19 rfl rfl)
theorem dX5_look_20 : decode cX5_look 20 = .ok (.goto 4, 3) := dk_167 0 4 (dk_at dksX5_look_0 20 rfl rfl)
theorem dX5_look_23 : decode cX5_look 23 = .ok (.iconst 0, 1) := dk_3 (dk_at dksX5_look_0 23 rfl rfl)
theorem dX5_look_24 : decode cX5_look 24 = .ok (.invokevirtual 112, 3) := dk_182 0 112 (dk_at dksX5_look_1 0 rfl rfl)
theorem dX5_look_27 : decode cX5_look 27 = .ok (.aload_n 0, 1) := dk_42 (dk_at dksX5_look_1 3 rfl rfl)
theorem dX5_look_28 : decode cX5_look 28 = .ok (.ldc 116, 2) := dk_18 116 (dk_at dksX5_look_1 4 rfl rfl)
theorem dX5_look_30 : decode cX5_look 30 = .ok (.iconst 0, 1) := dk_3 (dk_at dksX5_look_1 6 rfl rfl)
theorem dX5_look_31 : decode cX5_look 31 = .ok (.aload_n 0, 1) := dk_42 (dk_at dksX5_look_1 7 rfl rfl)
theorem dX5_look_32 : decode cX5_look 32 = .ok (.getfield 12, 3) := dk_180 0 12 (dk_at dksX5_look_1 8 rfl rfl)
theorem dX5_look_35 : decode cX5_look 35 = .ok (.getfield 125, 3) := dk_180 0 125 (dk_at dksX5_look_1 11 rfl rfl)
theorem dX5_look_38 : decode cX5_look 38 = .ok (.invokeinterface 129 1, 5) := by decide +kernel
theorem dX5_look_43 : decode cX5_look 43 = .ok (.iconst 1, 1) := dk_4 (dk_at dksX5_look_1 19 rfl rfl)
theorem dX5_look_44 : decode cX5_look 44 = .ok (.isub, 1) := dk_100 (dk_at dksX5_look_1 20 rfl rfl)
theorem dX5_look_45 : decode cX5_look 45 = .ok (.invokevirtual 93, 3) := dk_182 0 93 (dk_at dksX5_look_1 21 rfl rfl)
theorem dX5_look_48 : decode cX5_look 48 = .ok (.istore_n 2, 1) := dk_61 (dk_at dksX5_look_2 0 rfl rfl)
theorem dX5_look_49 : decode cX5_look 49 = .ok (.aload_n 1, 1) := dk_43 (dk_at dksX5_look_2 1 rfl rfl)
theorem dX5_look_50 : decode cX5_look 50 = .ok (.getfield 190, 3) := dk_180 0 190 (dk_at dksX5_look_2 2 rfl rfl)
theorem dX5_look_53 : decode cX5_look 53 = .ok (.aload_n 0, 1) := dk_42 (dk_at dksX5_look_2 5 rfl rfl)
theorem dX5_look_54 : decode cX5_look 54 = .ok (.iload_n 2, 1) := dk_28 (dk_at dksX5_look_2 6 rfl rfl)
theorem dX5_look_55 : decode cX5_look 55 = .ok (.invokevirtual 193, 3) := dk_182 0 193 (dk_at dksX5_look_2 7 rfl rfl)
theorem dX5_look_58 : decode cX5_look 58 = .ok (.invokeinterface 147 2, 5) := by decide +kernel
theorem dX5_look_63 : decode cX5_look 63 = .ok (.pop, 1) := dk_87 (dk_at dksX5_look_2 15 rfl rfl)
theorem dX5_look_64 : decode cX5_look 64 = .ok (.return_, 1) := dk_177 (dk_at dksX5_look_2 16 rfl rfl)
abbrev cX5_habit : ByteArray := prog_11_method_20_code
def yX5_habit : MethodName := ⟨RX5, "habit", "(I)LUnseenClock$Habit;"⟩
def dkwX5_habit_7 : List UInt8 := [182, 0, 93, 183, 0, 231, 176]
abbrev dktX5_habit_7 : List UInt8 := dkwX5_habit_7 ++ []
def dkwX5_habit_6 : List UInt8 := [42, 3, 16, 7, 182, 0, 86, 183, 0, 226, 176, 187, 0, 227, 89, 27, 42, 18, 229, 3, 16, 100]
abbrev dktX5_habit_6 : List UInt8 := dkwX5_habit_6 ++ dktX5_habit_7
def dkwX5_habit_5 : List UInt8 := [3, 16, 7, 182, 0, 86, 183, 0, 221, 176, 42, 18, 222, 182, 0, 75, 153, 0, 19, 187, 0, 224, 89, 27]
abbrev dktX5_habit_5 : List UInt8 := dkwX5_habit_5 ++ dktX5_habit_6
def dkwX5_habit_4 : List UInt8 := [16, 59, 182, 0, 93, 183, 0, 216, 176, 42, 18, 217, 182, 0, 75, 153, 0, 19, 187, 0, 219, 89, 27, 42]
abbrev dktX5_habit_4 : List UInt8 := dkwX5_habit_4 ++ dktX5_habit_5
def dkwX5_habit_3 : List UInt8 := [180, 0, 125, 185, 0, 129, 1, 0, 4, 100, 182, 0, 86, 61, 187, 0, 213, 89, 27, 28, 42, 18, 215, 3]
abbrev dktX5_habit_3 : List UInt8 := dkwX5_habit_3 ++ dktX5_habit_4
def dkwX5_habit_2 : List UInt8 := [182, 0, 93, 183, 0, 210, 176, 42, 18, 211, 182, 0, 75, 153, 0, 42, 42, 3, 42, 180, 0, 12]
abbrev dktX5_habit_2 : List UInt8 := dkwX5_habit_2 ++ dktX5_habit_3
def dkwX5_habit_1 : List UInt8 := [153, 0, 30, 42, 4, 16, 40, 182, 0, 86, 61, 187, 0, 206, 89, 27, 28, 42, 18, 208, 3, 16, 39]
abbrev dktX5_habit_1 : List UInt8 := dkwX5_habit_1 ++ dktX5_habit_2
def dkwX5_habit_0 : List UInt8 := [42, 18, 197, 182, 0, 75, 153, 0, 12, 187, 0, 199, 89, 27, 183, 0, 201, 176, 42, 18, 204, 182, 0, 75]
abbrev dktX5_habit_0 : List UInt8 := dkwX5_habit_0 ++ dktX5_habit_1
theorem dksX5_habit_0 : cX5_habit.data.toList.drop 0 = dktX5_habit_0 := by decide +kernel
theorem dksX5_habit_1 : cX5_habit.data.toList.drop 24 = dktX5_habit_1 := dk_seg dksX5_habit_0 24 rfl rfl
theorem dksX5_habit_2 : cX5_habit.data.toList.drop 47 = dktX5_habit_2 := dk_seg dksX5_habit_1 23 rfl rfl
theorem dksX5_habit_3 : cX5_habit.data.toList.drop 69 = dktX5_habit_3 := dk_seg dksX5_habit_2 22 rfl rfl
theorem dksX5_habit_4 : cX5_habit.data.toList.drop 93 = dktX5_habit_4 := dk_seg dksX5_habit_3 24 rfl rfl
theorem dksX5_habit_5 : cX5_habit.data.toList.drop 117 = dktX5_habit_5 := dk_seg dksX5_habit_4 24 rfl rfl
theorem dksX5_habit_6 : cX5_habit.data.toList.drop 141 = dktX5_habit_6 := dk_seg dksX5_habit_5 24 rfl rfl
theorem dksX5_habit_7 : cX5_habit.data.toList.drop 163 = dktX5_habit_7 := dk_seg dksX5_habit_6 22 rfl rfl
theorem dX5_habit_0 : decode cX5_habit 0 = .ok (.aload_n 0, 1) := dk_42 (dk_at dksX5_habit_0 0 rfl rfl)
theorem dX5_habit_1 : decode cX5_habit 1 = .ok (.ldc 197, 2) := dk_18 197 (dk_at dksX5_habit_0 1 rfl rfl)
theorem dX5_habit_3 : decode cX5_habit 3 = .ok (.invokevirtual 75, 3) := dk_182 0 75 (dk_at dksX5_habit_0 3 rfl rfl)
theorem dX5_habit_6 : decode cX5_habit 6 = .ok (.ifCond .eq 12, 3) := dk_153 0 12 (dk_at dksX5_habit_0 6 rfl rfl)
theorem dX5_habit_9 : decode cX5_habit 9 = .ok (.new 199, 3) := dk_187 0 199 (dk_at dksX5_habit_0 9 rfl rfl)
theorem dX5_habit_12 : decode cX5_habit 12 = .ok (.dup, 1) := dk_89 (dk_at dksX5_habit_0 12 rfl rfl)
theorem dX5_habit_13 : decode cX5_habit 13 = .ok (.iload_n 1, 1) := dk_27 (dk_at dksX5_habit_0 13 rfl rfl)
theorem dX5_habit_14 : decode cX5_habit 14 = .ok (.invokespecial 201, 3) := dk_183 0 201 (dk_at dksX5_habit_0 14 rfl rfl)
theorem dX5_habit_17 : decode cX5_habit 17 = .ok (.areturn, 1) := dk_176 (dk_at dksX5_habit_0 17 rfl rfl)
theorem dX5_habit_18 : decode cX5_habit 18 = .ok (.aload_n 0, 1) := dk_42 (dk_at dksX5_habit_0 18 rfl rfl)
theorem dX5_habit_19 : decode cX5_habit 19 = .ok (.ldc 204, 2) := dk_18 204 (dk_at dksX5_habit_0 19 rfl rfl)
theorem dX5_habit_21 : decode cX5_habit 21 = .ok (.invokevirtual 75, 3) := dk_182 0 75 (dk_at dksX5_habit_0 21 rfl rfl)
theorem dX5_habit_24 : decode cX5_habit 24 = .ok (.ifCond .eq 30, 3) := dk_153 0 30 (dk_at dksX5_habit_1 0 rfl rfl)
theorem dX5_habit_27 : decode cX5_habit 27 = .ok (.aload_n 0, 1) := dk_42 (dk_at dksX5_habit_1 3 rfl rfl)
theorem dX5_habit_28 : decode cX5_habit 28 = .ok (.iconst 1, 1) := dk_4 (dk_at dksX5_habit_1 4 rfl rfl)
theorem dX5_habit_29 : decode cX5_habit 29 = .ok (.bipush 40, 2) := dk_16 40 (dk_at dksX5_habit_1 5 rfl rfl)
theorem dX5_habit_31 : decode cX5_habit 31 = .ok (.invokevirtual 86, 3) := dk_182 0 86 (dk_at dksX5_habit_1 7 rfl rfl)
theorem dX5_habit_34 : decode cX5_habit 34 = .ok (.istore_n 2, 1) := dk_61 (dk_at dksX5_habit_1 10 rfl rfl)
theorem dX5_habit_35 : decode cX5_habit 35 = .ok (.new 206, 3) := dk_187 0 206 (dk_at dksX5_habit_1 11 rfl rfl)
theorem dX5_habit_38 : decode cX5_habit 38 = .ok (.dup, 1) := dk_89 (dk_at dksX5_habit_1 14 rfl rfl)
theorem dX5_habit_39 : decode cX5_habit 39 = .ok (.iload_n 1, 1) := dk_27 (dk_at dksX5_habit_1 15 rfl rfl)
theorem dX5_habit_40 : decode cX5_habit 40 = .ok (.iload_n 2, 1) := dk_28 (dk_at dksX5_habit_1 16 rfl rfl)
theorem dX5_habit_41 : decode cX5_habit 41 = .ok (.aload_n 0, 1) := dk_42 (dk_at dksX5_habit_1 17 rfl rfl)
theorem dX5_habit_42 : decode cX5_habit 42 = .ok (.ldc 208, 2) := dk_18 208 (dk_at dksX5_habit_1 18 rfl rfl)
theorem dX5_habit_44 : decode cX5_habit 44 = .ok (.iconst 0, 1) := dk_3 (dk_at dksX5_habit_1 20 rfl rfl)
theorem dX5_habit_45 : decode cX5_habit 45 = .ok (.bipush 39, 2) := dk_16 39 (dk_at dksX5_habit_1 21 rfl rfl)
theorem dX5_habit_47 : decode cX5_habit 47 = .ok (.invokevirtual 93, 3) := dk_182 0 93 (dk_at dksX5_habit_2 0 rfl rfl)
theorem dX5_habit_50 : decode cX5_habit 50 = .ok (.invokespecial 210, 3) := dk_183 0 210 (dk_at dksX5_habit_2 3 rfl rfl)
theorem dX5_habit_53 : decode cX5_habit 53 = .ok (.areturn, 1) := dk_176 (dk_at dksX5_habit_2 6 rfl rfl)
theorem dX5_habit_54 : decode cX5_habit 54 = .ok (.aload_n 0, 1) := dk_42 (dk_at dksX5_habit_2 7 rfl rfl)
theorem dX5_habit_55 : decode cX5_habit 55 = .ok (.ldc 211, 2) := dk_18 211 (dk_at dksX5_habit_2 8 rfl rfl)
theorem dX5_habit_57 : decode cX5_habit 57 = .ok (.invokevirtual 75, 3) := dk_182 0 75 (dk_at dksX5_habit_2 10 rfl rfl)
theorem dX5_habit_60 : decode cX5_habit 60 = .ok (.ifCond .eq 42, 3) := dk_153 0 42 (dk_at dksX5_habit_2 13 rfl rfl)
theorem dX5_habit_63 : decode cX5_habit 63 = .ok (.aload_n 0, 1) := dk_42 (dk_at dksX5_habit_2 16 rfl rfl)
theorem dX5_habit_64 : decode cX5_habit 64 = .ok (.iconst 0, 1) := dk_3 (dk_at dksX5_habit_2 17 rfl rfl)
theorem dX5_habit_65 : decode cX5_habit 65 = .ok (.aload_n 0, 1) := dk_42 (dk_at dksX5_habit_2 18 rfl rfl)
theorem dX5_habit_66 : decode cX5_habit 66 = .ok (.getfield 12, 3) := dk_180 0 12 (dk_at dksX5_habit_2 19 rfl rfl)
theorem dX5_habit_69 : decode cX5_habit 69 = .ok (.getfield 125, 3) := dk_180 0 125 (dk_at dksX5_habit_3 0 rfl rfl)
theorem dX5_habit_72 : decode cX5_habit 72 = .ok (.invokeinterface 129 1, 5) := by decide +kernel
theorem dX5_habit_77 : decode cX5_habit 77 = .ok (.iconst 1, 1) := dk_4 (dk_at dksX5_habit_3 8 rfl rfl)
theorem dX5_habit_78 : decode cX5_habit 78 = .ok (.isub, 1) := dk_100 (dk_at dksX5_habit_3 9 rfl rfl)
theorem dX5_habit_79 : decode cX5_habit 79 = .ok (.invokevirtual 86, 3) := dk_182 0 86 (dk_at dksX5_habit_3 10 rfl rfl)
theorem dX5_habit_82 : decode cX5_habit 82 = .ok (.istore_n 2, 1) := dk_61 (dk_at dksX5_habit_3 13 rfl rfl)
theorem dX5_habit_83 : decode cX5_habit 83 = .ok (.new 213, 3) := dk_187 0 213 (dk_at dksX5_habit_3 14 rfl rfl)
theorem dX5_habit_86 : decode cX5_habit 86 = .ok (.dup, 1) := dk_89 (dk_at dksX5_habit_3 17 rfl rfl)
theorem dX5_habit_87 : decode cX5_habit 87 = .ok (.iload_n 1, 1) := dk_27 (dk_at dksX5_habit_3 18 rfl rfl)
theorem dX5_habit_88 : decode cX5_habit 88 = .ok (.iload_n 2, 1) := dk_28 (dk_at dksX5_habit_3 19 rfl rfl)
theorem dX5_habit_89 : decode cX5_habit 89 = .ok (.aload_n 0, 1) := dk_42 (dk_at dksX5_habit_3 20 rfl rfl)
theorem dX5_habit_90 : decode cX5_habit 90 = .ok (.ldc 215, 2) := dk_18 215 (dk_at dksX5_habit_3 21 rfl rfl)
theorem dX5_habit_92 : decode cX5_habit 92 = .ok (.iconst 0, 1) := dk_3 (dk_at dksX5_habit_3 23 rfl rfl)
theorem dX5_habit_93 : decode cX5_habit 93 = .ok (.bipush 59, 2) := dk_16 59 (dk_at dksX5_habit_4 0 rfl rfl)
theorem dX5_habit_95 : decode cX5_habit 95 = .ok (.invokevirtual 93, 3) := dk_182 0 93 (dk_at dksX5_habit_4 2 rfl rfl)
theorem dX5_habit_98 : decode cX5_habit 98 = .ok (.invokespecial 216, 3) := dk_183 0 216 (dk_at dksX5_habit_4 5 rfl rfl)
theorem dX5_habit_101 : decode cX5_habit 101 = .ok (.areturn, 1) := dk_176 (dk_at dksX5_habit_4 8 rfl rfl)
theorem dX5_habit_102 : decode cX5_habit 102 = .ok (.aload_n 0, 1) := dk_42 (dk_at dksX5_habit_4 9 rfl rfl)
theorem dX5_habit_103 : decode cX5_habit 103 = .ok (.ldc 217, 2) := dk_18 217 (dk_at dksX5_habit_4 10 rfl rfl)
theorem dX5_habit_105 : decode cX5_habit 105 = .ok (.invokevirtual 75, 3) := dk_182 0 75 (dk_at dksX5_habit_4 12 rfl rfl)
theorem dX5_habit_108 : decode cX5_habit 108 = .ok (.ifCond .eq 19, 3) := dk_153 0 19 (dk_at dksX5_habit_4 15 rfl rfl)
theorem dX5_habit_111 : decode cX5_habit 111 = .ok (.new 219, 3) := dk_187 0 219 (dk_at dksX5_habit_4 18 rfl rfl)
theorem dX5_habit_114 : decode cX5_habit 114 = .ok (.dup, 1) := dk_89 (dk_at dksX5_habit_4 21 rfl rfl)
theorem dX5_habit_115 : decode cX5_habit 115 = .ok (.iload_n 1, 1) := dk_27 (dk_at dksX5_habit_4 22 rfl rfl)
theorem dX5_habit_116 : decode cX5_habit 116 = .ok (.aload_n 0, 1) := dk_42 (dk_at dksX5_habit_4 23 rfl rfl)
theorem dX5_habit_117 : decode cX5_habit 117 = .ok (.iconst 0, 1) := dk_3 (dk_at dksX5_habit_5 0 rfl rfl)
theorem dX5_habit_118 : decode cX5_habit 118 = .ok (.bipush 7, 2) := dk_16 7 (dk_at dksX5_habit_5 1 rfl rfl)
theorem dX5_habit_120 : decode cX5_habit 120 = .ok (.invokevirtual 86, 3) := dk_182 0 86 (dk_at dksX5_habit_5 3 rfl rfl)
theorem dX5_habit_123 : decode cX5_habit 123 = .ok (.invokespecial 221, 3) := dk_183 0 221 (dk_at dksX5_habit_5 6 rfl rfl)
theorem dX5_habit_126 : decode cX5_habit 126 = .ok (.areturn, 1) := dk_176 (dk_at dksX5_habit_5 9 rfl rfl)
theorem dX5_habit_127 : decode cX5_habit 127 = .ok (.aload_n 0, 1) := dk_42 (dk_at dksX5_habit_5 10 rfl rfl)
theorem dX5_habit_128 : decode cX5_habit 128 = .ok (.ldc 222, 2) := dk_18 222 (dk_at dksX5_habit_5 11 rfl rfl)
theorem dX5_habit_130 : decode cX5_habit 130 = .ok (.invokevirtual 75, 3) := dk_182 0 75 (dk_at dksX5_habit_5 13 rfl rfl)
theorem dX5_habit_133 : decode cX5_habit 133 = .ok (.ifCond .eq 19, 3) := dk_153 0 19 (dk_at dksX5_habit_5 16 rfl rfl)
theorem dX5_habit_136 : decode cX5_habit 136 = .ok (.new 224, 3) := dk_187 0 224 (dk_at dksX5_habit_5 19 rfl rfl)
theorem dX5_habit_139 : decode cX5_habit 139 = .ok (.dup, 1) := dk_89 (dk_at dksX5_habit_5 22 rfl rfl)
theorem dX5_habit_140 : decode cX5_habit 140 = .ok (.iload_n 1, 1) := dk_27 (dk_at dksX5_habit_5 23 rfl rfl)
theorem dX5_habit_141 : decode cX5_habit 141 = .ok (.aload_n 0, 1) := dk_42 (dk_at dksX5_habit_6 0 rfl rfl)
theorem dX5_habit_142 : decode cX5_habit 142 = .ok (.iconst 0, 1) := dk_3 (dk_at dksX5_habit_6 1 rfl rfl)
theorem dX5_habit_143 : decode cX5_habit 143 = .ok (.bipush 7, 2) := dk_16 7 (dk_at dksX5_habit_6 2 rfl rfl)
theorem dX5_habit_145 : decode cX5_habit 145 = .ok (.invokevirtual 86, 3) := dk_182 0 86 (dk_at dksX5_habit_6 4 rfl rfl)
theorem dX5_habit_148 : decode cX5_habit 148 = .ok (.invokespecial 226, 3) := dk_183 0 226 (dk_at dksX5_habit_6 7 rfl rfl)
theorem dX5_habit_151 : decode cX5_habit 151 = .ok (.areturn, 1) := dk_176 (dk_at dksX5_habit_6 10 rfl rfl)
theorem dX5_habit_152 : decode cX5_habit 152 = .ok (.new 227, 3) := dk_187 0 227 (dk_at dksX5_habit_6 11 rfl rfl)
theorem dX5_habit_155 : decode cX5_habit 155 = .ok (.dup, 1) := dk_89 (dk_at dksX5_habit_6 14 rfl rfl)
theorem dX5_habit_156 : decode cX5_habit 156 = .ok (.iload_n 1, 1) := dk_27 (dk_at dksX5_habit_6 15 rfl rfl)
theorem dX5_habit_157 : decode cX5_habit 157 = .ok (.aload_n 0, 1) := dk_42 (dk_at dksX5_habit_6 16 rfl rfl)
theorem dX5_habit_158 : decode cX5_habit 158 = .ok (.ldc 229, 2) := dk_18 229 (dk_at dksX5_habit_6 17 rfl rfl)
theorem dX5_habit_160 : decode cX5_habit 160 = .ok (.iconst 0, 1) := dk_3 (dk_at dksX5_habit_6 19 rfl rfl)
theorem dX5_habit_161 : decode cX5_habit 161 = .ok (.bipush 100, 2) := dk_16 100 (dk_at dksX5_habit_6 20 rfl rfl)
theorem dX5_habit_163 : decode cX5_habit 163 = .ok (.invokevirtual 93, 3) := dk_182 0 93 (dk_at dksX5_habit_7 0 rfl rfl)
theorem dX5_habit_166 : decode cX5_habit 166 = .ok (.invokespecial 231, 3) := dk_183 0 231 (dk_at dksX5_habit_7 3 rfl rfl)
theorem dX5_habit_169 : decode cX5_habit 169 = .ok (.areturn, 1) := dk_176 (dk_at dksX5_habit_7 6 rfl rfl)
theorem q139 : (Jvm.Cond.initialized "UnseenClock$Reader") ∈ lw_all := lw_g (lw_at lw_m1 9 rfl) rfl
theorem q428 : (Jvm.Cond.fieldLinkNest "UnseenClock$Reader" (125 : Nat) "UnseenClock$Square" "clocks" "Ljava/util/List;" "UnseenClock") ∈ lw_tbl := lw_at lw_m2 58 rfl
theorem q432 : (Jvm.Cond.fieldLinkNest "UnseenClock$Reader" (151 : Nat) "UnseenClock$Square" "people" "Ljava/util/List;" "UnseenClock") ∈ lw_tbl := lw_at lw_m2 62 rfl
theorem q434 : (Jvm.Cond.fieldLinkNest "UnseenClock$Reader" (117 : Nat) "UnseenClock$Square" "wall" "[Z" "UnseenClock") ∈ lw_tbl := lw_at lw_m2 64 rfl
theorem q439 : (Jvm.Cond.fieldLinkNest "UnseenClock$Reader" (96 : Nat) "UnseenClock$Square" "wide" "I" "UnseenClock") ∈ lw_tbl := lw_at lw_m2 69 rfl
theorem q442 : (Jvm.Cond.fieldLinkNest "UnseenClock$Reader" (100 : Nat) "UnseenClock$Square" "length" "I" "UnseenClock") ∈ lw_tbl := lw_at lw_m2 72 rfl
theorem q447 : (Jvm.Cond.fieldLinkNest "UnseenClock$Reader" (104 : Nat) "UnseenClock$Square" "minutes" "I" "UnseenClock") ∈ lw_tbl := lw_at lw_m2 77 rfl
theorem q449 : (Jvm.Cond.fieldLinkNest "UnseenClock$Reader" (109 : Nat) "UnseenClock$Square" "walls" "I" "UnseenClock") ∈ lw_tbl := lw_at lw_m2 79 rfl
theorem q453 : (Jvm.Cond.fieldLinkNest "UnseenClock$Reader" (254 : Nat) "UnseenClock$Square" "lines" "I" "UnseenClock") ∈ lw_tbl := lw_at lw_m2 83 rfl
theorem q610 : (Jvm.Cond.instantiable "UnseenClock$Reader" (7 : Nat)) ∈ lw_all := lw_g (lw_at lw_m3 0 rfl) rfl
theorem q612 : (Jvm.Cond.instanceMethod ({ cls := "UnseenClock$Reader", name := "<init>", desc := "([BI)V" } : Jvm.MethodName)) ∈ lw_all := lw_g (lw_at lw_m3 2 rfl) rfl
theorem q613 : (Jvm.Cond.code ({ cls := "UnseenClock$Reader", name := "<init>", desc := "([BI)V" } : Jvm.MethodName) prog_11_method_1_code (3 : Nat) (Option.none : Option Jvm.ClassFile.FieldType)) ∈ lw_all := lw_g (lw_at lw_m3 3 rfl) rfl
theorem q614 : (Jvm.Cond.methodLink "UnseenClock$Reader" (3 : Nat) ({ cls := "java/lang/Object", name := "<init>", desc := "()V" } : Jvm.MethodName)) ∈ lw_all := lw_g (lw_at lw_m3 4 rfl) rfl
theorem q615 : (Jvm.Cond.classLink "UnseenClock$Reader" (9 : Nat) "UnseenClock$Square") ∈ lw_all := lw_g (lw_at lw_m3 5 rfl) rfl
theorem q616 : (Jvm.Cond.methodLinkNest "UnseenClock$Reader" (11 : Nat) ({ cls := "UnseenClock$Square", name := "<init>", desc := "()V" } : Jvm.MethodName) "UnseenClock") ∈ lw_tbl := lw_at lw_m3 6 rfl
theorem q617 : (Jvm.Cond.methodLink "UnseenClock$Reader" (26 : Nat) ({ cls := "UnseenClock$Reader", name := "next", desc := "()V" } : Jvm.MethodName)) ∈ lw_all := lw_g (lw_at lw_m3 7 rfl) rfl
theorem q618 : (Jvm.Cond.privateMethod ({ cls := "UnseenClock$Reader", name := "next", desc := "()V" } : Jvm.MethodName)) ∈ lw_tbl := lw_at lw_m3 8 rfl
theorem q619 : (Jvm.Cond.instanceMethod ({ cls := "UnseenClock$Reader", name := "next", desc := "()V" } : Jvm.MethodName)) ∈ lw_all := lw_g (lw_at lw_m3 9 rfl) rfl
theorem q620 : (Jvm.Cond.code ({ cls := "UnseenClock$Reader", name := "next", desc := "()V" } : Jvm.MethodName) prog_11_method_3_code (1 : Nat) (Option.none : Option Jvm.ClassFile.FieldType)) ∈ lw_all := lw_g (lw_at lw_m3 10 rfl) rfl
theorem q621 : (Jvm.Cond.methodLink "UnseenClock$Reader" (36 : Nat) ({ cls := "UnseenClock$Reader", name := "isAt", desc := "(II)Z" } : Jvm.MethodName)) ∈ lw_all := lw_g (lw_at lw_m3 11 rfl) rfl
theorem q622 : (Jvm.Cond.privateMethod ({ cls := "UnseenClock$Reader", name := "isAt", desc := "(II)Z" } : Jvm.MethodName)) ∈ lw_tbl := lw_at lw_m3 12 rfl
theorem q623 : (Jvm.Cond.instanceMethod ({ cls := "UnseenClock$Reader", name := "isAt", desc := "(II)Z" } : Jvm.MethodName)) ∈ lw_all := lw_g (lw_at lw_m3 13 rfl) rfl
theorem q624 : (Jvm.Cond.code ({ cls := "UnseenClock$Reader", name := "isAt", desc := "(II)Z" } : Jvm.MethodName) prog_11_method_2_code (3 : Nat) (Option.some Jvm.ClassFile.FieldType.boolean)) ∈ lw_all := lw_g (lw_at lw_m3 14 rfl) rfl
theorem q625 : (Jvm.Cond.methodLinkNest "UnseenClock$Reader" (32 : Nat) ({ cls := "UnseenClock", name := "in", desc := "(JJJ)Z" } : Jvm.MethodName) "UnseenClock") ∈ lw_tbl := lw_at lw_m3 15 rfl
theorem q626 : (Jvm.Cond.constant "UnseenClock$Reader" (49 : Nat) (99999 : Int32)) ∈ lw_all := lw_g (lw_at lw_m3 16 rfl) rfl
theorem q627 : (Jvm.Cond.methodLink "UnseenClock$Reader" (50 : Nat) ({ cls := "java/lang/Math", name := "min", desc := "(II)I" } : Jvm.MethodName)) ∈ lw_all := lw_g (lw_at lw_m3 17 rfl) rfl
theorem q630 : (Jvm.Cond.fieldLink "UnseenClock$Reader" (18 : Nat) "UnseenClock$Reader" "text" "[B") ∈ lw_all := lw_g (lw_at lw_m3 20 rfl) rfl
theorem q631 : (Jvm.Cond.fieldLink "UnseenClock$Reader" (22 : Nat) "UnseenClock$Reader" "many" "I") ∈ lw_all := lw_g (lw_at lw_m3 21 rfl) rfl
theorem q632 : (Jvm.Cond.fieldLink "UnseenClock$Reader" (12 : Nat) "UnseenClock$Reader" "s" "LUnseenClock$Square;") ∈ lw_all := lw_g (lw_at lw_m3 22 rfl) rfl
theorem q633 : (Jvm.Cond.fieldLink "UnseenClock$Reader" (29 : Nat) "UnseenClock$Reader" "at" "I") ∈ lw_all := lw_g (lw_at lw_m3 23 rfl) rfl
theorem q634 : (Jvm.Cond.fieldLink "UnseenClock$Reader" (40 : Nat) "UnseenClock$Reader" "begin" "I") ∈ lw_all := lw_g (lw_at lw_m3 24 rfl) rfl
theorem q635 : (Jvm.Cond.fieldLink "UnseenClock$Reader" (46 : Nat) "UnseenClock$Reader" "token" "I") ∈ lw_all := lw_g (lw_at lw_m3 25 rfl) rfl
theorem q636 : (Jvm.Cond.fieldLink "UnseenClock$Reader" (43 : Nat) "UnseenClock$Reader" "value" "I") ∈ lw_all := lw_g (lw_at lw_m3 26 rfl) rfl
theorem q637 : (Jvm.Cond.laysFinal "UnseenClock$Reader" "UnseenClock$Reader" "text" "[B") ∈ lw_all := lw_g (lw_at lw_m3 27 rfl) rfl
theorem q638 : (Jvm.Cond.soleField "UnseenClock$Reader" "text") ∈ lw_all := lw_g (lw_at lw_m3 28 rfl) rfl
theorem q639 : (Jvm.Cond.laysFinal "UnseenClock$Reader" "UnseenClock$Reader" "many" "I") ∈ lw_all := lw_g (lw_at lw_m3 29 rfl) rfl
theorem q640 : (Jvm.Cond.soleField "UnseenClock$Reader" "many") ∈ lw_all := lw_g (lw_at lw_m3 30 rfl) rfl
theorem q641 : (Jvm.Cond.laysFinal "UnseenClock$Reader" "UnseenClock$Reader" "s" "LUnseenClock$Square;") ∈ lw_all := lw_g (lw_at lw_m3 31 rfl) rfl
theorem q642 : (Jvm.Cond.soleField "UnseenClock$Reader" "s") ∈ lw_all := lw_g (lw_at lw_m3 32 rfl) rfl
theorem q643 : (Jvm.Cond.lays "UnseenClock$Reader" "UnseenClock$Reader" "at" "I") ∈ lw_all := lw_g (lw_at lw_m3 33 rfl) rfl
theorem q644 : (Jvm.Cond.soleField "UnseenClock$Reader" "at") ∈ lw_all := lw_g (lw_at lw_m3 34 rfl) rfl
theorem q645 : (Jvm.Cond.lays "UnseenClock$Reader" "UnseenClock$Reader" "begin" "I") ∈ lw_all := lw_g (lw_at lw_m3 35 rfl) rfl
theorem q646 : (Jvm.Cond.soleField "UnseenClock$Reader" "begin") ∈ lw_all := lw_g (lw_at lw_m3 36 rfl) rfl
theorem q647 : (Jvm.Cond.lays "UnseenClock$Reader" "UnseenClock$Reader" "token" "I") ∈ lw_all := lw_g (lw_at lw_m3 37 rfl) rfl
theorem q648 : (Jvm.Cond.soleField "UnseenClock$Reader" "token") ∈ lw_all := lw_g (lw_at lw_m3 38 rfl) rfl
theorem q649 : (Jvm.Cond.lays "UnseenClock$Reader" "UnseenClock$Reader" "value" "I") ∈ lw_all := lw_g (lw_at lw_m3 39 rfl) rfl
theorem q650 : (Jvm.Cond.soleField "UnseenClock$Reader" "value") ∈ lw_all := lw_g (lw_at lw_m3 40 rfl) rfl
theorem q651 : (Jvm.Cond.superclass "UnseenClock$Reader" "java/lang/Object") ∈ lw_all := lw_g (lw_at lw_m3 41 rfl) rfl
theorem q653 : (Jvm.Cond.instanceMethod ({ cls := "UnseenClock$Reader", name := "reads", desc := "()LUnseenClock$Square;" } : Jvm.MethodName)) ∈ lw_all := lw_g (lw_at lw_m3 43 rfl) rfl
theorem q654 : (Jvm.Cond.selects "UnseenClock$Reader" ({ cls := "UnseenClock$Reader", name := "reads", desc := "()LUnseenClock$Square;" } : Jvm.MethodName) ({ cls := "UnseenClock$Reader", name := "reads", desc := "()LUnseenClock$Square;" } : Jvm.MethodName)) ∈ lw_all := lw_g (lw_at lw_m3 44 rfl) rfl
theorem q655 : (Jvm.Cond.code ({ cls := "UnseenClock$Reader", name := "reads", desc := "()LUnseenClock$Square;" } : Jvm.MethodName) prog_11_method_22_code (1 : Nat) (Option.some (Jvm.ClassFile.FieldType.object "UnseenClock$Square"))) ∈ lw_all := lw_g (lw_at lw_m3 45 rfl) rfl
theorem q656 : (Jvm.Cond.methodLink "UnseenClock$Reader" (257 : Nat) ({ cls := "UnseenClock$Reader", name := "first", desc := "()V" } : Jvm.MethodName)) ∈ lw_all := lw_g (lw_at lw_m3 46 rfl) rfl
theorem q657 : (Jvm.Cond.privateMethod ({ cls := "UnseenClock$Reader", name := "first", desc := "()V" } : Jvm.MethodName)) ∈ lw_tbl := lw_at lw_m3 47 rfl
theorem q658 : (Jvm.Cond.instanceMethod ({ cls := "UnseenClock$Reader", name := "first", desc := "()V" } : Jvm.MethodName)) ∈ lw_all := lw_g (lw_at lw_m3 48 rfl) rfl
theorem q659 : (Jvm.Cond.code ({ cls := "UnseenClock$Reader", name := "first", desc := "()V" } : Jvm.MethodName) prog_11_method_11_code (1 : Nat) (Option.none : Option Jvm.ClassFile.FieldType)) ∈ lw_all := lw_g (lw_at lw_m3 49 rfl) rfl
theorem q660 : (Jvm.Cond.stringRef "UnseenClock$Reader" (89 : Nat) "square") ∈ lw_tbl := lw_at lw_m3 50 rfl
theorem q661 : (Jvm.Cond.methodLink "UnseenClock$Reader" (82 : Nat) ({ cls := "UnseenClock$Reader", name := "asks", desc := "(Ljava/lang/String;)V" } : Jvm.MethodName)) ∈ lw_all := lw_g (lw_at lw_m3 51 rfl) rfl
theorem q662 : (Jvm.Cond.privateMethod ({ cls := "UnseenClock$Reader", name := "asks", desc := "(Ljava/lang/String;)V" } : Jvm.MethodName)) ∈ lw_tbl := lw_at lw_m3 52 rfl
theorem q663 : (Jvm.Cond.instanceMethod ({ cls := "UnseenClock$Reader", name := "asks", desc := "(Ljava/lang/String;)V" } : Jvm.MethodName)) ∈ lw_all := lw_g (lw_at lw_m3 53 rfl) rfl
theorem q664 : (Jvm.Cond.code ({ cls := "UnseenClock$Reader", name := "asks", desc := "(Ljava/lang/String;)V" } : Jvm.MethodName) prog_11_method_7_code (2 : Nat) (Option.none : Option Jvm.ClassFile.FieldType)) ∈ lw_all := lw_g (lw_at lw_m3 54 rfl) rfl
theorem q665 : (Jvm.Cond.methodLink "UnseenClock$Reader" (75 : Nat) ({ cls := "UnseenClock$Reader", name := "takes", desc := "(Ljava/lang/String;)Z" } : Jvm.MethodName)) ∈ lw_all := lw_g (lw_at lw_m3 55 rfl) rfl
theorem q666 : (Jvm.Cond.privateMethod ({ cls := "UnseenClock$Reader", name := "takes", desc := "(Ljava/lang/String;)Z" } : Jvm.MethodName)) ∈ lw_tbl := lw_at lw_m3 56 rfl
theorem q667 : (Jvm.Cond.instanceMethod ({ cls := "UnseenClock$Reader", name := "takes", desc := "(Ljava/lang/String;)Z" } : Jvm.MethodName)) ∈ lw_all := lw_g (lw_at lw_m3 57 rfl) rfl
theorem q668 : (Jvm.Cond.code ({ cls := "UnseenClock$Reader", name := "takes", desc := "(Ljava/lang/String;)Z" } : Jvm.MethodName) prog_11_method_6_code (3 : Nat) (Option.some Jvm.ClassFile.FieldType.boolean)) ∈ lw_all := lw_g (lw_at lw_m3 58 rfl) rfl
theorem q669 : (Jvm.Cond.methodLink "UnseenClock$Reader" (71 : Nat) ({ cls := "UnseenClock$Reader", name := "is", desc := "(Ljava/lang/String;)Z" } : Jvm.MethodName)) ∈ lw_all := lw_g (lw_at lw_m3 59 rfl) rfl
theorem q670 : (Jvm.Cond.privateMethod ({ cls := "UnseenClock$Reader", name := "is", desc := "(Ljava/lang/String;)Z" } : Jvm.MethodName)) ∈ lw_tbl := lw_at lw_m3 60 rfl
theorem q671 : (Jvm.Cond.instanceMethod ({ cls := "UnseenClock$Reader", name := "is", desc := "(Ljava/lang/String;)Z" } : Jvm.MethodName)) ∈ lw_all := lw_g (lw_at lw_m3 61 rfl) rfl
theorem q672 : (Jvm.Cond.code ({ cls := "UnseenClock$Reader", name := "is", desc := "(Ljava/lang/String;)Z" } : Jvm.MethodName) prog_11_method_5_code (3 : Nat) (Option.some Jvm.ClassFile.FieldType.boolean)) ∈ lw_all := lw_g (lw_at lw_m3 62 rfl) rfl
theorem q673 : (Jvm.Cond.methodLink "UnseenClock$Reader" (61 : Nat) ({ cls := "java/lang/String", name := "length", desc := "()I" } : Jvm.MethodName)) ∈ lw_all := lw_g (lw_at lw_m3 63 rfl) rfl
theorem q683 : (Jvm.Cond.methodLink "UnseenClock$Reader" (67 : Nat) ({ cls := "java/lang/String", name := "charAt", desc := "(I)C" } : Jvm.MethodName)) ∈ lw_all := lw_g (lw_at lw_m3 73 rfl) rfl
theorem q721 : (Jvm.Cond.methodLink "UnseenClock$Reader" (78 : Nat) ({ cls := "UnseenClock$Reader", name := "fault", desc := "(I)LUnseenClock$Fault;" } : Jvm.MethodName)) ∈ lw_all := lw_g (lw_at lw_m3 111 rfl) rfl
theorem q722 : (Jvm.Cond.privateMethod ({ cls := "UnseenClock$Reader", name := "fault", desc := "(I)LUnseenClock$Fault;" } : Jvm.MethodName)) ∈ lw_tbl := lw_at lw_m3 112 rfl
theorem q723 : (Jvm.Cond.instanceMethod ({ cls := "UnseenClock$Reader", name := "fault", desc := "(I)LUnseenClock$Fault;" } : Jvm.MethodName)) ∈ lw_all := lw_g (lw_at lw_m3 113 rfl) rfl
theorem q724 : (Jvm.Cond.code ({ cls := "UnseenClock$Reader", name := "fault", desc := "(I)LUnseenClock$Fault;" } : Jvm.MethodName) prog_11_method_4_code (2 : Nat) (Option.some (Jvm.ClassFile.FieldType.object "UnseenClock$Fault"))) ∈ lw_all := lw_g (lw_at lw_m3 114 rfl) rfl
theorem q725 : (Jvm.Cond.classLink "UnseenClock$Reader" (56 : Nat) "UnseenClock$Fault") ∈ lw_all := lw_g (lw_at lw_m3 115 rfl) rfl
theorem q734 : (Jvm.Cond.methodLink "UnseenClock$Reader" (58 : Nat) ({ cls := "UnseenClock$Fault", name := "<init>", desc := "(II)V" } : Jvm.MethodName)) ∈ lw_all := lw_g (lw_at lw_m3 124 rfl) rfl
theorem q756 : (Jvm.Cond.stringRef "UnseenClock$Reader" (91 : Nat) "wide") ∈ lw_tbl := lw_at lw_m3 146 rfl
theorem q757 : (Jvm.Cond.methodLink "UnseenClock$Reader" (93 : Nat) ({ cls := "UnseenClock$Reader", name := "number", desc := "(Ljava/lang/String;II)I" } : Jvm.MethodName)) ∈ lw_all := lw_g (lw_at lw_m3 147 rfl) rfl
theorem q758 : (Jvm.Cond.privateMethod ({ cls := "UnseenClock$Reader", name := "number", desc := "(Ljava/lang/String;II)I" } : Jvm.MethodName)) ∈ lw_tbl := lw_at lw_m3 148 rfl
theorem q759 : (Jvm.Cond.instanceMethod ({ cls := "UnseenClock$Reader", name := "number", desc := "(Ljava/lang/String;II)I" } : Jvm.MethodName)) ∈ lw_all := lw_g (lw_at lw_m3 149 rfl) rfl
theorem q760 : (Jvm.Cond.code ({ cls := "UnseenClock$Reader", name := "number", desc := "(Ljava/lang/String;II)I" } : Jvm.MethodName) prog_11_method_9_code (4 : Nat) (Option.some Jvm.ClassFile.FieldType.int)) ∈ lw_all := lw_g (lw_at lw_m3 150 rfl) rfl
theorem q761 : (Jvm.Cond.methodLink "UnseenClock$Reader" (86 : Nat) ({ cls := "UnseenClock$Reader", name := "number", desc := "(II)I" } : Jvm.MethodName)) ∈ lw_all := lw_g (lw_at lw_m3 151 rfl) rfl
theorem q762 : (Jvm.Cond.privateMethod ({ cls := "UnseenClock$Reader", name := "number", desc := "(II)I" } : Jvm.MethodName)) ∈ lw_tbl := lw_at lw_m3 152 rfl
theorem q763 : (Jvm.Cond.instanceMethod ({ cls := "UnseenClock$Reader", name := "number", desc := "(II)I" } : Jvm.MethodName)) ∈ lw_all := lw_g (lw_at lw_m3 153 rfl) rfl
theorem q764 : (Jvm.Cond.code ({ cls := "UnseenClock$Reader", name := "number", desc := "(II)I" } : Jvm.MethodName) prog_11_method_8_code (4 : Nat) (Option.some Jvm.ClassFile.FieldType.int)) ∈ lw_all := lw_g (lw_at lw_m3 154 rfl) rfl
theorem q765 : (Jvm.Cond.stringRef "UnseenClock$Reader" (98 : Nat) "long") ∈ lw_tbl := lw_at lw_m3 155 rfl
theorem q766 : (Jvm.Cond.stringRef "UnseenClock$Reader" (102 : Nat) "minutes") ∈ lw_tbl := lw_at lw_m3 156 rfl
theorem q767 : (Jvm.Cond.methodLink "UnseenClock$Reader" (260 : Nat) ({ cls := "UnseenClock$Reader", name := "line", desc := "()V" } : Jvm.MethodName)) ∈ lw_all := lw_g (lw_at lw_m3 157 rfl) rfl
theorem q768 : (Jvm.Cond.privateMethod ({ cls := "UnseenClock$Reader", name := "line", desc := "()V" } : Jvm.MethodName)) ∈ lw_tbl := lw_at lw_m3 158 rfl
theorem q769 : (Jvm.Cond.instanceMethod ({ cls := "UnseenClock$Reader", name := "line", desc := "()V" } : Jvm.MethodName)) ∈ lw_all := lw_g (lw_at lw_m3 159 rfl) rfl
theorem q770 : (Jvm.Cond.code ({ cls := "UnseenClock$Reader", name := "line", desc := "()V" } : Jvm.MethodName) prog_11_method_21_code (1 : Nat) (Option.none : Option Jvm.ClassFile.FieldType)) ∈ lw_all := lw_g (lw_at lw_m3 160 rfl) rfl
theorem q771 : (Jvm.Cond.stringRef "UnseenClock$Reader" (232 : Nat) "wall") ∈ lw_tbl := lw_at lw_m3 161 rfl
theorem q772 : (Jvm.Cond.methodLink "UnseenClock$Reader" (233 : Nat) ({ cls := "UnseenClock$Reader", name := "wall", desc := "()V" } : Jvm.MethodName)) ∈ lw_all := lw_g (lw_at lw_m3 162 rfl) rfl
theorem q773 : (Jvm.Cond.privateMethod ({ cls := "UnseenClock$Reader", name := "wall", desc := "()V" } : Jvm.MethodName)) ∈ lw_tbl := lw_at lw_m3 163 rfl
theorem q774 : (Jvm.Cond.instanceMethod ({ cls := "UnseenClock$Reader", name := "wall", desc := "()V" } : Jvm.MethodName)) ∈ lw_all := lw_g (lw_at lw_m3 164 rfl) rfl
theorem q775 : (Jvm.Cond.code ({ cls := "UnseenClock$Reader", name := "wall", desc := "()V" } : Jvm.MethodName) prog_11_method_13_code (2 : Nat) (Option.none : Option Jvm.ClassFile.FieldType)) ∈ lw_all := lw_g (lw_at lw_m3 165 rfl) rfl
theorem q776 : (Jvm.Cond.methodLink "UnseenClock$Reader" (112 : Nat) ({ cls := "UnseenClock$Reader", name := "room", desc := "(Z)V" } : Jvm.MethodName)) ∈ lw_all := lw_g (lw_at lw_m3 166 rfl) rfl
theorem q777 : (Jvm.Cond.privateMethod ({ cls := "UnseenClock$Reader", name := "room", desc := "(Z)V" } : Jvm.MethodName)) ∈ lw_tbl := lw_at lw_m3 167 rfl
theorem q778 : (Jvm.Cond.instanceMethod ({ cls := "UnseenClock$Reader", name := "room", desc := "(Z)V" } : Jvm.MethodName)) ∈ lw_all := lw_g (lw_at lw_m3 168 rfl) rfl
theorem q779 : (Jvm.Cond.code ({ cls := "UnseenClock$Reader", name := "room", desc := "(Z)V" } : Jvm.MethodName) prog_11_method_10_code (2 : Nat) (Option.none : Option Jvm.ClassFile.FieldType)) ∈ lw_all := lw_g (lw_at lw_m3 169 rfl) rfl
theorem q780 : (Jvm.Cond.stringRef "UnseenClock$Reader" (116 : Nat) "at") ∈ lw_tbl := lw_at lw_m3 170 rfl
theorem q781 : (Jvm.Cond.methodLink "UnseenClock$Reader" (121 : Nat) ({ cls := "UnseenClock$Reader", name := "free", desc := "(I)I" } : Jvm.MethodName)) ∈ lw_all := lw_g (lw_at lw_m3 171 rfl) rfl
theorem q782 : (Jvm.Cond.privateMethod ({ cls := "UnseenClock$Reader", name := "free", desc := "(I)I" } : Jvm.MethodName)) ∈ lw_tbl := lw_at lw_m3 172 rfl
theorem q783 : (Jvm.Cond.instanceMethod ({ cls := "UnseenClock$Reader", name := "free", desc := "(I)I" } : Jvm.MethodName)) ∈ lw_all := lw_g (lw_at lw_m3 173 rfl) rfl
theorem q784 : (Jvm.Cond.code ({ cls := "UnseenClock$Reader", name := "free", desc := "(I)I" } : Jvm.MethodName) prog_11_method_12_code (2 : Nat) (Option.some Jvm.ClassFile.FieldType.int)) ∈ lw_all := lw_g (lw_at lw_m3 174 rfl) rfl
theorem q785 : (Jvm.Cond.methodLink "UnseenClock$Reader" (106 : Nat) ({ cls := "UnseenClock$Square", name := "isFree", desc := "(II)Z" } : Jvm.MethodName)) ∈ lw_all := lw_g (lw_at lw_m3 175 rfl) rfl
theorem q826 : (Jvm.Cond.stringRef "UnseenClock$Reader" (235 : Nat) "clock") ∈ lw_tbl := lw_at lw_m3 216 rfl
theorem q827 : (Jvm.Cond.methodLink "UnseenClock$Reader" (237 : Nat) ({ cls := "UnseenClock$Reader", name := "clock", desc := "()V" } : Jvm.MethodName)) ∈ lw_all := lw_g (lw_at lw_m3 217 rfl) rfl
theorem q828 : (Jvm.Cond.privateMethod ({ cls := "UnseenClock$Reader", name := "clock", desc := "()V" } : Jvm.MethodName)) ∈ lw_tbl := lw_at lw_m3 218 rfl
theorem q829 : (Jvm.Cond.instanceMethod ({ cls := "UnseenClock$Reader", name := "clock", desc := "()V" } : Jvm.MethodName)) ∈ lw_all := lw_g (lw_at lw_m3 219 rfl) rfl
theorem q830 : (Jvm.Cond.code ({ cls := "UnseenClock$Reader", name := "clock", desc := "()V" } : Jvm.MethodName) prog_11_method_14_code (6 : Nat) (Option.none : Option Jvm.ClassFile.FieldType)) ∈ lw_all := lw_g (lw_at lw_m3 220 rfl) rfl
theorem q831 : (Jvm.Cond.interfaceEntry "UnseenClock$Reader" (129 : Nat)) ∈ lw_tbl := lw_at lw_m3 221 rfl
theorem q832 : (Jvm.Cond.methodLink "UnseenClock$Reader" (129 : Nat) ({ cls := "java/util/List", name := "size", desc := "()I" } : Jvm.MethodName)) ∈ lw_all := lw_g (lw_at lw_m3 222 rfl) rfl
theorem q833 : (Jvm.Cond.stringRef "UnseenClock$Reader" (134 : Nat) "pace") ∈ lw_tbl := lw_at lw_m3 223 rfl
theorem q834 : (Jvm.Cond.stringRef "UnseenClock$Reader" (136 : Nat) "over") ∈ lw_tbl := lw_at lw_m3 224 rfl
theorem q835 : (Jvm.Cond.stringRef "UnseenClock$Reader" (138 : Nat) "shows") ∈ lw_tbl := lw_at lw_m3 225 rfl
theorem q836 : (Jvm.Cond.classLink "UnseenClock$Reader" (140 : Nat) "UnseenClock$Dial") ∈ lw_all := lw_g (lw_at lw_m3 226 rfl) rfl
theorem q838 : (Jvm.Cond.stringRef "UnseenClock$Reader" (142 : Nat) "from") ∈ lw_tbl := lw_at lw_m3 228 rfl
theorem q839 : (Jvm.Cond.methodLink "UnseenClock$Reader" (144 : Nat) ({ cls := "UnseenClock$Dial", name := "<init>", desc := "(IIIIII)V" } : Jvm.MethodName)) ∈ lw_all := lw_g (lw_at lw_m3 229 rfl) rfl
theorem q869 : (Jvm.Cond.interfaceEntry "UnseenClock$Reader" (147 : Nat)) ∈ lw_tbl := lw_at lw_m4 19 rfl
theorem q870 : (Jvm.Cond.methodLink "UnseenClock$Reader" (147 : Nat) ({ cls := "java/util/List", name := "add", desc := "(Ljava/lang/Object;)Z" } : Jvm.MethodName)) ∈ lw_all := lw_g (lw_at lw_m4 20 rfl) rfl
theorem q917 : (Jvm.Cond.selects "UnseenClock$Reader" ({ cls := "java/lang/Object", name := "getClass", desc := "()Ljava/lang/Class;" } : Jvm.MethodName) ({ cls := "java/lang/Object", name := "getClass", desc := "()Ljava/lang/Class;" } : Jvm.MethodName)) ∈ lw_all := lw_g (lw_at lw_m4 67 rfl) rfl
theorem q939 : (Jvm.Cond.stringRef "UnseenClock$Reader" (239 : Nat) "person") ∈ lw_tbl := lw_at lw_m4 89 rfl
theorem q940 : (Jvm.Cond.methodLink "UnseenClock$Reader" (241 : Nat) ({ cls := "UnseenClock$Reader", name := "person", desc := "()V" } : Jvm.MethodName)) ∈ lw_all := lw_g (lw_at lw_m4 90 rfl) rfl
theorem q941 : (Jvm.Cond.privateMethod ({ cls := "UnseenClock$Reader", name := "person", desc := "()V" } : Jvm.MethodName)) ∈ lw_tbl := lw_at lw_m4 91 rfl
theorem q942 : (Jvm.Cond.instanceMethod ({ cls := "UnseenClock$Reader", name := "person", desc := "()V" } : Jvm.MethodName)) ∈ lw_all := lw_g (lw_at lw_m4 92 rfl) rfl
theorem q943 : (Jvm.Cond.code ({ cls := "UnseenClock$Reader", name := "person", desc := "()V" } : Jvm.MethodName) prog_11_method_15_code (3 : Nat) (Option.none : Option Jvm.ClassFile.FieldType)) ∈ lw_all := lw_g (lw_at lw_m4 93 rfl) rfl
theorem q944 : (Jvm.Cond.classLink "UnseenClock$Reader" (154 : Nat) "UnseenClock$Person") ∈ lw_all := lw_g (lw_at lw_m4 94 rfl) rfl
theorem q946 : (Jvm.Cond.methodLink "UnseenClock$Reader" (156 : Nat) ({ cls := "UnseenClock$Person", name := "<init>", desc := "(III)V" } : Jvm.MethodName)) ∈ lw_all := lw_g (lw_at lw_m4 96 rfl) rfl
theorem q960 : (Jvm.Cond.fieldLinkNest "UnseenClock$Reader" (174 : Nat) "UnseenClock$Person" "way" "[I" "UnseenClock") ∈ lw_tbl := lw_at lw_m4 110 rfl
theorem q963 : (Jvm.Cond.fieldLinkNest "UnseenClock$Reader" (180 : Nat) "UnseenClock$Person" "many" "[I" "UnseenClock") ∈ lw_tbl := lw_at lw_m4 113 rfl
theorem q966 : (Jvm.Cond.fieldLinkNest "UnseenClock$Reader" (190 : Nat) "UnseenClock$Person" "looks" "Ljava/util/List;" "UnseenClock") ∈ lw_tbl := lw_at lw_m4 116 rfl
theorem q968 : (Jvm.Cond.fieldLinkNest "UnseenClock$Reader" (171 : Nat) "UnseenClock$Person" "legs" "I" "UnseenClock") ∈ lw_tbl := lw_at lw_m4 118 rfl
theorem q984 : (Jvm.Cond.stringRef "UnseenClock$Reader" (243 : Nat) "go") ∈ lw_tbl := lw_at lw_m4 134 rfl
theorem q985 : (Jvm.Cond.methodLink "UnseenClock$Reader" (245 : Nat) ({ cls := "UnseenClock$Reader", name := "leg", desc := "(Z)V" } : Jvm.MethodName)) ∈ lw_all := lw_g (lw_at lw_m4 135 rfl) rfl
theorem q986 : (Jvm.Cond.privateMethod ({ cls := "UnseenClock$Reader", name := "leg", desc := "(Z)V" } : Jvm.MethodName)) ∈ lw_tbl := lw_at lw_m4 136 rfl
theorem q987 : (Jvm.Cond.instanceMethod ({ cls := "UnseenClock$Reader", name := "leg", desc := "(Z)V" } : Jvm.MethodName)) ∈ lw_all := lw_g (lw_at lw_m4 137 rfl) rfl
theorem q988 : (Jvm.Cond.code ({ cls := "UnseenClock$Reader", name := "leg", desc := "(Z)V" } : Jvm.MethodName) prog_11_method_17_code (3 : Nat) (Option.none : Option Jvm.ClassFile.FieldType)) ∈ lw_all := lw_g (lw_at lw_m4 138 rfl) rfl
theorem q989 : (Jvm.Cond.methodLink "UnseenClock$Reader" (167 : Nat) ({ cls := "UnseenClock$Reader", name := "latest", desc := "()LUnseenClock$Person;" } : Jvm.MethodName)) ∈ lw_all := lw_g (lw_at lw_m4 139 rfl) rfl
theorem q990 : (Jvm.Cond.privateMethod ({ cls := "UnseenClock$Reader", name := "latest", desc := "()LUnseenClock$Person;" } : Jvm.MethodName)) ∈ lw_tbl := lw_at lw_m4 140 rfl
theorem q991 : (Jvm.Cond.instanceMethod ({ cls := "UnseenClock$Reader", name := "latest", desc := "()LUnseenClock$Person;" } : Jvm.MethodName)) ∈ lw_all := lw_g (lw_at lw_m4 141 rfl) rfl
theorem q992 : (Jvm.Cond.code ({ cls := "UnseenClock$Reader", name := "latest", desc := "()LUnseenClock$Person;" } : Jvm.MethodName) prog_11_method_16_code (1 : Nat) (Option.some (Jvm.ClassFile.FieldType.object "UnseenClock$Person"))) ∈ lw_all := lw_g (lw_at lw_m4 142 rfl) rfl
theorem q993 : (Jvm.Cond.interfaceEntry "UnseenClock$Reader" (159 : Nat)) ∈ lw_tbl := lw_at lw_m4 143 rfl
theorem q994 : (Jvm.Cond.methodLink "UnseenClock$Reader" (159 : Nat) ({ cls := "java/util/List", name := "isEmpty", desc := "()Z" } : Jvm.MethodName)) ∈ lw_all := lw_g (lw_at lw_m4 144 rfl) rfl
theorem q1002 : (Jvm.Cond.interfaceEntry "UnseenClock$Reader" (163 : Nat)) ∈ lw_tbl := lw_at lw_m4 152 rfl
theorem q1003 : (Jvm.Cond.methodLink "UnseenClock$Reader" (163 : Nat) ({ cls := "java/util/List", name := "get", desc := "(I)Ljava/lang/Object;" } : Jvm.MethodName)) ∈ lw_all := lw_g (lw_at lw_m4 153 rfl) rfl
theorem q1004 : (Jvm.Cond.methodLink "UnseenClock$Reader" (178 : Nat) ({ cls := "UnseenClock$Reader", name := "way", desc := "()I" } : Jvm.MethodName)) ∈ lw_all := lw_g (lw_at lw_m4 154 rfl) rfl
theorem q1005 : (Jvm.Cond.privateMethod ({ cls := "UnseenClock$Reader", name := "way", desc := "()I" } : Jvm.MethodName)) ∈ lw_tbl := lw_at lw_m4 155 rfl
theorem q1006 : (Jvm.Cond.instanceMethod ({ cls := "UnseenClock$Reader", name := "way", desc := "()I" } : Jvm.MethodName)) ∈ lw_all := lw_g (lw_at lw_m4 156 rfl) rfl
theorem q1007 : (Jvm.Cond.code ({ cls := "UnseenClock$Reader", name := "way", desc := "()I" } : Jvm.MethodName) prog_11_method_18_code (2 : Nat) (Option.some Jvm.ClassFile.FieldType.int)) ∈ lw_all := lw_g (lw_at lw_m4 157 rfl) rfl
theorem q1008 : (Jvm.Cond.stringRef "UnseenClock$Reader" (182 : Nat) "north") ∈ lw_tbl := lw_at lw_m4 158 rfl
theorem q1009 : (Jvm.Cond.stringRef "UnseenClock$Reader" (184 : Nat) "east") ∈ lw_tbl := lw_at lw_m4 159 rfl
theorem q1010 : (Jvm.Cond.stringRef "UnseenClock$Reader" (186 : Nat) "south") ∈ lw_tbl := lw_at lw_m4 160 rfl
theorem q1011 : (Jvm.Cond.stringRef "UnseenClock$Reader" (188 : Nat) "west") ∈ lw_tbl := lw_at lw_m4 161 rfl
theorem q1012 : (Jvm.Cond.stringRef "UnseenClock$Reader" (248 : Nat) "wait") ∈ lw_tbl := lw_at lw_m4 162 rfl
theorem q1013 : (Jvm.Cond.stringRef "UnseenClock$Reader" (250 : Nat) "look") ∈ lw_tbl := lw_at lw_m4 163 rfl
theorem q1014 : (Jvm.Cond.methodLink "UnseenClock$Reader" (252 : Nat) ({ cls := "UnseenClock$Reader", name := "look", desc := "()V" } : Jvm.MethodName)) ∈ lw_all := lw_g (lw_at lw_m4 164 rfl) rfl
theorem q1015 : (Jvm.Cond.privateMethod ({ cls := "UnseenClock$Reader", name := "look", desc := "()V" } : Jvm.MethodName)) ∈ lw_tbl := lw_at lw_m4 165 rfl
theorem q1016 : (Jvm.Cond.instanceMethod ({ cls := "UnseenClock$Reader", name := "look", desc := "()V" } : Jvm.MethodName)) ∈ lw_all := lw_g (lw_at lw_m4 166 rfl) rfl
theorem q1017 : (Jvm.Cond.code ({ cls := "UnseenClock$Reader", name := "look", desc := "()V" } : Jvm.MethodName) prog_11_method_19_code (3 : Nat) (Option.none : Option Jvm.ClassFile.FieldType)) ∈ lw_all := lw_g (lw_at lw_m4 167 rfl) rfl
theorem q1018 : (Jvm.Cond.methodLink "UnseenClock$Reader" (193 : Nat) ({ cls := "UnseenClock$Reader", name := "habit", desc := "(I)LUnseenClock$Habit;" } : Jvm.MethodName)) ∈ lw_all := lw_g (lw_at lw_m4 168 rfl) rfl
theorem q1019 : (Jvm.Cond.privateMethod ({ cls := "UnseenClock$Reader", name := "habit", desc := "(I)LUnseenClock$Habit;" } : Jvm.MethodName)) ∈ lw_tbl := lw_at lw_m4 169 rfl
theorem q1020 : (Jvm.Cond.instanceMethod ({ cls := "UnseenClock$Reader", name := "habit", desc := "(I)LUnseenClock$Habit;" } : Jvm.MethodName)) ∈ lw_all := lw_g (lw_at lw_m4 170 rfl) rfl
theorem q1021 : (Jvm.Cond.code ({ cls := "UnseenClock$Reader", name := "habit", desc := "(I)LUnseenClock$Habit;" } : Jvm.MethodName) prog_11_method_20_code (3 : Nat) (Option.some (Jvm.ClassFile.FieldType.object "UnseenClock$Habit"))) ∈ lw_all := lw_g (lw_at lw_m4 171 rfl) rfl
theorem q1022 : (Jvm.Cond.stringRef "UnseenClock$Reader" (197 : Nat) "always") ∈ lw_tbl := lw_at lw_m4 172 rfl
theorem q1023 : (Jvm.Cond.classLink "UnseenClock$Reader" (199 : Nat) "UnseenClock$Always") ∈ lw_all := lw_g (lw_at lw_m4 173 rfl) rfl
theorem q1025 : (Jvm.Cond.methodLink "UnseenClock$Reader" (201 : Nat) ({ cls := "UnseenClock$Always", name := "<init>", desc := "(I)V" } : Jvm.MethodName)) ∈ lw_all := lw_g (lw_at lw_m4 175 rfl) rfl
theorem q1039 : (Jvm.Cond.stringRef "UnseenClock$Reader" (204 : Nat) "each") ∈ lw_tbl := lw_at lw_m4 189 rfl
theorem q1040 : (Jvm.Cond.classLink "UnseenClock$Reader" (206 : Nat) "UnseenClock$Each") ∈ lw_all := lw_g (lw_at lw_m4 190 rfl) rfl
theorem q1042 : (Jvm.Cond.stringRef "UnseenClock$Reader" (208 : Nat) "after") ∈ lw_tbl := lw_at lw_m4 192 rfl
theorem q1043 : (Jvm.Cond.methodLink "UnseenClock$Reader" (210 : Nat) ({ cls := "UnseenClock$Each", name := "<init>", desc := "(III)V" } : Jvm.MethodName)) ∈ lw_all := lw_g (lw_at lw_m4 193 rfl) rfl
theorem q1055 : (Jvm.Cond.stringRef "UnseenClock$Reader" (211 : Nat) "seeing") ∈ lw_tbl := lw_at lw_m4 205 rfl
theorem q1056 : (Jvm.Cond.classLink "UnseenClock$Reader" (213 : Nat) "UnseenClock$Seeing") ∈ lw_all := lw_g (lw_at lw_m4 206 rfl) rfl
theorem q1058 : (Jvm.Cond.stringRef "UnseenClock$Reader" (215 : Nat) "is") ∈ lw_tbl := lw_at lw_m4 208 rfl
theorem q1059 : (Jvm.Cond.methodLink "UnseenClock$Reader" (216 : Nat) ({ cls := "UnseenClock$Seeing", name := "<init>", desc := "(III)V" } : Jvm.MethodName)) ∈ lw_all := lw_g (lw_at lw_m4 209 rfl) rfl
theorem q1071 : (Jvm.Cond.stringRef "UnseenClock$Reader" (217 : Nat) "with") ∈ lw_tbl := lw_at lw_m4 221 rfl
theorem q1072 : (Jvm.Cond.classLink "UnseenClock$Reader" (219 : Nat) "UnseenClock$With") ∈ lw_all := lw_g (lw_at lw_m4 222 rfl) rfl
theorem q1074 : (Jvm.Cond.methodLink "UnseenClock$Reader" (221 : Nat) ({ cls := "UnseenClock$With", name := "<init>", desc := "(II)V" } : Jvm.MethodName)) ∈ lw_all := lw_g (lw_at lw_m4 224 rfl) rfl
theorem q1083 : (Jvm.Cond.stringRef "UnseenClock$Reader" (222 : Nat) "unless") ∈ lw_tbl := lw_at lw_m4 233 rfl
theorem q1084 : (Jvm.Cond.classLink "UnseenClock$Reader" (224 : Nat) "UnseenClock$Unless") ∈ lw_all := lw_g (lw_at lw_m4 234 rfl) rfl
theorem q1086 : (Jvm.Cond.methodLink "UnseenClock$Reader" (226 : Nat) ({ cls := "UnseenClock$Unless", name := "<init>", desc := "(II)V" } : Jvm.MethodName)) ∈ lw_all := lw_g (lw_at lw_m4 236 rfl) rfl
theorem q1093 : (Jvm.Cond.classLink "UnseenClock$Reader" (227 : Nat) "UnseenClock$Maybe") ∈ lw_all := lw_g (lw_at lw_m5 3 rfl) rfl
theorem q1095 : (Jvm.Cond.stringRef "UnseenClock$Reader" (229 : Nat) "maybe") ∈ lw_tbl := lw_at lw_m5 5 rfl
theorem q1096 : (Jvm.Cond.methodLink "UnseenClock$Reader" (231 : Nat) ({ cls := "UnseenClock$Maybe", name := "<init>", desc := "(II)V" } : Jvm.MethodName)) ∈ lw_all := lw_g (lw_at lw_m5 6 rfl) rfl
theorem q1105 : (Jvm.Cond.methodLink "UnseenClock$Reader" (263 : Nat) ({ cls := "UnseenClock$Square", name := "walks", desc := "()V" } : Jvm.MethodName)) ∈ lw_all := lw_g (lw_at lw_m5 15 rfl) rfl
theorem q2317 : (Jvm.Cond.castable "UnseenClock$Reader" "java/lang/Object") ∈ lw_tbl := lw_at lw_m10 27 rfl
theorem in_X5 : ∀ w ∈ wsX50, w ∈ lw_all := lw_in wsX50 [637, 639, 641, 643, 645, 647, 649] (by decide +kernel) (by decide +kernel)
/-! UnseenClock$Fault -/
set_option maxRecDepth 100000
def RX6 : String := "UnseenClock$Fault"
def TX6 : u_T := fun k => match k with
  | 0 => ("java/lang/Throwable", "cause", "Ljava/lang/Throwable;", false)
  | 1 => ("java/lang/Throwable", "stackTrace", "[Ljava/lang/StackTraceElement;", false)
  | 2 => ("java/lang/Throwable", "suppressedExceptions", "Ljava/util/List;", false)
  | 3 => ("java/lang/Throwable", "detailMessage", "Ljava/lang/String;", false)
  | 4 => ("java/lang/Throwable", "backtrace", "Ljava/lang/Object;", false)
  | 5 => ("java/lang/Throwable", "depth", "I", false)
  | 6 => ("UnseenClock$Fault", "kind", "I", true)
  | _ => ("UnseenClock$Fault", "place", "I", true)
def tyX6 : Nat → FieldType := fun k => match k with
  | 0 => .object "java/lang/Throwable"
  | 1 => .array (.object "java/lang/StackTraceElement")
  | 2 => .object "java/util/List"
  | 3 => .object "java/lang/String"
  | 4 => .object "java/lang/Object"
  | 5 => .int
  | 6 => .int
  | _ => .int
abbrev wsX60 : List Cond := u_ws RX6 TX6 8
theorem nmX6 : ∀ a, a < 8 → ∀ b, b < 8 → a ≠ b → (TX6 a).2.1 ≠ (TX6 b).2.1 := by decide +kernel
theorem tyX6_ok : ∀ k, k < 8 → parseFieldDescriptor (TX6 k).2.2.1 = some (tyX6 k) := by decide +kernel
abbrev cX6_init : ByteArray := prog_6_method_1_code
def yX6_init : MethodName := ⟨RX6, "<init>", "(II)V"⟩
def dkwX6_init_0 : List UInt8 := [42, 1, 1, 3, 3, 183, 0, 1, 42, 27, 181, 0, 7, 42, 28, 181, 0, 13, 177]
abbrev dktX6_init_0 : List UInt8 := dkwX6_init_0 ++ []
theorem dksX6_init_0 : cX6_init.data.toList.drop 0 = dktX6_init_0 := by decide +kernel
theorem dX6_init_0 : decode cX6_init 0 = .ok (.aload_n 0, 1) := dk_42 (dk_at dksX6_init_0 0 rfl rfl)
theorem dX6_init_1 : decode cX6_init 1 = .ok (.aconst_null, 1) := dk_1 (dk_at dksX6_init_0 1 rfl rfl)
theorem dX6_init_2 : decode cX6_init 2 = .ok (.aconst_null, 1) := dk_1 (dk_at dksX6_init_0 2 rfl rfl)
theorem dX6_init_3 : decode cX6_init 3 = .ok (.iconst 0, 1) := dk_3 (dk_at dksX6_init_0 3 rfl rfl)
theorem dX6_init_4 : decode cX6_init 4 = .ok (.iconst 0, 1) := dk_3 (dk_at dksX6_init_0 4 rfl rfl)
theorem dX6_init_5 : decode cX6_init 5 = .ok (.invokespecial 1, 3) := dk_183 0 1 (dk_at dksX6_init_0 5 rfl rfl)
theorem dX6_init_8 : decode cX6_init 8 = .ok (.aload_n 0, 1) := dk_42 (dk_at dksX6_init_0 8 rfl rfl)
theorem dX6_init_9 : decode cX6_init 9 = .ok (.iload_n 1, 1) := dk_27 (dk_at dksX6_init_0 9 rfl rfl)
theorem dX6_init_10 : decode cX6_init 10 = .ok (.putfield 7, 3) := dk_181 0 7 (dk_at dksX6_init_0 10 rfl rfl)
theorem dX6_init_13 : decode cX6_init 13 = .ok (.aload_n 0, 1) := dk_42 (dk_at dksX6_init_0 13 rfl rfl)
theorem dX6_init_14 : decode cX6_init 14 = .ok (.iload_n 2, 1) := dk_28 (dk_at dksX6_init_0 14 rfl rfl)
theorem dX6_init_15 : decode cX6_init 15 = .ok (.putfield 13, 3) := dk_181 0 13 (dk_at dksX6_init_0 15 rfl rfl)
theorem dX6_init_18 : decode cX6_init 18 = .ok (.return_, 1) := dk_177 (dk_at dksX6_init_0 18 rfl rfl)
theorem q148 : (Jvm.Cond.initialized "UnseenClock$Fault") ∈ lw_all := lw_g (lw_at lw_m1 18 rfl) rfl
theorem q209 : (Jvm.Cond.selects "UnseenClock$Fault" ({ cls := "java/lang/Throwable", name := "fillInStackTrace", desc := "()Ljava/lang/Throwable;" } : Jvm.MethodName) ({ cls := "java/lang/Throwable", name := "fillInStackTrace", desc := "()Ljava/lang/Throwable;" } : Jvm.MethodName)) ∈ lw_all := lw_g (lw_at lw_m1 79 rfl) rfl
theorem q726 : (Jvm.Cond.instantiable "UnseenClock$Fault" (8 : Nat)) ∈ lw_all := lw_g (lw_at lw_m3 116 rfl) rfl
theorem q727 : (Jvm.Cond.castable "UnseenClock$Fault" "UnseenClock$Fault") ∈ lw_tbl := lw_at lw_m3 117 rfl
theorem q728 : (Jvm.Cond.selects "UnseenClock$Fault" ({ cls := "java/lang/Throwable", name := "fillInStackTrace", desc := "(I)Ljava/lang/Throwable;" } : Jvm.MethodName) ({ cls := "java/lang/Throwable", name := "fillInStackTrace", desc := "(I)Ljava/lang/Throwable;" } : Jvm.MethodName)) ∈ lw_all := lw_g (lw_at lw_m3 118 rfl) rfl
theorem q729 : (Jvm.Cond.lays "UnseenClock$Fault" "java/lang/Throwable" "cause" "Ljava/lang/Throwable;") ∈ lw_all := lw_g (lw_at lw_m3 119 rfl) rfl
theorem q730 : (Jvm.Cond.lays "UnseenClock$Fault" "java/lang/Throwable" "stackTrace" "[Ljava/lang/StackTraceElement;") ∈ lw_all := lw_g (lw_at lw_m3 120 rfl) rfl
theorem q731 : (Jvm.Cond.lays "UnseenClock$Fault" "java/lang/Throwable" "suppressedExceptions" "Ljava/util/List;") ∈ lw_all := lw_g (lw_at lw_m3 121 rfl) rfl
theorem q732 : (Jvm.Cond.lays "UnseenClock$Fault" "java/lang/Throwable" "detailMessage" "Ljava/lang/String;") ∈ lw_all := lw_g (lw_at lw_m3 122 rfl) rfl
theorem q733 : (Jvm.Cond.lays "UnseenClock$Fault" "java/lang/Throwable" "backtrace" "Ljava/lang/Object;") ∈ lw_all := lw_g (lw_at lw_m3 123 rfl) rfl
theorem q735 : (Jvm.Cond.instanceMethod ({ cls := "UnseenClock$Fault", name := "<init>", desc := "(II)V" } : Jvm.MethodName)) ∈ lw_all := lw_g (lw_at lw_m3 125 rfl) rfl
theorem q736 : (Jvm.Cond.code ({ cls := "UnseenClock$Fault", name := "<init>", desc := "(II)V" } : Jvm.MethodName) prog_6_method_1_code (3 : Nat) (Option.none : Option Jvm.ClassFile.FieldType)) ∈ lw_all := lw_g (lw_at lw_m3 126 rfl) rfl
theorem q737 : (Jvm.Cond.methodLink "UnseenClock$Fault" (1 : Nat) ({ cls := "java/lang/RuntimeException", name := "<init>", desc := "(Ljava/lang/String;Ljava/lang/Throwable;ZZ)V" } : Jvm.MethodName)) ∈ lw_all := lw_g (lw_at lw_m3 127 rfl) rfl
theorem q746 : (Jvm.Cond.fieldLink "UnseenClock$Fault" (7 : Nat) "UnseenClock$Fault" "kind" "I") ∈ lw_all := lw_g (lw_at lw_m3 136 rfl) rfl
theorem q748 : (Jvm.Cond.fieldLink "UnseenClock$Fault" (13 : Nat) "UnseenClock$Fault" "place" "I") ∈ lw_all := lw_g (lw_at lw_m3 138 rfl) rfl
theorem q750 : (Jvm.Cond.laysFinal "UnseenClock$Fault" "UnseenClock$Fault" "kind" "I") ∈ lw_all := lw_g (lw_at lw_m3 140 rfl) rfl
theorem q751 : (Jvm.Cond.soleField "UnseenClock$Fault" "kind") ∈ lw_all := lw_g (lw_at lw_m3 141 rfl) rfl
theorem q752 : (Jvm.Cond.laysFinal "UnseenClock$Fault" "UnseenClock$Fault" "place" "I") ∈ lw_all := lw_g (lw_at lw_m3 142 rfl) rfl
theorem q753 : (Jvm.Cond.soleField "UnseenClock$Fault" "place") ∈ lw_all := lw_g (lw_at lw_m3 143 rfl) rfl
theorem q754 : (Jvm.Cond.lays "UnseenClock$Fault" "java/lang/Throwable" "depth" "I") ∈ lw_all := lw_g (lw_at lw_m3 144 rfl) rfl
theorem q755 : (Jvm.Cond.superclass "UnseenClock$Fault" "java/lang/RuntimeException") ∈ lw_all := lw_g (lw_at lw_m3 145 rfl) rfl
theorem q913 : (Jvm.Cond.selects "UnseenClock$Fault" ({ cls := "java/lang/Object", name := "getClass", desc := "()Ljava/lang/Class;" } : Jvm.MethodName) ({ cls := "java/lang/Object", name := "getClass", desc := "()Ljava/lang/Class;" } : Jvm.MethodName)) ∈ lw_all := lw_g (lw_at lw_m4 63 rfl) rfl
theorem q2318 : (Jvm.Cond.castable "UnseenClock$Fault" "java/lang/Object") ∈ lw_tbl := lw_at lw_m10 28 rfl
theorem in_X6 : ∀ w ∈ wsX60, w ∈ lw_all := lw_in wsX60 [729, 730, 731, 732, 733, 754, 750, 752] (by decide +kernel) (by decide +kernel)
/-! UnseenClock$Dial -/
set_option maxRecDepth 100000
def RX7 : String := "UnseenClock$Dial"
def TX7 : u_T := fun k => match k with
  | 0 => ("UnseenClock$Dial", "x", "I", true)
  | 1 => ("UnseenClock$Dial", "y", "I", true)
  | 2 => ("UnseenClock$Dial", "pace", "I", true)
  | 3 => ("UnseenClock$Dial", "over", "I", true)
  | 4 => ("UnseenClock$Dial", "shows", "I", true)
  | _ => ("UnseenClock$Dial", "from", "I", true)
def tyX7 : Nat → FieldType := fun k => match k with
  | 0 => .int
  | 1 => .int
  | 2 => .int
  | 3 => .int
  | 4 => .int
  | _ => .int
abbrev wsX70 : List Cond := u_ws RX7 TX7 6
theorem nmX7 : ∀ a, a < 6 → ∀ b, b < 6 → a ≠ b → (TX7 a).2.1 ≠ (TX7 b).2.1 := by decide +kernel
theorem tyX7_ok : ∀ k, k < 6 → parseFieldDescriptor (TX7 k).2.2.1 = some (tyX7 k) := by decide +kernel
abbrev cX7_init : ByteArray := prog_4_method_1_code
def yX7_init : MethodName := ⟨RX7, "<init>", "(IIIIII)V"⟩
def dkwX7_init_1 : List UInt8 := [181, 0, 19, 42, 21, 5, 181, 0, 22, 42, 21, 6, 181, 0, 25, 177]
abbrev dktX7_init_1 : List UInt8 := dkwX7_init_1 ++ []
def dkwX7_init_0 : List UInt8 := [42, 183, 0, 1, 42, 27, 181, 0, 7, 42, 28, 181, 0, 13, 42, 29, 181, 0, 16, 42, 21, 4]
abbrev dktX7_init_0 : List UInt8 := dkwX7_init_0 ++ dktX7_init_1
theorem dksX7_init_0 : cX7_init.data.toList.drop 0 = dktX7_init_0 := by decide +kernel
theorem dksX7_init_1 : cX7_init.data.toList.drop 22 = dktX7_init_1 := dk_seg dksX7_init_0 22 rfl rfl
theorem dX7_init_0 : decode cX7_init 0 = .ok (.aload_n 0, 1) := dk_42 (dk_at dksX7_init_0 0 rfl rfl)
theorem dX7_init_1 : decode cX7_init 1 = .ok (.invokespecial 1, 3) := dk_183 0 1 (dk_at dksX7_init_0 1 rfl rfl)
theorem dX7_init_4 : decode cX7_init 4 = .ok (.aload_n 0, 1) := dk_42 (dk_at dksX7_init_0 4 rfl rfl)
theorem dX7_init_5 : decode cX7_init 5 = .ok (.iload_n 1, 1) := dk_27 (dk_at dksX7_init_0 5 rfl rfl)
theorem dX7_init_6 : decode cX7_init 6 = .ok (.putfield 7, 3) := dk_181 0 7 (dk_at dksX7_init_0 6 rfl rfl)
theorem dX7_init_9 : decode cX7_init 9 = .ok (.aload_n 0, 1) := dk_42 (dk_at dksX7_init_0 9 rfl rfl)
theorem dX7_init_10 : decode cX7_init 10 = .ok (.iload_n 2, 1) := dk_28 (dk_at dksX7_init_0 10 rfl rfl)
theorem dX7_init_11 : decode cX7_init 11 = .ok (.putfield 13, 3) := dk_181 0 13 (dk_at dksX7_init_0 11 rfl rfl)
theorem dX7_init_14 : decode cX7_init 14 = .ok (.aload_n 0, 1) := dk_42 (dk_at dksX7_init_0 14 rfl rfl)
theorem dX7_init_15 : decode cX7_init 15 = .ok (.iload_n 3, 1) := dk_29 (dk_at dksX7_init_0 15 rfl rfl)
theorem dX7_init_16 : decode cX7_init 16 = .ok (.putfield 16, 3) := dk_181 0 16 (dk_at dksX7_init_0 16 rfl rfl)
theorem dX7_init_19 : decode cX7_init 19 = .ok (.aload_n 0, 1) := dk_42 (dk_at dksX7_init_0 19 rfl rfl)
theorem dX7_init_20 : decode cX7_init 20 = .ok (.iload 4, 2) := dk_21 4 (dk_at dksX7_init_0 20 rfl rfl)
theorem dX7_init_22 : decode cX7_init 22 = .ok (.putfield 19, 3) := dk_181 0 19 (dk_at dksX7_init_1 0 rfl rfl)
theorem dX7_init_25 : decode cX7_init 25 = .ok (.aload_n 0, 1) := dk_42 (dk_at dksX7_init_1 3 rfl rfl)
theorem dX7_init_26 : decode cX7_init 26 = .ok (.iload 5, 2) := dk_21 5 (dk_at dksX7_init_1 4 rfl rfl)
theorem dX7_init_28 : decode cX7_init 28 = .ok (.putfield 22, 3) := dk_181 0 22 (dk_at dksX7_init_1 6 rfl rfl)
theorem dX7_init_31 : decode cX7_init 31 = .ok (.aload_n 0, 1) := dk_42 (dk_at dksX7_init_1 9 rfl rfl)
theorem dX7_init_32 : decode cX7_init 32 = .ok (.iload 6, 2) := dk_21 6 (dk_at dksX7_init_1 10 rfl rfl)
theorem dX7_init_34 : decode cX7_init 34 = .ok (.putfield 25, 3) := dk_181 0 25 (dk_at dksX7_init_1 12 rfl rfl)
theorem dX7_init_37 : decode cX7_init 37 = .ok (.return_, 1) := dk_177 (dk_at dksX7_init_1 15 rfl rfl)
theorem q150 : (Jvm.Cond.initialized "UnseenClock$Dial") ∈ lw_all := lw_g (lw_at lw_m1 20 rfl) rfl
theorem q837 : (Jvm.Cond.instantiable "UnseenClock$Dial" (6 : Nat)) ∈ lw_all := lw_g (lw_at lw_m3 227 rfl) rfl
theorem q840 : (Jvm.Cond.instanceMethod ({ cls := "UnseenClock$Dial", name := "<init>", desc := "(IIIIII)V" } : Jvm.MethodName)) ∈ lw_all := lw_g (lw_at lw_m3 230 rfl) rfl
theorem q841 : (Jvm.Cond.code ({ cls := "UnseenClock$Dial", name := "<init>", desc := "(IIIIII)V" } : Jvm.MethodName) prog_4_method_1_code (7 : Nat) (Option.none : Option Jvm.ClassFile.FieldType)) ∈ lw_all := lw_g (lw_at lw_m3 231 rfl) rfl
theorem q842 : (Jvm.Cond.methodLink "UnseenClock$Dial" (1 : Nat) ({ cls := "java/lang/Object", name := "<init>", desc := "()V" } : Jvm.MethodName)) ∈ lw_all := lw_g (lw_at lw_m3 232 rfl) rfl
theorem q843 : (Jvm.Cond.fieldLink "UnseenClock$Dial" (7 : Nat) "UnseenClock$Dial" "x" "I") ∈ lw_all := lw_g (lw_at lw_m3 233 rfl) rfl
theorem q845 : (Jvm.Cond.fieldLink "UnseenClock$Dial" (13 : Nat) "UnseenClock$Dial" "y" "I") ∈ lw_all := lw_g (lw_at lw_m3 235 rfl) rfl
theorem q847 : (Jvm.Cond.fieldLink "UnseenClock$Dial" (16 : Nat) "UnseenClock$Dial" "pace" "I") ∈ lw_all := lw_g (lw_at lw_m3 237 rfl) rfl
theorem q849 : (Jvm.Cond.fieldLink "UnseenClock$Dial" (19 : Nat) "UnseenClock$Dial" "over" "I") ∈ lw_all := lw_g (lw_at lw_m3 239 rfl) rfl
theorem q852 : (Jvm.Cond.fieldLink "UnseenClock$Dial" (22 : Nat) "UnseenClock$Dial" "shows" "I") ∈ lw_all := lw_g (lw_at lw_m4 2 rfl) rfl
theorem q854 : (Jvm.Cond.fieldLink "UnseenClock$Dial" (25 : Nat) "UnseenClock$Dial" "from" "I") ∈ lw_all := lw_g (lw_at lw_m4 4 rfl) rfl
theorem q856 : (Jvm.Cond.laysFinal "UnseenClock$Dial" "UnseenClock$Dial" "x" "I") ∈ lw_all := lw_g (lw_at lw_m4 6 rfl) rfl
theorem q857 : (Jvm.Cond.soleField "UnseenClock$Dial" "x") ∈ lw_all := lw_g (lw_at lw_m4 7 rfl) rfl
theorem q858 : (Jvm.Cond.laysFinal "UnseenClock$Dial" "UnseenClock$Dial" "y" "I") ∈ lw_all := lw_g (lw_at lw_m4 8 rfl) rfl
theorem q859 : (Jvm.Cond.soleField "UnseenClock$Dial" "y") ∈ lw_all := lw_g (lw_at lw_m4 9 rfl) rfl
theorem q860 : (Jvm.Cond.laysFinal "UnseenClock$Dial" "UnseenClock$Dial" "pace" "I") ∈ lw_all := lw_g (lw_at lw_m4 10 rfl) rfl
theorem q861 : (Jvm.Cond.soleField "UnseenClock$Dial" "pace") ∈ lw_all := lw_g (lw_at lw_m4 11 rfl) rfl
theorem q862 : (Jvm.Cond.laysFinal "UnseenClock$Dial" "UnseenClock$Dial" "over" "I") ∈ lw_all := lw_g (lw_at lw_m4 12 rfl) rfl
theorem q863 : (Jvm.Cond.soleField "UnseenClock$Dial" "over") ∈ lw_all := lw_g (lw_at lw_m4 13 rfl) rfl
theorem q864 : (Jvm.Cond.laysFinal "UnseenClock$Dial" "UnseenClock$Dial" "shows" "I") ∈ lw_all := lw_g (lw_at lw_m4 14 rfl) rfl
theorem q865 : (Jvm.Cond.soleField "UnseenClock$Dial" "shows") ∈ lw_all := lw_g (lw_at lw_m4 15 rfl) rfl
theorem q866 : (Jvm.Cond.laysFinal "UnseenClock$Dial" "UnseenClock$Dial" "from" "I") ∈ lw_all := lw_g (lw_at lw_m4 16 rfl) rfl
theorem q867 : (Jvm.Cond.soleField "UnseenClock$Dial" "from") ∈ lw_all := lw_g (lw_at lw_m4 17 rfl) rfl
theorem q868 : (Jvm.Cond.superclass "UnseenClock$Dial" "java/lang/Object") ∈ lw_all := lw_g (lw_at lw_m4 18 rfl) rfl
theorem q911 : (Jvm.Cond.selects "UnseenClock$Dial" ({ cls := "java/lang/Object", name := "getClass", desc := "()Ljava/lang/Class;" } : Jvm.MethodName) ({ cls := "java/lang/Object", name := "getClass", desc := "()Ljava/lang/Class;" } : Jvm.MethodName)) ∈ lw_all := lw_g (lw_at lw_m4 61 rfl) rfl
theorem q2319 : (Jvm.Cond.castable "UnseenClock$Dial" "java/lang/Object") ∈ lw_tbl := lw_at lw_m10 29 rfl
theorem in_X7 : ∀ w ∈ wsX70, w ∈ lw_all := lw_in wsX70 [856, 858, 860, 862, 864, 866] (by decide +kernel) (by decide +kernel)
/-! UnseenClock$Person -/
set_option maxRecDepth 100000
def RX8 : String := "UnseenClock$Person"
def TX8 : u_T := fun k => match k with
  | 0 => ("UnseenClock$Person", "x", "I", true)
  | 1 => ("UnseenClock$Person", "y", "I", true)
  | 2 => ("UnseenClock$Person", "from", "I", true)
  | 3 => ("UnseenClock$Person", "way", "[I", true)
  | 4 => ("UnseenClock$Person", "many", "[I", true)
  | 5 => ("UnseenClock$Person", "looks", "Ljava/util/List;", true)
  | _ => ("UnseenClock$Person", "legs", "I", false)
def tyX8 : Nat → FieldType := fun k => match k with
  | 0 => .int
  | 1 => .int
  | 2 => .int
  | 3 => .array .int
  | 4 => .array .int
  | 5 => .object "java/util/List"
  | _ => .int
abbrev wsX80 : List Cond := u_ws RX8 TX8 7
theorem nmX8 : ∀ a, a < 7 → ∀ b, b < 7 → a ≠ b → (TX8 a).2.1 ≠ (TX8 b).2.1 := by decide +kernel
theorem tyX8_ok : ∀ k, k < 7 → parseFieldDescriptor (TX8 k).2.2.1 = some (tyX8 k) := by decide +kernel
abbrev cX8_init : ByteArray := prog_10_method_1_code
def yX8_init : MethodName := ⟨RX8, "<init>", "(III)V"⟩
def dkwX8_init_1 : List UInt8 := [89, 7, 183, 0, 20, 181, 0, 23, 42, 27, 181, 0, 27, 42, 28, 181, 0, 31, 42, 29, 181, 0, 34, 177]
abbrev dktX8_init_1 : List UInt8 := dkwX8_init_1 ++ []
def dkwX8_init_0 : List UInt8 := [42, 183, 0, 3, 42, 16, 6, 188, 10, 181, 0, 9, 42, 16, 6, 188, 10, 181, 0, 15, 42, 187, 0, 18]
abbrev dktX8_init_0 : List UInt8 := dkwX8_init_0 ++ dktX8_init_1
theorem dksX8_init_0 : cX8_init.data.toList.drop 0 = dktX8_init_0 := by decide +kernel
theorem dksX8_init_1 : cX8_init.data.toList.drop 24 = dktX8_init_1 := dk_seg dksX8_init_0 24 rfl rfl
theorem dX8_init_0 : decode cX8_init 0 = .ok (.aload_n 0, 1) := dk_42 (dk_at dksX8_init_0 0 rfl rfl)
theorem dX8_init_1 : decode cX8_init 1 = .ok (.invokespecial 3, 3) := dk_183 0 3 (dk_at dksX8_init_0 1 rfl rfl)
theorem dX8_init_4 : decode cX8_init 4 = .ok (.aload_n 0, 1) := dk_42 (dk_at dksX8_init_0 4 rfl rfl)
theorem dX8_init_5 : decode cX8_init 5 = .ok (.bipush 6, 2) := dk_16 6 (dk_at dksX8_init_0 5 rfl rfl)
theorem dX8_init_7 : decode cX8_init 7 = .ok (.newarray .int, 2) := dk_188_10 (dk_at dksX8_init_0 7 rfl rfl)
theorem dX8_init_9 : decode cX8_init 9 = .ok (.putfield 9, 3) := dk_181 0 9 (dk_at dksX8_init_0 9 rfl rfl)
theorem dX8_init_12 : decode cX8_init 12 = .ok (.aload_n 0, 1) := dk_42 (dk_at dksX8_init_0 12 rfl rfl)
theorem dX8_init_13 : decode cX8_init 13 = .ok (.bipush 6, 2) := dk_16 6 (dk_at dksX8_init_0 13 rfl rfl)
theorem dX8_init_15 : decode cX8_init 15 = .ok (.newarray .int, 2) := dk_188_10 (dk_at dksX8_init_0 15 rfl rfl)
theorem dX8_init_17 : decode cX8_init 17 = .ok (.putfield 15, 3) := dk_181 0 15 (dk_at dksX8_init_0 17 rfl rfl)
theorem dX8_init_20 : decode cX8_init 20 = .ok (.aload_n 0, 1) := dk_42 (dk_at dksX8_init_0 20 rfl rfl)
theorem dX8_init_21 : decode cX8_init 21 = .ok (.new 18, 3) := dk_187 0 18 (dk_at dksX8_init_0 21 rfl rfl)
theorem dX8_init_24 : decode cX8_init 24 = .ok (.dup, 1) := dk_89 (dk_at dksX8_init_1 0 rfl rfl)
theorem dX8_init_25 : decode cX8_init 25 = .ok (.iconst 4, 1) := dk_7 (dk_at dksX8_init_1 1 rfl rfl)
theorem dX8_init_26 : decode cX8_init 26 = .ok (.invokespecial 20, 3) := dk_183 0 20 (dk_at dksX8_init_1 2 rfl rfl)
theorem dX8_init_29 : decode cX8_init 29 = .ok (.putfield 23, 3) := dk_181 0 23 (dk_at dksX8_init_1 5 rfl rfl)
theorem dX8_init_32 : decode cX8_init 32 = .ok (.aload_n 0, 1) := dk_42 (dk_at dksX8_init_1 8 rfl rfl)
theorem dX8_init_33 : decode cX8_init 33 = .ok (.iload_n 1, 1) := dk_27 (dk_at dksX8_init_1 9 rfl rfl)
theorem dX8_init_34 : decode cX8_init 34 = .ok (.putfield 27, 3) := dk_181 0 27 (dk_at dksX8_init_1 10 rfl rfl)
theorem dX8_init_37 : decode cX8_init 37 = .ok (.aload_n 0, 1) := dk_42 (dk_at dksX8_init_1 13 rfl rfl)
theorem dX8_init_38 : decode cX8_init 38 = .ok (.iload_n 2, 1) := dk_28 (dk_at dksX8_init_1 14 rfl rfl)
theorem dX8_init_39 : decode cX8_init 39 = .ok (.putfield 31, 3) := dk_181 0 31 (dk_at dksX8_init_1 15 rfl rfl)
theorem dX8_init_42 : decode cX8_init 42 = .ok (.aload_n 0, 1) := dk_42 (dk_at dksX8_init_1 18 rfl rfl)
theorem dX8_init_43 : decode cX8_init 43 = .ok (.iload_n 3, 1) := dk_29 (dk_at dksX8_init_1 19 rfl rfl)
theorem dX8_init_44 : decode cX8_init 44 = .ok (.putfield 34, 3) := dk_181 0 34 (dk_at dksX8_init_1 20 rfl rfl)
theorem dX8_init_47 : decode cX8_init 47 = .ok (.return_, 1) := dk_177 (dk_at dksX8_init_1 23 rfl rfl)
theorem q154 : (Jvm.Cond.initialized "UnseenClock$Person") ∈ lw_all := lw_g (lw_at lw_m1 24 rfl) rfl
theorem q916 : (Jvm.Cond.selects "UnseenClock$Person" ({ cls := "java/lang/Object", name := "getClass", desc := "()Ljava/lang/Class;" } : Jvm.MethodName) ({ cls := "java/lang/Object", name := "getClass", desc := "()Ljava/lang/Class;" } : Jvm.MethodName)) ∈ lw_all := lw_g (lw_at lw_m4 66 rfl) rfl
theorem q945 : (Jvm.Cond.instantiable "UnseenClock$Person" (7 : Nat)) ∈ lw_all := lw_g (lw_at lw_m4 95 rfl) rfl
theorem q947 : (Jvm.Cond.instanceMethod ({ cls := "UnseenClock$Person", name := "<init>", desc := "(III)V" } : Jvm.MethodName)) ∈ lw_all := lw_g (lw_at lw_m4 97 rfl) rfl
theorem q948 : (Jvm.Cond.code ({ cls := "UnseenClock$Person", name := "<init>", desc := "(III)V" } : Jvm.MethodName) prog_10_method_1_code (4 : Nat) (Option.none : Option Jvm.ClassFile.FieldType)) ∈ lw_all := lw_g (lw_at lw_m4 98 rfl) rfl
theorem q949 : (Jvm.Cond.methodLink "UnseenClock$Person" (3 : Nat) ({ cls := "java/lang/Object", name := "<init>", desc := "()V" } : Jvm.MethodName)) ∈ lw_all := lw_g (lw_at lw_m4 99 rfl) rfl
theorem q950 : (Jvm.Cond.classLink "UnseenClock$Person" (18 : Nat) "java/util/ArrayList") ∈ lw_all := lw_g (lw_at lw_m4 100 rfl) rfl
theorem q951 : (Jvm.Cond.methodLink "UnseenClock$Person" (20 : Nat) ({ cls := "java/util/ArrayList", name := "<init>", desc := "(I)V" } : Jvm.MethodName)) ∈ lw_all := lw_g (lw_at lw_m4 101 rfl) rfl
theorem q952 : (Jvm.Cond.fieldLink "UnseenClock$Person" (27 : Nat) "UnseenClock$Person" "x" "I") ∈ lw_all := lw_g (lw_at lw_m4 102 rfl) rfl
theorem q954 : (Jvm.Cond.fieldLink "UnseenClock$Person" (31 : Nat) "UnseenClock$Person" "y" "I") ∈ lw_all := lw_g (lw_at lw_m4 104 rfl) rfl
theorem q956 : (Jvm.Cond.fieldLink "UnseenClock$Person" (34 : Nat) "UnseenClock$Person" "from" "I") ∈ lw_all := lw_g (lw_at lw_m4 106 rfl) rfl
theorem q958 : (Jvm.Cond.fieldLink "UnseenClock$Person" (9 : Nat) "UnseenClock$Person" "way" "[I") ∈ lw_all := lw_g (lw_at lw_m4 108 rfl) rfl
theorem q961 : (Jvm.Cond.fieldLink "UnseenClock$Person" (15 : Nat) "UnseenClock$Person" "many" "[I") ∈ lw_all := lw_g (lw_at lw_m4 111 rfl) rfl
theorem q964 : (Jvm.Cond.fieldLink "UnseenClock$Person" (23 : Nat) "UnseenClock$Person" "looks" "Ljava/util/List;") ∈ lw_all := lw_g (lw_at lw_m4 114 rfl) rfl
theorem q969 : (Jvm.Cond.laysFinal "UnseenClock$Person" "UnseenClock$Person" "x" "I") ∈ lw_all := lw_g (lw_at lw_m4 119 rfl) rfl
theorem q970 : (Jvm.Cond.soleField "UnseenClock$Person" "x") ∈ lw_all := lw_g (lw_at lw_m4 120 rfl) rfl
theorem q971 : (Jvm.Cond.laysFinal "UnseenClock$Person" "UnseenClock$Person" "y" "I") ∈ lw_all := lw_g (lw_at lw_m4 121 rfl) rfl
theorem q972 : (Jvm.Cond.soleField "UnseenClock$Person" "y") ∈ lw_all := lw_g (lw_at lw_m4 122 rfl) rfl
theorem q973 : (Jvm.Cond.laysFinal "UnseenClock$Person" "UnseenClock$Person" "from" "I") ∈ lw_all := lw_g (lw_at lw_m4 123 rfl) rfl
theorem q974 : (Jvm.Cond.soleField "UnseenClock$Person" "from") ∈ lw_all := lw_g (lw_at lw_m4 124 rfl) rfl
theorem q975 : (Jvm.Cond.laysFinal "UnseenClock$Person" "UnseenClock$Person" "way" "[I") ∈ lw_all := lw_g (lw_at lw_m4 125 rfl) rfl
theorem q976 : (Jvm.Cond.soleField "UnseenClock$Person" "way") ∈ lw_all := lw_g (lw_at lw_m4 126 rfl) rfl
theorem q977 : (Jvm.Cond.laysFinal "UnseenClock$Person" "UnseenClock$Person" "many" "[I") ∈ lw_all := lw_g (lw_at lw_m4 127 rfl) rfl
theorem q978 : (Jvm.Cond.soleField "UnseenClock$Person" "many") ∈ lw_all := lw_g (lw_at lw_m4 128 rfl) rfl
theorem q979 : (Jvm.Cond.laysFinal "UnseenClock$Person" "UnseenClock$Person" "looks" "Ljava/util/List;") ∈ lw_all := lw_g (lw_at lw_m4 129 rfl) rfl
theorem q980 : (Jvm.Cond.soleField "UnseenClock$Person" "looks") ∈ lw_all := lw_g (lw_at lw_m4 130 rfl) rfl
theorem q981 : (Jvm.Cond.lays "UnseenClock$Person" "UnseenClock$Person" "legs" "I") ∈ lw_all := lw_g (lw_at lw_m4 131 rfl) rfl
theorem q982 : (Jvm.Cond.soleField "UnseenClock$Person" "legs") ∈ lw_all := lw_g (lw_at lw_m4 132 rfl) rfl
theorem q983 : (Jvm.Cond.superclass "UnseenClock$Person" "java/lang/Object") ∈ lw_all := lw_g (lw_at lw_m4 133 rfl) rfl
theorem q2320 : (Jvm.Cond.castable "UnseenClock$Person" "java/lang/Object") ∈ lw_tbl := lw_at lw_m10 30 rfl
theorem in_X8 : ∀ w ∈ wsX80, w ∈ lw_all := lw_in wsX80 [969, 971, 973, 975, 977, 979, 981] (by decide +kernel) (by decide +kernel)
/-! UnseenClock$Habit -/
set_option maxRecDepth 100000
def RX9 : String := "UnseenClock$Habit"
abbrev cX9_init : ByteArray := prog_7_method_1_code
def yX9_init : MethodName := ⟨RX9, "<init>", "(I)V"⟩
def dkwX9_init_0 : List UInt8 := [42, 183, 0, 3, 42, 27, 181, 0, 9, 177]
abbrev dktX9_init_0 : List UInt8 := dkwX9_init_0 ++ []
theorem dksX9_init_0 : cX9_init.data.toList.drop 0 = dktX9_init_0 := by decide +kernel
theorem dX9_init_0 : decode cX9_init 0 = .ok (.aload_n 0, 1) := dk_42 (dk_at dksX9_init_0 0 rfl rfl)
theorem dX9_init_1 : decode cX9_init 1 = .ok (.invokespecial 3, 3) := dk_183 0 3 (dk_at dksX9_init_0 1 rfl rfl)
theorem dX9_init_4 : decode cX9_init 4 = .ok (.aload_n 0, 1) := dk_42 (dk_at dksX9_init_0 4 rfl rfl)
theorem dX9_init_5 : decode cX9_init 5 = .ok (.iload_n 1, 1) := dk_27 (dk_at dksX9_init_0 5 rfl rfl)
theorem dX9_init_6 : decode cX9_init 6 = .ok (.putfield 9, 3) := dk_181 0 9 (dk_at dksX9_init_0 6 rfl rfl)
theorem dX9_init_9 : decode cX9_init 9 = .ok (.return_, 1) := dk_177 (dk_at dksX9_init_0 9 rfl rfl)
abbrev cX9_odds : ByteArray := prog_7_method_3_code
def yX9_odds : MethodName := ⟨RX9, "odds", "()I"⟩
theorem dX9_odds_0 : decode cX9_odds 0 = .ok (.iconst (-1), 1) := by decide +kernel
theorem dX9_odds_1 : decode cX9_odds 1 = .ok (.ireturn, 1) := by decide +kernel
theorem q155 : (Jvm.Cond.initialized "UnseenClock$Habit") ∈ lw_all := lw_g (lw_at lw_m1 25 rfl) rfl
theorem q1029 : (Jvm.Cond.instanceMethod ({ cls := "UnseenClock$Habit", name := "<init>", desc := "(I)V" } : Jvm.MethodName)) ∈ lw_all := lw_g (lw_at lw_m4 179 rfl) rfl
theorem q1030 : (Jvm.Cond.code ({ cls := "UnseenClock$Habit", name := "<init>", desc := "(I)V" } : Jvm.MethodName) prog_7_method_1_code (2 : Nat) (Option.none : Option Jvm.ClassFile.FieldType)) ∈ lw_all := lw_g (lw_at lw_m4 180 rfl) rfl
theorem q1031 : (Jvm.Cond.methodLink "UnseenClock$Habit" (3 : Nat) ({ cls := "java/lang/Object", name := "<init>", desc := "()V" } : Jvm.MethodName)) ∈ lw_all := lw_g (lw_at lw_m4 181 rfl) rfl
theorem q1032 : (Jvm.Cond.fieldLink "UnseenClock$Habit" (9 : Nat) "UnseenClock$Habit" "clock" "I") ∈ lw_all := lw_g (lw_at lw_m4 182 rfl) rfl
theorem q1037 : (Jvm.Cond.soleField "UnseenClock$Habit" "clock") ∈ lw_all := lw_g (lw_at lw_m4 187 rfl) rfl
theorem q1208 : (Jvm.Cond.instanceMethod ({ cls := "UnseenClock$Habit", name := "odds", desc := "()I" } : Jvm.MethodName)) ∈ lw_all := lw_g (lw_at lw_m5 118 rfl) rfl
theorem q1209 : (Jvm.Cond.sameMethod "UnseenClock$Habit" "UnseenClock$Habit" "odds" "()I") ∈ lw_all := lw_g (lw_at lw_m5 119 rfl) rfl
theorem q1218 : (Jvm.Cond.code ({ cls := "UnseenClock$Habit", name := "odds", desc := "()I" } : Jvm.MethodName) prog_7_method_3_code (1 : Nat) (Option.some Jvm.ClassFile.FieldType.int)) ∈ lw_all := lw_g (lw_at lw_m5 128 rfl) rfl
theorem q1238 : (Jvm.Cond.declares ({ cls := "UnseenClock$Habit", name := "now", desc := "(LUnseenClock$Course;II)I" } : Jvm.MethodName)) ∈ lw_tbl := lw_at lw_m5 148 rfl
theorem q1239 : (Jvm.Cond.sameMethod "UnseenClock$Habit" "UnseenClock$Habit" "now" "(LUnseenClock$Course;II)I") ∈ lw_all := lw_g (lw_at lw_m5 149 rfl) rfl
/-! UnseenClock$Always -/
set_option maxRecDepth 100000
def RX10 : String := "UnseenClock$Always"
def TX10 : u_T := fun k => match k with
  | _ => ("UnseenClock$Habit", "clock", "I", true)
def tyX10 : Nat → FieldType := fun k => match k with
  | _ => .int
abbrev wsX100 : List Cond := u_ws RX10 TX10 1
theorem nmX10 : ∀ a, a < 1 → ∀ b, b < 1 → a ≠ b → (TX10 a).2.1 ≠ (TX10 b).2.1 := by decide +kernel
theorem tyX10_ok : ∀ k, k < 1 → parseFieldDescriptor (TX10 k).2.2.1 = some (tyX10 k) := by decide +kernel
abbrev cX10_init : ByteArray := prog_2_method_1_code
def yX10_init : MethodName := ⟨RX10, "<init>", "(I)V"⟩
def dkwX10_init_0 : List UInt8 := [42, 27, 183, 0, 1, 177]
abbrev dktX10_init_0 : List UInt8 := dkwX10_init_0 ++ []
theorem dksX10_init_0 : cX10_init.data.toList.drop 0 = dktX10_init_0 := by decide +kernel
theorem dX10_init_0 : decode cX10_init 0 = .ok (.aload_n 0, 1) := dk_42 (dk_at dksX10_init_0 0 rfl rfl)
theorem dX10_init_1 : decode cX10_init 1 = .ok (.iload_n 1, 1) := dk_27 (dk_at dksX10_init_0 1 rfl rfl)
theorem dX10_init_2 : decode cX10_init 2 = .ok (.invokespecial 1, 3) := dk_183 0 1 (dk_at dksX10_init_0 2 rfl rfl)
theorem dX10_init_5 : decode cX10_init 5 = .ok (.return_, 1) := dk_177 (dk_at dksX10_init_0 5 rfl rfl)
abbrev cX10_now : ByteArray := prog_2_method_2_code
def yX10_now : MethodName := ⟨RX10, "now", "(LUnseenClock$Course;II)I"⟩
theorem dX10_now_0 : decode cX10_now 0 = .ok (.iconst 2, 1) := by decide +kernel
theorem dX10_now_1 : decode cX10_now 1 = .ok (.ireturn, 1) := by decide +kernel
theorem q156 : (Jvm.Cond.initialized "UnseenClock$Always") ∈ lw_all := lw_g (lw_at lw_m1 26 rfl) rfl
theorem q909 : (Jvm.Cond.selects "UnseenClock$Always" ({ cls := "java/lang/Object", name := "getClass", desc := "()Ljava/lang/Class;" } : Jvm.MethodName) ({ cls := "java/lang/Object", name := "getClass", desc := "()Ljava/lang/Class;" } : Jvm.MethodName)) ∈ lw_all := lw_g (lw_at lw_m4 59 rfl) rfl
theorem q1024 : (Jvm.Cond.instantiable "UnseenClock$Always" (1 : Nat)) ∈ lw_all := lw_g (lw_at lw_m4 174 rfl) rfl
theorem q1026 : (Jvm.Cond.instanceMethod ({ cls := "UnseenClock$Always", name := "<init>", desc := "(I)V" } : Jvm.MethodName)) ∈ lw_all := lw_g (lw_at lw_m4 176 rfl) rfl
theorem q1027 : (Jvm.Cond.code ({ cls := "UnseenClock$Always", name := "<init>", desc := "(I)V" } : Jvm.MethodName) prog_2_method_1_code (2 : Nat) (Option.none : Option Jvm.ClassFile.FieldType)) ∈ lw_all := lw_g (lw_at lw_m4 177 rfl) rfl
theorem q1028 : (Jvm.Cond.methodLink "UnseenClock$Always" (1 : Nat) ({ cls := "UnseenClock$Habit", name := "<init>", desc := "(I)V" } : Jvm.MethodName)) ∈ lw_all := lw_g (lw_at lw_m4 178 rfl) rfl
theorem q1036 : (Jvm.Cond.laysFinal "UnseenClock$Always" "UnseenClock$Habit" "clock" "I") ∈ lw_all := lw_g (lw_at lw_m4 186 rfl) rfl
theorem q1038 : (Jvm.Cond.superclass "UnseenClock$Always" "UnseenClock$Habit") ∈ lw_all := lw_g (lw_at lw_m4 188 rfl) rfl
theorem q1210 : (Jvm.Cond.selects "UnseenClock$Always" ({ cls := "UnseenClock$Habit", name := "odds", desc := "()I" } : Jvm.MethodName) ({ cls := "UnseenClock$Habit", name := "odds", desc := "()I" } : Jvm.MethodName)) ∈ lw_all := lw_g (lw_at lw_m5 120 rfl) rfl
theorem q1240 : (Jvm.Cond.selects "UnseenClock$Always" ({ cls := "UnseenClock$Habit", name := "now", desc := "(LUnseenClock$Course;II)I" } : Jvm.MethodName) ({ cls := "UnseenClock$Always", name := "now", desc := "(LUnseenClock$Course;II)I" } : Jvm.MethodName)) ∈ lw_all := lw_g (lw_at lw_m5 150 rfl) rfl
theorem q1241 : (Jvm.Cond.instanceMethod ({ cls := "UnseenClock$Always", name := "now", desc := "(LUnseenClock$Course;II)I" } : Jvm.MethodName)) ∈ lw_all := lw_g (lw_at lw_m5 151 rfl) rfl
theorem q1242 : (Jvm.Cond.code ({ cls := "UnseenClock$Always", name := "now", desc := "(LUnseenClock$Course;II)I" } : Jvm.MethodName) prog_2_method_2_code (4 : Nat) (Option.some Jvm.ClassFile.FieldType.int)) ∈ lw_all := lw_g (lw_at lw_m5 152 rfl) rfl
theorem q2304 : (Jvm.Cond.castable "UnseenClock$Always" "UnseenClock$Habit") ∈ lw_tbl := lw_at lw_m10 14 rfl
theorem q2321 : (Jvm.Cond.castable "UnseenClock$Always" "java/lang/Object") ∈ lw_tbl := lw_at lw_m10 31 rfl
theorem in_X10 : ∀ w ∈ wsX100, w ∈ lw_all := lw_in wsX100 [1036] (by decide +kernel) (by decide +kernel)
/-! UnseenClock$Each -/
set_option maxRecDepth 100000
def RX11 : String := "UnseenClock$Each"
def TX11 : u_T := fun k => match k with
  | 0 => ("UnseenClock$Habit", "clock", "I", true)
  | 1 => ("UnseenClock$Each", "each", "I", true)
  | _ => ("UnseenClock$Each", "after", "I", true)
def tyX11 : Nat → FieldType := fun k => match k with
  | 0 => .int
  | 1 => .int
  | _ => .int
abbrev wsX110 : List Cond := u_ws RX11 TX11 3
theorem nmX11 : ∀ a, a < 3 → ∀ b, b < 3 → a ≠ b → (TX11 a).2.1 ≠ (TX11 b).2.1 := by decide +kernel
theorem tyX11_ok : ∀ k, k < 3 → parseFieldDescriptor (TX11 k).2.2.1 = some (tyX11 k) := by decide +kernel
abbrev cX11_init : ByteArray := prog_5_method_1_code
def yX11_init : MethodName := ⟨RX11, "<init>", "(III)V"⟩
def dkwX11_init_0 : List UInt8 := [42, 27, 183, 0, 1, 42, 28, 181, 0, 7, 42, 29, 181, 0, 13, 177]
abbrev dktX11_init_0 : List UInt8 := dkwX11_init_0 ++ []
theorem dksX11_init_0 : cX11_init.data.toList.drop 0 = dktX11_init_0 := by decide +kernel
theorem dX11_init_0 : decode cX11_init 0 = .ok (.aload_n 0, 1) := dk_42 (dk_at dksX11_init_0 0 rfl rfl)
theorem dX11_init_1 : decode cX11_init 1 = .ok (.iload_n 1, 1) := dk_27 (dk_at dksX11_init_0 1 rfl rfl)
theorem dX11_init_2 : decode cX11_init 2 = .ok (.invokespecial 1, 3) := dk_183 0 1 (dk_at dksX11_init_0 2 rfl rfl)
theorem dX11_init_5 : decode cX11_init 5 = .ok (.aload_n 0, 1) := dk_42 (dk_at dksX11_init_0 5 rfl rfl)
theorem dX11_init_6 : decode cX11_init 6 = .ok (.iload_n 2, 1) := dk_28 (dk_at dksX11_init_0 6 rfl rfl)
theorem dX11_init_7 : decode cX11_init 7 = .ok (.putfield 7, 3) := dk_181 0 7 (dk_at dksX11_init_0 7 rfl rfl)
theorem dX11_init_10 : decode cX11_init 10 = .ok (.aload_n 0, 1) := dk_42 (dk_at dksX11_init_0 10 rfl rfl)
theorem dX11_init_11 : decode cX11_init 11 = .ok (.iload_n 3, 1) := dk_29 (dk_at dksX11_init_0 11 rfl rfl)
theorem dX11_init_12 : decode cX11_init 12 = .ok (.putfield 13, 3) := dk_181 0 13 (dk_at dksX11_init_0 12 rfl rfl)
theorem dX11_init_15 : decode cX11_init 15 = .ok (.return_, 1) := dk_177 (dk_at dksX11_init_0 15 rfl rfl)
abbrev cX11_now : ByteArray := prog_5_method_2_code
def yX11_now : MethodName := ⟨RX11, "now", "(LUnseenClock$Course;II)I"⟩
def dkwX11_now_1 : List UInt8 := [167, 0, 4, 3, 172]
abbrev dktX11_now_1 : List UInt8 := dkwX11_now_1 ++ []
def dkwX11_now_0 : List UInt8 := [29, 42, 180, 0, 13, 161, 0, 21, 29, 42, 180, 0, 13, 100, 42, 180, 0, 7, 112, 154, 0, 7, 5]
abbrev dktX11_now_0 : List UInt8 := dkwX11_now_0 ++ dktX11_now_1
theorem dksX11_now_0 : cX11_now.data.toList.drop 0 = dktX11_now_0 := by decide +kernel
theorem dksX11_now_1 : cX11_now.data.toList.drop 23 = dktX11_now_1 := dk_seg dksX11_now_0 23 rfl rfl
theorem dX11_now_0 : decode cX11_now 0 = .ok (.iload_n 3, 1) := dk_29 (dk_at dksX11_now_0 0 rfl rfl)
theorem dX11_now_1 : decode cX11_now 1 = .ok (.aload_n 0, 1) := dk_42 (dk_at dksX11_now_0 1 rfl rfl)
theorem dX11_now_2 : decode cX11_now 2 = .ok (.getfield 13, 3) := dk_180 0 13 (dk_at dksX11_now_0 2 rfl rfl)
theorem dX11_now_5 : decode cX11_now 5 = .ok (.if_icmp .lt 21, 3) := dk_161 0 21 (dk_at dksX11_now_0 5 rfl rfl)
theorem dX11_now_8 : decode cX11_now 8 = .ok (.iload_n 3, 1) := dk_29 (dk_at dksX11_now_0 8 rfl rfl)
theorem dX11_now_9 : decode cX11_now 9 = .ok (.aload_n 0, 1) := dk_42 (dk_at dksX11_now_0 9 rfl rfl)
theorem dX11_now_10 : decode cX11_now 10 = .ok (.getfield 13, 3) := dk_180 0 13 (dk_at dksX11_now_0 10 rfl rfl)
theorem dX11_now_13 : decode cX11_now 13 = .ok (.isub, 1) := dk_100 (dk_at dksX11_now_0 13 rfl rfl)
theorem dX11_now_14 : decode cX11_now 14 = .ok (.aload_n 0, 1) := dk_42 (dk_at dksX11_now_0 14 rfl rfl)
theorem dX11_now_15 : decode cX11_now 15 = .ok (.getfield 7, 3) := dk_180 0 7 (dk_at dksX11_now_0 15 rfl rfl)
theorem dX11_now_18 : decode cX11_now 18 = .ok (.irem, 1) := dk_112 (dk_at dksX11_now_0 18 rfl rfl)
theorem dX11_now_19 : decode cX11_now 19 = .ok (.ifCond .ne 7, 3) := dk_154 0 7 (dk_at dksX11_now_0 19 rfl rfl)
theorem dX11_now_22 : decode cX11_now 22 = .ok (.iconst 2, 1) := dk_5 (dk_at dksX11_now_0 22 rfl rfl)
theorem dX11_now_23 : decode cX11_now 23 = .ok (.goto 4, 3) := dk_167 0 4 (dk_at dksX11_now_1 0 rfl rfl)
theorem dX11_now_26 : decode cX11_now 26 = .ok (.iconst 0, 1) := dk_3 (dk_at dksX11_now_1 3 rfl rfl)
theorem dX11_now_27 : decode cX11_now 27 = .ok (.ireturn, 1) := dk_172 (dk_at dksX11_now_1 4 rfl rfl)
theorem q157 : (Jvm.Cond.initialized "UnseenClock$Each") ∈ lw_all := lw_g (lw_at lw_m1 27 rfl) rfl
theorem q912 : (Jvm.Cond.selects "UnseenClock$Each" ({ cls := "java/lang/Object", name := "getClass", desc := "()Ljava/lang/Class;" } : Jvm.MethodName) ({ cls := "java/lang/Object", name := "getClass", desc := "()Ljava/lang/Class;" } : Jvm.MethodName)) ∈ lw_all := lw_g (lw_at lw_m4 62 rfl) rfl
theorem q1041 : (Jvm.Cond.instantiable "UnseenClock$Each" (3 : Nat)) ∈ lw_all := lw_g (lw_at lw_m4 191 rfl) rfl
theorem q1044 : (Jvm.Cond.instanceMethod ({ cls := "UnseenClock$Each", name := "<init>", desc := "(III)V" } : Jvm.MethodName)) ∈ lw_all := lw_g (lw_at lw_m4 194 rfl) rfl
theorem q1045 : (Jvm.Cond.code ({ cls := "UnseenClock$Each", name := "<init>", desc := "(III)V" } : Jvm.MethodName) prog_5_method_1_code (4 : Nat) (Option.none : Option Jvm.ClassFile.FieldType)) ∈ lw_all := lw_g (lw_at lw_m4 195 rfl) rfl
theorem q1046 : (Jvm.Cond.methodLink "UnseenClock$Each" (1 : Nat) ({ cls := "UnseenClock$Habit", name := "<init>", desc := "(I)V" } : Jvm.MethodName)) ∈ lw_all := lw_g (lw_at lw_m4 196 rfl) rfl
theorem q1047 : (Jvm.Cond.fieldLink "UnseenClock$Each" (7 : Nat) "UnseenClock$Each" "each" "I") ∈ lw_all := lw_g (lw_at lw_m4 197 rfl) rfl
theorem q1048 : (Jvm.Cond.fieldLink "UnseenClock$Each" (13 : Nat) "UnseenClock$Each" "after" "I") ∈ lw_all := lw_g (lw_at lw_m4 198 rfl) rfl
theorem q1049 : (Jvm.Cond.laysFinal "UnseenClock$Each" "UnseenClock$Each" "each" "I") ∈ lw_all := lw_g (lw_at lw_m4 199 rfl) rfl
theorem q1050 : (Jvm.Cond.soleField "UnseenClock$Each" "each") ∈ lw_all := lw_g (lw_at lw_m4 200 rfl) rfl
theorem q1051 : (Jvm.Cond.laysFinal "UnseenClock$Each" "UnseenClock$Each" "after" "I") ∈ lw_all := lw_g (lw_at lw_m4 201 rfl) rfl
theorem q1052 : (Jvm.Cond.soleField "UnseenClock$Each" "after") ∈ lw_all := lw_g (lw_at lw_m4 202 rfl) rfl
theorem q1053 : (Jvm.Cond.laysFinal "UnseenClock$Each" "UnseenClock$Habit" "clock" "I") ∈ lw_all := lw_g (lw_at lw_m4 203 rfl) rfl
theorem q1054 : (Jvm.Cond.superclass "UnseenClock$Each" "UnseenClock$Habit") ∈ lw_all := lw_g (lw_at lw_m4 204 rfl) rfl
theorem q1211 : (Jvm.Cond.selects "UnseenClock$Each" ({ cls := "UnseenClock$Habit", name := "odds", desc := "()I" } : Jvm.MethodName) ({ cls := "UnseenClock$Habit", name := "odds", desc := "()I" } : Jvm.MethodName)) ∈ lw_all := lw_g (lw_at lw_m5 121 rfl) rfl
theorem q1243 : (Jvm.Cond.selects "UnseenClock$Each" ({ cls := "UnseenClock$Habit", name := "now", desc := "(LUnseenClock$Course;II)I" } : Jvm.MethodName) ({ cls := "UnseenClock$Each", name := "now", desc := "(LUnseenClock$Course;II)I" } : Jvm.MethodName)) ∈ lw_all := lw_g (lw_at lw_m5 153 rfl) rfl
theorem q1244 : (Jvm.Cond.instanceMethod ({ cls := "UnseenClock$Each", name := "now", desc := "(LUnseenClock$Course;II)I" } : Jvm.MethodName)) ∈ lw_all := lw_g (lw_at lw_m5 154 rfl) rfl
theorem q1245 : (Jvm.Cond.code ({ cls := "UnseenClock$Each", name := "now", desc := "(LUnseenClock$Course;II)I" } : Jvm.MethodName) prog_5_method_2_code (4 : Nat) (Option.some Jvm.ClassFile.FieldType.int)) ∈ lw_all := lw_g (lw_at lw_m5 155 rfl) rfl
theorem q2305 : (Jvm.Cond.castable "UnseenClock$Each" "UnseenClock$Habit") ∈ lw_tbl := lw_at lw_m10 15 rfl
theorem q2322 : (Jvm.Cond.castable "UnseenClock$Each" "java/lang/Object") ∈ lw_tbl := lw_at lw_m10 32 rfl
theorem in_X11 : ∀ w ∈ wsX110, w ∈ lw_all := lw_in wsX110 [1053, 1049, 1051] (by decide +kernel) (by decide +kernel)
/-! UnseenClock$Seeing -/
set_option maxRecDepth 100000
def RX12 : String := "UnseenClock$Seeing"
def TX12 : u_T := fun k => match k with
  | 0 => ("UnseenClock$Habit", "clock", "I", true)
  | 1 => ("UnseenClock$Seeing", "seen", "I", true)
  | _ => ("UnseenClock$Seeing", "is", "I", true)
def tyX12 : Nat → FieldType := fun k => match k with
  | 0 => .int
  | 1 => .int
  | _ => .int
abbrev wsX120 : List Cond := u_ws RX12 TX12 3
theorem nmX12 : ∀ a, a < 3 → ∀ b, b < 3 → a ≠ b → (TX12 a).2.1 ≠ (TX12 b).2.1 := by decide +kernel
theorem tyX12_ok : ∀ k, k < 3 → parseFieldDescriptor (TX12 k).2.2.1 = some (tyX12 k) := by decide +kernel
abbrev cX12_init : ByteArray := prog_12_method_1_code
def yX12_init : MethodName := ⟨RX12, "<init>", "(III)V"⟩
def dkwX12_init_0 : List UInt8 := [42, 27, 183, 0, 1, 42, 28, 181, 0, 7, 42, 29, 181, 0, 13, 177]
abbrev dktX12_init_0 : List UInt8 := dkwX12_init_0 ++ []
theorem dksX12_init_0 : cX12_init.data.toList.drop 0 = dktX12_init_0 := by decide +kernel
theorem dX12_init_0 : decode cX12_init 0 = .ok (.aload_n 0, 1) := dk_42 (dk_at dksX12_init_0 0 rfl rfl)
theorem dX12_init_1 : decode cX12_init 1 = .ok (.iload_n 1, 1) := dk_27 (dk_at dksX12_init_0 1 rfl rfl)
theorem dX12_init_2 : decode cX12_init 2 = .ok (.invokespecial 1, 3) := dk_183 0 1 (dk_at dksX12_init_0 2 rfl rfl)
theorem dX12_init_5 : decode cX12_init 5 = .ok (.aload_n 0, 1) := dk_42 (dk_at dksX12_init_0 5 rfl rfl)
theorem dX12_init_6 : decode cX12_init 6 = .ok (.iload_n 2, 1) := dk_28 (dk_at dksX12_init_0 6 rfl rfl)
theorem dX12_init_7 : decode cX12_init 7 = .ok (.putfield 7, 3) := dk_181 0 7 (dk_at dksX12_init_0 7 rfl rfl)
theorem dX12_init_10 : decode cX12_init 10 = .ok (.aload_n 0, 1) := dk_42 (dk_at dksX12_init_0 10 rfl rfl)
theorem dX12_init_11 : decode cX12_init 11 = .ok (.iload_n 3, 1) := dk_29 (dk_at dksX12_init_0 11 rfl rfl)
theorem dX12_init_12 : decode cX12_init 12 = .ok (.putfield 13, 3) := dk_181 0 13 (dk_at dksX12_init_0 12 rfl rfl)
theorem dX12_init_15 : decode cX12_init 15 = .ok (.return_, 1) := dk_177 (dk_at dksX12_init_0 15 rfl rfl)
abbrev cX12_now : ByteArray := prog_12_method_2_code
def yX12_now : MethodName := ⟨RX12, "now", "(LUnseenClock$Course;II)I"⟩
def dkwX12_now_2 : List UInt8 := [3, 172]
abbrev dktX12_now_2 : List UInt8 := dkwX12_now_2 ++ []
def dkwX12_now_1 : List UInt8 := [43, 180, 0, 28, 42, 180, 0, 7, 50, 29, 4, 100, 46, 42, 180, 0, 13, 160, 0, 7, 5, 167, 0, 4]
abbrev dktX12_now_1 : List UInt8 := dkwX12_now_1 ++ dktX12_now_2
def dkwX12_now_0 : List UInt8 := [29, 158, 0, 47, 43, 180, 0, 16, 28, 50, 29, 4, 100, 46, 42, 180, 0, 7, 184, 0, 22, 153, 0, 27]
abbrev dktX12_now_0 : List UInt8 := dkwX12_now_0 ++ dktX12_now_1
theorem dksX12_now_0 : cX12_now.data.toList.drop 0 = dktX12_now_0 := by decide +kernel
theorem dksX12_now_1 : cX12_now.data.toList.drop 24 = dktX12_now_1 := dk_seg dksX12_now_0 24 rfl rfl
theorem dksX12_now_2 : cX12_now.data.toList.drop 48 = dktX12_now_2 := dk_seg dksX12_now_1 24 rfl rfl
theorem dX12_now_0 : decode cX12_now 0 = .ok (.iload_n 3, 1) := dk_29 (dk_at dksX12_now_0 0 rfl rfl)
theorem dX12_now_1 : decode cX12_now 1 = .ok (.ifCond .le 47, 3) := dk_158 0 47 (dk_at dksX12_now_0 1 rfl rfl)
theorem dX12_now_4 : decode cX12_now 4 = .ok (.aload_n 1, 1) := dk_43 (dk_at dksX12_now_0 4 rfl rfl)
theorem dX12_now_5 : decode cX12_now 5 = .ok (.getfield 16, 3) := dk_180 0 16 (dk_at dksX12_now_0 5 rfl rfl)
theorem dX12_now_8 : decode cX12_now 8 = .ok (.iload_n 2, 1) := dk_28 (dk_at dksX12_now_0 8 rfl rfl)
theorem dX12_now_9 : decode cX12_now 9 = .ok (.aaload, 1) := dk_50 (dk_at dksX12_now_0 9 rfl rfl)
theorem dX12_now_10 : decode cX12_now 10 = .ok (.iload_n 3, 1) := dk_29 (dk_at dksX12_now_0 10 rfl rfl)
theorem dX12_now_11 : decode cX12_now 11 = .ok (.iconst 1, 1) := dk_4 (dk_at dksX12_now_0 11 rfl rfl)
theorem dX12_now_12 : decode cX12_now 12 = .ok (.isub, 1) := dk_100 (dk_at dksX12_now_0 12 rfl rfl)
theorem dX12_now_13 : decode cX12_now 13 = .ok (.iaload, 1) := dk_46 (dk_at dksX12_now_0 13 rfl rfl)
theorem dX12_now_14 : decode cX12_now 14 = .ok (.aload_n 0, 1) := dk_42 (dk_at dksX12_now_0 14 rfl rfl)
theorem dX12_now_15 : decode cX12_now 15 = .ok (.getfield 7, 3) := dk_180 0 7 (dk_at dksX12_now_0 15 rfl rfl)
theorem dX12_now_18 : decode cX12_now 18 = .ok (.invokestatic 22, 3) := dk_184 0 22 (dk_at dksX12_now_0 18 rfl rfl)
theorem dX12_now_21 : decode cX12_now 21 = .ok (.ifCond .eq 27, 3) := dk_153 0 27 (dk_at dksX12_now_0 21 rfl rfl)
theorem dX12_now_24 : decode cX12_now 24 = .ok (.aload_n 1, 1) := dk_43 (dk_at dksX12_now_1 0 rfl rfl)
theorem dX12_now_25 : decode cX12_now 25 = .ok (.getfield 28, 3) := dk_180 0 28 (dk_at dksX12_now_1 1 rfl rfl)
theorem dX12_now_28 : decode cX12_now 28 = .ok (.aload_n 0, 1) := dk_42 (dk_at dksX12_now_1 4 rfl rfl)
theorem dX12_now_29 : decode cX12_now 29 = .ok (.getfield 7, 3) := dk_180 0 7 (dk_at dksX12_now_1 5 rfl rfl)
theorem dX12_now_32 : decode cX12_now 32 = .ok (.aaload, 1) := dk_50 (dk_at dksX12_now_1 8 rfl rfl)
theorem dX12_now_33 : decode cX12_now 33 = .ok (.iload_n 3, 1) := dk_29 (dk_at dksX12_now_1 9 rfl rfl)
theorem dX12_now_34 : decode cX12_now 34 = .ok (.iconst 1, 1) := dk_4 (dk_at dksX12_now_1 10 rfl rfl)
theorem dX12_now_35 : decode cX12_now 35 = .ok (.isub, 1) := dk_100 (dk_at dksX12_now_1 11 rfl rfl)
theorem dX12_now_36 : decode cX12_now 36 = .ok (.iaload, 1) := dk_46 (dk_at dksX12_now_1 12 rfl rfl)
theorem dX12_now_37 : decode cX12_now 37 = .ok (.aload_n 0, 1) := dk_42 (dk_at dksX12_now_1 13 rfl rfl)
theorem dX12_now_38 : decode cX12_now 38 = .ok (.getfield 13, 3) := dk_180 0 13 (dk_at dksX12_now_1 14 rfl rfl)
theorem dX12_now_41 : decode cX12_now 41 = .ok (.if_icmp .ne 7, 3) := dk_160 0 7 (dk_at dksX12_now_1 17 rfl rfl)
theorem dX12_now_44 : decode cX12_now 44 = .ok (.iconst 2, 1) := dk_5 (dk_at dksX12_now_1 20 rfl rfl)
theorem dX12_now_45 : decode cX12_now 45 = .ok (.goto 4, 3) := dk_167 0 4 (dk_at dksX12_now_1 21 rfl rfl)
theorem dX12_now_48 : decode cX12_now 48 = .ok (.iconst 0, 1) := dk_3 (dk_at dksX12_now_2 0 rfl rfl)
theorem dX12_now_49 : decode cX12_now 49 = .ok (.ireturn, 1) := dk_172 (dk_at dksX12_now_2 1 rfl rfl)
theorem q158 : (Jvm.Cond.initialized "UnseenClock$Seeing") ∈ lw_all := lw_g (lw_at lw_m1 28 rfl) rfl
theorem q484 : (Jvm.Cond.fieldLinkNest "UnseenClock$Seeing" (16 : Nat) "UnseenClock$Course" "look" "[[I" "UnseenClock") ∈ lw_tbl := lw_at lw_m2 114 rfl
theorem q488 : (Jvm.Cond.fieldLinkNest "UnseenClock$Seeing" (28 : Nat) "UnseenClock$Course" "shows" "[[I" "UnseenClock") ∈ lw_tbl := lw_at lw_m2 118 rfl
theorem q918 : (Jvm.Cond.selects "UnseenClock$Seeing" ({ cls := "java/lang/Object", name := "getClass", desc := "()Ljava/lang/Class;" } : Jvm.MethodName) ({ cls := "java/lang/Object", name := "getClass", desc := "()Ljava/lang/Class;" } : Jvm.MethodName)) ∈ lw_all := lw_g (lw_at lw_m4 68 rfl) rfl
theorem q1057 : (Jvm.Cond.instantiable "UnseenClock$Seeing" (3 : Nat)) ∈ lw_all := lw_g (lw_at lw_m4 207 rfl) rfl
theorem q1060 : (Jvm.Cond.instanceMethod ({ cls := "UnseenClock$Seeing", name := "<init>", desc := "(III)V" } : Jvm.MethodName)) ∈ lw_all := lw_g (lw_at lw_m4 210 rfl) rfl
theorem q1061 : (Jvm.Cond.code ({ cls := "UnseenClock$Seeing", name := "<init>", desc := "(III)V" } : Jvm.MethodName) prog_12_method_1_code (4 : Nat) (Option.none : Option Jvm.ClassFile.FieldType)) ∈ lw_all := lw_g (lw_at lw_m4 211 rfl) rfl
theorem q1062 : (Jvm.Cond.methodLink "UnseenClock$Seeing" (1 : Nat) ({ cls := "UnseenClock$Habit", name := "<init>", desc := "(I)V" } : Jvm.MethodName)) ∈ lw_all := lw_g (lw_at lw_m4 212 rfl) rfl
theorem q1063 : (Jvm.Cond.fieldLink "UnseenClock$Seeing" (7 : Nat) "UnseenClock$Seeing" "seen" "I") ∈ lw_all := lw_g (lw_at lw_m4 213 rfl) rfl
theorem q1064 : (Jvm.Cond.fieldLink "UnseenClock$Seeing" (13 : Nat) "UnseenClock$Seeing" "is" "I") ∈ lw_all := lw_g (lw_at lw_m4 214 rfl) rfl
theorem q1065 : (Jvm.Cond.laysFinal "UnseenClock$Seeing" "UnseenClock$Seeing" "seen" "I") ∈ lw_all := lw_g (lw_at lw_m4 215 rfl) rfl
theorem q1066 : (Jvm.Cond.soleField "UnseenClock$Seeing" "seen") ∈ lw_all := lw_g (lw_at lw_m4 216 rfl) rfl
theorem q1067 : (Jvm.Cond.laysFinal "UnseenClock$Seeing" "UnseenClock$Seeing" "is" "I") ∈ lw_all := lw_g (lw_at lw_m4 217 rfl) rfl
theorem q1068 : (Jvm.Cond.soleField "UnseenClock$Seeing" "is") ∈ lw_all := lw_g (lw_at lw_m4 218 rfl) rfl
theorem q1069 : (Jvm.Cond.laysFinal "UnseenClock$Seeing" "UnseenClock$Habit" "clock" "I") ∈ lw_all := lw_g (lw_at lw_m4 219 rfl) rfl
theorem q1070 : (Jvm.Cond.superclass "UnseenClock$Seeing" "UnseenClock$Habit") ∈ lw_all := lw_g (lw_at lw_m4 220 rfl) rfl
theorem q1215 : (Jvm.Cond.selects "UnseenClock$Seeing" ({ cls := "UnseenClock$Habit", name := "odds", desc := "()I" } : Jvm.MethodName) ({ cls := "UnseenClock$Habit", name := "odds", desc := "()I" } : Jvm.MethodName)) ∈ lw_all := lw_g (lw_at lw_m5 125 rfl) rfl
theorem q1253 : (Jvm.Cond.selects "UnseenClock$Seeing" ({ cls := "UnseenClock$Habit", name := "now", desc := "(LUnseenClock$Course;II)I" } : Jvm.MethodName) ({ cls := "UnseenClock$Seeing", name := "now", desc := "(LUnseenClock$Course;II)I" } : Jvm.MethodName)) ∈ lw_all := lw_g (lw_at lw_m5 163 rfl) rfl
theorem q1254 : (Jvm.Cond.instanceMethod ({ cls := "UnseenClock$Seeing", name := "now", desc := "(LUnseenClock$Course;II)I" } : Jvm.MethodName)) ∈ lw_all := lw_g (lw_at lw_m5 164 rfl) rfl
theorem q1255 : (Jvm.Cond.code ({ cls := "UnseenClock$Seeing", name := "now", desc := "(LUnseenClock$Course;II)I" } : Jvm.MethodName) prog_12_method_2_code (4 : Nat) (Option.some Jvm.ClassFile.FieldType.int)) ∈ lw_all := lw_g (lw_at lw_m5 165 rfl) rfl
theorem q1256 : (Jvm.Cond.methodLinkNest "UnseenClock$Seeing" (22 : Nat) ({ cls := "UnseenClock", name := "isOn", desc := "(II)Z" } : Jvm.MethodName) "UnseenClock") ∈ lw_tbl := lw_at lw_m5 166 rfl
theorem q2307 : (Jvm.Cond.castable "UnseenClock$Seeing" "UnseenClock$Habit") ∈ lw_tbl := lw_at lw_m10 17 rfl
theorem q2323 : (Jvm.Cond.castable "UnseenClock$Seeing" "java/lang/Object") ∈ lw_tbl := lw_at lw_m10 33 rfl
theorem in_X12 : ∀ w ∈ wsX120, w ∈ lw_all := lw_in wsX120 [1069, 1065, 1067] (by decide +kernel) (by decide +kernel)
/-! UnseenClock$With -/
set_option maxRecDepth 100000
def RX13 : String := "UnseenClock$With"
def TX13 : u_T := fun k => match k with
  | 0 => ("UnseenClock$Habit", "clock", "I", true)
  | _ => ("UnseenClock$With", "other", "I", true)
def tyX13 : Nat → FieldType := fun k => match k with
  | 0 => .int
  | _ => .int
abbrev wsX130 : List Cond := u_ws RX13 TX13 2
theorem nmX13 : ∀ a, a < 2 → ∀ b, b < 2 → a ≠ b → (TX13 a).2.1 ≠ (TX13 b).2.1 := by decide +kernel
theorem tyX13_ok : ∀ k, k < 2 → parseFieldDescriptor (TX13 k).2.2.1 = some (tyX13 k) := by decide +kernel
abbrev cX13_init : ByteArray := prog_17_method_1_code
def yX13_init : MethodName := ⟨RX13, "<init>", "(II)V"⟩
def dkwX13_init_0 : List UInt8 := [42, 27, 183, 0, 1, 42, 28, 181, 0, 7, 177]
abbrev dktX13_init_0 : List UInt8 := dkwX13_init_0 ++ []
theorem dksX13_init_0 : cX13_init.data.toList.drop 0 = dktX13_init_0 := by decide +kernel
theorem dX13_init_0 : decode cX13_init 0 = .ok (.aload_n 0, 1) := dk_42 (dk_at dksX13_init_0 0 rfl rfl)
theorem dX13_init_1 : decode cX13_init 1 = .ok (.iload_n 1, 1) := dk_27 (dk_at dksX13_init_0 1 rfl rfl)
theorem dX13_init_2 : decode cX13_init 2 = .ok (.invokespecial 1, 3) := dk_183 0 1 (dk_at dksX13_init_0 2 rfl rfl)
theorem dX13_init_5 : decode cX13_init 5 = .ok (.aload_n 0, 1) := dk_42 (dk_at dksX13_init_0 5 rfl rfl)
theorem dX13_init_6 : decode cX13_init 6 = .ok (.iload_n 2, 1) := dk_28 (dk_at dksX13_init_0 6 rfl rfl)
theorem dX13_init_7 : decode cX13_init 7 = .ok (.putfield 7, 3) := dk_181 0 7 (dk_at dksX13_init_0 7 rfl rfl)
theorem dX13_init_10 : decode cX13_init 10 = .ok (.return_, 1) := dk_177 (dk_at dksX13_init_0 10 rfl rfl)
abbrev cX13_now : ByteArray := prog_17_method_3_code
def yX13_now : MethodName := ⟨RX13, "now", "(LUnseenClock$Course;II)I"⟩
def dkwX13_now_1 : List UInt8 := [180, 0, 13, 182, 0, 22, 182, 0, 25, 167, 0, 4, 4, 172]
abbrev dktX13_now_1 : List UInt8 := dkwX13_now_1 ++ []
def dkwX13_now_0 : List UInt8 := [43, 42, 180, 0, 7, 42, 180, 0, 13, 182, 0, 16, 153, 0, 22, 42, 43, 42, 180, 0, 7, 42]
abbrev dktX13_now_0 : List UInt8 := dkwX13_now_0 ++ dktX13_now_1
theorem dksX13_now_0 : cX13_now.data.toList.drop 0 = dktX13_now_0 := by decide +kernel
theorem dksX13_now_1 : cX13_now.data.toList.drop 22 = dktX13_now_1 := dk_seg dksX13_now_0 22 rfl rfl
theorem dX13_now_0 : decode cX13_now 0 = .ok (.aload_n 1, 1) := dk_43 (dk_at dksX13_now_0 0 rfl rfl)
theorem dX13_now_1 : decode cX13_now 1 = .ok (.aload_n 0, 1) := dk_42 (dk_at dksX13_now_0 1 rfl rfl)
theorem dX13_now_2 : decode cX13_now 2 = .ok (.getfield 7, 3) := dk_180 0 7 (dk_at dksX13_now_0 2 rfl rfl)
theorem dX13_now_5 : decode cX13_now 5 = .ok (.aload_n 0, 1) := dk_42 (dk_at dksX13_now_0 5 rfl rfl)
theorem dX13_now_6 : decode cX13_now 6 = .ok (.getfield 13, 3) := dk_180 0 13 (dk_at dksX13_now_0 6 rfl rfl)
theorem dX13_now_9 : decode cX13_now 9 = .ok (.invokevirtual 16, 3) := dk_182 0 16 (dk_at dksX13_now_0 9 rfl rfl)
theorem dX13_now_12 : decode cX13_now 12 = .ok (.ifCond .eq 22, 3) := dk_153 0 22 (dk_at dksX13_now_0 12 rfl rfl)
theorem dX13_now_15 : decode cX13_now 15 = .ok (.aload_n 0, 1) := dk_42 (dk_at dksX13_now_0 15 rfl rfl)
theorem dX13_now_16 : decode cX13_now 16 = .ok (.aload_n 1, 1) := dk_43 (dk_at dksX13_now_0 16 rfl rfl)
theorem dX13_now_17 : decode cX13_now 17 = .ok (.aload_n 0, 1) := dk_42 (dk_at dksX13_now_0 17 rfl rfl)
theorem dX13_now_18 : decode cX13_now 18 = .ok (.getfield 7, 3) := dk_180 0 7 (dk_at dksX13_now_0 18 rfl rfl)
theorem dX13_now_21 : decode cX13_now 21 = .ok (.aload_n 0, 1) := dk_42 (dk_at dksX13_now_0 21 rfl rfl)
theorem dX13_now_22 : decode cX13_now 22 = .ok (.getfield 13, 3) := dk_180 0 13 (dk_at dksX13_now_1 0 rfl rfl)
theorem dX13_now_25 : decode cX13_now 25 = .ok (.invokevirtual 22, 3) := dk_182 0 22 (dk_at dksX13_now_1 3 rfl rfl)
theorem dX13_now_28 : decode cX13_now 28 = .ok (.invokevirtual 25, 3) := dk_182 0 25 (dk_at dksX13_now_1 6 rfl rfl)
theorem dX13_now_31 : decode cX13_now 31 = .ok (.goto 4, 3) := dk_167 0 4 (dk_at dksX13_now_1 9 rfl rfl)
theorem dX13_now_34 : decode cX13_now 34 = .ok (.iconst 1, 1) := dk_4 (dk_at dksX13_now_1 12 rfl rfl)
theorem dX13_now_35 : decode cX13_now 35 = .ok (.ireturn, 1) := dk_172 (dk_at dksX13_now_1 13 rfl rfl)
abbrev cX13_by : ByteArray := prog_17_method_2_code
def yX13_by : MethodName := ⟨RX13, "by", "(Z)I"⟩
def dkwX13_by_0 : List UInt8 := [27, 153, 0, 7, 5, 167, 0, 4, 3, 172]
abbrev dktX13_by_0 : List UInt8 := dkwX13_by_0 ++ []
theorem dksX13_by_0 : cX13_by.data.toList.drop 0 = dktX13_by_0 := by decide +kernel
theorem dX13_by_0 : decode cX13_by 0 = .ok (.iload_n 1, 1) := dk_27 (dk_at dksX13_by_0 0 rfl rfl)
theorem dX13_by_1 : decode cX13_by 1 = .ok (.ifCond .eq 7, 3) := dk_153 0 7 (dk_at dksX13_by_0 1 rfl rfl)
theorem dX13_by_4 : decode cX13_by 4 = .ok (.iconst 2, 1) := dk_5 (dk_at dksX13_by_0 4 rfl rfl)
theorem dX13_by_5 : decode cX13_by 5 = .ok (.goto 4, 3) := dk_167 0 4 (dk_at dksX13_by_0 5 rfl rfl)
theorem dX13_by_8 : decode cX13_by 8 = .ok (.iconst 0, 1) := dk_3 (dk_at dksX13_by_0 8 rfl rfl)
theorem dX13_by_9 : decode cX13_by 9 = .ok (.ireturn, 1) := dk_172 (dk_at dksX13_by_0 9 rfl rfl)
theorem q159 : (Jvm.Cond.initialized "UnseenClock$With") ∈ lw_all := lw_g (lw_at lw_m1 29 rfl) rfl
theorem q923 : (Jvm.Cond.selects "UnseenClock$With" ({ cls := "java/lang/Object", name := "getClass", desc := "()Ljava/lang/Class;" } : Jvm.MethodName) ({ cls := "java/lang/Object", name := "getClass", desc := "()Ljava/lang/Class;" } : Jvm.MethodName)) ∈ lw_all := lw_g (lw_at lw_m4 73 rfl) rfl
theorem q1033 : (Jvm.Cond.fieldLink "UnseenClock$With" (13 : Nat) "UnseenClock$With" "clock" "I") ∈ lw_all := lw_g (lw_at lw_m4 183 rfl) rfl
theorem q1034 : (Jvm.Cond.sameField "UnseenClock$With" "UnseenClock$Habit" "clock" "I") ∈ lw_all := lw_g (lw_at lw_m4 184 rfl) rfl
theorem q1073 : (Jvm.Cond.instantiable "UnseenClock$With" (2 : Nat)) ∈ lw_all := lw_g (lw_at lw_m4 223 rfl) rfl
theorem q1075 : (Jvm.Cond.instanceMethod ({ cls := "UnseenClock$With", name := "<init>", desc := "(II)V" } : Jvm.MethodName)) ∈ lw_all := lw_g (lw_at lw_m4 225 rfl) rfl
theorem q1076 : (Jvm.Cond.code ({ cls := "UnseenClock$With", name := "<init>", desc := "(II)V" } : Jvm.MethodName) prog_17_method_1_code (3 : Nat) (Option.none : Option Jvm.ClassFile.FieldType)) ∈ lw_all := lw_g (lw_at lw_m4 226 rfl) rfl
theorem q1077 : (Jvm.Cond.methodLink "UnseenClock$With" (1 : Nat) ({ cls := "UnseenClock$Habit", name := "<init>", desc := "(I)V" } : Jvm.MethodName)) ∈ lw_all := lw_g (lw_at lw_m4 227 rfl) rfl
theorem q1078 : (Jvm.Cond.fieldLink "UnseenClock$With" (7 : Nat) "UnseenClock$With" "other" "I") ∈ lw_all := lw_g (lw_at lw_m4 228 rfl) rfl
theorem q1079 : (Jvm.Cond.laysFinal "UnseenClock$With" "UnseenClock$With" "other" "I") ∈ lw_all := lw_g (lw_at lw_m4 229 rfl) rfl
theorem q1080 : (Jvm.Cond.soleField "UnseenClock$With" "other") ∈ lw_all := lw_g (lw_at lw_m4 230 rfl) rfl
theorem q1081 : (Jvm.Cond.laysFinal "UnseenClock$With" "UnseenClock$Habit" "clock" "I") ∈ lw_all := lw_g (lw_at lw_m4 231 rfl) rfl
theorem q1082 : (Jvm.Cond.superclass "UnseenClock$With" "UnseenClock$Habit") ∈ lw_all := lw_g (lw_at lw_m4 232 rfl) rfl
theorem q1217 : (Jvm.Cond.selects "UnseenClock$With" ({ cls := "UnseenClock$Habit", name := "odds", desc := "()I" } : Jvm.MethodName) ({ cls := "UnseenClock$Habit", name := "odds", desc := "()I" } : Jvm.MethodName)) ∈ lw_all := lw_g (lw_at lw_m5 127 rfl) rfl
theorem q1258 : (Jvm.Cond.instanceMethod ({ cls := "UnseenClock$With", name := "now", desc := "(LUnseenClock$Course;II)I" } : Jvm.MethodName)) ∈ lw_all := lw_g (lw_at lw_m5 168 rfl) rfl
theorem q1259 : (Jvm.Cond.code ({ cls := "UnseenClock$With", name := "now", desc := "(LUnseenClock$Course;II)I" } : Jvm.MethodName) prog_17_method_3_code (4 : Nat) (Option.some Jvm.ClassFile.FieldType.int)) ∈ lw_all := lw_g (lw_at lw_m5 169 rfl) rfl
theorem q1260 : (Jvm.Cond.methodLink "UnseenClock$With" (16 : Nat) ({ cls := "UnseenClock$Course", name := "isSettled", desc := "(II)Z" } : Jvm.MethodName)) ∈ lw_all := lw_g (lw_at lw_m5 170 rfl) rfl
theorem q1264 : (Jvm.Cond.methodLink "UnseenClock$With" (22 : Nat) ({ cls := "UnseenClock$Course", name := "isLooking", desc := "(II)Z" } : Jvm.MethodName)) ∈ lw_all := lw_g (lw_at lw_m5 174 rfl) rfl
theorem q1268 : (Jvm.Cond.methodLink "UnseenClock$With" (25 : Nat) ({ cls := "UnseenClock$With", name := "by", desc := "(Z)I" } : Jvm.MethodName)) ∈ lw_all := lw_g (lw_at lw_m5 178 rfl) rfl
theorem q1269 : (Jvm.Cond.instanceMethod ({ cls := "UnseenClock$With", name := "by", desc := "(Z)I" } : Jvm.MethodName)) ∈ lw_all := lw_g (lw_at lw_m5 179 rfl) rfl
theorem q1270 : (Jvm.Cond.selects "UnseenClock$With" ({ cls := "UnseenClock$With", name := "by", desc := "(Z)I" } : Jvm.MethodName) ({ cls := "UnseenClock$With", name := "by", desc := "(Z)I" } : Jvm.MethodName)) ∈ lw_all := lw_g (lw_at lw_m5 180 rfl) rfl
theorem q1271 : (Jvm.Cond.sameMethod "UnseenClock$With" "UnseenClock$With" "by" "(Z)I") ∈ lw_all := lw_g (lw_at lw_m5 181 rfl) rfl
theorem q1276 : (Jvm.Cond.code ({ cls := "UnseenClock$With", name := "by", desc := "(Z)I" } : Jvm.MethodName) prog_17_method_2_code (2 : Nat) (Option.some Jvm.ClassFile.FieldType.int)) ∈ lw_all := lw_g (lw_at lw_m5 186 rfl) rfl
theorem q1277 : (Jvm.Cond.selects "UnseenClock$With" ({ cls := "UnseenClock$Habit", name := "now", desc := "(LUnseenClock$Course;II)I" } : Jvm.MethodName) ({ cls := "UnseenClock$With", name := "now", desc := "(LUnseenClock$Course;II)I" } : Jvm.MethodName)) ∈ lw_all := lw_g (lw_at lw_m5 187 rfl) rfl
theorem q2309 : (Jvm.Cond.castable "UnseenClock$With" "UnseenClock$Habit") ∈ lw_tbl := lw_at lw_m10 19 rfl
theorem q2324 : (Jvm.Cond.castable "UnseenClock$With" "java/lang/Object") ∈ lw_tbl := lw_at lw_m10 34 rfl
theorem in_X13 : ∀ w ∈ wsX130, w ∈ lw_all := lw_in wsX130 [1081, 1079] (by decide +kernel) (by decide +kernel)
/-! UnseenClock$Unless -/
set_option maxRecDepth 100000
def RX14 : String := "UnseenClock$Unless"
def TX14 : u_T := fun k => match k with
  | 0 => ("UnseenClock$Habit", "clock", "I", true)
  | _ => ("UnseenClock$With", "other", "I", true)
def tyX14 : Nat → FieldType := fun k => match k with
  | 0 => .int
  | _ => .int
abbrev wsX140 : List Cond := u_ws RX14 TX14 2
theorem nmX14 : ∀ a, a < 2 → ∀ b, b < 2 → a ≠ b → (TX14 a).2.1 ≠ (TX14 b).2.1 := by decide +kernel
theorem tyX14_ok : ∀ k, k < 2 → parseFieldDescriptor (TX14 k).2.2.1 = some (tyX14 k) := by decide +kernel
abbrev cX14_init : ByteArray := prog_16_method_1_code
def yX14_init : MethodName := ⟨RX14, "<init>", "(II)V"⟩
def dkwX14_init_0 : List UInt8 := [42, 27, 28, 183, 0, 1, 177]
abbrev dktX14_init_0 : List UInt8 := dkwX14_init_0 ++ []
theorem dksX14_init_0 : cX14_init.data.toList.drop 0 = dktX14_init_0 := by decide +kernel
theorem dX14_init_0 : decode cX14_init 0 = .ok (.aload_n 0, 1) := dk_42 (dk_at dksX14_init_0 0 rfl rfl)
theorem dX14_init_1 : decode cX14_init 1 = .ok (.iload_n 1, 1) := dk_27 (dk_at dksX14_init_0 1 rfl rfl)
theorem dX14_init_2 : decode cX14_init 2 = .ok (.iload_n 2, 1) := dk_28 (dk_at dksX14_init_0 2 rfl rfl)
theorem dX14_init_3 : decode cX14_init 3 = .ok (.invokespecial 1, 3) := dk_183 0 1 (dk_at dksX14_init_0 3 rfl rfl)
theorem dX14_init_6 : decode cX14_init 6 = .ok (.return_, 1) := dk_177 (dk_at dksX14_init_0 6 rfl rfl)
abbrev cX14_by : ByteArray := prog_16_method_2_code
def yX14_by : MethodName := ⟨RX14, "by", "(Z)I"⟩
def dkwX14_by_0 : List UInt8 := [42, 27, 154, 0, 7, 4, 167, 0, 4, 3, 183, 0, 7, 172]
abbrev dktX14_by_0 : List UInt8 := dkwX14_by_0 ++ []
theorem dksX14_by_0 : cX14_by.data.toList.drop 0 = dktX14_by_0 := by decide +kernel
theorem dX14_by_0 : decode cX14_by 0 = .ok (.aload_n 0, 1) := dk_42 (dk_at dksX14_by_0 0 rfl rfl)
theorem dX14_by_1 : decode cX14_by 1 = .ok (.iload_n 1, 1) := dk_27 (dk_at dksX14_by_0 1 rfl rfl)
theorem dX14_by_2 : decode cX14_by 2 = .ok (.ifCond .ne 7, 3) := dk_154 0 7 (dk_at dksX14_by_0 2 rfl rfl)
theorem dX14_by_5 : decode cX14_by 5 = .ok (.iconst 1, 1) := dk_4 (dk_at dksX14_by_0 5 rfl rfl)
theorem dX14_by_6 : decode cX14_by 6 = .ok (.goto 4, 3) := dk_167 0 4 (dk_at dksX14_by_0 6 rfl rfl)
theorem dX14_by_9 : decode cX14_by 9 = .ok (.iconst 0, 1) := dk_3 (dk_at dksX14_by_0 9 rfl rfl)
theorem dX14_by_10 : decode cX14_by 10 = .ok (.invokespecial 7, 3) := dk_183 0 7 (dk_at dksX14_by_0 10 rfl rfl)
theorem dX14_by_13 : decode cX14_by 13 = .ok (.ireturn, 1) := dk_172 (dk_at dksX14_by_0 13 rfl rfl)
theorem q160 : (Jvm.Cond.initialized "UnseenClock$Unless") ∈ lw_all := lw_g (lw_at lw_m1 30 rfl) rfl
theorem q922 : (Jvm.Cond.selects "UnseenClock$Unless" ({ cls := "java/lang/Object", name := "getClass", desc := "()Ljava/lang/Class;" } : Jvm.MethodName) ({ cls := "java/lang/Object", name := "getClass", desc := "()Ljava/lang/Class;" } : Jvm.MethodName)) ∈ lw_all := lw_g (lw_at lw_m4 72 rfl) rfl
theorem q1085 : (Jvm.Cond.instantiable "UnseenClock$Unless" (2 : Nat)) ∈ lw_all := lw_g (lw_at lw_m4 235 rfl) rfl
theorem q1087 : (Jvm.Cond.instanceMethod ({ cls := "UnseenClock$Unless", name := "<init>", desc := "(II)V" } : Jvm.MethodName)) ∈ lw_all := lw_g (lw_at lw_m4 237 rfl) rfl
theorem q1088 : (Jvm.Cond.code ({ cls := "UnseenClock$Unless", name := "<init>", desc := "(II)V" } : Jvm.MethodName) prog_16_method_1_code (3 : Nat) (Option.none : Option Jvm.ClassFile.FieldType)) ∈ lw_all := lw_g (lw_at lw_m4 238 rfl) rfl
theorem q1089 : (Jvm.Cond.methodLink "UnseenClock$Unless" (1 : Nat) ({ cls := "UnseenClock$With", name := "<init>", desc := "(II)V" } : Jvm.MethodName)) ∈ lw_all := lw_g (lw_at lw_m4 239 rfl) rfl
theorem q1090 : (Jvm.Cond.laysFinal "UnseenClock$Unless" "UnseenClock$With" "other" "I") ∈ lw_all := lw_g (lw_at lw_m5 0 rfl) rfl
theorem q1091 : (Jvm.Cond.laysFinal "UnseenClock$Unless" "UnseenClock$Habit" "clock" "I") ∈ lw_all := lw_g (lw_at lw_m5 1 rfl) rfl
theorem q1092 : (Jvm.Cond.superclass "UnseenClock$Unless" "UnseenClock$With") ∈ lw_all := lw_g (lw_at lw_m5 2 rfl) rfl
theorem q1216 : (Jvm.Cond.selects "UnseenClock$Unless" ({ cls := "UnseenClock$Habit", name := "odds", desc := "()I" } : Jvm.MethodName) ({ cls := "UnseenClock$Habit", name := "odds", desc := "()I" } : Jvm.MethodName)) ∈ lw_all := lw_g (lw_at lw_m5 126 rfl) rfl
theorem q1257 : (Jvm.Cond.selects "UnseenClock$Unless" ({ cls := "UnseenClock$Habit", name := "now", desc := "(LUnseenClock$Course;II)I" } : Jvm.MethodName) ({ cls := "UnseenClock$With", name := "now", desc := "(LUnseenClock$Course;II)I" } : Jvm.MethodName)) ∈ lw_all := lw_g (lw_at lw_m5 167 rfl) rfl
theorem q1272 : (Jvm.Cond.selects "UnseenClock$Unless" ({ cls := "UnseenClock$With", name := "by", desc := "(Z)I" } : Jvm.MethodName) ({ cls := "UnseenClock$Unless", name := "by", desc := "(Z)I" } : Jvm.MethodName)) ∈ lw_all := lw_g (lw_at lw_m5 182 rfl) rfl
theorem q1273 : (Jvm.Cond.instanceMethod ({ cls := "UnseenClock$Unless", name := "by", desc := "(Z)I" } : Jvm.MethodName)) ∈ lw_all := lw_g (lw_at lw_m5 183 rfl) rfl
theorem q1274 : (Jvm.Cond.code ({ cls := "UnseenClock$Unless", name := "by", desc := "(Z)I" } : Jvm.MethodName) prog_16_method_2_code (2 : Nat) (Option.some Jvm.ClassFile.FieldType.int)) ∈ lw_all := lw_g (lw_at lw_m5 184 rfl) rfl
theorem q1275 : (Jvm.Cond.methodLink "UnseenClock$Unless" (7 : Nat) ({ cls := "UnseenClock$With", name := "by", desc := "(Z)I" } : Jvm.MethodName)) ∈ lw_all := lw_g (lw_at lw_m5 185 rfl) rfl
theorem q2308 : (Jvm.Cond.castable "UnseenClock$Unless" "UnseenClock$Habit") ∈ lw_tbl := lw_at lw_m10 18 rfl
theorem q2325 : (Jvm.Cond.castable "UnseenClock$Unless" "java/lang/Object") ∈ lw_tbl := lw_at lw_m10 35 rfl
theorem in_X14 : ∀ w ∈ wsX140, w ∈ lw_all := lw_in wsX140 [1091, 1090] (by decide +kernel) (by decide +kernel)
/-! UnseenClock$Maybe -/
set_option maxRecDepth 100000
def RX15 : String := "UnseenClock$Maybe"
def TX15 : u_T := fun k => match k with
  | 0 => ("UnseenClock$Habit", "clock", "I", true)
  | _ => ("UnseenClock$Maybe", "odds", "I", true)
def tyX15 : Nat → FieldType := fun k => match k with
  | 0 => .int
  | _ => .int
abbrev wsX150 : List Cond := u_ws RX15 TX15 2
theorem nmX15 : ∀ a, a < 2 → ∀ b, b < 2 → a ≠ b → (TX15 a).2.1 ≠ (TX15 b).2.1 := by decide +kernel
theorem tyX15_ok : ∀ k, k < 2 → parseFieldDescriptor (TX15 k).2.2.1 = some (tyX15 k) := by decide +kernel
abbrev cX15_init : ByteArray := prog_9_method_1_code
def yX15_init : MethodName := ⟨RX15, "<init>", "(II)V"⟩
def dkwX15_init_0 : List UInt8 := [42, 27, 183, 0, 1, 42, 28, 181, 0, 7, 177]
abbrev dktX15_init_0 : List UInt8 := dkwX15_init_0 ++ []
theorem dksX15_init_0 : cX15_init.data.toList.drop 0 = dktX15_init_0 := by decide +kernel
theorem dX15_init_0 : decode cX15_init 0 = .ok (.aload_n 0, 1) := dk_42 (dk_at dksX15_init_0 0 rfl rfl)
theorem dX15_init_1 : decode cX15_init 1 = .ok (.iload_n 1, 1) := dk_27 (dk_at dksX15_init_0 1 rfl rfl)
theorem dX15_init_2 : decode cX15_init 2 = .ok (.invokespecial 1, 3) := dk_183 0 1 (dk_at dksX15_init_0 2 rfl rfl)
theorem dX15_init_5 : decode cX15_init 5 = .ok (.aload_n 0, 1) := dk_42 (dk_at dksX15_init_0 5 rfl rfl)
theorem dX15_init_6 : decode cX15_init 6 = .ok (.iload_n 2, 1) := dk_28 (dk_at dksX15_init_0 6 rfl rfl)
theorem dX15_init_7 : decode cX15_init 7 = .ok (.putfield 7, 3) := dk_181 0 7 (dk_at dksX15_init_0 7 rfl rfl)
theorem dX15_init_10 : decode cX15_init 10 = .ok (.return_, 1) := dk_177 (dk_at dksX15_init_0 10 rfl rfl)
abbrev cX15_odds : ByteArray := prog_9_method_2_code
def yX15_odds : MethodName := ⟨RX15, "odds", "()I"⟩
theorem dX15_odds_0 : decode cX15_odds 0 = .ok (.aload_n 0, 1) := by decide +kernel
theorem dX15_odds_1 : decode cX15_odds 1 = .ok (.getfield 7, 3) := by decide +kernel
theorem dX15_odds_4 : decode cX15_odds 4 = .ok (.ireturn, 1) := by decide +kernel
abbrev cX15_now : ByteArray := prog_9_method_3_code
def yX15_now : MethodName := ⟨RX15, "now", "(LUnseenClock$Course;II)I"⟩
def dkwX15_now_0 : List UInt8 := [43, 28, 42, 182, 0, 13, 153, 0, 7, 5, 167, 0, 4, 3, 172]
abbrev dktX15_now_0 : List UInt8 := dkwX15_now_0 ++ []
theorem dksX15_now_0 : cX15_now.data.toList.drop 0 = dktX15_now_0 := by decide +kernel
theorem dX15_now_0 : decode cX15_now 0 = .ok (.aload_n 1, 1) := dk_43 (dk_at dksX15_now_0 0 rfl rfl)
theorem dX15_now_1 : decode cX15_now 1 = .ok (.iload_n 2, 1) := dk_28 (dk_at dksX15_now_0 1 rfl rfl)
theorem dX15_now_2 : decode cX15_now 2 = .ok (.aload_n 0, 1) := dk_42 (dk_at dksX15_now_0 2 rfl rfl)
theorem dX15_now_3 : decode cX15_now 3 = .ok (.invokevirtual 13, 3) := dk_182 0 13 (dk_at dksX15_now_0 3 rfl rfl)
theorem dX15_now_6 : decode cX15_now 6 = .ok (.ifCond .eq 7, 3) := dk_153 0 7 (dk_at dksX15_now_0 6 rfl rfl)
theorem dX15_now_9 : decode cX15_now 9 = .ok (.iconst 2, 1) := dk_5 (dk_at dksX15_now_0 9 rfl rfl)
theorem dX15_now_10 : decode cX15_now 10 = .ok (.goto 4, 3) := dk_167 0 4 (dk_at dksX15_now_0 10 rfl rfl)
theorem dX15_now_13 : decode cX15_now 13 = .ok (.iconst 0, 1) := dk_3 (dk_at dksX15_now_0 13 rfl rfl)
theorem dX15_now_14 : decode cX15_now 14 = .ok (.ireturn, 1) := dk_172 (dk_at dksX15_now_0 14 rfl rfl)
theorem q161 : (Jvm.Cond.initialized "UnseenClock$Maybe") ∈ lw_all := lw_g (lw_at lw_m1 31 rfl) rfl
theorem q915 : (Jvm.Cond.selects "UnseenClock$Maybe" ({ cls := "java/lang/Object", name := "getClass", desc := "()Ljava/lang/Class;" } : Jvm.MethodName) ({ cls := "java/lang/Object", name := "getClass", desc := "()Ljava/lang/Class;" } : Jvm.MethodName)) ∈ lw_all := lw_g (lw_at lw_m4 65 rfl) rfl
theorem q1094 : (Jvm.Cond.instantiable "UnseenClock$Maybe" (2 : Nat)) ∈ lw_all := lw_g (lw_at lw_m5 4 rfl) rfl
theorem q1097 : (Jvm.Cond.instanceMethod ({ cls := "UnseenClock$Maybe", name := "<init>", desc := "(II)V" } : Jvm.MethodName)) ∈ lw_all := lw_g (lw_at lw_m5 7 rfl) rfl
theorem q1098 : (Jvm.Cond.code ({ cls := "UnseenClock$Maybe", name := "<init>", desc := "(II)V" } : Jvm.MethodName) prog_9_method_1_code (3 : Nat) (Option.none : Option Jvm.ClassFile.FieldType)) ∈ lw_all := lw_g (lw_at lw_m5 8 rfl) rfl
theorem q1099 : (Jvm.Cond.methodLink "UnseenClock$Maybe" (1 : Nat) ({ cls := "UnseenClock$Habit", name := "<init>", desc := "(I)V" } : Jvm.MethodName)) ∈ lw_all := lw_g (lw_at lw_m5 9 rfl) rfl
theorem q1100 : (Jvm.Cond.fieldLink "UnseenClock$Maybe" (7 : Nat) "UnseenClock$Maybe" "odds" "I") ∈ lw_all := lw_g (lw_at lw_m5 10 rfl) rfl
theorem q1101 : (Jvm.Cond.laysFinal "UnseenClock$Maybe" "UnseenClock$Maybe" "odds" "I") ∈ lw_all := lw_g (lw_at lw_m5 11 rfl) rfl
theorem q1102 : (Jvm.Cond.soleField "UnseenClock$Maybe" "odds") ∈ lw_all := lw_g (lw_at lw_m5 12 rfl) rfl
theorem q1103 : (Jvm.Cond.laysFinal "UnseenClock$Maybe" "UnseenClock$Habit" "clock" "I") ∈ lw_all := lw_g (lw_at lw_m5 13 rfl) rfl
theorem q1104 : (Jvm.Cond.superclass "UnseenClock$Maybe" "UnseenClock$Habit") ∈ lw_all := lw_g (lw_at lw_m5 14 rfl) rfl
theorem q1212 : (Jvm.Cond.selects "UnseenClock$Maybe" ({ cls := "UnseenClock$Habit", name := "odds", desc := "()I" } : Jvm.MethodName) ({ cls := "UnseenClock$Maybe", name := "odds", desc := "()I" } : Jvm.MethodName)) ∈ lw_all := lw_g (lw_at lw_m5 122 rfl) rfl
theorem q1213 : (Jvm.Cond.instanceMethod ({ cls := "UnseenClock$Maybe", name := "odds", desc := "()I" } : Jvm.MethodName)) ∈ lw_all := lw_g (lw_at lw_m5 123 rfl) rfl
theorem q1214 : (Jvm.Cond.code ({ cls := "UnseenClock$Maybe", name := "odds", desc := "()I" } : Jvm.MethodName) prog_9_method_2_code (1 : Nat) (Option.some Jvm.ClassFile.FieldType.int)) ∈ lw_all := lw_g (lw_at lw_m5 124 rfl) rfl
theorem q1246 : (Jvm.Cond.selects "UnseenClock$Maybe" ({ cls := "UnseenClock$Habit", name := "now", desc := "(LUnseenClock$Course;II)I" } : Jvm.MethodName) ({ cls := "UnseenClock$Maybe", name := "now", desc := "(LUnseenClock$Course;II)I" } : Jvm.MethodName)) ∈ lw_all := lw_g (lw_at lw_m5 156 rfl) rfl
theorem q1247 : (Jvm.Cond.instanceMethod ({ cls := "UnseenClock$Maybe", name := "now", desc := "(LUnseenClock$Course;II)I" } : Jvm.MethodName)) ∈ lw_all := lw_g (lw_at lw_m5 157 rfl) rfl
theorem q1248 : (Jvm.Cond.code ({ cls := "UnseenClock$Maybe", name := "now", desc := "(LUnseenClock$Course;II)I" } : Jvm.MethodName) prog_9_method_3_code (4 : Nat) (Option.some Jvm.ClassFile.FieldType.int)) ∈ lw_all := lw_g (lw_at lw_m5 158 rfl) rfl
theorem q1249 : (Jvm.Cond.methodLink "UnseenClock$Maybe" (13 : Nat) ({ cls := "UnseenClock$Course", name := "isDrawn", desc := "(ILUnseenClock$Habit;)Z" } : Jvm.MethodName)) ∈ lw_all := lw_g (lw_at lw_m5 159 rfl) rfl
theorem q2306 : (Jvm.Cond.castable "UnseenClock$Maybe" "UnseenClock$Habit") ∈ lw_tbl := lw_at lw_m10 16 rfl
theorem q2326 : (Jvm.Cond.castable "UnseenClock$Maybe" "java/lang/Object") ∈ lw_tbl := lw_at lw_m10 36 rfl
theorem in_X15 : ∀ w ∈ wsX150, w ∈ lw_all := lw_in wsX150 [1103, 1101] (by decide +kernel) (by decide +kernel)
/-! UnseenClock$Seen -/
set_option maxRecDepth 100000
def RX16 : String := "UnseenClock$Seen"
def TX16 : u_T := fun k => match k with
  | 0 => ("UnseenClock$Seen", "shows", "[B", true)
  | _ => ("UnseenClock$Seen", "look", "[B", true)
def tyX16 : Nat → FieldType := fun k => match k with
  | 0 => .array .byte
  | _ => .array .byte
abbrev wsX160 : List Cond := u_ws RX16 TX16 2
theorem nmX16 : ∀ a, a < 2 → ∀ b, b < 2 → a ≠ b → (TX16 a).2.1 ≠ (TX16 b).2.1 := by decide +kernel
theorem tyX16_ok : ∀ k, k < 2 → parseFieldDescriptor (TX16 k).2.2.1 = some (tyX16 k) := by decide +kernel
abbrev cX16_init : ByteArray := prog_13_method_1_code
def yX16_init : MethodName := ⟨RX16, "<init>", "()V"⟩
def dkwX16_init_0 : List UInt8 := [42, 183, 0, 3, 42, 17, 0, 164, 188, 8, 181, 0, 9, 42, 17, 1, 64, 188, 8, 181, 0, 15, 177]
abbrev dktX16_init_0 : List UInt8 := dkwX16_init_0 ++ []
theorem dksX16_init_0 : cX16_init.data.toList.drop 0 = dktX16_init_0 := by decide +kernel
theorem dX16_init_0 : decode cX16_init 0 = .ok (.aload_n 0, 1) := dk_42 (dk_at dksX16_init_0 0 rfl rfl)
theorem dX16_init_1 : decode cX16_init 1 = .ok (.invokespecial 3, 3) := dk_183 0 3 (dk_at dksX16_init_0 1 rfl rfl)
theorem dX16_init_4 : decode cX16_init 4 = .ok (.aload_n 0, 1) := dk_42 (dk_at dksX16_init_0 4 rfl rfl)
theorem dX16_init_5 : decode cX16_init 5 = .ok (.sipush 164, 3) := dk_17 0 164 (dk_at dksX16_init_0 5 rfl rfl)
theorem dX16_init_8 : decode cX16_init 8 = .ok (.newarray .byte, 2) := dk_188_8 (dk_at dksX16_init_0 8 rfl rfl)
theorem dX16_init_10 : decode cX16_init 10 = .ok (.putfield 9, 3) := dk_181 0 9 (dk_at dksX16_init_0 10 rfl rfl)
theorem dX16_init_13 : decode cX16_init 13 = .ok (.aload_n 0, 1) := dk_42 (dk_at dksX16_init_0 13 rfl rfl)
theorem dX16_init_14 : decode cX16_init 14 = .ok (.sipush 320, 3) := dk_17 1 64 (dk_at dksX16_init_0 14 rfl rfl)
theorem dX16_init_17 : decode cX16_init 17 = .ok (.newarray .byte, 2) := dk_188_8 (dk_at dksX16_init_0 17 rfl rfl)
theorem dX16_init_19 : decode cX16_init 19 = .ok (.putfield 15, 3) := dk_181 0 15 (dk_at dksX16_init_0 19 rfl rfl)
theorem dX16_init_22 : decode cX16_init 22 = .ok (.return_, 1) := dk_177 (dk_at dksX16_init_0 22 rfl rfl)
abbrev cX16_becomes : ByteArray := prog_13_method_2_code
def yX16_becomes : MethodName := ⟨RX16, "becomes", "(LUnseenClock$Course;)V"⟩
def dkwX16_becomes_4 : List UInt8 := [132, 3, 1, 167, 255, 222, 132, 2, 1, 167, 255, 208, 177]
abbrev dktX16_becomes_4 : List UInt8 := dkwX16_becomes_4 ++ []
def dkwX16_becomes_3 : List UInt8 := [162, 0, 29, 42, 180, 0, 15, 16, 40, 28, 104, 29, 96, 43, 180, 0, 33, 28, 50, 29, 46, 145, 84]
abbrev dktX16_becomes_3 : List UInt8 := dkwX16_becomes_3 ++ dktX16_becomes_4
def dkwX16_becomes_2 : List UInt8 := [132, 2, 1, 167, 255, 209, 3, 61, 28, 16, 8, 162, 0, 48, 3, 62, 29, 43, 180, 0, 18, 180, 0, 24]
abbrev dktX16_becomes_2 : List UInt8 := dkwX16_becomes_2 ++ dktX16_becomes_3
def dkwX16_becomes_1 : List UInt8 := [16, 41, 28, 104, 29, 96, 43, 180, 0, 30, 28, 50, 29, 46, 145, 84, 132, 3, 1, 167, 255, 222]
abbrev dktX16_becomes_1 : List UInt8 := dkwX16_becomes_1 ++ dktX16_becomes_2
def dkwX16_becomes_0 : List UInt8 := [3, 61, 28, 7, 162, 0, 48, 3, 62, 29, 43, 180, 0, 18, 180, 0, 24, 163, 0, 29, 42, 180, 0, 9]
abbrev dktX16_becomes_0 : List UInt8 := dkwX16_becomes_0 ++ dktX16_becomes_1
theorem dksX16_becomes_0 : cX16_becomes.data.toList.drop 0 = dktX16_becomes_0 := by decide +kernel
theorem dksX16_becomes_1 : cX16_becomes.data.toList.drop 24 = dktX16_becomes_1 := dk_seg dksX16_becomes_0 24 rfl rfl
theorem dksX16_becomes_2 : cX16_becomes.data.toList.drop 46 = dktX16_becomes_2 := dk_seg dksX16_becomes_1 22 rfl rfl
theorem dksX16_becomes_3 : cX16_becomes.data.toList.drop 70 = dktX16_becomes_3 := dk_seg dksX16_becomes_2 24 rfl rfl
theorem dksX16_becomes_4 : cX16_becomes.data.toList.drop 93 = dktX16_becomes_4 := dk_seg dksX16_becomes_3 23 rfl rfl
theorem dX16_becomes_0 : decode cX16_becomes 0 = .ok (.iconst 0, 1) := dk_3 (dk_at dksX16_becomes_0 0 rfl rfl)
theorem dX16_becomes_1 : decode cX16_becomes 1 = .ok (.istore_n 2, 1) := dk_61 (dk_at dksX16_becomes_0 1 rfl rfl)
theorem dX16_becomes_2 : decode cX16_becomes 2 = .ok (.iload_n 2, 1) := dk_28 (dk_at dksX16_becomes_0 2 rfl rfl)
theorem dX16_becomes_3 : decode cX16_becomes 3 = .ok (.iconst 4, 1) := dk_7 (dk_at dksX16_becomes_0 3 rfl rfl)
theorem dX16_becomes_4 : decode cX16_becomes 4 = .ok (.if_icmp .ge 48, 3) := dk_162 0 48 (dk_at dksX16_becomes_0 4 rfl rfl)
theorem dX16_becomes_7 : decode cX16_becomes 7 = .ok (.iconst 0, 1) := dk_3 (dk_at dksX16_becomes_0 7 rfl rfl)
theorem dX16_becomes_8 : decode cX16_becomes 8 = .ok (.istore_n 3, 1) := dk_62 (dk_at dksX16_becomes_0 8 rfl rfl)
theorem dX16_becomes_9 : decode cX16_becomes 9 = .ok (.iload_n 3, 1) := dk_29 (dk_at dksX16_becomes_0 9 rfl rfl)
theorem dX16_becomes_10 : decode cX16_becomes 10 = .ok (.aload_n 1, 1) := dk_43 (dk_at dksX16_becomes_0 10 rfl rfl)
theorem dX16_becomes_11 : decode cX16_becomes 11 = .ok (.getfield 18, 3) := dk_180 0 18 (dk_at dksX16_becomes_0 11 rfl rfl)
theorem dX16_becomes_14 : decode cX16_becomes 14 = .ok (.getfield 24, 3) := dk_180 0 24 (dk_at dksX16_becomes_0 14 rfl rfl)
theorem dX16_becomes_17 : decode cX16_becomes 17 = .ok (.if_icmp .gt 29, 3) := dk_163 0 29 (dk_at dksX16_becomes_0 17 rfl rfl)
theorem dX16_becomes_20 : decode cX16_becomes 20 = .ok (.aload_n 0, 1) := dk_42 (dk_at dksX16_becomes_0 20 rfl rfl)
theorem dX16_becomes_21 : decode cX16_becomes 21 = .ok (.getfield 9, 3) := dk_180 0 9 (dk_at dksX16_becomes_0 21 rfl rfl)
theorem dX16_becomes_24 : decode cX16_becomes 24 = .ok (.bipush 41, 2) := dk_16 41 (dk_at dksX16_becomes_1 0 rfl rfl)
theorem dX16_becomes_26 : decode cX16_becomes 26 = .ok (.iload_n 2, 1) := dk_28 (dk_at dksX16_becomes_1 2 rfl rfl)
theorem dX16_becomes_27 : decode cX16_becomes 27 = .ok (.imul, 1) := dk_104 (dk_at dksX16_becomes_1 3 rfl rfl)
theorem dX16_becomes_28 : decode cX16_becomes 28 = .ok (.iload_n 3, 1) := dk_29 (dk_at dksX16_becomes_1 4 rfl rfl)
theorem dX16_becomes_29 : decode cX16_becomes 29 = .ok (.iadd, 1) := dk_96 (dk_at dksX16_becomes_1 5 rfl rfl)
theorem dX16_becomes_30 : decode cX16_becomes 30 = .ok (.aload_n 1, 1) := dk_43 (dk_at dksX16_becomes_1 6 rfl rfl)
theorem dX16_becomes_31 : decode cX16_becomes 31 = .ok (.getfield 30, 3) := dk_180 0 30 (dk_at dksX16_becomes_1 7 rfl rfl)
theorem dX16_becomes_34 : decode cX16_becomes 34 = .ok (.iload_n 2, 1) := dk_28 (dk_at dksX16_becomes_1 10 rfl rfl)
theorem dX16_becomes_35 : decode cX16_becomes 35 = .ok (.aaload, 1) := dk_50 (dk_at dksX16_becomes_1 11 rfl rfl)
theorem dX16_becomes_36 : decode cX16_becomes 36 = .ok (.iload_n 3, 1) := dk_29 (dk_at dksX16_becomes_1 12 rfl rfl)
theorem dX16_becomes_37 : decode cX16_becomes 37 = .ok (.iaload, 1) := dk_46 (dk_at dksX16_becomes_1 13 rfl rfl)
theorem dX16_becomes_38 : decode cX16_becomes 38 = .ok (.i2b, 1) := dk_145 (dk_at dksX16_becomes_1 14 rfl rfl)
theorem dX16_becomes_39 : decode cX16_becomes 39 = .ok (.bastore, 1) := dk_84 (dk_at dksX16_becomes_1 15 rfl rfl)
theorem dX16_becomes_40 : decode cX16_becomes 40 = .ok (.iinc 3 1, 3) := dk_132 3 1 (dk_at dksX16_becomes_1 16 rfl rfl)
theorem dX16_becomes_43 : decode cX16_becomes 43 = .ok (.goto (-34), 3) := dk_167 255 222 (dk_at dksX16_becomes_1 19 rfl rfl)
theorem dX16_becomes_46 : decode cX16_becomes 46 = .ok (.iinc 2 1, 3) := dk_132 2 1 (dk_at dksX16_becomes_2 0 rfl rfl)
theorem dX16_becomes_49 : decode cX16_becomes 49 = .ok (.goto (-47), 3) := dk_167 255 209 (dk_at dksX16_becomes_2 3 rfl rfl)
theorem dX16_becomes_52 : decode cX16_becomes 52 = .ok (.iconst 0, 1) := dk_3 (dk_at dksX16_becomes_2 6 rfl rfl)
theorem dX16_becomes_53 : decode cX16_becomes 53 = .ok (.istore_n 2, 1) := dk_61 (dk_at dksX16_becomes_2 7 rfl rfl)
theorem dX16_becomes_54 : decode cX16_becomes 54 = .ok (.iload_n 2, 1) := dk_28 (dk_at dksX16_becomes_2 8 rfl rfl)
theorem dX16_becomes_55 : decode cX16_becomes 55 = .ok (.bipush 8, 2) := dk_16 8 (dk_at dksX16_becomes_2 9 rfl rfl)
theorem dX16_becomes_57 : decode cX16_becomes 57 = .ok (.if_icmp .ge 48, 3) := dk_162 0 48 (dk_at dksX16_becomes_2 11 rfl rfl)
theorem dX16_becomes_60 : decode cX16_becomes 60 = .ok (.iconst 0, 1) := dk_3 (dk_at dksX16_becomes_2 14 rfl rfl)
theorem dX16_becomes_61 : decode cX16_becomes 61 = .ok (.istore_n 3, 1) := dk_62 (dk_at dksX16_becomes_2 15 rfl rfl)
theorem dX16_becomes_62 : decode cX16_becomes 62 = .ok (.iload_n 3, 1) := dk_29 (dk_at dksX16_becomes_2 16 rfl rfl)
theorem dX16_becomes_63 : decode cX16_becomes 63 = .ok (.aload_n 1, 1) := dk_43 (dk_at dksX16_becomes_2 17 rfl rfl)
theorem dX16_becomes_64 : decode cX16_becomes 64 = .ok (.getfield 18, 3) := dk_180 0 18 (dk_at dksX16_becomes_2 18 rfl rfl)
theorem dX16_becomes_67 : decode cX16_becomes 67 = .ok (.getfield 24, 3) := dk_180 0 24 (dk_at dksX16_becomes_2 21 rfl rfl)
theorem dX16_becomes_70 : decode cX16_becomes 70 = .ok (.if_icmp .ge 29, 3) := dk_162 0 29 (dk_at dksX16_becomes_3 0 rfl rfl)
theorem dX16_becomes_73 : decode cX16_becomes 73 = .ok (.aload_n 0, 1) := dk_42 (dk_at dksX16_becomes_3 3 rfl rfl)
theorem dX16_becomes_74 : decode cX16_becomes 74 = .ok (.getfield 15, 3) := dk_180 0 15 (dk_at dksX16_becomes_3 4 rfl rfl)
theorem dX16_becomes_77 : decode cX16_becomes 77 = .ok (.bipush 40, 2) := dk_16 40 (dk_at dksX16_becomes_3 7 rfl rfl)
theorem dX16_becomes_79 : decode cX16_becomes 79 = .ok (.iload_n 2, 1) := dk_28 (dk_at dksX16_becomes_3 9 rfl rfl)
theorem dX16_becomes_80 : decode cX16_becomes 80 = .ok (.imul, 1) := dk_104 (dk_at dksX16_becomes_3 10 rfl rfl)
theorem dX16_becomes_81 : decode cX16_becomes 81 = .ok (.iload_n 3, 1) := dk_29 (dk_at dksX16_becomes_3 11 rfl rfl)
theorem dX16_becomes_82 : decode cX16_becomes 82 = .ok (.iadd, 1) := dk_96 (dk_at dksX16_becomes_3 12 rfl rfl)
theorem dX16_becomes_83 : decode cX16_becomes 83 = .ok (.aload_n 1, 1) := dk_43 (dk_at dksX16_becomes_3 13 rfl rfl)
theorem dX16_becomes_84 : decode cX16_becomes 84 = .ok (.getfield 33, 3) := dk_180 0 33 (dk_at dksX16_becomes_3 14 rfl rfl)
theorem dX16_becomes_87 : decode cX16_becomes 87 = .ok (.iload_n 2, 1) := dk_28 (dk_at dksX16_becomes_3 17 rfl rfl)
theorem dX16_becomes_88 : decode cX16_becomes 88 = .ok (.aaload, 1) := dk_50 (dk_at dksX16_becomes_3 18 rfl rfl)
theorem dX16_becomes_89 : decode cX16_becomes 89 = .ok (.iload_n 3, 1) := dk_29 (dk_at dksX16_becomes_3 19 rfl rfl)
theorem dX16_becomes_90 : decode cX16_becomes 90 = .ok (.iaload, 1) := dk_46 (dk_at dksX16_becomes_3 20 rfl rfl)
theorem dX16_becomes_91 : decode cX16_becomes 91 = .ok (.i2b, 1) := dk_145 (dk_at dksX16_becomes_3 21 rfl rfl)
theorem dX16_becomes_92 : decode cX16_becomes 92 = .ok (.bastore, 1) := dk_84 (dk_at dksX16_becomes_3 22 rfl rfl)
theorem dX16_becomes_93 : decode cX16_becomes 93 = .ok (.iinc 3 1, 3) := dk_132 3 1 (dk_at dksX16_becomes_4 0 rfl rfl)
theorem dX16_becomes_96 : decode cX16_becomes 96 = .ok (.goto (-34), 3) := dk_167 255 222 (dk_at dksX16_becomes_4 3 rfl rfl)
theorem dX16_becomes_99 : decode cX16_becomes 99 = .ok (.iinc 2 1, 3) := dk_132 2 1 (dk_at dksX16_becomes_4 6 rfl rfl)
theorem dX16_becomes_102 : decode cX16_becomes 102 = .ok (.goto (-48), 3) := dk_167 255 208 (dk_at dksX16_becomes_4 9 rfl rfl)
theorem dX16_becomes_105 : decode cX16_becomes 105 = .ok (.return_, 1) := dk_177 (dk_at dksX16_becomes_4 12 rfl rfl)
abbrev cX16_shows : ByteArray := prog_13_method_3_code
def yX16_shows : MethodName := ⟨RX16, "shows", "(II)I"⟩
def dkwX16_shows_0 : List UInt8 := [42, 180, 0, 9, 16, 41, 27, 104, 28, 96, 51, 172]
abbrev dktX16_shows_0 : List UInt8 := dkwX16_shows_0 ++ []
theorem dksX16_shows_0 : cX16_shows.data.toList.drop 0 = dktX16_shows_0 := by decide +kernel
theorem dX16_shows_0 : decode cX16_shows 0 = .ok (.aload_n 0, 1) := dk_42 (dk_at dksX16_shows_0 0 rfl rfl)
theorem dX16_shows_1 : decode cX16_shows 1 = .ok (.getfield 9, 3) := dk_180 0 9 (dk_at dksX16_shows_0 1 rfl rfl)
theorem dX16_shows_4 : decode cX16_shows 4 = .ok (.bipush 41, 2) := dk_16 41 (dk_at dksX16_shows_0 4 rfl rfl)
theorem dX16_shows_6 : decode cX16_shows 6 = .ok (.iload_n 1, 1) := dk_27 (dk_at dksX16_shows_0 6 rfl rfl)
theorem dX16_shows_7 : decode cX16_shows 7 = .ok (.imul, 1) := dk_104 (dk_at dksX16_shows_0 7 rfl rfl)
theorem dX16_shows_8 : decode cX16_shows 8 = .ok (.iload_n 2, 1) := dk_28 (dk_at dksX16_shows_0 8 rfl rfl)
theorem dX16_shows_9 : decode cX16_shows 9 = .ok (.iadd, 1) := dk_96 (dk_at dksX16_shows_0 9 rfl rfl)
theorem dX16_shows_10 : decode cX16_shows 10 = .ok (.baload, 1) := dk_51 (dk_at dksX16_shows_0 10 rfl rfl)
theorem dX16_shows_11 : decode cX16_shows 11 = .ok (.ireturn, 1) := dk_172 (dk_at dksX16_shows_0 11 rfl rfl)
abbrev cX16_isAlike : ByteArray := prog_13_method_4_code
def yX16_isAlike : MethodName := ⟨RX16, "isAlike", "(LUnseenClock$Seen;II)Z"⟩
def dkwX16_isAlike_4 : List UInt8 := [4, 172]
abbrev dktX16_isAlike_4 : List UInt8 := dkwX16_isAlike_4 ++ []
def dkwX16_isAlike_3 : List UInt8 := [21, 6, 21, 4, 182, 0, 39, 159, 0, 5, 3, 172, 132, 6, 1, 167, 255, 216, 132, 4, 1, 167, 255, 168]
abbrev dktX16_isAlike_3 : List UInt8 := dkwX16_isAlike_3 ++ dktX16_isAlike_4
def dkwX16_isAlike_2 : List UInt8 := [7, 162, 0, 40, 21, 5, 21, 6, 184, 0, 35, 153, 0, 24, 42, 21, 6, 21, 4, 182, 0, 39, 43]
abbrev dktX16_isAlike_2 : List UInt8 := dkwX16_isAlike_2 ++ dktX16_isAlike_3
def dkwX16_isAlike_1 : List UInt8 := [21, 5, 43, 180, 0, 15, 16, 40, 28, 104, 21, 4, 96, 51, 159, 0, 5, 3, 172, 3, 54, 6, 21, 6]
abbrev dktX16_isAlike_1 : List UInt8 := dkwX16_isAlike_1 ++ dktX16_isAlike_2
def dkwX16_isAlike_0 : List UInt8 := [3, 54, 4, 21, 4, 29, 162, 0, 88, 42, 180, 0, 15, 16, 40, 28, 104, 21, 4, 96, 51, 54, 5]
abbrev dktX16_isAlike_0 : List UInt8 := dkwX16_isAlike_0 ++ dktX16_isAlike_1
theorem dksX16_isAlike_0 : cX16_isAlike.data.toList.drop 0 = dktX16_isAlike_0 := by decide +kernel
theorem dksX16_isAlike_1 : cX16_isAlike.data.toList.drop 23 = dktX16_isAlike_1 := dk_seg dksX16_isAlike_0 23 rfl rfl
theorem dksX16_isAlike_2 : cX16_isAlike.data.toList.drop 47 = dktX16_isAlike_2 := dk_seg dksX16_isAlike_1 24 rfl rfl
theorem dksX16_isAlike_3 : cX16_isAlike.data.toList.drop 70 = dktX16_isAlike_3 := dk_seg dksX16_isAlike_2 23 rfl rfl
theorem dksX16_isAlike_4 : cX16_isAlike.data.toList.drop 94 = dktX16_isAlike_4 := dk_seg dksX16_isAlike_3 24 rfl rfl
theorem dX16_isAlike_0 : decode cX16_isAlike 0 = .ok (.iconst 0, 1) := dk_3 (dk_at dksX16_isAlike_0 0 rfl rfl)
theorem dX16_isAlike_1 : decode cX16_isAlike 1 = .ok (.istore 4, 2) := dk_54 4 (dk_at dksX16_isAlike_0 1 rfl rfl)
theorem dX16_isAlike_3 : decode cX16_isAlike 3 = .ok (.iload 4, 2) := dk_21 4 (dk_at dksX16_isAlike_0 3 rfl rfl)
theorem dX16_isAlike_5 : decode cX16_isAlike 5 = .ok (.iload_n 3, 1) := dk_29 (dk_at dksX16_isAlike_0 5 rfl rfl)
theorem dX16_isAlike_6 : decode cX16_isAlike 6 = .ok (.if_icmp .ge 88, 3) := dk_162 0 88 (dk_at dksX16_isAlike_0 6 rfl rfl)
theorem dX16_isAlike_9 : decode cX16_isAlike 9 = .ok (.aload_n 0, 1) := dk_42 (dk_at dksX16_isAlike_0 9 rfl rfl)
theorem dX16_isAlike_10 : decode cX16_isAlike 10 = .ok (.getfield 15, 3) := dk_180 0 15 (dk_at dksX16_isAlike_0 10 rfl rfl)
theorem dX16_isAlike_13 : decode cX16_isAlike 13 = .ok (.bipush 40, 2) := dk_16 40 (dk_at dksX16_isAlike_0 13 rfl rfl)
theorem dX16_isAlike_15 : decode cX16_isAlike 15 = .ok (.iload_n 2, 1) := dk_28 (dk_at dksX16_isAlike_0 15 rfl rfl)
theorem dX16_isAlike_16 : decode cX16_isAlike 16 = .ok (.imul, 1) := dk_104 (dk_at dksX16_isAlike_0 16 rfl rfl)
theorem dX16_isAlike_17 : decode cX16_isAlike 17 = .ok (.iload 4, 2) := dk_21 4 (dk_at dksX16_isAlike_0 17 rfl rfl)
theorem dX16_isAlike_19 : decode cX16_isAlike 19 = .ok (.iadd, 1) := dk_96 (dk_at dksX16_isAlike_0 19 rfl rfl)
theorem dX16_isAlike_20 : decode cX16_isAlike 20 = .ok (.baload, 1) := dk_51 (dk_at dksX16_isAlike_0 20 rfl rfl)
theorem dX16_isAlike_21 : decode cX16_isAlike 21 = .ok (.istore 5, 2) := dk_54 5 (dk_at dksX16_isAlike_0 21 rfl rfl)
theorem dX16_isAlike_23 : decode cX16_isAlike 23 = .ok (.iload 5, 2) := dk_21 5 (dk_at dksX16_isAlike_1 0 rfl rfl)
theorem dX16_isAlike_25 : decode cX16_isAlike 25 = .ok (.aload_n 1, 1) := dk_43 (dk_at dksX16_isAlike_1 2 rfl rfl)
theorem dX16_isAlike_26 : decode cX16_isAlike 26 = .ok (.getfield 15, 3) := dk_180 0 15 (dk_at dksX16_isAlike_1 3 rfl rfl)
theorem dX16_isAlike_29 : decode cX16_isAlike 29 = .ok (.bipush 40, 2) := dk_16 40 (dk_at dksX16_isAlike_1 6 rfl rfl)
theorem dX16_isAlike_31 : decode cX16_isAlike 31 = .ok (.iload_n 2, 1) := dk_28 (dk_at dksX16_isAlike_1 8 rfl rfl)
theorem dX16_isAlike_32 : decode cX16_isAlike 32 = .ok (.imul, 1) := dk_104 (dk_at dksX16_isAlike_1 9 rfl rfl)
theorem dX16_isAlike_33 : decode cX16_isAlike 33 = .ok (.iload 4, 2) := dk_21 4 (dk_at dksX16_isAlike_1 10 rfl rfl)
theorem dX16_isAlike_35 : decode cX16_isAlike 35 = .ok (.iadd, 1) := dk_96 (dk_at dksX16_isAlike_1 12 rfl rfl)
theorem dX16_isAlike_36 : decode cX16_isAlike 36 = .ok (.baload, 1) := dk_51 (dk_at dksX16_isAlike_1 13 rfl rfl)
theorem dX16_isAlike_37 : decode cX16_isAlike 37 = .ok (.if_icmp .eq 5, 3) := dk_159 0 5 (dk_at dksX16_isAlike_1 14 rfl rfl)
theorem dX16_isAlike_40 : decode cX16_isAlike 40 = .ok (.iconst 0, 1) := dk_3 (dk_at dksX16_isAlike_1 17 rfl rfl)
theorem dX16_isAlike_41 : decode cX16_isAlike 41 = .ok (.ireturn, 1) := dk_172 (dk_at dksX16_isAlike_1 18 rfl rfl)
theorem dX16_isAlike_42 : decode cX16_isAlike 42 = .ok (.iconst 0, 1) := dk_3 (dk_at dksX16_isAlike_1 19 rfl rfl)
theorem dX16_isAlike_43 : decode cX16_isAlike 43 = .ok (.istore 6, 2) := dk_54 6 (dk_at dksX16_isAlike_1 20 rfl rfl)
theorem dX16_isAlike_45 : decode cX16_isAlike 45 = .ok (.iload 6, 2) := dk_21 6 (dk_at dksX16_isAlike_1 22 rfl rfl)
theorem dX16_isAlike_47 : decode cX16_isAlike 47 = .ok (.iconst 4, 1) := dk_7 (dk_at dksX16_isAlike_2 0 rfl rfl)
theorem dX16_isAlike_48 : decode cX16_isAlike 48 = .ok (.if_icmp .ge 40, 3) := dk_162 0 40 (dk_at dksX16_isAlike_2 1 rfl rfl)
theorem dX16_isAlike_51 : decode cX16_isAlike 51 = .ok (.iload 5, 2) := dk_21 5 (dk_at dksX16_isAlike_2 4 rfl rfl)
theorem dX16_isAlike_53 : decode cX16_isAlike 53 = .ok (.iload 6, 2) := dk_21 6 (dk_at dksX16_isAlike_2 6 rfl rfl)
theorem dX16_isAlike_55 : decode cX16_isAlike 55 = .ok (.invokestatic 35, 3) := dk_184 0 35 (dk_at dksX16_isAlike_2 8 rfl rfl)
theorem dX16_isAlike_58 : decode cX16_isAlike 58 = .ok (.ifCond .eq 24, 3) := dk_153 0 24 (dk_at dksX16_isAlike_2 11 rfl rfl)
theorem dX16_isAlike_61 : decode cX16_isAlike 61 = .ok (.aload_n 0, 1) := dk_42 (dk_at dksX16_isAlike_2 14 rfl rfl)
theorem dX16_isAlike_62 : decode cX16_isAlike 62 = .ok (.iload 6, 2) := dk_21 6 (dk_at dksX16_isAlike_2 15 rfl rfl)
theorem dX16_isAlike_64 : decode cX16_isAlike 64 = .ok (.iload 4, 2) := dk_21 4 (dk_at dksX16_isAlike_2 17 rfl rfl)
theorem dX16_isAlike_66 : decode cX16_isAlike 66 = .ok (.invokevirtual 39, 3) := dk_182 0 39 (dk_at dksX16_isAlike_2 19 rfl rfl)
theorem dX16_isAlike_69 : decode cX16_isAlike 69 = .ok (.aload_n 1, 1) := dk_43 (dk_at dksX16_isAlike_2 22 rfl rfl)
theorem dX16_isAlike_70 : decode cX16_isAlike 70 = .ok (.iload 6, 2) := dk_21 6 (dk_at dksX16_isAlike_3 0 rfl rfl)
theorem dX16_isAlike_72 : decode cX16_isAlike 72 = .ok (.iload 4, 2) := dk_21 4 (dk_at dksX16_isAlike_3 2 rfl rfl)
theorem dX16_isAlike_74 : decode cX16_isAlike 74 = .ok (.invokevirtual 39, 3) := dk_182 0 39 (dk_at dksX16_isAlike_3 4 rfl rfl)
theorem dX16_isAlike_77 : decode cX16_isAlike 77 = .ok (.if_icmp .eq 5, 3) := dk_159 0 5 (dk_at dksX16_isAlike_3 7 rfl rfl)
theorem dX16_isAlike_80 : decode cX16_isAlike 80 = .ok (.iconst 0, 1) := dk_3 (dk_at dksX16_isAlike_3 10 rfl rfl)
theorem dX16_isAlike_81 : decode cX16_isAlike 81 = .ok (.ireturn, 1) := dk_172 (dk_at dksX16_isAlike_3 11 rfl rfl)
theorem dX16_isAlike_82 : decode cX16_isAlike 82 = .ok (.iinc 6 1, 3) := dk_132 6 1 (dk_at dksX16_isAlike_3 12 rfl rfl)
theorem dX16_isAlike_85 : decode cX16_isAlike 85 = .ok (.goto (-40), 3) := dk_167 255 216 (dk_at dksX16_isAlike_3 15 rfl rfl)
theorem dX16_isAlike_88 : decode cX16_isAlike 88 = .ok (.iinc 4 1, 3) := dk_132 4 1 (dk_at dksX16_isAlike_3 18 rfl rfl)
theorem dX16_isAlike_91 : decode cX16_isAlike 91 = .ok (.goto (-88), 3) := dk_167 255 168 (dk_at dksX16_isAlike_3 21 rfl rfl)
theorem dX16_isAlike_94 : decode cX16_isAlike 94 = .ok (.iconst 1, 1) := dk_4 (dk_at dksX16_isAlike_4 0 rfl rfl)
theorem dX16_isAlike_95 : decode cX16_isAlike 95 = .ok (.ireturn, 1) := dk_172 (dk_at dksX16_isAlike_4 1 rfl rfl)
theorem q163 : (Jvm.Cond.initialized "UnseenClock$Seen") ∈ lw_all := lw_g (lw_at lw_m1 33 rfl) rfl
theorem q444 : (Jvm.Cond.fieldLinkNest "UnseenClock$Seen" (24 : Nat) "UnseenClock$Square" "minutes" "I" "UnseenClock") ∈ lw_tbl := lw_at lw_m2 74 rfl
theorem q485 : (Jvm.Cond.fieldLinkNest "UnseenClock$Seen" (33 : Nat) "UnseenClock$Course" "look" "[[I" "UnseenClock") ∈ lw_tbl := lw_at lw_m2 115 rfl
theorem q489 : (Jvm.Cond.fieldLinkNest "UnseenClock$Seen" (30 : Nat) "UnseenClock$Course" "shows" "[[I" "UnseenClock") ∈ lw_tbl := lw_at lw_m2 119 rfl
theorem q506 : (Jvm.Cond.fieldLinkNest "UnseenClock$Seen" (18 : Nat) "UnseenClock$Course" "square" "LUnseenClock$Square;" "UnseenClock") ∈ lw_tbl := lw_at lw_m2 136 rfl
theorem q919 : (Jvm.Cond.selects "UnseenClock$Seen" ({ cls := "java/lang/Object", name := "getClass", desc := "()Ljava/lang/Class;" } : Jvm.MethodName) ({ cls := "java/lang/Object", name := "getClass", desc := "()Ljava/lang/Class;" } : Jvm.MethodName)) ∈ lw_all := lw_g (lw_at lw_m4 69 rfl) rfl
theorem q1360 : (Jvm.Cond.instantiable "UnseenClock$Seen" (2 : Nat)) ∈ lw_all := lw_g (lw_at lw_m6 30 rfl) rfl
theorem q1362 : (Jvm.Cond.instanceMethod ({ cls := "UnseenClock$Seen", name := "<init>", desc := "()V" } : Jvm.MethodName)) ∈ lw_all := lw_g (lw_at lw_m6 32 rfl) rfl
theorem q1363 : (Jvm.Cond.code ({ cls := "UnseenClock$Seen", name := "<init>", desc := "()V" } : Jvm.MethodName) prog_13_method_1_code (1 : Nat) (Option.none : Option Jvm.ClassFile.FieldType)) ∈ lw_all := lw_g (lw_at lw_m6 33 rfl) rfl
theorem q1364 : (Jvm.Cond.methodLink "UnseenClock$Seen" (3 : Nat) ({ cls := "java/lang/Object", name := "<init>", desc := "()V" } : Jvm.MethodName)) ∈ lw_all := lw_g (lw_at lw_m6 34 rfl) rfl
theorem q1365 : (Jvm.Cond.fieldLink "UnseenClock$Seen" (9 : Nat) "UnseenClock$Seen" "shows" "[B") ∈ lw_all := lw_g (lw_at lw_m6 35 rfl) rfl
theorem q1366 : (Jvm.Cond.fieldLink "UnseenClock$Seen" (15 : Nat) "UnseenClock$Seen" "look" "[B") ∈ lw_all := lw_g (lw_at lw_m6 36 rfl) rfl
theorem q1367 : (Jvm.Cond.laysFinal "UnseenClock$Seen" "UnseenClock$Seen" "shows" "[B") ∈ lw_all := lw_g (lw_at lw_m6 37 rfl) rfl
theorem q1368 : (Jvm.Cond.soleField "UnseenClock$Seen" "shows") ∈ lw_all := lw_g (lw_at lw_m6 38 rfl) rfl
theorem q1369 : (Jvm.Cond.laysFinal "UnseenClock$Seen" "UnseenClock$Seen" "look" "[B") ∈ lw_all := lw_g (lw_at lw_m6 39 rfl) rfl
theorem q1370 : (Jvm.Cond.soleField "UnseenClock$Seen" "look") ∈ lw_all := lw_g (lw_at lw_m6 40 rfl) rfl
theorem q1371 : (Jvm.Cond.superclass "UnseenClock$Seen" "java/lang/Object") ∈ lw_all := lw_g (lw_at lw_m6 41 rfl) rfl
theorem q1375 : (Jvm.Cond.instanceMethod ({ cls := "UnseenClock$Seen", name := "becomes", desc := "(LUnseenClock$Course;)V" } : Jvm.MethodName)) ∈ lw_all := lw_g (lw_at lw_m6 45 rfl) rfl
theorem q1376 : (Jvm.Cond.selects "UnseenClock$Seen" ({ cls := "UnseenClock$Seen", name := "becomes", desc := "(LUnseenClock$Course;)V" } : Jvm.MethodName) ({ cls := "UnseenClock$Seen", name := "becomes", desc := "(LUnseenClock$Course;)V" } : Jvm.MethodName)) ∈ lw_all := lw_g (lw_at lw_m6 46 rfl) rfl
theorem q1377 : (Jvm.Cond.code ({ cls := "UnseenClock$Seen", name := "becomes", desc := "(LUnseenClock$Course;)V" } : Jvm.MethodName) prog_13_method_2_code (4 : Nat) (Option.none : Option Jvm.ClassFile.FieldType)) ∈ lw_all := lw_g (lw_at lw_m6 47 rfl) rfl
theorem q1391 : (Jvm.Cond.instanceMethod ({ cls := "UnseenClock$Seen", name := "shows", desc := "(II)I" } : Jvm.MethodName)) ∈ lw_all := lw_g (lw_at lw_m6 61 rfl) rfl
theorem q1392 : (Jvm.Cond.selects "UnseenClock$Seen" ({ cls := "UnseenClock$Seen", name := "shows", desc := "(II)I" } : Jvm.MethodName) ({ cls := "UnseenClock$Seen", name := "shows", desc := "(II)I" } : Jvm.MethodName)) ∈ lw_all := lw_g (lw_at lw_m6 62 rfl) rfl
theorem q1393 : (Jvm.Cond.code ({ cls := "UnseenClock$Seen", name := "shows", desc := "(II)I" } : Jvm.MethodName) prog_13_method_3_code (3 : Nat) (Option.some Jvm.ClassFile.FieldType.int)) ∈ lw_all := lw_g (lw_at lw_m6 63 rfl) rfl
theorem q1445 : (Jvm.Cond.instanceMethod ({ cls := "UnseenClock$Seen", name := "isAlike", desc := "(LUnseenClock$Seen;II)Z" } : Jvm.MethodName)) ∈ lw_all := lw_g (lw_at lw_m6 115 rfl) rfl
theorem q1446 : (Jvm.Cond.selects "UnseenClock$Seen" ({ cls := "UnseenClock$Seen", name := "isAlike", desc := "(LUnseenClock$Seen;II)Z" } : Jvm.MethodName) ({ cls := "UnseenClock$Seen", name := "isAlike", desc := "(LUnseenClock$Seen;II)Z" } : Jvm.MethodName)) ∈ lw_all := lw_g (lw_at lw_m6 116 rfl) rfl
theorem q1447 : (Jvm.Cond.code ({ cls := "UnseenClock$Seen", name := "isAlike", desc := "(LUnseenClock$Seen;II)Z" } : Jvm.MethodName) prog_13_method_4_code (7 : Nat) (Option.some Jvm.ClassFile.FieldType.boolean)) ∈ lw_all := lw_g (lw_at lw_m6 117 rfl) rfl
theorem q1448 : (Jvm.Cond.methodLinkNest "UnseenClock$Seen" (35 : Nat) ({ cls := "UnseenClock", name := "isOn", desc := "(II)Z" } : Jvm.MethodName) "UnseenClock") ∈ lw_tbl := lw_at lw_m6 118 rfl
theorem q1449 : (Jvm.Cond.methodLink "UnseenClock$Seen" (39 : Nat) ({ cls := "UnseenClock$Seen", name := "shows", desc := "(II)I" } : Jvm.MethodName)) ∈ lw_all := lw_g (lw_at lw_m6 119 rfl) rfl
theorem q2327 : (Jvm.Cond.castable "UnseenClock$Seen" "java/lang/Object") ∈ lw_tbl := lw_at lw_m10 37 rfl
theorem in_X16 : ∀ w ∈ wsX160, w ∈ lw_all := lw_in wsX160 [1367, 1369] (by decide +kernel) (by decide +kernel)
/-! UnseenClock$Image -/
set_option maxRecDepth 100000
def RX17 : String := "UnseenClock$Image"
def TX17 : u_T := fun k => match k with
  | 0 => ("UnseenClock$Image", "paces", "[I", true)
  | 1 => ("UnseenClock$Image", "square", "LUnseenClock$Square;", false)
  | _ => ("UnseenClock$Image", "away", "I", false)
def tyX17 : Nat → FieldType := fun k => match k with
  | 0 => .array .int
  | 1 => .object "UnseenClock$Square"
  | _ => .int
abbrev wsX170 : List Cond := u_ws RX17 TX17 3
theorem nmX17 : ∀ a, a < 3 → ∀ b, b < 3 → a ≠ b → (TX17 a).2.1 ≠ (TX17 b).2.1 := by decide +kernel
theorem tyX17_ok : ∀ k, k < 3 → parseFieldDescriptor (TX17 k).2.2.1 = some (tyX17 k) := by decide +kernel
abbrev cX17_init : ByteArray := prog_8_method_1_code
def yX17_init : MethodName := ⟨RX17, "<init>", "()V"⟩
def dkwX17_init_0 : List UInt8 := [42, 183, 0, 3, 42, 7, 188, 10, 181, 0, 9, 177]
abbrev dktX17_init_0 : List UInt8 := dkwX17_init_0 ++ []
theorem dksX17_init_0 : cX17_init.data.toList.drop 0 = dktX17_init_0 := by decide +kernel
theorem dX17_init_0 : decode cX17_init 0 = .ok (.aload_n 0, 1) := dk_42 (dk_at dksX17_init_0 0 rfl rfl)
theorem dX17_init_1 : decode cX17_init 1 = .ok (.invokespecial 3, 3) := dk_183 0 3 (dk_at dksX17_init_0 1 rfl rfl)
theorem dX17_init_4 : decode cX17_init 4 = .ok (.aload_n 0, 1) := dk_42 (dk_at dksX17_init_0 4 rfl rfl)
theorem dX17_init_5 : decode cX17_init 5 = .ok (.iconst 4, 1) := dk_7 (dk_at dksX17_init_0 5 rfl rfl)
theorem dX17_init_6 : decode cX17_init 6 = .ok (.newarray .int, 2) := dk_188_10 (dk_at dksX17_init_0 6 rfl rfl)
theorem dX17_init_8 : decode cX17_init 8 = .ok (.putfield 9, 3) := dk_181 0 9 (dk_at dksX17_init_0 8 rfl rfl)
theorem dX17_init_11 : decode cX17_init 11 = .ok (.return_, 1) := dk_177 (dk_at dksX17_init_0 11 rfl rfl)
theorem q165 : (Jvm.Cond.initialized "UnseenClock$Image") ∈ lw_all := lw_g (lw_at lw_m1 35 rfl) rfl
theorem q914 : (Jvm.Cond.selects "UnseenClock$Image" ({ cls := "java/lang/Object", name := "getClass", desc := "()Ljava/lang/Class;" } : Jvm.MethodName) ({ cls := "java/lang/Object", name := "getClass", desc := "()Ljava/lang/Class;" } : Jvm.MethodName)) ∈ lw_all := lw_g (lw_at lw_m4 64 rfl) rfl
theorem q1611 : (Jvm.Cond.instantiable "UnseenClock$Image" (3 : Nat)) ∈ lw_all := lw_g (lw_at lw_m7 41 rfl) rfl
theorem q1613 : (Jvm.Cond.instanceMethod ({ cls := "UnseenClock$Image", name := "<init>", desc := "()V" } : Jvm.MethodName)) ∈ lw_all := lw_g (lw_at lw_m7 43 rfl) rfl
theorem q1614 : (Jvm.Cond.code ({ cls := "UnseenClock$Image", name := "<init>", desc := "()V" } : Jvm.MethodName) prog_8_method_1_code (1 : Nat) (Option.none : Option Jvm.ClassFile.FieldType)) ∈ lw_all := lw_g (lw_at lw_m7 44 rfl) rfl
theorem q1615 : (Jvm.Cond.methodLink "UnseenClock$Image" (3 : Nat) ({ cls := "java/lang/Object", name := "<init>", desc := "()V" } : Jvm.MethodName)) ∈ lw_all := lw_g (lw_at lw_m7 45 rfl) rfl
theorem q1616 : (Jvm.Cond.fieldLink "UnseenClock$Image" (9 : Nat) "UnseenClock$Image" "paces" "[I") ∈ lw_all := lw_g (lw_at lw_m7 46 rfl) rfl
theorem q1620 : (Jvm.Cond.laysFinal "UnseenClock$Image" "UnseenClock$Image" "paces" "[I") ∈ lw_all := lw_g (lw_at lw_m7 50 rfl) rfl
theorem q1621 : (Jvm.Cond.soleField "UnseenClock$Image" "paces") ∈ lw_all := lw_g (lw_at lw_m7 51 rfl) rfl
theorem q1622 : (Jvm.Cond.lays "UnseenClock$Image" "UnseenClock$Image" "square" "LUnseenClock$Square;") ∈ lw_all := lw_g (lw_at lw_m7 52 rfl) rfl
theorem q1623 : (Jvm.Cond.soleField "UnseenClock$Image" "square") ∈ lw_all := lw_g (lw_at lw_m7 53 rfl) rfl
theorem q1624 : (Jvm.Cond.lays "UnseenClock$Image" "UnseenClock$Image" "away" "I") ∈ lw_all := lw_g (lw_at lw_m7 54 rfl) rfl
theorem q1625 : (Jvm.Cond.soleField "UnseenClock$Image" "away") ∈ lw_all := lw_g (lw_at lw_m7 55 rfl) rfl
theorem q1626 : (Jvm.Cond.superclass "UnseenClock$Image" "java/lang/Object") ∈ lw_all := lw_g (lw_at lw_m7 56 rfl) rfl
theorem q2311 : (Jvm.Cond.castable "UnseenClock$Image" "java/lang/Object") ∈ lw_tbl := lw_at lw_m10 21 rfl
theorem in_X17 : ∀ w ∈ wsX170, w ∈ lw_all := lw_in wsX170 [1620, 1622, 1624] (by decide +kernel) (by decide +kernel)
