/-! UnseenClockModel -/
set_option maxRecDepth 100000
def RX4 : String := "UnseenClockModel"
def TX4 : u_T := fun k => match k with
  | 0 => ("UnseenClockModel", "thrown", "I", false)
  | 1 => ("UnseenClockModel", "world", "[I", true)
  | 2 => ("UnseenClockModel", "images", "[I", true)
  | 3 => ("UnseenClockModel", "hasImage", "[Z", true)
  | 4 => ("UnseenClockModel", "tape", "[B", true)
  | 5 => ("UnseenClockModel", "taped", "I", false)
  | 6 => ("UnseenClockModel", "five", "[I", true)
  | 7 => ("UnseenClockModel", "size", "I", false)
  | 8 => ("UnseenClockModel", "at", "I", false)
  | 9 => ("UnseenClockModel", "from", "I", false)
  | 10 => ("UnseenClockModel", "token", "I", false)
  | 11 => ("UnseenClockModel", "value", "I", false)
  | 12 => ("UnseenClockModel", "faultKind", "I", false)
  | 13 => ("UnseenClockModel", "faultPlace", "I", false)
  | 14 => ("UnseenClockModel", "fresh", "[I", true)
  | 15 => ("UnseenClockModel", "spotX", "[I", true)
  | 16 => ("UnseenClockModel", "spotY", "[I", true)
  | 17 => ("UnseenClockModel", "seeing", "[Z", true)
  | 18 => ("UnseenClockModel", "parts", "[I", true)
  | 19 => ("UnseenClockModel", "looking", "[I", true)
  | 20 => ("UnseenClockModel", "opening", "[I", true)
  | 21 => ("UnseenClockModel", "opened", "[I", true)
  | 22 => ("UnseenClockModel", "openMany", "I", false)
  | 23 => ("UnseenClockModel", "taken", "[Z", true)
  | 24 => ("UnseenClockModel", "takenMany", "I", false)
  | 25 => ("UnseenClockModel", "keeping", "[I", true)
  | 26 => ("UnseenClockModel", "keptLast", "[I", true)
  | 27 => ("UnseenClockModel", "keptMany", "[I", true)
  | 28 => ("UnseenClockModel", "isDrawn", "Z", false)
  | 29 => ("UnseenClockModel", "drawn", "J", false)
  | 30 => ("UnseenClockModel", "value3", "[I", true)
  | 31 => ("UnseenClockModel", "maybes", "[Z", true)
  | 32 => ("UnseenClockModel", "showing", "[I", true)
  | 33 => ("UnseenClockModel", "sights", "[I", true)
  | 34 => ("UnseenClockModel", "coursesMany", "I", false)
  | 35 => ("UnseenClockModel", "isComing", "[Z", true)
  | 36 => ("UnseenClockModel", "queue", "[I", true)
  | 37 => ("UnseenClockModel", "many", "[I", true)
  | 38 => ("UnseenClockModel", "width", "[I", true)
  | 39 => ("UnseenClockModel", "numbers", "[J", true)
  | _ => ("UnseenClockModel", "moving", "[J", true)
def tyX4 : Nat → FieldType := fun k => match k with
  | 0 => .int
  | 1 => .array .int
  | 2 => .array .int
  | 3 => .array .boolean
  | 4 => .array .byte
  | 5 => .int
  | 6 => .array .int
  | 7 => .int
  | 8 => .int
  | 9 => .int
  | 10 => .int
  | 11 => .int
  | 12 => .int
  | 13 => .int
  | 14 => .array .int
  | 15 => .array .int
  | 16 => .array .int
  | 17 => .array .boolean
  | 18 => .array .int
  | 19 => .array .int
  | 20 => .array .int
  | 21 => .array .int
  | 22 => .int
  | 23 => .array .boolean
  | 24 => .int
  | 25 => .array .int
  | 26 => .array .int
  | 27 => .array .int
  | 28 => .boolean
  | 29 => .long
  | 30 => .array .int
  | 31 => .array .boolean
  | 32 => .array .int
  | 33 => .array .int
  | 34 => .int
  | 35 => .array .boolean
  | 36 => .array .int
  | 37 => .array .int
  | 38 => .array .int
  | 39 => .array .long
  | _ => .array .long
abbrev wsX40 : List Cond := u_ws RX4 TX4 41
set_option maxRecDepth 100000 in
theorem nmX4 : ∀ a, a < 41 → ∀ b, b < 41 → a ≠ b → (TX4 a).2.1 ≠ (TX4 b).2.1 := by decide +kernel
set_option maxRecDepth 100000 in
theorem tyX4_ok : ∀ k, k < 41 → parseFieldDescriptor (TX4 k).2.2.1 = some (tyX4 k) := by decide +kernel
abbrev cX4_init : ByteArray := prog_19_method_1_code
def yX4_init : MethodName := ⟨RX4, "<init>", "()V"⟩
def dkwX4_init_10 : List UInt8 := [42, 17, 0, 240, 188, 11, 181, 0, 92, 42, 16, 60, 188, 11, 181, 0, 96, 177]
abbrev dktX4_init_10 : List UInt8 := dkwX4_init_10 ++ []
def dkwX4_init_9 : List UInt8 := [2, 79, 89, 4, 2, 79, 89, 5, 2, 79, 89, 6, 2, 79, 181, 0, 86, 42, 7, 188, 10, 181, 0, 89]
abbrev dktX4_init_9 : List UInt8 := dkwX4_init_9 ++ dktX4_init_10
def dkwX4_init_8 : List UInt8 := [42, 17, 0, 128, 188, 4, 181, 0, 80, 42, 17, 0, 128, 188, 10, 181, 0, 83, 42, 7, 188, 10, 89, 3]
abbrev dktX4_init_8 : List UInt8 := dkwX4_init_8 ++ dktX4_init_9
def dkwX4_init_7 : List UInt8 := [16, 32, 188, 4, 181, 0, 70, 42, 17, 82, 0, 188, 10, 181, 0, 73, 42, 18, 76, 188, 10, 181, 0, 77]
abbrev dktX4_init_7 : List UInt8 := dkwX4_init_7 ++ dktX4_init_8
def dkwX4_init_6 : List UInt8 := [42, 7, 188, 10, 181, 0, 61, 42, 7, 188, 10, 181, 0, 64, 42, 16, 32, 188, 10, 181, 0, 67, 42]
abbrev dktX4_init_6 : List UInt8 := dkwX4_init_6 ++ dktX4_init_7
def dkwX4_init_5 : List UInt8 := [17, 5, 0, 188, 10, 181, 0, 52, 42, 17, 5, 0, 188, 4, 181, 0, 55, 42, 7, 188, 10, 181, 0, 58]
abbrev dktX4_init_5 : List UInt8 := dkwX4_init_5 ++ dktX4_init_6
def dkwX4_init_4 : List UInt8 := [181, 0, 43, 42, 17, 1, 64, 188, 10, 181, 0, 46, 42, 17, 1, 64, 188, 10, 181, 0, 49, 42]
abbrev dktX4_init_4 : List UInt8 := dkwX4_init_4 ++ dktX4_init_5
def dkwX4_init_3 : List UInt8 := [17, 1, 64, 188, 10, 181, 0, 37, 42, 16, 32, 188, 4, 181, 0, 40, 42, 17, 0, 164, 188, 10]
abbrev dktX4_init_3 : List UInt8 := dkwX4_init_3 ++ dktX4_init_4
def dkwX4_init_2 : List UInt8 := [181, 0, 27, 42, 17, 1, 64, 188, 10, 181, 0, 31, 42, 17, 1, 64, 188, 10, 181, 0, 34, 42]
abbrev dktX4_init_2 : List UInt8 := dkwX4_init_2 ++ dktX4_init_3
def dkwX4_init_1 : List UInt8 := [188, 4, 181, 0, 16, 42, 17, 9, 96, 188, 8, 181, 0, 20, 42, 8, 188, 10, 181, 0, 24, 42, 2]
abbrev dktX4_init_1 : List UInt8 := dkwX4_init_1 ++ dktX4_init_2
def dkwX4_init_0 : List UInt8 := [42, 183, 0, 3, 42, 17, 1, 64, 188, 10, 181, 0, 9, 42, 17, 3, 192, 188, 10, 181, 0, 13, 42, 6]
abbrev dktX4_init_0 : List UInt8 := dkwX4_init_0 ++ dktX4_init_1
theorem dksX4_init_0 : cX4_init.data.toList.drop 0 = dktX4_init_0 := by decide +kernel
theorem dksX4_init_1 : cX4_init.data.toList.drop 24 = dktX4_init_1 := dk_seg dksX4_init_0 24 rfl rfl
theorem dksX4_init_2 : cX4_init.data.toList.drop 47 = dktX4_init_2 := dk_seg dksX4_init_1 23 rfl rfl
theorem dksX4_init_3 : cX4_init.data.toList.drop 69 = dktX4_init_3 := dk_seg dksX4_init_2 22 rfl rfl
theorem dksX4_init_4 : cX4_init.data.toList.drop 91 = dktX4_init_4 := dk_seg dksX4_init_3 22 rfl rfl
theorem dksX4_init_5 : cX4_init.data.toList.drop 113 = dktX4_init_5 := dk_seg dksX4_init_4 22 rfl rfl
theorem dksX4_init_6 : cX4_init.data.toList.drop 137 = dktX4_init_6 := dk_seg dksX4_init_5 24 rfl rfl
theorem dksX4_init_7 : cX4_init.data.toList.drop 160 = dktX4_init_7 := dk_seg dksX4_init_6 23 rfl rfl
theorem dksX4_init_8 : cX4_init.data.toList.drop 184 = dktX4_init_8 := dk_seg dksX4_init_7 24 rfl rfl
theorem dksX4_init_9 : cX4_init.data.toList.drop 208 = dktX4_init_9 := dk_seg dksX4_init_8 24 rfl rfl
theorem dksX4_init_10 : cX4_init.data.toList.drop 232 = dktX4_init_10 := dk_seg dksX4_init_9 24 rfl rfl
theorem dX4_init_0 : decode cX4_init 0 = .ok (.aload_n 0, 1) := dk_42 (dk_at dksX4_init_0 0 rfl rfl)
theorem dX4_init_1 : decode cX4_init 1 = .ok (.invokespecial 3, 3) := dk_183 0 3 (dk_at dksX4_init_0 1 rfl rfl)
theorem dX4_init_4 : decode cX4_init 4 = .ok (.aload_n 0, 1) := dk_42 (dk_at dksX4_init_0 4 rfl rfl)
theorem dX4_init_5 : decode cX4_init 5 = .ok (.sipush 320, 3) := dk_17 1 64 (dk_at dksX4_init_0 5 rfl rfl)
theorem dX4_init_8 : decode cX4_init 8 = .ok (.newarray .int, 2) := dk_188_10 (dk_at dksX4_init_0 8 rfl rfl)
theorem dX4_init_10 : decode cX4_init 10 = .ok (.putfield 9, 3) := dk_181 0 9 (dk_at dksX4_init_0 10 rfl rfl)
theorem dX4_init_13 : decode cX4_init 13 = .ok (.aload_n 0, 1) := dk_42 (dk_at dksX4_init_0 13 rfl rfl)
theorem dX4_init_14 : decode cX4_init 14 = .ok (.sipush 960, 3) := dk_17 3 192 (dk_at dksX4_init_0 14 rfl rfl)
theorem dX4_init_17 : decode cX4_init 17 = .ok (.newarray .int, 2) := dk_188_10 (dk_at dksX4_init_0 17 rfl rfl)
theorem dX4_init_19 : decode cX4_init 19 = .ok (.putfield 13, 3) := dk_181 0 13 (dk_at dksX4_init_0 19 rfl rfl)
theorem dX4_init_22 : decode cX4_init 22 = .ok (.aload_n 0, 1) := dk_42 (dk_at dksX4_init_0 22 rfl rfl)
theorem dX4_init_23 : decode cX4_init 23 = .ok (.iconst 3, 1) := dk_6 (dk_at dksX4_init_0 23 rfl rfl)
theorem dX4_init_24 : decode cX4_init 24 = .ok (.newarray .boolean, 2) := dk_188_4 (dk_at dksX4_init_1 0 rfl rfl)
theorem dX4_init_26 : decode cX4_init 26 = .ok (.putfield 16, 3) := dk_181 0 16 (dk_at dksX4_init_1 2 rfl rfl)
theorem dX4_init_29 : decode cX4_init 29 = .ok (.aload_n 0, 1) := dk_42 (dk_at dksX4_init_1 5 rfl rfl)
theorem dX4_init_30 : decode cX4_init 30 = .ok (.sipush 2400, 3) := dk_17 9 96 (dk_at dksX4_init_1 6 rfl rfl)
theorem dX4_init_33 : decode cX4_init 33 = .ok (.newarray .byte, 2) := dk_188_8 (dk_at dksX4_init_1 9 rfl rfl)
theorem dX4_init_35 : decode cX4_init 35 = .ok (.putfield 20, 3) := dk_181 0 20 (dk_at dksX4_init_1 11 rfl rfl)
theorem dX4_init_38 : decode cX4_init 38 = .ok (.aload_n 0, 1) := dk_42 (dk_at dksX4_init_1 14 rfl rfl)
theorem dX4_init_39 : decode cX4_init 39 = .ok (.iconst 5, 1) := dk_8 (dk_at dksX4_init_1 15 rfl rfl)
theorem dX4_init_40 : decode cX4_init 40 = .ok (.newarray .int, 2) := dk_188_10 (dk_at dksX4_init_1 16 rfl rfl)
theorem dX4_init_42 : decode cX4_init 42 = .ok (.putfield 24, 3) := dk_181 0 24 (dk_at dksX4_init_1 18 rfl rfl)
theorem dX4_init_45 : decode cX4_init 45 = .ok (.aload_n 0, 1) := dk_42 (dk_at dksX4_init_1 21 rfl rfl)
theorem dX4_init_46 : decode cX4_init 46 = .ok (.iconst (-1), 1) := dk_2 (dk_at dksX4_init_1 22 rfl rfl)
theorem dX4_init_47 : decode cX4_init 47 = .ok (.putfield 27, 3) := dk_181 0 27 (dk_at dksX4_init_2 0 rfl rfl)
theorem dX4_init_50 : decode cX4_init 50 = .ok (.aload_n 0, 1) := dk_42 (dk_at dksX4_init_2 3 rfl rfl)
theorem dX4_init_51 : decode cX4_init 51 = .ok (.sipush 320, 3) := dk_17 1 64 (dk_at dksX4_init_2 4 rfl rfl)
theorem dX4_init_54 : decode cX4_init 54 = .ok (.newarray .int, 2) := dk_188_10 (dk_at dksX4_init_2 7 rfl rfl)
theorem dX4_init_56 : decode cX4_init 56 = .ok (.putfield 31, 3) := dk_181 0 31 (dk_at dksX4_init_2 9 rfl rfl)
theorem dX4_init_59 : decode cX4_init 59 = .ok (.aload_n 0, 1) := dk_42 (dk_at dksX4_init_2 12 rfl rfl)
theorem dX4_init_60 : decode cX4_init 60 = .ok (.sipush 320, 3) := dk_17 1 64 (dk_at dksX4_init_2 13 rfl rfl)
theorem dX4_init_63 : decode cX4_init 63 = .ok (.newarray .int, 2) := dk_188_10 (dk_at dksX4_init_2 16 rfl rfl)
theorem dX4_init_65 : decode cX4_init 65 = .ok (.putfield 34, 3) := dk_181 0 34 (dk_at dksX4_init_2 18 rfl rfl)
theorem dX4_init_68 : decode cX4_init 68 = .ok (.aload_n 0, 1) := dk_42 (dk_at dksX4_init_2 21 rfl rfl)
theorem dX4_init_69 : decode cX4_init 69 = .ok (.sipush 320, 3) := dk_17 1 64 (dk_at dksX4_init_3 0 rfl rfl)
theorem dX4_init_72 : decode cX4_init 72 = .ok (.newarray .int, 2) := dk_188_10 (dk_at dksX4_init_3 3 rfl rfl)
theorem dX4_init_74 : decode cX4_init 74 = .ok (.putfield 37, 3) := dk_181 0 37 (dk_at dksX4_init_3 5 rfl rfl)
theorem dX4_init_77 : decode cX4_init 77 = .ok (.aload_n 0, 1) := dk_42 (dk_at dksX4_init_3 8 rfl rfl)
theorem dX4_init_78 : decode cX4_init 78 = .ok (.bipush 32, 2) := dk_16 32 (dk_at dksX4_init_3 9 rfl rfl)
theorem dX4_init_80 : decode cX4_init 80 = .ok (.newarray .boolean, 2) := dk_188_4 (dk_at dksX4_init_3 11 rfl rfl)
theorem dX4_init_82 : decode cX4_init 82 = .ok (.putfield 40, 3) := dk_181 0 40 (dk_at dksX4_init_3 13 rfl rfl)
theorem dX4_init_85 : decode cX4_init 85 = .ok (.aload_n 0, 1) := dk_42 (dk_at dksX4_init_3 16 rfl rfl)
theorem dX4_init_86 : decode cX4_init 86 = .ok (.sipush 164, 3) := dk_17 0 164 (dk_at dksX4_init_3 17 rfl rfl)
theorem dX4_init_89 : decode cX4_init 89 = .ok (.newarray .int, 2) := dk_188_10 (dk_at dksX4_init_3 20 rfl rfl)
theorem dX4_init_91 : decode cX4_init 91 = .ok (.putfield 43, 3) := dk_181 0 43 (dk_at dksX4_init_4 0 rfl rfl)
theorem dX4_init_94 : decode cX4_init 94 = .ok (.aload_n 0, 1) := dk_42 (dk_at dksX4_init_4 3 rfl rfl)
theorem dX4_init_95 : decode cX4_init 95 = .ok (.sipush 320, 3) := dk_17 1 64 (dk_at dksX4_init_4 4 rfl rfl)
theorem dX4_init_98 : decode cX4_init 98 = .ok (.newarray .int, 2) := dk_188_10 (dk_at dksX4_init_4 7 rfl rfl)
theorem dX4_init_100 : decode cX4_init 100 = .ok (.putfield 46, 3) := dk_181 0 46 (dk_at dksX4_init_4 9 rfl rfl)
theorem dX4_init_103 : decode cX4_init 103 = .ok (.aload_n 0, 1) := dk_42 (dk_at dksX4_init_4 12 rfl rfl)
theorem dX4_init_104 : decode cX4_init 104 = .ok (.sipush 320, 3) := dk_17 1 64 (dk_at dksX4_init_4 13 rfl rfl)
theorem dX4_init_107 : decode cX4_init 107 = .ok (.newarray .int, 2) := dk_188_10 (dk_at dksX4_init_4 16 rfl rfl)
theorem dX4_init_109 : decode cX4_init 109 = .ok (.putfield 49, 3) := dk_181 0 49 (dk_at dksX4_init_4 18 rfl rfl)
theorem dX4_init_112 : decode cX4_init 112 = .ok (.aload_n 0, 1) := dk_42 (dk_at dksX4_init_4 21 rfl rfl)
theorem dX4_init_113 : decode cX4_init 113 = .ok (.sipush 1280, 3) := dk_17 5 0 (dk_at dksX4_init_5 0 rfl rfl)
theorem dX4_init_116 : decode cX4_init 116 = .ok (.newarray .int, 2) := dk_188_10 (dk_at dksX4_init_5 3 rfl rfl)
theorem dX4_init_118 : decode cX4_init 118 = .ok (.putfield 52, 3) := dk_181 0 52 (dk_at dksX4_init_5 5 rfl rfl)
theorem dX4_init_121 : decode cX4_init 121 = .ok (.aload_n 0, 1) := dk_42 (dk_at dksX4_init_5 8 rfl rfl)
theorem dX4_init_122 : decode cX4_init 122 = .ok (.sipush 1280, 3) := dk_17 5 0 (dk_at dksX4_init_5 9 rfl rfl)
theorem dX4_init_125 : decode cX4_init 125 = .ok (.newarray .boolean, 2) := dk_188_4 (dk_at dksX4_init_5 12 rfl rfl)
theorem dX4_init_127 : decode cX4_init 127 = .ok (.putfield 55, 3) := dk_181 0 55 (dk_at dksX4_init_5 14 rfl rfl)
theorem dX4_init_130 : decode cX4_init 130 = .ok (.aload_n 0, 1) := dk_42 (dk_at dksX4_init_5 17 rfl rfl)
theorem dX4_init_131 : decode cX4_init 131 = .ok (.iconst 4, 1) := dk_7 (dk_at dksX4_init_5 18 rfl rfl)
theorem dX4_init_132 : decode cX4_init 132 = .ok (.newarray .int, 2) := dk_188_10 (dk_at dksX4_init_5 19 rfl rfl)
theorem dX4_init_134 : decode cX4_init 134 = .ok (.putfield 58, 3) := dk_181 0 58 (dk_at dksX4_init_5 21 rfl rfl)
theorem dX4_init_137 : decode cX4_init 137 = .ok (.aload_n 0, 1) := dk_42 (dk_at dksX4_init_6 0 rfl rfl)
theorem dX4_init_138 : decode cX4_init 138 = .ok (.iconst 4, 1) := dk_7 (dk_at dksX4_init_6 1 rfl rfl)
theorem dX4_init_139 : decode cX4_init 139 = .ok (.newarray .int, 2) := dk_188_10 (dk_at dksX4_init_6 2 rfl rfl)
theorem dX4_init_141 : decode cX4_init 141 = .ok (.putfield 61, 3) := dk_181 0 61 (dk_at dksX4_init_6 4 rfl rfl)
theorem dX4_init_144 : decode cX4_init 144 = .ok (.aload_n 0, 1) := dk_42 (dk_at dksX4_init_6 7 rfl rfl)
theorem dX4_init_145 : decode cX4_init 145 = .ok (.iconst 4, 1) := dk_7 (dk_at dksX4_init_6 8 rfl rfl)
theorem dX4_init_146 : decode cX4_init 146 = .ok (.newarray .int, 2) := dk_188_10 (dk_at dksX4_init_6 9 rfl rfl)
theorem dX4_init_148 : decode cX4_init 148 = .ok (.putfield 64, 3) := dk_181 0 64 (dk_at dksX4_init_6 11 rfl rfl)
theorem dX4_init_151 : decode cX4_init 151 = .ok (.aload_n 0, 1) := dk_42 (dk_at dksX4_init_6 14 rfl rfl)
theorem dX4_init_152 : decode cX4_init 152 = .ok (.bipush 32, 2) := dk_16 32 (dk_at dksX4_init_6 15 rfl rfl)
theorem dX4_init_154 : decode cX4_init 154 = .ok (.newarray .int, 2) := dk_188_10 (dk_at dksX4_init_6 17 rfl rfl)
theorem dX4_init_156 : decode cX4_init 156 = .ok (.putfield 67, 3) := dk_181 0 67 (dk_at dksX4_init_6 19 rfl rfl)
theorem dX4_init_159 : decode cX4_init 159 = .ok (.aload_n 0, 1) := dk_42 (dk_at dksX4_init_6 22 rfl rfl)
theorem dX4_init_160 : decode cX4_init 160 = .ok (.bipush 32, 2) := dk_16 32 (dk_at dksX4_init_7 0 rfl rfl)
theorem dX4_init_162 : decode cX4_init 162 = .ok (.newarray .boolean, 2) := dk_188_4 (dk_at dksX4_init_7 2 rfl rfl)
theorem dX4_init_164 : decode cX4_init 164 = .ok (.putfield 70, 3) := dk_181 0 70 (dk_at dksX4_init_7 4 rfl rfl)
theorem dX4_init_167 : decode cX4_init 167 = .ok (.aload_n 0, 1) := dk_42 (dk_at dksX4_init_7 7 rfl rfl)
theorem dX4_init_168 : decode cX4_init 168 = .ok (.sipush 20992, 3) := dk_17 82 0 (dk_at dksX4_init_7 8 rfl rfl)
theorem dX4_init_171 : decode cX4_init 171 = .ok (.newarray .int, 2) := dk_188_10 (dk_at dksX4_init_7 11 rfl rfl)
theorem dX4_init_173 : decode cX4_init 173 = .ok (.putfield 73, 3) := dk_181 0 73 (dk_at dksX4_init_7 13 rfl rfl)
theorem dX4_init_176 : decode cX4_init 176 = .ok (.aload_n 0, 1) := dk_42 (dk_at dksX4_init_7 16 rfl rfl)
theorem dX4_init_177 : decode cX4_init 177 = .ok (.ldc 76, 2) := dk_18 76 (dk_at dksX4_init_7 17 rfl rfl)
theorem dX4_init_179 : decode cX4_init 179 = .ok (.newarray .int, 2) := dk_188_10 (dk_at dksX4_init_7 19 rfl rfl)
theorem dX4_init_181 : decode cX4_init 181 = .ok (.putfield 77, 3) := dk_181 0 77 (dk_at dksX4_init_7 21 rfl rfl)
theorem dX4_init_184 : decode cX4_init 184 = .ok (.aload_n 0, 1) := dk_42 (dk_at dksX4_init_8 0 rfl rfl)
theorem dX4_init_185 : decode cX4_init 185 = .ok (.sipush 128, 3) := dk_17 0 128 (dk_at dksX4_init_8 1 rfl rfl)
theorem dX4_init_188 : decode cX4_init 188 = .ok (.newarray .boolean, 2) := dk_188_4 (dk_at dksX4_init_8 4 rfl rfl)
theorem dX4_init_190 : decode cX4_init 190 = .ok (.putfield 80, 3) := dk_181 0 80 (dk_at dksX4_init_8 6 rfl rfl)
theorem dX4_init_193 : decode cX4_init 193 = .ok (.aload_n 0, 1) := dk_42 (dk_at dksX4_init_8 9 rfl rfl)
theorem dX4_init_194 : decode cX4_init 194 = .ok (.sipush 128, 3) := dk_17 0 128 (dk_at dksX4_init_8 10 rfl rfl)
theorem dX4_init_197 : decode cX4_init 197 = .ok (.newarray .int, 2) := dk_188_10 (dk_at dksX4_init_8 13 rfl rfl)
theorem dX4_init_199 : decode cX4_init 199 = .ok (.putfield 83, 3) := dk_181 0 83 (dk_at dksX4_init_8 15 rfl rfl)
theorem dX4_init_202 : decode cX4_init 202 = .ok (.aload_n 0, 1) := dk_42 (dk_at dksX4_init_8 18 rfl rfl)
theorem dX4_init_203 : decode cX4_init 203 = .ok (.iconst 4, 1) := dk_7 (dk_at dksX4_init_8 19 rfl rfl)
theorem dX4_init_204 : decode cX4_init 204 = .ok (.newarray .int, 2) := dk_188_10 (dk_at dksX4_init_8 20 rfl rfl)
theorem dX4_init_206 : decode cX4_init 206 = .ok (.dup, 1) := dk_89 (dk_at dksX4_init_8 22 rfl rfl)
theorem dX4_init_207 : decode cX4_init 207 = .ok (.iconst 0, 1) := dk_3 (dk_at dksX4_init_8 23 rfl rfl)
theorem dX4_init_208 : decode cX4_init 208 = .ok (.iconst (-1), 1) := dk_2 (dk_at dksX4_init_9 0 rfl rfl)
theorem dX4_init_209 : decode cX4_init 209 = .ok (.iastore, 1) := dk_79 (dk_at dksX4_init_9 1 rfl rfl)
theorem dX4_init_210 : decode cX4_init 210 = .ok (.dup, 1) := dk_89 (dk_at dksX4_init_9 2 rfl rfl)
theorem dX4_init_211 : decode cX4_init 211 = .ok (.iconst 1, 1) := dk_4 (dk_at dksX4_init_9 3 rfl rfl)
theorem dX4_init_212 : decode cX4_init 212 = .ok (.iconst (-1), 1) := dk_2 (dk_at dksX4_init_9 4 rfl rfl)
theorem dX4_init_213 : decode cX4_init 213 = .ok (.iastore, 1) := dk_79 (dk_at dksX4_init_9 5 rfl rfl)
theorem dX4_init_214 : decode cX4_init 214 = .ok (.dup, 1) := dk_89 (dk_at dksX4_init_9 6 rfl rfl)
theorem dX4_init_215 : decode cX4_init 215 = .ok (.iconst 2, 1) := dk_5 (dk_at dksX4_init_9 7 rfl rfl)
theorem dX4_init_216 : decode cX4_init 216 = .ok (.iconst (-1), 1) := dk_2 (dk_at dksX4_init_9 8 rfl rfl)
theorem dX4_init_217 : decode cX4_init 217 = .ok (.iastore, 1) := dk_79 (dk_at dksX4_init_9 9 rfl rfl)
theorem dX4_init_218 : decode cX4_init 218 = .ok (.dup, 1) := dk_89 (dk_at dksX4_init_9 10 rfl rfl)
theorem dX4_init_219 : decode cX4_init 219 = .ok (.iconst 3, 1) := dk_6 (dk_at dksX4_init_9 11 rfl rfl)
theorem dX4_init_220 : decode cX4_init 220 = .ok (.iconst (-1), 1) := dk_2 (dk_at dksX4_init_9 12 rfl rfl)
theorem dX4_init_221 : decode cX4_init 221 = .ok (.iastore, 1) := dk_79 (dk_at dksX4_init_9 13 rfl rfl)
theorem dX4_init_222 : decode cX4_init 222 = .ok (.putfield 86, 3) := dk_181 0 86 (dk_at dksX4_init_9 14 rfl rfl)
theorem dX4_init_225 : decode cX4_init 225 = .ok (.aload_n 0, 1) := dk_42 (dk_at dksX4_init_9 17 rfl rfl)
theorem dX4_init_226 : decode cX4_init 226 = .ok (.iconst 4, 1) := dk_7 (dk_at dksX4_init_9 18 rfl rfl)
theorem dX4_init_227 : decode cX4_init 227 = .ok (.newarray .int, 2) := dk_188_10 (dk_at dksX4_init_9 19 rfl rfl)
theorem dX4_init_229 : decode cX4_init 229 = .ok (.putfield 89, 3) := dk_181 0 89 (dk_at dksX4_init_9 21 rfl rfl)
theorem dX4_init_232 : decode cX4_init 232 = .ok (.aload_n 0, 1) := dk_42 (dk_at dksX4_init_10 0 rfl rfl)
theorem dX4_init_233 : decode cX4_init 233 = .ok (.sipush 240, 3) := dk_17 0 240 (dk_at dksX4_init_10 1 rfl rfl)
theorem dX4_init_236 : decode cX4_init 236 = .ok (.newarray .long, 2) := dk_188_11 (dk_at dksX4_init_10 4 rfl rfl)
theorem dX4_init_238 : decode cX4_init 238 = .ok (.putfield 92, 3) := dk_181 0 92 (dk_at dksX4_init_10 6 rfl rfl)
theorem dX4_init_241 : decode cX4_init 241 = .ok (.aload_n 0, 1) := dk_42 (dk_at dksX4_init_10 9 rfl rfl)
theorem dX4_init_242 : decode cX4_init 242 = .ok (.bipush 60, 2) := dk_16 60 (dk_at dksX4_init_10 10 rfl rfl)
theorem dX4_init_244 : decode cX4_init 244 = .ok (.newarray .long, 2) := dk_188_11 (dk_at dksX4_init_10 12 rfl rfl)
theorem dX4_init_246 : decode cX4_init 246 = .ok (.putfield 96, 3) := dk_181 0 96 (dk_at dksX4_init_10 14 rfl rfl)
theorem dX4_init_249 : decode cX4_init 249 = .ok (.return_, 1) := dk_177 (dk_at dksX4_init_10 17 rfl rfl)
abbrev cX4_image : ByteArray := prog_19_method_4_code
def yX4_image : MethodName := ⟨RX4, "image", "(I)I"⟩
def dkwX4_image_2 : List UInt8 := [42, 180, 0, 16, 27, 4, 84, 3, 172]
abbrev dktX4_image_2 : List UInt8 := dkwX4_image_2 ++ []
def dkwX4_image_1 : List UInt8 := [42, 180, 0, 13, 17, 1, 64, 27, 104, 28, 96, 42, 180, 0, 9, 28, 46, 79, 132, 2, 1, 167, 255, 228]
abbrev dktX4_image_1 : List UInt8 := dkwX4_image_1 ++ dktX4_image_2
def dkwX4_image_0 : List UInt8 := [27, 133, 9, 20, 0, 102, 184, 0, 104, 154, 0, 6, 16, 254, 172, 3, 61, 28, 17, 1, 64, 162, 0, 27]
abbrev dktX4_image_0 : List UInt8 := dkwX4_image_0 ++ dktX4_image_1
theorem dksX4_image_0 : cX4_image.data.toList.drop 0 = dktX4_image_0 := by decide +kernel
theorem dksX4_image_1 : cX4_image.data.toList.drop 24 = dktX4_image_1 := dk_seg dksX4_image_0 24 rfl rfl
theorem dksX4_image_2 : cX4_image.data.toList.drop 48 = dktX4_image_2 := dk_seg dksX4_image_1 24 rfl rfl
theorem dX4_image_0 : decode cX4_image 0 = .ok (.iload_n 1, 1) := dk_27 (dk_at dksX4_image_0 0 rfl rfl)
theorem dX4_image_1 : decode cX4_image 1 = .ok (.i2l, 1) := dk_133 (dk_at dksX4_image_0 1 rfl rfl)
theorem dX4_image_2 : decode cX4_image 2 = .ok (.lconst 0, 1) := dk_9 (dk_at dksX4_image_0 2 rfl rfl)
theorem dX4_image_3 : decode cX4_image 3 = .ok (.ldc2_w 102, 3) := dk_20 0 102 (dk_at dksX4_image_0 3 rfl rfl)
theorem dX4_image_6 : decode cX4_image 6 = .ok (.invokestatic 104, 3) := dk_184 0 104 (dk_at dksX4_image_0 6 rfl rfl)
theorem dX4_image_9 : decode cX4_image 9 = .ok (.ifCond .ne 6, 3) := dk_154 0 6 (dk_at dksX4_image_0 9 rfl rfl)
theorem dX4_image_12 : decode cX4_image 12 = .ok (.bipush (-2), 2) := dk_16 254 (dk_at dksX4_image_0 12 rfl rfl)
theorem dX4_image_14 : decode cX4_image 14 = .ok (.ireturn, 1) := dk_172 (dk_at dksX4_image_0 14 rfl rfl)
theorem dX4_image_15 : decode cX4_image 15 = .ok (.iconst 0, 1) := dk_3 (dk_at dksX4_image_0 15 rfl rfl)
theorem dX4_image_16 : decode cX4_image 16 = .ok (.istore_n 2, 1) := dk_61 (dk_at dksX4_image_0 16 rfl rfl)
theorem dX4_image_17 : decode cX4_image 17 = .ok (.iload_n 2, 1) := dk_28 (dk_at dksX4_image_0 17 rfl rfl)
theorem dX4_image_18 : decode cX4_image 18 = .ok (.sipush 320, 3) := dk_17 1 64 (dk_at dksX4_image_0 18 rfl rfl)
theorem dX4_image_21 : decode cX4_image 21 = .ok (.if_icmp .ge 27, 3) := dk_162 0 27 (dk_at dksX4_image_0 21 rfl rfl)
theorem dX4_image_24 : decode cX4_image 24 = .ok (.aload_n 0, 1) := dk_42 (dk_at dksX4_image_1 0 rfl rfl)
theorem dX4_image_25 : decode cX4_image 25 = .ok (.getfield 13, 3) := dk_180 0 13 (dk_at dksX4_image_1 1 rfl rfl)
theorem dX4_image_28 : decode cX4_image 28 = .ok (.sipush 320, 3) := dk_17 1 64 (dk_at dksX4_image_1 4 rfl rfl)
theorem dX4_image_31 : decode cX4_image 31 = .ok (.iload_n 1, 1) := dk_27 (dk_at dksX4_image_1 7 rfl rfl)
theorem dX4_image_32 : decode cX4_image 32 = .ok (.imul, 1) := dk_104 (dk_at dksX4_image_1 8 rfl rfl)
theorem dX4_image_33 : decode cX4_image 33 = .ok (.iload_n 2, 1) := dk_28 (dk_at dksX4_image_1 9 rfl rfl)
theorem dX4_image_34 : decode cX4_image 34 = .ok (.iadd, 1) := dk_96 (dk_at dksX4_image_1 10 rfl rfl)
theorem dX4_image_35 : decode cX4_image 35 = .ok (.aload_n 0, 1) := dk_42 (dk_at dksX4_image_1 11 rfl rfl)
theorem dX4_image_36 : decode cX4_image 36 = .ok (.getfield 9, 3) := dk_180 0 9 (dk_at dksX4_image_1 12 rfl rfl)
theorem dX4_image_39 : decode cX4_image 39 = .ok (.iload_n 2, 1) := dk_28 (dk_at dksX4_image_1 15 rfl rfl)
theorem dX4_image_40 : decode cX4_image 40 = .ok (.iaload, 1) := dk_46 (dk_at dksX4_image_1 16 rfl rfl)
theorem dX4_image_41 : decode cX4_image 41 = .ok (.iastore, 1) := dk_79 (dk_at dksX4_image_1 17 rfl rfl)
theorem dX4_image_42 : decode cX4_image 42 = .ok (.iinc 2 1, 3) := dk_132 2 1 (dk_at dksX4_image_1 18 rfl rfl)
theorem dX4_image_45 : decode cX4_image 45 = .ok (.goto (-28), 3) := dk_167 255 228 (dk_at dksX4_image_1 21 rfl rfl)
theorem dX4_image_48 : decode cX4_image 48 = .ok (.aload_n 0, 1) := dk_42 (dk_at dksX4_image_2 0 rfl rfl)
theorem dX4_image_49 : decode cX4_image 49 = .ok (.getfield 16, 3) := dk_180 0 16 (dk_at dksX4_image_2 1 rfl rfl)
theorem dX4_image_52 : decode cX4_image 52 = .ok (.iload_n 1, 1) := dk_27 (dk_at dksX4_image_2 4 rfl rfl)
theorem dX4_image_53 : decode cX4_image 53 = .ok (.iconst 1, 1) := dk_4 (dk_at dksX4_image_2 5 rfl rfl)
theorem dX4_image_54 : decode cX4_image 54 = .ok (.bastore, 1) := dk_84 (dk_at dksX4_image_2 6 rfl rfl)
theorem dX4_image_55 : decode cX4_image 55 = .ok (.iconst 0, 1) := dk_3 (dk_at dksX4_image_2 7 rfl rfl)
theorem dX4_image_56 : decode cX4_image 56 = .ok (.ireturn, 1) := dk_172 (dk_at dksX4_image_2 8 rfl rfl)
abbrev cX4_in : ByteArray := prog_19_method_3_code
def yX4_in : MethodName := ⟨RX4, "in", "(JJJ)Z"⟩
def dkwX4_in_0 : List UInt8 := [30, 32, 148, 155, 0, 14, 30, 22, 4, 148, 157, 0, 7, 4, 167, 0, 4, 3, 172]
abbrev dktX4_in_0 : List UInt8 := dkwX4_in_0 ++ []
theorem dksX4_in_0 : cX4_in.data.toList.drop 0 = dktX4_in_0 := by decide +kernel
theorem dX4_in_0 : decode cX4_in 0 = .ok (.lload_n 0, 1) := dk_30 (dk_at dksX4_in_0 0 rfl rfl)
theorem dX4_in_1 : decode cX4_in 1 = .ok (.lload_n 2, 1) := dk_32 (dk_at dksX4_in_0 1 rfl rfl)
theorem dX4_in_2 : decode cX4_in 2 = .ok (.lcmp, 1) := dk_148 (dk_at dksX4_in_0 2 rfl rfl)
theorem dX4_in_3 : decode cX4_in 3 = .ok (.ifCond .lt 14, 3) := dk_155 0 14 (dk_at dksX4_in_0 3 rfl rfl)
theorem dX4_in_6 : decode cX4_in 6 = .ok (.lload_n 0, 1) := dk_30 (dk_at dksX4_in_0 6 rfl rfl)
theorem dX4_in_7 : decode cX4_in 7 = .ok (.lload 4, 2) := dk_22 4 (dk_at dksX4_in_0 7 rfl rfl)
theorem dX4_in_9 : decode cX4_in 9 = .ok (.lcmp, 1) := dk_148 (dk_at dksX4_in_0 9 rfl rfl)
theorem dX4_in_10 : decode cX4_in 10 = .ok (.ifCond .gt 7, 3) := dk_157 0 7 (dk_at dksX4_in_0 10 rfl rfl)
theorem dX4_in_13 : decode cX4_in 13 = .ok (.iconst 1, 1) := dk_4 (dk_at dksX4_in_0 13 rfl rfl)
theorem dX4_in_14 : decode cX4_in 14 = .ok (.goto 4, 3) := dk_167 0 4 (dk_at dksX4_in_0 14 rfl rfl)
theorem dX4_in_17 : decode cX4_in 17 = .ok (.iconst 0, 1) := dk_3 (dk_at dksX4_in_0 17 rfl rfl)
theorem dX4_in_18 : decode cX4_in 18 = .ok (.ireturn, 1) := dk_172 (dk_at dksX4_in_0 18 rfl rfl)
abbrev cX4_back : ByteArray := prog_19_method_5_code
def yX4_back : MethodName := ⟨RX4, "back", "(I)I"⟩
def dkwX4_back_2 : List UInt8 := [27, 104, 28, 96, 46, 79, 132, 2, 1, 167, 255, 228, 3, 172]
abbrev dktX4_back_2 : List UInt8 := dkwX4_back_2 ++ []
def dkwX4_back_1 : List UInt8 := [16, 250, 172, 3, 61, 28, 17, 1, 64, 162, 0, 27, 42, 180, 0, 9, 28, 42, 180, 0, 13, 17, 1, 64]
abbrev dktX4_back_1 : List UInt8 := dkwX4_back_1 ++ dktX4_back_2
def dkwX4_back_0 : List UInt8 := [27, 133, 9, 20, 0, 102, 184, 0, 104, 154, 0, 6, 16, 254, 172, 42, 180, 0, 16, 27, 51, 154, 0, 6]
abbrev dktX4_back_0 : List UInt8 := dkwX4_back_0 ++ dktX4_back_1
theorem dksX4_back_0 : cX4_back.data.toList.drop 0 = dktX4_back_0 := by decide +kernel
theorem dksX4_back_1 : cX4_back.data.toList.drop 24 = dktX4_back_1 := dk_seg dksX4_back_0 24 rfl rfl
theorem dksX4_back_2 : cX4_back.data.toList.drop 48 = dktX4_back_2 := dk_seg dksX4_back_1 24 rfl rfl
theorem dX4_back_0 : decode cX4_back 0 = .ok (.iload_n 1, 1) := dk_27 (dk_at dksX4_back_0 0 rfl rfl)
theorem dX4_back_1 : decode cX4_back 1 = .ok (.i2l, 1) := dk_133 (dk_at dksX4_back_0 1 rfl rfl)
theorem dX4_back_2 : decode cX4_back 2 = .ok (.lconst 0, 1) := dk_9 (dk_at dksX4_back_0 2 rfl rfl)
theorem dX4_back_3 : decode cX4_back 3 = .ok (.ldc2_w 102, 3) := dk_20 0 102 (dk_at dksX4_back_0 3 rfl rfl)
theorem dX4_back_6 : decode cX4_back 6 = .ok (.invokestatic 104, 3) := dk_184 0 104 (dk_at dksX4_back_0 6 rfl rfl)
theorem dX4_back_9 : decode cX4_back 9 = .ok (.ifCond .ne 6, 3) := dk_154 0 6 (dk_at dksX4_back_0 9 rfl rfl)
theorem dX4_back_12 : decode cX4_back 12 = .ok (.bipush (-2), 2) := dk_16 254 (dk_at dksX4_back_0 12 rfl rfl)
theorem dX4_back_14 : decode cX4_back 14 = .ok (.ireturn, 1) := dk_172 (dk_at dksX4_back_0 14 rfl rfl)
theorem dX4_back_15 : decode cX4_back 15 = .ok (.aload_n 0, 1) := dk_42 (dk_at dksX4_back_0 15 rfl rfl)
theorem dX4_back_16 : decode cX4_back 16 = .ok (.getfield 16, 3) := dk_180 0 16 (dk_at dksX4_back_0 16 rfl rfl)
theorem dX4_back_19 : decode cX4_back 19 = .ok (.iload_n 1, 1) := dk_27 (dk_at dksX4_back_0 19 rfl rfl)
theorem dX4_back_20 : decode cX4_back 20 = .ok (.baload, 1) := dk_51 (dk_at dksX4_back_0 20 rfl rfl)
theorem dX4_back_21 : decode cX4_back 21 = .ok (.ifCond .ne 6, 3) := dk_154 0 6 (dk_at dksX4_back_0 21 rfl rfl)
theorem dX4_back_24 : decode cX4_back 24 = .ok (.bipush (-6), 2) := dk_16 250 (dk_at dksX4_back_1 0 rfl rfl)
theorem dX4_back_26 : decode cX4_back 26 = .ok (.ireturn, 1) := dk_172 (dk_at dksX4_back_1 2 rfl rfl)
theorem dX4_back_27 : decode cX4_back 27 = .ok (.iconst 0, 1) := dk_3 (dk_at dksX4_back_1 3 rfl rfl)
theorem dX4_back_28 : decode cX4_back 28 = .ok (.istore_n 2, 1) := dk_61 (dk_at dksX4_back_1 4 rfl rfl)
theorem dX4_back_29 : decode cX4_back 29 = .ok (.iload_n 2, 1) := dk_28 (dk_at dksX4_back_1 5 rfl rfl)
theorem dX4_back_30 : decode cX4_back 30 = .ok (.sipush 320, 3) := dk_17 1 64 (dk_at dksX4_back_1 6 rfl rfl)
theorem dX4_back_33 : decode cX4_back 33 = .ok (.if_icmp .ge 27, 3) := dk_162 0 27 (dk_at dksX4_back_1 9 rfl rfl)
theorem dX4_back_36 : decode cX4_back 36 = .ok (.aload_n 0, 1) := dk_42 (dk_at dksX4_back_1 12 rfl rfl)
theorem dX4_back_37 : decode cX4_back 37 = .ok (.getfield 9, 3) := dk_180 0 9 (dk_at dksX4_back_1 13 rfl rfl)
theorem dX4_back_40 : decode cX4_back 40 = .ok (.iload_n 2, 1) := dk_28 (dk_at dksX4_back_1 16 rfl rfl)
theorem dX4_back_41 : decode cX4_back 41 = .ok (.aload_n 0, 1) := dk_42 (dk_at dksX4_back_1 17 rfl rfl)
theorem dX4_back_42 : decode cX4_back 42 = .ok (.getfield 13, 3) := dk_180 0 13 (dk_at dksX4_back_1 18 rfl rfl)
theorem dX4_back_45 : decode cX4_back 45 = .ok (.sipush 320, 3) := dk_17 1 64 (dk_at dksX4_back_1 21 rfl rfl)
theorem dX4_back_48 : decode cX4_back 48 = .ok (.iload_n 1, 1) := dk_27 (dk_at dksX4_back_2 0 rfl rfl)
theorem dX4_back_49 : decode cX4_back 49 = .ok (.imul, 1) := dk_104 (dk_at dksX4_back_2 1 rfl rfl)
theorem dX4_back_50 : decode cX4_back 50 = .ok (.iload_n 2, 1) := dk_28 (dk_at dksX4_back_2 2 rfl rfl)
theorem dX4_back_51 : decode cX4_back 51 = .ok (.iadd, 1) := dk_96 (dk_at dksX4_back_2 3 rfl rfl)
theorem dX4_back_52 : decode cX4_back 52 = .ok (.iaload, 1) := dk_46 (dk_at dksX4_back_2 4 rfl rfl)
theorem dX4_back_53 : decode cX4_back 53 = .ok (.iastore, 1) := dk_79 (dk_at dksX4_back_2 5 rfl rfl)
theorem dX4_back_54 : decode cX4_back 54 = .ok (.iinc 2 1, 3) := dk_132 2 1 (dk_at dksX4_back_2 6 rfl rfl)
theorem dX4_back_57 : decode cX4_back 57 = .ok (.goto (-28), 3) := dk_167 255 228 (dk_at dksX4_back_2 9 rfl rfl)
theorem dX4_back_60 : decode cX4_back 60 = .ok (.iconst 0, 1) := dk_3 (dk_at dksX4_back_2 12 rfl rfl)
theorem dX4_back_61 : decode cX4_back 61 = .ok (.ireturn, 1) := dk_172 (dk_at dksX4_back_2 13 rfl rfl)
abbrev cX4_feed : ByteArray := prog_19_method_14_code
def yX4_feed : MethodName := ⟨RX4, "feed", "(IIIII)I"⟩
def dkwX4_feed_5 : List UInt8 := [180, 0, 114, 172]
abbrev dktX4_feed_5 : List UInt8 := dkwX4_feed_5 ++ []
def dkwX4_feed_4 : List UInt8 := [100, 122, 145, 84, 132, 6, 1, 167, 255, 213, 42, 89, 180, 0, 114, 16, 20, 96, 181, 0, 114, 42]
abbrev dktX4_feed_4 : List UInt8 := dkwX4_feed_4 ++ dktX4_feed_5
def dkwX4_feed_3 : List UInt8 := [180, 0, 114, 21, 6, 96, 42, 180, 0, 24, 21, 6, 7, 108, 46, 16, 24, 16, 8, 21, 6, 7, 112, 104]
abbrev dktX4_feed_3 : List UInt8 := dkwX4_feed_3 ++ dktX4_feed_4
def dkwX4_feed_2 : List UInt8 := [180, 0, 24, 7, 21, 5, 79, 3, 54, 6, 21, 6, 16, 20, 162, 0, 42, 42, 180, 0, 20, 42]
abbrev dktX4_feed_2 : List UInt8 := dkwX4_feed_2 ++ dktX4_feed_3
def dkwX4_feed_1 : List UInt8 := [180, 0, 24, 4, 28, 79, 42, 180, 0, 24, 5, 29, 79, 42, 180, 0, 24, 6, 21, 4, 79, 42]
abbrev dktX4_feed_1 : List UInt8 := dkwX4_feed_1 ++ dktX4_feed_2
def dkwX4_feed_0 : List UInt8 := [42, 180, 0, 114, 16, 20, 96, 17, 9, 96, 164, 0, 5, 2, 172, 42, 180, 0, 24, 3, 27, 79, 42]
abbrev dktX4_feed_0 : List UInt8 := dkwX4_feed_0 ++ dktX4_feed_1
theorem dksX4_feed_0 : cX4_feed.data.toList.drop 0 = dktX4_feed_0 := by decide +kernel
theorem dksX4_feed_1 : cX4_feed.data.toList.drop 23 = dktX4_feed_1 := dk_seg dksX4_feed_0 23 rfl rfl
theorem dksX4_feed_2 : cX4_feed.data.toList.drop 45 = dktX4_feed_2 := dk_seg dksX4_feed_1 22 rfl rfl
theorem dksX4_feed_3 : cX4_feed.data.toList.drop 67 = dktX4_feed_3 := dk_seg dksX4_feed_2 22 rfl rfl
theorem dksX4_feed_4 : cX4_feed.data.toList.drop 91 = dktX4_feed_4 := dk_seg dksX4_feed_3 24 rfl rfl
theorem dksX4_feed_5 : cX4_feed.data.toList.drop 113 = dktX4_feed_5 := dk_seg dksX4_feed_4 22 rfl rfl
theorem dX4_feed_0 : decode cX4_feed 0 = .ok (.aload_n 0, 1) := dk_42 (dk_at dksX4_feed_0 0 rfl rfl)
theorem dX4_feed_1 : decode cX4_feed 1 = .ok (.getfield 114, 3) := dk_180 0 114 (dk_at dksX4_feed_0 1 rfl rfl)
theorem dX4_feed_4 : decode cX4_feed 4 = .ok (.bipush 20, 2) := dk_16 20 (dk_at dksX4_feed_0 4 rfl rfl)
theorem dX4_feed_6 : decode cX4_feed 6 = .ok (.iadd, 1) := dk_96 (dk_at dksX4_feed_0 6 rfl rfl)
theorem dX4_feed_7 : decode cX4_feed 7 = .ok (.sipush 2400, 3) := dk_17 9 96 (dk_at dksX4_feed_0 7 rfl rfl)
theorem dX4_feed_10 : decode cX4_feed 10 = .ok (.if_icmp .le 5, 3) := dk_164 0 5 (dk_at dksX4_feed_0 10 rfl rfl)
theorem dX4_feed_13 : decode cX4_feed 13 = .ok (.iconst (-1), 1) := dk_2 (dk_at dksX4_feed_0 13 rfl rfl)
theorem dX4_feed_14 : decode cX4_feed 14 = .ok (.ireturn, 1) := dk_172 (dk_at dksX4_feed_0 14 rfl rfl)
theorem dX4_feed_15 : decode cX4_feed 15 = .ok (.aload_n 0, 1) := dk_42 (dk_at dksX4_feed_0 15 rfl rfl)
theorem dX4_feed_16 : decode cX4_feed 16 = .ok (.getfield 24, 3) := dk_180 0 24 (dk_at dksX4_feed_0 16 rfl rfl)
theorem dX4_feed_19 : decode cX4_feed 19 = .ok (.iconst 0, 1) := dk_3 (dk_at dksX4_feed_0 19 rfl rfl)
theorem dX4_feed_20 : decode cX4_feed 20 = .ok (.iload_n 1, 1) := dk_27 (dk_at dksX4_feed_0 20 rfl rfl)
theorem dX4_feed_21 : decode cX4_feed 21 = .ok (.iastore, 1) := dk_79 (dk_at dksX4_feed_0 21 rfl rfl)
theorem dX4_feed_22 : decode cX4_feed 22 = .ok (.aload_n 0, 1) := dk_42 (dk_at dksX4_feed_0 22 rfl rfl)
theorem dX4_feed_23 : decode cX4_feed 23 = .ok (.getfield 24, 3) := dk_180 0 24 (dk_at dksX4_feed_1 0 rfl rfl)
theorem dX4_feed_26 : decode cX4_feed 26 = .ok (.iconst 1, 1) := dk_4 (dk_at dksX4_feed_1 3 rfl rfl)
theorem dX4_feed_27 : decode cX4_feed 27 = .ok (.iload_n 2, 1) := dk_28 (dk_at dksX4_feed_1 4 rfl rfl)
theorem dX4_feed_28 : decode cX4_feed 28 = .ok (.iastore, 1) := dk_79 (dk_at dksX4_feed_1 5 rfl rfl)
theorem dX4_feed_29 : decode cX4_feed 29 = .ok (.aload_n 0, 1) := dk_42 (dk_at dksX4_feed_1 6 rfl rfl)
theorem dX4_feed_30 : decode cX4_feed 30 = .ok (.getfield 24, 3) := dk_180 0 24 (dk_at dksX4_feed_1 7 rfl rfl)
theorem dX4_feed_33 : decode cX4_feed 33 = .ok (.iconst 2, 1) := dk_5 (dk_at dksX4_feed_1 10 rfl rfl)
theorem dX4_feed_34 : decode cX4_feed 34 = .ok (.iload_n 3, 1) := dk_29 (dk_at dksX4_feed_1 11 rfl rfl)
theorem dX4_feed_35 : decode cX4_feed 35 = .ok (.iastore, 1) := dk_79 (dk_at dksX4_feed_1 12 rfl rfl)
theorem dX4_feed_36 : decode cX4_feed 36 = .ok (.aload_n 0, 1) := dk_42 (dk_at dksX4_feed_1 13 rfl rfl)
theorem dX4_feed_37 : decode cX4_feed 37 = .ok (.getfield 24, 3) := dk_180 0 24 (dk_at dksX4_feed_1 14 rfl rfl)
theorem dX4_feed_40 : decode cX4_feed 40 = .ok (.iconst 3, 1) := dk_6 (dk_at dksX4_feed_1 17 rfl rfl)
theorem dX4_feed_41 : decode cX4_feed 41 = .ok (.iload 4, 2) := dk_21 4 (dk_at dksX4_feed_1 18 rfl rfl)
theorem dX4_feed_43 : decode cX4_feed 43 = .ok (.iastore, 1) := dk_79 (dk_at dksX4_feed_1 20 rfl rfl)
theorem dX4_feed_44 : decode cX4_feed 44 = .ok (.aload_n 0, 1) := dk_42 (dk_at dksX4_feed_1 21 rfl rfl)
theorem dX4_feed_45 : decode cX4_feed 45 = .ok (.getfield 24, 3) := dk_180 0 24 (dk_at dksX4_feed_2 0 rfl rfl)
theorem dX4_feed_48 : decode cX4_feed 48 = .ok (.iconst 4, 1) := dk_7 (dk_at dksX4_feed_2 3 rfl rfl)
theorem dX4_feed_49 : decode cX4_feed 49 = .ok (.iload 5, 2) := dk_21 5 (dk_at dksX4_feed_2 4 rfl rfl)
theorem dX4_feed_51 : decode cX4_feed 51 = .ok (.iastore, 1) := dk_79 (dk_at dksX4_feed_2 6 rfl rfl)
theorem dX4_feed_52 : decode cX4_feed 52 = .ok (.iconst 0, 1) := dk_3 (dk_at dksX4_feed_2 7 rfl rfl)
theorem dX4_feed_53 : decode cX4_feed 53 = .ok (.istore 6, 2) := dk_54 6 (dk_at dksX4_feed_2 8 rfl rfl)
theorem dX4_feed_55 : decode cX4_feed 55 = .ok (.iload 6, 2) := dk_21 6 (dk_at dksX4_feed_2 10 rfl rfl)
theorem dX4_feed_57 : decode cX4_feed 57 = .ok (.bipush 20, 2) := dk_16 20 (dk_at dksX4_feed_2 12 rfl rfl)
theorem dX4_feed_59 : decode cX4_feed 59 = .ok (.if_icmp .ge 42, 3) := dk_162 0 42 (dk_at dksX4_feed_2 14 rfl rfl)
theorem dX4_feed_62 : decode cX4_feed 62 = .ok (.aload_n 0, 1) := dk_42 (dk_at dksX4_feed_2 17 rfl rfl)
theorem dX4_feed_63 : decode cX4_feed 63 = .ok (.getfield 20, 3) := dk_180 0 20 (dk_at dksX4_feed_2 18 rfl rfl)
theorem dX4_feed_66 : decode cX4_feed 66 = .ok (.aload_n 0, 1) := dk_42 (dk_at dksX4_feed_2 21 rfl rfl)
theorem dX4_feed_67 : decode cX4_feed 67 = .ok (.getfield 114, 3) := dk_180 0 114 (dk_at dksX4_feed_3 0 rfl rfl)
theorem dX4_feed_70 : decode cX4_feed 70 = .ok (.iload 6, 2) := dk_21 6 (dk_at dksX4_feed_3 3 rfl rfl)
theorem dX4_feed_72 : decode cX4_feed 72 = .ok (.iadd, 1) := dk_96 (dk_at dksX4_feed_3 5 rfl rfl)
theorem dX4_feed_73 : decode cX4_feed 73 = .ok (.aload_n 0, 1) := dk_42 (dk_at dksX4_feed_3 6 rfl rfl)
theorem dX4_feed_74 : decode cX4_feed 74 = .ok (.getfield 24, 3) := dk_180 0 24 (dk_at dksX4_feed_3 7 rfl rfl)
theorem dX4_feed_77 : decode cX4_feed 77 = .ok (.iload 6, 2) := dk_21 6 (dk_at dksX4_feed_3 10 rfl rfl)
theorem dX4_feed_79 : decode cX4_feed 79 = .ok (.iconst 4, 1) := dk_7 (dk_at dksX4_feed_3 12 rfl rfl)
theorem dX4_feed_80 : decode cX4_feed 80 = .ok (.idiv, 1) := dk_108 (dk_at dksX4_feed_3 13 rfl rfl)
theorem dX4_feed_81 : decode cX4_feed 81 = .ok (.iaload, 1) := dk_46 (dk_at dksX4_feed_3 14 rfl rfl)
theorem dX4_feed_82 : decode cX4_feed 82 = .ok (.bipush 24, 2) := dk_16 24 (dk_at dksX4_feed_3 15 rfl rfl)
theorem dX4_feed_84 : decode cX4_feed 84 = .ok (.bipush 8, 2) := dk_16 8 (dk_at dksX4_feed_3 17 rfl rfl)
theorem dX4_feed_86 : decode cX4_feed 86 = .ok (.iload 6, 2) := dk_21 6 (dk_at dksX4_feed_3 19 rfl rfl)
theorem dX4_feed_88 : decode cX4_feed 88 = .ok (.iconst 4, 1) := dk_7 (dk_at dksX4_feed_3 21 rfl rfl)
theorem dX4_feed_89 : decode cX4_feed 89 = .ok (.irem, 1) := dk_112 (dk_at dksX4_feed_3 22 rfl rfl)
theorem dX4_feed_90 : decode cX4_feed 90 = .ok (.imul, 1) := dk_104 (dk_at dksX4_feed_3 23 rfl rfl)
theorem dX4_feed_91 : decode cX4_feed 91 = .ok (.isub, 1) := dk_100 (dk_at dksX4_feed_4 0 rfl rfl)
theorem dX4_feed_92 : decode cX4_feed 92 = .ok (.ishr, 1) := dk_122 (dk_at dksX4_feed_4 1 rfl rfl)
theorem dX4_feed_93 : decode cX4_feed 93 = .ok (.i2b, 1) := dk_145 (dk_at dksX4_feed_4 2 rfl rfl)
theorem dX4_feed_94 : decode cX4_feed 94 = .ok (.bastore, 1) := dk_84 (dk_at dksX4_feed_4 3 rfl rfl)
theorem dX4_feed_95 : decode cX4_feed 95 = .ok (.iinc 6 1, 3) := dk_132 6 1 (dk_at dksX4_feed_4 4 rfl rfl)
theorem dX4_feed_98 : decode cX4_feed 98 = .ok (.goto (-43), 3) := dk_167 255 213 (dk_at dksX4_feed_4 7 rfl rfl)
theorem dX4_feed_101 : decode cX4_feed 101 = .ok (.aload_n 0, 1) := dk_42 (dk_at dksX4_feed_4 10 rfl rfl)
theorem dX4_feed_102 : decode cX4_feed 102 = .ok (.dup, 1) := dk_89 (dk_at dksX4_feed_4 11 rfl rfl)
theorem dX4_feed_103 : decode cX4_feed 103 = .ok (.getfield 114, 3) := dk_180 0 114 (dk_at dksX4_feed_4 12 rfl rfl)
theorem dX4_feed_106 : decode cX4_feed 106 = .ok (.bipush 20, 2) := dk_16 20 (dk_at dksX4_feed_4 15 rfl rfl)
theorem dX4_feed_108 : decode cX4_feed 108 = .ok (.iadd, 1) := dk_96 (dk_at dksX4_feed_4 17 rfl rfl)
theorem dX4_feed_109 : decode cX4_feed 109 = .ok (.putfield 114, 3) := dk_181 0 114 (dk_at dksX4_feed_4 18 rfl rfl)
theorem dX4_feed_112 : decode cX4_feed 112 = .ok (.aload_n 0, 1) := dk_42 (dk_at dksX4_feed_4 21 rfl rfl)
theorem dX4_feed_113 : decode cX4_feed 113 = .ok (.getfield 114, 3) := dk_180 0 114 (dk_at dksX4_feed_5 0 rfl rfl)
theorem dX4_feed_116 : decode cX4_feed 116 = .ok (.ireturn, 1) := dk_172 (dk_at dksX4_feed_5 3 rfl rfl)
abbrev cX4_end : ByteArray := prog_19_method_15_code
def yX4_end : MethodName := ⟨RX4, "end", "(I)I"⟩
def dkwX4_end_0 : List UInt8 := [27, 133, 9, 42, 180, 0, 114, 133, 184, 0, 104, 154, 0, 5, 2, 172, 42, 27, 181, 0, 114, 27, 172]
abbrev dktX4_end_0 : List UInt8 := dkwX4_end_0 ++ []
theorem dksX4_end_0 : cX4_end.data.toList.drop 0 = dktX4_end_0 := by decide +kernel
theorem dX4_end_0 : decode cX4_end 0 = .ok (.iload_n 1, 1) := dk_27 (dk_at dksX4_end_0 0 rfl rfl)
theorem dX4_end_1 : decode cX4_end 1 = .ok (.i2l, 1) := dk_133 (dk_at dksX4_end_0 1 rfl rfl)
theorem dX4_end_2 : decode cX4_end 2 = .ok (.lconst 0, 1) := dk_9 (dk_at dksX4_end_0 2 rfl rfl)
theorem dX4_end_3 : decode cX4_end 3 = .ok (.aload_n 0, 1) := dk_42 (dk_at dksX4_end_0 3 rfl rfl)
theorem dX4_end_4 : decode cX4_end 4 = .ok (.getfield 114, 3) := dk_180 0 114 (dk_at dksX4_end_0 4 rfl rfl)
theorem dX4_end_7 : decode cX4_end 7 = .ok (.i2l, 1) := dk_133 (dk_at dksX4_end_0 7 rfl rfl)
theorem dX4_end_8 : decode cX4_end 8 = .ok (.invokestatic 104, 3) := dk_184 0 104 (dk_at dksX4_end_0 8 rfl rfl)
theorem dX4_end_11 : decode cX4_end 11 = .ok (.ifCond .ne 5, 3) := dk_154 0 5 (dk_at dksX4_end_0 11 rfl rfl)
theorem dX4_end_14 : decode cX4_end 14 = .ok (.iconst (-1), 1) := dk_2 (dk_at dksX4_end_0 14 rfl rfl)
theorem dX4_end_15 : decode cX4_end 15 = .ok (.ireturn, 1) := dk_172 (dk_at dksX4_end_0 15 rfl rfl)
theorem dX4_end_16 : decode cX4_end 16 = .ok (.aload_n 0, 1) := dk_42 (dk_at dksX4_end_0 16 rfl rfl)
theorem dX4_end_17 : decode cX4_end 17 = .ok (.iload_n 1, 1) := dk_27 (dk_at dksX4_end_0 17 rfl rfl)
theorem dX4_end_18 : decode cX4_end 18 = .ok (.putfield 114, 3) := dk_181 0 114 (dk_at dksX4_end_0 18 rfl rfl)
theorem dX4_end_21 : decode cX4_end 21 = .ok (.iload_n 1, 1) := dk_27 (dk_at dksX4_end_0 21 rfl rfl)
theorem dX4_end_22 : decode cX4_end 22 = .ok (.ireturn, 1) := dk_172 (dk_at dksX4_end_0 22 rfl rfl)
abbrev cX4_fault : ByteArray := prog_19_method_25_code
def yX4_fault : MethodName := ⟨RX4, "fault", "(I)I"⟩
def dkwX4_fault_1 : List UInt8 := [172]
abbrev dktX4_fault_1 : List UInt8 := dkwX4_fault_1 ++ []
def dkwX4_fault_0 : List UInt8 := [27, 154, 0, 10, 42, 180, 0, 151, 167, 0, 16, 27, 4, 160, 0, 10, 42, 180, 0, 27, 167, 0, 4, 2]
abbrev dktX4_fault_0 : List UInt8 := dkwX4_fault_0 ++ dktX4_fault_1
theorem dksX4_fault_0 : cX4_fault.data.toList.drop 0 = dktX4_fault_0 := by decide +kernel
theorem dksX4_fault_1 : cX4_fault.data.toList.drop 24 = dktX4_fault_1 := dk_seg dksX4_fault_0 24 rfl rfl
theorem dX4_fault_0 : decode cX4_fault 0 = .ok (.iload_n 1, 1) := dk_27 (dk_at dksX4_fault_0 0 rfl rfl)
theorem dX4_fault_1 : decode cX4_fault 1 = .ok (.ifCond .ne 10, 3) := dk_154 0 10 (dk_at dksX4_fault_0 1 rfl rfl)
theorem dX4_fault_4 : decode cX4_fault 4 = .ok (.aload_n 0, 1) := dk_42 (dk_at dksX4_fault_0 4 rfl rfl)
theorem dX4_fault_5 : decode cX4_fault 5 = .ok (.getfield 151, 3) := dk_180 0 151 (dk_at dksX4_fault_0 5 rfl rfl)
theorem dX4_fault_8 : decode cX4_fault 8 = .ok (.goto 16, 3) := dk_167 0 16 (dk_at dksX4_fault_0 8 rfl rfl)
theorem dX4_fault_11 : decode cX4_fault 11 = .ok (.iload_n 1, 1) := dk_27 (dk_at dksX4_fault_0 11 rfl rfl)
theorem dX4_fault_12 : decode cX4_fault 12 = .ok (.iconst 1, 1) := dk_4 (dk_at dksX4_fault_0 12 rfl rfl)
theorem dX4_fault_13 : decode cX4_fault 13 = .ok (.if_icmp .ne 10, 3) := dk_160 0 10 (dk_at dksX4_fault_0 13 rfl rfl)
theorem dX4_fault_16 : decode cX4_fault 16 = .ok (.aload_n 0, 1) := dk_42 (dk_at dksX4_fault_0 16 rfl rfl)
theorem dX4_fault_17 : decode cX4_fault 17 = .ok (.getfield 27, 3) := dk_180 0 27 (dk_at dksX4_fault_0 17 rfl rfl)
theorem dX4_fault_20 : decode cX4_fault 20 = .ok (.goto 4, 3) := dk_167 0 4 (dk_at dksX4_fault_0 20 rfl rfl)
theorem dX4_fault_23 : decode cX4_fault 23 = .ok (.iconst (-1), 1) := dk_2 (dk_at dksX4_fault_0 23 rfl rfl)
theorem dX4_fault_24 : decode cX4_fault 24 = .ok (.ireturn, 1) := dk_172 (dk_at dksX4_fault_1 0 rfl rfl)
abbrev cX4_square : ByteArray := prog_19_method_36_code
def yX4_square : MethodName := ⟨RX4, "square", "()I"⟩
def dkwX4_square_5 : List UInt8 := [180, 0, 9, 6, 46, 172]
abbrev dktX4_square_5 : List UInt8 := dkwX4_square_5 ++ []
def dkwX4_square_4 : List UInt8 := [162, 0, 21, 42, 180, 0, 9, 27, 42, 180, 0, 31, 27, 46, 79, 132, 1, 1, 167, 255, 234, 42]
abbrev dktX4_square_4 : List UInt8 := dkwX4_square_4 ++ dktX4_square_5
def dkwX4_square_3 : List UInt8 := [182, 1, 15, 167, 255, 238, 42, 182, 0, 154, 154, 0, 6, 16, 252, 172, 3, 60, 27, 17, 1, 64]
abbrev dktX4_square_3 : List UInt8 := dkwX4_square_3 ++ dktX4_square_4
def dkwX4_square_2 : List UInt8 := [167, 255, 239, 42, 182, 0, 171, 42, 182, 0, 154, 153, 0, 17, 42, 180, 0, 130, 153, 0, 10, 42]
abbrev dktX4_square_2 : List UInt8 := dkwX4_square_2 ++ dktX4_square_3
def dkwX4_square_1 : List UInt8 := [2, 181, 0, 27, 3, 60, 27, 17, 1, 64, 162, 0, 16, 42, 180, 0, 31, 27, 3, 79, 132, 1, 1]
abbrev dktX4_square_1 : List UInt8 := dkwX4_square_1 ++ dktX4_square_2
def dkwX4_square_0 : List UInt8 := [42, 42, 180, 0, 114, 181, 0, 117, 42, 3, 181, 0, 114, 42, 3, 181, 0, 120, 42, 3, 181, 0, 151, 42]
abbrev dktX4_square_0 : List UInt8 := dkwX4_square_0 ++ dktX4_square_1
theorem dksX4_square_0 : cX4_square.data.toList.drop 0 = dktX4_square_0 := by decide +kernel
theorem dksX4_square_1 : cX4_square.data.toList.drop 24 = dktX4_square_1 := dk_seg dksX4_square_0 24 rfl rfl
theorem dksX4_square_2 : cX4_square.data.toList.drop 47 = dktX4_square_2 := dk_seg dksX4_square_1 23 rfl rfl
theorem dksX4_square_3 : cX4_square.data.toList.drop 69 = dktX4_square_3 := dk_seg dksX4_square_2 22 rfl rfl
theorem dksX4_square_4 : cX4_square.data.toList.drop 91 = dktX4_square_4 := dk_seg dksX4_square_3 22 rfl rfl
theorem dksX4_square_5 : cX4_square.data.toList.drop 113 = dktX4_square_5 := dk_seg dksX4_square_4 22 rfl rfl
theorem dX4_square_0 : decode cX4_square 0 = .ok (.aload_n 0, 1) := dk_42 (dk_at dksX4_square_0 0 rfl rfl)
theorem dX4_square_1 : decode cX4_square 1 = .ok (.aload_n 0, 1) := dk_42 (dk_at dksX4_square_0 1 rfl rfl)
theorem dX4_square_2 : decode cX4_square 2 = .ok (.getfield 114, 3) := dk_180 0 114 (dk_at dksX4_square_0 2 rfl rfl)
theorem dX4_square_5 : decode cX4_square 5 = .ok (.putfield 117, 3) := dk_181 0 117 (dk_at dksX4_square_0 5 rfl rfl)
theorem dX4_square_8 : decode cX4_square 8 = .ok (.aload_n 0, 1) := dk_42 (dk_at dksX4_square_0 8 rfl rfl)
theorem dX4_square_9 : decode cX4_square 9 = .ok (.iconst 0, 1) := dk_3 (dk_at dksX4_square_0 9 rfl rfl)
theorem dX4_square_10 : decode cX4_square 10 = .ok (.putfield 114, 3) := dk_181 0 114 (dk_at dksX4_square_0 10 rfl rfl)
theorem dX4_square_13 : decode cX4_square 13 = .ok (.aload_n 0, 1) := dk_42 (dk_at dksX4_square_0 13 rfl rfl)
theorem dX4_square_14 : decode cX4_square 14 = .ok (.iconst 0, 1) := dk_3 (dk_at dksX4_square_0 14 rfl rfl)
theorem dX4_square_15 : decode cX4_square 15 = .ok (.putfield 120, 3) := dk_181 0 120 (dk_at dksX4_square_0 15 rfl rfl)
theorem dX4_square_18 : decode cX4_square 18 = .ok (.aload_n 0, 1) := dk_42 (dk_at dksX4_square_0 18 rfl rfl)
theorem dX4_square_19 : decode cX4_square 19 = .ok (.iconst 0, 1) := dk_3 (dk_at dksX4_square_0 19 rfl rfl)
theorem dX4_square_20 : decode cX4_square 20 = .ok (.putfield 151, 3) := dk_181 0 151 (dk_at dksX4_square_0 20 rfl rfl)
theorem dX4_square_23 : decode cX4_square 23 = .ok (.aload_n 0, 1) := dk_42 (dk_at dksX4_square_0 23 rfl rfl)
theorem dX4_square_24 : decode cX4_square 24 = .ok (.iconst (-1), 1) := dk_2 (dk_at dksX4_square_1 0 rfl rfl)
theorem dX4_square_25 : decode cX4_square 25 = .ok (.putfield 27, 3) := dk_181 0 27 (dk_at dksX4_square_1 1 rfl rfl)
theorem dX4_square_28 : decode cX4_square 28 = .ok (.iconst 0, 1) := dk_3 (dk_at dksX4_square_1 4 rfl rfl)
theorem dX4_square_29 : decode cX4_square 29 = .ok (.istore_n 1, 1) := dk_60 (dk_at dksX4_square_1 5 rfl rfl)
theorem dX4_square_30 : decode cX4_square 30 = .ok (.iload_n 1, 1) := dk_27 (dk_at dksX4_square_1 6 rfl rfl)
theorem dX4_square_31 : decode cX4_square 31 = .ok (.sipush 320, 3) := dk_17 1 64 (dk_at dksX4_square_1 7 rfl rfl)
theorem dX4_square_34 : decode cX4_square 34 = .ok (.if_icmp .ge 16, 3) := dk_162 0 16 (dk_at dksX4_square_1 10 rfl rfl)
theorem dX4_square_37 : decode cX4_square 37 = .ok (.aload_n 0, 1) := dk_42 (dk_at dksX4_square_1 13 rfl rfl)
theorem dX4_square_38 : decode cX4_square 38 = .ok (.getfield 31, 3) := dk_180 0 31 (dk_at dksX4_square_1 14 rfl rfl)
theorem dX4_square_41 : decode cX4_square 41 = .ok (.iload_n 1, 1) := dk_27 (dk_at dksX4_square_1 17 rfl rfl)
theorem dX4_square_42 : decode cX4_square 42 = .ok (.iconst 0, 1) := dk_3 (dk_at dksX4_square_1 18 rfl rfl)
theorem dX4_square_43 : decode cX4_square 43 = .ok (.iastore, 1) := dk_79 (dk_at dksX4_square_1 19 rfl rfl)
theorem dX4_square_44 : decode cX4_square 44 = .ok (.iinc 1 1, 3) := dk_132 1 1 (dk_at dksX4_square_1 20 rfl rfl)
theorem dX4_square_47 : decode cX4_square 47 = .ok (.goto (-17), 3) := dk_167 255 239 (dk_at dksX4_square_2 0 rfl rfl)
theorem dX4_square_50 : decode cX4_square 50 = .ok (.aload_n 0, 1) := dk_42 (dk_at dksX4_square_2 3 rfl rfl)
theorem dX4_square_51 : decode cX4_square 51 = .ok (.invokevirtual 171, 3) := dk_182 0 171 (dk_at dksX4_square_2 4 rfl rfl)
theorem dX4_square_54 : decode cX4_square 54 = .ok (.aload_n 0, 1) := dk_42 (dk_at dksX4_square_2 7 rfl rfl)
theorem dX4_square_55 : decode cX4_square 55 = .ok (.invokevirtual 154, 3) := dk_182 0 154 (dk_at dksX4_square_2 8 rfl rfl)
theorem dX4_square_58 : decode cX4_square 58 = .ok (.ifCond .eq 17, 3) := dk_153 0 17 (dk_at dksX4_square_2 11 rfl rfl)
theorem dX4_square_61 : decode cX4_square 61 = .ok (.aload_n 0, 1) := dk_42 (dk_at dksX4_square_2 14 rfl rfl)
theorem dX4_square_62 : decode cX4_square 62 = .ok (.getfield 130, 3) := dk_180 0 130 (dk_at dksX4_square_2 15 rfl rfl)
theorem dX4_square_65 : decode cX4_square 65 = .ok (.ifCond .eq 10, 3) := dk_153 0 10 (dk_at dksX4_square_2 18 rfl rfl)
theorem dX4_square_68 : decode cX4_square 68 = .ok (.aload_n 0, 1) := dk_42 (dk_at dksX4_square_2 21 rfl rfl)
theorem dX4_square_69 : decode cX4_square 69 = .ok (.invokevirtual 271, 3) := dk_182 1 15 (dk_at dksX4_square_3 0 rfl rfl)
theorem dX4_square_72 : decode cX4_square 72 = .ok (.goto (-18), 3) := dk_167 255 238 (dk_at dksX4_square_3 3 rfl rfl)
theorem dX4_square_75 : decode cX4_square 75 = .ok (.aload_n 0, 1) := dk_42 (dk_at dksX4_square_3 6 rfl rfl)
theorem dX4_square_76 : decode cX4_square 76 = .ok (.invokevirtual 154, 3) := dk_182 0 154 (dk_at dksX4_square_3 7 rfl rfl)
theorem dX4_square_79 : decode cX4_square 79 = .ok (.ifCond .ne 6, 3) := dk_154 0 6 (dk_at dksX4_square_3 10 rfl rfl)
theorem dX4_square_82 : decode cX4_square 82 = .ok (.bipush (-4), 2) := dk_16 252 (dk_at dksX4_square_3 13 rfl rfl)
theorem dX4_square_84 : decode cX4_square 84 = .ok (.ireturn, 1) := dk_172 (dk_at dksX4_square_3 15 rfl rfl)
theorem dX4_square_85 : decode cX4_square 85 = .ok (.iconst 0, 1) := dk_3 (dk_at dksX4_square_3 16 rfl rfl)
theorem dX4_square_86 : decode cX4_square 86 = .ok (.istore_n 1, 1) := dk_60 (dk_at dksX4_square_3 17 rfl rfl)
theorem dX4_square_87 : decode cX4_square 87 = .ok (.iload_n 1, 1) := dk_27 (dk_at dksX4_square_3 18 rfl rfl)
theorem dX4_square_88 : decode cX4_square 88 = .ok (.sipush 320, 3) := dk_17 1 64 (dk_at dksX4_square_3 19 rfl rfl)
theorem dX4_square_91 : decode cX4_square 91 = .ok (.if_icmp .ge 21, 3) := dk_162 0 21 (dk_at dksX4_square_4 0 rfl rfl)
theorem dX4_square_94 : decode cX4_square 94 = .ok (.aload_n 0, 1) := dk_42 (dk_at dksX4_square_4 3 rfl rfl)
theorem dX4_square_95 : decode cX4_square 95 = .ok (.getfield 9, 3) := dk_180 0 9 (dk_at dksX4_square_4 4 rfl rfl)
theorem dX4_square_98 : decode cX4_square 98 = .ok (.iload_n 1, 1) := dk_27 (dk_at dksX4_square_4 7 rfl rfl)
theorem dX4_square_99 : decode cX4_square 99 = .ok (.aload_n 0, 1) := dk_42 (dk_at dksX4_square_4 8 rfl rfl)
theorem dX4_square_100 : decode cX4_square 100 = .ok (.getfield 31, 3) := dk_180 0 31 (dk_at dksX4_square_4 9 rfl rfl)
theorem dX4_square_103 : decode cX4_square 103 = .ok (.iload_n 1, 1) := dk_27 (dk_at dksX4_square_4 12 rfl rfl)
theorem dX4_square_104 : decode cX4_square 104 = .ok (.iaload, 1) := dk_46 (dk_at dksX4_square_4 13 rfl rfl)
theorem dX4_square_105 : decode cX4_square 105 = .ok (.iastore, 1) := dk_79 (dk_at dksX4_square_4 14 rfl rfl)
theorem dX4_square_106 : decode cX4_square 106 = .ok (.iinc 1 1, 3) := dk_132 1 1 (dk_at dksX4_square_4 15 rfl rfl)
theorem dX4_square_109 : decode cX4_square 109 = .ok (.goto (-22), 3) := dk_167 255 234 (dk_at dksX4_square_4 18 rfl rfl)
theorem dX4_square_112 : decode cX4_square 112 = .ok (.aload_n 0, 1) := dk_42 (dk_at dksX4_square_4 21 rfl rfl)
theorem dX4_square_113 : decode cX4_square 113 = .ok (.getfield 9, 3) := dk_180 0 9 (dk_at dksX4_square_5 0 rfl rfl)
theorem dX4_square_116 : decode cX4_square 116 = .ok (.iconst 3, 1) := dk_6 (dk_at dksX4_square_5 3 rfl rfl)
theorem dX4_square_117 : decode cX4_square 117 = .ok (.iaload, 1) := dk_46 (dk_at dksX4_square_5 4 rfl rfl)
theorem dX4_square_118 : decode cX4_square 118 = .ok (.ireturn, 1) := dk_172 (dk_at dksX4_square_5 5 rfl rfl)
abbrev cX4_advance : ByteArray := prog_19_method_17_code
def yX4_advance : MethodName := ⟨RX4, "advance", "()V"⟩
def dkwX4_advance_10 : List UInt8 := [96, 181, 0, 120, 177]
abbrev dktX4_advance_10 : List UInt8 := dkwX4_advance_10 ++ []
def dkwX4_advance_9 : List UInt8 := [167, 0, 28, 42, 27, 16, 59, 160, 0, 7, 6, 167, 0, 4, 7, 181, 0, 130, 42, 89, 180, 0, 120, 4]
abbrev dktX4_advance_9 : List UInt8 := dkwX4_advance_9 ++ dktX4_advance_10
def dkwX4_advance_8 : List UInt8 := [184, 0, 145, 181, 0, 141, 42, 89, 180, 0, 120, 4, 96, 181, 0, 120, 167, 255, 197, 42, 5, 181, 0, 130]
abbrev dktX4_advance_8 : List UInt8 := dkwX4_advance_8 ++ dktX4_advance_9
def dkwX4_advance_7 : List UInt8 := [42, 18, 144, 16, 10, 42, 180, 0, 141, 104, 42, 42, 180, 0, 120, 182, 0, 123, 96, 16, 48, 100]
abbrev dktX4_advance_7 : List UInt8 := dkwX4_advance_7 ++ dktX4_advance_8
def dkwX4_advance_6 : List UInt8 := [181, 0, 141, 42, 42, 180, 0, 120, 182, 0, 123, 133, 20, 0, 137, 20, 0, 139, 184, 0, 104, 153, 0, 44]
abbrev dktX4_advance_6 : List UInt8 := dkwX4_advance_6 ++ dktX4_advance_7
def dkwX4_advance_5 : List UInt8 := [181, 0, 130, 167, 0, 117, 27, 133, 20, 0, 137, 20, 0, 139, 184, 0, 104, 153, 0, 78, 42, 3]
abbrev dktX4_advance_5 : List UInt8 := dkwX4_advance_5 ++ dktX4_advance_6
def dkwX4_advance_4 : List UInt8 := [20, 0, 135, 184, 0, 104, 153, 0, 16, 42, 89, 180, 0, 120, 4, 96, 181, 0, 120, 167, 255, 225, 42, 4]
abbrev dktX4_advance_4 : List UInt8 := dkwX4_advance_4 ++ dktX4_advance_5
def dkwX4_advance_3 : List UInt8 := [20, 0, 133, 20, 0, 135, 184, 0, 104, 153, 0, 45, 42, 42, 180, 0, 120, 182, 0, 123, 133, 20, 0, 133]
abbrev dktX4_advance_3 : List UInt8 := dkwX4_advance_3 ++ dktX4_advance_4
def dkwX4_advance_2 : List UInt8 := [42, 42, 180, 0, 120, 182, 0, 123, 60, 27, 2, 160, 0, 11, 42, 3, 181, 0, 130, 167, 0, 173, 27, 133]
abbrev dktX4_advance_2 : List UInt8 := dkwX4_advance_2 ++ dktX4_advance_3
def dkwX4_advance_1 : List UInt8 := [160, 0, 16, 42, 89, 180, 0, 120, 4, 96, 181, 0, 120, 167, 255, 220, 42, 42, 180, 0, 120, 181, 0, 127]
abbrev dktX4_advance_1 : List UInt8 := dkwX4_advance_1 ++ dktX4_advance_2
def dkwX4_advance_0 : List UInt8 := [42, 42, 180, 0, 120, 182, 0, 123, 16, 32, 159, 0, 16, 42, 42, 180, 0, 120, 182, 0, 123, 16, 10]
abbrev dktX4_advance_0 : List UInt8 := dkwX4_advance_0 ++ dktX4_advance_1
theorem dksX4_advance_0 : cX4_advance.data.toList.drop 0 = dktX4_advance_0 := by decide +kernel
theorem dksX4_advance_1 : cX4_advance.data.toList.drop 23 = dktX4_advance_1 := dk_seg dksX4_advance_0 23 rfl rfl
theorem dksX4_advance_2 : cX4_advance.data.toList.drop 47 = dktX4_advance_2 := dk_seg dksX4_advance_1 24 rfl rfl
theorem dksX4_advance_3 : cX4_advance.data.toList.drop 71 = dktX4_advance_3 := dk_seg dksX4_advance_2 24 rfl rfl
theorem dksX4_advance_4 : cX4_advance.data.toList.drop 95 = dktX4_advance_4 := dk_seg dksX4_advance_3 24 rfl rfl
theorem dksX4_advance_5 : cX4_advance.data.toList.drop 119 = dktX4_advance_5 := dk_seg dksX4_advance_4 24 rfl rfl
theorem dksX4_advance_6 : cX4_advance.data.toList.drop 141 = dktX4_advance_6 := dk_seg dksX4_advance_5 22 rfl rfl
theorem dksX4_advance_7 : cX4_advance.data.toList.drop 165 = dktX4_advance_7 := dk_seg dksX4_advance_6 24 rfl rfl
theorem dksX4_advance_8 : cX4_advance.data.toList.drop 187 = dktX4_advance_8 := dk_seg dksX4_advance_7 22 rfl rfl
theorem dksX4_advance_9 : cX4_advance.data.toList.drop 211 = dktX4_advance_9 := dk_seg dksX4_advance_8 24 rfl rfl
theorem dksX4_advance_10 : cX4_advance.data.toList.drop 235 = dktX4_advance_10 := dk_seg dksX4_advance_9 24 rfl rfl
theorem dX4_advance_0 : decode cX4_advance 0 = .ok (.aload_n 0, 1) := dk_42 (dk_at dksX4_advance_0 0 rfl rfl)
theorem dX4_advance_1 : decode cX4_advance 1 = .ok (.aload_n 0, 1) := dk_42 (dk_at dksX4_advance_0 1 rfl rfl)
theorem dX4_advance_2 : decode cX4_advance 2 = .ok (.getfield 120, 3) := dk_180 0 120 (dk_at dksX4_advance_0 2 rfl rfl)
theorem dX4_advance_5 : decode cX4_advance 5 = .ok (.invokevirtual 123, 3) := dk_182 0 123 (dk_at dksX4_advance_0 5 rfl rfl)
theorem dX4_advance_8 : decode cX4_advance 8 = .ok (.bipush 32, 2) := dk_16 32 (dk_at dksX4_advance_0 8 rfl rfl)
theorem dX4_advance_10 : decode cX4_advance 10 = .ok (.if_icmp .eq 16, 3) := dk_159 0 16 (dk_at dksX4_advance_0 10 rfl rfl)
theorem dX4_advance_13 : decode cX4_advance 13 = .ok (.aload_n 0, 1) := dk_42 (dk_at dksX4_advance_0 13 rfl rfl)
theorem dX4_advance_14 : decode cX4_advance 14 = .ok (.aload_n 0, 1) := dk_42 (dk_at dksX4_advance_0 14 rfl rfl)
theorem dX4_advance_15 : decode cX4_advance 15 = .ok (.getfield 120, 3) := dk_180 0 120 (dk_at dksX4_advance_0 15 rfl rfl)
theorem dX4_advance_18 : decode cX4_advance 18 = .ok (.invokevirtual 123, 3) := dk_182 0 123 (dk_at dksX4_advance_0 18 rfl rfl)
theorem dX4_advance_21 : decode cX4_advance 21 = .ok (.bipush 10, 2) := dk_16 10 (dk_at dksX4_advance_0 21 rfl rfl)
theorem dX4_advance_23 : decode cX4_advance 23 = .ok (.if_icmp .ne 16, 3) := dk_160 0 16 (dk_at dksX4_advance_1 0 rfl rfl)
theorem dX4_advance_26 : decode cX4_advance 26 = .ok (.aload_n 0, 1) := dk_42 (dk_at dksX4_advance_1 3 rfl rfl)
theorem dX4_advance_27 : decode cX4_advance 27 = .ok (.dup, 1) := dk_89 (dk_at dksX4_advance_1 4 rfl rfl)
theorem dX4_advance_28 : decode cX4_advance 28 = .ok (.getfield 120, 3) := dk_180 0 120 (dk_at dksX4_advance_1 5 rfl rfl)
theorem dX4_advance_31 : decode cX4_advance 31 = .ok (.iconst 1, 1) := dk_4 (dk_at dksX4_advance_1 8 rfl rfl)
theorem dX4_advance_32 : decode cX4_advance 32 = .ok (.iadd, 1) := dk_96 (dk_at dksX4_advance_1 9 rfl rfl)
theorem dX4_advance_33 : decode cX4_advance 33 = .ok (.putfield 120, 3) := dk_181 0 120 (dk_at dksX4_advance_1 10 rfl rfl)
theorem dX4_advance_36 : decode cX4_advance 36 = .ok (.goto (-36), 3) := dk_167 255 220 (dk_at dksX4_advance_1 13 rfl rfl)
theorem dX4_advance_39 : decode cX4_advance 39 = .ok (.aload_n 0, 1) := dk_42 (dk_at dksX4_advance_1 16 rfl rfl)
theorem dX4_advance_40 : decode cX4_advance 40 = .ok (.aload_n 0, 1) := dk_42 (dk_at dksX4_advance_1 17 rfl rfl)
theorem dX4_advance_41 : decode cX4_advance 41 = .ok (.getfield 120, 3) := dk_180 0 120 (dk_at dksX4_advance_1 18 rfl rfl)
theorem dX4_advance_44 : decode cX4_advance 44 = .ok (.putfield 127, 3) := dk_181 0 127 (dk_at dksX4_advance_1 21 rfl rfl)
theorem dX4_advance_47 : decode cX4_advance 47 = .ok (.aload_n 0, 1) := dk_42 (dk_at dksX4_advance_2 0 rfl rfl)
theorem dX4_advance_48 : decode cX4_advance 48 = .ok (.aload_n 0, 1) := dk_42 (dk_at dksX4_advance_2 1 rfl rfl)
theorem dX4_advance_49 : decode cX4_advance 49 = .ok (.getfield 120, 3) := dk_180 0 120 (dk_at dksX4_advance_2 2 rfl rfl)
theorem dX4_advance_52 : decode cX4_advance 52 = .ok (.invokevirtual 123, 3) := dk_182 0 123 (dk_at dksX4_advance_2 5 rfl rfl)
theorem dX4_advance_55 : decode cX4_advance 55 = .ok (.istore_n 1, 1) := dk_60 (dk_at dksX4_advance_2 8 rfl rfl)
theorem dX4_advance_56 : decode cX4_advance 56 = .ok (.iload_n 1, 1) := dk_27 (dk_at dksX4_advance_2 9 rfl rfl)
theorem dX4_advance_57 : decode cX4_advance 57 = .ok (.iconst (-1), 1) := dk_2 (dk_at dksX4_advance_2 10 rfl rfl)
theorem dX4_advance_58 : decode cX4_advance 58 = .ok (.if_icmp .ne 11, 3) := dk_160 0 11 (dk_at dksX4_advance_2 11 rfl rfl)
theorem dX4_advance_61 : decode cX4_advance 61 = .ok (.aload_n 0, 1) := dk_42 (dk_at dksX4_advance_2 14 rfl rfl)
theorem dX4_advance_62 : decode cX4_advance 62 = .ok (.iconst 0, 1) := dk_3 (dk_at dksX4_advance_2 15 rfl rfl)
theorem dX4_advance_63 : decode cX4_advance 63 = .ok (.putfield 130, 3) := dk_181 0 130 (dk_at dksX4_advance_2 16 rfl rfl)
theorem dX4_advance_66 : decode cX4_advance 66 = .ok (.goto 173, 3) := dk_167 0 173 (dk_at dksX4_advance_2 19 rfl rfl)
theorem dX4_advance_69 : decode cX4_advance 69 = .ok (.iload_n 1, 1) := dk_27 (dk_at dksX4_advance_2 22 rfl rfl)
theorem dX4_advance_70 : decode cX4_advance 70 = .ok (.i2l, 1) := dk_133 (dk_at dksX4_advance_2 23 rfl rfl)
theorem dX4_advance_71 : decode cX4_advance 71 = .ok (.ldc2_w 133, 3) := dk_20 0 133 (dk_at dksX4_advance_3 0 rfl rfl)
theorem dX4_advance_74 : decode cX4_advance 74 = .ok (.ldc2_w 135, 3) := dk_20 0 135 (dk_at dksX4_advance_3 3 rfl rfl)
theorem dX4_advance_77 : decode cX4_advance 77 = .ok (.invokestatic 104, 3) := dk_184 0 104 (dk_at dksX4_advance_3 6 rfl rfl)
theorem dX4_advance_80 : decode cX4_advance 80 = .ok (.ifCond .eq 45, 3) := dk_153 0 45 (dk_at dksX4_advance_3 9 rfl rfl)
theorem dX4_advance_83 : decode cX4_advance 83 = .ok (.aload_n 0, 1) := dk_42 (dk_at dksX4_advance_3 12 rfl rfl)
theorem dX4_advance_84 : decode cX4_advance 84 = .ok (.aload_n 0, 1) := dk_42 (dk_at dksX4_advance_3 13 rfl rfl)
theorem dX4_advance_85 : decode cX4_advance 85 = .ok (.getfield 120, 3) := dk_180 0 120 (dk_at dksX4_advance_3 14 rfl rfl)
theorem dX4_advance_88 : decode cX4_advance 88 = .ok (.invokevirtual 123, 3) := dk_182 0 123 (dk_at dksX4_advance_3 17 rfl rfl)
theorem dX4_advance_91 : decode cX4_advance 91 = .ok (.i2l, 1) := dk_133 (dk_at dksX4_advance_3 20 rfl rfl)
theorem dX4_advance_92 : decode cX4_advance 92 = .ok (.ldc2_w 133, 3) := dk_20 0 133 (dk_at dksX4_advance_3 21 rfl rfl)
theorem dX4_advance_95 : decode cX4_advance 95 = .ok (.ldc2_w 135, 3) := dk_20 0 135 (dk_at dksX4_advance_4 0 rfl rfl)
theorem dX4_advance_98 : decode cX4_advance 98 = .ok (.invokestatic 104, 3) := dk_184 0 104 (dk_at dksX4_advance_4 3 rfl rfl)
theorem dX4_advance_101 : decode cX4_advance 101 = .ok (.ifCond .eq 16, 3) := dk_153 0 16 (dk_at dksX4_advance_4 6 rfl rfl)
theorem dX4_advance_104 : decode cX4_advance 104 = .ok (.aload_n 0, 1) := dk_42 (dk_at dksX4_advance_4 9 rfl rfl)
theorem dX4_advance_105 : decode cX4_advance 105 = .ok (.dup, 1) := dk_89 (dk_at dksX4_advance_4 10 rfl rfl)
theorem dX4_advance_106 : decode cX4_advance 106 = .ok (.getfield 120, 3) := dk_180 0 120 (dk_at dksX4_advance_4 11 rfl rfl)
theorem dX4_advance_109 : decode cX4_advance 109 = .ok (.iconst 1, 1) := dk_4 (dk_at dksX4_advance_4 14 rfl rfl)
theorem dX4_advance_110 : decode cX4_advance 110 = .ok (.iadd, 1) := dk_96 (dk_at dksX4_advance_4 15 rfl rfl)
theorem dX4_advance_111 : decode cX4_advance 111 = .ok (.putfield 120, 3) := dk_181 0 120 (dk_at dksX4_advance_4 16 rfl rfl)
theorem dX4_advance_114 : decode cX4_advance 114 = .ok (.goto (-31), 3) := dk_167 255 225 (dk_at dksX4_advance_4 19 rfl rfl)
theorem dX4_advance_117 : decode cX4_advance 117 = .ok (.aload_n 0, 1) := dk_42 (dk_at dksX4_advance_4 22 rfl rfl)
theorem dX4_advance_118 : decode cX4_advance 118 = .ok (.iconst 1, 1) := dk_4 (dk_at dksX4_advance_4 23 rfl rfl)
theorem dX4_advance_119 : decode cX4_advance 119 = .ok (.putfield 130, 3) := dk_181 0 130 (dk_at dksX4_advance_5 0 rfl rfl)
theorem dX4_advance_122 : decode cX4_advance 122 = .ok (.goto 117, 3) := dk_167 0 117 (dk_at dksX4_advance_5 3 rfl rfl)
theorem dX4_advance_125 : decode cX4_advance 125 = .ok (.iload_n 1, 1) := dk_27 (dk_at dksX4_advance_5 6 rfl rfl)
theorem dX4_advance_126 : decode cX4_advance 126 = .ok (.i2l, 1) := dk_133 (dk_at dksX4_advance_5 7 rfl rfl)
theorem dX4_advance_127 : decode cX4_advance 127 = .ok (.ldc2_w 137, 3) := dk_20 0 137 (dk_at dksX4_advance_5 8 rfl rfl)
theorem dX4_advance_130 : decode cX4_advance 130 = .ok (.ldc2_w 139, 3) := dk_20 0 139 (dk_at dksX4_advance_5 11 rfl rfl)
theorem dX4_advance_133 : decode cX4_advance 133 = .ok (.invokestatic 104, 3) := dk_184 0 104 (dk_at dksX4_advance_5 14 rfl rfl)
theorem dX4_advance_136 : decode cX4_advance 136 = .ok (.ifCond .eq 78, 3) := dk_153 0 78 (dk_at dksX4_advance_5 17 rfl rfl)
theorem dX4_advance_139 : decode cX4_advance 139 = .ok (.aload_n 0, 1) := dk_42 (dk_at dksX4_advance_5 20 rfl rfl)
theorem dX4_advance_140 : decode cX4_advance 140 = .ok (.iconst 0, 1) := dk_3 (dk_at dksX4_advance_5 21 rfl rfl)
theorem dX4_advance_141 : decode cX4_advance 141 = .ok (.putfield 141, 3) := dk_181 0 141 (dk_at dksX4_advance_6 0 rfl rfl)
theorem dX4_advance_144 : decode cX4_advance 144 = .ok (.aload_n 0, 1) := dk_42 (dk_at dksX4_advance_6 3 rfl rfl)
theorem dX4_advance_145 : decode cX4_advance 145 = .ok (.aload_n 0, 1) := dk_42 (dk_at dksX4_advance_6 4 rfl rfl)
theorem dX4_advance_146 : decode cX4_advance 146 = .ok (.getfield 120, 3) := dk_180 0 120 (dk_at dksX4_advance_6 5 rfl rfl)
theorem dX4_advance_149 : decode cX4_advance 149 = .ok (.invokevirtual 123, 3) := dk_182 0 123 (dk_at dksX4_advance_6 8 rfl rfl)
theorem dX4_advance_152 : decode cX4_advance 152 = .ok (.i2l, 1) := dk_133 (dk_at dksX4_advance_6 11 rfl rfl)
theorem dX4_advance_153 : decode cX4_advance 153 = .ok (.ldc2_w 137, 3) := dk_20 0 137 (dk_at dksX4_advance_6 12 rfl rfl)
theorem dX4_advance_156 : decode cX4_advance 156 = .ok (.ldc2_w 139, 3) := dk_20 0 139 (dk_at dksX4_advance_6 15 rfl rfl)
theorem dX4_advance_159 : decode cX4_advance 159 = .ok (.invokestatic 104, 3) := dk_184 0 104 (dk_at dksX4_advance_6 18 rfl rfl)
theorem dX4_advance_162 : decode cX4_advance 162 = .ok (.ifCond .eq 44, 3) := dk_153 0 44 (dk_at dksX4_advance_6 21 rfl rfl)
theorem dX4_advance_165 : decode cX4_advance 165 = .ok (.aload_n 0, 1) := dk_42 (dk_at dksX4_advance_7 0 rfl rfl)
theorem dX4_advance_166 : decode cX4_advance 166 = .ok (.ldc 144, 2) := dk_18 144 (dk_at dksX4_advance_7 1 rfl rfl)
theorem dX4_advance_168 : decode cX4_advance 168 = .ok (.bipush 10, 2) := dk_16 10 (dk_at dksX4_advance_7 3 rfl rfl)
theorem dX4_advance_170 : decode cX4_advance 170 = .ok (.aload_n 0, 1) := dk_42 (dk_at dksX4_advance_7 5 rfl rfl)
theorem dX4_advance_171 : decode cX4_advance 171 = .ok (.getfield 141, 3) := dk_180 0 141 (dk_at dksX4_advance_7 6 rfl rfl)
theorem dX4_advance_174 : decode cX4_advance 174 = .ok (.imul, 1) := dk_104 (dk_at dksX4_advance_7 9 rfl rfl)
theorem dX4_advance_175 : decode cX4_advance 175 = .ok (.aload_n 0, 1) := dk_42 (dk_at dksX4_advance_7 10 rfl rfl)
theorem dX4_advance_176 : decode cX4_advance 176 = .ok (.aload_n 0, 1) := dk_42 (dk_at dksX4_advance_7 11 rfl rfl)
theorem dX4_advance_177 : decode cX4_advance 177 = .ok (.getfield 120, 3) := dk_180 0 120 (dk_at dksX4_advance_7 12 rfl rfl)
theorem dX4_advance_180 : decode cX4_advance 180 = .ok (.invokevirtual 123, 3) := dk_182 0 123 (dk_at dksX4_advance_7 15 rfl rfl)
theorem dX4_advance_183 : decode cX4_advance 183 = .ok (.iadd, 1) := dk_96 (dk_at dksX4_advance_7 18 rfl rfl)
theorem dX4_advance_184 : decode cX4_advance 184 = .ok (.bipush 48, 2) := dk_16 48 (dk_at dksX4_advance_7 19 rfl rfl)
theorem dX4_advance_186 : decode cX4_advance 186 = .ok (.isub, 1) := dk_100 (dk_at dksX4_advance_7 21 rfl rfl)
theorem dX4_advance_187 : decode cX4_advance 187 = .ok (.invokestatic 145, 3) := dk_184 0 145 (dk_at dksX4_advance_8 0 rfl rfl)
theorem dX4_advance_190 : decode cX4_advance 190 = .ok (.putfield 141, 3) := dk_181 0 141 (dk_at dksX4_advance_8 3 rfl rfl)
theorem dX4_advance_193 : decode cX4_advance 193 = .ok (.aload_n 0, 1) := dk_42 (dk_at dksX4_advance_8 6 rfl rfl)
theorem dX4_advance_194 : decode cX4_advance 194 = .ok (.dup, 1) := dk_89 (dk_at dksX4_advance_8 7 rfl rfl)
theorem dX4_advance_195 : decode cX4_advance 195 = .ok (.getfield 120, 3) := dk_180 0 120 (dk_at dksX4_advance_8 8 rfl rfl)
theorem dX4_advance_198 : decode cX4_advance 198 = .ok (.iconst 1, 1) := dk_4 (dk_at dksX4_advance_8 11 rfl rfl)
theorem dX4_advance_199 : decode cX4_advance 199 = .ok (.iadd, 1) := dk_96 (dk_at dksX4_advance_8 12 rfl rfl)
theorem dX4_advance_200 : decode cX4_advance 200 = .ok (.putfield 120, 3) := dk_181 0 120 (dk_at dksX4_advance_8 13 rfl rfl)
theorem dX4_advance_203 : decode cX4_advance 203 = .ok (.goto (-59), 3) := dk_167 255 197 (dk_at dksX4_advance_8 16 rfl rfl)
theorem dX4_advance_206 : decode cX4_advance 206 = .ok (.aload_n 0, 1) := dk_42 (dk_at dksX4_advance_8 19 rfl rfl)
theorem dX4_advance_207 : decode cX4_advance 207 = .ok (.iconst 2, 1) := dk_5 (dk_at dksX4_advance_8 20 rfl rfl)
theorem dX4_advance_208 : decode cX4_advance 208 = .ok (.putfield 130, 3) := dk_181 0 130 (dk_at dksX4_advance_8 21 rfl rfl)
theorem dX4_advance_211 : decode cX4_advance 211 = .ok (.goto 28, 3) := dk_167 0 28 (dk_at dksX4_advance_9 0 rfl rfl)
theorem dX4_advance_214 : decode cX4_advance 214 = .ok (.aload_n 0, 1) := dk_42 (dk_at dksX4_advance_9 3 rfl rfl)
theorem dX4_advance_215 : decode cX4_advance 215 = .ok (.iload_n 1, 1) := dk_27 (dk_at dksX4_advance_9 4 rfl rfl)
theorem dX4_advance_216 : decode cX4_advance 216 = .ok (.bipush 59, 2) := dk_16 59 (dk_at dksX4_advance_9 5 rfl rfl)
theorem dX4_advance_218 : decode cX4_advance 218 = .ok (.if_icmp .ne 7, 3) := dk_160 0 7 (dk_at dksX4_advance_9 7 rfl rfl)
theorem dX4_advance_221 : decode cX4_advance 221 = .ok (.iconst 3, 1) := dk_6 (dk_at dksX4_advance_9 10 rfl rfl)
theorem dX4_advance_222 : decode cX4_advance 222 = .ok (.goto 4, 3) := dk_167 0 4 (dk_at dksX4_advance_9 11 rfl rfl)
theorem dX4_advance_225 : decode cX4_advance 225 = .ok (.iconst 4, 1) := dk_7 (dk_at dksX4_advance_9 14 rfl rfl)
theorem dX4_advance_226 : decode cX4_advance 226 = .ok (.putfield 130, 3) := dk_181 0 130 (dk_at dksX4_advance_9 15 rfl rfl)
theorem dX4_advance_229 : decode cX4_advance 229 = .ok (.aload_n 0, 1) := dk_42 (dk_at dksX4_advance_9 18 rfl rfl)
theorem dX4_advance_230 : decode cX4_advance 230 = .ok (.dup, 1) := dk_89 (dk_at dksX4_advance_9 19 rfl rfl)
theorem dX4_advance_231 : decode cX4_advance 231 = .ok (.getfield 120, 3) := dk_180 0 120 (dk_at dksX4_advance_9 20 rfl rfl)
theorem dX4_advance_234 : decode cX4_advance 234 = .ok (.iconst 1, 1) := dk_4 (dk_at dksX4_advance_9 23 rfl rfl)
theorem dX4_advance_235 : decode cX4_advance 235 = .ok (.iadd, 1) := dk_96 (dk_at dksX4_advance_10 0 rfl rfl)
theorem dX4_advance_236 : decode cX4_advance 236 = .ok (.putfield 120, 3) := dk_181 0 120 (dk_at dksX4_advance_10 1 rfl rfl)
theorem dX4_advance_239 : decode cX4_advance 239 = .ok (.return_, 1) := dk_177 (dk_at dksX4_advance_10 4 rfl rfl)
abbrev cX4_see : ByteArray := prog_19_method_16_code
def yX4_see : MethodName := ⟨RX4, "see", "(I)I"⟩
def dkwX4_see_0 : List UInt8 := [27, 42, 180, 0, 117, 162, 0, 16, 42, 180, 0, 20, 27, 51, 17, 0, 255, 126, 167, 0, 4, 2, 172]
abbrev dktX4_see_0 : List UInt8 := dkwX4_see_0 ++ []
theorem dksX4_see_0 : cX4_see.data.toList.drop 0 = dktX4_see_0 := by decide +kernel
theorem dX4_see_0 : decode cX4_see 0 = .ok (.iload_n 1, 1) := dk_27 (dk_at dksX4_see_0 0 rfl rfl)
theorem dX4_see_1 : decode cX4_see 1 = .ok (.aload_n 0, 1) := dk_42 (dk_at dksX4_see_0 1 rfl rfl)
theorem dX4_see_2 : decode cX4_see 2 = .ok (.getfield 117, 3) := dk_180 0 117 (dk_at dksX4_see_0 2 rfl rfl)
theorem dX4_see_5 : decode cX4_see 5 = .ok (.if_icmp .ge 16, 3) := dk_162 0 16 (dk_at dksX4_see_0 5 rfl rfl)
theorem dX4_see_8 : decode cX4_see 8 = .ok (.aload_n 0, 1) := dk_42 (dk_at dksX4_see_0 8 rfl rfl)
theorem dX4_see_9 : decode cX4_see 9 = .ok (.getfield 20, 3) := dk_180 0 20 (dk_at dksX4_see_0 9 rfl rfl)
theorem dX4_see_12 : decode cX4_see 12 = .ok (.iload_n 1, 1) := dk_27 (dk_at dksX4_see_0 12 rfl rfl)
theorem dX4_see_13 : decode cX4_see 13 = .ok (.baload, 1) := dk_51 (dk_at dksX4_see_0 13 rfl rfl)
theorem dX4_see_14 : decode cX4_see 14 = .ok (.sipush 255, 3) := dk_17 0 255 (dk_at dksX4_see_0 14 rfl rfl)
theorem dX4_see_17 : decode cX4_see 17 = .ok (.iand, 1) := dk_126 (dk_at dksX4_see_0 17 rfl rfl)
theorem dX4_see_18 : decode cX4_see 18 = .ok (.goto 4, 3) := dk_167 0 4 (dk_at dksX4_see_0 18 rfl rfl)
theorem dX4_see_21 : decode cX4_see 21 = .ok (.iconst (-1), 1) := dk_2 (dk_at dksX4_see_0 21 rfl rfl)
theorem dX4_see_22 : decode cX4_see 22 = .ok (.ireturn, 1) := dk_172 (dk_at dksX4_see_0 22 rfl rfl)
abbrev cX4_good : ByteArray := prog_19_method_18_code
def yX4_good : MethodName := ⟨RX4, "good", "()Z"⟩
def dkwX4_good_0 : List UInt8 := [42, 180, 0, 151, 154, 0, 7, 4, 167, 0, 4, 3, 172]
abbrev dktX4_good_0 : List UInt8 := dkwX4_good_0 ++ []
theorem dksX4_good_0 : cX4_good.data.toList.drop 0 = dktX4_good_0 := by decide +kernel
theorem dX4_good_0 : decode cX4_good 0 = .ok (.aload_n 0, 1) := dk_42 (dk_at dksX4_good_0 0 rfl rfl)
theorem dX4_good_1 : decode cX4_good 1 = .ok (.getfield 151, 3) := dk_180 0 151 (dk_at dksX4_good_0 1 rfl rfl)
theorem dX4_good_4 : decode cX4_good 4 = .ok (.ifCond .ne 7, 3) := dk_154 0 7 (dk_at dksX4_good_0 4 rfl rfl)
theorem dX4_good_7 : decode cX4_good 7 = .ok (.iconst 1, 1) := dk_4 (dk_at dksX4_good_0 7 rfl rfl)
theorem dX4_good_8 : decode cX4_good 8 = .ok (.goto 4, 3) := dk_167 0 4 (dk_at dksX4_good_0 8 rfl rfl)
theorem dX4_good_11 : decode cX4_good 11 = .ok (.iconst 0, 1) := dk_3 (dk_at dksX4_good_0 11 rfl rfl)
theorem dX4_good_12 : decode cX4_good 12 = .ok (.ireturn, 1) := dk_172 (dk_at dksX4_good_0 12 rfl rfl)
abbrev cX4_readLine : ByteArray := prog_19_method_35_code
def yX4_readLine : MethodName := ⟨RX4, "readLine", "()V"⟩
def dkwX4_readLine_4 : List UInt8 := [42, 182, 0, 154, 153, 0, 7, 42, 182, 0, 171, 42, 180, 0, 31, 6, 92, 46, 4, 96, 79, 177]
abbrev dktX4_readLine_4 : List UInt8 := dkwX4_readLine_4 ++ []
def dkwX4_readLine_3 : List UInt8 := [42, 182, 1, 12, 42, 182, 0, 154, 153, 0, 16, 42, 180, 0, 130, 6, 159, 0, 8, 42, 4, 182, 0, 177]
abbrev dktX4_readLine_3 : List UInt8 := dkwX4_readLine_3 ++ dktX4_readLine_4
def dkwX4_readLine_2 : List UInt8 := [182, 0, 198, 79, 42, 180, 0, 31, 16, 6, 42, 19, 1, 10, 8, 16, 40, 182, 0, 198, 79, 167, 0, 7]
abbrev dktX4_readLine_2 : List UInt8 := dkwX4_readLine_2 ++ dktX4_readLine_3
def dkwX4_readLine_1 : List UInt8 := [19, 1, 6, 5, 16, 12, 182, 0, 198, 79, 42, 180, 0, 31, 8, 42, 19, 1, 8, 5, 16, 12]
abbrev dktX4_readLine_1 : List UInt8 := dkwX4_readLine_1 ++ dktX4_readLine_2
def dkwX4_readLine_0 : List UInt8 := [42, 180, 0, 31, 6, 46, 154, 0, 62, 42, 19, 1, 4, 182, 0, 181, 42, 180, 0, 31, 7, 42]
abbrev dktX4_readLine_0 : List UInt8 := dkwX4_readLine_0 ++ dktX4_readLine_1
theorem dksX4_readLine_0 : cX4_readLine.data.toList.drop 0 = dktX4_readLine_0 := by decide +kernel
theorem dksX4_readLine_1 : cX4_readLine.data.toList.drop 22 = dktX4_readLine_1 := dk_seg dksX4_readLine_0 22 rfl rfl
theorem dksX4_readLine_2 : cX4_readLine.data.toList.drop 44 = dktX4_readLine_2 := dk_seg dksX4_readLine_1 22 rfl rfl
theorem dksX4_readLine_3 : cX4_readLine.data.toList.drop 68 = dktX4_readLine_3 := dk_seg dksX4_readLine_2 24 rfl rfl
theorem dksX4_readLine_4 : cX4_readLine.data.toList.drop 92 = dktX4_readLine_4 := dk_seg dksX4_readLine_3 24 rfl rfl
theorem dX4_readLine_0 : decode cX4_readLine 0 = .ok (.aload_n 0, 1) := dk_42 (dk_at dksX4_readLine_0 0 rfl rfl)
theorem dX4_readLine_1 : decode cX4_readLine 1 = .ok (.getfield 31, 3) := dk_180 0 31 (dk_at dksX4_readLine_0 1 rfl rfl)
theorem dX4_readLine_4 : decode cX4_readLine 4 = .ok (.iconst 3, 1) := dk_6 (dk_at dksX4_readLine_0 4 rfl rfl)
theorem dX4_readLine_5 : decode cX4_readLine 5 = .ok (.iaload, 1) := dk_46 (dk_at dksX4_readLine_0 5 rfl rfl)
theorem dX4_readLine_6 : decode cX4_readLine 6 = .ok (.ifCond .ne 62, 3) := dk_154 0 62 (dk_at dksX4_readLine_0 6 rfl rfl)
theorem dX4_readLine_9 : decode cX4_readLine 9 = .ok (.aload_n 0, 1) := dk_42 (dk_at dksX4_readLine_0 9 rfl rfl)
theorem dX4_readLine_10 : decode cX4_readLine 10 = .ok (.ldc_w 260, 3) := dk_19 1 4 (dk_at dksX4_readLine_0 10 rfl rfl)
theorem dX4_readLine_13 : decode cX4_readLine 13 = .ok (.invokevirtual 181, 3) := dk_182 0 181 (dk_at dksX4_readLine_0 13 rfl rfl)
theorem dX4_readLine_16 : decode cX4_readLine 16 = .ok (.aload_n 0, 1) := dk_42 (dk_at dksX4_readLine_0 16 rfl rfl)
theorem dX4_readLine_17 : decode cX4_readLine 17 = .ok (.getfield 31, 3) := dk_180 0 31 (dk_at dksX4_readLine_0 17 rfl rfl)
theorem dX4_readLine_20 : decode cX4_readLine 20 = .ok (.iconst 4, 1) := dk_7 (dk_at dksX4_readLine_0 20 rfl rfl)
theorem dX4_readLine_21 : decode cX4_readLine 21 = .ok (.aload_n 0, 1) := dk_42 (dk_at dksX4_readLine_0 21 rfl rfl)
theorem dX4_readLine_22 : decode cX4_readLine 22 = .ok (.ldc_w 262, 3) := dk_19 1 6 (dk_at dksX4_readLine_1 0 rfl rfl)
theorem dX4_readLine_25 : decode cX4_readLine 25 = .ok (.iconst 2, 1) := dk_5 (dk_at dksX4_readLine_1 3 rfl rfl)
theorem dX4_readLine_26 : decode cX4_readLine 26 = .ok (.bipush 12, 2) := dk_16 12 (dk_at dksX4_readLine_1 4 rfl rfl)
theorem dX4_readLine_28 : decode cX4_readLine 28 = .ok (.invokevirtual 198, 3) := dk_182 0 198 (dk_at dksX4_readLine_1 6 rfl rfl)
theorem dX4_readLine_31 : decode cX4_readLine 31 = .ok (.iastore, 1) := dk_79 (dk_at dksX4_readLine_1 9 rfl rfl)
theorem dX4_readLine_32 : decode cX4_readLine 32 = .ok (.aload_n 0, 1) := dk_42 (dk_at dksX4_readLine_1 10 rfl rfl)
theorem dX4_readLine_33 : decode cX4_readLine 33 = .ok (.getfield 31, 3) := dk_180 0 31 (dk_at dksX4_readLine_1 11 rfl rfl)
theorem dX4_readLine_36 : decode cX4_readLine 36 = .ok (.iconst 5, 1) := dk_8 (dk_at dksX4_readLine_1 14 rfl rfl)
theorem dX4_readLine_37 : decode cX4_readLine 37 = .ok (.aload_n 0, 1) := dk_42 (dk_at dksX4_readLine_1 15 rfl rfl)
theorem dX4_readLine_38 : decode cX4_readLine 38 = .ok (.ldc_w 264, 3) := dk_19 1 8 (dk_at dksX4_readLine_1 16 rfl rfl)
theorem dX4_readLine_41 : decode cX4_readLine 41 = .ok (.iconst 2, 1) := dk_5 (dk_at dksX4_readLine_1 19 rfl rfl)
theorem dX4_readLine_42 : decode cX4_readLine 42 = .ok (.bipush 12, 2) := dk_16 12 (dk_at dksX4_readLine_1 20 rfl rfl)
theorem dX4_readLine_44 : decode cX4_readLine 44 = .ok (.invokevirtual 198, 3) := dk_182 0 198 (dk_at dksX4_readLine_2 0 rfl rfl)
theorem dX4_readLine_47 : decode cX4_readLine 47 = .ok (.iastore, 1) := dk_79 (dk_at dksX4_readLine_2 3 rfl rfl)
theorem dX4_readLine_48 : decode cX4_readLine 48 = .ok (.aload_n 0, 1) := dk_42 (dk_at dksX4_readLine_2 4 rfl rfl)
theorem dX4_readLine_49 : decode cX4_readLine 49 = .ok (.getfield 31, 3) := dk_180 0 31 (dk_at dksX4_readLine_2 5 rfl rfl)
theorem dX4_readLine_52 : decode cX4_readLine 52 = .ok (.bipush 6, 2) := dk_16 6 (dk_at dksX4_readLine_2 8 rfl rfl)
theorem dX4_readLine_54 : decode cX4_readLine 54 = .ok (.aload_n 0, 1) := dk_42 (dk_at dksX4_readLine_2 10 rfl rfl)
theorem dX4_readLine_55 : decode cX4_readLine 55 = .ok (.ldc_w 266, 3) := dk_19 1 10 (dk_at dksX4_readLine_2 11 rfl rfl)
theorem dX4_readLine_58 : decode cX4_readLine 58 = .ok (.iconst 5, 1) := dk_8 (dk_at dksX4_readLine_2 14 rfl rfl)
theorem dX4_readLine_59 : decode cX4_readLine 59 = .ok (.bipush 40, 2) := dk_16 40 (dk_at dksX4_readLine_2 15 rfl rfl)
theorem dX4_readLine_61 : decode cX4_readLine 61 = .ok (.invokevirtual 198, 3) := dk_182 0 198 (dk_at dksX4_readLine_2 17 rfl rfl)
theorem dX4_readLine_64 : decode cX4_readLine 64 = .ok (.iastore, 1) := dk_79 (dk_at dksX4_readLine_2 20 rfl rfl)
theorem dX4_readLine_65 : decode cX4_readLine 65 = .ok (.goto 7, 3) := dk_167 0 7 (dk_at dksX4_readLine_2 21 rfl rfl)
theorem dX4_readLine_68 : decode cX4_readLine 68 = .ok (.aload_n 0, 1) := dk_42 (dk_at dksX4_readLine_3 0 rfl rfl)
theorem dX4_readLine_69 : decode cX4_readLine 69 = .ok (.invokevirtual 268, 3) := dk_182 1 12 (dk_at dksX4_readLine_3 1 rfl rfl)
theorem dX4_readLine_72 : decode cX4_readLine 72 = .ok (.aload_n 0, 1) := dk_42 (dk_at dksX4_readLine_3 4 rfl rfl)
theorem dX4_readLine_73 : decode cX4_readLine 73 = .ok (.invokevirtual 154, 3) := dk_182 0 154 (dk_at dksX4_readLine_3 5 rfl rfl)
theorem dX4_readLine_76 : decode cX4_readLine 76 = .ok (.ifCond .eq 16, 3) := dk_153 0 16 (dk_at dksX4_readLine_3 8 rfl rfl)
theorem dX4_readLine_79 : decode cX4_readLine 79 = .ok (.aload_n 0, 1) := dk_42 (dk_at dksX4_readLine_3 11 rfl rfl)
theorem dX4_readLine_80 : decode cX4_readLine 80 = .ok (.getfield 130, 3) := dk_180 0 130 (dk_at dksX4_readLine_3 12 rfl rfl)
theorem dX4_readLine_83 : decode cX4_readLine 83 = .ok (.iconst 3, 1) := dk_6 (dk_at dksX4_readLine_3 15 rfl rfl)
theorem dX4_readLine_84 : decode cX4_readLine 84 = .ok (.if_icmp .eq 8, 3) := dk_159 0 8 (dk_at dksX4_readLine_3 16 rfl rfl)
theorem dX4_readLine_87 : decode cX4_readLine 87 = .ok (.aload_n 0, 1) := dk_42 (dk_at dksX4_readLine_3 19 rfl rfl)
theorem dX4_readLine_88 : decode cX4_readLine 88 = .ok (.iconst 1, 1) := dk_4 (dk_at dksX4_readLine_3 20 rfl rfl)
theorem dX4_readLine_89 : decode cX4_readLine 89 = .ok (.invokevirtual 177, 3) := dk_182 0 177 (dk_at dksX4_readLine_3 21 rfl rfl)
theorem dX4_readLine_92 : decode cX4_readLine 92 = .ok (.aload_n 0, 1) := dk_42 (dk_at dksX4_readLine_4 0 rfl rfl)
theorem dX4_readLine_93 : decode cX4_readLine 93 = .ok (.invokevirtual 154, 3) := dk_182 0 154 (dk_at dksX4_readLine_4 1 rfl rfl)
theorem dX4_readLine_96 : decode cX4_readLine 96 = .ok (.ifCond .eq 7, 3) := dk_153 0 7 (dk_at dksX4_readLine_4 4 rfl rfl)
theorem dX4_readLine_99 : decode cX4_readLine 99 = .ok (.aload_n 0, 1) := dk_42 (dk_at dksX4_readLine_4 7 rfl rfl)
theorem dX4_readLine_100 : decode cX4_readLine 100 = .ok (.invokevirtual 171, 3) := dk_182 0 171 (dk_at dksX4_readLine_4 8 rfl rfl)
theorem dX4_readLine_103 : decode cX4_readLine 103 = .ok (.aload_n 0, 1) := dk_42 (dk_at dksX4_readLine_4 11 rfl rfl)
theorem dX4_readLine_104 : decode cX4_readLine 104 = .ok (.getfield 31, 3) := dk_180 0 31 (dk_at dksX4_readLine_4 12 rfl rfl)
theorem dX4_readLine_107 : decode cX4_readLine 107 = .ok (.iconst 3, 1) := dk_6 (dk_at dksX4_readLine_4 15 rfl rfl)
theorem dX4_readLine_108 : decode cX4_readLine 108 = .ok (.dup2, 1) := dk_92 (dk_at dksX4_readLine_4 16 rfl rfl)
theorem dX4_readLine_109 : decode cX4_readLine 109 = .ok (.iaload, 1) := dk_46 (dk_at dksX4_readLine_4 17 rfl rfl)
theorem dX4_readLine_110 : decode cX4_readLine 110 = .ok (.iconst 1, 1) := dk_4 (dk_at dksX4_readLine_4 18 rfl rfl)
theorem dX4_readLine_111 : decode cX4_readLine 111 = .ok (.iadd, 1) := dk_96 (dk_at dksX4_readLine_4 19 rfl rfl)
theorem dX4_readLine_112 : decode cX4_readLine 112 = .ok (.iastore, 1) := dk_79 (dk_at dksX4_readLine_4 20 rfl rfl)
theorem dX4_readLine_113 : decode cX4_readLine 113 = .ok (.return_, 1) := dk_177 (dk_at dksX4_readLine_4 21 rfl rfl)
abbrev cX4_needs : ByteArray := prog_19_method_22_code
def yX4_needs : MethodName := ⟨RX4, "needs", "(Ljava/lang/String;)V"⟩
def dkwX4_needs_0 : List UInt8 := [42, 43, 182, 0, 174, 154, 0, 8, 42, 4, 182, 0, 177, 177]
abbrev dktX4_needs_0 : List UInt8 := dkwX4_needs_0 ++ []
theorem dksX4_needs_0 : cX4_needs.data.toList.drop 0 = dktX4_needs_0 := by decide +kernel
theorem dX4_needs_0 : decode cX4_needs 0 = .ok (.aload_n 0, 1) := dk_42 (dk_at dksX4_needs_0 0 rfl rfl)
theorem dX4_needs_1 : decode cX4_needs 1 = .ok (.aload_n 1, 1) := dk_43 (dk_at dksX4_needs_0 1 rfl rfl)
theorem dX4_needs_2 : decode cX4_needs 2 = .ok (.invokevirtual 174, 3) := dk_182 0 174 (dk_at dksX4_needs_0 2 rfl rfl)
theorem dX4_needs_5 : decode cX4_needs 5 = .ok (.ifCond .ne 8, 3) := dk_154 0 8 (dk_at dksX4_needs_0 5 rfl rfl)
theorem dX4_needs_8 : decode cX4_needs 8 = .ok (.aload_n 0, 1) := dk_42 (dk_at dksX4_needs_0 8 rfl rfl)
theorem dX4_needs_9 : decode cX4_needs 9 = .ok (.iconst 1, 1) := dk_4 (dk_at dksX4_needs_0 9 rfl rfl)
theorem dX4_needs_10 : decode cX4_needs 10 = .ok (.invokevirtual 177, 3) := dk_182 0 177 (dk_at dksX4_needs_0 10 rfl rfl)
theorem dX4_needs_13 : decode cX4_needs 13 = .ok (.return_, 1) := dk_177 (dk_at dksX4_needs_0 13 rfl rfl)
abbrev cX4_takes : ByteArray := prog_19_method_21_code
def yX4_takes : MethodName := ⟨RX4, "takes", "(Ljava/lang/String;)Z"⟩
def dkwX4_takes_0 : List UInt8 := [42, 43, 182, 0, 167, 61, 28, 153, 0, 7, 42, 182, 0, 171, 28, 172]
abbrev dktX4_takes_0 : List UInt8 := dkwX4_takes_0 ++ []
theorem dksX4_takes_0 : cX4_takes.data.toList.drop 0 = dktX4_takes_0 := by decide +kernel
theorem dX4_takes_0 : decode cX4_takes 0 = .ok (.aload_n 0, 1) := dk_42 (dk_at dksX4_takes_0 0 rfl rfl)
theorem dX4_takes_1 : decode cX4_takes 1 = .ok (.aload_n 1, 1) := dk_43 (dk_at dksX4_takes_0 1 rfl rfl)
theorem dX4_takes_2 : decode cX4_takes 2 = .ok (.invokevirtual 167, 3) := dk_182 0 167 (dk_at dksX4_takes_0 2 rfl rfl)
theorem dX4_takes_5 : decode cX4_takes 5 = .ok (.istore_n 2, 1) := dk_61 (dk_at dksX4_takes_0 5 rfl rfl)
theorem dX4_takes_6 : decode cX4_takes 6 = .ok (.iload_n 2, 1) := dk_28 (dk_at dksX4_takes_0 6 rfl rfl)
theorem dX4_takes_7 : decode cX4_takes 7 = .ok (.ifCond .eq 7, 3) := dk_153 0 7 (dk_at dksX4_takes_0 7 rfl rfl)
theorem dX4_takes_10 : decode cX4_takes 10 = .ok (.aload_n 0, 1) := dk_42 (dk_at dksX4_takes_0 10 rfl rfl)
theorem dX4_takes_11 : decode cX4_takes 11 = .ok (.invokevirtual 171, 3) := dk_182 0 171 (dk_at dksX4_takes_0 11 rfl rfl)
theorem dX4_takes_14 : decode cX4_takes 14 = .ok (.iload_n 2, 1) := dk_28 (dk_at dksX4_takes_0 14 rfl rfl)
theorem dX4_takes_15 : decode cX4_takes 15 = .ok (.ireturn, 1) := dk_172 (dk_at dksX4_takes_0 15 rfl rfl)
abbrev cX4_is : ByteArray := prog_19_method_20_code
def yX4_is : MethodName := ⟨RX4, "is", "(Ljava/lang/String;)Z"⟩
def dkwX4_is_3 : List UInt8 := [167, 0, 4, 3, 61, 132, 3, 1, 167, 255, 216, 28, 172]
abbrev dktX4_is_3 : List UInt8 := dkwX4_is_3 ++ []
def dkwX4_is_2 : List UInt8 := [153, 0, 34, 42, 180, 0, 20, 42, 180, 0, 127, 29, 96, 51, 43, 29, 182, 0, 163, 160, 0, 7, 4]
abbrev dktX4_is_2 : List UInt8 := dkwX4_is_2 ++ dktX4_is_3
def dkwX4_is_1 : List UInt8 := [43, 182, 0, 157, 160, 0, 7, 4, 167, 0, 4, 3, 61, 3, 62, 29, 43, 182, 0, 157, 162, 0, 38, 28]
abbrev dktX4_is_1 : List UInt8 := dkwX4_is_1 ++ dktX4_is_2
def dkwX4_is_0 : List UInt8 := [42, 182, 0, 154, 153, 0, 31, 42, 180, 0, 130, 4, 160, 0, 23, 42, 180, 0, 120, 42, 180, 0, 127, 100]
abbrev dktX4_is_0 : List UInt8 := dkwX4_is_0 ++ dktX4_is_1
theorem dksX4_is_0 : cX4_is.data.toList.drop 0 = dktX4_is_0 := by decide +kernel
theorem dksX4_is_1 : cX4_is.data.toList.drop 24 = dktX4_is_1 := dk_seg dksX4_is_0 24 rfl rfl
theorem dksX4_is_2 : cX4_is.data.toList.drop 48 = dktX4_is_2 := dk_seg dksX4_is_1 24 rfl rfl
theorem dksX4_is_3 : cX4_is.data.toList.drop 71 = dktX4_is_3 := dk_seg dksX4_is_2 23 rfl rfl
theorem dX4_is_0 : decode cX4_is 0 = .ok (.aload_n 0, 1) := dk_42 (dk_at dksX4_is_0 0 rfl rfl)
theorem dX4_is_1 : decode cX4_is 1 = .ok (.invokevirtual 154, 3) := dk_182 0 154 (dk_at dksX4_is_0 1 rfl rfl)
theorem dX4_is_4 : decode cX4_is 4 = .ok (.ifCond .eq 31, 3) := dk_153 0 31 (dk_at dksX4_is_0 4 rfl rfl)
theorem dX4_is_7 : decode cX4_is 7 = .ok (.aload_n 0, 1) := dk_42 (dk_at dksX4_is_0 7 rfl rfl)
theorem dX4_is_8 : decode cX4_is 8 = .ok (.getfield 130, 3) := dk_180 0 130 (dk_at dksX4_is_0 8 rfl rfl)
theorem dX4_is_11 : decode cX4_is 11 = .ok (.iconst 1, 1) := dk_4 (dk_at dksX4_is_0 11 rfl rfl)
theorem dX4_is_12 : decode cX4_is 12 = .ok (.if_icmp .ne 23, 3) := dk_160 0 23 (dk_at dksX4_is_0 12 rfl rfl)
theorem dX4_is_15 : decode cX4_is 15 = .ok (.aload_n 0, 1) := dk_42 (dk_at dksX4_is_0 15 rfl rfl)
theorem dX4_is_16 : decode cX4_is 16 = .ok (.getfield 120, 3) := dk_180 0 120 (dk_at dksX4_is_0 16 rfl rfl)
theorem dX4_is_19 : decode cX4_is 19 = .ok (.aload_n 0, 1) := dk_42 (dk_at dksX4_is_0 19 rfl rfl)
theorem dX4_is_20 : decode cX4_is 20 = .ok (.getfield 127, 3) := dk_180 0 127 (dk_at dksX4_is_0 20 rfl rfl)
theorem dX4_is_23 : decode cX4_is 23 = .ok (.isub, 1) := dk_100 (dk_at dksX4_is_0 23 rfl rfl)
theorem dX4_is_24 : decode cX4_is 24 = .ok (.aload_n 1, 1) := dk_43 (dk_at dksX4_is_1 0 rfl rfl)
theorem dX4_is_25 : decode cX4_is 25 = .ok (.invokevirtual 157, 3) := dk_182 0 157 (dk_at dksX4_is_1 1 rfl rfl)
theorem dX4_is_28 : decode cX4_is 28 = .ok (.if_icmp .ne 7, 3) := dk_160 0 7 (dk_at dksX4_is_1 4 rfl rfl)
theorem dX4_is_31 : decode cX4_is 31 = .ok (.iconst 1, 1) := dk_4 (dk_at dksX4_is_1 7 rfl rfl)
theorem dX4_is_32 : decode cX4_is 32 = .ok (.goto 4, 3) := dk_167 0 4 (dk_at dksX4_is_1 8 rfl rfl)
theorem dX4_is_35 : decode cX4_is 35 = .ok (.iconst 0, 1) := dk_3 (dk_at dksX4_is_1 11 rfl rfl)
theorem dX4_is_36 : decode cX4_is 36 = .ok (.istore_n 2, 1) := dk_61 (dk_at dksX4_is_1 12 rfl rfl)
theorem dX4_is_37 : decode cX4_is 37 = .ok (.iconst 0, 1) := dk_3 (dk_at dksX4_is_1 13 rfl rfl)
theorem dX4_is_38 : decode cX4_is 38 = .ok (.istore_n 3, 1) := dk_62 (dk_at dksX4_is_1 14 rfl rfl)
theorem dX4_is_39 : decode cX4_is 39 = .ok (.iload_n 3, 1) := dk_29 (dk_at dksX4_is_1 15 rfl rfl)
theorem dX4_is_40 : decode cX4_is 40 = .ok (.aload_n 1, 1) := dk_43 (dk_at dksX4_is_1 16 rfl rfl)
theorem dX4_is_41 : decode cX4_is 41 = .ok (.invokevirtual 157, 3) := dk_182 0 157 (dk_at dksX4_is_1 17 rfl rfl)
theorem dX4_is_44 : decode cX4_is 44 = .ok (.if_icmp .ge 38, 3) := dk_162 0 38 (dk_at dksX4_is_1 20 rfl rfl)
theorem dX4_is_47 : decode cX4_is 47 = .ok (.iload_n 2, 1) := dk_28 (dk_at dksX4_is_1 23 rfl rfl)
theorem dX4_is_48 : decode cX4_is 48 = .ok (.ifCond .eq 34, 3) := dk_153 0 34 (dk_at dksX4_is_2 0 rfl rfl)
theorem dX4_is_51 : decode cX4_is 51 = .ok (.aload_n 0, 1) := dk_42 (dk_at dksX4_is_2 3 rfl rfl)
theorem dX4_is_52 : decode cX4_is 52 = .ok (.getfield 20, 3) := dk_180 0 20 (dk_at dksX4_is_2 4 rfl rfl)
theorem dX4_is_55 : decode cX4_is 55 = .ok (.aload_n 0, 1) := dk_42 (dk_at dksX4_is_2 7 rfl rfl)
theorem dX4_is_56 : decode cX4_is 56 = .ok (.getfield 127, 3) := dk_180 0 127 (dk_at dksX4_is_2 8 rfl rfl)
theorem dX4_is_59 : decode cX4_is 59 = .ok (.iload_n 3, 1) := dk_29 (dk_at dksX4_is_2 11 rfl rfl)
theorem dX4_is_60 : decode cX4_is 60 = .ok (.iadd, 1) := dk_96 (dk_at dksX4_is_2 12 rfl rfl)
theorem dX4_is_61 : decode cX4_is 61 = .ok (.baload, 1) := dk_51 (dk_at dksX4_is_2 13 rfl rfl)
theorem dX4_is_62 : decode cX4_is 62 = .ok (.aload_n 1, 1) := dk_43 (dk_at dksX4_is_2 14 rfl rfl)
theorem dX4_is_63 : decode cX4_is 63 = .ok (.iload_n 3, 1) := dk_29 (dk_at dksX4_is_2 15 rfl rfl)
theorem dX4_is_64 : decode cX4_is 64 = .ok (.invokevirtual 163, 3) := dk_182 0 163 (dk_at dksX4_is_2 16 rfl rfl)
theorem dX4_is_67 : decode cX4_is 67 = .ok (.if_icmp .ne 7, 3) := dk_160 0 7 (dk_at dksX4_is_2 19 rfl rfl)
theorem dX4_is_70 : decode cX4_is 70 = .ok (.iconst 1, 1) := dk_4 (dk_at dksX4_is_2 22 rfl rfl)
theorem dX4_is_71 : decode cX4_is 71 = .ok (.goto 4, 3) := dk_167 0 4 (dk_at dksX4_is_3 0 rfl rfl)
theorem dX4_is_74 : decode cX4_is 74 = .ok (.iconst 0, 1) := dk_3 (dk_at dksX4_is_3 3 rfl rfl)
theorem dX4_is_75 : decode cX4_is 75 = .ok (.istore_n 2, 1) := dk_61 (dk_at dksX4_is_3 4 rfl rfl)
theorem dX4_is_76 : decode cX4_is 76 = .ok (.iinc 3 1, 3) := dk_132 3 1 (dk_at dksX4_is_3 5 rfl rfl)
theorem dX4_is_79 : decode cX4_is 79 = .ok (.goto (-40), 3) := dk_167 255 216 (dk_at dksX4_is_3 8 rfl rfl)
theorem dX4_is_82 : decode cX4_is 82 = .ok (.iload_n 2, 1) := dk_28 (dk_at dksX4_is_3 11 rfl rfl)
theorem dX4_is_83 : decode cX4_is 83 = .ok (.ireturn, 1) := dk_172 (dk_at dksX4_is_3 12 rfl rfl)
abbrev cX4_errs : ByteArray := prog_19_method_19_code
def yX4_errs : MethodName := ⟨RX4, "errs", "(I)V"⟩
def dkwX4_errs_0 : List UInt8 := [42, 182, 0, 154, 154, 0, 4, 177, 42, 27, 181, 0, 151, 42, 42, 180, 0, 127, 181, 0, 27, 177]
abbrev dktX4_errs_0 : List UInt8 := dkwX4_errs_0 ++ []
theorem dksX4_errs_0 : cX4_errs.data.toList.drop 0 = dktX4_errs_0 := by decide +kernel
theorem dX4_errs_0 : decode cX4_errs 0 = .ok (.aload_n 0, 1) := dk_42 (dk_at dksX4_errs_0 0 rfl rfl)
theorem dX4_errs_1 : decode cX4_errs 1 = .ok (.invokevirtual 154, 3) := dk_182 0 154 (dk_at dksX4_errs_0 1 rfl rfl)
theorem dX4_errs_4 : decode cX4_errs 4 = .ok (.ifCond .ne 4, 3) := dk_154 0 4 (dk_at dksX4_errs_0 4 rfl rfl)
theorem dX4_errs_7 : decode cX4_errs 7 = .ok (.return_, 1) := dk_177 (dk_at dksX4_errs_0 7 rfl rfl)
theorem dX4_errs_8 : decode cX4_errs 8 = .ok (.aload_n 0, 1) := dk_42 (dk_at dksX4_errs_0 8 rfl rfl)
theorem dX4_errs_9 : decode cX4_errs 9 = .ok (.iload_n 1, 1) := dk_27 (dk_at dksX4_errs_0 9 rfl rfl)
theorem dX4_errs_10 : decode cX4_errs 10 = .ok (.putfield 151, 3) := dk_181 0 151 (dk_at dksX4_errs_0 10 rfl rfl)
theorem dX4_errs_13 : decode cX4_errs 13 = .ok (.aload_n 0, 1) := dk_42 (dk_at dksX4_errs_0 13 rfl rfl)
theorem dX4_errs_14 : decode cX4_errs 14 = .ok (.aload_n 0, 1) := dk_42 (dk_at dksX4_errs_0 14 rfl rfl)
theorem dX4_errs_15 : decode cX4_errs 15 = .ok (.getfield 127, 3) := dk_180 0 127 (dk_at dksX4_errs_0 15 rfl rfl)
theorem dX4_errs_18 : decode cX4_errs 18 = .ok (.putfield 27, 3) := dk_181 0 27 (dk_at dksX4_errs_0 18 rfl rfl)
theorem dX4_errs_21 : decode cX4_errs 21 = .ok (.return_, 1) := dk_177 (dk_at dksX4_errs_0 21 rfl rfl)
abbrev cX4_told : ByteArray := prog_19_method_24_code
def yX4_told : MethodName := ⟨RX4, "told", "(Ljava/lang/String;II)I"⟩
def dkwX4_told_0 : List UInt8 := [42, 43, 182, 0, 181, 42, 28, 29, 182, 0, 185, 172]
abbrev dktX4_told_0 : List UInt8 := dkwX4_told_0 ++ []
theorem dksX4_told_0 : cX4_told.data.toList.drop 0 = dktX4_told_0 := by decide +kernel
theorem dX4_told_0 : decode cX4_told 0 = .ok (.aload_n 0, 1) := dk_42 (dk_at dksX4_told_0 0 rfl rfl)
theorem dX4_told_1 : decode cX4_told 1 = .ok (.aload_n 1, 1) := dk_43 (dk_at dksX4_told_0 1 rfl rfl)
theorem dX4_told_2 : decode cX4_told 2 = .ok (.invokevirtual 181, 3) := dk_182 0 181 (dk_at dksX4_told_0 2 rfl rfl)
theorem dX4_told_5 : decode cX4_told 5 = .ok (.aload_n 0, 1) := dk_42 (dk_at dksX4_told_0 5 rfl rfl)
theorem dX4_told_6 : decode cX4_told 6 = .ok (.iload_n 2, 1) := dk_28 (dk_at dksX4_told_0 6 rfl rfl)
theorem dX4_told_7 : decode cX4_told 7 = .ok (.iload_n 3, 1) := dk_29 (dk_at dksX4_told_0 7 rfl rfl)
theorem dX4_told_8 : decode cX4_told 8 = .ok (.invokevirtual 185, 3) := dk_182 0 185 (dk_at dksX4_told_0 8 rfl rfl)
theorem dX4_told_11 : decode cX4_told 11 = .ok (.ireturn, 1) := dk_172 (dk_at dksX4_told_0 11 rfl rfl)
abbrev cX4_number : ByteArray := prog_19_method_23_code
def yX4_number : MethodName := ⟨RX4, "number", "(II)I"⟩
def dkwX4_number_2 : List UInt8 := [182, 0, 154, 154, 0, 5, 3, 172, 42, 180, 0, 141, 62, 42, 182, 0, 171, 29, 172]
abbrev dktX4_number_2 : List UInt8 := dkwX4_number_2 ++ []
def dkwX4_number_1 : List UInt8 := [153, 0, 23, 42, 180, 0, 141, 133, 27, 133, 28, 133, 184, 0, 104, 154, 0, 8, 42, 5, 182, 0, 177, 42]
abbrev dktX4_number_1 : List UInt8 := dkwX4_number_1 ++ dktX4_number_2
def dkwX4_number_0 : List UInt8 := [42, 182, 0, 154, 153, 0, 16, 42, 180, 0, 130, 5, 159, 0, 8, 42, 4, 182, 0, 177, 42, 182, 0, 154]
abbrev dktX4_number_0 : List UInt8 := dkwX4_number_0 ++ dktX4_number_1
theorem dksX4_number_0 : cX4_number.data.toList.drop 0 = dktX4_number_0 := by decide +kernel
theorem dksX4_number_1 : cX4_number.data.toList.drop 24 = dktX4_number_1 := dk_seg dksX4_number_0 24 rfl rfl
theorem dksX4_number_2 : cX4_number.data.toList.drop 48 = dktX4_number_2 := dk_seg dksX4_number_1 24 rfl rfl
theorem dX4_number_0 : decode cX4_number 0 = .ok (.aload_n 0, 1) := dk_42 (dk_at dksX4_number_0 0 rfl rfl)
theorem dX4_number_1 : decode cX4_number 1 = .ok (.invokevirtual 154, 3) := dk_182 0 154 (dk_at dksX4_number_0 1 rfl rfl)
theorem dX4_number_4 : decode cX4_number 4 = .ok (.ifCond .eq 16, 3) := dk_153 0 16 (dk_at dksX4_number_0 4 rfl rfl)
theorem dX4_number_7 : decode cX4_number 7 = .ok (.aload_n 0, 1) := dk_42 (dk_at dksX4_number_0 7 rfl rfl)
theorem dX4_number_8 : decode cX4_number 8 = .ok (.getfield 130, 3) := dk_180 0 130 (dk_at dksX4_number_0 8 rfl rfl)
theorem dX4_number_11 : decode cX4_number 11 = .ok (.iconst 2, 1) := dk_5 (dk_at dksX4_number_0 11 rfl rfl)
theorem dX4_number_12 : decode cX4_number 12 = .ok (.if_icmp .eq 8, 3) := dk_159 0 8 (dk_at dksX4_number_0 12 rfl rfl)
theorem dX4_number_15 : decode cX4_number 15 = .ok (.aload_n 0, 1) := dk_42 (dk_at dksX4_number_0 15 rfl rfl)
theorem dX4_number_16 : decode cX4_number 16 = .ok (.iconst 1, 1) := dk_4 (dk_at dksX4_number_0 16 rfl rfl)
theorem dX4_number_17 : decode cX4_number 17 = .ok (.invokevirtual 177, 3) := dk_182 0 177 (dk_at dksX4_number_0 17 rfl rfl)
theorem dX4_number_20 : decode cX4_number 20 = .ok (.aload_n 0, 1) := dk_42 (dk_at dksX4_number_0 20 rfl rfl)
theorem dX4_number_21 : decode cX4_number 21 = .ok (.invokevirtual 154, 3) := dk_182 0 154 (dk_at dksX4_number_0 21 rfl rfl)
theorem dX4_number_24 : decode cX4_number 24 = .ok (.ifCond .eq 23, 3) := dk_153 0 23 (dk_at dksX4_number_1 0 rfl rfl)
theorem dX4_number_27 : decode cX4_number 27 = .ok (.aload_n 0, 1) := dk_42 (dk_at dksX4_number_1 3 rfl rfl)
theorem dX4_number_28 : decode cX4_number 28 = .ok (.getfield 141, 3) := dk_180 0 141 (dk_at dksX4_number_1 4 rfl rfl)
theorem dX4_number_31 : decode cX4_number 31 = .ok (.i2l, 1) := dk_133 (dk_at dksX4_number_1 7 rfl rfl)
theorem dX4_number_32 : decode cX4_number 32 = .ok (.iload_n 1, 1) := dk_27 (dk_at dksX4_number_1 8 rfl rfl)
theorem dX4_number_33 : decode cX4_number 33 = .ok (.i2l, 1) := dk_133 (dk_at dksX4_number_1 9 rfl rfl)
theorem dX4_number_34 : decode cX4_number 34 = .ok (.iload_n 2, 1) := dk_28 (dk_at dksX4_number_1 10 rfl rfl)
theorem dX4_number_35 : decode cX4_number 35 = .ok (.i2l, 1) := dk_133 (dk_at dksX4_number_1 11 rfl rfl)
theorem dX4_number_36 : decode cX4_number 36 = .ok (.invokestatic 104, 3) := dk_184 0 104 (dk_at dksX4_number_1 12 rfl rfl)
theorem dX4_number_39 : decode cX4_number 39 = .ok (.ifCond .ne 8, 3) := dk_154 0 8 (dk_at dksX4_number_1 15 rfl rfl)
theorem dX4_number_42 : decode cX4_number 42 = .ok (.aload_n 0, 1) := dk_42 (dk_at dksX4_number_1 18 rfl rfl)
theorem dX4_number_43 : decode cX4_number 43 = .ok (.iconst 2, 1) := dk_5 (dk_at dksX4_number_1 19 rfl rfl)
theorem dX4_number_44 : decode cX4_number 44 = .ok (.invokevirtual 177, 3) := dk_182 0 177 (dk_at dksX4_number_1 20 rfl rfl)
theorem dX4_number_47 : decode cX4_number 47 = .ok (.aload_n 0, 1) := dk_42 (dk_at dksX4_number_1 23 rfl rfl)
theorem dX4_number_48 : decode cX4_number 48 = .ok (.invokevirtual 154, 3) := dk_182 0 154 (dk_at dksX4_number_2 0 rfl rfl)
theorem dX4_number_51 : decode cX4_number 51 = .ok (.ifCond .ne 5, 3) := dk_154 0 5 (dk_at dksX4_number_2 3 rfl rfl)
theorem dX4_number_54 : decode cX4_number 54 = .ok (.iconst 0, 1) := dk_3 (dk_at dksX4_number_2 6 rfl rfl)
theorem dX4_number_55 : decode cX4_number 55 = .ok (.ireturn, 1) := dk_172 (dk_at dksX4_number_2 7 rfl rfl)
theorem dX4_number_56 : decode cX4_number 56 = .ok (.aload_n 0, 1) := dk_42 (dk_at dksX4_number_2 8 rfl rfl)
theorem dX4_number_57 : decode cX4_number 57 = .ok (.getfield 141, 3) := dk_180 0 141 (dk_at dksX4_number_2 9 rfl rfl)
theorem dX4_number_60 : decode cX4_number 60 = .ok (.istore_n 3, 1) := dk_62 (dk_at dksX4_number_2 12 rfl rfl)
theorem dX4_number_61 : decode cX4_number 61 = .ok (.aload_n 0, 1) := dk_42 (dk_at dksX4_number_2 13 rfl rfl)
theorem dX4_number_62 : decode cX4_number 62 = .ok (.invokevirtual 171, 3) := dk_182 0 171 (dk_at dksX4_number_2 14 rfl rfl)
theorem dX4_number_65 : decode cX4_number 65 = .ok (.iload_n 3, 1) := dk_29 (dk_at dksX4_number_2 17 rfl rfl)
theorem dX4_number_66 : decode cX4_number 66 = .ok (.ireturn, 1) := dk_172 (dk_at dksX4_number_2 18 rfl rfl)
abbrev cX4_readNext : ByteArray := prog_19_method_34_code
def yX4_readNext : MethodName := ⟨RX4, "readNext", "()V"⟩
def dkwX4_readNext_15 : List UInt8 := [182, 0, 174, 153, 0, 11, 42, 3, 182, 0, 253, 167, 0, 11, 42, 182, 0, 171, 42, 182, 1, 1, 177]
abbrev dktX4_readNext_15 : List UInt8 := dkwX4_readNext_15 ++ []
def dkwX4_readNext_14 : List UInt8 := [167, 0, 45, 42, 18, 235, 182, 0, 174, 153, 0, 11, 42, 4, 182, 0, 253, 167, 0, 28, 42, 18, 237]
abbrev dktX4_readNext_14 : List UInt8 := dkwX4_readNext_14 ++ dktX4_readNext_15
def dkwX4_readNext_13 : List UInt8 := [153, 0, 10, 42, 182, 0, 247, 167, 0, 61, 42, 18, 245, 182, 0, 174, 153, 0, 10, 42, 182, 0, 250]
abbrev dktX4_readNext_13 : List UInt8 := dkwX4_readNext_13 ++ dktX4_readNext_14
def dkwX4_readNext_12 : List UInt8 := [46, 42, 182, 0, 154, 153, 0, 7, 4, 167, 0, 4, 3, 96, 79, 167, 0, 77, 42, 18, 243, 182, 0, 174]
abbrev dktX4_readNext_12 : List UInt8 := dkwX4_readNext_12 ++ dktX4_readNext_13
def dkwX4_readNext_11 : List UInt8 := [153, 0, 42, 42, 16, 8, 5, 42, 180, 0, 31, 3, 46, 104, 96, 182, 0, 193, 42, 180, 0, 31, 3, 92]
abbrev dktX4_readNext_11 : List UInt8 := dkwX4_readNext_11 ++ dktX4_readNext_12
def dkwX4_readNext_10 : List UInt8 := [29, 153, 0, 8, 42, 6, 182, 0, 177, 42, 182, 0, 154, 154, 0, 4, 177, 42, 18, 241, 182, 0, 174]
abbrev dktX4_readNext_10 : List UInt8 := dkwX4_readNext_10 ++ dktX4_readNext_11
def dkwX4_readNext_9 : List UInt8 := [182, 0, 167, 153, 0, 19, 42, 180, 0, 31, 28, 7, 96, 46, 7, 160, 0, 7, 4, 167, 0, 4, 3, 62]
abbrev dktX4_readNext_9 : List UInt8 := dkwX4_readNext_9 ++ dktX4_readNext_10
def dkwX4_readNext_8 : List UInt8 := [18, 237, 182, 0, 167, 153, 0, 16, 42, 180, 0, 31, 28, 6, 96, 46, 16, 6, 159, 0, 24, 42, 18, 239]
abbrev dktX4_readNext_8 : List UInt8 := dkwX4_readNext_8 ++ dktX4_readNext_9
def dkwX4_readNext_7 : List UInt8 := [160, 0, 7, 4, 167, 0, 4, 3, 62, 29, 154, 0, 55, 42, 18, 235, 182, 0, 167, 154, 0, 12, 42]
abbrev dktX4_readNext_7 : List UInt8 := dkwX4_readNext_7 ++ dktX4_readNext_8
def dkwX4_readNext_6 : List UInt8 := [46, 7, 159, 0, 23, 42, 18, 245, 182, 0, 167, 153, 0, 18, 42, 180, 0, 31, 5, 46, 16, 8]
abbrev dktX4_readNext_6 : List UInt8 := dkwX4_readNext_6 ++ dktX4_readNext_7
def dkwX4_readNext_5 : List UInt8 := [180, 0, 31, 3, 46, 16, 12, 159, 0, 42, 42, 18, 243, 182, 0, 167, 153, 0, 13, 42, 180, 0, 31, 4]
abbrev dktX4_readNext_5 : List UInt8 := dkwX4_readNext_5 ++ dktX4_readNext_6
def dkwX4_readNext_4 : List UInt8 := [154, 0, 8, 16, 56, 167, 0, 7, 42, 182, 0, 207, 61, 42, 18, 241, 182, 0, 167, 153, 0, 14, 42]
abbrev dktX4_readNext_4 : List UInt8 := dkwX4_readNext_4 ++ dktX4_readNext_5
def dkwX4_readNext_3 : List UInt8 := [153, 0, 17, 42, 180, 0, 31, 5, 46, 154, 0, 8, 42, 5, 182, 0, 177, 42, 180, 0, 31, 5, 46]
abbrev dktX4_readNext_3 : List UInt8 := dkwX4_readNext_3 ++ dktX4_readNext_4
def dkwX4_readNext_2 : List UInt8 := [18, 243, 182, 0, 167, 154, 0, 17, 42, 18, 245, 182, 0, 167, 154, 0, 8, 42, 4, 182, 0, 177, 27]
abbrev dktX4_readNext_2 : List UInt8 := dkwX4_readNext_2 ++ dktX4_readNext_3
def dkwX4_readNext_1 : List UInt8 := [153, 0, 7, 4, 167, 0, 4, 3, 60, 27, 154, 0, 35, 42, 18, 241, 182, 0, 167, 154, 0, 26, 42]
abbrev dktX4_readNext_1 : List UInt8 := dkwX4_readNext_1 ++ dktX4_readNext_2
def dkwX4_readNext_0 : List UInt8 := [42, 18, 235, 182, 0, 167, 154, 0, 21, 42, 18, 237, 182, 0, 167, 154, 0, 12, 42, 18, 239, 182, 0, 167]
abbrev dktX4_readNext_0 : List UInt8 := dkwX4_readNext_0 ++ dktX4_readNext_1
theorem dksX4_readNext_0 : cX4_readNext.data.toList.drop 0 = dktX4_readNext_0 := by decide +kernel
theorem dksX4_readNext_1 : cX4_readNext.data.toList.drop 24 = dktX4_readNext_1 := dk_seg dksX4_readNext_0 24 rfl rfl
theorem dksX4_readNext_2 : cX4_readNext.data.toList.drop 47 = dktX4_readNext_2 := dk_seg dksX4_readNext_1 23 rfl rfl
theorem dksX4_readNext_3 : cX4_readNext.data.toList.drop 70 = dktX4_readNext_3 := dk_seg dksX4_readNext_2 23 rfl rfl
theorem dksX4_readNext_4 : cX4_readNext.data.toList.drop 93 = dktX4_readNext_4 := dk_seg dksX4_readNext_3 23 rfl rfl
theorem dksX4_readNext_5 : cX4_readNext.data.toList.drop 116 = dktX4_readNext_5 := dk_seg dksX4_readNext_4 23 rfl rfl
theorem dksX4_readNext_6 : cX4_readNext.data.toList.drop 140 = dktX4_readNext_6 := dk_seg dksX4_readNext_5 24 rfl rfl
theorem dksX4_readNext_7 : cX4_readNext.data.toList.drop 162 = dktX4_readNext_7 := dk_seg dksX4_readNext_6 22 rfl rfl
theorem dksX4_readNext_8 : cX4_readNext.data.toList.drop 185 = dktX4_readNext_8 := dk_seg dksX4_readNext_7 23 rfl rfl
theorem dksX4_readNext_9 : cX4_readNext.data.toList.drop 209 = dktX4_readNext_9 := dk_seg dksX4_readNext_8 24 rfl rfl
theorem dksX4_readNext_10 : cX4_readNext.data.toList.drop 233 = dktX4_readNext_10 := dk_seg dksX4_readNext_9 24 rfl rfl
theorem dksX4_readNext_11 : cX4_readNext.data.toList.drop 256 = dktX4_readNext_11 := dk_seg dksX4_readNext_10 23 rfl rfl
theorem dksX4_readNext_12 : cX4_readNext.data.toList.drop 280 = dktX4_readNext_12 := dk_seg dksX4_readNext_11 24 rfl rfl
theorem dksX4_readNext_13 : cX4_readNext.data.toList.drop 304 = dktX4_readNext_13 := dk_seg dksX4_readNext_12 24 rfl rfl
theorem dksX4_readNext_14 : cX4_readNext.data.toList.drop 327 = dktX4_readNext_14 := dk_seg dksX4_readNext_13 23 rfl rfl
theorem dksX4_readNext_15 : cX4_readNext.data.toList.drop 350 = dktX4_readNext_15 := dk_seg dksX4_readNext_14 23 rfl rfl
theorem dX4_readNext_0 : decode cX4_readNext 0 = .ok (.aload_n 0, 1) := dk_42 (dk_at dksX4_readNext_0 0 rfl rfl)
theorem dX4_readNext_1 : decode cX4_readNext 1 = .ok (.ldc 235, 2) := dk_18 235 (dk_at dksX4_readNext_0 1 rfl rfl)
theorem dX4_readNext_3 : decode cX4_readNext 3 = .ok (.invokevirtual 167, 3) := dk_182 0 167 (dk_at dksX4_readNext_0 3 rfl rfl)
theorem dX4_readNext_6 : decode cX4_readNext 6 = .ok (.ifCond .ne 21, 3) := dk_154 0 21 (dk_at dksX4_readNext_0 6 rfl rfl)
theorem dX4_readNext_9 : decode cX4_readNext 9 = .ok (.aload_n 0, 1) := dk_42 (dk_at dksX4_readNext_0 9 rfl rfl)
theorem dX4_readNext_10 : decode cX4_readNext 10 = .ok (.ldc 237, 2) := dk_18 237 (dk_at dksX4_readNext_0 10 rfl rfl)
theorem dX4_readNext_12 : decode cX4_readNext 12 = .ok (.invokevirtual 167, 3) := dk_182 0 167 (dk_at dksX4_readNext_0 12 rfl rfl)
theorem dX4_readNext_15 : decode cX4_readNext 15 = .ok (.ifCond .ne 12, 3) := dk_154 0 12 (dk_at dksX4_readNext_0 15 rfl rfl)
theorem dX4_readNext_18 : decode cX4_readNext 18 = .ok (.aload_n 0, 1) := dk_42 (dk_at dksX4_readNext_0 18 rfl rfl)
theorem dX4_readNext_19 : decode cX4_readNext 19 = .ok (.ldc 239, 2) := dk_18 239 (dk_at dksX4_readNext_0 19 rfl rfl)
theorem dX4_readNext_21 : decode cX4_readNext 21 = .ok (.invokevirtual 167, 3) := dk_182 0 167 (dk_at dksX4_readNext_0 21 rfl rfl)
theorem dX4_readNext_24 : decode cX4_readNext 24 = .ok (.ifCond .eq 7, 3) := dk_153 0 7 (dk_at dksX4_readNext_1 0 rfl rfl)
theorem dX4_readNext_27 : decode cX4_readNext 27 = .ok (.iconst 1, 1) := dk_4 (dk_at dksX4_readNext_1 3 rfl rfl)
theorem dX4_readNext_28 : decode cX4_readNext 28 = .ok (.goto 4, 3) := dk_167 0 4 (dk_at dksX4_readNext_1 4 rfl rfl)
theorem dX4_readNext_31 : decode cX4_readNext 31 = .ok (.iconst 0, 1) := dk_3 (dk_at dksX4_readNext_1 7 rfl rfl)
theorem dX4_readNext_32 : decode cX4_readNext 32 = .ok (.istore_n 1, 1) := dk_60 (dk_at dksX4_readNext_1 8 rfl rfl)
theorem dX4_readNext_33 : decode cX4_readNext 33 = .ok (.iload_n 1, 1) := dk_27 (dk_at dksX4_readNext_1 9 rfl rfl)
theorem dX4_readNext_34 : decode cX4_readNext 34 = .ok (.ifCond .ne 35, 3) := dk_154 0 35 (dk_at dksX4_readNext_1 10 rfl rfl)
theorem dX4_readNext_37 : decode cX4_readNext 37 = .ok (.aload_n 0, 1) := dk_42 (dk_at dksX4_readNext_1 13 rfl rfl)
theorem dX4_readNext_38 : decode cX4_readNext 38 = .ok (.ldc 241, 2) := dk_18 241 (dk_at dksX4_readNext_1 14 rfl rfl)
theorem dX4_readNext_40 : decode cX4_readNext 40 = .ok (.invokevirtual 167, 3) := dk_182 0 167 (dk_at dksX4_readNext_1 16 rfl rfl)
theorem dX4_readNext_43 : decode cX4_readNext 43 = .ok (.ifCond .ne 26, 3) := dk_154 0 26 (dk_at dksX4_readNext_1 19 rfl rfl)
theorem dX4_readNext_46 : decode cX4_readNext 46 = .ok (.aload_n 0, 1) := dk_42 (dk_at dksX4_readNext_1 22 rfl rfl)
theorem dX4_readNext_47 : decode cX4_readNext 47 = .ok (.ldc 243, 2) := dk_18 243 (dk_at dksX4_readNext_2 0 rfl rfl)
theorem dX4_readNext_49 : decode cX4_readNext 49 = .ok (.invokevirtual 167, 3) := dk_182 0 167 (dk_at dksX4_readNext_2 2 rfl rfl)
theorem dX4_readNext_52 : decode cX4_readNext 52 = .ok (.ifCond .ne 17, 3) := dk_154 0 17 (dk_at dksX4_readNext_2 5 rfl rfl)
theorem dX4_readNext_55 : decode cX4_readNext 55 = .ok (.aload_n 0, 1) := dk_42 (dk_at dksX4_readNext_2 8 rfl rfl)
theorem dX4_readNext_56 : decode cX4_readNext 56 = .ok (.ldc 245, 2) := dk_18 245 (dk_at dksX4_readNext_2 9 rfl rfl)
theorem dX4_readNext_58 : decode cX4_readNext 58 = .ok (.invokevirtual 167, 3) := dk_182 0 167 (dk_at dksX4_readNext_2 11 rfl rfl)
theorem dX4_readNext_61 : decode cX4_readNext 61 = .ok (.ifCond .ne 8, 3) := dk_154 0 8 (dk_at dksX4_readNext_2 14 rfl rfl)
theorem dX4_readNext_64 : decode cX4_readNext 64 = .ok (.aload_n 0, 1) := dk_42 (dk_at dksX4_readNext_2 17 rfl rfl)
theorem dX4_readNext_65 : decode cX4_readNext 65 = .ok (.iconst 1, 1) := dk_4 (dk_at dksX4_readNext_2 18 rfl rfl)
theorem dX4_readNext_66 : decode cX4_readNext 66 = .ok (.invokevirtual 177, 3) := dk_182 0 177 (dk_at dksX4_readNext_2 19 rfl rfl)
theorem dX4_readNext_69 : decode cX4_readNext 69 = .ok (.iload_n 1, 1) := dk_27 (dk_at dksX4_readNext_2 22 rfl rfl)
theorem dX4_readNext_70 : decode cX4_readNext 70 = .ok (.ifCond .eq 17, 3) := dk_153 0 17 (dk_at dksX4_readNext_3 0 rfl rfl)
theorem dX4_readNext_73 : decode cX4_readNext 73 = .ok (.aload_n 0, 1) := dk_42 (dk_at dksX4_readNext_3 3 rfl rfl)
theorem dX4_readNext_74 : decode cX4_readNext 74 = .ok (.getfield 31, 3) := dk_180 0 31 (dk_at dksX4_readNext_3 4 rfl rfl)
theorem dX4_readNext_77 : decode cX4_readNext 77 = .ok (.iconst 2, 1) := dk_5 (dk_at dksX4_readNext_3 7 rfl rfl)
theorem dX4_readNext_78 : decode cX4_readNext 78 = .ok (.iaload, 1) := dk_46 (dk_at dksX4_readNext_3 8 rfl rfl)
theorem dX4_readNext_79 : decode cX4_readNext 79 = .ok (.ifCond .ne 8, 3) := dk_154 0 8 (dk_at dksX4_readNext_3 9 rfl rfl)
theorem dX4_readNext_82 : decode cX4_readNext 82 = .ok (.aload_n 0, 1) := dk_42 (dk_at dksX4_readNext_3 12 rfl rfl)
theorem dX4_readNext_83 : decode cX4_readNext 83 = .ok (.iconst 2, 1) := dk_5 (dk_at dksX4_readNext_3 13 rfl rfl)
theorem dX4_readNext_84 : decode cX4_readNext 84 = .ok (.invokevirtual 177, 3) := dk_182 0 177 (dk_at dksX4_readNext_3 14 rfl rfl)
theorem dX4_readNext_87 : decode cX4_readNext 87 = .ok (.aload_n 0, 1) := dk_42 (dk_at dksX4_readNext_3 17 rfl rfl)
theorem dX4_readNext_88 : decode cX4_readNext 88 = .ok (.getfield 31, 3) := dk_180 0 31 (dk_at dksX4_readNext_3 18 rfl rfl)
theorem dX4_readNext_91 : decode cX4_readNext 91 = .ok (.iconst 2, 1) := dk_5 (dk_at dksX4_readNext_3 21 rfl rfl)
theorem dX4_readNext_92 : decode cX4_readNext 92 = .ok (.iaload, 1) := dk_46 (dk_at dksX4_readNext_3 22 rfl rfl)
theorem dX4_readNext_93 : decode cX4_readNext 93 = .ok (.ifCond .ne 8, 3) := dk_154 0 8 (dk_at dksX4_readNext_4 0 rfl rfl)
theorem dX4_readNext_96 : decode cX4_readNext 96 = .ok (.bipush 56, 2) := dk_16 56 (dk_at dksX4_readNext_4 3 rfl rfl)
theorem dX4_readNext_98 : decode cX4_readNext 98 = .ok (.goto 7, 3) := dk_167 0 7 (dk_at dksX4_readNext_4 5 rfl rfl)
theorem dX4_readNext_101 : decode cX4_readNext 101 = .ok (.aload_n 0, 1) := dk_42 (dk_at dksX4_readNext_4 8 rfl rfl)
theorem dX4_readNext_102 : decode cX4_readNext 102 = .ok (.invokevirtual 207, 3) := dk_182 0 207 (dk_at dksX4_readNext_4 9 rfl rfl)
theorem dX4_readNext_105 : decode cX4_readNext 105 = .ok (.istore_n 2, 1) := dk_61 (dk_at dksX4_readNext_4 12 rfl rfl)
theorem dX4_readNext_106 : decode cX4_readNext 106 = .ok (.aload_n 0, 1) := dk_42 (dk_at dksX4_readNext_4 13 rfl rfl)
theorem dX4_readNext_107 : decode cX4_readNext 107 = .ok (.ldc 241, 2) := dk_18 241 (dk_at dksX4_readNext_4 14 rfl rfl)
theorem dX4_readNext_109 : decode cX4_readNext 109 = .ok (.invokevirtual 167, 3) := dk_182 0 167 (dk_at dksX4_readNext_4 16 rfl rfl)
theorem dX4_readNext_112 : decode cX4_readNext 112 = .ok (.ifCond .eq 14, 3) := dk_153 0 14 (dk_at dksX4_readNext_4 19 rfl rfl)
theorem dX4_readNext_115 : decode cX4_readNext 115 = .ok (.aload_n 0, 1) := dk_42 (dk_at dksX4_readNext_4 22 rfl rfl)
theorem dX4_readNext_116 : decode cX4_readNext 116 = .ok (.getfield 31, 3) := dk_180 0 31 (dk_at dksX4_readNext_5 0 rfl rfl)
theorem dX4_readNext_119 : decode cX4_readNext 119 = .ok (.iconst 0, 1) := dk_3 (dk_at dksX4_readNext_5 3 rfl rfl)
theorem dX4_readNext_120 : decode cX4_readNext 120 = .ok (.iaload, 1) := dk_46 (dk_at dksX4_readNext_5 4 rfl rfl)
theorem dX4_readNext_121 : decode cX4_readNext 121 = .ok (.bipush 12, 2) := dk_16 12 (dk_at dksX4_readNext_5 5 rfl rfl)
theorem dX4_readNext_123 : decode cX4_readNext 123 = .ok (.if_icmp .eq 42, 3) := dk_159 0 42 (dk_at dksX4_readNext_5 7 rfl rfl)
theorem dX4_readNext_126 : decode cX4_readNext 126 = .ok (.aload_n 0, 1) := dk_42 (dk_at dksX4_readNext_5 10 rfl rfl)
theorem dX4_readNext_127 : decode cX4_readNext 127 = .ok (.ldc 243, 2) := dk_18 243 (dk_at dksX4_readNext_5 11 rfl rfl)
theorem dX4_readNext_129 : decode cX4_readNext 129 = .ok (.invokevirtual 167, 3) := dk_182 0 167 (dk_at dksX4_readNext_5 13 rfl rfl)
theorem dX4_readNext_132 : decode cX4_readNext 132 = .ok (.ifCond .eq 13, 3) := dk_153 0 13 (dk_at dksX4_readNext_5 16 rfl rfl)
theorem dX4_readNext_135 : decode cX4_readNext 135 = .ok (.aload_n 0, 1) := dk_42 (dk_at dksX4_readNext_5 19 rfl rfl)
theorem dX4_readNext_136 : decode cX4_readNext 136 = .ok (.getfield 31, 3) := dk_180 0 31 (dk_at dksX4_readNext_5 20 rfl rfl)
theorem dX4_readNext_139 : decode cX4_readNext 139 = .ok (.iconst 1, 1) := dk_4 (dk_at dksX4_readNext_5 23 rfl rfl)
theorem dX4_readNext_140 : decode cX4_readNext 140 = .ok (.iaload, 1) := dk_46 (dk_at dksX4_readNext_6 0 rfl rfl)
theorem dX4_readNext_141 : decode cX4_readNext 141 = .ok (.iconst 4, 1) := dk_7 (dk_at dksX4_readNext_6 1 rfl rfl)
theorem dX4_readNext_142 : decode cX4_readNext 142 = .ok (.if_icmp .eq 23, 3) := dk_159 0 23 (dk_at dksX4_readNext_6 2 rfl rfl)
theorem dX4_readNext_145 : decode cX4_readNext 145 = .ok (.aload_n 0, 1) := dk_42 (dk_at dksX4_readNext_6 5 rfl rfl)
theorem dX4_readNext_146 : decode cX4_readNext 146 = .ok (.ldc 245, 2) := dk_18 245 (dk_at dksX4_readNext_6 6 rfl rfl)
theorem dX4_readNext_148 : decode cX4_readNext 148 = .ok (.invokevirtual 167, 3) := dk_182 0 167 (dk_at dksX4_readNext_6 8 rfl rfl)
theorem dX4_readNext_151 : decode cX4_readNext 151 = .ok (.ifCond .eq 18, 3) := dk_153 0 18 (dk_at dksX4_readNext_6 11 rfl rfl)
theorem dX4_readNext_154 : decode cX4_readNext 154 = .ok (.aload_n 0, 1) := dk_42 (dk_at dksX4_readNext_6 14 rfl rfl)
theorem dX4_readNext_155 : decode cX4_readNext 155 = .ok (.getfield 31, 3) := dk_180 0 31 (dk_at dksX4_readNext_6 15 rfl rfl)
theorem dX4_readNext_158 : decode cX4_readNext 158 = .ok (.iconst 2, 1) := dk_5 (dk_at dksX4_readNext_6 18 rfl rfl)
theorem dX4_readNext_159 : decode cX4_readNext 159 = .ok (.iaload, 1) := dk_46 (dk_at dksX4_readNext_6 19 rfl rfl)
theorem dX4_readNext_160 : decode cX4_readNext 160 = .ok (.bipush 8, 2) := dk_16 8 (dk_at dksX4_readNext_6 20 rfl rfl)
theorem dX4_readNext_162 : decode cX4_readNext 162 = .ok (.if_icmp .ne 7, 3) := dk_160 0 7 (dk_at dksX4_readNext_7 0 rfl rfl)
theorem dX4_readNext_165 : decode cX4_readNext 165 = .ok (.iconst 1, 1) := dk_4 (dk_at dksX4_readNext_7 3 rfl rfl)
theorem dX4_readNext_166 : decode cX4_readNext 166 = .ok (.goto 4, 3) := dk_167 0 4 (dk_at dksX4_readNext_7 4 rfl rfl)
theorem dX4_readNext_169 : decode cX4_readNext 169 = .ok (.iconst 0, 1) := dk_3 (dk_at dksX4_readNext_7 7 rfl rfl)
theorem dX4_readNext_170 : decode cX4_readNext 170 = .ok (.istore_n 3, 1) := dk_62 (dk_at dksX4_readNext_7 8 rfl rfl)
theorem dX4_readNext_171 : decode cX4_readNext 171 = .ok (.iload_n 3, 1) := dk_29 (dk_at dksX4_readNext_7 9 rfl rfl)
theorem dX4_readNext_172 : decode cX4_readNext 172 = .ok (.ifCond .ne 55, 3) := dk_154 0 55 (dk_at dksX4_readNext_7 10 rfl rfl)
theorem dX4_readNext_175 : decode cX4_readNext 175 = .ok (.aload_n 0, 1) := dk_42 (dk_at dksX4_readNext_7 13 rfl rfl)
theorem dX4_readNext_176 : decode cX4_readNext 176 = .ok (.ldc 235, 2) := dk_18 235 (dk_at dksX4_readNext_7 14 rfl rfl)
theorem dX4_readNext_178 : decode cX4_readNext 178 = .ok (.invokevirtual 167, 3) := dk_182 0 167 (dk_at dksX4_readNext_7 16 rfl rfl)
theorem dX4_readNext_181 : decode cX4_readNext 181 = .ok (.ifCond .ne 12, 3) := dk_154 0 12 (dk_at dksX4_readNext_7 19 rfl rfl)
theorem dX4_readNext_184 : decode cX4_readNext 184 = .ok (.aload_n 0, 1) := dk_42 (dk_at dksX4_readNext_7 22 rfl rfl)
theorem dX4_readNext_185 : decode cX4_readNext 185 = .ok (.ldc 237, 2) := dk_18 237 (dk_at dksX4_readNext_8 0 rfl rfl)
theorem dX4_readNext_187 : decode cX4_readNext 187 = .ok (.invokevirtual 167, 3) := dk_182 0 167 (dk_at dksX4_readNext_8 2 rfl rfl)
theorem dX4_readNext_190 : decode cX4_readNext 190 = .ok (.ifCond .eq 16, 3) := dk_153 0 16 (dk_at dksX4_readNext_8 5 rfl rfl)
theorem dX4_readNext_193 : decode cX4_readNext 193 = .ok (.aload_n 0, 1) := dk_42 (dk_at dksX4_readNext_8 8 rfl rfl)
theorem dX4_readNext_194 : decode cX4_readNext 194 = .ok (.getfield 31, 3) := dk_180 0 31 (dk_at dksX4_readNext_8 9 rfl rfl)
theorem dX4_readNext_197 : decode cX4_readNext 197 = .ok (.iload_n 2, 1) := dk_28 (dk_at dksX4_readNext_8 12 rfl rfl)
theorem dX4_readNext_198 : decode cX4_readNext 198 = .ok (.iconst 3, 1) := dk_6 (dk_at dksX4_readNext_8 13 rfl rfl)
theorem dX4_readNext_199 : decode cX4_readNext 199 = .ok (.iadd, 1) := dk_96 (dk_at dksX4_readNext_8 14 rfl rfl)
theorem dX4_readNext_200 : decode cX4_readNext 200 = .ok (.iaload, 1) := dk_46 (dk_at dksX4_readNext_8 15 rfl rfl)
theorem dX4_readNext_201 : decode cX4_readNext 201 = .ok (.bipush 6, 2) := dk_16 6 (dk_at dksX4_readNext_8 16 rfl rfl)
theorem dX4_readNext_203 : decode cX4_readNext 203 = .ok (.if_icmp .eq 24, 3) := dk_159 0 24 (dk_at dksX4_readNext_8 18 rfl rfl)
theorem dX4_readNext_206 : decode cX4_readNext 206 = .ok (.aload_n 0, 1) := dk_42 (dk_at dksX4_readNext_8 21 rfl rfl)
theorem dX4_readNext_207 : decode cX4_readNext 207 = .ok (.ldc 239, 2) := dk_18 239 (dk_at dksX4_readNext_8 22 rfl rfl)
theorem dX4_readNext_209 : decode cX4_readNext 209 = .ok (.invokevirtual 167, 3) := dk_182 0 167 (dk_at dksX4_readNext_9 0 rfl rfl)
theorem dX4_readNext_212 : decode cX4_readNext 212 = .ok (.ifCond .eq 19, 3) := dk_153 0 19 (dk_at dksX4_readNext_9 3 rfl rfl)
theorem dX4_readNext_215 : decode cX4_readNext 215 = .ok (.aload_n 0, 1) := dk_42 (dk_at dksX4_readNext_9 6 rfl rfl)
theorem dX4_readNext_216 : decode cX4_readNext 216 = .ok (.getfield 31, 3) := dk_180 0 31 (dk_at dksX4_readNext_9 7 rfl rfl)
theorem dX4_readNext_219 : decode cX4_readNext 219 = .ok (.iload_n 2, 1) := dk_28 (dk_at dksX4_readNext_9 10 rfl rfl)
theorem dX4_readNext_220 : decode cX4_readNext 220 = .ok (.iconst 4, 1) := dk_7 (dk_at dksX4_readNext_9 11 rfl rfl)
theorem dX4_readNext_221 : decode cX4_readNext 221 = .ok (.iadd, 1) := dk_96 (dk_at dksX4_readNext_9 12 rfl rfl)
theorem dX4_readNext_222 : decode cX4_readNext 222 = .ok (.iaload, 1) := dk_46 (dk_at dksX4_readNext_9 13 rfl rfl)
theorem dX4_readNext_223 : decode cX4_readNext 223 = .ok (.iconst 4, 1) := dk_7 (dk_at dksX4_readNext_9 14 rfl rfl)
theorem dX4_readNext_224 : decode cX4_readNext 224 = .ok (.if_icmp .ne 7, 3) := dk_160 0 7 (dk_at dksX4_readNext_9 15 rfl rfl)
theorem dX4_readNext_227 : decode cX4_readNext 227 = .ok (.iconst 1, 1) := dk_4 (dk_at dksX4_readNext_9 18 rfl rfl)
theorem dX4_readNext_228 : decode cX4_readNext 228 = .ok (.goto 4, 3) := dk_167 0 4 (dk_at dksX4_readNext_9 19 rfl rfl)
theorem dX4_readNext_231 : decode cX4_readNext 231 = .ok (.iconst 0, 1) := dk_3 (dk_at dksX4_readNext_9 22 rfl rfl)
theorem dX4_readNext_232 : decode cX4_readNext 232 = .ok (.istore_n 3, 1) := dk_62 (dk_at dksX4_readNext_9 23 rfl rfl)
theorem dX4_readNext_233 : decode cX4_readNext 233 = .ok (.iload_n 3, 1) := dk_29 (dk_at dksX4_readNext_10 0 rfl rfl)
theorem dX4_readNext_234 : decode cX4_readNext 234 = .ok (.ifCond .eq 8, 3) := dk_153 0 8 (dk_at dksX4_readNext_10 1 rfl rfl)
theorem dX4_readNext_237 : decode cX4_readNext 237 = .ok (.aload_n 0, 1) := dk_42 (dk_at dksX4_readNext_10 4 rfl rfl)
theorem dX4_readNext_238 : decode cX4_readNext 238 = .ok (.iconst 3, 1) := dk_6 (dk_at dksX4_readNext_10 5 rfl rfl)
theorem dX4_readNext_239 : decode cX4_readNext 239 = .ok (.invokevirtual 177, 3) := dk_182 0 177 (dk_at dksX4_readNext_10 6 rfl rfl)
theorem dX4_readNext_242 : decode cX4_readNext 242 = .ok (.aload_n 0, 1) := dk_42 (dk_at dksX4_readNext_10 9 rfl rfl)
theorem dX4_readNext_243 : decode cX4_readNext 243 = .ok (.invokevirtual 154, 3) := dk_182 0 154 (dk_at dksX4_readNext_10 10 rfl rfl)
theorem dX4_readNext_246 : decode cX4_readNext 246 = .ok (.ifCond .ne 4, 3) := dk_154 0 4 (dk_at dksX4_readNext_10 13 rfl rfl)
theorem dX4_readNext_249 : decode cX4_readNext 249 = .ok (.return_, 1) := dk_177 (dk_at dksX4_readNext_10 16 rfl rfl)
theorem dX4_readNext_250 : decode cX4_readNext 250 = .ok (.aload_n 0, 1) := dk_42 (dk_at dksX4_readNext_10 17 rfl rfl)
theorem dX4_readNext_251 : decode cX4_readNext 251 = .ok (.ldc 241, 2) := dk_18 241 (dk_at dksX4_readNext_10 18 rfl rfl)
theorem dX4_readNext_253 : decode cX4_readNext 253 = .ok (.invokevirtual 174, 3) := dk_182 0 174 (dk_at dksX4_readNext_10 20 rfl rfl)
theorem dX4_readNext_256 : decode cX4_readNext 256 = .ok (.ifCond .eq 42, 3) := dk_153 0 42 (dk_at dksX4_readNext_11 0 rfl rfl)
theorem dX4_readNext_259 : decode cX4_readNext 259 = .ok (.aload_n 0, 1) := dk_42 (dk_at dksX4_readNext_11 3 rfl rfl)
theorem dX4_readNext_260 : decode cX4_readNext 260 = .ok (.bipush 8, 2) := dk_16 8 (dk_at dksX4_readNext_11 4 rfl rfl)
theorem dX4_readNext_262 : decode cX4_readNext 262 = .ok (.iconst 2, 1) := dk_5 (dk_at dksX4_readNext_11 6 rfl rfl)
theorem dX4_readNext_263 : decode cX4_readNext 263 = .ok (.aload_n 0, 1) := dk_42 (dk_at dksX4_readNext_11 7 rfl rfl)
theorem dX4_readNext_264 : decode cX4_readNext 264 = .ok (.getfield 31, 3) := dk_180 0 31 (dk_at dksX4_readNext_11 8 rfl rfl)
theorem dX4_readNext_267 : decode cX4_readNext 267 = .ok (.iconst 0, 1) := dk_3 (dk_at dksX4_readNext_11 11 rfl rfl)
theorem dX4_readNext_268 : decode cX4_readNext 268 = .ok (.iaload, 1) := dk_46 (dk_at dksX4_readNext_11 12 rfl rfl)
theorem dX4_readNext_269 : decode cX4_readNext 269 = .ok (.imul, 1) := dk_104 (dk_at dksX4_readNext_11 13 rfl rfl)
theorem dX4_readNext_270 : decode cX4_readNext 270 = .ok (.iadd, 1) := dk_96 (dk_at dksX4_readNext_11 14 rfl rfl)
theorem dX4_readNext_271 : decode cX4_readNext 271 = .ok (.invokevirtual 193, 3) := dk_182 0 193 (dk_at dksX4_readNext_11 15 rfl rfl)
theorem dX4_readNext_274 : decode cX4_readNext 274 = .ok (.aload_n 0, 1) := dk_42 (dk_at dksX4_readNext_11 18 rfl rfl)
theorem dX4_readNext_275 : decode cX4_readNext 275 = .ok (.getfield 31, 3) := dk_180 0 31 (dk_at dksX4_readNext_11 19 rfl rfl)
theorem dX4_readNext_278 : decode cX4_readNext 278 = .ok (.iconst 0, 1) := dk_3 (dk_at dksX4_readNext_11 22 rfl rfl)
theorem dX4_readNext_279 : decode cX4_readNext 279 = .ok (.dup2, 1) := dk_92 (dk_at dksX4_readNext_11 23 rfl rfl)
theorem dX4_readNext_280 : decode cX4_readNext 280 = .ok (.iaload, 1) := dk_46 (dk_at dksX4_readNext_12 0 rfl rfl)
theorem dX4_readNext_281 : decode cX4_readNext 281 = .ok (.aload_n 0, 1) := dk_42 (dk_at dksX4_readNext_12 1 rfl rfl)
theorem dX4_readNext_282 : decode cX4_readNext 282 = .ok (.invokevirtual 154, 3) := dk_182 0 154 (dk_at dksX4_readNext_12 2 rfl rfl)
theorem dX4_readNext_285 : decode cX4_readNext 285 = .ok (.ifCond .eq 7, 3) := dk_153 0 7 (dk_at dksX4_readNext_12 5 rfl rfl)
theorem dX4_readNext_288 : decode cX4_readNext 288 = .ok (.iconst 1, 1) := dk_4 (dk_at dksX4_readNext_12 8 rfl rfl)
theorem dX4_readNext_289 : decode cX4_readNext 289 = .ok (.goto 4, 3) := dk_167 0 4 (dk_at dksX4_readNext_12 9 rfl rfl)
theorem dX4_readNext_292 : decode cX4_readNext 292 = .ok (.iconst 0, 1) := dk_3 (dk_at dksX4_readNext_12 12 rfl rfl)
theorem dX4_readNext_293 : decode cX4_readNext 293 = .ok (.iadd, 1) := dk_96 (dk_at dksX4_readNext_12 13 rfl rfl)
theorem dX4_readNext_294 : decode cX4_readNext 294 = .ok (.iastore, 1) := dk_79 (dk_at dksX4_readNext_12 14 rfl rfl)
theorem dX4_readNext_295 : decode cX4_readNext 295 = .ok (.goto 77, 3) := dk_167 0 77 (dk_at dksX4_readNext_12 15 rfl rfl)
theorem dX4_readNext_298 : decode cX4_readNext 298 = .ok (.aload_n 0, 1) := dk_42 (dk_at dksX4_readNext_12 18 rfl rfl)
theorem dX4_readNext_299 : decode cX4_readNext 299 = .ok (.ldc 243, 2) := dk_18 243 (dk_at dksX4_readNext_12 19 rfl rfl)
theorem dX4_readNext_301 : decode cX4_readNext 301 = .ok (.invokevirtual 174, 3) := dk_182 0 174 (dk_at dksX4_readNext_12 21 rfl rfl)
theorem dX4_readNext_304 : decode cX4_readNext 304 = .ok (.ifCond .eq 10, 3) := dk_153 0 10 (dk_at dksX4_readNext_13 0 rfl rfl)
theorem dX4_readNext_307 : decode cX4_readNext 307 = .ok (.aload_n 0, 1) := dk_42 (dk_at dksX4_readNext_13 3 rfl rfl)
theorem dX4_readNext_308 : decode cX4_readNext 308 = .ok (.invokevirtual 247, 3) := dk_182 0 247 (dk_at dksX4_readNext_13 4 rfl rfl)
theorem dX4_readNext_311 : decode cX4_readNext 311 = .ok (.goto 61, 3) := dk_167 0 61 (dk_at dksX4_readNext_13 7 rfl rfl)
theorem dX4_readNext_314 : decode cX4_readNext 314 = .ok (.aload_n 0, 1) := dk_42 (dk_at dksX4_readNext_13 10 rfl rfl)
theorem dX4_readNext_315 : decode cX4_readNext 315 = .ok (.ldc 245, 2) := dk_18 245 (dk_at dksX4_readNext_13 11 rfl rfl)
theorem dX4_readNext_317 : decode cX4_readNext 317 = .ok (.invokevirtual 174, 3) := dk_182 0 174 (dk_at dksX4_readNext_13 13 rfl rfl)
theorem dX4_readNext_320 : decode cX4_readNext 320 = .ok (.ifCond .eq 10, 3) := dk_153 0 10 (dk_at dksX4_readNext_13 16 rfl rfl)
theorem dX4_readNext_323 : decode cX4_readNext 323 = .ok (.aload_n 0, 1) := dk_42 (dk_at dksX4_readNext_13 19 rfl rfl)
theorem dX4_readNext_324 : decode cX4_readNext 324 = .ok (.invokevirtual 250, 3) := dk_182 0 250 (dk_at dksX4_readNext_13 20 rfl rfl)
theorem dX4_readNext_327 : decode cX4_readNext 327 = .ok (.goto 45, 3) := dk_167 0 45 (dk_at dksX4_readNext_14 0 rfl rfl)
theorem dX4_readNext_330 : decode cX4_readNext 330 = .ok (.aload_n 0, 1) := dk_42 (dk_at dksX4_readNext_14 3 rfl rfl)
theorem dX4_readNext_331 : decode cX4_readNext 331 = .ok (.ldc 235, 2) := dk_18 235 (dk_at dksX4_readNext_14 4 rfl rfl)
theorem dX4_readNext_333 : decode cX4_readNext 333 = .ok (.invokevirtual 174, 3) := dk_182 0 174 (dk_at dksX4_readNext_14 6 rfl rfl)
theorem dX4_readNext_336 : decode cX4_readNext 336 = .ok (.ifCond .eq 11, 3) := dk_153 0 11 (dk_at dksX4_readNext_14 9 rfl rfl)
theorem dX4_readNext_339 : decode cX4_readNext 339 = .ok (.aload_n 0, 1) := dk_42 (dk_at dksX4_readNext_14 12 rfl rfl)
theorem dX4_readNext_340 : decode cX4_readNext 340 = .ok (.iconst 1, 1) := dk_4 (dk_at dksX4_readNext_14 13 rfl rfl)
theorem dX4_readNext_341 : decode cX4_readNext 341 = .ok (.invokevirtual 253, 3) := dk_182 0 253 (dk_at dksX4_readNext_14 14 rfl rfl)
theorem dX4_readNext_344 : decode cX4_readNext 344 = .ok (.goto 28, 3) := dk_167 0 28 (dk_at dksX4_readNext_14 17 rfl rfl)
theorem dX4_readNext_347 : decode cX4_readNext 347 = .ok (.aload_n 0, 1) := dk_42 (dk_at dksX4_readNext_14 20 rfl rfl)
theorem dX4_readNext_348 : decode cX4_readNext 348 = .ok (.ldc 237, 2) := dk_18 237 (dk_at dksX4_readNext_14 21 rfl rfl)
theorem dX4_readNext_350 : decode cX4_readNext 350 = .ok (.invokevirtual 174, 3) := dk_182 0 174 (dk_at dksX4_readNext_15 0 rfl rfl)
theorem dX4_readNext_353 : decode cX4_readNext 353 = .ok (.ifCond .eq 11, 3) := dk_153 0 11 (dk_at dksX4_readNext_15 3 rfl rfl)
theorem dX4_readNext_356 : decode cX4_readNext 356 = .ok (.aload_n 0, 1) := dk_42 (dk_at dksX4_readNext_15 6 rfl rfl)
theorem dX4_readNext_357 : decode cX4_readNext 357 = .ok (.iconst 0, 1) := dk_3 (dk_at dksX4_readNext_15 7 rfl rfl)
theorem dX4_readNext_358 : decode cX4_readNext 358 = .ok (.invokevirtual 253, 3) := dk_182 0 253 (dk_at dksX4_readNext_15 8 rfl rfl)
theorem dX4_readNext_361 : decode cX4_readNext 361 = .ok (.goto 11, 3) := dk_167 0 11 (dk_at dksX4_readNext_15 11 rfl rfl)
theorem dX4_readNext_364 : decode cX4_readNext 364 = .ok (.aload_n 0, 1) := dk_42 (dk_at dksX4_readNext_15 14 rfl rfl)
theorem dX4_readNext_365 : decode cX4_readNext 365 = .ok (.invokevirtual 171, 3) := dk_182 0 171 (dk_at dksX4_readNext_15 15 rfl rfl)
theorem dX4_readNext_368 : decode cX4_readNext 368 = .ok (.aload_n 0, 1) := dk_42 (dk_at dksX4_readNext_15 18 rfl rfl)
theorem dX4_readNext_369 : decode cX4_readNext 369 = .ok (.invokevirtual 257, 3) := dk_182 1 1 (dk_at dksX4_readNext_15 19 rfl rfl)
theorem dX4_readNext_372 : decode cX4_readNext 372 = .ok (.return_, 1) := dk_177 (dk_at dksX4_readNext_15 22 rfl rfl)
abbrev cX4_latest : ByteArray := prog_19_method_30_code
def yX4_latest : MethodName := ⟨RX4, "latest", "()I"⟩
def dkwX4_latest_0 : List UInt8 := [16, 56, 16, 33, 42, 180, 0, 31, 5, 46, 4, 100, 104, 96, 172]
abbrev dktX4_latest_0 : List UInt8 := dkwX4_latest_0 ++ []
theorem dksX4_latest_0 : cX4_latest.data.toList.drop 0 = dktX4_latest_0 := by decide +kernel
theorem dX4_latest_0 : decode cX4_latest 0 = .ok (.bipush 56, 2) := dk_16 56 (dk_at dksX4_latest_0 0 rfl rfl)
theorem dX4_latest_2 : decode cX4_latest 2 = .ok (.bipush 33, 2) := dk_16 33 (dk_at dksX4_latest_0 2 rfl rfl)
theorem dX4_latest_4 : decode cX4_latest 4 = .ok (.aload_n 0, 1) := dk_42 (dk_at dksX4_latest_0 4 rfl rfl)
theorem dX4_latest_5 : decode cX4_latest 5 = .ok (.getfield 31, 3) := dk_180 0 31 (dk_at dksX4_latest_0 5 rfl rfl)
theorem dX4_latest_8 : decode cX4_latest 8 = .ok (.iconst 2, 1) := dk_5 (dk_at dksX4_latest_0 8 rfl rfl)
theorem dX4_latest_9 : decode cX4_latest 9 = .ok (.iaload, 1) := dk_46 (dk_at dksX4_latest_0 9 rfl rfl)
theorem dX4_latest_10 : decode cX4_latest 10 = .ok (.iconst 1, 1) := dk_4 (dk_at dksX4_latest_0 10 rfl rfl)
theorem dX4_latest_11 : decode cX4_latest 11 = .ok (.isub, 1) := dk_100 (dk_at dksX4_latest_0 11 rfl rfl)
theorem dX4_latest_12 : decode cX4_latest 12 = .ok (.imul, 1) := dk_104 (dk_at dksX4_latest_0 12 rfl rfl)
theorem dX4_latest_13 : decode cX4_latest 13 = .ok (.iadd, 1) := dk_96 (dk_at dksX4_latest_0 13 rfl rfl)
theorem dX4_latest_14 : decode cX4_latest 14 = .ok (.ireturn, 1) := dk_172 (dk_at dksX4_latest_0 14 rfl rfl)
abbrev cX4_readCell : ByteArray := prog_19_method_27_code
def yX4_readCell : MethodName := ⟨RX4, "readCell", "(I)V"⟩
def dkwX4_readCell_4 : List UInt8 := [154, 0, 4, 177, 42, 180, 0, 31, 27, 28, 79, 42, 180, 0, 31, 27, 4, 96, 29, 79, 177]
abbrev dktX4_readCell_4 : List UInt8 := dkwX4_readCell_4 ++ []
def dkwX4_readCell_3 : List UInt8 := [42, 5, 182, 0, 177, 42, 3, 42, 180, 0, 31, 8, 46, 4, 100, 182, 0, 185, 62, 42, 182, 0, 154]
abbrev dktX4_readCell_3 : List UInt8 := dkwX4_readCell_3 ++ dktX4_readCell_4
def dkwX4_readCell_2 : List UInt8 := [100, 133, 184, 0, 104, 153, 0, 24, 42, 180, 0, 31, 28, 42, 180, 0, 141, 2, 184, 0, 189, 153, 0, 8]
abbrev dktX4_readCell_2 : List UInt8 := dkwX4_readCell_2 ++ dktX4_readCell_3
def dkwX4_readCell_1 : List UInt8 := [153, 0, 53, 42, 180, 0, 130, 5, 160, 0, 45, 42, 180, 0, 141, 133, 9, 42, 180, 0, 31, 8, 46, 4]
abbrev dktX4_readCell_1 : List UInt8 := dkwX4_readCell_1 ++ dktX4_readCell_2
def dkwX4_readCell_0 : List UInt8 := [42, 18, 188, 182, 0, 181, 42, 3, 42, 180, 0, 31, 7, 46, 4, 100, 182, 0, 185, 61, 42, 182, 0, 154]
abbrev dktX4_readCell_0 : List UInt8 := dkwX4_readCell_0 ++ dktX4_readCell_1
theorem dksX4_readCell_0 : cX4_readCell.data.toList.drop 0 = dktX4_readCell_0 := by decide +kernel
theorem dksX4_readCell_1 : cX4_readCell.data.toList.drop 24 = dktX4_readCell_1 := dk_seg dksX4_readCell_0 24 rfl rfl
theorem dksX4_readCell_2 : cX4_readCell.data.toList.drop 48 = dktX4_readCell_2 := dk_seg dksX4_readCell_1 24 rfl rfl
theorem dksX4_readCell_3 : cX4_readCell.data.toList.drop 72 = dktX4_readCell_3 := dk_seg dksX4_readCell_2 24 rfl rfl
theorem dksX4_readCell_4 : cX4_readCell.data.toList.drop 95 = dktX4_readCell_4 := dk_seg dksX4_readCell_3 23 rfl rfl
theorem dX4_readCell_0 : decode cX4_readCell 0 = .ok (.aload_n 0, 1) := dk_42 (dk_at dksX4_readCell_0 0 rfl rfl)
theorem dX4_readCell_1 : decode cX4_readCell 1 = .ok (.ldc 188, 2) := dk_18 188 (dk_at dksX4_readCell_0 1 rfl rfl)
theorem dX4_readCell_3 : decode cX4_readCell 3 = .ok (.invokevirtual 181, 3) := dk_182 0 181 (dk_at dksX4_readCell_0 3 rfl rfl)
theorem dX4_readCell_6 : decode cX4_readCell 6 = .ok (.aload_n 0, 1) := dk_42 (dk_at dksX4_readCell_0 6 rfl rfl)
theorem dX4_readCell_7 : decode cX4_readCell 7 = .ok (.iconst 0, 1) := dk_3 (dk_at dksX4_readCell_0 7 rfl rfl)
theorem dX4_readCell_8 : decode cX4_readCell 8 = .ok (.aload_n 0, 1) := dk_42 (dk_at dksX4_readCell_0 8 rfl rfl)
theorem dX4_readCell_9 : decode cX4_readCell 9 = .ok (.getfield 31, 3) := dk_180 0 31 (dk_at dksX4_readCell_0 9 rfl rfl)
theorem dX4_readCell_12 : decode cX4_readCell 12 = .ok (.iconst 4, 1) := dk_7 (dk_at dksX4_readCell_0 12 rfl rfl)
theorem dX4_readCell_13 : decode cX4_readCell 13 = .ok (.iaload, 1) := dk_46 (dk_at dksX4_readCell_0 13 rfl rfl)
theorem dX4_readCell_14 : decode cX4_readCell 14 = .ok (.iconst 1, 1) := dk_4 (dk_at dksX4_readCell_0 14 rfl rfl)
theorem dX4_readCell_15 : decode cX4_readCell 15 = .ok (.isub, 1) := dk_100 (dk_at dksX4_readCell_0 15 rfl rfl)
theorem dX4_readCell_16 : decode cX4_readCell 16 = .ok (.invokevirtual 185, 3) := dk_182 0 185 (dk_at dksX4_readCell_0 16 rfl rfl)
theorem dX4_readCell_19 : decode cX4_readCell 19 = .ok (.istore_n 2, 1) := dk_61 (dk_at dksX4_readCell_0 19 rfl rfl)
theorem dX4_readCell_20 : decode cX4_readCell 20 = .ok (.aload_n 0, 1) := dk_42 (dk_at dksX4_readCell_0 20 rfl rfl)
theorem dX4_readCell_21 : decode cX4_readCell 21 = .ok (.invokevirtual 154, 3) := dk_182 0 154 (dk_at dksX4_readCell_0 21 rfl rfl)
theorem dX4_readCell_24 : decode cX4_readCell 24 = .ok (.ifCond .eq 53, 3) := dk_153 0 53 (dk_at dksX4_readCell_1 0 rfl rfl)
theorem dX4_readCell_27 : decode cX4_readCell 27 = .ok (.aload_n 0, 1) := dk_42 (dk_at dksX4_readCell_1 3 rfl rfl)
theorem dX4_readCell_28 : decode cX4_readCell 28 = .ok (.getfield 130, 3) := dk_180 0 130 (dk_at dksX4_readCell_1 4 rfl rfl)
theorem dX4_readCell_31 : decode cX4_readCell 31 = .ok (.iconst 2, 1) := dk_5 (dk_at dksX4_readCell_1 7 rfl rfl)
theorem dX4_readCell_32 : decode cX4_readCell 32 = .ok (.if_icmp .ne 45, 3) := dk_160 0 45 (dk_at dksX4_readCell_1 8 rfl rfl)
theorem dX4_readCell_35 : decode cX4_readCell 35 = .ok (.aload_n 0, 1) := dk_42 (dk_at dksX4_readCell_1 11 rfl rfl)
theorem dX4_readCell_36 : decode cX4_readCell 36 = .ok (.getfield 141, 3) := dk_180 0 141 (dk_at dksX4_readCell_1 12 rfl rfl)
theorem dX4_readCell_39 : decode cX4_readCell 39 = .ok (.i2l, 1) := dk_133 (dk_at dksX4_readCell_1 15 rfl rfl)
theorem dX4_readCell_40 : decode cX4_readCell 40 = .ok (.lconst 0, 1) := dk_9 (dk_at dksX4_readCell_1 16 rfl rfl)
theorem dX4_readCell_41 : decode cX4_readCell 41 = .ok (.aload_n 0, 1) := dk_42 (dk_at dksX4_readCell_1 17 rfl rfl)
theorem dX4_readCell_42 : decode cX4_readCell 42 = .ok (.getfield 31, 3) := dk_180 0 31 (dk_at dksX4_readCell_1 18 rfl rfl)
theorem dX4_readCell_45 : decode cX4_readCell 45 = .ok (.iconst 5, 1) := dk_8 (dk_at dksX4_readCell_1 21 rfl rfl)
theorem dX4_readCell_46 : decode cX4_readCell 46 = .ok (.iaload, 1) := dk_46 (dk_at dksX4_readCell_1 22 rfl rfl)
theorem dX4_readCell_47 : decode cX4_readCell 47 = .ok (.iconst 1, 1) := dk_4 (dk_at dksX4_readCell_1 23 rfl rfl)
theorem dX4_readCell_48 : decode cX4_readCell 48 = .ok (.isub, 1) := dk_100 (dk_at dksX4_readCell_2 0 rfl rfl)
theorem dX4_readCell_49 : decode cX4_readCell 49 = .ok (.i2l, 1) := dk_133 (dk_at dksX4_readCell_2 1 rfl rfl)
theorem dX4_readCell_50 : decode cX4_readCell 50 = .ok (.invokestatic 104, 3) := dk_184 0 104 (dk_at dksX4_readCell_2 2 rfl rfl)
theorem dX4_readCell_53 : decode cX4_readCell 53 = .ok (.ifCond .eq 24, 3) := dk_153 0 24 (dk_at dksX4_readCell_2 5 rfl rfl)
theorem dX4_readCell_56 : decode cX4_readCell 56 = .ok (.aload_n 0, 1) := dk_42 (dk_at dksX4_readCell_2 8 rfl rfl)
theorem dX4_readCell_57 : decode cX4_readCell 57 = .ok (.getfield 31, 3) := dk_180 0 31 (dk_at dksX4_readCell_2 9 rfl rfl)
theorem dX4_readCell_60 : decode cX4_readCell 60 = .ok (.iload_n 2, 1) := dk_28 (dk_at dksX4_readCell_2 12 rfl rfl)
theorem dX4_readCell_61 : decode cX4_readCell 61 = .ok (.aload_n 0, 1) := dk_42 (dk_at dksX4_readCell_2 13 rfl rfl)
theorem dX4_readCell_62 : decode cX4_readCell 62 = .ok (.getfield 141, 3) := dk_180 0 141 (dk_at dksX4_readCell_2 14 rfl rfl)
theorem dX4_readCell_65 : decode cX4_readCell 65 = .ok (.iconst (-1), 1) := dk_2 (dk_at dksX4_readCell_2 17 rfl rfl)
theorem dX4_readCell_66 : decode cX4_readCell 66 = .ok (.invokestatic 189, 3) := dk_184 0 189 (dk_at dksX4_readCell_2 18 rfl rfl)
theorem dX4_readCell_69 : decode cX4_readCell 69 = .ok (.ifCond .eq 8, 3) := dk_153 0 8 (dk_at dksX4_readCell_2 21 rfl rfl)
theorem dX4_readCell_72 : decode cX4_readCell 72 = .ok (.aload_n 0, 1) := dk_42 (dk_at dksX4_readCell_3 0 rfl rfl)
theorem dX4_readCell_73 : decode cX4_readCell 73 = .ok (.iconst 2, 1) := dk_5 (dk_at dksX4_readCell_3 1 rfl rfl)
theorem dX4_readCell_74 : decode cX4_readCell 74 = .ok (.invokevirtual 177, 3) := dk_182 0 177 (dk_at dksX4_readCell_3 2 rfl rfl)
theorem dX4_readCell_77 : decode cX4_readCell 77 = .ok (.aload_n 0, 1) := dk_42 (dk_at dksX4_readCell_3 5 rfl rfl)
theorem dX4_readCell_78 : decode cX4_readCell 78 = .ok (.iconst 0, 1) := dk_3 (dk_at dksX4_readCell_3 6 rfl rfl)
theorem dX4_readCell_79 : decode cX4_readCell 79 = .ok (.aload_n 0, 1) := dk_42 (dk_at dksX4_readCell_3 7 rfl rfl)
theorem dX4_readCell_80 : decode cX4_readCell 80 = .ok (.getfield 31, 3) := dk_180 0 31 (dk_at dksX4_readCell_3 8 rfl rfl)
theorem dX4_readCell_83 : decode cX4_readCell 83 = .ok (.iconst 5, 1) := dk_8 (dk_at dksX4_readCell_3 11 rfl rfl)
theorem dX4_readCell_84 : decode cX4_readCell 84 = .ok (.iaload, 1) := dk_46 (dk_at dksX4_readCell_3 12 rfl rfl)
theorem dX4_readCell_85 : decode cX4_readCell 85 = .ok (.iconst 1, 1) := dk_4 (dk_at dksX4_readCell_3 13 rfl rfl)
theorem dX4_readCell_86 : decode cX4_readCell 86 = .ok (.isub, 1) := dk_100 (dk_at dksX4_readCell_3 14 rfl rfl)
theorem dX4_readCell_87 : decode cX4_readCell 87 = .ok (.invokevirtual 185, 3) := dk_182 0 185 (dk_at dksX4_readCell_3 15 rfl rfl)
theorem dX4_readCell_90 : decode cX4_readCell 90 = .ok (.istore_n 3, 1) := dk_62 (dk_at dksX4_readCell_3 18 rfl rfl)
theorem dX4_readCell_91 : decode cX4_readCell 91 = .ok (.aload_n 0, 1) := dk_42 (dk_at dksX4_readCell_3 19 rfl rfl)
theorem dX4_readCell_92 : decode cX4_readCell 92 = .ok (.invokevirtual 154, 3) := dk_182 0 154 (dk_at dksX4_readCell_3 20 rfl rfl)
theorem dX4_readCell_95 : decode cX4_readCell 95 = .ok (.ifCond .ne 4, 3) := dk_154 0 4 (dk_at dksX4_readCell_4 0 rfl rfl)
theorem dX4_readCell_98 : decode cX4_readCell 98 = .ok (.return_, 1) := dk_177 (dk_at dksX4_readCell_4 3 rfl rfl)
theorem dX4_readCell_99 : decode cX4_readCell 99 = .ok (.aload_n 0, 1) := dk_42 (dk_at dksX4_readCell_4 4 rfl rfl)
theorem dX4_readCell_100 : decode cX4_readCell 100 = .ok (.getfield 31, 3) := dk_180 0 31 (dk_at dksX4_readCell_4 5 rfl rfl)
theorem dX4_readCell_103 : decode cX4_readCell 103 = .ok (.iload_n 1, 1) := dk_27 (dk_at dksX4_readCell_4 8 rfl rfl)
theorem dX4_readCell_104 : decode cX4_readCell 104 = .ok (.iload_n 2, 1) := dk_28 (dk_at dksX4_readCell_4 9 rfl rfl)
theorem dX4_readCell_105 : decode cX4_readCell 105 = .ok (.iastore, 1) := dk_79 (dk_at dksX4_readCell_4 10 rfl rfl)
theorem dX4_readCell_106 : decode cX4_readCell 106 = .ok (.aload_n 0, 1) := dk_42 (dk_at dksX4_readCell_4 11 rfl rfl)
theorem dX4_readCell_107 : decode cX4_readCell 107 = .ok (.getfield 31, 3) := dk_180 0 31 (dk_at dksX4_readCell_4 12 rfl rfl)
theorem dX4_readCell_110 : decode cX4_readCell 110 = .ok (.iload_n 1, 1) := dk_27 (dk_at dksX4_readCell_4 15 rfl rfl)
theorem dX4_readCell_111 : decode cX4_readCell 111 = .ok (.iconst 1, 1) := dk_4 (dk_at dksX4_readCell_4 16 rfl rfl)
theorem dX4_readCell_112 : decode cX4_readCell 112 = .ok (.iadd, 1) := dk_96 (dk_at dksX4_readCell_4 17 rfl rfl)
theorem dX4_readCell_113 : decode cX4_readCell 113 = .ok (.iload_n 3, 1) := dk_29 (dk_at dksX4_readCell_4 18 rfl rfl)
theorem dX4_readCell_114 : decode cX4_readCell 114 = .ok (.iastore, 1) := dk_79 (dk_at dksX4_readCell_4 19 rfl rfl)
theorem dX4_readCell_115 : decode cX4_readCell 115 = .ok (.return_, 1) := dk_177 (dk_at dksX4_readCell_4 20 rfl rfl)
abbrev cX4_isTaken : ByteArray := prog_19_method_26_code
def yX4_isTaken : MethodName := ⟨RX4, "isTaken", "([IIII)Z"⟩
def dkwX4_isTaken_4 : List UInt8 := [132, 4, 1, 167, 255, 207, 3, 172]
abbrev dktX4_isTaken_4 : List UInt8 := dkwX4_isTaken_4 ++ []
def dkwX4_isTaken_3 : List UInt8 := [96, 46, 27, 160, 0, 21, 42, 16, 32, 16, 6, 21, 4, 104, 96, 4, 96, 46, 28, 160, 0, 5, 4, 172]
abbrev dktX4_isTaken_3 : List UInt8 := dkwX4_isTaken_3 ++ dktX4_isTaken_4
def dkwX4_isTaken_2 : List UInt8 := [54, 4, 21, 4, 42, 4, 46, 162, 0, 47, 21, 4, 29, 159, 0, 35, 42, 16, 32, 16, 6, 21, 4, 104]
abbrev dktX4_isTaken_2 : List UInt8 := dkwX4_isTaken_2 ++ dktX4_isTaken_3
def dkwX4_isTaken_1 : List UInt8 := [42, 16, 8, 5, 21, 4, 104, 96, 4, 96, 46, 28, 160, 0, 5, 4, 172, 132, 4, 1, 167, 255, 215, 3]
abbrev dktX4_isTaken_1 : List UInt8 := dkwX4_isTaken_1 ++ dktX4_isTaken_2
def dkwX4_isTaken_0 : List UInt8 := [3, 54, 4, 21, 4, 42, 3, 46, 162, 0, 39, 42, 16, 8, 5, 21, 4, 104, 96, 46, 27, 160, 0, 20]
abbrev dktX4_isTaken_0 : List UInt8 := dkwX4_isTaken_0 ++ dktX4_isTaken_1
theorem dksX4_isTaken_0 : cX4_isTaken.data.toList.drop 0 = dktX4_isTaken_0 := by decide +kernel
theorem dksX4_isTaken_1 : cX4_isTaken.data.toList.drop 24 = dktX4_isTaken_1 := dk_seg dksX4_isTaken_0 24 rfl rfl
theorem dksX4_isTaken_2 : cX4_isTaken.data.toList.drop 48 = dktX4_isTaken_2 := dk_seg dksX4_isTaken_1 24 rfl rfl
theorem dksX4_isTaken_3 : cX4_isTaken.data.toList.drop 72 = dktX4_isTaken_3 := dk_seg dksX4_isTaken_2 24 rfl rfl
theorem dksX4_isTaken_4 : cX4_isTaken.data.toList.drop 96 = dktX4_isTaken_4 := dk_seg dksX4_isTaken_3 24 rfl rfl
theorem dX4_isTaken_0 : decode cX4_isTaken 0 = .ok (.iconst 0, 1) := dk_3 (dk_at dksX4_isTaken_0 0 rfl rfl)
theorem dX4_isTaken_1 : decode cX4_isTaken 1 = .ok (.istore 4, 2) := dk_54 4 (dk_at dksX4_isTaken_0 1 rfl rfl)
theorem dX4_isTaken_3 : decode cX4_isTaken 3 = .ok (.iload 4, 2) := dk_21 4 (dk_at dksX4_isTaken_0 3 rfl rfl)
theorem dX4_isTaken_5 : decode cX4_isTaken 5 = .ok (.aload_n 0, 1) := dk_42 (dk_at dksX4_isTaken_0 5 rfl rfl)
theorem dX4_isTaken_6 : decode cX4_isTaken 6 = .ok (.iconst 0, 1) := dk_3 (dk_at dksX4_isTaken_0 6 rfl rfl)
theorem dX4_isTaken_7 : decode cX4_isTaken 7 = .ok (.iaload, 1) := dk_46 (dk_at dksX4_isTaken_0 7 rfl rfl)
theorem dX4_isTaken_8 : decode cX4_isTaken 8 = .ok (.if_icmp .ge 39, 3) := dk_162 0 39 (dk_at dksX4_isTaken_0 8 rfl rfl)
theorem dX4_isTaken_11 : decode cX4_isTaken 11 = .ok (.aload_n 0, 1) := dk_42 (dk_at dksX4_isTaken_0 11 rfl rfl)
theorem dX4_isTaken_12 : decode cX4_isTaken 12 = .ok (.bipush 8, 2) := dk_16 8 (dk_at dksX4_isTaken_0 12 rfl rfl)
theorem dX4_isTaken_14 : decode cX4_isTaken 14 = .ok (.iconst 2, 1) := dk_5 (dk_at dksX4_isTaken_0 14 rfl rfl)
theorem dX4_isTaken_15 : decode cX4_isTaken 15 = .ok (.iload 4, 2) := dk_21 4 (dk_at dksX4_isTaken_0 15 rfl rfl)
theorem dX4_isTaken_17 : decode cX4_isTaken 17 = .ok (.imul, 1) := dk_104 (dk_at dksX4_isTaken_0 17 rfl rfl)
theorem dX4_isTaken_18 : decode cX4_isTaken 18 = .ok (.iadd, 1) := dk_96 (dk_at dksX4_isTaken_0 18 rfl rfl)
theorem dX4_isTaken_19 : decode cX4_isTaken 19 = .ok (.iaload, 1) := dk_46 (dk_at dksX4_isTaken_0 19 rfl rfl)
theorem dX4_isTaken_20 : decode cX4_isTaken 20 = .ok (.iload_n 1, 1) := dk_27 (dk_at dksX4_isTaken_0 20 rfl rfl)
theorem dX4_isTaken_21 : decode cX4_isTaken 21 = .ok (.if_icmp .ne 20, 3) := dk_160 0 20 (dk_at dksX4_isTaken_0 21 rfl rfl)
theorem dX4_isTaken_24 : decode cX4_isTaken 24 = .ok (.aload_n 0, 1) := dk_42 (dk_at dksX4_isTaken_1 0 rfl rfl)
theorem dX4_isTaken_25 : decode cX4_isTaken 25 = .ok (.bipush 8, 2) := dk_16 8 (dk_at dksX4_isTaken_1 1 rfl rfl)
theorem dX4_isTaken_27 : decode cX4_isTaken 27 = .ok (.iconst 2, 1) := dk_5 (dk_at dksX4_isTaken_1 3 rfl rfl)
theorem dX4_isTaken_28 : decode cX4_isTaken 28 = .ok (.iload 4, 2) := dk_21 4 (dk_at dksX4_isTaken_1 4 rfl rfl)
theorem dX4_isTaken_30 : decode cX4_isTaken 30 = .ok (.imul, 1) := dk_104 (dk_at dksX4_isTaken_1 6 rfl rfl)
theorem dX4_isTaken_31 : decode cX4_isTaken 31 = .ok (.iadd, 1) := dk_96 (dk_at dksX4_isTaken_1 7 rfl rfl)
theorem dX4_isTaken_32 : decode cX4_isTaken 32 = .ok (.iconst 1, 1) := dk_4 (dk_at dksX4_isTaken_1 8 rfl rfl)
theorem dX4_isTaken_33 : decode cX4_isTaken 33 = .ok (.iadd, 1) := dk_96 (dk_at dksX4_isTaken_1 9 rfl rfl)
theorem dX4_isTaken_34 : decode cX4_isTaken 34 = .ok (.iaload, 1) := dk_46 (dk_at dksX4_isTaken_1 10 rfl rfl)
theorem dX4_isTaken_35 : decode cX4_isTaken 35 = .ok (.iload_n 2, 1) := dk_28 (dk_at dksX4_isTaken_1 11 rfl rfl)
theorem dX4_isTaken_36 : decode cX4_isTaken 36 = .ok (.if_icmp .ne 5, 3) := dk_160 0 5 (dk_at dksX4_isTaken_1 12 rfl rfl)
theorem dX4_isTaken_39 : decode cX4_isTaken 39 = .ok (.iconst 1, 1) := dk_4 (dk_at dksX4_isTaken_1 15 rfl rfl)
theorem dX4_isTaken_40 : decode cX4_isTaken 40 = .ok (.ireturn, 1) := dk_172 (dk_at dksX4_isTaken_1 16 rfl rfl)
theorem dX4_isTaken_41 : decode cX4_isTaken 41 = .ok (.iinc 4 1, 3) := dk_132 4 1 (dk_at dksX4_isTaken_1 17 rfl rfl)
theorem dX4_isTaken_44 : decode cX4_isTaken 44 = .ok (.goto (-41), 3) := dk_167 255 215 (dk_at dksX4_isTaken_1 20 rfl rfl)
theorem dX4_isTaken_47 : decode cX4_isTaken 47 = .ok (.iconst 0, 1) := dk_3 (dk_at dksX4_isTaken_1 23 rfl rfl)
theorem dX4_isTaken_48 : decode cX4_isTaken 48 = .ok (.istore 4, 2) := dk_54 4 (dk_at dksX4_isTaken_2 0 rfl rfl)
theorem dX4_isTaken_50 : decode cX4_isTaken 50 = .ok (.iload 4, 2) := dk_21 4 (dk_at dksX4_isTaken_2 2 rfl rfl)
theorem dX4_isTaken_52 : decode cX4_isTaken 52 = .ok (.aload_n 0, 1) := dk_42 (dk_at dksX4_isTaken_2 4 rfl rfl)
theorem dX4_isTaken_53 : decode cX4_isTaken 53 = .ok (.iconst 1, 1) := dk_4 (dk_at dksX4_isTaken_2 5 rfl rfl)
theorem dX4_isTaken_54 : decode cX4_isTaken 54 = .ok (.iaload, 1) := dk_46 (dk_at dksX4_isTaken_2 6 rfl rfl)
theorem dX4_isTaken_55 : decode cX4_isTaken 55 = .ok (.if_icmp .ge 47, 3) := dk_162 0 47 (dk_at dksX4_isTaken_2 7 rfl rfl)
theorem dX4_isTaken_58 : decode cX4_isTaken 58 = .ok (.iload 4, 2) := dk_21 4 (dk_at dksX4_isTaken_2 10 rfl rfl)
theorem dX4_isTaken_60 : decode cX4_isTaken 60 = .ok (.iload_n 3, 1) := dk_29 (dk_at dksX4_isTaken_2 12 rfl rfl)
theorem dX4_isTaken_61 : decode cX4_isTaken 61 = .ok (.if_icmp .eq 35, 3) := dk_159 0 35 (dk_at dksX4_isTaken_2 13 rfl rfl)
theorem dX4_isTaken_64 : decode cX4_isTaken 64 = .ok (.aload_n 0, 1) := dk_42 (dk_at dksX4_isTaken_2 16 rfl rfl)
theorem dX4_isTaken_65 : decode cX4_isTaken 65 = .ok (.bipush 32, 2) := dk_16 32 (dk_at dksX4_isTaken_2 17 rfl rfl)
theorem dX4_isTaken_67 : decode cX4_isTaken 67 = .ok (.bipush 6, 2) := dk_16 6 (dk_at dksX4_isTaken_2 19 rfl rfl)
theorem dX4_isTaken_69 : decode cX4_isTaken 69 = .ok (.iload 4, 2) := dk_21 4 (dk_at dksX4_isTaken_2 21 rfl rfl)
theorem dX4_isTaken_71 : decode cX4_isTaken 71 = .ok (.imul, 1) := dk_104 (dk_at dksX4_isTaken_2 23 rfl rfl)
theorem dX4_isTaken_72 : decode cX4_isTaken 72 = .ok (.iadd, 1) := dk_96 (dk_at dksX4_isTaken_3 0 rfl rfl)
theorem dX4_isTaken_73 : decode cX4_isTaken 73 = .ok (.iaload, 1) := dk_46 (dk_at dksX4_isTaken_3 1 rfl rfl)
theorem dX4_isTaken_74 : decode cX4_isTaken 74 = .ok (.iload_n 1, 1) := dk_27 (dk_at dksX4_isTaken_3 2 rfl rfl)
theorem dX4_isTaken_75 : decode cX4_isTaken 75 = .ok (.if_icmp .ne 21, 3) := dk_160 0 21 (dk_at dksX4_isTaken_3 3 rfl rfl)
theorem dX4_isTaken_78 : decode cX4_isTaken 78 = .ok (.aload_n 0, 1) := dk_42 (dk_at dksX4_isTaken_3 6 rfl rfl)
theorem dX4_isTaken_79 : decode cX4_isTaken 79 = .ok (.bipush 32, 2) := dk_16 32 (dk_at dksX4_isTaken_3 7 rfl rfl)
theorem dX4_isTaken_81 : decode cX4_isTaken 81 = .ok (.bipush 6, 2) := dk_16 6 (dk_at dksX4_isTaken_3 9 rfl rfl)
theorem dX4_isTaken_83 : decode cX4_isTaken 83 = .ok (.iload 4, 2) := dk_21 4 (dk_at dksX4_isTaken_3 11 rfl rfl)
theorem dX4_isTaken_85 : decode cX4_isTaken 85 = .ok (.imul, 1) := dk_104 (dk_at dksX4_isTaken_3 13 rfl rfl)
theorem dX4_isTaken_86 : decode cX4_isTaken 86 = .ok (.iadd, 1) := dk_96 (dk_at dksX4_isTaken_3 14 rfl rfl)
theorem dX4_isTaken_87 : decode cX4_isTaken 87 = .ok (.iconst 1, 1) := dk_4 (dk_at dksX4_isTaken_3 15 rfl rfl)
theorem dX4_isTaken_88 : decode cX4_isTaken 88 = .ok (.iadd, 1) := dk_96 (dk_at dksX4_isTaken_3 16 rfl rfl)
theorem dX4_isTaken_89 : decode cX4_isTaken 89 = .ok (.iaload, 1) := dk_46 (dk_at dksX4_isTaken_3 17 rfl rfl)
theorem dX4_isTaken_90 : decode cX4_isTaken 90 = .ok (.iload_n 2, 1) := dk_28 (dk_at dksX4_isTaken_3 18 rfl rfl)
theorem dX4_isTaken_91 : decode cX4_isTaken 91 = .ok (.if_icmp .ne 5, 3) := dk_160 0 5 (dk_at dksX4_isTaken_3 19 rfl rfl)
theorem dX4_isTaken_94 : decode cX4_isTaken 94 = .ok (.iconst 1, 1) := dk_4 (dk_at dksX4_isTaken_3 22 rfl rfl)
theorem dX4_isTaken_95 : decode cX4_isTaken 95 = .ok (.ireturn, 1) := dk_172 (dk_at dksX4_isTaken_3 23 rfl rfl)
theorem dX4_isTaken_96 : decode cX4_isTaken 96 = .ok (.iinc 4 1, 3) := dk_132 4 1 (dk_at dksX4_isTaken_4 0 rfl rfl)
theorem dX4_isTaken_99 : decode cX4_isTaken 99 = .ok (.goto (-49), 3) := dk_167 255 207 (dk_at dksX4_isTaken_4 3 rfl rfl)
theorem dX4_isTaken_102 : decode cX4_isTaken 102 = .ok (.iconst 0, 1) := dk_3 (dk_at dksX4_isTaken_4 6 rfl rfl)
theorem dX4_isTaken_103 : decode cX4_isTaken 103 = .ok (.ireturn, 1) := dk_172 (dk_at dksX4_isTaken_4 7 rfl rfl)
abbrev cX4_readClock : ByteArray := prog_19_method_28_code
def yX4_readClock : MethodName := ⟨RX4, "readClock", "()V"⟩
def dkwX4_readClock_4 : List UInt8 := [21, 4, 79, 42, 180, 0, 31, 27, 8, 96, 21, 5, 79, 42, 180, 0, 31, 4, 92, 46, 4, 96, 79, 177]
abbrev dktX4_readClock_4 : List UInt8 := dkwX4_readClock_4 ++ []
def dkwX4_readClock_3 : List UInt8 := [180, 0, 31, 27, 5, 96, 28, 79, 42, 180, 0, 31, 27, 6, 96, 29, 79, 42, 180, 0, 31, 27, 7, 96]
abbrev dktX4_readClock_3 : List UInt8 := dkwX4_readClock_3 ++ dktX4_readClock_4
def dkwX4_readClock_2 : List UInt8 := [54, 4, 42, 18, 206, 3, 21, 4, 4, 100, 182, 0, 198, 54, 5, 42, 182, 0, 154, 154, 0, 4, 177, 42]
abbrev dktX4_readClock_2 : List UInt8 := dkwX4_readClock_2 ++ dktX4_readClock_3
def dkwX4_readClock_1 : List UInt8 := [182, 0, 198, 61, 42, 18, 202, 4, 16, 12, 182, 0, 198, 62, 42, 18, 204, 5, 16, 60, 182, 0, 198]
abbrev dktX4_readClock_1 : List UInt8 := dkwX4_readClock_1 ++ dktX4_readClock_2
def dkwX4_readClock_0 : List UInt8 := [16, 32, 16, 6, 42, 180, 0, 31, 4, 46, 104, 96, 60, 42, 27, 182, 0, 193, 42, 18, 196, 3, 16, 60]
abbrev dktX4_readClock_0 : List UInt8 := dkwX4_readClock_0 ++ dktX4_readClock_1
theorem dksX4_readClock_0 : cX4_readClock.data.toList.drop 0 = dktX4_readClock_0 := by decide +kernel
theorem dksX4_readClock_1 : cX4_readClock.data.toList.drop 24 = dktX4_readClock_1 := dk_seg dksX4_readClock_0 24 rfl rfl
theorem dksX4_readClock_2 : cX4_readClock.data.toList.drop 47 = dktX4_readClock_2 := dk_seg dksX4_readClock_1 23 rfl rfl
theorem dksX4_readClock_3 : cX4_readClock.data.toList.drop 71 = dktX4_readClock_3 := dk_seg dksX4_readClock_2 24 rfl rfl
theorem dksX4_readClock_4 : cX4_readClock.data.toList.drop 95 = dktX4_readClock_4 := dk_seg dksX4_readClock_3 24 rfl rfl
theorem dX4_readClock_0 : decode cX4_readClock 0 = .ok (.bipush 32, 2) := dk_16 32 (dk_at dksX4_readClock_0 0 rfl rfl)
theorem dX4_readClock_2 : decode cX4_readClock 2 = .ok (.bipush 6, 2) := dk_16 6 (dk_at dksX4_readClock_0 2 rfl rfl)
theorem dX4_readClock_4 : decode cX4_readClock 4 = .ok (.aload_n 0, 1) := dk_42 (dk_at dksX4_readClock_0 4 rfl rfl)
theorem dX4_readClock_5 : decode cX4_readClock 5 = .ok (.getfield 31, 3) := dk_180 0 31 (dk_at dksX4_readClock_0 5 rfl rfl)
theorem dX4_readClock_8 : decode cX4_readClock 8 = .ok (.iconst 1, 1) := dk_4 (dk_at dksX4_readClock_0 8 rfl rfl)
theorem dX4_readClock_9 : decode cX4_readClock 9 = .ok (.iaload, 1) := dk_46 (dk_at dksX4_readClock_0 9 rfl rfl)
theorem dX4_readClock_10 : decode cX4_readClock 10 = .ok (.imul, 1) := dk_104 (dk_at dksX4_readClock_0 10 rfl rfl)
theorem dX4_readClock_11 : decode cX4_readClock 11 = .ok (.iadd, 1) := dk_96 (dk_at dksX4_readClock_0 11 rfl rfl)
theorem dX4_readClock_12 : decode cX4_readClock 12 = .ok (.istore_n 1, 1) := dk_60 (dk_at dksX4_readClock_0 12 rfl rfl)
theorem dX4_readClock_13 : decode cX4_readClock 13 = .ok (.aload_n 0, 1) := dk_42 (dk_at dksX4_readClock_0 13 rfl rfl)
theorem dX4_readClock_14 : decode cX4_readClock 14 = .ok (.iload_n 1, 1) := dk_27 (dk_at dksX4_readClock_0 14 rfl rfl)
theorem dX4_readClock_15 : decode cX4_readClock 15 = .ok (.invokevirtual 193, 3) := dk_182 0 193 (dk_at dksX4_readClock_0 15 rfl rfl)
theorem dX4_readClock_18 : decode cX4_readClock 18 = .ok (.aload_n 0, 1) := dk_42 (dk_at dksX4_readClock_0 18 rfl rfl)
theorem dX4_readClock_19 : decode cX4_readClock 19 = .ok (.ldc 196, 2) := dk_18 196 (dk_at dksX4_readClock_0 19 rfl rfl)
theorem dX4_readClock_21 : decode cX4_readClock 21 = .ok (.iconst 0, 1) := dk_3 (dk_at dksX4_readClock_0 21 rfl rfl)
theorem dX4_readClock_22 : decode cX4_readClock 22 = .ok (.bipush 60, 2) := dk_16 60 (dk_at dksX4_readClock_0 22 rfl rfl)
theorem dX4_readClock_24 : decode cX4_readClock 24 = .ok (.invokevirtual 198, 3) := dk_182 0 198 (dk_at dksX4_readClock_1 0 rfl rfl)
theorem dX4_readClock_27 : decode cX4_readClock 27 = .ok (.istore_n 2, 1) := dk_61 (dk_at dksX4_readClock_1 3 rfl rfl)
theorem dX4_readClock_28 : decode cX4_readClock 28 = .ok (.aload_n 0, 1) := dk_42 (dk_at dksX4_readClock_1 4 rfl rfl)
theorem dX4_readClock_29 : decode cX4_readClock 29 = .ok (.ldc 202, 2) := dk_18 202 (dk_at dksX4_readClock_1 5 rfl rfl)
theorem dX4_readClock_31 : decode cX4_readClock 31 = .ok (.iconst 1, 1) := dk_4 (dk_at dksX4_readClock_1 7 rfl rfl)
theorem dX4_readClock_32 : decode cX4_readClock 32 = .ok (.bipush 12, 2) := dk_16 12 (dk_at dksX4_readClock_1 8 rfl rfl)
theorem dX4_readClock_34 : decode cX4_readClock 34 = .ok (.invokevirtual 198, 3) := dk_182 0 198 (dk_at dksX4_readClock_1 10 rfl rfl)
theorem dX4_readClock_37 : decode cX4_readClock 37 = .ok (.istore_n 3, 1) := dk_62 (dk_at dksX4_readClock_1 13 rfl rfl)
theorem dX4_readClock_38 : decode cX4_readClock 38 = .ok (.aload_n 0, 1) := dk_42 (dk_at dksX4_readClock_1 14 rfl rfl)
theorem dX4_readClock_39 : decode cX4_readClock 39 = .ok (.ldc 204, 2) := dk_18 204 (dk_at dksX4_readClock_1 15 rfl rfl)
theorem dX4_readClock_41 : decode cX4_readClock 41 = .ok (.iconst 2, 1) := dk_5 (dk_at dksX4_readClock_1 17 rfl rfl)
theorem dX4_readClock_42 : decode cX4_readClock 42 = .ok (.bipush 60, 2) := dk_16 60 (dk_at dksX4_readClock_1 18 rfl rfl)
theorem dX4_readClock_44 : decode cX4_readClock 44 = .ok (.invokevirtual 198, 3) := dk_182 0 198 (dk_at dksX4_readClock_1 20 rfl rfl)
theorem dX4_readClock_47 : decode cX4_readClock 47 = .ok (.istore 4, 2) := dk_54 4 (dk_at dksX4_readClock_2 0 rfl rfl)
theorem dX4_readClock_49 : decode cX4_readClock 49 = .ok (.aload_n 0, 1) := dk_42 (dk_at dksX4_readClock_2 2 rfl rfl)
theorem dX4_readClock_50 : decode cX4_readClock 50 = .ok (.ldc 206, 2) := dk_18 206 (dk_at dksX4_readClock_2 3 rfl rfl)
theorem dX4_readClock_52 : decode cX4_readClock 52 = .ok (.iconst 0, 1) := dk_3 (dk_at dksX4_readClock_2 5 rfl rfl)
theorem dX4_readClock_53 : decode cX4_readClock 53 = .ok (.iload 4, 2) := dk_21 4 (dk_at dksX4_readClock_2 6 rfl rfl)
theorem dX4_readClock_55 : decode cX4_readClock 55 = .ok (.iconst 1, 1) := dk_4 (dk_at dksX4_readClock_2 8 rfl rfl)
theorem dX4_readClock_56 : decode cX4_readClock 56 = .ok (.isub, 1) := dk_100 (dk_at dksX4_readClock_2 9 rfl rfl)
theorem dX4_readClock_57 : decode cX4_readClock 57 = .ok (.invokevirtual 198, 3) := dk_182 0 198 (dk_at dksX4_readClock_2 10 rfl rfl)
theorem dX4_readClock_60 : decode cX4_readClock 60 = .ok (.istore 5, 2) := dk_54 5 (dk_at dksX4_readClock_2 13 rfl rfl)
theorem dX4_readClock_62 : decode cX4_readClock 62 = .ok (.aload_n 0, 1) := dk_42 (dk_at dksX4_readClock_2 15 rfl rfl)
theorem dX4_readClock_63 : decode cX4_readClock 63 = .ok (.invokevirtual 154, 3) := dk_182 0 154 (dk_at dksX4_readClock_2 16 rfl rfl)
theorem dX4_readClock_66 : decode cX4_readClock 66 = .ok (.ifCond .ne 4, 3) := dk_154 0 4 (dk_at dksX4_readClock_2 19 rfl rfl)
theorem dX4_readClock_69 : decode cX4_readClock 69 = .ok (.return_, 1) := dk_177 (dk_at dksX4_readClock_2 22 rfl rfl)
theorem dX4_readClock_70 : decode cX4_readClock 70 = .ok (.aload_n 0, 1) := dk_42 (dk_at dksX4_readClock_2 23 rfl rfl)
theorem dX4_readClock_71 : decode cX4_readClock 71 = .ok (.getfield 31, 3) := dk_180 0 31 (dk_at dksX4_readClock_3 0 rfl rfl)
theorem dX4_readClock_74 : decode cX4_readClock 74 = .ok (.iload_n 1, 1) := dk_27 (dk_at dksX4_readClock_3 3 rfl rfl)
theorem dX4_readClock_75 : decode cX4_readClock 75 = .ok (.iconst 2, 1) := dk_5 (dk_at dksX4_readClock_3 4 rfl rfl)
theorem dX4_readClock_76 : decode cX4_readClock 76 = .ok (.iadd, 1) := dk_96 (dk_at dksX4_readClock_3 5 rfl rfl)
theorem dX4_readClock_77 : decode cX4_readClock 77 = .ok (.iload_n 2, 1) := dk_28 (dk_at dksX4_readClock_3 6 rfl rfl)
theorem dX4_readClock_78 : decode cX4_readClock 78 = .ok (.iastore, 1) := dk_79 (dk_at dksX4_readClock_3 7 rfl rfl)
theorem dX4_readClock_79 : decode cX4_readClock 79 = .ok (.aload_n 0, 1) := dk_42 (dk_at dksX4_readClock_3 8 rfl rfl)
theorem dX4_readClock_80 : decode cX4_readClock 80 = .ok (.getfield 31, 3) := dk_180 0 31 (dk_at dksX4_readClock_3 9 rfl rfl)
theorem dX4_readClock_83 : decode cX4_readClock 83 = .ok (.iload_n 1, 1) := dk_27 (dk_at dksX4_readClock_3 12 rfl rfl)
theorem dX4_readClock_84 : decode cX4_readClock 84 = .ok (.iconst 3, 1) := dk_6 (dk_at dksX4_readClock_3 13 rfl rfl)
theorem dX4_readClock_85 : decode cX4_readClock 85 = .ok (.iadd, 1) := dk_96 (dk_at dksX4_readClock_3 14 rfl rfl)
theorem dX4_readClock_86 : decode cX4_readClock 86 = .ok (.iload_n 3, 1) := dk_29 (dk_at dksX4_readClock_3 15 rfl rfl)
theorem dX4_readClock_87 : decode cX4_readClock 87 = .ok (.iastore, 1) := dk_79 (dk_at dksX4_readClock_3 16 rfl rfl)
theorem dX4_readClock_88 : decode cX4_readClock 88 = .ok (.aload_n 0, 1) := dk_42 (dk_at dksX4_readClock_3 17 rfl rfl)
theorem dX4_readClock_89 : decode cX4_readClock 89 = .ok (.getfield 31, 3) := dk_180 0 31 (dk_at dksX4_readClock_3 18 rfl rfl)
theorem dX4_readClock_92 : decode cX4_readClock 92 = .ok (.iload_n 1, 1) := dk_27 (dk_at dksX4_readClock_3 21 rfl rfl)
theorem dX4_readClock_93 : decode cX4_readClock 93 = .ok (.iconst 4, 1) := dk_7 (dk_at dksX4_readClock_3 22 rfl rfl)
theorem dX4_readClock_94 : decode cX4_readClock 94 = .ok (.iadd, 1) := dk_96 (dk_at dksX4_readClock_3 23 rfl rfl)
theorem dX4_readClock_95 : decode cX4_readClock 95 = .ok (.iload 4, 2) := dk_21 4 (dk_at dksX4_readClock_4 0 rfl rfl)
theorem dX4_readClock_97 : decode cX4_readClock 97 = .ok (.iastore, 1) := dk_79 (dk_at dksX4_readClock_4 2 rfl rfl)
theorem dX4_readClock_98 : decode cX4_readClock 98 = .ok (.aload_n 0, 1) := dk_42 (dk_at dksX4_readClock_4 3 rfl rfl)
theorem dX4_readClock_99 : decode cX4_readClock 99 = .ok (.getfield 31, 3) := dk_180 0 31 (dk_at dksX4_readClock_4 4 rfl rfl)
theorem dX4_readClock_102 : decode cX4_readClock 102 = .ok (.iload_n 1, 1) := dk_27 (dk_at dksX4_readClock_4 7 rfl rfl)
theorem dX4_readClock_103 : decode cX4_readClock 103 = .ok (.iconst 5, 1) := dk_8 (dk_at dksX4_readClock_4 8 rfl rfl)
theorem dX4_readClock_104 : decode cX4_readClock 104 = .ok (.iadd, 1) := dk_96 (dk_at dksX4_readClock_4 9 rfl rfl)
theorem dX4_readClock_105 : decode cX4_readClock 105 = .ok (.iload 5, 2) := dk_21 5 (dk_at dksX4_readClock_4 10 rfl rfl)
theorem dX4_readClock_107 : decode cX4_readClock 107 = .ok (.iastore, 1) := dk_79 (dk_at dksX4_readClock_4 12 rfl rfl)
theorem dX4_readClock_108 : decode cX4_readClock 108 = .ok (.aload_n 0, 1) := dk_42 (dk_at dksX4_readClock_4 13 rfl rfl)
theorem dX4_readClock_109 : decode cX4_readClock 109 = .ok (.getfield 31, 3) := dk_180 0 31 (dk_at dksX4_readClock_4 14 rfl rfl)
theorem dX4_readClock_112 : decode cX4_readClock 112 = .ok (.iconst 1, 1) := dk_4 (dk_at dksX4_readClock_4 17 rfl rfl)
theorem dX4_readClock_113 : decode cX4_readClock 113 = .ok (.dup2, 1) := dk_92 (dk_at dksX4_readClock_4 18 rfl rfl)
theorem dX4_readClock_114 : decode cX4_readClock 114 = .ok (.iaload, 1) := dk_46 (dk_at dksX4_readClock_4 19 rfl rfl)
theorem dX4_readClock_115 : decode cX4_readClock 115 = .ok (.iconst 1, 1) := dk_4 (dk_at dksX4_readClock_4 20 rfl rfl)
theorem dX4_readClock_116 : decode cX4_readClock 116 = .ok (.iadd, 1) := dk_96 (dk_at dksX4_readClock_4 21 rfl rfl)
theorem dX4_readClock_117 : decode cX4_readClock 117 = .ok (.iastore, 1) := dk_79 (dk_at dksX4_readClock_4 22 rfl rfl)
theorem dX4_readClock_118 : decode cX4_readClock 118 = .ok (.return_, 1) := dk_177 (dk_at dksX4_readClock_4 23 rfl rfl)
abbrev cX4_readPerson : ByteArray := prog_19_method_29_code
def yX4_readPerson : MethodName := ⟨RX4, "readPerson", "()V"⟩
def dkwX4_readPerson_2 : List UInt8 := [27, 5, 96, 28, 79, 42, 180, 0, 31, 5, 92, 46, 4, 96, 79, 177]
abbrev dktX4_readPerson_2 : List UInt8 := dkwX4_readPerson_2 ++ []
def dkwX4_readPerson_1 : List UInt8 := [180, 0, 31, 16, 6, 46, 4, 100, 182, 0, 198, 61, 42, 182, 0, 154, 154, 0, 4, 177, 42, 180, 0, 31]
abbrev dktX4_readPerson_1 : List UInt8 := dkwX4_readPerson_1 ++ dktX4_readPerson_2
def dkwX4_readPerson_0 : List UInt8 := [16, 56, 16, 33, 42, 180, 0, 31, 5, 46, 104, 96, 60, 42, 27, 182, 0, 193, 42, 18, 206, 3, 42]
abbrev dktX4_readPerson_0 : List UInt8 := dkwX4_readPerson_0 ++ dktX4_readPerson_1
theorem dksX4_readPerson_0 : cX4_readPerson.data.toList.drop 0 = dktX4_readPerson_0 := by decide +kernel
theorem dksX4_readPerson_1 : cX4_readPerson.data.toList.drop 23 = dktX4_readPerson_1 := dk_seg dksX4_readPerson_0 23 rfl rfl
theorem dksX4_readPerson_2 : cX4_readPerson.data.toList.drop 47 = dktX4_readPerson_2 := dk_seg dksX4_readPerson_1 24 rfl rfl
theorem dX4_readPerson_0 : decode cX4_readPerson 0 = .ok (.bipush 56, 2) := dk_16 56 (dk_at dksX4_readPerson_0 0 rfl rfl)
theorem dX4_readPerson_2 : decode cX4_readPerson 2 = .ok (.bipush 33, 2) := dk_16 33 (dk_at dksX4_readPerson_0 2 rfl rfl)
theorem dX4_readPerson_4 : decode cX4_readPerson 4 = .ok (.aload_n 0, 1) := dk_42 (dk_at dksX4_readPerson_0 4 rfl rfl)
theorem dX4_readPerson_5 : decode cX4_readPerson 5 = .ok (.getfield 31, 3) := dk_180 0 31 (dk_at dksX4_readPerson_0 5 rfl rfl)
theorem dX4_readPerson_8 : decode cX4_readPerson 8 = .ok (.iconst 2, 1) := dk_5 (dk_at dksX4_readPerson_0 8 rfl rfl)
theorem dX4_readPerson_9 : decode cX4_readPerson 9 = .ok (.iaload, 1) := dk_46 (dk_at dksX4_readPerson_0 9 rfl rfl)
theorem dX4_readPerson_10 : decode cX4_readPerson 10 = .ok (.imul, 1) := dk_104 (dk_at dksX4_readPerson_0 10 rfl rfl)
theorem dX4_readPerson_11 : decode cX4_readPerson 11 = .ok (.iadd, 1) := dk_96 (dk_at dksX4_readPerson_0 11 rfl rfl)
theorem dX4_readPerson_12 : decode cX4_readPerson 12 = .ok (.istore_n 1, 1) := dk_60 (dk_at dksX4_readPerson_0 12 rfl rfl)
theorem dX4_readPerson_13 : decode cX4_readPerson 13 = .ok (.aload_n 0, 1) := dk_42 (dk_at dksX4_readPerson_0 13 rfl rfl)
theorem dX4_readPerson_14 : decode cX4_readPerson 14 = .ok (.iload_n 1, 1) := dk_27 (dk_at dksX4_readPerson_0 14 rfl rfl)
theorem dX4_readPerson_15 : decode cX4_readPerson 15 = .ok (.invokevirtual 193, 3) := dk_182 0 193 (dk_at dksX4_readPerson_0 15 rfl rfl)
theorem dX4_readPerson_18 : decode cX4_readPerson 18 = .ok (.aload_n 0, 1) := dk_42 (dk_at dksX4_readPerson_0 18 rfl rfl)
theorem dX4_readPerson_19 : decode cX4_readPerson 19 = .ok (.ldc 206, 2) := dk_18 206 (dk_at dksX4_readPerson_0 19 rfl rfl)
theorem dX4_readPerson_21 : decode cX4_readPerson 21 = .ok (.iconst 0, 1) := dk_3 (dk_at dksX4_readPerson_0 21 rfl rfl)
theorem dX4_readPerson_22 : decode cX4_readPerson 22 = .ok (.aload_n 0, 1) := dk_42 (dk_at dksX4_readPerson_0 22 rfl rfl)
theorem dX4_readPerson_23 : decode cX4_readPerson 23 = .ok (.getfield 31, 3) := dk_180 0 31 (dk_at dksX4_readPerson_1 0 rfl rfl)
theorem dX4_readPerson_26 : decode cX4_readPerson 26 = .ok (.bipush 6, 2) := dk_16 6 (dk_at dksX4_readPerson_1 3 rfl rfl)
theorem dX4_readPerson_28 : decode cX4_readPerson 28 = .ok (.iaload, 1) := dk_46 (dk_at dksX4_readPerson_1 5 rfl rfl)
theorem dX4_readPerson_29 : decode cX4_readPerson 29 = .ok (.iconst 1, 1) := dk_4 (dk_at dksX4_readPerson_1 6 rfl rfl)
theorem dX4_readPerson_30 : decode cX4_readPerson 30 = .ok (.isub, 1) := dk_100 (dk_at dksX4_readPerson_1 7 rfl rfl)
theorem dX4_readPerson_31 : decode cX4_readPerson 31 = .ok (.invokevirtual 198, 3) := dk_182 0 198 (dk_at dksX4_readPerson_1 8 rfl rfl)
theorem dX4_readPerson_34 : decode cX4_readPerson 34 = .ok (.istore_n 2, 1) := dk_61 (dk_at dksX4_readPerson_1 11 rfl rfl)
theorem dX4_readPerson_35 : decode cX4_readPerson 35 = .ok (.aload_n 0, 1) := dk_42 (dk_at dksX4_readPerson_1 12 rfl rfl)
theorem dX4_readPerson_36 : decode cX4_readPerson 36 = .ok (.invokevirtual 154, 3) := dk_182 0 154 (dk_at dksX4_readPerson_1 13 rfl rfl)
theorem dX4_readPerson_39 : decode cX4_readPerson 39 = .ok (.ifCond .ne 4, 3) := dk_154 0 4 (dk_at dksX4_readPerson_1 16 rfl rfl)
theorem dX4_readPerson_42 : decode cX4_readPerson 42 = .ok (.return_, 1) := dk_177 (dk_at dksX4_readPerson_1 19 rfl rfl)
theorem dX4_readPerson_43 : decode cX4_readPerson 43 = .ok (.aload_n 0, 1) := dk_42 (dk_at dksX4_readPerson_1 20 rfl rfl)
theorem dX4_readPerson_44 : decode cX4_readPerson 44 = .ok (.getfield 31, 3) := dk_180 0 31 (dk_at dksX4_readPerson_1 21 rfl rfl)
theorem dX4_readPerson_47 : decode cX4_readPerson 47 = .ok (.iload_n 1, 1) := dk_27 (dk_at dksX4_readPerson_2 0 rfl rfl)
theorem dX4_readPerson_48 : decode cX4_readPerson 48 = .ok (.iconst 2, 1) := dk_5 (dk_at dksX4_readPerson_2 1 rfl rfl)
theorem dX4_readPerson_49 : decode cX4_readPerson 49 = .ok (.iadd, 1) := dk_96 (dk_at dksX4_readPerson_2 2 rfl rfl)
theorem dX4_readPerson_50 : decode cX4_readPerson 50 = .ok (.iload_n 2, 1) := dk_28 (dk_at dksX4_readPerson_2 3 rfl rfl)
theorem dX4_readPerson_51 : decode cX4_readPerson 51 = .ok (.iastore, 1) := dk_79 (dk_at dksX4_readPerson_2 4 rfl rfl)
theorem dX4_readPerson_52 : decode cX4_readPerson 52 = .ok (.aload_n 0, 1) := dk_42 (dk_at dksX4_readPerson_2 5 rfl rfl)
theorem dX4_readPerson_53 : decode cX4_readPerson 53 = .ok (.getfield 31, 3) := dk_180 0 31 (dk_at dksX4_readPerson_2 6 rfl rfl)
theorem dX4_readPerson_56 : decode cX4_readPerson 56 = .ok (.iconst 2, 1) := dk_5 (dk_at dksX4_readPerson_2 9 rfl rfl)
theorem dX4_readPerson_57 : decode cX4_readPerson 57 = .ok (.dup2, 1) := dk_92 (dk_at dksX4_readPerson_2 10 rfl rfl)
theorem dX4_readPerson_58 : decode cX4_readPerson 58 = .ok (.iaload, 1) := dk_46 (dk_at dksX4_readPerson_2 11 rfl rfl)
theorem dX4_readPerson_59 : decode cX4_readPerson 59 = .ok (.iconst 1, 1) := dk_4 (dk_at dksX4_readPerson_2 12 rfl rfl)
theorem dX4_readPerson_60 : decode cX4_readPerson 60 = .ok (.iadd, 1) := dk_96 (dk_at dksX4_readPerson_2 13 rfl rfl)
theorem dX4_readPerson_61 : decode cX4_readPerson 61 = .ok (.iastore, 1) := dk_79 (dk_at dksX4_readPerson_2 14 rfl rfl)
theorem dX4_readPerson_62 : decode cX4_readPerson 62 = .ok (.return_, 1) := dk_177 (dk_at dksX4_readPerson_2 15 rfl rfl)
abbrev cX4_readMove : ByteArray := prog_19_method_31_code
def yX4_readMove : MethodName := ⟨RX4, "readMove", "(Z)V"⟩
def dkwX4_readMove_7 : List UInt8 := [96, 79, 177]
abbrev dktX4_readMove_7 : List UInt8 := dkwX4_readMove_7 ++ []
def dkwX4_readMove_6 : List UInt8 := [180, 0, 31, 28, 6, 96, 46, 104, 96, 4, 96, 21, 4, 79, 42, 180, 0, 31, 28, 6, 96, 92, 46, 4]
abbrev dktX4_readMove_6 : List UInt8 := dkwX4_readMove_6 ++ dktX4_readMove_7
def dkwX4_readMove_5 : List UInt8 := [96, 5, 42, 180, 0, 31, 28, 6, 96, 46, 104, 96, 29, 79, 42, 180, 0, 31, 28, 8, 96, 5, 42]
abbrev dktX4_readMove_5 : List UInt8 := dkwX4_readMove_5 ++ dktX4_readMove_6
def dkwX4_readMove_4 : List UInt8 := [167, 0, 5, 16, 40, 182, 0, 185, 54, 4, 42, 182, 0, 154, 154, 0, 4, 177, 42, 180, 0, 31, 28, 8]
abbrev dktX4_readMove_4 : List UInt8 := dkwX4_readMove_4 ++ dktX4_readMove_5
def dkwX4_readMove_3 : List UInt8 := [4, 182, 0, 177, 42, 182, 0, 154, 153, 0, 7, 42, 182, 0, 171, 42, 4, 27, 153, 0, 8, 16, 12]
abbrev dktX4_readMove_3 : List UInt8 := dkwX4_readMove_3 ++ dktX4_readMove_4
def dkwX4_readMove_2 : List UInt8 := [167, 0, 17, 42, 18, 216, 182, 0, 167, 153, 0, 7, 6, 167, 0, 4, 2, 62, 29, 2, 160, 0, 8, 42]
abbrev dktX4_readMove_2 : List UInt8 := dkwX4_readMove_2 ++ dktX4_readMove_3
def dkwX4_readMove_1 : List UInt8 := [42, 18, 212, 182, 0, 167, 153, 0, 7, 4, 167, 0, 30, 42, 18, 214, 182, 0, 167, 153, 0, 7, 5]
abbrev dktX4_readMove_1 : List UInt8 := dkwX4_readMove_1 ++ dktX4_readMove_2
def dkwX4_readMove_0 : List UInt8 := [42, 182, 0, 207, 61, 7, 62, 27, 153, 0, 78, 42, 18, 210, 182, 0, 167, 153, 0, 7, 3, 167, 0, 43]
abbrev dktX4_readMove_0 : List UInt8 := dkwX4_readMove_0 ++ dktX4_readMove_1
theorem dksX4_readMove_0 : cX4_readMove.data.toList.drop 0 = dktX4_readMove_0 := by decide +kernel
theorem dksX4_readMove_1 : cX4_readMove.data.toList.drop 24 = dktX4_readMove_1 := dk_seg dksX4_readMove_0 24 rfl rfl
theorem dksX4_readMove_2 : cX4_readMove.data.toList.drop 47 = dktX4_readMove_2 := dk_seg dksX4_readMove_1 23 rfl rfl
theorem dksX4_readMove_3 : cX4_readMove.data.toList.drop 71 = dktX4_readMove_3 := dk_seg dksX4_readMove_2 24 rfl rfl
theorem dksX4_readMove_4 : cX4_readMove.data.toList.drop 94 = dktX4_readMove_4 := dk_seg dksX4_readMove_3 23 rfl rfl
theorem dksX4_readMove_5 : cX4_readMove.data.toList.drop 118 = dktX4_readMove_5 := dk_seg dksX4_readMove_4 24 rfl rfl
theorem dksX4_readMove_6 : cX4_readMove.data.toList.drop 141 = dktX4_readMove_6 := dk_seg dksX4_readMove_5 23 rfl rfl
theorem dksX4_readMove_7 : cX4_readMove.data.toList.drop 165 = dktX4_readMove_7 := dk_seg dksX4_readMove_6 24 rfl rfl
theorem dX4_readMove_0 : decode cX4_readMove 0 = .ok (.aload_n 0, 1) := dk_42 (dk_at dksX4_readMove_0 0 rfl rfl)
theorem dX4_readMove_1 : decode cX4_readMove 1 = .ok (.invokevirtual 207, 3) := dk_182 0 207 (dk_at dksX4_readMove_0 1 rfl rfl)
theorem dX4_readMove_4 : decode cX4_readMove 4 = .ok (.istore_n 2, 1) := dk_61 (dk_at dksX4_readMove_0 4 rfl rfl)
theorem dX4_readMove_5 : decode cX4_readMove 5 = .ok (.iconst 4, 1) := dk_7 (dk_at dksX4_readMove_0 5 rfl rfl)
theorem dX4_readMove_6 : decode cX4_readMove 6 = .ok (.istore_n 3, 1) := dk_62 (dk_at dksX4_readMove_0 6 rfl rfl)
theorem dX4_readMove_7 : decode cX4_readMove 7 = .ok (.iload_n 1, 1) := dk_27 (dk_at dksX4_readMove_0 7 rfl rfl)
theorem dX4_readMove_8 : decode cX4_readMove 8 = .ok (.ifCond .eq 78, 3) := dk_153 0 78 (dk_at dksX4_readMove_0 8 rfl rfl)
theorem dX4_readMove_11 : decode cX4_readMove 11 = .ok (.aload_n 0, 1) := dk_42 (dk_at dksX4_readMove_0 11 rfl rfl)
theorem dX4_readMove_12 : decode cX4_readMove 12 = .ok (.ldc 210, 2) := dk_18 210 (dk_at dksX4_readMove_0 12 rfl rfl)
theorem dX4_readMove_14 : decode cX4_readMove 14 = .ok (.invokevirtual 167, 3) := dk_182 0 167 (dk_at dksX4_readMove_0 14 rfl rfl)
theorem dX4_readMove_17 : decode cX4_readMove 17 = .ok (.ifCond .eq 7, 3) := dk_153 0 7 (dk_at dksX4_readMove_0 17 rfl rfl)
theorem dX4_readMove_20 : decode cX4_readMove 20 = .ok (.iconst 0, 1) := dk_3 (dk_at dksX4_readMove_0 20 rfl rfl)
theorem dX4_readMove_21 : decode cX4_readMove 21 = .ok (.goto 43, 3) := dk_167 0 43 (dk_at dksX4_readMove_0 21 rfl rfl)
theorem dX4_readMove_24 : decode cX4_readMove 24 = .ok (.aload_n 0, 1) := dk_42 (dk_at dksX4_readMove_1 0 rfl rfl)
theorem dX4_readMove_25 : decode cX4_readMove 25 = .ok (.ldc 212, 2) := dk_18 212 (dk_at dksX4_readMove_1 1 rfl rfl)
theorem dX4_readMove_27 : decode cX4_readMove 27 = .ok (.invokevirtual 167, 3) := dk_182 0 167 (dk_at dksX4_readMove_1 3 rfl rfl)
theorem dX4_readMove_30 : decode cX4_readMove 30 = .ok (.ifCond .eq 7, 3) := dk_153 0 7 (dk_at dksX4_readMove_1 6 rfl rfl)
theorem dX4_readMove_33 : decode cX4_readMove 33 = .ok (.iconst 1, 1) := dk_4 (dk_at dksX4_readMove_1 9 rfl rfl)
theorem dX4_readMove_34 : decode cX4_readMove 34 = .ok (.goto 30, 3) := dk_167 0 30 (dk_at dksX4_readMove_1 10 rfl rfl)
theorem dX4_readMove_37 : decode cX4_readMove 37 = .ok (.aload_n 0, 1) := dk_42 (dk_at dksX4_readMove_1 13 rfl rfl)
theorem dX4_readMove_38 : decode cX4_readMove 38 = .ok (.ldc 214, 2) := dk_18 214 (dk_at dksX4_readMove_1 14 rfl rfl)
theorem dX4_readMove_40 : decode cX4_readMove 40 = .ok (.invokevirtual 167, 3) := dk_182 0 167 (dk_at dksX4_readMove_1 16 rfl rfl)
theorem dX4_readMove_43 : decode cX4_readMove 43 = .ok (.ifCond .eq 7, 3) := dk_153 0 7 (dk_at dksX4_readMove_1 19 rfl rfl)
theorem dX4_readMove_46 : decode cX4_readMove 46 = .ok (.iconst 2, 1) := dk_5 (dk_at dksX4_readMove_1 22 rfl rfl)
theorem dX4_readMove_47 : decode cX4_readMove 47 = .ok (.goto 17, 3) := dk_167 0 17 (dk_at dksX4_readMove_2 0 rfl rfl)
theorem dX4_readMove_50 : decode cX4_readMove 50 = .ok (.aload_n 0, 1) := dk_42 (dk_at dksX4_readMove_2 3 rfl rfl)
theorem dX4_readMove_51 : decode cX4_readMove 51 = .ok (.ldc 216, 2) := dk_18 216 (dk_at dksX4_readMove_2 4 rfl rfl)
theorem dX4_readMove_53 : decode cX4_readMove 53 = .ok (.invokevirtual 167, 3) := dk_182 0 167 (dk_at dksX4_readMove_2 6 rfl rfl)
theorem dX4_readMove_56 : decode cX4_readMove 56 = .ok (.ifCond .eq 7, 3) := dk_153 0 7 (dk_at dksX4_readMove_2 9 rfl rfl)
theorem dX4_readMove_59 : decode cX4_readMove 59 = .ok (.iconst 3, 1) := dk_6 (dk_at dksX4_readMove_2 12 rfl rfl)
theorem dX4_readMove_60 : decode cX4_readMove 60 = .ok (.goto 4, 3) := dk_167 0 4 (dk_at dksX4_readMove_2 13 rfl rfl)
theorem dX4_readMove_63 : decode cX4_readMove 63 = .ok (.iconst (-1), 1) := dk_2 (dk_at dksX4_readMove_2 16 rfl rfl)
theorem dX4_readMove_64 : decode cX4_readMove 64 = .ok (.istore_n 3, 1) := dk_62 (dk_at dksX4_readMove_2 17 rfl rfl)
theorem dX4_readMove_65 : decode cX4_readMove 65 = .ok (.iload_n 3, 1) := dk_29 (dk_at dksX4_readMove_2 18 rfl rfl)
theorem dX4_readMove_66 : decode cX4_readMove 66 = .ok (.iconst (-1), 1) := dk_2 (dk_at dksX4_readMove_2 19 rfl rfl)
theorem dX4_readMove_67 : decode cX4_readMove 67 = .ok (.if_icmp .ne 8, 3) := dk_160 0 8 (dk_at dksX4_readMove_2 20 rfl rfl)
theorem dX4_readMove_70 : decode cX4_readMove 70 = .ok (.aload_n 0, 1) := dk_42 (dk_at dksX4_readMove_2 23 rfl rfl)
theorem dX4_readMove_71 : decode cX4_readMove 71 = .ok (.iconst 1, 1) := dk_4 (dk_at dksX4_readMove_3 0 rfl rfl)
theorem dX4_readMove_72 : decode cX4_readMove 72 = .ok (.invokevirtual 177, 3) := dk_182 0 177 (dk_at dksX4_readMove_3 1 rfl rfl)
theorem dX4_readMove_75 : decode cX4_readMove 75 = .ok (.aload_n 0, 1) := dk_42 (dk_at dksX4_readMove_3 4 rfl rfl)
theorem dX4_readMove_76 : decode cX4_readMove 76 = .ok (.invokevirtual 154, 3) := dk_182 0 154 (dk_at dksX4_readMove_3 5 rfl rfl)
theorem dX4_readMove_79 : decode cX4_readMove 79 = .ok (.ifCond .eq 7, 3) := dk_153 0 7 (dk_at dksX4_readMove_3 8 rfl rfl)
theorem dX4_readMove_82 : decode cX4_readMove 82 = .ok (.aload_n 0, 1) := dk_42 (dk_at dksX4_readMove_3 11 rfl rfl)
theorem dX4_readMove_83 : decode cX4_readMove 83 = .ok (.invokevirtual 171, 3) := dk_182 0 171 (dk_at dksX4_readMove_3 12 rfl rfl)
theorem dX4_readMove_86 : decode cX4_readMove 86 = .ok (.aload_n 0, 1) := dk_42 (dk_at dksX4_readMove_3 15 rfl rfl)
theorem dX4_readMove_87 : decode cX4_readMove 87 = .ok (.iconst 1, 1) := dk_4 (dk_at dksX4_readMove_3 16 rfl rfl)
theorem dX4_readMove_88 : decode cX4_readMove 88 = .ok (.iload_n 1, 1) := dk_27 (dk_at dksX4_readMove_3 17 rfl rfl)
theorem dX4_readMove_89 : decode cX4_readMove 89 = .ok (.ifCond .eq 8, 3) := dk_153 0 8 (dk_at dksX4_readMove_3 18 rfl rfl)
theorem dX4_readMove_92 : decode cX4_readMove 92 = .ok (.bipush 12, 2) := dk_16 12 (dk_at dksX4_readMove_3 21 rfl rfl)
theorem dX4_readMove_94 : decode cX4_readMove 94 = .ok (.goto 5, 3) := dk_167 0 5 (dk_at dksX4_readMove_4 0 rfl rfl)
theorem dX4_readMove_97 : decode cX4_readMove 97 = .ok (.bipush 40, 2) := dk_16 40 (dk_at dksX4_readMove_4 3 rfl rfl)
theorem dX4_readMove_99 : decode cX4_readMove 99 = .ok (.invokevirtual 185, 3) := dk_182 0 185 (dk_at dksX4_readMove_4 5 rfl rfl)
theorem dX4_readMove_102 : decode cX4_readMove 102 = .ok (.istore 4, 2) := dk_54 4 (dk_at dksX4_readMove_4 8 rfl rfl)
theorem dX4_readMove_104 : decode cX4_readMove 104 = .ok (.aload_n 0, 1) := dk_42 (dk_at dksX4_readMove_4 10 rfl rfl)
theorem dX4_readMove_105 : decode cX4_readMove 105 = .ok (.invokevirtual 154, 3) := dk_182 0 154 (dk_at dksX4_readMove_4 11 rfl rfl)
theorem dX4_readMove_108 : decode cX4_readMove 108 = .ok (.ifCond .ne 4, 3) := dk_154 0 4 (dk_at dksX4_readMove_4 14 rfl rfl)
theorem dX4_readMove_111 : decode cX4_readMove 111 = .ok (.return_, 1) := dk_177 (dk_at dksX4_readMove_4 17 rfl rfl)
theorem dX4_readMove_112 : decode cX4_readMove 112 = .ok (.aload_n 0, 1) := dk_42 (dk_at dksX4_readMove_4 18 rfl rfl)
theorem dX4_readMove_113 : decode cX4_readMove 113 = .ok (.getfield 31, 3) := dk_180 0 31 (dk_at dksX4_readMove_4 19 rfl rfl)
theorem dX4_readMove_116 : decode cX4_readMove 116 = .ok (.iload_n 2, 1) := dk_28 (dk_at dksX4_readMove_4 22 rfl rfl)
theorem dX4_readMove_117 : decode cX4_readMove 117 = .ok (.iconst 5, 1) := dk_8 (dk_at dksX4_readMove_4 23 rfl rfl)
theorem dX4_readMove_118 : decode cX4_readMove 118 = .ok (.iadd, 1) := dk_96 (dk_at dksX4_readMove_5 0 rfl rfl)
theorem dX4_readMove_119 : decode cX4_readMove 119 = .ok (.iconst 2, 1) := dk_5 (dk_at dksX4_readMove_5 1 rfl rfl)
theorem dX4_readMove_120 : decode cX4_readMove 120 = .ok (.aload_n 0, 1) := dk_42 (dk_at dksX4_readMove_5 2 rfl rfl)
theorem dX4_readMove_121 : decode cX4_readMove 121 = .ok (.getfield 31, 3) := dk_180 0 31 (dk_at dksX4_readMove_5 3 rfl rfl)
theorem dX4_readMove_124 : decode cX4_readMove 124 = .ok (.iload_n 2, 1) := dk_28 (dk_at dksX4_readMove_5 6 rfl rfl)
theorem dX4_readMove_125 : decode cX4_readMove 125 = .ok (.iconst 3, 1) := dk_6 (dk_at dksX4_readMove_5 7 rfl rfl)
theorem dX4_readMove_126 : decode cX4_readMove 126 = .ok (.iadd, 1) := dk_96 (dk_at dksX4_readMove_5 8 rfl rfl)
theorem dX4_readMove_127 : decode cX4_readMove 127 = .ok (.iaload, 1) := dk_46 (dk_at dksX4_readMove_5 9 rfl rfl)
theorem dX4_readMove_128 : decode cX4_readMove 128 = .ok (.imul, 1) := dk_104 (dk_at dksX4_readMove_5 10 rfl rfl)
theorem dX4_readMove_129 : decode cX4_readMove 129 = .ok (.iadd, 1) := dk_96 (dk_at dksX4_readMove_5 11 rfl rfl)
theorem dX4_readMove_130 : decode cX4_readMove 130 = .ok (.iload_n 3, 1) := dk_29 (dk_at dksX4_readMove_5 12 rfl rfl)
theorem dX4_readMove_131 : decode cX4_readMove 131 = .ok (.iastore, 1) := dk_79 (dk_at dksX4_readMove_5 13 rfl rfl)
theorem dX4_readMove_132 : decode cX4_readMove 132 = .ok (.aload_n 0, 1) := dk_42 (dk_at dksX4_readMove_5 14 rfl rfl)
theorem dX4_readMove_133 : decode cX4_readMove 133 = .ok (.getfield 31, 3) := dk_180 0 31 (dk_at dksX4_readMove_5 15 rfl rfl)
theorem dX4_readMove_136 : decode cX4_readMove 136 = .ok (.iload_n 2, 1) := dk_28 (dk_at dksX4_readMove_5 18 rfl rfl)
theorem dX4_readMove_137 : decode cX4_readMove 137 = .ok (.iconst 5, 1) := dk_8 (dk_at dksX4_readMove_5 19 rfl rfl)
theorem dX4_readMove_138 : decode cX4_readMove 138 = .ok (.iadd, 1) := dk_96 (dk_at dksX4_readMove_5 20 rfl rfl)
theorem dX4_readMove_139 : decode cX4_readMove 139 = .ok (.iconst 2, 1) := dk_5 (dk_at dksX4_readMove_5 21 rfl rfl)
theorem dX4_readMove_140 : decode cX4_readMove 140 = .ok (.aload_n 0, 1) := dk_42 (dk_at dksX4_readMove_5 22 rfl rfl)
theorem dX4_readMove_141 : decode cX4_readMove 141 = .ok (.getfield 31, 3) := dk_180 0 31 (dk_at dksX4_readMove_6 0 rfl rfl)
theorem dX4_readMove_144 : decode cX4_readMove 144 = .ok (.iload_n 2, 1) := dk_28 (dk_at dksX4_readMove_6 3 rfl rfl)
theorem dX4_readMove_145 : decode cX4_readMove 145 = .ok (.iconst 3, 1) := dk_6 (dk_at dksX4_readMove_6 4 rfl rfl)
theorem dX4_readMove_146 : decode cX4_readMove 146 = .ok (.iadd, 1) := dk_96 (dk_at dksX4_readMove_6 5 rfl rfl)
theorem dX4_readMove_147 : decode cX4_readMove 147 = .ok (.iaload, 1) := dk_46 (dk_at dksX4_readMove_6 6 rfl rfl)
theorem dX4_readMove_148 : decode cX4_readMove 148 = .ok (.imul, 1) := dk_104 (dk_at dksX4_readMove_6 7 rfl rfl)
theorem dX4_readMove_149 : decode cX4_readMove 149 = .ok (.iadd, 1) := dk_96 (dk_at dksX4_readMove_6 8 rfl rfl)
theorem dX4_readMove_150 : decode cX4_readMove 150 = .ok (.iconst 1, 1) := dk_4 (dk_at dksX4_readMove_6 9 rfl rfl)
theorem dX4_readMove_151 : decode cX4_readMove 151 = .ok (.iadd, 1) := dk_96 (dk_at dksX4_readMove_6 10 rfl rfl)
theorem dX4_readMove_152 : decode cX4_readMove 152 = .ok (.iload 4, 2) := dk_21 4 (dk_at dksX4_readMove_6 11 rfl rfl)
theorem dX4_readMove_154 : decode cX4_readMove 154 = .ok (.iastore, 1) := dk_79 (dk_at dksX4_readMove_6 13 rfl rfl)
theorem dX4_readMove_155 : decode cX4_readMove 155 = .ok (.aload_n 0, 1) := dk_42 (dk_at dksX4_readMove_6 14 rfl rfl)
theorem dX4_readMove_156 : decode cX4_readMove 156 = .ok (.getfield 31, 3) := dk_180 0 31 (dk_at dksX4_readMove_6 15 rfl rfl)
theorem dX4_readMove_159 : decode cX4_readMove 159 = .ok (.iload_n 2, 1) := dk_28 (dk_at dksX4_readMove_6 18 rfl rfl)
theorem dX4_readMove_160 : decode cX4_readMove 160 = .ok (.iconst 3, 1) := dk_6 (dk_at dksX4_readMove_6 19 rfl rfl)
theorem dX4_readMove_161 : decode cX4_readMove 161 = .ok (.iadd, 1) := dk_96 (dk_at dksX4_readMove_6 20 rfl rfl)
theorem dX4_readMove_162 : decode cX4_readMove 162 = .ok (.dup2, 1) := dk_92 (dk_at dksX4_readMove_6 21 rfl rfl)
theorem dX4_readMove_163 : decode cX4_readMove 163 = .ok (.iaload, 1) := dk_46 (dk_at dksX4_readMove_6 22 rfl rfl)
theorem dX4_readMove_164 : decode cX4_readMove 164 = .ok (.iconst 1, 1) := dk_4 (dk_at dksX4_readMove_6 23 rfl rfl)
theorem dX4_readMove_165 : decode cX4_readMove 165 = .ok (.iadd, 1) := dk_96 (dk_at dksX4_readMove_7 0 rfl rfl)
theorem dX4_readMove_166 : decode cX4_readMove 166 = .ok (.iastore, 1) := dk_79 (dk_at dksX4_readMove_7 1 rfl rfl)
theorem dX4_readMove_167 : decode cX4_readMove 167 = .ok (.return_, 1) := dk_177 (dk_at dksX4_readMove_7 2 rfl rfl)
abbrev cX4_readLook : ByteArray := prog_19_method_33_code
def yX4_readLook : MethodName := ⟨RX4, "readLook", "()V"⟩
def dkwX4_readLook_12 : List UInt8 := [180, 0, 31, 27, 7, 96, 92, 46, 4, 96, 79, 177]
abbrev dktX4_readLook_12 : List UInt8 := dkwX4_readLook_12 ++ []
def dkwX4_readLook_11 : List UInt8 := [180, 0, 31, 28, 4, 96, 8, 79, 42, 180, 0, 31, 28, 5, 96, 42, 3, 16, 100, 182, 0, 185, 79, 42]
abbrev dktX4_readLook_11 : List UInt8 := dkwX4_readLook_11 ++ dktX4_readLook_12
def dkwX4_readLook_10 : List UInt8 := [180, 0, 31, 28, 5, 96, 42, 3, 16, 7, 182, 0, 185, 79, 167, 0, 33, 42, 18, 233, 182, 0, 181, 42]
abbrev dktX4_readLook_10 : List UInt8 := dkwX4_readLook_10 ++ dktX4_readLook_11
def dkwX4_readLook_9 : List UInt8 := [167, 0, 69, 42, 18, 231, 182, 0, 174, 153, 0, 30, 42, 180, 0, 31, 28, 4, 96, 7, 79, 42]
abbrev dktX4_readLook_9 : List UInt8 := dkwX4_readLook_9 ++ dktX4_readLook_10
def dkwX4_readLook_8 : List UInt8 := [180, 0, 31, 28, 4, 96, 6, 79, 42, 180, 0, 31, 28, 5, 96, 42, 3, 16, 7, 182, 0, 185, 79]
abbrev dktX4_readLook_8 : List UInt8 := dkwX4_readLook_8 ++ dktX4_readLook_9
def dkwX4_readLook_7 : List UInt8 := [18, 228, 3, 16, 59, 182, 0, 198, 79, 167, 0, 105, 42, 18, 229, 182, 0, 174, 153, 0, 30, 42]
abbrev dktX4_readLook_7 : List UInt8 := dkwX4_readLook_7 ++ dktX4_readLook_8
def dkwX4_readLook_6 : List UInt8 := [4, 96, 5, 79, 42, 180, 0, 31, 28, 5, 96, 42, 182, 0, 218, 79, 42, 180, 0, 31, 28, 6, 96, 42]
abbrev dktX4_readLook_6 : List UInt8 := dkwX4_readLook_6 ++ dktX4_readLook_7
def dkwX4_readLook_5 : List UInt8 := [3, 16, 39, 182, 0, 198, 79, 167, 0, 155, 42, 18, 227, 182, 0, 174, 153, 0, 44, 42, 180, 0, 31, 28]
abbrev dktX4_readLook_5 : List UInt8 := dkwX4_readLook_5 ++ dktX4_readLook_6
def dkwX4_readLook_4 : List UInt8 := [180, 0, 31, 28, 5, 96, 42, 4, 16, 40, 182, 0, 185, 79, 42, 180, 0, 31, 28, 6, 96, 42, 18, 225]
abbrev dktX4_readLook_4 : List UInt8 := dkwX4_readLook_4 ++ dktX4_readLook_5
def dkwX4_readLook_3 : List UInt8 := [3, 79, 167, 0, 208, 42, 18, 223, 182, 0, 174, 153, 0, 47, 42, 180, 0, 31, 28, 4, 96, 4, 79, 42]
abbrev dktX4_readLook_3 : List UInt8 := dkwX4_readLook_3 ++ dktX4_readLook_4
def dkwX4_readLook_2 : List UInt8 := [180, 0, 31, 28, 6, 96, 3, 79, 42, 18, 221, 182, 0, 174, 153, 0, 15, 42, 180, 0, 31, 28, 4, 96]
abbrev dktX4_readLook_2 : List UInt8 := dkwX4_readLook_2 ++ dktX4_readLook_3
def dkwX4_readLook_1 : List UInt8 := [182, 0, 181, 42, 180, 0, 31, 28, 42, 182, 0, 218, 79, 42, 180, 0, 31, 28, 5, 96, 3, 79, 42]
abbrev dktX4_readLook_1 : List UInt8 := dkwX4_readLook_1 ++ dktX4_readLook_2
def dkwX4_readLook_0 : List UInt8 := [42, 182, 0, 207, 60, 27, 16, 17, 96, 7, 42, 180, 0, 31, 27, 7, 96, 46, 104, 96, 61, 42, 18, 188]
abbrev dktX4_readLook_0 : List UInt8 := dkwX4_readLook_0 ++ dktX4_readLook_1
theorem dksX4_readLook_0 : cX4_readLook.data.toList.drop 0 = dktX4_readLook_0 := by decide +kernel
theorem dksX4_readLook_1 : cX4_readLook.data.toList.drop 24 = dktX4_readLook_1 := dk_seg dksX4_readLook_0 24 rfl rfl
theorem dksX4_readLook_2 : cX4_readLook.data.toList.drop 47 = dktX4_readLook_2 := dk_seg dksX4_readLook_1 23 rfl rfl
theorem dksX4_readLook_3 : cX4_readLook.data.toList.drop 71 = dktX4_readLook_3 := dk_seg dksX4_readLook_2 24 rfl rfl
theorem dksX4_readLook_4 : cX4_readLook.data.toList.drop 95 = dktX4_readLook_4 := dk_seg dksX4_readLook_3 24 rfl rfl
theorem dksX4_readLook_5 : cX4_readLook.data.toList.drop 119 = dktX4_readLook_5 := dk_seg dksX4_readLook_4 24 rfl rfl
theorem dksX4_readLook_6 : cX4_readLook.data.toList.drop 143 = dktX4_readLook_6 := dk_seg dksX4_readLook_5 24 rfl rfl
theorem dksX4_readLook_7 : cX4_readLook.data.toList.drop 167 = dktX4_readLook_7 := dk_seg dksX4_readLook_6 24 rfl rfl
theorem dksX4_readLook_8 : cX4_readLook.data.toList.drop 189 = dktX4_readLook_8 := dk_seg dksX4_readLook_7 22 rfl rfl
theorem dksX4_readLook_9 : cX4_readLook.data.toList.drop 212 = dktX4_readLook_9 := dk_seg dksX4_readLook_8 23 rfl rfl
theorem dksX4_readLook_10 : cX4_readLook.data.toList.drop 234 = dktX4_readLook_10 := dk_seg dksX4_readLook_9 22 rfl rfl
theorem dksX4_readLook_11 : cX4_readLook.data.toList.drop 258 = dktX4_readLook_11 := dk_seg dksX4_readLook_10 24 rfl rfl
theorem dksX4_readLook_12 : cX4_readLook.data.toList.drop 282 = dktX4_readLook_12 := dk_seg dksX4_readLook_11 24 rfl rfl
theorem dX4_readLook_0 : decode cX4_readLook 0 = .ok (.aload_n 0, 1) := dk_42 (dk_at dksX4_readLook_0 0 rfl rfl)
theorem dX4_readLook_1 : decode cX4_readLook 1 = .ok (.invokevirtual 207, 3) := dk_182 0 207 (dk_at dksX4_readLook_0 1 rfl rfl)
theorem dX4_readLook_4 : decode cX4_readLook 4 = .ok (.istore_n 1, 1) := dk_60 (dk_at dksX4_readLook_0 4 rfl rfl)
theorem dX4_readLook_5 : decode cX4_readLook 5 = .ok (.iload_n 1, 1) := dk_27 (dk_at dksX4_readLook_0 5 rfl rfl)
theorem dX4_readLook_6 : decode cX4_readLook 6 = .ok (.bipush 17, 2) := dk_16 17 (dk_at dksX4_readLook_0 6 rfl rfl)
theorem dX4_readLook_8 : decode cX4_readLook 8 = .ok (.iadd, 1) := dk_96 (dk_at dksX4_readLook_0 8 rfl rfl)
theorem dX4_readLook_9 : decode cX4_readLook 9 = .ok (.iconst 4, 1) := dk_7 (dk_at dksX4_readLook_0 9 rfl rfl)
theorem dX4_readLook_10 : decode cX4_readLook 10 = .ok (.aload_n 0, 1) := dk_42 (dk_at dksX4_readLook_0 10 rfl rfl)
theorem dX4_readLook_11 : decode cX4_readLook 11 = .ok (.getfield 31, 3) := dk_180 0 31 (dk_at dksX4_readLook_0 11 rfl rfl)
theorem dX4_readLook_14 : decode cX4_readLook 14 = .ok (.iload_n 1, 1) := dk_27 (dk_at dksX4_readLook_0 14 rfl rfl)
theorem dX4_readLook_15 : decode cX4_readLook 15 = .ok (.iconst 4, 1) := dk_7 (dk_at dksX4_readLook_0 15 rfl rfl)
theorem dX4_readLook_16 : decode cX4_readLook 16 = .ok (.iadd, 1) := dk_96 (dk_at dksX4_readLook_0 16 rfl rfl)
theorem dX4_readLook_17 : decode cX4_readLook 17 = .ok (.iaload, 1) := dk_46 (dk_at dksX4_readLook_0 17 rfl rfl)
theorem dX4_readLook_18 : decode cX4_readLook 18 = .ok (.imul, 1) := dk_104 (dk_at dksX4_readLook_0 18 rfl rfl)
theorem dX4_readLook_19 : decode cX4_readLook 19 = .ok (.iadd, 1) := dk_96 (dk_at dksX4_readLook_0 19 rfl rfl)
theorem dX4_readLook_20 : decode cX4_readLook 20 = .ok (.istore_n 2, 1) := dk_61 (dk_at dksX4_readLook_0 20 rfl rfl)
theorem dX4_readLook_21 : decode cX4_readLook 21 = .ok (.aload_n 0, 1) := dk_42 (dk_at dksX4_readLook_0 21 rfl rfl)
theorem dX4_readLook_22 : decode cX4_readLook 22 = .ok (.ldc 188, 2) := dk_18 188 (dk_at dksX4_readLook_0 22 rfl rfl)
theorem dX4_readLook_24 : decode cX4_readLook 24 = .ok (.invokevirtual 181, 3) := dk_182 0 181 (dk_at dksX4_readLook_1 0 rfl rfl)
theorem dX4_readLook_27 : decode cX4_readLook 27 = .ok (.aload_n 0, 1) := dk_42 (dk_at dksX4_readLook_1 3 rfl rfl)
theorem dX4_readLook_28 : decode cX4_readLook 28 = .ok (.getfield 31, 3) := dk_180 0 31 (dk_at dksX4_readLook_1 4 rfl rfl)
theorem dX4_readLook_31 : decode cX4_readLook 31 = .ok (.iload_n 2, 1) := dk_28 (dk_at dksX4_readLook_1 7 rfl rfl)
theorem dX4_readLook_32 : decode cX4_readLook 32 = .ok (.aload_n 0, 1) := dk_42 (dk_at dksX4_readLook_1 8 rfl rfl)
theorem dX4_readLook_33 : decode cX4_readLook 33 = .ok (.invokevirtual 218, 3) := dk_182 0 218 (dk_at dksX4_readLook_1 9 rfl rfl)
theorem dX4_readLook_36 : decode cX4_readLook 36 = .ok (.iastore, 1) := dk_79 (dk_at dksX4_readLook_1 12 rfl rfl)
theorem dX4_readLook_37 : decode cX4_readLook 37 = .ok (.aload_n 0, 1) := dk_42 (dk_at dksX4_readLook_1 13 rfl rfl)
theorem dX4_readLook_38 : decode cX4_readLook 38 = .ok (.getfield 31, 3) := dk_180 0 31 (dk_at dksX4_readLook_1 14 rfl rfl)
theorem dX4_readLook_41 : decode cX4_readLook 41 = .ok (.iload_n 2, 1) := dk_28 (dk_at dksX4_readLook_1 17 rfl rfl)
theorem dX4_readLook_42 : decode cX4_readLook 42 = .ok (.iconst 2, 1) := dk_5 (dk_at dksX4_readLook_1 18 rfl rfl)
theorem dX4_readLook_43 : decode cX4_readLook 43 = .ok (.iadd, 1) := dk_96 (dk_at dksX4_readLook_1 19 rfl rfl)
theorem dX4_readLook_44 : decode cX4_readLook 44 = .ok (.iconst 0, 1) := dk_3 (dk_at dksX4_readLook_1 20 rfl rfl)
theorem dX4_readLook_45 : decode cX4_readLook 45 = .ok (.iastore, 1) := dk_79 (dk_at dksX4_readLook_1 21 rfl rfl)
theorem dX4_readLook_46 : decode cX4_readLook 46 = .ok (.aload_n 0, 1) := dk_42 (dk_at dksX4_readLook_1 22 rfl rfl)
theorem dX4_readLook_47 : decode cX4_readLook 47 = .ok (.getfield 31, 3) := dk_180 0 31 (dk_at dksX4_readLook_2 0 rfl rfl)
theorem dX4_readLook_50 : decode cX4_readLook 50 = .ok (.iload_n 2, 1) := dk_28 (dk_at dksX4_readLook_2 3 rfl rfl)
theorem dX4_readLook_51 : decode cX4_readLook 51 = .ok (.iconst 3, 1) := dk_6 (dk_at dksX4_readLook_2 4 rfl rfl)
theorem dX4_readLook_52 : decode cX4_readLook 52 = .ok (.iadd, 1) := dk_96 (dk_at dksX4_readLook_2 5 rfl rfl)
theorem dX4_readLook_53 : decode cX4_readLook 53 = .ok (.iconst 0, 1) := dk_3 (dk_at dksX4_readLook_2 6 rfl rfl)
theorem dX4_readLook_54 : decode cX4_readLook 54 = .ok (.iastore, 1) := dk_79 (dk_at dksX4_readLook_2 7 rfl rfl)
theorem dX4_readLook_55 : decode cX4_readLook 55 = .ok (.aload_n 0, 1) := dk_42 (dk_at dksX4_readLook_2 8 rfl rfl)
theorem dX4_readLook_56 : decode cX4_readLook 56 = .ok (.ldc 221, 2) := dk_18 221 (dk_at dksX4_readLook_2 9 rfl rfl)
theorem dX4_readLook_58 : decode cX4_readLook 58 = .ok (.invokevirtual 174, 3) := dk_182 0 174 (dk_at dksX4_readLook_2 11 rfl rfl)
theorem dX4_readLook_61 : decode cX4_readLook 61 = .ok (.ifCond .eq 15, 3) := dk_153 0 15 (dk_at dksX4_readLook_2 14 rfl rfl)
theorem dX4_readLook_64 : decode cX4_readLook 64 = .ok (.aload_n 0, 1) := dk_42 (dk_at dksX4_readLook_2 17 rfl rfl)
theorem dX4_readLook_65 : decode cX4_readLook 65 = .ok (.getfield 31, 3) := dk_180 0 31 (dk_at dksX4_readLook_2 18 rfl rfl)
theorem dX4_readLook_68 : decode cX4_readLook 68 = .ok (.iload_n 2, 1) := dk_28 (dk_at dksX4_readLook_2 21 rfl rfl)
theorem dX4_readLook_69 : decode cX4_readLook 69 = .ok (.iconst 1, 1) := dk_4 (dk_at dksX4_readLook_2 22 rfl rfl)
theorem dX4_readLook_70 : decode cX4_readLook 70 = .ok (.iadd, 1) := dk_96 (dk_at dksX4_readLook_2 23 rfl rfl)
theorem dX4_readLook_71 : decode cX4_readLook 71 = .ok (.iconst 0, 1) := dk_3 (dk_at dksX4_readLook_3 0 rfl rfl)
theorem dX4_readLook_72 : decode cX4_readLook 72 = .ok (.iastore, 1) := dk_79 (dk_at dksX4_readLook_3 1 rfl rfl)
theorem dX4_readLook_73 : decode cX4_readLook 73 = .ok (.goto 208, 3) := dk_167 0 208 (dk_at dksX4_readLook_3 2 rfl rfl)
theorem dX4_readLook_76 : decode cX4_readLook 76 = .ok (.aload_n 0, 1) := dk_42 (dk_at dksX4_readLook_3 5 rfl rfl)
theorem dX4_readLook_77 : decode cX4_readLook 77 = .ok (.ldc 223, 2) := dk_18 223 (dk_at dksX4_readLook_3 6 rfl rfl)
theorem dX4_readLook_79 : decode cX4_readLook 79 = .ok (.invokevirtual 174, 3) := dk_182 0 174 (dk_at dksX4_readLook_3 8 rfl rfl)
theorem dX4_readLook_82 : decode cX4_readLook 82 = .ok (.ifCond .eq 47, 3) := dk_153 0 47 (dk_at dksX4_readLook_3 11 rfl rfl)
theorem dX4_readLook_85 : decode cX4_readLook 85 = .ok (.aload_n 0, 1) := dk_42 (dk_at dksX4_readLook_3 14 rfl rfl)
theorem dX4_readLook_86 : decode cX4_readLook 86 = .ok (.getfield 31, 3) := dk_180 0 31 (dk_at dksX4_readLook_3 15 rfl rfl)
theorem dX4_readLook_89 : decode cX4_readLook 89 = .ok (.iload_n 2, 1) := dk_28 (dk_at dksX4_readLook_3 18 rfl rfl)
theorem dX4_readLook_90 : decode cX4_readLook 90 = .ok (.iconst 1, 1) := dk_4 (dk_at dksX4_readLook_3 19 rfl rfl)
theorem dX4_readLook_91 : decode cX4_readLook 91 = .ok (.iadd, 1) := dk_96 (dk_at dksX4_readLook_3 20 rfl rfl)
theorem dX4_readLook_92 : decode cX4_readLook 92 = .ok (.iconst 1, 1) := dk_4 (dk_at dksX4_readLook_3 21 rfl rfl)
theorem dX4_readLook_93 : decode cX4_readLook 93 = .ok (.iastore, 1) := dk_79 (dk_at dksX4_readLook_3 22 rfl rfl)
theorem dX4_readLook_94 : decode cX4_readLook 94 = .ok (.aload_n 0, 1) := dk_42 (dk_at dksX4_readLook_3 23 rfl rfl)
theorem dX4_readLook_95 : decode cX4_readLook 95 = .ok (.getfield 31, 3) := dk_180 0 31 (dk_at dksX4_readLook_4 0 rfl rfl)
theorem dX4_readLook_98 : decode cX4_readLook 98 = .ok (.iload_n 2, 1) := dk_28 (dk_at dksX4_readLook_4 3 rfl rfl)
theorem dX4_readLook_99 : decode cX4_readLook 99 = .ok (.iconst 2, 1) := dk_5 (dk_at dksX4_readLook_4 4 rfl rfl)
theorem dX4_readLook_100 : decode cX4_readLook 100 = .ok (.iadd, 1) := dk_96 (dk_at dksX4_readLook_4 5 rfl rfl)
theorem dX4_readLook_101 : decode cX4_readLook 101 = .ok (.aload_n 0, 1) := dk_42 (dk_at dksX4_readLook_4 6 rfl rfl)
theorem dX4_readLook_102 : decode cX4_readLook 102 = .ok (.iconst 1, 1) := dk_4 (dk_at dksX4_readLook_4 7 rfl rfl)
theorem dX4_readLook_103 : decode cX4_readLook 103 = .ok (.bipush 40, 2) := dk_16 40 (dk_at dksX4_readLook_4 8 rfl rfl)
theorem dX4_readLook_105 : decode cX4_readLook 105 = .ok (.invokevirtual 185, 3) := dk_182 0 185 (dk_at dksX4_readLook_4 10 rfl rfl)
theorem dX4_readLook_108 : decode cX4_readLook 108 = .ok (.iastore, 1) := dk_79 (dk_at dksX4_readLook_4 13 rfl rfl)
theorem dX4_readLook_109 : decode cX4_readLook 109 = .ok (.aload_n 0, 1) := dk_42 (dk_at dksX4_readLook_4 14 rfl rfl)
theorem dX4_readLook_110 : decode cX4_readLook 110 = .ok (.getfield 31, 3) := dk_180 0 31 (dk_at dksX4_readLook_4 15 rfl rfl)
theorem dX4_readLook_113 : decode cX4_readLook 113 = .ok (.iload_n 2, 1) := dk_28 (dk_at dksX4_readLook_4 18 rfl rfl)
theorem dX4_readLook_114 : decode cX4_readLook 114 = .ok (.iconst 3, 1) := dk_6 (dk_at dksX4_readLook_4 19 rfl rfl)
theorem dX4_readLook_115 : decode cX4_readLook 115 = .ok (.iadd, 1) := dk_96 (dk_at dksX4_readLook_4 20 rfl rfl)
theorem dX4_readLook_116 : decode cX4_readLook 116 = .ok (.aload_n 0, 1) := dk_42 (dk_at dksX4_readLook_4 21 rfl rfl)
theorem dX4_readLook_117 : decode cX4_readLook 117 = .ok (.ldc 225, 2) := dk_18 225 (dk_at dksX4_readLook_4 22 rfl rfl)
theorem dX4_readLook_119 : decode cX4_readLook 119 = .ok (.iconst 0, 1) := dk_3 (dk_at dksX4_readLook_5 0 rfl rfl)
theorem dX4_readLook_120 : decode cX4_readLook 120 = .ok (.bipush 39, 2) := dk_16 39 (dk_at dksX4_readLook_5 1 rfl rfl)
theorem dX4_readLook_122 : decode cX4_readLook 122 = .ok (.invokevirtual 198, 3) := dk_182 0 198 (dk_at dksX4_readLook_5 3 rfl rfl)
theorem dX4_readLook_125 : decode cX4_readLook 125 = .ok (.iastore, 1) := dk_79 (dk_at dksX4_readLook_5 6 rfl rfl)
theorem dX4_readLook_126 : decode cX4_readLook 126 = .ok (.goto 155, 3) := dk_167 0 155 (dk_at dksX4_readLook_5 7 rfl rfl)
theorem dX4_readLook_129 : decode cX4_readLook 129 = .ok (.aload_n 0, 1) := dk_42 (dk_at dksX4_readLook_5 10 rfl rfl)
theorem dX4_readLook_130 : decode cX4_readLook 130 = .ok (.ldc 227, 2) := dk_18 227 (dk_at dksX4_readLook_5 11 rfl rfl)
theorem dX4_readLook_132 : decode cX4_readLook 132 = .ok (.invokevirtual 174, 3) := dk_182 0 174 (dk_at dksX4_readLook_5 13 rfl rfl)
theorem dX4_readLook_135 : decode cX4_readLook 135 = .ok (.ifCond .eq 44, 3) := dk_153 0 44 (dk_at dksX4_readLook_5 16 rfl rfl)
theorem dX4_readLook_138 : decode cX4_readLook 138 = .ok (.aload_n 0, 1) := dk_42 (dk_at dksX4_readLook_5 19 rfl rfl)
theorem dX4_readLook_139 : decode cX4_readLook 139 = .ok (.getfield 31, 3) := dk_180 0 31 (dk_at dksX4_readLook_5 20 rfl rfl)
theorem dX4_readLook_142 : decode cX4_readLook 142 = .ok (.iload_n 2, 1) := dk_28 (dk_at dksX4_readLook_5 23 rfl rfl)
theorem dX4_readLook_143 : decode cX4_readLook 143 = .ok (.iconst 1, 1) := dk_4 (dk_at dksX4_readLook_6 0 rfl rfl)
theorem dX4_readLook_144 : decode cX4_readLook 144 = .ok (.iadd, 1) := dk_96 (dk_at dksX4_readLook_6 1 rfl rfl)
theorem dX4_readLook_145 : decode cX4_readLook 145 = .ok (.iconst 2, 1) := dk_5 (dk_at dksX4_readLook_6 2 rfl rfl)
theorem dX4_readLook_146 : decode cX4_readLook 146 = .ok (.iastore, 1) := dk_79 (dk_at dksX4_readLook_6 3 rfl rfl)
theorem dX4_readLook_147 : decode cX4_readLook 147 = .ok (.aload_n 0, 1) := dk_42 (dk_at dksX4_readLook_6 4 rfl rfl)
theorem dX4_readLook_148 : decode cX4_readLook 148 = .ok (.getfield 31, 3) := dk_180 0 31 (dk_at dksX4_readLook_6 5 rfl rfl)
theorem dX4_readLook_151 : decode cX4_readLook 151 = .ok (.iload_n 2, 1) := dk_28 (dk_at dksX4_readLook_6 8 rfl rfl)
theorem dX4_readLook_152 : decode cX4_readLook 152 = .ok (.iconst 2, 1) := dk_5 (dk_at dksX4_readLook_6 9 rfl rfl)
theorem dX4_readLook_153 : decode cX4_readLook 153 = .ok (.iadd, 1) := dk_96 (dk_at dksX4_readLook_6 10 rfl rfl)
theorem dX4_readLook_154 : decode cX4_readLook 154 = .ok (.aload_n 0, 1) := dk_42 (dk_at dksX4_readLook_6 11 rfl rfl)
theorem dX4_readLook_155 : decode cX4_readLook 155 = .ok (.invokevirtual 218, 3) := dk_182 0 218 (dk_at dksX4_readLook_6 12 rfl rfl)
theorem dX4_readLook_158 : decode cX4_readLook 158 = .ok (.iastore, 1) := dk_79 (dk_at dksX4_readLook_6 15 rfl rfl)
theorem dX4_readLook_159 : decode cX4_readLook 159 = .ok (.aload_n 0, 1) := dk_42 (dk_at dksX4_readLook_6 16 rfl rfl)
theorem dX4_readLook_160 : decode cX4_readLook 160 = .ok (.getfield 31, 3) := dk_180 0 31 (dk_at dksX4_readLook_6 17 rfl rfl)
theorem dX4_readLook_163 : decode cX4_readLook 163 = .ok (.iload_n 2, 1) := dk_28 (dk_at dksX4_readLook_6 20 rfl rfl)
theorem dX4_readLook_164 : decode cX4_readLook 164 = .ok (.iconst 3, 1) := dk_6 (dk_at dksX4_readLook_6 21 rfl rfl)
theorem dX4_readLook_165 : decode cX4_readLook 165 = .ok (.iadd, 1) := dk_96 (dk_at dksX4_readLook_6 22 rfl rfl)
theorem dX4_readLook_166 : decode cX4_readLook 166 = .ok (.aload_n 0, 1) := dk_42 (dk_at dksX4_readLook_6 23 rfl rfl)
theorem dX4_readLook_167 : decode cX4_readLook 167 = .ok (.ldc 228, 2) := dk_18 228 (dk_at dksX4_readLook_7 0 rfl rfl)
theorem dX4_readLook_169 : decode cX4_readLook 169 = .ok (.iconst 0, 1) := dk_3 (dk_at dksX4_readLook_7 2 rfl rfl)
theorem dX4_readLook_170 : decode cX4_readLook 170 = .ok (.bipush 59, 2) := dk_16 59 (dk_at dksX4_readLook_7 3 rfl rfl)
theorem dX4_readLook_172 : decode cX4_readLook 172 = .ok (.invokevirtual 198, 3) := dk_182 0 198 (dk_at dksX4_readLook_7 5 rfl rfl)
theorem dX4_readLook_175 : decode cX4_readLook 175 = .ok (.iastore, 1) := dk_79 (dk_at dksX4_readLook_7 8 rfl rfl)
theorem dX4_readLook_176 : decode cX4_readLook 176 = .ok (.goto 105, 3) := dk_167 0 105 (dk_at dksX4_readLook_7 9 rfl rfl)
theorem dX4_readLook_179 : decode cX4_readLook 179 = .ok (.aload_n 0, 1) := dk_42 (dk_at dksX4_readLook_7 12 rfl rfl)
theorem dX4_readLook_180 : decode cX4_readLook 180 = .ok (.ldc 229, 2) := dk_18 229 (dk_at dksX4_readLook_7 13 rfl rfl)
theorem dX4_readLook_182 : decode cX4_readLook 182 = .ok (.invokevirtual 174, 3) := dk_182 0 174 (dk_at dksX4_readLook_7 15 rfl rfl)
theorem dX4_readLook_185 : decode cX4_readLook 185 = .ok (.ifCond .eq 30, 3) := dk_153 0 30 (dk_at dksX4_readLook_7 18 rfl rfl)
theorem dX4_readLook_188 : decode cX4_readLook 188 = .ok (.aload_n 0, 1) := dk_42 (dk_at dksX4_readLook_7 21 rfl rfl)
theorem dX4_readLook_189 : decode cX4_readLook 189 = .ok (.getfield 31, 3) := dk_180 0 31 (dk_at dksX4_readLook_8 0 rfl rfl)
theorem dX4_readLook_192 : decode cX4_readLook 192 = .ok (.iload_n 2, 1) := dk_28 (dk_at dksX4_readLook_8 3 rfl rfl)
theorem dX4_readLook_193 : decode cX4_readLook 193 = .ok (.iconst 1, 1) := dk_4 (dk_at dksX4_readLook_8 4 rfl rfl)
theorem dX4_readLook_194 : decode cX4_readLook 194 = .ok (.iadd, 1) := dk_96 (dk_at dksX4_readLook_8 5 rfl rfl)
theorem dX4_readLook_195 : decode cX4_readLook 195 = .ok (.iconst 3, 1) := dk_6 (dk_at dksX4_readLook_8 6 rfl rfl)
theorem dX4_readLook_196 : decode cX4_readLook 196 = .ok (.iastore, 1) := dk_79 (dk_at dksX4_readLook_8 7 rfl rfl)
theorem dX4_readLook_197 : decode cX4_readLook 197 = .ok (.aload_n 0, 1) := dk_42 (dk_at dksX4_readLook_8 8 rfl rfl)
theorem dX4_readLook_198 : decode cX4_readLook 198 = .ok (.getfield 31, 3) := dk_180 0 31 (dk_at dksX4_readLook_8 9 rfl rfl)
theorem dX4_readLook_201 : decode cX4_readLook 201 = .ok (.iload_n 2, 1) := dk_28 (dk_at dksX4_readLook_8 12 rfl rfl)
theorem dX4_readLook_202 : decode cX4_readLook 202 = .ok (.iconst 2, 1) := dk_5 (dk_at dksX4_readLook_8 13 rfl rfl)
theorem dX4_readLook_203 : decode cX4_readLook 203 = .ok (.iadd, 1) := dk_96 (dk_at dksX4_readLook_8 14 rfl rfl)
theorem dX4_readLook_204 : decode cX4_readLook 204 = .ok (.aload_n 0, 1) := dk_42 (dk_at dksX4_readLook_8 15 rfl rfl)
theorem dX4_readLook_205 : decode cX4_readLook 205 = .ok (.iconst 0, 1) := dk_3 (dk_at dksX4_readLook_8 16 rfl rfl)
theorem dX4_readLook_206 : decode cX4_readLook 206 = .ok (.bipush 7, 2) := dk_16 7 (dk_at dksX4_readLook_8 17 rfl rfl)
theorem dX4_readLook_208 : decode cX4_readLook 208 = .ok (.invokevirtual 185, 3) := dk_182 0 185 (dk_at dksX4_readLook_8 19 rfl rfl)
theorem dX4_readLook_211 : decode cX4_readLook 211 = .ok (.iastore, 1) := dk_79 (dk_at dksX4_readLook_8 22 rfl rfl)
theorem dX4_readLook_212 : decode cX4_readLook 212 = .ok (.goto 69, 3) := dk_167 0 69 (dk_at dksX4_readLook_9 0 rfl rfl)
theorem dX4_readLook_215 : decode cX4_readLook 215 = .ok (.aload_n 0, 1) := dk_42 (dk_at dksX4_readLook_9 3 rfl rfl)
theorem dX4_readLook_216 : decode cX4_readLook 216 = .ok (.ldc 231, 2) := dk_18 231 (dk_at dksX4_readLook_9 4 rfl rfl)
theorem dX4_readLook_218 : decode cX4_readLook 218 = .ok (.invokevirtual 174, 3) := dk_182 0 174 (dk_at dksX4_readLook_9 6 rfl rfl)
theorem dX4_readLook_221 : decode cX4_readLook 221 = .ok (.ifCond .eq 30, 3) := dk_153 0 30 (dk_at dksX4_readLook_9 9 rfl rfl)
theorem dX4_readLook_224 : decode cX4_readLook 224 = .ok (.aload_n 0, 1) := dk_42 (dk_at dksX4_readLook_9 12 rfl rfl)
theorem dX4_readLook_225 : decode cX4_readLook 225 = .ok (.getfield 31, 3) := dk_180 0 31 (dk_at dksX4_readLook_9 13 rfl rfl)
theorem dX4_readLook_228 : decode cX4_readLook 228 = .ok (.iload_n 2, 1) := dk_28 (dk_at dksX4_readLook_9 16 rfl rfl)
theorem dX4_readLook_229 : decode cX4_readLook 229 = .ok (.iconst 1, 1) := dk_4 (dk_at dksX4_readLook_9 17 rfl rfl)
theorem dX4_readLook_230 : decode cX4_readLook 230 = .ok (.iadd, 1) := dk_96 (dk_at dksX4_readLook_9 18 rfl rfl)
theorem dX4_readLook_231 : decode cX4_readLook 231 = .ok (.iconst 4, 1) := dk_7 (dk_at dksX4_readLook_9 19 rfl rfl)
theorem dX4_readLook_232 : decode cX4_readLook 232 = .ok (.iastore, 1) := dk_79 (dk_at dksX4_readLook_9 20 rfl rfl)
theorem dX4_readLook_233 : decode cX4_readLook 233 = .ok (.aload_n 0, 1) := dk_42 (dk_at dksX4_readLook_9 21 rfl rfl)
theorem dX4_readLook_234 : decode cX4_readLook 234 = .ok (.getfield 31, 3) := dk_180 0 31 (dk_at dksX4_readLook_10 0 rfl rfl)
theorem dX4_readLook_237 : decode cX4_readLook 237 = .ok (.iload_n 2, 1) := dk_28 (dk_at dksX4_readLook_10 3 rfl rfl)
theorem dX4_readLook_238 : decode cX4_readLook 238 = .ok (.iconst 2, 1) := dk_5 (dk_at dksX4_readLook_10 4 rfl rfl)
theorem dX4_readLook_239 : decode cX4_readLook 239 = .ok (.iadd, 1) := dk_96 (dk_at dksX4_readLook_10 5 rfl rfl)
theorem dX4_readLook_240 : decode cX4_readLook 240 = .ok (.aload_n 0, 1) := dk_42 (dk_at dksX4_readLook_10 6 rfl rfl)
theorem dX4_readLook_241 : decode cX4_readLook 241 = .ok (.iconst 0, 1) := dk_3 (dk_at dksX4_readLook_10 7 rfl rfl)
theorem dX4_readLook_242 : decode cX4_readLook 242 = .ok (.bipush 7, 2) := dk_16 7 (dk_at dksX4_readLook_10 8 rfl rfl)
theorem dX4_readLook_244 : decode cX4_readLook 244 = .ok (.invokevirtual 185, 3) := dk_182 0 185 (dk_at dksX4_readLook_10 10 rfl rfl)
theorem dX4_readLook_247 : decode cX4_readLook 247 = .ok (.iastore, 1) := dk_79 (dk_at dksX4_readLook_10 13 rfl rfl)
theorem dX4_readLook_248 : decode cX4_readLook 248 = .ok (.goto 33, 3) := dk_167 0 33 (dk_at dksX4_readLook_10 14 rfl rfl)
theorem dX4_readLook_251 : decode cX4_readLook 251 = .ok (.aload_n 0, 1) := dk_42 (dk_at dksX4_readLook_10 17 rfl rfl)
theorem dX4_readLook_252 : decode cX4_readLook 252 = .ok (.ldc 233, 2) := dk_18 233 (dk_at dksX4_readLook_10 18 rfl rfl)
theorem dX4_readLook_254 : decode cX4_readLook 254 = .ok (.invokevirtual 181, 3) := dk_182 0 181 (dk_at dksX4_readLook_10 20 rfl rfl)
theorem dX4_readLook_257 : decode cX4_readLook 257 = .ok (.aload_n 0, 1) := dk_42 (dk_at dksX4_readLook_10 23 rfl rfl)
theorem dX4_readLook_258 : decode cX4_readLook 258 = .ok (.getfield 31, 3) := dk_180 0 31 (dk_at dksX4_readLook_11 0 rfl rfl)
theorem dX4_readLook_261 : decode cX4_readLook 261 = .ok (.iload_n 2, 1) := dk_28 (dk_at dksX4_readLook_11 3 rfl rfl)
theorem dX4_readLook_262 : decode cX4_readLook 262 = .ok (.iconst 1, 1) := dk_4 (dk_at dksX4_readLook_11 4 rfl rfl)
theorem dX4_readLook_263 : decode cX4_readLook 263 = .ok (.iadd, 1) := dk_96 (dk_at dksX4_readLook_11 5 rfl rfl)
theorem dX4_readLook_264 : decode cX4_readLook 264 = .ok (.iconst 5, 1) := dk_8 (dk_at dksX4_readLook_11 6 rfl rfl)
theorem dX4_readLook_265 : decode cX4_readLook 265 = .ok (.iastore, 1) := dk_79 (dk_at dksX4_readLook_11 7 rfl rfl)
theorem dX4_readLook_266 : decode cX4_readLook 266 = .ok (.aload_n 0, 1) := dk_42 (dk_at dksX4_readLook_11 8 rfl rfl)
theorem dX4_readLook_267 : decode cX4_readLook 267 = .ok (.getfield 31, 3) := dk_180 0 31 (dk_at dksX4_readLook_11 9 rfl rfl)
theorem dX4_readLook_270 : decode cX4_readLook 270 = .ok (.iload_n 2, 1) := dk_28 (dk_at dksX4_readLook_11 12 rfl rfl)
theorem dX4_readLook_271 : decode cX4_readLook 271 = .ok (.iconst 2, 1) := dk_5 (dk_at dksX4_readLook_11 13 rfl rfl)
theorem dX4_readLook_272 : decode cX4_readLook 272 = .ok (.iadd, 1) := dk_96 (dk_at dksX4_readLook_11 14 rfl rfl)
theorem dX4_readLook_273 : decode cX4_readLook 273 = .ok (.aload_n 0, 1) := dk_42 (dk_at dksX4_readLook_11 15 rfl rfl)
theorem dX4_readLook_274 : decode cX4_readLook 274 = .ok (.iconst 0, 1) := dk_3 (dk_at dksX4_readLook_11 16 rfl rfl)
theorem dX4_readLook_275 : decode cX4_readLook 275 = .ok (.bipush 100, 2) := dk_16 100 (dk_at dksX4_readLook_11 17 rfl rfl)
theorem dX4_readLook_277 : decode cX4_readLook 277 = .ok (.invokevirtual 185, 3) := dk_182 0 185 (dk_at dksX4_readLook_11 19 rfl rfl)
theorem dX4_readLook_280 : decode cX4_readLook 280 = .ok (.iastore, 1) := dk_79 (dk_at dksX4_readLook_11 22 rfl rfl)
theorem dX4_readLook_281 : decode cX4_readLook 281 = .ok (.aload_n 0, 1) := dk_42 (dk_at dksX4_readLook_11 23 rfl rfl)
theorem dX4_readLook_282 : decode cX4_readLook 282 = .ok (.getfield 31, 3) := dk_180 0 31 (dk_at dksX4_readLook_12 0 rfl rfl)
theorem dX4_readLook_285 : decode cX4_readLook 285 = .ok (.iload_n 1, 1) := dk_27 (dk_at dksX4_readLook_12 3 rfl rfl)
theorem dX4_readLook_286 : decode cX4_readLook 286 = .ok (.iconst 4, 1) := dk_7 (dk_at dksX4_readLook_12 4 rfl rfl)
theorem dX4_readLook_287 : decode cX4_readLook 287 = .ok (.iadd, 1) := dk_96 (dk_at dksX4_readLook_12 5 rfl rfl)
theorem dX4_readLook_288 : decode cX4_readLook 288 = .ok (.dup2, 1) := dk_92 (dk_at dksX4_readLook_12 6 rfl rfl)
theorem dX4_readLook_289 : decode cX4_readLook 289 = .ok (.iaload, 1) := dk_46 (dk_at dksX4_readLook_12 7 rfl rfl)
theorem dX4_readLook_290 : decode cX4_readLook 290 = .ok (.iconst 1, 1) := dk_4 (dk_at dksX4_readLook_12 8 rfl rfl)
theorem dX4_readLook_291 : decode cX4_readLook 291 = .ok (.iadd, 1) := dk_96 (dk_at dksX4_readLook_12 9 rfl rfl)
theorem dX4_readLook_292 : decode cX4_readLook 292 = .ok (.iastore, 1) := dk_79 (dk_at dksX4_readLook_12 10 rfl rfl)
theorem dX4_readLook_293 : decode cX4_readLook 293 = .ok (.return_, 1) := dk_177 (dk_at dksX4_readLook_12 11 rfl rfl)
abbrev cX4_freshClock : ByteArray := prog_19_method_32_code
def yX4_freshClock : MethodName := ⟨RX4, "freshClock", "()I"⟩
def dkwX4_freshClock_0 : List UInt8 := [42, 3, 42, 180, 0, 31, 4, 46, 4, 100, 182, 0, 185, 172]
abbrev dktX4_freshClock_0 : List UInt8 := dkwX4_freshClock_0 ++ []
theorem dksX4_freshClock_0 : cX4_freshClock.data.toList.drop 0 = dktX4_freshClock_0 := by decide +kernel
theorem dX4_freshClock_0 : decode cX4_freshClock 0 = .ok (.aload_n 0, 1) := dk_42 (dk_at dksX4_freshClock_0 0 rfl rfl)
theorem dX4_freshClock_1 : decode cX4_freshClock 1 = .ok (.iconst 0, 1) := dk_3 (dk_at dksX4_freshClock_0 1 rfl rfl)
theorem dX4_freshClock_2 : decode cX4_freshClock 2 = .ok (.aload_n 0, 1) := dk_42 (dk_at dksX4_freshClock_0 2 rfl rfl)
theorem dX4_freshClock_3 : decode cX4_freshClock 3 = .ok (.getfield 31, 3) := dk_180 0 31 (dk_at dksX4_freshClock_0 3 rfl rfl)
theorem dX4_freshClock_6 : decode cX4_freshClock 6 = .ok (.iconst 1, 1) := dk_4 (dk_at dksX4_freshClock_0 6 rfl rfl)
theorem dX4_freshClock_7 : decode cX4_freshClock 7 = .ok (.iaload, 1) := dk_46 (dk_at dksX4_freshClock_0 7 rfl rfl)
theorem dX4_freshClock_8 : decode cX4_freshClock 8 = .ok (.iconst 1, 1) := dk_4 (dk_at dksX4_freshClock_0 8 rfl rfl)
theorem dX4_freshClock_9 : decode cX4_freshClock 9 = .ok (.isub, 1) := dk_100 (dk_at dksX4_freshClock_0 9 rfl rfl)
theorem dX4_freshClock_10 : decode cX4_freshClock 10 = .ok (.invokevirtual 185, 3) := dk_182 0 185 (dk_at dksX4_freshClock_0 10 rfl rfl)
theorem dX4_freshClock_13 : decode cX4_freshClock 13 = .ok (.ireturn, 1) := dk_172 (dk_at dksX4_freshClock_0 13 rfl rfl)
abbrev cX4_at : ByteArray := prog_19_method_45_code
def yX4_at : MethodName := ⟨RX4, "at", "(II)I"⟩
def dkwX4_at_2 : List UInt8 := [180, 0, 37, 16, 40, 27, 104, 28, 96, 46, 104, 96, 167, 0, 4, 2, 172]
abbrev dktX4_at_2 : List UInt8 := dkwX4_at_2 ++ []
def dkwX4_at_1 : List UInt8 := [42, 27, 28, 182, 1, 41, 153, 0, 32, 42, 180, 0, 34, 16, 40, 27, 104, 28, 96, 46, 16, 100, 42]
abbrev dktX4_at_1 : List UInt8 := dkwX4_at_1 ++ dktX4_at_2
def dkwX4_at_0 : List UInt8 := [42, 27, 182, 1, 51, 153, 0, 11, 42, 28, 182, 1, 55, 154, 0, 6, 16, 254, 172, 42, 27, 182, 1, 48]
abbrev dktX4_at_0 : List UInt8 := dkwX4_at_0 ++ dktX4_at_1
theorem dksX4_at_0 : cX4_at.data.toList.drop 0 = dktX4_at_0 := by decide +kernel
theorem dksX4_at_1 : cX4_at.data.toList.drop 24 = dktX4_at_1 := dk_seg dksX4_at_0 24 rfl rfl
theorem dksX4_at_2 : cX4_at.data.toList.drop 47 = dktX4_at_2 := dk_seg dksX4_at_1 23 rfl rfl
theorem dX4_at_0 : decode cX4_at 0 = .ok (.aload_n 0, 1) := dk_42 (dk_at dksX4_at_0 0 rfl rfl)
theorem dX4_at_1 : decode cX4_at 1 = .ok (.iload_n 1, 1) := dk_27 (dk_at dksX4_at_0 1 rfl rfl)
theorem dX4_at_2 : decode cX4_at 2 = .ok (.invokevirtual 307, 3) := dk_182 1 51 (dk_at dksX4_at_0 2 rfl rfl)
theorem dX4_at_5 : decode cX4_at 5 = .ok (.ifCond .eq 11, 3) := dk_153 0 11 (dk_at dksX4_at_0 5 rfl rfl)
theorem dX4_at_8 : decode cX4_at 8 = .ok (.aload_n 0, 1) := dk_42 (dk_at dksX4_at_0 8 rfl rfl)
theorem dX4_at_9 : decode cX4_at 9 = .ok (.iload_n 2, 1) := dk_28 (dk_at dksX4_at_0 9 rfl rfl)
theorem dX4_at_10 : decode cX4_at 10 = .ok (.invokevirtual 311, 3) := dk_182 1 55 (dk_at dksX4_at_0 10 rfl rfl)
theorem dX4_at_13 : decode cX4_at 13 = .ok (.ifCond .ne 6, 3) := dk_154 0 6 (dk_at dksX4_at_0 13 rfl rfl)
theorem dX4_at_16 : decode cX4_at 16 = .ok (.bipush (-2), 2) := dk_16 254 (dk_at dksX4_at_0 16 rfl rfl)
theorem dX4_at_18 : decode cX4_at 18 = .ok (.ireturn, 1) := dk_172 (dk_at dksX4_at_0 18 rfl rfl)
theorem dX4_at_19 : decode cX4_at 19 = .ok (.aload_n 0, 1) := dk_42 (dk_at dksX4_at_0 19 rfl rfl)
theorem dX4_at_20 : decode cX4_at 20 = .ok (.iload_n 1, 1) := dk_27 (dk_at dksX4_at_0 20 rfl rfl)
theorem dX4_at_21 : decode cX4_at 21 = .ok (.invokevirtual 304, 3) := dk_182 1 48 (dk_at dksX4_at_0 21 rfl rfl)
theorem dX4_at_24 : decode cX4_at 24 = .ok (.aload_n 0, 1) := dk_42 (dk_at dksX4_at_1 0 rfl rfl)
theorem dX4_at_25 : decode cX4_at 25 = .ok (.iload_n 1, 1) := dk_27 (dk_at dksX4_at_1 1 rfl rfl)
theorem dX4_at_26 : decode cX4_at 26 = .ok (.iload_n 2, 1) := dk_28 (dk_at dksX4_at_1 2 rfl rfl)
theorem dX4_at_27 : decode cX4_at 27 = .ok (.invokevirtual 297, 3) := dk_182 1 41 (dk_at dksX4_at_1 3 rfl rfl)
theorem dX4_at_30 : decode cX4_at 30 = .ok (.ifCond .eq 32, 3) := dk_153 0 32 (dk_at dksX4_at_1 6 rfl rfl)
theorem dX4_at_33 : decode cX4_at 33 = .ok (.aload_n 0, 1) := dk_42 (dk_at dksX4_at_1 9 rfl rfl)
theorem dX4_at_34 : decode cX4_at 34 = .ok (.getfield 34, 3) := dk_180 0 34 (dk_at dksX4_at_1 10 rfl rfl)
theorem dX4_at_37 : decode cX4_at 37 = .ok (.bipush 40, 2) := dk_16 40 (dk_at dksX4_at_1 13 rfl rfl)
theorem dX4_at_39 : decode cX4_at 39 = .ok (.iload_n 1, 1) := dk_27 (dk_at dksX4_at_1 15 rfl rfl)
theorem dX4_at_40 : decode cX4_at 40 = .ok (.imul, 1) := dk_104 (dk_at dksX4_at_1 16 rfl rfl)
theorem dX4_at_41 : decode cX4_at 41 = .ok (.iload_n 2, 1) := dk_28 (dk_at dksX4_at_1 17 rfl rfl)
theorem dX4_at_42 : decode cX4_at 42 = .ok (.iadd, 1) := dk_96 (dk_at dksX4_at_1 18 rfl rfl)
theorem dX4_at_43 : decode cX4_at 43 = .ok (.iaload, 1) := dk_46 (dk_at dksX4_at_1 19 rfl rfl)
theorem dX4_at_44 : decode cX4_at 44 = .ok (.bipush 100, 2) := dk_16 100 (dk_at dksX4_at_1 20 rfl rfl)
theorem dX4_at_46 : decode cX4_at 46 = .ok (.aload_n 0, 1) := dk_42 (dk_at dksX4_at_1 22 rfl rfl)
theorem dX4_at_47 : decode cX4_at 47 = .ok (.getfield 37, 3) := dk_180 0 37 (dk_at dksX4_at_2 0 rfl rfl)
theorem dX4_at_50 : decode cX4_at 50 = .ok (.bipush 40, 2) := dk_16 40 (dk_at dksX4_at_2 3 rfl rfl)
theorem dX4_at_52 : decode cX4_at 52 = .ok (.iload_n 1, 1) := dk_27 (dk_at dksX4_at_2 5 rfl rfl)
theorem dX4_at_53 : decode cX4_at 53 = .ok (.imul, 1) := dk_104 (dk_at dksX4_at_2 6 rfl rfl)
theorem dX4_at_54 : decode cX4_at 54 = .ok (.iload_n 2, 1) := dk_28 (dk_at dksX4_at_2 7 rfl rfl)
theorem dX4_at_55 : decode cX4_at 55 = .ok (.iadd, 1) := dk_96 (dk_at dksX4_at_2 8 rfl rfl)
theorem dX4_at_56 : decode cX4_at 56 = .ok (.iaload, 1) := dk_46 (dk_at dksX4_at_2 9 rfl rfl)
theorem dX4_at_57 : decode cX4_at 57 = .ok (.imul, 1) := dk_104 (dk_at dksX4_at_2 10 rfl rfl)
theorem dX4_at_58 : decode cX4_at 58 = .ok (.iadd, 1) := dk_96 (dk_at dksX4_at_2 11 rfl rfl)
theorem dX4_at_59 : decode cX4_at 59 = .ok (.goto 4, 3) := dk_167 0 4 (dk_at dksX4_at_2 12 rfl rfl)
theorem dX4_at_62 : decode cX4_at 62 = .ok (.iconst (-1), 1) := dk_2 (dk_at dksX4_at_2 15 rfl rfl)
theorem dX4_at_63 : decode cX4_at 63 = .ok (.ireturn, 1) := dk_172 (dk_at dksX4_at_2 16 rfl rfl)
abbrev cX4_isPerson : ByteArray := prog_19_method_8_code
def yX4_isPerson : MethodName := ⟨RX4, "isPerson", "(I)Z"⟩
def dkwX4_isPerson_0 : List UInt8 := [27, 133, 9, 42, 180, 0, 9, 5, 46, 4, 100, 133, 184, 0, 104, 172]
abbrev dktX4_isPerson_0 : List UInt8 := dkwX4_isPerson_0 ++ []
theorem dksX4_isPerson_0 : cX4_isPerson.data.toList.drop 0 = dktX4_isPerson_0 := by decide +kernel
theorem dX4_isPerson_0 : decode cX4_isPerson 0 = .ok (.iload_n 1, 1) := dk_27 (dk_at dksX4_isPerson_0 0 rfl rfl)
theorem dX4_isPerson_1 : decode cX4_isPerson 1 = .ok (.i2l, 1) := dk_133 (dk_at dksX4_isPerson_0 1 rfl rfl)
theorem dX4_isPerson_2 : decode cX4_isPerson 2 = .ok (.lconst 0, 1) := dk_9 (dk_at dksX4_isPerson_0 2 rfl rfl)
theorem dX4_isPerson_3 : decode cX4_isPerson 3 = .ok (.aload_n 0, 1) := dk_42 (dk_at dksX4_isPerson_0 3 rfl rfl)
theorem dX4_isPerson_4 : decode cX4_isPerson 4 = .ok (.getfield 9, 3) := dk_180 0 9 (dk_at dksX4_isPerson_0 4 rfl rfl)
theorem dX4_isPerson_7 : decode cX4_isPerson 7 = .ok (.iconst 2, 1) := dk_5 (dk_at dksX4_isPerson_0 7 rfl rfl)
theorem dX4_isPerson_8 : decode cX4_isPerson 8 = .ok (.iaload, 1) := dk_46 (dk_at dksX4_isPerson_0 8 rfl rfl)
theorem dX4_isPerson_9 : decode cX4_isPerson 9 = .ok (.iconst 1, 1) := dk_4 (dk_at dksX4_isPerson_0 9 rfl rfl)
theorem dX4_isPerson_10 : decode cX4_isPerson 10 = .ok (.isub, 1) := dk_100 (dk_at dksX4_isPerson_0 10 rfl rfl)
theorem dX4_isPerson_11 : decode cX4_isPerson 11 = .ok (.i2l, 1) := dk_133 (dk_at dksX4_isPerson_0 11 rfl rfl)
theorem dX4_isPerson_12 : decode cX4_isPerson 12 = .ok (.invokestatic 104, 3) := dk_184 0 104 (dk_at dksX4_isPerson_0 12 rfl rfl)
theorem dX4_isPerson_15 : decode cX4_isPerson 15 = .ok (.ireturn, 1) := dk_172 (dk_at dksX4_isPerson_0 15 rfl rfl)
abbrev cX4_isMinute : ByteArray := prog_19_method_9_code
def yX4_isMinute : MethodName := ⟨RX4, "isMinute", "(I)Z"⟩
def dkwX4_isMinute_0 : List UInt8 := [27, 133, 9, 42, 180, 0, 9, 16, 6, 46, 4, 100, 133, 184, 0, 104, 172]
abbrev dktX4_isMinute_0 : List UInt8 := dkwX4_isMinute_0 ++ []
theorem dksX4_isMinute_0 : cX4_isMinute.data.toList.drop 0 = dktX4_isMinute_0 := by decide +kernel
theorem dX4_isMinute_0 : decode cX4_isMinute 0 = .ok (.iload_n 1, 1) := dk_27 (dk_at dksX4_isMinute_0 0 rfl rfl)
theorem dX4_isMinute_1 : decode cX4_isMinute 1 = .ok (.i2l, 1) := dk_133 (dk_at dksX4_isMinute_0 1 rfl rfl)
theorem dX4_isMinute_2 : decode cX4_isMinute 2 = .ok (.lconst 0, 1) := dk_9 (dk_at dksX4_isMinute_0 2 rfl rfl)
theorem dX4_isMinute_3 : decode cX4_isMinute 3 = .ok (.aload_n 0, 1) := dk_42 (dk_at dksX4_isMinute_0 3 rfl rfl)
theorem dX4_isMinute_4 : decode cX4_isMinute 4 = .ok (.getfield 9, 3) := dk_180 0 9 (dk_at dksX4_isMinute_0 4 rfl rfl)
theorem dX4_isMinute_7 : decode cX4_isMinute 7 = .ok (.bipush 6, 2) := dk_16 6 (dk_at dksX4_isMinute_0 7 rfl rfl)
theorem dX4_isMinute_9 : decode cX4_isMinute 9 = .ok (.iaload, 1) := dk_46 (dk_at dksX4_isMinute_0 9 rfl rfl)
theorem dX4_isMinute_10 : decode cX4_isMinute 10 = .ok (.iconst 1, 1) := dk_4 (dk_at dksX4_isMinute_0 10 rfl rfl)
theorem dX4_isMinute_11 : decode cX4_isMinute 11 = .ok (.isub, 1) := dk_100 (dk_at dksX4_isMinute_0 11 rfl rfl)
theorem dX4_isMinute_12 : decode cX4_isMinute 12 = .ok (.i2l, 1) := dk_133 (dk_at dksX4_isMinute_0 12 rfl rfl)
theorem dX4_isMinute_13 : decode cX4_isMinute 13 = .ok (.invokestatic 104, 3) := dk_184 0 104 (dk_at dksX4_isMinute_0 13 rfl rfl)
theorem dX4_isMinute_16 : decode cX4_isMinute 16 = .ok (.ireturn, 1) := dk_172 (dk_at dksX4_isMinute_0 16 rfl rfl)
abbrev cX4_fillSpots : ByteArray := prog_19_method_39_code
def yX4_fillSpots : MethodName := ⟨RX4, "fillSpots", "(I)V"⟩
def dkwX4_fillSpots_9 : List UInt8 := [132, 7, 1, 167, 255, 123, 132, 5, 1, 167, 255, 90, 177]
abbrev dktX4_fillSpots_9 : List UInt8 := dkwX4_fillSpots_9 ++ []
def dkwX4_fillSpots_8 : List UInt8 := [153, 0, 8, 21, 9, 167, 0, 5, 21, 4, 54, 4, 132, 2, 1, 42, 27, 28, 29, 21, 4, 182, 1, 18]
abbrev dktX4_fillSpots_8 : List UInt8 := dkwX4_fillSpots_8 ++ dktX4_fillSpots_9
def dkwX4_fillSpots_7 : List UInt8 := [153, 0, 7, 4, 167, 0, 4, 3, 54, 10, 21, 10, 153, 0, 8, 21, 8, 167, 0, 4, 29, 62, 21, 10]
abbrev dktX4_fillSpots_7 : List UInt8 := dkwX4_fillSpots_7 ++ dktX4_fillSpots_8
def dkwX4_fillSpots_6 : List UInt8 := [2, 167, 0, 4, 3, 96, 54, 9, 21, 6, 7, 159, 0, 18, 42, 21, 8, 21, 9, 182, 1, 25]
abbrev dktX4_fillSpots_6 : List UInt8 := dkwX4_fillSpots_6 ++ dktX4_fillSpots_7
def dkwX4_fillSpots_5 : List UInt8 := [167, 0, 4, 3, 96, 54, 8, 21, 4, 21, 6, 5, 160, 0, 7, 4, 167, 0, 13, 21, 6, 154, 0, 7]
abbrev dktX4_fillSpots_5 : List UInt8 := dkwX4_fillSpots_5 ++ dktX4_fillSpots_6
def dkwX4_fillSpots_4 : List UInt8 := [182, 1, 22, 162, 0, 121, 29, 21, 6, 4, 160, 0, 7, 4, 167, 0, 14, 21, 6, 6, 160, 0, 7, 2]
abbrev dktX4_fillSpots_4 : List UInt8 := dkwX4_fillSpots_4 ++ dktX4_fillSpots_5
def dkwX4_fillSpots_3 : List UInt8 := [21, 5, 104, 96, 182, 1, 22, 54, 6, 3, 54, 7, 21, 7, 42, 27, 8, 5, 21, 5, 104, 96, 4, 96]
abbrev dktX4_fillSpots_3 : List UInt8 := dkwX4_fillSpots_3 ++ dktX4_fillSpots_4
def dkwX4_fillSpots_2 : List UInt8 := [21, 4, 182, 1, 18, 3, 54, 5, 21, 5, 42, 27, 6, 182, 1, 22, 162, 0, 161, 42, 27, 8, 5]
abbrev dktX4_fillSpots_2 : List UInt8 := dkwX4_fillSpots_2 ++ dktX4_fillSpots_3
def dkwX4_fillSpots_1 : List UInt8 := [5, 182, 1, 22, 61, 42, 27, 3, 182, 1, 22, 62, 42, 27, 4, 182, 1, 22, 54, 4, 42, 27, 28, 29]
abbrev dktX4_fillSpots_1 : List UInt8 := dkwX4_fillSpots_1 ++ dktX4_fillSpots_2
def dkwX4_fillSpots_0 : List UInt8 := [3, 61, 28, 16, 40, 162, 0, 17, 42, 27, 28, 2, 2, 182, 1, 18, 132, 2, 1, 167, 255, 239, 42, 27]
abbrev dktX4_fillSpots_0 : List UInt8 := dkwX4_fillSpots_0 ++ dktX4_fillSpots_1
theorem dksX4_fillSpots_0 : cX4_fillSpots.data.toList.drop 0 = dktX4_fillSpots_0 := by decide +kernel
theorem dksX4_fillSpots_1 : cX4_fillSpots.data.toList.drop 24 = dktX4_fillSpots_1 := dk_seg dksX4_fillSpots_0 24 rfl rfl
theorem dksX4_fillSpots_2 : cX4_fillSpots.data.toList.drop 48 = dktX4_fillSpots_2 := dk_seg dksX4_fillSpots_1 24 rfl rfl
theorem dksX4_fillSpots_3 : cX4_fillSpots.data.toList.drop 71 = dktX4_fillSpots_3 := dk_seg dksX4_fillSpots_2 23 rfl rfl
theorem dksX4_fillSpots_4 : cX4_fillSpots.data.toList.drop 95 = dktX4_fillSpots_4 := dk_seg dksX4_fillSpots_3 24 rfl rfl
theorem dksX4_fillSpots_5 : cX4_fillSpots.data.toList.drop 119 = dktX4_fillSpots_5 := dk_seg dksX4_fillSpots_4 24 rfl rfl
theorem dksX4_fillSpots_6 : cX4_fillSpots.data.toList.drop 143 = dktX4_fillSpots_6 := dk_seg dksX4_fillSpots_5 24 rfl rfl
theorem dksX4_fillSpots_7 : cX4_fillSpots.data.toList.drop 165 = dktX4_fillSpots_7 := dk_seg dksX4_fillSpots_6 22 rfl rfl
theorem dksX4_fillSpots_8 : cX4_fillSpots.data.toList.drop 189 = dktX4_fillSpots_8 := dk_seg dksX4_fillSpots_7 24 rfl rfl
theorem dksX4_fillSpots_9 : cX4_fillSpots.data.toList.drop 213 = dktX4_fillSpots_9 := dk_seg dksX4_fillSpots_8 24 rfl rfl
theorem dX4_fillSpots_0 : decode cX4_fillSpots 0 = .ok (.iconst 0, 1) := dk_3 (dk_at dksX4_fillSpots_0 0 rfl rfl)
theorem dX4_fillSpots_1 : decode cX4_fillSpots 1 = .ok (.istore_n 2, 1) := dk_61 (dk_at dksX4_fillSpots_0 1 rfl rfl)
theorem dX4_fillSpots_2 : decode cX4_fillSpots 2 = .ok (.iload_n 2, 1) := dk_28 (dk_at dksX4_fillSpots_0 2 rfl rfl)
theorem dX4_fillSpots_3 : decode cX4_fillSpots 3 = .ok (.bipush 40, 2) := dk_16 40 (dk_at dksX4_fillSpots_0 3 rfl rfl)
theorem dX4_fillSpots_5 : decode cX4_fillSpots 5 = .ok (.if_icmp .ge 17, 3) := dk_162 0 17 (dk_at dksX4_fillSpots_0 5 rfl rfl)
theorem dX4_fillSpots_8 : decode cX4_fillSpots 8 = .ok (.aload_n 0, 1) := dk_42 (dk_at dksX4_fillSpots_0 8 rfl rfl)
theorem dX4_fillSpots_9 : decode cX4_fillSpots 9 = .ok (.iload_n 1, 1) := dk_27 (dk_at dksX4_fillSpots_0 9 rfl rfl)
theorem dX4_fillSpots_10 : decode cX4_fillSpots 10 = .ok (.iload_n 2, 1) := dk_28 (dk_at dksX4_fillSpots_0 10 rfl rfl)
theorem dX4_fillSpots_11 : decode cX4_fillSpots 11 = .ok (.iconst (-1), 1) := dk_2 (dk_at dksX4_fillSpots_0 11 rfl rfl)
theorem dX4_fillSpots_12 : decode cX4_fillSpots 12 = .ok (.iconst (-1), 1) := dk_2 (dk_at dksX4_fillSpots_0 12 rfl rfl)
theorem dX4_fillSpots_13 : decode cX4_fillSpots 13 = .ok (.invokevirtual 274, 3) := dk_182 1 18 (dk_at dksX4_fillSpots_0 13 rfl rfl)
theorem dX4_fillSpots_16 : decode cX4_fillSpots 16 = .ok (.iinc 2 1, 3) := dk_132 2 1 (dk_at dksX4_fillSpots_0 16 rfl rfl)
theorem dX4_fillSpots_19 : decode cX4_fillSpots 19 = .ok (.goto (-17), 3) := dk_167 255 239 (dk_at dksX4_fillSpots_0 19 rfl rfl)
theorem dX4_fillSpots_22 : decode cX4_fillSpots 22 = .ok (.aload_n 0, 1) := dk_42 (dk_at dksX4_fillSpots_0 22 rfl rfl)
theorem dX4_fillSpots_23 : decode cX4_fillSpots 23 = .ok (.iload_n 1, 1) := dk_27 (dk_at dksX4_fillSpots_0 23 rfl rfl)
theorem dX4_fillSpots_24 : decode cX4_fillSpots 24 = .ok (.iconst 2, 1) := dk_5 (dk_at dksX4_fillSpots_1 0 rfl rfl)
theorem dX4_fillSpots_25 : decode cX4_fillSpots 25 = .ok (.invokevirtual 278, 3) := dk_182 1 22 (dk_at dksX4_fillSpots_1 1 rfl rfl)
theorem dX4_fillSpots_28 : decode cX4_fillSpots 28 = .ok (.istore_n 2, 1) := dk_61 (dk_at dksX4_fillSpots_1 4 rfl rfl)
theorem dX4_fillSpots_29 : decode cX4_fillSpots 29 = .ok (.aload_n 0, 1) := dk_42 (dk_at dksX4_fillSpots_1 5 rfl rfl)
theorem dX4_fillSpots_30 : decode cX4_fillSpots 30 = .ok (.iload_n 1, 1) := dk_27 (dk_at dksX4_fillSpots_1 6 rfl rfl)
theorem dX4_fillSpots_31 : decode cX4_fillSpots 31 = .ok (.iconst 0, 1) := dk_3 (dk_at dksX4_fillSpots_1 7 rfl rfl)
theorem dX4_fillSpots_32 : decode cX4_fillSpots 32 = .ok (.invokevirtual 278, 3) := dk_182 1 22 (dk_at dksX4_fillSpots_1 8 rfl rfl)
theorem dX4_fillSpots_35 : decode cX4_fillSpots 35 = .ok (.istore_n 3, 1) := dk_62 (dk_at dksX4_fillSpots_1 11 rfl rfl)
theorem dX4_fillSpots_36 : decode cX4_fillSpots 36 = .ok (.aload_n 0, 1) := dk_42 (dk_at dksX4_fillSpots_1 12 rfl rfl)
theorem dX4_fillSpots_37 : decode cX4_fillSpots 37 = .ok (.iload_n 1, 1) := dk_27 (dk_at dksX4_fillSpots_1 13 rfl rfl)
theorem dX4_fillSpots_38 : decode cX4_fillSpots 38 = .ok (.iconst 1, 1) := dk_4 (dk_at dksX4_fillSpots_1 14 rfl rfl)
theorem dX4_fillSpots_39 : decode cX4_fillSpots 39 = .ok (.invokevirtual 278, 3) := dk_182 1 22 (dk_at dksX4_fillSpots_1 15 rfl rfl)
theorem dX4_fillSpots_42 : decode cX4_fillSpots 42 = .ok (.istore 4, 2) := dk_54 4 (dk_at dksX4_fillSpots_1 18 rfl rfl)
theorem dX4_fillSpots_44 : decode cX4_fillSpots 44 = .ok (.aload_n 0, 1) := dk_42 (dk_at dksX4_fillSpots_1 20 rfl rfl)
theorem dX4_fillSpots_45 : decode cX4_fillSpots 45 = .ok (.iload_n 1, 1) := dk_27 (dk_at dksX4_fillSpots_1 21 rfl rfl)
theorem dX4_fillSpots_46 : decode cX4_fillSpots 46 = .ok (.iload_n 2, 1) := dk_28 (dk_at dksX4_fillSpots_1 22 rfl rfl)
theorem dX4_fillSpots_47 : decode cX4_fillSpots 47 = .ok (.iload_n 3, 1) := dk_29 (dk_at dksX4_fillSpots_1 23 rfl rfl)
theorem dX4_fillSpots_48 : decode cX4_fillSpots 48 = .ok (.iload 4, 2) := dk_21 4 (dk_at dksX4_fillSpots_2 0 rfl rfl)
theorem dX4_fillSpots_50 : decode cX4_fillSpots 50 = .ok (.invokevirtual 274, 3) := dk_182 1 18 (dk_at dksX4_fillSpots_2 2 rfl rfl)
theorem dX4_fillSpots_53 : decode cX4_fillSpots 53 = .ok (.iconst 0, 1) := dk_3 (dk_at dksX4_fillSpots_2 5 rfl rfl)
theorem dX4_fillSpots_54 : decode cX4_fillSpots 54 = .ok (.istore 5, 2) := dk_54 5 (dk_at dksX4_fillSpots_2 6 rfl rfl)
theorem dX4_fillSpots_56 : decode cX4_fillSpots 56 = .ok (.iload 5, 2) := dk_21 5 (dk_at dksX4_fillSpots_2 8 rfl rfl)
theorem dX4_fillSpots_58 : decode cX4_fillSpots 58 = .ok (.aload_n 0, 1) := dk_42 (dk_at dksX4_fillSpots_2 10 rfl rfl)
theorem dX4_fillSpots_59 : decode cX4_fillSpots 59 = .ok (.iload_n 1, 1) := dk_27 (dk_at dksX4_fillSpots_2 11 rfl rfl)
theorem dX4_fillSpots_60 : decode cX4_fillSpots 60 = .ok (.iconst 3, 1) := dk_6 (dk_at dksX4_fillSpots_2 12 rfl rfl)
theorem dX4_fillSpots_61 : decode cX4_fillSpots 61 = .ok (.invokevirtual 278, 3) := dk_182 1 22 (dk_at dksX4_fillSpots_2 13 rfl rfl)
theorem dX4_fillSpots_64 : decode cX4_fillSpots 64 = .ok (.if_icmp .ge 161, 3) := dk_162 0 161 (dk_at dksX4_fillSpots_2 16 rfl rfl)
theorem dX4_fillSpots_67 : decode cX4_fillSpots 67 = .ok (.aload_n 0, 1) := dk_42 (dk_at dksX4_fillSpots_2 19 rfl rfl)
theorem dX4_fillSpots_68 : decode cX4_fillSpots 68 = .ok (.iload_n 1, 1) := dk_27 (dk_at dksX4_fillSpots_2 20 rfl rfl)
theorem dX4_fillSpots_69 : decode cX4_fillSpots 69 = .ok (.iconst 5, 1) := dk_8 (dk_at dksX4_fillSpots_2 21 rfl rfl)
theorem dX4_fillSpots_70 : decode cX4_fillSpots 70 = .ok (.iconst 2, 1) := dk_5 (dk_at dksX4_fillSpots_2 22 rfl rfl)
theorem dX4_fillSpots_71 : decode cX4_fillSpots 71 = .ok (.iload 5, 2) := dk_21 5 (dk_at dksX4_fillSpots_3 0 rfl rfl)
theorem dX4_fillSpots_73 : decode cX4_fillSpots 73 = .ok (.imul, 1) := dk_104 (dk_at dksX4_fillSpots_3 2 rfl rfl)
theorem dX4_fillSpots_74 : decode cX4_fillSpots 74 = .ok (.iadd, 1) := dk_96 (dk_at dksX4_fillSpots_3 3 rfl rfl)
theorem dX4_fillSpots_75 : decode cX4_fillSpots 75 = .ok (.invokevirtual 278, 3) := dk_182 1 22 (dk_at dksX4_fillSpots_3 4 rfl rfl)
theorem dX4_fillSpots_78 : decode cX4_fillSpots 78 = .ok (.istore 6, 2) := dk_54 6 (dk_at dksX4_fillSpots_3 7 rfl rfl)
theorem dX4_fillSpots_80 : decode cX4_fillSpots 80 = .ok (.iconst 0, 1) := dk_3 (dk_at dksX4_fillSpots_3 9 rfl rfl)
theorem dX4_fillSpots_81 : decode cX4_fillSpots 81 = .ok (.istore 7, 2) := dk_54 7 (dk_at dksX4_fillSpots_3 10 rfl rfl)
theorem dX4_fillSpots_83 : decode cX4_fillSpots 83 = .ok (.iload 7, 2) := dk_21 7 (dk_at dksX4_fillSpots_3 12 rfl rfl)
theorem dX4_fillSpots_85 : decode cX4_fillSpots 85 = .ok (.aload_n 0, 1) := dk_42 (dk_at dksX4_fillSpots_3 14 rfl rfl)
theorem dX4_fillSpots_86 : decode cX4_fillSpots 86 = .ok (.iload_n 1, 1) := dk_27 (dk_at dksX4_fillSpots_3 15 rfl rfl)
theorem dX4_fillSpots_87 : decode cX4_fillSpots 87 = .ok (.iconst 5, 1) := dk_8 (dk_at dksX4_fillSpots_3 16 rfl rfl)
theorem dX4_fillSpots_88 : decode cX4_fillSpots 88 = .ok (.iconst 2, 1) := dk_5 (dk_at dksX4_fillSpots_3 17 rfl rfl)
theorem dX4_fillSpots_89 : decode cX4_fillSpots 89 = .ok (.iload 5, 2) := dk_21 5 (dk_at dksX4_fillSpots_3 18 rfl rfl)
theorem dX4_fillSpots_91 : decode cX4_fillSpots 91 = .ok (.imul, 1) := dk_104 (dk_at dksX4_fillSpots_3 20 rfl rfl)
theorem dX4_fillSpots_92 : decode cX4_fillSpots 92 = .ok (.iadd, 1) := dk_96 (dk_at dksX4_fillSpots_3 21 rfl rfl)
theorem dX4_fillSpots_93 : decode cX4_fillSpots 93 = .ok (.iconst 1, 1) := dk_4 (dk_at dksX4_fillSpots_3 22 rfl rfl)
theorem dX4_fillSpots_94 : decode cX4_fillSpots 94 = .ok (.iadd, 1) := dk_96 (dk_at dksX4_fillSpots_3 23 rfl rfl)
theorem dX4_fillSpots_95 : decode cX4_fillSpots 95 = .ok (.invokevirtual 278, 3) := dk_182 1 22 (dk_at dksX4_fillSpots_4 0 rfl rfl)
theorem dX4_fillSpots_98 : decode cX4_fillSpots 98 = .ok (.if_icmp .ge 121, 3) := dk_162 0 121 (dk_at dksX4_fillSpots_4 3 rfl rfl)
theorem dX4_fillSpots_101 : decode cX4_fillSpots 101 = .ok (.iload_n 3, 1) := dk_29 (dk_at dksX4_fillSpots_4 6 rfl rfl)
theorem dX4_fillSpots_102 : decode cX4_fillSpots 102 = .ok (.iload 6, 2) := dk_21 6 (dk_at dksX4_fillSpots_4 7 rfl rfl)
theorem dX4_fillSpots_104 : decode cX4_fillSpots 104 = .ok (.iconst 1, 1) := dk_4 (dk_at dksX4_fillSpots_4 9 rfl rfl)
theorem dX4_fillSpots_105 : decode cX4_fillSpots 105 = .ok (.if_icmp .ne 7, 3) := dk_160 0 7 (dk_at dksX4_fillSpots_4 10 rfl rfl)
theorem dX4_fillSpots_108 : decode cX4_fillSpots 108 = .ok (.iconst 1, 1) := dk_4 (dk_at dksX4_fillSpots_4 13 rfl rfl)
theorem dX4_fillSpots_109 : decode cX4_fillSpots 109 = .ok (.goto 14, 3) := dk_167 0 14 (dk_at dksX4_fillSpots_4 14 rfl rfl)
theorem dX4_fillSpots_112 : decode cX4_fillSpots 112 = .ok (.iload 6, 2) := dk_21 6 (dk_at dksX4_fillSpots_4 17 rfl rfl)
theorem dX4_fillSpots_114 : decode cX4_fillSpots 114 = .ok (.iconst 3, 1) := dk_6 (dk_at dksX4_fillSpots_4 19 rfl rfl)
theorem dX4_fillSpots_115 : decode cX4_fillSpots 115 = .ok (.if_icmp .ne 7, 3) := dk_160 0 7 (dk_at dksX4_fillSpots_4 20 rfl rfl)
theorem dX4_fillSpots_118 : decode cX4_fillSpots 118 = .ok (.iconst (-1), 1) := dk_2 (dk_at dksX4_fillSpots_4 23 rfl rfl)
theorem dX4_fillSpots_119 : decode cX4_fillSpots 119 = .ok (.goto 4, 3) := dk_167 0 4 (dk_at dksX4_fillSpots_5 0 rfl rfl)
theorem dX4_fillSpots_122 : decode cX4_fillSpots 122 = .ok (.iconst 0, 1) := dk_3 (dk_at dksX4_fillSpots_5 3 rfl rfl)
theorem dX4_fillSpots_123 : decode cX4_fillSpots 123 = .ok (.iadd, 1) := dk_96 (dk_at dksX4_fillSpots_5 4 rfl rfl)
theorem dX4_fillSpots_124 : decode cX4_fillSpots 124 = .ok (.istore 8, 2) := dk_54 8 (dk_at dksX4_fillSpots_5 5 rfl rfl)
theorem dX4_fillSpots_126 : decode cX4_fillSpots 126 = .ok (.iload 4, 2) := dk_21 4 (dk_at dksX4_fillSpots_5 7 rfl rfl)
theorem dX4_fillSpots_128 : decode cX4_fillSpots 128 = .ok (.iload 6, 2) := dk_21 6 (dk_at dksX4_fillSpots_5 9 rfl rfl)
theorem dX4_fillSpots_130 : decode cX4_fillSpots 130 = .ok (.iconst 2, 1) := dk_5 (dk_at dksX4_fillSpots_5 11 rfl rfl)
theorem dX4_fillSpots_131 : decode cX4_fillSpots 131 = .ok (.if_icmp .ne 7, 3) := dk_160 0 7 (dk_at dksX4_fillSpots_5 12 rfl rfl)
theorem dX4_fillSpots_134 : decode cX4_fillSpots 134 = .ok (.iconst 1, 1) := dk_4 (dk_at dksX4_fillSpots_5 15 rfl rfl)
theorem dX4_fillSpots_135 : decode cX4_fillSpots 135 = .ok (.goto 13, 3) := dk_167 0 13 (dk_at dksX4_fillSpots_5 16 rfl rfl)
theorem dX4_fillSpots_138 : decode cX4_fillSpots 138 = .ok (.iload 6, 2) := dk_21 6 (dk_at dksX4_fillSpots_5 19 rfl rfl)
theorem dX4_fillSpots_140 : decode cX4_fillSpots 140 = .ok (.ifCond .ne 7, 3) := dk_154 0 7 (dk_at dksX4_fillSpots_5 21 rfl rfl)
theorem dX4_fillSpots_143 : decode cX4_fillSpots 143 = .ok (.iconst (-1), 1) := dk_2 (dk_at dksX4_fillSpots_6 0 rfl rfl)
theorem dX4_fillSpots_144 : decode cX4_fillSpots 144 = .ok (.goto 4, 3) := dk_167 0 4 (dk_at dksX4_fillSpots_6 1 rfl rfl)
theorem dX4_fillSpots_147 : decode cX4_fillSpots 147 = .ok (.iconst 0, 1) := dk_3 (dk_at dksX4_fillSpots_6 4 rfl rfl)
theorem dX4_fillSpots_148 : decode cX4_fillSpots 148 = .ok (.iadd, 1) := dk_96 (dk_at dksX4_fillSpots_6 5 rfl rfl)
theorem dX4_fillSpots_149 : decode cX4_fillSpots 149 = .ok (.istore 9, 2) := dk_54 9 (dk_at dksX4_fillSpots_6 6 rfl rfl)
theorem dX4_fillSpots_151 : decode cX4_fillSpots 151 = .ok (.iload 6, 2) := dk_21 6 (dk_at dksX4_fillSpots_6 8 rfl rfl)
theorem dX4_fillSpots_153 : decode cX4_fillSpots 153 = .ok (.iconst 4, 1) := dk_7 (dk_at dksX4_fillSpots_6 10 rfl rfl)
theorem dX4_fillSpots_154 : decode cX4_fillSpots 154 = .ok (.if_icmp .eq 18, 3) := dk_159 0 18 (dk_at dksX4_fillSpots_6 11 rfl rfl)
theorem dX4_fillSpots_157 : decode cX4_fillSpots 157 = .ok (.aload_n 0, 1) := dk_42 (dk_at dksX4_fillSpots_6 14 rfl rfl)
theorem dX4_fillSpots_158 : decode cX4_fillSpots 158 = .ok (.iload 8, 2) := dk_21 8 (dk_at dksX4_fillSpots_6 15 rfl rfl)
theorem dX4_fillSpots_160 : decode cX4_fillSpots 160 = .ok (.iload 9, 2) := dk_21 9 (dk_at dksX4_fillSpots_6 17 rfl rfl)
theorem dX4_fillSpots_162 : decode cX4_fillSpots 162 = .ok (.invokevirtual 281, 3) := dk_182 1 25 (dk_at dksX4_fillSpots_6 19 rfl rfl)
theorem dX4_fillSpots_165 : decode cX4_fillSpots 165 = .ok (.ifCond .eq 7, 3) := dk_153 0 7 (dk_at dksX4_fillSpots_7 0 rfl rfl)
theorem dX4_fillSpots_168 : decode cX4_fillSpots 168 = .ok (.iconst 1, 1) := dk_4 (dk_at dksX4_fillSpots_7 3 rfl rfl)
theorem dX4_fillSpots_169 : decode cX4_fillSpots 169 = .ok (.goto 4, 3) := dk_167 0 4 (dk_at dksX4_fillSpots_7 4 rfl rfl)
theorem dX4_fillSpots_172 : decode cX4_fillSpots 172 = .ok (.iconst 0, 1) := dk_3 (dk_at dksX4_fillSpots_7 7 rfl rfl)
theorem dX4_fillSpots_173 : decode cX4_fillSpots 173 = .ok (.istore 10, 2) := dk_54 10 (dk_at dksX4_fillSpots_7 8 rfl rfl)
theorem dX4_fillSpots_175 : decode cX4_fillSpots 175 = .ok (.iload 10, 2) := dk_21 10 (dk_at dksX4_fillSpots_7 10 rfl rfl)
theorem dX4_fillSpots_177 : decode cX4_fillSpots 177 = .ok (.ifCond .eq 8, 3) := dk_153 0 8 (dk_at dksX4_fillSpots_7 12 rfl rfl)
theorem dX4_fillSpots_180 : decode cX4_fillSpots 180 = .ok (.iload 8, 2) := dk_21 8 (dk_at dksX4_fillSpots_7 15 rfl rfl)
theorem dX4_fillSpots_182 : decode cX4_fillSpots 182 = .ok (.goto 4, 3) := dk_167 0 4 (dk_at dksX4_fillSpots_7 17 rfl rfl)
theorem dX4_fillSpots_185 : decode cX4_fillSpots 185 = .ok (.iload_n 3, 1) := dk_29 (dk_at dksX4_fillSpots_7 20 rfl rfl)
theorem dX4_fillSpots_186 : decode cX4_fillSpots 186 = .ok (.istore_n 3, 1) := dk_62 (dk_at dksX4_fillSpots_7 21 rfl rfl)
theorem dX4_fillSpots_187 : decode cX4_fillSpots 187 = .ok (.iload 10, 2) := dk_21 10 (dk_at dksX4_fillSpots_7 22 rfl rfl)
theorem dX4_fillSpots_189 : decode cX4_fillSpots 189 = .ok (.ifCond .eq 8, 3) := dk_153 0 8 (dk_at dksX4_fillSpots_8 0 rfl rfl)
theorem dX4_fillSpots_192 : decode cX4_fillSpots 192 = .ok (.iload 9, 2) := dk_21 9 (dk_at dksX4_fillSpots_8 3 rfl rfl)
theorem dX4_fillSpots_194 : decode cX4_fillSpots 194 = .ok (.goto 5, 3) := dk_167 0 5 (dk_at dksX4_fillSpots_8 5 rfl rfl)
theorem dX4_fillSpots_197 : decode cX4_fillSpots 197 = .ok (.iload 4, 2) := dk_21 4 (dk_at dksX4_fillSpots_8 8 rfl rfl)
theorem dX4_fillSpots_199 : decode cX4_fillSpots 199 = .ok (.istore 4, 2) := dk_54 4 (dk_at dksX4_fillSpots_8 10 rfl rfl)
theorem dX4_fillSpots_201 : decode cX4_fillSpots 201 = .ok (.iinc 2 1, 3) := dk_132 2 1 (dk_at dksX4_fillSpots_8 12 rfl rfl)
theorem dX4_fillSpots_204 : decode cX4_fillSpots 204 = .ok (.aload_n 0, 1) := dk_42 (dk_at dksX4_fillSpots_8 15 rfl rfl)
theorem dX4_fillSpots_205 : decode cX4_fillSpots 205 = .ok (.iload_n 1, 1) := dk_27 (dk_at dksX4_fillSpots_8 16 rfl rfl)
theorem dX4_fillSpots_206 : decode cX4_fillSpots 206 = .ok (.iload_n 2, 1) := dk_28 (dk_at dksX4_fillSpots_8 17 rfl rfl)
theorem dX4_fillSpots_207 : decode cX4_fillSpots 207 = .ok (.iload_n 3, 1) := dk_29 (dk_at dksX4_fillSpots_8 18 rfl rfl)
theorem dX4_fillSpots_208 : decode cX4_fillSpots 208 = .ok (.iload 4, 2) := dk_21 4 (dk_at dksX4_fillSpots_8 19 rfl rfl)
theorem dX4_fillSpots_210 : decode cX4_fillSpots 210 = .ok (.invokevirtual 274, 3) := dk_182 1 18 (dk_at dksX4_fillSpots_8 21 rfl rfl)
theorem dX4_fillSpots_213 : decode cX4_fillSpots 213 = .ok (.iinc 7 1, 3) := dk_132 7 1 (dk_at dksX4_fillSpots_9 0 rfl rfl)
theorem dX4_fillSpots_216 : decode cX4_fillSpots 216 = .ok (.goto (-133), 3) := dk_167 255 123 (dk_at dksX4_fillSpots_9 3 rfl rfl)
theorem dX4_fillSpots_219 : decode cX4_fillSpots 219 = .ok (.iinc 5 1, 3) := dk_132 5 1 (dk_at dksX4_fillSpots_9 6 rfl rfl)
theorem dX4_fillSpots_222 : decode cX4_fillSpots 222 = .ok (.goto (-166), 3) := dk_167 255 90 (dk_at dksX4_fillSpots_9 9 rfl rfl)
theorem dX4_fillSpots_225 : decode cX4_fillSpots 225 = .ok (.return_, 1) := dk_177 (dk_at dksX4_fillSpots_9 12 rfl rfl)
abbrev cX4_setSpot : ByteArray := prog_19_method_38_code
def yX4_setSpot : MethodName := ⟨RX4, "setSpot", "(IIII)V"⟩
def dkwX4_setSpot_1 : List UInt8 := [16, 40, 27, 104, 28, 96, 21, 4, 79, 177]
abbrev dktX4_setSpot_1 : List UInt8 := dkwX4_setSpot_1 ++ []
def dkwX4_setSpot_0 : List UInt8 := [28, 16, 40, 161, 0, 4, 177, 42, 180, 0, 34, 16, 40, 27, 104, 28, 96, 29, 79, 42, 180, 0, 37]
abbrev dktX4_setSpot_0 : List UInt8 := dkwX4_setSpot_0 ++ dktX4_setSpot_1
theorem dksX4_setSpot_0 : cX4_setSpot.data.toList.drop 0 = dktX4_setSpot_0 := by decide +kernel
theorem dksX4_setSpot_1 : cX4_setSpot.data.toList.drop 23 = dktX4_setSpot_1 := dk_seg dksX4_setSpot_0 23 rfl rfl
theorem dX4_setSpot_0 : decode cX4_setSpot 0 = .ok (.iload_n 2, 1) := dk_28 (dk_at dksX4_setSpot_0 0 rfl rfl)
theorem dX4_setSpot_1 : decode cX4_setSpot 1 = .ok (.bipush 40, 2) := dk_16 40 (dk_at dksX4_setSpot_0 1 rfl rfl)
theorem dX4_setSpot_3 : decode cX4_setSpot 3 = .ok (.if_icmp .lt 4, 3) := dk_161 0 4 (dk_at dksX4_setSpot_0 3 rfl rfl)
theorem dX4_setSpot_6 : decode cX4_setSpot 6 = .ok (.return_, 1) := dk_177 (dk_at dksX4_setSpot_0 6 rfl rfl)
theorem dX4_setSpot_7 : decode cX4_setSpot 7 = .ok (.aload_n 0, 1) := dk_42 (dk_at dksX4_setSpot_0 7 rfl rfl)
theorem dX4_setSpot_8 : decode cX4_setSpot 8 = .ok (.getfield 34, 3) := dk_180 0 34 (dk_at dksX4_setSpot_0 8 rfl rfl)
theorem dX4_setSpot_11 : decode cX4_setSpot 11 = .ok (.bipush 40, 2) := dk_16 40 (dk_at dksX4_setSpot_0 11 rfl rfl)
theorem dX4_setSpot_13 : decode cX4_setSpot 13 = .ok (.iload_n 1, 1) := dk_27 (dk_at dksX4_setSpot_0 13 rfl rfl)
theorem dX4_setSpot_14 : decode cX4_setSpot 14 = .ok (.imul, 1) := dk_104 (dk_at dksX4_setSpot_0 14 rfl rfl)
theorem dX4_setSpot_15 : decode cX4_setSpot 15 = .ok (.iload_n 2, 1) := dk_28 (dk_at dksX4_setSpot_0 15 rfl rfl)
theorem dX4_setSpot_16 : decode cX4_setSpot 16 = .ok (.iadd, 1) := dk_96 (dk_at dksX4_setSpot_0 16 rfl rfl)
theorem dX4_setSpot_17 : decode cX4_setSpot 17 = .ok (.iload_n 3, 1) := dk_29 (dk_at dksX4_setSpot_0 17 rfl rfl)
theorem dX4_setSpot_18 : decode cX4_setSpot 18 = .ok (.iastore, 1) := dk_79 (dk_at dksX4_setSpot_0 18 rfl rfl)
theorem dX4_setSpot_19 : decode cX4_setSpot 19 = .ok (.aload_n 0, 1) := dk_42 (dk_at dksX4_setSpot_0 19 rfl rfl)
theorem dX4_setSpot_20 : decode cX4_setSpot 20 = .ok (.getfield 37, 3) := dk_180 0 37 (dk_at dksX4_setSpot_0 20 rfl rfl)
theorem dX4_setSpot_23 : decode cX4_setSpot 23 = .ok (.bipush 40, 2) := dk_16 40 (dk_at dksX4_setSpot_1 0 rfl rfl)
theorem dX4_setSpot_25 : decode cX4_setSpot 25 = .ok (.iload_n 1, 1) := dk_27 (dk_at dksX4_setSpot_1 2 rfl rfl)
theorem dX4_setSpot_26 : decode cX4_setSpot 26 = .ok (.imul, 1) := dk_104 (dk_at dksX4_setSpot_1 3 rfl rfl)
theorem dX4_setSpot_27 : decode cX4_setSpot 27 = .ok (.iload_n 2, 1) := dk_28 (dk_at dksX4_setSpot_1 4 rfl rfl)
theorem dX4_setSpot_28 : decode cX4_setSpot 28 = .ok (.iadd, 1) := dk_96 (dk_at dksX4_setSpot_1 5 rfl rfl)
theorem dX4_setSpot_29 : decode cX4_setSpot 29 = .ok (.iload 4, 2) := dk_21 4 (dk_at dksX4_setSpot_1 6 rfl rfl)
theorem dX4_setSpot_31 : decode cX4_setSpot 31 = .ok (.iastore, 1) := dk_79 (dk_at dksX4_setSpot_1 8 rfl rfl)
theorem dX4_setSpot_32 : decode cX4_setSpot 32 = .ok (.return_, 1) := dk_177 (dk_at dksX4_setSpot_1 9 rfl rfl)
abbrev cX4_of : ByteArray := prog_19_method_13_code
def yX4_of : MethodName := ⟨RX4, "of", "(II)I"⟩
def dkwX4_of_0 : List UInt8 := [42, 180, 0, 9, 16, 56, 16, 33, 27, 104, 96, 28, 96, 46, 172]
abbrev dktX4_of_0 : List UInt8 := dkwX4_of_0 ++ []
theorem dksX4_of_0 : cX4_of.data.toList.drop 0 = dktX4_of_0 := by decide +kernel
theorem dX4_of_0 : decode cX4_of 0 = .ok (.aload_n 0, 1) := dk_42 (dk_at dksX4_of_0 0 rfl rfl)
theorem dX4_of_1 : decode cX4_of 1 = .ok (.getfield 9, 3) := dk_180 0 9 (dk_at dksX4_of_0 1 rfl rfl)
theorem dX4_of_4 : decode cX4_of 4 = .ok (.bipush 56, 2) := dk_16 56 (dk_at dksX4_of_0 4 rfl rfl)
theorem dX4_of_6 : decode cX4_of 6 = .ok (.bipush 33, 2) := dk_16 33 (dk_at dksX4_of_0 6 rfl rfl)
theorem dX4_of_8 : decode cX4_of 8 = .ok (.iload_n 1, 1) := dk_27 (dk_at dksX4_of_0 8 rfl rfl)
theorem dX4_of_9 : decode cX4_of 9 = .ok (.imul, 1) := dk_104 (dk_at dksX4_of_0 9 rfl rfl)
theorem dX4_of_10 : decode cX4_of 10 = .ok (.iadd, 1) := dk_96 (dk_at dksX4_of_0 10 rfl rfl)
theorem dX4_of_11 : decode cX4_of 11 = .ok (.iload_n 2, 1) := dk_28 (dk_at dksX4_of_0 11 rfl rfl)
theorem dX4_of_12 : decode cX4_of 12 = .ok (.iadd, 1) := dk_96 (dk_at dksX4_of_0 12 rfl rfl)
theorem dX4_of_13 : decode cX4_of 13 = .ok (.iaload, 1) := dk_46 (dk_at dksX4_of_0 13 rfl rfl)
theorem dX4_of_14 : decode cX4_of 14 = .ok (.ireturn, 1) := dk_172 (dk_at dksX4_of_0 14 rfl rfl)
abbrev cX4_isFree : ByteArray := prog_19_method_37_code
def yX4_isFree : MethodName := ⟨RX4, "isFree", "(II)Z"⟩
def dkwX4_isFree_2 : List UInt8 := [154, 0, 7, 4, 167, 0, 4, 3, 172]
abbrev dktX4_isFree_2 : List UInt8 := dkwX4_isFree_2 ++ []
def dkwX4_isFree_1 : List UInt8 := [180, 0, 9, 8, 46, 4, 100, 133, 184, 0, 104, 153, 0, 20, 42, 180, 0, 9, 27, 28, 2, 184, 0, 189]
abbrev dktX4_isFree_1 : List UInt8 := dkwX4_isFree_1 ++ dktX4_isFree_2
def dkwX4_isFree_0 : List UInt8 := [27, 133, 9, 42, 180, 0, 9, 7, 46, 4, 100, 133, 184, 0, 104, 153, 0, 38, 28, 133, 9, 42]
abbrev dktX4_isFree_0 : List UInt8 := dkwX4_isFree_0 ++ dktX4_isFree_1
theorem dksX4_isFree_0 : cX4_isFree.data.toList.drop 0 = dktX4_isFree_0 := by decide +kernel
theorem dksX4_isFree_1 : cX4_isFree.data.toList.drop 22 = dktX4_isFree_1 := dk_seg dksX4_isFree_0 22 rfl rfl
theorem dksX4_isFree_2 : cX4_isFree.data.toList.drop 46 = dktX4_isFree_2 := dk_seg dksX4_isFree_1 24 rfl rfl
theorem dX4_isFree_0 : decode cX4_isFree 0 = .ok (.iload_n 1, 1) := dk_27 (dk_at dksX4_isFree_0 0 rfl rfl)
theorem dX4_isFree_1 : decode cX4_isFree 1 = .ok (.i2l, 1) := dk_133 (dk_at dksX4_isFree_0 1 rfl rfl)
theorem dX4_isFree_2 : decode cX4_isFree 2 = .ok (.lconst 0, 1) := dk_9 (dk_at dksX4_isFree_0 2 rfl rfl)
theorem dX4_isFree_3 : decode cX4_isFree 3 = .ok (.aload_n 0, 1) := dk_42 (dk_at dksX4_isFree_0 3 rfl rfl)
theorem dX4_isFree_4 : decode cX4_isFree 4 = .ok (.getfield 9, 3) := dk_180 0 9 (dk_at dksX4_isFree_0 4 rfl rfl)
theorem dX4_isFree_7 : decode cX4_isFree 7 = .ok (.iconst 4, 1) := dk_7 (dk_at dksX4_isFree_0 7 rfl rfl)
theorem dX4_isFree_8 : decode cX4_isFree 8 = .ok (.iaload, 1) := dk_46 (dk_at dksX4_isFree_0 8 rfl rfl)
theorem dX4_isFree_9 : decode cX4_isFree 9 = .ok (.iconst 1, 1) := dk_4 (dk_at dksX4_isFree_0 9 rfl rfl)
theorem dX4_isFree_10 : decode cX4_isFree 10 = .ok (.isub, 1) := dk_100 (dk_at dksX4_isFree_0 10 rfl rfl)
theorem dX4_isFree_11 : decode cX4_isFree 11 = .ok (.i2l, 1) := dk_133 (dk_at dksX4_isFree_0 11 rfl rfl)
theorem dX4_isFree_12 : decode cX4_isFree 12 = .ok (.invokestatic 104, 3) := dk_184 0 104 (dk_at dksX4_isFree_0 12 rfl rfl)
theorem dX4_isFree_15 : decode cX4_isFree 15 = .ok (.ifCond .eq 38, 3) := dk_153 0 38 (dk_at dksX4_isFree_0 15 rfl rfl)
theorem dX4_isFree_18 : decode cX4_isFree 18 = .ok (.iload_n 2, 1) := dk_28 (dk_at dksX4_isFree_0 18 rfl rfl)
theorem dX4_isFree_19 : decode cX4_isFree 19 = .ok (.i2l, 1) := dk_133 (dk_at dksX4_isFree_0 19 rfl rfl)
theorem dX4_isFree_20 : decode cX4_isFree 20 = .ok (.lconst 0, 1) := dk_9 (dk_at dksX4_isFree_0 20 rfl rfl)
theorem dX4_isFree_21 : decode cX4_isFree 21 = .ok (.aload_n 0, 1) := dk_42 (dk_at dksX4_isFree_0 21 rfl rfl)
theorem dX4_isFree_22 : decode cX4_isFree 22 = .ok (.getfield 9, 3) := dk_180 0 9 (dk_at dksX4_isFree_1 0 rfl rfl)
theorem dX4_isFree_25 : decode cX4_isFree 25 = .ok (.iconst 5, 1) := dk_8 (dk_at dksX4_isFree_1 3 rfl rfl)
theorem dX4_isFree_26 : decode cX4_isFree 26 = .ok (.iaload, 1) := dk_46 (dk_at dksX4_isFree_1 4 rfl rfl)
theorem dX4_isFree_27 : decode cX4_isFree 27 = .ok (.iconst 1, 1) := dk_4 (dk_at dksX4_isFree_1 5 rfl rfl)
theorem dX4_isFree_28 : decode cX4_isFree 28 = .ok (.isub, 1) := dk_100 (dk_at dksX4_isFree_1 6 rfl rfl)
theorem dX4_isFree_29 : decode cX4_isFree 29 = .ok (.i2l, 1) := dk_133 (dk_at dksX4_isFree_1 7 rfl rfl)
theorem dX4_isFree_30 : decode cX4_isFree 30 = .ok (.invokestatic 104, 3) := dk_184 0 104 (dk_at dksX4_isFree_1 8 rfl rfl)
theorem dX4_isFree_33 : decode cX4_isFree 33 = .ok (.ifCond .eq 20, 3) := dk_153 0 20 (dk_at dksX4_isFree_1 11 rfl rfl)
theorem dX4_isFree_36 : decode cX4_isFree 36 = .ok (.aload_n 0, 1) := dk_42 (dk_at dksX4_isFree_1 14 rfl rfl)
theorem dX4_isFree_37 : decode cX4_isFree 37 = .ok (.getfield 9, 3) := dk_180 0 9 (dk_at dksX4_isFree_1 15 rfl rfl)
theorem dX4_isFree_40 : decode cX4_isFree 40 = .ok (.iload_n 1, 1) := dk_27 (dk_at dksX4_isFree_1 18 rfl rfl)
theorem dX4_isFree_41 : decode cX4_isFree 41 = .ok (.iload_n 2, 1) := dk_28 (dk_at dksX4_isFree_1 19 rfl rfl)
theorem dX4_isFree_42 : decode cX4_isFree 42 = .ok (.iconst (-1), 1) := dk_2 (dk_at dksX4_isFree_1 20 rfl rfl)
theorem dX4_isFree_43 : decode cX4_isFree 43 = .ok (.invokestatic 189, 3) := dk_184 0 189 (dk_at dksX4_isFree_1 21 rfl rfl)
theorem dX4_isFree_46 : decode cX4_isFree 46 = .ok (.ifCond .ne 7, 3) := dk_154 0 7 (dk_at dksX4_isFree_2 0 rfl rfl)
theorem dX4_isFree_49 : decode cX4_isFree 49 = .ok (.iconst 1, 1) := dk_4 (dk_at dksX4_isFree_2 3 rfl rfl)
theorem dX4_isFree_50 : decode cX4_isFree 50 = .ok (.goto 4, 3) := dk_167 0 4 (dk_at dksX4_isFree_2 4 rfl rfl)
theorem dX4_isFree_53 : decode cX4_isFree 53 = .ok (.iconst 0, 1) := dk_3 (dk_at dksX4_isFree_2 7 rfl rfl)
theorem dX4_isFree_54 : decode cX4_isFree 54 = .ok (.ireturn, 1) := dk_172 (dk_at dksX4_isFree_2 8 rfl rfl)
abbrev cX4_isThere : ByteArray := prog_19_method_40_code
def yX4_isThere : MethodName := ⟨RX4, "isThere", "(II)Z"⟩
def dkwX4_isThere_1 : List UInt8 := [46, 2, 159, 0, 7, 4, 167, 0, 4, 3, 172]
abbrev dktX4_isThere_1 : List UInt8 := dkwX4_isThere_1 ++ []
def dkwX4_isThere_0 : List UInt8 := [42, 180, 0, 9, 16, 7, 46, 27, 122, 4, 126, 154, 0, 22, 42, 180, 0, 34, 16, 40, 27, 104, 28, 96]
abbrev dktX4_isThere_0 : List UInt8 := dkwX4_isThere_0 ++ dktX4_isThere_1
theorem dksX4_isThere_0 : cX4_isThere.data.toList.drop 0 = dktX4_isThere_0 := by decide +kernel
theorem dksX4_isThere_1 : cX4_isThere.data.toList.drop 24 = dktX4_isThere_1 := dk_seg dksX4_isThere_0 24 rfl rfl
theorem dX4_isThere_0 : decode cX4_isThere 0 = .ok (.aload_n 0, 1) := dk_42 (dk_at dksX4_isThere_0 0 rfl rfl)
theorem dX4_isThere_1 : decode cX4_isThere 1 = .ok (.getfield 9, 3) := dk_180 0 9 (dk_at dksX4_isThere_0 1 rfl rfl)
theorem dX4_isThere_4 : decode cX4_isThere 4 = .ok (.bipush 7, 2) := dk_16 7 (dk_at dksX4_isThere_0 4 rfl rfl)
theorem dX4_isThere_6 : decode cX4_isThere 6 = .ok (.iaload, 1) := dk_46 (dk_at dksX4_isThere_0 6 rfl rfl)
theorem dX4_isThere_7 : decode cX4_isThere 7 = .ok (.iload_n 1, 1) := dk_27 (dk_at dksX4_isThere_0 7 rfl rfl)
theorem dX4_isThere_8 : decode cX4_isThere 8 = .ok (.ishr, 1) := dk_122 (dk_at dksX4_isThere_0 8 rfl rfl)
theorem dX4_isThere_9 : decode cX4_isThere 9 = .ok (.iconst 1, 1) := dk_4 (dk_at dksX4_isThere_0 9 rfl rfl)
theorem dX4_isThere_10 : decode cX4_isThere 10 = .ok (.iand, 1) := dk_126 (dk_at dksX4_isThere_0 10 rfl rfl)
theorem dX4_isThere_11 : decode cX4_isThere 11 = .ok (.ifCond .ne 22, 3) := dk_154 0 22 (dk_at dksX4_isThere_0 11 rfl rfl)
theorem dX4_isThere_14 : decode cX4_isThere 14 = .ok (.aload_n 0, 1) := dk_42 (dk_at dksX4_isThere_0 14 rfl rfl)
theorem dX4_isThere_15 : decode cX4_isThere 15 = .ok (.getfield 34, 3) := dk_180 0 34 (dk_at dksX4_isThere_0 15 rfl rfl)
theorem dX4_isThere_18 : decode cX4_isThere 18 = .ok (.bipush 40, 2) := dk_16 40 (dk_at dksX4_isThere_0 18 rfl rfl)
theorem dX4_isThere_20 : decode cX4_isThere 20 = .ok (.iload_n 1, 1) := dk_27 (dk_at dksX4_isThere_0 20 rfl rfl)
theorem dX4_isThere_21 : decode cX4_isThere 21 = .ok (.imul, 1) := dk_104 (dk_at dksX4_isThere_0 21 rfl rfl)
theorem dX4_isThere_22 : decode cX4_isThere 22 = .ok (.iload_n 2, 1) := dk_28 (dk_at dksX4_isThere_0 22 rfl rfl)
theorem dX4_isThere_23 : decode cX4_isThere 23 = .ok (.iadd, 1) := dk_96 (dk_at dksX4_isThere_0 23 rfl rfl)
theorem dX4_isThere_24 : decode cX4_isThere 24 = .ok (.iaload, 1) := dk_46 (dk_at dksX4_isThere_1 0 rfl rfl)
theorem dX4_isThere_25 : decode cX4_isThere 25 = .ok (.iconst (-1), 1) := dk_2 (dk_at dksX4_isThere_1 1 rfl rfl)
theorem dX4_isThere_26 : decode cX4_isThere 26 = .ok (.if_icmp .eq 7, 3) := dk_159 0 7 (dk_at dksX4_isThere_1 2 rfl rfl)
theorem dX4_isThere_29 : decode cX4_isThere 29 = .ok (.iconst 1, 1) := dk_4 (dk_at dksX4_isThere_1 5 rfl rfl)
theorem dX4_isThere_30 : decode cX4_isThere 30 = .ok (.goto 4, 3) := dk_167 0 4 (dk_at dksX4_isThere_1 6 rfl rfl)
theorem dX4_isThere_33 : decode cX4_isThere 33 = .ok (.iconst 0, 1) := dk_3 (dk_at dksX4_isThere_1 9 rfl rfl)
theorem dX4_isThere_34 : decode cX4_isThere 34 = .ok (.ireturn, 1) := dk_172 (dk_at dksX4_isThere_1 10 rfl rfl)
abbrev cX4_sees : ByteArray := prog_19_method_46_code
def yX4_sees : MethodName := ⟨RX4, "sees", "(III)I"⟩
def dkwX4_sees_3 : List UInt8 := [167, 0, 4, 3, 172]
abbrev dktX4_sees_3 : List UInt8 := dkwX4_sees_3 ++ []
def dkwX4_sees_2 : List UInt8 := [27, 104, 29, 96, 46, 42, 180, 0, 37, 16, 40, 27, 104, 29, 96, 46, 28, 182, 1, 44, 153, 0, 7, 4]
abbrev dktX4_sees_2 : List UInt8 := dkwX4_sees_2 ++ dktX4_sees_3
def dkwX4_sees_1 : List UInt8 := [16, 254, 172, 42, 27, 182, 1, 48, 42, 27, 29, 182, 1, 41, 153, 0, 37, 42, 42, 180, 0, 34, 16, 40]
abbrev dktX4_sees_1 : List UInt8 := dkwX4_sees_1 ++ dktX4_sees_2
def dkwX4_sees_0 : List UInt8 := [42, 27, 182, 1, 51, 153, 0, 19, 42, 28, 182, 1, 58, 153, 0, 11, 42, 29, 182, 1, 55, 154, 0, 6]
abbrev dktX4_sees_0 : List UInt8 := dkwX4_sees_0 ++ dktX4_sees_1
theorem dksX4_sees_0 : cX4_sees.data.toList.drop 0 = dktX4_sees_0 := by decide +kernel
theorem dksX4_sees_1 : cX4_sees.data.toList.drop 24 = dktX4_sees_1 := dk_seg dksX4_sees_0 24 rfl rfl
theorem dksX4_sees_2 : cX4_sees.data.toList.drop 48 = dktX4_sees_2 := dk_seg dksX4_sees_1 24 rfl rfl
theorem dksX4_sees_3 : cX4_sees.data.toList.drop 72 = dktX4_sees_3 := dk_seg dksX4_sees_2 24 rfl rfl
theorem dX4_sees_0 : decode cX4_sees 0 = .ok (.aload_n 0, 1) := dk_42 (dk_at dksX4_sees_0 0 rfl rfl)
theorem dX4_sees_1 : decode cX4_sees 1 = .ok (.iload_n 1, 1) := dk_27 (dk_at dksX4_sees_0 1 rfl rfl)
theorem dX4_sees_2 : decode cX4_sees 2 = .ok (.invokevirtual 307, 3) := dk_182 1 51 (dk_at dksX4_sees_0 2 rfl rfl)
theorem dX4_sees_5 : decode cX4_sees 5 = .ok (.ifCond .eq 19, 3) := dk_153 0 19 (dk_at dksX4_sees_0 5 rfl rfl)
theorem dX4_sees_8 : decode cX4_sees 8 = .ok (.aload_n 0, 1) := dk_42 (dk_at dksX4_sees_0 8 rfl rfl)
theorem dX4_sees_9 : decode cX4_sees 9 = .ok (.iload_n 2, 1) := dk_28 (dk_at dksX4_sees_0 9 rfl rfl)
theorem dX4_sees_10 : decode cX4_sees 10 = .ok (.invokevirtual 314, 3) := dk_182 1 58 (dk_at dksX4_sees_0 10 rfl rfl)
theorem dX4_sees_13 : decode cX4_sees 13 = .ok (.ifCond .eq 11, 3) := dk_153 0 11 (dk_at dksX4_sees_0 13 rfl rfl)
theorem dX4_sees_16 : decode cX4_sees 16 = .ok (.aload_n 0, 1) := dk_42 (dk_at dksX4_sees_0 16 rfl rfl)
theorem dX4_sees_17 : decode cX4_sees 17 = .ok (.iload_n 3, 1) := dk_29 (dk_at dksX4_sees_0 17 rfl rfl)
theorem dX4_sees_18 : decode cX4_sees 18 = .ok (.invokevirtual 311, 3) := dk_182 1 55 (dk_at dksX4_sees_0 18 rfl rfl)
theorem dX4_sees_21 : decode cX4_sees 21 = .ok (.ifCond .ne 6, 3) := dk_154 0 6 (dk_at dksX4_sees_0 21 rfl rfl)
theorem dX4_sees_24 : decode cX4_sees 24 = .ok (.bipush (-2), 2) := dk_16 254 (dk_at dksX4_sees_1 0 rfl rfl)
theorem dX4_sees_26 : decode cX4_sees 26 = .ok (.ireturn, 1) := dk_172 (dk_at dksX4_sees_1 2 rfl rfl)
theorem dX4_sees_27 : decode cX4_sees 27 = .ok (.aload_n 0, 1) := dk_42 (dk_at dksX4_sees_1 3 rfl rfl)
theorem dX4_sees_28 : decode cX4_sees 28 = .ok (.iload_n 1, 1) := dk_27 (dk_at dksX4_sees_1 4 rfl rfl)
theorem dX4_sees_29 : decode cX4_sees 29 = .ok (.invokevirtual 304, 3) := dk_182 1 48 (dk_at dksX4_sees_1 5 rfl rfl)
theorem dX4_sees_32 : decode cX4_sees 32 = .ok (.aload_n 0, 1) := dk_42 (dk_at dksX4_sees_1 8 rfl rfl)
theorem dX4_sees_33 : decode cX4_sees 33 = .ok (.iload_n 1, 1) := dk_27 (dk_at dksX4_sees_1 9 rfl rfl)
theorem dX4_sees_34 : decode cX4_sees 34 = .ok (.iload_n 3, 1) := dk_29 (dk_at dksX4_sees_1 10 rfl rfl)
theorem dX4_sees_35 : decode cX4_sees 35 = .ok (.invokevirtual 297, 3) := dk_182 1 41 (dk_at dksX4_sees_1 11 rfl rfl)
theorem dX4_sees_38 : decode cX4_sees 38 = .ok (.ifCond .eq 37, 3) := dk_153 0 37 (dk_at dksX4_sees_1 14 rfl rfl)
theorem dX4_sees_41 : decode cX4_sees 41 = .ok (.aload_n 0, 1) := dk_42 (dk_at dksX4_sees_1 17 rfl rfl)
theorem dX4_sees_42 : decode cX4_sees 42 = .ok (.aload_n 0, 1) := dk_42 (dk_at dksX4_sees_1 18 rfl rfl)
theorem dX4_sees_43 : decode cX4_sees 43 = .ok (.getfield 34, 3) := dk_180 0 34 (dk_at dksX4_sees_1 19 rfl rfl)
theorem dX4_sees_46 : decode cX4_sees 46 = .ok (.bipush 40, 2) := dk_16 40 (dk_at dksX4_sees_1 22 rfl rfl)
theorem dX4_sees_48 : decode cX4_sees 48 = .ok (.iload_n 1, 1) := dk_27 (dk_at dksX4_sees_2 0 rfl rfl)
theorem dX4_sees_49 : decode cX4_sees 49 = .ok (.imul, 1) := dk_104 (dk_at dksX4_sees_2 1 rfl rfl)
theorem dX4_sees_50 : decode cX4_sees 50 = .ok (.iload_n 3, 1) := dk_29 (dk_at dksX4_sees_2 2 rfl rfl)
theorem dX4_sees_51 : decode cX4_sees 51 = .ok (.iadd, 1) := dk_96 (dk_at dksX4_sees_2 3 rfl rfl)
theorem dX4_sees_52 : decode cX4_sees 52 = .ok (.iaload, 1) := dk_46 (dk_at dksX4_sees_2 4 rfl rfl)
theorem dX4_sees_53 : decode cX4_sees 53 = .ok (.aload_n 0, 1) := dk_42 (dk_at dksX4_sees_2 5 rfl rfl)
theorem dX4_sees_54 : decode cX4_sees 54 = .ok (.getfield 37, 3) := dk_180 0 37 (dk_at dksX4_sees_2 6 rfl rfl)
theorem dX4_sees_57 : decode cX4_sees 57 = .ok (.bipush 40, 2) := dk_16 40 (dk_at dksX4_sees_2 9 rfl rfl)
theorem dX4_sees_59 : decode cX4_sees 59 = .ok (.iload_n 1, 1) := dk_27 (dk_at dksX4_sees_2 11 rfl rfl)
theorem dX4_sees_60 : decode cX4_sees 60 = .ok (.imul, 1) := dk_104 (dk_at dksX4_sees_2 12 rfl rfl)
theorem dX4_sees_61 : decode cX4_sees 61 = .ok (.iload_n 3, 1) := dk_29 (dk_at dksX4_sees_2 13 rfl rfl)
theorem dX4_sees_62 : decode cX4_sees 62 = .ok (.iadd, 1) := dk_96 (dk_at dksX4_sees_2 14 rfl rfl)
theorem dX4_sees_63 : decode cX4_sees 63 = .ok (.iaload, 1) := dk_46 (dk_at dksX4_sees_2 15 rfl rfl)
theorem dX4_sees_64 : decode cX4_sees 64 = .ok (.iload_n 2, 1) := dk_28 (dk_at dksX4_sees_2 16 rfl rfl)
theorem dX4_sees_65 : decode cX4_sees 65 = .ok (.invokevirtual 300, 3) := dk_182 1 44 (dk_at dksX4_sees_2 17 rfl rfl)
theorem dX4_sees_68 : decode cX4_sees 68 = .ok (.ifCond .eq 7, 3) := dk_153 0 7 (dk_at dksX4_sees_2 20 rfl rfl)
theorem dX4_sees_71 : decode cX4_sees 71 = .ok (.iconst 1, 1) := dk_4 (dk_at dksX4_sees_2 23 rfl rfl)
theorem dX4_sees_72 : decode cX4_sees 72 = .ok (.goto 4, 3) := dk_167 0 4 (dk_at dksX4_sees_3 0 rfl rfl)
theorem dX4_sees_75 : decode cX4_sees 75 = .ok (.iconst 0, 1) := dk_3 (dk_at dksX4_sees_3 3 rfl rfl)
theorem dX4_sees_76 : decode cX4_sees 76 = .ok (.ireturn, 1) := dk_172 (dk_at dksX4_sees_3 4 rfl rfl)
abbrev cX4_isClock : ByteArray := prog_19_method_7_code
def yX4_isClock : MethodName := ⟨RX4, "isClock", "(I)Z"⟩
def dkwX4_isClock_0 : List UInt8 := [27, 133, 9, 42, 180, 0, 9, 4, 46, 4, 100, 133, 184, 0, 104, 172]
abbrev dktX4_isClock_0 : List UInt8 := dkwX4_isClock_0 ++ []
theorem dksX4_isClock_0 : cX4_isClock.data.toList.drop 0 = dktX4_isClock_0 := by decide +kernel
theorem dX4_isClock_0 : decode cX4_isClock 0 = .ok (.iload_n 1, 1) := dk_27 (dk_at dksX4_isClock_0 0 rfl rfl)
theorem dX4_isClock_1 : decode cX4_isClock 1 = .ok (.i2l, 1) := dk_133 (dk_at dksX4_isClock_0 1 rfl rfl)
theorem dX4_isClock_2 : decode cX4_isClock 2 = .ok (.lconst 0, 1) := dk_9 (dk_at dksX4_isClock_0 2 rfl rfl)
theorem dX4_isClock_3 : decode cX4_isClock 3 = .ok (.aload_n 0, 1) := dk_42 (dk_at dksX4_isClock_0 3 rfl rfl)
theorem dX4_isClock_4 : decode cX4_isClock 4 = .ok (.getfield 9, 3) := dk_180 0 9 (dk_at dksX4_isClock_0 4 rfl rfl)
theorem dX4_isClock_7 : decode cX4_isClock 7 = .ok (.iconst 1, 1) := dk_4 (dk_at dksX4_isClock_0 7 rfl rfl)
theorem dX4_isClock_8 : decode cX4_isClock 8 = .ok (.iaload, 1) := dk_46 (dk_at dksX4_isClock_0 8 rfl rfl)
theorem dX4_isClock_9 : decode cX4_isClock 9 = .ok (.iconst 1, 1) := dk_4 (dk_at dksX4_isClock_0 9 rfl rfl)
theorem dX4_isClock_10 : decode cX4_isClock 10 = .ok (.isub, 1) := dk_100 (dk_at dksX4_isClock_0 10 rfl rfl)
theorem dX4_isClock_11 : decode cX4_isClock 11 = .ok (.i2l, 1) := dk_133 (dk_at dksX4_isClock_0 11 rfl rfl)
theorem dX4_isClock_12 : decode cX4_isClock 12 = .ok (.invokestatic 104, 3) := dk_184 0 104 (dk_at dksX4_isClock_0 12 rfl rfl)
theorem dX4_isClock_15 : decode cX4_isClock 15 = .ok (.ireturn, 1) := dk_172 (dk_at dksX4_isClock_0 15 rfl rfl)
abbrev cX4_seesFrom : ByteArray := prog_19_method_42_code
def yX4_seesFrom : MethodName := ⟨RX4, "seesFrom", "(III)Z"⟩
def dkwX4_seesFrom_5 : List UInt8 := [167, 255, 213, 4, 172]
abbrev dktX4_seesFrom_5 : List UInt8 := dkwX4_seesFrom_5 ++ []
def dkwX4_seesFrom_4 : List UInt8 := [104, 96, 28, 21, 7, 21, 5, 184, 1, 38, 104, 96, 29, 184, 0, 189, 153, 0, 5, 3, 172, 132, 7, 1]
abbrev dktX4_seesFrom_4 : List UInt8 := dkwX4_seesFrom_4 ++ dktX4_seesFrom_5
def dkwX4_seesFrom_3 : List UInt8 := [54, 6, 4, 54, 7, 21, 7, 21, 6, 162, 0, 42, 42, 180, 0, 9, 27, 21, 7, 21, 4, 184, 1, 38]
abbrev dktX4_seesFrom_3 : List UInt8 := dkwX4_seesFrom_3 ++ dktX4_seesFrom_4
def dkwX4_seesFrom_2 : List UInt8 := [21, 5, 184, 1, 32, 159, 0, 5, 3, 172, 21, 4, 184, 1, 32, 21, 5, 184, 1, 32, 184, 1, 35]
abbrev dktX4_seesFrom_2 : List UInt8 := dkwX4_seesFrom_2 ++ dktX4_seesFrom_3
def dkwX4_seesFrom_1 : List UInt8 := [154, 0, 8, 21, 5, 153, 0, 26, 21, 4, 153, 0, 23, 21, 5, 153, 0, 18, 21, 4, 184, 1, 32]
abbrev dktX4_seesFrom_1 : List UInt8 := dkwX4_seesFrom_1 ++ dktX4_seesFrom_2
def dkwX4_seesFrom_0 : List UInt8 := [42, 29, 3, 182, 1, 29, 27, 100, 54, 4, 42, 29, 4, 182, 1, 29, 28, 100, 54, 5, 21, 4]
abbrev dktX4_seesFrom_0 : List UInt8 := dkwX4_seesFrom_0 ++ dktX4_seesFrom_1
theorem dksX4_seesFrom_0 : cX4_seesFrom.data.toList.drop 0 = dktX4_seesFrom_0 := by decide +kernel
theorem dksX4_seesFrom_1 : cX4_seesFrom.data.toList.drop 22 = dktX4_seesFrom_1 := dk_seg dksX4_seesFrom_0 22 rfl rfl
theorem dksX4_seesFrom_2 : cX4_seesFrom.data.toList.drop 45 = dktX4_seesFrom_2 := dk_seg dksX4_seesFrom_1 23 rfl rfl
theorem dksX4_seesFrom_3 : cX4_seesFrom.data.toList.drop 68 = dktX4_seesFrom_3 := dk_seg dksX4_seesFrom_2 23 rfl rfl
theorem dksX4_seesFrom_4 : cX4_seesFrom.data.toList.drop 92 = dktX4_seesFrom_4 := dk_seg dksX4_seesFrom_3 24 rfl rfl
theorem dksX4_seesFrom_5 : cX4_seesFrom.data.toList.drop 116 = dktX4_seesFrom_5 := dk_seg dksX4_seesFrom_4 24 rfl rfl
theorem dX4_seesFrom_0 : decode cX4_seesFrom 0 = .ok (.aload_n 0, 1) := dk_42 (dk_at dksX4_seesFrom_0 0 rfl rfl)
theorem dX4_seesFrom_1 : decode cX4_seesFrom 1 = .ok (.iload_n 3, 1) := dk_29 (dk_at dksX4_seesFrom_0 1 rfl rfl)
theorem dX4_seesFrom_2 : decode cX4_seesFrom 2 = .ok (.iconst 0, 1) := dk_3 (dk_at dksX4_seesFrom_0 2 rfl rfl)
theorem dX4_seesFrom_3 : decode cX4_seesFrom 3 = .ok (.invokevirtual 285, 3) := dk_182 1 29 (dk_at dksX4_seesFrom_0 3 rfl rfl)
theorem dX4_seesFrom_6 : decode cX4_seesFrom 6 = .ok (.iload_n 1, 1) := dk_27 (dk_at dksX4_seesFrom_0 6 rfl rfl)
theorem dX4_seesFrom_7 : decode cX4_seesFrom 7 = .ok (.isub, 1) := dk_100 (dk_at dksX4_seesFrom_0 7 rfl rfl)
theorem dX4_seesFrom_8 : decode cX4_seesFrom 8 = .ok (.istore 4, 2) := dk_54 4 (dk_at dksX4_seesFrom_0 8 rfl rfl)
theorem dX4_seesFrom_10 : decode cX4_seesFrom 10 = .ok (.aload_n 0, 1) := dk_42 (dk_at dksX4_seesFrom_0 10 rfl rfl)
theorem dX4_seesFrom_11 : decode cX4_seesFrom 11 = .ok (.iload_n 3, 1) := dk_29 (dk_at dksX4_seesFrom_0 11 rfl rfl)
theorem dX4_seesFrom_12 : decode cX4_seesFrom 12 = .ok (.iconst 1, 1) := dk_4 (dk_at dksX4_seesFrom_0 12 rfl rfl)
theorem dX4_seesFrom_13 : decode cX4_seesFrom 13 = .ok (.invokevirtual 285, 3) := dk_182 1 29 (dk_at dksX4_seesFrom_0 13 rfl rfl)
theorem dX4_seesFrom_16 : decode cX4_seesFrom 16 = .ok (.iload_n 2, 1) := dk_28 (dk_at dksX4_seesFrom_0 16 rfl rfl)
theorem dX4_seesFrom_17 : decode cX4_seesFrom 17 = .ok (.isub, 1) := dk_100 (dk_at dksX4_seesFrom_0 17 rfl rfl)
theorem dX4_seesFrom_18 : decode cX4_seesFrom 18 = .ok (.istore 5, 2) := dk_54 5 (dk_at dksX4_seesFrom_0 18 rfl rfl)
theorem dX4_seesFrom_20 : decode cX4_seesFrom 20 = .ok (.iload 4, 2) := dk_21 4 (dk_at dksX4_seesFrom_0 20 rfl rfl)
theorem dX4_seesFrom_22 : decode cX4_seesFrom 22 = .ok (.ifCond .ne 8, 3) := dk_154 0 8 (dk_at dksX4_seesFrom_1 0 rfl rfl)
theorem dX4_seesFrom_25 : decode cX4_seesFrom 25 = .ok (.iload 5, 2) := dk_21 5 (dk_at dksX4_seesFrom_1 3 rfl rfl)
theorem dX4_seesFrom_27 : decode cX4_seesFrom 27 = .ok (.ifCond .eq 26, 3) := dk_153 0 26 (dk_at dksX4_seesFrom_1 5 rfl rfl)
theorem dX4_seesFrom_30 : decode cX4_seesFrom 30 = .ok (.iload 4, 2) := dk_21 4 (dk_at dksX4_seesFrom_1 8 rfl rfl)
theorem dX4_seesFrom_32 : decode cX4_seesFrom 32 = .ok (.ifCond .eq 23, 3) := dk_153 0 23 (dk_at dksX4_seesFrom_1 10 rfl rfl)
theorem dX4_seesFrom_35 : decode cX4_seesFrom 35 = .ok (.iload 5, 2) := dk_21 5 (dk_at dksX4_seesFrom_1 13 rfl rfl)
theorem dX4_seesFrom_37 : decode cX4_seesFrom 37 = .ok (.ifCond .eq 18, 3) := dk_153 0 18 (dk_at dksX4_seesFrom_1 15 rfl rfl)
theorem dX4_seesFrom_40 : decode cX4_seesFrom 40 = .ok (.iload 4, 2) := dk_21 4 (dk_at dksX4_seesFrom_1 18 rfl rfl)
theorem dX4_seesFrom_42 : decode cX4_seesFrom 42 = .ok (.invokestatic 288, 3) := dk_184 1 32 (dk_at dksX4_seesFrom_1 20 rfl rfl)
theorem dX4_seesFrom_45 : decode cX4_seesFrom 45 = .ok (.iload 5, 2) := dk_21 5 (dk_at dksX4_seesFrom_2 0 rfl rfl)
theorem dX4_seesFrom_47 : decode cX4_seesFrom 47 = .ok (.invokestatic 288, 3) := dk_184 1 32 (dk_at dksX4_seesFrom_2 2 rfl rfl)
theorem dX4_seesFrom_50 : decode cX4_seesFrom 50 = .ok (.if_icmp .eq 5, 3) := dk_159 0 5 (dk_at dksX4_seesFrom_2 5 rfl rfl)
theorem dX4_seesFrom_53 : decode cX4_seesFrom 53 = .ok (.iconst 0, 1) := dk_3 (dk_at dksX4_seesFrom_2 8 rfl rfl)
theorem dX4_seesFrom_54 : decode cX4_seesFrom 54 = .ok (.ireturn, 1) := dk_172 (dk_at dksX4_seesFrom_2 9 rfl rfl)
theorem dX4_seesFrom_55 : decode cX4_seesFrom 55 = .ok (.iload 4, 2) := dk_21 4 (dk_at dksX4_seesFrom_2 10 rfl rfl)
theorem dX4_seesFrom_57 : decode cX4_seesFrom 57 = .ok (.invokestatic 288, 3) := dk_184 1 32 (dk_at dksX4_seesFrom_2 12 rfl rfl)
theorem dX4_seesFrom_60 : decode cX4_seesFrom 60 = .ok (.iload 5, 2) := dk_21 5 (dk_at dksX4_seesFrom_2 15 rfl rfl)
theorem dX4_seesFrom_62 : decode cX4_seesFrom 62 = .ok (.invokestatic 288, 3) := dk_184 1 32 (dk_at dksX4_seesFrom_2 17 rfl rfl)
theorem dX4_seesFrom_65 : decode cX4_seesFrom 65 = .ok (.invokestatic 291, 3) := dk_184 1 35 (dk_at dksX4_seesFrom_2 20 rfl rfl)
theorem dX4_seesFrom_68 : decode cX4_seesFrom 68 = .ok (.istore 6, 2) := dk_54 6 (dk_at dksX4_seesFrom_3 0 rfl rfl)
theorem dX4_seesFrom_70 : decode cX4_seesFrom 70 = .ok (.iconst 1, 1) := dk_4 (dk_at dksX4_seesFrom_3 2 rfl rfl)
theorem dX4_seesFrom_71 : decode cX4_seesFrom 71 = .ok (.istore 7, 2) := dk_54 7 (dk_at dksX4_seesFrom_3 3 rfl rfl)
theorem dX4_seesFrom_73 : decode cX4_seesFrom 73 = .ok (.iload 7, 2) := dk_21 7 (dk_at dksX4_seesFrom_3 5 rfl rfl)
theorem dX4_seesFrom_75 : decode cX4_seesFrom 75 = .ok (.iload 6, 2) := dk_21 6 (dk_at dksX4_seesFrom_3 7 rfl rfl)
theorem dX4_seesFrom_77 : decode cX4_seesFrom 77 = .ok (.if_icmp .ge 42, 3) := dk_162 0 42 (dk_at dksX4_seesFrom_3 9 rfl rfl)
theorem dX4_seesFrom_80 : decode cX4_seesFrom 80 = .ok (.aload_n 0, 1) := dk_42 (dk_at dksX4_seesFrom_3 12 rfl rfl)
theorem dX4_seesFrom_81 : decode cX4_seesFrom 81 = .ok (.getfield 9, 3) := dk_180 0 9 (dk_at dksX4_seesFrom_3 13 rfl rfl)
theorem dX4_seesFrom_84 : decode cX4_seesFrom 84 = .ok (.iload_n 1, 1) := dk_27 (dk_at dksX4_seesFrom_3 16 rfl rfl)
theorem dX4_seesFrom_85 : decode cX4_seesFrom 85 = .ok (.iload 7, 2) := dk_21 7 (dk_at dksX4_seesFrom_3 17 rfl rfl)
theorem dX4_seesFrom_87 : decode cX4_seesFrom 87 = .ok (.iload 4, 2) := dk_21 4 (dk_at dksX4_seesFrom_3 19 rfl rfl)
theorem dX4_seesFrom_89 : decode cX4_seesFrom 89 = .ok (.invokestatic 294, 3) := dk_184 1 38 (dk_at dksX4_seesFrom_3 21 rfl rfl)
theorem dX4_seesFrom_92 : decode cX4_seesFrom 92 = .ok (.imul, 1) := dk_104 (dk_at dksX4_seesFrom_4 0 rfl rfl)
theorem dX4_seesFrom_93 : decode cX4_seesFrom 93 = .ok (.iadd, 1) := dk_96 (dk_at dksX4_seesFrom_4 1 rfl rfl)
theorem dX4_seesFrom_94 : decode cX4_seesFrom 94 = .ok (.iload_n 2, 1) := dk_28 (dk_at dksX4_seesFrom_4 2 rfl rfl)
theorem dX4_seesFrom_95 : decode cX4_seesFrom 95 = .ok (.iload 7, 2) := dk_21 7 (dk_at dksX4_seesFrom_4 3 rfl rfl)
theorem dX4_seesFrom_97 : decode cX4_seesFrom 97 = .ok (.iload 5, 2) := dk_21 5 (dk_at dksX4_seesFrom_4 5 rfl rfl)
theorem dX4_seesFrom_99 : decode cX4_seesFrom 99 = .ok (.invokestatic 294, 3) := dk_184 1 38 (dk_at dksX4_seesFrom_4 7 rfl rfl)
theorem dX4_seesFrom_102 : decode cX4_seesFrom 102 = .ok (.imul, 1) := dk_104 (dk_at dksX4_seesFrom_4 10 rfl rfl)
theorem dX4_seesFrom_103 : decode cX4_seesFrom 103 = .ok (.iadd, 1) := dk_96 (dk_at dksX4_seesFrom_4 11 rfl rfl)
theorem dX4_seesFrom_104 : decode cX4_seesFrom 104 = .ok (.iload_n 3, 1) := dk_29 (dk_at dksX4_seesFrom_4 12 rfl rfl)
theorem dX4_seesFrom_105 : decode cX4_seesFrom 105 = .ok (.invokestatic 189, 3) := dk_184 0 189 (dk_at dksX4_seesFrom_4 13 rfl rfl)
theorem dX4_seesFrom_108 : decode cX4_seesFrom 108 = .ok (.ifCond .eq 5, 3) := dk_153 0 5 (dk_at dksX4_seesFrom_4 16 rfl rfl)
theorem dX4_seesFrom_111 : decode cX4_seesFrom 111 = .ok (.iconst 0, 1) := dk_3 (dk_at dksX4_seesFrom_4 19 rfl rfl)
theorem dX4_seesFrom_112 : decode cX4_seesFrom 112 = .ok (.ireturn, 1) := dk_172 (dk_at dksX4_seesFrom_4 20 rfl rfl)
theorem dX4_seesFrom_113 : decode cX4_seesFrom 113 = .ok (.iinc 7 1, 3) := dk_132 7 1 (dk_at dksX4_seesFrom_4 21 rfl rfl)
theorem dX4_seesFrom_116 : decode cX4_seesFrom 116 = .ok (.goto (-43), 3) := dk_167 255 213 (dk_at dksX4_seesFrom_5 0 rfl rfl)
theorem dX4_seesFrom_119 : decode cX4_seesFrom 119 = .ok (.iconst 1, 1) := dk_4 (dk_at dksX4_seesFrom_5 3 rfl rfl)
theorem dX4_seesFrom_120 : decode cX4_seesFrom 120 = .ok (.ireturn, 1) := dk_172 (dk_at dksX4_seesFrom_5 4 rfl rfl)
abbrev cX4_ofClock : ByteArray := prog_19_method_12_code
def yX4_ofClock : MethodName := ⟨RX4, "ofClock", "(II)I"⟩
def dkwX4_ofClock_0 : List UInt8 := [42, 180, 0, 9, 16, 32, 16, 6, 27, 104, 96, 28, 96, 46, 172]
abbrev dktX4_ofClock_0 : List UInt8 := dkwX4_ofClock_0 ++ []
theorem dksX4_ofClock_0 : cX4_ofClock.data.toList.drop 0 = dktX4_ofClock_0 := by decide +kernel
theorem dX4_ofClock_0 : decode cX4_ofClock 0 = .ok (.aload_n 0, 1) := dk_42 (dk_at dksX4_ofClock_0 0 rfl rfl)
theorem dX4_ofClock_1 : decode cX4_ofClock 1 = .ok (.getfield 9, 3) := dk_180 0 9 (dk_at dksX4_ofClock_0 1 rfl rfl)
theorem dX4_ofClock_4 : decode cX4_ofClock 4 = .ok (.bipush 32, 2) := dk_16 32 (dk_at dksX4_ofClock_0 4 rfl rfl)
theorem dX4_ofClock_6 : decode cX4_ofClock 6 = .ok (.bipush 6, 2) := dk_16 6 (dk_at dksX4_ofClock_0 6 rfl rfl)
theorem dX4_ofClock_8 : decode cX4_ofClock 8 = .ok (.iload_n 1, 1) := dk_27 (dk_at dksX4_ofClock_0 8 rfl rfl)
theorem dX4_ofClock_9 : decode cX4_ofClock 9 = .ok (.imul, 1) := dk_104 (dk_at dksX4_ofClock_0 9 rfl rfl)
theorem dX4_ofClock_10 : decode cX4_ofClock 10 = .ok (.iadd, 1) := dk_96 (dk_at dksX4_ofClock_0 10 rfl rfl)
theorem dX4_ofClock_11 : decode cX4_ofClock 11 = .ok (.iload_n 2, 1) := dk_28 (dk_at dksX4_ofClock_0 11 rfl rfl)
theorem dX4_ofClock_12 : decode cX4_ofClock 12 = .ok (.iadd, 1) := dk_96 (dk_at dksX4_ofClock_0 12 rfl rfl)
theorem dX4_ofClock_13 : decode cX4_ofClock 13 = .ok (.iaload, 1) := dk_46 (dk_at dksX4_ofClock_0 13 rfl rfl)
theorem dX4_ofClock_14 : decode cX4_ofClock 14 = .ok (.ireturn, 1) := dk_172 (dk_at dksX4_ofClock_0 14 rfl rfl)
abbrev cX4_sign : ByteArray := prog_19_method_41_code
def yX4_sign : MethodName := ⟨RX4, "sign", "(I)I"⟩
def dkwX4_sign_0 : List UInt8 := [26, 158, 0, 7, 4, 167, 0, 12, 26, 156, 0, 7, 2, 167, 0, 4, 3, 172]
abbrev dktX4_sign_0 : List UInt8 := dkwX4_sign_0 ++ []
theorem dksX4_sign_0 : cX4_sign.data.toList.drop 0 = dktX4_sign_0 := by decide +kernel
theorem dX4_sign_0 : decode cX4_sign 0 = .ok (.iload_n 0, 1) := dk_26 (dk_at dksX4_sign_0 0 rfl rfl)
theorem dX4_sign_1 : decode cX4_sign 1 = .ok (.ifCond .le 7, 3) := dk_158 0 7 (dk_at dksX4_sign_0 1 rfl rfl)
theorem dX4_sign_4 : decode cX4_sign 4 = .ok (.iconst 1, 1) := dk_4 (dk_at dksX4_sign_0 4 rfl rfl)
theorem dX4_sign_5 : decode cX4_sign 5 = .ok (.goto 12, 3) := dk_167 0 12 (dk_at dksX4_sign_0 5 rfl rfl)
theorem dX4_sign_8 : decode cX4_sign 8 = .ok (.iload_n 0, 1) := dk_26 (dk_at dksX4_sign_0 8 rfl rfl)
theorem dX4_sign_9 : decode cX4_sign 9 = .ok (.ifCond .ge 7, 3) := dk_156 0 7 (dk_at dksX4_sign_0 9 rfl rfl)
theorem dX4_sign_12 : decode cX4_sign 12 = .ok (.iconst (-1), 1) := dk_2 (dk_at dksX4_sign_0 12 rfl rfl)
theorem dX4_sign_13 : decode cX4_sign 13 = .ok (.goto 4, 3) := dk_167 0 4 (dk_at dksX4_sign_0 13 rfl rfl)
theorem dX4_sign_16 : decode cX4_sign 16 = .ok (.iconst 0, 1) := dk_3 (dk_at dksX4_sign_0 16 rfl rfl)
theorem dX4_sign_17 : decode cX4_sign 17 = .ok (.ireturn, 1) := dk_172 (dk_at dksX4_sign_0 17 rfl rfl)
abbrev cX4_looks : ByteArray := prog_19_method_61_code
def yX4_looks : MethodName := ⟨RX4, "looks", "(III)I"⟩
def dkwX4_looks_2 : List UInt8 := [160, 0, 7, 5, 167, 0, 18, 42, 180, 0, 46, 16, 8, 29, 104, 27, 96, 46, 28, 122, 4, 126, 172]
abbrev dktX4_looks_2 : List UInt8 := dkwX4_looks_2 ++ []
def dkwX4_looks_1 : List UInt8 := [16, 254, 172, 42, 182, 1, 131, 42, 180, 0, 49, 16, 8, 29, 104, 27, 96, 46, 28, 122, 4, 126, 4]
abbrev dktX4_looks_1 : List UInt8 := dkwX4_looks_1 ++ dktX4_looks_2
def dkwX4_looks_0 : List UInt8 := [42, 27, 182, 1, 51, 153, 0, 19, 42, 28, 182, 1, 58, 153, 0, 11, 42, 29, 182, 1, 55, 154, 0, 6]
abbrev dktX4_looks_0 : List UInt8 := dkwX4_looks_0 ++ dktX4_looks_1
theorem dksX4_looks_0 : cX4_looks.data.toList.drop 0 = dktX4_looks_0 := by decide +kernel
theorem dksX4_looks_1 : cX4_looks.data.toList.drop 24 = dktX4_looks_1 := dk_seg dksX4_looks_0 24 rfl rfl
theorem dksX4_looks_2 : cX4_looks.data.toList.drop 47 = dktX4_looks_2 := dk_seg dksX4_looks_1 23 rfl rfl
theorem dX4_looks_0 : decode cX4_looks 0 = .ok (.aload_n 0, 1) := dk_42 (dk_at dksX4_looks_0 0 rfl rfl)
theorem dX4_looks_1 : decode cX4_looks 1 = .ok (.iload_n 1, 1) := dk_27 (dk_at dksX4_looks_0 1 rfl rfl)
theorem dX4_looks_2 : decode cX4_looks 2 = .ok (.invokevirtual 307, 3) := dk_182 1 51 (dk_at dksX4_looks_0 2 rfl rfl)
theorem dX4_looks_5 : decode cX4_looks 5 = .ok (.ifCond .eq 19, 3) := dk_153 0 19 (dk_at dksX4_looks_0 5 rfl rfl)
theorem dX4_looks_8 : decode cX4_looks 8 = .ok (.aload_n 0, 1) := dk_42 (dk_at dksX4_looks_0 8 rfl rfl)
theorem dX4_looks_9 : decode cX4_looks 9 = .ok (.iload_n 2, 1) := dk_28 (dk_at dksX4_looks_0 9 rfl rfl)
theorem dX4_looks_10 : decode cX4_looks 10 = .ok (.invokevirtual 314, 3) := dk_182 1 58 (dk_at dksX4_looks_0 10 rfl rfl)
theorem dX4_looks_13 : decode cX4_looks 13 = .ok (.ifCond .eq 11, 3) := dk_153 0 11 (dk_at dksX4_looks_0 13 rfl rfl)
theorem dX4_looks_16 : decode cX4_looks 16 = .ok (.aload_n 0, 1) := dk_42 (dk_at dksX4_looks_0 16 rfl rfl)
theorem dX4_looks_17 : decode cX4_looks 17 = .ok (.iload_n 3, 1) := dk_29 (dk_at dksX4_looks_0 17 rfl rfl)
theorem dX4_looks_18 : decode cX4_looks 18 = .ok (.invokevirtual 311, 3) := dk_182 1 55 (dk_at dksX4_looks_0 18 rfl rfl)
theorem dX4_looks_21 : decode cX4_looks 21 = .ok (.ifCond .ne 6, 3) := dk_154 0 6 (dk_at dksX4_looks_0 21 rfl rfl)
theorem dX4_looks_24 : decode cX4_looks 24 = .ok (.bipush (-2), 2) := dk_16 254 (dk_at dksX4_looks_1 0 rfl rfl)
theorem dX4_looks_26 : decode cX4_looks 26 = .ok (.ireturn, 1) := dk_172 (dk_at dksX4_looks_1 2 rfl rfl)
theorem dX4_looks_27 : decode cX4_looks 27 = .ok (.aload_n 0, 1) := dk_42 (dk_at dksX4_looks_1 3 rfl rfl)
theorem dX4_looks_28 : decode cX4_looks 28 = .ok (.invokevirtual 387, 3) := dk_182 1 131 (dk_at dksX4_looks_1 4 rfl rfl)
theorem dX4_looks_31 : decode cX4_looks 31 = .ok (.aload_n 0, 1) := dk_42 (dk_at dksX4_looks_1 7 rfl rfl)
theorem dX4_looks_32 : decode cX4_looks 32 = .ok (.getfield 49, 3) := dk_180 0 49 (dk_at dksX4_looks_1 8 rfl rfl)
theorem dX4_looks_35 : decode cX4_looks 35 = .ok (.bipush 8, 2) := dk_16 8 (dk_at dksX4_looks_1 11 rfl rfl)
theorem dX4_looks_37 : decode cX4_looks 37 = .ok (.iload_n 3, 1) := dk_29 (dk_at dksX4_looks_1 13 rfl rfl)
theorem dX4_looks_38 : decode cX4_looks 38 = .ok (.imul, 1) := dk_104 (dk_at dksX4_looks_1 14 rfl rfl)
theorem dX4_looks_39 : decode cX4_looks 39 = .ok (.iload_n 1, 1) := dk_27 (dk_at dksX4_looks_1 15 rfl rfl)
theorem dX4_looks_40 : decode cX4_looks 40 = .ok (.iadd, 1) := dk_96 (dk_at dksX4_looks_1 16 rfl rfl)
theorem dX4_looks_41 : decode cX4_looks 41 = .ok (.iaload, 1) := dk_46 (dk_at dksX4_looks_1 17 rfl rfl)
theorem dX4_looks_42 : decode cX4_looks 42 = .ok (.iload_n 2, 1) := dk_28 (dk_at dksX4_looks_1 18 rfl rfl)
theorem dX4_looks_43 : decode cX4_looks 43 = .ok (.ishr, 1) := dk_122 (dk_at dksX4_looks_1 19 rfl rfl)
theorem dX4_looks_44 : decode cX4_looks 44 = .ok (.iconst 1, 1) := dk_4 (dk_at dksX4_looks_1 20 rfl rfl)
theorem dX4_looks_45 : decode cX4_looks 45 = .ok (.iand, 1) := dk_126 (dk_at dksX4_looks_1 21 rfl rfl)
theorem dX4_looks_46 : decode cX4_looks 46 = .ok (.iconst 1, 1) := dk_4 (dk_at dksX4_looks_1 22 rfl rfl)
theorem dX4_looks_47 : decode cX4_looks 47 = .ok (.if_icmp .ne 7, 3) := dk_160 0 7 (dk_at dksX4_looks_2 0 rfl rfl)
theorem dX4_looks_50 : decode cX4_looks 50 = .ok (.iconst 2, 1) := dk_5 (dk_at dksX4_looks_2 3 rfl rfl)
theorem dX4_looks_51 : decode cX4_looks 51 = .ok (.goto 18, 3) := dk_167 0 18 (dk_at dksX4_looks_2 4 rfl rfl)
theorem dX4_looks_54 : decode cX4_looks 54 = .ok (.aload_n 0, 1) := dk_42 (dk_at dksX4_looks_2 7 rfl rfl)
theorem dX4_looks_55 : decode cX4_looks 55 = .ok (.getfield 46, 3) := dk_180 0 46 (dk_at dksX4_looks_2 8 rfl rfl)
theorem dX4_looks_58 : decode cX4_looks 58 = .ok (.bipush 8, 2) := dk_16 8 (dk_at dksX4_looks_2 11 rfl rfl)
theorem dX4_looks_60 : decode cX4_looks 60 = .ok (.iload_n 3, 1) := dk_29 (dk_at dksX4_looks_2 13 rfl rfl)
theorem dX4_looks_61 : decode cX4_looks 61 = .ok (.imul, 1) := dk_104 (dk_at dksX4_looks_2 14 rfl rfl)
theorem dX4_looks_62 : decode cX4_looks 62 = .ok (.iload_n 1, 1) := dk_27 (dk_at dksX4_looks_2 15 rfl rfl)
theorem dX4_looks_63 : decode cX4_looks 63 = .ok (.iadd, 1) := dk_96 (dk_at dksX4_looks_2 16 rfl rfl)
theorem dX4_looks_64 : decode cX4_looks 64 = .ok (.iaload, 1) := dk_46 (dk_at dksX4_looks_2 17 rfl rfl)
theorem dX4_looks_65 : decode cX4_looks 65 = .ok (.iload_n 2, 1) := dk_28 (dk_at dksX4_looks_2 18 rfl rfl)
theorem dX4_looks_66 : decode cX4_looks 66 = .ok (.ishr, 1) := dk_122 (dk_at dksX4_looks_2 19 rfl rfl)
theorem dX4_looks_67 : decode cX4_looks 67 = .ok (.iconst 1, 1) := dk_4 (dk_at dksX4_looks_2 20 rfl rfl)
theorem dX4_looks_68 : decode cX4_looks 68 = .ok (.iand, 1) := dk_126 (dk_at dksX4_looks_2 21 rfl rfl)
theorem dX4_looks_69 : decode cX4_looks 69 = .ok (.ireturn, 1) := dk_172 (dk_at dksX4_looks_2 22 rfl rfl)
abbrev cX4_plain : ByteArray := prog_19_method_60_code
def yX4_plain : MethodName := ⟨RX4, "plain", "()V"⟩
def dkwX4_plain_0 : List UInt8 := [42, 182, 1, 125, 42, 3, 181, 1, 110, 42, 3, 181, 1, 75, 42, 182, 1, 128, 177]
abbrev dktX4_plain_0 : List UInt8 := dkwX4_plain_0 ++ []
theorem dksX4_plain_0 : cX4_plain.data.toList.drop 0 = dktX4_plain_0 := by decide +kernel
theorem dX4_plain_0 : decode cX4_plain 0 = .ok (.aload_n 0, 1) := dk_42 (dk_at dksX4_plain_0 0 rfl rfl)
theorem dX4_plain_1 : decode cX4_plain 1 = .ok (.invokevirtual 381, 3) := dk_182 1 125 (dk_at dksX4_plain_0 1 rfl rfl)
theorem dX4_plain_4 : decode cX4_plain 4 = .ok (.aload_n 0, 1) := dk_42 (dk_at dksX4_plain_0 4 rfl rfl)
theorem dX4_plain_5 : decode cX4_plain 5 = .ok (.iconst 0, 1) := dk_3 (dk_at dksX4_plain_0 5 rfl rfl)
theorem dX4_plain_6 : decode cX4_plain 6 = .ok (.putfield 366, 3) := dk_181 1 110 (dk_at dksX4_plain_0 6 rfl rfl)
theorem dX4_plain_9 : decode cX4_plain 9 = .ok (.aload_n 0, 1) := dk_42 (dk_at dksX4_plain_0 9 rfl rfl)
theorem dX4_plain_10 : decode cX4_plain 10 = .ok (.iconst 0, 1) := dk_3 (dk_at dksX4_plain_0 10 rfl rfl)
theorem dX4_plain_11 : decode cX4_plain 11 = .ok (.putfield 331, 3) := dk_181 1 75 (dk_at dksX4_plain_0 11 rfl rfl)
theorem dX4_plain_14 : decode cX4_plain 14 = .ok (.aload_n 0, 1) := dk_42 (dk_at dksX4_plain_0 14 rfl rfl)
theorem dX4_plain_15 : decode cX4_plain 15 = .ok (.invokevirtual 384, 3) := dk_182 1 128 (dk_at dksX4_plain_0 15 rfl rfl)
theorem dX4_plain_18 : decode cX4_plain 18 = .ok (.return_, 1) := dk_177 (dk_at dksX4_plain_0 18 rfl rfl)
abbrev cX4_keepsNone : ByteArray := prog_19_method_59_code
def yX4_keepsNone : MethodName := ⟨RX4, "keepsNone", "()V"⟩
def dkwX4_keepsNone_0 : List UInt8 := [3, 60, 27, 7, 162, 0, 16, 42, 180, 0, 58, 27, 3, 79, 132, 1, 1, 167, 255, 241, 177]
abbrev dktX4_keepsNone_0 : List UInt8 := dkwX4_keepsNone_0 ++ []
theorem dksX4_keepsNone_0 : cX4_keepsNone.data.toList.drop 0 = dktX4_keepsNone_0 := by decide +kernel
theorem dX4_keepsNone_0 : decode cX4_keepsNone 0 = .ok (.iconst 0, 1) := dk_3 (dk_at dksX4_keepsNone_0 0 rfl rfl)
theorem dX4_keepsNone_1 : decode cX4_keepsNone 1 = .ok (.istore_n 1, 1) := dk_60 (dk_at dksX4_keepsNone_0 1 rfl rfl)
theorem dX4_keepsNone_2 : decode cX4_keepsNone 2 = .ok (.iload_n 1, 1) := dk_27 (dk_at dksX4_keepsNone_0 2 rfl rfl)
theorem dX4_keepsNone_3 : decode cX4_keepsNone 3 = .ok (.iconst 4, 1) := dk_7 (dk_at dksX4_keepsNone_0 3 rfl rfl)
theorem dX4_keepsNone_4 : decode cX4_keepsNone 4 = .ok (.if_icmp .ge 16, 3) := dk_162 0 16 (dk_at dksX4_keepsNone_0 4 rfl rfl)
theorem dX4_keepsNone_7 : decode cX4_keepsNone 7 = .ok (.aload_n 0, 1) := dk_42 (dk_at dksX4_keepsNone_0 7 rfl rfl)
theorem dX4_keepsNone_8 : decode cX4_keepsNone 8 = .ok (.getfield 58, 3) := dk_180 0 58 (dk_at dksX4_keepsNone_0 8 rfl rfl)
theorem dX4_keepsNone_11 : decode cX4_keepsNone 11 = .ok (.iload_n 1, 1) := dk_27 (dk_at dksX4_keepsNone_0 11 rfl rfl)
theorem dX4_keepsNone_12 : decode cX4_keepsNone 12 = .ok (.iconst 0, 1) := dk_3 (dk_at dksX4_keepsNone_0 12 rfl rfl)
theorem dX4_keepsNone_13 : decode cX4_keepsNone 13 = .ok (.iastore, 1) := dk_79 (dk_at dksX4_keepsNone_0 13 rfl rfl)
theorem dX4_keepsNone_14 : decode cX4_keepsNone 14 = .ok (.iinc 1 1, 3) := dk_132 1 1 (dk_at dksX4_keepsNone_0 14 rfl rfl)
theorem dX4_keepsNone_17 : decode cX4_keepsNone 17 = .ok (.goto (-15), 3) := dk_167 255 241 (dk_at dksX4_keepsNone_0 17 rfl rfl)
theorem dX4_keepsNone_20 : decode cX4_keepsNone 20 = .ok (.return_, 1) := dk_177 (dk_at dksX4_keepsNone_0 20 rfl rfl)
abbrev cX4_runs : ByteArray := prog_19_method_58_code
def yX4_runs : MethodName := ⟨RX4, "runs", "()V"⟩
def dkwX4_runs_3 : List UInt8 := [162, 0, 14, 42, 27, 182, 1, 122, 132, 1, 1, 167, 255, 237, 177]
abbrev dktX4_runs_3 : List UInt8 := dkwX4_runs_3 ++ []
def dkwX4_runs_2 : List UInt8 := [79, 42, 180, 0, 61, 27, 2, 79, 132, 1, 1, 167, 255, 210, 3, 60, 27, 42, 180, 0, 9, 16, 6, 46]
abbrev dktX4_runs_2 : List UInt8 := dkwX4_runs_2 ++ dktX4_runs_3
def dkwX4_runs_1 : List UInt8 := [180, 0, 43, 27, 42, 27, 8, 182, 1, 29, 42, 27, 6, 182, 1, 29, 104, 79, 42, 180, 0, 64, 27, 3]
abbrev dktX4_runs_1 : List UInt8 := dkwX4_runs_1 ++ dktX4_runs_2
def dkwX4_runs_0 : List UInt8 := [42, 182, 1, 119, 42, 3, 181, 1, 107, 3, 60, 27, 42, 180, 0, 9, 4, 46, 162, 0, 42, 42]
abbrev dktX4_runs_0 : List UInt8 := dkwX4_runs_0 ++ dktX4_runs_1
theorem dksX4_runs_0 : cX4_runs.data.toList.drop 0 = dktX4_runs_0 := by decide +kernel
theorem dksX4_runs_1 : cX4_runs.data.toList.drop 22 = dktX4_runs_1 := dk_seg dksX4_runs_0 22 rfl rfl
theorem dksX4_runs_2 : cX4_runs.data.toList.drop 46 = dktX4_runs_2 := dk_seg dksX4_runs_1 24 rfl rfl
theorem dksX4_runs_3 : cX4_runs.data.toList.drop 70 = dktX4_runs_3 := dk_seg dksX4_runs_2 24 rfl rfl
theorem dX4_runs_0 : decode cX4_runs 0 = .ok (.aload_n 0, 1) := dk_42 (dk_at dksX4_runs_0 0 rfl rfl)
theorem dX4_runs_1 : decode cX4_runs 1 = .ok (.invokevirtual 375, 3) := dk_182 1 119 (dk_at dksX4_runs_0 1 rfl rfl)
theorem dX4_runs_4 : decode cX4_runs 4 = .ok (.aload_n 0, 1) := dk_42 (dk_at dksX4_runs_0 4 rfl rfl)
theorem dX4_runs_5 : decode cX4_runs 5 = .ok (.iconst 0, 1) := dk_3 (dk_at dksX4_runs_0 5 rfl rfl)
theorem dX4_runs_6 : decode cX4_runs 6 = .ok (.putfield 363, 3) := dk_181 1 107 (dk_at dksX4_runs_0 6 rfl rfl)
theorem dX4_runs_9 : decode cX4_runs 9 = .ok (.iconst 0, 1) := dk_3 (dk_at dksX4_runs_0 9 rfl rfl)
theorem dX4_runs_10 : decode cX4_runs 10 = .ok (.istore_n 1, 1) := dk_60 (dk_at dksX4_runs_0 10 rfl rfl)
theorem dX4_runs_11 : decode cX4_runs 11 = .ok (.iload_n 1, 1) := dk_27 (dk_at dksX4_runs_0 11 rfl rfl)
theorem dX4_runs_12 : decode cX4_runs 12 = .ok (.aload_n 0, 1) := dk_42 (dk_at dksX4_runs_0 12 rfl rfl)
theorem dX4_runs_13 : decode cX4_runs 13 = .ok (.getfield 9, 3) := dk_180 0 9 (dk_at dksX4_runs_0 13 rfl rfl)
theorem dX4_runs_16 : decode cX4_runs 16 = .ok (.iconst 1, 1) := dk_4 (dk_at dksX4_runs_0 16 rfl rfl)
theorem dX4_runs_17 : decode cX4_runs 17 = .ok (.iaload, 1) := dk_46 (dk_at dksX4_runs_0 17 rfl rfl)
theorem dX4_runs_18 : decode cX4_runs 18 = .ok (.if_icmp .ge 42, 3) := dk_162 0 42 (dk_at dksX4_runs_0 18 rfl rfl)
theorem dX4_runs_21 : decode cX4_runs 21 = .ok (.aload_n 0, 1) := dk_42 (dk_at dksX4_runs_0 21 rfl rfl)
theorem dX4_runs_22 : decode cX4_runs 22 = .ok (.getfield 43, 3) := dk_180 0 43 (dk_at dksX4_runs_1 0 rfl rfl)
theorem dX4_runs_25 : decode cX4_runs 25 = .ok (.iload_n 1, 1) := dk_27 (dk_at dksX4_runs_1 3 rfl rfl)
theorem dX4_runs_26 : decode cX4_runs 26 = .ok (.aload_n 0, 1) := dk_42 (dk_at dksX4_runs_1 4 rfl rfl)
theorem dX4_runs_27 : decode cX4_runs 27 = .ok (.iload_n 1, 1) := dk_27 (dk_at dksX4_runs_1 5 rfl rfl)
theorem dX4_runs_28 : decode cX4_runs 28 = .ok (.iconst 5, 1) := dk_8 (dk_at dksX4_runs_1 6 rfl rfl)
theorem dX4_runs_29 : decode cX4_runs 29 = .ok (.invokevirtual 285, 3) := dk_182 1 29 (dk_at dksX4_runs_1 7 rfl rfl)
theorem dX4_runs_32 : decode cX4_runs 32 = .ok (.aload_n 0, 1) := dk_42 (dk_at dksX4_runs_1 10 rfl rfl)
theorem dX4_runs_33 : decode cX4_runs 33 = .ok (.iload_n 1, 1) := dk_27 (dk_at dksX4_runs_1 11 rfl rfl)
theorem dX4_runs_34 : decode cX4_runs 34 = .ok (.iconst 3, 1) := dk_6 (dk_at dksX4_runs_1 12 rfl rfl)
theorem dX4_runs_35 : decode cX4_runs 35 = .ok (.invokevirtual 285, 3) := dk_182 1 29 (dk_at dksX4_runs_1 13 rfl rfl)
theorem dX4_runs_38 : decode cX4_runs 38 = .ok (.imul, 1) := dk_104 (dk_at dksX4_runs_1 16 rfl rfl)
theorem dX4_runs_39 : decode cX4_runs 39 = .ok (.iastore, 1) := dk_79 (dk_at dksX4_runs_1 17 rfl rfl)
theorem dX4_runs_40 : decode cX4_runs 40 = .ok (.aload_n 0, 1) := dk_42 (dk_at dksX4_runs_1 18 rfl rfl)
theorem dX4_runs_41 : decode cX4_runs 41 = .ok (.getfield 64, 3) := dk_180 0 64 (dk_at dksX4_runs_1 19 rfl rfl)
theorem dX4_runs_44 : decode cX4_runs 44 = .ok (.iload_n 1, 1) := dk_27 (dk_at dksX4_runs_1 22 rfl rfl)
theorem dX4_runs_45 : decode cX4_runs 45 = .ok (.iconst 0, 1) := dk_3 (dk_at dksX4_runs_1 23 rfl rfl)
theorem dX4_runs_46 : decode cX4_runs 46 = .ok (.iastore, 1) := dk_79 (dk_at dksX4_runs_2 0 rfl rfl)
theorem dX4_runs_47 : decode cX4_runs 47 = .ok (.aload_n 0, 1) := dk_42 (dk_at dksX4_runs_2 1 rfl rfl)
theorem dX4_runs_48 : decode cX4_runs 48 = .ok (.getfield 61, 3) := dk_180 0 61 (dk_at dksX4_runs_2 2 rfl rfl)
theorem dX4_runs_51 : decode cX4_runs 51 = .ok (.iload_n 1, 1) := dk_27 (dk_at dksX4_runs_2 5 rfl rfl)
theorem dX4_runs_52 : decode cX4_runs 52 = .ok (.iconst (-1), 1) := dk_2 (dk_at dksX4_runs_2 6 rfl rfl)
theorem dX4_runs_53 : decode cX4_runs 53 = .ok (.iastore, 1) := dk_79 (dk_at dksX4_runs_2 7 rfl rfl)
theorem dX4_runs_54 : decode cX4_runs 54 = .ok (.iinc 1 1, 3) := dk_132 1 1 (dk_at dksX4_runs_2 8 rfl rfl)
theorem dX4_runs_57 : decode cX4_runs 57 = .ok (.goto (-46), 3) := dk_167 255 210 (dk_at dksX4_runs_2 11 rfl rfl)
theorem dX4_runs_60 : decode cX4_runs 60 = .ok (.iconst 0, 1) := dk_3 (dk_at dksX4_runs_2 14 rfl rfl)
theorem dX4_runs_61 : decode cX4_runs 61 = .ok (.istore_n 1, 1) := dk_60 (dk_at dksX4_runs_2 15 rfl rfl)
theorem dX4_runs_62 : decode cX4_runs 62 = .ok (.iload_n 1, 1) := dk_27 (dk_at dksX4_runs_2 16 rfl rfl)
theorem dX4_runs_63 : decode cX4_runs 63 = .ok (.aload_n 0, 1) := dk_42 (dk_at dksX4_runs_2 17 rfl rfl)
theorem dX4_runs_64 : decode cX4_runs 64 = .ok (.getfield 9, 3) := dk_180 0 9 (dk_at dksX4_runs_2 18 rfl rfl)
theorem dX4_runs_67 : decode cX4_runs 67 = .ok (.bipush 6, 2) := dk_16 6 (dk_at dksX4_runs_2 21 rfl rfl)
theorem dX4_runs_69 : decode cX4_runs 69 = .ok (.iaload, 1) := dk_46 (dk_at dksX4_runs_2 23 rfl rfl)
theorem dX4_runs_70 : decode cX4_runs 70 = .ok (.if_icmp .ge 14, 3) := dk_162 0 14 (dk_at dksX4_runs_3 0 rfl rfl)
theorem dX4_runs_73 : decode cX4_runs 73 = .ok (.aload_n 0, 1) := dk_42 (dk_at dksX4_runs_3 3 rfl rfl)
theorem dX4_runs_74 : decode cX4_runs 74 = .ok (.iload_n 1, 1) := dk_27 (dk_at dksX4_runs_3 4 rfl rfl)
theorem dX4_runs_75 : decode cX4_runs 75 = .ok (.invokevirtual 378, 3) := dk_182 1 122 (dk_at dksX4_runs_3 5 rfl rfl)
theorem dX4_runs_78 : decode cX4_runs 78 = .ok (.iinc 1 1, 3) := dk_132 1 1 (dk_at dksX4_runs_3 8 rfl rfl)
theorem dX4_runs_81 : decode cX4_runs 81 = .ok (.goto (-19), 3) := dk_167 255 237 (dk_at dksX4_runs_3 11 rfl rfl)
theorem dX4_runs_84 : decode cX4_runs 84 = .ok (.return_, 1) := dk_177 (dk_at dksX4_runs_3 14 rfl rfl)
abbrev cX4_fillAllSpots : ByteArray := prog_19_method_44_code
def yX4_fillAllSpots : MethodName := ⟨RX4, "fillAllSpots", "()V"⟩
def dkwX4_fillAllSpots_0 : List UInt8 := [3, 60, 27, 42, 180, 0, 9, 5, 46, 162, 0, 14, 42, 27, 182, 1, 48, 132, 1, 1, 167, 255, 238, 177]
abbrev dktX4_fillAllSpots_0 : List UInt8 := dkwX4_fillAllSpots_0 ++ []
theorem dksX4_fillAllSpots_0 : cX4_fillAllSpots.data.toList.drop 0 = dktX4_fillAllSpots_0 := by decide +kernel
theorem dX4_fillAllSpots_0 : decode cX4_fillAllSpots 0 = .ok (.iconst 0, 1) := dk_3 (dk_at dksX4_fillAllSpots_0 0 rfl rfl)
theorem dX4_fillAllSpots_1 : decode cX4_fillAllSpots 1 = .ok (.istore_n 1, 1) := dk_60 (dk_at dksX4_fillAllSpots_0 1 rfl rfl)
theorem dX4_fillAllSpots_2 : decode cX4_fillAllSpots 2 = .ok (.iload_n 1, 1) := dk_27 (dk_at dksX4_fillAllSpots_0 2 rfl rfl)
theorem dX4_fillAllSpots_3 : decode cX4_fillAllSpots 3 = .ok (.aload_n 0, 1) := dk_42 (dk_at dksX4_fillAllSpots_0 3 rfl rfl)
theorem dX4_fillAllSpots_4 : decode cX4_fillAllSpots 4 = .ok (.getfield 9, 3) := dk_180 0 9 (dk_at dksX4_fillAllSpots_0 4 rfl rfl)
theorem dX4_fillAllSpots_7 : decode cX4_fillAllSpots 7 = .ok (.iconst 2, 1) := dk_5 (dk_at dksX4_fillAllSpots_0 7 rfl rfl)
theorem dX4_fillAllSpots_8 : decode cX4_fillAllSpots 8 = .ok (.iaload, 1) := dk_46 (dk_at dksX4_fillAllSpots_0 8 rfl rfl)
theorem dX4_fillAllSpots_9 : decode cX4_fillAllSpots 9 = .ok (.if_icmp .ge 14, 3) := dk_162 0 14 (dk_at dksX4_fillAllSpots_0 9 rfl rfl)
theorem dX4_fillAllSpots_12 : decode cX4_fillAllSpots 12 = .ok (.aload_n 0, 1) := dk_42 (dk_at dksX4_fillAllSpots_0 12 rfl rfl)
theorem dX4_fillAllSpots_13 : decode cX4_fillAllSpots 13 = .ok (.iload_n 1, 1) := dk_27 (dk_at dksX4_fillAllSpots_0 13 rfl rfl)
theorem dX4_fillAllSpots_14 : decode cX4_fillAllSpots 14 = .ok (.invokevirtual 304, 3) := dk_182 1 48 (dk_at dksX4_fillAllSpots_0 14 rfl rfl)
theorem dX4_fillAllSpots_17 : decode cX4_fillAllSpots 17 = .ok (.iinc 1 1, 3) := dk_132 1 1 (dk_at dksX4_fillAllSpots_0 17 rfl rfl)
theorem dX4_fillAllSpots_20 : decode cX4_fillAllSpots 20 = .ok (.goto (-18), 3) := dk_167 255 238 (dk_at dksX4_fillAllSpots_0 20 rfl rfl)
theorem dX4_fillAllSpots_23 : decode cX4_fillAllSpots 23 = .ok (.return_, 1) := dk_177 (dk_at dksX4_fillAllSpots_0 23 rfl rfl)
abbrev cX4_goes : ByteArray := prog_19_method_57_code
def yX4_goes : MethodName := ⟨RX4, "goes", "(I)V"⟩
def dkwX4_goes_4 : List UInt8 := [182, 1, 29, 96, 79, 132, 2, 1, 167, 255, 161, 177]
abbrev dktX4_goes_4 : List UInt8 := dkwX4_goes_4 ++ []
def dkwX4_goes_3 : List UInt8 := [96, 42, 180, 0, 43, 7, 27, 104, 28, 96, 46, 29, 153, 0, 7, 3, 167, 0, 9, 42, 28, 5]
abbrev dktX4_goes_3 : List UInt8 := dkwX4_goes_3 ++ dktX4_goes_4
def dkwX4_goes_2 : List UInt8 := [92, 46, 4, 96, 79, 42, 180, 0, 61, 28, 27, 79, 4, 62, 42, 180, 0, 43, 7, 27, 4, 96, 104, 28]
abbrev dktX4_goes_2 : List UInt8 := dkwX4_goes_2 ++ dktX4_goes_3
def dkwX4_goes_1 : List UInt8 := [29, 154, 0, 37, 42, 180, 0, 64, 28, 46, 42, 180, 0, 58, 28, 46, 162, 0, 22, 42, 180, 0, 64, 28]
abbrev dktX4_goes_1 : List UInt8 := dkwX4_goes_1 ++ dktX4_goes_2
def dkwX4_goes_0 : List UInt8 := [42, 27, 182, 1, 113, 3, 61, 28, 42, 180, 0, 9, 4, 46, 162, 0, 91, 42, 28, 27, 182, 1, 116, 62]
abbrev dktX4_goes_0 : List UInt8 := dkwX4_goes_0 ++ dktX4_goes_1
theorem dksX4_goes_0 : cX4_goes.data.toList.drop 0 = dktX4_goes_0 := by decide +kernel
theorem dksX4_goes_1 : cX4_goes.data.toList.drop 24 = dktX4_goes_1 := dk_seg dksX4_goes_0 24 rfl rfl
theorem dksX4_goes_2 : cX4_goes.data.toList.drop 48 = dktX4_goes_2 := dk_seg dksX4_goes_1 24 rfl rfl
theorem dksX4_goes_3 : cX4_goes.data.toList.drop 72 = dktX4_goes_3 := dk_seg dksX4_goes_2 24 rfl rfl
theorem dksX4_goes_4 : cX4_goes.data.toList.drop 94 = dktX4_goes_4 := dk_seg dksX4_goes_3 22 rfl rfl
theorem dX4_goes_0 : decode cX4_goes 0 = .ok (.aload_n 0, 1) := dk_42 (dk_at dksX4_goes_0 0 rfl rfl)
theorem dX4_goes_1 : decode cX4_goes 1 = .ok (.iload_n 1, 1) := dk_27 (dk_at dksX4_goes_0 1 rfl rfl)
theorem dX4_goes_2 : decode cX4_goes 2 = .ok (.invokevirtual 369, 3) := dk_182 1 113 (dk_at dksX4_goes_0 2 rfl rfl)
theorem dX4_goes_5 : decode cX4_goes 5 = .ok (.iconst 0, 1) := dk_3 (dk_at dksX4_goes_0 5 rfl rfl)
theorem dX4_goes_6 : decode cX4_goes 6 = .ok (.istore_n 2, 1) := dk_61 (dk_at dksX4_goes_0 6 rfl rfl)
theorem dX4_goes_7 : decode cX4_goes 7 = .ok (.iload_n 2, 1) := dk_28 (dk_at dksX4_goes_0 7 rfl rfl)
theorem dX4_goes_8 : decode cX4_goes 8 = .ok (.aload_n 0, 1) := dk_42 (dk_at dksX4_goes_0 8 rfl rfl)
theorem dX4_goes_9 : decode cX4_goes 9 = .ok (.getfield 9, 3) := dk_180 0 9 (dk_at dksX4_goes_0 9 rfl rfl)
theorem dX4_goes_12 : decode cX4_goes 12 = .ok (.iconst 1, 1) := dk_4 (dk_at dksX4_goes_0 12 rfl rfl)
theorem dX4_goes_13 : decode cX4_goes 13 = .ok (.iaload, 1) := dk_46 (dk_at dksX4_goes_0 13 rfl rfl)
theorem dX4_goes_14 : decode cX4_goes 14 = .ok (.if_icmp .ge 91, 3) := dk_162 0 91 (dk_at dksX4_goes_0 14 rfl rfl)
theorem dX4_goes_17 : decode cX4_goes 17 = .ok (.aload_n 0, 1) := dk_42 (dk_at dksX4_goes_0 17 rfl rfl)
theorem dX4_goes_18 : decode cX4_goes 18 = .ok (.iload_n 2, 1) := dk_28 (dk_at dksX4_goes_0 18 rfl rfl)
theorem dX4_goes_19 : decode cX4_goes 19 = .ok (.iload_n 1, 1) := dk_27 (dk_at dksX4_goes_0 19 rfl rfl)
theorem dX4_goes_20 : decode cX4_goes 20 = .ok (.invokevirtual 372, 3) := dk_182 1 116 (dk_at dksX4_goes_0 20 rfl rfl)
theorem dX4_goes_23 : decode cX4_goes 23 = .ok (.istore_n 3, 1) := dk_62 (dk_at dksX4_goes_0 23 rfl rfl)
theorem dX4_goes_24 : decode cX4_goes 24 = .ok (.iload_n 3, 1) := dk_29 (dk_at dksX4_goes_1 0 rfl rfl)
theorem dX4_goes_25 : decode cX4_goes 25 = .ok (.ifCond .ne 37, 3) := dk_154 0 37 (dk_at dksX4_goes_1 1 rfl rfl)
theorem dX4_goes_28 : decode cX4_goes 28 = .ok (.aload_n 0, 1) := dk_42 (dk_at dksX4_goes_1 4 rfl rfl)
theorem dX4_goes_29 : decode cX4_goes 29 = .ok (.getfield 64, 3) := dk_180 0 64 (dk_at dksX4_goes_1 5 rfl rfl)
theorem dX4_goes_32 : decode cX4_goes 32 = .ok (.iload_n 2, 1) := dk_28 (dk_at dksX4_goes_1 8 rfl rfl)
theorem dX4_goes_33 : decode cX4_goes 33 = .ok (.iaload, 1) := dk_46 (dk_at dksX4_goes_1 9 rfl rfl)
theorem dX4_goes_34 : decode cX4_goes 34 = .ok (.aload_n 0, 1) := dk_42 (dk_at dksX4_goes_1 10 rfl rfl)
theorem dX4_goes_35 : decode cX4_goes 35 = .ok (.getfield 58, 3) := dk_180 0 58 (dk_at dksX4_goes_1 11 rfl rfl)
theorem dX4_goes_38 : decode cX4_goes 38 = .ok (.iload_n 2, 1) := dk_28 (dk_at dksX4_goes_1 14 rfl rfl)
theorem dX4_goes_39 : decode cX4_goes 39 = .ok (.iaload, 1) := dk_46 (dk_at dksX4_goes_1 15 rfl rfl)
theorem dX4_goes_40 : decode cX4_goes 40 = .ok (.if_icmp .ge 22, 3) := dk_162 0 22 (dk_at dksX4_goes_1 16 rfl rfl)
theorem dX4_goes_43 : decode cX4_goes 43 = .ok (.aload_n 0, 1) := dk_42 (dk_at dksX4_goes_1 19 rfl rfl)
theorem dX4_goes_44 : decode cX4_goes 44 = .ok (.getfield 64, 3) := dk_180 0 64 (dk_at dksX4_goes_1 20 rfl rfl)
theorem dX4_goes_47 : decode cX4_goes 47 = .ok (.iload_n 2, 1) := dk_28 (dk_at dksX4_goes_1 23 rfl rfl)
theorem dX4_goes_48 : decode cX4_goes 48 = .ok (.dup2, 1) := dk_92 (dk_at dksX4_goes_2 0 rfl rfl)
theorem dX4_goes_49 : decode cX4_goes 49 = .ok (.iaload, 1) := dk_46 (dk_at dksX4_goes_2 1 rfl rfl)
theorem dX4_goes_50 : decode cX4_goes 50 = .ok (.iconst 1, 1) := dk_4 (dk_at dksX4_goes_2 2 rfl rfl)
theorem dX4_goes_51 : decode cX4_goes 51 = .ok (.iadd, 1) := dk_96 (dk_at dksX4_goes_2 3 rfl rfl)
theorem dX4_goes_52 : decode cX4_goes 52 = .ok (.iastore, 1) := dk_79 (dk_at dksX4_goes_2 4 rfl rfl)
theorem dX4_goes_53 : decode cX4_goes 53 = .ok (.aload_n 0, 1) := dk_42 (dk_at dksX4_goes_2 5 rfl rfl)
theorem dX4_goes_54 : decode cX4_goes 54 = .ok (.getfield 61, 3) := dk_180 0 61 (dk_at dksX4_goes_2 6 rfl rfl)
theorem dX4_goes_57 : decode cX4_goes 57 = .ok (.iload_n 2, 1) := dk_28 (dk_at dksX4_goes_2 9 rfl rfl)
theorem dX4_goes_58 : decode cX4_goes 58 = .ok (.iload_n 1, 1) := dk_27 (dk_at dksX4_goes_2 10 rfl rfl)
theorem dX4_goes_59 : decode cX4_goes 59 = .ok (.iastore, 1) := dk_79 (dk_at dksX4_goes_2 11 rfl rfl)
theorem dX4_goes_60 : decode cX4_goes 60 = .ok (.iconst 1, 1) := dk_4 (dk_at dksX4_goes_2 12 rfl rfl)
theorem dX4_goes_61 : decode cX4_goes 61 = .ok (.istore_n 3, 1) := dk_62 (dk_at dksX4_goes_2 13 rfl rfl)
theorem dX4_goes_62 : decode cX4_goes 62 = .ok (.aload_n 0, 1) := dk_42 (dk_at dksX4_goes_2 14 rfl rfl)
theorem dX4_goes_63 : decode cX4_goes 63 = .ok (.getfield 43, 3) := dk_180 0 43 (dk_at dksX4_goes_2 15 rfl rfl)
theorem dX4_goes_66 : decode cX4_goes 66 = .ok (.iconst 4, 1) := dk_7 (dk_at dksX4_goes_2 18 rfl rfl)
theorem dX4_goes_67 : decode cX4_goes 67 = .ok (.iload_n 1, 1) := dk_27 (dk_at dksX4_goes_2 19 rfl rfl)
theorem dX4_goes_68 : decode cX4_goes 68 = .ok (.iconst 1, 1) := dk_4 (dk_at dksX4_goes_2 20 rfl rfl)
theorem dX4_goes_69 : decode cX4_goes 69 = .ok (.iadd, 1) := dk_96 (dk_at dksX4_goes_2 21 rfl rfl)
theorem dX4_goes_70 : decode cX4_goes 70 = .ok (.imul, 1) := dk_104 (dk_at dksX4_goes_2 22 rfl rfl)
theorem dX4_goes_71 : decode cX4_goes 71 = .ok (.iload_n 2, 1) := dk_28 (dk_at dksX4_goes_2 23 rfl rfl)
theorem dX4_goes_72 : decode cX4_goes 72 = .ok (.iadd, 1) := dk_96 (dk_at dksX4_goes_3 0 rfl rfl)
theorem dX4_goes_73 : decode cX4_goes 73 = .ok (.aload_n 0, 1) := dk_42 (dk_at dksX4_goes_3 1 rfl rfl)
theorem dX4_goes_74 : decode cX4_goes 74 = .ok (.getfield 43, 3) := dk_180 0 43 (dk_at dksX4_goes_3 2 rfl rfl)
theorem dX4_goes_77 : decode cX4_goes 77 = .ok (.iconst 4, 1) := dk_7 (dk_at dksX4_goes_3 5 rfl rfl)
theorem dX4_goes_78 : decode cX4_goes 78 = .ok (.iload_n 1, 1) := dk_27 (dk_at dksX4_goes_3 6 rfl rfl)
theorem dX4_goes_79 : decode cX4_goes 79 = .ok (.imul, 1) := dk_104 (dk_at dksX4_goes_3 7 rfl rfl)
theorem dX4_goes_80 : decode cX4_goes 80 = .ok (.iload_n 2, 1) := dk_28 (dk_at dksX4_goes_3 8 rfl rfl)
theorem dX4_goes_81 : decode cX4_goes 81 = .ok (.iadd, 1) := dk_96 (dk_at dksX4_goes_3 9 rfl rfl)
theorem dX4_goes_82 : decode cX4_goes 82 = .ok (.iaload, 1) := dk_46 (dk_at dksX4_goes_3 10 rfl rfl)
theorem dX4_goes_83 : decode cX4_goes 83 = .ok (.iload_n 3, 1) := dk_29 (dk_at dksX4_goes_3 11 rfl rfl)
theorem dX4_goes_84 : decode cX4_goes 84 = .ok (.ifCond .eq 7, 3) := dk_153 0 7 (dk_at dksX4_goes_3 12 rfl rfl)
theorem dX4_goes_87 : decode cX4_goes 87 = .ok (.iconst 0, 1) := dk_3 (dk_at dksX4_goes_3 15 rfl rfl)
theorem dX4_goes_88 : decode cX4_goes 88 = .ok (.goto 9, 3) := dk_167 0 9 (dk_at dksX4_goes_3 16 rfl rfl)
theorem dX4_goes_91 : decode cX4_goes 91 = .ok (.aload_n 0, 1) := dk_42 (dk_at dksX4_goes_3 19 rfl rfl)
theorem dX4_goes_92 : decode cX4_goes 92 = .ok (.iload_n 2, 1) := dk_28 (dk_at dksX4_goes_3 20 rfl rfl)
theorem dX4_goes_93 : decode cX4_goes 93 = .ok (.iconst 2, 1) := dk_5 (dk_at dksX4_goes_3 21 rfl rfl)
theorem dX4_goes_94 : decode cX4_goes 94 = .ok (.invokevirtual 285, 3) := dk_182 1 29 (dk_at dksX4_goes_4 0 rfl rfl)
theorem dX4_goes_97 : decode cX4_goes 97 = .ok (.iadd, 1) := dk_96 (dk_at dksX4_goes_4 3 rfl rfl)
theorem dX4_goes_98 : decode cX4_goes 98 = .ok (.iastore, 1) := dk_79 (dk_at dksX4_goes_4 4 rfl rfl)
theorem dX4_goes_99 : decode cX4_goes 99 = .ok (.iinc 2 1, 3) := dk_132 2 1 (dk_at dksX4_goes_4 5 rfl rfl)
theorem dX4_goes_102 : decode cX4_goes 102 = .ok (.goto (-95), 3) := dk_167 255 161 (dk_at dksX4_goes_4 8 rfl rfl)
theorem dX4_goes_105 : decode cX4_goes 105 = .ok (.return_, 1) := dk_177 (dk_at dksX4_goes_4 11 rfl rfl)
abbrev cX4_looksIn : ByteArray := prog_19_method_55_code
def yX4_looksIn : MethodName := ⟨RX4, "looksIn", "(I)V"⟩
def dkwX4_looksIn_10 : List UInt8 := [120, 128, 79, 132, 4, 1, 167, 255, 214, 132, 3, 1, 167, 255, 195, 177]
abbrev dktX4_looksIn_10 : List UInt8 := dkwX4_looksIn_10 ++ []
def dkwX4_looksIn_9 : List UInt8 := [180, 0, 46, 16, 8, 27, 104, 29, 96, 92, 46, 42, 180, 0, 67, 7, 29, 104, 21, 4, 96, 46, 21, 4]
abbrev dktX4_looksIn_9 : List UInt8 := dkwX4_looksIn_9 ++ dktX4_looksIn_10
def dkwX4_looksIn_8 : List UInt8 := [180, 0, 9, 5, 46, 162, 0, 57, 3, 54, 4, 21, 4, 42, 180, 0, 9, 4, 46, 162, 0, 37, 42]
abbrev dktX4_looksIn_8 : List UInt8 := dkwX4_looksIn_8 ++ dktX4_looksIn_9
def dkwX4_looksIn_7 : List UInt8 := [4, 28, 7, 112, 120, 128, 79, 42, 27, 182, 1, 101, 42, 182, 1, 104, 61, 167, 255, 152, 3, 62, 29, 42]
abbrev dktX4_looksIn_7 : List UInt8 := dkwX4_looksIn_7 ++ dktX4_looksIn_8
def dkwX4_looksIn_6 : List UInt8 := [42, 89, 180, 1, 107, 4, 96, 181, 1, 107, 42, 180, 0, 49, 16, 8, 27, 104, 28, 7, 108, 96, 92, 46]
abbrev dktX4_looksIn_6 : List UInt8 := dkwX4_looksIn_6 ++ dktX4_looksIn_7
def dkwX4_looksIn_5 : List UInt8 := [42, 180, 0, 52, 42, 180, 1, 107, 16, 100, 27, 104, 16, 10, 28, 7, 108, 104, 96, 28, 7, 112, 96, 79]
abbrev dktX4_looksIn_5 : List UInt8 := dkwX4_looksIn_5 ++ dktX4_looksIn_6
def dkwX4_looksIn_4 : List UInt8 := [180, 1, 110, 162, 0, 19, 42, 180, 0, 55, 42, 180, 1, 107, 51, 153, 0, 7, 4, 167, 0, 4, 3, 79]
abbrev dktX4_looksIn_4 : List UInt8 := dkwX4_looksIn_4 ++ dktX4_looksIn_5
def dkwX4_looksIn_3 : List UInt8 := [182, 1, 101, 42, 182, 1, 104, 61, 28, 2, 159, 0, 105, 42, 180, 0, 67, 28, 42, 180, 1, 107, 42]
abbrev dktX4_looksIn_3 : List UInt8 := dkwX4_looksIn_3 ++ dktX4_looksIn_4
def dkwX4_looksIn_2 : List UInt8 := [3, 79, 42, 180, 0, 49, 16, 8, 27, 104, 28, 96, 3, 79, 132, 2, 1, 167, 255, 223, 42, 27]
abbrev dktX4_looksIn_2 : List UInt8 := dkwX4_looksIn_2 ++ dktX4_looksIn_3
def dkwX4_looksIn_1 : List UInt8 := [132, 2, 1, 167, 255, 240, 3, 61, 28, 16, 8, 162, 0, 33, 42, 180, 0, 46, 16, 8, 27, 104, 28, 96]
abbrev dktX4_looksIn_1 : List UInt8 := dkwX4_looksIn_1 ++ dktX4_looksIn_2
def dkwX4_looksIn_0 : List UInt8 := [42, 27, 182, 1, 95, 42, 182, 1, 98, 3, 61, 28, 16, 32, 162, 0, 16, 42, 180, 0, 67, 28, 2, 79]
abbrev dktX4_looksIn_0 : List UInt8 := dkwX4_looksIn_0 ++ dktX4_looksIn_1
theorem dksX4_looksIn_0 : cX4_looksIn.data.toList.drop 0 = dktX4_looksIn_0 := by decide +kernel
theorem dksX4_looksIn_1 : cX4_looksIn.data.toList.drop 24 = dktX4_looksIn_1 := dk_seg dksX4_looksIn_0 24 rfl rfl
theorem dksX4_looksIn_2 : cX4_looksIn.data.toList.drop 48 = dktX4_looksIn_2 := dk_seg dksX4_looksIn_1 24 rfl rfl
theorem dksX4_looksIn_3 : cX4_looksIn.data.toList.drop 70 = dktX4_looksIn_3 := dk_seg dksX4_looksIn_2 22 rfl rfl
theorem dksX4_looksIn_4 : cX4_looksIn.data.toList.drop 93 = dktX4_looksIn_4 := dk_seg dksX4_looksIn_3 23 rfl rfl
theorem dksX4_looksIn_5 : cX4_looksIn.data.toList.drop 117 = dktX4_looksIn_5 := dk_seg dksX4_looksIn_4 24 rfl rfl
theorem dksX4_looksIn_6 : cX4_looksIn.data.toList.drop 141 = dktX4_looksIn_6 := dk_seg dksX4_looksIn_5 24 rfl rfl
theorem dksX4_looksIn_7 : cX4_looksIn.data.toList.drop 165 = dktX4_looksIn_7 := dk_seg dksX4_looksIn_6 24 rfl rfl
theorem dksX4_looksIn_8 : cX4_looksIn.data.toList.drop 189 = dktX4_looksIn_8 := dk_seg dksX4_looksIn_7 24 rfl rfl
theorem dksX4_looksIn_9 : cX4_looksIn.data.toList.drop 212 = dktX4_looksIn_9 := dk_seg dksX4_looksIn_8 23 rfl rfl
theorem dksX4_looksIn_10 : cX4_looksIn.data.toList.drop 236 = dktX4_looksIn_10 := dk_seg dksX4_looksIn_9 24 rfl rfl
theorem dX4_looksIn_0 : decode cX4_looksIn 0 = .ok (.aload_n 0, 1) := dk_42 (dk_at dksX4_looksIn_0 0 rfl rfl)
theorem dX4_looksIn_1 : decode cX4_looksIn 1 = .ok (.iload_n 1, 1) := dk_27 (dk_at dksX4_looksIn_0 1 rfl rfl)
theorem dX4_looksIn_2 : decode cX4_looksIn 2 = .ok (.invokevirtual 351, 3) := dk_182 1 95 (dk_at dksX4_looksIn_0 2 rfl rfl)
theorem dX4_looksIn_5 : decode cX4_looksIn 5 = .ok (.aload_n 0, 1) := dk_42 (dk_at dksX4_looksIn_0 5 rfl rfl)
theorem dX4_looksIn_6 : decode cX4_looksIn 6 = .ok (.invokevirtual 354, 3) := dk_182 1 98 (dk_at dksX4_looksIn_0 6 rfl rfl)
theorem dX4_looksIn_9 : decode cX4_looksIn 9 = .ok (.iconst 0, 1) := dk_3 (dk_at dksX4_looksIn_0 9 rfl rfl)
theorem dX4_looksIn_10 : decode cX4_looksIn 10 = .ok (.istore_n 2, 1) := dk_61 (dk_at dksX4_looksIn_0 10 rfl rfl)
theorem dX4_looksIn_11 : decode cX4_looksIn 11 = .ok (.iload_n 2, 1) := dk_28 (dk_at dksX4_looksIn_0 11 rfl rfl)
theorem dX4_looksIn_12 : decode cX4_looksIn 12 = .ok (.bipush 32, 2) := dk_16 32 (dk_at dksX4_looksIn_0 12 rfl rfl)
theorem dX4_looksIn_14 : decode cX4_looksIn 14 = .ok (.if_icmp .ge 16, 3) := dk_162 0 16 (dk_at dksX4_looksIn_0 14 rfl rfl)
theorem dX4_looksIn_17 : decode cX4_looksIn 17 = .ok (.aload_n 0, 1) := dk_42 (dk_at dksX4_looksIn_0 17 rfl rfl)
theorem dX4_looksIn_18 : decode cX4_looksIn 18 = .ok (.getfield 67, 3) := dk_180 0 67 (dk_at dksX4_looksIn_0 18 rfl rfl)
theorem dX4_looksIn_21 : decode cX4_looksIn 21 = .ok (.iload_n 2, 1) := dk_28 (dk_at dksX4_looksIn_0 21 rfl rfl)
theorem dX4_looksIn_22 : decode cX4_looksIn 22 = .ok (.iconst (-1), 1) := dk_2 (dk_at dksX4_looksIn_0 22 rfl rfl)
theorem dX4_looksIn_23 : decode cX4_looksIn 23 = .ok (.iastore, 1) := dk_79 (dk_at dksX4_looksIn_0 23 rfl rfl)
theorem dX4_looksIn_24 : decode cX4_looksIn 24 = .ok (.iinc 2 1, 3) := dk_132 2 1 (dk_at dksX4_looksIn_1 0 rfl rfl)
theorem dX4_looksIn_27 : decode cX4_looksIn 27 = .ok (.goto (-16), 3) := dk_167 255 240 (dk_at dksX4_looksIn_1 3 rfl rfl)
theorem dX4_looksIn_30 : decode cX4_looksIn 30 = .ok (.iconst 0, 1) := dk_3 (dk_at dksX4_looksIn_1 6 rfl rfl)
theorem dX4_looksIn_31 : decode cX4_looksIn 31 = .ok (.istore_n 2, 1) := dk_61 (dk_at dksX4_looksIn_1 7 rfl rfl)
theorem dX4_looksIn_32 : decode cX4_looksIn 32 = .ok (.iload_n 2, 1) := dk_28 (dk_at dksX4_looksIn_1 8 rfl rfl)
theorem dX4_looksIn_33 : decode cX4_looksIn 33 = .ok (.bipush 8, 2) := dk_16 8 (dk_at dksX4_looksIn_1 9 rfl rfl)
theorem dX4_looksIn_35 : decode cX4_looksIn 35 = .ok (.if_icmp .ge 33, 3) := dk_162 0 33 (dk_at dksX4_looksIn_1 11 rfl rfl)
theorem dX4_looksIn_38 : decode cX4_looksIn 38 = .ok (.aload_n 0, 1) := dk_42 (dk_at dksX4_looksIn_1 14 rfl rfl)
theorem dX4_looksIn_39 : decode cX4_looksIn 39 = .ok (.getfield 46, 3) := dk_180 0 46 (dk_at dksX4_looksIn_1 15 rfl rfl)
theorem dX4_looksIn_42 : decode cX4_looksIn 42 = .ok (.bipush 8, 2) := dk_16 8 (dk_at dksX4_looksIn_1 18 rfl rfl)
theorem dX4_looksIn_44 : decode cX4_looksIn 44 = .ok (.iload_n 1, 1) := dk_27 (dk_at dksX4_looksIn_1 20 rfl rfl)
theorem dX4_looksIn_45 : decode cX4_looksIn 45 = .ok (.imul, 1) := dk_104 (dk_at dksX4_looksIn_1 21 rfl rfl)
theorem dX4_looksIn_46 : decode cX4_looksIn 46 = .ok (.iload_n 2, 1) := dk_28 (dk_at dksX4_looksIn_1 22 rfl rfl)
theorem dX4_looksIn_47 : decode cX4_looksIn 47 = .ok (.iadd, 1) := dk_96 (dk_at dksX4_looksIn_1 23 rfl rfl)
theorem dX4_looksIn_48 : decode cX4_looksIn 48 = .ok (.iconst 0, 1) := dk_3 (dk_at dksX4_looksIn_2 0 rfl rfl)
theorem dX4_looksIn_49 : decode cX4_looksIn 49 = .ok (.iastore, 1) := dk_79 (dk_at dksX4_looksIn_2 1 rfl rfl)
theorem dX4_looksIn_50 : decode cX4_looksIn 50 = .ok (.aload_n 0, 1) := dk_42 (dk_at dksX4_looksIn_2 2 rfl rfl)
theorem dX4_looksIn_51 : decode cX4_looksIn 51 = .ok (.getfield 49, 3) := dk_180 0 49 (dk_at dksX4_looksIn_2 3 rfl rfl)
theorem dX4_looksIn_54 : decode cX4_looksIn 54 = .ok (.bipush 8, 2) := dk_16 8 (dk_at dksX4_looksIn_2 6 rfl rfl)
theorem dX4_looksIn_56 : decode cX4_looksIn 56 = .ok (.iload_n 1, 1) := dk_27 (dk_at dksX4_looksIn_2 8 rfl rfl)
theorem dX4_looksIn_57 : decode cX4_looksIn 57 = .ok (.imul, 1) := dk_104 (dk_at dksX4_looksIn_2 9 rfl rfl)
theorem dX4_looksIn_58 : decode cX4_looksIn 58 = .ok (.iload_n 2, 1) := dk_28 (dk_at dksX4_looksIn_2 10 rfl rfl)
theorem dX4_looksIn_59 : decode cX4_looksIn 59 = .ok (.iadd, 1) := dk_96 (dk_at dksX4_looksIn_2 11 rfl rfl)
theorem dX4_looksIn_60 : decode cX4_looksIn 60 = .ok (.iconst 0, 1) := dk_3 (dk_at dksX4_looksIn_2 12 rfl rfl)
theorem dX4_looksIn_61 : decode cX4_looksIn 61 = .ok (.iastore, 1) := dk_79 (dk_at dksX4_looksIn_2 13 rfl rfl)
theorem dX4_looksIn_62 : decode cX4_looksIn 62 = .ok (.iinc 2 1, 3) := dk_132 2 1 (dk_at dksX4_looksIn_2 14 rfl rfl)
theorem dX4_looksIn_65 : decode cX4_looksIn 65 = .ok (.goto (-33), 3) := dk_167 255 223 (dk_at dksX4_looksIn_2 17 rfl rfl)
theorem dX4_looksIn_68 : decode cX4_looksIn 68 = .ok (.aload_n 0, 1) := dk_42 (dk_at dksX4_looksIn_2 20 rfl rfl)
theorem dX4_looksIn_69 : decode cX4_looksIn 69 = .ok (.iload_n 1, 1) := dk_27 (dk_at dksX4_looksIn_2 21 rfl rfl)
theorem dX4_looksIn_70 : decode cX4_looksIn 70 = .ok (.invokevirtual 357, 3) := dk_182 1 101 (dk_at dksX4_looksIn_3 0 rfl rfl)
theorem dX4_looksIn_73 : decode cX4_looksIn 73 = .ok (.aload_n 0, 1) := dk_42 (dk_at dksX4_looksIn_3 3 rfl rfl)
theorem dX4_looksIn_74 : decode cX4_looksIn 74 = .ok (.invokevirtual 360, 3) := dk_182 1 104 (dk_at dksX4_looksIn_3 4 rfl rfl)
theorem dX4_looksIn_77 : decode cX4_looksIn 77 = .ok (.istore_n 2, 1) := dk_61 (dk_at dksX4_looksIn_3 7 rfl rfl)
theorem dX4_looksIn_78 : decode cX4_looksIn 78 = .ok (.iload_n 2, 1) := dk_28 (dk_at dksX4_looksIn_3 8 rfl rfl)
theorem dX4_looksIn_79 : decode cX4_looksIn 79 = .ok (.iconst (-1), 1) := dk_2 (dk_at dksX4_looksIn_3 9 rfl rfl)
theorem dX4_looksIn_80 : decode cX4_looksIn 80 = .ok (.if_icmp .eq 105, 3) := dk_159 0 105 (dk_at dksX4_looksIn_3 10 rfl rfl)
theorem dX4_looksIn_83 : decode cX4_looksIn 83 = .ok (.aload_n 0, 1) := dk_42 (dk_at dksX4_looksIn_3 13 rfl rfl)
theorem dX4_looksIn_84 : decode cX4_looksIn 84 = .ok (.getfield 67, 3) := dk_180 0 67 (dk_at dksX4_looksIn_3 14 rfl rfl)
theorem dX4_looksIn_87 : decode cX4_looksIn 87 = .ok (.iload_n 2, 1) := dk_28 (dk_at dksX4_looksIn_3 17 rfl rfl)
theorem dX4_looksIn_88 : decode cX4_looksIn 88 = .ok (.aload_n 0, 1) := dk_42 (dk_at dksX4_looksIn_3 18 rfl rfl)
theorem dX4_looksIn_89 : decode cX4_looksIn 89 = .ok (.getfield 363, 3) := dk_180 1 107 (dk_at dksX4_looksIn_3 19 rfl rfl)
theorem dX4_looksIn_92 : decode cX4_looksIn 92 = .ok (.aload_n 0, 1) := dk_42 (dk_at dksX4_looksIn_3 22 rfl rfl)
theorem dX4_looksIn_93 : decode cX4_looksIn 93 = .ok (.getfield 366, 3) := dk_180 1 110 (dk_at dksX4_looksIn_4 0 rfl rfl)
theorem dX4_looksIn_96 : decode cX4_looksIn 96 = .ok (.if_icmp .ge 19, 3) := dk_162 0 19 (dk_at dksX4_looksIn_4 3 rfl rfl)
theorem dX4_looksIn_99 : decode cX4_looksIn 99 = .ok (.aload_n 0, 1) := dk_42 (dk_at dksX4_looksIn_4 6 rfl rfl)
theorem dX4_looksIn_100 : decode cX4_looksIn 100 = .ok (.getfield 55, 3) := dk_180 0 55 (dk_at dksX4_looksIn_4 7 rfl rfl)
theorem dX4_looksIn_103 : decode cX4_looksIn 103 = .ok (.aload_n 0, 1) := dk_42 (dk_at dksX4_looksIn_4 10 rfl rfl)
theorem dX4_looksIn_104 : decode cX4_looksIn 104 = .ok (.getfield 363, 3) := dk_180 1 107 (dk_at dksX4_looksIn_4 11 rfl rfl)
theorem dX4_looksIn_107 : decode cX4_looksIn 107 = .ok (.baload, 1) := dk_51 (dk_at dksX4_looksIn_4 14 rfl rfl)
theorem dX4_looksIn_108 : decode cX4_looksIn 108 = .ok (.ifCond .eq 7, 3) := dk_153 0 7 (dk_at dksX4_looksIn_4 15 rfl rfl)
theorem dX4_looksIn_111 : decode cX4_looksIn 111 = .ok (.iconst 1, 1) := dk_4 (dk_at dksX4_looksIn_4 18 rfl rfl)
theorem dX4_looksIn_112 : decode cX4_looksIn 112 = .ok (.goto 4, 3) := dk_167 0 4 (dk_at dksX4_looksIn_4 19 rfl rfl)
theorem dX4_looksIn_115 : decode cX4_looksIn 115 = .ok (.iconst 0, 1) := dk_3 (dk_at dksX4_looksIn_4 22 rfl rfl)
theorem dX4_looksIn_116 : decode cX4_looksIn 116 = .ok (.iastore, 1) := dk_79 (dk_at dksX4_looksIn_4 23 rfl rfl)
theorem dX4_looksIn_117 : decode cX4_looksIn 117 = .ok (.aload_n 0, 1) := dk_42 (dk_at dksX4_looksIn_5 0 rfl rfl)
theorem dX4_looksIn_118 : decode cX4_looksIn 118 = .ok (.getfield 52, 3) := dk_180 0 52 (dk_at dksX4_looksIn_5 1 rfl rfl)
theorem dX4_looksIn_121 : decode cX4_looksIn 121 = .ok (.aload_n 0, 1) := dk_42 (dk_at dksX4_looksIn_5 4 rfl rfl)
theorem dX4_looksIn_122 : decode cX4_looksIn 122 = .ok (.getfield 363, 3) := dk_180 1 107 (dk_at dksX4_looksIn_5 5 rfl rfl)
theorem dX4_looksIn_125 : decode cX4_looksIn 125 = .ok (.bipush 100, 2) := dk_16 100 (dk_at dksX4_looksIn_5 8 rfl rfl)
theorem dX4_looksIn_127 : decode cX4_looksIn 127 = .ok (.iload_n 1, 1) := dk_27 (dk_at dksX4_looksIn_5 10 rfl rfl)
theorem dX4_looksIn_128 : decode cX4_looksIn 128 = .ok (.imul, 1) := dk_104 (dk_at dksX4_looksIn_5 11 rfl rfl)
theorem dX4_looksIn_129 : decode cX4_looksIn 129 = .ok (.bipush 10, 2) := dk_16 10 (dk_at dksX4_looksIn_5 12 rfl rfl)
theorem dX4_looksIn_131 : decode cX4_looksIn 131 = .ok (.iload_n 2, 1) := dk_28 (dk_at dksX4_looksIn_5 14 rfl rfl)
theorem dX4_looksIn_132 : decode cX4_looksIn 132 = .ok (.iconst 4, 1) := dk_7 (dk_at dksX4_looksIn_5 15 rfl rfl)
theorem dX4_looksIn_133 : decode cX4_looksIn 133 = .ok (.idiv, 1) := dk_108 (dk_at dksX4_looksIn_5 16 rfl rfl)
theorem dX4_looksIn_134 : decode cX4_looksIn 134 = .ok (.imul, 1) := dk_104 (dk_at dksX4_looksIn_5 17 rfl rfl)
theorem dX4_looksIn_135 : decode cX4_looksIn 135 = .ok (.iadd, 1) := dk_96 (dk_at dksX4_looksIn_5 18 rfl rfl)
theorem dX4_looksIn_136 : decode cX4_looksIn 136 = .ok (.iload_n 2, 1) := dk_28 (dk_at dksX4_looksIn_5 19 rfl rfl)
theorem dX4_looksIn_137 : decode cX4_looksIn 137 = .ok (.iconst 4, 1) := dk_7 (dk_at dksX4_looksIn_5 20 rfl rfl)
theorem dX4_looksIn_138 : decode cX4_looksIn 138 = .ok (.irem, 1) := dk_112 (dk_at dksX4_looksIn_5 21 rfl rfl)
theorem dX4_looksIn_139 : decode cX4_looksIn 139 = .ok (.iadd, 1) := dk_96 (dk_at dksX4_looksIn_5 22 rfl rfl)
theorem dX4_looksIn_140 : decode cX4_looksIn 140 = .ok (.iastore, 1) := dk_79 (dk_at dksX4_looksIn_5 23 rfl rfl)
theorem dX4_looksIn_141 : decode cX4_looksIn 141 = .ok (.aload_n 0, 1) := dk_42 (dk_at dksX4_looksIn_6 0 rfl rfl)
theorem dX4_looksIn_142 : decode cX4_looksIn 142 = .ok (.dup, 1) := dk_89 (dk_at dksX4_looksIn_6 1 rfl rfl)
theorem dX4_looksIn_143 : decode cX4_looksIn 143 = .ok (.getfield 363, 3) := dk_180 1 107 (dk_at dksX4_looksIn_6 2 rfl rfl)
theorem dX4_looksIn_146 : decode cX4_looksIn 146 = .ok (.iconst 1, 1) := dk_4 (dk_at dksX4_looksIn_6 5 rfl rfl)
theorem dX4_looksIn_147 : decode cX4_looksIn 147 = .ok (.iadd, 1) := dk_96 (dk_at dksX4_looksIn_6 6 rfl rfl)
theorem dX4_looksIn_148 : decode cX4_looksIn 148 = .ok (.putfield 363, 3) := dk_181 1 107 (dk_at dksX4_looksIn_6 7 rfl rfl)
theorem dX4_looksIn_151 : decode cX4_looksIn 151 = .ok (.aload_n 0, 1) := dk_42 (dk_at dksX4_looksIn_6 10 rfl rfl)
theorem dX4_looksIn_152 : decode cX4_looksIn 152 = .ok (.getfield 49, 3) := dk_180 0 49 (dk_at dksX4_looksIn_6 11 rfl rfl)
theorem dX4_looksIn_155 : decode cX4_looksIn 155 = .ok (.bipush 8, 2) := dk_16 8 (dk_at dksX4_looksIn_6 14 rfl rfl)
theorem dX4_looksIn_157 : decode cX4_looksIn 157 = .ok (.iload_n 1, 1) := dk_27 (dk_at dksX4_looksIn_6 16 rfl rfl)
theorem dX4_looksIn_158 : decode cX4_looksIn 158 = .ok (.imul, 1) := dk_104 (dk_at dksX4_looksIn_6 17 rfl rfl)
theorem dX4_looksIn_159 : decode cX4_looksIn 159 = .ok (.iload_n 2, 1) := dk_28 (dk_at dksX4_looksIn_6 18 rfl rfl)
theorem dX4_looksIn_160 : decode cX4_looksIn 160 = .ok (.iconst 4, 1) := dk_7 (dk_at dksX4_looksIn_6 19 rfl rfl)
theorem dX4_looksIn_161 : decode cX4_looksIn 161 = .ok (.idiv, 1) := dk_108 (dk_at dksX4_looksIn_6 20 rfl rfl)
theorem dX4_looksIn_162 : decode cX4_looksIn 162 = .ok (.iadd, 1) := dk_96 (dk_at dksX4_looksIn_6 21 rfl rfl)
theorem dX4_looksIn_163 : decode cX4_looksIn 163 = .ok (.dup2, 1) := dk_92 (dk_at dksX4_looksIn_6 22 rfl rfl)
theorem dX4_looksIn_164 : decode cX4_looksIn 164 = .ok (.iaload, 1) := dk_46 (dk_at dksX4_looksIn_6 23 rfl rfl)
theorem dX4_looksIn_165 : decode cX4_looksIn 165 = .ok (.iconst 1, 1) := dk_4 (dk_at dksX4_looksIn_7 0 rfl rfl)
theorem dX4_looksIn_166 : decode cX4_looksIn 166 = .ok (.iload_n 2, 1) := dk_28 (dk_at dksX4_looksIn_7 1 rfl rfl)
theorem dX4_looksIn_167 : decode cX4_looksIn 167 = .ok (.iconst 4, 1) := dk_7 (dk_at dksX4_looksIn_7 2 rfl rfl)
theorem dX4_looksIn_168 : decode cX4_looksIn 168 = .ok (.irem, 1) := dk_112 (dk_at dksX4_looksIn_7 3 rfl rfl)
theorem dX4_looksIn_169 : decode cX4_looksIn 169 = .ok (.ishl, 1) := dk_120 (dk_at dksX4_looksIn_7 4 rfl rfl)
theorem dX4_looksIn_170 : decode cX4_looksIn 170 = .ok (.ior, 1) := dk_128 (dk_at dksX4_looksIn_7 5 rfl rfl)
theorem dX4_looksIn_171 : decode cX4_looksIn 171 = .ok (.iastore, 1) := dk_79 (dk_at dksX4_looksIn_7 6 rfl rfl)
theorem dX4_looksIn_172 : decode cX4_looksIn 172 = .ok (.aload_n 0, 1) := dk_42 (dk_at dksX4_looksIn_7 7 rfl rfl)
theorem dX4_looksIn_173 : decode cX4_looksIn 173 = .ok (.iload_n 1, 1) := dk_27 (dk_at dksX4_looksIn_7 8 rfl rfl)
theorem dX4_looksIn_174 : decode cX4_looksIn 174 = .ok (.invokevirtual 357, 3) := dk_182 1 101 (dk_at dksX4_looksIn_7 9 rfl rfl)
theorem dX4_looksIn_177 : decode cX4_looksIn 177 = .ok (.aload_n 0, 1) := dk_42 (dk_at dksX4_looksIn_7 12 rfl rfl)
theorem dX4_looksIn_178 : decode cX4_looksIn 178 = .ok (.invokevirtual 360, 3) := dk_182 1 104 (dk_at dksX4_looksIn_7 13 rfl rfl)
theorem dX4_looksIn_181 : decode cX4_looksIn 181 = .ok (.istore_n 2, 1) := dk_61 (dk_at dksX4_looksIn_7 16 rfl rfl)
theorem dX4_looksIn_182 : decode cX4_looksIn 182 = .ok (.goto (-104), 3) := dk_167 255 152 (dk_at dksX4_looksIn_7 17 rfl rfl)
theorem dX4_looksIn_185 : decode cX4_looksIn 185 = .ok (.iconst 0, 1) := dk_3 (dk_at dksX4_looksIn_7 20 rfl rfl)
theorem dX4_looksIn_186 : decode cX4_looksIn 186 = .ok (.istore_n 3, 1) := dk_62 (dk_at dksX4_looksIn_7 21 rfl rfl)
theorem dX4_looksIn_187 : decode cX4_looksIn 187 = .ok (.iload_n 3, 1) := dk_29 (dk_at dksX4_looksIn_7 22 rfl rfl)
theorem dX4_looksIn_188 : decode cX4_looksIn 188 = .ok (.aload_n 0, 1) := dk_42 (dk_at dksX4_looksIn_7 23 rfl rfl)
theorem dX4_looksIn_189 : decode cX4_looksIn 189 = .ok (.getfield 9, 3) := dk_180 0 9 (dk_at dksX4_looksIn_8 0 rfl rfl)
theorem dX4_looksIn_192 : decode cX4_looksIn 192 = .ok (.iconst 2, 1) := dk_5 (dk_at dksX4_looksIn_8 3 rfl rfl)
theorem dX4_looksIn_193 : decode cX4_looksIn 193 = .ok (.iaload, 1) := dk_46 (dk_at dksX4_looksIn_8 4 rfl rfl)
theorem dX4_looksIn_194 : decode cX4_looksIn 194 = .ok (.if_icmp .ge 57, 3) := dk_162 0 57 (dk_at dksX4_looksIn_8 5 rfl rfl)
theorem dX4_looksIn_197 : decode cX4_looksIn 197 = .ok (.iconst 0, 1) := dk_3 (dk_at dksX4_looksIn_8 8 rfl rfl)
theorem dX4_looksIn_198 : decode cX4_looksIn 198 = .ok (.istore 4, 2) := dk_54 4 (dk_at dksX4_looksIn_8 9 rfl rfl)
theorem dX4_looksIn_200 : decode cX4_looksIn 200 = .ok (.iload 4, 2) := dk_21 4 (dk_at dksX4_looksIn_8 11 rfl rfl)
theorem dX4_looksIn_202 : decode cX4_looksIn 202 = .ok (.aload_n 0, 1) := dk_42 (dk_at dksX4_looksIn_8 13 rfl rfl)
theorem dX4_looksIn_203 : decode cX4_looksIn 203 = .ok (.getfield 9, 3) := dk_180 0 9 (dk_at dksX4_looksIn_8 14 rfl rfl)
theorem dX4_looksIn_206 : decode cX4_looksIn 206 = .ok (.iconst 1, 1) := dk_4 (dk_at dksX4_looksIn_8 17 rfl rfl)
theorem dX4_looksIn_207 : decode cX4_looksIn 207 = .ok (.iaload, 1) := dk_46 (dk_at dksX4_looksIn_8 18 rfl rfl)
theorem dX4_looksIn_208 : decode cX4_looksIn 208 = .ok (.if_icmp .ge 37, 3) := dk_162 0 37 (dk_at dksX4_looksIn_8 19 rfl rfl)
theorem dX4_looksIn_211 : decode cX4_looksIn 211 = .ok (.aload_n 0, 1) := dk_42 (dk_at dksX4_looksIn_8 22 rfl rfl)
theorem dX4_looksIn_212 : decode cX4_looksIn 212 = .ok (.getfield 46, 3) := dk_180 0 46 (dk_at dksX4_looksIn_9 0 rfl rfl)
theorem dX4_looksIn_215 : decode cX4_looksIn 215 = .ok (.bipush 8, 2) := dk_16 8 (dk_at dksX4_looksIn_9 3 rfl rfl)
theorem dX4_looksIn_217 : decode cX4_looksIn 217 = .ok (.iload_n 1, 1) := dk_27 (dk_at dksX4_looksIn_9 5 rfl rfl)
theorem dX4_looksIn_218 : decode cX4_looksIn 218 = .ok (.imul, 1) := dk_104 (dk_at dksX4_looksIn_9 6 rfl rfl)
theorem dX4_looksIn_219 : decode cX4_looksIn 219 = .ok (.iload_n 3, 1) := dk_29 (dk_at dksX4_looksIn_9 7 rfl rfl)
theorem dX4_looksIn_220 : decode cX4_looksIn 220 = .ok (.iadd, 1) := dk_96 (dk_at dksX4_looksIn_9 8 rfl rfl)
theorem dX4_looksIn_221 : decode cX4_looksIn 221 = .ok (.dup2, 1) := dk_92 (dk_at dksX4_looksIn_9 9 rfl rfl)
theorem dX4_looksIn_222 : decode cX4_looksIn 222 = .ok (.iaload, 1) := dk_46 (dk_at dksX4_looksIn_9 10 rfl rfl)
theorem dX4_looksIn_223 : decode cX4_looksIn 223 = .ok (.aload_n 0, 1) := dk_42 (dk_at dksX4_looksIn_9 11 rfl rfl)
theorem dX4_looksIn_224 : decode cX4_looksIn 224 = .ok (.getfield 67, 3) := dk_180 0 67 (dk_at dksX4_looksIn_9 12 rfl rfl)
theorem dX4_looksIn_227 : decode cX4_looksIn 227 = .ok (.iconst 4, 1) := dk_7 (dk_at dksX4_looksIn_9 15 rfl rfl)
theorem dX4_looksIn_228 : decode cX4_looksIn 228 = .ok (.iload_n 3, 1) := dk_29 (dk_at dksX4_looksIn_9 16 rfl rfl)
theorem dX4_looksIn_229 : decode cX4_looksIn 229 = .ok (.imul, 1) := dk_104 (dk_at dksX4_looksIn_9 17 rfl rfl)
theorem dX4_looksIn_230 : decode cX4_looksIn 230 = .ok (.iload 4, 2) := dk_21 4 (dk_at dksX4_looksIn_9 18 rfl rfl)
theorem dX4_looksIn_232 : decode cX4_looksIn 232 = .ok (.iadd, 1) := dk_96 (dk_at dksX4_looksIn_9 20 rfl rfl)
theorem dX4_looksIn_233 : decode cX4_looksIn 233 = .ok (.iaload, 1) := dk_46 (dk_at dksX4_looksIn_9 21 rfl rfl)
theorem dX4_looksIn_234 : decode cX4_looksIn 234 = .ok (.iload 4, 2) := dk_21 4 (dk_at dksX4_looksIn_9 22 rfl rfl)
theorem dX4_looksIn_236 : decode cX4_looksIn 236 = .ok (.ishl, 1) := dk_120 (dk_at dksX4_looksIn_10 0 rfl rfl)
theorem dX4_looksIn_237 : decode cX4_looksIn 237 = .ok (.ior, 1) := dk_128 (dk_at dksX4_looksIn_10 1 rfl rfl)
theorem dX4_looksIn_238 : decode cX4_looksIn 238 = .ok (.iastore, 1) := dk_79 (dk_at dksX4_looksIn_10 2 rfl rfl)
theorem dX4_looksIn_239 : decode cX4_looksIn 239 = .ok (.iinc 4 1, 3) := dk_132 4 1 (dk_at dksX4_looksIn_10 3 rfl rfl)
theorem dX4_looksIn_242 : decode cX4_looksIn 242 = .ok (.goto (-42), 3) := dk_167 255 214 (dk_at dksX4_looksIn_10 6 rfl rfl)
theorem dX4_looksIn_245 : decode cX4_looksIn 245 = .ok (.iinc 3 1, 3) := dk_132 3 1 (dk_at dksX4_looksIn_10 9 rfl rfl)
theorem dX4_looksIn_248 : decode cX4_looksIn 248 = .ok (.goto (-61), 3) := dk_167 255 195 (dk_at dksX4_looksIn_10 12 rfl rfl)
theorem dX4_looksIn_251 : decode cX4_looksIn 251 = .ok (.return_, 1) := dk_177 (dk_at dksX4_looksIn_10 15 rfl rfl)
abbrev cX4_fillSeeing : ByteArray := prog_19_method_43_code
def yX4_fillSeeing : MethodName := ⟨RX4, "fillSeeing", "(I)V"⟩
def dkwX4_fillSeeing_3 : List UInt8 := [153, 0, 7, 4, 167, 0, 4, 3, 84, 132, 3, 1, 167, 255, 189, 132, 2, 1, 167, 255, 171, 177]
abbrev dktX4_fillSeeing_3 : List UInt8 := dkwX4_fillSeeing_3 ++ []
def dkwX4_fillSeeing_2 : List UInt8 := [16, 40, 28, 104, 27, 96, 46, 42, 180, 0, 37, 16, 40, 28, 104, 27, 96, 46, 29, 182, 1, 44]
abbrev dktX4_fillSeeing_2 : List UInt8 := dkwX4_fillSeeing_2 ++ dktX4_fillSeeing_3
def dkwX4_fillSeeing_1 : List UInt8 := [42, 180, 0, 40, 7, 28, 104, 29, 96, 42, 28, 27, 182, 1, 41, 153, 0, 37, 42, 42, 180, 0, 34]
abbrev dktX4_fillSeeing_1 : List UInt8 := dkwX4_fillSeeing_1 ++ dktX4_fillSeeing_2
def dkwX4_fillSeeing_0 : List UInt8 := [3, 61, 28, 42, 180, 0, 9, 5, 46, 162, 0, 81, 3, 62, 29, 42, 180, 0, 9, 4, 46, 162, 0, 63]
abbrev dktX4_fillSeeing_0 : List UInt8 := dkwX4_fillSeeing_0 ++ dktX4_fillSeeing_1
theorem dksX4_fillSeeing_0 : cX4_fillSeeing.data.toList.drop 0 = dktX4_fillSeeing_0 := by decide +kernel
theorem dksX4_fillSeeing_1 : cX4_fillSeeing.data.toList.drop 24 = dktX4_fillSeeing_1 := dk_seg dksX4_fillSeeing_0 24 rfl rfl
theorem dksX4_fillSeeing_2 : cX4_fillSeeing.data.toList.drop 47 = dktX4_fillSeeing_2 := dk_seg dksX4_fillSeeing_1 23 rfl rfl
theorem dksX4_fillSeeing_3 : cX4_fillSeeing.data.toList.drop 69 = dktX4_fillSeeing_3 := dk_seg dksX4_fillSeeing_2 22 rfl rfl
theorem dX4_fillSeeing_0 : decode cX4_fillSeeing 0 = .ok (.iconst 0, 1) := dk_3 (dk_at dksX4_fillSeeing_0 0 rfl rfl)
theorem dX4_fillSeeing_1 : decode cX4_fillSeeing 1 = .ok (.istore_n 2, 1) := dk_61 (dk_at dksX4_fillSeeing_0 1 rfl rfl)
theorem dX4_fillSeeing_2 : decode cX4_fillSeeing 2 = .ok (.iload_n 2, 1) := dk_28 (dk_at dksX4_fillSeeing_0 2 rfl rfl)
theorem dX4_fillSeeing_3 : decode cX4_fillSeeing 3 = .ok (.aload_n 0, 1) := dk_42 (dk_at dksX4_fillSeeing_0 3 rfl rfl)
theorem dX4_fillSeeing_4 : decode cX4_fillSeeing 4 = .ok (.getfield 9, 3) := dk_180 0 9 (dk_at dksX4_fillSeeing_0 4 rfl rfl)
theorem dX4_fillSeeing_7 : decode cX4_fillSeeing 7 = .ok (.iconst 2, 1) := dk_5 (dk_at dksX4_fillSeeing_0 7 rfl rfl)
theorem dX4_fillSeeing_8 : decode cX4_fillSeeing 8 = .ok (.iaload, 1) := dk_46 (dk_at dksX4_fillSeeing_0 8 rfl rfl)
theorem dX4_fillSeeing_9 : decode cX4_fillSeeing 9 = .ok (.if_icmp .ge 81, 3) := dk_162 0 81 (dk_at dksX4_fillSeeing_0 9 rfl rfl)
theorem dX4_fillSeeing_12 : decode cX4_fillSeeing 12 = .ok (.iconst 0, 1) := dk_3 (dk_at dksX4_fillSeeing_0 12 rfl rfl)
theorem dX4_fillSeeing_13 : decode cX4_fillSeeing 13 = .ok (.istore_n 3, 1) := dk_62 (dk_at dksX4_fillSeeing_0 13 rfl rfl)
theorem dX4_fillSeeing_14 : decode cX4_fillSeeing 14 = .ok (.iload_n 3, 1) := dk_29 (dk_at dksX4_fillSeeing_0 14 rfl rfl)
theorem dX4_fillSeeing_15 : decode cX4_fillSeeing 15 = .ok (.aload_n 0, 1) := dk_42 (dk_at dksX4_fillSeeing_0 15 rfl rfl)
theorem dX4_fillSeeing_16 : decode cX4_fillSeeing 16 = .ok (.getfield 9, 3) := dk_180 0 9 (dk_at dksX4_fillSeeing_0 16 rfl rfl)
theorem dX4_fillSeeing_19 : decode cX4_fillSeeing 19 = .ok (.iconst 1, 1) := dk_4 (dk_at dksX4_fillSeeing_0 19 rfl rfl)
theorem dX4_fillSeeing_20 : decode cX4_fillSeeing 20 = .ok (.iaload, 1) := dk_46 (dk_at dksX4_fillSeeing_0 20 rfl rfl)
theorem dX4_fillSeeing_21 : decode cX4_fillSeeing 21 = .ok (.if_icmp .ge 63, 3) := dk_162 0 63 (dk_at dksX4_fillSeeing_0 21 rfl rfl)
theorem dX4_fillSeeing_24 : decode cX4_fillSeeing 24 = .ok (.aload_n 0, 1) := dk_42 (dk_at dksX4_fillSeeing_1 0 rfl rfl)
theorem dX4_fillSeeing_25 : decode cX4_fillSeeing 25 = .ok (.getfield 40, 3) := dk_180 0 40 (dk_at dksX4_fillSeeing_1 1 rfl rfl)
theorem dX4_fillSeeing_28 : decode cX4_fillSeeing 28 = .ok (.iconst 4, 1) := dk_7 (dk_at dksX4_fillSeeing_1 4 rfl rfl)
theorem dX4_fillSeeing_29 : decode cX4_fillSeeing 29 = .ok (.iload_n 2, 1) := dk_28 (dk_at dksX4_fillSeeing_1 5 rfl rfl)
theorem dX4_fillSeeing_30 : decode cX4_fillSeeing 30 = .ok (.imul, 1) := dk_104 (dk_at dksX4_fillSeeing_1 6 rfl rfl)
theorem dX4_fillSeeing_31 : decode cX4_fillSeeing 31 = .ok (.iload_n 3, 1) := dk_29 (dk_at dksX4_fillSeeing_1 7 rfl rfl)
theorem dX4_fillSeeing_32 : decode cX4_fillSeeing 32 = .ok (.iadd, 1) := dk_96 (dk_at dksX4_fillSeeing_1 8 rfl rfl)
theorem dX4_fillSeeing_33 : decode cX4_fillSeeing 33 = .ok (.aload_n 0, 1) := dk_42 (dk_at dksX4_fillSeeing_1 9 rfl rfl)
theorem dX4_fillSeeing_34 : decode cX4_fillSeeing 34 = .ok (.iload_n 2, 1) := dk_28 (dk_at dksX4_fillSeeing_1 10 rfl rfl)
theorem dX4_fillSeeing_35 : decode cX4_fillSeeing 35 = .ok (.iload_n 1, 1) := dk_27 (dk_at dksX4_fillSeeing_1 11 rfl rfl)
theorem dX4_fillSeeing_36 : decode cX4_fillSeeing 36 = .ok (.invokevirtual 297, 3) := dk_182 1 41 (dk_at dksX4_fillSeeing_1 12 rfl rfl)
theorem dX4_fillSeeing_39 : decode cX4_fillSeeing 39 = .ok (.ifCond .eq 37, 3) := dk_153 0 37 (dk_at dksX4_fillSeeing_1 15 rfl rfl)
theorem dX4_fillSeeing_42 : decode cX4_fillSeeing 42 = .ok (.aload_n 0, 1) := dk_42 (dk_at dksX4_fillSeeing_1 18 rfl rfl)
theorem dX4_fillSeeing_43 : decode cX4_fillSeeing 43 = .ok (.aload_n 0, 1) := dk_42 (dk_at dksX4_fillSeeing_1 19 rfl rfl)
theorem dX4_fillSeeing_44 : decode cX4_fillSeeing 44 = .ok (.getfield 34, 3) := dk_180 0 34 (dk_at dksX4_fillSeeing_1 20 rfl rfl)
theorem dX4_fillSeeing_47 : decode cX4_fillSeeing 47 = .ok (.bipush 40, 2) := dk_16 40 (dk_at dksX4_fillSeeing_2 0 rfl rfl)
theorem dX4_fillSeeing_49 : decode cX4_fillSeeing 49 = .ok (.iload_n 2, 1) := dk_28 (dk_at dksX4_fillSeeing_2 2 rfl rfl)
theorem dX4_fillSeeing_50 : decode cX4_fillSeeing 50 = .ok (.imul, 1) := dk_104 (dk_at dksX4_fillSeeing_2 3 rfl rfl)
theorem dX4_fillSeeing_51 : decode cX4_fillSeeing 51 = .ok (.iload_n 1, 1) := dk_27 (dk_at dksX4_fillSeeing_2 4 rfl rfl)
theorem dX4_fillSeeing_52 : decode cX4_fillSeeing 52 = .ok (.iadd, 1) := dk_96 (dk_at dksX4_fillSeeing_2 5 rfl rfl)
theorem dX4_fillSeeing_53 : decode cX4_fillSeeing 53 = .ok (.iaload, 1) := dk_46 (dk_at dksX4_fillSeeing_2 6 rfl rfl)
theorem dX4_fillSeeing_54 : decode cX4_fillSeeing 54 = .ok (.aload_n 0, 1) := dk_42 (dk_at dksX4_fillSeeing_2 7 rfl rfl)
theorem dX4_fillSeeing_55 : decode cX4_fillSeeing 55 = .ok (.getfield 37, 3) := dk_180 0 37 (dk_at dksX4_fillSeeing_2 8 rfl rfl)
theorem dX4_fillSeeing_58 : decode cX4_fillSeeing 58 = .ok (.bipush 40, 2) := dk_16 40 (dk_at dksX4_fillSeeing_2 11 rfl rfl)
theorem dX4_fillSeeing_60 : decode cX4_fillSeeing 60 = .ok (.iload_n 2, 1) := dk_28 (dk_at dksX4_fillSeeing_2 13 rfl rfl)
theorem dX4_fillSeeing_61 : decode cX4_fillSeeing 61 = .ok (.imul, 1) := dk_104 (dk_at dksX4_fillSeeing_2 14 rfl rfl)
theorem dX4_fillSeeing_62 : decode cX4_fillSeeing 62 = .ok (.iload_n 1, 1) := dk_27 (dk_at dksX4_fillSeeing_2 15 rfl rfl)
theorem dX4_fillSeeing_63 : decode cX4_fillSeeing 63 = .ok (.iadd, 1) := dk_96 (dk_at dksX4_fillSeeing_2 16 rfl rfl)
theorem dX4_fillSeeing_64 : decode cX4_fillSeeing 64 = .ok (.iaload, 1) := dk_46 (dk_at dksX4_fillSeeing_2 17 rfl rfl)
theorem dX4_fillSeeing_65 : decode cX4_fillSeeing 65 = .ok (.iload_n 3, 1) := dk_29 (dk_at dksX4_fillSeeing_2 18 rfl rfl)
theorem dX4_fillSeeing_66 : decode cX4_fillSeeing 66 = .ok (.invokevirtual 300, 3) := dk_182 1 44 (dk_at dksX4_fillSeeing_2 19 rfl rfl)
theorem dX4_fillSeeing_69 : decode cX4_fillSeeing 69 = .ok (.ifCond .eq 7, 3) := dk_153 0 7 (dk_at dksX4_fillSeeing_3 0 rfl rfl)
theorem dX4_fillSeeing_72 : decode cX4_fillSeeing 72 = .ok (.iconst 1, 1) := dk_4 (dk_at dksX4_fillSeeing_3 3 rfl rfl)
theorem dX4_fillSeeing_73 : decode cX4_fillSeeing 73 = .ok (.goto 4, 3) := dk_167 0 4 (dk_at dksX4_fillSeeing_3 4 rfl rfl)
theorem dX4_fillSeeing_76 : decode cX4_fillSeeing 76 = .ok (.iconst 0, 1) := dk_3 (dk_at dksX4_fillSeeing_3 7 rfl rfl)
theorem dX4_fillSeeing_77 : decode cX4_fillSeeing 77 = .ok (.bastore, 1) := dk_84 (dk_at dksX4_fillSeeing_3 8 rfl rfl)
theorem dX4_fillSeeing_78 : decode cX4_fillSeeing 78 = .ok (.iinc 3 1, 3) := dk_132 3 1 (dk_at dksX4_fillSeeing_3 9 rfl rfl)
theorem dX4_fillSeeing_81 : decode cX4_fillSeeing 81 = .ok (.goto (-67), 3) := dk_167 255 189 (dk_at dksX4_fillSeeing_3 12 rfl rfl)
theorem dX4_fillSeeing_84 : decode cX4_fillSeeing 84 = .ok (.iinc 2 1, 3) := dk_132 2 1 (dk_at dksX4_fillSeeing_3 15 rfl rfl)
theorem dX4_fillSeeing_87 : decode cX4_fillSeeing 87 = .ok (.goto (-85), 3) := dk_167 255 171 (dk_at dksX4_fillSeeing_3 18 rfl rfl)
theorem dX4_fillSeeing_90 : decode cX4_fillSeeing 90 = .ok (.return_, 1) := dk_177 (dk_at dksX4_fillSeeing_3 21 rfl rfl)
abbrev cX4_drawsMaybes : ByteArray := prog_19_method_50_code
def yX4_drawsMaybes : MethodName := ⟨RX4, "drawsMaybes", "()V"⟩
def dkwX4_drawsMaybes_4 : List UInt8 := [167, 0, 4, 3, 84, 132, 2, 1, 167, 255, 167, 132, 1, 1, 167, 255, 149, 177]
abbrev dktX4_drawsMaybes_4 : List UInt8 := dkwX4_drawsMaybes_4 ++ []
def dkwX4_drawsMaybes_3 : List UInt8 := [27, 104, 28, 96, 29, 153, 0, 21, 42, 182, 1, 83, 42, 27, 28, 5, 182, 1, 79, 162, 0, 7, 4]
abbrev dktX4_drawsMaybes_3 : List UInt8 := dkwX4_drawsMaybes_3 ++ dktX4_drawsMaybes_4
def dkwX4_drawsMaybes_2 : List UInt8 := [104, 42, 27, 28, 3, 182, 1, 79, 96, 51, 153, 0, 7, 4, 167, 0, 4, 3, 62, 42, 180, 0, 70, 7]
abbrev dktX4_drawsMaybes_2 : List UInt8 := dkwX4_drawsMaybes_2 ++ dktX4_drawsMaybes_3
def dkwX4_drawsMaybes_1 : List UInt8 := [42, 180, 1, 75, 153, 0, 37, 42, 27, 28, 4, 182, 1, 79, 8, 160, 0, 26, 42, 180, 0, 40, 7, 27]
abbrev dktX4_drawsMaybes_1 : List UInt8 := dkwX4_drawsMaybes_1 ++ dktX4_drawsMaybes_2
def dkwX4_drawsMaybes_0 : List UInt8 := [3, 60, 27, 42, 180, 0, 9, 5, 46, 162, 0, 103, 3, 61, 28, 42, 27, 7, 182, 1, 22, 162, 0, 85]
abbrev dktX4_drawsMaybes_0 : List UInt8 := dkwX4_drawsMaybes_0 ++ dktX4_drawsMaybes_1
theorem dksX4_drawsMaybes_0 : cX4_drawsMaybes.data.toList.drop 0 = dktX4_drawsMaybes_0 := by decide +kernel
theorem dksX4_drawsMaybes_1 : cX4_drawsMaybes.data.toList.drop 24 = dktX4_drawsMaybes_1 := dk_seg dksX4_drawsMaybes_0 24 rfl rfl
theorem dksX4_drawsMaybes_2 : cX4_drawsMaybes.data.toList.drop 48 = dktX4_drawsMaybes_2 := dk_seg dksX4_drawsMaybes_1 24 rfl rfl
theorem dksX4_drawsMaybes_3 : cX4_drawsMaybes.data.toList.drop 72 = dktX4_drawsMaybes_3 := dk_seg dksX4_drawsMaybes_2 24 rfl rfl
theorem dksX4_drawsMaybes_4 : cX4_drawsMaybes.data.toList.drop 95 = dktX4_drawsMaybes_4 := dk_seg dksX4_drawsMaybes_3 23 rfl rfl
theorem dX4_drawsMaybes_0 : decode cX4_drawsMaybes 0 = .ok (.iconst 0, 1) := dk_3 (dk_at dksX4_drawsMaybes_0 0 rfl rfl)
theorem dX4_drawsMaybes_1 : decode cX4_drawsMaybes 1 = .ok (.istore_n 1, 1) := dk_60 (dk_at dksX4_drawsMaybes_0 1 rfl rfl)
theorem dX4_drawsMaybes_2 : decode cX4_drawsMaybes 2 = .ok (.iload_n 1, 1) := dk_27 (dk_at dksX4_drawsMaybes_0 2 rfl rfl)
theorem dX4_drawsMaybes_3 : decode cX4_drawsMaybes 3 = .ok (.aload_n 0, 1) := dk_42 (dk_at dksX4_drawsMaybes_0 3 rfl rfl)
theorem dX4_drawsMaybes_4 : decode cX4_drawsMaybes 4 = .ok (.getfield 9, 3) := dk_180 0 9 (dk_at dksX4_drawsMaybes_0 4 rfl rfl)
theorem dX4_drawsMaybes_7 : decode cX4_drawsMaybes 7 = .ok (.iconst 2, 1) := dk_5 (dk_at dksX4_drawsMaybes_0 7 rfl rfl)
theorem dX4_drawsMaybes_8 : decode cX4_drawsMaybes 8 = .ok (.iaload, 1) := dk_46 (dk_at dksX4_drawsMaybes_0 8 rfl rfl)
theorem dX4_drawsMaybes_9 : decode cX4_drawsMaybes 9 = .ok (.if_icmp .ge 103, 3) := dk_162 0 103 (dk_at dksX4_drawsMaybes_0 9 rfl rfl)
theorem dX4_drawsMaybes_12 : decode cX4_drawsMaybes 12 = .ok (.iconst 0, 1) := dk_3 (dk_at dksX4_drawsMaybes_0 12 rfl rfl)
theorem dX4_drawsMaybes_13 : decode cX4_drawsMaybes 13 = .ok (.istore_n 2, 1) := dk_61 (dk_at dksX4_drawsMaybes_0 13 rfl rfl)
theorem dX4_drawsMaybes_14 : decode cX4_drawsMaybes 14 = .ok (.iload_n 2, 1) := dk_28 (dk_at dksX4_drawsMaybes_0 14 rfl rfl)
theorem dX4_drawsMaybes_15 : decode cX4_drawsMaybes 15 = .ok (.aload_n 0, 1) := dk_42 (dk_at dksX4_drawsMaybes_0 15 rfl rfl)
theorem dX4_drawsMaybes_16 : decode cX4_drawsMaybes 16 = .ok (.iload_n 1, 1) := dk_27 (dk_at dksX4_drawsMaybes_0 16 rfl rfl)
theorem dX4_drawsMaybes_17 : decode cX4_drawsMaybes 17 = .ok (.iconst 4, 1) := dk_7 (dk_at dksX4_drawsMaybes_0 17 rfl rfl)
theorem dX4_drawsMaybes_18 : decode cX4_drawsMaybes 18 = .ok (.invokevirtual 278, 3) := dk_182 1 22 (dk_at dksX4_drawsMaybes_0 18 rfl rfl)
theorem dX4_drawsMaybes_21 : decode cX4_drawsMaybes 21 = .ok (.if_icmp .ge 85, 3) := dk_162 0 85 (dk_at dksX4_drawsMaybes_0 21 rfl rfl)
theorem dX4_drawsMaybes_24 : decode cX4_drawsMaybes 24 = .ok (.aload_n 0, 1) := dk_42 (dk_at dksX4_drawsMaybes_1 0 rfl rfl)
theorem dX4_drawsMaybes_25 : decode cX4_drawsMaybes 25 = .ok (.getfield 331, 3) := dk_180 1 75 (dk_at dksX4_drawsMaybes_1 1 rfl rfl)
theorem dX4_drawsMaybes_28 : decode cX4_drawsMaybes 28 = .ok (.ifCond .eq 37, 3) := dk_153 0 37 (dk_at dksX4_drawsMaybes_1 4 rfl rfl)
theorem dX4_drawsMaybes_31 : decode cX4_drawsMaybes 31 = .ok (.aload_n 0, 1) := dk_42 (dk_at dksX4_drawsMaybes_1 7 rfl rfl)
theorem dX4_drawsMaybes_32 : decode cX4_drawsMaybes 32 = .ok (.iload_n 1, 1) := dk_27 (dk_at dksX4_drawsMaybes_1 8 rfl rfl)
theorem dX4_drawsMaybes_33 : decode cX4_drawsMaybes 33 = .ok (.iload_n 2, 1) := dk_28 (dk_at dksX4_drawsMaybes_1 9 rfl rfl)
theorem dX4_drawsMaybes_34 : decode cX4_drawsMaybes 34 = .ok (.iconst 1, 1) := dk_4 (dk_at dksX4_drawsMaybes_1 10 rfl rfl)
theorem dX4_drawsMaybes_35 : decode cX4_drawsMaybes 35 = .ok (.invokevirtual 335, 3) := dk_182 1 79 (dk_at dksX4_drawsMaybes_1 11 rfl rfl)
theorem dX4_drawsMaybes_38 : decode cX4_drawsMaybes 38 = .ok (.iconst 5, 1) := dk_8 (dk_at dksX4_drawsMaybes_1 14 rfl rfl)
theorem dX4_drawsMaybes_39 : decode cX4_drawsMaybes 39 = .ok (.if_icmp .ne 26, 3) := dk_160 0 26 (dk_at dksX4_drawsMaybes_1 15 rfl rfl)
theorem dX4_drawsMaybes_42 : decode cX4_drawsMaybes 42 = .ok (.aload_n 0, 1) := dk_42 (dk_at dksX4_drawsMaybes_1 18 rfl rfl)
theorem dX4_drawsMaybes_43 : decode cX4_drawsMaybes 43 = .ok (.getfield 40, 3) := dk_180 0 40 (dk_at dksX4_drawsMaybes_1 19 rfl rfl)
theorem dX4_drawsMaybes_46 : decode cX4_drawsMaybes 46 = .ok (.iconst 4, 1) := dk_7 (dk_at dksX4_drawsMaybes_1 22 rfl rfl)
theorem dX4_drawsMaybes_47 : decode cX4_drawsMaybes 47 = .ok (.iload_n 1, 1) := dk_27 (dk_at dksX4_drawsMaybes_1 23 rfl rfl)
theorem dX4_drawsMaybes_48 : decode cX4_drawsMaybes 48 = .ok (.imul, 1) := dk_104 (dk_at dksX4_drawsMaybes_2 0 rfl rfl)
theorem dX4_drawsMaybes_49 : decode cX4_drawsMaybes 49 = .ok (.aload_n 0, 1) := dk_42 (dk_at dksX4_drawsMaybes_2 1 rfl rfl)
theorem dX4_drawsMaybes_50 : decode cX4_drawsMaybes 50 = .ok (.iload_n 1, 1) := dk_27 (dk_at dksX4_drawsMaybes_2 2 rfl rfl)
theorem dX4_drawsMaybes_51 : decode cX4_drawsMaybes 51 = .ok (.iload_n 2, 1) := dk_28 (dk_at dksX4_drawsMaybes_2 3 rfl rfl)
theorem dX4_drawsMaybes_52 : decode cX4_drawsMaybes 52 = .ok (.iconst 0, 1) := dk_3 (dk_at dksX4_drawsMaybes_2 4 rfl rfl)
theorem dX4_drawsMaybes_53 : decode cX4_drawsMaybes 53 = .ok (.invokevirtual 335, 3) := dk_182 1 79 (dk_at dksX4_drawsMaybes_2 5 rfl rfl)
theorem dX4_drawsMaybes_56 : decode cX4_drawsMaybes 56 = .ok (.iadd, 1) := dk_96 (dk_at dksX4_drawsMaybes_2 8 rfl rfl)
theorem dX4_drawsMaybes_57 : decode cX4_drawsMaybes 57 = .ok (.baload, 1) := dk_51 (dk_at dksX4_drawsMaybes_2 9 rfl rfl)
theorem dX4_drawsMaybes_58 : decode cX4_drawsMaybes 58 = .ok (.ifCond .eq 7, 3) := dk_153 0 7 (dk_at dksX4_drawsMaybes_2 10 rfl rfl)
theorem dX4_drawsMaybes_61 : decode cX4_drawsMaybes 61 = .ok (.iconst 1, 1) := dk_4 (dk_at dksX4_drawsMaybes_2 13 rfl rfl)
theorem dX4_drawsMaybes_62 : decode cX4_drawsMaybes 62 = .ok (.goto 4, 3) := dk_167 0 4 (dk_at dksX4_drawsMaybes_2 14 rfl rfl)
theorem dX4_drawsMaybes_65 : decode cX4_drawsMaybes 65 = .ok (.iconst 0, 1) := dk_3 (dk_at dksX4_drawsMaybes_2 17 rfl rfl)
theorem dX4_drawsMaybes_66 : decode cX4_drawsMaybes 66 = .ok (.istore_n 3, 1) := dk_62 (dk_at dksX4_drawsMaybes_2 18 rfl rfl)
theorem dX4_drawsMaybes_67 : decode cX4_drawsMaybes 67 = .ok (.aload_n 0, 1) := dk_42 (dk_at dksX4_drawsMaybes_2 19 rfl rfl)
theorem dX4_drawsMaybes_68 : decode cX4_drawsMaybes 68 = .ok (.getfield 70, 3) := dk_180 0 70 (dk_at dksX4_drawsMaybes_2 20 rfl rfl)
theorem dX4_drawsMaybes_71 : decode cX4_drawsMaybes 71 = .ok (.iconst 4, 1) := dk_7 (dk_at dksX4_drawsMaybes_2 23 rfl rfl)
theorem dX4_drawsMaybes_72 : decode cX4_drawsMaybes 72 = .ok (.iload_n 1, 1) := dk_27 (dk_at dksX4_drawsMaybes_3 0 rfl rfl)
theorem dX4_drawsMaybes_73 : decode cX4_drawsMaybes 73 = .ok (.imul, 1) := dk_104 (dk_at dksX4_drawsMaybes_3 1 rfl rfl)
theorem dX4_drawsMaybes_74 : decode cX4_drawsMaybes 74 = .ok (.iload_n 2, 1) := dk_28 (dk_at dksX4_drawsMaybes_3 2 rfl rfl)
theorem dX4_drawsMaybes_75 : decode cX4_drawsMaybes 75 = .ok (.iadd, 1) := dk_96 (dk_at dksX4_drawsMaybes_3 3 rfl rfl)
theorem dX4_drawsMaybes_76 : decode cX4_drawsMaybes 76 = .ok (.iload_n 3, 1) := dk_29 (dk_at dksX4_drawsMaybes_3 4 rfl rfl)
theorem dX4_drawsMaybes_77 : decode cX4_drawsMaybes 77 = .ok (.ifCond .eq 21, 3) := dk_153 0 21 (dk_at dksX4_drawsMaybes_3 5 rfl rfl)
theorem dX4_drawsMaybes_80 : decode cX4_drawsMaybes 80 = .ok (.aload_n 0, 1) := dk_42 (dk_at dksX4_drawsMaybes_3 8 rfl rfl)
theorem dX4_drawsMaybes_81 : decode cX4_drawsMaybes 81 = .ok (.invokevirtual 339, 3) := dk_182 1 83 (dk_at dksX4_drawsMaybes_3 9 rfl rfl)
theorem dX4_drawsMaybes_84 : decode cX4_drawsMaybes 84 = .ok (.aload_n 0, 1) := dk_42 (dk_at dksX4_drawsMaybes_3 12 rfl rfl)
theorem dX4_drawsMaybes_85 : decode cX4_drawsMaybes 85 = .ok (.iload_n 1, 1) := dk_27 (dk_at dksX4_drawsMaybes_3 13 rfl rfl)
theorem dX4_drawsMaybes_86 : decode cX4_drawsMaybes 86 = .ok (.iload_n 2, 1) := dk_28 (dk_at dksX4_drawsMaybes_3 14 rfl rfl)
theorem dX4_drawsMaybes_87 : decode cX4_drawsMaybes 87 = .ok (.iconst 2, 1) := dk_5 (dk_at dksX4_drawsMaybes_3 15 rfl rfl)
theorem dX4_drawsMaybes_88 : decode cX4_drawsMaybes 88 = .ok (.invokevirtual 335, 3) := dk_182 1 79 (dk_at dksX4_drawsMaybes_3 16 rfl rfl)
theorem dX4_drawsMaybes_91 : decode cX4_drawsMaybes 91 = .ok (.if_icmp .ge 7, 3) := dk_162 0 7 (dk_at dksX4_drawsMaybes_3 19 rfl rfl)
theorem dX4_drawsMaybes_94 : decode cX4_drawsMaybes 94 = .ok (.iconst 1, 1) := dk_4 (dk_at dksX4_drawsMaybes_3 22 rfl rfl)
theorem dX4_drawsMaybes_95 : decode cX4_drawsMaybes 95 = .ok (.goto 4, 3) := dk_167 0 4 (dk_at dksX4_drawsMaybes_4 0 rfl rfl)
theorem dX4_drawsMaybes_98 : decode cX4_drawsMaybes 98 = .ok (.iconst 0, 1) := dk_3 (dk_at dksX4_drawsMaybes_4 3 rfl rfl)
theorem dX4_drawsMaybes_99 : decode cX4_drawsMaybes 99 = .ok (.bastore, 1) := dk_84 (dk_at dksX4_drawsMaybes_4 4 rfl rfl)
theorem dX4_drawsMaybes_100 : decode cX4_drawsMaybes 100 = .ok (.iinc 2 1, 3) := dk_132 2 1 (dk_at dksX4_drawsMaybes_4 5 rfl rfl)
theorem dX4_drawsMaybes_103 : decode cX4_drawsMaybes 103 = .ok (.goto (-89), 3) := dk_167 255 167 (dk_at dksX4_drawsMaybes_4 8 rfl rfl)
theorem dX4_drawsMaybes_106 : decode cX4_drawsMaybes 106 = .ok (.iinc 1 1, 3) := dk_132 1 1 (dk_at dksX4_drawsMaybes_4 11 rfl rfl)
theorem dX4_drawsMaybes_109 : decode cX4_drawsMaybes 109 = .ok (.goto (-107), 3) := dk_167 255 149 (dk_at dksX4_drawsMaybes_4 14 rfl rfl)
theorem dX4_drawsMaybes_112 : decode cX4_drawsMaybes 112 = .ok (.return_, 1) := dk_177 (dk_at dksX4_drawsMaybes_4 17 rfl rfl)
abbrev cX4_lookOf : ByteArray := prog_19_method_49_code
def yX4_lookOf : MethodName := ⟨RX4, "lookOf", "(III)I"⟩
def dkwX4_lookOf_0 : List UInt8 := [42, 27, 16, 17, 7, 28, 104, 96, 29, 96, 182, 1, 22, 172]
abbrev dktX4_lookOf_0 : List UInt8 := dkwX4_lookOf_0 ++ []
theorem dksX4_lookOf_0 : cX4_lookOf.data.toList.drop 0 = dktX4_lookOf_0 := by decide +kernel
theorem dX4_lookOf_0 : decode cX4_lookOf 0 = .ok (.aload_n 0, 1) := dk_42 (dk_at dksX4_lookOf_0 0 rfl rfl)
theorem dX4_lookOf_1 : decode cX4_lookOf 1 = .ok (.iload_n 1, 1) := dk_27 (dk_at dksX4_lookOf_0 1 rfl rfl)
theorem dX4_lookOf_2 : decode cX4_lookOf 2 = .ok (.bipush 17, 2) := dk_16 17 (dk_at dksX4_lookOf_0 2 rfl rfl)
theorem dX4_lookOf_4 : decode cX4_lookOf 4 = .ok (.iconst 4, 1) := dk_7 (dk_at dksX4_lookOf_0 4 rfl rfl)
theorem dX4_lookOf_5 : decode cX4_lookOf 5 = .ok (.iload_n 2, 1) := dk_28 (dk_at dksX4_lookOf_0 5 rfl rfl)
theorem dX4_lookOf_6 : decode cX4_lookOf 6 = .ok (.imul, 1) := dk_104 (dk_at dksX4_lookOf_0 6 rfl rfl)
theorem dX4_lookOf_7 : decode cX4_lookOf 7 = .ok (.iadd, 1) := dk_96 (dk_at dksX4_lookOf_0 7 rfl rfl)
theorem dX4_lookOf_8 : decode cX4_lookOf 8 = .ok (.iload_n 3, 1) := dk_29 (dk_at dksX4_lookOf_0 8 rfl rfl)
theorem dX4_lookOf_9 : decode cX4_lookOf 9 = .ok (.iadd, 1) := dk_96 (dk_at dksX4_lookOf_0 9 rfl rfl)
theorem dX4_lookOf_10 : decode cX4_lookOf 10 = .ok (.invokevirtual 278, 3) := dk_182 1 22 (dk_at dksX4_lookOf_0 10 rfl rfl)
theorem dX4_lookOf_13 : decode cX4_lookOf 13 = .ok (.ireturn, 1) := dk_172 (dk_at dksX4_lookOf_0 13 rfl rfl)
abbrev cX4_draw : ByteArray := prog_19_method_47_code
def yX4_draw : MethodName := ⟨RX4, "draw", "()I"⟩
def dkwX4_draw_1 : List UInt8 := [20, 1, 71, 109, 20, 1, 73, 113, 136, 172]
abbrev dktX4_draw_1 : List UInt8 := dkwX4_draw_1 ++ []
def dkwX4_draw_0 : List UInt8 := [42, 20, 1, 61, 42, 180, 1, 63, 105, 20, 1, 67, 97, 20, 1, 69, 113, 181, 1, 63, 42, 180, 1, 63]
abbrev dktX4_draw_0 : List UInt8 := dkwX4_draw_0 ++ dktX4_draw_1
theorem dksX4_draw_0 : cX4_draw.data.toList.drop 0 = dktX4_draw_0 := by decide +kernel
theorem dksX4_draw_1 : cX4_draw.data.toList.drop 24 = dktX4_draw_1 := dk_seg dksX4_draw_0 24 rfl rfl
theorem dX4_draw_0 : decode cX4_draw 0 = .ok (.aload_n 0, 1) := dk_42 (dk_at dksX4_draw_0 0 rfl rfl)
theorem dX4_draw_1 : decode cX4_draw 1 = .ok (.ldc2_w 317, 3) := dk_20 1 61 (dk_at dksX4_draw_0 1 rfl rfl)
theorem dX4_draw_4 : decode cX4_draw 4 = .ok (.aload_n 0, 1) := dk_42 (dk_at dksX4_draw_0 4 rfl rfl)
theorem dX4_draw_5 : decode cX4_draw 5 = .ok (.getfield 319, 3) := dk_180 1 63 (dk_at dksX4_draw_0 5 rfl rfl)
theorem dX4_draw_8 : decode cX4_draw 8 = .ok (.lmul, 1) := dk_105 (dk_at dksX4_draw_0 8 rfl rfl)
theorem dX4_draw_9 : decode cX4_draw 9 = .ok (.ldc2_w 323, 3) := dk_20 1 67 (dk_at dksX4_draw_0 9 rfl rfl)
theorem dX4_draw_12 : decode cX4_draw 12 = .ok (.ladd, 1) := dk_97 (dk_at dksX4_draw_0 12 rfl rfl)
theorem dX4_draw_13 : decode cX4_draw 13 = .ok (.ldc2_w 325, 3) := dk_20 1 69 (dk_at dksX4_draw_0 13 rfl rfl)
theorem dX4_draw_16 : decode cX4_draw 16 = .ok (.lrem, 1) := dk_113 (dk_at dksX4_draw_0 16 rfl rfl)
theorem dX4_draw_17 : decode cX4_draw 17 = .ok (.putfield 319, 3) := dk_181 1 63 (dk_at dksX4_draw_0 17 rfl rfl)
theorem dX4_draw_20 : decode cX4_draw 20 = .ok (.aload_n 0, 1) := dk_42 (dk_at dksX4_draw_0 20 rfl rfl)
theorem dX4_draw_21 : decode cX4_draw 21 = .ok (.getfield 319, 3) := dk_180 1 63 (dk_at dksX4_draw_0 21 rfl rfl)
theorem dX4_draw_24 : decode cX4_draw 24 = .ok (.ldc2_w 327, 3) := dk_20 1 71 (dk_at dksX4_draw_1 0 rfl rfl)
theorem dX4_draw_27 : decode cX4_draw 27 = .ok (.ldiv, 1) := dk_109 (dk_at dksX4_draw_1 3 rfl rfl)
theorem dX4_draw_28 : decode cX4_draw 28 = .ok (.ldc2_w 329, 3) := dk_20 1 73 (dk_at dksX4_draw_1 4 rfl rfl)
theorem dX4_draw_31 : decode cX4_draw 31 = .ok (.lrem, 1) := dk_113 (dk_at dksX4_draw_1 7 rfl rfl)
theorem dX4_draw_32 : decode cX4_draw 32 = .ok (.l2i, 1) := dk_136 (dk_at dksX4_draw_1 8 rfl rfl)
theorem dX4_draw_33 : decode cX4_draw 33 = .ok (.ireturn, 1) := dk_172 (dk_at dksX4_draw_1 9 rfl rfl)
abbrev cX4_settles : ByteArray := prog_19_method_53_code
def yX4_settles : MethodName := ⟨RX4, "settles", "(I)V"⟩
def dkwX4_settles_4 : List UInt8 := [3, 61, 132, 4, 1, 167, 255, 180, 132, 3, 1, 167, 255, 161, 167, 255, 150, 177]
abbrev dktX4_settles_4 : List UInt8 := dkwX4_settles_4 ++ []
def dkwX4_settles_3 : List UInt8 := [79, 28, 154, 0, 18, 42, 180, 0, 67, 7, 29, 104, 21, 4, 96, 46, 2, 159, 0, 7, 4, 167, 0, 4]
abbrev dktX4_settles_3 : List UInt8 := dkwX4_settles_3 ++ dktX4_settles_4
def dkwX4_settles_2 : List UInt8 := [159, 0, 6, 167, 0, 47, 42, 180, 0, 67, 7, 29, 104, 21, 4, 96, 42, 29, 21, 4, 27, 182, 1, 92]
abbrev dktX4_settles_2 : List UInt8 := dkwX4_settles_2 ++ dktX4_settles_3
def dkwX4_settles_1 : List UInt8 := [21, 4, 42, 180, 0, 9, 4, 46, 162, 0, 71, 42, 180, 0, 67, 7, 29, 104, 21, 4, 96, 46, 2]
abbrev dktX4_settles_1 : List UInt8 := dkwX4_settles_1 ++ dktX4_settles_2
def dkwX4_settles_0 : List UInt8 := [4, 61, 28, 153, 0, 108, 3, 61, 3, 62, 29, 42, 180, 0, 9, 5, 46, 162, 0, 91, 3, 54, 4]
abbrev dktX4_settles_0 : List UInt8 := dkwX4_settles_0 ++ dktX4_settles_1
theorem dksX4_settles_0 : cX4_settles.data.toList.drop 0 = dktX4_settles_0 := by decide +kernel
theorem dksX4_settles_1 : cX4_settles.data.toList.drop 23 = dktX4_settles_1 := dk_seg dksX4_settles_0 23 rfl rfl
theorem dksX4_settles_2 : cX4_settles.data.toList.drop 46 = dktX4_settles_2 := dk_seg dksX4_settles_1 23 rfl rfl
theorem dksX4_settles_3 : cX4_settles.data.toList.drop 70 = dktX4_settles_3 := dk_seg dksX4_settles_2 24 rfl rfl
theorem dksX4_settles_4 : cX4_settles.data.toList.drop 94 = dktX4_settles_4 := dk_seg dksX4_settles_3 24 rfl rfl
theorem dX4_settles_0 : decode cX4_settles 0 = .ok (.iconst 1, 1) := dk_4 (dk_at dksX4_settles_0 0 rfl rfl)
theorem dX4_settles_1 : decode cX4_settles 1 = .ok (.istore_n 2, 1) := dk_61 (dk_at dksX4_settles_0 1 rfl rfl)
theorem dX4_settles_2 : decode cX4_settles 2 = .ok (.iload_n 2, 1) := dk_28 (dk_at dksX4_settles_0 2 rfl rfl)
theorem dX4_settles_3 : decode cX4_settles 3 = .ok (.ifCond .eq 108, 3) := dk_153 0 108 (dk_at dksX4_settles_0 3 rfl rfl)
theorem dX4_settles_6 : decode cX4_settles 6 = .ok (.iconst 0, 1) := dk_3 (dk_at dksX4_settles_0 6 rfl rfl)
theorem dX4_settles_7 : decode cX4_settles 7 = .ok (.istore_n 2, 1) := dk_61 (dk_at dksX4_settles_0 7 rfl rfl)
theorem dX4_settles_8 : decode cX4_settles 8 = .ok (.iconst 0, 1) := dk_3 (dk_at dksX4_settles_0 8 rfl rfl)
theorem dX4_settles_9 : decode cX4_settles 9 = .ok (.istore_n 3, 1) := dk_62 (dk_at dksX4_settles_0 9 rfl rfl)
theorem dX4_settles_10 : decode cX4_settles 10 = .ok (.iload_n 3, 1) := dk_29 (dk_at dksX4_settles_0 10 rfl rfl)
theorem dX4_settles_11 : decode cX4_settles 11 = .ok (.aload_n 0, 1) := dk_42 (dk_at dksX4_settles_0 11 rfl rfl)
theorem dX4_settles_12 : decode cX4_settles 12 = .ok (.getfield 9, 3) := dk_180 0 9 (dk_at dksX4_settles_0 12 rfl rfl)
theorem dX4_settles_15 : decode cX4_settles 15 = .ok (.iconst 2, 1) := dk_5 (dk_at dksX4_settles_0 15 rfl rfl)
theorem dX4_settles_16 : decode cX4_settles 16 = .ok (.iaload, 1) := dk_46 (dk_at dksX4_settles_0 16 rfl rfl)
theorem dX4_settles_17 : decode cX4_settles 17 = .ok (.if_icmp .ge 91, 3) := dk_162 0 91 (dk_at dksX4_settles_0 17 rfl rfl)
theorem dX4_settles_20 : decode cX4_settles 20 = .ok (.iconst 0, 1) := dk_3 (dk_at dksX4_settles_0 20 rfl rfl)
theorem dX4_settles_21 : decode cX4_settles 21 = .ok (.istore 4, 2) := dk_54 4 (dk_at dksX4_settles_0 21 rfl rfl)
theorem dX4_settles_23 : decode cX4_settles 23 = .ok (.iload 4, 2) := dk_21 4 (dk_at dksX4_settles_1 0 rfl rfl)
theorem dX4_settles_25 : decode cX4_settles 25 = .ok (.aload_n 0, 1) := dk_42 (dk_at dksX4_settles_1 2 rfl rfl)
theorem dX4_settles_26 : decode cX4_settles 26 = .ok (.getfield 9, 3) := dk_180 0 9 (dk_at dksX4_settles_1 3 rfl rfl)
theorem dX4_settles_29 : decode cX4_settles 29 = .ok (.iconst 1, 1) := dk_4 (dk_at dksX4_settles_1 6 rfl rfl)
theorem dX4_settles_30 : decode cX4_settles 30 = .ok (.iaload, 1) := dk_46 (dk_at dksX4_settles_1 7 rfl rfl)
theorem dX4_settles_31 : decode cX4_settles 31 = .ok (.if_icmp .ge 71, 3) := dk_162 0 71 (dk_at dksX4_settles_1 8 rfl rfl)
theorem dX4_settles_34 : decode cX4_settles 34 = .ok (.aload_n 0, 1) := dk_42 (dk_at dksX4_settles_1 11 rfl rfl)
theorem dX4_settles_35 : decode cX4_settles 35 = .ok (.getfield 67, 3) := dk_180 0 67 (dk_at dksX4_settles_1 12 rfl rfl)
theorem dX4_settles_38 : decode cX4_settles 38 = .ok (.iconst 4, 1) := dk_7 (dk_at dksX4_settles_1 15 rfl rfl)
theorem dX4_settles_39 : decode cX4_settles 39 = .ok (.iload_n 3, 1) := dk_29 (dk_at dksX4_settles_1 16 rfl rfl)
theorem dX4_settles_40 : decode cX4_settles 40 = .ok (.imul, 1) := dk_104 (dk_at dksX4_settles_1 17 rfl rfl)
theorem dX4_settles_41 : decode cX4_settles 41 = .ok (.iload 4, 2) := dk_21 4 (dk_at dksX4_settles_1 18 rfl rfl)
theorem dX4_settles_43 : decode cX4_settles 43 = .ok (.iadd, 1) := dk_96 (dk_at dksX4_settles_1 20 rfl rfl)
theorem dX4_settles_44 : decode cX4_settles 44 = .ok (.iaload, 1) := dk_46 (dk_at dksX4_settles_1 21 rfl rfl)
theorem dX4_settles_45 : decode cX4_settles 45 = .ok (.iconst (-1), 1) := dk_2 (dk_at dksX4_settles_1 22 rfl rfl)
theorem dX4_settles_46 : decode cX4_settles 46 = .ok (.if_icmp .eq 6, 3) := dk_159 0 6 (dk_at dksX4_settles_2 0 rfl rfl)
theorem dX4_settles_49 : decode cX4_settles 49 = .ok (.goto 47, 3) := dk_167 0 47 (dk_at dksX4_settles_2 3 rfl rfl)
theorem dX4_settles_52 : decode cX4_settles 52 = .ok (.aload_n 0, 1) := dk_42 (dk_at dksX4_settles_2 6 rfl rfl)
theorem dX4_settles_53 : decode cX4_settles 53 = .ok (.getfield 67, 3) := dk_180 0 67 (dk_at dksX4_settles_2 7 rfl rfl)
theorem dX4_settles_56 : decode cX4_settles 56 = .ok (.iconst 4, 1) := dk_7 (dk_at dksX4_settles_2 10 rfl rfl)
theorem dX4_settles_57 : decode cX4_settles 57 = .ok (.iload_n 3, 1) := dk_29 (dk_at dksX4_settles_2 11 rfl rfl)
theorem dX4_settles_58 : decode cX4_settles 58 = .ok (.imul, 1) := dk_104 (dk_at dksX4_settles_2 12 rfl rfl)
theorem dX4_settles_59 : decode cX4_settles 59 = .ok (.iload 4, 2) := dk_21 4 (dk_at dksX4_settles_2 13 rfl rfl)
theorem dX4_settles_61 : decode cX4_settles 61 = .ok (.iadd, 1) := dk_96 (dk_at dksX4_settles_2 15 rfl rfl)
theorem dX4_settles_62 : decode cX4_settles 62 = .ok (.aload_n 0, 1) := dk_42 (dk_at dksX4_settles_2 16 rfl rfl)
theorem dX4_settles_63 : decode cX4_settles 63 = .ok (.iload_n 3, 1) := dk_29 (dk_at dksX4_settles_2 17 rfl rfl)
theorem dX4_settles_64 : decode cX4_settles 64 = .ok (.iload 4, 2) := dk_21 4 (dk_at dksX4_settles_2 18 rfl rfl)
theorem dX4_settles_66 : decode cX4_settles 66 = .ok (.iload_n 1, 1) := dk_27 (dk_at dksX4_settles_2 20 rfl rfl)
theorem dX4_settles_67 : decode cX4_settles 67 = .ok (.invokevirtual 348, 3) := dk_182 1 92 (dk_at dksX4_settles_2 21 rfl rfl)
theorem dX4_settles_70 : decode cX4_settles 70 = .ok (.iastore, 1) := dk_79 (dk_at dksX4_settles_3 0 rfl rfl)
theorem dX4_settles_71 : decode cX4_settles 71 = .ok (.iload_n 2, 1) := dk_28 (dk_at dksX4_settles_3 1 rfl rfl)
theorem dX4_settles_72 : decode cX4_settles 72 = .ok (.ifCond .ne 18, 3) := dk_154 0 18 (dk_at dksX4_settles_3 2 rfl rfl)
theorem dX4_settles_75 : decode cX4_settles 75 = .ok (.aload_n 0, 1) := dk_42 (dk_at dksX4_settles_3 5 rfl rfl)
theorem dX4_settles_76 : decode cX4_settles 76 = .ok (.getfield 67, 3) := dk_180 0 67 (dk_at dksX4_settles_3 6 rfl rfl)
theorem dX4_settles_79 : decode cX4_settles 79 = .ok (.iconst 4, 1) := dk_7 (dk_at dksX4_settles_3 9 rfl rfl)
theorem dX4_settles_80 : decode cX4_settles 80 = .ok (.iload_n 3, 1) := dk_29 (dk_at dksX4_settles_3 10 rfl rfl)
theorem dX4_settles_81 : decode cX4_settles 81 = .ok (.imul, 1) := dk_104 (dk_at dksX4_settles_3 11 rfl rfl)
theorem dX4_settles_82 : decode cX4_settles 82 = .ok (.iload 4, 2) := dk_21 4 (dk_at dksX4_settles_3 12 rfl rfl)
theorem dX4_settles_84 : decode cX4_settles 84 = .ok (.iadd, 1) := dk_96 (dk_at dksX4_settles_3 14 rfl rfl)
theorem dX4_settles_85 : decode cX4_settles 85 = .ok (.iaload, 1) := dk_46 (dk_at dksX4_settles_3 15 rfl rfl)
theorem dX4_settles_86 : decode cX4_settles 86 = .ok (.iconst (-1), 1) := dk_2 (dk_at dksX4_settles_3 16 rfl rfl)
theorem dX4_settles_87 : decode cX4_settles 87 = .ok (.if_icmp .eq 7, 3) := dk_159 0 7 (dk_at dksX4_settles_3 17 rfl rfl)
theorem dX4_settles_90 : decode cX4_settles 90 = .ok (.iconst 1, 1) := dk_4 (dk_at dksX4_settles_3 20 rfl rfl)
theorem dX4_settles_91 : decode cX4_settles 91 = .ok (.goto 4, 3) := dk_167 0 4 (dk_at dksX4_settles_3 21 rfl rfl)
theorem dX4_settles_94 : decode cX4_settles 94 = .ok (.iconst 0, 1) := dk_3 (dk_at dksX4_settles_4 0 rfl rfl)
theorem dX4_settles_95 : decode cX4_settles 95 = .ok (.istore_n 2, 1) := dk_61 (dk_at dksX4_settles_4 1 rfl rfl)
theorem dX4_settles_96 : decode cX4_settles 96 = .ok (.iinc 4 1, 3) := dk_132 4 1 (dk_at dksX4_settles_4 2 rfl rfl)
theorem dX4_settles_99 : decode cX4_settles 99 = .ok (.goto (-76), 3) := dk_167 255 180 (dk_at dksX4_settles_4 5 rfl rfl)
theorem dX4_settles_102 : decode cX4_settles 102 = .ok (.iinc 3 1, 3) := dk_132 3 1 (dk_at dksX4_settles_4 8 rfl rfl)
theorem dX4_settles_105 : decode cX4_settles 105 = .ok (.goto (-95), 3) := dk_167 255 161 (dk_at dksX4_settles_4 11 rfl rfl)
theorem dX4_settles_108 : decode cX4_settles 108 = .ok (.goto (-106), 3) := dk_167 255 150 (dk_at dksX4_settles_4 14 rfl rfl)
theorem dX4_settles_111 : decode cX4_settles 111 = .ok (.return_, 1) := dk_177 (dk_at dksX4_settles_4 17 rfl rfl)
abbrev cX4_settled : ByteArray := prog_19_method_52_code
def yX4_settled : MethodName := ⟨RX4, "settled", "(III)I"⟩
def dkwX4_settled_3 : List UInt8 := [2, 167, 0, 5, 21, 4, 54, 4, 132, 5, 1, 167, 255, 194, 21, 4, 172]
abbrev dktX4_settled_3 : List UInt8 := dkwX4_settled_3 ++ []
def dkwX4_settled_2 : List UInt8 := [29, 182, 1, 89, 167, 0, 4, 3, 54, 6, 21, 6, 4, 160, 0, 5, 4, 172, 21, 6, 2, 160, 0, 7]
abbrev dktX4_settled_2 : List UInt8 := dkwX4_settled_2 ++ dktX4_settled_3
def dkwX4_settled_1 : List UInt8 := [27, 7, 182, 1, 22, 162, 0, 57, 42, 27, 21, 5, 3, 182, 1, 79, 28, 160, 0, 14, 42, 27, 21, 5]
abbrev dktX4_settled_1 : List UInt8 := dkwX4_settled_1 ++ dktX4_settled_2
def dkwX4_settled_0 : List UInt8 := [42, 180, 0, 40, 7, 27, 104, 28, 96, 51, 154, 0, 5, 3, 172, 3, 54, 4, 3, 54, 5, 21, 5, 42]
abbrev dktX4_settled_0 : List UInt8 := dkwX4_settled_0 ++ dktX4_settled_1
theorem dksX4_settled_0 : cX4_settled.data.toList.drop 0 = dktX4_settled_0 := by decide +kernel
theorem dksX4_settled_1 : cX4_settled.data.toList.drop 24 = dktX4_settled_1 := dk_seg dksX4_settled_0 24 rfl rfl
theorem dksX4_settled_2 : cX4_settled.data.toList.drop 48 = dktX4_settled_2 := dk_seg dksX4_settled_1 24 rfl rfl
theorem dksX4_settled_3 : cX4_settled.data.toList.drop 72 = dktX4_settled_3 := dk_seg dksX4_settled_2 24 rfl rfl
theorem dX4_settled_0 : decode cX4_settled 0 = .ok (.aload_n 0, 1) := dk_42 (dk_at dksX4_settled_0 0 rfl rfl)
theorem dX4_settled_1 : decode cX4_settled 1 = .ok (.getfield 40, 3) := dk_180 0 40 (dk_at dksX4_settled_0 1 rfl rfl)
theorem dX4_settled_4 : decode cX4_settled 4 = .ok (.iconst 4, 1) := dk_7 (dk_at dksX4_settled_0 4 rfl rfl)
theorem dX4_settled_5 : decode cX4_settled 5 = .ok (.iload_n 1, 1) := dk_27 (dk_at dksX4_settled_0 5 rfl rfl)
theorem dX4_settled_6 : decode cX4_settled 6 = .ok (.imul, 1) := dk_104 (dk_at dksX4_settled_0 6 rfl rfl)
theorem dX4_settled_7 : decode cX4_settled 7 = .ok (.iload_n 2, 1) := dk_28 (dk_at dksX4_settled_0 7 rfl rfl)
theorem dX4_settled_8 : decode cX4_settled 8 = .ok (.iadd, 1) := dk_96 (dk_at dksX4_settled_0 8 rfl rfl)
theorem dX4_settled_9 : decode cX4_settled 9 = .ok (.baload, 1) := dk_51 (dk_at dksX4_settled_0 9 rfl rfl)
theorem dX4_settled_10 : decode cX4_settled 10 = .ok (.ifCond .ne 5, 3) := dk_154 0 5 (dk_at dksX4_settled_0 10 rfl rfl)
theorem dX4_settled_13 : decode cX4_settled 13 = .ok (.iconst 0, 1) := dk_3 (dk_at dksX4_settled_0 13 rfl rfl)
theorem dX4_settled_14 : decode cX4_settled 14 = .ok (.ireturn, 1) := dk_172 (dk_at dksX4_settled_0 14 rfl rfl)
theorem dX4_settled_15 : decode cX4_settled 15 = .ok (.iconst 0, 1) := dk_3 (dk_at dksX4_settled_0 15 rfl rfl)
theorem dX4_settled_16 : decode cX4_settled 16 = .ok (.istore 4, 2) := dk_54 4 (dk_at dksX4_settled_0 16 rfl rfl)
theorem dX4_settled_18 : decode cX4_settled 18 = .ok (.iconst 0, 1) := dk_3 (dk_at dksX4_settled_0 18 rfl rfl)
theorem dX4_settled_19 : decode cX4_settled 19 = .ok (.istore 5, 2) := dk_54 5 (dk_at dksX4_settled_0 19 rfl rfl)
theorem dX4_settled_21 : decode cX4_settled 21 = .ok (.iload 5, 2) := dk_21 5 (dk_at dksX4_settled_0 21 rfl rfl)
theorem dX4_settled_23 : decode cX4_settled 23 = .ok (.aload_n 0, 1) := dk_42 (dk_at dksX4_settled_0 23 rfl rfl)
theorem dX4_settled_24 : decode cX4_settled 24 = .ok (.iload_n 1, 1) := dk_27 (dk_at dksX4_settled_1 0 rfl rfl)
theorem dX4_settled_25 : decode cX4_settled 25 = .ok (.iconst 4, 1) := dk_7 (dk_at dksX4_settled_1 1 rfl rfl)
theorem dX4_settled_26 : decode cX4_settled 26 = .ok (.invokevirtual 278, 3) := dk_182 1 22 (dk_at dksX4_settled_1 2 rfl rfl)
theorem dX4_settled_29 : decode cX4_settled 29 = .ok (.if_icmp .ge 57, 3) := dk_162 0 57 (dk_at dksX4_settled_1 5 rfl rfl)
theorem dX4_settled_32 : decode cX4_settled 32 = .ok (.aload_n 0, 1) := dk_42 (dk_at dksX4_settled_1 8 rfl rfl)
theorem dX4_settled_33 : decode cX4_settled 33 = .ok (.iload_n 1, 1) := dk_27 (dk_at dksX4_settled_1 9 rfl rfl)
theorem dX4_settled_34 : decode cX4_settled 34 = .ok (.iload 5, 2) := dk_21 5 (dk_at dksX4_settled_1 10 rfl rfl)
theorem dX4_settled_36 : decode cX4_settled 36 = .ok (.iconst 0, 1) := dk_3 (dk_at dksX4_settled_1 12 rfl rfl)
theorem dX4_settled_37 : decode cX4_settled 37 = .ok (.invokevirtual 335, 3) := dk_182 1 79 (dk_at dksX4_settled_1 13 rfl rfl)
theorem dX4_settled_40 : decode cX4_settled 40 = .ok (.iload_n 2, 1) := dk_28 (dk_at dksX4_settled_1 16 rfl rfl)
theorem dX4_settled_41 : decode cX4_settled 41 = .ok (.if_icmp .ne 14, 3) := dk_160 0 14 (dk_at dksX4_settled_1 17 rfl rfl)
theorem dX4_settled_44 : decode cX4_settled 44 = .ok (.aload_n 0, 1) := dk_42 (dk_at dksX4_settled_1 20 rfl rfl)
theorem dX4_settled_45 : decode cX4_settled 45 = .ok (.iload_n 1, 1) := dk_27 (dk_at dksX4_settled_1 21 rfl rfl)
theorem dX4_settled_46 : decode cX4_settled 46 = .ok (.iload 5, 2) := dk_21 5 (dk_at dksX4_settled_1 22 rfl rfl)
theorem dX4_settled_48 : decode cX4_settled 48 = .ok (.iload_n 3, 1) := dk_29 (dk_at dksX4_settled_2 0 rfl rfl)
theorem dX4_settled_49 : decode cX4_settled 49 = .ok (.invokevirtual 345, 3) := dk_182 1 89 (dk_at dksX4_settled_2 1 rfl rfl)
theorem dX4_settled_52 : decode cX4_settled 52 = .ok (.goto 4, 3) := dk_167 0 4 (dk_at dksX4_settled_2 4 rfl rfl)
theorem dX4_settled_55 : decode cX4_settled 55 = .ok (.iconst 0, 1) := dk_3 (dk_at dksX4_settled_2 7 rfl rfl)
theorem dX4_settled_56 : decode cX4_settled 56 = .ok (.istore 6, 2) := dk_54 6 (dk_at dksX4_settled_2 8 rfl rfl)
theorem dX4_settled_58 : decode cX4_settled 58 = .ok (.iload 6, 2) := dk_21 6 (dk_at dksX4_settled_2 10 rfl rfl)
theorem dX4_settled_60 : decode cX4_settled 60 = .ok (.iconst 1, 1) := dk_4 (dk_at dksX4_settled_2 12 rfl rfl)
theorem dX4_settled_61 : decode cX4_settled 61 = .ok (.if_icmp .ne 5, 3) := dk_160 0 5 (dk_at dksX4_settled_2 13 rfl rfl)
theorem dX4_settled_64 : decode cX4_settled 64 = .ok (.iconst 1, 1) := dk_4 (dk_at dksX4_settled_2 16 rfl rfl)
theorem dX4_settled_65 : decode cX4_settled 65 = .ok (.ireturn, 1) := dk_172 (dk_at dksX4_settled_2 17 rfl rfl)
theorem dX4_settled_66 : decode cX4_settled 66 = .ok (.iload 6, 2) := dk_21 6 (dk_at dksX4_settled_2 18 rfl rfl)
theorem dX4_settled_68 : decode cX4_settled 68 = .ok (.iconst (-1), 1) := dk_2 (dk_at dksX4_settled_2 20 rfl rfl)
theorem dX4_settled_69 : decode cX4_settled 69 = .ok (.if_icmp .ne 7, 3) := dk_160 0 7 (dk_at dksX4_settled_2 21 rfl rfl)
theorem dX4_settled_72 : decode cX4_settled 72 = .ok (.iconst (-1), 1) := dk_2 (dk_at dksX4_settled_3 0 rfl rfl)
theorem dX4_settled_73 : decode cX4_settled 73 = .ok (.goto 5, 3) := dk_167 0 5 (dk_at dksX4_settled_3 1 rfl rfl)
theorem dX4_settled_76 : decode cX4_settled 76 = .ok (.iload 4, 2) := dk_21 4 (dk_at dksX4_settled_3 4 rfl rfl)
theorem dX4_settled_78 : decode cX4_settled 78 = .ok (.istore 4, 2) := dk_54 4 (dk_at dksX4_settled_3 6 rfl rfl)
theorem dX4_settled_80 : decode cX4_settled 80 = .ok (.iinc 5 1, 3) := dk_132 5 1 (dk_at dksX4_settled_3 8 rfl rfl)
theorem dX4_settled_83 : decode cX4_settled 83 = .ok (.goto (-62), 3) := dk_167 255 194 (dk_at dksX4_settled_3 11 rfl rfl)
theorem dX4_settled_86 : decode cX4_settled 86 = .ok (.iload 4, 2) := dk_21 4 (dk_at dksX4_settled_3 14 rfl rfl)
theorem dX4_settled_88 : decode cX4_settled 88 = .ok (.ireturn, 1) := dk_172 (dk_at dksX4_settled_3 16 rfl rfl)
abbrev cX4_holds : ByteArray := prog_19_method_51_code
def yX4_holds : MethodName := ⟨RX4, "holds", "(III)I"⟩
def dkwX4_holds_9 : List UInt8 := [172, 42, 180, 0, 70, 7, 27, 104, 28, 96, 51, 153, 0, 7, 4, 167, 0, 4, 3, 172]
abbrev dktX4_holds_9 : List UInt8 := dkwX4_holds_9 ++ []
def dkwX4_holds_8 : List UInt8 := [96, 46, 2, 160, 0, 7, 2, 167, 0, 17, 4, 42, 180, 0, 67, 7, 21, 5, 104, 21, 4, 96, 46, 100]
abbrev dktX4_holds_8 : List UInt8 := dkwX4_holds_8 ++ dktX4_holds_9
def dkwX4_holds_7 : List UInt8 := [172, 42, 21, 5, 182, 1, 51, 154, 0, 7, 4, 167, 0, 37, 42, 180, 0, 67, 7, 21, 5, 104, 21, 4]
abbrev dktX4_holds_7 : List UInt8 := dkwX4_holds_7 ++ dktX4_holds_8
def dkwX4_holds_6 : List UInt8 := [21, 5, 182, 1, 51, 153, 0, 18, 42, 180, 0, 67, 7, 21, 5, 104, 21, 4, 96, 46, 167, 0, 4, 3]
abbrev dktX4_holds_6 : List UInt8 := dkwX4_holds_6 ++ dktX4_holds_7
def dkwX4_holds_5 : List UInt8 := [160, 0, 21, 42, 21, 5, 29, 4, 100, 182, 1, 86, 21, 6, 160, 0, 7, 4, 167, 0, 4, 3, 172, 42]
abbrev dktX4_holds_5 : List UInt8 := dkwX4_holds_5 ++ dktX4_holds_6
def dkwX4_holds_4 : List UInt8 := [29, 158, 0, 43, 42, 180, 0, 46, 16, 8, 29, 4, 100, 104, 27, 96, 46, 21, 5, 122, 4, 126, 4]
abbrev dktX4_holds_4 : List UInt8 := dkwX4_holds_4 ++ dktX4_holds_5
def dkwX4_holds_3 : List UInt8 := [4, 172, 29, 21, 6, 161, 0, 17, 29, 21, 6, 100, 21, 5, 112, 154, 0, 7, 4, 167, 0, 4, 3, 172]
abbrev dktX4_holds_3 : List UInt8 := dkwX4_holds_3 ++ dktX4_holds_4
def dkwX4_holds_2 : List UInt8 := [170, 0, 0, 0, 0, 178, 0, 0, 0, 0, 0, 0, 0, 4, 0, 0, 0, 34, 0, 0, 0, 36, 0, 0, 0, 58, 0, 0, 0, 104, 0, 0, 0, 130]
abbrev dktX4_holds_2 : List UInt8 := dkwX4_holds_2 ++ dktX4_holds_3
def dkwX4_holds_1 : List UInt8 := [182, 1, 79, 54, 6, 42, 27, 28, 4, 182, 1, 79]
abbrev dktX4_holds_1 : List UInt8 := dkwX4_holds_1 ++ dktX4_holds_2
def dkwX4_holds_0 : List UInt8 := [42, 27, 28, 3, 182, 1, 79, 54, 4, 42, 27, 28, 5, 182, 1, 79, 54, 5, 42, 27, 28, 6]
abbrev dktX4_holds_0 : List UInt8 := dkwX4_holds_0 ++ dktX4_holds_1
theorem dksX4_holds_0 : cX4_holds.data.toList.drop 0 = dktX4_holds_0 := by decide +kernel
theorem dksX4_holds_1 : cX4_holds.data.toList.drop 22 = dktX4_holds_1 := dk_seg dksX4_holds_0 22 rfl rfl
theorem dksX4_holds_2 : cX4_holds.data.toList.drop 34 = dktX4_holds_2 := dk_seg dksX4_holds_1 12 rfl rfl
theorem dksX4_holds_3 : cX4_holds.data.toList.drop 68 = dktX4_holds_3 := dk_seg dksX4_holds_2 34 rfl rfl
theorem dksX4_holds_4 : cX4_holds.data.toList.drop 92 = dktX4_holds_4 := dk_seg dksX4_holds_3 24 rfl rfl
theorem dksX4_holds_5 : cX4_holds.data.toList.drop 115 = dktX4_holds_5 := dk_seg dksX4_holds_4 23 rfl rfl
theorem dksX4_holds_6 : cX4_holds.data.toList.drop 139 = dktX4_holds_6 := dk_seg dksX4_holds_5 24 rfl rfl
theorem dksX4_holds_7 : cX4_holds.data.toList.drop 163 = dktX4_holds_7 := dk_seg dksX4_holds_6 24 rfl rfl
theorem dksX4_holds_8 : cX4_holds.data.toList.drop 187 = dktX4_holds_8 := dk_seg dksX4_holds_7 24 rfl rfl
theorem dksX4_holds_9 : cX4_holds.data.toList.drop 211 = dktX4_holds_9 := dk_seg dksX4_holds_8 24 rfl rfl
theorem dX4_holds_0 : decode cX4_holds 0 = .ok (.aload_n 0, 1) := dk_42 (dk_at dksX4_holds_0 0 rfl rfl)
theorem dX4_holds_1 : decode cX4_holds 1 = .ok (.iload_n 1, 1) := dk_27 (dk_at dksX4_holds_0 1 rfl rfl)
theorem dX4_holds_2 : decode cX4_holds 2 = .ok (.iload_n 2, 1) := dk_28 (dk_at dksX4_holds_0 2 rfl rfl)
theorem dX4_holds_3 : decode cX4_holds 3 = .ok (.iconst 0, 1) := dk_3 (dk_at dksX4_holds_0 3 rfl rfl)
theorem dX4_holds_4 : decode cX4_holds 4 = .ok (.invokevirtual 335, 3) := dk_182 1 79 (dk_at dksX4_holds_0 4 rfl rfl)
theorem dX4_holds_7 : decode cX4_holds 7 = .ok (.istore 4, 2) := dk_54 4 (dk_at dksX4_holds_0 7 rfl rfl)
theorem dX4_holds_9 : decode cX4_holds 9 = .ok (.aload_n 0, 1) := dk_42 (dk_at dksX4_holds_0 9 rfl rfl)
theorem dX4_holds_10 : decode cX4_holds 10 = .ok (.iload_n 1, 1) := dk_27 (dk_at dksX4_holds_0 10 rfl rfl)
theorem dX4_holds_11 : decode cX4_holds 11 = .ok (.iload_n 2, 1) := dk_28 (dk_at dksX4_holds_0 11 rfl rfl)
theorem dX4_holds_12 : decode cX4_holds 12 = .ok (.iconst 2, 1) := dk_5 (dk_at dksX4_holds_0 12 rfl rfl)
theorem dX4_holds_13 : decode cX4_holds 13 = .ok (.invokevirtual 335, 3) := dk_182 1 79 (dk_at dksX4_holds_0 13 rfl rfl)
theorem dX4_holds_16 : decode cX4_holds 16 = .ok (.istore 5, 2) := dk_54 5 (dk_at dksX4_holds_0 16 rfl rfl)
theorem dX4_holds_18 : decode cX4_holds 18 = .ok (.aload_n 0, 1) := dk_42 (dk_at dksX4_holds_0 18 rfl rfl)
theorem dX4_holds_19 : decode cX4_holds 19 = .ok (.iload_n 1, 1) := dk_27 (dk_at dksX4_holds_0 19 rfl rfl)
theorem dX4_holds_20 : decode cX4_holds 20 = .ok (.iload_n 2, 1) := dk_28 (dk_at dksX4_holds_0 20 rfl rfl)
theorem dX4_holds_21 : decode cX4_holds 21 = .ok (.iconst 3, 1) := dk_6 (dk_at dksX4_holds_0 21 rfl rfl)
theorem dX4_holds_22 : decode cX4_holds 22 = .ok (.invokevirtual 335, 3) := dk_182 1 79 (dk_at dksX4_holds_1 0 rfl rfl)
theorem dX4_holds_25 : decode cX4_holds 25 = .ok (.istore 6, 2) := dk_54 6 (dk_at dksX4_holds_1 3 rfl rfl)
theorem dX4_holds_27 : decode cX4_holds 27 = .ok (.aload_n 0, 1) := dk_42 (dk_at dksX4_holds_1 5 rfl rfl)
theorem dX4_holds_28 : decode cX4_holds 28 = .ok (.iload_n 1, 1) := dk_27 (dk_at dksX4_holds_1 6 rfl rfl)
theorem dX4_holds_29 : decode cX4_holds 29 = .ok (.iload_n 2, 1) := dk_28 (dk_at dksX4_holds_1 7 rfl rfl)
theorem dX4_holds_30 : decode cX4_holds 30 = .ok (.iconst 1, 1) := dk_4 (dk_at dksX4_holds_1 8 rfl rfl)
theorem dX4_holds_31 : decode cX4_holds 31 = .ok (.invokevirtual 335, 3) := dk_182 1 79 (dk_at dksX4_holds_1 9 rfl rfl)
theorem dX4_holds_34 : decode cX4_holds 34 = .ok (.tableswitch 178 0 4 #[34, 36, 58, 104, 130], 34) := by decide +kernel
theorem dX4_holds_68 : decode cX4_holds 68 = .ok (.iconst 1, 1) := dk_4 (dk_at dksX4_holds_3 0 rfl rfl)
theorem dX4_holds_69 : decode cX4_holds 69 = .ok (.ireturn, 1) := dk_172 (dk_at dksX4_holds_3 1 rfl rfl)
theorem dX4_holds_70 : decode cX4_holds 70 = .ok (.iload_n 3, 1) := dk_29 (dk_at dksX4_holds_3 2 rfl rfl)
theorem dX4_holds_71 : decode cX4_holds 71 = .ok (.iload 6, 2) := dk_21 6 (dk_at dksX4_holds_3 3 rfl rfl)
theorem dX4_holds_73 : decode cX4_holds 73 = .ok (.if_icmp .lt 17, 3) := dk_161 0 17 (dk_at dksX4_holds_3 5 rfl rfl)
theorem dX4_holds_76 : decode cX4_holds 76 = .ok (.iload_n 3, 1) := dk_29 (dk_at dksX4_holds_3 8 rfl rfl)
theorem dX4_holds_77 : decode cX4_holds 77 = .ok (.iload 6, 2) := dk_21 6 (dk_at dksX4_holds_3 9 rfl rfl)
theorem dX4_holds_79 : decode cX4_holds 79 = .ok (.isub, 1) := dk_100 (dk_at dksX4_holds_3 11 rfl rfl)
theorem dX4_holds_80 : decode cX4_holds 80 = .ok (.iload 5, 2) := dk_21 5 (dk_at dksX4_holds_3 12 rfl rfl)
theorem dX4_holds_82 : decode cX4_holds 82 = .ok (.irem, 1) := dk_112 (dk_at dksX4_holds_3 14 rfl rfl)
theorem dX4_holds_83 : decode cX4_holds 83 = .ok (.ifCond .ne 7, 3) := dk_154 0 7 (dk_at dksX4_holds_3 15 rfl rfl)
theorem dX4_holds_86 : decode cX4_holds 86 = .ok (.iconst 1, 1) := dk_4 (dk_at dksX4_holds_3 18 rfl rfl)
theorem dX4_holds_87 : decode cX4_holds 87 = .ok (.goto 4, 3) := dk_167 0 4 (dk_at dksX4_holds_3 19 rfl rfl)
theorem dX4_holds_90 : decode cX4_holds 90 = .ok (.iconst 0, 1) := dk_3 (dk_at dksX4_holds_3 22 rfl rfl)
theorem dX4_holds_91 : decode cX4_holds 91 = .ok (.ireturn, 1) := dk_172 (dk_at dksX4_holds_3 23 rfl rfl)
theorem dX4_holds_92 : decode cX4_holds 92 = .ok (.iload_n 3, 1) := dk_29 (dk_at dksX4_holds_4 0 rfl rfl)
theorem dX4_holds_93 : decode cX4_holds 93 = .ok (.ifCond .le 43, 3) := dk_158 0 43 (dk_at dksX4_holds_4 1 rfl rfl)
theorem dX4_holds_96 : decode cX4_holds 96 = .ok (.aload_n 0, 1) := dk_42 (dk_at dksX4_holds_4 4 rfl rfl)
theorem dX4_holds_97 : decode cX4_holds 97 = .ok (.getfield 46, 3) := dk_180 0 46 (dk_at dksX4_holds_4 5 rfl rfl)
theorem dX4_holds_100 : decode cX4_holds 100 = .ok (.bipush 8, 2) := dk_16 8 (dk_at dksX4_holds_4 8 rfl rfl)
theorem dX4_holds_102 : decode cX4_holds 102 = .ok (.iload_n 3, 1) := dk_29 (dk_at dksX4_holds_4 10 rfl rfl)
theorem dX4_holds_103 : decode cX4_holds 103 = .ok (.iconst 1, 1) := dk_4 (dk_at dksX4_holds_4 11 rfl rfl)
theorem dX4_holds_104 : decode cX4_holds 104 = .ok (.isub, 1) := dk_100 (dk_at dksX4_holds_4 12 rfl rfl)
theorem dX4_holds_105 : decode cX4_holds 105 = .ok (.imul, 1) := dk_104 (dk_at dksX4_holds_4 13 rfl rfl)
theorem dX4_holds_106 : decode cX4_holds 106 = .ok (.iload_n 1, 1) := dk_27 (dk_at dksX4_holds_4 14 rfl rfl)
theorem dX4_holds_107 : decode cX4_holds 107 = .ok (.iadd, 1) := dk_96 (dk_at dksX4_holds_4 15 rfl rfl)
theorem dX4_holds_108 : decode cX4_holds 108 = .ok (.iaload, 1) := dk_46 (dk_at dksX4_holds_4 16 rfl rfl)
theorem dX4_holds_109 : decode cX4_holds 109 = .ok (.iload 5, 2) := dk_21 5 (dk_at dksX4_holds_4 17 rfl rfl)
theorem dX4_holds_111 : decode cX4_holds 111 = .ok (.ishr, 1) := dk_122 (dk_at dksX4_holds_4 19 rfl rfl)
theorem dX4_holds_112 : decode cX4_holds 112 = .ok (.iconst 1, 1) := dk_4 (dk_at dksX4_holds_4 20 rfl rfl)
theorem dX4_holds_113 : decode cX4_holds 113 = .ok (.iand, 1) := dk_126 (dk_at dksX4_holds_4 21 rfl rfl)
theorem dX4_holds_114 : decode cX4_holds 114 = .ok (.iconst 1, 1) := dk_4 (dk_at dksX4_holds_4 22 rfl rfl)
theorem dX4_holds_115 : decode cX4_holds 115 = .ok (.if_icmp .ne 21, 3) := dk_160 0 21 (dk_at dksX4_holds_5 0 rfl rfl)
theorem dX4_holds_118 : decode cX4_holds 118 = .ok (.aload_n 0, 1) := dk_42 (dk_at dksX4_holds_5 3 rfl rfl)
theorem dX4_holds_119 : decode cX4_holds 119 = .ok (.iload 5, 2) := dk_21 5 (dk_at dksX4_holds_5 4 rfl rfl)
theorem dX4_holds_121 : decode cX4_holds 121 = .ok (.iload_n 3, 1) := dk_29 (dk_at dksX4_holds_5 6 rfl rfl)
theorem dX4_holds_122 : decode cX4_holds 122 = .ok (.iconst 1, 1) := dk_4 (dk_at dksX4_holds_5 7 rfl rfl)
theorem dX4_holds_123 : decode cX4_holds 123 = .ok (.isub, 1) := dk_100 (dk_at dksX4_holds_5 8 rfl rfl)
theorem dX4_holds_124 : decode cX4_holds 124 = .ok (.invokevirtual 342, 3) := dk_182 1 86 (dk_at dksX4_holds_5 9 rfl rfl)
theorem dX4_holds_127 : decode cX4_holds 127 = .ok (.iload 6, 2) := dk_21 6 (dk_at dksX4_holds_5 12 rfl rfl)
theorem dX4_holds_129 : decode cX4_holds 129 = .ok (.if_icmp .ne 7, 3) := dk_160 0 7 (dk_at dksX4_holds_5 14 rfl rfl)
theorem dX4_holds_132 : decode cX4_holds 132 = .ok (.iconst 1, 1) := dk_4 (dk_at dksX4_holds_5 17 rfl rfl)
theorem dX4_holds_133 : decode cX4_holds 133 = .ok (.goto 4, 3) := dk_167 0 4 (dk_at dksX4_holds_5 18 rfl rfl)
theorem dX4_holds_136 : decode cX4_holds 136 = .ok (.iconst 0, 1) := dk_3 (dk_at dksX4_holds_5 21 rfl rfl)
theorem dX4_holds_137 : decode cX4_holds 137 = .ok (.ireturn, 1) := dk_172 (dk_at dksX4_holds_5 22 rfl rfl)
theorem dX4_holds_138 : decode cX4_holds 138 = .ok (.aload_n 0, 1) := dk_42 (dk_at dksX4_holds_5 23 rfl rfl)
theorem dX4_holds_139 : decode cX4_holds 139 = .ok (.iload 5, 2) := dk_21 5 (dk_at dksX4_holds_6 0 rfl rfl)
theorem dX4_holds_141 : decode cX4_holds 141 = .ok (.invokevirtual 307, 3) := dk_182 1 51 (dk_at dksX4_holds_6 2 rfl rfl)
theorem dX4_holds_144 : decode cX4_holds 144 = .ok (.ifCond .eq 18, 3) := dk_153 0 18 (dk_at dksX4_holds_6 5 rfl rfl)
theorem dX4_holds_147 : decode cX4_holds 147 = .ok (.aload_n 0, 1) := dk_42 (dk_at dksX4_holds_6 8 rfl rfl)
theorem dX4_holds_148 : decode cX4_holds 148 = .ok (.getfield 67, 3) := dk_180 0 67 (dk_at dksX4_holds_6 9 rfl rfl)
theorem dX4_holds_151 : decode cX4_holds 151 = .ok (.iconst 4, 1) := dk_7 (dk_at dksX4_holds_6 12 rfl rfl)
theorem dX4_holds_152 : decode cX4_holds 152 = .ok (.iload 5, 2) := dk_21 5 (dk_at dksX4_holds_6 13 rfl rfl)
theorem dX4_holds_154 : decode cX4_holds 154 = .ok (.imul, 1) := dk_104 (dk_at dksX4_holds_6 15 rfl rfl)
theorem dX4_holds_155 : decode cX4_holds 155 = .ok (.iload 4, 2) := dk_21 4 (dk_at dksX4_holds_6 16 rfl rfl)
theorem dX4_holds_157 : decode cX4_holds 157 = .ok (.iadd, 1) := dk_96 (dk_at dksX4_holds_6 18 rfl rfl)
theorem dX4_holds_158 : decode cX4_holds 158 = .ok (.iaload, 1) := dk_46 (dk_at dksX4_holds_6 19 rfl rfl)
theorem dX4_holds_159 : decode cX4_holds 159 = .ok (.goto 4, 3) := dk_167 0 4 (dk_at dksX4_holds_6 20 rfl rfl)
theorem dX4_holds_162 : decode cX4_holds 162 = .ok (.iconst 0, 1) := dk_3 (dk_at dksX4_holds_6 23 rfl rfl)
theorem dX4_holds_163 : decode cX4_holds 163 = .ok (.ireturn, 1) := dk_172 (dk_at dksX4_holds_7 0 rfl rfl)
theorem dX4_holds_164 : decode cX4_holds 164 = .ok (.aload_n 0, 1) := dk_42 (dk_at dksX4_holds_7 1 rfl rfl)
theorem dX4_holds_165 : decode cX4_holds 165 = .ok (.iload 5, 2) := dk_21 5 (dk_at dksX4_holds_7 2 rfl rfl)
theorem dX4_holds_167 : decode cX4_holds 167 = .ok (.invokevirtual 307, 3) := dk_182 1 51 (dk_at dksX4_holds_7 4 rfl rfl)
theorem dX4_holds_170 : decode cX4_holds 170 = .ok (.ifCond .ne 7, 3) := dk_154 0 7 (dk_at dksX4_holds_7 7 rfl rfl)
theorem dX4_holds_173 : decode cX4_holds 173 = .ok (.iconst 1, 1) := dk_4 (dk_at dksX4_holds_7 10 rfl rfl)
theorem dX4_holds_174 : decode cX4_holds 174 = .ok (.goto 37, 3) := dk_167 0 37 (dk_at dksX4_holds_7 11 rfl rfl)
theorem dX4_holds_177 : decode cX4_holds 177 = .ok (.aload_n 0, 1) := dk_42 (dk_at dksX4_holds_7 14 rfl rfl)
theorem dX4_holds_178 : decode cX4_holds 178 = .ok (.getfield 67, 3) := dk_180 0 67 (dk_at dksX4_holds_7 15 rfl rfl)
theorem dX4_holds_181 : decode cX4_holds 181 = .ok (.iconst 4, 1) := dk_7 (dk_at dksX4_holds_7 18 rfl rfl)
theorem dX4_holds_182 : decode cX4_holds 182 = .ok (.iload 5, 2) := dk_21 5 (dk_at dksX4_holds_7 19 rfl rfl)
theorem dX4_holds_184 : decode cX4_holds 184 = .ok (.imul, 1) := dk_104 (dk_at dksX4_holds_7 21 rfl rfl)
theorem dX4_holds_185 : decode cX4_holds 185 = .ok (.iload 4, 2) := dk_21 4 (dk_at dksX4_holds_7 22 rfl rfl)
theorem dX4_holds_187 : decode cX4_holds 187 = .ok (.iadd, 1) := dk_96 (dk_at dksX4_holds_8 0 rfl rfl)
theorem dX4_holds_188 : decode cX4_holds 188 = .ok (.iaload, 1) := dk_46 (dk_at dksX4_holds_8 1 rfl rfl)
theorem dX4_holds_189 : decode cX4_holds 189 = .ok (.iconst (-1), 1) := dk_2 (dk_at dksX4_holds_8 2 rfl rfl)
theorem dX4_holds_190 : decode cX4_holds 190 = .ok (.if_icmp .ne 7, 3) := dk_160 0 7 (dk_at dksX4_holds_8 3 rfl rfl)
theorem dX4_holds_193 : decode cX4_holds 193 = .ok (.iconst (-1), 1) := dk_2 (dk_at dksX4_holds_8 6 rfl rfl)
theorem dX4_holds_194 : decode cX4_holds 194 = .ok (.goto 17, 3) := dk_167 0 17 (dk_at dksX4_holds_8 7 rfl rfl)
theorem dX4_holds_197 : decode cX4_holds 197 = .ok (.iconst 1, 1) := dk_4 (dk_at dksX4_holds_8 10 rfl rfl)
theorem dX4_holds_198 : decode cX4_holds 198 = .ok (.aload_n 0, 1) := dk_42 (dk_at dksX4_holds_8 11 rfl rfl)
theorem dX4_holds_199 : decode cX4_holds 199 = .ok (.getfield 67, 3) := dk_180 0 67 (dk_at dksX4_holds_8 12 rfl rfl)
theorem dX4_holds_202 : decode cX4_holds 202 = .ok (.iconst 4, 1) := dk_7 (dk_at dksX4_holds_8 15 rfl rfl)
theorem dX4_holds_203 : decode cX4_holds 203 = .ok (.iload 5, 2) := dk_21 5 (dk_at dksX4_holds_8 16 rfl rfl)
theorem dX4_holds_205 : decode cX4_holds 205 = .ok (.imul, 1) := dk_104 (dk_at dksX4_holds_8 18 rfl rfl)
theorem dX4_holds_206 : decode cX4_holds 206 = .ok (.iload 4, 2) := dk_21 4 (dk_at dksX4_holds_8 19 rfl rfl)
theorem dX4_holds_208 : decode cX4_holds 208 = .ok (.iadd, 1) := dk_96 (dk_at dksX4_holds_8 21 rfl rfl)
theorem dX4_holds_209 : decode cX4_holds 209 = .ok (.iaload, 1) := dk_46 (dk_at dksX4_holds_8 22 rfl rfl)
theorem dX4_holds_210 : decode cX4_holds 210 = .ok (.isub, 1) := dk_100 (dk_at dksX4_holds_8 23 rfl rfl)
theorem dX4_holds_211 : decode cX4_holds 211 = .ok (.ireturn, 1) := dk_172 (dk_at dksX4_holds_9 0 rfl rfl)
theorem dX4_holds_212 : decode cX4_holds 212 = .ok (.aload_n 0, 1) := dk_42 (dk_at dksX4_holds_9 1 rfl rfl)
theorem dX4_holds_213 : decode cX4_holds 213 = .ok (.getfield 70, 3) := dk_180 0 70 (dk_at dksX4_holds_9 2 rfl rfl)
theorem dX4_holds_216 : decode cX4_holds 216 = .ok (.iconst 4, 1) := dk_7 (dk_at dksX4_holds_9 5 rfl rfl)
theorem dX4_holds_217 : decode cX4_holds 217 = .ok (.iload_n 1, 1) := dk_27 (dk_at dksX4_holds_9 6 rfl rfl)
theorem dX4_holds_218 : decode cX4_holds 218 = .ok (.imul, 1) := dk_104 (dk_at dksX4_holds_9 7 rfl rfl)
theorem dX4_holds_219 : decode cX4_holds 219 = .ok (.iload_n 2, 1) := dk_28 (dk_at dksX4_holds_9 8 rfl rfl)
theorem dX4_holds_220 : decode cX4_holds 220 = .ok (.iadd, 1) := dk_96 (dk_at dksX4_holds_9 9 rfl rfl)
theorem dX4_holds_221 : decode cX4_holds 221 = .ok (.baload, 1) := dk_51 (dk_at dksX4_holds_9 10 rfl rfl)
theorem dX4_holds_222 : decode cX4_holds 222 = .ok (.ifCond .eq 7, 3) := dk_153 0 7 (dk_at dksX4_holds_9 11 rfl rfl)
theorem dX4_holds_225 : decode cX4_holds 225 = .ok (.iconst 1, 1) := dk_4 (dk_at dksX4_holds_9 14 rfl rfl)
theorem dX4_holds_226 : decode cX4_holds 226 = .ok (.goto 4, 3) := dk_167 0 4 (dk_at dksX4_holds_9 15 rfl rfl)
theorem dX4_holds_229 : decode cX4_holds 229 = .ok (.iconst 0, 1) := dk_3 (dk_at dksX4_holds_9 18 rfl rfl)
theorem dX4_holds_230 : decode cX4_holds 230 = .ok (.ireturn, 1) := dk_172 (dk_at dksX4_holds_9 19 rfl rfl)
abbrev cX4_shownAt : ByteArray := prog_19_method_48_code
def yX4_shownAt : MethodName := ⟨RX4, "shownAt", "(II)I"⟩
def dkwX4_shownAt_1 : List UInt8 := [172]
abbrev dktX4_shownAt_1 : List UInt8 := dkwX4_shownAt_1 ++ []
def dkwX4_shownAt_0 : List UInt8 := [42, 180, 0, 43, 7, 28, 104, 27, 96, 46, 42, 27, 6, 182, 1, 29, 108, 42, 27, 7, 182, 1, 29, 112]
abbrev dktX4_shownAt_0 : List UInt8 := dkwX4_shownAt_0 ++ dktX4_shownAt_1
theorem dksX4_shownAt_0 : cX4_shownAt.data.toList.drop 0 = dktX4_shownAt_0 := by decide +kernel
theorem dksX4_shownAt_1 : cX4_shownAt.data.toList.drop 24 = dktX4_shownAt_1 := dk_seg dksX4_shownAt_0 24 rfl rfl
theorem dX4_shownAt_0 : decode cX4_shownAt 0 = .ok (.aload_n 0, 1) := dk_42 (dk_at dksX4_shownAt_0 0 rfl rfl)
theorem dX4_shownAt_1 : decode cX4_shownAt 1 = .ok (.getfield 43, 3) := dk_180 0 43 (dk_at dksX4_shownAt_0 1 rfl rfl)
theorem dX4_shownAt_4 : decode cX4_shownAt 4 = .ok (.iconst 4, 1) := dk_7 (dk_at dksX4_shownAt_0 4 rfl rfl)
theorem dX4_shownAt_5 : decode cX4_shownAt 5 = .ok (.iload_n 2, 1) := dk_28 (dk_at dksX4_shownAt_0 5 rfl rfl)
theorem dX4_shownAt_6 : decode cX4_shownAt 6 = .ok (.imul, 1) := dk_104 (dk_at dksX4_shownAt_0 6 rfl rfl)
theorem dX4_shownAt_7 : decode cX4_shownAt 7 = .ok (.iload_n 1, 1) := dk_27 (dk_at dksX4_shownAt_0 7 rfl rfl)
theorem dX4_shownAt_8 : decode cX4_shownAt 8 = .ok (.iadd, 1) := dk_96 (dk_at dksX4_shownAt_0 8 rfl rfl)
theorem dX4_shownAt_9 : decode cX4_shownAt 9 = .ok (.iaload, 1) := dk_46 (dk_at dksX4_shownAt_0 9 rfl rfl)
theorem dX4_shownAt_10 : decode cX4_shownAt 10 = .ok (.aload_n 0, 1) := dk_42 (dk_at dksX4_shownAt_0 10 rfl rfl)
theorem dX4_shownAt_11 : decode cX4_shownAt 11 = .ok (.iload_n 1, 1) := dk_27 (dk_at dksX4_shownAt_0 11 rfl rfl)
theorem dX4_shownAt_12 : decode cX4_shownAt 12 = .ok (.iconst 3, 1) := dk_6 (dk_at dksX4_shownAt_0 12 rfl rfl)
theorem dX4_shownAt_13 : decode cX4_shownAt 13 = .ok (.invokevirtual 285, 3) := dk_182 1 29 (dk_at dksX4_shownAt_0 13 rfl rfl)
theorem dX4_shownAt_16 : decode cX4_shownAt 16 = .ok (.idiv, 1) := dk_108 (dk_at dksX4_shownAt_0 16 rfl rfl)
theorem dX4_shownAt_17 : decode cX4_shownAt 17 = .ok (.aload_n 0, 1) := dk_42 (dk_at dksX4_shownAt_0 17 rfl rfl)
theorem dX4_shownAt_18 : decode cX4_shownAt 18 = .ok (.iload_n 1, 1) := dk_27 (dk_at dksX4_shownAt_0 18 rfl rfl)
theorem dX4_shownAt_19 : decode cX4_shownAt 19 = .ok (.iconst 4, 1) := dk_7 (dk_at dksX4_shownAt_0 19 rfl rfl)
theorem dX4_shownAt_20 : decode cX4_shownAt 20 = .ok (.invokevirtual 285, 3) := dk_182 1 29 (dk_at dksX4_shownAt_0 20 rfl rfl)
theorem dX4_shownAt_23 : decode cX4_shownAt 23 = .ok (.irem, 1) := dk_112 (dk_at dksX4_shownAt_0 23 rfl rfl)
theorem dX4_shownAt_24 : decode cX4_shownAt 24 = .ok (.ireturn, 1) := dk_172 (dk_at dksX4_shownAt_1 0 rfl rfl)
abbrev cX4_firstUnknown : ByteArray := prog_19_method_54_code
def yX4_firstUnknown : MethodName := ⟨RX4, "firstUnknown", "()I"⟩
def dkwX4_firstUnknown_2 : List UInt8 := [167, 255, 223, 132, 1, 1, 167, 255, 205, 2, 172]
abbrev dktX4_firstUnknown_2 : List UInt8 := dkwX4_firstUnknown_2 ++ []
def dkwX4_firstUnknown_1 : List UInt8 := [42, 180, 0, 67, 7, 27, 104, 28, 96, 46, 2, 160, 0, 9, 7, 27, 104, 28, 96, 172, 132, 2, 1]
abbrev dktX4_firstUnknown_1 : List UInt8 := dkwX4_firstUnknown_1 ++ dktX4_firstUnknown_2
def dkwX4_firstUnknown_0 : List UInt8 := [3, 60, 27, 42, 180, 0, 9, 5, 46, 162, 0, 47, 3, 61, 28, 42, 180, 0, 9, 4, 46, 162, 0, 29]
abbrev dktX4_firstUnknown_0 : List UInt8 := dkwX4_firstUnknown_0 ++ dktX4_firstUnknown_1
theorem dksX4_firstUnknown_0 : cX4_firstUnknown.data.toList.drop 0 = dktX4_firstUnknown_0 := by decide +kernel
theorem dksX4_firstUnknown_1 : cX4_firstUnknown.data.toList.drop 24 = dktX4_firstUnknown_1 := dk_seg dksX4_firstUnknown_0 24 rfl rfl
theorem dksX4_firstUnknown_2 : cX4_firstUnknown.data.toList.drop 47 = dktX4_firstUnknown_2 := dk_seg dksX4_firstUnknown_1 23 rfl rfl
theorem dX4_firstUnknown_0 : decode cX4_firstUnknown 0 = .ok (.iconst 0, 1) := dk_3 (dk_at dksX4_firstUnknown_0 0 rfl rfl)
theorem dX4_firstUnknown_1 : decode cX4_firstUnknown 1 = .ok (.istore_n 1, 1) := dk_60 (dk_at dksX4_firstUnknown_0 1 rfl rfl)
theorem dX4_firstUnknown_2 : decode cX4_firstUnknown 2 = .ok (.iload_n 1, 1) := dk_27 (dk_at dksX4_firstUnknown_0 2 rfl rfl)
theorem dX4_firstUnknown_3 : decode cX4_firstUnknown 3 = .ok (.aload_n 0, 1) := dk_42 (dk_at dksX4_firstUnknown_0 3 rfl rfl)
theorem dX4_firstUnknown_4 : decode cX4_firstUnknown 4 = .ok (.getfield 9, 3) := dk_180 0 9 (dk_at dksX4_firstUnknown_0 4 rfl rfl)
theorem dX4_firstUnknown_7 : decode cX4_firstUnknown 7 = .ok (.iconst 2, 1) := dk_5 (dk_at dksX4_firstUnknown_0 7 rfl rfl)
theorem dX4_firstUnknown_8 : decode cX4_firstUnknown 8 = .ok (.iaload, 1) := dk_46 (dk_at dksX4_firstUnknown_0 8 rfl rfl)
theorem dX4_firstUnknown_9 : decode cX4_firstUnknown 9 = .ok (.if_icmp .ge 47, 3) := dk_162 0 47 (dk_at dksX4_firstUnknown_0 9 rfl rfl)
theorem dX4_firstUnknown_12 : decode cX4_firstUnknown 12 = .ok (.iconst 0, 1) := dk_3 (dk_at dksX4_firstUnknown_0 12 rfl rfl)
theorem dX4_firstUnknown_13 : decode cX4_firstUnknown 13 = .ok (.istore_n 2, 1) := dk_61 (dk_at dksX4_firstUnknown_0 13 rfl rfl)
theorem dX4_firstUnknown_14 : decode cX4_firstUnknown 14 = .ok (.iload_n 2, 1) := dk_28 (dk_at dksX4_firstUnknown_0 14 rfl rfl)
theorem dX4_firstUnknown_15 : decode cX4_firstUnknown 15 = .ok (.aload_n 0, 1) := dk_42 (dk_at dksX4_firstUnknown_0 15 rfl rfl)
theorem dX4_firstUnknown_16 : decode cX4_firstUnknown 16 = .ok (.getfield 9, 3) := dk_180 0 9 (dk_at dksX4_firstUnknown_0 16 rfl rfl)
theorem dX4_firstUnknown_19 : decode cX4_firstUnknown 19 = .ok (.iconst 1, 1) := dk_4 (dk_at dksX4_firstUnknown_0 19 rfl rfl)
theorem dX4_firstUnknown_20 : decode cX4_firstUnknown 20 = .ok (.iaload, 1) := dk_46 (dk_at dksX4_firstUnknown_0 20 rfl rfl)
theorem dX4_firstUnknown_21 : decode cX4_firstUnknown 21 = .ok (.if_icmp .ge 29, 3) := dk_162 0 29 (dk_at dksX4_firstUnknown_0 21 rfl rfl)
theorem dX4_firstUnknown_24 : decode cX4_firstUnknown 24 = .ok (.aload_n 0, 1) := dk_42 (dk_at dksX4_firstUnknown_1 0 rfl rfl)
theorem dX4_firstUnknown_25 : decode cX4_firstUnknown 25 = .ok (.getfield 67, 3) := dk_180 0 67 (dk_at dksX4_firstUnknown_1 1 rfl rfl)
theorem dX4_firstUnknown_28 : decode cX4_firstUnknown 28 = .ok (.iconst 4, 1) := dk_7 (dk_at dksX4_firstUnknown_1 4 rfl rfl)
theorem dX4_firstUnknown_29 : decode cX4_firstUnknown 29 = .ok (.iload_n 1, 1) := dk_27 (dk_at dksX4_firstUnknown_1 5 rfl rfl)
theorem dX4_firstUnknown_30 : decode cX4_firstUnknown 30 = .ok (.imul, 1) := dk_104 (dk_at dksX4_firstUnknown_1 6 rfl rfl)
theorem dX4_firstUnknown_31 : decode cX4_firstUnknown 31 = .ok (.iload_n 2, 1) := dk_28 (dk_at dksX4_firstUnknown_1 7 rfl rfl)
theorem dX4_firstUnknown_32 : decode cX4_firstUnknown 32 = .ok (.iadd, 1) := dk_96 (dk_at dksX4_firstUnknown_1 8 rfl rfl)
theorem dX4_firstUnknown_33 : decode cX4_firstUnknown 33 = .ok (.iaload, 1) := dk_46 (dk_at dksX4_firstUnknown_1 9 rfl rfl)
theorem dX4_firstUnknown_34 : decode cX4_firstUnknown 34 = .ok (.iconst (-1), 1) := dk_2 (dk_at dksX4_firstUnknown_1 10 rfl rfl)
theorem dX4_firstUnknown_35 : decode cX4_firstUnknown 35 = .ok (.if_icmp .ne 9, 3) := dk_160 0 9 (dk_at dksX4_firstUnknown_1 11 rfl rfl)
theorem dX4_firstUnknown_38 : decode cX4_firstUnknown 38 = .ok (.iconst 4, 1) := dk_7 (dk_at dksX4_firstUnknown_1 14 rfl rfl)
theorem dX4_firstUnknown_39 : decode cX4_firstUnknown 39 = .ok (.iload_n 1, 1) := dk_27 (dk_at dksX4_firstUnknown_1 15 rfl rfl)
theorem dX4_firstUnknown_40 : decode cX4_firstUnknown 40 = .ok (.imul, 1) := dk_104 (dk_at dksX4_firstUnknown_1 16 rfl rfl)
theorem dX4_firstUnknown_41 : decode cX4_firstUnknown 41 = .ok (.iload_n 2, 1) := dk_28 (dk_at dksX4_firstUnknown_1 17 rfl rfl)
theorem dX4_firstUnknown_42 : decode cX4_firstUnknown 42 = .ok (.iadd, 1) := dk_96 (dk_at dksX4_firstUnknown_1 18 rfl rfl)
theorem dX4_firstUnknown_43 : decode cX4_firstUnknown 43 = .ok (.ireturn, 1) := dk_172 (dk_at dksX4_firstUnknown_1 19 rfl rfl)
theorem dX4_firstUnknown_44 : decode cX4_firstUnknown 44 = .ok (.iinc 2 1, 3) := dk_132 2 1 (dk_at dksX4_firstUnknown_1 20 rfl rfl)
theorem dX4_firstUnknown_47 : decode cX4_firstUnknown 47 = .ok (.goto (-33), 3) := dk_167 255 223 (dk_at dksX4_firstUnknown_2 0 rfl rfl)
theorem dX4_firstUnknown_50 : decode cX4_firstUnknown 50 = .ok (.iinc 1 1, 3) := dk_132 1 1 (dk_at dksX4_firstUnknown_2 3 rfl rfl)
theorem dX4_firstUnknown_53 : decode cX4_firstUnknown 53 = .ok (.goto (-51), 3) := dk_167 255 205 (dk_at dksX4_firstUnknown_2 6 rfl rfl)
theorem dX4_firstUnknown_56 : decode cX4_firstUnknown 56 = .ok (.iconst (-1), 1) := dk_2 (dk_at dksX4_firstUnknown_2 9 rfl rfl)
theorem dX4_firstUnknown_57 : decode cX4_firstUnknown 57 = .ok (.ireturn, 1) := dk_172 (dk_at dksX4_firstUnknown_2 10 rfl rfl)
abbrev cX4_isLooked : ByteArray := prog_19_method_56_code
def yX4_isLooked : MethodName := ⟨RX4, "isLooked", "(II)Z"⟩
def dkwX4_isLooked_2 : List UInt8 := [167, 0, 4, 3, 172]
abbrev dktX4_isLooked_2 : List UInt8 := dkwX4_isLooked_2 ++ []
def dkwX4_isLooked_1 : List UInt8 := [104, 21, 4, 96, 46, 128, 62, 132, 4, 1, 167, 255, 227, 29, 27, 122, 4, 126, 4, 160, 0, 7, 4]
abbrev dktX4_isLooked_1 : List UInt8 := dkwX4_isLooked_1 ++ dktX4_isLooked_2
def dkwX4_isLooked_0 : List UInt8 := [3, 62, 3, 54, 4, 21, 4, 42, 180, 0, 9, 5, 46, 162, 0, 24, 29, 42, 180, 0, 46, 16, 8, 28]
abbrev dktX4_isLooked_0 : List UInt8 := dkwX4_isLooked_0 ++ dktX4_isLooked_1
theorem dksX4_isLooked_0 : cX4_isLooked.data.toList.drop 0 = dktX4_isLooked_0 := by decide +kernel
theorem dksX4_isLooked_1 : cX4_isLooked.data.toList.drop 24 = dktX4_isLooked_1 := dk_seg dksX4_isLooked_0 24 rfl rfl
theorem dksX4_isLooked_2 : cX4_isLooked.data.toList.drop 47 = dktX4_isLooked_2 := dk_seg dksX4_isLooked_1 23 rfl rfl
theorem dX4_isLooked_0 : decode cX4_isLooked 0 = .ok (.iconst 0, 1) := dk_3 (dk_at dksX4_isLooked_0 0 rfl rfl)
theorem dX4_isLooked_1 : decode cX4_isLooked 1 = .ok (.istore_n 3, 1) := dk_62 (dk_at dksX4_isLooked_0 1 rfl rfl)
theorem dX4_isLooked_2 : decode cX4_isLooked 2 = .ok (.iconst 0, 1) := dk_3 (dk_at dksX4_isLooked_0 2 rfl rfl)
theorem dX4_isLooked_3 : decode cX4_isLooked 3 = .ok (.istore 4, 2) := dk_54 4 (dk_at dksX4_isLooked_0 3 rfl rfl)
theorem dX4_isLooked_5 : decode cX4_isLooked 5 = .ok (.iload 4, 2) := dk_21 4 (dk_at dksX4_isLooked_0 5 rfl rfl)
theorem dX4_isLooked_7 : decode cX4_isLooked 7 = .ok (.aload_n 0, 1) := dk_42 (dk_at dksX4_isLooked_0 7 rfl rfl)
theorem dX4_isLooked_8 : decode cX4_isLooked 8 = .ok (.getfield 9, 3) := dk_180 0 9 (dk_at dksX4_isLooked_0 8 rfl rfl)
theorem dX4_isLooked_11 : decode cX4_isLooked 11 = .ok (.iconst 2, 1) := dk_5 (dk_at dksX4_isLooked_0 11 rfl rfl)
theorem dX4_isLooked_12 : decode cX4_isLooked 12 = .ok (.iaload, 1) := dk_46 (dk_at dksX4_isLooked_0 12 rfl rfl)
theorem dX4_isLooked_13 : decode cX4_isLooked 13 = .ok (.if_icmp .ge 24, 3) := dk_162 0 24 (dk_at dksX4_isLooked_0 13 rfl rfl)
theorem dX4_isLooked_16 : decode cX4_isLooked 16 = .ok (.iload_n 3, 1) := dk_29 (dk_at dksX4_isLooked_0 16 rfl rfl)
theorem dX4_isLooked_17 : decode cX4_isLooked 17 = .ok (.aload_n 0, 1) := dk_42 (dk_at dksX4_isLooked_0 17 rfl rfl)
theorem dX4_isLooked_18 : decode cX4_isLooked 18 = .ok (.getfield 46, 3) := dk_180 0 46 (dk_at dksX4_isLooked_0 18 rfl rfl)
theorem dX4_isLooked_21 : decode cX4_isLooked 21 = .ok (.bipush 8, 2) := dk_16 8 (dk_at dksX4_isLooked_0 21 rfl rfl)
theorem dX4_isLooked_23 : decode cX4_isLooked 23 = .ok (.iload_n 2, 1) := dk_28 (dk_at dksX4_isLooked_0 23 rfl rfl)
theorem dX4_isLooked_24 : decode cX4_isLooked 24 = .ok (.imul, 1) := dk_104 (dk_at dksX4_isLooked_1 0 rfl rfl)
theorem dX4_isLooked_25 : decode cX4_isLooked 25 = .ok (.iload 4, 2) := dk_21 4 (dk_at dksX4_isLooked_1 1 rfl rfl)
theorem dX4_isLooked_27 : decode cX4_isLooked 27 = .ok (.iadd, 1) := dk_96 (dk_at dksX4_isLooked_1 3 rfl rfl)
theorem dX4_isLooked_28 : decode cX4_isLooked 28 = .ok (.iaload, 1) := dk_46 (dk_at dksX4_isLooked_1 4 rfl rfl)
theorem dX4_isLooked_29 : decode cX4_isLooked 29 = .ok (.ior, 1) := dk_128 (dk_at dksX4_isLooked_1 5 rfl rfl)
theorem dX4_isLooked_30 : decode cX4_isLooked 30 = .ok (.istore_n 3, 1) := dk_62 (dk_at dksX4_isLooked_1 6 rfl rfl)
theorem dX4_isLooked_31 : decode cX4_isLooked 31 = .ok (.iinc 4 1, 3) := dk_132 4 1 (dk_at dksX4_isLooked_1 7 rfl rfl)
theorem dX4_isLooked_34 : decode cX4_isLooked 34 = .ok (.goto (-29), 3) := dk_167 255 227 (dk_at dksX4_isLooked_1 10 rfl rfl)
theorem dX4_isLooked_37 : decode cX4_isLooked 37 = .ok (.iload_n 3, 1) := dk_29 (dk_at dksX4_isLooked_1 13 rfl rfl)
theorem dX4_isLooked_38 : decode cX4_isLooked 38 = .ok (.iload_n 1, 1) := dk_27 (dk_at dksX4_isLooked_1 14 rfl rfl)
theorem dX4_isLooked_39 : decode cX4_isLooked 39 = .ok (.ishr, 1) := dk_122 (dk_at dksX4_isLooked_1 15 rfl rfl)
theorem dX4_isLooked_40 : decode cX4_isLooked 40 = .ok (.iconst 1, 1) := dk_4 (dk_at dksX4_isLooked_1 16 rfl rfl)
theorem dX4_isLooked_41 : decode cX4_isLooked 41 = .ok (.iand, 1) := dk_126 (dk_at dksX4_isLooked_1 17 rfl rfl)
theorem dX4_isLooked_42 : decode cX4_isLooked 42 = .ok (.iconst 1, 1) := dk_4 (dk_at dksX4_isLooked_1 18 rfl rfl)
theorem dX4_isLooked_43 : decode cX4_isLooked 43 = .ok (.if_icmp .ne 7, 3) := dk_160 0 7 (dk_at dksX4_isLooked_1 19 rfl rfl)
theorem dX4_isLooked_46 : decode cX4_isLooked 46 = .ok (.iconst 1, 1) := dk_4 (dk_at dksX4_isLooked_1 22 rfl rfl)
theorem dX4_isLooked_47 : decode cX4_isLooked 47 = .ok (.goto 4, 3) := dk_167 0 4 (dk_at dksX4_isLooked_2 0 rfl rfl)
theorem dX4_isLooked_50 : decode cX4_isLooked 50 = .ok (.iconst 0, 1) := dk_3 (dk_at dksX4_isLooked_2 3 rfl rfl)
theorem dX4_isLooked_51 : decode cX4_isLooked 51 = .ok (.ireturn, 1) := dk_172 (dk_at dksX4_isLooked_2 4 rfl rfl)
abbrev cX4_eyes : ByteArray := prog_19_method_62_code
def yX4_eyes : MethodName := ⟨RX4, "eyes", "(II)I"⟩
def dkwX4_eyes_2 : List UInt8 := [21, 4, 96, 46, 27, 122, 4, 126, 96, 62, 132, 4, 1, 167, 255, 223, 29, 172]
abbrev dktX4_eyes_2 : List UInt8 := dkwX4_eyes_2 ++ []
def dkwX4_eyes_1 : List UInt8 := [62, 3, 54, 4, 21, 4, 42, 180, 0, 9, 5, 46, 162, 0, 28, 29, 42, 180, 0, 46, 16, 8, 28, 104]
abbrev dktX4_eyes_1 : List UInt8 := dkwX4_eyes_1 ++ dktX4_eyes_2
def dkwX4_eyes_0 : List UInt8 := [42, 27, 182, 1, 58, 153, 0, 11, 42, 28, 182, 1, 55, 154, 0, 6, 16, 254, 172, 42, 182, 1, 131, 3]
abbrev dktX4_eyes_0 : List UInt8 := dkwX4_eyes_0 ++ dktX4_eyes_1
theorem dksX4_eyes_0 : cX4_eyes.data.toList.drop 0 = dktX4_eyes_0 := by decide +kernel
theorem dksX4_eyes_1 : cX4_eyes.data.toList.drop 24 = dktX4_eyes_1 := dk_seg dksX4_eyes_0 24 rfl rfl
theorem dksX4_eyes_2 : cX4_eyes.data.toList.drop 48 = dktX4_eyes_2 := dk_seg dksX4_eyes_1 24 rfl rfl
theorem dX4_eyes_0 : decode cX4_eyes 0 = .ok (.aload_n 0, 1) := dk_42 (dk_at dksX4_eyes_0 0 rfl rfl)
theorem dX4_eyes_1 : decode cX4_eyes 1 = .ok (.iload_n 1, 1) := dk_27 (dk_at dksX4_eyes_0 1 rfl rfl)
theorem dX4_eyes_2 : decode cX4_eyes 2 = .ok (.invokevirtual 314, 3) := dk_182 1 58 (dk_at dksX4_eyes_0 2 rfl rfl)
theorem dX4_eyes_5 : decode cX4_eyes 5 = .ok (.ifCond .eq 11, 3) := dk_153 0 11 (dk_at dksX4_eyes_0 5 rfl rfl)
theorem dX4_eyes_8 : decode cX4_eyes 8 = .ok (.aload_n 0, 1) := dk_42 (dk_at dksX4_eyes_0 8 rfl rfl)
theorem dX4_eyes_9 : decode cX4_eyes 9 = .ok (.iload_n 2, 1) := dk_28 (dk_at dksX4_eyes_0 9 rfl rfl)
theorem dX4_eyes_10 : decode cX4_eyes 10 = .ok (.invokevirtual 311, 3) := dk_182 1 55 (dk_at dksX4_eyes_0 10 rfl rfl)
theorem dX4_eyes_13 : decode cX4_eyes 13 = .ok (.ifCond .ne 6, 3) := dk_154 0 6 (dk_at dksX4_eyes_0 13 rfl rfl)
theorem dX4_eyes_16 : decode cX4_eyes 16 = .ok (.bipush (-2), 2) := dk_16 254 (dk_at dksX4_eyes_0 16 rfl rfl)
theorem dX4_eyes_18 : decode cX4_eyes 18 = .ok (.ireturn, 1) := dk_172 (dk_at dksX4_eyes_0 18 rfl rfl)
theorem dX4_eyes_19 : decode cX4_eyes 19 = .ok (.aload_n 0, 1) := dk_42 (dk_at dksX4_eyes_0 19 rfl rfl)
theorem dX4_eyes_20 : decode cX4_eyes 20 = .ok (.invokevirtual 387, 3) := dk_182 1 131 (dk_at dksX4_eyes_0 20 rfl rfl)
theorem dX4_eyes_23 : decode cX4_eyes 23 = .ok (.iconst 0, 1) := dk_3 (dk_at dksX4_eyes_0 23 rfl rfl)
theorem dX4_eyes_24 : decode cX4_eyes 24 = .ok (.istore_n 3, 1) := dk_62 (dk_at dksX4_eyes_1 0 rfl rfl)
theorem dX4_eyes_25 : decode cX4_eyes 25 = .ok (.iconst 0, 1) := dk_3 (dk_at dksX4_eyes_1 1 rfl rfl)
theorem dX4_eyes_26 : decode cX4_eyes 26 = .ok (.istore 4, 2) := dk_54 4 (dk_at dksX4_eyes_1 2 rfl rfl)
theorem dX4_eyes_28 : decode cX4_eyes 28 = .ok (.iload 4, 2) := dk_21 4 (dk_at dksX4_eyes_1 4 rfl rfl)
theorem dX4_eyes_30 : decode cX4_eyes 30 = .ok (.aload_n 0, 1) := dk_42 (dk_at dksX4_eyes_1 6 rfl rfl)
theorem dX4_eyes_31 : decode cX4_eyes 31 = .ok (.getfield 9, 3) := dk_180 0 9 (dk_at dksX4_eyes_1 7 rfl rfl)
theorem dX4_eyes_34 : decode cX4_eyes 34 = .ok (.iconst 2, 1) := dk_5 (dk_at dksX4_eyes_1 10 rfl rfl)
theorem dX4_eyes_35 : decode cX4_eyes 35 = .ok (.iaload, 1) := dk_46 (dk_at dksX4_eyes_1 11 rfl rfl)
theorem dX4_eyes_36 : decode cX4_eyes 36 = .ok (.if_icmp .ge 28, 3) := dk_162 0 28 (dk_at dksX4_eyes_1 12 rfl rfl)
theorem dX4_eyes_39 : decode cX4_eyes 39 = .ok (.iload_n 3, 1) := dk_29 (dk_at dksX4_eyes_1 15 rfl rfl)
theorem dX4_eyes_40 : decode cX4_eyes 40 = .ok (.aload_n 0, 1) := dk_42 (dk_at dksX4_eyes_1 16 rfl rfl)
theorem dX4_eyes_41 : decode cX4_eyes 41 = .ok (.getfield 46, 3) := dk_180 0 46 (dk_at dksX4_eyes_1 17 rfl rfl)
theorem dX4_eyes_44 : decode cX4_eyes 44 = .ok (.bipush 8, 2) := dk_16 8 (dk_at dksX4_eyes_1 20 rfl rfl)
theorem dX4_eyes_46 : decode cX4_eyes 46 = .ok (.iload_n 2, 1) := dk_28 (dk_at dksX4_eyes_1 22 rfl rfl)
theorem dX4_eyes_47 : decode cX4_eyes 47 = .ok (.imul, 1) := dk_104 (dk_at dksX4_eyes_1 23 rfl rfl)
theorem dX4_eyes_48 : decode cX4_eyes 48 = .ok (.iload 4, 2) := dk_21 4 (dk_at dksX4_eyes_2 0 rfl rfl)
theorem dX4_eyes_50 : decode cX4_eyes 50 = .ok (.iadd, 1) := dk_96 (dk_at dksX4_eyes_2 2 rfl rfl)
theorem dX4_eyes_51 : decode cX4_eyes 51 = .ok (.iaload, 1) := dk_46 (dk_at dksX4_eyes_2 3 rfl rfl)
theorem dX4_eyes_52 : decode cX4_eyes 52 = .ok (.iload_n 1, 1) := dk_27 (dk_at dksX4_eyes_2 4 rfl rfl)
theorem dX4_eyes_53 : decode cX4_eyes 53 = .ok (.ishr, 1) := dk_122 (dk_at dksX4_eyes_2 5 rfl rfl)
theorem dX4_eyes_54 : decode cX4_eyes 54 = .ok (.iconst 1, 1) := dk_4 (dk_at dksX4_eyes_2 6 rfl rfl)
theorem dX4_eyes_55 : decode cX4_eyes 55 = .ok (.iand, 1) := dk_126 (dk_at dksX4_eyes_2 7 rfl rfl)
theorem dX4_eyes_56 : decode cX4_eyes 56 = .ok (.iadd, 1) := dk_96 (dk_at dksX4_eyes_2 8 rfl rfl)
theorem dX4_eyes_57 : decode cX4_eyes 57 = .ok (.istore_n 3, 1) := dk_62 (dk_at dksX4_eyes_2 9 rfl rfl)
theorem dX4_eyes_58 : decode cX4_eyes 58 = .ok (.iinc 4 1, 3) := dk_132 4 1 (dk_at dksX4_eyes_2 10 rfl rfl)
theorem dX4_eyes_61 : decode cX4_eyes 61 = .ok (.goto (-33), 3) := dk_167 255 223 (dk_at dksX4_eyes_2 13 rfl rfl)
theorem dX4_eyes_64 : decode cX4_eyes 64 = .ok (.iload_n 3, 1) := dk_29 (dk_at dksX4_eyes_2 16 rfl rfl)
theorem dX4_eyes_65 : decode cX4_eyes 65 = .ok (.ireturn, 1) := dk_172 (dk_at dksX4_eyes_2 17 rfl rfl)
abbrev cX4_shows : ByteArray := prog_19_method_63_code
def yX4_shows : MethodName := ⟨RX4, "shows", "(II)I"⟩
def dkwX4_shows_1 : List UInt8 := [27, 28, 182, 1, 86, 172]
abbrev dktX4_shows_1 : List UInt8 := dkwX4_shows_1 ++ []
def dkwX4_shows_0 : List UInt8 := [42, 27, 182, 1, 58, 153, 0, 11, 42, 28, 182, 1, 134, 154, 0, 6, 16, 254, 172, 42, 182, 1, 131, 42]
abbrev dktX4_shows_0 : List UInt8 := dkwX4_shows_0 ++ dktX4_shows_1
theorem dksX4_shows_0 : cX4_shows.data.toList.drop 0 = dktX4_shows_0 := by decide +kernel
theorem dksX4_shows_1 : cX4_shows.data.toList.drop 24 = dktX4_shows_1 := dk_seg dksX4_shows_0 24 rfl rfl
theorem dX4_shows_0 : decode cX4_shows 0 = .ok (.aload_n 0, 1) := dk_42 (dk_at dksX4_shows_0 0 rfl rfl)
theorem dX4_shows_1 : decode cX4_shows 1 = .ok (.iload_n 1, 1) := dk_27 (dk_at dksX4_shows_0 1 rfl rfl)
theorem dX4_shows_2 : decode cX4_shows 2 = .ok (.invokevirtual 314, 3) := dk_182 1 58 (dk_at dksX4_shows_0 2 rfl rfl)
theorem dX4_shows_5 : decode cX4_shows 5 = .ok (.ifCond .eq 11, 3) := dk_153 0 11 (dk_at dksX4_shows_0 5 rfl rfl)
theorem dX4_shows_8 : decode cX4_shows 8 = .ok (.aload_n 0, 1) := dk_42 (dk_at dksX4_shows_0 8 rfl rfl)
theorem dX4_shows_9 : decode cX4_shows 9 = .ok (.iload_n 2, 1) := dk_28 (dk_at dksX4_shows_0 9 rfl rfl)
theorem dX4_shows_10 : decode cX4_shows 10 = .ok (.invokevirtual 390, 3) := dk_182 1 134 (dk_at dksX4_shows_0 10 rfl rfl)
theorem dX4_shows_13 : decode cX4_shows 13 = .ok (.ifCond .ne 6, 3) := dk_154 0 6 (dk_at dksX4_shows_0 13 rfl rfl)
theorem dX4_shows_16 : decode cX4_shows 16 = .ok (.bipush (-2), 2) := dk_16 254 (dk_at dksX4_shows_0 16 rfl rfl)
theorem dX4_shows_18 : decode cX4_shows 18 = .ok (.ireturn, 1) := dk_172 (dk_at dksX4_shows_0 18 rfl rfl)
theorem dX4_shows_19 : decode cX4_shows 19 = .ok (.aload_n 0, 1) := dk_42 (dk_at dksX4_shows_0 19 rfl rfl)
theorem dX4_shows_20 : decode cX4_shows 20 = .ok (.invokevirtual 387, 3) := dk_182 1 131 (dk_at dksX4_shows_0 20 rfl rfl)
theorem dX4_shows_23 : decode cX4_shows 23 = .ok (.aload_n 0, 1) := dk_42 (dk_at dksX4_shows_0 23 rfl rfl)
theorem dX4_shows_24 : decode cX4_shows 24 = .ok (.iload_n 1, 1) := dk_27 (dk_at dksX4_shows_1 0 rfl rfl)
theorem dX4_shows_25 : decode cX4_shows 25 = .ok (.iload_n 2, 1) := dk_28 (dk_at dksX4_shows_1 1 rfl rfl)
theorem dX4_shows_26 : decode cX4_shows 26 = .ok (.invokevirtual 342, 3) := dk_182 1 86 (dk_at dksX4_shows_1 2 rfl rfl)
theorem dX4_shows_29 : decode cX4_shows 29 = .ok (.ireturn, 1) := dk_172 (dk_at dksX4_shows_1 5 rfl rfl)
abbrev cX4_isTime : ByteArray := prog_19_method_10_code
def yX4_isTime : MethodName := ⟨RX4, "isTime", "(I)Z"⟩
def dkwX4_isTime_1 : List UInt8 := [4, 167, 0, 4, 3, 172]
abbrev dktX4_isTime_1 : List UInt8 := dkwX4_isTime_1 ++ []
def dkwX4_isTime_0 : List UInt8 := [42, 182, 0, 108, 153, 0, 24, 27, 133, 9, 42, 180, 0, 9, 16, 6, 46, 133, 184, 0, 104, 153, 0, 7]
abbrev dktX4_isTime_0 : List UInt8 := dkwX4_isTime_0 ++ dktX4_isTime_1
theorem dksX4_isTime_0 : cX4_isTime.data.toList.drop 0 = dktX4_isTime_0 := by decide +kernel
theorem dksX4_isTime_1 : cX4_isTime.data.toList.drop 24 = dktX4_isTime_1 := dk_seg dksX4_isTime_0 24 rfl rfl
theorem dX4_isTime_0 : decode cX4_isTime 0 = .ok (.aload_n 0, 1) := dk_42 (dk_at dksX4_isTime_0 0 rfl rfl)
theorem dX4_isTime_1 : decode cX4_isTime 1 = .ok (.invokevirtual 108, 3) := dk_182 0 108 (dk_at dksX4_isTime_0 1 rfl rfl)
theorem dX4_isTime_4 : decode cX4_isTime 4 = .ok (.ifCond .eq 24, 3) := dk_153 0 24 (dk_at dksX4_isTime_0 4 rfl rfl)
theorem dX4_isTime_7 : decode cX4_isTime 7 = .ok (.iload_n 1, 1) := dk_27 (dk_at dksX4_isTime_0 7 rfl rfl)
theorem dX4_isTime_8 : decode cX4_isTime 8 = .ok (.i2l, 1) := dk_133 (dk_at dksX4_isTime_0 8 rfl rfl)
theorem dX4_isTime_9 : decode cX4_isTime 9 = .ok (.lconst 0, 1) := dk_9 (dk_at dksX4_isTime_0 9 rfl rfl)
theorem dX4_isTime_10 : decode cX4_isTime 10 = .ok (.aload_n 0, 1) := dk_42 (dk_at dksX4_isTime_0 10 rfl rfl)
theorem dX4_isTime_11 : decode cX4_isTime 11 = .ok (.getfield 9, 3) := dk_180 0 9 (dk_at dksX4_isTime_0 11 rfl rfl)
theorem dX4_isTime_14 : decode cX4_isTime 14 = .ok (.bipush 6, 2) := dk_16 6 (dk_at dksX4_isTime_0 14 rfl rfl)
theorem dX4_isTime_16 : decode cX4_isTime 16 = .ok (.iaload, 1) := dk_46 (dk_at dksX4_isTime_0 16 rfl rfl)
theorem dX4_isTime_17 : decode cX4_isTime 17 = .ok (.i2l, 1) := dk_133 (dk_at dksX4_isTime_0 17 rfl rfl)
theorem dX4_isTime_18 : decode cX4_isTime 18 = .ok (.invokestatic 104, 3) := dk_184 0 104 (dk_at dksX4_isTime_0 18 rfl rfl)
theorem dX4_isTime_21 : decode cX4_isTime 21 = .ok (.ifCond .eq 7, 3) := dk_153 0 7 (dk_at dksX4_isTime_0 21 rfl rfl)
theorem dX4_isTime_24 : decode cX4_isTime 24 = .ok (.iconst 1, 1) := dk_4 (dk_at dksX4_isTime_1 0 rfl rfl)
theorem dX4_isTime_25 : decode cX4_isTime 25 = .ok (.goto 4, 3) := dk_167 0 4 (dk_at dksX4_isTime_1 1 rfl rfl)
theorem dX4_isTime_28 : decode cX4_isTime 28 = .ok (.iconst 0, 1) := dk_3 (dk_at dksX4_isTime_1 4 rfl rfl)
theorem dX4_isTime_29 : decode cX4_isTime 29 = .ok (.ireturn, 1) := dk_172 (dk_at dksX4_isTime_1 5 rfl rfl)
abbrev cX4_isSquare : ByteArray := prog_19_method_6_code
def yX4_isSquare : MethodName := ⟨RX4, "isSquare", "()Z"⟩
def dkwX4_isSquare_0 : List UInt8 := [42, 180, 0, 9, 7, 46, 158, 0, 7, 4, 167, 0, 4, 3, 172]
abbrev dktX4_isSquare_0 : List UInt8 := dkwX4_isSquare_0 ++ []
theorem dksX4_isSquare_0 : cX4_isSquare.data.toList.drop 0 = dktX4_isSquare_0 := by decide +kernel
theorem dX4_isSquare_0 : decode cX4_isSquare 0 = .ok (.aload_n 0, 1) := dk_42 (dk_at dksX4_isSquare_0 0 rfl rfl)
theorem dX4_isSquare_1 : decode cX4_isSquare 1 = .ok (.getfield 9, 3) := dk_180 0 9 (dk_at dksX4_isSquare_0 1 rfl rfl)
theorem dX4_isSquare_4 : decode cX4_isSquare 4 = .ok (.iconst 4, 1) := dk_7 (dk_at dksX4_isSquare_0 4 rfl rfl)
theorem dX4_isSquare_5 : decode cX4_isSquare 5 = .ok (.iaload, 1) := dk_46 (dk_at dksX4_isSquare_0 5 rfl rfl)
theorem dX4_isSquare_6 : decode cX4_isSquare 6 = .ok (.ifCond .le 7, 3) := dk_158 0 7 (dk_at dksX4_isSquare_0 6 rfl rfl)
theorem dX4_isSquare_9 : decode cX4_isSquare 9 = .ok (.iconst 1, 1) := dk_4 (dk_at dksX4_isSquare_0 9 rfl rfl)
theorem dX4_isSquare_10 : decode cX4_isSquare 10 = .ok (.goto 4, 3) := dk_167 0 4 (dk_at dksX4_isSquare_0 10 rfl rfl)
theorem dX4_isSquare_13 : decode cX4_isSquare 13 = .ok (.iconst 0, 1) := dk_3 (dk_at dksX4_isSquare_0 13 rfl rfl)
theorem dX4_isSquare_14 : decode cX4_isSquare 14 = .ok (.ireturn, 1) := dk_172 (dk_at dksX4_isSquare_0 14 rfl rfl)
abbrev cX4_value : ByteArray := prog_19_method_64_code
def yX4_value : MethodName := ⟨RX4, "value", "(III)I"⟩
def dkwX4_value_3 : List UInt8 := [160, 0, 11, 21, 4, 21, 5, 112, 167, 0, 5, 21, 5, 172]
abbrev dktX4_value_3 : List UInt8 := dkwX4_value_3 ++ []
def dkwX4_value_2 : List UInt8 := [54, 4, 42, 27, 6, 182, 1, 29, 54, 5, 29, 154, 0, 11, 21, 4, 21, 5, 108, 167, 0, 18, 29, 4]
abbrev dktX4_value_2 : List UInt8 := dkwX4_value_2 ++ dktX4_value_3
def dkwX4_value_1 : List UInt8 := [184, 0, 104, 154, 0, 6, 16, 254, 172, 42, 182, 1, 131, 42, 180, 0, 43, 7, 28, 104, 27, 96, 46]
abbrev dktX4_value_1 : List UInt8 := dkwX4_value_1 ++ dktX4_value_2
def dkwX4_value_0 : List UInt8 := [42, 27, 182, 1, 58, 153, 0, 23, 42, 28, 182, 1, 134, 153, 0, 15, 29, 133, 9, 20, 0, 102]
abbrev dktX4_value_0 : List UInt8 := dkwX4_value_0 ++ dktX4_value_1
theorem dksX4_value_0 : cX4_value.data.toList.drop 0 = dktX4_value_0 := by decide +kernel
theorem dksX4_value_1 : cX4_value.data.toList.drop 22 = dktX4_value_1 := dk_seg dksX4_value_0 22 rfl rfl
theorem dksX4_value_2 : cX4_value.data.toList.drop 45 = dktX4_value_2 := dk_seg dksX4_value_1 23 rfl rfl
theorem dksX4_value_3 : cX4_value.data.toList.drop 69 = dktX4_value_3 := dk_seg dksX4_value_2 24 rfl rfl
theorem dX4_value_0 : decode cX4_value 0 = .ok (.aload_n 0, 1) := dk_42 (dk_at dksX4_value_0 0 rfl rfl)
theorem dX4_value_1 : decode cX4_value 1 = .ok (.iload_n 1, 1) := dk_27 (dk_at dksX4_value_0 1 rfl rfl)
theorem dX4_value_2 : decode cX4_value 2 = .ok (.invokevirtual 314, 3) := dk_182 1 58 (dk_at dksX4_value_0 2 rfl rfl)
theorem dX4_value_5 : decode cX4_value 5 = .ok (.ifCond .eq 23, 3) := dk_153 0 23 (dk_at dksX4_value_0 5 rfl rfl)
theorem dX4_value_8 : decode cX4_value 8 = .ok (.aload_n 0, 1) := dk_42 (dk_at dksX4_value_0 8 rfl rfl)
theorem dX4_value_9 : decode cX4_value 9 = .ok (.iload_n 2, 1) := dk_28 (dk_at dksX4_value_0 9 rfl rfl)
theorem dX4_value_10 : decode cX4_value 10 = .ok (.invokevirtual 390, 3) := dk_182 1 134 (dk_at dksX4_value_0 10 rfl rfl)
theorem dX4_value_13 : decode cX4_value 13 = .ok (.ifCond .eq 15, 3) := dk_153 0 15 (dk_at dksX4_value_0 13 rfl rfl)
theorem dX4_value_16 : decode cX4_value 16 = .ok (.iload_n 3, 1) := dk_29 (dk_at dksX4_value_0 16 rfl rfl)
theorem dX4_value_17 : decode cX4_value 17 = .ok (.i2l, 1) := dk_133 (dk_at dksX4_value_0 17 rfl rfl)
theorem dX4_value_18 : decode cX4_value 18 = .ok (.lconst 0, 1) := dk_9 (dk_at dksX4_value_0 18 rfl rfl)
theorem dX4_value_19 : decode cX4_value 19 = .ok (.ldc2_w 102, 3) := dk_20 0 102 (dk_at dksX4_value_0 19 rfl rfl)
theorem dX4_value_22 : decode cX4_value 22 = .ok (.invokestatic 104, 3) := dk_184 0 104 (dk_at dksX4_value_1 0 rfl rfl)
theorem dX4_value_25 : decode cX4_value 25 = .ok (.ifCond .ne 6, 3) := dk_154 0 6 (dk_at dksX4_value_1 3 rfl rfl)
theorem dX4_value_28 : decode cX4_value 28 = .ok (.bipush (-2), 2) := dk_16 254 (dk_at dksX4_value_1 6 rfl rfl)
theorem dX4_value_30 : decode cX4_value 30 = .ok (.ireturn, 1) := dk_172 (dk_at dksX4_value_1 8 rfl rfl)
theorem dX4_value_31 : decode cX4_value 31 = .ok (.aload_n 0, 1) := dk_42 (dk_at dksX4_value_1 9 rfl rfl)
theorem dX4_value_32 : decode cX4_value 32 = .ok (.invokevirtual 387, 3) := dk_182 1 131 (dk_at dksX4_value_1 10 rfl rfl)
theorem dX4_value_35 : decode cX4_value 35 = .ok (.aload_n 0, 1) := dk_42 (dk_at dksX4_value_1 13 rfl rfl)
theorem dX4_value_36 : decode cX4_value 36 = .ok (.getfield 43, 3) := dk_180 0 43 (dk_at dksX4_value_1 14 rfl rfl)
theorem dX4_value_39 : decode cX4_value 39 = .ok (.iconst 4, 1) := dk_7 (dk_at dksX4_value_1 17 rfl rfl)
theorem dX4_value_40 : decode cX4_value 40 = .ok (.iload_n 2, 1) := dk_28 (dk_at dksX4_value_1 18 rfl rfl)
theorem dX4_value_41 : decode cX4_value 41 = .ok (.imul, 1) := dk_104 (dk_at dksX4_value_1 19 rfl rfl)
theorem dX4_value_42 : decode cX4_value 42 = .ok (.iload_n 1, 1) := dk_27 (dk_at dksX4_value_1 20 rfl rfl)
theorem dX4_value_43 : decode cX4_value 43 = .ok (.iadd, 1) := dk_96 (dk_at dksX4_value_1 21 rfl rfl)
theorem dX4_value_44 : decode cX4_value 44 = .ok (.iaload, 1) := dk_46 (dk_at dksX4_value_1 22 rfl rfl)
theorem dX4_value_45 : decode cX4_value 45 = .ok (.istore 4, 2) := dk_54 4 (dk_at dksX4_value_2 0 rfl rfl)
theorem dX4_value_47 : decode cX4_value 47 = .ok (.aload_n 0, 1) := dk_42 (dk_at dksX4_value_2 2 rfl rfl)
theorem dX4_value_48 : decode cX4_value 48 = .ok (.iload_n 1, 1) := dk_27 (dk_at dksX4_value_2 3 rfl rfl)
theorem dX4_value_49 : decode cX4_value 49 = .ok (.iconst 3, 1) := dk_6 (dk_at dksX4_value_2 4 rfl rfl)
theorem dX4_value_50 : decode cX4_value 50 = .ok (.invokevirtual 285, 3) := dk_182 1 29 (dk_at dksX4_value_2 5 rfl rfl)
theorem dX4_value_53 : decode cX4_value 53 = .ok (.istore 5, 2) := dk_54 5 (dk_at dksX4_value_2 8 rfl rfl)
theorem dX4_value_55 : decode cX4_value 55 = .ok (.iload_n 3, 1) := dk_29 (dk_at dksX4_value_2 10 rfl rfl)
theorem dX4_value_56 : decode cX4_value 56 = .ok (.ifCond .ne 11, 3) := dk_154 0 11 (dk_at dksX4_value_2 11 rfl rfl)
theorem dX4_value_59 : decode cX4_value 59 = .ok (.iload 4, 2) := dk_21 4 (dk_at dksX4_value_2 14 rfl rfl)
theorem dX4_value_61 : decode cX4_value 61 = .ok (.iload 5, 2) := dk_21 5 (dk_at dksX4_value_2 16 rfl rfl)
theorem dX4_value_63 : decode cX4_value 63 = .ok (.idiv, 1) := dk_108 (dk_at dksX4_value_2 18 rfl rfl)
theorem dX4_value_64 : decode cX4_value 64 = .ok (.goto 18, 3) := dk_167 0 18 (dk_at dksX4_value_2 19 rfl rfl)
theorem dX4_value_67 : decode cX4_value 67 = .ok (.iload_n 3, 1) := dk_29 (dk_at dksX4_value_2 22 rfl rfl)
theorem dX4_value_68 : decode cX4_value 68 = .ok (.iconst 1, 1) := dk_4 (dk_at dksX4_value_2 23 rfl rfl)
theorem dX4_value_69 : decode cX4_value 69 = .ok (.if_icmp .ne 11, 3) := dk_160 0 11 (dk_at dksX4_value_3 0 rfl rfl)
theorem dX4_value_72 : decode cX4_value 72 = .ok (.iload 4, 2) := dk_21 4 (dk_at dksX4_value_3 3 rfl rfl)
theorem dX4_value_74 : decode cX4_value 74 = .ok (.iload 5, 2) := dk_21 5 (dk_at dksX4_value_3 5 rfl rfl)
theorem dX4_value_76 : decode cX4_value 76 = .ok (.irem, 1) := dk_112 (dk_at dksX4_value_3 7 rfl rfl)
theorem dX4_value_77 : decode cX4_value 77 = .ok (.goto 5, 3) := dk_167 0 5 (dk_at dksX4_value_3 8 rfl rfl)
theorem dX4_value_80 : decode cX4_value 80 = .ok (.iload 5, 2) := dk_21 5 (dk_at dksX4_value_3 11 rfl rfl)
theorem dX4_value_82 : decode cX4_value 82 = .ok (.ireturn, 1) := dk_172 (dk_at dksX4_value_3 13 rfl rfl)
abbrev cX4_still : ByteArray := prog_19_method_65_code
def yX4_still : MethodName := ⟨RX4, "still", "(II)I"⟩
def dkwX4_still_6 : List UInt8 := [21, 5, 167, 0, 5, 21, 6, 172]
abbrev dktX4_still_6 : List UInt8 := dkwX4_still_6 ++ []
def dkwX4_still_5 : List UInt8 := [21, 6, 54, 6, 132, 7, 1, 167, 255, 175, 28, 154, 0, 7, 29, 167, 0, 15, 28, 4, 160, 0, 8]
abbrev dktX4_still_5 : List UInt8 := dkwX4_still_5 ++ dktX4_still_6
def dkwX4_still_4 : List UInt8 := [21, 4, 184, 1, 35, 54, 5, 21, 8, 154, 0, 14, 21, 6, 2, 160, 0, 8, 21, 7, 167, 0, 5]
abbrev dktX4_still_4 : List UInt8 := dkwX4_still_4 ++ dktX4_still_5
def dkwX4_still_3 : List UInt8 := [167, 0, 4, 3, 96, 62, 21, 8, 153, 0, 10, 21, 4, 4, 96, 167, 0, 4, 3, 54, 4, 21, 5]
abbrev dktX4_still_3 : List UInt8 := dkwX4_still_3 ++ dktX4_still_4
def dkwX4_still_2 : List UInt8 := [16, 6, 46, 162, 0, 75, 42, 27, 21, 7, 182, 1, 116, 54, 8, 29, 21, 8, 153, 0, 7, 4]
abbrev dktX4_still_2 : List UInt8 := dkwX4_still_2 ++ dktX4_still_3
def dkwX4_still_1 : List UInt8 := [182, 1, 131, 3, 62, 3, 54, 4, 3, 54, 5, 2, 54, 6, 3, 54, 7, 21, 7, 42, 180, 0, 9]
abbrev dktX4_still_1 : List UInt8 := dkwX4_still_1 ++ dktX4_still_2
def dkwX4_still_0 : List UInt8 := [42, 27, 182, 1, 58, 153, 0, 15, 28, 133, 9, 20, 0, 102, 184, 0, 104, 154, 0, 6, 16, 254, 172, 42]
abbrev dktX4_still_0 : List UInt8 := dkwX4_still_0 ++ dktX4_still_1
theorem dksX4_still_0 : cX4_still.data.toList.drop 0 = dktX4_still_0 := by decide +kernel
theorem dksX4_still_1 : cX4_still.data.toList.drop 24 = dktX4_still_1 := dk_seg dksX4_still_0 24 rfl rfl
theorem dksX4_still_2 : cX4_still.data.toList.drop 47 = dktX4_still_2 := dk_seg dksX4_still_1 23 rfl rfl
theorem dksX4_still_3 : cX4_still.data.toList.drop 69 = dktX4_still_3 := dk_seg dksX4_still_2 22 rfl rfl
theorem dksX4_still_4 : cX4_still.data.toList.drop 92 = dktX4_still_4 := dk_seg dksX4_still_3 23 rfl rfl
theorem dksX4_still_5 : cX4_still.data.toList.drop 115 = dktX4_still_5 := dk_seg dksX4_still_4 23 rfl rfl
theorem dksX4_still_6 : cX4_still.data.toList.drop 138 = dktX4_still_6 := dk_seg dksX4_still_5 23 rfl rfl
theorem dX4_still_0 : decode cX4_still 0 = .ok (.aload_n 0, 1) := dk_42 (dk_at dksX4_still_0 0 rfl rfl)
theorem dX4_still_1 : decode cX4_still 1 = .ok (.iload_n 1, 1) := dk_27 (dk_at dksX4_still_0 1 rfl rfl)
theorem dX4_still_2 : decode cX4_still 2 = .ok (.invokevirtual 314, 3) := dk_182 1 58 (dk_at dksX4_still_0 2 rfl rfl)
theorem dX4_still_5 : decode cX4_still 5 = .ok (.ifCond .eq 15, 3) := dk_153 0 15 (dk_at dksX4_still_0 5 rfl rfl)
theorem dX4_still_8 : decode cX4_still 8 = .ok (.iload_n 2, 1) := dk_28 (dk_at dksX4_still_0 8 rfl rfl)
theorem dX4_still_9 : decode cX4_still 9 = .ok (.i2l, 1) := dk_133 (dk_at dksX4_still_0 9 rfl rfl)
theorem dX4_still_10 : decode cX4_still 10 = .ok (.lconst 0, 1) := dk_9 (dk_at dksX4_still_0 10 rfl rfl)
theorem dX4_still_11 : decode cX4_still 11 = .ok (.ldc2_w 102, 3) := dk_20 0 102 (dk_at dksX4_still_0 11 rfl rfl)
theorem dX4_still_14 : decode cX4_still 14 = .ok (.invokestatic 104, 3) := dk_184 0 104 (dk_at dksX4_still_0 14 rfl rfl)
theorem dX4_still_17 : decode cX4_still 17 = .ok (.ifCond .ne 6, 3) := dk_154 0 6 (dk_at dksX4_still_0 17 rfl rfl)
theorem dX4_still_20 : decode cX4_still 20 = .ok (.bipush (-2), 2) := dk_16 254 (dk_at dksX4_still_0 20 rfl rfl)
theorem dX4_still_22 : decode cX4_still 22 = .ok (.ireturn, 1) := dk_172 (dk_at dksX4_still_0 22 rfl rfl)
theorem dX4_still_23 : decode cX4_still 23 = .ok (.aload_n 0, 1) := dk_42 (dk_at dksX4_still_0 23 rfl rfl)
theorem dX4_still_24 : decode cX4_still 24 = .ok (.invokevirtual 387, 3) := dk_182 1 131 (dk_at dksX4_still_1 0 rfl rfl)
theorem dX4_still_27 : decode cX4_still 27 = .ok (.iconst 0, 1) := dk_3 (dk_at dksX4_still_1 3 rfl rfl)
theorem dX4_still_28 : decode cX4_still 28 = .ok (.istore_n 3, 1) := dk_62 (dk_at dksX4_still_1 4 rfl rfl)
theorem dX4_still_29 : decode cX4_still 29 = .ok (.iconst 0, 1) := dk_3 (dk_at dksX4_still_1 5 rfl rfl)
theorem dX4_still_30 : decode cX4_still 30 = .ok (.istore 4, 2) := dk_54 4 (dk_at dksX4_still_1 6 rfl rfl)
theorem dX4_still_32 : decode cX4_still 32 = .ok (.iconst 0, 1) := dk_3 (dk_at dksX4_still_1 8 rfl rfl)
theorem dX4_still_33 : decode cX4_still 33 = .ok (.istore 5, 2) := dk_54 5 (dk_at dksX4_still_1 9 rfl rfl)
theorem dX4_still_35 : decode cX4_still 35 = .ok (.iconst (-1), 1) := dk_2 (dk_at dksX4_still_1 11 rfl rfl)
theorem dX4_still_36 : decode cX4_still 36 = .ok (.istore 6, 2) := dk_54 6 (dk_at dksX4_still_1 12 rfl rfl)
theorem dX4_still_38 : decode cX4_still 38 = .ok (.iconst 0, 1) := dk_3 (dk_at dksX4_still_1 14 rfl rfl)
theorem dX4_still_39 : decode cX4_still 39 = .ok (.istore 7, 2) := dk_54 7 (dk_at dksX4_still_1 15 rfl rfl)
theorem dX4_still_41 : decode cX4_still 41 = .ok (.iload 7, 2) := dk_21 7 (dk_at dksX4_still_1 17 rfl rfl)
theorem dX4_still_43 : decode cX4_still 43 = .ok (.aload_n 0, 1) := dk_42 (dk_at dksX4_still_1 19 rfl rfl)
theorem dX4_still_44 : decode cX4_still 44 = .ok (.getfield 9, 3) := dk_180 0 9 (dk_at dksX4_still_1 20 rfl rfl)
theorem dX4_still_47 : decode cX4_still 47 = .ok (.bipush 6, 2) := dk_16 6 (dk_at dksX4_still_2 0 rfl rfl)
theorem dX4_still_49 : decode cX4_still 49 = .ok (.iaload, 1) := dk_46 (dk_at dksX4_still_2 2 rfl rfl)
theorem dX4_still_50 : decode cX4_still 50 = .ok (.if_icmp .ge 75, 3) := dk_162 0 75 (dk_at dksX4_still_2 3 rfl rfl)
theorem dX4_still_53 : decode cX4_still 53 = .ok (.aload_n 0, 1) := dk_42 (dk_at dksX4_still_2 6 rfl rfl)
theorem dX4_still_54 : decode cX4_still 54 = .ok (.iload_n 1, 1) := dk_27 (dk_at dksX4_still_2 7 rfl rfl)
theorem dX4_still_55 : decode cX4_still 55 = .ok (.iload 7, 2) := dk_21 7 (dk_at dksX4_still_2 8 rfl rfl)
theorem dX4_still_57 : decode cX4_still 57 = .ok (.invokevirtual 372, 3) := dk_182 1 116 (dk_at dksX4_still_2 10 rfl rfl)
theorem dX4_still_60 : decode cX4_still 60 = .ok (.istore 8, 2) := dk_54 8 (dk_at dksX4_still_2 13 rfl rfl)
theorem dX4_still_62 : decode cX4_still 62 = .ok (.iload_n 3, 1) := dk_29 (dk_at dksX4_still_2 15 rfl rfl)
theorem dX4_still_63 : decode cX4_still 63 = .ok (.iload 8, 2) := dk_21 8 (dk_at dksX4_still_2 16 rfl rfl)
theorem dX4_still_65 : decode cX4_still 65 = .ok (.ifCond .eq 7, 3) := dk_153 0 7 (dk_at dksX4_still_2 18 rfl rfl)
theorem dX4_still_68 : decode cX4_still 68 = .ok (.iconst 1, 1) := dk_4 (dk_at dksX4_still_2 21 rfl rfl)
theorem dX4_still_69 : decode cX4_still 69 = .ok (.goto 4, 3) := dk_167 0 4 (dk_at dksX4_still_3 0 rfl rfl)
theorem dX4_still_72 : decode cX4_still 72 = .ok (.iconst 0, 1) := dk_3 (dk_at dksX4_still_3 3 rfl rfl)
theorem dX4_still_73 : decode cX4_still 73 = .ok (.iadd, 1) := dk_96 (dk_at dksX4_still_3 4 rfl rfl)
theorem dX4_still_74 : decode cX4_still 74 = .ok (.istore_n 3, 1) := dk_62 (dk_at dksX4_still_3 5 rfl rfl)
theorem dX4_still_75 : decode cX4_still 75 = .ok (.iload 8, 2) := dk_21 8 (dk_at dksX4_still_3 6 rfl rfl)
theorem dX4_still_77 : decode cX4_still 77 = .ok (.ifCond .eq 10, 3) := dk_153 0 10 (dk_at dksX4_still_3 8 rfl rfl)
theorem dX4_still_80 : decode cX4_still 80 = .ok (.iload 4, 2) := dk_21 4 (dk_at dksX4_still_3 11 rfl rfl)
theorem dX4_still_82 : decode cX4_still 82 = .ok (.iconst 1, 1) := dk_4 (dk_at dksX4_still_3 13 rfl rfl)
theorem dX4_still_83 : decode cX4_still 83 = .ok (.iadd, 1) := dk_96 (dk_at dksX4_still_3 14 rfl rfl)
theorem dX4_still_84 : decode cX4_still 84 = .ok (.goto 4, 3) := dk_167 0 4 (dk_at dksX4_still_3 15 rfl rfl)
theorem dX4_still_87 : decode cX4_still 87 = .ok (.iconst 0, 1) := dk_3 (dk_at dksX4_still_3 18 rfl rfl)
theorem dX4_still_88 : decode cX4_still 88 = .ok (.istore 4, 2) := dk_54 4 (dk_at dksX4_still_3 19 rfl rfl)
theorem dX4_still_90 : decode cX4_still 90 = .ok (.iload 5, 2) := dk_21 5 (dk_at dksX4_still_3 21 rfl rfl)
theorem dX4_still_92 : decode cX4_still 92 = .ok (.iload 4, 2) := dk_21 4 (dk_at dksX4_still_4 0 rfl rfl)
theorem dX4_still_94 : decode cX4_still 94 = .ok (.invokestatic 291, 3) := dk_184 1 35 (dk_at dksX4_still_4 2 rfl rfl)
theorem dX4_still_97 : decode cX4_still 97 = .ok (.istore 5, 2) := dk_54 5 (dk_at dksX4_still_4 5 rfl rfl)
theorem dX4_still_99 : decode cX4_still 99 = .ok (.iload 8, 2) := dk_21 8 (dk_at dksX4_still_4 7 rfl rfl)
theorem dX4_still_101 : decode cX4_still 101 = .ok (.ifCond .ne 14, 3) := dk_154 0 14 (dk_at dksX4_still_4 9 rfl rfl)
theorem dX4_still_104 : decode cX4_still 104 = .ok (.iload 6, 2) := dk_21 6 (dk_at dksX4_still_4 12 rfl rfl)
theorem dX4_still_106 : decode cX4_still 106 = .ok (.iconst (-1), 1) := dk_2 (dk_at dksX4_still_4 14 rfl rfl)
theorem dX4_still_107 : decode cX4_still 107 = .ok (.if_icmp .ne 8, 3) := dk_160 0 8 (dk_at dksX4_still_4 15 rfl rfl)
theorem dX4_still_110 : decode cX4_still 110 = .ok (.iload 7, 2) := dk_21 7 (dk_at dksX4_still_4 18 rfl rfl)
theorem dX4_still_112 : decode cX4_still 112 = .ok (.goto 5, 3) := dk_167 0 5 (dk_at dksX4_still_4 20 rfl rfl)
theorem dX4_still_115 : decode cX4_still 115 = .ok (.iload 6, 2) := dk_21 6 (dk_at dksX4_still_5 0 rfl rfl)
theorem dX4_still_117 : decode cX4_still 117 = .ok (.istore 6, 2) := dk_54 6 (dk_at dksX4_still_5 2 rfl rfl)
theorem dX4_still_119 : decode cX4_still 119 = .ok (.iinc 7 1, 3) := dk_132 7 1 (dk_at dksX4_still_5 4 rfl rfl)
theorem dX4_still_122 : decode cX4_still 122 = .ok (.goto (-81), 3) := dk_167 255 175 (dk_at dksX4_still_5 7 rfl rfl)
theorem dX4_still_125 : decode cX4_still 125 = .ok (.iload_n 2, 1) := dk_28 (dk_at dksX4_still_5 10 rfl rfl)
theorem dX4_still_126 : decode cX4_still 126 = .ok (.ifCond .ne 7, 3) := dk_154 0 7 (dk_at dksX4_still_5 11 rfl rfl)
theorem dX4_still_129 : decode cX4_still 129 = .ok (.iload_n 3, 1) := dk_29 (dk_at dksX4_still_5 14 rfl rfl)
theorem dX4_still_130 : decode cX4_still 130 = .ok (.goto 15, 3) := dk_167 0 15 (dk_at dksX4_still_5 15 rfl rfl)
theorem dX4_still_133 : decode cX4_still 133 = .ok (.iload_n 2, 1) := dk_28 (dk_at dksX4_still_5 18 rfl rfl)
theorem dX4_still_134 : decode cX4_still 134 = .ok (.iconst 1, 1) := dk_4 (dk_at dksX4_still_5 19 rfl rfl)
theorem dX4_still_135 : decode cX4_still 135 = .ok (.if_icmp .ne 8, 3) := dk_160 0 8 (dk_at dksX4_still_5 20 rfl rfl)
theorem dX4_still_138 : decode cX4_still 138 = .ok (.iload 5, 2) := dk_21 5 (dk_at dksX4_still_6 0 rfl rfl)
theorem dX4_still_140 : decode cX4_still 140 = .ok (.goto 5, 3) := dk_167 0 5 (dk_at dksX4_still_6 2 rfl rfl)
theorem dX4_still_143 : decode cX4_still 143 = .ok (.iload 6, 2) := dk_21 6 (dk_at dksX4_still_6 5 rfl rfl)
theorem dX4_still_145 : decode cX4_still 145 = .ok (.ireturn, 1) := dk_172 (dk_at dksX4_still_6 7 rfl rfl)
abbrev cX4_open : ByteArray := prog_19_method_66_code
def yX4_open : MethodName := ⟨RX4, "open", "()I"⟩
def dkwX4_open_0 : List UInt8 := [42, 182, 0, 108, 154, 0, 6, 16, 254, 172, 42, 182, 1, 131, 42, 180, 1, 107, 172]
abbrev dktX4_open_0 : List UInt8 := dkwX4_open_0 ++ []
theorem dksX4_open_0 : cX4_open.data.toList.drop 0 = dktX4_open_0 := by decide +kernel
theorem dX4_open_0 : decode cX4_open 0 = .ok (.aload_n 0, 1) := dk_42 (dk_at dksX4_open_0 0 rfl rfl)
theorem dX4_open_1 : decode cX4_open 1 = .ok (.invokevirtual 108, 3) := dk_182 0 108 (dk_at dksX4_open_0 1 rfl rfl)
theorem dX4_open_4 : decode cX4_open 4 = .ok (.ifCond .ne 6, 3) := dk_154 0 6 (dk_at dksX4_open_0 4 rfl rfl)
theorem dX4_open_7 : decode cX4_open 7 = .ok (.bipush (-2), 2) := dk_16 254 (dk_at dksX4_open_0 7 rfl rfl)
theorem dX4_open_9 : decode cX4_open 9 = .ok (.ireturn, 1) := dk_172 (dk_at dksX4_open_0 9 rfl rfl)
theorem dX4_open_10 : decode cX4_open 10 = .ok (.aload_n 0, 1) := dk_42 (dk_at dksX4_open_0 10 rfl rfl)
theorem dX4_open_11 : decode cX4_open 11 = .ok (.invokevirtual 387, 3) := dk_182 1 131 (dk_at dksX4_open_0 11 rfl rfl)
theorem dX4_open_14 : decode cX4_open 14 = .ok (.aload_n 0, 1) := dk_42 (dk_at dksX4_open_0 14 rfl rfl)
theorem dX4_open_15 : decode cX4_open 15 = .ok (.getfield 363, 3) := dk_180 1 107 (dk_at dksX4_open_0 15 rfl rfl)
theorem dX4_open_18 : decode cX4_open 18 = .ok (.ireturn, 1) := dk_172 (dk_at dksX4_open_0 18 rfl rfl)
abbrev cX4_opens : ByteArray := prog_19_method_67_code
def yX4_opens : MethodName := ⟨RX4, "opens", "(I)I"⟩
def dkwX4_opens_1 : List UInt8 := [184, 0, 104, 153, 0, 12, 42, 180, 0, 52, 27, 46, 167, 0, 4, 2, 172]
abbrev dktX4_opens_1 : List UInt8 := dkwX4_opens_1 ++ []
def dkwX4_opens_0 : List UInt8 := [42, 182, 0, 108, 154, 0, 6, 16, 254, 172, 42, 182, 1, 131, 27, 133, 9, 42, 180, 1, 107, 4, 100, 133]
abbrev dktX4_opens_0 : List UInt8 := dkwX4_opens_0 ++ dktX4_opens_1
theorem dksX4_opens_0 : cX4_opens.data.toList.drop 0 = dktX4_opens_0 := by decide +kernel
theorem dksX4_opens_1 : cX4_opens.data.toList.drop 24 = dktX4_opens_1 := dk_seg dksX4_opens_0 24 rfl rfl
theorem dX4_opens_0 : decode cX4_opens 0 = .ok (.aload_n 0, 1) := dk_42 (dk_at dksX4_opens_0 0 rfl rfl)
theorem dX4_opens_1 : decode cX4_opens 1 = .ok (.invokevirtual 108, 3) := dk_182 0 108 (dk_at dksX4_opens_0 1 rfl rfl)
theorem dX4_opens_4 : decode cX4_opens 4 = .ok (.ifCond .ne 6, 3) := dk_154 0 6 (dk_at dksX4_opens_0 4 rfl rfl)
theorem dX4_opens_7 : decode cX4_opens 7 = .ok (.bipush (-2), 2) := dk_16 254 (dk_at dksX4_opens_0 7 rfl rfl)
theorem dX4_opens_9 : decode cX4_opens 9 = .ok (.ireturn, 1) := dk_172 (dk_at dksX4_opens_0 9 rfl rfl)
theorem dX4_opens_10 : decode cX4_opens 10 = .ok (.aload_n 0, 1) := dk_42 (dk_at dksX4_opens_0 10 rfl rfl)
theorem dX4_opens_11 : decode cX4_opens 11 = .ok (.invokevirtual 387, 3) := dk_182 1 131 (dk_at dksX4_opens_0 11 rfl rfl)
theorem dX4_opens_14 : decode cX4_opens 14 = .ok (.iload_n 1, 1) := dk_27 (dk_at dksX4_opens_0 14 rfl rfl)
theorem dX4_opens_15 : decode cX4_opens 15 = .ok (.i2l, 1) := dk_133 (dk_at dksX4_opens_0 15 rfl rfl)
theorem dX4_opens_16 : decode cX4_opens 16 = .ok (.lconst 0, 1) := dk_9 (dk_at dksX4_opens_0 16 rfl rfl)
theorem dX4_opens_17 : decode cX4_opens 17 = .ok (.aload_n 0, 1) := dk_42 (dk_at dksX4_opens_0 17 rfl rfl)
theorem dX4_opens_18 : decode cX4_opens 18 = .ok (.getfield 363, 3) := dk_180 1 107 (dk_at dksX4_opens_0 18 rfl rfl)
theorem dX4_opens_21 : decode cX4_opens 21 = .ok (.iconst 1, 1) := dk_4 (dk_at dksX4_opens_0 21 rfl rfl)
theorem dX4_opens_22 : decode cX4_opens 22 = .ok (.isub, 1) := dk_100 (dk_at dksX4_opens_0 22 rfl rfl)
theorem dX4_opens_23 : decode cX4_opens 23 = .ok (.i2l, 1) := dk_133 (dk_at dksX4_opens_0 23 rfl rfl)
theorem dX4_opens_24 : decode cX4_opens 24 = .ok (.invokestatic 104, 3) := dk_184 0 104 (dk_at dksX4_opens_1 0 rfl rfl)
theorem dX4_opens_27 : decode cX4_opens 27 = .ok (.ifCond .eq 12, 3) := dk_153 0 12 (dk_at dksX4_opens_1 3 rfl rfl)
theorem dX4_opens_30 : decode cX4_opens 30 = .ok (.aload_n 0, 1) := dk_42 (dk_at dksX4_opens_1 6 rfl rfl)
theorem dX4_opens_31 : decode cX4_opens 31 = .ok (.getfield 52, 3) := dk_180 0 52 (dk_at dksX4_opens_1 7 rfl rfl)
theorem dX4_opens_34 : decode cX4_opens 34 = .ok (.iload_n 1, 1) := dk_27 (dk_at dksX4_opens_1 10 rfl rfl)
theorem dX4_opens_35 : decode cX4_opens 35 = .ok (.iaload, 1) := dk_46 (dk_at dksX4_opens_1 11 rfl rfl)
theorem dX4_opens_36 : decode cX4_opens 36 = .ok (.goto 4, 3) := dk_167 0 4 (dk_at dksX4_opens_1 12 rfl rfl)
theorem dX4_opens_39 : decode cX4_opens 39 = .ok (.iconst (-1), 1) := dk_2 (dk_at dksX4_opens_1 15 rfl rfl)
theorem dX4_opens_40 : decode cX4_opens 40 = .ok (.ireturn, 1) := dk_172 (dk_at dksX4_opens_1 16 rfl rfl)
abbrev cX4_bell : ByteArray := prog_19_method_69_code
def yX4_bell : MethodName := ⟨RX4, "bell", "(II)I"⟩
def dkwX4_bell_2 : List UInt8 := [28, 29, 182, 1, 142, 27, 161, 0, 5, 29, 172, 132, 3, 1, 167, 255, 230, 2, 172]
abbrev dktX4_bell_2 : List UInt8 := dkwX4_bell_2 ++ []
def dkwX4_bell_1 : List UInt8 := [154, 0, 6, 16, 254, 172, 42, 182, 1, 131, 3, 62, 29, 42, 180, 0, 9, 16, 6, 46, 163, 0, 21, 42]
abbrev dktX4_bell_1 : List UInt8 := dkwX4_bell_1 ++ dktX4_bell_2
def dkwX4_bell_0 : List UInt8 := [42, 182, 0, 108, 153, 0, 22, 27, 133, 10, 20, 1, 137, 184, 0, 104, 153, 0, 10, 28, 184, 1, 139]
abbrev dktX4_bell_0 : List UInt8 := dkwX4_bell_0 ++ dktX4_bell_1
theorem dksX4_bell_0 : cX4_bell.data.toList.drop 0 = dktX4_bell_0 := by decide +kernel
theorem dksX4_bell_1 : cX4_bell.data.toList.drop 23 = dktX4_bell_1 := dk_seg dksX4_bell_0 23 rfl rfl
theorem dksX4_bell_2 : cX4_bell.data.toList.drop 47 = dktX4_bell_2 := dk_seg dksX4_bell_1 24 rfl rfl
theorem dX4_bell_0 : decode cX4_bell 0 = .ok (.aload_n 0, 1) := dk_42 (dk_at dksX4_bell_0 0 rfl rfl)
theorem dX4_bell_1 : decode cX4_bell 1 = .ok (.invokevirtual 108, 3) := dk_182 0 108 (dk_at dksX4_bell_0 1 rfl rfl)
theorem dX4_bell_4 : decode cX4_bell 4 = .ok (.ifCond .eq 22, 3) := dk_153 0 22 (dk_at dksX4_bell_0 4 rfl rfl)
theorem dX4_bell_7 : decode cX4_bell 7 = .ok (.iload_n 1, 1) := dk_27 (dk_at dksX4_bell_0 7 rfl rfl)
theorem dX4_bell_8 : decode cX4_bell 8 = .ok (.i2l, 1) := dk_133 (dk_at dksX4_bell_0 8 rfl rfl)
theorem dX4_bell_9 : decode cX4_bell 9 = .ok (.lconst 1, 1) := dk_10 (dk_at dksX4_bell_0 9 rfl rfl)
theorem dX4_bell_10 : decode cX4_bell 10 = .ok (.ldc2_w 393, 3) := dk_20 1 137 (dk_at dksX4_bell_0 10 rfl rfl)
theorem dX4_bell_13 : decode cX4_bell 13 = .ok (.invokestatic 104, 3) := dk_184 0 104 (dk_at dksX4_bell_0 13 rfl rfl)
theorem dX4_bell_16 : decode cX4_bell 16 = .ok (.ifCond .eq 10, 3) := dk_153 0 10 (dk_at dksX4_bell_0 16 rfl rfl)
theorem dX4_bell_19 : decode cX4_bell 19 = .ok (.iload_n 2, 1) := dk_28 (dk_at dksX4_bell_0 19 rfl rfl)
theorem dX4_bell_20 : decode cX4_bell 20 = .ok (.invokestatic 395, 3) := dk_184 1 139 (dk_at dksX4_bell_0 20 rfl rfl)
theorem dX4_bell_23 : decode cX4_bell 23 = .ok (.ifCond .ne 6, 3) := dk_154 0 6 (dk_at dksX4_bell_1 0 rfl rfl)
theorem dX4_bell_26 : decode cX4_bell 26 = .ok (.bipush (-2), 2) := dk_16 254 (dk_at dksX4_bell_1 3 rfl rfl)
theorem dX4_bell_28 : decode cX4_bell 28 = .ok (.ireturn, 1) := dk_172 (dk_at dksX4_bell_1 5 rfl rfl)
theorem dX4_bell_29 : decode cX4_bell 29 = .ok (.aload_n 0, 1) := dk_42 (dk_at dksX4_bell_1 6 rfl rfl)
theorem dX4_bell_30 : decode cX4_bell 30 = .ok (.invokevirtual 387, 3) := dk_182 1 131 (dk_at dksX4_bell_1 7 rfl rfl)
theorem dX4_bell_33 : decode cX4_bell 33 = .ok (.iconst 0, 1) := dk_3 (dk_at dksX4_bell_1 10 rfl rfl)
theorem dX4_bell_34 : decode cX4_bell 34 = .ok (.istore_n 3, 1) := dk_62 (dk_at dksX4_bell_1 11 rfl rfl)
theorem dX4_bell_35 : decode cX4_bell 35 = .ok (.iload_n 3, 1) := dk_29 (dk_at dksX4_bell_1 12 rfl rfl)
theorem dX4_bell_36 : decode cX4_bell 36 = .ok (.aload_n 0, 1) := dk_42 (dk_at dksX4_bell_1 13 rfl rfl)
theorem dX4_bell_37 : decode cX4_bell 37 = .ok (.getfield 9, 3) := dk_180 0 9 (dk_at dksX4_bell_1 14 rfl rfl)
theorem dX4_bell_40 : decode cX4_bell 40 = .ok (.bipush 6, 2) := dk_16 6 (dk_at dksX4_bell_1 17 rfl rfl)
theorem dX4_bell_42 : decode cX4_bell 42 = .ok (.iaload, 1) := dk_46 (dk_at dksX4_bell_1 19 rfl rfl)
theorem dX4_bell_43 : decode cX4_bell 43 = .ok (.if_icmp .gt 21, 3) := dk_163 0 21 (dk_at dksX4_bell_1 20 rfl rfl)
theorem dX4_bell_46 : decode cX4_bell 46 = .ok (.aload_n 0, 1) := dk_42 (dk_at dksX4_bell_1 23 rfl rfl)
theorem dX4_bell_47 : decode cX4_bell 47 = .ok (.iload_n 2, 1) := dk_28 (dk_at dksX4_bell_2 0 rfl rfl)
theorem dX4_bell_48 : decode cX4_bell 48 = .ok (.iload_n 3, 1) := dk_29 (dk_at dksX4_bell_2 1 rfl rfl)
theorem dX4_bell_49 : decode cX4_bell 49 = .ok (.invokevirtual 398, 3) := dk_182 1 142 (dk_at dksX4_bell_2 2 rfl rfl)
theorem dX4_bell_52 : decode cX4_bell 52 = .ok (.iload_n 1, 1) := dk_27 (dk_at dksX4_bell_2 5 rfl rfl)
theorem dX4_bell_53 : decode cX4_bell 53 = .ok (.if_icmp .lt 5, 3) := dk_161 0 5 (dk_at dksX4_bell_2 6 rfl rfl)
theorem dX4_bell_56 : decode cX4_bell 56 = .ok (.iload_n 3, 1) := dk_29 (dk_at dksX4_bell_2 9 rfl rfl)
theorem dX4_bell_57 : decode cX4_bell 57 = .ok (.ireturn, 1) := dk_172 (dk_at dksX4_bell_2 10 rfl rfl)
theorem dX4_bell_58 : decode cX4_bell 58 = .ok (.iinc 3 1, 3) := dk_132 3 1 (dk_at dksX4_bell_2 11 rfl rfl)
theorem dX4_bell_61 : decode cX4_bell 61 = .ok (.goto (-26), 3) := dk_167 255 230 (dk_at dksX4_bell_2 14 rfl rfl)
theorem dX4_bell_64 : decode cX4_bell 64 = .ok (.iconst (-1), 1) := dk_2 (dk_at dksX4_bell_2 17 rfl rfl)
theorem dX4_bell_65 : decode cX4_bell 65 = .ok (.ireturn, 1) := dk_172 (dk_at dksX4_bell_2 18 rfl rfl)
abbrev cX4_isHour : ByteArray := prog_19_method_11_code
def yX4_isHour : MethodName := ⟨RX4, "isHour", "(I)Z"⟩
def dkwX4_isHour_0 : List UInt8 := [26, 133, 9, 20, 0, 112, 184, 0, 104, 172]
abbrev dktX4_isHour_0 : List UInt8 := dkwX4_isHour_0 ++ []
theorem dksX4_isHour_0 : cX4_isHour.data.toList.drop 0 = dktX4_isHour_0 := by decide +kernel
theorem dX4_isHour_0 : decode cX4_isHour 0 = .ok (.iload_n 0, 1) := dk_26 (dk_at dksX4_isHour_0 0 rfl rfl)
theorem dX4_isHour_1 : decode cX4_isHour 1 = .ok (.i2l, 1) := dk_133 (dk_at dksX4_isHour_0 1 rfl rfl)
theorem dX4_isHour_2 : decode cX4_isHour 2 = .ok (.lconst 0, 1) := dk_9 (dk_at dksX4_isHour_0 2 rfl rfl)
theorem dX4_isHour_3 : decode cX4_isHour 3 = .ok (.ldc2_w 112, 3) := dk_20 0 112 (dk_at dksX4_isHour_0 3 rfl rfl)
theorem dX4_isHour_6 : decode cX4_isHour 6 = .ok (.invokestatic 104, 3) := dk_184 0 104 (dk_at dksX4_isHour_0 6 rfl rfl)
theorem dX4_isHour_9 : decode cX4_isHour 9 = .ok (.ireturn, 1) := dk_172 (dk_at dksX4_isHour_0 9 rfl rfl)
abbrev cX4_manyShow : ByteArray := prog_19_method_68_code
def yX4_manyShow : MethodName := ⟨RX4, "manyShow", "(II)I"⟩
def dkwX4_manyShow_1 : List UInt8 := [27, 160, 0, 7, 4, 167, 0, 4, 3, 96, 62, 132, 4, 1, 167, 255, 223, 29, 172]
abbrev dktX4_manyShow_1 : List UInt8 := dkwX4_manyShow_1 ++ []
def dkwX4_manyShow_0 : List UInt8 := [3, 62, 3, 54, 4, 21, 4, 42, 180, 0, 9, 4, 46, 162, 0, 28, 29, 42, 21, 4, 28, 182, 1, 86]
abbrev dktX4_manyShow_0 : List UInt8 := dkwX4_manyShow_0 ++ dktX4_manyShow_1
theorem dksX4_manyShow_0 : cX4_manyShow.data.toList.drop 0 = dktX4_manyShow_0 := by decide +kernel
theorem dksX4_manyShow_1 : cX4_manyShow.data.toList.drop 24 = dktX4_manyShow_1 := dk_seg dksX4_manyShow_0 24 rfl rfl
theorem dX4_manyShow_0 : decode cX4_manyShow 0 = .ok (.iconst 0, 1) := dk_3 (dk_at dksX4_manyShow_0 0 rfl rfl)
theorem dX4_manyShow_1 : decode cX4_manyShow 1 = .ok (.istore_n 3, 1) := dk_62 (dk_at dksX4_manyShow_0 1 rfl rfl)
theorem dX4_manyShow_2 : decode cX4_manyShow 2 = .ok (.iconst 0, 1) := dk_3 (dk_at dksX4_manyShow_0 2 rfl rfl)
theorem dX4_manyShow_3 : decode cX4_manyShow 3 = .ok (.istore 4, 2) := dk_54 4 (dk_at dksX4_manyShow_0 3 rfl rfl)
theorem dX4_manyShow_5 : decode cX4_manyShow 5 = .ok (.iload 4, 2) := dk_21 4 (dk_at dksX4_manyShow_0 5 rfl rfl)
theorem dX4_manyShow_7 : decode cX4_manyShow 7 = .ok (.aload_n 0, 1) := dk_42 (dk_at dksX4_manyShow_0 7 rfl rfl)
theorem dX4_manyShow_8 : decode cX4_manyShow 8 = .ok (.getfield 9, 3) := dk_180 0 9 (dk_at dksX4_manyShow_0 8 rfl rfl)
theorem dX4_manyShow_11 : decode cX4_manyShow 11 = .ok (.iconst 1, 1) := dk_4 (dk_at dksX4_manyShow_0 11 rfl rfl)
theorem dX4_manyShow_12 : decode cX4_manyShow 12 = .ok (.iaload, 1) := dk_46 (dk_at dksX4_manyShow_0 12 rfl rfl)
theorem dX4_manyShow_13 : decode cX4_manyShow 13 = .ok (.if_icmp .ge 28, 3) := dk_162 0 28 (dk_at dksX4_manyShow_0 13 rfl rfl)
theorem dX4_manyShow_16 : decode cX4_manyShow 16 = .ok (.iload_n 3, 1) := dk_29 (dk_at dksX4_manyShow_0 16 rfl rfl)
theorem dX4_manyShow_17 : decode cX4_manyShow 17 = .ok (.aload_n 0, 1) := dk_42 (dk_at dksX4_manyShow_0 17 rfl rfl)
theorem dX4_manyShow_18 : decode cX4_manyShow 18 = .ok (.iload 4, 2) := dk_21 4 (dk_at dksX4_manyShow_0 18 rfl rfl)
theorem dX4_manyShow_20 : decode cX4_manyShow 20 = .ok (.iload_n 2, 1) := dk_28 (dk_at dksX4_manyShow_0 20 rfl rfl)
theorem dX4_manyShow_21 : decode cX4_manyShow 21 = .ok (.invokevirtual 342, 3) := dk_182 1 86 (dk_at dksX4_manyShow_0 21 rfl rfl)
theorem dX4_manyShow_24 : decode cX4_manyShow 24 = .ok (.iload_n 1, 1) := dk_27 (dk_at dksX4_manyShow_1 0 rfl rfl)
theorem dX4_manyShow_25 : decode cX4_manyShow 25 = .ok (.if_icmp .ne 7, 3) := dk_160 0 7 (dk_at dksX4_manyShow_1 1 rfl rfl)
theorem dX4_manyShow_28 : decode cX4_manyShow 28 = .ok (.iconst 1, 1) := dk_4 (dk_at dksX4_manyShow_1 4 rfl rfl)
theorem dX4_manyShow_29 : decode cX4_manyShow 29 = .ok (.goto 4, 3) := dk_167 0 4 (dk_at dksX4_manyShow_1 5 rfl rfl)
theorem dX4_manyShow_32 : decode cX4_manyShow 32 = .ok (.iconst 0, 1) := dk_3 (dk_at dksX4_manyShow_1 8 rfl rfl)
theorem dX4_manyShow_33 : decode cX4_manyShow 33 = .ok (.iadd, 1) := dk_96 (dk_at dksX4_manyShow_1 9 rfl rfl)
theorem dX4_manyShow_34 : decode cX4_manyShow 34 = .ok (.istore_n 3, 1) := dk_62 (dk_at dksX4_manyShow_1 10 rfl rfl)
theorem dX4_manyShow_35 : decode cX4_manyShow 35 = .ok (.iinc 4 1, 3) := dk_132 4 1 (dk_at dksX4_manyShow_1 11 rfl rfl)
theorem dX4_manyShow_38 : decode cX4_manyShow 38 = .ok (.goto (-33), 3) := dk_167 255 223 (dk_at dksX4_manyShow_1 14 rfl rfl)
theorem dX4_manyShow_41 : decode cX4_manyShow 41 = .ok (.iload_n 3, 1) := dk_29 (dk_at dksX4_manyShow_1 17 rfl rfl)
theorem dX4_manyShow_42 : decode cX4_manyShow 42 = .ok (.ireturn, 1) := dk_172 (dk_at dksX4_manyShow_1 18 rfl rfl)
abbrev cX4_courses : ByteArray := prog_19_method_74_code
def yX4_courses : MethodName := ⟨RX4, "courses", "()I"⟩
def dkwX4_courses_1 : List UInt8 := [16, 253, 172]
abbrev dktX4_courses_1 : List UInt8 := dkwX4_courses_1 ++ []
def dkwX4_courses_0 : List UInt8 := [42, 182, 0, 108, 154, 0, 6, 16, 254, 172, 42, 182, 1, 154, 153, 0, 10, 42, 180, 1, 145, 167, 0, 5]
abbrev dktX4_courses_0 : List UInt8 := dkwX4_courses_0 ++ dktX4_courses_1
theorem dksX4_courses_0 : cX4_courses.data.toList.drop 0 = dktX4_courses_0 := by decide +kernel
theorem dksX4_courses_1 : cX4_courses.data.toList.drop 24 = dktX4_courses_1 := dk_seg dksX4_courses_0 24 rfl rfl
theorem dX4_courses_0 : decode cX4_courses 0 = .ok (.aload_n 0, 1) := dk_42 (dk_at dksX4_courses_0 0 rfl rfl)
theorem dX4_courses_1 : decode cX4_courses 1 = .ok (.invokevirtual 108, 3) := dk_182 0 108 (dk_at dksX4_courses_0 1 rfl rfl)
theorem dX4_courses_4 : decode cX4_courses 4 = .ok (.ifCond .ne 6, 3) := dk_154 0 6 (dk_at dksX4_courses_0 4 rfl rfl)
theorem dX4_courses_7 : decode cX4_courses 7 = .ok (.bipush (-2), 2) := dk_16 254 (dk_at dksX4_courses_0 7 rfl rfl)
theorem dX4_courses_9 : decode cX4_courses 9 = .ok (.ireturn, 1) := dk_172 (dk_at dksX4_courses_0 9 rfl rfl)
theorem dX4_courses_10 : decode cX4_courses 10 = .ok (.aload_n 0, 1) := dk_42 (dk_at dksX4_courses_0 10 rfl rfl)
theorem dX4_courses_11 : decode cX4_courses 11 = .ok (.invokevirtual 410, 3) := dk_182 1 154 (dk_at dksX4_courses_0 11 rfl rfl)
theorem dX4_courses_14 : decode cX4_courses 14 = .ok (.ifCond .eq 10, 3) := dk_153 0 10 (dk_at dksX4_courses_0 14 rfl rfl)
theorem dX4_courses_17 : decode cX4_courses 17 = .ok (.aload_n 0, 1) := dk_42 (dk_at dksX4_courses_0 17 rfl rfl)
theorem dX4_courses_18 : decode cX4_courses 18 = .ok (.getfield 401, 3) := dk_180 1 145 (dk_at dksX4_courses_0 18 rfl rfl)
theorem dX4_courses_21 : decode cX4_courses 21 = .ok (.goto 5, 3) := dk_167 0 5 (dk_at dksX4_courses_0 21 rfl rfl)
theorem dX4_courses_24 : decode cX4_courses 24 = .ok (.bipush (-3), 2) := dk_16 253 (dk_at dksX4_courses_1 0 rfl rfl)
theorem dX4_courses_26 : decode cX4_courses 26 = .ok (.ireturn, 1) := dk_172 (dk_at dksX4_courses_1 2 rfl rfl)
abbrev cX4_fillCourses : ByteArray := prog_19_method_72_code
def yX4_fillCourses : MethodName := ⟨RX4, "fillCourses", "()Z"⟩
def dkwX4_fillCourses_2 : List UInt8 := [182, 1, 151, 60, 167, 255, 227, 4, 172]
abbrev dktX4_fillCourses_2 : List UInt8 := dkwX4_fillCourses_2 ++ []
def dkwX4_fillCourses_1 : List UInt8 := [153, 0, 31, 42, 182, 1, 128, 42, 180, 1, 145, 17, 0, 128, 160, 0, 5, 3, 172, 42, 182, 1, 148, 42]
abbrev dktX4_fillCourses_1 : List UInt8 := dkwX4_fillCourses_1 ++ dktX4_fillCourses_2
def dkwX4_fillCourses_0 : List UInt8 := [42, 182, 1, 125, 42, 3, 181, 1, 75, 42, 3, 181, 1, 110, 42, 3, 181, 1, 145, 4, 60, 27]
abbrev dktX4_fillCourses_0 : List UInt8 := dkwX4_fillCourses_0 ++ dktX4_fillCourses_1
theorem dksX4_fillCourses_0 : cX4_fillCourses.data.toList.drop 0 = dktX4_fillCourses_0 := by decide +kernel
theorem dksX4_fillCourses_1 : cX4_fillCourses.data.toList.drop 22 = dktX4_fillCourses_1 := dk_seg dksX4_fillCourses_0 22 rfl rfl
theorem dksX4_fillCourses_2 : cX4_fillCourses.data.toList.drop 46 = dktX4_fillCourses_2 := dk_seg dksX4_fillCourses_1 24 rfl rfl
theorem dX4_fillCourses_0 : decode cX4_fillCourses 0 = .ok (.aload_n 0, 1) := dk_42 (dk_at dksX4_fillCourses_0 0 rfl rfl)
theorem dX4_fillCourses_1 : decode cX4_fillCourses 1 = .ok (.invokevirtual 381, 3) := dk_182 1 125 (dk_at dksX4_fillCourses_0 1 rfl rfl)
theorem dX4_fillCourses_4 : decode cX4_fillCourses 4 = .ok (.aload_n 0, 1) := dk_42 (dk_at dksX4_fillCourses_0 4 rfl rfl)
theorem dX4_fillCourses_5 : decode cX4_fillCourses 5 = .ok (.iconst 0, 1) := dk_3 (dk_at dksX4_fillCourses_0 5 rfl rfl)
theorem dX4_fillCourses_6 : decode cX4_fillCourses 6 = .ok (.putfield 331, 3) := dk_181 1 75 (dk_at dksX4_fillCourses_0 6 rfl rfl)
theorem dX4_fillCourses_9 : decode cX4_fillCourses 9 = .ok (.aload_n 0, 1) := dk_42 (dk_at dksX4_fillCourses_0 9 rfl rfl)
theorem dX4_fillCourses_10 : decode cX4_fillCourses 10 = .ok (.iconst 0, 1) := dk_3 (dk_at dksX4_fillCourses_0 10 rfl rfl)
theorem dX4_fillCourses_11 : decode cX4_fillCourses 11 = .ok (.putfield 366, 3) := dk_181 1 110 (dk_at dksX4_fillCourses_0 11 rfl rfl)
theorem dX4_fillCourses_14 : decode cX4_fillCourses 14 = .ok (.aload_n 0, 1) := dk_42 (dk_at dksX4_fillCourses_0 14 rfl rfl)
theorem dX4_fillCourses_15 : decode cX4_fillCourses 15 = .ok (.iconst 0, 1) := dk_3 (dk_at dksX4_fillCourses_0 15 rfl rfl)
theorem dX4_fillCourses_16 : decode cX4_fillCourses 16 = .ok (.putfield 401, 3) := dk_181 1 145 (dk_at dksX4_fillCourses_0 16 rfl rfl)
theorem dX4_fillCourses_19 : decode cX4_fillCourses 19 = .ok (.iconst 1, 1) := dk_4 (dk_at dksX4_fillCourses_0 19 rfl rfl)
theorem dX4_fillCourses_20 : decode cX4_fillCourses 20 = .ok (.istore_n 1, 1) := dk_60 (dk_at dksX4_fillCourses_0 20 rfl rfl)
theorem dX4_fillCourses_21 : decode cX4_fillCourses 21 = .ok (.iload_n 1, 1) := dk_27 (dk_at dksX4_fillCourses_0 21 rfl rfl)
theorem dX4_fillCourses_22 : decode cX4_fillCourses 22 = .ok (.ifCond .eq 31, 3) := dk_153 0 31 (dk_at dksX4_fillCourses_1 0 rfl rfl)
theorem dX4_fillCourses_25 : decode cX4_fillCourses 25 = .ok (.aload_n 0, 1) := dk_42 (dk_at dksX4_fillCourses_1 3 rfl rfl)
theorem dX4_fillCourses_26 : decode cX4_fillCourses 26 = .ok (.invokevirtual 384, 3) := dk_182 1 128 (dk_at dksX4_fillCourses_1 4 rfl rfl)
theorem dX4_fillCourses_29 : decode cX4_fillCourses 29 = .ok (.aload_n 0, 1) := dk_42 (dk_at dksX4_fillCourses_1 7 rfl rfl)
theorem dX4_fillCourses_30 : decode cX4_fillCourses 30 = .ok (.getfield 401, 3) := dk_180 1 145 (dk_at dksX4_fillCourses_1 8 rfl rfl)
theorem dX4_fillCourses_33 : decode cX4_fillCourses 33 = .ok (.sipush 128, 3) := dk_17 0 128 (dk_at dksX4_fillCourses_1 11 rfl rfl)
theorem dX4_fillCourses_36 : decode cX4_fillCourses 36 = .ok (.if_icmp .ne 5, 3) := dk_160 0 5 (dk_at dksX4_fillCourses_1 14 rfl rfl)
theorem dX4_fillCourses_39 : decode cX4_fillCourses 39 = .ok (.iconst 0, 1) := dk_3 (dk_at dksX4_fillCourses_1 17 rfl rfl)
theorem dX4_fillCourses_40 : decode cX4_fillCourses 40 = .ok (.ireturn, 1) := dk_172 (dk_at dksX4_fillCourses_1 18 rfl rfl)
theorem dX4_fillCourses_41 : decode cX4_fillCourses 41 = .ok (.aload_n 0, 1) := dk_42 (dk_at dksX4_fillCourses_1 19 rfl rfl)
theorem dX4_fillCourses_42 : decode cX4_fillCourses 42 = .ok (.invokevirtual 404, 3) := dk_182 1 148 (dk_at dksX4_fillCourses_1 20 rfl rfl)
theorem dX4_fillCourses_45 : decode cX4_fillCourses 45 = .ok (.aload_n 0, 1) := dk_42 (dk_at dksX4_fillCourses_1 23 rfl rfl)
theorem dX4_fillCourses_46 : decode cX4_fillCourses 46 = .ok (.invokevirtual 407, 3) := dk_182 1 151 (dk_at dksX4_fillCourses_2 0 rfl rfl)
theorem dX4_fillCourses_49 : decode cX4_fillCourses 49 = .ok (.istore_n 1, 1) := dk_60 (dk_at dksX4_fillCourses_2 3 rfl rfl)
theorem dX4_fillCourses_50 : decode cX4_fillCourses 50 = .ok (.goto (-29), 3) := dk_167 255 227 (dk_at dksX4_fillCourses_2 4 rfl rfl)
theorem dX4_fillCourses_53 : decode cX4_fillCourses 53 = .ok (.iconst 1, 1) := dk_4 (dk_at dksX4_fillCourses_2 7 rfl rfl)
theorem dX4_fillCourses_54 : decode cX4_fillCourses 54 = .ok (.ireturn, 1) := dk_172 (dk_at dksX4_fillCourses_2 8 rfl rfl)
abbrev cX4_keepsCourse : ByteArray := prog_19_method_70_code
def yX4_keepsCourse : MethodName := ⟨RX4, "keepsCourse", "()V"⟩
def dkwX4_keepsCourse_5 : List UInt8 := [132, 2, 1, 167, 255, 216, 132, 1, 1, 167, 255, 197, 42, 89, 180, 1, 145, 4, 96, 181, 1, 145, 177]
abbrev dktX4_keepsCourse_5 : List UInt8 := dkwX4_keepsCourse_5 ++ []
def dkwX4_keepsCourse_4 : List UInt8 := [180, 1, 145, 104, 16, 8, 27, 104, 96, 28, 96, 42, 180, 0, 46, 16, 8, 27, 104, 28, 96, 46, 79]
abbrev dktX4_keepsCourse_4 : List UInt8 := dkwX4_keepsCourse_4 ++ dktX4_keepsCourse_5
def dkwX4_keepsCourse_3 : List UInt8 := [16, 6, 46, 162, 0, 54, 3, 61, 28, 16, 8, 162, 0, 40, 42, 180, 0, 77, 17, 1, 64, 42]
abbrev dktX4_keepsCourse_3 : List UInt8 := dkwX4_keepsCourse_3 ++ dktX4_keepsCourse_4
def dkwX4_keepsCourse_2 : List UInt8 := [182, 1, 86, 79, 132, 2, 1, 167, 255, 218, 132, 1, 1, 167, 255, 199, 3, 60, 27, 42, 180, 0, 9]
abbrev dktX4_keepsCourse_2 : List UInt8 := dkwX4_keepsCourse_2 ++ dktX4_keepsCourse_3
def dkwX4_keepsCourse_1 : List UInt8 := [162, 0, 34, 42, 180, 0, 73, 17, 0, 164, 42, 180, 1, 145, 104, 7, 27, 104, 96, 28, 96, 42, 28, 27]
abbrev dktX4_keepsCourse_1 : List UInt8 := dkwX4_keepsCourse_1 ++ dktX4_keepsCourse_2
def dkwX4_keepsCourse_0 : List UInt8 := [3, 60, 27, 42, 180, 0, 9, 16, 6, 46, 163, 0, 52, 3, 61, 28, 42, 180, 0, 9, 4, 46]
abbrev dktX4_keepsCourse_0 : List UInt8 := dkwX4_keepsCourse_0 ++ dktX4_keepsCourse_1
theorem dksX4_keepsCourse_0 : cX4_keepsCourse.data.toList.drop 0 = dktX4_keepsCourse_0 := by decide +kernel
theorem dksX4_keepsCourse_1 : cX4_keepsCourse.data.toList.drop 22 = dktX4_keepsCourse_1 := dk_seg dksX4_keepsCourse_0 22 rfl rfl
theorem dksX4_keepsCourse_2 : cX4_keepsCourse.data.toList.drop 46 = dktX4_keepsCourse_2 := dk_seg dksX4_keepsCourse_1 24 rfl rfl
theorem dksX4_keepsCourse_3 : cX4_keepsCourse.data.toList.drop 69 = dktX4_keepsCourse_3 := dk_seg dksX4_keepsCourse_2 23 rfl rfl
theorem dksX4_keepsCourse_4 : cX4_keepsCourse.data.toList.drop 91 = dktX4_keepsCourse_4 := dk_seg dksX4_keepsCourse_3 22 rfl rfl
theorem dksX4_keepsCourse_5 : cX4_keepsCourse.data.toList.drop 114 = dktX4_keepsCourse_5 := dk_seg dksX4_keepsCourse_4 23 rfl rfl
theorem dX4_keepsCourse_0 : decode cX4_keepsCourse 0 = .ok (.iconst 0, 1) := dk_3 (dk_at dksX4_keepsCourse_0 0 rfl rfl)
theorem dX4_keepsCourse_1 : decode cX4_keepsCourse 1 = .ok (.istore_n 1, 1) := dk_60 (dk_at dksX4_keepsCourse_0 1 rfl rfl)
theorem dX4_keepsCourse_2 : decode cX4_keepsCourse 2 = .ok (.iload_n 1, 1) := dk_27 (dk_at dksX4_keepsCourse_0 2 rfl rfl)
theorem dX4_keepsCourse_3 : decode cX4_keepsCourse 3 = .ok (.aload_n 0, 1) := dk_42 (dk_at dksX4_keepsCourse_0 3 rfl rfl)
theorem dX4_keepsCourse_4 : decode cX4_keepsCourse 4 = .ok (.getfield 9, 3) := dk_180 0 9 (dk_at dksX4_keepsCourse_0 4 rfl rfl)
theorem dX4_keepsCourse_7 : decode cX4_keepsCourse 7 = .ok (.bipush 6, 2) := dk_16 6 (dk_at dksX4_keepsCourse_0 7 rfl rfl)
theorem dX4_keepsCourse_9 : decode cX4_keepsCourse 9 = .ok (.iaload, 1) := dk_46 (dk_at dksX4_keepsCourse_0 9 rfl rfl)
theorem dX4_keepsCourse_10 : decode cX4_keepsCourse 10 = .ok (.if_icmp .gt 52, 3) := dk_163 0 52 (dk_at dksX4_keepsCourse_0 10 rfl rfl)
theorem dX4_keepsCourse_13 : decode cX4_keepsCourse 13 = .ok (.iconst 0, 1) := dk_3 (dk_at dksX4_keepsCourse_0 13 rfl rfl)
theorem dX4_keepsCourse_14 : decode cX4_keepsCourse 14 = .ok (.istore_n 2, 1) := dk_61 (dk_at dksX4_keepsCourse_0 14 rfl rfl)
theorem dX4_keepsCourse_15 : decode cX4_keepsCourse 15 = .ok (.iload_n 2, 1) := dk_28 (dk_at dksX4_keepsCourse_0 15 rfl rfl)
theorem dX4_keepsCourse_16 : decode cX4_keepsCourse 16 = .ok (.aload_n 0, 1) := dk_42 (dk_at dksX4_keepsCourse_0 16 rfl rfl)
theorem dX4_keepsCourse_17 : decode cX4_keepsCourse 17 = .ok (.getfield 9, 3) := dk_180 0 9 (dk_at dksX4_keepsCourse_0 17 rfl rfl)
theorem dX4_keepsCourse_20 : decode cX4_keepsCourse 20 = .ok (.iconst 1, 1) := dk_4 (dk_at dksX4_keepsCourse_0 20 rfl rfl)
theorem dX4_keepsCourse_21 : decode cX4_keepsCourse 21 = .ok (.iaload, 1) := dk_46 (dk_at dksX4_keepsCourse_0 21 rfl rfl)
theorem dX4_keepsCourse_22 : decode cX4_keepsCourse 22 = .ok (.if_icmp .ge 34, 3) := dk_162 0 34 (dk_at dksX4_keepsCourse_1 0 rfl rfl)
theorem dX4_keepsCourse_25 : decode cX4_keepsCourse 25 = .ok (.aload_n 0, 1) := dk_42 (dk_at dksX4_keepsCourse_1 3 rfl rfl)
theorem dX4_keepsCourse_26 : decode cX4_keepsCourse 26 = .ok (.getfield 73, 3) := dk_180 0 73 (dk_at dksX4_keepsCourse_1 4 rfl rfl)
theorem dX4_keepsCourse_29 : decode cX4_keepsCourse 29 = .ok (.sipush 164, 3) := dk_17 0 164 (dk_at dksX4_keepsCourse_1 7 rfl rfl)
theorem dX4_keepsCourse_32 : decode cX4_keepsCourse 32 = .ok (.aload_n 0, 1) := dk_42 (dk_at dksX4_keepsCourse_1 10 rfl rfl)
theorem dX4_keepsCourse_33 : decode cX4_keepsCourse 33 = .ok (.getfield 401, 3) := dk_180 1 145 (dk_at dksX4_keepsCourse_1 11 rfl rfl)
theorem dX4_keepsCourse_36 : decode cX4_keepsCourse 36 = .ok (.imul, 1) := dk_104 (dk_at dksX4_keepsCourse_1 14 rfl rfl)
theorem dX4_keepsCourse_37 : decode cX4_keepsCourse 37 = .ok (.iconst 4, 1) := dk_7 (dk_at dksX4_keepsCourse_1 15 rfl rfl)
theorem dX4_keepsCourse_38 : decode cX4_keepsCourse 38 = .ok (.iload_n 1, 1) := dk_27 (dk_at dksX4_keepsCourse_1 16 rfl rfl)
theorem dX4_keepsCourse_39 : decode cX4_keepsCourse 39 = .ok (.imul, 1) := dk_104 (dk_at dksX4_keepsCourse_1 17 rfl rfl)
theorem dX4_keepsCourse_40 : decode cX4_keepsCourse 40 = .ok (.iadd, 1) := dk_96 (dk_at dksX4_keepsCourse_1 18 rfl rfl)
theorem dX4_keepsCourse_41 : decode cX4_keepsCourse 41 = .ok (.iload_n 2, 1) := dk_28 (dk_at dksX4_keepsCourse_1 19 rfl rfl)
theorem dX4_keepsCourse_42 : decode cX4_keepsCourse 42 = .ok (.iadd, 1) := dk_96 (dk_at dksX4_keepsCourse_1 20 rfl rfl)
theorem dX4_keepsCourse_43 : decode cX4_keepsCourse 43 = .ok (.aload_n 0, 1) := dk_42 (dk_at dksX4_keepsCourse_1 21 rfl rfl)
theorem dX4_keepsCourse_44 : decode cX4_keepsCourse 44 = .ok (.iload_n 2, 1) := dk_28 (dk_at dksX4_keepsCourse_1 22 rfl rfl)
theorem dX4_keepsCourse_45 : decode cX4_keepsCourse 45 = .ok (.iload_n 1, 1) := dk_27 (dk_at dksX4_keepsCourse_1 23 rfl rfl)
theorem dX4_keepsCourse_46 : decode cX4_keepsCourse 46 = .ok (.invokevirtual 342, 3) := dk_182 1 86 (dk_at dksX4_keepsCourse_2 0 rfl rfl)
theorem dX4_keepsCourse_49 : decode cX4_keepsCourse 49 = .ok (.iastore, 1) := dk_79 (dk_at dksX4_keepsCourse_2 3 rfl rfl)
theorem dX4_keepsCourse_50 : decode cX4_keepsCourse 50 = .ok (.iinc 2 1, 3) := dk_132 2 1 (dk_at dksX4_keepsCourse_2 4 rfl rfl)
theorem dX4_keepsCourse_53 : decode cX4_keepsCourse 53 = .ok (.goto (-38), 3) := dk_167 255 218 (dk_at dksX4_keepsCourse_2 7 rfl rfl)
theorem dX4_keepsCourse_56 : decode cX4_keepsCourse 56 = .ok (.iinc 1 1, 3) := dk_132 1 1 (dk_at dksX4_keepsCourse_2 10 rfl rfl)
theorem dX4_keepsCourse_59 : decode cX4_keepsCourse 59 = .ok (.goto (-57), 3) := dk_167 255 199 (dk_at dksX4_keepsCourse_2 13 rfl rfl)
theorem dX4_keepsCourse_62 : decode cX4_keepsCourse 62 = .ok (.iconst 0, 1) := dk_3 (dk_at dksX4_keepsCourse_2 16 rfl rfl)
theorem dX4_keepsCourse_63 : decode cX4_keepsCourse 63 = .ok (.istore_n 1, 1) := dk_60 (dk_at dksX4_keepsCourse_2 17 rfl rfl)
theorem dX4_keepsCourse_64 : decode cX4_keepsCourse 64 = .ok (.iload_n 1, 1) := dk_27 (dk_at dksX4_keepsCourse_2 18 rfl rfl)
theorem dX4_keepsCourse_65 : decode cX4_keepsCourse 65 = .ok (.aload_n 0, 1) := dk_42 (dk_at dksX4_keepsCourse_2 19 rfl rfl)
theorem dX4_keepsCourse_66 : decode cX4_keepsCourse 66 = .ok (.getfield 9, 3) := dk_180 0 9 (dk_at dksX4_keepsCourse_2 20 rfl rfl)
theorem dX4_keepsCourse_69 : decode cX4_keepsCourse 69 = .ok (.bipush 6, 2) := dk_16 6 (dk_at dksX4_keepsCourse_3 0 rfl rfl)
theorem dX4_keepsCourse_71 : decode cX4_keepsCourse 71 = .ok (.iaload, 1) := dk_46 (dk_at dksX4_keepsCourse_3 2 rfl rfl)
theorem dX4_keepsCourse_72 : decode cX4_keepsCourse 72 = .ok (.if_icmp .ge 54, 3) := dk_162 0 54 (dk_at dksX4_keepsCourse_3 3 rfl rfl)
theorem dX4_keepsCourse_75 : decode cX4_keepsCourse 75 = .ok (.iconst 0, 1) := dk_3 (dk_at dksX4_keepsCourse_3 6 rfl rfl)
theorem dX4_keepsCourse_76 : decode cX4_keepsCourse 76 = .ok (.istore_n 2, 1) := dk_61 (dk_at dksX4_keepsCourse_3 7 rfl rfl)
theorem dX4_keepsCourse_77 : decode cX4_keepsCourse 77 = .ok (.iload_n 2, 1) := dk_28 (dk_at dksX4_keepsCourse_3 8 rfl rfl)
theorem dX4_keepsCourse_78 : decode cX4_keepsCourse 78 = .ok (.bipush 8, 2) := dk_16 8 (dk_at dksX4_keepsCourse_3 9 rfl rfl)
theorem dX4_keepsCourse_80 : decode cX4_keepsCourse 80 = .ok (.if_icmp .ge 40, 3) := dk_162 0 40 (dk_at dksX4_keepsCourse_3 11 rfl rfl)
theorem dX4_keepsCourse_83 : decode cX4_keepsCourse 83 = .ok (.aload_n 0, 1) := dk_42 (dk_at dksX4_keepsCourse_3 14 rfl rfl)
theorem dX4_keepsCourse_84 : decode cX4_keepsCourse 84 = .ok (.getfield 77, 3) := dk_180 0 77 (dk_at dksX4_keepsCourse_3 15 rfl rfl)
theorem dX4_keepsCourse_87 : decode cX4_keepsCourse 87 = .ok (.sipush 320, 3) := dk_17 1 64 (dk_at dksX4_keepsCourse_3 18 rfl rfl)
theorem dX4_keepsCourse_90 : decode cX4_keepsCourse 90 = .ok (.aload_n 0, 1) := dk_42 (dk_at dksX4_keepsCourse_3 21 rfl rfl)
theorem dX4_keepsCourse_91 : decode cX4_keepsCourse 91 = .ok (.getfield 401, 3) := dk_180 1 145 (dk_at dksX4_keepsCourse_4 0 rfl rfl)
theorem dX4_keepsCourse_94 : decode cX4_keepsCourse 94 = .ok (.imul, 1) := dk_104 (dk_at dksX4_keepsCourse_4 3 rfl rfl)
theorem dX4_keepsCourse_95 : decode cX4_keepsCourse 95 = .ok (.bipush 8, 2) := dk_16 8 (dk_at dksX4_keepsCourse_4 4 rfl rfl)
theorem dX4_keepsCourse_97 : decode cX4_keepsCourse 97 = .ok (.iload_n 1, 1) := dk_27 (dk_at dksX4_keepsCourse_4 6 rfl rfl)
theorem dX4_keepsCourse_98 : decode cX4_keepsCourse 98 = .ok (.imul, 1) := dk_104 (dk_at dksX4_keepsCourse_4 7 rfl rfl)
theorem dX4_keepsCourse_99 : decode cX4_keepsCourse 99 = .ok (.iadd, 1) := dk_96 (dk_at dksX4_keepsCourse_4 8 rfl rfl)
theorem dX4_keepsCourse_100 : decode cX4_keepsCourse 100 = .ok (.iload_n 2, 1) := dk_28 (dk_at dksX4_keepsCourse_4 9 rfl rfl)
theorem dX4_keepsCourse_101 : decode cX4_keepsCourse 101 = .ok (.iadd, 1) := dk_96 (dk_at dksX4_keepsCourse_4 10 rfl rfl)
theorem dX4_keepsCourse_102 : decode cX4_keepsCourse 102 = .ok (.aload_n 0, 1) := dk_42 (dk_at dksX4_keepsCourse_4 11 rfl rfl)
theorem dX4_keepsCourse_103 : decode cX4_keepsCourse 103 = .ok (.getfield 46, 3) := dk_180 0 46 (dk_at dksX4_keepsCourse_4 12 rfl rfl)
theorem dX4_keepsCourse_106 : decode cX4_keepsCourse 106 = .ok (.bipush 8, 2) := dk_16 8 (dk_at dksX4_keepsCourse_4 15 rfl rfl)
theorem dX4_keepsCourse_108 : decode cX4_keepsCourse 108 = .ok (.iload_n 1, 1) := dk_27 (dk_at dksX4_keepsCourse_4 17 rfl rfl)
theorem dX4_keepsCourse_109 : decode cX4_keepsCourse 109 = .ok (.imul, 1) := dk_104 (dk_at dksX4_keepsCourse_4 18 rfl rfl)
theorem dX4_keepsCourse_110 : decode cX4_keepsCourse 110 = .ok (.iload_n 2, 1) := dk_28 (dk_at dksX4_keepsCourse_4 19 rfl rfl)
theorem dX4_keepsCourse_111 : decode cX4_keepsCourse 111 = .ok (.iadd, 1) := dk_96 (dk_at dksX4_keepsCourse_4 20 rfl rfl)
theorem dX4_keepsCourse_112 : decode cX4_keepsCourse 112 = .ok (.iaload, 1) := dk_46 (dk_at dksX4_keepsCourse_4 21 rfl rfl)
theorem dX4_keepsCourse_113 : decode cX4_keepsCourse 113 = .ok (.iastore, 1) := dk_79 (dk_at dksX4_keepsCourse_4 22 rfl rfl)
theorem dX4_keepsCourse_114 : decode cX4_keepsCourse 114 = .ok (.iinc 2 1, 3) := dk_132 2 1 (dk_at dksX4_keepsCourse_5 0 rfl rfl)
theorem dX4_keepsCourse_117 : decode cX4_keepsCourse 117 = .ok (.goto (-40), 3) := dk_167 255 216 (dk_at dksX4_keepsCourse_5 3 rfl rfl)
theorem dX4_keepsCourse_120 : decode cX4_keepsCourse 120 = .ok (.iinc 1 1, 3) := dk_132 1 1 (dk_at dksX4_keepsCourse_5 6 rfl rfl)
theorem dX4_keepsCourse_123 : decode cX4_keepsCourse 123 = .ok (.goto (-59), 3) := dk_167 255 197 (dk_at dksX4_keepsCourse_5 9 rfl rfl)
theorem dX4_keepsCourse_126 : decode cX4_keepsCourse 126 = .ok (.aload_n 0, 1) := dk_42 (dk_at dksX4_keepsCourse_5 12 rfl rfl)
theorem dX4_keepsCourse_127 : decode cX4_keepsCourse 127 = .ok (.dup, 1) := dk_89 (dk_at dksX4_keepsCourse_5 13 rfl rfl)
theorem dX4_keepsCourse_128 : decode cX4_keepsCourse 128 = .ok (.getfield 401, 3) := dk_180 1 145 (dk_at dksX4_keepsCourse_5 14 rfl rfl)
theorem dX4_keepsCourse_131 : decode cX4_keepsCourse 131 = .ok (.iconst 1, 1) := dk_4 (dk_at dksX4_keepsCourse_5 17 rfl rfl)
theorem dX4_keepsCourse_132 : decode cX4_keepsCourse 132 = .ok (.iadd, 1) := dk_96 (dk_at dksX4_keepsCourse_5 18 rfl rfl)
theorem dX4_keepsCourse_133 : decode cX4_keepsCourse 133 = .ok (.putfield 401, 3) := dk_181 1 145 (dk_at dksX4_keepsCourse_5 19 rfl rfl)
theorem dX4_keepsCourse_136 : decode cX4_keepsCourse 136 = .ok (.return_, 1) := dk_177 (dk_at dksX4_keepsCourse_5 22 rfl rfl)
abbrev cX4_nextTaking : ByteArray := prog_19_method_71_code
def yX4_nextTaking : MethodName := ⟨RX4, "nextTaking", "()Z"⟩
def dkwX4_nextTaking_3 : List UInt8 := [181, 1, 110, 4, 172]
abbrev dktX4_nextTaking_3 : List UInt8 := dkwX4_nextTaking_3 ++ []
def dkwX4_nextTaking_2 : List UInt8 := [132, 1, 255, 167, 255, 240, 27, 156, 0, 5, 3, 172, 42, 180, 0, 55, 27, 4, 84, 42, 27, 4, 96]
abbrev dktX4_nextTaking_2 : List UInt8 := dkwX4_nextTaking_2 ++ dktX4_nextTaking_3
def dkwX4_nextTaking_1 : List UInt8 := [167, 255, 238, 42, 180, 1, 107, 4, 100, 60, 27, 155, 0, 18, 42, 180, 0, 55, 27, 51, 153, 0, 9]
abbrev dktX4_nextTaking_1 : List UInt8 := dkwX4_nextTaking_1 ++ dktX4_nextTaking_2
def dkwX4_nextTaking_0 : List UInt8 := [42, 180, 1, 110, 60, 27, 42, 180, 1, 107, 162, 0, 16, 42, 180, 0, 55, 27, 3, 84, 132, 1, 1]
abbrev dktX4_nextTaking_0 : List UInt8 := dkwX4_nextTaking_0 ++ dktX4_nextTaking_1
theorem dksX4_nextTaking_0 : cX4_nextTaking.data.toList.drop 0 = dktX4_nextTaking_0 := by decide +kernel
theorem dksX4_nextTaking_1 : cX4_nextTaking.data.toList.drop 23 = dktX4_nextTaking_1 := dk_seg dksX4_nextTaking_0 23 rfl rfl
theorem dksX4_nextTaking_2 : cX4_nextTaking.data.toList.drop 46 = dktX4_nextTaking_2 := dk_seg dksX4_nextTaking_1 23 rfl rfl
theorem dksX4_nextTaking_3 : cX4_nextTaking.data.toList.drop 69 = dktX4_nextTaking_3 := dk_seg dksX4_nextTaking_2 23 rfl rfl
theorem dX4_nextTaking_0 : decode cX4_nextTaking 0 = .ok (.aload_n 0, 1) := dk_42 (dk_at dksX4_nextTaking_0 0 rfl rfl)
theorem dX4_nextTaking_1 : decode cX4_nextTaking 1 = .ok (.getfield 366, 3) := dk_180 1 110 (dk_at dksX4_nextTaking_0 1 rfl rfl)
theorem dX4_nextTaking_4 : decode cX4_nextTaking 4 = .ok (.istore_n 1, 1) := dk_60 (dk_at dksX4_nextTaking_0 4 rfl rfl)
theorem dX4_nextTaking_5 : decode cX4_nextTaking 5 = .ok (.iload_n 1, 1) := dk_27 (dk_at dksX4_nextTaking_0 5 rfl rfl)
theorem dX4_nextTaking_6 : decode cX4_nextTaking 6 = .ok (.aload_n 0, 1) := dk_42 (dk_at dksX4_nextTaking_0 6 rfl rfl)
theorem dX4_nextTaking_7 : decode cX4_nextTaking 7 = .ok (.getfield 363, 3) := dk_180 1 107 (dk_at dksX4_nextTaking_0 7 rfl rfl)
theorem dX4_nextTaking_10 : decode cX4_nextTaking 10 = .ok (.if_icmp .ge 16, 3) := dk_162 0 16 (dk_at dksX4_nextTaking_0 10 rfl rfl)
theorem dX4_nextTaking_13 : decode cX4_nextTaking 13 = .ok (.aload_n 0, 1) := dk_42 (dk_at dksX4_nextTaking_0 13 rfl rfl)
theorem dX4_nextTaking_14 : decode cX4_nextTaking 14 = .ok (.getfield 55, 3) := dk_180 0 55 (dk_at dksX4_nextTaking_0 14 rfl rfl)
theorem dX4_nextTaking_17 : decode cX4_nextTaking 17 = .ok (.iload_n 1, 1) := dk_27 (dk_at dksX4_nextTaking_0 17 rfl rfl)
theorem dX4_nextTaking_18 : decode cX4_nextTaking 18 = .ok (.iconst 0, 1) := dk_3 (dk_at dksX4_nextTaking_0 18 rfl rfl)
theorem dX4_nextTaking_19 : decode cX4_nextTaking 19 = .ok (.bastore, 1) := dk_84 (dk_at dksX4_nextTaking_0 19 rfl rfl)
theorem dX4_nextTaking_20 : decode cX4_nextTaking 20 = .ok (.iinc 1 1, 3) := dk_132 1 1 (dk_at dksX4_nextTaking_0 20 rfl rfl)
theorem dX4_nextTaking_23 : decode cX4_nextTaking 23 = .ok (.goto (-18), 3) := dk_167 255 238 (dk_at dksX4_nextTaking_1 0 rfl rfl)
theorem dX4_nextTaking_26 : decode cX4_nextTaking 26 = .ok (.aload_n 0, 1) := dk_42 (dk_at dksX4_nextTaking_1 3 rfl rfl)
theorem dX4_nextTaking_27 : decode cX4_nextTaking 27 = .ok (.getfield 363, 3) := dk_180 1 107 (dk_at dksX4_nextTaking_1 4 rfl rfl)
theorem dX4_nextTaking_30 : decode cX4_nextTaking 30 = .ok (.iconst 1, 1) := dk_4 (dk_at dksX4_nextTaking_1 7 rfl rfl)
theorem dX4_nextTaking_31 : decode cX4_nextTaking 31 = .ok (.isub, 1) := dk_100 (dk_at dksX4_nextTaking_1 8 rfl rfl)
theorem dX4_nextTaking_32 : decode cX4_nextTaking 32 = .ok (.istore_n 1, 1) := dk_60 (dk_at dksX4_nextTaking_1 9 rfl rfl)
theorem dX4_nextTaking_33 : decode cX4_nextTaking 33 = .ok (.iload_n 1, 1) := dk_27 (dk_at dksX4_nextTaking_1 10 rfl rfl)
theorem dX4_nextTaking_34 : decode cX4_nextTaking 34 = .ok (.ifCond .lt 18, 3) := dk_155 0 18 (dk_at dksX4_nextTaking_1 11 rfl rfl)
theorem dX4_nextTaking_37 : decode cX4_nextTaking 37 = .ok (.aload_n 0, 1) := dk_42 (dk_at dksX4_nextTaking_1 14 rfl rfl)
theorem dX4_nextTaking_38 : decode cX4_nextTaking 38 = .ok (.getfield 55, 3) := dk_180 0 55 (dk_at dksX4_nextTaking_1 15 rfl rfl)
theorem dX4_nextTaking_41 : decode cX4_nextTaking 41 = .ok (.iload_n 1, 1) := dk_27 (dk_at dksX4_nextTaking_1 18 rfl rfl)
theorem dX4_nextTaking_42 : decode cX4_nextTaking 42 = .ok (.baload, 1) := dk_51 (dk_at dksX4_nextTaking_1 19 rfl rfl)
theorem dX4_nextTaking_43 : decode cX4_nextTaking 43 = .ok (.ifCond .eq 9, 3) := dk_153 0 9 (dk_at dksX4_nextTaking_1 20 rfl rfl)
theorem dX4_nextTaking_46 : decode cX4_nextTaking 46 = .ok (.iinc 1 (-1), 3) := dk_132 1 255 (dk_at dksX4_nextTaking_2 0 rfl rfl)
theorem dX4_nextTaking_49 : decode cX4_nextTaking 49 = .ok (.goto (-16), 3) := dk_167 255 240 (dk_at dksX4_nextTaking_2 3 rfl rfl)
theorem dX4_nextTaking_52 : decode cX4_nextTaking 52 = .ok (.iload_n 1, 1) := dk_27 (dk_at dksX4_nextTaking_2 6 rfl rfl)
theorem dX4_nextTaking_53 : decode cX4_nextTaking 53 = .ok (.ifCond .ge 5, 3) := dk_156 0 5 (dk_at dksX4_nextTaking_2 7 rfl rfl)
theorem dX4_nextTaking_56 : decode cX4_nextTaking 56 = .ok (.iconst 0, 1) := dk_3 (dk_at dksX4_nextTaking_2 10 rfl rfl)
theorem dX4_nextTaking_57 : decode cX4_nextTaking 57 = .ok (.ireturn, 1) := dk_172 (dk_at dksX4_nextTaking_2 11 rfl rfl)
theorem dX4_nextTaking_58 : decode cX4_nextTaking 58 = .ok (.aload_n 0, 1) := dk_42 (dk_at dksX4_nextTaking_2 12 rfl rfl)
theorem dX4_nextTaking_59 : decode cX4_nextTaking 59 = .ok (.getfield 55, 3) := dk_180 0 55 (dk_at dksX4_nextTaking_2 13 rfl rfl)
theorem dX4_nextTaking_62 : decode cX4_nextTaking 62 = .ok (.iload_n 1, 1) := dk_27 (dk_at dksX4_nextTaking_2 16 rfl rfl)
theorem dX4_nextTaking_63 : decode cX4_nextTaking 63 = .ok (.iconst 1, 1) := dk_4 (dk_at dksX4_nextTaking_2 17 rfl rfl)
theorem dX4_nextTaking_64 : decode cX4_nextTaking 64 = .ok (.bastore, 1) := dk_84 (dk_at dksX4_nextTaking_2 18 rfl rfl)
theorem dX4_nextTaking_65 : decode cX4_nextTaking 65 = .ok (.aload_n 0, 1) := dk_42 (dk_at dksX4_nextTaking_2 19 rfl rfl)
theorem dX4_nextTaking_66 : decode cX4_nextTaking 66 = .ok (.iload_n 1, 1) := dk_27 (dk_at dksX4_nextTaking_2 20 rfl rfl)
theorem dX4_nextTaking_67 : decode cX4_nextTaking 67 = .ok (.iconst 1, 1) := dk_4 (dk_at dksX4_nextTaking_2 21 rfl rfl)
theorem dX4_nextTaking_68 : decode cX4_nextTaking 68 = .ok (.iadd, 1) := dk_96 (dk_at dksX4_nextTaking_2 22 rfl rfl)
theorem dX4_nextTaking_69 : decode cX4_nextTaking 69 = .ok (.putfield 366, 3) := dk_181 1 110 (dk_at dksX4_nextTaking_3 0 rfl rfl)
theorem dX4_nextTaking_72 : decode cX4_nextTaking 72 = .ok (.iconst 1, 1) := dk_4 (dk_at dksX4_nextTaking_3 3 rfl rfl)
theorem dX4_nextTaking_73 : decode cX4_nextTaking 73 = .ok (.ireturn, 1) := dk_172 (dk_at dksX4_nextTaking_3 4 rfl rfl)
abbrev cX4_among : ByteArray := prog_19_method_75_code
def yX4_among : MethodName := ⟨RX4, "among", "(III)I"⟩
def dkwX4_among_3 : List UInt8 := [3, 96, 54, 4, 132, 5, 1, 167, 255, 222, 21, 4, 172]
abbrev dktX4_among_3 : List UInt8 := dkwX4_among_3 ++ []
def dkwX4_among_2 : List UInt8 := [180, 1, 145, 162, 0, 31, 21, 4, 42, 21, 5, 27, 28, 182, 1, 157, 29, 160, 0, 7, 4, 167, 0, 4]
abbrev dktX4_among_2 : List UInt8 := dkwX4_among_2 ++ dktX4_among_3
def dkwX4_among_1 : List UInt8 := [16, 254, 172, 42, 182, 1, 154, 154, 0, 6, 16, 253, 172, 3, 54, 4, 3, 54, 5, 21, 5, 42]
abbrev dktX4_among_1 : List UInt8 := dkwX4_among_1 ++ dktX4_among_2
def dkwX4_among_0 : List UInt8 := [42, 27, 182, 1, 58, 153, 0, 18, 42, 28, 182, 1, 134, 153, 0, 10, 29, 184, 1, 139, 154, 0, 6]
abbrev dktX4_among_0 : List UInt8 := dkwX4_among_0 ++ dktX4_among_1
theorem dksX4_among_0 : cX4_among.data.toList.drop 0 = dktX4_among_0 := by decide +kernel
theorem dksX4_among_1 : cX4_among.data.toList.drop 23 = dktX4_among_1 := dk_seg dksX4_among_0 23 rfl rfl
theorem dksX4_among_2 : cX4_among.data.toList.drop 45 = dktX4_among_2 := dk_seg dksX4_among_1 22 rfl rfl
theorem dksX4_among_3 : cX4_among.data.toList.drop 69 = dktX4_among_3 := dk_seg dksX4_among_2 24 rfl rfl
theorem dX4_among_0 : decode cX4_among 0 = .ok (.aload_n 0, 1) := dk_42 (dk_at dksX4_among_0 0 rfl rfl)
theorem dX4_among_1 : decode cX4_among 1 = .ok (.iload_n 1, 1) := dk_27 (dk_at dksX4_among_0 1 rfl rfl)
theorem dX4_among_2 : decode cX4_among 2 = .ok (.invokevirtual 314, 3) := dk_182 1 58 (dk_at dksX4_among_0 2 rfl rfl)
theorem dX4_among_5 : decode cX4_among 5 = .ok (.ifCond .eq 18, 3) := dk_153 0 18 (dk_at dksX4_among_0 5 rfl rfl)
theorem dX4_among_8 : decode cX4_among 8 = .ok (.aload_n 0, 1) := dk_42 (dk_at dksX4_among_0 8 rfl rfl)
theorem dX4_among_9 : decode cX4_among 9 = .ok (.iload_n 2, 1) := dk_28 (dk_at dksX4_among_0 9 rfl rfl)
theorem dX4_among_10 : decode cX4_among 10 = .ok (.invokevirtual 390, 3) := dk_182 1 134 (dk_at dksX4_among_0 10 rfl rfl)
theorem dX4_among_13 : decode cX4_among 13 = .ok (.ifCond .eq 10, 3) := dk_153 0 10 (dk_at dksX4_among_0 13 rfl rfl)
theorem dX4_among_16 : decode cX4_among 16 = .ok (.iload_n 3, 1) := dk_29 (dk_at dksX4_among_0 16 rfl rfl)
theorem dX4_among_17 : decode cX4_among 17 = .ok (.invokestatic 395, 3) := dk_184 1 139 (dk_at dksX4_among_0 17 rfl rfl)
theorem dX4_among_20 : decode cX4_among 20 = .ok (.ifCond .ne 6, 3) := dk_154 0 6 (dk_at dksX4_among_0 20 rfl rfl)
theorem dX4_among_23 : decode cX4_among 23 = .ok (.bipush (-2), 2) := dk_16 254 (dk_at dksX4_among_1 0 rfl rfl)
theorem dX4_among_25 : decode cX4_among 25 = .ok (.ireturn, 1) := dk_172 (dk_at dksX4_among_1 2 rfl rfl)
theorem dX4_among_26 : decode cX4_among 26 = .ok (.aload_n 0, 1) := dk_42 (dk_at dksX4_among_1 3 rfl rfl)
theorem dX4_among_27 : decode cX4_among 27 = .ok (.invokevirtual 410, 3) := dk_182 1 154 (dk_at dksX4_among_1 4 rfl rfl)
theorem dX4_among_30 : decode cX4_among 30 = .ok (.ifCond .ne 6, 3) := dk_154 0 6 (dk_at dksX4_among_1 7 rfl rfl)
theorem dX4_among_33 : decode cX4_among 33 = .ok (.bipush (-3), 2) := dk_16 253 (dk_at dksX4_among_1 10 rfl rfl)
theorem dX4_among_35 : decode cX4_among 35 = .ok (.ireturn, 1) := dk_172 (dk_at dksX4_among_1 12 rfl rfl)
theorem dX4_among_36 : decode cX4_among 36 = .ok (.iconst 0, 1) := dk_3 (dk_at dksX4_among_1 13 rfl rfl)
theorem dX4_among_37 : decode cX4_among 37 = .ok (.istore 4, 2) := dk_54 4 (dk_at dksX4_among_1 14 rfl rfl)
theorem dX4_among_39 : decode cX4_among 39 = .ok (.iconst 0, 1) := dk_3 (dk_at dksX4_among_1 16 rfl rfl)
theorem dX4_among_40 : decode cX4_among 40 = .ok (.istore 5, 2) := dk_54 5 (dk_at dksX4_among_1 17 rfl rfl)
theorem dX4_among_42 : decode cX4_among 42 = .ok (.iload 5, 2) := dk_21 5 (dk_at dksX4_among_1 19 rfl rfl)
theorem dX4_among_44 : decode cX4_among 44 = .ok (.aload_n 0, 1) := dk_42 (dk_at dksX4_among_1 21 rfl rfl)
theorem dX4_among_45 : decode cX4_among 45 = .ok (.getfield 401, 3) := dk_180 1 145 (dk_at dksX4_among_2 0 rfl rfl)
theorem dX4_among_48 : decode cX4_among 48 = .ok (.if_icmp .ge 31, 3) := dk_162 0 31 (dk_at dksX4_among_2 3 rfl rfl)
theorem dX4_among_51 : decode cX4_among 51 = .ok (.iload 4, 2) := dk_21 4 (dk_at dksX4_among_2 6 rfl rfl)
theorem dX4_among_53 : decode cX4_among 53 = .ok (.aload_n 0, 1) := dk_42 (dk_at dksX4_among_2 8 rfl rfl)
theorem dX4_among_54 : decode cX4_among 54 = .ok (.iload 5, 2) := dk_21 5 (dk_at dksX4_among_2 9 rfl rfl)
theorem dX4_among_56 : decode cX4_among 56 = .ok (.iload_n 1, 1) := dk_27 (dk_at dksX4_among_2 11 rfl rfl)
theorem dX4_among_57 : decode cX4_among 57 = .ok (.iload_n 2, 1) := dk_28 (dk_at dksX4_among_2 12 rfl rfl)
theorem dX4_among_58 : decode cX4_among 58 = .ok (.invokevirtual 413, 3) := dk_182 1 157 (dk_at dksX4_among_2 13 rfl rfl)
theorem dX4_among_61 : decode cX4_among 61 = .ok (.iload_n 3, 1) := dk_29 (dk_at dksX4_among_2 16 rfl rfl)
theorem dX4_among_62 : decode cX4_among 62 = .ok (.if_icmp .ne 7, 3) := dk_160 0 7 (dk_at dksX4_among_2 17 rfl rfl)
theorem dX4_among_65 : decode cX4_among 65 = .ok (.iconst 1, 1) := dk_4 (dk_at dksX4_among_2 20 rfl rfl)
theorem dX4_among_66 : decode cX4_among 66 = .ok (.goto 4, 3) := dk_167 0 4 (dk_at dksX4_among_2 21 rfl rfl)
theorem dX4_among_69 : decode cX4_among 69 = .ok (.iconst 0, 1) := dk_3 (dk_at dksX4_among_3 0 rfl rfl)
theorem dX4_among_70 : decode cX4_among 70 = .ok (.iadd, 1) := dk_96 (dk_at dksX4_among_3 1 rfl rfl)
theorem dX4_among_71 : decode cX4_among 71 = .ok (.istore 4, 2) := dk_54 4 (dk_at dksX4_among_3 2 rfl rfl)
theorem dX4_among_73 : decode cX4_among 73 = .ok (.iinc 5 1, 3) := dk_132 5 1 (dk_at dksX4_among_3 4 rfl rfl)
theorem dX4_among_76 : decode cX4_among 76 = .ok (.goto (-34), 3) := dk_167 255 222 (dk_at dksX4_among_3 7 rfl rfl)
theorem dX4_among_79 : decode cX4_among 79 = .ok (.iload 4, 2) := dk_21 4 (dk_at dksX4_among_3 10 rfl rfl)
theorem dX4_among_81 : decode cX4_among 81 = .ok (.ireturn, 1) := dk_172 (dk_at dksX4_among_3 12 rfl rfl)
abbrev cX4_shownIn : ByteArray := prog_19_method_73_code
def yX4_shownIn : MethodName := ⟨RX4, "shownIn", "(III)I"⟩
def dkwX4_shownIn_0 : List UInt8 := [42, 180, 0, 73, 17, 0, 164, 27, 104, 7, 29, 104, 96, 28, 96, 46, 172]
abbrev dktX4_shownIn_0 : List UInt8 := dkwX4_shownIn_0 ++ []
theorem dksX4_shownIn_0 : cX4_shownIn.data.toList.drop 0 = dktX4_shownIn_0 := by decide +kernel
theorem dX4_shownIn_0 : decode cX4_shownIn 0 = .ok (.aload_n 0, 1) := dk_42 (dk_at dksX4_shownIn_0 0 rfl rfl)
theorem dX4_shownIn_1 : decode cX4_shownIn 1 = .ok (.getfield 73, 3) := dk_180 0 73 (dk_at dksX4_shownIn_0 1 rfl rfl)
theorem dX4_shownIn_4 : decode cX4_shownIn 4 = .ok (.sipush 164, 3) := dk_17 0 164 (dk_at dksX4_shownIn_0 4 rfl rfl)
theorem dX4_shownIn_7 : decode cX4_shownIn 7 = .ok (.iload_n 1, 1) := dk_27 (dk_at dksX4_shownIn_0 7 rfl rfl)
theorem dX4_shownIn_8 : decode cX4_shownIn 8 = .ok (.imul, 1) := dk_104 (dk_at dksX4_shownIn_0 8 rfl rfl)
theorem dX4_shownIn_9 : decode cX4_shownIn 9 = .ok (.iconst 4, 1) := dk_7 (dk_at dksX4_shownIn_0 9 rfl rfl)
theorem dX4_shownIn_10 : decode cX4_shownIn 10 = .ok (.iload_n 3, 1) := dk_29 (dk_at dksX4_shownIn_0 10 rfl rfl)
theorem dX4_shownIn_11 : decode cX4_shownIn 11 = .ok (.imul, 1) := dk_104 (dk_at dksX4_shownIn_0 11 rfl rfl)
theorem dX4_shownIn_12 : decode cX4_shownIn 12 = .ok (.iadd, 1) := dk_96 (dk_at dksX4_shownIn_0 12 rfl rfl)
theorem dX4_shownIn_13 : decode cX4_shownIn 13 = .ok (.iload_n 2, 1) := dk_28 (dk_at dksX4_shownIn_0 13 rfl rfl)
theorem dX4_shownIn_14 : decode cX4_shownIn 14 = .ok (.iadd, 1) := dk_96 (dk_at dksX4_shownIn_0 14 rfl rfl)
theorem dX4_shownIn_15 : decode cX4_shownIn 15 = .ok (.iaload, 1) := dk_46 (dk_at dksX4_shownIn_0 15 rfl rfl)
theorem dX4_shownIn_16 : decode cX4_shownIn 16 = .ok (.ireturn, 1) := dk_172 (dk_at dksX4_shownIn_0 16 rfl rfl)
abbrev cX4_agree : ByteArray := prog_19_method_79_code
def yX4_agree : MethodName := ⟨RX4, "agree", "(I)I"⟩
def dkwX4_agree_2 : List UInt8 := [62, 132, 4, 1, 167, 255, 225, 29, 172]
abbrev dktX4_agree_2 : List UInt8 := dkwX4_agree_2 ++ []
def dkwX4_agree_1 : List UInt8 := [180, 1, 145, 162, 0, 28, 29, 42, 27, 2, 21, 4, 182, 1, 163, 153, 0, 7, 4, 167, 0, 4, 3, 96]
abbrev dktX4_agree_1 : List UInt8 := dkwX4_agree_1 ++ dktX4_agree_2
def dkwX4_agree_0 : List UInt8 := [42, 27, 4, 16, 20, 182, 1, 166, 61, 28, 156, 0, 5, 28, 172, 3, 62, 3, 54, 4, 21, 4, 42]
abbrev dktX4_agree_0 : List UInt8 := dkwX4_agree_0 ++ dktX4_agree_1
theorem dksX4_agree_0 : cX4_agree.data.toList.drop 0 = dktX4_agree_0 := by decide +kernel
theorem dksX4_agree_1 : cX4_agree.data.toList.drop 23 = dktX4_agree_1 := dk_seg dksX4_agree_0 23 rfl rfl
theorem dksX4_agree_2 : cX4_agree.data.toList.drop 47 = dktX4_agree_2 := dk_seg dksX4_agree_1 24 rfl rfl
theorem dX4_agree_0 : decode cX4_agree 0 = .ok (.aload_n 0, 1) := dk_42 (dk_at dksX4_agree_0 0 rfl rfl)
theorem dX4_agree_1 : decode cX4_agree 1 = .ok (.iload_n 1, 1) := dk_27 (dk_at dksX4_agree_0 1 rfl rfl)
theorem dX4_agree_2 : decode cX4_agree 2 = .ok (.iconst 1, 1) := dk_4 (dk_at dksX4_agree_0 2 rfl rfl)
theorem dX4_agree_3 : decode cX4_agree 3 = .ok (.bipush 20, 2) := dk_16 20 (dk_at dksX4_agree_0 3 rfl rfl)
theorem dX4_agree_5 : decode cX4_agree 5 = .ok (.invokevirtual 422, 3) := dk_182 1 166 (dk_at dksX4_agree_0 5 rfl rfl)
theorem dX4_agree_8 : decode cX4_agree 8 = .ok (.istore_n 2, 1) := dk_61 (dk_at dksX4_agree_0 8 rfl rfl)
theorem dX4_agree_9 : decode cX4_agree 9 = .ok (.iload_n 2, 1) := dk_28 (dk_at dksX4_agree_0 9 rfl rfl)
theorem dX4_agree_10 : decode cX4_agree 10 = .ok (.ifCond .ge 5, 3) := dk_156 0 5 (dk_at dksX4_agree_0 10 rfl rfl)
theorem dX4_agree_13 : decode cX4_agree 13 = .ok (.iload_n 2, 1) := dk_28 (dk_at dksX4_agree_0 13 rfl rfl)
theorem dX4_agree_14 : decode cX4_agree 14 = .ok (.ireturn, 1) := dk_172 (dk_at dksX4_agree_0 14 rfl rfl)
theorem dX4_agree_15 : decode cX4_agree 15 = .ok (.iconst 0, 1) := dk_3 (dk_at dksX4_agree_0 15 rfl rfl)
theorem dX4_agree_16 : decode cX4_agree 16 = .ok (.istore_n 3, 1) := dk_62 (dk_at dksX4_agree_0 16 rfl rfl)
theorem dX4_agree_17 : decode cX4_agree 17 = .ok (.iconst 0, 1) := dk_3 (dk_at dksX4_agree_0 17 rfl rfl)
theorem dX4_agree_18 : decode cX4_agree 18 = .ok (.istore 4, 2) := dk_54 4 (dk_at dksX4_agree_0 18 rfl rfl)
theorem dX4_agree_20 : decode cX4_agree 20 = .ok (.iload 4, 2) := dk_21 4 (dk_at dksX4_agree_0 20 rfl rfl)
theorem dX4_agree_22 : decode cX4_agree 22 = .ok (.aload_n 0, 1) := dk_42 (dk_at dksX4_agree_0 22 rfl rfl)
theorem dX4_agree_23 : decode cX4_agree 23 = .ok (.getfield 401, 3) := dk_180 1 145 (dk_at dksX4_agree_1 0 rfl rfl)
theorem dX4_agree_26 : decode cX4_agree 26 = .ok (.if_icmp .ge 28, 3) := dk_162 0 28 (dk_at dksX4_agree_1 3 rfl rfl)
theorem dX4_agree_29 : decode cX4_agree 29 = .ok (.iload_n 3, 1) := dk_29 (dk_at dksX4_agree_1 6 rfl rfl)
theorem dX4_agree_30 : decode cX4_agree 30 = .ok (.aload_n 0, 1) := dk_42 (dk_at dksX4_agree_1 7 rfl rfl)
theorem dX4_agree_31 : decode cX4_agree 31 = .ok (.iload_n 1, 1) := dk_27 (dk_at dksX4_agree_1 8 rfl rfl)
theorem dX4_agree_32 : decode cX4_agree 32 = .ok (.iconst (-1), 1) := dk_2 (dk_at dksX4_agree_1 9 rfl rfl)
theorem dX4_agree_33 : decode cX4_agree 33 = .ok (.iload 4, 2) := dk_21 4 (dk_at dksX4_agree_1 10 rfl rfl)
theorem dX4_agree_35 : decode cX4_agree 35 = .ok (.invokevirtual 419, 3) := dk_182 1 163 (dk_at dksX4_agree_1 12 rfl rfl)
theorem dX4_agree_38 : decode cX4_agree 38 = .ok (.ifCond .eq 7, 3) := dk_153 0 7 (dk_at dksX4_agree_1 15 rfl rfl)
theorem dX4_agree_41 : decode cX4_agree 41 = .ok (.iconst 1, 1) := dk_4 (dk_at dksX4_agree_1 18 rfl rfl)
theorem dX4_agree_42 : decode cX4_agree 42 = .ok (.goto 4, 3) := dk_167 0 4 (dk_at dksX4_agree_1 19 rfl rfl)
theorem dX4_agree_45 : decode cX4_agree 45 = .ok (.iconst 0, 1) := dk_3 (dk_at dksX4_agree_1 22 rfl rfl)
theorem dX4_agree_46 : decode cX4_agree 46 = .ok (.iadd, 1) := dk_96 (dk_at dksX4_agree_1 23 rfl rfl)
theorem dX4_agree_47 : decode cX4_agree 47 = .ok (.istore_n 3, 1) := dk_62 (dk_at dksX4_agree_2 0 rfl rfl)
theorem dX4_agree_48 : decode cX4_agree 48 = .ok (.iinc 4 1, 3) := dk_132 4 1 (dk_at dksX4_agree_2 1 rfl rfl)
theorem dX4_agree_51 : decode cX4_agree 51 = .ok (.goto (-31), 3) := dk_167 255 225 (dk_at dksX4_agree_2 4 rfl rfl)
theorem dX4_agree_54 : decode cX4_agree 54 = .ok (.iload_n 3, 1) := dk_29 (dk_at dksX4_agree_2 7 rfl rfl)
theorem dX4_agree_55 : decode cX4_agree 55 = .ok (.ireturn, 1) := dk_172 (dk_at dksX4_agree_2 8 rfl rfl)
abbrev cX4_asksSightings : ByteArray := prog_19_method_76_code
def yX4_asksSightings : MethodName := ⟨RX4, "asksSightings", "(IZI)I"⟩
def dkwX4_asksSightings_7 : List UInt8 := [16, 254, 172, 132, 4, 3, 167, 255, 150, 42, 182, 1, 154, 153, 0, 7, 3, 167, 0, 5, 16, 253, 172]
abbrev dktX4_asksSightings_7 : List UInt8 := dkwX4_asksSightings_7 ++ []
def dkwX4_asksSightings_6 : List UInt8 := [180, 0, 92, 16, 60, 27, 104, 21, 4, 96, 5, 96, 47, 9, 20, 0, 112, 184, 0, 104, 154, 0, 6]
abbrev dktX4_asksSightings_6 : List UInt8 := dkwX4_asksSightings_6 ++ dktX4_asksSightings_7
def dkwX4_asksSightings_5 : List UInt8 := [184, 0, 104, 153, 0, 44, 22, 7, 9, 42, 180, 0, 9, 16, 6, 46, 133, 184, 0, 104, 153, 0, 27, 42]
abbrev dktX4_asksSightings_5 : List UInt8 := dkwX4_asksSightings_5 ++ dktX4_asksSightings_6
def dkwX4_asksSightings_4 : List UInt8 := [27, 104, 21, 4, 96, 4, 96, 47, 55, 7, 22, 5, 9, 42, 180, 0, 9, 4, 46, 4, 100, 133]
abbrev dktX4_asksSightings_4 : List UInt8 := dkwX4_asksSightings_4 ++ dktX4_asksSightings_5
def dkwX4_asksSightings_3 : List UInt8 := [46, 162, 0, 101, 42, 180, 0, 92, 16, 60, 27, 104, 21, 4, 96, 47, 55, 5, 42, 180, 0, 92, 16, 60]
abbrev dktX4_asksSightings_3 : List UInt8 := dkwX4_asksSightings_3 ++ dktX4_asksSightings_4
def dkwX4_asksSightings_2 : List UInt8 := [180, 0, 86, 27, 46, 6, 29, 104, 164, 0, 6, 16, 254, 172, 3, 54, 4, 21, 4, 42, 180, 0, 86, 27]
abbrev dktX4_asksSightings_2 : List UInt8 := dkwX4_asksSightings_2 ++ dktX4_asksSightings_3
def dkwX4_asksSightings_1 : List UInt8 := [180, 0, 86, 27, 46, 2, 160, 0, 6, 16, 250, 172, 42, 180, 0, 86, 27, 46, 6, 112, 154, 0, 15, 42]
abbrev dktX4_asksSightings_1 : List UInt8 := dkwX4_asksSightings_1 ++ dktX4_asksSightings_2
def dkwX4_asksSightings_0 : List UInt8 := [27, 184, 1, 160, 153, 0, 14, 42, 182, 0, 108, 153, 0, 7, 28, 154, 0, 6, 16, 254, 172, 42]
abbrev dktX4_asksSightings_0 : List UInt8 := dkwX4_asksSightings_0 ++ dktX4_asksSightings_1
theorem dksX4_asksSightings_0 : cX4_asksSightings.data.toList.drop 0 = dktX4_asksSightings_0 := by decide +kernel
theorem dksX4_asksSightings_1 : cX4_asksSightings.data.toList.drop 22 = dktX4_asksSightings_1 := dk_seg dksX4_asksSightings_0 22 rfl rfl
theorem dksX4_asksSightings_2 : cX4_asksSightings.data.toList.drop 46 = dktX4_asksSightings_2 := dk_seg dksX4_asksSightings_1 24 rfl rfl
theorem dksX4_asksSightings_3 : cX4_asksSightings.data.toList.drop 70 = dktX4_asksSightings_3 := dk_seg dksX4_asksSightings_2 24 rfl rfl
theorem dksX4_asksSightings_4 : cX4_asksSightings.data.toList.drop 94 = dktX4_asksSightings_4 := dk_seg dksX4_asksSightings_3 24 rfl rfl
theorem dksX4_asksSightings_5 : cX4_asksSightings.data.toList.drop 116 = dktX4_asksSightings_5 := dk_seg dksX4_asksSightings_4 22 rfl rfl
theorem dksX4_asksSightings_6 : cX4_asksSightings.data.toList.drop 140 = dktX4_asksSightings_6 := dk_seg dksX4_asksSightings_5 24 rfl rfl
theorem dksX4_asksSightings_7 : cX4_asksSightings.data.toList.drop 163 = dktX4_asksSightings_7 := dk_seg dksX4_asksSightings_6 23 rfl rfl
theorem dX4_asksSightings_0 : decode cX4_asksSightings 0 = .ok (.iload_n 1, 1) := dk_27 (dk_at dksX4_asksSightings_0 0 rfl rfl)
theorem dX4_asksSightings_1 : decode cX4_asksSightings 1 = .ok (.invokestatic 416, 3) := dk_184 1 160 (dk_at dksX4_asksSightings_0 1 rfl rfl)
theorem dX4_asksSightings_4 : decode cX4_asksSightings 4 = .ok (.ifCond .eq 14, 3) := dk_153 0 14 (dk_at dksX4_asksSightings_0 4 rfl rfl)
theorem dX4_asksSightings_7 : decode cX4_asksSightings 7 = .ok (.aload_n 0, 1) := dk_42 (dk_at dksX4_asksSightings_0 7 rfl rfl)
theorem dX4_asksSightings_8 : decode cX4_asksSightings 8 = .ok (.invokevirtual 108, 3) := dk_182 0 108 (dk_at dksX4_asksSightings_0 8 rfl rfl)
theorem dX4_asksSightings_11 : decode cX4_asksSightings 11 = .ok (.ifCond .eq 7, 3) := dk_153 0 7 (dk_at dksX4_asksSightings_0 11 rfl rfl)
theorem dX4_asksSightings_14 : decode cX4_asksSightings 14 = .ok (.iload_n 2, 1) := dk_28 (dk_at dksX4_asksSightings_0 14 rfl rfl)
theorem dX4_asksSightings_15 : decode cX4_asksSightings 15 = .ok (.ifCond .ne 6, 3) := dk_154 0 6 (dk_at dksX4_asksSightings_0 15 rfl rfl)
theorem dX4_asksSightings_18 : decode cX4_asksSightings 18 = .ok (.bipush (-2), 2) := dk_16 254 (dk_at dksX4_asksSightings_0 18 rfl rfl)
theorem dX4_asksSightings_20 : decode cX4_asksSightings 20 = .ok (.ireturn, 1) := dk_172 (dk_at dksX4_asksSightings_0 20 rfl rfl)
theorem dX4_asksSightings_21 : decode cX4_asksSightings 21 = .ok (.aload_n 0, 1) := dk_42 (dk_at dksX4_asksSightings_0 21 rfl rfl)
theorem dX4_asksSightings_22 : decode cX4_asksSightings 22 = .ok (.getfield 86, 3) := dk_180 0 86 (dk_at dksX4_asksSightings_1 0 rfl rfl)
theorem dX4_asksSightings_25 : decode cX4_asksSightings 25 = .ok (.iload_n 1, 1) := dk_27 (dk_at dksX4_asksSightings_1 3 rfl rfl)
theorem dX4_asksSightings_26 : decode cX4_asksSightings 26 = .ok (.iaload, 1) := dk_46 (dk_at dksX4_asksSightings_1 4 rfl rfl)
theorem dX4_asksSightings_27 : decode cX4_asksSightings 27 = .ok (.iconst (-1), 1) := dk_2 (dk_at dksX4_asksSightings_1 5 rfl rfl)
theorem dX4_asksSightings_28 : decode cX4_asksSightings 28 = .ok (.if_icmp .ne 6, 3) := dk_160 0 6 (dk_at dksX4_asksSightings_1 6 rfl rfl)
theorem dX4_asksSightings_31 : decode cX4_asksSightings 31 = .ok (.bipush (-6), 2) := dk_16 250 (dk_at dksX4_asksSightings_1 9 rfl rfl)
theorem dX4_asksSightings_33 : decode cX4_asksSightings 33 = .ok (.ireturn, 1) := dk_172 (dk_at dksX4_asksSightings_1 11 rfl rfl)
theorem dX4_asksSightings_34 : decode cX4_asksSightings 34 = .ok (.aload_n 0, 1) := dk_42 (dk_at dksX4_asksSightings_1 12 rfl rfl)
theorem dX4_asksSightings_35 : decode cX4_asksSightings 35 = .ok (.getfield 86, 3) := dk_180 0 86 (dk_at dksX4_asksSightings_1 13 rfl rfl)
theorem dX4_asksSightings_38 : decode cX4_asksSightings 38 = .ok (.iload_n 1, 1) := dk_27 (dk_at dksX4_asksSightings_1 16 rfl rfl)
theorem dX4_asksSightings_39 : decode cX4_asksSightings 39 = .ok (.iaload, 1) := dk_46 (dk_at dksX4_asksSightings_1 17 rfl rfl)
theorem dX4_asksSightings_40 : decode cX4_asksSightings 40 = .ok (.iconst 3, 1) := dk_6 (dk_at dksX4_asksSightings_1 18 rfl rfl)
theorem dX4_asksSightings_41 : decode cX4_asksSightings 41 = .ok (.irem, 1) := dk_112 (dk_at dksX4_asksSightings_1 19 rfl rfl)
theorem dX4_asksSightings_42 : decode cX4_asksSightings 42 = .ok (.ifCond .ne 15, 3) := dk_154 0 15 (dk_at dksX4_asksSightings_1 20 rfl rfl)
theorem dX4_asksSightings_45 : decode cX4_asksSightings 45 = .ok (.aload_n 0, 1) := dk_42 (dk_at dksX4_asksSightings_1 23 rfl rfl)
theorem dX4_asksSightings_46 : decode cX4_asksSightings 46 = .ok (.getfield 86, 3) := dk_180 0 86 (dk_at dksX4_asksSightings_2 0 rfl rfl)
theorem dX4_asksSightings_49 : decode cX4_asksSightings 49 = .ok (.iload_n 1, 1) := dk_27 (dk_at dksX4_asksSightings_2 3 rfl rfl)
theorem dX4_asksSightings_50 : decode cX4_asksSightings 50 = .ok (.iaload, 1) := dk_46 (dk_at dksX4_asksSightings_2 4 rfl rfl)
theorem dX4_asksSightings_51 : decode cX4_asksSightings 51 = .ok (.iconst 3, 1) := dk_6 (dk_at dksX4_asksSightings_2 5 rfl rfl)
theorem dX4_asksSightings_52 : decode cX4_asksSightings 52 = .ok (.iload_n 3, 1) := dk_29 (dk_at dksX4_asksSightings_2 6 rfl rfl)
theorem dX4_asksSightings_53 : decode cX4_asksSightings 53 = .ok (.imul, 1) := dk_104 (dk_at dksX4_asksSightings_2 7 rfl rfl)
theorem dX4_asksSightings_54 : decode cX4_asksSightings 54 = .ok (.if_icmp .le 6, 3) := dk_164 0 6 (dk_at dksX4_asksSightings_2 8 rfl rfl)
theorem dX4_asksSightings_57 : decode cX4_asksSightings 57 = .ok (.bipush (-2), 2) := dk_16 254 (dk_at dksX4_asksSightings_2 11 rfl rfl)
theorem dX4_asksSightings_59 : decode cX4_asksSightings 59 = .ok (.ireturn, 1) := dk_172 (dk_at dksX4_asksSightings_2 13 rfl rfl)
theorem dX4_asksSightings_60 : decode cX4_asksSightings 60 = .ok (.iconst 0, 1) := dk_3 (dk_at dksX4_asksSightings_2 14 rfl rfl)
theorem dX4_asksSightings_61 : decode cX4_asksSightings 61 = .ok (.istore 4, 2) := dk_54 4 (dk_at dksX4_asksSightings_2 15 rfl rfl)
theorem dX4_asksSightings_63 : decode cX4_asksSightings 63 = .ok (.iload 4, 2) := dk_21 4 (dk_at dksX4_asksSightings_2 17 rfl rfl)
theorem dX4_asksSightings_65 : decode cX4_asksSightings 65 = .ok (.aload_n 0, 1) := dk_42 (dk_at dksX4_asksSightings_2 19 rfl rfl)
theorem dX4_asksSightings_66 : decode cX4_asksSightings 66 = .ok (.getfield 86, 3) := dk_180 0 86 (dk_at dksX4_asksSightings_2 20 rfl rfl)
theorem dX4_asksSightings_69 : decode cX4_asksSightings 69 = .ok (.iload_n 1, 1) := dk_27 (dk_at dksX4_asksSightings_2 23 rfl rfl)
theorem dX4_asksSightings_70 : decode cX4_asksSightings 70 = .ok (.iaload, 1) := dk_46 (dk_at dksX4_asksSightings_3 0 rfl rfl)
theorem dX4_asksSightings_71 : decode cX4_asksSightings 71 = .ok (.if_icmp .ge 101, 3) := dk_162 0 101 (dk_at dksX4_asksSightings_3 1 rfl rfl)
theorem dX4_asksSightings_74 : decode cX4_asksSightings 74 = .ok (.aload_n 0, 1) := dk_42 (dk_at dksX4_asksSightings_3 4 rfl rfl)
theorem dX4_asksSightings_75 : decode cX4_asksSightings 75 = .ok (.getfield 92, 3) := dk_180 0 92 (dk_at dksX4_asksSightings_3 5 rfl rfl)
theorem dX4_asksSightings_78 : decode cX4_asksSightings 78 = .ok (.bipush 60, 2) := dk_16 60 (dk_at dksX4_asksSightings_3 8 rfl rfl)
theorem dX4_asksSightings_80 : decode cX4_asksSightings 80 = .ok (.iload_n 1, 1) := dk_27 (dk_at dksX4_asksSightings_3 10 rfl rfl)
theorem dX4_asksSightings_81 : decode cX4_asksSightings 81 = .ok (.imul, 1) := dk_104 (dk_at dksX4_asksSightings_3 11 rfl rfl)
theorem dX4_asksSightings_82 : decode cX4_asksSightings 82 = .ok (.iload 4, 2) := dk_21 4 (dk_at dksX4_asksSightings_3 12 rfl rfl)
theorem dX4_asksSightings_84 : decode cX4_asksSightings 84 = .ok (.iadd, 1) := dk_96 (dk_at dksX4_asksSightings_3 14 rfl rfl)
theorem dX4_asksSightings_85 : decode cX4_asksSightings 85 = .ok (.laload, 1) := dk_47 (dk_at dksX4_asksSightings_3 15 rfl rfl)
theorem dX4_asksSightings_86 : decode cX4_asksSightings 86 = .ok (.lstore 5, 2) := dk_55 5 (dk_at dksX4_asksSightings_3 16 rfl rfl)
theorem dX4_asksSightings_88 : decode cX4_asksSightings 88 = .ok (.aload_n 0, 1) := dk_42 (dk_at dksX4_asksSightings_3 18 rfl rfl)
theorem dX4_asksSightings_89 : decode cX4_asksSightings 89 = .ok (.getfield 92, 3) := dk_180 0 92 (dk_at dksX4_asksSightings_3 19 rfl rfl)
theorem dX4_asksSightings_92 : decode cX4_asksSightings 92 = .ok (.bipush 60, 2) := dk_16 60 (dk_at dksX4_asksSightings_3 22 rfl rfl)
theorem dX4_asksSightings_94 : decode cX4_asksSightings 94 = .ok (.iload_n 1, 1) := dk_27 (dk_at dksX4_asksSightings_4 0 rfl rfl)
theorem dX4_asksSightings_95 : decode cX4_asksSightings 95 = .ok (.imul, 1) := dk_104 (dk_at dksX4_asksSightings_4 1 rfl rfl)
theorem dX4_asksSightings_96 : decode cX4_asksSightings 96 = .ok (.iload 4, 2) := dk_21 4 (dk_at dksX4_asksSightings_4 2 rfl rfl)
theorem dX4_asksSightings_98 : decode cX4_asksSightings 98 = .ok (.iadd, 1) := dk_96 (dk_at dksX4_asksSightings_4 4 rfl rfl)
theorem dX4_asksSightings_99 : decode cX4_asksSightings 99 = .ok (.iconst 1, 1) := dk_4 (dk_at dksX4_asksSightings_4 5 rfl rfl)
theorem dX4_asksSightings_100 : decode cX4_asksSightings 100 = .ok (.iadd, 1) := dk_96 (dk_at dksX4_asksSightings_4 6 rfl rfl)
theorem dX4_asksSightings_101 : decode cX4_asksSightings 101 = .ok (.laload, 1) := dk_47 (dk_at dksX4_asksSightings_4 7 rfl rfl)
theorem dX4_asksSightings_102 : decode cX4_asksSightings 102 = .ok (.lstore 7, 2) := dk_55 7 (dk_at dksX4_asksSightings_4 8 rfl rfl)
theorem dX4_asksSightings_104 : decode cX4_asksSightings 104 = .ok (.lload 5, 2) := dk_22 5 (dk_at dksX4_asksSightings_4 10 rfl rfl)
theorem dX4_asksSightings_106 : decode cX4_asksSightings 106 = .ok (.lconst 0, 1) := dk_9 (dk_at dksX4_asksSightings_4 12 rfl rfl)
theorem dX4_asksSightings_107 : decode cX4_asksSightings 107 = .ok (.aload_n 0, 1) := dk_42 (dk_at dksX4_asksSightings_4 13 rfl rfl)
theorem dX4_asksSightings_108 : decode cX4_asksSightings 108 = .ok (.getfield 9, 3) := dk_180 0 9 (dk_at dksX4_asksSightings_4 14 rfl rfl)
theorem dX4_asksSightings_111 : decode cX4_asksSightings 111 = .ok (.iconst 1, 1) := dk_4 (dk_at dksX4_asksSightings_4 17 rfl rfl)
theorem dX4_asksSightings_112 : decode cX4_asksSightings 112 = .ok (.iaload, 1) := dk_46 (dk_at dksX4_asksSightings_4 18 rfl rfl)
theorem dX4_asksSightings_113 : decode cX4_asksSightings 113 = .ok (.iconst 1, 1) := dk_4 (dk_at dksX4_asksSightings_4 19 rfl rfl)
theorem dX4_asksSightings_114 : decode cX4_asksSightings 114 = .ok (.isub, 1) := dk_100 (dk_at dksX4_asksSightings_4 20 rfl rfl)
theorem dX4_asksSightings_115 : decode cX4_asksSightings 115 = .ok (.i2l, 1) := dk_133 (dk_at dksX4_asksSightings_4 21 rfl rfl)
theorem dX4_asksSightings_116 : decode cX4_asksSightings 116 = .ok (.invokestatic 104, 3) := dk_184 0 104 (dk_at dksX4_asksSightings_5 0 rfl rfl)
theorem dX4_asksSightings_119 : decode cX4_asksSightings 119 = .ok (.ifCond .eq 44, 3) := dk_153 0 44 (dk_at dksX4_asksSightings_5 3 rfl rfl)
theorem dX4_asksSightings_122 : decode cX4_asksSightings 122 = .ok (.lload 7, 2) := dk_22 7 (dk_at dksX4_asksSightings_5 6 rfl rfl)
theorem dX4_asksSightings_124 : decode cX4_asksSightings 124 = .ok (.lconst 0, 1) := dk_9 (dk_at dksX4_asksSightings_5 8 rfl rfl)
theorem dX4_asksSightings_125 : decode cX4_asksSightings 125 = .ok (.aload_n 0, 1) := dk_42 (dk_at dksX4_asksSightings_5 9 rfl rfl)
theorem dX4_asksSightings_126 : decode cX4_asksSightings 126 = .ok (.getfield 9, 3) := dk_180 0 9 (dk_at dksX4_asksSightings_5 10 rfl rfl)
theorem dX4_asksSightings_129 : decode cX4_asksSightings 129 = .ok (.bipush 6, 2) := dk_16 6 (dk_at dksX4_asksSightings_5 13 rfl rfl)
theorem dX4_asksSightings_131 : decode cX4_asksSightings 131 = .ok (.iaload, 1) := dk_46 (dk_at dksX4_asksSightings_5 15 rfl rfl)
theorem dX4_asksSightings_132 : decode cX4_asksSightings 132 = .ok (.i2l, 1) := dk_133 (dk_at dksX4_asksSightings_5 16 rfl rfl)
theorem dX4_asksSightings_133 : decode cX4_asksSightings 133 = .ok (.invokestatic 104, 3) := dk_184 0 104 (dk_at dksX4_asksSightings_5 17 rfl rfl)
theorem dX4_asksSightings_136 : decode cX4_asksSightings 136 = .ok (.ifCond .eq 27, 3) := dk_153 0 27 (dk_at dksX4_asksSightings_5 20 rfl rfl)
theorem dX4_asksSightings_139 : decode cX4_asksSightings 139 = .ok (.aload_n 0, 1) := dk_42 (dk_at dksX4_asksSightings_5 23 rfl rfl)
theorem dX4_asksSightings_140 : decode cX4_asksSightings 140 = .ok (.getfield 92, 3) := dk_180 0 92 (dk_at dksX4_asksSightings_6 0 rfl rfl)
theorem dX4_asksSightings_143 : decode cX4_asksSightings 143 = .ok (.bipush 60, 2) := dk_16 60 (dk_at dksX4_asksSightings_6 3 rfl rfl)
theorem dX4_asksSightings_145 : decode cX4_asksSightings 145 = .ok (.iload_n 1, 1) := dk_27 (dk_at dksX4_asksSightings_6 5 rfl rfl)
theorem dX4_asksSightings_146 : decode cX4_asksSightings 146 = .ok (.imul, 1) := dk_104 (dk_at dksX4_asksSightings_6 6 rfl rfl)
theorem dX4_asksSightings_147 : decode cX4_asksSightings 147 = .ok (.iload 4, 2) := dk_21 4 (dk_at dksX4_asksSightings_6 7 rfl rfl)
theorem dX4_asksSightings_149 : decode cX4_asksSightings 149 = .ok (.iadd, 1) := dk_96 (dk_at dksX4_asksSightings_6 9 rfl rfl)
theorem dX4_asksSightings_150 : decode cX4_asksSightings 150 = .ok (.iconst 2, 1) := dk_5 (dk_at dksX4_asksSightings_6 10 rfl rfl)
theorem dX4_asksSightings_151 : decode cX4_asksSightings 151 = .ok (.iadd, 1) := dk_96 (dk_at dksX4_asksSightings_6 11 rfl rfl)
theorem dX4_asksSightings_152 : decode cX4_asksSightings 152 = .ok (.laload, 1) := dk_47 (dk_at dksX4_asksSightings_6 12 rfl rfl)
theorem dX4_asksSightings_153 : decode cX4_asksSightings 153 = .ok (.lconst 0, 1) := dk_9 (dk_at dksX4_asksSightings_6 13 rfl rfl)
theorem dX4_asksSightings_154 : decode cX4_asksSightings 154 = .ok (.ldc2_w 112, 3) := dk_20 0 112 (dk_at dksX4_asksSightings_6 14 rfl rfl)
theorem dX4_asksSightings_157 : decode cX4_asksSightings 157 = .ok (.invokestatic 104, 3) := dk_184 0 104 (dk_at dksX4_asksSightings_6 17 rfl rfl)
theorem dX4_asksSightings_160 : decode cX4_asksSightings 160 = .ok (.ifCond .ne 6, 3) := dk_154 0 6 (dk_at dksX4_asksSightings_6 20 rfl rfl)
theorem dX4_asksSightings_163 : decode cX4_asksSightings 163 = .ok (.bipush (-2), 2) := dk_16 254 (dk_at dksX4_asksSightings_7 0 rfl rfl)
theorem dX4_asksSightings_165 : decode cX4_asksSightings 165 = .ok (.ireturn, 1) := dk_172 (dk_at dksX4_asksSightings_7 2 rfl rfl)
theorem dX4_asksSightings_166 : decode cX4_asksSightings 166 = .ok (.iinc 4 3, 3) := dk_132 4 3 (dk_at dksX4_asksSightings_7 3 rfl rfl)
theorem dX4_asksSightings_169 : decode cX4_asksSightings 169 = .ok (.goto (-106), 3) := dk_167 255 150 (dk_at dksX4_asksSightings_7 6 rfl rfl)
theorem dX4_asksSightings_172 : decode cX4_asksSightings 172 = .ok (.aload_n 0, 1) := dk_42 (dk_at dksX4_asksSightings_7 9 rfl rfl)
theorem dX4_asksSightings_173 : decode cX4_asksSightings 173 = .ok (.invokevirtual 410, 3) := dk_182 1 154 (dk_at dksX4_asksSightings_7 10 rfl rfl)
theorem dX4_asksSightings_176 : decode cX4_asksSightings 176 = .ok (.ifCond .eq 7, 3) := dk_153 0 7 (dk_at dksX4_asksSightings_7 13 rfl rfl)
theorem dX4_asksSightings_179 : decode cX4_asksSightings 179 = .ok (.iconst 0, 1) := dk_3 (dk_at dksX4_asksSightings_7 16 rfl rfl)
theorem dX4_asksSightings_180 : decode cX4_asksSightings 180 = .ok (.goto 5, 3) := dk_167 0 5 (dk_at dksX4_asksSightings_7 17 rfl rfl)
theorem dX4_asksSightings_183 : decode cX4_asksSightings 183 = .ok (.bipush (-3), 2) := dk_16 253 (dk_at dksX4_asksSightings_7 20 rfl rfl)
theorem dX4_asksSightings_185 : decode cX4_asksSightings 185 = .ok (.ireturn, 1) := dk_172 (dk_at dksX4_asksSightings_7 22 rfl rfl)
abbrev cX4_isSlot : ByteArray := prog_19_method_122_code
def yX4_isSlot : MethodName := ⟨RX4, "isSlot", "(I)Z"⟩
def dkwX4_isSlot_0 : List UInt8 := [26, 133, 9, 20, 1, 226, 184, 0, 104, 172]
abbrev dktX4_isSlot_0 : List UInt8 := dkwX4_isSlot_0 ++ []
theorem dksX4_isSlot_0 : cX4_isSlot.data.toList.drop 0 = dktX4_isSlot_0 := by decide +kernel
theorem dX4_isSlot_0 : decode cX4_isSlot 0 = .ok (.iload_n 0, 1) := dk_26 (dk_at dksX4_isSlot_0 0 rfl rfl)
theorem dX4_isSlot_1 : decode cX4_isSlot 1 = .ok (.i2l, 1) := dk_133 (dk_at dksX4_isSlot_0 1 rfl rfl)
theorem dX4_isSlot_2 : decode cX4_isSlot 2 = .ok (.lconst 0, 1) := dk_9 (dk_at dksX4_isSlot_0 2 rfl rfl)
theorem dX4_isSlot_3 : decode cX4_isSlot 3 = .ok (.ldc2_w 482, 3) := dk_20 1 226 (dk_at dksX4_isSlot_0 3 rfl rfl)
theorem dX4_isSlot_6 : decode cX4_isSlot 6 = .ok (.invokestatic 104, 3) := dk_184 0 104 (dk_at dksX4_isSlot_0 6 rfl rfl)
theorem dX4_isSlot_9 : decode cX4_isSlot 9 = .ok (.ireturn, 1) := dk_172 (dk_at dksX4_isSlot_0 9 rfl rfl)
abbrev cX4_agrees : ByteArray := prog_19_method_77_code
def yX4_agrees : MethodName := ⟨RX4, "agrees", "(III)Z"⟩
def dkwX4_agrees_3 : List UInt8 := [153, 0, 5, 3, 172, 132, 4, 1, 167, 255, 180, 4, 172]
abbrev dktX4_agrees_3 : List UInt8 := dkwX4_agrees_3 ++ []
def dkwX4_agrees_2 : List UInt8 := [180, 0, 92, 21, 5, 4, 96, 47, 136, 182, 1, 157, 133, 42, 180, 0, 92, 21, 5, 5, 96, 47, 148]
abbrev dktX4_agrees_2 : List UInt8 := dkwX4_agrees_2 ++ dktX4_agrees_3
def dkwX4_agrees_1 : List UInt8 := [96, 54, 5, 28, 21, 4, 122, 4, 126, 4, 160, 0, 42, 42, 29, 42, 180, 0, 92, 21, 5, 47, 136, 42]
abbrev dktX4_agrees_1 : List UInt8 := dkwX4_agrees_1 ++ dktX4_agrees_2
def dkwX4_agrees_0 : List UInt8 := [3, 54, 4, 6, 21, 4, 104, 42, 180, 0, 86, 27, 46, 162, 0, 69, 16, 60, 27, 104, 6, 21, 4, 104]
abbrev dktX4_agrees_0 : List UInt8 := dkwX4_agrees_0 ++ dktX4_agrees_1
theorem dksX4_agrees_0 : cX4_agrees.data.toList.drop 0 = dktX4_agrees_0 := by decide +kernel
theorem dksX4_agrees_1 : cX4_agrees.data.toList.drop 24 = dktX4_agrees_1 := dk_seg dksX4_agrees_0 24 rfl rfl
theorem dksX4_agrees_2 : cX4_agrees.data.toList.drop 48 = dktX4_agrees_2 := dk_seg dksX4_agrees_1 24 rfl rfl
theorem dksX4_agrees_3 : cX4_agrees.data.toList.drop 71 = dktX4_agrees_3 := dk_seg dksX4_agrees_2 23 rfl rfl
theorem dX4_agrees_0 : decode cX4_agrees 0 = .ok (.iconst 0, 1) := dk_3 (dk_at dksX4_agrees_0 0 rfl rfl)
theorem dX4_agrees_1 : decode cX4_agrees 1 = .ok (.istore 4, 2) := dk_54 4 (dk_at dksX4_agrees_0 1 rfl rfl)
theorem dX4_agrees_3 : decode cX4_agrees 3 = .ok (.iconst 3, 1) := dk_6 (dk_at dksX4_agrees_0 3 rfl rfl)
theorem dX4_agrees_4 : decode cX4_agrees 4 = .ok (.iload 4, 2) := dk_21 4 (dk_at dksX4_agrees_0 4 rfl rfl)
theorem dX4_agrees_6 : decode cX4_agrees 6 = .ok (.imul, 1) := dk_104 (dk_at dksX4_agrees_0 6 rfl rfl)
theorem dX4_agrees_7 : decode cX4_agrees 7 = .ok (.aload_n 0, 1) := dk_42 (dk_at dksX4_agrees_0 7 rfl rfl)
theorem dX4_agrees_8 : decode cX4_agrees 8 = .ok (.getfield 86, 3) := dk_180 0 86 (dk_at dksX4_agrees_0 8 rfl rfl)
theorem dX4_agrees_11 : decode cX4_agrees 11 = .ok (.iload_n 1, 1) := dk_27 (dk_at dksX4_agrees_0 11 rfl rfl)
theorem dX4_agrees_12 : decode cX4_agrees 12 = .ok (.iaload, 1) := dk_46 (dk_at dksX4_agrees_0 12 rfl rfl)
theorem dX4_agrees_13 : decode cX4_agrees 13 = .ok (.if_icmp .ge 69, 3) := dk_162 0 69 (dk_at dksX4_agrees_0 13 rfl rfl)
theorem dX4_agrees_16 : decode cX4_agrees 16 = .ok (.bipush 60, 2) := dk_16 60 (dk_at dksX4_agrees_0 16 rfl rfl)
theorem dX4_agrees_18 : decode cX4_agrees 18 = .ok (.iload_n 1, 1) := dk_27 (dk_at dksX4_agrees_0 18 rfl rfl)
theorem dX4_agrees_19 : decode cX4_agrees 19 = .ok (.imul, 1) := dk_104 (dk_at dksX4_agrees_0 19 rfl rfl)
theorem dX4_agrees_20 : decode cX4_agrees 20 = .ok (.iconst 3, 1) := dk_6 (dk_at dksX4_agrees_0 20 rfl rfl)
theorem dX4_agrees_21 : decode cX4_agrees 21 = .ok (.iload 4, 2) := dk_21 4 (dk_at dksX4_agrees_0 21 rfl rfl)
theorem dX4_agrees_23 : decode cX4_agrees 23 = .ok (.imul, 1) := dk_104 (dk_at dksX4_agrees_0 23 rfl rfl)
theorem dX4_agrees_24 : decode cX4_agrees 24 = .ok (.iadd, 1) := dk_96 (dk_at dksX4_agrees_1 0 rfl rfl)
theorem dX4_agrees_25 : decode cX4_agrees 25 = .ok (.istore 5, 2) := dk_54 5 (dk_at dksX4_agrees_1 1 rfl rfl)
theorem dX4_agrees_27 : decode cX4_agrees 27 = .ok (.iload_n 2, 1) := dk_28 (dk_at dksX4_agrees_1 3 rfl rfl)
theorem dX4_agrees_28 : decode cX4_agrees 28 = .ok (.iload 4, 2) := dk_21 4 (dk_at dksX4_agrees_1 4 rfl rfl)
theorem dX4_agrees_30 : decode cX4_agrees 30 = .ok (.ishr, 1) := dk_122 (dk_at dksX4_agrees_1 6 rfl rfl)
theorem dX4_agrees_31 : decode cX4_agrees 31 = .ok (.iconst 1, 1) := dk_4 (dk_at dksX4_agrees_1 7 rfl rfl)
theorem dX4_agrees_32 : decode cX4_agrees 32 = .ok (.iand, 1) := dk_126 (dk_at dksX4_agrees_1 8 rfl rfl)
theorem dX4_agrees_33 : decode cX4_agrees 33 = .ok (.iconst 1, 1) := dk_4 (dk_at dksX4_agrees_1 9 rfl rfl)
theorem dX4_agrees_34 : decode cX4_agrees 34 = .ok (.if_icmp .ne 42, 3) := dk_160 0 42 (dk_at dksX4_agrees_1 10 rfl rfl)
theorem dX4_agrees_37 : decode cX4_agrees 37 = .ok (.aload_n 0, 1) := dk_42 (dk_at dksX4_agrees_1 13 rfl rfl)
theorem dX4_agrees_38 : decode cX4_agrees 38 = .ok (.iload_n 3, 1) := dk_29 (dk_at dksX4_agrees_1 14 rfl rfl)
theorem dX4_agrees_39 : decode cX4_agrees 39 = .ok (.aload_n 0, 1) := dk_42 (dk_at dksX4_agrees_1 15 rfl rfl)
theorem dX4_agrees_40 : decode cX4_agrees 40 = .ok (.getfield 92, 3) := dk_180 0 92 (dk_at dksX4_agrees_1 16 rfl rfl)
theorem dX4_agrees_43 : decode cX4_agrees 43 = .ok (.iload 5, 2) := dk_21 5 (dk_at dksX4_agrees_1 19 rfl rfl)
theorem dX4_agrees_45 : decode cX4_agrees 45 = .ok (.laload, 1) := dk_47 (dk_at dksX4_agrees_1 21 rfl rfl)
theorem dX4_agrees_46 : decode cX4_agrees 46 = .ok (.l2i, 1) := dk_136 (dk_at dksX4_agrees_1 22 rfl rfl)
theorem dX4_agrees_47 : decode cX4_agrees 47 = .ok (.aload_n 0, 1) := dk_42 (dk_at dksX4_agrees_1 23 rfl rfl)
theorem dX4_agrees_48 : decode cX4_agrees 48 = .ok (.getfield 92, 3) := dk_180 0 92 (dk_at dksX4_agrees_2 0 rfl rfl)
theorem dX4_agrees_51 : decode cX4_agrees 51 = .ok (.iload 5, 2) := dk_21 5 (dk_at dksX4_agrees_2 3 rfl rfl)
theorem dX4_agrees_53 : decode cX4_agrees 53 = .ok (.iconst 1, 1) := dk_4 (dk_at dksX4_agrees_2 5 rfl rfl)
theorem dX4_agrees_54 : decode cX4_agrees 54 = .ok (.iadd, 1) := dk_96 (dk_at dksX4_agrees_2 6 rfl rfl)
theorem dX4_agrees_55 : decode cX4_agrees 55 = .ok (.laload, 1) := dk_47 (dk_at dksX4_agrees_2 7 rfl rfl)
theorem dX4_agrees_56 : decode cX4_agrees 56 = .ok (.l2i, 1) := dk_136 (dk_at dksX4_agrees_2 8 rfl rfl)
theorem dX4_agrees_57 : decode cX4_agrees 57 = .ok (.invokevirtual 413, 3) := dk_182 1 157 (dk_at dksX4_agrees_2 9 rfl rfl)
theorem dX4_agrees_60 : decode cX4_agrees 60 = .ok (.i2l, 1) := dk_133 (dk_at dksX4_agrees_2 12 rfl rfl)
theorem dX4_agrees_61 : decode cX4_agrees 61 = .ok (.aload_n 0, 1) := dk_42 (dk_at dksX4_agrees_2 13 rfl rfl)
theorem dX4_agrees_62 : decode cX4_agrees 62 = .ok (.getfield 92, 3) := dk_180 0 92 (dk_at dksX4_agrees_2 14 rfl rfl)
theorem dX4_agrees_65 : decode cX4_agrees 65 = .ok (.iload 5, 2) := dk_21 5 (dk_at dksX4_agrees_2 17 rfl rfl)
theorem dX4_agrees_67 : decode cX4_agrees 67 = .ok (.iconst 2, 1) := dk_5 (dk_at dksX4_agrees_2 19 rfl rfl)
theorem dX4_agrees_68 : decode cX4_agrees 68 = .ok (.iadd, 1) := dk_96 (dk_at dksX4_agrees_2 20 rfl rfl)
theorem dX4_agrees_69 : decode cX4_agrees 69 = .ok (.laload, 1) := dk_47 (dk_at dksX4_agrees_2 21 rfl rfl)
theorem dX4_agrees_70 : decode cX4_agrees 70 = .ok (.lcmp, 1) := dk_148 (dk_at dksX4_agrees_2 22 rfl rfl)
theorem dX4_agrees_71 : decode cX4_agrees 71 = .ok (.ifCond .eq 5, 3) := dk_153 0 5 (dk_at dksX4_agrees_3 0 rfl rfl)
theorem dX4_agrees_74 : decode cX4_agrees 74 = .ok (.iconst 0, 1) := dk_3 (dk_at dksX4_agrees_3 3 rfl rfl)
theorem dX4_agrees_75 : decode cX4_agrees 75 = .ok (.ireturn, 1) := dk_172 (dk_at dksX4_agrees_3 4 rfl rfl)
theorem dX4_agrees_76 : decode cX4_agrees 76 = .ok (.iinc 4 1, 3) := dk_132 4 1 (dk_at dksX4_agrees_3 5 rfl rfl)
theorem dX4_agrees_79 : decode cX4_agrees 79 = .ok (.goto (-76), 3) := dk_167 255 180 (dk_at dksX4_agrees_3 8 rfl rfl)
theorem dX4_agrees_82 : decode cX4_agrees 82 = .ok (.iconst 1, 1) := dk_4 (dk_at dksX4_agrees_3 11 rfl rfl)
theorem dX4_agrees_83 : decode cX4_agrees 83 = .ok (.ireturn, 1) := dk_172 (dk_at dksX4_agrees_3 12 rfl rfl)
abbrev cX4_sure : ByteArray := prog_19_method_80_code
def yX4_sure : MethodName := ⟨RX4, "sure", "(III)I"⟩
def dkwX4_sure_2 : List UInt8 := [182, 1, 170, 172]
abbrev dktX4_sure_2 : List UInt8 := dkwX4_sure_2 ++ []
def dkwX4_sure_1 : List UInt8 := [16, 20, 182, 1, 166, 54, 4, 21, 4, 156, 0, 8, 21, 4, 167, 0, 11, 42, 27, 2, 28, 29]
abbrev dktX4_sure_1 : List UInt8 := dkwX4_sure_1 ++ dktX4_sure_2
def dkwX4_sure_0 : List UInt8 := [42, 27, 42, 28, 182, 1, 58, 153, 0, 15, 42, 29, 182, 1, 134, 153, 0, 7, 4, 167, 0, 4, 3]
abbrev dktX4_sure_0 : List UInt8 := dkwX4_sure_0 ++ dktX4_sure_1
theorem dksX4_sure_0 : cX4_sure.data.toList.drop 0 = dktX4_sure_0 := by decide +kernel
theorem dksX4_sure_1 : cX4_sure.data.toList.drop 23 = dktX4_sure_1 := dk_seg dksX4_sure_0 23 rfl rfl
theorem dksX4_sure_2 : cX4_sure.data.toList.drop 45 = dktX4_sure_2 := dk_seg dksX4_sure_1 22 rfl rfl
theorem dX4_sure_0 : decode cX4_sure 0 = .ok (.aload_n 0, 1) := dk_42 (dk_at dksX4_sure_0 0 rfl rfl)
theorem dX4_sure_1 : decode cX4_sure 1 = .ok (.iload_n 1, 1) := dk_27 (dk_at dksX4_sure_0 1 rfl rfl)
theorem dX4_sure_2 : decode cX4_sure 2 = .ok (.aload_n 0, 1) := dk_42 (dk_at dksX4_sure_0 2 rfl rfl)
theorem dX4_sure_3 : decode cX4_sure 3 = .ok (.iload_n 2, 1) := dk_28 (dk_at dksX4_sure_0 3 rfl rfl)
theorem dX4_sure_4 : decode cX4_sure 4 = .ok (.invokevirtual 314, 3) := dk_182 1 58 (dk_at dksX4_sure_0 4 rfl rfl)
theorem dX4_sure_7 : decode cX4_sure 7 = .ok (.ifCond .eq 15, 3) := dk_153 0 15 (dk_at dksX4_sure_0 7 rfl rfl)
theorem dX4_sure_10 : decode cX4_sure 10 = .ok (.aload_n 0, 1) := dk_42 (dk_at dksX4_sure_0 10 rfl rfl)
theorem dX4_sure_11 : decode cX4_sure 11 = .ok (.iload_n 3, 1) := dk_29 (dk_at dksX4_sure_0 11 rfl rfl)
theorem dX4_sure_12 : decode cX4_sure 12 = .ok (.invokevirtual 390, 3) := dk_182 1 134 (dk_at dksX4_sure_0 12 rfl rfl)
theorem dX4_sure_15 : decode cX4_sure 15 = .ok (.ifCond .eq 7, 3) := dk_153 0 7 (dk_at dksX4_sure_0 15 rfl rfl)
theorem dX4_sure_18 : decode cX4_sure 18 = .ok (.iconst 1, 1) := dk_4 (dk_at dksX4_sure_0 18 rfl rfl)
theorem dX4_sure_19 : decode cX4_sure 19 = .ok (.goto 4, 3) := dk_167 0 4 (dk_at dksX4_sure_0 19 rfl rfl)
theorem dX4_sure_22 : decode cX4_sure 22 = .ok (.iconst 0, 1) := dk_3 (dk_at dksX4_sure_0 22 rfl rfl)
theorem dX4_sure_23 : decode cX4_sure 23 = .ok (.bipush 20, 2) := dk_16 20 (dk_at dksX4_sure_1 0 rfl rfl)
theorem dX4_sure_25 : decode cX4_sure 25 = .ok (.invokevirtual 422, 3) := dk_182 1 166 (dk_at dksX4_sure_1 2 rfl rfl)
theorem dX4_sure_28 : decode cX4_sure 28 = .ok (.istore 4, 2) := dk_54 4 (dk_at dksX4_sure_1 5 rfl rfl)
theorem dX4_sure_30 : decode cX4_sure 30 = .ok (.iload 4, 2) := dk_21 4 (dk_at dksX4_sure_1 7 rfl rfl)
theorem dX4_sure_32 : decode cX4_sure 32 = .ok (.ifCond .ge 8, 3) := dk_156 0 8 (dk_at dksX4_sure_1 9 rfl rfl)
theorem dX4_sure_35 : decode cX4_sure 35 = .ok (.iload 4, 2) := dk_21 4 (dk_at dksX4_sure_1 12 rfl rfl)
theorem dX4_sure_37 : decode cX4_sure 37 = .ok (.goto 11, 3) := dk_167 0 11 (dk_at dksX4_sure_1 14 rfl rfl)
theorem dX4_sure_40 : decode cX4_sure 40 = .ok (.aload_n 0, 1) := dk_42 (dk_at dksX4_sure_1 17 rfl rfl)
theorem dX4_sure_41 : decode cX4_sure 41 = .ok (.iload_n 1, 1) := dk_27 (dk_at dksX4_sure_1 18 rfl rfl)
theorem dX4_sure_42 : decode cX4_sure 42 = .ok (.iconst (-1), 1) := dk_2 (dk_at dksX4_sure_1 19 rfl rfl)
theorem dX4_sure_43 : decode cX4_sure 43 = .ok (.iload_n 2, 1) := dk_28 (dk_at dksX4_sure_1 20 rfl rfl)
theorem dX4_sure_44 : decode cX4_sure 44 = .ok (.iload_n 3, 1) := dk_29 (dk_at dksX4_sure_1 21 rfl rfl)
theorem dX4_sure_45 : decode cX4_sure 45 = .ok (.invokevirtual 426, 3) := dk_182 1 170 (dk_at dksX4_sure_2 0 rfl rfl)
theorem dX4_sure_48 : decode cX4_sure 48 = .ok (.ireturn, 1) := dk_172 (dk_at dksX4_sure_2 3 rfl rfl)
abbrev cX4_sureBy : ByteArray := prog_19_method_78_code
def yX4_sureBy : MethodName := ⟨RX4, "sureBy", "(IIII)I"⟩
def dkwX4_sureBy_3 : List UInt8 := [172]
abbrev dktX4_sureBy_3 : List UInt8 := dkwX4_sureBy_3 ++ []
def dkwX4_sureBy_2 : List UInt8 := [159, 0, 5, 2, 172, 42, 21, 6, 29, 21, 4, 182, 1, 157, 54, 5, 132, 6, 1, 167, 255, 197, 21, 5]
abbrev dktX4_sureBy_2 : List UInt8 := dkwX4_sureBy_2 ++ dktX4_sureBy_3
def dkwX4_sureBy_1 : List UInt8 := [154, 0, 6, 167, 0, 36, 21, 5, 2, 159, 0, 19, 21, 5, 42, 21, 6, 29, 21, 4, 182, 1, 157]
abbrev dktX4_sureBy_1 : List UInt8 := dkwX4_sureBy_1 ++ dktX4_sureBy_2
def dkwX4_sureBy_0 : List UInt8 := [2, 54, 5, 3, 54, 6, 21, 6, 42, 180, 1, 145, 162, 0, 56, 42, 27, 28, 21, 6, 182, 1, 163]
abbrev dktX4_sureBy_0 : List UInt8 := dkwX4_sureBy_0 ++ dktX4_sureBy_1
theorem dksX4_sureBy_0 : cX4_sureBy.data.toList.drop 0 = dktX4_sureBy_0 := by decide +kernel
theorem dksX4_sureBy_1 : cX4_sureBy.data.toList.drop 23 = dktX4_sureBy_1 := dk_seg dksX4_sureBy_0 23 rfl rfl
theorem dksX4_sureBy_2 : cX4_sureBy.data.toList.drop 46 = dktX4_sureBy_2 := dk_seg dksX4_sureBy_1 23 rfl rfl
theorem dksX4_sureBy_3 : cX4_sureBy.data.toList.drop 70 = dktX4_sureBy_3 := dk_seg dksX4_sureBy_2 24 rfl rfl
theorem dX4_sureBy_0 : decode cX4_sureBy 0 = .ok (.iconst (-1), 1) := dk_2 (dk_at dksX4_sureBy_0 0 rfl rfl)
theorem dX4_sureBy_1 : decode cX4_sureBy 1 = .ok (.istore 5, 2) := dk_54 5 (dk_at dksX4_sureBy_0 1 rfl rfl)
theorem dX4_sureBy_3 : decode cX4_sureBy 3 = .ok (.iconst 0, 1) := dk_3 (dk_at dksX4_sureBy_0 3 rfl rfl)
theorem dX4_sureBy_4 : decode cX4_sureBy 4 = .ok (.istore 6, 2) := dk_54 6 (dk_at dksX4_sureBy_0 4 rfl rfl)
theorem dX4_sureBy_6 : decode cX4_sureBy 6 = .ok (.iload 6, 2) := dk_21 6 (dk_at dksX4_sureBy_0 6 rfl rfl)
theorem dX4_sureBy_8 : decode cX4_sureBy 8 = .ok (.aload_n 0, 1) := dk_42 (dk_at dksX4_sureBy_0 8 rfl rfl)
theorem dX4_sureBy_9 : decode cX4_sureBy 9 = .ok (.getfield 401, 3) := dk_180 1 145 (dk_at dksX4_sureBy_0 9 rfl rfl)
theorem dX4_sureBy_12 : decode cX4_sureBy 12 = .ok (.if_icmp .ge 56, 3) := dk_162 0 56 (dk_at dksX4_sureBy_0 12 rfl rfl)
theorem dX4_sureBy_15 : decode cX4_sureBy 15 = .ok (.aload_n 0, 1) := dk_42 (dk_at dksX4_sureBy_0 15 rfl rfl)
theorem dX4_sureBy_16 : decode cX4_sureBy 16 = .ok (.iload_n 1, 1) := dk_27 (dk_at dksX4_sureBy_0 16 rfl rfl)
theorem dX4_sureBy_17 : decode cX4_sureBy 17 = .ok (.iload_n 2, 1) := dk_28 (dk_at dksX4_sureBy_0 17 rfl rfl)
theorem dX4_sureBy_18 : decode cX4_sureBy 18 = .ok (.iload 6, 2) := dk_21 6 (dk_at dksX4_sureBy_0 18 rfl rfl)
theorem dX4_sureBy_20 : decode cX4_sureBy 20 = .ok (.invokevirtual 419, 3) := dk_182 1 163 (dk_at dksX4_sureBy_0 20 rfl rfl)
theorem dX4_sureBy_23 : decode cX4_sureBy 23 = .ok (.ifCond .ne 6, 3) := dk_154 0 6 (dk_at dksX4_sureBy_1 0 rfl rfl)
theorem dX4_sureBy_26 : decode cX4_sureBy 26 = .ok (.goto 36, 3) := dk_167 0 36 (dk_at dksX4_sureBy_1 3 rfl rfl)
theorem dX4_sureBy_29 : decode cX4_sureBy 29 = .ok (.iload 5, 2) := dk_21 5 (dk_at dksX4_sureBy_1 6 rfl rfl)
theorem dX4_sureBy_31 : decode cX4_sureBy 31 = .ok (.iconst (-1), 1) := dk_2 (dk_at dksX4_sureBy_1 8 rfl rfl)
theorem dX4_sureBy_32 : decode cX4_sureBy 32 = .ok (.if_icmp .eq 19, 3) := dk_159 0 19 (dk_at dksX4_sureBy_1 9 rfl rfl)
theorem dX4_sureBy_35 : decode cX4_sureBy 35 = .ok (.iload 5, 2) := dk_21 5 (dk_at dksX4_sureBy_1 12 rfl rfl)
theorem dX4_sureBy_37 : decode cX4_sureBy 37 = .ok (.aload_n 0, 1) := dk_42 (dk_at dksX4_sureBy_1 14 rfl rfl)
theorem dX4_sureBy_38 : decode cX4_sureBy 38 = .ok (.iload 6, 2) := dk_21 6 (dk_at dksX4_sureBy_1 15 rfl rfl)
theorem dX4_sureBy_40 : decode cX4_sureBy 40 = .ok (.iload_n 3, 1) := dk_29 (dk_at dksX4_sureBy_1 17 rfl rfl)
theorem dX4_sureBy_41 : decode cX4_sureBy 41 = .ok (.iload 4, 2) := dk_21 4 (dk_at dksX4_sureBy_1 18 rfl rfl)
theorem dX4_sureBy_43 : decode cX4_sureBy 43 = .ok (.invokevirtual 413, 3) := dk_182 1 157 (dk_at dksX4_sureBy_1 20 rfl rfl)
theorem dX4_sureBy_46 : decode cX4_sureBy 46 = .ok (.if_icmp .eq 5, 3) := dk_159 0 5 (dk_at dksX4_sureBy_2 0 rfl rfl)
theorem dX4_sureBy_49 : decode cX4_sureBy 49 = .ok (.iconst (-1), 1) := dk_2 (dk_at dksX4_sureBy_2 3 rfl rfl)
theorem dX4_sureBy_50 : decode cX4_sureBy 50 = .ok (.ireturn, 1) := dk_172 (dk_at dksX4_sureBy_2 4 rfl rfl)
theorem dX4_sureBy_51 : decode cX4_sureBy 51 = .ok (.aload_n 0, 1) := dk_42 (dk_at dksX4_sureBy_2 5 rfl rfl)
theorem dX4_sureBy_52 : decode cX4_sureBy 52 = .ok (.iload 6, 2) := dk_21 6 (dk_at dksX4_sureBy_2 6 rfl rfl)
theorem dX4_sureBy_54 : decode cX4_sureBy 54 = .ok (.iload_n 3, 1) := dk_29 (dk_at dksX4_sureBy_2 8 rfl rfl)
theorem dX4_sureBy_55 : decode cX4_sureBy 55 = .ok (.iload 4, 2) := dk_21 4 (dk_at dksX4_sureBy_2 9 rfl rfl)
theorem dX4_sureBy_57 : decode cX4_sureBy 57 = .ok (.invokevirtual 413, 3) := dk_182 1 157 (dk_at dksX4_sureBy_2 11 rfl rfl)
theorem dX4_sureBy_60 : decode cX4_sureBy 60 = .ok (.istore 5, 2) := dk_54 5 (dk_at dksX4_sureBy_2 14 rfl rfl)
theorem dX4_sureBy_62 : decode cX4_sureBy 62 = .ok (.iinc 6 1, 3) := dk_132 6 1 (dk_at dksX4_sureBy_2 16 rfl rfl)
theorem dX4_sureBy_65 : decode cX4_sureBy 65 = .ok (.goto (-59), 3) := dk_167 255 197 (dk_at dksX4_sureBy_2 19 rfl rfl)
theorem dX4_sureBy_68 : decode cX4_sureBy 68 = .ok (.iload 5, 2) := dk_21 5 (dk_at dksX4_sureBy_2 22 rfl rfl)
theorem dX4_sureBy_70 : decode cX4_sureBy 70 = .ok (.ireturn, 1) := dk_172 (dk_at dksX4_sureBy_3 0 rfl rfl)
abbrev cX4_needs_2 : ByteArray := prog_19_method_81_code
def yX4_needs_2 : MethodName := ⟨RX4, "needs", "(III)I"⟩
def dkwX4_needs_2_5 : List UInt8 := [21, 5, 172]
abbrev dktX4_needs_2_5 : List UInt8 := dkwX4_needs_2_5 ++ []
def dkwX4_needs_2_4 : List UInt8 := [21, 5, 167, 0, 13, 21, 5, 21, 6, 184, 1, 174, 184, 0, 145, 54, 5, 132, 6, 1, 167, 255, 208]
abbrev dktX4_needs_2_4 : List UInt8 := dkwX4_needs_2_4 ++ dktX4_needs_2_5
def dkwX4_needs_2_3 : List UInt8 := [180, 0, 86, 27, 46, 6, 108, 120, 162, 0, 39, 42, 27, 21, 6, 28, 29, 182, 1, 170, 2, 160, 0, 8]
abbrev dktX4_needs_2_3 : List UInt8 := dkwX4_needs_2_3 ++ dktX4_needs_2_4
def dkwX4_needs_2_2 : List UInt8 := [160, 0, 5, 2, 172, 42, 180, 0, 86, 27, 46, 6, 108, 54, 5, 3, 54, 6, 21, 6, 4, 42]
abbrev dktX4_needs_2_2 : List UInt8 := dkwX4_needs_2_2 ++ dktX4_needs_2_3
def dkwX4_needs_2_1 : List UInt8 := [16, 8, 182, 1, 166, 54, 4, 21, 4, 156, 0, 6, 21, 4, 172, 42, 27, 2, 28, 29, 182, 1, 170, 2]
abbrev dktX4_needs_2_1 : List UInt8 := dkwX4_needs_2_1 ++ dktX4_needs_2_2
def dkwX4_needs_2_0 : List UInt8 := [42, 27, 42, 28, 182, 1, 58, 153, 0, 15, 42, 29, 182, 1, 134, 153, 0, 7, 4, 167, 0, 4, 3]
abbrev dktX4_needs_2_0 : List UInt8 := dkwX4_needs_2_0 ++ dktX4_needs_2_1
theorem dksX4_needs_2_0 : cX4_needs_2.data.toList.drop 0 = dktX4_needs_2_0 := by decide +kernel
theorem dksX4_needs_2_1 : cX4_needs_2.data.toList.drop 23 = dktX4_needs_2_1 := dk_seg dksX4_needs_2_0 23 rfl rfl
theorem dksX4_needs_2_2 : cX4_needs_2.data.toList.drop 47 = dktX4_needs_2_2 := dk_seg dksX4_needs_2_1 24 rfl rfl
theorem dksX4_needs_2_3 : cX4_needs_2.data.toList.drop 69 = dktX4_needs_2_3 := dk_seg dksX4_needs_2_2 22 rfl rfl
theorem dksX4_needs_2_4 : cX4_needs_2.data.toList.drop 93 = dktX4_needs_2_4 := dk_seg dksX4_needs_2_3 24 rfl rfl
theorem dksX4_needs_2_5 : cX4_needs_2.data.toList.drop 116 = dktX4_needs_2_5 := dk_seg dksX4_needs_2_4 23 rfl rfl
theorem dX4_needs_2_0 : decode cX4_needs_2 0 = .ok (.aload_n 0, 1) := dk_42 (dk_at dksX4_needs_2_0 0 rfl rfl)
theorem dX4_needs_2_1 : decode cX4_needs_2 1 = .ok (.iload_n 1, 1) := dk_27 (dk_at dksX4_needs_2_0 1 rfl rfl)
theorem dX4_needs_2_2 : decode cX4_needs_2 2 = .ok (.aload_n 0, 1) := dk_42 (dk_at dksX4_needs_2_0 2 rfl rfl)
theorem dX4_needs_2_3 : decode cX4_needs_2 3 = .ok (.iload_n 2, 1) := dk_28 (dk_at dksX4_needs_2_0 3 rfl rfl)
theorem dX4_needs_2_4 : decode cX4_needs_2 4 = .ok (.invokevirtual 314, 3) := dk_182 1 58 (dk_at dksX4_needs_2_0 4 rfl rfl)
theorem dX4_needs_2_7 : decode cX4_needs_2 7 = .ok (.ifCond .eq 15, 3) := dk_153 0 15 (dk_at dksX4_needs_2_0 7 rfl rfl)
theorem dX4_needs_2_10 : decode cX4_needs_2 10 = .ok (.aload_n 0, 1) := dk_42 (dk_at dksX4_needs_2_0 10 rfl rfl)
theorem dX4_needs_2_11 : decode cX4_needs_2 11 = .ok (.iload_n 3, 1) := dk_29 (dk_at dksX4_needs_2_0 11 rfl rfl)
theorem dX4_needs_2_12 : decode cX4_needs_2 12 = .ok (.invokevirtual 390, 3) := dk_182 1 134 (dk_at dksX4_needs_2_0 12 rfl rfl)
theorem dX4_needs_2_15 : decode cX4_needs_2 15 = .ok (.ifCond .eq 7, 3) := dk_153 0 7 (dk_at dksX4_needs_2_0 15 rfl rfl)
theorem dX4_needs_2_18 : decode cX4_needs_2 18 = .ok (.iconst 1, 1) := dk_4 (dk_at dksX4_needs_2_0 18 rfl rfl)
theorem dX4_needs_2_19 : decode cX4_needs_2 19 = .ok (.goto 4, 3) := dk_167 0 4 (dk_at dksX4_needs_2_0 19 rfl rfl)
theorem dX4_needs_2_22 : decode cX4_needs_2 22 = .ok (.iconst 0, 1) := dk_3 (dk_at dksX4_needs_2_0 22 rfl rfl)
theorem dX4_needs_2_23 : decode cX4_needs_2 23 = .ok (.bipush 8, 2) := dk_16 8 (dk_at dksX4_needs_2_1 0 rfl rfl)
theorem dX4_needs_2_25 : decode cX4_needs_2 25 = .ok (.invokevirtual 422, 3) := dk_182 1 166 (dk_at dksX4_needs_2_1 2 rfl rfl)
theorem dX4_needs_2_28 : decode cX4_needs_2 28 = .ok (.istore 4, 2) := dk_54 4 (dk_at dksX4_needs_2_1 5 rfl rfl)
theorem dX4_needs_2_30 : decode cX4_needs_2 30 = .ok (.iload 4, 2) := dk_21 4 (dk_at dksX4_needs_2_1 7 rfl rfl)
theorem dX4_needs_2_32 : decode cX4_needs_2 32 = .ok (.ifCond .ge 6, 3) := dk_156 0 6 (dk_at dksX4_needs_2_1 9 rfl rfl)
theorem dX4_needs_2_35 : decode cX4_needs_2 35 = .ok (.iload 4, 2) := dk_21 4 (dk_at dksX4_needs_2_1 12 rfl rfl)
theorem dX4_needs_2_37 : decode cX4_needs_2 37 = .ok (.ireturn, 1) := dk_172 (dk_at dksX4_needs_2_1 14 rfl rfl)
theorem dX4_needs_2_38 : decode cX4_needs_2 38 = .ok (.aload_n 0, 1) := dk_42 (dk_at dksX4_needs_2_1 15 rfl rfl)
theorem dX4_needs_2_39 : decode cX4_needs_2 39 = .ok (.iload_n 1, 1) := dk_27 (dk_at dksX4_needs_2_1 16 rfl rfl)
theorem dX4_needs_2_40 : decode cX4_needs_2 40 = .ok (.iconst (-1), 1) := dk_2 (dk_at dksX4_needs_2_1 17 rfl rfl)
theorem dX4_needs_2_41 : decode cX4_needs_2 41 = .ok (.iload_n 2, 1) := dk_28 (dk_at dksX4_needs_2_1 18 rfl rfl)
theorem dX4_needs_2_42 : decode cX4_needs_2 42 = .ok (.iload_n 3, 1) := dk_29 (dk_at dksX4_needs_2_1 19 rfl rfl)
theorem dX4_needs_2_43 : decode cX4_needs_2 43 = .ok (.invokevirtual 426, 3) := dk_182 1 170 (dk_at dksX4_needs_2_1 20 rfl rfl)
theorem dX4_needs_2_46 : decode cX4_needs_2 46 = .ok (.iconst (-1), 1) := dk_2 (dk_at dksX4_needs_2_1 23 rfl rfl)
theorem dX4_needs_2_47 : decode cX4_needs_2 47 = .ok (.if_icmp .ne 5, 3) := dk_160 0 5 (dk_at dksX4_needs_2_2 0 rfl rfl)
theorem dX4_needs_2_50 : decode cX4_needs_2 50 = .ok (.iconst (-1), 1) := dk_2 (dk_at dksX4_needs_2_2 3 rfl rfl)
theorem dX4_needs_2_51 : decode cX4_needs_2 51 = .ok (.ireturn, 1) := dk_172 (dk_at dksX4_needs_2_2 4 rfl rfl)
theorem dX4_needs_2_52 : decode cX4_needs_2 52 = .ok (.aload_n 0, 1) := dk_42 (dk_at dksX4_needs_2_2 5 rfl rfl)
theorem dX4_needs_2_53 : decode cX4_needs_2 53 = .ok (.getfield 86, 3) := dk_180 0 86 (dk_at dksX4_needs_2_2 6 rfl rfl)
theorem dX4_needs_2_56 : decode cX4_needs_2 56 = .ok (.iload_n 1, 1) := dk_27 (dk_at dksX4_needs_2_2 9 rfl rfl)
theorem dX4_needs_2_57 : decode cX4_needs_2 57 = .ok (.iaload, 1) := dk_46 (dk_at dksX4_needs_2_2 10 rfl rfl)
theorem dX4_needs_2_58 : decode cX4_needs_2 58 = .ok (.iconst 3, 1) := dk_6 (dk_at dksX4_needs_2_2 11 rfl rfl)
theorem dX4_needs_2_59 : decode cX4_needs_2 59 = .ok (.idiv, 1) := dk_108 (dk_at dksX4_needs_2_2 12 rfl rfl)
theorem dX4_needs_2_60 : decode cX4_needs_2 60 = .ok (.istore 5, 2) := dk_54 5 (dk_at dksX4_needs_2_2 13 rfl rfl)
theorem dX4_needs_2_62 : decode cX4_needs_2 62 = .ok (.iconst 0, 1) := dk_3 (dk_at dksX4_needs_2_2 15 rfl rfl)
theorem dX4_needs_2_63 : decode cX4_needs_2 63 = .ok (.istore 6, 2) := dk_54 6 (dk_at dksX4_needs_2_2 16 rfl rfl)
theorem dX4_needs_2_65 : decode cX4_needs_2 65 = .ok (.iload 6, 2) := dk_21 6 (dk_at dksX4_needs_2_2 18 rfl rfl)
theorem dX4_needs_2_67 : decode cX4_needs_2 67 = .ok (.iconst 1, 1) := dk_4 (dk_at dksX4_needs_2_2 20 rfl rfl)
theorem dX4_needs_2_68 : decode cX4_needs_2 68 = .ok (.aload_n 0, 1) := dk_42 (dk_at dksX4_needs_2_2 21 rfl rfl)
theorem dX4_needs_2_69 : decode cX4_needs_2 69 = .ok (.getfield 86, 3) := dk_180 0 86 (dk_at dksX4_needs_2_3 0 rfl rfl)
theorem dX4_needs_2_72 : decode cX4_needs_2 72 = .ok (.iload_n 1, 1) := dk_27 (dk_at dksX4_needs_2_3 3 rfl rfl)
theorem dX4_needs_2_73 : decode cX4_needs_2 73 = .ok (.iaload, 1) := dk_46 (dk_at dksX4_needs_2_3 4 rfl rfl)
theorem dX4_needs_2_74 : decode cX4_needs_2 74 = .ok (.iconst 3, 1) := dk_6 (dk_at dksX4_needs_2_3 5 rfl rfl)
theorem dX4_needs_2_75 : decode cX4_needs_2 75 = .ok (.idiv, 1) := dk_108 (dk_at dksX4_needs_2_3 6 rfl rfl)
theorem dX4_needs_2_76 : decode cX4_needs_2 76 = .ok (.ishl, 1) := dk_120 (dk_at dksX4_needs_2_3 7 rfl rfl)
theorem dX4_needs_2_77 : decode cX4_needs_2 77 = .ok (.if_icmp .ge 39, 3) := dk_162 0 39 (dk_at dksX4_needs_2_3 8 rfl rfl)
theorem dX4_needs_2_80 : decode cX4_needs_2 80 = .ok (.aload_n 0, 1) := dk_42 (dk_at dksX4_needs_2_3 11 rfl rfl)
theorem dX4_needs_2_81 : decode cX4_needs_2 81 = .ok (.iload_n 1, 1) := dk_27 (dk_at dksX4_needs_2_3 12 rfl rfl)
theorem dX4_needs_2_82 : decode cX4_needs_2 82 = .ok (.iload 6, 2) := dk_21 6 (dk_at dksX4_needs_2_3 13 rfl rfl)
theorem dX4_needs_2_84 : decode cX4_needs_2 84 = .ok (.iload_n 2, 1) := dk_28 (dk_at dksX4_needs_2_3 15 rfl rfl)
theorem dX4_needs_2_85 : decode cX4_needs_2 85 = .ok (.iload_n 3, 1) := dk_29 (dk_at dksX4_needs_2_3 16 rfl rfl)
theorem dX4_needs_2_86 : decode cX4_needs_2 86 = .ok (.invokevirtual 426, 3) := dk_182 1 170 (dk_at dksX4_needs_2_3 17 rfl rfl)
theorem dX4_needs_2_89 : decode cX4_needs_2 89 = .ok (.iconst (-1), 1) := dk_2 (dk_at dksX4_needs_2_3 20 rfl rfl)
theorem dX4_needs_2_90 : decode cX4_needs_2 90 = .ok (.if_icmp .ne 8, 3) := dk_160 0 8 (dk_at dksX4_needs_2_3 21 rfl rfl)
theorem dX4_needs_2_93 : decode cX4_needs_2 93 = .ok (.iload 5, 2) := dk_21 5 (dk_at dksX4_needs_2_4 0 rfl rfl)
theorem dX4_needs_2_95 : decode cX4_needs_2 95 = .ok (.goto 13, 3) := dk_167 0 13 (dk_at dksX4_needs_2_4 2 rfl rfl)
theorem dX4_needs_2_98 : decode cX4_needs_2 98 = .ok (.iload 5, 2) := dk_21 5 (dk_at dksX4_needs_2_4 5 rfl rfl)
theorem dX4_needs_2_100 : decode cX4_needs_2 100 = .ok (.iload 6, 2) := dk_21 6 (dk_at dksX4_needs_2_4 7 rfl rfl)
theorem dX4_needs_2_102 : decode cX4_needs_2 102 = .ok (.invokestatic 430, 3) := dk_184 1 174 (dk_at dksX4_needs_2_4 9 rfl rfl)
theorem dX4_needs_2_105 : decode cX4_needs_2 105 = .ok (.invokestatic 145, 3) := dk_184 0 145 (dk_at dksX4_needs_2_4 12 rfl rfl)
theorem dX4_needs_2_108 : decode cX4_needs_2 108 = .ok (.istore 5, 2) := dk_54 5 (dk_at dksX4_needs_2_4 15 rfl rfl)
theorem dX4_needs_2_110 : decode cX4_needs_2 110 = .ok (.iinc 6 1, 3) := dk_132 6 1 (dk_at dksX4_needs_2_4 17 rfl rfl)
theorem dX4_needs_2_113 : decode cX4_needs_2 113 = .ok (.goto (-48), 3) := dk_167 255 208 (dk_at dksX4_needs_2_4 20 rfl rfl)
theorem dX4_needs_2_116 : decode cX4_needs_2 116 = .ok (.iload 5, 2) := dk_21 5 (dk_at dksX4_needs_2_5 0 rfl rfl)
theorem dX4_needs_2_118 : decode cX4_needs_2 118 = .ok (.ireturn, 1) := dk_172 (dk_at dksX4_needs_2_5 2 rfl rfl)
abbrev cX4_bits : ByteArray := prog_19_method_82_code
def yX4_bits : MethodName := ⟨RX4, "bits", "(I)I"⟩
def dkwX4_bits_1 : List UInt8 := [27, 172]
abbrev dktX4_bits_1 : List UInt8 := dkwX4_bits_1 ++ []
def dkwX4_bits_0 : List UInt8 := [3, 60, 3, 61, 28, 16, 31, 162, 0, 17, 27, 26, 28, 122, 4, 126, 96, 60, 132, 2, 1, 167, 255, 239]
abbrev dktX4_bits_0 : List UInt8 := dkwX4_bits_0 ++ dktX4_bits_1
theorem dksX4_bits_0 : cX4_bits.data.toList.drop 0 = dktX4_bits_0 := by decide +kernel
theorem dksX4_bits_1 : cX4_bits.data.toList.drop 24 = dktX4_bits_1 := dk_seg dksX4_bits_0 24 rfl rfl
theorem dX4_bits_0 : decode cX4_bits 0 = .ok (.iconst 0, 1) := dk_3 (dk_at dksX4_bits_0 0 rfl rfl)
theorem dX4_bits_1 : decode cX4_bits 1 = .ok (.istore_n 1, 1) := dk_60 (dk_at dksX4_bits_0 1 rfl rfl)
theorem dX4_bits_2 : decode cX4_bits 2 = .ok (.iconst 0, 1) := dk_3 (dk_at dksX4_bits_0 2 rfl rfl)
theorem dX4_bits_3 : decode cX4_bits 3 = .ok (.istore_n 2, 1) := dk_61 (dk_at dksX4_bits_0 3 rfl rfl)
theorem dX4_bits_4 : decode cX4_bits 4 = .ok (.iload_n 2, 1) := dk_28 (dk_at dksX4_bits_0 4 rfl rfl)
theorem dX4_bits_5 : decode cX4_bits 5 = .ok (.bipush 31, 2) := dk_16 31 (dk_at dksX4_bits_0 5 rfl rfl)
theorem dX4_bits_7 : decode cX4_bits 7 = .ok (.if_icmp .ge 17, 3) := dk_162 0 17 (dk_at dksX4_bits_0 7 rfl rfl)
theorem dX4_bits_10 : decode cX4_bits 10 = .ok (.iload_n 1, 1) := dk_27 (dk_at dksX4_bits_0 10 rfl rfl)
theorem dX4_bits_11 : decode cX4_bits 11 = .ok (.iload_n 0, 1) := dk_26 (dk_at dksX4_bits_0 11 rfl rfl)
theorem dX4_bits_12 : decode cX4_bits 12 = .ok (.iload_n 2, 1) := dk_28 (dk_at dksX4_bits_0 12 rfl rfl)
theorem dX4_bits_13 : decode cX4_bits 13 = .ok (.ishr, 1) := dk_122 (dk_at dksX4_bits_0 13 rfl rfl)
theorem dX4_bits_14 : decode cX4_bits 14 = .ok (.iconst 1, 1) := dk_4 (dk_at dksX4_bits_0 14 rfl rfl)
theorem dX4_bits_15 : decode cX4_bits 15 = .ok (.iand, 1) := dk_126 (dk_at dksX4_bits_0 15 rfl rfl)
theorem dX4_bits_16 : decode cX4_bits 16 = .ok (.iadd, 1) := dk_96 (dk_at dksX4_bits_0 16 rfl rfl)
theorem dX4_bits_17 : decode cX4_bits 17 = .ok (.istore_n 1, 1) := dk_60 (dk_at dksX4_bits_0 17 rfl rfl)
theorem dX4_bits_18 : decode cX4_bits 18 = .ok (.iinc 2 1, 3) := dk_132 2 1 (dk_at dksX4_bits_0 18 rfl rfl)
theorem dX4_bits_21 : decode cX4_bits 21 = .ok (.goto (-17), 3) := dk_167 255 239 (dk_at dksX4_bits_0 21 rfl rfl)
theorem dX4_bits_24 : decode cX4_bits 24 = .ok (.iload_n 1, 1) := dk_27 (dk_at dksX4_bits_1 0 rfl rfl)
theorem dX4_bits_25 : decode cX4_bits 25 = .ok (.ireturn, 1) := dk_172 (dk_at dksX4_bits_1 1 rfl rfl)
abbrev cX4_knows : ByteArray := prog_19_method_86_code
def yX4_knows : MethodName := ⟨RX4, "knows", "(III)I"⟩
def dkwX4_knows_3 : List UInt8 := [42, 28, 29, 182, 1, 184, 172]
abbrev dktX4_knows_3 : List UInt8 := dkwX4_knows_3 ++ []
def dkwX4_knows_2 : List UInt8 := [162, 0, 24, 42, 180, 0, 80, 21, 4, 42, 27, 3, 21, 4, 182, 1, 181, 84, 132, 4, 1, 167, 255, 229]
abbrev dktX4_knows_2 : List UInt8 := dkwX4_knows_2 ++ dktX4_knows_3
def dkwX4_knows_1 : List UInt8 := [16, 254, 172, 42, 182, 1, 154, 154, 0, 6, 16, 253, 172, 3, 54, 4, 21, 4, 42, 180, 1, 145]
abbrev dktX4_knows_1 : List UInt8 := dkwX4_knows_1 ++ dktX4_knows_2
def dkwX4_knows_0 : List UInt8 := [42, 27, 182, 1, 51, 153, 0, 19, 42, 28, 182, 1, 58, 153, 0, 11, 42, 29, 182, 1, 134, 154, 0, 6]
abbrev dktX4_knows_0 : List UInt8 := dkwX4_knows_0 ++ dktX4_knows_1
theorem dksX4_knows_0 : cX4_knows.data.toList.drop 0 = dktX4_knows_0 := by decide +kernel
theorem dksX4_knows_1 : cX4_knows.data.toList.drop 24 = dktX4_knows_1 := dk_seg dksX4_knows_0 24 rfl rfl
theorem dksX4_knows_2 : cX4_knows.data.toList.drop 46 = dktX4_knows_2 := dk_seg dksX4_knows_1 22 rfl rfl
theorem dksX4_knows_3 : cX4_knows.data.toList.drop 70 = dktX4_knows_3 := dk_seg dksX4_knows_2 24 rfl rfl
theorem dX4_knows_0 : decode cX4_knows 0 = .ok (.aload_n 0, 1) := dk_42 (dk_at dksX4_knows_0 0 rfl rfl)
theorem dX4_knows_1 : decode cX4_knows 1 = .ok (.iload_n 1, 1) := dk_27 (dk_at dksX4_knows_0 1 rfl rfl)
theorem dX4_knows_2 : decode cX4_knows 2 = .ok (.invokevirtual 307, 3) := dk_182 1 51 (dk_at dksX4_knows_0 2 rfl rfl)
theorem dX4_knows_5 : decode cX4_knows 5 = .ok (.ifCond .eq 19, 3) := dk_153 0 19 (dk_at dksX4_knows_0 5 rfl rfl)
theorem dX4_knows_8 : decode cX4_knows 8 = .ok (.aload_n 0, 1) := dk_42 (dk_at dksX4_knows_0 8 rfl rfl)
theorem dX4_knows_9 : decode cX4_knows 9 = .ok (.iload_n 2, 1) := dk_28 (dk_at dksX4_knows_0 9 rfl rfl)
theorem dX4_knows_10 : decode cX4_knows 10 = .ok (.invokevirtual 314, 3) := dk_182 1 58 (dk_at dksX4_knows_0 10 rfl rfl)
theorem dX4_knows_13 : decode cX4_knows 13 = .ok (.ifCond .eq 11, 3) := dk_153 0 11 (dk_at dksX4_knows_0 13 rfl rfl)
theorem dX4_knows_16 : decode cX4_knows 16 = .ok (.aload_n 0, 1) := dk_42 (dk_at dksX4_knows_0 16 rfl rfl)
theorem dX4_knows_17 : decode cX4_knows 17 = .ok (.iload_n 3, 1) := dk_29 (dk_at dksX4_knows_0 17 rfl rfl)
theorem dX4_knows_18 : decode cX4_knows 18 = .ok (.invokevirtual 390, 3) := dk_182 1 134 (dk_at dksX4_knows_0 18 rfl rfl)
theorem dX4_knows_21 : decode cX4_knows 21 = .ok (.ifCond .ne 6, 3) := dk_154 0 6 (dk_at dksX4_knows_0 21 rfl rfl)
theorem dX4_knows_24 : decode cX4_knows 24 = .ok (.bipush (-2), 2) := dk_16 254 (dk_at dksX4_knows_1 0 rfl rfl)
theorem dX4_knows_26 : decode cX4_knows 26 = .ok (.ireturn, 1) := dk_172 (dk_at dksX4_knows_1 2 rfl rfl)
theorem dX4_knows_27 : decode cX4_knows 27 = .ok (.aload_n 0, 1) := dk_42 (dk_at dksX4_knows_1 3 rfl rfl)
theorem dX4_knows_28 : decode cX4_knows 28 = .ok (.invokevirtual 410, 3) := dk_182 1 154 (dk_at dksX4_knows_1 4 rfl rfl)
theorem dX4_knows_31 : decode cX4_knows 31 = .ok (.ifCond .ne 6, 3) := dk_154 0 6 (dk_at dksX4_knows_1 7 rfl rfl)
theorem dX4_knows_34 : decode cX4_knows 34 = .ok (.bipush (-3), 2) := dk_16 253 (dk_at dksX4_knows_1 10 rfl rfl)
theorem dX4_knows_36 : decode cX4_knows 36 = .ok (.ireturn, 1) := dk_172 (dk_at dksX4_knows_1 12 rfl rfl)
theorem dX4_knows_37 : decode cX4_knows 37 = .ok (.iconst 0, 1) := dk_3 (dk_at dksX4_knows_1 13 rfl rfl)
theorem dX4_knows_38 : decode cX4_knows 38 = .ok (.istore 4, 2) := dk_54 4 (dk_at dksX4_knows_1 14 rfl rfl)
theorem dX4_knows_40 : decode cX4_knows 40 = .ok (.iload 4, 2) := dk_21 4 (dk_at dksX4_knows_1 16 rfl rfl)
theorem dX4_knows_42 : decode cX4_knows 42 = .ok (.aload_n 0, 1) := dk_42 (dk_at dksX4_knows_1 18 rfl rfl)
theorem dX4_knows_43 : decode cX4_knows 43 = .ok (.getfield 401, 3) := dk_180 1 145 (dk_at dksX4_knows_1 19 rfl rfl)
theorem dX4_knows_46 : decode cX4_knows 46 = .ok (.if_icmp .ge 24, 3) := dk_162 0 24 (dk_at dksX4_knows_2 0 rfl rfl)
theorem dX4_knows_49 : decode cX4_knows 49 = .ok (.aload_n 0, 1) := dk_42 (dk_at dksX4_knows_2 3 rfl rfl)
theorem dX4_knows_50 : decode cX4_knows 50 = .ok (.getfield 80, 3) := dk_180 0 80 (dk_at dksX4_knows_2 4 rfl rfl)
theorem dX4_knows_53 : decode cX4_knows 53 = .ok (.iload 4, 2) := dk_21 4 (dk_at dksX4_knows_2 7 rfl rfl)
theorem dX4_knows_55 : decode cX4_knows 55 = .ok (.aload_n 0, 1) := dk_42 (dk_at dksX4_knows_2 9 rfl rfl)
theorem dX4_knows_56 : decode cX4_knows 56 = .ok (.iload_n 1, 1) := dk_27 (dk_at dksX4_knows_2 10 rfl rfl)
theorem dX4_knows_57 : decode cX4_knows 57 = .ok (.iconst 0, 1) := dk_3 (dk_at dksX4_knows_2 11 rfl rfl)
theorem dX4_knows_58 : decode cX4_knows 58 = .ok (.iload 4, 2) := dk_21 4 (dk_at dksX4_knows_2 12 rfl rfl)
theorem dX4_knows_60 : decode cX4_knows 60 = .ok (.invokevirtual 437, 3) := dk_182 1 181 (dk_at dksX4_knows_2 14 rfl rfl)
theorem dX4_knows_63 : decode cX4_knows 63 = .ok (.bastore, 1) := dk_84 (dk_at dksX4_knows_2 17 rfl rfl)
theorem dX4_knows_64 : decode cX4_knows 64 = .ok (.iinc 4 1, 3) := dk_132 4 1 (dk_at dksX4_knows_2 18 rfl rfl)
theorem dX4_knows_67 : decode cX4_knows 67 = .ok (.goto (-27), 3) := dk_167 255 229 (dk_at dksX4_knows_2 21 rfl rfl)
theorem dX4_knows_70 : decode cX4_knows 70 = .ok (.aload_n 0, 1) := dk_42 (dk_at dksX4_knows_3 0 rfl rfl)
theorem dX4_knows_71 : decode cX4_knows 71 = .ok (.iload_n 2, 1) := dk_28 (dk_at dksX4_knows_3 1 rfl rfl)
theorem dX4_knows_72 : decode cX4_knows 72 = .ok (.iload_n 3, 1) := dk_29 (dk_at dksX4_knows_3 2 rfl rfl)
theorem dX4_knows_73 : decode cX4_knows 73 = .ok (.invokevirtual 440, 3) := dk_182 1 184 (dk_at dksX4_knows_3 3 rfl rfl)
theorem dX4_knows_76 : decode cX4_knows 76 = .ok (.ireturn, 1) := dk_172 (dk_at dksX4_knows_3 6 rfl rfl)
abbrev cX4_isAlike : ByteArray := prog_19_method_83_code
def yX4_isAlike : MethodName := ⟨RX4, "isAlike", "(III)Z"⟩
def dkwX4_isAlike_0 : List UInt8 := [42, 27, 28, 29, 42, 180, 0, 9, 16, 6, 46, 182, 1, 177, 172]
abbrev dktX4_isAlike_0 : List UInt8 := dkwX4_isAlike_0 ++ []
theorem dksX4_isAlike_0 : cX4_isAlike.data.toList.drop 0 = dktX4_isAlike_0 := by decide +kernel
theorem dX4_isAlike_0 : decode cX4_isAlike 0 = .ok (.aload_n 0, 1) := dk_42 (dk_at dksX4_isAlike_0 0 rfl rfl)
theorem dX4_isAlike_1 : decode cX4_isAlike 1 = .ok (.iload_n 1, 1) := dk_27 (dk_at dksX4_isAlike_0 1 rfl rfl)
theorem dX4_isAlike_2 : decode cX4_isAlike 2 = .ok (.iload_n 2, 1) := dk_28 (dk_at dksX4_isAlike_0 2 rfl rfl)
theorem dX4_isAlike_3 : decode cX4_isAlike 3 = .ok (.iload_n 3, 1) := dk_29 (dk_at dksX4_isAlike_0 3 rfl rfl)
theorem dX4_isAlike_4 : decode cX4_isAlike 4 = .ok (.aload_n 0, 1) := dk_42 (dk_at dksX4_isAlike_0 4 rfl rfl)
theorem dX4_isAlike_5 : decode cX4_isAlike 5 = .ok (.getfield 9, 3) := dk_180 0 9 (dk_at dksX4_isAlike_0 5 rfl rfl)
theorem dX4_isAlike_8 : decode cX4_isAlike 8 = .ok (.bipush 6, 2) := dk_16 6 (dk_at dksX4_isAlike_0 8 rfl rfl)
theorem dX4_isAlike_10 : decode cX4_isAlike 10 = .ok (.iaload, 1) := dk_46 (dk_at dksX4_isAlike_0 10 rfl rfl)
theorem dX4_isAlike_11 : decode cX4_isAlike 11 = .ok (.invokevirtual 433, 3) := dk_182 1 177 (dk_at dksX4_isAlike_0 11 rfl rfl)
theorem dX4_isAlike_14 : decode cX4_isAlike 14 = .ok (.ireturn, 1) := dk_172 (dk_at dksX4_isAlike_0 14 rfl rfl)
abbrev cX4_isAlikeTill : ByteArray := prog_19_method_84_code
def yX4_isAlikeTill : MethodName := ⟨RX4, "isAlikeTill", "(IIII)Z"⟩
def dkwX4_isAlikeTill_4 : List UInt8 := [182, 1, 157, 159, 0, 5, 3, 172, 132, 7, 1, 167, 255, 208, 132, 5, 1, 167, 255, 147, 4, 172]
abbrev dktX4_isAlikeTill_4 : List UInt8 := dkwX4_isAlikeTill_4 ++ []
def dkwX4_isAlikeTill_3 : List UInt8 := [21, 7, 122, 4, 126, 4, 160, 0, 26, 42, 28, 21, 7, 21, 5, 182, 1, 157, 42, 29, 21, 7, 21, 5]
abbrev dktX4_isAlikeTill_3 : List UInt8 := dkwX4_isAlikeTill_3 ++ dktX4_isAlikeTill_4
def dkwX4_isAlikeTill_2 : List UInt8 := [96, 46, 159, 0, 5, 3, 172, 3, 54, 7, 21, 7, 42, 180, 0, 9, 4, 46, 162, 0, 43, 21, 6]
abbrev dktX4_isAlikeTill_2 : List UInt8 := dkwX4_isAlikeTill_2 ++ dktX4_isAlikeTill_3
def dkwX4_isAlikeTill_1 : List UInt8 := [96, 27, 96, 46, 54, 6, 21, 6, 42, 180, 0, 77, 17, 1, 64, 29, 104, 16, 8, 21, 5, 104, 96, 27]
abbrev dktX4_isAlikeTill_1 : List UInt8 := dkwX4_isAlikeTill_1 ++ dktX4_isAlikeTill_2
def dkwX4_isAlikeTill_0 : List UInt8 := [3, 54, 5, 21, 5, 21, 4, 162, 0, 108, 42, 180, 0, 77, 17, 1, 64, 28, 104, 16, 8, 21, 5, 104]
abbrev dktX4_isAlikeTill_0 : List UInt8 := dkwX4_isAlikeTill_0 ++ dktX4_isAlikeTill_1
theorem dksX4_isAlikeTill_0 : cX4_isAlikeTill.data.toList.drop 0 = dktX4_isAlikeTill_0 := by decide +kernel
theorem dksX4_isAlikeTill_1 : cX4_isAlikeTill.data.toList.drop 24 = dktX4_isAlikeTill_1 := dk_seg dksX4_isAlikeTill_0 24 rfl rfl
theorem dksX4_isAlikeTill_2 : cX4_isAlikeTill.data.toList.drop 48 = dktX4_isAlikeTill_2 := dk_seg dksX4_isAlikeTill_1 24 rfl rfl
theorem dksX4_isAlikeTill_3 : cX4_isAlikeTill.data.toList.drop 71 = dktX4_isAlikeTill_3 := dk_seg dksX4_isAlikeTill_2 23 rfl rfl
theorem dksX4_isAlikeTill_4 : cX4_isAlikeTill.data.toList.drop 95 = dktX4_isAlikeTill_4 := dk_seg dksX4_isAlikeTill_3 24 rfl rfl
theorem dX4_isAlikeTill_0 : decode cX4_isAlikeTill 0 = .ok (.iconst 0, 1) := dk_3 (dk_at dksX4_isAlikeTill_0 0 rfl rfl)
theorem dX4_isAlikeTill_1 : decode cX4_isAlikeTill 1 = .ok (.istore 5, 2) := dk_54 5 (dk_at dksX4_isAlikeTill_0 1 rfl rfl)
theorem dX4_isAlikeTill_3 : decode cX4_isAlikeTill 3 = .ok (.iload 5, 2) := dk_21 5 (dk_at dksX4_isAlikeTill_0 3 rfl rfl)
theorem dX4_isAlikeTill_5 : decode cX4_isAlikeTill 5 = .ok (.iload 4, 2) := dk_21 4 (dk_at dksX4_isAlikeTill_0 5 rfl rfl)
theorem dX4_isAlikeTill_7 : decode cX4_isAlikeTill 7 = .ok (.if_icmp .ge 108, 3) := dk_162 0 108 (dk_at dksX4_isAlikeTill_0 7 rfl rfl)
theorem dX4_isAlikeTill_10 : decode cX4_isAlikeTill 10 = .ok (.aload_n 0, 1) := dk_42 (dk_at dksX4_isAlikeTill_0 10 rfl rfl)
theorem dX4_isAlikeTill_11 : decode cX4_isAlikeTill 11 = .ok (.getfield 77, 3) := dk_180 0 77 (dk_at dksX4_isAlikeTill_0 11 rfl rfl)
theorem dX4_isAlikeTill_14 : decode cX4_isAlikeTill 14 = .ok (.sipush 320, 3) := dk_17 1 64 (dk_at dksX4_isAlikeTill_0 14 rfl rfl)
theorem dX4_isAlikeTill_17 : decode cX4_isAlikeTill 17 = .ok (.iload_n 2, 1) := dk_28 (dk_at dksX4_isAlikeTill_0 17 rfl rfl)
theorem dX4_isAlikeTill_18 : decode cX4_isAlikeTill 18 = .ok (.imul, 1) := dk_104 (dk_at dksX4_isAlikeTill_0 18 rfl rfl)
theorem dX4_isAlikeTill_19 : decode cX4_isAlikeTill 19 = .ok (.bipush 8, 2) := dk_16 8 (dk_at dksX4_isAlikeTill_0 19 rfl rfl)
theorem dX4_isAlikeTill_21 : decode cX4_isAlikeTill 21 = .ok (.iload 5, 2) := dk_21 5 (dk_at dksX4_isAlikeTill_0 21 rfl rfl)
theorem dX4_isAlikeTill_23 : decode cX4_isAlikeTill 23 = .ok (.imul, 1) := dk_104 (dk_at dksX4_isAlikeTill_0 23 rfl rfl)
theorem dX4_isAlikeTill_24 : decode cX4_isAlikeTill 24 = .ok (.iadd, 1) := dk_96 (dk_at dksX4_isAlikeTill_1 0 rfl rfl)
theorem dX4_isAlikeTill_25 : decode cX4_isAlikeTill 25 = .ok (.iload_n 1, 1) := dk_27 (dk_at dksX4_isAlikeTill_1 1 rfl rfl)
theorem dX4_isAlikeTill_26 : decode cX4_isAlikeTill 26 = .ok (.iadd, 1) := dk_96 (dk_at dksX4_isAlikeTill_1 2 rfl rfl)
theorem dX4_isAlikeTill_27 : decode cX4_isAlikeTill 27 = .ok (.iaload, 1) := dk_46 (dk_at dksX4_isAlikeTill_1 3 rfl rfl)
theorem dX4_isAlikeTill_28 : decode cX4_isAlikeTill 28 = .ok (.istore 6, 2) := dk_54 6 (dk_at dksX4_isAlikeTill_1 4 rfl rfl)
theorem dX4_isAlikeTill_30 : decode cX4_isAlikeTill 30 = .ok (.iload 6, 2) := dk_21 6 (dk_at dksX4_isAlikeTill_1 6 rfl rfl)
theorem dX4_isAlikeTill_32 : decode cX4_isAlikeTill 32 = .ok (.aload_n 0, 1) := dk_42 (dk_at dksX4_isAlikeTill_1 8 rfl rfl)
theorem dX4_isAlikeTill_33 : decode cX4_isAlikeTill 33 = .ok (.getfield 77, 3) := dk_180 0 77 (dk_at dksX4_isAlikeTill_1 9 rfl rfl)
theorem dX4_isAlikeTill_36 : decode cX4_isAlikeTill 36 = .ok (.sipush 320, 3) := dk_17 1 64 (dk_at dksX4_isAlikeTill_1 12 rfl rfl)
theorem dX4_isAlikeTill_39 : decode cX4_isAlikeTill 39 = .ok (.iload_n 3, 1) := dk_29 (dk_at dksX4_isAlikeTill_1 15 rfl rfl)
theorem dX4_isAlikeTill_40 : decode cX4_isAlikeTill 40 = .ok (.imul, 1) := dk_104 (dk_at dksX4_isAlikeTill_1 16 rfl rfl)
theorem dX4_isAlikeTill_41 : decode cX4_isAlikeTill 41 = .ok (.bipush 8, 2) := dk_16 8 (dk_at dksX4_isAlikeTill_1 17 rfl rfl)
theorem dX4_isAlikeTill_43 : decode cX4_isAlikeTill 43 = .ok (.iload 5, 2) := dk_21 5 (dk_at dksX4_isAlikeTill_1 19 rfl rfl)
theorem dX4_isAlikeTill_45 : decode cX4_isAlikeTill 45 = .ok (.imul, 1) := dk_104 (dk_at dksX4_isAlikeTill_1 21 rfl rfl)
theorem dX4_isAlikeTill_46 : decode cX4_isAlikeTill 46 = .ok (.iadd, 1) := dk_96 (dk_at dksX4_isAlikeTill_1 22 rfl rfl)
theorem dX4_isAlikeTill_47 : decode cX4_isAlikeTill 47 = .ok (.iload_n 1, 1) := dk_27 (dk_at dksX4_isAlikeTill_1 23 rfl rfl)
theorem dX4_isAlikeTill_48 : decode cX4_isAlikeTill 48 = .ok (.iadd, 1) := dk_96 (dk_at dksX4_isAlikeTill_2 0 rfl rfl)
theorem dX4_isAlikeTill_49 : decode cX4_isAlikeTill 49 = .ok (.iaload, 1) := dk_46 (dk_at dksX4_isAlikeTill_2 1 rfl rfl)
theorem dX4_isAlikeTill_50 : decode cX4_isAlikeTill 50 = .ok (.if_icmp .eq 5, 3) := dk_159 0 5 (dk_at dksX4_isAlikeTill_2 2 rfl rfl)
theorem dX4_isAlikeTill_53 : decode cX4_isAlikeTill 53 = .ok (.iconst 0, 1) := dk_3 (dk_at dksX4_isAlikeTill_2 5 rfl rfl)
theorem dX4_isAlikeTill_54 : decode cX4_isAlikeTill 54 = .ok (.ireturn, 1) := dk_172 (dk_at dksX4_isAlikeTill_2 6 rfl rfl)
theorem dX4_isAlikeTill_55 : decode cX4_isAlikeTill 55 = .ok (.iconst 0, 1) := dk_3 (dk_at dksX4_isAlikeTill_2 7 rfl rfl)
theorem dX4_isAlikeTill_56 : decode cX4_isAlikeTill 56 = .ok (.istore 7, 2) := dk_54 7 (dk_at dksX4_isAlikeTill_2 8 rfl rfl)
theorem dX4_isAlikeTill_58 : decode cX4_isAlikeTill 58 = .ok (.iload 7, 2) := dk_21 7 (dk_at dksX4_isAlikeTill_2 10 rfl rfl)
theorem dX4_isAlikeTill_60 : decode cX4_isAlikeTill 60 = .ok (.aload_n 0, 1) := dk_42 (dk_at dksX4_isAlikeTill_2 12 rfl rfl)
theorem dX4_isAlikeTill_61 : decode cX4_isAlikeTill 61 = .ok (.getfield 9, 3) := dk_180 0 9 (dk_at dksX4_isAlikeTill_2 13 rfl rfl)
theorem dX4_isAlikeTill_64 : decode cX4_isAlikeTill 64 = .ok (.iconst 1, 1) := dk_4 (dk_at dksX4_isAlikeTill_2 16 rfl rfl)
theorem dX4_isAlikeTill_65 : decode cX4_isAlikeTill 65 = .ok (.iaload, 1) := dk_46 (dk_at dksX4_isAlikeTill_2 17 rfl rfl)
theorem dX4_isAlikeTill_66 : decode cX4_isAlikeTill 66 = .ok (.if_icmp .ge 43, 3) := dk_162 0 43 (dk_at dksX4_isAlikeTill_2 18 rfl rfl)
theorem dX4_isAlikeTill_69 : decode cX4_isAlikeTill 69 = .ok (.iload 6, 2) := dk_21 6 (dk_at dksX4_isAlikeTill_2 21 rfl rfl)
theorem dX4_isAlikeTill_71 : decode cX4_isAlikeTill 71 = .ok (.iload 7, 2) := dk_21 7 (dk_at dksX4_isAlikeTill_3 0 rfl rfl)
theorem dX4_isAlikeTill_73 : decode cX4_isAlikeTill 73 = .ok (.ishr, 1) := dk_122 (dk_at dksX4_isAlikeTill_3 2 rfl rfl)
theorem dX4_isAlikeTill_74 : decode cX4_isAlikeTill 74 = .ok (.iconst 1, 1) := dk_4 (dk_at dksX4_isAlikeTill_3 3 rfl rfl)
theorem dX4_isAlikeTill_75 : decode cX4_isAlikeTill 75 = .ok (.iand, 1) := dk_126 (dk_at dksX4_isAlikeTill_3 4 rfl rfl)
theorem dX4_isAlikeTill_76 : decode cX4_isAlikeTill 76 = .ok (.iconst 1, 1) := dk_4 (dk_at dksX4_isAlikeTill_3 5 rfl rfl)
theorem dX4_isAlikeTill_77 : decode cX4_isAlikeTill 77 = .ok (.if_icmp .ne 26, 3) := dk_160 0 26 (dk_at dksX4_isAlikeTill_3 6 rfl rfl)
theorem dX4_isAlikeTill_80 : decode cX4_isAlikeTill 80 = .ok (.aload_n 0, 1) := dk_42 (dk_at dksX4_isAlikeTill_3 9 rfl rfl)
theorem dX4_isAlikeTill_81 : decode cX4_isAlikeTill 81 = .ok (.iload_n 2, 1) := dk_28 (dk_at dksX4_isAlikeTill_3 10 rfl rfl)
theorem dX4_isAlikeTill_82 : decode cX4_isAlikeTill 82 = .ok (.iload 7, 2) := dk_21 7 (dk_at dksX4_isAlikeTill_3 11 rfl rfl)
theorem dX4_isAlikeTill_84 : decode cX4_isAlikeTill 84 = .ok (.iload 5, 2) := dk_21 5 (dk_at dksX4_isAlikeTill_3 13 rfl rfl)
theorem dX4_isAlikeTill_86 : decode cX4_isAlikeTill 86 = .ok (.invokevirtual 413, 3) := dk_182 1 157 (dk_at dksX4_isAlikeTill_3 15 rfl rfl)
theorem dX4_isAlikeTill_89 : decode cX4_isAlikeTill 89 = .ok (.aload_n 0, 1) := dk_42 (dk_at dksX4_isAlikeTill_3 18 rfl rfl)
theorem dX4_isAlikeTill_90 : decode cX4_isAlikeTill 90 = .ok (.iload_n 3, 1) := dk_29 (dk_at dksX4_isAlikeTill_3 19 rfl rfl)
theorem dX4_isAlikeTill_91 : decode cX4_isAlikeTill 91 = .ok (.iload 7, 2) := dk_21 7 (dk_at dksX4_isAlikeTill_3 20 rfl rfl)
theorem dX4_isAlikeTill_93 : decode cX4_isAlikeTill 93 = .ok (.iload 5, 2) := dk_21 5 (dk_at dksX4_isAlikeTill_3 22 rfl rfl)
theorem dX4_isAlikeTill_95 : decode cX4_isAlikeTill 95 = .ok (.invokevirtual 413, 3) := dk_182 1 157 (dk_at dksX4_isAlikeTill_4 0 rfl rfl)
theorem dX4_isAlikeTill_98 : decode cX4_isAlikeTill 98 = .ok (.if_icmp .eq 5, 3) := dk_159 0 5 (dk_at dksX4_isAlikeTill_4 3 rfl rfl)
theorem dX4_isAlikeTill_101 : decode cX4_isAlikeTill 101 = .ok (.iconst 0, 1) := dk_3 (dk_at dksX4_isAlikeTill_4 6 rfl rfl)
theorem dX4_isAlikeTill_102 : decode cX4_isAlikeTill 102 = .ok (.ireturn, 1) := dk_172 (dk_at dksX4_isAlikeTill_4 7 rfl rfl)
theorem dX4_isAlikeTill_103 : decode cX4_isAlikeTill 103 = .ok (.iinc 7 1, 3) := dk_132 7 1 (dk_at dksX4_isAlikeTill_4 8 rfl rfl)
theorem dX4_isAlikeTill_106 : decode cX4_isAlikeTill 106 = .ok (.goto (-48), 3) := dk_167 255 208 (dk_at dksX4_isAlikeTill_4 11 rfl rfl)
theorem dX4_isAlikeTill_109 : decode cX4_isAlikeTill 109 = .ok (.iinc 5 1, 3) := dk_132 5 1 (dk_at dksX4_isAlikeTill_4 14 rfl rfl)
theorem dX4_isAlikeTill_112 : decode cX4_isAlikeTill 112 = .ok (.goto (-109), 3) := dk_167 255 147 (dk_at dksX4_isAlikeTill_4 17 rfl rfl)
theorem dX4_isAlikeTill_115 : decode cX4_isAlikeTill 115 = .ok (.iconst 1, 1) := dk_4 (dk_at dksX4_isAlikeTill_4 20 rfl rfl)
theorem dX4_isAlikeTill_116 : decode cX4_isAlikeTill 116 = .ok (.ireturn, 1) := dk_172 (dk_at dksX4_isAlikeTill_4 21 rfl rfl)
abbrev cX4_commonOf : ByteArray := prog_19_method_85_code
def yX4_commonOf : MethodName := ⟨RX4, "commonOf", "(II)I"⟩
def dkwX4_commonOf_2 : List UInt8 := [167, 255, 220, 29, 172]
abbrev dktX4_commonOf_2 : List UInt8 := dkwX4_commonOf_2 ++ []
def dkwX4_commonOf_1 : List UInt8 := [21, 4, 51, 153, 0, 17, 42, 21, 4, 27, 28, 182, 1, 157, 29, 159, 0, 5, 2, 172, 132, 4, 1]
abbrev dktX4_commonOf_1 : List UInt8 := dkwX4_commonOf_1 ++ dktX4_commonOf_2
def dkwX4_commonOf_0 : List UInt8 := [42, 3, 27, 28, 182, 1, 157, 62, 3, 54, 4, 21, 4, 42, 180, 1, 145, 162, 0, 33, 42, 180, 0, 80]
abbrev dktX4_commonOf_0 : List UInt8 := dkwX4_commonOf_0 ++ dktX4_commonOf_1
theorem dksX4_commonOf_0 : cX4_commonOf.data.toList.drop 0 = dktX4_commonOf_0 := by decide +kernel
theorem dksX4_commonOf_1 : cX4_commonOf.data.toList.drop 24 = dktX4_commonOf_1 := dk_seg dksX4_commonOf_0 24 rfl rfl
theorem dksX4_commonOf_2 : cX4_commonOf.data.toList.drop 47 = dktX4_commonOf_2 := dk_seg dksX4_commonOf_1 23 rfl rfl
theorem dX4_commonOf_0 : decode cX4_commonOf 0 = .ok (.aload_n 0, 1) := dk_42 (dk_at dksX4_commonOf_0 0 rfl rfl)
theorem dX4_commonOf_1 : decode cX4_commonOf 1 = .ok (.iconst 0, 1) := dk_3 (dk_at dksX4_commonOf_0 1 rfl rfl)
theorem dX4_commonOf_2 : decode cX4_commonOf 2 = .ok (.iload_n 1, 1) := dk_27 (dk_at dksX4_commonOf_0 2 rfl rfl)
theorem dX4_commonOf_3 : decode cX4_commonOf 3 = .ok (.iload_n 2, 1) := dk_28 (dk_at dksX4_commonOf_0 3 rfl rfl)
theorem dX4_commonOf_4 : decode cX4_commonOf 4 = .ok (.invokevirtual 413, 3) := dk_182 1 157 (dk_at dksX4_commonOf_0 4 rfl rfl)
theorem dX4_commonOf_7 : decode cX4_commonOf 7 = .ok (.istore_n 3, 1) := dk_62 (dk_at dksX4_commonOf_0 7 rfl rfl)
theorem dX4_commonOf_8 : decode cX4_commonOf 8 = .ok (.iconst 0, 1) := dk_3 (dk_at dksX4_commonOf_0 8 rfl rfl)
theorem dX4_commonOf_9 : decode cX4_commonOf 9 = .ok (.istore 4, 2) := dk_54 4 (dk_at dksX4_commonOf_0 9 rfl rfl)
theorem dX4_commonOf_11 : decode cX4_commonOf 11 = .ok (.iload 4, 2) := dk_21 4 (dk_at dksX4_commonOf_0 11 rfl rfl)
theorem dX4_commonOf_13 : decode cX4_commonOf 13 = .ok (.aload_n 0, 1) := dk_42 (dk_at dksX4_commonOf_0 13 rfl rfl)
theorem dX4_commonOf_14 : decode cX4_commonOf 14 = .ok (.getfield 401, 3) := dk_180 1 145 (dk_at dksX4_commonOf_0 14 rfl rfl)
theorem dX4_commonOf_17 : decode cX4_commonOf 17 = .ok (.if_icmp .ge 33, 3) := dk_162 0 33 (dk_at dksX4_commonOf_0 17 rfl rfl)
theorem dX4_commonOf_20 : decode cX4_commonOf 20 = .ok (.aload_n 0, 1) := dk_42 (dk_at dksX4_commonOf_0 20 rfl rfl)
theorem dX4_commonOf_21 : decode cX4_commonOf 21 = .ok (.getfield 80, 3) := dk_180 0 80 (dk_at dksX4_commonOf_0 21 rfl rfl)
theorem dX4_commonOf_24 : decode cX4_commonOf 24 = .ok (.iload 4, 2) := dk_21 4 (dk_at dksX4_commonOf_1 0 rfl rfl)
theorem dX4_commonOf_26 : decode cX4_commonOf 26 = .ok (.baload, 1) := dk_51 (dk_at dksX4_commonOf_1 2 rfl rfl)
theorem dX4_commonOf_27 : decode cX4_commonOf 27 = .ok (.ifCond .eq 17, 3) := dk_153 0 17 (dk_at dksX4_commonOf_1 3 rfl rfl)
theorem dX4_commonOf_30 : decode cX4_commonOf 30 = .ok (.aload_n 0, 1) := dk_42 (dk_at dksX4_commonOf_1 6 rfl rfl)
theorem dX4_commonOf_31 : decode cX4_commonOf 31 = .ok (.iload 4, 2) := dk_21 4 (dk_at dksX4_commonOf_1 7 rfl rfl)
theorem dX4_commonOf_33 : decode cX4_commonOf 33 = .ok (.iload_n 1, 1) := dk_27 (dk_at dksX4_commonOf_1 9 rfl rfl)
theorem dX4_commonOf_34 : decode cX4_commonOf 34 = .ok (.iload_n 2, 1) := dk_28 (dk_at dksX4_commonOf_1 10 rfl rfl)
theorem dX4_commonOf_35 : decode cX4_commonOf 35 = .ok (.invokevirtual 413, 3) := dk_182 1 157 (dk_at dksX4_commonOf_1 11 rfl rfl)
theorem dX4_commonOf_38 : decode cX4_commonOf 38 = .ok (.iload_n 3, 1) := dk_29 (dk_at dksX4_commonOf_1 14 rfl rfl)
theorem dX4_commonOf_39 : decode cX4_commonOf 39 = .ok (.if_icmp .eq 5, 3) := dk_159 0 5 (dk_at dksX4_commonOf_1 15 rfl rfl)
theorem dX4_commonOf_42 : decode cX4_commonOf 42 = .ok (.iconst (-1), 1) := dk_2 (dk_at dksX4_commonOf_1 18 rfl rfl)
theorem dX4_commonOf_43 : decode cX4_commonOf 43 = .ok (.ireturn, 1) := dk_172 (dk_at dksX4_commonOf_1 19 rfl rfl)
theorem dX4_commonOf_44 : decode cX4_commonOf 44 = .ok (.iinc 4 1, 3) := dk_132 4 1 (dk_at dksX4_commonOf_1 20 rfl rfl)
theorem dX4_commonOf_47 : decode cX4_commonOf 47 = .ok (.goto (-36), 3) := dk_167 255 220 (dk_at dksX4_commonOf_2 0 rfl rfl)
theorem dX4_commonOf_50 : decode cX4_commonOf 50 = .ok (.iload_n 3, 1) := dk_29 (dk_at dksX4_commonOf_2 3 rfl rfl)
theorem dX4_commonOf_51 : decode cX4_commonOf 51 = .ok (.ireturn, 1) := dk_172 (dk_at dksX4_commonOf_2 4 rfl rfl)
abbrev cX4_common : ByteArray := prog_19_method_89_code
def yX4_common : MethodName := ⟨RX4, "common", "(III)I"⟩
def dkwX4_common_2 : List UInt8 := [172, 42, 27, 182, 1, 190, 42, 28, 29, 182, 1, 184, 172]
abbrev dktX4_common_2 : List UInt8 := dkwX4_common_2 ++ []
def dkwX4_common_1 : List UInt8 := [5, 46, 120, 4, 100, 133, 184, 0, 104, 154, 0, 6, 16, 254, 172, 42, 182, 1, 154, 154, 0, 6, 16, 253]
abbrev dktX4_common_1 : List UInt8 := dkwX4_common_1 ++ dktX4_common_2
def dkwX4_common_0 : List UInt8 := [42, 28, 182, 1, 58, 153, 0, 31, 42, 29, 182, 1, 134, 153, 0, 23, 27, 133, 9, 4, 42, 180, 0, 9]
abbrev dktX4_common_0 : List UInt8 := dkwX4_common_0 ++ dktX4_common_1
theorem dksX4_common_0 : cX4_common.data.toList.drop 0 = dktX4_common_0 := by decide +kernel
theorem dksX4_common_1 : cX4_common.data.toList.drop 24 = dktX4_common_1 := dk_seg dksX4_common_0 24 rfl rfl
theorem dksX4_common_2 : cX4_common.data.toList.drop 48 = dktX4_common_2 := dk_seg dksX4_common_1 24 rfl rfl
theorem dX4_common_0 : decode cX4_common 0 = .ok (.aload_n 0, 1) := dk_42 (dk_at dksX4_common_0 0 rfl rfl)
theorem dX4_common_1 : decode cX4_common 1 = .ok (.iload_n 2, 1) := dk_28 (dk_at dksX4_common_0 1 rfl rfl)
theorem dX4_common_2 : decode cX4_common 2 = .ok (.invokevirtual 314, 3) := dk_182 1 58 (dk_at dksX4_common_0 2 rfl rfl)
theorem dX4_common_5 : decode cX4_common 5 = .ok (.ifCond .eq 31, 3) := dk_153 0 31 (dk_at dksX4_common_0 5 rfl rfl)
theorem dX4_common_8 : decode cX4_common 8 = .ok (.aload_n 0, 1) := dk_42 (dk_at dksX4_common_0 8 rfl rfl)
theorem dX4_common_9 : decode cX4_common 9 = .ok (.iload_n 3, 1) := dk_29 (dk_at dksX4_common_0 9 rfl rfl)
theorem dX4_common_10 : decode cX4_common 10 = .ok (.invokevirtual 390, 3) := dk_182 1 134 (dk_at dksX4_common_0 10 rfl rfl)
theorem dX4_common_13 : decode cX4_common 13 = .ok (.ifCond .eq 23, 3) := dk_153 0 23 (dk_at dksX4_common_0 13 rfl rfl)
theorem dX4_common_16 : decode cX4_common 16 = .ok (.iload_n 1, 1) := dk_27 (dk_at dksX4_common_0 16 rfl rfl)
theorem dX4_common_17 : decode cX4_common 17 = .ok (.i2l, 1) := dk_133 (dk_at dksX4_common_0 17 rfl rfl)
theorem dX4_common_18 : decode cX4_common 18 = .ok (.lconst 0, 1) := dk_9 (dk_at dksX4_common_0 18 rfl rfl)
theorem dX4_common_19 : decode cX4_common 19 = .ok (.iconst 1, 1) := dk_4 (dk_at dksX4_common_0 19 rfl rfl)
theorem dX4_common_20 : decode cX4_common 20 = .ok (.aload_n 0, 1) := dk_42 (dk_at dksX4_common_0 20 rfl rfl)
theorem dX4_common_21 : decode cX4_common 21 = .ok (.getfield 9, 3) := dk_180 0 9 (dk_at dksX4_common_0 21 rfl rfl)
theorem dX4_common_24 : decode cX4_common 24 = .ok (.iconst 2, 1) := dk_5 (dk_at dksX4_common_1 0 rfl rfl)
theorem dX4_common_25 : decode cX4_common 25 = .ok (.iaload, 1) := dk_46 (dk_at dksX4_common_1 1 rfl rfl)
theorem dX4_common_26 : decode cX4_common 26 = .ok (.ishl, 1) := dk_120 (dk_at dksX4_common_1 2 rfl rfl)
theorem dX4_common_27 : decode cX4_common 27 = .ok (.iconst 1, 1) := dk_4 (dk_at dksX4_common_1 3 rfl rfl)
theorem dX4_common_28 : decode cX4_common 28 = .ok (.isub, 1) := dk_100 (dk_at dksX4_common_1 4 rfl rfl)
theorem dX4_common_29 : decode cX4_common 29 = .ok (.i2l, 1) := dk_133 (dk_at dksX4_common_1 5 rfl rfl)
theorem dX4_common_30 : decode cX4_common 30 = .ok (.invokestatic 104, 3) := dk_184 0 104 (dk_at dksX4_common_1 6 rfl rfl)
theorem dX4_common_33 : decode cX4_common 33 = .ok (.ifCond .ne 6, 3) := dk_154 0 6 (dk_at dksX4_common_1 9 rfl rfl)
theorem dX4_common_36 : decode cX4_common 36 = .ok (.bipush (-2), 2) := dk_16 254 (dk_at dksX4_common_1 12 rfl rfl)
theorem dX4_common_38 : decode cX4_common 38 = .ok (.ireturn, 1) := dk_172 (dk_at dksX4_common_1 14 rfl rfl)
theorem dX4_common_39 : decode cX4_common 39 = .ok (.aload_n 0, 1) := dk_42 (dk_at dksX4_common_1 15 rfl rfl)
theorem dX4_common_40 : decode cX4_common 40 = .ok (.invokevirtual 410, 3) := dk_182 1 154 (dk_at dksX4_common_1 16 rfl rfl)
theorem dX4_common_43 : decode cX4_common 43 = .ok (.ifCond .ne 6, 3) := dk_154 0 6 (dk_at dksX4_common_1 19 rfl rfl)
theorem dX4_common_46 : decode cX4_common 46 = .ok (.bipush (-3), 2) := dk_16 253 (dk_at dksX4_common_1 22 rfl rfl)
theorem dX4_common_48 : decode cX4_common 48 = .ok (.ireturn, 1) := dk_172 (dk_at dksX4_common_2 0 rfl rfl)
theorem dX4_common_49 : decode cX4_common 49 = .ok (.aload_n 0, 1) := dk_42 (dk_at dksX4_common_2 1 rfl rfl)
theorem dX4_common_50 : decode cX4_common 50 = .ok (.iload_n 1, 1) := dk_27 (dk_at dksX4_common_2 2 rfl rfl)
theorem dX4_common_51 : decode cX4_common 51 = .ok (.invokevirtual 446, 3) := dk_182 1 190 (dk_at dksX4_common_2 3 rfl rfl)
theorem dX4_common_54 : decode cX4_common 54 = .ok (.aload_n 0, 1) := dk_42 (dk_at dksX4_common_2 6 rfl rfl)
theorem dX4_common_55 : decode cX4_common 55 = .ok (.iload_n 2, 1) := dk_28 (dk_at dksX4_common_2 7 rfl rfl)
theorem dX4_common_56 : decode cX4_common 56 = .ok (.iload_n 3, 1) := dk_29 (dk_at dksX4_common_2 8 rfl rfl)
theorem dX4_common_57 : decode cX4_common 57 = .ok (.invokevirtual 440, 3) := dk_182 1 184 (dk_at dksX4_common_2 9 rfl rfl)
theorem dX4_common_60 : decode cX4_common 60 = .ok (.ireturn, 1) := dk_172 (dk_at dksX4_common_2 12 rfl rfl)
abbrev cX4_spreads : ByteArray := prog_19_method_88_code
def yX4_spreads : MethodName := ⟨RX4, "spreads", "(I)V"⟩
def dkwX4_spreads_4 : List UInt8 := [42, 180, 0, 83, 28, 21, 4, 79, 132, 2, 1, 132, 4, 1, 167, 255, 196, 132, 3, 1, 167, 255, 182, 177]
abbrev dktX4_spreads_4 : List UInt8 := dkwX4_spreads_4 ++ []
def dkwX4_spreads_3 : List UInt8 := [180, 0, 83, 29, 46, 21, 4, 182, 1, 187, 154, 0, 6, 167, 0, 22, 42, 180, 0, 80, 21, 4, 4, 84]
abbrev dktX4_spreads_3 : List UInt8 := dkwX4_spreads_3 ++ dktX4_spreads_4
def dkwX4_spreads_2 : List UInt8 := [54, 4, 21, 4, 42, 180, 1, 145, 162, 0, 57, 42, 180, 0, 80, 21, 4, 51, 154, 0, 41, 42, 27, 42]
abbrev dktX4_spreads_2 : List UInt8 := dkwX4_spreads_2 ++ dktX4_spreads_3
def dkwX4_spreads_1 : List UInt8 := [84, 132, 2, 1, 167, 255, 230, 42, 180, 0, 83, 3, 3, 79, 4, 61, 3, 62, 29, 28, 162, 0, 75, 3]
abbrev dktX4_spreads_1 : List UInt8 := dkwX4_spreads_1 ++ dktX4_spreads_2
def dkwX4_spreads_0 : List UInt8 := [3, 61, 28, 42, 180, 1, 145, 162, 0, 24, 42, 180, 0, 80, 28, 28, 154, 0, 7, 4, 167, 0, 4, 3]
abbrev dktX4_spreads_0 : List UInt8 := dkwX4_spreads_0 ++ dktX4_spreads_1
theorem dksX4_spreads_0 : cX4_spreads.data.toList.drop 0 = dktX4_spreads_0 := by decide +kernel
theorem dksX4_spreads_1 : cX4_spreads.data.toList.drop 24 = dktX4_spreads_1 := dk_seg dksX4_spreads_0 24 rfl rfl
theorem dksX4_spreads_2 : cX4_spreads.data.toList.drop 48 = dktX4_spreads_2 := dk_seg dksX4_spreads_1 24 rfl rfl
theorem dksX4_spreads_3 : cX4_spreads.data.toList.drop 72 = dktX4_spreads_3 := dk_seg dksX4_spreads_2 24 rfl rfl
theorem dksX4_spreads_4 : cX4_spreads.data.toList.drop 96 = dktX4_spreads_4 := dk_seg dksX4_spreads_3 24 rfl rfl
theorem dX4_spreads_0 : decode cX4_spreads 0 = .ok (.iconst 0, 1) := dk_3 (dk_at dksX4_spreads_0 0 rfl rfl)
theorem dX4_spreads_1 : decode cX4_spreads 1 = .ok (.istore_n 2, 1) := dk_61 (dk_at dksX4_spreads_0 1 rfl rfl)
theorem dX4_spreads_2 : decode cX4_spreads 2 = .ok (.iload_n 2, 1) := dk_28 (dk_at dksX4_spreads_0 2 rfl rfl)
theorem dX4_spreads_3 : decode cX4_spreads 3 = .ok (.aload_n 0, 1) := dk_42 (dk_at dksX4_spreads_0 3 rfl rfl)
theorem dX4_spreads_4 : decode cX4_spreads 4 = .ok (.getfield 401, 3) := dk_180 1 145 (dk_at dksX4_spreads_0 4 rfl rfl)
theorem dX4_spreads_7 : decode cX4_spreads 7 = .ok (.if_icmp .ge 24, 3) := dk_162 0 24 (dk_at dksX4_spreads_0 7 rfl rfl)
theorem dX4_spreads_10 : decode cX4_spreads 10 = .ok (.aload_n 0, 1) := dk_42 (dk_at dksX4_spreads_0 10 rfl rfl)
theorem dX4_spreads_11 : decode cX4_spreads 11 = .ok (.getfield 80, 3) := dk_180 0 80 (dk_at dksX4_spreads_0 11 rfl rfl)
theorem dX4_spreads_14 : decode cX4_spreads 14 = .ok (.iload_n 2, 1) := dk_28 (dk_at dksX4_spreads_0 14 rfl rfl)
theorem dX4_spreads_15 : decode cX4_spreads 15 = .ok (.iload_n 2, 1) := dk_28 (dk_at dksX4_spreads_0 15 rfl rfl)
theorem dX4_spreads_16 : decode cX4_spreads 16 = .ok (.ifCond .ne 7, 3) := dk_154 0 7 (dk_at dksX4_spreads_0 16 rfl rfl)
theorem dX4_spreads_19 : decode cX4_spreads 19 = .ok (.iconst 1, 1) := dk_4 (dk_at dksX4_spreads_0 19 rfl rfl)
theorem dX4_spreads_20 : decode cX4_spreads 20 = .ok (.goto 4, 3) := dk_167 0 4 (dk_at dksX4_spreads_0 20 rfl rfl)
theorem dX4_spreads_23 : decode cX4_spreads 23 = .ok (.iconst 0, 1) := dk_3 (dk_at dksX4_spreads_0 23 rfl rfl)
theorem dX4_spreads_24 : decode cX4_spreads 24 = .ok (.bastore, 1) := dk_84 (dk_at dksX4_spreads_1 0 rfl rfl)
theorem dX4_spreads_25 : decode cX4_spreads 25 = .ok (.iinc 2 1, 3) := dk_132 2 1 (dk_at dksX4_spreads_1 1 rfl rfl)
theorem dX4_spreads_28 : decode cX4_spreads 28 = .ok (.goto (-26), 3) := dk_167 255 230 (dk_at dksX4_spreads_1 4 rfl rfl)
theorem dX4_spreads_31 : decode cX4_spreads 31 = .ok (.aload_n 0, 1) := dk_42 (dk_at dksX4_spreads_1 7 rfl rfl)
theorem dX4_spreads_32 : decode cX4_spreads 32 = .ok (.getfield 83, 3) := dk_180 0 83 (dk_at dksX4_spreads_1 8 rfl rfl)
theorem dX4_spreads_35 : decode cX4_spreads 35 = .ok (.iconst 0, 1) := dk_3 (dk_at dksX4_spreads_1 11 rfl rfl)
theorem dX4_spreads_36 : decode cX4_spreads 36 = .ok (.iconst 0, 1) := dk_3 (dk_at dksX4_spreads_1 12 rfl rfl)
theorem dX4_spreads_37 : decode cX4_spreads 37 = .ok (.iastore, 1) := dk_79 (dk_at dksX4_spreads_1 13 rfl rfl)
theorem dX4_spreads_38 : decode cX4_spreads 38 = .ok (.iconst 1, 1) := dk_4 (dk_at dksX4_spreads_1 14 rfl rfl)
theorem dX4_spreads_39 : decode cX4_spreads 39 = .ok (.istore_n 2, 1) := dk_61 (dk_at dksX4_spreads_1 15 rfl rfl)
theorem dX4_spreads_40 : decode cX4_spreads 40 = .ok (.iconst 0, 1) := dk_3 (dk_at dksX4_spreads_1 16 rfl rfl)
theorem dX4_spreads_41 : decode cX4_spreads 41 = .ok (.istore_n 3, 1) := dk_62 (dk_at dksX4_spreads_1 17 rfl rfl)
theorem dX4_spreads_42 : decode cX4_spreads 42 = .ok (.iload_n 3, 1) := dk_29 (dk_at dksX4_spreads_1 18 rfl rfl)
theorem dX4_spreads_43 : decode cX4_spreads 43 = .ok (.iload_n 2, 1) := dk_28 (dk_at dksX4_spreads_1 19 rfl rfl)
theorem dX4_spreads_44 : decode cX4_spreads 44 = .ok (.if_icmp .ge 75, 3) := dk_162 0 75 (dk_at dksX4_spreads_1 20 rfl rfl)
theorem dX4_spreads_47 : decode cX4_spreads 47 = .ok (.iconst 0, 1) := dk_3 (dk_at dksX4_spreads_1 23 rfl rfl)
theorem dX4_spreads_48 : decode cX4_spreads 48 = .ok (.istore 4, 2) := dk_54 4 (dk_at dksX4_spreads_2 0 rfl rfl)
theorem dX4_spreads_50 : decode cX4_spreads 50 = .ok (.iload 4, 2) := dk_21 4 (dk_at dksX4_spreads_2 2 rfl rfl)
theorem dX4_spreads_52 : decode cX4_spreads 52 = .ok (.aload_n 0, 1) := dk_42 (dk_at dksX4_spreads_2 4 rfl rfl)
theorem dX4_spreads_53 : decode cX4_spreads 53 = .ok (.getfield 401, 3) := dk_180 1 145 (dk_at dksX4_spreads_2 5 rfl rfl)
theorem dX4_spreads_56 : decode cX4_spreads 56 = .ok (.if_icmp .ge 57, 3) := dk_162 0 57 (dk_at dksX4_spreads_2 8 rfl rfl)
theorem dX4_spreads_59 : decode cX4_spreads 59 = .ok (.aload_n 0, 1) := dk_42 (dk_at dksX4_spreads_2 11 rfl rfl)
theorem dX4_spreads_60 : decode cX4_spreads 60 = .ok (.getfield 80, 3) := dk_180 0 80 (dk_at dksX4_spreads_2 12 rfl rfl)
theorem dX4_spreads_63 : decode cX4_spreads 63 = .ok (.iload 4, 2) := dk_21 4 (dk_at dksX4_spreads_2 15 rfl rfl)
theorem dX4_spreads_65 : decode cX4_spreads 65 = .ok (.baload, 1) := dk_51 (dk_at dksX4_spreads_2 17 rfl rfl)
theorem dX4_spreads_66 : decode cX4_spreads 66 = .ok (.ifCond .ne 41, 3) := dk_154 0 41 (dk_at dksX4_spreads_2 18 rfl rfl)
theorem dX4_spreads_69 : decode cX4_spreads 69 = .ok (.aload_n 0, 1) := dk_42 (dk_at dksX4_spreads_2 21 rfl rfl)
theorem dX4_spreads_70 : decode cX4_spreads 70 = .ok (.iload_n 1, 1) := dk_27 (dk_at dksX4_spreads_2 22 rfl rfl)
theorem dX4_spreads_71 : decode cX4_spreads 71 = .ok (.aload_n 0, 1) := dk_42 (dk_at dksX4_spreads_2 23 rfl rfl)
theorem dX4_spreads_72 : decode cX4_spreads 72 = .ok (.getfield 83, 3) := dk_180 0 83 (dk_at dksX4_spreads_3 0 rfl rfl)
theorem dX4_spreads_75 : decode cX4_spreads 75 = .ok (.iload_n 3, 1) := dk_29 (dk_at dksX4_spreads_3 3 rfl rfl)
theorem dX4_spreads_76 : decode cX4_spreads 76 = .ok (.iaload, 1) := dk_46 (dk_at dksX4_spreads_3 4 rfl rfl)
theorem dX4_spreads_77 : decode cX4_spreads 77 = .ok (.iload 4, 2) := dk_21 4 (dk_at dksX4_spreads_3 5 rfl rfl)
theorem dX4_spreads_79 : decode cX4_spreads 79 = .ok (.invokevirtual 443, 3) := dk_182 1 187 (dk_at dksX4_spreads_3 7 rfl rfl)
theorem dX4_spreads_82 : decode cX4_spreads 82 = .ok (.ifCond .ne 6, 3) := dk_154 0 6 (dk_at dksX4_spreads_3 10 rfl rfl)
theorem dX4_spreads_85 : decode cX4_spreads 85 = .ok (.goto 22, 3) := dk_167 0 22 (dk_at dksX4_spreads_3 13 rfl rfl)
theorem dX4_spreads_88 : decode cX4_spreads 88 = .ok (.aload_n 0, 1) := dk_42 (dk_at dksX4_spreads_3 16 rfl rfl)
theorem dX4_spreads_89 : decode cX4_spreads 89 = .ok (.getfield 80, 3) := dk_180 0 80 (dk_at dksX4_spreads_3 17 rfl rfl)
theorem dX4_spreads_92 : decode cX4_spreads 92 = .ok (.iload 4, 2) := dk_21 4 (dk_at dksX4_spreads_3 20 rfl rfl)
theorem dX4_spreads_94 : decode cX4_spreads 94 = .ok (.iconst 1, 1) := dk_4 (dk_at dksX4_spreads_3 22 rfl rfl)
theorem dX4_spreads_95 : decode cX4_spreads 95 = .ok (.bastore, 1) := dk_84 (dk_at dksX4_spreads_3 23 rfl rfl)
theorem dX4_spreads_96 : decode cX4_spreads 96 = .ok (.aload_n 0, 1) := dk_42 (dk_at dksX4_spreads_4 0 rfl rfl)
theorem dX4_spreads_97 : decode cX4_spreads 97 = .ok (.getfield 83, 3) := dk_180 0 83 (dk_at dksX4_spreads_4 1 rfl rfl)
theorem dX4_spreads_100 : decode cX4_spreads 100 = .ok (.iload_n 2, 1) := dk_28 (dk_at dksX4_spreads_4 4 rfl rfl)
theorem dX4_spreads_101 : decode cX4_spreads 101 = .ok (.iload 4, 2) := dk_21 4 (dk_at dksX4_spreads_4 5 rfl rfl)
theorem dX4_spreads_103 : decode cX4_spreads 103 = .ok (.iastore, 1) := dk_79 (dk_at dksX4_spreads_4 7 rfl rfl)
theorem dX4_spreads_104 : decode cX4_spreads 104 = .ok (.iinc 2 1, 3) := dk_132 2 1 (dk_at dksX4_spreads_4 8 rfl rfl)
theorem dX4_spreads_107 : decode cX4_spreads 107 = .ok (.iinc 4 1, 3) := dk_132 4 1 (dk_at dksX4_spreads_4 11 rfl rfl)
theorem dX4_spreads_110 : decode cX4_spreads 110 = .ok (.goto (-60), 3) := dk_167 255 196 (dk_at dksX4_spreads_4 14 rfl rfl)
theorem dX4_spreads_113 : decode cX4_spreads 113 = .ok (.iinc 3 1, 3) := dk_132 3 1 (dk_at dksX4_spreads_4 17 rfl rfl)
theorem dX4_spreads_116 : decode cX4_spreads 116 = .ok (.goto (-74), 3) := dk_167 255 182 (dk_at dksX4_spreads_4 20 rfl rfl)
theorem dX4_spreads_119 : decode cX4_spreads 119 = .ok (.return_, 1) := dk_177 (dk_at dksX4_spreads_4 23 rfl rfl)
abbrev cX4_comesBy : ByteArray := prog_19_method_87_code
def yX4_comesBy : MethodName := ⟨RX4, "comesBy", "(III)Z"⟩
def dkwX4_comesBy_1 : List UInt8 := [42, 21, 4, 28, 29, 182, 1, 181, 153, 0, 5, 4, 172, 132, 4, 1, 167, 255, 219, 3, 172]
abbrev dktX4_comesBy_1 : List UInt8 := dkwX4_comesBy_1 ++ []
def dkwX4_comesBy_0 : List UInt8 := [3, 54, 4, 21, 4, 42, 180, 0, 9, 5, 46, 162, 0, 32, 27, 21, 4, 122, 4, 126, 4, 160, 0, 16]
abbrev dktX4_comesBy_0 : List UInt8 := dkwX4_comesBy_0 ++ dktX4_comesBy_1
theorem dksX4_comesBy_0 : cX4_comesBy.data.toList.drop 0 = dktX4_comesBy_0 := by decide +kernel
theorem dksX4_comesBy_1 : cX4_comesBy.data.toList.drop 24 = dktX4_comesBy_1 := dk_seg dksX4_comesBy_0 24 rfl rfl
theorem dX4_comesBy_0 : decode cX4_comesBy 0 = .ok (.iconst 0, 1) := dk_3 (dk_at dksX4_comesBy_0 0 rfl rfl)
theorem dX4_comesBy_1 : decode cX4_comesBy 1 = .ok (.istore 4, 2) := dk_54 4 (dk_at dksX4_comesBy_0 1 rfl rfl)
theorem dX4_comesBy_3 : decode cX4_comesBy 3 = .ok (.iload 4, 2) := dk_21 4 (dk_at dksX4_comesBy_0 3 rfl rfl)
theorem dX4_comesBy_5 : decode cX4_comesBy 5 = .ok (.aload_n 0, 1) := dk_42 (dk_at dksX4_comesBy_0 5 rfl rfl)
theorem dX4_comesBy_6 : decode cX4_comesBy 6 = .ok (.getfield 9, 3) := dk_180 0 9 (dk_at dksX4_comesBy_0 6 rfl rfl)
theorem dX4_comesBy_9 : decode cX4_comesBy 9 = .ok (.iconst 2, 1) := dk_5 (dk_at dksX4_comesBy_0 9 rfl rfl)
theorem dX4_comesBy_10 : decode cX4_comesBy 10 = .ok (.iaload, 1) := dk_46 (dk_at dksX4_comesBy_0 10 rfl rfl)
theorem dX4_comesBy_11 : decode cX4_comesBy 11 = .ok (.if_icmp .ge 32, 3) := dk_162 0 32 (dk_at dksX4_comesBy_0 11 rfl rfl)
theorem dX4_comesBy_14 : decode cX4_comesBy 14 = .ok (.iload_n 1, 1) := dk_27 (dk_at dksX4_comesBy_0 14 rfl rfl)
theorem dX4_comesBy_15 : decode cX4_comesBy 15 = .ok (.iload 4, 2) := dk_21 4 (dk_at dksX4_comesBy_0 15 rfl rfl)
theorem dX4_comesBy_17 : decode cX4_comesBy 17 = .ok (.ishr, 1) := dk_122 (dk_at dksX4_comesBy_0 17 rfl rfl)
theorem dX4_comesBy_18 : decode cX4_comesBy 18 = .ok (.iconst 1, 1) := dk_4 (dk_at dksX4_comesBy_0 18 rfl rfl)
theorem dX4_comesBy_19 : decode cX4_comesBy 19 = .ok (.iand, 1) := dk_126 (dk_at dksX4_comesBy_0 19 rfl rfl)
theorem dX4_comesBy_20 : decode cX4_comesBy 20 = .ok (.iconst 1, 1) := dk_4 (dk_at dksX4_comesBy_0 20 rfl rfl)
theorem dX4_comesBy_21 : decode cX4_comesBy 21 = .ok (.if_icmp .ne 16, 3) := dk_160 0 16 (dk_at dksX4_comesBy_0 21 rfl rfl)
theorem dX4_comesBy_24 : decode cX4_comesBy 24 = .ok (.aload_n 0, 1) := dk_42 (dk_at dksX4_comesBy_1 0 rfl rfl)
theorem dX4_comesBy_25 : decode cX4_comesBy 25 = .ok (.iload 4, 2) := dk_21 4 (dk_at dksX4_comesBy_1 1 rfl rfl)
theorem dX4_comesBy_27 : decode cX4_comesBy 27 = .ok (.iload_n 2, 1) := dk_28 (dk_at dksX4_comesBy_1 3 rfl rfl)
theorem dX4_comesBy_28 : decode cX4_comesBy 28 = .ok (.iload_n 3, 1) := dk_29 (dk_at dksX4_comesBy_1 4 rfl rfl)
theorem dX4_comesBy_29 : decode cX4_comesBy 29 = .ok (.invokevirtual 437, 3) := dk_182 1 181 (dk_at dksX4_comesBy_1 5 rfl rfl)
theorem dX4_comesBy_32 : decode cX4_comesBy 32 = .ok (.ifCond .eq 5, 3) := dk_153 0 5 (dk_at dksX4_comesBy_1 8 rfl rfl)
theorem dX4_comesBy_35 : decode cX4_comesBy 35 = .ok (.iconst 1, 1) := dk_4 (dk_at dksX4_comesBy_1 11 rfl rfl)
theorem dX4_comesBy_36 : decode cX4_comesBy 36 = .ok (.ireturn, 1) := dk_172 (dk_at dksX4_comesBy_1 12 rfl rfl)
theorem dX4_comesBy_37 : decode cX4_comesBy 37 = .ok (.iinc 4 1, 3) := dk_132 4 1 (dk_at dksX4_comesBy_1 13 rfl rfl)
theorem dX4_comesBy_40 : decode cX4_comesBy 40 = .ok (.goto (-37), 3) := dk_167 255 219 (dk_at dksX4_comesBy_1 16 rfl rfl)
theorem dX4_comesBy_43 : decode cX4_comesBy 43 = .ok (.iconst 0, 1) := dk_3 (dk_at dksX4_comesBy_1 19 rfl rfl)
theorem dX4_comesBy_44 : decode cX4_comesBy 44 = .ok (.ireturn, 1) := dk_172 (dk_at dksX4_comesBy_1 20 rfl rfl)
abbrev cX4_alike : ByteArray := prog_19_method_90_code
def yX4_alike : MethodName := ⟨RX4, "alike", "(I)I"⟩
def dkwX4_alike_2 : List UInt8 := [3, 96, 61, 132, 3, 1, 167, 255, 227, 28, 172]
abbrev dktX4_alike_2 : List UInt8 := dkwX4_alike_2 ++ []
def dkwX4_alike_1 : List UInt8 := [62, 29, 42, 180, 1, 145, 162, 0, 27, 28, 42, 27, 3, 29, 182, 1, 181, 153, 0, 7, 4, 167, 0, 4]
abbrev dktX4_alike_1 : List UInt8 := dkwX4_alike_1 ++ dktX4_alike_2
def dkwX4_alike_0 : List UInt8 := [42, 27, 182, 1, 51, 154, 0, 6, 16, 254, 172, 42, 182, 1, 154, 154, 0, 6, 16, 253, 172, 3, 61, 3]
abbrev dktX4_alike_0 : List UInt8 := dkwX4_alike_0 ++ dktX4_alike_1
theorem dksX4_alike_0 : cX4_alike.data.toList.drop 0 = dktX4_alike_0 := by decide +kernel
theorem dksX4_alike_1 : cX4_alike.data.toList.drop 24 = dktX4_alike_1 := dk_seg dksX4_alike_0 24 rfl rfl
theorem dksX4_alike_2 : cX4_alike.data.toList.drop 48 = dktX4_alike_2 := dk_seg dksX4_alike_1 24 rfl rfl
theorem dX4_alike_0 : decode cX4_alike 0 = .ok (.aload_n 0, 1) := dk_42 (dk_at dksX4_alike_0 0 rfl rfl)
theorem dX4_alike_1 : decode cX4_alike 1 = .ok (.iload_n 1, 1) := dk_27 (dk_at dksX4_alike_0 1 rfl rfl)
theorem dX4_alike_2 : decode cX4_alike 2 = .ok (.invokevirtual 307, 3) := dk_182 1 51 (dk_at dksX4_alike_0 2 rfl rfl)
theorem dX4_alike_5 : decode cX4_alike 5 = .ok (.ifCond .ne 6, 3) := dk_154 0 6 (dk_at dksX4_alike_0 5 rfl rfl)
theorem dX4_alike_8 : decode cX4_alike 8 = .ok (.bipush (-2), 2) := dk_16 254 (dk_at dksX4_alike_0 8 rfl rfl)
theorem dX4_alike_10 : decode cX4_alike 10 = .ok (.ireturn, 1) := dk_172 (dk_at dksX4_alike_0 10 rfl rfl)
theorem dX4_alike_11 : decode cX4_alike 11 = .ok (.aload_n 0, 1) := dk_42 (dk_at dksX4_alike_0 11 rfl rfl)
theorem dX4_alike_12 : decode cX4_alike 12 = .ok (.invokevirtual 410, 3) := dk_182 1 154 (dk_at dksX4_alike_0 12 rfl rfl)
theorem dX4_alike_15 : decode cX4_alike 15 = .ok (.ifCond .ne 6, 3) := dk_154 0 6 (dk_at dksX4_alike_0 15 rfl rfl)
theorem dX4_alike_18 : decode cX4_alike 18 = .ok (.bipush (-3), 2) := dk_16 253 (dk_at dksX4_alike_0 18 rfl rfl)
theorem dX4_alike_20 : decode cX4_alike 20 = .ok (.ireturn, 1) := dk_172 (dk_at dksX4_alike_0 20 rfl rfl)
theorem dX4_alike_21 : decode cX4_alike 21 = .ok (.iconst 0, 1) := dk_3 (dk_at dksX4_alike_0 21 rfl rfl)
theorem dX4_alike_22 : decode cX4_alike 22 = .ok (.istore_n 2, 1) := dk_61 (dk_at dksX4_alike_0 22 rfl rfl)
theorem dX4_alike_23 : decode cX4_alike 23 = .ok (.iconst 0, 1) := dk_3 (dk_at dksX4_alike_0 23 rfl rfl)
theorem dX4_alike_24 : decode cX4_alike 24 = .ok (.istore_n 3, 1) := dk_62 (dk_at dksX4_alike_1 0 rfl rfl)
theorem dX4_alike_25 : decode cX4_alike 25 = .ok (.iload_n 3, 1) := dk_29 (dk_at dksX4_alike_1 1 rfl rfl)
theorem dX4_alike_26 : decode cX4_alike 26 = .ok (.aload_n 0, 1) := dk_42 (dk_at dksX4_alike_1 2 rfl rfl)
theorem dX4_alike_27 : decode cX4_alike 27 = .ok (.getfield 401, 3) := dk_180 1 145 (dk_at dksX4_alike_1 3 rfl rfl)
theorem dX4_alike_30 : decode cX4_alike 30 = .ok (.if_icmp .ge 27, 3) := dk_162 0 27 (dk_at dksX4_alike_1 6 rfl rfl)
theorem dX4_alike_33 : decode cX4_alike 33 = .ok (.iload_n 2, 1) := dk_28 (dk_at dksX4_alike_1 9 rfl rfl)
theorem dX4_alike_34 : decode cX4_alike 34 = .ok (.aload_n 0, 1) := dk_42 (dk_at dksX4_alike_1 10 rfl rfl)
theorem dX4_alike_35 : decode cX4_alike 35 = .ok (.iload_n 1, 1) := dk_27 (dk_at dksX4_alike_1 11 rfl rfl)
theorem dX4_alike_36 : decode cX4_alike 36 = .ok (.iconst 0, 1) := dk_3 (dk_at dksX4_alike_1 12 rfl rfl)
theorem dX4_alike_37 : decode cX4_alike 37 = .ok (.iload_n 3, 1) := dk_29 (dk_at dksX4_alike_1 13 rfl rfl)
theorem dX4_alike_38 : decode cX4_alike 38 = .ok (.invokevirtual 437, 3) := dk_182 1 181 (dk_at dksX4_alike_1 14 rfl rfl)
theorem dX4_alike_41 : decode cX4_alike 41 = .ok (.ifCond .eq 7, 3) := dk_153 0 7 (dk_at dksX4_alike_1 17 rfl rfl)
theorem dX4_alike_44 : decode cX4_alike 44 = .ok (.iconst 1, 1) := dk_4 (dk_at dksX4_alike_1 20 rfl rfl)
theorem dX4_alike_45 : decode cX4_alike 45 = .ok (.goto 4, 3) := dk_167 0 4 (dk_at dksX4_alike_1 21 rfl rfl)
theorem dX4_alike_48 : decode cX4_alike 48 = .ok (.iconst 0, 1) := dk_3 (dk_at dksX4_alike_2 0 rfl rfl)
theorem dX4_alike_49 : decode cX4_alike 49 = .ok (.iadd, 1) := dk_96 (dk_at dksX4_alike_2 1 rfl rfl)
theorem dX4_alike_50 : decode cX4_alike 50 = .ok (.istore_n 2, 1) := dk_61 (dk_at dksX4_alike_2 2 rfl rfl)
theorem dX4_alike_51 : decode cX4_alike 51 = .ok (.iinc 3 1, 3) := dk_132 3 1 (dk_at dksX4_alike_2 3 rfl rfl)
theorem dX4_alike_54 : decode cX4_alike 54 = .ok (.goto (-29), 3) := dk_167 255 227 (dk_at dksX4_alike_2 6 rfl rfl)
theorem dX4_alike_57 : decode cX4_alike 57 = .ok (.iload_n 2, 1) := dk_28 (dk_at dksX4_alike_2 9 rfl rfl)
theorem dX4_alike_58 : decode cX4_alike 58 = .ok (.ireturn, 1) := dk_172 (dk_at dksX4_alike_2 10 rfl rfl)
abbrev cX4_lie : ByteArray := prog_19_method_93_code
def yX4_lie : MethodName := ⟨RX4, "lie", "(IIII)I"⟩
def dkwX4_lie_1 : List UInt8 := [172, 42, 27, 28, 29, 21, 4, 182, 1, 196, 2, 160, 0, 7, 4, 167, 0, 4, 3, 172]
abbrev dktX4_lie_1 : List UInt8 := dkwX4_lie_1 ++ []
def dkwX4_lie_0 : List UInt8 := [42, 27, 28, 29, 21, 4, 182, 1, 193, 154, 0, 6, 16, 254, 172, 42, 182, 1, 154, 154, 0, 6, 16, 253]
abbrev dktX4_lie_0 : List UInt8 := dkwX4_lie_0 ++ dktX4_lie_1
theorem dksX4_lie_0 : cX4_lie.data.toList.drop 0 = dktX4_lie_0 := by decide +kernel
theorem dksX4_lie_1 : cX4_lie.data.toList.drop 24 = dktX4_lie_1 := dk_seg dksX4_lie_0 24 rfl rfl
theorem dX4_lie_0 : decode cX4_lie 0 = .ok (.aload_n 0, 1) := dk_42 (dk_at dksX4_lie_0 0 rfl rfl)
theorem dX4_lie_1 : decode cX4_lie 1 = .ok (.iload_n 1, 1) := dk_27 (dk_at dksX4_lie_0 1 rfl rfl)
theorem dX4_lie_2 : decode cX4_lie 2 = .ok (.iload_n 2, 1) := dk_28 (dk_at dksX4_lie_0 2 rfl rfl)
theorem dX4_lie_3 : decode cX4_lie 3 = .ok (.iload_n 3, 1) := dk_29 (dk_at dksX4_lie_0 3 rfl rfl)
theorem dX4_lie_4 : decode cX4_lie 4 = .ok (.iload 4, 2) := dk_21 4 (dk_at dksX4_lie_0 4 rfl rfl)
theorem dX4_lie_6 : decode cX4_lie 6 = .ok (.invokevirtual 449, 3) := dk_182 1 193 (dk_at dksX4_lie_0 6 rfl rfl)
theorem dX4_lie_9 : decode cX4_lie 9 = .ok (.ifCond .ne 6, 3) := dk_154 0 6 (dk_at dksX4_lie_0 9 rfl rfl)
theorem dX4_lie_12 : decode cX4_lie 12 = .ok (.bipush (-2), 2) := dk_16 254 (dk_at dksX4_lie_0 12 rfl rfl)
theorem dX4_lie_14 : decode cX4_lie 14 = .ok (.ireturn, 1) := dk_172 (dk_at dksX4_lie_0 14 rfl rfl)
theorem dX4_lie_15 : decode cX4_lie 15 = .ok (.aload_n 0, 1) := dk_42 (dk_at dksX4_lie_0 15 rfl rfl)
theorem dX4_lie_16 : decode cX4_lie 16 = .ok (.invokevirtual 410, 3) := dk_182 1 154 (dk_at dksX4_lie_0 16 rfl rfl)
theorem dX4_lie_19 : decode cX4_lie 19 = .ok (.ifCond .ne 6, 3) := dk_154 0 6 (dk_at dksX4_lie_0 19 rfl rfl)
theorem dX4_lie_22 : decode cX4_lie 22 = .ok (.bipush (-3), 2) := dk_16 253 (dk_at dksX4_lie_0 22 rfl rfl)
theorem dX4_lie_24 : decode cX4_lie 24 = .ok (.ireturn, 1) := dk_172 (dk_at dksX4_lie_1 0 rfl rfl)
theorem dX4_lie_25 : decode cX4_lie 25 = .ok (.aload_n 0, 1) := dk_42 (dk_at dksX4_lie_1 1 rfl rfl)
theorem dX4_lie_26 : decode cX4_lie 26 = .ok (.iload_n 1, 1) := dk_27 (dk_at dksX4_lie_1 2 rfl rfl)
theorem dX4_lie_27 : decode cX4_lie 27 = .ok (.iload_n 2, 1) := dk_28 (dk_at dksX4_lie_1 3 rfl rfl)
theorem dX4_lie_28 : decode cX4_lie 28 = .ok (.iload_n 3, 1) := dk_29 (dk_at dksX4_lie_1 4 rfl rfl)
theorem dX4_lie_29 : decode cX4_lie 29 = .ok (.iload 4, 2) := dk_21 4 (dk_at dksX4_lie_1 5 rfl rfl)
theorem dX4_lie_31 : decode cX4_lie 31 = .ok (.invokevirtual 452, 3) := dk_182 1 196 (dk_at dksX4_lie_1 7 rfl rfl)
theorem dX4_lie_34 : decode cX4_lie 34 = .ok (.iconst (-1), 1) := dk_2 (dk_at dksX4_lie_1 10 rfl rfl)
theorem dX4_lie_35 : decode cX4_lie 35 = .ok (.if_icmp .ne 7, 3) := dk_160 0 7 (dk_at dksX4_lie_1 11 rfl rfl)
theorem dX4_lie_38 : decode cX4_lie 38 = .ok (.iconst 1, 1) := dk_4 (dk_at dksX4_lie_1 14 rfl rfl)
theorem dX4_lie_39 : decode cX4_lie 39 = .ok (.goto 4, 3) := dk_167 0 4 (dk_at dksX4_lie_1 15 rfl rfl)
theorem dX4_lie_42 : decode cX4_lie 42 = .ok (.iconst 0, 1) := dk_3 (dk_at dksX4_lie_1 18 rfl rfl)
theorem dX4_lie_43 : decode cX4_lie 43 = .ok (.ireturn, 1) := dk_172 (dk_at dksX4_lie_1 19 rfl rfl)
abbrev cX4_isAsked : ByteArray := prog_19_method_91_code
def yX4_isAsked : MethodName := ⟨RX4, "isAsked", "(IIII)Z"⟩
def dkwX4_isAsked_1 : List UInt8 := [21, 4, 184, 1, 139, 153, 0, 7, 4, 167, 0, 4, 3, 172]
abbrev dktX4_isAsked_1 : List UInt8 := dkwX4_isAsked_1 ++ []
def dkwX4_isAsked_0 : List UInt8 := [42, 27, 182, 1, 51, 153, 0, 31, 42, 28, 182, 1, 58, 153, 0, 23, 42, 29, 182, 1, 134, 153, 0, 15]
abbrev dktX4_isAsked_0 : List UInt8 := dkwX4_isAsked_0 ++ dktX4_isAsked_1
theorem dksX4_isAsked_0 : cX4_isAsked.data.toList.drop 0 = dktX4_isAsked_0 := by decide +kernel
theorem dksX4_isAsked_1 : cX4_isAsked.data.toList.drop 24 = dktX4_isAsked_1 := dk_seg dksX4_isAsked_0 24 rfl rfl
theorem dX4_isAsked_0 : decode cX4_isAsked 0 = .ok (.aload_n 0, 1) := dk_42 (dk_at dksX4_isAsked_0 0 rfl rfl)
theorem dX4_isAsked_1 : decode cX4_isAsked 1 = .ok (.iload_n 1, 1) := dk_27 (dk_at dksX4_isAsked_0 1 rfl rfl)
theorem dX4_isAsked_2 : decode cX4_isAsked 2 = .ok (.invokevirtual 307, 3) := dk_182 1 51 (dk_at dksX4_isAsked_0 2 rfl rfl)
theorem dX4_isAsked_5 : decode cX4_isAsked 5 = .ok (.ifCond .eq 31, 3) := dk_153 0 31 (dk_at dksX4_isAsked_0 5 rfl rfl)
theorem dX4_isAsked_8 : decode cX4_isAsked 8 = .ok (.aload_n 0, 1) := dk_42 (dk_at dksX4_isAsked_0 8 rfl rfl)
theorem dX4_isAsked_9 : decode cX4_isAsked 9 = .ok (.iload_n 2, 1) := dk_28 (dk_at dksX4_isAsked_0 9 rfl rfl)
theorem dX4_isAsked_10 : decode cX4_isAsked 10 = .ok (.invokevirtual 314, 3) := dk_182 1 58 (dk_at dksX4_isAsked_0 10 rfl rfl)
theorem dX4_isAsked_13 : decode cX4_isAsked 13 = .ok (.ifCond .eq 23, 3) := dk_153 0 23 (dk_at dksX4_isAsked_0 13 rfl rfl)
theorem dX4_isAsked_16 : decode cX4_isAsked 16 = .ok (.aload_n 0, 1) := dk_42 (dk_at dksX4_isAsked_0 16 rfl rfl)
theorem dX4_isAsked_17 : decode cX4_isAsked 17 = .ok (.iload_n 3, 1) := dk_29 (dk_at dksX4_isAsked_0 17 rfl rfl)
theorem dX4_isAsked_18 : decode cX4_isAsked 18 = .ok (.invokevirtual 390, 3) := dk_182 1 134 (dk_at dksX4_isAsked_0 18 rfl rfl)
theorem dX4_isAsked_21 : decode cX4_isAsked 21 = .ok (.ifCond .eq 15, 3) := dk_153 0 15 (dk_at dksX4_isAsked_0 21 rfl rfl)
theorem dX4_isAsked_24 : decode cX4_isAsked 24 = .ok (.iload 4, 2) := dk_21 4 (dk_at dksX4_isAsked_1 0 rfl rfl)
theorem dX4_isAsked_26 : decode cX4_isAsked 26 = .ok (.invokestatic 395, 3) := dk_184 1 139 (dk_at dksX4_isAsked_1 2 rfl rfl)
theorem dX4_isAsked_29 : decode cX4_isAsked 29 = .ok (.ifCond .eq 7, 3) := dk_153 0 7 (dk_at dksX4_isAsked_1 5 rfl rfl)
theorem dX4_isAsked_32 : decode cX4_isAsked 32 = .ok (.iconst 1, 1) := dk_4 (dk_at dksX4_isAsked_1 8 rfl rfl)
theorem dX4_isAsked_33 : decode cX4_isAsked 33 = .ok (.goto 4, 3) := dk_167 0 4 (dk_at dksX4_isAsked_1 9 rfl rfl)
theorem dX4_isAsked_36 : decode cX4_isAsked 36 = .ok (.iconst 0, 1) := dk_3 (dk_at dksX4_isAsked_1 12 rfl rfl)
theorem dX4_isAsked_37 : decode cX4_isAsked 37 = .ok (.ireturn, 1) := dk_172 (dk_at dksX4_isAsked_1 13 rfl rfl)
abbrev cX4_shownBy : ByteArray := prog_19_method_92_code
def yX4_shownBy : MethodName := ⟨RX4, "shownBy", "(IIII)I"⟩
def dkwX4_shownBy_4 : List UInt8 := [167, 255, 166, 2, 172]
abbrev dktX4_shownBy_4 : List UInt8 := dkwX4_shownBy_4 ++ []
def dkwX4_shownBy_3 : List UInt8 := [167, 0, 4, 3, 54, 6, 132, 7, 1, 167, 255, 207, 21, 6, 154, 0, 6, 21, 5, 172, 132, 5, 1]
abbrev dktX4_shownBy_3 : List UInt8 := dkwX4_shownBy_3 ++ dktX4_shownBy_4
def dkwX4_shownBy_2 : List UInt8 := [29, 182, 1, 157, 21, 4, 160, 0, 19, 42, 21, 5, 3, 21, 7, 182, 1, 181, 153, 0, 7, 4]
abbrev dktX4_shownBy_2 : List UInt8 := dkwX4_shownBy_2 ++ dktX4_shownBy_3
def dkwX4_shownBy_1 : List UInt8 := [3, 54, 6, 3, 54, 7, 21, 7, 42, 180, 1, 145, 162, 0, 46, 21, 6, 154, 0, 41, 42, 21, 7, 28]
abbrev dktX4_shownBy_1 : List UInt8 := dkwX4_shownBy_1 ++ dktX4_shownBy_2
def dkwX4_shownBy_0 : List UInt8 := [3, 54, 5, 21, 5, 42, 180, 0, 9, 5, 46, 162, 0, 85, 21, 5, 27, 160, 0, 7, 4, 167, 0, 4]
abbrev dktX4_shownBy_0 : List UInt8 := dkwX4_shownBy_0 ++ dktX4_shownBy_1
theorem dksX4_shownBy_0 : cX4_shownBy.data.toList.drop 0 = dktX4_shownBy_0 := by decide +kernel
theorem dksX4_shownBy_1 : cX4_shownBy.data.toList.drop 24 = dktX4_shownBy_1 := dk_seg dksX4_shownBy_0 24 rfl rfl
theorem dksX4_shownBy_2 : cX4_shownBy.data.toList.drop 48 = dktX4_shownBy_2 := dk_seg dksX4_shownBy_1 24 rfl rfl
theorem dksX4_shownBy_3 : cX4_shownBy.data.toList.drop 70 = dktX4_shownBy_3 := dk_seg dksX4_shownBy_2 22 rfl rfl
theorem dksX4_shownBy_4 : cX4_shownBy.data.toList.drop 93 = dktX4_shownBy_4 := dk_seg dksX4_shownBy_3 23 rfl rfl
theorem dX4_shownBy_0 : decode cX4_shownBy 0 = .ok (.iconst 0, 1) := dk_3 (dk_at dksX4_shownBy_0 0 rfl rfl)
theorem dX4_shownBy_1 : decode cX4_shownBy 1 = .ok (.istore 5, 2) := dk_54 5 (dk_at dksX4_shownBy_0 1 rfl rfl)
theorem dX4_shownBy_3 : decode cX4_shownBy 3 = .ok (.iload 5, 2) := dk_21 5 (dk_at dksX4_shownBy_0 3 rfl rfl)
theorem dX4_shownBy_5 : decode cX4_shownBy 5 = .ok (.aload_n 0, 1) := dk_42 (dk_at dksX4_shownBy_0 5 rfl rfl)
theorem dX4_shownBy_6 : decode cX4_shownBy 6 = .ok (.getfield 9, 3) := dk_180 0 9 (dk_at dksX4_shownBy_0 6 rfl rfl)
theorem dX4_shownBy_9 : decode cX4_shownBy 9 = .ok (.iconst 2, 1) := dk_5 (dk_at dksX4_shownBy_0 9 rfl rfl)
theorem dX4_shownBy_10 : decode cX4_shownBy 10 = .ok (.iaload, 1) := dk_46 (dk_at dksX4_shownBy_0 10 rfl rfl)
theorem dX4_shownBy_11 : decode cX4_shownBy 11 = .ok (.if_icmp .ge 85, 3) := dk_162 0 85 (dk_at dksX4_shownBy_0 11 rfl rfl)
theorem dX4_shownBy_14 : decode cX4_shownBy 14 = .ok (.iload 5, 2) := dk_21 5 (dk_at dksX4_shownBy_0 14 rfl rfl)
theorem dX4_shownBy_16 : decode cX4_shownBy 16 = .ok (.iload_n 1, 1) := dk_27 (dk_at dksX4_shownBy_0 16 rfl rfl)
theorem dX4_shownBy_17 : decode cX4_shownBy 17 = .ok (.if_icmp .ne 7, 3) := dk_160 0 7 (dk_at dksX4_shownBy_0 17 rfl rfl)
theorem dX4_shownBy_20 : decode cX4_shownBy 20 = .ok (.iconst 1, 1) := dk_4 (dk_at dksX4_shownBy_0 20 rfl rfl)
theorem dX4_shownBy_21 : decode cX4_shownBy 21 = .ok (.goto 4, 3) := dk_167 0 4 (dk_at dksX4_shownBy_0 21 rfl rfl)
theorem dX4_shownBy_24 : decode cX4_shownBy 24 = .ok (.iconst 0, 1) := dk_3 (dk_at dksX4_shownBy_1 0 rfl rfl)
theorem dX4_shownBy_25 : decode cX4_shownBy 25 = .ok (.istore 6, 2) := dk_54 6 (dk_at dksX4_shownBy_1 1 rfl rfl)
theorem dX4_shownBy_27 : decode cX4_shownBy 27 = .ok (.iconst 0, 1) := dk_3 (dk_at dksX4_shownBy_1 3 rfl rfl)
theorem dX4_shownBy_28 : decode cX4_shownBy 28 = .ok (.istore 7, 2) := dk_54 7 (dk_at dksX4_shownBy_1 4 rfl rfl)
theorem dX4_shownBy_30 : decode cX4_shownBy 30 = .ok (.iload 7, 2) := dk_21 7 (dk_at dksX4_shownBy_1 6 rfl rfl)
theorem dX4_shownBy_32 : decode cX4_shownBy 32 = .ok (.aload_n 0, 1) := dk_42 (dk_at dksX4_shownBy_1 8 rfl rfl)
theorem dX4_shownBy_33 : decode cX4_shownBy 33 = .ok (.getfield 401, 3) := dk_180 1 145 (dk_at dksX4_shownBy_1 9 rfl rfl)
theorem dX4_shownBy_36 : decode cX4_shownBy 36 = .ok (.if_icmp .ge 46, 3) := dk_162 0 46 (dk_at dksX4_shownBy_1 12 rfl rfl)
theorem dX4_shownBy_39 : decode cX4_shownBy 39 = .ok (.iload 6, 2) := dk_21 6 (dk_at dksX4_shownBy_1 15 rfl rfl)
theorem dX4_shownBy_41 : decode cX4_shownBy 41 = .ok (.ifCond .ne 41, 3) := dk_154 0 41 (dk_at dksX4_shownBy_1 17 rfl rfl)
theorem dX4_shownBy_44 : decode cX4_shownBy 44 = .ok (.aload_n 0, 1) := dk_42 (dk_at dksX4_shownBy_1 20 rfl rfl)
theorem dX4_shownBy_45 : decode cX4_shownBy 45 = .ok (.iload 7, 2) := dk_21 7 (dk_at dksX4_shownBy_1 21 rfl rfl)
theorem dX4_shownBy_47 : decode cX4_shownBy 47 = .ok (.iload_n 2, 1) := dk_28 (dk_at dksX4_shownBy_1 23 rfl rfl)
theorem dX4_shownBy_48 : decode cX4_shownBy 48 = .ok (.iload_n 3, 1) := dk_29 (dk_at dksX4_shownBy_2 0 rfl rfl)
theorem dX4_shownBy_49 : decode cX4_shownBy 49 = .ok (.invokevirtual 413, 3) := dk_182 1 157 (dk_at dksX4_shownBy_2 1 rfl rfl)
theorem dX4_shownBy_52 : decode cX4_shownBy 52 = .ok (.iload 4, 2) := dk_21 4 (dk_at dksX4_shownBy_2 4 rfl rfl)
theorem dX4_shownBy_54 : decode cX4_shownBy 54 = .ok (.if_icmp .ne 19, 3) := dk_160 0 19 (dk_at dksX4_shownBy_2 6 rfl rfl)
theorem dX4_shownBy_57 : decode cX4_shownBy 57 = .ok (.aload_n 0, 1) := dk_42 (dk_at dksX4_shownBy_2 9 rfl rfl)
theorem dX4_shownBy_58 : decode cX4_shownBy 58 = .ok (.iload 5, 2) := dk_21 5 (dk_at dksX4_shownBy_2 10 rfl rfl)
theorem dX4_shownBy_60 : decode cX4_shownBy 60 = .ok (.iconst 0, 1) := dk_3 (dk_at dksX4_shownBy_2 12 rfl rfl)
theorem dX4_shownBy_61 : decode cX4_shownBy 61 = .ok (.iload 7, 2) := dk_21 7 (dk_at dksX4_shownBy_2 13 rfl rfl)
theorem dX4_shownBy_63 : decode cX4_shownBy 63 = .ok (.invokevirtual 437, 3) := dk_182 1 181 (dk_at dksX4_shownBy_2 15 rfl rfl)
theorem dX4_shownBy_66 : decode cX4_shownBy 66 = .ok (.ifCond .eq 7, 3) := dk_153 0 7 (dk_at dksX4_shownBy_2 18 rfl rfl)
theorem dX4_shownBy_69 : decode cX4_shownBy 69 = .ok (.iconst 1, 1) := dk_4 (dk_at dksX4_shownBy_2 21 rfl rfl)
theorem dX4_shownBy_70 : decode cX4_shownBy 70 = .ok (.goto 4, 3) := dk_167 0 4 (dk_at dksX4_shownBy_3 0 rfl rfl)
theorem dX4_shownBy_73 : decode cX4_shownBy 73 = .ok (.iconst 0, 1) := dk_3 (dk_at dksX4_shownBy_3 3 rfl rfl)
theorem dX4_shownBy_74 : decode cX4_shownBy 74 = .ok (.istore 6, 2) := dk_54 6 (dk_at dksX4_shownBy_3 4 rfl rfl)
theorem dX4_shownBy_76 : decode cX4_shownBy 76 = .ok (.iinc 7 1, 3) := dk_132 7 1 (dk_at dksX4_shownBy_3 6 rfl rfl)
theorem dX4_shownBy_79 : decode cX4_shownBy 79 = .ok (.goto (-49), 3) := dk_167 255 207 (dk_at dksX4_shownBy_3 9 rfl rfl)
theorem dX4_shownBy_82 : decode cX4_shownBy 82 = .ok (.iload 6, 2) := dk_21 6 (dk_at dksX4_shownBy_3 12 rfl rfl)
theorem dX4_shownBy_84 : decode cX4_shownBy 84 = .ok (.ifCond .ne 6, 3) := dk_154 0 6 (dk_at dksX4_shownBy_3 14 rfl rfl)
theorem dX4_shownBy_87 : decode cX4_shownBy 87 = .ok (.iload 5, 2) := dk_21 5 (dk_at dksX4_shownBy_3 17 rfl rfl)
theorem dX4_shownBy_89 : decode cX4_shownBy 89 = .ok (.ireturn, 1) := dk_172 (dk_at dksX4_shownBy_3 19 rfl rfl)
theorem dX4_shownBy_90 : decode cX4_shownBy 90 = .ok (.iinc 5 1, 3) := dk_132 5 1 (dk_at dksX4_shownBy_3 20 rfl rfl)
theorem dX4_shownBy_93 : decode cX4_shownBy 93 = .ok (.goto (-90), 3) := dk_167 255 166 (dk_at dksX4_shownBy_4 0 rfl rfl)
theorem dX4_shownBy_96 : decode cX4_shownBy 96 = .ok (.iconst (-1), 1) := dk_2 (dk_at dksX4_shownBy_4 3 rfl rfl)
theorem dX4_shownBy_97 : decode cX4_shownBy 97 = .ok (.ireturn, 1) := dk_172 (dk_at dksX4_shownBy_4 4 rfl rfl)
abbrev cX4_shown : ByteArray := prog_19_method_94_code
def yX4_shown : MethodName := ⟨RX4, "shown", "(IIII)I"⟩
def dkwX4_shown_1 : List UInt8 := [28, 29, 21, 4, 182, 1, 196, 167, 0, 5, 16, 253, 172]
abbrev dktX4_shown_1 : List UInt8 := dkwX4_shown_1 ++ []
def dkwX4_shown_0 : List UInt8 := [42, 27, 28, 29, 21, 4, 182, 1, 193, 154, 0, 6, 16, 254, 172, 42, 182, 1, 154, 153, 0, 15, 42, 27]
abbrev dktX4_shown_0 : List UInt8 := dkwX4_shown_0 ++ dktX4_shown_1
theorem dksX4_shown_0 : cX4_shown.data.toList.drop 0 = dktX4_shown_0 := by decide +kernel
theorem dksX4_shown_1 : cX4_shown.data.toList.drop 24 = dktX4_shown_1 := dk_seg dksX4_shown_0 24 rfl rfl
theorem dX4_shown_0 : decode cX4_shown 0 = .ok (.aload_n 0, 1) := dk_42 (dk_at dksX4_shown_0 0 rfl rfl)
theorem dX4_shown_1 : decode cX4_shown 1 = .ok (.iload_n 1, 1) := dk_27 (dk_at dksX4_shown_0 1 rfl rfl)
theorem dX4_shown_2 : decode cX4_shown 2 = .ok (.iload_n 2, 1) := dk_28 (dk_at dksX4_shown_0 2 rfl rfl)
theorem dX4_shown_3 : decode cX4_shown 3 = .ok (.iload_n 3, 1) := dk_29 (dk_at dksX4_shown_0 3 rfl rfl)
theorem dX4_shown_4 : decode cX4_shown 4 = .ok (.iload 4, 2) := dk_21 4 (dk_at dksX4_shown_0 4 rfl rfl)
theorem dX4_shown_6 : decode cX4_shown 6 = .ok (.invokevirtual 449, 3) := dk_182 1 193 (dk_at dksX4_shown_0 6 rfl rfl)
theorem dX4_shown_9 : decode cX4_shown 9 = .ok (.ifCond .ne 6, 3) := dk_154 0 6 (dk_at dksX4_shown_0 9 rfl rfl)
theorem dX4_shown_12 : decode cX4_shown 12 = .ok (.bipush (-2), 2) := dk_16 254 (dk_at dksX4_shown_0 12 rfl rfl)
theorem dX4_shown_14 : decode cX4_shown 14 = .ok (.ireturn, 1) := dk_172 (dk_at dksX4_shown_0 14 rfl rfl)
theorem dX4_shown_15 : decode cX4_shown 15 = .ok (.aload_n 0, 1) := dk_42 (dk_at dksX4_shown_0 15 rfl rfl)
theorem dX4_shown_16 : decode cX4_shown 16 = .ok (.invokevirtual 410, 3) := dk_182 1 154 (dk_at dksX4_shown_0 16 rfl rfl)
theorem dX4_shown_19 : decode cX4_shown 19 = .ok (.ifCond .eq 15, 3) := dk_153 0 15 (dk_at dksX4_shown_0 19 rfl rfl)
theorem dX4_shown_22 : decode cX4_shown 22 = .ok (.aload_n 0, 1) := dk_42 (dk_at dksX4_shown_0 22 rfl rfl)
theorem dX4_shown_23 : decode cX4_shown 23 = .ok (.iload_n 1, 1) := dk_27 (dk_at dksX4_shown_0 23 rfl rfl)
theorem dX4_shown_24 : decode cX4_shown 24 = .ok (.iload_n 2, 1) := dk_28 (dk_at dksX4_shown_1 0 rfl rfl)
theorem dX4_shown_25 : decode cX4_shown 25 = .ok (.iload_n 3, 1) := dk_29 (dk_at dksX4_shown_1 1 rfl rfl)
theorem dX4_shown_26 : decode cX4_shown 26 = .ok (.iload 4, 2) := dk_21 4 (dk_at dksX4_shown_1 2 rfl rfl)
theorem dX4_shown_28 : decode cX4_shown 28 = .ok (.invokevirtual 452, 3) := dk_182 1 196 (dk_at dksX4_shown_1 4 rfl rfl)
theorem dX4_shown_31 : decode cX4_shown 31 = .ok (.goto 5, 3) := dk_167 0 5 (dk_at dksX4_shown_1 7 rfl rfl)
theorem dX4_shown_34 : decode cX4_shown 34 = .ok (.bipush (-3), 2) := dk_16 253 (dk_at dksX4_shown_1 10 rfl rfl)
theorem dX4_shown_36 : decode cX4_shown 36 = .ok (.ireturn, 1) := dk_172 (dk_at dksX4_shown_1 12 rfl rfl)
abbrev cX4_both : ByteArray := prog_19_method_96_code
def yX4_both : MethodName := ⟨RX4, "both", "(IIII)I"⟩
def dkwX4_both_4 : List UInt8 := [21, 4, 182, 1, 184, 172]
abbrev dktX4_both_4 : List UInt8 := dkwX4_both_4 ++ []
def dkwX4_both_3 : List UInt8 := [28, 3, 21, 5, 182, 1, 181, 153, 0, 7, 4, 167, 0, 4, 3, 84, 132, 5, 1, 167, 255, 210, 42, 29]
abbrev dktX4_both_3 : List UInt8 := dkwX4_both_3 ++ dktX4_both_4
def dkwX4_both_2 : List UInt8 := [180, 1, 145, 162, 0, 43, 42, 180, 0, 80, 21, 5, 42, 27, 3, 21, 5, 182, 1, 181, 153, 0, 18, 42]
abbrev dktX4_both_2 : List UInt8 := dkwX4_both_2 ++ dktX4_both_3
def dkwX4_both_1 : List UInt8 := [154, 0, 6, 16, 254, 172, 42, 182, 1, 154, 154, 0, 6, 16, 253, 172, 3, 54, 5, 21, 5, 42]
abbrev dktX4_both_1 : List UInt8 := dkwX4_both_1 ++ dktX4_both_2
def dkwX4_both_0 : List UInt8 := [42, 27, 28, 182, 1, 199, 153, 0, 20, 42, 29, 182, 1, 58, 153, 0, 12, 42, 21, 4, 182, 1, 134]
abbrev dktX4_both_0 : List UInt8 := dkwX4_both_0 ++ dktX4_both_1
theorem dksX4_both_0 : cX4_both.data.toList.drop 0 = dktX4_both_0 := by decide +kernel
theorem dksX4_both_1 : cX4_both.data.toList.drop 23 = dktX4_both_1 := dk_seg dksX4_both_0 23 rfl rfl
theorem dksX4_both_2 : cX4_both.data.toList.drop 45 = dktX4_both_2 := dk_seg dksX4_both_1 22 rfl rfl
theorem dksX4_both_3 : cX4_both.data.toList.drop 69 = dktX4_both_3 := dk_seg dksX4_both_2 24 rfl rfl
theorem dksX4_both_4 : cX4_both.data.toList.drop 93 = dktX4_both_4 := dk_seg dksX4_both_3 24 rfl rfl
theorem dX4_both_0 : decode cX4_both 0 = .ok (.aload_n 0, 1) := dk_42 (dk_at dksX4_both_0 0 rfl rfl)
theorem dX4_both_1 : decode cX4_both 1 = .ok (.iload_n 1, 1) := dk_27 (dk_at dksX4_both_0 1 rfl rfl)
theorem dX4_both_2 : decode cX4_both 2 = .ok (.iload_n 2, 1) := dk_28 (dk_at dksX4_both_0 2 rfl rfl)
theorem dX4_both_3 : decode cX4_both 3 = .ok (.invokevirtual 455, 3) := dk_182 1 199 (dk_at dksX4_both_0 3 rfl rfl)
theorem dX4_both_6 : decode cX4_both 6 = .ok (.ifCond .eq 20, 3) := dk_153 0 20 (dk_at dksX4_both_0 6 rfl rfl)
theorem dX4_both_9 : decode cX4_both 9 = .ok (.aload_n 0, 1) := dk_42 (dk_at dksX4_both_0 9 rfl rfl)
theorem dX4_both_10 : decode cX4_both 10 = .ok (.iload_n 3, 1) := dk_29 (dk_at dksX4_both_0 10 rfl rfl)
theorem dX4_both_11 : decode cX4_both 11 = .ok (.invokevirtual 314, 3) := dk_182 1 58 (dk_at dksX4_both_0 11 rfl rfl)
theorem dX4_both_14 : decode cX4_both 14 = .ok (.ifCond .eq 12, 3) := dk_153 0 12 (dk_at dksX4_both_0 14 rfl rfl)
theorem dX4_both_17 : decode cX4_both 17 = .ok (.aload_n 0, 1) := dk_42 (dk_at dksX4_both_0 17 rfl rfl)
theorem dX4_both_18 : decode cX4_both 18 = .ok (.iload 4, 2) := dk_21 4 (dk_at dksX4_both_0 18 rfl rfl)
theorem dX4_both_20 : decode cX4_both 20 = .ok (.invokevirtual 390, 3) := dk_182 1 134 (dk_at dksX4_both_0 20 rfl rfl)
theorem dX4_both_23 : decode cX4_both 23 = .ok (.ifCond .ne 6, 3) := dk_154 0 6 (dk_at dksX4_both_1 0 rfl rfl)
theorem dX4_both_26 : decode cX4_both 26 = .ok (.bipush (-2), 2) := dk_16 254 (dk_at dksX4_both_1 3 rfl rfl)
theorem dX4_both_28 : decode cX4_both 28 = .ok (.ireturn, 1) := dk_172 (dk_at dksX4_both_1 5 rfl rfl)
theorem dX4_both_29 : decode cX4_both 29 = .ok (.aload_n 0, 1) := dk_42 (dk_at dksX4_both_1 6 rfl rfl)
theorem dX4_both_30 : decode cX4_both 30 = .ok (.invokevirtual 410, 3) := dk_182 1 154 (dk_at dksX4_both_1 7 rfl rfl)
theorem dX4_both_33 : decode cX4_both 33 = .ok (.ifCond .ne 6, 3) := dk_154 0 6 (dk_at dksX4_both_1 10 rfl rfl)
theorem dX4_both_36 : decode cX4_both 36 = .ok (.bipush (-3), 2) := dk_16 253 (dk_at dksX4_both_1 13 rfl rfl)
theorem dX4_both_38 : decode cX4_both 38 = .ok (.ireturn, 1) := dk_172 (dk_at dksX4_both_1 15 rfl rfl)
theorem dX4_both_39 : decode cX4_both 39 = .ok (.iconst 0, 1) := dk_3 (dk_at dksX4_both_1 16 rfl rfl)
theorem dX4_both_40 : decode cX4_both 40 = .ok (.istore 5, 2) := dk_54 5 (dk_at dksX4_both_1 17 rfl rfl)
theorem dX4_both_42 : decode cX4_both 42 = .ok (.iload 5, 2) := dk_21 5 (dk_at dksX4_both_1 19 rfl rfl)
theorem dX4_both_44 : decode cX4_both 44 = .ok (.aload_n 0, 1) := dk_42 (dk_at dksX4_both_1 21 rfl rfl)
theorem dX4_both_45 : decode cX4_both 45 = .ok (.getfield 401, 3) := dk_180 1 145 (dk_at dksX4_both_2 0 rfl rfl)
theorem dX4_both_48 : decode cX4_both 48 = .ok (.if_icmp .ge 43, 3) := dk_162 0 43 (dk_at dksX4_both_2 3 rfl rfl)
theorem dX4_both_51 : decode cX4_both 51 = .ok (.aload_n 0, 1) := dk_42 (dk_at dksX4_both_2 6 rfl rfl)
theorem dX4_both_52 : decode cX4_both 52 = .ok (.getfield 80, 3) := dk_180 0 80 (dk_at dksX4_both_2 7 rfl rfl)
theorem dX4_both_55 : decode cX4_both 55 = .ok (.iload 5, 2) := dk_21 5 (dk_at dksX4_both_2 10 rfl rfl)
theorem dX4_both_57 : decode cX4_both 57 = .ok (.aload_n 0, 1) := dk_42 (dk_at dksX4_both_2 12 rfl rfl)
theorem dX4_both_58 : decode cX4_both 58 = .ok (.iload_n 1, 1) := dk_27 (dk_at dksX4_both_2 13 rfl rfl)
theorem dX4_both_59 : decode cX4_both 59 = .ok (.iconst 0, 1) := dk_3 (dk_at dksX4_both_2 14 rfl rfl)
theorem dX4_both_60 : decode cX4_both 60 = .ok (.iload 5, 2) := dk_21 5 (dk_at dksX4_both_2 15 rfl rfl)
theorem dX4_both_62 : decode cX4_both 62 = .ok (.invokevirtual 437, 3) := dk_182 1 181 (dk_at dksX4_both_2 17 rfl rfl)
theorem dX4_both_65 : decode cX4_both 65 = .ok (.ifCond .eq 18, 3) := dk_153 0 18 (dk_at dksX4_both_2 20 rfl rfl)
theorem dX4_both_68 : decode cX4_both 68 = .ok (.aload_n 0, 1) := dk_42 (dk_at dksX4_both_2 23 rfl rfl)
theorem dX4_both_69 : decode cX4_both 69 = .ok (.iload_n 2, 1) := dk_28 (dk_at dksX4_both_3 0 rfl rfl)
theorem dX4_both_70 : decode cX4_both 70 = .ok (.iconst 0, 1) := dk_3 (dk_at dksX4_both_3 1 rfl rfl)
theorem dX4_both_71 : decode cX4_both 71 = .ok (.iload 5, 2) := dk_21 5 (dk_at dksX4_both_3 2 rfl rfl)
theorem dX4_both_73 : decode cX4_both 73 = .ok (.invokevirtual 437, 3) := dk_182 1 181 (dk_at dksX4_both_3 4 rfl rfl)
theorem dX4_both_76 : decode cX4_both 76 = .ok (.ifCond .eq 7, 3) := dk_153 0 7 (dk_at dksX4_both_3 7 rfl rfl)
theorem dX4_both_79 : decode cX4_both 79 = .ok (.iconst 1, 1) := dk_4 (dk_at dksX4_both_3 10 rfl rfl)
theorem dX4_both_80 : decode cX4_both 80 = .ok (.goto 4, 3) := dk_167 0 4 (dk_at dksX4_both_3 11 rfl rfl)
theorem dX4_both_83 : decode cX4_both 83 = .ok (.iconst 0, 1) := dk_3 (dk_at dksX4_both_3 14 rfl rfl)
theorem dX4_both_84 : decode cX4_both 84 = .ok (.bastore, 1) := dk_84 (dk_at dksX4_both_3 15 rfl rfl)
theorem dX4_both_85 : decode cX4_both 85 = .ok (.iinc 5 1, 3) := dk_132 5 1 (dk_at dksX4_both_3 16 rfl rfl)
theorem dX4_both_88 : decode cX4_both 88 = .ok (.goto (-46), 3) := dk_167 255 210 (dk_at dksX4_both_3 19 rfl rfl)
theorem dX4_both_91 : decode cX4_both 91 = .ok (.aload_n 0, 1) := dk_42 (dk_at dksX4_both_3 22 rfl rfl)
theorem dX4_both_92 : decode cX4_both 92 = .ok (.iload_n 3, 1) := dk_29 (dk_at dksX4_both_3 23 rfl rfl)
theorem dX4_both_93 : decode cX4_both 93 = .ok (.iload 4, 2) := dk_21 4 (dk_at dksX4_both_4 0 rfl rfl)
theorem dX4_both_95 : decode cX4_both 95 = .ok (.invokevirtual 440, 3) := dk_182 1 184 (dk_at dksX4_both_4 2 rfl rfl)
theorem dX4_both_98 : decode cX4_both 98 = .ok (.ireturn, 1) := dk_172 (dk_at dksX4_both_4 5 rfl rfl)
abbrev cX4_areTwo : ByteArray := prog_19_method_95_code
def yX4_areTwo : MethodName := ⟨RX4, "areTwo", "(II)Z"⟩
def dkwX4_areTwo_1 : List UInt8 := [167, 0, 4, 3, 172]
abbrev dktX4_areTwo_1 : List UInt8 := dkwX4_areTwo_1 ++ []
def dkwX4_areTwo_0 : List UInt8 := [42, 27, 182, 1, 51, 153, 0, 20, 42, 28, 182, 1, 51, 153, 0, 12, 27, 28, 159, 0, 7, 4]
abbrev dktX4_areTwo_0 : List UInt8 := dkwX4_areTwo_0 ++ dktX4_areTwo_1
theorem dksX4_areTwo_0 : cX4_areTwo.data.toList.drop 0 = dktX4_areTwo_0 := by decide +kernel
theorem dksX4_areTwo_1 : cX4_areTwo.data.toList.drop 22 = dktX4_areTwo_1 := dk_seg dksX4_areTwo_0 22 rfl rfl
theorem dX4_areTwo_0 : decode cX4_areTwo 0 = .ok (.aload_n 0, 1) := dk_42 (dk_at dksX4_areTwo_0 0 rfl rfl)
theorem dX4_areTwo_1 : decode cX4_areTwo 1 = .ok (.iload_n 1, 1) := dk_27 (dk_at dksX4_areTwo_0 1 rfl rfl)
theorem dX4_areTwo_2 : decode cX4_areTwo 2 = .ok (.invokevirtual 307, 3) := dk_182 1 51 (dk_at dksX4_areTwo_0 2 rfl rfl)
theorem dX4_areTwo_5 : decode cX4_areTwo 5 = .ok (.ifCond .eq 20, 3) := dk_153 0 20 (dk_at dksX4_areTwo_0 5 rfl rfl)
theorem dX4_areTwo_8 : decode cX4_areTwo 8 = .ok (.aload_n 0, 1) := dk_42 (dk_at dksX4_areTwo_0 8 rfl rfl)
theorem dX4_areTwo_9 : decode cX4_areTwo 9 = .ok (.iload_n 2, 1) := dk_28 (dk_at dksX4_areTwo_0 9 rfl rfl)
theorem dX4_areTwo_10 : decode cX4_areTwo 10 = .ok (.invokevirtual 307, 3) := dk_182 1 51 (dk_at dksX4_areTwo_0 10 rfl rfl)
theorem dX4_areTwo_13 : decode cX4_areTwo 13 = .ok (.ifCond .eq 12, 3) := dk_153 0 12 (dk_at dksX4_areTwo_0 13 rfl rfl)
theorem dX4_areTwo_16 : decode cX4_areTwo 16 = .ok (.iload_n 1, 1) := dk_27 (dk_at dksX4_areTwo_0 16 rfl rfl)
theorem dX4_areTwo_17 : decode cX4_areTwo 17 = .ok (.iload_n 2, 1) := dk_28 (dk_at dksX4_areTwo_0 17 rfl rfl)
theorem dX4_areTwo_18 : decode cX4_areTwo 18 = .ok (.if_icmp .eq 7, 3) := dk_159 0 7 (dk_at dksX4_areTwo_0 18 rfl rfl)
theorem dX4_areTwo_21 : decode cX4_areTwo 21 = .ok (.iconst 1, 1) := dk_4 (dk_at dksX4_areTwo_0 21 rfl rfl)
theorem dX4_areTwo_22 : decode cX4_areTwo 22 = .ok (.goto 4, 3) := dk_167 0 4 (dk_at dksX4_areTwo_1 0 rfl rfl)
theorem dX4_areTwo_25 : decode cX4_areTwo 25 = .ok (.iconst 0, 1) := dk_3 (dk_at dksX4_areTwo_1 3 rfl rfl)
theorem dX4_areTwo_26 : decode cX4_areTwo 26 = .ok (.ireturn, 1) := dk_172 (dk_at dksX4_areTwo_1 4 rfl rfl)
abbrev cX4_learns : ByteArray := prog_19_method_97_code
def yX4_learns : MethodName := ⟨RX4, "learns", "(III)I"⟩
def dkwX4_learns_4 : List UInt8 := [159, 0, 6, 21, 4, 172, 132, 4, 1, 167, 255, 193, 2, 172]
abbrev dktX4_learns_4 : List UInt8 := dkwX4_learns_4 ++ []
def dkwX4_learns_3 : List UInt8 := [3, 21, 5, 21, 4, 182, 1, 177, 84, 132, 5, 1, 167, 255, 227, 42, 28, 29, 182, 1, 184, 2]
abbrev dktX4_learns_3 : List UInt8 := dkwX4_learns_3 ++ dktX4_learns_4
def dkwX4_learns_2 : List UInt8 := [46, 163, 0, 57, 3, 54, 5, 21, 5, 42, 180, 1, 145, 162, 0, 26, 42, 180, 0, 80, 21, 5, 42, 27]
abbrev dktX4_learns_2 : List UInt8 := dkwX4_learns_2 ++ dktX4_learns_3
def dkwX4_learns_1 : List UInt8 := [16, 254, 172, 42, 182, 1, 154, 154, 0, 6, 16, 253, 172, 3, 54, 4, 21, 4, 42, 180, 0, 9, 16, 6]
abbrev dktX4_learns_1 : List UInt8 := dkwX4_learns_1 ++ dktX4_learns_2
def dkwX4_learns_0 : List UInt8 := [42, 27, 182, 1, 51, 153, 0, 19, 42, 28, 182, 1, 58, 153, 0, 11, 42, 29, 182, 1, 134, 154, 0, 6]
abbrev dktX4_learns_0 : List UInt8 := dkwX4_learns_0 ++ dktX4_learns_1
theorem dksX4_learns_0 : cX4_learns.data.toList.drop 0 = dktX4_learns_0 := by decide +kernel
theorem dksX4_learns_1 : cX4_learns.data.toList.drop 24 = dktX4_learns_1 := dk_seg dksX4_learns_0 24 rfl rfl
theorem dksX4_learns_2 : cX4_learns.data.toList.drop 48 = dktX4_learns_2 := dk_seg dksX4_learns_1 24 rfl rfl
theorem dksX4_learns_3 : cX4_learns.data.toList.drop 72 = dktX4_learns_3 := dk_seg dksX4_learns_2 24 rfl rfl
theorem dksX4_learns_4 : cX4_learns.data.toList.drop 94 = dktX4_learns_4 := dk_seg dksX4_learns_3 22 rfl rfl
theorem dX4_learns_0 : decode cX4_learns 0 = .ok (.aload_n 0, 1) := dk_42 (dk_at dksX4_learns_0 0 rfl rfl)
theorem dX4_learns_1 : decode cX4_learns 1 = .ok (.iload_n 1, 1) := dk_27 (dk_at dksX4_learns_0 1 rfl rfl)
theorem dX4_learns_2 : decode cX4_learns 2 = .ok (.invokevirtual 307, 3) := dk_182 1 51 (dk_at dksX4_learns_0 2 rfl rfl)
theorem dX4_learns_5 : decode cX4_learns 5 = .ok (.ifCond .eq 19, 3) := dk_153 0 19 (dk_at dksX4_learns_0 5 rfl rfl)
theorem dX4_learns_8 : decode cX4_learns 8 = .ok (.aload_n 0, 1) := dk_42 (dk_at dksX4_learns_0 8 rfl rfl)
theorem dX4_learns_9 : decode cX4_learns 9 = .ok (.iload_n 2, 1) := dk_28 (dk_at dksX4_learns_0 9 rfl rfl)
theorem dX4_learns_10 : decode cX4_learns 10 = .ok (.invokevirtual 314, 3) := dk_182 1 58 (dk_at dksX4_learns_0 10 rfl rfl)
theorem dX4_learns_13 : decode cX4_learns 13 = .ok (.ifCond .eq 11, 3) := dk_153 0 11 (dk_at dksX4_learns_0 13 rfl rfl)
theorem dX4_learns_16 : decode cX4_learns 16 = .ok (.aload_n 0, 1) := dk_42 (dk_at dksX4_learns_0 16 rfl rfl)
theorem dX4_learns_17 : decode cX4_learns 17 = .ok (.iload_n 3, 1) := dk_29 (dk_at dksX4_learns_0 17 rfl rfl)
theorem dX4_learns_18 : decode cX4_learns 18 = .ok (.invokevirtual 390, 3) := dk_182 1 134 (dk_at dksX4_learns_0 18 rfl rfl)
theorem dX4_learns_21 : decode cX4_learns 21 = .ok (.ifCond .ne 6, 3) := dk_154 0 6 (dk_at dksX4_learns_0 21 rfl rfl)
theorem dX4_learns_24 : decode cX4_learns 24 = .ok (.bipush (-2), 2) := dk_16 254 (dk_at dksX4_learns_1 0 rfl rfl)
theorem dX4_learns_26 : decode cX4_learns 26 = .ok (.ireturn, 1) := dk_172 (dk_at dksX4_learns_1 2 rfl rfl)
theorem dX4_learns_27 : decode cX4_learns 27 = .ok (.aload_n 0, 1) := dk_42 (dk_at dksX4_learns_1 3 rfl rfl)
theorem dX4_learns_28 : decode cX4_learns 28 = .ok (.invokevirtual 410, 3) := dk_182 1 154 (dk_at dksX4_learns_1 4 rfl rfl)
theorem dX4_learns_31 : decode cX4_learns 31 = .ok (.ifCond .ne 6, 3) := dk_154 0 6 (dk_at dksX4_learns_1 7 rfl rfl)
theorem dX4_learns_34 : decode cX4_learns 34 = .ok (.bipush (-3), 2) := dk_16 253 (dk_at dksX4_learns_1 10 rfl rfl)
theorem dX4_learns_36 : decode cX4_learns 36 = .ok (.ireturn, 1) := dk_172 (dk_at dksX4_learns_1 12 rfl rfl)
theorem dX4_learns_37 : decode cX4_learns 37 = .ok (.iconst 0, 1) := dk_3 (dk_at dksX4_learns_1 13 rfl rfl)
theorem dX4_learns_38 : decode cX4_learns 38 = .ok (.istore 4, 2) := dk_54 4 (dk_at dksX4_learns_1 14 rfl rfl)
theorem dX4_learns_40 : decode cX4_learns 40 = .ok (.iload 4, 2) := dk_21 4 (dk_at dksX4_learns_1 16 rfl rfl)
theorem dX4_learns_42 : decode cX4_learns 42 = .ok (.aload_n 0, 1) := dk_42 (dk_at dksX4_learns_1 18 rfl rfl)
theorem dX4_learns_43 : decode cX4_learns 43 = .ok (.getfield 9, 3) := dk_180 0 9 (dk_at dksX4_learns_1 19 rfl rfl)
theorem dX4_learns_46 : decode cX4_learns 46 = .ok (.bipush 6, 2) := dk_16 6 (dk_at dksX4_learns_1 22 rfl rfl)
theorem dX4_learns_48 : decode cX4_learns 48 = .ok (.iaload, 1) := dk_46 (dk_at dksX4_learns_2 0 rfl rfl)
theorem dX4_learns_49 : decode cX4_learns 49 = .ok (.if_icmp .gt 57, 3) := dk_163 0 57 (dk_at dksX4_learns_2 1 rfl rfl)
theorem dX4_learns_52 : decode cX4_learns 52 = .ok (.iconst 0, 1) := dk_3 (dk_at dksX4_learns_2 4 rfl rfl)
theorem dX4_learns_53 : decode cX4_learns 53 = .ok (.istore 5, 2) := dk_54 5 (dk_at dksX4_learns_2 5 rfl rfl)
theorem dX4_learns_55 : decode cX4_learns 55 = .ok (.iload 5, 2) := dk_21 5 (dk_at dksX4_learns_2 7 rfl rfl)
theorem dX4_learns_57 : decode cX4_learns 57 = .ok (.aload_n 0, 1) := dk_42 (dk_at dksX4_learns_2 9 rfl rfl)
theorem dX4_learns_58 : decode cX4_learns 58 = .ok (.getfield 401, 3) := dk_180 1 145 (dk_at dksX4_learns_2 10 rfl rfl)
theorem dX4_learns_61 : decode cX4_learns 61 = .ok (.if_icmp .ge 26, 3) := dk_162 0 26 (dk_at dksX4_learns_2 13 rfl rfl)
theorem dX4_learns_64 : decode cX4_learns 64 = .ok (.aload_n 0, 1) := dk_42 (dk_at dksX4_learns_2 16 rfl rfl)
theorem dX4_learns_65 : decode cX4_learns 65 = .ok (.getfield 80, 3) := dk_180 0 80 (dk_at dksX4_learns_2 17 rfl rfl)
theorem dX4_learns_68 : decode cX4_learns 68 = .ok (.iload 5, 2) := dk_21 5 (dk_at dksX4_learns_2 20 rfl rfl)
theorem dX4_learns_70 : decode cX4_learns 70 = .ok (.aload_n 0, 1) := dk_42 (dk_at dksX4_learns_2 22 rfl rfl)
theorem dX4_learns_71 : decode cX4_learns 71 = .ok (.iload_n 1, 1) := dk_27 (dk_at dksX4_learns_2 23 rfl rfl)
theorem dX4_learns_72 : decode cX4_learns 72 = .ok (.iconst 0, 1) := dk_3 (dk_at dksX4_learns_3 0 rfl rfl)
theorem dX4_learns_73 : decode cX4_learns 73 = .ok (.iload 5, 2) := dk_21 5 (dk_at dksX4_learns_3 1 rfl rfl)
theorem dX4_learns_75 : decode cX4_learns 75 = .ok (.iload 4, 2) := dk_21 4 (dk_at dksX4_learns_3 3 rfl rfl)
theorem dX4_learns_77 : decode cX4_learns 77 = .ok (.invokevirtual 433, 3) := dk_182 1 177 (dk_at dksX4_learns_3 5 rfl rfl)
theorem dX4_learns_80 : decode cX4_learns 80 = .ok (.bastore, 1) := dk_84 (dk_at dksX4_learns_3 8 rfl rfl)
theorem dX4_learns_81 : decode cX4_learns 81 = .ok (.iinc 5 1, 3) := dk_132 5 1 (dk_at dksX4_learns_3 9 rfl rfl)
theorem dX4_learns_84 : decode cX4_learns 84 = .ok (.goto (-29), 3) := dk_167 255 227 (dk_at dksX4_learns_3 12 rfl rfl)
theorem dX4_learns_87 : decode cX4_learns 87 = .ok (.aload_n 0, 1) := dk_42 (dk_at dksX4_learns_3 15 rfl rfl)
theorem dX4_learns_88 : decode cX4_learns 88 = .ok (.iload_n 2, 1) := dk_28 (dk_at dksX4_learns_3 16 rfl rfl)
theorem dX4_learns_89 : decode cX4_learns 89 = .ok (.iload_n 3, 1) := dk_29 (dk_at dksX4_learns_3 17 rfl rfl)
theorem dX4_learns_90 : decode cX4_learns 90 = .ok (.invokevirtual 440, 3) := dk_182 1 184 (dk_at dksX4_learns_3 18 rfl rfl)
theorem dX4_learns_93 : decode cX4_learns 93 = .ok (.iconst (-1), 1) := dk_2 (dk_at dksX4_learns_3 21 rfl rfl)
theorem dX4_learns_94 : decode cX4_learns 94 = .ok (.if_icmp .eq 6, 3) := dk_159 0 6 (dk_at dksX4_learns_4 0 rfl rfl)
theorem dX4_learns_97 : decode cX4_learns 97 = .ok (.iload 4, 2) := dk_21 4 (dk_at dksX4_learns_4 3 rfl rfl)
theorem dX4_learns_99 : decode cX4_learns 99 = .ok (.ireturn, 1) := dk_172 (dk_at dksX4_learns_4 5 rfl rfl)
theorem dX4_learns_100 : decode cX4_learns 100 = .ok (.iinc 4 1, 3) := dk_132 4 1 (dk_at dksX4_learns_4 6 rfl rfl)
theorem dX4_learns_103 : decode cX4_learns 103 = .ok (.goto (-63), 3) := dk_167 255 193 (dk_at dksX4_learns_4 9 rfl rfl)
theorem dX4_learns_106 : decode cX4_learns 106 = .ok (.iconst (-1), 1) := dk_2 (dk_at dksX4_learns_4 12 rfl rfl)
theorem dX4_learns_107 : decode cX4_learns 107 = .ok (.ireturn, 1) := dk_172 (dk_at dksX4_learns_4 13 rfl rfl)
abbrev cX4_sights : ByteArray := prog_19_method_98_code
def yX4_sights : MethodName := ⟨RX4, "sights", "(I)I"⟩
def dkwX4_sights_3 : List UInt8 := [167, 255, 224, 28, 21, 4, 153, 0, 7, 4, 167, 0, 4, 3, 96, 61, 132, 3, 1, 167, 255, 191, 28, 172]
abbrev dktX4_sights_3 : List UInt8 := dkwX4_sights_3 ++ []
def dkwX4_sights_2 : List UInt8 := [153, 0, 27, 42, 27, 21, 5, 29, 182, 1, 181, 154, 0, 7, 4, 167, 0, 4, 3, 54, 4, 132, 5, 1]
abbrev dktX4_sights_2 : List UInt8 := dkwX4_sights_2 ++ dktX4_sights_3
def dkwX4_sights_1 : List UInt8 := [62, 29, 42, 180, 1, 145, 162, 0, 63, 4, 54, 4, 3, 54, 5, 21, 5, 29, 162, 0, 32, 21, 4]
abbrev dktX4_sights_1 : List UInt8 := dkwX4_sights_1 ++ dktX4_sights_2
def dkwX4_sights_0 : List UInt8 := [42, 27, 182, 1, 51, 154, 0, 6, 16, 254, 172, 42, 182, 1, 154, 154, 0, 6, 16, 253, 172, 3, 61, 3]
abbrev dktX4_sights_0 : List UInt8 := dkwX4_sights_0 ++ dktX4_sights_1
theorem dksX4_sights_0 : cX4_sights.data.toList.drop 0 = dktX4_sights_0 := by decide +kernel
theorem dksX4_sights_1 : cX4_sights.data.toList.drop 24 = dktX4_sights_1 := dk_seg dksX4_sights_0 24 rfl rfl
theorem dksX4_sights_2 : cX4_sights.data.toList.drop 47 = dktX4_sights_2 := dk_seg dksX4_sights_1 23 rfl rfl
theorem dksX4_sights_3 : cX4_sights.data.toList.drop 71 = dktX4_sights_3 := dk_seg dksX4_sights_2 24 rfl rfl
theorem dX4_sights_0 : decode cX4_sights 0 = .ok (.aload_n 0, 1) := dk_42 (dk_at dksX4_sights_0 0 rfl rfl)
theorem dX4_sights_1 : decode cX4_sights 1 = .ok (.iload_n 1, 1) := dk_27 (dk_at dksX4_sights_0 1 rfl rfl)
theorem dX4_sights_2 : decode cX4_sights 2 = .ok (.invokevirtual 307, 3) := dk_182 1 51 (dk_at dksX4_sights_0 2 rfl rfl)
theorem dX4_sights_5 : decode cX4_sights 5 = .ok (.ifCond .ne 6, 3) := dk_154 0 6 (dk_at dksX4_sights_0 5 rfl rfl)
theorem dX4_sights_8 : decode cX4_sights 8 = .ok (.bipush (-2), 2) := dk_16 254 (dk_at dksX4_sights_0 8 rfl rfl)
theorem dX4_sights_10 : decode cX4_sights 10 = .ok (.ireturn, 1) := dk_172 (dk_at dksX4_sights_0 10 rfl rfl)
theorem dX4_sights_11 : decode cX4_sights 11 = .ok (.aload_n 0, 1) := dk_42 (dk_at dksX4_sights_0 11 rfl rfl)
theorem dX4_sights_12 : decode cX4_sights 12 = .ok (.invokevirtual 410, 3) := dk_182 1 154 (dk_at dksX4_sights_0 12 rfl rfl)
theorem dX4_sights_15 : decode cX4_sights 15 = .ok (.ifCond .ne 6, 3) := dk_154 0 6 (dk_at dksX4_sights_0 15 rfl rfl)
theorem dX4_sights_18 : decode cX4_sights 18 = .ok (.bipush (-3), 2) := dk_16 253 (dk_at dksX4_sights_0 18 rfl rfl)
theorem dX4_sights_20 : decode cX4_sights 20 = .ok (.ireturn, 1) := dk_172 (dk_at dksX4_sights_0 20 rfl rfl)
theorem dX4_sights_21 : decode cX4_sights 21 = .ok (.iconst 0, 1) := dk_3 (dk_at dksX4_sights_0 21 rfl rfl)
theorem dX4_sights_22 : decode cX4_sights 22 = .ok (.istore_n 2, 1) := dk_61 (dk_at dksX4_sights_0 22 rfl rfl)
theorem dX4_sights_23 : decode cX4_sights 23 = .ok (.iconst 0, 1) := dk_3 (dk_at dksX4_sights_0 23 rfl rfl)
theorem dX4_sights_24 : decode cX4_sights 24 = .ok (.istore_n 3, 1) := dk_62 (dk_at dksX4_sights_1 0 rfl rfl)
theorem dX4_sights_25 : decode cX4_sights 25 = .ok (.iload_n 3, 1) := dk_29 (dk_at dksX4_sights_1 1 rfl rfl)
theorem dX4_sights_26 : decode cX4_sights 26 = .ok (.aload_n 0, 1) := dk_42 (dk_at dksX4_sights_1 2 rfl rfl)
theorem dX4_sights_27 : decode cX4_sights 27 = .ok (.getfield 401, 3) := dk_180 1 145 (dk_at dksX4_sights_1 3 rfl rfl)
theorem dX4_sights_30 : decode cX4_sights 30 = .ok (.if_icmp .ge 63, 3) := dk_162 0 63 (dk_at dksX4_sights_1 6 rfl rfl)
theorem dX4_sights_33 : decode cX4_sights 33 = .ok (.iconst 1, 1) := dk_4 (dk_at dksX4_sights_1 9 rfl rfl)
theorem dX4_sights_34 : decode cX4_sights 34 = .ok (.istore 4, 2) := dk_54 4 (dk_at dksX4_sights_1 10 rfl rfl)
theorem dX4_sights_36 : decode cX4_sights 36 = .ok (.iconst 0, 1) := dk_3 (dk_at dksX4_sights_1 12 rfl rfl)
theorem dX4_sights_37 : decode cX4_sights 37 = .ok (.istore 5, 2) := dk_54 5 (dk_at dksX4_sights_1 13 rfl rfl)
theorem dX4_sights_39 : decode cX4_sights 39 = .ok (.iload 5, 2) := dk_21 5 (dk_at dksX4_sights_1 15 rfl rfl)
theorem dX4_sights_41 : decode cX4_sights 41 = .ok (.iload_n 3, 1) := dk_29 (dk_at dksX4_sights_1 17 rfl rfl)
theorem dX4_sights_42 : decode cX4_sights 42 = .ok (.if_icmp .ge 32, 3) := dk_162 0 32 (dk_at dksX4_sights_1 18 rfl rfl)
theorem dX4_sights_45 : decode cX4_sights 45 = .ok (.iload 4, 2) := dk_21 4 (dk_at dksX4_sights_1 21 rfl rfl)
theorem dX4_sights_47 : decode cX4_sights 47 = .ok (.ifCond .eq 27, 3) := dk_153 0 27 (dk_at dksX4_sights_2 0 rfl rfl)
theorem dX4_sights_50 : decode cX4_sights 50 = .ok (.aload_n 0, 1) := dk_42 (dk_at dksX4_sights_2 3 rfl rfl)
theorem dX4_sights_51 : decode cX4_sights 51 = .ok (.iload_n 1, 1) := dk_27 (dk_at dksX4_sights_2 4 rfl rfl)
theorem dX4_sights_52 : decode cX4_sights 52 = .ok (.iload 5, 2) := dk_21 5 (dk_at dksX4_sights_2 5 rfl rfl)
theorem dX4_sights_54 : decode cX4_sights 54 = .ok (.iload_n 3, 1) := dk_29 (dk_at dksX4_sights_2 7 rfl rfl)
theorem dX4_sights_55 : decode cX4_sights 55 = .ok (.invokevirtual 437, 3) := dk_182 1 181 (dk_at dksX4_sights_2 8 rfl rfl)
theorem dX4_sights_58 : decode cX4_sights 58 = .ok (.ifCond .ne 7, 3) := dk_154 0 7 (dk_at dksX4_sights_2 11 rfl rfl)
theorem dX4_sights_61 : decode cX4_sights 61 = .ok (.iconst 1, 1) := dk_4 (dk_at dksX4_sights_2 14 rfl rfl)
theorem dX4_sights_62 : decode cX4_sights 62 = .ok (.goto 4, 3) := dk_167 0 4 (dk_at dksX4_sights_2 15 rfl rfl)
theorem dX4_sights_65 : decode cX4_sights 65 = .ok (.iconst 0, 1) := dk_3 (dk_at dksX4_sights_2 18 rfl rfl)
theorem dX4_sights_66 : decode cX4_sights 66 = .ok (.istore 4, 2) := dk_54 4 (dk_at dksX4_sights_2 19 rfl rfl)
theorem dX4_sights_68 : decode cX4_sights 68 = .ok (.iinc 5 1, 3) := dk_132 5 1 (dk_at dksX4_sights_2 21 rfl rfl)
theorem dX4_sights_71 : decode cX4_sights 71 = .ok (.goto (-32), 3) := dk_167 255 224 (dk_at dksX4_sights_3 0 rfl rfl)
theorem dX4_sights_74 : decode cX4_sights 74 = .ok (.iload_n 2, 1) := dk_28 (dk_at dksX4_sights_3 3 rfl rfl)
theorem dX4_sights_75 : decode cX4_sights 75 = .ok (.iload 4, 2) := dk_21 4 (dk_at dksX4_sights_3 4 rfl rfl)
theorem dX4_sights_77 : decode cX4_sights 77 = .ok (.ifCond .eq 7, 3) := dk_153 0 7 (dk_at dksX4_sights_3 6 rfl rfl)
theorem dX4_sights_80 : decode cX4_sights 80 = .ok (.iconst 1, 1) := dk_4 (dk_at dksX4_sights_3 9 rfl rfl)
theorem dX4_sights_81 : decode cX4_sights 81 = .ok (.goto 4, 3) := dk_167 0 4 (dk_at dksX4_sights_3 10 rfl rfl)
theorem dX4_sights_84 : decode cX4_sights 84 = .ok (.iconst 0, 1) := dk_3 (dk_at dksX4_sights_3 13 rfl rfl)
theorem dX4_sights_85 : decode cX4_sights 85 = .ok (.iadd, 1) := dk_96 (dk_at dksX4_sights_3 14 rfl rfl)
theorem dX4_sights_86 : decode cX4_sights 86 = .ok (.istore_n 2, 1) := dk_61 (dk_at dksX4_sights_3 15 rfl rfl)
theorem dX4_sights_87 : decode cX4_sights 87 = .ok (.iinc 3 1, 3) := dk_132 3 1 (dk_at dksX4_sights_3 16 rfl rfl)
theorem dX4_sights_90 : decode cX4_sights 90 = .ok (.goto (-65), 3) := dk_167 255 191 (dk_at dksX4_sights_3 19 rfl rfl)
theorem dX4_sights_93 : decode cX4_sights 93 = .ok (.iload_n 2, 1) := dk_28 (dk_at dksX4_sights_3 22 rfl rfl)
theorem dX4_sights_94 : decode cX4_sights 94 = .ok (.ireturn, 1) := dk_172 (dk_at dksX4_sights_3 23 rfl rfl)
abbrev cX4_meets : ByteArray := prog_19_method_99_code
def yX4_meets : MethodName := ⟨RX4, "meets", "(II)I"⟩
def dkwX4_meets_5 : List UInt8 := [184, 1, 32, 5, 162, 0, 7, 4, 167, 0, 4, 3, 96, 62, 132, 4, 1, 167, 255, 149, 29, 172]
abbrev dktX4_meets_5 : List UInt8 := dkwX4_meets_5 ++ []
def dkwX4_meets_4 : List UInt8 := [100, 184, 1, 32, 5, 162, 0, 29, 42, 180, 0, 37, 21, 5, 46, 42, 180, 0, 37, 21, 6, 46, 100]
abbrev dktX4_meets_4 : List UInt8 := dkwX4_meets_4 ++ dktX4_meets_5
def dkwX4_meets_3 : List UInt8 := [180, 0, 34, 21, 6, 46, 2, 159, 0, 51, 42, 180, 0, 34, 21, 5, 46, 42, 180, 0, 34, 21, 6, 46]
abbrev dktX4_meets_3 : List UInt8 := dkwX4_meets_3 ++ dktX4_meets_4
def dkwX4_meets_2 : List UInt8 := [16, 40, 28, 104, 21, 4, 96, 54, 6, 29, 42, 180, 0, 34, 21, 5, 46, 2, 159, 0, 62, 42]
abbrev dktX4_meets_2 : List UInt8 := dkwX4_meets_2 ++ dktX4_meets_3
def dkwX4_meets_1 : List UInt8 := [3, 54, 4, 21, 4, 42, 180, 0, 9, 16, 6, 46, 162, 0, 101, 16, 40, 27, 104, 21, 4, 96, 54, 5]
abbrev dktX4_meets_1 : List UInt8 := dkwX4_meets_1 ++ dktX4_meets_2
def dkwX4_meets_0 : List UInt8 := [42, 27, 28, 182, 1, 199, 154, 0, 6, 16, 254, 172, 42, 27, 182, 1, 48, 42, 28, 182, 1, 48, 3, 62]
abbrev dktX4_meets_0 : List UInt8 := dkwX4_meets_0 ++ dktX4_meets_1
theorem dksX4_meets_0 : cX4_meets.data.toList.drop 0 = dktX4_meets_0 := by decide +kernel
theorem dksX4_meets_1 : cX4_meets.data.toList.drop 24 = dktX4_meets_1 := dk_seg dksX4_meets_0 24 rfl rfl
theorem dksX4_meets_2 : cX4_meets.data.toList.drop 48 = dktX4_meets_2 := dk_seg dksX4_meets_1 24 rfl rfl
theorem dksX4_meets_3 : cX4_meets.data.toList.drop 70 = dktX4_meets_3 := dk_seg dksX4_meets_2 22 rfl rfl
theorem dksX4_meets_4 : cX4_meets.data.toList.drop 94 = dktX4_meets_4 := dk_seg dksX4_meets_3 24 rfl rfl
theorem dksX4_meets_5 : cX4_meets.data.toList.drop 117 = dktX4_meets_5 := dk_seg dksX4_meets_4 23 rfl rfl
theorem dX4_meets_0 : decode cX4_meets 0 = .ok (.aload_n 0, 1) := dk_42 (dk_at dksX4_meets_0 0 rfl rfl)
theorem dX4_meets_1 : decode cX4_meets 1 = .ok (.iload_n 1, 1) := dk_27 (dk_at dksX4_meets_0 1 rfl rfl)
theorem dX4_meets_2 : decode cX4_meets 2 = .ok (.iload_n 2, 1) := dk_28 (dk_at dksX4_meets_0 2 rfl rfl)
theorem dX4_meets_3 : decode cX4_meets 3 = .ok (.invokevirtual 455, 3) := dk_182 1 199 (dk_at dksX4_meets_0 3 rfl rfl)
theorem dX4_meets_6 : decode cX4_meets 6 = .ok (.ifCond .ne 6, 3) := dk_154 0 6 (dk_at dksX4_meets_0 6 rfl rfl)
theorem dX4_meets_9 : decode cX4_meets 9 = .ok (.bipush (-2), 2) := dk_16 254 (dk_at dksX4_meets_0 9 rfl rfl)
theorem dX4_meets_11 : decode cX4_meets 11 = .ok (.ireturn, 1) := dk_172 (dk_at dksX4_meets_0 11 rfl rfl)
theorem dX4_meets_12 : decode cX4_meets 12 = .ok (.aload_n 0, 1) := dk_42 (dk_at dksX4_meets_0 12 rfl rfl)
theorem dX4_meets_13 : decode cX4_meets 13 = .ok (.iload_n 1, 1) := dk_27 (dk_at dksX4_meets_0 13 rfl rfl)
theorem dX4_meets_14 : decode cX4_meets 14 = .ok (.invokevirtual 304, 3) := dk_182 1 48 (dk_at dksX4_meets_0 14 rfl rfl)
theorem dX4_meets_17 : decode cX4_meets 17 = .ok (.aload_n 0, 1) := dk_42 (dk_at dksX4_meets_0 17 rfl rfl)
theorem dX4_meets_18 : decode cX4_meets 18 = .ok (.iload_n 2, 1) := dk_28 (dk_at dksX4_meets_0 18 rfl rfl)
theorem dX4_meets_19 : decode cX4_meets 19 = .ok (.invokevirtual 304, 3) := dk_182 1 48 (dk_at dksX4_meets_0 19 rfl rfl)
theorem dX4_meets_22 : decode cX4_meets 22 = .ok (.iconst 0, 1) := dk_3 (dk_at dksX4_meets_0 22 rfl rfl)
theorem dX4_meets_23 : decode cX4_meets 23 = .ok (.istore_n 3, 1) := dk_62 (dk_at dksX4_meets_0 23 rfl rfl)
theorem dX4_meets_24 : decode cX4_meets 24 = .ok (.iconst 0, 1) := dk_3 (dk_at dksX4_meets_1 0 rfl rfl)
theorem dX4_meets_25 : decode cX4_meets 25 = .ok (.istore 4, 2) := dk_54 4 (dk_at dksX4_meets_1 1 rfl rfl)
theorem dX4_meets_27 : decode cX4_meets 27 = .ok (.iload 4, 2) := dk_21 4 (dk_at dksX4_meets_1 3 rfl rfl)
theorem dX4_meets_29 : decode cX4_meets 29 = .ok (.aload_n 0, 1) := dk_42 (dk_at dksX4_meets_1 5 rfl rfl)
theorem dX4_meets_30 : decode cX4_meets 30 = .ok (.getfield 9, 3) := dk_180 0 9 (dk_at dksX4_meets_1 6 rfl rfl)
theorem dX4_meets_33 : decode cX4_meets 33 = .ok (.bipush 6, 2) := dk_16 6 (dk_at dksX4_meets_1 9 rfl rfl)
theorem dX4_meets_35 : decode cX4_meets 35 = .ok (.iaload, 1) := dk_46 (dk_at dksX4_meets_1 11 rfl rfl)
theorem dX4_meets_36 : decode cX4_meets 36 = .ok (.if_icmp .ge 101, 3) := dk_162 0 101 (dk_at dksX4_meets_1 12 rfl rfl)
theorem dX4_meets_39 : decode cX4_meets 39 = .ok (.bipush 40, 2) := dk_16 40 (dk_at dksX4_meets_1 15 rfl rfl)
theorem dX4_meets_41 : decode cX4_meets 41 = .ok (.iload_n 1, 1) := dk_27 (dk_at dksX4_meets_1 17 rfl rfl)
theorem dX4_meets_42 : decode cX4_meets 42 = .ok (.imul, 1) := dk_104 (dk_at dksX4_meets_1 18 rfl rfl)
theorem dX4_meets_43 : decode cX4_meets 43 = .ok (.iload 4, 2) := dk_21 4 (dk_at dksX4_meets_1 19 rfl rfl)
theorem dX4_meets_45 : decode cX4_meets 45 = .ok (.iadd, 1) := dk_96 (dk_at dksX4_meets_1 21 rfl rfl)
theorem dX4_meets_46 : decode cX4_meets 46 = .ok (.istore 5, 2) := dk_54 5 (dk_at dksX4_meets_1 22 rfl rfl)
theorem dX4_meets_48 : decode cX4_meets 48 = .ok (.bipush 40, 2) := dk_16 40 (dk_at dksX4_meets_2 0 rfl rfl)
theorem dX4_meets_50 : decode cX4_meets 50 = .ok (.iload_n 2, 1) := dk_28 (dk_at dksX4_meets_2 2 rfl rfl)
theorem dX4_meets_51 : decode cX4_meets 51 = .ok (.imul, 1) := dk_104 (dk_at dksX4_meets_2 3 rfl rfl)
theorem dX4_meets_52 : decode cX4_meets 52 = .ok (.iload 4, 2) := dk_21 4 (dk_at dksX4_meets_2 4 rfl rfl)
theorem dX4_meets_54 : decode cX4_meets 54 = .ok (.iadd, 1) := dk_96 (dk_at dksX4_meets_2 6 rfl rfl)
theorem dX4_meets_55 : decode cX4_meets 55 = .ok (.istore 6, 2) := dk_54 6 (dk_at dksX4_meets_2 7 rfl rfl)
theorem dX4_meets_57 : decode cX4_meets 57 = .ok (.iload_n 3, 1) := dk_29 (dk_at dksX4_meets_2 9 rfl rfl)
theorem dX4_meets_58 : decode cX4_meets 58 = .ok (.aload_n 0, 1) := dk_42 (dk_at dksX4_meets_2 10 rfl rfl)
theorem dX4_meets_59 : decode cX4_meets 59 = .ok (.getfield 34, 3) := dk_180 0 34 (dk_at dksX4_meets_2 11 rfl rfl)
theorem dX4_meets_62 : decode cX4_meets 62 = .ok (.iload 5, 2) := dk_21 5 (dk_at dksX4_meets_2 14 rfl rfl)
theorem dX4_meets_64 : decode cX4_meets 64 = .ok (.iaload, 1) := dk_46 (dk_at dksX4_meets_2 16 rfl rfl)
theorem dX4_meets_65 : decode cX4_meets 65 = .ok (.iconst (-1), 1) := dk_2 (dk_at dksX4_meets_2 17 rfl rfl)
theorem dX4_meets_66 : decode cX4_meets 66 = .ok (.if_icmp .eq 62, 3) := dk_159 0 62 (dk_at dksX4_meets_2 18 rfl rfl)
theorem dX4_meets_69 : decode cX4_meets 69 = .ok (.aload_n 0, 1) := dk_42 (dk_at dksX4_meets_2 21 rfl rfl)
theorem dX4_meets_70 : decode cX4_meets 70 = .ok (.getfield 34, 3) := dk_180 0 34 (dk_at dksX4_meets_3 0 rfl rfl)
theorem dX4_meets_73 : decode cX4_meets 73 = .ok (.iload 6, 2) := dk_21 6 (dk_at dksX4_meets_3 3 rfl rfl)
theorem dX4_meets_75 : decode cX4_meets 75 = .ok (.iaload, 1) := dk_46 (dk_at dksX4_meets_3 5 rfl rfl)
theorem dX4_meets_76 : decode cX4_meets 76 = .ok (.iconst (-1), 1) := dk_2 (dk_at dksX4_meets_3 6 rfl rfl)
theorem dX4_meets_77 : decode cX4_meets 77 = .ok (.if_icmp .eq 51, 3) := dk_159 0 51 (dk_at dksX4_meets_3 7 rfl rfl)
theorem dX4_meets_80 : decode cX4_meets 80 = .ok (.aload_n 0, 1) := dk_42 (dk_at dksX4_meets_3 10 rfl rfl)
theorem dX4_meets_81 : decode cX4_meets 81 = .ok (.getfield 34, 3) := dk_180 0 34 (dk_at dksX4_meets_3 11 rfl rfl)
theorem dX4_meets_84 : decode cX4_meets 84 = .ok (.iload 5, 2) := dk_21 5 (dk_at dksX4_meets_3 14 rfl rfl)
theorem dX4_meets_86 : decode cX4_meets 86 = .ok (.iaload, 1) := dk_46 (dk_at dksX4_meets_3 16 rfl rfl)
theorem dX4_meets_87 : decode cX4_meets 87 = .ok (.aload_n 0, 1) := dk_42 (dk_at dksX4_meets_3 17 rfl rfl)
theorem dX4_meets_88 : decode cX4_meets 88 = .ok (.getfield 34, 3) := dk_180 0 34 (dk_at dksX4_meets_3 18 rfl rfl)
theorem dX4_meets_91 : decode cX4_meets 91 = .ok (.iload 6, 2) := dk_21 6 (dk_at dksX4_meets_3 21 rfl rfl)
theorem dX4_meets_93 : decode cX4_meets 93 = .ok (.iaload, 1) := dk_46 (dk_at dksX4_meets_3 23 rfl rfl)
theorem dX4_meets_94 : decode cX4_meets 94 = .ok (.isub, 1) := dk_100 (dk_at dksX4_meets_4 0 rfl rfl)
theorem dX4_meets_95 : decode cX4_meets 95 = .ok (.invokestatic 288, 3) := dk_184 1 32 (dk_at dksX4_meets_4 1 rfl rfl)
theorem dX4_meets_98 : decode cX4_meets 98 = .ok (.iconst 2, 1) := dk_5 (dk_at dksX4_meets_4 4 rfl rfl)
theorem dX4_meets_99 : decode cX4_meets 99 = .ok (.if_icmp .ge 29, 3) := dk_162 0 29 (dk_at dksX4_meets_4 5 rfl rfl)
theorem dX4_meets_102 : decode cX4_meets 102 = .ok (.aload_n 0, 1) := dk_42 (dk_at dksX4_meets_4 8 rfl rfl)
theorem dX4_meets_103 : decode cX4_meets 103 = .ok (.getfield 37, 3) := dk_180 0 37 (dk_at dksX4_meets_4 9 rfl rfl)
theorem dX4_meets_106 : decode cX4_meets 106 = .ok (.iload 5, 2) := dk_21 5 (dk_at dksX4_meets_4 12 rfl rfl)
theorem dX4_meets_108 : decode cX4_meets 108 = .ok (.iaload, 1) := dk_46 (dk_at dksX4_meets_4 14 rfl rfl)
theorem dX4_meets_109 : decode cX4_meets 109 = .ok (.aload_n 0, 1) := dk_42 (dk_at dksX4_meets_4 15 rfl rfl)
theorem dX4_meets_110 : decode cX4_meets 110 = .ok (.getfield 37, 3) := dk_180 0 37 (dk_at dksX4_meets_4 16 rfl rfl)
theorem dX4_meets_113 : decode cX4_meets 113 = .ok (.iload 6, 2) := dk_21 6 (dk_at dksX4_meets_4 19 rfl rfl)
theorem dX4_meets_115 : decode cX4_meets 115 = .ok (.iaload, 1) := dk_46 (dk_at dksX4_meets_4 21 rfl rfl)
theorem dX4_meets_116 : decode cX4_meets 116 = .ok (.isub, 1) := dk_100 (dk_at dksX4_meets_4 22 rfl rfl)
theorem dX4_meets_117 : decode cX4_meets 117 = .ok (.invokestatic 288, 3) := dk_184 1 32 (dk_at dksX4_meets_5 0 rfl rfl)
theorem dX4_meets_120 : decode cX4_meets 120 = .ok (.iconst 2, 1) := dk_5 (dk_at dksX4_meets_5 3 rfl rfl)
theorem dX4_meets_121 : decode cX4_meets 121 = .ok (.if_icmp .ge 7, 3) := dk_162 0 7 (dk_at dksX4_meets_5 4 rfl rfl)
theorem dX4_meets_124 : decode cX4_meets 124 = .ok (.iconst 1, 1) := dk_4 (dk_at dksX4_meets_5 7 rfl rfl)
theorem dX4_meets_125 : decode cX4_meets 125 = .ok (.goto 4, 3) := dk_167 0 4 (dk_at dksX4_meets_5 8 rfl rfl)
theorem dX4_meets_128 : decode cX4_meets 128 = .ok (.iconst 0, 1) := dk_3 (dk_at dksX4_meets_5 11 rfl rfl)
theorem dX4_meets_129 : decode cX4_meets 129 = .ok (.iadd, 1) := dk_96 (dk_at dksX4_meets_5 12 rfl rfl)
theorem dX4_meets_130 : decode cX4_meets 130 = .ok (.istore_n 3, 1) := dk_62 (dk_at dksX4_meets_5 13 rfl rfl)
theorem dX4_meets_131 : decode cX4_meets 131 = .ok (.iinc 4 1, 3) := dk_132 4 1 (dk_at dksX4_meets_5 14 rfl rfl)
theorem dX4_meets_134 : decode cX4_meets 134 = .ok (.goto (-107), 3) := dk_167 255 149 (dk_at dksX4_meets_5 17 rfl rfl)
theorem dX4_meets_137 : decode cX4_meets 137 = .ok (.iload_n 3, 1) := dk_29 (dk_at dksX4_meets_5 20 rfl rfl)
theorem dX4_meets_138 : decode cX4_meets 138 = .ok (.ireturn, 1) := dk_172 (dk_at dksX4_meets_5 21 rfl rfl)
abbrev cX4_spots : ByteArray := prog_19_method_100_code
def yX4_spots : MethodName := ⟨RX4, "spots", "(I)I"⟩
def dkwX4_spots_3 : List UInt8 := [132, 4, 1, 167, 255, 213, 132, 3, 1, 167, 255, 194, 28, 172]
abbrev dktX4_spots_3 : List UInt8 := dkwX4_spots_3 ++ []
def dkwX4_spots_2 : List UInt8 := [182, 1, 25, 153, 0, 18, 42, 29, 21, 4, 27, 182, 1, 44, 153, 0, 7, 4, 167, 0, 4, 3, 96, 61]
abbrev dktX4_spots_2 : List UInt8 := dkwX4_spots_2 ++ dktX4_spots_3
def dkwX4_spots_1 : List UInt8 := [162, 0, 58, 3, 54, 4, 21, 4, 42, 180, 0, 9, 8, 46, 162, 0, 38, 28, 42, 29, 21, 4]
abbrev dktX4_spots_1 : List UInt8 := dkwX4_spots_1 ++ dktX4_spots_2
def dkwX4_spots_0 : List UInt8 := [42, 27, 182, 1, 58, 154, 0, 6, 16, 254, 172, 3, 61, 3, 62, 29, 42, 180, 0, 9, 7, 46]
abbrev dktX4_spots_0 : List UInt8 := dkwX4_spots_0 ++ dktX4_spots_1
theorem dksX4_spots_0 : cX4_spots.data.toList.drop 0 = dktX4_spots_0 := by decide +kernel
theorem dksX4_spots_1 : cX4_spots.data.toList.drop 22 = dktX4_spots_1 := dk_seg dksX4_spots_0 22 rfl rfl
theorem dksX4_spots_2 : cX4_spots.data.toList.drop 44 = dktX4_spots_2 := dk_seg dksX4_spots_1 22 rfl rfl
theorem dksX4_spots_3 : cX4_spots.data.toList.drop 68 = dktX4_spots_3 := dk_seg dksX4_spots_2 24 rfl rfl
theorem dX4_spots_0 : decode cX4_spots 0 = .ok (.aload_n 0, 1) := dk_42 (dk_at dksX4_spots_0 0 rfl rfl)
theorem dX4_spots_1 : decode cX4_spots 1 = .ok (.iload_n 1, 1) := dk_27 (dk_at dksX4_spots_0 1 rfl rfl)
theorem dX4_spots_2 : decode cX4_spots 2 = .ok (.invokevirtual 314, 3) := dk_182 1 58 (dk_at dksX4_spots_0 2 rfl rfl)
theorem dX4_spots_5 : decode cX4_spots 5 = .ok (.ifCond .ne 6, 3) := dk_154 0 6 (dk_at dksX4_spots_0 5 rfl rfl)
theorem dX4_spots_8 : decode cX4_spots 8 = .ok (.bipush (-2), 2) := dk_16 254 (dk_at dksX4_spots_0 8 rfl rfl)
theorem dX4_spots_10 : decode cX4_spots 10 = .ok (.ireturn, 1) := dk_172 (dk_at dksX4_spots_0 10 rfl rfl)
theorem dX4_spots_11 : decode cX4_spots 11 = .ok (.iconst 0, 1) := dk_3 (dk_at dksX4_spots_0 11 rfl rfl)
theorem dX4_spots_12 : decode cX4_spots 12 = .ok (.istore_n 2, 1) := dk_61 (dk_at dksX4_spots_0 12 rfl rfl)
theorem dX4_spots_13 : decode cX4_spots 13 = .ok (.iconst 0, 1) := dk_3 (dk_at dksX4_spots_0 13 rfl rfl)
theorem dX4_spots_14 : decode cX4_spots 14 = .ok (.istore_n 3, 1) := dk_62 (dk_at dksX4_spots_0 14 rfl rfl)
theorem dX4_spots_15 : decode cX4_spots 15 = .ok (.iload_n 3, 1) := dk_29 (dk_at dksX4_spots_0 15 rfl rfl)
theorem dX4_spots_16 : decode cX4_spots 16 = .ok (.aload_n 0, 1) := dk_42 (dk_at dksX4_spots_0 16 rfl rfl)
theorem dX4_spots_17 : decode cX4_spots 17 = .ok (.getfield 9, 3) := dk_180 0 9 (dk_at dksX4_spots_0 17 rfl rfl)
theorem dX4_spots_20 : decode cX4_spots 20 = .ok (.iconst 4, 1) := dk_7 (dk_at dksX4_spots_0 20 rfl rfl)
theorem dX4_spots_21 : decode cX4_spots 21 = .ok (.iaload, 1) := dk_46 (dk_at dksX4_spots_0 21 rfl rfl)
theorem dX4_spots_22 : decode cX4_spots 22 = .ok (.if_icmp .ge 58, 3) := dk_162 0 58 (dk_at dksX4_spots_1 0 rfl rfl)
theorem dX4_spots_25 : decode cX4_spots 25 = .ok (.iconst 0, 1) := dk_3 (dk_at dksX4_spots_1 3 rfl rfl)
theorem dX4_spots_26 : decode cX4_spots 26 = .ok (.istore 4, 2) := dk_54 4 (dk_at dksX4_spots_1 4 rfl rfl)
theorem dX4_spots_28 : decode cX4_spots 28 = .ok (.iload 4, 2) := dk_21 4 (dk_at dksX4_spots_1 6 rfl rfl)
theorem dX4_spots_30 : decode cX4_spots 30 = .ok (.aload_n 0, 1) := dk_42 (dk_at dksX4_spots_1 8 rfl rfl)
theorem dX4_spots_31 : decode cX4_spots 31 = .ok (.getfield 9, 3) := dk_180 0 9 (dk_at dksX4_spots_1 9 rfl rfl)
theorem dX4_spots_34 : decode cX4_spots 34 = .ok (.iconst 5, 1) := dk_8 (dk_at dksX4_spots_1 12 rfl rfl)
theorem dX4_spots_35 : decode cX4_spots 35 = .ok (.iaload, 1) := dk_46 (dk_at dksX4_spots_1 13 rfl rfl)
theorem dX4_spots_36 : decode cX4_spots 36 = .ok (.if_icmp .ge 38, 3) := dk_162 0 38 (dk_at dksX4_spots_1 14 rfl rfl)
theorem dX4_spots_39 : decode cX4_spots 39 = .ok (.iload_n 2, 1) := dk_28 (dk_at dksX4_spots_1 17 rfl rfl)
theorem dX4_spots_40 : decode cX4_spots 40 = .ok (.aload_n 0, 1) := dk_42 (dk_at dksX4_spots_1 18 rfl rfl)
theorem dX4_spots_41 : decode cX4_spots 41 = .ok (.iload_n 3, 1) := dk_29 (dk_at dksX4_spots_1 19 rfl rfl)
theorem dX4_spots_42 : decode cX4_spots 42 = .ok (.iload 4, 2) := dk_21 4 (dk_at dksX4_spots_1 20 rfl rfl)
theorem dX4_spots_44 : decode cX4_spots 44 = .ok (.invokevirtual 281, 3) := dk_182 1 25 (dk_at dksX4_spots_2 0 rfl rfl)
theorem dX4_spots_47 : decode cX4_spots 47 = .ok (.ifCond .eq 18, 3) := dk_153 0 18 (dk_at dksX4_spots_2 3 rfl rfl)
theorem dX4_spots_50 : decode cX4_spots 50 = .ok (.aload_n 0, 1) := dk_42 (dk_at dksX4_spots_2 6 rfl rfl)
theorem dX4_spots_51 : decode cX4_spots 51 = .ok (.iload_n 3, 1) := dk_29 (dk_at dksX4_spots_2 7 rfl rfl)
theorem dX4_spots_52 : decode cX4_spots 52 = .ok (.iload 4, 2) := dk_21 4 (dk_at dksX4_spots_2 8 rfl rfl)
theorem dX4_spots_54 : decode cX4_spots 54 = .ok (.iload_n 1, 1) := dk_27 (dk_at dksX4_spots_2 10 rfl rfl)
theorem dX4_spots_55 : decode cX4_spots 55 = .ok (.invokevirtual 300, 3) := dk_182 1 44 (dk_at dksX4_spots_2 11 rfl rfl)
theorem dX4_spots_58 : decode cX4_spots 58 = .ok (.ifCond .eq 7, 3) := dk_153 0 7 (dk_at dksX4_spots_2 14 rfl rfl)
theorem dX4_spots_61 : decode cX4_spots 61 = .ok (.iconst 1, 1) := dk_4 (dk_at dksX4_spots_2 17 rfl rfl)
theorem dX4_spots_62 : decode cX4_spots 62 = .ok (.goto 4, 3) := dk_167 0 4 (dk_at dksX4_spots_2 18 rfl rfl)
theorem dX4_spots_65 : decode cX4_spots 65 = .ok (.iconst 0, 1) := dk_3 (dk_at dksX4_spots_2 21 rfl rfl)
theorem dX4_spots_66 : decode cX4_spots 66 = .ok (.iadd, 1) := dk_96 (dk_at dksX4_spots_2 22 rfl rfl)
theorem dX4_spots_67 : decode cX4_spots 67 = .ok (.istore_n 2, 1) := dk_61 (dk_at dksX4_spots_2 23 rfl rfl)
theorem dX4_spots_68 : decode cX4_spots 68 = .ok (.iinc 4 1, 3) := dk_132 4 1 (dk_at dksX4_spots_3 0 rfl rfl)
theorem dX4_spots_71 : decode cX4_spots 71 = .ok (.goto (-43), 3) := dk_167 255 213 (dk_at dksX4_spots_3 3 rfl rfl)
theorem dX4_spots_74 : decode cX4_spots 74 = .ok (.iinc 3 1, 3) := dk_132 3 1 (dk_at dksX4_spots_3 6 rfl rfl)
theorem dX4_spots_77 : decode cX4_spots 77 = .ok (.goto (-62), 3) := dk_167 255 194 (dk_at dksX4_spots_3 9 rfl rfl)
theorem dX4_spots_80 : decode cX4_spots 80 = .ok (.iload_n 2, 1) := dk_28 (dk_at dksX4_spots_3 12 rfl rfl)
theorem dX4_spots_81 : decode cX4_spots 81 = .ok (.ireturn, 1) := dk_172 (dk_at dksX4_spots_3 13 rfl rfl)
abbrev cX4_when : ByteArray := prog_19_method_101_code
def yX4_when : MethodName := ⟨RX4, "when", "(II)I"⟩
def dkwX4_when_2 : List UInt8 := [132, 3, 1, 167, 255, 230, 2, 172]
abbrev dktX4_when_2 : List UInt8 := dkwX4_when_2 ++ []
def dkwX4_when_1 : List UInt8 := [29, 42, 180, 0, 9, 16, 6, 46, 163, 0, 21, 42, 27, 29, 182, 1, 86, 28, 160, 0, 5, 29, 172]
abbrev dktX4_when_1 : List UInt8 := dkwX4_when_1 ++ dktX4_when_2
def dkwX4_when_0 : List UInt8 := [42, 27, 182, 1, 58, 153, 0, 10, 28, 184, 1, 139, 154, 0, 6, 16, 254, 172, 42, 182, 1, 131, 3, 62]
abbrev dktX4_when_0 : List UInt8 := dkwX4_when_0 ++ dktX4_when_1
theorem dksX4_when_0 : cX4_when.data.toList.drop 0 = dktX4_when_0 := by decide +kernel
theorem dksX4_when_1 : cX4_when.data.toList.drop 24 = dktX4_when_1 := dk_seg dksX4_when_0 24 rfl rfl
theorem dksX4_when_2 : cX4_when.data.toList.drop 47 = dktX4_when_2 := dk_seg dksX4_when_1 23 rfl rfl
theorem dX4_when_0 : decode cX4_when 0 = .ok (.aload_n 0, 1) := dk_42 (dk_at dksX4_when_0 0 rfl rfl)
theorem dX4_when_1 : decode cX4_when 1 = .ok (.iload_n 1, 1) := dk_27 (dk_at dksX4_when_0 1 rfl rfl)
theorem dX4_when_2 : decode cX4_when 2 = .ok (.invokevirtual 314, 3) := dk_182 1 58 (dk_at dksX4_when_0 2 rfl rfl)
theorem dX4_when_5 : decode cX4_when 5 = .ok (.ifCond .eq 10, 3) := dk_153 0 10 (dk_at dksX4_when_0 5 rfl rfl)
theorem dX4_when_8 : decode cX4_when 8 = .ok (.iload_n 2, 1) := dk_28 (dk_at dksX4_when_0 8 rfl rfl)
theorem dX4_when_9 : decode cX4_when 9 = .ok (.invokestatic 395, 3) := dk_184 1 139 (dk_at dksX4_when_0 9 rfl rfl)
theorem dX4_when_12 : decode cX4_when 12 = .ok (.ifCond .ne 6, 3) := dk_154 0 6 (dk_at dksX4_when_0 12 rfl rfl)
theorem dX4_when_15 : decode cX4_when 15 = .ok (.bipush (-2), 2) := dk_16 254 (dk_at dksX4_when_0 15 rfl rfl)
theorem dX4_when_17 : decode cX4_when 17 = .ok (.ireturn, 1) := dk_172 (dk_at dksX4_when_0 17 rfl rfl)
theorem dX4_when_18 : decode cX4_when 18 = .ok (.aload_n 0, 1) := dk_42 (dk_at dksX4_when_0 18 rfl rfl)
theorem dX4_when_19 : decode cX4_when 19 = .ok (.invokevirtual 387, 3) := dk_182 1 131 (dk_at dksX4_when_0 19 rfl rfl)
theorem dX4_when_22 : decode cX4_when 22 = .ok (.iconst 0, 1) := dk_3 (dk_at dksX4_when_0 22 rfl rfl)
theorem dX4_when_23 : decode cX4_when 23 = .ok (.istore_n 3, 1) := dk_62 (dk_at dksX4_when_0 23 rfl rfl)
theorem dX4_when_24 : decode cX4_when 24 = .ok (.iload_n 3, 1) := dk_29 (dk_at dksX4_when_1 0 rfl rfl)
theorem dX4_when_25 : decode cX4_when 25 = .ok (.aload_n 0, 1) := dk_42 (dk_at dksX4_when_1 1 rfl rfl)
theorem dX4_when_26 : decode cX4_when 26 = .ok (.getfield 9, 3) := dk_180 0 9 (dk_at dksX4_when_1 2 rfl rfl)
theorem dX4_when_29 : decode cX4_when 29 = .ok (.bipush 6, 2) := dk_16 6 (dk_at dksX4_when_1 5 rfl rfl)
theorem dX4_when_31 : decode cX4_when 31 = .ok (.iaload, 1) := dk_46 (dk_at dksX4_when_1 7 rfl rfl)
theorem dX4_when_32 : decode cX4_when 32 = .ok (.if_icmp .gt 21, 3) := dk_163 0 21 (dk_at dksX4_when_1 8 rfl rfl)
theorem dX4_when_35 : decode cX4_when 35 = .ok (.aload_n 0, 1) := dk_42 (dk_at dksX4_when_1 11 rfl rfl)
theorem dX4_when_36 : decode cX4_when 36 = .ok (.iload_n 1, 1) := dk_27 (dk_at dksX4_when_1 12 rfl rfl)
theorem dX4_when_37 : decode cX4_when 37 = .ok (.iload_n 3, 1) := dk_29 (dk_at dksX4_when_1 13 rfl rfl)
theorem dX4_when_38 : decode cX4_when 38 = .ok (.invokevirtual 342, 3) := dk_182 1 86 (dk_at dksX4_when_1 14 rfl rfl)
theorem dX4_when_41 : decode cX4_when 41 = .ok (.iload_n 2, 1) := dk_28 (dk_at dksX4_when_1 17 rfl rfl)
theorem dX4_when_42 : decode cX4_when 42 = .ok (.if_icmp .ne 5, 3) := dk_160 0 5 (dk_at dksX4_when_1 18 rfl rfl)
theorem dX4_when_45 : decode cX4_when 45 = .ok (.iload_n 3, 1) := dk_29 (dk_at dksX4_when_1 21 rfl rfl)
theorem dX4_when_46 : decode cX4_when 46 = .ok (.ireturn, 1) := dk_172 (dk_at dksX4_when_1 22 rfl rfl)
theorem dX4_when_47 : decode cX4_when 47 = .ok (.iinc 3 1, 3) := dk_132 3 1 (dk_at dksX4_when_2 0 rfl rfl)
theorem dX4_when_50 : decode cX4_when 50 = .ok (.goto (-26), 3) := dk_167 255 230 (dk_at dksX4_when_2 3 rfl rfl)
theorem dX4_when_53 : decode cX4_when 53 = .ok (.iconst (-1), 1) := dk_2 (dk_at dksX4_when_2 6 rfl rfl)
theorem dX4_when_54 : decode cX4_when 54 = .ok (.ireturn, 1) := dk_172 (dk_at dksX4_when_2 7 rfl rfl)
abbrev cX4_hours : ByteArray := prog_19_method_102_code
def yX4_hours : MethodName := ⟨RX4, "hours", "(I)I"⟩
def dkwX4_hours_4 : List UInt8 := [167, 255, 183, 28, 172]
abbrev dktX4_hours_4 : List UInt8 := dkwX4_hours_4 ++ []
def dkwX4_hours_3 : List UInt8 := [132, 5, 1, 167, 255, 219, 28, 21, 4, 153, 0, 7, 4, 167, 0, 4, 3, 96, 61, 132, 3, 1]
abbrev dktX4_hours_3 : List UInt8 := dkwX4_hours_3 ++ dktX4_hours_4
def dkwX4_hours_2 : List UInt8 := [27, 21, 5, 182, 1, 86, 42, 27, 29, 182, 1, 86, 159, 0, 7, 4, 167, 0, 4, 3, 54, 4]
abbrev dktX4_hours_2 : List UInt8 := dkwX4_hours_2 ++ dktX4_hours_3
def dkwX4_hours_1 : List UInt8 := [16, 6, 46, 163, 0, 68, 4, 54, 4, 3, 54, 5, 21, 5, 29, 162, 0, 37, 21, 4, 153, 0, 32, 42]
abbrev dktX4_hours_1 : List UInt8 := dkwX4_hours_1 ++ dktX4_hours_2
def dkwX4_hours_0 : List UInt8 := [42, 27, 182, 1, 58, 154, 0, 6, 16, 254, 172, 42, 182, 1, 131, 3, 61, 3, 62, 29, 42, 180, 0, 9]
abbrev dktX4_hours_0 : List UInt8 := dkwX4_hours_0 ++ dktX4_hours_1
theorem dksX4_hours_0 : cX4_hours.data.toList.drop 0 = dktX4_hours_0 := by decide +kernel
theorem dksX4_hours_1 : cX4_hours.data.toList.drop 24 = dktX4_hours_1 := dk_seg dksX4_hours_0 24 rfl rfl
theorem dksX4_hours_2 : cX4_hours.data.toList.drop 48 = dktX4_hours_2 := dk_seg dksX4_hours_1 24 rfl rfl
theorem dksX4_hours_3 : cX4_hours.data.toList.drop 70 = dktX4_hours_3 := dk_seg dksX4_hours_2 22 rfl rfl
theorem dksX4_hours_4 : cX4_hours.data.toList.drop 92 = dktX4_hours_4 := dk_seg dksX4_hours_3 22 rfl rfl
theorem dX4_hours_0 : decode cX4_hours 0 = .ok (.aload_n 0, 1) := dk_42 (dk_at dksX4_hours_0 0 rfl rfl)
theorem dX4_hours_1 : decode cX4_hours 1 = .ok (.iload_n 1, 1) := dk_27 (dk_at dksX4_hours_0 1 rfl rfl)
theorem dX4_hours_2 : decode cX4_hours 2 = .ok (.invokevirtual 314, 3) := dk_182 1 58 (dk_at dksX4_hours_0 2 rfl rfl)
theorem dX4_hours_5 : decode cX4_hours 5 = .ok (.ifCond .ne 6, 3) := dk_154 0 6 (dk_at dksX4_hours_0 5 rfl rfl)
theorem dX4_hours_8 : decode cX4_hours 8 = .ok (.bipush (-2), 2) := dk_16 254 (dk_at dksX4_hours_0 8 rfl rfl)
theorem dX4_hours_10 : decode cX4_hours 10 = .ok (.ireturn, 1) := dk_172 (dk_at dksX4_hours_0 10 rfl rfl)
theorem dX4_hours_11 : decode cX4_hours 11 = .ok (.aload_n 0, 1) := dk_42 (dk_at dksX4_hours_0 11 rfl rfl)
theorem dX4_hours_12 : decode cX4_hours 12 = .ok (.invokevirtual 387, 3) := dk_182 1 131 (dk_at dksX4_hours_0 12 rfl rfl)
theorem dX4_hours_15 : decode cX4_hours 15 = .ok (.iconst 0, 1) := dk_3 (dk_at dksX4_hours_0 15 rfl rfl)
theorem dX4_hours_16 : decode cX4_hours 16 = .ok (.istore_n 2, 1) := dk_61 (dk_at dksX4_hours_0 16 rfl rfl)
theorem dX4_hours_17 : decode cX4_hours 17 = .ok (.iconst 0, 1) := dk_3 (dk_at dksX4_hours_0 17 rfl rfl)
theorem dX4_hours_18 : decode cX4_hours 18 = .ok (.istore_n 3, 1) := dk_62 (dk_at dksX4_hours_0 18 rfl rfl)
theorem dX4_hours_19 : decode cX4_hours 19 = .ok (.iload_n 3, 1) := dk_29 (dk_at dksX4_hours_0 19 rfl rfl)
theorem dX4_hours_20 : decode cX4_hours 20 = .ok (.aload_n 0, 1) := dk_42 (dk_at dksX4_hours_0 20 rfl rfl)
theorem dX4_hours_21 : decode cX4_hours 21 = .ok (.getfield 9, 3) := dk_180 0 9 (dk_at dksX4_hours_0 21 rfl rfl)
theorem dX4_hours_24 : decode cX4_hours 24 = .ok (.bipush 6, 2) := dk_16 6 (dk_at dksX4_hours_1 0 rfl rfl)
theorem dX4_hours_26 : decode cX4_hours 26 = .ok (.iaload, 1) := dk_46 (dk_at dksX4_hours_1 2 rfl rfl)
theorem dX4_hours_27 : decode cX4_hours 27 = .ok (.if_icmp .gt 68, 3) := dk_163 0 68 (dk_at dksX4_hours_1 3 rfl rfl)
theorem dX4_hours_30 : decode cX4_hours 30 = .ok (.iconst 1, 1) := dk_4 (dk_at dksX4_hours_1 6 rfl rfl)
theorem dX4_hours_31 : decode cX4_hours 31 = .ok (.istore 4, 2) := dk_54 4 (dk_at dksX4_hours_1 7 rfl rfl)
theorem dX4_hours_33 : decode cX4_hours 33 = .ok (.iconst 0, 1) := dk_3 (dk_at dksX4_hours_1 9 rfl rfl)
theorem dX4_hours_34 : decode cX4_hours 34 = .ok (.istore 5, 2) := dk_54 5 (dk_at dksX4_hours_1 10 rfl rfl)
theorem dX4_hours_36 : decode cX4_hours 36 = .ok (.iload 5, 2) := dk_21 5 (dk_at dksX4_hours_1 12 rfl rfl)
theorem dX4_hours_38 : decode cX4_hours 38 = .ok (.iload_n 3, 1) := dk_29 (dk_at dksX4_hours_1 14 rfl rfl)
theorem dX4_hours_39 : decode cX4_hours 39 = .ok (.if_icmp .ge 37, 3) := dk_162 0 37 (dk_at dksX4_hours_1 15 rfl rfl)
theorem dX4_hours_42 : decode cX4_hours 42 = .ok (.iload 4, 2) := dk_21 4 (dk_at dksX4_hours_1 18 rfl rfl)
theorem dX4_hours_44 : decode cX4_hours 44 = .ok (.ifCond .eq 32, 3) := dk_153 0 32 (dk_at dksX4_hours_1 20 rfl rfl)
theorem dX4_hours_47 : decode cX4_hours 47 = .ok (.aload_n 0, 1) := dk_42 (dk_at dksX4_hours_1 23 rfl rfl)
theorem dX4_hours_48 : decode cX4_hours 48 = .ok (.iload_n 1, 1) := dk_27 (dk_at dksX4_hours_2 0 rfl rfl)
theorem dX4_hours_49 : decode cX4_hours 49 = .ok (.iload 5, 2) := dk_21 5 (dk_at dksX4_hours_2 1 rfl rfl)
theorem dX4_hours_51 : decode cX4_hours 51 = .ok (.invokevirtual 342, 3) := dk_182 1 86 (dk_at dksX4_hours_2 3 rfl rfl)
theorem dX4_hours_54 : decode cX4_hours 54 = .ok (.aload_n 0, 1) := dk_42 (dk_at dksX4_hours_2 6 rfl rfl)
theorem dX4_hours_55 : decode cX4_hours 55 = .ok (.iload_n 1, 1) := dk_27 (dk_at dksX4_hours_2 7 rfl rfl)
theorem dX4_hours_56 : decode cX4_hours 56 = .ok (.iload_n 3, 1) := dk_29 (dk_at dksX4_hours_2 8 rfl rfl)
theorem dX4_hours_57 : decode cX4_hours 57 = .ok (.invokevirtual 342, 3) := dk_182 1 86 (dk_at dksX4_hours_2 9 rfl rfl)
theorem dX4_hours_60 : decode cX4_hours 60 = .ok (.if_icmp .eq 7, 3) := dk_159 0 7 (dk_at dksX4_hours_2 12 rfl rfl)
theorem dX4_hours_63 : decode cX4_hours 63 = .ok (.iconst 1, 1) := dk_4 (dk_at dksX4_hours_2 15 rfl rfl)
theorem dX4_hours_64 : decode cX4_hours 64 = .ok (.goto 4, 3) := dk_167 0 4 (dk_at dksX4_hours_2 16 rfl rfl)
theorem dX4_hours_67 : decode cX4_hours 67 = .ok (.iconst 0, 1) := dk_3 (dk_at dksX4_hours_2 19 rfl rfl)
theorem dX4_hours_68 : decode cX4_hours 68 = .ok (.istore 4, 2) := dk_54 4 (dk_at dksX4_hours_2 20 rfl rfl)
theorem dX4_hours_70 : decode cX4_hours 70 = .ok (.iinc 5 1, 3) := dk_132 5 1 (dk_at dksX4_hours_3 0 rfl rfl)
theorem dX4_hours_73 : decode cX4_hours 73 = .ok (.goto (-37), 3) := dk_167 255 219 (dk_at dksX4_hours_3 3 rfl rfl)
theorem dX4_hours_76 : decode cX4_hours 76 = .ok (.iload_n 2, 1) := dk_28 (dk_at dksX4_hours_3 6 rfl rfl)
theorem dX4_hours_77 : decode cX4_hours 77 = .ok (.iload 4, 2) := dk_21 4 (dk_at dksX4_hours_3 7 rfl rfl)
theorem dX4_hours_79 : decode cX4_hours 79 = .ok (.ifCond .eq 7, 3) := dk_153 0 7 (dk_at dksX4_hours_3 9 rfl rfl)
theorem dX4_hours_82 : decode cX4_hours 82 = .ok (.iconst 1, 1) := dk_4 (dk_at dksX4_hours_3 12 rfl rfl)
theorem dX4_hours_83 : decode cX4_hours 83 = .ok (.goto 4, 3) := dk_167 0 4 (dk_at dksX4_hours_3 13 rfl rfl)
theorem dX4_hours_86 : decode cX4_hours 86 = .ok (.iconst 0, 1) := dk_3 (dk_at dksX4_hours_3 16 rfl rfl)
theorem dX4_hours_87 : decode cX4_hours 87 = .ok (.iadd, 1) := dk_96 (dk_at dksX4_hours_3 17 rfl rfl)
theorem dX4_hours_88 : decode cX4_hours 88 = .ok (.istore_n 2, 1) := dk_61 (dk_at dksX4_hours_3 18 rfl rfl)
theorem dX4_hours_89 : decode cX4_hours 89 = .ok (.iinc 3 1, 3) := dk_132 3 1 (dk_at dksX4_hours_3 19 rfl rfl)
theorem dX4_hours_92 : decode cX4_hours 92 = .ok (.goto (-73), 3) := dk_167 255 183 (dk_at dksX4_hours_4 0 rfl rfl)
theorem dX4_hours_95 : decode cX4_hours 95 = .ok (.iload_n 2, 1) := dk_28 (dk_at dksX4_hours_4 3 rfl rfl)
theorem dX4_hours_96 : decode cX4_hours 96 = .ok (.ireturn, 1) := dk_172 (dk_at dksX4_hours_4 4 rfl rfl)
abbrev cX4_without : ByteArray := prog_19_method_103_code
def yX4_without : MethodName := ⟨RX4, "without", "(III)I"⟩
def dkwX4_without_2 : List UInt8 := [79, 42, 182, 1, 131, 42, 180, 0, 9, 16, 7, 21, 4, 79, 42, 28, 29, 182, 1, 86, 172]
abbrev dktX4_without_2 : List UInt8 := dkwX4_without_2 ++ []
def dkwX4_without_1 : List UInt8 := [16, 254, 172, 42, 180, 0, 9, 16, 7, 46, 54, 4, 42, 180, 0, 9, 16, 7, 21, 4, 4, 27, 120, 128]
abbrev dktX4_without_1 : List UInt8 := dkwX4_without_1 ++ dktX4_without_2
def dkwX4_without_0 : List UInt8 := [42, 27, 182, 1, 51, 153, 0, 19, 42, 28, 182, 1, 58, 153, 0, 11, 42, 29, 182, 1, 134, 154, 0, 6]
abbrev dktX4_without_0 : List UInt8 := dkwX4_without_0 ++ dktX4_without_1
theorem dksX4_without_0 : cX4_without.data.toList.drop 0 = dktX4_without_0 := by decide +kernel
theorem dksX4_without_1 : cX4_without.data.toList.drop 24 = dktX4_without_1 := dk_seg dksX4_without_0 24 rfl rfl
theorem dksX4_without_2 : cX4_without.data.toList.drop 48 = dktX4_without_2 := dk_seg dksX4_without_1 24 rfl rfl
theorem dX4_without_0 : decode cX4_without 0 = .ok (.aload_n 0, 1) := dk_42 (dk_at dksX4_without_0 0 rfl rfl)
theorem dX4_without_1 : decode cX4_without 1 = .ok (.iload_n 1, 1) := dk_27 (dk_at dksX4_without_0 1 rfl rfl)
theorem dX4_without_2 : decode cX4_without 2 = .ok (.invokevirtual 307, 3) := dk_182 1 51 (dk_at dksX4_without_0 2 rfl rfl)
theorem dX4_without_5 : decode cX4_without 5 = .ok (.ifCond .eq 19, 3) := dk_153 0 19 (dk_at dksX4_without_0 5 rfl rfl)
theorem dX4_without_8 : decode cX4_without 8 = .ok (.aload_n 0, 1) := dk_42 (dk_at dksX4_without_0 8 rfl rfl)
theorem dX4_without_9 : decode cX4_without 9 = .ok (.iload_n 2, 1) := dk_28 (dk_at dksX4_without_0 9 rfl rfl)
theorem dX4_without_10 : decode cX4_without 10 = .ok (.invokevirtual 314, 3) := dk_182 1 58 (dk_at dksX4_without_0 10 rfl rfl)
theorem dX4_without_13 : decode cX4_without 13 = .ok (.ifCond .eq 11, 3) := dk_153 0 11 (dk_at dksX4_without_0 13 rfl rfl)
theorem dX4_without_16 : decode cX4_without 16 = .ok (.aload_n 0, 1) := dk_42 (dk_at dksX4_without_0 16 rfl rfl)
theorem dX4_without_17 : decode cX4_without 17 = .ok (.iload_n 3, 1) := dk_29 (dk_at dksX4_without_0 17 rfl rfl)
theorem dX4_without_18 : decode cX4_without 18 = .ok (.invokevirtual 390, 3) := dk_182 1 134 (dk_at dksX4_without_0 18 rfl rfl)
theorem dX4_without_21 : decode cX4_without 21 = .ok (.ifCond .ne 6, 3) := dk_154 0 6 (dk_at dksX4_without_0 21 rfl rfl)
theorem dX4_without_24 : decode cX4_without 24 = .ok (.bipush (-2), 2) := dk_16 254 (dk_at dksX4_without_1 0 rfl rfl)
theorem dX4_without_26 : decode cX4_without 26 = .ok (.ireturn, 1) := dk_172 (dk_at dksX4_without_1 2 rfl rfl)
theorem dX4_without_27 : decode cX4_without 27 = .ok (.aload_n 0, 1) := dk_42 (dk_at dksX4_without_1 3 rfl rfl)
theorem dX4_without_28 : decode cX4_without 28 = .ok (.getfield 9, 3) := dk_180 0 9 (dk_at dksX4_without_1 4 rfl rfl)
theorem dX4_without_31 : decode cX4_without 31 = .ok (.bipush 7, 2) := dk_16 7 (dk_at dksX4_without_1 7 rfl rfl)
theorem dX4_without_33 : decode cX4_without 33 = .ok (.iaload, 1) := dk_46 (dk_at dksX4_without_1 9 rfl rfl)
theorem dX4_without_34 : decode cX4_without 34 = .ok (.istore 4, 2) := dk_54 4 (dk_at dksX4_without_1 10 rfl rfl)
theorem dX4_without_36 : decode cX4_without 36 = .ok (.aload_n 0, 1) := dk_42 (dk_at dksX4_without_1 12 rfl rfl)
theorem dX4_without_37 : decode cX4_without 37 = .ok (.getfield 9, 3) := dk_180 0 9 (dk_at dksX4_without_1 13 rfl rfl)
theorem dX4_without_40 : decode cX4_without 40 = .ok (.bipush 7, 2) := dk_16 7 (dk_at dksX4_without_1 16 rfl rfl)
theorem dX4_without_42 : decode cX4_without 42 = .ok (.iload 4, 2) := dk_21 4 (dk_at dksX4_without_1 18 rfl rfl)
theorem dX4_without_44 : decode cX4_without 44 = .ok (.iconst 1, 1) := dk_4 (dk_at dksX4_without_1 20 rfl rfl)
theorem dX4_without_45 : decode cX4_without 45 = .ok (.iload_n 1, 1) := dk_27 (dk_at dksX4_without_1 21 rfl rfl)
theorem dX4_without_46 : decode cX4_without 46 = .ok (.ishl, 1) := dk_120 (dk_at dksX4_without_1 22 rfl rfl)
theorem dX4_without_47 : decode cX4_without 47 = .ok (.ior, 1) := dk_128 (dk_at dksX4_without_1 23 rfl rfl)
theorem dX4_without_48 : decode cX4_without 48 = .ok (.iastore, 1) := dk_79 (dk_at dksX4_without_2 0 rfl rfl)
theorem dX4_without_49 : decode cX4_without 49 = .ok (.aload_n 0, 1) := dk_42 (dk_at dksX4_without_2 1 rfl rfl)
theorem dX4_without_50 : decode cX4_without 50 = .ok (.invokevirtual 387, 3) := dk_182 1 131 (dk_at dksX4_without_2 2 rfl rfl)
theorem dX4_without_53 : decode cX4_without 53 = .ok (.aload_n 0, 1) := dk_42 (dk_at dksX4_without_2 5 rfl rfl)
theorem dX4_without_54 : decode cX4_without 54 = .ok (.getfield 9, 3) := dk_180 0 9 (dk_at dksX4_without_2 6 rfl rfl)
theorem dX4_without_57 : decode cX4_without 57 = .ok (.bipush 7, 2) := dk_16 7 (dk_at dksX4_without_2 9 rfl rfl)
theorem dX4_without_59 : decode cX4_without 59 = .ok (.iload 4, 2) := dk_21 4 (dk_at dksX4_without_2 11 rfl rfl)
theorem dX4_without_61 : decode cX4_without 61 = .ok (.iastore, 1) := dk_79 (dk_at dksX4_without_2 13 rfl rfl)
theorem dX4_without_62 : decode cX4_without 62 = .ok (.aload_n 0, 1) := dk_42 (dk_at dksX4_without_2 14 rfl rfl)
theorem dX4_without_63 : decode cX4_without 63 = .ok (.iload_n 2, 1) := dk_28 (dk_at dksX4_without_2 15 rfl rfl)
theorem dX4_without_64 : decode cX4_without 64 = .ok (.iload_n 3, 1) := dk_29 (dk_at dksX4_without_2 16 rfl rfl)
theorem dX4_without_65 : decode cX4_without 65 = .ok (.invokevirtual 342, 3) := dk_182 1 86 (dk_at dksX4_without_2 17 rfl rfl)
theorem dX4_without_68 : decode cX4_without 68 = .ok (.ireturn, 1) := dk_172 (dk_at dksX4_without_2 20 rfl rfl)
abbrev cX4_hush : ByteArray := prog_19_method_105_code
def yX4_hush : MethodName := ⟨RX4, "hush", "(IIII)I"⟩
def dkwX4_hush_6 : List UInt8 := [159, 0, 9, 21, 4, 4, 160, 0, 8, 21, 6, 167, 0, 8, 21, 6, 184, 1, 174, 172]
abbrev dktX4_hush_6 : List UInt8 := dkwX4_hush_6 ++ []
def dkwX4_hush_5 : List UInt8 := [21, 6, 54, 6, 132, 7, 1, 167, 255, 186, 42, 180, 0, 9, 16, 7, 21, 5, 79, 21, 6, 2]
abbrev dktX4_hush_5 : List UInt8 := dkwX4_hush_5 ++ dktX4_hush_6
def dkwX4_hush_4 : List UInt8 := [16, 7, 21, 7, 79, 42, 182, 1, 131, 42, 27, 28, 29, 182, 1, 202, 153, 0, 8, 21, 7, 167, 0, 5]
abbrev dktX4_hush_4 : List UInt8 := dkwX4_hush_4 ++ dktX4_hush_5
def dkwX4_hush_3 : List UInt8 := [159, 0, 19, 21, 7, 184, 1, 174, 21, 6, 184, 1, 174, 161, 0, 6, 167, 0, 35, 42, 180, 0, 9]
abbrev dktX4_hush_3 : List UInt8 := dkwX4_hush_3 ++ dktX4_hush_4
def dkwX4_hush_2 : List UInt8 := [54, 5, 2, 54, 6, 3, 54, 7, 21, 7, 4, 42, 180, 0, 9, 5, 46, 120, 162, 0, 63, 21, 6, 2]
abbrev dktX4_hush_2 : List UInt8 := dkwX4_hush_2 ++ dktX4_hush_3
def dkwX4_hush_1 : List UInt8 := [153, 0, 14, 21, 4, 133, 9, 10, 184, 0, 104, 154, 0, 6, 16, 254, 172, 42, 180, 0, 9, 16, 7, 46]
abbrev dktX4_hush_1 : List UInt8 := dkwX4_hush_1 ++ dktX4_hush_2
def dkwX4_hush_0 : List UInt8 := [42, 29, 182, 1, 134, 153, 0, 33, 27, 133, 10, 20, 1, 137, 184, 0, 104, 153, 0, 21, 28, 184, 1, 139]
abbrev dktX4_hush_0 : List UInt8 := dkwX4_hush_0 ++ dktX4_hush_1
theorem dksX4_hush_0 : cX4_hush.data.toList.drop 0 = dktX4_hush_0 := by decide +kernel
theorem dksX4_hush_1 : cX4_hush.data.toList.drop 24 = dktX4_hush_1 := dk_seg dksX4_hush_0 24 rfl rfl
theorem dksX4_hush_2 : cX4_hush.data.toList.drop 48 = dktX4_hush_2 := dk_seg dksX4_hush_1 24 rfl rfl
theorem dksX4_hush_3 : cX4_hush.data.toList.drop 72 = dktX4_hush_3 := dk_seg dksX4_hush_2 24 rfl rfl
theorem dksX4_hush_4 : cX4_hush.data.toList.drop 95 = dktX4_hush_4 := dk_seg dksX4_hush_3 23 rfl rfl
theorem dksX4_hush_5 : cX4_hush.data.toList.drop 119 = dktX4_hush_5 := dk_seg dksX4_hush_4 24 rfl rfl
theorem dksX4_hush_6 : cX4_hush.data.toList.drop 141 = dktX4_hush_6 := dk_seg dksX4_hush_5 22 rfl rfl
theorem dX4_hush_0 : decode cX4_hush 0 = .ok (.aload_n 0, 1) := dk_42 (dk_at dksX4_hush_0 0 rfl rfl)
theorem dX4_hush_1 : decode cX4_hush 1 = .ok (.iload_n 3, 1) := dk_29 (dk_at dksX4_hush_0 1 rfl rfl)
theorem dX4_hush_2 : decode cX4_hush 2 = .ok (.invokevirtual 390, 3) := dk_182 1 134 (dk_at dksX4_hush_0 2 rfl rfl)
theorem dX4_hush_5 : decode cX4_hush 5 = .ok (.ifCond .eq 33, 3) := dk_153 0 33 (dk_at dksX4_hush_0 5 rfl rfl)
theorem dX4_hush_8 : decode cX4_hush 8 = .ok (.iload_n 1, 1) := dk_27 (dk_at dksX4_hush_0 8 rfl rfl)
theorem dX4_hush_9 : decode cX4_hush 9 = .ok (.i2l, 1) := dk_133 (dk_at dksX4_hush_0 9 rfl rfl)
theorem dX4_hush_10 : decode cX4_hush 10 = .ok (.lconst 1, 1) := dk_10 (dk_at dksX4_hush_0 10 rfl rfl)
theorem dX4_hush_11 : decode cX4_hush 11 = .ok (.ldc2_w 393, 3) := dk_20 1 137 (dk_at dksX4_hush_0 11 rfl rfl)
theorem dX4_hush_14 : decode cX4_hush 14 = .ok (.invokestatic 104, 3) := dk_184 0 104 (dk_at dksX4_hush_0 14 rfl rfl)
theorem dX4_hush_17 : decode cX4_hush 17 = .ok (.ifCond .eq 21, 3) := dk_153 0 21 (dk_at dksX4_hush_0 17 rfl rfl)
theorem dX4_hush_20 : decode cX4_hush 20 = .ok (.iload_n 2, 1) := dk_28 (dk_at dksX4_hush_0 20 rfl rfl)
theorem dX4_hush_21 : decode cX4_hush 21 = .ok (.invokestatic 395, 3) := dk_184 1 139 (dk_at dksX4_hush_0 21 rfl rfl)
theorem dX4_hush_24 : decode cX4_hush 24 = .ok (.ifCond .eq 14, 3) := dk_153 0 14 (dk_at dksX4_hush_1 0 rfl rfl)
theorem dX4_hush_27 : decode cX4_hush 27 = .ok (.iload 4, 2) := dk_21 4 (dk_at dksX4_hush_1 3 rfl rfl)
theorem dX4_hush_29 : decode cX4_hush 29 = .ok (.i2l, 1) := dk_133 (dk_at dksX4_hush_1 5 rfl rfl)
theorem dX4_hush_30 : decode cX4_hush 30 = .ok (.lconst 0, 1) := dk_9 (dk_at dksX4_hush_1 6 rfl rfl)
theorem dX4_hush_31 : decode cX4_hush 31 = .ok (.lconst 1, 1) := dk_10 (dk_at dksX4_hush_1 7 rfl rfl)
theorem dX4_hush_32 : decode cX4_hush 32 = .ok (.invokestatic 104, 3) := dk_184 0 104 (dk_at dksX4_hush_1 8 rfl rfl)
theorem dX4_hush_35 : decode cX4_hush 35 = .ok (.ifCond .ne 6, 3) := dk_154 0 6 (dk_at dksX4_hush_1 11 rfl rfl)
theorem dX4_hush_38 : decode cX4_hush 38 = .ok (.bipush (-2), 2) := dk_16 254 (dk_at dksX4_hush_1 14 rfl rfl)
theorem dX4_hush_40 : decode cX4_hush 40 = .ok (.ireturn, 1) := dk_172 (dk_at dksX4_hush_1 16 rfl rfl)
theorem dX4_hush_41 : decode cX4_hush 41 = .ok (.aload_n 0, 1) := dk_42 (dk_at dksX4_hush_1 17 rfl rfl)
theorem dX4_hush_42 : decode cX4_hush 42 = .ok (.getfield 9, 3) := dk_180 0 9 (dk_at dksX4_hush_1 18 rfl rfl)
theorem dX4_hush_45 : decode cX4_hush 45 = .ok (.bipush 7, 2) := dk_16 7 (dk_at dksX4_hush_1 21 rfl rfl)
theorem dX4_hush_47 : decode cX4_hush 47 = .ok (.iaload, 1) := dk_46 (dk_at dksX4_hush_1 23 rfl rfl)
theorem dX4_hush_48 : decode cX4_hush 48 = .ok (.istore 5, 2) := dk_54 5 (dk_at dksX4_hush_2 0 rfl rfl)
theorem dX4_hush_50 : decode cX4_hush 50 = .ok (.iconst (-1), 1) := dk_2 (dk_at dksX4_hush_2 2 rfl rfl)
theorem dX4_hush_51 : decode cX4_hush 51 = .ok (.istore 6, 2) := dk_54 6 (dk_at dksX4_hush_2 3 rfl rfl)
theorem dX4_hush_53 : decode cX4_hush 53 = .ok (.iconst 0, 1) := dk_3 (dk_at dksX4_hush_2 5 rfl rfl)
theorem dX4_hush_54 : decode cX4_hush 54 = .ok (.istore 7, 2) := dk_54 7 (dk_at dksX4_hush_2 6 rfl rfl)
theorem dX4_hush_56 : decode cX4_hush 56 = .ok (.iload 7, 2) := dk_21 7 (dk_at dksX4_hush_2 8 rfl rfl)
theorem dX4_hush_58 : decode cX4_hush 58 = .ok (.iconst 1, 1) := dk_4 (dk_at dksX4_hush_2 10 rfl rfl)
theorem dX4_hush_59 : decode cX4_hush 59 = .ok (.aload_n 0, 1) := dk_42 (dk_at dksX4_hush_2 11 rfl rfl)
theorem dX4_hush_60 : decode cX4_hush 60 = .ok (.getfield 9, 3) := dk_180 0 9 (dk_at dksX4_hush_2 12 rfl rfl)
theorem dX4_hush_63 : decode cX4_hush 63 = .ok (.iconst 2, 1) := dk_5 (dk_at dksX4_hush_2 15 rfl rfl)
theorem dX4_hush_64 : decode cX4_hush 64 = .ok (.iaload, 1) := dk_46 (dk_at dksX4_hush_2 16 rfl rfl)
theorem dX4_hush_65 : decode cX4_hush 65 = .ok (.ishl, 1) := dk_120 (dk_at dksX4_hush_2 17 rfl rfl)
theorem dX4_hush_66 : decode cX4_hush 66 = .ok (.if_icmp .ge 63, 3) := dk_162 0 63 (dk_at dksX4_hush_2 18 rfl rfl)
theorem dX4_hush_69 : decode cX4_hush 69 = .ok (.iload 6, 2) := dk_21 6 (dk_at dksX4_hush_2 21 rfl rfl)
theorem dX4_hush_71 : decode cX4_hush 71 = .ok (.iconst (-1), 1) := dk_2 (dk_at dksX4_hush_2 23 rfl rfl)
theorem dX4_hush_72 : decode cX4_hush 72 = .ok (.if_icmp .eq 19, 3) := dk_159 0 19 (dk_at dksX4_hush_3 0 rfl rfl)
theorem dX4_hush_75 : decode cX4_hush 75 = .ok (.iload 7, 2) := dk_21 7 (dk_at dksX4_hush_3 3 rfl rfl)
theorem dX4_hush_77 : decode cX4_hush 77 = .ok (.invokestatic 430, 3) := dk_184 1 174 (dk_at dksX4_hush_3 5 rfl rfl)
theorem dX4_hush_80 : decode cX4_hush 80 = .ok (.iload 6, 2) := dk_21 6 (dk_at dksX4_hush_3 8 rfl rfl)
theorem dX4_hush_82 : decode cX4_hush 82 = .ok (.invokestatic 430, 3) := dk_184 1 174 (dk_at dksX4_hush_3 10 rfl rfl)
theorem dX4_hush_85 : decode cX4_hush 85 = .ok (.if_icmp .lt 6, 3) := dk_161 0 6 (dk_at dksX4_hush_3 13 rfl rfl)
theorem dX4_hush_88 : decode cX4_hush 88 = .ok (.goto 35, 3) := dk_167 0 35 (dk_at dksX4_hush_3 16 rfl rfl)
theorem dX4_hush_91 : decode cX4_hush 91 = .ok (.aload_n 0, 1) := dk_42 (dk_at dksX4_hush_3 19 rfl rfl)
theorem dX4_hush_92 : decode cX4_hush 92 = .ok (.getfield 9, 3) := dk_180 0 9 (dk_at dksX4_hush_3 20 rfl rfl)
theorem dX4_hush_95 : decode cX4_hush 95 = .ok (.bipush 7, 2) := dk_16 7 (dk_at dksX4_hush_4 0 rfl rfl)
theorem dX4_hush_97 : decode cX4_hush 97 = .ok (.iload 7, 2) := dk_21 7 (dk_at dksX4_hush_4 2 rfl rfl)
theorem dX4_hush_99 : decode cX4_hush 99 = .ok (.iastore, 1) := dk_79 (dk_at dksX4_hush_4 4 rfl rfl)
theorem dX4_hush_100 : decode cX4_hush 100 = .ok (.aload_n 0, 1) := dk_42 (dk_at dksX4_hush_4 5 rfl rfl)
theorem dX4_hush_101 : decode cX4_hush 101 = .ok (.invokevirtual 387, 3) := dk_182 1 131 (dk_at dksX4_hush_4 6 rfl rfl)
theorem dX4_hush_104 : decode cX4_hush 104 = .ok (.aload_n 0, 1) := dk_42 (dk_at dksX4_hush_4 9 rfl rfl)
theorem dX4_hush_105 : decode cX4_hush 105 = .ok (.iload_n 1, 1) := dk_27 (dk_at dksX4_hush_4 10 rfl rfl)
theorem dX4_hush_106 : decode cX4_hush 106 = .ok (.iload_n 2, 1) := dk_28 (dk_at dksX4_hush_4 11 rfl rfl)
theorem dX4_hush_107 : decode cX4_hush 107 = .ok (.iload_n 3, 1) := dk_29 (dk_at dksX4_hush_4 12 rfl rfl)
theorem dX4_hush_108 : decode cX4_hush 108 = .ok (.invokevirtual 458, 3) := dk_182 1 202 (dk_at dksX4_hush_4 13 rfl rfl)
theorem dX4_hush_111 : decode cX4_hush 111 = .ok (.ifCond .eq 8, 3) := dk_153 0 8 (dk_at dksX4_hush_4 16 rfl rfl)
theorem dX4_hush_114 : decode cX4_hush 114 = .ok (.iload 7, 2) := dk_21 7 (dk_at dksX4_hush_4 19 rfl rfl)
theorem dX4_hush_116 : decode cX4_hush 116 = .ok (.goto 5, 3) := dk_167 0 5 (dk_at dksX4_hush_4 21 rfl rfl)
theorem dX4_hush_119 : decode cX4_hush 119 = .ok (.iload 6, 2) := dk_21 6 (dk_at dksX4_hush_5 0 rfl rfl)
theorem dX4_hush_121 : decode cX4_hush 121 = .ok (.istore 6, 2) := dk_54 6 (dk_at dksX4_hush_5 2 rfl rfl)
theorem dX4_hush_123 : decode cX4_hush 123 = .ok (.iinc 7 1, 3) := dk_132 7 1 (dk_at dksX4_hush_5 4 rfl rfl)
theorem dX4_hush_126 : decode cX4_hush 126 = .ok (.goto (-70), 3) := dk_167 255 186 (dk_at dksX4_hush_5 7 rfl rfl)
theorem dX4_hush_129 : decode cX4_hush 129 = .ok (.aload_n 0, 1) := dk_42 (dk_at dksX4_hush_5 10 rfl rfl)
theorem dX4_hush_130 : decode cX4_hush 130 = .ok (.getfield 9, 3) := dk_180 0 9 (dk_at dksX4_hush_5 11 rfl rfl)
theorem dX4_hush_133 : decode cX4_hush 133 = .ok (.bipush 7, 2) := dk_16 7 (dk_at dksX4_hush_5 14 rfl rfl)
theorem dX4_hush_135 : decode cX4_hush 135 = .ok (.iload 5, 2) := dk_21 5 (dk_at dksX4_hush_5 16 rfl rfl)
theorem dX4_hush_137 : decode cX4_hush 137 = .ok (.iastore, 1) := dk_79 (dk_at dksX4_hush_5 18 rfl rfl)
theorem dX4_hush_138 : decode cX4_hush 138 = .ok (.iload 6, 2) := dk_21 6 (dk_at dksX4_hush_5 19 rfl rfl)
theorem dX4_hush_140 : decode cX4_hush 140 = .ok (.iconst (-1), 1) := dk_2 (dk_at dksX4_hush_5 21 rfl rfl)
theorem dX4_hush_141 : decode cX4_hush 141 = .ok (.if_icmp .eq 9, 3) := dk_159 0 9 (dk_at dksX4_hush_6 0 rfl rfl)
theorem dX4_hush_144 : decode cX4_hush 144 = .ok (.iload 4, 2) := dk_21 4 (dk_at dksX4_hush_6 3 rfl rfl)
theorem dX4_hush_146 : decode cX4_hush 146 = .ok (.iconst 1, 1) := dk_4 (dk_at dksX4_hush_6 5 rfl rfl)
theorem dX4_hush_147 : decode cX4_hush 147 = .ok (.if_icmp .ne 8, 3) := dk_160 0 8 (dk_at dksX4_hush_6 6 rfl rfl)
theorem dX4_hush_150 : decode cX4_hush 150 = .ok (.iload 6, 2) := dk_21 6 (dk_at dksX4_hush_6 9 rfl rfl)
theorem dX4_hush_152 : decode cX4_hush 152 = .ok (.goto 8, 3) := dk_167 0 8 (dk_at dksX4_hush_6 11 rfl rfl)
theorem dX4_hush_155 : decode cX4_hush 155 = .ok (.iload 6, 2) := dk_21 6 (dk_at dksX4_hush_6 14 rfl rfl)
theorem dX4_hush_157 : decode cX4_hush 157 = .ok (.invokestatic 430, 3) := dk_184 1 174 (dk_at dksX4_hush_6 16 rfl rfl)
theorem dX4_hush_160 : decode cX4_hush 160 = .ok (.ireturn, 1) := dk_172 (dk_at dksX4_hush_6 19 rfl rfl)
abbrev cX4_isBell : ByteArray := prog_19_method_104_code
def yX4_isBell : MethodName := ⟨RX4, "isBell", "(III)Z"⟩
def dkwX4_isBell_1 : List UInt8 := [132, 4, 1, 167, 255, 234, 3, 172]
abbrev dktX4_isBell_1 : List UInt8 := dkwX4_isBell_1 ++ []
def dkwX4_isBell_0 : List UInt8 := [3, 54, 4, 21, 4, 29, 163, 0, 22, 42, 28, 21, 4, 182, 1, 142, 27, 161, 0, 5, 4, 172]
abbrev dktX4_isBell_0 : List UInt8 := dkwX4_isBell_0 ++ dktX4_isBell_1
theorem dksX4_isBell_0 : cX4_isBell.data.toList.drop 0 = dktX4_isBell_0 := by decide +kernel
theorem dksX4_isBell_1 : cX4_isBell.data.toList.drop 22 = dktX4_isBell_1 := dk_seg dksX4_isBell_0 22 rfl rfl
theorem dX4_isBell_0 : decode cX4_isBell 0 = .ok (.iconst 0, 1) := dk_3 (dk_at dksX4_isBell_0 0 rfl rfl)
theorem dX4_isBell_1 : decode cX4_isBell 1 = .ok (.istore 4, 2) := dk_54 4 (dk_at dksX4_isBell_0 1 rfl rfl)
theorem dX4_isBell_3 : decode cX4_isBell 3 = .ok (.iload 4, 2) := dk_21 4 (dk_at dksX4_isBell_0 3 rfl rfl)
theorem dX4_isBell_5 : decode cX4_isBell 5 = .ok (.iload_n 3, 1) := dk_29 (dk_at dksX4_isBell_0 5 rfl rfl)
theorem dX4_isBell_6 : decode cX4_isBell 6 = .ok (.if_icmp .gt 22, 3) := dk_163 0 22 (dk_at dksX4_isBell_0 6 rfl rfl)
theorem dX4_isBell_9 : decode cX4_isBell 9 = .ok (.aload_n 0, 1) := dk_42 (dk_at dksX4_isBell_0 9 rfl rfl)
theorem dX4_isBell_10 : decode cX4_isBell 10 = .ok (.iload_n 2, 1) := dk_28 (dk_at dksX4_isBell_0 10 rfl rfl)
theorem dX4_isBell_11 : decode cX4_isBell 11 = .ok (.iload 4, 2) := dk_21 4 (dk_at dksX4_isBell_0 11 rfl rfl)
theorem dX4_isBell_13 : decode cX4_isBell 13 = .ok (.invokevirtual 398, 3) := dk_182 1 142 (dk_at dksX4_isBell_0 13 rfl rfl)
theorem dX4_isBell_16 : decode cX4_isBell 16 = .ok (.iload_n 1, 1) := dk_27 (dk_at dksX4_isBell_0 16 rfl rfl)
theorem dX4_isBell_17 : decode cX4_isBell 17 = .ok (.if_icmp .lt 5, 3) := dk_161 0 5 (dk_at dksX4_isBell_0 17 rfl rfl)
theorem dX4_isBell_20 : decode cX4_isBell 20 = .ok (.iconst 1, 1) := dk_4 (dk_at dksX4_isBell_0 20 rfl rfl)
theorem dX4_isBell_21 : decode cX4_isBell 21 = .ok (.ireturn, 1) := dk_172 (dk_at dksX4_isBell_0 21 rfl rfl)
theorem dX4_isBell_22 : decode cX4_isBell 22 = .ok (.iinc 4 1, 3) := dk_132 4 1 (dk_at dksX4_isBell_1 0 rfl rfl)
theorem dX4_isBell_25 : decode cX4_isBell 25 = .ok (.goto (-22), 3) := dk_167 255 234 (dk_at dksX4_isBell_1 3 rfl rfl)
theorem dX4_isBell_28 : decode cX4_isBell 28 = .ok (.iconst 0, 1) := dk_3 (dk_at dksX4_isBell_1 6 rfl rfl)
theorem dX4_isBell_29 : decode cX4_isBell 29 = .ok (.ireturn, 1) := dk_172 (dk_at dksX4_isBell_1 7 rfl rfl)
abbrev cX4_call : ByteArray := prog_19_method_106_code
def yX4_call : MethodName := ⟨RX4, "call", "(IZ)I"⟩
def dkwX4_call_2 : List UInt8 := [180, 0, 9, 16, 7, 46, 160, 0, 7, 3, 167, 0, 4, 4, 172]
abbrev dktX4_call_2 : List UInt8 := dkwX4_call_2 ++ []
def dkwX4_call_1 : List UInt8 := [16, 7, 28, 153, 0, 11, 29, 4, 27, 120, 128, 167, 0, 10, 29, 4, 27, 120, 2, 130, 126, 79, 29, 42]
abbrev dktX4_call_1 : List UInt8 := dkwX4_call_1 ++ dktX4_call_2
def dkwX4_call_0 : List UInt8 := [42, 27, 182, 1, 51, 154, 0, 6, 16, 254, 172, 42, 180, 0, 9, 16, 7, 46, 62, 42, 180, 0, 9]
abbrev dktX4_call_0 : List UInt8 := dkwX4_call_0 ++ dktX4_call_1
theorem dksX4_call_0 : cX4_call.data.toList.drop 0 = dktX4_call_0 := by decide +kernel
theorem dksX4_call_1 : cX4_call.data.toList.drop 23 = dktX4_call_1 := dk_seg dksX4_call_0 23 rfl rfl
theorem dksX4_call_2 : cX4_call.data.toList.drop 47 = dktX4_call_2 := dk_seg dksX4_call_1 24 rfl rfl
theorem dX4_call_0 : decode cX4_call 0 = .ok (.aload_n 0, 1) := dk_42 (dk_at dksX4_call_0 0 rfl rfl)
theorem dX4_call_1 : decode cX4_call 1 = .ok (.iload_n 1, 1) := dk_27 (dk_at dksX4_call_0 1 rfl rfl)
theorem dX4_call_2 : decode cX4_call 2 = .ok (.invokevirtual 307, 3) := dk_182 1 51 (dk_at dksX4_call_0 2 rfl rfl)
theorem dX4_call_5 : decode cX4_call 5 = .ok (.ifCond .ne 6, 3) := dk_154 0 6 (dk_at dksX4_call_0 5 rfl rfl)
theorem dX4_call_8 : decode cX4_call 8 = .ok (.bipush (-2), 2) := dk_16 254 (dk_at dksX4_call_0 8 rfl rfl)
theorem dX4_call_10 : decode cX4_call 10 = .ok (.ireturn, 1) := dk_172 (dk_at dksX4_call_0 10 rfl rfl)
theorem dX4_call_11 : decode cX4_call 11 = .ok (.aload_n 0, 1) := dk_42 (dk_at dksX4_call_0 11 rfl rfl)
theorem dX4_call_12 : decode cX4_call 12 = .ok (.getfield 9, 3) := dk_180 0 9 (dk_at dksX4_call_0 12 rfl rfl)
theorem dX4_call_15 : decode cX4_call 15 = .ok (.bipush 7, 2) := dk_16 7 (dk_at dksX4_call_0 15 rfl rfl)
theorem dX4_call_17 : decode cX4_call 17 = .ok (.iaload, 1) := dk_46 (dk_at dksX4_call_0 17 rfl rfl)
theorem dX4_call_18 : decode cX4_call 18 = .ok (.istore_n 3, 1) := dk_62 (dk_at dksX4_call_0 18 rfl rfl)
theorem dX4_call_19 : decode cX4_call 19 = .ok (.aload_n 0, 1) := dk_42 (dk_at dksX4_call_0 19 rfl rfl)
theorem dX4_call_20 : decode cX4_call 20 = .ok (.getfield 9, 3) := dk_180 0 9 (dk_at dksX4_call_0 20 rfl rfl)
theorem dX4_call_23 : decode cX4_call 23 = .ok (.bipush 7, 2) := dk_16 7 (dk_at dksX4_call_1 0 rfl rfl)
theorem dX4_call_25 : decode cX4_call 25 = .ok (.iload_n 2, 1) := dk_28 (dk_at dksX4_call_1 2 rfl rfl)
theorem dX4_call_26 : decode cX4_call 26 = .ok (.ifCond .eq 11, 3) := dk_153 0 11 (dk_at dksX4_call_1 3 rfl rfl)
theorem dX4_call_29 : decode cX4_call 29 = .ok (.iload_n 3, 1) := dk_29 (dk_at dksX4_call_1 6 rfl rfl)
theorem dX4_call_30 : decode cX4_call 30 = .ok (.iconst 1, 1) := dk_4 (dk_at dksX4_call_1 7 rfl rfl)
theorem dX4_call_31 : decode cX4_call 31 = .ok (.iload_n 1, 1) := dk_27 (dk_at dksX4_call_1 8 rfl rfl)
theorem dX4_call_32 : decode cX4_call 32 = .ok (.ishl, 1) := dk_120 (dk_at dksX4_call_1 9 rfl rfl)
theorem dX4_call_33 : decode cX4_call 33 = .ok (.ior, 1) := dk_128 (dk_at dksX4_call_1 10 rfl rfl)
theorem dX4_call_34 : decode cX4_call 34 = .ok (.goto 10, 3) := dk_167 0 10 (dk_at dksX4_call_1 11 rfl rfl)
theorem dX4_call_37 : decode cX4_call 37 = .ok (.iload_n 3, 1) := dk_29 (dk_at dksX4_call_1 14 rfl rfl)
theorem dX4_call_38 : decode cX4_call 38 = .ok (.iconst 1, 1) := dk_4 (dk_at dksX4_call_1 15 rfl rfl)
theorem dX4_call_39 : decode cX4_call 39 = .ok (.iload_n 1, 1) := dk_27 (dk_at dksX4_call_1 16 rfl rfl)
theorem dX4_call_40 : decode cX4_call 40 = .ok (.ishl, 1) := dk_120 (dk_at dksX4_call_1 17 rfl rfl)
theorem dX4_call_41 : decode cX4_call 41 = .ok (.iconst (-1), 1) := dk_2 (dk_at dksX4_call_1 18 rfl rfl)
theorem dX4_call_42 : decode cX4_call 42 = .ok (.ixor, 1) := dk_130 (dk_at dksX4_call_1 19 rfl rfl)
theorem dX4_call_43 : decode cX4_call 43 = .ok (.iand, 1) := dk_126 (dk_at dksX4_call_1 20 rfl rfl)
theorem dX4_call_44 : decode cX4_call 44 = .ok (.iastore, 1) := dk_79 (dk_at dksX4_call_1 21 rfl rfl)
theorem dX4_call_45 : decode cX4_call 45 = .ok (.iload_n 3, 1) := dk_29 (dk_at dksX4_call_1 22 rfl rfl)
theorem dX4_call_46 : decode cX4_call 46 = .ok (.aload_n 0, 1) := dk_42 (dk_at dksX4_call_1 23 rfl rfl)
theorem dX4_call_47 : decode cX4_call 47 = .ok (.getfield 9, 3) := dk_180 0 9 (dk_at dksX4_call_2 0 rfl rfl)
theorem dX4_call_50 : decode cX4_call 50 = .ok (.bipush 7, 2) := dk_16 7 (dk_at dksX4_call_2 3 rfl rfl)
theorem dX4_call_52 : decode cX4_call 52 = .ok (.iaload, 1) := dk_46 (dk_at dksX4_call_2 5 rfl rfl)
theorem dX4_call_53 : decode cX4_call 53 = .ok (.if_icmp .ne 7, 3) := dk_160 0 7 (dk_at dksX4_call_2 6 rfl rfl)
theorem dX4_call_56 : decode cX4_call 56 = .ok (.iconst 0, 1) := dk_3 (dk_at dksX4_call_2 9 rfl rfl)
theorem dX4_call_57 : decode cX4_call 57 = .ok (.goto 4, 3) := dk_167 0 4 (dk_at dksX4_call_2 10 rfl rfl)
theorem dX4_call_60 : decode cX4_call 60 = .ok (.iconst 1, 1) := dk_4 (dk_at dksX4_call_2 13 rfl rfl)
theorem dX4_call_61 : decode cX4_call 61 = .ok (.ireturn, 1) := dk_172 (dk_at dksX4_call_2 14 rfl rfl)
abbrev cX4_away : ByteArray := prog_19_method_108_code
def yX4_away : MethodName := ⟨RX4, "away", "(IIII)I"⟩
def dkwX4_away_2 : List UInt8 := [21, 5, 2, 159, 0, 9, 21, 4, 4, 160, 0, 8, 21, 5, 167, 0, 8, 21, 5, 184, 1, 174, 172]
abbrev dktX4_away_2 : List UInt8 := dkwX4_away_2 ++ []
def dkwX4_away_1 : List UInt8 := [21, 4, 133, 9, 10, 184, 0, 104, 154, 0, 6, 16, 254, 172, 42, 27, 28, 29, 182, 1, 205, 54, 5]
abbrev dktX4_away_1 : List UInt8 := dkwX4_away_1 ++ dktX4_away_2
def dkwX4_away_0 : List UInt8 := [42, 27, 182, 1, 58, 153, 0, 29, 42, 28, 182, 1, 134, 153, 0, 21, 29, 184, 1, 139, 153, 0, 14]
abbrev dktX4_away_0 : List UInt8 := dkwX4_away_0 ++ dktX4_away_1
theorem dksX4_away_0 : cX4_away.data.toList.drop 0 = dktX4_away_0 := by decide +kernel
theorem dksX4_away_1 : cX4_away.data.toList.drop 23 = dktX4_away_1 := dk_seg dksX4_away_0 23 rfl rfl
theorem dksX4_away_2 : cX4_away.data.toList.drop 46 = dktX4_away_2 := dk_seg dksX4_away_1 23 rfl rfl
theorem dX4_away_0 : decode cX4_away 0 = .ok (.aload_n 0, 1) := dk_42 (dk_at dksX4_away_0 0 rfl rfl)
theorem dX4_away_1 : decode cX4_away 1 = .ok (.iload_n 1, 1) := dk_27 (dk_at dksX4_away_0 1 rfl rfl)
theorem dX4_away_2 : decode cX4_away 2 = .ok (.invokevirtual 314, 3) := dk_182 1 58 (dk_at dksX4_away_0 2 rfl rfl)
theorem dX4_away_5 : decode cX4_away 5 = .ok (.ifCond .eq 29, 3) := dk_153 0 29 (dk_at dksX4_away_0 5 rfl rfl)
theorem dX4_away_8 : decode cX4_away 8 = .ok (.aload_n 0, 1) := dk_42 (dk_at dksX4_away_0 8 rfl rfl)
theorem dX4_away_9 : decode cX4_away 9 = .ok (.iload_n 2, 1) := dk_28 (dk_at dksX4_away_0 9 rfl rfl)
theorem dX4_away_10 : decode cX4_away 10 = .ok (.invokevirtual 390, 3) := dk_182 1 134 (dk_at dksX4_away_0 10 rfl rfl)
theorem dX4_away_13 : decode cX4_away 13 = .ok (.ifCond .eq 21, 3) := dk_153 0 21 (dk_at dksX4_away_0 13 rfl rfl)
theorem dX4_away_16 : decode cX4_away 16 = .ok (.iload_n 3, 1) := dk_29 (dk_at dksX4_away_0 16 rfl rfl)
theorem dX4_away_17 : decode cX4_away 17 = .ok (.invokestatic 395, 3) := dk_184 1 139 (dk_at dksX4_away_0 17 rfl rfl)
theorem dX4_away_20 : decode cX4_away 20 = .ok (.ifCond .eq 14, 3) := dk_153 0 14 (dk_at dksX4_away_0 20 rfl rfl)
theorem dX4_away_23 : decode cX4_away 23 = .ok (.iload 4, 2) := dk_21 4 (dk_at dksX4_away_1 0 rfl rfl)
theorem dX4_away_25 : decode cX4_away 25 = .ok (.i2l, 1) := dk_133 (dk_at dksX4_away_1 2 rfl rfl)
theorem dX4_away_26 : decode cX4_away 26 = .ok (.lconst 0, 1) := dk_9 (dk_at dksX4_away_1 3 rfl rfl)
theorem dX4_away_27 : decode cX4_away 27 = .ok (.lconst 1, 1) := dk_10 (dk_at dksX4_away_1 4 rfl rfl)
theorem dX4_away_28 : decode cX4_away 28 = .ok (.invokestatic 104, 3) := dk_184 0 104 (dk_at dksX4_away_1 5 rfl rfl)
theorem dX4_away_31 : decode cX4_away 31 = .ok (.ifCond .ne 6, 3) := dk_154 0 6 (dk_at dksX4_away_1 8 rfl rfl)
theorem dX4_away_34 : decode cX4_away 34 = .ok (.bipush (-2), 2) := dk_16 254 (dk_at dksX4_away_1 11 rfl rfl)
theorem dX4_away_36 : decode cX4_away 36 = .ok (.ireturn, 1) := dk_172 (dk_at dksX4_away_1 13 rfl rfl)
theorem dX4_away_37 : decode cX4_away 37 = .ok (.aload_n 0, 1) := dk_42 (dk_at dksX4_away_1 14 rfl rfl)
theorem dX4_away_38 : decode cX4_away 38 = .ok (.iload_n 1, 1) := dk_27 (dk_at dksX4_away_1 15 rfl rfl)
theorem dX4_away_39 : decode cX4_away 39 = .ok (.iload_n 2, 1) := dk_28 (dk_at dksX4_away_1 16 rfl rfl)
theorem dX4_away_40 : decode cX4_away 40 = .ok (.iload_n 3, 1) := dk_29 (dk_at dksX4_away_1 17 rfl rfl)
theorem dX4_away_41 : decode cX4_away 41 = .ok (.invokevirtual 461, 3) := dk_182 1 205 (dk_at dksX4_away_1 18 rfl rfl)
theorem dX4_away_44 : decode cX4_away 44 = .ok (.istore 5, 2) := dk_54 5 (dk_at dksX4_away_1 21 rfl rfl)
theorem dX4_away_46 : decode cX4_away 46 = .ok (.iload 5, 2) := dk_21 5 (dk_at dksX4_away_2 0 rfl rfl)
theorem dX4_away_48 : decode cX4_away 48 = .ok (.iconst (-1), 1) := dk_2 (dk_at dksX4_away_2 2 rfl rfl)
theorem dX4_away_49 : decode cX4_away 49 = .ok (.if_icmp .eq 9, 3) := dk_159 0 9 (dk_at dksX4_away_2 3 rfl rfl)
theorem dX4_away_52 : decode cX4_away 52 = .ok (.iload 4, 2) := dk_21 4 (dk_at dksX4_away_2 6 rfl rfl)
theorem dX4_away_54 : decode cX4_away 54 = .ok (.iconst 1, 1) := dk_4 (dk_at dksX4_away_2 8 rfl rfl)
theorem dX4_away_55 : decode cX4_away 55 = .ok (.if_icmp .ne 8, 3) := dk_160 0 8 (dk_at dksX4_away_2 9 rfl rfl)
theorem dX4_away_58 : decode cX4_away 58 = .ok (.iload 5, 2) := dk_21 5 (dk_at dksX4_away_2 12 rfl rfl)
theorem dX4_away_60 : decode cX4_away 60 = .ok (.goto 8, 3) := dk_167 0 8 (dk_at dksX4_away_2 14 rfl rfl)
theorem dX4_away_63 : decode cX4_away 63 = .ok (.iload 5, 2) := dk_21 5 (dk_at dksX4_away_2 17 rfl rfl)
theorem dX4_away_65 : decode cX4_away 65 = .ok (.invokestatic 430, 3) := dk_184 1 174 (dk_at dksX4_away_2 19 rfl rfl)
theorem dX4_away_68 : decode cX4_away 68 = .ok (.ireturn, 1) := dk_172 (dk_at dksX4_away_2 22 rfl rfl)
abbrev cX4_awayOf : ByteArray := prog_19_method_107_code
def yX4_awayOf : MethodName := ⟨RX4, "awayOf", "(III)I"⟩
def dkwX4_awayOf_4 : List UInt8 := [21, 4, 79, 21, 5, 172]
abbrev dktX4_awayOf_4 : List UInt8 := dkwX4_awayOf_4 ++ []
def dkwX4_awayOf_3 : List UInt8 := [160, 0, 8, 21, 6, 167, 0, 5, 21, 5, 54, 5, 132, 6, 1, 167, 255, 186, 42, 180, 0, 9, 16, 7]
abbrev dktX4_awayOf_3 : List UInt8 := dkwX4_awayOf_3 ++ dktX4_awayOf_4
def dkwX4_awayOf_2 : List UInt8 := [167, 0, 35, 42, 180, 0, 9, 16, 7, 21, 6, 79, 42, 182, 1, 131, 42, 27, 28, 182, 1, 86, 29]
abbrev dktX4_awayOf_2 : List UInt8 := dkwX4_awayOf_2 ++ dktX4_awayOf_3
def dkwX4_awayOf_1 : List UInt8 := [120, 162, 0, 63, 21, 5, 2, 159, 0, 19, 21, 6, 184, 1, 174, 21, 5, 184, 1, 174, 161, 0, 6]
abbrev dktX4_awayOf_1 : List UInt8 := dkwX4_awayOf_1 ++ dktX4_awayOf_2
def dkwX4_awayOf_0 : List UInt8 := [42, 180, 0, 9, 16, 7, 46, 54, 4, 2, 54, 5, 3, 54, 6, 21, 6, 4, 42, 180, 0, 9, 5, 46]
abbrev dktX4_awayOf_0 : List UInt8 := dkwX4_awayOf_0 ++ dktX4_awayOf_1
theorem dksX4_awayOf_0 : cX4_awayOf.data.toList.drop 0 = dktX4_awayOf_0 := by decide +kernel
theorem dksX4_awayOf_1 : cX4_awayOf.data.toList.drop 24 = dktX4_awayOf_1 := dk_seg dksX4_awayOf_0 24 rfl rfl
theorem dksX4_awayOf_2 : cX4_awayOf.data.toList.drop 47 = dktX4_awayOf_2 := dk_seg dksX4_awayOf_1 23 rfl rfl
theorem dksX4_awayOf_3 : cX4_awayOf.data.toList.drop 70 = dktX4_awayOf_3 := dk_seg dksX4_awayOf_2 23 rfl rfl
theorem dksX4_awayOf_4 : cX4_awayOf.data.toList.drop 94 = dktX4_awayOf_4 := dk_seg dksX4_awayOf_3 24 rfl rfl
theorem dX4_awayOf_0 : decode cX4_awayOf 0 = .ok (.aload_n 0, 1) := dk_42 (dk_at dksX4_awayOf_0 0 rfl rfl)
theorem dX4_awayOf_1 : decode cX4_awayOf 1 = .ok (.getfield 9, 3) := dk_180 0 9 (dk_at dksX4_awayOf_0 1 rfl rfl)
theorem dX4_awayOf_4 : decode cX4_awayOf 4 = .ok (.bipush 7, 2) := dk_16 7 (dk_at dksX4_awayOf_0 4 rfl rfl)
theorem dX4_awayOf_6 : decode cX4_awayOf 6 = .ok (.iaload, 1) := dk_46 (dk_at dksX4_awayOf_0 6 rfl rfl)
theorem dX4_awayOf_7 : decode cX4_awayOf 7 = .ok (.istore 4, 2) := dk_54 4 (dk_at dksX4_awayOf_0 7 rfl rfl)
theorem dX4_awayOf_9 : decode cX4_awayOf 9 = .ok (.iconst (-1), 1) := dk_2 (dk_at dksX4_awayOf_0 9 rfl rfl)
theorem dX4_awayOf_10 : decode cX4_awayOf 10 = .ok (.istore 5, 2) := dk_54 5 (dk_at dksX4_awayOf_0 10 rfl rfl)
theorem dX4_awayOf_12 : decode cX4_awayOf 12 = .ok (.iconst 0, 1) := dk_3 (dk_at dksX4_awayOf_0 12 rfl rfl)
theorem dX4_awayOf_13 : decode cX4_awayOf 13 = .ok (.istore 6, 2) := dk_54 6 (dk_at dksX4_awayOf_0 13 rfl rfl)
theorem dX4_awayOf_15 : decode cX4_awayOf 15 = .ok (.iload 6, 2) := dk_21 6 (dk_at dksX4_awayOf_0 15 rfl rfl)
theorem dX4_awayOf_17 : decode cX4_awayOf 17 = .ok (.iconst 1, 1) := dk_4 (dk_at dksX4_awayOf_0 17 rfl rfl)
theorem dX4_awayOf_18 : decode cX4_awayOf 18 = .ok (.aload_n 0, 1) := dk_42 (dk_at dksX4_awayOf_0 18 rfl rfl)
theorem dX4_awayOf_19 : decode cX4_awayOf 19 = .ok (.getfield 9, 3) := dk_180 0 9 (dk_at dksX4_awayOf_0 19 rfl rfl)
theorem dX4_awayOf_22 : decode cX4_awayOf 22 = .ok (.iconst 2, 1) := dk_5 (dk_at dksX4_awayOf_0 22 rfl rfl)
theorem dX4_awayOf_23 : decode cX4_awayOf 23 = .ok (.iaload, 1) := dk_46 (dk_at dksX4_awayOf_0 23 rfl rfl)
theorem dX4_awayOf_24 : decode cX4_awayOf 24 = .ok (.ishl, 1) := dk_120 (dk_at dksX4_awayOf_1 0 rfl rfl)
theorem dX4_awayOf_25 : decode cX4_awayOf 25 = .ok (.if_icmp .ge 63, 3) := dk_162 0 63 (dk_at dksX4_awayOf_1 1 rfl rfl)
theorem dX4_awayOf_28 : decode cX4_awayOf 28 = .ok (.iload 5, 2) := dk_21 5 (dk_at dksX4_awayOf_1 4 rfl rfl)
theorem dX4_awayOf_30 : decode cX4_awayOf 30 = .ok (.iconst (-1), 1) := dk_2 (dk_at dksX4_awayOf_1 6 rfl rfl)
theorem dX4_awayOf_31 : decode cX4_awayOf 31 = .ok (.if_icmp .eq 19, 3) := dk_159 0 19 (dk_at dksX4_awayOf_1 7 rfl rfl)
theorem dX4_awayOf_34 : decode cX4_awayOf 34 = .ok (.iload 6, 2) := dk_21 6 (dk_at dksX4_awayOf_1 10 rfl rfl)
theorem dX4_awayOf_36 : decode cX4_awayOf 36 = .ok (.invokestatic 430, 3) := dk_184 1 174 (dk_at dksX4_awayOf_1 12 rfl rfl)
theorem dX4_awayOf_39 : decode cX4_awayOf 39 = .ok (.iload 5, 2) := dk_21 5 (dk_at dksX4_awayOf_1 15 rfl rfl)
theorem dX4_awayOf_41 : decode cX4_awayOf 41 = .ok (.invokestatic 430, 3) := dk_184 1 174 (dk_at dksX4_awayOf_1 17 rfl rfl)
theorem dX4_awayOf_44 : decode cX4_awayOf 44 = .ok (.if_icmp .lt 6, 3) := dk_161 0 6 (dk_at dksX4_awayOf_1 20 rfl rfl)
theorem dX4_awayOf_47 : decode cX4_awayOf 47 = .ok (.goto 35, 3) := dk_167 0 35 (dk_at dksX4_awayOf_2 0 rfl rfl)
theorem dX4_awayOf_50 : decode cX4_awayOf 50 = .ok (.aload_n 0, 1) := dk_42 (dk_at dksX4_awayOf_2 3 rfl rfl)
theorem dX4_awayOf_51 : decode cX4_awayOf 51 = .ok (.getfield 9, 3) := dk_180 0 9 (dk_at dksX4_awayOf_2 4 rfl rfl)
theorem dX4_awayOf_54 : decode cX4_awayOf 54 = .ok (.bipush 7, 2) := dk_16 7 (dk_at dksX4_awayOf_2 7 rfl rfl)
theorem dX4_awayOf_56 : decode cX4_awayOf 56 = .ok (.iload 6, 2) := dk_21 6 (dk_at dksX4_awayOf_2 9 rfl rfl)
theorem dX4_awayOf_58 : decode cX4_awayOf 58 = .ok (.iastore, 1) := dk_79 (dk_at dksX4_awayOf_2 11 rfl rfl)
theorem dX4_awayOf_59 : decode cX4_awayOf 59 = .ok (.aload_n 0, 1) := dk_42 (dk_at dksX4_awayOf_2 12 rfl rfl)
theorem dX4_awayOf_60 : decode cX4_awayOf 60 = .ok (.invokevirtual 387, 3) := dk_182 1 131 (dk_at dksX4_awayOf_2 13 rfl rfl)
theorem dX4_awayOf_63 : decode cX4_awayOf 63 = .ok (.aload_n 0, 1) := dk_42 (dk_at dksX4_awayOf_2 16 rfl rfl)
theorem dX4_awayOf_64 : decode cX4_awayOf 64 = .ok (.iload_n 1, 1) := dk_27 (dk_at dksX4_awayOf_2 17 rfl rfl)
theorem dX4_awayOf_65 : decode cX4_awayOf 65 = .ok (.iload_n 2, 1) := dk_28 (dk_at dksX4_awayOf_2 18 rfl rfl)
theorem dX4_awayOf_66 : decode cX4_awayOf 66 = .ok (.invokevirtual 342, 3) := dk_182 1 86 (dk_at dksX4_awayOf_2 19 rfl rfl)
theorem dX4_awayOf_69 : decode cX4_awayOf 69 = .ok (.iload_n 3, 1) := dk_29 (dk_at dksX4_awayOf_2 22 rfl rfl)
theorem dX4_awayOf_70 : decode cX4_awayOf 70 = .ok (.if_icmp .ne 8, 3) := dk_160 0 8 (dk_at dksX4_awayOf_3 0 rfl rfl)
theorem dX4_awayOf_73 : decode cX4_awayOf 73 = .ok (.iload 6, 2) := dk_21 6 (dk_at dksX4_awayOf_3 3 rfl rfl)
theorem dX4_awayOf_75 : decode cX4_awayOf 75 = .ok (.goto 5, 3) := dk_167 0 5 (dk_at dksX4_awayOf_3 5 rfl rfl)
theorem dX4_awayOf_78 : decode cX4_awayOf 78 = .ok (.iload 5, 2) := dk_21 5 (dk_at dksX4_awayOf_3 8 rfl rfl)
theorem dX4_awayOf_80 : decode cX4_awayOf 80 = .ok (.istore 5, 2) := dk_54 5 (dk_at dksX4_awayOf_3 10 rfl rfl)
theorem dX4_awayOf_82 : decode cX4_awayOf 82 = .ok (.iinc 6 1, 3) := dk_132 6 1 (dk_at dksX4_awayOf_3 12 rfl rfl)
theorem dX4_awayOf_85 : decode cX4_awayOf 85 = .ok (.goto (-70), 3) := dk_167 255 186 (dk_at dksX4_awayOf_3 15 rfl rfl)
theorem dX4_awayOf_88 : decode cX4_awayOf 88 = .ok (.aload_n 0, 1) := dk_42 (dk_at dksX4_awayOf_3 18 rfl rfl)
theorem dX4_awayOf_89 : decode cX4_awayOf 89 = .ok (.getfield 9, 3) := dk_180 0 9 (dk_at dksX4_awayOf_3 19 rfl rfl)
theorem dX4_awayOf_92 : decode cX4_awayOf 92 = .ok (.bipush 7, 2) := dk_16 7 (dk_at dksX4_awayOf_3 22 rfl rfl)
theorem dX4_awayOf_94 : decode cX4_awayOf 94 = .ok (.iload 4, 2) := dk_21 4 (dk_at dksX4_awayOf_4 0 rfl rfl)
theorem dX4_awayOf_96 : decode cX4_awayOf 96 = .ok (.iastore, 1) := dk_79 (dk_at dksX4_awayOf_4 2 rfl rfl)
theorem dX4_awayOf_97 : decode cX4_awayOf 97 = .ok (.iload 5, 2) := dk_21 5 (dk_at dksX4_awayOf_4 3 rfl rfl)
theorem dX4_awayOf_99 : decode cX4_awayOf 99 = .ok (.ireturn, 1) := dk_172 (dk_at dksX4_awayOf_4 5 rfl rfl)
abbrev cX4_kept : ByteArray := prog_19_method_110_code
def yX4_kept : MethodName := ⟨RX4, "kept", "(III)I"⟩
def dkwX4_kept_1 : List UInt8 := [182, 1, 134, 153, 0, 13, 42, 27, 28, 29, 182, 1, 210, 167, 0, 5, 16, 254, 172]
abbrev dktX4_kept_1 : List UInt8 := dkwX4_kept_1 ++ []
def dkwX4_kept_0 : List UInt8 := [42, 27, 182, 1, 58, 153, 0, 33, 28, 133, 9, 20, 1, 208, 184, 0, 104, 153, 0, 21, 42, 29]
abbrev dktX4_kept_0 : List UInt8 := dkwX4_kept_0 ++ dktX4_kept_1
theorem dksX4_kept_0 : cX4_kept.data.toList.drop 0 = dktX4_kept_0 := by decide +kernel
theorem dksX4_kept_1 : cX4_kept.data.toList.drop 22 = dktX4_kept_1 := dk_seg dksX4_kept_0 22 rfl rfl
theorem dX4_kept_0 : decode cX4_kept 0 = .ok (.aload_n 0, 1) := dk_42 (dk_at dksX4_kept_0 0 rfl rfl)
theorem dX4_kept_1 : decode cX4_kept 1 = .ok (.iload_n 1, 1) := dk_27 (dk_at dksX4_kept_0 1 rfl rfl)
theorem dX4_kept_2 : decode cX4_kept 2 = .ok (.invokevirtual 314, 3) := dk_182 1 58 (dk_at dksX4_kept_0 2 rfl rfl)
theorem dX4_kept_5 : decode cX4_kept 5 = .ok (.ifCond .eq 33, 3) := dk_153 0 33 (dk_at dksX4_kept_0 5 rfl rfl)
theorem dX4_kept_8 : decode cX4_kept 8 = .ok (.iload_n 2, 1) := dk_28 (dk_at dksX4_kept_0 8 rfl rfl)
theorem dX4_kept_9 : decode cX4_kept 9 = .ok (.i2l, 1) := dk_133 (dk_at dksX4_kept_0 9 rfl rfl)
theorem dX4_kept_10 : decode cX4_kept 10 = .ok (.lconst 0, 1) := dk_9 (dk_at dksX4_kept_0 10 rfl rfl)
theorem dX4_kept_11 : decode cX4_kept 11 = .ok (.ldc2_w 464, 3) := dk_20 1 208 (dk_at dksX4_kept_0 11 rfl rfl)
theorem dX4_kept_14 : decode cX4_kept 14 = .ok (.invokestatic 104, 3) := dk_184 0 104 (dk_at dksX4_kept_0 14 rfl rfl)
theorem dX4_kept_17 : decode cX4_kept 17 = .ok (.ifCond .eq 21, 3) := dk_153 0 21 (dk_at dksX4_kept_0 17 rfl rfl)
theorem dX4_kept_20 : decode cX4_kept 20 = .ok (.aload_n 0, 1) := dk_42 (dk_at dksX4_kept_0 20 rfl rfl)
theorem dX4_kept_21 : decode cX4_kept 21 = .ok (.iload_n 3, 1) := dk_29 (dk_at dksX4_kept_0 21 rfl rfl)
theorem dX4_kept_22 : decode cX4_kept 22 = .ok (.invokevirtual 390, 3) := dk_182 1 134 (dk_at dksX4_kept_1 0 rfl rfl)
theorem dX4_kept_25 : decode cX4_kept 25 = .ok (.ifCond .eq 13, 3) := dk_153 0 13 (dk_at dksX4_kept_1 3 rfl rfl)
theorem dX4_kept_28 : decode cX4_kept 28 = .ok (.aload_n 0, 1) := dk_42 (dk_at dksX4_kept_1 6 rfl rfl)
theorem dX4_kept_29 : decode cX4_kept 29 = .ok (.iload_n 1, 1) := dk_27 (dk_at dksX4_kept_1 7 rfl rfl)
theorem dX4_kept_30 : decode cX4_kept 30 = .ok (.iload_n 2, 1) := dk_28 (dk_at dksX4_kept_1 8 rfl rfl)
theorem dX4_kept_31 : decode cX4_kept 31 = .ok (.iload_n 3, 1) := dk_29 (dk_at dksX4_kept_1 9 rfl rfl)
theorem dX4_kept_32 : decode cX4_kept 32 = .ok (.invokevirtual 466, 3) := dk_182 1 210 (dk_at dksX4_kept_1 10 rfl rfl)
theorem dX4_kept_35 : decode cX4_kept 35 = .ok (.goto 5, 3) := dk_167 0 5 (dk_at dksX4_kept_1 13 rfl rfl)
theorem dX4_kept_38 : decode cX4_kept 38 = .ok (.bipush (-2), 2) := dk_16 254 (dk_at dksX4_kept_1 16 rfl rfl)
theorem dX4_kept_40 : decode cX4_kept 40 = .ok (.ireturn, 1) := dk_172 (dk_at dksX4_kept_1 18 rfl rfl)
abbrev cX4_keptAt : ByteArray := prog_19_method_109_code
def yX4_keptAt : MethodName := ⟨RX4, "keptAt", "(III)I"⟩
def dkwX4_keptAt_1 : List UInt8 := [182, 1, 128, 42, 27, 29, 182, 1, 86, 172]
abbrev dktX4_keptAt_1 : List UInt8 := dkwX4_keptAt_1 ++ []
def dkwX4_keptAt_0 : List UInt8 := [42, 182, 1, 125, 42, 180, 0, 58, 27, 28, 79, 42, 3, 181, 1, 110, 42, 3, 181, 1, 75, 42]
abbrev dktX4_keptAt_0 : List UInt8 := dkwX4_keptAt_0 ++ dktX4_keptAt_1
theorem dksX4_keptAt_0 : cX4_keptAt.data.toList.drop 0 = dktX4_keptAt_0 := by decide +kernel
theorem dksX4_keptAt_1 : cX4_keptAt.data.toList.drop 22 = dktX4_keptAt_1 := dk_seg dksX4_keptAt_0 22 rfl rfl
theorem dX4_keptAt_0 : decode cX4_keptAt 0 = .ok (.aload_n 0, 1) := dk_42 (dk_at dksX4_keptAt_0 0 rfl rfl)
theorem dX4_keptAt_1 : decode cX4_keptAt 1 = .ok (.invokevirtual 381, 3) := dk_182 1 125 (dk_at dksX4_keptAt_0 1 rfl rfl)
theorem dX4_keptAt_4 : decode cX4_keptAt 4 = .ok (.aload_n 0, 1) := dk_42 (dk_at dksX4_keptAt_0 4 rfl rfl)
theorem dX4_keptAt_5 : decode cX4_keptAt 5 = .ok (.getfield 58, 3) := dk_180 0 58 (dk_at dksX4_keptAt_0 5 rfl rfl)
theorem dX4_keptAt_8 : decode cX4_keptAt 8 = .ok (.iload_n 1, 1) := dk_27 (dk_at dksX4_keptAt_0 8 rfl rfl)
theorem dX4_keptAt_9 : decode cX4_keptAt 9 = .ok (.iload_n 2, 1) := dk_28 (dk_at dksX4_keptAt_0 9 rfl rfl)
theorem dX4_keptAt_10 : decode cX4_keptAt 10 = .ok (.iastore, 1) := dk_79 (dk_at dksX4_keptAt_0 10 rfl rfl)
theorem dX4_keptAt_11 : decode cX4_keptAt 11 = .ok (.aload_n 0, 1) := dk_42 (dk_at dksX4_keptAt_0 11 rfl rfl)
theorem dX4_keptAt_12 : decode cX4_keptAt 12 = .ok (.iconst 0, 1) := dk_3 (dk_at dksX4_keptAt_0 12 rfl rfl)
theorem dX4_keptAt_13 : decode cX4_keptAt 13 = .ok (.putfield 366, 3) := dk_181 1 110 (dk_at dksX4_keptAt_0 13 rfl rfl)
theorem dX4_keptAt_16 : decode cX4_keptAt 16 = .ok (.aload_n 0, 1) := dk_42 (dk_at dksX4_keptAt_0 16 rfl rfl)
theorem dX4_keptAt_17 : decode cX4_keptAt 17 = .ok (.iconst 0, 1) := dk_3 (dk_at dksX4_keptAt_0 17 rfl rfl)
theorem dX4_keptAt_18 : decode cX4_keptAt 18 = .ok (.putfield 331, 3) := dk_181 1 75 (dk_at dksX4_keptAt_0 18 rfl rfl)
theorem dX4_keptAt_21 : decode cX4_keptAt 21 = .ok (.aload_n 0, 1) := dk_42 (dk_at dksX4_keptAt_0 21 rfl rfl)
theorem dX4_keptAt_22 : decode cX4_keptAt 22 = .ok (.invokevirtual 384, 3) := dk_182 1 128 (dk_at dksX4_keptAt_1 0 rfl rfl)
theorem dX4_keptAt_25 : decode cX4_keptAt 25 = .ok (.aload_n 0, 1) := dk_42 (dk_at dksX4_keptAt_1 3 rfl rfl)
theorem dX4_keptAt_26 : decode cX4_keptAt 26 = .ok (.iload_n 1, 1) := dk_27 (dk_at dksX4_keptAt_1 4 rfl rfl)
theorem dX4_keptAt_27 : decode cX4_keptAt 27 = .ok (.iload_n 3, 1) := dk_29 (dk_at dksX4_keptAt_1 5 rfl rfl)
theorem dX4_keptAt_28 : decode cX4_keptAt 28 = .ok (.invokevirtual 342, 3) := dk_182 1 86 (dk_at dksX4_keptAt_1 6 rfl rfl)
theorem dX4_keptAt_31 : decode cX4_keptAt 31 = .ok (.ireturn, 1) := dk_172 (dk_at dksX4_keptAt_1 9 rfl rfl)
abbrev cX4_keep : ByteArray := prog_19_method_112_code
def yX4_keep : MethodName := ⟨RX4, "keep", "(III)I"⟩
def dkwX4_keep_1 : List UInt8 := [27, 28, 29, 182, 1, 213, 167, 0, 5, 16, 254, 172]
abbrev dktX4_keep_1 : List UInt8 := dkwX4_keep_1 ++ []
def dkwX4_keep_0 : List UInt8 := [42, 27, 182, 1, 58, 153, 0, 28, 42, 28, 182, 1, 134, 153, 0, 20, 29, 184, 1, 139, 153, 0, 13, 42]
abbrev dktX4_keep_0 : List UInt8 := dkwX4_keep_0 ++ dktX4_keep_1
theorem dksX4_keep_0 : cX4_keep.data.toList.drop 0 = dktX4_keep_0 := by decide +kernel
theorem dksX4_keep_1 : cX4_keep.data.toList.drop 24 = dktX4_keep_1 := dk_seg dksX4_keep_0 24 rfl rfl
theorem dX4_keep_0 : decode cX4_keep 0 = .ok (.aload_n 0, 1) := dk_42 (dk_at dksX4_keep_0 0 rfl rfl)
theorem dX4_keep_1 : decode cX4_keep 1 = .ok (.iload_n 1, 1) := dk_27 (dk_at dksX4_keep_0 1 rfl rfl)
theorem dX4_keep_2 : decode cX4_keep 2 = .ok (.invokevirtual 314, 3) := dk_182 1 58 (dk_at dksX4_keep_0 2 rfl rfl)
theorem dX4_keep_5 : decode cX4_keep 5 = .ok (.ifCond .eq 28, 3) := dk_153 0 28 (dk_at dksX4_keep_0 5 rfl rfl)
theorem dX4_keep_8 : decode cX4_keep 8 = .ok (.aload_n 0, 1) := dk_42 (dk_at dksX4_keep_0 8 rfl rfl)
theorem dX4_keep_9 : decode cX4_keep 9 = .ok (.iload_n 2, 1) := dk_28 (dk_at dksX4_keep_0 9 rfl rfl)
theorem dX4_keep_10 : decode cX4_keep 10 = .ok (.invokevirtual 390, 3) := dk_182 1 134 (dk_at dksX4_keep_0 10 rfl rfl)
theorem dX4_keep_13 : decode cX4_keep 13 = .ok (.ifCond .eq 20, 3) := dk_153 0 20 (dk_at dksX4_keep_0 13 rfl rfl)
theorem dX4_keep_16 : decode cX4_keep 16 = .ok (.iload_n 3, 1) := dk_29 (dk_at dksX4_keep_0 16 rfl rfl)
theorem dX4_keep_17 : decode cX4_keep 17 = .ok (.invokestatic 395, 3) := dk_184 1 139 (dk_at dksX4_keep_0 17 rfl rfl)
theorem dX4_keep_20 : decode cX4_keep 20 = .ok (.ifCond .eq 13, 3) := dk_153 0 13 (dk_at dksX4_keep_0 20 rfl rfl)
theorem dX4_keep_23 : decode cX4_keep 23 = .ok (.aload_n 0, 1) := dk_42 (dk_at dksX4_keep_0 23 rfl rfl)
theorem dX4_keep_24 : decode cX4_keep 24 = .ok (.iload_n 1, 1) := dk_27 (dk_at dksX4_keep_1 0 rfl rfl)
theorem dX4_keep_25 : decode cX4_keep 25 = .ok (.iload_n 2, 1) := dk_28 (dk_at dksX4_keep_1 1 rfl rfl)
theorem dX4_keep_26 : decode cX4_keep 26 = .ok (.iload_n 3, 1) := dk_29 (dk_at dksX4_keep_1 2 rfl rfl)
theorem dX4_keep_27 : decode cX4_keep 27 = .ok (.invokevirtual 469, 3) := dk_182 1 213 (dk_at dksX4_keep_1 3 rfl rfl)
theorem dX4_keep_30 : decode cX4_keep 30 = .ok (.goto 5, 3) := dk_167 0 5 (dk_at dksX4_keep_1 6 rfl rfl)
theorem dX4_keep_33 : decode cX4_keep 33 = .ok (.bipush (-2), 2) := dk_16 254 (dk_at dksX4_keep_1 9 rfl rfl)
theorem dX4_keep_35 : decode cX4_keep 35 = .ok (.ireturn, 1) := dk_172 (dk_at dksX4_keep_1 11 rfl rfl)
abbrev cX4_leastKept : ByteArray := prog_19_method_111_code
def yX4_leastKept : MethodName := ⟨RX4, "leastKept", "(III)I"⟩
def dkwX4_leastKept_1 : List UInt8 := [172, 132, 4, 1, 167, 255, 231, 2, 172]
abbrev dktX4_leastKept_1 : List UInt8 := dkwX4_leastKept_1 ++ []
def dkwX4_leastKept_0 : List UInt8 := [3, 54, 4, 21, 4, 16, 40, 163, 0, 24, 42, 27, 21, 4, 28, 182, 1, 210, 29, 160, 0, 6, 21, 4]
abbrev dktX4_leastKept_0 : List UInt8 := dkwX4_leastKept_0 ++ dktX4_leastKept_1
theorem dksX4_leastKept_0 : cX4_leastKept.data.toList.drop 0 = dktX4_leastKept_0 := by decide +kernel
theorem dksX4_leastKept_1 : cX4_leastKept.data.toList.drop 24 = dktX4_leastKept_1 := dk_seg dksX4_leastKept_0 24 rfl rfl
theorem dX4_leastKept_0 : decode cX4_leastKept 0 = .ok (.iconst 0, 1) := dk_3 (dk_at dksX4_leastKept_0 0 rfl rfl)
theorem dX4_leastKept_1 : decode cX4_leastKept 1 = .ok (.istore 4, 2) := dk_54 4 (dk_at dksX4_leastKept_0 1 rfl rfl)
theorem dX4_leastKept_3 : decode cX4_leastKept 3 = .ok (.iload 4, 2) := dk_21 4 (dk_at dksX4_leastKept_0 3 rfl rfl)
theorem dX4_leastKept_5 : decode cX4_leastKept 5 = .ok (.bipush 40, 2) := dk_16 40 (dk_at dksX4_leastKept_0 5 rfl rfl)
theorem dX4_leastKept_7 : decode cX4_leastKept 7 = .ok (.if_icmp .gt 24, 3) := dk_163 0 24 (dk_at dksX4_leastKept_0 7 rfl rfl)
theorem dX4_leastKept_10 : decode cX4_leastKept 10 = .ok (.aload_n 0, 1) := dk_42 (dk_at dksX4_leastKept_0 10 rfl rfl)
theorem dX4_leastKept_11 : decode cX4_leastKept 11 = .ok (.iload_n 1, 1) := dk_27 (dk_at dksX4_leastKept_0 11 rfl rfl)
theorem dX4_leastKept_12 : decode cX4_leastKept 12 = .ok (.iload 4, 2) := dk_21 4 (dk_at dksX4_leastKept_0 12 rfl rfl)
theorem dX4_leastKept_14 : decode cX4_leastKept 14 = .ok (.iload_n 2, 1) := dk_28 (dk_at dksX4_leastKept_0 14 rfl rfl)
theorem dX4_leastKept_15 : decode cX4_leastKept 15 = .ok (.invokevirtual 466, 3) := dk_182 1 210 (dk_at dksX4_leastKept_0 15 rfl rfl)
theorem dX4_leastKept_18 : decode cX4_leastKept 18 = .ok (.iload_n 3, 1) := dk_29 (dk_at dksX4_leastKept_0 18 rfl rfl)
theorem dX4_leastKept_19 : decode cX4_leastKept 19 = .ok (.if_icmp .ne 6, 3) := dk_160 0 6 (dk_at dksX4_leastKept_0 19 rfl rfl)
theorem dX4_leastKept_22 : decode cX4_leastKept 22 = .ok (.iload 4, 2) := dk_21 4 (dk_at dksX4_leastKept_0 22 rfl rfl)
theorem dX4_leastKept_24 : decode cX4_leastKept 24 = .ok (.ireturn, 1) := dk_172 (dk_at dksX4_leastKept_1 0 rfl rfl)
theorem dX4_leastKept_25 : decode cX4_leastKept 25 = .ok (.iinc 4 1, 3) := dk_132 4 1 (dk_at dksX4_leastKept_1 1 rfl rfl)
theorem dX4_leastKept_28 : decode cX4_leastKept 28 = .ok (.goto (-25), 3) := dk_167 255 231 (dk_at dksX4_leastKept_1 4 rfl rfl)
theorem dX4_leastKept_31 : decode cX4_leastKept 31 = .ok (.iconst (-1), 1) := dk_2 (dk_at dksX4_leastKept_1 7 rfl rfl)
theorem dX4_leastKept_32 : decode cX4_leastKept 32 = .ok (.ireturn, 1) := dk_172 (dk_at dksX4_leastKept_1 8 rfl rfl)
abbrev cX4_shifts : ByteArray := prog_19_method_113_code
def yX4_shifts : MethodName := ⟨RX4, "shifts", "(IIII)I"⟩
def dkwX4_shifts_2 : List UInt8 := [54, 5, 21, 5, 2, 160, 0, 7, 2, 167, 0, 13, 21, 5, 21, 4, 96, 4, 100, 21, 4, 108, 172]
abbrev dktX4_shifts_2 : List UInt8 := dkwX4_shifts_2 ++ []
def dkwX4_shifts_1 : List UInt8 := [21, 4, 133, 10, 20, 1, 208, 184, 0, 104, 154, 0, 6, 16, 254, 172, 42, 27, 28, 29, 182, 1, 213]
abbrev dktX4_shifts_1 : List UInt8 := dkwX4_shifts_1 ++ dktX4_shifts_2
def dkwX4_shifts_0 : List UInt8 := [42, 27, 182, 1, 58, 153, 0, 31, 42, 28, 182, 1, 134, 153, 0, 23, 29, 184, 1, 139, 153, 0, 16]
abbrev dktX4_shifts_0 : List UInt8 := dkwX4_shifts_0 ++ dktX4_shifts_1
theorem dksX4_shifts_0 : cX4_shifts.data.toList.drop 0 = dktX4_shifts_0 := by decide +kernel
theorem dksX4_shifts_1 : cX4_shifts.data.toList.drop 23 = dktX4_shifts_1 := dk_seg dksX4_shifts_0 23 rfl rfl
theorem dksX4_shifts_2 : cX4_shifts.data.toList.drop 46 = dktX4_shifts_2 := dk_seg dksX4_shifts_1 23 rfl rfl
theorem dX4_shifts_0 : decode cX4_shifts 0 = .ok (.aload_n 0, 1) := dk_42 (dk_at dksX4_shifts_0 0 rfl rfl)
theorem dX4_shifts_1 : decode cX4_shifts 1 = .ok (.iload_n 1, 1) := dk_27 (dk_at dksX4_shifts_0 1 rfl rfl)
theorem dX4_shifts_2 : decode cX4_shifts 2 = .ok (.invokevirtual 314, 3) := dk_182 1 58 (dk_at dksX4_shifts_0 2 rfl rfl)
theorem dX4_shifts_5 : decode cX4_shifts 5 = .ok (.ifCond .eq 31, 3) := dk_153 0 31 (dk_at dksX4_shifts_0 5 rfl rfl)
theorem dX4_shifts_8 : decode cX4_shifts 8 = .ok (.aload_n 0, 1) := dk_42 (dk_at dksX4_shifts_0 8 rfl rfl)
theorem dX4_shifts_9 : decode cX4_shifts 9 = .ok (.iload_n 2, 1) := dk_28 (dk_at dksX4_shifts_0 9 rfl rfl)
theorem dX4_shifts_10 : decode cX4_shifts 10 = .ok (.invokevirtual 390, 3) := dk_182 1 134 (dk_at dksX4_shifts_0 10 rfl rfl)
theorem dX4_shifts_13 : decode cX4_shifts 13 = .ok (.ifCond .eq 23, 3) := dk_153 0 23 (dk_at dksX4_shifts_0 13 rfl rfl)
theorem dX4_shifts_16 : decode cX4_shifts 16 = .ok (.iload_n 3, 1) := dk_29 (dk_at dksX4_shifts_0 16 rfl rfl)
theorem dX4_shifts_17 : decode cX4_shifts 17 = .ok (.invokestatic 395, 3) := dk_184 1 139 (dk_at dksX4_shifts_0 17 rfl rfl)
theorem dX4_shifts_20 : decode cX4_shifts 20 = .ok (.ifCond .eq 16, 3) := dk_153 0 16 (dk_at dksX4_shifts_0 20 rfl rfl)
theorem dX4_shifts_23 : decode cX4_shifts 23 = .ok (.iload 4, 2) := dk_21 4 (dk_at dksX4_shifts_1 0 rfl rfl)
theorem dX4_shifts_25 : decode cX4_shifts 25 = .ok (.i2l, 1) := dk_133 (dk_at dksX4_shifts_1 2 rfl rfl)
theorem dX4_shifts_26 : decode cX4_shifts 26 = .ok (.lconst 1, 1) := dk_10 (dk_at dksX4_shifts_1 3 rfl rfl)
theorem dX4_shifts_27 : decode cX4_shifts 27 = .ok (.ldc2_w 464, 3) := dk_20 1 208 (dk_at dksX4_shifts_1 4 rfl rfl)
theorem dX4_shifts_30 : decode cX4_shifts 30 = .ok (.invokestatic 104, 3) := dk_184 0 104 (dk_at dksX4_shifts_1 7 rfl rfl)
theorem dX4_shifts_33 : decode cX4_shifts 33 = .ok (.ifCond .ne 6, 3) := dk_154 0 6 (dk_at dksX4_shifts_1 10 rfl rfl)
theorem dX4_shifts_36 : decode cX4_shifts 36 = .ok (.bipush (-2), 2) := dk_16 254 (dk_at dksX4_shifts_1 13 rfl rfl)
theorem dX4_shifts_38 : decode cX4_shifts 38 = .ok (.ireturn, 1) := dk_172 (dk_at dksX4_shifts_1 15 rfl rfl)
theorem dX4_shifts_39 : decode cX4_shifts 39 = .ok (.aload_n 0, 1) := dk_42 (dk_at dksX4_shifts_1 16 rfl rfl)
theorem dX4_shifts_40 : decode cX4_shifts 40 = .ok (.iload_n 1, 1) := dk_27 (dk_at dksX4_shifts_1 17 rfl rfl)
theorem dX4_shifts_41 : decode cX4_shifts 41 = .ok (.iload_n 2, 1) := dk_28 (dk_at dksX4_shifts_1 18 rfl rfl)
theorem dX4_shifts_42 : decode cX4_shifts 42 = .ok (.iload_n 3, 1) := dk_29 (dk_at dksX4_shifts_1 19 rfl rfl)
theorem dX4_shifts_43 : decode cX4_shifts 43 = .ok (.invokevirtual 469, 3) := dk_182 1 213 (dk_at dksX4_shifts_1 20 rfl rfl)
theorem dX4_shifts_46 : decode cX4_shifts 46 = .ok (.istore 5, 2) := dk_54 5 (dk_at dksX4_shifts_2 0 rfl rfl)
theorem dX4_shifts_48 : decode cX4_shifts 48 = .ok (.iload 5, 2) := dk_21 5 (dk_at dksX4_shifts_2 2 rfl rfl)
theorem dX4_shifts_50 : decode cX4_shifts 50 = .ok (.iconst (-1), 1) := dk_2 (dk_at dksX4_shifts_2 4 rfl rfl)
theorem dX4_shifts_51 : decode cX4_shifts 51 = .ok (.if_icmp .ne 7, 3) := dk_160 0 7 (dk_at dksX4_shifts_2 5 rfl rfl)
theorem dX4_shifts_54 : decode cX4_shifts 54 = .ok (.iconst (-1), 1) := dk_2 (dk_at dksX4_shifts_2 8 rfl rfl)
theorem dX4_shifts_55 : decode cX4_shifts 55 = .ok (.goto 13, 3) := dk_167 0 13 (dk_at dksX4_shifts_2 9 rfl rfl)
theorem dX4_shifts_58 : decode cX4_shifts 58 = .ok (.iload 5, 2) := dk_21 5 (dk_at dksX4_shifts_2 12 rfl rfl)
theorem dX4_shifts_60 : decode cX4_shifts 60 = .ok (.iload 4, 2) := dk_21 4 (dk_at dksX4_shifts_2 14 rfl rfl)
theorem dX4_shifts_62 : decode cX4_shifts 62 = .ok (.iadd, 1) := dk_96 (dk_at dksX4_shifts_2 16 rfl rfl)
theorem dX4_shifts_63 : decode cX4_shifts 63 = .ok (.iconst 1, 1) := dk_4 (dk_at dksX4_shifts_2 17 rfl rfl)
theorem dX4_shifts_64 : decode cX4_shifts 64 = .ok (.isub, 1) := dk_100 (dk_at dksX4_shifts_2 18 rfl rfl)
theorem dX4_shifts_65 : decode cX4_shifts 65 = .ok (.iload 4, 2) := dk_21 4 (dk_at dksX4_shifts_2 19 rfl rfl)
theorem dX4_shifts_67 : decode cX4_shifts 67 = .ok (.idiv, 1) := dk_108 (dk_at dksX4_shifts_2 21 rfl rfl)
theorem dX4_shifts_68 : decode cX4_shifts 68 = .ok (.ireturn, 1) := dk_172 (dk_at dksX4_shifts_2 22 rfl rfl)
abbrev cX4_last : ByteArray := prog_19_method_114_code
def yX4_last : MethodName := ⟨RX4, "last", "(III)I"⟩
def dkwX4_last_2 : List UInt8 := [172]
abbrev dktX4_last_2 : List UInt8 := dkwX4_last_2 ++ []
def dkwX4_last_1 : List UInt8 := [16, 254, 172, 42, 27, 28, 29, 182, 1, 213, 2, 160, 0, 7, 2, 167, 0, 9, 42, 180, 0, 61, 27, 46]
abbrev dktX4_last_1 : List UInt8 := dkwX4_last_1 ++ dktX4_last_2
def dkwX4_last_0 : List UInt8 := [42, 27, 182, 1, 58, 153, 0, 18, 42, 28, 182, 1, 134, 153, 0, 10, 29, 184, 1, 139, 154, 0, 6]
abbrev dktX4_last_0 : List UInt8 := dkwX4_last_0 ++ dktX4_last_1
theorem dksX4_last_0 : cX4_last.data.toList.drop 0 = dktX4_last_0 := by decide +kernel
theorem dksX4_last_1 : cX4_last.data.toList.drop 23 = dktX4_last_1 := dk_seg dksX4_last_0 23 rfl rfl
theorem dksX4_last_2 : cX4_last.data.toList.drop 47 = dktX4_last_2 := dk_seg dksX4_last_1 24 rfl rfl
theorem dX4_last_0 : decode cX4_last 0 = .ok (.aload_n 0, 1) := dk_42 (dk_at dksX4_last_0 0 rfl rfl)
theorem dX4_last_1 : decode cX4_last 1 = .ok (.iload_n 1, 1) := dk_27 (dk_at dksX4_last_0 1 rfl rfl)
theorem dX4_last_2 : decode cX4_last 2 = .ok (.invokevirtual 314, 3) := dk_182 1 58 (dk_at dksX4_last_0 2 rfl rfl)
theorem dX4_last_5 : decode cX4_last 5 = .ok (.ifCond .eq 18, 3) := dk_153 0 18 (dk_at dksX4_last_0 5 rfl rfl)
theorem dX4_last_8 : decode cX4_last 8 = .ok (.aload_n 0, 1) := dk_42 (dk_at dksX4_last_0 8 rfl rfl)
theorem dX4_last_9 : decode cX4_last 9 = .ok (.iload_n 2, 1) := dk_28 (dk_at dksX4_last_0 9 rfl rfl)
theorem dX4_last_10 : decode cX4_last 10 = .ok (.invokevirtual 390, 3) := dk_182 1 134 (dk_at dksX4_last_0 10 rfl rfl)
theorem dX4_last_13 : decode cX4_last 13 = .ok (.ifCond .eq 10, 3) := dk_153 0 10 (dk_at dksX4_last_0 13 rfl rfl)
theorem dX4_last_16 : decode cX4_last 16 = .ok (.iload_n 3, 1) := dk_29 (dk_at dksX4_last_0 16 rfl rfl)
theorem dX4_last_17 : decode cX4_last 17 = .ok (.invokestatic 395, 3) := dk_184 1 139 (dk_at dksX4_last_0 17 rfl rfl)
theorem dX4_last_20 : decode cX4_last 20 = .ok (.ifCond .ne 6, 3) := dk_154 0 6 (dk_at dksX4_last_0 20 rfl rfl)
theorem dX4_last_23 : decode cX4_last 23 = .ok (.bipush (-2), 2) := dk_16 254 (dk_at dksX4_last_1 0 rfl rfl)
theorem dX4_last_25 : decode cX4_last 25 = .ok (.ireturn, 1) := dk_172 (dk_at dksX4_last_1 2 rfl rfl)
theorem dX4_last_26 : decode cX4_last 26 = .ok (.aload_n 0, 1) := dk_42 (dk_at dksX4_last_1 3 rfl rfl)
theorem dX4_last_27 : decode cX4_last 27 = .ok (.iload_n 1, 1) := dk_27 (dk_at dksX4_last_1 4 rfl rfl)
theorem dX4_last_28 : decode cX4_last 28 = .ok (.iload_n 2, 1) := dk_28 (dk_at dksX4_last_1 5 rfl rfl)
theorem dX4_last_29 : decode cX4_last 29 = .ok (.iload_n 3, 1) := dk_29 (dk_at dksX4_last_1 6 rfl rfl)
theorem dX4_last_30 : decode cX4_last 30 = .ok (.invokevirtual 469, 3) := dk_182 1 213 (dk_at dksX4_last_1 7 rfl rfl)
theorem dX4_last_33 : decode cX4_last 33 = .ok (.iconst (-1), 1) := dk_2 (dk_at dksX4_last_1 10 rfl rfl)
theorem dX4_last_34 : decode cX4_last 34 = .ok (.if_icmp .ne 7, 3) := dk_160 0 7 (dk_at dksX4_last_1 11 rfl rfl)
theorem dX4_last_37 : decode cX4_last 37 = .ok (.iconst (-1), 1) := dk_2 (dk_at dksX4_last_1 14 rfl rfl)
theorem dX4_last_38 : decode cX4_last 38 = .ok (.goto 9, 3) := dk_167 0 9 (dk_at dksX4_last_1 15 rfl rfl)
theorem dX4_last_41 : decode cX4_last 41 = .ok (.aload_n 0, 1) := dk_42 (dk_at dksX4_last_1 18 rfl rfl)
theorem dX4_last_42 : decode cX4_last 42 = .ok (.getfield 61, 3) := dk_180 0 61 (dk_at dksX4_last_1 19 rfl rfl)
theorem dX4_last_45 : decode cX4_last 45 = .ok (.iload_n 1, 1) := dk_27 (dk_at dksX4_last_1 22 rfl rfl)
theorem dX4_last_46 : decode cX4_last 46 = .ok (.iaload, 1) := dk_46 (dk_at dksX4_last_1 23 rfl rfl)
theorem dX4_last_47 : decode cX4_last 47 = .ok (.ireturn, 1) := dk_172 (dk_at dksX4_last_2 0 rfl rfl)
abbrev cX4_all : ByteArray := prog_19_method_115_code
def yX4_all : MethodName := ⟨RX4, "all", "(III)I"⟩
def dkwX4_all_4 : List UInt8 := [167, 255, 205, 2, 172]
abbrev dktX4_all_4 : List UInt8 := dkwX4_all_4 ++ []
def dkwX4_all_3 : List UInt8 := [167, 255, 238, 42, 182, 1, 128, 42, 29, 28, 182, 1, 142, 27, 161, 0, 6, 21, 4, 172, 132, 4, 1]
abbrev dktX4_all_3 : List UInt8 := dkwX4_all_3 ++ dktX4_all_4
def dkwX4_all_2 : List UInt8 := [163, 0, 50, 3, 54, 5, 21, 5, 7, 162, 0, 18, 42, 180, 0, 58, 21, 5, 21, 4, 79, 132, 5, 1]
abbrev dktX4_all_2 : List UInt8 := dkwX4_all_2 ++ dktX4_all_3
def dkwX4_all_1 : List UInt8 := [154, 0, 6, 16, 254, 172, 42, 3, 181, 1, 110, 42, 3, 181, 1, 75, 3, 54, 4, 21, 4, 16, 40]
abbrev dktX4_all_1 : List UInt8 := dkwX4_all_1 ++ dktX4_all_2
def dkwX4_all_0 : List UInt8 := [42, 28, 182, 1, 134, 153, 0, 22, 27, 133, 10, 20, 1, 137, 184, 0, 104, 153, 0, 10, 29, 184, 1, 139]
abbrev dktX4_all_0 : List UInt8 := dkwX4_all_0 ++ dktX4_all_1
theorem dksX4_all_0 : cX4_all.data.toList.drop 0 = dktX4_all_0 := by decide +kernel
theorem dksX4_all_1 : cX4_all.data.toList.drop 24 = dktX4_all_1 := dk_seg dksX4_all_0 24 rfl rfl
theorem dksX4_all_2 : cX4_all.data.toList.drop 47 = dktX4_all_2 := dk_seg dksX4_all_1 23 rfl rfl
theorem dksX4_all_3 : cX4_all.data.toList.drop 71 = dktX4_all_3 := dk_seg dksX4_all_2 24 rfl rfl
theorem dksX4_all_4 : cX4_all.data.toList.drop 94 = dktX4_all_4 := dk_seg dksX4_all_3 23 rfl rfl
theorem dX4_all_0 : decode cX4_all 0 = .ok (.aload_n 0, 1) := dk_42 (dk_at dksX4_all_0 0 rfl rfl)
theorem dX4_all_1 : decode cX4_all 1 = .ok (.iload_n 2, 1) := dk_28 (dk_at dksX4_all_0 1 rfl rfl)
theorem dX4_all_2 : decode cX4_all 2 = .ok (.invokevirtual 390, 3) := dk_182 1 134 (dk_at dksX4_all_0 2 rfl rfl)
theorem dX4_all_5 : decode cX4_all 5 = .ok (.ifCond .eq 22, 3) := dk_153 0 22 (dk_at dksX4_all_0 5 rfl rfl)
theorem dX4_all_8 : decode cX4_all 8 = .ok (.iload_n 1, 1) := dk_27 (dk_at dksX4_all_0 8 rfl rfl)
theorem dX4_all_9 : decode cX4_all 9 = .ok (.i2l, 1) := dk_133 (dk_at dksX4_all_0 9 rfl rfl)
theorem dX4_all_10 : decode cX4_all 10 = .ok (.lconst 1, 1) := dk_10 (dk_at dksX4_all_0 10 rfl rfl)
theorem dX4_all_11 : decode cX4_all 11 = .ok (.ldc2_w 393, 3) := dk_20 1 137 (dk_at dksX4_all_0 11 rfl rfl)
theorem dX4_all_14 : decode cX4_all 14 = .ok (.invokestatic 104, 3) := dk_184 0 104 (dk_at dksX4_all_0 14 rfl rfl)
theorem dX4_all_17 : decode cX4_all 17 = .ok (.ifCond .eq 10, 3) := dk_153 0 10 (dk_at dksX4_all_0 17 rfl rfl)
theorem dX4_all_20 : decode cX4_all 20 = .ok (.iload_n 3, 1) := dk_29 (dk_at dksX4_all_0 20 rfl rfl)
theorem dX4_all_21 : decode cX4_all 21 = .ok (.invokestatic 395, 3) := dk_184 1 139 (dk_at dksX4_all_0 21 rfl rfl)
theorem dX4_all_24 : decode cX4_all 24 = .ok (.ifCond .ne 6, 3) := dk_154 0 6 (dk_at dksX4_all_1 0 rfl rfl)
theorem dX4_all_27 : decode cX4_all 27 = .ok (.bipush (-2), 2) := dk_16 254 (dk_at dksX4_all_1 3 rfl rfl)
theorem dX4_all_29 : decode cX4_all 29 = .ok (.ireturn, 1) := dk_172 (dk_at dksX4_all_1 5 rfl rfl)
theorem dX4_all_30 : decode cX4_all 30 = .ok (.aload_n 0, 1) := dk_42 (dk_at dksX4_all_1 6 rfl rfl)
theorem dX4_all_31 : decode cX4_all 31 = .ok (.iconst 0, 1) := dk_3 (dk_at dksX4_all_1 7 rfl rfl)
theorem dX4_all_32 : decode cX4_all 32 = .ok (.putfield 366, 3) := dk_181 1 110 (dk_at dksX4_all_1 8 rfl rfl)
theorem dX4_all_35 : decode cX4_all 35 = .ok (.aload_n 0, 1) := dk_42 (dk_at dksX4_all_1 11 rfl rfl)
theorem dX4_all_36 : decode cX4_all 36 = .ok (.iconst 0, 1) := dk_3 (dk_at dksX4_all_1 12 rfl rfl)
theorem dX4_all_37 : decode cX4_all 37 = .ok (.putfield 331, 3) := dk_181 1 75 (dk_at dksX4_all_1 13 rfl rfl)
theorem dX4_all_40 : decode cX4_all 40 = .ok (.iconst 0, 1) := dk_3 (dk_at dksX4_all_1 16 rfl rfl)
theorem dX4_all_41 : decode cX4_all 41 = .ok (.istore 4, 2) := dk_54 4 (dk_at dksX4_all_1 17 rfl rfl)
theorem dX4_all_43 : decode cX4_all 43 = .ok (.iload 4, 2) := dk_21 4 (dk_at dksX4_all_1 19 rfl rfl)
theorem dX4_all_45 : decode cX4_all 45 = .ok (.bipush 40, 2) := dk_16 40 (dk_at dksX4_all_1 21 rfl rfl)
theorem dX4_all_47 : decode cX4_all 47 = .ok (.if_icmp .gt 50, 3) := dk_163 0 50 (dk_at dksX4_all_2 0 rfl rfl)
theorem dX4_all_50 : decode cX4_all 50 = .ok (.iconst 0, 1) := dk_3 (dk_at dksX4_all_2 3 rfl rfl)
theorem dX4_all_51 : decode cX4_all 51 = .ok (.istore 5, 2) := dk_54 5 (dk_at dksX4_all_2 4 rfl rfl)
theorem dX4_all_53 : decode cX4_all 53 = .ok (.iload 5, 2) := dk_21 5 (dk_at dksX4_all_2 6 rfl rfl)
theorem dX4_all_55 : decode cX4_all 55 = .ok (.iconst 4, 1) := dk_7 (dk_at dksX4_all_2 8 rfl rfl)
theorem dX4_all_56 : decode cX4_all 56 = .ok (.if_icmp .ge 18, 3) := dk_162 0 18 (dk_at dksX4_all_2 9 rfl rfl)
theorem dX4_all_59 : decode cX4_all 59 = .ok (.aload_n 0, 1) := dk_42 (dk_at dksX4_all_2 12 rfl rfl)
theorem dX4_all_60 : decode cX4_all 60 = .ok (.getfield 58, 3) := dk_180 0 58 (dk_at dksX4_all_2 13 rfl rfl)
theorem dX4_all_63 : decode cX4_all 63 = .ok (.iload 5, 2) := dk_21 5 (dk_at dksX4_all_2 16 rfl rfl)
theorem dX4_all_65 : decode cX4_all 65 = .ok (.iload 4, 2) := dk_21 4 (dk_at dksX4_all_2 18 rfl rfl)
theorem dX4_all_67 : decode cX4_all 67 = .ok (.iastore, 1) := dk_79 (dk_at dksX4_all_2 20 rfl rfl)
theorem dX4_all_68 : decode cX4_all 68 = .ok (.iinc 5 1, 3) := dk_132 5 1 (dk_at dksX4_all_2 21 rfl rfl)
theorem dX4_all_71 : decode cX4_all 71 = .ok (.goto (-18), 3) := dk_167 255 238 (dk_at dksX4_all_3 0 rfl rfl)
theorem dX4_all_74 : decode cX4_all 74 = .ok (.aload_n 0, 1) := dk_42 (dk_at dksX4_all_3 3 rfl rfl)
theorem dX4_all_75 : decode cX4_all 75 = .ok (.invokevirtual 384, 3) := dk_182 1 128 (dk_at dksX4_all_3 4 rfl rfl)
theorem dX4_all_78 : decode cX4_all 78 = .ok (.aload_n 0, 1) := dk_42 (dk_at dksX4_all_3 7 rfl rfl)
theorem dX4_all_79 : decode cX4_all 79 = .ok (.iload_n 3, 1) := dk_29 (dk_at dksX4_all_3 8 rfl rfl)
theorem dX4_all_80 : decode cX4_all 80 = .ok (.iload_n 2, 1) := dk_28 (dk_at dksX4_all_3 9 rfl rfl)
theorem dX4_all_81 : decode cX4_all 81 = .ok (.invokevirtual 398, 3) := dk_182 1 142 (dk_at dksX4_all_3 10 rfl rfl)
theorem dX4_all_84 : decode cX4_all 84 = .ok (.iload_n 1, 1) := dk_27 (dk_at dksX4_all_3 13 rfl rfl)
theorem dX4_all_85 : decode cX4_all 85 = .ok (.if_icmp .lt 6, 3) := dk_161 0 6 (dk_at dksX4_all_3 14 rfl rfl)
theorem dX4_all_88 : decode cX4_all 88 = .ok (.iload 4, 2) := dk_21 4 (dk_at dksX4_all_3 17 rfl rfl)
theorem dX4_all_90 : decode cX4_all 90 = .ok (.ireturn, 1) := dk_172 (dk_at dksX4_all_3 19 rfl rfl)
theorem dX4_all_91 : decode cX4_all 91 = .ok (.iinc 4 1, 3) := dk_132 4 1 (dk_at dksX4_all_3 20 rfl rfl)
theorem dX4_all_94 : decode cX4_all 94 = .ok (.goto (-51), 3) := dk_167 255 205 (dk_at dksX4_all_4 0 rfl rfl)
theorem dX4_all_97 : decode cX4_all 97 = .ok (.iconst (-1), 1) := dk_2 (dk_at dksX4_all_4 3 rfl rfl)
theorem dX4_all_98 : decode cX4_all 98 = .ok (.ireturn, 1) := dk_172 (dk_at dksX4_all_4 4 rfl rfl)
abbrev cX4_pace : ByteArray := prog_19_method_116_code
def yX4_pace : MethodName := ⟨RX4, "pace", "(III)I"⟩
def dkwX4_pace_4 : List UInt8 := [54, 6, 132, 7, 1, 167, 255, 209, 42, 180, 0, 9, 21, 4, 21, 5, 79, 21, 6, 172]
abbrev dktX4_pace_4 : List UInt8 := dkwX4_pace_4 ++ []
def dkwX4_pace_3 : List UInt8 := [21, 7, 79, 42, 182, 1, 131, 42, 27, 28, 182, 1, 86, 29, 160, 0, 8, 21, 7, 167, 0, 4, 2]
abbrev dktX4_pace_3 : List UInt8 := dkwX4_pace_3 ++ dktX4_pace_4
def dkwX4_pace_2 : List UInt8 := [54, 6, 3, 54, 7, 21, 7, 16, 60, 163, 0, 46, 21, 6, 2, 160, 0, 40, 42, 180, 0, 9, 21, 4]
abbrev dktX4_pace_2 : List UInt8 := dkwX4_pace_2 ++ dktX4_pace_3
def dkwX4_pace_1 : List UInt8 := [16, 254, 172, 16, 32, 16, 6, 27, 104, 96, 5, 96, 54, 4, 42, 180, 0, 9, 21, 4, 46, 54, 5, 2]
abbrev dktX4_pace_1 : List UInt8 := dkwX4_pace_1 ++ dktX4_pace_2
def dkwX4_pace_0 : List UInt8 := [42, 27, 182, 1, 58, 153, 0, 18, 42, 28, 182, 1, 134, 153, 0, 10, 29, 184, 1, 139, 154, 0, 6]
abbrev dktX4_pace_0 : List UInt8 := dkwX4_pace_0 ++ dktX4_pace_1
theorem dksX4_pace_0 : cX4_pace.data.toList.drop 0 = dktX4_pace_0 := by decide +kernel
theorem dksX4_pace_1 : cX4_pace.data.toList.drop 23 = dktX4_pace_1 := dk_seg dksX4_pace_0 23 rfl rfl
theorem dksX4_pace_2 : cX4_pace.data.toList.drop 47 = dktX4_pace_2 := dk_seg dksX4_pace_1 24 rfl rfl
theorem dksX4_pace_3 : cX4_pace.data.toList.drop 71 = dktX4_pace_3 := dk_seg dksX4_pace_2 24 rfl rfl
theorem dksX4_pace_4 : cX4_pace.data.toList.drop 94 = dktX4_pace_4 := dk_seg dksX4_pace_3 23 rfl rfl
theorem dX4_pace_0 : decode cX4_pace 0 = .ok (.aload_n 0, 1) := dk_42 (dk_at dksX4_pace_0 0 rfl rfl)
theorem dX4_pace_1 : decode cX4_pace 1 = .ok (.iload_n 1, 1) := dk_27 (dk_at dksX4_pace_0 1 rfl rfl)
theorem dX4_pace_2 : decode cX4_pace 2 = .ok (.invokevirtual 314, 3) := dk_182 1 58 (dk_at dksX4_pace_0 2 rfl rfl)
theorem dX4_pace_5 : decode cX4_pace 5 = .ok (.ifCond .eq 18, 3) := dk_153 0 18 (dk_at dksX4_pace_0 5 rfl rfl)
theorem dX4_pace_8 : decode cX4_pace 8 = .ok (.aload_n 0, 1) := dk_42 (dk_at dksX4_pace_0 8 rfl rfl)
theorem dX4_pace_9 : decode cX4_pace 9 = .ok (.iload_n 2, 1) := dk_28 (dk_at dksX4_pace_0 9 rfl rfl)
theorem dX4_pace_10 : decode cX4_pace 10 = .ok (.invokevirtual 390, 3) := dk_182 1 134 (dk_at dksX4_pace_0 10 rfl rfl)
theorem dX4_pace_13 : decode cX4_pace 13 = .ok (.ifCond .eq 10, 3) := dk_153 0 10 (dk_at dksX4_pace_0 13 rfl rfl)
theorem dX4_pace_16 : decode cX4_pace 16 = .ok (.iload_n 3, 1) := dk_29 (dk_at dksX4_pace_0 16 rfl rfl)
theorem dX4_pace_17 : decode cX4_pace 17 = .ok (.invokestatic 395, 3) := dk_184 1 139 (dk_at dksX4_pace_0 17 rfl rfl)
theorem dX4_pace_20 : decode cX4_pace 20 = .ok (.ifCond .ne 6, 3) := dk_154 0 6 (dk_at dksX4_pace_0 20 rfl rfl)
theorem dX4_pace_23 : decode cX4_pace 23 = .ok (.bipush (-2), 2) := dk_16 254 (dk_at dksX4_pace_1 0 rfl rfl)
theorem dX4_pace_25 : decode cX4_pace 25 = .ok (.ireturn, 1) := dk_172 (dk_at dksX4_pace_1 2 rfl rfl)
theorem dX4_pace_26 : decode cX4_pace 26 = .ok (.bipush 32, 2) := dk_16 32 (dk_at dksX4_pace_1 3 rfl rfl)
theorem dX4_pace_28 : decode cX4_pace 28 = .ok (.bipush 6, 2) := dk_16 6 (dk_at dksX4_pace_1 5 rfl rfl)
theorem dX4_pace_30 : decode cX4_pace 30 = .ok (.iload_n 1, 1) := dk_27 (dk_at dksX4_pace_1 7 rfl rfl)
theorem dX4_pace_31 : decode cX4_pace 31 = .ok (.imul, 1) := dk_104 (dk_at dksX4_pace_1 8 rfl rfl)
theorem dX4_pace_32 : decode cX4_pace 32 = .ok (.iadd, 1) := dk_96 (dk_at dksX4_pace_1 9 rfl rfl)
theorem dX4_pace_33 : decode cX4_pace 33 = .ok (.iconst 2, 1) := dk_5 (dk_at dksX4_pace_1 10 rfl rfl)
theorem dX4_pace_34 : decode cX4_pace 34 = .ok (.iadd, 1) := dk_96 (dk_at dksX4_pace_1 11 rfl rfl)
theorem dX4_pace_35 : decode cX4_pace 35 = .ok (.istore 4, 2) := dk_54 4 (dk_at dksX4_pace_1 12 rfl rfl)
theorem dX4_pace_37 : decode cX4_pace 37 = .ok (.aload_n 0, 1) := dk_42 (dk_at dksX4_pace_1 14 rfl rfl)
theorem dX4_pace_38 : decode cX4_pace 38 = .ok (.getfield 9, 3) := dk_180 0 9 (dk_at dksX4_pace_1 15 rfl rfl)
theorem dX4_pace_41 : decode cX4_pace 41 = .ok (.iload 4, 2) := dk_21 4 (dk_at dksX4_pace_1 18 rfl rfl)
theorem dX4_pace_43 : decode cX4_pace 43 = .ok (.iaload, 1) := dk_46 (dk_at dksX4_pace_1 20 rfl rfl)
theorem dX4_pace_44 : decode cX4_pace 44 = .ok (.istore 5, 2) := dk_54 5 (dk_at dksX4_pace_1 21 rfl rfl)
theorem dX4_pace_46 : decode cX4_pace 46 = .ok (.iconst (-1), 1) := dk_2 (dk_at dksX4_pace_1 23 rfl rfl)
theorem dX4_pace_47 : decode cX4_pace 47 = .ok (.istore 6, 2) := dk_54 6 (dk_at dksX4_pace_2 0 rfl rfl)
theorem dX4_pace_49 : decode cX4_pace 49 = .ok (.iconst 0, 1) := dk_3 (dk_at dksX4_pace_2 2 rfl rfl)
theorem dX4_pace_50 : decode cX4_pace 50 = .ok (.istore 7, 2) := dk_54 7 (dk_at dksX4_pace_2 3 rfl rfl)
theorem dX4_pace_52 : decode cX4_pace 52 = .ok (.iload 7, 2) := dk_21 7 (dk_at dksX4_pace_2 5 rfl rfl)
theorem dX4_pace_54 : decode cX4_pace 54 = .ok (.bipush 60, 2) := dk_16 60 (dk_at dksX4_pace_2 7 rfl rfl)
theorem dX4_pace_56 : decode cX4_pace 56 = .ok (.if_icmp .gt 46, 3) := dk_163 0 46 (dk_at dksX4_pace_2 9 rfl rfl)
theorem dX4_pace_59 : decode cX4_pace 59 = .ok (.iload 6, 2) := dk_21 6 (dk_at dksX4_pace_2 12 rfl rfl)
theorem dX4_pace_61 : decode cX4_pace 61 = .ok (.iconst (-1), 1) := dk_2 (dk_at dksX4_pace_2 14 rfl rfl)
theorem dX4_pace_62 : decode cX4_pace 62 = .ok (.if_icmp .ne 40, 3) := dk_160 0 40 (dk_at dksX4_pace_2 15 rfl rfl)
theorem dX4_pace_65 : decode cX4_pace 65 = .ok (.aload_n 0, 1) := dk_42 (dk_at dksX4_pace_2 18 rfl rfl)
theorem dX4_pace_66 : decode cX4_pace 66 = .ok (.getfield 9, 3) := dk_180 0 9 (dk_at dksX4_pace_2 19 rfl rfl)
theorem dX4_pace_69 : decode cX4_pace 69 = .ok (.iload 4, 2) := dk_21 4 (dk_at dksX4_pace_2 22 rfl rfl)
theorem dX4_pace_71 : decode cX4_pace 71 = .ok (.iload 7, 2) := dk_21 7 (dk_at dksX4_pace_3 0 rfl rfl)
theorem dX4_pace_73 : decode cX4_pace 73 = .ok (.iastore, 1) := dk_79 (dk_at dksX4_pace_3 2 rfl rfl)
theorem dX4_pace_74 : decode cX4_pace 74 = .ok (.aload_n 0, 1) := dk_42 (dk_at dksX4_pace_3 3 rfl rfl)
theorem dX4_pace_75 : decode cX4_pace 75 = .ok (.invokevirtual 387, 3) := dk_182 1 131 (dk_at dksX4_pace_3 4 rfl rfl)
theorem dX4_pace_78 : decode cX4_pace 78 = .ok (.aload_n 0, 1) := dk_42 (dk_at dksX4_pace_3 7 rfl rfl)
theorem dX4_pace_79 : decode cX4_pace 79 = .ok (.iload_n 1, 1) := dk_27 (dk_at dksX4_pace_3 8 rfl rfl)
theorem dX4_pace_80 : decode cX4_pace 80 = .ok (.iload_n 2, 1) := dk_28 (dk_at dksX4_pace_3 9 rfl rfl)
theorem dX4_pace_81 : decode cX4_pace 81 = .ok (.invokevirtual 342, 3) := dk_182 1 86 (dk_at dksX4_pace_3 10 rfl rfl)
theorem dX4_pace_84 : decode cX4_pace 84 = .ok (.iload_n 3, 1) := dk_29 (dk_at dksX4_pace_3 13 rfl rfl)
theorem dX4_pace_85 : decode cX4_pace 85 = .ok (.if_icmp .ne 8, 3) := dk_160 0 8 (dk_at dksX4_pace_3 14 rfl rfl)
theorem dX4_pace_88 : decode cX4_pace 88 = .ok (.iload 7, 2) := dk_21 7 (dk_at dksX4_pace_3 17 rfl rfl)
theorem dX4_pace_90 : decode cX4_pace 90 = .ok (.goto 4, 3) := dk_167 0 4 (dk_at dksX4_pace_3 19 rfl rfl)
theorem dX4_pace_93 : decode cX4_pace 93 = .ok (.iconst (-1), 1) := dk_2 (dk_at dksX4_pace_3 22 rfl rfl)
theorem dX4_pace_94 : decode cX4_pace 94 = .ok (.istore 6, 2) := dk_54 6 (dk_at dksX4_pace_4 0 rfl rfl)
theorem dX4_pace_96 : decode cX4_pace 96 = .ok (.iinc 7 1, 3) := dk_132 7 1 (dk_at dksX4_pace_4 2 rfl rfl)
theorem dX4_pace_99 : decode cX4_pace 99 = .ok (.goto (-47), 3) := dk_167 255 209 (dk_at dksX4_pace_4 5 rfl rfl)
theorem dX4_pace_102 : decode cX4_pace 102 = .ok (.aload_n 0, 1) := dk_42 (dk_at dksX4_pace_4 8 rfl rfl)
theorem dX4_pace_103 : decode cX4_pace 103 = .ok (.getfield 9, 3) := dk_180 0 9 (dk_at dksX4_pace_4 9 rfl rfl)
theorem dX4_pace_106 : decode cX4_pace 106 = .ok (.iload 4, 2) := dk_21 4 (dk_at dksX4_pace_4 12 rfl rfl)
theorem dX4_pace_108 : decode cX4_pace 108 = .ok (.iload 5, 2) := dk_21 5 (dk_at dksX4_pace_4 14 rfl rfl)
theorem dX4_pace_110 : decode cX4_pace 110 = .ok (.iastore, 1) := dk_79 (dk_at dksX4_pace_4 16 rfl rfl)
theorem dX4_pace_111 : decode cX4_pace 111 = .ok (.iload 6, 2) := dk_21 6 (dk_at dksX4_pace_4 17 rfl rfl)
theorem dX4_pace_113 : decode cX4_pace 113 = .ok (.ireturn, 1) := dk_172 (dk_at dksX4_pace_4 19 rfl rfl)
abbrev cX4_mends : ByteArray := prog_19_method_117_code
def yX4_mends : MethodName := ⟨RX4, "mends", "(II)I"⟩
def dkwX4_mends_1 : List UInt8 := [27, 5, 182, 1, 29, 62, 42, 180, 0, 9, 16, 32, 16, 6, 27, 104, 96, 5, 96, 28, 79, 29, 172]
abbrev dktX4_mends_1 : List UInt8 := dkwX4_mends_1 ++ []
def dkwX4_mends_0 : List UInt8 := [42, 27, 182, 1, 58, 153, 0, 15, 28, 133, 9, 20, 1, 216, 184, 0, 104, 154, 0, 6, 16, 254, 172, 42]
abbrev dktX4_mends_0 : List UInt8 := dkwX4_mends_0 ++ dktX4_mends_1
theorem dksX4_mends_0 : cX4_mends.data.toList.drop 0 = dktX4_mends_0 := by decide +kernel
theorem dksX4_mends_1 : cX4_mends.data.toList.drop 24 = dktX4_mends_1 := dk_seg dksX4_mends_0 24 rfl rfl
theorem dX4_mends_0 : decode cX4_mends 0 = .ok (.aload_n 0, 1) := dk_42 (dk_at dksX4_mends_0 0 rfl rfl)
theorem dX4_mends_1 : decode cX4_mends 1 = .ok (.iload_n 1, 1) := dk_27 (dk_at dksX4_mends_0 1 rfl rfl)
theorem dX4_mends_2 : decode cX4_mends 2 = .ok (.invokevirtual 314, 3) := dk_182 1 58 (dk_at dksX4_mends_0 2 rfl rfl)
theorem dX4_mends_5 : decode cX4_mends 5 = .ok (.ifCond .eq 15, 3) := dk_153 0 15 (dk_at dksX4_mends_0 5 rfl rfl)
theorem dX4_mends_8 : decode cX4_mends 8 = .ok (.iload_n 2, 1) := dk_28 (dk_at dksX4_mends_0 8 rfl rfl)
theorem dX4_mends_9 : decode cX4_mends 9 = .ok (.i2l, 1) := dk_133 (dk_at dksX4_mends_0 9 rfl rfl)
theorem dX4_mends_10 : decode cX4_mends 10 = .ok (.lconst 0, 1) := dk_9 (dk_at dksX4_mends_0 10 rfl rfl)
theorem dX4_mends_11 : decode cX4_mends 11 = .ok (.ldc2_w 472, 3) := dk_20 1 216 (dk_at dksX4_mends_0 11 rfl rfl)
theorem dX4_mends_14 : decode cX4_mends 14 = .ok (.invokestatic 104, 3) := dk_184 0 104 (dk_at dksX4_mends_0 14 rfl rfl)
theorem dX4_mends_17 : decode cX4_mends 17 = .ok (.ifCond .ne 6, 3) := dk_154 0 6 (dk_at dksX4_mends_0 17 rfl rfl)
theorem dX4_mends_20 : decode cX4_mends 20 = .ok (.bipush (-2), 2) := dk_16 254 (dk_at dksX4_mends_0 20 rfl rfl)
theorem dX4_mends_22 : decode cX4_mends 22 = .ok (.ireturn, 1) := dk_172 (dk_at dksX4_mends_0 22 rfl rfl)
theorem dX4_mends_23 : decode cX4_mends 23 = .ok (.aload_n 0, 1) := dk_42 (dk_at dksX4_mends_0 23 rfl rfl)
theorem dX4_mends_24 : decode cX4_mends 24 = .ok (.iload_n 1, 1) := dk_27 (dk_at dksX4_mends_1 0 rfl rfl)
theorem dX4_mends_25 : decode cX4_mends 25 = .ok (.iconst 2, 1) := dk_5 (dk_at dksX4_mends_1 1 rfl rfl)
theorem dX4_mends_26 : decode cX4_mends 26 = .ok (.invokevirtual 285, 3) := dk_182 1 29 (dk_at dksX4_mends_1 2 rfl rfl)
theorem dX4_mends_29 : decode cX4_mends 29 = .ok (.istore_n 3, 1) := dk_62 (dk_at dksX4_mends_1 5 rfl rfl)
theorem dX4_mends_30 : decode cX4_mends 30 = .ok (.aload_n 0, 1) := dk_42 (dk_at dksX4_mends_1 6 rfl rfl)
theorem dX4_mends_31 : decode cX4_mends 31 = .ok (.getfield 9, 3) := dk_180 0 9 (dk_at dksX4_mends_1 7 rfl rfl)
theorem dX4_mends_34 : decode cX4_mends 34 = .ok (.bipush 32, 2) := dk_16 32 (dk_at dksX4_mends_1 10 rfl rfl)
theorem dX4_mends_36 : decode cX4_mends 36 = .ok (.bipush 6, 2) := dk_16 6 (dk_at dksX4_mends_1 12 rfl rfl)
theorem dX4_mends_38 : decode cX4_mends 38 = .ok (.iload_n 1, 1) := dk_27 (dk_at dksX4_mends_1 14 rfl rfl)
theorem dX4_mends_39 : decode cX4_mends 39 = .ok (.imul, 1) := dk_104 (dk_at dksX4_mends_1 15 rfl rfl)
theorem dX4_mends_40 : decode cX4_mends 40 = .ok (.iadd, 1) := dk_96 (dk_at dksX4_mends_1 16 rfl rfl)
theorem dX4_mends_41 : decode cX4_mends 41 = .ok (.iconst 2, 1) := dk_5 (dk_at dksX4_mends_1 17 rfl rfl)
theorem dX4_mends_42 : decode cX4_mends 42 = .ok (.iadd, 1) := dk_96 (dk_at dksX4_mends_1 18 rfl rfl)
theorem dX4_mends_43 : decode cX4_mends 43 = .ok (.iload_n 2, 1) := dk_28 (dk_at dksX4_mends_1 19 rfl rfl)
theorem dX4_mends_44 : decode cX4_mends 44 = .ok (.iastore, 1) := dk_79 (dk_at dksX4_mends_1 20 rfl rfl)
theorem dX4_mends_45 : decode cX4_mends 45 = .ok (.iload_n 3, 1) := dk_29 (dk_at dksX4_mends_1 21 rfl rfl)
theorem dX4_mends_46 : decode cX4_mends 46 = .ok (.ireturn, 1) := dk_172 (dk_at dksX4_mends_1 22 rfl rfl)
abbrev cX4_day : ByteArray := prog_19_method_119_code
def yX4_day : MethodName := ⟨RX4, "day", "(III)I"⟩
def dkwX4_day_1 : List UInt8 := [182, 1, 134, 153, 0, 14, 42, 27, 133, 28, 29, 182, 1, 220, 167, 0, 5, 16, 254, 172]
abbrev dktX4_day_1 : List UInt8 := dkwX4_day_1 ++ []
def dkwX4_day_0 : List UInt8 := [27, 133, 9, 20, 1, 218, 184, 0, 104, 153, 0, 30, 42, 28, 182, 1, 58, 153, 0, 22, 42, 29]
abbrev dktX4_day_0 : List UInt8 := dkwX4_day_0 ++ dktX4_day_1
theorem dksX4_day_0 : cX4_day.data.toList.drop 0 = dktX4_day_0 := by decide +kernel
theorem dksX4_day_1 : cX4_day.data.toList.drop 22 = dktX4_day_1 := dk_seg dksX4_day_0 22 rfl rfl
theorem dX4_day_0 : decode cX4_day 0 = .ok (.iload_n 1, 1) := dk_27 (dk_at dksX4_day_0 0 rfl rfl)
theorem dX4_day_1 : decode cX4_day 1 = .ok (.i2l, 1) := dk_133 (dk_at dksX4_day_0 1 rfl rfl)
theorem dX4_day_2 : decode cX4_day 2 = .ok (.lconst 0, 1) := dk_9 (dk_at dksX4_day_0 2 rfl rfl)
theorem dX4_day_3 : decode cX4_day 3 = .ok (.ldc2_w 474, 3) := dk_20 1 218 (dk_at dksX4_day_0 3 rfl rfl)
theorem dX4_day_6 : decode cX4_day 6 = .ok (.invokestatic 104, 3) := dk_184 0 104 (dk_at dksX4_day_0 6 rfl rfl)
theorem dX4_day_9 : decode cX4_day 9 = .ok (.ifCond .eq 30, 3) := dk_153 0 30 (dk_at dksX4_day_0 9 rfl rfl)
theorem dX4_day_12 : decode cX4_day 12 = .ok (.aload_n 0, 1) := dk_42 (dk_at dksX4_day_0 12 rfl rfl)
theorem dX4_day_13 : decode cX4_day 13 = .ok (.iload_n 2, 1) := dk_28 (dk_at dksX4_day_0 13 rfl rfl)
theorem dX4_day_14 : decode cX4_day 14 = .ok (.invokevirtual 314, 3) := dk_182 1 58 (dk_at dksX4_day_0 14 rfl rfl)
theorem dX4_day_17 : decode cX4_day 17 = .ok (.ifCond .eq 22, 3) := dk_153 0 22 (dk_at dksX4_day_0 17 rfl rfl)
theorem dX4_day_20 : decode cX4_day 20 = .ok (.aload_n 0, 1) := dk_42 (dk_at dksX4_day_0 20 rfl rfl)
theorem dX4_day_21 : decode cX4_day 21 = .ok (.iload_n 3, 1) := dk_29 (dk_at dksX4_day_0 21 rfl rfl)
theorem dX4_day_22 : decode cX4_day 22 = .ok (.invokevirtual 390, 3) := dk_182 1 134 (dk_at dksX4_day_1 0 rfl rfl)
theorem dX4_day_25 : decode cX4_day 25 = .ok (.ifCond .eq 14, 3) := dk_153 0 14 (dk_at dksX4_day_1 3 rfl rfl)
theorem dX4_day_28 : decode cX4_day 28 = .ok (.aload_n 0, 1) := dk_42 (dk_at dksX4_day_1 6 rfl rfl)
theorem dX4_day_29 : decode cX4_day 29 = .ok (.iload_n 1, 1) := dk_27 (dk_at dksX4_day_1 7 rfl rfl)
theorem dX4_day_30 : decode cX4_day 30 = .ok (.i2l, 1) := dk_133 (dk_at dksX4_day_1 8 rfl rfl)
theorem dX4_day_31 : decode cX4_day 31 = .ok (.iload_n 2, 1) := dk_28 (dk_at dksX4_day_1 9 rfl rfl)
theorem dX4_day_32 : decode cX4_day 32 = .ok (.iload_n 3, 1) := dk_29 (dk_at dksX4_day_1 10 rfl rfl)
theorem dX4_day_33 : decode cX4_day 33 = .ok (.invokevirtual 476, 3) := dk_182 1 220 (dk_at dksX4_day_1 11 rfl rfl)
theorem dX4_day_36 : decode cX4_day 36 = .ok (.goto 5, 3) := dk_167 0 5 (dk_at dksX4_day_1 14 rfl rfl)
theorem dX4_day_39 : decode cX4_day 39 = .ok (.bipush (-2), 2) := dk_16 254 (dk_at dksX4_day_1 17 rfl rfl)
theorem dX4_day_41 : decode cX4_day 41 = .ok (.ireturn, 1) := dk_172 (dk_at dksX4_day_1 19 rfl rfl)
abbrev cX4_dayOf : ByteArray := prog_19_method_118_code
def yX4_dayOf : MethodName := ⟨RX4, "dayOf", "(JII)I"⟩
def dkwX4_dayOf_1 : List UInt8 := [3, 181, 1, 75, 42, 29, 21, 4, 182, 1, 86, 172]
abbrev dktX4_dayOf_1 : List UInt8 := dkwX4_dayOf_1 ++ []
def dkwX4_dayOf_0 : List UInt8 := [42, 182, 1, 125, 42, 3, 181, 1, 110, 42, 4, 181, 1, 75, 42, 31, 181, 1, 63, 42, 182, 1, 128, 42]
abbrev dktX4_dayOf_0 : List UInt8 := dkwX4_dayOf_0 ++ dktX4_dayOf_1
theorem dksX4_dayOf_0 : cX4_dayOf.data.toList.drop 0 = dktX4_dayOf_0 := by decide +kernel
theorem dksX4_dayOf_1 : cX4_dayOf.data.toList.drop 24 = dktX4_dayOf_1 := dk_seg dksX4_dayOf_0 24 rfl rfl
theorem dX4_dayOf_0 : decode cX4_dayOf 0 = .ok (.aload_n 0, 1) := dk_42 (dk_at dksX4_dayOf_0 0 rfl rfl)
theorem dX4_dayOf_1 : decode cX4_dayOf 1 = .ok (.invokevirtual 381, 3) := dk_182 1 125 (dk_at dksX4_dayOf_0 1 rfl rfl)
theorem dX4_dayOf_4 : decode cX4_dayOf 4 = .ok (.aload_n 0, 1) := dk_42 (dk_at dksX4_dayOf_0 4 rfl rfl)
theorem dX4_dayOf_5 : decode cX4_dayOf 5 = .ok (.iconst 0, 1) := dk_3 (dk_at dksX4_dayOf_0 5 rfl rfl)
theorem dX4_dayOf_6 : decode cX4_dayOf 6 = .ok (.putfield 366, 3) := dk_181 1 110 (dk_at dksX4_dayOf_0 6 rfl rfl)
theorem dX4_dayOf_9 : decode cX4_dayOf 9 = .ok (.aload_n 0, 1) := dk_42 (dk_at dksX4_dayOf_0 9 rfl rfl)
theorem dX4_dayOf_10 : decode cX4_dayOf 10 = .ok (.iconst 1, 1) := dk_4 (dk_at dksX4_dayOf_0 10 rfl rfl)
theorem dX4_dayOf_11 : decode cX4_dayOf 11 = .ok (.putfield 331, 3) := dk_181 1 75 (dk_at dksX4_dayOf_0 11 rfl rfl)
theorem dX4_dayOf_14 : decode cX4_dayOf 14 = .ok (.aload_n 0, 1) := dk_42 (dk_at dksX4_dayOf_0 14 rfl rfl)
theorem dX4_dayOf_15 : decode cX4_dayOf 15 = .ok (.lload_n 1, 1) := dk_31 (dk_at dksX4_dayOf_0 15 rfl rfl)
theorem dX4_dayOf_16 : decode cX4_dayOf 16 = .ok (.putfield 319, 3) := dk_181 1 63 (dk_at dksX4_dayOf_0 16 rfl rfl)
theorem dX4_dayOf_19 : decode cX4_dayOf 19 = .ok (.aload_n 0, 1) := dk_42 (dk_at dksX4_dayOf_0 19 rfl rfl)
theorem dX4_dayOf_20 : decode cX4_dayOf 20 = .ok (.invokevirtual 384, 3) := dk_182 1 128 (dk_at dksX4_dayOf_0 20 rfl rfl)
theorem dX4_dayOf_23 : decode cX4_dayOf 23 = .ok (.aload_n 0, 1) := dk_42 (dk_at dksX4_dayOf_0 23 rfl rfl)
theorem dX4_dayOf_24 : decode cX4_dayOf 24 = .ok (.iconst 0, 1) := dk_3 (dk_at dksX4_dayOf_1 0 rfl rfl)
theorem dX4_dayOf_25 : decode cX4_dayOf 25 = .ok (.putfield 331, 3) := dk_181 1 75 (dk_at dksX4_dayOf_1 1 rfl rfl)
theorem dX4_dayOf_28 : decode cX4_dayOf 28 = .ok (.aload_n 0, 1) := dk_42 (dk_at dksX4_dayOf_1 4 rfl rfl)
theorem dX4_dayOf_29 : decode cX4_dayOf 29 = .ok (.iload_n 3, 1) := dk_29 (dk_at dksX4_dayOf_1 5 rfl rfl)
theorem dX4_dayOf_30 : decode cX4_dayOf 30 = .ok (.iload 4, 2) := dk_21 4 (dk_at dksX4_dayOf_1 6 rfl rfl)
theorem dX4_dayOf_32 : decode cX4_dayOf 32 = .ok (.invokevirtual 342, 3) := dk_182 1 86 (dk_at dksX4_dayOf_1 8 rfl rfl)
theorem dX4_dayOf_35 : decode cX4_dayOf 35 = .ok (.ireturn, 1) := dk_172 (dk_at dksX4_dayOf_1 11 rfl rfl)
abbrev cX4_days : ByteArray := prog_19_method_120_code
def yX4_days : MethodName := ⟨RX4, "days", "(IIIII)I"⟩
def dkwX4_days_4 : List UInt8 := [132, 7, 1, 167, 255, 219, 21, 6, 172]
abbrev dktX4_days_4 : List UInt8 := dkwX4_days_4 ++ []
def dkwX4_days_3 : List UInt8 := [21, 7, 133, 97, 29, 21, 4, 182, 1, 220, 21, 5, 160, 0, 7, 4, 167, 0, 4, 3, 96, 54, 6]
abbrev dktX4_days_3 : List UInt8 := dkwX4_days_3 ++ dktX4_days_4
def dkwX4_days_2 : List UInt8 := [154, 0, 6, 16, 254, 172, 3, 54, 6, 3, 54, 7, 21, 7, 28, 162, 0, 37, 21, 6, 42, 27, 133]
abbrev dktX4_days_2 : List UInt8 := dkwX4_days_2 ++ dktX4_days_3
def dkwX4_days_1 : List UInt8 := [42, 29, 182, 1, 58, 153, 0, 20, 42, 21, 4, 182, 1, 134, 153, 0, 11, 21, 5, 184, 1, 139]
abbrev dktX4_days_1 : List UInt8 := dkwX4_days_1 ++ dktX4_days_2
def dkwX4_days_0 : List UInt8 := [27, 133, 9, 20, 1, 218, 184, 0, 104, 153, 0, 40, 28, 133, 10, 20, 1, 224, 184, 0, 104, 153, 0, 28]
abbrev dktX4_days_0 : List UInt8 := dkwX4_days_0 ++ dktX4_days_1
theorem dksX4_days_0 : cX4_days.data.toList.drop 0 = dktX4_days_0 := by decide +kernel
theorem dksX4_days_1 : cX4_days.data.toList.drop 24 = dktX4_days_1 := dk_seg dksX4_days_0 24 rfl rfl
theorem dksX4_days_2 : cX4_days.data.toList.drop 46 = dktX4_days_2 := dk_seg dksX4_days_1 22 rfl rfl
theorem dksX4_days_3 : cX4_days.data.toList.drop 69 = dktX4_days_3 := dk_seg dksX4_days_2 23 rfl rfl
theorem dksX4_days_4 : cX4_days.data.toList.drop 92 = dktX4_days_4 := dk_seg dksX4_days_3 23 rfl rfl
theorem dX4_days_0 : decode cX4_days 0 = .ok (.iload_n 1, 1) := dk_27 (dk_at dksX4_days_0 0 rfl rfl)
theorem dX4_days_1 : decode cX4_days 1 = .ok (.i2l, 1) := dk_133 (dk_at dksX4_days_0 1 rfl rfl)
theorem dX4_days_2 : decode cX4_days 2 = .ok (.lconst 0, 1) := dk_9 (dk_at dksX4_days_0 2 rfl rfl)
theorem dX4_days_3 : decode cX4_days 3 = .ok (.ldc2_w 474, 3) := dk_20 1 218 (dk_at dksX4_days_0 3 rfl rfl)
theorem dX4_days_6 : decode cX4_days 6 = .ok (.invokestatic 104, 3) := dk_184 0 104 (dk_at dksX4_days_0 6 rfl rfl)
theorem dX4_days_9 : decode cX4_days 9 = .ok (.ifCond .eq 40, 3) := dk_153 0 40 (dk_at dksX4_days_0 9 rfl rfl)
theorem dX4_days_12 : decode cX4_days 12 = .ok (.iload_n 2, 1) := dk_28 (dk_at dksX4_days_0 12 rfl rfl)
theorem dX4_days_13 : decode cX4_days 13 = .ok (.i2l, 1) := dk_133 (dk_at dksX4_days_0 13 rfl rfl)
theorem dX4_days_14 : decode cX4_days 14 = .ok (.lconst 1, 1) := dk_10 (dk_at dksX4_days_0 14 rfl rfl)
theorem dX4_days_15 : decode cX4_days 15 = .ok (.ldc2_w 480, 3) := dk_20 1 224 (dk_at dksX4_days_0 15 rfl rfl)
theorem dX4_days_18 : decode cX4_days 18 = .ok (.invokestatic 104, 3) := dk_184 0 104 (dk_at dksX4_days_0 18 rfl rfl)
theorem dX4_days_21 : decode cX4_days 21 = .ok (.ifCond .eq 28, 3) := dk_153 0 28 (dk_at dksX4_days_0 21 rfl rfl)
theorem dX4_days_24 : decode cX4_days 24 = .ok (.aload_n 0, 1) := dk_42 (dk_at dksX4_days_1 0 rfl rfl)
theorem dX4_days_25 : decode cX4_days 25 = .ok (.iload_n 3, 1) := dk_29 (dk_at dksX4_days_1 1 rfl rfl)
theorem dX4_days_26 : decode cX4_days 26 = .ok (.invokevirtual 314, 3) := dk_182 1 58 (dk_at dksX4_days_1 2 rfl rfl)
theorem dX4_days_29 : decode cX4_days 29 = .ok (.ifCond .eq 20, 3) := dk_153 0 20 (dk_at dksX4_days_1 5 rfl rfl)
theorem dX4_days_32 : decode cX4_days 32 = .ok (.aload_n 0, 1) := dk_42 (dk_at dksX4_days_1 8 rfl rfl)
theorem dX4_days_33 : decode cX4_days 33 = .ok (.iload 4, 2) := dk_21 4 (dk_at dksX4_days_1 9 rfl rfl)
theorem dX4_days_35 : decode cX4_days 35 = .ok (.invokevirtual 390, 3) := dk_182 1 134 (dk_at dksX4_days_1 11 rfl rfl)
theorem dX4_days_38 : decode cX4_days 38 = .ok (.ifCond .eq 11, 3) := dk_153 0 11 (dk_at dksX4_days_1 14 rfl rfl)
theorem dX4_days_41 : decode cX4_days 41 = .ok (.iload 5, 2) := dk_21 5 (dk_at dksX4_days_1 17 rfl rfl)
theorem dX4_days_43 : decode cX4_days 43 = .ok (.invokestatic 395, 3) := dk_184 1 139 (dk_at dksX4_days_1 19 rfl rfl)
theorem dX4_days_46 : decode cX4_days 46 = .ok (.ifCond .ne 6, 3) := dk_154 0 6 (dk_at dksX4_days_2 0 rfl rfl)
theorem dX4_days_49 : decode cX4_days 49 = .ok (.bipush (-2), 2) := dk_16 254 (dk_at dksX4_days_2 3 rfl rfl)
theorem dX4_days_51 : decode cX4_days 51 = .ok (.ireturn, 1) := dk_172 (dk_at dksX4_days_2 5 rfl rfl)
theorem dX4_days_52 : decode cX4_days 52 = .ok (.iconst 0, 1) := dk_3 (dk_at dksX4_days_2 6 rfl rfl)
theorem dX4_days_53 : decode cX4_days 53 = .ok (.istore 6, 2) := dk_54 6 (dk_at dksX4_days_2 7 rfl rfl)
theorem dX4_days_55 : decode cX4_days 55 = .ok (.iconst 0, 1) := dk_3 (dk_at dksX4_days_2 9 rfl rfl)
theorem dX4_days_56 : decode cX4_days 56 = .ok (.istore 7, 2) := dk_54 7 (dk_at dksX4_days_2 10 rfl rfl)
theorem dX4_days_58 : decode cX4_days 58 = .ok (.iload 7, 2) := dk_21 7 (dk_at dksX4_days_2 12 rfl rfl)
theorem dX4_days_60 : decode cX4_days 60 = .ok (.iload_n 2, 1) := dk_28 (dk_at dksX4_days_2 14 rfl rfl)
theorem dX4_days_61 : decode cX4_days 61 = .ok (.if_icmp .ge 37, 3) := dk_162 0 37 (dk_at dksX4_days_2 15 rfl rfl)
theorem dX4_days_64 : decode cX4_days 64 = .ok (.iload 6, 2) := dk_21 6 (dk_at dksX4_days_2 18 rfl rfl)
theorem dX4_days_66 : decode cX4_days 66 = .ok (.aload_n 0, 1) := dk_42 (dk_at dksX4_days_2 20 rfl rfl)
theorem dX4_days_67 : decode cX4_days 67 = .ok (.iload_n 1, 1) := dk_27 (dk_at dksX4_days_2 21 rfl rfl)
theorem dX4_days_68 : decode cX4_days 68 = .ok (.i2l, 1) := dk_133 (dk_at dksX4_days_2 22 rfl rfl)
theorem dX4_days_69 : decode cX4_days 69 = .ok (.iload 7, 2) := dk_21 7 (dk_at dksX4_days_3 0 rfl rfl)
theorem dX4_days_71 : decode cX4_days 71 = .ok (.i2l, 1) := dk_133 (dk_at dksX4_days_3 2 rfl rfl)
theorem dX4_days_72 : decode cX4_days 72 = .ok (.ladd, 1) := dk_97 (dk_at dksX4_days_3 3 rfl rfl)
theorem dX4_days_73 : decode cX4_days 73 = .ok (.iload_n 3, 1) := dk_29 (dk_at dksX4_days_3 4 rfl rfl)
theorem dX4_days_74 : decode cX4_days 74 = .ok (.iload 4, 2) := dk_21 4 (dk_at dksX4_days_3 5 rfl rfl)
theorem dX4_days_76 : decode cX4_days 76 = .ok (.invokevirtual 476, 3) := dk_182 1 220 (dk_at dksX4_days_3 7 rfl rfl)
theorem dX4_days_79 : decode cX4_days 79 = .ok (.iload 5, 2) := dk_21 5 (dk_at dksX4_days_3 10 rfl rfl)
theorem dX4_days_81 : decode cX4_days 81 = .ok (.if_icmp .ne 7, 3) := dk_160 0 7 (dk_at dksX4_days_3 12 rfl rfl)
theorem dX4_days_84 : decode cX4_days 84 = .ok (.iconst 1, 1) := dk_4 (dk_at dksX4_days_3 15 rfl rfl)
theorem dX4_days_85 : decode cX4_days 85 = .ok (.goto 4, 3) := dk_167 0 4 (dk_at dksX4_days_3 16 rfl rfl)
theorem dX4_days_88 : decode cX4_days 88 = .ok (.iconst 0, 1) := dk_3 (dk_at dksX4_days_3 19 rfl rfl)
theorem dX4_days_89 : decode cX4_days 89 = .ok (.iadd, 1) := dk_96 (dk_at dksX4_days_3 20 rfl rfl)
theorem dX4_days_90 : decode cX4_days 90 = .ok (.istore 6, 2) := dk_54 6 (dk_at dksX4_days_3 21 rfl rfl)
theorem dX4_days_92 : decode cX4_days 92 = .ok (.iinc 7 1, 3) := dk_132 7 1 (dk_at dksX4_days_4 0 rfl rfl)
theorem dX4_days_95 : decode cX4_days 95 = .ok (.goto (-37), 3) := dk_167 255 219 (dk_at dksX4_days_4 3 rfl rfl)
theorem dX4_days_98 : decode cX4_days 98 = .ok (.iload 6, 2) := dk_21 6 (dk_at dksX4_days_4 6 rfl rfl)
theorem dX4_days_100 : decode cX4_days 100 = .ok (.ireturn, 1) := dk_172 (dk_at dksX4_days_4 8 rfl rfl)
abbrev cX4_count : ByteArray := prog_19_method_121_code
def yX4_count : MethodName := ⟨RX4, "count", "(I)I"⟩
def dkwX4_count_6 : List UInt8 := [172, 2, 172]
abbrev dktX4_count_6 : List UInt8 := dkwX4_count_6 ++ []
def dkwX4_count_5 : List UInt8 := [42, 180, 0, 86, 29, 46, 2, 160, 0, 7, 3, 167, 0, 4, 4, 96, 61, 132, 3, 1, 167, 255, 230, 28]
abbrev dktX4_count_5 : List UInt8 := dkwX4_count_5 ++ dktX4_count_6
def dkwX4_count_4 : List UInt8 := [6, 46, 172, 42, 180, 0, 114, 172, 42, 180, 0, 9, 16, 7, 46, 172, 3, 62, 29, 7, 162, 0, 27, 28]
abbrev dktX4_count_4 : List UInt8 := dkwX4_count_4 ++ dktX4_count_5
def dkwX4_count_3 : List UInt8 := [180, 0, 9, 4, 46, 172, 42, 180, 0, 9, 5, 46, 172, 42, 180, 0, 9, 3, 46, 172, 42, 180, 0, 9]
abbrev dktX4_count_3 : List UInt8 := dkwX4_count_3 ++ dktX4_count_4
def dkwX4_count_2 : List UInt8 := [42, 180, 0, 9, 7, 46, 172, 42, 180, 0, 9, 8, 46, 172, 42, 180, 0, 9, 16, 6, 46, 172, 42]
abbrev dktX4_count_2 : List UInt8 := dkwX4_count_2 ++ dktX4_count_3
def dkwX4_count_1 : List UInt8 := [170, 0, 0, 0, 149, 0, 0, 0, 0, 0, 0, 0, 9, 0, 0, 0, 53, 0, 0, 0, 60, 0, 0, 0, 67, 0, 0, 0, 75, 0, 0, 0, 82, 0, 0, 0, 89, 0, 0, 0, 96, 0, 0, 0, 103, 0, 0, 0, 108, 0, 0, 0, 116]
abbrev dktX4_count_1 : List UInt8 := dkwX4_count_1 ++ dktX4_count_2
def dkwX4_count_0 : List UInt8 := [3, 61, 27]
abbrev dktX4_count_0 : List UInt8 := dkwX4_count_0 ++ dktX4_count_1
theorem dksX4_count_0 : cX4_count.data.toList.drop 0 = dktX4_count_0 := by decide +kernel
theorem dksX4_count_1 : cX4_count.data.toList.drop 3 = dktX4_count_1 := dk_seg dksX4_count_0 3 rfl rfl
theorem dksX4_count_2 : cX4_count.data.toList.drop 56 = dktX4_count_2 := dk_seg dksX4_count_1 53 rfl rfl
theorem dksX4_count_3 : cX4_count.data.toList.drop 79 = dktX4_count_3 := dk_seg dksX4_count_2 23 rfl rfl
theorem dksX4_count_4 : cX4_count.data.toList.drop 103 = dktX4_count_4 := dk_seg dksX4_count_3 24 rfl rfl
theorem dksX4_count_5 : cX4_count.data.toList.drop 127 = dktX4_count_5 := dk_seg dksX4_count_4 24 rfl rfl
theorem dksX4_count_6 : cX4_count.data.toList.drop 151 = dktX4_count_6 := dk_seg dksX4_count_5 24 rfl rfl
theorem dX4_count_0 : decode cX4_count 0 = .ok (.iconst 0, 1) := dk_3 (dk_at dksX4_count_0 0 rfl rfl)
theorem dX4_count_1 : decode cX4_count 1 = .ok (.istore_n 2, 1) := dk_61 (dk_at dksX4_count_0 1 rfl rfl)
theorem dX4_count_2 : decode cX4_count 2 = .ok (.iload_n 1, 1) := dk_27 (dk_at dksX4_count_0 2 rfl rfl)
theorem dX4_count_3 : decode cX4_count 3 = .ok (.tableswitch 149 0 9 #[53, 60, 67, 75, 82, 89, 96, 103, 108, 116], 53) := by decide +kernel
theorem dX4_count_56 : decode cX4_count 56 = .ok (.aload_n 0, 1) := dk_42 (dk_at dksX4_count_2 0 rfl rfl)
theorem dX4_count_57 : decode cX4_count 57 = .ok (.getfield 9, 3) := dk_180 0 9 (dk_at dksX4_count_2 1 rfl rfl)
theorem dX4_count_60 : decode cX4_count 60 = .ok (.iconst 4, 1) := dk_7 (dk_at dksX4_count_2 4 rfl rfl)
theorem dX4_count_61 : decode cX4_count 61 = .ok (.iaload, 1) := dk_46 (dk_at dksX4_count_2 5 rfl rfl)
theorem dX4_count_62 : decode cX4_count 62 = .ok (.ireturn, 1) := dk_172 (dk_at dksX4_count_2 6 rfl rfl)
theorem dX4_count_63 : decode cX4_count 63 = .ok (.aload_n 0, 1) := dk_42 (dk_at dksX4_count_2 7 rfl rfl)
theorem dX4_count_64 : decode cX4_count 64 = .ok (.getfield 9, 3) := dk_180 0 9 (dk_at dksX4_count_2 8 rfl rfl)
theorem dX4_count_67 : decode cX4_count 67 = .ok (.iconst 5, 1) := dk_8 (dk_at dksX4_count_2 11 rfl rfl)
theorem dX4_count_68 : decode cX4_count 68 = .ok (.iaload, 1) := dk_46 (dk_at dksX4_count_2 12 rfl rfl)
theorem dX4_count_69 : decode cX4_count 69 = .ok (.ireturn, 1) := dk_172 (dk_at dksX4_count_2 13 rfl rfl)
theorem dX4_count_70 : decode cX4_count 70 = .ok (.aload_n 0, 1) := dk_42 (dk_at dksX4_count_2 14 rfl rfl)
theorem dX4_count_71 : decode cX4_count 71 = .ok (.getfield 9, 3) := dk_180 0 9 (dk_at dksX4_count_2 15 rfl rfl)
theorem dX4_count_74 : decode cX4_count 74 = .ok (.bipush 6, 2) := dk_16 6 (dk_at dksX4_count_2 18 rfl rfl)
theorem dX4_count_76 : decode cX4_count 76 = .ok (.iaload, 1) := dk_46 (dk_at dksX4_count_2 20 rfl rfl)
theorem dX4_count_77 : decode cX4_count 77 = .ok (.ireturn, 1) := dk_172 (dk_at dksX4_count_2 21 rfl rfl)
theorem dX4_count_78 : decode cX4_count 78 = .ok (.aload_n 0, 1) := dk_42 (dk_at dksX4_count_2 22 rfl rfl)
theorem dX4_count_79 : decode cX4_count 79 = .ok (.getfield 9, 3) := dk_180 0 9 (dk_at dksX4_count_3 0 rfl rfl)
theorem dX4_count_82 : decode cX4_count 82 = .ok (.iconst 1, 1) := dk_4 (dk_at dksX4_count_3 3 rfl rfl)
theorem dX4_count_83 : decode cX4_count 83 = .ok (.iaload, 1) := dk_46 (dk_at dksX4_count_3 4 rfl rfl)
theorem dX4_count_84 : decode cX4_count 84 = .ok (.ireturn, 1) := dk_172 (dk_at dksX4_count_3 5 rfl rfl)
theorem dX4_count_85 : decode cX4_count 85 = .ok (.aload_n 0, 1) := dk_42 (dk_at dksX4_count_3 6 rfl rfl)
theorem dX4_count_86 : decode cX4_count 86 = .ok (.getfield 9, 3) := dk_180 0 9 (dk_at dksX4_count_3 7 rfl rfl)
theorem dX4_count_89 : decode cX4_count 89 = .ok (.iconst 2, 1) := dk_5 (dk_at dksX4_count_3 10 rfl rfl)
theorem dX4_count_90 : decode cX4_count 90 = .ok (.iaload, 1) := dk_46 (dk_at dksX4_count_3 11 rfl rfl)
theorem dX4_count_91 : decode cX4_count 91 = .ok (.ireturn, 1) := dk_172 (dk_at dksX4_count_3 12 rfl rfl)
theorem dX4_count_92 : decode cX4_count 92 = .ok (.aload_n 0, 1) := dk_42 (dk_at dksX4_count_3 13 rfl rfl)
theorem dX4_count_93 : decode cX4_count 93 = .ok (.getfield 9, 3) := dk_180 0 9 (dk_at dksX4_count_3 14 rfl rfl)
theorem dX4_count_96 : decode cX4_count 96 = .ok (.iconst 0, 1) := dk_3 (dk_at dksX4_count_3 17 rfl rfl)
theorem dX4_count_97 : decode cX4_count 97 = .ok (.iaload, 1) := dk_46 (dk_at dksX4_count_3 18 rfl rfl)
theorem dX4_count_98 : decode cX4_count 98 = .ok (.ireturn, 1) := dk_172 (dk_at dksX4_count_3 19 rfl rfl)
theorem dX4_count_99 : decode cX4_count 99 = .ok (.aload_n 0, 1) := dk_42 (dk_at dksX4_count_3 20 rfl rfl)
theorem dX4_count_100 : decode cX4_count 100 = .ok (.getfield 9, 3) := dk_180 0 9 (dk_at dksX4_count_3 21 rfl rfl)
theorem dX4_count_103 : decode cX4_count 103 = .ok (.iconst 3, 1) := dk_6 (dk_at dksX4_count_4 0 rfl rfl)
theorem dX4_count_104 : decode cX4_count 104 = .ok (.iaload, 1) := dk_46 (dk_at dksX4_count_4 1 rfl rfl)
theorem dX4_count_105 : decode cX4_count 105 = .ok (.ireturn, 1) := dk_172 (dk_at dksX4_count_4 2 rfl rfl)
theorem dX4_count_106 : decode cX4_count 106 = .ok (.aload_n 0, 1) := dk_42 (dk_at dksX4_count_4 3 rfl rfl)
theorem dX4_count_107 : decode cX4_count 107 = .ok (.getfield 114, 3) := dk_180 0 114 (dk_at dksX4_count_4 4 rfl rfl)
theorem dX4_count_110 : decode cX4_count 110 = .ok (.ireturn, 1) := dk_172 (dk_at dksX4_count_4 7 rfl rfl)
theorem dX4_count_111 : decode cX4_count 111 = .ok (.aload_n 0, 1) := dk_42 (dk_at dksX4_count_4 8 rfl rfl)
theorem dX4_count_112 : decode cX4_count 112 = .ok (.getfield 9, 3) := dk_180 0 9 (dk_at dksX4_count_4 9 rfl rfl)
theorem dX4_count_115 : decode cX4_count 115 = .ok (.bipush 7, 2) := dk_16 7 (dk_at dksX4_count_4 12 rfl rfl)
theorem dX4_count_117 : decode cX4_count 117 = .ok (.iaload, 1) := dk_46 (dk_at dksX4_count_4 14 rfl rfl)
theorem dX4_count_118 : decode cX4_count 118 = .ok (.ireturn, 1) := dk_172 (dk_at dksX4_count_4 15 rfl rfl)
theorem dX4_count_119 : decode cX4_count 119 = .ok (.iconst 0, 1) := dk_3 (dk_at dksX4_count_4 16 rfl rfl)
theorem dX4_count_120 : decode cX4_count 120 = .ok (.istore_n 3, 1) := dk_62 (dk_at dksX4_count_4 17 rfl rfl)
theorem dX4_count_121 : decode cX4_count 121 = .ok (.iload_n 3, 1) := dk_29 (dk_at dksX4_count_4 18 rfl rfl)
theorem dX4_count_122 : decode cX4_count 122 = .ok (.iconst 4, 1) := dk_7 (dk_at dksX4_count_4 19 rfl rfl)
theorem dX4_count_123 : decode cX4_count 123 = .ok (.if_icmp .ge 27, 3) := dk_162 0 27 (dk_at dksX4_count_4 20 rfl rfl)
theorem dX4_count_126 : decode cX4_count 126 = .ok (.iload_n 2, 1) := dk_28 (dk_at dksX4_count_4 23 rfl rfl)
theorem dX4_count_127 : decode cX4_count 127 = .ok (.aload_n 0, 1) := dk_42 (dk_at dksX4_count_5 0 rfl rfl)
theorem dX4_count_128 : decode cX4_count 128 = .ok (.getfield 86, 3) := dk_180 0 86 (dk_at dksX4_count_5 1 rfl rfl)
theorem dX4_count_131 : decode cX4_count 131 = .ok (.iload_n 3, 1) := dk_29 (dk_at dksX4_count_5 4 rfl rfl)
theorem dX4_count_132 : decode cX4_count 132 = .ok (.iaload, 1) := dk_46 (dk_at dksX4_count_5 5 rfl rfl)
theorem dX4_count_133 : decode cX4_count 133 = .ok (.iconst (-1), 1) := dk_2 (dk_at dksX4_count_5 6 rfl rfl)
theorem dX4_count_134 : decode cX4_count 134 = .ok (.if_icmp .ne 7, 3) := dk_160 0 7 (dk_at dksX4_count_5 7 rfl rfl)
theorem dX4_count_137 : decode cX4_count 137 = .ok (.iconst 0, 1) := dk_3 (dk_at dksX4_count_5 10 rfl rfl)
theorem dX4_count_138 : decode cX4_count 138 = .ok (.goto 4, 3) := dk_167 0 4 (dk_at dksX4_count_5 11 rfl rfl)
theorem dX4_count_141 : decode cX4_count 141 = .ok (.iconst 1, 1) := dk_4 (dk_at dksX4_count_5 14 rfl rfl)
theorem dX4_count_142 : decode cX4_count 142 = .ok (.iadd, 1) := dk_96 (dk_at dksX4_count_5 15 rfl rfl)
theorem dX4_count_143 : decode cX4_count 143 = .ok (.istore_n 2, 1) := dk_61 (dk_at dksX4_count_5 16 rfl rfl)
theorem dX4_count_144 : decode cX4_count 144 = .ok (.iinc 3 1, 3) := dk_132 3 1 (dk_at dksX4_count_5 17 rfl rfl)
theorem dX4_count_147 : decode cX4_count 147 = .ok (.goto (-26), 3) := dk_167 255 230 (dk_at dksX4_count_5 20 rfl rfl)
theorem dX4_count_150 : decode cX4_count 150 = .ok (.iload_n 2, 1) := dk_28 (dk_at dksX4_count_5 23 rfl rfl)
theorem dX4_count_151 : decode cX4_count 151 = .ok (.ireturn, 1) := dk_172 (dk_at dksX4_count_6 0 rfl rfl)
theorem dX4_count_152 : decode cX4_count 152 = .ok (.iconst (-1), 1) := dk_2 (dk_at dksX4_count_6 1 rfl rfl)
theorem dX4_count_153 : decode cX4_count 153 = .ok (.ireturn, 1) := dk_172 (dk_at dksX4_count_6 2 rfl rfl)
abbrev cX4_row : ByteArray := prog_19_method_124_code
def yX4_row : MethodName := ⟨RX4, "row", "(III)I"⟩
def dkwX4_row_3 : List UInt8 := [9, 80, 132, 4, 1, 167, 255, 233, 3, 172]
abbrev dktX4_row_3 : List UInt8 := dkwX4_row_3 ++ []
def dkwX4_row_2 : List UInt8 := [27, 28, 79, 3, 54, 4, 21, 4, 16, 60, 162, 0, 22, 42, 180, 0, 92, 16, 60, 27, 104, 21, 4, 96]
abbrev dktX4_row_2 : List UInt8 := dkwX4_row_2 ++ dktX4_row_3
def dkwX4_row_1 : List UInt8 := [164, 0, 6, 16, 254, 172, 29, 156, 0, 6, 16, 253, 172, 42, 180, 0, 86, 27, 29, 79, 42, 180, 0, 89]
abbrev dktX4_row_1 : List UInt8 := dkwX4_row_1 ++ dktX4_row_2
def dkwX4_row_0 : List UInt8 := [27, 184, 1, 160, 153, 0, 21, 28, 133, 9, 20, 1, 226, 184, 0, 104, 153, 0, 9, 29, 16, 60]
abbrev dktX4_row_0 : List UInt8 := dkwX4_row_0 ++ dktX4_row_1
theorem dksX4_row_0 : cX4_row.data.toList.drop 0 = dktX4_row_0 := by decide +kernel
theorem dksX4_row_1 : cX4_row.data.toList.drop 22 = dktX4_row_1 := dk_seg dksX4_row_0 22 rfl rfl
theorem dksX4_row_2 : cX4_row.data.toList.drop 46 = dktX4_row_2 := dk_seg dksX4_row_1 24 rfl rfl
theorem dksX4_row_3 : cX4_row.data.toList.drop 70 = dktX4_row_3 := dk_seg dksX4_row_2 24 rfl rfl
theorem dX4_row_0 : decode cX4_row 0 = .ok (.iload_n 1, 1) := dk_27 (dk_at dksX4_row_0 0 rfl rfl)
theorem dX4_row_1 : decode cX4_row 1 = .ok (.invokestatic 416, 3) := dk_184 1 160 (dk_at dksX4_row_0 1 rfl rfl)
theorem dX4_row_4 : decode cX4_row 4 = .ok (.ifCond .eq 21, 3) := dk_153 0 21 (dk_at dksX4_row_0 4 rfl rfl)
theorem dX4_row_7 : decode cX4_row 7 = .ok (.iload_n 2, 1) := dk_28 (dk_at dksX4_row_0 7 rfl rfl)
theorem dX4_row_8 : decode cX4_row 8 = .ok (.i2l, 1) := dk_133 (dk_at dksX4_row_0 8 rfl rfl)
theorem dX4_row_9 : decode cX4_row 9 = .ok (.lconst 0, 1) := dk_9 (dk_at dksX4_row_0 9 rfl rfl)
theorem dX4_row_10 : decode cX4_row 10 = .ok (.ldc2_w 482, 3) := dk_20 1 226 (dk_at dksX4_row_0 10 rfl rfl)
theorem dX4_row_13 : decode cX4_row 13 = .ok (.invokestatic 104, 3) := dk_184 0 104 (dk_at dksX4_row_0 13 rfl rfl)
theorem dX4_row_16 : decode cX4_row 16 = .ok (.ifCond .eq 9, 3) := dk_153 0 9 (dk_at dksX4_row_0 16 rfl rfl)
theorem dX4_row_19 : decode cX4_row 19 = .ok (.iload_n 3, 1) := dk_29 (dk_at dksX4_row_0 19 rfl rfl)
theorem dX4_row_20 : decode cX4_row 20 = .ok (.bipush 60, 2) := dk_16 60 (dk_at dksX4_row_0 20 rfl rfl)
theorem dX4_row_22 : decode cX4_row 22 = .ok (.if_icmp .le 6, 3) := dk_164 0 6 (dk_at dksX4_row_1 0 rfl rfl)
theorem dX4_row_25 : decode cX4_row 25 = .ok (.bipush (-2), 2) := dk_16 254 (dk_at dksX4_row_1 3 rfl rfl)
theorem dX4_row_27 : decode cX4_row 27 = .ok (.ireturn, 1) := dk_172 (dk_at dksX4_row_1 5 rfl rfl)
theorem dX4_row_28 : decode cX4_row 28 = .ok (.iload_n 3, 1) := dk_29 (dk_at dksX4_row_1 6 rfl rfl)
theorem dX4_row_29 : decode cX4_row 29 = .ok (.ifCond .ge 6, 3) := dk_156 0 6 (dk_at dksX4_row_1 7 rfl rfl)
theorem dX4_row_32 : decode cX4_row 32 = .ok (.bipush (-3), 2) := dk_16 253 (dk_at dksX4_row_1 10 rfl rfl)
theorem dX4_row_34 : decode cX4_row 34 = .ok (.ireturn, 1) := dk_172 (dk_at dksX4_row_1 12 rfl rfl)
theorem dX4_row_35 : decode cX4_row 35 = .ok (.aload_n 0, 1) := dk_42 (dk_at dksX4_row_1 13 rfl rfl)
theorem dX4_row_36 : decode cX4_row 36 = .ok (.getfield 86, 3) := dk_180 0 86 (dk_at dksX4_row_1 14 rfl rfl)
theorem dX4_row_39 : decode cX4_row 39 = .ok (.iload_n 1, 1) := dk_27 (dk_at dksX4_row_1 17 rfl rfl)
theorem dX4_row_40 : decode cX4_row 40 = .ok (.iload_n 3, 1) := dk_29 (dk_at dksX4_row_1 18 rfl rfl)
theorem dX4_row_41 : decode cX4_row 41 = .ok (.iastore, 1) := dk_79 (dk_at dksX4_row_1 19 rfl rfl)
theorem dX4_row_42 : decode cX4_row 42 = .ok (.aload_n 0, 1) := dk_42 (dk_at dksX4_row_1 20 rfl rfl)
theorem dX4_row_43 : decode cX4_row 43 = .ok (.getfield 89, 3) := dk_180 0 89 (dk_at dksX4_row_1 21 rfl rfl)
theorem dX4_row_46 : decode cX4_row 46 = .ok (.iload_n 1, 1) := dk_27 (dk_at dksX4_row_2 0 rfl rfl)
theorem dX4_row_47 : decode cX4_row 47 = .ok (.iload_n 2, 1) := dk_28 (dk_at dksX4_row_2 1 rfl rfl)
theorem dX4_row_48 : decode cX4_row 48 = .ok (.iastore, 1) := dk_79 (dk_at dksX4_row_2 2 rfl rfl)
theorem dX4_row_49 : decode cX4_row 49 = .ok (.iconst 0, 1) := dk_3 (dk_at dksX4_row_2 3 rfl rfl)
theorem dX4_row_50 : decode cX4_row 50 = .ok (.istore 4, 2) := dk_54 4 (dk_at dksX4_row_2 4 rfl rfl)
theorem dX4_row_52 : decode cX4_row 52 = .ok (.iload 4, 2) := dk_21 4 (dk_at dksX4_row_2 6 rfl rfl)
theorem dX4_row_54 : decode cX4_row 54 = .ok (.bipush 60, 2) := dk_16 60 (dk_at dksX4_row_2 8 rfl rfl)
theorem dX4_row_56 : decode cX4_row 56 = .ok (.if_icmp .ge 22, 3) := dk_162 0 22 (dk_at dksX4_row_2 10 rfl rfl)
theorem dX4_row_59 : decode cX4_row 59 = .ok (.aload_n 0, 1) := dk_42 (dk_at dksX4_row_2 13 rfl rfl)
theorem dX4_row_60 : decode cX4_row 60 = .ok (.getfield 92, 3) := dk_180 0 92 (dk_at dksX4_row_2 14 rfl rfl)
theorem dX4_row_63 : decode cX4_row 63 = .ok (.bipush 60, 2) := dk_16 60 (dk_at dksX4_row_2 17 rfl rfl)
theorem dX4_row_65 : decode cX4_row 65 = .ok (.iload_n 1, 1) := dk_27 (dk_at dksX4_row_2 19 rfl rfl)
theorem dX4_row_66 : decode cX4_row 66 = .ok (.imul, 1) := dk_104 (dk_at dksX4_row_2 20 rfl rfl)
theorem dX4_row_67 : decode cX4_row 67 = .ok (.iload 4, 2) := dk_21 4 (dk_at dksX4_row_2 21 rfl rfl)
theorem dX4_row_69 : decode cX4_row 69 = .ok (.iadd, 1) := dk_96 (dk_at dksX4_row_2 23 rfl rfl)
theorem dX4_row_70 : decode cX4_row 70 = .ok (.lconst 0, 1) := dk_9 (dk_at dksX4_row_3 0 rfl rfl)
theorem dX4_row_71 : decode cX4_row 71 = .ok (.lastore, 1) := dk_80 (dk_at dksX4_row_3 1 rfl rfl)
theorem dX4_row_72 : decode cX4_row 72 = .ok (.iinc 4 1, 3) := dk_132 4 1 (dk_at dksX4_row_3 2 rfl rfl)
theorem dX4_row_75 : decode cX4_row 75 = .ok (.goto (-23), 3) := dk_167 255 233 (dk_at dksX4_row_3 5 rfl rfl)
theorem dX4_row_78 : decode cX4_row 78 = .ok (.iconst 0, 1) := dk_3 (dk_at dksX4_row_3 8 rfl rfl)
theorem dX4_row_79 : decode cX4_row 79 = .ok (.ireturn, 1) := dk_172 (dk_at dksX4_row_3 9 rfl rfl)
abbrev cX4_write : ByteArray := prog_19_method_125_code
def yX4_write : MethodName := ⟨RX4, "write", "(IIJ)I"⟩
def dkwX4_write_2 : List UInt8 := [16, 60, 27, 104, 28, 96, 33, 42, 180, 0, 89, 27, 46, 184, 1, 228, 80, 3, 172]
abbrev dktX4_write_2 : List UInt8 := dkwX4_write_2 ++ []
def dkwX4_write_1 : List UInt8 := [133, 9, 42, 180, 0, 86, 27, 46, 4, 100, 133, 184, 0, 104, 154, 0, 6, 16, 249, 172, 42, 180, 0, 92]
abbrev dktX4_write_1 : List UInt8 := dkwX4_write_1 ++ dktX4_write_2
def dkwX4_write_0 : List UInt8 := [27, 184, 1, 160, 154, 0, 6, 16, 254, 172, 42, 180, 0, 86, 27, 46, 2, 160, 0, 6, 16, 250, 172, 28]
abbrev dktX4_write_0 : List UInt8 := dkwX4_write_0 ++ dktX4_write_1
theorem dksX4_write_0 : cX4_write.data.toList.drop 0 = dktX4_write_0 := by decide +kernel
theorem dksX4_write_1 : cX4_write.data.toList.drop 24 = dktX4_write_1 := dk_seg dksX4_write_0 24 rfl rfl
theorem dksX4_write_2 : cX4_write.data.toList.drop 48 = dktX4_write_2 := dk_seg dksX4_write_1 24 rfl rfl
theorem dX4_write_0 : decode cX4_write 0 = .ok (.iload_n 1, 1) := dk_27 (dk_at dksX4_write_0 0 rfl rfl)
theorem dX4_write_1 : decode cX4_write 1 = .ok (.invokestatic 416, 3) := dk_184 1 160 (dk_at dksX4_write_0 1 rfl rfl)
theorem dX4_write_4 : decode cX4_write 4 = .ok (.ifCond .ne 6, 3) := dk_154 0 6 (dk_at dksX4_write_0 4 rfl rfl)
theorem dX4_write_7 : decode cX4_write 7 = .ok (.bipush (-2), 2) := dk_16 254 (dk_at dksX4_write_0 7 rfl rfl)
theorem dX4_write_9 : decode cX4_write 9 = .ok (.ireturn, 1) := dk_172 (dk_at dksX4_write_0 9 rfl rfl)
theorem dX4_write_10 : decode cX4_write 10 = .ok (.aload_n 0, 1) := dk_42 (dk_at dksX4_write_0 10 rfl rfl)
theorem dX4_write_11 : decode cX4_write 11 = .ok (.getfield 86, 3) := dk_180 0 86 (dk_at dksX4_write_0 11 rfl rfl)
theorem dX4_write_14 : decode cX4_write 14 = .ok (.iload_n 1, 1) := dk_27 (dk_at dksX4_write_0 14 rfl rfl)
theorem dX4_write_15 : decode cX4_write 15 = .ok (.iaload, 1) := dk_46 (dk_at dksX4_write_0 15 rfl rfl)
theorem dX4_write_16 : decode cX4_write 16 = .ok (.iconst (-1), 1) := dk_2 (dk_at dksX4_write_0 16 rfl rfl)
theorem dX4_write_17 : decode cX4_write 17 = .ok (.if_icmp .ne 6, 3) := dk_160 0 6 (dk_at dksX4_write_0 17 rfl rfl)
theorem dX4_write_20 : decode cX4_write 20 = .ok (.bipush (-6), 2) := dk_16 250 (dk_at dksX4_write_0 20 rfl rfl)
theorem dX4_write_22 : decode cX4_write 22 = .ok (.ireturn, 1) := dk_172 (dk_at dksX4_write_0 22 rfl rfl)
theorem dX4_write_23 : decode cX4_write 23 = .ok (.iload_n 2, 1) := dk_28 (dk_at dksX4_write_0 23 rfl rfl)
theorem dX4_write_24 : decode cX4_write 24 = .ok (.i2l, 1) := dk_133 (dk_at dksX4_write_1 0 rfl rfl)
theorem dX4_write_25 : decode cX4_write 25 = .ok (.lconst 0, 1) := dk_9 (dk_at dksX4_write_1 1 rfl rfl)
theorem dX4_write_26 : decode cX4_write 26 = .ok (.aload_n 0, 1) := dk_42 (dk_at dksX4_write_1 2 rfl rfl)
theorem dX4_write_27 : decode cX4_write 27 = .ok (.getfield 86, 3) := dk_180 0 86 (dk_at dksX4_write_1 3 rfl rfl)
theorem dX4_write_30 : decode cX4_write 30 = .ok (.iload_n 1, 1) := dk_27 (dk_at dksX4_write_1 6 rfl rfl)
theorem dX4_write_31 : decode cX4_write 31 = .ok (.iaload, 1) := dk_46 (dk_at dksX4_write_1 7 rfl rfl)
theorem dX4_write_32 : decode cX4_write 32 = .ok (.iconst 1, 1) := dk_4 (dk_at dksX4_write_1 8 rfl rfl)
theorem dX4_write_33 : decode cX4_write 33 = .ok (.isub, 1) := dk_100 (dk_at dksX4_write_1 9 rfl rfl)
theorem dX4_write_34 : decode cX4_write 34 = .ok (.i2l, 1) := dk_133 (dk_at dksX4_write_1 10 rfl rfl)
theorem dX4_write_35 : decode cX4_write 35 = .ok (.invokestatic 104, 3) := dk_184 0 104 (dk_at dksX4_write_1 11 rfl rfl)
theorem dX4_write_38 : decode cX4_write 38 = .ok (.ifCond .ne 6, 3) := dk_154 0 6 (dk_at dksX4_write_1 14 rfl rfl)
theorem dX4_write_41 : decode cX4_write 41 = .ok (.bipush (-7), 2) := dk_16 249 (dk_at dksX4_write_1 17 rfl rfl)
theorem dX4_write_43 : decode cX4_write 43 = .ok (.ireturn, 1) := dk_172 (dk_at dksX4_write_1 19 rfl rfl)
theorem dX4_write_44 : decode cX4_write 44 = .ok (.aload_n 0, 1) := dk_42 (dk_at dksX4_write_1 20 rfl rfl)
theorem dX4_write_45 : decode cX4_write 45 = .ok (.getfield 92, 3) := dk_180 0 92 (dk_at dksX4_write_1 21 rfl rfl)
theorem dX4_write_48 : decode cX4_write 48 = .ok (.bipush 60, 2) := dk_16 60 (dk_at dksX4_write_2 0 rfl rfl)
theorem dX4_write_50 : decode cX4_write 50 = .ok (.iload_n 1, 1) := dk_27 (dk_at dksX4_write_2 2 rfl rfl)
theorem dX4_write_51 : decode cX4_write 51 = .ok (.imul, 1) := dk_104 (dk_at dksX4_write_2 3 rfl rfl)
theorem dX4_write_52 : decode cX4_write 52 = .ok (.iload_n 2, 1) := dk_28 (dk_at dksX4_write_2 4 rfl rfl)
theorem dX4_write_53 : decode cX4_write 53 = .ok (.iadd, 1) := dk_96 (dk_at dksX4_write_2 5 rfl rfl)
theorem dX4_write_54 : decode cX4_write 54 = .ok (.lload_n 3, 1) := dk_33 (dk_at dksX4_write_2 6 rfl rfl)
theorem dX4_write_55 : decode cX4_write 55 = .ok (.aload_n 0, 1) := dk_42 (dk_at dksX4_write_2 7 rfl rfl)
theorem dX4_write_56 : decode cX4_write 56 = .ok (.getfield 89, 3) := dk_180 0 89 (dk_at dksX4_write_2 8 rfl rfl)
theorem dX4_write_59 : decode cX4_write 59 = .ok (.iload_n 1, 1) := dk_27 (dk_at dksX4_write_2 11 rfl rfl)
theorem dX4_write_60 : decode cX4_write 60 = .ok (.iaload, 1) := dk_46 (dk_at dksX4_write_2 12 rfl rfl)
theorem dX4_write_61 : decode cX4_write 61 = .ok (.invokestatic 484, 3) := dk_184 1 228 (dk_at dksX4_write_2 13 rfl rfl)
theorem dX4_write_64 : decode cX4_write 64 = .ok (.lastore, 1) := dk_80 (dk_at dksX4_write_2 16 rfl rfl)
theorem dX4_write_65 : decode cX4_write 65 = .ok (.iconst 0, 1) := dk_3 (dk_at dksX4_write_2 17 rfl rfl)
theorem dX4_write_66 : decode cX4_write 66 = .ok (.ireturn, 1) := dk_172 (dk_at dksX4_write_2 18 rfl rfl)
abbrev cX4_cut : ByteArray := prog_19_method_123_code
def yX4_cut : MethodName := ⟨RX4, "cut", "(JI)J"⟩
def dkwX4_cut_0 : List UInt8 := [16, 64, 16, 8, 28, 120, 100, 62, 30, 29, 121, 29, 123, 173]
abbrev dktX4_cut_0 : List UInt8 := dkwX4_cut_0 ++ []
theorem dksX4_cut_0 : cX4_cut.data.toList.drop 0 = dktX4_cut_0 := by decide +kernel
theorem dX4_cut_0 : decode cX4_cut 0 = .ok (.bipush 64, 2) := dk_16 64 (dk_at dksX4_cut_0 0 rfl rfl)
theorem dX4_cut_2 : decode cX4_cut 2 = .ok (.bipush 8, 2) := dk_16 8 (dk_at dksX4_cut_0 2 rfl rfl)
theorem dX4_cut_4 : decode cX4_cut 4 = .ok (.iload_n 2, 1) := dk_28 (dk_at dksX4_cut_0 4 rfl rfl)
theorem dX4_cut_5 : decode cX4_cut 5 = .ok (.ishl, 1) := dk_120 (dk_at dksX4_cut_0 5 rfl rfl)
theorem dX4_cut_6 : decode cX4_cut 6 = .ok (.isub, 1) := dk_100 (dk_at dksX4_cut_0 6 rfl rfl)
theorem dX4_cut_7 : decode cX4_cut 7 = .ok (.istore_n 3, 1) := dk_62 (dk_at dksX4_cut_0 7 rfl rfl)
theorem dX4_cut_8 : decode cX4_cut 8 = .ok (.lload_n 0, 1) := dk_30 (dk_at dksX4_cut_0 8 rfl rfl)
theorem dX4_cut_9 : decode cX4_cut 9 = .ok (.iload_n 3, 1) := dk_29 (dk_at dksX4_cut_0 9 rfl rfl)
theorem dX4_cut_10 : decode cX4_cut 10 = .ok (.lshl, 1) := dk_121 (dk_at dksX4_cut_0 10 rfl rfl)
theorem dX4_cut_11 : decode cX4_cut 11 = .ok (.iload_n 3, 1) := dk_29 (dk_at dksX4_cut_0 11 rfl rfl)
theorem dX4_cut_12 : decode cX4_cut 12 = .ok (.lshr, 1) := dk_123 (dk_at dksX4_cut_0 12 rfl rfl)
theorem dX4_cut_13 : decode cX4_cut 13 = .ok (.lreturn, 1) := dk_173 (dk_at dksX4_cut_0 13 rfl rfl)
abbrev cX4_paste : ByteArray := prog_19_method_126_code
def yX4_paste : MethodName := ⟨RX4, "paste", "(IIIII)I"⟩
def dkwX4_paste_7 : List UInt8 := [29, 104, 21, 4, 96, 21, 6, 96, 42, 180, 0, 96, 21, 6, 47, 80, 132, 6, 1, 167, 255, 224, 3, 172]
abbrev dktX4_paste_7 : List UInt8 := dkwX4_paste_7 ++ []
def dkwX4_paste_6 : List UInt8 := [47, 80, 132, 6, 1, 167, 255, 225, 3, 54, 6, 21, 6, 21, 5, 162, 0, 31, 42, 180, 0, 92, 16, 60]
abbrev dktX4_paste_6 : List UInt8 := dkwX4_paste_6 ++ dktX4_paste_7
def dkwX4_paste_5 : List UInt8 := [21, 5, 162, 0, 30, 42, 180, 0, 96, 21, 6, 42, 180, 0, 92, 16, 60, 27, 104, 28, 96, 21, 6, 96]
abbrev dktX4_paste_5 : List UInt8 := dkwX4_paste_5 ++ dktX4_paste_6
def dkwX4_paste_4 : List UInt8 := [21, 5, 133, 97, 42, 180, 0, 86, 29, 46, 133, 148, 158, 0, 6, 16, 249, 172, 3, 54, 6, 21, 6]
abbrev dktX4_paste_4 : List UInt8 := dkwX4_paste_4 ++ dktX4_paste_5
def dkwX4_paste_3 : List UInt8 := [155, 0, 38, 28, 133, 21, 5, 133, 97, 42, 180, 0, 86, 27, 46, 133, 148, 157, 0, 21, 21, 4, 133]
abbrev dktX4_paste_3 : List UInt8 := dkwX4_paste_3 ++ dktX4_paste_4
def dkwX4_paste_2 : List UInt8 := [180, 0, 89, 29, 46, 159, 0, 6, 16, 248, 172, 28, 155, 0, 48, 21, 4, 155, 0, 43, 21, 5]
abbrev dktX4_paste_2 : List UInt8 := dkwX4_paste_2 ++ dktX4_paste_3
def dkwX4_paste_1 : List UInt8 := [159, 0, 13, 42, 180, 0, 86, 29, 46, 2, 160, 0, 6, 16, 250, 172, 42, 180, 0, 89, 27, 46, 42]
abbrev dktX4_paste_1 : List UInt8 := dkwX4_paste_1 ++ dktX4_paste_2
def dkwX4_paste_0 : List UInt8 := [27, 184, 1, 160, 153, 0, 10, 29, 184, 1, 160, 154, 0, 6, 16, 254, 172, 42, 180, 0, 86, 27, 46, 2]
abbrev dktX4_paste_0 : List UInt8 := dkwX4_paste_0 ++ dktX4_paste_1
theorem dksX4_paste_0 : cX4_paste.data.toList.drop 0 = dktX4_paste_0 := by decide +kernel
theorem dksX4_paste_1 : cX4_paste.data.toList.drop 24 = dktX4_paste_1 := dk_seg dksX4_paste_0 24 rfl rfl
theorem dksX4_paste_2 : cX4_paste.data.toList.drop 47 = dktX4_paste_2 := dk_seg dksX4_paste_1 23 rfl rfl
theorem dksX4_paste_3 : cX4_paste.data.toList.drop 69 = dktX4_paste_3 := dk_seg dksX4_paste_2 22 rfl rfl
theorem dksX4_paste_4 : cX4_paste.data.toList.drop 92 = dktX4_paste_4 := dk_seg dksX4_paste_3 23 rfl rfl
theorem dksX4_paste_5 : cX4_paste.data.toList.drop 115 = dktX4_paste_5 := dk_seg dksX4_paste_4 23 rfl rfl
theorem dksX4_paste_6 : cX4_paste.data.toList.drop 139 = dktX4_paste_6 := dk_seg dksX4_paste_5 24 rfl rfl
theorem dksX4_paste_7 : cX4_paste.data.toList.drop 163 = dktX4_paste_7 := dk_seg dksX4_paste_6 24 rfl rfl
theorem dX4_paste_0 : decode cX4_paste 0 = .ok (.iload_n 1, 1) := dk_27 (dk_at dksX4_paste_0 0 rfl rfl)
theorem dX4_paste_1 : decode cX4_paste 1 = .ok (.invokestatic 416, 3) := dk_184 1 160 (dk_at dksX4_paste_0 1 rfl rfl)
theorem dX4_paste_4 : decode cX4_paste 4 = .ok (.ifCond .eq 10, 3) := dk_153 0 10 (dk_at dksX4_paste_0 4 rfl rfl)
theorem dX4_paste_7 : decode cX4_paste 7 = .ok (.iload_n 3, 1) := dk_29 (dk_at dksX4_paste_0 7 rfl rfl)
theorem dX4_paste_8 : decode cX4_paste 8 = .ok (.invokestatic 416, 3) := dk_184 1 160 (dk_at dksX4_paste_0 8 rfl rfl)
theorem dX4_paste_11 : decode cX4_paste 11 = .ok (.ifCond .ne 6, 3) := dk_154 0 6 (dk_at dksX4_paste_0 11 rfl rfl)
theorem dX4_paste_14 : decode cX4_paste 14 = .ok (.bipush (-2), 2) := dk_16 254 (dk_at dksX4_paste_0 14 rfl rfl)
theorem dX4_paste_16 : decode cX4_paste 16 = .ok (.ireturn, 1) := dk_172 (dk_at dksX4_paste_0 16 rfl rfl)
theorem dX4_paste_17 : decode cX4_paste 17 = .ok (.aload_n 0, 1) := dk_42 (dk_at dksX4_paste_0 17 rfl rfl)
theorem dX4_paste_18 : decode cX4_paste 18 = .ok (.getfield 86, 3) := dk_180 0 86 (dk_at dksX4_paste_0 18 rfl rfl)
theorem dX4_paste_21 : decode cX4_paste 21 = .ok (.iload_n 1, 1) := dk_27 (dk_at dksX4_paste_0 21 rfl rfl)
theorem dX4_paste_22 : decode cX4_paste 22 = .ok (.iaload, 1) := dk_46 (dk_at dksX4_paste_0 22 rfl rfl)
theorem dX4_paste_23 : decode cX4_paste 23 = .ok (.iconst (-1), 1) := dk_2 (dk_at dksX4_paste_0 23 rfl rfl)
theorem dX4_paste_24 : decode cX4_paste 24 = .ok (.if_icmp .eq 13, 3) := dk_159 0 13 (dk_at dksX4_paste_1 0 rfl rfl)
theorem dX4_paste_27 : decode cX4_paste 27 = .ok (.aload_n 0, 1) := dk_42 (dk_at dksX4_paste_1 3 rfl rfl)
theorem dX4_paste_28 : decode cX4_paste 28 = .ok (.getfield 86, 3) := dk_180 0 86 (dk_at dksX4_paste_1 4 rfl rfl)
theorem dX4_paste_31 : decode cX4_paste 31 = .ok (.iload_n 3, 1) := dk_29 (dk_at dksX4_paste_1 7 rfl rfl)
theorem dX4_paste_32 : decode cX4_paste 32 = .ok (.iaload, 1) := dk_46 (dk_at dksX4_paste_1 8 rfl rfl)
theorem dX4_paste_33 : decode cX4_paste 33 = .ok (.iconst (-1), 1) := dk_2 (dk_at dksX4_paste_1 9 rfl rfl)
theorem dX4_paste_34 : decode cX4_paste 34 = .ok (.if_icmp .ne 6, 3) := dk_160 0 6 (dk_at dksX4_paste_1 10 rfl rfl)
theorem dX4_paste_37 : decode cX4_paste 37 = .ok (.bipush (-6), 2) := dk_16 250 (dk_at dksX4_paste_1 13 rfl rfl)
theorem dX4_paste_39 : decode cX4_paste 39 = .ok (.ireturn, 1) := dk_172 (dk_at dksX4_paste_1 15 rfl rfl)
theorem dX4_paste_40 : decode cX4_paste 40 = .ok (.aload_n 0, 1) := dk_42 (dk_at dksX4_paste_1 16 rfl rfl)
theorem dX4_paste_41 : decode cX4_paste 41 = .ok (.getfield 89, 3) := dk_180 0 89 (dk_at dksX4_paste_1 17 rfl rfl)
theorem dX4_paste_44 : decode cX4_paste 44 = .ok (.iload_n 1, 1) := dk_27 (dk_at dksX4_paste_1 20 rfl rfl)
theorem dX4_paste_45 : decode cX4_paste 45 = .ok (.iaload, 1) := dk_46 (dk_at dksX4_paste_1 21 rfl rfl)
theorem dX4_paste_46 : decode cX4_paste 46 = .ok (.aload_n 0, 1) := dk_42 (dk_at dksX4_paste_1 22 rfl rfl)
theorem dX4_paste_47 : decode cX4_paste 47 = .ok (.getfield 89, 3) := dk_180 0 89 (dk_at dksX4_paste_2 0 rfl rfl)
theorem dX4_paste_50 : decode cX4_paste 50 = .ok (.iload_n 3, 1) := dk_29 (dk_at dksX4_paste_2 3 rfl rfl)
theorem dX4_paste_51 : decode cX4_paste 51 = .ok (.iaload, 1) := dk_46 (dk_at dksX4_paste_2 4 rfl rfl)
theorem dX4_paste_52 : decode cX4_paste 52 = .ok (.if_icmp .eq 6, 3) := dk_159 0 6 (dk_at dksX4_paste_2 5 rfl rfl)
theorem dX4_paste_55 : decode cX4_paste 55 = .ok (.bipush (-8), 2) := dk_16 248 (dk_at dksX4_paste_2 8 rfl rfl)
theorem dX4_paste_57 : decode cX4_paste 57 = .ok (.ireturn, 1) := dk_172 (dk_at dksX4_paste_2 10 rfl rfl)
theorem dX4_paste_58 : decode cX4_paste 58 = .ok (.iload_n 2, 1) := dk_28 (dk_at dksX4_paste_2 11 rfl rfl)
theorem dX4_paste_59 : decode cX4_paste 59 = .ok (.ifCond .lt 48, 3) := dk_155 0 48 (dk_at dksX4_paste_2 12 rfl rfl)
theorem dX4_paste_62 : decode cX4_paste 62 = .ok (.iload 4, 2) := dk_21 4 (dk_at dksX4_paste_2 15 rfl rfl)
theorem dX4_paste_64 : decode cX4_paste 64 = .ok (.ifCond .lt 43, 3) := dk_155 0 43 (dk_at dksX4_paste_2 17 rfl rfl)
theorem dX4_paste_67 : decode cX4_paste 67 = .ok (.iload 5, 2) := dk_21 5 (dk_at dksX4_paste_2 20 rfl rfl)
theorem dX4_paste_69 : decode cX4_paste 69 = .ok (.ifCond .lt 38, 3) := dk_155 0 38 (dk_at dksX4_paste_3 0 rfl rfl)
theorem dX4_paste_72 : decode cX4_paste 72 = .ok (.iload_n 2, 1) := dk_28 (dk_at dksX4_paste_3 3 rfl rfl)
theorem dX4_paste_73 : decode cX4_paste 73 = .ok (.i2l, 1) := dk_133 (dk_at dksX4_paste_3 4 rfl rfl)
theorem dX4_paste_74 : decode cX4_paste 74 = .ok (.iload 5, 2) := dk_21 5 (dk_at dksX4_paste_3 5 rfl rfl)
theorem dX4_paste_76 : decode cX4_paste 76 = .ok (.i2l, 1) := dk_133 (dk_at dksX4_paste_3 7 rfl rfl)
theorem dX4_paste_77 : decode cX4_paste 77 = .ok (.ladd, 1) := dk_97 (dk_at dksX4_paste_3 8 rfl rfl)
theorem dX4_paste_78 : decode cX4_paste 78 = .ok (.aload_n 0, 1) := dk_42 (dk_at dksX4_paste_3 9 rfl rfl)
theorem dX4_paste_79 : decode cX4_paste 79 = .ok (.getfield 86, 3) := dk_180 0 86 (dk_at dksX4_paste_3 10 rfl rfl)
theorem dX4_paste_82 : decode cX4_paste 82 = .ok (.iload_n 1, 1) := dk_27 (dk_at dksX4_paste_3 13 rfl rfl)
theorem dX4_paste_83 : decode cX4_paste 83 = .ok (.iaload, 1) := dk_46 (dk_at dksX4_paste_3 14 rfl rfl)
theorem dX4_paste_84 : decode cX4_paste 84 = .ok (.i2l, 1) := dk_133 (dk_at dksX4_paste_3 15 rfl rfl)
theorem dX4_paste_85 : decode cX4_paste 85 = .ok (.lcmp, 1) := dk_148 (dk_at dksX4_paste_3 16 rfl rfl)
theorem dX4_paste_86 : decode cX4_paste 86 = .ok (.ifCond .gt 21, 3) := dk_157 0 21 (dk_at dksX4_paste_3 17 rfl rfl)
theorem dX4_paste_89 : decode cX4_paste 89 = .ok (.iload 4, 2) := dk_21 4 (dk_at dksX4_paste_3 20 rfl rfl)
theorem dX4_paste_91 : decode cX4_paste 91 = .ok (.i2l, 1) := dk_133 (dk_at dksX4_paste_3 22 rfl rfl)
theorem dX4_paste_92 : decode cX4_paste 92 = .ok (.iload 5, 2) := dk_21 5 (dk_at dksX4_paste_4 0 rfl rfl)
theorem dX4_paste_94 : decode cX4_paste 94 = .ok (.i2l, 1) := dk_133 (dk_at dksX4_paste_4 2 rfl rfl)
theorem dX4_paste_95 : decode cX4_paste 95 = .ok (.ladd, 1) := dk_97 (dk_at dksX4_paste_4 3 rfl rfl)
theorem dX4_paste_96 : decode cX4_paste 96 = .ok (.aload_n 0, 1) := dk_42 (dk_at dksX4_paste_4 4 rfl rfl)
theorem dX4_paste_97 : decode cX4_paste 97 = .ok (.getfield 86, 3) := dk_180 0 86 (dk_at dksX4_paste_4 5 rfl rfl)
theorem dX4_paste_100 : decode cX4_paste 100 = .ok (.iload_n 3, 1) := dk_29 (dk_at dksX4_paste_4 8 rfl rfl)
theorem dX4_paste_101 : decode cX4_paste 101 = .ok (.iaload, 1) := dk_46 (dk_at dksX4_paste_4 9 rfl rfl)
theorem dX4_paste_102 : decode cX4_paste 102 = .ok (.i2l, 1) := dk_133 (dk_at dksX4_paste_4 10 rfl rfl)
theorem dX4_paste_103 : decode cX4_paste 103 = .ok (.lcmp, 1) := dk_148 (dk_at dksX4_paste_4 11 rfl rfl)
theorem dX4_paste_104 : decode cX4_paste 104 = .ok (.ifCond .le 6, 3) := dk_158 0 6 (dk_at dksX4_paste_4 12 rfl rfl)
theorem dX4_paste_107 : decode cX4_paste 107 = .ok (.bipush (-7), 2) := dk_16 249 (dk_at dksX4_paste_4 15 rfl rfl)
theorem dX4_paste_109 : decode cX4_paste 109 = .ok (.ireturn, 1) := dk_172 (dk_at dksX4_paste_4 17 rfl rfl)
theorem dX4_paste_110 : decode cX4_paste 110 = .ok (.iconst 0, 1) := dk_3 (dk_at dksX4_paste_4 18 rfl rfl)
theorem dX4_paste_111 : decode cX4_paste 111 = .ok (.istore 6, 2) := dk_54 6 (dk_at dksX4_paste_4 19 rfl rfl)
theorem dX4_paste_113 : decode cX4_paste 113 = .ok (.iload 6, 2) := dk_21 6 (dk_at dksX4_paste_4 21 rfl rfl)
theorem dX4_paste_115 : decode cX4_paste 115 = .ok (.iload 5, 2) := dk_21 5 (dk_at dksX4_paste_5 0 rfl rfl)
theorem dX4_paste_117 : decode cX4_paste 117 = .ok (.if_icmp .ge 30, 3) := dk_162 0 30 (dk_at dksX4_paste_5 2 rfl rfl)
theorem dX4_paste_120 : decode cX4_paste 120 = .ok (.aload_n 0, 1) := dk_42 (dk_at dksX4_paste_5 5 rfl rfl)
theorem dX4_paste_121 : decode cX4_paste 121 = .ok (.getfield 96, 3) := dk_180 0 96 (dk_at dksX4_paste_5 6 rfl rfl)
theorem dX4_paste_124 : decode cX4_paste 124 = .ok (.iload 6, 2) := dk_21 6 (dk_at dksX4_paste_5 9 rfl rfl)
theorem dX4_paste_126 : decode cX4_paste 126 = .ok (.aload_n 0, 1) := dk_42 (dk_at dksX4_paste_5 11 rfl rfl)
theorem dX4_paste_127 : decode cX4_paste 127 = .ok (.getfield 92, 3) := dk_180 0 92 (dk_at dksX4_paste_5 12 rfl rfl)
theorem dX4_paste_130 : decode cX4_paste 130 = .ok (.bipush 60, 2) := dk_16 60 (dk_at dksX4_paste_5 15 rfl rfl)
theorem dX4_paste_132 : decode cX4_paste 132 = .ok (.iload_n 1, 1) := dk_27 (dk_at dksX4_paste_5 17 rfl rfl)
theorem dX4_paste_133 : decode cX4_paste 133 = .ok (.imul, 1) := dk_104 (dk_at dksX4_paste_5 18 rfl rfl)
theorem dX4_paste_134 : decode cX4_paste 134 = .ok (.iload_n 2, 1) := dk_28 (dk_at dksX4_paste_5 19 rfl rfl)
theorem dX4_paste_135 : decode cX4_paste 135 = .ok (.iadd, 1) := dk_96 (dk_at dksX4_paste_5 20 rfl rfl)
theorem dX4_paste_136 : decode cX4_paste 136 = .ok (.iload 6, 2) := dk_21 6 (dk_at dksX4_paste_5 21 rfl rfl)
theorem dX4_paste_138 : decode cX4_paste 138 = .ok (.iadd, 1) := dk_96 (dk_at dksX4_paste_5 23 rfl rfl)
theorem dX4_paste_139 : decode cX4_paste 139 = .ok (.laload, 1) := dk_47 (dk_at dksX4_paste_6 0 rfl rfl)
theorem dX4_paste_140 : decode cX4_paste 140 = .ok (.lastore, 1) := dk_80 (dk_at dksX4_paste_6 1 rfl rfl)
theorem dX4_paste_141 : decode cX4_paste 141 = .ok (.iinc 6 1, 3) := dk_132 6 1 (dk_at dksX4_paste_6 2 rfl rfl)
theorem dX4_paste_144 : decode cX4_paste 144 = .ok (.goto (-31), 3) := dk_167 255 225 (dk_at dksX4_paste_6 5 rfl rfl)
theorem dX4_paste_147 : decode cX4_paste 147 = .ok (.iconst 0, 1) := dk_3 (dk_at dksX4_paste_6 8 rfl rfl)
theorem dX4_paste_148 : decode cX4_paste 148 = .ok (.istore 6, 2) := dk_54 6 (dk_at dksX4_paste_6 9 rfl rfl)
theorem dX4_paste_150 : decode cX4_paste 150 = .ok (.iload 6, 2) := dk_21 6 (dk_at dksX4_paste_6 11 rfl rfl)
theorem dX4_paste_152 : decode cX4_paste 152 = .ok (.iload 5, 2) := dk_21 5 (dk_at dksX4_paste_6 13 rfl rfl)
theorem dX4_paste_154 : decode cX4_paste 154 = .ok (.if_icmp .ge 31, 3) := dk_162 0 31 (dk_at dksX4_paste_6 15 rfl rfl)
theorem dX4_paste_157 : decode cX4_paste 157 = .ok (.aload_n 0, 1) := dk_42 (dk_at dksX4_paste_6 18 rfl rfl)
theorem dX4_paste_158 : decode cX4_paste 158 = .ok (.getfield 92, 3) := dk_180 0 92 (dk_at dksX4_paste_6 19 rfl rfl)
theorem dX4_paste_161 : decode cX4_paste 161 = .ok (.bipush 60, 2) := dk_16 60 (dk_at dksX4_paste_6 22 rfl rfl)
theorem dX4_paste_163 : decode cX4_paste 163 = .ok (.iload_n 3, 1) := dk_29 (dk_at dksX4_paste_7 0 rfl rfl)
theorem dX4_paste_164 : decode cX4_paste 164 = .ok (.imul, 1) := dk_104 (dk_at dksX4_paste_7 1 rfl rfl)
theorem dX4_paste_165 : decode cX4_paste 165 = .ok (.iload 4, 2) := dk_21 4 (dk_at dksX4_paste_7 2 rfl rfl)
theorem dX4_paste_167 : decode cX4_paste 167 = .ok (.iadd, 1) := dk_96 (dk_at dksX4_paste_7 4 rfl rfl)
theorem dX4_paste_168 : decode cX4_paste 168 = .ok (.iload 6, 2) := dk_21 6 (dk_at dksX4_paste_7 5 rfl rfl)
theorem dX4_paste_170 : decode cX4_paste 170 = .ok (.iadd, 1) := dk_96 (dk_at dksX4_paste_7 7 rfl rfl)
theorem dX4_paste_171 : decode cX4_paste 171 = .ok (.aload_n 0, 1) := dk_42 (dk_at dksX4_paste_7 8 rfl rfl)
theorem dX4_paste_172 : decode cX4_paste 172 = .ok (.getfield 96, 3) := dk_180 0 96 (dk_at dksX4_paste_7 9 rfl rfl)
theorem dX4_paste_175 : decode cX4_paste 175 = .ok (.iload 6, 2) := dk_21 6 (dk_at dksX4_paste_7 12 rfl rfl)
theorem dX4_paste_177 : decode cX4_paste 177 = .ok (.laload, 1) := dk_47 (dk_at dksX4_paste_7 14 rfl rfl)
theorem dX4_paste_178 : decode cX4_paste 178 = .ok (.lastore, 1) := dk_80 (dk_at dksX4_paste_7 15 rfl rfl)
theorem dX4_paste_179 : decode cX4_paste 179 = .ok (.iinc 6 1, 3) := dk_132 6 1 (dk_at dksX4_paste_7 16 rfl rfl)
theorem dX4_paste_182 : decode cX4_paste 182 = .ok (.goto (-32), 3) := dk_167 255 224 (dk_at dksX4_paste_7 19 rfl rfl)
theorem dX4_paste_185 : decode cX4_paste 185 = .ok (.iconst 0, 1) := dk_3 (dk_at dksX4_paste_7 22 rfl rfl)
theorem dX4_paste_186 : decode cX4_paste 186 = .ok (.ireturn, 1) := dk_172 (dk_at dksX4_paste_7 23 rfl rfl)
theorem q138 : (Jvm.Cond.initialized "UnseenClockModel") ∈ lw_all := lw_g (lw_at lw_m1 8 rfl) rfl
theorem q924 : (Jvm.Cond.selects "UnseenClockModel" ({ cls := "java/lang/Object", name := "getClass", desc := "()Ljava/lang/Class;" } : Jvm.MethodName) ({ cls := "java/lang/Object", name := "getClass", desc := "()Ljava/lang/Class;" } : Jvm.MethodName)) ∈ lw_all := lw_g (lw_at lw_m4 74 rfl) rfl
theorem q1633 : (Jvm.Cond.instantiable "UnseenClockModel" (41 : Nat)) ∈ lw_all := lw_g (lw_at lw_m7 63 rfl) rfl
theorem q1635 : (Jvm.Cond.instanceMethod ({ cls := "UnseenClockModel", name := "<init>", desc := "()V" } : Jvm.MethodName)) ∈ lw_all := lw_g (lw_at lw_m7 65 rfl) rfl
theorem q1636 : (Jvm.Cond.code ({ cls := "UnseenClockModel", name := "<init>", desc := "()V" } : Jvm.MethodName) prog_19_method_1_code (1 : Nat) (Option.none : Option Jvm.ClassFile.FieldType)) ∈ lw_all := lw_g (lw_at lw_m7 66 rfl) rfl
theorem q1637 : (Jvm.Cond.methodLink "UnseenClockModel" (3 : Nat) ({ cls := "java/lang/Object", name := "<init>", desc := "()V" } : Jvm.MethodName)) ∈ lw_all := lw_g (lw_at lw_m7 67 rfl) rfl
theorem q1638 : (Jvm.Cond.constant "UnseenClockModel" (76 : Nat) (40960 : Int32)) ∈ lw_all := lw_g (lw_at lw_m7 68 rfl) rfl
theorem q1639 : (Jvm.Cond.fieldLink "UnseenClockModel" (9 : Nat) "UnseenClockModel" "world" "[I") ∈ lw_all := lw_g (lw_at lw_m7 69 rfl) rfl
theorem q1640 : (Jvm.Cond.fieldLink "UnseenClockModel" (13 : Nat) "UnseenClockModel" "images" "[I") ∈ lw_all := lw_g (lw_at lw_m7 70 rfl) rfl
theorem q1641 : (Jvm.Cond.fieldLink "UnseenClockModel" (16 : Nat) "UnseenClockModel" "hasImage" "[Z") ∈ lw_all := lw_g (lw_at lw_m7 71 rfl) rfl
theorem q1642 : (Jvm.Cond.fieldLink "UnseenClockModel" (20 : Nat) "UnseenClockModel" "tape" "[B") ∈ lw_all := lw_g (lw_at lw_m7 72 rfl) rfl
theorem q1643 : (Jvm.Cond.fieldLink "UnseenClockModel" (114 : Nat) "UnseenClockModel" "taped" "I") ∈ lw_all := lw_g (lw_at lw_m7 73 rfl) rfl
theorem q1644 : (Jvm.Cond.fieldLink "UnseenClockModel" (24 : Nat) "UnseenClockModel" "five" "[I") ∈ lw_all := lw_g (lw_at lw_m7 74 rfl) rfl
theorem q1645 : (Jvm.Cond.fieldLink "UnseenClockModel" (117 : Nat) "UnseenClockModel" "size" "I") ∈ lw_all := lw_g (lw_at lw_m7 75 rfl) rfl
theorem q1646 : (Jvm.Cond.fieldLink "UnseenClockModel" (120 : Nat) "UnseenClockModel" "at" "I") ∈ lw_all := lw_g (lw_at lw_m7 76 rfl) rfl
theorem q1647 : (Jvm.Cond.fieldLink "UnseenClockModel" (127 : Nat) "UnseenClockModel" "from" "I") ∈ lw_all := lw_g (lw_at lw_m7 77 rfl) rfl
theorem q1648 : (Jvm.Cond.fieldLink "UnseenClockModel" (130 : Nat) "UnseenClockModel" "token" "I") ∈ lw_all := lw_g (lw_at lw_m7 78 rfl) rfl
theorem q1649 : (Jvm.Cond.fieldLink "UnseenClockModel" (141 : Nat) "UnseenClockModel" "value" "I") ∈ lw_all := lw_g (lw_at lw_m7 79 rfl) rfl
theorem q1650 : (Jvm.Cond.fieldLink "UnseenClockModel" (151 : Nat) "UnseenClockModel" "faultKind" "I") ∈ lw_all := lw_g (lw_at lw_m7 80 rfl) rfl
theorem q1651 : (Jvm.Cond.fieldLink "UnseenClockModel" (27 : Nat) "UnseenClockModel" "faultPlace" "I") ∈ lw_all := lw_g (lw_at lw_m7 81 rfl) rfl
theorem q1652 : (Jvm.Cond.fieldLink "UnseenClockModel" (31 : Nat) "UnseenClockModel" "fresh" "[I") ∈ lw_all := lw_g (lw_at lw_m7 82 rfl) rfl
theorem q1653 : (Jvm.Cond.fieldLink "UnseenClockModel" (34 : Nat) "UnseenClockModel" "spotX" "[I") ∈ lw_all := lw_g (lw_at lw_m7 83 rfl) rfl
theorem q1654 : (Jvm.Cond.fieldLink "UnseenClockModel" (37 : Nat) "UnseenClockModel" "spotY" "[I") ∈ lw_all := lw_g (lw_at lw_m7 84 rfl) rfl
theorem q1655 : (Jvm.Cond.fieldLink "UnseenClockModel" (40 : Nat) "UnseenClockModel" "seeing" "[Z") ∈ lw_all := lw_g (lw_at lw_m7 85 rfl) rfl
theorem q1656 : (Jvm.Cond.fieldLink "UnseenClockModel" (43 : Nat) "UnseenClockModel" "parts" "[I") ∈ lw_all := lw_g (lw_at lw_m7 86 rfl) rfl
theorem q1657 : (Jvm.Cond.fieldLink "UnseenClockModel" (46 : Nat) "UnseenClockModel" "looking" "[I") ∈ lw_all := lw_g (lw_at lw_m7 87 rfl) rfl
theorem q1658 : (Jvm.Cond.fieldLink "UnseenClockModel" (49 : Nat) "UnseenClockModel" "opening" "[I") ∈ lw_all := lw_g (lw_at lw_m7 88 rfl) rfl
theorem q1659 : (Jvm.Cond.fieldLink "UnseenClockModel" (52 : Nat) "UnseenClockModel" "opened" "[I") ∈ lw_all := lw_g (lw_at lw_m7 89 rfl) rfl
theorem q1660 : (Jvm.Cond.fieldLink "UnseenClockModel" (363 : Nat) "UnseenClockModel" "openMany" "I") ∈ lw_all := lw_g (lw_at lw_m7 90 rfl) rfl
theorem q1661 : (Jvm.Cond.fieldLink "UnseenClockModel" (55 : Nat) "UnseenClockModel" "taken" "[Z") ∈ lw_all := lw_g (lw_at lw_m7 91 rfl) rfl
theorem q1662 : (Jvm.Cond.fieldLink "UnseenClockModel" (366 : Nat) "UnseenClockModel" "takenMany" "I") ∈ lw_all := lw_g (lw_at lw_m7 92 rfl) rfl
theorem q1663 : (Jvm.Cond.fieldLink "UnseenClockModel" (58 : Nat) "UnseenClockModel" "keeping" "[I") ∈ lw_all := lw_g (lw_at lw_m7 93 rfl) rfl
theorem q1664 : (Jvm.Cond.fieldLink "UnseenClockModel" (61 : Nat) "UnseenClockModel" "keptLast" "[I") ∈ lw_all := lw_g (lw_at lw_m7 94 rfl) rfl
theorem q1665 : (Jvm.Cond.fieldLink "UnseenClockModel" (64 : Nat) "UnseenClockModel" "keptMany" "[I") ∈ lw_all := lw_g (lw_at lw_m7 95 rfl) rfl
theorem q1666 : (Jvm.Cond.fieldLink "UnseenClockModel" (331 : Nat) "UnseenClockModel" "isDrawn" "Z") ∈ lw_all := lw_g (lw_at lw_m7 96 rfl) rfl
theorem q1667 : (Jvm.Cond.fieldLink "UnseenClockModel" (319 : Nat) "UnseenClockModel" "drawn" "J") ∈ lw_all := lw_g (lw_at lw_m7 97 rfl) rfl
theorem q1668 : (Jvm.Cond.fieldLink "UnseenClockModel" (67 : Nat) "UnseenClockModel" "value3" "[I") ∈ lw_all := lw_g (lw_at lw_m7 98 rfl) rfl
theorem q1669 : (Jvm.Cond.fieldLink "UnseenClockModel" (70 : Nat) "UnseenClockModel" "maybes" "[Z") ∈ lw_all := lw_g (lw_at lw_m7 99 rfl) rfl
theorem q1670 : (Jvm.Cond.fieldLink "UnseenClockModel" (73 : Nat) "UnseenClockModel" "showing" "[I") ∈ lw_all := lw_g (lw_at lw_m7 100 rfl) rfl
theorem q1671 : (Jvm.Cond.fieldLink "UnseenClockModel" (77 : Nat) "UnseenClockModel" "sights" "[I") ∈ lw_all := lw_g (lw_at lw_m7 101 rfl) rfl
theorem q1672 : (Jvm.Cond.fieldLink "UnseenClockModel" (401 : Nat) "UnseenClockModel" "coursesMany" "I") ∈ lw_all := lw_g (lw_at lw_m7 102 rfl) rfl
theorem q1673 : (Jvm.Cond.fieldLink "UnseenClockModel" (80 : Nat) "UnseenClockModel" "isComing" "[Z") ∈ lw_all := lw_g (lw_at lw_m7 103 rfl) rfl
theorem q1674 : (Jvm.Cond.fieldLink "UnseenClockModel" (83 : Nat) "UnseenClockModel" "queue" "[I") ∈ lw_all := lw_g (lw_at lw_m7 104 rfl) rfl
theorem q1675 : (Jvm.Cond.fieldLink "UnseenClockModel" (86 : Nat) "UnseenClockModel" "many" "[I") ∈ lw_all := lw_g (lw_at lw_m7 105 rfl) rfl
theorem q1676 : (Jvm.Cond.fieldLink "UnseenClockModel" (89 : Nat) "UnseenClockModel" "width" "[I") ∈ lw_all := lw_g (lw_at lw_m7 106 rfl) rfl
theorem q1677 : (Jvm.Cond.fieldLink "UnseenClockModel" (92 : Nat) "UnseenClockModel" "numbers" "[J") ∈ lw_all := lw_g (lw_at lw_m7 107 rfl) rfl
theorem q1678 : (Jvm.Cond.fieldLink "UnseenClockModel" (96 : Nat) "UnseenClockModel" "moving" "[J") ∈ lw_all := lw_g (lw_at lw_m7 108 rfl) rfl
theorem q1679 : (Jvm.Cond.lays "UnseenClockModel" "UnseenClockModel" "thrown" "I") ∈ lw_all := lw_g (lw_at lw_m7 109 rfl) rfl
theorem q1680 : (Jvm.Cond.soleField "UnseenClockModel" "thrown") ∈ lw_all := lw_g (lw_at lw_m7 110 rfl) rfl
theorem q1681 : (Jvm.Cond.laysFinal "UnseenClockModel" "UnseenClockModel" "world" "[I") ∈ lw_all := lw_g (lw_at lw_m7 111 rfl) rfl
theorem q1682 : (Jvm.Cond.soleField "UnseenClockModel" "world") ∈ lw_all := lw_g (lw_at lw_m7 112 rfl) rfl
theorem q1683 : (Jvm.Cond.laysFinal "UnseenClockModel" "UnseenClockModel" "images" "[I") ∈ lw_all := lw_g (lw_at lw_m7 113 rfl) rfl
theorem q1684 : (Jvm.Cond.soleField "UnseenClockModel" "images") ∈ lw_all := lw_g (lw_at lw_m7 114 rfl) rfl
theorem q1685 : (Jvm.Cond.laysFinal "UnseenClockModel" "UnseenClockModel" "hasImage" "[Z") ∈ lw_all := lw_g (lw_at lw_m7 115 rfl) rfl
theorem q1686 : (Jvm.Cond.soleField "UnseenClockModel" "hasImage") ∈ lw_all := lw_g (lw_at lw_m7 116 rfl) rfl
theorem q1687 : (Jvm.Cond.laysFinal "UnseenClockModel" "UnseenClockModel" "tape" "[B") ∈ lw_all := lw_g (lw_at lw_m7 117 rfl) rfl
theorem q1688 : (Jvm.Cond.soleField "UnseenClockModel" "tape") ∈ lw_all := lw_g (lw_at lw_m7 118 rfl) rfl
theorem q1689 : (Jvm.Cond.lays "UnseenClockModel" "UnseenClockModel" "taped" "I") ∈ lw_all := lw_g (lw_at lw_m7 119 rfl) rfl
theorem q1690 : (Jvm.Cond.soleField "UnseenClockModel" "taped") ∈ lw_all := lw_g (lw_at lw_m7 120 rfl) rfl
theorem q1691 : (Jvm.Cond.laysFinal "UnseenClockModel" "UnseenClockModel" "five" "[I") ∈ lw_all := lw_g (lw_at lw_m7 121 rfl) rfl
theorem q1692 : (Jvm.Cond.soleField "UnseenClockModel" "five") ∈ lw_all := lw_g (lw_at lw_m7 122 rfl) rfl
theorem q1693 : (Jvm.Cond.lays "UnseenClockModel" "UnseenClockModel" "size" "I") ∈ lw_all := lw_g (lw_at lw_m7 123 rfl) rfl
theorem q1694 : (Jvm.Cond.soleField "UnseenClockModel" "size") ∈ lw_all := lw_g (lw_at lw_m7 124 rfl) rfl
theorem q1695 : (Jvm.Cond.lays "UnseenClockModel" "UnseenClockModel" "at" "I") ∈ lw_all := lw_g (lw_at lw_m7 125 rfl) rfl
theorem q1696 : (Jvm.Cond.soleField "UnseenClockModel" "at") ∈ lw_all := lw_g (lw_at lw_m7 126 rfl) rfl
theorem q1697 : (Jvm.Cond.lays "UnseenClockModel" "UnseenClockModel" "from" "I") ∈ lw_all := lw_g (lw_at lw_m7 127 rfl) rfl
theorem q1698 : (Jvm.Cond.soleField "UnseenClockModel" "from") ∈ lw_all := lw_g (lw_at lw_m7 128 rfl) rfl
theorem q1699 : (Jvm.Cond.lays "UnseenClockModel" "UnseenClockModel" "token" "I") ∈ lw_all := lw_g (lw_at lw_m7 129 rfl) rfl
theorem q1700 : (Jvm.Cond.soleField "UnseenClockModel" "token") ∈ lw_all := lw_g (lw_at lw_m7 130 rfl) rfl
theorem q1701 : (Jvm.Cond.lays "UnseenClockModel" "UnseenClockModel" "value" "I") ∈ lw_all := lw_g (lw_at lw_m7 131 rfl) rfl
theorem q1702 : (Jvm.Cond.soleField "UnseenClockModel" "value") ∈ lw_all := lw_g (lw_at lw_m7 132 rfl) rfl
theorem q1703 : (Jvm.Cond.lays "UnseenClockModel" "UnseenClockModel" "faultKind" "I") ∈ lw_all := lw_g (lw_at lw_m7 133 rfl) rfl
theorem q1704 : (Jvm.Cond.soleField "UnseenClockModel" "faultKind") ∈ lw_all := lw_g (lw_at lw_m7 134 rfl) rfl
theorem q1705 : (Jvm.Cond.lays "UnseenClockModel" "UnseenClockModel" "faultPlace" "I") ∈ lw_all := lw_g (lw_at lw_m7 135 rfl) rfl
theorem q1706 : (Jvm.Cond.soleField "UnseenClockModel" "faultPlace") ∈ lw_all := lw_g (lw_at lw_m7 136 rfl) rfl
theorem q1707 : (Jvm.Cond.laysFinal "UnseenClockModel" "UnseenClockModel" "fresh" "[I") ∈ lw_all := lw_g (lw_at lw_m7 137 rfl) rfl
theorem q1708 : (Jvm.Cond.soleField "UnseenClockModel" "fresh") ∈ lw_all := lw_g (lw_at lw_m7 138 rfl) rfl
theorem q1709 : (Jvm.Cond.laysFinal "UnseenClockModel" "UnseenClockModel" "spotX" "[I") ∈ lw_all := lw_g (lw_at lw_m7 139 rfl) rfl
theorem q1710 : (Jvm.Cond.soleField "UnseenClockModel" "spotX") ∈ lw_all := lw_g (lw_at lw_m7 140 rfl) rfl
theorem q1711 : (Jvm.Cond.laysFinal "UnseenClockModel" "UnseenClockModel" "spotY" "[I") ∈ lw_all := lw_g (lw_at lw_m7 141 rfl) rfl
theorem q1712 : (Jvm.Cond.soleField "UnseenClockModel" "spotY") ∈ lw_all := lw_g (lw_at lw_m7 142 rfl) rfl
theorem q1713 : (Jvm.Cond.laysFinal "UnseenClockModel" "UnseenClockModel" "seeing" "[Z") ∈ lw_all := lw_g (lw_at lw_m7 143 rfl) rfl
theorem q1714 : (Jvm.Cond.soleField "UnseenClockModel" "seeing") ∈ lw_all := lw_g (lw_at lw_m7 144 rfl) rfl
theorem q1715 : (Jvm.Cond.laysFinal "UnseenClockModel" "UnseenClockModel" "parts" "[I") ∈ lw_all := lw_g (lw_at lw_m7 145 rfl) rfl
theorem q1716 : (Jvm.Cond.soleField "UnseenClockModel" "parts") ∈ lw_all := lw_g (lw_at lw_m7 146 rfl) rfl
theorem q1717 : (Jvm.Cond.laysFinal "UnseenClockModel" "UnseenClockModel" "looking" "[I") ∈ lw_all := lw_g (lw_at lw_m7 147 rfl) rfl
theorem q1718 : (Jvm.Cond.soleField "UnseenClockModel" "looking") ∈ lw_all := lw_g (lw_at lw_m7 148 rfl) rfl
theorem q1719 : (Jvm.Cond.laysFinal "UnseenClockModel" "UnseenClockModel" "opening" "[I") ∈ lw_all := lw_g (lw_at lw_m7 149 rfl) rfl
theorem q1720 : (Jvm.Cond.soleField "UnseenClockModel" "opening") ∈ lw_all := lw_g (lw_at lw_m7 150 rfl) rfl
theorem q1721 : (Jvm.Cond.laysFinal "UnseenClockModel" "UnseenClockModel" "opened" "[I") ∈ lw_all := lw_g (lw_at lw_m7 151 rfl) rfl
theorem q1722 : (Jvm.Cond.soleField "UnseenClockModel" "opened") ∈ lw_all := lw_g (lw_at lw_m7 152 rfl) rfl
theorem q1723 : (Jvm.Cond.lays "UnseenClockModel" "UnseenClockModel" "openMany" "I") ∈ lw_all := lw_g (lw_at lw_m7 153 rfl) rfl
theorem q1724 : (Jvm.Cond.soleField "UnseenClockModel" "openMany") ∈ lw_all := lw_g (lw_at lw_m7 154 rfl) rfl
theorem q1725 : (Jvm.Cond.laysFinal "UnseenClockModel" "UnseenClockModel" "taken" "[Z") ∈ lw_all := lw_g (lw_at lw_m7 155 rfl) rfl
theorem q1726 : (Jvm.Cond.soleField "UnseenClockModel" "taken") ∈ lw_all := lw_g (lw_at lw_m7 156 rfl) rfl
theorem q1727 : (Jvm.Cond.lays "UnseenClockModel" "UnseenClockModel" "takenMany" "I") ∈ lw_all := lw_g (lw_at lw_m7 157 rfl) rfl
theorem q1728 : (Jvm.Cond.soleField "UnseenClockModel" "takenMany") ∈ lw_all := lw_g (lw_at lw_m7 158 rfl) rfl
theorem q1729 : (Jvm.Cond.laysFinal "UnseenClockModel" "UnseenClockModel" "keeping" "[I") ∈ lw_all := lw_g (lw_at lw_m7 159 rfl) rfl
theorem q1730 : (Jvm.Cond.soleField "UnseenClockModel" "keeping") ∈ lw_all := lw_g (lw_at lw_m7 160 rfl) rfl
theorem q1731 : (Jvm.Cond.laysFinal "UnseenClockModel" "UnseenClockModel" "keptLast" "[I") ∈ lw_all := lw_g (lw_at lw_m7 161 rfl) rfl
theorem q1732 : (Jvm.Cond.soleField "UnseenClockModel" "keptLast") ∈ lw_all := lw_g (lw_at lw_m7 162 rfl) rfl
theorem q1733 : (Jvm.Cond.laysFinal "UnseenClockModel" "UnseenClockModel" "keptMany" "[I") ∈ lw_all := lw_g (lw_at lw_m7 163 rfl) rfl
theorem q1734 : (Jvm.Cond.soleField "UnseenClockModel" "keptMany") ∈ lw_all := lw_g (lw_at lw_m7 164 rfl) rfl
theorem q1735 : (Jvm.Cond.lays "UnseenClockModel" "UnseenClockModel" "isDrawn" "Z") ∈ lw_all := lw_g (lw_at lw_m7 165 rfl) rfl
theorem q1736 : (Jvm.Cond.soleField "UnseenClockModel" "isDrawn") ∈ lw_all := lw_g (lw_at lw_m7 166 rfl) rfl
theorem q1737 : (Jvm.Cond.lays "UnseenClockModel" "UnseenClockModel" "drawn" "J") ∈ lw_all := lw_g (lw_at lw_m7 167 rfl) rfl
theorem q1738 : (Jvm.Cond.soleField "UnseenClockModel" "drawn") ∈ lw_all := lw_g (lw_at lw_m7 168 rfl) rfl
theorem q1739 : (Jvm.Cond.laysFinal "UnseenClockModel" "UnseenClockModel" "value3" "[I") ∈ lw_all := lw_g (lw_at lw_m7 169 rfl) rfl
theorem q1740 : (Jvm.Cond.soleField "UnseenClockModel" "value3") ∈ lw_all := lw_g (lw_at lw_m7 170 rfl) rfl
theorem q1741 : (Jvm.Cond.laysFinal "UnseenClockModel" "UnseenClockModel" "maybes" "[Z") ∈ lw_all := lw_g (lw_at lw_m7 171 rfl) rfl
theorem q1742 : (Jvm.Cond.soleField "UnseenClockModel" "maybes") ∈ lw_all := lw_g (lw_at lw_m7 172 rfl) rfl
theorem q1743 : (Jvm.Cond.laysFinal "UnseenClockModel" "UnseenClockModel" "showing" "[I") ∈ lw_all := lw_g (lw_at lw_m7 173 rfl) rfl
theorem q1744 : (Jvm.Cond.soleField "UnseenClockModel" "showing") ∈ lw_all := lw_g (lw_at lw_m7 174 rfl) rfl
theorem q1745 : (Jvm.Cond.laysFinal "UnseenClockModel" "UnseenClockModel" "sights" "[I") ∈ lw_all := lw_g (lw_at lw_m7 175 rfl) rfl
theorem q1746 : (Jvm.Cond.soleField "UnseenClockModel" "sights") ∈ lw_all := lw_g (lw_at lw_m7 176 rfl) rfl
theorem q1747 : (Jvm.Cond.lays "UnseenClockModel" "UnseenClockModel" "coursesMany" "I") ∈ lw_all := lw_g (lw_at lw_m7 177 rfl) rfl
theorem q1748 : (Jvm.Cond.soleField "UnseenClockModel" "coursesMany") ∈ lw_all := lw_g (lw_at lw_m7 178 rfl) rfl
theorem q1749 : (Jvm.Cond.laysFinal "UnseenClockModel" "UnseenClockModel" "isComing" "[Z") ∈ lw_all := lw_g (lw_at lw_m7 179 rfl) rfl
theorem q1750 : (Jvm.Cond.soleField "UnseenClockModel" "isComing") ∈ lw_all := lw_g (lw_at lw_m7 180 rfl) rfl
theorem q1751 : (Jvm.Cond.laysFinal "UnseenClockModel" "UnseenClockModel" "queue" "[I") ∈ lw_all := lw_g (lw_at lw_m7 181 rfl) rfl
theorem q1752 : (Jvm.Cond.soleField "UnseenClockModel" "queue") ∈ lw_all := lw_g (lw_at lw_m7 182 rfl) rfl
theorem q1753 : (Jvm.Cond.laysFinal "UnseenClockModel" "UnseenClockModel" "many" "[I") ∈ lw_all := lw_g (lw_at lw_m7 183 rfl) rfl
theorem q1754 : (Jvm.Cond.soleField "UnseenClockModel" "many") ∈ lw_all := lw_g (lw_at lw_m7 184 rfl) rfl
theorem q1755 : (Jvm.Cond.laysFinal "UnseenClockModel" "UnseenClockModel" "width" "[I") ∈ lw_all := lw_g (lw_at lw_m7 185 rfl) rfl
theorem q1756 : (Jvm.Cond.soleField "UnseenClockModel" "width") ∈ lw_all := lw_g (lw_at lw_m7 186 rfl) rfl
theorem q1757 : (Jvm.Cond.laysFinal "UnseenClockModel" "UnseenClockModel" "numbers" "[J") ∈ lw_all := lw_g (lw_at lw_m7 187 rfl) rfl
theorem q1758 : (Jvm.Cond.soleField "UnseenClockModel" "numbers") ∈ lw_all := lw_g (lw_at lw_m7 188 rfl) rfl
theorem q1759 : (Jvm.Cond.laysFinal "UnseenClockModel" "UnseenClockModel" "moving" "[J") ∈ lw_all := lw_g (lw_at lw_m7 189 rfl) rfl
theorem q1760 : (Jvm.Cond.soleField "UnseenClockModel" "moving") ∈ lw_all := lw_g (lw_at lw_m7 190 rfl) rfl
theorem q1761 : (Jvm.Cond.superclass "UnseenClockModel" "java/lang/Object") ∈ lw_all := lw_g (lw_at lw_m7 191 rfl) rfl
theorem q1763 : (Jvm.Cond.instanceMethod ({ cls := "UnseenClockModel", name := "image", desc := "(I)I" } : Jvm.MethodName)) ∈ lw_all := lw_g (lw_at lw_m7 193 rfl) rfl
theorem q1764 : (Jvm.Cond.selects "UnseenClockModel" ({ cls := "UnseenClockModel", name := "image", desc := "(I)I" } : Jvm.MethodName) ({ cls := "UnseenClockModel", name := "image", desc := "(I)I" } : Jvm.MethodName)) ∈ lw_all := lw_g (lw_at lw_m7 194 rfl) rfl
theorem q1765 : (Jvm.Cond.code ({ cls := "UnseenClockModel", name := "image", desc := "(I)I" } : Jvm.MethodName) prog_19_method_4_code (3 : Nat) (Option.some Jvm.ClassFile.FieldType.int)) ∈ lw_all := lw_g (lw_at lw_m7 195 rfl) rfl
theorem q1766 : (Jvm.Cond.constantLong "UnseenClockModel" (102 : Nat) (2 : Int64)) ∈ lw_all := lw_g (lw_at lw_m7 196 rfl) rfl
theorem q1767 : (Jvm.Cond.methodLink "UnseenClockModel" (104 : Nat) ({ cls := "UnseenClockModel", name := "in", desc := "(JJJ)Z" } : Jvm.MethodName)) ∈ lw_all := lw_g (lw_at lw_m7 197 rfl) rfl
theorem q1768 : (Jvm.Cond.static ({ cls := "UnseenClockModel", name := "in", desc := "(JJJ)Z" } : Jvm.MethodName)) ∈ lw_all := lw_g (lw_at lw_m7 198 rfl) rfl
theorem q1769 : (Jvm.Cond.code ({ cls := "UnseenClockModel", name := "in", desc := "(JJJ)Z" } : Jvm.MethodName) prog_19_method_3_code (6 : Nat) (Option.some Jvm.ClassFile.FieldType.boolean)) ∈ lw_all := lw_g (lw_at lw_m7 199 rfl) rfl
theorem q1771 : (Jvm.Cond.instanceMethod ({ cls := "UnseenClockModel", name := "back", desc := "(I)I" } : Jvm.MethodName)) ∈ lw_all := lw_g (lw_at lw_m7 201 rfl) rfl
theorem q1772 : (Jvm.Cond.selects "UnseenClockModel" ({ cls := "UnseenClockModel", name := "back", desc := "(I)I" } : Jvm.MethodName) ({ cls := "UnseenClockModel", name := "back", desc := "(I)I" } : Jvm.MethodName)) ∈ lw_all := lw_g (lw_at lw_m7 202 rfl) rfl
theorem q1773 : (Jvm.Cond.code ({ cls := "UnseenClockModel", name := "back", desc := "(I)I" } : Jvm.MethodName) prog_19_method_5_code (3 : Nat) (Option.some Jvm.ClassFile.FieldType.int)) ∈ lw_all := lw_g (lw_at lw_m7 203 rfl) rfl
theorem q1775 : (Jvm.Cond.instanceMethod ({ cls := "UnseenClockModel", name := "feed", desc := "(IIIII)I" } : Jvm.MethodName)) ∈ lw_all := lw_g (lw_at lw_m7 205 rfl) rfl
theorem q1776 : (Jvm.Cond.selects "UnseenClockModel" ({ cls := "UnseenClockModel", name := "feed", desc := "(IIIII)I" } : Jvm.MethodName) ({ cls := "UnseenClockModel", name := "feed", desc := "(IIIII)I" } : Jvm.MethodName)) ∈ lw_all := lw_g (lw_at lw_m7 206 rfl) rfl
theorem q1777 : (Jvm.Cond.code ({ cls := "UnseenClockModel", name := "feed", desc := "(IIIII)I" } : Jvm.MethodName) prog_19_method_14_code (7 : Nat) (Option.some Jvm.ClassFile.FieldType.int)) ∈ lw_all := lw_g (lw_at lw_m7 207 rfl) rfl
theorem q1779 : (Jvm.Cond.instanceMethod ({ cls := "UnseenClockModel", name := "end", desc := "(I)I" } : Jvm.MethodName)) ∈ lw_all := lw_g (lw_at lw_m7 209 rfl) rfl
theorem q1780 : (Jvm.Cond.selects "UnseenClockModel" ({ cls := "UnseenClockModel", name := "end", desc := "(I)I" } : Jvm.MethodName) ({ cls := "UnseenClockModel", name := "end", desc := "(I)I" } : Jvm.MethodName)) ∈ lw_all := lw_g (lw_at lw_m7 210 rfl) rfl
theorem q1781 : (Jvm.Cond.code ({ cls := "UnseenClockModel", name := "end", desc := "(I)I" } : Jvm.MethodName) prog_19_method_15_code (2 : Nat) (Option.some Jvm.ClassFile.FieldType.int)) ∈ lw_all := lw_g (lw_at lw_m7 211 rfl) rfl
theorem q1783 : (Jvm.Cond.instanceMethod ({ cls := "UnseenClockModel", name := "fault", desc := "(I)I" } : Jvm.MethodName)) ∈ lw_all := lw_g (lw_at lw_m7 213 rfl) rfl
theorem q1784 : (Jvm.Cond.selects "UnseenClockModel" ({ cls := "UnseenClockModel", name := "fault", desc := "(I)I" } : Jvm.MethodName) ({ cls := "UnseenClockModel", name := "fault", desc := "(I)I" } : Jvm.MethodName)) ∈ lw_all := lw_g (lw_at lw_m7 214 rfl) rfl
theorem q1785 : (Jvm.Cond.code ({ cls := "UnseenClockModel", name := "fault", desc := "(I)I" } : Jvm.MethodName) prog_19_method_25_code (2 : Nat) (Option.some Jvm.ClassFile.FieldType.int)) ∈ lw_all := lw_g (lw_at lw_m7 215 rfl) rfl
theorem q1787 : (Jvm.Cond.instanceMethod ({ cls := "UnseenClockModel", name := "square", desc := "()I" } : Jvm.MethodName)) ∈ lw_all := lw_g (lw_at lw_m7 217 rfl) rfl
theorem q1788 : (Jvm.Cond.selects "UnseenClockModel" ({ cls := "UnseenClockModel", name := "square", desc := "()I" } : Jvm.MethodName) ({ cls := "UnseenClockModel", name := "square", desc := "()I" } : Jvm.MethodName)) ∈ lw_all := lw_g (lw_at lw_m7 218 rfl) rfl
theorem q1789 : (Jvm.Cond.code ({ cls := "UnseenClockModel", name := "square", desc := "()I" } : Jvm.MethodName) prog_19_method_36_code (2 : Nat) (Option.some Jvm.ClassFile.FieldType.int)) ∈ lw_all := lw_g (lw_at lw_m7 219 rfl) rfl
theorem q1790 : (Jvm.Cond.methodLink "UnseenClockModel" (171 : Nat) ({ cls := "UnseenClockModel", name := "advance", desc := "()V" } : Jvm.MethodName)) ∈ lw_all := lw_g (lw_at lw_m7 220 rfl) rfl
theorem q1791 : (Jvm.Cond.privateMethod ({ cls := "UnseenClockModel", name := "advance", desc := "()V" } : Jvm.MethodName)) ∈ lw_tbl := lw_at lw_m7 221 rfl
theorem q1792 : (Jvm.Cond.instanceMethod ({ cls := "UnseenClockModel", name := "advance", desc := "()V" } : Jvm.MethodName)) ∈ lw_all := lw_g (lw_at lw_m7 222 rfl) rfl
theorem q1793 : (Jvm.Cond.code ({ cls := "UnseenClockModel", name := "advance", desc := "()V" } : Jvm.MethodName) prog_19_method_17_code (2 : Nat) (Option.none : Option Jvm.ClassFile.FieldType)) ∈ lw_all := lw_g (lw_at lw_m7 223 rfl) rfl
theorem q1794 : (Jvm.Cond.methodLink "UnseenClockModel" (123 : Nat) ({ cls := "UnseenClockModel", name := "see", desc := "(I)I" } : Jvm.MethodName)) ∈ lw_all := lw_g (lw_at lw_m7 224 rfl) rfl
theorem q1795 : (Jvm.Cond.privateMethod ({ cls := "UnseenClockModel", name := "see", desc := "(I)I" } : Jvm.MethodName)) ∈ lw_tbl := lw_at lw_m7 225 rfl
theorem q1796 : (Jvm.Cond.instanceMethod ({ cls := "UnseenClockModel", name := "see", desc := "(I)I" } : Jvm.MethodName)) ∈ lw_all := lw_g (lw_at lw_m7 226 rfl) rfl
theorem q1797 : (Jvm.Cond.code ({ cls := "UnseenClockModel", name := "see", desc := "(I)I" } : Jvm.MethodName) prog_19_method_16_code (2 : Nat) (Option.some Jvm.ClassFile.FieldType.int)) ∈ lw_all := lw_g (lw_at lw_m7 227 rfl) rfl
theorem q1798 : (Jvm.Cond.constantLong "UnseenClockModel" (133 : Nat) (97 : Int64)) ∈ lw_all := lw_g (lw_at lw_m7 228 rfl) rfl
theorem q1799 : (Jvm.Cond.constantLong "UnseenClockModel" (135 : Nat) (122 : Int64)) ∈ lw_all := lw_g (lw_at lw_m7 229 rfl) rfl
theorem q1800 : (Jvm.Cond.constantLong "UnseenClockModel" (137 : Nat) (48 : Int64)) ∈ lw_all := lw_g (lw_at lw_m7 230 rfl) rfl
theorem q1801 : (Jvm.Cond.constantLong "UnseenClockModel" (139 : Nat) (57 : Int64)) ∈ lw_all := lw_g (lw_at lw_m7 231 rfl) rfl
theorem q1802 : (Jvm.Cond.constant "UnseenClockModel" (144 : Nat) (99999 : Int32)) ∈ lw_all := lw_g (lw_at lw_m7 232 rfl) rfl
theorem q1803 : (Jvm.Cond.methodLink "UnseenClockModel" (145 : Nat) ({ cls := "java/lang/Math", name := "min", desc := "(II)I" } : Jvm.MethodName)) ∈ lw_all := lw_g (lw_at lw_m7 233 rfl) rfl
theorem q1804 : (Jvm.Cond.methodLink "UnseenClockModel" (154 : Nat) ({ cls := "UnseenClockModel", name := "good", desc := "()Z" } : Jvm.MethodName)) ∈ lw_all := lw_g (lw_at lw_m7 234 rfl) rfl
theorem q1805 : (Jvm.Cond.privateMethod ({ cls := "UnseenClockModel", name := "good", desc := "()Z" } : Jvm.MethodName)) ∈ lw_tbl := lw_at lw_m7 235 rfl
theorem q1806 : (Jvm.Cond.instanceMethod ({ cls := "UnseenClockModel", name := "good", desc := "()Z" } : Jvm.MethodName)) ∈ lw_all := lw_g (lw_at lw_m7 236 rfl) rfl
theorem q1807 : (Jvm.Cond.code ({ cls := "UnseenClockModel", name := "good", desc := "()Z" } : Jvm.MethodName) prog_19_method_18_code (1 : Nat) (Option.some Jvm.ClassFile.FieldType.boolean)) ∈ lw_all := lw_g (lw_at lw_m7 237 rfl) rfl
theorem q1808 : (Jvm.Cond.methodLink "UnseenClockModel" (271 : Nat) ({ cls := "UnseenClockModel", name := "readLine", desc := "()V" } : Jvm.MethodName)) ∈ lw_all := lw_g (lw_at lw_m7 238 rfl) rfl
theorem q1809 : (Jvm.Cond.privateMethod ({ cls := "UnseenClockModel", name := "readLine", desc := "()V" } : Jvm.MethodName)) ∈ lw_tbl := lw_at lw_m7 239 rfl
theorem q1810 : (Jvm.Cond.instanceMethod ({ cls := "UnseenClockModel", name := "readLine", desc := "()V" } : Jvm.MethodName)) ∈ lw_all := lw_g (lw_at lw_m8 0 rfl) rfl
theorem q1811 : (Jvm.Cond.code ({ cls := "UnseenClockModel", name := "readLine", desc := "()V" } : Jvm.MethodName) prog_19_method_35_code (1 : Nat) (Option.none : Option Jvm.ClassFile.FieldType)) ∈ lw_all := lw_g (lw_at lw_m8 1 rfl) rfl
theorem q1812 : (Jvm.Cond.stringRef "UnseenClockModel" (260 : Nat) "square") ∈ lw_tbl := lw_at lw_m8 2 rfl
theorem q1813 : (Jvm.Cond.methodLink "UnseenClockModel" (181 : Nat) ({ cls := "UnseenClockModel", name := "needs", desc := "(Ljava/lang/String;)V" } : Jvm.MethodName)) ∈ lw_all := lw_g (lw_at lw_m8 3 rfl) rfl
theorem q1814 : (Jvm.Cond.privateMethod ({ cls := "UnseenClockModel", name := "needs", desc := "(Ljava/lang/String;)V" } : Jvm.MethodName)) ∈ lw_tbl := lw_at lw_m8 4 rfl
theorem q1815 : (Jvm.Cond.instanceMethod ({ cls := "UnseenClockModel", name := "needs", desc := "(Ljava/lang/String;)V" } : Jvm.MethodName)) ∈ lw_all := lw_g (lw_at lw_m8 5 rfl) rfl
theorem q1816 : (Jvm.Cond.code ({ cls := "UnseenClockModel", name := "needs", desc := "(Ljava/lang/String;)V" } : Jvm.MethodName) prog_19_method_22_code (2 : Nat) (Option.none : Option Jvm.ClassFile.FieldType)) ∈ lw_all := lw_g (lw_at lw_m8 6 rfl) rfl
theorem q1817 : (Jvm.Cond.methodLink "UnseenClockModel" (174 : Nat) ({ cls := "UnseenClockModel", name := "takes", desc := "(Ljava/lang/String;)Z" } : Jvm.MethodName)) ∈ lw_all := lw_g (lw_at lw_m8 7 rfl) rfl
theorem q1818 : (Jvm.Cond.privateMethod ({ cls := "UnseenClockModel", name := "takes", desc := "(Ljava/lang/String;)Z" } : Jvm.MethodName)) ∈ lw_tbl := lw_at lw_m8 8 rfl
theorem q1819 : (Jvm.Cond.instanceMethod ({ cls := "UnseenClockModel", name := "takes", desc := "(Ljava/lang/String;)Z" } : Jvm.MethodName)) ∈ lw_all := lw_g (lw_at lw_m8 9 rfl) rfl
theorem q1820 : (Jvm.Cond.code ({ cls := "UnseenClockModel", name := "takes", desc := "(Ljava/lang/String;)Z" } : Jvm.MethodName) prog_19_method_21_code (3 : Nat) (Option.some Jvm.ClassFile.FieldType.boolean)) ∈ lw_all := lw_g (lw_at lw_m8 10 rfl) rfl
theorem q1821 : (Jvm.Cond.methodLink "UnseenClockModel" (167 : Nat) ({ cls := "UnseenClockModel", name := "is", desc := "(Ljava/lang/String;)Z" } : Jvm.MethodName)) ∈ lw_all := lw_g (lw_at lw_m8 11 rfl) rfl
theorem q1822 : (Jvm.Cond.privateMethod ({ cls := "UnseenClockModel", name := "is", desc := "(Ljava/lang/String;)Z" } : Jvm.MethodName)) ∈ lw_tbl := lw_at lw_m8 12 rfl
theorem q1823 : (Jvm.Cond.instanceMethod ({ cls := "UnseenClockModel", name := "is", desc := "(Ljava/lang/String;)Z" } : Jvm.MethodName)) ∈ lw_all := lw_g (lw_at lw_m8 13 rfl) rfl
theorem q1824 : (Jvm.Cond.code ({ cls := "UnseenClockModel", name := "is", desc := "(Ljava/lang/String;)Z" } : Jvm.MethodName) prog_19_method_20_code (4 : Nat) (Option.some Jvm.ClassFile.FieldType.boolean)) ∈ lw_all := lw_g (lw_at lw_m8 14 rfl) rfl
theorem q1825 : (Jvm.Cond.methodLink "UnseenClockModel" (157 : Nat) ({ cls := "java/lang/String", name := "length", desc := "()I" } : Jvm.MethodName)) ∈ lw_all := lw_g (lw_at lw_m8 15 rfl) rfl
theorem q1826 : (Jvm.Cond.methodLink "UnseenClockModel" (163 : Nat) ({ cls := "java/lang/String", name := "charAt", desc := "(I)C" } : Jvm.MethodName)) ∈ lw_all := lw_g (lw_at lw_m8 16 rfl) rfl
theorem q1827 : (Jvm.Cond.methodLink "UnseenClockModel" (177 : Nat) ({ cls := "UnseenClockModel", name := "errs", desc := "(I)V" } : Jvm.MethodName)) ∈ lw_all := lw_g (lw_at lw_m8 17 rfl) rfl
theorem q1828 : (Jvm.Cond.privateMethod ({ cls := "UnseenClockModel", name := "errs", desc := "(I)V" } : Jvm.MethodName)) ∈ lw_tbl := lw_at lw_m8 18 rfl
theorem q1829 : (Jvm.Cond.instanceMethod ({ cls := "UnseenClockModel", name := "errs", desc := "(I)V" } : Jvm.MethodName)) ∈ lw_all := lw_g (lw_at lw_m8 19 rfl) rfl
theorem q1830 : (Jvm.Cond.code ({ cls := "UnseenClockModel", name := "errs", desc := "(I)V" } : Jvm.MethodName) prog_19_method_19_code (2 : Nat) (Option.none : Option Jvm.ClassFile.FieldType)) ∈ lw_all := lw_g (lw_at lw_m8 20 rfl) rfl
theorem q1831 : (Jvm.Cond.stringRef "UnseenClockModel" (262 : Nat) "wide") ∈ lw_tbl := lw_at lw_m8 21 rfl
theorem q1832 : (Jvm.Cond.methodLink "UnseenClockModel" (198 : Nat) ({ cls := "UnseenClockModel", name := "told", desc := "(Ljava/lang/String;II)I" } : Jvm.MethodName)) ∈ lw_all := lw_g (lw_at lw_m8 22 rfl) rfl
theorem q1833 : (Jvm.Cond.privateMethod ({ cls := "UnseenClockModel", name := "told", desc := "(Ljava/lang/String;II)I" } : Jvm.MethodName)) ∈ lw_tbl := lw_at lw_m8 23 rfl
theorem q1834 : (Jvm.Cond.instanceMethod ({ cls := "UnseenClockModel", name := "told", desc := "(Ljava/lang/String;II)I" } : Jvm.MethodName)) ∈ lw_all := lw_g (lw_at lw_m8 24 rfl) rfl
theorem q1835 : (Jvm.Cond.code ({ cls := "UnseenClockModel", name := "told", desc := "(Ljava/lang/String;II)I" } : Jvm.MethodName) prog_19_method_24_code (4 : Nat) (Option.some Jvm.ClassFile.FieldType.int)) ∈ lw_all := lw_g (lw_at lw_m8 25 rfl) rfl
theorem q1836 : (Jvm.Cond.methodLink "UnseenClockModel" (185 : Nat) ({ cls := "UnseenClockModel", name := "number", desc := "(II)I" } : Jvm.MethodName)) ∈ lw_all := lw_g (lw_at lw_m8 26 rfl) rfl
theorem q1837 : (Jvm.Cond.privateMethod ({ cls := "UnseenClockModel", name := "number", desc := "(II)I" } : Jvm.MethodName)) ∈ lw_tbl := lw_at lw_m8 27 rfl
theorem q1838 : (Jvm.Cond.instanceMethod ({ cls := "UnseenClockModel", name := "number", desc := "(II)I" } : Jvm.MethodName)) ∈ lw_all := lw_g (lw_at lw_m8 28 rfl) rfl
theorem q1839 : (Jvm.Cond.code ({ cls := "UnseenClockModel", name := "number", desc := "(II)I" } : Jvm.MethodName) prog_19_method_23_code (4 : Nat) (Option.some Jvm.ClassFile.FieldType.int)) ∈ lw_all := lw_g (lw_at lw_m8 29 rfl) rfl
theorem q1840 : (Jvm.Cond.stringRef "UnseenClockModel" (264 : Nat) "long") ∈ lw_tbl := lw_at lw_m8 30 rfl
theorem q1841 : (Jvm.Cond.stringRef "UnseenClockModel" (266 : Nat) "minutes") ∈ lw_tbl := lw_at lw_m8 31 rfl
theorem q1842 : (Jvm.Cond.methodLink "UnseenClockModel" (268 : Nat) ({ cls := "UnseenClockModel", name := "readNext", desc := "()V" } : Jvm.MethodName)) ∈ lw_all := lw_g (lw_at lw_m8 32 rfl) rfl
theorem q1843 : (Jvm.Cond.privateMethod ({ cls := "UnseenClockModel", name := "readNext", desc := "()V" } : Jvm.MethodName)) ∈ lw_tbl := lw_at lw_m8 33 rfl
theorem q1844 : (Jvm.Cond.instanceMethod ({ cls := "UnseenClockModel", name := "readNext", desc := "()V" } : Jvm.MethodName)) ∈ lw_all := lw_g (lw_at lw_m8 34 rfl) rfl
theorem q1845 : (Jvm.Cond.code ({ cls := "UnseenClockModel", name := "readNext", desc := "()V" } : Jvm.MethodName) prog_19_method_34_code (4 : Nat) (Option.none : Option Jvm.ClassFile.FieldType)) ∈ lw_all := lw_g (lw_at lw_m8 35 rfl) rfl
theorem q1846 : (Jvm.Cond.stringRef "UnseenClockModel" (235 : Nat) "go") ∈ lw_tbl := lw_at lw_m8 36 rfl
theorem q1847 : (Jvm.Cond.stringRef "UnseenClockModel" (237 : Nat) "wait") ∈ lw_tbl := lw_at lw_m8 37 rfl
theorem q1848 : (Jvm.Cond.stringRef "UnseenClockModel" (239 : Nat) "look") ∈ lw_tbl := lw_at lw_m8 38 rfl
theorem q1849 : (Jvm.Cond.stringRef "UnseenClockModel" (241 : Nat) "wall") ∈ lw_tbl := lw_at lw_m8 39 rfl
theorem q1850 : (Jvm.Cond.stringRef "UnseenClockModel" (243 : Nat) "clock") ∈ lw_tbl := lw_at lw_m8 40 rfl
theorem q1851 : (Jvm.Cond.stringRef "UnseenClockModel" (245 : Nat) "person") ∈ lw_tbl := lw_at lw_m8 41 rfl
theorem q1852 : (Jvm.Cond.methodLink "UnseenClockModel" (207 : Nat) ({ cls := "UnseenClockModel", name := "latest", desc := "()I" } : Jvm.MethodName)) ∈ lw_all := lw_g (lw_at lw_m8 42 rfl) rfl
theorem q1853 : (Jvm.Cond.privateMethod ({ cls := "UnseenClockModel", name := "latest", desc := "()I" } : Jvm.MethodName)) ∈ lw_tbl := lw_at lw_m8 43 rfl
theorem q1854 : (Jvm.Cond.instanceMethod ({ cls := "UnseenClockModel", name := "latest", desc := "()I" } : Jvm.MethodName)) ∈ lw_all := lw_g (lw_at lw_m8 44 rfl) rfl
theorem q1855 : (Jvm.Cond.code ({ cls := "UnseenClockModel", name := "latest", desc := "()I" } : Jvm.MethodName) prog_19_method_30_code (1 : Nat) (Option.some Jvm.ClassFile.FieldType.int)) ∈ lw_all := lw_g (lw_at lw_m8 45 rfl) rfl
theorem q1856 : (Jvm.Cond.methodLink "UnseenClockModel" (193 : Nat) ({ cls := "UnseenClockModel", name := "readCell", desc := "(I)V" } : Jvm.MethodName)) ∈ lw_all := lw_g (lw_at lw_m8 46 rfl) rfl
theorem q1857 : (Jvm.Cond.privateMethod ({ cls := "UnseenClockModel", name := "readCell", desc := "(I)V" } : Jvm.MethodName)) ∈ lw_tbl := lw_at lw_m8 47 rfl
theorem q1858 : (Jvm.Cond.instanceMethod ({ cls := "UnseenClockModel", name := "readCell", desc := "(I)V" } : Jvm.MethodName)) ∈ lw_all := lw_g (lw_at lw_m8 48 rfl) rfl
theorem q1859 : (Jvm.Cond.code ({ cls := "UnseenClockModel", name := "readCell", desc := "(I)V" } : Jvm.MethodName) prog_19_method_27_code (4 : Nat) (Option.none : Option Jvm.ClassFile.FieldType)) ∈ lw_all := lw_g (lw_at lw_m8 49 rfl) rfl
theorem q1860 : (Jvm.Cond.stringRef "UnseenClockModel" (188 : Nat) "at") ∈ lw_tbl := lw_at lw_m8 50 rfl
theorem q1861 : (Jvm.Cond.methodLink "UnseenClockModel" (189 : Nat) ({ cls := "UnseenClockModel", name := "isTaken", desc := "([IIII)Z" } : Jvm.MethodName)) ∈ lw_all := lw_g (lw_at lw_m8 51 rfl) rfl
theorem q1862 : (Jvm.Cond.static ({ cls := "UnseenClockModel", name := "isTaken", desc := "([IIII)Z" } : Jvm.MethodName)) ∈ lw_all := lw_g (lw_at lw_m8 52 rfl) rfl
theorem q1863 : (Jvm.Cond.code ({ cls := "UnseenClockModel", name := "isTaken", desc := "([IIII)Z" } : Jvm.MethodName) prog_19_method_26_code (5 : Nat) (Option.some Jvm.ClassFile.FieldType.boolean)) ∈ lw_all := lw_g (lw_at lw_m8 53 rfl) rfl
theorem q1864 : (Jvm.Cond.methodLink "UnseenClockModel" (247 : Nat) ({ cls := "UnseenClockModel", name := "readClock", desc := "()V" } : Jvm.MethodName)) ∈ lw_all := lw_g (lw_at lw_m8 54 rfl) rfl
theorem q1865 : (Jvm.Cond.privateMethod ({ cls := "UnseenClockModel", name := "readClock", desc := "()V" } : Jvm.MethodName)) ∈ lw_tbl := lw_at lw_m8 55 rfl
theorem q1866 : (Jvm.Cond.instanceMethod ({ cls := "UnseenClockModel", name := "readClock", desc := "()V" } : Jvm.MethodName)) ∈ lw_all := lw_g (lw_at lw_m8 56 rfl) rfl
theorem q1867 : (Jvm.Cond.code ({ cls := "UnseenClockModel", name := "readClock", desc := "()V" } : Jvm.MethodName) prog_19_method_28_code (6 : Nat) (Option.none : Option Jvm.ClassFile.FieldType)) ∈ lw_all := lw_g (lw_at lw_m8 57 rfl) rfl
theorem q1868 : (Jvm.Cond.stringRef "UnseenClockModel" (196 : Nat) "pace") ∈ lw_tbl := lw_at lw_m8 58 rfl
theorem q1869 : (Jvm.Cond.stringRef "UnseenClockModel" (202 : Nat) "over") ∈ lw_tbl := lw_at lw_m8 59 rfl
theorem q1870 : (Jvm.Cond.stringRef "UnseenClockModel" (204 : Nat) "shows") ∈ lw_tbl := lw_at lw_m8 60 rfl
theorem q1871 : (Jvm.Cond.stringRef "UnseenClockModel" (206 : Nat) "from") ∈ lw_tbl := lw_at lw_m8 61 rfl
theorem q1872 : (Jvm.Cond.methodLink "UnseenClockModel" (250 : Nat) ({ cls := "UnseenClockModel", name := "readPerson", desc := "()V" } : Jvm.MethodName)) ∈ lw_all := lw_g (lw_at lw_m8 62 rfl) rfl
theorem q1873 : (Jvm.Cond.privateMethod ({ cls := "UnseenClockModel", name := "readPerson", desc := "()V" } : Jvm.MethodName)) ∈ lw_tbl := lw_at lw_m8 63 rfl
theorem q1874 : (Jvm.Cond.instanceMethod ({ cls := "UnseenClockModel", name := "readPerson", desc := "()V" } : Jvm.MethodName)) ∈ lw_all := lw_g (lw_at lw_m8 64 rfl) rfl
theorem q1875 : (Jvm.Cond.code ({ cls := "UnseenClockModel", name := "readPerson", desc := "()V" } : Jvm.MethodName) prog_19_method_29_code (3 : Nat) (Option.none : Option Jvm.ClassFile.FieldType)) ∈ lw_all := lw_g (lw_at lw_m8 65 rfl) rfl
theorem q1876 : (Jvm.Cond.methodLink "UnseenClockModel" (253 : Nat) ({ cls := "UnseenClockModel", name := "readMove", desc := "(Z)V" } : Jvm.MethodName)) ∈ lw_all := lw_g (lw_at lw_m8 66 rfl) rfl
theorem q1877 : (Jvm.Cond.privateMethod ({ cls := "UnseenClockModel", name := "readMove", desc := "(Z)V" } : Jvm.MethodName)) ∈ lw_tbl := lw_at lw_m8 67 rfl
theorem q1878 : (Jvm.Cond.instanceMethod ({ cls := "UnseenClockModel", name := "readMove", desc := "(Z)V" } : Jvm.MethodName)) ∈ lw_all := lw_g (lw_at lw_m8 68 rfl) rfl
theorem q1879 : (Jvm.Cond.code ({ cls := "UnseenClockModel", name := "readMove", desc := "(Z)V" } : Jvm.MethodName) prog_19_method_31_code (5 : Nat) (Option.none : Option Jvm.ClassFile.FieldType)) ∈ lw_all := lw_g (lw_at lw_m8 69 rfl) rfl
theorem q1880 : (Jvm.Cond.stringRef "UnseenClockModel" (210 : Nat) "north") ∈ lw_tbl := lw_at lw_m8 70 rfl
theorem q1881 : (Jvm.Cond.stringRef "UnseenClockModel" (212 : Nat) "east") ∈ lw_tbl := lw_at lw_m8 71 rfl
theorem q1882 : (Jvm.Cond.stringRef "UnseenClockModel" (214 : Nat) "south") ∈ lw_tbl := lw_at lw_m8 72 rfl
theorem q1883 : (Jvm.Cond.stringRef "UnseenClockModel" (216 : Nat) "west") ∈ lw_tbl := lw_at lw_m8 73 rfl
theorem q1884 : (Jvm.Cond.methodLink "UnseenClockModel" (257 : Nat) ({ cls := "UnseenClockModel", name := "readLook", desc := "()V" } : Jvm.MethodName)) ∈ lw_all := lw_g (lw_at lw_m8 74 rfl) rfl
theorem q1885 : (Jvm.Cond.privateMethod ({ cls := "UnseenClockModel", name := "readLook", desc := "()V" } : Jvm.MethodName)) ∈ lw_tbl := lw_at lw_m8 75 rfl
theorem q1886 : (Jvm.Cond.instanceMethod ({ cls := "UnseenClockModel", name := "readLook", desc := "()V" } : Jvm.MethodName)) ∈ lw_all := lw_g (lw_at lw_m8 76 rfl) rfl
theorem q1887 : (Jvm.Cond.code ({ cls := "UnseenClockModel", name := "readLook", desc := "()V" } : Jvm.MethodName) prog_19_method_33_code (3 : Nat) (Option.none : Option Jvm.ClassFile.FieldType)) ∈ lw_all := lw_g (lw_at lw_m8 77 rfl) rfl
theorem q1888 : (Jvm.Cond.methodLink "UnseenClockModel" (218 : Nat) ({ cls := "UnseenClockModel", name := "freshClock", desc := "()I" } : Jvm.MethodName)) ∈ lw_all := lw_g (lw_at lw_m8 78 rfl) rfl
theorem q1889 : (Jvm.Cond.privateMethod ({ cls := "UnseenClockModel", name := "freshClock", desc := "()I" } : Jvm.MethodName)) ∈ lw_tbl := lw_at lw_m8 79 rfl
theorem q1890 : (Jvm.Cond.instanceMethod ({ cls := "UnseenClockModel", name := "freshClock", desc := "()I" } : Jvm.MethodName)) ∈ lw_all := lw_g (lw_at lw_m8 80 rfl) rfl
theorem q1891 : (Jvm.Cond.code ({ cls := "UnseenClockModel", name := "freshClock", desc := "()I" } : Jvm.MethodName) prog_19_method_32_code (1 : Nat) (Option.some Jvm.ClassFile.FieldType.int)) ∈ lw_all := lw_g (lw_at lw_m8 81 rfl) rfl
theorem q1892 : (Jvm.Cond.stringRef "UnseenClockModel" (221 : Nat) "always") ∈ lw_tbl := lw_at lw_m8 82 rfl
theorem q1893 : (Jvm.Cond.stringRef "UnseenClockModel" (223 : Nat) "each") ∈ lw_tbl := lw_at lw_m8 83 rfl
theorem q1894 : (Jvm.Cond.stringRef "UnseenClockModel" (225 : Nat) "after") ∈ lw_tbl := lw_at lw_m8 84 rfl
theorem q1895 : (Jvm.Cond.stringRef "UnseenClockModel" (227 : Nat) "seeing") ∈ lw_tbl := lw_at lw_m8 85 rfl
theorem q1896 : (Jvm.Cond.stringRef "UnseenClockModel" (228 : Nat) "is") ∈ lw_tbl := lw_at lw_m8 86 rfl
theorem q1897 : (Jvm.Cond.stringRef "UnseenClockModel" (229 : Nat) "with") ∈ lw_tbl := lw_at lw_m8 87 rfl
theorem q1898 : (Jvm.Cond.stringRef "UnseenClockModel" (231 : Nat) "unless") ∈ lw_tbl := lw_at lw_m8 88 rfl
theorem q1899 : (Jvm.Cond.stringRef "UnseenClockModel" (233 : Nat) "maybe") ∈ lw_tbl := lw_at lw_m8 89 rfl
theorem q1901 : (Jvm.Cond.instanceMethod ({ cls := "UnseenClockModel", name := "at", desc := "(II)I" } : Jvm.MethodName)) ∈ lw_all := lw_g (lw_at lw_m8 91 rfl) rfl
theorem q1902 : (Jvm.Cond.selects "UnseenClockModel" ({ cls := "UnseenClockModel", name := "at", desc := "(II)I" } : Jvm.MethodName) ({ cls := "UnseenClockModel", name := "at", desc := "(II)I" } : Jvm.MethodName)) ∈ lw_all := lw_g (lw_at lw_m8 92 rfl) rfl
theorem q1903 : (Jvm.Cond.code ({ cls := "UnseenClockModel", name := "at", desc := "(II)I" } : Jvm.MethodName) prog_19_method_45_code (3 : Nat) (Option.some Jvm.ClassFile.FieldType.int)) ∈ lw_all := lw_g (lw_at lw_m8 93 rfl) rfl
theorem q1904 : (Jvm.Cond.methodLink "UnseenClockModel" (307 : Nat) ({ cls := "UnseenClockModel", name := "isPerson", desc := "(I)Z" } : Jvm.MethodName)) ∈ lw_all := lw_g (lw_at lw_m8 94 rfl) rfl
theorem q1905 : (Jvm.Cond.privateMethod ({ cls := "UnseenClockModel", name := "isPerson", desc := "(I)Z" } : Jvm.MethodName)) ∈ lw_tbl := lw_at lw_m8 95 rfl
theorem q1906 : (Jvm.Cond.instanceMethod ({ cls := "UnseenClockModel", name := "isPerson", desc := "(I)Z" } : Jvm.MethodName)) ∈ lw_all := lw_g (lw_at lw_m8 96 rfl) rfl
theorem q1907 : (Jvm.Cond.code ({ cls := "UnseenClockModel", name := "isPerson", desc := "(I)Z" } : Jvm.MethodName) prog_19_method_8_code (2 : Nat) (Option.some Jvm.ClassFile.FieldType.boolean)) ∈ lw_all := lw_g (lw_at lw_m8 97 rfl) rfl
theorem q1908 : (Jvm.Cond.methodLink "UnseenClockModel" (311 : Nat) ({ cls := "UnseenClockModel", name := "isMinute", desc := "(I)Z" } : Jvm.MethodName)) ∈ lw_all := lw_g (lw_at lw_m8 98 rfl) rfl
theorem q1909 : (Jvm.Cond.privateMethod ({ cls := "UnseenClockModel", name := "isMinute", desc := "(I)Z" } : Jvm.MethodName)) ∈ lw_tbl := lw_at lw_m8 99 rfl
theorem q1910 : (Jvm.Cond.instanceMethod ({ cls := "UnseenClockModel", name := "isMinute", desc := "(I)Z" } : Jvm.MethodName)) ∈ lw_all := lw_g (lw_at lw_m8 100 rfl) rfl
theorem q1911 : (Jvm.Cond.code ({ cls := "UnseenClockModel", name := "isMinute", desc := "(I)Z" } : Jvm.MethodName) prog_19_method_9_code (2 : Nat) (Option.some Jvm.ClassFile.FieldType.boolean)) ∈ lw_all := lw_g (lw_at lw_m8 101 rfl) rfl
theorem q1912 : (Jvm.Cond.methodLink "UnseenClockModel" (304 : Nat) ({ cls := "UnseenClockModel", name := "fillSpots", desc := "(I)V" } : Jvm.MethodName)) ∈ lw_all := lw_g (lw_at lw_m8 102 rfl) rfl
theorem q1913 : (Jvm.Cond.privateMethod ({ cls := "UnseenClockModel", name := "fillSpots", desc := "(I)V" } : Jvm.MethodName)) ∈ lw_tbl := lw_at lw_m8 103 rfl
theorem q1914 : (Jvm.Cond.instanceMethod ({ cls := "UnseenClockModel", name := "fillSpots", desc := "(I)V" } : Jvm.MethodName)) ∈ lw_all := lw_g (lw_at lw_m8 104 rfl) rfl
theorem q1915 : (Jvm.Cond.code ({ cls := "UnseenClockModel", name := "fillSpots", desc := "(I)V" } : Jvm.MethodName) prog_19_method_39_code (11 : Nat) (Option.none : Option Jvm.ClassFile.FieldType)) ∈ lw_all := lw_g (lw_at lw_m8 105 rfl) rfl
theorem q1916 : (Jvm.Cond.methodLink "UnseenClockModel" (274 : Nat) ({ cls := "UnseenClockModel", name := "setSpot", desc := "(IIII)V" } : Jvm.MethodName)) ∈ lw_all := lw_g (lw_at lw_m8 106 rfl) rfl
theorem q1917 : (Jvm.Cond.privateMethod ({ cls := "UnseenClockModel", name := "setSpot", desc := "(IIII)V" } : Jvm.MethodName)) ∈ lw_tbl := lw_at lw_m8 107 rfl
theorem q1918 : (Jvm.Cond.instanceMethod ({ cls := "UnseenClockModel", name := "setSpot", desc := "(IIII)V" } : Jvm.MethodName)) ∈ lw_all := lw_g (lw_at lw_m8 108 rfl) rfl
theorem q1919 : (Jvm.Cond.code ({ cls := "UnseenClockModel", name := "setSpot", desc := "(IIII)V" } : Jvm.MethodName) prog_19_method_38_code (5 : Nat) (Option.none : Option Jvm.ClassFile.FieldType)) ∈ lw_all := lw_g (lw_at lw_m8 109 rfl) rfl
theorem q1920 : (Jvm.Cond.methodLink "UnseenClockModel" (278 : Nat) ({ cls := "UnseenClockModel", name := "of", desc := "(II)I" } : Jvm.MethodName)) ∈ lw_all := lw_g (lw_at lw_m8 110 rfl) rfl
theorem q1921 : (Jvm.Cond.privateMethod ({ cls := "UnseenClockModel", name := "of", desc := "(II)I" } : Jvm.MethodName)) ∈ lw_tbl := lw_at lw_m8 111 rfl
theorem q1922 : (Jvm.Cond.instanceMethod ({ cls := "UnseenClockModel", name := "of", desc := "(II)I" } : Jvm.MethodName)) ∈ lw_all := lw_g (lw_at lw_m8 112 rfl) rfl
theorem q1923 : (Jvm.Cond.code ({ cls := "UnseenClockModel", name := "of", desc := "(II)I" } : Jvm.MethodName) prog_19_method_13_code (3 : Nat) (Option.some Jvm.ClassFile.FieldType.int)) ∈ lw_all := lw_g (lw_at lw_m8 113 rfl) rfl
theorem q1924 : (Jvm.Cond.methodLink "UnseenClockModel" (281 : Nat) ({ cls := "UnseenClockModel", name := "isFree", desc := "(II)Z" } : Jvm.MethodName)) ∈ lw_all := lw_g (lw_at lw_m8 114 rfl) rfl
theorem q1925 : (Jvm.Cond.privateMethod ({ cls := "UnseenClockModel", name := "isFree", desc := "(II)Z" } : Jvm.MethodName)) ∈ lw_tbl := lw_at lw_m8 115 rfl
theorem q1926 : (Jvm.Cond.instanceMethod ({ cls := "UnseenClockModel", name := "isFree", desc := "(II)Z" } : Jvm.MethodName)) ∈ lw_all := lw_g (lw_at lw_m8 116 rfl) rfl
theorem q1927 : (Jvm.Cond.code ({ cls := "UnseenClockModel", name := "isFree", desc := "(II)Z" } : Jvm.MethodName) prog_19_method_37_code (3 : Nat) (Option.some Jvm.ClassFile.FieldType.boolean)) ∈ lw_all := lw_g (lw_at lw_m8 117 rfl) rfl
theorem q1928 : (Jvm.Cond.methodLink "UnseenClockModel" (297 : Nat) ({ cls := "UnseenClockModel", name := "isThere", desc := "(II)Z" } : Jvm.MethodName)) ∈ lw_all := lw_g (lw_at lw_m8 118 rfl) rfl
theorem q1929 : (Jvm.Cond.privateMethod ({ cls := "UnseenClockModel", name := "isThere", desc := "(II)Z" } : Jvm.MethodName)) ∈ lw_tbl := lw_at lw_m8 119 rfl
theorem q1930 : (Jvm.Cond.instanceMethod ({ cls := "UnseenClockModel", name := "isThere", desc := "(II)Z" } : Jvm.MethodName)) ∈ lw_all := lw_g (lw_at lw_m8 120 rfl) rfl
theorem q1931 : (Jvm.Cond.code ({ cls := "UnseenClockModel", name := "isThere", desc := "(II)Z" } : Jvm.MethodName) prog_19_method_40_code (3 : Nat) (Option.some Jvm.ClassFile.FieldType.boolean)) ∈ lw_all := lw_g (lw_at lw_m8 121 rfl) rfl
theorem q1933 : (Jvm.Cond.instanceMethod ({ cls := "UnseenClockModel", name := "sees", desc := "(III)I" } : Jvm.MethodName)) ∈ lw_all := lw_g (lw_at lw_m8 123 rfl) rfl
theorem q1934 : (Jvm.Cond.selects "UnseenClockModel" ({ cls := "UnseenClockModel", name := "sees", desc := "(III)I" } : Jvm.MethodName) ({ cls := "UnseenClockModel", name := "sees", desc := "(III)I" } : Jvm.MethodName)) ∈ lw_all := lw_g (lw_at lw_m8 124 rfl) rfl
theorem q1935 : (Jvm.Cond.code ({ cls := "UnseenClockModel", name := "sees", desc := "(III)I" } : Jvm.MethodName) prog_19_method_46_code (4 : Nat) (Option.some Jvm.ClassFile.FieldType.int)) ∈ lw_all := lw_g (lw_at lw_m8 125 rfl) rfl
theorem q1936 : (Jvm.Cond.methodLink "UnseenClockModel" (314 : Nat) ({ cls := "UnseenClockModel", name := "isClock", desc := "(I)Z" } : Jvm.MethodName)) ∈ lw_all := lw_g (lw_at lw_m8 126 rfl) rfl
theorem q1937 : (Jvm.Cond.privateMethod ({ cls := "UnseenClockModel", name := "isClock", desc := "(I)Z" } : Jvm.MethodName)) ∈ lw_tbl := lw_at lw_m8 127 rfl
theorem q1938 : (Jvm.Cond.instanceMethod ({ cls := "UnseenClockModel", name := "isClock", desc := "(I)Z" } : Jvm.MethodName)) ∈ lw_all := lw_g (lw_at lw_m8 128 rfl) rfl
theorem q1939 : (Jvm.Cond.code ({ cls := "UnseenClockModel", name := "isClock", desc := "(I)Z" } : Jvm.MethodName) prog_19_method_7_code (2 : Nat) (Option.some Jvm.ClassFile.FieldType.boolean)) ∈ lw_all := lw_g (lw_at lw_m8 129 rfl) rfl
theorem q1940 : (Jvm.Cond.methodLink "UnseenClockModel" (300 : Nat) ({ cls := "UnseenClockModel", name := "seesFrom", desc := "(III)Z" } : Jvm.MethodName)) ∈ lw_all := lw_g (lw_at lw_m8 130 rfl) rfl
theorem q1941 : (Jvm.Cond.privateMethod ({ cls := "UnseenClockModel", name := "seesFrom", desc := "(III)Z" } : Jvm.MethodName)) ∈ lw_tbl := lw_at lw_m8 131 rfl
theorem q1942 : (Jvm.Cond.instanceMethod ({ cls := "UnseenClockModel", name := "seesFrom", desc := "(III)Z" } : Jvm.MethodName)) ∈ lw_all := lw_g (lw_at lw_m8 132 rfl) rfl
theorem q1943 : (Jvm.Cond.code ({ cls := "UnseenClockModel", name := "seesFrom", desc := "(III)Z" } : Jvm.MethodName) prog_19_method_42_code (8 : Nat) (Option.some Jvm.ClassFile.FieldType.boolean)) ∈ lw_all := lw_g (lw_at lw_m8 133 rfl) rfl
theorem q1944 : (Jvm.Cond.methodLink "UnseenClockModel" (285 : Nat) ({ cls := "UnseenClockModel", name := "ofClock", desc := "(II)I" } : Jvm.MethodName)) ∈ lw_all := lw_g (lw_at lw_m8 134 rfl) rfl
theorem q1945 : (Jvm.Cond.privateMethod ({ cls := "UnseenClockModel", name := "ofClock", desc := "(II)I" } : Jvm.MethodName)) ∈ lw_tbl := lw_at lw_m8 135 rfl
theorem q1946 : (Jvm.Cond.instanceMethod ({ cls := "UnseenClockModel", name := "ofClock", desc := "(II)I" } : Jvm.MethodName)) ∈ lw_all := lw_g (lw_at lw_m8 136 rfl) rfl
theorem q1947 : (Jvm.Cond.code ({ cls := "UnseenClockModel", name := "ofClock", desc := "(II)I" } : Jvm.MethodName) prog_19_method_12_code (3 : Nat) (Option.some Jvm.ClassFile.FieldType.int)) ∈ lw_all := lw_g (lw_at lw_m8 137 rfl) rfl
theorem q1948 : (Jvm.Cond.methodLink "UnseenClockModel" (288 : Nat) ({ cls := "java/lang/Math", name := "abs", desc := "(I)I" } : Jvm.MethodName)) ∈ lw_all := lw_g (lw_at lw_m8 138 rfl) rfl
theorem q1949 : (Jvm.Cond.methodLink "UnseenClockModel" (291 : Nat) ({ cls := "java/lang/Math", name := "max", desc := "(II)I" } : Jvm.MethodName)) ∈ lw_all := lw_g (lw_at lw_m8 139 rfl) rfl
theorem q1950 : (Jvm.Cond.methodLink "UnseenClockModel" (294 : Nat) ({ cls := "UnseenClockModel", name := "sign", desc := "(I)I" } : Jvm.MethodName)) ∈ lw_all := lw_g (lw_at lw_m8 140 rfl) rfl
theorem q1951 : (Jvm.Cond.static ({ cls := "UnseenClockModel", name := "sign", desc := "(I)I" } : Jvm.MethodName)) ∈ lw_all := lw_g (lw_at lw_m8 141 rfl) rfl
theorem q1952 : (Jvm.Cond.code ({ cls := "UnseenClockModel", name := "sign", desc := "(I)I" } : Jvm.MethodName) prog_19_method_41_code (1 : Nat) (Option.some Jvm.ClassFile.FieldType.int)) ∈ lw_all := lw_g (lw_at lw_m8 142 rfl) rfl
theorem q1954 : (Jvm.Cond.instanceMethod ({ cls := "UnseenClockModel", name := "looks", desc := "(III)I" } : Jvm.MethodName)) ∈ lw_all := lw_g (lw_at lw_m8 144 rfl) rfl
theorem q1955 : (Jvm.Cond.selects "UnseenClockModel" ({ cls := "UnseenClockModel", name := "looks", desc := "(III)I" } : Jvm.MethodName) ({ cls := "UnseenClockModel", name := "looks", desc := "(III)I" } : Jvm.MethodName)) ∈ lw_all := lw_g (lw_at lw_m8 145 rfl) rfl
theorem q1956 : (Jvm.Cond.code ({ cls := "UnseenClockModel", name := "looks", desc := "(III)I" } : Jvm.MethodName) prog_19_method_61_code (4 : Nat) (Option.some Jvm.ClassFile.FieldType.int)) ∈ lw_all := lw_g (lw_at lw_m8 146 rfl) rfl
theorem q1957 : (Jvm.Cond.methodLink "UnseenClockModel" (387 : Nat) ({ cls := "UnseenClockModel", name := "plain", desc := "()V" } : Jvm.MethodName)) ∈ lw_all := lw_g (lw_at lw_m8 147 rfl) rfl
theorem q1958 : (Jvm.Cond.privateMethod ({ cls := "UnseenClockModel", name := "plain", desc := "()V" } : Jvm.MethodName)) ∈ lw_tbl := lw_at lw_m8 148 rfl
theorem q1959 : (Jvm.Cond.instanceMethod ({ cls := "UnseenClockModel", name := "plain", desc := "()V" } : Jvm.MethodName)) ∈ lw_all := lw_g (lw_at lw_m8 149 rfl) rfl
theorem q1960 : (Jvm.Cond.code ({ cls := "UnseenClockModel", name := "plain", desc := "()V" } : Jvm.MethodName) prog_19_method_60_code (1 : Nat) (Option.none : Option Jvm.ClassFile.FieldType)) ∈ lw_all := lw_g (lw_at lw_m8 150 rfl) rfl
theorem q1961 : (Jvm.Cond.methodLink "UnseenClockModel" (381 : Nat) ({ cls := "UnseenClockModel", name := "keepsNone", desc := "()V" } : Jvm.MethodName)) ∈ lw_all := lw_g (lw_at lw_m8 151 rfl) rfl
theorem q1962 : (Jvm.Cond.privateMethod ({ cls := "UnseenClockModel", name := "keepsNone", desc := "()V" } : Jvm.MethodName)) ∈ lw_tbl := lw_at lw_m8 152 rfl
theorem q1963 : (Jvm.Cond.instanceMethod ({ cls := "UnseenClockModel", name := "keepsNone", desc := "()V" } : Jvm.MethodName)) ∈ lw_all := lw_g (lw_at lw_m8 153 rfl) rfl
theorem q1964 : (Jvm.Cond.code ({ cls := "UnseenClockModel", name := "keepsNone", desc := "()V" } : Jvm.MethodName) prog_19_method_59_code (2 : Nat) (Option.none : Option Jvm.ClassFile.FieldType)) ∈ lw_all := lw_g (lw_at lw_m8 154 rfl) rfl
theorem q1965 : (Jvm.Cond.methodLink "UnseenClockModel" (384 : Nat) ({ cls := "UnseenClockModel", name := "runs", desc := "()V" } : Jvm.MethodName)) ∈ lw_all := lw_g (lw_at lw_m8 155 rfl) rfl
theorem q1966 : (Jvm.Cond.privateMethod ({ cls := "UnseenClockModel", name := "runs", desc := "()V" } : Jvm.MethodName)) ∈ lw_tbl := lw_at lw_m8 156 rfl
theorem q1967 : (Jvm.Cond.instanceMethod ({ cls := "UnseenClockModel", name := "runs", desc := "()V" } : Jvm.MethodName)) ∈ lw_all := lw_g (lw_at lw_m8 157 rfl) rfl
theorem q1968 : (Jvm.Cond.code ({ cls := "UnseenClockModel", name := "runs", desc := "()V" } : Jvm.MethodName) prog_19_method_58_code (2 : Nat) (Option.none : Option Jvm.ClassFile.FieldType)) ∈ lw_all := lw_g (lw_at lw_m8 158 rfl) rfl
theorem q1969 : (Jvm.Cond.methodLink "UnseenClockModel" (375 : Nat) ({ cls := "UnseenClockModel", name := "fillAllSpots", desc := "()V" } : Jvm.MethodName)) ∈ lw_all := lw_g (lw_at lw_m8 159 rfl) rfl
theorem q1970 : (Jvm.Cond.privateMethod ({ cls := "UnseenClockModel", name := "fillAllSpots", desc := "()V" } : Jvm.MethodName)) ∈ lw_tbl := lw_at lw_m8 160 rfl
theorem q1971 : (Jvm.Cond.instanceMethod ({ cls := "UnseenClockModel", name := "fillAllSpots", desc := "()V" } : Jvm.MethodName)) ∈ lw_all := lw_g (lw_at lw_m8 161 rfl) rfl
theorem q1972 : (Jvm.Cond.code ({ cls := "UnseenClockModel", name := "fillAllSpots", desc := "()V" } : Jvm.MethodName) prog_19_method_44_code (2 : Nat) (Option.none : Option Jvm.ClassFile.FieldType)) ∈ lw_all := lw_g (lw_at lw_m8 162 rfl) rfl
theorem q1973 : (Jvm.Cond.methodLink "UnseenClockModel" (378 : Nat) ({ cls := "UnseenClockModel", name := "goes", desc := "(I)V" } : Jvm.MethodName)) ∈ lw_all := lw_g (lw_at lw_m8 163 rfl) rfl
theorem q1974 : (Jvm.Cond.privateMethod ({ cls := "UnseenClockModel", name := "goes", desc := "(I)V" } : Jvm.MethodName)) ∈ lw_tbl := lw_at lw_m8 164 rfl
theorem q1975 : (Jvm.Cond.instanceMethod ({ cls := "UnseenClockModel", name := "goes", desc := "(I)V" } : Jvm.MethodName)) ∈ lw_all := lw_g (lw_at lw_m8 165 rfl) rfl
theorem q1976 : (Jvm.Cond.code ({ cls := "UnseenClockModel", name := "goes", desc := "(I)V" } : Jvm.MethodName) prog_19_method_57_code (4 : Nat) (Option.none : Option Jvm.ClassFile.FieldType)) ∈ lw_all := lw_g (lw_at lw_m8 166 rfl) rfl
theorem q1977 : (Jvm.Cond.methodLink "UnseenClockModel" (369 : Nat) ({ cls := "UnseenClockModel", name := "looksIn", desc := "(I)V" } : Jvm.MethodName)) ∈ lw_all := lw_g (lw_at lw_m8 167 rfl) rfl
theorem q1978 : (Jvm.Cond.privateMethod ({ cls := "UnseenClockModel", name := "looksIn", desc := "(I)V" } : Jvm.MethodName)) ∈ lw_tbl := lw_at lw_m8 168 rfl
theorem q1979 : (Jvm.Cond.instanceMethod ({ cls := "UnseenClockModel", name := "looksIn", desc := "(I)V" } : Jvm.MethodName)) ∈ lw_all := lw_g (lw_at lw_m8 169 rfl) rfl
theorem q1980 : (Jvm.Cond.code ({ cls := "UnseenClockModel", name := "looksIn", desc := "(I)V" } : Jvm.MethodName) prog_19_method_55_code (5 : Nat) (Option.none : Option Jvm.ClassFile.FieldType)) ∈ lw_all := lw_g (lw_at lw_m8 170 rfl) rfl
theorem q1981 : (Jvm.Cond.methodLink "UnseenClockModel" (351 : Nat) ({ cls := "UnseenClockModel", name := "fillSeeing", desc := "(I)V" } : Jvm.MethodName)) ∈ lw_all := lw_g (lw_at lw_m8 171 rfl) rfl
theorem q1982 : (Jvm.Cond.privateMethod ({ cls := "UnseenClockModel", name := "fillSeeing", desc := "(I)V" } : Jvm.MethodName)) ∈ lw_tbl := lw_at lw_m8 172 rfl
theorem q1983 : (Jvm.Cond.instanceMethod ({ cls := "UnseenClockModel", name := "fillSeeing", desc := "(I)V" } : Jvm.MethodName)) ∈ lw_all := lw_g (lw_at lw_m8 173 rfl) rfl
theorem q1984 : (Jvm.Cond.code ({ cls := "UnseenClockModel", name := "fillSeeing", desc := "(I)V" } : Jvm.MethodName) prog_19_method_43_code (4 : Nat) (Option.none : Option Jvm.ClassFile.FieldType)) ∈ lw_all := lw_g (lw_at lw_m8 174 rfl) rfl
theorem q1985 : (Jvm.Cond.methodLink "UnseenClockModel" (354 : Nat) ({ cls := "UnseenClockModel", name := "drawsMaybes", desc := "()V" } : Jvm.MethodName)) ∈ lw_all := lw_g (lw_at lw_m8 175 rfl) rfl
theorem q1986 : (Jvm.Cond.privateMethod ({ cls := "UnseenClockModel", name := "drawsMaybes", desc := "()V" } : Jvm.MethodName)) ∈ lw_tbl := lw_at lw_m8 176 rfl
theorem q1987 : (Jvm.Cond.instanceMethod ({ cls := "UnseenClockModel", name := "drawsMaybes", desc := "()V" } : Jvm.MethodName)) ∈ lw_all := lw_g (lw_at lw_m8 177 rfl) rfl
theorem q1988 : (Jvm.Cond.code ({ cls := "UnseenClockModel", name := "drawsMaybes", desc := "()V" } : Jvm.MethodName) prog_19_method_50_code (4 : Nat) (Option.none : Option Jvm.ClassFile.FieldType)) ∈ lw_all := lw_g (lw_at lw_m8 178 rfl) rfl
theorem q1989 : (Jvm.Cond.methodLink "UnseenClockModel" (335 : Nat) ({ cls := "UnseenClockModel", name := "lookOf", desc := "(III)I" } : Jvm.MethodName)) ∈ lw_all := lw_g (lw_at lw_m8 179 rfl) rfl
theorem q1990 : (Jvm.Cond.privateMethod ({ cls := "UnseenClockModel", name := "lookOf", desc := "(III)I" } : Jvm.MethodName)) ∈ lw_tbl := lw_at lw_m8 180 rfl
theorem q1991 : (Jvm.Cond.instanceMethod ({ cls := "UnseenClockModel", name := "lookOf", desc := "(III)I" } : Jvm.MethodName)) ∈ lw_all := lw_g (lw_at lw_m8 181 rfl) rfl
theorem q1992 : (Jvm.Cond.code ({ cls := "UnseenClockModel", name := "lookOf", desc := "(III)I" } : Jvm.MethodName) prog_19_method_49_code (4 : Nat) (Option.some Jvm.ClassFile.FieldType.int)) ∈ lw_all := lw_g (lw_at lw_m8 182 rfl) rfl
theorem q1993 : (Jvm.Cond.methodLink "UnseenClockModel" (339 : Nat) ({ cls := "UnseenClockModel", name := "draw", desc := "()I" } : Jvm.MethodName)) ∈ lw_all := lw_g (lw_at lw_m8 183 rfl) rfl
theorem q1994 : (Jvm.Cond.privateMethod ({ cls := "UnseenClockModel", name := "draw", desc := "()I" } : Jvm.MethodName)) ∈ lw_tbl := lw_at lw_m8 184 rfl
theorem q1995 : (Jvm.Cond.instanceMethod ({ cls := "UnseenClockModel", name := "draw", desc := "()I" } : Jvm.MethodName)) ∈ lw_all := lw_g (lw_at lw_m8 185 rfl) rfl
theorem q1996 : (Jvm.Cond.code ({ cls := "UnseenClockModel", name := "draw", desc := "()I" } : Jvm.MethodName) prog_19_method_47_code (1 : Nat) (Option.some Jvm.ClassFile.FieldType.int)) ∈ lw_all := lw_g (lw_at lw_m8 186 rfl) rfl
theorem q1997 : (Jvm.Cond.constantLong "UnseenClockModel" (317 : Nat) (1103515245 : Int64)) ∈ lw_all := lw_g (lw_at lw_m8 187 rfl) rfl
theorem q1998 : (Jvm.Cond.constantLong "UnseenClockModel" (323 : Nat) (12345 : Int64)) ∈ lw_all := lw_g (lw_at lw_m8 188 rfl) rfl
theorem q1999 : (Jvm.Cond.constantLong "UnseenClockModel" (325 : Nat) (2147483648 : Int64)) ∈ lw_all := lw_g (lw_at lw_m8 189 rfl) rfl
theorem q2000 : (Jvm.Cond.constantLong "UnseenClockModel" (327 : Nat) (65536 : Int64)) ∈ lw_all := lw_g (lw_at lw_m8 190 rfl) rfl
theorem q2001 : (Jvm.Cond.constantLong "UnseenClockModel" (329 : Nat) (100 : Int64)) ∈ lw_all := lw_g (lw_at lw_m8 191 rfl) rfl
theorem q2002 : (Jvm.Cond.methodLink "UnseenClockModel" (357 : Nat) ({ cls := "UnseenClockModel", name := "settles", desc := "(I)V" } : Jvm.MethodName)) ∈ lw_all := lw_g (lw_at lw_m8 192 rfl) rfl
theorem q2003 : (Jvm.Cond.privateMethod ({ cls := "UnseenClockModel", name := "settles", desc := "(I)V" } : Jvm.MethodName)) ∈ lw_tbl := lw_at lw_m8 193 rfl
theorem q2004 : (Jvm.Cond.instanceMethod ({ cls := "UnseenClockModel", name := "settles", desc := "(I)V" } : Jvm.MethodName)) ∈ lw_all := lw_g (lw_at lw_m8 194 rfl) rfl
theorem q2005 : (Jvm.Cond.code ({ cls := "UnseenClockModel", name := "settles", desc := "(I)V" } : Jvm.MethodName) prog_19_method_53_code (5 : Nat) (Option.none : Option Jvm.ClassFile.FieldType)) ∈ lw_all := lw_g (lw_at lw_m8 195 rfl) rfl
theorem q2006 : (Jvm.Cond.methodLink "UnseenClockModel" (348 : Nat) ({ cls := "UnseenClockModel", name := "settled", desc := "(III)I" } : Jvm.MethodName)) ∈ lw_all := lw_g (lw_at lw_m8 196 rfl) rfl
theorem q2007 : (Jvm.Cond.privateMethod ({ cls := "UnseenClockModel", name := "settled", desc := "(III)I" } : Jvm.MethodName)) ∈ lw_tbl := lw_at lw_m8 197 rfl
theorem q2008 : (Jvm.Cond.instanceMethod ({ cls := "UnseenClockModel", name := "settled", desc := "(III)I" } : Jvm.MethodName)) ∈ lw_all := lw_g (lw_at lw_m8 198 rfl) rfl
theorem q2009 : (Jvm.Cond.code ({ cls := "UnseenClockModel", name := "settled", desc := "(III)I" } : Jvm.MethodName) prog_19_method_52_code (7 : Nat) (Option.some Jvm.ClassFile.FieldType.int)) ∈ lw_all := lw_g (lw_at lw_m8 199 rfl) rfl
theorem q2010 : (Jvm.Cond.methodLink "UnseenClockModel" (345 : Nat) ({ cls := "UnseenClockModel", name := "holds", desc := "(III)I" } : Jvm.MethodName)) ∈ lw_all := lw_g (lw_at lw_m8 200 rfl) rfl
theorem q2011 : (Jvm.Cond.privateMethod ({ cls := "UnseenClockModel", name := "holds", desc := "(III)I" } : Jvm.MethodName)) ∈ lw_tbl := lw_at lw_m8 201 rfl
theorem q2012 : (Jvm.Cond.instanceMethod ({ cls := "UnseenClockModel", name := "holds", desc := "(III)I" } : Jvm.MethodName)) ∈ lw_all := lw_g (lw_at lw_m8 202 rfl) rfl
theorem q2013 : (Jvm.Cond.code ({ cls := "UnseenClockModel", name := "holds", desc := "(III)I" } : Jvm.MethodName) prog_19_method_51_code (7 : Nat) (Option.some Jvm.ClassFile.FieldType.int)) ∈ lw_all := lw_g (lw_at lw_m8 203 rfl) rfl
theorem q2014 : (Jvm.Cond.methodLink "UnseenClockModel" (342 : Nat) ({ cls := "UnseenClockModel", name := "shownAt", desc := "(II)I" } : Jvm.MethodName)) ∈ lw_all := lw_g (lw_at lw_m8 204 rfl) rfl
theorem q2015 : (Jvm.Cond.privateMethod ({ cls := "UnseenClockModel", name := "shownAt", desc := "(II)I" } : Jvm.MethodName)) ∈ lw_tbl := lw_at lw_m8 205 rfl
theorem q2016 : (Jvm.Cond.instanceMethod ({ cls := "UnseenClockModel", name := "shownAt", desc := "(II)I" } : Jvm.MethodName)) ∈ lw_all := lw_g (lw_at lw_m8 206 rfl) rfl
theorem q2017 : (Jvm.Cond.code ({ cls := "UnseenClockModel", name := "shownAt", desc := "(II)I" } : Jvm.MethodName) prog_19_method_48_code (3 : Nat) (Option.some Jvm.ClassFile.FieldType.int)) ∈ lw_all := lw_g (lw_at lw_m8 207 rfl) rfl
theorem q2018 : (Jvm.Cond.methodLink "UnseenClockModel" (360 : Nat) ({ cls := "UnseenClockModel", name := "firstUnknown", desc := "()I" } : Jvm.MethodName)) ∈ lw_all := lw_g (lw_at lw_m8 208 rfl) rfl
theorem q2019 : (Jvm.Cond.privateMethod ({ cls := "UnseenClockModel", name := "firstUnknown", desc := "()I" } : Jvm.MethodName)) ∈ lw_tbl := lw_at lw_m8 209 rfl
theorem q2020 : (Jvm.Cond.instanceMethod ({ cls := "UnseenClockModel", name := "firstUnknown", desc := "()I" } : Jvm.MethodName)) ∈ lw_all := lw_g (lw_at lw_m8 210 rfl) rfl
theorem q2021 : (Jvm.Cond.code ({ cls := "UnseenClockModel", name := "firstUnknown", desc := "()I" } : Jvm.MethodName) prog_19_method_54_code (3 : Nat) (Option.some Jvm.ClassFile.FieldType.int)) ∈ lw_all := lw_g (lw_at lw_m8 211 rfl) rfl
theorem q2022 : (Jvm.Cond.methodLink "UnseenClockModel" (372 : Nat) ({ cls := "UnseenClockModel", name := "isLooked", desc := "(II)Z" } : Jvm.MethodName)) ∈ lw_all := lw_g (lw_at lw_m8 212 rfl) rfl
theorem q2023 : (Jvm.Cond.privateMethod ({ cls := "UnseenClockModel", name := "isLooked", desc := "(II)Z" } : Jvm.MethodName)) ∈ lw_tbl := lw_at lw_m8 213 rfl
theorem q2024 : (Jvm.Cond.instanceMethod ({ cls := "UnseenClockModel", name := "isLooked", desc := "(II)Z" } : Jvm.MethodName)) ∈ lw_all := lw_g (lw_at lw_m8 214 rfl) rfl
theorem q2025 : (Jvm.Cond.code ({ cls := "UnseenClockModel", name := "isLooked", desc := "(II)Z" } : Jvm.MethodName) prog_19_method_56_code (5 : Nat) (Option.some Jvm.ClassFile.FieldType.boolean)) ∈ lw_all := lw_g (lw_at lw_m8 215 rfl) rfl
theorem q2027 : (Jvm.Cond.instanceMethod ({ cls := "UnseenClockModel", name := "eyes", desc := "(II)I" } : Jvm.MethodName)) ∈ lw_all := lw_g (lw_at lw_m8 217 rfl) rfl
theorem q2028 : (Jvm.Cond.selects "UnseenClockModel" ({ cls := "UnseenClockModel", name := "eyes", desc := "(II)I" } : Jvm.MethodName) ({ cls := "UnseenClockModel", name := "eyes", desc := "(II)I" } : Jvm.MethodName)) ∈ lw_all := lw_g (lw_at lw_m8 218 rfl) rfl
theorem q2029 : (Jvm.Cond.code ({ cls := "UnseenClockModel", name := "eyes", desc := "(II)I" } : Jvm.MethodName) prog_19_method_62_code (5 : Nat) (Option.some Jvm.ClassFile.FieldType.int)) ∈ lw_all := lw_g (lw_at lw_m8 219 rfl) rfl
theorem q2031 : (Jvm.Cond.instanceMethod ({ cls := "UnseenClockModel", name := "shows", desc := "(II)I" } : Jvm.MethodName)) ∈ lw_all := lw_g (lw_at lw_m8 221 rfl) rfl
theorem q2032 : (Jvm.Cond.selects "UnseenClockModel" ({ cls := "UnseenClockModel", name := "shows", desc := "(II)I" } : Jvm.MethodName) ({ cls := "UnseenClockModel", name := "shows", desc := "(II)I" } : Jvm.MethodName)) ∈ lw_all := lw_g (lw_at lw_m8 222 rfl) rfl
theorem q2033 : (Jvm.Cond.code ({ cls := "UnseenClockModel", name := "shows", desc := "(II)I" } : Jvm.MethodName) prog_19_method_63_code (3 : Nat) (Option.some Jvm.ClassFile.FieldType.int)) ∈ lw_all := lw_g (lw_at lw_m8 223 rfl) rfl
theorem q2034 : (Jvm.Cond.methodLink "UnseenClockModel" (390 : Nat) ({ cls := "UnseenClockModel", name := "isTime", desc := "(I)Z" } : Jvm.MethodName)) ∈ lw_all := lw_g (lw_at lw_m8 224 rfl) rfl
theorem q2035 : (Jvm.Cond.privateMethod ({ cls := "UnseenClockModel", name := "isTime", desc := "(I)Z" } : Jvm.MethodName)) ∈ lw_tbl := lw_at lw_m8 225 rfl
theorem q2036 : (Jvm.Cond.instanceMethod ({ cls := "UnseenClockModel", name := "isTime", desc := "(I)Z" } : Jvm.MethodName)) ∈ lw_all := lw_g (lw_at lw_m8 226 rfl) rfl
theorem q2037 : (Jvm.Cond.code ({ cls := "UnseenClockModel", name := "isTime", desc := "(I)Z" } : Jvm.MethodName) prog_19_method_10_code (2 : Nat) (Option.some Jvm.ClassFile.FieldType.boolean)) ∈ lw_all := lw_g (lw_at lw_m8 227 rfl) rfl
theorem q2038 : (Jvm.Cond.methodLink "UnseenClockModel" (108 : Nat) ({ cls := "UnseenClockModel", name := "isSquare", desc := "()Z" } : Jvm.MethodName)) ∈ lw_all := lw_g (lw_at lw_m8 228 rfl) rfl
theorem q2039 : (Jvm.Cond.privateMethod ({ cls := "UnseenClockModel", name := "isSquare", desc := "()Z" } : Jvm.MethodName)) ∈ lw_tbl := lw_at lw_m8 229 rfl
theorem q2040 : (Jvm.Cond.instanceMethod ({ cls := "UnseenClockModel", name := "isSquare", desc := "()Z" } : Jvm.MethodName)) ∈ lw_all := lw_g (lw_at lw_m8 230 rfl) rfl
theorem q2041 : (Jvm.Cond.code ({ cls := "UnseenClockModel", name := "isSquare", desc := "()Z" } : Jvm.MethodName) prog_19_method_6_code (1 : Nat) (Option.some Jvm.ClassFile.FieldType.boolean)) ∈ lw_all := lw_g (lw_at lw_m8 231 rfl) rfl
theorem q2043 : (Jvm.Cond.instanceMethod ({ cls := "UnseenClockModel", name := "value", desc := "(III)I" } : Jvm.MethodName)) ∈ lw_all := lw_g (lw_at lw_m8 233 rfl) rfl
theorem q2044 : (Jvm.Cond.selects "UnseenClockModel" ({ cls := "UnseenClockModel", name := "value", desc := "(III)I" } : Jvm.MethodName) ({ cls := "UnseenClockModel", name := "value", desc := "(III)I" } : Jvm.MethodName)) ∈ lw_all := lw_g (lw_at lw_m8 234 rfl) rfl
theorem q2045 : (Jvm.Cond.code ({ cls := "UnseenClockModel", name := "value", desc := "(III)I" } : Jvm.MethodName) prog_19_method_64_code (6 : Nat) (Option.some Jvm.ClassFile.FieldType.int)) ∈ lw_all := lw_g (lw_at lw_m8 235 rfl) rfl
theorem q2047 : (Jvm.Cond.instanceMethod ({ cls := "UnseenClockModel", name := "still", desc := "(II)I" } : Jvm.MethodName)) ∈ lw_all := lw_g (lw_at lw_m8 237 rfl) rfl
theorem q2048 : (Jvm.Cond.selects "UnseenClockModel" ({ cls := "UnseenClockModel", name := "still", desc := "(II)I" } : Jvm.MethodName) ({ cls := "UnseenClockModel", name := "still", desc := "(II)I" } : Jvm.MethodName)) ∈ lw_all := lw_g (lw_at lw_m8 238 rfl) rfl
theorem q2049 : (Jvm.Cond.code ({ cls := "UnseenClockModel", name := "still", desc := "(II)I" } : Jvm.MethodName) prog_19_method_65_code (9 : Nat) (Option.some Jvm.ClassFile.FieldType.int)) ∈ lw_all := lw_g (lw_at lw_m8 239 rfl) rfl
theorem q2051 : (Jvm.Cond.instanceMethod ({ cls := "UnseenClockModel", name := "open", desc := "()I" } : Jvm.MethodName)) ∈ lw_all := lw_g (lw_at lw_m9 1 rfl) rfl
theorem q2052 : (Jvm.Cond.selects "UnseenClockModel" ({ cls := "UnseenClockModel", name := "open", desc := "()I" } : Jvm.MethodName) ({ cls := "UnseenClockModel", name := "open", desc := "()I" } : Jvm.MethodName)) ∈ lw_all := lw_g (lw_at lw_m9 2 rfl) rfl
theorem q2053 : (Jvm.Cond.code ({ cls := "UnseenClockModel", name := "open", desc := "()I" } : Jvm.MethodName) prog_19_method_66_code (1 : Nat) (Option.some Jvm.ClassFile.FieldType.int)) ∈ lw_all := lw_g (lw_at lw_m9 3 rfl) rfl
theorem q2055 : (Jvm.Cond.instanceMethod ({ cls := "UnseenClockModel", name := "opens", desc := "(I)I" } : Jvm.MethodName)) ∈ lw_all := lw_g (lw_at lw_m9 5 rfl) rfl
theorem q2056 : (Jvm.Cond.selects "UnseenClockModel" ({ cls := "UnseenClockModel", name := "opens", desc := "(I)I" } : Jvm.MethodName) ({ cls := "UnseenClockModel", name := "opens", desc := "(I)I" } : Jvm.MethodName)) ∈ lw_all := lw_g (lw_at lw_m9 6 rfl) rfl
theorem q2057 : (Jvm.Cond.code ({ cls := "UnseenClockModel", name := "opens", desc := "(I)I" } : Jvm.MethodName) prog_19_method_67_code (2 : Nat) (Option.some Jvm.ClassFile.FieldType.int)) ∈ lw_all := lw_g (lw_at lw_m9 7 rfl) rfl
theorem q2059 : (Jvm.Cond.instanceMethod ({ cls := "UnseenClockModel", name := "bell", desc := "(II)I" } : Jvm.MethodName)) ∈ lw_all := lw_g (lw_at lw_m9 9 rfl) rfl
theorem q2060 : (Jvm.Cond.selects "UnseenClockModel" ({ cls := "UnseenClockModel", name := "bell", desc := "(II)I" } : Jvm.MethodName) ({ cls := "UnseenClockModel", name := "bell", desc := "(II)I" } : Jvm.MethodName)) ∈ lw_all := lw_g (lw_at lw_m9 10 rfl) rfl
theorem q2061 : (Jvm.Cond.code ({ cls := "UnseenClockModel", name := "bell", desc := "(II)I" } : Jvm.MethodName) prog_19_method_69_code (4 : Nat) (Option.some Jvm.ClassFile.FieldType.int)) ∈ lw_all := lw_g (lw_at lw_m9 11 rfl) rfl
theorem q2062 : (Jvm.Cond.constantLong "UnseenClockModel" (393 : Nat) (4 : Int64)) ∈ lw_all := lw_g (lw_at lw_m9 12 rfl) rfl
theorem q2063 : (Jvm.Cond.methodLink "UnseenClockModel" (395 : Nat) ({ cls := "UnseenClockModel", name := "isHour", desc := "(I)Z" } : Jvm.MethodName)) ∈ lw_all := lw_g (lw_at lw_m9 13 rfl) rfl
theorem q2064 : (Jvm.Cond.static ({ cls := "UnseenClockModel", name := "isHour", desc := "(I)Z" } : Jvm.MethodName)) ∈ lw_all := lw_g (lw_at lw_m9 14 rfl) rfl
theorem q2065 : (Jvm.Cond.code ({ cls := "UnseenClockModel", name := "isHour", desc := "(I)Z" } : Jvm.MethodName) prog_19_method_11_code (1 : Nat) (Option.some Jvm.ClassFile.FieldType.boolean)) ∈ lw_all := lw_g (lw_at lw_m9 15 rfl) rfl
theorem q2066 : (Jvm.Cond.constantLong "UnseenClockModel" (112 : Nat) (59 : Int64)) ∈ lw_all := lw_g (lw_at lw_m9 16 rfl) rfl
theorem q2067 : (Jvm.Cond.methodLink "UnseenClockModel" (398 : Nat) ({ cls := "UnseenClockModel", name := "manyShow", desc := "(II)I" } : Jvm.MethodName)) ∈ lw_all := lw_g (lw_at lw_m9 17 rfl) rfl
theorem q2068 : (Jvm.Cond.privateMethod ({ cls := "UnseenClockModel", name := "manyShow", desc := "(II)I" } : Jvm.MethodName)) ∈ lw_tbl := lw_at lw_m9 18 rfl
theorem q2069 : (Jvm.Cond.instanceMethod ({ cls := "UnseenClockModel", name := "manyShow", desc := "(II)I" } : Jvm.MethodName)) ∈ lw_all := lw_g (lw_at lw_m9 19 rfl) rfl
theorem q2070 : (Jvm.Cond.code ({ cls := "UnseenClockModel", name := "manyShow", desc := "(II)I" } : Jvm.MethodName) prog_19_method_68_code (5 : Nat) (Option.some Jvm.ClassFile.FieldType.int)) ∈ lw_all := lw_g (lw_at lw_m9 20 rfl) rfl
theorem q2072 : (Jvm.Cond.instanceMethod ({ cls := "UnseenClockModel", name := "courses", desc := "()I" } : Jvm.MethodName)) ∈ lw_all := lw_g (lw_at lw_m9 22 rfl) rfl
theorem q2073 : (Jvm.Cond.selects "UnseenClockModel" ({ cls := "UnseenClockModel", name := "courses", desc := "()I" } : Jvm.MethodName) ({ cls := "UnseenClockModel", name := "courses", desc := "()I" } : Jvm.MethodName)) ∈ lw_all := lw_g (lw_at lw_m9 23 rfl) rfl
theorem q2074 : (Jvm.Cond.code ({ cls := "UnseenClockModel", name := "courses", desc := "()I" } : Jvm.MethodName) prog_19_method_74_code (1 : Nat) (Option.some Jvm.ClassFile.FieldType.int)) ∈ lw_all := lw_g (lw_at lw_m9 24 rfl) rfl
theorem q2075 : (Jvm.Cond.methodLink "UnseenClockModel" (410 : Nat) ({ cls := "UnseenClockModel", name := "fillCourses", desc := "()Z" } : Jvm.MethodName)) ∈ lw_all := lw_g (lw_at lw_m9 25 rfl) rfl
theorem q2076 : (Jvm.Cond.privateMethod ({ cls := "UnseenClockModel", name := "fillCourses", desc := "()Z" } : Jvm.MethodName)) ∈ lw_tbl := lw_at lw_m9 26 rfl
theorem q2077 : (Jvm.Cond.instanceMethod ({ cls := "UnseenClockModel", name := "fillCourses", desc := "()Z" } : Jvm.MethodName)) ∈ lw_all := lw_g (lw_at lw_m9 27 rfl) rfl
theorem q2078 : (Jvm.Cond.code ({ cls := "UnseenClockModel", name := "fillCourses", desc := "()Z" } : Jvm.MethodName) prog_19_method_72_code (2 : Nat) (Option.some Jvm.ClassFile.FieldType.boolean)) ∈ lw_all := lw_g (lw_at lw_m9 28 rfl) rfl
theorem q2079 : (Jvm.Cond.methodLink "UnseenClockModel" (404 : Nat) ({ cls := "UnseenClockModel", name := "keepsCourse", desc := "()V" } : Jvm.MethodName)) ∈ lw_all := lw_g (lw_at lw_m9 29 rfl) rfl
theorem q2080 : (Jvm.Cond.privateMethod ({ cls := "UnseenClockModel", name := "keepsCourse", desc := "()V" } : Jvm.MethodName)) ∈ lw_tbl := lw_at lw_m9 30 rfl
theorem q2081 : (Jvm.Cond.instanceMethod ({ cls := "UnseenClockModel", name := "keepsCourse", desc := "()V" } : Jvm.MethodName)) ∈ lw_all := lw_g (lw_at lw_m9 31 rfl) rfl
theorem q2082 : (Jvm.Cond.code ({ cls := "UnseenClockModel", name := "keepsCourse", desc := "()V" } : Jvm.MethodName) prog_19_method_70_code (3 : Nat) (Option.none : Option Jvm.ClassFile.FieldType)) ∈ lw_all := lw_g (lw_at lw_m9 32 rfl) rfl
theorem q2083 : (Jvm.Cond.methodLink "UnseenClockModel" (407 : Nat) ({ cls := "UnseenClockModel", name := "nextTaking", desc := "()Z" } : Jvm.MethodName)) ∈ lw_all := lw_g (lw_at lw_m9 33 rfl) rfl
theorem q2084 : (Jvm.Cond.privateMethod ({ cls := "UnseenClockModel", name := "nextTaking", desc := "()Z" } : Jvm.MethodName)) ∈ lw_tbl := lw_at lw_m9 34 rfl
theorem q2085 : (Jvm.Cond.instanceMethod ({ cls := "UnseenClockModel", name := "nextTaking", desc := "()Z" } : Jvm.MethodName)) ∈ lw_all := lw_g (lw_at lw_m9 35 rfl) rfl
theorem q2086 : (Jvm.Cond.code ({ cls := "UnseenClockModel", name := "nextTaking", desc := "()Z" } : Jvm.MethodName) prog_19_method_71_code (2 : Nat) (Option.some Jvm.ClassFile.FieldType.boolean)) ∈ lw_all := lw_g (lw_at lw_m9 36 rfl) rfl
theorem q2088 : (Jvm.Cond.instanceMethod ({ cls := "UnseenClockModel", name := "among", desc := "(III)I" } : Jvm.MethodName)) ∈ lw_all := lw_g (lw_at lw_m9 38 rfl) rfl
theorem q2089 : (Jvm.Cond.selects "UnseenClockModel" ({ cls := "UnseenClockModel", name := "among", desc := "(III)I" } : Jvm.MethodName) ({ cls := "UnseenClockModel", name := "among", desc := "(III)I" } : Jvm.MethodName)) ∈ lw_all := lw_g (lw_at lw_m9 39 rfl) rfl
theorem q2090 : (Jvm.Cond.code ({ cls := "UnseenClockModel", name := "among", desc := "(III)I" } : Jvm.MethodName) prog_19_method_75_code (6 : Nat) (Option.some Jvm.ClassFile.FieldType.int)) ∈ lw_all := lw_g (lw_at lw_m9 40 rfl) rfl
theorem q2091 : (Jvm.Cond.methodLink "UnseenClockModel" (413 : Nat) ({ cls := "UnseenClockModel", name := "shownIn", desc := "(III)I" } : Jvm.MethodName)) ∈ lw_all := lw_g (lw_at lw_m9 41 rfl) rfl
theorem q2092 : (Jvm.Cond.privateMethod ({ cls := "UnseenClockModel", name := "shownIn", desc := "(III)I" } : Jvm.MethodName)) ∈ lw_tbl := lw_at lw_m9 42 rfl
theorem q2093 : (Jvm.Cond.instanceMethod ({ cls := "UnseenClockModel", name := "shownIn", desc := "(III)I" } : Jvm.MethodName)) ∈ lw_all := lw_g (lw_at lw_m9 43 rfl) rfl
theorem q2094 : (Jvm.Cond.code ({ cls := "UnseenClockModel", name := "shownIn", desc := "(III)I" } : Jvm.MethodName) prog_19_method_73_code (4 : Nat) (Option.some Jvm.ClassFile.FieldType.int)) ∈ lw_all := lw_g (lw_at lw_m9 44 rfl) rfl
theorem q2096 : (Jvm.Cond.instanceMethod ({ cls := "UnseenClockModel", name := "agree", desc := "(I)I" } : Jvm.MethodName)) ∈ lw_all := lw_g (lw_at lw_m9 46 rfl) rfl
theorem q2097 : (Jvm.Cond.selects "UnseenClockModel" ({ cls := "UnseenClockModel", name := "agree", desc := "(I)I" } : Jvm.MethodName) ({ cls := "UnseenClockModel", name := "agree", desc := "(I)I" } : Jvm.MethodName)) ∈ lw_all := lw_g (lw_at lw_m9 47 rfl) rfl
theorem q2098 : (Jvm.Cond.code ({ cls := "UnseenClockModel", name := "agree", desc := "(I)I" } : Jvm.MethodName) prog_19_method_79_code (5 : Nat) (Option.some Jvm.ClassFile.FieldType.int)) ∈ lw_all := lw_g (lw_at lw_m9 48 rfl) rfl
theorem q2099 : (Jvm.Cond.methodLink "UnseenClockModel" (422 : Nat) ({ cls := "UnseenClockModel", name := "asksSightings", desc := "(IZI)I" } : Jvm.MethodName)) ∈ lw_all := lw_g (lw_at lw_m9 49 rfl) rfl
theorem q2100 : (Jvm.Cond.privateMethod ({ cls := "UnseenClockModel", name := "asksSightings", desc := "(IZI)I" } : Jvm.MethodName)) ∈ lw_tbl := lw_at lw_m9 50 rfl
theorem q2101 : (Jvm.Cond.instanceMethod ({ cls := "UnseenClockModel", name := "asksSightings", desc := "(IZI)I" } : Jvm.MethodName)) ∈ lw_all := lw_g (lw_at lw_m9 51 rfl) rfl
theorem q2102 : (Jvm.Cond.code ({ cls := "UnseenClockModel", name := "asksSightings", desc := "(IZI)I" } : Jvm.MethodName) prog_19_method_76_code (9 : Nat) (Option.some Jvm.ClassFile.FieldType.int)) ∈ lw_all := lw_g (lw_at lw_m9 52 rfl) rfl
theorem q2103 : (Jvm.Cond.methodLink "UnseenClockModel" (416 : Nat) ({ cls := "UnseenClockModel", name := "isSlot", desc := "(I)Z" } : Jvm.MethodName)) ∈ lw_all := lw_g (lw_at lw_m9 53 rfl) rfl
theorem q2104 : (Jvm.Cond.static ({ cls := "UnseenClockModel", name := "isSlot", desc := "(I)Z" } : Jvm.MethodName)) ∈ lw_all := lw_g (lw_at lw_m9 54 rfl) rfl
theorem q2105 : (Jvm.Cond.code ({ cls := "UnseenClockModel", name := "isSlot", desc := "(I)Z" } : Jvm.MethodName) prog_19_method_122_code (1 : Nat) (Option.some Jvm.ClassFile.FieldType.boolean)) ∈ lw_all := lw_g (lw_at lw_m9 55 rfl) rfl
theorem q2106 : (Jvm.Cond.constantLong "UnseenClockModel" (482 : Nat) (3 : Int64)) ∈ lw_all := lw_g (lw_at lw_m9 56 rfl) rfl
theorem q2107 : (Jvm.Cond.methodLink "UnseenClockModel" (419 : Nat) ({ cls := "UnseenClockModel", name := "agrees", desc := "(III)Z" } : Jvm.MethodName)) ∈ lw_all := lw_g (lw_at lw_m9 57 rfl) rfl
theorem q2108 : (Jvm.Cond.privateMethod ({ cls := "UnseenClockModel", name := "agrees", desc := "(III)Z" } : Jvm.MethodName)) ∈ lw_tbl := lw_at lw_m9 58 rfl
theorem q2109 : (Jvm.Cond.instanceMethod ({ cls := "UnseenClockModel", name := "agrees", desc := "(III)Z" } : Jvm.MethodName)) ∈ lw_all := lw_g (lw_at lw_m9 59 rfl) rfl
theorem q2110 : (Jvm.Cond.code ({ cls := "UnseenClockModel", name := "agrees", desc := "(III)Z" } : Jvm.MethodName) prog_19_method_77_code (6 : Nat) (Option.some Jvm.ClassFile.FieldType.boolean)) ∈ lw_all := lw_g (lw_at lw_m9 60 rfl) rfl
theorem q2112 : (Jvm.Cond.instanceMethod ({ cls := "UnseenClockModel", name := "sure", desc := "(III)I" } : Jvm.MethodName)) ∈ lw_all := lw_g (lw_at lw_m9 62 rfl) rfl
theorem q2113 : (Jvm.Cond.selects "UnseenClockModel" ({ cls := "UnseenClockModel", name := "sure", desc := "(III)I" } : Jvm.MethodName) ({ cls := "UnseenClockModel", name := "sure", desc := "(III)I" } : Jvm.MethodName)) ∈ lw_all := lw_g (lw_at lw_m9 63 rfl) rfl
theorem q2114 : (Jvm.Cond.code ({ cls := "UnseenClockModel", name := "sure", desc := "(III)I" } : Jvm.MethodName) prog_19_method_80_code (5 : Nat) (Option.some Jvm.ClassFile.FieldType.int)) ∈ lw_all := lw_g (lw_at lw_m9 64 rfl) rfl
theorem q2115 : (Jvm.Cond.methodLink "UnseenClockModel" (426 : Nat) ({ cls := "UnseenClockModel", name := "sureBy", desc := "(IIII)I" } : Jvm.MethodName)) ∈ lw_all := lw_g (lw_at lw_m9 65 rfl) rfl
theorem q2116 : (Jvm.Cond.privateMethod ({ cls := "UnseenClockModel", name := "sureBy", desc := "(IIII)I" } : Jvm.MethodName)) ∈ lw_tbl := lw_at lw_m9 66 rfl
theorem q2117 : (Jvm.Cond.instanceMethod ({ cls := "UnseenClockModel", name := "sureBy", desc := "(IIII)I" } : Jvm.MethodName)) ∈ lw_all := lw_g (lw_at lw_m9 67 rfl) rfl
theorem q2118 : (Jvm.Cond.code ({ cls := "UnseenClockModel", name := "sureBy", desc := "(IIII)I" } : Jvm.MethodName) prog_19_method_78_code (7 : Nat) (Option.some Jvm.ClassFile.FieldType.int)) ∈ lw_all := lw_g (lw_at lw_m9 68 rfl) rfl
theorem q2120 : (Jvm.Cond.instanceMethod ({ cls := "UnseenClockModel", name := "needs", desc := "(III)I" } : Jvm.MethodName)) ∈ lw_all := lw_g (lw_at lw_m9 70 rfl) rfl
theorem q2121 : (Jvm.Cond.selects "UnseenClockModel" ({ cls := "UnseenClockModel", name := "needs", desc := "(III)I" } : Jvm.MethodName) ({ cls := "UnseenClockModel", name := "needs", desc := "(III)I" } : Jvm.MethodName)) ∈ lw_all := lw_g (lw_at lw_m9 71 rfl) rfl
theorem q2122 : (Jvm.Cond.code ({ cls := "UnseenClockModel", name := "needs", desc := "(III)I" } : Jvm.MethodName) prog_19_method_81_code (7 : Nat) (Option.some Jvm.ClassFile.FieldType.int)) ∈ lw_all := lw_g (lw_at lw_m9 72 rfl) rfl
theorem q2123 : (Jvm.Cond.methodLink "UnseenClockModel" (430 : Nat) ({ cls := "UnseenClockModel", name := "bits", desc := "(I)I" } : Jvm.MethodName)) ∈ lw_all := lw_g (lw_at lw_m9 73 rfl) rfl
theorem q2124 : (Jvm.Cond.static ({ cls := "UnseenClockModel", name := "bits", desc := "(I)I" } : Jvm.MethodName)) ∈ lw_all := lw_g (lw_at lw_m9 74 rfl) rfl
theorem q2125 : (Jvm.Cond.code ({ cls := "UnseenClockModel", name := "bits", desc := "(I)I" } : Jvm.MethodName) prog_19_method_82_code (3 : Nat) (Option.some Jvm.ClassFile.FieldType.int)) ∈ lw_all := lw_g (lw_at lw_m9 75 rfl) rfl
theorem q2127 : (Jvm.Cond.instanceMethod ({ cls := "UnseenClockModel", name := "knows", desc := "(III)I" } : Jvm.MethodName)) ∈ lw_all := lw_g (lw_at lw_m9 77 rfl) rfl
theorem q2128 : (Jvm.Cond.selects "UnseenClockModel" ({ cls := "UnseenClockModel", name := "knows", desc := "(III)I" } : Jvm.MethodName) ({ cls := "UnseenClockModel", name := "knows", desc := "(III)I" } : Jvm.MethodName)) ∈ lw_all := lw_g (lw_at lw_m9 78 rfl) rfl
theorem q2129 : (Jvm.Cond.code ({ cls := "UnseenClockModel", name := "knows", desc := "(III)I" } : Jvm.MethodName) prog_19_method_86_code (5 : Nat) (Option.some Jvm.ClassFile.FieldType.int)) ∈ lw_all := lw_g (lw_at lw_m9 79 rfl) rfl
theorem q2130 : (Jvm.Cond.methodLink "UnseenClockModel" (437 : Nat) ({ cls := "UnseenClockModel", name := "isAlike", desc := "(III)Z" } : Jvm.MethodName)) ∈ lw_all := lw_g (lw_at lw_m9 80 rfl) rfl
theorem q2131 : (Jvm.Cond.privateMethod ({ cls := "UnseenClockModel", name := "isAlike", desc := "(III)Z" } : Jvm.MethodName)) ∈ lw_tbl := lw_at lw_m9 81 rfl
theorem q2132 : (Jvm.Cond.instanceMethod ({ cls := "UnseenClockModel", name := "isAlike", desc := "(III)Z" } : Jvm.MethodName)) ∈ lw_all := lw_g (lw_at lw_m9 82 rfl) rfl
theorem q2133 : (Jvm.Cond.code ({ cls := "UnseenClockModel", name := "isAlike", desc := "(III)Z" } : Jvm.MethodName) prog_19_method_83_code (4 : Nat) (Option.some Jvm.ClassFile.FieldType.boolean)) ∈ lw_all := lw_g (lw_at lw_m9 83 rfl) rfl
theorem q2134 : (Jvm.Cond.methodLink "UnseenClockModel" (433 : Nat) ({ cls := "UnseenClockModel", name := "isAlikeTill", desc := "(IIII)Z" } : Jvm.MethodName)) ∈ lw_all := lw_g (lw_at lw_m9 84 rfl) rfl
theorem q2135 : (Jvm.Cond.privateMethod ({ cls := "UnseenClockModel", name := "isAlikeTill", desc := "(IIII)Z" } : Jvm.MethodName)) ∈ lw_tbl := lw_at lw_m9 85 rfl
theorem q2136 : (Jvm.Cond.instanceMethod ({ cls := "UnseenClockModel", name := "isAlikeTill", desc := "(IIII)Z" } : Jvm.MethodName)) ∈ lw_all := lw_g (lw_at lw_m9 86 rfl) rfl
theorem q2137 : (Jvm.Cond.code ({ cls := "UnseenClockModel", name := "isAlikeTill", desc := "(IIII)Z" } : Jvm.MethodName) prog_19_method_84_code (8 : Nat) (Option.some Jvm.ClassFile.FieldType.boolean)) ∈ lw_all := lw_g (lw_at lw_m9 87 rfl) rfl
theorem q2138 : (Jvm.Cond.methodLink "UnseenClockModel" (440 : Nat) ({ cls := "UnseenClockModel", name := "commonOf", desc := "(II)I" } : Jvm.MethodName)) ∈ lw_all := lw_g (lw_at lw_m9 88 rfl) rfl
theorem q2139 : (Jvm.Cond.privateMethod ({ cls := "UnseenClockModel", name := "commonOf", desc := "(II)I" } : Jvm.MethodName)) ∈ lw_tbl := lw_at lw_m9 89 rfl
theorem q2140 : (Jvm.Cond.instanceMethod ({ cls := "UnseenClockModel", name := "commonOf", desc := "(II)I" } : Jvm.MethodName)) ∈ lw_all := lw_g (lw_at lw_m9 90 rfl) rfl
theorem q2141 : (Jvm.Cond.code ({ cls := "UnseenClockModel", name := "commonOf", desc := "(II)I" } : Jvm.MethodName) prog_19_method_85_code (5 : Nat) (Option.some Jvm.ClassFile.FieldType.int)) ∈ lw_all := lw_g (lw_at lw_m9 91 rfl) rfl
theorem q2143 : (Jvm.Cond.instanceMethod ({ cls := "UnseenClockModel", name := "common", desc := "(III)I" } : Jvm.MethodName)) ∈ lw_all := lw_g (lw_at lw_m9 93 rfl) rfl
theorem q2144 : (Jvm.Cond.selects "UnseenClockModel" ({ cls := "UnseenClockModel", name := "common", desc := "(III)I" } : Jvm.MethodName) ({ cls := "UnseenClockModel", name := "common", desc := "(III)I" } : Jvm.MethodName)) ∈ lw_all := lw_g (lw_at lw_m9 94 rfl) rfl
theorem q2145 : (Jvm.Cond.code ({ cls := "UnseenClockModel", name := "common", desc := "(III)I" } : Jvm.MethodName) prog_19_method_89_code (4 : Nat) (Option.some Jvm.ClassFile.FieldType.int)) ∈ lw_all := lw_g (lw_at lw_m9 95 rfl) rfl
theorem q2146 : (Jvm.Cond.methodLink "UnseenClockModel" (446 : Nat) ({ cls := "UnseenClockModel", name := "spreads", desc := "(I)V" } : Jvm.MethodName)) ∈ lw_all := lw_g (lw_at lw_m9 96 rfl) rfl
theorem q2147 : (Jvm.Cond.privateMethod ({ cls := "UnseenClockModel", name := "spreads", desc := "(I)V" } : Jvm.MethodName)) ∈ lw_tbl := lw_at lw_m9 97 rfl
theorem q2148 : (Jvm.Cond.instanceMethod ({ cls := "UnseenClockModel", name := "spreads", desc := "(I)V" } : Jvm.MethodName)) ∈ lw_all := lw_g (lw_at lw_m9 98 rfl) rfl
theorem q2149 : (Jvm.Cond.code ({ cls := "UnseenClockModel", name := "spreads", desc := "(I)V" } : Jvm.MethodName) prog_19_method_88_code (5 : Nat) (Option.none : Option Jvm.ClassFile.FieldType)) ∈ lw_all := lw_g (lw_at lw_m9 99 rfl) rfl
theorem q2150 : (Jvm.Cond.methodLink "UnseenClockModel" (443 : Nat) ({ cls := "UnseenClockModel", name := "comesBy", desc := "(III)Z" } : Jvm.MethodName)) ∈ lw_all := lw_g (lw_at lw_m9 100 rfl) rfl
theorem q2151 : (Jvm.Cond.privateMethod ({ cls := "UnseenClockModel", name := "comesBy", desc := "(III)Z" } : Jvm.MethodName)) ∈ lw_tbl := lw_at lw_m9 101 rfl
theorem q2152 : (Jvm.Cond.instanceMethod ({ cls := "UnseenClockModel", name := "comesBy", desc := "(III)Z" } : Jvm.MethodName)) ∈ lw_all := lw_g (lw_at lw_m9 102 rfl) rfl
theorem q2153 : (Jvm.Cond.code ({ cls := "UnseenClockModel", name := "comesBy", desc := "(III)Z" } : Jvm.MethodName) prog_19_method_87_code (5 : Nat) (Option.some Jvm.ClassFile.FieldType.boolean)) ∈ lw_all := lw_g (lw_at lw_m9 103 rfl) rfl
theorem q2155 : (Jvm.Cond.instanceMethod ({ cls := "UnseenClockModel", name := "alike", desc := "(I)I" } : Jvm.MethodName)) ∈ lw_all := lw_g (lw_at lw_m9 105 rfl) rfl
theorem q2156 : (Jvm.Cond.selects "UnseenClockModel" ({ cls := "UnseenClockModel", name := "alike", desc := "(I)I" } : Jvm.MethodName) ({ cls := "UnseenClockModel", name := "alike", desc := "(I)I" } : Jvm.MethodName)) ∈ lw_all := lw_g (lw_at lw_m9 106 rfl) rfl
theorem q2157 : (Jvm.Cond.code ({ cls := "UnseenClockModel", name := "alike", desc := "(I)I" } : Jvm.MethodName) prog_19_method_90_code (4 : Nat) (Option.some Jvm.ClassFile.FieldType.int)) ∈ lw_all := lw_g (lw_at lw_m9 107 rfl) rfl
theorem q2159 : (Jvm.Cond.instanceMethod ({ cls := "UnseenClockModel", name := "lie", desc := "(IIII)I" } : Jvm.MethodName)) ∈ lw_all := lw_g (lw_at lw_m9 109 rfl) rfl
theorem q2160 : (Jvm.Cond.selects "UnseenClockModel" ({ cls := "UnseenClockModel", name := "lie", desc := "(IIII)I" } : Jvm.MethodName) ({ cls := "UnseenClockModel", name := "lie", desc := "(IIII)I" } : Jvm.MethodName)) ∈ lw_all := lw_g (lw_at lw_m9 110 rfl) rfl
theorem q2161 : (Jvm.Cond.code ({ cls := "UnseenClockModel", name := "lie", desc := "(IIII)I" } : Jvm.MethodName) prog_19_method_93_code (5 : Nat) (Option.some Jvm.ClassFile.FieldType.int)) ∈ lw_all := lw_g (lw_at lw_m9 111 rfl) rfl
theorem q2162 : (Jvm.Cond.methodLink "UnseenClockModel" (449 : Nat) ({ cls := "UnseenClockModel", name := "isAsked", desc := "(IIII)Z" } : Jvm.MethodName)) ∈ lw_all := lw_g (lw_at lw_m9 112 rfl) rfl
theorem q2163 : (Jvm.Cond.privateMethod ({ cls := "UnseenClockModel", name := "isAsked", desc := "(IIII)Z" } : Jvm.MethodName)) ∈ lw_tbl := lw_at lw_m9 113 rfl
theorem q2164 : (Jvm.Cond.instanceMethod ({ cls := "UnseenClockModel", name := "isAsked", desc := "(IIII)Z" } : Jvm.MethodName)) ∈ lw_all := lw_g (lw_at lw_m9 114 rfl) rfl
theorem q2165 : (Jvm.Cond.code ({ cls := "UnseenClockModel", name := "isAsked", desc := "(IIII)Z" } : Jvm.MethodName) prog_19_method_91_code (5 : Nat) (Option.some Jvm.ClassFile.FieldType.boolean)) ∈ lw_all := lw_g (lw_at lw_m9 115 rfl) rfl
theorem q2166 : (Jvm.Cond.methodLink "UnseenClockModel" (452 : Nat) ({ cls := "UnseenClockModel", name := "shownBy", desc := "(IIII)I" } : Jvm.MethodName)) ∈ lw_all := lw_g (lw_at lw_m9 116 rfl) rfl
theorem q2167 : (Jvm.Cond.privateMethod ({ cls := "UnseenClockModel", name := "shownBy", desc := "(IIII)I" } : Jvm.MethodName)) ∈ lw_tbl := lw_at lw_m9 117 rfl
theorem q2168 : (Jvm.Cond.instanceMethod ({ cls := "UnseenClockModel", name := "shownBy", desc := "(IIII)I" } : Jvm.MethodName)) ∈ lw_all := lw_g (lw_at lw_m9 118 rfl) rfl
theorem q2169 : (Jvm.Cond.code ({ cls := "UnseenClockModel", name := "shownBy", desc := "(IIII)I" } : Jvm.MethodName) prog_19_method_92_code (8 : Nat) (Option.some Jvm.ClassFile.FieldType.int)) ∈ lw_all := lw_g (lw_at lw_m9 119 rfl) rfl
theorem q2171 : (Jvm.Cond.instanceMethod ({ cls := "UnseenClockModel", name := "shown", desc := "(IIII)I" } : Jvm.MethodName)) ∈ lw_all := lw_g (lw_at lw_m9 121 rfl) rfl
theorem q2172 : (Jvm.Cond.selects "UnseenClockModel" ({ cls := "UnseenClockModel", name := "shown", desc := "(IIII)I" } : Jvm.MethodName) ({ cls := "UnseenClockModel", name := "shown", desc := "(IIII)I" } : Jvm.MethodName)) ∈ lw_all := lw_g (lw_at lw_m9 122 rfl) rfl
theorem q2173 : (Jvm.Cond.code ({ cls := "UnseenClockModel", name := "shown", desc := "(IIII)I" } : Jvm.MethodName) prog_19_method_94_code (5 : Nat) (Option.some Jvm.ClassFile.FieldType.int)) ∈ lw_all := lw_g (lw_at lw_m9 123 rfl) rfl
theorem q2175 : (Jvm.Cond.instanceMethod ({ cls := "UnseenClockModel", name := "both", desc := "(IIII)I" } : Jvm.MethodName)) ∈ lw_all := lw_g (lw_at lw_m9 125 rfl) rfl
theorem q2176 : (Jvm.Cond.selects "UnseenClockModel" ({ cls := "UnseenClockModel", name := "both", desc := "(IIII)I" } : Jvm.MethodName) ({ cls := "UnseenClockModel", name := "both", desc := "(IIII)I" } : Jvm.MethodName)) ∈ lw_all := lw_g (lw_at lw_m9 126 rfl) rfl
theorem q2177 : (Jvm.Cond.code ({ cls := "UnseenClockModel", name := "both", desc := "(IIII)I" } : Jvm.MethodName) prog_19_method_96_code (6 : Nat) (Option.some Jvm.ClassFile.FieldType.int)) ∈ lw_all := lw_g (lw_at lw_m9 127 rfl) rfl
theorem q2178 : (Jvm.Cond.methodLink "UnseenClockModel" (455 : Nat) ({ cls := "UnseenClockModel", name := "areTwo", desc := "(II)Z" } : Jvm.MethodName)) ∈ lw_all := lw_g (lw_at lw_m9 128 rfl) rfl
theorem q2179 : (Jvm.Cond.privateMethod ({ cls := "UnseenClockModel", name := "areTwo", desc := "(II)Z" } : Jvm.MethodName)) ∈ lw_tbl := lw_at lw_m9 129 rfl
theorem q2180 : (Jvm.Cond.instanceMethod ({ cls := "UnseenClockModel", name := "areTwo", desc := "(II)Z" } : Jvm.MethodName)) ∈ lw_all := lw_g (lw_at lw_m9 130 rfl) rfl
theorem q2181 : (Jvm.Cond.code ({ cls := "UnseenClockModel", name := "areTwo", desc := "(II)Z" } : Jvm.MethodName) prog_19_method_95_code (3 : Nat) (Option.some Jvm.ClassFile.FieldType.boolean)) ∈ lw_all := lw_g (lw_at lw_m9 131 rfl) rfl
theorem q2183 : (Jvm.Cond.instanceMethod ({ cls := "UnseenClockModel", name := "learns", desc := "(III)I" } : Jvm.MethodName)) ∈ lw_all := lw_g (lw_at lw_m9 133 rfl) rfl
theorem q2184 : (Jvm.Cond.selects "UnseenClockModel" ({ cls := "UnseenClockModel", name := "learns", desc := "(III)I" } : Jvm.MethodName) ({ cls := "UnseenClockModel", name := "learns", desc := "(III)I" } : Jvm.MethodName)) ∈ lw_all := lw_g (lw_at lw_m9 134 rfl) rfl
theorem q2185 : (Jvm.Cond.code ({ cls := "UnseenClockModel", name := "learns", desc := "(III)I" } : Jvm.MethodName) prog_19_method_97_code (6 : Nat) (Option.some Jvm.ClassFile.FieldType.int)) ∈ lw_all := lw_g (lw_at lw_m9 135 rfl) rfl
theorem q2187 : (Jvm.Cond.instanceMethod ({ cls := "UnseenClockModel", name := "sights", desc := "(I)I" } : Jvm.MethodName)) ∈ lw_all := lw_g (lw_at lw_m9 137 rfl) rfl
theorem q2188 : (Jvm.Cond.selects "UnseenClockModel" ({ cls := "UnseenClockModel", name := "sights", desc := "(I)I" } : Jvm.MethodName) ({ cls := "UnseenClockModel", name := "sights", desc := "(I)I" } : Jvm.MethodName)) ∈ lw_all := lw_g (lw_at lw_m9 138 rfl) rfl
theorem q2189 : (Jvm.Cond.code ({ cls := "UnseenClockModel", name := "sights", desc := "(I)I" } : Jvm.MethodName) prog_19_method_98_code (6 : Nat) (Option.some Jvm.ClassFile.FieldType.int)) ∈ lw_all := lw_g (lw_at lw_m9 139 rfl) rfl
theorem q2191 : (Jvm.Cond.instanceMethod ({ cls := "UnseenClockModel", name := "meets", desc := "(II)I" } : Jvm.MethodName)) ∈ lw_all := lw_g (lw_at lw_m9 141 rfl) rfl
theorem q2192 : (Jvm.Cond.selects "UnseenClockModel" ({ cls := "UnseenClockModel", name := "meets", desc := "(II)I" } : Jvm.MethodName) ({ cls := "UnseenClockModel", name := "meets", desc := "(II)I" } : Jvm.MethodName)) ∈ lw_all := lw_g (lw_at lw_m9 142 rfl) rfl
theorem q2193 : (Jvm.Cond.code ({ cls := "UnseenClockModel", name := "meets", desc := "(II)I" } : Jvm.MethodName) prog_19_method_99_code (7 : Nat) (Option.some Jvm.ClassFile.FieldType.int)) ∈ lw_all := lw_g (lw_at lw_m9 143 rfl) rfl
theorem q2195 : (Jvm.Cond.instanceMethod ({ cls := "UnseenClockModel", name := "spots", desc := "(I)I" } : Jvm.MethodName)) ∈ lw_all := lw_g (lw_at lw_m9 145 rfl) rfl
theorem q2196 : (Jvm.Cond.selects "UnseenClockModel" ({ cls := "UnseenClockModel", name := "spots", desc := "(I)I" } : Jvm.MethodName) ({ cls := "UnseenClockModel", name := "spots", desc := "(I)I" } : Jvm.MethodName)) ∈ lw_all := lw_g (lw_at lw_m9 146 rfl) rfl
theorem q2197 : (Jvm.Cond.code ({ cls := "UnseenClockModel", name := "spots", desc := "(I)I" } : Jvm.MethodName) prog_19_method_100_code (5 : Nat) (Option.some Jvm.ClassFile.FieldType.int)) ∈ lw_all := lw_g (lw_at lw_m9 147 rfl) rfl
theorem q2199 : (Jvm.Cond.instanceMethod ({ cls := "UnseenClockModel", name := "when", desc := "(II)I" } : Jvm.MethodName)) ∈ lw_all := lw_g (lw_at lw_m9 149 rfl) rfl
theorem q2200 : (Jvm.Cond.selects "UnseenClockModel" ({ cls := "UnseenClockModel", name := "when", desc := "(II)I" } : Jvm.MethodName) ({ cls := "UnseenClockModel", name := "when", desc := "(II)I" } : Jvm.MethodName)) ∈ lw_all := lw_g (lw_at lw_m9 150 rfl) rfl
theorem q2201 : (Jvm.Cond.code ({ cls := "UnseenClockModel", name := "when", desc := "(II)I" } : Jvm.MethodName) prog_19_method_101_code (4 : Nat) (Option.some Jvm.ClassFile.FieldType.int)) ∈ lw_all := lw_g (lw_at lw_m9 151 rfl) rfl
theorem q2203 : (Jvm.Cond.instanceMethod ({ cls := "UnseenClockModel", name := "hours", desc := "(I)I" } : Jvm.MethodName)) ∈ lw_all := lw_g (lw_at lw_m9 153 rfl) rfl
theorem q2204 : (Jvm.Cond.selects "UnseenClockModel" ({ cls := "UnseenClockModel", name := "hours", desc := "(I)I" } : Jvm.MethodName) ({ cls := "UnseenClockModel", name := "hours", desc := "(I)I" } : Jvm.MethodName)) ∈ lw_all := lw_g (lw_at lw_m9 154 rfl) rfl
theorem q2205 : (Jvm.Cond.code ({ cls := "UnseenClockModel", name := "hours", desc := "(I)I" } : Jvm.MethodName) prog_19_method_102_code (6 : Nat) (Option.some Jvm.ClassFile.FieldType.int)) ∈ lw_all := lw_g (lw_at lw_m9 155 rfl) rfl
theorem q2207 : (Jvm.Cond.instanceMethod ({ cls := "UnseenClockModel", name := "without", desc := "(III)I" } : Jvm.MethodName)) ∈ lw_all := lw_g (lw_at lw_m9 157 rfl) rfl
theorem q2208 : (Jvm.Cond.selects "UnseenClockModel" ({ cls := "UnseenClockModel", name := "without", desc := "(III)I" } : Jvm.MethodName) ({ cls := "UnseenClockModel", name := "without", desc := "(III)I" } : Jvm.MethodName)) ∈ lw_all := lw_g (lw_at lw_m9 158 rfl) rfl
theorem q2209 : (Jvm.Cond.code ({ cls := "UnseenClockModel", name := "without", desc := "(III)I" } : Jvm.MethodName) prog_19_method_103_code (5 : Nat) (Option.some Jvm.ClassFile.FieldType.int)) ∈ lw_all := lw_g (lw_at lw_m9 159 rfl) rfl
theorem q2211 : (Jvm.Cond.instanceMethod ({ cls := "UnseenClockModel", name := "hush", desc := "(IIII)I" } : Jvm.MethodName)) ∈ lw_all := lw_g (lw_at lw_m9 161 rfl) rfl
theorem q2212 : (Jvm.Cond.selects "UnseenClockModel" ({ cls := "UnseenClockModel", name := "hush", desc := "(IIII)I" } : Jvm.MethodName) ({ cls := "UnseenClockModel", name := "hush", desc := "(IIII)I" } : Jvm.MethodName)) ∈ lw_all := lw_g (lw_at lw_m9 162 rfl) rfl
theorem q2213 : (Jvm.Cond.code ({ cls := "UnseenClockModel", name := "hush", desc := "(IIII)I" } : Jvm.MethodName) prog_19_method_105_code (8 : Nat) (Option.some Jvm.ClassFile.FieldType.int)) ∈ lw_all := lw_g (lw_at lw_m9 163 rfl) rfl
theorem q2214 : (Jvm.Cond.methodLink "UnseenClockModel" (458 : Nat) ({ cls := "UnseenClockModel", name := "isBell", desc := "(III)Z" } : Jvm.MethodName)) ∈ lw_all := lw_g (lw_at lw_m9 164 rfl) rfl
theorem q2215 : (Jvm.Cond.privateMethod ({ cls := "UnseenClockModel", name := "isBell", desc := "(III)Z" } : Jvm.MethodName)) ∈ lw_tbl := lw_at lw_m9 165 rfl
theorem q2216 : (Jvm.Cond.instanceMethod ({ cls := "UnseenClockModel", name := "isBell", desc := "(III)Z" } : Jvm.MethodName)) ∈ lw_all := lw_g (lw_at lw_m9 166 rfl) rfl
theorem q2217 : (Jvm.Cond.code ({ cls := "UnseenClockModel", name := "isBell", desc := "(III)Z" } : Jvm.MethodName) prog_19_method_104_code (5 : Nat) (Option.some Jvm.ClassFile.FieldType.boolean)) ∈ lw_all := lw_g (lw_at lw_m9 167 rfl) rfl
theorem q2219 : (Jvm.Cond.instanceMethod ({ cls := "UnseenClockModel", name := "call", desc := "(IZ)I" } : Jvm.MethodName)) ∈ lw_all := lw_g (lw_at lw_m9 169 rfl) rfl
theorem q2220 : (Jvm.Cond.selects "UnseenClockModel" ({ cls := "UnseenClockModel", name := "call", desc := "(IZ)I" } : Jvm.MethodName) ({ cls := "UnseenClockModel", name := "call", desc := "(IZ)I" } : Jvm.MethodName)) ∈ lw_all := lw_g (lw_at lw_m9 170 rfl) rfl
theorem q2221 : (Jvm.Cond.code ({ cls := "UnseenClockModel", name := "call", desc := "(IZ)I" } : Jvm.MethodName) prog_19_method_106_code (4 : Nat) (Option.some Jvm.ClassFile.FieldType.int)) ∈ lw_all := lw_g (lw_at lw_m9 171 rfl) rfl
theorem q2223 : (Jvm.Cond.instanceMethod ({ cls := "UnseenClockModel", name := "away", desc := "(IIII)I" } : Jvm.MethodName)) ∈ lw_all := lw_g (lw_at lw_m9 173 rfl) rfl
theorem q2224 : (Jvm.Cond.selects "UnseenClockModel" ({ cls := "UnseenClockModel", name := "away", desc := "(IIII)I" } : Jvm.MethodName) ({ cls := "UnseenClockModel", name := "away", desc := "(IIII)I" } : Jvm.MethodName)) ∈ lw_all := lw_g (lw_at lw_m9 174 rfl) rfl
theorem q2225 : (Jvm.Cond.code ({ cls := "UnseenClockModel", name := "away", desc := "(IIII)I" } : Jvm.MethodName) prog_19_method_108_code (6 : Nat) (Option.some Jvm.ClassFile.FieldType.int)) ∈ lw_all := lw_g (lw_at lw_m9 175 rfl) rfl
theorem q2226 : (Jvm.Cond.methodLink "UnseenClockModel" (461 : Nat) ({ cls := "UnseenClockModel", name := "awayOf", desc := "(III)I" } : Jvm.MethodName)) ∈ lw_all := lw_g (lw_at lw_m9 176 rfl) rfl
theorem q2227 : (Jvm.Cond.privateMethod ({ cls := "UnseenClockModel", name := "awayOf", desc := "(III)I" } : Jvm.MethodName)) ∈ lw_tbl := lw_at lw_m9 177 rfl
theorem q2228 : (Jvm.Cond.instanceMethod ({ cls := "UnseenClockModel", name := "awayOf", desc := "(III)I" } : Jvm.MethodName)) ∈ lw_all := lw_g (lw_at lw_m9 178 rfl) rfl
theorem q2229 : (Jvm.Cond.code ({ cls := "UnseenClockModel", name := "awayOf", desc := "(III)I" } : Jvm.MethodName) prog_19_method_107_code (7 : Nat) (Option.some Jvm.ClassFile.FieldType.int)) ∈ lw_all := lw_g (lw_at lw_m9 179 rfl) rfl
theorem q2231 : (Jvm.Cond.instanceMethod ({ cls := "UnseenClockModel", name := "kept", desc := "(III)I" } : Jvm.MethodName)) ∈ lw_all := lw_g (lw_at lw_m9 181 rfl) rfl
theorem q2232 : (Jvm.Cond.selects "UnseenClockModel" ({ cls := "UnseenClockModel", name := "kept", desc := "(III)I" } : Jvm.MethodName) ({ cls := "UnseenClockModel", name := "kept", desc := "(III)I" } : Jvm.MethodName)) ∈ lw_all := lw_g (lw_at lw_m9 182 rfl) rfl
theorem q2233 : (Jvm.Cond.code ({ cls := "UnseenClockModel", name := "kept", desc := "(III)I" } : Jvm.MethodName) prog_19_method_110_code (4 : Nat) (Option.some Jvm.ClassFile.FieldType.int)) ∈ lw_all := lw_g (lw_at lw_m9 183 rfl) rfl
theorem q2234 : (Jvm.Cond.constantLong "UnseenClockModel" (464 : Nat) (40 : Int64)) ∈ lw_all := lw_g (lw_at lw_m9 184 rfl) rfl
theorem q2235 : (Jvm.Cond.methodLink "UnseenClockModel" (466 : Nat) ({ cls := "UnseenClockModel", name := "keptAt", desc := "(III)I" } : Jvm.MethodName)) ∈ lw_all := lw_g (lw_at lw_m9 185 rfl) rfl
theorem q2236 : (Jvm.Cond.privateMethod ({ cls := "UnseenClockModel", name := "keptAt", desc := "(III)I" } : Jvm.MethodName)) ∈ lw_tbl := lw_at lw_m9 186 rfl
theorem q2237 : (Jvm.Cond.instanceMethod ({ cls := "UnseenClockModel", name := "keptAt", desc := "(III)I" } : Jvm.MethodName)) ∈ lw_all := lw_g (lw_at lw_m9 187 rfl) rfl
theorem q2238 : (Jvm.Cond.code ({ cls := "UnseenClockModel", name := "keptAt", desc := "(III)I" } : Jvm.MethodName) prog_19_method_109_code (4 : Nat) (Option.some Jvm.ClassFile.FieldType.int)) ∈ lw_all := lw_g (lw_at lw_m9 188 rfl) rfl
theorem q2240 : (Jvm.Cond.instanceMethod ({ cls := "UnseenClockModel", name := "keep", desc := "(III)I" } : Jvm.MethodName)) ∈ lw_all := lw_g (lw_at lw_m9 190 rfl) rfl
theorem q2241 : (Jvm.Cond.selects "UnseenClockModel" ({ cls := "UnseenClockModel", name := "keep", desc := "(III)I" } : Jvm.MethodName) ({ cls := "UnseenClockModel", name := "keep", desc := "(III)I" } : Jvm.MethodName)) ∈ lw_all := lw_g (lw_at lw_m9 191 rfl) rfl
theorem q2242 : (Jvm.Cond.code ({ cls := "UnseenClockModel", name := "keep", desc := "(III)I" } : Jvm.MethodName) prog_19_method_112_code (4 : Nat) (Option.some Jvm.ClassFile.FieldType.int)) ∈ lw_all := lw_g (lw_at lw_m9 192 rfl) rfl
theorem q2243 : (Jvm.Cond.methodLink "UnseenClockModel" (469 : Nat) ({ cls := "UnseenClockModel", name := "leastKept", desc := "(III)I" } : Jvm.MethodName)) ∈ lw_all := lw_g (lw_at lw_m9 193 rfl) rfl
theorem q2244 : (Jvm.Cond.privateMethod ({ cls := "UnseenClockModel", name := "leastKept", desc := "(III)I" } : Jvm.MethodName)) ∈ lw_tbl := lw_at lw_m9 194 rfl
theorem q2245 : (Jvm.Cond.instanceMethod ({ cls := "UnseenClockModel", name := "leastKept", desc := "(III)I" } : Jvm.MethodName)) ∈ lw_all := lw_g (lw_at lw_m9 195 rfl) rfl
theorem q2246 : (Jvm.Cond.code ({ cls := "UnseenClockModel", name := "leastKept", desc := "(III)I" } : Jvm.MethodName) prog_19_method_111_code (5 : Nat) (Option.some Jvm.ClassFile.FieldType.int)) ∈ lw_all := lw_g (lw_at lw_m9 196 rfl) rfl
theorem q2248 : (Jvm.Cond.instanceMethod ({ cls := "UnseenClockModel", name := "shifts", desc := "(IIII)I" } : Jvm.MethodName)) ∈ lw_all := lw_g (lw_at lw_m9 198 rfl) rfl
theorem q2249 : (Jvm.Cond.selects "UnseenClockModel" ({ cls := "UnseenClockModel", name := "shifts", desc := "(IIII)I" } : Jvm.MethodName) ({ cls := "UnseenClockModel", name := "shifts", desc := "(IIII)I" } : Jvm.MethodName)) ∈ lw_all := lw_g (lw_at lw_m9 199 rfl) rfl
theorem q2250 : (Jvm.Cond.code ({ cls := "UnseenClockModel", name := "shifts", desc := "(IIII)I" } : Jvm.MethodName) prog_19_method_113_code (6 : Nat) (Option.some Jvm.ClassFile.FieldType.int)) ∈ lw_all := lw_g (lw_at lw_m9 200 rfl) rfl
theorem q2252 : (Jvm.Cond.instanceMethod ({ cls := "UnseenClockModel", name := "last", desc := "(III)I" } : Jvm.MethodName)) ∈ lw_all := lw_g (lw_at lw_m9 202 rfl) rfl
theorem q2253 : (Jvm.Cond.selects "UnseenClockModel" ({ cls := "UnseenClockModel", name := "last", desc := "(III)I" } : Jvm.MethodName) ({ cls := "UnseenClockModel", name := "last", desc := "(III)I" } : Jvm.MethodName)) ∈ lw_all := lw_g (lw_at lw_m9 203 rfl) rfl
theorem q2254 : (Jvm.Cond.code ({ cls := "UnseenClockModel", name := "last", desc := "(III)I" } : Jvm.MethodName) prog_19_method_114_code (4 : Nat) (Option.some Jvm.ClassFile.FieldType.int)) ∈ lw_all := lw_g (lw_at lw_m9 204 rfl) rfl
theorem q2256 : (Jvm.Cond.instanceMethod ({ cls := "UnseenClockModel", name := "all", desc := "(III)I" } : Jvm.MethodName)) ∈ lw_all := lw_g (lw_at lw_m9 206 rfl) rfl
theorem q2257 : (Jvm.Cond.selects "UnseenClockModel" ({ cls := "UnseenClockModel", name := "all", desc := "(III)I" } : Jvm.MethodName) ({ cls := "UnseenClockModel", name := "all", desc := "(III)I" } : Jvm.MethodName)) ∈ lw_all := lw_g (lw_at lw_m9 207 rfl) rfl
theorem q2258 : (Jvm.Cond.code ({ cls := "UnseenClockModel", name := "all", desc := "(III)I" } : Jvm.MethodName) prog_19_method_115_code (6 : Nat) (Option.some Jvm.ClassFile.FieldType.int)) ∈ lw_all := lw_g (lw_at lw_m9 208 rfl) rfl
theorem q2260 : (Jvm.Cond.instanceMethod ({ cls := "UnseenClockModel", name := "pace", desc := "(III)I" } : Jvm.MethodName)) ∈ lw_all := lw_g (lw_at lw_m9 210 rfl) rfl
theorem q2261 : (Jvm.Cond.selects "UnseenClockModel" ({ cls := "UnseenClockModel", name := "pace", desc := "(III)I" } : Jvm.MethodName) ({ cls := "UnseenClockModel", name := "pace", desc := "(III)I" } : Jvm.MethodName)) ∈ lw_all := lw_g (lw_at lw_m9 211 rfl) rfl
theorem q2262 : (Jvm.Cond.code ({ cls := "UnseenClockModel", name := "pace", desc := "(III)I" } : Jvm.MethodName) prog_19_method_116_code (8 : Nat) (Option.some Jvm.ClassFile.FieldType.int)) ∈ lw_all := lw_g (lw_at lw_m9 212 rfl) rfl
theorem q2264 : (Jvm.Cond.instanceMethod ({ cls := "UnseenClockModel", name := "mends", desc := "(II)I" } : Jvm.MethodName)) ∈ lw_all := lw_g (lw_at lw_m9 214 rfl) rfl
theorem q2265 : (Jvm.Cond.selects "UnseenClockModel" ({ cls := "UnseenClockModel", name := "mends", desc := "(II)I" } : Jvm.MethodName) ({ cls := "UnseenClockModel", name := "mends", desc := "(II)I" } : Jvm.MethodName)) ∈ lw_all := lw_g (lw_at lw_m9 215 rfl) rfl
theorem q2266 : (Jvm.Cond.code ({ cls := "UnseenClockModel", name := "mends", desc := "(II)I" } : Jvm.MethodName) prog_19_method_117_code (4 : Nat) (Option.some Jvm.ClassFile.FieldType.int)) ∈ lw_all := lw_g (lw_at lw_m9 216 rfl) rfl
theorem q2267 : (Jvm.Cond.constantLong "UnseenClockModel" (472 : Nat) (60 : Int64)) ∈ lw_all := lw_g (lw_at lw_m9 217 rfl) rfl
theorem q2269 : (Jvm.Cond.instanceMethod ({ cls := "UnseenClockModel", name := "day", desc := "(III)I" } : Jvm.MethodName)) ∈ lw_all := lw_g (lw_at lw_m9 219 rfl) rfl
theorem q2270 : (Jvm.Cond.selects "UnseenClockModel" ({ cls := "UnseenClockModel", name := "day", desc := "(III)I" } : Jvm.MethodName) ({ cls := "UnseenClockModel", name := "day", desc := "(III)I" } : Jvm.MethodName)) ∈ lw_all := lw_g (lw_at lw_m9 220 rfl) rfl
theorem q2271 : (Jvm.Cond.code ({ cls := "UnseenClockModel", name := "day", desc := "(III)I" } : Jvm.MethodName) prog_19_method_119_code (4 : Nat) (Option.some Jvm.ClassFile.FieldType.int)) ∈ lw_all := lw_g (lw_at lw_m9 221 rfl) rfl
theorem q2272 : (Jvm.Cond.constantLong "UnseenClockModel" (474 : Nat) (2000000000 : Int64)) ∈ lw_all := lw_g (lw_at lw_m9 222 rfl) rfl
theorem q2273 : (Jvm.Cond.methodLink "UnseenClockModel" (476 : Nat) ({ cls := "UnseenClockModel", name := "dayOf", desc := "(JII)I" } : Jvm.MethodName)) ∈ lw_all := lw_g (lw_at lw_m9 223 rfl) rfl
theorem q2274 : (Jvm.Cond.privateMethod ({ cls := "UnseenClockModel", name := "dayOf", desc := "(JII)I" } : Jvm.MethodName)) ∈ lw_tbl := lw_at lw_m9 224 rfl
theorem q2275 : (Jvm.Cond.instanceMethod ({ cls := "UnseenClockModel", name := "dayOf", desc := "(JII)I" } : Jvm.MethodName)) ∈ lw_all := lw_g (lw_at lw_m9 225 rfl) rfl
theorem q2276 : (Jvm.Cond.code ({ cls := "UnseenClockModel", name := "dayOf", desc := "(JII)I" } : Jvm.MethodName) prog_19_method_118_code (5 : Nat) (Option.some Jvm.ClassFile.FieldType.int)) ∈ lw_all := lw_g (lw_at lw_m9 226 rfl) rfl
theorem q2278 : (Jvm.Cond.instanceMethod ({ cls := "UnseenClockModel", name := "days", desc := "(IIIII)I" } : Jvm.MethodName)) ∈ lw_all := lw_g (lw_at lw_m9 228 rfl) rfl
theorem q2279 : (Jvm.Cond.selects "UnseenClockModel" ({ cls := "UnseenClockModel", name := "days", desc := "(IIIII)I" } : Jvm.MethodName) ({ cls := "UnseenClockModel", name := "days", desc := "(IIIII)I" } : Jvm.MethodName)) ∈ lw_all := lw_g (lw_at lw_m9 229 rfl) rfl
theorem q2280 : (Jvm.Cond.code ({ cls := "UnseenClockModel", name := "days", desc := "(IIIII)I" } : Jvm.MethodName) prog_19_method_120_code (8 : Nat) (Option.some Jvm.ClassFile.FieldType.int)) ∈ lw_all := lw_g (lw_at lw_m9 230 rfl) rfl
theorem q2281 : (Jvm.Cond.constantLong "UnseenClockModel" (480 : Nat) (20 : Int64)) ∈ lw_all := lw_g (lw_at lw_m9 231 rfl) rfl
theorem q2283 : (Jvm.Cond.instanceMethod ({ cls := "UnseenClockModel", name := "count", desc := "(I)I" } : Jvm.MethodName)) ∈ lw_all := lw_g (lw_at lw_m9 233 rfl) rfl
theorem q2284 : (Jvm.Cond.selects "UnseenClockModel" ({ cls := "UnseenClockModel", name := "count", desc := "(I)I" } : Jvm.MethodName) ({ cls := "UnseenClockModel", name := "count", desc := "(I)I" } : Jvm.MethodName)) ∈ lw_all := lw_g (lw_at lw_m9 234 rfl) rfl
theorem q2285 : (Jvm.Cond.code ({ cls := "UnseenClockModel", name := "count", desc := "(I)I" } : Jvm.MethodName) prog_19_method_121_code (4 : Nat) (Option.some Jvm.ClassFile.FieldType.int)) ∈ lw_all := lw_g (lw_at lw_m9 235 rfl) rfl
theorem q2287 : (Jvm.Cond.instanceMethod ({ cls := "UnseenClockModel", name := "row", desc := "(III)I" } : Jvm.MethodName)) ∈ lw_all := lw_g (lw_at lw_m9 237 rfl) rfl
theorem q2288 : (Jvm.Cond.selects "UnseenClockModel" ({ cls := "UnseenClockModel", name := "row", desc := "(III)I" } : Jvm.MethodName) ({ cls := "UnseenClockModel", name := "row", desc := "(III)I" } : Jvm.MethodName)) ∈ lw_all := lw_g (lw_at lw_m9 238 rfl) rfl
theorem q2289 : (Jvm.Cond.code ({ cls := "UnseenClockModel", name := "row", desc := "(III)I" } : Jvm.MethodName) prog_19_method_124_code (5 : Nat) (Option.some Jvm.ClassFile.FieldType.int)) ∈ lw_all := lw_g (lw_at lw_m9 239 rfl) rfl
theorem q2291 : (Jvm.Cond.instanceMethod ({ cls := "UnseenClockModel", name := "write", desc := "(IIJ)I" } : Jvm.MethodName)) ∈ lw_all := lw_g (lw_at lw_m10 1 rfl) rfl
theorem q2292 : (Jvm.Cond.selects "UnseenClockModel" ({ cls := "UnseenClockModel", name := "write", desc := "(IIJ)I" } : Jvm.MethodName) ({ cls := "UnseenClockModel", name := "write", desc := "(IIJ)I" } : Jvm.MethodName)) ∈ lw_all := lw_g (lw_at lw_m10 2 rfl) rfl
theorem q2293 : (Jvm.Cond.code ({ cls := "UnseenClockModel", name := "write", desc := "(IIJ)I" } : Jvm.MethodName) prog_19_method_125_code (5 : Nat) (Option.some Jvm.ClassFile.FieldType.int)) ∈ lw_all := lw_g (lw_at lw_m10 3 rfl) rfl
theorem q2294 : (Jvm.Cond.methodLink "UnseenClockModel" (484 : Nat) ({ cls := "UnseenClockModel", name := "cut", desc := "(JI)J" } : Jvm.MethodName)) ∈ lw_all := lw_g (lw_at lw_m10 4 rfl) rfl
theorem q2295 : (Jvm.Cond.static ({ cls := "UnseenClockModel", name := "cut", desc := "(JI)J" } : Jvm.MethodName)) ∈ lw_all := lw_g (lw_at lw_m10 5 rfl) rfl
theorem q2296 : (Jvm.Cond.code ({ cls := "UnseenClockModel", name := "cut", desc := "(JI)J" } : Jvm.MethodName) prog_19_method_123_code (4 : Nat) (Option.some Jvm.ClassFile.FieldType.long)) ∈ lw_all := lw_g (lw_at lw_m10 6 rfl) rfl
theorem q2298 : (Jvm.Cond.instanceMethod ({ cls := "UnseenClockModel", name := "paste", desc := "(IIIII)I" } : Jvm.MethodName)) ∈ lw_all := lw_g (lw_at lw_m10 8 rfl) rfl
theorem q2299 : (Jvm.Cond.selects "UnseenClockModel" ({ cls := "UnseenClockModel", name := "paste", desc := "(IIIII)I" } : Jvm.MethodName) ({ cls := "UnseenClockModel", name := "paste", desc := "(IIIII)I" } : Jvm.MethodName)) ∈ lw_all := lw_g (lw_at lw_m10 9 rfl) rfl
theorem q2300 : (Jvm.Cond.code ({ cls := "UnseenClockModel", name := "paste", desc := "(IIIII)I" } : Jvm.MethodName) prog_19_method_126_code (7 : Nat) (Option.some Jvm.ClassFile.FieldType.int)) ∈ lw_all := lw_g (lw_at lw_m10 10 rfl) rfl
theorem q2316 : (Jvm.Cond.castable "UnseenClockModel" "java/lang/Object") ∈ lw_tbl := lw_at lw_m10 26 rfl
theorem in_X4 : ∀ w ∈ wsX40, w ∈ lw_all := lw_in wsX40 [1679, 1681, 1683, 1685, 1687, 1689, 1691, 1693, 1695, 1697, 1699, 1701, 1703, 1705, 1707, 1709, 1711, 1713, 1715, 1717, 1719, 1721, 1723, 1725, 1727, 1729, 1731, 1733, 1735, 1737, 1739, 1741, 1743, 1745, 1747, 1749, 1751, 1753, 1755, 1757, 1759] (by decide +kernel) (by decide +kernel)
