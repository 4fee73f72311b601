/-! FlashZonesModel -/
set_option maxRecDepth 100000
def RX5 : String := "FlashZonesModel"
def TX5 : u_T := fun k => match k with
  | 0 => ("FlashZonesModel", "thrown", "I", false)
  | 1 => ("FlashZonesModel", "now", "[I", true)
  | 2 => ("FlashZonesModel", "aside", "[I", true)
  | 3 => ("FlashZonesModel", "tried", "[I", true)
  | 4 => ("FlashZonesModel", "undos", "[I", true)
  | 5 => ("FlashZonesModel", "undoMany", "I", false)
  | 6 => ("FlashZonesModel", "saved", "[I", true)
  | 7 => ("FlashZonesModel", "isSaved", "[Z", true)
  | 8 => ("FlashZonesModel", "accounts", "[I", true)
  | 9 => ("FlashZonesModel", "way", "I", false)
  | 10 => ("FlashZonesModel", "leftOut", "I", false)
  | 11 => ("FlashZonesModel", "here", "[I", true)
  | 12 => ("FlashZonesModel", "text", "[B", true)
  | 13 => ("FlashZonesModel", "length", "I", false)
  | 14 => ("FlashZonesModel", "at", "I", false)
  | 15 => ("FlashZonesModel", "from", "I", false)
  | 16 => ("FlashZonesModel", "token", "I", false)
  | 17 => ("FlashZonesModel", "number", "I", false)
  | 18 => ("FlashZonesModel", "error", "I", false)
  | 19 => ("FlashZonesModel", "errorAt", "I", false)
  | 20 => ("FlashZonesModel", "words", "[B", true)
  | 21 => ("FlashZonesModel", "commands", "I", false)
  | 22 => ("FlashZonesModel", "command", "[I", true)
  | 23 => ("FlashZonesModel", "out", "[B", true)
  | _ => ("FlashZonesModel", "outLong", "I", false)
def tyX5 : Nat → FieldType := fun k => match k with
  | 0 => .int
  | 1 => .array .int
  | 2 => .array .int
  | 3 => .array .int
  | 4 => .array .int
  | 5 => .int
  | 6 => .array .int
  | 7 => .array .boolean
  | 8 => .array .int
  | 9 => .int
  | 10 => .int
  | 11 => .array .int
  | 12 => .array .byte
  | 13 => .int
  | 14 => .int
  | 15 => .int
  | 16 => .int
  | 17 => .int
  | 18 => .int
  | 19 => .int
  | 20 => .array .byte
  | 21 => .int
  | 22 => .array .int
  | 23 => .array .byte
  | _ => .int
abbrev wsX50 : List Cond := u_ws RX5 TX5 25
set_option maxRecDepth 100000 in
theorem nmX5 : ∀ a, a < 25 → ∀ b, b < 25 → a ≠ b → (TX5 a).2.1 ≠ (TX5 b).2.1 := by decide +kernel
set_option maxRecDepth 100000 in
theorem tyX5_ok : ∀ k, k < 25 → parseFieldDescriptor (TX5 k).2.2.1 = some (tyX5 k) := by decide +kernel
abbrev cX5_init : ByteArray := prog_14_method_1_code
def yX5_init : MethodName := ⟨RX5, "<init>", "()V"⟩
def dkwX5_init_14 : List UInt8 := [79, 42, 180, 0, 7, 8, 16, 20, 79, 42, 182, 0, 55, 177]
abbrev dktX5_init_14 : List UInt8 := dkwX5_init_14 ++ []
def dkwX5_init_13 : List UInt8 := [4, 7, 79, 42, 180, 0, 7, 5, 7, 79, 42, 180, 0, 7, 6, 5, 79, 42, 180, 0, 7, 7, 16, 10]
abbrev dktX5_init_13 : List UInt8 := dkwX5_init_13 ++ dktX5_init_14
def dkwX5_init_12 : List UInt8 := [181, 0, 49, 42, 17, 8, 0, 188, 8, 181, 0, 52, 42, 180, 0, 7, 3, 16, 6, 79, 42, 180, 0, 7]
abbrev dktX5_init_12 : List UInt8 := dkwX5_init_12 ++ dktX5_init_13
def dkwX5_init_11 : List UInt8 := [16, 101, 84, 89, 16, 29, 16, 101, 84, 89, 16, 30, 16, 32, 84, 181, 0, 46, 42, 17, 0, 244, 188, 10]
abbrev dktX5_init_11 : List UInt8 := dkwX5_init_11 ++ dktX5_init_12
def dkwX5_init_10 : List UInt8 := [16, 115, 84, 89, 16, 25, 16, 32, 84, 89, 16, 26, 16, 102, 84, 89, 16, 27, 16, 114, 84, 89, 16, 28]
abbrev dktX5_init_10 : List UInt8 := dkwX5_init_10 ++ dktX5_init_11
def dkwX5_init_9 : List UInt8 := [16, 32, 84, 89, 16, 21, 16, 100, 84, 89, 16, 22, 16, 97, 84, 89, 16, 23, 16, 121, 84, 89, 16, 24]
abbrev dktX5_init_9 : List UInt8 := dkwX5_init_9 ++ dktX5_init_10
def dkwX5_init_8 : List UInt8 := [16, 98, 84, 89, 16, 17, 16, 117, 84, 89, 16, 18, 16, 114, 84, 89, 16, 19, 16, 121, 84, 89, 16, 20]
abbrev dktX5_init_8 : List UInt8 := dkwX5_init_8 ++ dktX5_init_9
def dkwX5_init_7 : List UInt8 := [16, 115, 84, 89, 16, 13, 16, 101, 84, 89, 16, 14, 16, 116, 84, 89, 16, 15, 16, 32, 84, 89, 16, 16]
abbrev dktX5_init_7 : List UInt8 := dkwX5_init_7 ++ dktX5_init_8
def dkwX5_init_6 : List UInt8 := [16, 101, 84, 89, 16, 9, 16, 32, 84, 89, 16, 10, 16, 114, 84, 89, 16, 11, 16, 101, 84, 89, 16, 12]
abbrev dktX5_init_6 : List UInt8 := dkwX5_init_6 ++ dktX5_init_7
def dkwX5_init_5 : List UInt8 := [16, 101, 84, 89, 8, 16, 32, 84, 89, 16, 6, 16, 100, 84, 89, 16, 7, 16, 105, 84, 89, 16, 8]
abbrev dktX5_init_5 : List UInt8 := dkwX5_init_5 ++ dktX5_init_6
def dkwX5_init_4 : List UInt8 := [188, 8, 89, 3, 16, 119, 84, 89, 4, 16, 114, 84, 89, 5, 16, 105, 84, 89, 6, 16, 116, 84, 89, 7]
abbrev dktX5_init_4 : List UInt8 := dkwX5_init_4 ++ dktX5_init_5
def dkwX5_init_3 : List UInt8 := [16, 99, 188, 10, 181, 0, 36, 42, 17, 2, 188, 188, 8, 181, 0, 39, 42, 2, 181, 0, 43, 42, 16, 31]
abbrev dktX5_init_3 : List UInt8 := dkwX5_init_3 ++ dktX5_init_4
def dkwX5_init_2 : List UInt8 := [181, 0, 22, 42, 5, 188, 4, 181, 0, 25, 42, 16, 8, 188, 10, 181, 0, 29, 42, 8, 181, 0, 32, 42]
abbrev dktX5_init_2 : List UInt8 := dkwX5_init_2 ++ dktX5_init_3
def dkwX5_init_1 : List UInt8 := [17, 9, 158, 188, 10, 181, 0, 16, 42, 17, 76, 240, 188, 10, 181, 0, 19, 42, 17, 19, 60, 188, 10]
abbrev dktX5_init_1 : List UInt8 := dkwX5_init_1 ++ dktX5_init_2
def dkwX5_init_0 : List UInt8 := [42, 183, 0, 1, 42, 17, 9, 158, 188, 10, 181, 0, 7, 42, 17, 9, 158, 188, 10, 181, 0, 13, 42]
abbrev dktX5_init_0 : List UInt8 := dkwX5_init_0 ++ dktX5_init_1
theorem dksX5_init_0 : cX5_init.data.toList.drop 0 = dktX5_init_0 := by decide +kernel
theorem dksX5_init_1 : cX5_init.data.toList.drop 23 = dktX5_init_1 := dk_seg dksX5_init_0 23 rfl rfl
theorem dksX5_init_2 : cX5_init.data.toList.drop 46 = dktX5_init_2 := dk_seg dksX5_init_1 23 rfl rfl
theorem dksX5_init_3 : cX5_init.data.toList.drop 70 = dktX5_init_3 := dk_seg dksX5_init_2 24 rfl rfl
theorem dksX5_init_4 : cX5_init.data.toList.drop 94 = dktX5_init_4 := dk_seg dksX5_init_3 24 rfl rfl
theorem dksX5_init_5 : cX5_init.data.toList.drop 118 = dktX5_init_5 := dk_seg dksX5_init_4 24 rfl rfl
theorem dksX5_init_6 : cX5_init.data.toList.drop 141 = dktX5_init_6 := dk_seg dksX5_init_5 23 rfl rfl
theorem dksX5_init_7 : cX5_init.data.toList.drop 165 = dktX5_init_7 := dk_seg dksX5_init_6 24 rfl rfl
theorem dksX5_init_8 : cX5_init.data.toList.drop 189 = dktX5_init_8 := dk_seg dksX5_init_7 24 rfl rfl
theorem dksX5_init_9 : cX5_init.data.toList.drop 213 = dktX5_init_9 := dk_seg dksX5_init_8 24 rfl rfl
theorem dksX5_init_10 : cX5_init.data.toList.drop 237 = dktX5_init_10 := dk_seg dksX5_init_9 24 rfl rfl
theorem dksX5_init_11 : cX5_init.data.toList.drop 261 = dktX5_init_11 := dk_seg dksX5_init_10 24 rfl rfl
theorem dksX5_init_12 : cX5_init.data.toList.drop 285 = dktX5_init_12 := dk_seg dksX5_init_11 24 rfl rfl
theorem dksX5_init_13 : cX5_init.data.toList.drop 309 = dktX5_init_13 := dk_seg dksX5_init_12 24 rfl rfl
theorem dksX5_init_14 : cX5_init.data.toList.drop 333 = dktX5_init_14 := dk_seg dksX5_init_13 24 rfl rfl
theorem dX5_init_0 : decode cX5_init 0 = .ok (.aload_n 0, 1) := dk_42 (dk_at dksX5_init_0 0 rfl rfl)
theorem dX5_init_1 : decode cX5_init 1 = .ok (.invokespecial 1, 3) := dk_183 0 1 (dk_at dksX5_init_0 1 rfl rfl)
theorem dX5_init_4 : decode cX5_init 4 = .ok (.aload_n 0, 1) := dk_42 (dk_at dksX5_init_0 4 rfl rfl)
theorem dX5_init_5 : decode cX5_init 5 = .ok (.sipush 2462, 3) := dk_17 9 158 (dk_at dksX5_init_0 5 rfl rfl)
theorem dX5_init_8 : decode cX5_init 8 = .ok (.newarray .int, 2) := dk_188_10 (dk_at dksX5_init_0 8 rfl rfl)
theorem dX5_init_10 : decode cX5_init 10 = .ok (.putfield 7, 3) := dk_181 0 7 (dk_at dksX5_init_0 10 rfl rfl)
theorem dX5_init_13 : decode cX5_init 13 = .ok (.aload_n 0, 1) := dk_42 (dk_at dksX5_init_0 13 rfl rfl)
theorem dX5_init_14 : decode cX5_init 14 = .ok (.sipush 2462, 3) := dk_17 9 158 (dk_at dksX5_init_0 14 rfl rfl)
theorem dX5_init_17 : decode cX5_init 17 = .ok (.newarray .int, 2) := dk_188_10 (dk_at dksX5_init_0 17 rfl rfl)
theorem dX5_init_19 : decode cX5_init 19 = .ok (.putfield 13, 3) := dk_181 0 13 (dk_at dksX5_init_0 19 rfl rfl)
theorem dX5_init_22 : decode cX5_init 22 = .ok (.aload_n 0, 1) := dk_42 (dk_at dksX5_init_0 22 rfl rfl)
theorem dX5_init_23 : decode cX5_init 23 = .ok (.sipush 2462, 3) := dk_17 9 158 (dk_at dksX5_init_1 0 rfl rfl)
theorem dX5_init_26 : decode cX5_init 26 = .ok (.newarray .int, 2) := dk_188_10 (dk_at dksX5_init_1 3 rfl rfl)
theorem dX5_init_28 : decode cX5_init 28 = .ok (.putfield 16, 3) := dk_181 0 16 (dk_at dksX5_init_1 5 rfl rfl)
theorem dX5_init_31 : decode cX5_init 31 = .ok (.aload_n 0, 1) := dk_42 (dk_at dksX5_init_1 8 rfl rfl)
theorem dX5_init_32 : decode cX5_init 32 = .ok (.sipush 19696, 3) := dk_17 76 240 (dk_at dksX5_init_1 9 rfl rfl)
theorem dX5_init_35 : decode cX5_init 35 = .ok (.newarray .int, 2) := dk_188_10 (dk_at dksX5_init_1 12 rfl rfl)
theorem dX5_init_37 : decode cX5_init 37 = .ok (.putfield 19, 3) := dk_181 0 19 (dk_at dksX5_init_1 14 rfl rfl)
theorem dX5_init_40 : decode cX5_init 40 = .ok (.aload_n 0, 1) := dk_42 (dk_at dksX5_init_1 17 rfl rfl)
theorem dX5_init_41 : decode cX5_init 41 = .ok (.sipush 4924, 3) := dk_17 19 60 (dk_at dksX5_init_1 18 rfl rfl)
theorem dX5_init_44 : decode cX5_init 44 = .ok (.newarray .int, 2) := dk_188_10 (dk_at dksX5_init_1 21 rfl rfl)
theorem dX5_init_46 : decode cX5_init 46 = .ok (.putfield 22, 3) := dk_181 0 22 (dk_at dksX5_init_2 0 rfl rfl)
theorem dX5_init_49 : decode cX5_init 49 = .ok (.aload_n 0, 1) := dk_42 (dk_at dksX5_init_2 3 rfl rfl)
theorem dX5_init_50 : decode cX5_init 50 = .ok (.iconst 2, 1) := dk_5 (dk_at dksX5_init_2 4 rfl rfl)
theorem dX5_init_51 : decode cX5_init 51 = .ok (.newarray .boolean, 2) := dk_188_4 (dk_at dksX5_init_2 5 rfl rfl)
theorem dX5_init_53 : decode cX5_init 53 = .ok (.putfield 25, 3) := dk_181 0 25 (dk_at dksX5_init_2 7 rfl rfl)
theorem dX5_init_56 : decode cX5_init 56 = .ok (.aload_n 0, 1) := dk_42 (dk_at dksX5_init_2 10 rfl rfl)
theorem dX5_init_57 : decode cX5_init 57 = .ok (.bipush 8, 2) := dk_16 8 (dk_at dksX5_init_2 11 rfl rfl)
theorem dX5_init_59 : decode cX5_init 59 = .ok (.newarray .int, 2) := dk_188_10 (dk_at dksX5_init_2 13 rfl rfl)
theorem dX5_init_61 : decode cX5_init 61 = .ok (.putfield 29, 3) := dk_181 0 29 (dk_at dksX5_init_2 15 rfl rfl)
theorem dX5_init_64 : decode cX5_init 64 = .ok (.aload_n 0, 1) := dk_42 (dk_at dksX5_init_2 18 rfl rfl)
theorem dX5_init_65 : decode cX5_init 65 = .ok (.iconst 5, 1) := dk_8 (dk_at dksX5_init_2 19 rfl rfl)
theorem dX5_init_66 : decode cX5_init 66 = .ok (.putfield 32, 3) := dk_181 0 32 (dk_at dksX5_init_2 20 rfl rfl)
theorem dX5_init_69 : decode cX5_init 69 = .ok (.aload_n 0, 1) := dk_42 (dk_at dksX5_init_2 23 rfl rfl)
theorem dX5_init_70 : decode cX5_init 70 = .ok (.bipush 99, 2) := dk_16 99 (dk_at dksX5_init_3 0 rfl rfl)
theorem dX5_init_72 : decode cX5_init 72 = .ok (.newarray .int, 2) := dk_188_10 (dk_at dksX5_init_3 2 rfl rfl)
theorem dX5_init_74 : decode cX5_init 74 = .ok (.putfield 36, 3) := dk_181 0 36 (dk_at dksX5_init_3 4 rfl rfl)
theorem dX5_init_77 : decode cX5_init 77 = .ok (.aload_n 0, 1) := dk_42 (dk_at dksX5_init_3 7 rfl rfl)
theorem dX5_init_78 : decode cX5_init 78 = .ok (.sipush 700, 3) := dk_17 2 188 (dk_at dksX5_init_3 8 rfl rfl)
theorem dX5_init_81 : decode cX5_init 81 = .ok (.newarray .byte, 2) := dk_188_8 (dk_at dksX5_init_3 11 rfl rfl)
theorem dX5_init_83 : decode cX5_init 83 = .ok (.putfield 39, 3) := dk_181 0 39 (dk_at dksX5_init_3 13 rfl rfl)
theorem dX5_init_86 : decode cX5_init 86 = .ok (.aload_n 0, 1) := dk_42 (dk_at dksX5_init_3 16 rfl rfl)
theorem dX5_init_87 : decode cX5_init 87 = .ok (.iconst (-1), 1) := dk_2 (dk_at dksX5_init_3 17 rfl rfl)
theorem dX5_init_88 : decode cX5_init 88 = .ok (.putfield 43, 3) := dk_181 0 43 (dk_at dksX5_init_3 18 rfl rfl)
theorem dX5_init_91 : decode cX5_init 91 = .ok (.aload_n 0, 1) := dk_42 (dk_at dksX5_init_3 21 rfl rfl)
theorem dX5_init_92 : decode cX5_init 92 = .ok (.bipush 31, 2) := dk_16 31 (dk_at dksX5_init_3 22 rfl rfl)
theorem dX5_init_94 : decode cX5_init 94 = .ok (.newarray .byte, 2) := dk_188_8 (dk_at dksX5_init_4 0 rfl rfl)
theorem dX5_init_96 : decode cX5_init 96 = .ok (.dup, 1) := dk_89 (dk_at dksX5_init_4 2 rfl rfl)
theorem dX5_init_97 : decode cX5_init 97 = .ok (.iconst 0, 1) := dk_3 (dk_at dksX5_init_4 3 rfl rfl)
theorem dX5_init_98 : decode cX5_init 98 = .ok (.bipush 119, 2) := dk_16 119 (dk_at dksX5_init_4 4 rfl rfl)
theorem dX5_init_100 : decode cX5_init 100 = .ok (.bastore, 1) := dk_84 (dk_at dksX5_init_4 6 rfl rfl)
theorem dX5_init_101 : decode cX5_init 101 = .ok (.dup, 1) := dk_89 (dk_at dksX5_init_4 7 rfl rfl)
theorem dX5_init_102 : decode cX5_init 102 = .ok (.iconst 1, 1) := dk_4 (dk_at dksX5_init_4 8 rfl rfl)
theorem dX5_init_103 : decode cX5_init 103 = .ok (.bipush 114, 2) := dk_16 114 (dk_at dksX5_init_4 9 rfl rfl)
theorem dX5_init_105 : decode cX5_init 105 = .ok (.bastore, 1) := dk_84 (dk_at dksX5_init_4 11 rfl rfl)
theorem dX5_init_106 : decode cX5_init 106 = .ok (.dup, 1) := dk_89 (dk_at dksX5_init_4 12 rfl rfl)
theorem dX5_init_107 : decode cX5_init 107 = .ok (.iconst 2, 1) := dk_5 (dk_at dksX5_init_4 13 rfl rfl)
theorem dX5_init_108 : decode cX5_init 108 = .ok (.bipush 105, 2) := dk_16 105 (dk_at dksX5_init_4 14 rfl rfl)
theorem dX5_init_110 : decode cX5_init 110 = .ok (.bastore, 1) := dk_84 (dk_at dksX5_init_4 16 rfl rfl)
theorem dX5_init_111 : decode cX5_init 111 = .ok (.dup, 1) := dk_89 (dk_at dksX5_init_4 17 rfl rfl)
theorem dX5_init_112 : decode cX5_init 112 = .ok (.iconst 3, 1) := dk_6 (dk_at dksX5_init_4 18 rfl rfl)
theorem dX5_init_113 : decode cX5_init 113 = .ok (.bipush 116, 2) := dk_16 116 (dk_at dksX5_init_4 19 rfl rfl)
theorem dX5_init_115 : decode cX5_init 115 = .ok (.bastore, 1) := dk_84 (dk_at dksX5_init_4 21 rfl rfl)
theorem dX5_init_116 : decode cX5_init 116 = .ok (.dup, 1) := dk_89 (dk_at dksX5_init_4 22 rfl rfl)
theorem dX5_init_117 : decode cX5_init 117 = .ok (.iconst 4, 1) := dk_7 (dk_at dksX5_init_4 23 rfl rfl)
theorem dX5_init_118 : decode cX5_init 118 = .ok (.bipush 101, 2) := dk_16 101 (dk_at dksX5_init_5 0 rfl rfl)
theorem dX5_init_120 : decode cX5_init 120 = .ok (.bastore, 1) := dk_84 (dk_at dksX5_init_5 2 rfl rfl)
theorem dX5_init_121 : decode cX5_init 121 = .ok (.dup, 1) := dk_89 (dk_at dksX5_init_5 3 rfl rfl)
theorem dX5_init_122 : decode cX5_init 122 = .ok (.iconst 5, 1) := dk_8 (dk_at dksX5_init_5 4 rfl rfl)
theorem dX5_init_123 : decode cX5_init 123 = .ok (.bipush 32, 2) := dk_16 32 (dk_at dksX5_init_5 5 rfl rfl)
theorem dX5_init_125 : decode cX5_init 125 = .ok (.bastore, 1) := dk_84 (dk_at dksX5_init_5 7 rfl rfl)
theorem dX5_init_126 : decode cX5_init 126 = .ok (.dup, 1) := dk_89 (dk_at dksX5_init_5 8 rfl rfl)
theorem dX5_init_127 : decode cX5_init 127 = .ok (.bipush 6, 2) := dk_16 6 (dk_at dksX5_init_5 9 rfl rfl)
theorem dX5_init_129 : decode cX5_init 129 = .ok (.bipush 100, 2) := dk_16 100 (dk_at dksX5_init_5 11 rfl rfl)
theorem dX5_init_131 : decode cX5_init 131 = .ok (.bastore, 1) := dk_84 (dk_at dksX5_init_5 13 rfl rfl)
theorem dX5_init_132 : decode cX5_init 132 = .ok (.dup, 1) := dk_89 (dk_at dksX5_init_5 14 rfl rfl)
theorem dX5_init_133 : decode cX5_init 133 = .ok (.bipush 7, 2) := dk_16 7 (dk_at dksX5_init_5 15 rfl rfl)
theorem dX5_init_135 : decode cX5_init 135 = .ok (.bipush 105, 2) := dk_16 105 (dk_at dksX5_init_5 17 rfl rfl)
theorem dX5_init_137 : decode cX5_init 137 = .ok (.bastore, 1) := dk_84 (dk_at dksX5_init_5 19 rfl rfl)
theorem dX5_init_138 : decode cX5_init 138 = .ok (.dup, 1) := dk_89 (dk_at dksX5_init_5 20 rfl rfl)
theorem dX5_init_139 : decode cX5_init 139 = .ok (.bipush 8, 2) := dk_16 8 (dk_at dksX5_init_5 21 rfl rfl)
theorem dX5_init_141 : decode cX5_init 141 = .ok (.bipush 101, 2) := dk_16 101 (dk_at dksX5_init_6 0 rfl rfl)
theorem dX5_init_143 : decode cX5_init 143 = .ok (.bastore, 1) := dk_84 (dk_at dksX5_init_6 2 rfl rfl)
theorem dX5_init_144 : decode cX5_init 144 = .ok (.dup, 1) := dk_89 (dk_at dksX5_init_6 3 rfl rfl)
theorem dX5_init_145 : decode cX5_init 145 = .ok (.bipush 9, 2) := dk_16 9 (dk_at dksX5_init_6 4 rfl rfl)
theorem dX5_init_147 : decode cX5_init 147 = .ok (.bipush 32, 2) := dk_16 32 (dk_at dksX5_init_6 6 rfl rfl)
theorem dX5_init_149 : decode cX5_init 149 = .ok (.bastore, 1) := dk_84 (dk_at dksX5_init_6 8 rfl rfl)
theorem dX5_init_150 : decode cX5_init 150 = .ok (.dup, 1) := dk_89 (dk_at dksX5_init_6 9 rfl rfl)
theorem dX5_init_151 : decode cX5_init 151 = .ok (.bipush 10, 2) := dk_16 10 (dk_at dksX5_init_6 10 rfl rfl)
theorem dX5_init_153 : decode cX5_init 153 = .ok (.bipush 114, 2) := dk_16 114 (dk_at dksX5_init_6 12 rfl rfl)
theorem dX5_init_155 : decode cX5_init 155 = .ok (.bastore, 1) := dk_84 (dk_at dksX5_init_6 14 rfl rfl)
theorem dX5_init_156 : decode cX5_init 156 = .ok (.dup, 1) := dk_89 (dk_at dksX5_init_6 15 rfl rfl)
theorem dX5_init_157 : decode cX5_init 157 = .ok (.bipush 11, 2) := dk_16 11 (dk_at dksX5_init_6 16 rfl rfl)
theorem dX5_init_159 : decode cX5_init 159 = .ok (.bipush 101, 2) := dk_16 101 (dk_at dksX5_init_6 18 rfl rfl)
theorem dX5_init_161 : decode cX5_init 161 = .ok (.bastore, 1) := dk_84 (dk_at dksX5_init_6 20 rfl rfl)
theorem dX5_init_162 : decode cX5_init 162 = .ok (.dup, 1) := dk_89 (dk_at dksX5_init_6 21 rfl rfl)
theorem dX5_init_163 : decode cX5_init 163 = .ok (.bipush 12, 2) := dk_16 12 (dk_at dksX5_init_6 22 rfl rfl)
theorem dX5_init_165 : decode cX5_init 165 = .ok (.bipush 115, 2) := dk_16 115 (dk_at dksX5_init_7 0 rfl rfl)
theorem dX5_init_167 : decode cX5_init 167 = .ok (.bastore, 1) := dk_84 (dk_at dksX5_init_7 2 rfl rfl)
theorem dX5_init_168 : decode cX5_init 168 = .ok (.dup, 1) := dk_89 (dk_at dksX5_init_7 3 rfl rfl)
theorem dX5_init_169 : decode cX5_init 169 = .ok (.bipush 13, 2) := dk_16 13 (dk_at dksX5_init_7 4 rfl rfl)
theorem dX5_init_171 : decode cX5_init 171 = .ok (.bipush 101, 2) := dk_16 101 (dk_at dksX5_init_7 6 rfl rfl)
theorem dX5_init_173 : decode cX5_init 173 = .ok (.bastore, 1) := dk_84 (dk_at dksX5_init_7 8 rfl rfl)
theorem dX5_init_174 : decode cX5_init 174 = .ok (.dup, 1) := dk_89 (dk_at dksX5_init_7 9 rfl rfl)
theorem dX5_init_175 : decode cX5_init 175 = .ok (.bipush 14, 2) := dk_16 14 (dk_at dksX5_init_7 10 rfl rfl)
theorem dX5_init_177 : decode cX5_init 177 = .ok (.bipush 116, 2) := dk_16 116 (dk_at dksX5_init_7 12 rfl rfl)
theorem dX5_init_179 : decode cX5_init 179 = .ok (.bastore, 1) := dk_84 (dk_at dksX5_init_7 14 rfl rfl)
theorem dX5_init_180 : decode cX5_init 180 = .ok (.dup, 1) := dk_89 (dk_at dksX5_init_7 15 rfl rfl)
theorem dX5_init_181 : decode cX5_init 181 = .ok (.bipush 15, 2) := dk_16 15 (dk_at dksX5_init_7 16 rfl rfl)
theorem dX5_init_183 : decode cX5_init 183 = .ok (.bipush 32, 2) := dk_16 32 (dk_at dksX5_init_7 18 rfl rfl)
theorem dX5_init_185 : decode cX5_init 185 = .ok (.bastore, 1) := dk_84 (dk_at dksX5_init_7 20 rfl rfl)
theorem dX5_init_186 : decode cX5_init 186 = .ok (.dup, 1) := dk_89 (dk_at dksX5_init_7 21 rfl rfl)
theorem dX5_init_187 : decode cX5_init 187 = .ok (.bipush 16, 2) := dk_16 16 (dk_at dksX5_init_7 22 rfl rfl)
theorem dX5_init_189 : decode cX5_init 189 = .ok (.bipush 98, 2) := dk_16 98 (dk_at dksX5_init_8 0 rfl rfl)
theorem dX5_init_191 : decode cX5_init 191 = .ok (.bastore, 1) := dk_84 (dk_at dksX5_init_8 2 rfl rfl)
theorem dX5_init_192 : decode cX5_init 192 = .ok (.dup, 1) := dk_89 (dk_at dksX5_init_8 3 rfl rfl)
theorem dX5_init_193 : decode cX5_init 193 = .ok (.bipush 17, 2) := dk_16 17 (dk_at dksX5_init_8 4 rfl rfl)
theorem dX5_init_195 : decode cX5_init 195 = .ok (.bipush 117, 2) := dk_16 117 (dk_at dksX5_init_8 6 rfl rfl)
theorem dX5_init_197 : decode cX5_init 197 = .ok (.bastore, 1) := dk_84 (dk_at dksX5_init_8 8 rfl rfl)
theorem dX5_init_198 : decode cX5_init 198 = .ok (.dup, 1) := dk_89 (dk_at dksX5_init_8 9 rfl rfl)
theorem dX5_init_199 : decode cX5_init 199 = .ok (.bipush 18, 2) := dk_16 18 (dk_at dksX5_init_8 10 rfl rfl)
theorem dX5_init_201 : decode cX5_init 201 = .ok (.bipush 114, 2) := dk_16 114 (dk_at dksX5_init_8 12 rfl rfl)
theorem dX5_init_203 : decode cX5_init 203 = .ok (.bastore, 1) := dk_84 (dk_at dksX5_init_8 14 rfl rfl)
theorem dX5_init_204 : decode cX5_init 204 = .ok (.dup, 1) := dk_89 (dk_at dksX5_init_8 15 rfl rfl)
theorem dX5_init_205 : decode cX5_init 205 = .ok (.bipush 19, 2) := dk_16 19 (dk_at dksX5_init_8 16 rfl rfl)
theorem dX5_init_207 : decode cX5_init 207 = .ok (.bipush 121, 2) := dk_16 121 (dk_at dksX5_init_8 18 rfl rfl)
theorem dX5_init_209 : decode cX5_init 209 = .ok (.bastore, 1) := dk_84 (dk_at dksX5_init_8 20 rfl rfl)
theorem dX5_init_210 : decode cX5_init 210 = .ok (.dup, 1) := dk_89 (dk_at dksX5_init_8 21 rfl rfl)
theorem dX5_init_211 : decode cX5_init 211 = .ok (.bipush 20, 2) := dk_16 20 (dk_at dksX5_init_8 22 rfl rfl)
theorem dX5_init_213 : decode cX5_init 213 = .ok (.bipush 32, 2) := dk_16 32 (dk_at dksX5_init_9 0 rfl rfl)
theorem dX5_init_215 : decode cX5_init 215 = .ok (.bastore, 1) := dk_84 (dk_at dksX5_init_9 2 rfl rfl)
theorem dX5_init_216 : decode cX5_init 216 = .ok (.dup, 1) := dk_89 (dk_at dksX5_init_9 3 rfl rfl)
theorem dX5_init_217 : decode cX5_init 217 = .ok (.bipush 21, 2) := dk_16 21 (dk_at dksX5_init_9 4 rfl rfl)
theorem dX5_init_219 : decode cX5_init 219 = .ok (.bipush 100, 2) := dk_16 100 (dk_at dksX5_init_9 6 rfl rfl)
theorem dX5_init_221 : decode cX5_init 221 = .ok (.bastore, 1) := dk_84 (dk_at dksX5_init_9 8 rfl rfl)
theorem dX5_init_222 : decode cX5_init 222 = .ok (.dup, 1) := dk_89 (dk_at dksX5_init_9 9 rfl rfl)
theorem dX5_init_223 : decode cX5_init 223 = .ok (.bipush 22, 2) := dk_16 22 (dk_at dksX5_init_9 10 rfl rfl)
theorem dX5_init_225 : decode cX5_init 225 = .ok (.bipush 97, 2) := dk_16 97 (dk_at dksX5_init_9 12 rfl rfl)
theorem dX5_init_227 : decode cX5_init 227 = .ok (.bastore, 1) := dk_84 (dk_at dksX5_init_9 14 rfl rfl)
theorem dX5_init_228 : decode cX5_init 228 = .ok (.dup, 1) := dk_89 (dk_at dksX5_init_9 15 rfl rfl)
theorem dX5_init_229 : decode cX5_init 229 = .ok (.bipush 23, 2) := dk_16 23 (dk_at dksX5_init_9 16 rfl rfl)
theorem dX5_init_231 : decode cX5_init 231 = .ok (.bipush 121, 2) := dk_16 121 (dk_at dksX5_init_9 18 rfl rfl)
theorem dX5_init_233 : decode cX5_init 233 = .ok (.bastore, 1) := dk_84 (dk_at dksX5_init_9 20 rfl rfl)
theorem dX5_init_234 : decode cX5_init 234 = .ok (.dup, 1) := dk_89 (dk_at dksX5_init_9 21 rfl rfl)
theorem dX5_init_235 : decode cX5_init 235 = .ok (.bipush 24, 2) := dk_16 24 (dk_at dksX5_init_9 22 rfl rfl)
theorem dX5_init_237 : decode cX5_init 237 = .ok (.bipush 115, 2) := dk_16 115 (dk_at dksX5_init_10 0 rfl rfl)
theorem dX5_init_239 : decode cX5_init 239 = .ok (.bastore, 1) := dk_84 (dk_at dksX5_init_10 2 rfl rfl)
theorem dX5_init_240 : decode cX5_init 240 = .ok (.dup, 1) := dk_89 (dk_at dksX5_init_10 3 rfl rfl)
theorem dX5_init_241 : decode cX5_init 241 = .ok (.bipush 25, 2) := dk_16 25 (dk_at dksX5_init_10 4 rfl rfl)
theorem dX5_init_243 : decode cX5_init 243 = .ok (.bipush 32, 2) := dk_16 32 (dk_at dksX5_init_10 6 rfl rfl)
theorem dX5_init_245 : decode cX5_init 245 = .ok (.bastore, 1) := dk_84 (dk_at dksX5_init_10 8 rfl rfl)
theorem dX5_init_246 : decode cX5_init 246 = .ok (.dup, 1) := dk_89 (dk_at dksX5_init_10 9 rfl rfl)
theorem dX5_init_247 : decode cX5_init 247 = .ok (.bipush 26, 2) := dk_16 26 (dk_at dksX5_init_10 10 rfl rfl)
theorem dX5_init_249 : decode cX5_init 249 = .ok (.bipush 102, 2) := dk_16 102 (dk_at dksX5_init_10 12 rfl rfl)
theorem dX5_init_251 : decode cX5_init 251 = .ok (.bastore, 1) := dk_84 (dk_at dksX5_init_10 14 rfl rfl)
theorem dX5_init_252 : decode cX5_init 252 = .ok (.dup, 1) := dk_89 (dk_at dksX5_init_10 15 rfl rfl)
theorem dX5_init_253 : decode cX5_init 253 = .ok (.bipush 27, 2) := dk_16 27 (dk_at dksX5_init_10 16 rfl rfl)
theorem dX5_init_255 : decode cX5_init 255 = .ok (.bipush 114, 2) := dk_16 114 (dk_at dksX5_init_10 18 rfl rfl)
theorem dX5_init_257 : decode cX5_init 257 = .ok (.bastore, 1) := dk_84 (dk_at dksX5_init_10 20 rfl rfl)
theorem dX5_init_258 : decode cX5_init 258 = .ok (.dup, 1) := dk_89 (dk_at dksX5_init_10 21 rfl rfl)
theorem dX5_init_259 : decode cX5_init 259 = .ok (.bipush 28, 2) := dk_16 28 (dk_at dksX5_init_10 22 rfl rfl)
theorem dX5_init_261 : decode cX5_init 261 = .ok (.bipush 101, 2) := dk_16 101 (dk_at dksX5_init_11 0 rfl rfl)
theorem dX5_init_263 : decode cX5_init 263 = .ok (.bastore, 1) := dk_84 (dk_at dksX5_init_11 2 rfl rfl)
theorem dX5_init_264 : decode cX5_init 264 = .ok (.dup, 1) := dk_89 (dk_at dksX5_init_11 3 rfl rfl)
theorem dX5_init_265 : decode cX5_init 265 = .ok (.bipush 29, 2) := dk_16 29 (dk_at dksX5_init_11 4 rfl rfl)
theorem dX5_init_267 : decode cX5_init 267 = .ok (.bipush 101, 2) := dk_16 101 (dk_at dksX5_init_11 6 rfl rfl)
theorem dX5_init_269 : decode cX5_init 269 = .ok (.bastore, 1) := dk_84 (dk_at dksX5_init_11 8 rfl rfl)
theorem dX5_init_270 : decode cX5_init 270 = .ok (.dup, 1) := dk_89 (dk_at dksX5_init_11 9 rfl rfl)
theorem dX5_init_271 : decode cX5_init 271 = .ok (.bipush 30, 2) := dk_16 30 (dk_at dksX5_init_11 10 rfl rfl)
theorem dX5_init_273 : decode cX5_init 273 = .ok (.bipush 32, 2) := dk_16 32 (dk_at dksX5_init_11 12 rfl rfl)
theorem dX5_init_275 : decode cX5_init 275 = .ok (.bastore, 1) := dk_84 (dk_at dksX5_init_11 14 rfl rfl)
theorem dX5_init_276 : decode cX5_init 276 = .ok (.putfield 46, 3) := dk_181 0 46 (dk_at dksX5_init_11 15 rfl rfl)
theorem dX5_init_279 : decode cX5_init 279 = .ok (.aload_n 0, 1) := dk_42 (dk_at dksX5_init_11 18 rfl rfl)
theorem dX5_init_280 : decode cX5_init 280 = .ok (.sipush 244, 3) := dk_17 0 244 (dk_at dksX5_init_11 19 rfl rfl)
theorem dX5_init_283 : decode cX5_init 283 = .ok (.newarray .int, 2) := dk_188_10 (dk_at dksX5_init_11 22 rfl rfl)
theorem dX5_init_285 : decode cX5_init 285 = .ok (.putfield 49, 3) := dk_181 0 49 (dk_at dksX5_init_12 0 rfl rfl)
theorem dX5_init_288 : decode cX5_init 288 = .ok (.aload_n 0, 1) := dk_42 (dk_at dksX5_init_12 3 rfl rfl)
theorem dX5_init_289 : decode cX5_init 289 = .ok (.sipush 2048, 3) := dk_17 8 0 (dk_at dksX5_init_12 4 rfl rfl)
theorem dX5_init_292 : decode cX5_init 292 = .ok (.newarray .byte, 2) := dk_188_8 (dk_at dksX5_init_12 7 rfl rfl)
theorem dX5_init_294 : decode cX5_init 294 = .ok (.putfield 52, 3) := dk_181 0 52 (dk_at dksX5_init_12 9 rfl rfl)
theorem dX5_init_297 : decode cX5_init 297 = .ok (.aload_n 0, 1) := dk_42 (dk_at dksX5_init_12 12 rfl rfl)
theorem dX5_init_298 : decode cX5_init 298 = .ok (.getfield 7, 3) := dk_180 0 7 (dk_at dksX5_init_12 13 rfl rfl)
theorem dX5_init_301 : decode cX5_init 301 = .ok (.iconst 0, 1) := dk_3 (dk_at dksX5_init_12 16 rfl rfl)
theorem dX5_init_302 : decode cX5_init 302 = .ok (.bipush 6, 2) := dk_16 6 (dk_at dksX5_init_12 17 rfl rfl)
theorem dX5_init_304 : decode cX5_init 304 = .ok (.iastore, 1) := dk_79 (dk_at dksX5_init_12 19 rfl rfl)
theorem dX5_init_305 : decode cX5_init 305 = .ok (.aload_n 0, 1) := dk_42 (dk_at dksX5_init_12 20 rfl rfl)
theorem dX5_init_306 : decode cX5_init 306 = .ok (.getfield 7, 3) := dk_180 0 7 (dk_at dksX5_init_12 21 rfl rfl)
theorem dX5_init_309 : decode cX5_init 309 = .ok (.iconst 1, 1) := dk_4 (dk_at dksX5_init_13 0 rfl rfl)
theorem dX5_init_310 : decode cX5_init 310 = .ok (.iconst 4, 1) := dk_7 (dk_at dksX5_init_13 1 rfl rfl)
theorem dX5_init_311 : decode cX5_init 311 = .ok (.iastore, 1) := dk_79 (dk_at dksX5_init_13 2 rfl rfl)
theorem dX5_init_312 : decode cX5_init 312 = .ok (.aload_n 0, 1) := dk_42 (dk_at dksX5_init_13 3 rfl rfl)
theorem dX5_init_313 : decode cX5_init 313 = .ok (.getfield 7, 3) := dk_180 0 7 (dk_at dksX5_init_13 4 rfl rfl)
theorem dX5_init_316 : decode cX5_init 316 = .ok (.iconst 2, 1) := dk_5 (dk_at dksX5_init_13 7 rfl rfl)
theorem dX5_init_317 : decode cX5_init 317 = .ok (.iconst 4, 1) := dk_7 (dk_at dksX5_init_13 8 rfl rfl)
theorem dX5_init_318 : decode cX5_init 318 = .ok (.iastore, 1) := dk_79 (dk_at dksX5_init_13 9 rfl rfl)
theorem dX5_init_319 : decode cX5_init 319 = .ok (.aload_n 0, 1) := dk_42 (dk_at dksX5_init_13 10 rfl rfl)
theorem dX5_init_320 : decode cX5_init 320 = .ok (.getfield 7, 3) := dk_180 0 7 (dk_at dksX5_init_13 11 rfl rfl)
theorem dX5_init_323 : decode cX5_init 323 = .ok (.iconst 3, 1) := dk_6 (dk_at dksX5_init_13 14 rfl rfl)
theorem dX5_init_324 : decode cX5_init 324 = .ok (.iconst 2, 1) := dk_5 (dk_at dksX5_init_13 15 rfl rfl)
theorem dX5_init_325 : decode cX5_init 325 = .ok (.iastore, 1) := dk_79 (dk_at dksX5_init_13 16 rfl rfl)
theorem dX5_init_326 : decode cX5_init 326 = .ok (.aload_n 0, 1) := dk_42 (dk_at dksX5_init_13 17 rfl rfl)
theorem dX5_init_327 : decode cX5_init 327 = .ok (.getfield 7, 3) := dk_180 0 7 (dk_at dksX5_init_13 18 rfl rfl)
theorem dX5_init_330 : decode cX5_init 330 = .ok (.iconst 4, 1) := dk_7 (dk_at dksX5_init_13 21 rfl rfl)
theorem dX5_init_331 : decode cX5_init 331 = .ok (.bipush 10, 2) := dk_16 10 (dk_at dksX5_init_13 22 rfl rfl)
theorem dX5_init_333 : decode cX5_init 333 = .ok (.iastore, 1) := dk_79 (dk_at dksX5_init_14 0 rfl rfl)
theorem dX5_init_334 : decode cX5_init 334 = .ok (.aload_n 0, 1) := dk_42 (dk_at dksX5_init_14 1 rfl rfl)
theorem dX5_init_335 : decode cX5_init 335 = .ok (.getfield 7, 3) := dk_180 0 7 (dk_at dksX5_init_14 2 rfl rfl)
theorem dX5_init_338 : decode cX5_init 338 = .ok (.iconst 5, 1) := dk_8 (dk_at dksX5_init_14 5 rfl rfl)
theorem dX5_init_339 : decode cX5_init 339 = .ok (.bipush 20, 2) := dk_16 20 (dk_at dksX5_init_14 6 rfl rfl)
theorem dX5_init_341 : decode cX5_init 341 = .ok (.iastore, 1) := dk_79 (dk_at dksX5_init_14 8 rfl rfl)
theorem dX5_init_342 : decode cX5_init 342 = .ok (.aload_n 0, 1) := dk_42 (dk_at dksX5_init_14 9 rfl rfl)
theorem dX5_init_343 : decode cX5_init 343 = .ok (.invokevirtual 55, 3) := dk_182 0 55 (dk_at dksX5_init_14 10 rfl rfl)
theorem dX5_init_346 : decode cX5_init 346 = .ok (.return_, 1) := dk_177 (dk_at dksX5_init_14 13 rfl rfl)
abbrev cX5_begins : ByteArray := prog_14_method_5_code
def yX5_begins : MethodName := ⟨RX5, "begins", "()V"⟩
def dkwX5_begins_3 : List UInt8 := [167, 255, 235, 177]
abbrev dktX5_begins_3 : List UInt8 := dkwX5_begins_3 ++ []
def dkwX5_begins_2 : List UInt8 := [3, 60, 27, 16, 12, 162, 0, 21, 42, 180, 0, 7, 27, 184, 0, 61, 3, 96, 2, 79, 132, 1, 1]
abbrev dktX5_begins_2 : List UInt8 := dkwX5_begins_2 ++ dktX5_begins_3
def dkwX5_begins_1 : List UInt8 := [60, 27, 8, 162, 0, 21, 42, 180, 0, 7, 16, 13, 27, 96, 17, 3, 232, 79, 132, 1, 1, 167, 255, 236]
abbrev dktX5_begins_1 : List UInt8 := dkwX5_begins_1 ++ dktX5_begins_2
def dkwX5_begins_0 : List UInt8 := [16, 6, 60, 27, 17, 9, 158, 162, 0, 16, 42, 180, 0, 7, 27, 3, 79, 132, 1, 1, 167, 255, 239, 3]
abbrev dktX5_begins_0 : List UInt8 := dkwX5_begins_0 ++ dktX5_begins_1
theorem dksX5_begins_0 : cX5_begins.data.toList.drop 0 = dktX5_begins_0 := by decide +kernel
theorem dksX5_begins_1 : cX5_begins.data.toList.drop 24 = dktX5_begins_1 := dk_seg dksX5_begins_0 24 rfl rfl
theorem dksX5_begins_2 : cX5_begins.data.toList.drop 48 = dktX5_begins_2 := dk_seg dksX5_begins_1 24 rfl rfl
theorem dksX5_begins_3 : cX5_begins.data.toList.drop 71 = dktX5_begins_3 := dk_seg dksX5_begins_2 23 rfl rfl
theorem dX5_begins_0 : decode cX5_begins 0 = .ok (.bipush 6, 2) := dk_16 6 (dk_at dksX5_begins_0 0 rfl rfl)
theorem dX5_begins_2 : decode cX5_begins 2 = .ok (.istore_n 1, 1) := dk_60 (dk_at dksX5_begins_0 2 rfl rfl)
theorem dX5_begins_3 : decode cX5_begins 3 = .ok (.iload_n 1, 1) := dk_27 (dk_at dksX5_begins_0 3 rfl rfl)
theorem dX5_begins_4 : decode cX5_begins 4 = .ok (.sipush 2462, 3) := dk_17 9 158 (dk_at dksX5_begins_0 4 rfl rfl)
theorem dX5_begins_7 : decode cX5_begins 7 = .ok (.if_icmp .ge 16, 3) := dk_162 0 16 (dk_at dksX5_begins_0 7 rfl rfl)
theorem dX5_begins_10 : decode cX5_begins 10 = .ok (.aload_n 0, 1) := dk_42 (dk_at dksX5_begins_0 10 rfl rfl)
theorem dX5_begins_11 : decode cX5_begins 11 = .ok (.getfield 7, 3) := dk_180 0 7 (dk_at dksX5_begins_0 11 rfl rfl)
theorem dX5_begins_14 : decode cX5_begins 14 = .ok (.iload_n 1, 1) := dk_27 (dk_at dksX5_begins_0 14 rfl rfl)
theorem dX5_begins_15 : decode cX5_begins 15 = .ok (.iconst 0, 1) := dk_3 (dk_at dksX5_begins_0 15 rfl rfl)
theorem dX5_begins_16 : decode cX5_begins 16 = .ok (.iastore, 1) := dk_79 (dk_at dksX5_begins_0 16 rfl rfl)
theorem dX5_begins_17 : decode cX5_begins 17 = .ok (.iinc 1 1, 3) := dk_132 1 1 (dk_at dksX5_begins_0 17 rfl rfl)
theorem dX5_begins_20 : decode cX5_begins 20 = .ok (.goto (-17), 3) := dk_167 255 239 (dk_at dksX5_begins_0 20 rfl rfl)
theorem dX5_begins_23 : decode cX5_begins 23 = .ok (.iconst 0, 1) := dk_3 (dk_at dksX5_begins_0 23 rfl rfl)
theorem dX5_begins_24 : decode cX5_begins 24 = .ok (.istore_n 1, 1) := dk_60 (dk_at dksX5_begins_1 0 rfl rfl)
theorem dX5_begins_25 : decode cX5_begins 25 = .ok (.iload_n 1, 1) := dk_27 (dk_at dksX5_begins_1 1 rfl rfl)
theorem dX5_begins_26 : decode cX5_begins 26 = .ok (.iconst 5, 1) := dk_8 (dk_at dksX5_begins_1 2 rfl rfl)
theorem dX5_begins_27 : decode cX5_begins 27 = .ok (.if_icmp .ge 21, 3) := dk_162 0 21 (dk_at dksX5_begins_1 3 rfl rfl)
theorem dX5_begins_30 : decode cX5_begins 30 = .ok (.aload_n 0, 1) := dk_42 (dk_at dksX5_begins_1 6 rfl rfl)
theorem dX5_begins_31 : decode cX5_begins 31 = .ok (.getfield 7, 3) := dk_180 0 7 (dk_at dksX5_begins_1 7 rfl rfl)
theorem dX5_begins_34 : decode cX5_begins 34 = .ok (.bipush 13, 2) := dk_16 13 (dk_at dksX5_begins_1 10 rfl rfl)
theorem dX5_begins_36 : decode cX5_begins 36 = .ok (.iload_n 1, 1) := dk_27 (dk_at dksX5_begins_1 12 rfl rfl)
theorem dX5_begins_37 : decode cX5_begins 37 = .ok (.iadd, 1) := dk_96 (dk_at dksX5_begins_1 13 rfl rfl)
theorem dX5_begins_38 : decode cX5_begins 38 = .ok (.sipush 1000, 3) := dk_17 3 232 (dk_at dksX5_begins_1 14 rfl rfl)
theorem dX5_begins_41 : decode cX5_begins 41 = .ok (.iastore, 1) := dk_79 (dk_at dksX5_begins_1 17 rfl rfl)
theorem dX5_begins_42 : decode cX5_begins 42 = .ok (.iinc 1 1, 3) := dk_132 1 1 (dk_at dksX5_begins_1 18 rfl rfl)
theorem dX5_begins_45 : decode cX5_begins 45 = .ok (.goto (-20), 3) := dk_167 255 236 (dk_at dksX5_begins_1 21 rfl rfl)
theorem dX5_begins_48 : decode cX5_begins 48 = .ok (.iconst 0, 1) := dk_3 (dk_at dksX5_begins_2 0 rfl rfl)
theorem dX5_begins_49 : decode cX5_begins 49 = .ok (.istore_n 1, 1) := dk_60 (dk_at dksX5_begins_2 1 rfl rfl)
theorem dX5_begins_50 : decode cX5_begins 50 = .ok (.iload_n 1, 1) := dk_27 (dk_at dksX5_begins_2 2 rfl rfl)
theorem dX5_begins_51 : decode cX5_begins 51 = .ok (.bipush 12, 2) := dk_16 12 (dk_at dksX5_begins_2 3 rfl rfl)
theorem dX5_begins_53 : decode cX5_begins 53 = .ok (.if_icmp .ge 21, 3) := dk_162 0 21 (dk_at dksX5_begins_2 5 rfl rfl)
theorem dX5_begins_56 : decode cX5_begins 56 = .ok (.aload_n 0, 1) := dk_42 (dk_at dksX5_begins_2 8 rfl rfl)
theorem dX5_begins_57 : decode cX5_begins 57 = .ok (.getfield 7, 3) := dk_180 0 7 (dk_at dksX5_begins_2 9 rfl rfl)
theorem dX5_begins_60 : decode cX5_begins 60 = .ok (.iload_n 1, 1) := dk_27 (dk_at dksX5_begins_2 12 rfl rfl)
theorem dX5_begins_61 : decode cX5_begins 61 = .ok (.invokestatic 61, 3) := dk_184 0 61 (dk_at dksX5_begins_2 13 rfl rfl)
theorem dX5_begins_64 : decode cX5_begins 64 = .ok (.iconst 0, 1) := dk_3 (dk_at dksX5_begins_2 16 rfl rfl)
theorem dX5_begins_65 : decode cX5_begins 65 = .ok (.iadd, 1) := dk_96 (dk_at dksX5_begins_2 17 rfl rfl)
theorem dX5_begins_66 : decode cX5_begins 66 = .ok (.iconst (-1), 1) := dk_2 (dk_at dksX5_begins_2 18 rfl rfl)
theorem dX5_begins_67 : decode cX5_begins 67 = .ok (.iastore, 1) := dk_79 (dk_at dksX5_begins_2 19 rfl rfl)
theorem dX5_begins_68 : decode cX5_begins 68 = .ok (.iinc 1 1, 3) := dk_132 1 1 (dk_at dksX5_begins_2 20 rfl rfl)
theorem dX5_begins_71 : decode cX5_begins 71 = .ok (.goto (-21), 3) := dk_167 255 235 (dk_at dksX5_begins_3 0 rfl rfl)
theorem dX5_begins_74 : decode cX5_begins 74 = .ok (.return_, 1) := dk_177 (dk_at dksX5_begins_3 3 rfl rfl)
abbrev cX5_zoneAt : ByteArray := prog_14_method_6_code
def yX5_zoneAt : MethodName := ⟨RX5, "zoneAt", "(I)I"⟩
def dkwX5_zoneAt_0 : List UInt8 := [17, 6, 170, 16, 13, 26, 104, 96, 172]
abbrev dktX5_zoneAt_0 : List UInt8 := dkwX5_zoneAt_0 ++ []
theorem dksX5_zoneAt_0 : cX5_zoneAt.data.toList.drop 0 = dktX5_zoneAt_0 := by decide +kernel
theorem dX5_zoneAt_0 : decode cX5_zoneAt 0 = .ok (.sipush 1706, 3) := dk_17 6 170 (dk_at dksX5_zoneAt_0 0 rfl rfl)
theorem dX5_zoneAt_3 : decode cX5_zoneAt 3 = .ok (.bipush 13, 2) := dk_16 13 (dk_at dksX5_zoneAt_0 3 rfl rfl)
theorem dX5_zoneAt_5 : decode cX5_zoneAt 5 = .ok (.iload_n 0, 1) := dk_26 (dk_at dksX5_zoneAt_0 5 rfl rfl)
theorem dX5_zoneAt_6 : decode cX5_zoneAt 6 = .ok (.imul, 1) := dk_104 (dk_at dksX5_zoneAt_0 6 rfl rfl)
theorem dX5_zoneAt_7 : decode cX5_zoneAt 7 = .ok (.iadd, 1) := dk_96 (dk_at dksX5_zoneAt_0 7 rfl rfl)
theorem dX5_zoneAt_8 : decode cX5_zoneAt 8 = .ok (.ireturn, 1) := dk_172 (dk_at dksX5_zoneAt_0 8 rfl rfl)
abbrev cX5_thrown : ByteArray := prog_14_method_2_code
def yX5_thrown : MethodName := ⟨RX5, "thrown", "()I"⟩
theorem dX5_thrown_0 : decode cX5_thrown 0 = .ok (.aload_n 0, 1) := by decide +kernel
theorem dX5_thrown_1 : decode cX5_thrown 1 = .ok (.getfield 58, 3) := by decide +kernel
theorem dX5_thrown_4 : decode cX5_thrown 4 = .ok (.ireturn, 1) := by decide +kernel
abbrev cX5_set : ByteArray := prog_14_method_46_code
def yX5_set : MethodName := ⟨RX5, "set", "(II)I"⟩
def dkwX5_set_3 : List UInt8 := [28, 79, 29, 172]
abbrev dktX5_set_3 : List UInt8 := dkwX5_set_3 ++ []
def dkwX5_set_2 : List UInt8 := [181, 0, 58, 42, 180, 0, 58, 158, 0, 5, 3, 172, 42, 180, 0, 7, 27, 46, 62, 42, 180, 0, 7, 27]
abbrev dktX5_set_2 : List UInt8 := dkwX5_set_2 ++ dktX5_set_3
def dkwX5_set_1 : List UInt8 := [154, 0, 7, 4, 167, 0, 18, 42, 180, 0, 7, 16, 11, 46, 158, 0, 7, 5, 167, 0, 4, 3]
abbrev dktX5_set_1 : List UInt8 := dkwX5_set_1 ++ dktX5_set_2
def dkwX5_set_0 : List UInt8 := [42, 27, 3, 8, 184, 0, 179, 153, 0, 18, 28, 27, 184, 0, 183, 27, 184, 0, 186, 184, 0, 179]
abbrev dktX5_set_0 : List UInt8 := dkwX5_set_0 ++ dktX5_set_1
theorem dksX5_set_0 : cX5_set.data.toList.drop 0 = dktX5_set_0 := by decide +kernel
theorem dksX5_set_1 : cX5_set.data.toList.drop 22 = dktX5_set_1 := dk_seg dksX5_set_0 22 rfl rfl
theorem dksX5_set_2 : cX5_set.data.toList.drop 44 = dktX5_set_2 := dk_seg dksX5_set_1 22 rfl rfl
theorem dksX5_set_3 : cX5_set.data.toList.drop 68 = dktX5_set_3 := dk_seg dksX5_set_2 24 rfl rfl
theorem dX5_set_0 : decode cX5_set 0 = .ok (.aload_n 0, 1) := dk_42 (dk_at dksX5_set_0 0 rfl rfl)
theorem dX5_set_1 : decode cX5_set 1 = .ok (.iload_n 1, 1) := dk_27 (dk_at dksX5_set_0 1 rfl rfl)
theorem dX5_set_2 : decode cX5_set 2 = .ok (.iconst 0, 1) := dk_3 (dk_at dksX5_set_0 2 rfl rfl)
theorem dX5_set_3 : decode cX5_set 3 = .ok (.iconst 5, 1) := dk_8 (dk_at dksX5_set_0 3 rfl rfl)
theorem dX5_set_4 : decode cX5_set 4 = .ok (.invokestatic 179, 3) := dk_184 0 179 (dk_at dksX5_set_0 4 rfl rfl)
theorem dX5_set_7 : decode cX5_set 7 = .ok (.ifCond .eq 18, 3) := dk_153 0 18 (dk_at dksX5_set_0 7 rfl rfl)
theorem dX5_set_10 : decode cX5_set 10 = .ok (.iload_n 2, 1) := dk_28 (dk_at dksX5_set_0 10 rfl rfl)
theorem dX5_set_11 : decode cX5_set 11 = .ok (.iload_n 1, 1) := dk_27 (dk_at dksX5_set_0 11 rfl rfl)
theorem dX5_set_12 : decode cX5_set 12 = .ok (.invokestatic 183, 3) := dk_184 0 183 (dk_at dksX5_set_0 12 rfl rfl)
theorem dX5_set_15 : decode cX5_set 15 = .ok (.iload_n 1, 1) := dk_27 (dk_at dksX5_set_0 15 rfl rfl)
theorem dX5_set_16 : decode cX5_set 16 = .ok (.invokestatic 186, 3) := dk_184 0 186 (dk_at dksX5_set_0 16 rfl rfl)
theorem dX5_set_19 : decode cX5_set 19 = .ok (.invokestatic 179, 3) := dk_184 0 179 (dk_at dksX5_set_0 19 rfl rfl)
theorem dX5_set_22 : decode cX5_set 22 = .ok (.ifCond .ne 7, 3) := dk_154 0 7 (dk_at dksX5_set_1 0 rfl rfl)
theorem dX5_set_25 : decode cX5_set 25 = .ok (.iconst 1, 1) := dk_4 (dk_at dksX5_set_1 3 rfl rfl)
theorem dX5_set_26 : decode cX5_set 26 = .ok (.goto 18, 3) := dk_167 0 18 (dk_at dksX5_set_1 4 rfl rfl)
theorem dX5_set_29 : decode cX5_set 29 = .ok (.aload_n 0, 1) := dk_42 (dk_at dksX5_set_1 7 rfl rfl)
theorem dX5_set_30 : decode cX5_set 30 = .ok (.getfield 7, 3) := dk_180 0 7 (dk_at dksX5_set_1 8 rfl rfl)
theorem dX5_set_33 : decode cX5_set 33 = .ok (.bipush 11, 2) := dk_16 11 (dk_at dksX5_set_1 11 rfl rfl)
theorem dX5_set_35 : decode cX5_set 35 = .ok (.iaload, 1) := dk_46 (dk_at dksX5_set_1 13 rfl rfl)
theorem dX5_set_36 : decode cX5_set 36 = .ok (.ifCond .le 7, 3) := dk_158 0 7 (dk_at dksX5_set_1 14 rfl rfl)
theorem dX5_set_39 : decode cX5_set 39 = .ok (.iconst 2, 1) := dk_5 (dk_at dksX5_set_1 17 rfl rfl)
theorem dX5_set_40 : decode cX5_set 40 = .ok (.goto 4, 3) := dk_167 0 4 (dk_at dksX5_set_1 18 rfl rfl)
theorem dX5_set_43 : decode cX5_set 43 = .ok (.iconst 0, 1) := dk_3 (dk_at dksX5_set_1 21 rfl rfl)
theorem dX5_set_44 : decode cX5_set 44 = .ok (.putfield 58, 3) := dk_181 0 58 (dk_at dksX5_set_2 0 rfl rfl)
theorem dX5_set_47 : decode cX5_set 47 = .ok (.aload_n 0, 1) := dk_42 (dk_at dksX5_set_2 3 rfl rfl)
theorem dX5_set_48 : decode cX5_set 48 = .ok (.getfield 58, 3) := dk_180 0 58 (dk_at dksX5_set_2 4 rfl rfl)
theorem dX5_set_51 : decode cX5_set 51 = .ok (.ifCond .le 5, 3) := dk_158 0 5 (dk_at dksX5_set_2 7 rfl rfl)
theorem dX5_set_54 : decode cX5_set 54 = .ok (.iconst 0, 1) := dk_3 (dk_at dksX5_set_2 10 rfl rfl)
theorem dX5_set_55 : decode cX5_set 55 = .ok (.ireturn, 1) := dk_172 (dk_at dksX5_set_2 11 rfl rfl)
theorem dX5_set_56 : decode cX5_set 56 = .ok (.aload_n 0, 1) := dk_42 (dk_at dksX5_set_2 12 rfl rfl)
theorem dX5_set_57 : decode cX5_set 57 = .ok (.getfield 7, 3) := dk_180 0 7 (dk_at dksX5_set_2 13 rfl rfl)
theorem dX5_set_60 : decode cX5_set 60 = .ok (.iload_n 1, 1) := dk_27 (dk_at dksX5_set_2 16 rfl rfl)
theorem dX5_set_61 : decode cX5_set 61 = .ok (.iaload, 1) := dk_46 (dk_at dksX5_set_2 17 rfl rfl)
theorem dX5_set_62 : decode cX5_set 62 = .ok (.istore_n 3, 1) := dk_62 (dk_at dksX5_set_2 18 rfl rfl)
theorem dX5_set_63 : decode cX5_set 63 = .ok (.aload_n 0, 1) := dk_42 (dk_at dksX5_set_2 19 rfl rfl)
theorem dX5_set_64 : decode cX5_set 64 = .ok (.getfield 7, 3) := dk_180 0 7 (dk_at dksX5_set_2 20 rfl rfl)
theorem dX5_set_67 : decode cX5_set 67 = .ok (.iload_n 1, 1) := dk_27 (dk_at dksX5_set_2 23 rfl rfl)
theorem dX5_set_68 : decode cX5_set 68 = .ok (.iload_n 2, 1) := dk_28 (dk_at dksX5_set_3 0 rfl rfl)
theorem dX5_set_69 : decode cX5_set 69 = .ok (.iastore, 1) := dk_79 (dk_at dksX5_set_3 1 rfl rfl)
theorem dX5_set_70 : decode cX5_set 70 = .ok (.iload_n 3, 1) := dk_29 (dk_at dksX5_set_3 2 rfl rfl)
theorem dX5_set_71 : decode cX5_set 71 = .ok (.ireturn, 1) := dk_172 (dk_at dksX5_set_3 3 rfl rfl)
abbrev cX5_in : ByteArray := prog_14_method_3_code
def yX5_in : MethodName := ⟨RX5, "in", "(III)Z"⟩
def dkwX5_in_0 : List UInt8 := [26, 27, 161, 0, 12, 26, 28, 163, 0, 7, 4, 167, 0, 4, 3, 172]
abbrev dktX5_in_0 : List UInt8 := dkwX5_in_0 ++ []
theorem dksX5_in_0 : cX5_in.data.toList.drop 0 = dktX5_in_0 := by decide +kernel
theorem dX5_in_0 : decode cX5_in 0 = .ok (.iload_n 0, 1) := dk_26 (dk_at dksX5_in_0 0 rfl rfl)
theorem dX5_in_1 : decode cX5_in 1 = .ok (.iload_n 1, 1) := dk_27 (dk_at dksX5_in_0 1 rfl rfl)
theorem dX5_in_2 : decode cX5_in 2 = .ok (.if_icmp .lt 12, 3) := dk_161 0 12 (dk_at dksX5_in_0 2 rfl rfl)
theorem dX5_in_5 : decode cX5_in 5 = .ok (.iload_n 0, 1) := dk_26 (dk_at dksX5_in_0 5 rfl rfl)
theorem dX5_in_6 : decode cX5_in 6 = .ok (.iload_n 2, 1) := dk_28 (dk_at dksX5_in_0 6 rfl rfl)
theorem dX5_in_7 : decode cX5_in 7 = .ok (.if_icmp .gt 7, 3) := dk_163 0 7 (dk_at dksX5_in_0 7 rfl rfl)
theorem dX5_in_10 : decode cX5_in 10 = .ok (.iconst 1, 1) := dk_4 (dk_at dksX5_in_0 10 rfl rfl)
theorem dX5_in_11 : decode cX5_in 11 = .ok (.goto 4, 3) := dk_167 0 4 (dk_at dksX5_in_0 11 rfl rfl)
theorem dX5_in_14 : decode cX5_in 14 = .ok (.iconst 0, 1) := dk_3 (dk_at dksX5_in_0 14 rfl rfl)
theorem dX5_in_15 : decode cX5_in 15 = .ok (.ireturn, 1) := dk_172 (dk_at dksX5_in_0 15 rfl rfl)
abbrev cX5_lowOf : ByteArray := prog_14_method_44_code
def yX5_lowOf : MethodName := ⟨RX5, "lowOf", "(I)I"⟩
def dkwX5_lowOf_1 : List UInt8 := [160, 0, 7, 4, 167, 0, 4, 3, 172]
abbrev dktX5_lowOf_1 : List UInt8 := dkwX5_lowOf_1 ++ []
def dkwX5_lowOf_0 : List UInt8 := [26, 154, 0, 7, 5, 167, 0, 27, 26, 4, 160, 0, 7, 6, 167, 0, 18, 26, 5, 159, 0, 8, 26, 7]
abbrev dktX5_lowOf_0 : List UInt8 := dkwX5_lowOf_0 ++ dktX5_lowOf_1
theorem dksX5_lowOf_0 : cX5_lowOf.data.toList.drop 0 = dktX5_lowOf_0 := by decide +kernel
theorem dksX5_lowOf_1 : cX5_lowOf.data.toList.drop 24 = dktX5_lowOf_1 := dk_seg dksX5_lowOf_0 24 rfl rfl
theorem dX5_lowOf_0 : decode cX5_lowOf 0 = .ok (.iload_n 0, 1) := dk_26 (dk_at dksX5_lowOf_0 0 rfl rfl)
theorem dX5_lowOf_1 : decode cX5_lowOf 1 = .ok (.ifCond .ne 7, 3) := dk_154 0 7 (dk_at dksX5_lowOf_0 1 rfl rfl)
theorem dX5_lowOf_4 : decode cX5_lowOf 4 = .ok (.iconst 2, 1) := dk_5 (dk_at dksX5_lowOf_0 4 rfl rfl)
theorem dX5_lowOf_5 : decode cX5_lowOf 5 = .ok (.goto 27, 3) := dk_167 0 27 (dk_at dksX5_lowOf_0 5 rfl rfl)
theorem dX5_lowOf_8 : decode cX5_lowOf 8 = .ok (.iload_n 0, 1) := dk_26 (dk_at dksX5_lowOf_0 8 rfl rfl)
theorem dX5_lowOf_9 : decode cX5_lowOf 9 = .ok (.iconst 1, 1) := dk_4 (dk_at dksX5_lowOf_0 9 rfl rfl)
theorem dX5_lowOf_10 : decode cX5_lowOf 10 = .ok (.if_icmp .ne 7, 3) := dk_160 0 7 (dk_at dksX5_lowOf_0 10 rfl rfl)
theorem dX5_lowOf_13 : decode cX5_lowOf 13 = .ok (.iconst 3, 1) := dk_6 (dk_at dksX5_lowOf_0 13 rfl rfl)
theorem dX5_lowOf_14 : decode cX5_lowOf 14 = .ok (.goto 18, 3) := dk_167 0 18 (dk_at dksX5_lowOf_0 14 rfl rfl)
theorem dX5_lowOf_17 : decode cX5_lowOf 17 = .ok (.iload_n 0, 1) := dk_26 (dk_at dksX5_lowOf_0 17 rfl rfl)
theorem dX5_lowOf_18 : decode cX5_lowOf 18 = .ok (.iconst 2, 1) := dk_5 (dk_at dksX5_lowOf_0 18 rfl rfl)
theorem dX5_lowOf_19 : decode cX5_lowOf 19 = .ok (.if_icmp .eq 8, 3) := dk_159 0 8 (dk_at dksX5_lowOf_0 19 rfl rfl)
theorem dX5_lowOf_22 : decode cX5_lowOf 22 = .ok (.iload_n 0, 1) := dk_26 (dk_at dksX5_lowOf_0 22 rfl rfl)
theorem dX5_lowOf_23 : decode cX5_lowOf 23 = .ok (.iconst 4, 1) := dk_7 (dk_at dksX5_lowOf_0 23 rfl rfl)
theorem dX5_lowOf_24 : decode cX5_lowOf 24 = .ok (.if_icmp .ne 7, 3) := dk_160 0 7 (dk_at dksX5_lowOf_1 0 rfl rfl)
theorem dX5_lowOf_27 : decode cX5_lowOf 27 = .ok (.iconst 1, 1) := dk_4 (dk_at dksX5_lowOf_1 3 rfl rfl)
theorem dX5_lowOf_28 : decode cX5_lowOf 28 = .ok (.goto 4, 3) := dk_167 0 4 (dk_at dksX5_lowOf_1 4 rfl rfl)
theorem dX5_lowOf_31 : decode cX5_lowOf 31 = .ok (.iconst 0, 1) := dk_3 (dk_at dksX5_lowOf_1 7 rfl rfl)
theorem dX5_lowOf_32 : decode cX5_lowOf 32 = .ok (.ireturn, 1) := dk_172 (dk_at dksX5_lowOf_1 8 rfl rfl)
abbrev cX5_highOf : ByteArray := prog_14_method_45_code
def yX5_highOf : MethodName := ⟨RX5, "highOf", "(I)I"⟩
def dkwX5_highOf_2 : List UInt8 := [167, 0, 5, 16, 90, 172]
abbrev dktX5_highOf_2 : List UInt8 := dkwX5_highOf_2 ++ []
def dkwX5_highOf_1 : List UInt8 := [16, 20, 167, 0, 25, 26, 6, 160, 0, 8, 16, 30, 167, 0, 15, 26, 7, 160, 0, 8, 16, 99]
abbrev dktX5_highOf_1 : List UInt8 := dkwX5_highOf_1 ++ dktX5_highOf_2
def dkwX5_highOf_0 : List UInt8 := [26, 154, 0, 8, 16, 12, 167, 0, 45, 26, 4, 160, 0, 8, 16, 9, 167, 0, 35, 26, 5, 160, 0, 8]
abbrev dktX5_highOf_0 : List UInt8 := dkwX5_highOf_0 ++ dktX5_highOf_1
theorem dksX5_highOf_0 : cX5_highOf.data.toList.drop 0 = dktX5_highOf_0 := by decide +kernel
theorem dksX5_highOf_1 : cX5_highOf.data.toList.drop 24 = dktX5_highOf_1 := dk_seg dksX5_highOf_0 24 rfl rfl
theorem dksX5_highOf_2 : cX5_highOf.data.toList.drop 46 = dktX5_highOf_2 := dk_seg dksX5_highOf_1 22 rfl rfl
theorem dX5_highOf_0 : decode cX5_highOf 0 = .ok (.iload_n 0, 1) := dk_26 (dk_at dksX5_highOf_0 0 rfl rfl)
theorem dX5_highOf_1 : decode cX5_highOf 1 = .ok (.ifCond .ne 8, 3) := dk_154 0 8 (dk_at dksX5_highOf_0 1 rfl rfl)
theorem dX5_highOf_4 : decode cX5_highOf 4 = .ok (.bipush 12, 2) := dk_16 12 (dk_at dksX5_highOf_0 4 rfl rfl)
theorem dX5_highOf_6 : decode cX5_highOf 6 = .ok (.goto 45, 3) := dk_167 0 45 (dk_at dksX5_highOf_0 6 rfl rfl)
theorem dX5_highOf_9 : decode cX5_highOf 9 = .ok (.iload_n 0, 1) := dk_26 (dk_at dksX5_highOf_0 9 rfl rfl)
theorem dX5_highOf_10 : decode cX5_highOf 10 = .ok (.iconst 1, 1) := dk_4 (dk_at dksX5_highOf_0 10 rfl rfl)
theorem dX5_highOf_11 : decode cX5_highOf 11 = .ok (.if_icmp .ne 8, 3) := dk_160 0 8 (dk_at dksX5_highOf_0 11 rfl rfl)
theorem dX5_highOf_14 : decode cX5_highOf 14 = .ok (.bipush 9, 2) := dk_16 9 (dk_at dksX5_highOf_0 14 rfl rfl)
theorem dX5_highOf_16 : decode cX5_highOf 16 = .ok (.goto 35, 3) := dk_167 0 35 (dk_at dksX5_highOf_0 16 rfl rfl)
theorem dX5_highOf_19 : decode cX5_highOf 19 = .ok (.iload_n 0, 1) := dk_26 (dk_at dksX5_highOf_0 19 rfl rfl)
theorem dX5_highOf_20 : decode cX5_highOf 20 = .ok (.iconst 2, 1) := dk_5 (dk_at dksX5_highOf_0 20 rfl rfl)
theorem dX5_highOf_21 : decode cX5_highOf 21 = .ok (.if_icmp .ne 8, 3) := dk_160 0 8 (dk_at dksX5_highOf_0 21 rfl rfl)
theorem dX5_highOf_24 : decode cX5_highOf 24 = .ok (.bipush 20, 2) := dk_16 20 (dk_at dksX5_highOf_1 0 rfl rfl)
theorem dX5_highOf_26 : decode cX5_highOf 26 = .ok (.goto 25, 3) := dk_167 0 25 (dk_at dksX5_highOf_1 2 rfl rfl)
theorem dX5_highOf_29 : decode cX5_highOf 29 = .ok (.iload_n 0, 1) := dk_26 (dk_at dksX5_highOf_1 5 rfl rfl)
theorem dX5_highOf_30 : decode cX5_highOf 30 = .ok (.iconst 3, 1) := dk_6 (dk_at dksX5_highOf_1 6 rfl rfl)
theorem dX5_highOf_31 : decode cX5_highOf 31 = .ok (.if_icmp .ne 8, 3) := dk_160 0 8 (dk_at dksX5_highOf_1 7 rfl rfl)
theorem dX5_highOf_34 : decode cX5_highOf 34 = .ok (.bipush 30, 2) := dk_16 30 (dk_at dksX5_highOf_1 10 rfl rfl)
theorem dX5_highOf_36 : decode cX5_highOf 36 = .ok (.goto 15, 3) := dk_167 0 15 (dk_at dksX5_highOf_1 12 rfl rfl)
theorem dX5_highOf_39 : decode cX5_highOf 39 = .ok (.iload_n 0, 1) := dk_26 (dk_at dksX5_highOf_1 15 rfl rfl)
theorem dX5_highOf_40 : decode cX5_highOf 40 = .ok (.iconst 4, 1) := dk_7 (dk_at dksX5_highOf_1 16 rfl rfl)
theorem dX5_highOf_41 : decode cX5_highOf 41 = .ok (.if_icmp .ne 8, 3) := dk_160 0 8 (dk_at dksX5_highOf_1 17 rfl rfl)
theorem dX5_highOf_44 : decode cX5_highOf 44 = .ok (.bipush 99, 2) := dk_16 99 (dk_at dksX5_highOf_1 20 rfl rfl)
theorem dX5_highOf_46 : decode cX5_highOf 46 = .ok (.goto 5, 3) := dk_167 0 5 (dk_at dksX5_highOf_2 0 rfl rfl)
theorem dX5_highOf_49 : decode cX5_highOf 49 = .ok (.bipush 90, 2) := dk_16 90 (dk_at dksX5_highOf_2 3 rfl rfl)
theorem dX5_highOf_51 : decode cX5_highOf 51 = .ok (.ireturn, 1) := dk_172 (dk_at dksX5_highOf_2 5 rfl rfl)
abbrev cX5_clear : ByteArray := prog_14_method_47_code
def yX5_clear : MethodName := ⟨RX5, "clear", "()I"⟩
def dkwX5_clear_0 : List UInt8 := [42, 3, 181, 0, 58, 42, 180, 0, 7, 16, 11, 46, 60, 42, 182, 0, 55, 42, 3, 181, 0, 147, 27, 172]
abbrev dktX5_clear_0 : List UInt8 := dkwX5_clear_0 ++ []
theorem dksX5_clear_0 : cX5_clear.data.toList.drop 0 = dktX5_clear_0 := by decide +kernel
theorem dX5_clear_0 : decode cX5_clear 0 = .ok (.aload_n 0, 1) := dk_42 (dk_at dksX5_clear_0 0 rfl rfl)
theorem dX5_clear_1 : decode cX5_clear 1 = .ok (.iconst 0, 1) := dk_3 (dk_at dksX5_clear_0 1 rfl rfl)
theorem dX5_clear_2 : decode cX5_clear 2 = .ok (.putfield 58, 3) := dk_181 0 58 (dk_at dksX5_clear_0 2 rfl rfl)
theorem dX5_clear_5 : decode cX5_clear 5 = .ok (.aload_n 0, 1) := dk_42 (dk_at dksX5_clear_0 5 rfl rfl)
theorem dX5_clear_6 : decode cX5_clear 6 = .ok (.getfield 7, 3) := dk_180 0 7 (dk_at dksX5_clear_0 6 rfl rfl)
theorem dX5_clear_9 : decode cX5_clear 9 = .ok (.bipush 11, 2) := dk_16 11 (dk_at dksX5_clear_0 9 rfl rfl)
theorem dX5_clear_11 : decode cX5_clear 11 = .ok (.iaload, 1) := dk_46 (dk_at dksX5_clear_0 11 rfl rfl)
theorem dX5_clear_12 : decode cX5_clear 12 = .ok (.istore_n 1, 1) := dk_60 (dk_at dksX5_clear_0 12 rfl rfl)
theorem dX5_clear_13 : decode cX5_clear 13 = .ok (.aload_n 0, 1) := dk_42 (dk_at dksX5_clear_0 13 rfl rfl)
theorem dX5_clear_14 : decode cX5_clear 14 = .ok (.invokevirtual 55, 3) := dk_182 0 55 (dk_at dksX5_clear_0 14 rfl rfl)
theorem dX5_clear_17 : decode cX5_clear 17 = .ok (.aload_n 0, 1) := dk_42 (dk_at dksX5_clear_0 17 rfl rfl)
theorem dX5_clear_18 : decode cX5_clear 18 = .ok (.iconst 0, 1) := dk_3 (dk_at dksX5_clear_0 18 rfl rfl)
theorem dX5_clear_19 : decode cX5_clear 19 = .ok (.putfield 147, 3) := dk_181 0 147 (dk_at dksX5_clear_0 19 rfl rfl)
theorem dX5_clear_22 : decode cX5_clear 22 = .ok (.iload_n 1, 1) := dk_27 (dk_at dksX5_clear_0 22 rfl rfl)
theorem dX5_clear_23 : decode cX5_clear 23 = .ok (.ireturn, 1) := dk_172 (dk_at dksX5_clear_0 23 rfl rfl)
abbrev cX5_count : ByteArray := prog_14_method_52_code
def yX5_count : MethodName := ⟨RX5, "count", "(I)I"⟩
def dkwX5_count_5 : List UInt8 := [172, 42, 180, 0, 147, 172, 42, 182, 0, 195, 172, 42, 2, 182, 0, 198, 172, 42, 180, 0, 7, 27, 46, 172]
abbrev dktX5_count_5 : List UInt8 := dkwX5_count_5 ++ []
def dkwX5_count_4 : List UInt8 := [16, 9, 46, 172, 42, 182, 0, 117, 172, 42, 180, 0, 7, 16, 10, 46, 172, 42, 180, 0, 7, 16, 11, 46]
abbrev dktX5_count_4 : List UInt8 := dkwX5_count_4 ++ dktX5_count_5
def dkwX5_count_3 : List UInt8 := [3, 172, 42, 182, 0, 189, 172, 42, 182, 0, 192, 172, 42, 180, 0, 7, 16, 8, 46, 172, 42, 180, 0, 7]
abbrev dktX5_count_3 : List UInt8 := dkwX5_count_3 ++ dktX5_count_4
def dkwX5_count_2 : List UInt8 := [170, 0, 0, 0, 154, 255, 255, 255, 255, 0, 0, 0, 17, 0, 0, 0, 89, 0, 0, 0, 154, 0, 0, 0, 154, 0, 0, 0, 154, 0, 0, 0, 154, 0, 0, 0, 154, 0, 0, 0, 154, 0, 0, 0, 154, 0, 0, 0, 154, 0, 0, 0, 91, 0, 0, 0, 96, 0, 0, 0, 101, 0, 0, 0, 109, 0, 0, 0, 117, 0, 0, 0, 122, 0, 0, 0, 130, 0, 0, 0, 138, 0, 0, 0, 143, 0, 0, 0, 148]
abbrev dktX5_count_2 : List UInt8 := dkwX5_count_2 ++ dktX5_count_3
def dkwX5_count_1 : List UInt8 := [158, 0, 7, 2, 167, 0, 4, 27]
abbrev dktX5_count_1 : List UInt8 := dkwX5_count_1 ++ dktX5_count_2
def dkwX5_count_0 : List UInt8 := [42, 27, 3, 16, 17, 184, 0, 179, 153, 0, 7, 3, 167, 0, 4, 4, 181, 0, 58, 42, 180, 0, 58]
abbrev dktX5_count_0 : List UInt8 := dkwX5_count_0 ++ dktX5_count_1
theorem dksX5_count_0 : cX5_count.data.toList.drop 0 = dktX5_count_0 := by decide +kernel
theorem dksX5_count_1 : cX5_count.data.toList.drop 23 = dktX5_count_1 := dk_seg dksX5_count_0 23 rfl rfl
theorem dksX5_count_2 : cX5_count.data.toList.drop 31 = dktX5_count_2 := dk_seg dksX5_count_1 8 rfl rfl
theorem dksX5_count_3 : cX5_count.data.toList.drop 120 = dktX5_count_3 := dk_seg dksX5_count_2 89 rfl rfl
theorem dksX5_count_4 : cX5_count.data.toList.drop 144 = dktX5_count_4 := dk_seg dksX5_count_3 24 rfl rfl
theorem dksX5_count_5 : cX5_count.data.toList.drop 168 = dktX5_count_5 := dk_seg dksX5_count_4 24 rfl rfl
theorem dX5_count_0 : decode cX5_count 0 = .ok (.aload_n 0, 1) := dk_42 (dk_at dksX5_count_0 0 rfl rfl)
theorem dX5_count_1 : decode cX5_count 1 = .ok (.iload_n 1, 1) := dk_27 (dk_at dksX5_count_0 1 rfl rfl)
theorem dX5_count_2 : decode cX5_count 2 = .ok (.iconst 0, 1) := dk_3 (dk_at dksX5_count_0 2 rfl rfl)
theorem dX5_count_3 : decode cX5_count 3 = .ok (.bipush 17, 2) := dk_16 17 (dk_at dksX5_count_0 3 rfl rfl)
theorem dX5_count_5 : decode cX5_count 5 = .ok (.invokestatic 179, 3) := dk_184 0 179 (dk_at dksX5_count_0 5 rfl rfl)
theorem dX5_count_8 : decode cX5_count 8 = .ok (.ifCond .eq 7, 3) := dk_153 0 7 (dk_at dksX5_count_0 8 rfl rfl)
theorem dX5_count_11 : decode cX5_count 11 = .ok (.iconst 0, 1) := dk_3 (dk_at dksX5_count_0 11 rfl rfl)
theorem dX5_count_12 : decode cX5_count 12 = .ok (.goto 4, 3) := dk_167 0 4 (dk_at dksX5_count_0 12 rfl rfl)
theorem dX5_count_15 : decode cX5_count 15 = .ok (.iconst 1, 1) := dk_4 (dk_at dksX5_count_0 15 rfl rfl)
theorem dX5_count_16 : decode cX5_count 16 = .ok (.putfield 58, 3) := dk_181 0 58 (dk_at dksX5_count_0 16 rfl rfl)
theorem dX5_count_19 : decode cX5_count 19 = .ok (.aload_n 0, 1) := dk_42 (dk_at dksX5_count_0 19 rfl rfl)
theorem dX5_count_20 : decode cX5_count 20 = .ok (.getfield 58, 3) := dk_180 0 58 (dk_at dksX5_count_0 20 rfl rfl)
theorem dX5_count_23 : decode cX5_count 23 = .ok (.ifCond .le 7, 3) := dk_158 0 7 (dk_at dksX5_count_1 0 rfl rfl)
theorem dX5_count_26 : decode cX5_count 26 = .ok (.iconst (-1), 1) := dk_2 (dk_at dksX5_count_1 3 rfl rfl)
theorem dX5_count_27 : decode cX5_count 27 = .ok (.goto 4, 3) := dk_167 0 4 (dk_at dksX5_count_1 4 rfl rfl)
theorem dX5_count_30 : decode cX5_count 30 = .ok (.iload_n 1, 1) := dk_27 (dk_at dksX5_count_1 7 rfl rfl)
theorem dX5_count_31 : decode cX5_count 31 = .ok (.tableswitch 154 (-1) 17 #[89, 154, 154, 154, 154, 154, 154, 154, 154, 91, 96, 101, 109, 117, 122, 130, 138, 143, 148], 89) := by decide +kernel
theorem dX5_count_120 : decode cX5_count 120 = .ok (.iconst 0, 1) := dk_3 (dk_at dksX5_count_3 0 rfl rfl)
theorem dX5_count_121 : decode cX5_count 121 = .ok (.ireturn, 1) := dk_172 (dk_at dksX5_count_3 1 rfl rfl)
theorem dX5_count_122 : decode cX5_count 122 = .ok (.aload_n 0, 1) := dk_42 (dk_at dksX5_count_3 2 rfl rfl)
theorem dX5_count_123 : decode cX5_count 123 = .ok (.invokevirtual 189, 3) := dk_182 0 189 (dk_at dksX5_count_3 3 rfl rfl)
theorem dX5_count_126 : decode cX5_count 126 = .ok (.ireturn, 1) := dk_172 (dk_at dksX5_count_3 6 rfl rfl)
theorem dX5_count_127 : decode cX5_count 127 = .ok (.aload_n 0, 1) := dk_42 (dk_at dksX5_count_3 7 rfl rfl)
theorem dX5_count_128 : decode cX5_count 128 = .ok (.invokevirtual 192, 3) := dk_182 0 192 (dk_at dksX5_count_3 8 rfl rfl)
theorem dX5_count_131 : decode cX5_count 131 = .ok (.ireturn, 1) := dk_172 (dk_at dksX5_count_3 11 rfl rfl)
theorem dX5_count_132 : decode cX5_count 132 = .ok (.aload_n 0, 1) := dk_42 (dk_at dksX5_count_3 12 rfl rfl)
theorem dX5_count_133 : decode cX5_count 133 = .ok (.getfield 7, 3) := dk_180 0 7 (dk_at dksX5_count_3 13 rfl rfl)
theorem dX5_count_136 : decode cX5_count 136 = .ok (.bipush 8, 2) := dk_16 8 (dk_at dksX5_count_3 16 rfl rfl)
theorem dX5_count_138 : decode cX5_count 138 = .ok (.iaload, 1) := dk_46 (dk_at dksX5_count_3 18 rfl rfl)
theorem dX5_count_139 : decode cX5_count 139 = .ok (.ireturn, 1) := dk_172 (dk_at dksX5_count_3 19 rfl rfl)
theorem dX5_count_140 : decode cX5_count 140 = .ok (.aload_n 0, 1) := dk_42 (dk_at dksX5_count_3 20 rfl rfl)
theorem dX5_count_141 : decode cX5_count 141 = .ok (.getfield 7, 3) := dk_180 0 7 (dk_at dksX5_count_3 21 rfl rfl)
theorem dX5_count_144 : decode cX5_count 144 = .ok (.bipush 9, 2) := dk_16 9 (dk_at dksX5_count_4 0 rfl rfl)
theorem dX5_count_146 : decode cX5_count 146 = .ok (.iaload, 1) := dk_46 (dk_at dksX5_count_4 2 rfl rfl)
theorem dX5_count_147 : decode cX5_count 147 = .ok (.ireturn, 1) := dk_172 (dk_at dksX5_count_4 3 rfl rfl)
theorem dX5_count_148 : decode cX5_count 148 = .ok (.aload_n 0, 1) := dk_42 (dk_at dksX5_count_4 4 rfl rfl)
theorem dX5_count_149 : decode cX5_count 149 = .ok (.invokevirtual 117, 3) := dk_182 0 117 (dk_at dksX5_count_4 5 rfl rfl)
theorem dX5_count_152 : decode cX5_count 152 = .ok (.ireturn, 1) := dk_172 (dk_at dksX5_count_4 8 rfl rfl)
theorem dX5_count_153 : decode cX5_count 153 = .ok (.aload_n 0, 1) := dk_42 (dk_at dksX5_count_4 9 rfl rfl)
theorem dX5_count_154 : decode cX5_count 154 = .ok (.getfield 7, 3) := dk_180 0 7 (dk_at dksX5_count_4 10 rfl rfl)
theorem dX5_count_157 : decode cX5_count 157 = .ok (.bipush 10, 2) := dk_16 10 (dk_at dksX5_count_4 13 rfl rfl)
theorem dX5_count_159 : decode cX5_count 159 = .ok (.iaload, 1) := dk_46 (dk_at dksX5_count_4 15 rfl rfl)
theorem dX5_count_160 : decode cX5_count 160 = .ok (.ireturn, 1) := dk_172 (dk_at dksX5_count_4 16 rfl rfl)
theorem dX5_count_161 : decode cX5_count 161 = .ok (.aload_n 0, 1) := dk_42 (dk_at dksX5_count_4 17 rfl rfl)
theorem dX5_count_162 : decode cX5_count 162 = .ok (.getfield 7, 3) := dk_180 0 7 (dk_at dksX5_count_4 18 rfl rfl)
theorem dX5_count_165 : decode cX5_count 165 = .ok (.bipush 11, 2) := dk_16 11 (dk_at dksX5_count_4 21 rfl rfl)
theorem dX5_count_167 : decode cX5_count 167 = .ok (.iaload, 1) := dk_46 (dk_at dksX5_count_4 23 rfl rfl)
theorem dX5_count_168 : decode cX5_count 168 = .ok (.ireturn, 1) := dk_172 (dk_at dksX5_count_5 0 rfl rfl)
theorem dX5_count_169 : decode cX5_count 169 = .ok (.aload_n 0, 1) := dk_42 (dk_at dksX5_count_5 1 rfl rfl)
theorem dX5_count_170 : decode cX5_count 170 = .ok (.getfield 147, 3) := dk_180 0 147 (dk_at dksX5_count_5 2 rfl rfl)
theorem dX5_count_173 : decode cX5_count 173 = .ok (.ireturn, 1) := dk_172 (dk_at dksX5_count_5 5 rfl rfl)
theorem dX5_count_174 : decode cX5_count 174 = .ok (.aload_n 0, 1) := dk_42 (dk_at dksX5_count_5 6 rfl rfl)
theorem dX5_count_175 : decode cX5_count 175 = .ok (.invokevirtual 195, 3) := dk_182 0 195 (dk_at dksX5_count_5 7 rfl rfl)
theorem dX5_count_178 : decode cX5_count 178 = .ok (.ireturn, 1) := dk_172 (dk_at dksX5_count_5 10 rfl rfl)
theorem dX5_count_179 : decode cX5_count 179 = .ok (.aload_n 0, 1) := dk_42 (dk_at dksX5_count_5 11 rfl rfl)
theorem dX5_count_180 : decode cX5_count 180 = .ok (.iconst (-1), 1) := dk_2 (dk_at dksX5_count_5 12 rfl rfl)
theorem dX5_count_181 : decode cX5_count 181 = .ok (.invokevirtual 198, 3) := dk_182 0 198 (dk_at dksX5_count_5 13 rfl rfl)
theorem dX5_count_184 : decode cX5_count 184 = .ok (.ireturn, 1) := dk_172 (dk_at dksX5_count_5 16 rfl rfl)
theorem dX5_count_185 : decode cX5_count 185 = .ok (.aload_n 0, 1) := dk_42 (dk_at dksX5_count_5 17 rfl rfl)
theorem dX5_count_186 : decode cX5_count 186 = .ok (.getfield 7, 3) := dk_180 0 7 (dk_at dksX5_count_5 18 rfl rfl)
theorem dX5_count_189 : decode cX5_count 189 = .ok (.iload_n 1, 1) := dk_27 (dk_at dksX5_count_5 21 rfl rfl)
theorem dX5_count_190 : decode cX5_count 190 = .ok (.iaload, 1) := dk_46 (dk_at dksX5_count_5 22 rfl rfl)
theorem dX5_count_191 : decode cX5_count 191 = .ok (.ireturn, 1) := dk_172 (dk_at dksX5_count_5 23 rfl rfl)
abbrev cX5_livingUnits : ByteArray := prog_14_method_48_code
def yX5_livingUnits : MethodName := ⟨RX5, "livingUnits", "()I"⟩
def dkwX5_livingUnits_1 : List UInt8 := [4, 167, 0, 4, 3, 96, 60, 132, 2, 1, 167, 255, 226, 27, 172]
abbrev dktX5_livingUnits_1 : List UInt8 := dkwX5_livingUnits_1 ++ []
def dkwX5_livingUnits_0 : List UInt8 := [3, 60, 3, 61, 28, 42, 180, 0, 7, 16, 7, 46, 162, 0, 25, 27, 42, 28, 182, 0, 75, 153, 0, 7]
abbrev dktX5_livingUnits_0 : List UInt8 := dkwX5_livingUnits_0 ++ dktX5_livingUnits_1
theorem dksX5_livingUnits_0 : cX5_livingUnits.data.toList.drop 0 = dktX5_livingUnits_0 := by decide +kernel
theorem dksX5_livingUnits_1 : cX5_livingUnits.data.toList.drop 24 = dktX5_livingUnits_1 := dk_seg dksX5_livingUnits_0 24 rfl rfl
theorem dX5_livingUnits_0 : decode cX5_livingUnits 0 = .ok (.iconst 0, 1) := dk_3 (dk_at dksX5_livingUnits_0 0 rfl rfl)
theorem dX5_livingUnits_1 : decode cX5_livingUnits 1 = .ok (.istore_n 1, 1) := dk_60 (dk_at dksX5_livingUnits_0 1 rfl rfl)
theorem dX5_livingUnits_2 : decode cX5_livingUnits 2 = .ok (.iconst 0, 1) := dk_3 (dk_at dksX5_livingUnits_0 2 rfl rfl)
theorem dX5_livingUnits_3 : decode cX5_livingUnits 3 = .ok (.istore_n 2, 1) := dk_61 (dk_at dksX5_livingUnits_0 3 rfl rfl)
theorem dX5_livingUnits_4 : decode cX5_livingUnits 4 = .ok (.iload_n 2, 1) := dk_28 (dk_at dksX5_livingUnits_0 4 rfl rfl)
theorem dX5_livingUnits_5 : decode cX5_livingUnits 5 = .ok (.aload_n 0, 1) := dk_42 (dk_at dksX5_livingUnits_0 5 rfl rfl)
theorem dX5_livingUnits_6 : decode cX5_livingUnits 6 = .ok (.getfield 7, 3) := dk_180 0 7 (dk_at dksX5_livingUnits_0 6 rfl rfl)
theorem dX5_livingUnits_9 : decode cX5_livingUnits 9 = .ok (.bipush 7, 2) := dk_16 7 (dk_at dksX5_livingUnits_0 9 rfl rfl)
theorem dX5_livingUnits_11 : decode cX5_livingUnits 11 = .ok (.iaload, 1) := dk_46 (dk_at dksX5_livingUnits_0 11 rfl rfl)
theorem dX5_livingUnits_12 : decode cX5_livingUnits 12 = .ok (.if_icmp .ge 25, 3) := dk_162 0 25 (dk_at dksX5_livingUnits_0 12 rfl rfl)
theorem dX5_livingUnits_15 : decode cX5_livingUnits 15 = .ok (.iload_n 1, 1) := dk_27 (dk_at dksX5_livingUnits_0 15 rfl rfl)
theorem dX5_livingUnits_16 : decode cX5_livingUnits 16 = .ok (.aload_n 0, 1) := dk_42 (dk_at dksX5_livingUnits_0 16 rfl rfl)
theorem dX5_livingUnits_17 : decode cX5_livingUnits 17 = .ok (.iload_n 2, 1) := dk_28 (dk_at dksX5_livingUnits_0 17 rfl rfl)
theorem dX5_livingUnits_18 : decode cX5_livingUnits 18 = .ok (.invokevirtual 75, 3) := dk_182 0 75 (dk_at dksX5_livingUnits_0 18 rfl rfl)
theorem dX5_livingUnits_21 : decode cX5_livingUnits 21 = .ok (.ifCond .eq 7, 3) := dk_153 0 7 (dk_at dksX5_livingUnits_0 21 rfl rfl)
theorem dX5_livingUnits_24 : decode cX5_livingUnits 24 = .ok (.iconst 1, 1) := dk_4 (dk_at dksX5_livingUnits_1 0 rfl rfl)
theorem dX5_livingUnits_25 : decode cX5_livingUnits 25 = .ok (.goto 4, 3) := dk_167 0 4 (dk_at dksX5_livingUnits_1 1 rfl rfl)
theorem dX5_livingUnits_28 : decode cX5_livingUnits 28 = .ok (.iconst 0, 1) := dk_3 (dk_at dksX5_livingUnits_1 4 rfl rfl)
theorem dX5_livingUnits_29 : decode cX5_livingUnits 29 = .ok (.iadd, 1) := dk_96 (dk_at dksX5_livingUnits_1 5 rfl rfl)
theorem dX5_livingUnits_30 : decode cX5_livingUnits 30 = .ok (.istore_n 1, 1) := dk_60 (dk_at dksX5_livingUnits_1 6 rfl rfl)
theorem dX5_livingUnits_31 : decode cX5_livingUnits 31 = .ok (.iinc 2 1, 3) := dk_132 2 1 (dk_at dksX5_livingUnits_1 7 rfl rfl)
theorem dX5_livingUnits_34 : decode cX5_livingUnits 34 = .ok (.goto (-30), 3) := dk_167 255 226 (dk_at dksX5_livingUnits_1 10 rfl rfl)
theorem dX5_livingUnits_37 : decode cX5_livingUnits 37 = .ok (.iload_n 1, 1) := dk_27 (dk_at dksX5_livingUnits_1 13 rfl rfl)
theorem dX5_livingUnits_38 : decode cX5_livingUnits 38 = .ok (.ireturn, 1) := dk_172 (dk_at dksX5_livingUnits_1 14 rfl rfl)
abbrev cX5_lives : ByteArray := prog_14_method_11_code
def yX5_lives : MethodName := ⟨RX5, "lives", "(I)Z"⟩
def dkwX5_lives_0 : List UInt8 := [42, 27, 7, 182, 0, 71, 4, 160, 0, 7, 4, 167, 0, 4, 3, 172]
abbrev dktX5_lives_0 : List UInt8 := dkwX5_lives_0 ++ []
theorem dksX5_lives_0 : cX5_lives.data.toList.drop 0 = dktX5_lives_0 := by decide +kernel
theorem dX5_lives_0 : decode cX5_lives 0 = .ok (.aload_n 0, 1) := dk_42 (dk_at dksX5_lives_0 0 rfl rfl)
theorem dX5_lives_1 : decode cX5_lives 1 = .ok (.iload_n 1, 1) := dk_27 (dk_at dksX5_lives_0 1 rfl rfl)
theorem dX5_lives_2 : decode cX5_lives 2 = .ok (.iconst 4, 1) := dk_7 (dk_at dksX5_lives_0 2 rfl rfl)
theorem dX5_lives_3 : decode cX5_lives 3 = .ok (.invokevirtual 71, 3) := dk_182 0 71 (dk_at dksX5_lives_0 3 rfl rfl)
theorem dX5_lives_6 : decode cX5_lives 6 = .ok (.iconst 1, 1) := dk_4 (dk_at dksX5_lives_0 6 rfl rfl)
theorem dX5_lives_7 : decode cX5_lives 7 = .ok (.if_icmp .ne 7, 3) := dk_160 0 7 (dk_at dksX5_lives_0 7 rfl rfl)
theorem dX5_lives_10 : decode cX5_lives 10 = .ok (.iconst 1, 1) := dk_4 (dk_at dksX5_lives_0 10 rfl rfl)
theorem dX5_lives_11 : decode cX5_lives 11 = .ok (.goto 4, 3) := dk_167 0 4 (dk_at dksX5_lives_0 11 rfl rfl)
theorem dX5_lives_14 : decode cX5_lives 14 = .ok (.iconst 0, 1) := dk_3 (dk_at dksX5_lives_0 14 rfl rfl)
theorem dX5_lives_15 : decode cX5_lives 15 = .ok (.ireturn, 1) := dk_172 (dk_at dksX5_lives_0 15 rfl rfl)
abbrev cX5_ofUnit : ByteArray := prog_14_method_8_code
def yX5_ofUnit : MethodName := ⟨RX5, "ofUnit", "(II)I"⟩
def dkwX5_ofUnit_0 : List UInt8 := [42, 180, 0, 7, 27, 184, 0, 65, 28, 96, 46, 172]
abbrev dktX5_ofUnit_0 : List UInt8 := dkwX5_ofUnit_0 ++ []
theorem dksX5_ofUnit_0 : cX5_ofUnit.data.toList.drop 0 = dktX5_ofUnit_0 := by decide +kernel
theorem dX5_ofUnit_0 : decode cX5_ofUnit 0 = .ok (.aload_n 0, 1) := dk_42 (dk_at dksX5_ofUnit_0 0 rfl rfl)
theorem dX5_ofUnit_1 : decode cX5_ofUnit 1 = .ok (.getfield 7, 3) := dk_180 0 7 (dk_at dksX5_ofUnit_0 1 rfl rfl)
theorem dX5_ofUnit_4 : decode cX5_ofUnit 4 = .ok (.iload_n 1, 1) := dk_27 (dk_at dksX5_ofUnit_0 4 rfl rfl)
theorem dX5_ofUnit_5 : decode cX5_ofUnit 5 = .ok (.invokestatic 65, 3) := dk_184 0 65 (dk_at dksX5_ofUnit_0 5 rfl rfl)
theorem dX5_ofUnit_8 : decode cX5_ofUnit 8 = .ok (.iload_n 2, 1) := dk_28 (dk_at dksX5_ofUnit_0 8 rfl rfl)
theorem dX5_ofUnit_9 : decode cX5_ofUnit 9 = .ok (.iadd, 1) := dk_96 (dk_at dksX5_ofUnit_0 9 rfl rfl)
theorem dX5_ofUnit_10 : decode cX5_ofUnit 10 = .ok (.iaload, 1) := dk_46 (dk_at dksX5_ofUnit_0 10 rfl rfl)
theorem dX5_ofUnit_11 : decode cX5_ofUnit 11 = .ok (.ireturn, 1) := dk_172 (dk_at dksX5_ofUnit_0 11 rfl rfl)
abbrev cX5_unitAt : ByteArray := prog_14_method_7_code
def yX5_unitAt : MethodName := ⟨RX5, "unitAt", "(I)I"⟩
def dkwX5_unitAt_0 : List UInt8 := [16, 23, 16, 17, 26, 104, 96, 172]
abbrev dktX5_unitAt_0 : List UInt8 := dkwX5_unitAt_0 ++ []
theorem dksX5_unitAt_0 : cX5_unitAt.data.toList.drop 0 = dktX5_unitAt_0 := by decide +kernel
theorem dX5_unitAt_0 : decode cX5_unitAt 0 = .ok (.bipush 23, 2) := dk_16 23 (dk_at dksX5_unitAt_0 0 rfl rfl)
theorem dX5_unitAt_2 : decode cX5_unitAt 2 = .ok (.bipush 17, 2) := dk_16 17 (dk_at dksX5_unitAt_0 2 rfl rfl)
theorem dX5_unitAt_4 : decode cX5_unitAt 4 = .ok (.iload_n 0, 1) := dk_26 (dk_at dksX5_unitAt_0 4 rfl rfl)
theorem dX5_unitAt_5 : decode cX5_unitAt 5 = .ok (.imul, 1) := dk_104 (dk_at dksX5_unitAt_0 5 rfl rfl)
theorem dX5_unitAt_6 : decode cX5_unitAt 6 = .ok (.iadd, 1) := dk_96 (dk_at dksX5_unitAt_0 6 rfl rfl)
theorem dX5_unitAt_7 : decode cX5_unitAt 7 = .ok (.ireturn, 1) := dk_172 (dk_at dksX5_unitAt_0 7 rfl rfl)
abbrev cX5_freeZones : ByteArray := prog_14_method_49_code
def yX5_freeZones : MethodName := ⟨RX5, "freeZones", "()I"⟩
def dkwX5_freeZones_1 : List UInt8 := [167, 0, 4, 3, 96, 60, 132, 2, 1, 167, 255, 227, 27, 172]
abbrev dktX5_freeZones_1 : List UInt8 := dkwX5_freeZones_1 ++ []
def dkwX5_freeZones_0 : List UInt8 := [3, 60, 3, 61, 28, 42, 180, 0, 7, 3, 46, 162, 0, 25, 27, 42, 28, 182, 0, 104, 153, 0, 7, 4]
abbrev dktX5_freeZones_0 : List UInt8 := dkwX5_freeZones_0 ++ dktX5_freeZones_1
theorem dksX5_freeZones_0 : cX5_freeZones.data.toList.drop 0 = dktX5_freeZones_0 := by decide +kernel
theorem dksX5_freeZones_1 : cX5_freeZones.data.toList.drop 24 = dktX5_freeZones_1 := dk_seg dksX5_freeZones_0 24 rfl rfl
theorem dX5_freeZones_0 : decode cX5_freeZones 0 = .ok (.iconst 0, 1) := dk_3 (dk_at dksX5_freeZones_0 0 rfl rfl)
theorem dX5_freeZones_1 : decode cX5_freeZones 1 = .ok (.istore_n 1, 1) := dk_60 (dk_at dksX5_freeZones_0 1 rfl rfl)
theorem dX5_freeZones_2 : decode cX5_freeZones 2 = .ok (.iconst 0, 1) := dk_3 (dk_at dksX5_freeZones_0 2 rfl rfl)
theorem dX5_freeZones_3 : decode cX5_freeZones 3 = .ok (.istore_n 2, 1) := dk_61 (dk_at dksX5_freeZones_0 3 rfl rfl)
theorem dX5_freeZones_4 : decode cX5_freeZones 4 = .ok (.iload_n 2, 1) := dk_28 (dk_at dksX5_freeZones_0 4 rfl rfl)
theorem dX5_freeZones_5 : decode cX5_freeZones 5 = .ok (.aload_n 0, 1) := dk_42 (dk_at dksX5_freeZones_0 5 rfl rfl)
theorem dX5_freeZones_6 : decode cX5_freeZones 6 = .ok (.getfield 7, 3) := dk_180 0 7 (dk_at dksX5_freeZones_0 6 rfl rfl)
theorem dX5_freeZones_9 : decode cX5_freeZones 9 = .ok (.iconst 0, 1) := dk_3 (dk_at dksX5_freeZones_0 9 rfl rfl)
theorem dX5_freeZones_10 : decode cX5_freeZones 10 = .ok (.iaload, 1) := dk_46 (dk_at dksX5_freeZones_0 10 rfl rfl)
theorem dX5_freeZones_11 : decode cX5_freeZones 11 = .ok (.if_icmp .ge 25, 3) := dk_162 0 25 (dk_at dksX5_freeZones_0 11 rfl rfl)
theorem dX5_freeZones_14 : decode cX5_freeZones 14 = .ok (.iload_n 1, 1) := dk_27 (dk_at dksX5_freeZones_0 14 rfl rfl)
theorem dX5_freeZones_15 : decode cX5_freeZones 15 = .ok (.aload_n 0, 1) := dk_42 (dk_at dksX5_freeZones_0 15 rfl rfl)
theorem dX5_freeZones_16 : decode cX5_freeZones 16 = .ok (.iload_n 2, 1) := dk_28 (dk_at dksX5_freeZones_0 16 rfl rfl)
theorem dX5_freeZones_17 : decode cX5_freeZones 17 = .ok (.invokevirtual 104, 3) := dk_182 0 104 (dk_at dksX5_freeZones_0 17 rfl rfl)
theorem dX5_freeZones_20 : decode cX5_freeZones 20 = .ok (.ifCond .eq 7, 3) := dk_153 0 7 (dk_at dksX5_freeZones_0 20 rfl rfl)
theorem dX5_freeZones_23 : decode cX5_freeZones 23 = .ok (.iconst 1, 1) := dk_4 (dk_at dksX5_freeZones_0 23 rfl rfl)
theorem dX5_freeZones_24 : decode cX5_freeZones 24 = .ok (.goto 4, 3) := dk_167 0 4 (dk_at dksX5_freeZones_1 0 rfl rfl)
theorem dX5_freeZones_27 : decode cX5_freeZones 27 = .ok (.iconst 0, 1) := dk_3 (dk_at dksX5_freeZones_1 3 rfl rfl)
theorem dX5_freeZones_28 : decode cX5_freeZones 28 = .ok (.iadd, 1) := dk_96 (dk_at dksX5_freeZones_1 4 rfl rfl)
theorem dX5_freeZones_29 : decode cX5_freeZones 29 = .ok (.istore_n 1, 1) := dk_60 (dk_at dksX5_freeZones_1 5 rfl rfl)
theorem dX5_freeZones_30 : decode cX5_freeZones 30 = .ok (.iinc 2 1, 3) := dk_132 2 1 (dk_at dksX5_freeZones_1 6 rfl rfl)
theorem dX5_freeZones_33 : decode cX5_freeZones 33 = .ok (.goto (-29), 3) := dk_167 255 227 (dk_at dksX5_freeZones_1 9 rfl rfl)
theorem dX5_freeZones_36 : decode cX5_freeZones 36 = .ok (.iload_n 1, 1) := dk_27 (dk_at dksX5_freeZones_1 12 rfl rfl)
theorem dX5_freeZones_37 : decode cX5_freeZones 37 = .ok (.ireturn, 1) := dk_172 (dk_at dksX5_freeZones_1 13 rfl rfl)
abbrev cX5_isFree : ByteArray := prog_14_method_10_code
def yX5_isFree : MethodName := ⟨RX5, "isFree", "(I)Z"⟩
def dkwX5_isFree_0 : List UInt8 := [42, 27, 182, 0, 68, 2, 160, 0, 7, 4, 167, 0, 4, 3, 172]
abbrev dktX5_isFree_0 : List UInt8 := dkwX5_isFree_0 ++ []
theorem dksX5_isFree_0 : cX5_isFree.data.toList.drop 0 = dktX5_isFree_0 := by decide +kernel
theorem dX5_isFree_0 : decode cX5_isFree 0 = .ok (.aload_n 0, 1) := dk_42 (dk_at dksX5_isFree_0 0 rfl rfl)
theorem dX5_isFree_1 : decode cX5_isFree 1 = .ok (.iload_n 1, 1) := dk_27 (dk_at dksX5_isFree_0 1 rfl rfl)
theorem dX5_isFree_2 : decode cX5_isFree 2 = .ok (.invokevirtual 68, 3) := dk_182 0 68 (dk_at dksX5_isFree_0 2 rfl rfl)
theorem dX5_isFree_5 : decode cX5_isFree 5 = .ok (.iconst (-1), 1) := dk_2 (dk_at dksX5_isFree_0 5 rfl rfl)
theorem dX5_isFree_6 : decode cX5_isFree 6 = .ok (.if_icmp .ne 7, 3) := dk_160 0 7 (dk_at dksX5_isFree_0 6 rfl rfl)
theorem dX5_isFree_9 : decode cX5_isFree 9 = .ok (.iconst 1, 1) := dk_4 (dk_at dksX5_isFree_0 9 rfl rfl)
theorem dX5_isFree_10 : decode cX5_isFree 10 = .ok (.goto 4, 3) := dk_167 0 4 (dk_at dksX5_isFree_0 10 rfl rfl)
theorem dX5_isFree_13 : decode cX5_isFree 13 = .ok (.iconst 0, 1) := dk_3 (dk_at dksX5_isFree_0 13 rfl rfl)
theorem dX5_isFree_14 : decode cX5_isFree 14 = .ok (.ireturn, 1) := dk_172 (dk_at dksX5_isFree_0 14 rfl rfl)
abbrev cX5_windowOf : ByteArray := prog_14_method_9_code
def yX5_windowOf : MethodName := ⟨RX5, "windowOf", "(I)I"⟩
def dkwX5_windowOf_0 : List UInt8 := [42, 180, 0, 7, 27, 184, 0, 61, 3, 96, 46, 172]
abbrev dktX5_windowOf_0 : List UInt8 := dkwX5_windowOf_0 ++ []
theorem dksX5_windowOf_0 : cX5_windowOf.data.toList.drop 0 = dktX5_windowOf_0 := by decide +kernel
theorem dX5_windowOf_0 : decode cX5_windowOf 0 = .ok (.aload_n 0, 1) := dk_42 (dk_at dksX5_windowOf_0 0 rfl rfl)
theorem dX5_windowOf_1 : decode cX5_windowOf 1 = .ok (.getfield 7, 3) := dk_180 0 7 (dk_at dksX5_windowOf_0 1 rfl rfl)
theorem dX5_windowOf_4 : decode cX5_windowOf 4 = .ok (.iload_n 1, 1) := dk_27 (dk_at dksX5_windowOf_0 4 rfl rfl)
theorem dX5_windowOf_5 : decode cX5_windowOf 5 = .ok (.invokestatic 61, 3) := dk_184 0 61 (dk_at dksX5_windowOf_0 5 rfl rfl)
theorem dX5_windowOf_8 : decode cX5_windowOf 8 = .ok (.iconst 0, 1) := dk_3 (dk_at dksX5_windowOf_0 8 rfl rfl)
theorem dX5_windowOf_9 : decode cX5_windowOf 9 = .ok (.iadd, 1) := dk_96 (dk_at dksX5_windowOf_0 9 rfl rfl)
theorem dX5_windowOf_10 : decode cX5_windowOf 10 = .ok (.iaload, 1) := dk_46 (dk_at dksX5_windowOf_0 10 rfl rfl)
theorem dX5_windowOf_11 : decode cX5_windowOf 11 = .ok (.ireturn, 1) := dk_172 (dk_at dksX5_windowOf_0 11 rfl rfl)
abbrev cX5_leader : ByteArray := prog_14_method_16_code
def yX5_leader : MethodName := ⟨RX5, "leader", "()I"⟩
def dkwX5_leader_2 : List UInt8 := [27, 60, 132, 2, 1, 167, 255, 221, 27, 172]
abbrev dktX5_leader_2 : List UInt8 := dkwX5_leader_2 ++ []
def dkwX5_leader_1 : List UInt8 := [180, 0, 7, 16, 13, 28, 96, 46, 42, 180, 0, 7, 16, 13, 27, 96, 46, 164, 0, 7, 28, 167, 0, 4]
abbrev dktX5_leader_1 : List UInt8 := dkwX5_leader_1 ++ dktX5_leader_2
def dkwX5_leader_0 : List UInt8 := [42, 180, 0, 32, 8, 159, 0, 8, 42, 180, 0, 32, 172, 3, 60, 4, 61, 28, 8, 162, 0, 36, 42]
abbrev dktX5_leader_0 : List UInt8 := dkwX5_leader_0 ++ dktX5_leader_1
theorem dksX5_leader_0 : cX5_leader.data.toList.drop 0 = dktX5_leader_0 := by decide +kernel
theorem dksX5_leader_1 : cX5_leader.data.toList.drop 23 = dktX5_leader_1 := dk_seg dksX5_leader_0 23 rfl rfl
theorem dksX5_leader_2 : cX5_leader.data.toList.drop 47 = dktX5_leader_2 := dk_seg dksX5_leader_1 24 rfl rfl
theorem dX5_leader_0 : decode cX5_leader 0 = .ok (.aload_n 0, 1) := dk_42 (dk_at dksX5_leader_0 0 rfl rfl)
theorem dX5_leader_1 : decode cX5_leader 1 = .ok (.getfield 32, 3) := dk_180 0 32 (dk_at dksX5_leader_0 1 rfl rfl)
theorem dX5_leader_4 : decode cX5_leader 4 = .ok (.iconst 5, 1) := dk_8 (dk_at dksX5_leader_0 4 rfl rfl)
theorem dX5_leader_5 : decode cX5_leader 5 = .ok (.if_icmp .eq 8, 3) := dk_159 0 8 (dk_at dksX5_leader_0 5 rfl rfl)
theorem dX5_leader_8 : decode cX5_leader 8 = .ok (.aload_n 0, 1) := dk_42 (dk_at dksX5_leader_0 8 rfl rfl)
theorem dX5_leader_9 : decode cX5_leader 9 = .ok (.getfield 32, 3) := dk_180 0 32 (dk_at dksX5_leader_0 9 rfl rfl)
theorem dX5_leader_12 : decode cX5_leader 12 = .ok (.ireturn, 1) := dk_172 (dk_at dksX5_leader_0 12 rfl rfl)
theorem dX5_leader_13 : decode cX5_leader 13 = .ok (.iconst 0, 1) := dk_3 (dk_at dksX5_leader_0 13 rfl rfl)
theorem dX5_leader_14 : decode cX5_leader 14 = .ok (.istore_n 1, 1) := dk_60 (dk_at dksX5_leader_0 14 rfl rfl)
theorem dX5_leader_15 : decode cX5_leader 15 = .ok (.iconst 1, 1) := dk_4 (dk_at dksX5_leader_0 15 rfl rfl)
theorem dX5_leader_16 : decode cX5_leader 16 = .ok (.istore_n 2, 1) := dk_61 (dk_at dksX5_leader_0 16 rfl rfl)
theorem dX5_leader_17 : decode cX5_leader 17 = .ok (.iload_n 2, 1) := dk_28 (dk_at dksX5_leader_0 17 rfl rfl)
theorem dX5_leader_18 : decode cX5_leader 18 = .ok (.iconst 5, 1) := dk_8 (dk_at dksX5_leader_0 18 rfl rfl)
theorem dX5_leader_19 : decode cX5_leader 19 = .ok (.if_icmp .ge 36, 3) := dk_162 0 36 (dk_at dksX5_leader_0 19 rfl rfl)
theorem dX5_leader_22 : decode cX5_leader 22 = .ok (.aload_n 0, 1) := dk_42 (dk_at dksX5_leader_0 22 rfl rfl)
theorem dX5_leader_23 : decode cX5_leader 23 = .ok (.getfield 7, 3) := dk_180 0 7 (dk_at dksX5_leader_1 0 rfl rfl)
theorem dX5_leader_26 : decode cX5_leader 26 = .ok (.bipush 13, 2) := dk_16 13 (dk_at dksX5_leader_1 3 rfl rfl)
theorem dX5_leader_28 : decode cX5_leader 28 = .ok (.iload_n 2, 1) := dk_28 (dk_at dksX5_leader_1 5 rfl rfl)
theorem dX5_leader_29 : decode cX5_leader 29 = .ok (.iadd, 1) := dk_96 (dk_at dksX5_leader_1 6 rfl rfl)
theorem dX5_leader_30 : decode cX5_leader 30 = .ok (.iaload, 1) := dk_46 (dk_at dksX5_leader_1 7 rfl rfl)
theorem dX5_leader_31 : decode cX5_leader 31 = .ok (.aload_n 0, 1) := dk_42 (dk_at dksX5_leader_1 8 rfl rfl)
theorem dX5_leader_32 : decode cX5_leader 32 = .ok (.getfield 7, 3) := dk_180 0 7 (dk_at dksX5_leader_1 9 rfl rfl)
theorem dX5_leader_35 : decode cX5_leader 35 = .ok (.bipush 13, 2) := dk_16 13 (dk_at dksX5_leader_1 12 rfl rfl)
theorem dX5_leader_37 : decode cX5_leader 37 = .ok (.iload_n 1, 1) := dk_27 (dk_at dksX5_leader_1 14 rfl rfl)
theorem dX5_leader_38 : decode cX5_leader 38 = .ok (.iadd, 1) := dk_96 (dk_at dksX5_leader_1 15 rfl rfl)
theorem dX5_leader_39 : decode cX5_leader 39 = .ok (.iaload, 1) := dk_46 (dk_at dksX5_leader_1 16 rfl rfl)
theorem dX5_leader_40 : decode cX5_leader 40 = .ok (.if_icmp .le 7, 3) := dk_164 0 7 (dk_at dksX5_leader_1 17 rfl rfl)
theorem dX5_leader_43 : decode cX5_leader 43 = .ok (.iload_n 2, 1) := dk_28 (dk_at dksX5_leader_1 20 rfl rfl)
theorem dX5_leader_44 : decode cX5_leader 44 = .ok (.goto 4, 3) := dk_167 0 4 (dk_at dksX5_leader_1 21 rfl rfl)
theorem dX5_leader_47 : decode cX5_leader 47 = .ok (.iload_n 1, 1) := dk_27 (dk_at dksX5_leader_2 0 rfl rfl)
theorem dX5_leader_48 : decode cX5_leader 48 = .ok (.istore_n 1, 1) := dk_60 (dk_at dksX5_leader_2 1 rfl rfl)
theorem dX5_leader_49 : decode cX5_leader 49 = .ok (.iinc 2 1, 3) := dk_132 2 1 (dk_at dksX5_leader_2 2 rfl rfl)
theorem dX5_leader_52 : decode cX5_leader 52 = .ok (.goto (-35), 3) := dk_167 255 221 (dk_at dksX5_leader_2 5 rfl rfl)
theorem dX5_leader_55 : decode cX5_leader 55 = .ok (.iload_n 1, 1) := dk_27 (dk_at dksX5_leader_2 8 rfl rfl)
theorem dX5_leader_56 : decode cX5_leader 56 = .ok (.ireturn, 1) := dk_172 (dk_at dksX5_leader_2 9 rfl rfl)
abbrev cX5_filledPlaces : ByteArray := prog_14_method_50_code
def yX5_filledPlaces : MethodName := ⟨RX5, "filledPlaces", "()I"⟩
def dkwX5_filledPlaces_1 : List UInt8 := [96, 46, 96, 60, 132, 2, 1, 167, 255, 229, 27, 172]
abbrev dktX5_filledPlaces_1 : List UInt8 := dkwX5_filledPlaces_1 ++ []
def dkwX5_filledPlaces_0 : List UInt8 := [3, 60, 3, 61, 28, 42, 180, 0, 7, 3, 46, 162, 0, 23, 27, 42, 180, 0, 7, 28, 184, 0, 61, 4]
abbrev dktX5_filledPlaces_0 : List UInt8 := dkwX5_filledPlaces_0 ++ dktX5_filledPlaces_1
theorem dksX5_filledPlaces_0 : cX5_filledPlaces.data.toList.drop 0 = dktX5_filledPlaces_0 := by decide +kernel
theorem dksX5_filledPlaces_1 : cX5_filledPlaces.data.toList.drop 24 = dktX5_filledPlaces_1 := dk_seg dksX5_filledPlaces_0 24 rfl rfl
theorem dX5_filledPlaces_0 : decode cX5_filledPlaces 0 = .ok (.iconst 0, 1) := dk_3 (dk_at dksX5_filledPlaces_0 0 rfl rfl)
theorem dX5_filledPlaces_1 : decode cX5_filledPlaces 1 = .ok (.istore_n 1, 1) := dk_60 (dk_at dksX5_filledPlaces_0 1 rfl rfl)
theorem dX5_filledPlaces_2 : decode cX5_filledPlaces 2 = .ok (.iconst 0, 1) := dk_3 (dk_at dksX5_filledPlaces_0 2 rfl rfl)
theorem dX5_filledPlaces_3 : decode cX5_filledPlaces 3 = .ok (.istore_n 2, 1) := dk_61 (dk_at dksX5_filledPlaces_0 3 rfl rfl)
theorem dX5_filledPlaces_4 : decode cX5_filledPlaces 4 = .ok (.iload_n 2, 1) := dk_28 (dk_at dksX5_filledPlaces_0 4 rfl rfl)
theorem dX5_filledPlaces_5 : decode cX5_filledPlaces 5 = .ok (.aload_n 0, 1) := dk_42 (dk_at dksX5_filledPlaces_0 5 rfl rfl)
theorem dX5_filledPlaces_6 : decode cX5_filledPlaces 6 = .ok (.getfield 7, 3) := dk_180 0 7 (dk_at dksX5_filledPlaces_0 6 rfl rfl)
theorem dX5_filledPlaces_9 : decode cX5_filledPlaces 9 = .ok (.iconst 0, 1) := dk_3 (dk_at dksX5_filledPlaces_0 9 rfl rfl)
theorem dX5_filledPlaces_10 : decode cX5_filledPlaces 10 = .ok (.iaload, 1) := dk_46 (dk_at dksX5_filledPlaces_0 10 rfl rfl)
theorem dX5_filledPlaces_11 : decode cX5_filledPlaces 11 = .ok (.if_icmp .ge 23, 3) := dk_162 0 23 (dk_at dksX5_filledPlaces_0 11 rfl rfl)
theorem dX5_filledPlaces_14 : decode cX5_filledPlaces 14 = .ok (.iload_n 1, 1) := dk_27 (dk_at dksX5_filledPlaces_0 14 rfl rfl)
theorem dX5_filledPlaces_15 : decode cX5_filledPlaces 15 = .ok (.aload_n 0, 1) := dk_42 (dk_at dksX5_filledPlaces_0 15 rfl rfl)
theorem dX5_filledPlaces_16 : decode cX5_filledPlaces 16 = .ok (.getfield 7, 3) := dk_180 0 7 (dk_at dksX5_filledPlaces_0 16 rfl rfl)
theorem dX5_filledPlaces_19 : decode cX5_filledPlaces 19 = .ok (.iload_n 2, 1) := dk_28 (dk_at dksX5_filledPlaces_0 19 rfl rfl)
theorem dX5_filledPlaces_20 : decode cX5_filledPlaces 20 = .ok (.invokestatic 61, 3) := dk_184 0 61 (dk_at dksX5_filledPlaces_0 20 rfl rfl)
theorem dX5_filledPlaces_23 : decode cX5_filledPlaces 23 = .ok (.iconst 1, 1) := dk_4 (dk_at dksX5_filledPlaces_0 23 rfl rfl)
theorem dX5_filledPlaces_24 : decode cX5_filledPlaces 24 = .ok (.iadd, 1) := dk_96 (dk_at dksX5_filledPlaces_1 0 rfl rfl)
theorem dX5_filledPlaces_25 : decode cX5_filledPlaces 25 = .ok (.iaload, 1) := dk_46 (dk_at dksX5_filledPlaces_1 1 rfl rfl)
theorem dX5_filledPlaces_26 : decode cX5_filledPlaces 26 = .ok (.iadd, 1) := dk_96 (dk_at dksX5_filledPlaces_1 2 rfl rfl)
theorem dX5_filledPlaces_27 : decode cX5_filledPlaces 27 = .ok (.istore_n 1, 1) := dk_60 (dk_at dksX5_filledPlaces_1 3 rfl rfl)
theorem dX5_filledPlaces_28 : decode cX5_filledPlaces 28 = .ok (.iinc 2 1, 3) := dk_132 2 1 (dk_at dksX5_filledPlaces_1 4 rfl rfl)
theorem dX5_filledPlaces_31 : decode cX5_filledPlaces 31 = .ok (.goto (-27), 3) := dk_167 255 229 (dk_at dksX5_filledPlaces_1 7 rfl rfl)
theorem dX5_filledPlaces_34 : decode cX5_filledPlaces 34 = .ok (.iload_n 1, 1) := dk_27 (dk_at dksX5_filledPlaces_1 10 rfl rfl)
theorem dX5_filledPlaces_35 : decode cX5_filledPlaces 35 = .ok (.ireturn, 1) := dk_172 (dk_at dksX5_filledPlaces_1 11 rfl rfl)
abbrev cX5_livingPlaces : ByteArray := prog_14_method_51_code
def yX5_livingPlaces : MethodName := ⟨RX5, "livingPlaces", "(I)I"⟩
def dkwX5_livingPlaces_2 : List UInt8 := [153, 0, 12, 42, 29, 4, 182, 0, 71, 167, 0, 4, 3, 96, 61, 132, 3, 1, 167, 255, 194, 28, 172]
abbrev dktX5_livingPlaces_2 : List UInt8 := dkwX5_livingPlaces_2 ++ []
def dkwX5_livingPlaces_1 : List UInt8 := [2, 159, 0, 13, 42, 29, 8, 182, 0, 71, 27, 160, 0, 7, 4, 167, 0, 4, 3, 54, 4, 28, 21, 4]
abbrev dktX5_livingPlaces_1 : List UInt8 := dkwX5_livingPlaces_1 ++ dktX5_livingPlaces_2
def dkwX5_livingPlaces_0 : List UInt8 := [3, 61, 3, 62, 29, 42, 180, 0, 7, 16, 7, 46, 162, 0, 57, 42, 29, 182, 0, 75, 153, 0, 22, 27]
abbrev dktX5_livingPlaces_0 : List UInt8 := dkwX5_livingPlaces_0 ++ dktX5_livingPlaces_1
theorem dksX5_livingPlaces_0 : cX5_livingPlaces.data.toList.drop 0 = dktX5_livingPlaces_0 := by decide +kernel
theorem dksX5_livingPlaces_1 : cX5_livingPlaces.data.toList.drop 24 = dktX5_livingPlaces_1 := dk_seg dksX5_livingPlaces_0 24 rfl rfl
theorem dksX5_livingPlaces_2 : cX5_livingPlaces.data.toList.drop 48 = dktX5_livingPlaces_2 := dk_seg dksX5_livingPlaces_1 24 rfl rfl
theorem dX5_livingPlaces_0 : decode cX5_livingPlaces 0 = .ok (.iconst 0, 1) := dk_3 (dk_at dksX5_livingPlaces_0 0 rfl rfl)
theorem dX5_livingPlaces_1 : decode cX5_livingPlaces 1 = .ok (.istore_n 2, 1) := dk_61 (dk_at dksX5_livingPlaces_0 1 rfl rfl)
theorem dX5_livingPlaces_2 : decode cX5_livingPlaces 2 = .ok (.iconst 0, 1) := dk_3 (dk_at dksX5_livingPlaces_0 2 rfl rfl)
theorem dX5_livingPlaces_3 : decode cX5_livingPlaces 3 = .ok (.istore_n 3, 1) := dk_62 (dk_at dksX5_livingPlaces_0 3 rfl rfl)
theorem dX5_livingPlaces_4 : decode cX5_livingPlaces 4 = .ok (.iload_n 3, 1) := dk_29 (dk_at dksX5_livingPlaces_0 4 rfl rfl)
theorem dX5_livingPlaces_5 : decode cX5_livingPlaces 5 = .ok (.aload_n 0, 1) := dk_42 (dk_at dksX5_livingPlaces_0 5 rfl rfl)
theorem dX5_livingPlaces_6 : decode cX5_livingPlaces 6 = .ok (.getfield 7, 3) := dk_180 0 7 (dk_at dksX5_livingPlaces_0 6 rfl rfl)
theorem dX5_livingPlaces_9 : decode cX5_livingPlaces 9 = .ok (.bipush 7, 2) := dk_16 7 (dk_at dksX5_livingPlaces_0 9 rfl rfl)
theorem dX5_livingPlaces_11 : decode cX5_livingPlaces 11 = .ok (.iaload, 1) := dk_46 (dk_at dksX5_livingPlaces_0 11 rfl rfl)
theorem dX5_livingPlaces_12 : decode cX5_livingPlaces 12 = .ok (.if_icmp .ge 57, 3) := dk_162 0 57 (dk_at dksX5_livingPlaces_0 12 rfl rfl)
theorem dX5_livingPlaces_15 : decode cX5_livingPlaces 15 = .ok (.aload_n 0, 1) := dk_42 (dk_at dksX5_livingPlaces_0 15 rfl rfl)
theorem dX5_livingPlaces_16 : decode cX5_livingPlaces 16 = .ok (.iload_n 3, 1) := dk_29 (dk_at dksX5_livingPlaces_0 16 rfl rfl)
theorem dX5_livingPlaces_17 : decode cX5_livingPlaces 17 = .ok (.invokevirtual 75, 3) := dk_182 0 75 (dk_at dksX5_livingPlaces_0 17 rfl rfl)
theorem dX5_livingPlaces_20 : decode cX5_livingPlaces 20 = .ok (.ifCond .eq 22, 3) := dk_153 0 22 (dk_at dksX5_livingPlaces_0 20 rfl rfl)
theorem dX5_livingPlaces_23 : decode cX5_livingPlaces 23 = .ok (.iload_n 1, 1) := dk_27 (dk_at dksX5_livingPlaces_0 23 rfl rfl)
theorem dX5_livingPlaces_24 : decode cX5_livingPlaces 24 = .ok (.iconst (-1), 1) := dk_2 (dk_at dksX5_livingPlaces_1 0 rfl rfl)
theorem dX5_livingPlaces_25 : decode cX5_livingPlaces 25 = .ok (.if_icmp .eq 13, 3) := dk_159 0 13 (dk_at dksX5_livingPlaces_1 1 rfl rfl)
theorem dX5_livingPlaces_28 : decode cX5_livingPlaces 28 = .ok (.aload_n 0, 1) := dk_42 (dk_at dksX5_livingPlaces_1 4 rfl rfl)
theorem dX5_livingPlaces_29 : decode cX5_livingPlaces 29 = .ok (.iload_n 3, 1) := dk_29 (dk_at dksX5_livingPlaces_1 5 rfl rfl)
theorem dX5_livingPlaces_30 : decode cX5_livingPlaces 30 = .ok (.iconst 5, 1) := dk_8 (dk_at dksX5_livingPlaces_1 6 rfl rfl)
theorem dX5_livingPlaces_31 : decode cX5_livingPlaces 31 = .ok (.invokevirtual 71, 3) := dk_182 0 71 (dk_at dksX5_livingPlaces_1 7 rfl rfl)
theorem dX5_livingPlaces_34 : decode cX5_livingPlaces 34 = .ok (.iload_n 1, 1) := dk_27 (dk_at dksX5_livingPlaces_1 10 rfl rfl)
theorem dX5_livingPlaces_35 : decode cX5_livingPlaces 35 = .ok (.if_icmp .ne 7, 3) := dk_160 0 7 (dk_at dksX5_livingPlaces_1 11 rfl rfl)
theorem dX5_livingPlaces_38 : decode cX5_livingPlaces 38 = .ok (.iconst 1, 1) := dk_4 (dk_at dksX5_livingPlaces_1 14 rfl rfl)
theorem dX5_livingPlaces_39 : decode cX5_livingPlaces 39 = .ok (.goto 4, 3) := dk_167 0 4 (dk_at dksX5_livingPlaces_1 15 rfl rfl)
theorem dX5_livingPlaces_42 : decode cX5_livingPlaces 42 = .ok (.iconst 0, 1) := dk_3 (dk_at dksX5_livingPlaces_1 18 rfl rfl)
theorem dX5_livingPlaces_43 : decode cX5_livingPlaces 43 = .ok (.istore 4, 2) := dk_54 4 (dk_at dksX5_livingPlaces_1 19 rfl rfl)
theorem dX5_livingPlaces_45 : decode cX5_livingPlaces 45 = .ok (.iload_n 2, 1) := dk_28 (dk_at dksX5_livingPlaces_1 21 rfl rfl)
theorem dX5_livingPlaces_46 : decode cX5_livingPlaces 46 = .ok (.iload 4, 2) := dk_21 4 (dk_at dksX5_livingPlaces_1 22 rfl rfl)
theorem dX5_livingPlaces_48 : decode cX5_livingPlaces 48 = .ok (.ifCond .eq 12, 3) := dk_153 0 12 (dk_at dksX5_livingPlaces_2 0 rfl rfl)
theorem dX5_livingPlaces_51 : decode cX5_livingPlaces 51 = .ok (.aload_n 0, 1) := dk_42 (dk_at dksX5_livingPlaces_2 3 rfl rfl)
theorem dX5_livingPlaces_52 : decode cX5_livingPlaces 52 = .ok (.iload_n 3, 1) := dk_29 (dk_at dksX5_livingPlaces_2 4 rfl rfl)
theorem dX5_livingPlaces_53 : decode cX5_livingPlaces 53 = .ok (.iconst 1, 1) := dk_4 (dk_at dksX5_livingPlaces_2 5 rfl rfl)
theorem dX5_livingPlaces_54 : decode cX5_livingPlaces 54 = .ok (.invokevirtual 71, 3) := dk_182 0 71 (dk_at dksX5_livingPlaces_2 6 rfl rfl)
theorem dX5_livingPlaces_57 : decode cX5_livingPlaces 57 = .ok (.goto 4, 3) := dk_167 0 4 (dk_at dksX5_livingPlaces_2 9 rfl rfl)
theorem dX5_livingPlaces_60 : decode cX5_livingPlaces 60 = .ok (.iconst 0, 1) := dk_3 (dk_at dksX5_livingPlaces_2 12 rfl rfl)
theorem dX5_livingPlaces_61 : decode cX5_livingPlaces 61 = .ok (.iadd, 1) := dk_96 (dk_at dksX5_livingPlaces_2 13 rfl rfl)
theorem dX5_livingPlaces_62 : decode cX5_livingPlaces 62 = .ok (.istore_n 2, 1) := dk_61 (dk_at dksX5_livingPlaces_2 14 rfl rfl)
theorem dX5_livingPlaces_63 : decode cX5_livingPlaces 63 = .ok (.iinc 3 1, 3) := dk_132 3 1 (dk_at dksX5_livingPlaces_2 15 rfl rfl)
theorem dX5_livingPlaces_66 : decode cX5_livingPlaces 66 = .ok (.goto (-62), 3) := dk_167 255 194 (dk_at dksX5_livingPlaces_2 18 rfl rfl)
theorem dX5_livingPlaces_69 : decode cX5_livingPlaces 69 = .ok (.iload_n 2, 1) := dk_28 (dk_at dksX5_livingPlaces_2 21 rfl rfl)
theorem dX5_livingPlaces_70 : decode cX5_livingPlaces 70 = .ok (.ireturn, 1) := dk_172 (dk_at dksX5_livingPlaces_2 22 rfl rfl)
abbrev cX5_zone : ByteArray := prog_14_method_55_code
def yX5_zone : MethodName := ⟨RX5, "zone", "(II)I"⟩
def dkwX5_zone_6 : List UInt8 := [167, 0, 4, 3, 172, 42, 27, 182, 0, 204, 172]
abbrev dktX5_zone_6 : List UInt8 := dkwX5_zone_6 ++ []
def dkwX5_zone_5 : List UInt8 := [182, 0, 104, 154, 0, 22, 42, 27, 182, 0, 138, 42, 180, 0, 7, 16, 6, 46, 162, 0, 7, 4]
abbrev dktX5_zone_5 : List UInt8 := dkwX5_zone_5 ++ dktX5_zone_6
def dkwX5_zone_4 : List UInt8 := [182, 0, 114, 172, 42, 27, 182, 0, 198, 172, 42, 180, 0, 7, 27, 184, 0, 61, 5, 96, 46, 172, 42, 27]
abbrev dktX5_zone_4 : List UInt8 := dkwX5_zone_4 ++ dktX5_zone_5
def dkwX5_zone_3 : List UInt8 := [3, 172, 42, 27, 182, 0, 68, 172, 42, 180, 0, 7, 27, 184, 0, 61, 4, 96, 46, 172, 42, 27]
abbrev dktX5_zone_3 : List UInt8 := dkwX5_zone_3 ++ dktX5_zone_4
def dkwX5_zone_2 : List UInt8 := [170, 0, 0, 0, 114, 255, 255, 255, 255, 0, 0, 0, 5, 0, 0, 0, 41, 0, 0, 0, 43, 0, 0, 0, 49, 0, 0, 0, 61, 0, 0, 0, 67, 0, 0, 0, 73, 0, 0, 0, 85]
abbrev dktX5_zone_2 : List UInt8 := dkwX5_zone_2 ++ dktX5_zone_3
def dkwX5_zone_1 : List UInt8 := [167, 0, 4, 5, 181, 0, 58, 42, 180, 0, 58, 158, 0, 7, 2, 167, 0, 4, 28]
abbrev dktX5_zone_1 : List UInt8 := dkwX5_zone_1 ++ dktX5_zone_2
def dkwX5_zone_0 : List UInt8 := [42, 42, 27, 182, 0, 201, 154, 0, 7, 4, 167, 0, 18, 28, 3, 16, 6, 184, 0, 179, 153, 0, 7, 3]
abbrev dktX5_zone_0 : List UInt8 := dkwX5_zone_0 ++ dktX5_zone_1
theorem dksX5_zone_0 : cX5_zone.data.toList.drop 0 = dktX5_zone_0 := by decide +kernel
theorem dksX5_zone_1 : cX5_zone.data.toList.drop 24 = dktX5_zone_1 := dk_seg dksX5_zone_0 24 rfl rfl
theorem dksX5_zone_2 : cX5_zone.data.toList.drop 43 = dktX5_zone_2 := dk_seg dksX5_zone_1 19 rfl rfl
theorem dksX5_zone_3 : cX5_zone.data.toList.drop 84 = dktX5_zone_3 := dk_seg dksX5_zone_2 41 rfl rfl
theorem dksX5_zone_4 : cX5_zone.data.toList.drop 106 = dktX5_zone_4 := dk_seg dksX5_zone_3 22 rfl rfl
theorem dksX5_zone_5 : cX5_zone.data.toList.drop 130 = dktX5_zone_5 := dk_seg dksX5_zone_4 24 rfl rfl
theorem dksX5_zone_6 : cX5_zone.data.toList.drop 152 = dktX5_zone_6 := dk_seg dksX5_zone_5 22 rfl rfl
theorem dX5_zone_0 : decode cX5_zone 0 = .ok (.aload_n 0, 1) := dk_42 (dk_at dksX5_zone_0 0 rfl rfl)
theorem dX5_zone_1 : decode cX5_zone 1 = .ok (.aload_n 0, 1) := dk_42 (dk_at dksX5_zone_0 1 rfl rfl)
theorem dX5_zone_2 : decode cX5_zone 2 = .ok (.iload_n 1, 1) := dk_27 (dk_at dksX5_zone_0 2 rfl rfl)
theorem dX5_zone_3 : decode cX5_zone 3 = .ok (.invokevirtual 201, 3) := dk_182 0 201 (dk_at dksX5_zone_0 3 rfl rfl)
theorem dX5_zone_6 : decode cX5_zone 6 = .ok (.ifCond .ne 7, 3) := dk_154 0 7 (dk_at dksX5_zone_0 6 rfl rfl)
theorem dX5_zone_9 : decode cX5_zone 9 = .ok (.iconst 1, 1) := dk_4 (dk_at dksX5_zone_0 9 rfl rfl)
theorem dX5_zone_10 : decode cX5_zone 10 = .ok (.goto 18, 3) := dk_167 0 18 (dk_at dksX5_zone_0 10 rfl rfl)
theorem dX5_zone_13 : decode cX5_zone 13 = .ok (.iload_n 2, 1) := dk_28 (dk_at dksX5_zone_0 13 rfl rfl)
theorem dX5_zone_14 : decode cX5_zone 14 = .ok (.iconst 0, 1) := dk_3 (dk_at dksX5_zone_0 14 rfl rfl)
theorem dX5_zone_15 : decode cX5_zone 15 = .ok (.bipush 6, 2) := dk_16 6 (dk_at dksX5_zone_0 15 rfl rfl)
theorem dX5_zone_17 : decode cX5_zone 17 = .ok (.invokestatic 179, 3) := dk_184 0 179 (dk_at dksX5_zone_0 17 rfl rfl)
theorem dX5_zone_20 : decode cX5_zone 20 = .ok (.ifCond .eq 7, 3) := dk_153 0 7 (dk_at dksX5_zone_0 20 rfl rfl)
theorem dX5_zone_23 : decode cX5_zone 23 = .ok (.iconst 0, 1) := dk_3 (dk_at dksX5_zone_0 23 rfl rfl)
theorem dX5_zone_24 : decode cX5_zone 24 = .ok (.goto 4, 3) := dk_167 0 4 (dk_at dksX5_zone_1 0 rfl rfl)
theorem dX5_zone_27 : decode cX5_zone 27 = .ok (.iconst 2, 1) := dk_5 (dk_at dksX5_zone_1 3 rfl rfl)
theorem dX5_zone_28 : decode cX5_zone 28 = .ok (.putfield 58, 3) := dk_181 0 58 (dk_at dksX5_zone_1 4 rfl rfl)
theorem dX5_zone_31 : decode cX5_zone 31 = .ok (.aload_n 0, 1) := dk_42 (dk_at dksX5_zone_1 7 rfl rfl)
theorem dX5_zone_32 : decode cX5_zone 32 = .ok (.getfield 58, 3) := dk_180 0 58 (dk_at dksX5_zone_1 8 rfl rfl)
theorem dX5_zone_35 : decode cX5_zone 35 = .ok (.ifCond .le 7, 3) := dk_158 0 7 (dk_at dksX5_zone_1 11 rfl rfl)
theorem dX5_zone_38 : decode cX5_zone 38 = .ok (.iconst (-1), 1) := dk_2 (dk_at dksX5_zone_1 14 rfl rfl)
theorem dX5_zone_39 : decode cX5_zone 39 = .ok (.goto 4, 3) := dk_167 0 4 (dk_at dksX5_zone_1 15 rfl rfl)
theorem dX5_zone_42 : decode cX5_zone 42 = .ok (.iload_n 2, 1) := dk_28 (dk_at dksX5_zone_1 18 rfl rfl)
theorem dX5_zone_43 : decode cX5_zone 43 = .ok (.tableswitch 114 (-1) 5 #[41, 43, 49, 61, 67, 73, 85], 41) := by decide +kernel
theorem dX5_zone_84 : decode cX5_zone 84 = .ok (.iconst 0, 1) := dk_3 (dk_at dksX5_zone_3 0 rfl rfl)
theorem dX5_zone_85 : decode cX5_zone 85 = .ok (.ireturn, 1) := dk_172 (dk_at dksX5_zone_3 1 rfl rfl)
theorem dX5_zone_86 : decode cX5_zone 86 = .ok (.aload_n 0, 1) := dk_42 (dk_at dksX5_zone_3 2 rfl rfl)
theorem dX5_zone_87 : decode cX5_zone 87 = .ok (.iload_n 1, 1) := dk_27 (dk_at dksX5_zone_3 3 rfl rfl)
theorem dX5_zone_88 : decode cX5_zone 88 = .ok (.invokevirtual 68, 3) := dk_182 0 68 (dk_at dksX5_zone_3 4 rfl rfl)
theorem dX5_zone_91 : decode cX5_zone 91 = .ok (.ireturn, 1) := dk_172 (dk_at dksX5_zone_3 7 rfl rfl)
theorem dX5_zone_92 : decode cX5_zone 92 = .ok (.aload_n 0, 1) := dk_42 (dk_at dksX5_zone_3 8 rfl rfl)
theorem dX5_zone_93 : decode cX5_zone 93 = .ok (.getfield 7, 3) := dk_180 0 7 (dk_at dksX5_zone_3 9 rfl rfl)
theorem dX5_zone_96 : decode cX5_zone 96 = .ok (.iload_n 1, 1) := dk_27 (dk_at dksX5_zone_3 12 rfl rfl)
theorem dX5_zone_97 : decode cX5_zone 97 = .ok (.invokestatic 61, 3) := dk_184 0 61 (dk_at dksX5_zone_3 13 rfl rfl)
theorem dX5_zone_100 : decode cX5_zone 100 = .ok (.iconst 1, 1) := dk_4 (dk_at dksX5_zone_3 16 rfl rfl)
theorem dX5_zone_101 : decode cX5_zone 101 = .ok (.iadd, 1) := dk_96 (dk_at dksX5_zone_3 17 rfl rfl)
theorem dX5_zone_102 : decode cX5_zone 102 = .ok (.iaload, 1) := dk_46 (dk_at dksX5_zone_3 18 rfl rfl)
theorem dX5_zone_103 : decode cX5_zone 103 = .ok (.ireturn, 1) := dk_172 (dk_at dksX5_zone_3 19 rfl rfl)
theorem dX5_zone_104 : decode cX5_zone 104 = .ok (.aload_n 0, 1) := dk_42 (dk_at dksX5_zone_3 20 rfl rfl)
theorem dX5_zone_105 : decode cX5_zone 105 = .ok (.iload_n 1, 1) := dk_27 (dk_at dksX5_zone_3 21 rfl rfl)
theorem dX5_zone_106 : decode cX5_zone 106 = .ok (.invokevirtual 114, 3) := dk_182 0 114 (dk_at dksX5_zone_4 0 rfl rfl)
theorem dX5_zone_109 : decode cX5_zone 109 = .ok (.ireturn, 1) := dk_172 (dk_at dksX5_zone_4 3 rfl rfl)
theorem dX5_zone_110 : decode cX5_zone 110 = .ok (.aload_n 0, 1) := dk_42 (dk_at dksX5_zone_4 4 rfl rfl)
theorem dX5_zone_111 : decode cX5_zone 111 = .ok (.iload_n 1, 1) := dk_27 (dk_at dksX5_zone_4 5 rfl rfl)
theorem dX5_zone_112 : decode cX5_zone 112 = .ok (.invokevirtual 198, 3) := dk_182 0 198 (dk_at dksX5_zone_4 6 rfl rfl)
theorem dX5_zone_115 : decode cX5_zone 115 = .ok (.ireturn, 1) := dk_172 (dk_at dksX5_zone_4 9 rfl rfl)
theorem dX5_zone_116 : decode cX5_zone 116 = .ok (.aload_n 0, 1) := dk_42 (dk_at dksX5_zone_4 10 rfl rfl)
theorem dX5_zone_117 : decode cX5_zone 117 = .ok (.getfield 7, 3) := dk_180 0 7 (dk_at dksX5_zone_4 11 rfl rfl)
theorem dX5_zone_120 : decode cX5_zone 120 = .ok (.iload_n 1, 1) := dk_27 (dk_at dksX5_zone_4 14 rfl rfl)
theorem dX5_zone_121 : decode cX5_zone 121 = .ok (.invokestatic 61, 3) := dk_184 0 61 (dk_at dksX5_zone_4 15 rfl rfl)
theorem dX5_zone_124 : decode cX5_zone 124 = .ok (.iconst 2, 1) := dk_5 (dk_at dksX5_zone_4 18 rfl rfl)
theorem dX5_zone_125 : decode cX5_zone 125 = .ok (.iadd, 1) := dk_96 (dk_at dksX5_zone_4 19 rfl rfl)
theorem dX5_zone_126 : decode cX5_zone 126 = .ok (.iaload, 1) := dk_46 (dk_at dksX5_zone_4 20 rfl rfl)
theorem dX5_zone_127 : decode cX5_zone 127 = .ok (.ireturn, 1) := dk_172 (dk_at dksX5_zone_4 21 rfl rfl)
theorem dX5_zone_128 : decode cX5_zone 128 = .ok (.aload_n 0, 1) := dk_42 (dk_at dksX5_zone_4 22 rfl rfl)
theorem dX5_zone_129 : decode cX5_zone 129 = .ok (.iload_n 1, 1) := dk_27 (dk_at dksX5_zone_4 23 rfl rfl)
theorem dX5_zone_130 : decode cX5_zone 130 = .ok (.invokevirtual 104, 3) := dk_182 0 104 (dk_at dksX5_zone_5 0 rfl rfl)
theorem dX5_zone_133 : decode cX5_zone 133 = .ok (.ifCond .ne 22, 3) := dk_154 0 22 (dk_at dksX5_zone_5 3 rfl rfl)
theorem dX5_zone_136 : decode cX5_zone 136 = .ok (.aload_n 0, 1) := dk_42 (dk_at dksX5_zone_5 6 rfl rfl)
theorem dX5_zone_137 : decode cX5_zone 137 = .ok (.iload_n 1, 1) := dk_27 (dk_at dksX5_zone_5 7 rfl rfl)
theorem dX5_zone_138 : decode cX5_zone 138 = .ok (.invokevirtual 138, 3) := dk_182 0 138 (dk_at dksX5_zone_5 8 rfl rfl)
theorem dX5_zone_141 : decode cX5_zone 141 = .ok (.aload_n 0, 1) := dk_42 (dk_at dksX5_zone_5 11 rfl rfl)
theorem dX5_zone_142 : decode cX5_zone 142 = .ok (.getfield 7, 3) := dk_180 0 7 (dk_at dksX5_zone_5 12 rfl rfl)
theorem dX5_zone_145 : decode cX5_zone 145 = .ok (.bipush 6, 2) := dk_16 6 (dk_at dksX5_zone_5 15 rfl rfl)
theorem dX5_zone_147 : decode cX5_zone 147 = .ok (.iaload, 1) := dk_46 (dk_at dksX5_zone_5 17 rfl rfl)
theorem dX5_zone_148 : decode cX5_zone 148 = .ok (.if_icmp .ge 7, 3) := dk_162 0 7 (dk_at dksX5_zone_5 18 rfl rfl)
theorem dX5_zone_151 : decode cX5_zone 151 = .ok (.iconst 1, 1) := dk_4 (dk_at dksX5_zone_5 21 rfl rfl)
theorem dX5_zone_152 : decode cX5_zone 152 = .ok (.goto 4, 3) := dk_167 0 4 (dk_at dksX5_zone_6 0 rfl rfl)
theorem dX5_zone_155 : decode cX5_zone 155 = .ok (.iconst 0, 1) := dk_3 (dk_at dksX5_zone_6 3 rfl rfl)
theorem dX5_zone_156 : decode cX5_zone 156 = .ok (.ireturn, 1) := dk_172 (dk_at dksX5_zone_6 4 rfl rfl)
theorem dX5_zone_157 : decode cX5_zone 157 = .ok (.aload_n 0, 1) := dk_42 (dk_at dksX5_zone_6 5 rfl rfl)
theorem dX5_zone_158 : decode cX5_zone 158 = .ok (.iload_n 1, 1) := dk_27 (dk_at dksX5_zone_6 6 rfl rfl)
theorem dX5_zone_159 : decode cX5_zone 159 = .ok (.invokevirtual 204, 3) := dk_182 0 204 (dk_at dksX5_zone_6 7 rfl rfl)
theorem dX5_zone_162 : decode cX5_zone 162 = .ok (.ireturn, 1) := dk_172 (dk_at dksX5_zone_6 10 rfl rfl)
abbrev cX5_isZone : ByteArray := prog_14_method_53_code
def yX5_isZone : MethodName := ⟨RX5, "isZone", "(I)Z"⟩
def dkwX5_isZone_0 : List UInt8 := [27, 3, 42, 180, 0, 7, 3, 46, 4, 100, 184, 0, 179, 172]
abbrev dktX5_isZone_0 : List UInt8 := dkwX5_isZone_0 ++ []
theorem dksX5_isZone_0 : cX5_isZone.data.toList.drop 0 = dktX5_isZone_0 := by decide +kernel
theorem dX5_isZone_0 : decode cX5_isZone 0 = .ok (.iload_n 1, 1) := dk_27 (dk_at dksX5_isZone_0 0 rfl rfl)
theorem dX5_isZone_1 : decode cX5_isZone 1 = .ok (.iconst 0, 1) := dk_3 (dk_at dksX5_isZone_0 1 rfl rfl)
theorem dX5_isZone_2 : decode cX5_isZone 2 = .ok (.aload_n 0, 1) := dk_42 (dk_at dksX5_isZone_0 2 rfl rfl)
theorem dX5_isZone_3 : decode cX5_isZone 3 = .ok (.getfield 7, 3) := dk_180 0 7 (dk_at dksX5_isZone_0 3 rfl rfl)
theorem dX5_isZone_6 : decode cX5_isZone 6 = .ok (.iconst 0, 1) := dk_3 (dk_at dksX5_isZone_0 6 rfl rfl)
theorem dX5_isZone_7 : decode cX5_isZone 7 = .ok (.iaload, 1) := dk_46 (dk_at dksX5_isZone_0 7 rfl rfl)
theorem dX5_isZone_8 : decode cX5_isZone 8 = .ok (.iconst 1, 1) := dk_4 (dk_at dksX5_isZone_0 8 rfl rfl)
theorem dX5_isZone_9 : decode cX5_isZone 9 = .ok (.isub, 1) := dk_100 (dk_at dksX5_isZone_0 9 rfl rfl)
theorem dX5_isZone_10 : decode cX5_isZone 10 = .ok (.invokestatic 179, 3) := dk_184 0 179 (dk_at dksX5_isZone_0 10 rfl rfl)
theorem dX5_isZone_13 : decode cX5_isZone 13 = .ok (.ireturn, 1) := dk_172 (dk_at dksX5_isZone_0 13 rfl rfl)
abbrev cX5_livingIn : ByteArray := prog_14_method_12_code
def yX5_livingIn : MethodName := ⟨RX5, "livingIn", "(I)I"⟩
def dkwX5_livingIn_2 : List UInt8 := [172]
abbrev dktX5_livingIn_2 : List UInt8 := dkwX5_livingIn_2 ++ []
def dkwX5_livingIn_1 : List UInt8 := [42, 29, 8, 182, 0, 71, 27, 160, 0, 7, 4, 167, 0, 4, 3, 96, 61, 132, 3, 1, 167, 255, 216, 28]
abbrev dktX5_livingIn_1 : List UInt8 := dkwX5_livingIn_1 ++ dktX5_livingIn_2
def dkwX5_livingIn_0 : List UInt8 := [3, 61, 3, 62, 29, 42, 180, 0, 7, 16, 7, 46, 162, 0, 35, 28, 42, 29, 182, 0, 75, 153, 0, 17]
abbrev dktX5_livingIn_0 : List UInt8 := dkwX5_livingIn_0 ++ dktX5_livingIn_1
theorem dksX5_livingIn_0 : cX5_livingIn.data.toList.drop 0 = dktX5_livingIn_0 := by decide +kernel
theorem dksX5_livingIn_1 : cX5_livingIn.data.toList.drop 24 = dktX5_livingIn_1 := dk_seg dksX5_livingIn_0 24 rfl rfl
theorem dksX5_livingIn_2 : cX5_livingIn.data.toList.drop 48 = dktX5_livingIn_2 := dk_seg dksX5_livingIn_1 24 rfl rfl
theorem dX5_livingIn_0 : decode cX5_livingIn 0 = .ok (.iconst 0, 1) := dk_3 (dk_at dksX5_livingIn_0 0 rfl rfl)
theorem dX5_livingIn_1 : decode cX5_livingIn 1 = .ok (.istore_n 2, 1) := dk_61 (dk_at dksX5_livingIn_0 1 rfl rfl)
theorem dX5_livingIn_2 : decode cX5_livingIn 2 = .ok (.iconst 0, 1) := dk_3 (dk_at dksX5_livingIn_0 2 rfl rfl)
theorem dX5_livingIn_3 : decode cX5_livingIn 3 = .ok (.istore_n 3, 1) := dk_62 (dk_at dksX5_livingIn_0 3 rfl rfl)
theorem dX5_livingIn_4 : decode cX5_livingIn 4 = .ok (.iload_n 3, 1) := dk_29 (dk_at dksX5_livingIn_0 4 rfl rfl)
theorem dX5_livingIn_5 : decode cX5_livingIn 5 = .ok (.aload_n 0, 1) := dk_42 (dk_at dksX5_livingIn_0 5 rfl rfl)
theorem dX5_livingIn_6 : decode cX5_livingIn 6 = .ok (.getfield 7, 3) := dk_180 0 7 (dk_at dksX5_livingIn_0 6 rfl rfl)
theorem dX5_livingIn_9 : decode cX5_livingIn 9 = .ok (.bipush 7, 2) := dk_16 7 (dk_at dksX5_livingIn_0 9 rfl rfl)
theorem dX5_livingIn_11 : decode cX5_livingIn 11 = .ok (.iaload, 1) := dk_46 (dk_at dksX5_livingIn_0 11 rfl rfl)
theorem dX5_livingIn_12 : decode cX5_livingIn 12 = .ok (.if_icmp .ge 35, 3) := dk_162 0 35 (dk_at dksX5_livingIn_0 12 rfl rfl)
theorem dX5_livingIn_15 : decode cX5_livingIn 15 = .ok (.iload_n 2, 1) := dk_28 (dk_at dksX5_livingIn_0 15 rfl rfl)
theorem dX5_livingIn_16 : decode cX5_livingIn 16 = .ok (.aload_n 0, 1) := dk_42 (dk_at dksX5_livingIn_0 16 rfl rfl)
theorem dX5_livingIn_17 : decode cX5_livingIn 17 = .ok (.iload_n 3, 1) := dk_29 (dk_at dksX5_livingIn_0 17 rfl rfl)
theorem dX5_livingIn_18 : decode cX5_livingIn 18 = .ok (.invokevirtual 75, 3) := dk_182 0 75 (dk_at dksX5_livingIn_0 18 rfl rfl)
theorem dX5_livingIn_21 : decode cX5_livingIn 21 = .ok (.ifCond .eq 17, 3) := dk_153 0 17 (dk_at dksX5_livingIn_0 21 rfl rfl)
theorem dX5_livingIn_24 : decode cX5_livingIn 24 = .ok (.aload_n 0, 1) := dk_42 (dk_at dksX5_livingIn_1 0 rfl rfl)
theorem dX5_livingIn_25 : decode cX5_livingIn 25 = .ok (.iload_n 3, 1) := dk_29 (dk_at dksX5_livingIn_1 1 rfl rfl)
theorem dX5_livingIn_26 : decode cX5_livingIn 26 = .ok (.iconst 5, 1) := dk_8 (dk_at dksX5_livingIn_1 2 rfl rfl)
theorem dX5_livingIn_27 : decode cX5_livingIn 27 = .ok (.invokevirtual 71, 3) := dk_182 0 71 (dk_at dksX5_livingIn_1 3 rfl rfl)
theorem dX5_livingIn_30 : decode cX5_livingIn 30 = .ok (.iload_n 1, 1) := dk_27 (dk_at dksX5_livingIn_1 6 rfl rfl)
theorem dX5_livingIn_31 : decode cX5_livingIn 31 = .ok (.if_icmp .ne 7, 3) := dk_160 0 7 (dk_at dksX5_livingIn_1 7 rfl rfl)
theorem dX5_livingIn_34 : decode cX5_livingIn 34 = .ok (.iconst 1, 1) := dk_4 (dk_at dksX5_livingIn_1 10 rfl rfl)
theorem dX5_livingIn_35 : decode cX5_livingIn 35 = .ok (.goto 4, 3) := dk_167 0 4 (dk_at dksX5_livingIn_1 11 rfl rfl)
theorem dX5_livingIn_38 : decode cX5_livingIn 38 = .ok (.iconst 0, 1) := dk_3 (dk_at dksX5_livingIn_1 14 rfl rfl)
theorem dX5_livingIn_39 : decode cX5_livingIn 39 = .ok (.iadd, 1) := dk_96 (dk_at dksX5_livingIn_1 15 rfl rfl)
theorem dX5_livingIn_40 : decode cX5_livingIn 40 = .ok (.istore_n 2, 1) := dk_61 (dk_at dksX5_livingIn_1 16 rfl rfl)
theorem dX5_livingIn_41 : decode cX5_livingIn 41 = .ok (.iinc 3 1, 3) := dk_132 3 1 (dk_at dksX5_livingIn_1 17 rfl rfl)
theorem dX5_livingIn_44 : decode cX5_livingIn 44 = .ok (.goto (-40), 3) := dk_167 255 216 (dk_at dksX5_livingIn_1 20 rfl rfl)
theorem dX5_livingIn_47 : decode cX5_livingIn 47 = .ok (.iload_n 2, 1) := dk_28 (dk_at dksX5_livingIn_1 23 rfl rfl)
theorem dX5_livingIn_48 : decode cX5_livingIn 48 = .ok (.ireturn, 1) := dk_172 (dk_at dksX5_livingIn_2 0 rfl rfl)
abbrev cX5_lastDay : ByteArray := prog_14_method_28_code
def yX5_lastDay : MethodName := ⟨RX5, "lastDay", "(I)I"⟩
def dkwX5_lastDay_0 : List UInt8 := [42, 27, 182, 0, 68, 42, 180, 0, 7, 5, 46, 104, 42, 180, 0, 7, 5, 46, 96, 4, 100, 172]
abbrev dktX5_lastDay_0 : List UInt8 := dkwX5_lastDay_0 ++ []
theorem dksX5_lastDay_0 : cX5_lastDay.data.toList.drop 0 = dktX5_lastDay_0 := by decide +kernel
theorem dX5_lastDay_0 : decode cX5_lastDay 0 = .ok (.aload_n 0, 1) := dk_42 (dk_at dksX5_lastDay_0 0 rfl rfl)
theorem dX5_lastDay_1 : decode cX5_lastDay 1 = .ok (.iload_n 1, 1) := dk_27 (dk_at dksX5_lastDay_0 1 rfl rfl)
theorem dX5_lastDay_2 : decode cX5_lastDay 2 = .ok (.invokevirtual 68, 3) := dk_182 0 68 (dk_at dksX5_lastDay_0 2 rfl rfl)
theorem dX5_lastDay_5 : decode cX5_lastDay 5 = .ok (.aload_n 0, 1) := dk_42 (dk_at dksX5_lastDay_0 5 rfl rfl)
theorem dX5_lastDay_6 : decode cX5_lastDay 6 = .ok (.getfield 7, 3) := dk_180 0 7 (dk_at dksX5_lastDay_0 6 rfl rfl)
theorem dX5_lastDay_9 : decode cX5_lastDay 9 = .ok (.iconst 2, 1) := dk_5 (dk_at dksX5_lastDay_0 9 rfl rfl)
theorem dX5_lastDay_10 : decode cX5_lastDay 10 = .ok (.iaload, 1) := dk_46 (dk_at dksX5_lastDay_0 10 rfl rfl)
theorem dX5_lastDay_11 : decode cX5_lastDay 11 = .ok (.imul, 1) := dk_104 (dk_at dksX5_lastDay_0 11 rfl rfl)
theorem dX5_lastDay_12 : decode cX5_lastDay 12 = .ok (.aload_n 0, 1) := dk_42 (dk_at dksX5_lastDay_0 12 rfl rfl)
theorem dX5_lastDay_13 : decode cX5_lastDay 13 = .ok (.getfield 7, 3) := dk_180 0 7 (dk_at dksX5_lastDay_0 13 rfl rfl)
theorem dX5_lastDay_16 : decode cX5_lastDay 16 = .ok (.iconst 2, 1) := dk_5 (dk_at dksX5_lastDay_0 16 rfl rfl)
theorem dX5_lastDay_17 : decode cX5_lastDay 17 = .ok (.iaload, 1) := dk_46 (dk_at dksX5_lastDay_0 17 rfl rfl)
theorem dX5_lastDay_18 : decode cX5_lastDay 18 = .ok (.iadd, 1) := dk_96 (dk_at dksX5_lastDay_0 18 rfl rfl)
theorem dX5_lastDay_19 : decode cX5_lastDay 19 = .ok (.iconst 1, 1) := dk_4 (dk_at dksX5_lastDay_0 19 rfl rfl)
theorem dX5_lastDay_20 : decode cX5_lastDay 20 = .ok (.isub, 1) := dk_100 (dk_at dksX5_lastDay_0 20 rfl rfl)
theorem dX5_lastDay_21 : decode cX5_lastDay 21 = .ok (.ireturn, 1) := dk_172 (dk_at dksX5_lastDay_0 21 rfl rfl)
abbrev cX5_lowestIn : ByteArray := prog_14_method_54_code
def yX5_lowestIn : MethodName := ⟨RX5, "lowestIn", "(I)I"⟩
def dkwX5_lowestIn_1 : List UInt8 := [182, 0, 71, 27, 160, 0, 5, 28, 172, 132, 2, 1, 167, 255, 222, 2, 172]
abbrev dktX5_lowestIn_1 : List UInt8 := dkwX5_lowestIn_1 ++ []
def dkwX5_lowestIn_0 : List UInt8 := [3, 61, 28, 42, 180, 0, 7, 16, 7, 46, 162, 0, 29, 42, 28, 182, 0, 75, 153, 0, 15, 42, 28, 8]
abbrev dktX5_lowestIn_0 : List UInt8 := dkwX5_lowestIn_0 ++ dktX5_lowestIn_1
theorem dksX5_lowestIn_0 : cX5_lowestIn.data.toList.drop 0 = dktX5_lowestIn_0 := by decide +kernel
theorem dksX5_lowestIn_1 : cX5_lowestIn.data.toList.drop 24 = dktX5_lowestIn_1 := dk_seg dksX5_lowestIn_0 24 rfl rfl
theorem dX5_lowestIn_0 : decode cX5_lowestIn 0 = .ok (.iconst 0, 1) := dk_3 (dk_at dksX5_lowestIn_0 0 rfl rfl)
theorem dX5_lowestIn_1 : decode cX5_lowestIn 1 = .ok (.istore_n 2, 1) := dk_61 (dk_at dksX5_lowestIn_0 1 rfl rfl)
theorem dX5_lowestIn_2 : decode cX5_lowestIn 2 = .ok (.iload_n 2, 1) := dk_28 (dk_at dksX5_lowestIn_0 2 rfl rfl)
theorem dX5_lowestIn_3 : decode cX5_lowestIn 3 = .ok (.aload_n 0, 1) := dk_42 (dk_at dksX5_lowestIn_0 3 rfl rfl)
theorem dX5_lowestIn_4 : decode cX5_lowestIn 4 = .ok (.getfield 7, 3) := dk_180 0 7 (dk_at dksX5_lowestIn_0 4 rfl rfl)
theorem dX5_lowestIn_7 : decode cX5_lowestIn 7 = .ok (.bipush 7, 2) := dk_16 7 (dk_at dksX5_lowestIn_0 7 rfl rfl)
theorem dX5_lowestIn_9 : decode cX5_lowestIn 9 = .ok (.iaload, 1) := dk_46 (dk_at dksX5_lowestIn_0 9 rfl rfl)
theorem dX5_lowestIn_10 : decode cX5_lowestIn 10 = .ok (.if_icmp .ge 29, 3) := dk_162 0 29 (dk_at dksX5_lowestIn_0 10 rfl rfl)
theorem dX5_lowestIn_13 : decode cX5_lowestIn 13 = .ok (.aload_n 0, 1) := dk_42 (dk_at dksX5_lowestIn_0 13 rfl rfl)
theorem dX5_lowestIn_14 : decode cX5_lowestIn 14 = .ok (.iload_n 2, 1) := dk_28 (dk_at dksX5_lowestIn_0 14 rfl rfl)
theorem dX5_lowestIn_15 : decode cX5_lowestIn 15 = .ok (.invokevirtual 75, 3) := dk_182 0 75 (dk_at dksX5_lowestIn_0 15 rfl rfl)
theorem dX5_lowestIn_18 : decode cX5_lowestIn 18 = .ok (.ifCond .eq 15, 3) := dk_153 0 15 (dk_at dksX5_lowestIn_0 18 rfl rfl)
theorem dX5_lowestIn_21 : decode cX5_lowestIn 21 = .ok (.aload_n 0, 1) := dk_42 (dk_at dksX5_lowestIn_0 21 rfl rfl)
theorem dX5_lowestIn_22 : decode cX5_lowestIn 22 = .ok (.iload_n 2, 1) := dk_28 (dk_at dksX5_lowestIn_0 22 rfl rfl)
theorem dX5_lowestIn_23 : decode cX5_lowestIn 23 = .ok (.iconst 5, 1) := dk_8 (dk_at dksX5_lowestIn_0 23 rfl rfl)
theorem dX5_lowestIn_24 : decode cX5_lowestIn 24 = .ok (.invokevirtual 71, 3) := dk_182 0 71 (dk_at dksX5_lowestIn_1 0 rfl rfl)
theorem dX5_lowestIn_27 : decode cX5_lowestIn 27 = .ok (.iload_n 1, 1) := dk_27 (dk_at dksX5_lowestIn_1 3 rfl rfl)
theorem dX5_lowestIn_28 : decode cX5_lowestIn 28 = .ok (.if_icmp .ne 5, 3) := dk_160 0 5 (dk_at dksX5_lowestIn_1 4 rfl rfl)
theorem dX5_lowestIn_31 : decode cX5_lowestIn 31 = .ok (.iload_n 2, 1) := dk_28 (dk_at dksX5_lowestIn_1 7 rfl rfl)
theorem dX5_lowestIn_32 : decode cX5_lowestIn 32 = .ok (.ireturn, 1) := dk_172 (dk_at dksX5_lowestIn_1 8 rfl rfl)
theorem dX5_lowestIn_33 : decode cX5_lowestIn 33 = .ok (.iinc 2 1, 3) := dk_132 2 1 (dk_at dksX5_lowestIn_1 9 rfl rfl)
theorem dX5_lowestIn_36 : decode cX5_lowestIn 36 = .ok (.goto (-34), 3) := dk_167 255 222 (dk_at dksX5_lowestIn_1 12 rfl rfl)
theorem dX5_lowestIn_39 : decode cX5_lowestIn 39 = .ok (.iconst (-1), 1) := dk_2 (dk_at dksX5_lowestIn_1 15 rfl rfl)
theorem dX5_lowestIn_40 : decode cX5_lowestIn 40 = .ok (.ireturn, 1) := dk_172 (dk_at dksX5_lowestIn_1 16 rfl rfl)
abbrev cX5_unit : ByteArray := prog_14_method_57_code
def yX5_unit : MethodName := ⟨RX5, "unit", "(II)I"⟩
def dkwX5_unit_2 : List UInt8 := [172]
abbrev dktX5_unit_2 : List UInt8 := dkwX5_unit_2 ++ []
def dkwX5_unit_1 : List UInt8 := [167, 0, 4, 5, 181, 0, 58, 42, 180, 0, 58, 158, 0, 7, 3, 167, 0, 9, 42, 27, 28, 182, 0, 71]
abbrev dktX5_unit_1 : List UInt8 := dkwX5_unit_1 ++ dktX5_unit_2
def dkwX5_unit_0 : List UInt8 := [42, 42, 27, 182, 0, 207, 154, 0, 7, 4, 167, 0, 18, 28, 3, 16, 14, 184, 0, 179, 153, 0, 7, 3]
abbrev dktX5_unit_0 : List UInt8 := dkwX5_unit_0 ++ dktX5_unit_1
theorem dksX5_unit_0 : cX5_unit.data.toList.drop 0 = dktX5_unit_0 := by decide +kernel
theorem dksX5_unit_1 : cX5_unit.data.toList.drop 24 = dktX5_unit_1 := dk_seg dksX5_unit_0 24 rfl rfl
theorem dksX5_unit_2 : cX5_unit.data.toList.drop 48 = dktX5_unit_2 := dk_seg dksX5_unit_1 24 rfl rfl
theorem dX5_unit_0 : decode cX5_unit 0 = .ok (.aload_n 0, 1) := dk_42 (dk_at dksX5_unit_0 0 rfl rfl)
theorem dX5_unit_1 : decode cX5_unit 1 = .ok (.aload_n 0, 1) := dk_42 (dk_at dksX5_unit_0 1 rfl rfl)
theorem dX5_unit_2 : decode cX5_unit 2 = .ok (.iload_n 1, 1) := dk_27 (dk_at dksX5_unit_0 2 rfl rfl)
theorem dX5_unit_3 : decode cX5_unit 3 = .ok (.invokevirtual 207, 3) := dk_182 0 207 (dk_at dksX5_unit_0 3 rfl rfl)
theorem dX5_unit_6 : decode cX5_unit 6 = .ok (.ifCond .ne 7, 3) := dk_154 0 7 (dk_at dksX5_unit_0 6 rfl rfl)
theorem dX5_unit_9 : decode cX5_unit 9 = .ok (.iconst 1, 1) := dk_4 (dk_at dksX5_unit_0 9 rfl rfl)
theorem dX5_unit_10 : decode cX5_unit 10 = .ok (.goto 18, 3) := dk_167 0 18 (dk_at dksX5_unit_0 10 rfl rfl)
theorem dX5_unit_13 : decode cX5_unit 13 = .ok (.iload_n 2, 1) := dk_28 (dk_at dksX5_unit_0 13 rfl rfl)
theorem dX5_unit_14 : decode cX5_unit 14 = .ok (.iconst 0, 1) := dk_3 (dk_at dksX5_unit_0 14 rfl rfl)
theorem dX5_unit_15 : decode cX5_unit 15 = .ok (.bipush 14, 2) := dk_16 14 (dk_at dksX5_unit_0 15 rfl rfl)
theorem dX5_unit_17 : decode cX5_unit 17 = .ok (.invokestatic 179, 3) := dk_184 0 179 (dk_at dksX5_unit_0 17 rfl rfl)
theorem dX5_unit_20 : decode cX5_unit 20 = .ok (.ifCond .eq 7, 3) := dk_153 0 7 (dk_at dksX5_unit_0 20 rfl rfl)
theorem dX5_unit_23 : decode cX5_unit 23 = .ok (.iconst 0, 1) := dk_3 (dk_at dksX5_unit_0 23 rfl rfl)
theorem dX5_unit_24 : decode cX5_unit 24 = .ok (.goto 4, 3) := dk_167 0 4 (dk_at dksX5_unit_1 0 rfl rfl)
theorem dX5_unit_27 : decode cX5_unit 27 = .ok (.iconst 2, 1) := dk_5 (dk_at dksX5_unit_1 3 rfl rfl)
theorem dX5_unit_28 : decode cX5_unit 28 = .ok (.putfield 58, 3) := dk_181 0 58 (dk_at dksX5_unit_1 4 rfl rfl)
theorem dX5_unit_31 : decode cX5_unit 31 = .ok (.aload_n 0, 1) := dk_42 (dk_at dksX5_unit_1 7 rfl rfl)
theorem dX5_unit_32 : decode cX5_unit 32 = .ok (.getfield 58, 3) := dk_180 0 58 (dk_at dksX5_unit_1 8 rfl rfl)
theorem dX5_unit_35 : decode cX5_unit 35 = .ok (.ifCond .le 7, 3) := dk_158 0 7 (dk_at dksX5_unit_1 11 rfl rfl)
theorem dX5_unit_38 : decode cX5_unit 38 = .ok (.iconst 0, 1) := dk_3 (dk_at dksX5_unit_1 14 rfl rfl)
theorem dX5_unit_39 : decode cX5_unit 39 = .ok (.goto 9, 3) := dk_167 0 9 (dk_at dksX5_unit_1 15 rfl rfl)
theorem dX5_unit_42 : decode cX5_unit 42 = .ok (.aload_n 0, 1) := dk_42 (dk_at dksX5_unit_1 18 rfl rfl)
theorem dX5_unit_43 : decode cX5_unit 43 = .ok (.iload_n 1, 1) := dk_27 (dk_at dksX5_unit_1 19 rfl rfl)
theorem dX5_unit_44 : decode cX5_unit 44 = .ok (.iload_n 2, 1) := dk_28 (dk_at dksX5_unit_1 20 rfl rfl)
theorem dX5_unit_45 : decode cX5_unit 45 = .ok (.invokevirtual 71, 3) := dk_182 0 71 (dk_at dksX5_unit_1 21 rfl rfl)
theorem dX5_unit_48 : decode cX5_unit 48 = .ok (.ireturn, 1) := dk_172 (dk_at dksX5_unit_2 0 rfl rfl)
abbrev cX5_isUnit : ByteArray := prog_14_method_56_code
def yX5_isUnit : MethodName := ⟨RX5, "isUnit", "(I)Z"⟩
def dkwX5_isUnit_0 : List UInt8 := [27, 3, 42, 180, 0, 7, 16, 7, 46, 4, 100, 184, 0, 179, 172]
abbrev dktX5_isUnit_0 : List UInt8 := dkwX5_isUnit_0 ++ []
theorem dksX5_isUnit_0 : cX5_isUnit.data.toList.drop 0 = dktX5_isUnit_0 := by decide +kernel
theorem dX5_isUnit_0 : decode cX5_isUnit 0 = .ok (.iload_n 1, 1) := dk_27 (dk_at dksX5_isUnit_0 0 rfl rfl)
theorem dX5_isUnit_1 : decode cX5_isUnit 1 = .ok (.iconst 0, 1) := dk_3 (dk_at dksX5_isUnit_0 1 rfl rfl)
theorem dX5_isUnit_2 : decode cX5_isUnit 2 = .ok (.aload_n 0, 1) := dk_42 (dk_at dksX5_isUnit_0 2 rfl rfl)
theorem dX5_isUnit_3 : decode cX5_isUnit 3 = .ok (.getfield 7, 3) := dk_180 0 7 (dk_at dksX5_isUnit_0 3 rfl rfl)
theorem dX5_isUnit_6 : decode cX5_isUnit 6 = .ok (.bipush 7, 2) := dk_16 7 (dk_at dksX5_isUnit_0 6 rfl rfl)
theorem dX5_isUnit_8 : decode cX5_isUnit 8 = .ok (.iaload, 1) := dk_46 (dk_at dksX5_isUnit_0 8 rfl rfl)
theorem dX5_isUnit_9 : decode cX5_isUnit 9 = .ok (.iconst 1, 1) := dk_4 (dk_at dksX5_isUnit_0 9 rfl rfl)
theorem dX5_isUnit_10 : decode cX5_isUnit 10 = .ok (.isub, 1) := dk_100 (dk_at dksX5_isUnit_0 10 rfl rfl)
theorem dX5_isUnit_11 : decode cX5_isUnit 11 = .ok (.invokestatic 179, 3) := dk_184 0 179 (dk_at dksX5_isUnit_0 11 rfl rfl)
theorem dX5_isUnit_14 : decode cX5_isUnit 14 = .ok (.ireturn, 1) := dk_172 (dk_at dksX5_isUnit_0 14 rfl rfl)
abbrev cX5_guesser : ByteArray := prog_14_method_59_code
def yX5_guesser : MethodName := ⟨RX5, "guesser", "(II)I"⟩
def dkwX5_guesser_2 : List UInt8 := [154, 0, 8, 16, 13, 167, 0, 5, 16, 18, 27, 96, 46, 172]
abbrev dktX5_guesser_2 : List UInt8 := dkwX5_guesser_2 ++ []
def dkwX5_guesser_1 : List UInt8 := [167, 0, 4, 5, 181, 0, 58, 42, 180, 0, 58, 158, 0, 7, 3, 167, 0, 21, 42, 180, 0, 7, 28]
abbrev dktX5_guesser_1 : List UInt8 := dkwX5_guesser_1 ++ dktX5_guesser_2
def dkwX5_guesser_0 : List UInt8 := [42, 27, 184, 0, 210, 154, 0, 7, 4, 167, 0, 17, 28, 3, 4, 184, 0, 179, 153, 0, 7, 3]
abbrev dktX5_guesser_0 : List UInt8 := dkwX5_guesser_0 ++ dktX5_guesser_1
theorem dksX5_guesser_0 : cX5_guesser.data.toList.drop 0 = dktX5_guesser_0 := by decide +kernel
theorem dksX5_guesser_1 : cX5_guesser.data.toList.drop 22 = dktX5_guesser_1 := dk_seg dksX5_guesser_0 22 rfl rfl
theorem dksX5_guesser_2 : cX5_guesser.data.toList.drop 45 = dktX5_guesser_2 := dk_seg dksX5_guesser_1 23 rfl rfl
theorem dX5_guesser_0 : decode cX5_guesser 0 = .ok (.aload_n 0, 1) := dk_42 (dk_at dksX5_guesser_0 0 rfl rfl)
theorem dX5_guesser_1 : decode cX5_guesser 1 = .ok (.iload_n 1, 1) := dk_27 (dk_at dksX5_guesser_0 1 rfl rfl)
theorem dX5_guesser_2 : decode cX5_guesser 2 = .ok (.invokestatic 210, 3) := dk_184 0 210 (dk_at dksX5_guesser_0 2 rfl rfl)
theorem dX5_guesser_5 : decode cX5_guesser 5 = .ok (.ifCond .ne 7, 3) := dk_154 0 7 (dk_at dksX5_guesser_0 5 rfl rfl)
theorem dX5_guesser_8 : decode cX5_guesser 8 = .ok (.iconst 1, 1) := dk_4 (dk_at dksX5_guesser_0 8 rfl rfl)
theorem dX5_guesser_9 : decode cX5_guesser 9 = .ok (.goto 17, 3) := dk_167 0 17 (dk_at dksX5_guesser_0 9 rfl rfl)
theorem dX5_guesser_12 : decode cX5_guesser 12 = .ok (.iload_n 2, 1) := dk_28 (dk_at dksX5_guesser_0 12 rfl rfl)
theorem dX5_guesser_13 : decode cX5_guesser 13 = .ok (.iconst 0, 1) := dk_3 (dk_at dksX5_guesser_0 13 rfl rfl)
theorem dX5_guesser_14 : decode cX5_guesser 14 = .ok (.iconst 1, 1) := dk_4 (dk_at dksX5_guesser_0 14 rfl rfl)
theorem dX5_guesser_15 : decode cX5_guesser 15 = .ok (.invokestatic 179, 3) := dk_184 0 179 (dk_at dksX5_guesser_0 15 rfl rfl)
theorem dX5_guesser_18 : decode cX5_guesser 18 = .ok (.ifCond .eq 7, 3) := dk_153 0 7 (dk_at dksX5_guesser_0 18 rfl rfl)
theorem dX5_guesser_21 : decode cX5_guesser 21 = .ok (.iconst 0, 1) := dk_3 (dk_at dksX5_guesser_0 21 rfl rfl)
theorem dX5_guesser_22 : decode cX5_guesser 22 = .ok (.goto 4, 3) := dk_167 0 4 (dk_at dksX5_guesser_1 0 rfl rfl)
theorem dX5_guesser_25 : decode cX5_guesser 25 = .ok (.iconst 2, 1) := dk_5 (dk_at dksX5_guesser_1 3 rfl rfl)
theorem dX5_guesser_26 : decode cX5_guesser 26 = .ok (.putfield 58, 3) := dk_181 0 58 (dk_at dksX5_guesser_1 4 rfl rfl)
theorem dX5_guesser_29 : decode cX5_guesser 29 = .ok (.aload_n 0, 1) := dk_42 (dk_at dksX5_guesser_1 7 rfl rfl)
theorem dX5_guesser_30 : decode cX5_guesser 30 = .ok (.getfield 58, 3) := dk_180 0 58 (dk_at dksX5_guesser_1 8 rfl rfl)
theorem dX5_guesser_33 : decode cX5_guesser 33 = .ok (.ifCond .le 7, 3) := dk_158 0 7 (dk_at dksX5_guesser_1 11 rfl rfl)
theorem dX5_guesser_36 : decode cX5_guesser 36 = .ok (.iconst 0, 1) := dk_3 (dk_at dksX5_guesser_1 14 rfl rfl)
theorem dX5_guesser_37 : decode cX5_guesser 37 = .ok (.goto 21, 3) := dk_167 0 21 (dk_at dksX5_guesser_1 15 rfl rfl)
theorem dX5_guesser_40 : decode cX5_guesser 40 = .ok (.aload_n 0, 1) := dk_42 (dk_at dksX5_guesser_1 18 rfl rfl)
theorem dX5_guesser_41 : decode cX5_guesser 41 = .ok (.getfield 7, 3) := dk_180 0 7 (dk_at dksX5_guesser_1 19 rfl rfl)
theorem dX5_guesser_44 : decode cX5_guesser 44 = .ok (.iload_n 2, 1) := dk_28 (dk_at dksX5_guesser_1 22 rfl rfl)
theorem dX5_guesser_45 : decode cX5_guesser 45 = .ok (.ifCond .ne 8, 3) := dk_154 0 8 (dk_at dksX5_guesser_2 0 rfl rfl)
theorem dX5_guesser_48 : decode cX5_guesser 48 = .ok (.bipush 13, 2) := dk_16 13 (dk_at dksX5_guesser_2 3 rfl rfl)
theorem dX5_guesser_50 : decode cX5_guesser 50 = .ok (.goto 5, 3) := dk_167 0 5 (dk_at dksX5_guesser_2 5 rfl rfl)
theorem dX5_guesser_53 : decode cX5_guesser 53 = .ok (.bipush 18, 2) := dk_16 18 (dk_at dksX5_guesser_2 8 rfl rfl)
theorem dX5_guesser_55 : decode cX5_guesser 55 = .ok (.iload_n 1, 1) := dk_27 (dk_at dksX5_guesser_2 10 rfl rfl)
theorem dX5_guesser_56 : decode cX5_guesser 56 = .ok (.iadd, 1) := dk_96 (dk_at dksX5_guesser_2 11 rfl rfl)
theorem dX5_guesser_57 : decode cX5_guesser 57 = .ok (.iaload, 1) := dk_46 (dk_at dksX5_guesser_2 12 rfl rfl)
theorem dX5_guesser_58 : decode cX5_guesser 58 = .ok (.ireturn, 1) := dk_172 (dk_at dksX5_guesser_2 13 rfl rfl)
abbrev cX5_isGuesser : ByteArray := prog_14_method_58_code
def yX5_isGuesser : MethodName := ⟨RX5, "isGuesser", "(I)Z"⟩
def dkwX5_isGuesser_0 : List UInt8 := [26, 3, 7, 184, 0, 179, 172]
abbrev dktX5_isGuesser_0 : List UInt8 := dkwX5_isGuesser_0 ++ []
theorem dksX5_isGuesser_0 : cX5_isGuesser.data.toList.drop 0 = dktX5_isGuesser_0 := by decide +kernel
theorem dX5_isGuesser_0 : decode cX5_isGuesser 0 = .ok (.iload_n 0, 1) := dk_26 (dk_at dksX5_isGuesser_0 0 rfl rfl)
theorem dX5_isGuesser_1 : decode cX5_isGuesser 1 = .ok (.iconst 0, 1) := dk_3 (dk_at dksX5_isGuesser_0 1 rfl rfl)
theorem dX5_isGuesser_2 : decode cX5_isGuesser 2 = .ok (.iconst 4, 1) := dk_7 (dk_at dksX5_isGuesser_0 2 rfl rfl)
theorem dX5_isGuesser_3 : decode cX5_isGuesser 3 = .ok (.invokestatic 179, 3) := dk_184 0 179 (dk_at dksX5_isGuesser_0 3 rfl rfl)
theorem dX5_isGuesser_6 : decode cX5_isGuesser 6 = .ok (.ireturn, 1) := dk_172 (dk_at dksX5_isGuesser_0 6 rfl rfl)
abbrev cX5_guess : ByteArray := prog_14_method_61_code
def yX5_guess : MethodName := ⟨RX5, "guess", "(III)I"⟩
def dkwX5_guess_1 : List UInt8 := [5, 181, 0, 58, 42, 180, 0, 58, 158, 0, 7, 3, 167, 0, 10, 42, 27, 28, 29, 182, 0, 89, 172]
abbrev dktX5_guess_1 : List UInt8 := dkwX5_guess_1 ++ []
def dkwX5_guess_0 : List UInt8 := [42, 27, 184, 0, 210, 154, 0, 7, 4, 167, 0, 16, 28, 29, 184, 0, 213, 153, 0, 7, 3, 167, 0, 4]
abbrev dktX5_guess_0 : List UInt8 := dkwX5_guess_0 ++ dktX5_guess_1
theorem dksX5_guess_0 : cX5_guess.data.toList.drop 0 = dktX5_guess_0 := by decide +kernel
theorem dksX5_guess_1 : cX5_guess.data.toList.drop 24 = dktX5_guess_1 := dk_seg dksX5_guess_0 24 rfl rfl
theorem dX5_guess_0 : decode cX5_guess 0 = .ok (.aload_n 0, 1) := dk_42 (dk_at dksX5_guess_0 0 rfl rfl)
theorem dX5_guess_1 : decode cX5_guess 1 = .ok (.iload_n 1, 1) := dk_27 (dk_at dksX5_guess_0 1 rfl rfl)
theorem dX5_guess_2 : decode cX5_guess 2 = .ok (.invokestatic 210, 3) := dk_184 0 210 (dk_at dksX5_guess_0 2 rfl rfl)
theorem dX5_guess_5 : decode cX5_guess 5 = .ok (.ifCond .ne 7, 3) := dk_154 0 7 (dk_at dksX5_guess_0 5 rfl rfl)
theorem dX5_guess_8 : decode cX5_guess 8 = .ok (.iconst 1, 1) := dk_4 (dk_at dksX5_guess_0 8 rfl rfl)
theorem dX5_guess_9 : decode cX5_guess 9 = .ok (.goto 16, 3) := dk_167 0 16 (dk_at dksX5_guess_0 9 rfl rfl)
theorem dX5_guess_12 : decode cX5_guess 12 = .ok (.iload_n 2, 1) := dk_28 (dk_at dksX5_guess_0 12 rfl rfl)
theorem dX5_guess_13 : decode cX5_guess 13 = .ok (.iload_n 3, 1) := dk_29 (dk_at dksX5_guess_0 13 rfl rfl)
theorem dX5_guess_14 : decode cX5_guess 14 = .ok (.invokestatic 213, 3) := dk_184 0 213 (dk_at dksX5_guess_0 14 rfl rfl)
theorem dX5_guess_17 : decode cX5_guess 17 = .ok (.ifCond .eq 7, 3) := dk_153 0 7 (dk_at dksX5_guess_0 17 rfl rfl)
theorem dX5_guess_20 : decode cX5_guess 20 = .ok (.iconst 0, 1) := dk_3 (dk_at dksX5_guess_0 20 rfl rfl)
theorem dX5_guess_21 : decode cX5_guess 21 = .ok (.goto 4, 3) := dk_167 0 4 (dk_at dksX5_guess_0 21 rfl rfl)
theorem dX5_guess_24 : decode cX5_guess 24 = .ok (.iconst 2, 1) := dk_5 (dk_at dksX5_guess_1 0 rfl rfl)
theorem dX5_guess_25 : decode cX5_guess 25 = .ok (.putfield 58, 3) := dk_181 0 58 (dk_at dksX5_guess_1 1 rfl rfl)
theorem dX5_guess_28 : decode cX5_guess 28 = .ok (.aload_n 0, 1) := dk_42 (dk_at dksX5_guess_1 4 rfl rfl)
theorem dX5_guess_29 : decode cX5_guess 29 = .ok (.getfield 58, 3) := dk_180 0 58 (dk_at dksX5_guess_1 5 rfl rfl)
theorem dX5_guess_32 : decode cX5_guess 32 = .ok (.ifCond .le 7, 3) := dk_158 0 7 (dk_at dksX5_guess_1 8 rfl rfl)
theorem dX5_guess_35 : decode cX5_guess 35 = .ok (.iconst 0, 1) := dk_3 (dk_at dksX5_guess_1 11 rfl rfl)
theorem dX5_guess_36 : decode cX5_guess 36 = .ok (.goto 10, 3) := dk_167 0 10 (dk_at dksX5_guess_1 12 rfl rfl)
theorem dX5_guess_39 : decode cX5_guess 39 = .ok (.aload_n 0, 1) := dk_42 (dk_at dksX5_guess_1 15 rfl rfl)
theorem dX5_guess_40 : decode cX5_guess 40 = .ok (.iload_n 1, 1) := dk_27 (dk_at dksX5_guess_1 16 rfl rfl)
theorem dX5_guess_41 : decode cX5_guess 41 = .ok (.iload_n 2, 1) := dk_28 (dk_at dksX5_guess_1 17 rfl rfl)
theorem dX5_guess_42 : decode cX5_guess 42 = .ok (.iload_n 3, 1) := dk_29 (dk_at dksX5_guess_1 18 rfl rfl)
theorem dX5_guess_43 : decode cX5_guess 43 = .ok (.invokevirtual 89, 3) := dk_182 0 89 (dk_at dksX5_guess_1 19 rfl rfl)
theorem dX5_guess_46 : decode cX5_guess 46 = .ok (.ireturn, 1) := dk_172 (dk_at dksX5_guess_1 22 rfl rfl)
abbrev cX5_isKind : ByteArray := prog_14_method_60_code
def yX5_isKind : MethodName := ⟨RX5, "isKind", "(II)Z"⟩
def dkwX5_isKind_1 : List UInt8 := [172]
abbrev dktX5_isKind_1 : List UInt8 := dkwX5_isKind_1 ++ []
def dkwX5_isKind_0 : List UInt8 := [26, 3, 16, 7, 184, 0, 179, 153, 0, 16, 27, 4, 6, 184, 0, 179, 153, 0, 7, 4, 167, 0, 4, 3]
abbrev dktX5_isKind_0 : List UInt8 := dkwX5_isKind_0 ++ dktX5_isKind_1
theorem dksX5_isKind_0 : cX5_isKind.data.toList.drop 0 = dktX5_isKind_0 := by decide +kernel
theorem dksX5_isKind_1 : cX5_isKind.data.toList.drop 24 = dktX5_isKind_1 := dk_seg dksX5_isKind_0 24 rfl rfl
theorem dX5_isKind_0 : decode cX5_isKind 0 = .ok (.iload_n 0, 1) := dk_26 (dk_at dksX5_isKind_0 0 rfl rfl)
theorem dX5_isKind_1 : decode cX5_isKind 1 = .ok (.iconst 0, 1) := dk_3 (dk_at dksX5_isKind_0 1 rfl rfl)
theorem dX5_isKind_2 : decode cX5_isKind 2 = .ok (.bipush 7, 2) := dk_16 7 (dk_at dksX5_isKind_0 2 rfl rfl)
theorem dX5_isKind_4 : decode cX5_isKind 4 = .ok (.invokestatic 179, 3) := dk_184 0 179 (dk_at dksX5_isKind_0 4 rfl rfl)
theorem dX5_isKind_7 : decode cX5_isKind 7 = .ok (.ifCond .eq 16, 3) := dk_153 0 16 (dk_at dksX5_isKind_0 7 rfl rfl)
theorem dX5_isKind_10 : decode cX5_isKind 10 = .ok (.iload_n 1, 1) := dk_27 (dk_at dksX5_isKind_0 10 rfl rfl)
theorem dX5_isKind_11 : decode cX5_isKind 11 = .ok (.iconst 1, 1) := dk_4 (dk_at dksX5_isKind_0 11 rfl rfl)
theorem dX5_isKind_12 : decode cX5_isKind 12 = .ok (.iconst 3, 1) := dk_6 (dk_at dksX5_isKind_0 12 rfl rfl)
theorem dX5_isKind_13 : decode cX5_isKind 13 = .ok (.invokestatic 179, 3) := dk_184 0 179 (dk_at dksX5_isKind_0 13 rfl rfl)
theorem dX5_isKind_16 : decode cX5_isKind 16 = .ok (.ifCond .eq 7, 3) := dk_153 0 7 (dk_at dksX5_isKind_0 16 rfl rfl)
theorem dX5_isKind_19 : decode cX5_isKind 19 = .ok (.iconst 1, 1) := dk_4 (dk_at dksX5_isKind_0 19 rfl rfl)
theorem dX5_isKind_20 : decode cX5_isKind 20 = .ok (.goto 4, 3) := dk_167 0 4 (dk_at dksX5_isKind_0 20 rfl rfl)
theorem dX5_isKind_23 : decode cX5_isKind 23 = .ok (.iconst 0, 1) := dk_3 (dk_at dksX5_isKind_0 23 rfl rfl)
theorem dX5_isKind_24 : decode cX5_isKind 24 = .ok (.ireturn, 1) := dk_172 (dk_at dksX5_isKind_1 0 rfl rfl)
abbrev cX5_tells : ByteArray := prog_14_method_15_code
def yX5_tells : MethodName := ⟨RX5, "tells", "(III)I"⟩
def dkwX5_tells_7 : List UInt8 := [160, 0, 8, 21, 6, 167, 0, 8, 21, 5, 21, 4, 108, 184, 0, 83, 172]
abbrev dktX5_tells_7 : List UInt8 := dkwX5_tells_7 ++ []
def dkwX5_tells_6 : List UInt8 := [184, 0, 83, 172, 27, 6, 160, 0, 14, 42, 21, 7, 16, 9, 182, 0, 71, 167, 0, 18, 27, 7]
abbrev dktX5_tells_6 : List UInt8 := dkwX5_tells_6 ++ dktX5_tells_7
def dkwX5_tells_5 : List UInt8 := [167, 0, 5, 21, 7, 54, 7, 132, 8, 1, 167, 255, 144, 21, 4, 154, 0, 13, 42, 180, 0, 7, 7, 46]
abbrev dktX5_tells_5 : List UInt8 := dkwX5_tells_5 ++ dktX5_tells_6
def dkwX5_tells_4 : List UInt8 := [159, 0, 22, 42, 21, 8, 16, 15, 182, 0, 71, 42, 21, 7, 16, 15, 182, 0, 71, 164, 0, 8, 21, 8]
abbrev dktX5_tells_4 : List UInt8 := dkwX5_tells_4 ++ dktX5_tells_5
def dkwX5_tells_3 : List UInt8 := [21, 6, 164, 0, 14, 42, 21, 8, 16, 9, 182, 0, 71, 167, 0, 5, 21, 6, 54, 6, 21, 7, 2]
abbrev dktX5_tells_3 : List UInt8 := dkwX5_tells_3 ++ dktX5_tells_4
def dkwX5_tells_2 : List UInt8 := [132, 4, 1, 21, 5, 42, 21, 8, 16, 9, 182, 0, 71, 96, 54, 5, 42, 21, 8, 16, 9, 182, 0, 71]
abbrev dktX5_tells_2 : List UInt8 := dkwX5_tells_2 ++ dktX5_tells_3
def dkwX5_tells_1 : List UInt8 := [162, 0, 106, 27, 158, 0, 102, 42, 27, 21, 8, 28, 29, 182, 0, 79, 154, 0, 6, 167, 0, 81]
abbrev dktX5_tells_1 : List UInt8 := dkwX5_tells_1 ++ dktX5_tells_2
def dkwX5_tells_0 : List UInt8 := [3, 54, 4, 3, 54, 5, 3, 54, 6, 2, 54, 7, 3, 54, 8, 21, 8, 42, 180, 0, 7, 16, 7, 46]
abbrev dktX5_tells_0 : List UInt8 := dkwX5_tells_0 ++ dktX5_tells_1
theorem dksX5_tells_0 : cX5_tells.data.toList.drop 0 = dktX5_tells_0 := by decide +kernel
theorem dksX5_tells_1 : cX5_tells.data.toList.drop 24 = dktX5_tells_1 := dk_seg dksX5_tells_0 24 rfl rfl
theorem dksX5_tells_2 : cX5_tells.data.toList.drop 46 = dktX5_tells_2 := dk_seg dksX5_tells_1 22 rfl rfl
theorem dksX5_tells_3 : cX5_tells.data.toList.drop 70 = dktX5_tells_3 := dk_seg dksX5_tells_2 24 rfl rfl
theorem dksX5_tells_4 : cX5_tells.data.toList.drop 93 = dktX5_tells_4 := dk_seg dksX5_tells_3 23 rfl rfl
theorem dksX5_tells_5 : cX5_tells.data.toList.drop 117 = dktX5_tells_5 := dk_seg dksX5_tells_4 24 rfl rfl
theorem dksX5_tells_6 : cX5_tells.data.toList.drop 141 = dktX5_tells_6 := dk_seg dksX5_tells_5 24 rfl rfl
theorem dksX5_tells_7 : cX5_tells.data.toList.drop 163 = dktX5_tells_7 := dk_seg dksX5_tells_6 22 rfl rfl
theorem dX5_tells_0 : decode cX5_tells 0 = .ok (.iconst 0, 1) := dk_3 (dk_at dksX5_tells_0 0 rfl rfl)
theorem dX5_tells_1 : decode cX5_tells 1 = .ok (.istore 4, 2) := dk_54 4 (dk_at dksX5_tells_0 1 rfl rfl)
theorem dX5_tells_3 : decode cX5_tells 3 = .ok (.iconst 0, 1) := dk_3 (dk_at dksX5_tells_0 3 rfl rfl)
theorem dX5_tells_4 : decode cX5_tells 4 = .ok (.istore 5, 2) := dk_54 5 (dk_at dksX5_tells_0 4 rfl rfl)
theorem dX5_tells_6 : decode cX5_tells 6 = .ok (.iconst 0, 1) := dk_3 (dk_at dksX5_tells_0 6 rfl rfl)
theorem dX5_tells_7 : decode cX5_tells 7 = .ok (.istore 6, 2) := dk_54 6 (dk_at dksX5_tells_0 7 rfl rfl)
theorem dX5_tells_9 : decode cX5_tells 9 = .ok (.iconst (-1), 1) := dk_2 (dk_at dksX5_tells_0 9 rfl rfl)
theorem dX5_tells_10 : decode cX5_tells 10 = .ok (.istore 7, 2) := dk_54 7 (dk_at dksX5_tells_0 10 rfl rfl)
theorem dX5_tells_12 : decode cX5_tells 12 = .ok (.iconst 0, 1) := dk_3 (dk_at dksX5_tells_0 12 rfl rfl)
theorem dX5_tells_13 : decode cX5_tells 13 = .ok (.istore 8, 2) := dk_54 8 (dk_at dksX5_tells_0 13 rfl rfl)
theorem dX5_tells_15 : decode cX5_tells 15 = .ok (.iload 8, 2) := dk_21 8 (dk_at dksX5_tells_0 15 rfl rfl)
theorem dX5_tells_17 : decode cX5_tells 17 = .ok (.aload_n 0, 1) := dk_42 (dk_at dksX5_tells_0 17 rfl rfl)
theorem dX5_tells_18 : decode cX5_tells 18 = .ok (.getfield 7, 3) := dk_180 0 7 (dk_at dksX5_tells_0 18 rfl rfl)
theorem dX5_tells_21 : decode cX5_tells 21 = .ok (.bipush 7, 2) := dk_16 7 (dk_at dksX5_tells_0 21 rfl rfl)
theorem dX5_tells_23 : decode cX5_tells 23 = .ok (.iaload, 1) := dk_46 (dk_at dksX5_tells_0 23 rfl rfl)
theorem dX5_tells_24 : decode cX5_tells 24 = .ok (.if_icmp .ge 106, 3) := dk_162 0 106 (dk_at dksX5_tells_1 0 rfl rfl)
theorem dX5_tells_27 : decode cX5_tells 27 = .ok (.iload_n 1, 1) := dk_27 (dk_at dksX5_tells_1 3 rfl rfl)
theorem dX5_tells_28 : decode cX5_tells 28 = .ok (.ifCond .le 102, 3) := dk_158 0 102 (dk_at dksX5_tells_1 4 rfl rfl)
theorem dX5_tells_31 : decode cX5_tells 31 = .ok (.aload_n 0, 1) := dk_42 (dk_at dksX5_tells_1 7 rfl rfl)
theorem dX5_tells_32 : decode cX5_tells 32 = .ok (.iload_n 1, 1) := dk_27 (dk_at dksX5_tells_1 8 rfl rfl)
theorem dX5_tells_33 : decode cX5_tells 33 = .ok (.iload 8, 2) := dk_21 8 (dk_at dksX5_tells_1 9 rfl rfl)
theorem dX5_tells_35 : decode cX5_tells 35 = .ok (.iload_n 2, 1) := dk_28 (dk_at dksX5_tells_1 11 rfl rfl)
theorem dX5_tells_36 : decode cX5_tells 36 = .ok (.iload_n 3, 1) := dk_29 (dk_at dksX5_tells_1 12 rfl rfl)
theorem dX5_tells_37 : decode cX5_tells 37 = .ok (.invokevirtual 79, 3) := dk_182 0 79 (dk_at dksX5_tells_1 13 rfl rfl)
theorem dX5_tells_40 : decode cX5_tells 40 = .ok (.ifCond .ne 6, 3) := dk_154 0 6 (dk_at dksX5_tells_1 16 rfl rfl)
theorem dX5_tells_43 : decode cX5_tells 43 = .ok (.goto 81, 3) := dk_167 0 81 (dk_at dksX5_tells_1 19 rfl rfl)
theorem dX5_tells_46 : decode cX5_tells 46 = .ok (.iinc 4 1, 3) := dk_132 4 1 (dk_at dksX5_tells_2 0 rfl rfl)
theorem dX5_tells_49 : decode cX5_tells 49 = .ok (.iload 5, 2) := dk_21 5 (dk_at dksX5_tells_2 3 rfl rfl)
theorem dX5_tells_51 : decode cX5_tells 51 = .ok (.aload_n 0, 1) := dk_42 (dk_at dksX5_tells_2 5 rfl rfl)
theorem dX5_tells_52 : decode cX5_tells 52 = .ok (.iload 8, 2) := dk_21 8 (dk_at dksX5_tells_2 6 rfl rfl)
theorem dX5_tells_54 : decode cX5_tells 54 = .ok (.bipush 9, 2) := dk_16 9 (dk_at dksX5_tells_2 8 rfl rfl)
theorem dX5_tells_56 : decode cX5_tells 56 = .ok (.invokevirtual 71, 3) := dk_182 0 71 (dk_at dksX5_tells_2 10 rfl rfl)
theorem dX5_tells_59 : decode cX5_tells 59 = .ok (.iadd, 1) := dk_96 (dk_at dksX5_tells_2 13 rfl rfl)
theorem dX5_tells_60 : decode cX5_tells 60 = .ok (.istore 5, 2) := dk_54 5 (dk_at dksX5_tells_2 14 rfl rfl)
theorem dX5_tells_62 : decode cX5_tells 62 = .ok (.aload_n 0, 1) := dk_42 (dk_at dksX5_tells_2 16 rfl rfl)
theorem dX5_tells_63 : decode cX5_tells 63 = .ok (.iload 8, 2) := dk_21 8 (dk_at dksX5_tells_2 17 rfl rfl)
theorem dX5_tells_65 : decode cX5_tells 65 = .ok (.bipush 9, 2) := dk_16 9 (dk_at dksX5_tells_2 19 rfl rfl)
theorem dX5_tells_67 : decode cX5_tells 67 = .ok (.invokevirtual 71, 3) := dk_182 0 71 (dk_at dksX5_tells_2 21 rfl rfl)
theorem dX5_tells_70 : decode cX5_tells 70 = .ok (.iload 6, 2) := dk_21 6 (dk_at dksX5_tells_3 0 rfl rfl)
theorem dX5_tells_72 : decode cX5_tells 72 = .ok (.if_icmp .le 14, 3) := dk_164 0 14 (dk_at dksX5_tells_3 2 rfl rfl)
theorem dX5_tells_75 : decode cX5_tells 75 = .ok (.aload_n 0, 1) := dk_42 (dk_at dksX5_tells_3 5 rfl rfl)
theorem dX5_tells_76 : decode cX5_tells 76 = .ok (.iload 8, 2) := dk_21 8 (dk_at dksX5_tells_3 6 rfl rfl)
theorem dX5_tells_78 : decode cX5_tells 78 = .ok (.bipush 9, 2) := dk_16 9 (dk_at dksX5_tells_3 8 rfl rfl)
theorem dX5_tells_80 : decode cX5_tells 80 = .ok (.invokevirtual 71, 3) := dk_182 0 71 (dk_at dksX5_tells_3 10 rfl rfl)
theorem dX5_tells_83 : decode cX5_tells 83 = .ok (.goto 5, 3) := dk_167 0 5 (dk_at dksX5_tells_3 13 rfl rfl)
theorem dX5_tells_86 : decode cX5_tells 86 = .ok (.iload 6, 2) := dk_21 6 (dk_at dksX5_tells_3 16 rfl rfl)
theorem dX5_tells_88 : decode cX5_tells 88 = .ok (.istore 6, 2) := dk_54 6 (dk_at dksX5_tells_3 18 rfl rfl)
theorem dX5_tells_90 : decode cX5_tells 90 = .ok (.iload 7, 2) := dk_21 7 (dk_at dksX5_tells_3 20 rfl rfl)
theorem dX5_tells_92 : decode cX5_tells 92 = .ok (.iconst (-1), 1) := dk_2 (dk_at dksX5_tells_3 22 rfl rfl)
theorem dX5_tells_93 : decode cX5_tells 93 = .ok (.if_icmp .eq 22, 3) := dk_159 0 22 (dk_at dksX5_tells_4 0 rfl rfl)
theorem dX5_tells_96 : decode cX5_tells 96 = .ok (.aload_n 0, 1) := dk_42 (dk_at dksX5_tells_4 3 rfl rfl)
theorem dX5_tells_97 : decode cX5_tells 97 = .ok (.iload 8, 2) := dk_21 8 (dk_at dksX5_tells_4 4 rfl rfl)
theorem dX5_tells_99 : decode cX5_tells 99 = .ok (.bipush 15, 2) := dk_16 15 (dk_at dksX5_tells_4 6 rfl rfl)
theorem dX5_tells_101 : decode cX5_tells 101 = .ok (.invokevirtual 71, 3) := dk_182 0 71 (dk_at dksX5_tells_4 8 rfl rfl)
theorem dX5_tells_104 : decode cX5_tells 104 = .ok (.aload_n 0, 1) := dk_42 (dk_at dksX5_tells_4 11 rfl rfl)
theorem dX5_tells_105 : decode cX5_tells 105 = .ok (.iload 7, 2) := dk_21 7 (dk_at dksX5_tells_4 12 rfl rfl)
theorem dX5_tells_107 : decode cX5_tells 107 = .ok (.bipush 15, 2) := dk_16 15 (dk_at dksX5_tells_4 14 rfl rfl)
theorem dX5_tells_109 : decode cX5_tells 109 = .ok (.invokevirtual 71, 3) := dk_182 0 71 (dk_at dksX5_tells_4 16 rfl rfl)
theorem dX5_tells_112 : decode cX5_tells 112 = .ok (.if_icmp .le 8, 3) := dk_164 0 8 (dk_at dksX5_tells_4 19 rfl rfl)
theorem dX5_tells_115 : decode cX5_tells 115 = .ok (.iload 8, 2) := dk_21 8 (dk_at dksX5_tells_4 22 rfl rfl)
theorem dX5_tells_117 : decode cX5_tells 117 = .ok (.goto 5, 3) := dk_167 0 5 (dk_at dksX5_tells_5 0 rfl rfl)
theorem dX5_tells_120 : decode cX5_tells 120 = .ok (.iload 7, 2) := dk_21 7 (dk_at dksX5_tells_5 3 rfl rfl)
theorem dX5_tells_122 : decode cX5_tells 122 = .ok (.istore 7, 2) := dk_54 7 (dk_at dksX5_tells_5 5 rfl rfl)
theorem dX5_tells_124 : decode cX5_tells 124 = .ok (.iinc 8 1, 3) := dk_132 8 1 (dk_at dksX5_tells_5 7 rfl rfl)
theorem dX5_tells_127 : decode cX5_tells 127 = .ok (.goto (-112), 3) := dk_167 255 144 (dk_at dksX5_tells_5 10 rfl rfl)
theorem dX5_tells_130 : decode cX5_tells 130 = .ok (.iload 4, 2) := dk_21 4 (dk_at dksX5_tells_5 13 rfl rfl)
theorem dX5_tells_132 : decode cX5_tells 132 = .ok (.ifCond .ne 13, 3) := dk_154 0 13 (dk_at dksX5_tells_5 15 rfl rfl)
theorem dX5_tells_135 : decode cX5_tells 135 = .ok (.aload_n 0, 1) := dk_42 (dk_at dksX5_tells_5 18 rfl rfl)
theorem dX5_tells_136 : decode cX5_tells 136 = .ok (.getfield 7, 3) := dk_180 0 7 (dk_at dksX5_tells_5 19 rfl rfl)
theorem dX5_tells_139 : decode cX5_tells 139 = .ok (.iconst 4, 1) := dk_7 (dk_at dksX5_tells_5 22 rfl rfl)
theorem dX5_tells_140 : decode cX5_tells 140 = .ok (.iaload, 1) := dk_46 (dk_at dksX5_tells_5 23 rfl rfl)
theorem dX5_tells_141 : decode cX5_tells 141 = .ok (.invokestatic 83, 3) := dk_184 0 83 (dk_at dksX5_tells_6 0 rfl rfl)
theorem dX5_tells_144 : decode cX5_tells 144 = .ok (.ireturn, 1) := dk_172 (dk_at dksX5_tells_6 3 rfl rfl)
theorem dX5_tells_145 : decode cX5_tells 145 = .ok (.iload_n 1, 1) := dk_27 (dk_at dksX5_tells_6 4 rfl rfl)
theorem dX5_tells_146 : decode cX5_tells 146 = .ok (.iconst 3, 1) := dk_6 (dk_at dksX5_tells_6 5 rfl rfl)
theorem dX5_tells_147 : decode cX5_tells 147 = .ok (.if_icmp .ne 14, 3) := dk_160 0 14 (dk_at dksX5_tells_6 6 rfl rfl)
theorem dX5_tells_150 : decode cX5_tells 150 = .ok (.aload_n 0, 1) := dk_42 (dk_at dksX5_tells_6 9 rfl rfl)
theorem dX5_tells_151 : decode cX5_tells 151 = .ok (.iload 7, 2) := dk_21 7 (dk_at dksX5_tells_6 10 rfl rfl)
theorem dX5_tells_153 : decode cX5_tells 153 = .ok (.bipush 9, 2) := dk_16 9 (dk_at dksX5_tells_6 12 rfl rfl)
theorem dX5_tells_155 : decode cX5_tells 155 = .ok (.invokevirtual 71, 3) := dk_182 0 71 (dk_at dksX5_tells_6 14 rfl rfl)
theorem dX5_tells_158 : decode cX5_tells 158 = .ok (.goto 18, 3) := dk_167 0 18 (dk_at dksX5_tells_6 17 rfl rfl)
theorem dX5_tells_161 : decode cX5_tells 161 = .ok (.iload_n 1, 1) := dk_27 (dk_at dksX5_tells_6 20 rfl rfl)
theorem dX5_tells_162 : decode cX5_tells 162 = .ok (.iconst 4, 1) := dk_7 (dk_at dksX5_tells_6 21 rfl rfl)
theorem dX5_tells_163 : decode cX5_tells 163 = .ok (.if_icmp .ne 8, 3) := dk_160 0 8 (dk_at dksX5_tells_7 0 rfl rfl)
theorem dX5_tells_166 : decode cX5_tells 166 = .ok (.iload 6, 2) := dk_21 6 (dk_at dksX5_tells_7 3 rfl rfl)
theorem dX5_tells_168 : decode cX5_tells 168 = .ok (.goto 8, 3) := dk_167 0 8 (dk_at dksX5_tells_7 5 rfl rfl)
theorem dX5_tells_171 : decode cX5_tells 171 = .ok (.iload 5, 2) := dk_21 5 (dk_at dksX5_tells_7 8 rfl rfl)
theorem dX5_tells_173 : decode cX5_tells 173 = .ok (.iload 4, 2) := dk_21 4 (dk_at dksX5_tells_7 10 rfl rfl)
theorem dX5_tells_175 : decode cX5_tells 175 = .ok (.idiv, 1) := dk_108 (dk_at dksX5_tells_7 12 rfl rfl)
theorem dX5_tells_176 : decode cX5_tells 176 = .ok (.invokestatic 83, 3) := dk_184 0 83 (dk_at dksX5_tells_7 13 rfl rfl)
theorem dX5_tells_179 : decode cX5_tells 179 = .ok (.ireturn, 1) := dk_172 (dk_at dksX5_tells_7 16 rfl rfl)
abbrev cX5_counts : ByteArray := prog_14_method_14_code
def yX5_counts : MethodName := ⟨RX5, "counts", "(IIII)Z"⟩
def dkwX5_counts_3 : List UInt8 := [153, 0, 15, 167, 0, 8, 21, 5, 153, 0, 7, 4, 167, 0, 4, 3, 172]
abbrev dktX5_counts_3 : List UInt8 := dkwX5_counts_3 ++ []
def dkwX5_counts_2 : List UInt8 := [160, 0, 11, 21, 6, 153, 0, 33, 167, 0, 26, 27, 6, 160, 0, 16, 21, 5, 153, 0, 20, 21, 6]
abbrev dktX5_counts_2 : List UInt8 := dkwX5_counts_2 ++ dktX5_counts_3
def dkwX5_counts_1 : List UInt8 := [21, 4, 160, 0, 7, 4, 167, 0, 4, 3, 54, 6, 42, 28, 182, 0, 75, 154, 0, 43, 27, 5]
abbrev dktX5_counts_1 : List UInt8 := dkwX5_counts_1 ++ dktX5_counts_2
def dkwX5_counts_0 : List UInt8 := [42, 28, 3, 182, 0, 71, 29, 160, 0, 7, 4, 167, 0, 4, 3, 54, 5, 42, 28, 4, 182, 0, 71]
abbrev dktX5_counts_0 : List UInt8 := dkwX5_counts_0 ++ dktX5_counts_1
theorem dksX5_counts_0 : cX5_counts.data.toList.drop 0 = dktX5_counts_0 := by decide +kernel
theorem dksX5_counts_1 : cX5_counts.data.toList.drop 23 = dktX5_counts_1 := dk_seg dksX5_counts_0 23 rfl rfl
theorem dksX5_counts_2 : cX5_counts.data.toList.drop 45 = dktX5_counts_2 := dk_seg dksX5_counts_1 22 rfl rfl
theorem dksX5_counts_3 : cX5_counts.data.toList.drop 68 = dktX5_counts_3 := dk_seg dksX5_counts_2 23 rfl rfl
theorem dX5_counts_0 : decode cX5_counts 0 = .ok (.aload_n 0, 1) := dk_42 (dk_at dksX5_counts_0 0 rfl rfl)
theorem dX5_counts_1 : decode cX5_counts 1 = .ok (.iload_n 2, 1) := dk_28 (dk_at dksX5_counts_0 1 rfl rfl)
theorem dX5_counts_2 : decode cX5_counts 2 = .ok (.iconst 0, 1) := dk_3 (dk_at dksX5_counts_0 2 rfl rfl)
theorem dX5_counts_3 : decode cX5_counts 3 = .ok (.invokevirtual 71, 3) := dk_182 0 71 (dk_at dksX5_counts_0 3 rfl rfl)
theorem dX5_counts_6 : decode cX5_counts 6 = .ok (.iload_n 3, 1) := dk_29 (dk_at dksX5_counts_0 6 rfl rfl)
theorem dX5_counts_7 : decode cX5_counts 7 = .ok (.if_icmp .ne 7, 3) := dk_160 0 7 (dk_at dksX5_counts_0 7 rfl rfl)
theorem dX5_counts_10 : decode cX5_counts 10 = .ok (.iconst 1, 1) := dk_4 (dk_at dksX5_counts_0 10 rfl rfl)
theorem dX5_counts_11 : decode cX5_counts 11 = .ok (.goto 4, 3) := dk_167 0 4 (dk_at dksX5_counts_0 11 rfl rfl)
theorem dX5_counts_14 : decode cX5_counts 14 = .ok (.iconst 0, 1) := dk_3 (dk_at dksX5_counts_0 14 rfl rfl)
theorem dX5_counts_15 : decode cX5_counts 15 = .ok (.istore 5, 2) := dk_54 5 (dk_at dksX5_counts_0 15 rfl rfl)
theorem dX5_counts_17 : decode cX5_counts 17 = .ok (.aload_n 0, 1) := dk_42 (dk_at dksX5_counts_0 17 rfl rfl)
theorem dX5_counts_18 : decode cX5_counts 18 = .ok (.iload_n 2, 1) := dk_28 (dk_at dksX5_counts_0 18 rfl rfl)
theorem dX5_counts_19 : decode cX5_counts 19 = .ok (.iconst 1, 1) := dk_4 (dk_at dksX5_counts_0 19 rfl rfl)
theorem dX5_counts_20 : decode cX5_counts 20 = .ok (.invokevirtual 71, 3) := dk_182 0 71 (dk_at dksX5_counts_0 20 rfl rfl)
theorem dX5_counts_23 : decode cX5_counts 23 = .ok (.iload 4, 2) := dk_21 4 (dk_at dksX5_counts_1 0 rfl rfl)
theorem dX5_counts_25 : decode cX5_counts 25 = .ok (.if_icmp .ne 7, 3) := dk_160 0 7 (dk_at dksX5_counts_1 2 rfl rfl)
theorem dX5_counts_28 : decode cX5_counts 28 = .ok (.iconst 1, 1) := dk_4 (dk_at dksX5_counts_1 5 rfl rfl)
theorem dX5_counts_29 : decode cX5_counts 29 = .ok (.goto 4, 3) := dk_167 0 4 (dk_at dksX5_counts_1 6 rfl rfl)
theorem dX5_counts_32 : decode cX5_counts 32 = .ok (.iconst 0, 1) := dk_3 (dk_at dksX5_counts_1 9 rfl rfl)
theorem dX5_counts_33 : decode cX5_counts 33 = .ok (.istore 6, 2) := dk_54 6 (dk_at dksX5_counts_1 10 rfl rfl)
theorem dX5_counts_35 : decode cX5_counts 35 = .ok (.aload_n 0, 1) := dk_42 (dk_at dksX5_counts_1 12 rfl rfl)
theorem dX5_counts_36 : decode cX5_counts 36 = .ok (.iload_n 2, 1) := dk_28 (dk_at dksX5_counts_1 13 rfl rfl)
theorem dX5_counts_37 : decode cX5_counts 37 = .ok (.invokevirtual 75, 3) := dk_182 0 75 (dk_at dksX5_counts_1 14 rfl rfl)
theorem dX5_counts_40 : decode cX5_counts 40 = .ok (.ifCond .ne 43, 3) := dk_154 0 43 (dk_at dksX5_counts_1 17 rfl rfl)
theorem dX5_counts_43 : decode cX5_counts 43 = .ok (.iload_n 1, 1) := dk_27 (dk_at dksX5_counts_1 20 rfl rfl)
theorem dX5_counts_44 : decode cX5_counts 44 = .ok (.iconst 2, 1) := dk_5 (dk_at dksX5_counts_1 21 rfl rfl)
theorem dX5_counts_45 : decode cX5_counts 45 = .ok (.if_icmp .ne 11, 3) := dk_160 0 11 (dk_at dksX5_counts_2 0 rfl rfl)
theorem dX5_counts_48 : decode cX5_counts 48 = .ok (.iload 6, 2) := dk_21 6 (dk_at dksX5_counts_2 3 rfl rfl)
theorem dX5_counts_50 : decode cX5_counts 50 = .ok (.ifCond .eq 33, 3) := dk_153 0 33 (dk_at dksX5_counts_2 5 rfl rfl)
theorem dX5_counts_53 : decode cX5_counts 53 = .ok (.goto 26, 3) := dk_167 0 26 (dk_at dksX5_counts_2 8 rfl rfl)
theorem dX5_counts_56 : decode cX5_counts 56 = .ok (.iload_n 1, 1) := dk_27 (dk_at dksX5_counts_2 11 rfl rfl)
theorem dX5_counts_57 : decode cX5_counts 57 = .ok (.iconst 3, 1) := dk_6 (dk_at dksX5_counts_2 12 rfl rfl)
theorem dX5_counts_58 : decode cX5_counts 58 = .ok (.if_icmp .ne 16, 3) := dk_160 0 16 (dk_at dksX5_counts_2 13 rfl rfl)
theorem dX5_counts_61 : decode cX5_counts 61 = .ok (.iload 5, 2) := dk_21 5 (dk_at dksX5_counts_2 16 rfl rfl)
theorem dX5_counts_63 : decode cX5_counts 63 = .ok (.ifCond .eq 20, 3) := dk_153 0 20 (dk_at dksX5_counts_2 18 rfl rfl)
theorem dX5_counts_66 : decode cX5_counts 66 = .ok (.iload 6, 2) := dk_21 6 (dk_at dksX5_counts_2 21 rfl rfl)
theorem dX5_counts_68 : decode cX5_counts 68 = .ok (.ifCond .eq 15, 3) := dk_153 0 15 (dk_at dksX5_counts_3 0 rfl rfl)
theorem dX5_counts_71 : decode cX5_counts 71 = .ok (.goto 8, 3) := dk_167 0 8 (dk_at dksX5_counts_3 3 rfl rfl)
theorem dX5_counts_74 : decode cX5_counts 74 = .ok (.iload 5, 2) := dk_21 5 (dk_at dksX5_counts_3 6 rfl rfl)
theorem dX5_counts_76 : decode cX5_counts 76 = .ok (.ifCond .eq 7, 3) := dk_153 0 7 (dk_at dksX5_counts_3 8 rfl rfl)
theorem dX5_counts_79 : decode cX5_counts 79 = .ok (.iconst 1, 1) := dk_4 (dk_at dksX5_counts_3 11 rfl rfl)
theorem dX5_counts_80 : decode cX5_counts 80 = .ok (.goto 4, 3) := dk_167 0 4 (dk_at dksX5_counts_3 12 rfl rfl)
theorem dX5_counts_83 : decode cX5_counts 83 = .ok (.iconst 0, 1) := dk_3 (dk_at dksX5_counts_3 15 rfl rfl)
theorem dX5_counts_84 : decode cX5_counts 84 = .ok (.ireturn, 1) := dk_172 (dk_at dksX5_counts_3 16 rfl rfl)
abbrev cX5_bounded : ByteArray := prog_14_method_13_code
def yX5_bounded : MethodName := ⟨RX5, "bounded", "(I)I"⟩
def dkwX5_bounded_0 : List UInt8 := [26, 4, 162, 0, 7, 4, 167, 0, 15, 26, 16, 99, 164, 0, 8, 16, 99, 167, 0, 4, 26, 172]
abbrev dktX5_bounded_0 : List UInt8 := dkwX5_bounded_0 ++ []
theorem dksX5_bounded_0 : cX5_bounded.data.toList.drop 0 = dktX5_bounded_0 := by decide +kernel
theorem dX5_bounded_0 : decode cX5_bounded 0 = .ok (.iload_n 0, 1) := dk_26 (dk_at dksX5_bounded_0 0 rfl rfl)
theorem dX5_bounded_1 : decode cX5_bounded 1 = .ok (.iconst 1, 1) := dk_4 (dk_at dksX5_bounded_0 1 rfl rfl)
theorem dX5_bounded_2 : decode cX5_bounded 2 = .ok (.if_icmp .ge 7, 3) := dk_162 0 7 (dk_at dksX5_bounded_0 2 rfl rfl)
theorem dX5_bounded_5 : decode cX5_bounded 5 = .ok (.iconst 1, 1) := dk_4 (dk_at dksX5_bounded_0 5 rfl rfl)
theorem dX5_bounded_6 : decode cX5_bounded 6 = .ok (.goto 15, 3) := dk_167 0 15 (dk_at dksX5_bounded_0 6 rfl rfl)
theorem dX5_bounded_9 : decode cX5_bounded 9 = .ok (.iload_n 0, 1) := dk_26 (dk_at dksX5_bounded_0 9 rfl rfl)
theorem dX5_bounded_10 : decode cX5_bounded 10 = .ok (.bipush 99, 2) := dk_16 99 (dk_at dksX5_bounded_0 10 rfl rfl)
theorem dX5_bounded_12 : decode cX5_bounded 12 = .ok (.if_icmp .le 8, 3) := dk_164 0 8 (dk_at dksX5_bounded_0 12 rfl rfl)
theorem dX5_bounded_15 : decode cX5_bounded 15 = .ok (.bipush 99, 2) := dk_16 99 (dk_at dksX5_bounded_0 15 rfl rfl)
theorem dX5_bounded_17 : decode cX5_bounded 17 = .ok (.goto 4, 3) := dk_167 0 4 (dk_at dksX5_bounded_0 17 rfl rfl)
theorem dX5_bounded_20 : decode cX5_bounded 20 = .ok (.iload_n 0, 1) := dk_26 (dk_at dksX5_bounded_0 20 rfl rfl)
theorem dX5_bounded_21 : decode cX5_bounded 21 = .ok (.ireturn, 1) := dk_172 (dk_at dksX5_bounded_0 21 rfl rfl)
abbrev cX5_share : ByteArray := prog_14_method_62_code
def yX5_share : MethodName := ⟨RX5, "share", "(I)D"⟩
def dkwX5_share_2 : List UInt8 := [132, 3, 1, 167, 255, 236, 42, 180, 0, 7, 16, 13, 27, 96, 46, 135, 28, 135, 111, 175]
abbrev dktX5_share_2 : List UInt8 := dkwX5_share_2 ++ []
def dkwX5_share_1 : List UInt8 := [175, 3, 61, 3, 62, 29, 8, 162, 0, 21, 28, 42, 180, 0, 7, 16, 13, 29, 96, 46, 96, 61]
abbrev dktX5_share_1 : List UInt8 := dkwX5_share_1 ++ dktX5_share_2
def dkwX5_share_0 : List UInt8 := [42, 27, 184, 0, 210, 153, 0, 7, 3, 167, 0, 4, 4, 181, 0, 58, 42, 180, 0, 58, 158, 0, 5, 14]
abbrev dktX5_share_0 : List UInt8 := dkwX5_share_0 ++ dktX5_share_1
theorem dksX5_share_0 : cX5_share.data.toList.drop 0 = dktX5_share_0 := by decide +kernel
theorem dksX5_share_1 : cX5_share.data.toList.drop 24 = dktX5_share_1 := dk_seg dksX5_share_0 24 rfl rfl
theorem dksX5_share_2 : cX5_share.data.toList.drop 46 = dktX5_share_2 := dk_seg dksX5_share_1 22 rfl rfl
theorem dX5_share_0 : decode cX5_share 0 = .ok (.aload_n 0, 1) := dk_42 (dk_at dksX5_share_0 0 rfl rfl)
theorem dX5_share_1 : decode cX5_share 1 = .ok (.iload_n 1, 1) := dk_27 (dk_at dksX5_share_0 1 rfl rfl)
theorem dX5_share_2 : decode cX5_share 2 = .ok (.invokestatic 210, 3) := dk_184 0 210 (dk_at dksX5_share_0 2 rfl rfl)
theorem dX5_share_5 : decode cX5_share 5 = .ok (.ifCond .eq 7, 3) := dk_153 0 7 (dk_at dksX5_share_0 5 rfl rfl)
theorem dX5_share_8 : decode cX5_share 8 = .ok (.iconst 0, 1) := dk_3 (dk_at dksX5_share_0 8 rfl rfl)
theorem dX5_share_9 : decode cX5_share 9 = .ok (.goto 4, 3) := dk_167 0 4 (dk_at dksX5_share_0 9 rfl rfl)
theorem dX5_share_12 : decode cX5_share 12 = .ok (.iconst 1, 1) := dk_4 (dk_at dksX5_share_0 12 rfl rfl)
theorem dX5_share_13 : decode cX5_share 13 = .ok (.putfield 58, 3) := dk_181 0 58 (dk_at dksX5_share_0 13 rfl rfl)
theorem dX5_share_16 : decode cX5_share 16 = .ok (.aload_n 0, 1) := dk_42 (dk_at dksX5_share_0 16 rfl rfl)
theorem dX5_share_17 : decode cX5_share 17 = .ok (.getfield 58, 3) := dk_180 0 58 (dk_at dksX5_share_0 17 rfl rfl)
theorem dX5_share_20 : decode cX5_share 20 = .ok (.ifCond .le 5, 3) := dk_158 0 5 (dk_at dksX5_share_0 20 rfl rfl)
theorem dX5_share_23 : decode cX5_share 23 = .ok (.dconst 0, 1) := dk_14 (dk_at dksX5_share_0 23 rfl rfl)
theorem dX5_share_24 : decode cX5_share 24 = .ok (.dreturn, 1) := dk_175 (dk_at dksX5_share_1 0 rfl rfl)
theorem dX5_share_25 : decode cX5_share 25 = .ok (.iconst 0, 1) := dk_3 (dk_at dksX5_share_1 1 rfl rfl)
theorem dX5_share_26 : decode cX5_share 26 = .ok (.istore_n 2, 1) := dk_61 (dk_at dksX5_share_1 2 rfl rfl)
theorem dX5_share_27 : decode cX5_share 27 = .ok (.iconst 0, 1) := dk_3 (dk_at dksX5_share_1 3 rfl rfl)
theorem dX5_share_28 : decode cX5_share 28 = .ok (.istore_n 3, 1) := dk_62 (dk_at dksX5_share_1 4 rfl rfl)
theorem dX5_share_29 : decode cX5_share 29 = .ok (.iload_n 3, 1) := dk_29 (dk_at dksX5_share_1 5 rfl rfl)
theorem dX5_share_30 : decode cX5_share 30 = .ok (.iconst 5, 1) := dk_8 (dk_at dksX5_share_1 6 rfl rfl)
theorem dX5_share_31 : decode cX5_share 31 = .ok (.if_icmp .ge 21, 3) := dk_162 0 21 (dk_at dksX5_share_1 7 rfl rfl)
theorem dX5_share_34 : decode cX5_share 34 = .ok (.iload_n 2, 1) := dk_28 (dk_at dksX5_share_1 10 rfl rfl)
theorem dX5_share_35 : decode cX5_share 35 = .ok (.aload_n 0, 1) := dk_42 (dk_at dksX5_share_1 11 rfl rfl)
theorem dX5_share_36 : decode cX5_share 36 = .ok (.getfield 7, 3) := dk_180 0 7 (dk_at dksX5_share_1 12 rfl rfl)
theorem dX5_share_39 : decode cX5_share 39 = .ok (.bipush 13, 2) := dk_16 13 (dk_at dksX5_share_1 15 rfl rfl)
theorem dX5_share_41 : decode cX5_share 41 = .ok (.iload_n 3, 1) := dk_29 (dk_at dksX5_share_1 17 rfl rfl)
theorem dX5_share_42 : decode cX5_share 42 = .ok (.iadd, 1) := dk_96 (dk_at dksX5_share_1 18 rfl rfl)
theorem dX5_share_43 : decode cX5_share 43 = .ok (.iaload, 1) := dk_46 (dk_at dksX5_share_1 19 rfl rfl)
theorem dX5_share_44 : decode cX5_share 44 = .ok (.iadd, 1) := dk_96 (dk_at dksX5_share_1 20 rfl rfl)
theorem dX5_share_45 : decode cX5_share 45 = .ok (.istore_n 2, 1) := dk_61 (dk_at dksX5_share_1 21 rfl rfl)
theorem dX5_share_46 : decode cX5_share 46 = .ok (.iinc 3 1, 3) := dk_132 3 1 (dk_at dksX5_share_2 0 rfl rfl)
theorem dX5_share_49 : decode cX5_share 49 = .ok (.goto (-20), 3) := dk_167 255 236 (dk_at dksX5_share_2 3 rfl rfl)
theorem dX5_share_52 : decode cX5_share 52 = .ok (.aload_n 0, 1) := dk_42 (dk_at dksX5_share_2 6 rfl rfl)
theorem dX5_share_53 : decode cX5_share 53 = .ok (.getfield 7, 3) := dk_180 0 7 (dk_at dksX5_share_2 7 rfl rfl)
theorem dX5_share_56 : decode cX5_share 56 = .ok (.bipush 13, 2) := dk_16 13 (dk_at dksX5_share_2 10 rfl rfl)
theorem dX5_share_58 : decode cX5_share 58 = .ok (.iload_n 1, 1) := dk_27 (dk_at dksX5_share_2 12 rfl rfl)
theorem dX5_share_59 : decode cX5_share 59 = .ok (.iadd, 1) := dk_96 (dk_at dksX5_share_2 13 rfl rfl)
theorem dX5_share_60 : decode cX5_share 60 = .ok (.iaload, 1) := dk_46 (dk_at dksX5_share_2 14 rfl rfl)
theorem dX5_share_61 : decode cX5_share 61 = .ok (.i2d, 1) := dk_135 (dk_at dksX5_share_2 15 rfl rfl)
theorem dX5_share_62 : decode cX5_share 62 = .ok (.iload_n 2, 1) := dk_28 (dk_at dksX5_share_2 16 rfl rfl)
theorem dX5_share_63 : decode cX5_share 63 = .ok (.i2d, 1) := dk_135 (dk_at dksX5_share_2 17 rfl rfl)
theorem dX5_share_64 : decode cX5_share 64 = .ok (.ddiv, 1) := dk_111 (dk_at dksX5_share_2 18 rfl rfl)
theorem dX5_share_65 : decode cX5_share 65 = .ok (.dreturn, 1) := dk_175 (dk_at dksX5_share_2 19 rfl rfl)
abbrev cX5_regret : ByteArray := prog_14_method_63_code
def yX5_regret : MethodName := ⟨RX5, "regret", "()I"⟩
def dkwX5_regret_2 : List UInt8 := [132, 2, 1, 167, 255, 221, 42, 180, 0, 7, 16, 10, 46, 27, 100, 172]
abbrev dktX5_regret_2 : List UInt8 := dkwX5_regret_2 ++ []
def dkwX5_regret_1 : List UInt8 := [16, 18, 28, 96, 46, 27, 162, 0, 15, 42, 180, 0, 7, 16, 18, 28, 96, 46, 167, 0, 4, 27, 60]
abbrev dktX5_regret_1 : List UInt8 := dkwX5_regret_1 ++ dktX5_regret_2
def dkwX5_regret_0 : List UInt8 := [42, 3, 181, 0, 58, 42, 180, 0, 7, 16, 18, 46, 60, 4, 61, 28, 8, 162, 0, 36, 42, 180, 0, 7]
abbrev dktX5_regret_0 : List UInt8 := dkwX5_regret_0 ++ dktX5_regret_1
theorem dksX5_regret_0 : cX5_regret.data.toList.drop 0 = dktX5_regret_0 := by decide +kernel
theorem dksX5_regret_1 : cX5_regret.data.toList.drop 24 = dktX5_regret_1 := dk_seg dksX5_regret_0 24 rfl rfl
theorem dksX5_regret_2 : cX5_regret.data.toList.drop 47 = dktX5_regret_2 := dk_seg dksX5_regret_1 23 rfl rfl
theorem dX5_regret_0 : decode cX5_regret 0 = .ok (.aload_n 0, 1) := dk_42 (dk_at dksX5_regret_0 0 rfl rfl)
theorem dX5_regret_1 : decode cX5_regret 1 = .ok (.iconst 0, 1) := dk_3 (dk_at dksX5_regret_0 1 rfl rfl)
theorem dX5_regret_2 : decode cX5_regret 2 = .ok (.putfield 58, 3) := dk_181 0 58 (dk_at dksX5_regret_0 2 rfl rfl)
theorem dX5_regret_5 : decode cX5_regret 5 = .ok (.aload_n 0, 1) := dk_42 (dk_at dksX5_regret_0 5 rfl rfl)
theorem dX5_regret_6 : decode cX5_regret 6 = .ok (.getfield 7, 3) := dk_180 0 7 (dk_at dksX5_regret_0 6 rfl rfl)
theorem dX5_regret_9 : decode cX5_regret 9 = .ok (.bipush 18, 2) := dk_16 18 (dk_at dksX5_regret_0 9 rfl rfl)
theorem dX5_regret_11 : decode cX5_regret 11 = .ok (.iaload, 1) := dk_46 (dk_at dksX5_regret_0 11 rfl rfl)
theorem dX5_regret_12 : decode cX5_regret 12 = .ok (.istore_n 1, 1) := dk_60 (dk_at dksX5_regret_0 12 rfl rfl)
theorem dX5_regret_13 : decode cX5_regret 13 = .ok (.iconst 1, 1) := dk_4 (dk_at dksX5_regret_0 13 rfl rfl)
theorem dX5_regret_14 : decode cX5_regret 14 = .ok (.istore_n 2, 1) := dk_61 (dk_at dksX5_regret_0 14 rfl rfl)
theorem dX5_regret_15 : decode cX5_regret 15 = .ok (.iload_n 2, 1) := dk_28 (dk_at dksX5_regret_0 15 rfl rfl)
theorem dX5_regret_16 : decode cX5_regret 16 = .ok (.iconst 5, 1) := dk_8 (dk_at dksX5_regret_0 16 rfl rfl)
theorem dX5_regret_17 : decode cX5_regret 17 = .ok (.if_icmp .ge 36, 3) := dk_162 0 36 (dk_at dksX5_regret_0 17 rfl rfl)
theorem dX5_regret_20 : decode cX5_regret 20 = .ok (.aload_n 0, 1) := dk_42 (dk_at dksX5_regret_0 20 rfl rfl)
theorem dX5_regret_21 : decode cX5_regret 21 = .ok (.getfield 7, 3) := dk_180 0 7 (dk_at dksX5_regret_0 21 rfl rfl)
theorem dX5_regret_24 : decode cX5_regret 24 = .ok (.bipush 18, 2) := dk_16 18 (dk_at dksX5_regret_1 0 rfl rfl)
theorem dX5_regret_26 : decode cX5_regret 26 = .ok (.iload_n 2, 1) := dk_28 (dk_at dksX5_regret_1 2 rfl rfl)
theorem dX5_regret_27 : decode cX5_regret 27 = .ok (.iadd, 1) := dk_96 (dk_at dksX5_regret_1 3 rfl rfl)
theorem dX5_regret_28 : decode cX5_regret 28 = .ok (.iaload, 1) := dk_46 (dk_at dksX5_regret_1 4 rfl rfl)
theorem dX5_regret_29 : decode cX5_regret 29 = .ok (.iload_n 1, 1) := dk_27 (dk_at dksX5_regret_1 5 rfl rfl)
theorem dX5_regret_30 : decode cX5_regret 30 = .ok (.if_icmp .ge 15, 3) := dk_162 0 15 (dk_at dksX5_regret_1 6 rfl rfl)
theorem dX5_regret_33 : decode cX5_regret 33 = .ok (.aload_n 0, 1) := dk_42 (dk_at dksX5_regret_1 9 rfl rfl)
theorem dX5_regret_34 : decode cX5_regret 34 = .ok (.getfield 7, 3) := dk_180 0 7 (dk_at dksX5_regret_1 10 rfl rfl)
theorem dX5_regret_37 : decode cX5_regret 37 = .ok (.bipush 18, 2) := dk_16 18 (dk_at dksX5_regret_1 13 rfl rfl)
theorem dX5_regret_39 : decode cX5_regret 39 = .ok (.iload_n 2, 1) := dk_28 (dk_at dksX5_regret_1 15 rfl rfl)
theorem dX5_regret_40 : decode cX5_regret 40 = .ok (.iadd, 1) := dk_96 (dk_at dksX5_regret_1 16 rfl rfl)
theorem dX5_regret_41 : decode cX5_regret 41 = .ok (.iaload, 1) := dk_46 (dk_at dksX5_regret_1 17 rfl rfl)
theorem dX5_regret_42 : decode cX5_regret 42 = .ok (.goto 4, 3) := dk_167 0 4 (dk_at dksX5_regret_1 18 rfl rfl)
theorem dX5_regret_45 : decode cX5_regret 45 = .ok (.iload_n 1, 1) := dk_27 (dk_at dksX5_regret_1 21 rfl rfl)
theorem dX5_regret_46 : decode cX5_regret 46 = .ok (.istore_n 1, 1) := dk_60 (dk_at dksX5_regret_1 22 rfl rfl)
theorem dX5_regret_47 : decode cX5_regret 47 = .ok (.iinc 2 1, 3) := dk_132 2 1 (dk_at dksX5_regret_2 0 rfl rfl)
theorem dX5_regret_50 : decode cX5_regret 50 = .ok (.goto (-35), 3) := dk_167 255 221 (dk_at dksX5_regret_2 3 rfl rfl)
theorem dX5_regret_53 : decode cX5_regret 53 = .ok (.aload_n 0, 1) := dk_42 (dk_at dksX5_regret_2 6 rfl rfl)
theorem dX5_regret_54 : decode cX5_regret 54 = .ok (.getfield 7, 3) := dk_180 0 7 (dk_at dksX5_regret_2 7 rfl rfl)
theorem dX5_regret_57 : decode cX5_regret 57 = .ok (.bipush 10, 2) := dk_16 10 (dk_at dksX5_regret_2 10 rfl rfl)
theorem dX5_regret_59 : decode cX5_regret 59 = .ok (.iaload, 1) := dk_46 (dk_at dksX5_regret_2 12 rfl rfl)
theorem dX5_regret_60 : decode cX5_regret 60 = .ok (.iload_n 1, 1) := dk_27 (dk_at dksX5_regret_2 13 rfl rfl)
theorem dX5_regret_61 : decode cX5_regret 61 = .ok (.isub, 1) := dk_100 (dk_at dksX5_regret_2 14 rfl rfl)
theorem dX5_regret_62 : decode cX5_regret 62 = .ok (.ireturn, 1) := dk_172 (dk_at dksX5_regret_2 15 rfl rfl)
abbrev cX5_meanLife : ByteArray := prog_14_method_64_code
def yX5_meanLife : MethodName := ⟨RX5, "meanLife", "()F"⟩
def dkwX5_meanLife_3 : List UInt8 := [18, 216, 167, 0, 8, 27, 134, 28, 134, 110, 174]
abbrev dktX5_meanLife_3 : List UInt8 := dkwX5_meanLife_3 ++ []
def dkwX5_meanLife_2 : List UInt8 := [182, 0, 75, 153, 0, 7, 3, 167, 0, 4, 4, 96, 61, 132, 3, 1, 167, 255, 204, 28, 154, 0, 8]
abbrev dktX5_meanLife_2 : List UInt8 := dkwX5_meanLife_2 ++ dktX5_meanLife_3
def dkwX5_meanLife_1 : List UInt8 := [29, 182, 0, 75, 153, 0, 7, 3, 167, 0, 10, 42, 29, 16, 9, 182, 0, 71, 96, 60, 28, 42, 29]
abbrev dktX5_meanLife_1 : List UInt8 := dkwX5_meanLife_1 ++ dktX5_meanLife_2
def dkwX5_meanLife_0 : List UInt8 := [42, 3, 181, 0, 58, 3, 60, 3, 61, 3, 62, 29, 42, 180, 0, 7, 16, 7, 46, 162, 0, 47, 27, 42]
abbrev dktX5_meanLife_0 : List UInt8 := dkwX5_meanLife_0 ++ dktX5_meanLife_1
theorem dksX5_meanLife_0 : cX5_meanLife.data.toList.drop 0 = dktX5_meanLife_0 := by decide +kernel
theorem dksX5_meanLife_1 : cX5_meanLife.data.toList.drop 24 = dktX5_meanLife_1 := dk_seg dksX5_meanLife_0 24 rfl rfl
theorem dksX5_meanLife_2 : cX5_meanLife.data.toList.drop 47 = dktX5_meanLife_2 := dk_seg dksX5_meanLife_1 23 rfl rfl
theorem dksX5_meanLife_3 : cX5_meanLife.data.toList.drop 70 = dktX5_meanLife_3 := dk_seg dksX5_meanLife_2 23 rfl rfl
theorem dX5_meanLife_0 : decode cX5_meanLife 0 = .ok (.aload_n 0, 1) := dk_42 (dk_at dksX5_meanLife_0 0 rfl rfl)
theorem dX5_meanLife_1 : decode cX5_meanLife 1 = .ok (.iconst 0, 1) := dk_3 (dk_at dksX5_meanLife_0 1 rfl rfl)
theorem dX5_meanLife_2 : decode cX5_meanLife 2 = .ok (.putfield 58, 3) := dk_181 0 58 (dk_at dksX5_meanLife_0 2 rfl rfl)
theorem dX5_meanLife_5 : decode cX5_meanLife 5 = .ok (.iconst 0, 1) := dk_3 (dk_at dksX5_meanLife_0 5 rfl rfl)
theorem dX5_meanLife_6 : decode cX5_meanLife 6 = .ok (.istore_n 1, 1) := dk_60 (dk_at dksX5_meanLife_0 6 rfl rfl)
theorem dX5_meanLife_7 : decode cX5_meanLife 7 = .ok (.iconst 0, 1) := dk_3 (dk_at dksX5_meanLife_0 7 rfl rfl)
theorem dX5_meanLife_8 : decode cX5_meanLife 8 = .ok (.istore_n 2, 1) := dk_61 (dk_at dksX5_meanLife_0 8 rfl rfl)
theorem dX5_meanLife_9 : decode cX5_meanLife 9 = .ok (.iconst 0, 1) := dk_3 (dk_at dksX5_meanLife_0 9 rfl rfl)
theorem dX5_meanLife_10 : decode cX5_meanLife 10 = .ok (.istore_n 3, 1) := dk_62 (dk_at dksX5_meanLife_0 10 rfl rfl)
theorem dX5_meanLife_11 : decode cX5_meanLife 11 = .ok (.iload_n 3, 1) := dk_29 (dk_at dksX5_meanLife_0 11 rfl rfl)
theorem dX5_meanLife_12 : decode cX5_meanLife 12 = .ok (.aload_n 0, 1) := dk_42 (dk_at dksX5_meanLife_0 12 rfl rfl)
theorem dX5_meanLife_13 : decode cX5_meanLife 13 = .ok (.getfield 7, 3) := dk_180 0 7 (dk_at dksX5_meanLife_0 13 rfl rfl)
theorem dX5_meanLife_16 : decode cX5_meanLife 16 = .ok (.bipush 7, 2) := dk_16 7 (dk_at dksX5_meanLife_0 16 rfl rfl)
theorem dX5_meanLife_18 : decode cX5_meanLife 18 = .ok (.iaload, 1) := dk_46 (dk_at dksX5_meanLife_0 18 rfl rfl)
theorem dX5_meanLife_19 : decode cX5_meanLife 19 = .ok (.if_icmp .ge 47, 3) := dk_162 0 47 (dk_at dksX5_meanLife_0 19 rfl rfl)
theorem dX5_meanLife_22 : decode cX5_meanLife 22 = .ok (.iload_n 1, 1) := dk_27 (dk_at dksX5_meanLife_0 22 rfl rfl)
theorem dX5_meanLife_23 : decode cX5_meanLife 23 = .ok (.aload_n 0, 1) := dk_42 (dk_at dksX5_meanLife_0 23 rfl rfl)
theorem dX5_meanLife_24 : decode cX5_meanLife 24 = .ok (.iload_n 3, 1) := dk_29 (dk_at dksX5_meanLife_1 0 rfl rfl)
theorem dX5_meanLife_25 : decode cX5_meanLife 25 = .ok (.invokevirtual 75, 3) := dk_182 0 75 (dk_at dksX5_meanLife_1 1 rfl rfl)
theorem dX5_meanLife_28 : decode cX5_meanLife 28 = .ok (.ifCond .eq 7, 3) := dk_153 0 7 (dk_at dksX5_meanLife_1 4 rfl rfl)
theorem dX5_meanLife_31 : decode cX5_meanLife 31 = .ok (.iconst 0, 1) := dk_3 (dk_at dksX5_meanLife_1 7 rfl rfl)
theorem dX5_meanLife_32 : decode cX5_meanLife 32 = .ok (.goto 10, 3) := dk_167 0 10 (dk_at dksX5_meanLife_1 8 rfl rfl)
theorem dX5_meanLife_35 : decode cX5_meanLife 35 = .ok (.aload_n 0, 1) := dk_42 (dk_at dksX5_meanLife_1 11 rfl rfl)
theorem dX5_meanLife_36 : decode cX5_meanLife 36 = .ok (.iload_n 3, 1) := dk_29 (dk_at dksX5_meanLife_1 12 rfl rfl)
theorem dX5_meanLife_37 : decode cX5_meanLife 37 = .ok (.bipush 9, 2) := dk_16 9 (dk_at dksX5_meanLife_1 13 rfl rfl)
theorem dX5_meanLife_39 : decode cX5_meanLife 39 = .ok (.invokevirtual 71, 3) := dk_182 0 71 (dk_at dksX5_meanLife_1 15 rfl rfl)
theorem dX5_meanLife_42 : decode cX5_meanLife 42 = .ok (.iadd, 1) := dk_96 (dk_at dksX5_meanLife_1 18 rfl rfl)
theorem dX5_meanLife_43 : decode cX5_meanLife 43 = .ok (.istore_n 1, 1) := dk_60 (dk_at dksX5_meanLife_1 19 rfl rfl)
theorem dX5_meanLife_44 : decode cX5_meanLife 44 = .ok (.iload_n 2, 1) := dk_28 (dk_at dksX5_meanLife_1 20 rfl rfl)
theorem dX5_meanLife_45 : decode cX5_meanLife 45 = .ok (.aload_n 0, 1) := dk_42 (dk_at dksX5_meanLife_1 21 rfl rfl)
theorem dX5_meanLife_46 : decode cX5_meanLife 46 = .ok (.iload_n 3, 1) := dk_29 (dk_at dksX5_meanLife_1 22 rfl rfl)
theorem dX5_meanLife_47 : decode cX5_meanLife 47 = .ok (.invokevirtual 75, 3) := dk_182 0 75 (dk_at dksX5_meanLife_2 0 rfl rfl)
theorem dX5_meanLife_50 : decode cX5_meanLife 50 = .ok (.ifCond .eq 7, 3) := dk_153 0 7 (dk_at dksX5_meanLife_2 3 rfl rfl)
theorem dX5_meanLife_53 : decode cX5_meanLife 53 = .ok (.iconst 0, 1) := dk_3 (dk_at dksX5_meanLife_2 6 rfl rfl)
theorem dX5_meanLife_54 : decode cX5_meanLife 54 = .ok (.goto 4, 3) := dk_167 0 4 (dk_at dksX5_meanLife_2 7 rfl rfl)
theorem dX5_meanLife_57 : decode cX5_meanLife 57 = .ok (.iconst 1, 1) := dk_4 (dk_at dksX5_meanLife_2 10 rfl rfl)
theorem dX5_meanLife_58 : decode cX5_meanLife 58 = .ok (.iadd, 1) := dk_96 (dk_at dksX5_meanLife_2 11 rfl rfl)
theorem dX5_meanLife_59 : decode cX5_meanLife 59 = .ok (.istore_n 2, 1) := dk_61 (dk_at dksX5_meanLife_2 12 rfl rfl)
theorem dX5_meanLife_60 : decode cX5_meanLife 60 = .ok (.iinc 3 1, 3) := dk_132 3 1 (dk_at dksX5_meanLife_2 13 rfl rfl)
theorem dX5_meanLife_63 : decode cX5_meanLife 63 = .ok (.goto (-52), 3) := dk_167 255 204 (dk_at dksX5_meanLife_2 16 rfl rfl)
theorem dX5_meanLife_66 : decode cX5_meanLife 66 = .ok (.iload_n 2, 1) := dk_28 (dk_at dksX5_meanLife_2 19 rfl rfl)
theorem dX5_meanLife_67 : decode cX5_meanLife 67 = .ok (.ifCond .ne 8, 3) := dk_154 0 8 (dk_at dksX5_meanLife_2 20 rfl rfl)
theorem dX5_meanLife_70 : decode cX5_meanLife 70 = .ok (.ldc 216, 2) := dk_18 216 (dk_at dksX5_meanLife_3 0 rfl rfl)
theorem dX5_meanLife_72 : decode cX5_meanLife 72 = .ok (.goto 8, 3) := dk_167 0 8 (dk_at dksX5_meanLife_3 2 rfl rfl)
theorem dX5_meanLife_75 : decode cX5_meanLife 75 = .ok (.iload_n 1, 1) := dk_27 (dk_at dksX5_meanLife_3 5 rfl rfl)
theorem dX5_meanLife_76 : decode cX5_meanLife 76 = .ok (.i2f, 1) := dk_134 (dk_at dksX5_meanLife_3 6 rfl rfl)
theorem dX5_meanLife_77 : decode cX5_meanLife 77 = .ok (.iload_n 2, 1) := dk_28 (dk_at dksX5_meanLife_3 7 rfl rfl)
theorem dX5_meanLife_78 : decode cX5_meanLife 78 = .ok (.i2f, 1) := dk_134 (dk_at dksX5_meanLife_3 8 rfl rfl)
theorem dX5_meanLife_79 : decode cX5_meanLife 79 = .ok (.fdiv, 1) := dk_110 (dk_at dksX5_meanLife_3 9 rfl rfl)
theorem dX5_meanLife_80 : decode cX5_meanLife 80 = .ok (.freturn, 1) := dk_174 (dk_at dksX5_meanLife_3 10 rfl rfl)
abbrev cX5_account : ByteArray := prog_14_method_65_code
def yX5_account : MethodName := ⟨RX5, "account", "(I)I"⟩
def dkwX5_account_1 : List UInt8 := [158, 0, 7, 3, 167, 0, 9, 42, 180, 0, 29, 27, 46, 172]
abbrev dktX5_account_1 : List UInt8 := dkwX5_account_1 ++ []
def dkwX5_account_0 : List UInt8 := [42, 27, 3, 16, 7, 184, 0, 179, 153, 0, 7, 3, 167, 0, 4, 4, 181, 0, 58, 42, 180, 0, 58]
abbrev dktX5_account_0 : List UInt8 := dkwX5_account_0 ++ dktX5_account_1
theorem dksX5_account_0 : cX5_account.data.toList.drop 0 = dktX5_account_0 := by decide +kernel
theorem dksX5_account_1 : cX5_account.data.toList.drop 23 = dktX5_account_1 := dk_seg dksX5_account_0 23 rfl rfl
theorem dX5_account_0 : decode cX5_account 0 = .ok (.aload_n 0, 1) := dk_42 (dk_at dksX5_account_0 0 rfl rfl)
theorem dX5_account_1 : decode cX5_account 1 = .ok (.iload_n 1, 1) := dk_27 (dk_at dksX5_account_0 1 rfl rfl)
theorem dX5_account_2 : decode cX5_account 2 = .ok (.iconst 0, 1) := dk_3 (dk_at dksX5_account_0 2 rfl rfl)
theorem dX5_account_3 : decode cX5_account 3 = .ok (.bipush 7, 2) := dk_16 7 (dk_at dksX5_account_0 3 rfl rfl)
theorem dX5_account_5 : decode cX5_account 5 = .ok (.invokestatic 179, 3) := dk_184 0 179 (dk_at dksX5_account_0 5 rfl rfl)
theorem dX5_account_8 : decode cX5_account 8 = .ok (.ifCond .eq 7, 3) := dk_153 0 7 (dk_at dksX5_account_0 8 rfl rfl)
theorem dX5_account_11 : decode cX5_account 11 = .ok (.iconst 0, 1) := dk_3 (dk_at dksX5_account_0 11 rfl rfl)
theorem dX5_account_12 : decode cX5_account 12 = .ok (.goto 4, 3) := dk_167 0 4 (dk_at dksX5_account_0 12 rfl rfl)
theorem dX5_account_15 : decode cX5_account 15 = .ok (.iconst 1, 1) := dk_4 (dk_at dksX5_account_0 15 rfl rfl)
theorem dX5_account_16 : decode cX5_account 16 = .ok (.putfield 58, 3) := dk_181 0 58 (dk_at dksX5_account_0 16 rfl rfl)
theorem dX5_account_19 : decode cX5_account 19 = .ok (.aload_n 0, 1) := dk_42 (dk_at dksX5_account_0 19 rfl rfl)
theorem dX5_account_20 : decode cX5_account 20 = .ok (.getfield 58, 3) := dk_180 0 58 (dk_at dksX5_account_0 20 rfl rfl)
theorem dX5_account_23 : decode cX5_account 23 = .ok (.ifCond .le 7, 3) := dk_158 0 7 (dk_at dksX5_account_1 0 rfl rfl)
theorem dX5_account_26 : decode cX5_account 26 = .ok (.iconst 0, 1) := dk_3 (dk_at dksX5_account_1 3 rfl rfl)
theorem dX5_account_27 : decode cX5_account 27 = .ok (.goto 9, 3) := dk_167 0 9 (dk_at dksX5_account_1 4 rfl rfl)
theorem dX5_account_30 : decode cX5_account 30 = .ok (.aload_n 0, 1) := dk_42 (dk_at dksX5_account_1 7 rfl rfl)
theorem dX5_account_31 : decode cX5_account 31 = .ok (.getfield 29, 3) := dk_180 0 29 (dk_at dksX5_account_1 8 rfl rfl)
theorem dX5_account_34 : decode cX5_account 34 = .ok (.iload_n 1, 1) := dk_27 (dk_at dksX5_account_1 11 rfl rfl)
theorem dX5_account_35 : decode cX5_account 35 = .ok (.iaload, 1) := dk_46 (dk_at dksX5_account_1 12 rfl rfl)
theorem dX5_account_36 : decode cX5_account 36 = .ok (.ireturn, 1) := dk_172 (dk_at dksX5_account_1 13 rfl rfl)
abbrev cX5_writer : ByteArray := prog_14_method_68_code
def yX5_writer : MethodName := ⟨RX5, "writer", "(II)I"⟩
def dkwX5_writer_5 : List UInt8 := [62, 167, 0, 13, 29, 42, 21, 4, 28, 182, 0, 220, 96, 62, 132, 4, 1, 167, 255, 175, 29, 172]
abbrev dktX5_writer_5 : List UInt8 := dkwX5_writer_5 ++ []
def dkwX5_writer_4 : List UInt8 := [42, 21, 4, 16, 9, 182, 0, 71, 29, 164, 0, 14, 42, 21, 4, 16, 9, 182, 0, 71, 167, 0, 4, 29]
abbrev dktX5_writer_4 : List UInt8 := dkwX5_writer_4 ++ dktX5_writer_5
def dkwX5_writer_3 : List UInt8 := [182, 0, 71, 27, 159, 0, 6, 167, 0, 55, 28, 6, 160, 0, 40, 42, 21, 4, 182, 0, 75, 154, 0, 26]
abbrev dktX5_writer_3 : List UInt8 := dkwX5_writer_3 ++ dktX5_writer_4
def dkwX5_writer_2 : List UInt8 := [167, 0, 4, 3, 62, 3, 54, 4, 21, 4, 42, 180, 0, 7, 16, 7, 46, 162, 0, 75, 42, 21, 4, 3]
abbrev dktX5_writer_2 : List UInt8 := dkwX5_writer_2 ++ dktX5_writer_3
def dkwX5_writer_1 : List UInt8 := [3, 167, 0, 4, 5, 181, 0, 58, 42, 180, 0, 58, 158, 0, 5, 3, 172, 28, 6, 160, 0, 7, 2]
abbrev dktX5_writer_1 : List UInt8 := dkwX5_writer_1 ++ dktX5_writer_2
def dkwX5_writer_0 : List UInt8 := [42, 27, 3, 16, 7, 184, 0, 179, 154, 0, 7, 4, 167, 0, 17, 28, 3, 8, 184, 0, 179, 153, 0, 7]
abbrev dktX5_writer_0 : List UInt8 := dkwX5_writer_0 ++ dktX5_writer_1
theorem dksX5_writer_0 : cX5_writer.data.toList.drop 0 = dktX5_writer_0 := by decide +kernel
theorem dksX5_writer_1 : cX5_writer.data.toList.drop 24 = dktX5_writer_1 := dk_seg dksX5_writer_0 24 rfl rfl
theorem dksX5_writer_2 : cX5_writer.data.toList.drop 47 = dktX5_writer_2 := dk_seg dksX5_writer_1 23 rfl rfl
theorem dksX5_writer_3 : cX5_writer.data.toList.drop 71 = dktX5_writer_3 := dk_seg dksX5_writer_2 24 rfl rfl
theorem dksX5_writer_4 : cX5_writer.data.toList.drop 95 = dktX5_writer_4 := dk_seg dksX5_writer_3 24 rfl rfl
theorem dksX5_writer_5 : cX5_writer.data.toList.drop 119 = dktX5_writer_5 := dk_seg dksX5_writer_4 24 rfl rfl
theorem dX5_writer_0 : decode cX5_writer 0 = .ok (.aload_n 0, 1) := dk_42 (dk_at dksX5_writer_0 0 rfl rfl)
theorem dX5_writer_1 : decode cX5_writer 1 = .ok (.iload_n 1, 1) := dk_27 (dk_at dksX5_writer_0 1 rfl rfl)
theorem dX5_writer_2 : decode cX5_writer 2 = .ok (.iconst 0, 1) := dk_3 (dk_at dksX5_writer_0 2 rfl rfl)
theorem dX5_writer_3 : decode cX5_writer 3 = .ok (.bipush 7, 2) := dk_16 7 (dk_at dksX5_writer_0 3 rfl rfl)
theorem dX5_writer_5 : decode cX5_writer 5 = .ok (.invokestatic 179, 3) := dk_184 0 179 (dk_at dksX5_writer_0 5 rfl rfl)
theorem dX5_writer_8 : decode cX5_writer 8 = .ok (.ifCond .ne 7, 3) := dk_154 0 7 (dk_at dksX5_writer_0 8 rfl rfl)
theorem dX5_writer_11 : decode cX5_writer 11 = .ok (.iconst 1, 1) := dk_4 (dk_at dksX5_writer_0 11 rfl rfl)
theorem dX5_writer_12 : decode cX5_writer 12 = .ok (.goto 17, 3) := dk_167 0 17 (dk_at dksX5_writer_0 12 rfl rfl)
theorem dX5_writer_15 : decode cX5_writer 15 = .ok (.iload_n 2, 1) := dk_28 (dk_at dksX5_writer_0 15 rfl rfl)
theorem dX5_writer_16 : decode cX5_writer 16 = .ok (.iconst 0, 1) := dk_3 (dk_at dksX5_writer_0 16 rfl rfl)
theorem dX5_writer_17 : decode cX5_writer 17 = .ok (.iconst 5, 1) := dk_8 (dk_at dksX5_writer_0 17 rfl rfl)
theorem dX5_writer_18 : decode cX5_writer 18 = .ok (.invokestatic 179, 3) := dk_184 0 179 (dk_at dksX5_writer_0 18 rfl rfl)
theorem dX5_writer_21 : decode cX5_writer 21 = .ok (.ifCond .eq 7, 3) := dk_153 0 7 (dk_at dksX5_writer_0 21 rfl rfl)
theorem dX5_writer_24 : decode cX5_writer 24 = .ok (.iconst 0, 1) := dk_3 (dk_at dksX5_writer_1 0 rfl rfl)
theorem dX5_writer_25 : decode cX5_writer 25 = .ok (.goto 4, 3) := dk_167 0 4 (dk_at dksX5_writer_1 1 rfl rfl)
theorem dX5_writer_28 : decode cX5_writer 28 = .ok (.iconst 2, 1) := dk_5 (dk_at dksX5_writer_1 4 rfl rfl)
theorem dX5_writer_29 : decode cX5_writer 29 = .ok (.putfield 58, 3) := dk_181 0 58 (dk_at dksX5_writer_1 5 rfl rfl)
theorem dX5_writer_32 : decode cX5_writer 32 = .ok (.aload_n 0, 1) := dk_42 (dk_at dksX5_writer_1 8 rfl rfl)
theorem dX5_writer_33 : decode cX5_writer 33 = .ok (.getfield 58, 3) := dk_180 0 58 (dk_at dksX5_writer_1 9 rfl rfl)
theorem dX5_writer_36 : decode cX5_writer 36 = .ok (.ifCond .le 5, 3) := dk_158 0 5 (dk_at dksX5_writer_1 12 rfl rfl)
theorem dX5_writer_39 : decode cX5_writer 39 = .ok (.iconst 0, 1) := dk_3 (dk_at dksX5_writer_1 15 rfl rfl)
theorem dX5_writer_40 : decode cX5_writer 40 = .ok (.ireturn, 1) := dk_172 (dk_at dksX5_writer_1 16 rfl rfl)
theorem dX5_writer_41 : decode cX5_writer 41 = .ok (.iload_n 2, 1) := dk_28 (dk_at dksX5_writer_1 17 rfl rfl)
theorem dX5_writer_42 : decode cX5_writer 42 = .ok (.iconst 3, 1) := dk_6 (dk_at dksX5_writer_1 18 rfl rfl)
theorem dX5_writer_43 : decode cX5_writer 43 = .ok (.if_icmp .ne 7, 3) := dk_160 0 7 (dk_at dksX5_writer_1 19 rfl rfl)
theorem dX5_writer_46 : decode cX5_writer 46 = .ok (.iconst (-1), 1) := dk_2 (dk_at dksX5_writer_1 22 rfl rfl)
theorem dX5_writer_47 : decode cX5_writer 47 = .ok (.goto 4, 3) := dk_167 0 4 (dk_at dksX5_writer_2 0 rfl rfl)
theorem dX5_writer_50 : decode cX5_writer 50 = .ok (.iconst 0, 1) := dk_3 (dk_at dksX5_writer_2 3 rfl rfl)
theorem dX5_writer_51 : decode cX5_writer 51 = .ok (.istore_n 3, 1) := dk_62 (dk_at dksX5_writer_2 4 rfl rfl)
theorem dX5_writer_52 : decode cX5_writer 52 = .ok (.iconst 0, 1) := dk_3 (dk_at dksX5_writer_2 5 rfl rfl)
theorem dX5_writer_53 : decode cX5_writer 53 = .ok (.istore 4, 2) := dk_54 4 (dk_at dksX5_writer_2 6 rfl rfl)
theorem dX5_writer_55 : decode cX5_writer 55 = .ok (.iload 4, 2) := dk_21 4 (dk_at dksX5_writer_2 8 rfl rfl)
theorem dX5_writer_57 : decode cX5_writer 57 = .ok (.aload_n 0, 1) := dk_42 (dk_at dksX5_writer_2 10 rfl rfl)
theorem dX5_writer_58 : decode cX5_writer 58 = .ok (.getfield 7, 3) := dk_180 0 7 (dk_at dksX5_writer_2 11 rfl rfl)
theorem dX5_writer_61 : decode cX5_writer 61 = .ok (.bipush 7, 2) := dk_16 7 (dk_at dksX5_writer_2 14 rfl rfl)
theorem dX5_writer_63 : decode cX5_writer 63 = .ok (.iaload, 1) := dk_46 (dk_at dksX5_writer_2 16 rfl rfl)
theorem dX5_writer_64 : decode cX5_writer 64 = .ok (.if_icmp .ge 75, 3) := dk_162 0 75 (dk_at dksX5_writer_2 17 rfl rfl)
theorem dX5_writer_67 : decode cX5_writer 67 = .ok (.aload_n 0, 1) := dk_42 (dk_at dksX5_writer_2 20 rfl rfl)
theorem dX5_writer_68 : decode cX5_writer 68 = .ok (.iload 4, 2) := dk_21 4 (dk_at dksX5_writer_2 21 rfl rfl)
theorem dX5_writer_70 : decode cX5_writer 70 = .ok (.iconst 0, 1) := dk_3 (dk_at dksX5_writer_2 23 rfl rfl)
theorem dX5_writer_71 : decode cX5_writer 71 = .ok (.invokevirtual 71, 3) := dk_182 0 71 (dk_at dksX5_writer_3 0 rfl rfl)
theorem dX5_writer_74 : decode cX5_writer 74 = .ok (.iload_n 1, 1) := dk_27 (dk_at dksX5_writer_3 3 rfl rfl)
theorem dX5_writer_75 : decode cX5_writer 75 = .ok (.if_icmp .eq 6, 3) := dk_159 0 6 (dk_at dksX5_writer_3 4 rfl rfl)
theorem dX5_writer_78 : decode cX5_writer 78 = .ok (.goto 55, 3) := dk_167 0 55 (dk_at dksX5_writer_3 7 rfl rfl)
theorem dX5_writer_81 : decode cX5_writer 81 = .ok (.iload_n 2, 1) := dk_28 (dk_at dksX5_writer_3 10 rfl rfl)
theorem dX5_writer_82 : decode cX5_writer 82 = .ok (.iconst 3, 1) := dk_6 (dk_at dksX5_writer_3 11 rfl rfl)
theorem dX5_writer_83 : decode cX5_writer 83 = .ok (.if_icmp .ne 40, 3) := dk_160 0 40 (dk_at dksX5_writer_3 12 rfl rfl)
theorem dX5_writer_86 : decode cX5_writer 86 = .ok (.aload_n 0, 1) := dk_42 (dk_at dksX5_writer_3 15 rfl rfl)
theorem dX5_writer_87 : decode cX5_writer 87 = .ok (.iload 4, 2) := dk_21 4 (dk_at dksX5_writer_3 16 rfl rfl)
theorem dX5_writer_89 : decode cX5_writer 89 = .ok (.invokevirtual 75, 3) := dk_182 0 75 (dk_at dksX5_writer_3 18 rfl rfl)
theorem dX5_writer_92 : decode cX5_writer 92 = .ok (.ifCond .ne 26, 3) := dk_154 0 26 (dk_at dksX5_writer_3 21 rfl rfl)
theorem dX5_writer_95 : decode cX5_writer 95 = .ok (.aload_n 0, 1) := dk_42 (dk_at dksX5_writer_4 0 rfl rfl)
theorem dX5_writer_96 : decode cX5_writer 96 = .ok (.iload 4, 2) := dk_21 4 (dk_at dksX5_writer_4 1 rfl rfl)
theorem dX5_writer_98 : decode cX5_writer 98 = .ok (.bipush 9, 2) := dk_16 9 (dk_at dksX5_writer_4 3 rfl rfl)
theorem dX5_writer_100 : decode cX5_writer 100 = .ok (.invokevirtual 71, 3) := dk_182 0 71 (dk_at dksX5_writer_4 5 rfl rfl)
theorem dX5_writer_103 : decode cX5_writer 103 = .ok (.iload_n 3, 1) := dk_29 (dk_at dksX5_writer_4 8 rfl rfl)
theorem dX5_writer_104 : decode cX5_writer 104 = .ok (.if_icmp .le 14, 3) := dk_164 0 14 (dk_at dksX5_writer_4 9 rfl rfl)
theorem dX5_writer_107 : decode cX5_writer 107 = .ok (.aload_n 0, 1) := dk_42 (dk_at dksX5_writer_4 12 rfl rfl)
theorem dX5_writer_108 : decode cX5_writer 108 = .ok (.iload 4, 2) := dk_21 4 (dk_at dksX5_writer_4 13 rfl rfl)
theorem dX5_writer_110 : decode cX5_writer 110 = .ok (.bipush 9, 2) := dk_16 9 (dk_at dksX5_writer_4 15 rfl rfl)
theorem dX5_writer_112 : decode cX5_writer 112 = .ok (.invokevirtual 71, 3) := dk_182 0 71 (dk_at dksX5_writer_4 17 rfl rfl)
theorem dX5_writer_115 : decode cX5_writer 115 = .ok (.goto 4, 3) := dk_167 0 4 (dk_at dksX5_writer_4 20 rfl rfl)
theorem dX5_writer_118 : decode cX5_writer 118 = .ok (.iload_n 3, 1) := dk_29 (dk_at dksX5_writer_4 23 rfl rfl)
theorem dX5_writer_119 : decode cX5_writer 119 = .ok (.istore_n 3, 1) := dk_62 (dk_at dksX5_writer_5 0 rfl rfl)
theorem dX5_writer_120 : decode cX5_writer 120 = .ok (.goto 13, 3) := dk_167 0 13 (dk_at dksX5_writer_5 1 rfl rfl)
theorem dX5_writer_123 : decode cX5_writer 123 = .ok (.iload_n 3, 1) := dk_29 (dk_at dksX5_writer_5 4 rfl rfl)
theorem dX5_writer_124 : decode cX5_writer 124 = .ok (.aload_n 0, 1) := dk_42 (dk_at dksX5_writer_5 5 rfl rfl)
theorem dX5_writer_125 : decode cX5_writer 125 = .ok (.iload 4, 2) := dk_21 4 (dk_at dksX5_writer_5 6 rfl rfl)
theorem dX5_writer_127 : decode cX5_writer 127 = .ok (.iload_n 2, 1) := dk_28 (dk_at dksX5_writer_5 8 rfl rfl)
theorem dX5_writer_128 : decode cX5_writer 128 = .ok (.invokevirtual 220, 3) := dk_182 0 220 (dk_at dksX5_writer_5 9 rfl rfl)
theorem dX5_writer_131 : decode cX5_writer 131 = .ok (.iadd, 1) := dk_96 (dk_at dksX5_writer_5 12 rfl rfl)
theorem dX5_writer_132 : decode cX5_writer 132 = .ok (.istore_n 3, 1) := dk_62 (dk_at dksX5_writer_5 13 rfl rfl)
theorem dX5_writer_133 : decode cX5_writer 133 = .ok (.iinc 4 1, 3) := dk_132 4 1 (dk_at dksX5_writer_5 14 rfl rfl)
theorem dX5_writer_136 : decode cX5_writer 136 = .ok (.goto (-81), 3) := dk_167 255 175 (dk_at dksX5_writer_5 17 rfl rfl)
theorem dX5_writer_139 : decode cX5_writer 139 = .ok (.iload_n 3, 1) := dk_29 (dk_at dksX5_writer_5 20 rfl rfl)
theorem dX5_writer_140 : decode cX5_writer 140 = .ok (.ireturn, 1) := dk_172 (dk_at dksX5_writer_5 21 rfl rfl)
abbrev cX5_toldOf : ByteArray := prog_14_method_67_code
def yX5_toldOf : MethodName := ⟨RX5, "toldOf", "(II)I"⟩
def dkwX5_toldOf_4 : List UInt8 := [42, 27, 182, 0, 217, 172, 42, 27, 16, 8, 182, 0, 71, 172]
abbrev dktX5_toldOf_4 : List UInt8 := dkwX5_toldOf_4 ++ []
def dkwX5_toldOf_3 : List UInt8 := [3, 167, 0, 10, 42, 27, 16, 9, 182, 0, 71, 172, 42, 27, 182, 0, 75, 153, 0, 7, 3, 167, 0, 8]
abbrev dktX5_toldOf_3 : List UInt8 := dkwX5_toldOf_3 ++ dktX5_toldOf_4
def dkwX5_toldOf_2 : List UInt8 := [4, 172, 42, 27, 182, 0, 75, 153, 0, 7, 4, 167, 0, 4, 3, 172, 42, 27, 182, 0, 75, 153, 0, 7]
abbrev dktX5_toldOf_2 : List UInt8 := dkwX5_toldOf_2 ++ dktX5_toldOf_3
def dkwX5_toldOf_1 : List UInt8 := [170, 0, 0, 0, 0, 0, 89, 0, 0, 0, 0, 0, 0, 0, 4, 0, 0, 0, 35, 0, 0, 0, 37, 0, 0, 0, 51, 0, 0, 0, 89, 0, 0, 0, 71]
abbrev dktX5_toldOf_1 : List UInt8 := dkwX5_toldOf_1 ++ dktX5_toldOf_2
def dkwX5_toldOf_0 : List UInt8 := [28]
abbrev dktX5_toldOf_0 : List UInt8 := dkwX5_toldOf_0 ++ dktX5_toldOf_1
theorem dksX5_toldOf_0 : cX5_toldOf.data.toList.drop 0 = dktX5_toldOf_0 := by decide +kernel
theorem dksX5_toldOf_1 : cX5_toldOf.data.toList.drop 1 = dktX5_toldOf_1 := dk_seg dksX5_toldOf_0 1 rfl rfl
theorem dksX5_toldOf_2 : cX5_toldOf.data.toList.drop 36 = dktX5_toldOf_2 := dk_seg dksX5_toldOf_1 35 rfl rfl
theorem dksX5_toldOf_3 : cX5_toldOf.data.toList.drop 60 = dktX5_toldOf_3 := dk_seg dksX5_toldOf_2 24 rfl rfl
theorem dksX5_toldOf_4 : cX5_toldOf.data.toList.drop 84 = dktX5_toldOf_4 := dk_seg dksX5_toldOf_3 24 rfl rfl
theorem dX5_toldOf_0 : decode cX5_toldOf 0 = .ok (.iload_n 2, 1) := dk_28 (dk_at dksX5_toldOf_0 0 rfl rfl)
theorem dX5_toldOf_1 : decode cX5_toldOf 1 = .ok (.tableswitch 89 0 4 #[35, 37, 51, 89, 71], 35) := by decide +kernel
theorem dX5_toldOf_36 : decode cX5_toldOf 36 = .ok (.iconst 1, 1) := dk_4 (dk_at dksX5_toldOf_2 0 rfl rfl)
theorem dX5_toldOf_37 : decode cX5_toldOf 37 = .ok (.ireturn, 1) := dk_172 (dk_at dksX5_toldOf_2 1 rfl rfl)
theorem dX5_toldOf_38 : decode cX5_toldOf 38 = .ok (.aload_n 0, 1) := dk_42 (dk_at dksX5_toldOf_2 2 rfl rfl)
theorem dX5_toldOf_39 : decode cX5_toldOf 39 = .ok (.iload_n 1, 1) := dk_27 (dk_at dksX5_toldOf_2 3 rfl rfl)
theorem dX5_toldOf_40 : decode cX5_toldOf 40 = .ok (.invokevirtual 75, 3) := dk_182 0 75 (dk_at dksX5_toldOf_2 4 rfl rfl)
theorem dX5_toldOf_43 : decode cX5_toldOf 43 = .ok (.ifCond .eq 7, 3) := dk_153 0 7 (dk_at dksX5_toldOf_2 7 rfl rfl)
theorem dX5_toldOf_46 : decode cX5_toldOf 46 = .ok (.iconst 1, 1) := dk_4 (dk_at dksX5_toldOf_2 10 rfl rfl)
theorem dX5_toldOf_47 : decode cX5_toldOf 47 = .ok (.goto 4, 3) := dk_167 0 4 (dk_at dksX5_toldOf_2 11 rfl rfl)
theorem dX5_toldOf_50 : decode cX5_toldOf 50 = .ok (.iconst 0, 1) := dk_3 (dk_at dksX5_toldOf_2 14 rfl rfl)
theorem dX5_toldOf_51 : decode cX5_toldOf 51 = .ok (.ireturn, 1) := dk_172 (dk_at dksX5_toldOf_2 15 rfl rfl)
theorem dX5_toldOf_52 : decode cX5_toldOf 52 = .ok (.aload_n 0, 1) := dk_42 (dk_at dksX5_toldOf_2 16 rfl rfl)
theorem dX5_toldOf_53 : decode cX5_toldOf 53 = .ok (.iload_n 1, 1) := dk_27 (dk_at dksX5_toldOf_2 17 rfl rfl)
theorem dX5_toldOf_54 : decode cX5_toldOf 54 = .ok (.invokevirtual 75, 3) := dk_182 0 75 (dk_at dksX5_toldOf_2 18 rfl rfl)
theorem dX5_toldOf_57 : decode cX5_toldOf 57 = .ok (.ifCond .eq 7, 3) := dk_153 0 7 (dk_at dksX5_toldOf_2 21 rfl rfl)
theorem dX5_toldOf_60 : decode cX5_toldOf 60 = .ok (.iconst 0, 1) := dk_3 (dk_at dksX5_toldOf_3 0 rfl rfl)
theorem dX5_toldOf_61 : decode cX5_toldOf 61 = .ok (.goto 10, 3) := dk_167 0 10 (dk_at dksX5_toldOf_3 1 rfl rfl)
theorem dX5_toldOf_64 : decode cX5_toldOf 64 = .ok (.aload_n 0, 1) := dk_42 (dk_at dksX5_toldOf_3 4 rfl rfl)
theorem dX5_toldOf_65 : decode cX5_toldOf 65 = .ok (.iload_n 1, 1) := dk_27 (dk_at dksX5_toldOf_3 5 rfl rfl)
theorem dX5_toldOf_66 : decode cX5_toldOf 66 = .ok (.bipush 9, 2) := dk_16 9 (dk_at dksX5_toldOf_3 6 rfl rfl)
theorem dX5_toldOf_68 : decode cX5_toldOf 68 = .ok (.invokevirtual 71, 3) := dk_182 0 71 (dk_at dksX5_toldOf_3 8 rfl rfl)
theorem dX5_toldOf_71 : decode cX5_toldOf 71 = .ok (.ireturn, 1) := dk_172 (dk_at dksX5_toldOf_3 11 rfl rfl)
theorem dX5_toldOf_72 : decode cX5_toldOf 72 = .ok (.aload_n 0, 1) := dk_42 (dk_at dksX5_toldOf_3 12 rfl rfl)
theorem dX5_toldOf_73 : decode cX5_toldOf 73 = .ok (.iload_n 1, 1) := dk_27 (dk_at dksX5_toldOf_3 13 rfl rfl)
theorem dX5_toldOf_74 : decode cX5_toldOf 74 = .ok (.invokevirtual 75, 3) := dk_182 0 75 (dk_at dksX5_toldOf_3 14 rfl rfl)
theorem dX5_toldOf_77 : decode cX5_toldOf 77 = .ok (.ifCond .eq 7, 3) := dk_153 0 7 (dk_at dksX5_toldOf_3 17 rfl rfl)
theorem dX5_toldOf_80 : decode cX5_toldOf 80 = .ok (.iconst 0, 1) := dk_3 (dk_at dksX5_toldOf_3 20 rfl rfl)
theorem dX5_toldOf_81 : decode cX5_toldOf 81 = .ok (.goto 8, 3) := dk_167 0 8 (dk_at dksX5_toldOf_3 21 rfl rfl)
theorem dX5_toldOf_84 : decode cX5_toldOf 84 = .ok (.aload_n 0, 1) := dk_42 (dk_at dksX5_toldOf_4 0 rfl rfl)
theorem dX5_toldOf_85 : decode cX5_toldOf 85 = .ok (.iload_n 1, 1) := dk_27 (dk_at dksX5_toldOf_4 1 rfl rfl)
theorem dX5_toldOf_86 : decode cX5_toldOf 86 = .ok (.invokevirtual 217, 3) := dk_182 0 217 (dk_at dksX5_toldOf_4 2 rfl rfl)
theorem dX5_toldOf_89 : decode cX5_toldOf 89 = .ok (.ireturn, 1) := dk_172 (dk_at dksX5_toldOf_4 5 rfl rfl)
theorem dX5_toldOf_90 : decode cX5_toldOf 90 = .ok (.aload_n 0, 1) := dk_42 (dk_at dksX5_toldOf_4 6 rfl rfl)
theorem dX5_toldOf_91 : decode cX5_toldOf 91 = .ok (.iload_n 1, 1) := dk_27 (dk_at dksX5_toldOf_4 7 rfl rfl)
theorem dX5_toldOf_92 : decode cX5_toldOf 92 = .ok (.bipush 8, 2) := dk_16 8 (dk_at dksX5_toldOf_4 8 rfl rfl)
theorem dX5_toldOf_94 : decode cX5_toldOf 94 = .ok (.invokevirtual 71, 3) := dk_182 0 71 (dk_at dksX5_toldOf_4 10 rfl rfl)
theorem dX5_toldOf_97 : decode cX5_toldOf 97 = .ok (.ireturn, 1) := dk_172 (dk_at dksX5_toldOf_4 13 rfl rfl)
abbrev cX5_losesBy : ByteArray := prog_14_method_66_code
def yX5_losesBy : MethodName := ⟨RX5, "losesBy", "(I)I"⟩
def dkwX5_losesBy_0 : List UInt8 := [42, 27, 42, 27, 16, 7, 182, 0, 71, 182, 0, 93, 172]
abbrev dktX5_losesBy_0 : List UInt8 := dkwX5_losesBy_0 ++ []
theorem dksX5_losesBy_0 : cX5_losesBy.data.toList.drop 0 = dktX5_losesBy_0 := by decide +kernel
theorem dX5_losesBy_0 : decode cX5_losesBy 0 = .ok (.aload_n 0, 1) := dk_42 (dk_at dksX5_losesBy_0 0 rfl rfl)
theorem dX5_losesBy_1 : decode cX5_losesBy 1 = .ok (.iload_n 1, 1) := dk_27 (dk_at dksX5_losesBy_0 1 rfl rfl)
theorem dX5_losesBy_2 : decode cX5_losesBy 2 = .ok (.aload_n 0, 1) := dk_42 (dk_at dksX5_losesBy_0 2 rfl rfl)
theorem dX5_losesBy_3 : decode cX5_losesBy 3 = .ok (.iload_n 1, 1) := dk_27 (dk_at dksX5_losesBy_0 3 rfl rfl)
theorem dX5_losesBy_4 : decode cX5_losesBy 4 = .ok (.bipush 7, 2) := dk_16 7 (dk_at dksX5_losesBy_0 4 rfl rfl)
theorem dX5_losesBy_6 : decode cX5_losesBy 6 = .ok (.invokevirtual 71, 3) := dk_182 0 71 (dk_at dksX5_losesBy_0 6 rfl rfl)
theorem dX5_losesBy_9 : decode cX5_losesBy 9 = .ok (.invokevirtual 93, 3) := dk_182 0 93 (dk_at dksX5_losesBy_0 9 rfl rfl)
theorem dX5_losesBy_12 : decode cX5_losesBy 12 = .ok (.ireturn, 1) := dk_172 (dk_at dksX5_losesBy_0 12 rfl rfl)
abbrev cX5_lossOf : ByteArray := prog_14_method_19_code
def yX5_lossOf : MethodName := ⟨RX5, "lossOf", "(II)I"⟩
def dkwX5_lossOf_1 : List UInt8 := [167, 0, 4, 29, 54, 4, 21, 4, 16, 20, 164, 0, 8, 16, 20, 167, 0, 5, 21, 4, 172]
abbrev dktX5_lossOf_1 : List UInt8 := dkwX5_lossOf_1 ++ []
def dkwX5_lossOf_0 : List UInt8 := [42, 27, 16, 9, 182, 0, 71, 42, 27, 16, 10, 28, 96, 182, 0, 71, 100, 62, 29, 156, 0, 8, 29, 116]
abbrev dktX5_lossOf_0 : List UInt8 := dkwX5_lossOf_0 ++ dktX5_lossOf_1
theorem dksX5_lossOf_0 : cX5_lossOf.data.toList.drop 0 = dktX5_lossOf_0 := by decide +kernel
theorem dksX5_lossOf_1 : cX5_lossOf.data.toList.drop 24 = dktX5_lossOf_1 := dk_seg dksX5_lossOf_0 24 rfl rfl
theorem dX5_lossOf_0 : decode cX5_lossOf 0 = .ok (.aload_n 0, 1) := dk_42 (dk_at dksX5_lossOf_0 0 rfl rfl)
theorem dX5_lossOf_1 : decode cX5_lossOf 1 = .ok (.iload_n 1, 1) := dk_27 (dk_at dksX5_lossOf_0 1 rfl rfl)
theorem dX5_lossOf_2 : decode cX5_lossOf 2 = .ok (.bipush 9, 2) := dk_16 9 (dk_at dksX5_lossOf_0 2 rfl rfl)
theorem dX5_lossOf_4 : decode cX5_lossOf 4 = .ok (.invokevirtual 71, 3) := dk_182 0 71 (dk_at dksX5_lossOf_0 4 rfl rfl)
theorem dX5_lossOf_7 : decode cX5_lossOf 7 = .ok (.aload_n 0, 1) := dk_42 (dk_at dksX5_lossOf_0 7 rfl rfl)
theorem dX5_lossOf_8 : decode cX5_lossOf 8 = .ok (.iload_n 1, 1) := dk_27 (dk_at dksX5_lossOf_0 8 rfl rfl)
theorem dX5_lossOf_9 : decode cX5_lossOf 9 = .ok (.bipush 10, 2) := dk_16 10 (dk_at dksX5_lossOf_0 9 rfl rfl)
theorem dX5_lossOf_11 : decode cX5_lossOf 11 = .ok (.iload_n 2, 1) := dk_28 (dk_at dksX5_lossOf_0 11 rfl rfl)
theorem dX5_lossOf_12 : decode cX5_lossOf 12 = .ok (.iadd, 1) := dk_96 (dk_at dksX5_lossOf_0 12 rfl rfl)
theorem dX5_lossOf_13 : decode cX5_lossOf 13 = .ok (.invokevirtual 71, 3) := dk_182 0 71 (dk_at dksX5_lossOf_0 13 rfl rfl)
theorem dX5_lossOf_16 : decode cX5_lossOf 16 = .ok (.isub, 1) := dk_100 (dk_at dksX5_lossOf_0 16 rfl rfl)
theorem dX5_lossOf_17 : decode cX5_lossOf 17 = .ok (.istore_n 3, 1) := dk_62 (dk_at dksX5_lossOf_0 17 rfl rfl)
theorem dX5_lossOf_18 : decode cX5_lossOf 18 = .ok (.iload_n 3, 1) := dk_29 (dk_at dksX5_lossOf_0 18 rfl rfl)
theorem dX5_lossOf_19 : decode cX5_lossOf 19 = .ok (.ifCond .ge 8, 3) := dk_156 0 8 (dk_at dksX5_lossOf_0 19 rfl rfl)
theorem dX5_lossOf_22 : decode cX5_lossOf 22 = .ok (.iload_n 3, 1) := dk_29 (dk_at dksX5_lossOf_0 22 rfl rfl)
theorem dX5_lossOf_23 : decode cX5_lossOf 23 = .ok (.ineg, 1) := dk_116 (dk_at dksX5_lossOf_0 23 rfl rfl)
theorem dX5_lossOf_24 : decode cX5_lossOf 24 = .ok (.goto 4, 3) := dk_167 0 4 (dk_at dksX5_lossOf_1 0 rfl rfl)
theorem dX5_lossOf_27 : decode cX5_lossOf 27 = .ok (.iload_n 3, 1) := dk_29 (dk_at dksX5_lossOf_1 3 rfl rfl)
theorem dX5_lossOf_28 : decode cX5_lossOf 28 = .ok (.istore 4, 2) := dk_54 4 (dk_at dksX5_lossOf_1 4 rfl rfl)
theorem dX5_lossOf_30 : decode cX5_lossOf 30 = .ok (.iload 4, 2) := dk_21 4 (dk_at dksX5_lossOf_1 6 rfl rfl)
theorem dX5_lossOf_32 : decode cX5_lossOf 32 = .ok (.bipush 20, 2) := dk_16 20 (dk_at dksX5_lossOf_1 8 rfl rfl)
theorem dX5_lossOf_34 : decode cX5_lossOf 34 = .ok (.if_icmp .le 8, 3) := dk_164 0 8 (dk_at dksX5_lossOf_1 10 rfl rfl)
theorem dX5_lossOf_37 : decode cX5_lossOf 37 = .ok (.bipush 20, 2) := dk_16 20 (dk_at dksX5_lossOf_1 13 rfl rfl)
theorem dX5_lossOf_39 : decode cX5_lossOf 39 = .ok (.goto 5, 3) := dk_167 0 5 (dk_at dksX5_lossOf_1 15 rfl rfl)
theorem dX5_lossOf_42 : decode cX5_lossOf 42 = .ok (.iload 4, 2) := dk_21 4 (dk_at dksX5_lossOf_1 18 rfl rfl)
theorem dX5_lossOf_44 : decode cX5_lossOf 44 = .ok (.ireturn, 1) := dk_172 (dk_at dksX5_lossOf_1 20 rfl rfl)
abbrev cX5_late : ByteArray := prog_14_method_69_code
def yX5_late : MethodName := ⟨RX5, "late", "(I)I"⟩
def dkwX5_late_4 : List UInt8 := [132, 3, 1, 167, 255, 176, 42, 180, 0, 58, 158, 0, 7, 3, 167, 0, 4, 2, 172]
abbrev dktX5_late_4 : List UInt8 := dkwX5_late_4 ++ []
def dkwX5_late_3 : List UInt8 := [21, 4, 153, 0, 9, 28, 154, 0, 5, 29, 172, 28, 21, 4, 153, 0, 7, 4, 167, 0, 4, 3, 100, 61]
abbrev dktX5_late_3 : List UInt8 := dkwX5_late_3 ++ dktX5_late_4
def dkwX5_late_2 : List UInt8 := [182, 0, 71, 182, 0, 138, 42, 180, 0, 7, 16, 6, 46, 162, 0, 7, 4, 167, 0, 4, 3, 54, 4]
abbrev dktX5_late_2 : List UInt8 := dkwX5_late_2 ++ dktX5_late_3
def dkwX5_late_1 : List UInt8 := [46, 162, 0, 75, 42, 180, 0, 58, 154, 0, 68, 42, 29, 182, 0, 75, 153, 0, 27, 42, 42, 29, 8]
abbrev dktX5_late_1 : List UInt8 := dkwX5_late_1 ++ dktX5_late_2
def dkwX5_late_0 : List UInt8 := [42, 27, 155, 0, 7, 3, 167, 0, 4, 4, 181, 0, 58, 27, 61, 3, 62, 29, 42, 180, 0, 7, 16, 7]
abbrev dktX5_late_0 : List UInt8 := dkwX5_late_0 ++ dktX5_late_1
theorem dksX5_late_0 : cX5_late.data.toList.drop 0 = dktX5_late_0 := by decide +kernel
theorem dksX5_late_1 : cX5_late.data.toList.drop 24 = dktX5_late_1 := dk_seg dksX5_late_0 24 rfl rfl
theorem dksX5_late_2 : cX5_late.data.toList.drop 47 = dktX5_late_2 := dk_seg dksX5_late_1 23 rfl rfl
theorem dksX5_late_3 : cX5_late.data.toList.drop 70 = dktX5_late_3 := dk_seg dksX5_late_2 23 rfl rfl
theorem dksX5_late_4 : cX5_late.data.toList.drop 94 = dktX5_late_4 := dk_seg dksX5_late_3 24 rfl rfl
theorem dX5_late_0 : decode cX5_late 0 = .ok (.aload_n 0, 1) := dk_42 (dk_at dksX5_late_0 0 rfl rfl)
theorem dX5_late_1 : decode cX5_late 1 = .ok (.iload_n 1, 1) := dk_27 (dk_at dksX5_late_0 1 rfl rfl)
theorem dX5_late_2 : decode cX5_late 2 = .ok (.ifCond .lt 7, 3) := dk_155 0 7 (dk_at dksX5_late_0 2 rfl rfl)
theorem dX5_late_5 : decode cX5_late 5 = .ok (.iconst 0, 1) := dk_3 (dk_at dksX5_late_0 5 rfl rfl)
theorem dX5_late_6 : decode cX5_late 6 = .ok (.goto 4, 3) := dk_167 0 4 (dk_at dksX5_late_0 6 rfl rfl)
theorem dX5_late_9 : decode cX5_late 9 = .ok (.iconst 1, 1) := dk_4 (dk_at dksX5_late_0 9 rfl rfl)
theorem dX5_late_10 : decode cX5_late 10 = .ok (.putfield 58, 3) := dk_181 0 58 (dk_at dksX5_late_0 10 rfl rfl)
theorem dX5_late_13 : decode cX5_late 13 = .ok (.iload_n 1, 1) := dk_27 (dk_at dksX5_late_0 13 rfl rfl)
theorem dX5_late_14 : decode cX5_late 14 = .ok (.istore_n 2, 1) := dk_61 (dk_at dksX5_late_0 14 rfl rfl)
theorem dX5_late_15 : decode cX5_late 15 = .ok (.iconst 0, 1) := dk_3 (dk_at dksX5_late_0 15 rfl rfl)
theorem dX5_late_16 : decode cX5_late 16 = .ok (.istore_n 3, 1) := dk_62 (dk_at dksX5_late_0 16 rfl rfl)
theorem dX5_late_17 : decode cX5_late 17 = .ok (.iload_n 3, 1) := dk_29 (dk_at dksX5_late_0 17 rfl rfl)
theorem dX5_late_18 : decode cX5_late 18 = .ok (.aload_n 0, 1) := dk_42 (dk_at dksX5_late_0 18 rfl rfl)
theorem dX5_late_19 : decode cX5_late 19 = .ok (.getfield 7, 3) := dk_180 0 7 (dk_at dksX5_late_0 19 rfl rfl)
theorem dX5_late_22 : decode cX5_late 22 = .ok (.bipush 7, 2) := dk_16 7 (dk_at dksX5_late_0 22 rfl rfl)
theorem dX5_late_24 : decode cX5_late 24 = .ok (.iaload, 1) := dk_46 (dk_at dksX5_late_1 0 rfl rfl)
theorem dX5_late_25 : decode cX5_late 25 = .ok (.if_icmp .ge 75, 3) := dk_162 0 75 (dk_at dksX5_late_1 1 rfl rfl)
theorem dX5_late_28 : decode cX5_late 28 = .ok (.aload_n 0, 1) := dk_42 (dk_at dksX5_late_1 4 rfl rfl)
theorem dX5_late_29 : decode cX5_late 29 = .ok (.getfield 58, 3) := dk_180 0 58 (dk_at dksX5_late_1 5 rfl rfl)
theorem dX5_late_32 : decode cX5_late 32 = .ok (.ifCond .ne 68, 3) := dk_154 0 68 (dk_at dksX5_late_1 8 rfl rfl)
theorem dX5_late_35 : decode cX5_late 35 = .ok (.aload_n 0, 1) := dk_42 (dk_at dksX5_late_1 11 rfl rfl)
theorem dX5_late_36 : decode cX5_late 36 = .ok (.iload_n 3, 1) := dk_29 (dk_at dksX5_late_1 12 rfl rfl)
theorem dX5_late_37 : decode cX5_late 37 = .ok (.invokevirtual 75, 3) := dk_182 0 75 (dk_at dksX5_late_1 13 rfl rfl)
theorem dX5_late_40 : decode cX5_late 40 = .ok (.ifCond .eq 27, 3) := dk_153 0 27 (dk_at dksX5_late_1 16 rfl rfl)
theorem dX5_late_43 : decode cX5_late 43 = .ok (.aload_n 0, 1) := dk_42 (dk_at dksX5_late_1 19 rfl rfl)
theorem dX5_late_44 : decode cX5_late 44 = .ok (.aload_n 0, 1) := dk_42 (dk_at dksX5_late_1 20 rfl rfl)
theorem dX5_late_45 : decode cX5_late 45 = .ok (.iload_n 3, 1) := dk_29 (dk_at dksX5_late_1 21 rfl rfl)
theorem dX5_late_46 : decode cX5_late 46 = .ok (.iconst 5, 1) := dk_8 (dk_at dksX5_late_1 22 rfl rfl)
theorem dX5_late_47 : decode cX5_late 47 = .ok (.invokevirtual 71, 3) := dk_182 0 71 (dk_at dksX5_late_2 0 rfl rfl)
theorem dX5_late_50 : decode cX5_late 50 = .ok (.invokevirtual 138, 3) := dk_182 0 138 (dk_at dksX5_late_2 3 rfl rfl)
theorem dX5_late_53 : decode cX5_late 53 = .ok (.aload_n 0, 1) := dk_42 (dk_at dksX5_late_2 6 rfl rfl)
theorem dX5_late_54 : decode cX5_late 54 = .ok (.getfield 7, 3) := dk_180 0 7 (dk_at dksX5_late_2 7 rfl rfl)
theorem dX5_late_57 : decode cX5_late 57 = .ok (.bipush 6, 2) := dk_16 6 (dk_at dksX5_late_2 10 rfl rfl)
theorem dX5_late_59 : decode cX5_late 59 = .ok (.iaload, 1) := dk_46 (dk_at dksX5_late_2 12 rfl rfl)
theorem dX5_late_60 : decode cX5_late 60 = .ok (.if_icmp .ge 7, 3) := dk_162 0 7 (dk_at dksX5_late_2 13 rfl rfl)
theorem dX5_late_63 : decode cX5_late 63 = .ok (.iconst 1, 1) := dk_4 (dk_at dksX5_late_2 16 rfl rfl)
theorem dX5_late_64 : decode cX5_late 64 = .ok (.goto 4, 3) := dk_167 0 4 (dk_at dksX5_late_2 17 rfl rfl)
theorem dX5_late_67 : decode cX5_late 67 = .ok (.iconst 0, 1) := dk_3 (dk_at dksX5_late_2 20 rfl rfl)
theorem dX5_late_68 : decode cX5_late 68 = .ok (.istore 4, 2) := dk_54 4 (dk_at dksX5_late_2 21 rfl rfl)
theorem dX5_late_70 : decode cX5_late 70 = .ok (.iload 4, 2) := dk_21 4 (dk_at dksX5_late_3 0 rfl rfl)
theorem dX5_late_72 : decode cX5_late 72 = .ok (.ifCond .eq 9, 3) := dk_153 0 9 (dk_at dksX5_late_3 2 rfl rfl)
theorem dX5_late_75 : decode cX5_late 75 = .ok (.iload_n 2, 1) := dk_28 (dk_at dksX5_late_3 5 rfl rfl)
theorem dX5_late_76 : decode cX5_late 76 = .ok (.ifCond .ne 5, 3) := dk_154 0 5 (dk_at dksX5_late_3 6 rfl rfl)
theorem dX5_late_79 : decode cX5_late 79 = .ok (.iload_n 3, 1) := dk_29 (dk_at dksX5_late_3 9 rfl rfl)
theorem dX5_late_80 : decode cX5_late 80 = .ok (.ireturn, 1) := dk_172 (dk_at dksX5_late_3 10 rfl rfl)
theorem dX5_late_81 : decode cX5_late 81 = .ok (.iload_n 2, 1) := dk_28 (dk_at dksX5_late_3 11 rfl rfl)
theorem dX5_late_82 : decode cX5_late 82 = .ok (.iload 4, 2) := dk_21 4 (dk_at dksX5_late_3 12 rfl rfl)
theorem dX5_late_84 : decode cX5_late 84 = .ok (.ifCond .eq 7, 3) := dk_153 0 7 (dk_at dksX5_late_3 14 rfl rfl)
theorem dX5_late_87 : decode cX5_late 87 = .ok (.iconst 1, 1) := dk_4 (dk_at dksX5_late_3 17 rfl rfl)
theorem dX5_late_88 : decode cX5_late 88 = .ok (.goto 4, 3) := dk_167 0 4 (dk_at dksX5_late_3 18 rfl rfl)
theorem dX5_late_91 : decode cX5_late 91 = .ok (.iconst 0, 1) := dk_3 (dk_at dksX5_late_3 21 rfl rfl)
theorem dX5_late_92 : decode cX5_late 92 = .ok (.isub, 1) := dk_100 (dk_at dksX5_late_3 22 rfl rfl)
theorem dX5_late_93 : decode cX5_late 93 = .ok (.istore_n 2, 1) := dk_61 (dk_at dksX5_late_3 23 rfl rfl)
theorem dX5_late_94 : decode cX5_late 94 = .ok (.iinc 3 1, 3) := dk_132 3 1 (dk_at dksX5_late_4 0 rfl rfl)
theorem dX5_late_97 : decode cX5_late 97 = .ok (.goto (-80), 3) := dk_167 255 176 (dk_at dksX5_late_4 3 rfl rfl)
theorem dX5_late_100 : decode cX5_late 100 = .ok (.aload_n 0, 1) := dk_42 (dk_at dksX5_late_4 6 rfl rfl)
theorem dX5_late_101 : decode cX5_late 101 = .ok (.getfield 58, 3) := dk_180 0 58 (dk_at dksX5_late_4 7 rfl rfl)
theorem dX5_late_104 : decode cX5_late 104 = .ok (.ifCond .le 7, 3) := dk_158 0 7 (dk_at dksX5_late_4 10 rfl rfl)
theorem dX5_late_107 : decode cX5_late 107 = .ok (.iconst 0, 1) := dk_3 (dk_at dksX5_late_4 13 rfl rfl)
theorem dX5_late_108 : decode cX5_late 108 = .ok (.goto 4, 3) := dk_167 0 4 (dk_at dksX5_late_4 14 rfl rfl)
theorem dX5_late_111 : decode cX5_late 111 = .ok (.iconst (-1), 1) := dk_2 (dk_at dksX5_late_4 17 rfl rfl)
theorem dX5_late_112 : decode cX5_late 112 = .ok (.ireturn, 1) := dk_172 (dk_at dksX5_late_4 18 rfl rfl)
abbrev cX5_inZone : ByteArray := prog_14_method_70_code
def yX5_inZone : MethodName := ⟨RX5, "inZone", "(II)I"⟩
def dkwX5_inZone_2 : List UInt8 := [180, 0, 7, 27, 184, 0, 61, 7, 96, 28, 96, 46, 167, 0, 4, 2, 172]
abbrev dktX5_inZone_2 : List UInt8 := dkwX5_inZone_2 ++ []
def dkwX5_inZone_1 : List UInt8 := [180, 0, 58, 158, 0, 5, 3, 172, 28, 42, 180, 0, 7, 27, 184, 0, 61, 6, 96, 46, 162, 0, 19, 42]
abbrev dktX5_inZone_1 : List UInt8 := dkwX5_inZone_1 ++ dktX5_inZone_2
def dkwX5_inZone_0 : List UInt8 := [42, 42, 27, 182, 0, 201, 153, 0, 11, 28, 155, 0, 7, 3, 167, 0, 4, 4, 181, 0, 58, 42]
abbrev dktX5_inZone_0 : List UInt8 := dkwX5_inZone_0 ++ dktX5_inZone_1
theorem dksX5_inZone_0 : cX5_inZone.data.toList.drop 0 = dktX5_inZone_0 := by decide +kernel
theorem dksX5_inZone_1 : cX5_inZone.data.toList.drop 22 = dktX5_inZone_1 := dk_seg dksX5_inZone_0 22 rfl rfl
theorem dksX5_inZone_2 : cX5_inZone.data.toList.drop 46 = dktX5_inZone_2 := dk_seg dksX5_inZone_1 24 rfl rfl
theorem dX5_inZone_0 : decode cX5_inZone 0 = .ok (.aload_n 0, 1) := dk_42 (dk_at dksX5_inZone_0 0 rfl rfl)
theorem dX5_inZone_1 : decode cX5_inZone 1 = .ok (.aload_n 0, 1) := dk_42 (dk_at dksX5_inZone_0 1 rfl rfl)
theorem dX5_inZone_2 : decode cX5_inZone 2 = .ok (.iload_n 1, 1) := dk_27 (dk_at dksX5_inZone_0 2 rfl rfl)
theorem dX5_inZone_3 : decode cX5_inZone 3 = .ok (.invokevirtual 201, 3) := dk_182 0 201 (dk_at dksX5_inZone_0 3 rfl rfl)
theorem dX5_inZone_6 : decode cX5_inZone 6 = .ok (.ifCond .eq 11, 3) := dk_153 0 11 (dk_at dksX5_inZone_0 6 rfl rfl)
theorem dX5_inZone_9 : decode cX5_inZone 9 = .ok (.iload_n 2, 1) := dk_28 (dk_at dksX5_inZone_0 9 rfl rfl)
theorem dX5_inZone_10 : decode cX5_inZone 10 = .ok (.ifCond .lt 7, 3) := dk_155 0 7 (dk_at dksX5_inZone_0 10 rfl rfl)
theorem dX5_inZone_13 : decode cX5_inZone 13 = .ok (.iconst 0, 1) := dk_3 (dk_at dksX5_inZone_0 13 rfl rfl)
theorem dX5_inZone_14 : decode cX5_inZone 14 = .ok (.goto 4, 3) := dk_167 0 4 (dk_at dksX5_inZone_0 14 rfl rfl)
theorem dX5_inZone_17 : decode cX5_inZone 17 = .ok (.iconst 1, 1) := dk_4 (dk_at dksX5_inZone_0 17 rfl rfl)
theorem dX5_inZone_18 : decode cX5_inZone 18 = .ok (.putfield 58, 3) := dk_181 0 58 (dk_at dksX5_inZone_0 18 rfl rfl)
theorem dX5_inZone_21 : decode cX5_inZone 21 = .ok (.aload_n 0, 1) := dk_42 (dk_at dksX5_inZone_0 21 rfl rfl)
theorem dX5_inZone_22 : decode cX5_inZone 22 = .ok (.getfield 58, 3) := dk_180 0 58 (dk_at dksX5_inZone_1 0 rfl rfl)
theorem dX5_inZone_25 : decode cX5_inZone 25 = .ok (.ifCond .le 5, 3) := dk_158 0 5 (dk_at dksX5_inZone_1 3 rfl rfl)
theorem dX5_inZone_28 : decode cX5_inZone 28 = .ok (.iconst 0, 1) := dk_3 (dk_at dksX5_inZone_1 6 rfl rfl)
theorem dX5_inZone_29 : decode cX5_inZone 29 = .ok (.ireturn, 1) := dk_172 (dk_at dksX5_inZone_1 7 rfl rfl)
theorem dX5_inZone_30 : decode cX5_inZone 30 = .ok (.iload_n 2, 1) := dk_28 (dk_at dksX5_inZone_1 8 rfl rfl)
theorem dX5_inZone_31 : decode cX5_inZone 31 = .ok (.aload_n 0, 1) := dk_42 (dk_at dksX5_inZone_1 9 rfl rfl)
theorem dX5_inZone_32 : decode cX5_inZone 32 = .ok (.getfield 7, 3) := dk_180 0 7 (dk_at dksX5_inZone_1 10 rfl rfl)
theorem dX5_inZone_35 : decode cX5_inZone 35 = .ok (.iload_n 1, 1) := dk_27 (dk_at dksX5_inZone_1 13 rfl rfl)
theorem dX5_inZone_36 : decode cX5_inZone 36 = .ok (.invokestatic 61, 3) := dk_184 0 61 (dk_at dksX5_inZone_1 14 rfl rfl)
theorem dX5_inZone_39 : decode cX5_inZone 39 = .ok (.iconst 3, 1) := dk_6 (dk_at dksX5_inZone_1 17 rfl rfl)
theorem dX5_inZone_40 : decode cX5_inZone 40 = .ok (.iadd, 1) := dk_96 (dk_at dksX5_inZone_1 18 rfl rfl)
theorem dX5_inZone_41 : decode cX5_inZone 41 = .ok (.iaload, 1) := dk_46 (dk_at dksX5_inZone_1 19 rfl rfl)
theorem dX5_inZone_42 : decode cX5_inZone 42 = .ok (.if_icmp .ge 19, 3) := dk_162 0 19 (dk_at dksX5_inZone_1 20 rfl rfl)
theorem dX5_inZone_45 : decode cX5_inZone 45 = .ok (.aload_n 0, 1) := dk_42 (dk_at dksX5_inZone_1 23 rfl rfl)
theorem dX5_inZone_46 : decode cX5_inZone 46 = .ok (.getfield 7, 3) := dk_180 0 7 (dk_at dksX5_inZone_2 0 rfl rfl)
theorem dX5_inZone_49 : decode cX5_inZone 49 = .ok (.iload_n 1, 1) := dk_27 (dk_at dksX5_inZone_2 3 rfl rfl)
theorem dX5_inZone_50 : decode cX5_inZone 50 = .ok (.invokestatic 61, 3) := dk_184 0 61 (dk_at dksX5_inZone_2 4 rfl rfl)
theorem dX5_inZone_53 : decode cX5_inZone 53 = .ok (.iconst 4, 1) := dk_7 (dk_at dksX5_inZone_2 7 rfl rfl)
theorem dX5_inZone_54 : decode cX5_inZone 54 = .ok (.iadd, 1) := dk_96 (dk_at dksX5_inZone_2 8 rfl rfl)
theorem dX5_inZone_55 : decode cX5_inZone 55 = .ok (.iload_n 2, 1) := dk_28 (dk_at dksX5_inZone_2 9 rfl rfl)
theorem dX5_inZone_56 : decode cX5_inZone 56 = .ok (.iadd, 1) := dk_96 (dk_at dksX5_inZone_2 10 rfl rfl)
theorem dX5_inZone_57 : decode cX5_inZone 57 = .ok (.iaload, 1) := dk_46 (dk_at dksX5_inZone_2 11 rfl rfl)
theorem dX5_inZone_58 : decode cX5_inZone 58 = .ok (.goto 4, 3) := dk_167 0 4 (dk_at dksX5_inZone_2 12 rfl rfl)
theorem dX5_inZone_61 : decode cX5_inZone 61 = .ok (.iconst (-1), 1) := dk_2 (dk_at dksX5_inZone_2 15 rfl rfl)
theorem dX5_inZone_62 : decode cX5_inZone 62 = .ok (.ireturn, 1) := dk_172 (dk_at dksX5_inZone_2 16 rfl rfl)
abbrev cX5_due : ByteArray := prog_14_method_71_code
def yX5_due : MethodName := ⟨RX5, "due", "(I)I"⟩
def dkwX5_due_2 : List UInt8 := [180, 0, 7, 6, 46, 96, 4, 96, 172]
abbrev dktX5_due_2 : List UInt8 := dkwX5_due_2 ++ []
def dkwX5_due_1 : List UInt8 := [3, 167, 0, 29, 42, 27, 182, 0, 104, 153, 0, 7, 2, 167, 0, 17, 42, 27, 182, 0, 138, 42]
abbrev dktX5_due_1 : List UInt8 := dkwX5_due_1 ++ dktX5_due_2
def dkwX5_due_0 : List UInt8 := [42, 42, 27, 182, 0, 201, 153, 0, 7, 3, 167, 0, 4, 4, 181, 0, 58, 42, 180, 0, 58, 158, 0, 7]
abbrev dktX5_due_0 : List UInt8 := dkwX5_due_0 ++ dktX5_due_1
theorem dksX5_due_0 : cX5_due.data.toList.drop 0 = dktX5_due_0 := by decide +kernel
theorem dksX5_due_1 : cX5_due.data.toList.drop 24 = dktX5_due_1 := dk_seg dksX5_due_0 24 rfl rfl
theorem dksX5_due_2 : cX5_due.data.toList.drop 46 = dktX5_due_2 := dk_seg dksX5_due_1 22 rfl rfl
theorem dX5_due_0 : decode cX5_due 0 = .ok (.aload_n 0, 1) := dk_42 (dk_at dksX5_due_0 0 rfl rfl)
theorem dX5_due_1 : decode cX5_due 1 = .ok (.aload_n 0, 1) := dk_42 (dk_at dksX5_due_0 1 rfl rfl)
theorem dX5_due_2 : decode cX5_due 2 = .ok (.iload_n 1, 1) := dk_27 (dk_at dksX5_due_0 2 rfl rfl)
theorem dX5_due_3 : decode cX5_due 3 = .ok (.invokevirtual 201, 3) := dk_182 0 201 (dk_at dksX5_due_0 3 rfl rfl)
theorem dX5_due_6 : decode cX5_due 6 = .ok (.ifCond .eq 7, 3) := dk_153 0 7 (dk_at dksX5_due_0 6 rfl rfl)
theorem dX5_due_9 : decode cX5_due 9 = .ok (.iconst 0, 1) := dk_3 (dk_at dksX5_due_0 9 rfl rfl)
theorem dX5_due_10 : decode cX5_due 10 = .ok (.goto 4, 3) := dk_167 0 4 (dk_at dksX5_due_0 10 rfl rfl)
theorem dX5_due_13 : decode cX5_due 13 = .ok (.iconst 1, 1) := dk_4 (dk_at dksX5_due_0 13 rfl rfl)
theorem dX5_due_14 : decode cX5_due 14 = .ok (.putfield 58, 3) := dk_181 0 58 (dk_at dksX5_due_0 14 rfl rfl)
theorem dX5_due_17 : decode cX5_due 17 = .ok (.aload_n 0, 1) := dk_42 (dk_at dksX5_due_0 17 rfl rfl)
theorem dX5_due_18 : decode cX5_due 18 = .ok (.getfield 58, 3) := dk_180 0 58 (dk_at dksX5_due_0 18 rfl rfl)
theorem dX5_due_21 : decode cX5_due 21 = .ok (.ifCond .le 7, 3) := dk_158 0 7 (dk_at dksX5_due_0 21 rfl rfl)
theorem dX5_due_24 : decode cX5_due 24 = .ok (.iconst 0, 1) := dk_3 (dk_at dksX5_due_1 0 rfl rfl)
theorem dX5_due_25 : decode cX5_due 25 = .ok (.goto 29, 3) := dk_167 0 29 (dk_at dksX5_due_1 1 rfl rfl)
theorem dX5_due_28 : decode cX5_due 28 = .ok (.aload_n 0, 1) := dk_42 (dk_at dksX5_due_1 4 rfl rfl)
theorem dX5_due_29 : decode cX5_due 29 = .ok (.iload_n 1, 1) := dk_27 (dk_at dksX5_due_1 5 rfl rfl)
theorem dX5_due_30 : decode cX5_due 30 = .ok (.invokevirtual 104, 3) := dk_182 0 104 (dk_at dksX5_due_1 6 rfl rfl)
theorem dX5_due_33 : decode cX5_due 33 = .ok (.ifCond .eq 7, 3) := dk_153 0 7 (dk_at dksX5_due_1 9 rfl rfl)
theorem dX5_due_36 : decode cX5_due 36 = .ok (.iconst (-1), 1) := dk_2 (dk_at dksX5_due_1 12 rfl rfl)
theorem dX5_due_37 : decode cX5_due 37 = .ok (.goto 17, 3) := dk_167 0 17 (dk_at dksX5_due_1 13 rfl rfl)
theorem dX5_due_40 : decode cX5_due 40 = .ok (.aload_n 0, 1) := dk_42 (dk_at dksX5_due_1 16 rfl rfl)
theorem dX5_due_41 : decode cX5_due 41 = .ok (.iload_n 1, 1) := dk_27 (dk_at dksX5_due_1 17 rfl rfl)
theorem dX5_due_42 : decode cX5_due 42 = .ok (.invokevirtual 138, 3) := dk_182 0 138 (dk_at dksX5_due_1 18 rfl rfl)
theorem dX5_due_45 : decode cX5_due 45 = .ok (.aload_n 0, 1) := dk_42 (dk_at dksX5_due_1 21 rfl rfl)
theorem dX5_due_46 : decode cX5_due 46 = .ok (.getfield 7, 3) := dk_180 0 7 (dk_at dksX5_due_2 0 rfl rfl)
theorem dX5_due_49 : decode cX5_due 49 = .ok (.iconst 3, 1) := dk_6 (dk_at dksX5_due_2 3 rfl rfl)
theorem dX5_due_50 : decode cX5_due 50 = .ok (.iaload, 1) := dk_46 (dk_at dksX5_due_2 4 rfl rfl)
theorem dX5_due_51 : decode cX5_due 51 = .ok (.iadd, 1) := dk_96 (dk_at dksX5_due_2 5 rfl rfl)
theorem dX5_due_52 : decode cX5_due 52 = .ok (.iconst 1, 1) := dk_4 (dk_at dksX5_due_2 6 rfl rfl)
theorem dX5_due_53 : decode cX5_due 53 = .ok (.iadd, 1) := dk_96 (dk_at dksX5_due_2 7 rfl rfl)
theorem dX5_due_54 : decode cX5_due 54 = .ok (.ireturn, 1) := dk_172 (dk_at dksX5_due_2 8 rfl rfl)
abbrev cX5_wear : ByteArray := prog_14_method_72_code
def yX5_wear : MethodName := ⟨RX5, "wear", "(I)I"⟩
def dkwX5_wear_6 : List UInt8 := [167, 0, 5, 21, 4, 172]
abbrev dktX5_wear_6 : List UInt8 := dkwX5_wear_6 ++ []
def dkwX5_wear_5 : List UInt8 := [167, 0, 4, 29, 54, 4, 27, 5, 162, 0, 18, 42, 180, 0, 7, 21, 4, 184, 0, 61, 5, 96, 46]
abbrev dktX5_wear_5 : List UInt8 := dkwX5_wear_5 ++ dktX5_wear_6
def dkwX5_wear_4 : List UInt8 := [46, 162, 0, 8, 21, 4, 167, 0, 4, 29, 62, 132, 4, 1, 167, 255, 182, 27, 5, 112, 154, 0, 7, 28]
abbrev dktX5_wear_4 : List UInt8 := dkwX5_wear_4 ++ dktX5_wear_5
def dkwX5_wear_3 : List UInt8 := [96, 46, 164, 0, 8, 21, 4, 167, 0, 4, 28, 61, 21, 5, 42, 180, 0, 7, 29, 184, 0, 61, 5, 96]
abbrev dktX5_wear_3 : List UInt8 := dkwX5_wear_3 ++ dktX5_wear_4
def dkwX5_wear_2 : List UInt8 := [180, 0, 7, 21, 4, 184, 0, 61, 5, 96, 46, 54, 5, 21, 5, 42, 180, 0, 7, 28, 184, 0, 61, 5]
abbrev dktX5_wear_2 : List UInt8 := dkwX5_wear_2 ++ dktX5_wear_3
def dkwX5_wear_1 : List UInt8 := [158, 0, 5, 3, 172, 3, 61, 3, 62, 4, 54, 4, 21, 4, 42, 180, 0, 7, 3, 46, 162, 0, 69, 42]
abbrev dktX5_wear_1 : List UInt8 := dkwX5_wear_1 ++ dktX5_wear_2
def dkwX5_wear_0 : List UInt8 := [42, 27, 3, 6, 184, 0, 179, 153, 0, 7, 3, 167, 0, 4, 4, 181, 0, 58, 42, 180, 0, 58]
abbrev dktX5_wear_0 : List UInt8 := dkwX5_wear_0 ++ dktX5_wear_1
theorem dksX5_wear_0 : cX5_wear.data.toList.drop 0 = dktX5_wear_0 := by decide +kernel
theorem dksX5_wear_1 : cX5_wear.data.toList.drop 22 = dktX5_wear_1 := dk_seg dksX5_wear_0 22 rfl rfl
theorem dksX5_wear_2 : cX5_wear.data.toList.drop 46 = dktX5_wear_2 := dk_seg dksX5_wear_1 24 rfl rfl
theorem dksX5_wear_3 : cX5_wear.data.toList.drop 70 = dktX5_wear_3 := dk_seg dksX5_wear_2 24 rfl rfl
theorem dksX5_wear_4 : cX5_wear.data.toList.drop 94 = dktX5_wear_4 := dk_seg dksX5_wear_3 24 rfl rfl
theorem dksX5_wear_5 : cX5_wear.data.toList.drop 118 = dktX5_wear_5 := dk_seg dksX5_wear_4 24 rfl rfl
theorem dksX5_wear_6 : cX5_wear.data.toList.drop 141 = dktX5_wear_6 := dk_seg dksX5_wear_5 23 rfl rfl
theorem dX5_wear_0 : decode cX5_wear 0 = .ok (.aload_n 0, 1) := dk_42 (dk_at dksX5_wear_0 0 rfl rfl)
theorem dX5_wear_1 : decode cX5_wear 1 = .ok (.iload_n 1, 1) := dk_27 (dk_at dksX5_wear_0 1 rfl rfl)
theorem dX5_wear_2 : decode cX5_wear 2 = .ok (.iconst 0, 1) := dk_3 (dk_at dksX5_wear_0 2 rfl rfl)
theorem dX5_wear_3 : decode cX5_wear 3 = .ok (.iconst 3, 1) := dk_6 (dk_at dksX5_wear_0 3 rfl rfl)
theorem dX5_wear_4 : decode cX5_wear 4 = .ok (.invokestatic 179, 3) := dk_184 0 179 (dk_at dksX5_wear_0 4 rfl rfl)
theorem dX5_wear_7 : decode cX5_wear 7 = .ok (.ifCond .eq 7, 3) := dk_153 0 7 (dk_at dksX5_wear_0 7 rfl rfl)
theorem dX5_wear_10 : decode cX5_wear 10 = .ok (.iconst 0, 1) := dk_3 (dk_at dksX5_wear_0 10 rfl rfl)
theorem dX5_wear_11 : decode cX5_wear 11 = .ok (.goto 4, 3) := dk_167 0 4 (dk_at dksX5_wear_0 11 rfl rfl)
theorem dX5_wear_14 : decode cX5_wear 14 = .ok (.iconst 1, 1) := dk_4 (dk_at dksX5_wear_0 14 rfl rfl)
theorem dX5_wear_15 : decode cX5_wear 15 = .ok (.putfield 58, 3) := dk_181 0 58 (dk_at dksX5_wear_0 15 rfl rfl)
theorem dX5_wear_18 : decode cX5_wear 18 = .ok (.aload_n 0, 1) := dk_42 (dk_at dksX5_wear_0 18 rfl rfl)
theorem dX5_wear_19 : decode cX5_wear 19 = .ok (.getfield 58, 3) := dk_180 0 58 (dk_at dksX5_wear_0 19 rfl rfl)
theorem dX5_wear_22 : decode cX5_wear 22 = .ok (.ifCond .le 5, 3) := dk_158 0 5 (dk_at dksX5_wear_1 0 rfl rfl)
theorem dX5_wear_25 : decode cX5_wear 25 = .ok (.iconst 0, 1) := dk_3 (dk_at dksX5_wear_1 3 rfl rfl)
theorem dX5_wear_26 : decode cX5_wear 26 = .ok (.ireturn, 1) := dk_172 (dk_at dksX5_wear_1 4 rfl rfl)
theorem dX5_wear_27 : decode cX5_wear 27 = .ok (.iconst 0, 1) := dk_3 (dk_at dksX5_wear_1 5 rfl rfl)
theorem dX5_wear_28 : decode cX5_wear 28 = .ok (.istore_n 2, 1) := dk_61 (dk_at dksX5_wear_1 6 rfl rfl)
theorem dX5_wear_29 : decode cX5_wear 29 = .ok (.iconst 0, 1) := dk_3 (dk_at dksX5_wear_1 7 rfl rfl)
theorem dX5_wear_30 : decode cX5_wear 30 = .ok (.istore_n 3, 1) := dk_62 (dk_at dksX5_wear_1 8 rfl rfl)
theorem dX5_wear_31 : decode cX5_wear 31 = .ok (.iconst 1, 1) := dk_4 (dk_at dksX5_wear_1 9 rfl rfl)
theorem dX5_wear_32 : decode cX5_wear 32 = .ok (.istore 4, 2) := dk_54 4 (dk_at dksX5_wear_1 10 rfl rfl)
theorem dX5_wear_34 : decode cX5_wear 34 = .ok (.iload 4, 2) := dk_21 4 (dk_at dksX5_wear_1 12 rfl rfl)
theorem dX5_wear_36 : decode cX5_wear 36 = .ok (.aload_n 0, 1) := dk_42 (dk_at dksX5_wear_1 14 rfl rfl)
theorem dX5_wear_37 : decode cX5_wear 37 = .ok (.getfield 7, 3) := dk_180 0 7 (dk_at dksX5_wear_1 15 rfl rfl)
theorem dX5_wear_40 : decode cX5_wear 40 = .ok (.iconst 0, 1) := dk_3 (dk_at dksX5_wear_1 18 rfl rfl)
theorem dX5_wear_41 : decode cX5_wear 41 = .ok (.iaload, 1) := dk_46 (dk_at dksX5_wear_1 19 rfl rfl)
theorem dX5_wear_42 : decode cX5_wear 42 = .ok (.if_icmp .ge 69, 3) := dk_162 0 69 (dk_at dksX5_wear_1 20 rfl rfl)
theorem dX5_wear_45 : decode cX5_wear 45 = .ok (.aload_n 0, 1) := dk_42 (dk_at dksX5_wear_1 23 rfl rfl)
theorem dX5_wear_46 : decode cX5_wear 46 = .ok (.getfield 7, 3) := dk_180 0 7 (dk_at dksX5_wear_2 0 rfl rfl)
theorem dX5_wear_49 : decode cX5_wear 49 = .ok (.iload 4, 2) := dk_21 4 (dk_at dksX5_wear_2 3 rfl rfl)
theorem dX5_wear_51 : decode cX5_wear 51 = .ok (.invokestatic 61, 3) := dk_184 0 61 (dk_at dksX5_wear_2 5 rfl rfl)
theorem dX5_wear_54 : decode cX5_wear 54 = .ok (.iconst 2, 1) := dk_5 (dk_at dksX5_wear_2 8 rfl rfl)
theorem dX5_wear_55 : decode cX5_wear 55 = .ok (.iadd, 1) := dk_96 (dk_at dksX5_wear_2 9 rfl rfl)
theorem dX5_wear_56 : decode cX5_wear 56 = .ok (.iaload, 1) := dk_46 (dk_at dksX5_wear_2 10 rfl rfl)
theorem dX5_wear_57 : decode cX5_wear 57 = .ok (.istore 5, 2) := dk_54 5 (dk_at dksX5_wear_2 11 rfl rfl)
theorem dX5_wear_59 : decode cX5_wear 59 = .ok (.iload 5, 2) := dk_21 5 (dk_at dksX5_wear_2 13 rfl rfl)
theorem dX5_wear_61 : decode cX5_wear 61 = .ok (.aload_n 0, 1) := dk_42 (dk_at dksX5_wear_2 15 rfl rfl)
theorem dX5_wear_62 : decode cX5_wear 62 = .ok (.getfield 7, 3) := dk_180 0 7 (dk_at dksX5_wear_2 16 rfl rfl)
theorem dX5_wear_65 : decode cX5_wear 65 = .ok (.iload_n 2, 1) := dk_28 (dk_at dksX5_wear_2 19 rfl rfl)
theorem dX5_wear_66 : decode cX5_wear 66 = .ok (.invokestatic 61, 3) := dk_184 0 61 (dk_at dksX5_wear_2 20 rfl rfl)
theorem dX5_wear_69 : decode cX5_wear 69 = .ok (.iconst 2, 1) := dk_5 (dk_at dksX5_wear_2 23 rfl rfl)
theorem dX5_wear_70 : decode cX5_wear 70 = .ok (.iadd, 1) := dk_96 (dk_at dksX5_wear_3 0 rfl rfl)
theorem dX5_wear_71 : decode cX5_wear 71 = .ok (.iaload, 1) := dk_46 (dk_at dksX5_wear_3 1 rfl rfl)
theorem dX5_wear_72 : decode cX5_wear 72 = .ok (.if_icmp .le 8, 3) := dk_164 0 8 (dk_at dksX5_wear_3 2 rfl rfl)
theorem dX5_wear_75 : decode cX5_wear 75 = .ok (.iload 4, 2) := dk_21 4 (dk_at dksX5_wear_3 5 rfl rfl)
theorem dX5_wear_77 : decode cX5_wear 77 = .ok (.goto 4, 3) := dk_167 0 4 (dk_at dksX5_wear_3 7 rfl rfl)
theorem dX5_wear_80 : decode cX5_wear 80 = .ok (.iload_n 2, 1) := dk_28 (dk_at dksX5_wear_3 10 rfl rfl)
theorem dX5_wear_81 : decode cX5_wear 81 = .ok (.istore_n 2, 1) := dk_61 (dk_at dksX5_wear_3 11 rfl rfl)
theorem dX5_wear_82 : decode cX5_wear 82 = .ok (.iload 5, 2) := dk_21 5 (dk_at dksX5_wear_3 12 rfl rfl)
theorem dX5_wear_84 : decode cX5_wear 84 = .ok (.aload_n 0, 1) := dk_42 (dk_at dksX5_wear_3 14 rfl rfl)
theorem dX5_wear_85 : decode cX5_wear 85 = .ok (.getfield 7, 3) := dk_180 0 7 (dk_at dksX5_wear_3 15 rfl rfl)
theorem dX5_wear_88 : decode cX5_wear 88 = .ok (.iload_n 3, 1) := dk_29 (dk_at dksX5_wear_3 18 rfl rfl)
theorem dX5_wear_89 : decode cX5_wear 89 = .ok (.invokestatic 61, 3) := dk_184 0 61 (dk_at dksX5_wear_3 19 rfl rfl)
theorem dX5_wear_92 : decode cX5_wear 92 = .ok (.iconst 2, 1) := dk_5 (dk_at dksX5_wear_3 22 rfl rfl)
theorem dX5_wear_93 : decode cX5_wear 93 = .ok (.iadd, 1) := dk_96 (dk_at dksX5_wear_3 23 rfl rfl)
theorem dX5_wear_94 : decode cX5_wear 94 = .ok (.iaload, 1) := dk_46 (dk_at dksX5_wear_4 0 rfl rfl)
theorem dX5_wear_95 : decode cX5_wear 95 = .ok (.if_icmp .ge 8, 3) := dk_162 0 8 (dk_at dksX5_wear_4 1 rfl rfl)
theorem dX5_wear_98 : decode cX5_wear 98 = .ok (.iload 4, 2) := dk_21 4 (dk_at dksX5_wear_4 4 rfl rfl)
theorem dX5_wear_100 : decode cX5_wear 100 = .ok (.goto 4, 3) := dk_167 0 4 (dk_at dksX5_wear_4 6 rfl rfl)
theorem dX5_wear_103 : decode cX5_wear 103 = .ok (.iload_n 3, 1) := dk_29 (dk_at dksX5_wear_4 9 rfl rfl)
theorem dX5_wear_104 : decode cX5_wear 104 = .ok (.istore_n 3, 1) := dk_62 (dk_at dksX5_wear_4 10 rfl rfl)
theorem dX5_wear_105 : decode cX5_wear 105 = .ok (.iinc 4 1, 3) := dk_132 4 1 (dk_at dksX5_wear_4 11 rfl rfl)
theorem dX5_wear_108 : decode cX5_wear 108 = .ok (.goto (-74), 3) := dk_167 255 182 (dk_at dksX5_wear_4 14 rfl rfl)
theorem dX5_wear_111 : decode cX5_wear 111 = .ok (.iload_n 1, 1) := dk_27 (dk_at dksX5_wear_4 17 rfl rfl)
theorem dX5_wear_112 : decode cX5_wear 112 = .ok (.iconst 2, 1) := dk_5 (dk_at dksX5_wear_4 18 rfl rfl)
theorem dX5_wear_113 : decode cX5_wear 113 = .ok (.irem, 1) := dk_112 (dk_at dksX5_wear_4 19 rfl rfl)
theorem dX5_wear_114 : decode cX5_wear 114 = .ok (.ifCond .ne 7, 3) := dk_154 0 7 (dk_at dksX5_wear_4 20 rfl rfl)
theorem dX5_wear_117 : decode cX5_wear 117 = .ok (.iload_n 2, 1) := dk_28 (dk_at dksX5_wear_4 23 rfl rfl)
theorem dX5_wear_118 : decode cX5_wear 118 = .ok (.goto 4, 3) := dk_167 0 4 (dk_at dksX5_wear_5 0 rfl rfl)
theorem dX5_wear_121 : decode cX5_wear 121 = .ok (.iload_n 3, 1) := dk_29 (dk_at dksX5_wear_5 3 rfl rfl)
theorem dX5_wear_122 : decode cX5_wear 122 = .ok (.istore 4, 2) := dk_54 4 (dk_at dksX5_wear_5 4 rfl rfl)
theorem dX5_wear_124 : decode cX5_wear 124 = .ok (.iload_n 1, 1) := dk_27 (dk_at dksX5_wear_5 6 rfl rfl)
theorem dX5_wear_125 : decode cX5_wear 125 = .ok (.iconst 2, 1) := dk_5 (dk_at dksX5_wear_5 7 rfl rfl)
theorem dX5_wear_126 : decode cX5_wear 126 = .ok (.if_icmp .ge 18, 3) := dk_162 0 18 (dk_at dksX5_wear_5 8 rfl rfl)
theorem dX5_wear_129 : decode cX5_wear 129 = .ok (.aload_n 0, 1) := dk_42 (dk_at dksX5_wear_5 11 rfl rfl)
theorem dX5_wear_130 : decode cX5_wear 130 = .ok (.getfield 7, 3) := dk_180 0 7 (dk_at dksX5_wear_5 12 rfl rfl)
theorem dX5_wear_133 : decode cX5_wear 133 = .ok (.iload 4, 2) := dk_21 4 (dk_at dksX5_wear_5 15 rfl rfl)
theorem dX5_wear_135 : decode cX5_wear 135 = .ok (.invokestatic 61, 3) := dk_184 0 61 (dk_at dksX5_wear_5 17 rfl rfl)
theorem dX5_wear_138 : decode cX5_wear 138 = .ok (.iconst 2, 1) := dk_5 (dk_at dksX5_wear_5 20 rfl rfl)
theorem dX5_wear_139 : decode cX5_wear 139 = .ok (.iadd, 1) := dk_96 (dk_at dksX5_wear_5 21 rfl rfl)
theorem dX5_wear_140 : decode cX5_wear 140 = .ok (.iaload, 1) := dk_46 (dk_at dksX5_wear_5 22 rfl rfl)
theorem dX5_wear_141 : decode cX5_wear 141 = .ok (.goto 5, 3) := dk_167 0 5 (dk_at dksX5_wear_6 0 rfl rfl)
theorem dX5_wear_144 : decode cX5_wear 144 = .ok (.iload 4, 2) := dk_21 4 (dk_at dksX5_wear_6 3 rfl rfl)
theorem dX5_wear_146 : decode cX5_wear 146 = .ok (.ireturn, 1) := dk_172 (dk_at dksX5_wear_6 5 rfl rfl)
abbrev cX5_expected : ByteArray := prog_14_method_73_code
def yX5_expected : MethodName := ⟨RX5, "expected", "(II)I"⟩
def dkwX5_expected_3 : List UInt8 := [167, 0, 4, 3, 96, 62, 132, 4, 1, 167, 255, 201, 29, 172]
abbrev dktX5_expected_3 : List UInt8 := dkwX5_expected_3 ++ []
def dkwX5_expected_2 : List UInt8 := [182, 0, 75, 153, 0, 23, 42, 21, 4, 16, 6, 182, 0, 71, 27, 28, 184, 0, 179, 153, 0, 7, 4]
abbrev dktX5_expected_2 : List UInt8 := dkwX5_expected_2 ++ dktX5_expected_3
def dkwX5_expected_1 : List UInt8 := [21, 4, 42, 180, 0, 7, 16, 7, 46, 162, 0, 49, 42, 180, 0, 58, 154, 0, 42, 29, 42, 21, 4]
abbrev dktX5_expected_1 : List UInt8 := dkwX5_expected_1 ++ dktX5_expected_2
def dkwX5_expected_0 : List UInt8 := [42, 27, 155, 0, 8, 28, 27, 162, 0, 7, 4, 167, 0, 4, 3, 181, 0, 58, 3, 62, 3, 54, 4]
abbrev dktX5_expected_0 : List UInt8 := dkwX5_expected_0 ++ dktX5_expected_1
theorem dksX5_expected_0 : cX5_expected.data.toList.drop 0 = dktX5_expected_0 := by decide +kernel
theorem dksX5_expected_1 : cX5_expected.data.toList.drop 23 = dktX5_expected_1 := dk_seg dksX5_expected_0 23 rfl rfl
theorem dksX5_expected_2 : cX5_expected.data.toList.drop 46 = dktX5_expected_2 := dk_seg dksX5_expected_1 23 rfl rfl
theorem dksX5_expected_3 : cX5_expected.data.toList.drop 69 = dktX5_expected_3 := dk_seg dksX5_expected_2 23 rfl rfl
theorem dX5_expected_0 : decode cX5_expected 0 = .ok (.aload_n 0, 1) := dk_42 (dk_at dksX5_expected_0 0 rfl rfl)
theorem dX5_expected_1 : decode cX5_expected 1 = .ok (.iload_n 1, 1) := dk_27 (dk_at dksX5_expected_0 1 rfl rfl)
theorem dX5_expected_2 : decode cX5_expected 2 = .ok (.ifCond .lt 8, 3) := dk_155 0 8 (dk_at dksX5_expected_0 2 rfl rfl)
theorem dX5_expected_5 : decode cX5_expected 5 = .ok (.iload_n 2, 1) := dk_28 (dk_at dksX5_expected_0 5 rfl rfl)
theorem dX5_expected_6 : decode cX5_expected 6 = .ok (.iload_n 1, 1) := dk_27 (dk_at dksX5_expected_0 6 rfl rfl)
theorem dX5_expected_7 : decode cX5_expected 7 = .ok (.if_icmp .ge 7, 3) := dk_162 0 7 (dk_at dksX5_expected_0 7 rfl rfl)
theorem dX5_expected_10 : decode cX5_expected 10 = .ok (.iconst 1, 1) := dk_4 (dk_at dksX5_expected_0 10 rfl rfl)
theorem dX5_expected_11 : decode cX5_expected 11 = .ok (.goto 4, 3) := dk_167 0 4 (dk_at dksX5_expected_0 11 rfl rfl)
theorem dX5_expected_14 : decode cX5_expected 14 = .ok (.iconst 0, 1) := dk_3 (dk_at dksX5_expected_0 14 rfl rfl)
theorem dX5_expected_15 : decode cX5_expected 15 = .ok (.putfield 58, 3) := dk_181 0 58 (dk_at dksX5_expected_0 15 rfl rfl)
theorem dX5_expected_18 : decode cX5_expected 18 = .ok (.iconst 0, 1) := dk_3 (dk_at dksX5_expected_0 18 rfl rfl)
theorem dX5_expected_19 : decode cX5_expected 19 = .ok (.istore_n 3, 1) := dk_62 (dk_at dksX5_expected_0 19 rfl rfl)
theorem dX5_expected_20 : decode cX5_expected 20 = .ok (.iconst 0, 1) := dk_3 (dk_at dksX5_expected_0 20 rfl rfl)
theorem dX5_expected_21 : decode cX5_expected 21 = .ok (.istore 4, 2) := dk_54 4 (dk_at dksX5_expected_0 21 rfl rfl)
theorem dX5_expected_23 : decode cX5_expected 23 = .ok (.iload 4, 2) := dk_21 4 (dk_at dksX5_expected_1 0 rfl rfl)
theorem dX5_expected_25 : decode cX5_expected 25 = .ok (.aload_n 0, 1) := dk_42 (dk_at dksX5_expected_1 2 rfl rfl)
theorem dX5_expected_26 : decode cX5_expected 26 = .ok (.getfield 7, 3) := dk_180 0 7 (dk_at dksX5_expected_1 3 rfl rfl)
theorem dX5_expected_29 : decode cX5_expected 29 = .ok (.bipush 7, 2) := dk_16 7 (dk_at dksX5_expected_1 6 rfl rfl)
theorem dX5_expected_31 : decode cX5_expected 31 = .ok (.iaload, 1) := dk_46 (dk_at dksX5_expected_1 8 rfl rfl)
theorem dX5_expected_32 : decode cX5_expected 32 = .ok (.if_icmp .ge 49, 3) := dk_162 0 49 (dk_at dksX5_expected_1 9 rfl rfl)
theorem dX5_expected_35 : decode cX5_expected 35 = .ok (.aload_n 0, 1) := dk_42 (dk_at dksX5_expected_1 12 rfl rfl)
theorem dX5_expected_36 : decode cX5_expected 36 = .ok (.getfield 58, 3) := dk_180 0 58 (dk_at dksX5_expected_1 13 rfl rfl)
theorem dX5_expected_39 : decode cX5_expected 39 = .ok (.ifCond .ne 42, 3) := dk_154 0 42 (dk_at dksX5_expected_1 16 rfl rfl)
theorem dX5_expected_42 : decode cX5_expected 42 = .ok (.iload_n 3, 1) := dk_29 (dk_at dksX5_expected_1 19 rfl rfl)
theorem dX5_expected_43 : decode cX5_expected 43 = .ok (.aload_n 0, 1) := dk_42 (dk_at dksX5_expected_1 20 rfl rfl)
theorem dX5_expected_44 : decode cX5_expected 44 = .ok (.iload 4, 2) := dk_21 4 (dk_at dksX5_expected_1 21 rfl rfl)
theorem dX5_expected_46 : decode cX5_expected 46 = .ok (.invokevirtual 75, 3) := dk_182 0 75 (dk_at dksX5_expected_2 0 rfl rfl)
theorem dX5_expected_49 : decode cX5_expected 49 = .ok (.ifCond .eq 23, 3) := dk_153 0 23 (dk_at dksX5_expected_2 3 rfl rfl)
theorem dX5_expected_52 : decode cX5_expected 52 = .ok (.aload_n 0, 1) := dk_42 (dk_at dksX5_expected_2 6 rfl rfl)
theorem dX5_expected_53 : decode cX5_expected 53 = .ok (.iload 4, 2) := dk_21 4 (dk_at dksX5_expected_2 7 rfl rfl)
theorem dX5_expected_55 : decode cX5_expected 55 = .ok (.bipush 6, 2) := dk_16 6 (dk_at dksX5_expected_2 9 rfl rfl)
theorem dX5_expected_57 : decode cX5_expected 57 = .ok (.invokevirtual 71, 3) := dk_182 0 71 (dk_at dksX5_expected_2 11 rfl rfl)
theorem dX5_expected_60 : decode cX5_expected 60 = .ok (.iload_n 1, 1) := dk_27 (dk_at dksX5_expected_2 14 rfl rfl)
theorem dX5_expected_61 : decode cX5_expected 61 = .ok (.iload_n 2, 1) := dk_28 (dk_at dksX5_expected_2 15 rfl rfl)
theorem dX5_expected_62 : decode cX5_expected 62 = .ok (.invokestatic 179, 3) := dk_184 0 179 (dk_at dksX5_expected_2 16 rfl rfl)
theorem dX5_expected_65 : decode cX5_expected 65 = .ok (.ifCond .eq 7, 3) := dk_153 0 7 (dk_at dksX5_expected_2 19 rfl rfl)
theorem dX5_expected_68 : decode cX5_expected 68 = .ok (.iconst 1, 1) := dk_4 (dk_at dksX5_expected_2 22 rfl rfl)
theorem dX5_expected_69 : decode cX5_expected 69 = .ok (.goto 4, 3) := dk_167 0 4 (dk_at dksX5_expected_3 0 rfl rfl)
theorem dX5_expected_72 : decode cX5_expected 72 = .ok (.iconst 0, 1) := dk_3 (dk_at dksX5_expected_3 3 rfl rfl)
theorem dX5_expected_73 : decode cX5_expected 73 = .ok (.iadd, 1) := dk_96 (dk_at dksX5_expected_3 4 rfl rfl)
theorem dX5_expected_74 : decode cX5_expected 74 = .ok (.istore_n 3, 1) := dk_62 (dk_at dksX5_expected_3 5 rfl rfl)
theorem dX5_expected_75 : decode cX5_expected 75 = .ok (.iinc 4 1, 3) := dk_132 4 1 (dk_at dksX5_expected_3 6 rfl rfl)
theorem dX5_expected_78 : decode cX5_expected 78 = .ok (.goto (-55), 3) := dk_167 255 201 (dk_at dksX5_expected_3 9 rfl rfl)
theorem dX5_expected_81 : decode cX5_expected 81 = .ok (.iload_n 3, 1) := dk_29 (dk_at dksX5_expected_3 12 rfl rfl)
theorem dX5_expected_82 : decode cX5_expected 82 = .ok (.ireturn, 1) := dk_172 (dk_at dksX5_expected_3 13 rfl rfl)
abbrev cX5_nextFate : ByteArray := prog_14_method_74_code
def yX5_nextFate : MethodName := ⟨RX5, "nextFate", "()I"⟩
def dkwX5_nextFate_3 : List UInt8 := [27, 162, 0, 7, 29, 167, 0, 4, 27, 60, 132, 2, 1, 167, 255, 183, 27, 172]
abbrev dktX5_nextFate_3 : List UInt8 := dkwX5_nextFate_3 ++ []
def dkwX5_nextFate_2 : List UInt8 := [182, 0, 71, 158, 0, 7, 4, 167, 0, 4, 3, 54, 4, 21, 4, 153, 0, 17, 27, 2, 159, 0, 8, 29]
abbrev dktX5_nextFate_2 : List UInt8 := dkwX5_nextFate_2 ++ dktX5_nextFate_3
def dkwX5_nextFate_1 : List UInt8 := [182, 0, 71, 42, 28, 5, 182, 0, 71, 96, 62, 42, 28, 182, 0, 75, 153, 0, 16, 42, 28, 5]
abbrev dktX5_nextFate_1 : List UInt8 := dkwX5_nextFate_1 ++ dktX5_nextFate_2
def dkwX5_nextFate_0 : List UInt8 := [42, 3, 181, 0, 58, 2, 60, 3, 61, 28, 42, 180, 0, 7, 16, 7, 46, 162, 0, 68, 42, 28, 6]
abbrev dktX5_nextFate_0 : List UInt8 := dkwX5_nextFate_0 ++ dktX5_nextFate_1
theorem dksX5_nextFate_0 : cX5_nextFate.data.toList.drop 0 = dktX5_nextFate_0 := by decide +kernel
theorem dksX5_nextFate_1 : cX5_nextFate.data.toList.drop 23 = dktX5_nextFate_1 := dk_seg dksX5_nextFate_0 23 rfl rfl
theorem dksX5_nextFate_2 : cX5_nextFate.data.toList.drop 45 = dktX5_nextFate_2 := dk_seg dksX5_nextFate_1 22 rfl rfl
theorem dksX5_nextFate_3 : cX5_nextFate.data.toList.drop 69 = dktX5_nextFate_3 := dk_seg dksX5_nextFate_2 24 rfl rfl
theorem dX5_nextFate_0 : decode cX5_nextFate 0 = .ok (.aload_n 0, 1) := dk_42 (dk_at dksX5_nextFate_0 0 rfl rfl)
theorem dX5_nextFate_1 : decode cX5_nextFate 1 = .ok (.iconst 0, 1) := dk_3 (dk_at dksX5_nextFate_0 1 rfl rfl)
theorem dX5_nextFate_2 : decode cX5_nextFate 2 = .ok (.putfield 58, 3) := dk_181 0 58 (dk_at dksX5_nextFate_0 2 rfl rfl)
theorem dX5_nextFate_5 : decode cX5_nextFate 5 = .ok (.iconst (-1), 1) := dk_2 (dk_at dksX5_nextFate_0 5 rfl rfl)
theorem dX5_nextFate_6 : decode cX5_nextFate 6 = .ok (.istore_n 1, 1) := dk_60 (dk_at dksX5_nextFate_0 6 rfl rfl)
theorem dX5_nextFate_7 : decode cX5_nextFate 7 = .ok (.iconst 0, 1) := dk_3 (dk_at dksX5_nextFate_0 7 rfl rfl)
theorem dX5_nextFate_8 : decode cX5_nextFate 8 = .ok (.istore_n 2, 1) := dk_61 (dk_at dksX5_nextFate_0 8 rfl rfl)
theorem dX5_nextFate_9 : decode cX5_nextFate 9 = .ok (.iload_n 2, 1) := dk_28 (dk_at dksX5_nextFate_0 9 rfl rfl)
theorem dX5_nextFate_10 : decode cX5_nextFate 10 = .ok (.aload_n 0, 1) := dk_42 (dk_at dksX5_nextFate_0 10 rfl rfl)
theorem dX5_nextFate_11 : decode cX5_nextFate 11 = .ok (.getfield 7, 3) := dk_180 0 7 (dk_at dksX5_nextFate_0 11 rfl rfl)
theorem dX5_nextFate_14 : decode cX5_nextFate 14 = .ok (.bipush 7, 2) := dk_16 7 (dk_at dksX5_nextFate_0 14 rfl rfl)
theorem dX5_nextFate_16 : decode cX5_nextFate 16 = .ok (.iaload, 1) := dk_46 (dk_at dksX5_nextFate_0 16 rfl rfl)
theorem dX5_nextFate_17 : decode cX5_nextFate 17 = .ok (.if_icmp .ge 68, 3) := dk_162 0 68 (dk_at dksX5_nextFate_0 17 rfl rfl)
theorem dX5_nextFate_20 : decode cX5_nextFate 20 = .ok (.aload_n 0, 1) := dk_42 (dk_at dksX5_nextFate_0 20 rfl rfl)
theorem dX5_nextFate_21 : decode cX5_nextFate 21 = .ok (.iload_n 2, 1) := dk_28 (dk_at dksX5_nextFate_0 21 rfl rfl)
theorem dX5_nextFate_22 : decode cX5_nextFate 22 = .ok (.iconst 3, 1) := dk_6 (dk_at dksX5_nextFate_0 22 rfl rfl)
theorem dX5_nextFate_23 : decode cX5_nextFate 23 = .ok (.invokevirtual 71, 3) := dk_182 0 71 (dk_at dksX5_nextFate_1 0 rfl rfl)
theorem dX5_nextFate_26 : decode cX5_nextFate 26 = .ok (.aload_n 0, 1) := dk_42 (dk_at dksX5_nextFate_1 3 rfl rfl)
theorem dX5_nextFate_27 : decode cX5_nextFate 27 = .ok (.iload_n 2, 1) := dk_28 (dk_at dksX5_nextFate_1 4 rfl rfl)
theorem dX5_nextFate_28 : decode cX5_nextFate 28 = .ok (.iconst 2, 1) := dk_5 (dk_at dksX5_nextFate_1 5 rfl rfl)
theorem dX5_nextFate_29 : decode cX5_nextFate 29 = .ok (.invokevirtual 71, 3) := dk_182 0 71 (dk_at dksX5_nextFate_1 6 rfl rfl)
theorem dX5_nextFate_32 : decode cX5_nextFate 32 = .ok (.iadd, 1) := dk_96 (dk_at dksX5_nextFate_1 9 rfl rfl)
theorem dX5_nextFate_33 : decode cX5_nextFate 33 = .ok (.istore_n 3, 1) := dk_62 (dk_at dksX5_nextFate_1 10 rfl rfl)
theorem dX5_nextFate_34 : decode cX5_nextFate 34 = .ok (.aload_n 0, 1) := dk_42 (dk_at dksX5_nextFate_1 11 rfl rfl)
theorem dX5_nextFate_35 : decode cX5_nextFate 35 = .ok (.iload_n 2, 1) := dk_28 (dk_at dksX5_nextFate_1 12 rfl rfl)
theorem dX5_nextFate_36 : decode cX5_nextFate 36 = .ok (.invokevirtual 75, 3) := dk_182 0 75 (dk_at dksX5_nextFate_1 13 rfl rfl)
theorem dX5_nextFate_39 : decode cX5_nextFate 39 = .ok (.ifCond .eq 16, 3) := dk_153 0 16 (dk_at dksX5_nextFate_1 16 rfl rfl)
theorem dX5_nextFate_42 : decode cX5_nextFate 42 = .ok (.aload_n 0, 1) := dk_42 (dk_at dksX5_nextFate_1 19 rfl rfl)
theorem dX5_nextFate_43 : decode cX5_nextFate 43 = .ok (.iload_n 2, 1) := dk_28 (dk_at dksX5_nextFate_1 20 rfl rfl)
theorem dX5_nextFate_44 : decode cX5_nextFate 44 = .ok (.iconst 2, 1) := dk_5 (dk_at dksX5_nextFate_1 21 rfl rfl)
theorem dX5_nextFate_45 : decode cX5_nextFate 45 = .ok (.invokevirtual 71, 3) := dk_182 0 71 (dk_at dksX5_nextFate_2 0 rfl rfl)
theorem dX5_nextFate_48 : decode cX5_nextFate 48 = .ok (.ifCond .le 7, 3) := dk_158 0 7 (dk_at dksX5_nextFate_2 3 rfl rfl)
theorem dX5_nextFate_51 : decode cX5_nextFate 51 = .ok (.iconst 1, 1) := dk_4 (dk_at dksX5_nextFate_2 6 rfl rfl)
theorem dX5_nextFate_52 : decode cX5_nextFate 52 = .ok (.goto 4, 3) := dk_167 0 4 (dk_at dksX5_nextFate_2 7 rfl rfl)
theorem dX5_nextFate_55 : decode cX5_nextFate 55 = .ok (.iconst 0, 1) := dk_3 (dk_at dksX5_nextFate_2 10 rfl rfl)
theorem dX5_nextFate_56 : decode cX5_nextFate 56 = .ok (.istore 4, 2) := dk_54 4 (dk_at dksX5_nextFate_2 11 rfl rfl)
theorem dX5_nextFate_58 : decode cX5_nextFate 58 = .ok (.iload 4, 2) := dk_21 4 (dk_at dksX5_nextFate_2 13 rfl rfl)
theorem dX5_nextFate_60 : decode cX5_nextFate 60 = .ok (.ifCond .eq 17, 3) := dk_153 0 17 (dk_at dksX5_nextFate_2 15 rfl rfl)
theorem dX5_nextFate_63 : decode cX5_nextFate 63 = .ok (.iload_n 1, 1) := dk_27 (dk_at dksX5_nextFate_2 18 rfl rfl)
theorem dX5_nextFate_64 : decode cX5_nextFate 64 = .ok (.iconst (-1), 1) := dk_2 (dk_at dksX5_nextFate_2 19 rfl rfl)
theorem dX5_nextFate_65 : decode cX5_nextFate 65 = .ok (.if_icmp .eq 8, 3) := dk_159 0 8 (dk_at dksX5_nextFate_2 20 rfl rfl)
theorem dX5_nextFate_68 : decode cX5_nextFate 68 = .ok (.iload_n 3, 1) := dk_29 (dk_at dksX5_nextFate_2 23 rfl rfl)
theorem dX5_nextFate_69 : decode cX5_nextFate 69 = .ok (.iload_n 1, 1) := dk_27 (dk_at dksX5_nextFate_3 0 rfl rfl)
theorem dX5_nextFate_70 : decode cX5_nextFate 70 = .ok (.if_icmp .ge 7, 3) := dk_162 0 7 (dk_at dksX5_nextFate_3 1 rfl rfl)
theorem dX5_nextFate_73 : decode cX5_nextFate 73 = .ok (.iload_n 3, 1) := dk_29 (dk_at dksX5_nextFate_3 4 rfl rfl)
theorem dX5_nextFate_74 : decode cX5_nextFate 74 = .ok (.goto 4, 3) := dk_167 0 4 (dk_at dksX5_nextFate_3 5 rfl rfl)
theorem dX5_nextFate_77 : decode cX5_nextFate 77 = .ok (.iload_n 1, 1) := dk_27 (dk_at dksX5_nextFate_3 8 rfl rfl)
theorem dX5_nextFate_78 : decode cX5_nextFate 78 = .ok (.istore_n 1, 1) := dk_60 (dk_at dksX5_nextFate_3 9 rfl rfl)
theorem dX5_nextFate_79 : decode cX5_nextFate 79 = .ok (.iinc 2 1, 3) := dk_132 2 1 (dk_at dksX5_nextFate_3 10 rfl rfl)
theorem dX5_nextFate_82 : decode cX5_nextFate 82 = .ok (.goto (-73), 3) := dk_167 255 183 (dk_at dksX5_nextFate_3 13 rfl rfl)
theorem dX5_nextFate_85 : decode cX5_nextFate 85 = .ok (.iload_n 1, 1) := dk_27 (dk_at dksX5_nextFate_3 16 rfl rfl)
theorem dX5_nextFate_86 : decode cX5_nextFate 86 = .ok (.ireturn, 1) := dk_172 (dk_at dksX5_nextFate_3 17 rfl rfl)
abbrev cX5_gap : ByteArray := prog_14_method_75_code
def yX5_gap : MethodName := ⟨RX5, "gap", "(I)I"⟩
def dkwX5_gap_3 : List UInt8 := [42, 180, 0, 7, 3, 184, 0, 110, 28, 29, 100, 172]
abbrev dktX5_gap_3 : List UInt8 := dkwX5_gap_3 ++ []
def dkwX5_gap_2 : List UInt8 := [180, 0, 7, 3, 184, 0, 110, 42, 16, 6, 182, 0, 223, 42, 27, 182, 0, 226, 62, 42, 180, 0, 13, 3]
abbrev dktX5_gap_2 : List UInt8 := dkwX5_gap_2 ++ dktX5_gap_3
def dkwX5_gap_1 : List UInt8 := [158, 0, 5, 3, 172, 42, 8, 182, 0, 223, 42, 27, 182, 0, 226, 61, 42, 180, 0, 13, 3, 42]
abbrev dktX5_gap_1 : List UInt8 := dkwX5_gap_1 ++ dktX5_gap_2
def dkwX5_gap_0 : List UInt8 := [42, 27, 3, 5, 184, 0, 179, 153, 0, 7, 3, 167, 0, 4, 4, 181, 0, 58, 42, 180, 0, 58]
abbrev dktX5_gap_0 : List UInt8 := dkwX5_gap_0 ++ dktX5_gap_1
theorem dksX5_gap_0 : cX5_gap.data.toList.drop 0 = dktX5_gap_0 := by decide +kernel
theorem dksX5_gap_1 : cX5_gap.data.toList.drop 22 = dktX5_gap_1 := dk_seg dksX5_gap_0 22 rfl rfl
theorem dksX5_gap_2 : cX5_gap.data.toList.drop 44 = dktX5_gap_2 := dk_seg dksX5_gap_1 22 rfl rfl
theorem dksX5_gap_3 : cX5_gap.data.toList.drop 68 = dktX5_gap_3 := dk_seg dksX5_gap_2 24 rfl rfl
theorem dX5_gap_0 : decode cX5_gap 0 = .ok (.aload_n 0, 1) := dk_42 (dk_at dksX5_gap_0 0 rfl rfl)
theorem dX5_gap_1 : decode cX5_gap 1 = .ok (.iload_n 1, 1) := dk_27 (dk_at dksX5_gap_0 1 rfl rfl)
theorem dX5_gap_2 : decode cX5_gap 2 = .ok (.iconst 0, 1) := dk_3 (dk_at dksX5_gap_0 2 rfl rfl)
theorem dX5_gap_3 : decode cX5_gap 3 = .ok (.iconst 2, 1) := dk_5 (dk_at dksX5_gap_0 3 rfl rfl)
theorem dX5_gap_4 : decode cX5_gap 4 = .ok (.invokestatic 179, 3) := dk_184 0 179 (dk_at dksX5_gap_0 4 rfl rfl)
theorem dX5_gap_7 : decode cX5_gap 7 = .ok (.ifCond .eq 7, 3) := dk_153 0 7 (dk_at dksX5_gap_0 7 rfl rfl)
theorem dX5_gap_10 : decode cX5_gap 10 = .ok (.iconst 0, 1) := dk_3 (dk_at dksX5_gap_0 10 rfl rfl)
theorem dX5_gap_11 : decode cX5_gap 11 = .ok (.goto 4, 3) := dk_167 0 4 (dk_at dksX5_gap_0 11 rfl rfl)
theorem dX5_gap_14 : decode cX5_gap 14 = .ok (.iconst 1, 1) := dk_4 (dk_at dksX5_gap_0 14 rfl rfl)
theorem dX5_gap_15 : decode cX5_gap 15 = .ok (.putfield 58, 3) := dk_181 0 58 (dk_at dksX5_gap_0 15 rfl rfl)
theorem dX5_gap_18 : decode cX5_gap 18 = .ok (.aload_n 0, 1) := dk_42 (dk_at dksX5_gap_0 18 rfl rfl)
theorem dX5_gap_19 : decode cX5_gap 19 = .ok (.getfield 58, 3) := dk_180 0 58 (dk_at dksX5_gap_0 19 rfl rfl)
theorem dX5_gap_22 : decode cX5_gap 22 = .ok (.ifCond .le 5, 3) := dk_158 0 5 (dk_at dksX5_gap_1 0 rfl rfl)
theorem dX5_gap_25 : decode cX5_gap 25 = .ok (.iconst 0, 1) := dk_3 (dk_at dksX5_gap_1 3 rfl rfl)
theorem dX5_gap_26 : decode cX5_gap 26 = .ok (.ireturn, 1) := dk_172 (dk_at dksX5_gap_1 4 rfl rfl)
theorem dX5_gap_27 : decode cX5_gap 27 = .ok (.aload_n 0, 1) := dk_42 (dk_at dksX5_gap_1 5 rfl rfl)
theorem dX5_gap_28 : decode cX5_gap 28 = .ok (.iconst 5, 1) := dk_8 (dk_at dksX5_gap_1 6 rfl rfl)
theorem dX5_gap_29 : decode cX5_gap 29 = .ok (.invokevirtual 223, 3) := dk_182 0 223 (dk_at dksX5_gap_1 7 rfl rfl)
theorem dX5_gap_32 : decode cX5_gap 32 = .ok (.aload_n 0, 1) := dk_42 (dk_at dksX5_gap_1 10 rfl rfl)
theorem dX5_gap_33 : decode cX5_gap 33 = .ok (.iload_n 1, 1) := dk_27 (dk_at dksX5_gap_1 11 rfl rfl)
theorem dX5_gap_34 : decode cX5_gap 34 = .ok (.invokevirtual 226, 3) := dk_182 0 226 (dk_at dksX5_gap_1 12 rfl rfl)
theorem dX5_gap_37 : decode cX5_gap 37 = .ok (.istore_n 2, 1) := dk_61 (dk_at dksX5_gap_1 15 rfl rfl)
theorem dX5_gap_38 : decode cX5_gap 38 = .ok (.aload_n 0, 1) := dk_42 (dk_at dksX5_gap_1 16 rfl rfl)
theorem dX5_gap_39 : decode cX5_gap 39 = .ok (.getfield 13, 3) := dk_180 0 13 (dk_at dksX5_gap_1 17 rfl rfl)
theorem dX5_gap_42 : decode cX5_gap 42 = .ok (.iconst 0, 1) := dk_3 (dk_at dksX5_gap_1 20 rfl rfl)
theorem dX5_gap_43 : decode cX5_gap 43 = .ok (.aload_n 0, 1) := dk_42 (dk_at dksX5_gap_1 21 rfl rfl)
theorem dX5_gap_44 : decode cX5_gap 44 = .ok (.getfield 7, 3) := dk_180 0 7 (dk_at dksX5_gap_2 0 rfl rfl)
theorem dX5_gap_47 : decode cX5_gap 47 = .ok (.iconst 0, 1) := dk_3 (dk_at dksX5_gap_2 3 rfl rfl)
theorem dX5_gap_48 : decode cX5_gap 48 = .ok (.invokestatic 110, 3) := dk_184 0 110 (dk_at dksX5_gap_2 4 rfl rfl)
theorem dX5_gap_51 : decode cX5_gap 51 = .ok (.aload_n 0, 1) := dk_42 (dk_at dksX5_gap_2 7 rfl rfl)
theorem dX5_gap_52 : decode cX5_gap 52 = .ok (.bipush 6, 2) := dk_16 6 (dk_at dksX5_gap_2 8 rfl rfl)
theorem dX5_gap_54 : decode cX5_gap 54 = .ok (.invokevirtual 223, 3) := dk_182 0 223 (dk_at dksX5_gap_2 10 rfl rfl)
theorem dX5_gap_57 : decode cX5_gap 57 = .ok (.aload_n 0, 1) := dk_42 (dk_at dksX5_gap_2 13 rfl rfl)
theorem dX5_gap_58 : decode cX5_gap 58 = .ok (.iload_n 1, 1) := dk_27 (dk_at dksX5_gap_2 14 rfl rfl)
theorem dX5_gap_59 : decode cX5_gap 59 = .ok (.invokevirtual 226, 3) := dk_182 0 226 (dk_at dksX5_gap_2 15 rfl rfl)
theorem dX5_gap_62 : decode cX5_gap 62 = .ok (.istore_n 3, 1) := dk_62 (dk_at dksX5_gap_2 18 rfl rfl)
theorem dX5_gap_63 : decode cX5_gap 63 = .ok (.aload_n 0, 1) := dk_42 (dk_at dksX5_gap_2 19 rfl rfl)
theorem dX5_gap_64 : decode cX5_gap 64 = .ok (.getfield 13, 3) := dk_180 0 13 (dk_at dksX5_gap_2 20 rfl rfl)
theorem dX5_gap_67 : decode cX5_gap 67 = .ok (.iconst 0, 1) := dk_3 (dk_at dksX5_gap_2 23 rfl rfl)
theorem dX5_gap_68 : decode cX5_gap 68 = .ok (.aload_n 0, 1) := dk_42 (dk_at dksX5_gap_3 0 rfl rfl)
theorem dX5_gap_69 : decode cX5_gap 69 = .ok (.getfield 7, 3) := dk_180 0 7 (dk_at dksX5_gap_3 1 rfl rfl)
theorem dX5_gap_72 : decode cX5_gap 72 = .ok (.iconst 0, 1) := dk_3 (dk_at dksX5_gap_3 4 rfl rfl)
theorem dX5_gap_73 : decode cX5_gap 73 = .ok (.invokestatic 110, 3) := dk_184 0 110 (dk_at dksX5_gap_3 5 rfl rfl)
theorem dX5_gap_76 : decode cX5_gap 76 = .ok (.iload_n 2, 1) := dk_28 (dk_at dksX5_gap_3 8 rfl rfl)
theorem dX5_gap_77 : decode cX5_gap 77 = .ok (.iload_n 3, 1) := dk_29 (dk_at dksX5_gap_3 9 rfl rfl)
theorem dX5_gap_78 : decode cX5_gap 78 = .ok (.isub, 1) := dk_100 (dk_at dksX5_gap_3 10 rfl rfl)
theorem dX5_gap_79 : decode cX5_gap 79 = .ok (.ireturn, 1) := dk_172 (dk_at dksX5_gap_3 11 rfl rfl)
abbrev cX5_livesAnew : ByteArray := prog_14_method_92_code
def yX5_livesAnew : MethodName := ⟨RX5, "livesAnew", "(I)V"⟩
def dkwX5_livesAnew_8 : List UInt8 := [167, 0, 4, 3, 96, 181, 0, 250, 132, 3, 1, 167, 255, 91, 42, 8, 181, 0, 32, 177]
abbrev dktX5_livesAnew_8 : List UInt8 := dkwX5_livesAnew_8 ++ []
def dkwX5_livesAnew_7 : List UInt8 := [180, 0, 13, 21, 4, 4, 96, 46, 182, 0, 176, 42, 89, 180, 0, 250, 21, 5, 158, 0, 7, 4]
abbrev dktX5_livesAnew_7 : List UInt8 := dkwX5_livesAnew_7 ++ dktX5_livesAnew_8
def dkwX5_livesAnew_6 : List UInt8 := [167, 0, 34, 42, 42, 180, 0, 13, 21, 4, 4, 96, 46, 182, 1, 6, 54, 5, 167, 0, 16, 42, 42]
abbrev dktX5_livesAnew_6 : List UInt8 := dkwX5_livesAnew_6 ++ dktX5_livesAnew_7
def dkwX5_livesAnew_5 : List UInt8 := [46, 182, 1, 0, 54, 5, 167, 0, 52, 42, 42, 180, 0, 13, 21, 4, 4, 96, 46, 182, 1, 3, 54, 5]
abbrev dktX5_livesAnew_5 : List UInt8 := dkwX5_livesAnew_5 ++ dktX5_livesAnew_6
def dkwX5_livesAnew_4 : List UInt8 := [42, 21, 4, 28, 182, 0, 253, 54, 5, 132, 2, 1, 167, 0, 70, 42, 42, 180, 0, 13, 21, 4, 4, 96]
abbrev dktX5_livesAnew_4 : List UInt8 := dkwX5_livesAnew_4 ++ dktX5_livesAnew_5
def dkwX5_livesAnew_3 : List UInt8 := [170, 0, 0, 0, 0, 0, 100, 0, 0, 0, 0, 0, 0, 0, 3, 0, 0, 0, 31, 0, 0, 0, 46, 0, 0, 0, 64, 0, 0, 0, 82]
abbrev dktX5_livesAnew_3 : List UInt8 := dkwX5_livesAnew_3 ++ dktX5_livesAnew_4
def dkwX5_livesAnew_2 : List UInt8 := [96, 54, 4, 3, 54, 5, 42, 180, 0, 13, 21, 4, 46]
abbrev dktX5_livesAnew_2 : List UInt8 := dkwX5_livesAnew_2 ++ dktX5_livesAnew_3
def dkwX5_livesAnew_1 : List UInt8 := [181, 0, 250, 3, 61, 3, 62, 29, 42, 180, 0, 13, 16, 11, 46, 162, 0, 160, 17, 7, 70, 7, 29, 104]
abbrev dktX5_livesAnew_1 : List UInt8 := dkwX5_livesAnew_1 ++ dktX5_livesAnew_2
def dkwX5_livesAnew_0 : List UInt8 := [42, 180, 0, 7, 3, 42, 180, 0, 13, 3, 184, 0, 110, 42, 27, 181, 0, 32, 42, 182, 0, 55, 42, 3]
abbrev dktX5_livesAnew_0 : List UInt8 := dkwX5_livesAnew_0 ++ dktX5_livesAnew_1
theorem dksX5_livesAnew_0 : cX5_livesAnew.data.toList.drop 0 = dktX5_livesAnew_0 := by decide +kernel
theorem dksX5_livesAnew_1 : cX5_livesAnew.data.toList.drop 24 = dktX5_livesAnew_1 := dk_seg dksX5_livesAnew_0 24 rfl rfl
theorem dksX5_livesAnew_2 : cX5_livesAnew.data.toList.drop 48 = dktX5_livesAnew_2 := dk_seg dksX5_livesAnew_1 24 rfl rfl
theorem dksX5_livesAnew_3 : cX5_livesAnew.data.toList.drop 61 = dktX5_livesAnew_3 := dk_seg dksX5_livesAnew_2 13 rfl rfl
theorem dksX5_livesAnew_4 : cX5_livesAnew.data.toList.drop 92 = dktX5_livesAnew_4 := dk_seg dksX5_livesAnew_3 31 rfl rfl
theorem dksX5_livesAnew_5 : cX5_livesAnew.data.toList.drop 116 = dktX5_livesAnew_5 := dk_seg dksX5_livesAnew_4 24 rfl rfl
theorem dksX5_livesAnew_6 : cX5_livesAnew.data.toList.drop 140 = dktX5_livesAnew_6 := dk_seg dksX5_livesAnew_5 24 rfl rfl
theorem dksX5_livesAnew_7 : cX5_livesAnew.data.toList.drop 163 = dktX5_livesAnew_7 := dk_seg dksX5_livesAnew_6 23 rfl rfl
theorem dksX5_livesAnew_8 : cX5_livesAnew.data.toList.drop 185 = dktX5_livesAnew_8 := dk_seg dksX5_livesAnew_7 22 rfl rfl
theorem dX5_livesAnew_0 : decode cX5_livesAnew 0 = .ok (.aload_n 0, 1) := dk_42 (dk_at dksX5_livesAnew_0 0 rfl rfl)
theorem dX5_livesAnew_1 : decode cX5_livesAnew 1 = .ok (.getfield 7, 3) := dk_180 0 7 (dk_at dksX5_livesAnew_0 1 rfl rfl)
theorem dX5_livesAnew_4 : decode cX5_livesAnew 4 = .ok (.iconst 0, 1) := dk_3 (dk_at dksX5_livesAnew_0 4 rfl rfl)
theorem dX5_livesAnew_5 : decode cX5_livesAnew 5 = .ok (.aload_n 0, 1) := dk_42 (dk_at dksX5_livesAnew_0 5 rfl rfl)
theorem dX5_livesAnew_6 : decode cX5_livesAnew 6 = .ok (.getfield 13, 3) := dk_180 0 13 (dk_at dksX5_livesAnew_0 6 rfl rfl)
theorem dX5_livesAnew_9 : decode cX5_livesAnew 9 = .ok (.iconst 0, 1) := dk_3 (dk_at dksX5_livesAnew_0 9 rfl rfl)
theorem dX5_livesAnew_10 : decode cX5_livesAnew 10 = .ok (.invokestatic 110, 3) := dk_184 0 110 (dk_at dksX5_livesAnew_0 10 rfl rfl)
theorem dX5_livesAnew_13 : decode cX5_livesAnew 13 = .ok (.aload_n 0, 1) := dk_42 (dk_at dksX5_livesAnew_0 13 rfl rfl)
theorem dX5_livesAnew_14 : decode cX5_livesAnew 14 = .ok (.iload_n 1, 1) := dk_27 (dk_at dksX5_livesAnew_0 14 rfl rfl)
theorem dX5_livesAnew_15 : decode cX5_livesAnew 15 = .ok (.putfield 32, 3) := dk_181 0 32 (dk_at dksX5_livesAnew_0 15 rfl rfl)
theorem dX5_livesAnew_18 : decode cX5_livesAnew 18 = .ok (.aload_n 0, 1) := dk_42 (dk_at dksX5_livesAnew_0 18 rfl rfl)
theorem dX5_livesAnew_19 : decode cX5_livesAnew 19 = .ok (.invokevirtual 55, 3) := dk_182 0 55 (dk_at dksX5_livesAnew_0 19 rfl rfl)
theorem dX5_livesAnew_22 : decode cX5_livesAnew 22 = .ok (.aload_n 0, 1) := dk_42 (dk_at dksX5_livesAnew_0 22 rfl rfl)
theorem dX5_livesAnew_23 : decode cX5_livesAnew 23 = .ok (.iconst 0, 1) := dk_3 (dk_at dksX5_livesAnew_0 23 rfl rfl)
theorem dX5_livesAnew_24 : decode cX5_livesAnew 24 = .ok (.putfield 250, 3) := dk_181 0 250 (dk_at dksX5_livesAnew_1 0 rfl rfl)
theorem dX5_livesAnew_27 : decode cX5_livesAnew 27 = .ok (.iconst 0, 1) := dk_3 (dk_at dksX5_livesAnew_1 3 rfl rfl)
theorem dX5_livesAnew_28 : decode cX5_livesAnew 28 = .ok (.istore_n 2, 1) := dk_61 (dk_at dksX5_livesAnew_1 4 rfl rfl)
theorem dX5_livesAnew_29 : decode cX5_livesAnew 29 = .ok (.iconst 0, 1) := dk_3 (dk_at dksX5_livesAnew_1 5 rfl rfl)
theorem dX5_livesAnew_30 : decode cX5_livesAnew 30 = .ok (.istore_n 3, 1) := dk_62 (dk_at dksX5_livesAnew_1 6 rfl rfl)
theorem dX5_livesAnew_31 : decode cX5_livesAnew 31 = .ok (.iload_n 3, 1) := dk_29 (dk_at dksX5_livesAnew_1 7 rfl rfl)
theorem dX5_livesAnew_32 : decode cX5_livesAnew 32 = .ok (.aload_n 0, 1) := dk_42 (dk_at dksX5_livesAnew_1 8 rfl rfl)
theorem dX5_livesAnew_33 : decode cX5_livesAnew 33 = .ok (.getfield 13, 3) := dk_180 0 13 (dk_at dksX5_livesAnew_1 9 rfl rfl)
theorem dX5_livesAnew_36 : decode cX5_livesAnew 36 = .ok (.bipush 11, 2) := dk_16 11 (dk_at dksX5_livesAnew_1 12 rfl rfl)
theorem dX5_livesAnew_38 : decode cX5_livesAnew 38 = .ok (.iaload, 1) := dk_46 (dk_at dksX5_livesAnew_1 14 rfl rfl)
theorem dX5_livesAnew_39 : decode cX5_livesAnew 39 = .ok (.if_icmp .ge 160, 3) := dk_162 0 160 (dk_at dksX5_livesAnew_1 15 rfl rfl)
theorem dX5_livesAnew_42 : decode cX5_livesAnew 42 = .ok (.sipush 1862, 3) := dk_17 7 70 (dk_at dksX5_livesAnew_1 18 rfl rfl)
theorem dX5_livesAnew_45 : decode cX5_livesAnew 45 = .ok (.iconst 4, 1) := dk_7 (dk_at dksX5_livesAnew_1 21 rfl rfl)
theorem dX5_livesAnew_46 : decode cX5_livesAnew 46 = .ok (.iload_n 3, 1) := dk_29 (dk_at dksX5_livesAnew_1 22 rfl rfl)
theorem dX5_livesAnew_47 : decode cX5_livesAnew 47 = .ok (.imul, 1) := dk_104 (dk_at dksX5_livesAnew_1 23 rfl rfl)
theorem dX5_livesAnew_48 : decode cX5_livesAnew 48 = .ok (.iadd, 1) := dk_96 (dk_at dksX5_livesAnew_2 0 rfl rfl)
theorem dX5_livesAnew_49 : decode cX5_livesAnew 49 = .ok (.istore 4, 2) := dk_54 4 (dk_at dksX5_livesAnew_2 1 rfl rfl)
theorem dX5_livesAnew_51 : decode cX5_livesAnew 51 = .ok (.iconst 0, 1) := dk_3 (dk_at dksX5_livesAnew_2 3 rfl rfl)
theorem dX5_livesAnew_52 : decode cX5_livesAnew 52 = .ok (.istore 5, 2) := dk_54 5 (dk_at dksX5_livesAnew_2 4 rfl rfl)
theorem dX5_livesAnew_54 : decode cX5_livesAnew 54 = .ok (.aload_n 0, 1) := dk_42 (dk_at dksX5_livesAnew_2 6 rfl rfl)
theorem dX5_livesAnew_55 : decode cX5_livesAnew 55 = .ok (.getfield 13, 3) := dk_180 0 13 (dk_at dksX5_livesAnew_2 7 rfl rfl)
theorem dX5_livesAnew_58 : decode cX5_livesAnew 58 = .ok (.iload 4, 2) := dk_21 4 (dk_at dksX5_livesAnew_2 10 rfl rfl)
theorem dX5_livesAnew_60 : decode cX5_livesAnew 60 = .ok (.iaload, 1) := dk_46 (dk_at dksX5_livesAnew_2 12 rfl rfl)
theorem dX5_livesAnew_61 : decode cX5_livesAnew 61 = .ok (.tableswitch 100 0 3 #[31, 46, 64, 82], 31) := by decide +kernel
theorem dX5_livesAnew_92 : decode cX5_livesAnew 92 = .ok (.aload_n 0, 1) := dk_42 (dk_at dksX5_livesAnew_4 0 rfl rfl)
theorem dX5_livesAnew_93 : decode cX5_livesAnew 93 = .ok (.iload 4, 2) := dk_21 4 (dk_at dksX5_livesAnew_4 1 rfl rfl)
theorem dX5_livesAnew_95 : decode cX5_livesAnew 95 = .ok (.iload_n 2, 1) := dk_28 (dk_at dksX5_livesAnew_4 3 rfl rfl)
theorem dX5_livesAnew_96 : decode cX5_livesAnew 96 = .ok (.invokevirtual 253, 3) := dk_182 0 253 (dk_at dksX5_livesAnew_4 4 rfl rfl)
theorem dX5_livesAnew_99 : decode cX5_livesAnew 99 = .ok (.istore 5, 2) := dk_54 5 (dk_at dksX5_livesAnew_4 7 rfl rfl)
theorem dX5_livesAnew_101 : decode cX5_livesAnew 101 = .ok (.iinc 2 1, 3) := dk_132 2 1 (dk_at dksX5_livesAnew_4 9 rfl rfl)
theorem dX5_livesAnew_104 : decode cX5_livesAnew 104 = .ok (.goto 70, 3) := dk_167 0 70 (dk_at dksX5_livesAnew_4 12 rfl rfl)
theorem dX5_livesAnew_107 : decode cX5_livesAnew 107 = .ok (.aload_n 0, 1) := dk_42 (dk_at dksX5_livesAnew_4 15 rfl rfl)
theorem dX5_livesAnew_108 : decode cX5_livesAnew 108 = .ok (.aload_n 0, 1) := dk_42 (dk_at dksX5_livesAnew_4 16 rfl rfl)
theorem dX5_livesAnew_109 : decode cX5_livesAnew 109 = .ok (.getfield 13, 3) := dk_180 0 13 (dk_at dksX5_livesAnew_4 17 rfl rfl)
theorem dX5_livesAnew_112 : decode cX5_livesAnew 112 = .ok (.iload 4, 2) := dk_21 4 (dk_at dksX5_livesAnew_4 20 rfl rfl)
theorem dX5_livesAnew_114 : decode cX5_livesAnew 114 = .ok (.iconst 1, 1) := dk_4 (dk_at dksX5_livesAnew_4 22 rfl rfl)
theorem dX5_livesAnew_115 : decode cX5_livesAnew 115 = .ok (.iadd, 1) := dk_96 (dk_at dksX5_livesAnew_4 23 rfl rfl)
theorem dX5_livesAnew_116 : decode cX5_livesAnew 116 = .ok (.iaload, 1) := dk_46 (dk_at dksX5_livesAnew_5 0 rfl rfl)
theorem dX5_livesAnew_117 : decode cX5_livesAnew 117 = .ok (.invokevirtual 256, 3) := dk_182 1 0 (dk_at dksX5_livesAnew_5 1 rfl rfl)
theorem dX5_livesAnew_120 : decode cX5_livesAnew 120 = .ok (.istore 5, 2) := dk_54 5 (dk_at dksX5_livesAnew_5 4 rfl rfl)
theorem dX5_livesAnew_122 : decode cX5_livesAnew 122 = .ok (.goto 52, 3) := dk_167 0 52 (dk_at dksX5_livesAnew_5 6 rfl rfl)
theorem dX5_livesAnew_125 : decode cX5_livesAnew 125 = .ok (.aload_n 0, 1) := dk_42 (dk_at dksX5_livesAnew_5 9 rfl rfl)
theorem dX5_livesAnew_126 : decode cX5_livesAnew 126 = .ok (.aload_n 0, 1) := dk_42 (dk_at dksX5_livesAnew_5 10 rfl rfl)
theorem dX5_livesAnew_127 : decode cX5_livesAnew 127 = .ok (.getfield 13, 3) := dk_180 0 13 (dk_at dksX5_livesAnew_5 11 rfl rfl)
theorem dX5_livesAnew_130 : decode cX5_livesAnew 130 = .ok (.iload 4, 2) := dk_21 4 (dk_at dksX5_livesAnew_5 14 rfl rfl)
theorem dX5_livesAnew_132 : decode cX5_livesAnew 132 = .ok (.iconst 1, 1) := dk_4 (dk_at dksX5_livesAnew_5 16 rfl rfl)
theorem dX5_livesAnew_133 : decode cX5_livesAnew 133 = .ok (.iadd, 1) := dk_96 (dk_at dksX5_livesAnew_5 17 rfl rfl)
theorem dX5_livesAnew_134 : decode cX5_livesAnew 134 = .ok (.iaload, 1) := dk_46 (dk_at dksX5_livesAnew_5 18 rfl rfl)
theorem dX5_livesAnew_135 : decode cX5_livesAnew 135 = .ok (.invokevirtual 259, 3) := dk_182 1 3 (dk_at dksX5_livesAnew_5 19 rfl rfl)
theorem dX5_livesAnew_138 : decode cX5_livesAnew 138 = .ok (.istore 5, 2) := dk_54 5 (dk_at dksX5_livesAnew_5 22 rfl rfl)
theorem dX5_livesAnew_140 : decode cX5_livesAnew 140 = .ok (.goto 34, 3) := dk_167 0 34 (dk_at dksX5_livesAnew_6 0 rfl rfl)
theorem dX5_livesAnew_143 : decode cX5_livesAnew 143 = .ok (.aload_n 0, 1) := dk_42 (dk_at dksX5_livesAnew_6 3 rfl rfl)
theorem dX5_livesAnew_144 : decode cX5_livesAnew 144 = .ok (.aload_n 0, 1) := dk_42 (dk_at dksX5_livesAnew_6 4 rfl rfl)
theorem dX5_livesAnew_145 : decode cX5_livesAnew 145 = .ok (.getfield 13, 3) := dk_180 0 13 (dk_at dksX5_livesAnew_6 5 rfl rfl)
theorem dX5_livesAnew_148 : decode cX5_livesAnew 148 = .ok (.iload 4, 2) := dk_21 4 (dk_at dksX5_livesAnew_6 8 rfl rfl)
theorem dX5_livesAnew_150 : decode cX5_livesAnew 150 = .ok (.iconst 1, 1) := dk_4 (dk_at dksX5_livesAnew_6 10 rfl rfl)
theorem dX5_livesAnew_151 : decode cX5_livesAnew 151 = .ok (.iadd, 1) := dk_96 (dk_at dksX5_livesAnew_6 11 rfl rfl)
theorem dX5_livesAnew_152 : decode cX5_livesAnew 152 = .ok (.iaload, 1) := dk_46 (dk_at dksX5_livesAnew_6 12 rfl rfl)
theorem dX5_livesAnew_153 : decode cX5_livesAnew 153 = .ok (.invokevirtual 262, 3) := dk_182 1 6 (dk_at dksX5_livesAnew_6 13 rfl rfl)
theorem dX5_livesAnew_156 : decode cX5_livesAnew 156 = .ok (.istore 5, 2) := dk_54 5 (dk_at dksX5_livesAnew_6 16 rfl rfl)
theorem dX5_livesAnew_158 : decode cX5_livesAnew 158 = .ok (.goto 16, 3) := dk_167 0 16 (dk_at dksX5_livesAnew_6 18 rfl rfl)
theorem dX5_livesAnew_161 : decode cX5_livesAnew 161 = .ok (.aload_n 0, 1) := dk_42 (dk_at dksX5_livesAnew_6 21 rfl rfl)
theorem dX5_livesAnew_162 : decode cX5_livesAnew 162 = .ok (.aload_n 0, 1) := dk_42 (dk_at dksX5_livesAnew_6 22 rfl rfl)
theorem dX5_livesAnew_163 : decode cX5_livesAnew 163 = .ok (.getfield 13, 3) := dk_180 0 13 (dk_at dksX5_livesAnew_7 0 rfl rfl)
theorem dX5_livesAnew_166 : decode cX5_livesAnew 166 = .ok (.iload 4, 2) := dk_21 4 (dk_at dksX5_livesAnew_7 3 rfl rfl)
theorem dX5_livesAnew_168 : decode cX5_livesAnew 168 = .ok (.iconst 1, 1) := dk_4 (dk_at dksX5_livesAnew_7 5 rfl rfl)
theorem dX5_livesAnew_169 : decode cX5_livesAnew 169 = .ok (.iadd, 1) := dk_96 (dk_at dksX5_livesAnew_7 6 rfl rfl)
theorem dX5_livesAnew_170 : decode cX5_livesAnew 170 = .ok (.iaload, 1) := dk_46 (dk_at dksX5_livesAnew_7 7 rfl rfl)
theorem dX5_livesAnew_171 : decode cX5_livesAnew 171 = .ok (.invokevirtual 176, 3) := dk_182 0 176 (dk_at dksX5_livesAnew_7 8 rfl rfl)
theorem dX5_livesAnew_174 : decode cX5_livesAnew 174 = .ok (.aload_n 0, 1) := dk_42 (dk_at dksX5_livesAnew_7 11 rfl rfl)
theorem dX5_livesAnew_175 : decode cX5_livesAnew 175 = .ok (.dup, 1) := dk_89 (dk_at dksX5_livesAnew_7 12 rfl rfl)
theorem dX5_livesAnew_176 : decode cX5_livesAnew 176 = .ok (.getfield 250, 3) := dk_180 0 250 (dk_at dksX5_livesAnew_7 13 rfl rfl)
theorem dX5_livesAnew_179 : decode cX5_livesAnew 179 = .ok (.iload 5, 2) := dk_21 5 (dk_at dksX5_livesAnew_7 16 rfl rfl)
theorem dX5_livesAnew_181 : decode cX5_livesAnew 181 = .ok (.ifCond .le 7, 3) := dk_158 0 7 (dk_at dksX5_livesAnew_7 18 rfl rfl)
theorem dX5_livesAnew_184 : decode cX5_livesAnew 184 = .ok (.iconst 1, 1) := dk_4 (dk_at dksX5_livesAnew_7 21 rfl rfl)
theorem dX5_livesAnew_185 : decode cX5_livesAnew 185 = .ok (.goto 4, 3) := dk_167 0 4 (dk_at dksX5_livesAnew_8 0 rfl rfl)
theorem dX5_livesAnew_188 : decode cX5_livesAnew 188 = .ok (.iconst 0, 1) := dk_3 (dk_at dksX5_livesAnew_8 3 rfl rfl)
theorem dX5_livesAnew_189 : decode cX5_livesAnew 189 = .ok (.iadd, 1) := dk_96 (dk_at dksX5_livesAnew_8 4 rfl rfl)
theorem dX5_livesAnew_190 : decode cX5_livesAnew 190 = .ok (.putfield 250, 3) := dk_181 0 250 (dk_at dksX5_livesAnew_8 5 rfl rfl)
theorem dX5_livesAnew_193 : decode cX5_livesAnew 193 = .ok (.iinc 3 1, 3) := dk_132 3 1 (dk_at dksX5_livesAnew_8 8 rfl rfl)
theorem dX5_livesAnew_196 : decode cX5_livesAnew 196 = .ok (.goto (-165), 3) := dk_167 255 91 (dk_at dksX5_livesAnew_8 11 rfl rfl)
theorem dX5_livesAnew_199 : decode cX5_livesAnew 199 = .ok (.aload_n 0, 1) := dk_42 (dk_at dksX5_livesAnew_8 14 rfl rfl)
theorem dX5_livesAnew_200 : decode cX5_livesAnew 200 = .ok (.iconst 5, 1) := dk_8 (dk_at dksX5_livesAnew_8 15 rfl rfl)
theorem dX5_livesAnew_201 : decode cX5_livesAnew 201 = .ok (.putfield 32, 3) := dk_181 0 32 (dk_at dksX5_livesAnew_8 16 rfl rfl)
theorem dX5_livesAnew_204 : decode cX5_livesAnew 204 = .ok (.return_, 1) := dk_177 (dk_at dksX5_livesAnew_8 19 rfl rfl)
abbrev cX5_copies : ByteArray := prog_14_method_4_code
def yX5_copies : MethodName := ⟨RX5, "copies", "([II[II)V"⟩
def dkwX5_copies_1 : List UInt8 := [132, 4, 1, 167, 255, 233, 177]
abbrev dktX5_copies_1 : List UInt8 := dkwX5_copies_1 ++ []
def dkwX5_copies_0 : List UInt8 := [3, 54, 4, 21, 4, 17, 9, 158, 162, 0, 21, 44, 29, 21, 4, 96, 42, 27, 21, 4, 96, 46, 79]
abbrev dktX5_copies_0 : List UInt8 := dkwX5_copies_0 ++ dktX5_copies_1
theorem dksX5_copies_0 : cX5_copies.data.toList.drop 0 = dktX5_copies_0 := by decide +kernel
theorem dksX5_copies_1 : cX5_copies.data.toList.drop 23 = dktX5_copies_1 := dk_seg dksX5_copies_0 23 rfl rfl
theorem dX5_copies_0 : decode cX5_copies 0 = .ok (.iconst 0, 1) := dk_3 (dk_at dksX5_copies_0 0 rfl rfl)
theorem dX5_copies_1 : decode cX5_copies 1 = .ok (.istore 4, 2) := dk_54 4 (dk_at dksX5_copies_0 1 rfl rfl)
theorem dX5_copies_3 : decode cX5_copies 3 = .ok (.iload 4, 2) := dk_21 4 (dk_at dksX5_copies_0 3 rfl rfl)
theorem dX5_copies_5 : decode cX5_copies 5 = .ok (.sipush 2462, 3) := dk_17 9 158 (dk_at dksX5_copies_0 5 rfl rfl)
theorem dX5_copies_8 : decode cX5_copies 8 = .ok (.if_icmp .ge 21, 3) := dk_162 0 21 (dk_at dksX5_copies_0 8 rfl rfl)
theorem dX5_copies_11 : decode cX5_copies 11 = .ok (.aload_n 2, 1) := dk_44 (dk_at dksX5_copies_0 11 rfl rfl)
theorem dX5_copies_12 : decode cX5_copies 12 = .ok (.iload_n 3, 1) := dk_29 (dk_at dksX5_copies_0 12 rfl rfl)
theorem dX5_copies_13 : decode cX5_copies 13 = .ok (.iload 4, 2) := dk_21 4 (dk_at dksX5_copies_0 13 rfl rfl)
theorem dX5_copies_15 : decode cX5_copies 15 = .ok (.iadd, 1) := dk_96 (dk_at dksX5_copies_0 15 rfl rfl)
theorem dX5_copies_16 : decode cX5_copies 16 = .ok (.aload_n 0, 1) := dk_42 (dk_at dksX5_copies_0 16 rfl rfl)
theorem dX5_copies_17 : decode cX5_copies 17 = .ok (.iload_n 1, 1) := dk_27 (dk_at dksX5_copies_0 17 rfl rfl)
theorem dX5_copies_18 : decode cX5_copies 18 = .ok (.iload 4, 2) := dk_21 4 (dk_at dksX5_copies_0 18 rfl rfl)
theorem dX5_copies_20 : decode cX5_copies 20 = .ok (.iadd, 1) := dk_96 (dk_at dksX5_copies_0 20 rfl rfl)
theorem dX5_copies_21 : decode cX5_copies 21 = .ok (.iaload, 1) := dk_46 (dk_at dksX5_copies_0 21 rfl rfl)
theorem dX5_copies_22 : decode cX5_copies 22 = .ok (.iastore, 1) := dk_79 (dk_at dksX5_copies_0 22 rfl rfl)
theorem dX5_copies_23 : decode cX5_copies 23 = .ok (.iinc 4 1, 3) := dk_132 4 1 (dk_at dksX5_copies_1 0 rfl rfl)
theorem dX5_copies_26 : decode cX5_copies 26 = .ok (.goto (-23), 3) := dk_167 255 233 (dk_at dksX5_copies_1 3 rfl rfl)
theorem dX5_copies_29 : decode cX5_copies 29 = .ok (.return_, 1) := dk_177 (dk_at dksX5_copies_1 6 rfl rfl)
abbrev cX5_tellsWrite : ByteArray := prog_14_method_89_code
def yX5_tellsWrite : MethodName := ⟨RX5, "tellsWrite", "(II)I"⟩
def dkwX5_tellsWrite_3 : List UInt8 := [46, 42, 180, 0, 13, 27, 5, 96, 46, 42, 180, 0, 13, 27, 6, 96, 46, 28, 182, 0, 166, 29, 172]
abbrev dktX5_tellsWrite_3 : List UInt8 := dkwX5_tellsWrite_3 ++ []
def dkwX5_tellsWrite_2 : List UInt8 := [2, 167, 0, 10, 42, 180, 0, 7, 16, 7, 46, 79, 29, 154, 0, 32, 42, 42, 180, 0, 13, 27, 4, 96]
abbrev dktX5_tellsWrite_2 : List UInt8 := dkwX5_tellsWrite_2 ++ dktX5_tellsWrite_3
def dkwX5_tellsWrite_1 : List UInt8 := [96, 46, 42, 180, 0, 13, 27, 5, 96, 46, 28, 182, 0, 157, 62, 42, 180, 0, 36, 28, 29, 158, 0, 7]
abbrev dktX5_tellsWrite_1 : List UInt8 := dkwX5_tellsWrite_1 ++ dktX5_tellsWrite_2
def dkwX5_tellsWrite_0 : List UInt8 := [42, 180, 0, 7, 16, 7, 46, 16, 99, 160, 0, 8, 16, 6, 167, 0, 24, 42, 42, 180, 0, 13, 27, 4]
abbrev dktX5_tellsWrite_0 : List UInt8 := dkwX5_tellsWrite_0 ++ dktX5_tellsWrite_1
theorem dksX5_tellsWrite_0 : cX5_tellsWrite.data.toList.drop 0 = dktX5_tellsWrite_0 := by decide +kernel
theorem dksX5_tellsWrite_1 : cX5_tellsWrite.data.toList.drop 24 = dktX5_tellsWrite_1 := dk_seg dksX5_tellsWrite_0 24 rfl rfl
theorem dksX5_tellsWrite_2 : cX5_tellsWrite.data.toList.drop 48 = dktX5_tellsWrite_2 := dk_seg dksX5_tellsWrite_1 24 rfl rfl
theorem dksX5_tellsWrite_3 : cX5_tellsWrite.data.toList.drop 72 = dktX5_tellsWrite_3 := dk_seg dksX5_tellsWrite_2 24 rfl rfl
theorem dX5_tellsWrite_0 : decode cX5_tellsWrite 0 = .ok (.aload_n 0, 1) := dk_42 (dk_at dksX5_tellsWrite_0 0 rfl rfl)
theorem dX5_tellsWrite_1 : decode cX5_tellsWrite 1 = .ok (.getfield 7, 3) := dk_180 0 7 (dk_at dksX5_tellsWrite_0 1 rfl rfl)
theorem dX5_tellsWrite_4 : decode cX5_tellsWrite 4 = .ok (.bipush 7, 2) := dk_16 7 (dk_at dksX5_tellsWrite_0 4 rfl rfl)
theorem dX5_tellsWrite_6 : decode cX5_tellsWrite 6 = .ok (.iaload, 1) := dk_46 (dk_at dksX5_tellsWrite_0 6 rfl rfl)
theorem dX5_tellsWrite_7 : decode cX5_tellsWrite 7 = .ok (.bipush 99, 2) := dk_16 99 (dk_at dksX5_tellsWrite_0 7 rfl rfl)
theorem dX5_tellsWrite_9 : decode cX5_tellsWrite 9 = .ok (.if_icmp .ne 8, 3) := dk_160 0 8 (dk_at dksX5_tellsWrite_0 9 rfl rfl)
theorem dX5_tellsWrite_12 : decode cX5_tellsWrite 12 = .ok (.bipush 6, 2) := dk_16 6 (dk_at dksX5_tellsWrite_0 12 rfl rfl)
theorem dX5_tellsWrite_14 : decode cX5_tellsWrite 14 = .ok (.goto 24, 3) := dk_167 0 24 (dk_at dksX5_tellsWrite_0 14 rfl rfl)
theorem dX5_tellsWrite_17 : decode cX5_tellsWrite 17 = .ok (.aload_n 0, 1) := dk_42 (dk_at dksX5_tellsWrite_0 17 rfl rfl)
theorem dX5_tellsWrite_18 : decode cX5_tellsWrite 18 = .ok (.aload_n 0, 1) := dk_42 (dk_at dksX5_tellsWrite_0 18 rfl rfl)
theorem dX5_tellsWrite_19 : decode cX5_tellsWrite 19 = .ok (.getfield 13, 3) := dk_180 0 13 (dk_at dksX5_tellsWrite_0 19 rfl rfl)
theorem dX5_tellsWrite_22 : decode cX5_tellsWrite 22 = .ok (.iload_n 1, 1) := dk_27 (dk_at dksX5_tellsWrite_0 22 rfl rfl)
theorem dX5_tellsWrite_23 : decode cX5_tellsWrite 23 = .ok (.iconst 1, 1) := dk_4 (dk_at dksX5_tellsWrite_0 23 rfl rfl)
theorem dX5_tellsWrite_24 : decode cX5_tellsWrite 24 = .ok (.iadd, 1) := dk_96 (dk_at dksX5_tellsWrite_1 0 rfl rfl)
theorem dX5_tellsWrite_25 : decode cX5_tellsWrite 25 = .ok (.iaload, 1) := dk_46 (dk_at dksX5_tellsWrite_1 1 rfl rfl)
theorem dX5_tellsWrite_26 : decode cX5_tellsWrite 26 = .ok (.aload_n 0, 1) := dk_42 (dk_at dksX5_tellsWrite_1 2 rfl rfl)
theorem dX5_tellsWrite_27 : decode cX5_tellsWrite 27 = .ok (.getfield 13, 3) := dk_180 0 13 (dk_at dksX5_tellsWrite_1 3 rfl rfl)
theorem dX5_tellsWrite_30 : decode cX5_tellsWrite 30 = .ok (.iload_n 1, 1) := dk_27 (dk_at dksX5_tellsWrite_1 6 rfl rfl)
theorem dX5_tellsWrite_31 : decode cX5_tellsWrite 31 = .ok (.iconst 2, 1) := dk_5 (dk_at dksX5_tellsWrite_1 7 rfl rfl)
theorem dX5_tellsWrite_32 : decode cX5_tellsWrite 32 = .ok (.iadd, 1) := dk_96 (dk_at dksX5_tellsWrite_1 8 rfl rfl)
theorem dX5_tellsWrite_33 : decode cX5_tellsWrite 33 = .ok (.iaload, 1) := dk_46 (dk_at dksX5_tellsWrite_1 9 rfl rfl)
theorem dX5_tellsWrite_34 : decode cX5_tellsWrite 34 = .ok (.iload_n 2, 1) := dk_28 (dk_at dksX5_tellsWrite_1 10 rfl rfl)
theorem dX5_tellsWrite_35 : decode cX5_tellsWrite 35 = .ok (.invokevirtual 157, 3) := dk_182 0 157 (dk_at dksX5_tellsWrite_1 11 rfl rfl)
theorem dX5_tellsWrite_38 : decode cX5_tellsWrite 38 = .ok (.istore_n 3, 1) := dk_62 (dk_at dksX5_tellsWrite_1 14 rfl rfl)
theorem dX5_tellsWrite_39 : decode cX5_tellsWrite 39 = .ok (.aload_n 0, 1) := dk_42 (dk_at dksX5_tellsWrite_1 15 rfl rfl)
theorem dX5_tellsWrite_40 : decode cX5_tellsWrite 40 = .ok (.getfield 36, 3) := dk_180 0 36 (dk_at dksX5_tellsWrite_1 16 rfl rfl)
theorem dX5_tellsWrite_43 : decode cX5_tellsWrite 43 = .ok (.iload_n 2, 1) := dk_28 (dk_at dksX5_tellsWrite_1 19 rfl rfl)
theorem dX5_tellsWrite_44 : decode cX5_tellsWrite 44 = .ok (.iload_n 3, 1) := dk_29 (dk_at dksX5_tellsWrite_1 20 rfl rfl)
theorem dX5_tellsWrite_45 : decode cX5_tellsWrite 45 = .ok (.ifCond .le 7, 3) := dk_158 0 7 (dk_at dksX5_tellsWrite_1 21 rfl rfl)
theorem dX5_tellsWrite_48 : decode cX5_tellsWrite 48 = .ok (.iconst (-1), 1) := dk_2 (dk_at dksX5_tellsWrite_2 0 rfl rfl)
theorem dX5_tellsWrite_49 : decode cX5_tellsWrite 49 = .ok (.goto 10, 3) := dk_167 0 10 (dk_at dksX5_tellsWrite_2 1 rfl rfl)
theorem dX5_tellsWrite_52 : decode cX5_tellsWrite 52 = .ok (.aload_n 0, 1) := dk_42 (dk_at dksX5_tellsWrite_2 4 rfl rfl)
theorem dX5_tellsWrite_53 : decode cX5_tellsWrite 53 = .ok (.getfield 7, 3) := dk_180 0 7 (dk_at dksX5_tellsWrite_2 5 rfl rfl)
theorem dX5_tellsWrite_56 : decode cX5_tellsWrite 56 = .ok (.bipush 7, 2) := dk_16 7 (dk_at dksX5_tellsWrite_2 8 rfl rfl)
theorem dX5_tellsWrite_58 : decode cX5_tellsWrite 58 = .ok (.iaload, 1) := dk_46 (dk_at dksX5_tellsWrite_2 10 rfl rfl)
theorem dX5_tellsWrite_59 : decode cX5_tellsWrite 59 = .ok (.iastore, 1) := dk_79 (dk_at dksX5_tellsWrite_2 11 rfl rfl)
theorem dX5_tellsWrite_60 : decode cX5_tellsWrite 60 = .ok (.iload_n 3, 1) := dk_29 (dk_at dksX5_tellsWrite_2 12 rfl rfl)
theorem dX5_tellsWrite_61 : decode cX5_tellsWrite 61 = .ok (.ifCond .ne 32, 3) := dk_154 0 32 (dk_at dksX5_tellsWrite_2 13 rfl rfl)
theorem dX5_tellsWrite_64 : decode cX5_tellsWrite 64 = .ok (.aload_n 0, 1) := dk_42 (dk_at dksX5_tellsWrite_2 16 rfl rfl)
theorem dX5_tellsWrite_65 : decode cX5_tellsWrite 65 = .ok (.aload_n 0, 1) := dk_42 (dk_at dksX5_tellsWrite_2 17 rfl rfl)
theorem dX5_tellsWrite_66 : decode cX5_tellsWrite 66 = .ok (.getfield 13, 3) := dk_180 0 13 (dk_at dksX5_tellsWrite_2 18 rfl rfl)
theorem dX5_tellsWrite_69 : decode cX5_tellsWrite 69 = .ok (.iload_n 1, 1) := dk_27 (dk_at dksX5_tellsWrite_2 21 rfl rfl)
theorem dX5_tellsWrite_70 : decode cX5_tellsWrite 70 = .ok (.iconst 1, 1) := dk_4 (dk_at dksX5_tellsWrite_2 22 rfl rfl)
theorem dX5_tellsWrite_71 : decode cX5_tellsWrite 71 = .ok (.iadd, 1) := dk_96 (dk_at dksX5_tellsWrite_2 23 rfl rfl)
theorem dX5_tellsWrite_72 : decode cX5_tellsWrite 72 = .ok (.iaload, 1) := dk_46 (dk_at dksX5_tellsWrite_3 0 rfl rfl)
theorem dX5_tellsWrite_73 : decode cX5_tellsWrite 73 = .ok (.aload_n 0, 1) := dk_42 (dk_at dksX5_tellsWrite_3 1 rfl rfl)
theorem dX5_tellsWrite_74 : decode cX5_tellsWrite 74 = .ok (.getfield 13, 3) := dk_180 0 13 (dk_at dksX5_tellsWrite_3 2 rfl rfl)
theorem dX5_tellsWrite_77 : decode cX5_tellsWrite 77 = .ok (.iload_n 1, 1) := dk_27 (dk_at dksX5_tellsWrite_3 5 rfl rfl)
theorem dX5_tellsWrite_78 : decode cX5_tellsWrite 78 = .ok (.iconst 2, 1) := dk_5 (dk_at dksX5_tellsWrite_3 6 rfl rfl)
theorem dX5_tellsWrite_79 : decode cX5_tellsWrite 79 = .ok (.iadd, 1) := dk_96 (dk_at dksX5_tellsWrite_3 7 rfl rfl)
theorem dX5_tellsWrite_80 : decode cX5_tellsWrite 80 = .ok (.iaload, 1) := dk_46 (dk_at dksX5_tellsWrite_3 8 rfl rfl)
theorem dX5_tellsWrite_81 : decode cX5_tellsWrite 81 = .ok (.aload_n 0, 1) := dk_42 (dk_at dksX5_tellsWrite_3 9 rfl rfl)
theorem dX5_tellsWrite_82 : decode cX5_tellsWrite 82 = .ok (.getfield 13, 3) := dk_180 0 13 (dk_at dksX5_tellsWrite_3 10 rfl rfl)
theorem dX5_tellsWrite_85 : decode cX5_tellsWrite 85 = .ok (.iload_n 1, 1) := dk_27 (dk_at dksX5_tellsWrite_3 13 rfl rfl)
theorem dX5_tellsWrite_86 : decode cX5_tellsWrite 86 = .ok (.iconst 3, 1) := dk_6 (dk_at dksX5_tellsWrite_3 14 rfl rfl)
theorem dX5_tellsWrite_87 : decode cX5_tellsWrite 87 = .ok (.iadd, 1) := dk_96 (dk_at dksX5_tellsWrite_3 15 rfl rfl)
theorem dX5_tellsWrite_88 : decode cX5_tellsWrite 88 = .ok (.iaload, 1) := dk_46 (dk_at dksX5_tellsWrite_3 16 rfl rfl)
theorem dX5_tellsWrite_89 : decode cX5_tellsWrite 89 = .ok (.iload_n 2, 1) := dk_28 (dk_at dksX5_tellsWrite_3 17 rfl rfl)
theorem dX5_tellsWrite_90 : decode cX5_tellsWrite 90 = .ok (.invokevirtual 166, 3) := dk_182 0 166 (dk_at dksX5_tellsWrite_3 18 rfl rfl)
theorem dX5_tellsWrite_93 : decode cX5_tellsWrite 93 = .ok (.iload_n 3, 1) := dk_29 (dk_at dksX5_tellsWrite_3 21 rfl rfl)
theorem dX5_tellsWrite_94 : decode cX5_tellsWrite 94 = .ok (.ireturn, 1) := dk_172 (dk_at dksX5_tellsWrite_3 22 rfl rfl)
abbrev cX5_whyWrite : ByteArray := prog_14_method_30_code
def yX5_whyWrite : MethodName := ⟨RX5, "whyWrite", "(III)I"⟩
def dkwX5_whyWrite_2 : List UInt8 := [3, 172]
abbrev dktX5_whyWrite_2 : List UInt8 := dkwX5_whyWrite_2 ++ []
def dkwX5_whyWrite_1 : List UInt8 := [180, 0, 7, 5, 46, 108, 54, 5, 42, 21, 5, 28, 2, 182, 0, 125, 2, 160, 0, 7, 4, 167, 0, 4]
abbrev dktX5_whyWrite_1 : List UInt8 := dkwX5_whyWrite_1 ++ dktX5_whyWrite_2
def dkwX5_whyWrite_0 : List UInt8 := [42, 182, 0, 117, 54, 4, 42, 180, 0, 7, 16, 6, 46, 42, 21, 4, 27, 28, 29, 182, 0, 121, 96, 42]
abbrev dktX5_whyWrite_0 : List UInt8 := dkwX5_whyWrite_0 ++ dktX5_whyWrite_1
theorem dksX5_whyWrite_0 : cX5_whyWrite.data.toList.drop 0 = dktX5_whyWrite_0 := by decide +kernel
theorem dksX5_whyWrite_1 : cX5_whyWrite.data.toList.drop 24 = dktX5_whyWrite_1 := dk_seg dksX5_whyWrite_0 24 rfl rfl
theorem dksX5_whyWrite_2 : cX5_whyWrite.data.toList.drop 48 = dktX5_whyWrite_2 := dk_seg dksX5_whyWrite_1 24 rfl rfl
theorem dX5_whyWrite_0 : decode cX5_whyWrite 0 = .ok (.aload_n 0, 1) := dk_42 (dk_at dksX5_whyWrite_0 0 rfl rfl)
theorem dX5_whyWrite_1 : decode cX5_whyWrite 1 = .ok (.invokevirtual 117, 3) := dk_182 0 117 (dk_at dksX5_whyWrite_0 1 rfl rfl)
theorem dX5_whyWrite_4 : decode cX5_whyWrite 4 = .ok (.istore 4, 2) := dk_54 4 (dk_at dksX5_whyWrite_0 4 rfl rfl)
theorem dX5_whyWrite_6 : decode cX5_whyWrite 6 = .ok (.aload_n 0, 1) := dk_42 (dk_at dksX5_whyWrite_0 6 rfl rfl)
theorem dX5_whyWrite_7 : decode cX5_whyWrite 7 = .ok (.getfield 7, 3) := dk_180 0 7 (dk_at dksX5_whyWrite_0 7 rfl rfl)
theorem dX5_whyWrite_10 : decode cX5_whyWrite 10 = .ok (.bipush 6, 2) := dk_16 6 (dk_at dksX5_whyWrite_0 10 rfl rfl)
theorem dX5_whyWrite_12 : decode cX5_whyWrite 12 = .ok (.iaload, 1) := dk_46 (dk_at dksX5_whyWrite_0 12 rfl rfl)
theorem dX5_whyWrite_13 : decode cX5_whyWrite 13 = .ok (.aload_n 0, 1) := dk_42 (dk_at dksX5_whyWrite_0 13 rfl rfl)
theorem dX5_whyWrite_14 : decode cX5_whyWrite 14 = .ok (.iload 4, 2) := dk_21 4 (dk_at dksX5_whyWrite_0 14 rfl rfl)
theorem dX5_whyWrite_16 : decode cX5_whyWrite 16 = .ok (.iload_n 1, 1) := dk_27 (dk_at dksX5_whyWrite_0 16 rfl rfl)
theorem dX5_whyWrite_17 : decode cX5_whyWrite 17 = .ok (.iload_n 2, 1) := dk_28 (dk_at dksX5_whyWrite_0 17 rfl rfl)
theorem dX5_whyWrite_18 : decode cX5_whyWrite 18 = .ok (.iload_n 3, 1) := dk_29 (dk_at dksX5_whyWrite_0 18 rfl rfl)
theorem dX5_whyWrite_19 : decode cX5_whyWrite 19 = .ok (.invokevirtual 121, 3) := dk_182 0 121 (dk_at dksX5_whyWrite_0 19 rfl rfl)
theorem dX5_whyWrite_22 : decode cX5_whyWrite 22 = .ok (.iadd, 1) := dk_96 (dk_at dksX5_whyWrite_0 22 rfl rfl)
theorem dX5_whyWrite_23 : decode cX5_whyWrite 23 = .ok (.aload_n 0, 1) := dk_42 (dk_at dksX5_whyWrite_0 23 rfl rfl)
theorem dX5_whyWrite_24 : decode cX5_whyWrite 24 = .ok (.getfield 7, 3) := dk_180 0 7 (dk_at dksX5_whyWrite_1 0 rfl rfl)
theorem dX5_whyWrite_27 : decode cX5_whyWrite 27 = .ok (.iconst 2, 1) := dk_5 (dk_at dksX5_whyWrite_1 3 rfl rfl)
theorem dX5_whyWrite_28 : decode cX5_whyWrite 28 = .ok (.iaload, 1) := dk_46 (dk_at dksX5_whyWrite_1 4 rfl rfl)
theorem dX5_whyWrite_29 : decode cX5_whyWrite 29 = .ok (.idiv, 1) := dk_108 (dk_at dksX5_whyWrite_1 5 rfl rfl)
theorem dX5_whyWrite_30 : decode cX5_whyWrite 30 = .ok (.istore 5, 2) := dk_54 5 (dk_at dksX5_whyWrite_1 6 rfl rfl)
theorem dX5_whyWrite_32 : decode cX5_whyWrite 32 = .ok (.aload_n 0, 1) := dk_42 (dk_at dksX5_whyWrite_1 8 rfl rfl)
theorem dX5_whyWrite_33 : decode cX5_whyWrite 33 = .ok (.iload 5, 2) := dk_21 5 (dk_at dksX5_whyWrite_1 9 rfl rfl)
theorem dX5_whyWrite_35 : decode cX5_whyWrite 35 = .ok (.iload_n 2, 1) := dk_28 (dk_at dksX5_whyWrite_1 11 rfl rfl)
theorem dX5_whyWrite_36 : decode cX5_whyWrite 36 = .ok (.iconst (-1), 1) := dk_2 (dk_at dksX5_whyWrite_1 12 rfl rfl)
theorem dX5_whyWrite_37 : decode cX5_whyWrite 37 = .ok (.invokevirtual 125, 3) := dk_182 0 125 (dk_at dksX5_whyWrite_1 13 rfl rfl)
theorem dX5_whyWrite_40 : decode cX5_whyWrite 40 = .ok (.iconst (-1), 1) := dk_2 (dk_at dksX5_whyWrite_1 16 rfl rfl)
theorem dX5_whyWrite_41 : decode cX5_whyWrite 41 = .ok (.if_icmp .ne 7, 3) := dk_160 0 7 (dk_at dksX5_whyWrite_1 17 rfl rfl)
theorem dX5_whyWrite_44 : decode cX5_whyWrite 44 = .ok (.iconst 1, 1) := dk_4 (dk_at dksX5_whyWrite_1 20 rfl rfl)
theorem dX5_whyWrite_45 : decode cX5_whyWrite 45 = .ok (.goto 4, 3) := dk_167 0 4 (dk_at dksX5_whyWrite_1 21 rfl rfl)
theorem dX5_whyWrite_48 : decode cX5_whyWrite 48 = .ok (.iconst 0, 1) := dk_3 (dk_at dksX5_whyWrite_2 0 rfl rfl)
theorem dX5_whyWrite_49 : decode cX5_whyWrite 49 = .ok (.ireturn, 1) := dk_172 (dk_at dksX5_whyWrite_2 1 rfl rfl)
abbrev cX5_ledBy : ByteArray := prog_14_method_18_code
def yX5_ledBy : MethodName := ⟨RX5, "ledBy", "(IIII)I"⟩
def dkwX5_ledBy_0 : List UInt8 := [27, 16, 6, 160, 0, 12, 42, 21, 4, 182, 0, 86, 167, 0, 10, 42, 27, 28, 29, 182, 0, 89, 172]
abbrev dktX5_ledBy_0 : List UInt8 := dkwX5_ledBy_0 ++ []
theorem dksX5_ledBy_0 : cX5_ledBy.data.toList.drop 0 = dktX5_ledBy_0 := by decide +kernel
theorem dX5_ledBy_0 : decode cX5_ledBy 0 = .ok (.iload_n 1, 1) := dk_27 (dk_at dksX5_ledBy_0 0 rfl rfl)
theorem dX5_ledBy_1 : decode cX5_ledBy 1 = .ok (.bipush 6, 2) := dk_16 6 (dk_at dksX5_ledBy_0 1 rfl rfl)
theorem dX5_ledBy_3 : decode cX5_ledBy 3 = .ok (.if_icmp .ne 12, 3) := dk_160 0 12 (dk_at dksX5_ledBy_0 3 rfl rfl)
theorem dX5_ledBy_6 : decode cX5_ledBy 6 = .ok (.aload_n 0, 1) := dk_42 (dk_at dksX5_ledBy_0 6 rfl rfl)
theorem dX5_ledBy_7 : decode cX5_ledBy 7 = .ok (.iload 4, 2) := dk_21 4 (dk_at dksX5_ledBy_0 7 rfl rfl)
theorem dX5_ledBy_9 : decode cX5_ledBy 9 = .ok (.invokevirtual 86, 3) := dk_182 0 86 (dk_at dksX5_ledBy_0 9 rfl rfl)
theorem dX5_ledBy_12 : decode cX5_ledBy 12 = .ok (.goto 10, 3) := dk_167 0 10 (dk_at dksX5_ledBy_0 12 rfl rfl)
theorem dX5_ledBy_15 : decode cX5_ledBy 15 = .ok (.aload_n 0, 1) := dk_42 (dk_at dksX5_ledBy_0 15 rfl rfl)
theorem dX5_ledBy_16 : decode cX5_ledBy 16 = .ok (.iload_n 1, 1) := dk_27 (dk_at dksX5_ledBy_0 16 rfl rfl)
theorem dX5_ledBy_17 : decode cX5_ledBy 17 = .ok (.iload_n 2, 1) := dk_28 (dk_at dksX5_ledBy_0 17 rfl rfl)
theorem dX5_ledBy_18 : decode cX5_ledBy 18 = .ok (.iload_n 3, 1) := dk_29 (dk_at dksX5_ledBy_0 18 rfl rfl)
theorem dX5_ledBy_19 : decode cX5_ledBy 19 = .ok (.invokevirtual 89, 3) := dk_182 0 89 (dk_at dksX5_ledBy_0 19 rfl rfl)
theorem dX5_ledBy_22 : decode cX5_ledBy 22 = .ok (.ireturn, 1) := dk_172 (dk_at dksX5_ledBy_0 22 rfl rfl)
abbrev cX5_knownOf : ByteArray := prog_14_method_17_code
def yX5_knownOf : MethodName := ⟨RX5, "knownOf", "(I)I"⟩
def dkwX5_knownOf_2 : List UInt8 := [29, 184, 0, 83, 172]
abbrev dktX5_knownOf_2 : List UInt8 := dkwX5_knownOf_2 ++ []
def dkwX5_knownOf_1 : List UInt8 := [154, 0, 15, 42, 180, 0, 13, 28, 16, 9, 96, 46, 167, 0, 13, 29, 154, 0, 8, 16, 99, 167, 0, 4]
abbrev dktX5_knownOf_1 : List UInt8 := dkwX5_knownOf_1 ++ dktX5_knownOf_2
def dkwX5_knownOf_0 : List UInt8 := [27, 184, 0, 65, 61, 42, 180, 0, 13, 28, 5, 96, 46, 62, 42, 180, 0, 13, 28, 7, 96, 46]
abbrev dktX5_knownOf_0 : List UInt8 := dkwX5_knownOf_0 ++ dktX5_knownOf_1
theorem dksX5_knownOf_0 : cX5_knownOf.data.toList.drop 0 = dktX5_knownOf_0 := by decide +kernel
theorem dksX5_knownOf_1 : cX5_knownOf.data.toList.drop 22 = dktX5_knownOf_1 := dk_seg dksX5_knownOf_0 22 rfl rfl
theorem dksX5_knownOf_2 : cX5_knownOf.data.toList.drop 46 = dktX5_knownOf_2 := dk_seg dksX5_knownOf_1 24 rfl rfl
theorem dX5_knownOf_0 : decode cX5_knownOf 0 = .ok (.iload_n 1, 1) := dk_27 (dk_at dksX5_knownOf_0 0 rfl rfl)
theorem dX5_knownOf_1 : decode cX5_knownOf 1 = .ok (.invokestatic 65, 3) := dk_184 0 65 (dk_at dksX5_knownOf_0 1 rfl rfl)
theorem dX5_knownOf_4 : decode cX5_knownOf 4 = .ok (.istore_n 2, 1) := dk_61 (dk_at dksX5_knownOf_0 4 rfl rfl)
theorem dX5_knownOf_5 : decode cX5_knownOf 5 = .ok (.aload_n 0, 1) := dk_42 (dk_at dksX5_knownOf_0 5 rfl rfl)
theorem dX5_knownOf_6 : decode cX5_knownOf 6 = .ok (.getfield 13, 3) := dk_180 0 13 (dk_at dksX5_knownOf_0 6 rfl rfl)
theorem dX5_knownOf_9 : decode cX5_knownOf 9 = .ok (.iload_n 2, 1) := dk_28 (dk_at dksX5_knownOf_0 9 rfl rfl)
theorem dX5_knownOf_10 : decode cX5_knownOf 10 = .ok (.iconst 2, 1) := dk_5 (dk_at dksX5_knownOf_0 10 rfl rfl)
theorem dX5_knownOf_11 : decode cX5_knownOf 11 = .ok (.iadd, 1) := dk_96 (dk_at dksX5_knownOf_0 11 rfl rfl)
theorem dX5_knownOf_12 : decode cX5_knownOf 12 = .ok (.iaload, 1) := dk_46 (dk_at dksX5_knownOf_0 12 rfl rfl)
theorem dX5_knownOf_13 : decode cX5_knownOf 13 = .ok (.istore_n 3, 1) := dk_62 (dk_at dksX5_knownOf_0 13 rfl rfl)
theorem dX5_knownOf_14 : decode cX5_knownOf 14 = .ok (.aload_n 0, 1) := dk_42 (dk_at dksX5_knownOf_0 14 rfl rfl)
theorem dX5_knownOf_15 : decode cX5_knownOf 15 = .ok (.getfield 13, 3) := dk_180 0 13 (dk_at dksX5_knownOf_0 15 rfl rfl)
theorem dX5_knownOf_18 : decode cX5_knownOf 18 = .ok (.iload_n 2, 1) := dk_28 (dk_at dksX5_knownOf_0 18 rfl rfl)
theorem dX5_knownOf_19 : decode cX5_knownOf 19 = .ok (.iconst 4, 1) := dk_7 (dk_at dksX5_knownOf_0 19 rfl rfl)
theorem dX5_knownOf_20 : decode cX5_knownOf 20 = .ok (.iadd, 1) := dk_96 (dk_at dksX5_knownOf_0 20 rfl rfl)
theorem dX5_knownOf_21 : decode cX5_knownOf 21 = .ok (.iaload, 1) := dk_46 (dk_at dksX5_knownOf_0 21 rfl rfl)
theorem dX5_knownOf_22 : decode cX5_knownOf 22 = .ok (.ifCond .ne 15, 3) := dk_154 0 15 (dk_at dksX5_knownOf_1 0 rfl rfl)
theorem dX5_knownOf_25 : decode cX5_knownOf 25 = .ok (.aload_n 0, 1) := dk_42 (dk_at dksX5_knownOf_1 3 rfl rfl)
theorem dX5_knownOf_26 : decode cX5_knownOf 26 = .ok (.getfield 13, 3) := dk_180 0 13 (dk_at dksX5_knownOf_1 4 rfl rfl)
theorem dX5_knownOf_29 : decode cX5_knownOf 29 = .ok (.iload_n 2, 1) := dk_28 (dk_at dksX5_knownOf_1 7 rfl rfl)
theorem dX5_knownOf_30 : decode cX5_knownOf 30 = .ok (.bipush 9, 2) := dk_16 9 (dk_at dksX5_knownOf_1 8 rfl rfl)
theorem dX5_knownOf_32 : decode cX5_knownOf 32 = .ok (.iadd, 1) := dk_96 (dk_at dksX5_knownOf_1 10 rfl rfl)
theorem dX5_knownOf_33 : decode cX5_knownOf 33 = .ok (.iaload, 1) := dk_46 (dk_at dksX5_knownOf_1 11 rfl rfl)
theorem dX5_knownOf_34 : decode cX5_knownOf 34 = .ok (.goto 13, 3) := dk_167 0 13 (dk_at dksX5_knownOf_1 12 rfl rfl)
theorem dX5_knownOf_37 : decode cX5_knownOf 37 = .ok (.iload_n 3, 1) := dk_29 (dk_at dksX5_knownOf_1 15 rfl rfl)
theorem dX5_knownOf_38 : decode cX5_knownOf 38 = .ok (.ifCond .ne 8, 3) := dk_154 0 8 (dk_at dksX5_knownOf_1 16 rfl rfl)
theorem dX5_knownOf_41 : decode cX5_knownOf 41 = .ok (.bipush 99, 2) := dk_16 99 (dk_at dksX5_knownOf_1 19 rfl rfl)
theorem dX5_knownOf_43 : decode cX5_knownOf 43 = .ok (.goto 4, 3) := dk_167 0 4 (dk_at dksX5_knownOf_1 21 rfl rfl)
theorem dX5_knownOf_46 : decode cX5_knownOf 46 = .ok (.iload_n 3, 1) := dk_29 (dk_at dksX5_knownOf_2 0 rfl rfl)
theorem dX5_knownOf_47 : decode cX5_knownOf 47 = .ok (.invokestatic 83, 3) := dk_184 0 83 (dk_at dksX5_knownOf_2 1 rfl rfl)
theorem dX5_knownOf_50 : decode cX5_knownOf 50 = .ok (.ireturn, 1) := dk_172 (dk_at dksX5_knownOf_2 4 rfl rfl)
abbrev cX5_zoneFor : ByteArray := prog_14_method_24_code
def yX5_zoneFor : MethodName := ⟨RX5, "zoneFor", "(III)I"⟩
def dkwX5_zoneFor_6 : List UInt8 := [132, 6, 1, 167, 255, 124, 21, 4, 2, 159, 0, 8, 21, 4, 167, 0, 5, 21, 5, 172]
abbrev dktX5_zoneFor_6 : List UInt8 := dkwX5_zoneFor_6 ++ []
def dkwX5_zoneFor_5 : List UInt8 := [160, 0, 22, 42, 21, 6, 182, 0, 68, 42, 21, 5, 182, 0, 68, 162, 0, 7, 21, 6, 54, 5]
abbrev dktX5_zoneFor_5 : List UInt8 := dkwX5_zoneFor_5 ++ dktX5_zoneFor_6
def dkwX5_zoneFor_4 : List UInt8 := [21, 5, 27, 182, 0, 107, 161, 0, 35, 42, 21, 6, 27, 182, 0, 107, 42, 21, 5, 27, 182, 0, 107]
abbrev dktX5_zoneFor_4 : List UInt8 := dkwX5_zoneFor_4 ++ dktX5_zoneFor_5
def dkwX5_zoneFor_3 : List UInt8 := [167, 0, 5, 21, 4, 54, 4, 167, 0, 62, 21, 5, 2, 159, 0, 52, 42, 21, 6, 27, 182, 0, 107, 42]
abbrev dktX5_zoneFor_3 : List UInt8 := dkwX5_zoneFor_3 ++ dktX5_zoneFor_4
def dkwX5_zoneFor_2 : List UInt8 := [160, 0, 6, 21, 6, 172, 42, 21, 6, 182, 0, 104, 153, 0, 21, 21, 4, 2, 160, 0, 8, 21, 6]
abbrev dktX5_zoneFor_2 : List UInt8 := dkwX5_zoneFor_2 ++ dktX5_zoneFor_3
def dkwX5_zoneFor_1 : List UInt8 := [159, 0, 115, 42, 21, 6, 28, 182, 0, 100, 154, 0, 6, 167, 0, 102, 42, 21, 6, 182, 0, 68, 27]
abbrev dktX5_zoneFor_1 : List UInt8 := dkwX5_zoneFor_1 ++ dktX5_zoneFor_2
def dkwX5_zoneFor_0 : List UInt8 := [2, 54, 4, 2, 54, 5, 3, 54, 6, 21, 6, 42, 180, 0, 7, 3, 46, 162, 0, 127, 21, 6, 29]
abbrev dktX5_zoneFor_0 : List UInt8 := dkwX5_zoneFor_0 ++ dktX5_zoneFor_1
theorem dksX5_zoneFor_0 : cX5_zoneFor.data.toList.drop 0 = dktX5_zoneFor_0 := by decide +kernel
theorem dksX5_zoneFor_1 : cX5_zoneFor.data.toList.drop 23 = dktX5_zoneFor_1 := dk_seg dksX5_zoneFor_0 23 rfl rfl
theorem dksX5_zoneFor_2 : cX5_zoneFor.data.toList.drop 46 = dktX5_zoneFor_2 := dk_seg dksX5_zoneFor_1 23 rfl rfl
theorem dksX5_zoneFor_3 : cX5_zoneFor.data.toList.drop 69 = dktX5_zoneFor_3 := dk_seg dksX5_zoneFor_2 23 rfl rfl
theorem dksX5_zoneFor_4 : cX5_zoneFor.data.toList.drop 93 = dktX5_zoneFor_4 := dk_seg dksX5_zoneFor_3 24 rfl rfl
theorem dksX5_zoneFor_5 : cX5_zoneFor.data.toList.drop 116 = dktX5_zoneFor_5 := dk_seg dksX5_zoneFor_4 23 rfl rfl
theorem dksX5_zoneFor_6 : cX5_zoneFor.data.toList.drop 138 = dktX5_zoneFor_6 := dk_seg dksX5_zoneFor_5 22 rfl rfl
theorem dX5_zoneFor_0 : decode cX5_zoneFor 0 = .ok (.iconst (-1), 1) := dk_2 (dk_at dksX5_zoneFor_0 0 rfl rfl)
theorem dX5_zoneFor_1 : decode cX5_zoneFor 1 = .ok (.istore 4, 2) := dk_54 4 (dk_at dksX5_zoneFor_0 1 rfl rfl)
theorem dX5_zoneFor_3 : decode cX5_zoneFor 3 = .ok (.iconst (-1), 1) := dk_2 (dk_at dksX5_zoneFor_0 3 rfl rfl)
theorem dX5_zoneFor_4 : decode cX5_zoneFor 4 = .ok (.istore 5, 2) := dk_54 5 (dk_at dksX5_zoneFor_0 4 rfl rfl)
theorem dX5_zoneFor_6 : decode cX5_zoneFor 6 = .ok (.iconst 0, 1) := dk_3 (dk_at dksX5_zoneFor_0 6 rfl rfl)
theorem dX5_zoneFor_7 : decode cX5_zoneFor 7 = .ok (.istore 6, 2) := dk_54 6 (dk_at dksX5_zoneFor_0 7 rfl rfl)
theorem dX5_zoneFor_9 : decode cX5_zoneFor 9 = .ok (.iload 6, 2) := dk_21 6 (dk_at dksX5_zoneFor_0 9 rfl rfl)
theorem dX5_zoneFor_11 : decode cX5_zoneFor 11 = .ok (.aload_n 0, 1) := dk_42 (dk_at dksX5_zoneFor_0 11 rfl rfl)
theorem dX5_zoneFor_12 : decode cX5_zoneFor 12 = .ok (.getfield 7, 3) := dk_180 0 7 (dk_at dksX5_zoneFor_0 12 rfl rfl)
theorem dX5_zoneFor_15 : decode cX5_zoneFor 15 = .ok (.iconst 0, 1) := dk_3 (dk_at dksX5_zoneFor_0 15 rfl rfl)
theorem dX5_zoneFor_16 : decode cX5_zoneFor 16 = .ok (.iaload, 1) := dk_46 (dk_at dksX5_zoneFor_0 16 rfl rfl)
theorem dX5_zoneFor_17 : decode cX5_zoneFor 17 = .ok (.if_icmp .ge 127, 3) := dk_162 0 127 (dk_at dksX5_zoneFor_0 17 rfl rfl)
theorem dX5_zoneFor_20 : decode cX5_zoneFor 20 = .ok (.iload 6, 2) := dk_21 6 (dk_at dksX5_zoneFor_0 20 rfl rfl)
theorem dX5_zoneFor_22 : decode cX5_zoneFor 22 = .ok (.iload_n 3, 1) := dk_29 (dk_at dksX5_zoneFor_0 22 rfl rfl)
theorem dX5_zoneFor_23 : decode cX5_zoneFor 23 = .ok (.if_icmp .eq 115, 3) := dk_159 0 115 (dk_at dksX5_zoneFor_1 0 rfl rfl)
theorem dX5_zoneFor_26 : decode cX5_zoneFor 26 = .ok (.aload_n 0, 1) := dk_42 (dk_at dksX5_zoneFor_1 3 rfl rfl)
theorem dX5_zoneFor_27 : decode cX5_zoneFor 27 = .ok (.iload 6, 2) := dk_21 6 (dk_at dksX5_zoneFor_1 4 rfl rfl)
theorem dX5_zoneFor_29 : decode cX5_zoneFor 29 = .ok (.iload_n 2, 1) := dk_28 (dk_at dksX5_zoneFor_1 6 rfl rfl)
theorem dX5_zoneFor_30 : decode cX5_zoneFor 30 = .ok (.invokevirtual 100, 3) := dk_182 0 100 (dk_at dksX5_zoneFor_1 7 rfl rfl)
theorem dX5_zoneFor_33 : decode cX5_zoneFor 33 = .ok (.ifCond .ne 6, 3) := dk_154 0 6 (dk_at dksX5_zoneFor_1 10 rfl rfl)
theorem dX5_zoneFor_36 : decode cX5_zoneFor 36 = .ok (.goto 102, 3) := dk_167 0 102 (dk_at dksX5_zoneFor_1 13 rfl rfl)
theorem dX5_zoneFor_39 : decode cX5_zoneFor 39 = .ok (.aload_n 0, 1) := dk_42 (dk_at dksX5_zoneFor_1 16 rfl rfl)
theorem dX5_zoneFor_40 : decode cX5_zoneFor 40 = .ok (.iload 6, 2) := dk_21 6 (dk_at dksX5_zoneFor_1 17 rfl rfl)
theorem dX5_zoneFor_42 : decode cX5_zoneFor 42 = .ok (.invokevirtual 68, 3) := dk_182 0 68 (dk_at dksX5_zoneFor_1 19 rfl rfl)
theorem dX5_zoneFor_45 : decode cX5_zoneFor 45 = .ok (.iload_n 1, 1) := dk_27 (dk_at dksX5_zoneFor_1 22 rfl rfl)
theorem dX5_zoneFor_46 : decode cX5_zoneFor 46 = .ok (.if_icmp .ne 6, 3) := dk_160 0 6 (dk_at dksX5_zoneFor_2 0 rfl rfl)
theorem dX5_zoneFor_49 : decode cX5_zoneFor 49 = .ok (.iload 6, 2) := dk_21 6 (dk_at dksX5_zoneFor_2 3 rfl rfl)
theorem dX5_zoneFor_51 : decode cX5_zoneFor 51 = .ok (.ireturn, 1) := dk_172 (dk_at dksX5_zoneFor_2 5 rfl rfl)
theorem dX5_zoneFor_52 : decode cX5_zoneFor 52 = .ok (.aload_n 0, 1) := dk_42 (dk_at dksX5_zoneFor_2 6 rfl rfl)
theorem dX5_zoneFor_53 : decode cX5_zoneFor 53 = .ok (.iload 6, 2) := dk_21 6 (dk_at dksX5_zoneFor_2 7 rfl rfl)
theorem dX5_zoneFor_55 : decode cX5_zoneFor 55 = .ok (.invokevirtual 104, 3) := dk_182 0 104 (dk_at dksX5_zoneFor_2 9 rfl rfl)
theorem dX5_zoneFor_58 : decode cX5_zoneFor 58 = .ok (.ifCond .eq 21, 3) := dk_153 0 21 (dk_at dksX5_zoneFor_2 12 rfl rfl)
theorem dX5_zoneFor_61 : decode cX5_zoneFor 61 = .ok (.iload 4, 2) := dk_21 4 (dk_at dksX5_zoneFor_2 15 rfl rfl)
theorem dX5_zoneFor_63 : decode cX5_zoneFor 63 = .ok (.iconst (-1), 1) := dk_2 (dk_at dksX5_zoneFor_2 17 rfl rfl)
theorem dX5_zoneFor_64 : decode cX5_zoneFor 64 = .ok (.if_icmp .ne 8, 3) := dk_160 0 8 (dk_at dksX5_zoneFor_2 18 rfl rfl)
theorem dX5_zoneFor_67 : decode cX5_zoneFor 67 = .ok (.iload 6, 2) := dk_21 6 (dk_at dksX5_zoneFor_2 21 rfl rfl)
theorem dX5_zoneFor_69 : decode cX5_zoneFor 69 = .ok (.goto 5, 3) := dk_167 0 5 (dk_at dksX5_zoneFor_3 0 rfl rfl)
theorem dX5_zoneFor_72 : decode cX5_zoneFor 72 = .ok (.iload 4, 2) := dk_21 4 (dk_at dksX5_zoneFor_3 3 rfl rfl)
theorem dX5_zoneFor_74 : decode cX5_zoneFor 74 = .ok (.istore 4, 2) := dk_54 4 (dk_at dksX5_zoneFor_3 5 rfl rfl)
theorem dX5_zoneFor_76 : decode cX5_zoneFor 76 = .ok (.goto 62, 3) := dk_167 0 62 (dk_at dksX5_zoneFor_3 7 rfl rfl)
theorem dX5_zoneFor_79 : decode cX5_zoneFor 79 = .ok (.iload 5, 2) := dk_21 5 (dk_at dksX5_zoneFor_3 10 rfl rfl)
theorem dX5_zoneFor_81 : decode cX5_zoneFor 81 = .ok (.iconst (-1), 1) := dk_2 (dk_at dksX5_zoneFor_3 12 rfl rfl)
theorem dX5_zoneFor_82 : decode cX5_zoneFor 82 = .ok (.if_icmp .eq 52, 3) := dk_159 0 52 (dk_at dksX5_zoneFor_3 13 rfl rfl)
theorem dX5_zoneFor_85 : decode cX5_zoneFor 85 = .ok (.aload_n 0, 1) := dk_42 (dk_at dksX5_zoneFor_3 16 rfl rfl)
theorem dX5_zoneFor_86 : decode cX5_zoneFor 86 = .ok (.iload 6, 2) := dk_21 6 (dk_at dksX5_zoneFor_3 17 rfl rfl)
theorem dX5_zoneFor_88 : decode cX5_zoneFor 88 = .ok (.iload_n 1, 1) := dk_27 (dk_at dksX5_zoneFor_3 19 rfl rfl)
theorem dX5_zoneFor_89 : decode cX5_zoneFor 89 = .ok (.invokevirtual 107, 3) := dk_182 0 107 (dk_at dksX5_zoneFor_3 20 rfl rfl)
theorem dX5_zoneFor_92 : decode cX5_zoneFor 92 = .ok (.aload_n 0, 1) := dk_42 (dk_at dksX5_zoneFor_3 23 rfl rfl)
theorem dX5_zoneFor_93 : decode cX5_zoneFor 93 = .ok (.iload 5, 2) := dk_21 5 (dk_at dksX5_zoneFor_4 0 rfl rfl)
theorem dX5_zoneFor_95 : decode cX5_zoneFor 95 = .ok (.iload_n 1, 1) := dk_27 (dk_at dksX5_zoneFor_4 2 rfl rfl)
theorem dX5_zoneFor_96 : decode cX5_zoneFor 96 = .ok (.invokevirtual 107, 3) := dk_182 0 107 (dk_at dksX5_zoneFor_4 3 rfl rfl)
theorem dX5_zoneFor_99 : decode cX5_zoneFor 99 = .ok (.if_icmp .lt 35, 3) := dk_161 0 35 (dk_at dksX5_zoneFor_4 6 rfl rfl)
theorem dX5_zoneFor_102 : decode cX5_zoneFor 102 = .ok (.aload_n 0, 1) := dk_42 (dk_at dksX5_zoneFor_4 9 rfl rfl)
theorem dX5_zoneFor_103 : decode cX5_zoneFor 103 = .ok (.iload 6, 2) := dk_21 6 (dk_at dksX5_zoneFor_4 10 rfl rfl)
theorem dX5_zoneFor_105 : decode cX5_zoneFor 105 = .ok (.iload_n 1, 1) := dk_27 (dk_at dksX5_zoneFor_4 12 rfl rfl)
theorem dX5_zoneFor_106 : decode cX5_zoneFor 106 = .ok (.invokevirtual 107, 3) := dk_182 0 107 (dk_at dksX5_zoneFor_4 13 rfl rfl)
theorem dX5_zoneFor_109 : decode cX5_zoneFor 109 = .ok (.aload_n 0, 1) := dk_42 (dk_at dksX5_zoneFor_4 16 rfl rfl)
theorem dX5_zoneFor_110 : decode cX5_zoneFor 110 = .ok (.iload 5, 2) := dk_21 5 (dk_at dksX5_zoneFor_4 17 rfl rfl)
theorem dX5_zoneFor_112 : decode cX5_zoneFor 112 = .ok (.iload_n 1, 1) := dk_27 (dk_at dksX5_zoneFor_4 19 rfl rfl)
theorem dX5_zoneFor_113 : decode cX5_zoneFor 113 = .ok (.invokevirtual 107, 3) := dk_182 0 107 (dk_at dksX5_zoneFor_4 20 rfl rfl)
theorem dX5_zoneFor_116 : decode cX5_zoneFor 116 = .ok (.if_icmp .ne 22, 3) := dk_160 0 22 (dk_at dksX5_zoneFor_5 0 rfl rfl)
theorem dX5_zoneFor_119 : decode cX5_zoneFor 119 = .ok (.aload_n 0, 1) := dk_42 (dk_at dksX5_zoneFor_5 3 rfl rfl)
theorem dX5_zoneFor_120 : decode cX5_zoneFor 120 = .ok (.iload 6, 2) := dk_21 6 (dk_at dksX5_zoneFor_5 4 rfl rfl)
theorem dX5_zoneFor_122 : decode cX5_zoneFor 122 = .ok (.invokevirtual 68, 3) := dk_182 0 68 (dk_at dksX5_zoneFor_5 6 rfl rfl)
theorem dX5_zoneFor_125 : decode cX5_zoneFor 125 = .ok (.aload_n 0, 1) := dk_42 (dk_at dksX5_zoneFor_5 9 rfl rfl)
theorem dX5_zoneFor_126 : decode cX5_zoneFor 126 = .ok (.iload 5, 2) := dk_21 5 (dk_at dksX5_zoneFor_5 10 rfl rfl)
theorem dX5_zoneFor_128 : decode cX5_zoneFor 128 = .ok (.invokevirtual 68, 3) := dk_182 0 68 (dk_at dksX5_zoneFor_5 12 rfl rfl)
theorem dX5_zoneFor_131 : decode cX5_zoneFor 131 = .ok (.if_icmp .ge 7, 3) := dk_162 0 7 (dk_at dksX5_zoneFor_5 15 rfl rfl)
theorem dX5_zoneFor_134 : decode cX5_zoneFor 134 = .ok (.iload 6, 2) := dk_21 6 (dk_at dksX5_zoneFor_5 18 rfl rfl)
theorem dX5_zoneFor_136 : decode cX5_zoneFor 136 = .ok (.istore 5, 2) := dk_54 5 (dk_at dksX5_zoneFor_5 20 rfl rfl)
theorem dX5_zoneFor_138 : decode cX5_zoneFor 138 = .ok (.iinc 6 1, 3) := dk_132 6 1 (dk_at dksX5_zoneFor_6 0 rfl rfl)
theorem dX5_zoneFor_141 : decode cX5_zoneFor 141 = .ok (.goto (-132), 3) := dk_167 255 124 (dk_at dksX5_zoneFor_6 3 rfl rfl)
theorem dX5_zoneFor_144 : decode cX5_zoneFor 144 = .ok (.iload 4, 2) := dk_21 4 (dk_at dksX5_zoneFor_6 6 rfl rfl)
theorem dX5_zoneFor_146 : decode cX5_zoneFor 146 = .ok (.iconst (-1), 1) := dk_2 (dk_at dksX5_zoneFor_6 8 rfl rfl)
theorem dX5_zoneFor_147 : decode cX5_zoneFor 147 = .ok (.if_icmp .eq 8, 3) := dk_159 0 8 (dk_at dksX5_zoneFor_6 9 rfl rfl)
theorem dX5_zoneFor_150 : decode cX5_zoneFor 150 = .ok (.iload 4, 2) := dk_21 4 (dk_at dksX5_zoneFor_6 12 rfl rfl)
theorem dX5_zoneFor_152 : decode cX5_zoneFor 152 = .ok (.goto 5, 3) := dk_167 0 5 (dk_at dksX5_zoneFor_6 14 rfl rfl)
theorem dX5_zoneFor_155 : decode cX5_zoneFor 155 = .ok (.iload 5, 2) := dk_21 5 (dk_at dksX5_zoneFor_6 17 rfl rfl)
theorem dX5_zoneFor_157 : decode cX5_zoneFor 157 = .ok (.ireturn, 1) := dk_172 (dk_at dksX5_zoneFor_6 19 rfl rfl)
abbrev cX5_hasRoom : ByteArray := prog_14_method_22_code
def yX5_hasRoom : MethodName := ⟨RX5, "hasRoom", "(II)Z"⟩
def dkwX5_hasRoom_1 : List UInt8 := [167, 0, 4, 3, 172]
abbrev dktX5_hasRoom_1 : List UInt8 := dkwX5_hasRoom_1 ++ []
def dkwX5_hasRoom_0 : List UInt8 := [42, 180, 0, 7, 4, 46, 42, 180, 0, 7, 27, 184, 0, 61, 4, 96, 46, 100, 28, 161, 0, 7, 4]
abbrev dktX5_hasRoom_0 : List UInt8 := dkwX5_hasRoom_0 ++ dktX5_hasRoom_1
theorem dksX5_hasRoom_0 : cX5_hasRoom.data.toList.drop 0 = dktX5_hasRoom_0 := by decide +kernel
theorem dksX5_hasRoom_1 : cX5_hasRoom.data.toList.drop 23 = dktX5_hasRoom_1 := dk_seg dksX5_hasRoom_0 23 rfl rfl
theorem dX5_hasRoom_0 : decode cX5_hasRoom 0 = .ok (.aload_n 0, 1) := dk_42 (dk_at dksX5_hasRoom_0 0 rfl rfl)
theorem dX5_hasRoom_1 : decode cX5_hasRoom 1 = .ok (.getfield 7, 3) := dk_180 0 7 (dk_at dksX5_hasRoom_0 1 rfl rfl)
theorem dX5_hasRoom_4 : decode cX5_hasRoom 4 = .ok (.iconst 1, 1) := dk_4 (dk_at dksX5_hasRoom_0 4 rfl rfl)
theorem dX5_hasRoom_5 : decode cX5_hasRoom 5 = .ok (.iaload, 1) := dk_46 (dk_at dksX5_hasRoom_0 5 rfl rfl)
theorem dX5_hasRoom_6 : decode cX5_hasRoom 6 = .ok (.aload_n 0, 1) := dk_42 (dk_at dksX5_hasRoom_0 6 rfl rfl)
theorem dX5_hasRoom_7 : decode cX5_hasRoom 7 = .ok (.getfield 7, 3) := dk_180 0 7 (dk_at dksX5_hasRoom_0 7 rfl rfl)
theorem dX5_hasRoom_10 : decode cX5_hasRoom 10 = .ok (.iload_n 1, 1) := dk_27 (dk_at dksX5_hasRoom_0 10 rfl rfl)
theorem dX5_hasRoom_11 : decode cX5_hasRoom 11 = .ok (.invokestatic 61, 3) := dk_184 0 61 (dk_at dksX5_hasRoom_0 11 rfl rfl)
theorem dX5_hasRoom_14 : decode cX5_hasRoom 14 = .ok (.iconst 1, 1) := dk_4 (dk_at dksX5_hasRoom_0 14 rfl rfl)
theorem dX5_hasRoom_15 : decode cX5_hasRoom 15 = .ok (.iadd, 1) := dk_96 (dk_at dksX5_hasRoom_0 15 rfl rfl)
theorem dX5_hasRoom_16 : decode cX5_hasRoom 16 = .ok (.iaload, 1) := dk_46 (dk_at dksX5_hasRoom_0 16 rfl rfl)
theorem dX5_hasRoom_17 : decode cX5_hasRoom 17 = .ok (.isub, 1) := dk_100 (dk_at dksX5_hasRoom_0 17 rfl rfl)
theorem dX5_hasRoom_18 : decode cX5_hasRoom 18 = .ok (.iload_n 2, 1) := dk_28 (dk_at dksX5_hasRoom_0 18 rfl rfl)
theorem dX5_hasRoom_19 : decode cX5_hasRoom 19 = .ok (.if_icmp .lt 7, 3) := dk_161 0 7 (dk_at dksX5_hasRoom_0 19 rfl rfl)
theorem dX5_hasRoom_22 : decode cX5_hasRoom 22 = .ok (.iconst 1, 1) := dk_4 (dk_at dksX5_hasRoom_0 22 rfl rfl)
theorem dX5_hasRoom_23 : decode cX5_hasRoom 23 = .ok (.goto 4, 3) := dk_167 0 4 (dk_at dksX5_hasRoom_1 0 rfl rfl)
theorem dX5_hasRoom_26 : decode cX5_hasRoom 26 = .ok (.iconst 0, 1) := dk_3 (dk_at dksX5_hasRoom_1 3 rfl rfl)
theorem dX5_hasRoom_27 : decode cX5_hasRoom 27 = .ok (.ireturn, 1) := dk_172 (dk_at dksX5_hasRoom_1 4 rfl rfl)
abbrev cX5_apart : ByteArray := prog_14_method_23_code
def yX5_apart : MethodName := ⟨RX5, "apart", "(II)I"⟩
def dkwX5_apart_0 : List UInt8 := [42, 27, 182, 0, 68, 28, 100, 62, 29, 156, 0, 8, 29, 116, 167, 0, 4, 29, 172]
abbrev dktX5_apart_0 : List UInt8 := dkwX5_apart_0 ++ []
theorem dksX5_apart_0 : cX5_apart.data.toList.drop 0 = dktX5_apart_0 := by decide +kernel
theorem dX5_apart_0 : decode cX5_apart 0 = .ok (.aload_n 0, 1) := dk_42 (dk_at dksX5_apart_0 0 rfl rfl)
theorem dX5_apart_1 : decode cX5_apart 1 = .ok (.iload_n 1, 1) := dk_27 (dk_at dksX5_apart_0 1 rfl rfl)
theorem dX5_apart_2 : decode cX5_apart 2 = .ok (.invokevirtual 68, 3) := dk_182 0 68 (dk_at dksX5_apart_0 2 rfl rfl)
theorem dX5_apart_5 : decode cX5_apart 5 = .ok (.iload_n 2, 1) := dk_28 (dk_at dksX5_apart_0 5 rfl rfl)
theorem dX5_apart_6 : decode cX5_apart 6 = .ok (.isub, 1) := dk_100 (dk_at dksX5_apart_0 6 rfl rfl)
theorem dX5_apart_7 : decode cX5_apart 7 = .ok (.istore_n 3, 1) := dk_62 (dk_at dksX5_apart_0 7 rfl rfl)
theorem dX5_apart_8 : decode cX5_apart 8 = .ok (.iload_n 3, 1) := dk_29 (dk_at dksX5_apart_0 8 rfl rfl)
theorem dX5_apart_9 : decode cX5_apart 9 = .ok (.ifCond .ge 8, 3) := dk_156 0 8 (dk_at dksX5_apart_0 9 rfl rfl)
theorem dX5_apart_12 : decode cX5_apart 12 = .ok (.iload_n 3, 1) := dk_29 (dk_at dksX5_apart_0 12 rfl rfl)
theorem dX5_apart_13 : decode cX5_apart 13 = .ok (.ineg, 1) := dk_116 (dk_at dksX5_apart_0 13 rfl rfl)
theorem dX5_apart_14 : decode cX5_apart 14 = .ok (.goto 4, 3) := dk_167 0 4 (dk_at dksX5_apart_0 14 rfl rfl)
theorem dX5_apart_17 : decode cX5_apart 17 = .ok (.iload_n 3, 1) := dk_29 (dk_at dksX5_apart_0 17 rfl rfl)
theorem dX5_apart_18 : decode cX5_apart 18 = .ok (.ireturn, 1) := dk_172 (dk_at dksX5_apart_0 18 rfl rfl)
abbrev cX5_writes : ByteArray := prog_14_method_31_code
def yX5_writes : MethodName := ⟨RX5, "writes", "(IIII)V"⟩
def dkwX5_writes_10 : List UInt8 := [42, 21, 9, 28, 2, 182, 0, 125, 21, 9, 182, 0, 128, 177]
abbrev dktX5_writes_10 : List UInt8 := dkwX5_writes_10 ++ []
def dkwX5_writes_9 : List UInt8 := [96, 79, 42, 180, 0, 7, 21, 6, 16, 6, 96, 46, 42, 180, 0, 7, 5, 46, 108, 54, 9, 42, 21, 5]
abbrev dktX5_writes_9 : List UInt8 := dkwX5_writes_9 ++ dktX5_writes_10
def dkwX5_writes_8 : List UInt8 := [96, 2, 79, 42, 180, 0, 7, 21, 6, 16, 16, 96, 21, 4, 79, 42, 180, 0, 7, 16, 7, 92, 46, 4]
abbrev dktX5_writes_8 : List UInt8 := dkwX5_writes_8 ++ dktX5_writes_9
def dkwX5_writes_7 : List UInt8 := [16, 8, 96, 3, 79, 42, 180, 0, 7, 21, 6, 16, 9, 96, 2, 79, 42, 180, 0, 7, 21, 6, 16, 15]
abbrev dktX5_writes_7 : List UInt8 := dkwX5_writes_7 ++ dktX5_writes_8
def dkwX5_writes_6 : List UInt8 := [46, 21, 8, 96, 79, 42, 180, 0, 7, 21, 6, 16, 7, 96, 21, 7, 79, 42, 180, 0, 7, 21, 6]
abbrev dktX5_writes_6 : List UInt8 := dkwX5_writes_6 ++ dktX5_writes_7
def dkwX5_writes_5 : List UInt8 := [180, 0, 7, 21, 6, 7, 96, 4, 79, 42, 180, 0, 7, 21, 6, 16, 6, 96, 42, 180, 0, 7, 16, 6]
abbrev dktX5_writes_5 : List UInt8 := dkwX5_writes_5 ++ dktX5_writes_6
def dkwX5_writes_4 : List UInt8 := [21, 6, 5, 96, 29, 79, 42, 180, 0, 7, 21, 6, 6, 96, 42, 180, 0, 7, 16, 6, 46, 79, 42]
abbrev dktX5_writes_4 : List UInt8 := dkwX5_writes_4 ++ dktX5_writes_5
def dkwX5_writes_3 : List UInt8 := [180, 0, 7, 21, 6, 3, 96, 27, 79, 42, 180, 0, 7, 21, 6, 4, 96, 28, 79, 42, 180, 0, 7]
abbrev dktX5_writes_3 : List UInt8 := dkwX5_writes_3 ++ dktX5_writes_4
def dkwX5_writes_2 : List UInt8 := [21, 6, 16, 10, 96, 21, 9, 96, 42, 21, 9, 27, 28, 182, 0, 89, 79, 132, 9, 1, 167, 255, 226, 42]
abbrev dktX5_writes_2 : List UInt8 := dkwX5_writes_2 ++ dktX5_writes_3
def dkwX5_writes_1 : List UInt8 := [21, 7, 27, 28, 21, 4, 182, 0, 121, 54, 8, 3, 54, 9, 21, 9, 8, 162, 0, 30, 42, 180, 0, 7]
abbrev dktX5_writes_1 : List UInt8 := dkwX5_writes_1 ++ dktX5_writes_2
def dkwX5_writes_0 : List UInt8 := [42, 180, 0, 7, 16, 7, 46, 54, 5, 21, 5, 184, 0, 65, 54, 6, 42, 182, 0, 117, 54, 7, 42]
abbrev dktX5_writes_0 : List UInt8 := dkwX5_writes_0 ++ dktX5_writes_1
theorem dksX5_writes_0 : cX5_writes.data.toList.drop 0 = dktX5_writes_0 := by decide +kernel
theorem dksX5_writes_1 : cX5_writes.data.toList.drop 23 = dktX5_writes_1 := dk_seg dksX5_writes_0 23 rfl rfl
theorem dksX5_writes_2 : cX5_writes.data.toList.drop 47 = dktX5_writes_2 := dk_seg dksX5_writes_1 24 rfl rfl
theorem dksX5_writes_3 : cX5_writes.data.toList.drop 71 = dktX5_writes_3 := dk_seg dksX5_writes_2 24 rfl rfl
theorem dksX5_writes_4 : cX5_writes.data.toList.drop 94 = dktX5_writes_4 := dk_seg dksX5_writes_3 23 rfl rfl
theorem dksX5_writes_5 : cX5_writes.data.toList.drop 117 = dktX5_writes_5 := dk_seg dksX5_writes_4 23 rfl rfl
theorem dksX5_writes_6 : cX5_writes.data.toList.drop 141 = dktX5_writes_6 := dk_seg dksX5_writes_5 24 rfl rfl
theorem dksX5_writes_7 : cX5_writes.data.toList.drop 164 = dktX5_writes_7 := dk_seg dksX5_writes_6 23 rfl rfl
theorem dksX5_writes_8 : cX5_writes.data.toList.drop 188 = dktX5_writes_8 := dk_seg dksX5_writes_7 24 rfl rfl
theorem dksX5_writes_9 : cX5_writes.data.toList.drop 212 = dktX5_writes_9 := dk_seg dksX5_writes_8 24 rfl rfl
theorem dksX5_writes_10 : cX5_writes.data.toList.drop 236 = dktX5_writes_10 := dk_seg dksX5_writes_9 24 rfl rfl
theorem dX5_writes_0 : decode cX5_writes 0 = .ok (.aload_n 0, 1) := dk_42 (dk_at dksX5_writes_0 0 rfl rfl)
theorem dX5_writes_1 : decode cX5_writes 1 = .ok (.getfield 7, 3) := dk_180 0 7 (dk_at dksX5_writes_0 1 rfl rfl)
theorem dX5_writes_4 : decode cX5_writes 4 = .ok (.bipush 7, 2) := dk_16 7 (dk_at dksX5_writes_0 4 rfl rfl)
theorem dX5_writes_6 : decode cX5_writes 6 = .ok (.iaload, 1) := dk_46 (dk_at dksX5_writes_0 6 rfl rfl)
theorem dX5_writes_7 : decode cX5_writes 7 = .ok (.istore 5, 2) := dk_54 5 (dk_at dksX5_writes_0 7 rfl rfl)
theorem dX5_writes_9 : decode cX5_writes 9 = .ok (.iload 5, 2) := dk_21 5 (dk_at dksX5_writes_0 9 rfl rfl)
theorem dX5_writes_11 : decode cX5_writes 11 = .ok (.invokestatic 65, 3) := dk_184 0 65 (dk_at dksX5_writes_0 11 rfl rfl)
theorem dX5_writes_14 : decode cX5_writes 14 = .ok (.istore 6, 2) := dk_54 6 (dk_at dksX5_writes_0 14 rfl rfl)
theorem dX5_writes_16 : decode cX5_writes 16 = .ok (.aload_n 0, 1) := dk_42 (dk_at dksX5_writes_0 16 rfl rfl)
theorem dX5_writes_17 : decode cX5_writes 17 = .ok (.invokevirtual 117, 3) := dk_182 0 117 (dk_at dksX5_writes_0 17 rfl rfl)
theorem dX5_writes_20 : decode cX5_writes 20 = .ok (.istore 7, 2) := dk_54 7 (dk_at dksX5_writes_0 20 rfl rfl)
theorem dX5_writes_22 : decode cX5_writes 22 = .ok (.aload_n 0, 1) := dk_42 (dk_at dksX5_writes_0 22 rfl rfl)
theorem dX5_writes_23 : decode cX5_writes 23 = .ok (.iload 7, 2) := dk_21 7 (dk_at dksX5_writes_1 0 rfl rfl)
theorem dX5_writes_25 : decode cX5_writes 25 = .ok (.iload_n 1, 1) := dk_27 (dk_at dksX5_writes_1 2 rfl rfl)
theorem dX5_writes_26 : decode cX5_writes 26 = .ok (.iload_n 2, 1) := dk_28 (dk_at dksX5_writes_1 3 rfl rfl)
theorem dX5_writes_27 : decode cX5_writes 27 = .ok (.iload 4, 2) := dk_21 4 (dk_at dksX5_writes_1 4 rfl rfl)
theorem dX5_writes_29 : decode cX5_writes 29 = .ok (.invokevirtual 121, 3) := dk_182 0 121 (dk_at dksX5_writes_1 6 rfl rfl)
theorem dX5_writes_32 : decode cX5_writes 32 = .ok (.istore 8, 2) := dk_54 8 (dk_at dksX5_writes_1 9 rfl rfl)
theorem dX5_writes_34 : decode cX5_writes 34 = .ok (.iconst 0, 1) := dk_3 (dk_at dksX5_writes_1 11 rfl rfl)
theorem dX5_writes_35 : decode cX5_writes 35 = .ok (.istore 9, 2) := dk_54 9 (dk_at dksX5_writes_1 12 rfl rfl)
theorem dX5_writes_37 : decode cX5_writes 37 = .ok (.iload 9, 2) := dk_21 9 (dk_at dksX5_writes_1 14 rfl rfl)
theorem dX5_writes_39 : decode cX5_writes 39 = .ok (.iconst 5, 1) := dk_8 (dk_at dksX5_writes_1 16 rfl rfl)
theorem dX5_writes_40 : decode cX5_writes 40 = .ok (.if_icmp .ge 30, 3) := dk_162 0 30 (dk_at dksX5_writes_1 17 rfl rfl)
theorem dX5_writes_43 : decode cX5_writes 43 = .ok (.aload_n 0, 1) := dk_42 (dk_at dksX5_writes_1 20 rfl rfl)
theorem dX5_writes_44 : decode cX5_writes 44 = .ok (.getfield 7, 3) := dk_180 0 7 (dk_at dksX5_writes_1 21 rfl rfl)
theorem dX5_writes_47 : decode cX5_writes 47 = .ok (.iload 6, 2) := dk_21 6 (dk_at dksX5_writes_2 0 rfl rfl)
theorem dX5_writes_49 : decode cX5_writes 49 = .ok (.bipush 10, 2) := dk_16 10 (dk_at dksX5_writes_2 2 rfl rfl)
theorem dX5_writes_51 : decode cX5_writes 51 = .ok (.iadd, 1) := dk_96 (dk_at dksX5_writes_2 4 rfl rfl)
theorem dX5_writes_52 : decode cX5_writes 52 = .ok (.iload 9, 2) := dk_21 9 (dk_at dksX5_writes_2 5 rfl rfl)
theorem dX5_writes_54 : decode cX5_writes 54 = .ok (.iadd, 1) := dk_96 (dk_at dksX5_writes_2 7 rfl rfl)
theorem dX5_writes_55 : decode cX5_writes 55 = .ok (.aload_n 0, 1) := dk_42 (dk_at dksX5_writes_2 8 rfl rfl)
theorem dX5_writes_56 : decode cX5_writes 56 = .ok (.iload 9, 2) := dk_21 9 (dk_at dksX5_writes_2 9 rfl rfl)
theorem dX5_writes_58 : decode cX5_writes 58 = .ok (.iload_n 1, 1) := dk_27 (dk_at dksX5_writes_2 11 rfl rfl)
theorem dX5_writes_59 : decode cX5_writes 59 = .ok (.iload_n 2, 1) := dk_28 (dk_at dksX5_writes_2 12 rfl rfl)
theorem dX5_writes_60 : decode cX5_writes 60 = .ok (.invokevirtual 89, 3) := dk_182 0 89 (dk_at dksX5_writes_2 13 rfl rfl)
theorem dX5_writes_63 : decode cX5_writes 63 = .ok (.iastore, 1) := dk_79 (dk_at dksX5_writes_2 16 rfl rfl)
theorem dX5_writes_64 : decode cX5_writes 64 = .ok (.iinc 9 1, 3) := dk_132 9 1 (dk_at dksX5_writes_2 17 rfl rfl)
theorem dX5_writes_67 : decode cX5_writes 67 = .ok (.goto (-30), 3) := dk_167 255 226 (dk_at dksX5_writes_2 20 rfl rfl)
theorem dX5_writes_70 : decode cX5_writes 70 = .ok (.aload_n 0, 1) := dk_42 (dk_at dksX5_writes_2 23 rfl rfl)
theorem dX5_writes_71 : decode cX5_writes 71 = .ok (.getfield 7, 3) := dk_180 0 7 (dk_at dksX5_writes_3 0 rfl rfl)
theorem dX5_writes_74 : decode cX5_writes 74 = .ok (.iload 6, 2) := dk_21 6 (dk_at dksX5_writes_3 3 rfl rfl)
theorem dX5_writes_76 : decode cX5_writes 76 = .ok (.iconst 0, 1) := dk_3 (dk_at dksX5_writes_3 5 rfl rfl)
theorem dX5_writes_77 : decode cX5_writes 77 = .ok (.iadd, 1) := dk_96 (dk_at dksX5_writes_3 6 rfl rfl)
theorem dX5_writes_78 : decode cX5_writes 78 = .ok (.iload_n 1, 1) := dk_27 (dk_at dksX5_writes_3 7 rfl rfl)
theorem dX5_writes_79 : decode cX5_writes 79 = .ok (.iastore, 1) := dk_79 (dk_at dksX5_writes_3 8 rfl rfl)
theorem dX5_writes_80 : decode cX5_writes 80 = .ok (.aload_n 0, 1) := dk_42 (dk_at dksX5_writes_3 9 rfl rfl)
theorem dX5_writes_81 : decode cX5_writes 81 = .ok (.getfield 7, 3) := dk_180 0 7 (dk_at dksX5_writes_3 10 rfl rfl)
theorem dX5_writes_84 : decode cX5_writes 84 = .ok (.iload 6, 2) := dk_21 6 (dk_at dksX5_writes_3 13 rfl rfl)
theorem dX5_writes_86 : decode cX5_writes 86 = .ok (.iconst 1, 1) := dk_4 (dk_at dksX5_writes_3 15 rfl rfl)
theorem dX5_writes_87 : decode cX5_writes 87 = .ok (.iadd, 1) := dk_96 (dk_at dksX5_writes_3 16 rfl rfl)
theorem dX5_writes_88 : decode cX5_writes 88 = .ok (.iload_n 2, 1) := dk_28 (dk_at dksX5_writes_3 17 rfl rfl)
theorem dX5_writes_89 : decode cX5_writes 89 = .ok (.iastore, 1) := dk_79 (dk_at dksX5_writes_3 18 rfl rfl)
theorem dX5_writes_90 : decode cX5_writes 90 = .ok (.aload_n 0, 1) := dk_42 (dk_at dksX5_writes_3 19 rfl rfl)
theorem dX5_writes_91 : decode cX5_writes 91 = .ok (.getfield 7, 3) := dk_180 0 7 (dk_at dksX5_writes_3 20 rfl rfl)
theorem dX5_writes_94 : decode cX5_writes 94 = .ok (.iload 6, 2) := dk_21 6 (dk_at dksX5_writes_4 0 rfl rfl)
theorem dX5_writes_96 : decode cX5_writes 96 = .ok (.iconst 2, 1) := dk_5 (dk_at dksX5_writes_4 2 rfl rfl)
theorem dX5_writes_97 : decode cX5_writes 97 = .ok (.iadd, 1) := dk_96 (dk_at dksX5_writes_4 3 rfl rfl)
theorem dX5_writes_98 : decode cX5_writes 98 = .ok (.iload_n 3, 1) := dk_29 (dk_at dksX5_writes_4 4 rfl rfl)
theorem dX5_writes_99 : decode cX5_writes 99 = .ok (.iastore, 1) := dk_79 (dk_at dksX5_writes_4 5 rfl rfl)
theorem dX5_writes_100 : decode cX5_writes 100 = .ok (.aload_n 0, 1) := dk_42 (dk_at dksX5_writes_4 6 rfl rfl)
theorem dX5_writes_101 : decode cX5_writes 101 = .ok (.getfield 7, 3) := dk_180 0 7 (dk_at dksX5_writes_4 7 rfl rfl)
theorem dX5_writes_104 : decode cX5_writes 104 = .ok (.iload 6, 2) := dk_21 6 (dk_at dksX5_writes_4 10 rfl rfl)
theorem dX5_writes_106 : decode cX5_writes 106 = .ok (.iconst 3, 1) := dk_6 (dk_at dksX5_writes_4 12 rfl rfl)
theorem dX5_writes_107 : decode cX5_writes 107 = .ok (.iadd, 1) := dk_96 (dk_at dksX5_writes_4 13 rfl rfl)
theorem dX5_writes_108 : decode cX5_writes 108 = .ok (.aload_n 0, 1) := dk_42 (dk_at dksX5_writes_4 14 rfl rfl)
theorem dX5_writes_109 : decode cX5_writes 109 = .ok (.getfield 7, 3) := dk_180 0 7 (dk_at dksX5_writes_4 15 rfl rfl)
theorem dX5_writes_112 : decode cX5_writes 112 = .ok (.bipush 6, 2) := dk_16 6 (dk_at dksX5_writes_4 18 rfl rfl)
theorem dX5_writes_114 : decode cX5_writes 114 = .ok (.iaload, 1) := dk_46 (dk_at dksX5_writes_4 20 rfl rfl)
theorem dX5_writes_115 : decode cX5_writes 115 = .ok (.iastore, 1) := dk_79 (dk_at dksX5_writes_4 21 rfl rfl)
theorem dX5_writes_116 : decode cX5_writes 116 = .ok (.aload_n 0, 1) := dk_42 (dk_at dksX5_writes_4 22 rfl rfl)
theorem dX5_writes_117 : decode cX5_writes 117 = .ok (.getfield 7, 3) := dk_180 0 7 (dk_at dksX5_writes_5 0 rfl rfl)
theorem dX5_writes_120 : decode cX5_writes 120 = .ok (.iload 6, 2) := dk_21 6 (dk_at dksX5_writes_5 3 rfl rfl)
theorem dX5_writes_122 : decode cX5_writes 122 = .ok (.iconst 4, 1) := dk_7 (dk_at dksX5_writes_5 5 rfl rfl)
theorem dX5_writes_123 : decode cX5_writes 123 = .ok (.iadd, 1) := dk_96 (dk_at dksX5_writes_5 6 rfl rfl)
theorem dX5_writes_124 : decode cX5_writes 124 = .ok (.iconst 1, 1) := dk_4 (dk_at dksX5_writes_5 7 rfl rfl)
theorem dX5_writes_125 : decode cX5_writes 125 = .ok (.iastore, 1) := dk_79 (dk_at dksX5_writes_5 8 rfl rfl)
theorem dX5_writes_126 : decode cX5_writes 126 = .ok (.aload_n 0, 1) := dk_42 (dk_at dksX5_writes_5 9 rfl rfl)
theorem dX5_writes_127 : decode cX5_writes 127 = .ok (.getfield 7, 3) := dk_180 0 7 (dk_at dksX5_writes_5 10 rfl rfl)
theorem dX5_writes_130 : decode cX5_writes 130 = .ok (.iload 6, 2) := dk_21 6 (dk_at dksX5_writes_5 13 rfl rfl)
theorem dX5_writes_132 : decode cX5_writes 132 = .ok (.bipush 6, 2) := dk_16 6 (dk_at dksX5_writes_5 15 rfl rfl)
theorem dX5_writes_134 : decode cX5_writes 134 = .ok (.iadd, 1) := dk_96 (dk_at dksX5_writes_5 17 rfl rfl)
theorem dX5_writes_135 : decode cX5_writes 135 = .ok (.aload_n 0, 1) := dk_42 (dk_at dksX5_writes_5 18 rfl rfl)
theorem dX5_writes_136 : decode cX5_writes 136 = .ok (.getfield 7, 3) := dk_180 0 7 (dk_at dksX5_writes_5 19 rfl rfl)
theorem dX5_writes_139 : decode cX5_writes 139 = .ok (.bipush 6, 2) := dk_16 6 (dk_at dksX5_writes_5 22 rfl rfl)
theorem dX5_writes_141 : decode cX5_writes 141 = .ok (.iaload, 1) := dk_46 (dk_at dksX5_writes_6 0 rfl rfl)
theorem dX5_writes_142 : decode cX5_writes 142 = .ok (.iload 8, 2) := dk_21 8 (dk_at dksX5_writes_6 1 rfl rfl)
theorem dX5_writes_144 : decode cX5_writes 144 = .ok (.iadd, 1) := dk_96 (dk_at dksX5_writes_6 3 rfl rfl)
theorem dX5_writes_145 : decode cX5_writes 145 = .ok (.iastore, 1) := dk_79 (dk_at dksX5_writes_6 4 rfl rfl)
theorem dX5_writes_146 : decode cX5_writes 146 = .ok (.aload_n 0, 1) := dk_42 (dk_at dksX5_writes_6 5 rfl rfl)
theorem dX5_writes_147 : decode cX5_writes 147 = .ok (.getfield 7, 3) := dk_180 0 7 (dk_at dksX5_writes_6 6 rfl rfl)
theorem dX5_writes_150 : decode cX5_writes 150 = .ok (.iload 6, 2) := dk_21 6 (dk_at dksX5_writes_6 9 rfl rfl)
theorem dX5_writes_152 : decode cX5_writes 152 = .ok (.bipush 7, 2) := dk_16 7 (dk_at dksX5_writes_6 11 rfl rfl)
theorem dX5_writes_154 : decode cX5_writes 154 = .ok (.iadd, 1) := dk_96 (dk_at dksX5_writes_6 13 rfl rfl)
theorem dX5_writes_155 : decode cX5_writes 155 = .ok (.iload 7, 2) := dk_21 7 (dk_at dksX5_writes_6 14 rfl rfl)
theorem dX5_writes_157 : decode cX5_writes 157 = .ok (.iastore, 1) := dk_79 (dk_at dksX5_writes_6 16 rfl rfl)
theorem dX5_writes_158 : decode cX5_writes 158 = .ok (.aload_n 0, 1) := dk_42 (dk_at dksX5_writes_6 17 rfl rfl)
theorem dX5_writes_159 : decode cX5_writes 159 = .ok (.getfield 7, 3) := dk_180 0 7 (dk_at dksX5_writes_6 18 rfl rfl)
theorem dX5_writes_162 : decode cX5_writes 162 = .ok (.iload 6, 2) := dk_21 6 (dk_at dksX5_writes_6 21 rfl rfl)
theorem dX5_writes_164 : decode cX5_writes 164 = .ok (.bipush 8, 2) := dk_16 8 (dk_at dksX5_writes_7 0 rfl rfl)
theorem dX5_writes_166 : decode cX5_writes 166 = .ok (.iadd, 1) := dk_96 (dk_at dksX5_writes_7 2 rfl rfl)
theorem dX5_writes_167 : decode cX5_writes 167 = .ok (.iconst 0, 1) := dk_3 (dk_at dksX5_writes_7 3 rfl rfl)
theorem dX5_writes_168 : decode cX5_writes 168 = .ok (.iastore, 1) := dk_79 (dk_at dksX5_writes_7 4 rfl rfl)
theorem dX5_writes_169 : decode cX5_writes 169 = .ok (.aload_n 0, 1) := dk_42 (dk_at dksX5_writes_7 5 rfl rfl)
theorem dX5_writes_170 : decode cX5_writes 170 = .ok (.getfield 7, 3) := dk_180 0 7 (dk_at dksX5_writes_7 6 rfl rfl)
theorem dX5_writes_173 : decode cX5_writes 173 = .ok (.iload 6, 2) := dk_21 6 (dk_at dksX5_writes_7 9 rfl rfl)
theorem dX5_writes_175 : decode cX5_writes 175 = .ok (.bipush 9, 2) := dk_16 9 (dk_at dksX5_writes_7 11 rfl rfl)
theorem dX5_writes_177 : decode cX5_writes 177 = .ok (.iadd, 1) := dk_96 (dk_at dksX5_writes_7 13 rfl rfl)
theorem dX5_writes_178 : decode cX5_writes 178 = .ok (.iconst (-1), 1) := dk_2 (dk_at dksX5_writes_7 14 rfl rfl)
theorem dX5_writes_179 : decode cX5_writes 179 = .ok (.iastore, 1) := dk_79 (dk_at dksX5_writes_7 15 rfl rfl)
theorem dX5_writes_180 : decode cX5_writes 180 = .ok (.aload_n 0, 1) := dk_42 (dk_at dksX5_writes_7 16 rfl rfl)
theorem dX5_writes_181 : decode cX5_writes 181 = .ok (.getfield 7, 3) := dk_180 0 7 (dk_at dksX5_writes_7 17 rfl rfl)
theorem dX5_writes_184 : decode cX5_writes 184 = .ok (.iload 6, 2) := dk_21 6 (dk_at dksX5_writes_7 20 rfl rfl)
theorem dX5_writes_186 : decode cX5_writes 186 = .ok (.bipush 15, 2) := dk_16 15 (dk_at dksX5_writes_7 22 rfl rfl)
theorem dX5_writes_188 : decode cX5_writes 188 = .ok (.iadd, 1) := dk_96 (dk_at dksX5_writes_8 0 rfl rfl)
theorem dX5_writes_189 : decode cX5_writes 189 = .ok (.iconst (-1), 1) := dk_2 (dk_at dksX5_writes_8 1 rfl rfl)
theorem dX5_writes_190 : decode cX5_writes 190 = .ok (.iastore, 1) := dk_79 (dk_at dksX5_writes_8 2 rfl rfl)
theorem dX5_writes_191 : decode cX5_writes 191 = .ok (.aload_n 0, 1) := dk_42 (dk_at dksX5_writes_8 3 rfl rfl)
theorem dX5_writes_192 : decode cX5_writes 192 = .ok (.getfield 7, 3) := dk_180 0 7 (dk_at dksX5_writes_8 4 rfl rfl)
theorem dX5_writes_195 : decode cX5_writes 195 = .ok (.iload 6, 2) := dk_21 6 (dk_at dksX5_writes_8 7 rfl rfl)
theorem dX5_writes_197 : decode cX5_writes 197 = .ok (.bipush 16, 2) := dk_16 16 (dk_at dksX5_writes_8 9 rfl rfl)
theorem dX5_writes_199 : decode cX5_writes 199 = .ok (.iadd, 1) := dk_96 (dk_at dksX5_writes_8 11 rfl rfl)
theorem dX5_writes_200 : decode cX5_writes 200 = .ok (.iload 4, 2) := dk_21 4 (dk_at dksX5_writes_8 12 rfl rfl)
theorem dX5_writes_202 : decode cX5_writes 202 = .ok (.iastore, 1) := dk_79 (dk_at dksX5_writes_8 14 rfl rfl)
theorem dX5_writes_203 : decode cX5_writes 203 = .ok (.aload_n 0, 1) := dk_42 (dk_at dksX5_writes_8 15 rfl rfl)
theorem dX5_writes_204 : decode cX5_writes 204 = .ok (.getfield 7, 3) := dk_180 0 7 (dk_at dksX5_writes_8 16 rfl rfl)
theorem dX5_writes_207 : decode cX5_writes 207 = .ok (.bipush 7, 2) := dk_16 7 (dk_at dksX5_writes_8 19 rfl rfl)
theorem dX5_writes_209 : decode cX5_writes 209 = .ok (.dup2, 1) := dk_92 (dk_at dksX5_writes_8 21 rfl rfl)
theorem dX5_writes_210 : decode cX5_writes 210 = .ok (.iaload, 1) := dk_46 (dk_at dksX5_writes_8 22 rfl rfl)
theorem dX5_writes_211 : decode cX5_writes 211 = .ok (.iconst 1, 1) := dk_4 (dk_at dksX5_writes_8 23 rfl rfl)
theorem dX5_writes_212 : decode cX5_writes 212 = .ok (.iadd, 1) := dk_96 (dk_at dksX5_writes_9 0 rfl rfl)
theorem dX5_writes_213 : decode cX5_writes 213 = .ok (.iastore, 1) := dk_79 (dk_at dksX5_writes_9 1 rfl rfl)
theorem dX5_writes_214 : decode cX5_writes 214 = .ok (.aload_n 0, 1) := dk_42 (dk_at dksX5_writes_9 2 rfl rfl)
theorem dX5_writes_215 : decode cX5_writes 215 = .ok (.getfield 7, 3) := dk_180 0 7 (dk_at dksX5_writes_9 3 rfl rfl)
theorem dX5_writes_218 : decode cX5_writes 218 = .ok (.iload 6, 2) := dk_21 6 (dk_at dksX5_writes_9 6 rfl rfl)
theorem dX5_writes_220 : decode cX5_writes 220 = .ok (.bipush 6, 2) := dk_16 6 (dk_at dksX5_writes_9 8 rfl rfl)
theorem dX5_writes_222 : decode cX5_writes 222 = .ok (.iadd, 1) := dk_96 (dk_at dksX5_writes_9 10 rfl rfl)
theorem dX5_writes_223 : decode cX5_writes 223 = .ok (.iaload, 1) := dk_46 (dk_at dksX5_writes_9 11 rfl rfl)
theorem dX5_writes_224 : decode cX5_writes 224 = .ok (.aload_n 0, 1) := dk_42 (dk_at dksX5_writes_9 12 rfl rfl)
theorem dX5_writes_225 : decode cX5_writes 225 = .ok (.getfield 7, 3) := dk_180 0 7 (dk_at dksX5_writes_9 13 rfl rfl)
theorem dX5_writes_228 : decode cX5_writes 228 = .ok (.iconst 2, 1) := dk_5 (dk_at dksX5_writes_9 16 rfl rfl)
theorem dX5_writes_229 : decode cX5_writes 229 = .ok (.iaload, 1) := dk_46 (dk_at dksX5_writes_9 17 rfl rfl)
theorem dX5_writes_230 : decode cX5_writes 230 = .ok (.idiv, 1) := dk_108 (dk_at dksX5_writes_9 18 rfl rfl)
theorem dX5_writes_231 : decode cX5_writes 231 = .ok (.istore 9, 2) := dk_54 9 (dk_at dksX5_writes_9 19 rfl rfl)
theorem dX5_writes_233 : decode cX5_writes 233 = .ok (.aload_n 0, 1) := dk_42 (dk_at dksX5_writes_9 21 rfl rfl)
theorem dX5_writes_234 : decode cX5_writes 234 = .ok (.iload 5, 2) := dk_21 5 (dk_at dksX5_writes_9 22 rfl rfl)
theorem dX5_writes_236 : decode cX5_writes 236 = .ok (.aload_n 0, 1) := dk_42 (dk_at dksX5_writes_10 0 rfl rfl)
theorem dX5_writes_237 : decode cX5_writes 237 = .ok (.iload 9, 2) := dk_21 9 (dk_at dksX5_writes_10 1 rfl rfl)
theorem dX5_writes_239 : decode cX5_writes 239 = .ok (.iload_n 2, 1) := dk_28 (dk_at dksX5_writes_10 3 rfl rfl)
theorem dX5_writes_240 : decode cX5_writes 240 = .ok (.iconst (-1), 1) := dk_2 (dk_at dksX5_writes_10 4 rfl rfl)
theorem dX5_writes_241 : decode cX5_writes 241 = .ok (.invokevirtual 125, 3) := dk_182 0 125 (dk_at dksX5_writes_10 5 rfl rfl)
theorem dX5_writes_244 : decode cX5_writes 244 = .ok (.iload 9, 2) := dk_21 9 (dk_at dksX5_writes_10 8 rfl rfl)
theorem dX5_writes_246 : decode cX5_writes 246 = .ok (.invokevirtual 128, 3) := dk_182 0 128 (dk_at dksX5_writes_10 10 rfl rfl)
theorem dX5_writes_249 : decode cX5_writes 249 = .ok (.return_, 1) := dk_177 (dk_at dksX5_writes_10 13 rfl rfl)
abbrev cX5_puts : ByteArray := prog_14_method_25_code
def yX5_puts : MethodName := ⟨RX5, "puts", "(III)V"⟩
def dkwX5_puts_4 : List UInt8 := [28, 79, 177]
abbrev dktX5_puts_4 : List UInt8 := dkwX5_puts_4 ++ []
def dkwX5_puts_3 : List UInt8 := [79, 42, 180, 0, 7, 21, 4, 6, 96, 92, 46, 4, 96, 79, 42, 180, 0, 7, 27, 184, 0, 65, 8, 96]
abbrev dktX5_puts_3 : List UInt8 := dkwX5_puts_3 ++ dktX5_puts_4
def dkwX5_puts_2 : List UInt8 := [182, 0, 71, 96, 79, 42, 180, 0, 7, 21, 4, 7, 96, 42, 180, 0, 7, 21, 4, 6, 96, 46, 96, 27]
abbrev dktX5_puts_2 : List UInt8 := dkwX5_puts_2 ++ dktX5_puts_3
def dkwX5_puts_1 : List UInt8 := [167, 0, 8, 42, 28, 182, 0, 68, 79, 42, 180, 0, 7, 21, 4, 4, 96, 92, 46, 42, 27, 4]
abbrev dktX5_puts_1 : List UInt8 := dkwX5_puts_1 ++ dktX5_puts_2
def dkwX5_puts_0 : List UInt8 := [28, 184, 0, 61, 54, 4, 42, 180, 0, 7, 21, 4, 3, 96, 42, 28, 182, 0, 104, 153, 0, 7, 29]
abbrev dktX5_puts_0 : List UInt8 := dkwX5_puts_0 ++ dktX5_puts_1
theorem dksX5_puts_0 : cX5_puts.data.toList.drop 0 = dktX5_puts_0 := by decide +kernel
theorem dksX5_puts_1 : cX5_puts.data.toList.drop 23 = dktX5_puts_1 := dk_seg dksX5_puts_0 23 rfl rfl
theorem dksX5_puts_2 : cX5_puts.data.toList.drop 45 = dktX5_puts_2 := dk_seg dksX5_puts_1 22 rfl rfl
theorem dksX5_puts_3 : cX5_puts.data.toList.drop 69 = dktX5_puts_3 := dk_seg dksX5_puts_2 24 rfl rfl
theorem dksX5_puts_4 : cX5_puts.data.toList.drop 93 = dktX5_puts_4 := dk_seg dksX5_puts_3 24 rfl rfl
theorem dX5_puts_0 : decode cX5_puts 0 = .ok (.iload_n 2, 1) := dk_28 (dk_at dksX5_puts_0 0 rfl rfl)
theorem dX5_puts_1 : decode cX5_puts 1 = .ok (.invokestatic 61, 3) := dk_184 0 61 (dk_at dksX5_puts_0 1 rfl rfl)
theorem dX5_puts_4 : decode cX5_puts 4 = .ok (.istore 4, 2) := dk_54 4 (dk_at dksX5_puts_0 4 rfl rfl)
theorem dX5_puts_6 : decode cX5_puts 6 = .ok (.aload_n 0, 1) := dk_42 (dk_at dksX5_puts_0 6 rfl rfl)
theorem dX5_puts_7 : decode cX5_puts 7 = .ok (.getfield 7, 3) := dk_180 0 7 (dk_at dksX5_puts_0 7 rfl rfl)
theorem dX5_puts_10 : decode cX5_puts 10 = .ok (.iload 4, 2) := dk_21 4 (dk_at dksX5_puts_0 10 rfl rfl)
theorem dX5_puts_12 : decode cX5_puts 12 = .ok (.iconst 0, 1) := dk_3 (dk_at dksX5_puts_0 12 rfl rfl)
theorem dX5_puts_13 : decode cX5_puts 13 = .ok (.iadd, 1) := dk_96 (dk_at dksX5_puts_0 13 rfl rfl)
theorem dX5_puts_14 : decode cX5_puts 14 = .ok (.aload_n 0, 1) := dk_42 (dk_at dksX5_puts_0 14 rfl rfl)
theorem dX5_puts_15 : decode cX5_puts 15 = .ok (.iload_n 2, 1) := dk_28 (dk_at dksX5_puts_0 15 rfl rfl)
theorem dX5_puts_16 : decode cX5_puts 16 = .ok (.invokevirtual 104, 3) := dk_182 0 104 (dk_at dksX5_puts_0 16 rfl rfl)
theorem dX5_puts_19 : decode cX5_puts 19 = .ok (.ifCond .eq 7, 3) := dk_153 0 7 (dk_at dksX5_puts_0 19 rfl rfl)
theorem dX5_puts_22 : decode cX5_puts 22 = .ok (.iload_n 3, 1) := dk_29 (dk_at dksX5_puts_0 22 rfl rfl)
theorem dX5_puts_23 : decode cX5_puts 23 = .ok (.goto 8, 3) := dk_167 0 8 (dk_at dksX5_puts_1 0 rfl rfl)
theorem dX5_puts_26 : decode cX5_puts 26 = .ok (.aload_n 0, 1) := dk_42 (dk_at dksX5_puts_1 3 rfl rfl)
theorem dX5_puts_27 : decode cX5_puts 27 = .ok (.iload_n 2, 1) := dk_28 (dk_at dksX5_puts_1 4 rfl rfl)
theorem dX5_puts_28 : decode cX5_puts 28 = .ok (.invokevirtual 68, 3) := dk_182 0 68 (dk_at dksX5_puts_1 5 rfl rfl)
theorem dX5_puts_31 : decode cX5_puts 31 = .ok (.iastore, 1) := dk_79 (dk_at dksX5_puts_1 8 rfl rfl)
theorem dX5_puts_32 : decode cX5_puts 32 = .ok (.aload_n 0, 1) := dk_42 (dk_at dksX5_puts_1 9 rfl rfl)
theorem dX5_puts_33 : decode cX5_puts 33 = .ok (.getfield 7, 3) := dk_180 0 7 (dk_at dksX5_puts_1 10 rfl rfl)
theorem dX5_puts_36 : decode cX5_puts 36 = .ok (.iload 4, 2) := dk_21 4 (dk_at dksX5_puts_1 13 rfl rfl)
theorem dX5_puts_38 : decode cX5_puts 38 = .ok (.iconst 1, 1) := dk_4 (dk_at dksX5_puts_1 15 rfl rfl)
theorem dX5_puts_39 : decode cX5_puts 39 = .ok (.iadd, 1) := dk_96 (dk_at dksX5_puts_1 16 rfl rfl)
theorem dX5_puts_40 : decode cX5_puts 40 = .ok (.dup2, 1) := dk_92 (dk_at dksX5_puts_1 17 rfl rfl)
theorem dX5_puts_41 : decode cX5_puts 41 = .ok (.iaload, 1) := dk_46 (dk_at dksX5_puts_1 18 rfl rfl)
theorem dX5_puts_42 : decode cX5_puts 42 = .ok (.aload_n 0, 1) := dk_42 (dk_at dksX5_puts_1 19 rfl rfl)
theorem dX5_puts_43 : decode cX5_puts 43 = .ok (.iload_n 1, 1) := dk_27 (dk_at dksX5_puts_1 20 rfl rfl)
theorem dX5_puts_44 : decode cX5_puts 44 = .ok (.iconst 1, 1) := dk_4 (dk_at dksX5_puts_1 21 rfl rfl)
theorem dX5_puts_45 : decode cX5_puts 45 = .ok (.invokevirtual 71, 3) := dk_182 0 71 (dk_at dksX5_puts_2 0 rfl rfl)
theorem dX5_puts_48 : decode cX5_puts 48 = .ok (.iadd, 1) := dk_96 (dk_at dksX5_puts_2 3 rfl rfl)
theorem dX5_puts_49 : decode cX5_puts 49 = .ok (.iastore, 1) := dk_79 (dk_at dksX5_puts_2 4 rfl rfl)
theorem dX5_puts_50 : decode cX5_puts 50 = .ok (.aload_n 0, 1) := dk_42 (dk_at dksX5_puts_2 5 rfl rfl)
theorem dX5_puts_51 : decode cX5_puts 51 = .ok (.getfield 7, 3) := dk_180 0 7 (dk_at dksX5_puts_2 6 rfl rfl)
theorem dX5_puts_54 : decode cX5_puts 54 = .ok (.iload 4, 2) := dk_21 4 (dk_at dksX5_puts_2 9 rfl rfl)
theorem dX5_puts_56 : decode cX5_puts 56 = .ok (.iconst 4, 1) := dk_7 (dk_at dksX5_puts_2 11 rfl rfl)
theorem dX5_puts_57 : decode cX5_puts 57 = .ok (.iadd, 1) := dk_96 (dk_at dksX5_puts_2 12 rfl rfl)
theorem dX5_puts_58 : decode cX5_puts 58 = .ok (.aload_n 0, 1) := dk_42 (dk_at dksX5_puts_2 13 rfl rfl)
theorem dX5_puts_59 : decode cX5_puts 59 = .ok (.getfield 7, 3) := dk_180 0 7 (dk_at dksX5_puts_2 14 rfl rfl)
theorem dX5_puts_62 : decode cX5_puts 62 = .ok (.iload 4, 2) := dk_21 4 (dk_at dksX5_puts_2 17 rfl rfl)
theorem dX5_puts_64 : decode cX5_puts 64 = .ok (.iconst 3, 1) := dk_6 (dk_at dksX5_puts_2 19 rfl rfl)
theorem dX5_puts_65 : decode cX5_puts 65 = .ok (.iadd, 1) := dk_96 (dk_at dksX5_puts_2 20 rfl rfl)
theorem dX5_puts_66 : decode cX5_puts 66 = .ok (.iaload, 1) := dk_46 (dk_at dksX5_puts_2 21 rfl rfl)
theorem dX5_puts_67 : decode cX5_puts 67 = .ok (.iadd, 1) := dk_96 (dk_at dksX5_puts_2 22 rfl rfl)
theorem dX5_puts_68 : decode cX5_puts 68 = .ok (.iload_n 1, 1) := dk_27 (dk_at dksX5_puts_2 23 rfl rfl)
theorem dX5_puts_69 : decode cX5_puts 69 = .ok (.iastore, 1) := dk_79 (dk_at dksX5_puts_3 0 rfl rfl)
theorem dX5_puts_70 : decode cX5_puts 70 = .ok (.aload_n 0, 1) := dk_42 (dk_at dksX5_puts_3 1 rfl rfl)
theorem dX5_puts_71 : decode cX5_puts 71 = .ok (.getfield 7, 3) := dk_180 0 7 (dk_at dksX5_puts_3 2 rfl rfl)
theorem dX5_puts_74 : decode cX5_puts 74 = .ok (.iload 4, 2) := dk_21 4 (dk_at dksX5_puts_3 5 rfl rfl)
theorem dX5_puts_76 : decode cX5_puts 76 = .ok (.iconst 3, 1) := dk_6 (dk_at dksX5_puts_3 7 rfl rfl)
theorem dX5_puts_77 : decode cX5_puts 77 = .ok (.iadd, 1) := dk_96 (dk_at dksX5_puts_3 8 rfl rfl)
theorem dX5_puts_78 : decode cX5_puts 78 = .ok (.dup2, 1) := dk_92 (dk_at dksX5_puts_3 9 rfl rfl)
theorem dX5_puts_79 : decode cX5_puts 79 = .ok (.iaload, 1) := dk_46 (dk_at dksX5_puts_3 10 rfl rfl)
theorem dX5_puts_80 : decode cX5_puts 80 = .ok (.iconst 1, 1) := dk_4 (dk_at dksX5_puts_3 11 rfl rfl)
theorem dX5_puts_81 : decode cX5_puts 81 = .ok (.iadd, 1) := dk_96 (dk_at dksX5_puts_3 12 rfl rfl)
theorem dX5_puts_82 : decode cX5_puts 82 = .ok (.iastore, 1) := dk_79 (dk_at dksX5_puts_3 13 rfl rfl)
theorem dX5_puts_83 : decode cX5_puts 83 = .ok (.aload_n 0, 1) := dk_42 (dk_at dksX5_puts_3 14 rfl rfl)
theorem dX5_puts_84 : decode cX5_puts 84 = .ok (.getfield 7, 3) := dk_180 0 7 (dk_at dksX5_puts_3 15 rfl rfl)
theorem dX5_puts_87 : decode cX5_puts 87 = .ok (.iload_n 1, 1) := dk_27 (dk_at dksX5_puts_3 18 rfl rfl)
theorem dX5_puts_88 : decode cX5_puts 88 = .ok (.invokestatic 65, 3) := dk_184 0 65 (dk_at dksX5_puts_3 19 rfl rfl)
theorem dX5_puts_91 : decode cX5_puts 91 = .ok (.iconst 5, 1) := dk_8 (dk_at dksX5_puts_3 22 rfl rfl)
theorem dX5_puts_92 : decode cX5_puts 92 = .ok (.iadd, 1) := dk_96 (dk_at dksX5_puts_3 23 rfl rfl)
theorem dX5_puts_93 : decode cX5_puts 93 = .ok (.iload_n 2, 1) := dk_28 (dk_at dksX5_puts_4 0 rfl rfl)
theorem dX5_puts_94 : decode cX5_puts 94 = .ok (.iastore, 1) := dk_79 (dk_at dksX5_puts_4 1 rfl rfl)
theorem dX5_puts_95 : decode cX5_puts 95 = .ok (.return_, 1) := dk_177 (dk_at dksX5_puts_4 2 rfl rfl)
abbrev cX5_tellsDie : ByteArray := prog_14_method_90_code
def yX5_tellsDie : MethodName := ⟨RX5, "tellsDie", "(I)I"⟩
def dkwX5_tellsDie_1 : List UInt8 := [182, 0, 135, 3, 172]
abbrev dktX5_tellsDie_1 : List UInt8 := dkwX5_tellsDie_1 ++ []
def dkwX5_tellsDie_0 : List UInt8 := [42, 180, 0, 36, 27, 46, 61, 28, 2, 159, 0, 11, 42, 28, 182, 0, 75, 154, 0, 5, 5, 172, 42, 28]
abbrev dktX5_tellsDie_0 : List UInt8 := dkwX5_tellsDie_0 ++ dktX5_tellsDie_1
theorem dksX5_tellsDie_0 : cX5_tellsDie.data.toList.drop 0 = dktX5_tellsDie_0 := by decide +kernel
theorem dksX5_tellsDie_1 : cX5_tellsDie.data.toList.drop 24 = dktX5_tellsDie_1 := dk_seg dksX5_tellsDie_0 24 rfl rfl
theorem dX5_tellsDie_0 : decode cX5_tellsDie 0 = .ok (.aload_n 0, 1) := dk_42 (dk_at dksX5_tellsDie_0 0 rfl rfl)
theorem dX5_tellsDie_1 : decode cX5_tellsDie 1 = .ok (.getfield 36, 3) := dk_180 0 36 (dk_at dksX5_tellsDie_0 1 rfl rfl)
theorem dX5_tellsDie_4 : decode cX5_tellsDie 4 = .ok (.iload_n 1, 1) := dk_27 (dk_at dksX5_tellsDie_0 4 rfl rfl)
theorem dX5_tellsDie_5 : decode cX5_tellsDie 5 = .ok (.iaload, 1) := dk_46 (dk_at dksX5_tellsDie_0 5 rfl rfl)
theorem dX5_tellsDie_6 : decode cX5_tellsDie 6 = .ok (.istore_n 2, 1) := dk_61 (dk_at dksX5_tellsDie_0 6 rfl rfl)
theorem dX5_tellsDie_7 : decode cX5_tellsDie 7 = .ok (.iload_n 2, 1) := dk_28 (dk_at dksX5_tellsDie_0 7 rfl rfl)
theorem dX5_tellsDie_8 : decode cX5_tellsDie 8 = .ok (.iconst (-1), 1) := dk_2 (dk_at dksX5_tellsDie_0 8 rfl rfl)
theorem dX5_tellsDie_9 : decode cX5_tellsDie 9 = .ok (.if_icmp .eq 11, 3) := dk_159 0 11 (dk_at dksX5_tellsDie_0 9 rfl rfl)
theorem dX5_tellsDie_12 : decode cX5_tellsDie 12 = .ok (.aload_n 0, 1) := dk_42 (dk_at dksX5_tellsDie_0 12 rfl rfl)
theorem dX5_tellsDie_13 : decode cX5_tellsDie 13 = .ok (.iload_n 2, 1) := dk_28 (dk_at dksX5_tellsDie_0 13 rfl rfl)
theorem dX5_tellsDie_14 : decode cX5_tellsDie 14 = .ok (.invokevirtual 75, 3) := dk_182 0 75 (dk_at dksX5_tellsDie_0 14 rfl rfl)
theorem dX5_tellsDie_17 : decode cX5_tellsDie 17 = .ok (.ifCond .ne 5, 3) := dk_154 0 5 (dk_at dksX5_tellsDie_0 17 rfl rfl)
theorem dX5_tellsDie_20 : decode cX5_tellsDie 20 = .ok (.iconst 2, 1) := dk_5 (dk_at dksX5_tellsDie_0 20 rfl rfl)
theorem dX5_tellsDie_21 : decode cX5_tellsDie 21 = .ok (.ireturn, 1) := dk_172 (dk_at dksX5_tellsDie_0 21 rfl rfl)
theorem dX5_tellsDie_22 : decode cX5_tellsDie 22 = .ok (.aload_n 0, 1) := dk_42 (dk_at dksX5_tellsDie_0 22 rfl rfl)
theorem dX5_tellsDie_23 : decode cX5_tellsDie 23 = .ok (.iload_n 2, 1) := dk_28 (dk_at dksX5_tellsDie_0 23 rfl rfl)
theorem dX5_tellsDie_24 : decode cX5_tellsDie 24 = .ok (.invokevirtual 135, 3) := dk_182 0 135 (dk_at dksX5_tellsDie_1 0 rfl rfl)
theorem dX5_tellsDie_27 : decode cX5_tellsDie 27 = .ok (.iconst 0, 1) := dk_3 (dk_at dksX5_tellsDie_1 3 rfl rfl)
theorem dX5_tellsDie_28 : decode cX5_tellsDie 28 = .ok (.ireturn, 1) := dk_172 (dk_at dksX5_tellsDie_1 4 rfl rfl)
abbrev cX5_dies : ByteArray := prog_14_method_21_code
def yX5_dies : MethodName := ⟨RX5, "dies", "(I)V"⟩
def dkwX5_dies_3 : List UInt8 := [4, 96, 79, 42, 27, 182, 0, 96, 177]
abbrev dktX5_dies_3 : List UInt8 := dkwX5_dies_3 ++ []
def dkwX5_dies_2 : List UInt8 := [42, 180, 0, 7, 28, 16, 15, 96, 42, 180, 0, 7, 16, 12, 46, 79, 42, 180, 0, 7, 16, 12, 92, 46]
abbrev dktX5_dies_2 : List UInt8 := dkwX5_dies_2 ++ dktX5_dies_3
def dkwX5_dies_1 : List UInt8 := [180, 0, 7, 28, 16, 9, 96, 42, 180, 0, 7, 16, 6, 46, 42, 180, 0, 7, 28, 6, 96, 46, 100, 79]
abbrev dktX5_dies_1 : List UInt8 := dkwX5_dies_1 ++ dktX5_dies_2
def dkwX5_dies_0 : List UInt8 := [27, 184, 0, 65, 61, 42, 180, 0, 7, 28, 7, 96, 3, 79, 42, 180, 0, 7, 28, 8, 96, 2, 79, 42]
abbrev dktX5_dies_0 : List UInt8 := dkwX5_dies_0 ++ dktX5_dies_1
theorem dksX5_dies_0 : cX5_dies.data.toList.drop 0 = dktX5_dies_0 := by decide +kernel
theorem dksX5_dies_1 : cX5_dies.data.toList.drop 24 = dktX5_dies_1 := dk_seg dksX5_dies_0 24 rfl rfl
theorem dksX5_dies_2 : cX5_dies.data.toList.drop 48 = dktX5_dies_2 := dk_seg dksX5_dies_1 24 rfl rfl
theorem dksX5_dies_3 : cX5_dies.data.toList.drop 72 = dktX5_dies_3 := dk_seg dksX5_dies_2 24 rfl rfl
theorem dX5_dies_0 : decode cX5_dies 0 = .ok (.iload_n 1, 1) := dk_27 (dk_at dksX5_dies_0 0 rfl rfl)
theorem dX5_dies_1 : decode cX5_dies 1 = .ok (.invokestatic 65, 3) := dk_184 0 65 (dk_at dksX5_dies_0 1 rfl rfl)
theorem dX5_dies_4 : decode cX5_dies 4 = .ok (.istore_n 2, 1) := dk_61 (dk_at dksX5_dies_0 4 rfl rfl)
theorem dX5_dies_5 : decode cX5_dies 5 = .ok (.aload_n 0, 1) := dk_42 (dk_at dksX5_dies_0 5 rfl rfl)
theorem dX5_dies_6 : decode cX5_dies 6 = .ok (.getfield 7, 3) := dk_180 0 7 (dk_at dksX5_dies_0 6 rfl rfl)
theorem dX5_dies_9 : decode cX5_dies 9 = .ok (.iload_n 2, 1) := dk_28 (dk_at dksX5_dies_0 9 rfl rfl)
theorem dX5_dies_10 : decode cX5_dies 10 = .ok (.iconst 4, 1) := dk_7 (dk_at dksX5_dies_0 10 rfl rfl)
theorem dX5_dies_11 : decode cX5_dies 11 = .ok (.iadd, 1) := dk_96 (dk_at dksX5_dies_0 11 rfl rfl)
theorem dX5_dies_12 : decode cX5_dies 12 = .ok (.iconst 0, 1) := dk_3 (dk_at dksX5_dies_0 12 rfl rfl)
theorem dX5_dies_13 : decode cX5_dies 13 = .ok (.iastore, 1) := dk_79 (dk_at dksX5_dies_0 13 rfl rfl)
theorem dX5_dies_14 : decode cX5_dies 14 = .ok (.aload_n 0, 1) := dk_42 (dk_at dksX5_dies_0 14 rfl rfl)
theorem dX5_dies_15 : decode cX5_dies 15 = .ok (.getfield 7, 3) := dk_180 0 7 (dk_at dksX5_dies_0 15 rfl rfl)
theorem dX5_dies_18 : decode cX5_dies 18 = .ok (.iload_n 2, 1) := dk_28 (dk_at dksX5_dies_0 18 rfl rfl)
theorem dX5_dies_19 : decode cX5_dies 19 = .ok (.iconst 5, 1) := dk_8 (dk_at dksX5_dies_0 19 rfl rfl)
theorem dX5_dies_20 : decode cX5_dies 20 = .ok (.iadd, 1) := dk_96 (dk_at dksX5_dies_0 20 rfl rfl)
theorem dX5_dies_21 : decode cX5_dies 21 = .ok (.iconst (-1), 1) := dk_2 (dk_at dksX5_dies_0 21 rfl rfl)
theorem dX5_dies_22 : decode cX5_dies 22 = .ok (.iastore, 1) := dk_79 (dk_at dksX5_dies_0 22 rfl rfl)
theorem dX5_dies_23 : decode cX5_dies 23 = .ok (.aload_n 0, 1) := dk_42 (dk_at dksX5_dies_0 23 rfl rfl)
theorem dX5_dies_24 : decode cX5_dies 24 = .ok (.getfield 7, 3) := dk_180 0 7 (dk_at dksX5_dies_1 0 rfl rfl)
theorem dX5_dies_27 : decode cX5_dies 27 = .ok (.iload_n 2, 1) := dk_28 (dk_at dksX5_dies_1 3 rfl rfl)
theorem dX5_dies_28 : decode cX5_dies 28 = .ok (.bipush 9, 2) := dk_16 9 (dk_at dksX5_dies_1 4 rfl rfl)
theorem dX5_dies_30 : decode cX5_dies 30 = .ok (.iadd, 1) := dk_96 (dk_at dksX5_dies_1 6 rfl rfl)
theorem dX5_dies_31 : decode cX5_dies 31 = .ok (.aload_n 0, 1) := dk_42 (dk_at dksX5_dies_1 7 rfl rfl)
theorem dX5_dies_32 : decode cX5_dies 32 = .ok (.getfield 7, 3) := dk_180 0 7 (dk_at dksX5_dies_1 8 rfl rfl)
theorem dX5_dies_35 : decode cX5_dies 35 = .ok (.bipush 6, 2) := dk_16 6 (dk_at dksX5_dies_1 11 rfl rfl)
theorem dX5_dies_37 : decode cX5_dies 37 = .ok (.iaload, 1) := dk_46 (dk_at dksX5_dies_1 13 rfl rfl)
theorem dX5_dies_38 : decode cX5_dies 38 = .ok (.aload_n 0, 1) := dk_42 (dk_at dksX5_dies_1 14 rfl rfl)
theorem dX5_dies_39 : decode cX5_dies 39 = .ok (.getfield 7, 3) := dk_180 0 7 (dk_at dksX5_dies_1 15 rfl rfl)
theorem dX5_dies_42 : decode cX5_dies 42 = .ok (.iload_n 2, 1) := dk_28 (dk_at dksX5_dies_1 18 rfl rfl)
theorem dX5_dies_43 : decode cX5_dies 43 = .ok (.iconst 3, 1) := dk_6 (dk_at dksX5_dies_1 19 rfl rfl)
theorem dX5_dies_44 : decode cX5_dies 44 = .ok (.iadd, 1) := dk_96 (dk_at dksX5_dies_1 20 rfl rfl)
theorem dX5_dies_45 : decode cX5_dies 45 = .ok (.iaload, 1) := dk_46 (dk_at dksX5_dies_1 21 rfl rfl)
theorem dX5_dies_46 : decode cX5_dies 46 = .ok (.isub, 1) := dk_100 (dk_at dksX5_dies_1 22 rfl rfl)
theorem dX5_dies_47 : decode cX5_dies 47 = .ok (.iastore, 1) := dk_79 (dk_at dksX5_dies_1 23 rfl rfl)
theorem dX5_dies_48 : decode cX5_dies 48 = .ok (.aload_n 0, 1) := dk_42 (dk_at dksX5_dies_2 0 rfl rfl)
theorem dX5_dies_49 : decode cX5_dies 49 = .ok (.getfield 7, 3) := dk_180 0 7 (dk_at dksX5_dies_2 1 rfl rfl)
theorem dX5_dies_52 : decode cX5_dies 52 = .ok (.iload_n 2, 1) := dk_28 (dk_at dksX5_dies_2 4 rfl rfl)
theorem dX5_dies_53 : decode cX5_dies 53 = .ok (.bipush 15, 2) := dk_16 15 (dk_at dksX5_dies_2 5 rfl rfl)
theorem dX5_dies_55 : decode cX5_dies 55 = .ok (.iadd, 1) := dk_96 (dk_at dksX5_dies_2 7 rfl rfl)
theorem dX5_dies_56 : decode cX5_dies 56 = .ok (.aload_n 0, 1) := dk_42 (dk_at dksX5_dies_2 8 rfl rfl)
theorem dX5_dies_57 : decode cX5_dies 57 = .ok (.getfield 7, 3) := dk_180 0 7 (dk_at dksX5_dies_2 9 rfl rfl)
theorem dX5_dies_60 : decode cX5_dies 60 = .ok (.bipush 12, 2) := dk_16 12 (dk_at dksX5_dies_2 12 rfl rfl)
theorem dX5_dies_62 : decode cX5_dies 62 = .ok (.iaload, 1) := dk_46 (dk_at dksX5_dies_2 14 rfl rfl)
theorem dX5_dies_63 : decode cX5_dies 63 = .ok (.iastore, 1) := dk_79 (dk_at dksX5_dies_2 15 rfl rfl)
theorem dX5_dies_64 : decode cX5_dies 64 = .ok (.aload_n 0, 1) := dk_42 (dk_at dksX5_dies_2 16 rfl rfl)
theorem dX5_dies_65 : decode cX5_dies 65 = .ok (.getfield 7, 3) := dk_180 0 7 (dk_at dksX5_dies_2 17 rfl rfl)
theorem dX5_dies_68 : decode cX5_dies 68 = .ok (.bipush 12, 2) := dk_16 12 (dk_at dksX5_dies_2 20 rfl rfl)
theorem dX5_dies_70 : decode cX5_dies 70 = .ok (.dup2, 1) := dk_92 (dk_at dksX5_dies_2 22 rfl rfl)
theorem dX5_dies_71 : decode cX5_dies 71 = .ok (.iaload, 1) := dk_46 (dk_at dksX5_dies_2 23 rfl rfl)
theorem dX5_dies_72 : decode cX5_dies 72 = .ok (.iconst 1, 1) := dk_4 (dk_at dksX5_dies_3 0 rfl rfl)
theorem dX5_dies_73 : decode cX5_dies 73 = .ok (.iadd, 1) := dk_96 (dk_at dksX5_dies_3 1 rfl rfl)
theorem dX5_dies_74 : decode cX5_dies 74 = .ok (.iastore, 1) := dk_79 (dk_at dksX5_dies_3 2 rfl rfl)
theorem dX5_dies_75 : decode cX5_dies 75 = .ok (.aload_n 0, 1) := dk_42 (dk_at dksX5_dies_3 3 rfl rfl)
theorem dX5_dies_76 : decode cX5_dies 76 = .ok (.iload_n 1, 1) := dk_27 (dk_at dksX5_dies_3 4 rfl rfl)
theorem dX5_dies_77 : decode cX5_dies 77 = .ok (.invokevirtual 96, 3) := dk_182 0 96 (dk_at dksX5_dies_3 5 rfl rfl)
theorem dX5_dies_80 : decode cX5_dies 80 = .ok (.return_, 1) := dk_177 (dk_at dksX5_dies_3 8 rfl rfl)
abbrev cX5_weighs : ByteArray := prog_14_method_20_code
def yX5_weighs : MethodName := ⟨RX5, "weighs", "(I)V"⟩
def dkwX5_weighs_7 : List UInt8 := [27, 42, 27, 16, 7, 182, 0, 71, 182, 0, 93, 96, 79, 177]
abbrev dktX5_weighs_7 : List UInt8 := dkwX5_weighs_7 ++ []
def dkwX5_weighs_6 : List UInt8 := [167, 255, 231, 42, 27, 16, 7, 182, 0, 71, 16, 6, 159, 0, 25, 42, 180, 0, 7, 16, 10, 92, 46, 42]
abbrev dktX5_weighs_6 : List UInt8 := dkwX5_weighs_6 ++ dktX5_weighs_7
def dkwX5_weighs_5 : List UInt8 := [162, 0, 26, 28, 153, 0, 22, 42, 180, 0, 7, 16, 13, 29, 96, 92, 46, 5, 104, 79, 132, 3, 1]
abbrev dktX5_weighs_5 : List UInt8 := dkwX5_weighs_5 ++ dktX5_weighs_6
def dkwX5_weighs_4 : List UInt8 := [17, 1, 244, 162, 0, 7, 4, 167, 0, 4, 3, 61, 132, 3, 1, 167, 255, 151, 3, 62, 29, 8]
abbrev dktX5_weighs_4 : List UInt8 := dkwX5_weighs_4 ++ dktX5_weighs_5
def dkwX5_weighs_3 : List UInt8 := [162, 0, 7, 4, 167, 0, 5, 21, 5, 79, 28, 153, 0, 22, 42, 180, 0, 7, 16, 13, 29, 96, 46]
abbrev dktX5_weighs_3 : List UInt8 := dkwX5_weighs_3 ++ dktX5_weighs_4
def dkwX5_weighs_2 : List UInt8 := [180, 0, 7, 16, 18, 29, 96, 92, 46, 21, 4, 96, 79, 42, 180, 0, 7, 16, 13, 29, 96, 21, 5, 4]
abbrev dktX5_weighs_2 : List UInt8 := dkwX5_weighs_2 ++ dktX5_weighs_3
def dkwX5_weighs_1 : List UInt8 := [96, 46, 17, 7, 208, 42, 180, 0, 7, 8, 46, 21, 4, 104, 100, 104, 17, 7, 208, 108, 54, 5, 42]
abbrev dktX5_weighs_1 : List UInt8 := dkwX5_weighs_1 ++ dktX5_weighs_2
def dkwX5_weighs_0 : List UInt8 := [4, 61, 3, 62, 29, 8, 162, 0, 106, 42, 27, 29, 182, 0, 93, 54, 4, 42, 180, 0, 7, 16, 13, 29]
abbrev dktX5_weighs_0 : List UInt8 := dkwX5_weighs_0 ++ dktX5_weighs_1
theorem dksX5_weighs_0 : cX5_weighs.data.toList.drop 0 = dktX5_weighs_0 := by decide +kernel
theorem dksX5_weighs_1 : cX5_weighs.data.toList.drop 24 = dktX5_weighs_1 := dk_seg dksX5_weighs_0 24 rfl rfl
theorem dksX5_weighs_2 : cX5_weighs.data.toList.drop 47 = dktX5_weighs_2 := dk_seg dksX5_weighs_1 23 rfl rfl
theorem dksX5_weighs_3 : cX5_weighs.data.toList.drop 71 = dktX5_weighs_3 := dk_seg dksX5_weighs_2 24 rfl rfl
theorem dksX5_weighs_4 : cX5_weighs.data.toList.drop 94 = dktX5_weighs_4 := dk_seg dksX5_weighs_3 23 rfl rfl
theorem dksX5_weighs_5 : cX5_weighs.data.toList.drop 116 = dktX5_weighs_5 := dk_seg dksX5_weighs_4 22 rfl rfl
theorem dksX5_weighs_6 : cX5_weighs.data.toList.drop 139 = dktX5_weighs_6 := dk_seg dksX5_weighs_5 23 rfl rfl
theorem dksX5_weighs_7 : cX5_weighs.data.toList.drop 163 = dktX5_weighs_7 := dk_seg dksX5_weighs_6 24 rfl rfl
theorem dX5_weighs_0 : decode cX5_weighs 0 = .ok (.iconst 1, 1) := dk_4 (dk_at dksX5_weighs_0 0 rfl rfl)
theorem dX5_weighs_1 : decode cX5_weighs 1 = .ok (.istore_n 2, 1) := dk_61 (dk_at dksX5_weighs_0 1 rfl rfl)
theorem dX5_weighs_2 : decode cX5_weighs 2 = .ok (.iconst 0, 1) := dk_3 (dk_at dksX5_weighs_0 2 rfl rfl)
theorem dX5_weighs_3 : decode cX5_weighs 3 = .ok (.istore_n 3, 1) := dk_62 (dk_at dksX5_weighs_0 3 rfl rfl)
theorem dX5_weighs_4 : decode cX5_weighs 4 = .ok (.iload_n 3, 1) := dk_29 (dk_at dksX5_weighs_0 4 rfl rfl)
theorem dX5_weighs_5 : decode cX5_weighs 5 = .ok (.iconst 5, 1) := dk_8 (dk_at dksX5_weighs_0 5 rfl rfl)
theorem dX5_weighs_6 : decode cX5_weighs 6 = .ok (.if_icmp .ge 106, 3) := dk_162 0 106 (dk_at dksX5_weighs_0 6 rfl rfl)
theorem dX5_weighs_9 : decode cX5_weighs 9 = .ok (.aload_n 0, 1) := dk_42 (dk_at dksX5_weighs_0 9 rfl rfl)
theorem dX5_weighs_10 : decode cX5_weighs 10 = .ok (.iload_n 1, 1) := dk_27 (dk_at dksX5_weighs_0 10 rfl rfl)
theorem dX5_weighs_11 : decode cX5_weighs 11 = .ok (.iload_n 3, 1) := dk_29 (dk_at dksX5_weighs_0 11 rfl rfl)
theorem dX5_weighs_12 : decode cX5_weighs 12 = .ok (.invokevirtual 93, 3) := dk_182 0 93 (dk_at dksX5_weighs_0 12 rfl rfl)
theorem dX5_weighs_15 : decode cX5_weighs 15 = .ok (.istore 4, 2) := dk_54 4 (dk_at dksX5_weighs_0 15 rfl rfl)
theorem dX5_weighs_17 : decode cX5_weighs 17 = .ok (.aload_n 0, 1) := dk_42 (dk_at dksX5_weighs_0 17 rfl rfl)
theorem dX5_weighs_18 : decode cX5_weighs 18 = .ok (.getfield 7, 3) := dk_180 0 7 (dk_at dksX5_weighs_0 18 rfl rfl)
theorem dX5_weighs_21 : decode cX5_weighs 21 = .ok (.bipush 13, 2) := dk_16 13 (dk_at dksX5_weighs_0 21 rfl rfl)
theorem dX5_weighs_23 : decode cX5_weighs 23 = .ok (.iload_n 3, 1) := dk_29 (dk_at dksX5_weighs_0 23 rfl rfl)
theorem dX5_weighs_24 : decode cX5_weighs 24 = .ok (.iadd, 1) := dk_96 (dk_at dksX5_weighs_1 0 rfl rfl)
theorem dX5_weighs_25 : decode cX5_weighs 25 = .ok (.iaload, 1) := dk_46 (dk_at dksX5_weighs_1 1 rfl rfl)
theorem dX5_weighs_26 : decode cX5_weighs 26 = .ok (.sipush 2000, 3) := dk_17 7 208 (dk_at dksX5_weighs_1 2 rfl rfl)
theorem dX5_weighs_29 : decode cX5_weighs 29 = .ok (.aload_n 0, 1) := dk_42 (dk_at dksX5_weighs_1 5 rfl rfl)
theorem dX5_weighs_30 : decode cX5_weighs 30 = .ok (.getfield 7, 3) := dk_180 0 7 (dk_at dksX5_weighs_1 6 rfl rfl)
theorem dX5_weighs_33 : decode cX5_weighs 33 = .ok (.iconst 5, 1) := dk_8 (dk_at dksX5_weighs_1 9 rfl rfl)
theorem dX5_weighs_34 : decode cX5_weighs 34 = .ok (.iaload, 1) := dk_46 (dk_at dksX5_weighs_1 10 rfl rfl)
theorem dX5_weighs_35 : decode cX5_weighs 35 = .ok (.iload 4, 2) := dk_21 4 (dk_at dksX5_weighs_1 11 rfl rfl)
theorem dX5_weighs_37 : decode cX5_weighs 37 = .ok (.imul, 1) := dk_104 (dk_at dksX5_weighs_1 13 rfl rfl)
theorem dX5_weighs_38 : decode cX5_weighs 38 = .ok (.isub, 1) := dk_100 (dk_at dksX5_weighs_1 14 rfl rfl)
theorem dX5_weighs_39 : decode cX5_weighs 39 = .ok (.imul, 1) := dk_104 (dk_at dksX5_weighs_1 15 rfl rfl)
theorem dX5_weighs_40 : decode cX5_weighs 40 = .ok (.sipush 2000, 3) := dk_17 7 208 (dk_at dksX5_weighs_1 16 rfl rfl)
theorem dX5_weighs_43 : decode cX5_weighs 43 = .ok (.idiv, 1) := dk_108 (dk_at dksX5_weighs_1 19 rfl rfl)
theorem dX5_weighs_44 : decode cX5_weighs 44 = .ok (.istore 5, 2) := dk_54 5 (dk_at dksX5_weighs_1 20 rfl rfl)
theorem dX5_weighs_46 : decode cX5_weighs 46 = .ok (.aload_n 0, 1) := dk_42 (dk_at dksX5_weighs_1 22 rfl rfl)
theorem dX5_weighs_47 : decode cX5_weighs 47 = .ok (.getfield 7, 3) := dk_180 0 7 (dk_at dksX5_weighs_2 0 rfl rfl)
theorem dX5_weighs_50 : decode cX5_weighs 50 = .ok (.bipush 18, 2) := dk_16 18 (dk_at dksX5_weighs_2 3 rfl rfl)
theorem dX5_weighs_52 : decode cX5_weighs 52 = .ok (.iload_n 3, 1) := dk_29 (dk_at dksX5_weighs_2 5 rfl rfl)
theorem dX5_weighs_53 : decode cX5_weighs 53 = .ok (.iadd, 1) := dk_96 (dk_at dksX5_weighs_2 6 rfl rfl)
theorem dX5_weighs_54 : decode cX5_weighs 54 = .ok (.dup2, 1) := dk_92 (dk_at dksX5_weighs_2 7 rfl rfl)
theorem dX5_weighs_55 : decode cX5_weighs 55 = .ok (.iaload, 1) := dk_46 (dk_at dksX5_weighs_2 8 rfl rfl)
theorem dX5_weighs_56 : decode cX5_weighs 56 = .ok (.iload 4, 2) := dk_21 4 (dk_at dksX5_weighs_2 9 rfl rfl)
theorem dX5_weighs_58 : decode cX5_weighs 58 = .ok (.iadd, 1) := dk_96 (dk_at dksX5_weighs_2 11 rfl rfl)
theorem dX5_weighs_59 : decode cX5_weighs 59 = .ok (.iastore, 1) := dk_79 (dk_at dksX5_weighs_2 12 rfl rfl)
theorem dX5_weighs_60 : decode cX5_weighs 60 = .ok (.aload_n 0, 1) := dk_42 (dk_at dksX5_weighs_2 13 rfl rfl)
theorem dX5_weighs_61 : decode cX5_weighs 61 = .ok (.getfield 7, 3) := dk_180 0 7 (dk_at dksX5_weighs_2 14 rfl rfl)
theorem dX5_weighs_64 : decode cX5_weighs 64 = .ok (.bipush 13, 2) := dk_16 13 (dk_at dksX5_weighs_2 17 rfl rfl)
theorem dX5_weighs_66 : decode cX5_weighs 66 = .ok (.iload_n 3, 1) := dk_29 (dk_at dksX5_weighs_2 19 rfl rfl)
theorem dX5_weighs_67 : decode cX5_weighs 67 = .ok (.iadd, 1) := dk_96 (dk_at dksX5_weighs_2 20 rfl rfl)
theorem dX5_weighs_68 : decode cX5_weighs 68 = .ok (.iload 5, 2) := dk_21 5 (dk_at dksX5_weighs_2 21 rfl rfl)
theorem dX5_weighs_70 : decode cX5_weighs 70 = .ok (.iconst 1, 1) := dk_4 (dk_at dksX5_weighs_2 23 rfl rfl)
theorem dX5_weighs_71 : decode cX5_weighs 71 = .ok (.if_icmp .ge 7, 3) := dk_162 0 7 (dk_at dksX5_weighs_3 0 rfl rfl)
theorem dX5_weighs_74 : decode cX5_weighs 74 = .ok (.iconst 1, 1) := dk_4 (dk_at dksX5_weighs_3 3 rfl rfl)
theorem dX5_weighs_75 : decode cX5_weighs 75 = .ok (.goto 5, 3) := dk_167 0 5 (dk_at dksX5_weighs_3 4 rfl rfl)
theorem dX5_weighs_78 : decode cX5_weighs 78 = .ok (.iload 5, 2) := dk_21 5 (dk_at dksX5_weighs_3 7 rfl rfl)
theorem dX5_weighs_80 : decode cX5_weighs 80 = .ok (.iastore, 1) := dk_79 (dk_at dksX5_weighs_3 9 rfl rfl)
theorem dX5_weighs_81 : decode cX5_weighs 81 = .ok (.iload_n 2, 1) := dk_28 (dk_at dksX5_weighs_3 10 rfl rfl)
theorem dX5_weighs_82 : decode cX5_weighs 82 = .ok (.ifCond .eq 22, 3) := dk_153 0 22 (dk_at dksX5_weighs_3 11 rfl rfl)
theorem dX5_weighs_85 : decode cX5_weighs 85 = .ok (.aload_n 0, 1) := dk_42 (dk_at dksX5_weighs_3 14 rfl rfl)
theorem dX5_weighs_86 : decode cX5_weighs 86 = .ok (.getfield 7, 3) := dk_180 0 7 (dk_at dksX5_weighs_3 15 rfl rfl)
theorem dX5_weighs_89 : decode cX5_weighs 89 = .ok (.bipush 13, 2) := dk_16 13 (dk_at dksX5_weighs_3 18 rfl rfl)
theorem dX5_weighs_91 : decode cX5_weighs 91 = .ok (.iload_n 3, 1) := dk_29 (dk_at dksX5_weighs_3 20 rfl rfl)
theorem dX5_weighs_92 : decode cX5_weighs 92 = .ok (.iadd, 1) := dk_96 (dk_at dksX5_weighs_3 21 rfl rfl)
theorem dX5_weighs_93 : decode cX5_weighs 93 = .ok (.iaload, 1) := dk_46 (dk_at dksX5_weighs_3 22 rfl rfl)
theorem dX5_weighs_94 : decode cX5_weighs 94 = .ok (.sipush 500, 3) := dk_17 1 244 (dk_at dksX5_weighs_4 0 rfl rfl)
theorem dX5_weighs_97 : decode cX5_weighs 97 = .ok (.if_icmp .ge 7, 3) := dk_162 0 7 (dk_at dksX5_weighs_4 3 rfl rfl)
theorem dX5_weighs_100 : decode cX5_weighs 100 = .ok (.iconst 1, 1) := dk_4 (dk_at dksX5_weighs_4 6 rfl rfl)
theorem dX5_weighs_101 : decode cX5_weighs 101 = .ok (.goto 4, 3) := dk_167 0 4 (dk_at dksX5_weighs_4 7 rfl rfl)
theorem dX5_weighs_104 : decode cX5_weighs 104 = .ok (.iconst 0, 1) := dk_3 (dk_at dksX5_weighs_4 10 rfl rfl)
theorem dX5_weighs_105 : decode cX5_weighs 105 = .ok (.istore_n 2, 1) := dk_61 (dk_at dksX5_weighs_4 11 rfl rfl)
theorem dX5_weighs_106 : decode cX5_weighs 106 = .ok (.iinc 3 1, 3) := dk_132 3 1 (dk_at dksX5_weighs_4 12 rfl rfl)
theorem dX5_weighs_109 : decode cX5_weighs 109 = .ok (.goto (-105), 3) := dk_167 255 151 (dk_at dksX5_weighs_4 15 rfl rfl)
theorem dX5_weighs_112 : decode cX5_weighs 112 = .ok (.iconst 0, 1) := dk_3 (dk_at dksX5_weighs_4 18 rfl rfl)
theorem dX5_weighs_113 : decode cX5_weighs 113 = .ok (.istore_n 3, 1) := dk_62 (dk_at dksX5_weighs_4 19 rfl rfl)
theorem dX5_weighs_114 : decode cX5_weighs 114 = .ok (.iload_n 3, 1) := dk_29 (dk_at dksX5_weighs_4 20 rfl rfl)
theorem dX5_weighs_115 : decode cX5_weighs 115 = .ok (.iconst 5, 1) := dk_8 (dk_at dksX5_weighs_4 21 rfl rfl)
theorem dX5_weighs_116 : decode cX5_weighs 116 = .ok (.if_icmp .ge 26, 3) := dk_162 0 26 (dk_at dksX5_weighs_5 0 rfl rfl)
theorem dX5_weighs_119 : decode cX5_weighs 119 = .ok (.iload_n 2, 1) := dk_28 (dk_at dksX5_weighs_5 3 rfl rfl)
theorem dX5_weighs_120 : decode cX5_weighs 120 = .ok (.ifCond .eq 22, 3) := dk_153 0 22 (dk_at dksX5_weighs_5 4 rfl rfl)
theorem dX5_weighs_123 : decode cX5_weighs 123 = .ok (.aload_n 0, 1) := dk_42 (dk_at dksX5_weighs_5 7 rfl rfl)
theorem dX5_weighs_124 : decode cX5_weighs 124 = .ok (.getfield 7, 3) := dk_180 0 7 (dk_at dksX5_weighs_5 8 rfl rfl)
theorem dX5_weighs_127 : decode cX5_weighs 127 = .ok (.bipush 13, 2) := dk_16 13 (dk_at dksX5_weighs_5 11 rfl rfl)
theorem dX5_weighs_129 : decode cX5_weighs 129 = .ok (.iload_n 3, 1) := dk_29 (dk_at dksX5_weighs_5 13 rfl rfl)
theorem dX5_weighs_130 : decode cX5_weighs 130 = .ok (.iadd, 1) := dk_96 (dk_at dksX5_weighs_5 14 rfl rfl)
theorem dX5_weighs_131 : decode cX5_weighs 131 = .ok (.dup2, 1) := dk_92 (dk_at dksX5_weighs_5 15 rfl rfl)
theorem dX5_weighs_132 : decode cX5_weighs 132 = .ok (.iaload, 1) := dk_46 (dk_at dksX5_weighs_5 16 rfl rfl)
theorem dX5_weighs_133 : decode cX5_weighs 133 = .ok (.iconst 2, 1) := dk_5 (dk_at dksX5_weighs_5 17 rfl rfl)
theorem dX5_weighs_134 : decode cX5_weighs 134 = .ok (.imul, 1) := dk_104 (dk_at dksX5_weighs_5 18 rfl rfl)
theorem dX5_weighs_135 : decode cX5_weighs 135 = .ok (.iastore, 1) := dk_79 (dk_at dksX5_weighs_5 19 rfl rfl)
theorem dX5_weighs_136 : decode cX5_weighs 136 = .ok (.iinc 3 1, 3) := dk_132 3 1 (dk_at dksX5_weighs_5 20 rfl rfl)
theorem dX5_weighs_139 : decode cX5_weighs 139 = .ok (.goto (-25), 3) := dk_167 255 231 (dk_at dksX5_weighs_6 0 rfl rfl)
theorem dX5_weighs_142 : decode cX5_weighs 142 = .ok (.aload_n 0, 1) := dk_42 (dk_at dksX5_weighs_6 3 rfl rfl)
theorem dX5_weighs_143 : decode cX5_weighs 143 = .ok (.iload_n 1, 1) := dk_27 (dk_at dksX5_weighs_6 4 rfl rfl)
theorem dX5_weighs_144 : decode cX5_weighs 144 = .ok (.bipush 7, 2) := dk_16 7 (dk_at dksX5_weighs_6 5 rfl rfl)
theorem dX5_weighs_146 : decode cX5_weighs 146 = .ok (.invokevirtual 71, 3) := dk_182 0 71 (dk_at dksX5_weighs_6 7 rfl rfl)
theorem dX5_weighs_149 : decode cX5_weighs 149 = .ok (.bipush 6, 2) := dk_16 6 (dk_at dksX5_weighs_6 10 rfl rfl)
theorem dX5_weighs_151 : decode cX5_weighs 151 = .ok (.if_icmp .eq 25, 3) := dk_159 0 25 (dk_at dksX5_weighs_6 12 rfl rfl)
theorem dX5_weighs_154 : decode cX5_weighs 154 = .ok (.aload_n 0, 1) := dk_42 (dk_at dksX5_weighs_6 15 rfl rfl)
theorem dX5_weighs_155 : decode cX5_weighs 155 = .ok (.getfield 7, 3) := dk_180 0 7 (dk_at dksX5_weighs_6 16 rfl rfl)
theorem dX5_weighs_158 : decode cX5_weighs 158 = .ok (.bipush 10, 2) := dk_16 10 (dk_at dksX5_weighs_6 19 rfl rfl)
theorem dX5_weighs_160 : decode cX5_weighs 160 = .ok (.dup2, 1) := dk_92 (dk_at dksX5_weighs_6 21 rfl rfl)
theorem dX5_weighs_161 : decode cX5_weighs 161 = .ok (.iaload, 1) := dk_46 (dk_at dksX5_weighs_6 22 rfl rfl)
theorem dX5_weighs_162 : decode cX5_weighs 162 = .ok (.aload_n 0, 1) := dk_42 (dk_at dksX5_weighs_6 23 rfl rfl)
theorem dX5_weighs_163 : decode cX5_weighs 163 = .ok (.iload_n 1, 1) := dk_27 (dk_at dksX5_weighs_7 0 rfl rfl)
theorem dX5_weighs_164 : decode cX5_weighs 164 = .ok (.aload_n 0, 1) := dk_42 (dk_at dksX5_weighs_7 1 rfl rfl)
theorem dX5_weighs_165 : decode cX5_weighs 165 = .ok (.iload_n 1, 1) := dk_27 (dk_at dksX5_weighs_7 2 rfl rfl)
theorem dX5_weighs_166 : decode cX5_weighs 166 = .ok (.bipush 7, 2) := dk_16 7 (dk_at dksX5_weighs_7 3 rfl rfl)
theorem dX5_weighs_168 : decode cX5_weighs 168 = .ok (.invokevirtual 71, 3) := dk_182 0 71 (dk_at dksX5_weighs_7 5 rfl rfl)
theorem dX5_weighs_171 : decode cX5_weighs 171 = .ok (.invokevirtual 93, 3) := dk_182 0 93 (dk_at dksX5_weighs_7 8 rfl rfl)
theorem dX5_weighs_174 : decode cX5_weighs 174 = .ok (.iadd, 1) := dk_96 (dk_at dksX5_weighs_7 11 rfl rfl)
theorem dX5_weighs_175 : decode cX5_weighs 175 = .ok (.iastore, 1) := dk_79 (dk_at dksX5_weighs_7 12 rfl rfl)
theorem dX5_weighs_176 : decode cX5_weighs 176 = .ok (.return_, 1) := dk_177 (dk_at dksX5_weighs_7 13 rfl rfl)
abbrev cX5_tellsReset : ByteArray := prog_14_method_91_code
def yX5_tellsReset : MethodName := ⟨RX5, "tellsReset", "(I)I"⟩
def dkwX5_tellsReset_0 : List UInt8 := [42, 27, 182, 0, 170, 61, 28, 154, 0, 8, 42, 27, 182, 0, 132, 28, 172]
abbrev dktX5_tellsReset_0 : List UInt8 := dkwX5_tellsReset_0 ++ []
theorem dksX5_tellsReset_0 : cX5_tellsReset.data.toList.drop 0 = dktX5_tellsReset_0 := by decide +kernel
theorem dX5_tellsReset_0 : decode cX5_tellsReset 0 = .ok (.aload_n 0, 1) := dk_42 (dk_at dksX5_tellsReset_0 0 rfl rfl)
theorem dX5_tellsReset_1 : decode cX5_tellsReset 1 = .ok (.iload_n 1, 1) := dk_27 (dk_at dksX5_tellsReset_0 1 rfl rfl)
theorem dX5_tellsReset_2 : decode cX5_tellsReset 2 = .ok (.invokevirtual 170, 3) := dk_182 0 170 (dk_at dksX5_tellsReset_0 2 rfl rfl)
theorem dX5_tellsReset_5 : decode cX5_tellsReset 5 = .ok (.istore_n 2, 1) := dk_61 (dk_at dksX5_tellsReset_0 5 rfl rfl)
theorem dX5_tellsReset_6 : decode cX5_tellsReset 6 = .ok (.iload_n 2, 1) := dk_28 (dk_at dksX5_tellsReset_0 6 rfl rfl)
theorem dX5_tellsReset_7 : decode cX5_tellsReset 7 = .ok (.ifCond .ne 8, 3) := dk_154 0 8 (dk_at dksX5_tellsReset_0 7 rfl rfl)
theorem dX5_tellsReset_10 : decode cX5_tellsReset 10 = .ok (.aload_n 0, 1) := dk_42 (dk_at dksX5_tellsReset_0 10 rfl rfl)
theorem dX5_tellsReset_11 : decode cX5_tellsReset 11 = .ok (.iload_n 1, 1) := dk_27 (dk_at dksX5_tellsReset_0 11 rfl rfl)
theorem dX5_tellsReset_12 : decode cX5_tellsReset 12 = .ok (.invokevirtual 132, 3) := dk_182 0 132 (dk_at dksX5_tellsReset_0 12 rfl rfl)
theorem dX5_tellsReset_15 : decode cX5_tellsReset 15 = .ok (.iload_n 2, 1) := dk_28 (dk_at dksX5_tellsReset_0 15 rfl rfl)
theorem dX5_tellsReset_16 : decode cX5_tellsReset 16 = .ok (.ireturn, 1) := dk_172 (dk_at dksX5_tellsReset_0 16 rfl rfl)
abbrev cX5_whyReset : ByteArray := prog_14_method_32_code
def yX5_whyReset : MethodName := ⟨RX5, "whyReset", "(I)I"⟩
def dkwX5_whyReset_1 : List UInt8 := [3, 172]
abbrev dktX5_whyReset_1 : List UInt8 := dkwX5_whyReset_1 ++ []
def dkwX5_whyReset_0 : List UInt8 := [42, 27, 182, 0, 104, 153, 0, 7, 6, 167, 0, 16, 42, 27, 182, 0, 114, 158, 0, 7, 7, 167, 0, 4]
abbrev dktX5_whyReset_0 : List UInt8 := dkwX5_whyReset_0 ++ dktX5_whyReset_1
theorem dksX5_whyReset_0 : cX5_whyReset.data.toList.drop 0 = dktX5_whyReset_0 := by decide +kernel
theorem dksX5_whyReset_1 : cX5_whyReset.data.toList.drop 24 = dktX5_whyReset_1 := dk_seg dksX5_whyReset_0 24 rfl rfl
theorem dX5_whyReset_0 : decode cX5_whyReset 0 = .ok (.aload_n 0, 1) := dk_42 (dk_at dksX5_whyReset_0 0 rfl rfl)
theorem dX5_whyReset_1 : decode cX5_whyReset 1 = .ok (.iload_n 1, 1) := dk_27 (dk_at dksX5_whyReset_0 1 rfl rfl)
theorem dX5_whyReset_2 : decode cX5_whyReset 2 = .ok (.invokevirtual 104, 3) := dk_182 0 104 (dk_at dksX5_whyReset_0 2 rfl rfl)
theorem dX5_whyReset_5 : decode cX5_whyReset 5 = .ok (.ifCond .eq 7, 3) := dk_153 0 7 (dk_at dksX5_whyReset_0 5 rfl rfl)
theorem dX5_whyReset_8 : decode cX5_whyReset 8 = .ok (.iconst 3, 1) := dk_6 (dk_at dksX5_whyReset_0 8 rfl rfl)
theorem dX5_whyReset_9 : decode cX5_whyReset 9 = .ok (.goto 16, 3) := dk_167 0 16 (dk_at dksX5_whyReset_0 9 rfl rfl)
theorem dX5_whyReset_12 : decode cX5_whyReset 12 = .ok (.aload_n 0, 1) := dk_42 (dk_at dksX5_whyReset_0 12 rfl rfl)
theorem dX5_whyReset_13 : decode cX5_whyReset 13 = .ok (.iload_n 1, 1) := dk_27 (dk_at dksX5_whyReset_0 13 rfl rfl)
theorem dX5_whyReset_14 : decode cX5_whyReset 14 = .ok (.invokevirtual 114, 3) := dk_182 0 114 (dk_at dksX5_whyReset_0 14 rfl rfl)
theorem dX5_whyReset_17 : decode cX5_whyReset 17 = .ok (.ifCond .le 7, 3) := dk_158 0 7 (dk_at dksX5_whyReset_0 17 rfl rfl)
theorem dX5_whyReset_20 : decode cX5_whyReset 20 = .ok (.iconst 4, 1) := dk_7 (dk_at dksX5_whyReset_0 20 rfl rfl)
theorem dX5_whyReset_21 : decode cX5_whyReset 21 = .ok (.goto 4, 3) := dk_167 0 4 (dk_at dksX5_whyReset_0 21 rfl rfl)
theorem dX5_whyReset_24 : decode cX5_whyReset 24 = .ok (.iconst 0, 1) := dk_3 (dk_at dksX5_whyReset_1 0 rfl rfl)
theorem dX5_whyReset_25 : decode cX5_whyReset 25 = .ok (.ireturn, 1) := dk_172 (dk_at dksX5_whyReset_1 1 rfl rfl)
abbrev cX5_resets : ByteArray := prog_14_method_26_code
def yX5_resets : MethodName := ⟨RX5, "resets", "(I)V"⟩
def dkwX5_resets_2 : List UInt8 := [16, 9, 92, 46, 4, 96, 79, 177]
abbrev dktX5_resets_2 : List UInt8 := dkwX5_resets_2 ++ []
def dkwX5_resets_1 : List UInt8 := [180, 0, 7, 28, 6, 96, 3, 79, 42, 180, 0, 7, 28, 5, 96, 92, 46, 4, 96, 79, 42, 180, 0, 7]
abbrev dktX5_resets_1 : List UInt8 := dkwX5_resets_1 ++ dktX5_resets_2
def dkwX5_resets_0 : List UInt8 := [27, 184, 0, 61, 61, 42, 180, 0, 7, 28, 3, 96, 2, 79, 42, 180, 0, 7, 28, 4, 96, 3, 79, 42]
abbrev dktX5_resets_0 : List UInt8 := dkwX5_resets_0 ++ dktX5_resets_1
theorem dksX5_resets_0 : cX5_resets.data.toList.drop 0 = dktX5_resets_0 := by decide +kernel
theorem dksX5_resets_1 : cX5_resets.data.toList.drop 24 = dktX5_resets_1 := dk_seg dksX5_resets_0 24 rfl rfl
theorem dksX5_resets_2 : cX5_resets.data.toList.drop 48 = dktX5_resets_2 := dk_seg dksX5_resets_1 24 rfl rfl
theorem dX5_resets_0 : decode cX5_resets 0 = .ok (.iload_n 1, 1) := dk_27 (dk_at dksX5_resets_0 0 rfl rfl)
theorem dX5_resets_1 : decode cX5_resets 1 = .ok (.invokestatic 61, 3) := dk_184 0 61 (dk_at dksX5_resets_0 1 rfl rfl)
theorem dX5_resets_4 : decode cX5_resets 4 = .ok (.istore_n 2, 1) := dk_61 (dk_at dksX5_resets_0 4 rfl rfl)
theorem dX5_resets_5 : decode cX5_resets 5 = .ok (.aload_n 0, 1) := dk_42 (dk_at dksX5_resets_0 5 rfl rfl)
theorem dX5_resets_6 : decode cX5_resets 6 = .ok (.getfield 7, 3) := dk_180 0 7 (dk_at dksX5_resets_0 6 rfl rfl)
theorem dX5_resets_9 : decode cX5_resets 9 = .ok (.iload_n 2, 1) := dk_28 (dk_at dksX5_resets_0 9 rfl rfl)
theorem dX5_resets_10 : decode cX5_resets 10 = .ok (.iconst 0, 1) := dk_3 (dk_at dksX5_resets_0 10 rfl rfl)
theorem dX5_resets_11 : decode cX5_resets 11 = .ok (.iadd, 1) := dk_96 (dk_at dksX5_resets_0 11 rfl rfl)
theorem dX5_resets_12 : decode cX5_resets 12 = .ok (.iconst (-1), 1) := dk_2 (dk_at dksX5_resets_0 12 rfl rfl)
theorem dX5_resets_13 : decode cX5_resets 13 = .ok (.iastore, 1) := dk_79 (dk_at dksX5_resets_0 13 rfl rfl)
theorem dX5_resets_14 : decode cX5_resets 14 = .ok (.aload_n 0, 1) := dk_42 (dk_at dksX5_resets_0 14 rfl rfl)
theorem dX5_resets_15 : decode cX5_resets 15 = .ok (.getfield 7, 3) := dk_180 0 7 (dk_at dksX5_resets_0 15 rfl rfl)
theorem dX5_resets_18 : decode cX5_resets 18 = .ok (.iload_n 2, 1) := dk_28 (dk_at dksX5_resets_0 18 rfl rfl)
theorem dX5_resets_19 : decode cX5_resets 19 = .ok (.iconst 1, 1) := dk_4 (dk_at dksX5_resets_0 19 rfl rfl)
theorem dX5_resets_20 : decode cX5_resets 20 = .ok (.iadd, 1) := dk_96 (dk_at dksX5_resets_0 20 rfl rfl)
theorem dX5_resets_21 : decode cX5_resets 21 = .ok (.iconst 0, 1) := dk_3 (dk_at dksX5_resets_0 21 rfl rfl)
theorem dX5_resets_22 : decode cX5_resets 22 = .ok (.iastore, 1) := dk_79 (dk_at dksX5_resets_0 22 rfl rfl)
theorem dX5_resets_23 : decode cX5_resets 23 = .ok (.aload_n 0, 1) := dk_42 (dk_at dksX5_resets_0 23 rfl rfl)
theorem dX5_resets_24 : decode cX5_resets 24 = .ok (.getfield 7, 3) := dk_180 0 7 (dk_at dksX5_resets_1 0 rfl rfl)
theorem dX5_resets_27 : decode cX5_resets 27 = .ok (.iload_n 2, 1) := dk_28 (dk_at dksX5_resets_1 3 rfl rfl)
theorem dX5_resets_28 : decode cX5_resets 28 = .ok (.iconst 3, 1) := dk_6 (dk_at dksX5_resets_1 4 rfl rfl)
theorem dX5_resets_29 : decode cX5_resets 29 = .ok (.iadd, 1) := dk_96 (dk_at dksX5_resets_1 5 rfl rfl)
theorem dX5_resets_30 : decode cX5_resets 30 = .ok (.iconst 0, 1) := dk_3 (dk_at dksX5_resets_1 6 rfl rfl)
theorem dX5_resets_31 : decode cX5_resets 31 = .ok (.iastore, 1) := dk_79 (dk_at dksX5_resets_1 7 rfl rfl)
theorem dX5_resets_32 : decode cX5_resets 32 = .ok (.aload_n 0, 1) := dk_42 (dk_at dksX5_resets_1 8 rfl rfl)
theorem dX5_resets_33 : decode cX5_resets 33 = .ok (.getfield 7, 3) := dk_180 0 7 (dk_at dksX5_resets_1 9 rfl rfl)
theorem dX5_resets_36 : decode cX5_resets 36 = .ok (.iload_n 2, 1) := dk_28 (dk_at dksX5_resets_1 12 rfl rfl)
theorem dX5_resets_37 : decode cX5_resets 37 = .ok (.iconst 2, 1) := dk_5 (dk_at dksX5_resets_1 13 rfl rfl)
theorem dX5_resets_38 : decode cX5_resets 38 = .ok (.iadd, 1) := dk_96 (dk_at dksX5_resets_1 14 rfl rfl)
theorem dX5_resets_39 : decode cX5_resets 39 = .ok (.dup2, 1) := dk_92 (dk_at dksX5_resets_1 15 rfl rfl)
theorem dX5_resets_40 : decode cX5_resets 40 = .ok (.iaload, 1) := dk_46 (dk_at dksX5_resets_1 16 rfl rfl)
theorem dX5_resets_41 : decode cX5_resets 41 = .ok (.iconst 1, 1) := dk_4 (dk_at dksX5_resets_1 17 rfl rfl)
theorem dX5_resets_42 : decode cX5_resets 42 = .ok (.iadd, 1) := dk_96 (dk_at dksX5_resets_1 18 rfl rfl)
theorem dX5_resets_43 : decode cX5_resets 43 = .ok (.iastore, 1) := dk_79 (dk_at dksX5_resets_1 19 rfl rfl)
theorem dX5_resets_44 : decode cX5_resets 44 = .ok (.aload_n 0, 1) := dk_42 (dk_at dksX5_resets_1 20 rfl rfl)
theorem dX5_resets_45 : decode cX5_resets 45 = .ok (.getfield 7, 3) := dk_180 0 7 (dk_at dksX5_resets_1 21 rfl rfl)
theorem dX5_resets_48 : decode cX5_resets 48 = .ok (.bipush 9, 2) := dk_16 9 (dk_at dksX5_resets_2 0 rfl rfl)
theorem dX5_resets_50 : decode cX5_resets 50 = .ok (.dup2, 1) := dk_92 (dk_at dksX5_resets_2 2 rfl rfl)
theorem dX5_resets_51 : decode cX5_resets 51 = .ok (.iaload, 1) := dk_46 (dk_at dksX5_resets_2 3 rfl rfl)
theorem dX5_resets_52 : decode cX5_resets 52 = .ok (.iconst 1, 1) := dk_4 (dk_at dksX5_resets_2 4 rfl rfl)
theorem dX5_resets_53 : decode cX5_resets 53 = .ok (.iadd, 1) := dk_96 (dk_at dksX5_resets_2 5 rfl rfl)
theorem dX5_resets_54 : decode cX5_resets 54 = .ok (.iastore, 1) := dk_79 (dk_at dksX5_resets_2 6 rfl rfl)
theorem dX5_resets_55 : decode cX5_resets 55 = .ok (.return_, 1) := dk_177 (dk_at dksX5_resets_2 7 rfl rfl)
abbrev cX5_burial : ByteArray := prog_14_method_33_code
def yX5_burial : MethodName := ⟨RX5, "burial", "(I)I"⟩
def dkwX5_burial_1 : List UInt8 := [8, 172]
abbrev dktX5_burial_1 : List UInt8 := dkwX5_burial_1 ++ []
def dkwX5_burial_0 : List UInt8 := [42, 27, 182, 0, 104, 153, 0, 7, 6, 167, 0, 16, 42, 27, 182, 0, 141, 153, 0, 7, 3, 167, 0, 4]
abbrev dktX5_burial_0 : List UInt8 := dkwX5_burial_0 ++ dktX5_burial_1
theorem dksX5_burial_0 : cX5_burial.data.toList.drop 0 = dktX5_burial_0 := by decide +kernel
theorem dksX5_burial_1 : cX5_burial.data.toList.drop 24 = dktX5_burial_1 := dk_seg dksX5_burial_0 24 rfl rfl
theorem dX5_burial_0 : decode cX5_burial 0 = .ok (.aload_n 0, 1) := dk_42 (dk_at dksX5_burial_0 0 rfl rfl)
theorem dX5_burial_1 : decode cX5_burial 1 = .ok (.iload_n 1, 1) := dk_27 (dk_at dksX5_burial_0 1 rfl rfl)
theorem dX5_burial_2 : decode cX5_burial 2 = .ok (.invokevirtual 104, 3) := dk_182 0 104 (dk_at dksX5_burial_0 2 rfl rfl)
theorem dX5_burial_5 : decode cX5_burial 5 = .ok (.ifCond .eq 7, 3) := dk_153 0 7 (dk_at dksX5_burial_0 5 rfl rfl)
theorem dX5_burial_8 : decode cX5_burial 8 = .ok (.iconst 3, 1) := dk_6 (dk_at dksX5_burial_0 8 rfl rfl)
theorem dX5_burial_9 : decode cX5_burial 9 = .ok (.goto 16, 3) := dk_167 0 16 (dk_at dksX5_burial_0 9 rfl rfl)
theorem dX5_burial_12 : decode cX5_burial 12 = .ok (.aload_n 0, 1) := dk_42 (dk_at dksX5_burial_0 12 rfl rfl)
theorem dX5_burial_13 : decode cX5_burial 13 = .ok (.iload_n 1, 1) := dk_27 (dk_at dksX5_burial_0 13 rfl rfl)
theorem dX5_burial_14 : decode cX5_burial 14 = .ok (.invokevirtual 141, 3) := dk_182 0 141 (dk_at dksX5_burial_0 14 rfl rfl)
theorem dX5_burial_17 : decode cX5_burial 17 = .ok (.ifCond .eq 7, 3) := dk_153 0 7 (dk_at dksX5_burial_0 17 rfl rfl)
theorem dX5_burial_20 : decode cX5_burial 20 = .ok (.iconst 0, 1) := dk_3 (dk_at dksX5_burial_0 20 rfl rfl)
theorem dX5_burial_21 : decode cX5_burial 21 = .ok (.goto 4, 3) := dk_167 0 4 (dk_at dksX5_burial_0 21 rfl rfl)
theorem dX5_burial_24 : decode cX5_burial 24 = .ok (.iconst 5, 1) := dk_8 (dk_at dksX5_burial_1 0 rfl rfl)
theorem dX5_burial_25 : decode cX5_burial 25 = .ok (.ireturn, 1) := dk_172 (dk_at dksX5_burial_1 1 rfl rfl)
abbrev cX5_buries : ByteArray := prog_14_method_27_code
def yX5_buries : MethodName := ⟨RX5, "buries", "(I)Z"⟩
def dkwX5_buries_11 : List UInt8 := [182, 0, 132, 4, 172]
abbrev dktX5_buries_11 : List UInt8 := dkwX5_buries_11 ++ []
def dkwX5_buries_10 : List UInt8 := [92, 46, 4, 96, 79, 42, 180, 0, 7, 16, 8, 92, 46, 4, 96, 79, 132, 4, 1, 167, 255, 30, 42, 27]
abbrev dktX5_buries_10 : List UInt8 := dkwX5_buries_10 ++ dktX5_buries_11
def dkwX5_buries_9 : List UInt8 := [184, 0, 110, 3, 172, 42, 21, 4, 21, 8, 21, 7, 182, 0, 128, 42, 180, 0, 7, 21, 5, 16, 8, 96]
abbrev dktX5_buries_9 : List UInt8 := dkwX5_buries_9 ++ dktX5_buries_10
def dkwX5_buries_8 : List UInt8 := [46, 27, 182, 0, 125, 54, 8, 21, 8, 2, 160, 0, 18, 42, 180, 0, 16, 3, 42, 180, 0, 7, 3]
abbrev dktX5_buries_8 : List UInt8 := dkwX5_buries_8 ++ dktX5_buries_9
def dkwX5_buries_7 : List UInt8 := [16, 6, 96, 46, 42, 180, 0, 7, 5, 46, 108, 54, 7, 42, 21, 7, 42, 180, 0, 7, 21, 5, 4, 96]
abbrev dktX5_buries_7 : List UInt8 := dkwX5_buries_7 ++ dktX5_buries_8
def dkwX5_buries_6 : List UInt8 := [164, 0, 8, 21, 6, 167, 0, 12, 42, 180, 0, 7, 16, 6, 46, 4, 96, 79, 42, 180, 0, 7, 21, 5]
abbrev dktX5_buries_6 : List UInt8 := dkwX5_buries_6 ++ dktX5_buries_7
def dkwX5_buries_5 : List UInt8 := [182, 0, 121, 96, 54, 6, 42, 180, 0, 7, 21, 5, 16, 6, 96, 21, 6, 42, 180, 0, 7, 16, 6, 46]
abbrev dktX5_buries_5 : List UInt8 := dkwX5_buries_5 ++ dktX5_buries_6
def dkwX5_buries_4 : List UInt8 := [3, 96, 46, 42, 180, 0, 7, 21, 5, 4, 96, 46, 42, 180, 0, 7, 21, 5, 16, 16, 96, 46]
abbrev dktX5_buries_4 : List UInt8 := dkwX5_buries_4 ++ dktX5_buries_5
def dkwX5_buries_3 : List UInt8 := [21, 4, 184, 0, 65, 54, 5, 42, 180, 0, 7, 21, 5, 6, 96, 46, 42, 29, 42, 180, 0, 7, 21, 5]
abbrev dktX5_buries_3 : List UInt8 := dkwX5_buries_3 ++ dktX5_buries_4
def dkwX5_buries_2 : List UInt8 := [182, 0, 75, 153, 0, 201, 42, 21, 4, 8, 182, 0, 71, 27, 159, 0, 6, 167, 0, 187, 132, 2, 255]
abbrev dktX5_buries_2 : List UInt8 := dkwX5_buries_2 ++ dktX5_buries_3
def dkwX5_buries_1 : List UInt8 := [3, 54, 4, 21, 4, 42, 180, 0, 7, 16, 7, 46, 162, 0, 220, 28, 158, 0, 216, 42, 21, 4]
abbrev dktX5_buries_1 : List UInt8 := dkwX5_buries_1 ++ dktX5_buries_2
def dkwX5_buries_0 : List UInt8 := [42, 180, 0, 7, 3, 42, 180, 0, 16, 3, 184, 0, 110, 42, 27, 182, 0, 114, 61, 42, 182, 0, 117, 62]
abbrev dktX5_buries_0 : List UInt8 := dkwX5_buries_0 ++ dktX5_buries_1
theorem dksX5_buries_0 : cX5_buries.data.toList.drop 0 = dktX5_buries_0 := by decide +kernel
theorem dksX5_buries_1 : cX5_buries.data.toList.drop 24 = dktX5_buries_1 := dk_seg dksX5_buries_0 24 rfl rfl
theorem dksX5_buries_2 : cX5_buries.data.toList.drop 46 = dktX5_buries_2 := dk_seg dksX5_buries_1 22 rfl rfl
theorem dksX5_buries_3 : cX5_buries.data.toList.drop 69 = dktX5_buries_3 := dk_seg dksX5_buries_2 23 rfl rfl
theorem dksX5_buries_4 : cX5_buries.data.toList.drop 93 = dktX5_buries_4 := dk_seg dksX5_buries_3 24 rfl rfl
theorem dksX5_buries_5 : cX5_buries.data.toList.drop 115 = dktX5_buries_5 := dk_seg dksX5_buries_4 22 rfl rfl
theorem dksX5_buries_6 : cX5_buries.data.toList.drop 139 = dktX5_buries_6 := dk_seg dksX5_buries_5 24 rfl rfl
theorem dksX5_buries_7 : cX5_buries.data.toList.drop 163 = dktX5_buries_7 := dk_seg dksX5_buries_6 24 rfl rfl
theorem dksX5_buries_8 : cX5_buries.data.toList.drop 187 = dktX5_buries_8 := dk_seg dksX5_buries_7 24 rfl rfl
theorem dksX5_buries_9 : cX5_buries.data.toList.drop 210 = dktX5_buries_9 := dk_seg dksX5_buries_8 23 rfl rfl
theorem dksX5_buries_10 : cX5_buries.data.toList.drop 234 = dktX5_buries_10 := dk_seg dksX5_buries_9 24 rfl rfl
theorem dksX5_buries_11 : cX5_buries.data.toList.drop 258 = dktX5_buries_11 := dk_seg dksX5_buries_10 24 rfl rfl
theorem dX5_buries_0 : decode cX5_buries 0 = .ok (.aload_n 0, 1) := dk_42 (dk_at dksX5_buries_0 0 rfl rfl)
theorem dX5_buries_1 : decode cX5_buries 1 = .ok (.getfield 7, 3) := dk_180 0 7 (dk_at dksX5_buries_0 1 rfl rfl)
theorem dX5_buries_4 : decode cX5_buries 4 = .ok (.iconst 0, 1) := dk_3 (dk_at dksX5_buries_0 4 rfl rfl)
theorem dX5_buries_5 : decode cX5_buries 5 = .ok (.aload_n 0, 1) := dk_42 (dk_at dksX5_buries_0 5 rfl rfl)
theorem dX5_buries_6 : decode cX5_buries 6 = .ok (.getfield 16, 3) := dk_180 0 16 (dk_at dksX5_buries_0 6 rfl rfl)
theorem dX5_buries_9 : decode cX5_buries 9 = .ok (.iconst 0, 1) := dk_3 (dk_at dksX5_buries_0 9 rfl rfl)
theorem dX5_buries_10 : decode cX5_buries 10 = .ok (.invokestatic 110, 3) := dk_184 0 110 (dk_at dksX5_buries_0 10 rfl rfl)
theorem dX5_buries_13 : decode cX5_buries 13 = .ok (.aload_n 0, 1) := dk_42 (dk_at dksX5_buries_0 13 rfl rfl)
theorem dX5_buries_14 : decode cX5_buries 14 = .ok (.iload_n 1, 1) := dk_27 (dk_at dksX5_buries_0 14 rfl rfl)
theorem dX5_buries_15 : decode cX5_buries 15 = .ok (.invokevirtual 114, 3) := dk_182 0 114 (dk_at dksX5_buries_0 15 rfl rfl)
theorem dX5_buries_18 : decode cX5_buries 18 = .ok (.istore_n 2, 1) := dk_61 (dk_at dksX5_buries_0 18 rfl rfl)
theorem dX5_buries_19 : decode cX5_buries 19 = .ok (.aload_n 0, 1) := dk_42 (dk_at dksX5_buries_0 19 rfl rfl)
theorem dX5_buries_20 : decode cX5_buries 20 = .ok (.invokevirtual 117, 3) := dk_182 0 117 (dk_at dksX5_buries_0 20 rfl rfl)
theorem dX5_buries_23 : decode cX5_buries 23 = .ok (.istore_n 3, 1) := dk_62 (dk_at dksX5_buries_0 23 rfl rfl)
theorem dX5_buries_24 : decode cX5_buries 24 = .ok (.iconst 0, 1) := dk_3 (dk_at dksX5_buries_1 0 rfl rfl)
theorem dX5_buries_25 : decode cX5_buries 25 = .ok (.istore 4, 2) := dk_54 4 (dk_at dksX5_buries_1 1 rfl rfl)
theorem dX5_buries_27 : decode cX5_buries 27 = .ok (.iload 4, 2) := dk_21 4 (dk_at dksX5_buries_1 3 rfl rfl)
theorem dX5_buries_29 : decode cX5_buries 29 = .ok (.aload_n 0, 1) := dk_42 (dk_at dksX5_buries_1 5 rfl rfl)
theorem dX5_buries_30 : decode cX5_buries 30 = .ok (.getfield 7, 3) := dk_180 0 7 (dk_at dksX5_buries_1 6 rfl rfl)
theorem dX5_buries_33 : decode cX5_buries 33 = .ok (.bipush 7, 2) := dk_16 7 (dk_at dksX5_buries_1 9 rfl rfl)
theorem dX5_buries_35 : decode cX5_buries 35 = .ok (.iaload, 1) := dk_46 (dk_at dksX5_buries_1 11 rfl rfl)
theorem dX5_buries_36 : decode cX5_buries 36 = .ok (.if_icmp .ge 220, 3) := dk_162 0 220 (dk_at dksX5_buries_1 12 rfl rfl)
theorem dX5_buries_39 : decode cX5_buries 39 = .ok (.iload_n 2, 1) := dk_28 (dk_at dksX5_buries_1 15 rfl rfl)
theorem dX5_buries_40 : decode cX5_buries 40 = .ok (.ifCond .le 216, 3) := dk_158 0 216 (dk_at dksX5_buries_1 16 rfl rfl)
theorem dX5_buries_43 : decode cX5_buries 43 = .ok (.aload_n 0, 1) := dk_42 (dk_at dksX5_buries_1 19 rfl rfl)
theorem dX5_buries_44 : decode cX5_buries 44 = .ok (.iload 4, 2) := dk_21 4 (dk_at dksX5_buries_1 20 rfl rfl)
theorem dX5_buries_46 : decode cX5_buries 46 = .ok (.invokevirtual 75, 3) := dk_182 0 75 (dk_at dksX5_buries_2 0 rfl rfl)
theorem dX5_buries_49 : decode cX5_buries 49 = .ok (.ifCond .eq 201, 3) := dk_153 0 201 (dk_at dksX5_buries_2 3 rfl rfl)
theorem dX5_buries_52 : decode cX5_buries 52 = .ok (.aload_n 0, 1) := dk_42 (dk_at dksX5_buries_2 6 rfl rfl)
theorem dX5_buries_53 : decode cX5_buries 53 = .ok (.iload 4, 2) := dk_21 4 (dk_at dksX5_buries_2 7 rfl rfl)
theorem dX5_buries_55 : decode cX5_buries 55 = .ok (.iconst 5, 1) := dk_8 (dk_at dksX5_buries_2 9 rfl rfl)
theorem dX5_buries_56 : decode cX5_buries 56 = .ok (.invokevirtual 71, 3) := dk_182 0 71 (dk_at dksX5_buries_2 10 rfl rfl)
theorem dX5_buries_59 : decode cX5_buries 59 = .ok (.iload_n 1, 1) := dk_27 (dk_at dksX5_buries_2 13 rfl rfl)
theorem dX5_buries_60 : decode cX5_buries 60 = .ok (.if_icmp .eq 6, 3) := dk_159 0 6 (dk_at dksX5_buries_2 14 rfl rfl)
theorem dX5_buries_63 : decode cX5_buries 63 = .ok (.goto 187, 3) := dk_167 0 187 (dk_at dksX5_buries_2 17 rfl rfl)
theorem dX5_buries_66 : decode cX5_buries 66 = .ok (.iinc 2 (-1), 3) := dk_132 2 255 (dk_at dksX5_buries_2 20 rfl rfl)
theorem dX5_buries_69 : decode cX5_buries 69 = .ok (.iload 4, 2) := dk_21 4 (dk_at dksX5_buries_3 0 rfl rfl)
theorem dX5_buries_71 : decode cX5_buries 71 = .ok (.invokestatic 65, 3) := dk_184 0 65 (dk_at dksX5_buries_3 2 rfl rfl)
theorem dX5_buries_74 : decode cX5_buries 74 = .ok (.istore 5, 2) := dk_54 5 (dk_at dksX5_buries_3 5 rfl rfl)
theorem dX5_buries_76 : decode cX5_buries 76 = .ok (.aload_n 0, 1) := dk_42 (dk_at dksX5_buries_3 7 rfl rfl)
theorem dX5_buries_77 : decode cX5_buries 77 = .ok (.getfield 7, 3) := dk_180 0 7 (dk_at dksX5_buries_3 8 rfl rfl)
theorem dX5_buries_80 : decode cX5_buries 80 = .ok (.iload 5, 2) := dk_21 5 (dk_at dksX5_buries_3 11 rfl rfl)
theorem dX5_buries_82 : decode cX5_buries 82 = .ok (.iconst 3, 1) := dk_6 (dk_at dksX5_buries_3 13 rfl rfl)
theorem dX5_buries_83 : decode cX5_buries 83 = .ok (.iadd, 1) := dk_96 (dk_at dksX5_buries_3 14 rfl rfl)
theorem dX5_buries_84 : decode cX5_buries 84 = .ok (.iaload, 1) := dk_46 (dk_at dksX5_buries_3 15 rfl rfl)
theorem dX5_buries_85 : decode cX5_buries 85 = .ok (.aload_n 0, 1) := dk_42 (dk_at dksX5_buries_3 16 rfl rfl)
theorem dX5_buries_86 : decode cX5_buries 86 = .ok (.iload_n 3, 1) := dk_29 (dk_at dksX5_buries_3 17 rfl rfl)
theorem dX5_buries_87 : decode cX5_buries 87 = .ok (.aload_n 0, 1) := dk_42 (dk_at dksX5_buries_3 18 rfl rfl)
theorem dX5_buries_88 : decode cX5_buries 88 = .ok (.getfield 7, 3) := dk_180 0 7 (dk_at dksX5_buries_3 19 rfl rfl)
theorem dX5_buries_91 : decode cX5_buries 91 = .ok (.iload 5, 2) := dk_21 5 (dk_at dksX5_buries_3 22 rfl rfl)
theorem dX5_buries_93 : decode cX5_buries 93 = .ok (.iconst 0, 1) := dk_3 (dk_at dksX5_buries_4 0 rfl rfl)
theorem dX5_buries_94 : decode cX5_buries 94 = .ok (.iadd, 1) := dk_96 (dk_at dksX5_buries_4 1 rfl rfl)
theorem dX5_buries_95 : decode cX5_buries 95 = .ok (.iaload, 1) := dk_46 (dk_at dksX5_buries_4 2 rfl rfl)
theorem dX5_buries_96 : decode cX5_buries 96 = .ok (.aload_n 0, 1) := dk_42 (dk_at dksX5_buries_4 3 rfl rfl)
theorem dX5_buries_97 : decode cX5_buries 97 = .ok (.getfield 7, 3) := dk_180 0 7 (dk_at dksX5_buries_4 4 rfl rfl)
theorem dX5_buries_100 : decode cX5_buries 100 = .ok (.iload 5, 2) := dk_21 5 (dk_at dksX5_buries_4 7 rfl rfl)
theorem dX5_buries_102 : decode cX5_buries 102 = .ok (.iconst 1, 1) := dk_4 (dk_at dksX5_buries_4 9 rfl rfl)
theorem dX5_buries_103 : decode cX5_buries 103 = .ok (.iadd, 1) := dk_96 (dk_at dksX5_buries_4 10 rfl rfl)
theorem dX5_buries_104 : decode cX5_buries 104 = .ok (.iaload, 1) := dk_46 (dk_at dksX5_buries_4 11 rfl rfl)
theorem dX5_buries_105 : decode cX5_buries 105 = .ok (.aload_n 0, 1) := dk_42 (dk_at dksX5_buries_4 12 rfl rfl)
theorem dX5_buries_106 : decode cX5_buries 106 = .ok (.getfield 7, 3) := dk_180 0 7 (dk_at dksX5_buries_4 13 rfl rfl)
theorem dX5_buries_109 : decode cX5_buries 109 = .ok (.iload 5, 2) := dk_21 5 (dk_at dksX5_buries_4 16 rfl rfl)
theorem dX5_buries_111 : decode cX5_buries 111 = .ok (.bipush 16, 2) := dk_16 16 (dk_at dksX5_buries_4 18 rfl rfl)
theorem dX5_buries_113 : decode cX5_buries 113 = .ok (.iadd, 1) := dk_96 (dk_at dksX5_buries_4 20 rfl rfl)
theorem dX5_buries_114 : decode cX5_buries 114 = .ok (.iaload, 1) := dk_46 (dk_at dksX5_buries_4 21 rfl rfl)
theorem dX5_buries_115 : decode cX5_buries 115 = .ok (.invokevirtual 121, 3) := dk_182 0 121 (dk_at dksX5_buries_5 0 rfl rfl)
theorem dX5_buries_118 : decode cX5_buries 118 = .ok (.iadd, 1) := dk_96 (dk_at dksX5_buries_5 3 rfl rfl)
theorem dX5_buries_119 : decode cX5_buries 119 = .ok (.istore 6, 2) := dk_54 6 (dk_at dksX5_buries_5 4 rfl rfl)
theorem dX5_buries_121 : decode cX5_buries 121 = .ok (.aload_n 0, 1) := dk_42 (dk_at dksX5_buries_5 6 rfl rfl)
theorem dX5_buries_122 : decode cX5_buries 122 = .ok (.getfield 7, 3) := dk_180 0 7 (dk_at dksX5_buries_5 7 rfl rfl)
theorem dX5_buries_125 : decode cX5_buries 125 = .ok (.iload 5, 2) := dk_21 5 (dk_at dksX5_buries_5 10 rfl rfl)
theorem dX5_buries_127 : decode cX5_buries 127 = .ok (.bipush 6, 2) := dk_16 6 (dk_at dksX5_buries_5 12 rfl rfl)
theorem dX5_buries_129 : decode cX5_buries 129 = .ok (.iadd, 1) := dk_96 (dk_at dksX5_buries_5 14 rfl rfl)
theorem dX5_buries_130 : decode cX5_buries 130 = .ok (.iload 6, 2) := dk_21 6 (dk_at dksX5_buries_5 15 rfl rfl)
theorem dX5_buries_132 : decode cX5_buries 132 = .ok (.aload_n 0, 1) := dk_42 (dk_at dksX5_buries_5 17 rfl rfl)
theorem dX5_buries_133 : decode cX5_buries 133 = .ok (.getfield 7, 3) := dk_180 0 7 (dk_at dksX5_buries_5 18 rfl rfl)
theorem dX5_buries_136 : decode cX5_buries 136 = .ok (.bipush 6, 2) := dk_16 6 (dk_at dksX5_buries_5 21 rfl rfl)
theorem dX5_buries_138 : decode cX5_buries 138 = .ok (.iaload, 1) := dk_46 (dk_at dksX5_buries_5 23 rfl rfl)
theorem dX5_buries_139 : decode cX5_buries 139 = .ok (.if_icmp .le 8, 3) := dk_164 0 8 (dk_at dksX5_buries_6 0 rfl rfl)
theorem dX5_buries_142 : decode cX5_buries 142 = .ok (.iload 6, 2) := dk_21 6 (dk_at dksX5_buries_6 3 rfl rfl)
theorem dX5_buries_144 : decode cX5_buries 144 = .ok (.goto 12, 3) := dk_167 0 12 (dk_at dksX5_buries_6 5 rfl rfl)
theorem dX5_buries_147 : decode cX5_buries 147 = .ok (.aload_n 0, 1) := dk_42 (dk_at dksX5_buries_6 8 rfl rfl)
theorem dX5_buries_148 : decode cX5_buries 148 = .ok (.getfield 7, 3) := dk_180 0 7 (dk_at dksX5_buries_6 9 rfl rfl)
theorem dX5_buries_151 : decode cX5_buries 151 = .ok (.bipush 6, 2) := dk_16 6 (dk_at dksX5_buries_6 12 rfl rfl)
theorem dX5_buries_153 : decode cX5_buries 153 = .ok (.iaload, 1) := dk_46 (dk_at dksX5_buries_6 14 rfl rfl)
theorem dX5_buries_154 : decode cX5_buries 154 = .ok (.iconst 1, 1) := dk_4 (dk_at dksX5_buries_6 15 rfl rfl)
theorem dX5_buries_155 : decode cX5_buries 155 = .ok (.iadd, 1) := dk_96 (dk_at dksX5_buries_6 16 rfl rfl)
theorem dX5_buries_156 : decode cX5_buries 156 = .ok (.iastore, 1) := dk_79 (dk_at dksX5_buries_6 17 rfl rfl)
theorem dX5_buries_157 : decode cX5_buries 157 = .ok (.aload_n 0, 1) := dk_42 (dk_at dksX5_buries_6 18 rfl rfl)
theorem dX5_buries_158 : decode cX5_buries 158 = .ok (.getfield 7, 3) := dk_180 0 7 (dk_at dksX5_buries_6 19 rfl rfl)
theorem dX5_buries_161 : decode cX5_buries 161 = .ok (.iload 5, 2) := dk_21 5 (dk_at dksX5_buries_6 22 rfl rfl)
theorem dX5_buries_163 : decode cX5_buries 163 = .ok (.bipush 6, 2) := dk_16 6 (dk_at dksX5_buries_7 0 rfl rfl)
theorem dX5_buries_165 : decode cX5_buries 165 = .ok (.iadd, 1) := dk_96 (dk_at dksX5_buries_7 2 rfl rfl)
theorem dX5_buries_166 : decode cX5_buries 166 = .ok (.iaload, 1) := dk_46 (dk_at dksX5_buries_7 3 rfl rfl)
theorem dX5_buries_167 : decode cX5_buries 167 = .ok (.aload_n 0, 1) := dk_42 (dk_at dksX5_buries_7 4 rfl rfl)
theorem dX5_buries_168 : decode cX5_buries 168 = .ok (.getfield 7, 3) := dk_180 0 7 (dk_at dksX5_buries_7 5 rfl rfl)
theorem dX5_buries_171 : decode cX5_buries 171 = .ok (.iconst 2, 1) := dk_5 (dk_at dksX5_buries_7 8 rfl rfl)
theorem dX5_buries_172 : decode cX5_buries 172 = .ok (.iaload, 1) := dk_46 (dk_at dksX5_buries_7 9 rfl rfl)
theorem dX5_buries_173 : decode cX5_buries 173 = .ok (.idiv, 1) := dk_108 (dk_at dksX5_buries_7 10 rfl rfl)
theorem dX5_buries_174 : decode cX5_buries 174 = .ok (.istore 7, 2) := dk_54 7 (dk_at dksX5_buries_7 11 rfl rfl)
theorem dX5_buries_176 : decode cX5_buries 176 = .ok (.aload_n 0, 1) := dk_42 (dk_at dksX5_buries_7 13 rfl rfl)
theorem dX5_buries_177 : decode cX5_buries 177 = .ok (.iload 7, 2) := dk_21 7 (dk_at dksX5_buries_7 14 rfl rfl)
theorem dX5_buries_179 : decode cX5_buries 179 = .ok (.aload_n 0, 1) := dk_42 (dk_at dksX5_buries_7 16 rfl rfl)
theorem dX5_buries_180 : decode cX5_buries 180 = .ok (.getfield 7, 3) := dk_180 0 7 (dk_at dksX5_buries_7 17 rfl rfl)
theorem dX5_buries_183 : decode cX5_buries 183 = .ok (.iload 5, 2) := dk_21 5 (dk_at dksX5_buries_7 20 rfl rfl)
theorem dX5_buries_185 : decode cX5_buries 185 = .ok (.iconst 1, 1) := dk_4 (dk_at dksX5_buries_7 22 rfl rfl)
theorem dX5_buries_186 : decode cX5_buries 186 = .ok (.iadd, 1) := dk_96 (dk_at dksX5_buries_7 23 rfl rfl)
theorem dX5_buries_187 : decode cX5_buries 187 = .ok (.iaload, 1) := dk_46 (dk_at dksX5_buries_8 0 rfl rfl)
theorem dX5_buries_188 : decode cX5_buries 188 = .ok (.iload_n 1, 1) := dk_27 (dk_at dksX5_buries_8 1 rfl rfl)
theorem dX5_buries_189 : decode cX5_buries 189 = .ok (.invokevirtual 125, 3) := dk_182 0 125 (dk_at dksX5_buries_8 2 rfl rfl)
theorem dX5_buries_192 : decode cX5_buries 192 = .ok (.istore 8, 2) := dk_54 8 (dk_at dksX5_buries_8 5 rfl rfl)
theorem dX5_buries_194 : decode cX5_buries 194 = .ok (.iload 8, 2) := dk_21 8 (dk_at dksX5_buries_8 7 rfl rfl)
theorem dX5_buries_196 : decode cX5_buries 196 = .ok (.iconst (-1), 1) := dk_2 (dk_at dksX5_buries_8 9 rfl rfl)
theorem dX5_buries_197 : decode cX5_buries 197 = .ok (.if_icmp .ne 18, 3) := dk_160 0 18 (dk_at dksX5_buries_8 10 rfl rfl)
theorem dX5_buries_200 : decode cX5_buries 200 = .ok (.aload_n 0, 1) := dk_42 (dk_at dksX5_buries_8 13 rfl rfl)
theorem dX5_buries_201 : decode cX5_buries 201 = .ok (.getfield 16, 3) := dk_180 0 16 (dk_at dksX5_buries_8 14 rfl rfl)
theorem dX5_buries_204 : decode cX5_buries 204 = .ok (.iconst 0, 1) := dk_3 (dk_at dksX5_buries_8 17 rfl rfl)
theorem dX5_buries_205 : decode cX5_buries 205 = .ok (.aload_n 0, 1) := dk_42 (dk_at dksX5_buries_8 18 rfl rfl)
theorem dX5_buries_206 : decode cX5_buries 206 = .ok (.getfield 7, 3) := dk_180 0 7 (dk_at dksX5_buries_8 19 rfl rfl)
theorem dX5_buries_209 : decode cX5_buries 209 = .ok (.iconst 0, 1) := dk_3 (dk_at dksX5_buries_8 22 rfl rfl)
theorem dX5_buries_210 : decode cX5_buries 210 = .ok (.invokestatic 110, 3) := dk_184 0 110 (dk_at dksX5_buries_9 0 rfl rfl)
theorem dX5_buries_213 : decode cX5_buries 213 = .ok (.iconst 0, 1) := dk_3 (dk_at dksX5_buries_9 3 rfl rfl)
theorem dX5_buries_214 : decode cX5_buries 214 = .ok (.ireturn, 1) := dk_172 (dk_at dksX5_buries_9 4 rfl rfl)
theorem dX5_buries_215 : decode cX5_buries 215 = .ok (.aload_n 0, 1) := dk_42 (dk_at dksX5_buries_9 5 rfl rfl)
theorem dX5_buries_216 : decode cX5_buries 216 = .ok (.iload 4, 2) := dk_21 4 (dk_at dksX5_buries_9 6 rfl rfl)
theorem dX5_buries_218 : decode cX5_buries 218 = .ok (.iload 8, 2) := dk_21 8 (dk_at dksX5_buries_9 8 rfl rfl)
theorem dX5_buries_220 : decode cX5_buries 220 = .ok (.iload 7, 2) := dk_21 7 (dk_at dksX5_buries_9 10 rfl rfl)
theorem dX5_buries_222 : decode cX5_buries 222 = .ok (.invokevirtual 128, 3) := dk_182 0 128 (dk_at dksX5_buries_9 12 rfl rfl)
theorem dX5_buries_225 : decode cX5_buries 225 = .ok (.aload_n 0, 1) := dk_42 (dk_at dksX5_buries_9 15 rfl rfl)
theorem dX5_buries_226 : decode cX5_buries 226 = .ok (.getfield 7, 3) := dk_180 0 7 (dk_at dksX5_buries_9 16 rfl rfl)
theorem dX5_buries_229 : decode cX5_buries 229 = .ok (.iload 5, 2) := dk_21 5 (dk_at dksX5_buries_9 19 rfl rfl)
theorem dX5_buries_231 : decode cX5_buries 231 = .ok (.bipush 8, 2) := dk_16 8 (dk_at dksX5_buries_9 21 rfl rfl)
theorem dX5_buries_233 : decode cX5_buries 233 = .ok (.iadd, 1) := dk_96 (dk_at dksX5_buries_9 23 rfl rfl)
theorem dX5_buries_234 : decode cX5_buries 234 = .ok (.dup2, 1) := dk_92 (dk_at dksX5_buries_10 0 rfl rfl)
theorem dX5_buries_235 : decode cX5_buries 235 = .ok (.iaload, 1) := dk_46 (dk_at dksX5_buries_10 1 rfl rfl)
theorem dX5_buries_236 : decode cX5_buries 236 = .ok (.iconst 1, 1) := dk_4 (dk_at dksX5_buries_10 2 rfl rfl)
theorem dX5_buries_237 : decode cX5_buries 237 = .ok (.iadd, 1) := dk_96 (dk_at dksX5_buries_10 3 rfl rfl)
theorem dX5_buries_238 : decode cX5_buries 238 = .ok (.iastore, 1) := dk_79 (dk_at dksX5_buries_10 4 rfl rfl)
theorem dX5_buries_239 : decode cX5_buries 239 = .ok (.aload_n 0, 1) := dk_42 (dk_at dksX5_buries_10 5 rfl rfl)
theorem dX5_buries_240 : decode cX5_buries 240 = .ok (.getfield 7, 3) := dk_180 0 7 (dk_at dksX5_buries_10 6 rfl rfl)
theorem dX5_buries_243 : decode cX5_buries 243 = .ok (.bipush 8, 2) := dk_16 8 (dk_at dksX5_buries_10 9 rfl rfl)
theorem dX5_buries_245 : decode cX5_buries 245 = .ok (.dup2, 1) := dk_92 (dk_at dksX5_buries_10 11 rfl rfl)
theorem dX5_buries_246 : decode cX5_buries 246 = .ok (.iaload, 1) := dk_46 (dk_at dksX5_buries_10 12 rfl rfl)
theorem dX5_buries_247 : decode cX5_buries 247 = .ok (.iconst 1, 1) := dk_4 (dk_at dksX5_buries_10 13 rfl rfl)
theorem dX5_buries_248 : decode cX5_buries 248 = .ok (.iadd, 1) := dk_96 (dk_at dksX5_buries_10 14 rfl rfl)
theorem dX5_buries_249 : decode cX5_buries 249 = .ok (.iastore, 1) := dk_79 (dk_at dksX5_buries_10 15 rfl rfl)
theorem dX5_buries_250 : decode cX5_buries 250 = .ok (.iinc 4 1, 3) := dk_132 4 1 (dk_at dksX5_buries_10 16 rfl rfl)
theorem dX5_buries_253 : decode cX5_buries 253 = .ok (.goto (-226), 3) := dk_167 255 30 (dk_at dksX5_buries_10 19 rfl rfl)
theorem dX5_buries_256 : decode cX5_buries 256 = .ok (.aload_n 0, 1) := dk_42 (dk_at dksX5_buries_10 22 rfl rfl)
theorem dX5_buries_257 : decode cX5_buries 257 = .ok (.iload_n 1, 1) := dk_27 (dk_at dksX5_buries_10 23 rfl rfl)
theorem dX5_buries_258 : decode cX5_buries 258 = .ok (.invokevirtual 132, 3) := dk_182 0 132 (dk_at dksX5_buries_11 0 rfl rfl)
theorem dX5_buries_261 : decode cX5_buries 261 = .ok (.iconst 1, 1) := dk_4 (dk_at dksX5_buries_11 3 rfl rfl)
theorem dX5_buries_262 : decode cX5_buries 262 = .ok (.ireturn, 1) := dk_172 (dk_at dksX5_buries_11 4 rfl rfl)
abbrev cX5_passesDays : ByteArray := prog_14_method_34_code
def yX5_passesDays : MethodName := ⟨RX5, "passesDays", "(I)V"⟩
def dkwX5_passesDays_0 : List UInt8 := [3, 61, 28, 27, 162, 0, 13, 42, 182, 0, 144, 132, 2, 1, 167, 255, 244, 177]
abbrev dktX5_passesDays_0 : List UInt8 := dkwX5_passesDays_0 ++ []
theorem dksX5_passesDays_0 : cX5_passesDays.data.toList.drop 0 = dktX5_passesDays_0 := by decide +kernel
theorem dX5_passesDays_0 : decode cX5_passesDays 0 = .ok (.iconst 0, 1) := dk_3 (dk_at dksX5_passesDays_0 0 rfl rfl)
theorem dX5_passesDays_1 : decode cX5_passesDays 1 = .ok (.istore_n 2, 1) := dk_61 (dk_at dksX5_passesDays_0 1 rfl rfl)
theorem dX5_passesDays_2 : decode cX5_passesDays 2 = .ok (.iload_n 2, 1) := dk_28 (dk_at dksX5_passesDays_0 2 rfl rfl)
theorem dX5_passesDays_3 : decode cX5_passesDays 3 = .ok (.iload_n 1, 1) := dk_27 (dk_at dksX5_passesDays_0 3 rfl rfl)
theorem dX5_passesDays_4 : decode cX5_passesDays 4 = .ok (.if_icmp .ge 13, 3) := dk_162 0 13 (dk_at dksX5_passesDays_0 4 rfl rfl)
theorem dX5_passesDays_7 : decode cX5_passesDays 7 = .ok (.aload_n 0, 1) := dk_42 (dk_at dksX5_passesDays_0 7 rfl rfl)
theorem dX5_passesDays_8 : decode cX5_passesDays 8 = .ok (.invokevirtual 144, 3) := dk_182 0 144 (dk_at dksX5_passesDays_0 8 rfl rfl)
theorem dX5_passesDays_11 : decode cX5_passesDays 11 = .ok (.iinc 2 1, 3) := dk_132 2 1 (dk_at dksX5_passesDays_0 11 rfl rfl)
theorem dX5_passesDays_14 : decode cX5_passesDays 14 = .ok (.goto (-12), 3) := dk_167 255 244 (dk_at dksX5_passesDays_0 14 rfl rfl)
theorem dX5_passesDays_17 : decode cX5_passesDays 17 = .ok (.return_, 1) := dk_177 (dk_at dksX5_passesDays_0 17 rfl rfl)
abbrev cX5_passesDay : ByteArray := prog_14_method_29_code
def yX5_passesDay : MethodName := ⟨RX5, "passesDay", "()V"⟩
def dkwX5_passesDay_6 : List UInt8 := [132, 1, 1, 167, 255, 188, 177]
abbrev dktX5_passesDay_6 : List UInt8 := dkwX5_passesDay_6 ++ []
def dkwX5_passesDay_5 : List UInt8 := [42, 27, 182, 0, 114, 154, 0, 11, 42, 27, 182, 0, 132, 167, 0, 9, 42, 27, 182, 0, 141, 61]
abbrev dktX5_passesDay_5 : List UInt8 := dkwX5_passesDay_5 ++ dktX5_passesDay_6
def dkwX5_passesDay_4 : List UInt8 := [27, 182, 0, 138, 42, 180, 0, 7, 6, 46, 96, 42, 180, 0, 7, 16, 6, 46, 161, 0, 6, 167, 0, 25]
abbrev dktX5_passesDay_4 : List UInt8 := dkwX5_passesDay_4 ++ dktX5_passesDay_5
def dkwX5_passesDay_3 : List UInt8 := [167, 255, 197, 3, 60, 27, 42, 180, 0, 7, 3, 46, 162, 0, 64, 42, 27, 182, 0, 104, 154, 0, 50, 42]
abbrev dktX5_passesDay_3 : List UInt8 := dkwX5_passesDay_3 ++ dktX5_passesDay_4
def dkwX5_passesDay_2 : List UInt8 := [27, 5, 182, 0, 71, 96, 42, 180, 0, 7, 16, 6, 46, 163, 0, 8, 42, 27, 182, 0, 135, 132, 1, 1]
abbrev dktX5_passesDay_2 : List UInt8 := dkwX5_passesDay_2 ++ dktX5_passesDay_3
def dkwX5_passesDay_1 : List UInt8 := [42, 27, 182, 0, 75, 153, 0, 40, 42, 27, 5, 182, 0, 71, 158, 0, 31, 42, 27, 6, 182, 0, 71, 42]
abbrev dktX5_passesDay_1 : List UInt8 := dkwX5_passesDay_1 ++ dktX5_passesDay_2
def dkwX5_passesDay_0 : List UInt8 := [42, 180, 0, 7, 16, 6, 92, 46, 4, 96, 79, 3, 60, 27, 42, 180, 0, 7, 16, 7, 46, 162, 0, 54]
abbrev dktX5_passesDay_0 : List UInt8 := dkwX5_passesDay_0 ++ dktX5_passesDay_1
theorem dksX5_passesDay_0 : cX5_passesDay.data.toList.drop 0 = dktX5_passesDay_0 := by decide +kernel
theorem dksX5_passesDay_1 : cX5_passesDay.data.toList.drop 24 = dktX5_passesDay_1 := dk_seg dksX5_passesDay_0 24 rfl rfl
theorem dksX5_passesDay_2 : cX5_passesDay.data.toList.drop 48 = dktX5_passesDay_2 := dk_seg dksX5_passesDay_1 24 rfl rfl
theorem dksX5_passesDay_3 : cX5_passesDay.data.toList.drop 72 = dktX5_passesDay_3 := dk_seg dksX5_passesDay_2 24 rfl rfl
theorem dksX5_passesDay_4 : cX5_passesDay.data.toList.drop 96 = dktX5_passesDay_4 := dk_seg dksX5_passesDay_3 24 rfl rfl
theorem dksX5_passesDay_5 : cX5_passesDay.data.toList.drop 120 = dktX5_passesDay_5 := dk_seg dksX5_passesDay_4 24 rfl rfl
theorem dksX5_passesDay_6 : cX5_passesDay.data.toList.drop 142 = dktX5_passesDay_6 := dk_seg dksX5_passesDay_5 22 rfl rfl
theorem dX5_passesDay_0 : decode cX5_passesDay 0 = .ok (.aload_n 0, 1) := dk_42 (dk_at dksX5_passesDay_0 0 rfl rfl)
theorem dX5_passesDay_1 : decode cX5_passesDay 1 = .ok (.getfield 7, 3) := dk_180 0 7 (dk_at dksX5_passesDay_0 1 rfl rfl)
theorem dX5_passesDay_4 : decode cX5_passesDay 4 = .ok (.bipush 6, 2) := dk_16 6 (dk_at dksX5_passesDay_0 4 rfl rfl)
theorem dX5_passesDay_6 : decode cX5_passesDay 6 = .ok (.dup2, 1) := dk_92 (dk_at dksX5_passesDay_0 6 rfl rfl)
theorem dX5_passesDay_7 : decode cX5_passesDay 7 = .ok (.iaload, 1) := dk_46 (dk_at dksX5_passesDay_0 7 rfl rfl)
theorem dX5_passesDay_8 : decode cX5_passesDay 8 = .ok (.iconst 1, 1) := dk_4 (dk_at dksX5_passesDay_0 8 rfl rfl)
theorem dX5_passesDay_9 : decode cX5_passesDay 9 = .ok (.iadd, 1) := dk_96 (dk_at dksX5_passesDay_0 9 rfl rfl)
theorem dX5_passesDay_10 : decode cX5_passesDay 10 = .ok (.iastore, 1) := dk_79 (dk_at dksX5_passesDay_0 10 rfl rfl)
theorem dX5_passesDay_11 : decode cX5_passesDay 11 = .ok (.iconst 0, 1) := dk_3 (dk_at dksX5_passesDay_0 11 rfl rfl)
theorem dX5_passesDay_12 : decode cX5_passesDay 12 = .ok (.istore_n 1, 1) := dk_60 (dk_at dksX5_passesDay_0 12 rfl rfl)
theorem dX5_passesDay_13 : decode cX5_passesDay 13 = .ok (.iload_n 1, 1) := dk_27 (dk_at dksX5_passesDay_0 13 rfl rfl)
theorem dX5_passesDay_14 : decode cX5_passesDay 14 = .ok (.aload_n 0, 1) := dk_42 (dk_at dksX5_passesDay_0 14 rfl rfl)
theorem dX5_passesDay_15 : decode cX5_passesDay 15 = .ok (.getfield 7, 3) := dk_180 0 7 (dk_at dksX5_passesDay_0 15 rfl rfl)
theorem dX5_passesDay_18 : decode cX5_passesDay 18 = .ok (.bipush 7, 2) := dk_16 7 (dk_at dksX5_passesDay_0 18 rfl rfl)
theorem dX5_passesDay_20 : decode cX5_passesDay 20 = .ok (.iaload, 1) := dk_46 (dk_at dksX5_passesDay_0 20 rfl rfl)
theorem dX5_passesDay_21 : decode cX5_passesDay 21 = .ok (.if_icmp .ge 54, 3) := dk_162 0 54 (dk_at dksX5_passesDay_0 21 rfl rfl)
theorem dX5_passesDay_24 : decode cX5_passesDay 24 = .ok (.aload_n 0, 1) := dk_42 (dk_at dksX5_passesDay_1 0 rfl rfl)
theorem dX5_passesDay_25 : decode cX5_passesDay 25 = .ok (.iload_n 1, 1) := dk_27 (dk_at dksX5_passesDay_1 1 rfl rfl)
theorem dX5_passesDay_26 : decode cX5_passesDay 26 = .ok (.invokevirtual 75, 3) := dk_182 0 75 (dk_at dksX5_passesDay_1 2 rfl rfl)
theorem dX5_passesDay_29 : decode cX5_passesDay 29 = .ok (.ifCond .eq 40, 3) := dk_153 0 40 (dk_at dksX5_passesDay_1 5 rfl rfl)
theorem dX5_passesDay_32 : decode cX5_passesDay 32 = .ok (.aload_n 0, 1) := dk_42 (dk_at dksX5_passesDay_1 8 rfl rfl)
theorem dX5_passesDay_33 : decode cX5_passesDay 33 = .ok (.iload_n 1, 1) := dk_27 (dk_at dksX5_passesDay_1 9 rfl rfl)
theorem dX5_passesDay_34 : decode cX5_passesDay 34 = .ok (.iconst 2, 1) := dk_5 (dk_at dksX5_passesDay_1 10 rfl rfl)
theorem dX5_passesDay_35 : decode cX5_passesDay 35 = .ok (.invokevirtual 71, 3) := dk_182 0 71 (dk_at dksX5_passesDay_1 11 rfl rfl)
theorem dX5_passesDay_38 : decode cX5_passesDay 38 = .ok (.ifCond .le 31, 3) := dk_158 0 31 (dk_at dksX5_passesDay_1 14 rfl rfl)
theorem dX5_passesDay_41 : decode cX5_passesDay 41 = .ok (.aload_n 0, 1) := dk_42 (dk_at dksX5_passesDay_1 17 rfl rfl)
theorem dX5_passesDay_42 : decode cX5_passesDay 42 = .ok (.iload_n 1, 1) := dk_27 (dk_at dksX5_passesDay_1 18 rfl rfl)
theorem dX5_passesDay_43 : decode cX5_passesDay 43 = .ok (.iconst 3, 1) := dk_6 (dk_at dksX5_passesDay_1 19 rfl rfl)
theorem dX5_passesDay_44 : decode cX5_passesDay 44 = .ok (.invokevirtual 71, 3) := dk_182 0 71 (dk_at dksX5_passesDay_1 20 rfl rfl)
theorem dX5_passesDay_47 : decode cX5_passesDay 47 = .ok (.aload_n 0, 1) := dk_42 (dk_at dksX5_passesDay_1 23 rfl rfl)
theorem dX5_passesDay_48 : decode cX5_passesDay 48 = .ok (.iload_n 1, 1) := dk_27 (dk_at dksX5_passesDay_2 0 rfl rfl)
theorem dX5_passesDay_49 : decode cX5_passesDay 49 = .ok (.iconst 2, 1) := dk_5 (dk_at dksX5_passesDay_2 1 rfl rfl)
theorem dX5_passesDay_50 : decode cX5_passesDay 50 = .ok (.invokevirtual 71, 3) := dk_182 0 71 (dk_at dksX5_passesDay_2 2 rfl rfl)
theorem dX5_passesDay_53 : decode cX5_passesDay 53 = .ok (.iadd, 1) := dk_96 (dk_at dksX5_passesDay_2 5 rfl rfl)
theorem dX5_passesDay_54 : decode cX5_passesDay 54 = .ok (.aload_n 0, 1) := dk_42 (dk_at dksX5_passesDay_2 6 rfl rfl)
theorem dX5_passesDay_55 : decode cX5_passesDay 55 = .ok (.getfield 7, 3) := dk_180 0 7 (dk_at dksX5_passesDay_2 7 rfl rfl)
theorem dX5_passesDay_58 : decode cX5_passesDay 58 = .ok (.bipush 6, 2) := dk_16 6 (dk_at dksX5_passesDay_2 10 rfl rfl)
theorem dX5_passesDay_60 : decode cX5_passesDay 60 = .ok (.iaload, 1) := dk_46 (dk_at dksX5_passesDay_2 12 rfl rfl)
theorem dX5_passesDay_61 : decode cX5_passesDay 61 = .ok (.if_icmp .gt 8, 3) := dk_163 0 8 (dk_at dksX5_passesDay_2 13 rfl rfl)
theorem dX5_passesDay_64 : decode cX5_passesDay 64 = .ok (.aload_n 0, 1) := dk_42 (dk_at dksX5_passesDay_2 16 rfl rfl)
theorem dX5_passesDay_65 : decode cX5_passesDay 65 = .ok (.iload_n 1, 1) := dk_27 (dk_at dksX5_passesDay_2 17 rfl rfl)
theorem dX5_passesDay_66 : decode cX5_passesDay 66 = .ok (.invokevirtual 135, 3) := dk_182 0 135 (dk_at dksX5_passesDay_2 18 rfl rfl)
theorem dX5_passesDay_69 : decode cX5_passesDay 69 = .ok (.iinc 1 1, 3) := dk_132 1 1 (dk_at dksX5_passesDay_2 21 rfl rfl)
theorem dX5_passesDay_72 : decode cX5_passesDay 72 = .ok (.goto (-59), 3) := dk_167 255 197 (dk_at dksX5_passesDay_3 0 rfl rfl)
theorem dX5_passesDay_75 : decode cX5_passesDay 75 = .ok (.iconst 0, 1) := dk_3 (dk_at dksX5_passesDay_3 3 rfl rfl)
theorem dX5_passesDay_76 : decode cX5_passesDay 76 = .ok (.istore_n 1, 1) := dk_60 (dk_at dksX5_passesDay_3 4 rfl rfl)
theorem dX5_passesDay_77 : decode cX5_passesDay 77 = .ok (.iload_n 1, 1) := dk_27 (dk_at dksX5_passesDay_3 5 rfl rfl)
theorem dX5_passesDay_78 : decode cX5_passesDay 78 = .ok (.aload_n 0, 1) := dk_42 (dk_at dksX5_passesDay_3 6 rfl rfl)
theorem dX5_passesDay_79 : decode cX5_passesDay 79 = .ok (.getfield 7, 3) := dk_180 0 7 (dk_at dksX5_passesDay_3 7 rfl rfl)
theorem dX5_passesDay_82 : decode cX5_passesDay 82 = .ok (.iconst 0, 1) := dk_3 (dk_at dksX5_passesDay_3 10 rfl rfl)
theorem dX5_passesDay_83 : decode cX5_passesDay 83 = .ok (.iaload, 1) := dk_46 (dk_at dksX5_passesDay_3 11 rfl rfl)
theorem dX5_passesDay_84 : decode cX5_passesDay 84 = .ok (.if_icmp .ge 64, 3) := dk_162 0 64 (dk_at dksX5_passesDay_3 12 rfl rfl)
theorem dX5_passesDay_87 : decode cX5_passesDay 87 = .ok (.aload_n 0, 1) := dk_42 (dk_at dksX5_passesDay_3 15 rfl rfl)
theorem dX5_passesDay_88 : decode cX5_passesDay 88 = .ok (.iload_n 1, 1) := dk_27 (dk_at dksX5_passesDay_3 16 rfl rfl)
theorem dX5_passesDay_89 : decode cX5_passesDay 89 = .ok (.invokevirtual 104, 3) := dk_182 0 104 (dk_at dksX5_passesDay_3 17 rfl rfl)
theorem dX5_passesDay_92 : decode cX5_passesDay 92 = .ok (.ifCond .ne 50, 3) := dk_154 0 50 (dk_at dksX5_passesDay_3 20 rfl rfl)
theorem dX5_passesDay_95 : decode cX5_passesDay 95 = .ok (.aload_n 0, 1) := dk_42 (dk_at dksX5_passesDay_3 23 rfl rfl)
theorem dX5_passesDay_96 : decode cX5_passesDay 96 = .ok (.iload_n 1, 1) := dk_27 (dk_at dksX5_passesDay_4 0 rfl rfl)
theorem dX5_passesDay_97 : decode cX5_passesDay 97 = .ok (.invokevirtual 138, 3) := dk_182 0 138 (dk_at dksX5_passesDay_4 1 rfl rfl)
theorem dX5_passesDay_100 : decode cX5_passesDay 100 = .ok (.aload_n 0, 1) := dk_42 (dk_at dksX5_passesDay_4 4 rfl rfl)
theorem dX5_passesDay_101 : decode cX5_passesDay 101 = .ok (.getfield 7, 3) := dk_180 0 7 (dk_at dksX5_passesDay_4 5 rfl rfl)
theorem dX5_passesDay_104 : decode cX5_passesDay 104 = .ok (.iconst 3, 1) := dk_6 (dk_at dksX5_passesDay_4 8 rfl rfl)
theorem dX5_passesDay_105 : decode cX5_passesDay 105 = .ok (.iaload, 1) := dk_46 (dk_at dksX5_passesDay_4 9 rfl rfl)
theorem dX5_passesDay_106 : decode cX5_passesDay 106 = .ok (.iadd, 1) := dk_96 (dk_at dksX5_passesDay_4 10 rfl rfl)
theorem dX5_passesDay_107 : decode cX5_passesDay 107 = .ok (.aload_n 0, 1) := dk_42 (dk_at dksX5_passesDay_4 11 rfl rfl)
theorem dX5_passesDay_108 : decode cX5_passesDay 108 = .ok (.getfield 7, 3) := dk_180 0 7 (dk_at dksX5_passesDay_4 12 rfl rfl)
theorem dX5_passesDay_111 : decode cX5_passesDay 111 = .ok (.bipush 6, 2) := dk_16 6 (dk_at dksX5_passesDay_4 15 rfl rfl)
theorem dX5_passesDay_113 : decode cX5_passesDay 113 = .ok (.iaload, 1) := dk_46 (dk_at dksX5_passesDay_4 17 rfl rfl)
theorem dX5_passesDay_114 : decode cX5_passesDay 114 = .ok (.if_icmp .lt 6, 3) := dk_161 0 6 (dk_at dksX5_passesDay_4 18 rfl rfl)
theorem dX5_passesDay_117 : decode cX5_passesDay 117 = .ok (.goto 25, 3) := dk_167 0 25 (dk_at dksX5_passesDay_4 21 rfl rfl)
theorem dX5_passesDay_120 : decode cX5_passesDay 120 = .ok (.aload_n 0, 1) := dk_42 (dk_at dksX5_passesDay_5 0 rfl rfl)
theorem dX5_passesDay_121 : decode cX5_passesDay 121 = .ok (.iload_n 1, 1) := dk_27 (dk_at dksX5_passesDay_5 1 rfl rfl)
theorem dX5_passesDay_122 : decode cX5_passesDay 122 = .ok (.invokevirtual 114, 3) := dk_182 0 114 (dk_at dksX5_passesDay_5 2 rfl rfl)
theorem dX5_passesDay_125 : decode cX5_passesDay 125 = .ok (.ifCond .ne 11, 3) := dk_154 0 11 (dk_at dksX5_passesDay_5 5 rfl rfl)
theorem dX5_passesDay_128 : decode cX5_passesDay 128 = .ok (.aload_n 0, 1) := dk_42 (dk_at dksX5_passesDay_5 8 rfl rfl)
theorem dX5_passesDay_129 : decode cX5_passesDay 129 = .ok (.iload_n 1, 1) := dk_27 (dk_at dksX5_passesDay_5 9 rfl rfl)
theorem dX5_passesDay_130 : decode cX5_passesDay 130 = .ok (.invokevirtual 132, 3) := dk_182 0 132 (dk_at dksX5_passesDay_5 10 rfl rfl)
theorem dX5_passesDay_133 : decode cX5_passesDay 133 = .ok (.goto 9, 3) := dk_167 0 9 (dk_at dksX5_passesDay_5 13 rfl rfl)
theorem dX5_passesDay_136 : decode cX5_passesDay 136 = .ok (.aload_n 0, 1) := dk_42 (dk_at dksX5_passesDay_5 16 rfl rfl)
theorem dX5_passesDay_137 : decode cX5_passesDay 137 = .ok (.iload_n 1, 1) := dk_27 (dk_at dksX5_passesDay_5 17 rfl rfl)
theorem dX5_passesDay_138 : decode cX5_passesDay 138 = .ok (.invokevirtual 141, 3) := dk_182 0 141 (dk_at dksX5_passesDay_5 18 rfl rfl)
theorem dX5_passesDay_141 : decode cX5_passesDay 141 = .ok (.istore_n 2, 1) := dk_61 (dk_at dksX5_passesDay_5 21 rfl rfl)
theorem dX5_passesDay_142 : decode cX5_passesDay 142 = .ok (.iinc 1 1, 3) := dk_132 1 1 (dk_at dksX5_passesDay_6 0 rfl rfl)
theorem dX5_passesDay_145 : decode cX5_passesDay 145 = .ok (.goto (-68), 3) := dk_167 255 188 (dk_at dksX5_passesDay_6 3 rfl rfl)
theorem dX5_passesDay_148 : decode cX5_passesDay 148 = .ok (.return_, 1) := dk_177 (dk_at dksX5_passesDay_6 6 rfl rfl)
abbrev cX5_toldNow : ByteArray := prog_14_method_93_code
def yX5_toldNow : MethodName := ⟨RX5, "toldNow", "(I)I"⟩
def dkwX5_toldNow_3 : List UInt8 := [182, 0, 192, 172]
abbrev dktX5_toldNow_3 : List UInt8 := dkwX5_toldNow_3 ++ []
def dkwX5_toldNow_2 : List UInt8 := [182, 0, 189, 167, 0, 22, 27, 7, 160, 0, 13, 42, 180, 0, 7, 16, 10, 46, 167, 0, 7, 42]
abbrev dktX5_toldNow_2 : List UInt8 := dkwX5_toldNow_2 ++ dktX5_toldNow_3
def dkwX5_toldNow_1 : List UInt8 := [16, 9, 46, 167, 0, 46, 27, 5, 160, 0, 10, 42, 180, 0, 250, 167, 0, 34, 27, 6, 160, 0, 10, 42]
abbrev dktX5_toldNow_1 : List UInt8 := dkwX5_toldNow_1 ++ dktX5_toldNow_2
def dkwX5_toldNow_0 : List UInt8 := [27, 154, 0, 13, 42, 180, 0, 7, 16, 8, 46, 167, 0, 61, 27, 4, 160, 0, 13, 42, 180, 0, 7]
abbrev dktX5_toldNow_0 : List UInt8 := dkwX5_toldNow_0 ++ dktX5_toldNow_1
theorem dksX5_toldNow_0 : cX5_toldNow.data.toList.drop 0 = dktX5_toldNow_0 := by decide +kernel
theorem dksX5_toldNow_1 : cX5_toldNow.data.toList.drop 23 = dktX5_toldNow_1 := dk_seg dksX5_toldNow_0 23 rfl rfl
theorem dksX5_toldNow_2 : cX5_toldNow.data.toList.drop 47 = dktX5_toldNow_2 := dk_seg dksX5_toldNow_1 24 rfl rfl
theorem dksX5_toldNow_3 : cX5_toldNow.data.toList.drop 69 = dktX5_toldNow_3 := dk_seg dksX5_toldNow_2 22 rfl rfl
theorem dX5_toldNow_0 : decode cX5_toldNow 0 = .ok (.iload_n 1, 1) := dk_27 (dk_at dksX5_toldNow_0 0 rfl rfl)
theorem dX5_toldNow_1 : decode cX5_toldNow 1 = .ok (.ifCond .ne 13, 3) := dk_154 0 13 (dk_at dksX5_toldNow_0 1 rfl rfl)
theorem dX5_toldNow_4 : decode cX5_toldNow 4 = .ok (.aload_n 0, 1) := dk_42 (dk_at dksX5_toldNow_0 4 rfl rfl)
theorem dX5_toldNow_5 : decode cX5_toldNow 5 = .ok (.getfield 7, 3) := dk_180 0 7 (dk_at dksX5_toldNow_0 5 rfl rfl)
theorem dX5_toldNow_8 : decode cX5_toldNow 8 = .ok (.bipush 8, 2) := dk_16 8 (dk_at dksX5_toldNow_0 8 rfl rfl)
theorem dX5_toldNow_10 : decode cX5_toldNow 10 = .ok (.iaload, 1) := dk_46 (dk_at dksX5_toldNow_0 10 rfl rfl)
theorem dX5_toldNow_11 : decode cX5_toldNow 11 = .ok (.goto 61, 3) := dk_167 0 61 (dk_at dksX5_toldNow_0 11 rfl rfl)
theorem dX5_toldNow_14 : decode cX5_toldNow 14 = .ok (.iload_n 1, 1) := dk_27 (dk_at dksX5_toldNow_0 14 rfl rfl)
theorem dX5_toldNow_15 : decode cX5_toldNow 15 = .ok (.iconst 1, 1) := dk_4 (dk_at dksX5_toldNow_0 15 rfl rfl)
theorem dX5_toldNow_16 : decode cX5_toldNow 16 = .ok (.if_icmp .ne 13, 3) := dk_160 0 13 (dk_at dksX5_toldNow_0 16 rfl rfl)
theorem dX5_toldNow_19 : decode cX5_toldNow 19 = .ok (.aload_n 0, 1) := dk_42 (dk_at dksX5_toldNow_0 19 rfl rfl)
theorem dX5_toldNow_20 : decode cX5_toldNow 20 = .ok (.getfield 7, 3) := dk_180 0 7 (dk_at dksX5_toldNow_0 20 rfl rfl)
theorem dX5_toldNow_23 : decode cX5_toldNow 23 = .ok (.bipush 9, 2) := dk_16 9 (dk_at dksX5_toldNow_1 0 rfl rfl)
theorem dX5_toldNow_25 : decode cX5_toldNow 25 = .ok (.iaload, 1) := dk_46 (dk_at dksX5_toldNow_1 2 rfl rfl)
theorem dX5_toldNow_26 : decode cX5_toldNow 26 = .ok (.goto 46, 3) := dk_167 0 46 (dk_at dksX5_toldNow_1 3 rfl rfl)
theorem dX5_toldNow_29 : decode cX5_toldNow 29 = .ok (.iload_n 1, 1) := dk_27 (dk_at dksX5_toldNow_1 6 rfl rfl)
theorem dX5_toldNow_30 : decode cX5_toldNow 30 = .ok (.iconst 2, 1) := dk_5 (dk_at dksX5_toldNow_1 7 rfl rfl)
theorem dX5_toldNow_31 : decode cX5_toldNow 31 = .ok (.if_icmp .ne 10, 3) := dk_160 0 10 (dk_at dksX5_toldNow_1 8 rfl rfl)
theorem dX5_toldNow_34 : decode cX5_toldNow 34 = .ok (.aload_n 0, 1) := dk_42 (dk_at dksX5_toldNow_1 11 rfl rfl)
theorem dX5_toldNow_35 : decode cX5_toldNow 35 = .ok (.getfield 250, 3) := dk_180 0 250 (dk_at dksX5_toldNow_1 12 rfl rfl)
theorem dX5_toldNow_38 : decode cX5_toldNow 38 = .ok (.goto 34, 3) := dk_167 0 34 (dk_at dksX5_toldNow_1 15 rfl rfl)
theorem dX5_toldNow_41 : decode cX5_toldNow 41 = .ok (.iload_n 1, 1) := dk_27 (dk_at dksX5_toldNow_1 18 rfl rfl)
theorem dX5_toldNow_42 : decode cX5_toldNow 42 = .ok (.iconst 3, 1) := dk_6 (dk_at dksX5_toldNow_1 19 rfl rfl)
theorem dX5_toldNow_43 : decode cX5_toldNow 43 = .ok (.if_icmp .ne 10, 3) := dk_160 0 10 (dk_at dksX5_toldNow_1 20 rfl rfl)
theorem dX5_toldNow_46 : decode cX5_toldNow 46 = .ok (.aload_n 0, 1) := dk_42 (dk_at dksX5_toldNow_1 23 rfl rfl)
theorem dX5_toldNow_47 : decode cX5_toldNow 47 = .ok (.invokevirtual 189, 3) := dk_182 0 189 (dk_at dksX5_toldNow_2 0 rfl rfl)
theorem dX5_toldNow_50 : decode cX5_toldNow 50 = .ok (.goto 22, 3) := dk_167 0 22 (dk_at dksX5_toldNow_2 3 rfl rfl)
theorem dX5_toldNow_53 : decode cX5_toldNow 53 = .ok (.iload_n 1, 1) := dk_27 (dk_at dksX5_toldNow_2 6 rfl rfl)
theorem dX5_toldNow_54 : decode cX5_toldNow 54 = .ok (.iconst 4, 1) := dk_7 (dk_at dksX5_toldNow_2 7 rfl rfl)
theorem dX5_toldNow_55 : decode cX5_toldNow 55 = .ok (.if_icmp .ne 13, 3) := dk_160 0 13 (dk_at dksX5_toldNow_2 8 rfl rfl)
theorem dX5_toldNow_58 : decode cX5_toldNow 58 = .ok (.aload_n 0, 1) := dk_42 (dk_at dksX5_toldNow_2 11 rfl rfl)
theorem dX5_toldNow_59 : decode cX5_toldNow 59 = .ok (.getfield 7, 3) := dk_180 0 7 (dk_at dksX5_toldNow_2 12 rfl rfl)
theorem dX5_toldNow_62 : decode cX5_toldNow 62 = .ok (.bipush 10, 2) := dk_16 10 (dk_at dksX5_toldNow_2 15 rfl rfl)
theorem dX5_toldNow_64 : decode cX5_toldNow 64 = .ok (.iaload, 1) := dk_46 (dk_at dksX5_toldNow_2 17 rfl rfl)
theorem dX5_toldNow_65 : decode cX5_toldNow 65 = .ok (.goto 7, 3) := dk_167 0 7 (dk_at dksX5_toldNow_2 18 rfl rfl)
theorem dX5_toldNow_68 : decode cX5_toldNow 68 = .ok (.aload_n 0, 1) := dk_42 (dk_at dksX5_toldNow_2 21 rfl rfl)
theorem dX5_toldNow_69 : decode cX5_toldNow 69 = .ok (.invokevirtual 192, 3) := dk_182 0 192 (dk_at dksX5_toldNow_3 0 rfl rfl)
theorem dX5_toldNow_72 : decode cX5_toldNow 72 = .ok (.ireturn, 1) := dk_172 (dk_at dksX5_toldNow_3 3 rfl rfl)
abbrev cX5_bin : ByteArray := prog_14_method_77_code
def yX5_bin : MethodName := ⟨RX5, "bin", "(II)I"⟩
def dkwX5_bin_3 : List UInt8 := [160, 0, 7, 4, 167, 0, 4, 3, 96, 62, 132, 4, 1, 167, 255, 203, 29, 172]
abbrev dktX5_bin_3 : List UInt8 := dkwX5_bin_3 ++ []
def dkwX5_bin_2 : List UInt8 := [154, 0, 40, 29, 42, 21, 4, 182, 0, 75, 154, 0, 21, 42, 21, 4, 27, 182, 0, 93, 184, 0, 229, 28]
abbrev dktX5_bin_2 : List UInt8 := dkwX5_bin_2 ++ dktX5_bin_3
def dkwX5_bin_1 : List UInt8 := [181, 0, 58, 3, 62, 3, 54, 4, 21, 4, 42, 180, 0, 7, 16, 7, 46, 162, 0, 47, 42, 180, 0, 58]
abbrev dktX5_bin_1 : List UInt8 := dkwX5_bin_1 ++ dktX5_bin_2
def dkwX5_bin_0 : List UInt8 := [42, 27, 184, 0, 210, 153, 0, 16, 28, 3, 8, 184, 0, 179, 153, 0, 7, 3, 167, 0, 4, 4]
abbrev dktX5_bin_0 : List UInt8 := dkwX5_bin_0 ++ dktX5_bin_1
theorem dksX5_bin_0 : cX5_bin.data.toList.drop 0 = dktX5_bin_0 := by decide +kernel
theorem dksX5_bin_1 : cX5_bin.data.toList.drop 22 = dktX5_bin_1 := dk_seg dksX5_bin_0 22 rfl rfl
theorem dksX5_bin_2 : cX5_bin.data.toList.drop 46 = dktX5_bin_2 := dk_seg dksX5_bin_1 24 rfl rfl
theorem dksX5_bin_3 : cX5_bin.data.toList.drop 70 = dktX5_bin_3 := dk_seg dksX5_bin_2 24 rfl rfl
theorem dX5_bin_0 : decode cX5_bin 0 = .ok (.aload_n 0, 1) := dk_42 (dk_at dksX5_bin_0 0 rfl rfl)
theorem dX5_bin_1 : decode cX5_bin 1 = .ok (.iload_n 1, 1) := dk_27 (dk_at dksX5_bin_0 1 rfl rfl)
theorem dX5_bin_2 : decode cX5_bin 2 = .ok (.invokestatic 210, 3) := dk_184 0 210 (dk_at dksX5_bin_0 2 rfl rfl)
theorem dX5_bin_5 : decode cX5_bin 5 = .ok (.ifCond .eq 16, 3) := dk_153 0 16 (dk_at dksX5_bin_0 5 rfl rfl)
theorem dX5_bin_8 : decode cX5_bin 8 = .ok (.iload_n 2, 1) := dk_28 (dk_at dksX5_bin_0 8 rfl rfl)
theorem dX5_bin_9 : decode cX5_bin 9 = .ok (.iconst 0, 1) := dk_3 (dk_at dksX5_bin_0 9 rfl rfl)
theorem dX5_bin_10 : decode cX5_bin 10 = .ok (.iconst 5, 1) := dk_8 (dk_at dksX5_bin_0 10 rfl rfl)
theorem dX5_bin_11 : decode cX5_bin 11 = .ok (.invokestatic 179, 3) := dk_184 0 179 (dk_at dksX5_bin_0 11 rfl rfl)
theorem dX5_bin_14 : decode cX5_bin 14 = .ok (.ifCond .eq 7, 3) := dk_153 0 7 (dk_at dksX5_bin_0 14 rfl rfl)
theorem dX5_bin_17 : decode cX5_bin 17 = .ok (.iconst 0, 1) := dk_3 (dk_at dksX5_bin_0 17 rfl rfl)
theorem dX5_bin_18 : decode cX5_bin 18 = .ok (.goto 4, 3) := dk_167 0 4 (dk_at dksX5_bin_0 18 rfl rfl)
theorem dX5_bin_21 : decode cX5_bin 21 = .ok (.iconst 1, 1) := dk_4 (dk_at dksX5_bin_0 21 rfl rfl)
theorem dX5_bin_22 : decode cX5_bin 22 = .ok (.putfield 58, 3) := dk_181 0 58 (dk_at dksX5_bin_1 0 rfl rfl)
theorem dX5_bin_25 : decode cX5_bin 25 = .ok (.iconst 0, 1) := dk_3 (dk_at dksX5_bin_1 3 rfl rfl)
theorem dX5_bin_26 : decode cX5_bin 26 = .ok (.istore_n 3, 1) := dk_62 (dk_at dksX5_bin_1 4 rfl rfl)
theorem dX5_bin_27 : decode cX5_bin 27 = .ok (.iconst 0, 1) := dk_3 (dk_at dksX5_bin_1 5 rfl rfl)
theorem dX5_bin_28 : decode cX5_bin 28 = .ok (.istore 4, 2) := dk_54 4 (dk_at dksX5_bin_1 6 rfl rfl)
theorem dX5_bin_30 : decode cX5_bin 30 = .ok (.iload 4, 2) := dk_21 4 (dk_at dksX5_bin_1 8 rfl rfl)
theorem dX5_bin_32 : decode cX5_bin 32 = .ok (.aload_n 0, 1) := dk_42 (dk_at dksX5_bin_1 10 rfl rfl)
theorem dX5_bin_33 : decode cX5_bin 33 = .ok (.getfield 7, 3) := dk_180 0 7 (dk_at dksX5_bin_1 11 rfl rfl)
theorem dX5_bin_36 : decode cX5_bin 36 = .ok (.bipush 7, 2) := dk_16 7 (dk_at dksX5_bin_1 14 rfl rfl)
theorem dX5_bin_38 : decode cX5_bin 38 = .ok (.iaload, 1) := dk_46 (dk_at dksX5_bin_1 16 rfl rfl)
theorem dX5_bin_39 : decode cX5_bin 39 = .ok (.if_icmp .ge 47, 3) := dk_162 0 47 (dk_at dksX5_bin_1 17 rfl rfl)
theorem dX5_bin_42 : decode cX5_bin 42 = .ok (.aload_n 0, 1) := dk_42 (dk_at dksX5_bin_1 20 rfl rfl)
theorem dX5_bin_43 : decode cX5_bin 43 = .ok (.getfield 58, 3) := dk_180 0 58 (dk_at dksX5_bin_1 21 rfl rfl)
theorem dX5_bin_46 : decode cX5_bin 46 = .ok (.ifCond .ne 40, 3) := dk_154 0 40 (dk_at dksX5_bin_2 0 rfl rfl)
theorem dX5_bin_49 : decode cX5_bin 49 = .ok (.iload_n 3, 1) := dk_29 (dk_at dksX5_bin_2 3 rfl rfl)
theorem dX5_bin_50 : decode cX5_bin 50 = .ok (.aload_n 0, 1) := dk_42 (dk_at dksX5_bin_2 4 rfl rfl)
theorem dX5_bin_51 : decode cX5_bin 51 = .ok (.iload 4, 2) := dk_21 4 (dk_at dksX5_bin_2 5 rfl rfl)
theorem dX5_bin_53 : decode cX5_bin 53 = .ok (.invokevirtual 75, 3) := dk_182 0 75 (dk_at dksX5_bin_2 7 rfl rfl)
theorem dX5_bin_56 : decode cX5_bin 56 = .ok (.ifCond .ne 21, 3) := dk_154 0 21 (dk_at dksX5_bin_2 10 rfl rfl)
theorem dX5_bin_59 : decode cX5_bin 59 = .ok (.aload_n 0, 1) := dk_42 (dk_at dksX5_bin_2 13 rfl rfl)
theorem dX5_bin_60 : decode cX5_bin 60 = .ok (.iload 4, 2) := dk_21 4 (dk_at dksX5_bin_2 14 rfl rfl)
theorem dX5_bin_62 : decode cX5_bin 62 = .ok (.iload_n 1, 1) := dk_27 (dk_at dksX5_bin_2 16 rfl rfl)
theorem dX5_bin_63 : decode cX5_bin 63 = .ok (.invokevirtual 93, 3) := dk_182 0 93 (dk_at dksX5_bin_2 17 rfl rfl)
theorem dX5_bin_66 : decode cX5_bin 66 = .ok (.invokestatic 229, 3) := dk_184 0 229 (dk_at dksX5_bin_2 20 rfl rfl)
theorem dX5_bin_69 : decode cX5_bin 69 = .ok (.iload_n 2, 1) := dk_28 (dk_at dksX5_bin_2 23 rfl rfl)
theorem dX5_bin_70 : decode cX5_bin 70 = .ok (.if_icmp .ne 7, 3) := dk_160 0 7 (dk_at dksX5_bin_3 0 rfl rfl)
theorem dX5_bin_73 : decode cX5_bin 73 = .ok (.iconst 1, 1) := dk_4 (dk_at dksX5_bin_3 3 rfl rfl)
theorem dX5_bin_74 : decode cX5_bin 74 = .ok (.goto 4, 3) := dk_167 0 4 (dk_at dksX5_bin_3 4 rfl rfl)
theorem dX5_bin_77 : decode cX5_bin 77 = .ok (.iconst 0, 1) := dk_3 (dk_at dksX5_bin_3 7 rfl rfl)
theorem dX5_bin_78 : decode cX5_bin 78 = .ok (.iadd, 1) := dk_96 (dk_at dksX5_bin_3 8 rfl rfl)
theorem dX5_bin_79 : decode cX5_bin 79 = .ok (.istore_n 3, 1) := dk_62 (dk_at dksX5_bin_3 9 rfl rfl)
theorem dX5_bin_80 : decode cX5_bin 80 = .ok (.iinc 4 1, 3) := dk_132 4 1 (dk_at dksX5_bin_3 10 rfl rfl)
theorem dX5_bin_83 : decode cX5_bin 83 = .ok (.goto (-53), 3) := dk_167 255 203 (dk_at dksX5_bin_3 13 rfl rfl)
theorem dX5_bin_86 : decode cX5_bin 86 = .ok (.iload_n 3, 1) := dk_29 (dk_at dksX5_bin_3 16 rfl rfl)
theorem dX5_bin_87 : decode cX5_bin 87 = .ok (.ireturn, 1) := dk_172 (dk_at dksX5_bin_3 17 rfl rfl)
abbrev cX5_binOf : ByteArray := prog_14_method_76_code
def yX5_binOf : MethodName := ⟨RX5, "binOf", "(I)I"⟩
def dkwX5_binOf_2 : List UInt8 := [172]
abbrev dktX5_binOf_2 : List UInt8 := dkwX5_binOf_2 ++ []
def dkwX5_binOf_1 : List UInt8 := [167, 0, 24, 26, 16, 11, 162, 0, 7, 6, 167, 0, 14, 26, 16, 20, 162, 0, 7, 7, 167, 0, 4, 8]
abbrev dktX5_binOf_1 : List UInt8 := dkwX5_binOf_1 ++ dktX5_binOf_2
def dkwX5_binOf_0 : List UInt8 := [26, 154, 0, 7, 3, 167, 0, 43, 26, 6, 162, 0, 7, 4, 167, 0, 34, 26, 16, 6, 162, 0, 7, 5]
abbrev dktX5_binOf_0 : List UInt8 := dkwX5_binOf_0 ++ dktX5_binOf_1
theorem dksX5_binOf_0 : cX5_binOf.data.toList.drop 0 = dktX5_binOf_0 := by decide +kernel
theorem dksX5_binOf_1 : cX5_binOf.data.toList.drop 24 = dktX5_binOf_1 := dk_seg dksX5_binOf_0 24 rfl rfl
theorem dksX5_binOf_2 : cX5_binOf.data.toList.drop 48 = dktX5_binOf_2 := dk_seg dksX5_binOf_1 24 rfl rfl
theorem dX5_binOf_0 : decode cX5_binOf 0 = .ok (.iload_n 0, 1) := dk_26 (dk_at dksX5_binOf_0 0 rfl rfl)
theorem dX5_binOf_1 : decode cX5_binOf 1 = .ok (.ifCond .ne 7, 3) := dk_154 0 7 (dk_at dksX5_binOf_0 1 rfl rfl)
theorem dX5_binOf_4 : decode cX5_binOf 4 = .ok (.iconst 0, 1) := dk_3 (dk_at dksX5_binOf_0 4 rfl rfl)
theorem dX5_binOf_5 : decode cX5_binOf 5 = .ok (.goto 43, 3) := dk_167 0 43 (dk_at dksX5_binOf_0 5 rfl rfl)
theorem dX5_binOf_8 : decode cX5_binOf 8 = .ok (.iload_n 0, 1) := dk_26 (dk_at dksX5_binOf_0 8 rfl rfl)
theorem dX5_binOf_9 : decode cX5_binOf 9 = .ok (.iconst 3, 1) := dk_6 (dk_at dksX5_binOf_0 9 rfl rfl)
theorem dX5_binOf_10 : decode cX5_binOf 10 = .ok (.if_icmp .ge 7, 3) := dk_162 0 7 (dk_at dksX5_binOf_0 10 rfl rfl)
theorem dX5_binOf_13 : decode cX5_binOf 13 = .ok (.iconst 1, 1) := dk_4 (dk_at dksX5_binOf_0 13 rfl rfl)
theorem dX5_binOf_14 : decode cX5_binOf 14 = .ok (.goto 34, 3) := dk_167 0 34 (dk_at dksX5_binOf_0 14 rfl rfl)
theorem dX5_binOf_17 : decode cX5_binOf 17 = .ok (.iload_n 0, 1) := dk_26 (dk_at dksX5_binOf_0 17 rfl rfl)
theorem dX5_binOf_18 : decode cX5_binOf 18 = .ok (.bipush 6, 2) := dk_16 6 (dk_at dksX5_binOf_0 18 rfl rfl)
theorem dX5_binOf_20 : decode cX5_binOf 20 = .ok (.if_icmp .ge 7, 3) := dk_162 0 7 (dk_at dksX5_binOf_0 20 rfl rfl)
theorem dX5_binOf_23 : decode cX5_binOf 23 = .ok (.iconst 2, 1) := dk_5 (dk_at dksX5_binOf_0 23 rfl rfl)
theorem dX5_binOf_24 : decode cX5_binOf 24 = .ok (.goto 24, 3) := dk_167 0 24 (dk_at dksX5_binOf_1 0 rfl rfl)
theorem dX5_binOf_27 : decode cX5_binOf 27 = .ok (.iload_n 0, 1) := dk_26 (dk_at dksX5_binOf_1 3 rfl rfl)
theorem dX5_binOf_28 : decode cX5_binOf 28 = .ok (.bipush 11, 2) := dk_16 11 (dk_at dksX5_binOf_1 4 rfl rfl)
theorem dX5_binOf_30 : decode cX5_binOf 30 = .ok (.if_icmp .ge 7, 3) := dk_162 0 7 (dk_at dksX5_binOf_1 6 rfl rfl)
theorem dX5_binOf_33 : decode cX5_binOf 33 = .ok (.iconst 3, 1) := dk_6 (dk_at dksX5_binOf_1 9 rfl rfl)
theorem dX5_binOf_34 : decode cX5_binOf 34 = .ok (.goto 14, 3) := dk_167 0 14 (dk_at dksX5_binOf_1 10 rfl rfl)
theorem dX5_binOf_37 : decode cX5_binOf 37 = .ok (.iload_n 0, 1) := dk_26 (dk_at dksX5_binOf_1 13 rfl rfl)
theorem dX5_binOf_38 : decode cX5_binOf 38 = .ok (.bipush 20, 2) := dk_16 20 (dk_at dksX5_binOf_1 14 rfl rfl)
theorem dX5_binOf_40 : decode cX5_binOf 40 = .ok (.if_icmp .ge 7, 3) := dk_162 0 7 (dk_at dksX5_binOf_1 16 rfl rfl)
theorem dX5_binOf_43 : decode cX5_binOf 43 = .ok (.iconst 4, 1) := dk_7 (dk_at dksX5_binOf_1 19 rfl rfl)
theorem dX5_binOf_44 : decode cX5_binOf 44 = .ok (.goto 4, 3) := dk_167 0 4 (dk_at dksX5_binOf_1 20 rfl rfl)
theorem dX5_binOf_47 : decode cX5_binOf 47 = .ok (.iconst 5, 1) := dk_8 (dk_at dksX5_binOf_1 23 rfl rfl)
theorem dX5_binOf_48 : decode cX5_binOf 48 = .ok (.ireturn, 1) := dk_172 (dk_at dksX5_binOf_2 0 rfl rfl)
abbrev cX5_leaderIf : ByteArray := prog_14_method_78_code
def yX5_leaderIf : MethodName := ⟨RX5, "leaderIf", "(I)I"⟩
def dkwX5_leaderIf_3 : List UInt8 := [180, 0, 16, 3, 42, 180, 0, 7, 3, 184, 0, 110, 28, 172]
abbrev dktX5_leaderIf_3 : List UInt8 := dkwX5_leaderIf_3 ++ []
def dkwX5_leaderIf_2 : List UInt8 := [180, 0, 7, 3, 42, 180, 0, 16, 3, 184, 0, 110, 42, 27, 182, 0, 135, 42, 182, 0, 117, 61, 42]
abbrev dktX5_leaderIf_2 : List UInt8 := dkwX5_leaderIf_2 ++ dktX5_leaderIf_3
def dkwX5_leaderIf_1 : List UInt8 := [42, 27, 182, 0, 75, 154, 0, 16, 42, 180, 0, 58, 158, 0, 7, 3, 167, 0, 4, 2, 172, 42]
abbrev dktX5_leaderIf_1 : List UInt8 := dkwX5_leaderIf_1 ++ dktX5_leaderIf_2
def dkwX5_leaderIf_0 : List UInt8 := [42, 42, 27, 182, 0, 207, 153, 0, 7, 3, 167, 0, 4, 4, 181, 0, 58, 42, 180, 0, 58, 157, 0, 11]
abbrev dktX5_leaderIf_0 : List UInt8 := dkwX5_leaderIf_0 ++ dktX5_leaderIf_1
theorem dksX5_leaderIf_0 : cX5_leaderIf.data.toList.drop 0 = dktX5_leaderIf_0 := by decide +kernel
theorem dksX5_leaderIf_1 : cX5_leaderIf.data.toList.drop 24 = dktX5_leaderIf_1 := dk_seg dksX5_leaderIf_0 24 rfl rfl
theorem dksX5_leaderIf_2 : cX5_leaderIf.data.toList.drop 46 = dktX5_leaderIf_2 := dk_seg dksX5_leaderIf_1 22 rfl rfl
theorem dksX5_leaderIf_3 : cX5_leaderIf.data.toList.drop 69 = dktX5_leaderIf_3 := dk_seg dksX5_leaderIf_2 23 rfl rfl
theorem dX5_leaderIf_0 : decode cX5_leaderIf 0 = .ok (.aload_n 0, 1) := dk_42 (dk_at dksX5_leaderIf_0 0 rfl rfl)
theorem dX5_leaderIf_1 : decode cX5_leaderIf 1 = .ok (.aload_n 0, 1) := dk_42 (dk_at dksX5_leaderIf_0 1 rfl rfl)
theorem dX5_leaderIf_2 : decode cX5_leaderIf 2 = .ok (.iload_n 1, 1) := dk_27 (dk_at dksX5_leaderIf_0 2 rfl rfl)
theorem dX5_leaderIf_3 : decode cX5_leaderIf 3 = .ok (.invokevirtual 207, 3) := dk_182 0 207 (dk_at dksX5_leaderIf_0 3 rfl rfl)
theorem dX5_leaderIf_6 : decode cX5_leaderIf 6 = .ok (.ifCond .eq 7, 3) := dk_153 0 7 (dk_at dksX5_leaderIf_0 6 rfl rfl)
theorem dX5_leaderIf_9 : decode cX5_leaderIf 9 = .ok (.iconst 0, 1) := dk_3 (dk_at dksX5_leaderIf_0 9 rfl rfl)
theorem dX5_leaderIf_10 : decode cX5_leaderIf 10 = .ok (.goto 4, 3) := dk_167 0 4 (dk_at dksX5_leaderIf_0 10 rfl rfl)
theorem dX5_leaderIf_13 : decode cX5_leaderIf 13 = .ok (.iconst 1, 1) := dk_4 (dk_at dksX5_leaderIf_0 13 rfl rfl)
theorem dX5_leaderIf_14 : decode cX5_leaderIf 14 = .ok (.putfield 58, 3) := dk_181 0 58 (dk_at dksX5_leaderIf_0 14 rfl rfl)
theorem dX5_leaderIf_17 : decode cX5_leaderIf 17 = .ok (.aload_n 0, 1) := dk_42 (dk_at dksX5_leaderIf_0 17 rfl rfl)
theorem dX5_leaderIf_18 : decode cX5_leaderIf 18 = .ok (.getfield 58, 3) := dk_180 0 58 (dk_at dksX5_leaderIf_0 18 rfl rfl)
theorem dX5_leaderIf_21 : decode cX5_leaderIf 21 = .ok (.ifCond .gt 11, 3) := dk_157 0 11 (dk_at dksX5_leaderIf_0 21 rfl rfl)
theorem dX5_leaderIf_24 : decode cX5_leaderIf 24 = .ok (.aload_n 0, 1) := dk_42 (dk_at dksX5_leaderIf_1 0 rfl rfl)
theorem dX5_leaderIf_25 : decode cX5_leaderIf 25 = .ok (.iload_n 1, 1) := dk_27 (dk_at dksX5_leaderIf_1 1 rfl rfl)
theorem dX5_leaderIf_26 : decode cX5_leaderIf 26 = .ok (.invokevirtual 75, 3) := dk_182 0 75 (dk_at dksX5_leaderIf_1 2 rfl rfl)
theorem dX5_leaderIf_29 : decode cX5_leaderIf 29 = .ok (.ifCond .ne 16, 3) := dk_154 0 16 (dk_at dksX5_leaderIf_1 5 rfl rfl)
theorem dX5_leaderIf_32 : decode cX5_leaderIf 32 = .ok (.aload_n 0, 1) := dk_42 (dk_at dksX5_leaderIf_1 8 rfl rfl)
theorem dX5_leaderIf_33 : decode cX5_leaderIf 33 = .ok (.getfield 58, 3) := dk_180 0 58 (dk_at dksX5_leaderIf_1 9 rfl rfl)
theorem dX5_leaderIf_36 : decode cX5_leaderIf 36 = .ok (.ifCond .le 7, 3) := dk_158 0 7 (dk_at dksX5_leaderIf_1 12 rfl rfl)
theorem dX5_leaderIf_39 : decode cX5_leaderIf 39 = .ok (.iconst 0, 1) := dk_3 (dk_at dksX5_leaderIf_1 15 rfl rfl)
theorem dX5_leaderIf_40 : decode cX5_leaderIf 40 = .ok (.goto 4, 3) := dk_167 0 4 (dk_at dksX5_leaderIf_1 16 rfl rfl)
theorem dX5_leaderIf_43 : decode cX5_leaderIf 43 = .ok (.iconst (-1), 1) := dk_2 (dk_at dksX5_leaderIf_1 19 rfl rfl)
theorem dX5_leaderIf_44 : decode cX5_leaderIf 44 = .ok (.ireturn, 1) := dk_172 (dk_at dksX5_leaderIf_1 20 rfl rfl)
theorem dX5_leaderIf_45 : decode cX5_leaderIf 45 = .ok (.aload_n 0, 1) := dk_42 (dk_at dksX5_leaderIf_1 21 rfl rfl)
theorem dX5_leaderIf_46 : decode cX5_leaderIf 46 = .ok (.getfield 7, 3) := dk_180 0 7 (dk_at dksX5_leaderIf_2 0 rfl rfl)
theorem dX5_leaderIf_49 : decode cX5_leaderIf 49 = .ok (.iconst 0, 1) := dk_3 (dk_at dksX5_leaderIf_2 3 rfl rfl)
theorem dX5_leaderIf_50 : decode cX5_leaderIf 50 = .ok (.aload_n 0, 1) := dk_42 (dk_at dksX5_leaderIf_2 4 rfl rfl)
theorem dX5_leaderIf_51 : decode cX5_leaderIf 51 = .ok (.getfield 16, 3) := dk_180 0 16 (dk_at dksX5_leaderIf_2 5 rfl rfl)
theorem dX5_leaderIf_54 : decode cX5_leaderIf 54 = .ok (.iconst 0, 1) := dk_3 (dk_at dksX5_leaderIf_2 8 rfl rfl)
theorem dX5_leaderIf_55 : decode cX5_leaderIf 55 = .ok (.invokestatic 110, 3) := dk_184 0 110 (dk_at dksX5_leaderIf_2 9 rfl rfl)
theorem dX5_leaderIf_58 : decode cX5_leaderIf 58 = .ok (.aload_n 0, 1) := dk_42 (dk_at dksX5_leaderIf_2 12 rfl rfl)
theorem dX5_leaderIf_59 : decode cX5_leaderIf 59 = .ok (.iload_n 1, 1) := dk_27 (dk_at dksX5_leaderIf_2 13 rfl rfl)
theorem dX5_leaderIf_60 : decode cX5_leaderIf 60 = .ok (.invokevirtual 135, 3) := dk_182 0 135 (dk_at dksX5_leaderIf_2 14 rfl rfl)
theorem dX5_leaderIf_63 : decode cX5_leaderIf 63 = .ok (.aload_n 0, 1) := dk_42 (dk_at dksX5_leaderIf_2 17 rfl rfl)
theorem dX5_leaderIf_64 : decode cX5_leaderIf 64 = .ok (.invokevirtual 117, 3) := dk_182 0 117 (dk_at dksX5_leaderIf_2 18 rfl rfl)
theorem dX5_leaderIf_67 : decode cX5_leaderIf 67 = .ok (.istore_n 2, 1) := dk_61 (dk_at dksX5_leaderIf_2 21 rfl rfl)
theorem dX5_leaderIf_68 : decode cX5_leaderIf 68 = .ok (.aload_n 0, 1) := dk_42 (dk_at dksX5_leaderIf_2 22 rfl rfl)
theorem dX5_leaderIf_69 : decode cX5_leaderIf 69 = .ok (.getfield 16, 3) := dk_180 0 16 (dk_at dksX5_leaderIf_3 0 rfl rfl)
theorem dX5_leaderIf_72 : decode cX5_leaderIf 72 = .ok (.iconst 0, 1) := dk_3 (dk_at dksX5_leaderIf_3 3 rfl rfl)
theorem dX5_leaderIf_73 : decode cX5_leaderIf 73 = .ok (.aload_n 0, 1) := dk_42 (dk_at dksX5_leaderIf_3 4 rfl rfl)
theorem dX5_leaderIf_74 : decode cX5_leaderIf 74 = .ok (.getfield 7, 3) := dk_180 0 7 (dk_at dksX5_leaderIf_3 5 rfl rfl)
theorem dX5_leaderIf_77 : decode cX5_leaderIf 77 = .ok (.iconst 0, 1) := dk_3 (dk_at dksX5_leaderIf_3 8 rfl rfl)
theorem dX5_leaderIf_78 : decode cX5_leaderIf 78 = .ok (.invokestatic 110, 3) := dk_184 0 110 (dk_at dksX5_leaderIf_3 9 rfl rfl)
theorem dX5_leaderIf_81 : decode cX5_leaderIf 81 = .ok (.iload_n 2, 1) := dk_28 (dk_at dksX5_leaderIf_3 12 rfl rfl)
theorem dX5_leaderIf_82 : decode cX5_leaderIf 82 = .ok (.ireturn, 1) := dk_172 (dk_at dksX5_leaderIf_3 13 rfl rfl)
abbrev cX5_write : ByteArray := prog_14_method_79_code
def yX5_write : MethodName := ⟨RX5, "write", "(III)I"⟩
def dkwX5_write_1 : List UInt8 := [181, 0, 58, 42, 180, 0, 58, 158, 0, 7, 3, 167, 0, 10, 42, 27, 28, 29, 182, 0, 232, 172]
abbrev dktX5_write_1 : List UInt8 := dkwX5_write_1 ++ []
def dkwX5_write_0 : List UInt8 := [42, 27, 28, 184, 0, 213, 153, 0, 17, 29, 3, 16, 99, 184, 0, 179, 153, 0, 7, 3, 167, 0, 4, 4]
abbrev dktX5_write_0 : List UInt8 := dkwX5_write_0 ++ dktX5_write_1
theorem dksX5_write_0 : cX5_write.data.toList.drop 0 = dktX5_write_0 := by decide +kernel
theorem dksX5_write_1 : cX5_write.data.toList.drop 24 = dktX5_write_1 := dk_seg dksX5_write_0 24 rfl rfl
theorem dX5_write_0 : decode cX5_write 0 = .ok (.aload_n 0, 1) := dk_42 (dk_at dksX5_write_0 0 rfl rfl)
theorem dX5_write_1 : decode cX5_write 1 = .ok (.iload_n 1, 1) := dk_27 (dk_at dksX5_write_0 1 rfl rfl)
theorem dX5_write_2 : decode cX5_write 2 = .ok (.iload_n 2, 1) := dk_28 (dk_at dksX5_write_0 2 rfl rfl)
theorem dX5_write_3 : decode cX5_write 3 = .ok (.invokestatic 213, 3) := dk_184 0 213 (dk_at dksX5_write_0 3 rfl rfl)
theorem dX5_write_6 : decode cX5_write 6 = .ok (.ifCond .eq 17, 3) := dk_153 0 17 (dk_at dksX5_write_0 6 rfl rfl)
theorem dX5_write_9 : decode cX5_write 9 = .ok (.iload_n 3, 1) := dk_29 (dk_at dksX5_write_0 9 rfl rfl)
theorem dX5_write_10 : decode cX5_write 10 = .ok (.iconst 0, 1) := dk_3 (dk_at dksX5_write_0 10 rfl rfl)
theorem dX5_write_11 : decode cX5_write 11 = .ok (.bipush 99, 2) := dk_16 99 (dk_at dksX5_write_0 11 rfl rfl)
theorem dX5_write_13 : decode cX5_write 13 = .ok (.invokestatic 179, 3) := dk_184 0 179 (dk_at dksX5_write_0 13 rfl rfl)
theorem dX5_write_16 : decode cX5_write 16 = .ok (.ifCond .eq 7, 3) := dk_153 0 7 (dk_at dksX5_write_0 16 rfl rfl)
theorem dX5_write_19 : decode cX5_write 19 = .ok (.iconst 0, 1) := dk_3 (dk_at dksX5_write_0 19 rfl rfl)
theorem dX5_write_20 : decode cX5_write 20 = .ok (.goto 4, 3) := dk_167 0 4 (dk_at dksX5_write_0 20 rfl rfl)
theorem dX5_write_23 : decode cX5_write 23 = .ok (.iconst 1, 1) := dk_4 (dk_at dksX5_write_0 23 rfl rfl)
theorem dX5_write_24 : decode cX5_write 24 = .ok (.putfield 58, 3) := dk_181 0 58 (dk_at dksX5_write_1 0 rfl rfl)
theorem dX5_write_27 : decode cX5_write 27 = .ok (.aload_n 0, 1) := dk_42 (dk_at dksX5_write_1 3 rfl rfl)
theorem dX5_write_28 : decode cX5_write 28 = .ok (.getfield 58, 3) := dk_180 0 58 (dk_at dksX5_write_1 4 rfl rfl)
theorem dX5_write_31 : decode cX5_write 31 = .ok (.ifCond .le 7, 3) := dk_158 0 7 (dk_at dksX5_write_1 7 rfl rfl)
theorem dX5_write_34 : decode cX5_write 34 = .ok (.iconst 0, 1) := dk_3 (dk_at dksX5_write_1 10 rfl rfl)
theorem dX5_write_35 : decode cX5_write 35 = .ok (.goto 10, 3) := dk_167 0 10 (dk_at dksX5_write_1 11 rfl rfl)
theorem dX5_write_38 : decode cX5_write 38 = .ok (.aload_n 0, 1) := dk_42 (dk_at dksX5_write_1 14 rfl rfl)
theorem dX5_write_39 : decode cX5_write 39 = .ok (.iload_n 1, 1) := dk_27 (dk_at dksX5_write_1 15 rfl rfl)
theorem dX5_write_40 : decode cX5_write 40 = .ok (.iload_n 2, 1) := dk_28 (dk_at dksX5_write_1 16 rfl rfl)
theorem dX5_write_41 : decode cX5_write 41 = .ok (.iload_n 3, 1) := dk_29 (dk_at dksX5_write_1 17 rfl rfl)
theorem dX5_write_42 : decode cX5_write 42 = .ok (.invokevirtual 232, 3) := dk_182 0 232 (dk_at dksX5_write_1 18 rfl rfl)
theorem dX5_write_45 : decode cX5_write 45 = .ok (.ireturn, 1) := dk_172 (dk_at dksX5_write_1 21 rfl rfl)
abbrev cX5_actsWrite : ByteArray := prog_14_method_39_code
def yX5_actsWrite : MethodName := ⟨RX5, "actsWrite", "(III)I"⟩
def dkwX5_actsWrite_3 : List UInt8 := [42, 180, 0, 7, 16, 7, 46, 182, 0, 166, 21, 5, 172]
abbrev dktX5_actsWrite_3 : List UInt8 := dkwX5_actsWrite_3 ++ []
def dkwX5_actsWrite_2 : List UInt8 := [158, 0, 10, 42, 21, 4, 182, 0, 160, 172, 42, 3, 27, 28, 29, 182, 0, 163, 54, 5, 42, 27, 28, 29]
abbrev dktX5_actsWrite_2 : List UInt8 := dkwX5_actsWrite_2 ++ dktX5_actsWrite_3
def dkwX5_actsWrite_1 : List UInt8 := [16, 6, 167, 0, 16, 42, 27, 28, 42, 180, 0, 7, 16, 7, 46, 182, 0, 157, 54, 4, 21, 4]
abbrev dktX5_actsWrite_1 : List UInt8 := dkwX5_actsWrite_1 ++ dktX5_actsWrite_2
def dkwX5_actsWrite_0 : List UInt8 := [42, 182, 0, 153, 153, 0, 8, 16, 7, 167, 0, 33, 42, 180, 0, 7, 16, 7, 46, 16, 99, 160, 0, 8]
abbrev dktX5_actsWrite_0 : List UInt8 := dkwX5_actsWrite_0 ++ dktX5_actsWrite_1
theorem dksX5_actsWrite_0 : cX5_actsWrite.data.toList.drop 0 = dktX5_actsWrite_0 := by decide +kernel
theorem dksX5_actsWrite_1 : cX5_actsWrite.data.toList.drop 24 = dktX5_actsWrite_1 := dk_seg dksX5_actsWrite_0 24 rfl rfl
theorem dksX5_actsWrite_2 : cX5_actsWrite.data.toList.drop 46 = dktX5_actsWrite_2 := dk_seg dksX5_actsWrite_1 22 rfl rfl
theorem dksX5_actsWrite_3 : cX5_actsWrite.data.toList.drop 70 = dktX5_actsWrite_3 := dk_seg dksX5_actsWrite_2 24 rfl rfl
theorem dX5_actsWrite_0 : decode cX5_actsWrite 0 = .ok (.aload_n 0, 1) := dk_42 (dk_at dksX5_actsWrite_0 0 rfl rfl)
theorem dX5_actsWrite_1 : decode cX5_actsWrite 1 = .ok (.invokevirtual 153, 3) := dk_182 0 153 (dk_at dksX5_actsWrite_0 1 rfl rfl)
theorem dX5_actsWrite_4 : decode cX5_actsWrite 4 = .ok (.ifCond .eq 8, 3) := dk_153 0 8 (dk_at dksX5_actsWrite_0 4 rfl rfl)
theorem dX5_actsWrite_7 : decode cX5_actsWrite 7 = .ok (.bipush 7, 2) := dk_16 7 (dk_at dksX5_actsWrite_0 7 rfl rfl)
theorem dX5_actsWrite_9 : decode cX5_actsWrite 9 = .ok (.goto 33, 3) := dk_167 0 33 (dk_at dksX5_actsWrite_0 9 rfl rfl)
theorem dX5_actsWrite_12 : decode cX5_actsWrite 12 = .ok (.aload_n 0, 1) := dk_42 (dk_at dksX5_actsWrite_0 12 rfl rfl)
theorem dX5_actsWrite_13 : decode cX5_actsWrite 13 = .ok (.getfield 7, 3) := dk_180 0 7 (dk_at dksX5_actsWrite_0 13 rfl rfl)
theorem dX5_actsWrite_16 : decode cX5_actsWrite 16 = .ok (.bipush 7, 2) := dk_16 7 (dk_at dksX5_actsWrite_0 16 rfl rfl)
theorem dX5_actsWrite_18 : decode cX5_actsWrite 18 = .ok (.iaload, 1) := dk_46 (dk_at dksX5_actsWrite_0 18 rfl rfl)
theorem dX5_actsWrite_19 : decode cX5_actsWrite 19 = .ok (.bipush 99, 2) := dk_16 99 (dk_at dksX5_actsWrite_0 19 rfl rfl)
theorem dX5_actsWrite_21 : decode cX5_actsWrite 21 = .ok (.if_icmp .ne 8, 3) := dk_160 0 8 (dk_at dksX5_actsWrite_0 21 rfl rfl)
theorem dX5_actsWrite_24 : decode cX5_actsWrite 24 = .ok (.bipush 6, 2) := dk_16 6 (dk_at dksX5_actsWrite_1 0 rfl rfl)
theorem dX5_actsWrite_26 : decode cX5_actsWrite 26 = .ok (.goto 16, 3) := dk_167 0 16 (dk_at dksX5_actsWrite_1 2 rfl rfl)
theorem dX5_actsWrite_29 : decode cX5_actsWrite 29 = .ok (.aload_n 0, 1) := dk_42 (dk_at dksX5_actsWrite_1 5 rfl rfl)
theorem dX5_actsWrite_30 : decode cX5_actsWrite 30 = .ok (.iload_n 1, 1) := dk_27 (dk_at dksX5_actsWrite_1 6 rfl rfl)
theorem dX5_actsWrite_31 : decode cX5_actsWrite 31 = .ok (.iload_n 2, 1) := dk_28 (dk_at dksX5_actsWrite_1 7 rfl rfl)
theorem dX5_actsWrite_32 : decode cX5_actsWrite 32 = .ok (.aload_n 0, 1) := dk_42 (dk_at dksX5_actsWrite_1 8 rfl rfl)
theorem dX5_actsWrite_33 : decode cX5_actsWrite 33 = .ok (.getfield 7, 3) := dk_180 0 7 (dk_at dksX5_actsWrite_1 9 rfl rfl)
theorem dX5_actsWrite_36 : decode cX5_actsWrite 36 = .ok (.bipush 7, 2) := dk_16 7 (dk_at dksX5_actsWrite_1 12 rfl rfl)
theorem dX5_actsWrite_38 : decode cX5_actsWrite 38 = .ok (.iaload, 1) := dk_46 (dk_at dksX5_actsWrite_1 14 rfl rfl)
theorem dX5_actsWrite_39 : decode cX5_actsWrite 39 = .ok (.invokevirtual 157, 3) := dk_182 0 157 (dk_at dksX5_actsWrite_1 15 rfl rfl)
theorem dX5_actsWrite_42 : decode cX5_actsWrite 42 = .ok (.istore 4, 2) := dk_54 4 (dk_at dksX5_actsWrite_1 18 rfl rfl)
theorem dX5_actsWrite_44 : decode cX5_actsWrite 44 = .ok (.iload 4, 2) := dk_21 4 (dk_at dksX5_actsWrite_1 20 rfl rfl)
theorem dX5_actsWrite_46 : decode cX5_actsWrite 46 = .ok (.ifCond .le 10, 3) := dk_158 0 10 (dk_at dksX5_actsWrite_2 0 rfl rfl)
theorem dX5_actsWrite_49 : decode cX5_actsWrite 49 = .ok (.aload_n 0, 1) := dk_42 (dk_at dksX5_actsWrite_2 3 rfl rfl)
theorem dX5_actsWrite_50 : decode cX5_actsWrite 50 = .ok (.iload 4, 2) := dk_21 4 (dk_at dksX5_actsWrite_2 4 rfl rfl)
theorem dX5_actsWrite_52 : decode cX5_actsWrite 52 = .ok (.invokevirtual 160, 3) := dk_182 0 160 (dk_at dksX5_actsWrite_2 6 rfl rfl)
theorem dX5_actsWrite_55 : decode cX5_actsWrite 55 = .ok (.ireturn, 1) := dk_172 (dk_at dksX5_actsWrite_2 9 rfl rfl)
theorem dX5_actsWrite_56 : decode cX5_actsWrite 56 = .ok (.aload_n 0, 1) := dk_42 (dk_at dksX5_actsWrite_2 10 rfl rfl)
theorem dX5_actsWrite_57 : decode cX5_actsWrite 57 = .ok (.iconst 0, 1) := dk_3 (dk_at dksX5_actsWrite_2 11 rfl rfl)
theorem dX5_actsWrite_58 : decode cX5_actsWrite 58 = .ok (.iload_n 1, 1) := dk_27 (dk_at dksX5_actsWrite_2 12 rfl rfl)
theorem dX5_actsWrite_59 : decode cX5_actsWrite 59 = .ok (.iload_n 2, 1) := dk_28 (dk_at dksX5_actsWrite_2 13 rfl rfl)
theorem dX5_actsWrite_60 : decode cX5_actsWrite 60 = .ok (.iload_n 3, 1) := dk_29 (dk_at dksX5_actsWrite_2 14 rfl rfl)
theorem dX5_actsWrite_61 : decode cX5_actsWrite 61 = .ok (.invokevirtual 163, 3) := dk_182 0 163 (dk_at dksX5_actsWrite_2 15 rfl rfl)
theorem dX5_actsWrite_64 : decode cX5_actsWrite 64 = .ok (.istore 5, 2) := dk_54 5 (dk_at dksX5_actsWrite_2 18 rfl rfl)
theorem dX5_actsWrite_66 : decode cX5_actsWrite 66 = .ok (.aload_n 0, 1) := dk_42 (dk_at dksX5_actsWrite_2 20 rfl rfl)
theorem dX5_actsWrite_67 : decode cX5_actsWrite 67 = .ok (.iload_n 1, 1) := dk_27 (dk_at dksX5_actsWrite_2 21 rfl rfl)
theorem dX5_actsWrite_68 : decode cX5_actsWrite 68 = .ok (.iload_n 2, 1) := dk_28 (dk_at dksX5_actsWrite_2 22 rfl rfl)
theorem dX5_actsWrite_69 : decode cX5_actsWrite 69 = .ok (.iload_n 3, 1) := dk_29 (dk_at dksX5_actsWrite_2 23 rfl rfl)
theorem dX5_actsWrite_70 : decode cX5_actsWrite 70 = .ok (.aload_n 0, 1) := dk_42 (dk_at dksX5_actsWrite_3 0 rfl rfl)
theorem dX5_actsWrite_71 : decode cX5_actsWrite 71 = .ok (.getfield 7, 3) := dk_180 0 7 (dk_at dksX5_actsWrite_3 1 rfl rfl)
theorem dX5_actsWrite_74 : decode cX5_actsWrite 74 = .ok (.bipush 7, 2) := dk_16 7 (dk_at dksX5_actsWrite_3 4 rfl rfl)
theorem dX5_actsWrite_76 : decode cX5_actsWrite 76 = .ok (.iaload, 1) := dk_46 (dk_at dksX5_actsWrite_3 6 rfl rfl)
theorem dX5_actsWrite_77 : decode cX5_actsWrite 77 = .ok (.invokevirtual 166, 3) := dk_182 0 166 (dk_at dksX5_actsWrite_3 7 rfl rfl)
theorem dX5_actsWrite_80 : decode cX5_actsWrite 80 = .ok (.iload 5, 2) := dk_21 5 (dk_at dksX5_actsWrite_3 10 rfl rfl)
theorem dX5_actsWrite_82 : decode cX5_actsWrite 82 = .ok (.ireturn, 1) := dk_172 (dk_at dksX5_actsWrite_3 12 rfl rfl)
abbrev cX5_isLong : ByteArray := prog_14_method_38_code
def yX5_isLong : MethodName := ⟨RX5, "isLong", "()Z"⟩
def dkwX5_isLong_0 : List UInt8 := [42, 180, 0, 7, 16, 11, 46, 17, 0, 150, 160, 0, 7, 4, 167, 0, 4, 3, 172]
abbrev dktX5_isLong_0 : List UInt8 := dkwX5_isLong_0 ++ []
theorem dksX5_isLong_0 : cX5_isLong.data.toList.drop 0 = dktX5_isLong_0 := by decide +kernel
theorem dX5_isLong_0 : decode cX5_isLong 0 = .ok (.aload_n 0, 1) := dk_42 (dk_at dksX5_isLong_0 0 rfl rfl)
theorem dX5_isLong_1 : decode cX5_isLong 1 = .ok (.getfield 7, 3) := dk_180 0 7 (dk_at dksX5_isLong_0 1 rfl rfl)
theorem dX5_isLong_4 : decode cX5_isLong 4 = .ok (.bipush 11, 2) := dk_16 11 (dk_at dksX5_isLong_0 4 rfl rfl)
theorem dX5_isLong_6 : decode cX5_isLong 6 = .ok (.iaload, 1) := dk_46 (dk_at dksX5_isLong_0 6 rfl rfl)
theorem dX5_isLong_7 : decode cX5_isLong 7 = .ok (.sipush 150, 3) := dk_17 0 150 (dk_at dksX5_isLong_0 7 rfl rfl)
theorem dX5_isLong_10 : decode cX5_isLong 10 = .ok (.if_icmp .ne 7, 3) := dk_160 0 7 (dk_at dksX5_isLong_0 10 rfl rfl)
theorem dX5_isLong_13 : decode cX5_isLong 13 = .ok (.iconst 1, 1) := dk_4 (dk_at dksX5_isLong_0 13 rfl rfl)
theorem dX5_isLong_14 : decode cX5_isLong 14 = .ok (.goto 4, 3) := dk_167 0 4 (dk_at dksX5_isLong_0 14 rfl rfl)
theorem dX5_isLong_17 : decode cX5_isLong 17 = .ok (.iconst 0, 1) := dk_3 (dk_at dksX5_isLong_0 17 rfl rfl)
theorem dX5_isLong_18 : decode cX5_isLong 18 = .ok (.ireturn, 1) := dk_172 (dk_at dksX5_isLong_0 18 rfl rfl)
abbrev cX5_refuses : ByteArray := prog_14_method_36_code
def yX5_refuses : MethodName := ⟨RX5, "refuses", "(I)I"⟩
def dkwX5_refuses_0 : List UInt8 := [42, 180, 0, 29, 27, 92, 46, 4, 96, 79, 27, 172]
abbrev dktX5_refuses_0 : List UInt8 := dkwX5_refuses_0 ++ []
theorem dksX5_refuses_0 : cX5_refuses.data.toList.drop 0 = dktX5_refuses_0 := by decide +kernel
theorem dX5_refuses_0 : decode cX5_refuses 0 = .ok (.aload_n 0, 1) := dk_42 (dk_at dksX5_refuses_0 0 rfl rfl)
theorem dX5_refuses_1 : decode cX5_refuses 1 = .ok (.getfield 29, 3) := dk_180 0 29 (dk_at dksX5_refuses_0 1 rfl rfl)
theorem dX5_refuses_4 : decode cX5_refuses 4 = .ok (.iload_n 1, 1) := dk_27 (dk_at dksX5_refuses_0 4 rfl rfl)
theorem dX5_refuses_5 : decode cX5_refuses 5 = .ok (.dup2, 1) := dk_92 (dk_at dksX5_refuses_0 5 rfl rfl)
theorem dX5_refuses_6 : decode cX5_refuses 6 = .ok (.iaload, 1) := dk_46 (dk_at dksX5_refuses_0 6 rfl rfl)
theorem dX5_refuses_7 : decode cX5_refuses 7 = .ok (.iconst 1, 1) := dk_4 (dk_at dksX5_refuses_0 7 rfl rfl)
theorem dX5_refuses_8 : decode cX5_refuses 8 = .ok (.iadd, 1) := dk_96 (dk_at dksX5_refuses_0 8 rfl rfl)
theorem dX5_refuses_9 : decode cX5_refuses 9 = .ok (.iastore, 1) := dk_79 (dk_at dksX5_refuses_0 9 rfl rfl)
theorem dX5_refuses_10 : decode cX5_refuses 10 = .ok (.iload_n 1, 1) := dk_27 (dk_at dksX5_refuses_0 10 rfl rfl)
theorem dX5_refuses_11 : decode cX5_refuses 11 = .ok (.ireturn, 1) := dk_172 (dk_at dksX5_refuses_0 11 rfl rfl)
abbrev cX5_does : ByteArray := prog_14_method_37_code
def yX5_does : MethodName := ⟨RX5, "does", "(IIII)I"⟩
def dkwX5_does_3 : List UInt8 := [16, 11, 92, 46, 4, 96, 79, 3, 172]
abbrev dktX5_does_3 : List UInt8 := dkwX5_does_3 ++ []
def dkwX5_does_2 : List UInt8 := [180, 0, 7, 21, 5, 5, 96, 29, 79, 42, 180, 0, 7, 21, 5, 6, 96, 21, 4, 79, 42, 180, 0, 7]
abbrev dktX5_does_2 : List UInt8 := dkwX5_does_2 ++ dktX5_does_3
def dkwX5_does_1 : List UInt8 := [46, 104, 96, 54, 5, 42, 180, 0, 7, 21, 5, 27, 79, 42, 180, 0, 7, 21, 5, 4, 96, 28, 79, 42]
abbrev dktX5_does_1 : List UInt8 := dkwX5_does_1 ++ dktX5_does_2
def dkwX5_does_0 : List UInt8 := [42, 182, 0, 150, 42, 180, 0, 29, 3, 92, 46, 4, 96, 79, 17, 7, 70, 7, 42, 180, 0, 7, 16, 11]
abbrev dktX5_does_0 : List UInt8 := dkwX5_does_0 ++ dktX5_does_1
theorem dksX5_does_0 : cX5_does.data.toList.drop 0 = dktX5_does_0 := by decide +kernel
theorem dksX5_does_1 : cX5_does.data.toList.drop 24 = dktX5_does_1 := dk_seg dksX5_does_0 24 rfl rfl
theorem dksX5_does_2 : cX5_does.data.toList.drop 48 = dktX5_does_2 := dk_seg dksX5_does_1 24 rfl rfl
theorem dksX5_does_3 : cX5_does.data.toList.drop 72 = dktX5_does_3 := dk_seg dksX5_does_2 24 rfl rfl
theorem dX5_does_0 : decode cX5_does 0 = .ok (.aload_n 0, 1) := dk_42 (dk_at dksX5_does_0 0 rfl rfl)
theorem dX5_does_1 : decode cX5_does 1 = .ok (.invokevirtual 150, 3) := dk_182 0 150 (dk_at dksX5_does_0 1 rfl rfl)
theorem dX5_does_4 : decode cX5_does 4 = .ok (.aload_n 0, 1) := dk_42 (dk_at dksX5_does_0 4 rfl rfl)
theorem dX5_does_5 : decode cX5_does 5 = .ok (.getfield 29, 3) := dk_180 0 29 (dk_at dksX5_does_0 5 rfl rfl)
theorem dX5_does_8 : decode cX5_does 8 = .ok (.iconst 0, 1) := dk_3 (dk_at dksX5_does_0 8 rfl rfl)
theorem dX5_does_9 : decode cX5_does 9 = .ok (.dup2, 1) := dk_92 (dk_at dksX5_does_0 9 rfl rfl)
theorem dX5_does_10 : decode cX5_does 10 = .ok (.iaload, 1) := dk_46 (dk_at dksX5_does_0 10 rfl rfl)
theorem dX5_does_11 : decode cX5_does 11 = .ok (.iconst 1, 1) := dk_4 (dk_at dksX5_does_0 11 rfl rfl)
theorem dX5_does_12 : decode cX5_does 12 = .ok (.iadd, 1) := dk_96 (dk_at dksX5_does_0 12 rfl rfl)
theorem dX5_does_13 : decode cX5_does 13 = .ok (.iastore, 1) := dk_79 (dk_at dksX5_does_0 13 rfl rfl)
theorem dX5_does_14 : decode cX5_does 14 = .ok (.sipush 1862, 3) := dk_17 7 70 (dk_at dksX5_does_0 14 rfl rfl)
theorem dX5_does_17 : decode cX5_does 17 = .ok (.iconst 4, 1) := dk_7 (dk_at dksX5_does_0 17 rfl rfl)
theorem dX5_does_18 : decode cX5_does 18 = .ok (.aload_n 0, 1) := dk_42 (dk_at dksX5_does_0 18 rfl rfl)
theorem dX5_does_19 : decode cX5_does 19 = .ok (.getfield 7, 3) := dk_180 0 7 (dk_at dksX5_does_0 19 rfl rfl)
theorem dX5_does_22 : decode cX5_does 22 = .ok (.bipush 11, 2) := dk_16 11 (dk_at dksX5_does_0 22 rfl rfl)
theorem dX5_does_24 : decode cX5_does 24 = .ok (.iaload, 1) := dk_46 (dk_at dksX5_does_1 0 rfl rfl)
theorem dX5_does_25 : decode cX5_does 25 = .ok (.imul, 1) := dk_104 (dk_at dksX5_does_1 1 rfl rfl)
theorem dX5_does_26 : decode cX5_does 26 = .ok (.iadd, 1) := dk_96 (dk_at dksX5_does_1 2 rfl rfl)
theorem dX5_does_27 : decode cX5_does 27 = .ok (.istore 5, 2) := dk_54 5 (dk_at dksX5_does_1 3 rfl rfl)
theorem dX5_does_29 : decode cX5_does 29 = .ok (.aload_n 0, 1) := dk_42 (dk_at dksX5_does_1 5 rfl rfl)
theorem dX5_does_30 : decode cX5_does 30 = .ok (.getfield 7, 3) := dk_180 0 7 (dk_at dksX5_does_1 6 rfl rfl)
theorem dX5_does_33 : decode cX5_does 33 = .ok (.iload 5, 2) := dk_21 5 (dk_at dksX5_does_1 9 rfl rfl)
theorem dX5_does_35 : decode cX5_does 35 = .ok (.iload_n 1, 1) := dk_27 (dk_at dksX5_does_1 11 rfl rfl)
theorem dX5_does_36 : decode cX5_does 36 = .ok (.iastore, 1) := dk_79 (dk_at dksX5_does_1 12 rfl rfl)
theorem dX5_does_37 : decode cX5_does 37 = .ok (.aload_n 0, 1) := dk_42 (dk_at dksX5_does_1 13 rfl rfl)
theorem dX5_does_38 : decode cX5_does 38 = .ok (.getfield 7, 3) := dk_180 0 7 (dk_at dksX5_does_1 14 rfl rfl)
theorem dX5_does_41 : decode cX5_does 41 = .ok (.iload 5, 2) := dk_21 5 (dk_at dksX5_does_1 17 rfl rfl)
theorem dX5_does_43 : decode cX5_does 43 = .ok (.iconst 1, 1) := dk_4 (dk_at dksX5_does_1 19 rfl rfl)
theorem dX5_does_44 : decode cX5_does 44 = .ok (.iadd, 1) := dk_96 (dk_at dksX5_does_1 20 rfl rfl)
theorem dX5_does_45 : decode cX5_does 45 = .ok (.iload_n 2, 1) := dk_28 (dk_at dksX5_does_1 21 rfl rfl)
theorem dX5_does_46 : decode cX5_does 46 = .ok (.iastore, 1) := dk_79 (dk_at dksX5_does_1 22 rfl rfl)
theorem dX5_does_47 : decode cX5_does 47 = .ok (.aload_n 0, 1) := dk_42 (dk_at dksX5_does_1 23 rfl rfl)
theorem dX5_does_48 : decode cX5_does 48 = .ok (.getfield 7, 3) := dk_180 0 7 (dk_at dksX5_does_2 0 rfl rfl)
theorem dX5_does_51 : decode cX5_does 51 = .ok (.iload 5, 2) := dk_21 5 (dk_at dksX5_does_2 3 rfl rfl)
theorem dX5_does_53 : decode cX5_does 53 = .ok (.iconst 2, 1) := dk_5 (dk_at dksX5_does_2 5 rfl rfl)
theorem dX5_does_54 : decode cX5_does 54 = .ok (.iadd, 1) := dk_96 (dk_at dksX5_does_2 6 rfl rfl)
theorem dX5_does_55 : decode cX5_does 55 = .ok (.iload_n 3, 1) := dk_29 (dk_at dksX5_does_2 7 rfl rfl)
theorem dX5_does_56 : decode cX5_does 56 = .ok (.iastore, 1) := dk_79 (dk_at dksX5_does_2 8 rfl rfl)
theorem dX5_does_57 : decode cX5_does 57 = .ok (.aload_n 0, 1) := dk_42 (dk_at dksX5_does_2 9 rfl rfl)
theorem dX5_does_58 : decode cX5_does 58 = .ok (.getfield 7, 3) := dk_180 0 7 (dk_at dksX5_does_2 10 rfl rfl)
theorem dX5_does_61 : decode cX5_does 61 = .ok (.iload 5, 2) := dk_21 5 (dk_at dksX5_does_2 13 rfl rfl)
theorem dX5_does_63 : decode cX5_does 63 = .ok (.iconst 3, 1) := dk_6 (dk_at dksX5_does_2 15 rfl rfl)
theorem dX5_does_64 : decode cX5_does 64 = .ok (.iadd, 1) := dk_96 (dk_at dksX5_does_2 16 rfl rfl)
theorem dX5_does_65 : decode cX5_does 65 = .ok (.iload 4, 2) := dk_21 4 (dk_at dksX5_does_2 17 rfl rfl)
theorem dX5_does_67 : decode cX5_does 67 = .ok (.iastore, 1) := dk_79 (dk_at dksX5_does_2 19 rfl rfl)
theorem dX5_does_68 : decode cX5_does 68 = .ok (.aload_n 0, 1) := dk_42 (dk_at dksX5_does_2 20 rfl rfl)
theorem dX5_does_69 : decode cX5_does 69 = .ok (.getfield 7, 3) := dk_180 0 7 (dk_at dksX5_does_2 21 rfl rfl)
theorem dX5_does_72 : decode cX5_does 72 = .ok (.bipush 11, 2) := dk_16 11 (dk_at dksX5_does_3 0 rfl rfl)
theorem dX5_does_74 : decode cX5_does 74 = .ok (.dup2, 1) := dk_92 (dk_at dksX5_does_3 2 rfl rfl)
theorem dX5_does_75 : decode cX5_does 75 = .ok (.iaload, 1) := dk_46 (dk_at dksX5_does_3 3 rfl rfl)
theorem dX5_does_76 : decode cX5_does 76 = .ok (.iconst 1, 1) := dk_4 (dk_at dksX5_does_3 4 rfl rfl)
theorem dX5_does_77 : decode cX5_does 77 = .ok (.iadd, 1) := dk_96 (dk_at dksX5_does_3 5 rfl rfl)
theorem dX5_does_78 : decode cX5_does 78 = .ok (.iastore, 1) := dk_79 (dk_at dksX5_does_3 6 rfl rfl)
theorem dX5_does_79 : decode cX5_does 79 = .ok (.iconst 0, 1) := dk_3 (dk_at dksX5_does_3 7 rfl rfl)
theorem dX5_does_80 : decode cX5_does 80 = .ok (.ireturn, 1) := dk_172 (dk_at dksX5_does_3 8 rfl rfl)
abbrev cX5_keeps : ByteArray := prog_14_method_35_code
def yX5_keeps : MethodName := ⟨RX5, "keeps", "()V"⟩
def dkwX5_keeps_3 : List UInt8 := [89, 180, 0, 147, 4, 96, 181, 0, 147, 177]
abbrev dktX5_keeps_3 : List UInt8 := dkwX5_keeps_3 ++ []
def dkwX5_keeps_2 : List UInt8 := [181, 0, 147, 42, 180, 0, 7, 3, 42, 180, 0, 19, 17, 9, 158, 42, 180, 0, 147, 104, 184, 0, 110, 42]
abbrev dktX5_keeps_2 : List UInt8 := dkwX5_keeps_2 ++ dktX5_keeps_3
def dkwX5_keeps_1 : List UInt8 := [180, 0, 19, 27, 17, 9, 158, 96, 46, 79, 132, 1, 1, 167, 255, 230, 42, 89, 180, 0, 147, 4, 100]
abbrev dktX5_keeps_1 : List UInt8 := dkwX5_keeps_1 ++ dktX5_keeps_2
def dkwX5_keeps_0 : List UInt8 := [42, 180, 0, 147, 16, 8, 160, 0, 44, 3, 60, 27, 17, 67, 82, 162, 0, 25, 42, 180, 0, 19, 27, 42]
abbrev dktX5_keeps_0 : List UInt8 := dkwX5_keeps_0 ++ dktX5_keeps_1
theorem dksX5_keeps_0 : cX5_keeps.data.toList.drop 0 = dktX5_keeps_0 := by decide +kernel
theorem dksX5_keeps_1 : cX5_keeps.data.toList.drop 24 = dktX5_keeps_1 := dk_seg dksX5_keeps_0 24 rfl rfl
theorem dksX5_keeps_2 : cX5_keeps.data.toList.drop 47 = dktX5_keeps_2 := dk_seg dksX5_keeps_1 23 rfl rfl
theorem dksX5_keeps_3 : cX5_keeps.data.toList.drop 71 = dktX5_keeps_3 := dk_seg dksX5_keeps_2 24 rfl rfl
theorem dX5_keeps_0 : decode cX5_keeps 0 = .ok (.aload_n 0, 1) := dk_42 (dk_at dksX5_keeps_0 0 rfl rfl)
theorem dX5_keeps_1 : decode cX5_keeps 1 = .ok (.getfield 147, 3) := dk_180 0 147 (dk_at dksX5_keeps_0 1 rfl rfl)
theorem dX5_keeps_4 : decode cX5_keeps 4 = .ok (.bipush 8, 2) := dk_16 8 (dk_at dksX5_keeps_0 4 rfl rfl)
theorem dX5_keeps_6 : decode cX5_keeps 6 = .ok (.if_icmp .ne 44, 3) := dk_160 0 44 (dk_at dksX5_keeps_0 6 rfl rfl)
theorem dX5_keeps_9 : decode cX5_keeps 9 = .ok (.iconst 0, 1) := dk_3 (dk_at dksX5_keeps_0 9 rfl rfl)
theorem dX5_keeps_10 : decode cX5_keeps 10 = .ok (.istore_n 1, 1) := dk_60 (dk_at dksX5_keeps_0 10 rfl rfl)
theorem dX5_keeps_11 : decode cX5_keeps 11 = .ok (.iload_n 1, 1) := dk_27 (dk_at dksX5_keeps_0 11 rfl rfl)
theorem dX5_keeps_12 : decode cX5_keeps 12 = .ok (.sipush 17234, 3) := dk_17 67 82 (dk_at dksX5_keeps_0 12 rfl rfl)
theorem dX5_keeps_15 : decode cX5_keeps 15 = .ok (.if_icmp .ge 25, 3) := dk_162 0 25 (dk_at dksX5_keeps_0 15 rfl rfl)
theorem dX5_keeps_18 : decode cX5_keeps 18 = .ok (.aload_n 0, 1) := dk_42 (dk_at dksX5_keeps_0 18 rfl rfl)
theorem dX5_keeps_19 : decode cX5_keeps 19 = .ok (.getfield 19, 3) := dk_180 0 19 (dk_at dksX5_keeps_0 19 rfl rfl)
theorem dX5_keeps_22 : decode cX5_keeps 22 = .ok (.iload_n 1, 1) := dk_27 (dk_at dksX5_keeps_0 22 rfl rfl)
theorem dX5_keeps_23 : decode cX5_keeps 23 = .ok (.aload_n 0, 1) := dk_42 (dk_at dksX5_keeps_0 23 rfl rfl)
theorem dX5_keeps_24 : decode cX5_keeps 24 = .ok (.getfield 19, 3) := dk_180 0 19 (dk_at dksX5_keeps_1 0 rfl rfl)
theorem dX5_keeps_27 : decode cX5_keeps 27 = .ok (.iload_n 1, 1) := dk_27 (dk_at dksX5_keeps_1 3 rfl rfl)
theorem dX5_keeps_28 : decode cX5_keeps 28 = .ok (.sipush 2462, 3) := dk_17 9 158 (dk_at dksX5_keeps_1 4 rfl rfl)
theorem dX5_keeps_31 : decode cX5_keeps 31 = .ok (.iadd, 1) := dk_96 (dk_at dksX5_keeps_1 7 rfl rfl)
theorem dX5_keeps_32 : decode cX5_keeps 32 = .ok (.iaload, 1) := dk_46 (dk_at dksX5_keeps_1 8 rfl rfl)
theorem dX5_keeps_33 : decode cX5_keeps 33 = .ok (.iastore, 1) := dk_79 (dk_at dksX5_keeps_1 9 rfl rfl)
theorem dX5_keeps_34 : decode cX5_keeps 34 = .ok (.iinc 1 1, 3) := dk_132 1 1 (dk_at dksX5_keeps_1 10 rfl rfl)
theorem dX5_keeps_37 : decode cX5_keeps 37 = .ok (.goto (-26), 3) := dk_167 255 230 (dk_at dksX5_keeps_1 13 rfl rfl)
theorem dX5_keeps_40 : decode cX5_keeps 40 = .ok (.aload_n 0, 1) := dk_42 (dk_at dksX5_keeps_1 16 rfl rfl)
theorem dX5_keeps_41 : decode cX5_keeps 41 = .ok (.dup, 1) := dk_89 (dk_at dksX5_keeps_1 17 rfl rfl)
theorem dX5_keeps_42 : decode cX5_keeps 42 = .ok (.getfield 147, 3) := dk_180 0 147 (dk_at dksX5_keeps_1 18 rfl rfl)
theorem dX5_keeps_45 : decode cX5_keeps 45 = .ok (.iconst 1, 1) := dk_4 (dk_at dksX5_keeps_1 21 rfl rfl)
theorem dX5_keeps_46 : decode cX5_keeps 46 = .ok (.isub, 1) := dk_100 (dk_at dksX5_keeps_1 22 rfl rfl)
theorem dX5_keeps_47 : decode cX5_keeps 47 = .ok (.putfield 147, 3) := dk_181 0 147 (dk_at dksX5_keeps_2 0 rfl rfl)
theorem dX5_keeps_50 : decode cX5_keeps 50 = .ok (.aload_n 0, 1) := dk_42 (dk_at dksX5_keeps_2 3 rfl rfl)
theorem dX5_keeps_51 : decode cX5_keeps 51 = .ok (.getfield 7, 3) := dk_180 0 7 (dk_at dksX5_keeps_2 4 rfl rfl)
theorem dX5_keeps_54 : decode cX5_keeps 54 = .ok (.iconst 0, 1) := dk_3 (dk_at dksX5_keeps_2 7 rfl rfl)
theorem dX5_keeps_55 : decode cX5_keeps 55 = .ok (.aload_n 0, 1) := dk_42 (dk_at dksX5_keeps_2 8 rfl rfl)
theorem dX5_keeps_56 : decode cX5_keeps 56 = .ok (.getfield 19, 3) := dk_180 0 19 (dk_at dksX5_keeps_2 9 rfl rfl)
theorem dX5_keeps_59 : decode cX5_keeps 59 = .ok (.sipush 2462, 3) := dk_17 9 158 (dk_at dksX5_keeps_2 12 rfl rfl)
theorem dX5_keeps_62 : decode cX5_keeps 62 = .ok (.aload_n 0, 1) := dk_42 (dk_at dksX5_keeps_2 15 rfl rfl)
theorem dX5_keeps_63 : decode cX5_keeps 63 = .ok (.getfield 147, 3) := dk_180 0 147 (dk_at dksX5_keeps_2 16 rfl rfl)
theorem dX5_keeps_66 : decode cX5_keeps 66 = .ok (.imul, 1) := dk_104 (dk_at dksX5_keeps_2 19 rfl rfl)
theorem dX5_keeps_67 : decode cX5_keeps 67 = .ok (.invokestatic 110, 3) := dk_184 0 110 (dk_at dksX5_keeps_2 20 rfl rfl)
theorem dX5_keeps_70 : decode cX5_keeps 70 = .ok (.aload_n 0, 1) := dk_42 (dk_at dksX5_keeps_2 23 rfl rfl)
theorem dX5_keeps_71 : decode cX5_keeps 71 = .ok (.dup, 1) := dk_89 (dk_at dksX5_keeps_3 0 rfl rfl)
theorem dX5_keeps_72 : decode cX5_keeps 72 = .ok (.getfield 147, 3) := dk_180 0 147 (dk_at dksX5_keeps_3 1 rfl rfl)
theorem dX5_keeps_75 : decode cX5_keeps 75 = .ok (.iconst 1, 1) := dk_4 (dk_at dksX5_keeps_3 4 rfl rfl)
theorem dX5_keeps_76 : decode cX5_keeps 76 = .ok (.iadd, 1) := dk_96 (dk_at dksX5_keeps_3 5 rfl rfl)
theorem dX5_keeps_77 : decode cX5_keeps 77 = .ok (.putfield 147, 3) := dk_181 0 147 (dk_at dksX5_keeps_3 6 rfl rfl)
theorem dX5_keeps_80 : decode cX5_keeps 80 = .ok (.return_, 1) := dk_177 (dk_at dksX5_keeps_3 9 rfl rfl)
abbrev cX5_die : ByteArray := prog_14_method_80_code
def yX5_die : MethodName := ⟨RX5, "die", "(I)I"⟩
def dkwX5_die_1 : List UInt8 := [3, 167, 0, 8, 42, 27, 182, 0, 235, 172]
abbrev dktX5_die_1 : List UInt8 := dkwX5_die_1 ++ []
def dkwX5_die_0 : List UInt8 := [42, 42, 27, 182, 0, 207, 153, 0, 7, 3, 167, 0, 4, 4, 181, 0, 58, 42, 180, 0, 58, 158, 0, 7]
abbrev dktX5_die_0 : List UInt8 := dkwX5_die_0 ++ dktX5_die_1
theorem dksX5_die_0 : cX5_die.data.toList.drop 0 = dktX5_die_0 := by decide +kernel
theorem dksX5_die_1 : cX5_die.data.toList.drop 24 = dktX5_die_1 := dk_seg dksX5_die_0 24 rfl rfl
theorem dX5_die_0 : decode cX5_die 0 = .ok (.aload_n 0, 1) := dk_42 (dk_at dksX5_die_0 0 rfl rfl)
theorem dX5_die_1 : decode cX5_die 1 = .ok (.aload_n 0, 1) := dk_42 (dk_at dksX5_die_0 1 rfl rfl)
theorem dX5_die_2 : decode cX5_die 2 = .ok (.iload_n 1, 1) := dk_27 (dk_at dksX5_die_0 2 rfl rfl)
theorem dX5_die_3 : decode cX5_die 3 = .ok (.invokevirtual 207, 3) := dk_182 0 207 (dk_at dksX5_die_0 3 rfl rfl)
theorem dX5_die_6 : decode cX5_die 6 = .ok (.ifCond .eq 7, 3) := dk_153 0 7 (dk_at dksX5_die_0 6 rfl rfl)
theorem dX5_die_9 : decode cX5_die 9 = .ok (.iconst 0, 1) := dk_3 (dk_at dksX5_die_0 9 rfl rfl)
theorem dX5_die_10 : decode cX5_die 10 = .ok (.goto 4, 3) := dk_167 0 4 (dk_at dksX5_die_0 10 rfl rfl)
theorem dX5_die_13 : decode cX5_die 13 = .ok (.iconst 1, 1) := dk_4 (dk_at dksX5_die_0 13 rfl rfl)
theorem dX5_die_14 : decode cX5_die 14 = .ok (.putfield 58, 3) := dk_181 0 58 (dk_at dksX5_die_0 14 rfl rfl)
theorem dX5_die_17 : decode cX5_die 17 = .ok (.aload_n 0, 1) := dk_42 (dk_at dksX5_die_0 17 rfl rfl)
theorem dX5_die_18 : decode cX5_die 18 = .ok (.getfield 58, 3) := dk_180 0 58 (dk_at dksX5_die_0 18 rfl rfl)
theorem dX5_die_21 : decode cX5_die 21 = .ok (.ifCond .le 7, 3) := dk_158 0 7 (dk_at dksX5_die_0 21 rfl rfl)
theorem dX5_die_24 : decode cX5_die 24 = .ok (.iconst 0, 1) := dk_3 (dk_at dksX5_die_1 0 rfl rfl)
theorem dX5_die_25 : decode cX5_die 25 = .ok (.goto 8, 3) := dk_167 0 8 (dk_at dksX5_die_1 1 rfl rfl)
theorem dX5_die_28 : decode cX5_die 28 = .ok (.aload_n 0, 1) := dk_42 (dk_at dksX5_die_1 4 rfl rfl)
theorem dX5_die_29 : decode cX5_die 29 = .ok (.iload_n 1, 1) := dk_27 (dk_at dksX5_die_1 5 rfl rfl)
theorem dX5_die_30 : decode cX5_die 30 = .ok (.invokevirtual 235, 3) := dk_182 0 235 (dk_at dksX5_die_1 6 rfl rfl)
theorem dX5_die_33 : decode cX5_die 33 = .ok (.ireturn, 1) := dk_172 (dk_at dksX5_die_1 9 rfl rfl)
abbrev cX5_actsDie : ByteArray := prog_14_method_40_code
def yX5_actsDie : MethodName := ⟨RX5, "actsDie", "(I)I"⟩
def dkwX5_actsDie_2 : List UInt8 := [28, 172]
abbrev dktX5_actsDie_2 : List UInt8 := dkwX5_actsDie_2 ++ []
def dkwX5_actsDie_1 : List UInt8 := [16, 7, 167, 0, 4, 5, 182, 0, 160, 172, 42, 4, 27, 2, 2, 182, 0, 163, 61, 42, 27, 182, 0, 135]
abbrev dktX5_actsDie_1 : List UInt8 := dkwX5_actsDie_1 ++ dktX5_actsDie_2
def dkwX5_actsDie_0 : List UInt8 := [42, 182, 0, 153, 154, 0, 11, 42, 27, 182, 0, 75, 154, 0, 21, 42, 42, 182, 0, 153, 153, 0, 8]
abbrev dktX5_actsDie_0 : List UInt8 := dkwX5_actsDie_0 ++ dktX5_actsDie_1
theorem dksX5_actsDie_0 : cX5_actsDie.data.toList.drop 0 = dktX5_actsDie_0 := by decide +kernel
theorem dksX5_actsDie_1 : cX5_actsDie.data.toList.drop 23 = dktX5_actsDie_1 := dk_seg dksX5_actsDie_0 23 rfl rfl
theorem dksX5_actsDie_2 : cX5_actsDie.data.toList.drop 47 = dktX5_actsDie_2 := dk_seg dksX5_actsDie_1 24 rfl rfl
theorem dX5_actsDie_0 : decode cX5_actsDie 0 = .ok (.aload_n 0, 1) := dk_42 (dk_at dksX5_actsDie_0 0 rfl rfl)
theorem dX5_actsDie_1 : decode cX5_actsDie 1 = .ok (.invokevirtual 153, 3) := dk_182 0 153 (dk_at dksX5_actsDie_0 1 rfl rfl)
theorem dX5_actsDie_4 : decode cX5_actsDie 4 = .ok (.ifCond .ne 11, 3) := dk_154 0 11 (dk_at dksX5_actsDie_0 4 rfl rfl)
theorem dX5_actsDie_7 : decode cX5_actsDie 7 = .ok (.aload_n 0, 1) := dk_42 (dk_at dksX5_actsDie_0 7 rfl rfl)
theorem dX5_actsDie_8 : decode cX5_actsDie 8 = .ok (.iload_n 1, 1) := dk_27 (dk_at dksX5_actsDie_0 8 rfl rfl)
theorem dX5_actsDie_9 : decode cX5_actsDie 9 = .ok (.invokevirtual 75, 3) := dk_182 0 75 (dk_at dksX5_actsDie_0 9 rfl rfl)
theorem dX5_actsDie_12 : decode cX5_actsDie 12 = .ok (.ifCond .ne 21, 3) := dk_154 0 21 (dk_at dksX5_actsDie_0 12 rfl rfl)
theorem dX5_actsDie_15 : decode cX5_actsDie 15 = .ok (.aload_n 0, 1) := dk_42 (dk_at dksX5_actsDie_0 15 rfl rfl)
theorem dX5_actsDie_16 : decode cX5_actsDie 16 = .ok (.aload_n 0, 1) := dk_42 (dk_at dksX5_actsDie_0 16 rfl rfl)
theorem dX5_actsDie_17 : decode cX5_actsDie 17 = .ok (.invokevirtual 153, 3) := dk_182 0 153 (dk_at dksX5_actsDie_0 17 rfl rfl)
theorem dX5_actsDie_20 : decode cX5_actsDie 20 = .ok (.ifCond .eq 8, 3) := dk_153 0 8 (dk_at dksX5_actsDie_0 20 rfl rfl)
theorem dX5_actsDie_23 : decode cX5_actsDie 23 = .ok (.bipush 7, 2) := dk_16 7 (dk_at dksX5_actsDie_1 0 rfl rfl)
theorem dX5_actsDie_25 : decode cX5_actsDie 25 = .ok (.goto 4, 3) := dk_167 0 4 (dk_at dksX5_actsDie_1 2 rfl rfl)
theorem dX5_actsDie_28 : decode cX5_actsDie 28 = .ok (.iconst 2, 1) := dk_5 (dk_at dksX5_actsDie_1 5 rfl rfl)
theorem dX5_actsDie_29 : decode cX5_actsDie 29 = .ok (.invokevirtual 160, 3) := dk_182 0 160 (dk_at dksX5_actsDie_1 6 rfl rfl)
theorem dX5_actsDie_32 : decode cX5_actsDie 32 = .ok (.ireturn, 1) := dk_172 (dk_at dksX5_actsDie_1 9 rfl rfl)
theorem dX5_actsDie_33 : decode cX5_actsDie 33 = .ok (.aload_n 0, 1) := dk_42 (dk_at dksX5_actsDie_1 10 rfl rfl)
theorem dX5_actsDie_34 : decode cX5_actsDie 34 = .ok (.iconst 1, 1) := dk_4 (dk_at dksX5_actsDie_1 11 rfl rfl)
theorem dX5_actsDie_35 : decode cX5_actsDie 35 = .ok (.iload_n 1, 1) := dk_27 (dk_at dksX5_actsDie_1 12 rfl rfl)
theorem dX5_actsDie_36 : decode cX5_actsDie 36 = .ok (.iconst (-1), 1) := dk_2 (dk_at dksX5_actsDie_1 13 rfl rfl)
theorem dX5_actsDie_37 : decode cX5_actsDie 37 = .ok (.iconst (-1), 1) := dk_2 (dk_at dksX5_actsDie_1 14 rfl rfl)
theorem dX5_actsDie_38 : decode cX5_actsDie 38 = .ok (.invokevirtual 163, 3) := dk_182 0 163 (dk_at dksX5_actsDie_1 15 rfl rfl)
theorem dX5_actsDie_41 : decode cX5_actsDie 41 = .ok (.istore_n 2, 1) := dk_61 (dk_at dksX5_actsDie_1 18 rfl rfl)
theorem dX5_actsDie_42 : decode cX5_actsDie 42 = .ok (.aload_n 0, 1) := dk_42 (dk_at dksX5_actsDie_1 19 rfl rfl)
theorem dX5_actsDie_43 : decode cX5_actsDie 43 = .ok (.iload_n 1, 1) := dk_27 (dk_at dksX5_actsDie_1 20 rfl rfl)
theorem dX5_actsDie_44 : decode cX5_actsDie 44 = .ok (.invokevirtual 135, 3) := dk_182 0 135 (dk_at dksX5_actsDie_1 21 rfl rfl)
theorem dX5_actsDie_47 : decode cX5_actsDie 47 = .ok (.iload_n 2, 1) := dk_28 (dk_at dksX5_actsDie_2 0 rfl rfl)
theorem dX5_actsDie_48 : decode cX5_actsDie 48 = .ok (.ireturn, 1) := dk_172 (dk_at dksX5_actsDie_2 1 rfl rfl)
abbrev cX5_reset : ByteArray := prog_14_method_81_code
def yX5_reset : MethodName := ⟨RX5, "reset", "(I)I"⟩
def dkwX5_reset_1 : List UInt8 := [3, 167, 0, 8, 42, 27, 182, 0, 238, 172]
abbrev dktX5_reset_1 : List UInt8 := dkwX5_reset_1 ++ []
def dkwX5_reset_0 : List UInt8 := [42, 42, 27, 182, 0, 201, 153, 0, 7, 3, 167, 0, 4, 4, 181, 0, 58, 42, 180, 0, 58, 158, 0, 7]
abbrev dktX5_reset_0 : List UInt8 := dkwX5_reset_0 ++ dktX5_reset_1
theorem dksX5_reset_0 : cX5_reset.data.toList.drop 0 = dktX5_reset_0 := by decide +kernel
theorem dksX5_reset_1 : cX5_reset.data.toList.drop 24 = dktX5_reset_1 := dk_seg dksX5_reset_0 24 rfl rfl
theorem dX5_reset_0 : decode cX5_reset 0 = .ok (.aload_n 0, 1) := dk_42 (dk_at dksX5_reset_0 0 rfl rfl)
theorem dX5_reset_1 : decode cX5_reset 1 = .ok (.aload_n 0, 1) := dk_42 (dk_at dksX5_reset_0 1 rfl rfl)
theorem dX5_reset_2 : decode cX5_reset 2 = .ok (.iload_n 1, 1) := dk_27 (dk_at dksX5_reset_0 2 rfl rfl)
theorem dX5_reset_3 : decode cX5_reset 3 = .ok (.invokevirtual 201, 3) := dk_182 0 201 (dk_at dksX5_reset_0 3 rfl rfl)
theorem dX5_reset_6 : decode cX5_reset 6 = .ok (.ifCond .eq 7, 3) := dk_153 0 7 (dk_at dksX5_reset_0 6 rfl rfl)
theorem dX5_reset_9 : decode cX5_reset 9 = .ok (.iconst 0, 1) := dk_3 (dk_at dksX5_reset_0 9 rfl rfl)
theorem dX5_reset_10 : decode cX5_reset 10 = .ok (.goto 4, 3) := dk_167 0 4 (dk_at dksX5_reset_0 10 rfl rfl)
theorem dX5_reset_13 : decode cX5_reset 13 = .ok (.iconst 1, 1) := dk_4 (dk_at dksX5_reset_0 13 rfl rfl)
theorem dX5_reset_14 : decode cX5_reset 14 = .ok (.putfield 58, 3) := dk_181 0 58 (dk_at dksX5_reset_0 14 rfl rfl)
theorem dX5_reset_17 : decode cX5_reset 17 = .ok (.aload_n 0, 1) := dk_42 (dk_at dksX5_reset_0 17 rfl rfl)
theorem dX5_reset_18 : decode cX5_reset 18 = .ok (.getfield 58, 3) := dk_180 0 58 (dk_at dksX5_reset_0 18 rfl rfl)
theorem dX5_reset_21 : decode cX5_reset 21 = .ok (.ifCond .le 7, 3) := dk_158 0 7 (dk_at dksX5_reset_0 21 rfl rfl)
theorem dX5_reset_24 : decode cX5_reset 24 = .ok (.iconst 0, 1) := dk_3 (dk_at dksX5_reset_1 0 rfl rfl)
theorem dX5_reset_25 : decode cX5_reset 25 = .ok (.goto 8, 3) := dk_167 0 8 (dk_at dksX5_reset_1 1 rfl rfl)
theorem dX5_reset_28 : decode cX5_reset 28 = .ok (.aload_n 0, 1) := dk_42 (dk_at dksX5_reset_1 4 rfl rfl)
theorem dX5_reset_29 : decode cX5_reset 29 = .ok (.iload_n 1, 1) := dk_27 (dk_at dksX5_reset_1 5 rfl rfl)
theorem dX5_reset_30 : decode cX5_reset 30 = .ok (.invokevirtual 238, 3) := dk_182 0 238 (dk_at dksX5_reset_1 6 rfl rfl)
theorem dX5_reset_33 : decode cX5_reset 33 = .ok (.ireturn, 1) := dk_172 (dk_at dksX5_reset_1 9 rfl rfl)
abbrev cX5_actsReset : ByteArray := prog_14_method_41_code
def yX5_actsReset : MethodName := ⟨RX5, "actsReset", "(I)I"⟩
def dkwX5_actsReset_1 : List UInt8 := [182, 0, 160, 172, 42, 5, 27, 2, 2, 182, 0, 163, 62, 42, 27, 182, 0, 132, 29, 172]
abbrev dktX5_actsReset_1 : List UInt8 := dkwX5_actsReset_1 ++ []
def dkwX5_actsReset_0 : List UInt8 := [42, 182, 0, 153, 153, 0, 8, 16, 7, 167, 0, 8, 42, 27, 182, 0, 170, 61, 28, 158, 0, 9, 42, 28]
abbrev dktX5_actsReset_0 : List UInt8 := dkwX5_actsReset_0 ++ dktX5_actsReset_1
theorem dksX5_actsReset_0 : cX5_actsReset.data.toList.drop 0 = dktX5_actsReset_0 := by decide +kernel
theorem dksX5_actsReset_1 : cX5_actsReset.data.toList.drop 24 = dktX5_actsReset_1 := dk_seg dksX5_actsReset_0 24 rfl rfl
theorem dX5_actsReset_0 : decode cX5_actsReset 0 = .ok (.aload_n 0, 1) := dk_42 (dk_at dksX5_actsReset_0 0 rfl rfl)
theorem dX5_actsReset_1 : decode cX5_actsReset 1 = .ok (.invokevirtual 153, 3) := dk_182 0 153 (dk_at dksX5_actsReset_0 1 rfl rfl)
theorem dX5_actsReset_4 : decode cX5_actsReset 4 = .ok (.ifCond .eq 8, 3) := dk_153 0 8 (dk_at dksX5_actsReset_0 4 rfl rfl)
theorem dX5_actsReset_7 : decode cX5_actsReset 7 = .ok (.bipush 7, 2) := dk_16 7 (dk_at dksX5_actsReset_0 7 rfl rfl)
theorem dX5_actsReset_9 : decode cX5_actsReset 9 = .ok (.goto 8, 3) := dk_167 0 8 (dk_at dksX5_actsReset_0 9 rfl rfl)
theorem dX5_actsReset_12 : decode cX5_actsReset 12 = .ok (.aload_n 0, 1) := dk_42 (dk_at dksX5_actsReset_0 12 rfl rfl)
theorem dX5_actsReset_13 : decode cX5_actsReset 13 = .ok (.iload_n 1, 1) := dk_27 (dk_at dksX5_actsReset_0 13 rfl rfl)
theorem dX5_actsReset_14 : decode cX5_actsReset 14 = .ok (.invokevirtual 170, 3) := dk_182 0 170 (dk_at dksX5_actsReset_0 14 rfl rfl)
theorem dX5_actsReset_17 : decode cX5_actsReset 17 = .ok (.istore_n 2, 1) := dk_61 (dk_at dksX5_actsReset_0 17 rfl rfl)
theorem dX5_actsReset_18 : decode cX5_actsReset 18 = .ok (.iload_n 2, 1) := dk_28 (dk_at dksX5_actsReset_0 18 rfl rfl)
theorem dX5_actsReset_19 : decode cX5_actsReset 19 = .ok (.ifCond .le 9, 3) := dk_158 0 9 (dk_at dksX5_actsReset_0 19 rfl rfl)
theorem dX5_actsReset_22 : decode cX5_actsReset 22 = .ok (.aload_n 0, 1) := dk_42 (dk_at dksX5_actsReset_0 22 rfl rfl)
theorem dX5_actsReset_23 : decode cX5_actsReset 23 = .ok (.iload_n 2, 1) := dk_28 (dk_at dksX5_actsReset_0 23 rfl rfl)
theorem dX5_actsReset_24 : decode cX5_actsReset 24 = .ok (.invokevirtual 160, 3) := dk_182 0 160 (dk_at dksX5_actsReset_1 0 rfl rfl)
theorem dX5_actsReset_27 : decode cX5_actsReset 27 = .ok (.ireturn, 1) := dk_172 (dk_at dksX5_actsReset_1 3 rfl rfl)
theorem dX5_actsReset_28 : decode cX5_actsReset 28 = .ok (.aload_n 0, 1) := dk_42 (dk_at dksX5_actsReset_1 4 rfl rfl)
theorem dX5_actsReset_29 : decode cX5_actsReset 29 = .ok (.iconst 2, 1) := dk_5 (dk_at dksX5_actsReset_1 5 rfl rfl)
theorem dX5_actsReset_30 : decode cX5_actsReset 30 = .ok (.iload_n 1, 1) := dk_27 (dk_at dksX5_actsReset_1 6 rfl rfl)
theorem dX5_actsReset_31 : decode cX5_actsReset 31 = .ok (.iconst (-1), 1) := dk_2 (dk_at dksX5_actsReset_1 7 rfl rfl)
theorem dX5_actsReset_32 : decode cX5_actsReset 32 = .ok (.iconst (-1), 1) := dk_2 (dk_at dksX5_actsReset_1 8 rfl rfl)
theorem dX5_actsReset_33 : decode cX5_actsReset 33 = .ok (.invokevirtual 163, 3) := dk_182 0 163 (dk_at dksX5_actsReset_1 9 rfl rfl)
theorem dX5_actsReset_36 : decode cX5_actsReset 36 = .ok (.istore_n 3, 1) := dk_62 (dk_at dksX5_actsReset_1 12 rfl rfl)
theorem dX5_actsReset_37 : decode cX5_actsReset 37 = .ok (.aload_n 0, 1) := dk_42 (dk_at dksX5_actsReset_1 13 rfl rfl)
theorem dX5_actsReset_38 : decode cX5_actsReset 38 = .ok (.iload_n 1, 1) := dk_27 (dk_at dksX5_actsReset_1 14 rfl rfl)
theorem dX5_actsReset_39 : decode cX5_actsReset 39 = .ok (.invokevirtual 132, 3) := dk_182 0 132 (dk_at dksX5_actsReset_1 15 rfl rfl)
theorem dX5_actsReset_42 : decode cX5_actsReset 42 = .ok (.iload_n 3, 1) := dk_29 (dk_at dksX5_actsReset_1 18 rfl rfl)
theorem dX5_actsReset_43 : decode cX5_actsReset 43 = .ok (.ireturn, 1) := dk_172 (dk_at dksX5_actsReset_1 19 rfl rfl)
abbrev cX5_bury : ByteArray := prog_14_method_82_code
def yX5_bury : MethodName := ⟨RX5, "bury", "(I)I"⟩
def dkwX5_bury_1 : List UInt8 := [3, 167, 0, 8, 42, 27, 182, 0, 241, 172]
abbrev dktX5_bury_1 : List UInt8 := dkwX5_bury_1 ++ []
def dkwX5_bury_0 : List UInt8 := [42, 42, 27, 182, 0, 201, 153, 0, 7, 3, 167, 0, 4, 4, 181, 0, 58, 42, 180, 0, 58, 158, 0, 7]
abbrev dktX5_bury_0 : List UInt8 := dkwX5_bury_0 ++ dktX5_bury_1
theorem dksX5_bury_0 : cX5_bury.data.toList.drop 0 = dktX5_bury_0 := by decide +kernel
theorem dksX5_bury_1 : cX5_bury.data.toList.drop 24 = dktX5_bury_1 := dk_seg dksX5_bury_0 24 rfl rfl
theorem dX5_bury_0 : decode cX5_bury 0 = .ok (.aload_n 0, 1) := dk_42 (dk_at dksX5_bury_0 0 rfl rfl)
theorem dX5_bury_1 : decode cX5_bury 1 = .ok (.aload_n 0, 1) := dk_42 (dk_at dksX5_bury_0 1 rfl rfl)
theorem dX5_bury_2 : decode cX5_bury 2 = .ok (.iload_n 1, 1) := dk_27 (dk_at dksX5_bury_0 2 rfl rfl)
theorem dX5_bury_3 : decode cX5_bury 3 = .ok (.invokevirtual 201, 3) := dk_182 0 201 (dk_at dksX5_bury_0 3 rfl rfl)
theorem dX5_bury_6 : decode cX5_bury 6 = .ok (.ifCond .eq 7, 3) := dk_153 0 7 (dk_at dksX5_bury_0 6 rfl rfl)
theorem dX5_bury_9 : decode cX5_bury 9 = .ok (.iconst 0, 1) := dk_3 (dk_at dksX5_bury_0 9 rfl rfl)
theorem dX5_bury_10 : decode cX5_bury 10 = .ok (.goto 4, 3) := dk_167 0 4 (dk_at dksX5_bury_0 10 rfl rfl)
theorem dX5_bury_13 : decode cX5_bury 13 = .ok (.iconst 1, 1) := dk_4 (dk_at dksX5_bury_0 13 rfl rfl)
theorem dX5_bury_14 : decode cX5_bury 14 = .ok (.putfield 58, 3) := dk_181 0 58 (dk_at dksX5_bury_0 14 rfl rfl)
theorem dX5_bury_17 : decode cX5_bury 17 = .ok (.aload_n 0, 1) := dk_42 (dk_at dksX5_bury_0 17 rfl rfl)
theorem dX5_bury_18 : decode cX5_bury 18 = .ok (.getfield 58, 3) := dk_180 0 58 (dk_at dksX5_bury_0 18 rfl rfl)
theorem dX5_bury_21 : decode cX5_bury 21 = .ok (.ifCond .le 7, 3) := dk_158 0 7 (dk_at dksX5_bury_0 21 rfl rfl)
theorem dX5_bury_24 : decode cX5_bury 24 = .ok (.iconst 0, 1) := dk_3 (dk_at dksX5_bury_1 0 rfl rfl)
theorem dX5_bury_25 : decode cX5_bury 25 = .ok (.goto 8, 3) := dk_167 0 8 (dk_at dksX5_bury_1 1 rfl rfl)
theorem dX5_bury_28 : decode cX5_bury 28 = .ok (.aload_n 0, 1) := dk_42 (dk_at dksX5_bury_1 4 rfl rfl)
theorem dX5_bury_29 : decode cX5_bury 29 = .ok (.iload_n 1, 1) := dk_27 (dk_at dksX5_bury_1 5 rfl rfl)
theorem dX5_bury_30 : decode cX5_bury 30 = .ok (.invokevirtual 241, 3) := dk_182 0 241 (dk_at dksX5_bury_1 6 rfl rfl)
theorem dX5_bury_33 : decode cX5_bury 33 = .ok (.ireturn, 1) := dk_172 (dk_at dksX5_bury_1 9 rfl rfl)
abbrev cX5_actsBury : ByteArray := prog_14_method_42_code
def yX5_actsBury : MethodName := ⟨RX5, "actsBury", "(I)I"⟩
def dkwX5_actsBury_2 : List UInt8 := [182, 0, 160, 172, 42, 6, 27, 2, 2, 182, 0, 163, 62, 42, 27, 182, 0, 141, 54, 4, 29, 172]
abbrev dktX5_actsBury_2 : List UInt8 := dkwX5_actsBury_2 ++ []
def dkwX5_actsBury_1 : List UInt8 := [182, 0, 104, 153, 0, 7, 6, 167, 0, 8, 8, 167, 0, 4, 3, 61, 28, 158, 0, 9, 42, 28]
abbrev dktX5_actsBury_1 : List UInt8 := dkwX5_actsBury_1 ++ dktX5_actsBury_2
def dkwX5_actsBury_0 : List UInt8 := [42, 182, 0, 153, 153, 0, 8, 16, 7, 167, 0, 29, 42, 27, 182, 0, 173, 2, 160, 0, 19, 42, 27]
abbrev dktX5_actsBury_0 : List UInt8 := dkwX5_actsBury_0 ++ dktX5_actsBury_1
theorem dksX5_actsBury_0 : cX5_actsBury.data.toList.drop 0 = dktX5_actsBury_0 := by decide +kernel
theorem dksX5_actsBury_1 : cX5_actsBury.data.toList.drop 23 = dktX5_actsBury_1 := dk_seg dksX5_actsBury_0 23 rfl rfl
theorem dksX5_actsBury_2 : cX5_actsBury.data.toList.drop 45 = dktX5_actsBury_2 := dk_seg dksX5_actsBury_1 22 rfl rfl
theorem dX5_actsBury_0 : decode cX5_actsBury 0 = .ok (.aload_n 0, 1) := dk_42 (dk_at dksX5_actsBury_0 0 rfl rfl)
theorem dX5_actsBury_1 : decode cX5_actsBury 1 = .ok (.invokevirtual 153, 3) := dk_182 0 153 (dk_at dksX5_actsBury_0 1 rfl rfl)
theorem dX5_actsBury_4 : decode cX5_actsBury 4 = .ok (.ifCond .eq 8, 3) := dk_153 0 8 (dk_at dksX5_actsBury_0 4 rfl rfl)
theorem dX5_actsBury_7 : decode cX5_actsBury 7 = .ok (.bipush 7, 2) := dk_16 7 (dk_at dksX5_actsBury_0 7 rfl rfl)
theorem dX5_actsBury_9 : decode cX5_actsBury 9 = .ok (.goto 29, 3) := dk_167 0 29 (dk_at dksX5_actsBury_0 9 rfl rfl)
theorem dX5_actsBury_12 : decode cX5_actsBury 12 = .ok (.aload_n 0, 1) := dk_42 (dk_at dksX5_actsBury_0 12 rfl rfl)
theorem dX5_actsBury_13 : decode cX5_actsBury 13 = .ok (.iload_n 1, 1) := dk_27 (dk_at dksX5_actsBury_0 13 rfl rfl)
theorem dX5_actsBury_14 : decode cX5_actsBury 14 = .ok (.invokevirtual 173, 3) := dk_182 0 173 (dk_at dksX5_actsBury_0 14 rfl rfl)
theorem dX5_actsBury_17 : decode cX5_actsBury 17 = .ok (.iconst (-1), 1) := dk_2 (dk_at dksX5_actsBury_0 17 rfl rfl)
theorem dX5_actsBury_18 : decode cX5_actsBury 18 = .ok (.if_icmp .ne 19, 3) := dk_160 0 19 (dk_at dksX5_actsBury_0 18 rfl rfl)
theorem dX5_actsBury_21 : decode cX5_actsBury 21 = .ok (.aload_n 0, 1) := dk_42 (dk_at dksX5_actsBury_0 21 rfl rfl)
theorem dX5_actsBury_22 : decode cX5_actsBury 22 = .ok (.iload_n 1, 1) := dk_27 (dk_at dksX5_actsBury_0 22 rfl rfl)
theorem dX5_actsBury_23 : decode cX5_actsBury 23 = .ok (.invokevirtual 104, 3) := dk_182 0 104 (dk_at dksX5_actsBury_1 0 rfl rfl)
theorem dX5_actsBury_26 : decode cX5_actsBury 26 = .ok (.ifCond .eq 7, 3) := dk_153 0 7 (dk_at dksX5_actsBury_1 3 rfl rfl)
theorem dX5_actsBury_29 : decode cX5_actsBury 29 = .ok (.iconst 3, 1) := dk_6 (dk_at dksX5_actsBury_1 6 rfl rfl)
theorem dX5_actsBury_30 : decode cX5_actsBury 30 = .ok (.goto 8, 3) := dk_167 0 8 (dk_at dksX5_actsBury_1 7 rfl rfl)
theorem dX5_actsBury_33 : decode cX5_actsBury 33 = .ok (.iconst 5, 1) := dk_8 (dk_at dksX5_actsBury_1 10 rfl rfl)
theorem dX5_actsBury_34 : decode cX5_actsBury 34 = .ok (.goto 4, 3) := dk_167 0 4 (dk_at dksX5_actsBury_1 11 rfl rfl)
theorem dX5_actsBury_37 : decode cX5_actsBury 37 = .ok (.iconst 0, 1) := dk_3 (dk_at dksX5_actsBury_1 14 rfl rfl)
theorem dX5_actsBury_38 : decode cX5_actsBury 38 = .ok (.istore_n 2, 1) := dk_61 (dk_at dksX5_actsBury_1 15 rfl rfl)
theorem dX5_actsBury_39 : decode cX5_actsBury 39 = .ok (.iload_n 2, 1) := dk_28 (dk_at dksX5_actsBury_1 16 rfl rfl)
theorem dX5_actsBury_40 : decode cX5_actsBury 40 = .ok (.ifCond .le 9, 3) := dk_158 0 9 (dk_at dksX5_actsBury_1 17 rfl rfl)
theorem dX5_actsBury_43 : decode cX5_actsBury 43 = .ok (.aload_n 0, 1) := dk_42 (dk_at dksX5_actsBury_1 20 rfl rfl)
theorem dX5_actsBury_44 : decode cX5_actsBury 44 = .ok (.iload_n 2, 1) := dk_28 (dk_at dksX5_actsBury_1 21 rfl rfl)
theorem dX5_actsBury_45 : decode cX5_actsBury 45 = .ok (.invokevirtual 160, 3) := dk_182 0 160 (dk_at dksX5_actsBury_2 0 rfl rfl)
theorem dX5_actsBury_48 : decode cX5_actsBury 48 = .ok (.ireturn, 1) := dk_172 (dk_at dksX5_actsBury_2 3 rfl rfl)
theorem dX5_actsBury_49 : decode cX5_actsBury 49 = .ok (.aload_n 0, 1) := dk_42 (dk_at dksX5_actsBury_2 4 rfl rfl)
theorem dX5_actsBury_50 : decode cX5_actsBury 50 = .ok (.iconst 3, 1) := dk_6 (dk_at dksX5_actsBury_2 5 rfl rfl)
theorem dX5_actsBury_51 : decode cX5_actsBury 51 = .ok (.iload_n 1, 1) := dk_27 (dk_at dksX5_actsBury_2 6 rfl rfl)
theorem dX5_actsBury_52 : decode cX5_actsBury 52 = .ok (.iconst (-1), 1) := dk_2 (dk_at dksX5_actsBury_2 7 rfl rfl)
theorem dX5_actsBury_53 : decode cX5_actsBury 53 = .ok (.iconst (-1), 1) := dk_2 (dk_at dksX5_actsBury_2 8 rfl rfl)
theorem dX5_actsBury_54 : decode cX5_actsBury 54 = .ok (.invokevirtual 163, 3) := dk_182 0 163 (dk_at dksX5_actsBury_2 9 rfl rfl)
theorem dX5_actsBury_57 : decode cX5_actsBury 57 = .ok (.istore_n 3, 1) := dk_62 (dk_at dksX5_actsBury_2 12 rfl rfl)
theorem dX5_actsBury_58 : decode cX5_actsBury 58 = .ok (.aload_n 0, 1) := dk_42 (dk_at dksX5_actsBury_2 13 rfl rfl)
theorem dX5_actsBury_59 : decode cX5_actsBury 59 = .ok (.iload_n 1, 1) := dk_27 (dk_at dksX5_actsBury_2 14 rfl rfl)
theorem dX5_actsBury_60 : decode cX5_actsBury 60 = .ok (.invokevirtual 141, 3) := dk_182 0 141 (dk_at dksX5_actsBury_2 15 rfl rfl)
theorem dX5_actsBury_63 : decode cX5_actsBury 63 = .ok (.istore 4, 2) := dk_54 4 (dk_at dksX5_actsBury_2 18 rfl rfl)
theorem dX5_actsBury_65 : decode cX5_actsBury 65 = .ok (.iload_n 3, 1) := dk_29 (dk_at dksX5_actsBury_2 20 rfl rfl)
theorem dX5_actsBury_66 : decode cX5_actsBury 66 = .ok (.ireturn, 1) := dk_172 (dk_at dksX5_actsBury_2 21 rfl rfl)
abbrev cX5_toBuryOf : ByteArray := prog_14_method_86_code
def yX5_toBuryOf : MethodName := ⟨RX5, "toBuryOf", "(I)I"⟩
def dkwX5_toBuryOf_2 : List UInt8 := [3, 184, 0, 110, 29, 172]
abbrev dktX5_toBuryOf_2 : List UInt8 := dkwX5_toBuryOf_2 ++ []
def dkwX5_toBuryOf_1 : List UInt8 := [154, 0, 5, 2, 172, 42, 180, 0, 7, 16, 8, 46, 28, 100, 62, 42, 180, 0, 16, 3, 42, 180, 0, 7]
abbrev dktX5_toBuryOf_1 : List UInt8 := dkwX5_toBuryOf_1 ++ dktX5_toBuryOf_2
def dkwX5_toBuryOf_0 : List UInt8 := [42, 27, 182, 0, 104, 153, 0, 5, 2, 172, 42, 180, 0, 7, 16, 8, 46, 61, 42, 27, 182, 0, 141]
abbrev dktX5_toBuryOf_0 : List UInt8 := dkwX5_toBuryOf_0 ++ dktX5_toBuryOf_1
theorem dksX5_toBuryOf_0 : cX5_toBuryOf.data.toList.drop 0 = dktX5_toBuryOf_0 := by decide +kernel
theorem dksX5_toBuryOf_1 : cX5_toBuryOf.data.toList.drop 23 = dktX5_toBuryOf_1 := dk_seg dksX5_toBuryOf_0 23 rfl rfl
theorem dksX5_toBuryOf_2 : cX5_toBuryOf.data.toList.drop 47 = dktX5_toBuryOf_2 := dk_seg dksX5_toBuryOf_1 24 rfl rfl
theorem dX5_toBuryOf_0 : decode cX5_toBuryOf 0 = .ok (.aload_n 0, 1) := dk_42 (dk_at dksX5_toBuryOf_0 0 rfl rfl)
theorem dX5_toBuryOf_1 : decode cX5_toBuryOf 1 = .ok (.iload_n 1, 1) := dk_27 (dk_at dksX5_toBuryOf_0 1 rfl rfl)
theorem dX5_toBuryOf_2 : decode cX5_toBuryOf 2 = .ok (.invokevirtual 104, 3) := dk_182 0 104 (dk_at dksX5_toBuryOf_0 2 rfl rfl)
theorem dX5_toBuryOf_5 : decode cX5_toBuryOf 5 = .ok (.ifCond .eq 5, 3) := dk_153 0 5 (dk_at dksX5_toBuryOf_0 5 rfl rfl)
theorem dX5_toBuryOf_8 : decode cX5_toBuryOf 8 = .ok (.iconst (-1), 1) := dk_2 (dk_at dksX5_toBuryOf_0 8 rfl rfl)
theorem dX5_toBuryOf_9 : decode cX5_toBuryOf 9 = .ok (.ireturn, 1) := dk_172 (dk_at dksX5_toBuryOf_0 9 rfl rfl)
theorem dX5_toBuryOf_10 : decode cX5_toBuryOf 10 = .ok (.aload_n 0, 1) := dk_42 (dk_at dksX5_toBuryOf_0 10 rfl rfl)
theorem dX5_toBuryOf_11 : decode cX5_toBuryOf 11 = .ok (.getfield 7, 3) := dk_180 0 7 (dk_at dksX5_toBuryOf_0 11 rfl rfl)
theorem dX5_toBuryOf_14 : decode cX5_toBuryOf 14 = .ok (.bipush 8, 2) := dk_16 8 (dk_at dksX5_toBuryOf_0 14 rfl rfl)
theorem dX5_toBuryOf_16 : decode cX5_toBuryOf 16 = .ok (.iaload, 1) := dk_46 (dk_at dksX5_toBuryOf_0 16 rfl rfl)
theorem dX5_toBuryOf_17 : decode cX5_toBuryOf 17 = .ok (.istore_n 2, 1) := dk_61 (dk_at dksX5_toBuryOf_0 17 rfl rfl)
theorem dX5_toBuryOf_18 : decode cX5_toBuryOf 18 = .ok (.aload_n 0, 1) := dk_42 (dk_at dksX5_toBuryOf_0 18 rfl rfl)
theorem dX5_toBuryOf_19 : decode cX5_toBuryOf 19 = .ok (.iload_n 1, 1) := dk_27 (dk_at dksX5_toBuryOf_0 19 rfl rfl)
theorem dX5_toBuryOf_20 : decode cX5_toBuryOf 20 = .ok (.invokevirtual 141, 3) := dk_182 0 141 (dk_at dksX5_toBuryOf_0 20 rfl rfl)
theorem dX5_toBuryOf_23 : decode cX5_toBuryOf 23 = .ok (.ifCond .ne 5, 3) := dk_154 0 5 (dk_at dksX5_toBuryOf_1 0 rfl rfl)
theorem dX5_toBuryOf_26 : decode cX5_toBuryOf 26 = .ok (.iconst (-1), 1) := dk_2 (dk_at dksX5_toBuryOf_1 3 rfl rfl)
theorem dX5_toBuryOf_27 : decode cX5_toBuryOf 27 = .ok (.ireturn, 1) := dk_172 (dk_at dksX5_toBuryOf_1 4 rfl rfl)
theorem dX5_toBuryOf_28 : decode cX5_toBuryOf 28 = .ok (.aload_n 0, 1) := dk_42 (dk_at dksX5_toBuryOf_1 5 rfl rfl)
theorem dX5_toBuryOf_29 : decode cX5_toBuryOf 29 = .ok (.getfield 7, 3) := dk_180 0 7 (dk_at dksX5_toBuryOf_1 6 rfl rfl)
theorem dX5_toBuryOf_32 : decode cX5_toBuryOf 32 = .ok (.bipush 8, 2) := dk_16 8 (dk_at dksX5_toBuryOf_1 9 rfl rfl)
theorem dX5_toBuryOf_34 : decode cX5_toBuryOf 34 = .ok (.iaload, 1) := dk_46 (dk_at dksX5_toBuryOf_1 11 rfl rfl)
theorem dX5_toBuryOf_35 : decode cX5_toBuryOf 35 = .ok (.iload_n 2, 1) := dk_28 (dk_at dksX5_toBuryOf_1 12 rfl rfl)
theorem dX5_toBuryOf_36 : decode cX5_toBuryOf 36 = .ok (.isub, 1) := dk_100 (dk_at dksX5_toBuryOf_1 13 rfl rfl)
theorem dX5_toBuryOf_37 : decode cX5_toBuryOf 37 = .ok (.istore_n 3, 1) := dk_62 (dk_at dksX5_toBuryOf_1 14 rfl rfl)
theorem dX5_toBuryOf_38 : decode cX5_toBuryOf 38 = .ok (.aload_n 0, 1) := dk_42 (dk_at dksX5_toBuryOf_1 15 rfl rfl)
theorem dX5_toBuryOf_39 : decode cX5_toBuryOf 39 = .ok (.getfield 16, 3) := dk_180 0 16 (dk_at dksX5_toBuryOf_1 16 rfl rfl)
theorem dX5_toBuryOf_42 : decode cX5_toBuryOf 42 = .ok (.iconst 0, 1) := dk_3 (dk_at dksX5_toBuryOf_1 19 rfl rfl)
theorem dX5_toBuryOf_43 : decode cX5_toBuryOf 43 = .ok (.aload_n 0, 1) := dk_42 (dk_at dksX5_toBuryOf_1 20 rfl rfl)
theorem dX5_toBuryOf_44 : decode cX5_toBuryOf 44 = .ok (.getfield 7, 3) := dk_180 0 7 (dk_at dksX5_toBuryOf_1 21 rfl rfl)
theorem dX5_toBuryOf_47 : decode cX5_toBuryOf 47 = .ok (.iconst 0, 1) := dk_3 (dk_at dksX5_toBuryOf_2 0 rfl rfl)
theorem dX5_toBuryOf_48 : decode cX5_toBuryOf 48 = .ok (.invokestatic 110, 3) := dk_184 0 110 (dk_at dksX5_toBuryOf_2 1 rfl rfl)
theorem dX5_toBuryOf_51 : decode cX5_toBuryOf 51 = .ok (.iload_n 3, 1) := dk_29 (dk_at dksX5_toBuryOf_2 4 rfl rfl)
theorem dX5_toBuryOf_52 : decode cX5_toBuryOf 52 = .ok (.ireturn, 1) := dk_172 (dk_at dksX5_toBuryOf_2 5 rfl rfl)
abbrev cX5_days : ByteArray := prog_14_method_84_code
def yX5_days : MethodName := ⟨RX5, "days", "(I)I"⟩
def dkwX5_days_1 : List UInt8 := [167, 0, 8, 42, 27, 182, 0, 247, 172]
abbrev dktX5_days_1 : List UInt8 := dkwX5_days_1 ++ []
def dkwX5_days_0 : List UInt8 := [42, 27, 184, 0, 244, 153, 0, 7, 3, 167, 0, 4, 4, 181, 0, 58, 42, 180, 0, 58, 158, 0, 7, 3]
abbrev dktX5_days_0 : List UInt8 := dkwX5_days_0 ++ dktX5_days_1
theorem dksX5_days_0 : cX5_days.data.toList.drop 0 = dktX5_days_0 := by decide +kernel
theorem dksX5_days_1 : cX5_days.data.toList.drop 24 = dktX5_days_1 := dk_seg dksX5_days_0 24 rfl rfl
theorem dX5_days_0 : decode cX5_days 0 = .ok (.aload_n 0, 1) := dk_42 (dk_at dksX5_days_0 0 rfl rfl)
theorem dX5_days_1 : decode cX5_days 1 = .ok (.iload_n 1, 1) := dk_27 (dk_at dksX5_days_0 1 rfl rfl)
theorem dX5_days_2 : decode cX5_days 2 = .ok (.invokestatic 244, 3) := dk_184 0 244 (dk_at dksX5_days_0 2 rfl rfl)
theorem dX5_days_5 : decode cX5_days 5 = .ok (.ifCond .eq 7, 3) := dk_153 0 7 (dk_at dksX5_days_0 5 rfl rfl)
theorem dX5_days_8 : decode cX5_days 8 = .ok (.iconst 0, 1) := dk_3 (dk_at dksX5_days_0 8 rfl rfl)
theorem dX5_days_9 : decode cX5_days 9 = .ok (.goto 4, 3) := dk_167 0 4 (dk_at dksX5_days_0 9 rfl rfl)
theorem dX5_days_12 : decode cX5_days 12 = .ok (.iconst 1, 1) := dk_4 (dk_at dksX5_days_0 12 rfl rfl)
theorem dX5_days_13 : decode cX5_days 13 = .ok (.putfield 58, 3) := dk_181 0 58 (dk_at dksX5_days_0 13 rfl rfl)
theorem dX5_days_16 : decode cX5_days 16 = .ok (.aload_n 0, 1) := dk_42 (dk_at dksX5_days_0 16 rfl rfl)
theorem dX5_days_17 : decode cX5_days 17 = .ok (.getfield 58, 3) := dk_180 0 58 (dk_at dksX5_days_0 17 rfl rfl)
theorem dX5_days_20 : decode cX5_days 20 = .ok (.ifCond .le 7, 3) := dk_158 0 7 (dk_at dksX5_days_0 20 rfl rfl)
theorem dX5_days_23 : decode cX5_days 23 = .ok (.iconst 0, 1) := dk_3 (dk_at dksX5_days_0 23 rfl rfl)
theorem dX5_days_24 : decode cX5_days 24 = .ok (.goto 8, 3) := dk_167 0 8 (dk_at dksX5_days_1 0 rfl rfl)
theorem dX5_days_27 : decode cX5_days 27 = .ok (.aload_n 0, 1) := dk_42 (dk_at dksX5_days_1 3 rfl rfl)
theorem dX5_days_28 : decode cX5_days 28 = .ok (.iload_n 1, 1) := dk_27 (dk_at dksX5_days_1 4 rfl rfl)
theorem dX5_days_29 : decode cX5_days 29 = .ok (.invokevirtual 247, 3) := dk_182 0 247 (dk_at dksX5_days_1 5 rfl rfl)
theorem dX5_days_32 : decode cX5_days 32 = .ok (.ireturn, 1) := dk_172 (dk_at dksX5_days_1 8 rfl rfl)
abbrev cX5_areDays : ByteArray := prog_14_method_83_code
def yX5_areDays : MethodName := ⟨RX5, "areDays", "(I)Z"⟩
def dkwX5_areDays_0 : List UInt8 := [26, 4, 16, 60, 184, 0, 179, 172]
abbrev dktX5_areDays_0 : List UInt8 := dkwX5_areDays_0 ++ []
theorem dksX5_areDays_0 : cX5_areDays.data.toList.drop 0 = dktX5_areDays_0 := by decide +kernel
theorem dX5_areDays_0 : decode cX5_areDays 0 = .ok (.iload_n 0, 1) := dk_26 (dk_at dksX5_areDays_0 0 rfl rfl)
theorem dX5_areDays_1 : decode cX5_areDays 1 = .ok (.iconst 1, 1) := dk_4 (dk_at dksX5_areDays_0 1 rfl rfl)
theorem dX5_areDays_2 : decode cX5_areDays 2 = .ok (.bipush 60, 2) := dk_16 60 (dk_at dksX5_areDays_0 2 rfl rfl)
theorem dX5_areDays_4 : decode cX5_areDays 4 = .ok (.invokestatic 179, 3) := dk_184 0 179 (dk_at dksX5_areDays_0 4 rfl rfl)
theorem dX5_areDays_7 : decode cX5_areDays 7 = .ok (.ireturn, 1) := dk_172 (dk_at dksX5_areDays_0 7 rfl rfl)
abbrev cX5_actsDays : ByteArray := prog_14_method_43_code
def yX5_actsDays : MethodName := ⟨RX5, "actsDays", "(I)I"⟩
def dkwX5_actsDays_1 : List UInt8 := [27, 182, 0, 176, 28, 172]
abbrev dktX5_actsDays_1 : List UInt8 := dkwX5_actsDays_1 ++ []
def dkwX5_actsDays_0 : List UInt8 := [42, 182, 0, 153, 153, 0, 10, 42, 16, 7, 182, 0, 160, 172, 42, 7, 27, 2, 2, 182, 0, 163, 61, 42]
abbrev dktX5_actsDays_0 : List UInt8 := dkwX5_actsDays_0 ++ dktX5_actsDays_1
theorem dksX5_actsDays_0 : cX5_actsDays.data.toList.drop 0 = dktX5_actsDays_0 := by decide +kernel
theorem dksX5_actsDays_1 : cX5_actsDays.data.toList.drop 24 = dktX5_actsDays_1 := dk_seg dksX5_actsDays_0 24 rfl rfl
theorem dX5_actsDays_0 : decode cX5_actsDays 0 = .ok (.aload_n 0, 1) := dk_42 (dk_at dksX5_actsDays_0 0 rfl rfl)
theorem dX5_actsDays_1 : decode cX5_actsDays 1 = .ok (.invokevirtual 153, 3) := dk_182 0 153 (dk_at dksX5_actsDays_0 1 rfl rfl)
theorem dX5_actsDays_4 : decode cX5_actsDays 4 = .ok (.ifCond .eq 10, 3) := dk_153 0 10 (dk_at dksX5_actsDays_0 4 rfl rfl)
theorem dX5_actsDays_7 : decode cX5_actsDays 7 = .ok (.aload_n 0, 1) := dk_42 (dk_at dksX5_actsDays_0 7 rfl rfl)
theorem dX5_actsDays_8 : decode cX5_actsDays 8 = .ok (.bipush 7, 2) := dk_16 7 (dk_at dksX5_actsDays_0 8 rfl rfl)
theorem dX5_actsDays_10 : decode cX5_actsDays 10 = .ok (.invokevirtual 160, 3) := dk_182 0 160 (dk_at dksX5_actsDays_0 10 rfl rfl)
theorem dX5_actsDays_13 : decode cX5_actsDays 13 = .ok (.ireturn, 1) := dk_172 (dk_at dksX5_actsDays_0 13 rfl rfl)
theorem dX5_actsDays_14 : decode cX5_actsDays 14 = .ok (.aload_n 0, 1) := dk_42 (dk_at dksX5_actsDays_0 14 rfl rfl)
theorem dX5_actsDays_15 : decode cX5_actsDays 15 = .ok (.iconst 4, 1) := dk_7 (dk_at dksX5_actsDays_0 15 rfl rfl)
theorem dX5_actsDays_16 : decode cX5_actsDays 16 = .ok (.iload_n 1, 1) := dk_27 (dk_at dksX5_actsDays_0 16 rfl rfl)
theorem dX5_actsDays_17 : decode cX5_actsDays 17 = .ok (.iconst (-1), 1) := dk_2 (dk_at dksX5_actsDays_0 17 rfl rfl)
theorem dX5_actsDays_18 : decode cX5_actsDays 18 = .ok (.iconst (-1), 1) := dk_2 (dk_at dksX5_actsDays_0 18 rfl rfl)
theorem dX5_actsDays_19 : decode cX5_actsDays 19 = .ok (.invokevirtual 163, 3) := dk_182 0 163 (dk_at dksX5_actsDays_0 19 rfl rfl)
theorem dX5_actsDays_22 : decode cX5_actsDays 22 = .ok (.istore_n 2, 1) := dk_61 (dk_at dksX5_actsDays_0 22 rfl rfl)
theorem dX5_actsDays_23 : decode cX5_actsDays 23 = .ok (.aload_n 0, 1) := dk_42 (dk_at dksX5_actsDays_0 23 rfl rfl)
theorem dX5_actsDays_24 : decode cX5_actsDays 24 = .ok (.iload_n 1, 1) := dk_27 (dk_at dksX5_actsDays_1 0 rfl rfl)
theorem dX5_actsDays_25 : decode cX5_actsDays 25 = .ok (.invokevirtual 176, 3) := dk_182 0 176 (dk_at dksX5_actsDays_1 1 rfl rfl)
theorem dX5_actsDays_28 : decode cX5_actsDays 28 = .ok (.iload_n 2, 1) := dk_28 (dk_at dksX5_actsDays_1 4 rfl rfl)
theorem dX5_actsDays_29 : decode cX5_actsDays 29 = .ok (.ireturn, 1) := dk_172 (dk_at dksX5_actsDays_1 5 rfl rfl)
abbrev cX5_place : ByteArray := prog_14_method_85_code
def yX5_place : MethodName := ⟨RX5, "place", "(II)I"⟩
def dkwX5_place_2 : List UInt8 := [180, 0, 7, 5, 46, 108, 28, 2, 182, 0, 125, 172]
abbrev dktX5_place_2 : List UInt8 := dkwX5_place_2 ++ []
def dkwX5_place_1 : List UInt8 := [3, 172, 42, 42, 180, 0, 7, 16, 6, 46, 42, 42, 182, 0, 117, 27, 28, 182, 0, 89, 96, 42]
abbrev dktX5_place_1 : List UInt8 := dkwX5_place_1 ++ dktX5_place_2
def dkwX5_place_0 : List UInt8 := [42, 27, 28, 184, 0, 213, 153, 0, 7, 3, 167, 0, 4, 4, 181, 0, 58, 42, 180, 0, 58, 158, 0, 5]
abbrev dktX5_place_0 : List UInt8 := dkwX5_place_0 ++ dktX5_place_1
theorem dksX5_place_0 : cX5_place.data.toList.drop 0 = dktX5_place_0 := by decide +kernel
theorem dksX5_place_1 : cX5_place.data.toList.drop 24 = dktX5_place_1 := dk_seg dksX5_place_0 24 rfl rfl
theorem dksX5_place_2 : cX5_place.data.toList.drop 46 = dktX5_place_2 := dk_seg dksX5_place_1 22 rfl rfl
theorem dX5_place_0 : decode cX5_place 0 = .ok (.aload_n 0, 1) := dk_42 (dk_at dksX5_place_0 0 rfl rfl)
theorem dX5_place_1 : decode cX5_place 1 = .ok (.iload_n 1, 1) := dk_27 (dk_at dksX5_place_0 1 rfl rfl)
theorem dX5_place_2 : decode cX5_place 2 = .ok (.iload_n 2, 1) := dk_28 (dk_at dksX5_place_0 2 rfl rfl)
theorem dX5_place_3 : decode cX5_place 3 = .ok (.invokestatic 213, 3) := dk_184 0 213 (dk_at dksX5_place_0 3 rfl rfl)
theorem dX5_place_6 : decode cX5_place 6 = .ok (.ifCond .eq 7, 3) := dk_153 0 7 (dk_at dksX5_place_0 6 rfl rfl)
theorem dX5_place_9 : decode cX5_place 9 = .ok (.iconst 0, 1) := dk_3 (dk_at dksX5_place_0 9 rfl rfl)
theorem dX5_place_10 : decode cX5_place 10 = .ok (.goto 4, 3) := dk_167 0 4 (dk_at dksX5_place_0 10 rfl rfl)
theorem dX5_place_13 : decode cX5_place 13 = .ok (.iconst 1, 1) := dk_4 (dk_at dksX5_place_0 13 rfl rfl)
theorem dX5_place_14 : decode cX5_place 14 = .ok (.putfield 58, 3) := dk_181 0 58 (dk_at dksX5_place_0 14 rfl rfl)
theorem dX5_place_17 : decode cX5_place 17 = .ok (.aload_n 0, 1) := dk_42 (dk_at dksX5_place_0 17 rfl rfl)
theorem dX5_place_18 : decode cX5_place 18 = .ok (.getfield 58, 3) := dk_180 0 58 (dk_at dksX5_place_0 18 rfl rfl)
theorem dX5_place_21 : decode cX5_place 21 = .ok (.ifCond .le 5, 3) := dk_158 0 5 (dk_at dksX5_place_0 21 rfl rfl)
theorem dX5_place_24 : decode cX5_place 24 = .ok (.iconst 0, 1) := dk_3 (dk_at dksX5_place_1 0 rfl rfl)
theorem dX5_place_25 : decode cX5_place 25 = .ok (.ireturn, 1) := dk_172 (dk_at dksX5_place_1 1 rfl rfl)
theorem dX5_place_26 : decode cX5_place 26 = .ok (.aload_n 0, 1) := dk_42 (dk_at dksX5_place_1 2 rfl rfl)
theorem dX5_place_27 : decode cX5_place 27 = .ok (.aload_n 0, 1) := dk_42 (dk_at dksX5_place_1 3 rfl rfl)
theorem dX5_place_28 : decode cX5_place 28 = .ok (.getfield 7, 3) := dk_180 0 7 (dk_at dksX5_place_1 4 rfl rfl)
theorem dX5_place_31 : decode cX5_place 31 = .ok (.bipush 6, 2) := dk_16 6 (dk_at dksX5_place_1 7 rfl rfl)
theorem dX5_place_33 : decode cX5_place 33 = .ok (.iaload, 1) := dk_46 (dk_at dksX5_place_1 9 rfl rfl)
theorem dX5_place_34 : decode cX5_place 34 = .ok (.aload_n 0, 1) := dk_42 (dk_at dksX5_place_1 10 rfl rfl)
theorem dX5_place_35 : decode cX5_place 35 = .ok (.aload_n 0, 1) := dk_42 (dk_at dksX5_place_1 11 rfl rfl)
theorem dX5_place_36 : decode cX5_place 36 = .ok (.invokevirtual 117, 3) := dk_182 0 117 (dk_at dksX5_place_1 12 rfl rfl)
theorem dX5_place_39 : decode cX5_place 39 = .ok (.iload_n 1, 1) := dk_27 (dk_at dksX5_place_1 15 rfl rfl)
theorem dX5_place_40 : decode cX5_place 40 = .ok (.iload_n 2, 1) := dk_28 (dk_at dksX5_place_1 16 rfl rfl)
theorem dX5_place_41 : decode cX5_place 41 = .ok (.invokevirtual 89, 3) := dk_182 0 89 (dk_at dksX5_place_1 17 rfl rfl)
theorem dX5_place_44 : decode cX5_place 44 = .ok (.iadd, 1) := dk_96 (dk_at dksX5_place_1 20 rfl rfl)
theorem dX5_place_45 : decode cX5_place 45 = .ok (.aload_n 0, 1) := dk_42 (dk_at dksX5_place_1 21 rfl rfl)
theorem dX5_place_46 : decode cX5_place 46 = .ok (.getfield 7, 3) := dk_180 0 7 (dk_at dksX5_place_2 0 rfl rfl)
theorem dX5_place_49 : decode cX5_place 49 = .ok (.iconst 2, 1) := dk_5 (dk_at dksX5_place_2 3 rfl rfl)
theorem dX5_place_50 : decode cX5_place 50 = .ok (.iaload, 1) := dk_46 (dk_at dksX5_place_2 4 rfl rfl)
theorem dX5_place_51 : decode cX5_place 51 = .ok (.idiv, 1) := dk_108 (dk_at dksX5_place_2 5 rfl rfl)
theorem dX5_place_52 : decode cX5_place 52 = .ok (.iload_n 2, 1) := dk_28 (dk_at dksX5_place_2 6 rfl rfl)
theorem dX5_place_53 : decode cX5_place 53 = .ok (.iconst (-1), 1) := dk_2 (dk_at dksX5_place_2 7 rfl rfl)
theorem dX5_place_54 : decode cX5_place 54 = .ok (.invokevirtual 125, 3) := dk_182 0 125 (dk_at dksX5_place_2 8 rfl rfl)
theorem dX5_place_57 : decode cX5_place 57 = .ok (.ireturn, 1) := dk_172 (dk_at dksX5_place_2 11 rfl rfl)
abbrev cX5_toBury : ByteArray := prog_14_method_87_code
def yX5_toBury : MethodName := ⟨RX5, "toBury", "(I)I"⟩
def dkwX5_toBury_1 : List UInt8 := [3, 167, 0, 8, 42, 27, 182, 0, 173, 172]
abbrev dktX5_toBury_1 : List UInt8 := dkwX5_toBury_1 ++ []
def dkwX5_toBury_0 : List UInt8 := [42, 42, 27, 182, 0, 201, 153, 0, 7, 3, 167, 0, 4, 4, 181, 0, 58, 42, 180, 0, 58, 158, 0, 7]
abbrev dktX5_toBury_0 : List UInt8 := dkwX5_toBury_0 ++ dktX5_toBury_1
theorem dksX5_toBury_0 : cX5_toBury.data.toList.drop 0 = dktX5_toBury_0 := by decide +kernel
theorem dksX5_toBury_1 : cX5_toBury.data.toList.drop 24 = dktX5_toBury_1 := dk_seg dksX5_toBury_0 24 rfl rfl
theorem dX5_toBury_0 : decode cX5_toBury 0 = .ok (.aload_n 0, 1) := dk_42 (dk_at dksX5_toBury_0 0 rfl rfl)
theorem dX5_toBury_1 : decode cX5_toBury 1 = .ok (.aload_n 0, 1) := dk_42 (dk_at dksX5_toBury_0 1 rfl rfl)
theorem dX5_toBury_2 : decode cX5_toBury 2 = .ok (.iload_n 1, 1) := dk_27 (dk_at dksX5_toBury_0 2 rfl rfl)
theorem dX5_toBury_3 : decode cX5_toBury 3 = .ok (.invokevirtual 201, 3) := dk_182 0 201 (dk_at dksX5_toBury_0 3 rfl rfl)
theorem dX5_toBury_6 : decode cX5_toBury 6 = .ok (.ifCond .eq 7, 3) := dk_153 0 7 (dk_at dksX5_toBury_0 6 rfl rfl)
theorem dX5_toBury_9 : decode cX5_toBury 9 = .ok (.iconst 0, 1) := dk_3 (dk_at dksX5_toBury_0 9 rfl rfl)
theorem dX5_toBury_10 : decode cX5_toBury 10 = .ok (.goto 4, 3) := dk_167 0 4 (dk_at dksX5_toBury_0 10 rfl rfl)
theorem dX5_toBury_13 : decode cX5_toBury 13 = .ok (.iconst 1, 1) := dk_4 (dk_at dksX5_toBury_0 13 rfl rfl)
theorem dX5_toBury_14 : decode cX5_toBury 14 = .ok (.putfield 58, 3) := dk_181 0 58 (dk_at dksX5_toBury_0 14 rfl rfl)
theorem dX5_toBury_17 : decode cX5_toBury 17 = .ok (.aload_n 0, 1) := dk_42 (dk_at dksX5_toBury_0 17 rfl rfl)
theorem dX5_toBury_18 : decode cX5_toBury 18 = .ok (.getfield 58, 3) := dk_180 0 58 (dk_at dksX5_toBury_0 18 rfl rfl)
theorem dX5_toBury_21 : decode cX5_toBury 21 = .ok (.ifCond .le 7, 3) := dk_158 0 7 (dk_at dksX5_toBury_0 21 rfl rfl)
theorem dX5_toBury_24 : decode cX5_toBury 24 = .ok (.iconst 0, 1) := dk_3 (dk_at dksX5_toBury_1 0 rfl rfl)
theorem dX5_toBury_25 : decode cX5_toBury 25 = .ok (.goto 8, 3) := dk_167 0 8 (dk_at dksX5_toBury_1 1 rfl rfl)
theorem dX5_toBury_28 : decode cX5_toBury 28 = .ok (.aload_n 0, 1) := dk_42 (dk_at dksX5_toBury_1 4 rfl rfl)
theorem dX5_toBury_29 : decode cX5_toBury 29 = .ok (.iload_n 1, 1) := dk_27 (dk_at dksX5_toBury_1 5 rfl rfl)
theorem dX5_toBury_30 : decode cX5_toBury 30 = .ok (.invokevirtual 173, 3) := dk_182 0 173 (dk_at dksX5_toBury_1 6 rfl rfl)
theorem dX5_toBury_33 : decode cX5_toBury 33 = .ok (.ireturn, 1) := dk_172 (dk_at dksX5_toBury_1 9 rfl rfl)
abbrev cX5_ahead : ByteArray := prog_14_method_88_code
def yX5_ahead : MethodName := ⟨RX5, "ahead", "(II)I"⟩
def dkwX5_ahead_4 : List UInt8 := [180, 0, 13, 29, 46, 100, 54, 4, 42, 180, 0, 13, 3, 42, 180, 0, 7, 3, 184, 0, 110, 21, 4, 172]
abbrev dktX5_ahead_4 : List UInt8 := dkwX5_ahead_4 ++ []
def dkwX5_ahead_3 : List UInt8 := [167, 0, 15, 28, 5, 160, 0, 8, 16, 12, 167, 0, 5, 16, 10, 62, 42, 180, 0, 7, 29, 46, 42]
abbrev dktX5_ahead_3 : List UInt8 := dkwX5_ahead_3 ++ dktX5_ahead_4
def dkwX5_ahead_2 : List UInt8 := [184, 0, 110, 42, 27, 182, 0, 176, 28, 154, 0, 8, 16, 8, 167, 0, 25, 28, 4, 160, 0, 8, 16, 9]
abbrev dktX5_ahead_2 : List UInt8 := dkwX5_ahead_2 ++ dktX5_ahead_3
def dkwX5_ahead_1 : List UInt8 := [181, 0, 58, 42, 180, 0, 58, 158, 0, 5, 3, 172, 42, 180, 0, 7, 3, 42, 180, 0, 13, 3]
abbrev dktX5_ahead_1 : List UInt8 := dkwX5_ahead_1 ++ dktX5_ahead_2
def dkwX5_ahead_0 : List UInt8 := [42, 27, 184, 0, 244, 153, 0, 16, 28, 3, 6, 184, 0, 179, 153, 0, 7, 3, 167, 0, 4, 4]
abbrev dktX5_ahead_0 : List UInt8 := dkwX5_ahead_0 ++ dktX5_ahead_1
theorem dksX5_ahead_0 : cX5_ahead.data.toList.drop 0 = dktX5_ahead_0 := by decide +kernel
theorem dksX5_ahead_1 : cX5_ahead.data.toList.drop 22 = dktX5_ahead_1 := dk_seg dksX5_ahead_0 22 rfl rfl
theorem dksX5_ahead_2 : cX5_ahead.data.toList.drop 44 = dktX5_ahead_2 := dk_seg dksX5_ahead_1 22 rfl rfl
theorem dksX5_ahead_3 : cX5_ahead.data.toList.drop 68 = dktX5_ahead_3 := dk_seg dksX5_ahead_2 24 rfl rfl
theorem dksX5_ahead_4 : cX5_ahead.data.toList.drop 91 = dktX5_ahead_4 := dk_seg dksX5_ahead_3 23 rfl rfl
theorem dX5_ahead_0 : decode cX5_ahead 0 = .ok (.aload_n 0, 1) := dk_42 (dk_at dksX5_ahead_0 0 rfl rfl)
theorem dX5_ahead_1 : decode cX5_ahead 1 = .ok (.iload_n 1, 1) := dk_27 (dk_at dksX5_ahead_0 1 rfl rfl)
theorem dX5_ahead_2 : decode cX5_ahead 2 = .ok (.invokestatic 244, 3) := dk_184 0 244 (dk_at dksX5_ahead_0 2 rfl rfl)
theorem dX5_ahead_5 : decode cX5_ahead 5 = .ok (.ifCond .eq 16, 3) := dk_153 0 16 (dk_at dksX5_ahead_0 5 rfl rfl)
theorem dX5_ahead_8 : decode cX5_ahead 8 = .ok (.iload_n 2, 1) := dk_28 (dk_at dksX5_ahead_0 8 rfl rfl)
theorem dX5_ahead_9 : decode cX5_ahead 9 = .ok (.iconst 0, 1) := dk_3 (dk_at dksX5_ahead_0 9 rfl rfl)
theorem dX5_ahead_10 : decode cX5_ahead 10 = .ok (.iconst 3, 1) := dk_6 (dk_at dksX5_ahead_0 10 rfl rfl)
theorem dX5_ahead_11 : decode cX5_ahead 11 = .ok (.invokestatic 179, 3) := dk_184 0 179 (dk_at dksX5_ahead_0 11 rfl rfl)
theorem dX5_ahead_14 : decode cX5_ahead 14 = .ok (.ifCond .eq 7, 3) := dk_153 0 7 (dk_at dksX5_ahead_0 14 rfl rfl)
theorem dX5_ahead_17 : decode cX5_ahead 17 = .ok (.iconst 0, 1) := dk_3 (dk_at dksX5_ahead_0 17 rfl rfl)
theorem dX5_ahead_18 : decode cX5_ahead 18 = .ok (.goto 4, 3) := dk_167 0 4 (dk_at dksX5_ahead_0 18 rfl rfl)
theorem dX5_ahead_21 : decode cX5_ahead 21 = .ok (.iconst 1, 1) := dk_4 (dk_at dksX5_ahead_0 21 rfl rfl)
theorem dX5_ahead_22 : decode cX5_ahead 22 = .ok (.putfield 58, 3) := dk_181 0 58 (dk_at dksX5_ahead_1 0 rfl rfl)
theorem dX5_ahead_25 : decode cX5_ahead 25 = .ok (.aload_n 0, 1) := dk_42 (dk_at dksX5_ahead_1 3 rfl rfl)
theorem dX5_ahead_26 : decode cX5_ahead 26 = .ok (.getfield 58, 3) := dk_180 0 58 (dk_at dksX5_ahead_1 4 rfl rfl)
theorem dX5_ahead_29 : decode cX5_ahead 29 = .ok (.ifCond .le 5, 3) := dk_158 0 5 (dk_at dksX5_ahead_1 7 rfl rfl)
theorem dX5_ahead_32 : decode cX5_ahead 32 = .ok (.iconst 0, 1) := dk_3 (dk_at dksX5_ahead_1 10 rfl rfl)
theorem dX5_ahead_33 : decode cX5_ahead 33 = .ok (.ireturn, 1) := dk_172 (dk_at dksX5_ahead_1 11 rfl rfl)
theorem dX5_ahead_34 : decode cX5_ahead 34 = .ok (.aload_n 0, 1) := dk_42 (dk_at dksX5_ahead_1 12 rfl rfl)
theorem dX5_ahead_35 : decode cX5_ahead 35 = .ok (.getfield 7, 3) := dk_180 0 7 (dk_at dksX5_ahead_1 13 rfl rfl)
theorem dX5_ahead_38 : decode cX5_ahead 38 = .ok (.iconst 0, 1) := dk_3 (dk_at dksX5_ahead_1 16 rfl rfl)
theorem dX5_ahead_39 : decode cX5_ahead 39 = .ok (.aload_n 0, 1) := dk_42 (dk_at dksX5_ahead_1 17 rfl rfl)
theorem dX5_ahead_40 : decode cX5_ahead 40 = .ok (.getfield 13, 3) := dk_180 0 13 (dk_at dksX5_ahead_1 18 rfl rfl)
theorem dX5_ahead_43 : decode cX5_ahead 43 = .ok (.iconst 0, 1) := dk_3 (dk_at dksX5_ahead_1 21 rfl rfl)
theorem dX5_ahead_44 : decode cX5_ahead 44 = .ok (.invokestatic 110, 3) := dk_184 0 110 (dk_at dksX5_ahead_2 0 rfl rfl)
theorem dX5_ahead_47 : decode cX5_ahead 47 = .ok (.aload_n 0, 1) := dk_42 (dk_at dksX5_ahead_2 3 rfl rfl)
theorem dX5_ahead_48 : decode cX5_ahead 48 = .ok (.iload_n 1, 1) := dk_27 (dk_at dksX5_ahead_2 4 rfl rfl)
theorem dX5_ahead_49 : decode cX5_ahead 49 = .ok (.invokevirtual 176, 3) := dk_182 0 176 (dk_at dksX5_ahead_2 5 rfl rfl)
theorem dX5_ahead_52 : decode cX5_ahead 52 = .ok (.iload_n 2, 1) := dk_28 (dk_at dksX5_ahead_2 8 rfl rfl)
theorem dX5_ahead_53 : decode cX5_ahead 53 = .ok (.ifCond .ne 8, 3) := dk_154 0 8 (dk_at dksX5_ahead_2 9 rfl rfl)
theorem dX5_ahead_56 : decode cX5_ahead 56 = .ok (.bipush 8, 2) := dk_16 8 (dk_at dksX5_ahead_2 12 rfl rfl)
theorem dX5_ahead_58 : decode cX5_ahead 58 = .ok (.goto 25, 3) := dk_167 0 25 (dk_at dksX5_ahead_2 14 rfl rfl)
theorem dX5_ahead_61 : decode cX5_ahead 61 = .ok (.iload_n 2, 1) := dk_28 (dk_at dksX5_ahead_2 17 rfl rfl)
theorem dX5_ahead_62 : decode cX5_ahead 62 = .ok (.iconst 1, 1) := dk_4 (dk_at dksX5_ahead_2 18 rfl rfl)
theorem dX5_ahead_63 : decode cX5_ahead 63 = .ok (.if_icmp .ne 8, 3) := dk_160 0 8 (dk_at dksX5_ahead_2 19 rfl rfl)
theorem dX5_ahead_66 : decode cX5_ahead 66 = .ok (.bipush 9, 2) := dk_16 9 (dk_at dksX5_ahead_2 22 rfl rfl)
theorem dX5_ahead_68 : decode cX5_ahead 68 = .ok (.goto 15, 3) := dk_167 0 15 (dk_at dksX5_ahead_3 0 rfl rfl)
theorem dX5_ahead_71 : decode cX5_ahead 71 = .ok (.iload_n 2, 1) := dk_28 (dk_at dksX5_ahead_3 3 rfl rfl)
theorem dX5_ahead_72 : decode cX5_ahead 72 = .ok (.iconst 2, 1) := dk_5 (dk_at dksX5_ahead_3 4 rfl rfl)
theorem dX5_ahead_73 : decode cX5_ahead 73 = .ok (.if_icmp .ne 8, 3) := dk_160 0 8 (dk_at dksX5_ahead_3 5 rfl rfl)
theorem dX5_ahead_76 : decode cX5_ahead 76 = .ok (.bipush 12, 2) := dk_16 12 (dk_at dksX5_ahead_3 8 rfl rfl)
theorem dX5_ahead_78 : decode cX5_ahead 78 = .ok (.goto 5, 3) := dk_167 0 5 (dk_at dksX5_ahead_3 10 rfl rfl)
theorem dX5_ahead_81 : decode cX5_ahead 81 = .ok (.bipush 10, 2) := dk_16 10 (dk_at dksX5_ahead_3 13 rfl rfl)
theorem dX5_ahead_83 : decode cX5_ahead 83 = .ok (.istore_n 3, 1) := dk_62 (dk_at dksX5_ahead_3 15 rfl rfl)
theorem dX5_ahead_84 : decode cX5_ahead 84 = .ok (.aload_n 0, 1) := dk_42 (dk_at dksX5_ahead_3 16 rfl rfl)
theorem dX5_ahead_85 : decode cX5_ahead 85 = .ok (.getfield 7, 3) := dk_180 0 7 (dk_at dksX5_ahead_3 17 rfl rfl)
theorem dX5_ahead_88 : decode cX5_ahead 88 = .ok (.iload_n 3, 1) := dk_29 (dk_at dksX5_ahead_3 20 rfl rfl)
theorem dX5_ahead_89 : decode cX5_ahead 89 = .ok (.iaload, 1) := dk_46 (dk_at dksX5_ahead_3 21 rfl rfl)
theorem dX5_ahead_90 : decode cX5_ahead 90 = .ok (.aload_n 0, 1) := dk_42 (dk_at dksX5_ahead_3 22 rfl rfl)
theorem dX5_ahead_91 : decode cX5_ahead 91 = .ok (.getfield 13, 3) := dk_180 0 13 (dk_at dksX5_ahead_4 0 rfl rfl)
theorem dX5_ahead_94 : decode cX5_ahead 94 = .ok (.iload_n 3, 1) := dk_29 (dk_at dksX5_ahead_4 3 rfl rfl)
theorem dX5_ahead_95 : decode cX5_ahead 95 = .ok (.iaload, 1) := dk_46 (dk_at dksX5_ahead_4 4 rfl rfl)
theorem dX5_ahead_96 : decode cX5_ahead 96 = .ok (.isub, 1) := dk_100 (dk_at dksX5_ahead_4 5 rfl rfl)
theorem dX5_ahead_97 : decode cX5_ahead 97 = .ok (.istore 4, 2) := dk_54 4 (dk_at dksX5_ahead_4 6 rfl rfl)
theorem dX5_ahead_99 : decode cX5_ahead 99 = .ok (.aload_n 0, 1) := dk_42 (dk_at dksX5_ahead_4 8 rfl rfl)
theorem dX5_ahead_100 : decode cX5_ahead 100 = .ok (.getfield 13, 3) := dk_180 0 13 (dk_at dksX5_ahead_4 9 rfl rfl)
theorem dX5_ahead_103 : decode cX5_ahead 103 = .ok (.iconst 0, 1) := dk_3 (dk_at dksX5_ahead_4 12 rfl rfl)
theorem dX5_ahead_104 : decode cX5_ahead 104 = .ok (.aload_n 0, 1) := dk_42 (dk_at dksX5_ahead_4 13 rfl rfl)
theorem dX5_ahead_105 : decode cX5_ahead 105 = .ok (.getfield 7, 3) := dk_180 0 7 (dk_at dksX5_ahead_4 14 rfl rfl)
theorem dX5_ahead_108 : decode cX5_ahead 108 = .ok (.iconst 0, 1) := dk_3 (dk_at dksX5_ahead_4 17 rfl rfl)
theorem dX5_ahead_109 : decode cX5_ahead 109 = .ok (.invokestatic 110, 3) := dk_184 0 110 (dk_at dksX5_ahead_4 18 rfl rfl)
theorem dX5_ahead_112 : decode cX5_ahead 112 = .ok (.iload 4, 2) := dk_21 4 (dk_at dksX5_ahead_4 21 rfl rfl)
theorem dX5_ahead_114 : decode cX5_ahead 114 = .ok (.ireturn, 1) := dk_172 (dk_at dksX5_ahead_4 23 rfl rfl)
abbrev cX5_anew : ByteArray := prog_14_method_94_code
def yX5_anew : MethodName := ⟨RX5, "anew", "(II)I"⟩
def dkwX5_anew_2 : List UInt8 := [42, 180, 0, 13, 3, 42, 180, 0, 7, 3, 184, 0, 110, 29, 172]
abbrev dktX5_anew_2 : List UInt8 := dkwX5_anew_2 ++ []
def dkwX5_anew_1 : List UInt8 := [4, 181, 0, 58, 42, 180, 0, 58, 158, 0, 5, 3, 172, 42, 27, 182, 0, 223, 42, 28, 182, 0, 226, 62]
abbrev dktX5_anew_1 : List UInt8 := dkwX5_anew_1 ++ dktX5_anew_2
def dkwX5_anew_0 : List UInt8 := [42, 27, 3, 16, 6, 184, 0, 179, 153, 0, 16, 28, 3, 8, 184, 0, 179, 153, 0, 7, 3, 167, 0, 4]
abbrev dktX5_anew_0 : List UInt8 := dkwX5_anew_0 ++ dktX5_anew_1
theorem dksX5_anew_0 : cX5_anew.data.toList.drop 0 = dktX5_anew_0 := by decide +kernel
theorem dksX5_anew_1 : cX5_anew.data.toList.drop 24 = dktX5_anew_1 := dk_seg dksX5_anew_0 24 rfl rfl
theorem dksX5_anew_2 : cX5_anew.data.toList.drop 48 = dktX5_anew_2 := dk_seg dksX5_anew_1 24 rfl rfl
theorem dX5_anew_0 : decode cX5_anew 0 = .ok (.aload_n 0, 1) := dk_42 (dk_at dksX5_anew_0 0 rfl rfl)
theorem dX5_anew_1 : decode cX5_anew 1 = .ok (.iload_n 1, 1) := dk_27 (dk_at dksX5_anew_0 1 rfl rfl)
theorem dX5_anew_2 : decode cX5_anew 2 = .ok (.iconst 0, 1) := dk_3 (dk_at dksX5_anew_0 2 rfl rfl)
theorem dX5_anew_3 : decode cX5_anew 3 = .ok (.bipush 6, 2) := dk_16 6 (dk_at dksX5_anew_0 3 rfl rfl)
theorem dX5_anew_5 : decode cX5_anew 5 = .ok (.invokestatic 179, 3) := dk_184 0 179 (dk_at dksX5_anew_0 5 rfl rfl)
theorem dX5_anew_8 : decode cX5_anew 8 = .ok (.ifCond .eq 16, 3) := dk_153 0 16 (dk_at dksX5_anew_0 8 rfl rfl)
theorem dX5_anew_11 : decode cX5_anew 11 = .ok (.iload_n 2, 1) := dk_28 (dk_at dksX5_anew_0 11 rfl rfl)
theorem dX5_anew_12 : decode cX5_anew 12 = .ok (.iconst 0, 1) := dk_3 (dk_at dksX5_anew_0 12 rfl rfl)
theorem dX5_anew_13 : decode cX5_anew 13 = .ok (.iconst 5, 1) := dk_8 (dk_at dksX5_anew_0 13 rfl rfl)
theorem dX5_anew_14 : decode cX5_anew 14 = .ok (.invokestatic 179, 3) := dk_184 0 179 (dk_at dksX5_anew_0 14 rfl rfl)
theorem dX5_anew_17 : decode cX5_anew 17 = .ok (.ifCond .eq 7, 3) := dk_153 0 7 (dk_at dksX5_anew_0 17 rfl rfl)
theorem dX5_anew_20 : decode cX5_anew 20 = .ok (.iconst 0, 1) := dk_3 (dk_at dksX5_anew_0 20 rfl rfl)
theorem dX5_anew_21 : decode cX5_anew 21 = .ok (.goto 4, 3) := dk_167 0 4 (dk_at dksX5_anew_0 21 rfl rfl)
theorem dX5_anew_24 : decode cX5_anew 24 = .ok (.iconst 1, 1) := dk_4 (dk_at dksX5_anew_1 0 rfl rfl)
theorem dX5_anew_25 : decode cX5_anew 25 = .ok (.putfield 58, 3) := dk_181 0 58 (dk_at dksX5_anew_1 1 rfl rfl)
theorem dX5_anew_28 : decode cX5_anew 28 = .ok (.aload_n 0, 1) := dk_42 (dk_at dksX5_anew_1 4 rfl rfl)
theorem dX5_anew_29 : decode cX5_anew 29 = .ok (.getfield 58, 3) := dk_180 0 58 (dk_at dksX5_anew_1 5 rfl rfl)
theorem dX5_anew_32 : decode cX5_anew 32 = .ok (.ifCond .le 5, 3) := dk_158 0 5 (dk_at dksX5_anew_1 8 rfl rfl)
theorem dX5_anew_35 : decode cX5_anew 35 = .ok (.iconst 0, 1) := dk_3 (dk_at dksX5_anew_1 11 rfl rfl)
theorem dX5_anew_36 : decode cX5_anew 36 = .ok (.ireturn, 1) := dk_172 (dk_at dksX5_anew_1 12 rfl rfl)
theorem dX5_anew_37 : decode cX5_anew 37 = .ok (.aload_n 0, 1) := dk_42 (dk_at dksX5_anew_1 13 rfl rfl)
theorem dX5_anew_38 : decode cX5_anew 38 = .ok (.iload_n 1, 1) := dk_27 (dk_at dksX5_anew_1 14 rfl rfl)
theorem dX5_anew_39 : decode cX5_anew 39 = .ok (.invokevirtual 223, 3) := dk_182 0 223 (dk_at dksX5_anew_1 15 rfl rfl)
theorem dX5_anew_42 : decode cX5_anew 42 = .ok (.aload_n 0, 1) := dk_42 (dk_at dksX5_anew_1 18 rfl rfl)
theorem dX5_anew_43 : decode cX5_anew 43 = .ok (.iload_n 2, 1) := dk_28 (dk_at dksX5_anew_1 19 rfl rfl)
theorem dX5_anew_44 : decode cX5_anew 44 = .ok (.invokevirtual 226, 3) := dk_182 0 226 (dk_at dksX5_anew_1 20 rfl rfl)
theorem dX5_anew_47 : decode cX5_anew 47 = .ok (.istore_n 3, 1) := dk_62 (dk_at dksX5_anew_1 23 rfl rfl)
theorem dX5_anew_48 : decode cX5_anew 48 = .ok (.aload_n 0, 1) := dk_42 (dk_at dksX5_anew_2 0 rfl rfl)
theorem dX5_anew_49 : decode cX5_anew 49 = .ok (.getfield 13, 3) := dk_180 0 13 (dk_at dksX5_anew_2 1 rfl rfl)
theorem dX5_anew_52 : decode cX5_anew 52 = .ok (.iconst 0, 1) := dk_3 (dk_at dksX5_anew_2 4 rfl rfl)
theorem dX5_anew_53 : decode cX5_anew 53 = .ok (.aload_n 0, 1) := dk_42 (dk_at dksX5_anew_2 5 rfl rfl)
theorem dX5_anew_54 : decode cX5_anew 54 = .ok (.getfield 7, 3) := dk_180 0 7 (dk_at dksX5_anew_2 6 rfl rfl)
theorem dX5_anew_57 : decode cX5_anew 57 = .ok (.iconst 0, 1) := dk_3 (dk_at dksX5_anew_2 9 rfl rfl)
theorem dX5_anew_58 : decode cX5_anew 58 = .ok (.invokestatic 110, 3) := dk_184 0 110 (dk_at dksX5_anew_2 10 rfl rfl)
theorem dX5_anew_61 : decode cX5_anew 61 = .ok (.iload_n 3, 1) := dk_29 (dk_at dksX5_anew_2 13 rfl rfl)
theorem dX5_anew_62 : decode cX5_anew 62 = .ok (.ireturn, 1) := dk_172 (dk_at dksX5_anew_2 14 rfl rfl)
abbrev cX5_hindsight : ByteArray := prog_14_method_95_code
def yX5_hindsight : MethodName := ⟨RX5, "hindsight", "()I"⟩
def dkwX5_hindsight_6 : List UInt8 := [27, 172]
abbrev dktX5_hindsight_6 : List UInt8 := dkwX5_hindsight_6 ++ []
def dkwX5_hindsight_5 : List UInt8 := [180, 0, 250, 54, 4, 42, 180, 0, 13, 3, 42, 180, 0, 7, 3, 184, 0, 110, 132, 5, 1, 167, 255, 133]
abbrev dktX5_hindsight_5 : List UInt8 := dkwX5_hindsight_5 ++ dktX5_hindsight_6
def dkwX5_hindsight_4 : List UInt8 := [153, 0, 28, 21, 5, 60, 42, 180, 0, 7, 16, 8, 46, 61, 42, 180, 0, 7, 16, 9, 46, 62, 42]
abbrev dktX5_hindsight_4 : List UInt8 := dkwX5_hindsight_4 ++ dktX5_hindsight_5
def dkwX5_hindsight_3 : List UInt8 := [42, 180, 0, 7, 16, 8, 46, 28, 161, 0, 19, 42, 180, 0, 7, 16, 8, 46, 28, 160, 0, 33, 21, 6]
abbrev dktX5_hindsight_3 : List UInt8 := dkwX5_hindsight_3 ++ dktX5_hindsight_4
def dkwX5_hindsight_2 : List UInt8 := [160, 0, 16, 42, 180, 0, 250, 21, 4, 162, 0, 7, 4, 167, 0, 4, 3, 54, 6, 27, 2, 159, 0, 30]
abbrev dktX5_hindsight_2 : List UInt8 := dkwX5_hindsight_2 ++ dktX5_hindsight_3
def dkwX5_hindsight_1 : List UInt8 := [21, 5, 182, 0, 223, 42, 180, 0, 7, 16, 9, 46, 29, 161, 0, 23, 42, 180, 0, 7, 16, 9, 46, 29]
abbrev dktX5_hindsight_1 : List UInt8 := dkwX5_hindsight_1 ++ dktX5_hindsight_2
def dkwX5_hindsight_0 : List UInt8 := [42, 3, 181, 0, 58, 2, 60, 3, 61, 3, 62, 3, 54, 4, 3, 54, 5, 21, 5, 8, 162, 0, 123, 42]
abbrev dktX5_hindsight_0 : List UInt8 := dkwX5_hindsight_0 ++ dktX5_hindsight_1
theorem dksX5_hindsight_0 : cX5_hindsight.data.toList.drop 0 = dktX5_hindsight_0 := by decide +kernel
theorem dksX5_hindsight_1 : cX5_hindsight.data.toList.drop 24 = dktX5_hindsight_1 := dk_seg dksX5_hindsight_0 24 rfl rfl
theorem dksX5_hindsight_2 : cX5_hindsight.data.toList.drop 48 = dktX5_hindsight_2 := dk_seg dksX5_hindsight_1 24 rfl rfl
theorem dksX5_hindsight_3 : cX5_hindsight.data.toList.drop 72 = dktX5_hindsight_3 := dk_seg dksX5_hindsight_2 24 rfl rfl
theorem dksX5_hindsight_4 : cX5_hindsight.data.toList.drop 96 = dktX5_hindsight_4 := dk_seg dksX5_hindsight_3 24 rfl rfl
theorem dksX5_hindsight_5 : cX5_hindsight.data.toList.drop 119 = dktX5_hindsight_5 := dk_seg dksX5_hindsight_4 23 rfl rfl
theorem dksX5_hindsight_6 : cX5_hindsight.data.toList.drop 143 = dktX5_hindsight_6 := dk_seg dksX5_hindsight_5 24 rfl rfl
theorem dX5_hindsight_0 : decode cX5_hindsight 0 = .ok (.aload_n 0, 1) := dk_42 (dk_at dksX5_hindsight_0 0 rfl rfl)
theorem dX5_hindsight_1 : decode cX5_hindsight 1 = .ok (.iconst 0, 1) := dk_3 (dk_at dksX5_hindsight_0 1 rfl rfl)
theorem dX5_hindsight_2 : decode cX5_hindsight 2 = .ok (.putfield 58, 3) := dk_181 0 58 (dk_at dksX5_hindsight_0 2 rfl rfl)
theorem dX5_hindsight_5 : decode cX5_hindsight 5 = .ok (.iconst (-1), 1) := dk_2 (dk_at dksX5_hindsight_0 5 rfl rfl)
theorem dX5_hindsight_6 : decode cX5_hindsight 6 = .ok (.istore_n 1, 1) := dk_60 (dk_at dksX5_hindsight_0 6 rfl rfl)
theorem dX5_hindsight_7 : decode cX5_hindsight 7 = .ok (.iconst 0, 1) := dk_3 (dk_at dksX5_hindsight_0 7 rfl rfl)
theorem dX5_hindsight_8 : decode cX5_hindsight 8 = .ok (.istore_n 2, 1) := dk_61 (dk_at dksX5_hindsight_0 8 rfl rfl)
theorem dX5_hindsight_9 : decode cX5_hindsight 9 = .ok (.iconst 0, 1) := dk_3 (dk_at dksX5_hindsight_0 9 rfl rfl)
theorem dX5_hindsight_10 : decode cX5_hindsight 10 = .ok (.istore_n 3, 1) := dk_62 (dk_at dksX5_hindsight_0 10 rfl rfl)
theorem dX5_hindsight_11 : decode cX5_hindsight 11 = .ok (.iconst 0, 1) := dk_3 (dk_at dksX5_hindsight_0 11 rfl rfl)
theorem dX5_hindsight_12 : decode cX5_hindsight 12 = .ok (.istore 4, 2) := dk_54 4 (dk_at dksX5_hindsight_0 12 rfl rfl)
theorem dX5_hindsight_14 : decode cX5_hindsight 14 = .ok (.iconst 0, 1) := dk_3 (dk_at dksX5_hindsight_0 14 rfl rfl)
theorem dX5_hindsight_15 : decode cX5_hindsight 15 = .ok (.istore 5, 2) := dk_54 5 (dk_at dksX5_hindsight_0 15 rfl rfl)
theorem dX5_hindsight_17 : decode cX5_hindsight 17 = .ok (.iload 5, 2) := dk_21 5 (dk_at dksX5_hindsight_0 17 rfl rfl)
theorem dX5_hindsight_19 : decode cX5_hindsight 19 = .ok (.iconst 5, 1) := dk_8 (dk_at dksX5_hindsight_0 19 rfl rfl)
theorem dX5_hindsight_20 : decode cX5_hindsight 20 = .ok (.if_icmp .ge 123, 3) := dk_162 0 123 (dk_at dksX5_hindsight_0 20 rfl rfl)
theorem dX5_hindsight_23 : decode cX5_hindsight 23 = .ok (.aload_n 0, 1) := dk_42 (dk_at dksX5_hindsight_0 23 rfl rfl)
theorem dX5_hindsight_24 : decode cX5_hindsight 24 = .ok (.iload 5, 2) := dk_21 5 (dk_at dksX5_hindsight_1 0 rfl rfl)
theorem dX5_hindsight_26 : decode cX5_hindsight 26 = .ok (.invokevirtual 223, 3) := dk_182 0 223 (dk_at dksX5_hindsight_1 2 rfl rfl)
theorem dX5_hindsight_29 : decode cX5_hindsight 29 = .ok (.aload_n 0, 1) := dk_42 (dk_at dksX5_hindsight_1 5 rfl rfl)
theorem dX5_hindsight_30 : decode cX5_hindsight 30 = .ok (.getfield 7, 3) := dk_180 0 7 (dk_at dksX5_hindsight_1 6 rfl rfl)
theorem dX5_hindsight_33 : decode cX5_hindsight 33 = .ok (.bipush 9, 2) := dk_16 9 (dk_at dksX5_hindsight_1 9 rfl rfl)
theorem dX5_hindsight_35 : decode cX5_hindsight 35 = .ok (.iaload, 1) := dk_46 (dk_at dksX5_hindsight_1 11 rfl rfl)
theorem dX5_hindsight_36 : decode cX5_hindsight 36 = .ok (.iload_n 3, 1) := dk_29 (dk_at dksX5_hindsight_1 12 rfl rfl)
theorem dX5_hindsight_37 : decode cX5_hindsight 37 = .ok (.if_icmp .lt 23, 3) := dk_161 0 23 (dk_at dksX5_hindsight_1 13 rfl rfl)
theorem dX5_hindsight_40 : decode cX5_hindsight 40 = .ok (.aload_n 0, 1) := dk_42 (dk_at dksX5_hindsight_1 16 rfl rfl)
theorem dX5_hindsight_41 : decode cX5_hindsight 41 = .ok (.getfield 7, 3) := dk_180 0 7 (dk_at dksX5_hindsight_1 17 rfl rfl)
theorem dX5_hindsight_44 : decode cX5_hindsight 44 = .ok (.bipush 9, 2) := dk_16 9 (dk_at dksX5_hindsight_1 20 rfl rfl)
theorem dX5_hindsight_46 : decode cX5_hindsight 46 = .ok (.iaload, 1) := dk_46 (dk_at dksX5_hindsight_1 22 rfl rfl)
theorem dX5_hindsight_47 : decode cX5_hindsight 47 = .ok (.iload_n 3, 1) := dk_29 (dk_at dksX5_hindsight_1 23 rfl rfl)
theorem dX5_hindsight_48 : decode cX5_hindsight 48 = .ok (.if_icmp .ne 16, 3) := dk_160 0 16 (dk_at dksX5_hindsight_2 0 rfl rfl)
theorem dX5_hindsight_51 : decode cX5_hindsight 51 = .ok (.aload_n 0, 1) := dk_42 (dk_at dksX5_hindsight_2 3 rfl rfl)
theorem dX5_hindsight_52 : decode cX5_hindsight 52 = .ok (.getfield 250, 3) := dk_180 0 250 (dk_at dksX5_hindsight_2 4 rfl rfl)
theorem dX5_hindsight_55 : decode cX5_hindsight 55 = .ok (.iload 4, 2) := dk_21 4 (dk_at dksX5_hindsight_2 7 rfl rfl)
theorem dX5_hindsight_57 : decode cX5_hindsight 57 = .ok (.if_icmp .ge 7, 3) := dk_162 0 7 (dk_at dksX5_hindsight_2 9 rfl rfl)
theorem dX5_hindsight_60 : decode cX5_hindsight 60 = .ok (.iconst 1, 1) := dk_4 (dk_at dksX5_hindsight_2 12 rfl rfl)
theorem dX5_hindsight_61 : decode cX5_hindsight 61 = .ok (.goto 4, 3) := dk_167 0 4 (dk_at dksX5_hindsight_2 13 rfl rfl)
theorem dX5_hindsight_64 : decode cX5_hindsight 64 = .ok (.iconst 0, 1) := dk_3 (dk_at dksX5_hindsight_2 16 rfl rfl)
theorem dX5_hindsight_65 : decode cX5_hindsight 65 = .ok (.istore 6, 2) := dk_54 6 (dk_at dksX5_hindsight_2 17 rfl rfl)
theorem dX5_hindsight_67 : decode cX5_hindsight 67 = .ok (.iload_n 1, 1) := dk_27 (dk_at dksX5_hindsight_2 19 rfl rfl)
theorem dX5_hindsight_68 : decode cX5_hindsight 68 = .ok (.iconst (-1), 1) := dk_2 (dk_at dksX5_hindsight_2 20 rfl rfl)
theorem dX5_hindsight_69 : decode cX5_hindsight 69 = .ok (.if_icmp .eq 30, 3) := dk_159 0 30 (dk_at dksX5_hindsight_2 21 rfl rfl)
theorem dX5_hindsight_72 : decode cX5_hindsight 72 = .ok (.aload_n 0, 1) := dk_42 (dk_at dksX5_hindsight_3 0 rfl rfl)
theorem dX5_hindsight_73 : decode cX5_hindsight 73 = .ok (.getfield 7, 3) := dk_180 0 7 (dk_at dksX5_hindsight_3 1 rfl rfl)
theorem dX5_hindsight_76 : decode cX5_hindsight 76 = .ok (.bipush 8, 2) := dk_16 8 (dk_at dksX5_hindsight_3 4 rfl rfl)
theorem dX5_hindsight_78 : decode cX5_hindsight 78 = .ok (.iaload, 1) := dk_46 (dk_at dksX5_hindsight_3 6 rfl rfl)
theorem dX5_hindsight_79 : decode cX5_hindsight 79 = .ok (.iload_n 2, 1) := dk_28 (dk_at dksX5_hindsight_3 7 rfl rfl)
theorem dX5_hindsight_80 : decode cX5_hindsight 80 = .ok (.if_icmp .lt 19, 3) := dk_161 0 19 (dk_at dksX5_hindsight_3 8 rfl rfl)
theorem dX5_hindsight_83 : decode cX5_hindsight 83 = .ok (.aload_n 0, 1) := dk_42 (dk_at dksX5_hindsight_3 11 rfl rfl)
theorem dX5_hindsight_84 : decode cX5_hindsight 84 = .ok (.getfield 7, 3) := dk_180 0 7 (dk_at dksX5_hindsight_3 12 rfl rfl)
theorem dX5_hindsight_87 : decode cX5_hindsight 87 = .ok (.bipush 8, 2) := dk_16 8 (dk_at dksX5_hindsight_3 15 rfl rfl)
theorem dX5_hindsight_89 : decode cX5_hindsight 89 = .ok (.iaload, 1) := dk_46 (dk_at dksX5_hindsight_3 17 rfl rfl)
theorem dX5_hindsight_90 : decode cX5_hindsight 90 = .ok (.iload_n 2, 1) := dk_28 (dk_at dksX5_hindsight_3 18 rfl rfl)
theorem dX5_hindsight_91 : decode cX5_hindsight 91 = .ok (.if_icmp .ne 33, 3) := dk_160 0 33 (dk_at dksX5_hindsight_3 19 rfl rfl)
theorem dX5_hindsight_94 : decode cX5_hindsight 94 = .ok (.iload 6, 2) := dk_21 6 (dk_at dksX5_hindsight_3 22 rfl rfl)
theorem dX5_hindsight_96 : decode cX5_hindsight 96 = .ok (.ifCond .eq 28, 3) := dk_153 0 28 (dk_at dksX5_hindsight_4 0 rfl rfl)
theorem dX5_hindsight_99 : decode cX5_hindsight 99 = .ok (.iload 5, 2) := dk_21 5 (dk_at dksX5_hindsight_4 3 rfl rfl)
theorem dX5_hindsight_101 : decode cX5_hindsight 101 = .ok (.istore_n 1, 1) := dk_60 (dk_at dksX5_hindsight_4 5 rfl rfl)
theorem dX5_hindsight_102 : decode cX5_hindsight 102 = .ok (.aload_n 0, 1) := dk_42 (dk_at dksX5_hindsight_4 6 rfl rfl)
theorem dX5_hindsight_103 : decode cX5_hindsight 103 = .ok (.getfield 7, 3) := dk_180 0 7 (dk_at dksX5_hindsight_4 7 rfl rfl)
theorem dX5_hindsight_106 : decode cX5_hindsight 106 = .ok (.bipush 8, 2) := dk_16 8 (dk_at dksX5_hindsight_4 10 rfl rfl)
theorem dX5_hindsight_108 : decode cX5_hindsight 108 = .ok (.iaload, 1) := dk_46 (dk_at dksX5_hindsight_4 12 rfl rfl)
theorem dX5_hindsight_109 : decode cX5_hindsight 109 = .ok (.istore_n 2, 1) := dk_61 (dk_at dksX5_hindsight_4 13 rfl rfl)
theorem dX5_hindsight_110 : decode cX5_hindsight 110 = .ok (.aload_n 0, 1) := dk_42 (dk_at dksX5_hindsight_4 14 rfl rfl)
theorem dX5_hindsight_111 : decode cX5_hindsight 111 = .ok (.getfield 7, 3) := dk_180 0 7 (dk_at dksX5_hindsight_4 15 rfl rfl)
theorem dX5_hindsight_114 : decode cX5_hindsight 114 = .ok (.bipush 9, 2) := dk_16 9 (dk_at dksX5_hindsight_4 18 rfl rfl)
theorem dX5_hindsight_116 : decode cX5_hindsight 116 = .ok (.iaload, 1) := dk_46 (dk_at dksX5_hindsight_4 20 rfl rfl)
theorem dX5_hindsight_117 : decode cX5_hindsight 117 = .ok (.istore_n 3, 1) := dk_62 (dk_at dksX5_hindsight_4 21 rfl rfl)
theorem dX5_hindsight_118 : decode cX5_hindsight 118 = .ok (.aload_n 0, 1) := dk_42 (dk_at dksX5_hindsight_4 22 rfl rfl)
theorem dX5_hindsight_119 : decode cX5_hindsight 119 = .ok (.getfield 250, 3) := dk_180 0 250 (dk_at dksX5_hindsight_5 0 rfl rfl)
theorem dX5_hindsight_122 : decode cX5_hindsight 122 = .ok (.istore 4, 2) := dk_54 4 (dk_at dksX5_hindsight_5 3 rfl rfl)
theorem dX5_hindsight_124 : decode cX5_hindsight 124 = .ok (.aload_n 0, 1) := dk_42 (dk_at dksX5_hindsight_5 5 rfl rfl)
theorem dX5_hindsight_125 : decode cX5_hindsight 125 = .ok (.getfield 13, 3) := dk_180 0 13 (dk_at dksX5_hindsight_5 6 rfl rfl)
theorem dX5_hindsight_128 : decode cX5_hindsight 128 = .ok (.iconst 0, 1) := dk_3 (dk_at dksX5_hindsight_5 9 rfl rfl)
theorem dX5_hindsight_129 : decode cX5_hindsight 129 = .ok (.aload_n 0, 1) := dk_42 (dk_at dksX5_hindsight_5 10 rfl rfl)
theorem dX5_hindsight_130 : decode cX5_hindsight 130 = .ok (.getfield 7, 3) := dk_180 0 7 (dk_at dksX5_hindsight_5 11 rfl rfl)
theorem dX5_hindsight_133 : decode cX5_hindsight 133 = .ok (.iconst 0, 1) := dk_3 (dk_at dksX5_hindsight_5 14 rfl rfl)
theorem dX5_hindsight_134 : decode cX5_hindsight 134 = .ok (.invokestatic 110, 3) := dk_184 0 110 (dk_at dksX5_hindsight_5 15 rfl rfl)
theorem dX5_hindsight_137 : decode cX5_hindsight 137 = .ok (.iinc 5 1, 3) := dk_132 5 1 (dk_at dksX5_hindsight_5 18 rfl rfl)
theorem dX5_hindsight_140 : decode cX5_hindsight 140 = .ok (.goto (-123), 3) := dk_167 255 133 (dk_at dksX5_hindsight_5 21 rfl rfl)
theorem dX5_hindsight_143 : decode cX5_hindsight 143 = .ok (.iload_n 1, 1) := dk_27 (dk_at dksX5_hindsight_6 0 rfl rfl)
theorem dX5_hindsight_144 : decode cX5_hindsight 144 = .ok (.ireturn, 1) := dk_172 (dk_at dksX5_hindsight_6 1 rfl rfl)
abbrev cX5_better : ByteArray := prog_14_method_96_code
def yX5_better : MethodName := ⟨RX5, "better", "(II)I"⟩
def dkwX5_better_7 : List UInt8 := [156, 0, 7, 28, 167, 0, 4, 2, 172]
abbrev dktX5_better_7 : List UInt8 := dkwX5_better_7 ++ []
def dkwX5_better_6 : List UInt8 := [180, 0, 13, 3, 42, 180, 0, 7, 3, 184, 0, 110, 21, 6, 158, 0, 7, 27, 167, 0, 13, 21, 6]
abbrev dktX5_better_6 : List UInt8 := dkwX5_better_6 ++ dktX5_better_7
def dkwX5_better_5 : List UInt8 := [54, 6, 21, 6, 154, 0, 13, 42, 180, 0, 250, 21, 5, 100, 167, 0, 5, 21, 6, 54, 6, 42]
abbrev dktX5_better_5 : List UInt8 := dkwX5_better_5 ++ dktX5_better_6
def dkwX5_better_4 : List UInt8 := [29, 100, 54, 6, 21, 6, 154, 0, 16, 42, 180, 0, 7, 16, 9, 46, 21, 4, 100, 167, 0, 5, 21, 6]
abbrev dktX5_better_4 : List UInt8 := dkwX5_better_4 ++ dktX5_better_5
def dkwX5_better_3 : List UInt8 := [180, 0, 13, 3, 42, 180, 0, 7, 3, 184, 0, 110, 42, 28, 182, 0, 223, 42, 180, 0, 7, 16, 8, 46]
abbrev dktX5_better_3 : List UInt8 := dkwX5_better_3 ++ dktX5_better_4
def dkwX5_better_2 : List UInt8 := [180, 0, 7, 16, 8, 46, 62, 42, 180, 0, 7, 16, 9, 46, 54, 4, 42, 180, 0, 250, 54, 5, 42]
abbrev dktX5_better_2 : List UInt8 := dkwX5_better_2 ++ dktX5_better_3
def dkwX5_better_1 : List UInt8 := [167, 0, 4, 4, 181, 0, 58, 42, 180, 0, 58, 158, 0, 5, 3, 172, 42, 27, 182, 0, 223, 42]
abbrev dktX5_better_1 : List UInt8 := dkwX5_better_1 ++ dktX5_better_2
def dkwX5_better_0 : List UInt8 := [42, 27, 3, 16, 6, 184, 0, 179, 153, 0, 17, 28, 3, 16, 6, 184, 0, 179, 153, 0, 7, 3]
abbrev dktX5_better_0 : List UInt8 := dkwX5_better_0 ++ dktX5_better_1
theorem dksX5_better_0 : cX5_better.data.toList.drop 0 = dktX5_better_0 := by decide +kernel
theorem dksX5_better_1 : cX5_better.data.toList.drop 22 = dktX5_better_1 := dk_seg dksX5_better_0 22 rfl rfl
theorem dksX5_better_2 : cX5_better.data.toList.drop 44 = dktX5_better_2 := dk_seg dksX5_better_1 22 rfl rfl
theorem dksX5_better_3 : cX5_better.data.toList.drop 67 = dktX5_better_3 := dk_seg dksX5_better_2 23 rfl rfl
theorem dksX5_better_4 : cX5_better.data.toList.drop 91 = dktX5_better_4 := dk_seg dksX5_better_3 24 rfl rfl
theorem dksX5_better_5 : cX5_better.data.toList.drop 115 = dktX5_better_5 := dk_seg dksX5_better_4 24 rfl rfl
theorem dksX5_better_6 : cX5_better.data.toList.drop 137 = dktX5_better_6 := dk_seg dksX5_better_5 22 rfl rfl
theorem dksX5_better_7 : cX5_better.data.toList.drop 160 = dktX5_better_7 := dk_seg dksX5_better_6 23 rfl rfl
theorem dX5_better_0 : decode cX5_better 0 = .ok (.aload_n 0, 1) := dk_42 (dk_at dksX5_better_0 0 rfl rfl)
theorem dX5_better_1 : decode cX5_better 1 = .ok (.iload_n 1, 1) := dk_27 (dk_at dksX5_better_0 1 rfl rfl)
theorem dX5_better_2 : decode cX5_better 2 = .ok (.iconst 0, 1) := dk_3 (dk_at dksX5_better_0 2 rfl rfl)
theorem dX5_better_3 : decode cX5_better 3 = .ok (.bipush 6, 2) := dk_16 6 (dk_at dksX5_better_0 3 rfl rfl)
theorem dX5_better_5 : decode cX5_better 5 = .ok (.invokestatic 179, 3) := dk_184 0 179 (dk_at dksX5_better_0 5 rfl rfl)
theorem dX5_better_8 : decode cX5_better 8 = .ok (.ifCond .eq 17, 3) := dk_153 0 17 (dk_at dksX5_better_0 8 rfl rfl)
theorem dX5_better_11 : decode cX5_better 11 = .ok (.iload_n 2, 1) := dk_28 (dk_at dksX5_better_0 11 rfl rfl)
theorem dX5_better_12 : decode cX5_better 12 = .ok (.iconst 0, 1) := dk_3 (dk_at dksX5_better_0 12 rfl rfl)
theorem dX5_better_13 : decode cX5_better 13 = .ok (.bipush 6, 2) := dk_16 6 (dk_at dksX5_better_0 13 rfl rfl)
theorem dX5_better_15 : decode cX5_better 15 = .ok (.invokestatic 179, 3) := dk_184 0 179 (dk_at dksX5_better_0 15 rfl rfl)
theorem dX5_better_18 : decode cX5_better 18 = .ok (.ifCond .eq 7, 3) := dk_153 0 7 (dk_at dksX5_better_0 18 rfl rfl)
theorem dX5_better_21 : decode cX5_better 21 = .ok (.iconst 0, 1) := dk_3 (dk_at dksX5_better_0 21 rfl rfl)
theorem dX5_better_22 : decode cX5_better 22 = .ok (.goto 4, 3) := dk_167 0 4 (dk_at dksX5_better_1 0 rfl rfl)
theorem dX5_better_25 : decode cX5_better 25 = .ok (.iconst 1, 1) := dk_4 (dk_at dksX5_better_1 3 rfl rfl)
theorem dX5_better_26 : decode cX5_better 26 = .ok (.putfield 58, 3) := dk_181 0 58 (dk_at dksX5_better_1 4 rfl rfl)
theorem dX5_better_29 : decode cX5_better 29 = .ok (.aload_n 0, 1) := dk_42 (dk_at dksX5_better_1 7 rfl rfl)
theorem dX5_better_30 : decode cX5_better 30 = .ok (.getfield 58, 3) := dk_180 0 58 (dk_at dksX5_better_1 8 rfl rfl)
theorem dX5_better_33 : decode cX5_better 33 = .ok (.ifCond .le 5, 3) := dk_158 0 5 (dk_at dksX5_better_1 11 rfl rfl)
theorem dX5_better_36 : decode cX5_better 36 = .ok (.iconst 0, 1) := dk_3 (dk_at dksX5_better_1 14 rfl rfl)
theorem dX5_better_37 : decode cX5_better 37 = .ok (.ireturn, 1) := dk_172 (dk_at dksX5_better_1 15 rfl rfl)
theorem dX5_better_38 : decode cX5_better 38 = .ok (.aload_n 0, 1) := dk_42 (dk_at dksX5_better_1 16 rfl rfl)
theorem dX5_better_39 : decode cX5_better 39 = .ok (.iload_n 1, 1) := dk_27 (dk_at dksX5_better_1 17 rfl rfl)
theorem dX5_better_40 : decode cX5_better 40 = .ok (.invokevirtual 223, 3) := dk_182 0 223 (dk_at dksX5_better_1 18 rfl rfl)
theorem dX5_better_43 : decode cX5_better 43 = .ok (.aload_n 0, 1) := dk_42 (dk_at dksX5_better_1 21 rfl rfl)
theorem dX5_better_44 : decode cX5_better 44 = .ok (.getfield 7, 3) := dk_180 0 7 (dk_at dksX5_better_2 0 rfl rfl)
theorem dX5_better_47 : decode cX5_better 47 = .ok (.bipush 8, 2) := dk_16 8 (dk_at dksX5_better_2 3 rfl rfl)
theorem dX5_better_49 : decode cX5_better 49 = .ok (.iaload, 1) := dk_46 (dk_at dksX5_better_2 5 rfl rfl)
theorem dX5_better_50 : decode cX5_better 50 = .ok (.istore_n 3, 1) := dk_62 (dk_at dksX5_better_2 6 rfl rfl)
theorem dX5_better_51 : decode cX5_better 51 = .ok (.aload_n 0, 1) := dk_42 (dk_at dksX5_better_2 7 rfl rfl)
theorem dX5_better_52 : decode cX5_better 52 = .ok (.getfield 7, 3) := dk_180 0 7 (dk_at dksX5_better_2 8 rfl rfl)
theorem dX5_better_55 : decode cX5_better 55 = .ok (.bipush 9, 2) := dk_16 9 (dk_at dksX5_better_2 11 rfl rfl)
theorem dX5_better_57 : decode cX5_better 57 = .ok (.iaload, 1) := dk_46 (dk_at dksX5_better_2 13 rfl rfl)
theorem dX5_better_58 : decode cX5_better 58 = .ok (.istore 4, 2) := dk_54 4 (dk_at dksX5_better_2 14 rfl rfl)
theorem dX5_better_60 : decode cX5_better 60 = .ok (.aload_n 0, 1) := dk_42 (dk_at dksX5_better_2 16 rfl rfl)
theorem dX5_better_61 : decode cX5_better 61 = .ok (.getfield 250, 3) := dk_180 0 250 (dk_at dksX5_better_2 17 rfl rfl)
theorem dX5_better_64 : decode cX5_better 64 = .ok (.istore 5, 2) := dk_54 5 (dk_at dksX5_better_2 20 rfl rfl)
theorem dX5_better_66 : decode cX5_better 66 = .ok (.aload_n 0, 1) := dk_42 (dk_at dksX5_better_2 22 rfl rfl)
theorem dX5_better_67 : decode cX5_better 67 = .ok (.getfield 13, 3) := dk_180 0 13 (dk_at dksX5_better_3 0 rfl rfl)
theorem dX5_better_70 : decode cX5_better 70 = .ok (.iconst 0, 1) := dk_3 (dk_at dksX5_better_3 3 rfl rfl)
theorem dX5_better_71 : decode cX5_better 71 = .ok (.aload_n 0, 1) := dk_42 (dk_at dksX5_better_3 4 rfl rfl)
theorem dX5_better_72 : decode cX5_better 72 = .ok (.getfield 7, 3) := dk_180 0 7 (dk_at dksX5_better_3 5 rfl rfl)
theorem dX5_better_75 : decode cX5_better 75 = .ok (.iconst 0, 1) := dk_3 (dk_at dksX5_better_3 8 rfl rfl)
theorem dX5_better_76 : decode cX5_better 76 = .ok (.invokestatic 110, 3) := dk_184 0 110 (dk_at dksX5_better_3 9 rfl rfl)
theorem dX5_better_79 : decode cX5_better 79 = .ok (.aload_n 0, 1) := dk_42 (dk_at dksX5_better_3 12 rfl rfl)
theorem dX5_better_80 : decode cX5_better 80 = .ok (.iload_n 2, 1) := dk_28 (dk_at dksX5_better_3 13 rfl rfl)
theorem dX5_better_81 : decode cX5_better 81 = .ok (.invokevirtual 223, 3) := dk_182 0 223 (dk_at dksX5_better_3 14 rfl rfl)
theorem dX5_better_84 : decode cX5_better 84 = .ok (.aload_n 0, 1) := dk_42 (dk_at dksX5_better_3 17 rfl rfl)
theorem dX5_better_85 : decode cX5_better 85 = .ok (.getfield 7, 3) := dk_180 0 7 (dk_at dksX5_better_3 18 rfl rfl)
theorem dX5_better_88 : decode cX5_better 88 = .ok (.bipush 8, 2) := dk_16 8 (dk_at dksX5_better_3 21 rfl rfl)
theorem dX5_better_90 : decode cX5_better 90 = .ok (.iaload, 1) := dk_46 (dk_at dksX5_better_3 23 rfl rfl)
theorem dX5_better_91 : decode cX5_better 91 = .ok (.iload_n 3, 1) := dk_29 (dk_at dksX5_better_4 0 rfl rfl)
theorem dX5_better_92 : decode cX5_better 92 = .ok (.isub, 1) := dk_100 (dk_at dksX5_better_4 1 rfl rfl)
theorem dX5_better_93 : decode cX5_better 93 = .ok (.istore 6, 2) := dk_54 6 (dk_at dksX5_better_4 2 rfl rfl)
theorem dX5_better_95 : decode cX5_better 95 = .ok (.iload 6, 2) := dk_21 6 (dk_at dksX5_better_4 4 rfl rfl)
theorem dX5_better_97 : decode cX5_better 97 = .ok (.ifCond .ne 16, 3) := dk_154 0 16 (dk_at dksX5_better_4 6 rfl rfl)
theorem dX5_better_100 : decode cX5_better 100 = .ok (.aload_n 0, 1) := dk_42 (dk_at dksX5_better_4 9 rfl rfl)
theorem dX5_better_101 : decode cX5_better 101 = .ok (.getfield 7, 3) := dk_180 0 7 (dk_at dksX5_better_4 10 rfl rfl)
theorem dX5_better_104 : decode cX5_better 104 = .ok (.bipush 9, 2) := dk_16 9 (dk_at dksX5_better_4 13 rfl rfl)
theorem dX5_better_106 : decode cX5_better 106 = .ok (.iaload, 1) := dk_46 (dk_at dksX5_better_4 15 rfl rfl)
theorem dX5_better_107 : decode cX5_better 107 = .ok (.iload 4, 2) := dk_21 4 (dk_at dksX5_better_4 16 rfl rfl)
theorem dX5_better_109 : decode cX5_better 109 = .ok (.isub, 1) := dk_100 (dk_at dksX5_better_4 18 rfl rfl)
theorem dX5_better_110 : decode cX5_better 110 = .ok (.goto 5, 3) := dk_167 0 5 (dk_at dksX5_better_4 19 rfl rfl)
theorem dX5_better_113 : decode cX5_better 113 = .ok (.iload 6, 2) := dk_21 6 (dk_at dksX5_better_4 22 rfl rfl)
theorem dX5_better_115 : decode cX5_better 115 = .ok (.istore 6, 2) := dk_54 6 (dk_at dksX5_better_5 0 rfl rfl)
theorem dX5_better_117 : decode cX5_better 117 = .ok (.iload 6, 2) := dk_21 6 (dk_at dksX5_better_5 2 rfl rfl)
theorem dX5_better_119 : decode cX5_better 119 = .ok (.ifCond .ne 13, 3) := dk_154 0 13 (dk_at dksX5_better_5 4 rfl rfl)
theorem dX5_better_122 : decode cX5_better 122 = .ok (.aload_n 0, 1) := dk_42 (dk_at dksX5_better_5 7 rfl rfl)
theorem dX5_better_123 : decode cX5_better 123 = .ok (.getfield 250, 3) := dk_180 0 250 (dk_at dksX5_better_5 8 rfl rfl)
theorem dX5_better_126 : decode cX5_better 126 = .ok (.iload 5, 2) := dk_21 5 (dk_at dksX5_better_5 11 rfl rfl)
theorem dX5_better_128 : decode cX5_better 128 = .ok (.isub, 1) := dk_100 (dk_at dksX5_better_5 13 rfl rfl)
theorem dX5_better_129 : decode cX5_better 129 = .ok (.goto 5, 3) := dk_167 0 5 (dk_at dksX5_better_5 14 rfl rfl)
theorem dX5_better_132 : decode cX5_better 132 = .ok (.iload 6, 2) := dk_21 6 (dk_at dksX5_better_5 17 rfl rfl)
theorem dX5_better_134 : decode cX5_better 134 = .ok (.istore 6, 2) := dk_54 6 (dk_at dksX5_better_5 19 rfl rfl)
theorem dX5_better_136 : decode cX5_better 136 = .ok (.aload_n 0, 1) := dk_42 (dk_at dksX5_better_5 21 rfl rfl)
theorem dX5_better_137 : decode cX5_better 137 = .ok (.getfield 13, 3) := dk_180 0 13 (dk_at dksX5_better_6 0 rfl rfl)
theorem dX5_better_140 : decode cX5_better 140 = .ok (.iconst 0, 1) := dk_3 (dk_at dksX5_better_6 3 rfl rfl)
theorem dX5_better_141 : decode cX5_better 141 = .ok (.aload_n 0, 1) := dk_42 (dk_at dksX5_better_6 4 rfl rfl)
theorem dX5_better_142 : decode cX5_better 142 = .ok (.getfield 7, 3) := dk_180 0 7 (dk_at dksX5_better_6 5 rfl rfl)
theorem dX5_better_145 : decode cX5_better 145 = .ok (.iconst 0, 1) := dk_3 (dk_at dksX5_better_6 8 rfl rfl)
theorem dX5_better_146 : decode cX5_better 146 = .ok (.invokestatic 110, 3) := dk_184 0 110 (dk_at dksX5_better_6 9 rfl rfl)
theorem dX5_better_149 : decode cX5_better 149 = .ok (.iload 6, 2) := dk_21 6 (dk_at dksX5_better_6 12 rfl rfl)
theorem dX5_better_151 : decode cX5_better 151 = .ok (.ifCond .le 7, 3) := dk_158 0 7 (dk_at dksX5_better_6 14 rfl rfl)
theorem dX5_better_154 : decode cX5_better 154 = .ok (.iload_n 1, 1) := dk_27 (dk_at dksX5_better_6 17 rfl rfl)
theorem dX5_better_155 : decode cX5_better 155 = .ok (.goto 13, 3) := dk_167 0 13 (dk_at dksX5_better_6 18 rfl rfl)
theorem dX5_better_158 : decode cX5_better 158 = .ok (.iload 6, 2) := dk_21 6 (dk_at dksX5_better_6 21 rfl rfl)
theorem dX5_better_160 : decode cX5_better 160 = .ok (.ifCond .ge 7, 3) := dk_156 0 7 (dk_at dksX5_better_7 0 rfl rfl)
theorem dX5_better_163 : decode cX5_better 163 = .ok (.iload_n 2, 1) := dk_28 (dk_at dksX5_better_7 3 rfl rfl)
theorem dX5_better_164 : decode cX5_better 164 = .ok (.goto 4, 3) := dk_167 0 4 (dk_at dksX5_better_7 4 rfl rfl)
theorem dX5_better_167 : decode cX5_better 167 = .ok (.iconst (-1), 1) := dk_2 (dk_at dksX5_better_7 7 rfl rfl)
theorem dX5_better_168 : decode cX5_better 168 = .ok (.ireturn, 1) := dk_172 (dk_at dksX5_better_7 8 rfl rfl)
abbrev cX5_history : ByteArray := prog_14_method_97_code
def yX5_history : MethodName := ⟨RX5, "history", "(II)I"⟩
def dkwX5_history_2 : List UInt8 := [167, 0, 17, 42, 180, 0, 7, 17, 7, 70, 7, 27, 104, 96, 28, 96, 46, 172]
abbrev dktX5_history_2 : List UInt8 := dkwX5_history_2 ++ []
def dkwX5_history_1 : List UInt8 := [6, 184, 0, 179, 153, 0, 7, 3, 167, 0, 4, 5, 181, 0, 58, 42, 180, 0, 58, 158, 0, 7, 3]
abbrev dktX5_history_1 : List UInt8 := dkwX5_history_1 ++ dktX5_history_2
def dkwX5_history_0 : List UInt8 := [42, 27, 3, 42, 180, 0, 7, 16, 11, 46, 4, 100, 184, 0, 179, 154, 0, 7, 4, 167, 0, 17, 28, 3]
abbrev dktX5_history_0 : List UInt8 := dkwX5_history_0 ++ dktX5_history_1
theorem dksX5_history_0 : cX5_history.data.toList.drop 0 = dktX5_history_0 := by decide +kernel
theorem dksX5_history_1 : cX5_history.data.toList.drop 24 = dktX5_history_1 := dk_seg dksX5_history_0 24 rfl rfl
theorem dksX5_history_2 : cX5_history.data.toList.drop 47 = dktX5_history_2 := dk_seg dksX5_history_1 23 rfl rfl
theorem dX5_history_0 : decode cX5_history 0 = .ok (.aload_n 0, 1) := dk_42 (dk_at dksX5_history_0 0 rfl rfl)
theorem dX5_history_1 : decode cX5_history 1 = .ok (.iload_n 1, 1) := dk_27 (dk_at dksX5_history_0 1 rfl rfl)
theorem dX5_history_2 : decode cX5_history 2 = .ok (.iconst 0, 1) := dk_3 (dk_at dksX5_history_0 2 rfl rfl)
theorem dX5_history_3 : decode cX5_history 3 = .ok (.aload_n 0, 1) := dk_42 (dk_at dksX5_history_0 3 rfl rfl)
theorem dX5_history_4 : decode cX5_history 4 = .ok (.getfield 7, 3) := dk_180 0 7 (dk_at dksX5_history_0 4 rfl rfl)
theorem dX5_history_7 : decode cX5_history 7 = .ok (.bipush 11, 2) := dk_16 11 (dk_at dksX5_history_0 7 rfl rfl)
theorem dX5_history_9 : decode cX5_history 9 = .ok (.iaload, 1) := dk_46 (dk_at dksX5_history_0 9 rfl rfl)
theorem dX5_history_10 : decode cX5_history 10 = .ok (.iconst 1, 1) := dk_4 (dk_at dksX5_history_0 10 rfl rfl)
theorem dX5_history_11 : decode cX5_history 11 = .ok (.isub, 1) := dk_100 (dk_at dksX5_history_0 11 rfl rfl)
theorem dX5_history_12 : decode cX5_history 12 = .ok (.invokestatic 179, 3) := dk_184 0 179 (dk_at dksX5_history_0 12 rfl rfl)
theorem dX5_history_15 : decode cX5_history 15 = .ok (.ifCond .ne 7, 3) := dk_154 0 7 (dk_at dksX5_history_0 15 rfl rfl)
theorem dX5_history_18 : decode cX5_history 18 = .ok (.iconst 1, 1) := dk_4 (dk_at dksX5_history_0 18 rfl rfl)
theorem dX5_history_19 : decode cX5_history 19 = .ok (.goto 17, 3) := dk_167 0 17 (dk_at dksX5_history_0 19 rfl rfl)
theorem dX5_history_22 : decode cX5_history 22 = .ok (.iload_n 2, 1) := dk_28 (dk_at dksX5_history_0 22 rfl rfl)
theorem dX5_history_23 : decode cX5_history 23 = .ok (.iconst 0, 1) := dk_3 (dk_at dksX5_history_0 23 rfl rfl)
theorem dX5_history_24 : decode cX5_history 24 = .ok (.iconst 3, 1) := dk_6 (dk_at dksX5_history_1 0 rfl rfl)
theorem dX5_history_25 : decode cX5_history 25 = .ok (.invokestatic 179, 3) := dk_184 0 179 (dk_at dksX5_history_1 1 rfl rfl)
theorem dX5_history_28 : decode cX5_history 28 = .ok (.ifCond .eq 7, 3) := dk_153 0 7 (dk_at dksX5_history_1 4 rfl rfl)
theorem dX5_history_31 : decode cX5_history 31 = .ok (.iconst 0, 1) := dk_3 (dk_at dksX5_history_1 7 rfl rfl)
theorem dX5_history_32 : decode cX5_history 32 = .ok (.goto 4, 3) := dk_167 0 4 (dk_at dksX5_history_1 8 rfl rfl)
theorem dX5_history_35 : decode cX5_history 35 = .ok (.iconst 2, 1) := dk_5 (dk_at dksX5_history_1 11 rfl rfl)
theorem dX5_history_36 : decode cX5_history 36 = .ok (.putfield 58, 3) := dk_181 0 58 (dk_at dksX5_history_1 12 rfl rfl)
theorem dX5_history_39 : decode cX5_history 39 = .ok (.aload_n 0, 1) := dk_42 (dk_at dksX5_history_1 15 rfl rfl)
theorem dX5_history_40 : decode cX5_history 40 = .ok (.getfield 58, 3) := dk_180 0 58 (dk_at dksX5_history_1 16 rfl rfl)
theorem dX5_history_43 : decode cX5_history 43 = .ok (.ifCond .le 7, 3) := dk_158 0 7 (dk_at dksX5_history_1 19 rfl rfl)
theorem dX5_history_46 : decode cX5_history 46 = .ok (.iconst 0, 1) := dk_3 (dk_at dksX5_history_1 22 rfl rfl)
theorem dX5_history_47 : decode cX5_history 47 = .ok (.goto 17, 3) := dk_167 0 17 (dk_at dksX5_history_2 0 rfl rfl)
theorem dX5_history_50 : decode cX5_history 50 = .ok (.aload_n 0, 1) := dk_42 (dk_at dksX5_history_2 3 rfl rfl)
theorem dX5_history_51 : decode cX5_history 51 = .ok (.getfield 7, 3) := dk_180 0 7 (dk_at dksX5_history_2 4 rfl rfl)
theorem dX5_history_54 : decode cX5_history 54 = .ok (.sipush 1862, 3) := dk_17 7 70 (dk_at dksX5_history_2 7 rfl rfl)
theorem dX5_history_57 : decode cX5_history 57 = .ok (.iconst 4, 1) := dk_7 (dk_at dksX5_history_2 10 rfl rfl)
theorem dX5_history_58 : decode cX5_history 58 = .ok (.iload_n 1, 1) := dk_27 (dk_at dksX5_history_2 11 rfl rfl)
theorem dX5_history_59 : decode cX5_history 59 = .ok (.imul, 1) := dk_104 (dk_at dksX5_history_2 12 rfl rfl)
theorem dX5_history_60 : decode cX5_history 60 = .ok (.iadd, 1) := dk_96 (dk_at dksX5_history_2 13 rfl rfl)
theorem dX5_history_61 : decode cX5_history 61 = .ok (.iload_n 2, 1) := dk_28 (dk_at dksX5_history_2 14 rfl rfl)
theorem dX5_history_62 : decode cX5_history 62 = .ok (.iadd, 1) := dk_96 (dk_at dksX5_history_2 15 rfl rfl)
theorem dX5_history_63 : decode cX5_history 63 = .ok (.iaload, 1) := dk_46 (dk_at dksX5_history_2 16 rfl rfl)
theorem dX5_history_64 : decode cX5_history 64 = .ok (.ireturn, 1) := dk_172 (dk_at dksX5_history_2 17 rfl rfl)
abbrev cX5_appendText : ByteArray := prog_14_method_98_code
def yX5_appendText : MethodName := ⟨RX5, "appendText", "(I)I"⟩
def dkwX5_appendText_3 : List UInt8 := [172]
abbrev dktX5_appendText_3 : List UInt8 := dkwX5_appendText_3 ++ []
def dkwX5_appendText_2 : List UInt8 := [28, 122, 145, 84, 42, 89, 180, 1, 9, 4, 96, 181, 1, 9, 132, 2, 248, 167, 255, 226, 42, 180, 1, 9]
abbrev dktX5_appendText_2 : List UInt8 := dkwX5_appendText_2 ++ dktX5_appendText_3
def dkwX5_appendText_1 : List UInt8 := [180, 0, 58, 158, 0, 5, 3, 172, 16, 24, 61, 28, 155, 0, 32, 42, 180, 0, 39, 42, 180, 1, 9, 27]
abbrev dktX5_appendText_1 : List UInt8 := dkwX5_appendText_1 ++ dktX5_appendText_2
def dkwX5_appendText_0 : List UInt8 := [42, 42, 180, 1, 9, 7, 96, 17, 2, 188, 163, 0, 7, 3, 167, 0, 4, 4, 181, 0, 58, 42]
abbrev dktX5_appendText_0 : List UInt8 := dkwX5_appendText_0 ++ dktX5_appendText_1
theorem dksX5_appendText_0 : cX5_appendText.data.toList.drop 0 = dktX5_appendText_0 := by decide +kernel
theorem dksX5_appendText_1 : cX5_appendText.data.toList.drop 22 = dktX5_appendText_1 := dk_seg dksX5_appendText_0 22 rfl rfl
theorem dksX5_appendText_2 : cX5_appendText.data.toList.drop 46 = dktX5_appendText_2 := dk_seg dksX5_appendText_1 24 rfl rfl
theorem dksX5_appendText_3 : cX5_appendText.data.toList.drop 70 = dktX5_appendText_3 := dk_seg dksX5_appendText_2 24 rfl rfl
theorem dX5_appendText_0 : decode cX5_appendText 0 = .ok (.aload_n 0, 1) := dk_42 (dk_at dksX5_appendText_0 0 rfl rfl)
theorem dX5_appendText_1 : decode cX5_appendText 1 = .ok (.aload_n 0, 1) := dk_42 (dk_at dksX5_appendText_0 1 rfl rfl)
theorem dX5_appendText_2 : decode cX5_appendText 2 = .ok (.getfield 265, 3) := dk_180 1 9 (dk_at dksX5_appendText_0 2 rfl rfl)
theorem dX5_appendText_5 : decode cX5_appendText 5 = .ok (.iconst 4, 1) := dk_7 (dk_at dksX5_appendText_0 5 rfl rfl)
theorem dX5_appendText_6 : decode cX5_appendText 6 = .ok (.iadd, 1) := dk_96 (dk_at dksX5_appendText_0 6 rfl rfl)
theorem dX5_appendText_7 : decode cX5_appendText 7 = .ok (.sipush 700, 3) := dk_17 2 188 (dk_at dksX5_appendText_0 7 rfl rfl)
theorem dX5_appendText_10 : decode cX5_appendText 10 = .ok (.if_icmp .gt 7, 3) := dk_163 0 7 (dk_at dksX5_appendText_0 10 rfl rfl)
theorem dX5_appendText_13 : decode cX5_appendText 13 = .ok (.iconst 0, 1) := dk_3 (dk_at dksX5_appendText_0 13 rfl rfl)
theorem dX5_appendText_14 : decode cX5_appendText 14 = .ok (.goto 4, 3) := dk_167 0 4 (dk_at dksX5_appendText_0 14 rfl rfl)
theorem dX5_appendText_17 : decode cX5_appendText 17 = .ok (.iconst 1, 1) := dk_4 (dk_at dksX5_appendText_0 17 rfl rfl)
theorem dX5_appendText_18 : decode cX5_appendText 18 = .ok (.putfield 58, 3) := dk_181 0 58 (dk_at dksX5_appendText_0 18 rfl rfl)
theorem dX5_appendText_21 : decode cX5_appendText 21 = .ok (.aload_n 0, 1) := dk_42 (dk_at dksX5_appendText_0 21 rfl rfl)
theorem dX5_appendText_22 : decode cX5_appendText 22 = .ok (.getfield 58, 3) := dk_180 0 58 (dk_at dksX5_appendText_1 0 rfl rfl)
theorem dX5_appendText_25 : decode cX5_appendText 25 = .ok (.ifCond .le 5, 3) := dk_158 0 5 (dk_at dksX5_appendText_1 3 rfl rfl)
theorem dX5_appendText_28 : decode cX5_appendText 28 = .ok (.iconst 0, 1) := dk_3 (dk_at dksX5_appendText_1 6 rfl rfl)
theorem dX5_appendText_29 : decode cX5_appendText 29 = .ok (.ireturn, 1) := dk_172 (dk_at dksX5_appendText_1 7 rfl rfl)
theorem dX5_appendText_30 : decode cX5_appendText 30 = .ok (.bipush 24, 2) := dk_16 24 (dk_at dksX5_appendText_1 8 rfl rfl)
theorem dX5_appendText_32 : decode cX5_appendText 32 = .ok (.istore_n 2, 1) := dk_61 (dk_at dksX5_appendText_1 10 rfl rfl)
theorem dX5_appendText_33 : decode cX5_appendText 33 = .ok (.iload_n 2, 1) := dk_28 (dk_at dksX5_appendText_1 11 rfl rfl)
theorem dX5_appendText_34 : decode cX5_appendText 34 = .ok (.ifCond .lt 32, 3) := dk_155 0 32 (dk_at dksX5_appendText_1 12 rfl rfl)
theorem dX5_appendText_37 : decode cX5_appendText 37 = .ok (.aload_n 0, 1) := dk_42 (dk_at dksX5_appendText_1 15 rfl rfl)
theorem dX5_appendText_38 : decode cX5_appendText 38 = .ok (.getfield 39, 3) := dk_180 0 39 (dk_at dksX5_appendText_1 16 rfl rfl)
theorem dX5_appendText_41 : decode cX5_appendText 41 = .ok (.aload_n 0, 1) := dk_42 (dk_at dksX5_appendText_1 19 rfl rfl)
theorem dX5_appendText_42 : decode cX5_appendText 42 = .ok (.getfield 265, 3) := dk_180 1 9 (dk_at dksX5_appendText_1 20 rfl rfl)
theorem dX5_appendText_45 : decode cX5_appendText 45 = .ok (.iload_n 1, 1) := dk_27 (dk_at dksX5_appendText_1 23 rfl rfl)
theorem dX5_appendText_46 : decode cX5_appendText 46 = .ok (.iload_n 2, 1) := dk_28 (dk_at dksX5_appendText_2 0 rfl rfl)
theorem dX5_appendText_47 : decode cX5_appendText 47 = .ok (.ishr, 1) := dk_122 (dk_at dksX5_appendText_2 1 rfl rfl)
theorem dX5_appendText_48 : decode cX5_appendText 48 = .ok (.i2b, 1) := dk_145 (dk_at dksX5_appendText_2 2 rfl rfl)
theorem dX5_appendText_49 : decode cX5_appendText 49 = .ok (.bastore, 1) := dk_84 (dk_at dksX5_appendText_2 3 rfl rfl)
theorem dX5_appendText_50 : decode cX5_appendText 50 = .ok (.aload_n 0, 1) := dk_42 (dk_at dksX5_appendText_2 4 rfl rfl)
theorem dX5_appendText_51 : decode cX5_appendText 51 = .ok (.dup, 1) := dk_89 (dk_at dksX5_appendText_2 5 rfl rfl)
theorem dX5_appendText_52 : decode cX5_appendText 52 = .ok (.getfield 265, 3) := dk_180 1 9 (dk_at dksX5_appendText_2 6 rfl rfl)
theorem dX5_appendText_55 : decode cX5_appendText 55 = .ok (.iconst 1, 1) := dk_4 (dk_at dksX5_appendText_2 9 rfl rfl)
theorem dX5_appendText_56 : decode cX5_appendText 56 = .ok (.iadd, 1) := dk_96 (dk_at dksX5_appendText_2 10 rfl rfl)
theorem dX5_appendText_57 : decode cX5_appendText 57 = .ok (.putfield 265, 3) := dk_181 1 9 (dk_at dksX5_appendText_2 11 rfl rfl)
theorem dX5_appendText_60 : decode cX5_appendText 60 = .ok (.iinc 2 (-8), 3) := dk_132 2 248 (dk_at dksX5_appendText_2 14 rfl rfl)
theorem dX5_appendText_63 : decode cX5_appendText 63 = .ok (.goto (-30), 3) := dk_167 255 226 (dk_at dksX5_appendText_2 17 rfl rfl)
theorem dX5_appendText_66 : decode cX5_appendText 66 = .ok (.aload_n 0, 1) := dk_42 (dk_at dksX5_appendText_2 20 rfl rfl)
theorem dX5_appendText_67 : decode cX5_appendText 67 = .ok (.getfield 265, 3) := dk_180 1 9 (dk_at dksX5_appendText_2 21 rfl rfl)
theorem dX5_appendText_70 : decode cX5_appendText 70 = .ok (.ireturn, 1) := dk_172 (dk_at dksX5_appendText_3 0 rfl rfl)
abbrev cX5_truncateText : ByteArray := prog_14_method_99_code
def yX5_truncateText : MethodName := ⟨RX5, "truncateText", "(I)I"⟩
def dkwX5_truncateText_1 : List UInt8 := [180, 0, 58, 158, 0, 5, 3, 172, 42, 27, 181, 1, 9, 42, 180, 1, 9, 172]
abbrev dktX5_truncateText_1 : List UInt8 := dkwX5_truncateText_1 ++ []
def dkwX5_truncateText_0 : List UInt8 := [42, 27, 3, 42, 180, 1, 9, 184, 0, 179, 153, 0, 7, 3, 167, 0, 4, 4, 181, 0, 58, 42]
abbrev dktX5_truncateText_0 : List UInt8 := dkwX5_truncateText_0 ++ dktX5_truncateText_1
theorem dksX5_truncateText_0 : cX5_truncateText.data.toList.drop 0 = dktX5_truncateText_0 := by decide +kernel
theorem dksX5_truncateText_1 : cX5_truncateText.data.toList.drop 22 = dktX5_truncateText_1 := dk_seg dksX5_truncateText_0 22 rfl rfl
theorem dX5_truncateText_0 : decode cX5_truncateText 0 = .ok (.aload_n 0, 1) := dk_42 (dk_at dksX5_truncateText_0 0 rfl rfl)
theorem dX5_truncateText_1 : decode cX5_truncateText 1 = .ok (.iload_n 1, 1) := dk_27 (dk_at dksX5_truncateText_0 1 rfl rfl)
theorem dX5_truncateText_2 : decode cX5_truncateText 2 = .ok (.iconst 0, 1) := dk_3 (dk_at dksX5_truncateText_0 2 rfl rfl)
theorem dX5_truncateText_3 : decode cX5_truncateText 3 = .ok (.aload_n 0, 1) := dk_42 (dk_at dksX5_truncateText_0 3 rfl rfl)
theorem dX5_truncateText_4 : decode cX5_truncateText 4 = .ok (.getfield 265, 3) := dk_180 1 9 (dk_at dksX5_truncateText_0 4 rfl rfl)
theorem dX5_truncateText_7 : decode cX5_truncateText 7 = .ok (.invokestatic 179, 3) := dk_184 0 179 (dk_at dksX5_truncateText_0 7 rfl rfl)
theorem dX5_truncateText_10 : decode cX5_truncateText 10 = .ok (.ifCond .eq 7, 3) := dk_153 0 7 (dk_at dksX5_truncateText_0 10 rfl rfl)
theorem dX5_truncateText_13 : decode cX5_truncateText 13 = .ok (.iconst 0, 1) := dk_3 (dk_at dksX5_truncateText_0 13 rfl rfl)
theorem dX5_truncateText_14 : decode cX5_truncateText 14 = .ok (.goto 4, 3) := dk_167 0 4 (dk_at dksX5_truncateText_0 14 rfl rfl)
theorem dX5_truncateText_17 : decode cX5_truncateText 17 = .ok (.iconst 1, 1) := dk_4 (dk_at dksX5_truncateText_0 17 rfl rfl)
theorem dX5_truncateText_18 : decode cX5_truncateText 18 = .ok (.putfield 58, 3) := dk_181 0 58 (dk_at dksX5_truncateText_0 18 rfl rfl)
theorem dX5_truncateText_21 : decode cX5_truncateText 21 = .ok (.aload_n 0, 1) := dk_42 (dk_at dksX5_truncateText_0 21 rfl rfl)
theorem dX5_truncateText_22 : decode cX5_truncateText 22 = .ok (.getfield 58, 3) := dk_180 0 58 (dk_at dksX5_truncateText_1 0 rfl rfl)
theorem dX5_truncateText_25 : decode cX5_truncateText 25 = .ok (.ifCond .le 5, 3) := dk_158 0 5 (dk_at dksX5_truncateText_1 3 rfl rfl)
theorem dX5_truncateText_28 : decode cX5_truncateText 28 = .ok (.iconst 0, 1) := dk_3 (dk_at dksX5_truncateText_1 6 rfl rfl)
theorem dX5_truncateText_29 : decode cX5_truncateText 29 = .ok (.ireturn, 1) := dk_172 (dk_at dksX5_truncateText_1 7 rfl rfl)
theorem dX5_truncateText_30 : decode cX5_truncateText 30 = .ok (.aload_n 0, 1) := dk_42 (dk_at dksX5_truncateText_1 8 rfl rfl)
theorem dX5_truncateText_31 : decode cX5_truncateText 31 = .ok (.iload_n 1, 1) := dk_27 (dk_at dksX5_truncateText_1 9 rfl rfl)
theorem dX5_truncateText_32 : decode cX5_truncateText 32 = .ok (.putfield 265, 3) := dk_181 1 9 (dk_at dksX5_truncateText_1 10 rfl rfl)
theorem dX5_truncateText_35 : decode cX5_truncateText 35 = .ok (.aload_n 0, 1) := dk_42 (dk_at dksX5_truncateText_1 13 rfl rfl)
theorem dX5_truncateText_36 : decode cX5_truncateText 36 = .ok (.getfield 265, 3) := dk_180 1 9 (dk_at dksX5_truncateText_1 14 rfl rfl)
theorem dX5_truncateText_39 : decode cX5_truncateText 39 = .ok (.ireturn, 1) := dk_172 (dk_at dksX5_truncateText_1 17 rfl rfl)
abbrev cX5_runScript : ByteArray := prog_14_method_109_code
def yX5_runScript : MethodName := ⟨RX5, "runScript", "()I"⟩
def dkwX5_runScript_3 : List UInt8 := [162, 0, 19, 42, 7, 27, 104, 182, 1, 55, 153, 0, 9, 132, 1, 1, 167, 255, 235, 27, 172]
abbrev dktX5_runScript_3 : List UInt8 := dkwX5_runScript_3 ++ []
def dkwX5_runScript_2 : List UInt8 := [181, 1, 9, 42, 3, 181, 0, 58, 42, 180, 1, 33, 158, 0, 5, 2, 172, 3, 60, 27, 42, 180, 1, 46]
abbrev dktX5_runScript_2 : List UInt8 := dkwX5_runScript_2 ++ dktX5_runScript_3
def dkwX5_runScript_1 : List UInt8 := [42, 180, 1, 33, 154, 0, 17, 42, 180, 1, 27, 153, 0, 10, 42, 182, 1, 52, 167, 255, 238, 42, 3]
abbrev dktX5_runScript_1 : List UInt8 := dkwX5_runScript_1 ++ dktX5_runScript_2
def dkwX5_runScript_0 : List UInt8 := [42, 3, 181, 1, 12, 42, 3, 181, 1, 33, 42, 2, 181, 0, 43, 42, 3, 181, 1, 46, 42, 182, 1, 40]
abbrev dktX5_runScript_0 : List UInt8 := dkwX5_runScript_0 ++ dktX5_runScript_1
theorem dksX5_runScript_0 : cX5_runScript.data.toList.drop 0 = dktX5_runScript_0 := by decide +kernel
theorem dksX5_runScript_1 : cX5_runScript.data.toList.drop 24 = dktX5_runScript_1 := dk_seg dksX5_runScript_0 24 rfl rfl
theorem dksX5_runScript_2 : cX5_runScript.data.toList.drop 47 = dktX5_runScript_2 := dk_seg dksX5_runScript_1 23 rfl rfl
theorem dksX5_runScript_3 : cX5_runScript.data.toList.drop 71 = dktX5_runScript_3 := dk_seg dksX5_runScript_2 24 rfl rfl
theorem dX5_runScript_0 : decode cX5_runScript 0 = .ok (.aload_n 0, 1) := dk_42 (dk_at dksX5_runScript_0 0 rfl rfl)
theorem dX5_runScript_1 : decode cX5_runScript 1 = .ok (.iconst 0, 1) := dk_3 (dk_at dksX5_runScript_0 1 rfl rfl)
theorem dX5_runScript_2 : decode cX5_runScript 2 = .ok (.putfield 268, 3) := dk_181 1 12 (dk_at dksX5_runScript_0 2 rfl rfl)
theorem dX5_runScript_5 : decode cX5_runScript 5 = .ok (.aload_n 0, 1) := dk_42 (dk_at dksX5_runScript_0 5 rfl rfl)
theorem dX5_runScript_6 : decode cX5_runScript 6 = .ok (.iconst 0, 1) := dk_3 (dk_at dksX5_runScript_0 6 rfl rfl)
theorem dX5_runScript_7 : decode cX5_runScript 7 = .ok (.putfield 289, 3) := dk_181 1 33 (dk_at dksX5_runScript_0 7 rfl rfl)
theorem dX5_runScript_10 : decode cX5_runScript 10 = .ok (.aload_n 0, 1) := dk_42 (dk_at dksX5_runScript_0 10 rfl rfl)
theorem dX5_runScript_11 : decode cX5_runScript 11 = .ok (.iconst (-1), 1) := dk_2 (dk_at dksX5_runScript_0 11 rfl rfl)
theorem dX5_runScript_12 : decode cX5_runScript 12 = .ok (.putfield 43, 3) := dk_181 0 43 (dk_at dksX5_runScript_0 12 rfl rfl)
theorem dX5_runScript_15 : decode cX5_runScript 15 = .ok (.aload_n 0, 1) := dk_42 (dk_at dksX5_runScript_0 15 rfl rfl)
theorem dX5_runScript_16 : decode cX5_runScript 16 = .ok (.iconst 0, 1) := dk_3 (dk_at dksX5_runScript_0 16 rfl rfl)
theorem dX5_runScript_17 : decode cX5_runScript 17 = .ok (.putfield 302, 3) := dk_181 1 46 (dk_at dksX5_runScript_0 17 rfl rfl)
theorem dX5_runScript_20 : decode cX5_runScript 20 = .ok (.aload_n 0, 1) := dk_42 (dk_at dksX5_runScript_0 20 rfl rfl)
theorem dX5_runScript_21 : decode cX5_runScript 21 = .ok (.invokevirtual 296, 3) := dk_182 1 40 (dk_at dksX5_runScript_0 21 rfl rfl)
theorem dX5_runScript_24 : decode cX5_runScript 24 = .ok (.aload_n 0, 1) := dk_42 (dk_at dksX5_runScript_1 0 rfl rfl)
theorem dX5_runScript_25 : decode cX5_runScript 25 = .ok (.getfield 289, 3) := dk_180 1 33 (dk_at dksX5_runScript_1 1 rfl rfl)
theorem dX5_runScript_28 : decode cX5_runScript 28 = .ok (.ifCond .ne 17, 3) := dk_154 0 17 (dk_at dksX5_runScript_1 4 rfl rfl)
theorem dX5_runScript_31 : decode cX5_runScript 31 = .ok (.aload_n 0, 1) := dk_42 (dk_at dksX5_runScript_1 7 rfl rfl)
theorem dX5_runScript_32 : decode cX5_runScript 32 = .ok (.getfield 283, 3) := dk_180 1 27 (dk_at dksX5_runScript_1 8 rfl rfl)
theorem dX5_runScript_35 : decode cX5_runScript 35 = .ok (.ifCond .eq 10, 3) := dk_153 0 10 (dk_at dksX5_runScript_1 11 rfl rfl)
theorem dX5_runScript_38 : decode cX5_runScript 38 = .ok (.aload_n 0, 1) := dk_42 (dk_at dksX5_runScript_1 14 rfl rfl)
theorem dX5_runScript_39 : decode cX5_runScript 39 = .ok (.invokevirtual 308, 3) := dk_182 1 52 (dk_at dksX5_runScript_1 15 rfl rfl)
theorem dX5_runScript_42 : decode cX5_runScript 42 = .ok (.goto (-18), 3) := dk_167 255 238 (dk_at dksX5_runScript_1 18 rfl rfl)
theorem dX5_runScript_45 : decode cX5_runScript 45 = .ok (.aload_n 0, 1) := dk_42 (dk_at dksX5_runScript_1 21 rfl rfl)
theorem dX5_runScript_46 : decode cX5_runScript 46 = .ok (.iconst 0, 1) := dk_3 (dk_at dksX5_runScript_1 22 rfl rfl)
theorem dX5_runScript_47 : decode cX5_runScript 47 = .ok (.putfield 265, 3) := dk_181 1 9 (dk_at dksX5_runScript_2 0 rfl rfl)
theorem dX5_runScript_50 : decode cX5_runScript 50 = .ok (.aload_n 0, 1) := dk_42 (dk_at dksX5_runScript_2 3 rfl rfl)
theorem dX5_runScript_51 : decode cX5_runScript 51 = .ok (.iconst 0, 1) := dk_3 (dk_at dksX5_runScript_2 4 rfl rfl)
theorem dX5_runScript_52 : decode cX5_runScript 52 = .ok (.putfield 58, 3) := dk_181 0 58 (dk_at dksX5_runScript_2 5 rfl rfl)
theorem dX5_runScript_55 : decode cX5_runScript 55 = .ok (.aload_n 0, 1) := dk_42 (dk_at dksX5_runScript_2 8 rfl rfl)
theorem dX5_runScript_56 : decode cX5_runScript 56 = .ok (.getfield 289, 3) := dk_180 1 33 (dk_at dksX5_runScript_2 9 rfl rfl)
theorem dX5_runScript_59 : decode cX5_runScript 59 = .ok (.ifCond .le 5, 3) := dk_158 0 5 (dk_at dksX5_runScript_2 12 rfl rfl)
theorem dX5_runScript_62 : decode cX5_runScript 62 = .ok (.iconst (-1), 1) := dk_2 (dk_at dksX5_runScript_2 15 rfl rfl)
theorem dX5_runScript_63 : decode cX5_runScript 63 = .ok (.ireturn, 1) := dk_172 (dk_at dksX5_runScript_2 16 rfl rfl)
theorem dX5_runScript_64 : decode cX5_runScript 64 = .ok (.iconst 0, 1) := dk_3 (dk_at dksX5_runScript_2 17 rfl rfl)
theorem dX5_runScript_65 : decode cX5_runScript 65 = .ok (.istore_n 1, 1) := dk_60 (dk_at dksX5_runScript_2 18 rfl rfl)
theorem dX5_runScript_66 : decode cX5_runScript 66 = .ok (.iload_n 1, 1) := dk_27 (dk_at dksX5_runScript_2 19 rfl rfl)
theorem dX5_runScript_67 : decode cX5_runScript 67 = .ok (.aload_n 0, 1) := dk_42 (dk_at dksX5_runScript_2 20 rfl rfl)
theorem dX5_runScript_68 : decode cX5_runScript 68 = .ok (.getfield 302, 3) := dk_180 1 46 (dk_at dksX5_runScript_2 21 rfl rfl)
theorem dX5_runScript_71 : decode cX5_runScript 71 = .ok (.if_icmp .ge 19, 3) := dk_162 0 19 (dk_at dksX5_runScript_3 0 rfl rfl)
theorem dX5_runScript_74 : decode cX5_runScript 74 = .ok (.aload_n 0, 1) := dk_42 (dk_at dksX5_runScript_3 3 rfl rfl)
theorem dX5_runScript_75 : decode cX5_runScript 75 = .ok (.iconst 4, 1) := dk_7 (dk_at dksX5_runScript_3 4 rfl rfl)
theorem dX5_runScript_76 : decode cX5_runScript 76 = .ok (.iload_n 1, 1) := dk_27 (dk_at dksX5_runScript_3 5 rfl rfl)
theorem dX5_runScript_77 : decode cX5_runScript 77 = .ok (.imul, 1) := dk_104 (dk_at dksX5_runScript_3 6 rfl rfl)
theorem dX5_runScript_78 : decode cX5_runScript 78 = .ok (.invokevirtual 311, 3) := dk_182 1 55 (dk_at dksX5_runScript_3 7 rfl rfl)
theorem dX5_runScript_81 : decode cX5_runScript 81 = .ok (.ifCond .eq 9, 3) := dk_153 0 9 (dk_at dksX5_runScript_3 10 rfl rfl)
theorem dX5_runScript_84 : decode cX5_runScript 84 = .ok (.iinc 1 1, 3) := dk_132 1 1 (dk_at dksX5_runScript_3 13 rfl rfl)
theorem dX5_runScript_87 : decode cX5_runScript 87 = .ok (.goto (-21), 3) := dk_167 255 235 (dk_at dksX5_runScript_3 16 rfl rfl)
theorem dX5_runScript_90 : decode cX5_runScript 90 = .ok (.iload_n 1, 1) := dk_27 (dk_at dksX5_runScript_3 19 rfl rfl)
theorem dX5_runScript_91 : decode cX5_runScript 91 = .ok (.ireturn, 1) := dk_172 (dk_at dksX5_runScript_3 20 rfl rfl)
abbrev cX5_goesOn : ByteArray := prog_14_method_103_code
def yX5_goesOn : MethodName := ⟨RX5, "goesOn", "()V"⟩
def dkwX5_goesOn_8 : List UInt8 := [182, 1, 15, 96, 16, 48, 100, 181, 1, 30, 42, 89, 180, 1, 12, 4, 96, 181, 1, 12, 167, 255, 195, 177]
abbrev dktX5_goesOn_8 : List UInt8 := dkwX5_goesOn_8 ++ []
def dkwX5_goesOn_7 : List UInt8 := [180, 1, 30, 17, 39, 16, 164, 0, 10, 42, 180, 1, 30, 167, 0, 18, 16, 10, 42, 180, 1, 30, 104, 42]
abbrev dktX5_goesOn_7 : List UInt8 := dkwX5_goesOn_7 ++ dktX5_goesOn_8
def dkwX5_goesOn_6 : List UInt8 := [96, 181, 1, 12, 167, 255, 231, 42, 180, 1, 27, 5, 160, 0, 59, 42, 182, 1, 24, 153, 0, 52, 42, 42]
abbrev dktX5_goesOn_6 : List UInt8 := dkwX5_goesOn_6 ++ dktX5_goesOn_7
def dkwX5_goesOn_5 : List UInt8 := [181, 1, 12, 42, 180, 1, 27, 4, 160, 0, 23, 42, 182, 1, 21, 153, 0, 16, 42, 89, 180, 1, 12, 4]
abbrev dktX5_goesOn_5 : List UInt8 := dkwX5_goesOn_5 ++ dktX5_goesOn_6
def dkwX5_goesOn_4 : List UInt8 := [181, 1, 30, 42, 89, 180, 1, 12, 42, 180, 1, 27, 6, 161, 0, 7, 4, 167, 0, 4, 3, 96]
abbrev dktX5_goesOn_4 : List UInt8 := dkwX5_goesOn_4 ++ dktX5_goesOn_5
def dkwX5_goesOn_3 : List UInt8 := [167, 0, 17, 42, 182, 1, 15, 16, 59, 160, 0, 7, 6, 167, 0, 4, 7, 181, 1, 27, 42, 3]
abbrev dktX5_goesOn_3 : List UInt8 := dkwX5_goesOn_3 ++ dktX5_goesOn_4
def dkwX5_goesOn_2 : List UInt8 := [3, 167, 0, 39, 42, 182, 1, 21, 153, 0, 7, 4, 167, 0, 28, 42, 182, 1, 24, 153, 0, 7, 5]
abbrev dktX5_goesOn_2 : List UInt8 := dkwX5_goesOn_2 ++ dktX5_goesOn_3
def dkwX5_goesOn_1 : List UInt8 := [96, 181, 1, 12, 167, 255, 228, 42, 42, 180, 1, 12, 181, 1, 18, 42, 42, 182, 1, 15, 2, 160, 0, 7]
abbrev dktX5_goesOn_1 : List UInt8 := dkwX5_goesOn_1 ++ dktX5_goesOn_2
def dkwX5_goesOn_0 : List UInt8 := [42, 182, 1, 15, 16, 32, 159, 0, 12, 42, 182, 1, 15, 16, 10, 160, 0, 16, 42, 89, 180, 1, 12, 4]
abbrev dktX5_goesOn_0 : List UInt8 := dkwX5_goesOn_0 ++ dktX5_goesOn_1
theorem dksX5_goesOn_0 : cX5_goesOn.data.toList.drop 0 = dktX5_goesOn_0 := by decide +kernel
theorem dksX5_goesOn_1 : cX5_goesOn.data.toList.drop 24 = dktX5_goesOn_1 := dk_seg dksX5_goesOn_0 24 rfl rfl
theorem dksX5_goesOn_2 : cX5_goesOn.data.toList.drop 48 = dktX5_goesOn_2 := dk_seg dksX5_goesOn_1 24 rfl rfl
theorem dksX5_goesOn_3 : cX5_goesOn.data.toList.drop 71 = dktX5_goesOn_3 := dk_seg dksX5_goesOn_2 23 rfl rfl
theorem dksX5_goesOn_4 : cX5_goesOn.data.toList.drop 93 = dktX5_goesOn_4 := dk_seg dksX5_goesOn_3 22 rfl rfl
theorem dksX5_goesOn_5 : cX5_goesOn.data.toList.drop 115 = dktX5_goesOn_5 := dk_seg dksX5_goesOn_4 22 rfl rfl
theorem dksX5_goesOn_6 : cX5_goesOn.data.toList.drop 139 = dktX5_goesOn_6 := dk_seg dksX5_goesOn_5 24 rfl rfl
theorem dksX5_goesOn_7 : cX5_goesOn.data.toList.drop 163 = dktX5_goesOn_7 := dk_seg dksX5_goesOn_6 24 rfl rfl
theorem dksX5_goesOn_8 : cX5_goesOn.data.toList.drop 187 = dktX5_goesOn_8 := dk_seg dksX5_goesOn_7 24 rfl rfl
theorem dX5_goesOn_0 : decode cX5_goesOn 0 = .ok (.aload_n 0, 1) := dk_42 (dk_at dksX5_goesOn_0 0 rfl rfl)
theorem dX5_goesOn_1 : decode cX5_goesOn 1 = .ok (.invokevirtual 271, 3) := dk_182 1 15 (dk_at dksX5_goesOn_0 1 rfl rfl)
theorem dX5_goesOn_4 : decode cX5_goesOn 4 = .ok (.bipush 32, 2) := dk_16 32 (dk_at dksX5_goesOn_0 4 rfl rfl)
theorem dX5_goesOn_6 : decode cX5_goesOn 6 = .ok (.if_icmp .eq 12, 3) := dk_159 0 12 (dk_at dksX5_goesOn_0 6 rfl rfl)
theorem dX5_goesOn_9 : decode cX5_goesOn 9 = .ok (.aload_n 0, 1) := dk_42 (dk_at dksX5_goesOn_0 9 rfl rfl)
theorem dX5_goesOn_10 : decode cX5_goesOn 10 = .ok (.invokevirtual 271, 3) := dk_182 1 15 (dk_at dksX5_goesOn_0 10 rfl rfl)
theorem dX5_goesOn_13 : decode cX5_goesOn 13 = .ok (.bipush 10, 2) := dk_16 10 (dk_at dksX5_goesOn_0 13 rfl rfl)
theorem dX5_goesOn_15 : decode cX5_goesOn 15 = .ok (.if_icmp .ne 16, 3) := dk_160 0 16 (dk_at dksX5_goesOn_0 15 rfl rfl)
theorem dX5_goesOn_18 : decode cX5_goesOn 18 = .ok (.aload_n 0, 1) := dk_42 (dk_at dksX5_goesOn_0 18 rfl rfl)
theorem dX5_goesOn_19 : decode cX5_goesOn 19 = .ok (.dup, 1) := dk_89 (dk_at dksX5_goesOn_0 19 rfl rfl)
theorem dX5_goesOn_20 : decode cX5_goesOn 20 = .ok (.getfield 268, 3) := dk_180 1 12 (dk_at dksX5_goesOn_0 20 rfl rfl)
theorem dX5_goesOn_23 : decode cX5_goesOn 23 = .ok (.iconst 1, 1) := dk_4 (dk_at dksX5_goesOn_0 23 rfl rfl)
theorem dX5_goesOn_24 : decode cX5_goesOn 24 = .ok (.iadd, 1) := dk_96 (dk_at dksX5_goesOn_1 0 rfl rfl)
theorem dX5_goesOn_25 : decode cX5_goesOn 25 = .ok (.putfield 268, 3) := dk_181 1 12 (dk_at dksX5_goesOn_1 1 rfl rfl)
theorem dX5_goesOn_28 : decode cX5_goesOn 28 = .ok (.goto (-28), 3) := dk_167 255 228 (dk_at dksX5_goesOn_1 4 rfl rfl)
theorem dX5_goesOn_31 : decode cX5_goesOn 31 = .ok (.aload_n 0, 1) := dk_42 (dk_at dksX5_goesOn_1 7 rfl rfl)
theorem dX5_goesOn_32 : decode cX5_goesOn 32 = .ok (.aload_n 0, 1) := dk_42 (dk_at dksX5_goesOn_1 8 rfl rfl)
theorem dX5_goesOn_33 : decode cX5_goesOn 33 = .ok (.getfield 268, 3) := dk_180 1 12 (dk_at dksX5_goesOn_1 9 rfl rfl)
theorem dX5_goesOn_36 : decode cX5_goesOn 36 = .ok (.putfield 274, 3) := dk_181 1 18 (dk_at dksX5_goesOn_1 12 rfl rfl)
theorem dX5_goesOn_39 : decode cX5_goesOn 39 = .ok (.aload_n 0, 1) := dk_42 (dk_at dksX5_goesOn_1 15 rfl rfl)
theorem dX5_goesOn_40 : decode cX5_goesOn 40 = .ok (.aload_n 0, 1) := dk_42 (dk_at dksX5_goesOn_1 16 rfl rfl)
theorem dX5_goesOn_41 : decode cX5_goesOn 41 = .ok (.invokevirtual 271, 3) := dk_182 1 15 (dk_at dksX5_goesOn_1 17 rfl rfl)
theorem dX5_goesOn_44 : decode cX5_goesOn 44 = .ok (.iconst (-1), 1) := dk_2 (dk_at dksX5_goesOn_1 20 rfl rfl)
theorem dX5_goesOn_45 : decode cX5_goesOn 45 = .ok (.if_icmp .ne 7, 3) := dk_160 0 7 (dk_at dksX5_goesOn_1 21 rfl rfl)
theorem dX5_goesOn_48 : decode cX5_goesOn 48 = .ok (.iconst 0, 1) := dk_3 (dk_at dksX5_goesOn_2 0 rfl rfl)
theorem dX5_goesOn_49 : decode cX5_goesOn 49 = .ok (.goto 39, 3) := dk_167 0 39 (dk_at dksX5_goesOn_2 1 rfl rfl)
theorem dX5_goesOn_52 : decode cX5_goesOn 52 = .ok (.aload_n 0, 1) := dk_42 (dk_at dksX5_goesOn_2 4 rfl rfl)
theorem dX5_goesOn_53 : decode cX5_goesOn 53 = .ok (.invokevirtual 277, 3) := dk_182 1 21 (dk_at dksX5_goesOn_2 5 rfl rfl)
theorem dX5_goesOn_56 : decode cX5_goesOn 56 = .ok (.ifCond .eq 7, 3) := dk_153 0 7 (dk_at dksX5_goesOn_2 8 rfl rfl)
theorem dX5_goesOn_59 : decode cX5_goesOn 59 = .ok (.iconst 1, 1) := dk_4 (dk_at dksX5_goesOn_2 11 rfl rfl)
theorem dX5_goesOn_60 : decode cX5_goesOn 60 = .ok (.goto 28, 3) := dk_167 0 28 (dk_at dksX5_goesOn_2 12 rfl rfl)
theorem dX5_goesOn_63 : decode cX5_goesOn 63 = .ok (.aload_n 0, 1) := dk_42 (dk_at dksX5_goesOn_2 15 rfl rfl)
theorem dX5_goesOn_64 : decode cX5_goesOn 64 = .ok (.invokevirtual 280, 3) := dk_182 1 24 (dk_at dksX5_goesOn_2 16 rfl rfl)
theorem dX5_goesOn_67 : decode cX5_goesOn 67 = .ok (.ifCond .eq 7, 3) := dk_153 0 7 (dk_at dksX5_goesOn_2 19 rfl rfl)
theorem dX5_goesOn_70 : decode cX5_goesOn 70 = .ok (.iconst 2, 1) := dk_5 (dk_at dksX5_goesOn_2 22 rfl rfl)
theorem dX5_goesOn_71 : decode cX5_goesOn 71 = .ok (.goto 17, 3) := dk_167 0 17 (dk_at dksX5_goesOn_3 0 rfl rfl)
theorem dX5_goesOn_74 : decode cX5_goesOn 74 = .ok (.aload_n 0, 1) := dk_42 (dk_at dksX5_goesOn_3 3 rfl rfl)
theorem dX5_goesOn_75 : decode cX5_goesOn 75 = .ok (.invokevirtual 271, 3) := dk_182 1 15 (dk_at dksX5_goesOn_3 4 rfl rfl)
theorem dX5_goesOn_78 : decode cX5_goesOn 78 = .ok (.bipush 59, 2) := dk_16 59 (dk_at dksX5_goesOn_3 7 rfl rfl)
theorem dX5_goesOn_80 : decode cX5_goesOn 80 = .ok (.if_icmp .ne 7, 3) := dk_160 0 7 (dk_at dksX5_goesOn_3 9 rfl rfl)
theorem dX5_goesOn_83 : decode cX5_goesOn 83 = .ok (.iconst 3, 1) := dk_6 (dk_at dksX5_goesOn_3 12 rfl rfl)
theorem dX5_goesOn_84 : decode cX5_goesOn 84 = .ok (.goto 4, 3) := dk_167 0 4 (dk_at dksX5_goesOn_3 13 rfl rfl)
theorem dX5_goesOn_87 : decode cX5_goesOn 87 = .ok (.iconst 4, 1) := dk_7 (dk_at dksX5_goesOn_3 16 rfl rfl)
theorem dX5_goesOn_88 : decode cX5_goesOn 88 = .ok (.putfield 283, 3) := dk_181 1 27 (dk_at dksX5_goesOn_3 17 rfl rfl)
theorem dX5_goesOn_91 : decode cX5_goesOn 91 = .ok (.aload_n 0, 1) := dk_42 (dk_at dksX5_goesOn_3 20 rfl rfl)
theorem dX5_goesOn_92 : decode cX5_goesOn 92 = .ok (.iconst 0, 1) := dk_3 (dk_at dksX5_goesOn_3 21 rfl rfl)
theorem dX5_goesOn_93 : decode cX5_goesOn 93 = .ok (.putfield 286, 3) := dk_181 1 30 (dk_at dksX5_goesOn_4 0 rfl rfl)
theorem dX5_goesOn_96 : decode cX5_goesOn 96 = .ok (.aload_n 0, 1) := dk_42 (dk_at dksX5_goesOn_4 3 rfl rfl)
theorem dX5_goesOn_97 : decode cX5_goesOn 97 = .ok (.dup, 1) := dk_89 (dk_at dksX5_goesOn_4 4 rfl rfl)
theorem dX5_goesOn_98 : decode cX5_goesOn 98 = .ok (.getfield 268, 3) := dk_180 1 12 (dk_at dksX5_goesOn_4 5 rfl rfl)
theorem dX5_goesOn_101 : decode cX5_goesOn 101 = .ok (.aload_n 0, 1) := dk_42 (dk_at dksX5_goesOn_4 8 rfl rfl)
theorem dX5_goesOn_102 : decode cX5_goesOn 102 = .ok (.getfield 283, 3) := dk_180 1 27 (dk_at dksX5_goesOn_4 9 rfl rfl)
theorem dX5_goesOn_105 : decode cX5_goesOn 105 = .ok (.iconst 3, 1) := dk_6 (dk_at dksX5_goesOn_4 12 rfl rfl)
theorem dX5_goesOn_106 : decode cX5_goesOn 106 = .ok (.if_icmp .lt 7, 3) := dk_161 0 7 (dk_at dksX5_goesOn_4 13 rfl rfl)
theorem dX5_goesOn_109 : decode cX5_goesOn 109 = .ok (.iconst 1, 1) := dk_4 (dk_at dksX5_goesOn_4 16 rfl rfl)
theorem dX5_goesOn_110 : decode cX5_goesOn 110 = .ok (.goto 4, 3) := dk_167 0 4 (dk_at dksX5_goesOn_4 17 rfl rfl)
theorem dX5_goesOn_113 : decode cX5_goesOn 113 = .ok (.iconst 0, 1) := dk_3 (dk_at dksX5_goesOn_4 20 rfl rfl)
theorem dX5_goesOn_114 : decode cX5_goesOn 114 = .ok (.iadd, 1) := dk_96 (dk_at dksX5_goesOn_4 21 rfl rfl)
theorem dX5_goesOn_115 : decode cX5_goesOn 115 = .ok (.putfield 268, 3) := dk_181 1 12 (dk_at dksX5_goesOn_5 0 rfl rfl)
theorem dX5_goesOn_118 : decode cX5_goesOn 118 = .ok (.aload_n 0, 1) := dk_42 (dk_at dksX5_goesOn_5 3 rfl rfl)
theorem dX5_goesOn_119 : decode cX5_goesOn 119 = .ok (.getfield 283, 3) := dk_180 1 27 (dk_at dksX5_goesOn_5 4 rfl rfl)
theorem dX5_goesOn_122 : decode cX5_goesOn 122 = .ok (.iconst 1, 1) := dk_4 (dk_at dksX5_goesOn_5 7 rfl rfl)
theorem dX5_goesOn_123 : decode cX5_goesOn 123 = .ok (.if_icmp .ne 23, 3) := dk_160 0 23 (dk_at dksX5_goesOn_5 8 rfl rfl)
theorem dX5_goesOn_126 : decode cX5_goesOn 126 = .ok (.aload_n 0, 1) := dk_42 (dk_at dksX5_goesOn_5 11 rfl rfl)
theorem dX5_goesOn_127 : decode cX5_goesOn 127 = .ok (.invokevirtual 277, 3) := dk_182 1 21 (dk_at dksX5_goesOn_5 12 rfl rfl)
theorem dX5_goesOn_130 : decode cX5_goesOn 130 = .ok (.ifCond .eq 16, 3) := dk_153 0 16 (dk_at dksX5_goesOn_5 15 rfl rfl)
theorem dX5_goesOn_133 : decode cX5_goesOn 133 = .ok (.aload_n 0, 1) := dk_42 (dk_at dksX5_goesOn_5 18 rfl rfl)
theorem dX5_goesOn_134 : decode cX5_goesOn 134 = .ok (.dup, 1) := dk_89 (dk_at dksX5_goesOn_5 19 rfl rfl)
theorem dX5_goesOn_135 : decode cX5_goesOn 135 = .ok (.getfield 268, 3) := dk_180 1 12 (dk_at dksX5_goesOn_5 20 rfl rfl)
theorem dX5_goesOn_138 : decode cX5_goesOn 138 = .ok (.iconst 1, 1) := dk_4 (dk_at dksX5_goesOn_5 23 rfl rfl)
theorem dX5_goesOn_139 : decode cX5_goesOn 139 = .ok (.iadd, 1) := dk_96 (dk_at dksX5_goesOn_6 0 rfl rfl)
theorem dX5_goesOn_140 : decode cX5_goesOn 140 = .ok (.putfield 268, 3) := dk_181 1 12 (dk_at dksX5_goesOn_6 1 rfl rfl)
theorem dX5_goesOn_143 : decode cX5_goesOn 143 = .ok (.goto (-25), 3) := dk_167 255 231 (dk_at dksX5_goesOn_6 4 rfl rfl)
theorem dX5_goesOn_146 : decode cX5_goesOn 146 = .ok (.aload_n 0, 1) := dk_42 (dk_at dksX5_goesOn_6 7 rfl rfl)
theorem dX5_goesOn_147 : decode cX5_goesOn 147 = .ok (.getfield 283, 3) := dk_180 1 27 (dk_at dksX5_goesOn_6 8 rfl rfl)
theorem dX5_goesOn_150 : decode cX5_goesOn 150 = .ok (.iconst 2, 1) := dk_5 (dk_at dksX5_goesOn_6 11 rfl rfl)
theorem dX5_goesOn_151 : decode cX5_goesOn 151 = .ok (.if_icmp .ne 59, 3) := dk_160 0 59 (dk_at dksX5_goesOn_6 12 rfl rfl)
theorem dX5_goesOn_154 : decode cX5_goesOn 154 = .ok (.aload_n 0, 1) := dk_42 (dk_at dksX5_goesOn_6 15 rfl rfl)
theorem dX5_goesOn_155 : decode cX5_goesOn 155 = .ok (.invokevirtual 280, 3) := dk_182 1 24 (dk_at dksX5_goesOn_6 16 rfl rfl)
theorem dX5_goesOn_158 : decode cX5_goesOn 158 = .ok (.ifCond .eq 52, 3) := dk_153 0 52 (dk_at dksX5_goesOn_6 19 rfl rfl)
theorem dX5_goesOn_161 : decode cX5_goesOn 161 = .ok (.aload_n 0, 1) := dk_42 (dk_at dksX5_goesOn_6 22 rfl rfl)
theorem dX5_goesOn_162 : decode cX5_goesOn 162 = .ok (.aload_n 0, 1) := dk_42 (dk_at dksX5_goesOn_6 23 rfl rfl)
theorem dX5_goesOn_163 : decode cX5_goesOn 163 = .ok (.getfield 286, 3) := dk_180 1 30 (dk_at dksX5_goesOn_7 0 rfl rfl)
theorem dX5_goesOn_166 : decode cX5_goesOn 166 = .ok (.sipush 10000, 3) := dk_17 39 16 (dk_at dksX5_goesOn_7 3 rfl rfl)
theorem dX5_goesOn_169 : decode cX5_goesOn 169 = .ok (.if_icmp .le 10, 3) := dk_164 0 10 (dk_at dksX5_goesOn_7 6 rfl rfl)
theorem dX5_goesOn_172 : decode cX5_goesOn 172 = .ok (.aload_n 0, 1) := dk_42 (dk_at dksX5_goesOn_7 9 rfl rfl)
theorem dX5_goesOn_173 : decode cX5_goesOn 173 = .ok (.getfield 286, 3) := dk_180 1 30 (dk_at dksX5_goesOn_7 10 rfl rfl)
theorem dX5_goesOn_176 : decode cX5_goesOn 176 = .ok (.goto 18, 3) := dk_167 0 18 (dk_at dksX5_goesOn_7 13 rfl rfl)
theorem dX5_goesOn_179 : decode cX5_goesOn 179 = .ok (.bipush 10, 2) := dk_16 10 (dk_at dksX5_goesOn_7 16 rfl rfl)
theorem dX5_goesOn_181 : decode cX5_goesOn 181 = .ok (.aload_n 0, 1) := dk_42 (dk_at dksX5_goesOn_7 18 rfl rfl)
theorem dX5_goesOn_182 : decode cX5_goesOn 182 = .ok (.getfield 286, 3) := dk_180 1 30 (dk_at dksX5_goesOn_7 19 rfl rfl)
theorem dX5_goesOn_185 : decode cX5_goesOn 185 = .ok (.imul, 1) := dk_104 (dk_at dksX5_goesOn_7 22 rfl rfl)
theorem dX5_goesOn_186 : decode cX5_goesOn 186 = .ok (.aload_n 0, 1) := dk_42 (dk_at dksX5_goesOn_7 23 rfl rfl)
theorem dX5_goesOn_187 : decode cX5_goesOn 187 = .ok (.invokevirtual 271, 3) := dk_182 1 15 (dk_at dksX5_goesOn_8 0 rfl rfl)
theorem dX5_goesOn_190 : decode cX5_goesOn 190 = .ok (.iadd, 1) := dk_96 (dk_at dksX5_goesOn_8 3 rfl rfl)
theorem dX5_goesOn_191 : decode cX5_goesOn 191 = .ok (.bipush 48, 2) := dk_16 48 (dk_at dksX5_goesOn_8 4 rfl rfl)
theorem dX5_goesOn_193 : decode cX5_goesOn 193 = .ok (.isub, 1) := dk_100 (dk_at dksX5_goesOn_8 6 rfl rfl)
theorem dX5_goesOn_194 : decode cX5_goesOn 194 = .ok (.putfield 286, 3) := dk_181 1 30 (dk_at dksX5_goesOn_8 7 rfl rfl)
theorem dX5_goesOn_197 : decode cX5_goesOn 197 = .ok (.aload_n 0, 1) := dk_42 (dk_at dksX5_goesOn_8 10 rfl rfl)
theorem dX5_goesOn_198 : decode cX5_goesOn 198 = .ok (.dup, 1) := dk_89 (dk_at dksX5_goesOn_8 11 rfl rfl)
theorem dX5_goesOn_199 : decode cX5_goesOn 199 = .ok (.getfield 268, 3) := dk_180 1 12 (dk_at dksX5_goesOn_8 12 rfl rfl)
theorem dX5_goesOn_202 : decode cX5_goesOn 202 = .ok (.iconst 1, 1) := dk_4 (dk_at dksX5_goesOn_8 15 rfl rfl)
theorem dX5_goesOn_203 : decode cX5_goesOn 203 = .ok (.iadd, 1) := dk_96 (dk_at dksX5_goesOn_8 16 rfl rfl)
theorem dX5_goesOn_204 : decode cX5_goesOn 204 = .ok (.putfield 268, 3) := dk_181 1 12 (dk_at dksX5_goesOn_8 17 rfl rfl)
theorem dX5_goesOn_207 : decode cX5_goesOn 207 = .ok (.goto (-61), 3) := dk_167 255 195 (dk_at dksX5_goesOn_8 20 rfl rfl)
theorem dX5_goesOn_210 : decode cX5_goesOn 210 = .ok (.return_, 1) := dk_177 (dk_at dksX5_goesOn_8 23 rfl rfl)
abbrev cX5_see : ByteArray := prog_14_method_100_code
def yX5_see : MethodName := ⟨RX5, "see", "()I"⟩
def dkwX5_see_1 : List UInt8 := [167, 0, 4, 2, 172]
abbrev dktX5_see_1 : List UInt8 := dkwX5_see_1 ++ []
def dkwX5_see_0 : List UInt8 := [42, 180, 1, 12, 42, 180, 1, 9, 162, 0, 19, 42, 180, 0, 39, 42, 180, 1, 12, 51, 17, 0, 255, 126]
abbrev dktX5_see_0 : List UInt8 := dkwX5_see_0 ++ dktX5_see_1
theorem dksX5_see_0 : cX5_see.data.toList.drop 0 = dktX5_see_0 := by decide +kernel
theorem dksX5_see_1 : cX5_see.data.toList.drop 24 = dktX5_see_1 := dk_seg dksX5_see_0 24 rfl rfl
theorem dX5_see_0 : decode cX5_see 0 = .ok (.aload_n 0, 1) := dk_42 (dk_at dksX5_see_0 0 rfl rfl)
theorem dX5_see_1 : decode cX5_see 1 = .ok (.getfield 268, 3) := dk_180 1 12 (dk_at dksX5_see_0 1 rfl rfl)
theorem dX5_see_4 : decode cX5_see 4 = .ok (.aload_n 0, 1) := dk_42 (dk_at dksX5_see_0 4 rfl rfl)
theorem dX5_see_5 : decode cX5_see 5 = .ok (.getfield 265, 3) := dk_180 1 9 (dk_at dksX5_see_0 5 rfl rfl)
theorem dX5_see_8 : decode cX5_see 8 = .ok (.if_icmp .ge 19, 3) := dk_162 0 19 (dk_at dksX5_see_0 8 rfl rfl)
theorem dX5_see_11 : decode cX5_see 11 = .ok (.aload_n 0, 1) := dk_42 (dk_at dksX5_see_0 11 rfl rfl)
theorem dX5_see_12 : decode cX5_see 12 = .ok (.getfield 39, 3) := dk_180 0 39 (dk_at dksX5_see_0 12 rfl rfl)
theorem dX5_see_15 : decode cX5_see 15 = .ok (.aload_n 0, 1) := dk_42 (dk_at dksX5_see_0 15 rfl rfl)
theorem dX5_see_16 : decode cX5_see 16 = .ok (.getfield 268, 3) := dk_180 1 12 (dk_at dksX5_see_0 16 rfl rfl)
theorem dX5_see_19 : decode cX5_see 19 = .ok (.baload, 1) := dk_51 (dk_at dksX5_see_0 19 rfl rfl)
theorem dX5_see_20 : decode cX5_see 20 = .ok (.sipush 255, 3) := dk_17 0 255 (dk_at dksX5_see_0 20 rfl rfl)
theorem dX5_see_23 : decode cX5_see 23 = .ok (.iand, 1) := dk_126 (dk_at dksX5_see_0 23 rfl rfl)
theorem dX5_see_24 : decode cX5_see 24 = .ok (.goto 4, 3) := dk_167 0 4 (dk_at dksX5_see_1 0 rfl rfl)
theorem dX5_see_27 : decode cX5_see 27 = .ok (.iconst (-1), 1) := dk_2 (dk_at dksX5_see_1 3 rfl rfl)
theorem dX5_see_28 : decode cX5_see 28 = .ok (.ireturn, 1) := dk_172 (dk_at dksX5_see_1 4 rfl rfl)
abbrev cX5_isSmall : ByteArray := prog_14_method_101_code
def yX5_isSmall : MethodName := ⟨RX5, "isSmall", "()Z"⟩
def dkwX5_isSmall_0 : List UInt8 := [42, 182, 1, 15, 16, 97, 16, 122, 184, 0, 179, 172]
abbrev dktX5_isSmall_0 : List UInt8 := dkwX5_isSmall_0 ++ []
theorem dksX5_isSmall_0 : cX5_isSmall.data.toList.drop 0 = dktX5_isSmall_0 := by decide +kernel
theorem dX5_isSmall_0 : decode cX5_isSmall 0 = .ok (.aload_n 0, 1) := dk_42 (dk_at dksX5_isSmall_0 0 rfl rfl)
theorem dX5_isSmall_1 : decode cX5_isSmall 1 = .ok (.invokevirtual 271, 3) := dk_182 1 15 (dk_at dksX5_isSmall_0 1 rfl rfl)
theorem dX5_isSmall_4 : decode cX5_isSmall 4 = .ok (.bipush 97, 2) := dk_16 97 (dk_at dksX5_isSmall_0 4 rfl rfl)
theorem dX5_isSmall_6 : decode cX5_isSmall 6 = .ok (.bipush 122, 2) := dk_16 122 (dk_at dksX5_isSmall_0 6 rfl rfl)
theorem dX5_isSmall_8 : decode cX5_isSmall 8 = .ok (.invokestatic 179, 3) := dk_184 0 179 (dk_at dksX5_isSmall_0 8 rfl rfl)
theorem dX5_isSmall_11 : decode cX5_isSmall 11 = .ok (.ireturn, 1) := dk_172 (dk_at dksX5_isSmall_0 11 rfl rfl)
abbrev cX5_isDigit : ByteArray := prog_14_method_102_code
def yX5_isDigit : MethodName := ⟨RX5, "isDigit", "()Z"⟩
def dkwX5_isDigit_0 : List UInt8 := [42, 182, 1, 15, 16, 48, 16, 57, 184, 0, 179, 172]
abbrev dktX5_isDigit_0 : List UInt8 := dkwX5_isDigit_0 ++ []
theorem dksX5_isDigit_0 : cX5_isDigit.data.toList.drop 0 = dktX5_isDigit_0 := by decide +kernel
theorem dX5_isDigit_0 : decode cX5_isDigit 0 = .ok (.aload_n 0, 1) := dk_42 (dk_at dksX5_isDigit_0 0 rfl rfl)
theorem dX5_isDigit_1 : decode cX5_isDigit 1 = .ok (.invokevirtual 271, 3) := dk_182 1 15 (dk_at dksX5_isDigit_0 1 rfl rfl)
theorem dX5_isDigit_4 : decode cX5_isDigit 4 = .ok (.bipush 48, 2) := dk_16 48 (dk_at dksX5_isDigit_0 4 rfl rfl)
theorem dX5_isDigit_6 : decode cX5_isDigit 6 = .ok (.bipush 57, 2) := dk_16 57 (dk_at dksX5_isDigit_0 6 rfl rfl)
theorem dX5_isDigit_8 : decode cX5_isDigit 8 = .ok (.invokestatic 179, 3) := dk_184 0 179 (dk_at dksX5_isDigit_0 8 rfl rfl)
theorem dX5_isDigit_11 : decode cX5_isDigit 11 = .ok (.ireturn, 1) := dk_172 (dk_at dksX5_isDigit_0 11 rfl rfl)
abbrev cX5_readCommand : ByteArray := prog_14_method_107_code
def yX5_readCommand : MethodName := ⟨RX5, "readCommand", "()V"⟩
def dkwX5_readCommand_9 : List UInt8 := [177]
abbrev dktX5_readCommand_9 : List UInt8 := dkwX5_readCommand_9 ++ []
def dkwX5_readCommand_8 : List UInt8 := [182, 1, 36, 42, 180, 1, 33, 154, 0, 17, 42, 182, 1, 40, 42, 89, 180, 1, 46, 4, 96, 181, 1, 46]
abbrev dktX5_readCommand_8 : List UInt8 := dkwX5_readCommand_8 ++ dktX5_readCommand_9
def dkwX5_readCommand_7 : List UInt8 := [167, 0, 5, 16, 11, 182, 1, 49, 79, 42, 42, 180, 1, 27, 6, 160, 0, 7, 4, 167, 0, 4, 3, 4]
abbrev dktX5_readCommand_7 : List UInt8 := dkwX5_readCommand_7 ++ dktX5_readCommand_8
def dkwX5_readCommand_6 : List UInt8 := [160, 0, 13, 42, 4, 16, 60, 182, 1, 49, 167, 0, 20, 42, 3, 27, 4, 160, 0, 8, 16, 98]
abbrev dktX5_readCommand_6 : List UInt8 := dkwX5_readCommand_6 ++ dktX5_readCommand_7
def dkwX5_readCommand_5 : List UInt8 := [16, 99, 182, 1, 49, 167, 0, 4, 3, 79, 167, 0, 43, 42, 180, 0, 49, 28, 4, 96, 27, 7]
abbrev dktX5_readCommand_5 : List UInt8 := dkwX5_readCommand_5 ++ dktX5_readCommand_6
def dkwX5_readCommand_4 : List UInt8 := [180, 0, 49, 28, 6, 96, 42, 180, 1, 33, 154, 0, 21, 42, 180, 1, 27, 5, 160, 0, 13, 42, 3]
abbrev dktX5_readCommand_4 : List UInt8 := dkwX5_readCommand_4 ++ dktX5_readCommand_5
def dkwX5_readCommand_3 : List UInt8 := [96, 42, 3, 16, 7, 182, 1, 49, 79, 42, 180, 0, 49, 28, 5, 96, 42, 4, 6, 182, 1, 49, 79, 42]
abbrev dktX5_readCommand_3 : List UInt8 := dkwX5_readCommand_3 ++ dktX5_readCommand_4
def dkwX5_readCommand_2 : List UInt8 := [7, 42, 180, 1, 46, 104, 61, 42, 180, 0, 49, 28, 27, 79, 27, 154, 0, 69, 42, 180, 0, 49, 28, 4]
abbrev dktX5_readCommand_2 : List UInt8 := dkwX5_readCommand_2 ++ dktX5_readCommand_3
def dkwX5_readCommand_1 : List UInt8 := [162, 0, 7, 4, 167, 0, 4, 3, 6, 182, 1, 36, 42, 180, 1, 33, 158, 0, 4, 177, 42, 182, 1, 40]
abbrev dktX5_readCommand_1 : List UInt8 := dkwX5_readCommand_1 ++ dktX5_readCommand_2
def dkwX5_readCommand_0 : List UInt8 := [42, 182, 1, 43, 60, 42, 27, 3, 7, 184, 0, 179, 4, 182, 1, 36, 42, 42, 180, 1, 46, 16, 60]
abbrev dktX5_readCommand_0 : List UInt8 := dkwX5_readCommand_0 ++ dktX5_readCommand_1
theorem dksX5_readCommand_0 : cX5_readCommand.data.toList.drop 0 = dktX5_readCommand_0 := by decide +kernel
theorem dksX5_readCommand_1 : cX5_readCommand.data.toList.drop 23 = dktX5_readCommand_1 := dk_seg dksX5_readCommand_0 23 rfl rfl
theorem dksX5_readCommand_2 : cX5_readCommand.data.toList.drop 47 = dktX5_readCommand_2 := dk_seg dksX5_readCommand_1 24 rfl rfl
theorem dksX5_readCommand_3 : cX5_readCommand.data.toList.drop 71 = dktX5_readCommand_3 := dk_seg dksX5_readCommand_2 24 rfl rfl
theorem dksX5_readCommand_4 : cX5_readCommand.data.toList.drop 95 = dktX5_readCommand_4 := dk_seg dksX5_readCommand_3 24 rfl rfl
theorem dksX5_readCommand_5 : cX5_readCommand.data.toList.drop 118 = dktX5_readCommand_5 := dk_seg dksX5_readCommand_4 23 rfl rfl
theorem dksX5_readCommand_6 : cX5_readCommand.data.toList.drop 140 = dktX5_readCommand_6 := dk_seg dksX5_readCommand_5 22 rfl rfl
theorem dksX5_readCommand_7 : cX5_readCommand.data.toList.drop 162 = dktX5_readCommand_7 := dk_seg dksX5_readCommand_6 22 rfl rfl
theorem dksX5_readCommand_8 : cX5_readCommand.data.toList.drop 186 = dktX5_readCommand_8 := dk_seg dksX5_readCommand_7 24 rfl rfl
theorem dksX5_readCommand_9 : cX5_readCommand.data.toList.drop 210 = dktX5_readCommand_9 := dk_seg dksX5_readCommand_8 24 rfl rfl
theorem dX5_readCommand_0 : decode cX5_readCommand 0 = .ok (.aload_n 0, 1) := dk_42 (dk_at dksX5_readCommand_0 0 rfl rfl)
theorem dX5_readCommand_1 : decode cX5_readCommand 1 = .ok (.invokevirtual 299, 3) := dk_182 1 43 (dk_at dksX5_readCommand_0 1 rfl rfl)
theorem dX5_readCommand_4 : decode cX5_readCommand 4 = .ok (.istore_n 1, 1) := dk_60 (dk_at dksX5_readCommand_0 4 rfl rfl)
theorem dX5_readCommand_5 : decode cX5_readCommand 5 = .ok (.aload_n 0, 1) := dk_42 (dk_at dksX5_readCommand_0 5 rfl rfl)
theorem dX5_readCommand_6 : decode cX5_readCommand 6 = .ok (.iload_n 1, 1) := dk_27 (dk_at dksX5_readCommand_0 6 rfl rfl)
theorem dX5_readCommand_7 : decode cX5_readCommand 7 = .ok (.iconst 0, 1) := dk_3 (dk_at dksX5_readCommand_0 7 rfl rfl)
theorem dX5_readCommand_8 : decode cX5_readCommand 8 = .ok (.iconst 4, 1) := dk_7 (dk_at dksX5_readCommand_0 8 rfl rfl)
theorem dX5_readCommand_9 : decode cX5_readCommand 9 = .ok (.invokestatic 179, 3) := dk_184 0 179 (dk_at dksX5_readCommand_0 9 rfl rfl)
theorem dX5_readCommand_12 : decode cX5_readCommand 12 = .ok (.iconst 1, 1) := dk_4 (dk_at dksX5_readCommand_0 12 rfl rfl)
theorem dX5_readCommand_13 : decode cX5_readCommand 13 = .ok (.invokevirtual 292, 3) := dk_182 1 36 (dk_at dksX5_readCommand_0 13 rfl rfl)
theorem dX5_readCommand_16 : decode cX5_readCommand 16 = .ok (.aload_n 0, 1) := dk_42 (dk_at dksX5_readCommand_0 16 rfl rfl)
theorem dX5_readCommand_17 : decode cX5_readCommand 17 = .ok (.aload_n 0, 1) := dk_42 (dk_at dksX5_readCommand_0 17 rfl rfl)
theorem dX5_readCommand_18 : decode cX5_readCommand 18 = .ok (.getfield 302, 3) := dk_180 1 46 (dk_at dksX5_readCommand_0 18 rfl rfl)
theorem dX5_readCommand_21 : decode cX5_readCommand 21 = .ok (.bipush 60, 2) := dk_16 60 (dk_at dksX5_readCommand_0 21 rfl rfl)
theorem dX5_readCommand_23 : decode cX5_readCommand 23 = .ok (.if_icmp .ge 7, 3) := dk_162 0 7 (dk_at dksX5_readCommand_1 0 rfl rfl)
theorem dX5_readCommand_26 : decode cX5_readCommand 26 = .ok (.iconst 1, 1) := dk_4 (dk_at dksX5_readCommand_1 3 rfl rfl)
theorem dX5_readCommand_27 : decode cX5_readCommand 27 = .ok (.goto 4, 3) := dk_167 0 4 (dk_at dksX5_readCommand_1 4 rfl rfl)
theorem dX5_readCommand_30 : decode cX5_readCommand 30 = .ok (.iconst 0, 1) := dk_3 (dk_at dksX5_readCommand_1 7 rfl rfl)
theorem dX5_readCommand_31 : decode cX5_readCommand 31 = .ok (.iconst 3, 1) := dk_6 (dk_at dksX5_readCommand_1 8 rfl rfl)
theorem dX5_readCommand_32 : decode cX5_readCommand 32 = .ok (.invokevirtual 292, 3) := dk_182 1 36 (dk_at dksX5_readCommand_1 9 rfl rfl)
theorem dX5_readCommand_35 : decode cX5_readCommand 35 = .ok (.aload_n 0, 1) := dk_42 (dk_at dksX5_readCommand_1 12 rfl rfl)
theorem dX5_readCommand_36 : decode cX5_readCommand 36 = .ok (.getfield 289, 3) := dk_180 1 33 (dk_at dksX5_readCommand_1 13 rfl rfl)
theorem dX5_readCommand_39 : decode cX5_readCommand 39 = .ok (.ifCond .le 4, 3) := dk_158 0 4 (dk_at dksX5_readCommand_1 16 rfl rfl)
theorem dX5_readCommand_42 : decode cX5_readCommand 42 = .ok (.return_, 1) := dk_177 (dk_at dksX5_readCommand_1 19 rfl rfl)
theorem dX5_readCommand_43 : decode cX5_readCommand 43 = .ok (.aload_n 0, 1) := dk_42 (dk_at dksX5_readCommand_1 20 rfl rfl)
theorem dX5_readCommand_44 : decode cX5_readCommand 44 = .ok (.invokevirtual 296, 3) := dk_182 1 40 (dk_at dksX5_readCommand_1 21 rfl rfl)
theorem dX5_readCommand_47 : decode cX5_readCommand 47 = .ok (.iconst 4, 1) := dk_7 (dk_at dksX5_readCommand_2 0 rfl rfl)
theorem dX5_readCommand_48 : decode cX5_readCommand 48 = .ok (.aload_n 0, 1) := dk_42 (dk_at dksX5_readCommand_2 1 rfl rfl)
theorem dX5_readCommand_49 : decode cX5_readCommand 49 = .ok (.getfield 302, 3) := dk_180 1 46 (dk_at dksX5_readCommand_2 2 rfl rfl)
theorem dX5_readCommand_52 : decode cX5_readCommand 52 = .ok (.imul, 1) := dk_104 (dk_at dksX5_readCommand_2 5 rfl rfl)
theorem dX5_readCommand_53 : decode cX5_readCommand 53 = .ok (.istore_n 2, 1) := dk_61 (dk_at dksX5_readCommand_2 6 rfl rfl)
theorem dX5_readCommand_54 : decode cX5_readCommand 54 = .ok (.aload_n 0, 1) := dk_42 (dk_at dksX5_readCommand_2 7 rfl rfl)
theorem dX5_readCommand_55 : decode cX5_readCommand 55 = .ok (.getfield 49, 3) := dk_180 0 49 (dk_at dksX5_readCommand_2 8 rfl rfl)
theorem dX5_readCommand_58 : decode cX5_readCommand 58 = .ok (.iload_n 2, 1) := dk_28 (dk_at dksX5_readCommand_2 11 rfl rfl)
theorem dX5_readCommand_59 : decode cX5_readCommand 59 = .ok (.iload_n 1, 1) := dk_27 (dk_at dksX5_readCommand_2 12 rfl rfl)
theorem dX5_readCommand_60 : decode cX5_readCommand 60 = .ok (.iastore, 1) := dk_79 (dk_at dksX5_readCommand_2 13 rfl rfl)
theorem dX5_readCommand_61 : decode cX5_readCommand 61 = .ok (.iload_n 1, 1) := dk_27 (dk_at dksX5_readCommand_2 14 rfl rfl)
theorem dX5_readCommand_62 : decode cX5_readCommand 62 = .ok (.ifCond .ne 69, 3) := dk_154 0 69 (dk_at dksX5_readCommand_2 15 rfl rfl)
theorem dX5_readCommand_65 : decode cX5_readCommand 65 = .ok (.aload_n 0, 1) := dk_42 (dk_at dksX5_readCommand_2 18 rfl rfl)
theorem dX5_readCommand_66 : decode cX5_readCommand 66 = .ok (.getfield 49, 3) := dk_180 0 49 (dk_at dksX5_readCommand_2 19 rfl rfl)
theorem dX5_readCommand_69 : decode cX5_readCommand 69 = .ok (.iload_n 2, 1) := dk_28 (dk_at dksX5_readCommand_2 22 rfl rfl)
theorem dX5_readCommand_70 : decode cX5_readCommand 70 = .ok (.iconst 1, 1) := dk_4 (dk_at dksX5_readCommand_2 23 rfl rfl)
theorem dX5_readCommand_71 : decode cX5_readCommand 71 = .ok (.iadd, 1) := dk_96 (dk_at dksX5_readCommand_3 0 rfl rfl)
theorem dX5_readCommand_72 : decode cX5_readCommand 72 = .ok (.aload_n 0, 1) := dk_42 (dk_at dksX5_readCommand_3 1 rfl rfl)
theorem dX5_readCommand_73 : decode cX5_readCommand 73 = .ok (.iconst 0, 1) := dk_3 (dk_at dksX5_readCommand_3 2 rfl rfl)
theorem dX5_readCommand_74 : decode cX5_readCommand 74 = .ok (.bipush 7, 2) := dk_16 7 (dk_at dksX5_readCommand_3 3 rfl rfl)
theorem dX5_readCommand_76 : decode cX5_readCommand 76 = .ok (.invokevirtual 305, 3) := dk_182 1 49 (dk_at dksX5_readCommand_3 5 rfl rfl)
theorem dX5_readCommand_79 : decode cX5_readCommand 79 = .ok (.iastore, 1) := dk_79 (dk_at dksX5_readCommand_3 8 rfl rfl)
theorem dX5_readCommand_80 : decode cX5_readCommand 80 = .ok (.aload_n 0, 1) := dk_42 (dk_at dksX5_readCommand_3 9 rfl rfl)
theorem dX5_readCommand_81 : decode cX5_readCommand 81 = .ok (.getfield 49, 3) := dk_180 0 49 (dk_at dksX5_readCommand_3 10 rfl rfl)
theorem dX5_readCommand_84 : decode cX5_readCommand 84 = .ok (.iload_n 2, 1) := dk_28 (dk_at dksX5_readCommand_3 13 rfl rfl)
theorem dX5_readCommand_85 : decode cX5_readCommand 85 = .ok (.iconst 2, 1) := dk_5 (dk_at dksX5_readCommand_3 14 rfl rfl)
theorem dX5_readCommand_86 : decode cX5_readCommand 86 = .ok (.iadd, 1) := dk_96 (dk_at dksX5_readCommand_3 15 rfl rfl)
theorem dX5_readCommand_87 : decode cX5_readCommand 87 = .ok (.aload_n 0, 1) := dk_42 (dk_at dksX5_readCommand_3 16 rfl rfl)
theorem dX5_readCommand_88 : decode cX5_readCommand 88 = .ok (.iconst 1, 1) := dk_4 (dk_at dksX5_readCommand_3 17 rfl rfl)
theorem dX5_readCommand_89 : decode cX5_readCommand 89 = .ok (.iconst 3, 1) := dk_6 (dk_at dksX5_readCommand_3 18 rfl rfl)
theorem dX5_readCommand_90 : decode cX5_readCommand 90 = .ok (.invokevirtual 305, 3) := dk_182 1 49 (dk_at dksX5_readCommand_3 19 rfl rfl)
theorem dX5_readCommand_93 : decode cX5_readCommand 93 = .ok (.iastore, 1) := dk_79 (dk_at dksX5_readCommand_3 22 rfl rfl)
theorem dX5_readCommand_94 : decode cX5_readCommand 94 = .ok (.aload_n 0, 1) := dk_42 (dk_at dksX5_readCommand_3 23 rfl rfl)
theorem dX5_readCommand_95 : decode cX5_readCommand 95 = .ok (.getfield 49, 3) := dk_180 0 49 (dk_at dksX5_readCommand_4 0 rfl rfl)
theorem dX5_readCommand_98 : decode cX5_readCommand 98 = .ok (.iload_n 2, 1) := dk_28 (dk_at dksX5_readCommand_4 3 rfl rfl)
theorem dX5_readCommand_99 : decode cX5_readCommand 99 = .ok (.iconst 3, 1) := dk_6 (dk_at dksX5_readCommand_4 4 rfl rfl)
theorem dX5_readCommand_100 : decode cX5_readCommand 100 = .ok (.iadd, 1) := dk_96 (dk_at dksX5_readCommand_4 5 rfl rfl)
theorem dX5_readCommand_101 : decode cX5_readCommand 101 = .ok (.aload_n 0, 1) := dk_42 (dk_at dksX5_readCommand_4 6 rfl rfl)
theorem dX5_readCommand_102 : decode cX5_readCommand 102 = .ok (.getfield 289, 3) := dk_180 1 33 (dk_at dksX5_readCommand_4 7 rfl rfl)
theorem dX5_readCommand_105 : decode cX5_readCommand 105 = .ok (.ifCond .ne 21, 3) := dk_154 0 21 (dk_at dksX5_readCommand_4 10 rfl rfl)
theorem dX5_readCommand_108 : decode cX5_readCommand 108 = .ok (.aload_n 0, 1) := dk_42 (dk_at dksX5_readCommand_4 13 rfl rfl)
theorem dX5_readCommand_109 : decode cX5_readCommand 109 = .ok (.getfield 283, 3) := dk_180 1 27 (dk_at dksX5_readCommand_4 14 rfl rfl)
theorem dX5_readCommand_112 : decode cX5_readCommand 112 = .ok (.iconst 2, 1) := dk_5 (dk_at dksX5_readCommand_4 17 rfl rfl)
theorem dX5_readCommand_113 : decode cX5_readCommand 113 = .ok (.if_icmp .ne 13, 3) := dk_160 0 13 (dk_at dksX5_readCommand_4 18 rfl rfl)
theorem dX5_readCommand_116 : decode cX5_readCommand 116 = .ok (.aload_n 0, 1) := dk_42 (dk_at dksX5_readCommand_4 21 rfl rfl)
theorem dX5_readCommand_117 : decode cX5_readCommand 117 = .ok (.iconst 0, 1) := dk_3 (dk_at dksX5_readCommand_4 22 rfl rfl)
theorem dX5_readCommand_118 : decode cX5_readCommand 118 = .ok (.bipush 99, 2) := dk_16 99 (dk_at dksX5_readCommand_5 0 rfl rfl)
theorem dX5_readCommand_120 : decode cX5_readCommand 120 = .ok (.invokevirtual 305, 3) := dk_182 1 49 (dk_at dksX5_readCommand_5 2 rfl rfl)
theorem dX5_readCommand_123 : decode cX5_readCommand 123 = .ok (.goto 4, 3) := dk_167 0 4 (dk_at dksX5_readCommand_5 5 rfl rfl)
theorem dX5_readCommand_126 : decode cX5_readCommand 126 = .ok (.iconst 0, 1) := dk_3 (dk_at dksX5_readCommand_5 8 rfl rfl)
theorem dX5_readCommand_127 : decode cX5_readCommand 127 = .ok (.iastore, 1) := dk_79 (dk_at dksX5_readCommand_5 9 rfl rfl)
theorem dX5_readCommand_128 : decode cX5_readCommand 128 = .ok (.goto 43, 3) := dk_167 0 43 (dk_at dksX5_readCommand_5 10 rfl rfl)
theorem dX5_readCommand_131 : decode cX5_readCommand 131 = .ok (.aload_n 0, 1) := dk_42 (dk_at dksX5_readCommand_5 13 rfl rfl)
theorem dX5_readCommand_132 : decode cX5_readCommand 132 = .ok (.getfield 49, 3) := dk_180 0 49 (dk_at dksX5_readCommand_5 14 rfl rfl)
theorem dX5_readCommand_135 : decode cX5_readCommand 135 = .ok (.iload_n 2, 1) := dk_28 (dk_at dksX5_readCommand_5 17 rfl rfl)
theorem dX5_readCommand_136 : decode cX5_readCommand 136 = .ok (.iconst 1, 1) := dk_4 (dk_at dksX5_readCommand_5 18 rfl rfl)
theorem dX5_readCommand_137 : decode cX5_readCommand 137 = .ok (.iadd, 1) := dk_96 (dk_at dksX5_readCommand_5 19 rfl rfl)
theorem dX5_readCommand_138 : decode cX5_readCommand 138 = .ok (.iload_n 1, 1) := dk_27 (dk_at dksX5_readCommand_5 20 rfl rfl)
theorem dX5_readCommand_139 : decode cX5_readCommand 139 = .ok (.iconst 4, 1) := dk_7 (dk_at dksX5_readCommand_5 21 rfl rfl)
theorem dX5_readCommand_140 : decode cX5_readCommand 140 = .ok (.if_icmp .ne 13, 3) := dk_160 0 13 (dk_at dksX5_readCommand_6 0 rfl rfl)
theorem dX5_readCommand_143 : decode cX5_readCommand 143 = .ok (.aload_n 0, 1) := dk_42 (dk_at dksX5_readCommand_6 3 rfl rfl)
theorem dX5_readCommand_144 : decode cX5_readCommand 144 = .ok (.iconst 1, 1) := dk_4 (dk_at dksX5_readCommand_6 4 rfl rfl)
theorem dX5_readCommand_145 : decode cX5_readCommand 145 = .ok (.bipush 60, 2) := dk_16 60 (dk_at dksX5_readCommand_6 5 rfl rfl)
theorem dX5_readCommand_147 : decode cX5_readCommand 147 = .ok (.invokevirtual 305, 3) := dk_182 1 49 (dk_at dksX5_readCommand_6 7 rfl rfl)
theorem dX5_readCommand_150 : decode cX5_readCommand 150 = .ok (.goto 20, 3) := dk_167 0 20 (dk_at dksX5_readCommand_6 10 rfl rfl)
theorem dX5_readCommand_153 : decode cX5_readCommand 153 = .ok (.aload_n 0, 1) := dk_42 (dk_at dksX5_readCommand_6 13 rfl rfl)
theorem dX5_readCommand_154 : decode cX5_readCommand 154 = .ok (.iconst 0, 1) := dk_3 (dk_at dksX5_readCommand_6 14 rfl rfl)
theorem dX5_readCommand_155 : decode cX5_readCommand 155 = .ok (.iload_n 1, 1) := dk_27 (dk_at dksX5_readCommand_6 15 rfl rfl)
theorem dX5_readCommand_156 : decode cX5_readCommand 156 = .ok (.iconst 1, 1) := dk_4 (dk_at dksX5_readCommand_6 16 rfl rfl)
theorem dX5_readCommand_157 : decode cX5_readCommand 157 = .ok (.if_icmp .ne 8, 3) := dk_160 0 8 (dk_at dksX5_readCommand_6 17 rfl rfl)
theorem dX5_readCommand_160 : decode cX5_readCommand 160 = .ok (.bipush 98, 2) := dk_16 98 (dk_at dksX5_readCommand_6 20 rfl rfl)
theorem dX5_readCommand_162 : decode cX5_readCommand 162 = .ok (.goto 5, 3) := dk_167 0 5 (dk_at dksX5_readCommand_7 0 rfl rfl)
theorem dX5_readCommand_165 : decode cX5_readCommand 165 = .ok (.bipush 11, 2) := dk_16 11 (dk_at dksX5_readCommand_7 3 rfl rfl)
theorem dX5_readCommand_167 : decode cX5_readCommand 167 = .ok (.invokevirtual 305, 3) := dk_182 1 49 (dk_at dksX5_readCommand_7 5 rfl rfl)
theorem dX5_readCommand_170 : decode cX5_readCommand 170 = .ok (.iastore, 1) := dk_79 (dk_at dksX5_readCommand_7 8 rfl rfl)
theorem dX5_readCommand_171 : decode cX5_readCommand 171 = .ok (.aload_n 0, 1) := dk_42 (dk_at dksX5_readCommand_7 9 rfl rfl)
theorem dX5_readCommand_172 : decode cX5_readCommand 172 = .ok (.aload_n 0, 1) := dk_42 (dk_at dksX5_readCommand_7 10 rfl rfl)
theorem dX5_readCommand_173 : decode cX5_readCommand 173 = .ok (.getfield 283, 3) := dk_180 1 27 (dk_at dksX5_readCommand_7 11 rfl rfl)
theorem dX5_readCommand_176 : decode cX5_readCommand 176 = .ok (.iconst 3, 1) := dk_6 (dk_at dksX5_readCommand_7 14 rfl rfl)
theorem dX5_readCommand_177 : decode cX5_readCommand 177 = .ok (.if_icmp .ne 7, 3) := dk_160 0 7 (dk_at dksX5_readCommand_7 15 rfl rfl)
theorem dX5_readCommand_180 : decode cX5_readCommand 180 = .ok (.iconst 1, 1) := dk_4 (dk_at dksX5_readCommand_7 18 rfl rfl)
theorem dX5_readCommand_181 : decode cX5_readCommand 181 = .ok (.goto 4, 3) := dk_167 0 4 (dk_at dksX5_readCommand_7 19 rfl rfl)
theorem dX5_readCommand_184 : decode cX5_readCommand 184 = .ok (.iconst 0, 1) := dk_3 (dk_at dksX5_readCommand_7 22 rfl rfl)
theorem dX5_readCommand_185 : decode cX5_readCommand 185 = .ok (.iconst 1, 1) := dk_4 (dk_at dksX5_readCommand_7 23 rfl rfl)
theorem dX5_readCommand_186 : decode cX5_readCommand 186 = .ok (.invokevirtual 292, 3) := dk_182 1 36 (dk_at dksX5_readCommand_8 0 rfl rfl)
theorem dX5_readCommand_189 : decode cX5_readCommand 189 = .ok (.aload_n 0, 1) := dk_42 (dk_at dksX5_readCommand_8 3 rfl rfl)
theorem dX5_readCommand_190 : decode cX5_readCommand 190 = .ok (.getfield 289, 3) := dk_180 1 33 (dk_at dksX5_readCommand_8 4 rfl rfl)
theorem dX5_readCommand_193 : decode cX5_readCommand 193 = .ok (.ifCond .ne 17, 3) := dk_154 0 17 (dk_at dksX5_readCommand_8 7 rfl rfl)
theorem dX5_readCommand_196 : decode cX5_readCommand 196 = .ok (.aload_n 0, 1) := dk_42 (dk_at dksX5_readCommand_8 10 rfl rfl)
theorem dX5_readCommand_197 : decode cX5_readCommand 197 = .ok (.invokevirtual 296, 3) := dk_182 1 40 (dk_at dksX5_readCommand_8 11 rfl rfl)
theorem dX5_readCommand_200 : decode cX5_readCommand 200 = .ok (.aload_n 0, 1) := dk_42 (dk_at dksX5_readCommand_8 14 rfl rfl)
theorem dX5_readCommand_201 : decode cX5_readCommand 201 = .ok (.dup, 1) := dk_89 (dk_at dksX5_readCommand_8 15 rfl rfl)
theorem dX5_readCommand_202 : decode cX5_readCommand 202 = .ok (.getfield 302, 3) := dk_180 1 46 (dk_at dksX5_readCommand_8 16 rfl rfl)
theorem dX5_readCommand_205 : decode cX5_readCommand 205 = .ok (.iconst 1, 1) := dk_4 (dk_at dksX5_readCommand_8 19 rfl rfl)
theorem dX5_readCommand_206 : decode cX5_readCommand 206 = .ok (.iadd, 1) := dk_96 (dk_at dksX5_readCommand_8 20 rfl rfl)
theorem dX5_readCommand_207 : decode cX5_readCommand 207 = .ok (.putfield 302, 3) := dk_181 1 46 (dk_at dksX5_readCommand_8 21 rfl rfl)
theorem dX5_readCommand_210 : decode cX5_readCommand 210 = .ok (.return_, 1) := dk_177 (dk_at dksX5_readCommand_9 0 rfl rfl)
abbrev cX5_wordHere : ByteArray := prog_14_method_105_code
def yX5_wordHere : MethodName := ⟨RX5, "wordHere", "()I"⟩
def dkwX5_wordHere_5 : List UInt8 := [167, 255, 142, 2, 172]
abbrev dktX5_wordHere_5 : List UInt8 := dkwX5_wordHere_5 ++ []
def dkwX5_wordHere_4 : List UInt8 := [180, 1, 12, 42, 180, 1, 18, 100, 29, 160, 0, 5, 28, 172, 27, 29, 4, 96, 96, 60, 132, 2, 1]
abbrev dktX5_wordHere_4 : List UInt8 := dkwX5_wordHere_4 ++ dktX5_wordHere_5
def dkwX5_wordHere_3 : List UInt8 := [51, 160, 0, 7, 4, 167, 0, 4, 3, 54, 4, 132, 3, 1, 167, 255, 193, 21, 4, 153, 0, 18, 42]
abbrev dktX5_wordHere_3 : List UInt8 := dkwX5_wordHere_3 ++ dktX5_wordHere_4
def dkwX5_wordHere_2 : List UInt8 := [180, 1, 12, 162, 0, 29, 42, 180, 0, 39, 42, 180, 1, 18, 29, 96, 51, 42, 180, 0, 46, 27, 29, 96]
abbrev dktX5_wordHere_2 : List UInt8 := dkwX5_wordHere_2 ++ dktX5_wordHere_3
def dkwX5_wordHere_1 : List UInt8 := [180, 0, 46, 27, 29, 96, 51, 16, 32, 159, 0, 56, 21, 4, 153, 0, 42, 42, 180, 1, 18, 29, 96, 42]
abbrev dktX5_wordHere_1 : List UInt8 := dkwX5_wordHere_1 ++ dktX5_wordHere_2
def dkwX5_wordHere_0 : List UInt8 := [3, 60, 3, 61, 42, 180, 1, 27, 4, 160, 0, 112, 28, 16, 6, 162, 0, 106, 3, 62, 4, 54, 4, 42]
abbrev dktX5_wordHere_0 : List UInt8 := dkwX5_wordHere_0 ++ dktX5_wordHere_1
theorem dksX5_wordHere_0 : cX5_wordHere.data.toList.drop 0 = dktX5_wordHere_0 := by decide +kernel
theorem dksX5_wordHere_1 : cX5_wordHere.data.toList.drop 24 = dktX5_wordHere_1 := dk_seg dksX5_wordHere_0 24 rfl rfl
theorem dksX5_wordHere_2 : cX5_wordHere.data.toList.drop 48 = dktX5_wordHere_2 := dk_seg dksX5_wordHere_1 24 rfl rfl
theorem dksX5_wordHere_3 : cX5_wordHere.data.toList.drop 72 = dktX5_wordHere_3 := dk_seg dksX5_wordHere_2 24 rfl rfl
theorem dksX5_wordHere_4 : cX5_wordHere.data.toList.drop 95 = dktX5_wordHere_4 := dk_seg dksX5_wordHere_3 23 rfl rfl
theorem dksX5_wordHere_5 : cX5_wordHere.data.toList.drop 118 = dktX5_wordHere_5 := dk_seg dksX5_wordHere_4 23 rfl rfl
theorem dX5_wordHere_0 : decode cX5_wordHere 0 = .ok (.iconst 0, 1) := dk_3 (dk_at dksX5_wordHere_0 0 rfl rfl)
theorem dX5_wordHere_1 : decode cX5_wordHere 1 = .ok (.istore_n 1, 1) := dk_60 (dk_at dksX5_wordHere_0 1 rfl rfl)
theorem dX5_wordHere_2 : decode cX5_wordHere 2 = .ok (.iconst 0, 1) := dk_3 (dk_at dksX5_wordHere_0 2 rfl rfl)
theorem dX5_wordHere_3 : decode cX5_wordHere 3 = .ok (.istore_n 2, 1) := dk_61 (dk_at dksX5_wordHere_0 3 rfl rfl)
theorem dX5_wordHere_4 : decode cX5_wordHere 4 = .ok (.aload_n 0, 1) := dk_42 (dk_at dksX5_wordHere_0 4 rfl rfl)
theorem dX5_wordHere_5 : decode cX5_wordHere 5 = .ok (.getfield 283, 3) := dk_180 1 27 (dk_at dksX5_wordHere_0 5 rfl rfl)
theorem dX5_wordHere_8 : decode cX5_wordHere 8 = .ok (.iconst 1, 1) := dk_4 (dk_at dksX5_wordHere_0 8 rfl rfl)
theorem dX5_wordHere_9 : decode cX5_wordHere 9 = .ok (.if_icmp .ne 112, 3) := dk_160 0 112 (dk_at dksX5_wordHere_0 9 rfl rfl)
theorem dX5_wordHere_12 : decode cX5_wordHere 12 = .ok (.iload_n 2, 1) := dk_28 (dk_at dksX5_wordHere_0 12 rfl rfl)
theorem dX5_wordHere_13 : decode cX5_wordHere 13 = .ok (.bipush 6, 2) := dk_16 6 (dk_at dksX5_wordHere_0 13 rfl rfl)
theorem dX5_wordHere_15 : decode cX5_wordHere 15 = .ok (.if_icmp .ge 106, 3) := dk_162 0 106 (dk_at dksX5_wordHere_0 15 rfl rfl)
theorem dX5_wordHere_18 : decode cX5_wordHere 18 = .ok (.iconst 0, 1) := dk_3 (dk_at dksX5_wordHere_0 18 rfl rfl)
theorem dX5_wordHere_19 : decode cX5_wordHere 19 = .ok (.istore_n 3, 1) := dk_62 (dk_at dksX5_wordHere_0 19 rfl rfl)
theorem dX5_wordHere_20 : decode cX5_wordHere 20 = .ok (.iconst 1, 1) := dk_4 (dk_at dksX5_wordHere_0 20 rfl rfl)
theorem dX5_wordHere_21 : decode cX5_wordHere 21 = .ok (.istore 4, 2) := dk_54 4 (dk_at dksX5_wordHere_0 21 rfl rfl)
theorem dX5_wordHere_23 : decode cX5_wordHere 23 = .ok (.aload_n 0, 1) := dk_42 (dk_at dksX5_wordHere_0 23 rfl rfl)
theorem dX5_wordHere_24 : decode cX5_wordHere 24 = .ok (.getfield 46, 3) := dk_180 0 46 (dk_at dksX5_wordHere_1 0 rfl rfl)
theorem dX5_wordHere_27 : decode cX5_wordHere 27 = .ok (.iload_n 1, 1) := dk_27 (dk_at dksX5_wordHere_1 3 rfl rfl)
theorem dX5_wordHere_28 : decode cX5_wordHere 28 = .ok (.iload_n 3, 1) := dk_29 (dk_at dksX5_wordHere_1 4 rfl rfl)
theorem dX5_wordHere_29 : decode cX5_wordHere 29 = .ok (.iadd, 1) := dk_96 (dk_at dksX5_wordHere_1 5 rfl rfl)
theorem dX5_wordHere_30 : decode cX5_wordHere 30 = .ok (.baload, 1) := dk_51 (dk_at dksX5_wordHere_1 6 rfl rfl)
theorem dX5_wordHere_31 : decode cX5_wordHere 31 = .ok (.bipush 32, 2) := dk_16 32 (dk_at dksX5_wordHere_1 7 rfl rfl)
theorem dX5_wordHere_33 : decode cX5_wordHere 33 = .ok (.if_icmp .eq 56, 3) := dk_159 0 56 (dk_at dksX5_wordHere_1 9 rfl rfl)
theorem dX5_wordHere_36 : decode cX5_wordHere 36 = .ok (.iload 4, 2) := dk_21 4 (dk_at dksX5_wordHere_1 12 rfl rfl)
theorem dX5_wordHere_38 : decode cX5_wordHere 38 = .ok (.ifCond .eq 42, 3) := dk_153 0 42 (dk_at dksX5_wordHere_1 14 rfl rfl)
theorem dX5_wordHere_41 : decode cX5_wordHere 41 = .ok (.aload_n 0, 1) := dk_42 (dk_at dksX5_wordHere_1 17 rfl rfl)
theorem dX5_wordHere_42 : decode cX5_wordHere 42 = .ok (.getfield 274, 3) := dk_180 1 18 (dk_at dksX5_wordHere_1 18 rfl rfl)
theorem dX5_wordHere_45 : decode cX5_wordHere 45 = .ok (.iload_n 3, 1) := dk_29 (dk_at dksX5_wordHere_1 21 rfl rfl)
theorem dX5_wordHere_46 : decode cX5_wordHere 46 = .ok (.iadd, 1) := dk_96 (dk_at dksX5_wordHere_1 22 rfl rfl)
theorem dX5_wordHere_47 : decode cX5_wordHere 47 = .ok (.aload_n 0, 1) := dk_42 (dk_at dksX5_wordHere_1 23 rfl rfl)
theorem dX5_wordHere_48 : decode cX5_wordHere 48 = .ok (.getfield 268, 3) := dk_180 1 12 (dk_at dksX5_wordHere_2 0 rfl rfl)
theorem dX5_wordHere_51 : decode cX5_wordHere 51 = .ok (.if_icmp .ge 29, 3) := dk_162 0 29 (dk_at dksX5_wordHere_2 3 rfl rfl)
theorem dX5_wordHere_54 : decode cX5_wordHere 54 = .ok (.aload_n 0, 1) := dk_42 (dk_at dksX5_wordHere_2 6 rfl rfl)
theorem dX5_wordHere_55 : decode cX5_wordHere 55 = .ok (.getfield 39, 3) := dk_180 0 39 (dk_at dksX5_wordHere_2 7 rfl rfl)
theorem dX5_wordHere_58 : decode cX5_wordHere 58 = .ok (.aload_n 0, 1) := dk_42 (dk_at dksX5_wordHere_2 10 rfl rfl)
theorem dX5_wordHere_59 : decode cX5_wordHere 59 = .ok (.getfield 274, 3) := dk_180 1 18 (dk_at dksX5_wordHere_2 11 rfl rfl)
theorem dX5_wordHere_62 : decode cX5_wordHere 62 = .ok (.iload_n 3, 1) := dk_29 (dk_at dksX5_wordHere_2 14 rfl rfl)
theorem dX5_wordHere_63 : decode cX5_wordHere 63 = .ok (.iadd, 1) := dk_96 (dk_at dksX5_wordHere_2 15 rfl rfl)
theorem dX5_wordHere_64 : decode cX5_wordHere 64 = .ok (.baload, 1) := dk_51 (dk_at dksX5_wordHere_2 16 rfl rfl)
theorem dX5_wordHere_65 : decode cX5_wordHere 65 = .ok (.aload_n 0, 1) := dk_42 (dk_at dksX5_wordHere_2 17 rfl rfl)
theorem dX5_wordHere_66 : decode cX5_wordHere 66 = .ok (.getfield 46, 3) := dk_180 0 46 (dk_at dksX5_wordHere_2 18 rfl rfl)
theorem dX5_wordHere_69 : decode cX5_wordHere 69 = .ok (.iload_n 1, 1) := dk_27 (dk_at dksX5_wordHere_2 21 rfl rfl)
theorem dX5_wordHere_70 : decode cX5_wordHere 70 = .ok (.iload_n 3, 1) := dk_29 (dk_at dksX5_wordHere_2 22 rfl rfl)
theorem dX5_wordHere_71 : decode cX5_wordHere 71 = .ok (.iadd, 1) := dk_96 (dk_at dksX5_wordHere_2 23 rfl rfl)
theorem dX5_wordHere_72 : decode cX5_wordHere 72 = .ok (.baload, 1) := dk_51 (dk_at dksX5_wordHere_3 0 rfl rfl)
theorem dX5_wordHere_73 : decode cX5_wordHere 73 = .ok (.if_icmp .ne 7, 3) := dk_160 0 7 (dk_at dksX5_wordHere_3 1 rfl rfl)
theorem dX5_wordHere_76 : decode cX5_wordHere 76 = .ok (.iconst 1, 1) := dk_4 (dk_at dksX5_wordHere_3 4 rfl rfl)
theorem dX5_wordHere_77 : decode cX5_wordHere 77 = .ok (.goto 4, 3) := dk_167 0 4 (dk_at dksX5_wordHere_3 5 rfl rfl)
theorem dX5_wordHere_80 : decode cX5_wordHere 80 = .ok (.iconst 0, 1) := dk_3 (dk_at dksX5_wordHere_3 8 rfl rfl)
theorem dX5_wordHere_81 : decode cX5_wordHere 81 = .ok (.istore 4, 2) := dk_54 4 (dk_at dksX5_wordHere_3 9 rfl rfl)
theorem dX5_wordHere_83 : decode cX5_wordHere 83 = .ok (.iinc 3 1, 3) := dk_132 3 1 (dk_at dksX5_wordHere_3 11 rfl rfl)
theorem dX5_wordHere_86 : decode cX5_wordHere 86 = .ok (.goto (-63), 3) := dk_167 255 193 (dk_at dksX5_wordHere_3 14 rfl rfl)
theorem dX5_wordHere_89 : decode cX5_wordHere 89 = .ok (.iload 4, 2) := dk_21 4 (dk_at dksX5_wordHere_3 17 rfl rfl)
theorem dX5_wordHere_91 : decode cX5_wordHere 91 = .ok (.ifCond .eq 18, 3) := dk_153 0 18 (dk_at dksX5_wordHere_3 19 rfl rfl)
theorem dX5_wordHere_94 : decode cX5_wordHere 94 = .ok (.aload_n 0, 1) := dk_42 (dk_at dksX5_wordHere_3 22 rfl rfl)
theorem dX5_wordHere_95 : decode cX5_wordHere 95 = .ok (.getfield 268, 3) := dk_180 1 12 (dk_at dksX5_wordHere_4 0 rfl rfl)
theorem dX5_wordHere_98 : decode cX5_wordHere 98 = .ok (.aload_n 0, 1) := dk_42 (dk_at dksX5_wordHere_4 3 rfl rfl)
theorem dX5_wordHere_99 : decode cX5_wordHere 99 = .ok (.getfield 274, 3) := dk_180 1 18 (dk_at dksX5_wordHere_4 4 rfl rfl)
theorem dX5_wordHere_102 : decode cX5_wordHere 102 = .ok (.isub, 1) := dk_100 (dk_at dksX5_wordHere_4 7 rfl rfl)
theorem dX5_wordHere_103 : decode cX5_wordHere 103 = .ok (.iload_n 3, 1) := dk_29 (dk_at dksX5_wordHere_4 8 rfl rfl)
theorem dX5_wordHere_104 : decode cX5_wordHere 104 = .ok (.if_icmp .ne 5, 3) := dk_160 0 5 (dk_at dksX5_wordHere_4 9 rfl rfl)
theorem dX5_wordHere_107 : decode cX5_wordHere 107 = .ok (.iload_n 2, 1) := dk_28 (dk_at dksX5_wordHere_4 12 rfl rfl)
theorem dX5_wordHere_108 : decode cX5_wordHere 108 = .ok (.ireturn, 1) := dk_172 (dk_at dksX5_wordHere_4 13 rfl rfl)
theorem dX5_wordHere_109 : decode cX5_wordHere 109 = .ok (.iload_n 1, 1) := dk_27 (dk_at dksX5_wordHere_4 14 rfl rfl)
theorem dX5_wordHere_110 : decode cX5_wordHere 110 = .ok (.iload_n 3, 1) := dk_29 (dk_at dksX5_wordHere_4 15 rfl rfl)
theorem dX5_wordHere_111 : decode cX5_wordHere 111 = .ok (.iconst 1, 1) := dk_4 (dk_at dksX5_wordHere_4 16 rfl rfl)
theorem dX5_wordHere_112 : decode cX5_wordHere 112 = .ok (.iadd, 1) := dk_96 (dk_at dksX5_wordHere_4 17 rfl rfl)
theorem dX5_wordHere_113 : decode cX5_wordHere 113 = .ok (.iadd, 1) := dk_96 (dk_at dksX5_wordHere_4 18 rfl rfl)
theorem dX5_wordHere_114 : decode cX5_wordHere 114 = .ok (.istore_n 1, 1) := dk_60 (dk_at dksX5_wordHere_4 19 rfl rfl)
theorem dX5_wordHere_115 : decode cX5_wordHere 115 = .ok (.iinc 2 1, 3) := dk_132 2 1 (dk_at dksX5_wordHere_4 20 rfl rfl)
theorem dX5_wordHere_118 : decode cX5_wordHere 118 = .ok (.goto (-114), 3) := dk_167 255 142 (dk_at dksX5_wordHere_5 0 rfl rfl)
theorem dX5_wordHere_121 : decode cX5_wordHere 121 = .ok (.iconst (-1), 1) := dk_2 (dk_at dksX5_wordHere_5 3 rfl rfl)
theorem dX5_wordHere_122 : decode cX5_wordHere 122 = .ok (.ireturn, 1) := dk_172 (dk_at dksX5_wordHere_5 4 rfl rfl)
abbrev cX5_must : ByteArray := prog_14_method_104_code
def yX5_must : MethodName := ⟨RX5, "must", "(ZI)V"⟩
def dkwX5_must_1 : List UInt8 := [177]
abbrev dktX5_must_1 : List UInt8 := dkwX5_must_1 ++ []
def dkwX5_must_0 : List UInt8 := [27, 154, 0, 23, 42, 180, 1, 33, 154, 0, 16, 42, 28, 181, 1, 33, 42, 42, 180, 1, 18, 181, 0, 43]
abbrev dktX5_must_0 : List UInt8 := dkwX5_must_0 ++ dktX5_must_1
theorem dksX5_must_0 : cX5_must.data.toList.drop 0 = dktX5_must_0 := by decide +kernel
theorem dksX5_must_1 : cX5_must.data.toList.drop 24 = dktX5_must_1 := dk_seg dksX5_must_0 24 rfl rfl
theorem dX5_must_0 : decode cX5_must 0 = .ok (.iload_n 1, 1) := dk_27 (dk_at dksX5_must_0 0 rfl rfl)
theorem dX5_must_1 : decode cX5_must 1 = .ok (.ifCond .ne 23, 3) := dk_154 0 23 (dk_at dksX5_must_0 1 rfl rfl)
theorem dX5_must_4 : decode cX5_must 4 = .ok (.aload_n 0, 1) := dk_42 (dk_at dksX5_must_0 4 rfl rfl)
theorem dX5_must_5 : decode cX5_must 5 = .ok (.getfield 289, 3) := dk_180 1 33 (dk_at dksX5_must_0 5 rfl rfl)
theorem dX5_must_8 : decode cX5_must 8 = .ok (.ifCond .ne 16, 3) := dk_154 0 16 (dk_at dksX5_must_0 8 rfl rfl)
theorem dX5_must_11 : decode cX5_must 11 = .ok (.aload_n 0, 1) := dk_42 (dk_at dksX5_must_0 11 rfl rfl)
theorem dX5_must_12 : decode cX5_must 12 = .ok (.iload_n 2, 1) := dk_28 (dk_at dksX5_must_0 12 rfl rfl)
theorem dX5_must_13 : decode cX5_must 13 = .ok (.putfield 289, 3) := dk_181 1 33 (dk_at dksX5_must_0 13 rfl rfl)
theorem dX5_must_16 : decode cX5_must 16 = .ok (.aload_n 0, 1) := dk_42 (dk_at dksX5_must_0 16 rfl rfl)
theorem dX5_must_17 : decode cX5_must 17 = .ok (.aload_n 0, 1) := dk_42 (dk_at dksX5_must_0 17 rfl rfl)
theorem dX5_must_18 : decode cX5_must 18 = .ok (.getfield 274, 3) := dk_180 1 18 (dk_at dksX5_must_0 18 rfl rfl)
theorem dX5_must_21 : decode cX5_must 21 = .ok (.putfield 43, 3) := dk_181 0 43 (dk_at dksX5_must_0 21 rfl rfl)
theorem dX5_must_24 : decode cX5_must 24 = .ok (.return_, 1) := dk_177 (dk_at dksX5_must_1 0 rfl rfl)
abbrev cX5_reads : ByteArray := prog_14_method_106_code
def yX5_reads : MethodName := ⟨RX5, "reads", "(II)I"⟩
def dkwX5_reads_2 : List UInt8 := [42, 180, 1, 33, 158, 0, 5, 27, 172, 42, 180, 1, 30, 62, 42, 182, 1, 40, 29, 172]
abbrev dktX5_reads_2 : List UInt8 := dkwX5_reads_2 ++ []
def dkwX5_reads_1 : List UInt8 := [157, 0, 15, 42, 180, 1, 30, 27, 28, 184, 0, 179, 153, 0, 7, 4, 167, 0, 4, 3, 5, 182, 1, 36]
abbrev dktX5_reads_1 : List UInt8 := dkwX5_reads_1 ++ dktX5_reads_2
def dkwX5_reads_0 : List UInt8 := [42, 42, 180, 1, 27, 5, 160, 0, 7, 4, 167, 0, 4, 3, 4, 182, 1, 36, 42, 42, 180, 1, 33]
abbrev dktX5_reads_0 : List UInt8 := dkwX5_reads_0 ++ dktX5_reads_1
theorem dksX5_reads_0 : cX5_reads.data.toList.drop 0 = dktX5_reads_0 := by decide +kernel
theorem dksX5_reads_1 : cX5_reads.data.toList.drop 23 = dktX5_reads_1 := dk_seg dksX5_reads_0 23 rfl rfl
theorem dksX5_reads_2 : cX5_reads.data.toList.drop 47 = dktX5_reads_2 := dk_seg dksX5_reads_1 24 rfl rfl
theorem dX5_reads_0 : decode cX5_reads 0 = .ok (.aload_n 0, 1) := dk_42 (dk_at dksX5_reads_0 0 rfl rfl)
theorem dX5_reads_1 : decode cX5_reads 1 = .ok (.aload_n 0, 1) := dk_42 (dk_at dksX5_reads_0 1 rfl rfl)
theorem dX5_reads_2 : decode cX5_reads 2 = .ok (.getfield 283, 3) := dk_180 1 27 (dk_at dksX5_reads_0 2 rfl rfl)
theorem dX5_reads_5 : decode cX5_reads 5 = .ok (.iconst 2, 1) := dk_5 (dk_at dksX5_reads_0 5 rfl rfl)
theorem dX5_reads_6 : decode cX5_reads 6 = .ok (.if_icmp .ne 7, 3) := dk_160 0 7 (dk_at dksX5_reads_0 6 rfl rfl)
theorem dX5_reads_9 : decode cX5_reads 9 = .ok (.iconst 1, 1) := dk_4 (dk_at dksX5_reads_0 9 rfl rfl)
theorem dX5_reads_10 : decode cX5_reads 10 = .ok (.goto 4, 3) := dk_167 0 4 (dk_at dksX5_reads_0 10 rfl rfl)
theorem dX5_reads_13 : decode cX5_reads 13 = .ok (.iconst 0, 1) := dk_3 (dk_at dksX5_reads_0 13 rfl rfl)
theorem dX5_reads_14 : decode cX5_reads 14 = .ok (.iconst 1, 1) := dk_4 (dk_at dksX5_reads_0 14 rfl rfl)
theorem dX5_reads_15 : decode cX5_reads 15 = .ok (.invokevirtual 292, 3) := dk_182 1 36 (dk_at dksX5_reads_0 15 rfl rfl)
theorem dX5_reads_18 : decode cX5_reads 18 = .ok (.aload_n 0, 1) := dk_42 (dk_at dksX5_reads_0 18 rfl rfl)
theorem dX5_reads_19 : decode cX5_reads 19 = .ok (.aload_n 0, 1) := dk_42 (dk_at dksX5_reads_0 19 rfl rfl)
theorem dX5_reads_20 : decode cX5_reads 20 = .ok (.getfield 289, 3) := dk_180 1 33 (dk_at dksX5_reads_0 20 rfl rfl)
theorem dX5_reads_23 : decode cX5_reads 23 = .ok (.ifCond .gt 15, 3) := dk_157 0 15 (dk_at dksX5_reads_1 0 rfl rfl)
theorem dX5_reads_26 : decode cX5_reads 26 = .ok (.aload_n 0, 1) := dk_42 (dk_at dksX5_reads_1 3 rfl rfl)
theorem dX5_reads_27 : decode cX5_reads 27 = .ok (.getfield 286, 3) := dk_180 1 30 (dk_at dksX5_reads_1 4 rfl rfl)
theorem dX5_reads_30 : decode cX5_reads 30 = .ok (.iload_n 1, 1) := dk_27 (dk_at dksX5_reads_1 7 rfl rfl)
theorem dX5_reads_31 : decode cX5_reads 31 = .ok (.iload_n 2, 1) := dk_28 (dk_at dksX5_reads_1 8 rfl rfl)
theorem dX5_reads_32 : decode cX5_reads 32 = .ok (.invokestatic 179, 3) := dk_184 0 179 (dk_at dksX5_reads_1 9 rfl rfl)
theorem dX5_reads_35 : decode cX5_reads 35 = .ok (.ifCond .eq 7, 3) := dk_153 0 7 (dk_at dksX5_reads_1 12 rfl rfl)
theorem dX5_reads_38 : decode cX5_reads 38 = .ok (.iconst 1, 1) := dk_4 (dk_at dksX5_reads_1 15 rfl rfl)
theorem dX5_reads_39 : decode cX5_reads 39 = .ok (.goto 4, 3) := dk_167 0 4 (dk_at dksX5_reads_1 16 rfl rfl)
theorem dX5_reads_42 : decode cX5_reads 42 = .ok (.iconst 0, 1) := dk_3 (dk_at dksX5_reads_1 19 rfl rfl)
theorem dX5_reads_43 : decode cX5_reads 43 = .ok (.iconst 2, 1) := dk_5 (dk_at dksX5_reads_1 20 rfl rfl)
theorem dX5_reads_44 : decode cX5_reads 44 = .ok (.invokevirtual 292, 3) := dk_182 1 36 (dk_at dksX5_reads_1 21 rfl rfl)
theorem dX5_reads_47 : decode cX5_reads 47 = .ok (.aload_n 0, 1) := dk_42 (dk_at dksX5_reads_2 0 rfl rfl)
theorem dX5_reads_48 : decode cX5_reads 48 = .ok (.getfield 289, 3) := dk_180 1 33 (dk_at dksX5_reads_2 1 rfl rfl)
theorem dX5_reads_51 : decode cX5_reads 51 = .ok (.ifCond .le 5, 3) := dk_158 0 5 (dk_at dksX5_reads_2 4 rfl rfl)
theorem dX5_reads_54 : decode cX5_reads 54 = .ok (.iload_n 1, 1) := dk_27 (dk_at dksX5_reads_2 7 rfl rfl)
theorem dX5_reads_55 : decode cX5_reads 55 = .ok (.ireturn, 1) := dk_172 (dk_at dksX5_reads_2 8 rfl rfl)
theorem dX5_reads_56 : decode cX5_reads 56 = .ok (.aload_n 0, 1) := dk_42 (dk_at dksX5_reads_2 9 rfl rfl)
theorem dX5_reads_57 : decode cX5_reads 57 = .ok (.getfield 286, 3) := dk_180 1 30 (dk_at dksX5_reads_2 10 rfl rfl)
theorem dX5_reads_60 : decode cX5_reads 60 = .ok (.istore_n 3, 1) := dk_62 (dk_at dksX5_reads_2 13 rfl rfl)
theorem dX5_reads_61 : decode cX5_reads 61 = .ok (.aload_n 0, 1) := dk_42 (dk_at dksX5_reads_2 14 rfl rfl)
theorem dX5_reads_62 : decode cX5_reads 62 = .ok (.invokevirtual 296, 3) := dk_182 1 40 (dk_at dksX5_reads_2 15 rfl rfl)
theorem dX5_reads_65 : decode cX5_reads 65 = .ok (.iload_n 3, 1) := dk_29 (dk_at dksX5_reads_2 18 rfl rfl)
theorem dX5_reads_66 : decode cX5_reads 66 = .ok (.ireturn, 1) := dk_172 (dk_at dksX5_reads_2 19 rfl rfl)
abbrev cX5_isDone : ByteArray := prog_14_method_108_code
def yX5_isDone : MethodName := ⟨RX5, "isDone", "(I)Z"⟩
def dkwX5_isDone_6 : List UInt8 := [167, 0, 4, 3, 172, 42, 28, 182, 0, 247, 154, 0, 7, 4, 167, 0, 4, 3, 172]
abbrev dktX5_isDone_6 : List UInt8 := dkwX5_isDone_6 ++ []
def dkwX5_isDone_5 : List UInt8 := [167, 0, 4, 3, 172, 42, 28, 182, 0, 201, 153, 0, 15, 42, 28, 182, 0, 241, 154, 0, 7, 4]
abbrev dktX5_isDone_5 : List UInt8 := dkwX5_isDone_5 ++ dktX5_isDone_6
def dkwX5_isDone_4 : List UInt8 := [167, 0, 4, 3, 172, 42, 28, 182, 0, 201, 153, 0, 15, 42, 28, 182, 0, 238, 154, 0, 7, 4]
abbrev dktX5_isDone_4 : List UInt8 := dkwX5_isDone_4 ++ dktX5_isDone_5
def dkwX5_isDone_3 : List UInt8 := [4, 167, 0, 4, 3, 172, 42, 28, 182, 0, 207, 153, 0, 15, 42, 28, 182, 0, 235, 154, 0, 7, 4]
abbrev dktX5_isDone_3 : List UInt8 := dkwX5_isDone_3 ++ dktX5_isDone_4
def dkwX5_isDone_2 : List UInt8 := [42, 28, 42, 180, 0, 49, 27, 5, 96, 46, 42, 180, 0, 49, 27, 6, 96, 46, 182, 0, 232, 154, 0, 7]
abbrev dktX5_isDone_2 : List UInt8 := dkwX5_isDone_2 ++ dktX5_isDone_3
def dkwX5_isDone_1 : List UInt8 := [170, 0, 0, 0, 125, 0, 0, 0, 0, 0, 0, 0, 3, 0, 0, 0, 29, 0, 0, 0, 59, 0, 0, 0, 81, 0, 0, 0, 103]
abbrev dktX5_isDone_1 : List UInt8 := dkwX5_isDone_1 ++ dktX5_isDone_2
def dkwX5_isDone_0 : List UInt8 := [42, 180, 0, 49, 27, 4, 96, 46, 61, 42, 180, 0, 49, 27, 46]
abbrev dktX5_isDone_0 : List UInt8 := dkwX5_isDone_0 ++ dktX5_isDone_1
theorem dksX5_isDone_0 : cX5_isDone.data.toList.drop 0 = dktX5_isDone_0 := by decide +kernel
theorem dksX5_isDone_1 : cX5_isDone.data.toList.drop 15 = dktX5_isDone_1 := dk_seg dksX5_isDone_0 15 rfl rfl
theorem dksX5_isDone_2 : cX5_isDone.data.toList.drop 44 = dktX5_isDone_2 := dk_seg dksX5_isDone_1 29 rfl rfl
theorem dksX5_isDone_3 : cX5_isDone.data.toList.drop 68 = dktX5_isDone_3 := dk_seg dksX5_isDone_2 24 rfl rfl
theorem dksX5_isDone_4 : cX5_isDone.data.toList.drop 91 = dktX5_isDone_4 := dk_seg dksX5_isDone_3 23 rfl rfl
theorem dksX5_isDone_5 : cX5_isDone.data.toList.drop 113 = dktX5_isDone_5 := dk_seg dksX5_isDone_4 22 rfl rfl
theorem dksX5_isDone_6 : cX5_isDone.data.toList.drop 135 = dktX5_isDone_6 := dk_seg dksX5_isDone_5 22 rfl rfl
theorem dX5_isDone_0 : decode cX5_isDone 0 = .ok (.aload_n 0, 1) := dk_42 (dk_at dksX5_isDone_0 0 rfl rfl)
theorem dX5_isDone_1 : decode cX5_isDone 1 = .ok (.getfield 49, 3) := dk_180 0 49 (dk_at dksX5_isDone_0 1 rfl rfl)
theorem dX5_isDone_4 : decode cX5_isDone 4 = .ok (.iload_n 1, 1) := dk_27 (dk_at dksX5_isDone_0 4 rfl rfl)
theorem dX5_isDone_5 : decode cX5_isDone 5 = .ok (.iconst 1, 1) := dk_4 (dk_at dksX5_isDone_0 5 rfl rfl)
theorem dX5_isDone_6 : decode cX5_isDone 6 = .ok (.iadd, 1) := dk_96 (dk_at dksX5_isDone_0 6 rfl rfl)
theorem dX5_isDone_7 : decode cX5_isDone 7 = .ok (.iaload, 1) := dk_46 (dk_at dksX5_isDone_0 7 rfl rfl)
theorem dX5_isDone_8 : decode cX5_isDone 8 = .ok (.istore_n 2, 1) := dk_61 (dk_at dksX5_isDone_0 8 rfl rfl)
theorem dX5_isDone_9 : decode cX5_isDone 9 = .ok (.aload_n 0, 1) := dk_42 (dk_at dksX5_isDone_0 9 rfl rfl)
theorem dX5_isDone_10 : decode cX5_isDone 10 = .ok (.getfield 49, 3) := dk_180 0 49 (dk_at dksX5_isDone_0 10 rfl rfl)
theorem dX5_isDone_13 : decode cX5_isDone 13 = .ok (.iload_n 1, 1) := dk_27 (dk_at dksX5_isDone_0 13 rfl rfl)
theorem dX5_isDone_14 : decode cX5_isDone 14 = .ok (.iaload, 1) := dk_46 (dk_at dksX5_isDone_0 14 rfl rfl)
theorem dX5_isDone_15 : decode cX5_isDone 15 = .ok (.tableswitch 125 0 3 #[29, 59, 81, 103], 29) := by decide +kernel
theorem dX5_isDone_44 : decode cX5_isDone 44 = .ok (.aload_n 0, 1) := dk_42 (dk_at dksX5_isDone_2 0 rfl rfl)
theorem dX5_isDone_45 : decode cX5_isDone 45 = .ok (.iload_n 2, 1) := dk_28 (dk_at dksX5_isDone_2 1 rfl rfl)
theorem dX5_isDone_46 : decode cX5_isDone 46 = .ok (.aload_n 0, 1) := dk_42 (dk_at dksX5_isDone_2 2 rfl rfl)
theorem dX5_isDone_47 : decode cX5_isDone 47 = .ok (.getfield 49, 3) := dk_180 0 49 (dk_at dksX5_isDone_2 3 rfl rfl)
theorem dX5_isDone_50 : decode cX5_isDone 50 = .ok (.iload_n 1, 1) := dk_27 (dk_at dksX5_isDone_2 6 rfl rfl)
theorem dX5_isDone_51 : decode cX5_isDone 51 = .ok (.iconst 2, 1) := dk_5 (dk_at dksX5_isDone_2 7 rfl rfl)
theorem dX5_isDone_52 : decode cX5_isDone 52 = .ok (.iadd, 1) := dk_96 (dk_at dksX5_isDone_2 8 rfl rfl)
theorem dX5_isDone_53 : decode cX5_isDone 53 = .ok (.iaload, 1) := dk_46 (dk_at dksX5_isDone_2 9 rfl rfl)
theorem dX5_isDone_54 : decode cX5_isDone 54 = .ok (.aload_n 0, 1) := dk_42 (dk_at dksX5_isDone_2 10 rfl rfl)
theorem dX5_isDone_55 : decode cX5_isDone 55 = .ok (.getfield 49, 3) := dk_180 0 49 (dk_at dksX5_isDone_2 11 rfl rfl)
theorem dX5_isDone_58 : decode cX5_isDone 58 = .ok (.iload_n 1, 1) := dk_27 (dk_at dksX5_isDone_2 14 rfl rfl)
theorem dX5_isDone_59 : decode cX5_isDone 59 = .ok (.iconst 3, 1) := dk_6 (dk_at dksX5_isDone_2 15 rfl rfl)
theorem dX5_isDone_60 : decode cX5_isDone 60 = .ok (.iadd, 1) := dk_96 (dk_at dksX5_isDone_2 16 rfl rfl)
theorem dX5_isDone_61 : decode cX5_isDone 61 = .ok (.iaload, 1) := dk_46 (dk_at dksX5_isDone_2 17 rfl rfl)
theorem dX5_isDone_62 : decode cX5_isDone 62 = .ok (.invokevirtual 232, 3) := dk_182 0 232 (dk_at dksX5_isDone_2 18 rfl rfl)
theorem dX5_isDone_65 : decode cX5_isDone 65 = .ok (.ifCond .ne 7, 3) := dk_154 0 7 (dk_at dksX5_isDone_2 21 rfl rfl)
theorem dX5_isDone_68 : decode cX5_isDone 68 = .ok (.iconst 1, 1) := dk_4 (dk_at dksX5_isDone_3 0 rfl rfl)
theorem dX5_isDone_69 : decode cX5_isDone 69 = .ok (.goto 4, 3) := dk_167 0 4 (dk_at dksX5_isDone_3 1 rfl rfl)
theorem dX5_isDone_72 : decode cX5_isDone 72 = .ok (.iconst 0, 1) := dk_3 (dk_at dksX5_isDone_3 4 rfl rfl)
theorem dX5_isDone_73 : decode cX5_isDone 73 = .ok (.ireturn, 1) := dk_172 (dk_at dksX5_isDone_3 5 rfl rfl)
theorem dX5_isDone_74 : decode cX5_isDone 74 = .ok (.aload_n 0, 1) := dk_42 (dk_at dksX5_isDone_3 6 rfl rfl)
theorem dX5_isDone_75 : decode cX5_isDone 75 = .ok (.iload_n 2, 1) := dk_28 (dk_at dksX5_isDone_3 7 rfl rfl)
theorem dX5_isDone_76 : decode cX5_isDone 76 = .ok (.invokevirtual 207, 3) := dk_182 0 207 (dk_at dksX5_isDone_3 8 rfl rfl)
theorem dX5_isDone_79 : decode cX5_isDone 79 = .ok (.ifCond .eq 15, 3) := dk_153 0 15 (dk_at dksX5_isDone_3 11 rfl rfl)
theorem dX5_isDone_82 : decode cX5_isDone 82 = .ok (.aload_n 0, 1) := dk_42 (dk_at dksX5_isDone_3 14 rfl rfl)
theorem dX5_isDone_83 : decode cX5_isDone 83 = .ok (.iload_n 2, 1) := dk_28 (dk_at dksX5_isDone_3 15 rfl rfl)
theorem dX5_isDone_84 : decode cX5_isDone 84 = .ok (.invokevirtual 235, 3) := dk_182 0 235 (dk_at dksX5_isDone_3 16 rfl rfl)
theorem dX5_isDone_87 : decode cX5_isDone 87 = .ok (.ifCond .ne 7, 3) := dk_154 0 7 (dk_at dksX5_isDone_3 19 rfl rfl)
theorem dX5_isDone_90 : decode cX5_isDone 90 = .ok (.iconst 1, 1) := dk_4 (dk_at dksX5_isDone_3 22 rfl rfl)
theorem dX5_isDone_91 : decode cX5_isDone 91 = .ok (.goto 4, 3) := dk_167 0 4 (dk_at dksX5_isDone_4 0 rfl rfl)
theorem dX5_isDone_94 : decode cX5_isDone 94 = .ok (.iconst 0, 1) := dk_3 (dk_at dksX5_isDone_4 3 rfl rfl)
theorem dX5_isDone_95 : decode cX5_isDone 95 = .ok (.ireturn, 1) := dk_172 (dk_at dksX5_isDone_4 4 rfl rfl)
theorem dX5_isDone_96 : decode cX5_isDone 96 = .ok (.aload_n 0, 1) := dk_42 (dk_at dksX5_isDone_4 5 rfl rfl)
theorem dX5_isDone_97 : decode cX5_isDone 97 = .ok (.iload_n 2, 1) := dk_28 (dk_at dksX5_isDone_4 6 rfl rfl)
theorem dX5_isDone_98 : decode cX5_isDone 98 = .ok (.invokevirtual 201, 3) := dk_182 0 201 (dk_at dksX5_isDone_4 7 rfl rfl)
theorem dX5_isDone_101 : decode cX5_isDone 101 = .ok (.ifCond .eq 15, 3) := dk_153 0 15 (dk_at dksX5_isDone_4 10 rfl rfl)
theorem dX5_isDone_104 : decode cX5_isDone 104 = .ok (.aload_n 0, 1) := dk_42 (dk_at dksX5_isDone_4 13 rfl rfl)
theorem dX5_isDone_105 : decode cX5_isDone 105 = .ok (.iload_n 2, 1) := dk_28 (dk_at dksX5_isDone_4 14 rfl rfl)
theorem dX5_isDone_106 : decode cX5_isDone 106 = .ok (.invokevirtual 238, 3) := dk_182 0 238 (dk_at dksX5_isDone_4 15 rfl rfl)
theorem dX5_isDone_109 : decode cX5_isDone 109 = .ok (.ifCond .ne 7, 3) := dk_154 0 7 (dk_at dksX5_isDone_4 18 rfl rfl)
theorem dX5_isDone_112 : decode cX5_isDone 112 = .ok (.iconst 1, 1) := dk_4 (dk_at dksX5_isDone_4 21 rfl rfl)
theorem dX5_isDone_113 : decode cX5_isDone 113 = .ok (.goto 4, 3) := dk_167 0 4 (dk_at dksX5_isDone_5 0 rfl rfl)
theorem dX5_isDone_116 : decode cX5_isDone 116 = .ok (.iconst 0, 1) := dk_3 (dk_at dksX5_isDone_5 3 rfl rfl)
theorem dX5_isDone_117 : decode cX5_isDone 117 = .ok (.ireturn, 1) := dk_172 (dk_at dksX5_isDone_5 4 rfl rfl)
theorem dX5_isDone_118 : decode cX5_isDone 118 = .ok (.aload_n 0, 1) := dk_42 (dk_at dksX5_isDone_5 5 rfl rfl)
theorem dX5_isDone_119 : decode cX5_isDone 119 = .ok (.iload_n 2, 1) := dk_28 (dk_at dksX5_isDone_5 6 rfl rfl)
theorem dX5_isDone_120 : decode cX5_isDone 120 = .ok (.invokevirtual 201, 3) := dk_182 0 201 (dk_at dksX5_isDone_5 7 rfl rfl)
theorem dX5_isDone_123 : decode cX5_isDone 123 = .ok (.ifCond .eq 15, 3) := dk_153 0 15 (dk_at dksX5_isDone_5 10 rfl rfl)
theorem dX5_isDone_126 : decode cX5_isDone 126 = .ok (.aload_n 0, 1) := dk_42 (dk_at dksX5_isDone_5 13 rfl rfl)
theorem dX5_isDone_127 : decode cX5_isDone 127 = .ok (.iload_n 2, 1) := dk_28 (dk_at dksX5_isDone_5 14 rfl rfl)
theorem dX5_isDone_128 : decode cX5_isDone 128 = .ok (.invokevirtual 241, 3) := dk_182 0 241 (dk_at dksX5_isDone_5 15 rfl rfl)
theorem dX5_isDone_131 : decode cX5_isDone 131 = .ok (.ifCond .ne 7, 3) := dk_154 0 7 (dk_at dksX5_isDone_5 18 rfl rfl)
theorem dX5_isDone_134 : decode cX5_isDone 134 = .ok (.iconst 1, 1) := dk_4 (dk_at dksX5_isDone_5 21 rfl rfl)
theorem dX5_isDone_135 : decode cX5_isDone 135 = .ok (.goto 4, 3) := dk_167 0 4 (dk_at dksX5_isDone_6 0 rfl rfl)
theorem dX5_isDone_138 : decode cX5_isDone 138 = .ok (.iconst 0, 1) := dk_3 (dk_at dksX5_isDone_6 3 rfl rfl)
theorem dX5_isDone_139 : decode cX5_isDone 139 = .ok (.ireturn, 1) := dk_172 (dk_at dksX5_isDone_6 4 rfl rfl)
theorem dX5_isDone_140 : decode cX5_isDone 140 = .ok (.aload_n 0, 1) := dk_42 (dk_at dksX5_isDone_6 5 rfl rfl)
theorem dX5_isDone_141 : decode cX5_isDone 141 = .ok (.iload_n 2, 1) := dk_28 (dk_at dksX5_isDone_6 6 rfl rfl)
theorem dX5_isDone_142 : decode cX5_isDone 142 = .ok (.invokevirtual 247, 3) := dk_182 0 247 (dk_at dksX5_isDone_6 7 rfl rfl)
theorem dX5_isDone_145 : decode cX5_isDone 145 = .ok (.ifCond .ne 7, 3) := dk_154 0 7 (dk_at dksX5_isDone_6 10 rfl rfl)
theorem dX5_isDone_148 : decode cX5_isDone 148 = .ok (.iconst 1, 1) := dk_4 (dk_at dksX5_isDone_6 13 rfl rfl)
theorem dX5_isDone_149 : decode cX5_isDone 149 = .ok (.goto 4, 3) := dk_167 0 4 (dk_at dksX5_isDone_6 14 rfl rfl)
theorem dX5_isDone_152 : decode cX5_isDone 152 = .ok (.iconst 0, 1) := dk_3 (dk_at dksX5_isDone_6 17 rfl rfl)
theorem dX5_isDone_153 : decode cX5_isDone 153 = .ok (.ireturn, 1) := dk_172 (dk_at dksX5_isDone_6 18 rfl rfl)
abbrev cX5_errorCode : ByteArray := prog_14_method_110_code
def yX5_errorCode : MethodName := ⟨RX5, "errorCode", "()I"⟩
def dkwX5_errorCode_0 : List UInt8 := [42, 3, 181, 0, 58, 42, 180, 1, 33, 172]
abbrev dktX5_errorCode_0 : List UInt8 := dkwX5_errorCode_0 ++ []
theorem dksX5_errorCode_0 : cX5_errorCode.data.toList.drop 0 = dktX5_errorCode_0 := by decide +kernel
theorem dX5_errorCode_0 : decode cX5_errorCode 0 = .ok (.aload_n 0, 1) := dk_42 (dk_at dksX5_errorCode_0 0 rfl rfl)
theorem dX5_errorCode_1 : decode cX5_errorCode 1 = .ok (.iconst 0, 1) := dk_3 (dk_at dksX5_errorCode_0 1 rfl rfl)
theorem dX5_errorCode_2 : decode cX5_errorCode 2 = .ok (.putfield 58, 3) := dk_181 0 58 (dk_at dksX5_errorCode_0 2 rfl rfl)
theorem dX5_errorCode_5 : decode cX5_errorCode 5 = .ok (.aload_n 0, 1) := dk_42 (dk_at dksX5_errorCode_0 5 rfl rfl)
theorem dX5_errorCode_6 : decode cX5_errorCode 6 = .ok (.getfield 289, 3) := dk_180 1 33 (dk_at dksX5_errorCode_0 6 rfl rfl)
theorem dX5_errorCode_9 : decode cX5_errorCode 9 = .ok (.ireturn, 1) := dk_172 (dk_at dksX5_errorCode_0 9 rfl rfl)
abbrev cX5_errorPosition : ByteArray := prog_14_method_111_code
def yX5_errorPosition : MethodName := ⟨RX5, "errorPosition", "()I"⟩
def dkwX5_errorPosition_0 : List UInt8 := [42, 3, 181, 0, 58, 42, 180, 0, 43, 172]
abbrev dktX5_errorPosition_0 : List UInt8 := dkwX5_errorPosition_0 ++ []
theorem dksX5_errorPosition_0 : cX5_errorPosition.data.toList.drop 0 = dktX5_errorPosition_0 := by decide +kernel
theorem dX5_errorPosition_0 : decode cX5_errorPosition 0 = .ok (.aload_n 0, 1) := dk_42 (dk_at dksX5_errorPosition_0 0 rfl rfl)
theorem dX5_errorPosition_1 : decode cX5_errorPosition 1 = .ok (.iconst 0, 1) := dk_3 (dk_at dksX5_errorPosition_0 1 rfl rfl)
theorem dX5_errorPosition_2 : decode cX5_errorPosition 2 = .ok (.putfield 58, 3) := dk_181 0 58 (dk_at dksX5_errorPosition_0 2 rfl rfl)
theorem dX5_errorPosition_5 : decode cX5_errorPosition 5 = .ok (.aload_n 0, 1) := dk_42 (dk_at dksX5_errorPosition_0 5 rfl rfl)
theorem dX5_errorPosition_6 : decode cX5_errorPosition 6 = .ok (.getfield 43, 3) := dk_180 0 43 (dk_at dksX5_errorPosition_0 6 rfl rfl)
theorem dX5_errorPosition_9 : decode cX5_errorPosition 9 = .ok (.ireturn, 1) := dk_172 (dk_at dksX5_errorPosition_0 9 rfl rfl)
abbrev cX5_show : ByteArray := prog_14_method_116_code
def yX5_show : MethodName := ⟨RX5, "show", "(I)I"⟩
def dkwX5_show_4 : List UInt8 := [180, 1, 58, 172]
abbrev dktX5_show_4 : List UInt8 := dkwX5_show_4 ++ []
def dkwX5_show_3 : List UInt8 := [182, 1, 64, 42, 16, 45, 182, 1, 61, 42, 42, 27, 182, 0, 138, 182, 1, 64, 42, 27, 182, 1, 70, 42]
abbrev dktX5_show_3 : List UInt8 := dkwX5_show_3 ++ dktX5_show_4
def dkwX5_show_2 : List UInt8 := [153, 0, 11, 42, 8, 182, 1, 67, 167, 0, 39, 42, 42, 27, 182, 0, 68, 42, 180, 0, 7, 5, 46, 104]
abbrev dktX5_show_2 : List UInt8 := dkwX5_show_2 ++ dktX5_show_3
def dkwX5_show_1 : List UInt8 := [3, 172, 42, 3, 181, 1, 58, 42, 27, 182, 1, 64, 42, 16, 32, 182, 1, 61, 42, 27, 182, 0, 104]
abbrev dktX5_show_1 : List UInt8 := dkwX5_show_1 ++ dktX5_show_2
def dkwX5_show_0 : List UInt8 := [42, 42, 27, 182, 0, 201, 153, 0, 7, 3, 167, 0, 4, 4, 181, 0, 58, 42, 180, 0, 58, 158, 0, 5]
abbrev dktX5_show_0 : List UInt8 := dkwX5_show_0 ++ dktX5_show_1
theorem dksX5_show_0 : cX5_show.data.toList.drop 0 = dktX5_show_0 := by decide +kernel
theorem dksX5_show_1 : cX5_show.data.toList.drop 24 = dktX5_show_1 := dk_seg dksX5_show_0 24 rfl rfl
theorem dksX5_show_2 : cX5_show.data.toList.drop 47 = dktX5_show_2 := dk_seg dksX5_show_1 23 rfl rfl
theorem dksX5_show_3 : cX5_show.data.toList.drop 71 = dktX5_show_3 := dk_seg dksX5_show_2 24 rfl rfl
theorem dksX5_show_4 : cX5_show.data.toList.drop 95 = dktX5_show_4 := dk_seg dksX5_show_3 24 rfl rfl
theorem dX5_show_0 : decode cX5_show 0 = .ok (.aload_n 0, 1) := dk_42 (dk_at dksX5_show_0 0 rfl rfl)
theorem dX5_show_1 : decode cX5_show 1 = .ok (.aload_n 0, 1) := dk_42 (dk_at dksX5_show_0 1 rfl rfl)
theorem dX5_show_2 : decode cX5_show 2 = .ok (.iload_n 1, 1) := dk_27 (dk_at dksX5_show_0 2 rfl rfl)
theorem dX5_show_3 : decode cX5_show 3 = .ok (.invokevirtual 201, 3) := dk_182 0 201 (dk_at dksX5_show_0 3 rfl rfl)
theorem dX5_show_6 : decode cX5_show 6 = .ok (.ifCond .eq 7, 3) := dk_153 0 7 (dk_at dksX5_show_0 6 rfl rfl)
theorem dX5_show_9 : decode cX5_show 9 = .ok (.iconst 0, 1) := dk_3 (dk_at dksX5_show_0 9 rfl rfl)
theorem dX5_show_10 : decode cX5_show 10 = .ok (.goto 4, 3) := dk_167 0 4 (dk_at dksX5_show_0 10 rfl rfl)
theorem dX5_show_13 : decode cX5_show 13 = .ok (.iconst 1, 1) := dk_4 (dk_at dksX5_show_0 13 rfl rfl)
theorem dX5_show_14 : decode cX5_show 14 = .ok (.putfield 58, 3) := dk_181 0 58 (dk_at dksX5_show_0 14 rfl rfl)
theorem dX5_show_17 : decode cX5_show 17 = .ok (.aload_n 0, 1) := dk_42 (dk_at dksX5_show_0 17 rfl rfl)
theorem dX5_show_18 : decode cX5_show 18 = .ok (.getfield 58, 3) := dk_180 0 58 (dk_at dksX5_show_0 18 rfl rfl)
theorem dX5_show_21 : decode cX5_show 21 = .ok (.ifCond .le 5, 3) := dk_158 0 5 (dk_at dksX5_show_0 21 rfl rfl)
theorem dX5_show_24 : decode cX5_show 24 = .ok (.iconst 0, 1) := dk_3 (dk_at dksX5_show_1 0 rfl rfl)
theorem dX5_show_25 : decode cX5_show 25 = .ok (.ireturn, 1) := dk_172 (dk_at dksX5_show_1 1 rfl rfl)
theorem dX5_show_26 : decode cX5_show 26 = .ok (.aload_n 0, 1) := dk_42 (dk_at dksX5_show_1 2 rfl rfl)
theorem dX5_show_27 : decode cX5_show 27 = .ok (.iconst 0, 1) := dk_3 (dk_at dksX5_show_1 3 rfl rfl)
theorem dX5_show_28 : decode cX5_show 28 = .ok (.putfield 314, 3) := dk_181 1 58 (dk_at dksX5_show_1 4 rfl rfl)
theorem dX5_show_31 : decode cX5_show 31 = .ok (.aload_n 0, 1) := dk_42 (dk_at dksX5_show_1 7 rfl rfl)
theorem dX5_show_32 : decode cX5_show 32 = .ok (.iload_n 1, 1) := dk_27 (dk_at dksX5_show_1 8 rfl rfl)
theorem dX5_show_33 : decode cX5_show 33 = .ok (.invokevirtual 320, 3) := dk_182 1 64 (dk_at dksX5_show_1 9 rfl rfl)
theorem dX5_show_36 : decode cX5_show 36 = .ok (.aload_n 0, 1) := dk_42 (dk_at dksX5_show_1 12 rfl rfl)
theorem dX5_show_37 : decode cX5_show 37 = .ok (.bipush 32, 2) := dk_16 32 (dk_at dksX5_show_1 13 rfl rfl)
theorem dX5_show_39 : decode cX5_show 39 = .ok (.invokevirtual 317, 3) := dk_182 1 61 (dk_at dksX5_show_1 15 rfl rfl)
theorem dX5_show_42 : decode cX5_show 42 = .ok (.aload_n 0, 1) := dk_42 (dk_at dksX5_show_1 18 rfl rfl)
theorem dX5_show_43 : decode cX5_show 43 = .ok (.iload_n 1, 1) := dk_27 (dk_at dksX5_show_1 19 rfl rfl)
theorem dX5_show_44 : decode cX5_show 44 = .ok (.invokevirtual 104, 3) := dk_182 0 104 (dk_at dksX5_show_1 20 rfl rfl)
theorem dX5_show_47 : decode cX5_show 47 = .ok (.ifCond .eq 11, 3) := dk_153 0 11 (dk_at dksX5_show_2 0 rfl rfl)
theorem dX5_show_50 : decode cX5_show 50 = .ok (.aload_n 0, 1) := dk_42 (dk_at dksX5_show_2 3 rfl rfl)
theorem dX5_show_51 : decode cX5_show 51 = .ok (.iconst 5, 1) := dk_8 (dk_at dksX5_show_2 4 rfl rfl)
theorem dX5_show_52 : decode cX5_show 52 = .ok (.invokevirtual 323, 3) := dk_182 1 67 (dk_at dksX5_show_2 5 rfl rfl)
theorem dX5_show_55 : decode cX5_show 55 = .ok (.goto 39, 3) := dk_167 0 39 (dk_at dksX5_show_2 8 rfl rfl)
theorem dX5_show_58 : decode cX5_show 58 = .ok (.aload_n 0, 1) := dk_42 (dk_at dksX5_show_2 11 rfl rfl)
theorem dX5_show_59 : decode cX5_show 59 = .ok (.aload_n 0, 1) := dk_42 (dk_at dksX5_show_2 12 rfl rfl)
theorem dX5_show_60 : decode cX5_show 60 = .ok (.iload_n 1, 1) := dk_27 (dk_at dksX5_show_2 13 rfl rfl)
theorem dX5_show_61 : decode cX5_show 61 = .ok (.invokevirtual 68, 3) := dk_182 0 68 (dk_at dksX5_show_2 14 rfl rfl)
theorem dX5_show_64 : decode cX5_show 64 = .ok (.aload_n 0, 1) := dk_42 (dk_at dksX5_show_2 17 rfl rfl)
theorem dX5_show_65 : decode cX5_show 65 = .ok (.getfield 7, 3) := dk_180 0 7 (dk_at dksX5_show_2 18 rfl rfl)
theorem dX5_show_68 : decode cX5_show 68 = .ok (.iconst 2, 1) := dk_5 (dk_at dksX5_show_2 21 rfl rfl)
theorem dX5_show_69 : decode cX5_show 69 = .ok (.iaload, 1) := dk_46 (dk_at dksX5_show_2 22 rfl rfl)
theorem dX5_show_70 : decode cX5_show 70 = .ok (.imul, 1) := dk_104 (dk_at dksX5_show_2 23 rfl rfl)
theorem dX5_show_71 : decode cX5_show 71 = .ok (.invokevirtual 320, 3) := dk_182 1 64 (dk_at dksX5_show_3 0 rfl rfl)
theorem dX5_show_74 : decode cX5_show 74 = .ok (.aload_n 0, 1) := dk_42 (dk_at dksX5_show_3 3 rfl rfl)
theorem dX5_show_75 : decode cX5_show 75 = .ok (.bipush 45, 2) := dk_16 45 (dk_at dksX5_show_3 4 rfl rfl)
theorem dX5_show_77 : decode cX5_show 77 = .ok (.invokevirtual 317, 3) := dk_182 1 61 (dk_at dksX5_show_3 6 rfl rfl)
theorem dX5_show_80 : decode cX5_show 80 = .ok (.aload_n 0, 1) := dk_42 (dk_at dksX5_show_3 9 rfl rfl)
theorem dX5_show_81 : decode cX5_show 81 = .ok (.aload_n 0, 1) := dk_42 (dk_at dksX5_show_3 10 rfl rfl)
theorem dX5_show_82 : decode cX5_show 82 = .ok (.iload_n 1, 1) := dk_27 (dk_at dksX5_show_3 11 rfl rfl)
theorem dX5_show_83 : decode cX5_show 83 = .ok (.invokevirtual 138, 3) := dk_182 0 138 (dk_at dksX5_show_3 12 rfl rfl)
theorem dX5_show_86 : decode cX5_show 86 = .ok (.invokevirtual 320, 3) := dk_182 1 64 (dk_at dksX5_show_3 15 rfl rfl)
theorem dX5_show_89 : decode cX5_show 89 = .ok (.aload_n 0, 1) := dk_42 (dk_at dksX5_show_3 18 rfl rfl)
theorem dX5_show_90 : decode cX5_show 90 = .ok (.iload_n 1, 1) := dk_27 (dk_at dksX5_show_3 19 rfl rfl)
theorem dX5_show_91 : decode cX5_show 91 = .ok (.invokevirtual 326, 3) := dk_182 1 70 (dk_at dksX5_show_3 20 rfl rfl)
theorem dX5_show_94 : decode cX5_show 94 = .ok (.aload_n 0, 1) := dk_42 (dk_at dksX5_show_3 23 rfl rfl)
theorem dX5_show_95 : decode cX5_show 95 = .ok (.getfield 314, 3) := dk_180 1 58 (dk_at dksX5_show_4 0 rfl rfl)
theorem dX5_show_98 : decode cX5_show 98 = .ok (.ireturn, 1) := dk_172 (dk_at dksX5_show_4 3 rfl rfl)
abbrev cX5_printsNumber : ByteArray := prog_14_method_113_code
def yX5_printsNumber : MethodName := ⟨RX5, "printsNumber", "(I)V"⟩
def dkwX5_printsNumber_1 : List UInt8 := [16, 48, 27, 28, 108, 16, 10, 112, 96, 182, 1, 61, 28, 16, 10, 108, 61, 167, 255, 234, 177]
abbrev dktX5_printsNumber_1 : List UInt8 := dkwX5_printsNumber_1 ++ []
def dkwX5_printsNumber_0 : List UInt8 := [4, 61, 27, 28, 108, 16, 10, 161, 0, 11, 28, 16, 10, 104, 61, 167, 255, 243, 28, 158, 0, 24, 42]
abbrev dktX5_printsNumber_0 : List UInt8 := dkwX5_printsNumber_0 ++ dktX5_printsNumber_1
theorem dksX5_printsNumber_0 : cX5_printsNumber.data.toList.drop 0 = dktX5_printsNumber_0 := by decide +kernel
theorem dksX5_printsNumber_1 : cX5_printsNumber.data.toList.drop 23 = dktX5_printsNumber_1 := dk_seg dksX5_printsNumber_0 23 rfl rfl
theorem dX5_printsNumber_0 : decode cX5_printsNumber 0 = .ok (.iconst 1, 1) := dk_4 (dk_at dksX5_printsNumber_0 0 rfl rfl)
theorem dX5_printsNumber_1 : decode cX5_printsNumber 1 = .ok (.istore_n 2, 1) := dk_61 (dk_at dksX5_printsNumber_0 1 rfl rfl)
theorem dX5_printsNumber_2 : decode cX5_printsNumber 2 = .ok (.iload_n 1, 1) := dk_27 (dk_at dksX5_printsNumber_0 2 rfl rfl)
theorem dX5_printsNumber_3 : decode cX5_printsNumber 3 = .ok (.iload_n 2, 1) := dk_28 (dk_at dksX5_printsNumber_0 3 rfl rfl)
theorem dX5_printsNumber_4 : decode cX5_printsNumber 4 = .ok (.idiv, 1) := dk_108 (dk_at dksX5_printsNumber_0 4 rfl rfl)
theorem dX5_printsNumber_5 : decode cX5_printsNumber 5 = .ok (.bipush 10, 2) := dk_16 10 (dk_at dksX5_printsNumber_0 5 rfl rfl)
theorem dX5_printsNumber_7 : decode cX5_printsNumber 7 = .ok (.if_icmp .lt 11, 3) := dk_161 0 11 (dk_at dksX5_printsNumber_0 7 rfl rfl)
theorem dX5_printsNumber_10 : decode cX5_printsNumber 10 = .ok (.iload_n 2, 1) := dk_28 (dk_at dksX5_printsNumber_0 10 rfl rfl)
theorem dX5_printsNumber_11 : decode cX5_printsNumber 11 = .ok (.bipush 10, 2) := dk_16 10 (dk_at dksX5_printsNumber_0 11 rfl rfl)
theorem dX5_printsNumber_13 : decode cX5_printsNumber 13 = .ok (.imul, 1) := dk_104 (dk_at dksX5_printsNumber_0 13 rfl rfl)
theorem dX5_printsNumber_14 : decode cX5_printsNumber 14 = .ok (.istore_n 2, 1) := dk_61 (dk_at dksX5_printsNumber_0 14 rfl rfl)
theorem dX5_printsNumber_15 : decode cX5_printsNumber 15 = .ok (.goto (-13), 3) := dk_167 255 243 (dk_at dksX5_printsNumber_0 15 rfl rfl)
theorem dX5_printsNumber_18 : decode cX5_printsNumber 18 = .ok (.iload_n 2, 1) := dk_28 (dk_at dksX5_printsNumber_0 18 rfl rfl)
theorem dX5_printsNumber_19 : decode cX5_printsNumber 19 = .ok (.ifCond .le 24, 3) := dk_158 0 24 (dk_at dksX5_printsNumber_0 19 rfl rfl)
theorem dX5_printsNumber_22 : decode cX5_printsNumber 22 = .ok (.aload_n 0, 1) := dk_42 (dk_at dksX5_printsNumber_0 22 rfl rfl)
theorem dX5_printsNumber_23 : decode cX5_printsNumber 23 = .ok (.bipush 48, 2) := dk_16 48 (dk_at dksX5_printsNumber_1 0 rfl rfl)
theorem dX5_printsNumber_25 : decode cX5_printsNumber 25 = .ok (.iload_n 1, 1) := dk_27 (dk_at dksX5_printsNumber_1 2 rfl rfl)
theorem dX5_printsNumber_26 : decode cX5_printsNumber 26 = .ok (.iload_n 2, 1) := dk_28 (dk_at dksX5_printsNumber_1 3 rfl rfl)
theorem dX5_printsNumber_27 : decode cX5_printsNumber 27 = .ok (.idiv, 1) := dk_108 (dk_at dksX5_printsNumber_1 4 rfl rfl)
theorem dX5_printsNumber_28 : decode cX5_printsNumber 28 = .ok (.bipush 10, 2) := dk_16 10 (dk_at dksX5_printsNumber_1 5 rfl rfl)
theorem dX5_printsNumber_30 : decode cX5_printsNumber 30 = .ok (.irem, 1) := dk_112 (dk_at dksX5_printsNumber_1 7 rfl rfl)
theorem dX5_printsNumber_31 : decode cX5_printsNumber 31 = .ok (.iadd, 1) := dk_96 (dk_at dksX5_printsNumber_1 8 rfl rfl)
theorem dX5_printsNumber_32 : decode cX5_printsNumber 32 = .ok (.invokevirtual 317, 3) := dk_182 1 61 (dk_at dksX5_printsNumber_1 9 rfl rfl)
theorem dX5_printsNumber_35 : decode cX5_printsNumber 35 = .ok (.iload_n 2, 1) := dk_28 (dk_at dksX5_printsNumber_1 12 rfl rfl)
theorem dX5_printsNumber_36 : decode cX5_printsNumber 36 = .ok (.bipush 10, 2) := dk_16 10 (dk_at dksX5_printsNumber_1 13 rfl rfl)
theorem dX5_printsNumber_38 : decode cX5_printsNumber 38 = .ok (.idiv, 1) := dk_108 (dk_at dksX5_printsNumber_1 15 rfl rfl)
theorem dX5_printsNumber_39 : decode cX5_printsNumber 39 = .ok (.istore_n 2, 1) := dk_61 (dk_at dksX5_printsNumber_1 16 rfl rfl)
theorem dX5_printsNumber_40 : decode cX5_printsNumber 40 = .ok (.goto (-22), 3) := dk_167 255 234 (dk_at dksX5_printsNumber_1 17 rfl rfl)
theorem dX5_printsNumber_43 : decode cX5_printsNumber 43 = .ok (.return_, 1) := dk_177 (dk_at dksX5_printsNumber_1 20 rfl rfl)
abbrev cX5_prints : ByteArray := prog_14_method_112_code
def yX5_prints : MethodName := ⟨RX5, "prints", "(I)V"⟩
def dkwX5_prints_0 : List UInt8 := [42, 180, 0, 52, 42, 180, 1, 58, 27, 145, 84, 42, 89, 180, 1, 58, 4, 96, 181, 1, 58, 177]
abbrev dktX5_prints_0 : List UInt8 := dkwX5_prints_0 ++ []
theorem dksX5_prints_0 : cX5_prints.data.toList.drop 0 = dktX5_prints_0 := by decide +kernel
theorem dX5_prints_0 : decode cX5_prints 0 = .ok (.aload_n 0, 1) := dk_42 (dk_at dksX5_prints_0 0 rfl rfl)
theorem dX5_prints_1 : decode cX5_prints 1 = .ok (.getfield 52, 3) := dk_180 0 52 (dk_at dksX5_prints_0 1 rfl rfl)
theorem dX5_prints_4 : decode cX5_prints 4 = .ok (.aload_n 0, 1) := dk_42 (dk_at dksX5_prints_0 4 rfl rfl)
theorem dX5_prints_5 : decode cX5_prints 5 = .ok (.getfield 314, 3) := dk_180 1 58 (dk_at dksX5_prints_0 5 rfl rfl)
theorem dX5_prints_8 : decode cX5_prints 8 = .ok (.iload_n 1, 1) := dk_27 (dk_at dksX5_prints_0 8 rfl rfl)
theorem dX5_prints_9 : decode cX5_prints 9 = .ok (.i2b, 1) := dk_145 (dk_at dksX5_prints_0 9 rfl rfl)
theorem dX5_prints_10 : decode cX5_prints 10 = .ok (.bastore, 1) := dk_84 (dk_at dksX5_prints_0 10 rfl rfl)
theorem dX5_prints_11 : decode cX5_prints 11 = .ok (.aload_n 0, 1) := dk_42 (dk_at dksX5_prints_0 11 rfl rfl)
theorem dX5_prints_12 : decode cX5_prints 12 = .ok (.dup, 1) := dk_89 (dk_at dksX5_prints_0 12 rfl rfl)
theorem dX5_prints_13 : decode cX5_prints 13 = .ok (.getfield 314, 3) := dk_180 1 58 (dk_at dksX5_prints_0 13 rfl rfl)
theorem dX5_prints_16 : decode cX5_prints 16 = .ok (.iconst 1, 1) := dk_4 (dk_at dksX5_prints_0 16 rfl rfl)
theorem dX5_prints_17 : decode cX5_prints 17 = .ok (.iadd, 1) := dk_96 (dk_at dksX5_prints_0 17 rfl rfl)
theorem dX5_prints_18 : decode cX5_prints 18 = .ok (.putfield 314, 3) := dk_181 1 58 (dk_at dksX5_prints_0 18 rfl rfl)
theorem dX5_prints_21 : decode cX5_prints 21 = .ok (.return_, 1) := dk_177 (dk_at dksX5_prints_0 21 rfl rfl)
abbrev cX5_printsWord : ByteArray := prog_14_method_114_code
def yX5_printsWord : MethodName := ⟨RX5, "printsWord", "(I)V"⟩
def dkwX5_printsWord_2 : List UInt8 := [180, 0, 46, 28, 51, 182, 1, 61, 132, 2, 1, 167, 255, 232, 177]
abbrev dktX5_printsWord_2 : List UInt8 := dkwX5_printsWord_2 ++ []
def dkwX5_printsWord_1 : List UInt8 := [3, 100, 62, 132, 2, 1, 167, 255, 230, 42, 180, 0, 46, 28, 51, 16, 32, 159, 0, 19, 42, 42]
abbrev dktX5_printsWord_1 : List UInt8 := dkwX5_printsWord_1 ++ dktX5_printsWord_2
def dkwX5_printsWord_0 : List UInt8 := [3, 61, 27, 62, 29, 158, 0, 28, 29, 42, 180, 0, 46, 28, 51, 16, 32, 160, 0, 7, 4, 167, 0, 4]
abbrev dktX5_printsWord_0 : List UInt8 := dkwX5_printsWord_0 ++ dktX5_printsWord_1
theorem dksX5_printsWord_0 : cX5_printsWord.data.toList.drop 0 = dktX5_printsWord_0 := by decide +kernel
theorem dksX5_printsWord_1 : cX5_printsWord.data.toList.drop 24 = dktX5_printsWord_1 := dk_seg dksX5_printsWord_0 24 rfl rfl
theorem dksX5_printsWord_2 : cX5_printsWord.data.toList.drop 46 = dktX5_printsWord_2 := dk_seg dksX5_printsWord_1 22 rfl rfl
theorem dX5_printsWord_0 : decode cX5_printsWord 0 = .ok (.iconst 0, 1) := dk_3 (dk_at dksX5_printsWord_0 0 rfl rfl)
theorem dX5_printsWord_1 : decode cX5_printsWord 1 = .ok (.istore_n 2, 1) := dk_61 (dk_at dksX5_printsWord_0 1 rfl rfl)
theorem dX5_printsWord_2 : decode cX5_printsWord 2 = .ok (.iload_n 1, 1) := dk_27 (dk_at dksX5_printsWord_0 2 rfl rfl)
theorem dX5_printsWord_3 : decode cX5_printsWord 3 = .ok (.istore_n 3, 1) := dk_62 (dk_at dksX5_printsWord_0 3 rfl rfl)
theorem dX5_printsWord_4 : decode cX5_printsWord 4 = .ok (.iload_n 3, 1) := dk_29 (dk_at dksX5_printsWord_0 4 rfl rfl)
theorem dX5_printsWord_5 : decode cX5_printsWord 5 = .ok (.ifCond .le 28, 3) := dk_158 0 28 (dk_at dksX5_printsWord_0 5 rfl rfl)
theorem dX5_printsWord_8 : decode cX5_printsWord 8 = .ok (.iload_n 3, 1) := dk_29 (dk_at dksX5_printsWord_0 8 rfl rfl)
theorem dX5_printsWord_9 : decode cX5_printsWord 9 = .ok (.aload_n 0, 1) := dk_42 (dk_at dksX5_printsWord_0 9 rfl rfl)
theorem dX5_printsWord_10 : decode cX5_printsWord 10 = .ok (.getfield 46, 3) := dk_180 0 46 (dk_at dksX5_printsWord_0 10 rfl rfl)
theorem dX5_printsWord_13 : decode cX5_printsWord 13 = .ok (.iload_n 2, 1) := dk_28 (dk_at dksX5_printsWord_0 13 rfl rfl)
theorem dX5_printsWord_14 : decode cX5_printsWord 14 = .ok (.baload, 1) := dk_51 (dk_at dksX5_printsWord_0 14 rfl rfl)
theorem dX5_printsWord_15 : decode cX5_printsWord 15 = .ok (.bipush 32, 2) := dk_16 32 (dk_at dksX5_printsWord_0 15 rfl rfl)
theorem dX5_printsWord_17 : decode cX5_printsWord 17 = .ok (.if_icmp .ne 7, 3) := dk_160 0 7 (dk_at dksX5_printsWord_0 17 rfl rfl)
theorem dX5_printsWord_20 : decode cX5_printsWord 20 = .ok (.iconst 1, 1) := dk_4 (dk_at dksX5_printsWord_0 20 rfl rfl)
theorem dX5_printsWord_21 : decode cX5_printsWord 21 = .ok (.goto 4, 3) := dk_167 0 4 (dk_at dksX5_printsWord_0 21 rfl rfl)
theorem dX5_printsWord_24 : decode cX5_printsWord 24 = .ok (.iconst 0, 1) := dk_3 (dk_at dksX5_printsWord_1 0 rfl rfl)
theorem dX5_printsWord_25 : decode cX5_printsWord 25 = .ok (.isub, 1) := dk_100 (dk_at dksX5_printsWord_1 1 rfl rfl)
theorem dX5_printsWord_26 : decode cX5_printsWord 26 = .ok (.istore_n 3, 1) := dk_62 (dk_at dksX5_printsWord_1 2 rfl rfl)
theorem dX5_printsWord_27 : decode cX5_printsWord 27 = .ok (.iinc 2 1, 3) := dk_132 2 1 (dk_at dksX5_printsWord_1 3 rfl rfl)
theorem dX5_printsWord_30 : decode cX5_printsWord 30 = .ok (.goto (-26), 3) := dk_167 255 230 (dk_at dksX5_printsWord_1 6 rfl rfl)
theorem dX5_printsWord_33 : decode cX5_printsWord 33 = .ok (.aload_n 0, 1) := dk_42 (dk_at dksX5_printsWord_1 9 rfl rfl)
theorem dX5_printsWord_34 : decode cX5_printsWord 34 = .ok (.getfield 46, 3) := dk_180 0 46 (dk_at dksX5_printsWord_1 10 rfl rfl)
theorem dX5_printsWord_37 : decode cX5_printsWord 37 = .ok (.iload_n 2, 1) := dk_28 (dk_at dksX5_printsWord_1 13 rfl rfl)
theorem dX5_printsWord_38 : decode cX5_printsWord 38 = .ok (.baload, 1) := dk_51 (dk_at dksX5_printsWord_1 14 rfl rfl)
theorem dX5_printsWord_39 : decode cX5_printsWord 39 = .ok (.bipush 32, 2) := dk_16 32 (dk_at dksX5_printsWord_1 15 rfl rfl)
theorem dX5_printsWord_41 : decode cX5_printsWord 41 = .ok (.if_icmp .eq 19, 3) := dk_159 0 19 (dk_at dksX5_printsWord_1 17 rfl rfl)
theorem dX5_printsWord_44 : decode cX5_printsWord 44 = .ok (.aload_n 0, 1) := dk_42 (dk_at dksX5_printsWord_1 20 rfl rfl)
theorem dX5_printsWord_45 : decode cX5_printsWord 45 = .ok (.aload_n 0, 1) := dk_42 (dk_at dksX5_printsWord_1 21 rfl rfl)
theorem dX5_printsWord_46 : decode cX5_printsWord 46 = .ok (.getfield 46, 3) := dk_180 0 46 (dk_at dksX5_printsWord_2 0 rfl rfl)
theorem dX5_printsWord_49 : decode cX5_printsWord 49 = .ok (.iload_n 2, 1) := dk_28 (dk_at dksX5_printsWord_2 3 rfl rfl)
theorem dX5_printsWord_50 : decode cX5_printsWord 50 = .ok (.baload, 1) := dk_51 (dk_at dksX5_printsWord_2 4 rfl rfl)
theorem dX5_printsWord_51 : decode cX5_printsWord 51 = .ok (.invokevirtual 317, 3) := dk_182 1 61 (dk_at dksX5_printsWord_2 5 rfl rfl)
theorem dX5_printsWord_54 : decode cX5_printsWord 54 = .ok (.iinc 2 1, 3) := dk_132 2 1 (dk_at dksX5_printsWord_2 8 rfl rfl)
theorem dX5_printsWord_57 : decode cX5_printsWord 57 = .ok (.goto (-24), 3) := dk_167 255 232 (dk_at dksX5_printsWord_2 11 rfl rfl)
theorem dX5_printsWord_60 : decode cX5_printsWord 60 = .ok (.return_, 1) := dk_177 (dk_at dksX5_printsWord_2 14 rfl rfl)
abbrev cX5_printsUnits : ByteArray := prog_14_method_115_code
def yX5_printsUnits : MethodName := ⟨RX5, "printsUnits", "(I)V"⟩
def dkwX5_printsUnits_3 : List UInt8 := [132, 3, 1, 167, 255, 191, 177]
abbrev dktX5_printsUnits_3 : List UInt8 := dkwX5_printsUnits_3 ++ []
def dkwX5_printsUnits_2 : List UInt8 := [182, 0, 75, 153, 0, 14, 42, 21, 4, 8, 182, 0, 71, 27, 159, 0, 9, 42, 16, 120, 182, 1, 61]
abbrev dktX5_printsUnits_2 : List UInt8 := dkwX5_printsUnits_2 ++ dktX5_printsUnits_3
def dkwX5_printsUnits_1 : List UInt8 := [7, 96, 29, 96, 46, 54, 4, 42, 16, 32, 182, 1, 61, 42, 21, 4, 182, 1, 64, 42, 21, 4]
abbrev dktX5_printsUnits_1 : List UInt8 := dkwX5_printsUnits_1 ++ dktX5_printsUnits_2
def dkwX5_printsUnits_0 : List UInt8 := [27, 184, 0, 61, 61, 3, 62, 29, 42, 180, 0, 7, 28, 6, 96, 46, 162, 0, 59, 42, 180, 0, 7, 28]
abbrev dktX5_printsUnits_0 : List UInt8 := dkwX5_printsUnits_0 ++ dktX5_printsUnits_1
theorem dksX5_printsUnits_0 : cX5_printsUnits.data.toList.drop 0 = dktX5_printsUnits_0 := by decide +kernel
theorem dksX5_printsUnits_1 : cX5_printsUnits.data.toList.drop 24 = dktX5_printsUnits_1 := dk_seg dksX5_printsUnits_0 24 rfl rfl
theorem dksX5_printsUnits_2 : cX5_printsUnits.data.toList.drop 46 = dktX5_printsUnits_2 := dk_seg dksX5_printsUnits_1 22 rfl rfl
theorem dksX5_printsUnits_3 : cX5_printsUnits.data.toList.drop 69 = dktX5_printsUnits_3 := dk_seg dksX5_printsUnits_2 23 rfl rfl
theorem dX5_printsUnits_0 : decode cX5_printsUnits 0 = .ok (.iload_n 1, 1) := dk_27 (dk_at dksX5_printsUnits_0 0 rfl rfl)
theorem dX5_printsUnits_1 : decode cX5_printsUnits 1 = .ok (.invokestatic 61, 3) := dk_184 0 61 (dk_at dksX5_printsUnits_0 1 rfl rfl)
theorem dX5_printsUnits_4 : decode cX5_printsUnits 4 = .ok (.istore_n 2, 1) := dk_61 (dk_at dksX5_printsUnits_0 4 rfl rfl)
theorem dX5_printsUnits_5 : decode cX5_printsUnits 5 = .ok (.iconst 0, 1) := dk_3 (dk_at dksX5_printsUnits_0 5 rfl rfl)
theorem dX5_printsUnits_6 : decode cX5_printsUnits 6 = .ok (.istore_n 3, 1) := dk_62 (dk_at dksX5_printsUnits_0 6 rfl rfl)
theorem dX5_printsUnits_7 : decode cX5_printsUnits 7 = .ok (.iload_n 3, 1) := dk_29 (dk_at dksX5_printsUnits_0 7 rfl rfl)
theorem dX5_printsUnits_8 : decode cX5_printsUnits 8 = .ok (.aload_n 0, 1) := dk_42 (dk_at dksX5_printsUnits_0 8 rfl rfl)
theorem dX5_printsUnits_9 : decode cX5_printsUnits 9 = .ok (.getfield 7, 3) := dk_180 0 7 (dk_at dksX5_printsUnits_0 9 rfl rfl)
theorem dX5_printsUnits_12 : decode cX5_printsUnits 12 = .ok (.iload_n 2, 1) := dk_28 (dk_at dksX5_printsUnits_0 12 rfl rfl)
theorem dX5_printsUnits_13 : decode cX5_printsUnits 13 = .ok (.iconst 3, 1) := dk_6 (dk_at dksX5_printsUnits_0 13 rfl rfl)
theorem dX5_printsUnits_14 : decode cX5_printsUnits 14 = .ok (.iadd, 1) := dk_96 (dk_at dksX5_printsUnits_0 14 rfl rfl)
theorem dX5_printsUnits_15 : decode cX5_printsUnits 15 = .ok (.iaload, 1) := dk_46 (dk_at dksX5_printsUnits_0 15 rfl rfl)
theorem dX5_printsUnits_16 : decode cX5_printsUnits 16 = .ok (.if_icmp .ge 59, 3) := dk_162 0 59 (dk_at dksX5_printsUnits_0 16 rfl rfl)
theorem dX5_printsUnits_19 : decode cX5_printsUnits 19 = .ok (.aload_n 0, 1) := dk_42 (dk_at dksX5_printsUnits_0 19 rfl rfl)
theorem dX5_printsUnits_20 : decode cX5_printsUnits 20 = .ok (.getfield 7, 3) := dk_180 0 7 (dk_at dksX5_printsUnits_0 20 rfl rfl)
theorem dX5_printsUnits_23 : decode cX5_printsUnits 23 = .ok (.iload_n 2, 1) := dk_28 (dk_at dksX5_printsUnits_0 23 rfl rfl)
theorem dX5_printsUnits_24 : decode cX5_printsUnits 24 = .ok (.iconst 4, 1) := dk_7 (dk_at dksX5_printsUnits_1 0 rfl rfl)
theorem dX5_printsUnits_25 : decode cX5_printsUnits 25 = .ok (.iadd, 1) := dk_96 (dk_at dksX5_printsUnits_1 1 rfl rfl)
theorem dX5_printsUnits_26 : decode cX5_printsUnits 26 = .ok (.iload_n 3, 1) := dk_29 (dk_at dksX5_printsUnits_1 2 rfl rfl)
theorem dX5_printsUnits_27 : decode cX5_printsUnits 27 = .ok (.iadd, 1) := dk_96 (dk_at dksX5_printsUnits_1 3 rfl rfl)
theorem dX5_printsUnits_28 : decode cX5_printsUnits 28 = .ok (.iaload, 1) := dk_46 (dk_at dksX5_printsUnits_1 4 rfl rfl)
theorem dX5_printsUnits_29 : decode cX5_printsUnits 29 = .ok (.istore 4, 2) := dk_54 4 (dk_at dksX5_printsUnits_1 5 rfl rfl)
theorem dX5_printsUnits_31 : decode cX5_printsUnits 31 = .ok (.aload_n 0, 1) := dk_42 (dk_at dksX5_printsUnits_1 7 rfl rfl)
theorem dX5_printsUnits_32 : decode cX5_printsUnits 32 = .ok (.bipush 32, 2) := dk_16 32 (dk_at dksX5_printsUnits_1 8 rfl rfl)
theorem dX5_printsUnits_34 : decode cX5_printsUnits 34 = .ok (.invokevirtual 317, 3) := dk_182 1 61 (dk_at dksX5_printsUnits_1 10 rfl rfl)
theorem dX5_printsUnits_37 : decode cX5_printsUnits 37 = .ok (.aload_n 0, 1) := dk_42 (dk_at dksX5_printsUnits_1 13 rfl rfl)
theorem dX5_printsUnits_38 : decode cX5_printsUnits 38 = .ok (.iload 4, 2) := dk_21 4 (dk_at dksX5_printsUnits_1 14 rfl rfl)
theorem dX5_printsUnits_40 : decode cX5_printsUnits 40 = .ok (.invokevirtual 320, 3) := dk_182 1 64 (dk_at dksX5_printsUnits_1 16 rfl rfl)
theorem dX5_printsUnits_43 : decode cX5_printsUnits 43 = .ok (.aload_n 0, 1) := dk_42 (dk_at dksX5_printsUnits_1 19 rfl rfl)
theorem dX5_printsUnits_44 : decode cX5_printsUnits 44 = .ok (.iload 4, 2) := dk_21 4 (dk_at dksX5_printsUnits_1 20 rfl rfl)
theorem dX5_printsUnits_46 : decode cX5_printsUnits 46 = .ok (.invokevirtual 75, 3) := dk_182 0 75 (dk_at dksX5_printsUnits_2 0 rfl rfl)
theorem dX5_printsUnits_49 : decode cX5_printsUnits 49 = .ok (.ifCond .eq 14, 3) := dk_153 0 14 (dk_at dksX5_printsUnits_2 3 rfl rfl)
theorem dX5_printsUnits_52 : decode cX5_printsUnits 52 = .ok (.aload_n 0, 1) := dk_42 (dk_at dksX5_printsUnits_2 6 rfl rfl)
theorem dX5_printsUnits_53 : decode cX5_printsUnits 53 = .ok (.iload 4, 2) := dk_21 4 (dk_at dksX5_printsUnits_2 7 rfl rfl)
theorem dX5_printsUnits_55 : decode cX5_printsUnits 55 = .ok (.iconst 5, 1) := dk_8 (dk_at dksX5_printsUnits_2 9 rfl rfl)
theorem dX5_printsUnits_56 : decode cX5_printsUnits 56 = .ok (.invokevirtual 71, 3) := dk_182 0 71 (dk_at dksX5_printsUnits_2 10 rfl rfl)
theorem dX5_printsUnits_59 : decode cX5_printsUnits 59 = .ok (.iload_n 1, 1) := dk_27 (dk_at dksX5_printsUnits_2 13 rfl rfl)
theorem dX5_printsUnits_60 : decode cX5_printsUnits 60 = .ok (.if_icmp .eq 9, 3) := dk_159 0 9 (dk_at dksX5_printsUnits_2 14 rfl rfl)
theorem dX5_printsUnits_63 : decode cX5_printsUnits 63 = .ok (.aload_n 0, 1) := dk_42 (dk_at dksX5_printsUnits_2 17 rfl rfl)
theorem dX5_printsUnits_64 : decode cX5_printsUnits 64 = .ok (.bipush 120, 2) := dk_16 120 (dk_at dksX5_printsUnits_2 18 rfl rfl)
theorem dX5_printsUnits_66 : decode cX5_printsUnits 66 = .ok (.invokevirtual 317, 3) := dk_182 1 61 (dk_at dksX5_printsUnits_2 20 rfl rfl)
theorem dX5_printsUnits_69 : decode cX5_printsUnits 69 = .ok (.iinc 3 1, 3) := dk_132 3 1 (dk_at dksX5_printsUnits_3 0 rfl rfl)
theorem dX5_printsUnits_72 : decode cX5_printsUnits 72 = .ok (.goto (-65), 3) := dk_167 255 191 (dk_at dksX5_printsUnits_3 3 rfl rfl)
theorem dX5_printsUnits_75 : decode cX5_printsUnits 75 = .ok (.return_, 1) := dk_177 (dk_at dksX5_printsUnits_3 6 rfl rfl)
abbrev cX5_writeHistory : ByteArray := prog_14_method_117_code
def yX5_writeHistory : MethodName := ⟨RX5, "writeHistory", "()I"⟩
def dkwX5_writeHistory_5 : List UInt8 := [96, 46, 182, 1, 64, 42, 16, 59, 182, 1, 61, 132, 1, 1, 167, 255, 135, 42, 180, 1, 58, 172]
abbrev dktX5_writeHistory_5 : List UInt8 := dkwX5_writeHistory_5 ++ []
def dkwX5_writeHistory_4 : List UInt8 := [42, 180, 0, 7, 28, 6, 96, 46, 158, 0, 21, 42, 16, 32, 182, 1, 61, 42, 42, 180, 0, 7, 28, 6]
abbrev dktX5_writeHistory_4 : List UInt8 := dkwX5_writeHistory_4 ++ dktX5_writeHistory_5
def dkwX5_writeHistory_3 : List UInt8 := [182, 1, 61, 42, 42, 180, 0, 7, 28, 5, 96, 46, 182, 1, 64, 42, 180, 0, 7, 28, 46, 154, 0, 32]
abbrev dktX5_writeHistory_3 : List UInt8 := dkwX5_writeHistory_3 ++ dktX5_writeHistory_4
def dkwX5_writeHistory_2 : List UInt8 := [42, 42, 180, 0, 7, 28, 4, 96, 46, 182, 1, 64, 42, 180, 0, 7, 28, 46, 154, 0, 21, 42, 16, 32]
abbrev dktX5_writeHistory_2 : List UInt8 := dkwX5_writeHistory_2 ++ dktX5_writeHistory_3
def dkwX5_writeHistory_1 : List UInt8 := [17, 7, 70, 7, 27, 104, 96, 61, 42, 42, 180, 0, 7, 28, 46, 182, 1, 67, 42, 16, 32, 182, 1, 61]
abbrev dktX5_writeHistory_1 : List UInt8 := dkwX5_writeHistory_1 ++ dktX5_writeHistory_2
def dkwX5_writeHistory_0 : List UInt8 := [42, 3, 181, 0, 58, 42, 3, 181, 1, 58, 3, 60, 27, 42, 180, 0, 7, 16, 11, 46, 162, 0, 116]
abbrev dktX5_writeHistory_0 : List UInt8 := dkwX5_writeHistory_0 ++ dktX5_writeHistory_1
theorem dksX5_writeHistory_0 : cX5_writeHistory.data.toList.drop 0 = dktX5_writeHistory_0 := by decide +kernel
theorem dksX5_writeHistory_1 : cX5_writeHistory.data.toList.drop 23 = dktX5_writeHistory_1 := dk_seg dksX5_writeHistory_0 23 rfl rfl
theorem dksX5_writeHistory_2 : cX5_writeHistory.data.toList.drop 47 = dktX5_writeHistory_2 := dk_seg dksX5_writeHistory_1 24 rfl rfl
theorem dksX5_writeHistory_3 : cX5_writeHistory.data.toList.drop 71 = dktX5_writeHistory_3 := dk_seg dksX5_writeHistory_2 24 rfl rfl
theorem dksX5_writeHistory_4 : cX5_writeHistory.data.toList.drop 95 = dktX5_writeHistory_4 := dk_seg dksX5_writeHistory_3 24 rfl rfl
theorem dksX5_writeHistory_5 : cX5_writeHistory.data.toList.drop 119 = dktX5_writeHistory_5 := dk_seg dksX5_writeHistory_4 24 rfl rfl
theorem dX5_writeHistory_0 : decode cX5_writeHistory 0 = .ok (.aload_n 0, 1) := dk_42 (dk_at dksX5_writeHistory_0 0 rfl rfl)
theorem dX5_writeHistory_1 : decode cX5_writeHistory 1 = .ok (.iconst 0, 1) := dk_3 (dk_at dksX5_writeHistory_0 1 rfl rfl)
theorem dX5_writeHistory_2 : decode cX5_writeHistory 2 = .ok (.putfield 58, 3) := dk_181 0 58 (dk_at dksX5_writeHistory_0 2 rfl rfl)
theorem dX5_writeHistory_5 : decode cX5_writeHistory 5 = .ok (.aload_n 0, 1) := dk_42 (dk_at dksX5_writeHistory_0 5 rfl rfl)
theorem dX5_writeHistory_6 : decode cX5_writeHistory 6 = .ok (.iconst 0, 1) := dk_3 (dk_at dksX5_writeHistory_0 6 rfl rfl)
theorem dX5_writeHistory_7 : decode cX5_writeHistory 7 = .ok (.putfield 314, 3) := dk_181 1 58 (dk_at dksX5_writeHistory_0 7 rfl rfl)
theorem dX5_writeHistory_10 : decode cX5_writeHistory 10 = .ok (.iconst 0, 1) := dk_3 (dk_at dksX5_writeHistory_0 10 rfl rfl)
theorem dX5_writeHistory_11 : decode cX5_writeHistory 11 = .ok (.istore_n 1, 1) := dk_60 (dk_at dksX5_writeHistory_0 11 rfl rfl)
theorem dX5_writeHistory_12 : decode cX5_writeHistory 12 = .ok (.iload_n 1, 1) := dk_27 (dk_at dksX5_writeHistory_0 12 rfl rfl)
theorem dX5_writeHistory_13 : decode cX5_writeHistory 13 = .ok (.aload_n 0, 1) := dk_42 (dk_at dksX5_writeHistory_0 13 rfl rfl)
theorem dX5_writeHistory_14 : decode cX5_writeHistory 14 = .ok (.getfield 7, 3) := dk_180 0 7 (dk_at dksX5_writeHistory_0 14 rfl rfl)
theorem dX5_writeHistory_17 : decode cX5_writeHistory 17 = .ok (.bipush 11, 2) := dk_16 11 (dk_at dksX5_writeHistory_0 17 rfl rfl)
theorem dX5_writeHistory_19 : decode cX5_writeHistory 19 = .ok (.iaload, 1) := dk_46 (dk_at dksX5_writeHistory_0 19 rfl rfl)
theorem dX5_writeHistory_20 : decode cX5_writeHistory 20 = .ok (.if_icmp .ge 116, 3) := dk_162 0 116 (dk_at dksX5_writeHistory_0 20 rfl rfl)
theorem dX5_writeHistory_23 : decode cX5_writeHistory 23 = .ok (.sipush 1862, 3) := dk_17 7 70 (dk_at dksX5_writeHistory_1 0 rfl rfl)
theorem dX5_writeHistory_26 : decode cX5_writeHistory 26 = .ok (.iconst 4, 1) := dk_7 (dk_at dksX5_writeHistory_1 3 rfl rfl)
theorem dX5_writeHistory_27 : decode cX5_writeHistory 27 = .ok (.iload_n 1, 1) := dk_27 (dk_at dksX5_writeHistory_1 4 rfl rfl)
theorem dX5_writeHistory_28 : decode cX5_writeHistory 28 = .ok (.imul, 1) := dk_104 (dk_at dksX5_writeHistory_1 5 rfl rfl)
theorem dX5_writeHistory_29 : decode cX5_writeHistory 29 = .ok (.iadd, 1) := dk_96 (dk_at dksX5_writeHistory_1 6 rfl rfl)
theorem dX5_writeHistory_30 : decode cX5_writeHistory 30 = .ok (.istore_n 2, 1) := dk_61 (dk_at dksX5_writeHistory_1 7 rfl rfl)
theorem dX5_writeHistory_31 : decode cX5_writeHistory 31 = .ok (.aload_n 0, 1) := dk_42 (dk_at dksX5_writeHistory_1 8 rfl rfl)
theorem dX5_writeHistory_32 : decode cX5_writeHistory 32 = .ok (.aload_n 0, 1) := dk_42 (dk_at dksX5_writeHistory_1 9 rfl rfl)
theorem dX5_writeHistory_33 : decode cX5_writeHistory 33 = .ok (.getfield 7, 3) := dk_180 0 7 (dk_at dksX5_writeHistory_1 10 rfl rfl)
theorem dX5_writeHistory_36 : decode cX5_writeHistory 36 = .ok (.iload_n 2, 1) := dk_28 (dk_at dksX5_writeHistory_1 13 rfl rfl)
theorem dX5_writeHistory_37 : decode cX5_writeHistory 37 = .ok (.iaload, 1) := dk_46 (dk_at dksX5_writeHistory_1 14 rfl rfl)
theorem dX5_writeHistory_38 : decode cX5_writeHistory 38 = .ok (.invokevirtual 323, 3) := dk_182 1 67 (dk_at dksX5_writeHistory_1 15 rfl rfl)
theorem dX5_writeHistory_41 : decode cX5_writeHistory 41 = .ok (.aload_n 0, 1) := dk_42 (dk_at dksX5_writeHistory_1 18 rfl rfl)
theorem dX5_writeHistory_42 : decode cX5_writeHistory 42 = .ok (.bipush 32, 2) := dk_16 32 (dk_at dksX5_writeHistory_1 19 rfl rfl)
theorem dX5_writeHistory_44 : decode cX5_writeHistory 44 = .ok (.invokevirtual 317, 3) := dk_182 1 61 (dk_at dksX5_writeHistory_1 21 rfl rfl)
theorem dX5_writeHistory_47 : decode cX5_writeHistory 47 = .ok (.aload_n 0, 1) := dk_42 (dk_at dksX5_writeHistory_2 0 rfl rfl)
theorem dX5_writeHistory_48 : decode cX5_writeHistory 48 = .ok (.aload_n 0, 1) := dk_42 (dk_at dksX5_writeHistory_2 1 rfl rfl)
theorem dX5_writeHistory_49 : decode cX5_writeHistory 49 = .ok (.getfield 7, 3) := dk_180 0 7 (dk_at dksX5_writeHistory_2 2 rfl rfl)
theorem dX5_writeHistory_52 : decode cX5_writeHistory 52 = .ok (.iload_n 2, 1) := dk_28 (dk_at dksX5_writeHistory_2 5 rfl rfl)
theorem dX5_writeHistory_53 : decode cX5_writeHistory 53 = .ok (.iconst 1, 1) := dk_4 (dk_at dksX5_writeHistory_2 6 rfl rfl)
theorem dX5_writeHistory_54 : decode cX5_writeHistory 54 = .ok (.iadd, 1) := dk_96 (dk_at dksX5_writeHistory_2 7 rfl rfl)
theorem dX5_writeHistory_55 : decode cX5_writeHistory 55 = .ok (.iaload, 1) := dk_46 (dk_at dksX5_writeHistory_2 8 rfl rfl)
theorem dX5_writeHistory_56 : decode cX5_writeHistory 56 = .ok (.invokevirtual 320, 3) := dk_182 1 64 (dk_at dksX5_writeHistory_2 9 rfl rfl)
theorem dX5_writeHistory_59 : decode cX5_writeHistory 59 = .ok (.aload_n 0, 1) := dk_42 (dk_at dksX5_writeHistory_2 12 rfl rfl)
theorem dX5_writeHistory_60 : decode cX5_writeHistory 60 = .ok (.getfield 7, 3) := dk_180 0 7 (dk_at dksX5_writeHistory_2 13 rfl rfl)
theorem dX5_writeHistory_63 : decode cX5_writeHistory 63 = .ok (.iload_n 2, 1) := dk_28 (dk_at dksX5_writeHistory_2 16 rfl rfl)
theorem dX5_writeHistory_64 : decode cX5_writeHistory 64 = .ok (.iaload, 1) := dk_46 (dk_at dksX5_writeHistory_2 17 rfl rfl)
theorem dX5_writeHistory_65 : decode cX5_writeHistory 65 = .ok (.ifCond .ne 21, 3) := dk_154 0 21 (dk_at dksX5_writeHistory_2 18 rfl rfl)
theorem dX5_writeHistory_68 : decode cX5_writeHistory 68 = .ok (.aload_n 0, 1) := dk_42 (dk_at dksX5_writeHistory_2 21 rfl rfl)
theorem dX5_writeHistory_69 : decode cX5_writeHistory 69 = .ok (.bipush 32, 2) := dk_16 32 (dk_at dksX5_writeHistory_2 22 rfl rfl)
theorem dX5_writeHistory_71 : decode cX5_writeHistory 71 = .ok (.invokevirtual 317, 3) := dk_182 1 61 (dk_at dksX5_writeHistory_3 0 rfl rfl)
theorem dX5_writeHistory_74 : decode cX5_writeHistory 74 = .ok (.aload_n 0, 1) := dk_42 (dk_at dksX5_writeHistory_3 3 rfl rfl)
theorem dX5_writeHistory_75 : decode cX5_writeHistory 75 = .ok (.aload_n 0, 1) := dk_42 (dk_at dksX5_writeHistory_3 4 rfl rfl)
theorem dX5_writeHistory_76 : decode cX5_writeHistory 76 = .ok (.getfield 7, 3) := dk_180 0 7 (dk_at dksX5_writeHistory_3 5 rfl rfl)
theorem dX5_writeHistory_79 : decode cX5_writeHistory 79 = .ok (.iload_n 2, 1) := dk_28 (dk_at dksX5_writeHistory_3 8 rfl rfl)
theorem dX5_writeHistory_80 : decode cX5_writeHistory 80 = .ok (.iconst 2, 1) := dk_5 (dk_at dksX5_writeHistory_3 9 rfl rfl)
theorem dX5_writeHistory_81 : decode cX5_writeHistory 81 = .ok (.iadd, 1) := dk_96 (dk_at dksX5_writeHistory_3 10 rfl rfl)
theorem dX5_writeHistory_82 : decode cX5_writeHistory 82 = .ok (.iaload, 1) := dk_46 (dk_at dksX5_writeHistory_3 11 rfl rfl)
theorem dX5_writeHistory_83 : decode cX5_writeHistory 83 = .ok (.invokevirtual 320, 3) := dk_182 1 64 (dk_at dksX5_writeHistory_3 12 rfl rfl)
theorem dX5_writeHistory_86 : decode cX5_writeHistory 86 = .ok (.aload_n 0, 1) := dk_42 (dk_at dksX5_writeHistory_3 15 rfl rfl)
theorem dX5_writeHistory_87 : decode cX5_writeHistory 87 = .ok (.getfield 7, 3) := dk_180 0 7 (dk_at dksX5_writeHistory_3 16 rfl rfl)
theorem dX5_writeHistory_90 : decode cX5_writeHistory 90 = .ok (.iload_n 2, 1) := dk_28 (dk_at dksX5_writeHistory_3 19 rfl rfl)
theorem dX5_writeHistory_91 : decode cX5_writeHistory 91 = .ok (.iaload, 1) := dk_46 (dk_at dksX5_writeHistory_3 20 rfl rfl)
theorem dX5_writeHistory_92 : decode cX5_writeHistory 92 = .ok (.ifCond .ne 32, 3) := dk_154 0 32 (dk_at dksX5_writeHistory_3 21 rfl rfl)
theorem dX5_writeHistory_95 : decode cX5_writeHistory 95 = .ok (.aload_n 0, 1) := dk_42 (dk_at dksX5_writeHistory_4 0 rfl rfl)
theorem dX5_writeHistory_96 : decode cX5_writeHistory 96 = .ok (.getfield 7, 3) := dk_180 0 7 (dk_at dksX5_writeHistory_4 1 rfl rfl)
theorem dX5_writeHistory_99 : decode cX5_writeHistory 99 = .ok (.iload_n 2, 1) := dk_28 (dk_at dksX5_writeHistory_4 4 rfl rfl)
theorem dX5_writeHistory_100 : decode cX5_writeHistory 100 = .ok (.iconst 3, 1) := dk_6 (dk_at dksX5_writeHistory_4 5 rfl rfl)
theorem dX5_writeHistory_101 : decode cX5_writeHistory 101 = .ok (.iadd, 1) := dk_96 (dk_at dksX5_writeHistory_4 6 rfl rfl)
theorem dX5_writeHistory_102 : decode cX5_writeHistory 102 = .ok (.iaload, 1) := dk_46 (dk_at dksX5_writeHistory_4 7 rfl rfl)
theorem dX5_writeHistory_103 : decode cX5_writeHistory 103 = .ok (.ifCond .le 21, 3) := dk_158 0 21 (dk_at dksX5_writeHistory_4 8 rfl rfl)
theorem dX5_writeHistory_106 : decode cX5_writeHistory 106 = .ok (.aload_n 0, 1) := dk_42 (dk_at dksX5_writeHistory_4 11 rfl rfl)
theorem dX5_writeHistory_107 : decode cX5_writeHistory 107 = .ok (.bipush 32, 2) := dk_16 32 (dk_at dksX5_writeHistory_4 12 rfl rfl)
theorem dX5_writeHistory_109 : decode cX5_writeHistory 109 = .ok (.invokevirtual 317, 3) := dk_182 1 61 (dk_at dksX5_writeHistory_4 14 rfl rfl)
theorem dX5_writeHistory_112 : decode cX5_writeHistory 112 = .ok (.aload_n 0, 1) := dk_42 (dk_at dksX5_writeHistory_4 17 rfl rfl)
theorem dX5_writeHistory_113 : decode cX5_writeHistory 113 = .ok (.aload_n 0, 1) := dk_42 (dk_at dksX5_writeHistory_4 18 rfl rfl)
theorem dX5_writeHistory_114 : decode cX5_writeHistory 114 = .ok (.getfield 7, 3) := dk_180 0 7 (dk_at dksX5_writeHistory_4 19 rfl rfl)
theorem dX5_writeHistory_117 : decode cX5_writeHistory 117 = .ok (.iload_n 2, 1) := dk_28 (dk_at dksX5_writeHistory_4 22 rfl rfl)
theorem dX5_writeHistory_118 : decode cX5_writeHistory 118 = .ok (.iconst 3, 1) := dk_6 (dk_at dksX5_writeHistory_4 23 rfl rfl)
theorem dX5_writeHistory_119 : decode cX5_writeHistory 119 = .ok (.iadd, 1) := dk_96 (dk_at dksX5_writeHistory_5 0 rfl rfl)
theorem dX5_writeHistory_120 : decode cX5_writeHistory 120 = .ok (.iaload, 1) := dk_46 (dk_at dksX5_writeHistory_5 1 rfl rfl)
theorem dX5_writeHistory_121 : decode cX5_writeHistory 121 = .ok (.invokevirtual 320, 3) := dk_182 1 64 (dk_at dksX5_writeHistory_5 2 rfl rfl)
theorem dX5_writeHistory_124 : decode cX5_writeHistory 124 = .ok (.aload_n 0, 1) := dk_42 (dk_at dksX5_writeHistory_5 5 rfl rfl)
theorem dX5_writeHistory_125 : decode cX5_writeHistory 125 = .ok (.bipush 59, 2) := dk_16 59 (dk_at dksX5_writeHistory_5 6 rfl rfl)
theorem dX5_writeHistory_127 : decode cX5_writeHistory 127 = .ok (.invokevirtual 317, 3) := dk_182 1 61 (dk_at dksX5_writeHistory_5 8 rfl rfl)
theorem dX5_writeHistory_130 : decode cX5_writeHistory 130 = .ok (.iinc 1 1, 3) := dk_132 1 1 (dk_at dksX5_writeHistory_5 11 rfl rfl)
theorem dX5_writeHistory_133 : decode cX5_writeHistory 133 = .ok (.goto (-121), 3) := dk_167 255 135 (dk_at dksX5_writeHistory_5 14 rfl rfl)
theorem dX5_writeHistory_136 : decode cX5_writeHistory 136 = .ok (.aload_n 0, 1) := dk_42 (dk_at dksX5_writeHistory_5 17 rfl rfl)
theorem dX5_writeHistory_137 : decode cX5_writeHistory 137 = .ok (.getfield 314, 3) := dk_180 1 58 (dk_at dksX5_writeHistory_5 18 rfl rfl)
theorem dX5_writeHistory_140 : decode cX5_writeHistory 140 = .ok (.ireturn, 1) := dk_172 (dk_at dksX5_writeHistory_5 21 rfl rfl)
abbrev cX5_output : ByteArray := prog_14_method_118_code
def yX5_output : MethodName := ⟨RX5, "output", "(I)I"⟩
def dkwX5_output_1 : List UInt8 := [51, 167, 0, 4, 2, 172]
abbrev dktX5_output_1 : List UInt8 := dkwX5_output_1 ++ []
def dkwX5_output_0 : List UInt8 := [42, 3, 181, 0, 58, 27, 3, 42, 180, 1, 58, 4, 100, 184, 0, 179, 153, 0, 12, 42, 180, 0, 52, 27]
abbrev dktX5_output_0 : List UInt8 := dkwX5_output_0 ++ dktX5_output_1
theorem dksX5_output_0 : cX5_output.data.toList.drop 0 = dktX5_output_0 := by decide +kernel
theorem dksX5_output_1 : cX5_output.data.toList.drop 24 = dktX5_output_1 := dk_seg dksX5_output_0 24 rfl rfl
theorem dX5_output_0 : decode cX5_output 0 = .ok (.aload_n 0, 1) := dk_42 (dk_at dksX5_output_0 0 rfl rfl)
theorem dX5_output_1 : decode cX5_output 1 = .ok (.iconst 0, 1) := dk_3 (dk_at dksX5_output_0 1 rfl rfl)
theorem dX5_output_2 : decode cX5_output 2 = .ok (.putfield 58, 3) := dk_181 0 58 (dk_at dksX5_output_0 2 rfl rfl)
theorem dX5_output_5 : decode cX5_output 5 = .ok (.iload_n 1, 1) := dk_27 (dk_at dksX5_output_0 5 rfl rfl)
theorem dX5_output_6 : decode cX5_output 6 = .ok (.iconst 0, 1) := dk_3 (dk_at dksX5_output_0 6 rfl rfl)
theorem dX5_output_7 : decode cX5_output 7 = .ok (.aload_n 0, 1) := dk_42 (dk_at dksX5_output_0 7 rfl rfl)
theorem dX5_output_8 : decode cX5_output 8 = .ok (.getfield 314, 3) := dk_180 1 58 (dk_at dksX5_output_0 8 rfl rfl)
theorem dX5_output_11 : decode cX5_output 11 = .ok (.iconst 1, 1) := dk_4 (dk_at dksX5_output_0 11 rfl rfl)
theorem dX5_output_12 : decode cX5_output 12 = .ok (.isub, 1) := dk_100 (dk_at dksX5_output_0 12 rfl rfl)
theorem dX5_output_13 : decode cX5_output 13 = .ok (.invokestatic 179, 3) := dk_184 0 179 (dk_at dksX5_output_0 13 rfl rfl)
theorem dX5_output_16 : decode cX5_output 16 = .ok (.ifCond .eq 12, 3) := dk_153 0 12 (dk_at dksX5_output_0 16 rfl rfl)
theorem dX5_output_19 : decode cX5_output 19 = .ok (.aload_n 0, 1) := dk_42 (dk_at dksX5_output_0 19 rfl rfl)
theorem dX5_output_20 : decode cX5_output 20 = .ok (.getfield 52, 3) := dk_180 0 52 (dk_at dksX5_output_0 20 rfl rfl)
theorem dX5_output_23 : decode cX5_output 23 = .ok (.iload_n 1, 1) := dk_27 (dk_at dksX5_output_0 23 rfl rfl)
theorem dX5_output_24 : decode cX5_output 24 = .ok (.baload, 1) := dk_51 (dk_at dksX5_output_1 0 rfl rfl)
theorem dX5_output_25 : decode cX5_output 25 = .ok (.goto 4, 3) := dk_167 0 4 (dk_at dksX5_output_1 1 rfl rfl)
theorem dX5_output_28 : decode cX5_output 28 = .ok (.iconst (-1), 1) := dk_2 (dk_at dksX5_output_1 4 rfl rfl)
theorem dX5_output_29 : decode cX5_output 29 = .ok (.ireturn, 1) := dk_172 (dk_at dksX5_output_1 5 rfl rfl)
abbrev cX5_undo : ByteArray := prog_14_method_119_code
def yX5_undo : MethodName := ⟨RX5, "undo", "()I"⟩
def dkwX5_undo_2 : List UInt8 := [172]
abbrev dktX5_undo_2 : List UInt8 := dkwX5_undo_2 ++ []
def dkwX5_undo_1 : List UInt8 := [42, 180, 0, 19, 17, 9, 158, 42, 180, 0, 147, 104, 42, 180, 0, 7, 3, 184, 0, 110, 42, 180, 0, 147]
abbrev dktX5_undo_1 : List UInt8 := dkwX5_undo_1 ++ dktX5_undo_2
def dkwX5_undo_0 : List UInt8 := [42, 3, 181, 0, 58, 42, 180, 0, 147, 154, 0, 5, 2, 172, 42, 89, 180, 0, 147, 4, 100, 181, 0, 147]
abbrev dktX5_undo_0 : List UInt8 := dkwX5_undo_0 ++ dktX5_undo_1
theorem dksX5_undo_0 : cX5_undo.data.toList.drop 0 = dktX5_undo_0 := by decide +kernel
theorem dksX5_undo_1 : cX5_undo.data.toList.drop 24 = dktX5_undo_1 := dk_seg dksX5_undo_0 24 rfl rfl
theorem dksX5_undo_2 : cX5_undo.data.toList.drop 48 = dktX5_undo_2 := dk_seg dksX5_undo_1 24 rfl rfl
theorem dX5_undo_0 : decode cX5_undo 0 = .ok (.aload_n 0, 1) := dk_42 (dk_at dksX5_undo_0 0 rfl rfl)
theorem dX5_undo_1 : decode cX5_undo 1 = .ok (.iconst 0, 1) := dk_3 (dk_at dksX5_undo_0 1 rfl rfl)
theorem dX5_undo_2 : decode cX5_undo 2 = .ok (.putfield 58, 3) := dk_181 0 58 (dk_at dksX5_undo_0 2 rfl rfl)
theorem dX5_undo_5 : decode cX5_undo 5 = .ok (.aload_n 0, 1) := dk_42 (dk_at dksX5_undo_0 5 rfl rfl)
theorem dX5_undo_6 : decode cX5_undo 6 = .ok (.getfield 147, 3) := dk_180 0 147 (dk_at dksX5_undo_0 6 rfl rfl)
theorem dX5_undo_9 : decode cX5_undo 9 = .ok (.ifCond .ne 5, 3) := dk_154 0 5 (dk_at dksX5_undo_0 9 rfl rfl)
theorem dX5_undo_12 : decode cX5_undo 12 = .ok (.iconst (-1), 1) := dk_2 (dk_at dksX5_undo_0 12 rfl rfl)
theorem dX5_undo_13 : decode cX5_undo 13 = .ok (.ireturn, 1) := dk_172 (dk_at dksX5_undo_0 13 rfl rfl)
theorem dX5_undo_14 : decode cX5_undo 14 = .ok (.aload_n 0, 1) := dk_42 (dk_at dksX5_undo_0 14 rfl rfl)
theorem dX5_undo_15 : decode cX5_undo 15 = .ok (.dup, 1) := dk_89 (dk_at dksX5_undo_0 15 rfl rfl)
theorem dX5_undo_16 : decode cX5_undo 16 = .ok (.getfield 147, 3) := dk_180 0 147 (dk_at dksX5_undo_0 16 rfl rfl)
theorem dX5_undo_19 : decode cX5_undo 19 = .ok (.iconst 1, 1) := dk_4 (dk_at dksX5_undo_0 19 rfl rfl)
theorem dX5_undo_20 : decode cX5_undo 20 = .ok (.isub, 1) := dk_100 (dk_at dksX5_undo_0 20 rfl rfl)
theorem dX5_undo_21 : decode cX5_undo 21 = .ok (.putfield 147, 3) := dk_181 0 147 (dk_at dksX5_undo_0 21 rfl rfl)
theorem dX5_undo_24 : decode cX5_undo 24 = .ok (.aload_n 0, 1) := dk_42 (dk_at dksX5_undo_1 0 rfl rfl)
theorem dX5_undo_25 : decode cX5_undo 25 = .ok (.getfield 19, 3) := dk_180 0 19 (dk_at dksX5_undo_1 1 rfl rfl)
theorem dX5_undo_28 : decode cX5_undo 28 = .ok (.sipush 2462, 3) := dk_17 9 158 (dk_at dksX5_undo_1 4 rfl rfl)
theorem dX5_undo_31 : decode cX5_undo 31 = .ok (.aload_n 0, 1) := dk_42 (dk_at dksX5_undo_1 7 rfl rfl)
theorem dX5_undo_32 : decode cX5_undo 32 = .ok (.getfield 147, 3) := dk_180 0 147 (dk_at dksX5_undo_1 8 rfl rfl)
theorem dX5_undo_35 : decode cX5_undo 35 = .ok (.imul, 1) := dk_104 (dk_at dksX5_undo_1 11 rfl rfl)
theorem dX5_undo_36 : decode cX5_undo 36 = .ok (.aload_n 0, 1) := dk_42 (dk_at dksX5_undo_1 12 rfl rfl)
theorem dX5_undo_37 : decode cX5_undo 37 = .ok (.getfield 7, 3) := dk_180 0 7 (dk_at dksX5_undo_1 13 rfl rfl)
theorem dX5_undo_40 : decode cX5_undo 40 = .ok (.iconst 0, 1) := dk_3 (dk_at dksX5_undo_1 16 rfl rfl)
theorem dX5_undo_41 : decode cX5_undo 41 = .ok (.invokestatic 110, 3) := dk_184 0 110 (dk_at dksX5_undo_1 17 rfl rfl)
theorem dX5_undo_44 : decode cX5_undo 44 = .ok (.aload_n 0, 1) := dk_42 (dk_at dksX5_undo_1 20 rfl rfl)
theorem dX5_undo_45 : decode cX5_undo 45 = .ok (.getfield 147, 3) := dk_180 0 147 (dk_at dksX5_undo_1 21 rfl rfl)
theorem dX5_undo_48 : decode cX5_undo 48 = .ok (.ireturn, 1) := dk_172 (dk_at dksX5_undo_2 0 rfl rfl)
abbrev cX5_save : ByteArray := prog_14_method_120_code
def yX5_save : MethodName := ⟨RX5, "save", "(I)V"⟩
def dkwX5_save_2 : List UInt8 := [180, 0, 25, 27, 4, 84, 177]
abbrev dktX5_save_2 : List UInt8 := dkwX5_save_2 ++ []
def dkwX5_save_1 : List UInt8 := [158, 0, 4, 177, 42, 180, 0, 7, 3, 42, 180, 0, 22, 17, 9, 158, 27, 104, 184, 0, 110, 42]
abbrev dktX5_save_1 : List UInt8 := dkwX5_save_1 ++ dktX5_save_2
def dkwX5_save_0 : List UInt8 := [42, 27, 3, 4, 184, 0, 179, 153, 0, 7, 3, 167, 0, 4, 4, 181, 0, 58, 42, 180, 0, 58]
abbrev dktX5_save_0 : List UInt8 := dkwX5_save_0 ++ dktX5_save_1
theorem dksX5_save_0 : cX5_save.data.toList.drop 0 = dktX5_save_0 := by decide +kernel
theorem dksX5_save_1 : cX5_save.data.toList.drop 22 = dktX5_save_1 := dk_seg dksX5_save_0 22 rfl rfl
theorem dksX5_save_2 : cX5_save.data.toList.drop 44 = dktX5_save_2 := dk_seg dksX5_save_1 22 rfl rfl
theorem dX5_save_0 : decode cX5_save 0 = .ok (.aload_n 0, 1) := dk_42 (dk_at dksX5_save_0 0 rfl rfl)
theorem dX5_save_1 : decode cX5_save 1 = .ok (.iload_n 1, 1) := dk_27 (dk_at dksX5_save_0 1 rfl rfl)
theorem dX5_save_2 : decode cX5_save 2 = .ok (.iconst 0, 1) := dk_3 (dk_at dksX5_save_0 2 rfl rfl)
theorem dX5_save_3 : decode cX5_save 3 = .ok (.iconst 1, 1) := dk_4 (dk_at dksX5_save_0 3 rfl rfl)
theorem dX5_save_4 : decode cX5_save 4 = .ok (.invokestatic 179, 3) := dk_184 0 179 (dk_at dksX5_save_0 4 rfl rfl)
theorem dX5_save_7 : decode cX5_save 7 = .ok (.ifCond .eq 7, 3) := dk_153 0 7 (dk_at dksX5_save_0 7 rfl rfl)
theorem dX5_save_10 : decode cX5_save 10 = .ok (.iconst 0, 1) := dk_3 (dk_at dksX5_save_0 10 rfl rfl)
theorem dX5_save_11 : decode cX5_save 11 = .ok (.goto 4, 3) := dk_167 0 4 (dk_at dksX5_save_0 11 rfl rfl)
theorem dX5_save_14 : decode cX5_save 14 = .ok (.iconst 1, 1) := dk_4 (dk_at dksX5_save_0 14 rfl rfl)
theorem dX5_save_15 : decode cX5_save 15 = .ok (.putfield 58, 3) := dk_181 0 58 (dk_at dksX5_save_0 15 rfl rfl)
theorem dX5_save_18 : decode cX5_save 18 = .ok (.aload_n 0, 1) := dk_42 (dk_at dksX5_save_0 18 rfl rfl)
theorem dX5_save_19 : decode cX5_save 19 = .ok (.getfield 58, 3) := dk_180 0 58 (dk_at dksX5_save_0 19 rfl rfl)
theorem dX5_save_22 : decode cX5_save 22 = .ok (.ifCond .le 4, 3) := dk_158 0 4 (dk_at dksX5_save_1 0 rfl rfl)
theorem dX5_save_25 : decode cX5_save 25 = .ok (.return_, 1) := dk_177 (dk_at dksX5_save_1 3 rfl rfl)
theorem dX5_save_26 : decode cX5_save 26 = .ok (.aload_n 0, 1) := dk_42 (dk_at dksX5_save_1 4 rfl rfl)
theorem dX5_save_27 : decode cX5_save 27 = .ok (.getfield 7, 3) := dk_180 0 7 (dk_at dksX5_save_1 5 rfl rfl)
theorem dX5_save_30 : decode cX5_save 30 = .ok (.iconst 0, 1) := dk_3 (dk_at dksX5_save_1 8 rfl rfl)
theorem dX5_save_31 : decode cX5_save 31 = .ok (.aload_n 0, 1) := dk_42 (dk_at dksX5_save_1 9 rfl rfl)
theorem dX5_save_32 : decode cX5_save 32 = .ok (.getfield 22, 3) := dk_180 0 22 (dk_at dksX5_save_1 10 rfl rfl)
theorem dX5_save_35 : decode cX5_save 35 = .ok (.sipush 2462, 3) := dk_17 9 158 (dk_at dksX5_save_1 13 rfl rfl)
theorem dX5_save_38 : decode cX5_save 38 = .ok (.iload_n 1, 1) := dk_27 (dk_at dksX5_save_1 16 rfl rfl)
theorem dX5_save_39 : decode cX5_save 39 = .ok (.imul, 1) := dk_104 (dk_at dksX5_save_1 17 rfl rfl)
theorem dX5_save_40 : decode cX5_save 40 = .ok (.invokestatic 110, 3) := dk_184 0 110 (dk_at dksX5_save_1 18 rfl rfl)
theorem dX5_save_43 : decode cX5_save 43 = .ok (.aload_n 0, 1) := dk_42 (dk_at dksX5_save_1 21 rfl rfl)
theorem dX5_save_44 : decode cX5_save 44 = .ok (.getfield 25, 3) := dk_180 0 25 (dk_at dksX5_save_2 0 rfl rfl)
theorem dX5_save_47 : decode cX5_save 47 = .ok (.iload_n 1, 1) := dk_27 (dk_at dksX5_save_2 3 rfl rfl)
theorem dX5_save_48 : decode cX5_save 48 = .ok (.iconst 1, 1) := dk_4 (dk_at dksX5_save_2 4 rfl rfl)
theorem dX5_save_49 : decode cX5_save 49 = .ok (.bastore, 1) := dk_84 (dk_at dksX5_save_2 5 rfl rfl)
theorem dX5_save_50 : decode cX5_save 50 = .ok (.return_, 1) := dk_177 (dk_at dksX5_save_2 6 rfl rfl)
abbrev cX5_restore : ByteArray := prog_14_method_121_code
def yX5_restore : MethodName := ⟨RX5, "restore", "(I)V"⟩
def dkwX5_restore_2 : List UInt8 := [42, 180, 0, 7, 3, 184, 0, 110, 42, 3, 181, 0, 147, 177]
abbrev dktX5_restore_2 : List UInt8 := dkwX5_restore_2 ++ []
def dkwX5_restore_1 : List UInt8 := [167, 0, 4, 5, 181, 0, 58, 42, 180, 0, 58, 158, 0, 4, 177, 42, 180, 0, 22, 17, 9, 158, 27, 104]
abbrev dktX5_restore_1 : List UInt8 := dkwX5_restore_1 ++ dktX5_restore_2
def dkwX5_restore_0 : List UInt8 := [42, 27, 3, 4, 184, 0, 179, 154, 0, 7, 4, 167, 0, 17, 42, 180, 0, 25, 27, 51, 153, 0, 7, 3]
abbrev dktX5_restore_0 : List UInt8 := dkwX5_restore_0 ++ dktX5_restore_1
theorem dksX5_restore_0 : cX5_restore.data.toList.drop 0 = dktX5_restore_0 := by decide +kernel
theorem dksX5_restore_1 : cX5_restore.data.toList.drop 24 = dktX5_restore_1 := dk_seg dksX5_restore_0 24 rfl rfl
theorem dksX5_restore_2 : cX5_restore.data.toList.drop 48 = dktX5_restore_2 := dk_seg dksX5_restore_1 24 rfl rfl
theorem dX5_restore_0 : decode cX5_restore 0 = .ok (.aload_n 0, 1) := dk_42 (dk_at dksX5_restore_0 0 rfl rfl)
theorem dX5_restore_1 : decode cX5_restore 1 = .ok (.iload_n 1, 1) := dk_27 (dk_at dksX5_restore_0 1 rfl rfl)
theorem dX5_restore_2 : decode cX5_restore 2 = .ok (.iconst 0, 1) := dk_3 (dk_at dksX5_restore_0 2 rfl rfl)
theorem dX5_restore_3 : decode cX5_restore 3 = .ok (.iconst 1, 1) := dk_4 (dk_at dksX5_restore_0 3 rfl rfl)
theorem dX5_restore_4 : decode cX5_restore 4 = .ok (.invokestatic 179, 3) := dk_184 0 179 (dk_at dksX5_restore_0 4 rfl rfl)
theorem dX5_restore_7 : decode cX5_restore 7 = .ok (.ifCond .ne 7, 3) := dk_154 0 7 (dk_at dksX5_restore_0 7 rfl rfl)
theorem dX5_restore_10 : decode cX5_restore 10 = .ok (.iconst 1, 1) := dk_4 (dk_at dksX5_restore_0 10 rfl rfl)
theorem dX5_restore_11 : decode cX5_restore 11 = .ok (.goto 17, 3) := dk_167 0 17 (dk_at dksX5_restore_0 11 rfl rfl)
theorem dX5_restore_14 : decode cX5_restore 14 = .ok (.aload_n 0, 1) := dk_42 (dk_at dksX5_restore_0 14 rfl rfl)
theorem dX5_restore_15 : decode cX5_restore 15 = .ok (.getfield 25, 3) := dk_180 0 25 (dk_at dksX5_restore_0 15 rfl rfl)
theorem dX5_restore_18 : decode cX5_restore 18 = .ok (.iload_n 1, 1) := dk_27 (dk_at dksX5_restore_0 18 rfl rfl)
theorem dX5_restore_19 : decode cX5_restore 19 = .ok (.baload, 1) := dk_51 (dk_at dksX5_restore_0 19 rfl rfl)
theorem dX5_restore_20 : decode cX5_restore 20 = .ok (.ifCond .eq 7, 3) := dk_153 0 7 (dk_at dksX5_restore_0 20 rfl rfl)
theorem dX5_restore_23 : decode cX5_restore 23 = .ok (.iconst 0, 1) := dk_3 (dk_at dksX5_restore_0 23 rfl rfl)
theorem dX5_restore_24 : decode cX5_restore 24 = .ok (.goto 4, 3) := dk_167 0 4 (dk_at dksX5_restore_1 0 rfl rfl)
theorem dX5_restore_27 : decode cX5_restore 27 = .ok (.iconst 2, 1) := dk_5 (dk_at dksX5_restore_1 3 rfl rfl)
theorem dX5_restore_28 : decode cX5_restore 28 = .ok (.putfield 58, 3) := dk_181 0 58 (dk_at dksX5_restore_1 4 rfl rfl)
theorem dX5_restore_31 : decode cX5_restore 31 = .ok (.aload_n 0, 1) := dk_42 (dk_at dksX5_restore_1 7 rfl rfl)
theorem dX5_restore_32 : decode cX5_restore 32 = .ok (.getfield 58, 3) := dk_180 0 58 (dk_at dksX5_restore_1 8 rfl rfl)
theorem dX5_restore_35 : decode cX5_restore 35 = .ok (.ifCond .le 4, 3) := dk_158 0 4 (dk_at dksX5_restore_1 11 rfl rfl)
theorem dX5_restore_38 : decode cX5_restore 38 = .ok (.return_, 1) := dk_177 (dk_at dksX5_restore_1 14 rfl rfl)
theorem dX5_restore_39 : decode cX5_restore 39 = .ok (.aload_n 0, 1) := dk_42 (dk_at dksX5_restore_1 15 rfl rfl)
theorem dX5_restore_40 : decode cX5_restore 40 = .ok (.getfield 22, 3) := dk_180 0 22 (dk_at dksX5_restore_1 16 rfl rfl)
theorem dX5_restore_43 : decode cX5_restore 43 = .ok (.sipush 2462, 3) := dk_17 9 158 (dk_at dksX5_restore_1 19 rfl rfl)
theorem dX5_restore_46 : decode cX5_restore 46 = .ok (.iload_n 1, 1) := dk_27 (dk_at dksX5_restore_1 22 rfl rfl)
theorem dX5_restore_47 : decode cX5_restore 47 = .ok (.imul, 1) := dk_104 (dk_at dksX5_restore_1 23 rfl rfl)
theorem dX5_restore_48 : decode cX5_restore 48 = .ok (.aload_n 0, 1) := dk_42 (dk_at dksX5_restore_2 0 rfl rfl)
theorem dX5_restore_49 : decode cX5_restore 49 = .ok (.getfield 7, 3) := dk_180 0 7 (dk_at dksX5_restore_2 1 rfl rfl)
theorem dX5_restore_52 : decode cX5_restore 52 = .ok (.iconst 0, 1) := dk_3 (dk_at dksX5_restore_2 4 rfl rfl)
theorem dX5_restore_53 : decode cX5_restore 53 = .ok (.invokestatic 110, 3) := dk_184 0 110 (dk_at dksX5_restore_2 5 rfl rfl)
theorem dX5_restore_56 : decode cX5_restore 56 = .ok (.aload_n 0, 1) := dk_42 (dk_at dksX5_restore_2 8 rfl rfl)
theorem dX5_restore_57 : decode cX5_restore 57 = .ok (.iconst 0, 1) := dk_3 (dk_at dksX5_restore_2 9 rfl rfl)
theorem dX5_restore_58 : decode cX5_restore 58 = .ok (.putfield 147, 3) := dk_181 0 147 (dk_at dksX5_restore_2 10 rfl rfl)
theorem dX5_restore_61 : decode cX5_restore 61 = .ok (.return_, 1) := dk_177 (dk_at dksX5_restore_2 13 rfl rfl)
theorem q137 : (Jvm.Cond.initialized "FlashZonesModel") ∈ lw_all := lw_g (lw_at lw_m1 25 rfl) rfl
theorem q969 : (Jvm.Cond.selects "FlashZonesModel" ({ cls := "java/lang/Object", name := "getClass", desc := "()Ljava/lang/Class;" } : Jvm.MethodName) ({ cls := "java/lang/Object", name := "getClass", desc := "()Ljava/lang/Class;" } : Jvm.MethodName)) ∈ lw_all := lw_g (lw_at lw_m4 137 rfl) rfl
theorem q1982 : (Jvm.Cond.instantiable "FlashZonesModel" (25 : Nat)) ∈ lw_all := lw_g (lw_at lw_m8 190 rfl) rfl
theorem q1984 : (Jvm.Cond.instanceMethod ({ cls := "FlashZonesModel", name := "<init>", desc := "()V" } : Jvm.MethodName)) ∈ lw_all := lw_g (lw_at lw_m8 192 rfl) rfl
theorem q1985 : (Jvm.Cond.code ({ cls := "FlashZonesModel", name := "<init>", desc := "()V" } : Jvm.MethodName) prog_14_method_1_code (1 : Nat) (Option.none : Option Jvm.ClassFile.FieldType)) ∈ lw_all := lw_g (lw_at lw_m8 193 rfl) rfl
theorem q1986 : (Jvm.Cond.methodLink "FlashZonesModel" (1 : Nat) ({ cls := "java/lang/Object", name := "<init>", desc := "()V" } : Jvm.MethodName)) ∈ lw_all := lw_g (lw_at lw_m8 194 rfl) rfl
theorem q1987 : (Jvm.Cond.methodLink "FlashZonesModel" (55 : Nat) ({ cls := "FlashZonesModel", name := "begins", desc := "()V" } : Jvm.MethodName)) ∈ lw_all := lw_g (lw_at lw_m8 195 rfl) rfl
theorem q1988 : (Jvm.Cond.privateMethod ({ cls := "FlashZonesModel", name := "begins", desc := "()V" } : Jvm.MethodName)) ∈ lw_tbl := lw_at lw_m8 196 rfl
theorem q1989 : (Jvm.Cond.instanceMethod ({ cls := "FlashZonesModel", name := "begins", desc := "()V" } : Jvm.MethodName)) ∈ lw_all := lw_g (lw_at lw_m8 197 rfl) rfl
theorem q1990 : (Jvm.Cond.code ({ cls := "FlashZonesModel", name := "begins", desc := "()V" } : Jvm.MethodName) prog_14_method_5_code (2 : Nat) (Option.none : Option Jvm.ClassFile.FieldType)) ∈ lw_all := lw_g (lw_at lw_m8 198 rfl) rfl
theorem q1991 : (Jvm.Cond.methodLink "FlashZonesModel" (61 : Nat) ({ cls := "FlashZonesModel", name := "zoneAt", desc := "(I)I" } : Jvm.MethodName)) ∈ lw_all := lw_g (lw_at lw_m8 199 rfl) rfl
theorem q1992 : (Jvm.Cond.static ({ cls := "FlashZonesModel", name := "zoneAt", desc := "(I)I" } : Jvm.MethodName)) ∈ lw_all := lw_g (lw_at lw_m8 200 rfl) rfl
theorem q1993 : (Jvm.Cond.code ({ cls := "FlashZonesModel", name := "zoneAt", desc := "(I)I" } : Jvm.MethodName) prog_14_method_6_code (1 : Nat) (Option.some Jvm.ClassFile.FieldType.int)) ∈ lw_all := lw_g (lw_at lw_m8 201 rfl) rfl
theorem q1994 : (Jvm.Cond.fieldLink "FlashZonesModel" (58 : Nat) "FlashZonesModel" "thrown" "I") ∈ lw_all := lw_g (lw_at lw_m8 202 rfl) rfl
theorem q1995 : (Jvm.Cond.fieldLink "FlashZonesModel" (7 : Nat) "FlashZonesModel" "now" "[I") ∈ lw_all := lw_g (lw_at lw_m8 203 rfl) rfl
theorem q1996 : (Jvm.Cond.fieldLink "FlashZonesModel" (13 : Nat) "FlashZonesModel" "aside" "[I") ∈ lw_all := lw_g (lw_at lw_m8 204 rfl) rfl
theorem q1997 : (Jvm.Cond.fieldLink "FlashZonesModel" (16 : Nat) "FlashZonesModel" "tried" "[I") ∈ lw_all := lw_g (lw_at lw_m8 205 rfl) rfl
theorem q1998 : (Jvm.Cond.fieldLink "FlashZonesModel" (19 : Nat) "FlashZonesModel" "undos" "[I") ∈ lw_all := lw_g (lw_at lw_m8 206 rfl) rfl
theorem q1999 : (Jvm.Cond.fieldLink "FlashZonesModel" (147 : Nat) "FlashZonesModel" "undoMany" "I") ∈ lw_all := lw_g (lw_at lw_m8 207 rfl) rfl
theorem q2000 : (Jvm.Cond.fieldLink "FlashZonesModel" (22 : Nat) "FlashZonesModel" "saved" "[I") ∈ lw_all := lw_g (lw_at lw_m8 208 rfl) rfl
theorem q2001 : (Jvm.Cond.fieldLink "FlashZonesModel" (25 : Nat) "FlashZonesModel" "isSaved" "[Z") ∈ lw_all := lw_g (lw_at lw_m8 209 rfl) rfl
theorem q2002 : (Jvm.Cond.fieldLink "FlashZonesModel" (29 : Nat) "FlashZonesModel" "accounts" "[I") ∈ lw_all := lw_g (lw_at lw_m8 210 rfl) rfl
theorem q2003 : (Jvm.Cond.fieldLink "FlashZonesModel" (32 : Nat) "FlashZonesModel" "way" "I") ∈ lw_all := lw_g (lw_at lw_m8 211 rfl) rfl
theorem q2004 : (Jvm.Cond.fieldLink "FlashZonesModel" (250 : Nat) "FlashZonesModel" "leftOut" "I") ∈ lw_all := lw_g (lw_at lw_m8 212 rfl) rfl
theorem q2005 : (Jvm.Cond.fieldLink "FlashZonesModel" (36 : Nat) "FlashZonesModel" "here" "[I") ∈ lw_all := lw_g (lw_at lw_m8 213 rfl) rfl
theorem q2006 : (Jvm.Cond.fieldLink "FlashZonesModel" (39 : Nat) "FlashZonesModel" "text" "[B") ∈ lw_all := lw_g (lw_at lw_m8 214 rfl) rfl
theorem q2007 : (Jvm.Cond.fieldLink "FlashZonesModel" (265 : Nat) "FlashZonesModel" "length" "I") ∈ lw_all := lw_g (lw_at lw_m8 215 rfl) rfl
theorem q2008 : (Jvm.Cond.fieldLink "FlashZonesModel" (268 : Nat) "FlashZonesModel" "at" "I") ∈ lw_all := lw_g (lw_at lw_m8 216 rfl) rfl
theorem q2009 : (Jvm.Cond.fieldLink "FlashZonesModel" (274 : Nat) "FlashZonesModel" "from" "I") ∈ lw_all := lw_g (lw_at lw_m8 217 rfl) rfl
theorem q2010 : (Jvm.Cond.fieldLink "FlashZonesModel" (283 : Nat) "FlashZonesModel" "token" "I") ∈ lw_all := lw_g (lw_at lw_m8 218 rfl) rfl
theorem q2011 : (Jvm.Cond.fieldLink "FlashZonesModel" (286 : Nat) "FlashZonesModel" "number" "I") ∈ lw_all := lw_g (lw_at lw_m8 219 rfl) rfl
theorem q2012 : (Jvm.Cond.fieldLink "FlashZonesModel" (289 : Nat) "FlashZonesModel" "error" "I") ∈ lw_all := lw_g (lw_at lw_m8 220 rfl) rfl
theorem q2013 : (Jvm.Cond.fieldLink "FlashZonesModel" (43 : Nat) "FlashZonesModel" "errorAt" "I") ∈ lw_all := lw_g (lw_at lw_m8 221 rfl) rfl
theorem q2014 : (Jvm.Cond.fieldLink "FlashZonesModel" (46 : Nat) "FlashZonesModel" "words" "[B") ∈ lw_all := lw_g (lw_at lw_m8 222 rfl) rfl
theorem q2015 : (Jvm.Cond.fieldLink "FlashZonesModel" (302 : Nat) "FlashZonesModel" "commands" "I") ∈ lw_all := lw_g (lw_at lw_m8 223 rfl) rfl
theorem q2016 : (Jvm.Cond.fieldLink "FlashZonesModel" (49 : Nat) "FlashZonesModel" "command" "[I") ∈ lw_all := lw_g (lw_at lw_m8 224 rfl) rfl
theorem q2017 : (Jvm.Cond.fieldLink "FlashZonesModel" (52 : Nat) "FlashZonesModel" "out" "[B") ∈ lw_all := lw_g (lw_at lw_m8 225 rfl) rfl
theorem q2018 : (Jvm.Cond.fieldLink "FlashZonesModel" (314 : Nat) "FlashZonesModel" "outLong" "I") ∈ lw_all := lw_g (lw_at lw_m8 226 rfl) rfl
theorem q2019 : (Jvm.Cond.lays "FlashZonesModel" "FlashZonesModel" "thrown" "I") ∈ lw_all := lw_g (lw_at lw_m8 227 rfl) rfl
theorem q2020 : (Jvm.Cond.soleField "FlashZonesModel" "thrown") ∈ lw_all := lw_g (lw_at lw_m8 228 rfl) rfl
theorem q2021 : (Jvm.Cond.laysFinal "FlashZonesModel" "FlashZonesModel" "now" "[I") ∈ lw_all := lw_g (lw_at lw_m8 229 rfl) rfl
theorem q2022 : (Jvm.Cond.soleField "FlashZonesModel" "now") ∈ lw_all := lw_g (lw_at lw_m8 230 rfl) rfl
theorem q2023 : (Jvm.Cond.laysFinal "FlashZonesModel" "FlashZonesModel" "aside" "[I") ∈ lw_all := lw_g (lw_at lw_m8 231 rfl) rfl
theorem q2024 : (Jvm.Cond.soleField "FlashZonesModel" "aside") ∈ lw_all := lw_g (lw_at lw_m8 232 rfl) rfl
theorem q2025 : (Jvm.Cond.laysFinal "FlashZonesModel" "FlashZonesModel" "tried" "[I") ∈ lw_all := lw_g (lw_at lw_m8 233 rfl) rfl
theorem q2026 : (Jvm.Cond.soleField "FlashZonesModel" "tried") ∈ lw_all := lw_g (lw_at lw_m8 234 rfl) rfl
theorem q2027 : (Jvm.Cond.laysFinal "FlashZonesModel" "FlashZonesModel" "undos" "[I") ∈ lw_all := lw_g (lw_at lw_m8 235 rfl) rfl
theorem q2028 : (Jvm.Cond.soleField "FlashZonesModel" "undos") ∈ lw_all := lw_g (lw_at lw_m8 236 rfl) rfl
theorem q2029 : (Jvm.Cond.lays "FlashZonesModel" "FlashZonesModel" "undoMany" "I") ∈ lw_all := lw_g (lw_at lw_m8 237 rfl) rfl
theorem q2030 : (Jvm.Cond.soleField "FlashZonesModel" "undoMany") ∈ lw_all := lw_g (lw_at lw_m8 238 rfl) rfl
theorem q2031 : (Jvm.Cond.laysFinal "FlashZonesModel" "FlashZonesModel" "saved" "[I") ∈ lw_all := lw_g (lw_at lw_m8 239 rfl) rfl
theorem q2032 : (Jvm.Cond.soleField "FlashZonesModel" "saved") ∈ lw_all := lw_g (lw_at lw_m9 0 rfl) rfl
theorem q2033 : (Jvm.Cond.laysFinal "FlashZonesModel" "FlashZonesModel" "isSaved" "[Z") ∈ lw_all := lw_g (lw_at lw_m9 1 rfl) rfl
theorem q2034 : (Jvm.Cond.soleField "FlashZonesModel" "isSaved") ∈ lw_all := lw_g (lw_at lw_m9 2 rfl) rfl
theorem q2035 : (Jvm.Cond.laysFinal "FlashZonesModel" "FlashZonesModel" "accounts" "[I") ∈ lw_all := lw_g (lw_at lw_m9 3 rfl) rfl
theorem q2036 : (Jvm.Cond.soleField "FlashZonesModel" "accounts") ∈ lw_all := lw_g (lw_at lw_m9 4 rfl) rfl
theorem q2037 : (Jvm.Cond.lays "FlashZonesModel" "FlashZonesModel" "way" "I") ∈ lw_all := lw_g (lw_at lw_m9 5 rfl) rfl
theorem q2038 : (Jvm.Cond.soleField "FlashZonesModel" "way") ∈ lw_all := lw_g (lw_at lw_m9 6 rfl) rfl
theorem q2039 : (Jvm.Cond.lays "FlashZonesModel" "FlashZonesModel" "leftOut" "I") ∈ lw_all := lw_g (lw_at lw_m9 7 rfl) rfl
theorem q2040 : (Jvm.Cond.soleField "FlashZonesModel" "leftOut") ∈ lw_all := lw_g (lw_at lw_m9 8 rfl) rfl
theorem q2041 : (Jvm.Cond.laysFinal "FlashZonesModel" "FlashZonesModel" "here" "[I") ∈ lw_all := lw_g (lw_at lw_m9 9 rfl) rfl
theorem q2042 : (Jvm.Cond.soleField "FlashZonesModel" "here") ∈ lw_all := lw_g (lw_at lw_m9 10 rfl) rfl
theorem q2043 : (Jvm.Cond.laysFinal "FlashZonesModel" "FlashZonesModel" "text" "[B") ∈ lw_all := lw_g (lw_at lw_m9 11 rfl) rfl
theorem q2044 : (Jvm.Cond.soleField "FlashZonesModel" "text") ∈ lw_all := lw_g (lw_at lw_m9 12 rfl) rfl
theorem q2045 : (Jvm.Cond.lays "FlashZonesModel" "FlashZonesModel" "length" "I") ∈ lw_all := lw_g (lw_at lw_m9 13 rfl) rfl
theorem q2046 : (Jvm.Cond.soleField "FlashZonesModel" "length") ∈ lw_all := lw_g (lw_at lw_m9 14 rfl) rfl
theorem q2047 : (Jvm.Cond.lays "FlashZonesModel" "FlashZonesModel" "at" "I") ∈ lw_all := lw_g (lw_at lw_m9 15 rfl) rfl
theorem q2048 : (Jvm.Cond.soleField "FlashZonesModel" "at") ∈ lw_all := lw_g (lw_at lw_m9 16 rfl) rfl
theorem q2049 : (Jvm.Cond.lays "FlashZonesModel" "FlashZonesModel" "from" "I") ∈ lw_all := lw_g (lw_at lw_m9 17 rfl) rfl
theorem q2050 : (Jvm.Cond.soleField "FlashZonesModel" "from") ∈ lw_all := lw_g (lw_at lw_m9 18 rfl) rfl
theorem q2051 : (Jvm.Cond.lays "FlashZonesModel" "FlashZonesModel" "token" "I") ∈ lw_all := lw_g (lw_at lw_m9 19 rfl) rfl
theorem q2052 : (Jvm.Cond.soleField "FlashZonesModel" "token") ∈ lw_all := lw_g (lw_at lw_m9 20 rfl) rfl
theorem q2053 : (Jvm.Cond.lays "FlashZonesModel" "FlashZonesModel" "number" "I") ∈ lw_all := lw_g (lw_at lw_m9 21 rfl) rfl
theorem q2054 : (Jvm.Cond.soleField "FlashZonesModel" "number") ∈ lw_all := lw_g (lw_at lw_m9 22 rfl) rfl
theorem q2055 : (Jvm.Cond.lays "FlashZonesModel" "FlashZonesModel" "error" "I") ∈ lw_all := lw_g (lw_at lw_m9 23 rfl) rfl
theorem q2056 : (Jvm.Cond.soleField "FlashZonesModel" "error") ∈ lw_all := lw_g (lw_at lw_m9 24 rfl) rfl
theorem q2057 : (Jvm.Cond.lays "FlashZonesModel" "FlashZonesModel" "errorAt" "I") ∈ lw_all := lw_g (lw_at lw_m9 25 rfl) rfl
theorem q2058 : (Jvm.Cond.soleField "FlashZonesModel" "errorAt") ∈ lw_all := lw_g (lw_at lw_m9 26 rfl) rfl
theorem q2059 : (Jvm.Cond.laysFinal "FlashZonesModel" "FlashZonesModel" "words" "[B") ∈ lw_all := lw_g (lw_at lw_m9 27 rfl) rfl
theorem q2060 : (Jvm.Cond.soleField "FlashZonesModel" "words") ∈ lw_all := lw_g (lw_at lw_m9 28 rfl) rfl
theorem q2061 : (Jvm.Cond.lays "FlashZonesModel" "FlashZonesModel" "commands" "I") ∈ lw_all := lw_g (lw_at lw_m9 29 rfl) rfl
theorem q2062 : (Jvm.Cond.soleField "FlashZonesModel" "commands") ∈ lw_all := lw_g (lw_at lw_m9 30 rfl) rfl
theorem q2063 : (Jvm.Cond.laysFinal "FlashZonesModel" "FlashZonesModel" "command" "[I") ∈ lw_all := lw_g (lw_at lw_m9 31 rfl) rfl
theorem q2064 : (Jvm.Cond.soleField "FlashZonesModel" "command") ∈ lw_all := lw_g (lw_at lw_m9 32 rfl) rfl
theorem q2065 : (Jvm.Cond.laysFinal "FlashZonesModel" "FlashZonesModel" "out" "[B") ∈ lw_all := lw_g (lw_at lw_m9 33 rfl) rfl
theorem q2066 : (Jvm.Cond.soleField "FlashZonesModel" "out") ∈ lw_all := lw_g (lw_at lw_m9 34 rfl) rfl
theorem q2067 : (Jvm.Cond.lays "FlashZonesModel" "FlashZonesModel" "outLong" "I") ∈ lw_all := lw_g (lw_at lw_m9 35 rfl) rfl
theorem q2068 : (Jvm.Cond.soleField "FlashZonesModel" "outLong") ∈ lw_all := lw_g (lw_at lw_m9 36 rfl) rfl
theorem q2069 : (Jvm.Cond.superclass "FlashZonesModel" "java/lang/Object") ∈ lw_all := lw_g (lw_at lw_m9 37 rfl) rfl
theorem q2072 : (Jvm.Cond.instanceMethod ({ cls := "FlashZonesModel", name := "thrown", desc := "()I" } : Jvm.MethodName)) ∈ lw_all := lw_g (lw_at lw_m9 40 rfl) rfl
theorem q2073 : (Jvm.Cond.selects "FlashZonesModel" ({ cls := "FlashZonesModel", name := "thrown", desc := "()I" } : Jvm.MethodName) ({ cls := "FlashZonesModel", name := "thrown", desc := "()I" } : Jvm.MethodName)) ∈ lw_all := lw_g (lw_at lw_m9 41 rfl) rfl
theorem q2074 : (Jvm.Cond.code ({ cls := "FlashZonesModel", name := "thrown", desc := "()I" } : Jvm.MethodName) prog_14_method_2_code (1 : Nat) (Option.some Jvm.ClassFile.FieldType.int)) ∈ lw_all := lw_g (lw_at lw_m9 42 rfl) rfl
theorem q2076 : (Jvm.Cond.instanceMethod ({ cls := "FlashZonesModel", name := "set", desc := "(II)I" } : Jvm.MethodName)) ∈ lw_all := lw_g (lw_at lw_m9 44 rfl) rfl
theorem q2077 : (Jvm.Cond.selects "FlashZonesModel" ({ cls := "FlashZonesModel", name := "set", desc := "(II)I" } : Jvm.MethodName) ({ cls := "FlashZonesModel", name := "set", desc := "(II)I" } : Jvm.MethodName)) ∈ lw_all := lw_g (lw_at lw_m9 45 rfl) rfl
theorem q2078 : (Jvm.Cond.code ({ cls := "FlashZonesModel", name := "set", desc := "(II)I" } : Jvm.MethodName) prog_14_method_46_code (4 : Nat) (Option.some Jvm.ClassFile.FieldType.int)) ∈ lw_all := lw_g (lw_at lw_m9 46 rfl) rfl
theorem q2079 : (Jvm.Cond.methodLink "FlashZonesModel" (179 : Nat) ({ cls := "FlashZonesModel", name := "in", desc := "(III)Z" } : Jvm.MethodName)) ∈ lw_all := lw_g (lw_at lw_m9 47 rfl) rfl
theorem q2080 : (Jvm.Cond.static ({ cls := "FlashZonesModel", name := "in", desc := "(III)Z" } : Jvm.MethodName)) ∈ lw_all := lw_g (lw_at lw_m9 48 rfl) rfl
theorem q2081 : (Jvm.Cond.code ({ cls := "FlashZonesModel", name := "in", desc := "(III)Z" } : Jvm.MethodName) prog_14_method_3_code (3 : Nat) (Option.some Jvm.ClassFile.FieldType.boolean)) ∈ lw_all := lw_g (lw_at lw_m9 49 rfl) rfl
theorem q2082 : (Jvm.Cond.methodLink "FlashZonesModel" (183 : Nat) ({ cls := "FlashZonesModel", name := "lowOf", desc := "(I)I" } : Jvm.MethodName)) ∈ lw_all := lw_g (lw_at lw_m9 50 rfl) rfl
theorem q2083 : (Jvm.Cond.static ({ cls := "FlashZonesModel", name := "lowOf", desc := "(I)I" } : Jvm.MethodName)) ∈ lw_all := lw_g (lw_at lw_m9 51 rfl) rfl
theorem q2084 : (Jvm.Cond.code ({ cls := "FlashZonesModel", name := "lowOf", desc := "(I)I" } : Jvm.MethodName) prog_14_method_44_code (1 : Nat) (Option.some Jvm.ClassFile.FieldType.int)) ∈ lw_all := lw_g (lw_at lw_m9 52 rfl) rfl
theorem q2085 : (Jvm.Cond.methodLink "FlashZonesModel" (186 : Nat) ({ cls := "FlashZonesModel", name := "highOf", desc := "(I)I" } : Jvm.MethodName)) ∈ lw_all := lw_g (lw_at lw_m9 53 rfl) rfl
theorem q2086 : (Jvm.Cond.static ({ cls := "FlashZonesModel", name := "highOf", desc := "(I)I" } : Jvm.MethodName)) ∈ lw_all := lw_g (lw_at lw_m9 54 rfl) rfl
theorem q2087 : (Jvm.Cond.code ({ cls := "FlashZonesModel", name := "highOf", desc := "(I)I" } : Jvm.MethodName) prog_14_method_45_code (1 : Nat) (Option.some Jvm.ClassFile.FieldType.int)) ∈ lw_all := lw_g (lw_at lw_m9 55 rfl) rfl
theorem q2089 : (Jvm.Cond.instanceMethod ({ cls := "FlashZonesModel", name := "clear", desc := "()I" } : Jvm.MethodName)) ∈ lw_all := lw_g (lw_at lw_m9 57 rfl) rfl
theorem q2090 : (Jvm.Cond.selects "FlashZonesModel" ({ cls := "FlashZonesModel", name := "clear", desc := "()I" } : Jvm.MethodName) ({ cls := "FlashZonesModel", name := "clear", desc := "()I" } : Jvm.MethodName)) ∈ lw_all := lw_g (lw_at lw_m9 58 rfl) rfl
theorem q2091 : (Jvm.Cond.code ({ cls := "FlashZonesModel", name := "clear", desc := "()I" } : Jvm.MethodName) prog_14_method_47_code (2 : Nat) (Option.some Jvm.ClassFile.FieldType.int)) ∈ lw_all := lw_g (lw_at lw_m9 59 rfl) rfl
theorem q2093 : (Jvm.Cond.instanceMethod ({ cls := "FlashZonesModel", name := "count", desc := "(I)I" } : Jvm.MethodName)) ∈ lw_all := lw_g (lw_at lw_m9 61 rfl) rfl
theorem q2094 : (Jvm.Cond.selects "FlashZonesModel" ({ cls := "FlashZonesModel", name := "count", desc := "(I)I" } : Jvm.MethodName) ({ cls := "FlashZonesModel", name := "count", desc := "(I)I" } : Jvm.MethodName)) ∈ lw_all := lw_g (lw_at lw_m9 62 rfl) rfl
theorem q2095 : (Jvm.Cond.code ({ cls := "FlashZonesModel", name := "count", desc := "(I)I" } : Jvm.MethodName) prog_14_method_52_code (2 : Nat) (Option.some Jvm.ClassFile.FieldType.int)) ∈ lw_all := lw_g (lw_at lw_m9 63 rfl) rfl
theorem q2096 : (Jvm.Cond.methodLink "FlashZonesModel" (189 : Nat) ({ cls := "FlashZonesModel", name := "livingUnits", desc := "()I" } : Jvm.MethodName)) ∈ lw_all := lw_g (lw_at lw_m9 64 rfl) rfl
theorem q2097 : (Jvm.Cond.privateMethod ({ cls := "FlashZonesModel", name := "livingUnits", desc := "()I" } : Jvm.MethodName)) ∈ lw_tbl := lw_at lw_m9 65 rfl
theorem q2098 : (Jvm.Cond.instanceMethod ({ cls := "FlashZonesModel", name := "livingUnits", desc := "()I" } : Jvm.MethodName)) ∈ lw_all := lw_g (lw_at lw_m9 66 rfl) rfl
theorem q2099 : (Jvm.Cond.code ({ cls := "FlashZonesModel", name := "livingUnits", desc := "()I" } : Jvm.MethodName) prog_14_method_48_code (3 : Nat) (Option.some Jvm.ClassFile.FieldType.int)) ∈ lw_all := lw_g (lw_at lw_m9 67 rfl) rfl
theorem q2100 : (Jvm.Cond.methodLink "FlashZonesModel" (75 : Nat) ({ cls := "FlashZonesModel", name := "lives", desc := "(I)Z" } : Jvm.MethodName)) ∈ lw_all := lw_g (lw_at lw_m9 68 rfl) rfl
theorem q2101 : (Jvm.Cond.privateMethod ({ cls := "FlashZonesModel", name := "lives", desc := "(I)Z" } : Jvm.MethodName)) ∈ lw_tbl := lw_at lw_m9 69 rfl
theorem q2102 : (Jvm.Cond.instanceMethod ({ cls := "FlashZonesModel", name := "lives", desc := "(I)Z" } : Jvm.MethodName)) ∈ lw_all := lw_g (lw_at lw_m9 70 rfl) rfl
theorem q2103 : (Jvm.Cond.code ({ cls := "FlashZonesModel", name := "lives", desc := "(I)Z" } : Jvm.MethodName) prog_14_method_11_code (2 : Nat) (Option.some Jvm.ClassFile.FieldType.boolean)) ∈ lw_all := lw_g (lw_at lw_m9 71 rfl) rfl
theorem q2104 : (Jvm.Cond.methodLink "FlashZonesModel" (71 : Nat) ({ cls := "FlashZonesModel", name := "ofUnit", desc := "(II)I" } : Jvm.MethodName)) ∈ lw_all := lw_g (lw_at lw_m9 72 rfl) rfl
theorem q2105 : (Jvm.Cond.privateMethod ({ cls := "FlashZonesModel", name := "ofUnit", desc := "(II)I" } : Jvm.MethodName)) ∈ lw_tbl := lw_at lw_m9 73 rfl
theorem q2106 : (Jvm.Cond.instanceMethod ({ cls := "FlashZonesModel", name := "ofUnit", desc := "(II)I" } : Jvm.MethodName)) ∈ lw_all := lw_g (lw_at lw_m9 74 rfl) rfl
theorem q2107 : (Jvm.Cond.code ({ cls := "FlashZonesModel", name := "ofUnit", desc := "(II)I" } : Jvm.MethodName) prog_14_method_8_code (3 : Nat) (Option.some Jvm.ClassFile.FieldType.int)) ∈ lw_all := lw_g (lw_at lw_m9 75 rfl) rfl
theorem q2108 : (Jvm.Cond.methodLink "FlashZonesModel" (65 : Nat) ({ cls := "FlashZonesModel", name := "unitAt", desc := "(I)I" } : Jvm.MethodName)) ∈ lw_all := lw_g (lw_at lw_m9 76 rfl) rfl
theorem q2109 : (Jvm.Cond.static ({ cls := "FlashZonesModel", name := "unitAt", desc := "(I)I" } : Jvm.MethodName)) ∈ lw_all := lw_g (lw_at lw_m9 77 rfl) rfl
theorem q2110 : (Jvm.Cond.code ({ cls := "FlashZonesModel", name := "unitAt", desc := "(I)I" } : Jvm.MethodName) prog_14_method_7_code (1 : Nat) (Option.some Jvm.ClassFile.FieldType.int)) ∈ lw_all := lw_g (lw_at lw_m9 78 rfl) rfl
theorem q2111 : (Jvm.Cond.methodLink "FlashZonesModel" (192 : Nat) ({ cls := "FlashZonesModel", name := "freeZones", desc := "()I" } : Jvm.MethodName)) ∈ lw_all := lw_g (lw_at lw_m9 79 rfl) rfl
theorem q2112 : (Jvm.Cond.privateMethod ({ cls := "FlashZonesModel", name := "freeZones", desc := "()I" } : Jvm.MethodName)) ∈ lw_tbl := lw_at lw_m9 80 rfl
theorem q2113 : (Jvm.Cond.instanceMethod ({ cls := "FlashZonesModel", name := "freeZones", desc := "()I" } : Jvm.MethodName)) ∈ lw_all := lw_g (lw_at lw_m9 81 rfl) rfl
theorem q2114 : (Jvm.Cond.code ({ cls := "FlashZonesModel", name := "freeZones", desc := "()I" } : Jvm.MethodName) prog_14_method_49_code (3 : Nat) (Option.some Jvm.ClassFile.FieldType.int)) ∈ lw_all := lw_g (lw_at lw_m9 82 rfl) rfl
theorem q2115 : (Jvm.Cond.methodLink "FlashZonesModel" (104 : Nat) ({ cls := "FlashZonesModel", name := "isFree", desc := "(I)Z" } : Jvm.MethodName)) ∈ lw_all := lw_g (lw_at lw_m9 83 rfl) rfl
theorem q2116 : (Jvm.Cond.privateMethod ({ cls := "FlashZonesModel", name := "isFree", desc := "(I)Z" } : Jvm.MethodName)) ∈ lw_tbl := lw_at lw_m9 84 rfl
theorem q2117 : (Jvm.Cond.instanceMethod ({ cls := "FlashZonesModel", name := "isFree", desc := "(I)Z" } : Jvm.MethodName)) ∈ lw_all := lw_g (lw_at lw_m9 85 rfl) rfl
theorem q2118 : (Jvm.Cond.code ({ cls := "FlashZonesModel", name := "isFree", desc := "(I)Z" } : Jvm.MethodName) prog_14_method_10_code (2 : Nat) (Option.some Jvm.ClassFile.FieldType.boolean)) ∈ lw_all := lw_g (lw_at lw_m9 86 rfl) rfl
theorem q2119 : (Jvm.Cond.methodLink "FlashZonesModel" (68 : Nat) ({ cls := "FlashZonesModel", name := "windowOf", desc := "(I)I" } : Jvm.MethodName)) ∈ lw_all := lw_g (lw_at lw_m9 87 rfl) rfl
theorem q2120 : (Jvm.Cond.privateMethod ({ cls := "FlashZonesModel", name := "windowOf", desc := "(I)I" } : Jvm.MethodName)) ∈ lw_tbl := lw_at lw_m9 88 rfl
theorem q2121 : (Jvm.Cond.instanceMethod ({ cls := "FlashZonesModel", name := "windowOf", desc := "(I)I" } : Jvm.MethodName)) ∈ lw_all := lw_g (lw_at lw_m9 89 rfl) rfl
theorem q2122 : (Jvm.Cond.code ({ cls := "FlashZonesModel", name := "windowOf", desc := "(I)I" } : Jvm.MethodName) prog_14_method_9_code (2 : Nat) (Option.some Jvm.ClassFile.FieldType.int)) ∈ lw_all := lw_g (lw_at lw_m9 90 rfl) rfl
theorem q2123 : (Jvm.Cond.methodLink "FlashZonesModel" (117 : Nat) ({ cls := "FlashZonesModel", name := "leader", desc := "()I" } : Jvm.MethodName)) ∈ lw_all := lw_g (lw_at lw_m9 91 rfl) rfl
theorem q2124 : (Jvm.Cond.privateMethod ({ cls := "FlashZonesModel", name := "leader", desc := "()I" } : Jvm.MethodName)) ∈ lw_tbl := lw_at lw_m9 92 rfl
theorem q2125 : (Jvm.Cond.instanceMethod ({ cls := "FlashZonesModel", name := "leader", desc := "()I" } : Jvm.MethodName)) ∈ lw_all := lw_g (lw_at lw_m9 93 rfl) rfl
theorem q2126 : (Jvm.Cond.code ({ cls := "FlashZonesModel", name := "leader", desc := "()I" } : Jvm.MethodName) prog_14_method_16_code (3 : Nat) (Option.some Jvm.ClassFile.FieldType.int)) ∈ lw_all := lw_g (lw_at lw_m9 94 rfl) rfl
theorem q2127 : (Jvm.Cond.methodLink "FlashZonesModel" (195 : Nat) ({ cls := "FlashZonesModel", name := "filledPlaces", desc := "()I" } : Jvm.MethodName)) ∈ lw_all := lw_g (lw_at lw_m9 95 rfl) rfl
theorem q2128 : (Jvm.Cond.privateMethod ({ cls := "FlashZonesModel", name := "filledPlaces", desc := "()I" } : Jvm.MethodName)) ∈ lw_tbl := lw_at lw_m9 96 rfl
theorem q2129 : (Jvm.Cond.instanceMethod ({ cls := "FlashZonesModel", name := "filledPlaces", desc := "()I" } : Jvm.MethodName)) ∈ lw_all := lw_g (lw_at lw_m9 97 rfl) rfl
theorem q2130 : (Jvm.Cond.code ({ cls := "FlashZonesModel", name := "filledPlaces", desc := "()I" } : Jvm.MethodName) prog_14_method_50_code (3 : Nat) (Option.some Jvm.ClassFile.FieldType.int)) ∈ lw_all := lw_g (lw_at lw_m9 98 rfl) rfl
theorem q2131 : (Jvm.Cond.methodLink "FlashZonesModel" (198 : Nat) ({ cls := "FlashZonesModel", name := "livingPlaces", desc := "(I)I" } : Jvm.MethodName)) ∈ lw_all := lw_g (lw_at lw_m9 99 rfl) rfl
theorem q2132 : (Jvm.Cond.privateMethod ({ cls := "FlashZonesModel", name := "livingPlaces", desc := "(I)I" } : Jvm.MethodName)) ∈ lw_tbl := lw_at lw_m9 100 rfl
theorem q2133 : (Jvm.Cond.instanceMethod ({ cls := "FlashZonesModel", name := "livingPlaces", desc := "(I)I" } : Jvm.MethodName)) ∈ lw_all := lw_g (lw_at lw_m9 101 rfl) rfl
theorem q2134 : (Jvm.Cond.code ({ cls := "FlashZonesModel", name := "livingPlaces", desc := "(I)I" } : Jvm.MethodName) prog_14_method_51_code (5 : Nat) (Option.some Jvm.ClassFile.FieldType.int)) ∈ lw_all := lw_g (lw_at lw_m9 102 rfl) rfl
theorem q2136 : (Jvm.Cond.instanceMethod ({ cls := "FlashZonesModel", name := "zone", desc := "(II)I" } : Jvm.MethodName)) ∈ lw_all := lw_g (lw_at lw_m9 104 rfl) rfl
theorem q2137 : (Jvm.Cond.selects "FlashZonesModel" ({ cls := "FlashZonesModel", name := "zone", desc := "(II)I" } : Jvm.MethodName) ({ cls := "FlashZonesModel", name := "zone", desc := "(II)I" } : Jvm.MethodName)) ∈ lw_all := lw_g (lw_at lw_m9 105 rfl) rfl
theorem q2138 : (Jvm.Cond.code ({ cls := "FlashZonesModel", name := "zone", desc := "(II)I" } : Jvm.MethodName) prog_14_method_55_code (3 : Nat) (Option.some Jvm.ClassFile.FieldType.int)) ∈ lw_all := lw_g (lw_at lw_m9 106 rfl) rfl
theorem q2139 : (Jvm.Cond.methodLink "FlashZonesModel" (201 : Nat) ({ cls := "FlashZonesModel", name := "isZone", desc := "(I)Z" } : Jvm.MethodName)) ∈ lw_all := lw_g (lw_at lw_m9 107 rfl) rfl
theorem q2140 : (Jvm.Cond.privateMethod ({ cls := "FlashZonesModel", name := "isZone", desc := "(I)Z" } : Jvm.MethodName)) ∈ lw_tbl := lw_at lw_m9 108 rfl
theorem q2141 : (Jvm.Cond.instanceMethod ({ cls := "FlashZonesModel", name := "isZone", desc := "(I)Z" } : Jvm.MethodName)) ∈ lw_all := lw_g (lw_at lw_m9 109 rfl) rfl
theorem q2142 : (Jvm.Cond.code ({ cls := "FlashZonesModel", name := "isZone", desc := "(I)Z" } : Jvm.MethodName) prog_14_method_53_code (2 : Nat) (Option.some Jvm.ClassFile.FieldType.boolean)) ∈ lw_all := lw_g (lw_at lw_m9 110 rfl) rfl
theorem q2143 : (Jvm.Cond.methodLink "FlashZonesModel" (114 : Nat) ({ cls := "FlashZonesModel", name := "livingIn", desc := "(I)I" } : Jvm.MethodName)) ∈ lw_all := lw_g (lw_at lw_m9 111 rfl) rfl
theorem q2144 : (Jvm.Cond.privateMethod ({ cls := "FlashZonesModel", name := "livingIn", desc := "(I)I" } : Jvm.MethodName)) ∈ lw_tbl := lw_at lw_m9 112 rfl
theorem q2145 : (Jvm.Cond.instanceMethod ({ cls := "FlashZonesModel", name := "livingIn", desc := "(I)I" } : Jvm.MethodName)) ∈ lw_all := lw_g (lw_at lw_m9 113 rfl) rfl
theorem q2146 : (Jvm.Cond.code ({ cls := "FlashZonesModel", name := "livingIn", desc := "(I)I" } : Jvm.MethodName) prog_14_method_12_code (4 : Nat) (Option.some Jvm.ClassFile.FieldType.int)) ∈ lw_all := lw_g (lw_at lw_m9 114 rfl) rfl
theorem q2147 : (Jvm.Cond.methodLink "FlashZonesModel" (138 : Nat) ({ cls := "FlashZonesModel", name := "lastDay", desc := "(I)I" } : Jvm.MethodName)) ∈ lw_all := lw_g (lw_at lw_m9 115 rfl) rfl
theorem q2148 : (Jvm.Cond.privateMethod ({ cls := "FlashZonesModel", name := "lastDay", desc := "(I)I" } : Jvm.MethodName)) ∈ lw_tbl := lw_at lw_m9 116 rfl
theorem q2149 : (Jvm.Cond.instanceMethod ({ cls := "FlashZonesModel", name := "lastDay", desc := "(I)I" } : Jvm.MethodName)) ∈ lw_all := lw_g (lw_at lw_m9 117 rfl) rfl
theorem q2150 : (Jvm.Cond.code ({ cls := "FlashZonesModel", name := "lastDay", desc := "(I)I" } : Jvm.MethodName) prog_14_method_28_code (2 : Nat) (Option.some Jvm.ClassFile.FieldType.int)) ∈ lw_all := lw_g (lw_at lw_m9 118 rfl) rfl
theorem q2151 : (Jvm.Cond.methodLink "FlashZonesModel" (204 : Nat) ({ cls := "FlashZonesModel", name := "lowestIn", desc := "(I)I" } : Jvm.MethodName)) ∈ lw_all := lw_g (lw_at lw_m9 119 rfl) rfl
theorem q2152 : (Jvm.Cond.privateMethod ({ cls := "FlashZonesModel", name := "lowestIn", desc := "(I)I" } : Jvm.MethodName)) ∈ lw_tbl := lw_at lw_m9 120 rfl
theorem q2153 : (Jvm.Cond.instanceMethod ({ cls := "FlashZonesModel", name := "lowestIn", desc := "(I)I" } : Jvm.MethodName)) ∈ lw_all := lw_g (lw_at lw_m9 121 rfl) rfl
theorem q2154 : (Jvm.Cond.code ({ cls := "FlashZonesModel", name := "lowestIn", desc := "(I)I" } : Jvm.MethodName) prog_14_method_54_code (3 : Nat) (Option.some Jvm.ClassFile.FieldType.int)) ∈ lw_all := lw_g (lw_at lw_m9 122 rfl) rfl
theorem q2156 : (Jvm.Cond.instanceMethod ({ cls := "FlashZonesModel", name := "unit", desc := "(II)I" } : Jvm.MethodName)) ∈ lw_all := lw_g (lw_at lw_m9 124 rfl) rfl
theorem q2157 : (Jvm.Cond.selects "FlashZonesModel" ({ cls := "FlashZonesModel", name := "unit", desc := "(II)I" } : Jvm.MethodName) ({ cls := "FlashZonesModel", name := "unit", desc := "(II)I" } : Jvm.MethodName)) ∈ lw_all := lw_g (lw_at lw_m9 125 rfl) rfl
theorem q2158 : (Jvm.Cond.code ({ cls := "FlashZonesModel", name := "unit", desc := "(II)I" } : Jvm.MethodName) prog_14_method_57_code (3 : Nat) (Option.some Jvm.ClassFile.FieldType.int)) ∈ lw_all := lw_g (lw_at lw_m9 126 rfl) rfl
theorem q2159 : (Jvm.Cond.methodLink "FlashZonesModel" (207 : Nat) ({ cls := "FlashZonesModel", name := "isUnit", desc := "(I)Z" } : Jvm.MethodName)) ∈ lw_all := lw_g (lw_at lw_m9 127 rfl) rfl
theorem q2160 : (Jvm.Cond.privateMethod ({ cls := "FlashZonesModel", name := "isUnit", desc := "(I)Z" } : Jvm.MethodName)) ∈ lw_tbl := lw_at lw_m9 128 rfl
theorem q2161 : (Jvm.Cond.instanceMethod ({ cls := "FlashZonesModel", name := "isUnit", desc := "(I)Z" } : Jvm.MethodName)) ∈ lw_all := lw_g (lw_at lw_m9 129 rfl) rfl
theorem q2162 : (Jvm.Cond.code ({ cls := "FlashZonesModel", name := "isUnit", desc := "(I)Z" } : Jvm.MethodName) prog_14_method_56_code (2 : Nat) (Option.some Jvm.ClassFile.FieldType.boolean)) ∈ lw_all := lw_g (lw_at lw_m9 130 rfl) rfl
theorem q2164 : (Jvm.Cond.instanceMethod ({ cls := "FlashZonesModel", name := "guesser", desc := "(II)I" } : Jvm.MethodName)) ∈ lw_all := lw_g (lw_at lw_m9 132 rfl) rfl
theorem q2165 : (Jvm.Cond.selects "FlashZonesModel" ({ cls := "FlashZonesModel", name := "guesser", desc := "(II)I" } : Jvm.MethodName) ({ cls := "FlashZonesModel", name := "guesser", desc := "(II)I" } : Jvm.MethodName)) ∈ lw_all := lw_g (lw_at lw_m9 133 rfl) rfl
theorem q2166 : (Jvm.Cond.code ({ cls := "FlashZonesModel", name := "guesser", desc := "(II)I" } : Jvm.MethodName) prog_14_method_59_code (3 : Nat) (Option.some Jvm.ClassFile.FieldType.int)) ∈ lw_all := lw_g (lw_at lw_m9 134 rfl) rfl
theorem q2167 : (Jvm.Cond.methodLink "FlashZonesModel" (210 : Nat) ({ cls := "FlashZonesModel", name := "isGuesser", desc := "(I)Z" } : Jvm.MethodName)) ∈ lw_all := lw_g (lw_at lw_m9 135 rfl) rfl
theorem q2168 : (Jvm.Cond.static ({ cls := "FlashZonesModel", name := "isGuesser", desc := "(I)Z" } : Jvm.MethodName)) ∈ lw_all := lw_g (lw_at lw_m9 136 rfl) rfl
theorem q2169 : (Jvm.Cond.code ({ cls := "FlashZonesModel", name := "isGuesser", desc := "(I)Z" } : Jvm.MethodName) prog_14_method_58_code (1 : Nat) (Option.some Jvm.ClassFile.FieldType.boolean)) ∈ lw_all := lw_g (lw_at lw_m9 137 rfl) rfl
theorem q2171 : (Jvm.Cond.instanceMethod ({ cls := "FlashZonesModel", name := "guess", desc := "(III)I" } : Jvm.MethodName)) ∈ lw_all := lw_g (lw_at lw_m9 139 rfl) rfl
theorem q2172 : (Jvm.Cond.selects "FlashZonesModel" ({ cls := "FlashZonesModel", name := "guess", desc := "(III)I" } : Jvm.MethodName) ({ cls := "FlashZonesModel", name := "guess", desc := "(III)I" } : Jvm.MethodName)) ∈ lw_all := lw_g (lw_at lw_m9 140 rfl) rfl
theorem q2173 : (Jvm.Cond.code ({ cls := "FlashZonesModel", name := "guess", desc := "(III)I" } : Jvm.MethodName) prog_14_method_61_code (4 : Nat) (Option.some Jvm.ClassFile.FieldType.int)) ∈ lw_all := lw_g (lw_at lw_m9 141 rfl) rfl
theorem q2174 : (Jvm.Cond.methodLink "FlashZonesModel" (213 : Nat) ({ cls := "FlashZonesModel", name := "isKind", desc := "(II)Z" } : Jvm.MethodName)) ∈ lw_all := lw_g (lw_at lw_m9 142 rfl) rfl
theorem q2175 : (Jvm.Cond.static ({ cls := "FlashZonesModel", name := "isKind", desc := "(II)Z" } : Jvm.MethodName)) ∈ lw_all := lw_g (lw_at lw_m9 143 rfl) rfl
theorem q2176 : (Jvm.Cond.code ({ cls := "FlashZonesModel", name := "isKind", desc := "(II)Z" } : Jvm.MethodName) prog_14_method_60_code (2 : Nat) (Option.some Jvm.ClassFile.FieldType.boolean)) ∈ lw_all := lw_g (lw_at lw_m9 144 rfl) rfl
theorem q2177 : (Jvm.Cond.methodLink "FlashZonesModel" (89 : Nat) ({ cls := "FlashZonesModel", name := "tells", desc := "(III)I" } : Jvm.MethodName)) ∈ lw_all := lw_g (lw_at lw_m9 145 rfl) rfl
theorem q2178 : (Jvm.Cond.privateMethod ({ cls := "FlashZonesModel", name := "tells", desc := "(III)I" } : Jvm.MethodName)) ∈ lw_tbl := lw_at lw_m9 146 rfl
theorem q2179 : (Jvm.Cond.instanceMethod ({ cls := "FlashZonesModel", name := "tells", desc := "(III)I" } : Jvm.MethodName)) ∈ lw_all := lw_g (lw_at lw_m9 147 rfl) rfl
theorem q2180 : (Jvm.Cond.code ({ cls := "FlashZonesModel", name := "tells", desc := "(III)I" } : Jvm.MethodName) prog_14_method_15_code (9 : Nat) (Option.some Jvm.ClassFile.FieldType.int)) ∈ lw_all := lw_g (lw_at lw_m9 148 rfl) rfl
theorem q2181 : (Jvm.Cond.methodLink "FlashZonesModel" (79 : Nat) ({ cls := "FlashZonesModel", name := "counts", desc := "(IIII)Z" } : Jvm.MethodName)) ∈ lw_all := lw_g (lw_at lw_m9 149 rfl) rfl
theorem q2182 : (Jvm.Cond.privateMethod ({ cls := "FlashZonesModel", name := "counts", desc := "(IIII)Z" } : Jvm.MethodName)) ∈ lw_tbl := lw_at lw_m9 150 rfl
theorem q2183 : (Jvm.Cond.instanceMethod ({ cls := "FlashZonesModel", name := "counts", desc := "(IIII)Z" } : Jvm.MethodName)) ∈ lw_all := lw_g (lw_at lw_m9 151 rfl) rfl
theorem q2184 : (Jvm.Cond.code ({ cls := "FlashZonesModel", name := "counts", desc := "(IIII)Z" } : Jvm.MethodName) prog_14_method_14_code (7 : Nat) (Option.some Jvm.ClassFile.FieldType.boolean)) ∈ lw_all := lw_g (lw_at lw_m9 152 rfl) rfl
theorem q2185 : (Jvm.Cond.methodLink "FlashZonesModel" (83 : Nat) ({ cls := "FlashZonesModel", name := "bounded", desc := "(I)I" } : Jvm.MethodName)) ∈ lw_all := lw_g (lw_at lw_m9 153 rfl) rfl
theorem q2186 : (Jvm.Cond.static ({ cls := "FlashZonesModel", name := "bounded", desc := "(I)I" } : Jvm.MethodName)) ∈ lw_all := lw_g (lw_at lw_m9 154 rfl) rfl
theorem q2187 : (Jvm.Cond.code ({ cls := "FlashZonesModel", name := "bounded", desc := "(I)I" } : Jvm.MethodName) prog_14_method_13_code (1 : Nat) (Option.some Jvm.ClassFile.FieldType.int)) ∈ lw_all := lw_g (lw_at lw_m9 155 rfl) rfl
theorem q2189 : (Jvm.Cond.instanceMethod ({ cls := "FlashZonesModel", name := "share", desc := "(I)D" } : Jvm.MethodName)) ∈ lw_all := lw_g (lw_at lw_m9 157 rfl) rfl
theorem q2190 : (Jvm.Cond.selects "FlashZonesModel" ({ cls := "FlashZonesModel", name := "share", desc := "(I)D" } : Jvm.MethodName) ({ cls := "FlashZonesModel", name := "share", desc := "(I)D" } : Jvm.MethodName)) ∈ lw_all := lw_g (lw_at lw_m9 158 rfl) rfl
theorem q2191 : (Jvm.Cond.code ({ cls := "FlashZonesModel", name := "share", desc := "(I)D" } : Jvm.MethodName) prog_14_method_62_code (4 : Nat) (Option.some Jvm.ClassFile.FieldType.double)) ∈ lw_all := lw_g (lw_at lw_m9 159 rfl) rfl
theorem q2193 : (Jvm.Cond.instanceMethod ({ cls := "FlashZonesModel", name := "regret", desc := "()I" } : Jvm.MethodName)) ∈ lw_all := lw_g (lw_at lw_m9 161 rfl) rfl
theorem q2194 : (Jvm.Cond.selects "FlashZonesModel" ({ cls := "FlashZonesModel", name := "regret", desc := "()I" } : Jvm.MethodName) ({ cls := "FlashZonesModel", name := "regret", desc := "()I" } : Jvm.MethodName)) ∈ lw_all := lw_g (lw_at lw_m9 162 rfl) rfl
theorem q2195 : (Jvm.Cond.code ({ cls := "FlashZonesModel", name := "regret", desc := "()I" } : Jvm.MethodName) prog_14_method_63_code (3 : Nat) (Option.some Jvm.ClassFile.FieldType.int)) ∈ lw_all := lw_g (lw_at lw_m9 163 rfl) rfl
theorem q2197 : (Jvm.Cond.instanceMethod ({ cls := "FlashZonesModel", name := "meanLife", desc := "()F" } : Jvm.MethodName)) ∈ lw_all := lw_g (lw_at lw_m9 165 rfl) rfl
theorem q2198 : (Jvm.Cond.selects "FlashZonesModel" ({ cls := "FlashZonesModel", name := "meanLife", desc := "()F" } : Jvm.MethodName) ({ cls := "FlashZonesModel", name := "meanLife", desc := "()F" } : Jvm.MethodName)) ∈ lw_all := lw_g (lw_at lw_m9 166 rfl) rfl
theorem q2199 : (Jvm.Cond.code ({ cls := "FlashZonesModel", name := "meanLife", desc := "()F" } : Jvm.MethodName) prog_14_method_64_code (4 : Nat) (Option.some Jvm.ClassFile.FieldType.float)) ∈ lw_all := lw_g (lw_at lw_m9 167 rfl) rfl
theorem q2200 : (Jvm.Cond.constantFloat "FlashZonesModel" (216 : Nat) (3212836864 : UInt32)) ∈ lw_all := lw_g (lw_at lw_m9 168 rfl) rfl
theorem q2202 : (Jvm.Cond.instanceMethod ({ cls := "FlashZonesModel", name := "account", desc := "(I)I" } : Jvm.MethodName)) ∈ lw_all := lw_g (lw_at lw_m9 170 rfl) rfl
theorem q2203 : (Jvm.Cond.selects "FlashZonesModel" ({ cls := "FlashZonesModel", name := "account", desc := "(I)I" } : Jvm.MethodName) ({ cls := "FlashZonesModel", name := "account", desc := "(I)I" } : Jvm.MethodName)) ∈ lw_all := lw_g (lw_at lw_m9 171 rfl) rfl
theorem q2204 : (Jvm.Cond.code ({ cls := "FlashZonesModel", name := "account", desc := "(I)I" } : Jvm.MethodName) prog_14_method_65_code (2 : Nat) (Option.some Jvm.ClassFile.FieldType.int)) ∈ lw_all := lw_g (lw_at lw_m9 172 rfl) rfl
theorem q2206 : (Jvm.Cond.instanceMethod ({ cls := "FlashZonesModel", name := "writer", desc := "(II)I" } : Jvm.MethodName)) ∈ lw_all := lw_g (lw_at lw_m9 174 rfl) rfl
theorem q2207 : (Jvm.Cond.selects "FlashZonesModel" ({ cls := "FlashZonesModel", name := "writer", desc := "(II)I" } : Jvm.MethodName) ({ cls := "FlashZonesModel", name := "writer", desc := "(II)I" } : Jvm.MethodName)) ∈ lw_all := lw_g (lw_at lw_m9 175 rfl) rfl
theorem q2208 : (Jvm.Cond.code ({ cls := "FlashZonesModel", name := "writer", desc := "(II)I" } : Jvm.MethodName) prog_14_method_68_code (5 : Nat) (Option.some Jvm.ClassFile.FieldType.int)) ∈ lw_all := lw_g (lw_at lw_m9 176 rfl) rfl
theorem q2209 : (Jvm.Cond.methodLink "FlashZonesModel" (220 : Nat) ({ cls := "FlashZonesModel", name := "toldOf", desc := "(II)I" } : Jvm.MethodName)) ∈ lw_all := lw_g (lw_at lw_m9 177 rfl) rfl
theorem q2210 : (Jvm.Cond.privateMethod ({ cls := "FlashZonesModel", name := "toldOf", desc := "(II)I" } : Jvm.MethodName)) ∈ lw_tbl := lw_at lw_m9 178 rfl
theorem q2211 : (Jvm.Cond.instanceMethod ({ cls := "FlashZonesModel", name := "toldOf", desc := "(II)I" } : Jvm.MethodName)) ∈ lw_all := lw_g (lw_at lw_m9 179 rfl) rfl
theorem q2212 : (Jvm.Cond.code ({ cls := "FlashZonesModel", name := "toldOf", desc := "(II)I" } : Jvm.MethodName) prog_14_method_67_code (3 : Nat) (Option.some Jvm.ClassFile.FieldType.int)) ∈ lw_all := lw_g (lw_at lw_m9 180 rfl) rfl
theorem q2213 : (Jvm.Cond.methodLink "FlashZonesModel" (217 : Nat) ({ cls := "FlashZonesModel", name := "losesBy", desc := "(I)I" } : Jvm.MethodName)) ∈ lw_all := lw_g (lw_at lw_m9 181 rfl) rfl
theorem q2214 : (Jvm.Cond.privateMethod ({ cls := "FlashZonesModel", name := "losesBy", desc := "(I)I" } : Jvm.MethodName)) ∈ lw_tbl := lw_at lw_m9 182 rfl
theorem q2215 : (Jvm.Cond.instanceMethod ({ cls := "FlashZonesModel", name := "losesBy", desc := "(I)I" } : Jvm.MethodName)) ∈ lw_all := lw_g (lw_at lw_m9 183 rfl) rfl
theorem q2216 : (Jvm.Cond.code ({ cls := "FlashZonesModel", name := "losesBy", desc := "(I)I" } : Jvm.MethodName) prog_14_method_66_code (2 : Nat) (Option.some Jvm.ClassFile.FieldType.int)) ∈ lw_all := lw_g (lw_at lw_m9 184 rfl) rfl
theorem q2217 : (Jvm.Cond.methodLink "FlashZonesModel" (93 : Nat) ({ cls := "FlashZonesModel", name := "lossOf", desc := "(II)I" } : Jvm.MethodName)) ∈ lw_all := lw_g (lw_at lw_m9 185 rfl) rfl
theorem q2218 : (Jvm.Cond.privateMethod ({ cls := "FlashZonesModel", name := "lossOf", desc := "(II)I" } : Jvm.MethodName)) ∈ lw_tbl := lw_at lw_m9 186 rfl
theorem q2219 : (Jvm.Cond.instanceMethod ({ cls := "FlashZonesModel", name := "lossOf", desc := "(II)I" } : Jvm.MethodName)) ∈ lw_all := lw_g (lw_at lw_m9 187 rfl) rfl
theorem q2220 : (Jvm.Cond.code ({ cls := "FlashZonesModel", name := "lossOf", desc := "(II)I" } : Jvm.MethodName) prog_14_method_19_code (5 : Nat) (Option.some Jvm.ClassFile.FieldType.int)) ∈ lw_all := lw_g (lw_at lw_m9 188 rfl) rfl
theorem q2222 : (Jvm.Cond.instanceMethod ({ cls := "FlashZonesModel", name := "late", desc := "(I)I" } : Jvm.MethodName)) ∈ lw_all := lw_g (lw_at lw_m9 190 rfl) rfl
theorem q2223 : (Jvm.Cond.selects "FlashZonesModel" ({ cls := "FlashZonesModel", name := "late", desc := "(I)I" } : Jvm.MethodName) ({ cls := "FlashZonesModel", name := "late", desc := "(I)I" } : Jvm.MethodName)) ∈ lw_all := lw_g (lw_at lw_m9 191 rfl) rfl
theorem q2224 : (Jvm.Cond.code ({ cls := "FlashZonesModel", name := "late", desc := "(I)I" } : Jvm.MethodName) prog_14_method_69_code (5 : Nat) (Option.some Jvm.ClassFile.FieldType.int)) ∈ lw_all := lw_g (lw_at lw_m9 192 rfl) rfl
theorem q2226 : (Jvm.Cond.instanceMethod ({ cls := "FlashZonesModel", name := "inZone", desc := "(II)I" } : Jvm.MethodName)) ∈ lw_all := lw_g (lw_at lw_m9 194 rfl) rfl
theorem q2227 : (Jvm.Cond.selects "FlashZonesModel" ({ cls := "FlashZonesModel", name := "inZone", desc := "(II)I" } : Jvm.MethodName) ({ cls := "FlashZonesModel", name := "inZone", desc := "(II)I" } : Jvm.MethodName)) ∈ lw_all := lw_g (lw_at lw_m9 195 rfl) rfl
theorem q2228 : (Jvm.Cond.code ({ cls := "FlashZonesModel", name := "inZone", desc := "(II)I" } : Jvm.MethodName) prog_14_method_70_code (3 : Nat) (Option.some Jvm.ClassFile.FieldType.int)) ∈ lw_all := lw_g (lw_at lw_m9 196 rfl) rfl
theorem q2230 : (Jvm.Cond.instanceMethod ({ cls := "FlashZonesModel", name := "due", desc := "(I)I" } : Jvm.MethodName)) ∈ lw_all := lw_g (lw_at lw_m9 198 rfl) rfl
theorem q2231 : (Jvm.Cond.selects "FlashZonesModel" ({ cls := "FlashZonesModel", name := "due", desc := "(I)I" } : Jvm.MethodName) ({ cls := "FlashZonesModel", name := "due", desc := "(I)I" } : Jvm.MethodName)) ∈ lw_all := lw_g (lw_at lw_m9 199 rfl) rfl
theorem q2232 : (Jvm.Cond.code ({ cls := "FlashZonesModel", name := "due", desc := "(I)I" } : Jvm.MethodName) prog_14_method_71_code (2 : Nat) (Option.some Jvm.ClassFile.FieldType.int)) ∈ lw_all := lw_g (lw_at lw_m9 200 rfl) rfl
theorem q2234 : (Jvm.Cond.instanceMethod ({ cls := "FlashZonesModel", name := "wear", desc := "(I)I" } : Jvm.MethodName)) ∈ lw_all := lw_g (lw_at lw_m9 202 rfl) rfl
theorem q2235 : (Jvm.Cond.selects "FlashZonesModel" ({ cls := "FlashZonesModel", name := "wear", desc := "(I)I" } : Jvm.MethodName) ({ cls := "FlashZonesModel", name := "wear", desc := "(I)I" } : Jvm.MethodName)) ∈ lw_all := lw_g (lw_at lw_m9 203 rfl) rfl
theorem q2236 : (Jvm.Cond.code ({ cls := "FlashZonesModel", name := "wear", desc := "(I)I" } : Jvm.MethodName) prog_14_method_72_code (6 : Nat) (Option.some Jvm.ClassFile.FieldType.int)) ∈ lw_all := lw_g (lw_at lw_m9 204 rfl) rfl
theorem q2238 : (Jvm.Cond.instanceMethod ({ cls := "FlashZonesModel", name := "expected", desc := "(II)I" } : Jvm.MethodName)) ∈ lw_all := lw_g (lw_at lw_m9 206 rfl) rfl
theorem q2239 : (Jvm.Cond.selects "FlashZonesModel" ({ cls := "FlashZonesModel", name := "expected", desc := "(II)I" } : Jvm.MethodName) ({ cls := "FlashZonesModel", name := "expected", desc := "(II)I" } : Jvm.MethodName)) ∈ lw_all := lw_g (lw_at lw_m9 207 rfl) rfl
theorem q2240 : (Jvm.Cond.code ({ cls := "FlashZonesModel", name := "expected", desc := "(II)I" } : Jvm.MethodName) prog_14_method_73_code (5 : Nat) (Option.some Jvm.ClassFile.FieldType.int)) ∈ lw_all := lw_g (lw_at lw_m9 208 rfl) rfl
theorem q2242 : (Jvm.Cond.instanceMethod ({ cls := "FlashZonesModel", name := "nextFate", desc := "()I" } : Jvm.MethodName)) ∈ lw_all := lw_g (lw_at lw_m9 210 rfl) rfl
theorem q2243 : (Jvm.Cond.selects "FlashZonesModel" ({ cls := "FlashZonesModel", name := "nextFate", desc := "()I" } : Jvm.MethodName) ({ cls := "FlashZonesModel", name := "nextFate", desc := "()I" } : Jvm.MethodName)) ∈ lw_all := lw_g (lw_at lw_m9 211 rfl) rfl
theorem q2244 : (Jvm.Cond.code ({ cls := "FlashZonesModel", name := "nextFate", desc := "()I" } : Jvm.MethodName) prog_14_method_74_code (5 : Nat) (Option.some Jvm.ClassFile.FieldType.int)) ∈ lw_all := lw_g (lw_at lw_m9 212 rfl) rfl
theorem q2246 : (Jvm.Cond.instanceMethod ({ cls := "FlashZonesModel", name := "gap", desc := "(I)I" } : Jvm.MethodName)) ∈ lw_all := lw_g (lw_at lw_m9 214 rfl) rfl
theorem q2247 : (Jvm.Cond.selects "FlashZonesModel" ({ cls := "FlashZonesModel", name := "gap", desc := "(I)I" } : Jvm.MethodName) ({ cls := "FlashZonesModel", name := "gap", desc := "(I)I" } : Jvm.MethodName)) ∈ lw_all := lw_g (lw_at lw_m9 215 rfl) rfl
theorem q2248 : (Jvm.Cond.code ({ cls := "FlashZonesModel", name := "gap", desc := "(I)I" } : Jvm.MethodName) prog_14_method_75_code (4 : Nat) (Option.some Jvm.ClassFile.FieldType.int)) ∈ lw_all := lw_g (lw_at lw_m9 216 rfl) rfl
theorem q2249 : (Jvm.Cond.methodLink "FlashZonesModel" (223 : Nat) ({ cls := "FlashZonesModel", name := "livesAnew", desc := "(I)V" } : Jvm.MethodName)) ∈ lw_all := lw_g (lw_at lw_m9 217 rfl) rfl
theorem q2250 : (Jvm.Cond.privateMethod ({ cls := "FlashZonesModel", name := "livesAnew", desc := "(I)V" } : Jvm.MethodName)) ∈ lw_tbl := lw_at lw_m9 218 rfl
theorem q2251 : (Jvm.Cond.instanceMethod ({ cls := "FlashZonesModel", name := "livesAnew", desc := "(I)V" } : Jvm.MethodName)) ∈ lw_all := lw_g (lw_at lw_m9 219 rfl) rfl
theorem q2252 : (Jvm.Cond.code ({ cls := "FlashZonesModel", name := "livesAnew", desc := "(I)V" } : Jvm.MethodName) prog_14_method_92_code (6 : Nat) (Option.none : Option Jvm.ClassFile.FieldType)) ∈ lw_all := lw_g (lw_at lw_m9 220 rfl) rfl
theorem q2253 : (Jvm.Cond.methodLink "FlashZonesModel" (110 : Nat) ({ cls := "FlashZonesModel", name := "copies", desc := "([II[II)V" } : Jvm.MethodName)) ∈ lw_all := lw_g (lw_at lw_m9 221 rfl) rfl
theorem q2254 : (Jvm.Cond.static ({ cls := "FlashZonesModel", name := "copies", desc := "([II[II)V" } : Jvm.MethodName)) ∈ lw_all := lw_g (lw_at lw_m9 222 rfl) rfl
theorem q2255 : (Jvm.Cond.code ({ cls := "FlashZonesModel", name := "copies", desc := "([II[II)V" } : Jvm.MethodName) prog_14_method_4_code (5 : Nat) (Option.none : Option Jvm.ClassFile.FieldType)) ∈ lw_all := lw_g (lw_at lw_m9 223 rfl) rfl
theorem q2256 : (Jvm.Cond.methodLink "FlashZonesModel" (253 : Nat) ({ cls := "FlashZonesModel", name := "tellsWrite", desc := "(II)I" } : Jvm.MethodName)) ∈ lw_all := lw_g (lw_at lw_m9 224 rfl) rfl
theorem q2257 : (Jvm.Cond.privateMethod ({ cls := "FlashZonesModel", name := "tellsWrite", desc := "(II)I" } : Jvm.MethodName)) ∈ lw_tbl := lw_at lw_m9 225 rfl
theorem q2258 : (Jvm.Cond.instanceMethod ({ cls := "FlashZonesModel", name := "tellsWrite", desc := "(II)I" } : Jvm.MethodName)) ∈ lw_all := lw_g (lw_at lw_m9 226 rfl) rfl
theorem q2259 : (Jvm.Cond.code ({ cls := "FlashZonesModel", name := "tellsWrite", desc := "(II)I" } : Jvm.MethodName) prog_14_method_89_code (4 : Nat) (Option.some Jvm.ClassFile.FieldType.int)) ∈ lw_all := lw_g (lw_at lw_m9 227 rfl) rfl
theorem q2260 : (Jvm.Cond.methodLink "FlashZonesModel" (157 : Nat) ({ cls := "FlashZonesModel", name := "whyWrite", desc := "(III)I" } : Jvm.MethodName)) ∈ lw_all := lw_g (lw_at lw_m9 228 rfl) rfl
theorem q2261 : (Jvm.Cond.privateMethod ({ cls := "FlashZonesModel", name := "whyWrite", desc := "(III)I" } : Jvm.MethodName)) ∈ lw_tbl := lw_at lw_m9 229 rfl
theorem q2262 : (Jvm.Cond.instanceMethod ({ cls := "FlashZonesModel", name := "whyWrite", desc := "(III)I" } : Jvm.MethodName)) ∈ lw_all := lw_g (lw_at lw_m9 230 rfl) rfl
theorem q2263 : (Jvm.Cond.code ({ cls := "FlashZonesModel", name := "whyWrite", desc := "(III)I" } : Jvm.MethodName) prog_14_method_30_code (6 : Nat) (Option.some Jvm.ClassFile.FieldType.int)) ∈ lw_all := lw_g (lw_at lw_m9 231 rfl) rfl
theorem q2264 : (Jvm.Cond.methodLink "FlashZonesModel" (121 : Nat) ({ cls := "FlashZonesModel", name := "ledBy", desc := "(IIII)I" } : Jvm.MethodName)) ∈ lw_all := lw_g (lw_at lw_m9 232 rfl) rfl
theorem q2265 : (Jvm.Cond.privateMethod ({ cls := "FlashZonesModel", name := "ledBy", desc := "(IIII)I" } : Jvm.MethodName)) ∈ lw_tbl := lw_at lw_m9 233 rfl
theorem q2266 : (Jvm.Cond.instanceMethod ({ cls := "FlashZonesModel", name := "ledBy", desc := "(IIII)I" } : Jvm.MethodName)) ∈ lw_all := lw_g (lw_at lw_m9 234 rfl) rfl
theorem q2267 : (Jvm.Cond.code ({ cls := "FlashZonesModel", name := "ledBy", desc := "(IIII)I" } : Jvm.MethodName) prog_14_method_18_code (5 : Nat) (Option.some Jvm.ClassFile.FieldType.int)) ∈ lw_all := lw_g (lw_at lw_m9 235 rfl) rfl
theorem q2268 : (Jvm.Cond.methodLink "FlashZonesModel" (86 : Nat) ({ cls := "FlashZonesModel", name := "knownOf", desc := "(I)I" } : Jvm.MethodName)) ∈ lw_all := lw_g (lw_at lw_m9 236 rfl) rfl
theorem q2269 : (Jvm.Cond.privateMethod ({ cls := "FlashZonesModel", name := "knownOf", desc := "(I)I" } : Jvm.MethodName)) ∈ lw_tbl := lw_at lw_m9 237 rfl
theorem q2270 : (Jvm.Cond.instanceMethod ({ cls := "FlashZonesModel", name := "knownOf", desc := "(I)I" } : Jvm.MethodName)) ∈ lw_all := lw_g (lw_at lw_m9 238 rfl) rfl
theorem q2271 : (Jvm.Cond.code ({ cls := "FlashZonesModel", name := "knownOf", desc := "(I)I" } : Jvm.MethodName) prog_14_method_17_code (4 : Nat) (Option.some Jvm.ClassFile.FieldType.int)) ∈ lw_all := lw_g (lw_at lw_m9 239 rfl) rfl
theorem q2272 : (Jvm.Cond.methodLink "FlashZonesModel" (125 : Nat) ({ cls := "FlashZonesModel", name := "zoneFor", desc := "(III)I" } : Jvm.MethodName)) ∈ lw_all := lw_g (lw_at lw_m10 0 rfl) rfl
theorem q2273 : (Jvm.Cond.privateMethod ({ cls := "FlashZonesModel", name := "zoneFor", desc := "(III)I" } : Jvm.MethodName)) ∈ lw_tbl := lw_at lw_m10 1 rfl
theorem q2274 : (Jvm.Cond.instanceMethod ({ cls := "FlashZonesModel", name := "zoneFor", desc := "(III)I" } : Jvm.MethodName)) ∈ lw_all := lw_g (lw_at lw_m10 2 rfl) rfl
theorem q2275 : (Jvm.Cond.code ({ cls := "FlashZonesModel", name := "zoneFor", desc := "(III)I" } : Jvm.MethodName) prog_14_method_24_code (7 : Nat) (Option.some Jvm.ClassFile.FieldType.int)) ∈ lw_all := lw_g (lw_at lw_m10 3 rfl) rfl
theorem q2276 : (Jvm.Cond.methodLink "FlashZonesModel" (100 : Nat) ({ cls := "FlashZonesModel", name := "hasRoom", desc := "(II)Z" } : Jvm.MethodName)) ∈ lw_all := lw_g (lw_at lw_m10 4 rfl) rfl
theorem q2277 : (Jvm.Cond.privateMethod ({ cls := "FlashZonesModel", name := "hasRoom", desc := "(II)Z" } : Jvm.MethodName)) ∈ lw_tbl := lw_at lw_m10 5 rfl
theorem q2278 : (Jvm.Cond.instanceMethod ({ cls := "FlashZonesModel", name := "hasRoom", desc := "(II)Z" } : Jvm.MethodName)) ∈ lw_all := lw_g (lw_at lw_m10 6 rfl) rfl
theorem q2279 : (Jvm.Cond.code ({ cls := "FlashZonesModel", name := "hasRoom", desc := "(II)Z" } : Jvm.MethodName) prog_14_method_22_code (3 : Nat) (Option.some Jvm.ClassFile.FieldType.boolean)) ∈ lw_all := lw_g (lw_at lw_m10 7 rfl) rfl
theorem q2280 : (Jvm.Cond.methodLink "FlashZonesModel" (107 : Nat) ({ cls := "FlashZonesModel", name := "apart", desc := "(II)I" } : Jvm.MethodName)) ∈ lw_all := lw_g (lw_at lw_m10 8 rfl) rfl
theorem q2281 : (Jvm.Cond.privateMethod ({ cls := "FlashZonesModel", name := "apart", desc := "(II)I" } : Jvm.MethodName)) ∈ lw_tbl := lw_at lw_m10 9 rfl
theorem q2282 : (Jvm.Cond.instanceMethod ({ cls := "FlashZonesModel", name := "apart", desc := "(II)I" } : Jvm.MethodName)) ∈ lw_all := lw_g (lw_at lw_m10 10 rfl) rfl
theorem q2283 : (Jvm.Cond.code ({ cls := "FlashZonesModel", name := "apart", desc := "(II)I" } : Jvm.MethodName) prog_14_method_23_code (4 : Nat) (Option.some Jvm.ClassFile.FieldType.int)) ∈ lw_all := lw_g (lw_at lw_m10 11 rfl) rfl
theorem q2284 : (Jvm.Cond.methodLink "FlashZonesModel" (166 : Nat) ({ cls := "FlashZonesModel", name := "writes", desc := "(IIII)V" } : Jvm.MethodName)) ∈ lw_all := lw_g (lw_at lw_m10 12 rfl) rfl
theorem q2285 : (Jvm.Cond.privateMethod ({ cls := "FlashZonesModel", name := "writes", desc := "(IIII)V" } : Jvm.MethodName)) ∈ lw_tbl := lw_at lw_m10 13 rfl
theorem q2286 : (Jvm.Cond.instanceMethod ({ cls := "FlashZonesModel", name := "writes", desc := "(IIII)V" } : Jvm.MethodName)) ∈ lw_all := lw_g (lw_at lw_m10 14 rfl) rfl
theorem q2287 : (Jvm.Cond.code ({ cls := "FlashZonesModel", name := "writes", desc := "(IIII)V" } : Jvm.MethodName) prog_14_method_31_code (10 : Nat) (Option.none : Option Jvm.ClassFile.FieldType)) ∈ lw_all := lw_g (lw_at lw_m10 15 rfl) rfl
theorem q2288 : (Jvm.Cond.methodLink "FlashZonesModel" (128 : Nat) ({ cls := "FlashZonesModel", name := "puts", desc := "(III)V" } : Jvm.MethodName)) ∈ lw_all := lw_g (lw_at lw_m10 16 rfl) rfl
theorem q2289 : (Jvm.Cond.privateMethod ({ cls := "FlashZonesModel", name := "puts", desc := "(III)V" } : Jvm.MethodName)) ∈ lw_tbl := lw_at lw_m10 17 rfl
theorem q2290 : (Jvm.Cond.instanceMethod ({ cls := "FlashZonesModel", name := "puts", desc := "(III)V" } : Jvm.MethodName)) ∈ lw_all := lw_g (lw_at lw_m10 18 rfl) rfl
theorem q2291 : (Jvm.Cond.code ({ cls := "FlashZonesModel", name := "puts", desc := "(III)V" } : Jvm.MethodName) prog_14_method_25_code (5 : Nat) (Option.none : Option Jvm.ClassFile.FieldType)) ∈ lw_all := lw_g (lw_at lw_m10 19 rfl) rfl
theorem q2292 : (Jvm.Cond.methodLink "FlashZonesModel" (256 : Nat) ({ cls := "FlashZonesModel", name := "tellsDie", desc := "(I)I" } : Jvm.MethodName)) ∈ lw_all := lw_g (lw_at lw_m10 20 rfl) rfl
theorem q2293 : (Jvm.Cond.privateMethod ({ cls := "FlashZonesModel", name := "tellsDie", desc := "(I)I" } : Jvm.MethodName)) ∈ lw_tbl := lw_at lw_m10 21 rfl
theorem q2294 : (Jvm.Cond.instanceMethod ({ cls := "FlashZonesModel", name := "tellsDie", desc := "(I)I" } : Jvm.MethodName)) ∈ lw_all := lw_g (lw_at lw_m10 22 rfl) rfl
theorem q2295 : (Jvm.Cond.code ({ cls := "FlashZonesModel", name := "tellsDie", desc := "(I)I" } : Jvm.MethodName) prog_14_method_90_code (3 : Nat) (Option.some Jvm.ClassFile.FieldType.int)) ∈ lw_all := lw_g (lw_at lw_m10 23 rfl) rfl
theorem q2296 : (Jvm.Cond.methodLink "FlashZonesModel" (135 : Nat) ({ cls := "FlashZonesModel", name := "dies", desc := "(I)V" } : Jvm.MethodName)) ∈ lw_all := lw_g (lw_at lw_m10 24 rfl) rfl
theorem q2297 : (Jvm.Cond.privateMethod ({ cls := "FlashZonesModel", name := "dies", desc := "(I)V" } : Jvm.MethodName)) ∈ lw_tbl := lw_at lw_m10 25 rfl
theorem q2298 : (Jvm.Cond.instanceMethod ({ cls := "FlashZonesModel", name := "dies", desc := "(I)V" } : Jvm.MethodName)) ∈ lw_all := lw_g (lw_at lw_m10 26 rfl) rfl
theorem q2299 : (Jvm.Cond.code ({ cls := "FlashZonesModel", name := "dies", desc := "(I)V" } : Jvm.MethodName) prog_14_method_21_code (3 : Nat) (Option.none : Option Jvm.ClassFile.FieldType)) ∈ lw_all := lw_g (lw_at lw_m10 27 rfl) rfl
theorem q2300 : (Jvm.Cond.methodLink "FlashZonesModel" (96 : Nat) ({ cls := "FlashZonesModel", name := "weighs", desc := "(I)V" } : Jvm.MethodName)) ∈ lw_all := lw_g (lw_at lw_m10 28 rfl) rfl
theorem q2301 : (Jvm.Cond.privateMethod ({ cls := "FlashZonesModel", name := "weighs", desc := "(I)V" } : Jvm.MethodName)) ∈ lw_tbl := lw_at lw_m10 29 rfl
theorem q2302 : (Jvm.Cond.instanceMethod ({ cls := "FlashZonesModel", name := "weighs", desc := "(I)V" } : Jvm.MethodName)) ∈ lw_all := lw_g (lw_at lw_m10 30 rfl) rfl
theorem q2303 : (Jvm.Cond.code ({ cls := "FlashZonesModel", name := "weighs", desc := "(I)V" } : Jvm.MethodName) prog_14_method_20_code (6 : Nat) (Option.none : Option Jvm.ClassFile.FieldType)) ∈ lw_all := lw_g (lw_at lw_m10 31 rfl) rfl
theorem q2304 : (Jvm.Cond.methodLink "FlashZonesModel" (259 : Nat) ({ cls := "FlashZonesModel", name := "tellsReset", desc := "(I)I" } : Jvm.MethodName)) ∈ lw_all := lw_g (lw_at lw_m10 32 rfl) rfl
theorem q2305 : (Jvm.Cond.privateMethod ({ cls := "FlashZonesModel", name := "tellsReset", desc := "(I)I" } : Jvm.MethodName)) ∈ lw_tbl := lw_at lw_m10 33 rfl
theorem q2306 : (Jvm.Cond.instanceMethod ({ cls := "FlashZonesModel", name := "tellsReset", desc := "(I)I" } : Jvm.MethodName)) ∈ lw_all := lw_g (lw_at lw_m10 34 rfl) rfl
theorem q2307 : (Jvm.Cond.code ({ cls := "FlashZonesModel", name := "tellsReset", desc := "(I)I" } : Jvm.MethodName) prog_14_method_91_code (3 : Nat) (Option.some Jvm.ClassFile.FieldType.int)) ∈ lw_all := lw_g (lw_at lw_m10 35 rfl) rfl
theorem q2308 : (Jvm.Cond.methodLink "FlashZonesModel" (170 : Nat) ({ cls := "FlashZonesModel", name := "whyReset", desc := "(I)I" } : Jvm.MethodName)) ∈ lw_all := lw_g (lw_at lw_m10 36 rfl) rfl
theorem q2309 : (Jvm.Cond.privateMethod ({ cls := "FlashZonesModel", name := "whyReset", desc := "(I)I" } : Jvm.MethodName)) ∈ lw_tbl := lw_at lw_m10 37 rfl
theorem q2310 : (Jvm.Cond.instanceMethod ({ cls := "FlashZonesModel", name := "whyReset", desc := "(I)I" } : Jvm.MethodName)) ∈ lw_all := lw_g (lw_at lw_m10 38 rfl) rfl
theorem q2311 : (Jvm.Cond.code ({ cls := "FlashZonesModel", name := "whyReset", desc := "(I)I" } : Jvm.MethodName) prog_14_method_32_code (2 : Nat) (Option.some Jvm.ClassFile.FieldType.int)) ∈ lw_all := lw_g (lw_at lw_m10 39 rfl) rfl
theorem q2312 : (Jvm.Cond.methodLink "FlashZonesModel" (132 : Nat) ({ cls := "FlashZonesModel", name := "resets", desc := "(I)V" } : Jvm.MethodName)) ∈ lw_all := lw_g (lw_at lw_m10 40 rfl) rfl
theorem q2313 : (Jvm.Cond.privateMethod ({ cls := "FlashZonesModel", name := "resets", desc := "(I)V" } : Jvm.MethodName)) ∈ lw_tbl := lw_at lw_m10 41 rfl
theorem q2314 : (Jvm.Cond.instanceMethod ({ cls := "FlashZonesModel", name := "resets", desc := "(I)V" } : Jvm.MethodName)) ∈ lw_all := lw_g (lw_at lw_m10 42 rfl) rfl
theorem q2315 : (Jvm.Cond.code ({ cls := "FlashZonesModel", name := "resets", desc := "(I)V" } : Jvm.MethodName) prog_14_method_26_code (3 : Nat) (Option.none : Option Jvm.ClassFile.FieldType)) ∈ lw_all := lw_g (lw_at lw_m10 43 rfl) rfl
theorem q2316 : (Jvm.Cond.methodLink "FlashZonesModel" (262 : Nat) ({ cls := "FlashZonesModel", name := "burial", desc := "(I)I" } : Jvm.MethodName)) ∈ lw_all := lw_g (lw_at lw_m10 44 rfl) rfl
theorem q2317 : (Jvm.Cond.privateMethod ({ cls := "FlashZonesModel", name := "burial", desc := "(I)I" } : Jvm.MethodName)) ∈ lw_tbl := lw_at lw_m10 45 rfl
theorem q2318 : (Jvm.Cond.instanceMethod ({ cls := "FlashZonesModel", name := "burial", desc := "(I)I" } : Jvm.MethodName)) ∈ lw_all := lw_g (lw_at lw_m10 46 rfl) rfl
theorem q2319 : (Jvm.Cond.code ({ cls := "FlashZonesModel", name := "burial", desc := "(I)I" } : Jvm.MethodName) prog_14_method_33_code (2 : Nat) (Option.some Jvm.ClassFile.FieldType.int)) ∈ lw_all := lw_g (lw_at lw_m10 47 rfl) rfl
theorem q2320 : (Jvm.Cond.methodLink "FlashZonesModel" (141 : Nat) ({ cls := "FlashZonesModel", name := "buries", desc := "(I)Z" } : Jvm.MethodName)) ∈ lw_all := lw_g (lw_at lw_m10 48 rfl) rfl
theorem q2321 : (Jvm.Cond.privateMethod ({ cls := "FlashZonesModel", name := "buries", desc := "(I)Z" } : Jvm.MethodName)) ∈ lw_tbl := lw_at lw_m10 49 rfl
theorem q2322 : (Jvm.Cond.instanceMethod ({ cls := "FlashZonesModel", name := "buries", desc := "(I)Z" } : Jvm.MethodName)) ∈ lw_all := lw_g (lw_at lw_m10 50 rfl) rfl
theorem q2323 : (Jvm.Cond.code ({ cls := "FlashZonesModel", name := "buries", desc := "(I)Z" } : Jvm.MethodName) prog_14_method_27_code (9 : Nat) (Option.some Jvm.ClassFile.FieldType.boolean)) ∈ lw_all := lw_g (lw_at lw_m10 51 rfl) rfl
theorem q2324 : (Jvm.Cond.methodLink "FlashZonesModel" (176 : Nat) ({ cls := "FlashZonesModel", name := "passesDays", desc := "(I)V" } : Jvm.MethodName)) ∈ lw_all := lw_g (lw_at lw_m10 52 rfl) rfl
theorem q2325 : (Jvm.Cond.privateMethod ({ cls := "FlashZonesModel", name := "passesDays", desc := "(I)V" } : Jvm.MethodName)) ∈ lw_tbl := lw_at lw_m10 53 rfl
theorem q2326 : (Jvm.Cond.instanceMethod ({ cls := "FlashZonesModel", name := "passesDays", desc := "(I)V" } : Jvm.MethodName)) ∈ lw_all := lw_g (lw_at lw_m10 54 rfl) rfl
theorem q2327 : (Jvm.Cond.code ({ cls := "FlashZonesModel", name := "passesDays", desc := "(I)V" } : Jvm.MethodName) prog_14_method_34_code (3 : Nat) (Option.none : Option Jvm.ClassFile.FieldType)) ∈ lw_all := lw_g (lw_at lw_m10 55 rfl) rfl
theorem q2328 : (Jvm.Cond.methodLink "FlashZonesModel" (144 : Nat) ({ cls := "FlashZonesModel", name := "passesDay", desc := "()V" } : Jvm.MethodName)) ∈ lw_all := lw_g (lw_at lw_m10 56 rfl) rfl
theorem q2329 : (Jvm.Cond.privateMethod ({ cls := "FlashZonesModel", name := "passesDay", desc := "()V" } : Jvm.MethodName)) ∈ lw_tbl := lw_at lw_m10 57 rfl
theorem q2330 : (Jvm.Cond.instanceMethod ({ cls := "FlashZonesModel", name := "passesDay", desc := "()V" } : Jvm.MethodName)) ∈ lw_all := lw_g (lw_at lw_m10 58 rfl) rfl
theorem q2331 : (Jvm.Cond.code ({ cls := "FlashZonesModel", name := "passesDay", desc := "()V" } : Jvm.MethodName) prog_14_method_29_code (3 : Nat) (Option.none : Option Jvm.ClassFile.FieldType)) ∈ lw_all := lw_g (lw_at lw_m10 59 rfl) rfl
theorem q2332 : (Jvm.Cond.methodLink "FlashZonesModel" (226 : Nat) ({ cls := "FlashZonesModel", name := "toldNow", desc := "(I)I" } : Jvm.MethodName)) ∈ lw_all := lw_g (lw_at lw_m10 60 rfl) rfl
theorem q2333 : (Jvm.Cond.privateMethod ({ cls := "FlashZonesModel", name := "toldNow", desc := "(I)I" } : Jvm.MethodName)) ∈ lw_tbl := lw_at lw_m10 61 rfl
theorem q2334 : (Jvm.Cond.instanceMethod ({ cls := "FlashZonesModel", name := "toldNow", desc := "(I)I" } : Jvm.MethodName)) ∈ lw_all := lw_g (lw_at lw_m10 62 rfl) rfl
theorem q2335 : (Jvm.Cond.code ({ cls := "FlashZonesModel", name := "toldNow", desc := "(I)I" } : Jvm.MethodName) prog_14_method_93_code (2 : Nat) (Option.some Jvm.ClassFile.FieldType.int)) ∈ lw_all := lw_g (lw_at lw_m10 63 rfl) rfl
theorem q2337 : (Jvm.Cond.instanceMethod ({ cls := "FlashZonesModel", name := "bin", desc := "(II)I" } : Jvm.MethodName)) ∈ lw_all := lw_g (lw_at lw_m10 65 rfl) rfl
theorem q2338 : (Jvm.Cond.selects "FlashZonesModel" ({ cls := "FlashZonesModel", name := "bin", desc := "(II)I" } : Jvm.MethodName) ({ cls := "FlashZonesModel", name := "bin", desc := "(II)I" } : Jvm.MethodName)) ∈ lw_all := lw_g (lw_at lw_m10 66 rfl) rfl
theorem q2339 : (Jvm.Cond.code ({ cls := "FlashZonesModel", name := "bin", desc := "(II)I" } : Jvm.MethodName) prog_14_method_77_code (5 : Nat) (Option.some Jvm.ClassFile.FieldType.int)) ∈ lw_all := lw_g (lw_at lw_m10 67 rfl) rfl
theorem q2340 : (Jvm.Cond.methodLink "FlashZonesModel" (229 : Nat) ({ cls := "FlashZonesModel", name := "binOf", desc := "(I)I" } : Jvm.MethodName)) ∈ lw_all := lw_g (lw_at lw_m10 68 rfl) rfl
theorem q2341 : (Jvm.Cond.static ({ cls := "FlashZonesModel", name := "binOf", desc := "(I)I" } : Jvm.MethodName)) ∈ lw_all := lw_g (lw_at lw_m10 69 rfl) rfl
theorem q2342 : (Jvm.Cond.code ({ cls := "FlashZonesModel", name := "binOf", desc := "(I)I" } : Jvm.MethodName) prog_14_method_76_code (1 : Nat) (Option.some Jvm.ClassFile.FieldType.int)) ∈ lw_all := lw_g (lw_at lw_m10 70 rfl) rfl
theorem q2344 : (Jvm.Cond.instanceMethod ({ cls := "FlashZonesModel", name := "leaderIf", desc := "(I)I" } : Jvm.MethodName)) ∈ lw_all := lw_g (lw_at lw_m10 72 rfl) rfl
theorem q2345 : (Jvm.Cond.selects "FlashZonesModel" ({ cls := "FlashZonesModel", name := "leaderIf", desc := "(I)I" } : Jvm.MethodName) ({ cls := "FlashZonesModel", name := "leaderIf", desc := "(I)I" } : Jvm.MethodName)) ∈ lw_all := lw_g (lw_at lw_m10 73 rfl) rfl
theorem q2346 : (Jvm.Cond.code ({ cls := "FlashZonesModel", name := "leaderIf", desc := "(I)I" } : Jvm.MethodName) prog_14_method_78_code (3 : Nat) (Option.some Jvm.ClassFile.FieldType.int)) ∈ lw_all := lw_g (lw_at lw_m10 74 rfl) rfl
theorem q2348 : (Jvm.Cond.instanceMethod ({ cls := "FlashZonesModel", name := "write", desc := "(III)I" } : Jvm.MethodName)) ∈ lw_all := lw_g (lw_at lw_m10 76 rfl) rfl
theorem q2349 : (Jvm.Cond.selects "FlashZonesModel" ({ cls := "FlashZonesModel", name := "write", desc := "(III)I" } : Jvm.MethodName) ({ cls := "FlashZonesModel", name := "write", desc := "(III)I" } : Jvm.MethodName)) ∈ lw_all := lw_g (lw_at lw_m10 77 rfl) rfl
theorem q2350 : (Jvm.Cond.code ({ cls := "FlashZonesModel", name := "write", desc := "(III)I" } : Jvm.MethodName) prog_14_method_79_code (4 : Nat) (Option.some Jvm.ClassFile.FieldType.int)) ∈ lw_all := lw_g (lw_at lw_m10 78 rfl) rfl
theorem q2351 : (Jvm.Cond.methodLink "FlashZonesModel" (232 : Nat) ({ cls := "FlashZonesModel", name := "actsWrite", desc := "(III)I" } : Jvm.MethodName)) ∈ lw_all := lw_g (lw_at lw_m10 79 rfl) rfl
theorem q2352 : (Jvm.Cond.privateMethod ({ cls := "FlashZonesModel", name := "actsWrite", desc := "(III)I" } : Jvm.MethodName)) ∈ lw_tbl := lw_at lw_m10 80 rfl
theorem q2353 : (Jvm.Cond.instanceMethod ({ cls := "FlashZonesModel", name := "actsWrite", desc := "(III)I" } : Jvm.MethodName)) ∈ lw_all := lw_g (lw_at lw_m10 81 rfl) rfl
theorem q2354 : (Jvm.Cond.code ({ cls := "FlashZonesModel", name := "actsWrite", desc := "(III)I" } : Jvm.MethodName) prog_14_method_39_code (6 : Nat) (Option.some Jvm.ClassFile.FieldType.int)) ∈ lw_all := lw_g (lw_at lw_m10 82 rfl) rfl
theorem q2355 : (Jvm.Cond.methodLink "FlashZonesModel" (153 : Nat) ({ cls := "FlashZonesModel", name := "isLong", desc := "()Z" } : Jvm.MethodName)) ∈ lw_all := lw_g (lw_at lw_m10 83 rfl) rfl
theorem q2356 : (Jvm.Cond.privateMethod ({ cls := "FlashZonesModel", name := "isLong", desc := "()Z" } : Jvm.MethodName)) ∈ lw_tbl := lw_at lw_m10 84 rfl
theorem q2357 : (Jvm.Cond.instanceMethod ({ cls := "FlashZonesModel", name := "isLong", desc := "()Z" } : Jvm.MethodName)) ∈ lw_all := lw_g (lw_at lw_m10 85 rfl) rfl
theorem q2358 : (Jvm.Cond.code ({ cls := "FlashZonesModel", name := "isLong", desc := "()Z" } : Jvm.MethodName) prog_14_method_38_code (1 : Nat) (Option.some Jvm.ClassFile.FieldType.boolean)) ∈ lw_all := lw_g (lw_at lw_m10 86 rfl) rfl
theorem q2359 : (Jvm.Cond.methodLink "FlashZonesModel" (160 : Nat) ({ cls := "FlashZonesModel", name := "refuses", desc := "(I)I" } : Jvm.MethodName)) ∈ lw_all := lw_g (lw_at lw_m10 87 rfl) rfl
theorem q2360 : (Jvm.Cond.privateMethod ({ cls := "FlashZonesModel", name := "refuses", desc := "(I)I" } : Jvm.MethodName)) ∈ lw_tbl := lw_at lw_m10 88 rfl
theorem q2361 : (Jvm.Cond.instanceMethod ({ cls := "FlashZonesModel", name := "refuses", desc := "(I)I" } : Jvm.MethodName)) ∈ lw_all := lw_g (lw_at lw_m10 89 rfl) rfl
theorem q2362 : (Jvm.Cond.code ({ cls := "FlashZonesModel", name := "refuses", desc := "(I)I" } : Jvm.MethodName) prog_14_method_36_code (2 : Nat) (Option.some Jvm.ClassFile.FieldType.int)) ∈ lw_all := lw_g (lw_at lw_m10 90 rfl) rfl
theorem q2363 : (Jvm.Cond.methodLink "FlashZonesModel" (163 : Nat) ({ cls := "FlashZonesModel", name := "does", desc := "(IIII)I" } : Jvm.MethodName)) ∈ lw_all := lw_g (lw_at lw_m10 91 rfl) rfl
theorem q2364 : (Jvm.Cond.privateMethod ({ cls := "FlashZonesModel", name := "does", desc := "(IIII)I" } : Jvm.MethodName)) ∈ lw_tbl := lw_at lw_m10 92 rfl
theorem q2365 : (Jvm.Cond.instanceMethod ({ cls := "FlashZonesModel", name := "does", desc := "(IIII)I" } : Jvm.MethodName)) ∈ lw_all := lw_g (lw_at lw_m10 93 rfl) rfl
theorem q2366 : (Jvm.Cond.code ({ cls := "FlashZonesModel", name := "does", desc := "(IIII)I" } : Jvm.MethodName) prog_14_method_37_code (6 : Nat) (Option.some Jvm.ClassFile.FieldType.int)) ∈ lw_all := lw_g (lw_at lw_m10 94 rfl) rfl
theorem q2367 : (Jvm.Cond.methodLink "FlashZonesModel" (150 : Nat) ({ cls := "FlashZonesModel", name := "keeps", desc := "()V" } : Jvm.MethodName)) ∈ lw_all := lw_g (lw_at lw_m10 95 rfl) rfl
theorem q2368 : (Jvm.Cond.privateMethod ({ cls := "FlashZonesModel", name := "keeps", desc := "()V" } : Jvm.MethodName)) ∈ lw_tbl := lw_at lw_m10 96 rfl
theorem q2369 : (Jvm.Cond.instanceMethod ({ cls := "FlashZonesModel", name := "keeps", desc := "()V" } : Jvm.MethodName)) ∈ lw_all := lw_g (lw_at lw_m10 97 rfl) rfl
theorem q2370 : (Jvm.Cond.code ({ cls := "FlashZonesModel", name := "keeps", desc := "()V" } : Jvm.MethodName) prog_14_method_35_code (2 : Nat) (Option.none : Option Jvm.ClassFile.FieldType)) ∈ lw_all := lw_g (lw_at lw_m10 98 rfl) rfl
theorem q2372 : (Jvm.Cond.instanceMethod ({ cls := "FlashZonesModel", name := "die", desc := "(I)I" } : Jvm.MethodName)) ∈ lw_all := lw_g (lw_at lw_m10 100 rfl) rfl
theorem q2373 : (Jvm.Cond.selects "FlashZonesModel" ({ cls := "FlashZonesModel", name := "die", desc := "(I)I" } : Jvm.MethodName) ({ cls := "FlashZonesModel", name := "die", desc := "(I)I" } : Jvm.MethodName)) ∈ lw_all := lw_g (lw_at lw_m10 101 rfl) rfl
theorem q2374 : (Jvm.Cond.code ({ cls := "FlashZonesModel", name := "die", desc := "(I)I" } : Jvm.MethodName) prog_14_method_80_code (2 : Nat) (Option.some Jvm.ClassFile.FieldType.int)) ∈ lw_all := lw_g (lw_at lw_m10 102 rfl) rfl
theorem q2375 : (Jvm.Cond.methodLink "FlashZonesModel" (235 : Nat) ({ cls := "FlashZonesModel", name := "actsDie", desc := "(I)I" } : Jvm.MethodName)) ∈ lw_all := lw_g (lw_at lw_m10 103 rfl) rfl
theorem q2376 : (Jvm.Cond.privateMethod ({ cls := "FlashZonesModel", name := "actsDie", desc := "(I)I" } : Jvm.MethodName)) ∈ lw_tbl := lw_at lw_m10 104 rfl
theorem q2377 : (Jvm.Cond.instanceMethod ({ cls := "FlashZonesModel", name := "actsDie", desc := "(I)I" } : Jvm.MethodName)) ∈ lw_all := lw_g (lw_at lw_m10 105 rfl) rfl
theorem q2378 : (Jvm.Cond.code ({ cls := "FlashZonesModel", name := "actsDie", desc := "(I)I" } : Jvm.MethodName) prog_14_method_40_code (3 : Nat) (Option.some Jvm.ClassFile.FieldType.int)) ∈ lw_all := lw_g (lw_at lw_m10 106 rfl) rfl
theorem q2380 : (Jvm.Cond.instanceMethod ({ cls := "FlashZonesModel", name := "reset", desc := "(I)I" } : Jvm.MethodName)) ∈ lw_all := lw_g (lw_at lw_m10 108 rfl) rfl
theorem q2381 : (Jvm.Cond.selects "FlashZonesModel" ({ cls := "FlashZonesModel", name := "reset", desc := "(I)I" } : Jvm.MethodName) ({ cls := "FlashZonesModel", name := "reset", desc := "(I)I" } : Jvm.MethodName)) ∈ lw_all := lw_g (lw_at lw_m10 109 rfl) rfl
theorem q2382 : (Jvm.Cond.code ({ cls := "FlashZonesModel", name := "reset", desc := "(I)I" } : Jvm.MethodName) prog_14_method_81_code (2 : Nat) (Option.some Jvm.ClassFile.FieldType.int)) ∈ lw_all := lw_g (lw_at lw_m10 110 rfl) rfl
theorem q2383 : (Jvm.Cond.methodLink "FlashZonesModel" (238 : Nat) ({ cls := "FlashZonesModel", name := "actsReset", desc := "(I)I" } : Jvm.MethodName)) ∈ lw_all := lw_g (lw_at lw_m10 111 rfl) rfl
theorem q2384 : (Jvm.Cond.privateMethod ({ cls := "FlashZonesModel", name := "actsReset", desc := "(I)I" } : Jvm.MethodName)) ∈ lw_tbl := lw_at lw_m10 112 rfl
theorem q2385 : (Jvm.Cond.instanceMethod ({ cls := "FlashZonesModel", name := "actsReset", desc := "(I)I" } : Jvm.MethodName)) ∈ lw_all := lw_g (lw_at lw_m10 113 rfl) rfl
theorem q2386 : (Jvm.Cond.code ({ cls := "FlashZonesModel", name := "actsReset", desc := "(I)I" } : Jvm.MethodName) prog_14_method_41_code (4 : Nat) (Option.some Jvm.ClassFile.FieldType.int)) ∈ lw_all := lw_g (lw_at lw_m10 114 rfl) rfl
theorem q2388 : (Jvm.Cond.instanceMethod ({ cls := "FlashZonesModel", name := "bury", desc := "(I)I" } : Jvm.MethodName)) ∈ lw_all := lw_g (lw_at lw_m10 116 rfl) rfl
theorem q2389 : (Jvm.Cond.selects "FlashZonesModel" ({ cls := "FlashZonesModel", name := "bury", desc := "(I)I" } : Jvm.MethodName) ({ cls := "FlashZonesModel", name := "bury", desc := "(I)I" } : Jvm.MethodName)) ∈ lw_all := lw_g (lw_at lw_m10 117 rfl) rfl
theorem q2390 : (Jvm.Cond.code ({ cls := "FlashZonesModel", name := "bury", desc := "(I)I" } : Jvm.MethodName) prog_14_method_82_code (2 : Nat) (Option.some Jvm.ClassFile.FieldType.int)) ∈ lw_all := lw_g (lw_at lw_m10 118 rfl) rfl
theorem q2391 : (Jvm.Cond.methodLink "FlashZonesModel" (241 : Nat) ({ cls := "FlashZonesModel", name := "actsBury", desc := "(I)I" } : Jvm.MethodName)) ∈ lw_all := lw_g (lw_at lw_m10 119 rfl) rfl
theorem q2392 : (Jvm.Cond.privateMethod ({ cls := "FlashZonesModel", name := "actsBury", desc := "(I)I" } : Jvm.MethodName)) ∈ lw_tbl := lw_at lw_m10 120 rfl
theorem q2393 : (Jvm.Cond.instanceMethod ({ cls := "FlashZonesModel", name := "actsBury", desc := "(I)I" } : Jvm.MethodName)) ∈ lw_all := lw_g (lw_at lw_m10 121 rfl) rfl
theorem q2394 : (Jvm.Cond.code ({ cls := "FlashZonesModel", name := "actsBury", desc := "(I)I" } : Jvm.MethodName) prog_14_method_42_code (5 : Nat) (Option.some Jvm.ClassFile.FieldType.int)) ∈ lw_all := lw_g (lw_at lw_m10 122 rfl) rfl
theorem q2395 : (Jvm.Cond.methodLink "FlashZonesModel" (173 : Nat) ({ cls := "FlashZonesModel", name := "toBuryOf", desc := "(I)I" } : Jvm.MethodName)) ∈ lw_all := lw_g (lw_at lw_m10 123 rfl) rfl
theorem q2396 : (Jvm.Cond.privateMethod ({ cls := "FlashZonesModel", name := "toBuryOf", desc := "(I)I" } : Jvm.MethodName)) ∈ lw_tbl := lw_at lw_m10 124 rfl
theorem q2397 : (Jvm.Cond.instanceMethod ({ cls := "FlashZonesModel", name := "toBuryOf", desc := "(I)I" } : Jvm.MethodName)) ∈ lw_all := lw_g (lw_at lw_m10 125 rfl) rfl
theorem q2398 : (Jvm.Cond.code ({ cls := "FlashZonesModel", name := "toBuryOf", desc := "(I)I" } : Jvm.MethodName) prog_14_method_86_code (4 : Nat) (Option.some Jvm.ClassFile.FieldType.int)) ∈ lw_all := lw_g (lw_at lw_m10 126 rfl) rfl
theorem q2400 : (Jvm.Cond.instanceMethod ({ cls := "FlashZonesModel", name := "days", desc := "(I)I" } : Jvm.MethodName)) ∈ lw_all := lw_g (lw_at lw_m10 128 rfl) rfl
theorem q2401 : (Jvm.Cond.selects "FlashZonesModel" ({ cls := "FlashZonesModel", name := "days", desc := "(I)I" } : Jvm.MethodName) ({ cls := "FlashZonesModel", name := "days", desc := "(I)I" } : Jvm.MethodName)) ∈ lw_all := lw_g (lw_at lw_m10 129 rfl) rfl
theorem q2402 : (Jvm.Cond.code ({ cls := "FlashZonesModel", name := "days", desc := "(I)I" } : Jvm.MethodName) prog_14_method_84_code (2 : Nat) (Option.some Jvm.ClassFile.FieldType.int)) ∈ lw_all := lw_g (lw_at lw_m10 130 rfl) rfl
theorem q2403 : (Jvm.Cond.methodLink "FlashZonesModel" (244 : Nat) ({ cls := "FlashZonesModel", name := "areDays", desc := "(I)Z" } : Jvm.MethodName)) ∈ lw_all := lw_g (lw_at lw_m10 131 rfl) rfl
theorem q2404 : (Jvm.Cond.static ({ cls := "FlashZonesModel", name := "areDays", desc := "(I)Z" } : Jvm.MethodName)) ∈ lw_all := lw_g (lw_at lw_m10 132 rfl) rfl
theorem q2405 : (Jvm.Cond.code ({ cls := "FlashZonesModel", name := "areDays", desc := "(I)Z" } : Jvm.MethodName) prog_14_method_83_code (1 : Nat) (Option.some Jvm.ClassFile.FieldType.boolean)) ∈ lw_all := lw_g (lw_at lw_m10 133 rfl) rfl
theorem q2406 : (Jvm.Cond.methodLink "FlashZonesModel" (247 : Nat) ({ cls := "FlashZonesModel", name := "actsDays", desc := "(I)I" } : Jvm.MethodName)) ∈ lw_all := lw_g (lw_at lw_m10 134 rfl) rfl
theorem q2407 : (Jvm.Cond.privateMethod ({ cls := "FlashZonesModel", name := "actsDays", desc := "(I)I" } : Jvm.MethodName)) ∈ lw_tbl := lw_at lw_m10 135 rfl
theorem q2408 : (Jvm.Cond.instanceMethod ({ cls := "FlashZonesModel", name := "actsDays", desc := "(I)I" } : Jvm.MethodName)) ∈ lw_all := lw_g (lw_at lw_m10 136 rfl) rfl
theorem q2409 : (Jvm.Cond.code ({ cls := "FlashZonesModel", name := "actsDays", desc := "(I)I" } : Jvm.MethodName) prog_14_method_43_code (3 : Nat) (Option.some Jvm.ClassFile.FieldType.int)) ∈ lw_all := lw_g (lw_at lw_m10 137 rfl) rfl
theorem q2411 : (Jvm.Cond.instanceMethod ({ cls := "FlashZonesModel", name := "place", desc := "(II)I" } : Jvm.MethodName)) ∈ lw_all := lw_g (lw_at lw_m10 139 rfl) rfl
theorem q2412 : (Jvm.Cond.selects "FlashZonesModel" ({ cls := "FlashZonesModel", name := "place", desc := "(II)I" } : Jvm.MethodName) ({ cls := "FlashZonesModel", name := "place", desc := "(II)I" } : Jvm.MethodName)) ∈ lw_all := lw_g (lw_at lw_m10 140 rfl) rfl
theorem q2413 : (Jvm.Cond.code ({ cls := "FlashZonesModel", name := "place", desc := "(II)I" } : Jvm.MethodName) prog_14_method_85_code (3 : Nat) (Option.some Jvm.ClassFile.FieldType.int)) ∈ lw_all := lw_g (lw_at lw_m10 141 rfl) rfl
theorem q2415 : (Jvm.Cond.instanceMethod ({ cls := "FlashZonesModel", name := "toBury", desc := "(I)I" } : Jvm.MethodName)) ∈ lw_all := lw_g (lw_at lw_m10 143 rfl) rfl
theorem q2416 : (Jvm.Cond.selects "FlashZonesModel" ({ cls := "FlashZonesModel", name := "toBury", desc := "(I)I" } : Jvm.MethodName) ({ cls := "FlashZonesModel", name := "toBury", desc := "(I)I" } : Jvm.MethodName)) ∈ lw_all := lw_g (lw_at lw_m10 144 rfl) rfl
theorem q2417 : (Jvm.Cond.code ({ cls := "FlashZonesModel", name := "toBury", desc := "(I)I" } : Jvm.MethodName) prog_14_method_87_code (2 : Nat) (Option.some Jvm.ClassFile.FieldType.int)) ∈ lw_all := lw_g (lw_at lw_m10 145 rfl) rfl
theorem q2419 : (Jvm.Cond.instanceMethod ({ cls := "FlashZonesModel", name := "ahead", desc := "(II)I" } : Jvm.MethodName)) ∈ lw_all := lw_g (lw_at lw_m10 147 rfl) rfl
theorem q2420 : (Jvm.Cond.selects "FlashZonesModel" ({ cls := "FlashZonesModel", name := "ahead", desc := "(II)I" } : Jvm.MethodName) ({ cls := "FlashZonesModel", name := "ahead", desc := "(II)I" } : Jvm.MethodName)) ∈ lw_all := lw_g (lw_at lw_m10 148 rfl) rfl
theorem q2421 : (Jvm.Cond.code ({ cls := "FlashZonesModel", name := "ahead", desc := "(II)I" } : Jvm.MethodName) prog_14_method_88_code (5 : Nat) (Option.some Jvm.ClassFile.FieldType.int)) ∈ lw_all := lw_g (lw_at lw_m10 149 rfl) rfl
theorem q2423 : (Jvm.Cond.instanceMethod ({ cls := "FlashZonesModel", name := "anew", desc := "(II)I" } : Jvm.MethodName)) ∈ lw_all := lw_g (lw_at lw_m10 151 rfl) rfl
theorem q2424 : (Jvm.Cond.selects "FlashZonesModel" ({ cls := "FlashZonesModel", name := "anew", desc := "(II)I" } : Jvm.MethodName) ({ cls := "FlashZonesModel", name := "anew", desc := "(II)I" } : Jvm.MethodName)) ∈ lw_all := lw_g (lw_at lw_m10 152 rfl) rfl
theorem q2425 : (Jvm.Cond.code ({ cls := "FlashZonesModel", name := "anew", desc := "(II)I" } : Jvm.MethodName) prog_14_method_94_code (4 : Nat) (Option.some Jvm.ClassFile.FieldType.int)) ∈ lw_all := lw_g (lw_at lw_m10 153 rfl) rfl
theorem q2427 : (Jvm.Cond.instanceMethod ({ cls := "FlashZonesModel", name := "hindsight", desc := "()I" } : Jvm.MethodName)) ∈ lw_all := lw_g (lw_at lw_m10 155 rfl) rfl
theorem q2428 : (Jvm.Cond.selects "FlashZonesModel" ({ cls := "FlashZonesModel", name := "hindsight", desc := "()I" } : Jvm.MethodName) ({ cls := "FlashZonesModel", name := "hindsight", desc := "()I" } : Jvm.MethodName)) ∈ lw_all := lw_g (lw_at lw_m10 156 rfl) rfl
theorem q2429 : (Jvm.Cond.code ({ cls := "FlashZonesModel", name := "hindsight", desc := "()I" } : Jvm.MethodName) prog_14_method_95_code (7 : Nat) (Option.some Jvm.ClassFile.FieldType.int)) ∈ lw_all := lw_g (lw_at lw_m10 157 rfl) rfl
theorem q2431 : (Jvm.Cond.instanceMethod ({ cls := "FlashZonesModel", name := "better", desc := "(II)I" } : Jvm.MethodName)) ∈ lw_all := lw_g (lw_at lw_m10 159 rfl) rfl
theorem q2432 : (Jvm.Cond.selects "FlashZonesModel" ({ cls := "FlashZonesModel", name := "better", desc := "(II)I" } : Jvm.MethodName) ({ cls := "FlashZonesModel", name := "better", desc := "(II)I" } : Jvm.MethodName)) ∈ lw_all := lw_g (lw_at lw_m10 160 rfl) rfl
theorem q2433 : (Jvm.Cond.code ({ cls := "FlashZonesModel", name := "better", desc := "(II)I" } : Jvm.MethodName) prog_14_method_96_code (7 : Nat) (Option.some Jvm.ClassFile.FieldType.int)) ∈ lw_all := lw_g (lw_at lw_m10 161 rfl) rfl
theorem q2435 : (Jvm.Cond.instanceMethod ({ cls := "FlashZonesModel", name := "history", desc := "(II)I" } : Jvm.MethodName)) ∈ lw_all := lw_g (lw_at lw_m10 163 rfl) rfl
theorem q2436 : (Jvm.Cond.selects "FlashZonesModel" ({ cls := "FlashZonesModel", name := "history", desc := "(II)I" } : Jvm.MethodName) ({ cls := "FlashZonesModel", name := "history", desc := "(II)I" } : Jvm.MethodName)) ∈ lw_all := lw_g (lw_at lw_m10 164 rfl) rfl
theorem q2437 : (Jvm.Cond.code ({ cls := "FlashZonesModel", name := "history", desc := "(II)I" } : Jvm.MethodName) prog_14_method_97_code (3 : Nat) (Option.some Jvm.ClassFile.FieldType.int)) ∈ lw_all := lw_g (lw_at lw_m10 165 rfl) rfl
theorem q2439 : (Jvm.Cond.instanceMethod ({ cls := "FlashZonesModel", name := "appendText", desc := "(I)I" } : Jvm.MethodName)) ∈ lw_all := lw_g (lw_at lw_m10 167 rfl) rfl
theorem q2440 : (Jvm.Cond.selects "FlashZonesModel" ({ cls := "FlashZonesModel", name := "appendText", desc := "(I)I" } : Jvm.MethodName) ({ cls := "FlashZonesModel", name := "appendText", desc := "(I)I" } : Jvm.MethodName)) ∈ lw_all := lw_g (lw_at lw_m10 168 rfl) rfl
theorem q2441 : (Jvm.Cond.code ({ cls := "FlashZonesModel", name := "appendText", desc := "(I)I" } : Jvm.MethodName) prog_14_method_98_code (3 : Nat) (Option.some Jvm.ClassFile.FieldType.int)) ∈ lw_all := lw_g (lw_at lw_m10 169 rfl) rfl
theorem q2443 : (Jvm.Cond.instanceMethod ({ cls := "FlashZonesModel", name := "truncateText", desc := "(I)I" } : Jvm.MethodName)) ∈ lw_all := lw_g (lw_at lw_m10 171 rfl) rfl
theorem q2444 : (Jvm.Cond.selects "FlashZonesModel" ({ cls := "FlashZonesModel", name := "truncateText", desc := "(I)I" } : Jvm.MethodName) ({ cls := "FlashZonesModel", name := "truncateText", desc := "(I)I" } : Jvm.MethodName)) ∈ lw_all := lw_g (lw_at lw_m10 172 rfl) rfl
theorem q2445 : (Jvm.Cond.code ({ cls := "FlashZonesModel", name := "truncateText", desc := "(I)I" } : Jvm.MethodName) prog_14_method_99_code (2 : Nat) (Option.some Jvm.ClassFile.FieldType.int)) ∈ lw_all := lw_g (lw_at lw_m10 173 rfl) rfl
theorem q2447 : (Jvm.Cond.instanceMethod ({ cls := "FlashZonesModel", name := "runScript", desc := "()I" } : Jvm.MethodName)) ∈ lw_all := lw_g (lw_at lw_m10 175 rfl) rfl
theorem q2448 : (Jvm.Cond.selects "FlashZonesModel" ({ cls := "FlashZonesModel", name := "runScript", desc := "()I" } : Jvm.MethodName) ({ cls := "FlashZonesModel", name := "runScript", desc := "()I" } : Jvm.MethodName)) ∈ lw_all := lw_g (lw_at lw_m10 176 rfl) rfl
theorem q2449 : (Jvm.Cond.code ({ cls := "FlashZonesModel", name := "runScript", desc := "()I" } : Jvm.MethodName) prog_14_method_109_code (2 : Nat) (Option.some Jvm.ClassFile.FieldType.int)) ∈ lw_all := lw_g (lw_at lw_m10 177 rfl) rfl
theorem q2450 : (Jvm.Cond.methodLink "FlashZonesModel" (296 : Nat) ({ cls := "FlashZonesModel", name := "goesOn", desc := "()V" } : Jvm.MethodName)) ∈ lw_all := lw_g (lw_at lw_m10 178 rfl) rfl
theorem q2451 : (Jvm.Cond.privateMethod ({ cls := "FlashZonesModel", name := "goesOn", desc := "()V" } : Jvm.MethodName)) ∈ lw_tbl := lw_at lw_m10 179 rfl
theorem q2452 : (Jvm.Cond.instanceMethod ({ cls := "FlashZonesModel", name := "goesOn", desc := "()V" } : Jvm.MethodName)) ∈ lw_all := lw_g (lw_at lw_m10 180 rfl) rfl
theorem q2453 : (Jvm.Cond.code ({ cls := "FlashZonesModel", name := "goesOn", desc := "()V" } : Jvm.MethodName) prog_14_method_103_code (1 : Nat) (Option.none : Option Jvm.ClassFile.FieldType)) ∈ lw_all := lw_g (lw_at lw_m10 181 rfl) rfl
theorem q2454 : (Jvm.Cond.methodLink "FlashZonesModel" (271 : Nat) ({ cls := "FlashZonesModel", name := "see", desc := "()I" } : Jvm.MethodName)) ∈ lw_all := lw_g (lw_at lw_m10 182 rfl) rfl
theorem q2455 : (Jvm.Cond.privateMethod ({ cls := "FlashZonesModel", name := "see", desc := "()I" } : Jvm.MethodName)) ∈ lw_tbl := lw_at lw_m10 183 rfl
theorem q2456 : (Jvm.Cond.instanceMethod ({ cls := "FlashZonesModel", name := "see", desc := "()I" } : Jvm.MethodName)) ∈ lw_all := lw_g (lw_at lw_m10 184 rfl) rfl
theorem q2457 : (Jvm.Cond.code ({ cls := "FlashZonesModel", name := "see", desc := "()I" } : Jvm.MethodName) prog_14_method_100_code (1 : Nat) (Option.some Jvm.ClassFile.FieldType.int)) ∈ lw_all := lw_g (lw_at lw_m10 185 rfl) rfl
theorem q2458 : (Jvm.Cond.methodLink "FlashZonesModel" (277 : Nat) ({ cls := "FlashZonesModel", name := "isSmall", desc := "()Z" } : Jvm.MethodName)) ∈ lw_all := lw_g (lw_at lw_m10 186 rfl) rfl
theorem q2459 : (Jvm.Cond.privateMethod ({ cls := "FlashZonesModel", name := "isSmall", desc := "()Z" } : Jvm.MethodName)) ∈ lw_tbl := lw_at lw_m10 187 rfl
theorem q2460 : (Jvm.Cond.instanceMethod ({ cls := "FlashZonesModel", name := "isSmall", desc := "()Z" } : Jvm.MethodName)) ∈ lw_all := lw_g (lw_at lw_m10 188 rfl) rfl
theorem q2461 : (Jvm.Cond.code ({ cls := "FlashZonesModel", name := "isSmall", desc := "()Z" } : Jvm.MethodName) prog_14_method_101_code (1 : Nat) (Option.some Jvm.ClassFile.FieldType.boolean)) ∈ lw_all := lw_g (lw_at lw_m10 189 rfl) rfl
theorem q2462 : (Jvm.Cond.methodLink "FlashZonesModel" (280 : Nat) ({ cls := "FlashZonesModel", name := "isDigit", desc := "()Z" } : Jvm.MethodName)) ∈ lw_all := lw_g (lw_at lw_m10 190 rfl) rfl
theorem q2463 : (Jvm.Cond.privateMethod ({ cls := "FlashZonesModel", name := "isDigit", desc := "()Z" } : Jvm.MethodName)) ∈ lw_tbl := lw_at lw_m10 191 rfl
theorem q2464 : (Jvm.Cond.instanceMethod ({ cls := "FlashZonesModel", name := "isDigit", desc := "()Z" } : Jvm.MethodName)) ∈ lw_all := lw_g (lw_at lw_m10 192 rfl) rfl
theorem q2465 : (Jvm.Cond.code ({ cls := "FlashZonesModel", name := "isDigit", desc := "()Z" } : Jvm.MethodName) prog_14_method_102_code (1 : Nat) (Option.some Jvm.ClassFile.FieldType.boolean)) ∈ lw_all := lw_g (lw_at lw_m10 193 rfl) rfl
theorem q2466 : (Jvm.Cond.methodLink "FlashZonesModel" (308 : Nat) ({ cls := "FlashZonesModel", name := "readCommand", desc := "()V" } : Jvm.MethodName)) ∈ lw_all := lw_g (lw_at lw_m10 194 rfl) rfl
theorem q2467 : (Jvm.Cond.privateMethod ({ cls := "FlashZonesModel", name := "readCommand", desc := "()V" } : Jvm.MethodName)) ∈ lw_tbl := lw_at lw_m10 195 rfl
theorem q2468 : (Jvm.Cond.instanceMethod ({ cls := "FlashZonesModel", name := "readCommand", desc := "()V" } : Jvm.MethodName)) ∈ lw_all := lw_g (lw_at lw_m10 196 rfl) rfl
theorem q2469 : (Jvm.Cond.code ({ cls := "FlashZonesModel", name := "readCommand", desc := "()V" } : Jvm.MethodName) prog_14_method_107_code (3 : Nat) (Option.none : Option Jvm.ClassFile.FieldType)) ∈ lw_all := lw_g (lw_at lw_m10 197 rfl) rfl
theorem q2470 : (Jvm.Cond.methodLink "FlashZonesModel" (299 : Nat) ({ cls := "FlashZonesModel", name := "wordHere", desc := "()I" } : Jvm.MethodName)) ∈ lw_all := lw_g (lw_at lw_m10 198 rfl) rfl
theorem q2471 : (Jvm.Cond.privateMethod ({ cls := "FlashZonesModel", name := "wordHere", desc := "()I" } : Jvm.MethodName)) ∈ lw_tbl := lw_at lw_m10 199 rfl
theorem q2472 : (Jvm.Cond.instanceMethod ({ cls := "FlashZonesModel", name := "wordHere", desc := "()I" } : Jvm.MethodName)) ∈ lw_all := lw_g (lw_at lw_m10 200 rfl) rfl
theorem q2473 : (Jvm.Cond.code ({ cls := "FlashZonesModel", name := "wordHere", desc := "()I" } : Jvm.MethodName) prog_14_method_105_code (5 : Nat) (Option.some Jvm.ClassFile.FieldType.int)) ∈ lw_all := lw_g (lw_at lw_m10 201 rfl) rfl
theorem q2474 : (Jvm.Cond.methodLink "FlashZonesModel" (292 : Nat) ({ cls := "FlashZonesModel", name := "must", desc := "(ZI)V" } : Jvm.MethodName)) ∈ lw_all := lw_g (lw_at lw_m10 202 rfl) rfl
theorem q2475 : (Jvm.Cond.privateMethod ({ cls := "FlashZonesModel", name := "must", desc := "(ZI)V" } : Jvm.MethodName)) ∈ lw_tbl := lw_at lw_m10 203 rfl
theorem q2476 : (Jvm.Cond.instanceMethod ({ cls := "FlashZonesModel", name := "must", desc := "(ZI)V" } : Jvm.MethodName)) ∈ lw_all := lw_g (lw_at lw_m10 204 rfl) rfl
theorem q2477 : (Jvm.Cond.code ({ cls := "FlashZonesModel", name := "must", desc := "(ZI)V" } : Jvm.MethodName) prog_14_method_104_code (3 : Nat) (Option.none : Option Jvm.ClassFile.FieldType)) ∈ lw_all := lw_g (lw_at lw_m10 205 rfl) rfl
theorem q2478 : (Jvm.Cond.methodLink "FlashZonesModel" (305 : Nat) ({ cls := "FlashZonesModel", name := "reads", desc := "(II)I" } : Jvm.MethodName)) ∈ lw_all := lw_g (lw_at lw_m10 206 rfl) rfl
theorem q2479 : (Jvm.Cond.privateMethod ({ cls := "FlashZonesModel", name := "reads", desc := "(II)I" } : Jvm.MethodName)) ∈ lw_tbl := lw_at lw_m10 207 rfl
theorem q2480 : (Jvm.Cond.instanceMethod ({ cls := "FlashZonesModel", name := "reads", desc := "(II)I" } : Jvm.MethodName)) ∈ lw_all := lw_g (lw_at lw_m10 208 rfl) rfl
theorem q2481 : (Jvm.Cond.code ({ cls := "FlashZonesModel", name := "reads", desc := "(II)I" } : Jvm.MethodName) prog_14_method_106_code (4 : Nat) (Option.some Jvm.ClassFile.FieldType.int)) ∈ lw_all := lw_g (lw_at lw_m10 209 rfl) rfl
theorem q2482 : (Jvm.Cond.methodLink "FlashZonesModel" (311 : Nat) ({ cls := "FlashZonesModel", name := "isDone", desc := "(I)Z" } : Jvm.MethodName)) ∈ lw_all := lw_g (lw_at lw_m10 210 rfl) rfl
theorem q2483 : (Jvm.Cond.privateMethod ({ cls := "FlashZonesModel", name := "isDone", desc := "(I)Z" } : Jvm.MethodName)) ∈ lw_tbl := lw_at lw_m10 211 rfl
theorem q2484 : (Jvm.Cond.instanceMethod ({ cls := "FlashZonesModel", name := "isDone", desc := "(I)Z" } : Jvm.MethodName)) ∈ lw_all := lw_g (lw_at lw_m10 212 rfl) rfl
theorem q2485 : (Jvm.Cond.code ({ cls := "FlashZonesModel", name := "isDone", desc := "(I)Z" } : Jvm.MethodName) prog_14_method_108_code (3 : Nat) (Option.some Jvm.ClassFile.FieldType.boolean)) ∈ lw_all := lw_g (lw_at lw_m10 213 rfl) rfl
theorem q2487 : (Jvm.Cond.instanceMethod ({ cls := "FlashZonesModel", name := "errorCode", desc := "()I" } : Jvm.MethodName)) ∈ lw_all := lw_g (lw_at lw_m10 215 rfl) rfl
theorem q2488 : (Jvm.Cond.selects "FlashZonesModel" ({ cls := "FlashZonesModel", name := "errorCode", desc := "()I" } : Jvm.MethodName) ({ cls := "FlashZonesModel", name := "errorCode", desc := "()I" } : Jvm.MethodName)) ∈ lw_all := lw_g (lw_at lw_m10 216 rfl) rfl
theorem q2489 : (Jvm.Cond.code ({ cls := "FlashZonesModel", name := "errorCode", desc := "()I" } : Jvm.MethodName) prog_14_method_110_code (1 : Nat) (Option.some Jvm.ClassFile.FieldType.int)) ∈ lw_all := lw_g (lw_at lw_m10 217 rfl) rfl
theorem q2491 : (Jvm.Cond.instanceMethod ({ cls := "FlashZonesModel", name := "errorPosition", desc := "()I" } : Jvm.MethodName)) ∈ lw_all := lw_g (lw_at lw_m10 219 rfl) rfl
theorem q2492 : (Jvm.Cond.selects "FlashZonesModel" ({ cls := "FlashZonesModel", name := "errorPosition", desc := "()I" } : Jvm.MethodName) ({ cls := "FlashZonesModel", name := "errorPosition", desc := "()I" } : Jvm.MethodName)) ∈ lw_all := lw_g (lw_at lw_m10 220 rfl) rfl
theorem q2493 : (Jvm.Cond.code ({ cls := "FlashZonesModel", name := "errorPosition", desc := "()I" } : Jvm.MethodName) prog_14_method_111_code (1 : Nat) (Option.some Jvm.ClassFile.FieldType.int)) ∈ lw_all := lw_g (lw_at lw_m10 221 rfl) rfl
theorem q2495 : (Jvm.Cond.instanceMethod ({ cls := "FlashZonesModel", name := "show", desc := "(I)I" } : Jvm.MethodName)) ∈ lw_all := lw_g (lw_at lw_m10 223 rfl) rfl
theorem q2496 : (Jvm.Cond.selects "FlashZonesModel" ({ cls := "FlashZonesModel", name := "show", desc := "(I)I" } : Jvm.MethodName) ({ cls := "FlashZonesModel", name := "show", desc := "(I)I" } : Jvm.MethodName)) ∈ lw_all := lw_g (lw_at lw_m10 224 rfl) rfl
theorem q2497 : (Jvm.Cond.code ({ cls := "FlashZonesModel", name := "show", desc := "(I)I" } : Jvm.MethodName) prog_14_method_116_code (2 : Nat) (Option.some Jvm.ClassFile.FieldType.int)) ∈ lw_all := lw_g (lw_at lw_m10 225 rfl) rfl
theorem q2498 : (Jvm.Cond.methodLink "FlashZonesModel" (320 : Nat) ({ cls := "FlashZonesModel", name := "printsNumber", desc := "(I)V" } : Jvm.MethodName)) ∈ lw_all := lw_g (lw_at lw_m10 226 rfl) rfl
theorem q2499 : (Jvm.Cond.privateMethod ({ cls := "FlashZonesModel", name := "printsNumber", desc := "(I)V" } : Jvm.MethodName)) ∈ lw_tbl := lw_at lw_m10 227 rfl
theorem q2500 : (Jvm.Cond.instanceMethod ({ cls := "FlashZonesModel", name := "printsNumber", desc := "(I)V" } : Jvm.MethodName)) ∈ lw_all := lw_g (lw_at lw_m10 228 rfl) rfl
theorem q2501 : (Jvm.Cond.code ({ cls := "FlashZonesModel", name := "printsNumber", desc := "(I)V" } : Jvm.MethodName) prog_14_method_113_code (3 : Nat) (Option.none : Option Jvm.ClassFile.FieldType)) ∈ lw_all := lw_g (lw_at lw_m10 229 rfl) rfl
theorem q2502 : (Jvm.Cond.methodLink "FlashZonesModel" (317 : Nat) ({ cls := "FlashZonesModel", name := "prints", desc := "(I)V" } : Jvm.MethodName)) ∈ lw_all := lw_g (lw_at lw_m10 230 rfl) rfl
theorem q2503 : (Jvm.Cond.privateMethod ({ cls := "FlashZonesModel", name := "prints", desc := "(I)V" } : Jvm.MethodName)) ∈ lw_tbl := lw_at lw_m10 231 rfl
theorem q2504 : (Jvm.Cond.instanceMethod ({ cls := "FlashZonesModel", name := "prints", desc := "(I)V" } : Jvm.MethodName)) ∈ lw_all := lw_g (lw_at lw_m10 232 rfl) rfl
theorem q2505 : (Jvm.Cond.code ({ cls := "FlashZonesModel", name := "prints", desc := "(I)V" } : Jvm.MethodName) prog_14_method_112_code (2 : Nat) (Option.none : Option Jvm.ClassFile.FieldType)) ∈ lw_all := lw_g (lw_at lw_m10 233 rfl) rfl
theorem q2506 : (Jvm.Cond.methodLink "FlashZonesModel" (323 : Nat) ({ cls := "FlashZonesModel", name := "printsWord", desc := "(I)V" } : Jvm.MethodName)) ∈ lw_all := lw_g (lw_at lw_m10 234 rfl) rfl
theorem q2507 : (Jvm.Cond.privateMethod ({ cls := "FlashZonesModel", name := "printsWord", desc := "(I)V" } : Jvm.MethodName)) ∈ lw_tbl := lw_at lw_m10 235 rfl
theorem q2508 : (Jvm.Cond.instanceMethod ({ cls := "FlashZonesModel", name := "printsWord", desc := "(I)V" } : Jvm.MethodName)) ∈ lw_all := lw_g (lw_at lw_m10 236 rfl) rfl
theorem q2509 : (Jvm.Cond.code ({ cls := "FlashZonesModel", name := "printsWord", desc := "(I)V" } : Jvm.MethodName) prog_14_method_114_code (4 : Nat) (Option.none : Option Jvm.ClassFile.FieldType)) ∈ lw_all := lw_g (lw_at lw_m10 237 rfl) rfl
theorem q2510 : (Jvm.Cond.methodLink "FlashZonesModel" (326 : Nat) ({ cls := "FlashZonesModel", name := "printsUnits", desc := "(I)V" } : Jvm.MethodName)) ∈ lw_all := lw_g (lw_at lw_m10 238 rfl) rfl
theorem q2511 : (Jvm.Cond.privateMethod ({ cls := "FlashZonesModel", name := "printsUnits", desc := "(I)V" } : Jvm.MethodName)) ∈ lw_tbl := lw_at lw_m10 239 rfl
theorem q2512 : (Jvm.Cond.instanceMethod ({ cls := "FlashZonesModel", name := "printsUnits", desc := "(I)V" } : Jvm.MethodName)) ∈ lw_all := lw_g (lw_at lw_m11 0 rfl) rfl
theorem q2513 : (Jvm.Cond.code ({ cls := "FlashZonesModel", name := "printsUnits", desc := "(I)V" } : Jvm.MethodName) prog_14_method_115_code (5 : Nat) (Option.none : Option Jvm.ClassFile.FieldType)) ∈ lw_all := lw_g (lw_at lw_m11 1 rfl) rfl
theorem q2515 : (Jvm.Cond.instanceMethod ({ cls := "FlashZonesModel", name := "writeHistory", desc := "()I" } : Jvm.MethodName)) ∈ lw_all := lw_g (lw_at lw_m11 3 rfl) rfl
theorem q2516 : (Jvm.Cond.selects "FlashZonesModel" ({ cls := "FlashZonesModel", name := "writeHistory", desc := "()I" } : Jvm.MethodName) ({ cls := "FlashZonesModel", name := "writeHistory", desc := "()I" } : Jvm.MethodName)) ∈ lw_all := lw_g (lw_at lw_m11 4 rfl) rfl
theorem q2517 : (Jvm.Cond.code ({ cls := "FlashZonesModel", name := "writeHistory", desc := "()I" } : Jvm.MethodName) prog_14_method_117_code (3 : Nat) (Option.some Jvm.ClassFile.FieldType.int)) ∈ lw_all := lw_g (lw_at lw_m11 5 rfl) rfl
theorem q2519 : (Jvm.Cond.instanceMethod ({ cls := "FlashZonesModel", name := "output", desc := "(I)I" } : Jvm.MethodName)) ∈ lw_all := lw_g (lw_at lw_m11 7 rfl) rfl
theorem q2520 : (Jvm.Cond.selects "FlashZonesModel" ({ cls := "FlashZonesModel", name := "output", desc := "(I)I" } : Jvm.MethodName) ({ cls := "FlashZonesModel", name := "output", desc := "(I)I" } : Jvm.MethodName)) ∈ lw_all := lw_g (lw_at lw_m11 8 rfl) rfl
theorem q2521 : (Jvm.Cond.code ({ cls := "FlashZonesModel", name := "output", desc := "(I)I" } : Jvm.MethodName) prog_14_method_118_code (2 : Nat) (Option.some Jvm.ClassFile.FieldType.int)) ∈ lw_all := lw_g (lw_at lw_m11 9 rfl) rfl
theorem q2523 : (Jvm.Cond.instanceMethod ({ cls := "FlashZonesModel", name := "undo", desc := "()I" } : Jvm.MethodName)) ∈ lw_all := lw_g (lw_at lw_m11 11 rfl) rfl
theorem q2524 : (Jvm.Cond.selects "FlashZonesModel" ({ cls := "FlashZonesModel", name := "undo", desc := "()I" } : Jvm.MethodName) ({ cls := "FlashZonesModel", name := "undo", desc := "()I" } : Jvm.MethodName)) ∈ lw_all := lw_g (lw_at lw_m11 12 rfl) rfl
theorem q2525 : (Jvm.Cond.code ({ cls := "FlashZonesModel", name := "undo", desc := "()I" } : Jvm.MethodName) prog_14_method_119_code (1 : Nat) (Option.some Jvm.ClassFile.FieldType.int)) ∈ lw_all := lw_g (lw_at lw_m11 13 rfl) rfl
theorem q2527 : (Jvm.Cond.instanceMethod ({ cls := "FlashZonesModel", name := "save", desc := "(I)V" } : Jvm.MethodName)) ∈ lw_all := lw_g (lw_at lw_m11 15 rfl) rfl
theorem q2528 : (Jvm.Cond.selects "FlashZonesModel" ({ cls := "FlashZonesModel", name := "save", desc := "(I)V" } : Jvm.MethodName) ({ cls := "FlashZonesModel", name := "save", desc := "(I)V" } : Jvm.MethodName)) ∈ lw_all := lw_g (lw_at lw_m11 16 rfl) rfl
theorem q2529 : (Jvm.Cond.code ({ cls := "FlashZonesModel", name := "save", desc := "(I)V" } : Jvm.MethodName) prog_14_method_120_code (2 : Nat) (Option.none : Option Jvm.ClassFile.FieldType)) ∈ lw_all := lw_g (lw_at lw_m11 17 rfl) rfl
theorem q2531 : (Jvm.Cond.instanceMethod ({ cls := "FlashZonesModel", name := "restore", desc := "(I)V" } : Jvm.MethodName)) ∈ lw_all := lw_g (lw_at lw_m11 19 rfl) rfl
theorem q2532 : (Jvm.Cond.selects "FlashZonesModel" ({ cls := "FlashZonesModel", name := "restore", desc := "(I)V" } : Jvm.MethodName) ({ cls := "FlashZonesModel", name := "restore", desc := "(I)V" } : Jvm.MethodName)) ∈ lw_all := lw_g (lw_at lw_m11 20 rfl) rfl
theorem q2533 : (Jvm.Cond.code ({ cls := "FlashZonesModel", name := "restore", desc := "(I)V" } : Jvm.MethodName) prog_14_method_121_code (2 : Nat) (Option.none : Option Jvm.ClassFile.FieldType)) ∈ lw_all := lw_g (lw_at lw_m11 21 rfl) rfl
theorem q2564 : (Jvm.Cond.castable "FlashZonesModel" "java/lang/Object") ∈ lw_tbl := lw_at lw_m11 52 rfl
theorem in_X5 : ∀ w ∈ wsX50, w ∈ lw_all := lw_in wsX50 [2019, 2021, 2023, 2025, 2027, 2029, 2031, 2033, 2035, 2037, 2039, 2041, 2043, 2045, 2047, 2049, 2051, 2053, 2055, 2057, 2059, 2061, 2063, 2065, 2067] (by decide +kernel) (by decide +kernel)
