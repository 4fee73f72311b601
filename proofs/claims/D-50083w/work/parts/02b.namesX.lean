/-! FlashZones -/
set_option maxRecDepth 100000
def RX1 : String := "FlashZones"
def TX1 : u_T := fun k => match k with
  | 0 => ("FlashZones", "now", "LFlashZones$Book;", false)
  | 1 => ("FlashZones", "past", "Ljava/util/ArrayDeque;", true)
  | 2 => ("FlashZones", "slots", "[LFlashZones$Book;", true)
  | 3 => ("FlashZones", "accounts", "[I", true)
  | 4 => ("FlashZones", "output", "Ljava/lang/StringBuilder;", true)
  | 5 => ("FlashZones", "text", "[B", true)
  | 6 => ("FlashZones", "textLength", "I", false)
  | 7 => ("FlashZones", "errorCode", "I", false)
  | _ => ("FlashZones", "errorPosition", "I", false)
def tyX1 : Nat → FieldType := fun k => match k with
  | 0 => .object "FlashZones$Book"
  | 1 => .object "java/util/ArrayDeque"
  | 2 => .array (.object "FlashZones$Book")
  | 3 => .array .int
  | 4 => .object "java/lang/StringBuilder"
  | 5 => .array .byte
  | 6 => .int
  | 7 => .int
  | _ => .int
abbrev wsX10 : List Cond := u_ws RX1 TX1 9
theorem nmX1 : ∀ a, a < 9 → ∀ b, b < 9 → a ≠ b → (TX1 a).2.1 ≠ (TX1 b).2.1 := by decide +kernel
theorem tyX1_ok : ∀ k, k < 9 → parseFieldDescriptor (TX1 k).2.2.1 = some (tyX1 k) := by decide +kernel
abbrev cX1_init : ByteArray := prog_1_method_7_code
def yX1_init : MethodName := ⟨RX1, "<init>", "()V"⟩
def dkwX1_init_3 : List UInt8 := [177]
abbrev dktX1_init_3 : List UInt8 := dkwX1_init_3 ++ []
def dkwX1_init_2 : List UInt8 := [187, 0, 50, 89, 183, 0, 52, 181, 0, 53, 42, 17, 2, 188, 188, 8, 181, 0, 57, 42, 2, 181, 0, 61]
abbrev dktX1_init_2 : List UInt8 := dkwX1_init_2 ++ dktX1_init_3
def dkwX1_init_1 : List UInt8 := [183, 0, 35, 181, 0, 38, 42, 5, 189, 0, 24, 181, 0, 42, 42, 16, 8, 188, 10, 181, 0, 46, 42]
abbrev dktX1_init_1 : List UInt8 := dkwX1_init_1 ++ dktX1_init_2
def dkwX1_init_0 : List UInt8 := [42, 183, 0, 19, 42, 187, 0, 24, 89, 183, 0, 26, 181, 0, 27, 42, 187, 0, 33, 89, 16, 8]
abbrev dktX1_init_0 : List UInt8 := dkwX1_init_0 ++ dktX1_init_1
theorem dksX1_init_0 : cX1_init.data.toList.drop 0 = dktX1_init_0 := by decide +kernel
theorem dksX1_init_1 : cX1_init.data.toList.drop 22 = dktX1_init_1 := dk_seg dksX1_init_0 22 rfl rfl
theorem dksX1_init_2 : cX1_init.data.toList.drop 45 = dktX1_init_2 := dk_seg dksX1_init_1 23 rfl rfl
theorem dksX1_init_3 : cX1_init.data.toList.drop 69 = dktX1_init_3 := dk_seg dksX1_init_2 24 rfl rfl
theorem dX1_init_0 : decode cX1_init 0 = .ok (.aload_n 0, 1) := dk_42 (dk_at dksX1_init_0 0 rfl rfl)
theorem dX1_init_1 : decode cX1_init 1 = .ok (.invokespecial 19, 3) := dk_183 0 19 (dk_at dksX1_init_0 1 rfl rfl)
theorem dX1_init_4 : decode cX1_init 4 = .ok (.aload_n 0, 1) := dk_42 (dk_at dksX1_init_0 4 rfl rfl)
theorem dX1_init_5 : decode cX1_init 5 = .ok (.new 24, 3) := dk_187 0 24 (dk_at dksX1_init_0 5 rfl rfl)
theorem dX1_init_8 : decode cX1_init 8 = .ok (.dup, 1) := dk_89 (dk_at dksX1_init_0 8 rfl rfl)
theorem dX1_init_9 : decode cX1_init 9 = .ok (.invokespecial 26, 3) := dk_183 0 26 (dk_at dksX1_init_0 9 rfl rfl)
theorem dX1_init_12 : decode cX1_init 12 = .ok (.putfield 27, 3) := dk_181 0 27 (dk_at dksX1_init_0 12 rfl rfl)
theorem dX1_init_15 : decode cX1_init 15 = .ok (.aload_n 0, 1) := dk_42 (dk_at dksX1_init_0 15 rfl rfl)
theorem dX1_init_16 : decode cX1_init 16 = .ok (.new 33, 3) := dk_187 0 33 (dk_at dksX1_init_0 16 rfl rfl)
theorem dX1_init_19 : decode cX1_init 19 = .ok (.dup, 1) := dk_89 (dk_at dksX1_init_0 19 rfl rfl)
theorem dX1_init_20 : decode cX1_init 20 = .ok (.bipush 8, 2) := dk_16 8 (dk_at dksX1_init_0 20 rfl rfl)
theorem dX1_init_22 : decode cX1_init 22 = .ok (.invokespecial 35, 3) := dk_183 0 35 (dk_at dksX1_init_1 0 rfl rfl)
theorem dX1_init_25 : decode cX1_init 25 = .ok (.putfield 38, 3) := dk_181 0 38 (dk_at dksX1_init_1 3 rfl rfl)
theorem dX1_init_28 : decode cX1_init 28 = .ok (.aload_n 0, 1) := dk_42 (dk_at dksX1_init_1 6 rfl rfl)
theorem dX1_init_29 : decode cX1_init 29 = .ok (.iconst 2, 1) := dk_5 (dk_at dksX1_init_1 7 rfl rfl)
theorem dX1_init_30 : decode cX1_init 30 = .ok (.anewarray 24, 3) := dk_189 0 24 (dk_at dksX1_init_1 8 rfl rfl)
theorem dX1_init_33 : decode cX1_init 33 = .ok (.putfield 42, 3) := dk_181 0 42 (dk_at dksX1_init_1 11 rfl rfl)
theorem dX1_init_36 : decode cX1_init 36 = .ok (.aload_n 0, 1) := dk_42 (dk_at dksX1_init_1 14 rfl rfl)
theorem dX1_init_37 : decode cX1_init 37 = .ok (.bipush 8, 2) := dk_16 8 (dk_at dksX1_init_1 15 rfl rfl)
theorem dX1_init_39 : decode cX1_init 39 = .ok (.newarray .int, 2) := dk_188_10 (dk_at dksX1_init_1 17 rfl rfl)
theorem dX1_init_41 : decode cX1_init 41 = .ok (.putfield 46, 3) := dk_181 0 46 (dk_at dksX1_init_1 19 rfl rfl)
theorem dX1_init_44 : decode cX1_init 44 = .ok (.aload_n 0, 1) := dk_42 (dk_at dksX1_init_1 22 rfl rfl)
theorem dX1_init_45 : decode cX1_init 45 = .ok (.new 50, 3) := dk_187 0 50 (dk_at dksX1_init_2 0 rfl rfl)
theorem dX1_init_48 : decode cX1_init 48 = .ok (.dup, 1) := dk_89 (dk_at dksX1_init_2 3 rfl rfl)
theorem dX1_init_49 : decode cX1_init 49 = .ok (.invokespecial 52, 3) := dk_183 0 52 (dk_at dksX1_init_2 4 rfl rfl)
theorem dX1_init_52 : decode cX1_init 52 = .ok (.putfield 53, 3) := dk_181 0 53 (dk_at dksX1_init_2 7 rfl rfl)
theorem dX1_init_55 : decode cX1_init 55 = .ok (.aload_n 0, 1) := dk_42 (dk_at dksX1_init_2 10 rfl rfl)
theorem dX1_init_56 : decode cX1_init 56 = .ok (.sipush 700, 3) := dk_17 2 188 (dk_at dksX1_init_2 11 rfl rfl)
theorem dX1_init_59 : decode cX1_init 59 = .ok (.newarray .byte, 2) := dk_188_8 (dk_at dksX1_init_2 14 rfl rfl)
theorem dX1_init_61 : decode cX1_init 61 = .ok (.putfield 57, 3) := dk_181 0 57 (dk_at dksX1_init_2 16 rfl rfl)
theorem dX1_init_64 : decode cX1_init 64 = .ok (.aload_n 0, 1) := dk_42 (dk_at dksX1_init_2 19 rfl rfl)
theorem dX1_init_65 : decode cX1_init 65 = .ok (.iconst (-1), 1) := dk_2 (dk_at dksX1_init_2 20 rfl rfl)
theorem dX1_init_66 : decode cX1_init 66 = .ok (.putfield 61, 3) := dk_181 0 61 (dk_at dksX1_init_2 21 rfl rfl)
theorem dX1_init_69 : decode cX1_init 69 = .ok (.return_, 1) := dk_177 (dk_at dksX1_init_3 0 rfl rfl)
abbrev cX1_hindsight : ByteArray := prog_1_method_19_code
def yX1_hindsight : MethodName := ⟨RX1, "hindsight", "()I"⟩
def dkwX1_hindsight_1 : List UInt8 := [44, 182, 0, 170, 154, 0, 6, 167, 0, 8, 29, 60, 25, 4, 77, 132, 3, 1, 167, 255, 224, 27, 172]
abbrev dktX1_hindsight_1 : List UInt8 := dkwX1_hindsight_1 ++ []
def dkwX1_hindsight_0 : List UInt8 := [3, 60, 42, 3, 182, 0, 163, 77, 4, 62, 29, 8, 162, 0, 33, 42, 29, 182, 0, 163, 58, 4, 25, 4]
abbrev dktX1_hindsight_0 : List UInt8 := dkwX1_hindsight_0 ++ dktX1_hindsight_1
theorem dksX1_hindsight_0 : cX1_hindsight.data.toList.drop 0 = dktX1_hindsight_0 := by decide +kernel
theorem dksX1_hindsight_1 : cX1_hindsight.data.toList.drop 24 = dktX1_hindsight_1 := dk_seg dksX1_hindsight_0 24 rfl rfl
theorem dX1_hindsight_0 : decode cX1_hindsight 0 = .ok (.iconst 0, 1) := dk_3 (dk_at dksX1_hindsight_0 0 rfl rfl)
theorem dX1_hindsight_1 : decode cX1_hindsight 1 = .ok (.istore_n 1, 1) := dk_60 (dk_at dksX1_hindsight_0 1 rfl rfl)
theorem dX1_hindsight_2 : decode cX1_hindsight 2 = .ok (.aload_n 0, 1) := dk_42 (dk_at dksX1_hindsight_0 2 rfl rfl)
theorem dX1_hindsight_3 : decode cX1_hindsight 3 = .ok (.iconst 0, 1) := dk_3 (dk_at dksX1_hindsight_0 3 rfl rfl)
theorem dX1_hindsight_4 : decode cX1_hindsight 4 = .ok (.invokevirtual 163, 3) := dk_182 0 163 (dk_at dksX1_hindsight_0 4 rfl rfl)
theorem dX1_hindsight_7 : decode cX1_hindsight 7 = .ok (.astore_n 2, 1) := dk_77 (dk_at dksX1_hindsight_0 7 rfl rfl)
theorem dX1_hindsight_8 : decode cX1_hindsight 8 = .ok (.iconst 1, 1) := dk_4 (dk_at dksX1_hindsight_0 8 rfl rfl)
theorem dX1_hindsight_9 : decode cX1_hindsight 9 = .ok (.istore_n 3, 1) := dk_62 (dk_at dksX1_hindsight_0 9 rfl rfl)
theorem dX1_hindsight_10 : decode cX1_hindsight 10 = .ok (.iload_n 3, 1) := dk_29 (dk_at dksX1_hindsight_0 10 rfl rfl)
theorem dX1_hindsight_11 : decode cX1_hindsight 11 = .ok (.iconst 5, 1) := dk_8 (dk_at dksX1_hindsight_0 11 rfl rfl)
theorem dX1_hindsight_12 : decode cX1_hindsight 12 = .ok (.if_icmp .ge 33, 3) := dk_162 0 33 (dk_at dksX1_hindsight_0 12 rfl rfl)
theorem dX1_hindsight_15 : decode cX1_hindsight 15 = .ok (.aload_n 0, 1) := dk_42 (dk_at dksX1_hindsight_0 15 rfl rfl)
theorem dX1_hindsight_16 : decode cX1_hindsight 16 = .ok (.iload_n 3, 1) := dk_29 (dk_at dksX1_hindsight_0 16 rfl rfl)
theorem dX1_hindsight_17 : decode cX1_hindsight 17 = .ok (.invokevirtual 163, 3) := dk_182 0 163 (dk_at dksX1_hindsight_0 17 rfl rfl)
theorem dX1_hindsight_20 : decode cX1_hindsight 20 = .ok (.astore 4, 2) := dk_58 4 (dk_at dksX1_hindsight_0 20 rfl rfl)
theorem dX1_hindsight_22 : decode cX1_hindsight 22 = .ok (.aload 4, 2) := dk_25 4 (dk_at dksX1_hindsight_0 22 rfl rfl)
theorem dX1_hindsight_24 : decode cX1_hindsight 24 = .ok (.aload_n 2, 1) := dk_44 (dk_at dksX1_hindsight_1 0 rfl rfl)
theorem dX1_hindsight_25 : decode cX1_hindsight 25 = .ok (.invokevirtual 170, 3) := dk_182 0 170 (dk_at dksX1_hindsight_1 1 rfl rfl)
theorem dX1_hindsight_28 : decode cX1_hindsight 28 = .ok (.ifCond .ne 6, 3) := dk_154 0 6 (dk_at dksX1_hindsight_1 4 rfl rfl)
theorem dX1_hindsight_31 : decode cX1_hindsight 31 = .ok (.goto 8, 3) := dk_167 0 8 (dk_at dksX1_hindsight_1 7 rfl rfl)
theorem dX1_hindsight_34 : decode cX1_hindsight 34 = .ok (.iload_n 3, 1) := dk_29 (dk_at dksX1_hindsight_1 10 rfl rfl)
theorem dX1_hindsight_35 : decode cX1_hindsight 35 = .ok (.istore_n 1, 1) := dk_60 (dk_at dksX1_hindsight_1 11 rfl rfl)
theorem dX1_hindsight_36 : decode cX1_hindsight 36 = .ok (.aload 4, 2) := dk_25 4 (dk_at dksX1_hindsight_1 12 rfl rfl)
theorem dX1_hindsight_38 : decode cX1_hindsight 38 = .ok (.astore_n 2, 1) := dk_77 (dk_at dksX1_hindsight_1 14 rfl rfl)
theorem dX1_hindsight_39 : decode cX1_hindsight 39 = .ok (.iinc 3 1, 3) := dk_132 3 1 (dk_at dksX1_hindsight_1 15 rfl rfl)
theorem dX1_hindsight_42 : decode cX1_hindsight 42 = .ok (.goto (-32), 3) := dk_167 255 224 (dk_at dksX1_hindsight_1 18 rfl rfl)
theorem dX1_hindsight_45 : decode cX1_hindsight 45 = .ok (.iload_n 1, 1) := dk_27 (dk_at dksX1_hindsight_1 21 rfl rfl)
theorem dX1_hindsight_46 : decode cX1_hindsight 46 = .ok (.ireturn, 1) := dk_172 (dk_at dksX1_hindsight_1 22 rfl rfl)
abbrev cX1_retold : ByteArray := prog_1_method_17_code
def yX1_retold : MethodName := ⟨RX1, "retold", "(I)LFlashZones$Retold;"⟩
def dkwX1_retold_0 : List UInt8 := [187, 0, 155, 89, 42, 180, 0, 27, 27, 42, 182, 0, 157, 183, 0, 160, 176]
abbrev dktX1_retold_0 : List UInt8 := dkwX1_retold_0 ++ []
theorem dksX1_retold_0 : cX1_retold.data.toList.drop 0 = dktX1_retold_0 := by decide +kernel
theorem dX1_retold_0 : decode cX1_retold 0 = .ok (.new 155, 3) := dk_187 0 155 (dk_at dksX1_retold_0 0 rfl rfl)
theorem dX1_retold_3 : decode cX1_retold 3 = .ok (.dup, 1) := dk_89 (dk_at dksX1_retold_0 3 rfl rfl)
theorem dX1_retold_4 : decode cX1_retold 4 = .ok (.aload_n 0, 1) := dk_42 (dk_at dksX1_retold_0 4 rfl rfl)
theorem dX1_retold_5 : decode cX1_retold 5 = .ok (.getfield 27, 3) := dk_180 0 27 (dk_at dksX1_retold_0 5 rfl rfl)
theorem dX1_retold_8 : decode cX1_retold 8 = .ok (.iload_n 1, 1) := dk_27 (dk_at dksX1_retold_0 8 rfl rfl)
theorem dX1_retold_9 : decode cX1_retold 9 = .ok (.aload_n 0, 1) := dk_42 (dk_at dksX1_retold_0 9 rfl rfl)
theorem dX1_retold_10 : decode cX1_retold 10 = .ok (.invokevirtual 157, 3) := dk_182 0 157 (dk_at dksX1_retold_0 10 rfl rfl)
theorem dX1_retold_13 : decode cX1_retold 13 = .ok (.invokespecial 160, 3) := dk_183 0 160 (dk_at dksX1_retold_0 13 rfl rfl)
theorem dX1_retold_16 : decode cX1_retold 16 = .ok (.areturn, 1) := dk_176 (dk_at dksX1_retold_0 16 rfl rfl)
abbrev cX1_lives : ByteArray := prog_1_method_16_code
def yX1_lives : MethodName := ⟨RX1, "lives", "()[I"⟩
def dkwX1_lives_3 : List UInt8 := [16, 99, 79, 132, 2, 1, 167, 255, 187, 43, 176]
abbrev dktX1_lives_3 : List UInt8 := dkwX1_lives_3 ++ []
def dkwX1_lives_2 : List UInt8 := [154, 0, 10, 45, 180, 0, 149, 167, 0, 19, 45, 180, 0, 152, 153, 0, 10, 45, 180, 0, 152, 167, 0, 5]
abbrev dktX1_lives_2 : List UInt8 := dkwX1_lives_2 ++ dktX1_lives_3
def dkwX1_lives_1 : List UInt8 := [182, 0, 92, 180, 0, 95, 28, 185, 0, 139, 2, 0, 192, 0, 143, 78, 43, 28, 45, 182, 0, 145]
abbrev dktX1_lives_1 : List UInt8 := dkwX1_lives_1 ++ dktX1_lives_2
def dkwX1_lives_0 : List UInt8 := [16, 99, 188, 10, 76, 3, 61, 28, 42, 182, 0, 92, 180, 0, 95, 185, 0, 78, 1, 0, 162, 0, 59, 42]
abbrev dktX1_lives_0 : List UInt8 := dkwX1_lives_0 ++ dktX1_lives_1
theorem dksX1_lives_0 : cX1_lives.data.toList.drop 0 = dktX1_lives_0 := by decide +kernel
theorem dksX1_lives_1 : cX1_lives.data.toList.drop 24 = dktX1_lives_1 := dk_seg dksX1_lives_0 24 rfl rfl
theorem dksX1_lives_2 : cX1_lives.data.toList.drop 46 = dktX1_lives_2 := dk_seg dksX1_lives_1 22 rfl rfl
theorem dksX1_lives_3 : cX1_lives.data.toList.drop 70 = dktX1_lives_3 := dk_seg dksX1_lives_2 24 rfl rfl
theorem dX1_lives_0 : decode cX1_lives 0 = .ok (.bipush 99, 2) := dk_16 99 (dk_at dksX1_lives_0 0 rfl rfl)
theorem dX1_lives_2 : decode cX1_lives 2 = .ok (.newarray .int, 2) := dk_188_10 (dk_at dksX1_lives_0 2 rfl rfl)
theorem dX1_lives_4 : decode cX1_lives 4 = .ok (.astore_n 1, 1) := dk_76 (dk_at dksX1_lives_0 4 rfl rfl)
theorem dX1_lives_5 : decode cX1_lives 5 = .ok (.iconst 0, 1) := dk_3 (dk_at dksX1_lives_0 5 rfl rfl)
theorem dX1_lives_6 : decode cX1_lives 6 = .ok (.istore_n 2, 1) := dk_61 (dk_at dksX1_lives_0 6 rfl rfl)
theorem dX1_lives_7 : decode cX1_lives 7 = .ok (.iload_n 2, 1) := dk_28 (dk_at dksX1_lives_0 7 rfl rfl)
theorem dX1_lives_8 : decode cX1_lives 8 = .ok (.aload_n 0, 1) := dk_42 (dk_at dksX1_lives_0 8 rfl rfl)
theorem dX1_lives_9 : decode cX1_lives 9 = .ok (.invokevirtual 92, 3) := dk_182 0 92 (dk_at dksX1_lives_0 9 rfl rfl)
theorem dX1_lives_12 : decode cX1_lives 12 = .ok (.getfield 95, 3) := dk_180 0 95 (dk_at dksX1_lives_0 12 rfl rfl)
theorem dX1_lives_15 : decode cX1_lives 15 = .ok (.invokeinterface 78 1, 5) := by decide +kernel
theorem dX1_lives_20 : decode cX1_lives 20 = .ok (.if_icmp .ge 59, 3) := dk_162 0 59 (dk_at dksX1_lives_0 20 rfl rfl)
theorem dX1_lives_23 : decode cX1_lives 23 = .ok (.aload_n 0, 1) := dk_42 (dk_at dksX1_lives_0 23 rfl rfl)
theorem dX1_lives_24 : decode cX1_lives 24 = .ok (.invokevirtual 92, 3) := dk_182 0 92 (dk_at dksX1_lives_1 0 rfl rfl)
theorem dX1_lives_27 : decode cX1_lives 27 = .ok (.getfield 95, 3) := dk_180 0 95 (dk_at dksX1_lives_1 3 rfl rfl)
theorem dX1_lives_30 : decode cX1_lives 30 = .ok (.iload_n 2, 1) := dk_28 (dk_at dksX1_lives_1 6 rfl rfl)
theorem dX1_lives_31 : decode cX1_lives 31 = .ok (.invokeinterface 139 2, 5) := by decide +kernel
theorem dX1_lives_36 : decode cX1_lives 36 = .ok (.checkcast 143, 3) := dk_192 0 143 (dk_at dksX1_lives_1 12 rfl rfl)
theorem dX1_lives_39 : decode cX1_lives 39 = .ok (.astore_n 3, 1) := dk_78 (dk_at dksX1_lives_1 15 rfl rfl)
theorem dX1_lives_40 : decode cX1_lives 40 = .ok (.aload_n 1, 1) := dk_43 (dk_at dksX1_lives_1 16 rfl rfl)
theorem dX1_lives_41 : decode cX1_lives 41 = .ok (.iload_n 2, 1) := dk_28 (dk_at dksX1_lives_1 17 rfl rfl)
theorem dX1_lives_42 : decode cX1_lives 42 = .ok (.aload_n 3, 1) := dk_45 (dk_at dksX1_lives_1 18 rfl rfl)
theorem dX1_lives_43 : decode cX1_lives 43 = .ok (.invokevirtual 145, 3) := dk_182 0 145 (dk_at dksX1_lives_1 19 rfl rfl)
theorem dX1_lives_46 : decode cX1_lives 46 = .ok (.ifCond .ne 10, 3) := dk_154 0 10 (dk_at dksX1_lives_2 0 rfl rfl)
theorem dX1_lives_49 : decode cX1_lives 49 = .ok (.aload_n 3, 1) := dk_45 (dk_at dksX1_lives_2 3 rfl rfl)
theorem dX1_lives_50 : decode cX1_lives 50 = .ok (.getfield 149, 3) := dk_180 0 149 (dk_at dksX1_lives_2 4 rfl rfl)
theorem dX1_lives_53 : decode cX1_lives 53 = .ok (.goto 19, 3) := dk_167 0 19 (dk_at dksX1_lives_2 7 rfl rfl)
theorem dX1_lives_56 : decode cX1_lives 56 = .ok (.aload_n 3, 1) := dk_45 (dk_at dksX1_lives_2 10 rfl rfl)
theorem dX1_lives_57 : decode cX1_lives 57 = .ok (.getfield 152, 3) := dk_180 0 152 (dk_at dksX1_lives_2 11 rfl rfl)
theorem dX1_lives_60 : decode cX1_lives 60 = .ok (.ifCond .eq 10, 3) := dk_153 0 10 (dk_at dksX1_lives_2 14 rfl rfl)
theorem dX1_lives_63 : decode cX1_lives 63 = .ok (.aload_n 3, 1) := dk_45 (dk_at dksX1_lives_2 17 rfl rfl)
theorem dX1_lives_64 : decode cX1_lives 64 = .ok (.getfield 152, 3) := dk_180 0 152 (dk_at dksX1_lives_2 18 rfl rfl)
theorem dX1_lives_67 : decode cX1_lives 67 = .ok (.goto 5, 3) := dk_167 0 5 (dk_at dksX1_lives_2 21 rfl rfl)
theorem dX1_lives_70 : decode cX1_lives 70 = .ok (.bipush 99, 2) := dk_16 99 (dk_at dksX1_lives_3 0 rfl rfl)
theorem dX1_lives_72 : decode cX1_lives 72 = .ok (.iastore, 1) := dk_79 (dk_at dksX1_lives_3 2 rfl rfl)
theorem dX1_lives_73 : decode cX1_lives 73 = .ok (.iinc 2 1, 3) := dk_132 2 1 (dk_at dksX1_lives_3 3 rfl rfl)
theorem dX1_lives_76 : decode cX1_lives 76 = .ok (.goto (-69), 3) := dk_167 255 187 (dk_at dksX1_lives_3 6 rfl rfl)
theorem dX1_lives_79 : decode cX1_lives 79 = .ok (.aload_n 1, 1) := dk_43 (dk_at dksX1_lives_3 9 rfl rfl)
theorem dX1_lives_80 : decode cX1_lives 80 = .ok (.areturn, 1) := dk_176 (dk_at dksX1_lives_3 10 rfl rfl)
abbrev cX1_store : ByteArray := prog_1_method_8_code
def yX1_store : MethodName := ⟨RX1, "store", "()LFlashZones$Store;"⟩
def dkwX1_store_0 : List UInt8 := [42, 180, 0, 27, 180, 0, 65, 176]
abbrev dktX1_store_0 : List UInt8 := dkwX1_store_0 ++ []
theorem dksX1_store_0 : cX1_store.data.toList.drop 0 = dktX1_store_0 := by decide +kernel
theorem dX1_store_0 : decode cX1_store 0 = .ok (.aload_n 0, 1) := dk_42 (dk_at dksX1_store_0 0 rfl rfl)
theorem dX1_store_1 : decode cX1_store 1 = .ok (.getfield 27, 3) := dk_180 0 27 (dk_at dksX1_store_0 1 rfl rfl)
theorem dX1_store_4 : decode cX1_store 4 = .ok (.getfield 65, 3) := dk_180 0 65 (dk_at dksX1_store_0 4 rfl rfl)
theorem dX1_store_7 : decode cX1_store 7 = .ok (.areturn, 1) := dk_176 (dk_at dksX1_store_0 7 rfl rfl)
abbrev cX1_bit : ByteArray := prog_1_method_6_code
def yX1_bit : MethodName := ⟨RX1, "bit", "(Z)I"⟩
def dkwX1_bit_0 : List UInt8 := [26, 153, 0, 7, 4, 167, 0, 4, 3, 172]
abbrev dktX1_bit_0 : List UInt8 := dkwX1_bit_0 ++ []
theorem dksX1_bit_0 : cX1_bit.data.toList.drop 0 = dktX1_bit_0 := by decide +kernel
theorem dX1_bit_0 : decode cX1_bit 0 = .ok (.iload_n 0, 1) := dk_26 (dk_at dksX1_bit_0 0 rfl rfl)
theorem dX1_bit_1 : decode cX1_bit 1 = .ok (.ifCond .eq 7, 3) := dk_153 0 7 (dk_at dksX1_bit_0 1 rfl rfl)
theorem dX1_bit_4 : decode cX1_bit 4 = .ok (.iconst 1, 1) := dk_4 (dk_at dksX1_bit_0 4 rfl rfl)
theorem dX1_bit_5 : decode cX1_bit 5 = .ok (.goto 4, 3) := dk_167 0 4 (dk_at dksX1_bit_0 5 rfl rfl)
theorem dX1_bit_8 : decode cX1_bit 8 = .ok (.iconst 0, 1) := dk_3 (dk_at dksX1_bit_0 8 rfl rfl)
theorem dX1_bit_9 : decode cX1_bit 9 = .ok (.ireturn, 1) := dk_172 (dk_at dksX1_bit_0 9 rfl rfl)
abbrev cX1_clear : ByteArray := prog_1_method_24_code
def yX1_clear : MethodName := ⟨RX1, "clear", "()I"⟩
def dkwX1_clear_1 : List UInt8 := [180, 0, 192, 182, 0, 195, 192, 0, 196, 183, 0, 199, 181, 0, 27, 42, 180, 0, 38, 182, 0, 202, 27, 172]
abbrev dktX1_clear_1 : List UInt8 := dkwX1_clear_1 ++ []
def dkwX1_clear_0 : List UInt8 := [42, 180, 0, 27, 180, 0, 74, 185, 0, 78, 1, 0, 60, 42, 187, 0, 24, 89, 42, 180, 0, 27]
abbrev dktX1_clear_0 : List UInt8 := dkwX1_clear_0 ++ dktX1_clear_1
theorem dksX1_clear_0 : cX1_clear.data.toList.drop 0 = dktX1_clear_0 := by decide +kernel
theorem dksX1_clear_1 : cX1_clear.data.toList.drop 22 = dktX1_clear_1 := dk_seg dksX1_clear_0 22 rfl rfl
theorem dX1_clear_0 : decode cX1_clear 0 = .ok (.aload_n 0, 1) := dk_42 (dk_at dksX1_clear_0 0 rfl rfl)
theorem dX1_clear_1 : decode cX1_clear 1 = .ok (.getfield 27, 3) := dk_180 0 27 (dk_at dksX1_clear_0 1 rfl rfl)
theorem dX1_clear_4 : decode cX1_clear 4 = .ok (.getfield 74, 3) := dk_180 0 74 (dk_at dksX1_clear_0 4 rfl rfl)
theorem dX1_clear_7 : decode cX1_clear 7 = .ok (.invokeinterface 78 1, 5) := by decide +kernel
theorem dX1_clear_12 : decode cX1_clear 12 = .ok (.istore_n 1, 1) := dk_60 (dk_at dksX1_clear_0 12 rfl rfl)
theorem dX1_clear_13 : decode cX1_clear 13 = .ok (.aload_n 0, 1) := dk_42 (dk_at dksX1_clear_0 13 rfl rfl)
theorem dX1_clear_14 : decode cX1_clear 14 = .ok (.new 24, 3) := dk_187 0 24 (dk_at dksX1_clear_0 14 rfl rfl)
theorem dX1_clear_17 : decode cX1_clear 17 = .ok (.dup, 1) := dk_89 (dk_at dksX1_clear_0 17 rfl rfl)
theorem dX1_clear_18 : decode cX1_clear 18 = .ok (.aload_n 0, 1) := dk_42 (dk_at dksX1_clear_0 18 rfl rfl)
theorem dX1_clear_19 : decode cX1_clear 19 = .ok (.getfield 27, 3) := dk_180 0 27 (dk_at dksX1_clear_0 19 rfl rfl)
theorem dX1_clear_22 : decode cX1_clear 22 = .ok (.getfield 192, 3) := dk_180 0 192 (dk_at dksX1_clear_1 0 rfl rfl)
theorem dX1_clear_25 : decode cX1_clear 25 = .ok (.invokevirtual 195, 3) := dk_182 0 195 (dk_at dksX1_clear_1 3 rfl rfl)
theorem dX1_clear_28 : decode cX1_clear 28 = .ok (.checkcast 196, 3) := dk_192 0 196 (dk_at dksX1_clear_1 6 rfl rfl)
theorem dX1_clear_31 : decode cX1_clear 31 = .ok (.invokespecial 199, 3) := dk_183 0 199 (dk_at dksX1_clear_1 9 rfl rfl)
theorem dX1_clear_34 : decode cX1_clear 34 = .ok (.putfield 27, 3) := dk_181 0 27 (dk_at dksX1_clear_1 12 rfl rfl)
theorem dX1_clear_37 : decode cX1_clear 37 = .ok (.aload_n 0, 1) := dk_42 (dk_at dksX1_clear_1 15 rfl rfl)
theorem dX1_clear_38 : decode cX1_clear 38 = .ok (.getfield 38, 3) := dk_180 0 38 (dk_at dksX1_clear_1 16 rfl rfl)
theorem dX1_clear_41 : decode cX1_clear 41 = .ok (.invokevirtual 202, 3) := dk_182 0 202 (dk_at dksX1_clear_1 19 rfl rfl)
theorem dX1_clear_44 : decode cX1_clear 44 = .ok (.iload_n 1, 1) := dk_27 (dk_at dksX1_clear_1 22 rfl rfl)
theorem dX1_clear_45 : decode cX1_clear 45 = .ok (.ireturn, 1) := dk_172 (dk_at dksX1_clear_1 23 rfl rfl)
abbrev cX1_regret : ByteArray := prog_1_method_38_code
def yX1_regret : MethodName := ⟨RX1, "regret", "()I"⟩
def dkwX1_regret_2 : List UInt8 := [167, 255, 234, 42, 182, 0, 92, 180, 0, 233, 27, 100, 172]
abbrev dktX1_regret_2 : List UInt8 := dkwX1_regret_2 ++ []
def dkwX1_regret_1 : List UInt8 := [21, 4, 29, 162, 0, 22, 44, 21, 4, 46, 54, 5, 27, 21, 5, 184, 1, 54, 60, 132, 4, 1]
abbrev dktX1_regret_1 : List UInt8 := dkwX1_regret_1 ++ dktX1_regret_2
def dkwX1_regret_0 : List UInt8 := [42, 182, 0, 92, 180, 1, 44, 3, 46, 60, 42, 182, 0, 92, 180, 1, 44, 77, 44, 190, 62, 3, 54, 4]
abbrev dktX1_regret_0 : List UInt8 := dkwX1_regret_0 ++ dktX1_regret_1
theorem dksX1_regret_0 : cX1_regret.data.toList.drop 0 = dktX1_regret_0 := by decide +kernel
theorem dksX1_regret_1 : cX1_regret.data.toList.drop 24 = dktX1_regret_1 := dk_seg dksX1_regret_0 24 rfl rfl
theorem dksX1_regret_2 : cX1_regret.data.toList.drop 46 = dktX1_regret_2 := dk_seg dksX1_regret_1 22 rfl rfl
theorem dX1_regret_0 : decode cX1_regret 0 = .ok (.aload_n 0, 1) := dk_42 (dk_at dksX1_regret_0 0 rfl rfl)
theorem dX1_regret_1 : decode cX1_regret 1 = .ok (.invokevirtual 92, 3) := dk_182 0 92 (dk_at dksX1_regret_0 1 rfl rfl)
theorem dX1_regret_4 : decode cX1_regret 4 = .ok (.getfield 300, 3) := dk_180 1 44 (dk_at dksX1_regret_0 4 rfl rfl)
theorem dX1_regret_7 : decode cX1_regret 7 = .ok (.iconst 0, 1) := dk_3 (dk_at dksX1_regret_0 7 rfl rfl)
theorem dX1_regret_8 : decode cX1_regret 8 = .ok (.iaload, 1) := dk_46 (dk_at dksX1_regret_0 8 rfl rfl)
theorem dX1_regret_9 : decode cX1_regret 9 = .ok (.istore_n 1, 1) := dk_60 (dk_at dksX1_regret_0 9 rfl rfl)
theorem dX1_regret_10 : decode cX1_regret 10 = .ok (.aload_n 0, 1) := dk_42 (dk_at dksX1_regret_0 10 rfl rfl)
theorem dX1_regret_11 : decode cX1_regret 11 = .ok (.invokevirtual 92, 3) := dk_182 0 92 (dk_at dksX1_regret_0 11 rfl rfl)
theorem dX1_regret_14 : decode cX1_regret 14 = .ok (.getfield 300, 3) := dk_180 1 44 (dk_at dksX1_regret_0 14 rfl rfl)
theorem dX1_regret_17 : decode cX1_regret 17 = .ok (.astore_n 2, 1) := dk_77 (dk_at dksX1_regret_0 17 rfl rfl)
theorem dX1_regret_18 : decode cX1_regret 18 = .ok (.aload_n 2, 1) := dk_44 (dk_at dksX1_regret_0 18 rfl rfl)
theorem dX1_regret_19 : decode cX1_regret 19 = .ok (.arraylength, 1) := dk_190 (dk_at dksX1_regret_0 19 rfl rfl)
theorem dX1_regret_20 : decode cX1_regret 20 = .ok (.istore_n 3, 1) := dk_62 (dk_at dksX1_regret_0 20 rfl rfl)
theorem dX1_regret_21 : decode cX1_regret 21 = .ok (.iconst 0, 1) := dk_3 (dk_at dksX1_regret_0 21 rfl rfl)
theorem dX1_regret_22 : decode cX1_regret 22 = .ok (.istore 4, 2) := dk_54 4 (dk_at dksX1_regret_0 22 rfl rfl)
theorem dX1_regret_24 : decode cX1_regret 24 = .ok (.iload 4, 2) := dk_21 4 (dk_at dksX1_regret_1 0 rfl rfl)
theorem dX1_regret_26 : decode cX1_regret 26 = .ok (.iload_n 3, 1) := dk_29 (dk_at dksX1_regret_1 2 rfl rfl)
theorem dX1_regret_27 : decode cX1_regret 27 = .ok (.if_icmp .ge 22, 3) := dk_162 0 22 (dk_at dksX1_regret_1 3 rfl rfl)
theorem dX1_regret_30 : decode cX1_regret 30 = .ok (.aload_n 2, 1) := dk_44 (dk_at dksX1_regret_1 6 rfl rfl)
theorem dX1_regret_31 : decode cX1_regret 31 = .ok (.iload 4, 2) := dk_21 4 (dk_at dksX1_regret_1 7 rfl rfl)
theorem dX1_regret_33 : decode cX1_regret 33 = .ok (.iaload, 1) := dk_46 (dk_at dksX1_regret_1 9 rfl rfl)
theorem dX1_regret_34 : decode cX1_regret 34 = .ok (.istore 5, 2) := dk_54 5 (dk_at dksX1_regret_1 10 rfl rfl)
theorem dX1_regret_36 : decode cX1_regret 36 = .ok (.iload_n 1, 1) := dk_27 (dk_at dksX1_regret_1 12 rfl rfl)
theorem dX1_regret_37 : decode cX1_regret 37 = .ok (.iload 5, 2) := dk_21 5 (dk_at dksX1_regret_1 13 rfl rfl)
theorem dX1_regret_39 : decode cX1_regret 39 = .ok (.invokestatic 310, 3) := dk_184 1 54 (dk_at dksX1_regret_1 15 rfl rfl)
theorem dX1_regret_42 : decode cX1_regret 42 = .ok (.istore_n 1, 1) := dk_60 (dk_at dksX1_regret_1 18 rfl rfl)
theorem dX1_regret_43 : decode cX1_regret 43 = .ok (.iinc 4 1, 3) := dk_132 4 1 (dk_at dksX1_regret_1 19 rfl rfl)
theorem dX1_regret_46 : decode cX1_regret 46 = .ok (.goto (-22), 3) := dk_167 255 234 (dk_at dksX1_regret_2 0 rfl rfl)
theorem dX1_regret_49 : decode cX1_regret 49 = .ok (.aload_n 0, 1) := dk_42 (dk_at dksX1_regret_2 3 rfl rfl)
theorem dX1_regret_50 : decode cX1_regret 50 = .ok (.invokevirtual 92, 3) := dk_182 0 92 (dk_at dksX1_regret_2 4 rfl rfl)
theorem dX1_regret_53 : decode cX1_regret 53 = .ok (.getfield 233, 3) := dk_180 0 233 (dk_at dksX1_regret_2 7 rfl rfl)
theorem dX1_regret_56 : decode cX1_regret 56 = .ok (.iload_n 1, 1) := dk_27 (dk_at dksX1_regret_2 10 rfl rfl)
theorem dX1_regret_57 : decode cX1_regret 57 = .ok (.isub, 1) := dk_100 (dk_at dksX1_regret_2 11 rfl rfl)
theorem dX1_regret_58 : decode cX1_regret 58 = .ok (.ireturn, 1) := dk_172 (dk_at dksX1_regret_2 12 rfl rfl)
abbrev cX1_meanLife : ByteArray := prog_1_method_39_code
def yX1_meanLife : MethodName := ⟨RX1, "meanLife", "()F"⟩
def dkwX1_meanLife_1 : List UInt8 := [42, 182, 0, 92, 180, 1, 60, 134, 110, 174]
abbrev dktX1_meanLife_1 : List UInt8 := dkwX1_meanLife_1 ++ []
def dkwX1_meanLife_0 : List UInt8 := [42, 182, 0, 92, 180, 1, 60, 154, 0, 9, 19, 1, 63, 167, 0, 20, 42, 182, 0, 92, 180, 1, 64, 134]
abbrev dktX1_meanLife_0 : List UInt8 := dkwX1_meanLife_0 ++ dktX1_meanLife_1
theorem dksX1_meanLife_0 : cX1_meanLife.data.toList.drop 0 = dktX1_meanLife_0 := by decide +kernel
theorem dksX1_meanLife_1 : cX1_meanLife.data.toList.drop 24 = dktX1_meanLife_1 := dk_seg dksX1_meanLife_0 24 rfl rfl
theorem dX1_meanLife_0 : decode cX1_meanLife 0 = .ok (.aload_n 0, 1) := dk_42 (dk_at dksX1_meanLife_0 0 rfl rfl)
theorem dX1_meanLife_1 : decode cX1_meanLife 1 = .ok (.invokevirtual 92, 3) := dk_182 0 92 (dk_at dksX1_meanLife_0 1 rfl rfl)
theorem dX1_meanLife_4 : decode cX1_meanLife 4 = .ok (.getfield 316, 3) := dk_180 1 60 (dk_at dksX1_meanLife_0 4 rfl rfl)
theorem dX1_meanLife_7 : decode cX1_meanLife 7 = .ok (.ifCond .ne 9, 3) := dk_154 0 9 (dk_at dksX1_meanLife_0 7 rfl rfl)
theorem dX1_meanLife_10 : decode cX1_meanLife 10 = .ok (.ldc_w 319, 3) := dk_19 1 63 (dk_at dksX1_meanLife_0 10 rfl rfl)
theorem dX1_meanLife_13 : decode cX1_meanLife 13 = .ok (.goto 20, 3) := dk_167 0 20 (dk_at dksX1_meanLife_0 13 rfl rfl)
theorem dX1_meanLife_16 : decode cX1_meanLife 16 = .ok (.aload_n 0, 1) := dk_42 (dk_at dksX1_meanLife_0 16 rfl rfl)
theorem dX1_meanLife_17 : decode cX1_meanLife 17 = .ok (.invokevirtual 92, 3) := dk_182 0 92 (dk_at dksX1_meanLife_0 17 rfl rfl)
theorem dX1_meanLife_20 : decode cX1_meanLife 20 = .ok (.getfield 320, 3) := dk_180 1 64 (dk_at dksX1_meanLife_0 20 rfl rfl)
theorem dX1_meanLife_23 : decode cX1_meanLife 23 = .ok (.i2f, 1) := dk_134 (dk_at dksX1_meanLife_0 23 rfl rfl)
theorem dX1_meanLife_24 : decode cX1_meanLife 24 = .ok (.aload_n 0, 1) := dk_42 (dk_at dksX1_meanLife_1 0 rfl rfl)
theorem dX1_meanLife_25 : decode cX1_meanLife 25 = .ok (.invokevirtual 92, 3) := dk_182 0 92 (dk_at dksX1_meanLife_1 1 rfl rfl)
theorem dX1_meanLife_28 : decode cX1_meanLife 28 = .ok (.getfield 316, 3) := dk_180 1 60 (dk_at dksX1_meanLife_1 4 rfl rfl)
theorem dX1_meanLife_31 : decode cX1_meanLife 31 = .ok (.i2f, 1) := dk_134 (dk_at dksX1_meanLife_1 7 rfl rfl)
theorem dX1_meanLife_32 : decode cX1_meanLife 32 = .ok (.fdiv, 1) := dk_110 (dk_at dksX1_meanLife_1 8 rfl rfl)
theorem dX1_meanLife_33 : decode cX1_meanLife 33 = .ok (.freturn, 1) := dk_174 (dk_at dksX1_meanLife_1 9 rfl rfl)
abbrev cX1_nextFate : ByteArray := prog_1_method_50_code
def yX1_nextFate : MethodName := ⟨RX1, "nextFate", "()I"⟩
def dkwX1_nextFate_3 : List UInt8 := [180, 1, 26, 45, 180, 0, 152, 96, 184, 1, 54, 60, 167, 255, 189, 27, 172]
abbrev dktX1_nextFate_3 : List UInt8 := dkwX1_nextFate_3 ++ []
def dkwX1_nextFate_2 : List UInt8 := [167, 255, 223, 27, 2, 160, 0, 15, 45, 180, 1, 26, 45, 180, 0, 152, 96, 167, 0, 16, 27, 45]
abbrev dktX1_nextFate_2 : List UInt8 := dkwX1_nextFate_2 ++ dktX1_nextFate_3
def dkwX1_nextFate_1 : List UInt8 := [44, 185, 0, 248, 1, 0, 192, 0, 143, 78, 45, 182, 0, 145, 153, 255, 233, 45, 180, 0, 152, 154, 0, 6]
abbrev dktX1_nextFate_1 : List UInt8 := dkwX1_nextFate_1 ++ dktX1_nextFate_2
def dkwX1_nextFate_0 : List UInt8 := [2, 60, 42, 182, 0, 92, 180, 0, 95, 185, 0, 239, 1, 0, 77, 44, 185, 0, 243, 1, 0, 153, 0, 64]
abbrev dktX1_nextFate_0 : List UInt8 := dkwX1_nextFate_0 ++ dktX1_nextFate_1
theorem dksX1_nextFate_0 : cX1_nextFate.data.toList.drop 0 = dktX1_nextFate_0 := by decide +kernel
theorem dksX1_nextFate_1 : cX1_nextFate.data.toList.drop 24 = dktX1_nextFate_1 := dk_seg dksX1_nextFate_0 24 rfl rfl
theorem dksX1_nextFate_2 : cX1_nextFate.data.toList.drop 48 = dktX1_nextFate_2 := dk_seg dksX1_nextFate_1 24 rfl rfl
theorem dksX1_nextFate_3 : cX1_nextFate.data.toList.drop 70 = dktX1_nextFate_3 := dk_seg dksX1_nextFate_2 22 rfl rfl
theorem dX1_nextFate_0 : decode cX1_nextFate 0 = .ok (.iconst (-1), 1) := dk_2 (dk_at dksX1_nextFate_0 0 rfl rfl)
theorem dX1_nextFate_1 : decode cX1_nextFate 1 = .ok (.istore_n 1, 1) := dk_60 (dk_at dksX1_nextFate_0 1 rfl rfl)
theorem dX1_nextFate_2 : decode cX1_nextFate 2 = .ok (.aload_n 0, 1) := dk_42 (dk_at dksX1_nextFate_0 2 rfl rfl)
theorem dX1_nextFate_3 : decode cX1_nextFate 3 = .ok (.invokevirtual 92, 3) := dk_182 0 92 (dk_at dksX1_nextFate_0 3 rfl rfl)
theorem dX1_nextFate_6 : decode cX1_nextFate 6 = .ok (.getfield 95, 3) := dk_180 0 95 (dk_at dksX1_nextFate_0 6 rfl rfl)
theorem dX1_nextFate_9 : decode cX1_nextFate 9 = .ok (.invokeinterface 239 1, 5) := by decide +kernel
theorem dX1_nextFate_14 : decode cX1_nextFate 14 = .ok (.astore_n 2, 1) := dk_77 (dk_at dksX1_nextFate_0 14 rfl rfl)
theorem dX1_nextFate_15 : decode cX1_nextFate 15 = .ok (.aload_n 2, 1) := dk_44 (dk_at dksX1_nextFate_0 15 rfl rfl)
theorem dX1_nextFate_16 : decode cX1_nextFate 16 = .ok (.invokeinterface 243 1, 5) := by decide +kernel
theorem dX1_nextFate_21 : decode cX1_nextFate 21 = .ok (.ifCond .eq 64, 3) := dk_153 0 64 (dk_at dksX1_nextFate_0 21 rfl rfl)
theorem dX1_nextFate_24 : decode cX1_nextFate 24 = .ok (.aload_n 2, 1) := dk_44 (dk_at dksX1_nextFate_1 0 rfl rfl)
theorem dX1_nextFate_25 : decode cX1_nextFate 25 = .ok (.invokeinterface 248 1, 5) := by decide +kernel
theorem dX1_nextFate_30 : decode cX1_nextFate 30 = .ok (.checkcast 143, 3) := dk_192 0 143 (dk_at dksX1_nextFate_1 6 rfl rfl)
theorem dX1_nextFate_33 : decode cX1_nextFate 33 = .ok (.astore_n 3, 1) := dk_78 (dk_at dksX1_nextFate_1 9 rfl rfl)
theorem dX1_nextFate_34 : decode cX1_nextFate 34 = .ok (.aload_n 3, 1) := dk_45 (dk_at dksX1_nextFate_1 10 rfl rfl)
theorem dX1_nextFate_35 : decode cX1_nextFate 35 = .ok (.invokevirtual 145, 3) := dk_182 0 145 (dk_at dksX1_nextFate_1 11 rfl rfl)
theorem dX1_nextFate_38 : decode cX1_nextFate 38 = .ok (.ifCond .eq (-23), 3) := dk_153 255 233 (dk_at dksX1_nextFate_1 14 rfl rfl)
theorem dX1_nextFate_41 : decode cX1_nextFate 41 = .ok (.aload_n 3, 1) := dk_45 (dk_at dksX1_nextFate_1 17 rfl rfl)
theorem dX1_nextFate_42 : decode cX1_nextFate 42 = .ok (.getfield 152, 3) := dk_180 0 152 (dk_at dksX1_nextFate_1 18 rfl rfl)
theorem dX1_nextFate_45 : decode cX1_nextFate 45 = .ok (.ifCond .ne 6, 3) := dk_154 0 6 (dk_at dksX1_nextFate_1 21 rfl rfl)
theorem dX1_nextFate_48 : decode cX1_nextFate 48 = .ok (.goto (-33), 3) := dk_167 255 223 (dk_at dksX1_nextFate_2 0 rfl rfl)
theorem dX1_nextFate_51 : decode cX1_nextFate 51 = .ok (.iload_n 1, 1) := dk_27 (dk_at dksX1_nextFate_2 3 rfl rfl)
theorem dX1_nextFate_52 : decode cX1_nextFate 52 = .ok (.iconst (-1), 1) := dk_2 (dk_at dksX1_nextFate_2 4 rfl rfl)
theorem dX1_nextFate_53 : decode cX1_nextFate 53 = .ok (.if_icmp .ne 15, 3) := dk_160 0 15 (dk_at dksX1_nextFate_2 5 rfl rfl)
theorem dX1_nextFate_56 : decode cX1_nextFate 56 = .ok (.aload_n 3, 1) := dk_45 (dk_at dksX1_nextFate_2 8 rfl rfl)
theorem dX1_nextFate_57 : decode cX1_nextFate 57 = .ok (.getfield 282, 3) := dk_180 1 26 (dk_at dksX1_nextFate_2 9 rfl rfl)
theorem dX1_nextFate_60 : decode cX1_nextFate 60 = .ok (.aload_n 3, 1) := dk_45 (dk_at dksX1_nextFate_2 12 rfl rfl)
theorem dX1_nextFate_61 : decode cX1_nextFate 61 = .ok (.getfield 152, 3) := dk_180 0 152 (dk_at dksX1_nextFate_2 13 rfl rfl)
theorem dX1_nextFate_64 : decode cX1_nextFate 64 = .ok (.iadd, 1) := dk_96 (dk_at dksX1_nextFate_2 16 rfl rfl)
theorem dX1_nextFate_65 : decode cX1_nextFate 65 = .ok (.goto 16, 3) := dk_167 0 16 (dk_at dksX1_nextFate_2 17 rfl rfl)
theorem dX1_nextFate_68 : decode cX1_nextFate 68 = .ok (.iload_n 1, 1) := dk_27 (dk_at dksX1_nextFate_2 20 rfl rfl)
theorem dX1_nextFate_69 : decode cX1_nextFate 69 = .ok (.aload_n 3, 1) := dk_45 (dk_at dksX1_nextFate_2 21 rfl rfl)
theorem dX1_nextFate_70 : decode cX1_nextFate 70 = .ok (.getfield 282, 3) := dk_180 1 26 (dk_at dksX1_nextFate_3 0 rfl rfl)
theorem dX1_nextFate_73 : decode cX1_nextFate 73 = .ok (.aload_n 3, 1) := dk_45 (dk_at dksX1_nextFate_3 3 rfl rfl)
theorem dX1_nextFate_74 : decode cX1_nextFate 74 = .ok (.getfield 152, 3) := dk_180 0 152 (dk_at dksX1_nextFate_3 4 rfl rfl)
theorem dX1_nextFate_77 : decode cX1_nextFate 77 = .ok (.iadd, 1) := dk_96 (dk_at dksX1_nextFate_3 7 rfl rfl)
theorem dX1_nextFate_78 : decode cX1_nextFate 78 = .ok (.invokestatic 310, 3) := dk_184 1 54 (dk_at dksX1_nextFate_3 8 rfl rfl)
theorem dX1_nextFate_81 : decode cX1_nextFate 81 = .ok (.istore_n 1, 1) := dk_60 (dk_at dksX1_nextFate_3 11 rfl rfl)
theorem dX1_nextFate_82 : decode cX1_nextFate 82 = .ok (.goto (-67), 3) := dk_167 255 189 (dk_at dksX1_nextFate_3 12 rfl rfl)
theorem dX1_nextFate_85 : decode cX1_nextFate 85 = .ok (.iload_n 1, 1) := dk_27 (dk_at dksX1_nextFate_3 15 rfl rfl)
theorem dX1_nextFate_86 : decode cX1_nextFate 86 = .ok (.ireturn, 1) := dk_172 (dk_at dksX1_nextFate_3 16 rfl rfl)
abbrev cX1_writeHistory : ByteArray := prog_1_method_57_code
def yX1_writeHistory : MethodName := ⟨RX1, "writeHistory", "()I"⟩
def dkwX1_writeHistory_2 : List UInt8 := [182, 1, 142, 167, 255, 229, 42, 180, 0, 53, 182, 1, 139, 172]
abbrev dktX1_writeHistory_2 : List UInt8 := dkwX1_writeHistory_2 ++ []
def dkwX1_writeHistory_1 : List UInt8 := [185, 0, 243, 1, 0, 153, 0, 24, 43, 185, 0, 248, 1, 0, 192, 0, 69, 77, 44, 42, 180, 0, 53]
abbrev dktX1_writeHistory_1 : List UInt8 := dkwX1_writeHistory_1 ++ dktX1_writeHistory_2
def dkwX1_writeHistory_0 : List UInt8 := [42, 180, 0, 53, 3, 182, 1, 125, 42, 180, 0, 27, 180, 0, 74, 185, 0, 239, 1, 0, 76, 43]
abbrev dktX1_writeHistory_0 : List UInt8 := dkwX1_writeHistory_0 ++ dktX1_writeHistory_1
theorem dksX1_writeHistory_0 : cX1_writeHistory.data.toList.drop 0 = dktX1_writeHistory_0 := by decide +kernel
theorem dksX1_writeHistory_1 : cX1_writeHistory.data.toList.drop 22 = dktX1_writeHistory_1 := dk_seg dksX1_writeHistory_0 22 rfl rfl
theorem dksX1_writeHistory_2 : cX1_writeHistory.data.toList.drop 45 = dktX1_writeHistory_2 := dk_seg dksX1_writeHistory_1 23 rfl rfl
theorem dX1_writeHistory_0 : decode cX1_writeHistory 0 = .ok (.aload_n 0, 1) := dk_42 (dk_at dksX1_writeHistory_0 0 rfl rfl)
theorem dX1_writeHistory_1 : decode cX1_writeHistory 1 = .ok (.getfield 53, 3) := dk_180 0 53 (dk_at dksX1_writeHistory_0 1 rfl rfl)
theorem dX1_writeHistory_4 : decode cX1_writeHistory 4 = .ok (.iconst 0, 1) := dk_3 (dk_at dksX1_writeHistory_0 4 rfl rfl)
theorem dX1_writeHistory_5 : decode cX1_writeHistory 5 = .ok (.invokevirtual 381, 3) := dk_182 1 125 (dk_at dksX1_writeHistory_0 5 rfl rfl)
theorem dX1_writeHistory_8 : decode cX1_writeHistory 8 = .ok (.aload_n 0, 1) := dk_42 (dk_at dksX1_writeHistory_0 8 rfl rfl)
theorem dX1_writeHistory_9 : decode cX1_writeHistory 9 = .ok (.getfield 27, 3) := dk_180 0 27 (dk_at dksX1_writeHistory_0 9 rfl rfl)
theorem dX1_writeHistory_12 : decode cX1_writeHistory 12 = .ok (.getfield 74, 3) := dk_180 0 74 (dk_at dksX1_writeHistory_0 12 rfl rfl)
theorem dX1_writeHistory_15 : decode cX1_writeHistory 15 = .ok (.invokeinterface 239 1, 5) := by decide +kernel
theorem dX1_writeHistory_20 : decode cX1_writeHistory 20 = .ok (.astore_n 1, 1) := dk_76 (dk_at dksX1_writeHistory_0 20 rfl rfl)
theorem dX1_writeHistory_21 : decode cX1_writeHistory 21 = .ok (.aload_n 1, 1) := dk_43 (dk_at dksX1_writeHistory_0 21 rfl rfl)
theorem dX1_writeHistory_22 : decode cX1_writeHistory 22 = .ok (.invokeinterface 243 1, 5) := by decide +kernel
theorem dX1_writeHistory_27 : decode cX1_writeHistory 27 = .ok (.ifCond .eq 24, 3) := dk_153 0 24 (dk_at dksX1_writeHistory_1 5 rfl rfl)
theorem dX1_writeHistory_30 : decode cX1_writeHistory 30 = .ok (.aload_n 1, 1) := dk_43 (dk_at dksX1_writeHistory_1 8 rfl rfl)
theorem dX1_writeHistory_31 : decode cX1_writeHistory 31 = .ok (.invokeinterface 248 1, 5) := by decide +kernel
theorem dX1_writeHistory_36 : decode cX1_writeHistory 36 = .ok (.checkcast 69, 3) := dk_192 0 69 (dk_at dksX1_writeHistory_1 14 rfl rfl)
theorem dX1_writeHistory_39 : decode cX1_writeHistory 39 = .ok (.astore_n 2, 1) := dk_77 (dk_at dksX1_writeHistory_1 17 rfl rfl)
theorem dX1_writeHistory_40 : decode cX1_writeHistory 40 = .ok (.aload_n 2, 1) := dk_44 (dk_at dksX1_writeHistory_1 18 rfl rfl)
theorem dX1_writeHistory_41 : decode cX1_writeHistory 41 = .ok (.aload_n 0, 1) := dk_42 (dk_at dksX1_writeHistory_1 19 rfl rfl)
theorem dX1_writeHistory_42 : decode cX1_writeHistory 42 = .ok (.getfield 53, 3) := dk_180 0 53 (dk_at dksX1_writeHistory_1 20 rfl rfl)
theorem dX1_writeHistory_45 : decode cX1_writeHistory 45 = .ok (.invokevirtual 398, 3) := dk_182 1 142 (dk_at dksX1_writeHistory_2 0 rfl rfl)
theorem dX1_writeHistory_48 : decode cX1_writeHistory 48 = .ok (.goto (-27), 3) := dk_167 255 229 (dk_at dksX1_writeHistory_2 3 rfl rfl)
theorem dX1_writeHistory_51 : decode cX1_writeHistory 51 = .ok (.aload_n 0, 1) := dk_42 (dk_at dksX1_writeHistory_2 6 rfl rfl)
theorem dX1_writeHistory_52 : decode cX1_writeHistory 52 = .ok (.getfield 53, 3) := dk_180 0 53 (dk_at dksX1_writeHistory_2 7 rfl rfl)
theorem dX1_writeHistory_55 : decode cX1_writeHistory 55 = .ok (.invokevirtual 395, 3) := dk_182 1 139 (dk_at dksX1_writeHistory_2 10 rfl rfl)
theorem dX1_writeHistory_58 : decode cX1_writeHistory 58 = .ok (.ireturn, 1) := dk_172 (dk_at dksX1_writeHistory_2 13 rfl rfl)
abbrev cX1_output : ByteArray := prog_1_method_58_code
def yX1_output : MethodName := ⟨RX1, "output", "(I)I"⟩
def dkwX1_output_1 : List UInt8 := [182, 1, 146, 167, 0, 4, 2, 172]
abbrev dktX1_output_1 : List UInt8 := dkwX1_output_1 ++ []
def dkwX1_output_0 : List UInt8 := [27, 3, 42, 180, 0, 53, 182, 1, 139, 4, 100, 184, 0, 117, 153, 0, 14, 42, 180, 0, 53, 27]
abbrev dktX1_output_0 : List UInt8 := dkwX1_output_0 ++ dktX1_output_1
theorem dksX1_output_0 : cX1_output.data.toList.drop 0 = dktX1_output_0 := by decide +kernel
theorem dksX1_output_1 : cX1_output.data.toList.drop 22 = dktX1_output_1 := dk_seg dksX1_output_0 22 rfl rfl
theorem dX1_output_0 : decode cX1_output 0 = .ok (.iload_n 1, 1) := dk_27 (dk_at dksX1_output_0 0 rfl rfl)
theorem dX1_output_1 : decode cX1_output 1 = .ok (.iconst 0, 1) := dk_3 (dk_at dksX1_output_0 1 rfl rfl)
theorem dX1_output_2 : decode cX1_output 2 = .ok (.aload_n 0, 1) := dk_42 (dk_at dksX1_output_0 2 rfl rfl)
theorem dX1_output_3 : decode cX1_output 3 = .ok (.getfield 53, 3) := dk_180 0 53 (dk_at dksX1_output_0 3 rfl rfl)
theorem dX1_output_6 : decode cX1_output 6 = .ok (.invokevirtual 395, 3) := dk_182 1 139 (dk_at dksX1_output_0 6 rfl rfl)
theorem dX1_output_9 : decode cX1_output 9 = .ok (.iconst 1, 1) := dk_4 (dk_at dksX1_output_0 9 rfl rfl)
theorem dX1_output_10 : decode cX1_output 10 = .ok (.isub, 1) := dk_100 (dk_at dksX1_output_0 10 rfl rfl)
theorem dX1_output_11 : decode cX1_output 11 = .ok (.invokestatic 117, 3) := dk_184 0 117 (dk_at dksX1_output_0 11 rfl rfl)
theorem dX1_output_14 : decode cX1_output 14 = .ok (.ifCond .eq 14, 3) := dk_153 0 14 (dk_at dksX1_output_0 14 rfl rfl)
theorem dX1_output_17 : decode cX1_output 17 = .ok (.aload_n 0, 1) := dk_42 (dk_at dksX1_output_0 17 rfl rfl)
theorem dX1_output_18 : decode cX1_output 18 = .ok (.getfield 53, 3) := dk_180 0 53 (dk_at dksX1_output_0 18 rfl rfl)
theorem dX1_output_21 : decode cX1_output 21 = .ok (.iload_n 1, 1) := dk_27 (dk_at dksX1_output_0 21 rfl rfl)
theorem dX1_output_22 : decode cX1_output 22 = .ok (.invokevirtual 402, 3) := dk_182 1 146 (dk_at dksX1_output_1 0 rfl rfl)
theorem dX1_output_25 : decode cX1_output 25 = .ok (.goto 4, 3) := dk_167 0 4 (dk_at dksX1_output_1 3 rfl rfl)
theorem dX1_output_28 : decode cX1_output 28 = .ok (.iconst (-1), 1) := dk_2 (dk_at dksX1_output_1 6 rfl rfl)
theorem dX1_output_29 : decode cX1_output 29 = .ok (.ireturn, 1) := dk_172 (dk_at dksX1_output_1 7 rfl rfl)
abbrev cX1_isIn : ByteArray := prog_1_method_2_code
def yX1_isIn : MethodName := ⟨RX1, "isIn", "(III)Z"⟩
def dkwX1_isIn_0 : List UInt8 := [26, 27, 161, 0, 12, 26, 28, 163, 0, 7, 4, 167, 0, 4, 3, 172]
abbrev dktX1_isIn_0 : List UInt8 := dkwX1_isIn_0 ++ []
theorem dksX1_isIn_0 : cX1_isIn.data.toList.drop 0 = dktX1_isIn_0 := by decide +kernel
theorem dX1_isIn_0 : decode cX1_isIn 0 = .ok (.iload_n 0, 1) := dk_26 (dk_at dksX1_isIn_0 0 rfl rfl)
theorem dX1_isIn_1 : decode cX1_isIn 1 = .ok (.iload_n 1, 1) := dk_27 (dk_at dksX1_isIn_0 1 rfl rfl)
theorem dX1_isIn_2 : decode cX1_isIn 2 = .ok (.if_icmp .lt 12, 3) := dk_161 0 12 (dk_at dksX1_isIn_0 2 rfl rfl)
theorem dX1_isIn_5 : decode cX1_isIn 5 = .ok (.iload_n 0, 1) := dk_26 (dk_at dksX1_isIn_0 5 rfl rfl)
theorem dX1_isIn_6 : decode cX1_isIn 6 = .ok (.iload_n 2, 1) := dk_28 (dk_at dksX1_isIn_0 6 rfl rfl)
theorem dX1_isIn_7 : decode cX1_isIn 7 = .ok (.if_icmp .gt 7, 3) := dk_163 0 7 (dk_at dksX1_isIn_0 7 rfl rfl)
theorem dX1_isIn_10 : decode cX1_isIn 10 = .ok (.iconst 1, 1) := dk_4 (dk_at dksX1_isIn_0 10 rfl rfl)
theorem dX1_isIn_11 : decode cX1_isIn 11 = .ok (.goto 4, 3) := dk_167 0 4 (dk_at dksX1_isIn_0 11 rfl rfl)
theorem dX1_isIn_14 : decode cX1_isIn 14 = .ok (.iconst 0, 1) := dk_3 (dk_at dksX1_isIn_0 14 rfl rfl)
theorem dX1_isIn_15 : decode cX1_isIn 15 = .ok (.ireturn, 1) := dk_172 (dk_at dksX1_isIn_0 15 rfl rfl)
abbrev cX1_runScript : ByteArray := prog_1_method_62_code
def yX1_runScript : MethodName := ⟨RX1, "runScript", "()I"⟩
def dkwX1_runScript_5 : List UInt8 := [25, 4, 191]
abbrev dktX1_runScript_5 : List UInt8 := dkwX1_runScript_5 ++ []
def dkwX1_runScript_4 : List UInt8 := [42, 43, 180, 1, 178, 181, 0, 61, 2, 61, 42, 3, 181, 1, 150, 28, 172, 58, 4, 42, 3, 181, 1, 150]
abbrev dktX1_runScript_4 : List UInt8 := dkwX1_runScript_4 ++ dktX1_runScript_5
def dkwX1_runScript_3 : List UInt8 := [132, 2, 1, 167, 255, 207, 28, 62, 42, 3, 181, 1, 150, 29, 172, 76, 42, 43, 180, 1, 175, 181, 1, 153]
abbrev dktX1_runScript_3 : List UInt8 := dkwX1_runScript_3 ++ dktX1_runScript_4
def dkwX1_runScript_2 : List UInt8 := [180, 1, 165, 28, 50, 180, 0, 174, 43, 180, 1, 165, 28, 50, 180, 0, 177, 182, 0, 125, 154, 0, 9]
abbrev dktX1_runScript_2 : List UInt8 := dkwX1_runScript_2 ++ dktX1_runScript_3
def dkwX1_runScript_1 : List UInt8 := [61, 28, 43, 180, 1, 162, 162, 0, 47, 42, 43, 180, 1, 165, 28, 50, 182, 1, 169, 153, 0, 34, 42, 43]
abbrev dktX1_runScript_1 : List UInt8 := dkwX1_runScript_1 ++ dktX1_runScript_2
def dkwX1_runScript_0 : List UInt8 := [42, 3, 181, 1, 153, 42, 2, 181, 0, 61, 187, 1, 156, 89, 42, 183, 1, 158, 76, 43, 182, 1, 159, 3]
abbrev dktX1_runScript_0 : List UInt8 := dkwX1_runScript_0 ++ dktX1_runScript_1
theorem dksX1_runScript_0 : cX1_runScript.data.toList.drop 0 = dktX1_runScript_0 := by decide +kernel
theorem dksX1_runScript_1 : cX1_runScript.data.toList.drop 24 = dktX1_runScript_1 := dk_seg dksX1_runScript_0 24 rfl rfl
theorem dksX1_runScript_2 : cX1_runScript.data.toList.drop 48 = dktX1_runScript_2 := dk_seg dksX1_runScript_1 24 rfl rfl
theorem dksX1_runScript_3 : cX1_runScript.data.toList.drop 71 = dktX1_runScript_3 := dk_seg dksX1_runScript_2 23 rfl rfl
theorem dksX1_runScript_4 : cX1_runScript.data.toList.drop 95 = dktX1_runScript_4 := dk_seg dksX1_runScript_3 24 rfl rfl
theorem dksX1_runScript_5 : cX1_runScript.data.toList.drop 119 = dktX1_runScript_5 := dk_seg dksX1_runScript_4 24 rfl rfl
theorem dX1_runScript_0 : decode cX1_runScript 0 = .ok (.aload_n 0, 1) := dk_42 (dk_at dksX1_runScript_0 0 rfl rfl)
theorem dX1_runScript_1 : decode cX1_runScript 1 = .ok (.iconst 0, 1) := dk_3 (dk_at dksX1_runScript_0 1 rfl rfl)
theorem dX1_runScript_2 : decode cX1_runScript 2 = .ok (.putfield 409, 3) := dk_181 1 153 (dk_at dksX1_runScript_0 2 rfl rfl)
theorem dX1_runScript_5 : decode cX1_runScript 5 = .ok (.aload_n 0, 1) := dk_42 (dk_at dksX1_runScript_0 5 rfl rfl)
theorem dX1_runScript_6 : decode cX1_runScript 6 = .ok (.iconst (-1), 1) := dk_2 (dk_at dksX1_runScript_0 6 rfl rfl)
theorem dX1_runScript_7 : decode cX1_runScript 7 = .ok (.putfield 61, 3) := dk_181 0 61 (dk_at dksX1_runScript_0 7 rfl rfl)
theorem dX1_runScript_10 : decode cX1_runScript 10 = .ok (.new 412, 3) := dk_187 1 156 (dk_at dksX1_runScript_0 10 rfl rfl)
theorem dX1_runScript_13 : decode cX1_runScript 13 = .ok (.dup, 1) := dk_89 (dk_at dksX1_runScript_0 13 rfl rfl)
theorem dX1_runScript_14 : decode cX1_runScript 14 = .ok (.aload_n 0, 1) := dk_42 (dk_at dksX1_runScript_0 14 rfl rfl)
theorem dX1_runScript_15 : decode cX1_runScript 15 = .ok (.invokespecial 414, 3) := dk_183 1 158 (dk_at dksX1_runScript_0 15 rfl rfl)
theorem dX1_runScript_18 : decode cX1_runScript 18 = .ok (.astore_n 1, 1) := dk_76 (dk_at dksX1_runScript_0 18 rfl rfl)
theorem dX1_runScript_19 : decode cX1_runScript 19 = .ok (.aload_n 1, 1) := dk_43 (dk_at dksX1_runScript_0 19 rfl rfl)
theorem dX1_runScript_20 : decode cX1_runScript 20 = .ok (.invokevirtual 415, 3) := dk_182 1 159 (dk_at dksX1_runScript_0 20 rfl rfl)
theorem dX1_runScript_23 : decode cX1_runScript 23 = .ok (.iconst 0, 1) := dk_3 (dk_at dksX1_runScript_0 23 rfl rfl)
theorem dX1_runScript_24 : decode cX1_runScript 24 = .ok (.istore_n 2, 1) := dk_61 (dk_at dksX1_runScript_1 0 rfl rfl)
theorem dX1_runScript_25 : decode cX1_runScript 25 = .ok (.iload_n 2, 1) := dk_28 (dk_at dksX1_runScript_1 1 rfl rfl)
theorem dX1_runScript_26 : decode cX1_runScript 26 = .ok (.aload_n 1, 1) := dk_43 (dk_at dksX1_runScript_1 2 rfl rfl)
theorem dX1_runScript_27 : decode cX1_runScript 27 = .ok (.getfield 418, 3) := dk_180 1 162 (dk_at dksX1_runScript_1 3 rfl rfl)
theorem dX1_runScript_30 : decode cX1_runScript 30 = .ok (.if_icmp .ge 47, 3) := dk_162 0 47 (dk_at dksX1_runScript_1 6 rfl rfl)
theorem dX1_runScript_33 : decode cX1_runScript 33 = .ok (.aload_n 0, 1) := dk_42 (dk_at dksX1_runScript_1 9 rfl rfl)
theorem dX1_runScript_34 : decode cX1_runScript 34 = .ok (.aload_n 1, 1) := dk_43 (dk_at dksX1_runScript_1 10 rfl rfl)
theorem dX1_runScript_35 : decode cX1_runScript 35 = .ok (.getfield 421, 3) := dk_180 1 165 (dk_at dksX1_runScript_1 11 rfl rfl)
theorem dX1_runScript_38 : decode cX1_runScript 38 = .ok (.iload_n 2, 1) := dk_28 (dk_at dksX1_runScript_1 14 rfl rfl)
theorem dX1_runScript_39 : decode cX1_runScript 39 = .ok (.aaload, 1) := dk_50 (dk_at dksX1_runScript_1 15 rfl rfl)
theorem dX1_runScript_40 : decode cX1_runScript 40 = .ok (.invokevirtual 425, 3) := dk_182 1 169 (dk_at dksX1_runScript_1 16 rfl rfl)
theorem dX1_runScript_43 : decode cX1_runScript 43 = .ok (.ifCond .eq 34, 3) := dk_153 0 34 (dk_at dksX1_runScript_1 19 rfl rfl)
theorem dX1_runScript_46 : decode cX1_runScript 46 = .ok (.aload_n 0, 1) := dk_42 (dk_at dksX1_runScript_1 22 rfl rfl)
theorem dX1_runScript_47 : decode cX1_runScript 47 = .ok (.aload_n 1, 1) := dk_43 (dk_at dksX1_runScript_1 23 rfl rfl)
theorem dX1_runScript_48 : decode cX1_runScript 48 = .ok (.getfield 421, 3) := dk_180 1 165 (dk_at dksX1_runScript_2 0 rfl rfl)
theorem dX1_runScript_51 : decode cX1_runScript 51 = .ok (.iload_n 2, 1) := dk_28 (dk_at dksX1_runScript_2 3 rfl rfl)
theorem dX1_runScript_52 : decode cX1_runScript 52 = .ok (.aaload, 1) := dk_50 (dk_at dksX1_runScript_2 4 rfl rfl)
theorem dX1_runScript_53 : decode cX1_runScript 53 = .ok (.getfield 174, 3) := dk_180 0 174 (dk_at dksX1_runScript_2 5 rfl rfl)
theorem dX1_runScript_56 : decode cX1_runScript 56 = .ok (.aload_n 1, 1) := dk_43 (dk_at dksX1_runScript_2 8 rfl rfl)
theorem dX1_runScript_57 : decode cX1_runScript 57 = .ok (.getfield 421, 3) := dk_180 1 165 (dk_at dksX1_runScript_2 9 rfl rfl)
theorem dX1_runScript_60 : decode cX1_runScript 60 = .ok (.iload_n 2, 1) := dk_28 (dk_at dksX1_runScript_2 12 rfl rfl)
theorem dX1_runScript_61 : decode cX1_runScript 61 = .ok (.aaload, 1) := dk_50 (dk_at dksX1_runScript_2 13 rfl rfl)
theorem dX1_runScript_62 : decode cX1_runScript 62 = .ok (.getfield 177, 3) := dk_180 0 177 (dk_at dksX1_runScript_2 14 rfl rfl)
theorem dX1_runScript_65 : decode cX1_runScript 65 = .ok (.invokevirtual 125, 3) := dk_182 0 125 (dk_at dksX1_runScript_2 17 rfl rfl)
theorem dX1_runScript_68 : decode cX1_runScript 68 = .ok (.ifCond .ne 9, 3) := dk_154 0 9 (dk_at dksX1_runScript_2 20 rfl rfl)
theorem dX1_runScript_71 : decode cX1_runScript 71 = .ok (.iinc 2 1, 3) := dk_132 2 1 (dk_at dksX1_runScript_3 0 rfl rfl)
theorem dX1_runScript_74 : decode cX1_runScript 74 = .ok (.goto (-49), 3) := dk_167 255 207 (dk_at dksX1_runScript_3 3 rfl rfl)
theorem dX1_runScript_77 : decode cX1_runScript 77 = .ok (.iload_n 2, 1) := dk_28 (dk_at dksX1_runScript_3 6 rfl rfl)
theorem dX1_runScript_78 : decode cX1_runScript 78 = .ok (.istore_n 3, 1) := dk_62 (dk_at dksX1_runScript_3 7 rfl rfl)
theorem dX1_runScript_79 : decode cX1_runScript 79 = .ok (.aload_n 0, 1) := dk_42 (dk_at dksX1_runScript_3 8 rfl rfl)
theorem dX1_runScript_80 : decode cX1_runScript 80 = .ok (.iconst 0, 1) := dk_3 (dk_at dksX1_runScript_3 9 rfl rfl)
theorem dX1_runScript_81 : decode cX1_runScript 81 = .ok (.putfield 406, 3) := dk_181 1 150 (dk_at dksX1_runScript_3 10 rfl rfl)
theorem dX1_runScript_84 : decode cX1_runScript 84 = .ok (.iload_n 3, 1) := dk_29 (dk_at dksX1_runScript_3 13 rfl rfl)
theorem dX1_runScript_85 : decode cX1_runScript 85 = .ok (.ireturn, 1) := dk_172 (dk_at dksX1_runScript_3 14 rfl rfl)
theorem dX1_runScript_86 : decode cX1_runScript 86 = .ok (.astore_n 1, 1) := dk_76 (dk_at dksX1_runScript_3 15 rfl rfl)
theorem dX1_runScript_87 : decode cX1_runScript 87 = .ok (.aload_n 0, 1) := dk_42 (dk_at dksX1_runScript_3 16 rfl rfl)
theorem dX1_runScript_88 : decode cX1_runScript 88 = .ok (.aload_n 1, 1) := dk_43 (dk_at dksX1_runScript_3 17 rfl rfl)
theorem dX1_runScript_89 : decode cX1_runScript 89 = .ok (.getfield 431, 3) := dk_180 1 175 (dk_at dksX1_runScript_3 18 rfl rfl)
theorem dX1_runScript_92 : decode cX1_runScript 92 = .ok (.putfield 409, 3) := dk_181 1 153 (dk_at dksX1_runScript_3 21 rfl rfl)
theorem dX1_runScript_95 : decode cX1_runScript 95 = .ok (.aload_n 0, 1) := dk_42 (dk_at dksX1_runScript_4 0 rfl rfl)
theorem dX1_runScript_96 : decode cX1_runScript 96 = .ok (.aload_n 1, 1) := dk_43 (dk_at dksX1_runScript_4 1 rfl rfl)
theorem dX1_runScript_97 : decode cX1_runScript 97 = .ok (.getfield 434, 3) := dk_180 1 178 (dk_at dksX1_runScript_4 2 rfl rfl)
theorem dX1_runScript_100 : decode cX1_runScript 100 = .ok (.putfield 61, 3) := dk_181 0 61 (dk_at dksX1_runScript_4 5 rfl rfl)
theorem dX1_runScript_103 : decode cX1_runScript 103 = .ok (.iconst (-1), 1) := dk_2 (dk_at dksX1_runScript_4 8 rfl rfl)
theorem dX1_runScript_104 : decode cX1_runScript 104 = .ok (.istore_n 2, 1) := dk_61 (dk_at dksX1_runScript_4 9 rfl rfl)
theorem dX1_runScript_105 : decode cX1_runScript 105 = .ok (.aload_n 0, 1) := dk_42 (dk_at dksX1_runScript_4 10 rfl rfl)
theorem dX1_runScript_106 : decode cX1_runScript 106 = .ok (.iconst 0, 1) := dk_3 (dk_at dksX1_runScript_4 11 rfl rfl)
theorem dX1_runScript_107 : decode cX1_runScript 107 = .ok (.putfield 406, 3) := dk_181 1 150 (dk_at dksX1_runScript_4 12 rfl rfl)
theorem dX1_runScript_110 : decode cX1_runScript 110 = .ok (.iload_n 2, 1) := dk_28 (dk_at dksX1_runScript_4 15 rfl rfl)
theorem dX1_runScript_111 : decode cX1_runScript 111 = .ok (.ireturn, 1) := dk_172 (dk_at dksX1_runScript_4 16 rfl rfl)
theorem dX1_runScript_112 : decode cX1_runScript 112 = .ok (.astore 4, 2) := dk_58 4 (dk_at dksX1_runScript_4 17 rfl rfl)
theorem dX1_runScript_114 : decode cX1_runScript 114 = .ok (.aload_n 0, 1) := dk_42 (dk_at dksX1_runScript_4 19 rfl rfl)
theorem dX1_runScript_115 : decode cX1_runScript 115 = .ok (.iconst 0, 1) := dk_3 (dk_at dksX1_runScript_4 20 rfl rfl)
theorem dX1_runScript_116 : decode cX1_runScript 116 = .ok (.putfield 406, 3) := dk_181 1 150 (dk_at dksX1_runScript_4 21 rfl rfl)
theorem dX1_runScript_119 : decode cX1_runScript 119 = .ok (.aload 4, 2) := dk_25 4 (dk_at dksX1_runScript_5 0 rfl rfl)
theorem dX1_runScript_121 : decode cX1_runScript 121 = .ok (.athrow, 1) := dk_191 (dk_at dksX1_runScript_5 2 rfl rfl)
abbrev cX1_isThere : ByteArray := prog_1_method_61_code
def yX1_isThere : MethodName := ⟨RX1, "isThere", "(LFlashZones$Act;)Z"⟩
def dkwX1_isThere_2 : List UInt8 := [182, 0, 136, 153, 0, 7, 4, 167, 0, 4, 3, 172]
abbrev dktX1_isThere_2 : List UInt8 := dkwX1_isThere_2 ++ []
def dkwX1_isThere_1 : List UInt8 := [180, 0, 174, 5, 159, 0, 11, 43, 180, 0, 174, 6, 160, 0, 16, 42, 43, 180, 0, 177, 3, 46]
abbrev dktX1_isThere_1 : List UInt8 := dkwX1_isThere_1 ++ dktX1_isThere_2
def dkwX1_isThere_0 : List UInt8 := [43, 180, 0, 174, 4, 160, 0, 16, 42, 43, 180, 0, 177, 3, 46, 182, 0, 129, 167, 0, 37, 43]
abbrev dktX1_isThere_0 : List UInt8 := dkwX1_isThere_0 ++ dktX1_isThere_1
theorem dksX1_isThere_0 : cX1_isThere.data.toList.drop 0 = dktX1_isThere_0 := by decide +kernel
theorem dksX1_isThere_1 : cX1_isThere.data.toList.drop 22 = dktX1_isThere_1 := dk_seg dksX1_isThere_0 22 rfl rfl
theorem dksX1_isThere_2 : cX1_isThere.data.toList.drop 44 = dktX1_isThere_2 := dk_seg dksX1_isThere_1 22 rfl rfl
theorem dX1_isThere_0 : decode cX1_isThere 0 = .ok (.aload_n 1, 1) := dk_43 (dk_at dksX1_isThere_0 0 rfl rfl)
theorem dX1_isThere_1 : decode cX1_isThere 1 = .ok (.getfield 174, 3) := dk_180 0 174 (dk_at dksX1_isThere_0 1 rfl rfl)
theorem dX1_isThere_4 : decode cX1_isThere 4 = .ok (.iconst 1, 1) := dk_4 (dk_at dksX1_isThere_0 4 rfl rfl)
theorem dX1_isThere_5 : decode cX1_isThere 5 = .ok (.if_icmp .ne 16, 3) := dk_160 0 16 (dk_at dksX1_isThere_0 5 rfl rfl)
theorem dX1_isThere_8 : decode cX1_isThere 8 = .ok (.aload_n 0, 1) := dk_42 (dk_at dksX1_isThere_0 8 rfl rfl)
theorem dX1_isThere_9 : decode cX1_isThere 9 = .ok (.aload_n 1, 1) := dk_43 (dk_at dksX1_isThere_0 9 rfl rfl)
theorem dX1_isThere_10 : decode cX1_isThere 10 = .ok (.getfield 177, 3) := dk_180 0 177 (dk_at dksX1_isThere_0 10 rfl rfl)
theorem dX1_isThere_13 : decode cX1_isThere 13 = .ok (.iconst 0, 1) := dk_3 (dk_at dksX1_isThere_0 13 rfl rfl)
theorem dX1_isThere_14 : decode cX1_isThere 14 = .ok (.iaload, 1) := dk_46 (dk_at dksX1_isThere_0 14 rfl rfl)
theorem dX1_isThere_15 : decode cX1_isThere 15 = .ok (.invokevirtual 129, 3) := dk_182 0 129 (dk_at dksX1_isThere_0 15 rfl rfl)
theorem dX1_isThere_18 : decode cX1_isThere 18 = .ok (.goto 37, 3) := dk_167 0 37 (dk_at dksX1_isThere_0 18 rfl rfl)
theorem dX1_isThere_21 : decode cX1_isThere 21 = .ok (.aload_n 1, 1) := dk_43 (dk_at dksX1_isThere_0 21 rfl rfl)
theorem dX1_isThere_22 : decode cX1_isThere 22 = .ok (.getfield 174, 3) := dk_180 0 174 (dk_at dksX1_isThere_1 0 rfl rfl)
theorem dX1_isThere_25 : decode cX1_isThere 25 = .ok (.iconst 2, 1) := dk_5 (dk_at dksX1_isThere_1 3 rfl rfl)
theorem dX1_isThere_26 : decode cX1_isThere 26 = .ok (.if_icmp .eq 11, 3) := dk_159 0 11 (dk_at dksX1_isThere_1 4 rfl rfl)
theorem dX1_isThere_29 : decode cX1_isThere 29 = .ok (.aload_n 1, 1) := dk_43 (dk_at dksX1_isThere_1 7 rfl rfl)
theorem dX1_isThere_30 : decode cX1_isThere 30 = .ok (.getfield 174, 3) := dk_180 0 174 (dk_at dksX1_isThere_1 8 rfl rfl)
theorem dX1_isThere_33 : decode cX1_isThere 33 = .ok (.iconst 3, 1) := dk_6 (dk_at dksX1_isThere_1 11 rfl rfl)
theorem dX1_isThere_34 : decode cX1_isThere 34 = .ok (.if_icmp .ne 16, 3) := dk_160 0 16 (dk_at dksX1_isThere_1 12 rfl rfl)
theorem dX1_isThere_37 : decode cX1_isThere 37 = .ok (.aload_n 0, 1) := dk_42 (dk_at dksX1_isThere_1 15 rfl rfl)
theorem dX1_isThere_38 : decode cX1_isThere 38 = .ok (.aload_n 1, 1) := dk_43 (dk_at dksX1_isThere_1 16 rfl rfl)
theorem dX1_isThere_39 : decode cX1_isThere 39 = .ok (.getfield 177, 3) := dk_180 0 177 (dk_at dksX1_isThere_1 17 rfl rfl)
theorem dX1_isThere_42 : decode cX1_isThere 42 = .ok (.iconst 0, 1) := dk_3 (dk_at dksX1_isThere_1 20 rfl rfl)
theorem dX1_isThere_43 : decode cX1_isThere 43 = .ok (.iaload, 1) := dk_46 (dk_at dksX1_isThere_1 21 rfl rfl)
theorem dX1_isThere_44 : decode cX1_isThere 44 = .ok (.invokevirtual 136, 3) := dk_182 0 136 (dk_at dksX1_isThere_2 0 rfl rfl)
theorem dX1_isThere_47 : decode cX1_isThere 47 = .ok (.ifCond .eq 7, 3) := dk_153 0 7 (dk_at dksX1_isThere_2 3 rfl rfl)
theorem dX1_isThere_50 : decode cX1_isThere 50 = .ok (.iconst 1, 1) := dk_4 (dk_at dksX1_isThere_2 6 rfl rfl)
theorem dX1_isThere_51 : decode cX1_isThere 51 = .ok (.goto 4, 3) := dk_167 0 4 (dk_at dksX1_isThere_2 7 rfl rfl)
theorem dX1_isThere_54 : decode cX1_isThere 54 = .ok (.iconst 0, 1) := dk_3 (dk_at dksX1_isThere_2 10 rfl rfl)
theorem dX1_isThere_55 : decode cX1_isThere 55 = .ok (.ireturn, 1) := dk_172 (dk_at dksX1_isThere_2 11 rfl rfl)
abbrev cX1_isUnit : ByteArray := prog_1_method_26_code
def yX1_isUnit : MethodName := ⟨RX1, "isUnit", "(I)Z"⟩
def dkwX1_isUnit_0 : List UInt8 := [27, 3, 42, 182, 0, 92, 180, 0, 95, 185, 0, 78, 1, 0, 4, 100, 184, 0, 117, 172]
abbrev dktX1_isUnit_0 : List UInt8 := dkwX1_isUnit_0 ++ []
theorem dksX1_isUnit_0 : cX1_isUnit.data.toList.drop 0 = dktX1_isUnit_0 := by decide +kernel
theorem dX1_isUnit_0 : decode cX1_isUnit 0 = .ok (.iload_n 1, 1) := dk_27 (dk_at dksX1_isUnit_0 0 rfl rfl)
theorem dX1_isUnit_1 : decode cX1_isUnit 1 = .ok (.iconst 0, 1) := dk_3 (dk_at dksX1_isUnit_0 1 rfl rfl)
theorem dX1_isUnit_2 : decode cX1_isUnit 2 = .ok (.aload_n 0, 1) := dk_42 (dk_at dksX1_isUnit_0 2 rfl rfl)
theorem dX1_isUnit_3 : decode cX1_isUnit 3 = .ok (.invokevirtual 92, 3) := dk_182 0 92 (dk_at dksX1_isUnit_0 3 rfl rfl)
theorem dX1_isUnit_6 : decode cX1_isUnit 6 = .ok (.getfield 95, 3) := dk_180 0 95 (dk_at dksX1_isUnit_0 6 rfl rfl)
theorem dX1_isUnit_9 : decode cX1_isUnit 9 = .ok (.invokeinterface 78 1, 5) := by decide +kernel
theorem dX1_isUnit_14 : decode cX1_isUnit 14 = .ok (.iconst 1, 1) := dk_4 (dk_at dksX1_isUnit_0 14 rfl rfl)
theorem dX1_isUnit_15 : decode cX1_isUnit 15 = .ok (.isub, 1) := dk_100 (dk_at dksX1_isUnit_0 15 rfl rfl)
theorem dX1_isUnit_16 : decode cX1_isUnit 16 = .ok (.invokestatic 117, 3) := dk_184 0 117 (dk_at dksX1_isUnit_0 16 rfl rfl)
theorem dX1_isUnit_19 : decode cX1_isUnit 19 = .ok (.ireturn, 1) := dk_172 (dk_at dksX1_isUnit_0 19 rfl rfl)
abbrev cX1_isZone : ByteArray := prog_1_method_25_code
def yX1_isZone : MethodName := ⟨RX1, "isZone", "(I)Z"⟩
def dkwX1_isZone_0 : List UInt8 := [27, 3, 42, 180, 0, 27, 180, 0, 192, 3, 46, 4, 100, 184, 0, 117, 172]
abbrev dktX1_isZone_0 : List UInt8 := dkwX1_isZone_0 ++ []
theorem dksX1_isZone_0 : cX1_isZone.data.toList.drop 0 = dktX1_isZone_0 := by decide +kernel
theorem dX1_isZone_0 : decode cX1_isZone 0 = .ok (.iload_n 1, 1) := dk_27 (dk_at dksX1_isZone_0 0 rfl rfl)
theorem dX1_isZone_1 : decode cX1_isZone 1 = .ok (.iconst 0, 1) := dk_3 (dk_at dksX1_isZone_0 1 rfl rfl)
theorem dX1_isZone_2 : decode cX1_isZone 2 = .ok (.aload_n 0, 1) := dk_42 (dk_at dksX1_isZone_0 2 rfl rfl)
theorem dX1_isZone_3 : decode cX1_isZone 3 = .ok (.getfield 27, 3) := dk_180 0 27 (dk_at dksX1_isZone_0 3 rfl rfl)
theorem dX1_isZone_6 : decode cX1_isZone 6 = .ok (.getfield 192, 3) := dk_180 0 192 (dk_at dksX1_isZone_0 6 rfl rfl)
theorem dX1_isZone_9 : decode cX1_isZone 9 = .ok (.iconst 0, 1) := dk_3 (dk_at dksX1_isZone_0 9 rfl rfl)
theorem dX1_isZone_10 : decode cX1_isZone 10 = .ok (.iaload, 1) := dk_46 (dk_at dksX1_isZone_0 10 rfl rfl)
theorem dX1_isZone_11 : decode cX1_isZone 11 = .ok (.iconst 1, 1) := dk_4 (dk_at dksX1_isZone_0 11 rfl rfl)
theorem dX1_isZone_12 : decode cX1_isZone 12 = .ok (.isub, 1) := dk_100 (dk_at dksX1_isZone_0 12 rfl rfl)
theorem dX1_isZone_13 : decode cX1_isZone 13 = .ok (.invokestatic 117, 3) := dk_184 0 117 (dk_at dksX1_isZone_0 13 rfl rfl)
theorem dX1_isZone_16 : decode cX1_isZone 16 = .ok (.ireturn, 1) := dk_172 (dk_at dksX1_isZone_0 16 rfl rfl)
abbrev cX1_does : ByteArray := prog_1_method_9_code
def yX1_does : MethodName := ⟨RX1, "does", "(I[I)I"⟩
def dkwX1_does_5 : List UInt8 := [180, 0, 74, 45, 185, 0, 113, 2, 0, 87, 42, 3, 182, 0, 84, 172]
abbrev dktX1_does_5 : List UInt8 := dkwX1_does_5 ++ []
def dkwX1_does_4 : List UInt8 := [180, 0, 38, 182, 0, 105, 192, 0, 24, 58, 6, 42, 180, 0, 38, 25, 4, 182, 0, 109, 42, 180, 0, 27]
abbrev dktX1_does_4 : List UInt8 := dkwX1_does_4 ++ dktX1_does_5
def dkwX1_does_3 : List UInt8 := [153, 0, 10, 42, 21, 5, 182, 0, 84, 172, 42, 180, 0, 38, 182, 0, 104, 16, 8, 160, 0, 15, 42]
abbrev dktX1_does_3 : List UInt8 := dkwX1_does_3 ++ dktX1_does_4
def dkwX1_does_2 : List UInt8 := [182, 0, 92, 42, 182, 0, 92, 180, 0, 95, 185, 0, 78, 1, 0, 182, 0, 100, 54, 5, 21, 5]
abbrev dktX1_does_2 : List UInt8 := dkwX1_does_2 ++ dktX1_does_3
def dkwX1_does_1 : List UInt8 := [17, 0, 150, 160, 0, 10, 42, 16, 7, 182, 0, 84, 172, 42, 180, 0, 27, 182, 0, 88, 58, 4, 45, 42]
abbrev dktX1_does_1 : List UInt8 := dkwX1_does_1 ++ dktX1_does_2
def dkwX1_does_0 : List UInt8 := [187, 0, 69, 89, 27, 44, 183, 0, 71, 78, 42, 180, 0, 27, 180, 0, 74, 185, 0, 78, 1, 0]
abbrev dktX1_does_0 : List UInt8 := dkwX1_does_0 ++ dktX1_does_1
theorem dksX1_does_0 : cX1_does.data.toList.drop 0 = dktX1_does_0 := by decide +kernel
theorem dksX1_does_1 : cX1_does.data.toList.drop 22 = dktX1_does_1 := dk_seg dksX1_does_0 22 rfl rfl
theorem dksX1_does_2 : cX1_does.data.toList.drop 46 = dktX1_does_2 := dk_seg dksX1_does_1 24 rfl rfl
theorem dksX1_does_3 : cX1_does.data.toList.drop 68 = dktX1_does_3 := dk_seg dksX1_does_2 22 rfl rfl
theorem dksX1_does_4 : cX1_does.data.toList.drop 91 = dktX1_does_4 := dk_seg dksX1_does_3 23 rfl rfl
theorem dksX1_does_5 : cX1_does.data.toList.drop 115 = dktX1_does_5 := dk_seg dksX1_does_4 24 rfl rfl
theorem dX1_does_0 : decode cX1_does 0 = .ok (.new 69, 3) := dk_187 0 69 (dk_at dksX1_does_0 0 rfl rfl)
theorem dX1_does_3 : decode cX1_does 3 = .ok (.dup, 1) := dk_89 (dk_at dksX1_does_0 3 rfl rfl)
theorem dX1_does_4 : decode cX1_does 4 = .ok (.iload_n 1, 1) := dk_27 (dk_at dksX1_does_0 4 rfl rfl)
theorem dX1_does_5 : decode cX1_does 5 = .ok (.aload_n 2, 1) := dk_44 (dk_at dksX1_does_0 5 rfl rfl)
theorem dX1_does_6 : decode cX1_does 6 = .ok (.invokespecial 71, 3) := dk_183 0 71 (dk_at dksX1_does_0 6 rfl rfl)
theorem dX1_does_9 : decode cX1_does 9 = .ok (.astore_n 3, 1) := dk_78 (dk_at dksX1_does_0 9 rfl rfl)
theorem dX1_does_10 : decode cX1_does 10 = .ok (.aload_n 0, 1) := dk_42 (dk_at dksX1_does_0 10 rfl rfl)
theorem dX1_does_11 : decode cX1_does 11 = .ok (.getfield 27, 3) := dk_180 0 27 (dk_at dksX1_does_0 11 rfl rfl)
theorem dX1_does_14 : decode cX1_does 14 = .ok (.getfield 74, 3) := dk_180 0 74 (dk_at dksX1_does_0 14 rfl rfl)
theorem dX1_does_17 : decode cX1_does 17 = .ok (.invokeinterface 78 1, 5) := by decide +kernel
theorem dX1_does_22 : decode cX1_does 22 = .ok (.sipush 150, 3) := dk_17 0 150 (dk_at dksX1_does_1 0 rfl rfl)
theorem dX1_does_25 : decode cX1_does 25 = .ok (.if_icmp .ne 10, 3) := dk_160 0 10 (dk_at dksX1_does_1 3 rfl rfl)
theorem dX1_does_28 : decode cX1_does 28 = .ok (.aload_n 0, 1) := dk_42 (dk_at dksX1_does_1 6 rfl rfl)
theorem dX1_does_29 : decode cX1_does 29 = .ok (.bipush 7, 2) := dk_16 7 (dk_at dksX1_does_1 7 rfl rfl)
theorem dX1_does_31 : decode cX1_does 31 = .ok (.invokevirtual 84, 3) := dk_182 0 84 (dk_at dksX1_does_1 9 rfl rfl)
theorem dX1_does_34 : decode cX1_does 34 = .ok (.ireturn, 1) := dk_172 (dk_at dksX1_does_1 12 rfl rfl)
theorem dX1_does_35 : decode cX1_does 35 = .ok (.aload_n 0, 1) := dk_42 (dk_at dksX1_does_1 13 rfl rfl)
theorem dX1_does_36 : decode cX1_does 36 = .ok (.getfield 27, 3) := dk_180 0 27 (dk_at dksX1_does_1 14 rfl rfl)
theorem dX1_does_39 : decode cX1_does 39 = .ok (.invokevirtual 88, 3) := dk_182 0 88 (dk_at dksX1_does_1 17 rfl rfl)
theorem dX1_does_42 : decode cX1_does 42 = .ok (.astore 4, 2) := dk_58 4 (dk_at dksX1_does_1 20 rfl rfl)
theorem dX1_does_44 : decode cX1_does 44 = .ok (.aload_n 3, 1) := dk_45 (dk_at dksX1_does_1 22 rfl rfl)
theorem dX1_does_45 : decode cX1_does 45 = .ok (.aload_n 0, 1) := dk_42 (dk_at dksX1_does_1 23 rfl rfl)
theorem dX1_does_46 : decode cX1_does 46 = .ok (.invokevirtual 92, 3) := dk_182 0 92 (dk_at dksX1_does_2 0 rfl rfl)
theorem dX1_does_49 : decode cX1_does 49 = .ok (.aload_n 0, 1) := dk_42 (dk_at dksX1_does_2 3 rfl rfl)
theorem dX1_does_50 : decode cX1_does 50 = .ok (.invokevirtual 92, 3) := dk_182 0 92 (dk_at dksX1_does_2 4 rfl rfl)
theorem dX1_does_53 : decode cX1_does 53 = .ok (.getfield 95, 3) := dk_180 0 95 (dk_at dksX1_does_2 7 rfl rfl)
theorem dX1_does_56 : decode cX1_does 56 = .ok (.invokeinterface 78 1, 5) := by decide +kernel
theorem dX1_does_61 : decode cX1_does 61 = .ok (.invokevirtual 100, 3) := dk_182 0 100 (dk_at dksX1_does_2 15 rfl rfl)
theorem dX1_does_64 : decode cX1_does 64 = .ok (.istore 5, 2) := dk_54 5 (dk_at dksX1_does_2 18 rfl rfl)
theorem dX1_does_66 : decode cX1_does 66 = .ok (.iload 5, 2) := dk_21 5 (dk_at dksX1_does_2 20 rfl rfl)
theorem dX1_does_68 : decode cX1_does 68 = .ok (.ifCond .eq 10, 3) := dk_153 0 10 (dk_at dksX1_does_3 0 rfl rfl)
theorem dX1_does_71 : decode cX1_does 71 = .ok (.aload_n 0, 1) := dk_42 (dk_at dksX1_does_3 3 rfl rfl)
theorem dX1_does_72 : decode cX1_does 72 = .ok (.iload 5, 2) := dk_21 5 (dk_at dksX1_does_3 4 rfl rfl)
theorem dX1_does_74 : decode cX1_does 74 = .ok (.invokevirtual 84, 3) := dk_182 0 84 (dk_at dksX1_does_3 6 rfl rfl)
theorem dX1_does_77 : decode cX1_does 77 = .ok (.ireturn, 1) := dk_172 (dk_at dksX1_does_3 9 rfl rfl)
theorem dX1_does_78 : decode cX1_does 78 = .ok (.aload_n 0, 1) := dk_42 (dk_at dksX1_does_3 10 rfl rfl)
theorem dX1_does_79 : decode cX1_does 79 = .ok (.getfield 38, 3) := dk_180 0 38 (dk_at dksX1_does_3 11 rfl rfl)
theorem dX1_does_82 : decode cX1_does 82 = .ok (.invokevirtual 104, 3) := dk_182 0 104 (dk_at dksX1_does_3 14 rfl rfl)
theorem dX1_does_85 : decode cX1_does 85 = .ok (.bipush 8, 2) := dk_16 8 (dk_at dksX1_does_3 17 rfl rfl)
theorem dX1_does_87 : decode cX1_does 87 = .ok (.if_icmp .ne 15, 3) := dk_160 0 15 (dk_at dksX1_does_3 19 rfl rfl)
theorem dX1_does_90 : decode cX1_does 90 = .ok (.aload_n 0, 1) := dk_42 (dk_at dksX1_does_3 22 rfl rfl)
theorem dX1_does_91 : decode cX1_does 91 = .ok (.getfield 38, 3) := dk_180 0 38 (dk_at dksX1_does_4 0 rfl rfl)
theorem dX1_does_94 : decode cX1_does 94 = .ok (.invokevirtual 105, 3) := dk_182 0 105 (dk_at dksX1_does_4 3 rfl rfl)
theorem dX1_does_97 : decode cX1_does 97 = .ok (.checkcast 24, 3) := dk_192 0 24 (dk_at dksX1_does_4 6 rfl rfl)
theorem dX1_does_100 : decode cX1_does 100 = .ok (.astore 6, 2) := dk_58 6 (dk_at dksX1_does_4 9 rfl rfl)
theorem dX1_does_102 : decode cX1_does 102 = .ok (.aload_n 0, 1) := dk_42 (dk_at dksX1_does_4 11 rfl rfl)
theorem dX1_does_103 : decode cX1_does 103 = .ok (.getfield 38, 3) := dk_180 0 38 (dk_at dksX1_does_4 12 rfl rfl)
theorem dX1_does_106 : decode cX1_does 106 = .ok (.aload 4, 2) := dk_25 4 (dk_at dksX1_does_4 15 rfl rfl)
theorem dX1_does_108 : decode cX1_does 108 = .ok (.invokevirtual 109, 3) := dk_182 0 109 (dk_at dksX1_does_4 17 rfl rfl)
theorem dX1_does_111 : decode cX1_does 111 = .ok (.aload_n 0, 1) := dk_42 (dk_at dksX1_does_4 20 rfl rfl)
theorem dX1_does_112 : decode cX1_does 112 = .ok (.getfield 27, 3) := dk_180 0 27 (dk_at dksX1_does_4 21 rfl rfl)
theorem dX1_does_115 : decode cX1_does 115 = .ok (.getfield 74, 3) := dk_180 0 74 (dk_at dksX1_does_5 0 rfl rfl)
theorem dX1_does_118 : decode cX1_does 118 = .ok (.aload_n 3, 1) := dk_45 (dk_at dksX1_does_5 3 rfl rfl)
theorem dX1_does_119 : decode cX1_does 119 = .ok (.invokeinterface 113 2, 5) := by decide +kernel
theorem dX1_does_124 : decode cX1_does 124 = .ok (.pop, 1) := dk_87 (dk_at dksX1_does_5 9 rfl rfl)
theorem dX1_does_125 : decode cX1_does 125 = .ok (.aload_n 0, 1) := dk_42 (dk_at dksX1_does_5 10 rfl rfl)
theorem dX1_does_126 : decode cX1_does 126 = .ok (.iconst 0, 1) := dk_3 (dk_at dksX1_does_5 11 rfl rfl)
theorem dX1_does_127 : decode cX1_does 127 = .ok (.invokevirtual 84, 3) := dk_182 0 84 (dk_at dksX1_does_5 12 rfl rfl)
theorem dX1_does_130 : decode cX1_does 130 = .ok (.ireturn, 1) := dk_172 (dk_at dksX1_does_5 15 rfl rfl)
abbrev cX1_refuse : ByteArray := prog_1_method_10_code
def yX1_refuse : MethodName := ⟨RX1, "refuse", "(I)I"⟩
def dkwX1_refuse_0 : List UInt8 := [42, 180, 0, 46, 27, 92, 46, 4, 96, 79, 27, 172]
abbrev dktX1_refuse_0 : List UInt8 := dkwX1_refuse_0 ++ []
theorem dksX1_refuse_0 : cX1_refuse.data.toList.drop 0 = dktX1_refuse_0 := by decide +kernel
theorem dX1_refuse_0 : decode cX1_refuse 0 = .ok (.aload_n 0, 1) := dk_42 (dk_at dksX1_refuse_0 0 rfl rfl)
theorem dX1_refuse_1 : decode cX1_refuse 1 = .ok (.getfield 46, 3) := dk_180 0 46 (dk_at dksX1_refuse_0 1 rfl rfl)
theorem dX1_refuse_4 : decode cX1_refuse 4 = .ok (.iload_n 1, 1) := dk_27 (dk_at dksX1_refuse_0 4 rfl rfl)
theorem dX1_refuse_5 : decode cX1_refuse 5 = .ok (.dup2, 1) := dk_92 (dk_at dksX1_refuse_0 5 rfl rfl)
theorem dX1_refuse_6 : decode cX1_refuse 6 = .ok (.iaload, 1) := dk_46 (dk_at dksX1_refuse_0 6 rfl rfl)
theorem dX1_refuse_7 : decode cX1_refuse 7 = .ok (.iconst 1, 1) := dk_4 (dk_at dksX1_refuse_0 7 rfl rfl)
theorem dX1_refuse_8 : decode cX1_refuse 8 = .ok (.iadd, 1) := dk_96 (dk_at dksX1_refuse_0 8 rfl rfl)
theorem dX1_refuse_9 : decode cX1_refuse 9 = .ok (.iastore, 1) := dk_79 (dk_at dksX1_refuse_0 9 rfl rfl)
theorem dX1_refuse_10 : decode cX1_refuse 10 = .ok (.iload_n 1, 1) := dk_27 (dk_at dksX1_refuse_0 10 rfl rfl)
theorem dX1_refuse_11 : decode cX1_refuse 11 = .ok (.ireturn, 1) := dk_172 (dk_at dksX1_refuse_0 11 rfl rfl)
abbrev cX1_errorCode : ByteArray := prog_1_method_63_code
def yX1_errorCode : MethodName := ⟨RX1, "errorCode", "()I"⟩
theorem dX1_errorCode_0 : decode cX1_errorCode 0 = .ok (.aload_n 0, 1) := by decide +kernel
theorem dX1_errorCode_1 : decode cX1_errorCode 1 = .ok (.getfield 409, 3) := by decide +kernel
theorem dX1_errorCode_4 : decode cX1_errorCode 4 = .ok (.ireturn, 1) := by decide +kernel
abbrev cX1_errorPosition : ByteArray := prog_1_method_64_code
def yX1_errorPosition : MethodName := ⟨RX1, "errorPosition", "()I"⟩
theorem dX1_errorPosition_0 : decode cX1_errorPosition 0 = .ok (.aload_n 0, 1) := by decide +kernel
theorem dX1_errorPosition_1 : decode cX1_errorPosition 1 = .ok (.getfield 61, 3) := by decide +kernel
theorem dX1_errorPosition_4 : decode cX1_errorPosition 4 = .ok (.ireturn, 1) := by decide +kernel
abbrev cX1_undo : ByteArray := prog_1_method_65_code
def yX1_undo : MethodName := ⟨RX1, "undo", "()I"⟩
def dkwX1_undo_1 : List UInt8 := [181, 0, 27, 42, 180, 0, 38, 182, 0, 104, 172]
abbrev dktX1_undo_1 : List UInt8 := dkwX1_undo_1 ++ []
def dkwX1_undo_0 : List UInt8 := [42, 180, 0, 38, 182, 1, 181, 153, 0, 5, 2, 172, 42, 42, 180, 0, 38, 182, 1, 182, 192, 0, 24]
abbrev dktX1_undo_0 : List UInt8 := dkwX1_undo_0 ++ dktX1_undo_1
theorem dksX1_undo_0 : cX1_undo.data.toList.drop 0 = dktX1_undo_0 := by decide +kernel
theorem dksX1_undo_1 : cX1_undo.data.toList.drop 23 = dktX1_undo_1 := dk_seg dksX1_undo_0 23 rfl rfl
theorem dX1_undo_0 : decode cX1_undo 0 = .ok (.aload_n 0, 1) := dk_42 (dk_at dksX1_undo_0 0 rfl rfl)
theorem dX1_undo_1 : decode cX1_undo 1 = .ok (.getfield 38, 3) := dk_180 0 38 (dk_at dksX1_undo_0 1 rfl rfl)
theorem dX1_undo_4 : decode cX1_undo 4 = .ok (.invokevirtual 437, 3) := dk_182 1 181 (dk_at dksX1_undo_0 4 rfl rfl)
theorem dX1_undo_7 : decode cX1_undo 7 = .ok (.ifCond .eq 5, 3) := dk_153 0 5 (dk_at dksX1_undo_0 7 rfl rfl)
theorem dX1_undo_10 : decode cX1_undo 10 = .ok (.iconst (-1), 1) := dk_2 (dk_at dksX1_undo_0 10 rfl rfl)
theorem dX1_undo_11 : decode cX1_undo 11 = .ok (.ireturn, 1) := dk_172 (dk_at dksX1_undo_0 11 rfl rfl)
theorem dX1_undo_12 : decode cX1_undo 12 = .ok (.aload_n 0, 1) := dk_42 (dk_at dksX1_undo_0 12 rfl rfl)
theorem dX1_undo_13 : decode cX1_undo 13 = .ok (.aload_n 0, 1) := dk_42 (dk_at dksX1_undo_0 13 rfl rfl)
theorem dX1_undo_14 : decode cX1_undo 14 = .ok (.getfield 38, 3) := dk_180 0 38 (dk_at dksX1_undo_0 14 rfl rfl)
theorem dX1_undo_17 : decode cX1_undo 17 = .ok (.invokevirtual 438, 3) := dk_182 1 182 (dk_at dksX1_undo_0 17 rfl rfl)
theorem dX1_undo_20 : decode cX1_undo 20 = .ok (.checkcast 24, 3) := dk_192 0 24 (dk_at dksX1_undo_0 20 rfl rfl)
theorem dX1_undo_23 : decode cX1_undo 23 = .ok (.putfield 27, 3) := dk_181 0 27 (dk_at dksX1_undo_1 0 rfl rfl)
theorem dX1_undo_26 : decode cX1_undo 26 = .ok (.aload_n 0, 1) := dk_42 (dk_at dksX1_undo_1 3 rfl rfl)
theorem dX1_undo_27 : decode cX1_undo 27 = .ok (.getfield 38, 3) := dk_180 0 38 (dk_at dksX1_undo_1 4 rfl rfl)
theorem dX1_undo_30 : decode cX1_undo 30 = .ok (.invokevirtual 104, 3) := dk_182 0 104 (dk_at dksX1_undo_1 7 rfl rfl)
theorem dX1_undo_33 : decode cX1_undo 33 = .ok (.ireturn, 1) := dk_172 (dk_at dksX1_undo_1 10 rfl rfl)
abbrev cX1_appendText : ByteArray := prog_1_method_59_code
def yX1_appendText : MethodName := ⟨RX1, "appendText", "(I)I"⟩
def dkwX1_appendText_2 : List UInt8 := [181, 1, 150, 132, 2, 248, 167, 255, 226, 42, 180, 1, 150, 172]
abbrev dktX1_appendText_2 : List UInt8 := dkwX1_appendText_2 ++ []
def dkwX1_appendText_1 : List UInt8 := [155, 0, 32, 42, 180, 0, 57, 42, 180, 1, 150, 27, 28, 122, 145, 84, 42, 89, 180, 1, 150, 4, 96]
abbrev dktX1_appendText_1 : List UInt8 := dkwX1_appendText_1 ++ dktX1_appendText_2
def dkwX1_appendText_0 : List UInt8 := [42, 180, 1, 150, 7, 96, 17, 2, 188, 163, 0, 7, 4, 167, 0, 4, 3, 184, 0, 189, 16, 24, 61, 28]
abbrev dktX1_appendText_0 : List UInt8 := dkwX1_appendText_0 ++ dktX1_appendText_1
theorem dksX1_appendText_0 : cX1_appendText.data.toList.drop 0 = dktX1_appendText_0 := by decide +kernel
theorem dksX1_appendText_1 : cX1_appendText.data.toList.drop 24 = dktX1_appendText_1 := dk_seg dksX1_appendText_0 24 rfl rfl
theorem dksX1_appendText_2 : cX1_appendText.data.toList.drop 47 = dktX1_appendText_2 := dk_seg dksX1_appendText_1 23 rfl rfl
theorem dX1_appendText_0 : decode cX1_appendText 0 = .ok (.aload_n 0, 1) := dk_42 (dk_at dksX1_appendText_0 0 rfl rfl)
theorem dX1_appendText_1 : decode cX1_appendText 1 = .ok (.getfield 406, 3) := dk_180 1 150 (dk_at dksX1_appendText_0 1 rfl rfl)
theorem dX1_appendText_4 : decode cX1_appendText 4 = .ok (.iconst 4, 1) := dk_7 (dk_at dksX1_appendText_0 4 rfl rfl)
theorem dX1_appendText_5 : decode cX1_appendText 5 = .ok (.iadd, 1) := dk_96 (dk_at dksX1_appendText_0 5 rfl rfl)
theorem dX1_appendText_6 : decode cX1_appendText 6 = .ok (.sipush 700, 3) := dk_17 2 188 (dk_at dksX1_appendText_0 6 rfl rfl)
theorem dX1_appendText_9 : decode cX1_appendText 9 = .ok (.if_icmp .gt 7, 3) := dk_163 0 7 (dk_at dksX1_appendText_0 9 rfl rfl)
theorem dX1_appendText_12 : decode cX1_appendText 12 = .ok (.iconst 1, 1) := dk_4 (dk_at dksX1_appendText_0 12 rfl rfl)
theorem dX1_appendText_13 : decode cX1_appendText 13 = .ok (.goto 4, 3) := dk_167 0 4 (dk_at dksX1_appendText_0 13 rfl rfl)
theorem dX1_appendText_16 : decode cX1_appendText 16 = .ok (.iconst 0, 1) := dk_3 (dk_at dksX1_appendText_0 16 rfl rfl)
theorem dX1_appendText_17 : decode cX1_appendText 17 = .ok (.invokestatic 189, 3) := dk_184 0 189 (dk_at dksX1_appendText_0 17 rfl rfl)
theorem dX1_appendText_20 : decode cX1_appendText 20 = .ok (.bipush 24, 2) := dk_16 24 (dk_at dksX1_appendText_0 20 rfl rfl)
theorem dX1_appendText_22 : decode cX1_appendText 22 = .ok (.istore_n 2, 1) := dk_61 (dk_at dksX1_appendText_0 22 rfl rfl)
theorem dX1_appendText_23 : decode cX1_appendText 23 = .ok (.iload_n 2, 1) := dk_28 (dk_at dksX1_appendText_0 23 rfl rfl)
theorem dX1_appendText_24 : decode cX1_appendText 24 = .ok (.ifCond .lt 32, 3) := dk_155 0 32 (dk_at dksX1_appendText_1 0 rfl rfl)
theorem dX1_appendText_27 : decode cX1_appendText 27 = .ok (.aload_n 0, 1) := dk_42 (dk_at dksX1_appendText_1 3 rfl rfl)
theorem dX1_appendText_28 : decode cX1_appendText 28 = .ok (.getfield 57, 3) := dk_180 0 57 (dk_at dksX1_appendText_1 4 rfl rfl)
theorem dX1_appendText_31 : decode cX1_appendText 31 = .ok (.aload_n 0, 1) := dk_42 (dk_at dksX1_appendText_1 7 rfl rfl)
theorem dX1_appendText_32 : decode cX1_appendText 32 = .ok (.getfield 406, 3) := dk_180 1 150 (dk_at dksX1_appendText_1 8 rfl rfl)
theorem dX1_appendText_35 : decode cX1_appendText 35 = .ok (.iload_n 1, 1) := dk_27 (dk_at dksX1_appendText_1 11 rfl rfl)
theorem dX1_appendText_36 : decode cX1_appendText 36 = .ok (.iload_n 2, 1) := dk_28 (dk_at dksX1_appendText_1 12 rfl rfl)
theorem dX1_appendText_37 : decode cX1_appendText 37 = .ok (.ishr, 1) := dk_122 (dk_at dksX1_appendText_1 13 rfl rfl)
theorem dX1_appendText_38 : decode cX1_appendText 38 = .ok (.i2b, 1) := dk_145 (dk_at dksX1_appendText_1 14 rfl rfl)
theorem dX1_appendText_39 : decode cX1_appendText 39 = .ok (.bastore, 1) := dk_84 (dk_at dksX1_appendText_1 15 rfl rfl)
theorem dX1_appendText_40 : decode cX1_appendText 40 = .ok (.aload_n 0, 1) := dk_42 (dk_at dksX1_appendText_1 16 rfl rfl)
theorem dX1_appendText_41 : decode cX1_appendText 41 = .ok (.dup, 1) := dk_89 (dk_at dksX1_appendText_1 17 rfl rfl)
theorem dX1_appendText_42 : decode cX1_appendText 42 = .ok (.getfield 406, 3) := dk_180 1 150 (dk_at dksX1_appendText_1 18 rfl rfl)
theorem dX1_appendText_45 : decode cX1_appendText 45 = .ok (.iconst 1, 1) := dk_4 (dk_at dksX1_appendText_1 21 rfl rfl)
theorem dX1_appendText_46 : decode cX1_appendText 46 = .ok (.iadd, 1) := dk_96 (dk_at dksX1_appendText_1 22 rfl rfl)
theorem dX1_appendText_47 : decode cX1_appendText 47 = .ok (.putfield 406, 3) := dk_181 1 150 (dk_at dksX1_appendText_2 0 rfl rfl)
theorem dX1_appendText_50 : decode cX1_appendText 50 = .ok (.iinc 2 (-8), 3) := dk_132 2 248 (dk_at dksX1_appendText_2 3 rfl rfl)
theorem dX1_appendText_53 : decode cX1_appendText 53 = .ok (.goto (-30), 3) := dk_167 255 226 (dk_at dksX1_appendText_2 6 rfl rfl)
theorem dX1_appendText_56 : decode cX1_appendText 56 = .ok (.aload_n 0, 1) := dk_42 (dk_at dksX1_appendText_2 9 rfl rfl)
theorem dX1_appendText_57 : decode cX1_appendText 57 = .ok (.getfield 406, 3) := dk_180 1 150 (dk_at dksX1_appendText_2 10 rfl rfl)
theorem dX1_appendText_60 : decode cX1_appendText 60 = .ok (.ireturn, 1) := dk_172 (dk_at dksX1_appendText_2 13 rfl rfl)
abbrev cX1_possible : ByteArray := prog_1_method_5_code
def yX1_possible : MethodName := ⟨RX1, "possible", "(Z)V"⟩
def dkwX1_possible_0 : List UInt8 := [26, 154, 0, 13, 187, 0, 14, 89, 18, 16, 183, 0, 18, 191, 177]
abbrev dktX1_possible_0 : List UInt8 := dkwX1_possible_0 ++ []
theorem dksX1_possible_0 : cX1_possible.data.toList.drop 0 = dktX1_possible_0 := by decide +kernel
theorem dX1_possible_0 : decode cX1_possible 0 = .ok (.iload_n 0, 1) := dk_26 (dk_at dksX1_possible_0 0 rfl rfl)
theorem dX1_possible_1 : decode cX1_possible 1 = .ok (.ifCond .ne 13, 3) := dk_154 0 13 (dk_at dksX1_possible_0 1 rfl rfl)
theorem dX1_possible_4 : decode cX1_possible 4 = .ok (.new 14, 3) := dk_187 0 14 (dk_at dksX1_possible_0 4 rfl rfl)
theorem dX1_possible_7 : decode cX1_possible 7 = .ok (.dup, 1) := dk_89 (dk_at dksX1_possible_0 7 rfl rfl)
theorem dX1_possible_8 : decode cX1_possible 8 = .ok (.ldc 16, 2) := dk_18 16 (dk_at dksX1_possible_0 8 rfl rfl)
theorem dX1_possible_10 : decode cX1_possible 10 = .ok (.invokespecial 18, 3) := dk_183 0 18 (dk_at dksX1_possible_0 10 rfl rfl)
theorem dX1_possible_13 : decode cX1_possible 13 = .ok (.athrow, 1) := dk_191 (dk_at dksX1_possible_0 13 rfl rfl)
theorem dX1_possible_14 : decode cX1_possible 14 = .ok (.return_, 1) := dk_177 (dk_at dksX1_possible_0 14 rfl rfl)
abbrev cX1_truncateText : ByteArray := prog_1_method_60_code
def yX1_truncateText : MethodName := ⟨RX1, "truncateText", "(I)I"⟩
def dkwX1_truncateText_0 : List UInt8 := [27, 3, 42, 180, 1, 150, 184, 0, 117, 184, 0, 121, 42, 27, 181, 1, 150, 42, 180, 1, 150, 172]
abbrev dktX1_truncateText_0 : List UInt8 := dkwX1_truncateText_0 ++ []
theorem dksX1_truncateText_0 : cX1_truncateText.data.toList.drop 0 = dktX1_truncateText_0 := by decide +kernel
theorem dX1_truncateText_0 : decode cX1_truncateText 0 = .ok (.iload_n 1, 1) := dk_27 (dk_at dksX1_truncateText_0 0 rfl rfl)
theorem dX1_truncateText_1 : decode cX1_truncateText 1 = .ok (.iconst 0, 1) := dk_3 (dk_at dksX1_truncateText_0 1 rfl rfl)
theorem dX1_truncateText_2 : decode cX1_truncateText 2 = .ok (.aload_n 0, 1) := dk_42 (dk_at dksX1_truncateText_0 2 rfl rfl)
theorem dX1_truncateText_3 : decode cX1_truncateText 3 = .ok (.getfield 406, 3) := dk_180 1 150 (dk_at dksX1_truncateText_0 3 rfl rfl)
theorem dX1_truncateText_6 : decode cX1_truncateText 6 = .ok (.invokestatic 117, 3) := dk_184 0 117 (dk_at dksX1_truncateText_0 6 rfl rfl)
theorem dX1_truncateText_9 : decode cX1_truncateText 9 = .ok (.invokestatic 121, 3) := dk_184 0 121 (dk_at dksX1_truncateText_0 9 rfl rfl)
theorem dX1_truncateText_12 : decode cX1_truncateText 12 = .ok (.aload_n 0, 1) := dk_42 (dk_at dksX1_truncateText_0 12 rfl rfl)
theorem dX1_truncateText_13 : decode cX1_truncateText 13 = .ok (.iload_n 1, 1) := dk_27 (dk_at dksX1_truncateText_0 13 rfl rfl)
theorem dX1_truncateText_14 : decode cX1_truncateText 14 = .ok (.putfield 406, 3) := dk_181 1 150 (dk_at dksX1_truncateText_0 14 rfl rfl)
theorem dX1_truncateText_17 : decode cX1_truncateText 17 = .ok (.aload_n 0, 1) := dk_42 (dk_at dksX1_truncateText_0 17 rfl rfl)
theorem dX1_truncateText_18 : decode cX1_truncateText 18 = .ok (.getfield 406, 3) := dk_180 1 150 (dk_at dksX1_truncateText_0 18 rfl rfl)
theorem dX1_truncateText_21 : decode cX1_truncateText 21 = .ok (.ireturn, 1) := dk_172 (dk_at dksX1_truncateText_0 21 rfl rfl)
abbrev cX1_argument : ByteArray := prog_1_method_4_code
def yX1_argument : MethodName := ⟨RX1, "argument", "(Z)V"⟩
def dkwX1_argument_0 : List UInt8 := [26, 154, 0, 13, 187, 0, 9, 89, 18, 11, 183, 0, 13, 191, 177]
abbrev dktX1_argument_0 : List UInt8 := dkwX1_argument_0 ++ []
theorem dksX1_argument_0 : cX1_argument.data.toList.drop 0 = dktX1_argument_0 := by decide +kernel
theorem dX1_argument_0 : decode cX1_argument 0 = .ok (.iload_n 0, 1) := dk_26 (dk_at dksX1_argument_0 0 rfl rfl)
theorem dX1_argument_1 : decode cX1_argument 1 = .ok (.ifCond .ne 13, 3) := dk_154 0 13 (dk_at dksX1_argument_0 1 rfl rfl)
theorem dX1_argument_4 : decode cX1_argument 4 = .ok (.new 9, 3) := dk_187 0 9 (dk_at dksX1_argument_0 4 rfl rfl)
theorem dX1_argument_7 : decode cX1_argument 7 = .ok (.dup, 1) := dk_89 (dk_at dksX1_argument_0 7 rfl rfl)
theorem dX1_argument_8 : decode cX1_argument 8 = .ok (.ldc 11, 2) := dk_18 11 (dk_at dksX1_argument_0 8 rfl rfl)
theorem dX1_argument_10 : decode cX1_argument 10 = .ok (.invokespecial 13, 3) := dk_183 0 13 (dk_at dksX1_argument_0 10 rfl rfl)
theorem dX1_argument_13 : decode cX1_argument 13 = .ok (.athrow, 1) := dk_191 (dk_at dksX1_argument_0 13 rfl rfl)
theorem dX1_argument_14 : decode cX1_argument 14 = .ok (.return_, 1) := dk_177 (dk_at dksX1_argument_0 14 rfl rfl)
abbrev cX1_set : ByteArray := prog_1_method_23_code
def yX1_set : MethodName := ⟨RX1, "set", "(II)I"⟩
def dkwX1_set_4 : List UInt8 := [180, 0, 38, 182, 0, 202, 29, 172]
abbrev dktX1_set_4 : List UInt8 := dkwX1_set_4 ++ []
def dkwX1_set_3 : List UInt8 := [192, 0, 196, 58, 4, 25, 4, 27, 28, 79, 42, 187, 0, 24, 89, 25, 4, 183, 0, 199, 181, 0, 27, 42]
abbrev dktX1_set_3 : List UInt8 := dkwX1_set_3 ++ dktX1_set_4
def dkwX1_set_2 : List UInt8 := [184, 0, 189, 42, 180, 0, 27, 180, 0, 192, 27, 46, 62, 42, 180, 0, 27, 180, 0, 192, 182, 0, 195]
abbrev dktX1_set_2 : List UInt8 := dkwX1_set_2 ++ dktX1_set_3
def dkwX1_set_1 : List UInt8 := [153, 0, 7, 4, 167, 0, 4, 3, 184, 0, 121, 42, 180, 0, 27, 180, 0, 74, 185, 0, 186, 1, 0]
abbrev dktX1_set_1 : List UInt8 := dkwX1_set_1 ++ dktX1_set_2
def dkwX1_set_0 : List UInt8 := [27, 3, 8, 184, 0, 117, 153, 0, 24, 28, 178, 0, 180, 27, 46, 178, 0, 183, 27, 46, 184, 0, 117]
abbrev dktX1_set_0 : List UInt8 := dkwX1_set_0 ++ dktX1_set_1
theorem dksX1_set_0 : cX1_set.data.toList.drop 0 = dktX1_set_0 := by decide +kernel
theorem dksX1_set_1 : cX1_set.data.toList.drop 23 = dktX1_set_1 := dk_seg dksX1_set_0 23 rfl rfl
theorem dksX1_set_2 : cX1_set.data.toList.drop 46 = dktX1_set_2 := dk_seg dksX1_set_1 23 rfl rfl
theorem dksX1_set_3 : cX1_set.data.toList.drop 69 = dktX1_set_3 := dk_seg dksX1_set_2 23 rfl rfl
theorem dksX1_set_4 : cX1_set.data.toList.drop 93 = dktX1_set_4 := dk_seg dksX1_set_3 24 rfl rfl
theorem dX1_set_0 : decode cX1_set 0 = .ok (.iload_n 1, 1) := dk_27 (dk_at dksX1_set_0 0 rfl rfl)
theorem dX1_set_1 : decode cX1_set 1 = .ok (.iconst 0, 1) := dk_3 (dk_at dksX1_set_0 1 rfl rfl)
theorem dX1_set_2 : decode cX1_set 2 = .ok (.iconst 5, 1) := dk_8 (dk_at dksX1_set_0 2 rfl rfl)
theorem dX1_set_3 : decode cX1_set 3 = .ok (.invokestatic 117, 3) := dk_184 0 117 (dk_at dksX1_set_0 3 rfl rfl)
theorem dX1_set_6 : decode cX1_set 6 = .ok (.ifCond .eq 24, 3) := dk_153 0 24 (dk_at dksX1_set_0 6 rfl rfl)
theorem dX1_set_9 : decode cX1_set 9 = .ok (.iload_n 2, 1) := dk_28 (dk_at dksX1_set_0 9 rfl rfl)
theorem dX1_set_10 : decode cX1_set 10 = .ok (.getstatic 180, 3) := dk_178 0 180 (dk_at dksX1_set_0 10 rfl rfl)
theorem dX1_set_13 : decode cX1_set 13 = .ok (.iload_n 1, 1) := dk_27 (dk_at dksX1_set_0 13 rfl rfl)
theorem dX1_set_14 : decode cX1_set 14 = .ok (.iaload, 1) := dk_46 (dk_at dksX1_set_0 14 rfl rfl)
theorem dX1_set_15 : decode cX1_set 15 = .ok (.getstatic 183, 3) := dk_178 0 183 (dk_at dksX1_set_0 15 rfl rfl)
theorem dX1_set_18 : decode cX1_set 18 = .ok (.iload_n 1, 1) := dk_27 (dk_at dksX1_set_0 18 rfl rfl)
theorem dX1_set_19 : decode cX1_set 19 = .ok (.iaload, 1) := dk_46 (dk_at dksX1_set_0 19 rfl rfl)
theorem dX1_set_20 : decode cX1_set 20 = .ok (.invokestatic 117, 3) := dk_184 0 117 (dk_at dksX1_set_0 20 rfl rfl)
theorem dX1_set_23 : decode cX1_set 23 = .ok (.ifCond .eq 7, 3) := dk_153 0 7 (dk_at dksX1_set_1 0 rfl rfl)
theorem dX1_set_26 : decode cX1_set 26 = .ok (.iconst 1, 1) := dk_4 (dk_at dksX1_set_1 3 rfl rfl)
theorem dX1_set_27 : decode cX1_set 27 = .ok (.goto 4, 3) := dk_167 0 4 (dk_at dksX1_set_1 4 rfl rfl)
theorem dX1_set_30 : decode cX1_set 30 = .ok (.iconst 0, 1) := dk_3 (dk_at dksX1_set_1 7 rfl rfl)
theorem dX1_set_31 : decode cX1_set 31 = .ok (.invokestatic 121, 3) := dk_184 0 121 (dk_at dksX1_set_1 8 rfl rfl)
theorem dX1_set_34 : decode cX1_set 34 = .ok (.aload_n 0, 1) := dk_42 (dk_at dksX1_set_1 11 rfl rfl)
theorem dX1_set_35 : decode cX1_set 35 = .ok (.getfield 27, 3) := dk_180 0 27 (dk_at dksX1_set_1 12 rfl rfl)
theorem dX1_set_38 : decode cX1_set 38 = .ok (.getfield 74, 3) := dk_180 0 74 (dk_at dksX1_set_1 15 rfl rfl)
theorem dX1_set_41 : decode cX1_set 41 = .ok (.invokeinterface 186 1, 5) := by decide +kernel
theorem dX1_set_46 : decode cX1_set 46 = .ok (.invokestatic 189, 3) := dk_184 0 189 (dk_at dksX1_set_2 0 rfl rfl)
theorem dX1_set_49 : decode cX1_set 49 = .ok (.aload_n 0, 1) := dk_42 (dk_at dksX1_set_2 3 rfl rfl)
theorem dX1_set_50 : decode cX1_set 50 = .ok (.getfield 27, 3) := dk_180 0 27 (dk_at dksX1_set_2 4 rfl rfl)
theorem dX1_set_53 : decode cX1_set 53 = .ok (.getfield 192, 3) := dk_180 0 192 (dk_at dksX1_set_2 7 rfl rfl)
theorem dX1_set_56 : decode cX1_set 56 = .ok (.iload_n 1, 1) := dk_27 (dk_at dksX1_set_2 10 rfl rfl)
theorem dX1_set_57 : decode cX1_set 57 = .ok (.iaload, 1) := dk_46 (dk_at dksX1_set_2 11 rfl rfl)
theorem dX1_set_58 : decode cX1_set 58 = .ok (.istore_n 3, 1) := dk_62 (dk_at dksX1_set_2 12 rfl rfl)
theorem dX1_set_59 : decode cX1_set 59 = .ok (.aload_n 0, 1) := dk_42 (dk_at dksX1_set_2 13 rfl rfl)
theorem dX1_set_60 : decode cX1_set 60 = .ok (.getfield 27, 3) := dk_180 0 27 (dk_at dksX1_set_2 14 rfl rfl)
theorem dX1_set_63 : decode cX1_set 63 = .ok (.getfield 192, 3) := dk_180 0 192 (dk_at dksX1_set_2 17 rfl rfl)
theorem dX1_set_66 : decode cX1_set 66 = .ok (.invokevirtual 195, 3) := dk_182 0 195 (dk_at dksX1_set_2 20 rfl rfl)
theorem dX1_set_69 : decode cX1_set 69 = .ok (.checkcast 196, 3) := dk_192 0 196 (dk_at dksX1_set_3 0 rfl rfl)
theorem dX1_set_72 : decode cX1_set 72 = .ok (.astore 4, 2) := dk_58 4 (dk_at dksX1_set_3 3 rfl rfl)
theorem dX1_set_74 : decode cX1_set 74 = .ok (.aload 4, 2) := dk_25 4 (dk_at dksX1_set_3 5 rfl rfl)
theorem dX1_set_76 : decode cX1_set 76 = .ok (.iload_n 1, 1) := dk_27 (dk_at dksX1_set_3 7 rfl rfl)
theorem dX1_set_77 : decode cX1_set 77 = .ok (.iload_n 2, 1) := dk_28 (dk_at dksX1_set_3 8 rfl rfl)
theorem dX1_set_78 : decode cX1_set 78 = .ok (.iastore, 1) := dk_79 (dk_at dksX1_set_3 9 rfl rfl)
theorem dX1_set_79 : decode cX1_set 79 = .ok (.aload_n 0, 1) := dk_42 (dk_at dksX1_set_3 10 rfl rfl)
theorem dX1_set_80 : decode cX1_set 80 = .ok (.new 24, 3) := dk_187 0 24 (dk_at dksX1_set_3 11 rfl rfl)
theorem dX1_set_83 : decode cX1_set 83 = .ok (.dup, 1) := dk_89 (dk_at dksX1_set_3 14 rfl rfl)
theorem dX1_set_84 : decode cX1_set 84 = .ok (.aload 4, 2) := dk_25 4 (dk_at dksX1_set_3 15 rfl rfl)
theorem dX1_set_86 : decode cX1_set 86 = .ok (.invokespecial 199, 3) := dk_183 0 199 (dk_at dksX1_set_3 17 rfl rfl)
theorem dX1_set_89 : decode cX1_set 89 = .ok (.putfield 27, 3) := dk_181 0 27 (dk_at dksX1_set_3 20 rfl rfl)
theorem dX1_set_92 : decode cX1_set 92 = .ok (.aload_n 0, 1) := dk_42 (dk_at dksX1_set_3 23 rfl rfl)
theorem dX1_set_93 : decode cX1_set 93 = .ok (.getfield 38, 3) := dk_180 0 38 (dk_at dksX1_set_4 0 rfl rfl)
theorem dX1_set_96 : decode cX1_set 96 = .ok (.invokevirtual 202, 3) := dk_182 0 202 (dk_at dksX1_set_4 3 rfl rfl)
theorem dX1_set_99 : decode cX1_set 99 = .ok (.iload_n 3, 1) := dk_29 (dk_at dksX1_set_4 6 rfl rfl)
theorem dX1_set_100 : decode cX1_set 100 = .ok (.ireturn, 1) := dk_172 (dk_at dksX1_set_4 7 rfl rfl)
abbrev cX1_count : ByteArray := prog_1_method_28_code
def yX1_count : MethodName := ⟨RX1, "count", "(I)I"⟩
def dkwX1_count_6 : List UInt8 := [167, 0, 20, 44, 4, 182, 0, 217, 167, 0, 12, 42, 180, 0, 27, 180, 0, 192, 27, 46, 172]
abbrev dktX1_count_6 : List UInt8 := dkwX1_count_6 ++ []
def dkwX1_count_5 : List UInt8 := [185, 0, 78, 1, 0, 167, 0, 37, 42, 180, 0, 38, 182, 0, 104, 167, 0, 27, 42, 182, 0, 236]
abbrev dktX1_count_5 : List UInt8 := dkwX1_count_5 ++ dktX1_count_6
def dkwX1_count_4 : List UInt8 := [44, 182, 0, 230, 167, 0, 59, 44, 180, 0, 233, 167, 0, 52, 42, 180, 0, 27, 180, 0, 74]
abbrev dktX1_count_4 : List UInt8 := dkwX1_count_4 ++ dktX1_count_5
def dkwX1_count_3 : List UInt8 := [167, 0, 87, 44, 182, 0, 221, 167, 0, 80, 44, 180, 0, 224, 167, 0, 73, 44, 180, 0, 227, 167, 0, 66]
abbrev dktX1_count_3 : List UInt8 := dkwX1_count_3 ++ dktX1_count_4
def dkwX1_count_2 : List UInt8 := [44, 180, 0, 214, 167, 0, 107, 44, 180, 0, 95, 185, 0, 78, 1, 0, 167, 0, 95, 44, 3, 182, 0, 217]
abbrev dktX1_count_2 : List UInt8 := dkwX1_count_2 ++ dktX1_count_3
def dkwX1_count_1 : List UInt8 := [170, 0, 0, 0, 0, 0, 0, 166, 0, 0, 0, 6, 0, 0, 0, 17, 0, 0, 0, 64, 0, 0, 0, 71, 0, 0, 0, 83, 0, 0, 0, 91, 0, 0, 0, 98, 0, 0, 0, 105, 0, 0, 0, 112, 0, 0, 0, 119, 0, 0, 0, 126, 0, 0, 0, 141, 0, 0, 0, 151, 0, 0, 0, 158]
abbrev dktX1_count_1 : List UInt8 := dkwX1_count_1 ++ dktX1_count_2
def dkwX1_count_0 : List UInt8 := [27, 3, 16, 17, 184, 0, 117, 184, 0, 121, 42, 182, 0, 92, 77, 27]
abbrev dktX1_count_0 : List UInt8 := dkwX1_count_0 ++ dktX1_count_1
theorem dksX1_count_0 : cX1_count.data.toList.drop 0 = dktX1_count_0 := by decide +kernel
theorem dksX1_count_1 : cX1_count.data.toList.drop 16 = dktX1_count_1 := dk_seg dksX1_count_0 16 rfl rfl
theorem dksX1_count_2 : cX1_count.data.toList.drop 80 = dktX1_count_2 := dk_seg dksX1_count_1 64 rfl rfl
theorem dksX1_count_3 : cX1_count.data.toList.drop 104 = dktX1_count_3 := dk_seg dksX1_count_2 24 rfl rfl
theorem dksX1_count_4 : cX1_count.data.toList.drop 128 = dktX1_count_4 := dk_seg dksX1_count_3 24 rfl rfl
theorem dksX1_count_5 : cX1_count.data.toList.drop 149 = dktX1_count_5 := dk_seg dksX1_count_4 21 rfl rfl
theorem dksX1_count_6 : cX1_count.data.toList.drop 171 = dktX1_count_6 := dk_seg dksX1_count_5 22 rfl rfl
theorem dX1_count_0 : decode cX1_count 0 = .ok (.iload_n 1, 1) := dk_27 (dk_at dksX1_count_0 0 rfl rfl)
theorem dX1_count_1 : decode cX1_count 1 = .ok (.iconst 0, 1) := dk_3 (dk_at dksX1_count_0 1 rfl rfl)
theorem dX1_count_2 : decode cX1_count 2 = .ok (.bipush 17, 2) := dk_16 17 (dk_at dksX1_count_0 2 rfl rfl)
theorem dX1_count_4 : decode cX1_count 4 = .ok (.invokestatic 117, 3) := dk_184 0 117 (dk_at dksX1_count_0 4 rfl rfl)
theorem dX1_count_7 : decode cX1_count 7 = .ok (.invokestatic 121, 3) := dk_184 0 121 (dk_at dksX1_count_0 7 rfl rfl)
theorem dX1_count_10 : decode cX1_count 10 = .ok (.aload_n 0, 1) := dk_42 (dk_at dksX1_count_0 10 rfl rfl)
theorem dX1_count_11 : decode cX1_count 11 = .ok (.invokevirtual 92, 3) := dk_182 0 92 (dk_at dksX1_count_0 11 rfl rfl)
theorem dX1_count_14 : decode cX1_count 14 = .ok (.astore_n 2, 1) := dk_77 (dk_at dksX1_count_0 14 rfl rfl)
theorem dX1_count_15 : decode cX1_count 15 = .ok (.iload_n 1, 1) := dk_27 (dk_at dksX1_count_0 15 rfl rfl)
theorem dX1_count_16 : decode cX1_count 16 = .ok (.tableswitch 166 6 17 #[64, 71, 83, 91, 98, 105, 112, 119, 126, 141, 151, 158], 64) := by decide +kernel
theorem dX1_count_80 : decode cX1_count 80 = .ok (.aload_n 2, 1) := dk_44 (dk_at dksX1_count_2 0 rfl rfl)
theorem dX1_count_81 : decode cX1_count 81 = .ok (.getfield 214, 3) := dk_180 0 214 (dk_at dksX1_count_2 1 rfl rfl)
theorem dX1_count_84 : decode cX1_count 84 = .ok (.goto 107, 3) := dk_167 0 107 (dk_at dksX1_count_2 4 rfl rfl)
theorem dX1_count_87 : decode cX1_count 87 = .ok (.aload_n 2, 1) := dk_44 (dk_at dksX1_count_2 7 rfl rfl)
theorem dX1_count_88 : decode cX1_count 88 = .ok (.getfield 95, 3) := dk_180 0 95 (dk_at dksX1_count_2 8 rfl rfl)
theorem dX1_count_91 : decode cX1_count 91 = .ok (.invokeinterface 78 1, 5) := by decide +kernel
theorem dX1_count_96 : decode cX1_count 96 = .ok (.goto 95, 3) := dk_167 0 95 (dk_at dksX1_count_2 16 rfl rfl)
theorem dX1_count_99 : decode cX1_count 99 = .ok (.aload_n 2, 1) := dk_44 (dk_at dksX1_count_2 19 rfl rfl)
theorem dX1_count_100 : decode cX1_count 100 = .ok (.iconst 0, 1) := dk_3 (dk_at dksX1_count_2 20 rfl rfl)
theorem dX1_count_101 : decode cX1_count 101 = .ok (.invokevirtual 217, 3) := dk_182 0 217 (dk_at dksX1_count_2 21 rfl rfl)
theorem dX1_count_104 : decode cX1_count 104 = .ok (.goto 87, 3) := dk_167 0 87 (dk_at dksX1_count_3 0 rfl rfl)
theorem dX1_count_107 : decode cX1_count 107 = .ok (.aload_n 2, 1) := dk_44 (dk_at dksX1_count_3 3 rfl rfl)
theorem dX1_count_108 : decode cX1_count 108 = .ok (.invokevirtual 221, 3) := dk_182 0 221 (dk_at dksX1_count_3 4 rfl rfl)
theorem dX1_count_111 : decode cX1_count 111 = .ok (.goto 80, 3) := dk_167 0 80 (dk_at dksX1_count_3 7 rfl rfl)
theorem dX1_count_114 : decode cX1_count 114 = .ok (.aload_n 2, 1) := dk_44 (dk_at dksX1_count_3 10 rfl rfl)
theorem dX1_count_115 : decode cX1_count 115 = .ok (.getfield 224, 3) := dk_180 0 224 (dk_at dksX1_count_3 11 rfl rfl)
theorem dX1_count_118 : decode cX1_count 118 = .ok (.goto 73, 3) := dk_167 0 73 (dk_at dksX1_count_3 14 rfl rfl)
theorem dX1_count_121 : decode cX1_count 121 = .ok (.aload_n 2, 1) := dk_44 (dk_at dksX1_count_3 17 rfl rfl)
theorem dX1_count_122 : decode cX1_count 122 = .ok (.getfield 227, 3) := dk_180 0 227 (dk_at dksX1_count_3 18 rfl rfl)
theorem dX1_count_125 : decode cX1_count 125 = .ok (.goto 66, 3) := dk_167 0 66 (dk_at dksX1_count_3 21 rfl rfl)
theorem dX1_count_128 : decode cX1_count 128 = .ok (.aload_n 2, 1) := dk_44 (dk_at dksX1_count_4 0 rfl rfl)
theorem dX1_count_129 : decode cX1_count 129 = .ok (.invokevirtual 230, 3) := dk_182 0 230 (dk_at dksX1_count_4 1 rfl rfl)
theorem dX1_count_132 : decode cX1_count 132 = .ok (.goto 59, 3) := dk_167 0 59 (dk_at dksX1_count_4 4 rfl rfl)
theorem dX1_count_135 : decode cX1_count 135 = .ok (.aload_n 2, 1) := dk_44 (dk_at dksX1_count_4 7 rfl rfl)
theorem dX1_count_136 : decode cX1_count 136 = .ok (.getfield 233, 3) := dk_180 0 233 (dk_at dksX1_count_4 8 rfl rfl)
theorem dX1_count_139 : decode cX1_count 139 = .ok (.goto 52, 3) := dk_167 0 52 (dk_at dksX1_count_4 11 rfl rfl)
theorem dX1_count_142 : decode cX1_count 142 = .ok (.aload_n 0, 1) := dk_42 (dk_at dksX1_count_4 14 rfl rfl)
theorem dX1_count_143 : decode cX1_count 143 = .ok (.getfield 27, 3) := dk_180 0 27 (dk_at dksX1_count_4 15 rfl rfl)
theorem dX1_count_146 : decode cX1_count 146 = .ok (.getfield 74, 3) := dk_180 0 74 (dk_at dksX1_count_4 18 rfl rfl)
theorem dX1_count_149 : decode cX1_count 149 = .ok (.invokeinterface 78 1, 5) := by decide +kernel
theorem dX1_count_154 : decode cX1_count 154 = .ok (.goto 37, 3) := dk_167 0 37 (dk_at dksX1_count_5 5 rfl rfl)
theorem dX1_count_157 : decode cX1_count 157 = .ok (.aload_n 0, 1) := dk_42 (dk_at dksX1_count_5 8 rfl rfl)
theorem dX1_count_158 : decode cX1_count 158 = .ok (.getfield 38, 3) := dk_180 0 38 (dk_at dksX1_count_5 9 rfl rfl)
theorem dX1_count_161 : decode cX1_count 161 = .ok (.invokevirtual 104, 3) := dk_182 0 104 (dk_at dksX1_count_5 12 rfl rfl)
theorem dX1_count_164 : decode cX1_count 164 = .ok (.goto 27, 3) := dk_167 0 27 (dk_at dksX1_count_5 15 rfl rfl)
theorem dX1_count_167 : decode cX1_count 167 = .ok (.aload_n 0, 1) := dk_42 (dk_at dksX1_count_5 18 rfl rfl)
theorem dX1_count_168 : decode cX1_count 168 = .ok (.invokevirtual 236, 3) := dk_182 0 236 (dk_at dksX1_count_5 19 rfl rfl)
theorem dX1_count_171 : decode cX1_count 171 = .ok (.goto 20, 3) := dk_167 0 20 (dk_at dksX1_count_6 0 rfl rfl)
theorem dX1_count_174 : decode cX1_count 174 = .ok (.aload_n 2, 1) := dk_44 (dk_at dksX1_count_6 3 rfl rfl)
theorem dX1_count_175 : decode cX1_count 175 = .ok (.iconst 1, 1) := dk_4 (dk_at dksX1_count_6 4 rfl rfl)
theorem dX1_count_176 : decode cX1_count 176 = .ok (.invokevirtual 217, 3) := dk_182 0 217 (dk_at dksX1_count_6 5 rfl rfl)
theorem dX1_count_179 : decode cX1_count 179 = .ok (.goto 12, 3) := dk_167 0 12 (dk_at dksX1_count_6 8 rfl rfl)
theorem dX1_count_182 : decode cX1_count 182 = .ok (.aload_n 0, 1) := dk_42 (dk_at dksX1_count_6 11 rfl rfl)
theorem dX1_count_183 : decode cX1_count 183 = .ok (.getfield 27, 3) := dk_180 0 27 (dk_at dksX1_count_6 12 rfl rfl)
theorem dX1_count_186 : decode cX1_count 186 = .ok (.getfield 192, 3) := dk_180 0 192 (dk_at dksX1_count_6 15 rfl rfl)
theorem dX1_count_189 : decode cX1_count 189 = .ok (.iload_n 1, 1) := dk_27 (dk_at dksX1_count_6 18 rfl rfl)
theorem dX1_count_190 : decode cX1_count 190 = .ok (.iaload, 1) := dk_46 (dk_at dksX1_count_6 19 rfl rfl)
theorem dX1_count_191 : decode cX1_count 191 = .ok (.ireturn, 1) := dk_172 (dk_at dksX1_count_6 20 rfl rfl)
abbrev cX1_filled : ByteArray := prog_1_method_27_code
def yX1_filled : MethodName := ⟨RX1, "filled", "()I"⟩
def dkwX1_filled_1 : List UInt8 := [180, 0, 205, 28, 50, 180, 0, 209, 96, 60, 132, 2, 1, 167, 255, 225, 27, 172]
abbrev dktX1_filled_1 : List UInt8 := dkwX1_filled_1 ++ []
def dkwX1_filled_0 : List UInt8 := [3, 60, 3, 61, 28, 42, 180, 0, 27, 180, 0, 192, 3, 46, 162, 0, 24, 27, 42, 182, 0, 92]
abbrev dktX1_filled_0 : List UInt8 := dkwX1_filled_0 ++ dktX1_filled_1
theorem dksX1_filled_0 : cX1_filled.data.toList.drop 0 = dktX1_filled_0 := by decide +kernel
theorem dksX1_filled_1 : cX1_filled.data.toList.drop 22 = dktX1_filled_1 := dk_seg dksX1_filled_0 22 rfl rfl
theorem dX1_filled_0 : decode cX1_filled 0 = .ok (.iconst 0, 1) := dk_3 (dk_at dksX1_filled_0 0 rfl rfl)
theorem dX1_filled_1 : decode cX1_filled 1 = .ok (.istore_n 1, 1) := dk_60 (dk_at dksX1_filled_0 1 rfl rfl)
theorem dX1_filled_2 : decode cX1_filled 2 = .ok (.iconst 0, 1) := dk_3 (dk_at dksX1_filled_0 2 rfl rfl)
theorem dX1_filled_3 : decode cX1_filled 3 = .ok (.istore_n 2, 1) := dk_61 (dk_at dksX1_filled_0 3 rfl rfl)
theorem dX1_filled_4 : decode cX1_filled 4 = .ok (.iload_n 2, 1) := dk_28 (dk_at dksX1_filled_0 4 rfl rfl)
theorem dX1_filled_5 : decode cX1_filled 5 = .ok (.aload_n 0, 1) := dk_42 (dk_at dksX1_filled_0 5 rfl rfl)
theorem dX1_filled_6 : decode cX1_filled 6 = .ok (.getfield 27, 3) := dk_180 0 27 (dk_at dksX1_filled_0 6 rfl rfl)
theorem dX1_filled_9 : decode cX1_filled 9 = .ok (.getfield 192, 3) := dk_180 0 192 (dk_at dksX1_filled_0 9 rfl rfl)
theorem dX1_filled_12 : decode cX1_filled 12 = .ok (.iconst 0, 1) := dk_3 (dk_at dksX1_filled_0 12 rfl rfl)
theorem dX1_filled_13 : decode cX1_filled 13 = .ok (.iaload, 1) := dk_46 (dk_at dksX1_filled_0 13 rfl rfl)
theorem dX1_filled_14 : decode cX1_filled 14 = .ok (.if_icmp .ge 24, 3) := dk_162 0 24 (dk_at dksX1_filled_0 14 rfl rfl)
theorem dX1_filled_17 : decode cX1_filled 17 = .ok (.iload_n 1, 1) := dk_27 (dk_at dksX1_filled_0 17 rfl rfl)
theorem dX1_filled_18 : decode cX1_filled 18 = .ok (.aload_n 0, 1) := dk_42 (dk_at dksX1_filled_0 18 rfl rfl)
theorem dX1_filled_19 : decode cX1_filled 19 = .ok (.invokevirtual 92, 3) := dk_182 0 92 (dk_at dksX1_filled_0 19 rfl rfl)
theorem dX1_filled_22 : decode cX1_filled 22 = .ok (.getfield 205, 3) := dk_180 0 205 (dk_at dksX1_filled_1 0 rfl rfl)
theorem dX1_filled_25 : decode cX1_filled 25 = .ok (.iload_n 2, 1) := dk_28 (dk_at dksX1_filled_1 3 rfl rfl)
theorem dX1_filled_26 : decode cX1_filled 26 = .ok (.aaload, 1) := dk_50 (dk_at dksX1_filled_1 4 rfl rfl)
theorem dX1_filled_27 : decode cX1_filled 27 = .ok (.getfield 209, 3) := dk_180 0 209 (dk_at dksX1_filled_1 5 rfl rfl)
theorem dX1_filled_30 : decode cX1_filled 30 = .ok (.iadd, 1) := dk_96 (dk_at dksX1_filled_1 8 rfl rfl)
theorem dX1_filled_31 : decode cX1_filled 31 = .ok (.istore_n 1, 1) := dk_60 (dk_at dksX1_filled_1 9 rfl rfl)
theorem dX1_filled_32 : decode cX1_filled 32 = .ok (.iinc 2 1, 3) := dk_132 2 1 (dk_at dksX1_filled_1 10 rfl rfl)
theorem dX1_filled_35 : decode cX1_filled 35 = .ok (.goto (-31), 3) := dk_167 255 225 (dk_at dksX1_filled_1 13 rfl rfl)
theorem dX1_filled_38 : decode cX1_filled 38 = .ok (.iload_n 1, 1) := dk_27 (dk_at dksX1_filled_1 16 rfl rfl)
theorem dX1_filled_39 : decode cX1_filled 39 = .ok (.ireturn, 1) := dk_172 (dk_at dksX1_filled_1 17 rfl rfl)
abbrev cX1_zone : ByteArray := prog_1_method_31_code
def yX1_zone : MethodName := ⟨RX1, "zone", "(II)I"⟩
def dkwX1_zone_5 : List UInt8 := [182, 1, 13, 184, 1, 17, 167, 0, 8, 42, 27, 182, 1, 20, 172]
abbrev dktX1_zone_5 : List UInt8 := dkwX1_zone_5 ++ []
def dkwX1_zone_4 : List UInt8 := [167, 0, 38, 42, 27, 182, 1, 9, 167, 0, 30, 45, 180, 1, 12, 167, 0, 23, 42, 182, 0, 92, 27, 3]
abbrev dktX1_zone_4 : List UInt8 := dkwX1_zone_4 ++ dktX1_zone_5
def dkwX1_zone_3 : List UInt8 := [45, 180, 1, 3, 167, 0, 56, 45, 180, 0, 209, 167, 0, 49, 42, 182, 0, 92, 27, 182, 1, 6]
abbrev dktX1_zone_3 : List UInt8 := dkwX1_zone_3 ++ dktX1_zone_4
def dkwX1_zone_2 : List UInt8 := [170, 0, 0, 0, 0, 0, 94, 0, 0, 0, 0, 0, 0, 0, 5, 0, 0, 0, 39, 0, 0, 0, 46, 0, 0, 0, 53, 0, 0, 0, 64, 0, 0, 0, 72, 0, 0, 0, 79]
abbrev dktX1_zone_2 : List UInt8 := dkwX1_zone_2 ++ dktX1_zone_3
def dkwX1_zone_1 : List UInt8 := [180, 0, 205, 27, 50, 78, 28]
abbrev dktX1_zone_1 : List UInt8 := dkwX1_zone_1 ++ dktX1_zone_2
def dkwX1_zone_0 : List UInt8 := [42, 27, 182, 0, 136, 184, 0, 133, 28, 3, 16, 6, 184, 0, 117, 184, 0, 121, 42, 182, 0, 92]
abbrev dktX1_zone_0 : List UInt8 := dkwX1_zone_0 ++ dktX1_zone_1
theorem dksX1_zone_0 : cX1_zone.data.toList.drop 0 = dktX1_zone_0 := by decide +kernel
theorem dksX1_zone_1 : cX1_zone.data.toList.drop 22 = dktX1_zone_1 := dk_seg dksX1_zone_0 22 rfl rfl
theorem dksX1_zone_2 : cX1_zone.data.toList.drop 29 = dktX1_zone_2 := dk_seg dksX1_zone_1 7 rfl rfl
theorem dksX1_zone_3 : cX1_zone.data.toList.drop 68 = dktX1_zone_3 := dk_seg dksX1_zone_2 39 rfl rfl
theorem dksX1_zone_4 : cX1_zone.data.toList.drop 90 = dktX1_zone_4 := dk_seg dksX1_zone_3 22 rfl rfl
theorem dksX1_zone_5 : cX1_zone.data.toList.drop 114 = dktX1_zone_5 := dk_seg dksX1_zone_4 24 rfl rfl
theorem dX1_zone_0 : decode cX1_zone 0 = .ok (.aload_n 0, 1) := dk_42 (dk_at dksX1_zone_0 0 rfl rfl)
theorem dX1_zone_1 : decode cX1_zone 1 = .ok (.iload_n 1, 1) := dk_27 (dk_at dksX1_zone_0 1 rfl rfl)
theorem dX1_zone_2 : decode cX1_zone 2 = .ok (.invokevirtual 136, 3) := dk_182 0 136 (dk_at dksX1_zone_0 2 rfl rfl)
theorem dX1_zone_5 : decode cX1_zone 5 = .ok (.invokestatic 133, 3) := dk_184 0 133 (dk_at dksX1_zone_0 5 rfl rfl)
theorem dX1_zone_8 : decode cX1_zone 8 = .ok (.iload_n 2, 1) := dk_28 (dk_at dksX1_zone_0 8 rfl rfl)
theorem dX1_zone_9 : decode cX1_zone 9 = .ok (.iconst 0, 1) := dk_3 (dk_at dksX1_zone_0 9 rfl rfl)
theorem dX1_zone_10 : decode cX1_zone 10 = .ok (.bipush 6, 2) := dk_16 6 (dk_at dksX1_zone_0 10 rfl rfl)
theorem dX1_zone_12 : decode cX1_zone 12 = .ok (.invokestatic 117, 3) := dk_184 0 117 (dk_at dksX1_zone_0 12 rfl rfl)
theorem dX1_zone_15 : decode cX1_zone 15 = .ok (.invokestatic 121, 3) := dk_184 0 121 (dk_at dksX1_zone_0 15 rfl rfl)
theorem dX1_zone_18 : decode cX1_zone 18 = .ok (.aload_n 0, 1) := dk_42 (dk_at dksX1_zone_0 18 rfl rfl)
theorem dX1_zone_19 : decode cX1_zone 19 = .ok (.invokevirtual 92, 3) := dk_182 0 92 (dk_at dksX1_zone_0 19 rfl rfl)
theorem dX1_zone_22 : decode cX1_zone 22 = .ok (.getfield 205, 3) := dk_180 0 205 (dk_at dksX1_zone_1 0 rfl rfl)
theorem dX1_zone_25 : decode cX1_zone 25 = .ok (.iload_n 1, 1) := dk_27 (dk_at dksX1_zone_1 3 rfl rfl)
theorem dX1_zone_26 : decode cX1_zone 26 = .ok (.aaload, 1) := dk_50 (dk_at dksX1_zone_1 4 rfl rfl)
theorem dX1_zone_27 : decode cX1_zone 27 = .ok (.astore_n 3, 1) := dk_78 (dk_at dksX1_zone_1 5 rfl rfl)
theorem dX1_zone_28 : decode cX1_zone 28 = .ok (.iload_n 2, 1) := dk_28 (dk_at dksX1_zone_1 6 rfl rfl)
theorem dX1_zone_29 : decode cX1_zone 29 = .ok (.tableswitch 94 0 5 #[39, 46, 53, 64, 72, 79], 39) := by decide +kernel
theorem dX1_zone_68 : decode cX1_zone 68 = .ok (.aload_n 3, 1) := dk_45 (dk_at dksX1_zone_3 0 rfl rfl)
theorem dX1_zone_69 : decode cX1_zone 69 = .ok (.getfield 259, 3) := dk_180 1 3 (dk_at dksX1_zone_3 1 rfl rfl)
theorem dX1_zone_72 : decode cX1_zone 72 = .ok (.goto 56, 3) := dk_167 0 56 (dk_at dksX1_zone_3 4 rfl rfl)
theorem dX1_zone_75 : decode cX1_zone 75 = .ok (.aload_n 3, 1) := dk_45 (dk_at dksX1_zone_3 7 rfl rfl)
theorem dX1_zone_76 : decode cX1_zone 76 = .ok (.getfield 209, 3) := dk_180 0 209 (dk_at dksX1_zone_3 8 rfl rfl)
theorem dX1_zone_79 : decode cX1_zone 79 = .ok (.goto 49, 3) := dk_167 0 49 (dk_at dksX1_zone_3 11 rfl rfl)
theorem dX1_zone_82 : decode cX1_zone 82 = .ok (.aload_n 0, 1) := dk_42 (dk_at dksX1_zone_3 14 rfl rfl)
theorem dX1_zone_83 : decode cX1_zone 83 = .ok (.invokevirtual 92, 3) := dk_182 0 92 (dk_at dksX1_zone_3 15 rfl rfl)
theorem dX1_zone_86 : decode cX1_zone 86 = .ok (.iload_n 1, 1) := dk_27 (dk_at dksX1_zone_3 18 rfl rfl)
theorem dX1_zone_87 : decode cX1_zone 87 = .ok (.invokevirtual 262, 3) := dk_182 1 6 (dk_at dksX1_zone_3 19 rfl rfl)
theorem dX1_zone_90 : decode cX1_zone 90 = .ok (.goto 38, 3) := dk_167 0 38 (dk_at dksX1_zone_4 0 rfl rfl)
theorem dX1_zone_93 : decode cX1_zone 93 = .ok (.aload_n 0, 1) := dk_42 (dk_at dksX1_zone_4 3 rfl rfl)
theorem dX1_zone_94 : decode cX1_zone 94 = .ok (.iload_n 1, 1) := dk_27 (dk_at dksX1_zone_4 4 rfl rfl)
theorem dX1_zone_95 : decode cX1_zone 95 = .ok (.invokevirtual 265, 3) := dk_182 1 9 (dk_at dksX1_zone_4 5 rfl rfl)
theorem dX1_zone_98 : decode cX1_zone 98 = .ok (.goto 30, 3) := dk_167 0 30 (dk_at dksX1_zone_4 8 rfl rfl)
theorem dX1_zone_101 : decode cX1_zone 101 = .ok (.aload_n 3, 1) := dk_45 (dk_at dksX1_zone_4 11 rfl rfl)
theorem dX1_zone_102 : decode cX1_zone 102 = .ok (.getfield 268, 3) := dk_180 1 12 (dk_at dksX1_zone_4 12 rfl rfl)
theorem dX1_zone_105 : decode cX1_zone 105 = .ok (.goto 23, 3) := dk_167 0 23 (dk_at dksX1_zone_4 15 rfl rfl)
theorem dX1_zone_108 : decode cX1_zone 108 = .ok (.aload_n 0, 1) := dk_42 (dk_at dksX1_zone_4 18 rfl rfl)
theorem dX1_zone_109 : decode cX1_zone 109 = .ok (.invokevirtual 92, 3) := dk_182 0 92 (dk_at dksX1_zone_4 19 rfl rfl)
theorem dX1_zone_112 : decode cX1_zone 112 = .ok (.iload_n 1, 1) := dk_27 (dk_at dksX1_zone_4 22 rfl rfl)
theorem dX1_zone_113 : decode cX1_zone 113 = .ok (.iconst 0, 1) := dk_3 (dk_at dksX1_zone_4 23 rfl rfl)
theorem dX1_zone_114 : decode cX1_zone 114 = .ok (.invokevirtual 269, 3) := dk_182 1 13 (dk_at dksX1_zone_5 0 rfl rfl)
theorem dX1_zone_117 : decode cX1_zone 117 = .ok (.invokestatic 273, 3) := dk_184 1 17 (dk_at dksX1_zone_5 3 rfl rfl)
theorem dX1_zone_120 : decode cX1_zone 120 = .ok (.goto 8, 3) := dk_167 0 8 (dk_at dksX1_zone_5 6 rfl rfl)
theorem dX1_zone_123 : decode cX1_zone 123 = .ok (.aload_n 0, 1) := dk_42 (dk_at dksX1_zone_5 9 rfl rfl)
theorem dX1_zone_124 : decode cX1_zone 124 = .ok (.iload_n 1, 1) := dk_27 (dk_at dksX1_zone_5 10 rfl rfl)
theorem dX1_zone_125 : decode cX1_zone 125 = .ok (.invokevirtual 276, 3) := dk_182 1 20 (dk_at dksX1_zone_5 11 rfl rfl)
theorem dX1_zone_128 : decode cX1_zone 128 = .ok (.ireturn, 1) := dk_172 (dk_at dksX1_zone_5 14 rfl rfl)
abbrev cX1_index : ByteArray := prog_1_method_3_code
def yX1_index : MethodName := ⟨RX1, "index", "(Z)V"⟩
def dkwX1_index_0 : List UInt8 := [26, 154, 0, 13, 187, 0, 1, 89, 18, 3, 183, 0, 5, 191, 177]
abbrev dktX1_index_0 : List UInt8 := dkwX1_index_0 ++ []
theorem dksX1_index_0 : cX1_index.data.toList.drop 0 = dktX1_index_0 := by decide +kernel
theorem dX1_index_0 : decode cX1_index 0 = .ok (.iload_n 0, 1) := dk_26 (dk_at dksX1_index_0 0 rfl rfl)
theorem dX1_index_1 : decode cX1_index 1 = .ok (.ifCond .ne 13, 3) := dk_154 0 13 (dk_at dksX1_index_0 1 rfl rfl)
theorem dX1_index_4 : decode cX1_index 4 = .ok (.new 1, 3) := dk_187 0 1 (dk_at dksX1_index_0 4 rfl rfl)
theorem dX1_index_7 : decode cX1_index 7 = .ok (.dup, 1) := dk_89 (dk_at dksX1_index_0 7 rfl rfl)
theorem dX1_index_8 : decode cX1_index 8 = .ok (.ldc 3, 2) := dk_18 3 (dk_at dksX1_index_0 8 rfl rfl)
theorem dX1_index_10 : decode cX1_index 10 = .ok (.invokespecial 5, 3) := dk_183 0 5 (dk_at dksX1_index_0 10 rfl rfl)
theorem dX1_index_13 : decode cX1_index 13 = .ok (.athrow, 1) := dk_191 (dk_at dksX1_index_0 13 rfl rfl)
theorem dX1_index_14 : decode cX1_index 14 = .ok (.return_, 1) := dk_177 (dk_at dksX1_index_0 14 rfl rfl)
abbrev cX1_livingPlaces : ByteArray := prog_1_method_29_code
def yX1_livingPlaces : MethodName := ⟨RX1, "livingPlaces", "(I)I"⟩
def dkwX1_livingPlaces_2 : List UInt8 := [180, 0, 251, 27, 160, 0, 11, 25, 4, 180, 0, 254, 167, 0, 4, 3, 96, 61, 167, 255, 215, 28, 172]
abbrev dktX1_livingPlaces_2 : List UInt8 := dkwX1_livingPlaces_2 ++ []
def dkwX1_livingPlaces_1 : List UInt8 := [185, 0, 243, 1, 0, 153, 0, 38, 45, 185, 0, 248, 1, 0, 192, 0, 143, 58, 4, 28, 25, 4]
abbrev dktX1_livingPlaces_1 : List UInt8 := dkwX1_livingPlaces_1 ++ dktX1_livingPlaces_2
def dkwX1_livingPlaces_0 : List UInt8 := [3, 61, 42, 182, 0, 92, 180, 0, 205, 27, 50, 180, 0, 238, 185, 0, 239, 1, 0, 78, 45]
abbrev dktX1_livingPlaces_0 : List UInt8 := dkwX1_livingPlaces_0 ++ dktX1_livingPlaces_1
theorem dksX1_livingPlaces_0 : cX1_livingPlaces.data.toList.drop 0 = dktX1_livingPlaces_0 := by decide +kernel
theorem dksX1_livingPlaces_1 : cX1_livingPlaces.data.toList.drop 21 = dktX1_livingPlaces_1 := dk_seg dksX1_livingPlaces_0 21 rfl rfl
theorem dksX1_livingPlaces_2 : cX1_livingPlaces.data.toList.drop 43 = dktX1_livingPlaces_2 := dk_seg dksX1_livingPlaces_1 22 rfl rfl
theorem dX1_livingPlaces_0 : decode cX1_livingPlaces 0 = .ok (.iconst 0, 1) := dk_3 (dk_at dksX1_livingPlaces_0 0 rfl rfl)
theorem dX1_livingPlaces_1 : decode cX1_livingPlaces 1 = .ok (.istore_n 2, 1) := dk_61 (dk_at dksX1_livingPlaces_0 1 rfl rfl)
theorem dX1_livingPlaces_2 : decode cX1_livingPlaces 2 = .ok (.aload_n 0, 1) := dk_42 (dk_at dksX1_livingPlaces_0 2 rfl rfl)
theorem dX1_livingPlaces_3 : decode cX1_livingPlaces 3 = .ok (.invokevirtual 92, 3) := dk_182 0 92 (dk_at dksX1_livingPlaces_0 3 rfl rfl)
theorem dX1_livingPlaces_6 : decode cX1_livingPlaces 6 = .ok (.getfield 205, 3) := dk_180 0 205 (dk_at dksX1_livingPlaces_0 6 rfl rfl)
theorem dX1_livingPlaces_9 : decode cX1_livingPlaces 9 = .ok (.iload_n 1, 1) := dk_27 (dk_at dksX1_livingPlaces_0 9 rfl rfl)
theorem dX1_livingPlaces_10 : decode cX1_livingPlaces 10 = .ok (.aaload, 1) := dk_50 (dk_at dksX1_livingPlaces_0 10 rfl rfl)
theorem dX1_livingPlaces_11 : decode cX1_livingPlaces 11 = .ok (.getfield 238, 3) := dk_180 0 238 (dk_at dksX1_livingPlaces_0 11 rfl rfl)
theorem dX1_livingPlaces_14 : decode cX1_livingPlaces 14 = .ok (.invokeinterface 239 1, 5) := by decide +kernel
theorem dX1_livingPlaces_19 : decode cX1_livingPlaces 19 = .ok (.astore_n 3, 1) := dk_78 (dk_at dksX1_livingPlaces_0 19 rfl rfl)
theorem dX1_livingPlaces_20 : decode cX1_livingPlaces 20 = .ok (.aload_n 3, 1) := dk_45 (dk_at dksX1_livingPlaces_0 20 rfl rfl)
theorem dX1_livingPlaces_21 : decode cX1_livingPlaces 21 = .ok (.invokeinterface 243 1, 5) := by decide +kernel
theorem dX1_livingPlaces_26 : decode cX1_livingPlaces 26 = .ok (.ifCond .eq 38, 3) := dk_153 0 38 (dk_at dksX1_livingPlaces_1 5 rfl rfl)
theorem dX1_livingPlaces_29 : decode cX1_livingPlaces 29 = .ok (.aload_n 3, 1) := dk_45 (dk_at dksX1_livingPlaces_1 8 rfl rfl)
theorem dX1_livingPlaces_30 : decode cX1_livingPlaces 30 = .ok (.invokeinterface 248 1, 5) := by decide +kernel
theorem dX1_livingPlaces_35 : decode cX1_livingPlaces 35 = .ok (.checkcast 143, 3) := dk_192 0 143 (dk_at dksX1_livingPlaces_1 14 rfl rfl)
theorem dX1_livingPlaces_38 : decode cX1_livingPlaces 38 = .ok (.astore 4, 2) := dk_58 4 (dk_at dksX1_livingPlaces_1 17 rfl rfl)
theorem dX1_livingPlaces_40 : decode cX1_livingPlaces 40 = .ok (.iload_n 2, 1) := dk_28 (dk_at dksX1_livingPlaces_1 19 rfl rfl)
theorem dX1_livingPlaces_41 : decode cX1_livingPlaces 41 = .ok (.aload 4, 2) := dk_25 4 (dk_at dksX1_livingPlaces_1 20 rfl rfl)
theorem dX1_livingPlaces_43 : decode cX1_livingPlaces 43 = .ok (.getfield 251, 3) := dk_180 0 251 (dk_at dksX1_livingPlaces_2 0 rfl rfl)
theorem dX1_livingPlaces_46 : decode cX1_livingPlaces 46 = .ok (.iload_n 1, 1) := dk_27 (dk_at dksX1_livingPlaces_2 3 rfl rfl)
theorem dX1_livingPlaces_47 : decode cX1_livingPlaces 47 = .ok (.if_icmp .ne 11, 3) := dk_160 0 11 (dk_at dksX1_livingPlaces_2 4 rfl rfl)
theorem dX1_livingPlaces_50 : decode cX1_livingPlaces 50 = .ok (.aload 4, 2) := dk_25 4 (dk_at dksX1_livingPlaces_2 7 rfl rfl)
theorem dX1_livingPlaces_52 : decode cX1_livingPlaces 52 = .ok (.getfield 254, 3) := dk_180 0 254 (dk_at dksX1_livingPlaces_2 9 rfl rfl)
theorem dX1_livingPlaces_55 : decode cX1_livingPlaces 55 = .ok (.goto 4, 3) := dk_167 0 4 (dk_at dksX1_livingPlaces_2 12 rfl rfl)
theorem dX1_livingPlaces_58 : decode cX1_livingPlaces 58 = .ok (.iconst 0, 1) := dk_3 (dk_at dksX1_livingPlaces_2 15 rfl rfl)
theorem dX1_livingPlaces_59 : decode cX1_livingPlaces 59 = .ok (.iadd, 1) := dk_96 (dk_at dksX1_livingPlaces_2 16 rfl rfl)
theorem dX1_livingPlaces_60 : decode cX1_livingPlaces 60 = .ok (.istore_n 2, 1) := dk_61 (dk_at dksX1_livingPlaces_2 17 rfl rfl)
theorem dX1_livingPlaces_61 : decode cX1_livingPlaces 61 = .ok (.goto (-41), 3) := dk_167 255 215 (dk_at dksX1_livingPlaces_2 18 rfl rfl)
theorem dX1_livingPlaces_64 : decode cX1_livingPlaces 64 = .ok (.iload_n 2, 1) := dk_28 (dk_at dksX1_livingPlaces_2 21 rfl rfl)
theorem dX1_livingPlaces_65 : decode cX1_livingPlaces 65 = .ok (.ireturn, 1) := dk_172 (dk_at dksX1_livingPlaces_2 22 rfl rfl)
abbrev cX1_lowestIn : ByteArray := prog_1_method_30_code
def yX1_lowestIn : MethodName := ⟨RX1, "lowestIn", "(I)I"⟩
def dkwX1_lowestIn_2 : List UInt8 := [167, 255, 224, 2, 172]
abbrev dktX1_lowestIn_2 : List UInt8 := dkwX1_lowestIn_2 ++ []
def dkwX1_lowestIn_1 : List UInt8 := [185, 0, 248, 1, 0, 192, 0, 143, 78, 45, 180, 0, 251, 27, 160, 0, 8, 45, 180, 1, 0, 172]
abbrev dktX1_lowestIn_1 : List UInt8 := dkwX1_lowestIn_1 ++ dktX1_lowestIn_2
def dkwX1_lowestIn_0 : List UInt8 := [42, 182, 0, 92, 180, 0, 95, 185, 0, 239, 1, 0, 77, 44, 185, 0, 243, 1, 0, 153, 0, 29, 44]
abbrev dktX1_lowestIn_0 : List UInt8 := dkwX1_lowestIn_0 ++ dktX1_lowestIn_1
theorem dksX1_lowestIn_0 : cX1_lowestIn.data.toList.drop 0 = dktX1_lowestIn_0 := by decide +kernel
theorem dksX1_lowestIn_1 : cX1_lowestIn.data.toList.drop 23 = dktX1_lowestIn_1 := dk_seg dksX1_lowestIn_0 23 rfl rfl
theorem dksX1_lowestIn_2 : cX1_lowestIn.data.toList.drop 45 = dktX1_lowestIn_2 := dk_seg dksX1_lowestIn_1 22 rfl rfl
theorem dX1_lowestIn_0 : decode cX1_lowestIn 0 = .ok (.aload_n 0, 1) := dk_42 (dk_at dksX1_lowestIn_0 0 rfl rfl)
theorem dX1_lowestIn_1 : decode cX1_lowestIn 1 = .ok (.invokevirtual 92, 3) := dk_182 0 92 (dk_at dksX1_lowestIn_0 1 rfl rfl)
theorem dX1_lowestIn_4 : decode cX1_lowestIn 4 = .ok (.getfield 95, 3) := dk_180 0 95 (dk_at dksX1_lowestIn_0 4 rfl rfl)
theorem dX1_lowestIn_7 : decode cX1_lowestIn 7 = .ok (.invokeinterface 239 1, 5) := by decide +kernel
theorem dX1_lowestIn_12 : decode cX1_lowestIn 12 = .ok (.astore_n 2, 1) := dk_77 (dk_at dksX1_lowestIn_0 12 rfl rfl)
theorem dX1_lowestIn_13 : decode cX1_lowestIn 13 = .ok (.aload_n 2, 1) := dk_44 (dk_at dksX1_lowestIn_0 13 rfl rfl)
theorem dX1_lowestIn_14 : decode cX1_lowestIn 14 = .ok (.invokeinterface 243 1, 5) := by decide +kernel
theorem dX1_lowestIn_19 : decode cX1_lowestIn 19 = .ok (.ifCond .eq 29, 3) := dk_153 0 29 (dk_at dksX1_lowestIn_0 19 rfl rfl)
theorem dX1_lowestIn_22 : decode cX1_lowestIn 22 = .ok (.aload_n 2, 1) := dk_44 (dk_at dksX1_lowestIn_0 22 rfl rfl)
theorem dX1_lowestIn_23 : decode cX1_lowestIn 23 = .ok (.invokeinterface 248 1, 5) := by decide +kernel
theorem dX1_lowestIn_28 : decode cX1_lowestIn 28 = .ok (.checkcast 143, 3) := dk_192 0 143 (dk_at dksX1_lowestIn_1 5 rfl rfl)
theorem dX1_lowestIn_31 : decode cX1_lowestIn 31 = .ok (.astore_n 3, 1) := dk_78 (dk_at dksX1_lowestIn_1 8 rfl rfl)
theorem dX1_lowestIn_32 : decode cX1_lowestIn 32 = .ok (.aload_n 3, 1) := dk_45 (dk_at dksX1_lowestIn_1 9 rfl rfl)
theorem dX1_lowestIn_33 : decode cX1_lowestIn 33 = .ok (.getfield 251, 3) := dk_180 0 251 (dk_at dksX1_lowestIn_1 10 rfl rfl)
theorem dX1_lowestIn_36 : decode cX1_lowestIn 36 = .ok (.iload_n 1, 1) := dk_27 (dk_at dksX1_lowestIn_1 13 rfl rfl)
theorem dX1_lowestIn_37 : decode cX1_lowestIn 37 = .ok (.if_icmp .ne 8, 3) := dk_160 0 8 (dk_at dksX1_lowestIn_1 14 rfl rfl)
theorem dX1_lowestIn_40 : decode cX1_lowestIn 40 = .ok (.aload_n 3, 1) := dk_45 (dk_at dksX1_lowestIn_1 17 rfl rfl)
theorem dX1_lowestIn_41 : decode cX1_lowestIn 41 = .ok (.getfield 256, 3) := dk_180 1 0 (dk_at dksX1_lowestIn_1 18 rfl rfl)
theorem dX1_lowestIn_44 : decode cX1_lowestIn 44 = .ok (.ireturn, 1) := dk_172 (dk_at dksX1_lowestIn_1 21 rfl rfl)
theorem dX1_lowestIn_45 : decode cX1_lowestIn 45 = .ok (.goto (-32), 3) := dk_167 255 224 (dk_at dksX1_lowestIn_2 0 rfl rfl)
theorem dX1_lowestIn_48 : decode cX1_lowestIn 48 = .ok (.iconst (-1), 1) := dk_2 (dk_at dksX1_lowestIn_2 3 rfl rfl)
theorem dX1_lowestIn_49 : decode cX1_lowestIn 49 = .ok (.ireturn, 1) := dk_172 (dk_at dksX1_lowestIn_2 4 rfl rfl)
abbrev cX1_unit : ByteArray := prog_1_method_32_code
def yX1_unit : MethodName := ⟨RX1, "unit", "(II)I"⟩
def dkwX1_unit_6 : List UInt8 := [167, 0, 12, 45, 180, 1, 35, 28, 16, 10, 100, 46, 172]
abbrev dktX1_unit_6 : List UInt8 := dkwX1_unit_6 ++ []
def dkwX1_unit_5 : List UInt8 := [180, 1, 29, 167, 0, 33, 45, 180, 1, 32, 167, 0, 26, 45, 180, 1, 34, 167, 0, 19, 45, 180, 0, 149]
abbrev dktX1_unit_5 : List UInt8 := dkwX1_unit_5 ++ dktX1_unit_6
def dkwX1_unit_4 : List UInt8 := [180, 1, 26, 167, 0, 57, 45, 182, 0, 145, 184, 1, 17, 167, 0, 47, 45, 180, 0, 251, 167, 0, 40, 45]
abbrev dktX1_unit_4 : List UInt8 := dkwX1_unit_4 ++ dktX1_unit_5
def dkwX1_unit_3 : List UInt8 := [45, 180, 1, 23, 167, 0, 78, 45, 180, 0, 254, 167, 0, 71, 45, 180, 0, 152, 167, 0, 64, 45]
abbrev dktX1_unit_3 : List UInt8 := dkwX1_unit_3 ++ dktX1_unit_4
def dkwX1_unit_2 : List UInt8 := [170, 0, 0, 0, 0, 0, 0, 129, 0, 0, 0, 0, 0, 0, 0, 9, 0, 0, 0, 56, 0, 0, 0, 63, 0, 0, 0, 70, 0, 0, 0, 77, 0, 0, 0, 84, 0, 0, 0, 94, 0, 0, 0, 101, 0, 0, 0, 108, 0, 0, 0, 115, 0, 0, 0, 122]
abbrev dktX1_unit_2 : List UInt8 := dkwX1_unit_2 ++ dktX1_unit_3
def dkwX1_unit_1 : List UInt8 := [180, 0, 95, 27, 185, 0, 139, 2, 0, 192, 0, 143, 78, 28]
abbrev dktX1_unit_1 : List UInt8 := dkwX1_unit_1 ++ dktX1_unit_2
def dkwX1_unit_0 : List UInt8 := [42, 27, 182, 0, 129, 184, 0, 133, 28, 3, 16, 14, 184, 0, 117, 184, 0, 121, 42, 182, 0, 92]
abbrev dktX1_unit_0 : List UInt8 := dkwX1_unit_0 ++ dktX1_unit_1
theorem dksX1_unit_0 : cX1_unit.data.toList.drop 0 = dktX1_unit_0 := by decide +kernel
theorem dksX1_unit_1 : cX1_unit.data.toList.drop 22 = dktX1_unit_1 := dk_seg dksX1_unit_0 22 rfl rfl
theorem dksX1_unit_2 : cX1_unit.data.toList.drop 36 = dktX1_unit_2 := dk_seg dksX1_unit_1 14 rfl rfl
theorem dksX1_unit_3 : cX1_unit.data.toList.drop 92 = dktX1_unit_3 := dk_seg dksX1_unit_2 56 rfl rfl
theorem dksX1_unit_4 : cX1_unit.data.toList.drop 114 = dktX1_unit_4 := dk_seg dksX1_unit_3 22 rfl rfl
theorem dksX1_unit_5 : cX1_unit.data.toList.drop 138 = dktX1_unit_5 := dk_seg dksX1_unit_4 24 rfl rfl
theorem dksX1_unit_6 : cX1_unit.data.toList.drop 162 = dktX1_unit_6 := dk_seg dksX1_unit_5 24 rfl rfl
theorem dX1_unit_0 : decode cX1_unit 0 = .ok (.aload_n 0, 1) := dk_42 (dk_at dksX1_unit_0 0 rfl rfl)
theorem dX1_unit_1 : decode cX1_unit 1 = .ok (.iload_n 1, 1) := dk_27 (dk_at dksX1_unit_0 1 rfl rfl)
theorem dX1_unit_2 : decode cX1_unit 2 = .ok (.invokevirtual 129, 3) := dk_182 0 129 (dk_at dksX1_unit_0 2 rfl rfl)
theorem dX1_unit_5 : decode cX1_unit 5 = .ok (.invokestatic 133, 3) := dk_184 0 133 (dk_at dksX1_unit_0 5 rfl rfl)
theorem dX1_unit_8 : decode cX1_unit 8 = .ok (.iload_n 2, 1) := dk_28 (dk_at dksX1_unit_0 8 rfl rfl)
theorem dX1_unit_9 : decode cX1_unit 9 = .ok (.iconst 0, 1) := dk_3 (dk_at dksX1_unit_0 9 rfl rfl)
theorem dX1_unit_10 : decode cX1_unit 10 = .ok (.bipush 14, 2) := dk_16 14 (dk_at dksX1_unit_0 10 rfl rfl)
theorem dX1_unit_12 : decode cX1_unit 12 = .ok (.invokestatic 117, 3) := dk_184 0 117 (dk_at dksX1_unit_0 12 rfl rfl)
theorem dX1_unit_15 : decode cX1_unit 15 = .ok (.invokestatic 121, 3) := dk_184 0 121 (dk_at dksX1_unit_0 15 rfl rfl)
theorem dX1_unit_18 : decode cX1_unit 18 = .ok (.aload_n 0, 1) := dk_42 (dk_at dksX1_unit_0 18 rfl rfl)
theorem dX1_unit_19 : decode cX1_unit 19 = .ok (.invokevirtual 92, 3) := dk_182 0 92 (dk_at dksX1_unit_0 19 rfl rfl)
theorem dX1_unit_22 : decode cX1_unit 22 = .ok (.getfield 95, 3) := dk_180 0 95 (dk_at dksX1_unit_1 0 rfl rfl)
theorem dX1_unit_25 : decode cX1_unit 25 = .ok (.iload_n 1, 1) := dk_27 (dk_at dksX1_unit_1 3 rfl rfl)
theorem dX1_unit_26 : decode cX1_unit 26 = .ok (.invokeinterface 139 2, 5) := by decide +kernel
theorem dX1_unit_31 : decode cX1_unit 31 = .ok (.checkcast 143, 3) := dk_192 0 143 (dk_at dksX1_unit_1 9 rfl rfl)
theorem dX1_unit_34 : decode cX1_unit 34 = .ok (.astore_n 3, 1) := dk_78 (dk_at dksX1_unit_1 12 rfl rfl)
theorem dX1_unit_35 : decode cX1_unit 35 = .ok (.iload_n 2, 1) := dk_28 (dk_at dksX1_unit_1 13 rfl rfl)
theorem dX1_unit_36 : decode cX1_unit 36 = .ok (.tableswitch 129 0 9 #[56, 63, 70, 77, 84, 94, 101, 108, 115, 122], 56) := by decide +kernel
theorem dX1_unit_92 : decode cX1_unit 92 = .ok (.aload_n 3, 1) := dk_45 (dk_at dksX1_unit_3 0 rfl rfl)
theorem dX1_unit_93 : decode cX1_unit 93 = .ok (.getfield 279, 3) := dk_180 1 23 (dk_at dksX1_unit_3 1 rfl rfl)
theorem dX1_unit_96 : decode cX1_unit 96 = .ok (.goto 78, 3) := dk_167 0 78 (dk_at dksX1_unit_3 4 rfl rfl)
theorem dX1_unit_99 : decode cX1_unit 99 = .ok (.aload_n 3, 1) := dk_45 (dk_at dksX1_unit_3 7 rfl rfl)
theorem dX1_unit_100 : decode cX1_unit 100 = .ok (.getfield 254, 3) := dk_180 0 254 (dk_at dksX1_unit_3 8 rfl rfl)
theorem dX1_unit_103 : decode cX1_unit 103 = .ok (.goto 71, 3) := dk_167 0 71 (dk_at dksX1_unit_3 11 rfl rfl)
theorem dX1_unit_106 : decode cX1_unit 106 = .ok (.aload_n 3, 1) := dk_45 (dk_at dksX1_unit_3 14 rfl rfl)
theorem dX1_unit_107 : decode cX1_unit 107 = .ok (.getfield 152, 3) := dk_180 0 152 (dk_at dksX1_unit_3 15 rfl rfl)
theorem dX1_unit_110 : decode cX1_unit 110 = .ok (.goto 64, 3) := dk_167 0 64 (dk_at dksX1_unit_3 18 rfl rfl)
theorem dX1_unit_113 : decode cX1_unit 113 = .ok (.aload_n 3, 1) := dk_45 (dk_at dksX1_unit_3 21 rfl rfl)
theorem dX1_unit_114 : decode cX1_unit 114 = .ok (.getfield 282, 3) := dk_180 1 26 (dk_at dksX1_unit_4 0 rfl rfl)
theorem dX1_unit_117 : decode cX1_unit 117 = .ok (.goto 57, 3) := dk_167 0 57 (dk_at dksX1_unit_4 3 rfl rfl)
theorem dX1_unit_120 : decode cX1_unit 120 = .ok (.aload_n 3, 1) := dk_45 (dk_at dksX1_unit_4 6 rfl rfl)
theorem dX1_unit_121 : decode cX1_unit 121 = .ok (.invokevirtual 145, 3) := dk_182 0 145 (dk_at dksX1_unit_4 7 rfl rfl)
theorem dX1_unit_124 : decode cX1_unit 124 = .ok (.invokestatic 273, 3) := dk_184 1 17 (dk_at dksX1_unit_4 10 rfl rfl)
theorem dX1_unit_127 : decode cX1_unit 127 = .ok (.goto 47, 3) := dk_167 0 47 (dk_at dksX1_unit_4 13 rfl rfl)
theorem dX1_unit_130 : decode cX1_unit 130 = .ok (.aload_n 3, 1) := dk_45 (dk_at dksX1_unit_4 16 rfl rfl)
theorem dX1_unit_131 : decode cX1_unit 131 = .ok (.getfield 251, 3) := dk_180 0 251 (dk_at dksX1_unit_4 17 rfl rfl)
theorem dX1_unit_134 : decode cX1_unit 134 = .ok (.goto 40, 3) := dk_167 0 40 (dk_at dksX1_unit_4 20 rfl rfl)
theorem dX1_unit_137 : decode cX1_unit 137 = .ok (.aload_n 3, 1) := dk_45 (dk_at dksX1_unit_4 23 rfl rfl)
theorem dX1_unit_138 : decode cX1_unit 138 = .ok (.getfield 285, 3) := dk_180 1 29 (dk_at dksX1_unit_5 0 rfl rfl)
theorem dX1_unit_141 : decode cX1_unit 141 = .ok (.goto 33, 3) := dk_167 0 33 (dk_at dksX1_unit_5 3 rfl rfl)
theorem dX1_unit_144 : decode cX1_unit 144 = .ok (.aload_n 3, 1) := dk_45 (dk_at dksX1_unit_5 6 rfl rfl)
theorem dX1_unit_145 : decode cX1_unit 145 = .ok (.getfield 288, 3) := dk_180 1 32 (dk_at dksX1_unit_5 7 rfl rfl)
theorem dX1_unit_148 : decode cX1_unit 148 = .ok (.goto 26, 3) := dk_167 0 26 (dk_at dksX1_unit_5 10 rfl rfl)
theorem dX1_unit_151 : decode cX1_unit 151 = .ok (.aload_n 3, 1) := dk_45 (dk_at dksX1_unit_5 13 rfl rfl)
theorem dX1_unit_152 : decode cX1_unit 152 = .ok (.getfield 290, 3) := dk_180 1 34 (dk_at dksX1_unit_5 14 rfl rfl)
theorem dX1_unit_155 : decode cX1_unit 155 = .ok (.goto 19, 3) := dk_167 0 19 (dk_at dksX1_unit_5 17 rfl rfl)
theorem dX1_unit_158 : decode cX1_unit 158 = .ok (.aload_n 3, 1) := dk_45 (dk_at dksX1_unit_5 20 rfl rfl)
theorem dX1_unit_159 : decode cX1_unit 159 = .ok (.getfield 149, 3) := dk_180 0 149 (dk_at dksX1_unit_5 21 rfl rfl)
theorem dX1_unit_162 : decode cX1_unit 162 = .ok (.goto 12, 3) := dk_167 0 12 (dk_at dksX1_unit_6 0 rfl rfl)
theorem dX1_unit_165 : decode cX1_unit 165 = .ok (.aload_n 3, 1) := dk_45 (dk_at dksX1_unit_6 3 rfl rfl)
theorem dX1_unit_166 : decode cX1_unit 166 = .ok (.getfield 291, 3) := dk_180 1 35 (dk_at dksX1_unit_6 4 rfl rfl)
theorem dX1_unit_169 : decode cX1_unit 169 = .ok (.iload_n 2, 1) := dk_28 (dk_at dksX1_unit_6 7 rfl rfl)
theorem dX1_unit_170 : decode cX1_unit 170 = .ok (.bipush 10, 2) := dk_16 10 (dk_at dksX1_unit_6 8 rfl rfl)
theorem dX1_unit_172 : decode cX1_unit 172 = .ok (.isub, 1) := dk_100 (dk_at dksX1_unit_6 10 rfl rfl)
theorem dX1_unit_173 : decode cX1_unit 173 = .ok (.iaload, 1) := dk_46 (dk_at dksX1_unit_6 11 rfl rfl)
theorem dX1_unit_174 : decode cX1_unit 174 = .ok (.ireturn, 1) := dk_172 (dk_at dksX1_unit_6 12 rfl rfl)
abbrev cX1_guesser : ByteArray := prog_1_method_34_code
def yX1_guesser : MethodName := ⟨RX1, "guesser", "(II)I"⟩
def dkwX1_guesser_1 : List UInt8 := [27, 46, 167, 0, 12, 42, 182, 0, 92, 180, 1, 44, 27, 46, 172]
abbrev dktX1_guesser_1 : List UInt8 := dkwX1_guesser_1 ++ []
def dkwX1_guesser_0 : List UInt8 := [27, 184, 1, 38, 28, 3, 4, 184, 0, 117, 184, 0, 121, 28, 154, 0, 15, 42, 182, 0, 92, 180, 1, 41]
abbrev dktX1_guesser_0 : List UInt8 := dkwX1_guesser_0 ++ dktX1_guesser_1
theorem dksX1_guesser_0 : cX1_guesser.data.toList.drop 0 = dktX1_guesser_0 := by decide +kernel
theorem dksX1_guesser_1 : cX1_guesser.data.toList.drop 24 = dktX1_guesser_1 := dk_seg dksX1_guesser_0 24 rfl rfl
theorem dX1_guesser_0 : decode cX1_guesser 0 = .ok (.iload_n 1, 1) := dk_27 (dk_at dksX1_guesser_0 0 rfl rfl)
theorem dX1_guesser_1 : decode cX1_guesser 1 = .ok (.invokestatic 294, 3) := dk_184 1 38 (dk_at dksX1_guesser_0 1 rfl rfl)
theorem dX1_guesser_4 : decode cX1_guesser 4 = .ok (.iload_n 2, 1) := dk_28 (dk_at dksX1_guesser_0 4 rfl rfl)
theorem dX1_guesser_5 : decode cX1_guesser 5 = .ok (.iconst 0, 1) := dk_3 (dk_at dksX1_guesser_0 5 rfl rfl)
theorem dX1_guesser_6 : decode cX1_guesser 6 = .ok (.iconst 1, 1) := dk_4 (dk_at dksX1_guesser_0 6 rfl rfl)
theorem dX1_guesser_7 : decode cX1_guesser 7 = .ok (.invokestatic 117, 3) := dk_184 0 117 (dk_at dksX1_guesser_0 7 rfl rfl)
theorem dX1_guesser_10 : decode cX1_guesser 10 = .ok (.invokestatic 121, 3) := dk_184 0 121 (dk_at dksX1_guesser_0 10 rfl rfl)
theorem dX1_guesser_13 : decode cX1_guesser 13 = .ok (.iload_n 2, 1) := dk_28 (dk_at dksX1_guesser_0 13 rfl rfl)
theorem dX1_guesser_14 : decode cX1_guesser 14 = .ok (.ifCond .ne 15, 3) := dk_154 0 15 (dk_at dksX1_guesser_0 14 rfl rfl)
theorem dX1_guesser_17 : decode cX1_guesser 17 = .ok (.aload_n 0, 1) := dk_42 (dk_at dksX1_guesser_0 17 rfl rfl)
theorem dX1_guesser_18 : decode cX1_guesser 18 = .ok (.invokevirtual 92, 3) := dk_182 0 92 (dk_at dksX1_guesser_0 18 rfl rfl)
theorem dX1_guesser_21 : decode cX1_guesser 21 = .ok (.getfield 297, 3) := dk_180 1 41 (dk_at dksX1_guesser_0 21 rfl rfl)
theorem dX1_guesser_24 : decode cX1_guesser 24 = .ok (.iload_n 1, 1) := dk_27 (dk_at dksX1_guesser_1 0 rfl rfl)
theorem dX1_guesser_25 : decode cX1_guesser 25 = .ok (.iaload, 1) := dk_46 (dk_at dksX1_guesser_1 1 rfl rfl)
theorem dX1_guesser_26 : decode cX1_guesser 26 = .ok (.goto 12, 3) := dk_167 0 12 (dk_at dksX1_guesser_1 2 rfl rfl)
theorem dX1_guesser_29 : decode cX1_guesser 29 = .ok (.aload_n 0, 1) := dk_42 (dk_at dksX1_guesser_1 5 rfl rfl)
theorem dX1_guesser_30 : decode cX1_guesser 30 = .ok (.invokevirtual 92, 3) := dk_182 0 92 (dk_at dksX1_guesser_1 6 rfl rfl)
theorem dX1_guesser_33 : decode cX1_guesser 33 = .ok (.getfield 300, 3) := dk_180 1 44 (dk_at dksX1_guesser_1 9 rfl rfl)
theorem dX1_guesser_36 : decode cX1_guesser 36 = .ok (.iload_n 1, 1) := dk_27 (dk_at dksX1_guesser_1 12 rfl rfl)
theorem dX1_guesser_37 : decode cX1_guesser 37 = .ok (.iaload, 1) := dk_46 (dk_at dksX1_guesser_1 13 rfl rfl)
theorem dX1_guesser_38 : decode cX1_guesser 38 = .ok (.ireturn, 1) := dk_172 (dk_at dksX1_guesser_1 14 rfl rfl)
abbrev cX1_requireGuesser : ByteArray := prog_1_method_33_code
def yX1_requireGuesser : MethodName := ⟨RX1, "requireGuesser", "(I)V"⟩
def dkwX1_requireGuesser_0 : List UInt8 := [26, 3, 7, 184, 0, 117, 184, 0, 133, 177]
abbrev dktX1_requireGuesser_0 : List UInt8 := dkwX1_requireGuesser_0 ++ []
theorem dksX1_requireGuesser_0 : cX1_requireGuesser.data.toList.drop 0 = dktX1_requireGuesser_0 := by decide +kernel
theorem dX1_requireGuesser_0 : decode cX1_requireGuesser 0 = .ok (.iload_n 0, 1) := dk_26 (dk_at dksX1_requireGuesser_0 0 rfl rfl)
theorem dX1_requireGuesser_1 : decode cX1_requireGuesser 1 = .ok (.iconst 0, 1) := dk_3 (dk_at dksX1_requireGuesser_0 1 rfl rfl)
theorem dX1_requireGuesser_2 : decode cX1_requireGuesser 2 = .ok (.iconst 4, 1) := dk_7 (dk_at dksX1_requireGuesser_0 2 rfl rfl)
theorem dX1_requireGuesser_3 : decode cX1_requireGuesser 3 = .ok (.invokestatic 117, 3) := dk_184 0 117 (dk_at dksX1_requireGuesser_0 3 rfl rfl)
theorem dX1_requireGuesser_6 : decode cX1_requireGuesser 6 = .ok (.invokestatic 133, 3) := dk_184 0 133 (dk_at dksX1_requireGuesser_0 6 rfl rfl)
theorem dX1_requireGuesser_9 : decode cX1_requireGuesser 9 = .ok (.return_, 1) := dk_177 (dk_at dksX1_requireGuesser_0 9 rfl rfl)
abbrev cX1_guess : ByteArray := prog_1_method_36_code
def yX1_guess : MethodName := ⟨RX1, "guess", "(III)I"⟩
def dkwX1_guess_0 : List UInt8 := [27, 184, 1, 38, 28, 29, 184, 1, 47, 42, 182, 0, 92, 27, 28, 29, 2, 182, 1, 51, 172]
abbrev dktX1_guess_0 : List UInt8 := dkwX1_guess_0 ++ []
theorem dksX1_guess_0 : cX1_guess.data.toList.drop 0 = dktX1_guess_0 := by decide +kernel
theorem dX1_guess_0 : decode cX1_guess 0 = .ok (.iload_n 1, 1) := dk_27 (dk_at dksX1_guess_0 0 rfl rfl)
theorem dX1_guess_1 : decode cX1_guess 1 = .ok (.invokestatic 294, 3) := dk_184 1 38 (dk_at dksX1_guess_0 1 rfl rfl)
theorem dX1_guess_4 : decode cX1_guess 4 = .ok (.iload_n 2, 1) := dk_28 (dk_at dksX1_guess_0 4 rfl rfl)
theorem dX1_guess_5 : decode cX1_guess 5 = .ok (.iload_n 3, 1) := dk_29 (dk_at dksX1_guess_0 5 rfl rfl)
theorem dX1_guess_6 : decode cX1_guess 6 = .ok (.invokestatic 303, 3) := dk_184 1 47 (dk_at dksX1_guess_0 6 rfl rfl)
theorem dX1_guess_9 : decode cX1_guess 9 = .ok (.aload_n 0, 1) := dk_42 (dk_at dksX1_guess_0 9 rfl rfl)
theorem dX1_guess_10 : decode cX1_guess 10 = .ok (.invokevirtual 92, 3) := dk_182 0 92 (dk_at dksX1_guess_0 10 rfl rfl)
theorem dX1_guess_13 : decode cX1_guess 13 = .ok (.iload_n 1, 1) := dk_27 (dk_at dksX1_guess_0 13 rfl rfl)
theorem dX1_guess_14 : decode cX1_guess 14 = .ok (.iload_n 2, 1) := dk_28 (dk_at dksX1_guess_0 14 rfl rfl)
theorem dX1_guess_15 : decode cX1_guess 15 = .ok (.iload_n 3, 1) := dk_29 (dk_at dksX1_guess_0 15 rfl rfl)
theorem dX1_guess_16 : decode cX1_guess 16 = .ok (.iconst (-1), 1) := dk_2 (dk_at dksX1_guess_0 16 rfl rfl)
theorem dX1_guess_17 : decode cX1_guess 17 = .ok (.invokevirtual 307, 3) := dk_182 1 51 (dk_at dksX1_guess_0 17 rfl rfl)
theorem dX1_guess_20 : decode cX1_guess 20 = .ok (.ireturn, 1) := dk_172 (dk_at dksX1_guess_0 20 rfl rfl)
abbrev cX1_requireKind : ByteArray := prog_1_method_35_code
def yX1_requireKind : MethodName := ⟨RX1, "requireKind", "(II)V"⟩
def dkwX1_requireKind_1 : List UInt8 := [184, 0, 121, 177]
abbrev dktX1_requireKind_1 : List UInt8 := dkwX1_requireKind_1 ++ []
def dkwX1_requireKind_0 : List UInt8 := [26, 3, 16, 7, 184, 0, 117, 153, 0, 16, 27, 4, 6, 184, 0, 117, 153, 0, 7, 4, 167, 0, 4, 3]
abbrev dktX1_requireKind_0 : List UInt8 := dkwX1_requireKind_0 ++ dktX1_requireKind_1
theorem dksX1_requireKind_0 : cX1_requireKind.data.toList.drop 0 = dktX1_requireKind_0 := by decide +kernel
theorem dksX1_requireKind_1 : cX1_requireKind.data.toList.drop 24 = dktX1_requireKind_1 := dk_seg dksX1_requireKind_0 24 rfl rfl
theorem dX1_requireKind_0 : decode cX1_requireKind 0 = .ok (.iload_n 0, 1) := dk_26 (dk_at dksX1_requireKind_0 0 rfl rfl)
theorem dX1_requireKind_1 : decode cX1_requireKind 1 = .ok (.iconst 0, 1) := dk_3 (dk_at dksX1_requireKind_0 1 rfl rfl)
theorem dX1_requireKind_2 : decode cX1_requireKind 2 = .ok (.bipush 7, 2) := dk_16 7 (dk_at dksX1_requireKind_0 2 rfl rfl)
theorem dX1_requireKind_4 : decode cX1_requireKind 4 = .ok (.invokestatic 117, 3) := dk_184 0 117 (dk_at dksX1_requireKind_0 4 rfl rfl)
theorem dX1_requireKind_7 : decode cX1_requireKind 7 = .ok (.ifCond .eq 16, 3) := dk_153 0 16 (dk_at dksX1_requireKind_0 7 rfl rfl)
theorem dX1_requireKind_10 : decode cX1_requireKind 10 = .ok (.iload_n 1, 1) := dk_27 (dk_at dksX1_requireKind_0 10 rfl rfl)
theorem dX1_requireKind_11 : decode cX1_requireKind 11 = .ok (.iconst 1, 1) := dk_4 (dk_at dksX1_requireKind_0 11 rfl rfl)
theorem dX1_requireKind_12 : decode cX1_requireKind 12 = .ok (.iconst 3, 1) := dk_6 (dk_at dksX1_requireKind_0 12 rfl rfl)
theorem dX1_requireKind_13 : decode cX1_requireKind 13 = .ok (.invokestatic 117, 3) := dk_184 0 117 (dk_at dksX1_requireKind_0 13 rfl rfl)
theorem dX1_requireKind_16 : decode cX1_requireKind 16 = .ok (.ifCond .eq 7, 3) := dk_153 0 7 (dk_at dksX1_requireKind_0 16 rfl rfl)
theorem dX1_requireKind_19 : decode cX1_requireKind 19 = .ok (.iconst 1, 1) := dk_4 (dk_at dksX1_requireKind_0 19 rfl rfl)
theorem dX1_requireKind_20 : decode cX1_requireKind 20 = .ok (.goto 4, 3) := dk_167 0 4 (dk_at dksX1_requireKind_0 20 rfl rfl)
theorem dX1_requireKind_23 : decode cX1_requireKind 23 = .ok (.iconst 0, 1) := dk_3 (dk_at dksX1_requireKind_0 23 rfl rfl)
theorem dX1_requireKind_24 : decode cX1_requireKind 24 = .ok (.invokestatic 121, 3) := dk_184 0 121 (dk_at dksX1_requireKind_1 0 rfl rfl)
theorem dX1_requireKind_27 : decode cX1_requireKind 27 = .ok (.return_, 1) := dk_177 (dk_at dksX1_requireKind_1 3 rfl rfl)
abbrev cX1_share : ByteArray := prog_1_method_37_code
def yX1_share : MethodName := ⟨RX1, "share", "(I)D"⟩
def dkwX1_share_2 : List UInt8 := [182, 0, 92, 180, 1, 41, 27, 46, 135, 28, 135, 111, 175]
abbrev dktX1_share_2 : List UInt8 := dkwX1_share_2 ++ []
def dkwX1_share_1 : List UInt8 := [21, 4, 162, 0, 20, 45, 21, 5, 46, 54, 6, 28, 21, 6, 96, 61, 132, 5, 1, 167, 255, 235, 42]
abbrev dktX1_share_1 : List UInt8 := dkwX1_share_1 ++ dktX1_share_2
def dkwX1_share_0 : List UInt8 := [27, 184, 1, 38, 3, 61, 42, 182, 0, 92, 180, 1, 41, 78, 45, 190, 54, 4, 3, 54, 5, 21, 5]
abbrev dktX1_share_0 : List UInt8 := dkwX1_share_0 ++ dktX1_share_1
theorem dksX1_share_0 : cX1_share.data.toList.drop 0 = dktX1_share_0 := by decide +kernel
theorem dksX1_share_1 : cX1_share.data.toList.drop 23 = dktX1_share_1 := dk_seg dksX1_share_0 23 rfl rfl
theorem dksX1_share_2 : cX1_share.data.toList.drop 46 = dktX1_share_2 := dk_seg dksX1_share_1 23 rfl rfl
theorem dX1_share_0 : decode cX1_share 0 = .ok (.iload_n 1, 1) := dk_27 (dk_at dksX1_share_0 0 rfl rfl)
theorem dX1_share_1 : decode cX1_share 1 = .ok (.invokestatic 294, 3) := dk_184 1 38 (dk_at dksX1_share_0 1 rfl rfl)
theorem dX1_share_4 : decode cX1_share 4 = .ok (.iconst 0, 1) := dk_3 (dk_at dksX1_share_0 4 rfl rfl)
theorem dX1_share_5 : decode cX1_share 5 = .ok (.istore_n 2, 1) := dk_61 (dk_at dksX1_share_0 5 rfl rfl)
theorem dX1_share_6 : decode cX1_share 6 = .ok (.aload_n 0, 1) := dk_42 (dk_at dksX1_share_0 6 rfl rfl)
theorem dX1_share_7 : decode cX1_share 7 = .ok (.invokevirtual 92, 3) := dk_182 0 92 (dk_at dksX1_share_0 7 rfl rfl)
theorem dX1_share_10 : decode cX1_share 10 = .ok (.getfield 297, 3) := dk_180 1 41 (dk_at dksX1_share_0 10 rfl rfl)
theorem dX1_share_13 : decode cX1_share 13 = .ok (.astore_n 3, 1) := dk_78 (dk_at dksX1_share_0 13 rfl rfl)
theorem dX1_share_14 : decode cX1_share 14 = .ok (.aload_n 3, 1) := dk_45 (dk_at dksX1_share_0 14 rfl rfl)
theorem dX1_share_15 : decode cX1_share 15 = .ok (.arraylength, 1) := dk_190 (dk_at dksX1_share_0 15 rfl rfl)
theorem dX1_share_16 : decode cX1_share 16 = .ok (.istore 4, 2) := dk_54 4 (dk_at dksX1_share_0 16 rfl rfl)
theorem dX1_share_18 : decode cX1_share 18 = .ok (.iconst 0, 1) := dk_3 (dk_at dksX1_share_0 18 rfl rfl)
theorem dX1_share_19 : decode cX1_share 19 = .ok (.istore 5, 2) := dk_54 5 (dk_at dksX1_share_0 19 rfl rfl)
theorem dX1_share_21 : decode cX1_share 21 = .ok (.iload 5, 2) := dk_21 5 (dk_at dksX1_share_0 21 rfl rfl)
theorem dX1_share_23 : decode cX1_share 23 = .ok (.iload 4, 2) := dk_21 4 (dk_at dksX1_share_1 0 rfl rfl)
theorem dX1_share_25 : decode cX1_share 25 = .ok (.if_icmp .ge 20, 3) := dk_162 0 20 (dk_at dksX1_share_1 2 rfl rfl)
theorem dX1_share_28 : decode cX1_share 28 = .ok (.aload_n 3, 1) := dk_45 (dk_at dksX1_share_1 5 rfl rfl)
theorem dX1_share_29 : decode cX1_share 29 = .ok (.iload 5, 2) := dk_21 5 (dk_at dksX1_share_1 6 rfl rfl)
theorem dX1_share_31 : decode cX1_share 31 = .ok (.iaload, 1) := dk_46 (dk_at dksX1_share_1 8 rfl rfl)
theorem dX1_share_32 : decode cX1_share 32 = .ok (.istore 6, 2) := dk_54 6 (dk_at dksX1_share_1 9 rfl rfl)
theorem dX1_share_34 : decode cX1_share 34 = .ok (.iload_n 2, 1) := dk_28 (dk_at dksX1_share_1 11 rfl rfl)
theorem dX1_share_35 : decode cX1_share 35 = .ok (.iload 6, 2) := dk_21 6 (dk_at dksX1_share_1 12 rfl rfl)
theorem dX1_share_37 : decode cX1_share 37 = .ok (.iadd, 1) := dk_96 (dk_at dksX1_share_1 14 rfl rfl)
theorem dX1_share_38 : decode cX1_share 38 = .ok (.istore_n 2, 1) := dk_61 (dk_at dksX1_share_1 15 rfl rfl)
theorem dX1_share_39 : decode cX1_share 39 = .ok (.iinc 5 1, 3) := dk_132 5 1 (dk_at dksX1_share_1 16 rfl rfl)
theorem dX1_share_42 : decode cX1_share 42 = .ok (.goto (-21), 3) := dk_167 255 235 (dk_at dksX1_share_1 19 rfl rfl)
theorem dX1_share_45 : decode cX1_share 45 = .ok (.aload_n 0, 1) := dk_42 (dk_at dksX1_share_1 22 rfl rfl)
theorem dX1_share_46 : decode cX1_share 46 = .ok (.invokevirtual 92, 3) := dk_182 0 92 (dk_at dksX1_share_2 0 rfl rfl)
theorem dX1_share_49 : decode cX1_share 49 = .ok (.getfield 297, 3) := dk_180 1 41 (dk_at dksX1_share_2 3 rfl rfl)
theorem dX1_share_52 : decode cX1_share 52 = .ok (.iload_n 1, 1) := dk_27 (dk_at dksX1_share_2 6 rfl rfl)
theorem dX1_share_53 : decode cX1_share 53 = .ok (.iaload, 1) := dk_46 (dk_at dksX1_share_2 7 rfl rfl)
theorem dX1_share_54 : decode cX1_share 54 = .ok (.i2d, 1) := dk_135 (dk_at dksX1_share_2 8 rfl rfl)
theorem dX1_share_55 : decode cX1_share 55 = .ok (.iload_n 2, 1) := dk_28 (dk_at dksX1_share_2 9 rfl rfl)
theorem dX1_share_56 : decode cX1_share 56 = .ok (.i2d, 1) := dk_135 (dk_at dksX1_share_2 10 rfl rfl)
theorem dX1_share_57 : decode cX1_share 57 = .ok (.ddiv, 1) := dk_111 (dk_at dksX1_share_2 11 rfl rfl)
theorem dX1_share_58 : decode cX1_share 58 = .ok (.dreturn, 1) := dk_175 (dk_at dksX1_share_2 12 rfl rfl)
abbrev cX1_account : ByteArray := prog_1_method_52_code
def yX1_account : MethodName := ⟨RX1, "account", "(I)I"⟩
def dkwX1_account_0 : List UInt8 := [27, 3, 16, 7, 184, 0, 117, 184, 0, 121, 42, 180, 0, 46, 27, 46, 172]
abbrev dktX1_account_0 : List UInt8 := dkwX1_account_0 ++ []
theorem dksX1_account_0 : cX1_account.data.toList.drop 0 = dktX1_account_0 := by decide +kernel
theorem dX1_account_0 : decode cX1_account 0 = .ok (.iload_n 1, 1) := dk_27 (dk_at dksX1_account_0 0 rfl rfl)
theorem dX1_account_1 : decode cX1_account 1 = .ok (.iconst 0, 1) := dk_3 (dk_at dksX1_account_0 1 rfl rfl)
theorem dX1_account_2 : decode cX1_account 2 = .ok (.bipush 7, 2) := dk_16 7 (dk_at dksX1_account_0 2 rfl rfl)
theorem dX1_account_4 : decode cX1_account 4 = .ok (.invokestatic 117, 3) := dk_184 0 117 (dk_at dksX1_account_0 4 rfl rfl)
theorem dX1_account_7 : decode cX1_account 7 = .ok (.invokestatic 121, 3) := dk_184 0 121 (dk_at dksX1_account_0 7 rfl rfl)
theorem dX1_account_10 : decode cX1_account 10 = .ok (.aload_n 0, 1) := dk_42 (dk_at dksX1_account_0 10 rfl rfl)
theorem dX1_account_11 : decode cX1_account 11 = .ok (.getfield 46, 3) := dk_180 0 46 (dk_at dksX1_account_0 11 rfl rfl)
theorem dX1_account_14 : decode cX1_account 14 = .ok (.iload_n 1, 1) := dk_27 (dk_at dksX1_account_0 14 rfl rfl)
theorem dX1_account_15 : decode cX1_account 15 = .ok (.iaload, 1) := dk_46 (dk_at dksX1_account_0 15 rfl rfl)
theorem dX1_account_16 : decode cX1_account 16 = .ok (.ireturn, 1) := dk_172 (dk_at dksX1_account_0 16 rfl rfl)
abbrev cX1_writer : ByteArray := prog_1_method_42_code
def yX1_writer : MethodName := ⟨RX1, "writer", "(II)I"⟩
def dkwX1_writer_4 : List UInt8 := [167, 0, 15, 42, 27, 25, 4, 186, 1, 89, 0, 0, 182, 1, 92, 172]
abbrev dktX1_writer_4 : List UInt8 := dkwX1_writer_4 ++ []
def dkwX1_writer_3 : List UInt8 := [186, 1, 84, 0, 0, 83, 45, 28, 50, 58, 4, 28, 6, 160, 0, 12, 42, 25, 4, 182, 1, 85]
abbrev dktX1_writer_3 : List UInt8 := dkwX1_writer_3 ++ dktX1_writer_4
def dkwX1_writer_2 : List UInt8 := [83, 45, 6, 27, 186, 1, 80, 0, 0, 83, 45, 7, 186, 1, 83, 0, 0, 83, 45, 8]
abbrev dktX1_writer_2 : List UInt8 := dkwX1_writer_2 ++ dktX1_writer_3
def dkwX1_writer_1 : List UInt8 := [78, 45, 3, 186, 1, 75, 0, 0, 83, 45, 4, 186, 1, 78, 0, 0, 83, 45, 5, 186, 1, 79, 0, 0]
abbrev dktX1_writer_1 : List UInt8 := dkwX1_writer_1 ++ dktX1_writer_2
def dkwX1_writer_0 : List UInt8 := [27, 3, 16, 7, 184, 0, 117, 184, 0, 133, 28, 3, 8, 184, 0, 117, 184, 0, 121, 16, 6, 189, 1, 67]
abbrev dktX1_writer_0 : List UInt8 := dkwX1_writer_0 ++ dktX1_writer_1
theorem dksX1_writer_0 : cX1_writer.data.toList.drop 0 = dktX1_writer_0 := by decide +kernel
theorem dksX1_writer_1 : cX1_writer.data.toList.drop 24 = dktX1_writer_1 := dk_seg dksX1_writer_0 24 rfl rfl
theorem dksX1_writer_2 : cX1_writer.data.toList.drop 48 = dktX1_writer_2 := dk_seg dksX1_writer_1 24 rfl rfl
theorem dksX1_writer_3 : cX1_writer.data.toList.drop 68 = dktX1_writer_3 := dk_seg dksX1_writer_2 20 rfl rfl
theorem dksX1_writer_4 : cX1_writer.data.toList.drop 90 = dktX1_writer_4 := dk_seg dksX1_writer_3 22 rfl rfl
theorem dX1_writer_0 : decode cX1_writer 0 = .ok (.iload_n 1, 1) := dk_27 (dk_at dksX1_writer_0 0 rfl rfl)
theorem dX1_writer_1 : decode cX1_writer 1 = .ok (.iconst 0, 1) := dk_3 (dk_at dksX1_writer_0 1 rfl rfl)
theorem dX1_writer_2 : decode cX1_writer 2 = .ok (.bipush 7, 2) := dk_16 7 (dk_at dksX1_writer_0 2 rfl rfl)
theorem dX1_writer_4 : decode cX1_writer 4 = .ok (.invokestatic 117, 3) := dk_184 0 117 (dk_at dksX1_writer_0 4 rfl rfl)
theorem dX1_writer_7 : decode cX1_writer 7 = .ok (.invokestatic 133, 3) := dk_184 0 133 (dk_at dksX1_writer_0 7 rfl rfl)
theorem dX1_writer_10 : decode cX1_writer 10 = .ok (.iload_n 2, 1) := dk_28 (dk_at dksX1_writer_0 10 rfl rfl)
theorem dX1_writer_11 : decode cX1_writer 11 = .ok (.iconst 0, 1) := dk_3 (dk_at dksX1_writer_0 11 rfl rfl)
theorem dX1_writer_12 : decode cX1_writer 12 = .ok (.iconst 5, 1) := dk_8 (dk_at dksX1_writer_0 12 rfl rfl)
theorem dX1_writer_13 : decode cX1_writer 13 = .ok (.invokestatic 117, 3) := dk_184 0 117 (dk_at dksX1_writer_0 13 rfl rfl)
theorem dX1_writer_16 : decode cX1_writer 16 = .ok (.invokestatic 121, 3) := dk_184 0 121 (dk_at dksX1_writer_0 16 rfl rfl)
theorem dX1_writer_19 : decode cX1_writer 19 = .ok (.bipush 6, 2) := dk_16 6 (dk_at dksX1_writer_0 19 rfl rfl)
theorem dX1_writer_21 : decode cX1_writer 21 = .ok (.anewarray 323, 3) := dk_189 1 67 (dk_at dksX1_writer_0 21 rfl rfl)
theorem dX1_writer_24 : decode cX1_writer 24 = .ok (.astore_n 3, 1) := dk_78 (dk_at dksX1_writer_1 0 rfl rfl)
theorem dX1_writer_25 : decode cX1_writer 25 = .ok (.aload_n 3, 1) := dk_45 (dk_at dksX1_writer_1 1 rfl rfl)
theorem dX1_writer_26 : decode cX1_writer 26 = .ok (.iconst 0, 1) := dk_3 (dk_at dksX1_writer_1 2 rfl rfl)
theorem dX1_writer_27 : decode cX1_writer 27 = .ok (.invokedynamic 331, 5) := by decide +kernel
theorem dX1_writer_32 : decode cX1_writer 32 = .ok (.aastore, 1) := dk_83 (dk_at dksX1_writer_1 8 rfl rfl)
theorem dX1_writer_33 : decode cX1_writer 33 = .ok (.aload_n 3, 1) := dk_45 (dk_at dksX1_writer_1 9 rfl rfl)
theorem dX1_writer_34 : decode cX1_writer 34 = .ok (.iconst 1, 1) := dk_4 (dk_at dksX1_writer_1 10 rfl rfl)
theorem dX1_writer_35 : decode cX1_writer 35 = .ok (.invokedynamic 334, 5) := by decide +kernel
theorem dX1_writer_40 : decode cX1_writer 40 = .ok (.aastore, 1) := dk_83 (dk_at dksX1_writer_1 16 rfl rfl)
theorem dX1_writer_41 : decode cX1_writer 41 = .ok (.aload_n 3, 1) := dk_45 (dk_at dksX1_writer_1 17 rfl rfl)
theorem dX1_writer_42 : decode cX1_writer 42 = .ok (.iconst 2, 1) := dk_5 (dk_at dksX1_writer_1 18 rfl rfl)
theorem dX1_writer_43 : decode cX1_writer 43 = .ok (.invokedynamic 335, 5) := by decide +kernel
theorem dX1_writer_48 : decode cX1_writer 48 = .ok (.aastore, 1) := dk_83 (dk_at dksX1_writer_2 0 rfl rfl)
theorem dX1_writer_49 : decode cX1_writer 49 = .ok (.aload_n 3, 1) := dk_45 (dk_at dksX1_writer_2 1 rfl rfl)
theorem dX1_writer_50 : decode cX1_writer 50 = .ok (.iconst 3, 1) := dk_6 (dk_at dksX1_writer_2 2 rfl rfl)
theorem dX1_writer_51 : decode cX1_writer 51 = .ok (.iload_n 1, 1) := dk_27 (dk_at dksX1_writer_2 3 rfl rfl)
theorem dX1_writer_52 : decode cX1_writer 52 = .ok (.invokedynamic 336, 5) := by decide +kernel
theorem dX1_writer_57 : decode cX1_writer 57 = .ok (.aastore, 1) := dk_83 (dk_at dksX1_writer_2 9 rfl rfl)
theorem dX1_writer_58 : decode cX1_writer 58 = .ok (.aload_n 3, 1) := dk_45 (dk_at dksX1_writer_2 10 rfl rfl)
theorem dX1_writer_59 : decode cX1_writer 59 = .ok (.iconst 4, 1) := dk_7 (dk_at dksX1_writer_2 11 rfl rfl)
theorem dX1_writer_60 : decode cX1_writer 60 = .ok (.invokedynamic 339, 5) := by decide +kernel
theorem dX1_writer_65 : decode cX1_writer 65 = .ok (.aastore, 1) := dk_83 (dk_at dksX1_writer_2 17 rfl rfl)
theorem dX1_writer_66 : decode cX1_writer 66 = .ok (.aload_n 3, 1) := dk_45 (dk_at dksX1_writer_2 18 rfl rfl)
theorem dX1_writer_67 : decode cX1_writer 67 = .ok (.iconst 5, 1) := dk_8 (dk_at dksX1_writer_2 19 rfl rfl)
theorem dX1_writer_68 : decode cX1_writer 68 = .ok (.invokedynamic 340, 5) := by decide +kernel
theorem dX1_writer_73 : decode cX1_writer 73 = .ok (.aastore, 1) := dk_83 (dk_at dksX1_writer_3 5 rfl rfl)
theorem dX1_writer_74 : decode cX1_writer 74 = .ok (.aload_n 3, 1) := dk_45 (dk_at dksX1_writer_3 6 rfl rfl)
theorem dX1_writer_75 : decode cX1_writer 75 = .ok (.iload_n 2, 1) := dk_28 (dk_at dksX1_writer_3 7 rfl rfl)
theorem dX1_writer_76 : decode cX1_writer 76 = .ok (.aaload, 1) := dk_50 (dk_at dksX1_writer_3 8 rfl rfl)
theorem dX1_writer_77 : decode cX1_writer 77 = .ok (.astore 4, 2) := dk_58 4 (dk_at dksX1_writer_3 9 rfl rfl)
theorem dX1_writer_79 : decode cX1_writer 79 = .ok (.iload_n 2, 1) := dk_28 (dk_at dksX1_writer_3 11 rfl rfl)
theorem dX1_writer_80 : decode cX1_writer 80 = .ok (.iconst 3, 1) := dk_6 (dk_at dksX1_writer_3 12 rfl rfl)
theorem dX1_writer_81 : decode cX1_writer 81 = .ok (.if_icmp .ne 12, 3) := dk_160 0 12 (dk_at dksX1_writer_3 13 rfl rfl)
theorem dX1_writer_84 : decode cX1_writer 84 = .ok (.aload_n 0, 1) := dk_42 (dk_at dksX1_writer_3 16 rfl rfl)
theorem dX1_writer_85 : decode cX1_writer 85 = .ok (.aload 4, 2) := dk_25 4 (dk_at dksX1_writer_3 17 rfl rfl)
theorem dX1_writer_87 : decode cX1_writer 87 = .ok (.invokevirtual 341, 3) := dk_182 1 85 (dk_at dksX1_writer_3 19 rfl rfl)
theorem dX1_writer_90 : decode cX1_writer 90 = .ok (.goto 15, 3) := dk_167 0 15 (dk_at dksX1_writer_4 0 rfl rfl)
theorem dX1_writer_93 : decode cX1_writer 93 = .ok (.aload_n 0, 1) := dk_42 (dk_at dksX1_writer_4 3 rfl rfl)
theorem dX1_writer_94 : decode cX1_writer 94 = .ok (.iload_n 1, 1) := dk_27 (dk_at dksX1_writer_4 4 rfl rfl)
theorem dX1_writer_95 : decode cX1_writer 95 = .ok (.aload 4, 2) := dk_25 4 (dk_at dksX1_writer_4 5 rfl rfl)
theorem dX1_writer_97 : decode cX1_writer 97 = .ok (.invokedynamic 345, 5) := by decide +kernel
theorem dX1_writer_102 : decode cX1_writer 102 = .ok (.invokevirtual 348, 3) := dk_182 1 92 (dk_at dksX1_writer_4 12 rfl rfl)
theorem dX1_writer_105 : decode cX1_writer 105 = .ok (.ireturn, 1) := dk_172 (dk_at dksX1_writer_4 15 rfl rfl)
abbrev cX1_lambda_writer_0 : ByteArray := prog_1_method_76_code
def yX1_lambda_writer_0 : MethodName := ⟨RX1, "lambda$writer$0", "(LFlashZones$Unit;)I"⟩
theorem dX1_lambda_writer_0_0 : decode cX1_lambda_writer_0 0 = .ok (.iconst 1, 1) := by decide +kernel
theorem dX1_lambda_writer_0_1 : decode cX1_lambda_writer_0 1 = .ok (.ireturn, 1) := by decide +kernel
abbrev cX1_lambda_writer_1 : ByteArray := prog_1_method_75_code
def yX1_lambda_writer_1 : MethodName := ⟨RX1, "lambda$writer$1", "(LFlashZones$Unit;)I"⟩
def dkwX1_lambda_writer_1_0 : List UInt8 := [42, 182, 0, 145, 184, 1, 17, 172]
abbrev dktX1_lambda_writer_1_0 : List UInt8 := dkwX1_lambda_writer_1_0 ++ []
theorem dksX1_lambda_writer_1_0 : cX1_lambda_writer_1.data.toList.drop 0 = dktX1_lambda_writer_1_0 := by decide +kernel
theorem dX1_lambda_writer_1_0 : decode cX1_lambda_writer_1 0 = .ok (.aload_n 0, 1) := dk_42 (dk_at dksX1_lambda_writer_1_0 0 rfl rfl)
theorem dX1_lambda_writer_1_1 : decode cX1_lambda_writer_1 1 = .ok (.invokevirtual 145, 3) := dk_182 0 145 (dk_at dksX1_lambda_writer_1_0 1 rfl rfl)
theorem dX1_lambda_writer_1_4 : decode cX1_lambda_writer_1 4 = .ok (.invokestatic 273, 3) := dk_184 1 17 (dk_at dksX1_lambda_writer_1_0 4 rfl rfl)
theorem dX1_lambda_writer_1_7 : decode cX1_lambda_writer_1 7 = .ok (.ireturn, 1) := dk_172 (dk_at dksX1_lambda_writer_1_0 7 rfl rfl)
abbrev cX1_lambda_writer_2 : ByteArray := prog_1_method_74_code
def yX1_lambda_writer_2 : MethodName := ⟨RX1, "lambda$writer$2", "(LFlashZones$Unit;)I"⟩
def dkwX1_lambda_writer_2_0 : List UInt8 := [42, 182, 0, 145, 153, 0, 7, 3, 167, 0, 7, 42, 180, 0, 149, 172]
abbrev dktX1_lambda_writer_2_0 : List UInt8 := dkwX1_lambda_writer_2_0 ++ []
theorem dksX1_lambda_writer_2_0 : cX1_lambda_writer_2.data.toList.drop 0 = dktX1_lambda_writer_2_0 := by decide +kernel
theorem dX1_lambda_writer_2_0 : decode cX1_lambda_writer_2 0 = .ok (.aload_n 0, 1) := dk_42 (dk_at dksX1_lambda_writer_2_0 0 rfl rfl)
theorem dX1_lambda_writer_2_1 : decode cX1_lambda_writer_2 1 = .ok (.invokevirtual 145, 3) := dk_182 0 145 (dk_at dksX1_lambda_writer_2_0 1 rfl rfl)
theorem dX1_lambda_writer_2_4 : decode cX1_lambda_writer_2 4 = .ok (.ifCond .eq 7, 3) := dk_153 0 7 (dk_at dksX1_lambda_writer_2_0 4 rfl rfl)
theorem dX1_lambda_writer_2_7 : decode cX1_lambda_writer_2 7 = .ok (.iconst 0, 1) := dk_3 (dk_at dksX1_lambda_writer_2_0 7 rfl rfl)
theorem dX1_lambda_writer_2_8 : decode cX1_lambda_writer_2 8 = .ok (.goto 7, 3) := dk_167 0 7 (dk_at dksX1_lambda_writer_2_0 8 rfl rfl)
theorem dX1_lambda_writer_2_11 : decode cX1_lambda_writer_2 11 = .ok (.aload_n 0, 1) := dk_42 (dk_at dksX1_lambda_writer_2_0 11 rfl rfl)
theorem dX1_lambda_writer_2_12 : decode cX1_lambda_writer_2 12 = .ok (.getfield 149, 3) := dk_180 0 149 (dk_at dksX1_lambda_writer_2_0 12 rfl rfl)
theorem dX1_lambda_writer_2_15 : decode cX1_lambda_writer_2 15 = .ok (.ireturn, 1) := dk_172 (dk_at dksX1_lambda_writer_2_0 15 rfl rfl)
abbrev cX1_lambda_writer_3 : ByteArray := prog_1_method_73_code
def yX1_lambda_writer_3 : MethodName := ⟨RX1, "lambda$writer$3", "(ILFlashZones$Unit;)I"⟩
def dkwX1_lambda_writer_3_0 : List UInt8 := [43, 180, 1, 23, 26, 160, 0, 17, 43, 182, 0, 145, 154, 0, 10, 43, 180, 0, 149, 167, 0, 4, 2, 172]
abbrev dktX1_lambda_writer_3_0 : List UInt8 := dkwX1_lambda_writer_3_0 ++ []
theorem dksX1_lambda_writer_3_0 : cX1_lambda_writer_3.data.toList.drop 0 = dktX1_lambda_writer_3_0 := by decide +kernel
theorem dX1_lambda_writer_3_0 : decode cX1_lambda_writer_3 0 = .ok (.aload_n 1, 1) := dk_43 (dk_at dksX1_lambda_writer_3_0 0 rfl rfl)
theorem dX1_lambda_writer_3_1 : decode cX1_lambda_writer_3 1 = .ok (.getfield 279, 3) := dk_180 1 23 (dk_at dksX1_lambda_writer_3_0 1 rfl rfl)
theorem dX1_lambda_writer_3_4 : decode cX1_lambda_writer_3 4 = .ok (.iload_n 0, 1) := dk_26 (dk_at dksX1_lambda_writer_3_0 4 rfl rfl)
theorem dX1_lambda_writer_3_5 : decode cX1_lambda_writer_3 5 = .ok (.if_icmp .ne 17, 3) := dk_160 0 17 (dk_at dksX1_lambda_writer_3_0 5 rfl rfl)
theorem dX1_lambda_writer_3_8 : decode cX1_lambda_writer_3 8 = .ok (.aload_n 1, 1) := dk_43 (dk_at dksX1_lambda_writer_3_0 8 rfl rfl)
theorem dX1_lambda_writer_3_9 : decode cX1_lambda_writer_3 9 = .ok (.invokevirtual 145, 3) := dk_182 0 145 (dk_at dksX1_lambda_writer_3_0 9 rfl rfl)
theorem dX1_lambda_writer_3_12 : decode cX1_lambda_writer_3 12 = .ok (.ifCond .ne 10, 3) := dk_154 0 10 (dk_at dksX1_lambda_writer_3_0 12 rfl rfl)
theorem dX1_lambda_writer_3_15 : decode cX1_lambda_writer_3 15 = .ok (.aload_n 1, 1) := dk_43 (dk_at dksX1_lambda_writer_3_0 15 rfl rfl)
theorem dX1_lambda_writer_3_16 : decode cX1_lambda_writer_3 16 = .ok (.getfield 149, 3) := dk_180 0 149 (dk_at dksX1_lambda_writer_3_0 16 rfl rfl)
theorem dX1_lambda_writer_3_19 : decode cX1_lambda_writer_3 19 = .ok (.goto 4, 3) := dk_167 0 4 (dk_at dksX1_lambda_writer_3_0 19 rfl rfl)
theorem dX1_lambda_writer_3_22 : decode cX1_lambda_writer_3 22 = .ok (.iconst (-1), 1) := dk_2 (dk_at dksX1_lambda_writer_3_0 22 rfl rfl)
theorem dX1_lambda_writer_3_23 : decode cX1_lambda_writer_3 23 = .ok (.ireturn, 1) := dk_172 (dk_at dksX1_lambda_writer_3_0 23 rfl rfl)
abbrev cX1_lambda_writer_4 : ByteArray := prog_1_method_72_code
def yX1_lambda_writer_4 : MethodName := ⟨RX1, "lambda$writer$4", "(LFlashZones$Unit;)I"⟩
def dkwX1_lambda_writer_4_0 : List UInt8 := [42, 182, 0, 145, 153, 0, 7, 3, 167, 0, 11, 42, 42, 180, 1, 32, 184, 1, 185, 172]
abbrev dktX1_lambda_writer_4_0 : List UInt8 := dkwX1_lambda_writer_4_0 ++ []
theorem dksX1_lambda_writer_4_0 : cX1_lambda_writer_4.data.toList.drop 0 = dktX1_lambda_writer_4_0 := by decide +kernel
theorem dX1_lambda_writer_4_0 : decode cX1_lambda_writer_4 0 = .ok (.aload_n 0, 1) := dk_42 (dk_at dksX1_lambda_writer_4_0 0 rfl rfl)
theorem dX1_lambda_writer_4_1 : decode cX1_lambda_writer_4 1 = .ok (.invokevirtual 145, 3) := dk_182 0 145 (dk_at dksX1_lambda_writer_4_0 1 rfl rfl)
theorem dX1_lambda_writer_4_4 : decode cX1_lambda_writer_4 4 = .ok (.ifCond .eq 7, 3) := dk_153 0 7 (dk_at dksX1_lambda_writer_4_0 4 rfl rfl)
theorem dX1_lambda_writer_4_7 : decode cX1_lambda_writer_4 7 = .ok (.iconst 0, 1) := dk_3 (dk_at dksX1_lambda_writer_4_0 7 rfl rfl)
theorem dX1_lambda_writer_4_8 : decode cX1_lambda_writer_4 8 = .ok (.goto 11, 3) := dk_167 0 11 (dk_at dksX1_lambda_writer_4_0 8 rfl rfl)
theorem dX1_lambda_writer_4_11 : decode cX1_lambda_writer_4 11 = .ok (.aload_n 0, 1) := dk_42 (dk_at dksX1_lambda_writer_4_0 11 rfl rfl)
theorem dX1_lambda_writer_4_12 : decode cX1_lambda_writer_4 12 = .ok (.aload_n 0, 1) := dk_42 (dk_at dksX1_lambda_writer_4_0 12 rfl rfl)
theorem dX1_lambda_writer_4_13 : decode cX1_lambda_writer_4 13 = .ok (.getfield 288, 3) := dk_180 1 32 (dk_at dksX1_lambda_writer_4_0 13 rfl rfl)
theorem dX1_lambda_writer_4_16 : decode cX1_lambda_writer_4 16 = .ok (.invokestatic 441, 3) := dk_184 1 185 (dk_at dksX1_lambda_writer_4_0 16 rfl rfl)
theorem dX1_lambda_writer_4_19 : decode cX1_lambda_writer_4 19 = .ok (.ireturn, 1) := dk_172 (dk_at dksX1_lambda_writer_4_0 19 rfl rfl)
abbrev cX1_lambda_writer_5 : ByteArray := prog_1_method_71_code
def yX1_lambda_writer_5 : MethodName := ⟨RX1, "lambda$writer$5", "(LFlashZones$Unit;)I"⟩
theorem dX1_lambda_writer_5_0 : decode cX1_lambda_writer_5 0 = .ok (.aload_n 0, 1) := by decide +kernel
theorem dX1_lambda_writer_5_1 : decode cX1_lambda_writer_5 1 = .ok (.getfield 290, 3) := by decide +kernel
theorem dX1_lambda_writer_5_4 : decode cX1_lambda_writer_5 4 = .ok (.ireturn, 1) := by decide +kernel
abbrev cX1_greatest : ByteArray := prog_1_method_41_code
def yX1_greatest : MethodName := ⟨RX1, "greatest", "(LFlashZones$Asked;)I"⟩
def dkwX1_greatest_2 : List UInt8 := [167, 255, 223, 28, 172]
abbrev dktX1_greatest_2 : List UInt8 := dkwX1_greatest_2 ++ []
def dkwX1_greatest_1 : List UInt8 := [45, 185, 0, 248, 1, 0, 192, 0, 143, 58, 4, 28, 43, 25, 4, 185, 1, 66, 2, 0, 184, 1, 72, 61]
abbrev dktX1_greatest_1 : List UInt8 := dkwX1_greatest_1 ++ dktX1_greatest_2
def dkwX1_greatest_0 : List UInt8 := [2, 61, 42, 182, 0, 92, 180, 0, 95, 185, 0, 239, 1, 0, 78, 45, 185, 0, 243, 1, 0, 153, 0, 30]
abbrev dktX1_greatest_0 : List UInt8 := dkwX1_greatest_0 ++ dktX1_greatest_1
theorem dksX1_greatest_0 : cX1_greatest.data.toList.drop 0 = dktX1_greatest_0 := by decide +kernel
theorem dksX1_greatest_1 : cX1_greatest.data.toList.drop 24 = dktX1_greatest_1 := dk_seg dksX1_greatest_0 24 rfl rfl
theorem dksX1_greatest_2 : cX1_greatest.data.toList.drop 48 = dktX1_greatest_2 := dk_seg dksX1_greatest_1 24 rfl rfl
theorem dX1_greatest_0 : decode cX1_greatest 0 = .ok (.iconst (-1), 1) := dk_2 (dk_at dksX1_greatest_0 0 rfl rfl)
theorem dX1_greatest_1 : decode cX1_greatest 1 = .ok (.istore_n 2, 1) := dk_61 (dk_at dksX1_greatest_0 1 rfl rfl)
theorem dX1_greatest_2 : decode cX1_greatest 2 = .ok (.aload_n 0, 1) := dk_42 (dk_at dksX1_greatest_0 2 rfl rfl)
theorem dX1_greatest_3 : decode cX1_greatest 3 = .ok (.invokevirtual 92, 3) := dk_182 0 92 (dk_at dksX1_greatest_0 3 rfl rfl)
theorem dX1_greatest_6 : decode cX1_greatest 6 = .ok (.getfield 95, 3) := dk_180 0 95 (dk_at dksX1_greatest_0 6 rfl rfl)
theorem dX1_greatest_9 : decode cX1_greatest 9 = .ok (.invokeinterface 239 1, 5) := by decide +kernel
theorem dX1_greatest_14 : decode cX1_greatest 14 = .ok (.astore_n 3, 1) := dk_78 (dk_at dksX1_greatest_0 14 rfl rfl)
theorem dX1_greatest_15 : decode cX1_greatest 15 = .ok (.aload_n 3, 1) := dk_45 (dk_at dksX1_greatest_0 15 rfl rfl)
theorem dX1_greatest_16 : decode cX1_greatest 16 = .ok (.invokeinterface 243 1, 5) := by decide +kernel
theorem dX1_greatest_21 : decode cX1_greatest 21 = .ok (.ifCond .eq 30, 3) := dk_153 0 30 (dk_at dksX1_greatest_0 21 rfl rfl)
theorem dX1_greatest_24 : decode cX1_greatest 24 = .ok (.aload_n 3, 1) := dk_45 (dk_at dksX1_greatest_1 0 rfl rfl)
theorem dX1_greatest_25 : decode cX1_greatest 25 = .ok (.invokeinterface 248 1, 5) := by decide +kernel
theorem dX1_greatest_30 : decode cX1_greatest 30 = .ok (.checkcast 143, 3) := dk_192 0 143 (dk_at dksX1_greatest_1 6 rfl rfl)
theorem dX1_greatest_33 : decode cX1_greatest 33 = .ok (.astore 4, 2) := dk_58 4 (dk_at dksX1_greatest_1 9 rfl rfl)
theorem dX1_greatest_35 : decode cX1_greatest 35 = .ok (.iload_n 2, 1) := dk_28 (dk_at dksX1_greatest_1 11 rfl rfl)
theorem dX1_greatest_36 : decode cX1_greatest 36 = .ok (.aload_n 1, 1) := dk_43 (dk_at dksX1_greatest_1 12 rfl rfl)
theorem dX1_greatest_37 : decode cX1_greatest 37 = .ok (.aload 4, 2) := dk_25 4 (dk_at dksX1_greatest_1 13 rfl rfl)
theorem dX1_greatest_39 : decode cX1_greatest 39 = .ok (.invokeinterface 322 2, 5) := by decide +kernel
theorem dX1_greatest_44 : decode cX1_greatest 44 = .ok (.invokestatic 328, 3) := dk_184 1 72 (dk_at dksX1_greatest_1 20 rfl rfl)
theorem dX1_greatest_47 : decode cX1_greatest 47 = .ok (.istore_n 2, 1) := dk_61 (dk_at dksX1_greatest_1 23 rfl rfl)
theorem dX1_greatest_48 : decode cX1_greatest 48 = .ok (.goto (-33), 3) := dk_167 255 223 (dk_at dksX1_greatest_2 0 rfl rfl)
theorem dX1_greatest_51 : decode cX1_greatest 51 = .ok (.iload_n 2, 1) := dk_28 (dk_at dksX1_greatest_2 3 rfl rfl)
theorem dX1_greatest_52 : decode cX1_greatest 52 = .ok (.ireturn, 1) := dk_172 (dk_at dksX1_greatest_2 4 rfl rfl)
abbrev cX1_lambda_writer_6 : ByteArray := prog_1_method_70_code
def yX1_lambda_writer_6 : MethodName := ⟨RX1, "lambda$writer$6", "(ILFlashZones$Asked;LFlashZones$Unit;)I"⟩
def dkwX1_lambda_writer_6_0 : List UInt8 := [44, 180, 1, 23, 26, 160, 0, 13, 43, 44, 185, 1, 66, 2, 0, 167, 0, 4, 3, 172]
abbrev dktX1_lambda_writer_6_0 : List UInt8 := dkwX1_lambda_writer_6_0 ++ []
theorem dksX1_lambda_writer_6_0 : cX1_lambda_writer_6.data.toList.drop 0 = dktX1_lambda_writer_6_0 := by decide +kernel
theorem dX1_lambda_writer_6_0 : decode cX1_lambda_writer_6 0 = .ok (.aload_n 2, 1) := dk_44 (dk_at dksX1_lambda_writer_6_0 0 rfl rfl)
theorem dX1_lambda_writer_6_1 : decode cX1_lambda_writer_6 1 = .ok (.getfield 279, 3) := dk_180 1 23 (dk_at dksX1_lambda_writer_6_0 1 rfl rfl)
theorem dX1_lambda_writer_6_4 : decode cX1_lambda_writer_6 4 = .ok (.iload_n 0, 1) := dk_26 (dk_at dksX1_lambda_writer_6_0 4 rfl rfl)
theorem dX1_lambda_writer_6_5 : decode cX1_lambda_writer_6 5 = .ok (.if_icmp .ne 13, 3) := dk_160 0 13 (dk_at dksX1_lambda_writer_6_0 5 rfl rfl)
theorem dX1_lambda_writer_6_8 : decode cX1_lambda_writer_6 8 = .ok (.aload_n 1, 1) := dk_43 (dk_at dksX1_lambda_writer_6_0 8 rfl rfl)
theorem dX1_lambda_writer_6_9 : decode cX1_lambda_writer_6 9 = .ok (.aload_n 2, 1) := dk_44 (dk_at dksX1_lambda_writer_6_0 9 rfl rfl)
theorem dX1_lambda_writer_6_10 : decode cX1_lambda_writer_6 10 = .ok (.invokeinterface 322 2, 5) := by decide +kernel
theorem dX1_lambda_writer_6_15 : decode cX1_lambda_writer_6 15 = .ok (.goto 4, 3) := dk_167 0 4 (dk_at dksX1_lambda_writer_6_0 15 rfl rfl)
theorem dX1_lambda_writer_6_18 : decode cX1_lambda_writer_6 18 = .ok (.iconst 0, 1) := dk_3 (dk_at dksX1_lambda_writer_6_0 18 rfl rfl)
theorem dX1_lambda_writer_6_19 : decode cX1_lambda_writer_6 19 = .ok (.ireturn, 1) := dk_172 (dk_at dksX1_lambda_writer_6_0 19 rfl rfl)
abbrev cX1_sum : ByteArray := prog_1_method_40_code
def yX1_sum : MethodName := ⟨RX1, "sum", "(LFlashZones$Asked;)I"⟩
def dkwX1_sum_2 : List UInt8 := [167, 255, 225, 28, 172]
abbrev dktX1_sum_2 : List UInt8 := dkwX1_sum_2 ++ []
def dkwX1_sum_1 : List UInt8 := [45, 185, 0, 248, 1, 0, 192, 0, 143, 58, 4, 28, 43, 25, 4, 185, 1, 66, 2, 0, 96, 61]
abbrev dktX1_sum_1 : List UInt8 := dkwX1_sum_1 ++ dktX1_sum_2
def dkwX1_sum_0 : List UInt8 := [3, 61, 42, 182, 0, 92, 180, 0, 95, 185, 0, 239, 1, 0, 78, 45, 185, 0, 243, 1, 0, 153, 0, 28]
abbrev dktX1_sum_0 : List UInt8 := dkwX1_sum_0 ++ dktX1_sum_1
theorem dksX1_sum_0 : cX1_sum.data.toList.drop 0 = dktX1_sum_0 := by decide +kernel
theorem dksX1_sum_1 : cX1_sum.data.toList.drop 24 = dktX1_sum_1 := dk_seg dksX1_sum_0 24 rfl rfl
theorem dksX1_sum_2 : cX1_sum.data.toList.drop 46 = dktX1_sum_2 := dk_seg dksX1_sum_1 22 rfl rfl
theorem dX1_sum_0 : decode cX1_sum 0 = .ok (.iconst 0, 1) := dk_3 (dk_at dksX1_sum_0 0 rfl rfl)
theorem dX1_sum_1 : decode cX1_sum 1 = .ok (.istore_n 2, 1) := dk_61 (dk_at dksX1_sum_0 1 rfl rfl)
theorem dX1_sum_2 : decode cX1_sum 2 = .ok (.aload_n 0, 1) := dk_42 (dk_at dksX1_sum_0 2 rfl rfl)
theorem dX1_sum_3 : decode cX1_sum 3 = .ok (.invokevirtual 92, 3) := dk_182 0 92 (dk_at dksX1_sum_0 3 rfl rfl)
theorem dX1_sum_6 : decode cX1_sum 6 = .ok (.getfield 95, 3) := dk_180 0 95 (dk_at dksX1_sum_0 6 rfl rfl)
theorem dX1_sum_9 : decode cX1_sum 9 = .ok (.invokeinterface 239 1, 5) := by decide +kernel
theorem dX1_sum_14 : decode cX1_sum 14 = .ok (.astore_n 3, 1) := dk_78 (dk_at dksX1_sum_0 14 rfl rfl)
theorem dX1_sum_15 : decode cX1_sum 15 = .ok (.aload_n 3, 1) := dk_45 (dk_at dksX1_sum_0 15 rfl rfl)
theorem dX1_sum_16 : decode cX1_sum 16 = .ok (.invokeinterface 243 1, 5) := by decide +kernel
theorem dX1_sum_21 : decode cX1_sum 21 = .ok (.ifCond .eq 28, 3) := dk_153 0 28 (dk_at dksX1_sum_0 21 rfl rfl)
theorem dX1_sum_24 : decode cX1_sum 24 = .ok (.aload_n 3, 1) := dk_45 (dk_at dksX1_sum_1 0 rfl rfl)
theorem dX1_sum_25 : decode cX1_sum 25 = .ok (.invokeinterface 248 1, 5) := by decide +kernel
theorem dX1_sum_30 : decode cX1_sum 30 = .ok (.checkcast 143, 3) := dk_192 0 143 (dk_at dksX1_sum_1 6 rfl rfl)
theorem dX1_sum_33 : decode cX1_sum 33 = .ok (.astore 4, 2) := dk_58 4 (dk_at dksX1_sum_1 9 rfl rfl)
theorem dX1_sum_35 : decode cX1_sum 35 = .ok (.iload_n 2, 1) := dk_28 (dk_at dksX1_sum_1 11 rfl rfl)
theorem dX1_sum_36 : decode cX1_sum 36 = .ok (.aload_n 1, 1) := dk_43 (dk_at dksX1_sum_1 12 rfl rfl)
theorem dX1_sum_37 : decode cX1_sum 37 = .ok (.aload 4, 2) := dk_25 4 (dk_at dksX1_sum_1 13 rfl rfl)
theorem dX1_sum_39 : decode cX1_sum 39 = .ok (.invokeinterface 322 2, 5) := by decide +kernel
theorem dX1_sum_44 : decode cX1_sum 44 = .ok (.iadd, 1) := dk_96 (dk_at dksX1_sum_1 20 rfl rfl)
theorem dX1_sum_45 : decode cX1_sum 45 = .ok (.istore_n 2, 1) := dk_61 (dk_at dksX1_sum_1 21 rfl rfl)
theorem dX1_sum_46 : decode cX1_sum 46 = .ok (.goto (-31), 3) := dk_167 255 225 (dk_at dksX1_sum_2 0 rfl rfl)
theorem dX1_sum_49 : decode cX1_sum 49 = .ok (.iload_n 2, 1) := dk_28 (dk_at dksX1_sum_2 3 rfl rfl)
theorem dX1_sum_50 : decode cX1_sum 50 = .ok (.ireturn, 1) := dk_172 (dk_at dksX1_sum_2 4 rfl rfl)
abbrev cX1_late : ByteArray := prog_1_method_43_code
def yX1_late : MethodName := ⟨RX1, "late", "(I)I"⟩
def dkwX1_late_3 : List UInt8 := [154, 0, 6, 167, 255, 211, 28, 154, 0, 9, 25, 4, 180, 1, 0, 172, 132, 2, 255, 167, 255, 195, 2, 172]
abbrev dktX1_late_3 : List UInt8 := dkwX1_late_3 ++ []
def dkwX1_late_2 : List UInt8 := [58, 4, 25, 4, 180, 0, 251, 2, 159, 255, 230, 42, 182, 0, 92, 25, 4, 180, 0, 251, 3, 182, 1, 13]
abbrev dktX1_late_2 : List UInt8 := dkwX1_late_2 ++ dktX1_late_3
def dkwX1_late_1 : List UInt8 := [185, 0, 239, 1, 0, 78, 45, 185, 0, 243, 1, 0, 153, 0, 58, 45, 185, 0, 248, 1, 0, 192, 0, 143]
abbrev dktX1_late_1 : List UInt8 := dkwX1_late_1 ++ dktX1_late_2
def dkwX1_late_0 : List UInt8 := [27, 155, 0, 7, 4, 167, 0, 4, 3, 184, 0, 133, 27, 61, 42, 182, 0, 92, 180, 0, 95]
abbrev dktX1_late_0 : List UInt8 := dkwX1_late_0 ++ dktX1_late_1
theorem dksX1_late_0 : cX1_late.data.toList.drop 0 = dktX1_late_0 := by decide +kernel
theorem dksX1_late_1 : cX1_late.data.toList.drop 21 = dktX1_late_1 := dk_seg dksX1_late_0 21 rfl rfl
theorem dksX1_late_2 : cX1_late.data.toList.drop 45 = dktX1_late_2 := dk_seg dksX1_late_1 24 rfl rfl
theorem dksX1_late_3 : cX1_late.data.toList.drop 69 = dktX1_late_3 := dk_seg dksX1_late_2 24 rfl rfl
theorem dX1_late_0 : decode cX1_late 0 = .ok (.iload_n 1, 1) := dk_27 (dk_at dksX1_late_0 0 rfl rfl)
theorem dX1_late_1 : decode cX1_late 1 = .ok (.ifCond .lt 7, 3) := dk_155 0 7 (dk_at dksX1_late_0 1 rfl rfl)
theorem dX1_late_4 : decode cX1_late 4 = .ok (.iconst 1, 1) := dk_4 (dk_at dksX1_late_0 4 rfl rfl)
theorem dX1_late_5 : decode cX1_late 5 = .ok (.goto 4, 3) := dk_167 0 4 (dk_at dksX1_late_0 5 rfl rfl)
theorem dX1_late_8 : decode cX1_late 8 = .ok (.iconst 0, 1) := dk_3 (dk_at dksX1_late_0 8 rfl rfl)
theorem dX1_late_9 : decode cX1_late 9 = .ok (.invokestatic 133, 3) := dk_184 0 133 (dk_at dksX1_late_0 9 rfl rfl)
theorem dX1_late_12 : decode cX1_late 12 = .ok (.iload_n 1, 1) := dk_27 (dk_at dksX1_late_0 12 rfl rfl)
theorem dX1_late_13 : decode cX1_late 13 = .ok (.istore_n 2, 1) := dk_61 (dk_at dksX1_late_0 13 rfl rfl)
theorem dX1_late_14 : decode cX1_late 14 = .ok (.aload_n 0, 1) := dk_42 (dk_at dksX1_late_0 14 rfl rfl)
theorem dX1_late_15 : decode cX1_late 15 = .ok (.invokevirtual 92, 3) := dk_182 0 92 (dk_at dksX1_late_0 15 rfl rfl)
theorem dX1_late_18 : decode cX1_late 18 = .ok (.getfield 95, 3) := dk_180 0 95 (dk_at dksX1_late_0 18 rfl rfl)
theorem dX1_late_21 : decode cX1_late 21 = .ok (.invokeinterface 239 1, 5) := by decide +kernel
theorem dX1_late_26 : decode cX1_late 26 = .ok (.astore_n 3, 1) := dk_78 (dk_at dksX1_late_1 5 rfl rfl)
theorem dX1_late_27 : decode cX1_late 27 = .ok (.aload_n 3, 1) := dk_45 (dk_at dksX1_late_1 6 rfl rfl)
theorem dX1_late_28 : decode cX1_late 28 = .ok (.invokeinterface 243 1, 5) := by decide +kernel
theorem dX1_late_33 : decode cX1_late 33 = .ok (.ifCond .eq 58, 3) := dk_153 0 58 (dk_at dksX1_late_1 12 rfl rfl)
theorem dX1_late_36 : decode cX1_late 36 = .ok (.aload_n 3, 1) := dk_45 (dk_at dksX1_late_1 15 rfl rfl)
theorem dX1_late_37 : decode cX1_late 37 = .ok (.invokeinterface 248 1, 5) := by decide +kernel
theorem dX1_late_42 : decode cX1_late 42 = .ok (.checkcast 143, 3) := dk_192 0 143 (dk_at dksX1_late_1 21 rfl rfl)
theorem dX1_late_45 : decode cX1_late 45 = .ok (.astore 4, 2) := dk_58 4 (dk_at dksX1_late_2 0 rfl rfl)
theorem dX1_late_47 : decode cX1_late 47 = .ok (.aload 4, 2) := dk_25 4 (dk_at dksX1_late_2 2 rfl rfl)
theorem dX1_late_49 : decode cX1_late 49 = .ok (.getfield 251, 3) := dk_180 0 251 (dk_at dksX1_late_2 4 rfl rfl)
theorem dX1_late_52 : decode cX1_late 52 = .ok (.iconst (-1), 1) := dk_2 (dk_at dksX1_late_2 7 rfl rfl)
theorem dX1_late_53 : decode cX1_late 53 = .ok (.if_icmp .eq (-26), 3) := dk_159 255 230 (dk_at dksX1_late_2 8 rfl rfl)
theorem dX1_late_56 : decode cX1_late 56 = .ok (.aload_n 0, 1) := dk_42 (dk_at dksX1_late_2 11 rfl rfl)
theorem dX1_late_57 : decode cX1_late 57 = .ok (.invokevirtual 92, 3) := dk_182 0 92 (dk_at dksX1_late_2 12 rfl rfl)
theorem dX1_late_60 : decode cX1_late 60 = .ok (.aload 4, 2) := dk_25 4 (dk_at dksX1_late_2 15 rfl rfl)
theorem dX1_late_62 : decode cX1_late 62 = .ok (.getfield 251, 3) := dk_180 0 251 (dk_at dksX1_late_2 17 rfl rfl)
theorem dX1_late_65 : decode cX1_late 65 = .ok (.iconst 0, 1) := dk_3 (dk_at dksX1_late_2 20 rfl rfl)
theorem dX1_late_66 : decode cX1_late 66 = .ok (.invokevirtual 269, 3) := dk_182 1 13 (dk_at dksX1_late_2 21 rfl rfl)
theorem dX1_late_69 : decode cX1_late 69 = .ok (.ifCond .ne 6, 3) := dk_154 0 6 (dk_at dksX1_late_3 0 rfl rfl)
theorem dX1_late_72 : decode cX1_late 72 = .ok (.goto (-45), 3) := dk_167 255 211 (dk_at dksX1_late_3 3 rfl rfl)
theorem dX1_late_75 : decode cX1_late 75 = .ok (.iload_n 2, 1) := dk_28 (dk_at dksX1_late_3 6 rfl rfl)
theorem dX1_late_76 : decode cX1_late 76 = .ok (.ifCond .ne 9, 3) := dk_154 0 9 (dk_at dksX1_late_3 7 rfl rfl)
theorem dX1_late_79 : decode cX1_late 79 = .ok (.aload 4, 2) := dk_25 4 (dk_at dksX1_late_3 10 rfl rfl)
theorem dX1_late_81 : decode cX1_late 81 = .ok (.getfield 256, 3) := dk_180 1 0 (dk_at dksX1_late_3 12 rfl rfl)
theorem dX1_late_84 : decode cX1_late 84 = .ok (.ireturn, 1) := dk_172 (dk_at dksX1_late_3 15 rfl rfl)
theorem dX1_late_85 : decode cX1_late 85 = .ok (.iinc 2 (-1), 3) := dk_132 2 255 (dk_at dksX1_late_3 16 rfl rfl)
theorem dX1_late_88 : decode cX1_late 88 = .ok (.goto (-61), 3) := dk_167 255 195 (dk_at dksX1_late_3 19 rfl rfl)
theorem dX1_late_91 : decode cX1_late 91 = .ok (.iconst (-1), 1) := dk_2 (dk_at dksX1_late_3 22 rfl rfl)
theorem dX1_late_92 : decode cX1_late 92 = .ok (.ireturn, 1) := dk_172 (dk_at dksX1_late_3 23 rfl rfl)
abbrev cX1_inZone : ByteArray := prog_1_method_44_code
def yX1_inZone : MethodName := ⟨RX1, "inZone", "(II)I"⟩
def dkwX1_inZone_2 : List UInt8 := [185, 0, 139, 2, 0, 192, 0, 143, 180, 1, 0, 167, 0, 4, 2, 172]
abbrev dktX1_inZone_2 : List UInt8 := dkwX1_inZone_2 ++ []
def dkwX1_inZone_1 : List UInt8 := [180, 0, 205, 27, 50, 180, 0, 238, 78, 28, 45, 185, 0, 78, 1, 0, 162, 0, 19, 45, 28]
abbrev dktX1_inZone_1 : List UInt8 := dkwX1_inZone_1 ++ dktX1_inZone_2
def dkwX1_inZone_0 : List UInt8 := [42, 27, 182, 0, 136, 153, 0, 11, 28, 155, 0, 7, 4, 167, 0, 4, 3, 184, 0, 133, 42, 182, 0, 92]
abbrev dktX1_inZone_0 : List UInt8 := dkwX1_inZone_0 ++ dktX1_inZone_1
theorem dksX1_inZone_0 : cX1_inZone.data.toList.drop 0 = dktX1_inZone_0 := by decide +kernel
theorem dksX1_inZone_1 : cX1_inZone.data.toList.drop 24 = dktX1_inZone_1 := dk_seg dksX1_inZone_0 24 rfl rfl
theorem dksX1_inZone_2 : cX1_inZone.data.toList.drop 45 = dktX1_inZone_2 := dk_seg dksX1_inZone_1 21 rfl rfl
theorem dX1_inZone_0 : decode cX1_inZone 0 = .ok (.aload_n 0, 1) := dk_42 (dk_at dksX1_inZone_0 0 rfl rfl)
theorem dX1_inZone_1 : decode cX1_inZone 1 = .ok (.iload_n 1, 1) := dk_27 (dk_at dksX1_inZone_0 1 rfl rfl)
theorem dX1_inZone_2 : decode cX1_inZone 2 = .ok (.invokevirtual 136, 3) := dk_182 0 136 (dk_at dksX1_inZone_0 2 rfl rfl)
theorem dX1_inZone_5 : decode cX1_inZone 5 = .ok (.ifCond .eq 11, 3) := dk_153 0 11 (dk_at dksX1_inZone_0 5 rfl rfl)
theorem dX1_inZone_8 : decode cX1_inZone 8 = .ok (.iload_n 2, 1) := dk_28 (dk_at dksX1_inZone_0 8 rfl rfl)
theorem dX1_inZone_9 : decode cX1_inZone 9 = .ok (.ifCond .lt 7, 3) := dk_155 0 7 (dk_at dksX1_inZone_0 9 rfl rfl)
theorem dX1_inZone_12 : decode cX1_inZone 12 = .ok (.iconst 1, 1) := dk_4 (dk_at dksX1_inZone_0 12 rfl rfl)
theorem dX1_inZone_13 : decode cX1_inZone 13 = .ok (.goto 4, 3) := dk_167 0 4 (dk_at dksX1_inZone_0 13 rfl rfl)
theorem dX1_inZone_16 : decode cX1_inZone 16 = .ok (.iconst 0, 1) := dk_3 (dk_at dksX1_inZone_0 16 rfl rfl)
theorem dX1_inZone_17 : decode cX1_inZone 17 = .ok (.invokestatic 133, 3) := dk_184 0 133 (dk_at dksX1_inZone_0 17 rfl rfl)
theorem dX1_inZone_20 : decode cX1_inZone 20 = .ok (.aload_n 0, 1) := dk_42 (dk_at dksX1_inZone_0 20 rfl rfl)
theorem dX1_inZone_21 : decode cX1_inZone 21 = .ok (.invokevirtual 92, 3) := dk_182 0 92 (dk_at dksX1_inZone_0 21 rfl rfl)
theorem dX1_inZone_24 : decode cX1_inZone 24 = .ok (.getfield 205, 3) := dk_180 0 205 (dk_at dksX1_inZone_1 0 rfl rfl)
theorem dX1_inZone_27 : decode cX1_inZone 27 = .ok (.iload_n 1, 1) := dk_27 (dk_at dksX1_inZone_1 3 rfl rfl)
theorem dX1_inZone_28 : decode cX1_inZone 28 = .ok (.aaload, 1) := dk_50 (dk_at dksX1_inZone_1 4 rfl rfl)
theorem dX1_inZone_29 : decode cX1_inZone 29 = .ok (.getfield 238, 3) := dk_180 0 238 (dk_at dksX1_inZone_1 5 rfl rfl)
theorem dX1_inZone_32 : decode cX1_inZone 32 = .ok (.astore_n 3, 1) := dk_78 (dk_at dksX1_inZone_1 8 rfl rfl)
theorem dX1_inZone_33 : decode cX1_inZone 33 = .ok (.iload_n 2, 1) := dk_28 (dk_at dksX1_inZone_1 9 rfl rfl)
theorem dX1_inZone_34 : decode cX1_inZone 34 = .ok (.aload_n 3, 1) := dk_45 (dk_at dksX1_inZone_1 10 rfl rfl)
theorem dX1_inZone_35 : decode cX1_inZone 35 = .ok (.invokeinterface 78 1, 5) := by decide +kernel
theorem dX1_inZone_40 : decode cX1_inZone 40 = .ok (.if_icmp .ge 19, 3) := dk_162 0 19 (dk_at dksX1_inZone_1 16 rfl rfl)
theorem dX1_inZone_43 : decode cX1_inZone 43 = .ok (.aload_n 3, 1) := dk_45 (dk_at dksX1_inZone_1 19 rfl rfl)
theorem dX1_inZone_44 : decode cX1_inZone 44 = .ok (.iload_n 2, 1) := dk_28 (dk_at dksX1_inZone_1 20 rfl rfl)
theorem dX1_inZone_45 : decode cX1_inZone 45 = .ok (.invokeinterface 139 2, 5) := by decide +kernel
theorem dX1_inZone_50 : decode cX1_inZone 50 = .ok (.checkcast 143, 3) := dk_192 0 143 (dk_at dksX1_inZone_2 5 rfl rfl)
theorem dX1_inZone_53 : decode cX1_inZone 53 = .ok (.getfield 256, 3) := dk_180 1 0 (dk_at dksX1_inZone_2 8 rfl rfl)
theorem dX1_inZone_56 : decode cX1_inZone 56 = .ok (.goto 4, 3) := dk_167 0 4 (dk_at dksX1_inZone_2 11 rfl rfl)
theorem dX1_inZone_59 : decode cX1_inZone 59 = .ok (.iconst (-1), 1) := dk_2 (dk_at dksX1_inZone_2 14 rfl rfl)
theorem dX1_inZone_60 : decode cX1_inZone 60 = .ok (.ireturn, 1) := dk_172 (dk_at dksX1_inZone_2 15 rfl rfl)
abbrev cX1_due : ByteArray := prog_1_method_45_code
def yX1_due : MethodName := ⟨RX1, "due", "(I)I"⟩
def dkwX1_due_2 : List UInt8 := [180, 0, 27, 180, 0, 192, 6, 46, 96, 172]
abbrev dktX1_due_2 : List UInt8 := dkwX1_due_2 ++ []
def dkwX1_due_1 : List UInt8 := [153, 0, 7, 2, 167, 0, 29, 44, 180, 1, 3, 4, 96, 42, 180, 0, 27, 180, 0, 192, 5, 46, 104, 42]
abbrev dktX1_due_1 : List UInt8 := dkwX1_due_1 ++ dktX1_due_2
def dkwX1_due_0 : List UInt8 := [42, 27, 182, 0, 136, 184, 0, 133, 42, 182, 0, 92, 180, 0, 205, 27, 50, 77, 44, 182, 1, 95]
abbrev dktX1_due_0 : List UInt8 := dkwX1_due_0 ++ dktX1_due_1
theorem dksX1_due_0 : cX1_due.data.toList.drop 0 = dktX1_due_0 := by decide +kernel
theorem dksX1_due_1 : cX1_due.data.toList.drop 22 = dktX1_due_1 := dk_seg dksX1_due_0 22 rfl rfl
theorem dksX1_due_2 : cX1_due.data.toList.drop 46 = dktX1_due_2 := dk_seg dksX1_due_1 24 rfl rfl
theorem dX1_due_0 : decode cX1_due 0 = .ok (.aload_n 0, 1) := dk_42 (dk_at dksX1_due_0 0 rfl rfl)
theorem dX1_due_1 : decode cX1_due 1 = .ok (.iload_n 1, 1) := dk_27 (dk_at dksX1_due_0 1 rfl rfl)
theorem dX1_due_2 : decode cX1_due 2 = .ok (.invokevirtual 136, 3) := dk_182 0 136 (dk_at dksX1_due_0 2 rfl rfl)
theorem dX1_due_5 : decode cX1_due 5 = .ok (.invokestatic 133, 3) := dk_184 0 133 (dk_at dksX1_due_0 5 rfl rfl)
theorem dX1_due_8 : decode cX1_due 8 = .ok (.aload_n 0, 1) := dk_42 (dk_at dksX1_due_0 8 rfl rfl)
theorem dX1_due_9 : decode cX1_due 9 = .ok (.invokevirtual 92, 3) := dk_182 0 92 (dk_at dksX1_due_0 9 rfl rfl)
theorem dX1_due_12 : decode cX1_due 12 = .ok (.getfield 205, 3) := dk_180 0 205 (dk_at dksX1_due_0 12 rfl rfl)
theorem dX1_due_15 : decode cX1_due 15 = .ok (.iload_n 1, 1) := dk_27 (dk_at dksX1_due_0 15 rfl rfl)
theorem dX1_due_16 : decode cX1_due 16 = .ok (.aaload, 1) := dk_50 (dk_at dksX1_due_0 16 rfl rfl)
theorem dX1_due_17 : decode cX1_due 17 = .ok (.astore_n 2, 1) := dk_77 (dk_at dksX1_due_0 17 rfl rfl)
theorem dX1_due_18 : decode cX1_due 18 = .ok (.aload_n 2, 1) := dk_44 (dk_at dksX1_due_0 18 rfl rfl)
theorem dX1_due_19 : decode cX1_due 19 = .ok (.invokevirtual 351, 3) := dk_182 1 95 (dk_at dksX1_due_0 19 rfl rfl)
theorem dX1_due_22 : decode cX1_due 22 = .ok (.ifCond .eq 7, 3) := dk_153 0 7 (dk_at dksX1_due_1 0 rfl rfl)
theorem dX1_due_25 : decode cX1_due 25 = .ok (.iconst (-1), 1) := dk_2 (dk_at dksX1_due_1 3 rfl rfl)
theorem dX1_due_26 : decode cX1_due 26 = .ok (.goto 29, 3) := dk_167 0 29 (dk_at dksX1_due_1 4 rfl rfl)
theorem dX1_due_29 : decode cX1_due 29 = .ok (.aload_n 2, 1) := dk_44 (dk_at dksX1_due_1 7 rfl rfl)
theorem dX1_due_30 : decode cX1_due 30 = .ok (.getfield 259, 3) := dk_180 1 3 (dk_at dksX1_due_1 8 rfl rfl)
theorem dX1_due_33 : decode cX1_due 33 = .ok (.iconst 1, 1) := dk_4 (dk_at dksX1_due_1 11 rfl rfl)
theorem dX1_due_34 : decode cX1_due 34 = .ok (.iadd, 1) := dk_96 (dk_at dksX1_due_1 12 rfl rfl)
theorem dX1_due_35 : decode cX1_due 35 = .ok (.aload_n 0, 1) := dk_42 (dk_at dksX1_due_1 13 rfl rfl)
theorem dX1_due_36 : decode cX1_due 36 = .ok (.getfield 27, 3) := dk_180 0 27 (dk_at dksX1_due_1 14 rfl rfl)
theorem dX1_due_39 : decode cX1_due 39 = .ok (.getfield 192, 3) := dk_180 0 192 (dk_at dksX1_due_1 17 rfl rfl)
theorem dX1_due_42 : decode cX1_due 42 = .ok (.iconst 2, 1) := dk_5 (dk_at dksX1_due_1 20 rfl rfl)
theorem dX1_due_43 : decode cX1_due 43 = .ok (.iaload, 1) := dk_46 (dk_at dksX1_due_1 21 rfl rfl)
theorem dX1_due_44 : decode cX1_due 44 = .ok (.imul, 1) := dk_104 (dk_at dksX1_due_1 22 rfl rfl)
theorem dX1_due_45 : decode cX1_due 45 = .ok (.aload_n 0, 1) := dk_42 (dk_at dksX1_due_1 23 rfl rfl)
theorem dX1_due_46 : decode cX1_due 46 = .ok (.getfield 27, 3) := dk_180 0 27 (dk_at dksX1_due_2 0 rfl rfl)
theorem dX1_due_49 : decode cX1_due 49 = .ok (.getfield 192, 3) := dk_180 0 192 (dk_at dksX1_due_2 3 rfl rfl)
theorem dX1_due_52 : decode cX1_due 52 = .ok (.iconst 3, 1) := dk_6 (dk_at dksX1_due_2 6 rfl rfl)
theorem dX1_due_53 : decode cX1_due 53 = .ok (.iaload, 1) := dk_46 (dk_at dksX1_due_2 7 rfl rfl)
theorem dX1_due_54 : decode cX1_due 54 = .ok (.iadd, 1) := dk_96 (dk_at dksX1_due_2 8 rfl rfl)
theorem dX1_due_55 : decode cX1_due 55 = .ok (.ireturn, 1) := dk_172 (dk_at dksX1_due_2 9 rfl rfl)
abbrev cX1_wear : ByteArray := prog_1_method_46_code
def yX1_wear : MethodName := ⟨RX1, "wear", "(I)I"⟩
def dkwX1_wear_0 : List UInt8 := [27, 3, 6, 184, 0, 117, 184, 0, 121, 187, 1, 98, 89, 42, 183, 1, 100, 27, 182, 1, 103, 172]
abbrev dktX1_wear_0 : List UInt8 := dkwX1_wear_0 ++ []
theorem dksX1_wear_0 : cX1_wear.data.toList.drop 0 = dktX1_wear_0 := by decide +kernel
theorem dX1_wear_0 : decode cX1_wear 0 = .ok (.iload_n 1, 1) := dk_27 (dk_at dksX1_wear_0 0 rfl rfl)
theorem dX1_wear_1 : decode cX1_wear 1 = .ok (.iconst 0, 1) := dk_3 (dk_at dksX1_wear_0 1 rfl rfl)
theorem dX1_wear_2 : decode cX1_wear 2 = .ok (.iconst 3, 1) := dk_6 (dk_at dksX1_wear_0 2 rfl rfl)
theorem dX1_wear_3 : decode cX1_wear 3 = .ok (.invokestatic 117, 3) := dk_184 0 117 (dk_at dksX1_wear_0 3 rfl rfl)
theorem dX1_wear_6 : decode cX1_wear 6 = .ok (.invokestatic 121, 3) := dk_184 0 121 (dk_at dksX1_wear_0 6 rfl rfl)
theorem dX1_wear_9 : decode cX1_wear 9 = .ok (.new 354, 3) := dk_187 1 98 (dk_at dksX1_wear_0 9 rfl rfl)
theorem dX1_wear_12 : decode cX1_wear 12 = .ok (.dup, 1) := dk_89 (dk_at dksX1_wear_0 12 rfl rfl)
theorem dX1_wear_13 : decode cX1_wear 13 = .ok (.aload_n 0, 1) := dk_42 (dk_at dksX1_wear_0 13 rfl rfl)
theorem dX1_wear_14 : decode cX1_wear 14 = .ok (.invokespecial 356, 3) := dk_183 1 100 (dk_at dksX1_wear_0 14 rfl rfl)
theorem dX1_wear_17 : decode cX1_wear 17 = .ok (.iload_n 1, 1) := dk_27 (dk_at dksX1_wear_0 17 rfl rfl)
theorem dX1_wear_18 : decode cX1_wear 18 = .ok (.invokevirtual 359, 3) := dk_182 1 103 (dk_at dksX1_wear_0 18 rfl rfl)
theorem dX1_wear_21 : decode cX1_wear 21 = .ok (.ireturn, 1) := dk_172 (dk_at dksX1_wear_0 21 rfl rfl)
abbrev cX1_bin : ByteArray := prog_1_method_48_code
def yX1_bin : MethodName := ⟨RX1, "bin", "(II)I"⟩
def dkwX1_bin_1 : List UInt8 := [172]
abbrev dktX1_bin_1 : List UInt8 := dkwX1_bin_1 ++ []
def dkwX1_bin_0 : List UInt8 := [27, 184, 1, 38, 28, 3, 8, 184, 0, 117, 184, 0, 133, 42, 27, 28, 186, 1, 104, 0, 0, 182, 1, 92]
abbrev dktX1_bin_0 : List UInt8 := dkwX1_bin_0 ++ dktX1_bin_1
theorem dksX1_bin_0 : cX1_bin.data.toList.drop 0 = dktX1_bin_0 := by decide +kernel
theorem dksX1_bin_1 : cX1_bin.data.toList.drop 24 = dktX1_bin_1 := dk_seg dksX1_bin_0 24 rfl rfl
theorem dX1_bin_0 : decode cX1_bin 0 = .ok (.iload_n 1, 1) := dk_27 (dk_at dksX1_bin_0 0 rfl rfl)
theorem dX1_bin_1 : decode cX1_bin 1 = .ok (.invokestatic 294, 3) := dk_184 1 38 (dk_at dksX1_bin_0 1 rfl rfl)
theorem dX1_bin_4 : decode cX1_bin 4 = .ok (.iload_n 2, 1) := dk_28 (dk_at dksX1_bin_0 4 rfl rfl)
theorem dX1_bin_5 : decode cX1_bin 5 = .ok (.iconst 0, 1) := dk_3 (dk_at dksX1_bin_0 5 rfl rfl)
theorem dX1_bin_6 : decode cX1_bin 6 = .ok (.iconst 5, 1) := dk_8 (dk_at dksX1_bin_0 6 rfl rfl)
theorem dX1_bin_7 : decode cX1_bin 7 = .ok (.invokestatic 117, 3) := dk_184 0 117 (dk_at dksX1_bin_0 7 rfl rfl)
theorem dX1_bin_10 : decode cX1_bin 10 = .ok (.invokestatic 133, 3) := dk_184 0 133 (dk_at dksX1_bin_0 10 rfl rfl)
theorem dX1_bin_13 : decode cX1_bin 13 = .ok (.aload_n 0, 1) := dk_42 (dk_at dksX1_bin_0 13 rfl rfl)
theorem dX1_bin_14 : decode cX1_bin 14 = .ok (.iload_n 1, 1) := dk_27 (dk_at dksX1_bin_0 14 rfl rfl)
theorem dX1_bin_15 : decode cX1_bin 15 = .ok (.iload_n 2, 1) := dk_28 (dk_at dksX1_bin_0 15 rfl rfl)
theorem dX1_bin_16 : decode cX1_bin 16 = .ok (.invokedynamic 360, 5) := by decide +kernel
theorem dX1_bin_21 : decode cX1_bin 21 = .ok (.invokevirtual 348, 3) := dk_182 1 92 (dk_at dksX1_bin_0 21 rfl rfl)
theorem dX1_bin_24 : decode cX1_bin 24 = .ok (.ireturn, 1) := dk_172 (dk_at dksX1_bin_1 0 rfl rfl)
abbrev cX1_lambda_bin_7 : ByteArray := prog_1_method_69_code
def yX1_lambda_bin_7 : MethodName := ⟨RX1, "lambda$bin$7", "(IILFlashZones$Unit;)I"⟩
def dkwX1_lambda_bin_7_1 : List UInt8 := [184, 1, 17, 172]
abbrev dktX1_lambda_bin_7_1 : List UInt8 := dkwX1_lambda_bin_7_1 ++ []
def dkwX1_lambda_bin_7_0 : List UInt8 := [44, 182, 0, 145, 154, 0, 19, 44, 26, 184, 1, 185, 184, 1, 189, 27, 160, 0, 7, 4, 167, 0, 4, 3]
abbrev dktX1_lambda_bin_7_0 : List UInt8 := dkwX1_lambda_bin_7_0 ++ dktX1_lambda_bin_7_1
theorem dksX1_lambda_bin_7_0 : cX1_lambda_bin_7.data.toList.drop 0 = dktX1_lambda_bin_7_0 := by decide +kernel
theorem dksX1_lambda_bin_7_1 : cX1_lambda_bin_7.data.toList.drop 24 = dktX1_lambda_bin_7_1 := dk_seg dksX1_lambda_bin_7_0 24 rfl rfl
theorem dX1_lambda_bin_7_0 : decode cX1_lambda_bin_7 0 = .ok (.aload_n 2, 1) := dk_44 (dk_at dksX1_lambda_bin_7_0 0 rfl rfl)
theorem dX1_lambda_bin_7_1 : decode cX1_lambda_bin_7 1 = .ok (.invokevirtual 145, 3) := dk_182 0 145 (dk_at dksX1_lambda_bin_7_0 1 rfl rfl)
theorem dX1_lambda_bin_7_4 : decode cX1_lambda_bin_7 4 = .ok (.ifCond .ne 19, 3) := dk_154 0 19 (dk_at dksX1_lambda_bin_7_0 4 rfl rfl)
theorem dX1_lambda_bin_7_7 : decode cX1_lambda_bin_7 7 = .ok (.aload_n 2, 1) := dk_44 (dk_at dksX1_lambda_bin_7_0 7 rfl rfl)
theorem dX1_lambda_bin_7_8 : decode cX1_lambda_bin_7 8 = .ok (.iload_n 0, 1) := dk_26 (dk_at dksX1_lambda_bin_7_0 8 rfl rfl)
theorem dX1_lambda_bin_7_9 : decode cX1_lambda_bin_7 9 = .ok (.invokestatic 441, 3) := dk_184 1 185 (dk_at dksX1_lambda_bin_7_0 9 rfl rfl)
theorem dX1_lambda_bin_7_12 : decode cX1_lambda_bin_7 12 = .ok (.invokestatic 445, 3) := dk_184 1 189 (dk_at dksX1_lambda_bin_7_0 12 rfl rfl)
theorem dX1_lambda_bin_7_15 : decode cX1_lambda_bin_7 15 = .ok (.iload_n 1, 1) := dk_27 (dk_at dksX1_lambda_bin_7_0 15 rfl rfl)
theorem dX1_lambda_bin_7_16 : decode cX1_lambda_bin_7 16 = .ok (.if_icmp .ne 7, 3) := dk_160 0 7 (dk_at dksX1_lambda_bin_7_0 16 rfl rfl)
theorem dX1_lambda_bin_7_19 : decode cX1_lambda_bin_7 19 = .ok (.iconst 1, 1) := dk_4 (dk_at dksX1_lambda_bin_7_0 19 rfl rfl)
theorem dX1_lambda_bin_7_20 : decode cX1_lambda_bin_7 20 = .ok (.goto 4, 3) := dk_167 0 4 (dk_at dksX1_lambda_bin_7_0 20 rfl rfl)
theorem dX1_lambda_bin_7_23 : decode cX1_lambda_bin_7 23 = .ok (.iconst 0, 1) := dk_3 (dk_at dksX1_lambda_bin_7_0 23 rfl rfl)
theorem dX1_lambda_bin_7_24 : decode cX1_lambda_bin_7 24 = .ok (.invokestatic 273, 3) := dk_184 1 17 (dk_at dksX1_lambda_bin_7_1 0 rfl rfl)
theorem dX1_lambda_bin_7_27 : decode cX1_lambda_bin_7 27 = .ok (.ireturn, 1) := dk_172 (dk_at dksX1_lambda_bin_7_1 3 rfl rfl)
abbrev cX1_binOf : ByteArray := prog_1_method_47_code
def yX1_binOf : MethodName := ⟨RX1, "binOf", "(I)I"⟩
def dkwX1_binOf_2 : List UInt8 := [172]
abbrev dktX1_binOf_2 : List UInt8 := dkwX1_binOf_2 ++ []
def dkwX1_binOf_1 : List UInt8 := [167, 0, 24, 26, 16, 11, 162, 0, 7, 6, 167, 0, 14, 26, 16, 20, 162, 0, 7, 7, 167, 0, 4, 8]
abbrev dktX1_binOf_1 : List UInt8 := dkwX1_binOf_1 ++ dktX1_binOf_2
def dkwX1_binOf_0 : List UInt8 := [26, 154, 0, 7, 3, 167, 0, 43, 26, 6, 162, 0, 7, 4, 167, 0, 34, 26, 16, 6, 162, 0, 7, 5]
abbrev dktX1_binOf_0 : List UInt8 := dkwX1_binOf_0 ++ dktX1_binOf_1
theorem dksX1_binOf_0 : cX1_binOf.data.toList.drop 0 = dktX1_binOf_0 := by decide +kernel
theorem dksX1_binOf_1 : cX1_binOf.data.toList.drop 24 = dktX1_binOf_1 := dk_seg dksX1_binOf_0 24 rfl rfl
theorem dksX1_binOf_2 : cX1_binOf.data.toList.drop 48 = dktX1_binOf_2 := dk_seg dksX1_binOf_1 24 rfl rfl
theorem dX1_binOf_0 : decode cX1_binOf 0 = .ok (.iload_n 0, 1) := dk_26 (dk_at dksX1_binOf_0 0 rfl rfl)
theorem dX1_binOf_1 : decode cX1_binOf 1 = .ok (.ifCond .ne 7, 3) := dk_154 0 7 (dk_at dksX1_binOf_0 1 rfl rfl)
theorem dX1_binOf_4 : decode cX1_binOf 4 = .ok (.iconst 0, 1) := dk_3 (dk_at dksX1_binOf_0 4 rfl rfl)
theorem dX1_binOf_5 : decode cX1_binOf 5 = .ok (.goto 43, 3) := dk_167 0 43 (dk_at dksX1_binOf_0 5 rfl rfl)
theorem dX1_binOf_8 : decode cX1_binOf 8 = .ok (.iload_n 0, 1) := dk_26 (dk_at dksX1_binOf_0 8 rfl rfl)
theorem dX1_binOf_9 : decode cX1_binOf 9 = .ok (.iconst 3, 1) := dk_6 (dk_at dksX1_binOf_0 9 rfl rfl)
theorem dX1_binOf_10 : decode cX1_binOf 10 = .ok (.if_icmp .ge 7, 3) := dk_162 0 7 (dk_at dksX1_binOf_0 10 rfl rfl)
theorem dX1_binOf_13 : decode cX1_binOf 13 = .ok (.iconst 1, 1) := dk_4 (dk_at dksX1_binOf_0 13 rfl rfl)
theorem dX1_binOf_14 : decode cX1_binOf 14 = .ok (.goto 34, 3) := dk_167 0 34 (dk_at dksX1_binOf_0 14 rfl rfl)
theorem dX1_binOf_17 : decode cX1_binOf 17 = .ok (.iload_n 0, 1) := dk_26 (dk_at dksX1_binOf_0 17 rfl rfl)
theorem dX1_binOf_18 : decode cX1_binOf 18 = .ok (.bipush 6, 2) := dk_16 6 (dk_at dksX1_binOf_0 18 rfl rfl)
theorem dX1_binOf_20 : decode cX1_binOf 20 = .ok (.if_icmp .ge 7, 3) := dk_162 0 7 (dk_at dksX1_binOf_0 20 rfl rfl)
theorem dX1_binOf_23 : decode cX1_binOf 23 = .ok (.iconst 2, 1) := dk_5 (dk_at dksX1_binOf_0 23 rfl rfl)
theorem dX1_binOf_24 : decode cX1_binOf 24 = .ok (.goto 24, 3) := dk_167 0 24 (dk_at dksX1_binOf_1 0 rfl rfl)
theorem dX1_binOf_27 : decode cX1_binOf 27 = .ok (.iload_n 0, 1) := dk_26 (dk_at dksX1_binOf_1 3 rfl rfl)
theorem dX1_binOf_28 : decode cX1_binOf 28 = .ok (.bipush 11, 2) := dk_16 11 (dk_at dksX1_binOf_1 4 rfl rfl)
theorem dX1_binOf_30 : decode cX1_binOf 30 = .ok (.if_icmp .ge 7, 3) := dk_162 0 7 (dk_at dksX1_binOf_1 6 rfl rfl)
theorem dX1_binOf_33 : decode cX1_binOf 33 = .ok (.iconst 3, 1) := dk_6 (dk_at dksX1_binOf_1 9 rfl rfl)
theorem dX1_binOf_34 : decode cX1_binOf 34 = .ok (.goto 14, 3) := dk_167 0 14 (dk_at dksX1_binOf_1 10 rfl rfl)
theorem dX1_binOf_37 : decode cX1_binOf 37 = .ok (.iload_n 0, 1) := dk_26 (dk_at dksX1_binOf_1 13 rfl rfl)
theorem dX1_binOf_38 : decode cX1_binOf 38 = .ok (.bipush 20, 2) := dk_16 20 (dk_at dksX1_binOf_1 14 rfl rfl)
theorem dX1_binOf_40 : decode cX1_binOf 40 = .ok (.if_icmp .ge 7, 3) := dk_162 0 7 (dk_at dksX1_binOf_1 16 rfl rfl)
theorem dX1_binOf_43 : decode cX1_binOf 43 = .ok (.iconst 4, 1) := dk_7 (dk_at dksX1_binOf_1 19 rfl rfl)
theorem dX1_binOf_44 : decode cX1_binOf 44 = .ok (.goto 4, 3) := dk_167 0 4 (dk_at dksX1_binOf_1 20 rfl rfl)
theorem dX1_binOf_47 : decode cX1_binOf 47 = .ok (.iconst 5, 1) := dk_8 (dk_at dksX1_binOf_1 23 rfl rfl)
theorem dX1_binOf_48 : decode cX1_binOf 48 = .ok (.ireturn, 1) := dk_172 (dk_at dksX1_binOf_2 0 rfl rfl)
abbrev cX1_expected : ByteArray := prog_1_method_49_code
def yX1_expected : MethodName := ⟨RX1, "expected", "(II)I"⟩
def dkwX1_expected_1 : List UInt8 := [186, 1, 107, 0, 0, 182, 1, 92, 172]
abbrev dktX1_expected_1 : List UInt8 := dkwX1_expected_1 ++ []
def dkwX1_expected_0 : List UInt8 := [27, 155, 0, 12, 28, 27, 161, 0, 7, 4, 167, 0, 4, 3, 184, 0, 121, 42, 27, 28]
abbrev dktX1_expected_0 : List UInt8 := dkwX1_expected_0 ++ dktX1_expected_1
theorem dksX1_expected_0 : cX1_expected.data.toList.drop 0 = dktX1_expected_0 := by decide +kernel
theorem dksX1_expected_1 : cX1_expected.data.toList.drop 20 = dktX1_expected_1 := dk_seg dksX1_expected_0 20 rfl rfl
theorem dX1_expected_0 : decode cX1_expected 0 = .ok (.iload_n 1, 1) := dk_27 (dk_at dksX1_expected_0 0 rfl rfl)
theorem dX1_expected_1 : decode cX1_expected 1 = .ok (.ifCond .lt 12, 3) := dk_155 0 12 (dk_at dksX1_expected_0 1 rfl rfl)
theorem dX1_expected_4 : decode cX1_expected 4 = .ok (.iload_n 2, 1) := dk_28 (dk_at dksX1_expected_0 4 rfl rfl)
theorem dX1_expected_5 : decode cX1_expected 5 = .ok (.iload_n 1, 1) := dk_27 (dk_at dksX1_expected_0 5 rfl rfl)
theorem dX1_expected_6 : decode cX1_expected 6 = .ok (.if_icmp .lt 7, 3) := dk_161 0 7 (dk_at dksX1_expected_0 6 rfl rfl)
theorem dX1_expected_9 : decode cX1_expected 9 = .ok (.iconst 1, 1) := dk_4 (dk_at dksX1_expected_0 9 rfl rfl)
theorem dX1_expected_10 : decode cX1_expected 10 = .ok (.goto 4, 3) := dk_167 0 4 (dk_at dksX1_expected_0 10 rfl rfl)
theorem dX1_expected_13 : decode cX1_expected 13 = .ok (.iconst 0, 1) := dk_3 (dk_at dksX1_expected_0 13 rfl rfl)
theorem dX1_expected_14 : decode cX1_expected 14 = .ok (.invokestatic 121, 3) := dk_184 0 121 (dk_at dksX1_expected_0 14 rfl rfl)
theorem dX1_expected_17 : decode cX1_expected 17 = .ok (.aload_n 0, 1) := dk_42 (dk_at dksX1_expected_0 17 rfl rfl)
theorem dX1_expected_18 : decode cX1_expected 18 = .ok (.iload_n 1, 1) := dk_27 (dk_at dksX1_expected_0 18 rfl rfl)
theorem dX1_expected_19 : decode cX1_expected 19 = .ok (.iload_n 2, 1) := dk_28 (dk_at dksX1_expected_0 19 rfl rfl)
theorem dX1_expected_20 : decode cX1_expected 20 = .ok (.invokedynamic 363, 5) := by decide +kernel
theorem dX1_expected_25 : decode cX1_expected 25 = .ok (.invokevirtual 348, 3) := dk_182 1 92 (dk_at dksX1_expected_1 5 rfl rfl)
theorem dX1_expected_28 : decode cX1_expected 28 = .ok (.ireturn, 1) := dk_172 (dk_at dksX1_expected_1 8 rfl rfl)
abbrev cX1_lambda_expected_8 : ByteArray := prog_1_method_68_code
def yX1_lambda_expected_8 : MethodName := ⟨RX1, "lambda$expected$8", "(IILFlashZones$Unit;)I"⟩
def dkwX1_lambda_expected_8_1 : List UInt8 := [184, 1, 17, 172]
abbrev dktX1_lambda_expected_8_1 : List UInt8 := dkwX1_lambda_expected_8_1 ++ []
def dkwX1_lambda_expected_8_0 : List UInt8 := [44, 182, 0, 145, 153, 0, 19, 44, 180, 1, 29, 26, 27, 184, 0, 117, 153, 0, 7, 4, 167, 0, 4, 3]
abbrev dktX1_lambda_expected_8_0 : List UInt8 := dkwX1_lambda_expected_8_0 ++ dktX1_lambda_expected_8_1
theorem dksX1_lambda_expected_8_0 : cX1_lambda_expected_8.data.toList.drop 0 = dktX1_lambda_expected_8_0 := by decide +kernel
theorem dksX1_lambda_expected_8_1 : cX1_lambda_expected_8.data.toList.drop 24 = dktX1_lambda_expected_8_1 := dk_seg dksX1_lambda_expected_8_0 24 rfl rfl
theorem dX1_lambda_expected_8_0 : decode cX1_lambda_expected_8 0 = .ok (.aload_n 2, 1) := dk_44 (dk_at dksX1_lambda_expected_8_0 0 rfl rfl)
theorem dX1_lambda_expected_8_1 : decode cX1_lambda_expected_8 1 = .ok (.invokevirtual 145, 3) := dk_182 0 145 (dk_at dksX1_lambda_expected_8_0 1 rfl rfl)
theorem dX1_lambda_expected_8_4 : decode cX1_lambda_expected_8 4 = .ok (.ifCond .eq 19, 3) := dk_153 0 19 (dk_at dksX1_lambda_expected_8_0 4 rfl rfl)
theorem dX1_lambda_expected_8_7 : decode cX1_lambda_expected_8 7 = .ok (.aload_n 2, 1) := dk_44 (dk_at dksX1_lambda_expected_8_0 7 rfl rfl)
theorem dX1_lambda_expected_8_8 : decode cX1_lambda_expected_8 8 = .ok (.getfield 285, 3) := dk_180 1 29 (dk_at dksX1_lambda_expected_8_0 8 rfl rfl)
theorem dX1_lambda_expected_8_11 : decode cX1_lambda_expected_8 11 = .ok (.iload_n 0, 1) := dk_26 (dk_at dksX1_lambda_expected_8_0 11 rfl rfl)
theorem dX1_lambda_expected_8_12 : decode cX1_lambda_expected_8 12 = .ok (.iload_n 1, 1) := dk_27 (dk_at dksX1_lambda_expected_8_0 12 rfl rfl)
theorem dX1_lambda_expected_8_13 : decode cX1_lambda_expected_8 13 = .ok (.invokestatic 117, 3) := dk_184 0 117 (dk_at dksX1_lambda_expected_8_0 13 rfl rfl)
theorem dX1_lambda_expected_8_16 : decode cX1_lambda_expected_8 16 = .ok (.ifCond .eq 7, 3) := dk_153 0 7 (dk_at dksX1_lambda_expected_8_0 16 rfl rfl)
theorem dX1_lambda_expected_8_19 : decode cX1_lambda_expected_8 19 = .ok (.iconst 1, 1) := dk_4 (dk_at dksX1_lambda_expected_8_0 19 rfl rfl)
theorem dX1_lambda_expected_8_20 : decode cX1_lambda_expected_8 20 = .ok (.goto 4, 3) := dk_167 0 4 (dk_at dksX1_lambda_expected_8_0 20 rfl rfl)
theorem dX1_lambda_expected_8_23 : decode cX1_lambda_expected_8 23 = .ok (.iconst 0, 1) := dk_3 (dk_at dksX1_lambda_expected_8_0 23 rfl rfl)
theorem dX1_lambda_expected_8_24 : decode cX1_lambda_expected_8 24 = .ok (.invokestatic 273, 3) := dk_184 1 17 (dk_at dksX1_lambda_expected_8_1 0 rfl rfl)
theorem dX1_lambda_expected_8_27 : decode cX1_lambda_expected_8 27 = .ok (.ireturn, 1) := dk_172 (dk_at dksX1_lambda_expected_8_1 3 rfl rfl)
abbrev cX1_leaderIf : ByteArray := prog_1_method_51_code
def yX1_leaderIf : MethodName := ⟨RX1, "leaderIf", "(I)I"⟩
def dkwX1_leaderIf_2 : List UInt8 := [180, 0, 95, 27, 185, 0, 139, 2, 0, 192, 0, 143, 182, 1, 111, 44, 182, 0, 230, 172]
abbrev dktX1_leaderIf_2 : List UInt8 := dkwX1_leaderIf_2 ++ []
def dkwX1_leaderIf_1 : List UInt8 := [182, 0, 145, 154, 0, 5, 2, 172, 187, 0, 96, 89, 42, 182, 0, 92, 183, 1, 108, 77, 44, 44]
abbrev dktX1_leaderIf_1 : List UInt8 := dkwX1_leaderIf_1 ++ dktX1_leaderIf_2
def dkwX1_leaderIf_0 : List UInt8 := [42, 27, 182, 0, 129, 184, 0, 133, 42, 182, 0, 92, 180, 0, 95, 27, 185, 0, 139, 2, 0, 192, 0, 143]
abbrev dktX1_leaderIf_0 : List UInt8 := dkwX1_leaderIf_0 ++ dktX1_leaderIf_1
theorem dksX1_leaderIf_0 : cX1_leaderIf.data.toList.drop 0 = dktX1_leaderIf_0 := by decide +kernel
theorem dksX1_leaderIf_1 : cX1_leaderIf.data.toList.drop 24 = dktX1_leaderIf_1 := dk_seg dksX1_leaderIf_0 24 rfl rfl
theorem dksX1_leaderIf_2 : cX1_leaderIf.data.toList.drop 46 = dktX1_leaderIf_2 := dk_seg dksX1_leaderIf_1 22 rfl rfl
theorem dX1_leaderIf_0 : decode cX1_leaderIf 0 = .ok (.aload_n 0, 1) := dk_42 (dk_at dksX1_leaderIf_0 0 rfl rfl)
theorem dX1_leaderIf_1 : decode cX1_leaderIf 1 = .ok (.iload_n 1, 1) := dk_27 (dk_at dksX1_leaderIf_0 1 rfl rfl)
theorem dX1_leaderIf_2 : decode cX1_leaderIf 2 = .ok (.invokevirtual 129, 3) := dk_182 0 129 (dk_at dksX1_leaderIf_0 2 rfl rfl)
theorem dX1_leaderIf_5 : decode cX1_leaderIf 5 = .ok (.invokestatic 133, 3) := dk_184 0 133 (dk_at dksX1_leaderIf_0 5 rfl rfl)
theorem dX1_leaderIf_8 : decode cX1_leaderIf 8 = .ok (.aload_n 0, 1) := dk_42 (dk_at dksX1_leaderIf_0 8 rfl rfl)
theorem dX1_leaderIf_9 : decode cX1_leaderIf 9 = .ok (.invokevirtual 92, 3) := dk_182 0 92 (dk_at dksX1_leaderIf_0 9 rfl rfl)
theorem dX1_leaderIf_12 : decode cX1_leaderIf 12 = .ok (.getfield 95, 3) := dk_180 0 95 (dk_at dksX1_leaderIf_0 12 rfl rfl)
theorem dX1_leaderIf_15 : decode cX1_leaderIf 15 = .ok (.iload_n 1, 1) := dk_27 (dk_at dksX1_leaderIf_0 15 rfl rfl)
theorem dX1_leaderIf_16 : decode cX1_leaderIf 16 = .ok (.invokeinterface 139 2, 5) := by decide +kernel
theorem dX1_leaderIf_21 : decode cX1_leaderIf 21 = .ok (.checkcast 143, 3) := dk_192 0 143 (dk_at dksX1_leaderIf_0 21 rfl rfl)
theorem dX1_leaderIf_24 : decode cX1_leaderIf 24 = .ok (.invokevirtual 145, 3) := dk_182 0 145 (dk_at dksX1_leaderIf_1 0 rfl rfl)
theorem dX1_leaderIf_27 : decode cX1_leaderIf 27 = .ok (.ifCond .ne 5, 3) := dk_154 0 5 (dk_at dksX1_leaderIf_1 3 rfl rfl)
theorem dX1_leaderIf_30 : decode cX1_leaderIf 30 = .ok (.iconst (-1), 1) := dk_2 (dk_at dksX1_leaderIf_1 6 rfl rfl)
theorem dX1_leaderIf_31 : decode cX1_leaderIf 31 = .ok (.ireturn, 1) := dk_172 (dk_at dksX1_leaderIf_1 7 rfl rfl)
theorem dX1_leaderIf_32 : decode cX1_leaderIf 32 = .ok (.new 96, 3) := dk_187 0 96 (dk_at dksX1_leaderIf_1 8 rfl rfl)
theorem dX1_leaderIf_35 : decode cX1_leaderIf 35 = .ok (.dup, 1) := dk_89 (dk_at dksX1_leaderIf_1 11 rfl rfl)
theorem dX1_leaderIf_36 : decode cX1_leaderIf 36 = .ok (.aload_n 0, 1) := dk_42 (dk_at dksX1_leaderIf_1 12 rfl rfl)
theorem dX1_leaderIf_37 : decode cX1_leaderIf 37 = .ok (.invokevirtual 92, 3) := dk_182 0 92 (dk_at dksX1_leaderIf_1 13 rfl rfl)
theorem dX1_leaderIf_40 : decode cX1_leaderIf 40 = .ok (.invokespecial 364, 3) := dk_183 1 108 (dk_at dksX1_leaderIf_1 16 rfl rfl)
theorem dX1_leaderIf_43 : decode cX1_leaderIf 43 = .ok (.astore_n 2, 1) := dk_77 (dk_at dksX1_leaderIf_1 19 rfl rfl)
theorem dX1_leaderIf_44 : decode cX1_leaderIf 44 = .ok (.aload_n 2, 1) := dk_44 (dk_at dksX1_leaderIf_1 20 rfl rfl)
theorem dX1_leaderIf_45 : decode cX1_leaderIf 45 = .ok (.aload_n 2, 1) := dk_44 (dk_at dksX1_leaderIf_1 21 rfl rfl)
theorem dX1_leaderIf_46 : decode cX1_leaderIf 46 = .ok (.getfield 95, 3) := dk_180 0 95 (dk_at dksX1_leaderIf_2 0 rfl rfl)
theorem dX1_leaderIf_49 : decode cX1_leaderIf 49 = .ok (.iload_n 1, 1) := dk_27 (dk_at dksX1_leaderIf_2 3 rfl rfl)
theorem dX1_leaderIf_50 : decode cX1_leaderIf 50 = .ok (.invokeinterface 139 2, 5) := by decide +kernel
theorem dX1_leaderIf_55 : decode cX1_leaderIf 55 = .ok (.checkcast 143, 3) := dk_192 0 143 (dk_at dksX1_leaderIf_2 9 rfl rfl)
theorem dX1_leaderIf_58 : decode cX1_leaderIf 58 = .ok (.invokevirtual 367, 3) := dk_182 1 111 (dk_at dksX1_leaderIf_2 12 rfl rfl)
theorem dX1_leaderIf_61 : decode cX1_leaderIf 61 = .ok (.aload_n 2, 1) := dk_44 (dk_at dksX1_leaderIf_2 15 rfl rfl)
theorem dX1_leaderIf_62 : decode cX1_leaderIf 62 = .ok (.invokevirtual 230, 3) := dk_182 0 230 (dk_at dksX1_leaderIf_2 16 rfl rfl)
theorem dX1_leaderIf_65 : decode cX1_leaderIf 65 = .ok (.ireturn, 1) := dk_172 (dk_at dksX1_leaderIf_2 19 rfl rfl)
abbrev cX1_write : ByteArray := prog_1_method_11_code
def yX1_write : MethodName := ⟨RX1, "write", "(III)I"⟩
def dkwX1_write_2 : List UInt8 := [4, 28, 79, 89, 5, 29, 79, 182, 0, 125, 172]
abbrev dktX1_write_2 : List UInt8 := dkwX1_write_2 ++ []
def dkwX1_write_1 : List UInt8 := [184, 0, 117, 153, 0, 7, 4, 167, 0, 4, 3, 184, 0, 121, 42, 3, 6, 188, 10, 89, 3, 27, 79, 89]
abbrev dktX1_write_1 : List UInt8 := dkwX1_write_1 ++ dktX1_write_2
def dkwX1_write_0 : List UInt8 := [27, 3, 16, 7, 184, 0, 117, 153, 0, 26, 28, 4, 6, 184, 0, 117, 153, 0, 17, 29, 3, 16, 99]
abbrev dktX1_write_0 : List UInt8 := dkwX1_write_0 ++ dktX1_write_1
theorem dksX1_write_0 : cX1_write.data.toList.drop 0 = dktX1_write_0 := by decide +kernel
theorem dksX1_write_1 : cX1_write.data.toList.drop 23 = dktX1_write_1 := dk_seg dksX1_write_0 23 rfl rfl
theorem dksX1_write_2 : cX1_write.data.toList.drop 47 = dktX1_write_2 := dk_seg dksX1_write_1 24 rfl rfl
theorem dX1_write_0 : decode cX1_write 0 = .ok (.iload_n 1, 1) := dk_27 (dk_at dksX1_write_0 0 rfl rfl)
theorem dX1_write_1 : decode cX1_write 1 = .ok (.iconst 0, 1) := dk_3 (dk_at dksX1_write_0 1 rfl rfl)
theorem dX1_write_2 : decode cX1_write 2 = .ok (.bipush 7, 2) := dk_16 7 (dk_at dksX1_write_0 2 rfl rfl)
theorem dX1_write_4 : decode cX1_write 4 = .ok (.invokestatic 117, 3) := dk_184 0 117 (dk_at dksX1_write_0 4 rfl rfl)
theorem dX1_write_7 : decode cX1_write 7 = .ok (.ifCond .eq 26, 3) := dk_153 0 26 (dk_at dksX1_write_0 7 rfl rfl)
theorem dX1_write_10 : decode cX1_write 10 = .ok (.iload_n 2, 1) := dk_28 (dk_at dksX1_write_0 10 rfl rfl)
theorem dX1_write_11 : decode cX1_write 11 = .ok (.iconst 1, 1) := dk_4 (dk_at dksX1_write_0 11 rfl rfl)
theorem dX1_write_12 : decode cX1_write 12 = .ok (.iconst 3, 1) := dk_6 (dk_at dksX1_write_0 12 rfl rfl)
theorem dX1_write_13 : decode cX1_write 13 = .ok (.invokestatic 117, 3) := dk_184 0 117 (dk_at dksX1_write_0 13 rfl rfl)
theorem dX1_write_16 : decode cX1_write 16 = .ok (.ifCond .eq 17, 3) := dk_153 0 17 (dk_at dksX1_write_0 16 rfl rfl)
theorem dX1_write_19 : decode cX1_write 19 = .ok (.iload_n 3, 1) := dk_29 (dk_at dksX1_write_0 19 rfl rfl)
theorem dX1_write_20 : decode cX1_write 20 = .ok (.iconst 0, 1) := dk_3 (dk_at dksX1_write_0 20 rfl rfl)
theorem dX1_write_21 : decode cX1_write 21 = .ok (.bipush 99, 2) := dk_16 99 (dk_at dksX1_write_0 21 rfl rfl)
theorem dX1_write_23 : decode cX1_write 23 = .ok (.invokestatic 117, 3) := dk_184 0 117 (dk_at dksX1_write_1 0 rfl rfl)
theorem dX1_write_26 : decode cX1_write 26 = .ok (.ifCond .eq 7, 3) := dk_153 0 7 (dk_at dksX1_write_1 3 rfl rfl)
theorem dX1_write_29 : decode cX1_write 29 = .ok (.iconst 1, 1) := dk_4 (dk_at dksX1_write_1 6 rfl rfl)
theorem dX1_write_30 : decode cX1_write 30 = .ok (.goto 4, 3) := dk_167 0 4 (dk_at dksX1_write_1 7 rfl rfl)
theorem dX1_write_33 : decode cX1_write 33 = .ok (.iconst 0, 1) := dk_3 (dk_at dksX1_write_1 10 rfl rfl)
theorem dX1_write_34 : decode cX1_write 34 = .ok (.invokestatic 121, 3) := dk_184 0 121 (dk_at dksX1_write_1 11 rfl rfl)
theorem dX1_write_37 : decode cX1_write 37 = .ok (.aload_n 0, 1) := dk_42 (dk_at dksX1_write_1 14 rfl rfl)
theorem dX1_write_38 : decode cX1_write 38 = .ok (.iconst 0, 1) := dk_3 (dk_at dksX1_write_1 15 rfl rfl)
theorem dX1_write_39 : decode cX1_write 39 = .ok (.iconst 3, 1) := dk_6 (dk_at dksX1_write_1 16 rfl rfl)
theorem dX1_write_40 : decode cX1_write 40 = .ok (.newarray .int, 2) := dk_188_10 (dk_at dksX1_write_1 17 rfl rfl)
theorem dX1_write_42 : decode cX1_write 42 = .ok (.dup, 1) := dk_89 (dk_at dksX1_write_1 19 rfl rfl)
theorem dX1_write_43 : decode cX1_write 43 = .ok (.iconst 0, 1) := dk_3 (dk_at dksX1_write_1 20 rfl rfl)
theorem dX1_write_44 : decode cX1_write 44 = .ok (.iload_n 1, 1) := dk_27 (dk_at dksX1_write_1 21 rfl rfl)
theorem dX1_write_45 : decode cX1_write 45 = .ok (.iastore, 1) := dk_79 (dk_at dksX1_write_1 22 rfl rfl)
theorem dX1_write_46 : decode cX1_write 46 = .ok (.dup, 1) := dk_89 (dk_at dksX1_write_1 23 rfl rfl)
theorem dX1_write_47 : decode cX1_write 47 = .ok (.iconst 1, 1) := dk_4 (dk_at dksX1_write_2 0 rfl rfl)
theorem dX1_write_48 : decode cX1_write 48 = .ok (.iload_n 2, 1) := dk_28 (dk_at dksX1_write_2 1 rfl rfl)
theorem dX1_write_49 : decode cX1_write 49 = .ok (.iastore, 1) := dk_79 (dk_at dksX1_write_2 2 rfl rfl)
theorem dX1_write_50 : decode cX1_write 50 = .ok (.dup, 1) := dk_89 (dk_at dksX1_write_2 3 rfl rfl)
theorem dX1_write_51 : decode cX1_write 51 = .ok (.iconst 2, 1) := dk_5 (dk_at dksX1_write_2 4 rfl rfl)
theorem dX1_write_52 : decode cX1_write 52 = .ok (.iload_n 3, 1) := dk_29 (dk_at dksX1_write_2 5 rfl rfl)
theorem dX1_write_53 : decode cX1_write 53 = .ok (.iastore, 1) := dk_79 (dk_at dksX1_write_2 6 rfl rfl)
theorem dX1_write_54 : decode cX1_write 54 = .ok (.invokevirtual 125, 3) := dk_182 0 125 (dk_at dksX1_write_2 7 rfl rfl)
theorem dX1_write_57 : decode cX1_write 57 = .ok (.ireturn, 1) := dk_172 (dk_at dksX1_write_2 10 rfl rfl)
abbrev cX1_die : ByteArray := prog_1_method_12_code
def yX1_die : MethodName := ⟨RX1, "die", "(I)I"⟩
def dkwX1_die_0 : List UInt8 := [42, 27, 182, 0, 129, 184, 0, 133, 42, 4, 4, 188, 10, 89, 3, 27, 79, 182, 0, 125, 172]
abbrev dktX1_die_0 : List UInt8 := dkwX1_die_0 ++ []
theorem dksX1_die_0 : cX1_die.data.toList.drop 0 = dktX1_die_0 := by decide +kernel
theorem dX1_die_0 : decode cX1_die 0 = .ok (.aload_n 0, 1) := dk_42 (dk_at dksX1_die_0 0 rfl rfl)
theorem dX1_die_1 : decode cX1_die 1 = .ok (.iload_n 1, 1) := dk_27 (dk_at dksX1_die_0 1 rfl rfl)
theorem dX1_die_2 : decode cX1_die 2 = .ok (.invokevirtual 129, 3) := dk_182 0 129 (dk_at dksX1_die_0 2 rfl rfl)
theorem dX1_die_5 : decode cX1_die 5 = .ok (.invokestatic 133, 3) := dk_184 0 133 (dk_at dksX1_die_0 5 rfl rfl)
theorem dX1_die_8 : decode cX1_die 8 = .ok (.aload_n 0, 1) := dk_42 (dk_at dksX1_die_0 8 rfl rfl)
theorem dX1_die_9 : decode cX1_die 9 = .ok (.iconst 1, 1) := dk_4 (dk_at dksX1_die_0 9 rfl rfl)
theorem dX1_die_10 : decode cX1_die 10 = .ok (.iconst 1, 1) := dk_4 (dk_at dksX1_die_0 10 rfl rfl)
theorem dX1_die_11 : decode cX1_die 11 = .ok (.newarray .int, 2) := dk_188_10 (dk_at dksX1_die_0 11 rfl rfl)
theorem dX1_die_13 : decode cX1_die 13 = .ok (.dup, 1) := dk_89 (dk_at dksX1_die_0 13 rfl rfl)
theorem dX1_die_14 : decode cX1_die 14 = .ok (.iconst 0, 1) := dk_3 (dk_at dksX1_die_0 14 rfl rfl)
theorem dX1_die_15 : decode cX1_die 15 = .ok (.iload_n 1, 1) := dk_27 (dk_at dksX1_die_0 15 rfl rfl)
theorem dX1_die_16 : decode cX1_die 16 = .ok (.iastore, 1) := dk_79 (dk_at dksX1_die_0 16 rfl rfl)
theorem dX1_die_17 : decode cX1_die 17 = .ok (.invokevirtual 125, 3) := dk_182 0 125 (dk_at dksX1_die_0 17 rfl rfl)
theorem dX1_die_20 : decode cX1_die 20 = .ok (.ireturn, 1) := dk_172 (dk_at dksX1_die_0 20 rfl rfl)
abbrev cX1_reset : ByteArray := prog_1_method_13_code
def yX1_reset : MethodName := ⟨RX1, "reset", "(I)I"⟩
def dkwX1_reset_0 : List UInt8 := [42, 27, 182, 0, 136, 184, 0, 133, 42, 5, 4, 188, 10, 89, 3, 27, 79, 182, 0, 125, 172]
abbrev dktX1_reset_0 : List UInt8 := dkwX1_reset_0 ++ []
theorem dksX1_reset_0 : cX1_reset.data.toList.drop 0 = dktX1_reset_0 := by decide +kernel
theorem dX1_reset_0 : decode cX1_reset 0 = .ok (.aload_n 0, 1) := dk_42 (dk_at dksX1_reset_0 0 rfl rfl)
theorem dX1_reset_1 : decode cX1_reset 1 = .ok (.iload_n 1, 1) := dk_27 (dk_at dksX1_reset_0 1 rfl rfl)
theorem dX1_reset_2 : decode cX1_reset 2 = .ok (.invokevirtual 136, 3) := dk_182 0 136 (dk_at dksX1_reset_0 2 rfl rfl)
theorem dX1_reset_5 : decode cX1_reset 5 = .ok (.invokestatic 133, 3) := dk_184 0 133 (dk_at dksX1_reset_0 5 rfl rfl)
theorem dX1_reset_8 : decode cX1_reset 8 = .ok (.aload_n 0, 1) := dk_42 (dk_at dksX1_reset_0 8 rfl rfl)
theorem dX1_reset_9 : decode cX1_reset 9 = .ok (.iconst 2, 1) := dk_5 (dk_at dksX1_reset_0 9 rfl rfl)
theorem dX1_reset_10 : decode cX1_reset 10 = .ok (.iconst 1, 1) := dk_4 (dk_at dksX1_reset_0 10 rfl rfl)
theorem dX1_reset_11 : decode cX1_reset 11 = .ok (.newarray .int, 2) := dk_188_10 (dk_at dksX1_reset_0 11 rfl rfl)
theorem dX1_reset_13 : decode cX1_reset 13 = .ok (.dup, 1) := dk_89 (dk_at dksX1_reset_0 13 rfl rfl)
theorem dX1_reset_14 : decode cX1_reset 14 = .ok (.iconst 0, 1) := dk_3 (dk_at dksX1_reset_0 14 rfl rfl)
theorem dX1_reset_15 : decode cX1_reset 15 = .ok (.iload_n 1, 1) := dk_27 (dk_at dksX1_reset_0 15 rfl rfl)
theorem dX1_reset_16 : decode cX1_reset 16 = .ok (.iastore, 1) := dk_79 (dk_at dksX1_reset_0 16 rfl rfl)
theorem dX1_reset_17 : decode cX1_reset 17 = .ok (.invokevirtual 125, 3) := dk_182 0 125 (dk_at dksX1_reset_0 17 rfl rfl)
theorem dX1_reset_20 : decode cX1_reset 20 = .ok (.ireturn, 1) := dk_172 (dk_at dksX1_reset_0 20 rfl rfl)
abbrev cX1_bury : ByteArray := prog_1_method_14_code
def yX1_bury : MethodName := ⟨RX1, "bury", "(I)I"⟩
def dkwX1_bury_0 : List UInt8 := [42, 27, 182, 0, 136, 184, 0, 133, 42, 6, 4, 188, 10, 89, 3, 27, 79, 182, 0, 125, 172]
abbrev dktX1_bury_0 : List UInt8 := dkwX1_bury_0 ++ []
theorem dksX1_bury_0 : cX1_bury.data.toList.drop 0 = dktX1_bury_0 := by decide +kernel
theorem dX1_bury_0 : decode cX1_bury 0 = .ok (.aload_n 0, 1) := dk_42 (dk_at dksX1_bury_0 0 rfl rfl)
theorem dX1_bury_1 : decode cX1_bury 1 = .ok (.iload_n 1, 1) := dk_27 (dk_at dksX1_bury_0 1 rfl rfl)
theorem dX1_bury_2 : decode cX1_bury 2 = .ok (.invokevirtual 136, 3) := dk_182 0 136 (dk_at dksX1_bury_0 2 rfl rfl)
theorem dX1_bury_5 : decode cX1_bury 5 = .ok (.invokestatic 133, 3) := dk_184 0 133 (dk_at dksX1_bury_0 5 rfl rfl)
theorem dX1_bury_8 : decode cX1_bury 8 = .ok (.aload_n 0, 1) := dk_42 (dk_at dksX1_bury_0 8 rfl rfl)
theorem dX1_bury_9 : decode cX1_bury 9 = .ok (.iconst 3, 1) := dk_6 (dk_at dksX1_bury_0 9 rfl rfl)
theorem dX1_bury_10 : decode cX1_bury 10 = .ok (.iconst 1, 1) := dk_4 (dk_at dksX1_bury_0 10 rfl rfl)
theorem dX1_bury_11 : decode cX1_bury 11 = .ok (.newarray .int, 2) := dk_188_10 (dk_at dksX1_bury_0 11 rfl rfl)
theorem dX1_bury_13 : decode cX1_bury 13 = .ok (.dup, 1) := dk_89 (dk_at dksX1_bury_0 13 rfl rfl)
theorem dX1_bury_14 : decode cX1_bury 14 = .ok (.iconst 0, 1) := dk_3 (dk_at dksX1_bury_0 14 rfl rfl)
theorem dX1_bury_15 : decode cX1_bury 15 = .ok (.iload_n 1, 1) := dk_27 (dk_at dksX1_bury_0 15 rfl rfl)
theorem dX1_bury_16 : decode cX1_bury 16 = .ok (.iastore, 1) := dk_79 (dk_at dksX1_bury_0 16 rfl rfl)
theorem dX1_bury_17 : decode cX1_bury 17 = .ok (.invokevirtual 125, 3) := dk_182 0 125 (dk_at dksX1_bury_0 17 rfl rfl)
theorem dX1_bury_20 : decode cX1_bury 20 = .ok (.ireturn, 1) := dk_172 (dk_at dksX1_bury_0 20 rfl rfl)
abbrev cX1_days : ByteArray := prog_1_method_15_code
def yX1_days : MethodName := ⟨RX1, "days", "(I)I"⟩
def dkwX1_days_0 : List UInt8 := [27, 4, 16, 60, 184, 0, 117, 184, 0, 121, 42, 7, 4, 188, 10, 89, 3, 27, 79, 182, 0, 125, 172]
abbrev dktX1_days_0 : List UInt8 := dkwX1_days_0 ++ []
theorem dksX1_days_0 : cX1_days.data.toList.drop 0 = dktX1_days_0 := by decide +kernel
theorem dX1_days_0 : decode cX1_days 0 = .ok (.iload_n 1, 1) := dk_27 (dk_at dksX1_days_0 0 rfl rfl)
theorem dX1_days_1 : decode cX1_days 1 = .ok (.iconst 1, 1) := dk_4 (dk_at dksX1_days_0 1 rfl rfl)
theorem dX1_days_2 : decode cX1_days 2 = .ok (.bipush 60, 2) := dk_16 60 (dk_at dksX1_days_0 2 rfl rfl)
theorem dX1_days_4 : decode cX1_days 4 = .ok (.invokestatic 117, 3) := dk_184 0 117 (dk_at dksX1_days_0 4 rfl rfl)
theorem dX1_days_7 : decode cX1_days 7 = .ok (.invokestatic 121, 3) := dk_184 0 121 (dk_at dksX1_days_0 7 rfl rfl)
theorem dX1_days_10 : decode cX1_days 10 = .ok (.aload_n 0, 1) := dk_42 (dk_at dksX1_days_0 10 rfl rfl)
theorem dX1_days_11 : decode cX1_days 11 = .ok (.iconst 4, 1) := dk_7 (dk_at dksX1_days_0 11 rfl rfl)
theorem dX1_days_12 : decode cX1_days 12 = .ok (.iconst 1, 1) := dk_4 (dk_at dksX1_days_0 12 rfl rfl)
theorem dX1_days_13 : decode cX1_days 13 = .ok (.newarray .int, 2) := dk_188_10 (dk_at dksX1_days_0 13 rfl rfl)
theorem dX1_days_15 : decode cX1_days 15 = .ok (.dup, 1) := dk_89 (dk_at dksX1_days_0 15 rfl rfl)
theorem dX1_days_16 : decode cX1_days 16 = .ok (.iconst 0, 1) := dk_3 (dk_at dksX1_days_0 16 rfl rfl)
theorem dX1_days_17 : decode cX1_days 17 = .ok (.iload_n 1, 1) := dk_27 (dk_at dksX1_days_0 17 rfl rfl)
theorem dX1_days_18 : decode cX1_days 18 = .ok (.iastore, 1) := dk_79 (dk_at dksX1_days_0 18 rfl rfl)
theorem dX1_days_19 : decode cX1_days 19 = .ok (.invokevirtual 125, 3) := dk_182 0 125 (dk_at dksX1_days_0 19 rfl rfl)
theorem dX1_days_22 : decode cX1_days 22 = .ok (.ireturn, 1) := dk_172 (dk_at dksX1_days_0 22 rfl rfl)
abbrev cX1_place : ByteArray := prog_1_method_53_code
def yX1_place : MethodName := ⟨RX1, "place", "(II)I"⟩
def dkwX1_place_0 : List UInt8 := [27, 28, 184, 1, 47, 42, 182, 0, 92, 27, 28, 2, 182, 1, 115, 172]
abbrev dktX1_place_0 : List UInt8 := dkwX1_place_0 ++ []
theorem dksX1_place_0 : cX1_place.data.toList.drop 0 = dktX1_place_0 := by decide +kernel
theorem dX1_place_0 : decode cX1_place 0 = .ok (.iload_n 1, 1) := dk_27 (dk_at dksX1_place_0 0 rfl rfl)
theorem dX1_place_1 : decode cX1_place 1 = .ok (.iload_n 2, 1) := dk_28 (dk_at dksX1_place_0 1 rfl rfl)
theorem dX1_place_2 : decode cX1_place 2 = .ok (.invokestatic 303, 3) := dk_184 1 47 (dk_at dksX1_place_0 2 rfl rfl)
theorem dX1_place_5 : decode cX1_place 5 = .ok (.aload_n 0, 1) := dk_42 (dk_at dksX1_place_0 5 rfl rfl)
theorem dX1_place_6 : decode cX1_place 6 = .ok (.invokevirtual 92, 3) := dk_182 0 92 (dk_at dksX1_place_0 6 rfl rfl)
theorem dX1_place_9 : decode cX1_place 9 = .ok (.iload_n 1, 1) := dk_27 (dk_at dksX1_place_0 9 rfl rfl)
theorem dX1_place_10 : decode cX1_place 10 = .ok (.iload_n 2, 1) := dk_28 (dk_at dksX1_place_0 10 rfl rfl)
theorem dX1_place_11 : decode cX1_place 11 = .ok (.iconst (-1), 1) := dk_2 (dk_at dksX1_place_0 11 rfl rfl)
theorem dX1_place_12 : decode cX1_place 12 = .ok (.invokevirtual 371, 3) := dk_182 1 115 (dk_at dksX1_place_0 12 rfl rfl)
theorem dX1_place_15 : decode cX1_place 15 = .ok (.ireturn, 1) := dk_172 (dk_at dksX1_place_0 15 rfl rfl)
abbrev cX1_toBury : ByteArray := prog_1_method_54_code
def yX1_toBury : MethodName := ⟨RX1, "toBury", "(I)I"⟩
def dkwX1_toBury_1 : List UInt8 := [167, 0, 11, 42, 182, 0, 92, 27, 182, 1, 119, 172]
abbrev dktX1_toBury_1 : List UInt8 := dkwX1_toBury_1 ++ []
def dkwX1_toBury_0 : List UInt8 := [42, 27, 182, 0, 136, 184, 0, 133, 42, 182, 0, 92, 180, 0, 205, 27, 50, 182, 1, 95, 153, 0, 7, 2]
abbrev dktX1_toBury_0 : List UInt8 := dkwX1_toBury_0 ++ dktX1_toBury_1
theorem dksX1_toBury_0 : cX1_toBury.data.toList.drop 0 = dktX1_toBury_0 := by decide +kernel
theorem dksX1_toBury_1 : cX1_toBury.data.toList.drop 24 = dktX1_toBury_1 := dk_seg dksX1_toBury_0 24 rfl rfl
theorem dX1_toBury_0 : decode cX1_toBury 0 = .ok (.aload_n 0, 1) := dk_42 (dk_at dksX1_toBury_0 0 rfl rfl)
theorem dX1_toBury_1 : decode cX1_toBury 1 = .ok (.iload_n 1, 1) := dk_27 (dk_at dksX1_toBury_0 1 rfl rfl)
theorem dX1_toBury_2 : decode cX1_toBury 2 = .ok (.invokevirtual 136, 3) := dk_182 0 136 (dk_at dksX1_toBury_0 2 rfl rfl)
theorem dX1_toBury_5 : decode cX1_toBury 5 = .ok (.invokestatic 133, 3) := dk_184 0 133 (dk_at dksX1_toBury_0 5 rfl rfl)
theorem dX1_toBury_8 : decode cX1_toBury 8 = .ok (.aload_n 0, 1) := dk_42 (dk_at dksX1_toBury_0 8 rfl rfl)
theorem dX1_toBury_9 : decode cX1_toBury 9 = .ok (.invokevirtual 92, 3) := dk_182 0 92 (dk_at dksX1_toBury_0 9 rfl rfl)
theorem dX1_toBury_12 : decode cX1_toBury 12 = .ok (.getfield 205, 3) := dk_180 0 205 (dk_at dksX1_toBury_0 12 rfl rfl)
theorem dX1_toBury_15 : decode cX1_toBury 15 = .ok (.iload_n 1, 1) := dk_27 (dk_at dksX1_toBury_0 15 rfl rfl)
theorem dX1_toBury_16 : decode cX1_toBury 16 = .ok (.aaload, 1) := dk_50 (dk_at dksX1_toBury_0 16 rfl rfl)
theorem dX1_toBury_17 : decode cX1_toBury 17 = .ok (.invokevirtual 351, 3) := dk_182 1 95 (dk_at dksX1_toBury_0 17 rfl rfl)
theorem dX1_toBury_20 : decode cX1_toBury 20 = .ok (.ifCond .eq 7, 3) := dk_153 0 7 (dk_at dksX1_toBury_0 20 rfl rfl)
theorem dX1_toBury_23 : decode cX1_toBury 23 = .ok (.iconst (-1), 1) := dk_2 (dk_at dksX1_toBury_0 23 rfl rfl)
theorem dX1_toBury_24 : decode cX1_toBury 24 = .ok (.goto 11, 3) := dk_167 0 11 (dk_at dksX1_toBury_1 0 rfl rfl)
theorem dX1_toBury_27 : decode cX1_toBury 27 = .ok (.aload_n 0, 1) := dk_42 (dk_at dksX1_toBury_1 3 rfl rfl)
theorem dX1_toBury_28 : decode cX1_toBury 28 = .ok (.invokevirtual 92, 3) := dk_182 0 92 (dk_at dksX1_toBury_1 4 rfl rfl)
theorem dX1_toBury_31 : decode cX1_toBury 31 = .ok (.iload_n 1, 1) := dk_27 (dk_at dksX1_toBury_1 7 rfl rfl)
theorem dX1_toBury_32 : decode cX1_toBury 32 = .ok (.invokevirtual 375, 3) := dk_182 1 119 (dk_at dksX1_toBury_1 8 rfl rfl)
theorem dX1_toBury_35 : decode cX1_toBury 35 = .ok (.ireturn, 1) := dk_172 (dk_at dksX1_toBury_1 11 rfl rfl)
abbrev cX1_ahead : ByteArray := prog_1_method_55_code
def yX1_ahead : MethodName := ⟨RX1, "ahead", "(II)I"⟩
def dkwX1_ahead_5 : List UInt8 := [180, 0, 233, 42, 182, 0, 92, 180, 0, 233, 100, 172]
abbrev dktX1_ahead_5 : List UInt8 := dkwX1_ahead_5 ++ []
def dkwX1_ahead_4 : List UInt8 := [180, 0, 227, 100, 167, 0, 30, 45, 180, 1, 60, 42, 182, 0, 92, 180, 1, 60, 100, 167, 0, 15, 45]
abbrev dktX1_ahead_4 : List UInt8 := dkwX1_ahead_4 ++ dktX1_ahead_5
def dkwX1_ahead_3 : List UInt8 := [45, 180, 0, 224, 42, 182, 0, 92, 180, 0, 224, 100, 167, 0, 45, 45, 180, 0, 227, 42, 182, 0, 92]
abbrev dktX1_ahead_3 : List UInt8 := dkwX1_ahead_3 ++ dktX1_ahead_4
def dkwX1_ahead_2 : List UInt8 := [170, 0, 0, 0, 0, 0, 72, 0, 0, 0, 0, 0, 0, 0, 2, 0, 0, 0, 27, 0, 0, 0, 42, 0, 0, 0, 57]
abbrev dktX1_ahead_2 : List UInt8 := dkwX1_ahead_2 ++ dktX1_ahead_3
def dkwX1_ahead_1 : List UInt8 := [184, 0, 121, 187, 0, 96, 89, 42, 182, 0, 92, 183, 1, 108, 78, 45, 27, 182, 1, 122, 28]
abbrev dktX1_ahead_1 : List UInt8 := dkwX1_ahead_1 ++ dktX1_ahead_2
def dkwX1_ahead_0 : List UInt8 := [27, 4, 16, 60, 184, 0, 117, 153, 0, 16, 28, 3, 6, 184, 0, 117, 153, 0, 7, 4, 167, 0, 4, 3]
abbrev dktX1_ahead_0 : List UInt8 := dkwX1_ahead_0 ++ dktX1_ahead_1
theorem dksX1_ahead_0 : cX1_ahead.data.toList.drop 0 = dktX1_ahead_0 := by decide +kernel
theorem dksX1_ahead_1 : cX1_ahead.data.toList.drop 24 = dktX1_ahead_1 := dk_seg dksX1_ahead_0 24 rfl rfl
theorem dksX1_ahead_2 : cX1_ahead.data.toList.drop 45 = dktX1_ahead_2 := dk_seg dksX1_ahead_1 21 rfl rfl
theorem dksX1_ahead_3 : cX1_ahead.data.toList.drop 72 = dktX1_ahead_3 := dk_seg dksX1_ahead_2 27 rfl rfl
theorem dksX1_ahead_4 : cX1_ahead.data.toList.drop 95 = dktX1_ahead_4 := dk_seg dksX1_ahead_3 23 rfl rfl
theorem dksX1_ahead_5 : cX1_ahead.data.toList.drop 118 = dktX1_ahead_5 := dk_seg dksX1_ahead_4 23 rfl rfl
theorem dX1_ahead_0 : decode cX1_ahead 0 = .ok (.iload_n 1, 1) := dk_27 (dk_at dksX1_ahead_0 0 rfl rfl)
theorem dX1_ahead_1 : decode cX1_ahead 1 = .ok (.iconst 1, 1) := dk_4 (dk_at dksX1_ahead_0 1 rfl rfl)
theorem dX1_ahead_2 : decode cX1_ahead 2 = .ok (.bipush 60, 2) := dk_16 60 (dk_at dksX1_ahead_0 2 rfl rfl)
theorem dX1_ahead_4 : decode cX1_ahead 4 = .ok (.invokestatic 117, 3) := dk_184 0 117 (dk_at dksX1_ahead_0 4 rfl rfl)
theorem dX1_ahead_7 : decode cX1_ahead 7 = .ok (.ifCond .eq 16, 3) := dk_153 0 16 (dk_at dksX1_ahead_0 7 rfl rfl)
theorem dX1_ahead_10 : decode cX1_ahead 10 = .ok (.iload_n 2, 1) := dk_28 (dk_at dksX1_ahead_0 10 rfl rfl)
theorem dX1_ahead_11 : decode cX1_ahead 11 = .ok (.iconst 0, 1) := dk_3 (dk_at dksX1_ahead_0 11 rfl rfl)
theorem dX1_ahead_12 : decode cX1_ahead 12 = .ok (.iconst 3, 1) := dk_6 (dk_at dksX1_ahead_0 12 rfl rfl)
theorem dX1_ahead_13 : decode cX1_ahead 13 = .ok (.invokestatic 117, 3) := dk_184 0 117 (dk_at dksX1_ahead_0 13 rfl rfl)
theorem dX1_ahead_16 : decode cX1_ahead 16 = .ok (.ifCond .eq 7, 3) := dk_153 0 7 (dk_at dksX1_ahead_0 16 rfl rfl)
theorem dX1_ahead_19 : decode cX1_ahead 19 = .ok (.iconst 1, 1) := dk_4 (dk_at dksX1_ahead_0 19 rfl rfl)
theorem dX1_ahead_20 : decode cX1_ahead 20 = .ok (.goto 4, 3) := dk_167 0 4 (dk_at dksX1_ahead_0 20 rfl rfl)
theorem dX1_ahead_23 : decode cX1_ahead 23 = .ok (.iconst 0, 1) := dk_3 (dk_at dksX1_ahead_0 23 rfl rfl)
theorem dX1_ahead_24 : decode cX1_ahead 24 = .ok (.invokestatic 121, 3) := dk_184 0 121 (dk_at dksX1_ahead_1 0 rfl rfl)
theorem dX1_ahead_27 : decode cX1_ahead 27 = .ok (.new 96, 3) := dk_187 0 96 (dk_at dksX1_ahead_1 3 rfl rfl)
theorem dX1_ahead_30 : decode cX1_ahead 30 = .ok (.dup, 1) := dk_89 (dk_at dksX1_ahead_1 6 rfl rfl)
theorem dX1_ahead_31 : decode cX1_ahead 31 = .ok (.aload_n 0, 1) := dk_42 (dk_at dksX1_ahead_1 7 rfl rfl)
theorem dX1_ahead_32 : decode cX1_ahead 32 = .ok (.invokevirtual 92, 3) := dk_182 0 92 (dk_at dksX1_ahead_1 8 rfl rfl)
theorem dX1_ahead_35 : decode cX1_ahead 35 = .ok (.invokespecial 364, 3) := dk_183 1 108 (dk_at dksX1_ahead_1 11 rfl rfl)
theorem dX1_ahead_38 : decode cX1_ahead 38 = .ok (.astore_n 3, 1) := dk_78 (dk_at dksX1_ahead_1 14 rfl rfl)
theorem dX1_ahead_39 : decode cX1_ahead 39 = .ok (.aload_n 3, 1) := dk_45 (dk_at dksX1_ahead_1 15 rfl rfl)
theorem dX1_ahead_40 : decode cX1_ahead 40 = .ok (.iload_n 1, 1) := dk_27 (dk_at dksX1_ahead_1 16 rfl rfl)
theorem dX1_ahead_41 : decode cX1_ahead 41 = .ok (.invokevirtual 378, 3) := dk_182 1 122 (dk_at dksX1_ahead_1 17 rfl rfl)
theorem dX1_ahead_44 : decode cX1_ahead 44 = .ok (.iload_n 2, 1) := dk_28 (dk_at dksX1_ahead_1 20 rfl rfl)
theorem dX1_ahead_45 : decode cX1_ahead 45 = .ok (.tableswitch 72 0 2 #[27, 42, 57], 27) := by decide +kernel
theorem dX1_ahead_72 : decode cX1_ahead 72 = .ok (.aload_n 3, 1) := dk_45 (dk_at dksX1_ahead_3 0 rfl rfl)
theorem dX1_ahead_73 : decode cX1_ahead 73 = .ok (.getfield 224, 3) := dk_180 0 224 (dk_at dksX1_ahead_3 1 rfl rfl)
theorem dX1_ahead_76 : decode cX1_ahead 76 = .ok (.aload_n 0, 1) := dk_42 (dk_at dksX1_ahead_3 4 rfl rfl)
theorem dX1_ahead_77 : decode cX1_ahead 77 = .ok (.invokevirtual 92, 3) := dk_182 0 92 (dk_at dksX1_ahead_3 5 rfl rfl)
theorem dX1_ahead_80 : decode cX1_ahead 80 = .ok (.getfield 224, 3) := dk_180 0 224 (dk_at dksX1_ahead_3 8 rfl rfl)
theorem dX1_ahead_83 : decode cX1_ahead 83 = .ok (.isub, 1) := dk_100 (dk_at dksX1_ahead_3 11 rfl rfl)
theorem dX1_ahead_84 : decode cX1_ahead 84 = .ok (.goto 45, 3) := dk_167 0 45 (dk_at dksX1_ahead_3 12 rfl rfl)
theorem dX1_ahead_87 : decode cX1_ahead 87 = .ok (.aload_n 3, 1) := dk_45 (dk_at dksX1_ahead_3 15 rfl rfl)
theorem dX1_ahead_88 : decode cX1_ahead 88 = .ok (.getfield 227, 3) := dk_180 0 227 (dk_at dksX1_ahead_3 16 rfl rfl)
theorem dX1_ahead_91 : decode cX1_ahead 91 = .ok (.aload_n 0, 1) := dk_42 (dk_at dksX1_ahead_3 19 rfl rfl)
theorem dX1_ahead_92 : decode cX1_ahead 92 = .ok (.invokevirtual 92, 3) := dk_182 0 92 (dk_at dksX1_ahead_3 20 rfl rfl)
theorem dX1_ahead_95 : decode cX1_ahead 95 = .ok (.getfield 227, 3) := dk_180 0 227 (dk_at dksX1_ahead_4 0 rfl rfl)
theorem dX1_ahead_98 : decode cX1_ahead 98 = .ok (.isub, 1) := dk_100 (dk_at dksX1_ahead_4 3 rfl rfl)
theorem dX1_ahead_99 : decode cX1_ahead 99 = .ok (.goto 30, 3) := dk_167 0 30 (dk_at dksX1_ahead_4 4 rfl rfl)
theorem dX1_ahead_102 : decode cX1_ahead 102 = .ok (.aload_n 3, 1) := dk_45 (dk_at dksX1_ahead_4 7 rfl rfl)
theorem dX1_ahead_103 : decode cX1_ahead 103 = .ok (.getfield 316, 3) := dk_180 1 60 (dk_at dksX1_ahead_4 8 rfl rfl)
theorem dX1_ahead_106 : decode cX1_ahead 106 = .ok (.aload_n 0, 1) := dk_42 (dk_at dksX1_ahead_4 11 rfl rfl)
theorem dX1_ahead_107 : decode cX1_ahead 107 = .ok (.invokevirtual 92, 3) := dk_182 0 92 (dk_at dksX1_ahead_4 12 rfl rfl)
theorem dX1_ahead_110 : decode cX1_ahead 110 = .ok (.getfield 316, 3) := dk_180 1 60 (dk_at dksX1_ahead_4 15 rfl rfl)
theorem dX1_ahead_113 : decode cX1_ahead 113 = .ok (.isub, 1) := dk_100 (dk_at dksX1_ahead_4 18 rfl rfl)
theorem dX1_ahead_114 : decode cX1_ahead 114 = .ok (.goto 15, 3) := dk_167 0 15 (dk_at dksX1_ahead_4 19 rfl rfl)
theorem dX1_ahead_117 : decode cX1_ahead 117 = .ok (.aload_n 3, 1) := dk_45 (dk_at dksX1_ahead_4 22 rfl rfl)
theorem dX1_ahead_118 : decode cX1_ahead 118 = .ok (.getfield 233, 3) := dk_180 0 233 (dk_at dksX1_ahead_5 0 rfl rfl)
theorem dX1_ahead_121 : decode cX1_ahead 121 = .ok (.aload_n 0, 1) := dk_42 (dk_at dksX1_ahead_5 3 rfl rfl)
theorem dX1_ahead_122 : decode cX1_ahead 122 = .ok (.invokevirtual 92, 3) := dk_182 0 92 (dk_at dksX1_ahead_5 4 rfl rfl)
theorem dX1_ahead_125 : decode cX1_ahead 125 = .ok (.getfield 233, 3) := dk_180 0 233 (dk_at dksX1_ahead_5 7 rfl rfl)
theorem dX1_ahead_128 : decode cX1_ahead 128 = .ok (.isub, 1) := dk_100 (dk_at dksX1_ahead_5 10 rfl rfl)
theorem dX1_ahead_129 : decode cX1_ahead 129 = .ok (.ireturn, 1) := dk_172 (dk_at dksX1_ahead_5 11 rfl rfl)
abbrev cX1_anew : ByteArray := prog_1_method_18_code
def yX1_anew : MethodName := ⟨RX1, "anew", "(II)I"⟩
def dkwX1_anew_1 : List UInt8 := [184, 0, 121, 42, 27, 182, 0, 163, 28, 182, 0, 167, 172]
abbrev dktX1_anew_1 : List UInt8 := dkwX1_anew_1 ++ []
def dkwX1_anew_0 : List UInt8 := [27, 3, 16, 6, 184, 0, 117, 153, 0, 16, 28, 3, 8, 184, 0, 117, 153, 0, 7, 4, 167, 0, 4, 3]
abbrev dktX1_anew_0 : List UInt8 := dkwX1_anew_0 ++ dktX1_anew_1
theorem dksX1_anew_0 : cX1_anew.data.toList.drop 0 = dktX1_anew_0 := by decide +kernel
theorem dksX1_anew_1 : cX1_anew.data.toList.drop 24 = dktX1_anew_1 := dk_seg dksX1_anew_0 24 rfl rfl
theorem dX1_anew_0 : decode cX1_anew 0 = .ok (.iload_n 1, 1) := dk_27 (dk_at dksX1_anew_0 0 rfl rfl)
theorem dX1_anew_1 : decode cX1_anew 1 = .ok (.iconst 0, 1) := dk_3 (dk_at dksX1_anew_0 1 rfl rfl)
theorem dX1_anew_2 : decode cX1_anew 2 = .ok (.bipush 6, 2) := dk_16 6 (dk_at dksX1_anew_0 2 rfl rfl)
theorem dX1_anew_4 : decode cX1_anew 4 = .ok (.invokestatic 117, 3) := dk_184 0 117 (dk_at dksX1_anew_0 4 rfl rfl)
theorem dX1_anew_7 : decode cX1_anew 7 = .ok (.ifCond .eq 16, 3) := dk_153 0 16 (dk_at dksX1_anew_0 7 rfl rfl)
theorem dX1_anew_10 : decode cX1_anew 10 = .ok (.iload_n 2, 1) := dk_28 (dk_at dksX1_anew_0 10 rfl rfl)
theorem dX1_anew_11 : decode cX1_anew 11 = .ok (.iconst 0, 1) := dk_3 (dk_at dksX1_anew_0 11 rfl rfl)
theorem dX1_anew_12 : decode cX1_anew 12 = .ok (.iconst 5, 1) := dk_8 (dk_at dksX1_anew_0 12 rfl rfl)
theorem dX1_anew_13 : decode cX1_anew 13 = .ok (.invokestatic 117, 3) := dk_184 0 117 (dk_at dksX1_anew_0 13 rfl rfl)
theorem dX1_anew_16 : decode cX1_anew 16 = .ok (.ifCond .eq 7, 3) := dk_153 0 7 (dk_at dksX1_anew_0 16 rfl rfl)
theorem dX1_anew_19 : decode cX1_anew 19 = .ok (.iconst 1, 1) := dk_4 (dk_at dksX1_anew_0 19 rfl rfl)
theorem dX1_anew_20 : decode cX1_anew 20 = .ok (.goto 4, 3) := dk_167 0 4 (dk_at dksX1_anew_0 20 rfl rfl)
theorem dX1_anew_23 : decode cX1_anew 23 = .ok (.iconst 0, 1) := dk_3 (dk_at dksX1_anew_0 23 rfl rfl)
theorem dX1_anew_24 : decode cX1_anew 24 = .ok (.invokestatic 121, 3) := dk_184 0 121 (dk_at dksX1_anew_1 0 rfl rfl)
theorem dX1_anew_27 : decode cX1_anew 27 = .ok (.aload_n 0, 1) := dk_42 (dk_at dksX1_anew_1 3 rfl rfl)
theorem dX1_anew_28 : decode cX1_anew 28 = .ok (.iload_n 1, 1) := dk_27 (dk_at dksX1_anew_1 4 rfl rfl)
theorem dX1_anew_29 : decode cX1_anew 29 = .ok (.invokevirtual 163, 3) := dk_182 0 163 (dk_at dksX1_anew_1 5 rfl rfl)
theorem dX1_anew_32 : decode cX1_anew 32 = .ok (.iload_n 2, 1) := dk_28 (dk_at dksX1_anew_1 8 rfl rfl)
theorem dX1_anew_33 : decode cX1_anew 33 = .ok (.invokevirtual 167, 3) := dk_182 0 167 (dk_at dksX1_anew_1 9 rfl rfl)
theorem dX1_anew_36 : decode cX1_anew 36 = .ok (.ireturn, 1) := dk_172 (dk_at dksX1_anew_1 12 rfl rfl)
abbrev cX1_better : ByteArray := prog_1_method_20_code
def yX1_better : MethodName := ⟨RX1, "better", "(II)I"⟩
def dkwX1_better_2 : List UInt8 := [153, 0, 7, 27, 167, 0, 17, 25, 4, 45, 182, 0, 170, 153, 0, 7, 28, 167, 0, 4, 2, 172]
abbrev dktX1_better_2 : List UInt8 := dkwX1_better_2 ++ []
def dkwX1_better_1 : List UInt8 := [3, 184, 0, 121, 42, 27, 182, 0, 163, 78, 42, 28, 182, 0, 163, 58, 4, 45, 25, 4, 182, 0, 170]
abbrev dktX1_better_1 : List UInt8 := dkwX1_better_1 ++ dktX1_better_2
def dkwX1_better_0 : List UInt8 := [27, 3, 16, 6, 184, 0, 117, 153, 0, 17, 28, 3, 16, 6, 184, 0, 117, 153, 0, 7, 4, 167, 0, 4]
abbrev dktX1_better_0 : List UInt8 := dkwX1_better_0 ++ dktX1_better_1
theorem dksX1_better_0 : cX1_better.data.toList.drop 0 = dktX1_better_0 := by decide +kernel
theorem dksX1_better_1 : cX1_better.data.toList.drop 24 = dktX1_better_1 := dk_seg dksX1_better_0 24 rfl rfl
theorem dksX1_better_2 : cX1_better.data.toList.drop 47 = dktX1_better_2 := dk_seg dksX1_better_1 23 rfl rfl
theorem dX1_better_0 : decode cX1_better 0 = .ok (.iload_n 1, 1) := dk_27 (dk_at dksX1_better_0 0 rfl rfl)
theorem dX1_better_1 : decode cX1_better 1 = .ok (.iconst 0, 1) := dk_3 (dk_at dksX1_better_0 1 rfl rfl)
theorem dX1_better_2 : decode cX1_better 2 = .ok (.bipush 6, 2) := dk_16 6 (dk_at dksX1_better_0 2 rfl rfl)
theorem dX1_better_4 : decode cX1_better 4 = .ok (.invokestatic 117, 3) := dk_184 0 117 (dk_at dksX1_better_0 4 rfl rfl)
theorem dX1_better_7 : decode cX1_better 7 = .ok (.ifCond .eq 17, 3) := dk_153 0 17 (dk_at dksX1_better_0 7 rfl rfl)
theorem dX1_better_10 : decode cX1_better 10 = .ok (.iload_n 2, 1) := dk_28 (dk_at dksX1_better_0 10 rfl rfl)
theorem dX1_better_11 : decode cX1_better 11 = .ok (.iconst 0, 1) := dk_3 (dk_at dksX1_better_0 11 rfl rfl)
theorem dX1_better_12 : decode cX1_better 12 = .ok (.bipush 6, 2) := dk_16 6 (dk_at dksX1_better_0 12 rfl rfl)
theorem dX1_better_14 : decode cX1_better 14 = .ok (.invokestatic 117, 3) := dk_184 0 117 (dk_at dksX1_better_0 14 rfl rfl)
theorem dX1_better_17 : decode cX1_better 17 = .ok (.ifCond .eq 7, 3) := dk_153 0 7 (dk_at dksX1_better_0 17 rfl rfl)
theorem dX1_better_20 : decode cX1_better 20 = .ok (.iconst 1, 1) := dk_4 (dk_at dksX1_better_0 20 rfl rfl)
theorem dX1_better_21 : decode cX1_better 21 = .ok (.goto 4, 3) := dk_167 0 4 (dk_at dksX1_better_0 21 rfl rfl)
theorem dX1_better_24 : decode cX1_better 24 = .ok (.iconst 0, 1) := dk_3 (dk_at dksX1_better_1 0 rfl rfl)
theorem dX1_better_25 : decode cX1_better 25 = .ok (.invokestatic 121, 3) := dk_184 0 121 (dk_at dksX1_better_1 1 rfl rfl)
theorem dX1_better_28 : decode cX1_better 28 = .ok (.aload_n 0, 1) := dk_42 (dk_at dksX1_better_1 4 rfl rfl)
theorem dX1_better_29 : decode cX1_better 29 = .ok (.iload_n 1, 1) := dk_27 (dk_at dksX1_better_1 5 rfl rfl)
theorem dX1_better_30 : decode cX1_better 30 = .ok (.invokevirtual 163, 3) := dk_182 0 163 (dk_at dksX1_better_1 6 rfl rfl)
theorem dX1_better_33 : decode cX1_better 33 = .ok (.astore_n 3, 1) := dk_78 (dk_at dksX1_better_1 9 rfl rfl)
theorem dX1_better_34 : decode cX1_better 34 = .ok (.aload_n 0, 1) := dk_42 (dk_at dksX1_better_1 10 rfl rfl)
theorem dX1_better_35 : decode cX1_better 35 = .ok (.iload_n 2, 1) := dk_28 (dk_at dksX1_better_1 11 rfl rfl)
theorem dX1_better_36 : decode cX1_better 36 = .ok (.invokevirtual 163, 3) := dk_182 0 163 (dk_at dksX1_better_1 12 rfl rfl)
theorem dX1_better_39 : decode cX1_better 39 = .ok (.astore 4, 2) := dk_58 4 (dk_at dksX1_better_1 15 rfl rfl)
theorem dX1_better_41 : decode cX1_better 41 = .ok (.aload_n 3, 1) := dk_45 (dk_at dksX1_better_1 17 rfl rfl)
theorem dX1_better_42 : decode cX1_better 42 = .ok (.aload 4, 2) := dk_25 4 (dk_at dksX1_better_1 18 rfl rfl)
theorem dX1_better_44 : decode cX1_better 44 = .ok (.invokevirtual 170, 3) := dk_182 0 170 (dk_at dksX1_better_1 20 rfl rfl)
theorem dX1_better_47 : decode cX1_better 47 = .ok (.ifCond .eq 7, 3) := dk_153 0 7 (dk_at dksX1_better_2 0 rfl rfl)
theorem dX1_better_50 : decode cX1_better 50 = .ok (.iload_n 1, 1) := dk_27 (dk_at dksX1_better_2 3 rfl rfl)
theorem dX1_better_51 : decode cX1_better 51 = .ok (.goto 17, 3) := dk_167 0 17 (dk_at dksX1_better_2 4 rfl rfl)
theorem dX1_better_54 : decode cX1_better 54 = .ok (.aload 4, 2) := dk_25 4 (dk_at dksX1_better_2 7 rfl rfl)
theorem dX1_better_56 : decode cX1_better 56 = .ok (.aload_n 3, 1) := dk_45 (dk_at dksX1_better_2 9 rfl rfl)
theorem dX1_better_57 : decode cX1_better 57 = .ok (.invokevirtual 170, 3) := dk_182 0 170 (dk_at dksX1_better_2 10 rfl rfl)
theorem dX1_better_60 : decode cX1_better 60 = .ok (.ifCond .eq 7, 3) := dk_153 0 7 (dk_at dksX1_better_2 13 rfl rfl)
theorem dX1_better_63 : decode cX1_better 63 = .ok (.iload_n 2, 1) := dk_28 (dk_at dksX1_better_2 16 rfl rfl)
theorem dX1_better_64 : decode cX1_better 64 = .ok (.goto 4, 3) := dk_167 0 4 (dk_at dksX1_better_2 17 rfl rfl)
theorem dX1_better_67 : decode cX1_better 67 = .ok (.iconst (-1), 1) := dk_2 (dk_at dksX1_better_2 20 rfl rfl)
theorem dX1_better_68 : decode cX1_better 68 = .ok (.ireturn, 1) := dk_172 (dk_at dksX1_better_2 21 rfl rfl)
abbrev cX1_gap : ByteArray := prog_1_method_21_code
def yX1_gap : MethodName := ⟨RX1, "gap", "(I)I"⟩
def dkwX1_gap_1 : List UInt8 := [27, 182, 0, 167, 100, 172]
abbrev dktX1_gap_1 : List UInt8 := dkwX1_gap_1 ++ []
def dkwX1_gap_0 : List UInt8 := [27, 3, 5, 184, 0, 117, 184, 0, 121, 42, 8, 182, 0, 163, 27, 182, 0, 167, 42, 16, 6, 182, 0, 163]
abbrev dktX1_gap_0 : List UInt8 := dkwX1_gap_0 ++ dktX1_gap_1
theorem dksX1_gap_0 : cX1_gap.data.toList.drop 0 = dktX1_gap_0 := by decide +kernel
theorem dksX1_gap_1 : cX1_gap.data.toList.drop 24 = dktX1_gap_1 := dk_seg dksX1_gap_0 24 rfl rfl
theorem dX1_gap_0 : decode cX1_gap 0 = .ok (.iload_n 1, 1) := dk_27 (dk_at dksX1_gap_0 0 rfl rfl)
theorem dX1_gap_1 : decode cX1_gap 1 = .ok (.iconst 0, 1) := dk_3 (dk_at dksX1_gap_0 1 rfl rfl)
theorem dX1_gap_2 : decode cX1_gap 2 = .ok (.iconst 2, 1) := dk_5 (dk_at dksX1_gap_0 2 rfl rfl)
theorem dX1_gap_3 : decode cX1_gap 3 = .ok (.invokestatic 117, 3) := dk_184 0 117 (dk_at dksX1_gap_0 3 rfl rfl)
theorem dX1_gap_6 : decode cX1_gap 6 = .ok (.invokestatic 121, 3) := dk_184 0 121 (dk_at dksX1_gap_0 6 rfl rfl)
theorem dX1_gap_9 : decode cX1_gap 9 = .ok (.aload_n 0, 1) := dk_42 (dk_at dksX1_gap_0 9 rfl rfl)
theorem dX1_gap_10 : decode cX1_gap 10 = .ok (.iconst 5, 1) := dk_8 (dk_at dksX1_gap_0 10 rfl rfl)
theorem dX1_gap_11 : decode cX1_gap 11 = .ok (.invokevirtual 163, 3) := dk_182 0 163 (dk_at dksX1_gap_0 11 rfl rfl)
theorem dX1_gap_14 : decode cX1_gap 14 = .ok (.iload_n 1, 1) := dk_27 (dk_at dksX1_gap_0 14 rfl rfl)
theorem dX1_gap_15 : decode cX1_gap 15 = .ok (.invokevirtual 167, 3) := dk_182 0 167 (dk_at dksX1_gap_0 15 rfl rfl)
theorem dX1_gap_18 : decode cX1_gap 18 = .ok (.aload_n 0, 1) := dk_42 (dk_at dksX1_gap_0 18 rfl rfl)
theorem dX1_gap_19 : decode cX1_gap 19 = .ok (.bipush 6, 2) := dk_16 6 (dk_at dksX1_gap_0 19 rfl rfl)
theorem dX1_gap_21 : decode cX1_gap 21 = .ok (.invokevirtual 163, 3) := dk_182 0 163 (dk_at dksX1_gap_0 21 rfl rfl)
theorem dX1_gap_24 : decode cX1_gap 24 = .ok (.iload_n 1, 1) := dk_27 (dk_at dksX1_gap_1 0 rfl rfl)
theorem dX1_gap_25 : decode cX1_gap 25 = .ok (.invokevirtual 167, 3) := dk_182 0 167 (dk_at dksX1_gap_1 1 rfl rfl)
theorem dX1_gap_28 : decode cX1_gap 28 = .ok (.isub, 1) := dk_100 (dk_at dksX1_gap_1 4 rfl rfl)
theorem dX1_gap_29 : decode cX1_gap 29 = .ok (.ireturn, 1) := dk_172 (dk_at dksX1_gap_1 5 rfl rfl)
abbrev cX1_history : ByteArray := prog_1_method_22_code
def yX1_history : MethodName := ⟨RX1, "history", "(II)I"⟩
def dkwX1_history_3 : List UInt8 := [28, 4, 100, 46, 167, 0, 4, 2, 172]
abbrev dktX1_history_3 : List UInt8 := dkwX1_history_3 ++ []
def dkwX1_history_2 : List UInt8 := [28, 154, 0, 10, 45, 180, 0, 174, 167, 0, 24, 28, 45, 180, 0, 177, 190, 163, 0, 14, 45, 180, 0, 177]
abbrev dktX1_history_2 : List UInt8 := dkwX1_history_2 ++ dktX1_history_3
def dkwX1_history_1 : List UInt8 := [6, 184, 0, 117, 184, 0, 121, 42, 180, 0, 27, 180, 0, 74, 27, 185, 0, 139, 2, 0, 192, 0, 69, 78]
abbrev dktX1_history_1 : List UInt8 := dkwX1_history_1 ++ dktX1_history_2
def dkwX1_history_0 : List UInt8 := [27, 3, 42, 180, 0, 27, 180, 0, 74, 185, 0, 78, 1, 0, 4, 100, 184, 0, 117, 184, 0, 133, 28, 3]
abbrev dktX1_history_0 : List UInt8 := dkwX1_history_0 ++ dktX1_history_1
theorem dksX1_history_0 : cX1_history.data.toList.drop 0 = dktX1_history_0 := by decide +kernel
theorem dksX1_history_1 : cX1_history.data.toList.drop 24 = dktX1_history_1 := dk_seg dksX1_history_0 24 rfl rfl
theorem dksX1_history_2 : cX1_history.data.toList.drop 48 = dktX1_history_2 := dk_seg dksX1_history_1 24 rfl rfl
theorem dksX1_history_3 : cX1_history.data.toList.drop 72 = dktX1_history_3 := dk_seg dksX1_history_2 24 rfl rfl
theorem dX1_history_0 : decode cX1_history 0 = .ok (.iload_n 1, 1) := dk_27 (dk_at dksX1_history_0 0 rfl rfl)
theorem dX1_history_1 : decode cX1_history 1 = .ok (.iconst 0, 1) := dk_3 (dk_at dksX1_history_0 1 rfl rfl)
theorem dX1_history_2 : decode cX1_history 2 = .ok (.aload_n 0, 1) := dk_42 (dk_at dksX1_history_0 2 rfl rfl)
theorem dX1_history_3 : decode cX1_history 3 = .ok (.getfield 27, 3) := dk_180 0 27 (dk_at dksX1_history_0 3 rfl rfl)
theorem dX1_history_6 : decode cX1_history 6 = .ok (.getfield 74, 3) := dk_180 0 74 (dk_at dksX1_history_0 6 rfl rfl)
theorem dX1_history_9 : decode cX1_history 9 = .ok (.invokeinterface 78 1, 5) := by decide +kernel
theorem dX1_history_14 : decode cX1_history 14 = .ok (.iconst 1, 1) := dk_4 (dk_at dksX1_history_0 14 rfl rfl)
theorem dX1_history_15 : decode cX1_history 15 = .ok (.isub, 1) := dk_100 (dk_at dksX1_history_0 15 rfl rfl)
theorem dX1_history_16 : decode cX1_history 16 = .ok (.invokestatic 117, 3) := dk_184 0 117 (dk_at dksX1_history_0 16 rfl rfl)
theorem dX1_history_19 : decode cX1_history 19 = .ok (.invokestatic 133, 3) := dk_184 0 133 (dk_at dksX1_history_0 19 rfl rfl)
theorem dX1_history_22 : decode cX1_history 22 = .ok (.iload_n 2, 1) := dk_28 (dk_at dksX1_history_0 22 rfl rfl)
theorem dX1_history_23 : decode cX1_history 23 = .ok (.iconst 0, 1) := dk_3 (dk_at dksX1_history_0 23 rfl rfl)
theorem dX1_history_24 : decode cX1_history 24 = .ok (.iconst 3, 1) := dk_6 (dk_at dksX1_history_1 0 rfl rfl)
theorem dX1_history_25 : decode cX1_history 25 = .ok (.invokestatic 117, 3) := dk_184 0 117 (dk_at dksX1_history_1 1 rfl rfl)
theorem dX1_history_28 : decode cX1_history 28 = .ok (.invokestatic 121, 3) := dk_184 0 121 (dk_at dksX1_history_1 4 rfl rfl)
theorem dX1_history_31 : decode cX1_history 31 = .ok (.aload_n 0, 1) := dk_42 (dk_at dksX1_history_1 7 rfl rfl)
theorem dX1_history_32 : decode cX1_history 32 = .ok (.getfield 27, 3) := dk_180 0 27 (dk_at dksX1_history_1 8 rfl rfl)
theorem dX1_history_35 : decode cX1_history 35 = .ok (.getfield 74, 3) := dk_180 0 74 (dk_at dksX1_history_1 11 rfl rfl)
theorem dX1_history_38 : decode cX1_history 38 = .ok (.iload_n 1, 1) := dk_27 (dk_at dksX1_history_1 14 rfl rfl)
theorem dX1_history_39 : decode cX1_history 39 = .ok (.invokeinterface 139 2, 5) := by decide +kernel
theorem dX1_history_44 : decode cX1_history 44 = .ok (.checkcast 69, 3) := dk_192 0 69 (dk_at dksX1_history_1 20 rfl rfl)
theorem dX1_history_47 : decode cX1_history 47 = .ok (.astore_n 3, 1) := dk_78 (dk_at dksX1_history_1 23 rfl rfl)
theorem dX1_history_48 : decode cX1_history 48 = .ok (.iload_n 2, 1) := dk_28 (dk_at dksX1_history_2 0 rfl rfl)
theorem dX1_history_49 : decode cX1_history 49 = .ok (.ifCond .ne 10, 3) := dk_154 0 10 (dk_at dksX1_history_2 1 rfl rfl)
theorem dX1_history_52 : decode cX1_history 52 = .ok (.aload_n 3, 1) := dk_45 (dk_at dksX1_history_2 4 rfl rfl)
theorem dX1_history_53 : decode cX1_history 53 = .ok (.getfield 174, 3) := dk_180 0 174 (dk_at dksX1_history_2 5 rfl rfl)
theorem dX1_history_56 : decode cX1_history 56 = .ok (.goto 24, 3) := dk_167 0 24 (dk_at dksX1_history_2 8 rfl rfl)
theorem dX1_history_59 : decode cX1_history 59 = .ok (.iload_n 2, 1) := dk_28 (dk_at dksX1_history_2 11 rfl rfl)
theorem dX1_history_60 : decode cX1_history 60 = .ok (.aload_n 3, 1) := dk_45 (dk_at dksX1_history_2 12 rfl rfl)
theorem dX1_history_61 : decode cX1_history 61 = .ok (.getfield 177, 3) := dk_180 0 177 (dk_at dksX1_history_2 13 rfl rfl)
theorem dX1_history_64 : decode cX1_history 64 = .ok (.arraylength, 1) := dk_190 (dk_at dksX1_history_2 16 rfl rfl)
theorem dX1_history_65 : decode cX1_history 65 = .ok (.if_icmp .gt 14, 3) := dk_163 0 14 (dk_at dksX1_history_2 17 rfl rfl)
theorem dX1_history_68 : decode cX1_history 68 = .ok (.aload_n 3, 1) := dk_45 (dk_at dksX1_history_2 20 rfl rfl)
theorem dX1_history_69 : decode cX1_history 69 = .ok (.getfield 177, 3) := dk_180 0 177 (dk_at dksX1_history_2 21 rfl rfl)
theorem dX1_history_72 : decode cX1_history 72 = .ok (.iload_n 2, 1) := dk_28 (dk_at dksX1_history_3 0 rfl rfl)
theorem dX1_history_73 : decode cX1_history 73 = .ok (.iconst 1, 1) := dk_4 (dk_at dksX1_history_3 1 rfl rfl)
theorem dX1_history_74 : decode cX1_history 74 = .ok (.isub, 1) := dk_100 (dk_at dksX1_history_3 2 rfl rfl)
theorem dX1_history_75 : decode cX1_history 75 = .ok (.iaload, 1) := dk_46 (dk_at dksX1_history_3 3 rfl rfl)
theorem dX1_history_76 : decode cX1_history 76 = .ok (.goto 4, 3) := dk_167 0 4 (dk_at dksX1_history_3 4 rfl rfl)
theorem dX1_history_79 : decode cX1_history 79 = .ok (.iconst (-1), 1) := dk_2 (dk_at dksX1_history_3 7 rfl rfl)
theorem dX1_history_80 : decode cX1_history 80 = .ok (.ireturn, 1) := dk_172 (dk_at dksX1_history_3 8 rfl rfl)
abbrev cX1_show : ByteArray := prog_1_method_56_code
def yX1_show : MethodName := ⟨RX1, "show", "(I)I"⟩
def dkwX1_show_7 : List UInt8 := [159, 0, 13, 42, 180, 0, 53, 16, 120, 182, 1, 132, 87, 167, 255, 199, 42, 180, 0, 53, 182, 1, 139, 172]
abbrev dktX1_show_7 : List UInt8 := dkwX1_show_7 ++ []
def dkwX1_show_6 : List UInt8 := [180, 0, 53, 16, 32, 182, 1, 132, 25, 4, 180, 1, 0, 182, 1, 128, 87, 25, 4, 180, 0, 251, 27]
abbrev dktX1_show_6 : List UInt8 := dkwX1_show_6 ++ dktX1_show_7
def dkwX1_show_5 : List UInt8 := [78, 45, 185, 0, 243, 1, 0, 153, 0, 54, 45, 185, 0, 248, 1, 0, 192, 0, 143, 58, 4, 42]
abbrev dktX1_show_5 : List UInt8 := dkwX1_show_5 ++ dktX1_show_6
def dkwX1_show_4 : List UInt8 := [180, 0, 27, 180, 0, 192, 5, 46, 104, 4, 100, 182, 1, 128, 87, 44, 180, 0, 238, 185, 0, 239, 1, 0]
abbrev dktX1_show_4 : List UInt8 := dkwX1_show_4 ++ dktX1_show_5
def dkwX1_show_3 : List UInt8 := [180, 0, 27, 180, 0, 192, 5, 46, 104, 182, 1, 128, 16, 45, 182, 1, 132, 44, 180, 1, 3, 4, 96, 42]
abbrev dktX1_show_3 : List UInt8 := dkwX1_show_3 ++ dktX1_show_4
def dkwX1_show_2 : List UInt8 := [42, 180, 0, 53, 19, 1, 135, 182, 1, 136, 87, 167, 0, 51, 42, 180, 0, 53, 44, 180, 1, 3, 42]
abbrev dktX1_show_2 : List UInt8 := dkwX1_show_2 ++ dktX1_show_3
def dkwX1_show_1 : List UInt8 := [182, 1, 125, 42, 180, 0, 53, 27, 182, 1, 128, 16, 32, 182, 1, 132, 87, 44, 182, 1, 95, 153, 0, 17]
abbrev dktX1_show_1 : List UInt8 := dkwX1_show_1 ++ dktX1_show_2
def dkwX1_show_0 : List UInt8 := [42, 27, 182, 0, 136, 184, 0, 133, 42, 182, 0, 92, 180, 0, 205, 27, 50, 77, 42, 180, 0, 53, 3]
abbrev dktX1_show_0 : List UInt8 := dkwX1_show_0 ++ dktX1_show_1
theorem dksX1_show_0 : cX1_show.data.toList.drop 0 = dktX1_show_0 := by decide +kernel
theorem dksX1_show_1 : cX1_show.data.toList.drop 23 = dktX1_show_1 := dk_seg dksX1_show_0 23 rfl rfl
theorem dksX1_show_2 : cX1_show.data.toList.drop 47 = dktX1_show_2 := dk_seg dksX1_show_1 24 rfl rfl
theorem dksX1_show_3 : cX1_show.data.toList.drop 70 = dktX1_show_3 := dk_seg dksX1_show_2 23 rfl rfl
theorem dksX1_show_4 : cX1_show.data.toList.drop 94 = dktX1_show_4 := dk_seg dksX1_show_3 24 rfl rfl
theorem dksX1_show_5 : cX1_show.data.toList.drop 118 = dktX1_show_5 := dk_seg dksX1_show_4 24 rfl rfl
theorem dksX1_show_6 : cX1_show.data.toList.drop 140 = dktX1_show_6 := dk_seg dksX1_show_5 22 rfl rfl
theorem dksX1_show_7 : cX1_show.data.toList.drop 163 = dktX1_show_7 := dk_seg dksX1_show_6 23 rfl rfl
theorem dX1_show_0 : decode cX1_show 0 = .ok (.aload_n 0, 1) := dk_42 (dk_at dksX1_show_0 0 rfl rfl)
theorem dX1_show_1 : decode cX1_show 1 = .ok (.iload_n 1, 1) := dk_27 (dk_at dksX1_show_0 1 rfl rfl)
theorem dX1_show_2 : decode cX1_show 2 = .ok (.invokevirtual 136, 3) := dk_182 0 136 (dk_at dksX1_show_0 2 rfl rfl)
theorem dX1_show_5 : decode cX1_show 5 = .ok (.invokestatic 133, 3) := dk_184 0 133 (dk_at dksX1_show_0 5 rfl rfl)
theorem dX1_show_8 : decode cX1_show 8 = .ok (.aload_n 0, 1) := dk_42 (dk_at dksX1_show_0 8 rfl rfl)
theorem dX1_show_9 : decode cX1_show 9 = .ok (.invokevirtual 92, 3) := dk_182 0 92 (dk_at dksX1_show_0 9 rfl rfl)
theorem dX1_show_12 : decode cX1_show 12 = .ok (.getfield 205, 3) := dk_180 0 205 (dk_at dksX1_show_0 12 rfl rfl)
theorem dX1_show_15 : decode cX1_show 15 = .ok (.iload_n 1, 1) := dk_27 (dk_at dksX1_show_0 15 rfl rfl)
theorem dX1_show_16 : decode cX1_show 16 = .ok (.aaload, 1) := dk_50 (dk_at dksX1_show_0 16 rfl rfl)
theorem dX1_show_17 : decode cX1_show 17 = .ok (.astore_n 2, 1) := dk_77 (dk_at dksX1_show_0 17 rfl rfl)
theorem dX1_show_18 : decode cX1_show 18 = .ok (.aload_n 0, 1) := dk_42 (dk_at dksX1_show_0 18 rfl rfl)
theorem dX1_show_19 : decode cX1_show 19 = .ok (.getfield 53, 3) := dk_180 0 53 (dk_at dksX1_show_0 19 rfl rfl)
theorem dX1_show_22 : decode cX1_show 22 = .ok (.iconst 0, 1) := dk_3 (dk_at dksX1_show_0 22 rfl rfl)
theorem dX1_show_23 : decode cX1_show 23 = .ok (.invokevirtual 381, 3) := dk_182 1 125 (dk_at dksX1_show_1 0 rfl rfl)
theorem dX1_show_26 : decode cX1_show 26 = .ok (.aload_n 0, 1) := dk_42 (dk_at dksX1_show_1 3 rfl rfl)
theorem dX1_show_27 : decode cX1_show 27 = .ok (.getfield 53, 3) := dk_180 0 53 (dk_at dksX1_show_1 4 rfl rfl)
theorem dX1_show_30 : decode cX1_show 30 = .ok (.iload_n 1, 1) := dk_27 (dk_at dksX1_show_1 7 rfl rfl)
theorem dX1_show_31 : decode cX1_show 31 = .ok (.invokevirtual 384, 3) := dk_182 1 128 (dk_at dksX1_show_1 8 rfl rfl)
theorem dX1_show_34 : decode cX1_show 34 = .ok (.bipush 32, 2) := dk_16 32 (dk_at dksX1_show_1 11 rfl rfl)
theorem dX1_show_36 : decode cX1_show 36 = .ok (.invokevirtual 388, 3) := dk_182 1 132 (dk_at dksX1_show_1 13 rfl rfl)
theorem dX1_show_39 : decode cX1_show 39 = .ok (.pop, 1) := dk_87 (dk_at dksX1_show_1 16 rfl rfl)
theorem dX1_show_40 : decode cX1_show 40 = .ok (.aload_n 2, 1) := dk_44 (dk_at dksX1_show_1 17 rfl rfl)
theorem dX1_show_41 : decode cX1_show 41 = .ok (.invokevirtual 351, 3) := dk_182 1 95 (dk_at dksX1_show_1 18 rfl rfl)
theorem dX1_show_44 : decode cX1_show 44 = .ok (.ifCond .eq 17, 3) := dk_153 0 17 (dk_at dksX1_show_1 21 rfl rfl)
theorem dX1_show_47 : decode cX1_show 47 = .ok (.aload_n 0, 1) := dk_42 (dk_at dksX1_show_2 0 rfl rfl)
theorem dX1_show_48 : decode cX1_show 48 = .ok (.getfield 53, 3) := dk_180 0 53 (dk_at dksX1_show_2 1 rfl rfl)
theorem dX1_show_51 : decode cX1_show 51 = .ok (.ldc_w 391, 3) := dk_19 1 135 (dk_at dksX1_show_2 4 rfl rfl)
theorem dX1_show_54 : decode cX1_show 54 = .ok (.invokevirtual 392, 3) := dk_182 1 136 (dk_at dksX1_show_2 7 rfl rfl)
theorem dX1_show_57 : decode cX1_show 57 = .ok (.pop, 1) := dk_87 (dk_at dksX1_show_2 10 rfl rfl)
theorem dX1_show_58 : decode cX1_show 58 = .ok (.goto 51, 3) := dk_167 0 51 (dk_at dksX1_show_2 11 rfl rfl)
theorem dX1_show_61 : decode cX1_show 61 = .ok (.aload_n 0, 1) := dk_42 (dk_at dksX1_show_2 14 rfl rfl)
theorem dX1_show_62 : decode cX1_show 62 = .ok (.getfield 53, 3) := dk_180 0 53 (dk_at dksX1_show_2 15 rfl rfl)
theorem dX1_show_65 : decode cX1_show 65 = .ok (.aload_n 2, 1) := dk_44 (dk_at dksX1_show_2 18 rfl rfl)
theorem dX1_show_66 : decode cX1_show 66 = .ok (.getfield 259, 3) := dk_180 1 3 (dk_at dksX1_show_2 19 rfl rfl)
theorem dX1_show_69 : decode cX1_show 69 = .ok (.aload_n 0, 1) := dk_42 (dk_at dksX1_show_2 22 rfl rfl)
theorem dX1_show_70 : decode cX1_show 70 = .ok (.getfield 27, 3) := dk_180 0 27 (dk_at dksX1_show_3 0 rfl rfl)
theorem dX1_show_73 : decode cX1_show 73 = .ok (.getfield 192, 3) := dk_180 0 192 (dk_at dksX1_show_3 3 rfl rfl)
theorem dX1_show_76 : decode cX1_show 76 = .ok (.iconst 2, 1) := dk_5 (dk_at dksX1_show_3 6 rfl rfl)
theorem dX1_show_77 : decode cX1_show 77 = .ok (.iaload, 1) := dk_46 (dk_at dksX1_show_3 7 rfl rfl)
theorem dX1_show_78 : decode cX1_show 78 = .ok (.imul, 1) := dk_104 (dk_at dksX1_show_3 8 rfl rfl)
theorem dX1_show_79 : decode cX1_show 79 = .ok (.invokevirtual 384, 3) := dk_182 1 128 (dk_at dksX1_show_3 9 rfl rfl)
theorem dX1_show_82 : decode cX1_show 82 = .ok (.bipush 45, 2) := dk_16 45 (dk_at dksX1_show_3 12 rfl rfl)
theorem dX1_show_84 : decode cX1_show 84 = .ok (.invokevirtual 388, 3) := dk_182 1 132 (dk_at dksX1_show_3 14 rfl rfl)
theorem dX1_show_87 : decode cX1_show 87 = .ok (.aload_n 2, 1) := dk_44 (dk_at dksX1_show_3 17 rfl rfl)
theorem dX1_show_88 : decode cX1_show 88 = .ok (.getfield 259, 3) := dk_180 1 3 (dk_at dksX1_show_3 18 rfl rfl)
theorem dX1_show_91 : decode cX1_show 91 = .ok (.iconst 1, 1) := dk_4 (dk_at dksX1_show_3 21 rfl rfl)
theorem dX1_show_92 : decode cX1_show 92 = .ok (.iadd, 1) := dk_96 (dk_at dksX1_show_3 22 rfl rfl)
theorem dX1_show_93 : decode cX1_show 93 = .ok (.aload_n 0, 1) := dk_42 (dk_at dksX1_show_3 23 rfl rfl)
theorem dX1_show_94 : decode cX1_show 94 = .ok (.getfield 27, 3) := dk_180 0 27 (dk_at dksX1_show_4 0 rfl rfl)
theorem dX1_show_97 : decode cX1_show 97 = .ok (.getfield 192, 3) := dk_180 0 192 (dk_at dksX1_show_4 3 rfl rfl)
theorem dX1_show_100 : decode cX1_show 100 = .ok (.iconst 2, 1) := dk_5 (dk_at dksX1_show_4 6 rfl rfl)
theorem dX1_show_101 : decode cX1_show 101 = .ok (.iaload, 1) := dk_46 (dk_at dksX1_show_4 7 rfl rfl)
theorem dX1_show_102 : decode cX1_show 102 = .ok (.imul, 1) := dk_104 (dk_at dksX1_show_4 8 rfl rfl)
theorem dX1_show_103 : decode cX1_show 103 = .ok (.iconst 1, 1) := dk_4 (dk_at dksX1_show_4 9 rfl rfl)
theorem dX1_show_104 : decode cX1_show 104 = .ok (.isub, 1) := dk_100 (dk_at dksX1_show_4 10 rfl rfl)
theorem dX1_show_105 : decode cX1_show 105 = .ok (.invokevirtual 384, 3) := dk_182 1 128 (dk_at dksX1_show_4 11 rfl rfl)
theorem dX1_show_108 : decode cX1_show 108 = .ok (.pop, 1) := dk_87 (dk_at dksX1_show_4 14 rfl rfl)
theorem dX1_show_109 : decode cX1_show 109 = .ok (.aload_n 2, 1) := dk_44 (dk_at dksX1_show_4 15 rfl rfl)
theorem dX1_show_110 : decode cX1_show 110 = .ok (.getfield 238, 3) := dk_180 0 238 (dk_at dksX1_show_4 16 rfl rfl)
theorem dX1_show_113 : decode cX1_show 113 = .ok (.invokeinterface 239 1, 5) := by decide +kernel
theorem dX1_show_118 : decode cX1_show 118 = .ok (.astore_n 3, 1) := dk_78 (dk_at dksX1_show_5 0 rfl rfl)
theorem dX1_show_119 : decode cX1_show 119 = .ok (.aload_n 3, 1) := dk_45 (dk_at dksX1_show_5 1 rfl rfl)
theorem dX1_show_120 : decode cX1_show 120 = .ok (.invokeinterface 243 1, 5) := by decide +kernel
theorem dX1_show_125 : decode cX1_show 125 = .ok (.ifCond .eq 54, 3) := dk_153 0 54 (dk_at dksX1_show_5 7 rfl rfl)
theorem dX1_show_128 : decode cX1_show 128 = .ok (.aload_n 3, 1) := dk_45 (dk_at dksX1_show_5 10 rfl rfl)
theorem dX1_show_129 : decode cX1_show 129 = .ok (.invokeinterface 248 1, 5) := by decide +kernel
theorem dX1_show_134 : decode cX1_show 134 = .ok (.checkcast 143, 3) := dk_192 0 143 (dk_at dksX1_show_5 16 rfl rfl)
theorem dX1_show_137 : decode cX1_show 137 = .ok (.astore 4, 2) := dk_58 4 (dk_at dksX1_show_5 19 rfl rfl)
theorem dX1_show_139 : decode cX1_show 139 = .ok (.aload_n 0, 1) := dk_42 (dk_at dksX1_show_5 21 rfl rfl)
theorem dX1_show_140 : decode cX1_show 140 = .ok (.getfield 53, 3) := dk_180 0 53 (dk_at dksX1_show_6 0 rfl rfl)
theorem dX1_show_143 : decode cX1_show 143 = .ok (.bipush 32, 2) := dk_16 32 (dk_at dksX1_show_6 3 rfl rfl)
theorem dX1_show_145 : decode cX1_show 145 = .ok (.invokevirtual 388, 3) := dk_182 1 132 (dk_at dksX1_show_6 5 rfl rfl)
theorem dX1_show_148 : decode cX1_show 148 = .ok (.aload 4, 2) := dk_25 4 (dk_at dksX1_show_6 8 rfl rfl)
theorem dX1_show_150 : decode cX1_show 150 = .ok (.getfield 256, 3) := dk_180 1 0 (dk_at dksX1_show_6 10 rfl rfl)
theorem dX1_show_153 : decode cX1_show 153 = .ok (.invokevirtual 384, 3) := dk_182 1 128 (dk_at dksX1_show_6 13 rfl rfl)
theorem dX1_show_156 : decode cX1_show 156 = .ok (.pop, 1) := dk_87 (dk_at dksX1_show_6 16 rfl rfl)
theorem dX1_show_157 : decode cX1_show 157 = .ok (.aload 4, 2) := dk_25 4 (dk_at dksX1_show_6 17 rfl rfl)
theorem dX1_show_159 : decode cX1_show 159 = .ok (.getfield 251, 3) := dk_180 0 251 (dk_at dksX1_show_6 19 rfl rfl)
theorem dX1_show_162 : decode cX1_show 162 = .ok (.iload_n 1, 1) := dk_27 (dk_at dksX1_show_6 22 rfl rfl)
theorem dX1_show_163 : decode cX1_show 163 = .ok (.if_icmp .eq 13, 3) := dk_159 0 13 (dk_at dksX1_show_7 0 rfl rfl)
theorem dX1_show_166 : decode cX1_show 166 = .ok (.aload_n 0, 1) := dk_42 (dk_at dksX1_show_7 3 rfl rfl)
theorem dX1_show_167 : decode cX1_show 167 = .ok (.getfield 53, 3) := dk_180 0 53 (dk_at dksX1_show_7 4 rfl rfl)
theorem dX1_show_170 : decode cX1_show 170 = .ok (.bipush 120, 2) := dk_16 120 (dk_at dksX1_show_7 7 rfl rfl)
theorem dX1_show_172 : decode cX1_show 172 = .ok (.invokevirtual 388, 3) := dk_182 1 132 (dk_at dksX1_show_7 9 rfl rfl)
theorem dX1_show_175 : decode cX1_show 175 = .ok (.pop, 1) := dk_87 (dk_at dksX1_show_7 12 rfl rfl)
theorem dX1_show_176 : decode cX1_show 176 = .ok (.goto (-57), 3) := dk_167 255 199 (dk_at dksX1_show_7 13 rfl rfl)
theorem dX1_show_179 : decode cX1_show 179 = .ok (.aload_n 0, 1) := dk_42 (dk_at dksX1_show_7 16 rfl rfl)
theorem dX1_show_180 : decode cX1_show 180 = .ok (.getfield 53, 3) := dk_180 0 53 (dk_at dksX1_show_7 17 rfl rfl)
theorem dX1_show_183 : decode cX1_show 183 = .ok (.invokevirtual 395, 3) := dk_182 1 139 (dk_at dksX1_show_7 20 rfl rfl)
theorem dX1_show_186 : decode cX1_show 186 = .ok (.ireturn, 1) := dk_172 (dk_at dksX1_show_7 23 rfl rfl)
abbrev cX1_save : ByteArray := prog_1_method_66_code
def yX1_save : MethodName := ⟨RX1, "save", "(I)V"⟩
def dkwX1_save_0 : List UInt8 := [27, 3, 4, 184, 0, 117, 184, 0, 121, 42, 180, 0, 42, 27, 42, 180, 0, 27, 182, 0, 88, 83, 177]
abbrev dktX1_save_0 : List UInt8 := dkwX1_save_0 ++ []
theorem dksX1_save_0 : cX1_save.data.toList.drop 0 = dktX1_save_0 := by decide +kernel
theorem dX1_save_0 : decode cX1_save 0 = .ok (.iload_n 1, 1) := dk_27 (dk_at dksX1_save_0 0 rfl rfl)
theorem dX1_save_1 : decode cX1_save 1 = .ok (.iconst 0, 1) := dk_3 (dk_at dksX1_save_0 1 rfl rfl)
theorem dX1_save_2 : decode cX1_save 2 = .ok (.iconst 1, 1) := dk_4 (dk_at dksX1_save_0 2 rfl rfl)
theorem dX1_save_3 : decode cX1_save 3 = .ok (.invokestatic 117, 3) := dk_184 0 117 (dk_at dksX1_save_0 3 rfl rfl)
theorem dX1_save_6 : decode cX1_save 6 = .ok (.invokestatic 121, 3) := dk_184 0 121 (dk_at dksX1_save_0 6 rfl rfl)
theorem dX1_save_9 : decode cX1_save 9 = .ok (.aload_n 0, 1) := dk_42 (dk_at dksX1_save_0 9 rfl rfl)
theorem dX1_save_10 : decode cX1_save 10 = .ok (.getfield 42, 3) := dk_180 0 42 (dk_at dksX1_save_0 10 rfl rfl)
theorem dX1_save_13 : decode cX1_save 13 = .ok (.iload_n 1, 1) := dk_27 (dk_at dksX1_save_0 13 rfl rfl)
theorem dX1_save_14 : decode cX1_save 14 = .ok (.aload_n 0, 1) := dk_42 (dk_at dksX1_save_0 14 rfl rfl)
theorem dX1_save_15 : decode cX1_save 15 = .ok (.getfield 27, 3) := dk_180 0 27 (dk_at dksX1_save_0 15 rfl rfl)
theorem dX1_save_18 : decode cX1_save 18 = .ok (.invokevirtual 88, 3) := dk_182 0 88 (dk_at dksX1_save_0 18 rfl rfl)
theorem dX1_save_21 : decode cX1_save 21 = .ok (.aastore, 1) := dk_83 (dk_at dksX1_save_0 21 rfl rfl)
theorem dX1_save_22 : decode cX1_save 22 = .ok (.return_, 1) := dk_177 (dk_at dksX1_save_0 22 rfl rfl)
abbrev cX1_restore : ByteArray := prog_1_method_67_code
def yX1_restore : MethodName := ⟨RX1, "restore", "(I)V"⟩
def dkwX1_restore_1 : List UInt8 := [184, 0, 189, 42, 42, 180, 0, 42, 27, 50, 182, 0, 88, 181, 0, 27, 42, 180, 0, 38, 182, 0, 202, 177]
abbrev dktX1_restore_1 : List UInt8 := dkwX1_restore_1 ++ []
def dkwX1_restore_0 : List UInt8 := [27, 3, 4, 184, 0, 117, 184, 0, 121, 42, 180, 0, 42, 27, 50, 198, 0, 7, 4, 167, 0, 4, 3]
abbrev dktX1_restore_0 : List UInt8 := dkwX1_restore_0 ++ dktX1_restore_1
theorem dksX1_restore_0 : cX1_restore.data.toList.drop 0 = dktX1_restore_0 := by decide +kernel
theorem dksX1_restore_1 : cX1_restore.data.toList.drop 23 = dktX1_restore_1 := dk_seg dksX1_restore_0 23 rfl rfl
theorem dX1_restore_0 : decode cX1_restore 0 = .ok (.iload_n 1, 1) := dk_27 (dk_at dksX1_restore_0 0 rfl rfl)
theorem dX1_restore_1 : decode cX1_restore 1 = .ok (.iconst 0, 1) := dk_3 (dk_at dksX1_restore_0 1 rfl rfl)
theorem dX1_restore_2 : decode cX1_restore 2 = .ok (.iconst 1, 1) := dk_4 (dk_at dksX1_restore_0 2 rfl rfl)
theorem dX1_restore_3 : decode cX1_restore 3 = .ok (.invokestatic 117, 3) := dk_184 0 117 (dk_at dksX1_restore_0 3 rfl rfl)
theorem dX1_restore_6 : decode cX1_restore 6 = .ok (.invokestatic 121, 3) := dk_184 0 121 (dk_at dksX1_restore_0 6 rfl rfl)
theorem dX1_restore_9 : decode cX1_restore 9 = .ok (.aload_n 0, 1) := dk_42 (dk_at dksX1_restore_0 9 rfl rfl)
theorem dX1_restore_10 : decode cX1_restore 10 = .ok (.getfield 42, 3) := dk_180 0 42 (dk_at dksX1_restore_0 10 rfl rfl)
theorem dX1_restore_13 : decode cX1_restore 13 = .ok (.iload_n 1, 1) := dk_27 (dk_at dksX1_restore_0 13 rfl rfl)
theorem dX1_restore_14 : decode cX1_restore 14 = .ok (.aaload, 1) := dk_50 (dk_at dksX1_restore_0 14 rfl rfl)
theorem dX1_restore_15 : decode cX1_restore 15 = .ok (.ifnull 7, 3) := dk_198 0 7 (dk_at dksX1_restore_0 15 rfl rfl)
theorem dX1_restore_18 : decode cX1_restore 18 = .ok (.iconst 1, 1) := dk_4 (dk_at dksX1_restore_0 18 rfl rfl)
theorem dX1_restore_19 : decode cX1_restore 19 = .ok (.goto 4, 3) := dk_167 0 4 (dk_at dksX1_restore_0 19 rfl rfl)
theorem dX1_restore_22 : decode cX1_restore 22 = .ok (.iconst 0, 1) := dk_3 (dk_at dksX1_restore_0 22 rfl rfl)
theorem dX1_restore_23 : decode cX1_restore 23 = .ok (.invokestatic 189, 3) := dk_184 0 189 (dk_at dksX1_restore_1 0 rfl rfl)
theorem dX1_restore_26 : decode cX1_restore 26 = .ok (.aload_n 0, 1) := dk_42 (dk_at dksX1_restore_1 3 rfl rfl)
theorem dX1_restore_27 : decode cX1_restore 27 = .ok (.aload_n 0, 1) := dk_42 (dk_at dksX1_restore_1 4 rfl rfl)
theorem dX1_restore_28 : decode cX1_restore 28 = .ok (.getfield 42, 3) := dk_180 0 42 (dk_at dksX1_restore_1 5 rfl rfl)
theorem dX1_restore_31 : decode cX1_restore 31 = .ok (.iload_n 1, 1) := dk_27 (dk_at dksX1_restore_1 8 rfl rfl)
theorem dX1_restore_32 : decode cX1_restore 32 = .ok (.aaload, 1) := dk_50 (dk_at dksX1_restore_1 9 rfl rfl)
theorem dX1_restore_33 : decode cX1_restore 33 = .ok (.invokevirtual 88, 3) := dk_182 0 88 (dk_at dksX1_restore_1 10 rfl rfl)
theorem dX1_restore_36 : decode cX1_restore 36 = .ok (.putfield 27, 3) := dk_181 0 27 (dk_at dksX1_restore_1 13 rfl rfl)
theorem dX1_restore_39 : decode cX1_restore 39 = .ok (.aload_n 0, 1) := dk_42 (dk_at dksX1_restore_1 16 rfl rfl)
theorem dX1_restore_40 : decode cX1_restore 40 = .ok (.getfield 38, 3) := dk_180 0 38 (dk_at dksX1_restore_1 17 rfl rfl)
theorem dX1_restore_43 : decode cX1_restore 43 = .ok (.invokevirtual 202, 3) := dk_182 0 202 (dk_at dksX1_restore_1 20 rfl rfl)
theorem dX1_restore_46 : decode cX1_restore 46 = .ok (.return_, 1) := dk_177 (dk_at dksX1_restore_1 23 rfl rfl)
theorem q113 : (Jvm.Cond.initialized "FlashZones") ∈ lw_all := lw_g (lw_at lw_m1 1 rfl) rfl
theorem q151 : (Jvm.Cond.instantiable "FlashZones" (9 : Nat)) ∈ lw_all := lw_g (lw_at lw_m1 39 rfl) rfl
theorem q153 : (Jvm.Cond.instanceMethod ({ cls := "FlashZones", name := "<init>", desc := "()V" } : Jvm.MethodName)) ∈ lw_all := lw_g (lw_at lw_m1 41 rfl) rfl
theorem q154 : (Jvm.Cond.code ({ cls := "FlashZones", name := "<init>", desc := "()V" } : Jvm.MethodName) prog_1_method_7_code (1 : Nat) (Option.none : Option Jvm.ClassFile.FieldType)) ∈ lw_all := lw_g (lw_at lw_m1 42 rfl) rfl
theorem q155 : (Jvm.Cond.methodLink "FlashZones" (19 : Nat) ({ cls := "java/lang/Object", name := "<init>", desc := "()V" } : Jvm.MethodName)) ∈ lw_all := lw_g (lw_at lw_m1 43 rfl) rfl
theorem q158 : (Jvm.Cond.classLink "FlashZones" (24 : Nat) "FlashZones$Book") ∈ lw_all := lw_g (lw_at lw_m1 46 rfl) rfl
theorem q160 : (Jvm.Cond.methodLink "FlashZones" (26 : Nat) ({ cls := "FlashZones$Book", name := "<init>", desc := "()V" } : Jvm.MethodName)) ∈ lw_all := lw_g (lw_at lw_m1 48 rfl) rfl
theorem q164 : (Jvm.Cond.laysStatic "FlashZones" "FIRST" "[I") ∈ lw_tbl := lw_at lw_m1 52 rfl
theorem q576 : (Jvm.Cond.fieldLinkNest "FlashZones" (259 : Nat) "FlashZones$Zone" "window" "I" "FlashZones") ∈ lw_tbl := lw_at lw_m2 224 rfl
theorem q579 : (Jvm.Cond.fieldLinkNest "FlashZones" (209 : Nat) "FlashZones$Zone" "filled" "I" "FlashZones") ∈ lw_tbl := lw_at lw_m2 227 rfl
theorem q583 : (Jvm.Cond.fieldLinkNest "FlashZones" (268 : Nat) "FlashZones$Zone" "resets" "I" "FlashZones") ∈ lw_tbl := lw_at lw_m2 231 rfl
theorem q586 : (Jvm.Cond.fieldLinkNest "FlashZones" (238 : Nat) "FlashZones$Zone" "units" "Ljava/util/List;" "FlashZones") ∈ lw_tbl := lw_at lw_m2 234 rfl
theorem q600 : (Jvm.Cond.fieldLinkNest "FlashZones" (214 : Nat) "FlashZones$Store" "day" "I" "FlashZones") ∈ lw_tbl := lw_at lw_m3 8 rfl
theorem q603 : (Jvm.Cond.fieldLinkNest "FlashZones" (233 : Nat) "FlashZones$Store" "loss" "I" "FlashZones") ∈ lw_tbl := lw_at lw_m3 11 rfl
theorem q606 : (Jvm.Cond.fieldLinkNest "FlashZones" (224 : Nat) "FlashZones$Store" "moves" "I" "FlashZones") ∈ lw_tbl := lw_at lw_m3 14 rfl
theorem q609 : (Jvm.Cond.fieldLinkNest "FlashZones" (227 : Nat) "FlashZones$Store" "resets" "I" "FlashZones") ∈ lw_tbl := lw_at lw_m3 17 rfl
theorem q611 : (Jvm.Cond.fieldLinkNest "FlashZones" (316 : Nat) "FlashZones$Store" "deaths" "I" "FlashZones") ∈ lw_tbl := lw_at lw_m3 19 rfl
theorem q613 : (Jvm.Cond.fieldLinkNest "FlashZones" (320 : Nat) "FlashZones$Store" "lives" "I" "FlashZones") ∈ lw_tbl := lw_at lw_m3 21 rfl
theorem q615 : (Jvm.Cond.fieldLinkNest "FlashZones" (95 : Nat) "FlashZones$Store" "units" "Ljava/util/List;" "FlashZones") ∈ lw_tbl := lw_at lw_m3 23 rfl
theorem q618 : (Jvm.Cond.fieldLinkNest "FlashZones" (205 : Nat) "FlashZones$Store" "zones" "[LFlashZones$Zone;" "FlashZones") ∈ lw_tbl := lw_at lw_m3 26 rfl
theorem q620 : (Jvm.Cond.fieldLinkNest "FlashZones" (297 : Nat) "FlashZones$Store" "weights" "[I" "FlashZones") ∈ lw_tbl := lw_at lw_m3 28 rfl
theorem q622 : (Jvm.Cond.fieldLinkNest "FlashZones" (300 : Nat) "FlashZones$Store" "losses" "[I" "FlashZones") ∈ lw_tbl := lw_at lw_m3 30 rfl
theorem q686 : (Jvm.Cond.fieldLinkNest "FlashZones" (192 : Nat) "FlashZones$Book" "set" "[I" "FlashZones") ∈ lw_tbl := lw_at lw_m3 94 rfl
theorem q688 : (Jvm.Cond.fieldLinkNest "FlashZones" (65 : Nat) "FlashZones$Book" "store" "LFlashZones$Store;" "FlashZones") ∈ lw_tbl := lw_at lw_m3 96 rfl
theorem q691 : (Jvm.Cond.fieldLinkNest "FlashZones" (74 : Nat) "FlashZones$Book" "acts" "Ljava/util/List;" "FlashZones") ∈ lw_tbl := lw_at lw_m3 99 rfl
theorem q699 : (Jvm.Cond.classLink "FlashZones" (33 : Nat) "java/util/ArrayDeque") ∈ lw_all := lw_g (lw_at lw_m3 107 rfl) rfl
theorem q701 : (Jvm.Cond.methodLink "FlashZones" (35 : Nat) ({ cls := "java/util/ArrayDeque", name := "<init>", desc := "(I)V" } : Jvm.MethodName)) ∈ lw_all := lw_g (lw_at lw_m3 109 rfl) rfl
theorem q718 : (Jvm.Cond.classLink "FlashZones" (50 : Nat) "java/lang/StringBuilder") ∈ lw_all := lw_g (lw_at lw_m3 126 rfl) rfl
theorem q719 : (Jvm.Cond.methodLink "FlashZones" (52 : Nat) ({ cls := "java/lang/StringBuilder", name := "<init>", desc := "()V" } : Jvm.MethodName)) ∈ lw_all := lw_g (lw_at lw_m3 127 rfl) rfl
theorem q721 : (Jvm.Cond.fieldLink "FlashZones" (27 : Nat) "FlashZones" "now" "LFlashZones$Book;") ∈ lw_all := lw_g (lw_at lw_m3 129 rfl) rfl
theorem q722 : (Jvm.Cond.fieldLink "FlashZones" (38 : Nat) "FlashZones" "past" "Ljava/util/ArrayDeque;") ∈ lw_all := lw_g (lw_at lw_m3 130 rfl) rfl
theorem q723 : (Jvm.Cond.fieldLink "FlashZones" (42 : Nat) "FlashZones" "slots" "[LFlashZones$Book;") ∈ lw_all := lw_g (lw_at lw_m3 131 rfl) rfl
theorem q724 : (Jvm.Cond.fieldLink "FlashZones" (46 : Nat) "FlashZones" "accounts" "[I") ∈ lw_all := lw_g (lw_at lw_m3 132 rfl) rfl
theorem q725 : (Jvm.Cond.fieldLink "FlashZones" (53 : Nat) "FlashZones" "output" "Ljava/lang/StringBuilder;") ∈ lw_all := lw_g (lw_at lw_m3 133 rfl) rfl
theorem q727 : (Jvm.Cond.fieldLink "FlashZones" (57 : Nat) "FlashZones" "text" "[B") ∈ lw_all := lw_g (lw_at lw_m3 135 rfl) rfl
theorem q729 : (Jvm.Cond.fieldLink "FlashZones" (406 : Nat) "FlashZones" "textLength" "I") ∈ lw_all := lw_g (lw_at lw_m3 137 rfl) rfl
theorem q730 : (Jvm.Cond.fieldLink "FlashZones" (409 : Nat) "FlashZones" "errorCode" "I") ∈ lw_all := lw_g (lw_at lw_m3 138 rfl) rfl
theorem q731 : (Jvm.Cond.fieldLink "FlashZones" (61 : Nat) "FlashZones" "errorPosition" "I") ∈ lw_all := lw_g (lw_at lw_m3 139 rfl) rfl
theorem q732 : (Jvm.Cond.lays "FlashZones" "FlashZones" "now" "LFlashZones$Book;") ∈ lw_all := lw_g (lw_at lw_m3 140 rfl) rfl
theorem q733 : (Jvm.Cond.soleField "FlashZones" "now") ∈ lw_all := lw_g (lw_at lw_m3 141 rfl) rfl
theorem q734 : (Jvm.Cond.laysFinal "FlashZones" "FlashZones" "past" "Ljava/util/ArrayDeque;") ∈ lw_all := lw_g (lw_at lw_m3 142 rfl) rfl
theorem q735 : (Jvm.Cond.soleField "FlashZones" "past") ∈ lw_all := lw_g (lw_at lw_m3 143 rfl) rfl
theorem q736 : (Jvm.Cond.laysFinal "FlashZones" "FlashZones" "slots" "[LFlashZones$Book;") ∈ lw_all := lw_g (lw_at lw_m3 144 rfl) rfl
theorem q737 : (Jvm.Cond.soleField "FlashZones" "slots") ∈ lw_all := lw_g (lw_at lw_m3 145 rfl) rfl
theorem q738 : (Jvm.Cond.laysFinal "FlashZones" "FlashZones" "accounts" "[I") ∈ lw_all := lw_g (lw_at lw_m3 146 rfl) rfl
theorem q739 : (Jvm.Cond.soleField "FlashZones" "accounts") ∈ lw_all := lw_g (lw_at lw_m3 147 rfl) rfl
theorem q740 : (Jvm.Cond.laysFinal "FlashZones" "FlashZones" "output" "Ljava/lang/StringBuilder;") ∈ lw_all := lw_g (lw_at lw_m3 148 rfl) rfl
theorem q741 : (Jvm.Cond.soleField "FlashZones" "output") ∈ lw_all := lw_g (lw_at lw_m3 149 rfl) rfl
theorem q742 : (Jvm.Cond.laysFinal "FlashZones" "FlashZones" "text" "[B") ∈ lw_all := lw_g (lw_at lw_m3 150 rfl) rfl
theorem q743 : (Jvm.Cond.soleField "FlashZones" "text") ∈ lw_all := lw_g (lw_at lw_m3 151 rfl) rfl
theorem q744 : (Jvm.Cond.lays "FlashZones" "FlashZones" "textLength" "I") ∈ lw_all := lw_g (lw_at lw_m3 152 rfl) rfl
theorem q745 : (Jvm.Cond.soleField "FlashZones" "textLength") ∈ lw_all := lw_g (lw_at lw_m3 153 rfl) rfl
theorem q746 : (Jvm.Cond.lays "FlashZones" "FlashZones" "errorCode" "I") ∈ lw_all := lw_g (lw_at lw_m3 154 rfl) rfl
theorem q747 : (Jvm.Cond.soleField "FlashZones" "errorCode") ∈ lw_all := lw_g (lw_at lw_m3 155 rfl) rfl
theorem q748 : (Jvm.Cond.lays "FlashZones" "FlashZones" "errorPosition" "I") ∈ lw_all := lw_g (lw_at lw_m3 156 rfl) rfl
theorem q749 : (Jvm.Cond.soleField "FlashZones" "errorPosition") ∈ lw_all := lw_g (lw_at lw_m3 157 rfl) rfl
theorem q750 : (Jvm.Cond.superclass "FlashZones" "java/lang/Object") ∈ lw_all := lw_g (lw_at lw_m3 158 rfl) rfl
theorem q752 : (Jvm.Cond.instanceMethod ({ cls := "FlashZones", name := "hindsight", desc := "()I" } : Jvm.MethodName)) ∈ lw_all := lw_g (lw_at lw_m3 160 rfl) rfl
theorem q753 : (Jvm.Cond.selects "FlashZones" ({ cls := "FlashZones", name := "hindsight", desc := "()I" } : Jvm.MethodName) ({ cls := "FlashZones", name := "hindsight", desc := "()I" } : Jvm.MethodName)) ∈ lw_all := lw_g (lw_at lw_m3 161 rfl) rfl
theorem q754 : (Jvm.Cond.code ({ cls := "FlashZones", name := "hindsight", desc := "()I" } : Jvm.MethodName) prog_1_method_19_code (5 : Nat) (Option.some Jvm.ClassFile.FieldType.int)) ∈ lw_all := lw_g (lw_at lw_m3 162 rfl) rfl
theorem q755 : (Jvm.Cond.methodLink "FlashZones" (163 : Nat) ({ cls := "FlashZones", name := "retold", desc := "(I)LFlashZones$Retold;" } : Jvm.MethodName)) ∈ lw_all := lw_g (lw_at lw_m3 163 rfl) rfl
theorem q756 : (Jvm.Cond.privateMethod ({ cls := "FlashZones", name := "retold", desc := "(I)LFlashZones$Retold;" } : Jvm.MethodName)) ∈ lw_tbl := lw_at lw_m3 164 rfl
theorem q757 : (Jvm.Cond.instanceMethod ({ cls := "FlashZones", name := "retold", desc := "(I)LFlashZones$Retold;" } : Jvm.MethodName)) ∈ lw_all := lw_g (lw_at lw_m3 165 rfl) rfl
theorem q758 : (Jvm.Cond.code ({ cls := "FlashZones", name := "retold", desc := "(I)LFlashZones$Retold;" } : Jvm.MethodName) prog_1_method_17_code (2 : Nat) (Option.some (Jvm.ClassFile.FieldType.object "FlashZones$Retold"))) ∈ lw_all := lw_g (lw_at lw_m3 166 rfl) rfl
theorem q759 : (Jvm.Cond.classLink "FlashZones" (155 : Nat) "FlashZones$Retold") ∈ lw_all := lw_g (lw_at lw_m3 167 rfl) rfl
theorem q761 : (Jvm.Cond.methodLink "FlashZones" (157 : Nat) ({ cls := "FlashZones", name := "lives", desc := "()[I" } : Jvm.MethodName)) ∈ lw_all := lw_g (lw_at lw_m3 169 rfl) rfl
theorem q762 : (Jvm.Cond.privateMethod ({ cls := "FlashZones", name := "lives", desc := "()[I" } : Jvm.MethodName)) ∈ lw_tbl := lw_at lw_m3 170 rfl
theorem q763 : (Jvm.Cond.instanceMethod ({ cls := "FlashZones", name := "lives", desc := "()[I" } : Jvm.MethodName)) ∈ lw_all := lw_g (lw_at lw_m3 171 rfl) rfl
theorem q764 : (Jvm.Cond.code ({ cls := "FlashZones", name := "lives", desc := "()[I" } : Jvm.MethodName) prog_1_method_16_code (4 : Nat) (Option.some (Jvm.ClassFile.FieldType.array Jvm.ClassFile.FieldType.int))) ∈ lw_all := lw_g (lw_at lw_m3 172 rfl) rfl
theorem q765 : (Jvm.Cond.methodLink "FlashZones" (92 : Nat) ({ cls := "FlashZones", name := "store", desc := "()LFlashZones$Store;" } : Jvm.MethodName)) ∈ lw_all := lw_g (lw_at lw_m3 173 rfl) rfl
theorem q766 : (Jvm.Cond.privateMethod ({ cls := "FlashZones", name := "store", desc := "()LFlashZones$Store;" } : Jvm.MethodName)) ∈ lw_tbl := lw_at lw_m3 174 rfl
theorem q767 : (Jvm.Cond.instanceMethod ({ cls := "FlashZones", name := "store", desc := "()LFlashZones$Store;" } : Jvm.MethodName)) ∈ lw_all := lw_g (lw_at lw_m3 175 rfl) rfl
theorem q768 : (Jvm.Cond.code ({ cls := "FlashZones", name := "store", desc := "()LFlashZones$Store;" } : Jvm.MethodName) prog_1_method_8_code (1 : Nat) (Option.some (Jvm.ClassFile.FieldType.object "FlashZones$Store"))) ∈ lw_all := lw_g (lw_at lw_m3 176 rfl) rfl
theorem q769 : (Jvm.Cond.interfaceEntry "FlashZones" (78 : Nat)) ∈ lw_tbl := lw_at lw_m3 177 rfl
theorem q770 : (Jvm.Cond.methodLink "FlashZones" (78 : Nat) ({ cls := "java/util/List", name := "size", desc := "()I" } : Jvm.MethodName)) ∈ lw_all := lw_g (lw_at lw_m3 178 rfl) rfl
theorem q779 : (Jvm.Cond.interfaceEntry "FlashZones" (139 : Nat)) ∈ lw_tbl := lw_at lw_m3 187 rfl
theorem q780 : (Jvm.Cond.methodLink "FlashZones" (139 : Nat) ({ cls := "java/util/List", name := "get", desc := "(I)Ljava/lang/Object;" } : Jvm.MethodName)) ∈ lw_all := lw_g (lw_at lw_m3 188 rfl) rfl
theorem q798 : (Jvm.Cond.classLink "FlashZones" (143 : Nat) "FlashZones$Unit") ∈ lw_all := lw_g (lw_at lw_m3 206 rfl) rfl
theorem q799 : (Jvm.Cond.methodLink "FlashZones" (145 : Nat) ({ cls := "FlashZones$Unit", name := "lives", desc := "()Z" } : Jvm.MethodName)) ∈ lw_all := lw_g (lw_at lw_m3 207 rfl) rfl
theorem q803 : (Jvm.Cond.methodLink "FlashZones" (160 : Nat) ({ cls := "FlashZones$Retold", name := "<init>", desc := "(LFlashZones$Book;I[I)V" } : Jvm.MethodName)) ∈ lw_all := lw_g (lw_at lw_m3 211 rfl) rfl
theorem q878 : (Jvm.Cond.fieldLinkNest "FlashZones" (256 : Nat) "FlashZones$Unit" "name" "I" "FlashZones") ∈ lw_tbl := lw_at lw_m4 46 rfl
theorem q881 : (Jvm.Cond.fieldLinkNest "FlashZones" (279 : Nat) "FlashZones$Unit" "writer" "I" "FlashZones") ∈ lw_tbl := lw_at lw_m4 49 rfl
theorem q884 : (Jvm.Cond.fieldLinkNest "FlashZones" (254 : Nat) "FlashZones$Unit" "size" "I" "FlashZones") ∈ lw_tbl := lw_at lw_m4 52 rfl
theorem q886 : (Jvm.Cond.fieldLinkNest "FlashZones" (152 : Nat) "FlashZones$Unit" "fate" "I" "FlashZones") ∈ lw_tbl := lw_at lw_m4 54 rfl
theorem q889 : (Jvm.Cond.fieldLinkNest "FlashZones" (282 : Nat) "FlashZones$Unit" "born" "I" "FlashZones") ∈ lw_tbl := lw_at lw_m4 57 rfl
theorem q892 : (Jvm.Cond.fieldLinkNest "FlashZones" (288 : Nat) "FlashZones$Unit" "leader" "I" "FlashZones") ∈ lw_tbl := lw_at lw_m4 60 rfl
theorem q895 : (Jvm.Cond.fieldLinkNest "FlashZones" (291 : Nat) "FlashZones$Unit" "told" "[I" "FlashZones") ∈ lw_tbl := lw_at lw_m4 63 rfl
theorem q898 : (Jvm.Cond.fieldLinkNest "FlashZones" (251 : Nat) "FlashZones$Unit" "zone" "I" "FlashZones") ∈ lw_tbl := lw_at lw_m4 66 rfl
theorem q901 : (Jvm.Cond.fieldLinkNest "FlashZones" (285 : Nat) "FlashZones$Unit" "guessed" "I" "FlashZones") ∈ lw_tbl := lw_at lw_m4 69 rfl
theorem q904 : (Jvm.Cond.fieldLinkNest "FlashZones" (290 : Nat) "FlashZones$Unit" "moves" "I" "FlashZones") ∈ lw_tbl := lw_at lw_m4 72 rfl
theorem q907 : (Jvm.Cond.fieldLinkNest "FlashZones" (149 : Nat) "FlashZones$Unit" "life" "I" "FlashZones") ∈ lw_tbl := lw_at lw_m4 75 rfl
theorem q959 : (Jvm.Cond.selects "FlashZones" ({ cls := "java/lang/Object", name := "getClass", desc := "()Ljava/lang/Class;" } : Jvm.MethodName) ({ cls := "java/lang/Object", name := "getClass", desc := "()Ljava/lang/Class;" } : Jvm.MethodName)) ∈ lw_all := lw_g (lw_at lw_m4 127 rfl) rfl
theorem q1025 : (Jvm.Cond.static ({ cls := "FlashZones", name := "bit", desc := "(Z)I" } : Jvm.MethodName)) ∈ lw_all := lw_g (lw_at lw_m4 193 rfl) rfl
theorem q1026 : (Jvm.Cond.code ({ cls := "FlashZones", name := "bit", desc := "(Z)I" } : Jvm.MethodName) prog_1_method_6_code (1 : Nat) (Option.some Jvm.ClassFile.FieldType.int)) ∈ lw_all := lw_g (lw_at lw_m4 194 rfl) rfl
theorem q1088 : (Jvm.Cond.methodLink "FlashZones" (170 : Nat) ({ cls := "FlashZones$Retold", name := "isBetter", desc := "(LFlashZones$Retold;)Z" } : Jvm.MethodName)) ∈ lw_all := lw_g (lw_at lw_m5 16 rfl) rfl
theorem q1105 : (Jvm.Cond.instanceMethod ({ cls := "FlashZones", name := "clear", desc := "()I" } : Jvm.MethodName)) ∈ lw_all := lw_g (lw_at lw_m5 33 rfl) rfl
theorem q1106 : (Jvm.Cond.selects "FlashZones" ({ cls := "FlashZones", name := "clear", desc := "()I" } : Jvm.MethodName) ({ cls := "FlashZones", name := "clear", desc := "()I" } : Jvm.MethodName)) ∈ lw_all := lw_g (lw_at lw_m5 34 rfl) rfl
theorem q1107 : (Jvm.Cond.code ({ cls := "FlashZones", name := "clear", desc := "()I" } : Jvm.MethodName) prog_1_method_24_code (2 : Nat) (Option.some Jvm.ClassFile.FieldType.int)) ∈ lw_all := lw_g (lw_at lw_m5 35 rfl) rfl
theorem q1108 : (Jvm.Cond.methodLink "FlashZones" (195 : Nat) ({ cls := "[I", name := "clone", desc := "()Ljava/lang/Object;" } : Jvm.MethodName)) ∈ lw_all := lw_g (lw_at lw_m5 36 rfl) rfl
theorem q1109 : (Jvm.Cond.classLink "FlashZones" (196 : Nat) "[I") ∈ lw_all := lw_g (lw_at lw_m5 37 rfl) rfl
theorem q1110 : (Jvm.Cond.methodLinkNest "FlashZones" (199 : Nat) ({ cls := "FlashZones$Book", name := "<init>", desc := "([I)V" } : Jvm.MethodName) "FlashZones") ∈ lw_tbl := lw_at lw_m5 38 rfl
theorem q1111 : (Jvm.Cond.methodLink "FlashZones" (202 : Nat) ({ cls := "java/util/ArrayDeque", name := "clear", desc := "()V" } : Jvm.MethodName)) ∈ lw_all := lw_g (lw_at lw_m5 39 rfl) rfl
theorem q1119 : (Jvm.Cond.instanceMethod ({ cls := "FlashZones", name := "regret", desc := "()I" } : Jvm.MethodName)) ∈ lw_all := lw_g (lw_at lw_m5 47 rfl) rfl
theorem q1120 : (Jvm.Cond.selects "FlashZones" ({ cls := "FlashZones", name := "regret", desc := "()I" } : Jvm.MethodName) ({ cls := "FlashZones", name := "regret", desc := "()I" } : Jvm.MethodName)) ∈ lw_all := lw_g (lw_at lw_m5 48 rfl) rfl
theorem q1121 : (Jvm.Cond.code ({ cls := "FlashZones", name := "regret", desc := "()I" } : Jvm.MethodName) prog_1_method_38_code (6 : Nat) (Option.some Jvm.ClassFile.FieldType.int)) ∈ lw_all := lw_g (lw_at lw_m5 49 rfl) rfl
theorem q1122 : (Jvm.Cond.methodLink "FlashZones" (310 : Nat) ({ cls := "java/lang/Math", name := "min", desc := "(II)I" } : Jvm.MethodName)) ∈ lw_all := lw_g (lw_at lw_m5 50 rfl) rfl
theorem q1124 : (Jvm.Cond.instanceMethod ({ cls := "FlashZones", name := "meanLife", desc := "()F" } : Jvm.MethodName)) ∈ lw_all := lw_g (lw_at lw_m5 52 rfl) rfl
theorem q1125 : (Jvm.Cond.selects "FlashZones" ({ cls := "FlashZones", name := "meanLife", desc := "()F" } : Jvm.MethodName) ({ cls := "FlashZones", name := "meanLife", desc := "()F" } : Jvm.MethodName)) ∈ lw_all := lw_g (lw_at lw_m5 53 rfl) rfl
theorem q1126 : (Jvm.Cond.code ({ cls := "FlashZones", name := "meanLife", desc := "()F" } : Jvm.MethodName) prog_1_method_39_code (1 : Nat) (Option.some Jvm.ClassFile.FieldType.float)) ∈ lw_all := lw_g (lw_at lw_m5 54 rfl) rfl
theorem q1127 : (Jvm.Cond.constantFloat "FlashZones" (319 : Nat) (3212836864 : UInt32)) ∈ lw_all := lw_g (lw_at lw_m5 55 rfl) rfl
theorem q1129 : (Jvm.Cond.instanceMethod ({ cls := "FlashZones", name := "nextFate", desc := "()I" } : Jvm.MethodName)) ∈ lw_all := lw_g (lw_at lw_m5 57 rfl) rfl
theorem q1130 : (Jvm.Cond.selects "FlashZones" ({ cls := "FlashZones", name := "nextFate", desc := "()I" } : Jvm.MethodName) ({ cls := "FlashZones", name := "nextFate", desc := "()I" } : Jvm.MethodName)) ∈ lw_all := lw_g (lw_at lw_m5 58 rfl) rfl
theorem q1131 : (Jvm.Cond.code ({ cls := "FlashZones", name := "nextFate", desc := "()I" } : Jvm.MethodName) prog_1_method_50_code (4 : Nat) (Option.some Jvm.ClassFile.FieldType.int)) ∈ lw_all := lw_g (lw_at lw_m5 59 rfl) rfl
theorem q1132 : (Jvm.Cond.interfaceEntry "FlashZones" (239 : Nat)) ∈ lw_tbl := lw_at lw_m5 60 rfl
theorem q1133 : (Jvm.Cond.methodLink "FlashZones" (239 : Nat) ({ cls := "java/util/List", name := "iterator", desc := "()Ljava/util/Iterator;" } : Jvm.MethodName)) ∈ lw_all := lw_g (lw_at lw_m5 61 rfl) rfl
theorem q1160 : (Jvm.Cond.interfaceEntry "FlashZones" (243 : Nat)) ∈ lw_tbl := lw_at lw_m5 88 rfl
theorem q1161 : (Jvm.Cond.methodLink "FlashZones" (243 : Nat) ({ cls := "java/util/Iterator", name := "hasNext", desc := "()Z" } : Jvm.MethodName)) ∈ lw_all := lw_g (lw_at lw_m5 89 rfl) rfl
theorem q1170 : (Jvm.Cond.interfaceEntry "FlashZones" (248 : Nat)) ∈ lw_tbl := lw_at lw_m5 98 rfl
theorem q1171 : (Jvm.Cond.methodLink "FlashZones" (248 : Nat) ({ cls := "java/util/Iterator", name := "next", desc := "()Ljava/lang/Object;" } : Jvm.MethodName)) ∈ lw_all := lw_g (lw_at lw_m5 99 rfl) rfl
theorem q1184 : (Jvm.Cond.instanceMethod ({ cls := "FlashZones", name := "writeHistory", desc := "()I" } : Jvm.MethodName)) ∈ lw_all := lw_g (lw_at lw_m5 112 rfl) rfl
theorem q1185 : (Jvm.Cond.selects "FlashZones" ({ cls := "FlashZones", name := "writeHistory", desc := "()I" } : Jvm.MethodName) ({ cls := "FlashZones", name := "writeHistory", desc := "()I" } : Jvm.MethodName)) ∈ lw_all := lw_g (lw_at lw_m5 113 rfl) rfl
theorem q1186 : (Jvm.Cond.code ({ cls := "FlashZones", name := "writeHistory", desc := "()I" } : Jvm.MethodName) prog_1_method_57_code (3 : Nat) (Option.some Jvm.ClassFile.FieldType.int)) ∈ lw_all := lw_g (lw_at lw_m5 114 rfl) rfl
theorem q1187 : (Jvm.Cond.methodLink "FlashZones" (381 : Nat) ({ cls := "java/lang/StringBuilder", name := "setLength", desc := "(I)V" } : Jvm.MethodName)) ∈ lw_all := lw_g (lw_at lw_m5 115 rfl) rfl
theorem q1255 : (Jvm.Cond.classLink "FlashZones" (69 : Nat) "FlashZones$Act") ∈ lw_all := lw_g (lw_at lw_m5 183 rfl) rfl
theorem q1256 : (Jvm.Cond.methodLink "FlashZones" (398 : Nat) ({ cls := "FlashZones$Act", name := "write", desc := "(Ljava/lang/StringBuilder;)V" } : Jvm.MethodName)) ∈ lw_all := lw_g (lw_at lw_m5 184 rfl) rfl
theorem q1291 : (Jvm.Cond.methodLink "FlashZones" (395 : Nat) ({ cls := "java/lang/StringBuilder", name := "length", desc := "()I" } : Jvm.MethodName)) ∈ lw_all := lw_g (lw_at lw_m5 219 rfl) rfl
theorem q1293 : (Jvm.Cond.instanceMethod ({ cls := "FlashZones", name := "output", desc := "(I)I" } : Jvm.MethodName)) ∈ lw_all := lw_g (lw_at lw_m5 221 rfl) rfl
theorem q1294 : (Jvm.Cond.selects "FlashZones" ({ cls := "FlashZones", name := "output", desc := "(I)I" } : Jvm.MethodName) ({ cls := "FlashZones", name := "output", desc := "(I)I" } : Jvm.MethodName)) ∈ lw_all := lw_g (lw_at lw_m5 222 rfl) rfl
theorem q1295 : (Jvm.Cond.code ({ cls := "FlashZones", name := "output", desc := "(I)I" } : Jvm.MethodName) prog_1_method_58_code (2 : Nat) (Option.some Jvm.ClassFile.FieldType.int)) ∈ lw_all := lw_g (lw_at lw_m5 223 rfl) rfl
theorem q1296 : (Jvm.Cond.methodLink "FlashZones" (117 : Nat) ({ cls := "FlashZones", name := "isIn", desc := "(III)Z" } : Jvm.MethodName)) ∈ lw_all := lw_g (lw_at lw_m5 224 rfl) rfl
theorem q1297 : (Jvm.Cond.static ({ cls := "FlashZones", name := "isIn", desc := "(III)Z" } : Jvm.MethodName)) ∈ lw_all := lw_g (lw_at lw_m5 225 rfl) rfl
theorem q1298 : (Jvm.Cond.code ({ cls := "FlashZones", name := "isIn", desc := "(III)Z" } : Jvm.MethodName) prog_1_method_2_code (3 : Nat) (Option.some Jvm.ClassFile.FieldType.boolean)) ∈ lw_all := lw_g (lw_at lw_m5 226 rfl) rfl
theorem q1299 : (Jvm.Cond.methodLink "FlashZones" (402 : Nat) ({ cls := "java/lang/StringBuilder", name := "charAt", desc := "(I)C" } : Jvm.MethodName)) ∈ lw_all := lw_g (lw_at lw_m5 227 rfl) rfl
theorem q1310 : (Jvm.Cond.instanceMethod ({ cls := "FlashZones", name := "runScript", desc := "()I" } : Jvm.MethodName)) ∈ lw_all := lw_g (lw_at lw_m5 238 rfl) rfl
theorem q1311 : (Jvm.Cond.selects "FlashZones" ({ cls := "FlashZones", name := "runScript", desc := "()I" } : Jvm.MethodName) ({ cls := "FlashZones", name := "runScript", desc := "()I" } : Jvm.MethodName)) ∈ lw_all := lw_g (lw_at lw_m5 239 rfl) rfl
theorem q1312 : (Jvm.Cond.codeWith ({ cls := "FlashZones", name := "runScript", desc := "()I" } : Jvm.MethodName) prog_1_method_62_code (5 : Nat) (Option.some Jvm.ClassFile.FieldType.int) [((10 : Nat), (79 : Nat), (86 : Nat), (429 : Nat)), ((10 : Nat), (79 : Nat), (112 : Nat), (0 : Nat)), ((86 : Nat), (105 : Nat), (112 : Nat), (0 : Nat)), ((112 : Nat), (114 : Nat), (112 : Nat), (0 : Nat))]) ∈ lw_all := lw_g (lw_at lw_m6 0 rfl) rfl
theorem q1313 : (Jvm.Cond.classLink "FlashZones" (429 : Nat) "FlashZones$Fault") ∈ lw_all := lw_g (lw_at lw_m6 1 rfl) rfl
theorem q1314 : (Jvm.Cond.classLink "FlashZones" (412 : Nat) "FlashZones$Reader") ∈ lw_all := lw_g (lw_at lw_m6 2 rfl) rfl
theorem q1316 : (Jvm.Cond.methodLink "FlashZones" (414 : Nat) ({ cls := "FlashZones$Reader", name := "<init>", desc := "(LFlashZones;)V" } : Jvm.MethodName)) ∈ lw_all := lw_g (lw_at lw_m6 4 rfl) rfl
theorem q1334 : (Jvm.Cond.fieldLinkNest "FlashZones" (421 : Nat) "FlashZones$Reader" "commands" "[LFlashZones$Act;" "FlashZones") ∈ lw_tbl := lw_at lw_m6 22 rfl
theorem q1336 : (Jvm.Cond.fieldLinkNest "FlashZones" (418 : Nat) "FlashZones$Reader" "many" "I" "FlashZones") ∈ lw_tbl := lw_at lw_m6 24 rfl
theorem q1357 : (Jvm.Cond.methodLink "FlashZones" (415 : Nat) ({ cls := "FlashZones$Reader", name := "script", desc := "()V" } : Jvm.MethodName)) ∈ lw_all := lw_g (lw_at lw_m6 45 rfl) rfl
theorem q1418 : (Jvm.Cond.fieldLinkNest "FlashZones" (431 : Nat) "FlashZones$Fault" "code" "I" "FlashZones") ∈ lw_tbl := lw_at lw_m6 106 rfl
theorem q1420 : (Jvm.Cond.fieldLinkNest "FlashZones" (434 : Nat) "FlashZones$Fault" "place" "I" "FlashZones") ∈ lw_tbl := lw_at lw_m6 108 rfl
theorem q1441 : (Jvm.Cond.fieldLinkNest "FlashZones" (174 : Nat) "FlashZones$Act" "kind" "I" "FlashZones") ∈ lw_tbl := lw_at lw_m6 129 rfl
theorem q1443 : (Jvm.Cond.fieldLinkNest "FlashZones" (177 : Nat) "FlashZones$Act" "numbers" "[I" "FlashZones") ∈ lw_tbl := lw_at lw_m6 131 rfl
theorem q1449 : (Jvm.Cond.methodLink "FlashZones" (425 : Nat) ({ cls := "FlashZones", name := "isThere", desc := "(LFlashZones$Act;)Z" } : Jvm.MethodName)) ∈ lw_all := lw_g (lw_at lw_m6 137 rfl) rfl
theorem q1450 : (Jvm.Cond.privateMethod ({ cls := "FlashZones", name := "isThere", desc := "(LFlashZones$Act;)Z" } : Jvm.MethodName)) ∈ lw_tbl := lw_at lw_m6 138 rfl
theorem q1451 : (Jvm.Cond.instanceMethod ({ cls := "FlashZones", name := "isThere", desc := "(LFlashZones$Act;)Z" } : Jvm.MethodName)) ∈ lw_all := lw_g (lw_at lw_m6 139 rfl) rfl
theorem q1452 : (Jvm.Cond.code ({ cls := "FlashZones", name := "isThere", desc := "(LFlashZones$Act;)Z" } : Jvm.MethodName) prog_1_method_61_code (2 : Nat) (Option.some Jvm.ClassFile.FieldType.boolean)) ∈ lw_all := lw_g (lw_at lw_m6 140 rfl) rfl
theorem q1453 : (Jvm.Cond.methodLink "FlashZones" (129 : Nat) ({ cls := "FlashZones", name := "isUnit", desc := "(I)Z" } : Jvm.MethodName)) ∈ lw_all := lw_g (lw_at lw_m6 141 rfl) rfl
theorem q1454 : (Jvm.Cond.privateMethod ({ cls := "FlashZones", name := "isUnit", desc := "(I)Z" } : Jvm.MethodName)) ∈ lw_tbl := lw_at lw_m6 142 rfl
theorem q1455 : (Jvm.Cond.instanceMethod ({ cls := "FlashZones", name := "isUnit", desc := "(I)Z" } : Jvm.MethodName)) ∈ lw_all := lw_g (lw_at lw_m6 143 rfl) rfl
theorem q1456 : (Jvm.Cond.code ({ cls := "FlashZones", name := "isUnit", desc := "(I)Z" } : Jvm.MethodName) prog_1_method_26_code (2 : Nat) (Option.some Jvm.ClassFile.FieldType.boolean)) ∈ lw_all := lw_g (lw_at lw_m6 144 rfl) rfl
theorem q1457 : (Jvm.Cond.methodLink "FlashZones" (136 : Nat) ({ cls := "FlashZones", name := "isZone", desc := "(I)Z" } : Jvm.MethodName)) ∈ lw_all := lw_g (lw_at lw_m6 145 rfl) rfl
theorem q1458 : (Jvm.Cond.privateMethod ({ cls := "FlashZones", name := "isZone", desc := "(I)Z" } : Jvm.MethodName)) ∈ lw_tbl := lw_at lw_m6 146 rfl
theorem q1459 : (Jvm.Cond.instanceMethod ({ cls := "FlashZones", name := "isZone", desc := "(I)Z" } : Jvm.MethodName)) ∈ lw_all := lw_g (lw_at lw_m6 147 rfl) rfl
theorem q1460 : (Jvm.Cond.code ({ cls := "FlashZones", name := "isZone", desc := "(I)Z" } : Jvm.MethodName) prog_1_method_25_code (2 : Nat) (Option.some Jvm.ClassFile.FieldType.boolean)) ∈ lw_all := lw_g (lw_at lw_m6 148 rfl) rfl
theorem q1461 : (Jvm.Cond.methodLink "FlashZones" (125 : Nat) ({ cls := "FlashZones", name := "does", desc := "(I[I)I" } : Jvm.MethodName)) ∈ lw_all := lw_g (lw_at lw_m6 149 rfl) rfl
theorem q1462 : (Jvm.Cond.privateMethod ({ cls := "FlashZones", name := "does", desc := "(I[I)I" } : Jvm.MethodName)) ∈ lw_tbl := lw_at lw_m6 150 rfl
theorem q1463 : (Jvm.Cond.instanceMethod ({ cls := "FlashZones", name := "does", desc := "(I[I)I" } : Jvm.MethodName)) ∈ lw_all := lw_g (lw_at lw_m6 151 rfl) rfl
theorem q1464 : (Jvm.Cond.code ({ cls := "FlashZones", name := "does", desc := "(I[I)I" } : Jvm.MethodName) prog_1_method_9_code (7 : Nat) (Option.some Jvm.ClassFile.FieldType.int)) ∈ lw_all := lw_g (lw_at lw_m6 152 rfl) rfl
theorem q1465 : (Jvm.Cond.methodLink "FlashZones" (71 : Nat) ({ cls := "FlashZones$Act", name := "<init>", desc := "(I[I)V" } : Jvm.MethodName)) ∈ lw_all := lw_g (lw_at lw_m6 153 rfl) rfl
theorem q1466 : (Jvm.Cond.methodLink "FlashZones" (84 : Nat) ({ cls := "FlashZones", name := "refuse", desc := "(I)I" } : Jvm.MethodName)) ∈ lw_all := lw_g (lw_at lw_m6 154 rfl) rfl
theorem q1467 : (Jvm.Cond.privateMethod ({ cls := "FlashZones", name := "refuse", desc := "(I)I" } : Jvm.MethodName)) ∈ lw_tbl := lw_at lw_m6 155 rfl
theorem q1468 : (Jvm.Cond.instanceMethod ({ cls := "FlashZones", name := "refuse", desc := "(I)I" } : Jvm.MethodName)) ∈ lw_all := lw_g (lw_at lw_m6 156 rfl) rfl
theorem q1469 : (Jvm.Cond.code ({ cls := "FlashZones", name := "refuse", desc := "(I)I" } : Jvm.MethodName) prog_1_method_10_code (2 : Nat) (Option.some Jvm.ClassFile.FieldType.int)) ∈ lw_all := lw_g (lw_at lw_m6 157 rfl) rfl
theorem q1470 : (Jvm.Cond.methodLink "FlashZones" (88 : Nat) ({ cls := "FlashZones$Book", name := "copy", desc := "()LFlashZones$Book;" } : Jvm.MethodName)) ∈ lw_all := lw_g (lw_at lw_m6 158 rfl) rfl
theorem q1524 : (Jvm.Cond.methodLink "FlashZones" (100 : Nat) ({ cls := "FlashZones$Act", name := "run", desc := "(LFlashZones$Store;I)I" } : Jvm.MethodName)) ∈ lw_all := lw_g (lw_at lw_m6 212 rfl) rfl
theorem q1525 : (Jvm.Cond.methodLink "FlashZones" (104 : Nat) ({ cls := "java/util/ArrayDeque", name := "size", desc := "()I" } : Jvm.MethodName)) ∈ lw_all := lw_g (lw_at lw_m6 213 rfl) rfl
theorem q1532 : (Jvm.Cond.methodLink "FlashZones" (105 : Nat) ({ cls := "java/util/ArrayDeque", name := "removeFirst", desc := "()Ljava/lang/Object;" } : Jvm.MethodName)) ∈ lw_all := lw_g (lw_at lw_m6 220 rfl) rfl
theorem q1546 : (Jvm.Cond.methodLink "FlashZones" (109 : Nat) ({ cls := "java/util/ArrayDeque", name := "addLast", desc := "(Ljava/lang/Object;)V" } : Jvm.MethodName)) ∈ lw_all := lw_g (lw_at lw_m6 234 rfl) rfl
theorem q1576 : (Jvm.Cond.interfaceEntry "FlashZones" (113 : Nat)) ∈ lw_tbl := lw_at lw_m7 24 rfl
theorem q1577 : (Jvm.Cond.methodLink "FlashZones" (113 : Nat) ({ cls := "java/util/List", name := "add", desc := "(Ljava/lang/Object;)Z" } : Jvm.MethodName)) ∈ lw_all := lw_g (lw_at lw_m7 25 rfl) rfl
theorem q1579 : (Jvm.Cond.instanceMethod ({ cls := "FlashZones", name := "errorCode", desc := "()I" } : Jvm.MethodName)) ∈ lw_all := lw_g (lw_at lw_m7 27 rfl) rfl
theorem q1580 : (Jvm.Cond.selects "FlashZones" ({ cls := "FlashZones", name := "errorCode", desc := "()I" } : Jvm.MethodName) ({ cls := "FlashZones", name := "errorCode", desc := "()I" } : Jvm.MethodName)) ∈ lw_all := lw_g (lw_at lw_m7 28 rfl) rfl
theorem q1581 : (Jvm.Cond.code ({ cls := "FlashZones", name := "errorCode", desc := "()I" } : Jvm.MethodName) prog_1_method_63_code (1 : Nat) (Option.some Jvm.ClassFile.FieldType.int)) ∈ lw_all := lw_g (lw_at lw_m7 29 rfl) rfl
theorem q1583 : (Jvm.Cond.instanceMethod ({ cls := "FlashZones", name := "errorPosition", desc := "()I" } : Jvm.MethodName)) ∈ lw_all := lw_g (lw_at lw_m7 31 rfl) rfl
theorem q1584 : (Jvm.Cond.selects "FlashZones" ({ cls := "FlashZones", name := "errorPosition", desc := "()I" } : Jvm.MethodName) ({ cls := "FlashZones", name := "errorPosition", desc := "()I" } : Jvm.MethodName)) ∈ lw_all := lw_g (lw_at lw_m7 32 rfl) rfl
theorem q1585 : (Jvm.Cond.code ({ cls := "FlashZones", name := "errorPosition", desc := "()I" } : Jvm.MethodName) prog_1_method_64_code (1 : Nat) (Option.some Jvm.ClassFile.FieldType.int)) ∈ lw_all := lw_g (lw_at lw_m7 33 rfl) rfl
theorem q1587 : (Jvm.Cond.instanceMethod ({ cls := "FlashZones", name := "undo", desc := "()I" } : Jvm.MethodName)) ∈ lw_all := lw_g (lw_at lw_m7 35 rfl) rfl
theorem q1588 : (Jvm.Cond.selects "FlashZones" ({ cls := "FlashZones", name := "undo", desc := "()I" } : Jvm.MethodName) ({ cls := "FlashZones", name := "undo", desc := "()I" } : Jvm.MethodName)) ∈ lw_all := lw_g (lw_at lw_m7 36 rfl) rfl
theorem q1589 : (Jvm.Cond.code ({ cls := "FlashZones", name := "undo", desc := "()I" } : Jvm.MethodName) prog_1_method_65_code (1 : Nat) (Option.some Jvm.ClassFile.FieldType.int)) ∈ lw_all := lw_g (lw_at lw_m7 37 rfl) rfl
theorem q1590 : (Jvm.Cond.methodLink "FlashZones" (437 : Nat) ({ cls := "java/util/ArrayDeque", name := "isEmpty", desc := "()Z" } : Jvm.MethodName)) ∈ lw_all := lw_g (lw_at lw_m7 38 rfl) rfl
theorem q1594 : (Jvm.Cond.methodLink "FlashZones" (438 : Nat) ({ cls := "java/util/ArrayDeque", name := "removeLast", desc := "()Ljava/lang/Object;" } : Jvm.MethodName)) ∈ lw_all := lw_g (lw_at lw_m7 42 rfl) rfl
theorem q1610 : (Jvm.Cond.instanceMethod ({ cls := "FlashZones", name := "appendText", desc := "(I)I" } : Jvm.MethodName)) ∈ lw_all := lw_g (lw_at lw_m7 58 rfl) rfl
theorem q1611 : (Jvm.Cond.selects "FlashZones" ({ cls := "FlashZones", name := "appendText", desc := "(I)I" } : Jvm.MethodName) ({ cls := "FlashZones", name := "appendText", desc := "(I)I" } : Jvm.MethodName)) ∈ lw_all := lw_g (lw_at lw_m7 59 rfl) rfl
theorem q1612 : (Jvm.Cond.code ({ cls := "FlashZones", name := "appendText", desc := "(I)I" } : Jvm.MethodName) prog_1_method_59_code (3 : Nat) (Option.some Jvm.ClassFile.FieldType.int)) ∈ lw_all := lw_g (lw_at lw_m7 60 rfl) rfl
theorem q1613 : (Jvm.Cond.methodLink "FlashZones" (189 : Nat) ({ cls := "FlashZones", name := "possible", desc := "(Z)V" } : Jvm.MethodName)) ∈ lw_all := lw_g (lw_at lw_m7 61 rfl) rfl
theorem q1614 : (Jvm.Cond.static ({ cls := "FlashZones", name := "possible", desc := "(Z)V" } : Jvm.MethodName)) ∈ lw_all := lw_g (lw_at lw_m7 62 rfl) rfl
theorem q1615 : (Jvm.Cond.code ({ cls := "FlashZones", name := "possible", desc := "(Z)V" } : Jvm.MethodName) prog_1_method_5_code (1 : Nat) (Option.none : Option Jvm.ClassFile.FieldType)) ∈ lw_all := lw_g (lw_at lw_m7 63 rfl) rfl
theorem q1616 : (Jvm.Cond.classLink "FlashZones" (14 : Nat) "java/lang/IllegalStateException") ∈ lw_all := lw_g (lw_at lw_m7 64 rfl) rfl
theorem q1617 : (Jvm.Cond.stringRef "FlashZones" (16 : Nat) "not possible now") ∈ lw_tbl := lw_at lw_m7 65 rfl
theorem q1618 : (Jvm.Cond.methodLink "FlashZones" (18 : Nat) ({ cls := "java/lang/IllegalStateException", name := "<init>", desc := "(Ljava/lang/String;)V" } : Jvm.MethodName)) ∈ lw_all := lw_g (lw_at lw_m7 66 rfl) rfl
theorem q1624 : (Jvm.Cond.instanceMethod ({ cls := "FlashZones", name := "truncateText", desc := "(I)I" } : Jvm.MethodName)) ∈ lw_all := lw_g (lw_at lw_m7 72 rfl) rfl
theorem q1625 : (Jvm.Cond.selects "FlashZones" ({ cls := "FlashZones", name := "truncateText", desc := "(I)I" } : Jvm.MethodName) ({ cls := "FlashZones", name := "truncateText", desc := "(I)I" } : Jvm.MethodName)) ∈ lw_all := lw_g (lw_at lw_m7 73 rfl) rfl
theorem q1626 : (Jvm.Cond.code ({ cls := "FlashZones", name := "truncateText", desc := "(I)I" } : Jvm.MethodName) prog_1_method_60_code (2 : Nat) (Option.some Jvm.ClassFile.FieldType.int)) ∈ lw_all := lw_g (lw_at lw_m7 74 rfl) rfl
theorem q1627 : (Jvm.Cond.methodLink "FlashZones" (121 : Nat) ({ cls := "FlashZones", name := "argument", desc := "(Z)V" } : Jvm.MethodName)) ∈ lw_all := lw_g (lw_at lw_m7 75 rfl) rfl
theorem q1628 : (Jvm.Cond.static ({ cls := "FlashZones", name := "argument", desc := "(Z)V" } : Jvm.MethodName)) ∈ lw_all := lw_g (lw_at lw_m7 76 rfl) rfl
theorem q1629 : (Jvm.Cond.code ({ cls := "FlashZones", name := "argument", desc := "(Z)V" } : Jvm.MethodName) prog_1_method_4_code (1 : Nat) (Option.none : Option Jvm.ClassFile.FieldType)) ∈ lw_all := lw_g (lw_at lw_m7 77 rfl) rfl
theorem q1630 : (Jvm.Cond.classLink "FlashZones" (9 : Nat) "java/lang/IllegalArgumentException") ∈ lw_all := lw_g (lw_at lw_m7 78 rfl) rfl
theorem q1631 : (Jvm.Cond.stringRef "FlashZones" (11 : Nat) "out of range") ∈ lw_tbl := lw_at lw_m7 79 rfl
theorem q1632 : (Jvm.Cond.methodLink "FlashZones" (13 : Nat) ({ cls := "java/lang/IllegalArgumentException", name := "<init>", desc := "(Ljava/lang/String;)V" } : Jvm.MethodName)) ∈ lw_all := lw_g (lw_at lw_m7 80 rfl) rfl
theorem q1637 : (Jvm.Cond.instanceMethod ({ cls := "FlashZones", name := "set", desc := "(II)I" } : Jvm.MethodName)) ∈ lw_all := lw_g (lw_at lw_m7 85 rfl) rfl
theorem q1638 : (Jvm.Cond.selects "FlashZones" ({ cls := "FlashZones", name := "set", desc := "(II)I" } : Jvm.MethodName) ({ cls := "FlashZones", name := "set", desc := "(II)I" } : Jvm.MethodName)) ∈ lw_all := lw_g (lw_at lw_m7 86 rfl) rfl
theorem q1639 : (Jvm.Cond.code ({ cls := "FlashZones", name := "set", desc := "(II)I" } : Jvm.MethodName) prog_1_method_23_code (5 : Nat) (Option.some Jvm.ClassFile.FieldType.int)) ∈ lw_all := lw_g (lw_at lw_m7 87 rfl) rfl
theorem q1640 : (Jvm.Cond.fieldLink "FlashZones" (180 : Nat) "FlashZones" "LEAST" "[I") ∈ lw_all := lw_g (lw_at lw_m7 88 rfl) rfl
theorem q1641 : (Jvm.Cond.laysStatic "FlashZones" "LEAST" "[I") ∈ lw_tbl := lw_at lw_m7 89 rfl
theorem q1642 : (Jvm.Cond.fieldLink "FlashZones" (183 : Nat) "FlashZones" "GREATEST" "[I") ∈ lw_all := lw_g (lw_at lw_m7 90 rfl) rfl
theorem q1643 : (Jvm.Cond.laysStatic "FlashZones" "GREATEST" "[I") ∈ lw_tbl := lw_at lw_m7 91 rfl
theorem q1644 : (Jvm.Cond.interfaceEntry "FlashZones" (186 : Nat)) ∈ lw_tbl := lw_at lw_m7 92 rfl
theorem q1645 : (Jvm.Cond.methodLink "FlashZones" (186 : Nat) ({ cls := "java/util/List", name := "isEmpty", desc := "()Z" } : Jvm.MethodName)) ∈ lw_all := lw_g (lw_at lw_m7 93 rfl) rfl
theorem q1657 : (Jvm.Cond.instanceMethod ({ cls := "FlashZones", name := "count", desc := "(I)I" } : Jvm.MethodName)) ∈ lw_all := lw_g (lw_at lw_m7 105 rfl) rfl
theorem q1658 : (Jvm.Cond.selects "FlashZones" ({ cls := "FlashZones", name := "count", desc := "(I)I" } : Jvm.MethodName) ({ cls := "FlashZones", name := "count", desc := "(I)I" } : Jvm.MethodName)) ∈ lw_all := lw_g (lw_at lw_m7 106 rfl) rfl
theorem q1659 : (Jvm.Cond.code ({ cls := "FlashZones", name := "count", desc := "(I)I" } : Jvm.MethodName) prog_1_method_28_code (3 : Nat) (Option.some Jvm.ClassFile.FieldType.int)) ∈ lw_all := lw_g (lw_at lw_m7 107 rfl) rfl
theorem q1660 : (Jvm.Cond.methodLink "FlashZones" (217 : Nat) ({ cls := "FlashZones$Store", name := "living", desc := "(Z)I" } : Jvm.MethodName)) ∈ lw_all := lw_g (lw_at lw_m7 108 rfl) rfl
theorem q1661 : (Jvm.Cond.methodLink "FlashZones" (221 : Nat) ({ cls := "FlashZones$Store", name := "free", desc := "()I" } : Jvm.MethodName)) ∈ lw_all := lw_g (lw_at lw_m7 109 rfl) rfl
theorem q1662 : (Jvm.Cond.methodLink "FlashZones" (230 : Nat) ({ cls := "FlashZones$Store", name := "leader", desc := "()I" } : Jvm.MethodName)) ∈ lw_all := lw_g (lw_at lw_m7 110 rfl) rfl
theorem q1663 : (Jvm.Cond.methodLink "FlashZones" (236 : Nat) ({ cls := "FlashZones", name := "filled", desc := "()I" } : Jvm.MethodName)) ∈ lw_all := lw_g (lw_at lw_m7 111 rfl) rfl
theorem q1664 : (Jvm.Cond.privateMethod ({ cls := "FlashZones", name := "filled", desc := "()I" } : Jvm.MethodName)) ∈ lw_tbl := lw_at lw_m7 112 rfl
theorem q1665 : (Jvm.Cond.instanceMethod ({ cls := "FlashZones", name := "filled", desc := "()I" } : Jvm.MethodName)) ∈ lw_all := lw_g (lw_at lw_m7 113 rfl) rfl
theorem q1666 : (Jvm.Cond.code ({ cls := "FlashZones", name := "filled", desc := "()I" } : Jvm.MethodName) prog_1_method_27_code (3 : Nat) (Option.some Jvm.ClassFile.FieldType.int)) ∈ lw_all := lw_g (lw_at lw_m7 114 rfl) rfl
theorem q1674 : (Jvm.Cond.instanceMethod ({ cls := "FlashZones", name := "zone", desc := "(II)I" } : Jvm.MethodName)) ∈ lw_all := lw_g (lw_at lw_m7 122 rfl) rfl
theorem q1675 : (Jvm.Cond.selects "FlashZones" ({ cls := "FlashZones", name := "zone", desc := "(II)I" } : Jvm.MethodName) ({ cls := "FlashZones", name := "zone", desc := "(II)I" } : Jvm.MethodName)) ∈ lw_all := lw_g (lw_at lw_m7 123 rfl) rfl
theorem q1676 : (Jvm.Cond.code ({ cls := "FlashZones", name := "zone", desc := "(II)I" } : Jvm.MethodName) prog_1_method_31_code (4 : Nat) (Option.some Jvm.ClassFile.FieldType.int)) ∈ lw_all := lw_g (lw_at lw_m7 124 rfl) rfl
theorem q1677 : (Jvm.Cond.methodLink "FlashZones" (133 : Nat) ({ cls := "FlashZones", name := "index", desc := "(Z)V" } : Jvm.MethodName)) ∈ lw_all := lw_g (lw_at lw_m7 125 rfl) rfl
theorem q1678 : (Jvm.Cond.static ({ cls := "FlashZones", name := "index", desc := "(Z)V" } : Jvm.MethodName)) ∈ lw_all := lw_g (lw_at lw_m7 126 rfl) rfl
theorem q1679 : (Jvm.Cond.code ({ cls := "FlashZones", name := "index", desc := "(Z)V" } : Jvm.MethodName) prog_1_method_3_code (1 : Nat) (Option.none : Option Jvm.ClassFile.FieldType)) ∈ lw_all := lw_g (lw_at lw_m7 127 rfl) rfl
theorem q1680 : (Jvm.Cond.classLink "FlashZones" (1 : Nat) "java/lang/IndexOutOfBoundsException") ∈ lw_all := lw_g (lw_at lw_m7 128 rfl) rfl
theorem q1689 : (Jvm.Cond.stringRef "FlashZones" (3 : Nat) "there is no such one") ∈ lw_tbl := lw_at lw_m7 137 rfl
theorem q1690 : (Jvm.Cond.methodLink "FlashZones" (5 : Nat) ({ cls := "java/lang/IndexOutOfBoundsException", name := "<init>", desc := "(Ljava/lang/String;)V" } : Jvm.MethodName)) ∈ lw_all := lw_g (lw_at lw_m7 138 rfl) rfl
theorem q1693 : (Jvm.Cond.methodLink "FlashZones" (262 : Nat) ({ cls := "FlashZones$Store", name := "livingIn", desc := "(I)I" } : Jvm.MethodName)) ∈ lw_all := lw_g (lw_at lw_m7 141 rfl) rfl
theorem q1694 : (Jvm.Cond.methodLink "FlashZones" (265 : Nat) ({ cls := "FlashZones", name := "livingPlaces", desc := "(I)I" } : Jvm.MethodName)) ∈ lw_all := lw_g (lw_at lw_m7 142 rfl) rfl
theorem q1695 : (Jvm.Cond.privateMethod ({ cls := "FlashZones", name := "livingPlaces", desc := "(I)I" } : Jvm.MethodName)) ∈ lw_tbl := lw_at lw_m7 143 rfl
theorem q1696 : (Jvm.Cond.instanceMethod ({ cls := "FlashZones", name := "livingPlaces", desc := "(I)I" } : Jvm.MethodName)) ∈ lw_all := lw_g (lw_at lw_m7 144 rfl) rfl
theorem q1697 : (Jvm.Cond.code ({ cls := "FlashZones", name := "livingPlaces", desc := "(I)I" } : Jvm.MethodName) prog_1_method_29_code (5 : Nat) (Option.some Jvm.ClassFile.FieldType.int)) ∈ lw_all := lw_g (lw_at lw_m7 145 rfl) rfl
theorem q1698 : (Jvm.Cond.methodLink "FlashZones" (269 : Nat) ({ cls := "FlashZones$Store", name := "isOver", desc := "(II)Z" } : Jvm.MethodName)) ∈ lw_all := lw_g (lw_at lw_m7 146 rfl) rfl
theorem q1699 : (Jvm.Cond.methodLink "FlashZones" (273 : Nat) ({ cls := "FlashZones", name := "bit", desc := "(Z)I" } : Jvm.MethodName)) ∈ lw_all := lw_g (lw_at lw_m7 147 rfl) rfl
theorem q1700 : (Jvm.Cond.methodLink "FlashZones" (276 : Nat) ({ cls := "FlashZones", name := "lowestIn", desc := "(I)I" } : Jvm.MethodName)) ∈ lw_all := lw_g (lw_at lw_m7 148 rfl) rfl
theorem q1701 : (Jvm.Cond.privateMethod ({ cls := "FlashZones", name := "lowestIn", desc := "(I)I" } : Jvm.MethodName)) ∈ lw_tbl := lw_at lw_m7 149 rfl
theorem q1702 : (Jvm.Cond.instanceMethod ({ cls := "FlashZones", name := "lowestIn", desc := "(I)I" } : Jvm.MethodName)) ∈ lw_all := lw_g (lw_at lw_m7 150 rfl) rfl
theorem q1703 : (Jvm.Cond.code ({ cls := "FlashZones", name := "lowestIn", desc := "(I)I" } : Jvm.MethodName) prog_1_method_30_code (4 : Nat) (Option.some Jvm.ClassFile.FieldType.int)) ∈ lw_all := lw_g (lw_at lw_m7 151 rfl) rfl
theorem q1708 : (Jvm.Cond.instanceMethod ({ cls := "FlashZones", name := "unit", desc := "(II)I" } : Jvm.MethodName)) ∈ lw_all := lw_g (lw_at lw_m7 156 rfl) rfl
theorem q1709 : (Jvm.Cond.selects "FlashZones" ({ cls := "FlashZones", name := "unit", desc := "(II)I" } : Jvm.MethodName) ({ cls := "FlashZones", name := "unit", desc := "(II)I" } : Jvm.MethodName)) ∈ lw_all := lw_g (lw_at lw_m7 157 rfl) rfl
theorem q1710 : (Jvm.Cond.code ({ cls := "FlashZones", name := "unit", desc := "(II)I" } : Jvm.MethodName) prog_1_method_32_code (4 : Nat) (Option.some Jvm.ClassFile.FieldType.int)) ∈ lw_all := lw_g (lw_at lw_m7 158 rfl) rfl
theorem q1715 : (Jvm.Cond.instanceMethod ({ cls := "FlashZones", name := "guesser", desc := "(II)I" } : Jvm.MethodName)) ∈ lw_all := lw_g (lw_at lw_m7 163 rfl) rfl
theorem q1716 : (Jvm.Cond.selects "FlashZones" ({ cls := "FlashZones", name := "guesser", desc := "(II)I" } : Jvm.MethodName) ({ cls := "FlashZones", name := "guesser", desc := "(II)I" } : Jvm.MethodName)) ∈ lw_all := lw_g (lw_at lw_m7 164 rfl) rfl
theorem q1717 : (Jvm.Cond.code ({ cls := "FlashZones", name := "guesser", desc := "(II)I" } : Jvm.MethodName) prog_1_method_34_code (3 : Nat) (Option.some Jvm.ClassFile.FieldType.int)) ∈ lw_all := lw_g (lw_at lw_m7 165 rfl) rfl
theorem q1718 : (Jvm.Cond.methodLink "FlashZones" (294 : Nat) ({ cls := "FlashZones", name := "requireGuesser", desc := "(I)V" } : Jvm.MethodName)) ∈ lw_all := lw_g (lw_at lw_m7 166 rfl) rfl
theorem q1719 : (Jvm.Cond.static ({ cls := "FlashZones", name := "requireGuesser", desc := "(I)V" } : Jvm.MethodName)) ∈ lw_all := lw_g (lw_at lw_m7 167 rfl) rfl
theorem q1720 : (Jvm.Cond.code ({ cls := "FlashZones", name := "requireGuesser", desc := "(I)V" } : Jvm.MethodName) prog_1_method_33_code (1 : Nat) (Option.none : Option Jvm.ClassFile.FieldType)) ∈ lw_all := lw_g (lw_at lw_m7 168 rfl) rfl
theorem q1725 : (Jvm.Cond.instanceMethod ({ cls := "FlashZones", name := "guess", desc := "(III)I" } : Jvm.MethodName)) ∈ lw_all := lw_g (lw_at lw_m7 173 rfl) rfl
theorem q1726 : (Jvm.Cond.selects "FlashZones" ({ cls := "FlashZones", name := "guess", desc := "(III)I" } : Jvm.MethodName) ({ cls := "FlashZones", name := "guess", desc := "(III)I" } : Jvm.MethodName)) ∈ lw_all := lw_g (lw_at lw_m7 174 rfl) rfl
theorem q1727 : (Jvm.Cond.code ({ cls := "FlashZones", name := "guess", desc := "(III)I" } : Jvm.MethodName) prog_1_method_36_code (4 : Nat) (Option.some Jvm.ClassFile.FieldType.int)) ∈ lw_all := lw_g (lw_at lw_m7 175 rfl) rfl
theorem q1728 : (Jvm.Cond.methodLink "FlashZones" (303 : Nat) ({ cls := "FlashZones", name := "requireKind", desc := "(II)V" } : Jvm.MethodName)) ∈ lw_all := lw_g (lw_at lw_m7 176 rfl) rfl
theorem q1729 : (Jvm.Cond.static ({ cls := "FlashZones", name := "requireKind", desc := "(II)V" } : Jvm.MethodName)) ∈ lw_all := lw_g (lw_at lw_m7 177 rfl) rfl
theorem q1730 : (Jvm.Cond.code ({ cls := "FlashZones", name := "requireKind", desc := "(II)V" } : Jvm.MethodName) prog_1_method_35_code (2 : Nat) (Option.none : Option Jvm.ClassFile.FieldType)) ∈ lw_all := lw_g (lw_at lw_m7 178 rfl) rfl
theorem q1731 : (Jvm.Cond.methodLink "FlashZones" (307 : Nat) ({ cls := "FlashZones$Store", name := "tells", desc := "(IIII)I" } : Jvm.MethodName)) ∈ lw_all := lw_g (lw_at lw_m7 179 rfl) rfl
theorem q1736 : (Jvm.Cond.instanceMethod ({ cls := "FlashZones", name := "share", desc := "(I)D" } : Jvm.MethodName)) ∈ lw_all := lw_g (lw_at lw_m7 184 rfl) rfl
theorem q1737 : (Jvm.Cond.selects "FlashZones" ({ cls := "FlashZones", name := "share", desc := "(I)D" } : Jvm.MethodName) ({ cls := "FlashZones", name := "share", desc := "(I)D" } : Jvm.MethodName)) ∈ lw_all := lw_g (lw_at lw_m7 185 rfl) rfl
theorem q1738 : (Jvm.Cond.code ({ cls := "FlashZones", name := "share", desc := "(I)D" } : Jvm.MethodName) prog_1_method_37_code (7 : Nat) (Option.some Jvm.ClassFile.FieldType.double)) ∈ lw_all := lw_g (lw_at lw_m7 186 rfl) rfl
theorem q1743 : (Jvm.Cond.instanceMethod ({ cls := "FlashZones", name := "account", desc := "(I)I" } : Jvm.MethodName)) ∈ lw_all := lw_g (lw_at lw_m7 191 rfl) rfl
theorem q1744 : (Jvm.Cond.selects "FlashZones" ({ cls := "FlashZones", name := "account", desc := "(I)I" } : Jvm.MethodName) ({ cls := "FlashZones", name := "account", desc := "(I)I" } : Jvm.MethodName)) ∈ lw_all := lw_g (lw_at lw_m7 192 rfl) rfl
theorem q1745 : (Jvm.Cond.code ({ cls := "FlashZones", name := "account", desc := "(I)I" } : Jvm.MethodName) prog_1_method_52_code (2 : Nat) (Option.some Jvm.ClassFile.FieldType.int)) ∈ lw_all := lw_g (lw_at lw_m7 193 rfl) rfl
theorem q1750 : (Jvm.Cond.instanceMethod ({ cls := "FlashZones", name := "writer", desc := "(II)I" } : Jvm.MethodName)) ∈ lw_all := lw_g (lw_at lw_m7 198 rfl) rfl
theorem q1751 : (Jvm.Cond.selects "FlashZones" ({ cls := "FlashZones", name := "writer", desc := "(II)I" } : Jvm.MethodName) ({ cls := "FlashZones", name := "writer", desc := "(II)I" } : Jvm.MethodName)) ∈ lw_all := lw_g (lw_at lw_m7 199 rfl) rfl
theorem q1752 : (Jvm.Cond.code ({ cls := "FlashZones", name := "writer", desc := "(II)I" } : Jvm.MethodName) prog_1_method_42_code (5 : Nat) (Option.some Jvm.ClassFile.FieldType.int)) ∈ lw_all := lw_g (lw_at lw_m7 200 rfl) rfl
theorem q1753 : (Jvm.Cond.classLink "FlashZones" (323 : Nat) "FlashZones$Asked") ∈ lw_all := lw_g (lw_at lw_m7 201 rfl) rfl
theorem q1755 : (Jvm.Cond.static ({ cls := "FlashZones", name := "lambda$writer$0", desc := "(LFlashZones$Unit;)I" } : Jvm.MethodName)) ∈ lw_all := lw_g (lw_at lw_m7 203 rfl) rfl
theorem q1756 : (Jvm.Cond.code ({ cls := "FlashZones", name := "lambda$writer$0", desc := "(LFlashZones$Unit;)I" } : Jvm.MethodName) prog_1_method_76_code (1 : Nat) (Option.some Jvm.ClassFile.FieldType.int)) ∈ lw_all := lw_g (lw_at lw_m7 204 rfl) rfl
theorem q1757 : (Jvm.Cond.static ({ cls := "FlashZones", name := "lambda$writer$1", desc := "(LFlashZones$Unit;)I" } : Jvm.MethodName)) ∈ lw_all := lw_g (lw_at lw_m7 205 rfl) rfl
theorem q1758 : (Jvm.Cond.code ({ cls := "FlashZones", name := "lambda$writer$1", desc := "(LFlashZones$Unit;)I" } : Jvm.MethodName) prog_1_method_75_code (1 : Nat) (Option.some Jvm.ClassFile.FieldType.int)) ∈ lw_all := lw_g (lw_at lw_m7 206 rfl) rfl
theorem q1759 : (Jvm.Cond.static ({ cls := "FlashZones", name := "lambda$writer$2", desc := "(LFlashZones$Unit;)I" } : Jvm.MethodName)) ∈ lw_all := lw_g (lw_at lw_m7 207 rfl) rfl
theorem q1760 : (Jvm.Cond.code ({ cls := "FlashZones", name := "lambda$writer$2", desc := "(LFlashZones$Unit;)I" } : Jvm.MethodName) prog_1_method_74_code (1 : Nat) (Option.some Jvm.ClassFile.FieldType.int)) ∈ lw_all := lw_g (lw_at lw_m7 208 rfl) rfl
theorem q1761 : (Jvm.Cond.static ({ cls := "FlashZones", name := "lambda$writer$3", desc := "(ILFlashZones$Unit;)I" } : Jvm.MethodName)) ∈ lw_all := lw_g (lw_at lw_m7 209 rfl) rfl
theorem q1762 : (Jvm.Cond.code ({ cls := "FlashZones", name := "lambda$writer$3", desc := "(ILFlashZones$Unit;)I" } : Jvm.MethodName) prog_1_method_73_code (2 : Nat) (Option.some Jvm.ClassFile.FieldType.int)) ∈ lw_all := lw_g (lw_at lw_m7 210 rfl) rfl
theorem q1763 : (Jvm.Cond.static ({ cls := "FlashZones", name := "lambda$writer$4", desc := "(LFlashZones$Unit;)I" } : Jvm.MethodName)) ∈ lw_all := lw_g (lw_at lw_m7 211 rfl) rfl
theorem q1764 : (Jvm.Cond.code ({ cls := "FlashZones", name := "lambda$writer$4", desc := "(LFlashZones$Unit;)I" } : Jvm.MethodName) prog_1_method_72_code (1 : Nat) (Option.some Jvm.ClassFile.FieldType.int)) ∈ lw_all := lw_g (lw_at lw_m7 212 rfl) rfl
theorem q1765 : (Jvm.Cond.methodLink "FlashZones" (441 : Nat) ({ cls := "FlashZones$Store", name := "lossOf", desc := "(LFlashZones$Unit;I)I" } : Jvm.MethodName)) ∈ lw_all := lw_g (lw_at lw_m7 213 rfl) rfl
theorem q1766 : (Jvm.Cond.static ({ cls := "FlashZones", name := "lambda$writer$5", desc := "(LFlashZones$Unit;)I" } : Jvm.MethodName)) ∈ lw_all := lw_g (lw_at lw_m7 214 rfl) rfl
theorem q1767 : (Jvm.Cond.code ({ cls := "FlashZones", name := "lambda$writer$5", desc := "(LFlashZones$Unit;)I" } : Jvm.MethodName) prog_1_method_71_code (1 : Nat) (Option.some Jvm.ClassFile.FieldType.int)) ∈ lw_all := lw_g (lw_at lw_m7 215 rfl) rfl
theorem q1768 : (Jvm.Cond.methodLink "FlashZones" (341 : Nat) ({ cls := "FlashZones", name := "greatest", desc := "(LFlashZones$Asked;)I" } : Jvm.MethodName)) ∈ lw_all := lw_g (lw_at lw_m7 216 rfl) rfl
theorem q1769 : (Jvm.Cond.privateMethod ({ cls := "FlashZones", name := "greatest", desc := "(LFlashZones$Asked;)I" } : Jvm.MethodName)) ∈ lw_tbl := lw_at lw_m7 217 rfl
theorem q1770 : (Jvm.Cond.instanceMethod ({ cls := "FlashZones", name := "greatest", desc := "(LFlashZones$Asked;)I" } : Jvm.MethodName)) ∈ lw_all := lw_g (lw_at lw_m7 218 rfl) rfl
theorem q1771 : (Jvm.Cond.code ({ cls := "FlashZones", name := "greatest", desc := "(LFlashZones$Asked;)I" } : Jvm.MethodName) prog_1_method_41_code (5 : Nat) (Option.some Jvm.ClassFile.FieldType.int)) ∈ lw_all := lw_g (lw_at lw_m7 219 rfl) rfl
theorem q1772 : (Jvm.Cond.interfaceEntry "FlashZones" (322 : Nat)) ∈ lw_tbl := lw_at lw_m7 220 rfl
theorem q1773 : (Jvm.Cond.methodLink "FlashZones" (322 : Nat) ({ cls := "FlashZones$Asked", name := "of", desc := "(LFlashZones$Unit;)I" } : Jvm.MethodName)) ∈ lw_all := lw_g (lw_at lw_m7 221 rfl) rfl
theorem q1776 : (Jvm.Cond.methodLink "FlashZones" (328 : Nat) ({ cls := "java/lang/Math", name := "max", desc := "(II)I" } : Jvm.MethodName)) ∈ lw_all := lw_g (lw_at lw_m7 224 rfl) rfl
theorem q1777 : (Jvm.Cond.static ({ cls := "FlashZones", name := "lambda$writer$6", desc := "(ILFlashZones$Asked;LFlashZones$Unit;)I" } : Jvm.MethodName)) ∈ lw_all := lw_g (lw_at lw_m7 225 rfl) rfl
theorem q1778 : (Jvm.Cond.code ({ cls := "FlashZones", name := "lambda$writer$6", desc := "(ILFlashZones$Asked;LFlashZones$Unit;)I" } : Jvm.MethodName) prog_1_method_70_code (3 : Nat) (Option.some Jvm.ClassFile.FieldType.int)) ∈ lw_all := lw_g (lw_at lw_m7 226 rfl) rfl
theorem q1779 : (Jvm.Cond.methodLink "FlashZones" (348 : Nat) ({ cls := "FlashZones", name := "sum", desc := "(LFlashZones$Asked;)I" } : Jvm.MethodName)) ∈ lw_all := lw_g (lw_at lw_m7 227 rfl) rfl
theorem q1780 : (Jvm.Cond.privateMethod ({ cls := "FlashZones", name := "sum", desc := "(LFlashZones$Asked;)I" } : Jvm.MethodName)) ∈ lw_tbl := lw_at lw_m7 228 rfl
theorem q1781 : (Jvm.Cond.instanceMethod ({ cls := "FlashZones", name := "sum", desc := "(LFlashZones$Asked;)I" } : Jvm.MethodName)) ∈ lw_all := lw_g (lw_at lw_m7 229 rfl) rfl
theorem q1782 : (Jvm.Cond.code ({ cls := "FlashZones", name := "sum", desc := "(LFlashZones$Asked;)I" } : Jvm.MethodName) prog_1_method_40_code (5 : Nat) (Option.some Jvm.ClassFile.FieldType.int)) ∈ lw_all := lw_g (lw_at lw_m7 230 rfl) rfl
theorem q1787 : (Jvm.Cond.instanceMethod ({ cls := "FlashZones", name := "late", desc := "(I)I" } : Jvm.MethodName)) ∈ lw_all := lw_g (lw_at lw_m7 235 rfl) rfl
theorem q1788 : (Jvm.Cond.selects "FlashZones" ({ cls := "FlashZones", name := "late", desc := "(I)I" } : Jvm.MethodName) ({ cls := "FlashZones", name := "late", desc := "(I)I" } : Jvm.MethodName)) ∈ lw_all := lw_g (lw_at lw_m7 236 rfl) rfl
theorem q1789 : (Jvm.Cond.code ({ cls := "FlashZones", name := "late", desc := "(I)I" } : Jvm.MethodName) prog_1_method_43_code (5 : Nat) (Option.some Jvm.ClassFile.FieldType.int)) ∈ lw_all := lw_g (lw_at lw_m7 237 rfl) rfl
theorem q1794 : (Jvm.Cond.instanceMethod ({ cls := "FlashZones", name := "inZone", desc := "(II)I" } : Jvm.MethodName)) ∈ lw_all := lw_g (lw_at lw_m8 2 rfl) rfl
theorem q1795 : (Jvm.Cond.selects "FlashZones" ({ cls := "FlashZones", name := "inZone", desc := "(II)I" } : Jvm.MethodName) ({ cls := "FlashZones", name := "inZone", desc := "(II)I" } : Jvm.MethodName)) ∈ lw_all := lw_g (lw_at lw_m8 3 rfl) rfl
theorem q1796 : (Jvm.Cond.code ({ cls := "FlashZones", name := "inZone", desc := "(II)I" } : Jvm.MethodName) prog_1_method_44_code (4 : Nat) (Option.some Jvm.ClassFile.FieldType.int)) ∈ lw_all := lw_g (lw_at lw_m8 4 rfl) rfl
theorem q1801 : (Jvm.Cond.instanceMethod ({ cls := "FlashZones", name := "due", desc := "(I)I" } : Jvm.MethodName)) ∈ lw_all := lw_g (lw_at lw_m8 9 rfl) rfl
theorem q1802 : (Jvm.Cond.selects "FlashZones" ({ cls := "FlashZones", name := "due", desc := "(I)I" } : Jvm.MethodName) ({ cls := "FlashZones", name := "due", desc := "(I)I" } : Jvm.MethodName)) ∈ lw_all := lw_g (lw_at lw_m8 10 rfl) rfl
theorem q1803 : (Jvm.Cond.code ({ cls := "FlashZones", name := "due", desc := "(I)I" } : Jvm.MethodName) prog_1_method_45_code (3 : Nat) (Option.some Jvm.ClassFile.FieldType.int)) ∈ lw_all := lw_g (lw_at lw_m8 11 rfl) rfl
theorem q1804 : (Jvm.Cond.methodLink "FlashZones" (351 : Nat) ({ cls := "FlashZones$Zone", name := "isFree", desc := "()Z" } : Jvm.MethodName)) ∈ lw_all := lw_g (lw_at lw_m8 12 rfl) rfl
theorem q1809 : (Jvm.Cond.instanceMethod ({ cls := "FlashZones", name := "wear", desc := "(I)I" } : Jvm.MethodName)) ∈ lw_all := lw_g (lw_at lw_m8 17 rfl) rfl
theorem q1810 : (Jvm.Cond.selects "FlashZones" ({ cls := "FlashZones", name := "wear", desc := "(I)I" } : Jvm.MethodName) ({ cls := "FlashZones", name := "wear", desc := "(I)I" } : Jvm.MethodName)) ∈ lw_all := lw_g (lw_at lw_m8 18 rfl) rfl
theorem q1811 : (Jvm.Cond.code ({ cls := "FlashZones", name := "wear", desc := "(I)I" } : Jvm.MethodName) prog_1_method_46_code (2 : Nat) (Option.some Jvm.ClassFile.FieldType.int)) ∈ lw_all := lw_g (lw_at lw_m8 19 rfl) rfl
theorem q1812 : (Jvm.Cond.classLink "FlashZones" (354 : Nat) "FlashZones$Wear") ∈ lw_all := lw_g (lw_at lw_m8 20 rfl) rfl
theorem q1814 : (Jvm.Cond.methodLink "FlashZones" (356 : Nat) ({ cls := "FlashZones$Wear", name := "<init>", desc := "(LFlashZones;)V" } : Jvm.MethodName)) ∈ lw_all := lw_g (lw_at lw_m8 22 rfl) rfl
theorem q1833 : (Jvm.Cond.methodLink "FlashZones" (359 : Nat) ({ cls := "FlashZones$Wear", name := "tells", desc := "(I)I" } : Jvm.MethodName)) ∈ lw_all := lw_g (lw_at lw_m8 41 rfl) rfl
theorem q1841 : (Jvm.Cond.instanceMethod ({ cls := "FlashZones", name := "bin", desc := "(II)I" } : Jvm.MethodName)) ∈ lw_all := lw_g (lw_at lw_m8 49 rfl) rfl
theorem q1842 : (Jvm.Cond.selects "FlashZones" ({ cls := "FlashZones", name := "bin", desc := "(II)I" } : Jvm.MethodName) ({ cls := "FlashZones", name := "bin", desc := "(II)I" } : Jvm.MethodName)) ∈ lw_all := lw_g (lw_at lw_m8 50 rfl) rfl
theorem q1843 : (Jvm.Cond.code ({ cls := "FlashZones", name := "bin", desc := "(II)I" } : Jvm.MethodName) prog_1_method_48_code (3 : Nat) (Option.some Jvm.ClassFile.FieldType.int)) ∈ lw_all := lw_g (lw_at lw_m8 51 rfl) rfl
theorem q1844 : (Jvm.Cond.static ({ cls := "FlashZones", name := "lambda$bin$7", desc := "(IILFlashZones$Unit;)I" } : Jvm.MethodName)) ∈ lw_all := lw_g (lw_at lw_m8 52 rfl) rfl
theorem q1845 : (Jvm.Cond.code ({ cls := "FlashZones", name := "lambda$bin$7", desc := "(IILFlashZones$Unit;)I" } : Jvm.MethodName) prog_1_method_69_code (3 : Nat) (Option.some Jvm.ClassFile.FieldType.int)) ∈ lw_all := lw_g (lw_at lw_m8 53 rfl) rfl
theorem q1846 : (Jvm.Cond.methodLink "FlashZones" (445 : Nat) ({ cls := "FlashZones", name := "binOf", desc := "(I)I" } : Jvm.MethodName)) ∈ lw_all := lw_g (lw_at lw_m8 54 rfl) rfl
theorem q1847 : (Jvm.Cond.static ({ cls := "FlashZones", name := "binOf", desc := "(I)I" } : Jvm.MethodName)) ∈ lw_all := lw_g (lw_at lw_m8 55 rfl) rfl
theorem q1848 : (Jvm.Cond.code ({ cls := "FlashZones", name := "binOf", desc := "(I)I" } : Jvm.MethodName) prog_1_method_47_code (1 : Nat) (Option.some Jvm.ClassFile.FieldType.int)) ∈ lw_all := lw_g (lw_at lw_m8 56 rfl) rfl
theorem q1853 : (Jvm.Cond.instanceMethod ({ cls := "FlashZones", name := "expected", desc := "(II)I" } : Jvm.MethodName)) ∈ lw_all := lw_g (lw_at lw_m8 61 rfl) rfl
theorem q1854 : (Jvm.Cond.selects "FlashZones" ({ cls := "FlashZones", name := "expected", desc := "(II)I" } : Jvm.MethodName) ({ cls := "FlashZones", name := "expected", desc := "(II)I" } : Jvm.MethodName)) ∈ lw_all := lw_g (lw_at lw_m8 62 rfl) rfl
theorem q1855 : (Jvm.Cond.code ({ cls := "FlashZones", name := "expected", desc := "(II)I" } : Jvm.MethodName) prog_1_method_49_code (3 : Nat) (Option.some Jvm.ClassFile.FieldType.int)) ∈ lw_all := lw_g (lw_at lw_m8 63 rfl) rfl
theorem q1856 : (Jvm.Cond.static ({ cls := "FlashZones", name := "lambda$expected$8", desc := "(IILFlashZones$Unit;)I" } : Jvm.MethodName)) ∈ lw_all := lw_g (lw_at lw_m8 64 rfl) rfl
theorem q1857 : (Jvm.Cond.code ({ cls := "FlashZones", name := "lambda$expected$8", desc := "(IILFlashZones$Unit;)I" } : Jvm.MethodName) prog_1_method_68_code (3 : Nat) (Option.some Jvm.ClassFile.FieldType.int)) ∈ lw_all := lw_g (lw_at lw_m8 65 rfl) rfl
theorem q1862 : (Jvm.Cond.instanceMethod ({ cls := "FlashZones", name := "leaderIf", desc := "(I)I" } : Jvm.MethodName)) ∈ lw_all := lw_g (lw_at lw_m8 70 rfl) rfl
theorem q1863 : (Jvm.Cond.selects "FlashZones" ({ cls := "FlashZones", name := "leaderIf", desc := "(I)I" } : Jvm.MethodName) ({ cls := "FlashZones", name := "leaderIf", desc := "(I)I" } : Jvm.MethodName)) ∈ lw_all := lw_g (lw_at lw_m8 71 rfl) rfl
theorem q1864 : (Jvm.Cond.code ({ cls := "FlashZones", name := "leaderIf", desc := "(I)I" } : Jvm.MethodName) prog_1_method_51_code (3 : Nat) (Option.some Jvm.ClassFile.FieldType.int)) ∈ lw_all := lw_g (lw_at lw_m8 72 rfl) rfl
theorem q1865 : (Jvm.Cond.classLink "FlashZones" (96 : Nat) "FlashZones$Store") ∈ lw_all := lw_g (lw_at lw_m8 73 rfl) rfl
theorem q1866 : (Jvm.Cond.methodLink "FlashZones" (364 : Nat) ({ cls := "FlashZones$Store", name := "<init>", desc := "(LFlashZones$Store;)V" } : Jvm.MethodName)) ∈ lw_all := lw_g (lw_at lw_m8 74 rfl) rfl
theorem q1867 : (Jvm.Cond.methodLink "FlashZones" (367 : Nat) ({ cls := "FlashZones$Store", name := "dies", desc := "(LFlashZones$Unit;)V" } : Jvm.MethodName)) ∈ lw_all := lw_g (lw_at lw_m8 75 rfl) rfl
theorem q1872 : (Jvm.Cond.instanceMethod ({ cls := "FlashZones", name := "write", desc := "(III)I" } : Jvm.MethodName)) ∈ lw_all := lw_g (lw_at lw_m8 80 rfl) rfl
theorem q1873 : (Jvm.Cond.selects "FlashZones" ({ cls := "FlashZones", name := "write", desc := "(III)I" } : Jvm.MethodName) ({ cls := "FlashZones", name := "write", desc := "(III)I" } : Jvm.MethodName)) ∈ lw_all := lw_g (lw_at lw_m8 81 rfl) rfl
theorem q1874 : (Jvm.Cond.code ({ cls := "FlashZones", name := "write", desc := "(III)I" } : Jvm.MethodName) prog_1_method_11_code (4 : Nat) (Option.some Jvm.ClassFile.FieldType.int)) ∈ lw_all := lw_g (lw_at lw_m8 82 rfl) rfl
theorem q1879 : (Jvm.Cond.instanceMethod ({ cls := "FlashZones", name := "die", desc := "(I)I" } : Jvm.MethodName)) ∈ lw_all := lw_g (lw_at lw_m8 87 rfl) rfl
theorem q1880 : (Jvm.Cond.selects "FlashZones" ({ cls := "FlashZones", name := "die", desc := "(I)I" } : Jvm.MethodName) ({ cls := "FlashZones", name := "die", desc := "(I)I" } : Jvm.MethodName)) ∈ lw_all := lw_g (lw_at lw_m8 88 rfl) rfl
theorem q1881 : (Jvm.Cond.code ({ cls := "FlashZones", name := "die", desc := "(I)I" } : Jvm.MethodName) prog_1_method_12_code (2 : Nat) (Option.some Jvm.ClassFile.FieldType.int)) ∈ lw_all := lw_g (lw_at lw_m8 89 rfl) rfl
theorem q1886 : (Jvm.Cond.instanceMethod ({ cls := "FlashZones", name := "reset", desc := "(I)I" } : Jvm.MethodName)) ∈ lw_all := lw_g (lw_at lw_m8 94 rfl) rfl
theorem q1887 : (Jvm.Cond.selects "FlashZones" ({ cls := "FlashZones", name := "reset", desc := "(I)I" } : Jvm.MethodName) ({ cls := "FlashZones", name := "reset", desc := "(I)I" } : Jvm.MethodName)) ∈ lw_all := lw_g (lw_at lw_m8 95 rfl) rfl
theorem q1888 : (Jvm.Cond.code ({ cls := "FlashZones", name := "reset", desc := "(I)I" } : Jvm.MethodName) prog_1_method_13_code (2 : Nat) (Option.some Jvm.ClassFile.FieldType.int)) ∈ lw_all := lw_g (lw_at lw_m8 96 rfl) rfl
theorem q1893 : (Jvm.Cond.instanceMethod ({ cls := "FlashZones", name := "bury", desc := "(I)I" } : Jvm.MethodName)) ∈ lw_all := lw_g (lw_at lw_m8 101 rfl) rfl
theorem q1894 : (Jvm.Cond.selects "FlashZones" ({ cls := "FlashZones", name := "bury", desc := "(I)I" } : Jvm.MethodName) ({ cls := "FlashZones", name := "bury", desc := "(I)I" } : Jvm.MethodName)) ∈ lw_all := lw_g (lw_at lw_m8 102 rfl) rfl
theorem q1895 : (Jvm.Cond.code ({ cls := "FlashZones", name := "bury", desc := "(I)I" } : Jvm.MethodName) prog_1_method_14_code (2 : Nat) (Option.some Jvm.ClassFile.FieldType.int)) ∈ lw_all := lw_g (lw_at lw_m8 103 rfl) rfl
theorem q1900 : (Jvm.Cond.instanceMethod ({ cls := "FlashZones", name := "days", desc := "(I)I" } : Jvm.MethodName)) ∈ lw_all := lw_g (lw_at lw_m8 108 rfl) rfl
theorem q1901 : (Jvm.Cond.selects "FlashZones" ({ cls := "FlashZones", name := "days", desc := "(I)I" } : Jvm.MethodName) ({ cls := "FlashZones", name := "days", desc := "(I)I" } : Jvm.MethodName)) ∈ lw_all := lw_g (lw_at lw_m8 109 rfl) rfl
theorem q1902 : (Jvm.Cond.code ({ cls := "FlashZones", name := "days", desc := "(I)I" } : Jvm.MethodName) prog_1_method_15_code (2 : Nat) (Option.some Jvm.ClassFile.FieldType.int)) ∈ lw_all := lw_g (lw_at lw_m8 110 rfl) rfl
theorem q1907 : (Jvm.Cond.instanceMethod ({ cls := "FlashZones", name := "place", desc := "(II)I" } : Jvm.MethodName)) ∈ lw_all := lw_g (lw_at lw_m8 115 rfl) rfl
theorem q1908 : (Jvm.Cond.selects "FlashZones" ({ cls := "FlashZones", name := "place", desc := "(II)I" } : Jvm.MethodName) ({ cls := "FlashZones", name := "place", desc := "(II)I" } : Jvm.MethodName)) ∈ lw_all := lw_g (lw_at lw_m8 116 rfl) rfl
theorem q1909 : (Jvm.Cond.code ({ cls := "FlashZones", name := "place", desc := "(II)I" } : Jvm.MethodName) prog_1_method_53_code (3 : Nat) (Option.some Jvm.ClassFile.FieldType.int)) ∈ lw_all := lw_g (lw_at lw_m8 117 rfl) rfl
theorem q1910 : (Jvm.Cond.methodLink "FlashZones" (371 : Nat) ({ cls := "FlashZones$Store", name := "placeFor", desc := "(III)I" } : Jvm.MethodName)) ∈ lw_all := lw_g (lw_at lw_m8 118 rfl) rfl
theorem q1915 : (Jvm.Cond.instanceMethod ({ cls := "FlashZones", name := "toBury", desc := "(I)I" } : Jvm.MethodName)) ∈ lw_all := lw_g (lw_at lw_m8 123 rfl) rfl
theorem q1916 : (Jvm.Cond.selects "FlashZones" ({ cls := "FlashZones", name := "toBury", desc := "(I)I" } : Jvm.MethodName) ({ cls := "FlashZones", name := "toBury", desc := "(I)I" } : Jvm.MethodName)) ∈ lw_all := lw_g (lw_at lw_m8 124 rfl) rfl
theorem q1917 : (Jvm.Cond.code ({ cls := "FlashZones", name := "toBury", desc := "(I)I" } : Jvm.MethodName) prog_1_method_54_code (2 : Nat) (Option.some Jvm.ClassFile.FieldType.int)) ∈ lw_all := lw_g (lw_at lw_m8 125 rfl) rfl
theorem q1918 : (Jvm.Cond.methodLink "FlashZones" (375 : Nat) ({ cls := "FlashZones$Store", name := "plan", desc := "(I)I" } : Jvm.MethodName)) ∈ lw_all := lw_g (lw_at lw_m8 126 rfl) rfl
theorem q1923 : (Jvm.Cond.instanceMethod ({ cls := "FlashZones", name := "ahead", desc := "(II)I" } : Jvm.MethodName)) ∈ lw_all := lw_g (lw_at lw_m8 131 rfl) rfl
theorem q1924 : (Jvm.Cond.selects "FlashZones" ({ cls := "FlashZones", name := "ahead", desc := "(II)I" } : Jvm.MethodName) ({ cls := "FlashZones", name := "ahead", desc := "(II)I" } : Jvm.MethodName)) ∈ lw_all := lw_g (lw_at lw_m8 132 rfl) rfl
theorem q1925 : (Jvm.Cond.code ({ cls := "FlashZones", name := "ahead", desc := "(II)I" } : Jvm.MethodName) prog_1_method_55_code (4 : Nat) (Option.some Jvm.ClassFile.FieldType.int)) ∈ lw_all := lw_g (lw_at lw_m8 133 rfl) rfl
theorem q1926 : (Jvm.Cond.methodLink "FlashZones" (378 : Nat) ({ cls := "FlashZones$Store", name := "passAll", desc := "(I)V" } : Jvm.MethodName)) ∈ lw_all := lw_g (lw_at lw_m8 134 rfl) rfl
theorem q1931 : (Jvm.Cond.instanceMethod ({ cls := "FlashZones", name := "anew", desc := "(II)I" } : Jvm.MethodName)) ∈ lw_all := lw_g (lw_at lw_m8 139 rfl) rfl
theorem q1932 : (Jvm.Cond.selects "FlashZones" ({ cls := "FlashZones", name := "anew", desc := "(II)I" } : Jvm.MethodName) ({ cls := "FlashZones", name := "anew", desc := "(II)I" } : Jvm.MethodName)) ∈ lw_all := lw_g (lw_at lw_m8 140 rfl) rfl
theorem q1933 : (Jvm.Cond.code ({ cls := "FlashZones", name := "anew", desc := "(II)I" } : Jvm.MethodName) prog_1_method_18_code (3 : Nat) (Option.some Jvm.ClassFile.FieldType.int)) ∈ lw_all := lw_g (lw_at lw_m8 141 rfl) rfl
theorem q1934 : (Jvm.Cond.methodLink "FlashZones" (167 : Nat) ({ cls := "FlashZones$Retold", name := "tells", desc := "(I)I" } : Jvm.MethodName)) ∈ lw_all := lw_g (lw_at lw_m8 142 rfl) rfl
theorem q1939 : (Jvm.Cond.instanceMethod ({ cls := "FlashZones", name := "better", desc := "(II)I" } : Jvm.MethodName)) ∈ lw_all := lw_g (lw_at lw_m8 147 rfl) rfl
theorem q1940 : (Jvm.Cond.selects "FlashZones" ({ cls := "FlashZones", name := "better", desc := "(II)I" } : Jvm.MethodName) ({ cls := "FlashZones", name := "better", desc := "(II)I" } : Jvm.MethodName)) ∈ lw_all := lw_g (lw_at lw_m8 148 rfl) rfl
theorem q1941 : (Jvm.Cond.code ({ cls := "FlashZones", name := "better", desc := "(II)I" } : Jvm.MethodName) prog_1_method_20_code (5 : Nat) (Option.some Jvm.ClassFile.FieldType.int)) ∈ lw_all := lw_g (lw_at lw_m8 149 rfl) rfl
theorem q1946 : (Jvm.Cond.instanceMethod ({ cls := "FlashZones", name := "gap", desc := "(I)I" } : Jvm.MethodName)) ∈ lw_all := lw_g (lw_at lw_m8 154 rfl) rfl
theorem q1947 : (Jvm.Cond.selects "FlashZones" ({ cls := "FlashZones", name := "gap", desc := "(I)I" } : Jvm.MethodName) ({ cls := "FlashZones", name := "gap", desc := "(I)I" } : Jvm.MethodName)) ∈ lw_all := lw_g (lw_at lw_m8 155 rfl) rfl
theorem q1948 : (Jvm.Cond.code ({ cls := "FlashZones", name := "gap", desc := "(I)I" } : Jvm.MethodName) prog_1_method_21_code (2 : Nat) (Option.some Jvm.ClassFile.FieldType.int)) ∈ lw_all := lw_g (lw_at lw_m8 156 rfl) rfl
theorem q1953 : (Jvm.Cond.instanceMethod ({ cls := "FlashZones", name := "history", desc := "(II)I" } : Jvm.MethodName)) ∈ lw_all := lw_g (lw_at lw_m8 161 rfl) rfl
theorem q1954 : (Jvm.Cond.selects "FlashZones" ({ cls := "FlashZones", name := "history", desc := "(II)I" } : Jvm.MethodName) ({ cls := "FlashZones", name := "history", desc := "(II)I" } : Jvm.MethodName)) ∈ lw_all := lw_g (lw_at lw_m8 162 rfl) rfl
theorem q1955 : (Jvm.Cond.code ({ cls := "FlashZones", name := "history", desc := "(II)I" } : Jvm.MethodName) prog_1_method_22_code (4 : Nat) (Option.some Jvm.ClassFile.FieldType.int)) ∈ lw_all := lw_g (lw_at lw_m8 163 rfl) rfl
theorem q1960 : (Jvm.Cond.instanceMethod ({ cls := "FlashZones", name := "show", desc := "(I)I" } : Jvm.MethodName)) ∈ lw_all := lw_g (lw_at lw_m8 168 rfl) rfl
theorem q1961 : (Jvm.Cond.selects "FlashZones" ({ cls := "FlashZones", name := "show", desc := "(I)I" } : Jvm.MethodName) ({ cls := "FlashZones", name := "show", desc := "(I)I" } : Jvm.MethodName)) ∈ lw_all := lw_g (lw_at lw_m8 169 rfl) rfl
theorem q1962 : (Jvm.Cond.code ({ cls := "FlashZones", name := "show", desc := "(I)I" } : Jvm.MethodName) prog_1_method_56_code (5 : Nat) (Option.some Jvm.ClassFile.FieldType.int)) ∈ lw_all := lw_g (lw_at lw_m8 170 rfl) rfl
theorem q1963 : (Jvm.Cond.methodLink "FlashZones" (384 : Nat) ({ cls := "java/lang/StringBuilder", name := "append", desc := "(I)Ljava/lang/StringBuilder;" } : Jvm.MethodName)) ∈ lw_all := lw_g (lw_at lw_m8 171 rfl) rfl
theorem q1964 : (Jvm.Cond.methodLink "FlashZones" (388 : Nat) ({ cls := "java/lang/StringBuilder", name := "append", desc := "(C)Ljava/lang/StringBuilder;" } : Jvm.MethodName)) ∈ lw_all := lw_g (lw_at lw_m8 172 rfl) rfl
theorem q1965 : (Jvm.Cond.stringRef "FlashZones" (391 : Nat) "free") ∈ lw_tbl := lw_at lw_m8 173 rfl
theorem q1966 : (Jvm.Cond.methodLink "FlashZones" (392 : Nat) ({ cls := "java/lang/StringBuilder", name := "append", desc := "(Ljava/lang/String;)Ljava/lang/StringBuilder;" } : Jvm.MethodName)) ∈ lw_all := lw_g (lw_at lw_m8 174 rfl) rfl
theorem q1971 : (Jvm.Cond.instanceMethod ({ cls := "FlashZones", name := "save", desc := "(I)V" } : Jvm.MethodName)) ∈ lw_all := lw_g (lw_at lw_m8 179 rfl) rfl
theorem q1972 : (Jvm.Cond.selects "FlashZones" ({ cls := "FlashZones", name := "save", desc := "(I)V" } : Jvm.MethodName) ({ cls := "FlashZones", name := "save", desc := "(I)V" } : Jvm.MethodName)) ∈ lw_all := lw_g (lw_at lw_m8 180 rfl) rfl
theorem q1973 : (Jvm.Cond.code ({ cls := "FlashZones", name := "save", desc := "(I)V" } : Jvm.MethodName) prog_1_method_66_code (2 : Nat) (Option.none : Option Jvm.ClassFile.FieldType)) ∈ lw_all := lw_g (lw_at lw_m8 181 rfl) rfl
theorem q1978 : (Jvm.Cond.instanceMethod ({ cls := "FlashZones", name := "restore", desc := "(I)V" } : Jvm.MethodName)) ∈ lw_all := lw_g (lw_at lw_m8 186 rfl) rfl
theorem q1979 : (Jvm.Cond.selects "FlashZones" ({ cls := "FlashZones", name := "restore", desc := "(I)V" } : Jvm.MethodName) ({ cls := "FlashZones", name := "restore", desc := "(I)V" } : Jvm.MethodName)) ∈ lw_all := lw_g (lw_at lw_m8 187 rfl) rfl
theorem q1980 : (Jvm.Cond.code ({ cls := "FlashZones", name := "restore", desc := "(I)V" } : Jvm.MethodName) prog_1_method_67_code (2 : Nat) (Option.none : Option Jvm.ClassFile.FieldType)) ∈ lw_all := lw_g (lw_at lw_m8 188 rfl) rfl
theorem q2557 : (Jvm.Cond.castable "FlashZones" "java/lang/Object") ∈ lw_tbl := lw_at lw_m11 45 rfl
theorem in_X1 : ∀ w ∈ wsX10, w ∈ lw_all := lw_in wsX10 [732, 734, 736, 738, 740, 742, 744, 746, 748] (by decide +kernel) (by decide +kernel)
/-! FlashZones$Book -/
set_option maxRecDepth 100000
def RX2 : String := "FlashZones$Book"
def TX2 : u_T := fun k => match k with
  | 0 => ("FlashZones$Book", "set", "[I", true)
  | 1 => ("FlashZones$Book", "store", "LFlashZones$Store;", false)
  | _ => ("FlashZones$Book", "acts", "Ljava/util/List;", true)
def tyX2 : Nat → FieldType := fun k => match k with
  | 0 => .array .int
  | 1 => .object "FlashZones$Store"
  | _ => .object "java/util/List"
abbrev wsX20 : List Cond := u_ws RX2 TX2 3
theorem nmX2 : ∀ a, a < 3 → ∀ b, b < 3 → a ≠ b → (TX2 a).2.1 ≠ (TX2 b).2.1 := by decide +kernel
theorem tyX2_ok : ∀ k, k < 3 → parseFieldDescriptor (TX2 k).2.2.1 = some (tyX2 k) := by decide +kernel
abbrev cX2_init : ByteArray := prog_4_method_1_code
def yX2_init : MethodName := ⟨RX2, "<init>", "()V"⟩
def dkwX2_init_0 : List UInt8 := [42, 178, 0, 3, 182, 0, 7, 192, 0, 8, 183, 0, 12, 177]
abbrev dktX2_init_0 : List UInt8 := dkwX2_init_0 ++ []
theorem dksX2_init_0 : cX2_init.data.toList.drop 0 = dktX2_init_0 := by decide +kernel
theorem dX2_init_0 : decode cX2_init 0 = .ok (.aload_n 0, 1) := dk_42 (dk_at dksX2_init_0 0 rfl rfl)
theorem dX2_init_1 : decode cX2_init 1 = .ok (.getstatic 3, 3) := dk_178 0 3 (dk_at dksX2_init_0 1 rfl rfl)
theorem dX2_init_4 : decode cX2_init 4 = .ok (.invokevirtual 7, 3) := dk_182 0 7 (dk_at dksX2_init_0 4 rfl rfl)
theorem dX2_init_7 : decode cX2_init 7 = .ok (.checkcast 8, 3) := dk_192 0 8 (dk_at dksX2_init_0 7 rfl rfl)
theorem dX2_init_10 : decode cX2_init 10 = .ok (.invokespecial 12, 3) := dk_183 0 12 (dk_at dksX2_init_0 10 rfl rfl)
theorem dX2_init_13 : decode cX2_init 13 = .ok (.return_, 1) := dk_177 (dk_at dksX2_init_0 13 rfl rfl)
abbrev cX2_init_2 : ByteArray := prog_4_method_2_code
def yX2_init_2 : MethodName := ⟨RX2, "<init>", "([I)V"⟩
def dkwX2_init_2_1 : List UInt8 := [89, 8, 43, 3, 188, 10, 183, 0, 35, 181, 0, 38, 177]
abbrev dktX2_init_2_1 : List UInt8 := dkwX2_init_2_1 ++ []
def dkwX2_init_2_0 : List UInt8 := [42, 183, 0, 18, 42, 187, 0, 23, 89, 183, 0, 25, 181, 0, 26, 42, 43, 181, 0, 30, 42, 187, 0, 33]
abbrev dktX2_init_2_0 : List UInt8 := dkwX2_init_2_0 ++ dktX2_init_2_1
theorem dksX2_init_2_0 : cX2_init_2.data.toList.drop 0 = dktX2_init_2_0 := by decide +kernel
theorem dksX2_init_2_1 : cX2_init_2.data.toList.drop 24 = dktX2_init_2_1 := dk_seg dksX2_init_2_0 24 rfl rfl
theorem dX2_init_2_0 : decode cX2_init_2 0 = .ok (.aload_n 0, 1) := dk_42 (dk_at dksX2_init_2_0 0 rfl rfl)
theorem dX2_init_2_1 : decode cX2_init_2 1 = .ok (.invokespecial 18, 3) := dk_183 0 18 (dk_at dksX2_init_2_0 1 rfl rfl)
theorem dX2_init_2_4 : decode cX2_init_2 4 = .ok (.aload_n 0, 1) := dk_42 (dk_at dksX2_init_2_0 4 rfl rfl)
theorem dX2_init_2_5 : decode cX2_init_2 5 = .ok (.new 23, 3) := dk_187 0 23 (dk_at dksX2_init_2_0 5 rfl rfl)
theorem dX2_init_2_8 : decode cX2_init_2 8 = .ok (.dup, 1) := dk_89 (dk_at dksX2_init_2_0 8 rfl rfl)
theorem dX2_init_2_9 : decode cX2_init_2 9 = .ok (.invokespecial 25, 3) := dk_183 0 25 (dk_at dksX2_init_2_0 9 rfl rfl)
theorem dX2_init_2_12 : decode cX2_init_2 12 = .ok (.putfield 26, 3) := dk_181 0 26 (dk_at dksX2_init_2_0 12 rfl rfl)
theorem dX2_init_2_15 : decode cX2_init_2 15 = .ok (.aload_n 0, 1) := dk_42 (dk_at dksX2_init_2_0 15 rfl rfl)
theorem dX2_init_2_16 : decode cX2_init_2 16 = .ok (.aload_n 1, 1) := dk_43 (dk_at dksX2_init_2_0 16 rfl rfl)
theorem dX2_init_2_17 : decode cX2_init_2 17 = .ok (.putfield 30, 3) := dk_181 0 30 (dk_at dksX2_init_2_0 17 rfl rfl)
theorem dX2_init_2_20 : decode cX2_init_2 20 = .ok (.aload_n 0, 1) := dk_42 (dk_at dksX2_init_2_0 20 rfl rfl)
theorem dX2_init_2_21 : decode cX2_init_2 21 = .ok (.new 33, 3) := dk_187 0 33 (dk_at dksX2_init_2_0 21 rfl rfl)
theorem dX2_init_2_24 : decode cX2_init_2 24 = .ok (.dup, 1) := dk_89 (dk_at dksX2_init_2_1 0 rfl rfl)
theorem dX2_init_2_25 : decode cX2_init_2 25 = .ok (.iconst 5, 1) := dk_8 (dk_at dksX2_init_2_1 1 rfl rfl)
theorem dX2_init_2_26 : decode cX2_init_2 26 = .ok (.aload_n 1, 1) := dk_43 (dk_at dksX2_init_2_1 2 rfl rfl)
theorem dX2_init_2_27 : decode cX2_init_2 27 = .ok (.iconst 0, 1) := dk_3 (dk_at dksX2_init_2_1 3 rfl rfl)
theorem dX2_init_2_28 : decode cX2_init_2 28 = .ok (.newarray .int, 2) := dk_188_10 (dk_at dksX2_init_2_1 4 rfl rfl)
theorem dX2_init_2_30 : decode cX2_init_2 30 = .ok (.invokespecial 35, 3) := dk_183 0 35 (dk_at dksX2_init_2_1 6 rfl rfl)
theorem dX2_init_2_33 : decode cX2_init_2 33 = .ok (.putfield 38, 3) := dk_181 0 38 (dk_at dksX2_init_2_1 9 rfl rfl)
theorem dX2_init_2_36 : decode cX2_init_2 36 = .ok (.return_, 1) := dk_177 (dk_at dksX2_init_2_1 12 rfl rfl)
abbrev cX2_copy : ByteArray := prog_4_method_3_code
def yX2_copy : MethodName := ⟨RX2, "copy", "()LFlashZones$Book;"⟩
def dkwX2_copy_2 : List UInt8 := [176]
abbrev dktX2_copy_2 : List UInt8 := dkwX2_copy_2 ++ []
def dkwX2_copy_1 : List UInt8 := [180, 0, 38, 183, 0, 42, 181, 0, 38, 43, 180, 0, 26, 42, 180, 0, 26, 185, 0, 45, 2, 0, 87, 43]
abbrev dktX2_copy_1 : List UInt8 := dkwX2_copy_1 ++ dktX2_copy_2
def dkwX2_copy_0 : List UInt8 := [187, 0, 13, 89, 42, 180, 0, 30, 182, 0, 7, 192, 0, 8, 183, 0, 12, 76, 43, 187, 0, 33, 89, 42]
abbrev dktX2_copy_0 : List UInt8 := dkwX2_copy_0 ++ dktX2_copy_1
theorem dksX2_copy_0 : cX2_copy.data.toList.drop 0 = dktX2_copy_0 := by decide +kernel
theorem dksX2_copy_1 : cX2_copy.data.toList.drop 24 = dktX2_copy_1 := dk_seg dksX2_copy_0 24 rfl rfl
theorem dksX2_copy_2 : cX2_copy.data.toList.drop 48 = dktX2_copy_2 := dk_seg dksX2_copy_1 24 rfl rfl
theorem dX2_copy_0 : decode cX2_copy 0 = .ok (.new 13, 3) := dk_187 0 13 (dk_at dksX2_copy_0 0 rfl rfl)
theorem dX2_copy_3 : decode cX2_copy 3 = .ok (.dup, 1) := dk_89 (dk_at dksX2_copy_0 3 rfl rfl)
theorem dX2_copy_4 : decode cX2_copy 4 = .ok (.aload_n 0, 1) := dk_42 (dk_at dksX2_copy_0 4 rfl rfl)
theorem dX2_copy_5 : decode cX2_copy 5 = .ok (.getfield 30, 3) := dk_180 0 30 (dk_at dksX2_copy_0 5 rfl rfl)
theorem dX2_copy_8 : decode cX2_copy 8 = .ok (.invokevirtual 7, 3) := dk_182 0 7 (dk_at dksX2_copy_0 8 rfl rfl)
theorem dX2_copy_11 : decode cX2_copy 11 = .ok (.checkcast 8, 3) := dk_192 0 8 (dk_at dksX2_copy_0 11 rfl rfl)
theorem dX2_copy_14 : decode cX2_copy 14 = .ok (.invokespecial 12, 3) := dk_183 0 12 (dk_at dksX2_copy_0 14 rfl rfl)
theorem dX2_copy_17 : decode cX2_copy 17 = .ok (.astore_n 1, 1) := dk_76 (dk_at dksX2_copy_0 17 rfl rfl)
theorem dX2_copy_18 : decode cX2_copy 18 = .ok (.aload_n 1, 1) := dk_43 (dk_at dksX2_copy_0 18 rfl rfl)
theorem dX2_copy_19 : decode cX2_copy 19 = .ok (.new 33, 3) := dk_187 0 33 (dk_at dksX2_copy_0 19 rfl rfl)
theorem dX2_copy_22 : decode cX2_copy 22 = .ok (.dup, 1) := dk_89 (dk_at dksX2_copy_0 22 rfl rfl)
theorem dX2_copy_23 : decode cX2_copy 23 = .ok (.aload_n 0, 1) := dk_42 (dk_at dksX2_copy_0 23 rfl rfl)
theorem dX2_copy_24 : decode cX2_copy 24 = .ok (.getfield 38, 3) := dk_180 0 38 (dk_at dksX2_copy_1 0 rfl rfl)
theorem dX2_copy_27 : decode cX2_copy 27 = .ok (.invokespecial 42, 3) := dk_183 0 42 (dk_at dksX2_copy_1 3 rfl rfl)
theorem dX2_copy_30 : decode cX2_copy 30 = .ok (.putfield 38, 3) := dk_181 0 38 (dk_at dksX2_copy_1 6 rfl rfl)
theorem dX2_copy_33 : decode cX2_copy 33 = .ok (.aload_n 1, 1) := dk_43 (dk_at dksX2_copy_1 9 rfl rfl)
theorem dX2_copy_34 : decode cX2_copy 34 = .ok (.getfield 26, 3) := dk_180 0 26 (dk_at dksX2_copy_1 10 rfl rfl)
theorem dX2_copy_37 : decode cX2_copy 37 = .ok (.aload_n 0, 1) := dk_42 (dk_at dksX2_copy_1 13 rfl rfl)
theorem dX2_copy_38 : decode cX2_copy 38 = .ok (.getfield 26, 3) := dk_180 0 26 (dk_at dksX2_copy_1 14 rfl rfl)
theorem dX2_copy_41 : decode cX2_copy 41 = .ok (.invokeinterface 45 2, 5) := by decide +kernel
theorem dX2_copy_46 : decode cX2_copy 46 = .ok (.pop, 1) := dk_87 (dk_at dksX2_copy_1 22 rfl rfl)
theorem dX2_copy_47 : decode cX2_copy 47 = .ok (.aload_n 1, 1) := dk_43 (dk_at dksX2_copy_1 23 rfl rfl)
theorem dX2_copy_48 : decode cX2_copy 48 = .ok (.areturn, 1) := dk_176 (dk_at dksX2_copy_2 0 rfl rfl)
theorem q114 : (Jvm.Cond.initialized "FlashZones$Book") ∈ lw_all := lw_g (lw_at lw_m1 2 rfl) rfl
theorem q159 : (Jvm.Cond.instantiable "FlashZones$Book" (3 : Nat)) ∈ lw_all := lw_g (lw_at lw_m1 47 rfl) rfl
theorem q161 : (Jvm.Cond.instanceMethod ({ cls := "FlashZones$Book", name := "<init>", desc := "()V" } : Jvm.MethodName)) ∈ lw_all := lw_g (lw_at lw_m1 49 rfl) rfl
theorem q162 : (Jvm.Cond.code ({ cls := "FlashZones$Book", name := "<init>", desc := "()V" } : Jvm.MethodName) prog_4_method_1_code (1 : Nat) (Option.none : Option Jvm.ClassFile.FieldType)) ∈ lw_all := lw_g (lw_at lw_m1 50 rfl) rfl
theorem q163 : (Jvm.Cond.fieldLinkNest "FlashZones$Book" (3 : Nat) "FlashZones" "FIRST" "[I" "FlashZones") ∈ lw_tbl := lw_at lw_m1 51 rfl
theorem q165 : (Jvm.Cond.methodLink "FlashZones$Book" (7 : Nat) ({ cls := "[I", name := "clone", desc := "()Ljava/lang/Object;" } : Jvm.MethodName)) ∈ lw_all := lw_g (lw_at lw_m1 53 rfl) rfl
theorem q171 : (Jvm.Cond.classLink "FlashZones$Book" (8 : Nat) "[I") ∈ lw_all := lw_g (lw_at lw_m1 59 rfl) rfl
theorem q172 : (Jvm.Cond.methodLink "FlashZones$Book" (12 : Nat) ({ cls := "FlashZones$Book", name := "<init>", desc := "([I)V" } : Jvm.MethodName)) ∈ lw_all := lw_g (lw_at lw_m1 60 rfl) rfl
theorem q173 : (Jvm.Cond.instanceMethod ({ cls := "FlashZones$Book", name := "<init>", desc := "([I)V" } : Jvm.MethodName)) ∈ lw_all := lw_g (lw_at lw_m1 61 rfl) rfl
theorem q174 : (Jvm.Cond.code ({ cls := "FlashZones$Book", name := "<init>", desc := "([I)V" } : Jvm.MethodName) prog_4_method_2_code (2 : Nat) (Option.none : Option Jvm.ClassFile.FieldType)) ∈ lw_all := lw_g (lw_at lw_m1 62 rfl) rfl
theorem q175 : (Jvm.Cond.methodLink "FlashZones$Book" (18 : Nat) ({ cls := "java/lang/Object", name := "<init>", desc := "()V" } : Jvm.MethodName)) ∈ lw_all := lw_g (lw_at lw_m1 63 rfl) rfl
theorem q176 : (Jvm.Cond.classLink "FlashZones$Book" (23 : Nat) "java/util/ArrayList") ∈ lw_all := lw_g (lw_at lw_m1 64 rfl) rfl
theorem q178 : (Jvm.Cond.methodLink "FlashZones$Book" (25 : Nat) ({ cls := "java/util/ArrayList", name := "<init>", desc := "()V" } : Jvm.MethodName)) ∈ lw_all := lw_g (lw_at lw_m1 66 rfl) rfl
theorem q206 : (Jvm.Cond.classLink "FlashZones$Book" (33 : Nat) "FlashZones$Store") ∈ lw_all := lw_g (lw_at lw_m1 94 rfl) rfl
theorem q208 : (Jvm.Cond.methodLink "FlashZones$Book" (35 : Nat) ({ cls := "FlashZones$Store", name := "<init>", desc := "(I[I[I)V" } : Jvm.MethodName)) ∈ lw_all := lw_g (lw_at lw_m1 96 rfl) rfl
theorem q685 : (Jvm.Cond.fieldLink "FlashZones$Book" (30 : Nat) "FlashZones$Book" "set" "[I") ∈ lw_all := lw_g (lw_at lw_m3 93 rfl) rfl
theorem q687 : (Jvm.Cond.fieldLink "FlashZones$Book" (38 : Nat) "FlashZones$Book" "store" "LFlashZones$Store;") ∈ lw_all := lw_g (lw_at lw_m3 95 rfl) rfl
theorem q690 : (Jvm.Cond.fieldLink "FlashZones$Book" (26 : Nat) "FlashZones$Book" "acts" "Ljava/util/List;") ∈ lw_all := lw_g (lw_at lw_m3 98 rfl) rfl
theorem q692 : (Jvm.Cond.laysFinal "FlashZones$Book" "FlashZones$Book" "set" "[I") ∈ lw_all := lw_g (lw_at lw_m3 100 rfl) rfl
theorem q693 : (Jvm.Cond.soleField "FlashZones$Book" "set") ∈ lw_all := lw_g (lw_at lw_m3 101 rfl) rfl
theorem q694 : (Jvm.Cond.lays "FlashZones$Book" "FlashZones$Book" "store" "LFlashZones$Store;") ∈ lw_all := lw_g (lw_at lw_m3 102 rfl) rfl
theorem q695 : (Jvm.Cond.soleField "FlashZones$Book" "store") ∈ lw_all := lw_g (lw_at lw_m3 103 rfl) rfl
theorem q696 : (Jvm.Cond.laysFinal "FlashZones$Book" "FlashZones$Book" "acts" "Ljava/util/List;") ∈ lw_all := lw_g (lw_at lw_m3 104 rfl) rfl
theorem q697 : (Jvm.Cond.soleField "FlashZones$Book" "acts") ∈ lw_all := lw_g (lw_at lw_m3 105 rfl) rfl
theorem q698 : (Jvm.Cond.superclass "FlashZones$Book" "java/lang/Object") ∈ lw_all := lw_g (lw_at lw_m3 106 rfl) rfl
theorem q961 : (Jvm.Cond.selects "FlashZones$Book" ({ cls := "java/lang/Object", name := "getClass", desc := "()Ljava/lang/Class;" } : Jvm.MethodName) ({ cls := "java/lang/Object", name := "getClass", desc := "()Ljava/lang/Class;" } : Jvm.MethodName)) ∈ lw_all := lw_g (lw_at lw_m4 129 rfl) rfl
theorem q1471 : (Jvm.Cond.instanceMethod ({ cls := "FlashZones$Book", name := "copy", desc := "()LFlashZones$Book;" } : Jvm.MethodName)) ∈ lw_all := lw_g (lw_at lw_m6 159 rfl) rfl
theorem q1472 : (Jvm.Cond.selects "FlashZones$Book" ({ cls := "FlashZones$Book", name := "copy", desc := "()LFlashZones$Book;" } : Jvm.MethodName) ({ cls := "FlashZones$Book", name := "copy", desc := "()LFlashZones$Book;" } : Jvm.MethodName)) ∈ lw_all := lw_g (lw_at lw_m6 160 rfl) rfl
theorem q1473 : (Jvm.Cond.code ({ cls := "FlashZones$Book", name := "copy", desc := "()LFlashZones$Book;" } : Jvm.MethodName) prog_4_method_3_code (2 : Nat) (Option.some (Jvm.ClassFile.FieldType.object "FlashZones$Book"))) ∈ lw_all := lw_g (lw_at lw_m6 161 rfl) rfl
theorem q1474 : (Jvm.Cond.classLink "FlashZones$Book" (13 : Nat) "FlashZones$Book") ∈ lw_all := lw_g (lw_at lw_m6 162 rfl) rfl
theorem q1475 : (Jvm.Cond.methodLink "FlashZones$Book" (42 : Nat) ({ cls := "FlashZones$Store", name := "<init>", desc := "(LFlashZones$Store;)V" } : Jvm.MethodName)) ∈ lw_all := lw_g (lw_at lw_m6 163 rfl) rfl
theorem q1489 : (Jvm.Cond.interfaceEntry "FlashZones$Book" (45 : Nat)) ∈ lw_tbl := lw_at lw_m6 177 rfl
theorem q1490 : (Jvm.Cond.methodLink "FlashZones$Book" (45 : Nat) ({ cls := "java/util/List", name := "addAll", desc := "(Ljava/util/Collection;)Z" } : Jvm.MethodName)) ∈ lw_all := lw_g (lw_at lw_m6 178 rfl) rfl
theorem q2554 : (Jvm.Cond.castable "FlashZones$Book" "java/lang/Object") ∈ lw_tbl := lw_at lw_m11 42 rfl
theorem in_X2 : ∀ w ∈ wsX20, w ∈ lw_all := lw_in wsX20 [692, 694, 696] (by decide +kernel) (by decide +kernel)
/-! FlashZones$Store -/
set_option maxRecDepth 100000
def RX3 : String := "FlashZones$Store"
def TX3 : u_T := fun k => match k with
  | 0 => ("FlashZones$Store", "set", "[I", true)
  | 1 => ("FlashZones$Store", "way", "I", true)
  | 2 => ("FlashZones$Store", "known", "[I", true)
  | 3 => ("FlashZones$Store", "day", "I", false)
  | 4 => ("FlashZones$Store", "loss", "I", false)
  | 5 => ("FlashZones$Store", "moves", "I", false)
  | 6 => ("FlashZones$Store", "resets", "I", false)
  | 7 => ("FlashZones$Store", "deaths", "I", false)
  | 8 => ("FlashZones$Store", "lives", "I", false)
  | 9 => ("FlashZones$Store", "units", "Ljava/util/List;", true)
  | 10 => ("FlashZones$Store", "zones", "[LFlashZones$Zone;", true)
  | 11 => ("FlashZones$Store", "weights", "[I", true)
  | 12 => ("FlashZones$Store", "losses", "[I", true)
  | 13 => ("FlashZones$Store", "writerMany", "[I", true)
  | 14 => ("FlashZones$Store", "writerSum", "[I", true)
  | 15 => ("FlashZones$Store", "writerMost", "[I", true)
  | 16 => ("FlashZones$Store", "sizeMany", "[I", true)
  | 17 => ("FlashZones$Store", "sizeSum", "[I", true)
  | 18 => ("FlashZones$Store", "latest", "[I", true)
  | 19 => ("FlashZones$Store", "guessers", "[LFlashZones$Guesser;", true)
  | 20 => ("FlashZones$Store", "windows", "[I", true)
  | 21 => ("FlashZones$Store", "fills", "[I", true)
  | 22 => ("FlashZones$Store", "targets", "[I", true)
  | _ => ("FlashZones$Store", "days", "[I", true)
def tyX3 : Nat → FieldType := fun k => match k with
  | 0 => .array .int
  | 1 => .int
  | 2 => .array .int
  | 3 => .int
  | 4 => .int
  | 5 => .int
  | 6 => .int
  | 7 => .int
  | 8 => .int
  | 9 => .object "java/util/List"
  | 10 => .array (.object "FlashZones$Zone")
  | 11 => .array .int
  | 12 => .array .int
  | 13 => .array .int
  | 14 => .array .int
  | 15 => .array .int
  | 16 => .array .int
  | 17 => .array .int
  | 18 => .array .int
  | 19 => .array (.object "FlashZones$Guesser")
  | 20 => .array .int
  | 21 => .array .int
  | 22 => .array .int
  | _ => .array .int
abbrev wsX30 : List Cond := u_ws RX3 TX3 24
set_option maxRecDepth 100000 in
theorem nmX3 : ∀ a, a < 24 → ∀ b, b < 24 → a ≠ b → (TX3 a).2.1 ≠ (TX3 b).2.1 := by decide +kernel
set_option maxRecDepth 100000 in
theorem tyX3_ok : ∀ k, k < 24 → parseFieldDescriptor (TX3 k).2.2.1 = some (tyX3 k) := by decide +kernel
abbrev cX3_init : ByteArray := prog_9_method_1_code
def yX3_init : MethodName := ⟨RX3, "<init>", "(I[I[I)V"⟩
def dkwX3_init_12 : List UInt8 := [21, 4, 187, 0, 18, 89, 183, 0, 86, 83, 132, 4, 1, 167, 255, 231, 177]
abbrev dktX3_init_12 : List UInt8 := dkwX3_init_12 ++ []
def dkwX3_init_11 : List UInt8 := [181, 0, 80, 42, 45, 181, 0, 83, 3, 54, 4, 21, 4, 44, 3, 46, 162, 0, 23, 42, 180, 0, 20]
abbrev dktX3_init_11 : List UInt8 := dkwX3_init_11 ++ dktX3_init_12
def dkwX3_init_10 : List UInt8 := [16, 99, 188, 10, 181, 0, 70, 42, 16, 99, 188, 10, 181, 0, 73, 42, 27, 181, 0, 76, 42, 44]
abbrev dktX3_init_10 : List UInt8 := dkwX3_init_10 ++ dktX3_init_11
def dkwX3_init_9 : List UInt8 := [132, 4, 1, 167, 255, 235, 42, 16, 12, 188, 10, 181, 0, 64, 42, 16, 12, 188, 10, 181, 0, 67, 42]
abbrev dktX3_init_9 : List UInt8 := dkwX3_init_9 ++ dktX3_init_10
def dkwX3_init_8 : List UInt8 := [83, 3, 54, 4, 21, 4, 42, 180, 0, 46, 190, 162, 0, 17, 42, 180, 0, 46, 21, 4, 2, 79]
abbrev dktX3_init_8 : List UInt8 := dkwX3_init_8 ++ dktX3_init_9
def dkwX3_init_7 : List UInt8 := [42, 180, 0, 51, 7, 42, 186, 0, 62, 0, 0, 83, 42, 180, 0, 51, 16, 6, 42, 186, 0, 63, 0, 0]
abbrev dktX3_init_7 : List UInt8 := dkwX3_init_7 ++ dktX3_init_8
def dkwX3_init_6 : List UInt8 := [42, 180, 0, 51, 5, 42, 186, 0, 60, 0, 0, 83, 42, 180, 0, 51, 6, 42, 186, 0, 61, 0, 0, 83]
abbrev dktX3_init_6 : List UInt8 := dkwX3_init_6 ++ dktX3_init_7
def dkwX3_init_5 : List UInt8 := [42, 180, 0, 51, 3, 42, 186, 0, 55, 0, 0, 83, 42, 180, 0, 51, 4, 42, 186, 0, 59, 0, 0, 83]
abbrev dktX3_init_5 : List UInt8 := dkwX3_init_5 ++ dktX3_init_6
def dkwX3_init_4 : List UInt8 := [54, 4, 21, 4, 8, 162, 0, 19, 42, 180, 0, 24, 21, 4, 17, 3, 232, 79, 132, 4, 1, 167, 255, 237]
abbrev dktX3_init_4 : List UInt8 := dkwX3_init_4 ++ dktX3_init_5
def dkwX3_init_3 : List UInt8 := [188, 10, 181, 0, 43, 42, 16, 32, 188, 10, 181, 0, 46, 42, 16, 7, 189, 0, 49, 181, 0, 51, 3]
abbrev dktX3_init_3 : List UInt8 := dkwX3_init_3 ++ dktX3_init_4
def dkwX3_init_2 : List UInt8 := [16, 8, 188, 10, 181, 0, 34, 42, 16, 8, 188, 10, 181, 0, 37, 42, 7, 188, 10, 181, 0, 40, 42, 7]
abbrev dktX3_init_2 : List UInt8 := dkwX3_init_2 ++ dktX3_init_3
def dkwX3_init_1 : List UInt8 := [42, 8, 188, 10, 181, 0, 24, 42, 8, 188, 10, 181, 0, 28, 42, 16, 8, 188, 10, 181, 0, 31, 42]
abbrev dktX3_init_1 : List UInt8 := dkwX3_init_1 ++ dktX3_init_2
def dkwX3_init_0 : List UInt8 := [42, 183, 0, 3, 42, 187, 0, 9, 89, 183, 0, 11, 181, 0, 12, 42, 16, 12, 189, 0, 18, 181, 0, 20]
abbrev dktX3_init_0 : List UInt8 := dkwX3_init_0 ++ dktX3_init_1
theorem dksX3_init_0 : cX3_init.data.toList.drop 0 = dktX3_init_0 := by decide +kernel
theorem dksX3_init_1 : cX3_init.data.toList.drop 24 = dktX3_init_1 := dk_seg dksX3_init_0 24 rfl rfl
theorem dksX3_init_2 : cX3_init.data.toList.drop 47 = dktX3_init_2 := dk_seg dksX3_init_1 23 rfl rfl
theorem dksX3_init_3 : cX3_init.data.toList.drop 71 = dktX3_init_3 := dk_seg dksX3_init_2 24 rfl rfl
theorem dksX3_init_4 : cX3_init.data.toList.drop 94 = dktX3_init_4 := dk_seg dksX3_init_3 23 rfl rfl
theorem dksX3_init_5 : cX3_init.data.toList.drop 118 = dktX3_init_5 := dk_seg dksX3_init_4 24 rfl rfl
theorem dksX3_init_6 : cX3_init.data.toList.drop 142 = dktX3_init_6 := dk_seg dksX3_init_5 24 rfl rfl
theorem dksX3_init_7 : cX3_init.data.toList.drop 166 = dktX3_init_7 := dk_seg dksX3_init_6 24 rfl rfl
theorem dksX3_init_8 : cX3_init.data.toList.drop 190 = dktX3_init_8 := dk_seg dksX3_init_7 24 rfl rfl
theorem dksX3_init_9 : cX3_init.data.toList.drop 212 = dktX3_init_9 := dk_seg dksX3_init_8 22 rfl rfl
theorem dksX3_init_10 : cX3_init.data.toList.drop 235 = dktX3_init_10 := dk_seg dksX3_init_9 23 rfl rfl
theorem dksX3_init_11 : cX3_init.data.toList.drop 257 = dktX3_init_11 := dk_seg dksX3_init_10 22 rfl rfl
theorem dksX3_init_12 : cX3_init.data.toList.drop 280 = dktX3_init_12 := dk_seg dksX3_init_11 23 rfl rfl
theorem dX3_init_0 : decode cX3_init 0 = .ok (.aload_n 0, 1) := dk_42 (dk_at dksX3_init_0 0 rfl rfl)
theorem dX3_init_1 : decode cX3_init 1 = .ok (.invokespecial 3, 3) := dk_183 0 3 (dk_at dksX3_init_0 1 rfl rfl)
theorem dX3_init_4 : decode cX3_init 4 = .ok (.aload_n 0, 1) := dk_42 (dk_at dksX3_init_0 4 rfl rfl)
theorem dX3_init_5 : decode cX3_init 5 = .ok (.new 9, 3) := dk_187 0 9 (dk_at dksX3_init_0 5 rfl rfl)
theorem dX3_init_8 : decode cX3_init 8 = .ok (.dup, 1) := dk_89 (dk_at dksX3_init_0 8 rfl rfl)
theorem dX3_init_9 : decode cX3_init 9 = .ok (.invokespecial 11, 3) := dk_183 0 11 (dk_at dksX3_init_0 9 rfl rfl)
theorem dX3_init_12 : decode cX3_init 12 = .ok (.putfield 12, 3) := dk_181 0 12 (dk_at dksX3_init_0 12 rfl rfl)
theorem dX3_init_15 : decode cX3_init 15 = .ok (.aload_n 0, 1) := dk_42 (dk_at dksX3_init_0 15 rfl rfl)
theorem dX3_init_16 : decode cX3_init 16 = .ok (.bipush 12, 2) := dk_16 12 (dk_at dksX3_init_0 16 rfl rfl)
theorem dX3_init_18 : decode cX3_init 18 = .ok (.anewarray 18, 3) := dk_189 0 18 (dk_at dksX3_init_0 18 rfl rfl)
theorem dX3_init_21 : decode cX3_init 21 = .ok (.putfield 20, 3) := dk_181 0 20 (dk_at dksX3_init_0 21 rfl rfl)
theorem dX3_init_24 : decode cX3_init 24 = .ok (.aload_n 0, 1) := dk_42 (dk_at dksX3_init_1 0 rfl rfl)
theorem dX3_init_25 : decode cX3_init 25 = .ok (.iconst 5, 1) := dk_8 (dk_at dksX3_init_1 1 rfl rfl)
theorem dX3_init_26 : decode cX3_init 26 = .ok (.newarray .int, 2) := dk_188_10 (dk_at dksX3_init_1 2 rfl rfl)
theorem dX3_init_28 : decode cX3_init 28 = .ok (.putfield 24, 3) := dk_181 0 24 (dk_at dksX3_init_1 4 rfl rfl)
theorem dX3_init_31 : decode cX3_init 31 = .ok (.aload_n 0, 1) := dk_42 (dk_at dksX3_init_1 7 rfl rfl)
theorem dX3_init_32 : decode cX3_init 32 = .ok (.iconst 5, 1) := dk_8 (dk_at dksX3_init_1 8 rfl rfl)
theorem dX3_init_33 : decode cX3_init 33 = .ok (.newarray .int, 2) := dk_188_10 (dk_at dksX3_init_1 9 rfl rfl)
theorem dX3_init_35 : decode cX3_init 35 = .ok (.putfield 28, 3) := dk_181 0 28 (dk_at dksX3_init_1 11 rfl rfl)
theorem dX3_init_38 : decode cX3_init 38 = .ok (.aload_n 0, 1) := dk_42 (dk_at dksX3_init_1 14 rfl rfl)
theorem dX3_init_39 : decode cX3_init 39 = .ok (.bipush 8, 2) := dk_16 8 (dk_at dksX3_init_1 15 rfl rfl)
theorem dX3_init_41 : decode cX3_init 41 = .ok (.newarray .int, 2) := dk_188_10 (dk_at dksX3_init_1 17 rfl rfl)
theorem dX3_init_43 : decode cX3_init 43 = .ok (.putfield 31, 3) := dk_181 0 31 (dk_at dksX3_init_1 19 rfl rfl)
theorem dX3_init_46 : decode cX3_init 46 = .ok (.aload_n 0, 1) := dk_42 (dk_at dksX3_init_1 22 rfl rfl)
theorem dX3_init_47 : decode cX3_init 47 = .ok (.bipush 8, 2) := dk_16 8 (dk_at dksX3_init_2 0 rfl rfl)
theorem dX3_init_49 : decode cX3_init 49 = .ok (.newarray .int, 2) := dk_188_10 (dk_at dksX3_init_2 2 rfl rfl)
theorem dX3_init_51 : decode cX3_init 51 = .ok (.putfield 34, 3) := dk_181 0 34 (dk_at dksX3_init_2 4 rfl rfl)
theorem dX3_init_54 : decode cX3_init 54 = .ok (.aload_n 0, 1) := dk_42 (dk_at dksX3_init_2 7 rfl rfl)
theorem dX3_init_55 : decode cX3_init 55 = .ok (.bipush 8, 2) := dk_16 8 (dk_at dksX3_init_2 8 rfl rfl)
theorem dX3_init_57 : decode cX3_init 57 = .ok (.newarray .int, 2) := dk_188_10 (dk_at dksX3_init_2 10 rfl rfl)
theorem dX3_init_59 : decode cX3_init 59 = .ok (.putfield 37, 3) := dk_181 0 37 (dk_at dksX3_init_2 12 rfl rfl)
theorem dX3_init_62 : decode cX3_init 62 = .ok (.aload_n 0, 1) := dk_42 (dk_at dksX3_init_2 15 rfl rfl)
theorem dX3_init_63 : decode cX3_init 63 = .ok (.iconst 4, 1) := dk_7 (dk_at dksX3_init_2 16 rfl rfl)
theorem dX3_init_64 : decode cX3_init 64 = .ok (.newarray .int, 2) := dk_188_10 (dk_at dksX3_init_2 17 rfl rfl)
theorem dX3_init_66 : decode cX3_init 66 = .ok (.putfield 40, 3) := dk_181 0 40 (dk_at dksX3_init_2 19 rfl rfl)
theorem dX3_init_69 : decode cX3_init 69 = .ok (.aload_n 0, 1) := dk_42 (dk_at dksX3_init_2 22 rfl rfl)
theorem dX3_init_70 : decode cX3_init 70 = .ok (.iconst 4, 1) := dk_7 (dk_at dksX3_init_2 23 rfl rfl)
theorem dX3_init_71 : decode cX3_init 71 = .ok (.newarray .int, 2) := dk_188_10 (dk_at dksX3_init_3 0 rfl rfl)
theorem dX3_init_73 : decode cX3_init 73 = .ok (.putfield 43, 3) := dk_181 0 43 (dk_at dksX3_init_3 2 rfl rfl)
theorem dX3_init_76 : decode cX3_init 76 = .ok (.aload_n 0, 1) := dk_42 (dk_at dksX3_init_3 5 rfl rfl)
theorem dX3_init_77 : decode cX3_init 77 = .ok (.bipush 32, 2) := dk_16 32 (dk_at dksX3_init_3 6 rfl rfl)
theorem dX3_init_79 : decode cX3_init 79 = .ok (.newarray .int, 2) := dk_188_10 (dk_at dksX3_init_3 8 rfl rfl)
theorem dX3_init_81 : decode cX3_init 81 = .ok (.putfield 46, 3) := dk_181 0 46 (dk_at dksX3_init_3 10 rfl rfl)
theorem dX3_init_84 : decode cX3_init 84 = .ok (.aload_n 0, 1) := dk_42 (dk_at dksX3_init_3 13 rfl rfl)
theorem dX3_init_85 : decode cX3_init 85 = .ok (.bipush 7, 2) := dk_16 7 (dk_at dksX3_init_3 14 rfl rfl)
theorem dX3_init_87 : decode cX3_init 87 = .ok (.anewarray 49, 3) := dk_189 0 49 (dk_at dksX3_init_3 16 rfl rfl)
theorem dX3_init_90 : decode cX3_init 90 = .ok (.putfield 51, 3) := dk_181 0 51 (dk_at dksX3_init_3 19 rfl rfl)
theorem dX3_init_93 : decode cX3_init 93 = .ok (.iconst 0, 1) := dk_3 (dk_at dksX3_init_3 22 rfl rfl)
theorem dX3_init_94 : decode cX3_init 94 = .ok (.istore 4, 2) := dk_54 4 (dk_at dksX3_init_4 0 rfl rfl)
theorem dX3_init_96 : decode cX3_init 96 = .ok (.iload 4, 2) := dk_21 4 (dk_at dksX3_init_4 2 rfl rfl)
theorem dX3_init_98 : decode cX3_init 98 = .ok (.iconst 5, 1) := dk_8 (dk_at dksX3_init_4 4 rfl rfl)
theorem dX3_init_99 : decode cX3_init 99 = .ok (.if_icmp .ge 19, 3) := dk_162 0 19 (dk_at dksX3_init_4 5 rfl rfl)
theorem dX3_init_102 : decode cX3_init 102 = .ok (.aload_n 0, 1) := dk_42 (dk_at dksX3_init_4 8 rfl rfl)
theorem dX3_init_103 : decode cX3_init 103 = .ok (.getfield 24, 3) := dk_180 0 24 (dk_at dksX3_init_4 9 rfl rfl)
theorem dX3_init_106 : decode cX3_init 106 = .ok (.iload 4, 2) := dk_21 4 (dk_at dksX3_init_4 12 rfl rfl)
theorem dX3_init_108 : decode cX3_init 108 = .ok (.sipush 1000, 3) := dk_17 3 232 (dk_at dksX3_init_4 14 rfl rfl)
theorem dX3_init_111 : decode cX3_init 111 = .ok (.iastore, 1) := dk_79 (dk_at dksX3_init_4 17 rfl rfl)
theorem dX3_init_112 : decode cX3_init 112 = .ok (.iinc 4 1, 3) := dk_132 4 1 (dk_at dksX3_init_4 18 rfl rfl)
theorem dX3_init_115 : decode cX3_init 115 = .ok (.goto (-19), 3) := dk_167 255 237 (dk_at dksX3_init_4 21 rfl rfl)
theorem dX3_init_118 : decode cX3_init 118 = .ok (.aload_n 0, 1) := dk_42 (dk_at dksX3_init_5 0 rfl rfl)
theorem dX3_init_119 : decode cX3_init 119 = .ok (.getfield 51, 3) := dk_180 0 51 (dk_at dksX3_init_5 1 rfl rfl)
theorem dX3_init_122 : decode cX3_init 122 = .ok (.iconst 0, 1) := dk_3 (dk_at dksX3_init_5 4 rfl rfl)
theorem dX3_init_123 : decode cX3_init 123 = .ok (.aload_n 0, 1) := dk_42 (dk_at dksX3_init_5 5 rfl rfl)
theorem dX3_init_124 : decode cX3_init 124 = .ok (.invokedynamic 55, 5) := by decide +kernel
theorem dX3_init_129 : decode cX3_init 129 = .ok (.aastore, 1) := dk_83 (dk_at dksX3_init_5 11 rfl rfl)
theorem dX3_init_130 : decode cX3_init 130 = .ok (.aload_n 0, 1) := dk_42 (dk_at dksX3_init_5 12 rfl rfl)
theorem dX3_init_131 : decode cX3_init 131 = .ok (.getfield 51, 3) := dk_180 0 51 (dk_at dksX3_init_5 13 rfl rfl)
theorem dX3_init_134 : decode cX3_init 134 = .ok (.iconst 1, 1) := dk_4 (dk_at dksX3_init_5 16 rfl rfl)
theorem dX3_init_135 : decode cX3_init 135 = .ok (.aload_n 0, 1) := dk_42 (dk_at dksX3_init_5 17 rfl rfl)
theorem dX3_init_136 : decode cX3_init 136 = .ok (.invokedynamic 59, 5) := by decide +kernel
theorem dX3_init_141 : decode cX3_init 141 = .ok (.aastore, 1) := dk_83 (dk_at dksX3_init_5 23 rfl rfl)
theorem dX3_init_142 : decode cX3_init 142 = .ok (.aload_n 0, 1) := dk_42 (dk_at dksX3_init_6 0 rfl rfl)
theorem dX3_init_143 : decode cX3_init 143 = .ok (.getfield 51, 3) := dk_180 0 51 (dk_at dksX3_init_6 1 rfl rfl)
theorem dX3_init_146 : decode cX3_init 146 = .ok (.iconst 2, 1) := dk_5 (dk_at dksX3_init_6 4 rfl rfl)
theorem dX3_init_147 : decode cX3_init 147 = .ok (.aload_n 0, 1) := dk_42 (dk_at dksX3_init_6 5 rfl rfl)
theorem dX3_init_148 : decode cX3_init 148 = .ok (.invokedynamic 60, 5) := by decide +kernel
theorem dX3_init_153 : decode cX3_init 153 = .ok (.aastore, 1) := dk_83 (dk_at dksX3_init_6 11 rfl rfl)
theorem dX3_init_154 : decode cX3_init 154 = .ok (.aload_n 0, 1) := dk_42 (dk_at dksX3_init_6 12 rfl rfl)
theorem dX3_init_155 : decode cX3_init 155 = .ok (.getfield 51, 3) := dk_180 0 51 (dk_at dksX3_init_6 13 rfl rfl)
theorem dX3_init_158 : decode cX3_init 158 = .ok (.iconst 3, 1) := dk_6 (dk_at dksX3_init_6 16 rfl rfl)
theorem dX3_init_159 : decode cX3_init 159 = .ok (.aload_n 0, 1) := dk_42 (dk_at dksX3_init_6 17 rfl rfl)
theorem dX3_init_160 : decode cX3_init 160 = .ok (.invokedynamic 61, 5) := by decide +kernel
theorem dX3_init_165 : decode cX3_init 165 = .ok (.aastore, 1) := dk_83 (dk_at dksX3_init_6 23 rfl rfl)
theorem dX3_init_166 : decode cX3_init 166 = .ok (.aload_n 0, 1) := dk_42 (dk_at dksX3_init_7 0 rfl rfl)
theorem dX3_init_167 : decode cX3_init 167 = .ok (.getfield 51, 3) := dk_180 0 51 (dk_at dksX3_init_7 1 rfl rfl)
theorem dX3_init_170 : decode cX3_init 170 = .ok (.iconst 4, 1) := dk_7 (dk_at dksX3_init_7 4 rfl rfl)
theorem dX3_init_171 : decode cX3_init 171 = .ok (.aload_n 0, 1) := dk_42 (dk_at dksX3_init_7 5 rfl rfl)
theorem dX3_init_172 : decode cX3_init 172 = .ok (.invokedynamic 62, 5) := by decide +kernel
theorem dX3_init_177 : decode cX3_init 177 = .ok (.aastore, 1) := dk_83 (dk_at dksX3_init_7 11 rfl rfl)
theorem dX3_init_178 : decode cX3_init 178 = .ok (.aload_n 0, 1) := dk_42 (dk_at dksX3_init_7 12 rfl rfl)
theorem dX3_init_179 : decode cX3_init 179 = .ok (.getfield 51, 3) := dk_180 0 51 (dk_at dksX3_init_7 13 rfl rfl)
theorem dX3_init_182 : decode cX3_init 182 = .ok (.bipush 6, 2) := dk_16 6 (dk_at dksX3_init_7 16 rfl rfl)
theorem dX3_init_184 : decode cX3_init 184 = .ok (.aload_n 0, 1) := dk_42 (dk_at dksX3_init_7 18 rfl rfl)
theorem dX3_init_185 : decode cX3_init 185 = .ok (.invokedynamic 63, 5) := by decide +kernel
theorem dX3_init_190 : decode cX3_init 190 = .ok (.aastore, 1) := dk_83 (dk_at dksX3_init_8 0 rfl rfl)
theorem dX3_init_191 : decode cX3_init 191 = .ok (.iconst 0, 1) := dk_3 (dk_at dksX3_init_8 1 rfl rfl)
theorem dX3_init_192 : decode cX3_init 192 = .ok (.istore 4, 2) := dk_54 4 (dk_at dksX3_init_8 2 rfl rfl)
theorem dX3_init_194 : decode cX3_init 194 = .ok (.iload 4, 2) := dk_21 4 (dk_at dksX3_init_8 4 rfl rfl)
theorem dX3_init_196 : decode cX3_init 196 = .ok (.aload_n 0, 1) := dk_42 (dk_at dksX3_init_8 6 rfl rfl)
theorem dX3_init_197 : decode cX3_init 197 = .ok (.getfield 46, 3) := dk_180 0 46 (dk_at dksX3_init_8 7 rfl rfl)
theorem dX3_init_200 : decode cX3_init 200 = .ok (.arraylength, 1) := dk_190 (dk_at dksX3_init_8 10 rfl rfl)
theorem dX3_init_201 : decode cX3_init 201 = .ok (.if_icmp .ge 17, 3) := dk_162 0 17 (dk_at dksX3_init_8 11 rfl rfl)
theorem dX3_init_204 : decode cX3_init 204 = .ok (.aload_n 0, 1) := dk_42 (dk_at dksX3_init_8 14 rfl rfl)
theorem dX3_init_205 : decode cX3_init 205 = .ok (.getfield 46, 3) := dk_180 0 46 (dk_at dksX3_init_8 15 rfl rfl)
theorem dX3_init_208 : decode cX3_init 208 = .ok (.iload 4, 2) := dk_21 4 (dk_at dksX3_init_8 18 rfl rfl)
theorem dX3_init_210 : decode cX3_init 210 = .ok (.iconst (-1), 1) := dk_2 (dk_at dksX3_init_8 20 rfl rfl)
theorem dX3_init_211 : decode cX3_init 211 = .ok (.iastore, 1) := dk_79 (dk_at dksX3_init_8 21 rfl rfl)
theorem dX3_init_212 : decode cX3_init 212 = .ok (.iinc 4 1, 3) := dk_132 4 1 (dk_at dksX3_init_9 0 rfl rfl)
theorem dX3_init_215 : decode cX3_init 215 = .ok (.goto (-21), 3) := dk_167 255 235 (dk_at dksX3_init_9 3 rfl rfl)
theorem dX3_init_218 : decode cX3_init 218 = .ok (.aload_n 0, 1) := dk_42 (dk_at dksX3_init_9 6 rfl rfl)
theorem dX3_init_219 : decode cX3_init 219 = .ok (.bipush 12, 2) := dk_16 12 (dk_at dksX3_init_9 7 rfl rfl)
theorem dX3_init_221 : decode cX3_init 221 = .ok (.newarray .int, 2) := dk_188_10 (dk_at dksX3_init_9 9 rfl rfl)
theorem dX3_init_223 : decode cX3_init 223 = .ok (.putfield 64, 3) := dk_181 0 64 (dk_at dksX3_init_9 11 rfl rfl)
theorem dX3_init_226 : decode cX3_init 226 = .ok (.aload_n 0, 1) := dk_42 (dk_at dksX3_init_9 14 rfl rfl)
theorem dX3_init_227 : decode cX3_init 227 = .ok (.bipush 12, 2) := dk_16 12 (dk_at dksX3_init_9 15 rfl rfl)
theorem dX3_init_229 : decode cX3_init 229 = .ok (.newarray .int, 2) := dk_188_10 (dk_at dksX3_init_9 17 rfl rfl)
theorem dX3_init_231 : decode cX3_init 231 = .ok (.putfield 67, 3) := dk_181 0 67 (dk_at dksX3_init_9 19 rfl rfl)
theorem dX3_init_234 : decode cX3_init 234 = .ok (.aload_n 0, 1) := dk_42 (dk_at dksX3_init_9 22 rfl rfl)
theorem dX3_init_235 : decode cX3_init 235 = .ok (.bipush 99, 2) := dk_16 99 (dk_at dksX3_init_10 0 rfl rfl)
theorem dX3_init_237 : decode cX3_init 237 = .ok (.newarray .int, 2) := dk_188_10 (dk_at dksX3_init_10 2 rfl rfl)
theorem dX3_init_239 : decode cX3_init 239 = .ok (.putfield 70, 3) := dk_181 0 70 (dk_at dksX3_init_10 4 rfl rfl)
theorem dX3_init_242 : decode cX3_init 242 = .ok (.aload_n 0, 1) := dk_42 (dk_at dksX3_init_10 7 rfl rfl)
theorem dX3_init_243 : decode cX3_init 243 = .ok (.bipush 99, 2) := dk_16 99 (dk_at dksX3_init_10 8 rfl rfl)
theorem dX3_init_245 : decode cX3_init 245 = .ok (.newarray .int, 2) := dk_188_10 (dk_at dksX3_init_10 10 rfl rfl)
theorem dX3_init_247 : decode cX3_init 247 = .ok (.putfield 73, 3) := dk_181 0 73 (dk_at dksX3_init_10 12 rfl rfl)
theorem dX3_init_250 : decode cX3_init 250 = .ok (.aload_n 0, 1) := dk_42 (dk_at dksX3_init_10 15 rfl rfl)
theorem dX3_init_251 : decode cX3_init 251 = .ok (.iload_n 1, 1) := dk_27 (dk_at dksX3_init_10 16 rfl rfl)
theorem dX3_init_252 : decode cX3_init 252 = .ok (.putfield 76, 3) := dk_181 0 76 (dk_at dksX3_init_10 17 rfl rfl)
theorem dX3_init_255 : decode cX3_init 255 = .ok (.aload_n 0, 1) := dk_42 (dk_at dksX3_init_10 20 rfl rfl)
theorem dX3_init_256 : decode cX3_init 256 = .ok (.aload_n 2, 1) := dk_44 (dk_at dksX3_init_10 21 rfl rfl)
theorem dX3_init_257 : decode cX3_init 257 = .ok (.putfield 80, 3) := dk_181 0 80 (dk_at dksX3_init_11 0 rfl rfl)
theorem dX3_init_260 : decode cX3_init 260 = .ok (.aload_n 0, 1) := dk_42 (dk_at dksX3_init_11 3 rfl rfl)
theorem dX3_init_261 : decode cX3_init 261 = .ok (.aload_n 3, 1) := dk_45 (dk_at dksX3_init_11 4 rfl rfl)
theorem dX3_init_262 : decode cX3_init 262 = .ok (.putfield 83, 3) := dk_181 0 83 (dk_at dksX3_init_11 5 rfl rfl)
theorem dX3_init_265 : decode cX3_init 265 = .ok (.iconst 0, 1) := dk_3 (dk_at dksX3_init_11 8 rfl rfl)
theorem dX3_init_266 : decode cX3_init 266 = .ok (.istore 4, 2) := dk_54 4 (dk_at dksX3_init_11 9 rfl rfl)
theorem dX3_init_268 : decode cX3_init 268 = .ok (.iload 4, 2) := dk_21 4 (dk_at dksX3_init_11 11 rfl rfl)
theorem dX3_init_270 : decode cX3_init 270 = .ok (.aload_n 2, 1) := dk_44 (dk_at dksX3_init_11 13 rfl rfl)
theorem dX3_init_271 : decode cX3_init 271 = .ok (.iconst 0, 1) := dk_3 (dk_at dksX3_init_11 14 rfl rfl)
theorem dX3_init_272 : decode cX3_init 272 = .ok (.iaload, 1) := dk_46 (dk_at dksX3_init_11 15 rfl rfl)
theorem dX3_init_273 : decode cX3_init 273 = .ok (.if_icmp .ge 23, 3) := dk_162 0 23 (dk_at dksX3_init_11 16 rfl rfl)
theorem dX3_init_276 : decode cX3_init 276 = .ok (.aload_n 0, 1) := dk_42 (dk_at dksX3_init_11 19 rfl rfl)
theorem dX3_init_277 : decode cX3_init 277 = .ok (.getfield 20, 3) := dk_180 0 20 (dk_at dksX3_init_11 20 rfl rfl)
theorem dX3_init_280 : decode cX3_init 280 = .ok (.iload 4, 2) := dk_21 4 (dk_at dksX3_init_12 0 rfl rfl)
theorem dX3_init_282 : decode cX3_init 282 = .ok (.new 18, 3) := dk_187 0 18 (dk_at dksX3_init_12 2 rfl rfl)
theorem dX3_init_285 : decode cX3_init 285 = .ok (.dup, 1) := dk_89 (dk_at dksX3_init_12 5 rfl rfl)
theorem dX3_init_286 : decode cX3_init 286 = .ok (.invokespecial 86, 3) := dk_183 0 86 (dk_at dksX3_init_12 6 rfl rfl)
theorem dX3_init_289 : decode cX3_init 289 = .ok (.aastore, 1) := dk_83 (dk_at dksX3_init_12 9 rfl rfl)
theorem dX3_init_290 : decode cX3_init 290 = .ok (.iinc 4 1, 3) := dk_132 4 1 (dk_at dksX3_init_12 10 rfl rfl)
theorem dX3_init_293 : decode cX3_init 293 = .ok (.goto (-25), 3) := dk_167 255 231 (dk_at dksX3_init_12 13 rfl rfl)
theorem dX3_init_296 : decode cX3_init 296 = .ok (.return_, 1) := dk_177 (dk_at dksX3_init_12 16 rfl rfl)
abbrev cX3_lambda_new_0 : ByteArray := prog_9_method_38_code
def yX3_lambda_new_0 : MethodName := ⟨RX3, "lambda$new$0", "(III)I"⟩
theorem dX3_lambda_new_0_0 : decode cX3_lambda_new_0 0 = .ok (.aload_n 0, 1) := by decide +kernel
theorem dX3_lambda_new_0_1 : decode cX3_lambda_new_0 1 = .ok (.invokevirtual 285, 3) := by decide +kernel
theorem dX3_lambda_new_0_4 : decode cX3_lambda_new_0 4 = .ok (.ireturn, 1) := by decide +kernel
abbrev cX3_life : ByteArray := prog_9_method_5_code
def yX3_life : MethodName := ⟨RX3, "life", "()I"⟩
def dkwX3_life_0 : List UInt8 := [42, 180, 0, 80, 7, 46, 172]
abbrev dktX3_life_0 : List UInt8 := dkwX3_life_0 ++ []
theorem dksX3_life_0 : cX3_life.data.toList.drop 0 = dktX3_life_0 := by decide +kernel
theorem dX3_life_0 : decode cX3_life 0 = .ok (.aload_n 0, 1) := dk_42 (dk_at dksX3_life_0 0 rfl rfl)
theorem dX3_life_1 : decode cX3_life 1 = .ok (.getfield 80, 3) := dk_180 0 80 (dk_at dksX3_life_0 1 rfl rfl)
theorem dX3_life_4 : decode cX3_life 4 = .ok (.iconst 4, 1) := dk_7 (dk_at dksX3_life_0 4 rfl rfl)
theorem dX3_life_5 : decode cX3_life 5 = .ok (.iaload, 1) := dk_46 (dk_at dksX3_life_0 5 rfl rfl)
theorem dX3_life_6 : decode cX3_life 6 = .ok (.ireturn, 1) := dk_172 (dk_at dksX3_life_0 6 rfl rfl)
abbrev cX3_lambda_new_1 : ByteArray := prog_9_method_37_code
def yX3_lambda_new_1 : MethodName := ⟨RX3, "lambda$new$1", "(III)I"⟩
def dkwX3_lambda_new_1_1 : List UInt8 := [180, 0, 31, 27, 46, 108, 172]
abbrev dktX3_lambda_new_1_1 : List UInt8 := dkwX3_lambda_new_1_1 ++ []
def dkwX3_lambda_new_1_0 : List UInt8 := [42, 180, 0, 31, 27, 46, 154, 0, 10, 42, 182, 1, 29, 167, 0, 16, 42, 180, 0, 34, 27, 46, 42]
abbrev dktX3_lambda_new_1_0 : List UInt8 := dkwX3_lambda_new_1_0 ++ dktX3_lambda_new_1_1
theorem dksX3_lambda_new_1_0 : cX3_lambda_new_1.data.toList.drop 0 = dktX3_lambda_new_1_0 := by decide +kernel
theorem dksX3_lambda_new_1_1 : cX3_lambda_new_1.data.toList.drop 23 = dktX3_lambda_new_1_1 := dk_seg dksX3_lambda_new_1_0 23 rfl rfl
theorem dX3_lambda_new_1_0 : decode cX3_lambda_new_1 0 = .ok (.aload_n 0, 1) := dk_42 (dk_at dksX3_lambda_new_1_0 0 rfl rfl)
theorem dX3_lambda_new_1_1 : decode cX3_lambda_new_1 1 = .ok (.getfield 31, 3) := dk_180 0 31 (dk_at dksX3_lambda_new_1_0 1 rfl rfl)
theorem dX3_lambda_new_1_4 : decode cX3_lambda_new_1 4 = .ok (.iload_n 1, 1) := dk_27 (dk_at dksX3_lambda_new_1_0 4 rfl rfl)
theorem dX3_lambda_new_1_5 : decode cX3_lambda_new_1 5 = .ok (.iaload, 1) := dk_46 (dk_at dksX3_lambda_new_1_0 5 rfl rfl)
theorem dX3_lambda_new_1_6 : decode cX3_lambda_new_1 6 = .ok (.ifCond .ne 10, 3) := dk_154 0 10 (dk_at dksX3_lambda_new_1_0 6 rfl rfl)
theorem dX3_lambda_new_1_9 : decode cX3_lambda_new_1 9 = .ok (.aload_n 0, 1) := dk_42 (dk_at dksX3_lambda_new_1_0 9 rfl rfl)
theorem dX3_lambda_new_1_10 : decode cX3_lambda_new_1 10 = .ok (.invokevirtual 285, 3) := dk_182 1 29 (dk_at dksX3_lambda_new_1_0 10 rfl rfl)
theorem dX3_lambda_new_1_13 : decode cX3_lambda_new_1 13 = .ok (.goto 16, 3) := dk_167 0 16 (dk_at dksX3_lambda_new_1_0 13 rfl rfl)
theorem dX3_lambda_new_1_16 : decode cX3_lambda_new_1 16 = .ok (.aload_n 0, 1) := dk_42 (dk_at dksX3_lambda_new_1_0 16 rfl rfl)
theorem dX3_lambda_new_1_17 : decode cX3_lambda_new_1 17 = .ok (.getfield 34, 3) := dk_180 0 34 (dk_at dksX3_lambda_new_1_0 17 rfl rfl)
theorem dX3_lambda_new_1_20 : decode cX3_lambda_new_1 20 = .ok (.iload_n 1, 1) := dk_27 (dk_at dksX3_lambda_new_1_0 20 rfl rfl)
theorem dX3_lambda_new_1_21 : decode cX3_lambda_new_1 21 = .ok (.iaload, 1) := dk_46 (dk_at dksX3_lambda_new_1_0 21 rfl rfl)
theorem dX3_lambda_new_1_22 : decode cX3_lambda_new_1 22 = .ok (.aload_n 0, 1) := dk_42 (dk_at dksX3_lambda_new_1_0 22 rfl rfl)
theorem dX3_lambda_new_1_23 : decode cX3_lambda_new_1 23 = .ok (.getfield 31, 3) := dk_180 0 31 (dk_at dksX3_lambda_new_1_1 0 rfl rfl)
theorem dX3_lambda_new_1_26 : decode cX3_lambda_new_1 26 = .ok (.iload_n 1, 1) := dk_27 (dk_at dksX3_lambda_new_1_1 3 rfl rfl)
theorem dX3_lambda_new_1_27 : decode cX3_lambda_new_1 27 = .ok (.iaload, 1) := dk_46 (dk_at dksX3_lambda_new_1_1 4 rfl rfl)
theorem dX3_lambda_new_1_28 : decode cX3_lambda_new_1 28 = .ok (.idiv, 1) := dk_108 (dk_at dksX3_lambda_new_1_1 5 rfl rfl)
theorem dX3_lambda_new_1_29 : decode cX3_lambda_new_1 29 = .ok (.ireturn, 1) := dk_172 (dk_at dksX3_lambda_new_1_1 6 rfl rfl)
abbrev cX3_lambda_new_2 : ByteArray := prog_9_method_36_code
def yX3_lambda_new_2 : MethodName := ⟨RX3, "lambda$new$2", "(III)I"⟩
def dkwX3_lambda_new_2_1 : List UInt8 := [180, 0, 40, 28, 46, 108, 172]
abbrev dktX3_lambda_new_2_1 : List UInt8 := dkwX3_lambda_new_2_1 ++ []
def dkwX3_lambda_new_2_0 : List UInt8 := [42, 180, 0, 40, 28, 46, 154, 0, 10, 42, 182, 1, 29, 167, 0, 16, 42, 180, 0, 43, 28, 46, 42]
abbrev dktX3_lambda_new_2_0 : List UInt8 := dkwX3_lambda_new_2_0 ++ dktX3_lambda_new_2_1
theorem dksX3_lambda_new_2_0 : cX3_lambda_new_2.data.toList.drop 0 = dktX3_lambda_new_2_0 := by decide +kernel
theorem dksX3_lambda_new_2_1 : cX3_lambda_new_2.data.toList.drop 23 = dktX3_lambda_new_2_1 := dk_seg dksX3_lambda_new_2_0 23 rfl rfl
theorem dX3_lambda_new_2_0 : decode cX3_lambda_new_2 0 = .ok (.aload_n 0, 1) := dk_42 (dk_at dksX3_lambda_new_2_0 0 rfl rfl)
theorem dX3_lambda_new_2_1 : decode cX3_lambda_new_2 1 = .ok (.getfield 40, 3) := dk_180 0 40 (dk_at dksX3_lambda_new_2_0 1 rfl rfl)
theorem dX3_lambda_new_2_4 : decode cX3_lambda_new_2 4 = .ok (.iload_n 2, 1) := dk_28 (dk_at dksX3_lambda_new_2_0 4 rfl rfl)
theorem dX3_lambda_new_2_5 : decode cX3_lambda_new_2 5 = .ok (.iaload, 1) := dk_46 (dk_at dksX3_lambda_new_2_0 5 rfl rfl)
theorem dX3_lambda_new_2_6 : decode cX3_lambda_new_2 6 = .ok (.ifCond .ne 10, 3) := dk_154 0 10 (dk_at dksX3_lambda_new_2_0 6 rfl rfl)
theorem dX3_lambda_new_2_9 : decode cX3_lambda_new_2 9 = .ok (.aload_n 0, 1) := dk_42 (dk_at dksX3_lambda_new_2_0 9 rfl rfl)
theorem dX3_lambda_new_2_10 : decode cX3_lambda_new_2 10 = .ok (.invokevirtual 285, 3) := dk_182 1 29 (dk_at dksX3_lambda_new_2_0 10 rfl rfl)
theorem dX3_lambda_new_2_13 : decode cX3_lambda_new_2 13 = .ok (.goto 16, 3) := dk_167 0 16 (dk_at dksX3_lambda_new_2_0 13 rfl rfl)
theorem dX3_lambda_new_2_16 : decode cX3_lambda_new_2 16 = .ok (.aload_n 0, 1) := dk_42 (dk_at dksX3_lambda_new_2_0 16 rfl rfl)
theorem dX3_lambda_new_2_17 : decode cX3_lambda_new_2 17 = .ok (.getfield 43, 3) := dk_180 0 43 (dk_at dksX3_lambda_new_2_0 17 rfl rfl)
theorem dX3_lambda_new_2_20 : decode cX3_lambda_new_2 20 = .ok (.iload_n 2, 1) := dk_28 (dk_at dksX3_lambda_new_2_0 20 rfl rfl)
theorem dX3_lambda_new_2_21 : decode cX3_lambda_new_2 21 = .ok (.iaload, 1) := dk_46 (dk_at dksX3_lambda_new_2_0 21 rfl rfl)
theorem dX3_lambda_new_2_22 : decode cX3_lambda_new_2 22 = .ok (.aload_n 0, 1) := dk_42 (dk_at dksX3_lambda_new_2_0 22 rfl rfl)
theorem dX3_lambda_new_2_23 : decode cX3_lambda_new_2 23 = .ok (.getfield 40, 3) := dk_180 0 40 (dk_at dksX3_lambda_new_2_1 0 rfl rfl)
theorem dX3_lambda_new_2_26 : decode cX3_lambda_new_2 26 = .ok (.iload_n 2, 1) := dk_28 (dk_at dksX3_lambda_new_2_1 3 rfl rfl)
theorem dX3_lambda_new_2_27 : decode cX3_lambda_new_2 27 = .ok (.iaload, 1) := dk_46 (dk_at dksX3_lambda_new_2_1 4 rfl rfl)
theorem dX3_lambda_new_2_28 : decode cX3_lambda_new_2 28 = .ok (.idiv, 1) := dk_108 (dk_at dksX3_lambda_new_2_1 5 rfl rfl)
theorem dX3_lambda_new_2_29 : decode cX3_lambda_new_2 29 = .ok (.ireturn, 1) := dk_172 (dk_at dksX3_lambda_new_2_1 6 rfl rfl)
abbrev cX3_lambda_new_3 : ByteArray := prog_9_method_35_code
def yX3_lambda_new_3 : MethodName := ⟨RX3, "lambda$new$3", "(III)I"⟩
def dkwX3_lambda_new_3_1 : List UInt8 := [180, 0, 46, 27, 28, 184, 0, 172, 46, 172]
abbrev dktX3_lambda_new_3_1 : List UInt8 := dkwX3_lambda_new_3_1 ++ []
def dkwX3_lambda_new_3_0 : List UInt8 := [42, 180, 0, 46, 27, 28, 184, 0, 172, 46, 2, 160, 0, 10, 42, 182, 1, 29, 167, 0, 13, 42]
abbrev dktX3_lambda_new_3_0 : List UInt8 := dkwX3_lambda_new_3_0 ++ dktX3_lambda_new_3_1
theorem dksX3_lambda_new_3_0 : cX3_lambda_new_3.data.toList.drop 0 = dktX3_lambda_new_3_0 := by decide +kernel
theorem dksX3_lambda_new_3_1 : cX3_lambda_new_3.data.toList.drop 22 = dktX3_lambda_new_3_1 := dk_seg dksX3_lambda_new_3_0 22 rfl rfl
theorem dX3_lambda_new_3_0 : decode cX3_lambda_new_3 0 = .ok (.aload_n 0, 1) := dk_42 (dk_at dksX3_lambda_new_3_0 0 rfl rfl)
theorem dX3_lambda_new_3_1 : decode cX3_lambda_new_3 1 = .ok (.getfield 46, 3) := dk_180 0 46 (dk_at dksX3_lambda_new_3_0 1 rfl rfl)
theorem dX3_lambda_new_3_4 : decode cX3_lambda_new_3 4 = .ok (.iload_n 1, 1) := dk_27 (dk_at dksX3_lambda_new_3_0 4 rfl rfl)
theorem dX3_lambda_new_3_5 : decode cX3_lambda_new_3 5 = .ok (.iload_n 2, 1) := dk_28 (dk_at dksX3_lambda_new_3_0 5 rfl rfl)
theorem dX3_lambda_new_3_6 : decode cX3_lambda_new_3 6 = .ok (.invokestatic 172, 3) := dk_184 0 172 (dk_at dksX3_lambda_new_3_0 6 rfl rfl)
theorem dX3_lambda_new_3_9 : decode cX3_lambda_new_3 9 = .ok (.iaload, 1) := dk_46 (dk_at dksX3_lambda_new_3_0 9 rfl rfl)
theorem dX3_lambda_new_3_10 : decode cX3_lambda_new_3 10 = .ok (.iconst (-1), 1) := dk_2 (dk_at dksX3_lambda_new_3_0 10 rfl rfl)
theorem dX3_lambda_new_3_11 : decode cX3_lambda_new_3 11 = .ok (.if_icmp .ne 10, 3) := dk_160 0 10 (dk_at dksX3_lambda_new_3_0 11 rfl rfl)
theorem dX3_lambda_new_3_14 : decode cX3_lambda_new_3 14 = .ok (.aload_n 0, 1) := dk_42 (dk_at dksX3_lambda_new_3_0 14 rfl rfl)
theorem dX3_lambda_new_3_15 : decode cX3_lambda_new_3 15 = .ok (.invokevirtual 285, 3) := dk_182 1 29 (dk_at dksX3_lambda_new_3_0 15 rfl rfl)
theorem dX3_lambda_new_3_18 : decode cX3_lambda_new_3 18 = .ok (.goto 13, 3) := dk_167 0 13 (dk_at dksX3_lambda_new_3_0 18 rfl rfl)
theorem dX3_lambda_new_3_21 : decode cX3_lambda_new_3 21 = .ok (.aload_n 0, 1) := dk_42 (dk_at dksX3_lambda_new_3_0 21 rfl rfl)
theorem dX3_lambda_new_3_22 : decode cX3_lambda_new_3 22 = .ok (.getfield 46, 3) := dk_180 0 46 (dk_at dksX3_lambda_new_3_1 0 rfl rfl)
theorem dX3_lambda_new_3_25 : decode cX3_lambda_new_3 25 = .ok (.iload_n 1, 1) := dk_27 (dk_at dksX3_lambda_new_3_1 3 rfl rfl)
theorem dX3_lambda_new_3_26 : decode cX3_lambda_new_3 26 = .ok (.iload_n 2, 1) := dk_28 (dk_at dksX3_lambda_new_3_1 4 rfl rfl)
theorem dX3_lambda_new_3_27 : decode cX3_lambda_new_3 27 = .ok (.invokestatic 172, 3) := dk_184 0 172 (dk_at dksX3_lambda_new_3_1 5 rfl rfl)
theorem dX3_lambda_new_3_30 : decode cX3_lambda_new_3 30 = .ok (.iaload, 1) := dk_46 (dk_at dksX3_lambda_new_3_1 8 rfl rfl)
theorem dX3_lambda_new_3_31 : decode cX3_lambda_new_3 31 = .ok (.ireturn, 1) := dk_172 (dk_at dksX3_lambda_new_3_1 9 rfl rfl)
abbrev cX3_both : ByteArray := prog_9_method_4_code
def yX3_both : MethodName := ⟨RX3, "both", "(II)I"⟩
def dkwX3_both_0 : List UInt8 := [7, 26, 104, 27, 96, 172]
abbrev dktX3_both_0 : List UInt8 := dkwX3_both_0 ++ []
theorem dksX3_both_0 : cX3_both.data.toList.drop 0 = dktX3_both_0 := by decide +kernel
theorem dX3_both_0 : decode cX3_both 0 = .ok (.iconst 4, 1) := dk_7 (dk_at dksX3_both_0 0 rfl rfl)
theorem dX3_both_1 : decode cX3_both 1 = .ok (.iload_n 0, 1) := dk_26 (dk_at dksX3_both_0 1 rfl rfl)
theorem dX3_both_2 : decode cX3_both 2 = .ok (.imul, 1) := dk_104 (dk_at dksX3_both_0 2 rfl rfl)
theorem dX3_both_3 : decode cX3_both 3 = .ok (.iload_n 1, 1) := dk_27 (dk_at dksX3_both_0 3 rfl rfl)
theorem dX3_both_4 : decode cX3_both 4 = .ok (.iadd, 1) := dk_96 (dk_at dksX3_both_0 4 rfl rfl)
theorem dX3_both_5 : decode cX3_both 5 = .ok (.ireturn, 1) := dk_172 (dk_at dksX3_both_0 5 rfl rfl)
abbrev cX3_lambda_new_4 : ByteArray := prog_9_method_34_code
def yX3_lambda_new_4 : MethodName := ⟨RX3, "lambda$new$4", "(III)I"⟩
def dkwX3_lambda_new_4_0 : List UInt8 := [42, 180, 0, 31, 27, 46, 154, 0, 10, 42, 182, 1, 29, 167, 0, 9, 42, 180, 0, 37, 27, 46, 172]
abbrev dktX3_lambda_new_4_0 : List UInt8 := dkwX3_lambda_new_4_0 ++ []
theorem dksX3_lambda_new_4_0 : cX3_lambda_new_4.data.toList.drop 0 = dktX3_lambda_new_4_0 := by decide +kernel
theorem dX3_lambda_new_4_0 : decode cX3_lambda_new_4 0 = .ok (.aload_n 0, 1) := dk_42 (dk_at dksX3_lambda_new_4_0 0 rfl rfl)
theorem dX3_lambda_new_4_1 : decode cX3_lambda_new_4 1 = .ok (.getfield 31, 3) := dk_180 0 31 (dk_at dksX3_lambda_new_4_0 1 rfl rfl)
theorem dX3_lambda_new_4_4 : decode cX3_lambda_new_4 4 = .ok (.iload_n 1, 1) := dk_27 (dk_at dksX3_lambda_new_4_0 4 rfl rfl)
theorem dX3_lambda_new_4_5 : decode cX3_lambda_new_4 5 = .ok (.iaload, 1) := dk_46 (dk_at dksX3_lambda_new_4_0 5 rfl rfl)
theorem dX3_lambda_new_4_6 : decode cX3_lambda_new_4 6 = .ok (.ifCond .ne 10, 3) := dk_154 0 10 (dk_at dksX3_lambda_new_4_0 6 rfl rfl)
theorem dX3_lambda_new_4_9 : decode cX3_lambda_new_4 9 = .ok (.aload_n 0, 1) := dk_42 (dk_at dksX3_lambda_new_4_0 9 rfl rfl)
theorem dX3_lambda_new_4_10 : decode cX3_lambda_new_4 10 = .ok (.invokevirtual 285, 3) := dk_182 1 29 (dk_at dksX3_lambda_new_4_0 10 rfl rfl)
theorem dX3_lambda_new_4_13 : decode cX3_lambda_new_4 13 = .ok (.goto 9, 3) := dk_167 0 9 (dk_at dksX3_lambda_new_4_0 13 rfl rfl)
theorem dX3_lambda_new_4_16 : decode cX3_lambda_new_4 16 = .ok (.aload_n 0, 1) := dk_42 (dk_at dksX3_lambda_new_4_0 16 rfl rfl)
theorem dX3_lambda_new_4_17 : decode cX3_lambda_new_4 17 = .ok (.getfield 37, 3) := dk_180 0 37 (dk_at dksX3_lambda_new_4_0 17 rfl rfl)
theorem dX3_lambda_new_4_20 : decode cX3_lambda_new_4 20 = .ok (.iload_n 1, 1) := dk_27 (dk_at dksX3_lambda_new_4_0 20 rfl rfl)
theorem dX3_lambda_new_4_21 : decode cX3_lambda_new_4 21 = .ok (.iaload, 1) := dk_46 (dk_at dksX3_lambda_new_4_0 21 rfl rfl)
theorem dX3_lambda_new_4_22 : decode cX3_lambda_new_4 22 = .ok (.ireturn, 1) := dk_172 (dk_at dksX3_lambda_new_4_0 22 rfl rfl)
abbrev cX3_lambda_new_5 : ByteArray := prog_9_method_33_code
def yX3_lambda_new_5 : MethodName := ⟨RX3, "lambda$new$5", "(III)I"⟩
def dkwX3_lambda_new_5_0 : List UInt8 := [42, 29, 182, 1, 26, 172]
abbrev dktX3_lambda_new_5_0 : List UInt8 := dkwX3_lambda_new_5_0 ++ []
theorem dksX3_lambda_new_5_0 : cX3_lambda_new_5.data.toList.drop 0 = dktX3_lambda_new_5_0 := by decide +kernel
theorem dX3_lambda_new_5_0 : decode cX3_lambda_new_5 0 = .ok (.aload_n 0, 1) := dk_42 (dk_at dksX3_lambda_new_5_0 0 rfl rfl)
theorem dX3_lambda_new_5_1 : decode cX3_lambda_new_5 1 = .ok (.iload_n 3, 1) := dk_29 (dk_at dksX3_lambda_new_5_0 1 rfl rfl)
theorem dX3_lambda_new_5_2 : decode cX3_lambda_new_5 2 = .ok (.invokevirtual 282, 3) := dk_182 1 26 (dk_at dksX3_lambda_new_5_0 2 rfl rfl)
theorem dX3_lambda_new_5_5 : decode cX3_lambda_new_5 5 = .ok (.ireturn, 1) := dk_172 (dk_at dksX3_lambda_new_5_0 5 rfl rfl)
abbrev cX3_lifeOf : ByteArray := prog_9_method_6_code
def yX3_lifeOf : MethodName := ⟨RX3, "lifeOf", "(I)I"⟩
def dkwX3_lifeOf_0 : List UInt8 := [42, 180, 0, 83, 27, 46, 172]
abbrev dktX3_lifeOf_0 : List UInt8 := dkwX3_lifeOf_0 ++ []
theorem dksX3_lifeOf_0 : cX3_lifeOf.data.toList.drop 0 = dktX3_lifeOf_0 := by decide +kernel
theorem dX3_lifeOf_0 : decode cX3_lifeOf 0 = .ok (.aload_n 0, 1) := dk_42 (dk_at dksX3_lifeOf_0 0 rfl rfl)
theorem dX3_lifeOf_1 : decode cX3_lifeOf 1 = .ok (.getfield 83, 3) := dk_180 0 83 (dk_at dksX3_lifeOf_0 1 rfl rfl)
theorem dX3_lifeOf_4 : decode cX3_lifeOf 4 = .ok (.iload_n 1, 1) := dk_27 (dk_at dksX3_lifeOf_0 4 rfl rfl)
theorem dX3_lifeOf_5 : decode cX3_lifeOf 5 = .ok (.iaload, 1) := dk_46 (dk_at dksX3_lifeOf_0 5 rfl rfl)
theorem dX3_lifeOf_6 : decode cX3_lifeOf 6 = .ok (.ireturn, 1) := dk_172 (dk_at dksX3_lifeOf_0 6 rfl rfl)
abbrev cX3_named : ByteArray := prog_9_method_30_code
def yX3_named : MethodName := ⟨RX3, "named", "(I)LFlashZones$Unit;"⟩
def dkwX3_named_2 : List UInt8 := [185, 0, 116, 2, 0, 192, 0, 114, 176, 132, 2, 1, 167, 255, 206, 1, 176]
abbrev dktX3_named_2 : List UInt8 := dkwX3_named_2 ++ []
def dkwX3_named_1 : List UInt8 := [185, 0, 116, 2, 0, 192, 0, 114, 180, 0, 145, 27, 160, 0, 17, 42, 180, 0, 12, 28]
abbrev dktX3_named_1 : List UInt8 := dkwX3_named_1 ++ dktX3_named_2
def dkwX3_named_0 : List UInt8 := [3, 61, 28, 42, 180, 0, 12, 185, 0, 108, 1, 0, 162, 0, 43, 42, 180, 0, 12, 28]
abbrev dktX3_named_0 : List UInt8 := dkwX3_named_0 ++ dktX3_named_1
theorem dksX3_named_0 : cX3_named.data.toList.drop 0 = dktX3_named_0 := by decide +kernel
theorem dksX3_named_1 : cX3_named.data.toList.drop 20 = dktX3_named_1 := dk_seg dksX3_named_0 20 rfl rfl
theorem dksX3_named_2 : cX3_named.data.toList.drop 40 = dktX3_named_2 := dk_seg dksX3_named_1 20 rfl rfl
theorem dX3_named_0 : decode cX3_named 0 = .ok (.iconst 0, 1) := dk_3 (dk_at dksX3_named_0 0 rfl rfl)
theorem dX3_named_1 : decode cX3_named 1 = .ok (.istore_n 2, 1) := dk_61 (dk_at dksX3_named_0 1 rfl rfl)
theorem dX3_named_2 : decode cX3_named 2 = .ok (.iload_n 2, 1) := dk_28 (dk_at dksX3_named_0 2 rfl rfl)
theorem dX3_named_3 : decode cX3_named 3 = .ok (.aload_n 0, 1) := dk_42 (dk_at dksX3_named_0 3 rfl rfl)
theorem dX3_named_4 : decode cX3_named 4 = .ok (.getfield 12, 3) := dk_180 0 12 (dk_at dksX3_named_0 4 rfl rfl)
theorem dX3_named_7 : decode cX3_named 7 = .ok (.invokeinterface 108 1, 5) := by decide +kernel
theorem dX3_named_12 : decode cX3_named 12 = .ok (.if_icmp .ge 43, 3) := dk_162 0 43 (dk_at dksX3_named_0 12 rfl rfl)
theorem dX3_named_15 : decode cX3_named 15 = .ok (.aload_n 0, 1) := dk_42 (dk_at dksX3_named_0 15 rfl rfl)
theorem dX3_named_16 : decode cX3_named 16 = .ok (.getfield 12, 3) := dk_180 0 12 (dk_at dksX3_named_0 16 rfl rfl)
theorem dX3_named_19 : decode cX3_named 19 = .ok (.iload_n 2, 1) := dk_28 (dk_at dksX3_named_0 19 rfl rfl)
theorem dX3_named_20 : decode cX3_named 20 = .ok (.invokeinterface 116 2, 5) := by decide +kernel
theorem dX3_named_25 : decode cX3_named 25 = .ok (.checkcast 114, 3) := dk_192 0 114 (dk_at dksX3_named_1 5 rfl rfl)
theorem dX3_named_28 : decode cX3_named 28 = .ok (.getfield 145, 3) := dk_180 0 145 (dk_at dksX3_named_1 8 rfl rfl)
theorem dX3_named_31 : decode cX3_named 31 = .ok (.iload_n 1, 1) := dk_27 (dk_at dksX3_named_1 11 rfl rfl)
theorem dX3_named_32 : decode cX3_named 32 = .ok (.if_icmp .ne 17, 3) := dk_160 0 17 (dk_at dksX3_named_1 12 rfl rfl)
theorem dX3_named_35 : decode cX3_named 35 = .ok (.aload_n 0, 1) := dk_42 (dk_at dksX3_named_1 15 rfl rfl)
theorem dX3_named_36 : decode cX3_named 36 = .ok (.getfield 12, 3) := dk_180 0 12 (dk_at dksX3_named_1 16 rfl rfl)
theorem dX3_named_39 : decode cX3_named 39 = .ok (.iload_n 2, 1) := dk_28 (dk_at dksX3_named_1 19 rfl rfl)
theorem dX3_named_40 : decode cX3_named 40 = .ok (.invokeinterface 116 2, 5) := by decide +kernel
theorem dX3_named_45 : decode cX3_named 45 = .ok (.checkcast 114, 3) := dk_192 0 114 (dk_at dksX3_named_2 5 rfl rfl)
theorem dX3_named_48 : decode cX3_named 48 = .ok (.areturn, 1) := dk_176 (dk_at dksX3_named_2 8 rfl rfl)
theorem dX3_named_49 : decode cX3_named 49 = .ok (.iinc 2 1, 3) := dk_132 2 1 (dk_at dksX3_named_2 9 rfl rfl)
theorem dX3_named_52 : decode cX3_named 52 = .ok (.goto (-50), 3) := dk_167 255 206 (dk_at dksX3_named_2 12 rfl rfl)
theorem dX3_named_55 : decode cX3_named 55 = .ok (.aconst_null, 1) := dk_1 (dk_at dksX3_named_2 15 rfl rfl)
theorem dX3_named_56 : decode cX3_named 56 = .ok (.areturn, 1) := dk_176 (dk_at dksX3_named_2 16 rfl rfl)
abbrev cX3_writeUnit : ByteArray := prog_9_method_20_code
def yX3_writeUnit : MethodName := ⟨RX3, "writeUnit", "(IIII)I"⟩
def dkwX3_writeUnit_5 : List UInt8 := [21, 5, 42, 180, 0, 90, 42, 42, 182, 0, 221, 28, 29, 27, 182, 0, 223, 96, 182, 0, 235, 3, 172]
abbrev dktX3_writeUnit_5 : List UInt8 := dkwX3_writeUnit_5 ++ []
def dkwX3_writeUnit_4 : List UInt8 := [21, 4, 79, 183, 0, 232, 58, 7, 42, 180, 0, 12, 25, 7, 185, 0, 123, 2, 0, 87, 42, 25, 7]
abbrev dktX3_writeUnit_4 : List UInt8 := dkwX3_writeUnit_4 ++ dktX3_writeUnit_5
def dkwX3_writeUnit_3 : List UInt8 := [42, 182, 0, 221, 27, 42, 180, 0, 90, 25, 6, 6, 188, 10, 89, 3, 28, 79, 89, 4, 29, 79, 89, 5]
abbrev dktX3_writeUnit_3 : List UInt8 := dkwX3_writeUnit_3 ++ dktX3_writeUnit_4
def dkwX3_writeUnit_2 : List UInt8 := [25, 6, 21, 7, 42, 21, 7, 28, 29, 27, 182, 0, 223, 79, 132, 7, 1, 167, 255, 233, 187, 0, 114, 89]
abbrev dktX3_writeUnit_2 : List UInt8 := dkwX3_writeUnit_2 ++ dktX3_writeUnit_3
def dkwX3_writeUnit_1 : List UInt8 := [54, 5, 21, 5, 2, 160, 0, 5, 4, 172, 8, 188, 10, 58, 6, 3, 54, 7, 21, 7, 8, 162, 0, 23]
abbrev dktX3_writeUnit_1 : List UInt8 := dkwX3_writeUnit_1 ++ dktX3_writeUnit_2
def dkwX3_writeUnit_0 : List UInt8 := [42, 180, 0, 12, 185, 0, 108, 1, 0, 16, 99, 160, 0, 6, 16, 6, 172, 42, 28, 29, 27, 182, 0, 229]
abbrev dktX3_writeUnit_0 : List UInt8 := dkwX3_writeUnit_0 ++ dktX3_writeUnit_1
theorem dksX3_writeUnit_0 : cX3_writeUnit.data.toList.drop 0 = dktX3_writeUnit_0 := by decide +kernel
theorem dksX3_writeUnit_1 : cX3_writeUnit.data.toList.drop 24 = dktX3_writeUnit_1 := dk_seg dksX3_writeUnit_0 24 rfl rfl
theorem dksX3_writeUnit_2 : cX3_writeUnit.data.toList.drop 48 = dktX3_writeUnit_2 := dk_seg dksX3_writeUnit_1 24 rfl rfl
theorem dksX3_writeUnit_3 : cX3_writeUnit.data.toList.drop 72 = dktX3_writeUnit_3 := dk_seg dksX3_writeUnit_2 24 rfl rfl
theorem dksX3_writeUnit_4 : cX3_writeUnit.data.toList.drop 96 = dktX3_writeUnit_4 := dk_seg dksX3_writeUnit_3 24 rfl rfl
theorem dksX3_writeUnit_5 : cX3_writeUnit.data.toList.drop 119 = dktX3_writeUnit_5 := dk_seg dksX3_writeUnit_4 23 rfl rfl
theorem dX3_writeUnit_0 : decode cX3_writeUnit 0 = .ok (.aload_n 0, 1) := dk_42 (dk_at dksX3_writeUnit_0 0 rfl rfl)
theorem dX3_writeUnit_1 : decode cX3_writeUnit 1 = .ok (.getfield 12, 3) := dk_180 0 12 (dk_at dksX3_writeUnit_0 1 rfl rfl)
theorem dX3_writeUnit_4 : decode cX3_writeUnit 4 = .ok (.invokeinterface 108 1, 5) := by decide +kernel
theorem dX3_writeUnit_9 : decode cX3_writeUnit 9 = .ok (.bipush 99, 2) := dk_16 99 (dk_at dksX3_writeUnit_0 9 rfl rfl)
theorem dX3_writeUnit_11 : decode cX3_writeUnit 11 = .ok (.if_icmp .ne 6, 3) := dk_160 0 6 (dk_at dksX3_writeUnit_0 11 rfl rfl)
theorem dX3_writeUnit_14 : decode cX3_writeUnit 14 = .ok (.bipush 6, 2) := dk_16 6 (dk_at dksX3_writeUnit_0 14 rfl rfl)
theorem dX3_writeUnit_16 : decode cX3_writeUnit 16 = .ok (.ireturn, 1) := dk_172 (dk_at dksX3_writeUnit_0 16 rfl rfl)
theorem dX3_writeUnit_17 : decode cX3_writeUnit 17 = .ok (.aload_n 0, 1) := dk_42 (dk_at dksX3_writeUnit_0 17 rfl rfl)
theorem dX3_writeUnit_18 : decode cX3_writeUnit 18 = .ok (.iload_n 2, 1) := dk_28 (dk_at dksX3_writeUnit_0 18 rfl rfl)
theorem dX3_writeUnit_19 : decode cX3_writeUnit 19 = .ok (.iload_n 3, 1) := dk_29 (dk_at dksX3_writeUnit_0 19 rfl rfl)
theorem dX3_writeUnit_20 : decode cX3_writeUnit 20 = .ok (.iload_n 1, 1) := dk_27 (dk_at dksX3_writeUnit_0 20 rfl rfl)
theorem dX3_writeUnit_21 : decode cX3_writeUnit 21 = .ok (.invokevirtual 229, 3) := dk_182 0 229 (dk_at dksX3_writeUnit_0 21 rfl rfl)
theorem dX3_writeUnit_24 : decode cX3_writeUnit 24 = .ok (.istore 5, 2) := dk_54 5 (dk_at dksX3_writeUnit_1 0 rfl rfl)
theorem dX3_writeUnit_26 : decode cX3_writeUnit 26 = .ok (.iload 5, 2) := dk_21 5 (dk_at dksX3_writeUnit_1 2 rfl rfl)
theorem dX3_writeUnit_28 : decode cX3_writeUnit 28 = .ok (.iconst (-1), 1) := dk_2 (dk_at dksX3_writeUnit_1 4 rfl rfl)
theorem dX3_writeUnit_29 : decode cX3_writeUnit 29 = .ok (.if_icmp .ne 5, 3) := dk_160 0 5 (dk_at dksX3_writeUnit_1 5 rfl rfl)
theorem dX3_writeUnit_32 : decode cX3_writeUnit 32 = .ok (.iconst 1, 1) := dk_4 (dk_at dksX3_writeUnit_1 8 rfl rfl)
theorem dX3_writeUnit_33 : decode cX3_writeUnit 33 = .ok (.ireturn, 1) := dk_172 (dk_at dksX3_writeUnit_1 9 rfl rfl)
theorem dX3_writeUnit_34 : decode cX3_writeUnit 34 = .ok (.iconst 5, 1) := dk_8 (dk_at dksX3_writeUnit_1 10 rfl rfl)
theorem dX3_writeUnit_35 : decode cX3_writeUnit 35 = .ok (.newarray .int, 2) := dk_188_10 (dk_at dksX3_writeUnit_1 11 rfl rfl)
theorem dX3_writeUnit_37 : decode cX3_writeUnit 37 = .ok (.astore 6, 2) := dk_58 6 (dk_at dksX3_writeUnit_1 13 rfl rfl)
theorem dX3_writeUnit_39 : decode cX3_writeUnit 39 = .ok (.iconst 0, 1) := dk_3 (dk_at dksX3_writeUnit_1 15 rfl rfl)
theorem dX3_writeUnit_40 : decode cX3_writeUnit 40 = .ok (.istore 7, 2) := dk_54 7 (dk_at dksX3_writeUnit_1 16 rfl rfl)
theorem dX3_writeUnit_42 : decode cX3_writeUnit 42 = .ok (.iload 7, 2) := dk_21 7 (dk_at dksX3_writeUnit_1 18 rfl rfl)
theorem dX3_writeUnit_44 : decode cX3_writeUnit 44 = .ok (.iconst 5, 1) := dk_8 (dk_at dksX3_writeUnit_1 20 rfl rfl)
theorem dX3_writeUnit_45 : decode cX3_writeUnit 45 = .ok (.if_icmp .ge 23, 3) := dk_162 0 23 (dk_at dksX3_writeUnit_1 21 rfl rfl)
theorem dX3_writeUnit_48 : decode cX3_writeUnit 48 = .ok (.aload 6, 2) := dk_25 6 (dk_at dksX3_writeUnit_2 0 rfl rfl)
theorem dX3_writeUnit_50 : decode cX3_writeUnit 50 = .ok (.iload 7, 2) := dk_21 7 (dk_at dksX3_writeUnit_2 2 rfl rfl)
theorem dX3_writeUnit_52 : decode cX3_writeUnit 52 = .ok (.aload_n 0, 1) := dk_42 (dk_at dksX3_writeUnit_2 4 rfl rfl)
theorem dX3_writeUnit_53 : decode cX3_writeUnit 53 = .ok (.iload 7, 2) := dk_21 7 (dk_at dksX3_writeUnit_2 5 rfl rfl)
theorem dX3_writeUnit_55 : decode cX3_writeUnit 55 = .ok (.iload_n 2, 1) := dk_28 (dk_at dksX3_writeUnit_2 7 rfl rfl)
theorem dX3_writeUnit_56 : decode cX3_writeUnit 56 = .ok (.iload_n 3, 1) := dk_29 (dk_at dksX3_writeUnit_2 8 rfl rfl)
theorem dX3_writeUnit_57 : decode cX3_writeUnit 57 = .ok (.iload_n 1, 1) := dk_27 (dk_at dksX3_writeUnit_2 9 rfl rfl)
theorem dX3_writeUnit_58 : decode cX3_writeUnit 58 = .ok (.invokevirtual 223, 3) := dk_182 0 223 (dk_at dksX3_writeUnit_2 10 rfl rfl)
theorem dX3_writeUnit_61 : decode cX3_writeUnit 61 = .ok (.iastore, 1) := dk_79 (dk_at dksX3_writeUnit_2 13 rfl rfl)
theorem dX3_writeUnit_62 : decode cX3_writeUnit 62 = .ok (.iinc 7 1, 3) := dk_132 7 1 (dk_at dksX3_writeUnit_2 14 rfl rfl)
theorem dX3_writeUnit_65 : decode cX3_writeUnit 65 = .ok (.goto (-23), 3) := dk_167 255 233 (dk_at dksX3_writeUnit_2 17 rfl rfl)
theorem dX3_writeUnit_68 : decode cX3_writeUnit 68 = .ok (.new 114, 3) := dk_187 0 114 (dk_at dksX3_writeUnit_2 20 rfl rfl)
theorem dX3_writeUnit_71 : decode cX3_writeUnit 71 = .ok (.dup, 1) := dk_89 (dk_at dksX3_writeUnit_2 23 rfl rfl)
theorem dX3_writeUnit_72 : decode cX3_writeUnit 72 = .ok (.aload_n 0, 1) := dk_42 (dk_at dksX3_writeUnit_3 0 rfl rfl)
theorem dX3_writeUnit_73 : decode cX3_writeUnit 73 = .ok (.invokevirtual 221, 3) := dk_182 0 221 (dk_at dksX3_writeUnit_3 1 rfl rfl)
theorem dX3_writeUnit_76 : decode cX3_writeUnit 76 = .ok (.iload_n 1, 1) := dk_27 (dk_at dksX3_writeUnit_3 4 rfl rfl)
theorem dX3_writeUnit_77 : decode cX3_writeUnit 77 = .ok (.aload_n 0, 1) := dk_42 (dk_at dksX3_writeUnit_3 5 rfl rfl)
theorem dX3_writeUnit_78 : decode cX3_writeUnit 78 = .ok (.getfield 90, 3) := dk_180 0 90 (dk_at dksX3_writeUnit_3 6 rfl rfl)
theorem dX3_writeUnit_81 : decode cX3_writeUnit 81 = .ok (.aload 6, 2) := dk_25 6 (dk_at dksX3_writeUnit_3 9 rfl rfl)
theorem dX3_writeUnit_83 : decode cX3_writeUnit 83 = .ok (.iconst 3, 1) := dk_6 (dk_at dksX3_writeUnit_3 11 rfl rfl)
theorem dX3_writeUnit_84 : decode cX3_writeUnit 84 = .ok (.newarray .int, 2) := dk_188_10 (dk_at dksX3_writeUnit_3 12 rfl rfl)
theorem dX3_writeUnit_86 : decode cX3_writeUnit 86 = .ok (.dup, 1) := dk_89 (dk_at dksX3_writeUnit_3 14 rfl rfl)
theorem dX3_writeUnit_87 : decode cX3_writeUnit 87 = .ok (.iconst 0, 1) := dk_3 (dk_at dksX3_writeUnit_3 15 rfl rfl)
theorem dX3_writeUnit_88 : decode cX3_writeUnit 88 = .ok (.iload_n 2, 1) := dk_28 (dk_at dksX3_writeUnit_3 16 rfl rfl)
theorem dX3_writeUnit_89 : decode cX3_writeUnit 89 = .ok (.iastore, 1) := dk_79 (dk_at dksX3_writeUnit_3 17 rfl rfl)
theorem dX3_writeUnit_90 : decode cX3_writeUnit 90 = .ok (.dup, 1) := dk_89 (dk_at dksX3_writeUnit_3 18 rfl rfl)
theorem dX3_writeUnit_91 : decode cX3_writeUnit 91 = .ok (.iconst 1, 1) := dk_4 (dk_at dksX3_writeUnit_3 19 rfl rfl)
theorem dX3_writeUnit_92 : decode cX3_writeUnit 92 = .ok (.iload_n 3, 1) := dk_29 (dk_at dksX3_writeUnit_3 20 rfl rfl)
theorem dX3_writeUnit_93 : decode cX3_writeUnit 93 = .ok (.iastore, 1) := dk_79 (dk_at dksX3_writeUnit_3 21 rfl rfl)
theorem dX3_writeUnit_94 : decode cX3_writeUnit 94 = .ok (.dup, 1) := dk_89 (dk_at dksX3_writeUnit_3 22 rfl rfl)
theorem dX3_writeUnit_95 : decode cX3_writeUnit 95 = .ok (.iconst 2, 1) := dk_5 (dk_at dksX3_writeUnit_3 23 rfl rfl)
theorem dX3_writeUnit_96 : decode cX3_writeUnit 96 = .ok (.iload 4, 2) := dk_21 4 (dk_at dksX3_writeUnit_4 0 rfl rfl)
theorem dX3_writeUnit_98 : decode cX3_writeUnit 98 = .ok (.iastore, 1) := dk_79 (dk_at dksX3_writeUnit_4 2 rfl rfl)
theorem dX3_writeUnit_99 : decode cX3_writeUnit 99 = .ok (.invokespecial 232, 3) := dk_183 0 232 (dk_at dksX3_writeUnit_4 3 rfl rfl)
theorem dX3_writeUnit_102 : decode cX3_writeUnit 102 = .ok (.astore 7, 2) := dk_58 7 (dk_at dksX3_writeUnit_4 6 rfl rfl)
theorem dX3_writeUnit_104 : decode cX3_writeUnit 104 = .ok (.aload_n 0, 1) := dk_42 (dk_at dksX3_writeUnit_4 8 rfl rfl)
theorem dX3_writeUnit_105 : decode cX3_writeUnit 105 = .ok (.getfield 12, 3) := dk_180 0 12 (dk_at dksX3_writeUnit_4 9 rfl rfl)
theorem dX3_writeUnit_108 : decode cX3_writeUnit 108 = .ok (.aload 7, 2) := dk_25 7 (dk_at dksX3_writeUnit_4 12 rfl rfl)
theorem dX3_writeUnit_110 : decode cX3_writeUnit 110 = .ok (.invokeinterface 123 2, 5) := by decide +kernel
theorem dX3_writeUnit_115 : decode cX3_writeUnit 115 = .ok (.pop, 1) := dk_87 (dk_at dksX3_writeUnit_4 19 rfl rfl)
theorem dX3_writeUnit_116 : decode cX3_writeUnit 116 = .ok (.aload_n 0, 1) := dk_42 (dk_at dksX3_writeUnit_4 20 rfl rfl)
theorem dX3_writeUnit_117 : decode cX3_writeUnit 117 = .ok (.aload 7, 2) := dk_25 7 (dk_at dksX3_writeUnit_4 21 rfl rfl)
theorem dX3_writeUnit_119 : decode cX3_writeUnit 119 = .ok (.iload 5, 2) := dk_21 5 (dk_at dksX3_writeUnit_5 0 rfl rfl)
theorem dX3_writeUnit_121 : decode cX3_writeUnit 121 = .ok (.aload_n 0, 1) := dk_42 (dk_at dksX3_writeUnit_5 2 rfl rfl)
theorem dX3_writeUnit_122 : decode cX3_writeUnit 122 = .ok (.getfield 90, 3) := dk_180 0 90 (dk_at dksX3_writeUnit_5 3 rfl rfl)
theorem dX3_writeUnit_125 : decode cX3_writeUnit 125 = .ok (.aload_n 0, 1) := dk_42 (dk_at dksX3_writeUnit_5 6 rfl rfl)
theorem dX3_writeUnit_126 : decode cX3_writeUnit 126 = .ok (.aload_n 0, 1) := dk_42 (dk_at dksX3_writeUnit_5 7 rfl rfl)
theorem dX3_writeUnit_127 : decode cX3_writeUnit 127 = .ok (.invokevirtual 221, 3) := dk_182 0 221 (dk_at dksX3_writeUnit_5 8 rfl rfl)
theorem dX3_writeUnit_130 : decode cX3_writeUnit 130 = .ok (.iload_n 2, 1) := dk_28 (dk_at dksX3_writeUnit_5 11 rfl rfl)
theorem dX3_writeUnit_131 : decode cX3_writeUnit 131 = .ok (.iload_n 3, 1) := dk_29 (dk_at dksX3_writeUnit_5 12 rfl rfl)
theorem dX3_writeUnit_132 : decode cX3_writeUnit 132 = .ok (.iload_n 1, 1) := dk_27 (dk_at dksX3_writeUnit_5 13 rfl rfl)
theorem dX3_writeUnit_133 : decode cX3_writeUnit 133 = .ok (.invokevirtual 223, 3) := dk_182 0 223 (dk_at dksX3_writeUnit_5 14 rfl rfl)
theorem dX3_writeUnit_136 : decode cX3_writeUnit 136 = .ok (.iadd, 1) := dk_96 (dk_at dksX3_writeUnit_5 17 rfl rfl)
theorem dX3_writeUnit_137 : decode cX3_writeUnit 137 = .ok (.invokevirtual 235, 3) := dk_182 0 235 (dk_at dksX3_writeUnit_5 18 rfl rfl)
theorem dX3_writeUnit_140 : decode cX3_writeUnit 140 = .ok (.iconst 0, 1) := dk_3 (dk_at dksX3_writeUnit_5 21 rfl rfl)
theorem dX3_writeUnit_141 : decode cX3_writeUnit 141 = .ok (.ireturn, 1) := dk_172 (dk_at dksX3_writeUnit_5 22 rfl rfl)
abbrev cX3_placeFor : ByteArray := prog_9_method_19_code
def yX3_placeFor : MethodName := ⟨RX3, "placeFor", "(III)I"⟩
def dkwX3_placeFor_1 : List UInt8 := [180, 0, 80, 5, 46, 108, 28, 2, 182, 0, 226, 172]
abbrev dktX3_placeFor_1 : List UInt8 := dkwX3_placeFor_1 ++ []
def dkwX3_placeFor_0 : List UInt8 := [42, 182, 0, 218, 42, 42, 180, 0, 90, 42, 42, 182, 0, 221, 27, 28, 29, 182, 0, 223, 96, 42]
abbrev dktX3_placeFor_0 : List UInt8 := dkwX3_placeFor_0 ++ dktX3_placeFor_1
theorem dksX3_placeFor_0 : cX3_placeFor.data.toList.drop 0 = dktX3_placeFor_0 := by decide +kernel
theorem dksX3_placeFor_1 : cX3_placeFor.data.toList.drop 22 = dktX3_placeFor_1 := dk_seg dksX3_placeFor_0 22 rfl rfl
theorem dX3_placeFor_0 : decode cX3_placeFor 0 = .ok (.aload_n 0, 1) := dk_42 (dk_at dksX3_placeFor_0 0 rfl rfl)
theorem dX3_placeFor_1 : decode cX3_placeFor 1 = .ok (.invokevirtual 218, 3) := dk_182 0 218 (dk_at dksX3_placeFor_0 1 rfl rfl)
theorem dX3_placeFor_4 : decode cX3_placeFor 4 = .ok (.aload_n 0, 1) := dk_42 (dk_at dksX3_placeFor_0 4 rfl rfl)
theorem dX3_placeFor_5 : decode cX3_placeFor 5 = .ok (.aload_n 0, 1) := dk_42 (dk_at dksX3_placeFor_0 5 rfl rfl)
theorem dX3_placeFor_6 : decode cX3_placeFor 6 = .ok (.getfield 90, 3) := dk_180 0 90 (dk_at dksX3_placeFor_0 6 rfl rfl)
theorem dX3_placeFor_9 : decode cX3_placeFor 9 = .ok (.aload_n 0, 1) := dk_42 (dk_at dksX3_placeFor_0 9 rfl rfl)
theorem dX3_placeFor_10 : decode cX3_placeFor 10 = .ok (.aload_n 0, 1) := dk_42 (dk_at dksX3_placeFor_0 10 rfl rfl)
theorem dX3_placeFor_11 : decode cX3_placeFor 11 = .ok (.invokevirtual 221, 3) := dk_182 0 221 (dk_at dksX3_placeFor_0 11 rfl rfl)
theorem dX3_placeFor_14 : decode cX3_placeFor 14 = .ok (.iload_n 1, 1) := dk_27 (dk_at dksX3_placeFor_0 14 rfl rfl)
theorem dX3_placeFor_15 : decode cX3_placeFor 15 = .ok (.iload_n 2, 1) := dk_28 (dk_at dksX3_placeFor_0 15 rfl rfl)
theorem dX3_placeFor_16 : decode cX3_placeFor 16 = .ok (.iload_n 3, 1) := dk_29 (dk_at dksX3_placeFor_0 16 rfl rfl)
theorem dX3_placeFor_17 : decode cX3_placeFor 17 = .ok (.invokevirtual 223, 3) := dk_182 0 223 (dk_at dksX3_placeFor_0 17 rfl rfl)
theorem dX3_placeFor_20 : decode cX3_placeFor 20 = .ok (.iadd, 1) := dk_96 (dk_at dksX3_placeFor_0 20 rfl rfl)
theorem dX3_placeFor_21 : decode cX3_placeFor 21 = .ok (.aload_n 0, 1) := dk_42 (dk_at dksX3_placeFor_0 21 rfl rfl)
theorem dX3_placeFor_22 : decode cX3_placeFor 22 = .ok (.getfield 80, 3) := dk_180 0 80 (dk_at dksX3_placeFor_1 0 rfl rfl)
theorem dX3_placeFor_25 : decode cX3_placeFor 25 = .ok (.iconst 2, 1) := dk_5 (dk_at dksX3_placeFor_1 3 rfl rfl)
theorem dX3_placeFor_26 : decode cX3_placeFor 26 = .ok (.iaload, 1) := dk_46 (dk_at dksX3_placeFor_1 4 rfl rfl)
theorem dX3_placeFor_27 : decode cX3_placeFor 27 = .ok (.idiv, 1) := dk_108 (dk_at dksX3_placeFor_1 5 rfl rfl)
theorem dX3_placeFor_28 : decode cX3_placeFor 28 = .ok (.iload_n 2, 1) := dk_28 (dk_at dksX3_placeFor_1 6 rfl rfl)
theorem dX3_placeFor_29 : decode cX3_placeFor 29 = .ok (.iconst (-1), 1) := dk_2 (dk_at dksX3_placeFor_1 7 rfl rfl)
theorem dX3_placeFor_30 : decode cX3_placeFor 30 = .ok (.invokevirtual 226, 3) := dk_182 0 226 (dk_at dksX3_placeFor_1 8 rfl rfl)
theorem dX3_placeFor_33 : decode cX3_placeFor 33 = .ok (.ireturn, 1) := dk_172 (dk_at dksX3_placeFor_1 11 rfl rfl)
abbrev cX3_lay : ByteArray := prog_9_method_13_code
def yX3_lay : MethodName := ⟨RX3, "lay", "()V"⟩
def dkwX3_lay_2 : List UInt8 := [167, 255, 213, 177]
abbrev dktX3_lay_2 : List UInt8 := dkwX3_lay_2 ++ []
def dkwX3_lay_1 : List UInt8 := [180, 0, 137, 79, 42, 180, 0, 67, 27, 42, 180, 0, 20, 27, 50, 180, 0, 140, 79, 132, 1, 1]
abbrev dktX3_lay_1 : List UInt8 := dkwX3_lay_1 ++ dktX3_lay_2
def dkwX3_lay_0 : List UInt8 := [3, 60, 27, 42, 180, 0, 80, 3, 46, 162, 0, 39, 42, 180, 0, 64, 27, 42, 180, 0, 20, 27, 50]
abbrev dktX3_lay_0 : List UInt8 := dkwX3_lay_0 ++ dktX3_lay_1
theorem dksX3_lay_0 : cX3_lay.data.toList.drop 0 = dktX3_lay_0 := by decide +kernel
theorem dksX3_lay_1 : cX3_lay.data.toList.drop 23 = dktX3_lay_1 := dk_seg dksX3_lay_0 23 rfl rfl
theorem dksX3_lay_2 : cX3_lay.data.toList.drop 45 = dktX3_lay_2 := dk_seg dksX3_lay_1 22 rfl rfl
theorem dX3_lay_0 : decode cX3_lay 0 = .ok (.iconst 0, 1) := dk_3 (dk_at dksX3_lay_0 0 rfl rfl)
theorem dX3_lay_1 : decode cX3_lay 1 = .ok (.istore_n 1, 1) := dk_60 (dk_at dksX3_lay_0 1 rfl rfl)
theorem dX3_lay_2 : decode cX3_lay 2 = .ok (.iload_n 1, 1) := dk_27 (dk_at dksX3_lay_0 2 rfl rfl)
theorem dX3_lay_3 : decode cX3_lay 3 = .ok (.aload_n 0, 1) := dk_42 (dk_at dksX3_lay_0 3 rfl rfl)
theorem dX3_lay_4 : decode cX3_lay 4 = .ok (.getfield 80, 3) := dk_180 0 80 (dk_at dksX3_lay_0 4 rfl rfl)
theorem dX3_lay_7 : decode cX3_lay 7 = .ok (.iconst 0, 1) := dk_3 (dk_at dksX3_lay_0 7 rfl rfl)
theorem dX3_lay_8 : decode cX3_lay 8 = .ok (.iaload, 1) := dk_46 (dk_at dksX3_lay_0 8 rfl rfl)
theorem dX3_lay_9 : decode cX3_lay 9 = .ok (.if_icmp .ge 39, 3) := dk_162 0 39 (dk_at dksX3_lay_0 9 rfl rfl)
theorem dX3_lay_12 : decode cX3_lay 12 = .ok (.aload_n 0, 1) := dk_42 (dk_at dksX3_lay_0 12 rfl rfl)
theorem dX3_lay_13 : decode cX3_lay 13 = .ok (.getfield 64, 3) := dk_180 0 64 (dk_at dksX3_lay_0 13 rfl rfl)
theorem dX3_lay_16 : decode cX3_lay 16 = .ok (.iload_n 1, 1) := dk_27 (dk_at dksX3_lay_0 16 rfl rfl)
theorem dX3_lay_17 : decode cX3_lay 17 = .ok (.aload_n 0, 1) := dk_42 (dk_at dksX3_lay_0 17 rfl rfl)
theorem dX3_lay_18 : decode cX3_lay 18 = .ok (.getfield 20, 3) := dk_180 0 20 (dk_at dksX3_lay_0 18 rfl rfl)
theorem dX3_lay_21 : decode cX3_lay 21 = .ok (.iload_n 1, 1) := dk_27 (dk_at dksX3_lay_0 21 rfl rfl)
theorem dX3_lay_22 : decode cX3_lay 22 = .ok (.aaload, 1) := dk_50 (dk_at dksX3_lay_0 22 rfl rfl)
theorem dX3_lay_23 : decode cX3_lay 23 = .ok (.getfield 137, 3) := dk_180 0 137 (dk_at dksX3_lay_1 0 rfl rfl)
theorem dX3_lay_26 : decode cX3_lay 26 = .ok (.iastore, 1) := dk_79 (dk_at dksX3_lay_1 3 rfl rfl)
theorem dX3_lay_27 : decode cX3_lay 27 = .ok (.aload_n 0, 1) := dk_42 (dk_at dksX3_lay_1 4 rfl rfl)
theorem dX3_lay_28 : decode cX3_lay 28 = .ok (.getfield 67, 3) := dk_180 0 67 (dk_at dksX3_lay_1 5 rfl rfl)
theorem dX3_lay_31 : decode cX3_lay 31 = .ok (.iload_n 1, 1) := dk_27 (dk_at dksX3_lay_1 8 rfl rfl)
theorem dX3_lay_32 : decode cX3_lay 32 = .ok (.aload_n 0, 1) := dk_42 (dk_at dksX3_lay_1 9 rfl rfl)
theorem dX3_lay_33 : decode cX3_lay 33 = .ok (.getfield 20, 3) := dk_180 0 20 (dk_at dksX3_lay_1 10 rfl rfl)
theorem dX3_lay_36 : decode cX3_lay 36 = .ok (.iload_n 1, 1) := dk_27 (dk_at dksX3_lay_1 13 rfl rfl)
theorem dX3_lay_37 : decode cX3_lay 37 = .ok (.aaload, 1) := dk_50 (dk_at dksX3_lay_1 14 rfl rfl)
theorem dX3_lay_38 : decode cX3_lay 38 = .ok (.getfield 140, 3) := dk_180 0 140 (dk_at dksX3_lay_1 15 rfl rfl)
theorem dX3_lay_41 : decode cX3_lay 41 = .ok (.iastore, 1) := dk_79 (dk_at dksX3_lay_1 18 rfl rfl)
theorem dX3_lay_42 : decode cX3_lay 42 = .ok (.iinc 1 1, 3) := dk_132 1 1 (dk_at dksX3_lay_1 19 rfl rfl)
theorem dX3_lay_45 : decode cX3_lay 45 = .ok (.goto (-43), 3) := dk_167 255 213 (dk_at dksX3_lay_2 0 rfl rfl)
theorem dX3_lay_48 : decode cX3_lay 48 = .ok (.return_, 1) := dk_177 (dk_at dksX3_lay_2 3 rfl rfl)
abbrev cX3_leader : ByteArray := prog_9_method_7_code
def yX3_leader : MethodName := ⟨RX3, "leader", "()I"⟩
def dkwX3_leader_2 : List UInt8 := [167, 255, 227, 27, 172]
abbrev dktX3_leader_2 : List UInt8 := dkwX3_leader_2 ++ []
def dkwX3_leader_1 : List UInt8 := [180, 0, 24, 28, 46, 42, 180, 0, 24, 27, 46, 164, 0, 7, 28, 167, 0, 4, 27, 60, 132, 2, 1]
abbrev dktX3_leader_1 : List UInt8 := dkwX3_leader_1 ++ dktX3_leader_2
def dkwX3_leader_0 : List UInt8 := [42, 180, 0, 76, 8, 159, 0, 8, 42, 180, 0, 76, 172, 3, 60, 4, 61, 28, 8, 162, 0, 30, 42]
abbrev dktX3_leader_0 : List UInt8 := dkwX3_leader_0 ++ dktX3_leader_1
theorem dksX3_leader_0 : cX3_leader.data.toList.drop 0 = dktX3_leader_0 := by decide +kernel
theorem dksX3_leader_1 : cX3_leader.data.toList.drop 23 = dktX3_leader_1 := dk_seg dksX3_leader_0 23 rfl rfl
theorem dksX3_leader_2 : cX3_leader.data.toList.drop 46 = dktX3_leader_2 := dk_seg dksX3_leader_1 23 rfl rfl
theorem dX3_leader_0 : decode cX3_leader 0 = .ok (.aload_n 0, 1) := dk_42 (dk_at dksX3_leader_0 0 rfl rfl)
theorem dX3_leader_1 : decode cX3_leader 1 = .ok (.getfield 76, 3) := dk_180 0 76 (dk_at dksX3_leader_0 1 rfl rfl)
theorem dX3_leader_4 : decode cX3_leader 4 = .ok (.iconst 5, 1) := dk_8 (dk_at dksX3_leader_0 4 rfl rfl)
theorem dX3_leader_5 : decode cX3_leader 5 = .ok (.if_icmp .eq 8, 3) := dk_159 0 8 (dk_at dksX3_leader_0 5 rfl rfl)
theorem dX3_leader_8 : decode cX3_leader 8 = .ok (.aload_n 0, 1) := dk_42 (dk_at dksX3_leader_0 8 rfl rfl)
theorem dX3_leader_9 : decode cX3_leader 9 = .ok (.getfield 76, 3) := dk_180 0 76 (dk_at dksX3_leader_0 9 rfl rfl)
theorem dX3_leader_12 : decode cX3_leader 12 = .ok (.ireturn, 1) := dk_172 (dk_at dksX3_leader_0 12 rfl rfl)
theorem dX3_leader_13 : decode cX3_leader 13 = .ok (.iconst 0, 1) := dk_3 (dk_at dksX3_leader_0 13 rfl rfl)
theorem dX3_leader_14 : decode cX3_leader 14 = .ok (.istore_n 1, 1) := dk_60 (dk_at dksX3_leader_0 14 rfl rfl)
theorem dX3_leader_15 : decode cX3_leader 15 = .ok (.iconst 1, 1) := dk_4 (dk_at dksX3_leader_0 15 rfl rfl)
theorem dX3_leader_16 : decode cX3_leader 16 = .ok (.istore_n 2, 1) := dk_61 (dk_at dksX3_leader_0 16 rfl rfl)
theorem dX3_leader_17 : decode cX3_leader 17 = .ok (.iload_n 2, 1) := dk_28 (dk_at dksX3_leader_0 17 rfl rfl)
theorem dX3_leader_18 : decode cX3_leader 18 = .ok (.iconst 5, 1) := dk_8 (dk_at dksX3_leader_0 18 rfl rfl)
theorem dX3_leader_19 : decode cX3_leader 19 = .ok (.if_icmp .ge 30, 3) := dk_162 0 30 (dk_at dksX3_leader_0 19 rfl rfl)
theorem dX3_leader_22 : decode cX3_leader 22 = .ok (.aload_n 0, 1) := dk_42 (dk_at dksX3_leader_0 22 rfl rfl)
theorem dX3_leader_23 : decode cX3_leader 23 = .ok (.getfield 24, 3) := dk_180 0 24 (dk_at dksX3_leader_1 0 rfl rfl)
theorem dX3_leader_26 : decode cX3_leader 26 = .ok (.iload_n 2, 1) := dk_28 (dk_at dksX3_leader_1 3 rfl rfl)
theorem dX3_leader_27 : decode cX3_leader 27 = .ok (.iaload, 1) := dk_46 (dk_at dksX3_leader_1 4 rfl rfl)
theorem dX3_leader_28 : decode cX3_leader 28 = .ok (.aload_n 0, 1) := dk_42 (dk_at dksX3_leader_1 5 rfl rfl)
theorem dX3_leader_29 : decode cX3_leader 29 = .ok (.getfield 24, 3) := dk_180 0 24 (dk_at dksX3_leader_1 6 rfl rfl)
theorem dX3_leader_32 : decode cX3_leader 32 = .ok (.iload_n 1, 1) := dk_27 (dk_at dksX3_leader_1 9 rfl rfl)
theorem dX3_leader_33 : decode cX3_leader 33 = .ok (.iaload, 1) := dk_46 (dk_at dksX3_leader_1 10 rfl rfl)
theorem dX3_leader_34 : decode cX3_leader 34 = .ok (.if_icmp .le 7, 3) := dk_164 0 7 (dk_at dksX3_leader_1 11 rfl rfl)
theorem dX3_leader_37 : decode cX3_leader 37 = .ok (.iload_n 2, 1) := dk_28 (dk_at dksX3_leader_1 14 rfl rfl)
theorem dX3_leader_38 : decode cX3_leader 38 = .ok (.goto 4, 3) := dk_167 0 4 (dk_at dksX3_leader_1 15 rfl rfl)
theorem dX3_leader_41 : decode cX3_leader 41 = .ok (.iload_n 1, 1) := dk_27 (dk_at dksX3_leader_1 18 rfl rfl)
theorem dX3_leader_42 : decode cX3_leader 42 = .ok (.istore_n 1, 1) := dk_60 (dk_at dksX3_leader_1 19 rfl rfl)
theorem dX3_leader_43 : decode cX3_leader 43 = .ok (.iinc 2 1, 3) := dk_132 2 1 (dk_at dksX3_leader_1 20 rfl rfl)
theorem dX3_leader_46 : decode cX3_leader 46 = .ok (.goto (-29), 3) := dk_167 255 227 (dk_at dksX3_leader_2 0 rfl rfl)
theorem dX3_leader_49 : decode cX3_leader 49 = .ok (.iload_n 1, 1) := dk_27 (dk_at dksX3_leader_2 3 rfl rfl)
theorem dX3_leader_50 : decode cX3_leader 50 = .ok (.ireturn, 1) := dk_172 (dk_at dksX3_leader_2 4 rfl rfl)
abbrev cX3_tells : ByteArray := prog_9_method_8_code
def yX3_tells : MethodName := ⟨RX3, "tells", "(IIII)I"⟩
def dkwX3_tells_1 : List UInt8 := [172]
abbrev dktX3_tells_1 : List UInt8 := dkwX3_tells_1 ++ []
def dkwX3_tells_0 : List UInt8 := [4, 16, 99, 42, 180, 0, 51, 27, 50, 28, 29, 21, 4, 185, 0, 152, 4, 0, 184, 0, 155, 184, 0, 161]
abbrev dktX3_tells_0 : List UInt8 := dkwX3_tells_0 ++ dktX3_tells_1
theorem dksX3_tells_0 : cX3_tells.data.toList.drop 0 = dktX3_tells_0 := by decide +kernel
theorem dksX3_tells_1 : cX3_tells.data.toList.drop 24 = dktX3_tells_1 := dk_seg dksX3_tells_0 24 rfl rfl
theorem dX3_tells_0 : decode cX3_tells 0 = .ok (.iconst 1, 1) := dk_4 (dk_at dksX3_tells_0 0 rfl rfl)
theorem dX3_tells_1 : decode cX3_tells 1 = .ok (.bipush 99, 2) := dk_16 99 (dk_at dksX3_tells_0 1 rfl rfl)
theorem dX3_tells_3 : decode cX3_tells 3 = .ok (.aload_n 0, 1) := dk_42 (dk_at dksX3_tells_0 3 rfl rfl)
theorem dX3_tells_4 : decode cX3_tells 4 = .ok (.getfield 51, 3) := dk_180 0 51 (dk_at dksX3_tells_0 4 rfl rfl)
theorem dX3_tells_7 : decode cX3_tells 7 = .ok (.iload_n 1, 1) := dk_27 (dk_at dksX3_tells_0 7 rfl rfl)
theorem dX3_tells_8 : decode cX3_tells 8 = .ok (.aaload, 1) := dk_50 (dk_at dksX3_tells_0 8 rfl rfl)
theorem dX3_tells_9 : decode cX3_tells 9 = .ok (.iload_n 2, 1) := dk_28 (dk_at dksX3_tells_0 9 rfl rfl)
theorem dX3_tells_10 : decode cX3_tells 10 = .ok (.iload_n 3, 1) := dk_29 (dk_at dksX3_tells_0 10 rfl rfl)
theorem dX3_tells_11 : decode cX3_tells 11 = .ok (.iload 4, 2) := dk_21 4 (dk_at dksX3_tells_0 11 rfl rfl)
theorem dX3_tells_13 : decode cX3_tells 13 = .ok (.invokeinterface 152 4, 5) := by decide +kernel
theorem dX3_tells_18 : decode cX3_tells 18 = .ok (.invokestatic 155, 3) := dk_184 0 155 (dk_at dksX3_tells_0 18 rfl rfl)
theorem dX3_tells_21 : decode cX3_tells 21 = .ok (.invokestatic 161, 3) := dk_184 0 161 (dk_at dksX3_tells_0 21 rfl rfl)
theorem dX3_tells_24 : decode cX3_tells 24 = .ok (.ireturn, 1) := dk_172 (dk_at dksX3_tells_1 0 rfl rfl)
abbrev cX3_find : ByteArray := prog_9_method_15_code
def yX3_find : MethodName := ⟨RX3, "find", "(III)I"⟩
def dkwX3_find_5 : List UInt8 := [167, 255, 149, 21, 4, 2, 159, 0, 8, 21, 4, 167, 0, 5, 21, 5, 172]
abbrev dktX3_find_5 : List UInt8 := dkwX3_find_5 ++ []
def dkwX3_find_4 : List UInt8 := [46, 42, 180, 0, 64, 21, 5, 46, 27, 184, 0, 207, 153, 0, 7, 21, 6, 54, 5, 132, 6, 1]
abbrev dktX3_find_4 : List UInt8 := dkwX3_find_4 ++ dktX3_find_5
def dkwX3_find_3 : List UInt8 := [21, 6, 167, 0, 5, 21, 4, 54, 4, 167, 0, 34, 21, 5, 2, 159, 0, 24, 42, 180, 0, 64, 21, 6]
abbrev dktX3_find_3 : List UInt8 := dkwX3_find_3 ++ dktX3_find_4
def dkwX3_find_2 : List UInt8 := [160, 0, 6, 21, 6, 172, 42, 180, 0, 64, 21, 6, 46, 2, 160, 0, 21, 21, 4, 2, 160, 0, 8]
abbrev dktX3_find_2 : List UInt8 := dkwX3_find_2 ++ dktX3_find_3
def dkwX3_find_1 : List UInt8 := [159, 0, 90, 42, 21, 6, 28, 182, 0, 203, 154, 0, 6, 167, 0, 77, 42, 180, 0, 64, 21, 6, 46, 27]
abbrev dktX3_find_1 : List UInt8 := dkwX3_find_1 ++ dktX3_find_2
def dkwX3_find_0 : List UInt8 := [2, 54, 4, 2, 54, 5, 3, 54, 6, 21, 6, 42, 180, 0, 80, 3, 46, 162, 0, 102, 21, 6, 29]
abbrev dktX3_find_0 : List UInt8 := dkwX3_find_0 ++ dktX3_find_1
theorem dksX3_find_0 : cX3_find.data.toList.drop 0 = dktX3_find_0 := by decide +kernel
theorem dksX3_find_1 : cX3_find.data.toList.drop 23 = dktX3_find_1 := dk_seg dksX3_find_0 23 rfl rfl
theorem dksX3_find_2 : cX3_find.data.toList.drop 47 = dktX3_find_2 := dk_seg dksX3_find_1 24 rfl rfl
theorem dksX3_find_3 : cX3_find.data.toList.drop 70 = dktX3_find_3 := dk_seg dksX3_find_2 23 rfl rfl
theorem dksX3_find_4 : cX3_find.data.toList.drop 94 = dktX3_find_4 := dk_seg dksX3_find_3 24 rfl rfl
theorem dksX3_find_5 : cX3_find.data.toList.drop 116 = dktX3_find_5 := dk_seg dksX3_find_4 22 rfl rfl
theorem dX3_find_0 : decode cX3_find 0 = .ok (.iconst (-1), 1) := dk_2 (dk_at dksX3_find_0 0 rfl rfl)
theorem dX3_find_1 : decode cX3_find 1 = .ok (.istore 4, 2) := dk_54 4 (dk_at dksX3_find_0 1 rfl rfl)
theorem dX3_find_3 : decode cX3_find 3 = .ok (.iconst (-1), 1) := dk_2 (dk_at dksX3_find_0 3 rfl rfl)
theorem dX3_find_4 : decode cX3_find 4 = .ok (.istore 5, 2) := dk_54 5 (dk_at dksX3_find_0 4 rfl rfl)
theorem dX3_find_6 : decode cX3_find 6 = .ok (.iconst 0, 1) := dk_3 (dk_at dksX3_find_0 6 rfl rfl)
theorem dX3_find_7 : decode cX3_find 7 = .ok (.istore 6, 2) := dk_54 6 (dk_at dksX3_find_0 7 rfl rfl)
theorem dX3_find_9 : decode cX3_find 9 = .ok (.iload 6, 2) := dk_21 6 (dk_at dksX3_find_0 9 rfl rfl)
theorem dX3_find_11 : decode cX3_find 11 = .ok (.aload_n 0, 1) := dk_42 (dk_at dksX3_find_0 11 rfl rfl)
theorem dX3_find_12 : decode cX3_find 12 = .ok (.getfield 80, 3) := dk_180 0 80 (dk_at dksX3_find_0 12 rfl rfl)
theorem dX3_find_15 : decode cX3_find 15 = .ok (.iconst 0, 1) := dk_3 (dk_at dksX3_find_0 15 rfl rfl)
theorem dX3_find_16 : decode cX3_find 16 = .ok (.iaload, 1) := dk_46 (dk_at dksX3_find_0 16 rfl rfl)
theorem dX3_find_17 : decode cX3_find 17 = .ok (.if_icmp .ge 102, 3) := dk_162 0 102 (dk_at dksX3_find_0 17 rfl rfl)
theorem dX3_find_20 : decode cX3_find 20 = .ok (.iload 6, 2) := dk_21 6 (dk_at dksX3_find_0 20 rfl rfl)
theorem dX3_find_22 : decode cX3_find 22 = .ok (.iload_n 3, 1) := dk_29 (dk_at dksX3_find_0 22 rfl rfl)
theorem dX3_find_23 : decode cX3_find 23 = .ok (.if_icmp .eq 90, 3) := dk_159 0 90 (dk_at dksX3_find_1 0 rfl rfl)
theorem dX3_find_26 : decode cX3_find 26 = .ok (.aload_n 0, 1) := dk_42 (dk_at dksX3_find_1 3 rfl rfl)
theorem dX3_find_27 : decode cX3_find 27 = .ok (.iload 6, 2) := dk_21 6 (dk_at dksX3_find_1 4 rfl rfl)
theorem dX3_find_29 : decode cX3_find 29 = .ok (.iload_n 2, 1) := dk_28 (dk_at dksX3_find_1 6 rfl rfl)
theorem dX3_find_30 : decode cX3_find 30 = .ok (.invokevirtual 203, 3) := dk_182 0 203 (dk_at dksX3_find_1 7 rfl rfl)
theorem dX3_find_33 : decode cX3_find 33 = .ok (.ifCond .ne 6, 3) := dk_154 0 6 (dk_at dksX3_find_1 10 rfl rfl)
theorem dX3_find_36 : decode cX3_find 36 = .ok (.goto 77, 3) := dk_167 0 77 (dk_at dksX3_find_1 13 rfl rfl)
theorem dX3_find_39 : decode cX3_find 39 = .ok (.aload_n 0, 1) := dk_42 (dk_at dksX3_find_1 16 rfl rfl)
theorem dX3_find_40 : decode cX3_find 40 = .ok (.getfield 64, 3) := dk_180 0 64 (dk_at dksX3_find_1 17 rfl rfl)
theorem dX3_find_43 : decode cX3_find 43 = .ok (.iload 6, 2) := dk_21 6 (dk_at dksX3_find_1 20 rfl rfl)
theorem dX3_find_45 : decode cX3_find 45 = .ok (.iaload, 1) := dk_46 (dk_at dksX3_find_1 22 rfl rfl)
theorem dX3_find_46 : decode cX3_find 46 = .ok (.iload_n 1, 1) := dk_27 (dk_at dksX3_find_1 23 rfl rfl)
theorem dX3_find_47 : decode cX3_find 47 = .ok (.if_icmp .ne 6, 3) := dk_160 0 6 (dk_at dksX3_find_2 0 rfl rfl)
theorem dX3_find_50 : decode cX3_find 50 = .ok (.iload 6, 2) := dk_21 6 (dk_at dksX3_find_2 3 rfl rfl)
theorem dX3_find_52 : decode cX3_find 52 = .ok (.ireturn, 1) := dk_172 (dk_at dksX3_find_2 5 rfl rfl)
theorem dX3_find_53 : decode cX3_find 53 = .ok (.aload_n 0, 1) := dk_42 (dk_at dksX3_find_2 6 rfl rfl)
theorem dX3_find_54 : decode cX3_find 54 = .ok (.getfield 64, 3) := dk_180 0 64 (dk_at dksX3_find_2 7 rfl rfl)
theorem dX3_find_57 : decode cX3_find 57 = .ok (.iload 6, 2) := dk_21 6 (dk_at dksX3_find_2 10 rfl rfl)
theorem dX3_find_59 : decode cX3_find 59 = .ok (.iaload, 1) := dk_46 (dk_at dksX3_find_2 12 rfl rfl)
theorem dX3_find_60 : decode cX3_find 60 = .ok (.iconst (-1), 1) := dk_2 (dk_at dksX3_find_2 13 rfl rfl)
theorem dX3_find_61 : decode cX3_find 61 = .ok (.if_icmp .ne 21, 3) := dk_160 0 21 (dk_at dksX3_find_2 14 rfl rfl)
theorem dX3_find_64 : decode cX3_find 64 = .ok (.iload 4, 2) := dk_21 4 (dk_at dksX3_find_2 17 rfl rfl)
theorem dX3_find_66 : decode cX3_find 66 = .ok (.iconst (-1), 1) := dk_2 (dk_at dksX3_find_2 19 rfl rfl)
theorem dX3_find_67 : decode cX3_find 67 = .ok (.if_icmp .ne 8, 3) := dk_160 0 8 (dk_at dksX3_find_2 20 rfl rfl)
theorem dX3_find_70 : decode cX3_find 70 = .ok (.iload 6, 2) := dk_21 6 (dk_at dksX3_find_3 0 rfl rfl)
theorem dX3_find_72 : decode cX3_find 72 = .ok (.goto 5, 3) := dk_167 0 5 (dk_at dksX3_find_3 2 rfl rfl)
theorem dX3_find_75 : decode cX3_find 75 = .ok (.iload 4, 2) := dk_21 4 (dk_at dksX3_find_3 5 rfl rfl)
theorem dX3_find_77 : decode cX3_find 77 = .ok (.istore 4, 2) := dk_54 4 (dk_at dksX3_find_3 7 rfl rfl)
theorem dX3_find_79 : decode cX3_find 79 = .ok (.goto 34, 3) := dk_167 0 34 (dk_at dksX3_find_3 9 rfl rfl)
theorem dX3_find_82 : decode cX3_find 82 = .ok (.iload 5, 2) := dk_21 5 (dk_at dksX3_find_3 12 rfl rfl)
theorem dX3_find_84 : decode cX3_find 84 = .ok (.iconst (-1), 1) := dk_2 (dk_at dksX3_find_3 14 rfl rfl)
theorem dX3_find_85 : decode cX3_find 85 = .ok (.if_icmp .eq 24, 3) := dk_159 0 24 (dk_at dksX3_find_3 15 rfl rfl)
theorem dX3_find_88 : decode cX3_find 88 = .ok (.aload_n 0, 1) := dk_42 (dk_at dksX3_find_3 18 rfl rfl)
theorem dX3_find_89 : decode cX3_find 89 = .ok (.getfield 64, 3) := dk_180 0 64 (dk_at dksX3_find_3 19 rfl rfl)
theorem dX3_find_92 : decode cX3_find 92 = .ok (.iload 6, 2) := dk_21 6 (dk_at dksX3_find_3 22 rfl rfl)
theorem dX3_find_94 : decode cX3_find 94 = .ok (.iaload, 1) := dk_46 (dk_at dksX3_find_4 0 rfl rfl)
theorem dX3_find_95 : decode cX3_find 95 = .ok (.aload_n 0, 1) := dk_42 (dk_at dksX3_find_4 1 rfl rfl)
theorem dX3_find_96 : decode cX3_find 96 = .ok (.getfield 64, 3) := dk_180 0 64 (dk_at dksX3_find_4 2 rfl rfl)
theorem dX3_find_99 : decode cX3_find 99 = .ok (.iload 5, 2) := dk_21 5 (dk_at dksX3_find_4 5 rfl rfl)
theorem dX3_find_101 : decode cX3_find 101 = .ok (.iaload, 1) := dk_46 (dk_at dksX3_find_4 7 rfl rfl)
theorem dX3_find_102 : decode cX3_find 102 = .ok (.iload_n 1, 1) := dk_27 (dk_at dksX3_find_4 8 rfl rfl)
theorem dX3_find_103 : decode cX3_find 103 = .ok (.invokestatic 207, 3) := dk_184 0 207 (dk_at dksX3_find_4 9 rfl rfl)
theorem dX3_find_106 : decode cX3_find 106 = .ok (.ifCond .eq 7, 3) := dk_153 0 7 (dk_at dksX3_find_4 12 rfl rfl)
theorem dX3_find_109 : decode cX3_find 109 = .ok (.iload 6, 2) := dk_21 6 (dk_at dksX3_find_4 15 rfl rfl)
theorem dX3_find_111 : decode cX3_find 111 = .ok (.istore 5, 2) := dk_54 5 (dk_at dksX3_find_4 17 rfl rfl)
theorem dX3_find_113 : decode cX3_find 113 = .ok (.iinc 6 1, 3) := dk_132 6 1 (dk_at dksX3_find_4 19 rfl rfl)
theorem dX3_find_116 : decode cX3_find 116 = .ok (.goto (-107), 3) := dk_167 255 149 (dk_at dksX3_find_5 0 rfl rfl)
theorem dX3_find_119 : decode cX3_find 119 = .ok (.iload 4, 2) := dk_21 4 (dk_at dksX3_find_5 3 rfl rfl)
theorem dX3_find_121 : decode cX3_find 121 = .ok (.iconst (-1), 1) := dk_2 (dk_at dksX3_find_5 5 rfl rfl)
theorem dX3_find_122 : decode cX3_find 122 = .ok (.if_icmp .eq 8, 3) := dk_159 0 8 (dk_at dksX3_find_5 6 rfl rfl)
theorem dX3_find_125 : decode cX3_find 125 = .ok (.iload 4, 2) := dk_21 4 (dk_at dksX3_find_5 9 rfl rfl)
theorem dX3_find_127 : decode cX3_find 127 = .ok (.goto 5, 3) := dk_167 0 5 (dk_at dksX3_find_5 11 rfl rfl)
theorem dX3_find_130 : decode cX3_find 130 = .ok (.iload 5, 2) := dk_21 5 (dk_at dksX3_find_5 14 rfl rfl)
theorem dX3_find_132 : decode cX3_find 132 = .ok (.ireturn, 1) := dk_172 (dk_at dksX3_find_5 16 rfl rfl)
abbrev cX3_hasRoom : ByteArray := prog_9_method_14_code
def yX3_hasRoom : MethodName := ⟨RX3, "hasRoom", "(II)Z"⟩
def dkwX3_hasRoom_0 : List UInt8 := [42, 180, 0, 67, 27, 46, 28, 96, 42, 180, 0, 80, 4, 46, 163, 0, 7, 4, 167, 0, 4, 3, 172]
abbrev dktX3_hasRoom_0 : List UInt8 := dkwX3_hasRoom_0 ++ []
theorem dksX3_hasRoom_0 : cX3_hasRoom.data.toList.drop 0 = dktX3_hasRoom_0 := by decide +kernel
theorem dX3_hasRoom_0 : decode cX3_hasRoom 0 = .ok (.aload_n 0, 1) := dk_42 (dk_at dksX3_hasRoom_0 0 rfl rfl)
theorem dX3_hasRoom_1 : decode cX3_hasRoom 1 = .ok (.getfield 67, 3) := dk_180 0 67 (dk_at dksX3_hasRoom_0 1 rfl rfl)
theorem dX3_hasRoom_4 : decode cX3_hasRoom 4 = .ok (.iload_n 1, 1) := dk_27 (dk_at dksX3_hasRoom_0 4 rfl rfl)
theorem dX3_hasRoom_5 : decode cX3_hasRoom 5 = .ok (.iaload, 1) := dk_46 (dk_at dksX3_hasRoom_0 5 rfl rfl)
theorem dX3_hasRoom_6 : decode cX3_hasRoom 6 = .ok (.iload_n 2, 1) := dk_28 (dk_at dksX3_hasRoom_0 6 rfl rfl)
theorem dX3_hasRoom_7 : decode cX3_hasRoom 7 = .ok (.iadd, 1) := dk_96 (dk_at dksX3_hasRoom_0 7 rfl rfl)
theorem dX3_hasRoom_8 : decode cX3_hasRoom 8 = .ok (.aload_n 0, 1) := dk_42 (dk_at dksX3_hasRoom_0 8 rfl rfl)
theorem dX3_hasRoom_9 : decode cX3_hasRoom 9 = .ok (.getfield 80, 3) := dk_180 0 80 (dk_at dksX3_hasRoom_0 9 rfl rfl)
theorem dX3_hasRoom_12 : decode cX3_hasRoom 12 = .ok (.iconst 1, 1) := dk_4 (dk_at dksX3_hasRoom_0 12 rfl rfl)
theorem dX3_hasRoom_13 : decode cX3_hasRoom 13 = .ok (.iaload, 1) := dk_46 (dk_at dksX3_hasRoom_0 13 rfl rfl)
theorem dX3_hasRoom_14 : decode cX3_hasRoom 14 = .ok (.if_icmp .gt 7, 3) := dk_163 0 7 (dk_at dksX3_hasRoom_0 14 rfl rfl)
theorem dX3_hasRoom_17 : decode cX3_hasRoom 17 = .ok (.iconst 1, 1) := dk_4 (dk_at dksX3_hasRoom_0 17 rfl rfl)
theorem dX3_hasRoom_18 : decode cX3_hasRoom 18 = .ok (.goto 4, 3) := dk_167 0 4 (dk_at dksX3_hasRoom_0 18 rfl rfl)
theorem dX3_hasRoom_21 : decode cX3_hasRoom 21 = .ok (.iconst 0, 1) := dk_3 (dk_at dksX3_hasRoom_0 21 rfl rfl)
theorem dX3_hasRoom_22 : decode cX3_hasRoom 22 = .ok (.ireturn, 1) := dk_172 (dk_at dksX3_hasRoom_0 22 rfl rfl)
abbrev cX3_isNearer : ByteArray := prog_9_method_16_code
def yX3_isNearer : MethodName := ⟨RX3, "isNearer", "(III)Z"⟩
def dkwX3_isNearer_1 : List UInt8 := [162, 0, 7, 4, 167, 0, 4, 3, 172]
abbrev dktX3_isNearer_1 : List UInt8 := dkwX3_isNearer_1 ++ []
def dkwX3_isNearer_0 : List UInt8 := [26, 28, 100, 184, 0, 184, 27, 28, 100, 184, 0, 184, 100, 62, 29, 155, 0, 12, 29, 154, 0, 12, 26, 27]
abbrev dktX3_isNearer_0 : List UInt8 := dkwX3_isNearer_0 ++ dktX3_isNearer_1
theorem dksX3_isNearer_0 : cX3_isNearer.data.toList.drop 0 = dktX3_isNearer_0 := by decide +kernel
theorem dksX3_isNearer_1 : cX3_isNearer.data.toList.drop 24 = dktX3_isNearer_1 := dk_seg dksX3_isNearer_0 24 rfl rfl
theorem dX3_isNearer_0 : decode cX3_isNearer 0 = .ok (.iload_n 0, 1) := dk_26 (dk_at dksX3_isNearer_0 0 rfl rfl)
theorem dX3_isNearer_1 : decode cX3_isNearer 1 = .ok (.iload_n 2, 1) := dk_28 (dk_at dksX3_isNearer_0 1 rfl rfl)
theorem dX3_isNearer_2 : decode cX3_isNearer 2 = .ok (.isub, 1) := dk_100 (dk_at dksX3_isNearer_0 2 rfl rfl)
theorem dX3_isNearer_3 : decode cX3_isNearer 3 = .ok (.invokestatic 184, 3) := dk_184 0 184 (dk_at dksX3_isNearer_0 3 rfl rfl)
theorem dX3_isNearer_6 : decode cX3_isNearer 6 = .ok (.iload_n 1, 1) := dk_27 (dk_at dksX3_isNearer_0 6 rfl rfl)
theorem dX3_isNearer_7 : decode cX3_isNearer 7 = .ok (.iload_n 2, 1) := dk_28 (dk_at dksX3_isNearer_0 7 rfl rfl)
theorem dX3_isNearer_8 : decode cX3_isNearer 8 = .ok (.isub, 1) := dk_100 (dk_at dksX3_isNearer_0 8 rfl rfl)
theorem dX3_isNearer_9 : decode cX3_isNearer 9 = .ok (.invokestatic 184, 3) := dk_184 0 184 (dk_at dksX3_isNearer_0 9 rfl rfl)
theorem dX3_isNearer_12 : decode cX3_isNearer 12 = .ok (.isub, 1) := dk_100 (dk_at dksX3_isNearer_0 12 rfl rfl)
theorem dX3_isNearer_13 : decode cX3_isNearer 13 = .ok (.istore_n 3, 1) := dk_62 (dk_at dksX3_isNearer_0 13 rfl rfl)
theorem dX3_isNearer_14 : decode cX3_isNearer 14 = .ok (.iload_n 3, 1) := dk_29 (dk_at dksX3_isNearer_0 14 rfl rfl)
theorem dX3_isNearer_15 : decode cX3_isNearer 15 = .ok (.ifCond .lt 12, 3) := dk_155 0 12 (dk_at dksX3_isNearer_0 15 rfl rfl)
theorem dX3_isNearer_18 : decode cX3_isNearer 18 = .ok (.iload_n 3, 1) := dk_29 (dk_at dksX3_isNearer_0 18 rfl rfl)
theorem dX3_isNearer_19 : decode cX3_isNearer 19 = .ok (.ifCond .ne 12, 3) := dk_154 0 12 (dk_at dksX3_isNearer_0 19 rfl rfl)
theorem dX3_isNearer_22 : decode cX3_isNearer 22 = .ok (.iload_n 0, 1) := dk_26 (dk_at dksX3_isNearer_0 22 rfl rfl)
theorem dX3_isNearer_23 : decode cX3_isNearer 23 = .ok (.iload_n 1, 1) := dk_27 (dk_at dksX3_isNearer_0 23 rfl rfl)
theorem dX3_isNearer_24 : decode cX3_isNearer 24 = .ok (.if_icmp .ge 7, 3) := dk_162 0 7 (dk_at dksX3_isNearer_1 0 rfl rfl)
theorem dX3_isNearer_27 : decode cX3_isNearer 27 = .ok (.iconst 1, 1) := dk_4 (dk_at dksX3_isNearer_1 3 rfl rfl)
theorem dX3_isNearer_28 : decode cX3_isNearer 28 = .ok (.goto 4, 3) := dk_167 0 4 (dk_at dksX3_isNearer_1 4 rfl rfl)
theorem dX3_isNearer_31 : decode cX3_isNearer 31 = .ok (.iconst 0, 1) := dk_3 (dk_at dksX3_isNearer_1 7 rfl rfl)
theorem dX3_isNearer_32 : decode cX3_isNearer 32 = .ok (.ireturn, 1) := dk_172 (dk_at dksX3_isNearer_1 8 rfl rfl)
abbrev cX3_enter : ByteArray := prog_9_method_18_code
def yX3_enter : MethodName := ⟨RX3, "enter", "(LFlashZones$Unit;II)V"⟩
def dkwX3_enter_3 : List UInt8 := [185, 0, 123, 2, 0, 87, 177]
abbrev dktX3_enter_3 : List UInt8 := dkwX3_enter_3 ++ []
def dkwX3_enter_2 : List UInt8 := [181, 0, 137, 25, 4, 89, 180, 0, 140, 43, 180, 0, 167, 96, 181, 0, 140, 25, 4, 180, 0, 144, 43]
abbrev dktX3_enter_2 : List UInt8 := dkwX3_enter_2 ++ dktX3_enter_3
def dkwX3_enter_1 : List UInt8 := [182, 0, 214, 153, 0, 14, 29, 42, 180, 0, 80, 5, 46, 108, 167, 0, 8, 25, 4, 180, 0, 137]
abbrev dktX3_enter_1 : List UInt8 := dkwX3_enter_1 ++ dktX3_enter_2
def dkwX3_enter_0 : List UInt8 := [43, 28, 181, 0, 191, 43, 29, 181, 0, 211, 42, 180, 0, 20, 28, 50, 58, 4, 25, 4, 25, 4]
abbrev dktX3_enter_0 : List UInt8 := dkwX3_enter_0 ++ dktX3_enter_1
theorem dksX3_enter_0 : cX3_enter.data.toList.drop 0 = dktX3_enter_0 := by decide +kernel
theorem dksX3_enter_1 : cX3_enter.data.toList.drop 22 = dktX3_enter_1 := dk_seg dksX3_enter_0 22 rfl rfl
theorem dksX3_enter_2 : cX3_enter.data.toList.drop 44 = dktX3_enter_2 := dk_seg dksX3_enter_1 22 rfl rfl
theorem dksX3_enter_3 : cX3_enter.data.toList.drop 67 = dktX3_enter_3 := dk_seg dksX3_enter_2 23 rfl rfl
theorem dX3_enter_0 : decode cX3_enter 0 = .ok (.aload_n 1, 1) := dk_43 (dk_at dksX3_enter_0 0 rfl rfl)
theorem dX3_enter_1 : decode cX3_enter 1 = .ok (.iload_n 2, 1) := dk_28 (dk_at dksX3_enter_0 1 rfl rfl)
theorem dX3_enter_2 : decode cX3_enter 2 = .ok (.putfield 191, 3) := dk_181 0 191 (dk_at dksX3_enter_0 2 rfl rfl)
theorem dX3_enter_5 : decode cX3_enter 5 = .ok (.aload_n 1, 1) := dk_43 (dk_at dksX3_enter_0 5 rfl rfl)
theorem dX3_enter_6 : decode cX3_enter 6 = .ok (.iload_n 3, 1) := dk_29 (dk_at dksX3_enter_0 6 rfl rfl)
theorem dX3_enter_7 : decode cX3_enter 7 = .ok (.putfield 211, 3) := dk_181 0 211 (dk_at dksX3_enter_0 7 rfl rfl)
theorem dX3_enter_10 : decode cX3_enter 10 = .ok (.aload_n 0, 1) := dk_42 (dk_at dksX3_enter_0 10 rfl rfl)
theorem dX3_enter_11 : decode cX3_enter 11 = .ok (.getfield 20, 3) := dk_180 0 20 (dk_at dksX3_enter_0 11 rfl rfl)
theorem dX3_enter_14 : decode cX3_enter 14 = .ok (.iload_n 2, 1) := dk_28 (dk_at dksX3_enter_0 14 rfl rfl)
theorem dX3_enter_15 : decode cX3_enter 15 = .ok (.aaload, 1) := dk_50 (dk_at dksX3_enter_0 15 rfl rfl)
theorem dX3_enter_16 : decode cX3_enter 16 = .ok (.astore 4, 2) := dk_58 4 (dk_at dksX3_enter_0 16 rfl rfl)
theorem dX3_enter_18 : decode cX3_enter 18 = .ok (.aload 4, 2) := dk_25 4 (dk_at dksX3_enter_0 18 rfl rfl)
theorem dX3_enter_20 : decode cX3_enter 20 = .ok (.aload 4, 2) := dk_25 4 (dk_at dksX3_enter_0 20 rfl rfl)
theorem dX3_enter_22 : decode cX3_enter 22 = .ok (.invokevirtual 214, 3) := dk_182 0 214 (dk_at dksX3_enter_1 0 rfl rfl)
theorem dX3_enter_25 : decode cX3_enter 25 = .ok (.ifCond .eq 14, 3) := dk_153 0 14 (dk_at dksX3_enter_1 3 rfl rfl)
theorem dX3_enter_28 : decode cX3_enter 28 = .ok (.iload_n 3, 1) := dk_29 (dk_at dksX3_enter_1 6 rfl rfl)
theorem dX3_enter_29 : decode cX3_enter 29 = .ok (.aload_n 0, 1) := dk_42 (dk_at dksX3_enter_1 7 rfl rfl)
theorem dX3_enter_30 : decode cX3_enter 30 = .ok (.getfield 80, 3) := dk_180 0 80 (dk_at dksX3_enter_1 8 rfl rfl)
theorem dX3_enter_33 : decode cX3_enter 33 = .ok (.iconst 2, 1) := dk_5 (dk_at dksX3_enter_1 11 rfl rfl)
theorem dX3_enter_34 : decode cX3_enter 34 = .ok (.iaload, 1) := dk_46 (dk_at dksX3_enter_1 12 rfl rfl)
theorem dX3_enter_35 : decode cX3_enter 35 = .ok (.idiv, 1) := dk_108 (dk_at dksX3_enter_1 13 rfl rfl)
theorem dX3_enter_36 : decode cX3_enter 36 = .ok (.goto 8, 3) := dk_167 0 8 (dk_at dksX3_enter_1 14 rfl rfl)
theorem dX3_enter_39 : decode cX3_enter 39 = .ok (.aload 4, 2) := dk_25 4 (dk_at dksX3_enter_1 17 rfl rfl)
theorem dX3_enter_41 : decode cX3_enter 41 = .ok (.getfield 137, 3) := dk_180 0 137 (dk_at dksX3_enter_1 19 rfl rfl)
theorem dX3_enter_44 : decode cX3_enter 44 = .ok (.putfield 137, 3) := dk_181 0 137 (dk_at dksX3_enter_2 0 rfl rfl)
theorem dX3_enter_47 : decode cX3_enter 47 = .ok (.aload 4, 2) := dk_25 4 (dk_at dksX3_enter_2 3 rfl rfl)
theorem dX3_enter_49 : decode cX3_enter 49 = .ok (.dup, 1) := dk_89 (dk_at dksX3_enter_2 5 rfl rfl)
theorem dX3_enter_50 : decode cX3_enter 50 = .ok (.getfield 140, 3) := dk_180 0 140 (dk_at dksX3_enter_2 6 rfl rfl)
theorem dX3_enter_53 : decode cX3_enter 53 = .ok (.aload_n 1, 1) := dk_43 (dk_at dksX3_enter_2 9 rfl rfl)
theorem dX3_enter_54 : decode cX3_enter 54 = .ok (.getfield 167, 3) := dk_180 0 167 (dk_at dksX3_enter_2 10 rfl rfl)
theorem dX3_enter_57 : decode cX3_enter 57 = .ok (.iadd, 1) := dk_96 (dk_at dksX3_enter_2 13 rfl rfl)
theorem dX3_enter_58 : decode cX3_enter 58 = .ok (.putfield 140, 3) := dk_181 0 140 (dk_at dksX3_enter_2 14 rfl rfl)
theorem dX3_enter_61 : decode cX3_enter 61 = .ok (.aload 4, 2) := dk_25 4 (dk_at dksX3_enter_2 17 rfl rfl)
theorem dX3_enter_63 : decode cX3_enter 63 = .ok (.getfield 144, 3) := dk_180 0 144 (dk_at dksX3_enter_2 19 rfl rfl)
theorem dX3_enter_66 : decode cX3_enter 66 = .ok (.aload_n 1, 1) := dk_43 (dk_at dksX3_enter_2 22 rfl rfl)
theorem dX3_enter_67 : decode cX3_enter 67 = .ok (.invokeinterface 123 2, 5) := by decide +kernel
theorem dX3_enter_72 : decode cX3_enter 72 = .ok (.pop, 1) := dk_87 (dk_at dksX3_enter_3 5 rfl rfl)
theorem dX3_enter_73 : decode cX3_enter 73 = .ok (.return_, 1) := dk_177 (dk_at dksX3_enter_3 6 rfl rfl)
abbrev cX3_killUnit : ByteArray := prog_9_method_21_code
def yX3_killUnit : MethodName := ⟨RX3, "killUnit", "(LFlashZones$Unit;)I"⟩
def dkwX3_killUnit_0 : List UInt8 := [43, 182, 0, 239, 154, 0, 5, 5, 172, 42, 43, 182, 0, 241, 3, 172]
abbrev dktX3_killUnit_0 : List UInt8 := dkwX3_killUnit_0 ++ []
theorem dksX3_killUnit_0 : cX3_killUnit.data.toList.drop 0 = dktX3_killUnit_0 := by decide +kernel
theorem dX3_killUnit_0 : decode cX3_killUnit 0 = .ok (.aload_n 1, 1) := dk_43 (dk_at dksX3_killUnit_0 0 rfl rfl)
theorem dX3_killUnit_1 : decode cX3_killUnit 1 = .ok (.invokevirtual 239, 3) := dk_182 0 239 (dk_at dksX3_killUnit_0 1 rfl rfl)
theorem dX3_killUnit_4 : decode cX3_killUnit 4 = .ok (.ifCond .ne 5, 3) := dk_154 0 5 (dk_at dksX3_killUnit_0 4 rfl rfl)
theorem dX3_killUnit_7 : decode cX3_killUnit 7 = .ok (.iconst 2, 1) := dk_5 (dk_at dksX3_killUnit_0 7 rfl rfl)
theorem dX3_killUnit_8 : decode cX3_killUnit 8 = .ok (.ireturn, 1) := dk_172 (dk_at dksX3_killUnit_0 8 rfl rfl)
theorem dX3_killUnit_9 : decode cX3_killUnit 9 = .ok (.aload_n 0, 1) := dk_42 (dk_at dksX3_killUnit_0 9 rfl rfl)
theorem dX3_killUnit_10 : decode cX3_killUnit 10 = .ok (.aload_n 1, 1) := dk_43 (dk_at dksX3_killUnit_0 10 rfl rfl)
theorem dX3_killUnit_11 : decode cX3_killUnit 11 = .ok (.invokevirtual 241, 3) := dk_182 0 241 (dk_at dksX3_killUnit_0 11 rfl rfl)
theorem dX3_killUnit_14 : decode cX3_killUnit 14 = .ok (.iconst 0, 1) := dk_3 (dk_at dksX3_killUnit_0 14 rfl rfl)
theorem dX3_killUnit_15 : decode cX3_killUnit 15 = .ok (.ireturn, 1) := dk_172 (dk_at dksX3_killUnit_0 15 rfl rfl)
abbrev cX3_dies : ByteArray := prog_9_method_12_code
def yX3_dies : MethodName := ⟨RX3, "dies", "(LFlashZones$Unit;)V"⟩
def dkwX3_dies_2 : List UInt8 := [43, 182, 0, 197, 42, 43, 182, 0, 200, 177]
abbrev dktX3_dies_2 : List UInt8 := dkwX3_dies_2 ++ []
def dkwX3_dies_1 : List UInt8 := [180, 0, 194, 8, 162, 0, 14, 43, 43, 180, 0, 194, 184, 0, 175, 167, 0, 4, 3, 96, 181, 0, 93, 42]
abbrev dktX3_dies_1 : List UInt8 := dkwX3_dies_1 ++ dktX3_dies_2
def dkwX3_dies_0 : List UInt8 := [43, 42, 180, 0, 90, 43, 180, 0, 188, 100, 181, 0, 169, 43, 2, 181, 0, 191, 42, 89, 180, 0, 93, 43]
abbrev dktX3_dies_0 : List UInt8 := dkwX3_dies_0 ++ dktX3_dies_1
theorem dksX3_dies_0 : cX3_dies.data.toList.drop 0 = dktX3_dies_0 := by decide +kernel
theorem dksX3_dies_1 : cX3_dies.data.toList.drop 24 = dktX3_dies_1 := dk_seg dksX3_dies_0 24 rfl rfl
theorem dksX3_dies_2 : cX3_dies.data.toList.drop 48 = dktX3_dies_2 := dk_seg dksX3_dies_1 24 rfl rfl
theorem dX3_dies_0 : decode cX3_dies 0 = .ok (.aload_n 1, 1) := dk_43 (dk_at dksX3_dies_0 0 rfl rfl)
theorem dX3_dies_1 : decode cX3_dies 1 = .ok (.aload_n 0, 1) := dk_42 (dk_at dksX3_dies_0 1 rfl rfl)
theorem dX3_dies_2 : decode cX3_dies 2 = .ok (.getfield 90, 3) := dk_180 0 90 (dk_at dksX3_dies_0 2 rfl rfl)
theorem dX3_dies_5 : decode cX3_dies 5 = .ok (.aload_n 1, 1) := dk_43 (dk_at dksX3_dies_0 5 rfl rfl)
theorem dX3_dies_6 : decode cX3_dies 6 = .ok (.getfield 188, 3) := dk_180 0 188 (dk_at dksX3_dies_0 6 rfl rfl)
theorem dX3_dies_9 : decode cX3_dies 9 = .ok (.isub, 1) := dk_100 (dk_at dksX3_dies_0 9 rfl rfl)
theorem dX3_dies_10 : decode cX3_dies 10 = .ok (.putfield 169, 3) := dk_181 0 169 (dk_at dksX3_dies_0 10 rfl rfl)
theorem dX3_dies_13 : decode cX3_dies 13 = .ok (.aload_n 1, 1) := dk_43 (dk_at dksX3_dies_0 13 rfl rfl)
theorem dX3_dies_14 : decode cX3_dies 14 = .ok (.iconst (-1), 1) := dk_2 (dk_at dksX3_dies_0 14 rfl rfl)
theorem dX3_dies_15 : decode cX3_dies 15 = .ok (.putfield 191, 3) := dk_181 0 191 (dk_at dksX3_dies_0 15 rfl rfl)
theorem dX3_dies_18 : decode cX3_dies 18 = .ok (.aload_n 0, 1) := dk_42 (dk_at dksX3_dies_0 18 rfl rfl)
theorem dX3_dies_19 : decode cX3_dies 19 = .ok (.dup, 1) := dk_89 (dk_at dksX3_dies_0 19 rfl rfl)
theorem dX3_dies_20 : decode cX3_dies 20 = .ok (.getfield 93, 3) := dk_180 0 93 (dk_at dksX3_dies_0 20 rfl rfl)
theorem dX3_dies_23 : decode cX3_dies 23 = .ok (.aload_n 1, 1) := dk_43 (dk_at dksX3_dies_0 23 rfl rfl)
theorem dX3_dies_24 : decode cX3_dies 24 = .ok (.getfield 194, 3) := dk_180 0 194 (dk_at dksX3_dies_1 0 rfl rfl)
theorem dX3_dies_27 : decode cX3_dies 27 = .ok (.iconst 5, 1) := dk_8 (dk_at dksX3_dies_1 3 rfl rfl)
theorem dX3_dies_28 : decode cX3_dies 28 = .ok (.if_icmp .ge 14, 3) := dk_162 0 14 (dk_at dksX3_dies_1 4 rfl rfl)
theorem dX3_dies_31 : decode cX3_dies 31 = .ok (.aload_n 1, 1) := dk_43 (dk_at dksX3_dies_1 7 rfl rfl)
theorem dX3_dies_32 : decode cX3_dies 32 = .ok (.aload_n 1, 1) := dk_43 (dk_at dksX3_dies_1 8 rfl rfl)
theorem dX3_dies_33 : decode cX3_dies 33 = .ok (.getfield 194, 3) := dk_180 0 194 (dk_at dksX3_dies_1 9 rfl rfl)
theorem dX3_dies_36 : decode cX3_dies 36 = .ok (.invokestatic 175, 3) := dk_184 0 175 (dk_at dksX3_dies_1 12 rfl rfl)
theorem dX3_dies_39 : decode cX3_dies 39 = .ok (.goto 4, 3) := dk_167 0 4 (dk_at dksX3_dies_1 15 rfl rfl)
theorem dX3_dies_42 : decode cX3_dies 42 = .ok (.iconst 0, 1) := dk_3 (dk_at dksX3_dies_1 18 rfl rfl)
theorem dX3_dies_43 : decode cX3_dies 43 = .ok (.iadd, 1) := dk_96 (dk_at dksX3_dies_1 19 rfl rfl)
theorem dX3_dies_44 : decode cX3_dies 44 = .ok (.putfield 93, 3) := dk_181 0 93 (dk_at dksX3_dies_1 20 rfl rfl)
theorem dX3_dies_47 : decode cX3_dies 47 = .ok (.aload_n 0, 1) := dk_42 (dk_at dksX3_dies_1 23 rfl rfl)
theorem dX3_dies_48 : decode cX3_dies 48 = .ok (.aload_n 1, 1) := dk_43 (dk_at dksX3_dies_2 0 rfl rfl)
theorem dX3_dies_49 : decode cX3_dies 49 = .ok (.invokevirtual 197, 3) := dk_182 0 197 (dk_at dksX3_dies_2 1 rfl rfl)
theorem dX3_dies_52 : decode cX3_dies 52 = .ok (.aload_n 0, 1) := dk_42 (dk_at dksX3_dies_2 4 rfl rfl)
theorem dX3_dies_53 : decode cX3_dies 53 = .ok (.aload_n 1, 1) := dk_43 (dk_at dksX3_dies_2 5 rfl rfl)
theorem dX3_dies_54 : decode cX3_dies 54 = .ok (.invokevirtual 200, 3) := dk_182 0 200 (dk_at dksX3_dies_2 6 rfl rfl)
theorem dX3_dies_57 : decode cX3_dies 57 = .ok (.return_, 1) := dk_177 (dk_at dksX3_dies_2 9 rfl rfl)
abbrev cX3_lossOf : ByteArray := prog_9_method_11_code
def yX3_lossOf : MethodName := ⟨RX3, "lossOf", "(LFlashZones$Unit;I)I"⟩
def dkwX3_lossOf_0 : List UInt8 := [16, 20, 42, 180, 0, 169, 42, 180, 0, 181, 27, 46, 100, 184, 0, 184, 184, 0, 155, 172]
abbrev dktX3_lossOf_0 : List UInt8 := dkwX3_lossOf_0 ++ []
theorem dksX3_lossOf_0 : cX3_lossOf.data.toList.drop 0 = dktX3_lossOf_0 := by decide +kernel
theorem dX3_lossOf_0 : decode cX3_lossOf 0 = .ok (.bipush 20, 2) := dk_16 20 (dk_at dksX3_lossOf_0 0 rfl rfl)
theorem dX3_lossOf_2 : decode cX3_lossOf 2 = .ok (.aload_n 0, 1) := dk_42 (dk_at dksX3_lossOf_0 2 rfl rfl)
theorem dX3_lossOf_3 : decode cX3_lossOf 3 = .ok (.getfield 169, 3) := dk_180 0 169 (dk_at dksX3_lossOf_0 3 rfl rfl)
theorem dX3_lossOf_6 : decode cX3_lossOf 6 = .ok (.aload_n 0, 1) := dk_42 (dk_at dksX3_lossOf_0 6 rfl rfl)
theorem dX3_lossOf_7 : decode cX3_lossOf 7 = .ok (.getfield 181, 3) := dk_180 0 181 (dk_at dksX3_lossOf_0 7 rfl rfl)
theorem dX3_lossOf_10 : decode cX3_lossOf 10 = .ok (.iload_n 1, 1) := dk_27 (dk_at dksX3_lossOf_0 10 rfl rfl)
theorem dX3_lossOf_11 : decode cX3_lossOf 11 = .ok (.iaload, 1) := dk_46 (dk_at dksX3_lossOf_0 11 rfl rfl)
theorem dX3_lossOf_12 : decode cX3_lossOf 12 = .ok (.isub, 1) := dk_100 (dk_at dksX3_lossOf_0 12 rfl rfl)
theorem dX3_lossOf_13 : decode cX3_lossOf 13 = .ok (.invokestatic 184, 3) := dk_184 0 184 (dk_at dksX3_lossOf_0 13 rfl rfl)
theorem dX3_lossOf_16 : decode cX3_lossOf 16 = .ok (.invokestatic 155, 3) := dk_184 0 155 (dk_at dksX3_lossOf_0 16 rfl rfl)
theorem dX3_lossOf_19 : decode cX3_lossOf 19 = .ok (.ireturn, 1) := dk_172 (dk_at dksX3_lossOf_0 19 rfl rfl)
abbrev cX3_weighs : ByteArray := prog_9_method_10_code
def yX3_weighs : MethodName := ⟨RX3, "weighs", "(LFlashZones$Unit;)V"⟩
def dkwX3_weighs_4 : List UInt8 := [162, 0, 23, 28, 153, 0, 19, 42, 180, 0, 24, 29, 92, 46, 5, 104, 79, 132, 3, 1, 167, 255, 234, 177]
abbrev dktX3_weighs_4 : List UInt8 := dkwX3_weighs_4 ++ []
def dkwX3_weighs_3 : List UInt8 := [17, 1, 244, 162, 0, 7, 4, 167, 0, 4, 3, 126, 61, 132, 3, 1, 167, 255, 173, 3, 62, 29, 8]
abbrev dktX3_weighs_3 : List UInt8 := dkwX3_weighs_3 ++ dktX3_weighs_4
def dkwX3_weighs_2 : List UInt8 := [8, 46, 21, 4, 104, 133, 101, 105, 20, 0, 179, 109, 136, 184, 0, 161, 79, 28, 42, 180, 0, 24, 29, 46]
abbrev dktX3_weighs_2 : List UInt8 := dkwX3_weighs_2 ++ dktX3_weighs_3
def dkwX3_weighs_1 : List UInt8 := [21, 4, 96, 79, 42, 180, 0, 24, 29, 4, 42, 180, 0, 24, 29, 46, 133, 20, 0, 179, 42, 180, 0, 80]
abbrev dktX3_weighs_1 : List UInt8 := dkwX3_weighs_1 ++ dktX3_weighs_2
def dkwX3_weighs_0 : List UInt8 := [4, 61, 3, 62, 29, 8, 162, 0, 84, 43, 29, 184, 0, 175, 54, 4, 42, 180, 0, 28, 29, 92, 46]
abbrev dktX3_weighs_0 : List UInt8 := dkwX3_weighs_0 ++ dktX3_weighs_1
theorem dksX3_weighs_0 : cX3_weighs.data.toList.drop 0 = dktX3_weighs_0 := by decide +kernel
theorem dksX3_weighs_1 : cX3_weighs.data.toList.drop 23 = dktX3_weighs_1 := dk_seg dksX3_weighs_0 23 rfl rfl
theorem dksX3_weighs_2 : cX3_weighs.data.toList.drop 47 = dktX3_weighs_2 := dk_seg dksX3_weighs_1 24 rfl rfl
theorem dksX3_weighs_3 : cX3_weighs.data.toList.drop 71 = dktX3_weighs_3 := dk_seg dksX3_weighs_2 24 rfl rfl
theorem dksX3_weighs_4 : cX3_weighs.data.toList.drop 94 = dktX3_weighs_4 := dk_seg dksX3_weighs_3 23 rfl rfl
theorem dX3_weighs_0 : decode cX3_weighs 0 = .ok (.iconst 1, 1) := dk_4 (dk_at dksX3_weighs_0 0 rfl rfl)
theorem dX3_weighs_1 : decode cX3_weighs 1 = .ok (.istore_n 2, 1) := dk_61 (dk_at dksX3_weighs_0 1 rfl rfl)
theorem dX3_weighs_2 : decode cX3_weighs 2 = .ok (.iconst 0, 1) := dk_3 (dk_at dksX3_weighs_0 2 rfl rfl)
theorem dX3_weighs_3 : decode cX3_weighs 3 = .ok (.istore_n 3, 1) := dk_62 (dk_at dksX3_weighs_0 3 rfl rfl)
theorem dX3_weighs_4 : decode cX3_weighs 4 = .ok (.iload_n 3, 1) := dk_29 (dk_at dksX3_weighs_0 4 rfl rfl)
theorem dX3_weighs_5 : decode cX3_weighs 5 = .ok (.iconst 5, 1) := dk_8 (dk_at dksX3_weighs_0 5 rfl rfl)
theorem dX3_weighs_6 : decode cX3_weighs 6 = .ok (.if_icmp .ge 84, 3) := dk_162 0 84 (dk_at dksX3_weighs_0 6 rfl rfl)
theorem dX3_weighs_9 : decode cX3_weighs 9 = .ok (.aload_n 1, 1) := dk_43 (dk_at dksX3_weighs_0 9 rfl rfl)
theorem dX3_weighs_10 : decode cX3_weighs 10 = .ok (.iload_n 3, 1) := dk_29 (dk_at dksX3_weighs_0 10 rfl rfl)
theorem dX3_weighs_11 : decode cX3_weighs 11 = .ok (.invokestatic 175, 3) := dk_184 0 175 (dk_at dksX3_weighs_0 11 rfl rfl)
theorem dX3_weighs_14 : decode cX3_weighs 14 = .ok (.istore 4, 2) := dk_54 4 (dk_at dksX3_weighs_0 14 rfl rfl)
theorem dX3_weighs_16 : decode cX3_weighs 16 = .ok (.aload_n 0, 1) := dk_42 (dk_at dksX3_weighs_0 16 rfl rfl)
theorem dX3_weighs_17 : decode cX3_weighs 17 = .ok (.getfield 28, 3) := dk_180 0 28 (dk_at dksX3_weighs_0 17 rfl rfl)
theorem dX3_weighs_20 : decode cX3_weighs 20 = .ok (.iload_n 3, 1) := dk_29 (dk_at dksX3_weighs_0 20 rfl rfl)
theorem dX3_weighs_21 : decode cX3_weighs 21 = .ok (.dup2, 1) := dk_92 (dk_at dksX3_weighs_0 21 rfl rfl)
theorem dX3_weighs_22 : decode cX3_weighs 22 = .ok (.iaload, 1) := dk_46 (dk_at dksX3_weighs_0 22 rfl rfl)
theorem dX3_weighs_23 : decode cX3_weighs 23 = .ok (.iload 4, 2) := dk_21 4 (dk_at dksX3_weighs_1 0 rfl rfl)
theorem dX3_weighs_25 : decode cX3_weighs 25 = .ok (.iadd, 1) := dk_96 (dk_at dksX3_weighs_1 2 rfl rfl)
theorem dX3_weighs_26 : decode cX3_weighs 26 = .ok (.iastore, 1) := dk_79 (dk_at dksX3_weighs_1 3 rfl rfl)
theorem dX3_weighs_27 : decode cX3_weighs 27 = .ok (.aload_n 0, 1) := dk_42 (dk_at dksX3_weighs_1 4 rfl rfl)
theorem dX3_weighs_28 : decode cX3_weighs 28 = .ok (.getfield 24, 3) := dk_180 0 24 (dk_at dksX3_weighs_1 5 rfl rfl)
theorem dX3_weighs_31 : decode cX3_weighs 31 = .ok (.iload_n 3, 1) := dk_29 (dk_at dksX3_weighs_1 8 rfl rfl)
theorem dX3_weighs_32 : decode cX3_weighs 32 = .ok (.iconst 1, 1) := dk_4 (dk_at dksX3_weighs_1 9 rfl rfl)
theorem dX3_weighs_33 : decode cX3_weighs 33 = .ok (.aload_n 0, 1) := dk_42 (dk_at dksX3_weighs_1 10 rfl rfl)
theorem dX3_weighs_34 : decode cX3_weighs 34 = .ok (.getfield 24, 3) := dk_180 0 24 (dk_at dksX3_weighs_1 11 rfl rfl)
theorem dX3_weighs_37 : decode cX3_weighs 37 = .ok (.iload_n 3, 1) := dk_29 (dk_at dksX3_weighs_1 14 rfl rfl)
theorem dX3_weighs_38 : decode cX3_weighs 38 = .ok (.iaload, 1) := dk_46 (dk_at dksX3_weighs_1 15 rfl rfl)
theorem dX3_weighs_39 : decode cX3_weighs 39 = .ok (.i2l, 1) := dk_133 (dk_at dksX3_weighs_1 16 rfl rfl)
theorem dX3_weighs_40 : decode cX3_weighs 40 = .ok (.ldc2_w 179, 3) := dk_20 0 179 (dk_at dksX3_weighs_1 17 rfl rfl)
theorem dX3_weighs_43 : decode cX3_weighs 43 = .ok (.aload_n 0, 1) := dk_42 (dk_at dksX3_weighs_1 20 rfl rfl)
theorem dX3_weighs_44 : decode cX3_weighs 44 = .ok (.getfield 80, 3) := dk_180 0 80 (dk_at dksX3_weighs_1 21 rfl rfl)
theorem dX3_weighs_47 : decode cX3_weighs 47 = .ok (.iconst 5, 1) := dk_8 (dk_at dksX3_weighs_2 0 rfl rfl)
theorem dX3_weighs_48 : decode cX3_weighs 48 = .ok (.iaload, 1) := dk_46 (dk_at dksX3_weighs_2 1 rfl rfl)
theorem dX3_weighs_49 : decode cX3_weighs 49 = .ok (.iload 4, 2) := dk_21 4 (dk_at dksX3_weighs_2 2 rfl rfl)
theorem dX3_weighs_51 : decode cX3_weighs 51 = .ok (.imul, 1) := dk_104 (dk_at dksX3_weighs_2 4 rfl rfl)
theorem dX3_weighs_52 : decode cX3_weighs 52 = .ok (.i2l, 1) := dk_133 (dk_at dksX3_weighs_2 5 rfl rfl)
theorem dX3_weighs_53 : decode cX3_weighs 53 = .ok (.lsub, 1) := dk_101 (dk_at dksX3_weighs_2 6 rfl rfl)
theorem dX3_weighs_54 : decode cX3_weighs 54 = .ok (.lmul, 1) := dk_105 (dk_at dksX3_weighs_2 7 rfl rfl)
theorem dX3_weighs_55 : decode cX3_weighs 55 = .ok (.ldc2_w 179, 3) := dk_20 0 179 (dk_at dksX3_weighs_2 8 rfl rfl)
theorem dX3_weighs_58 : decode cX3_weighs 58 = .ok (.ldiv, 1) := dk_109 (dk_at dksX3_weighs_2 11 rfl rfl)
theorem dX3_weighs_59 : decode cX3_weighs 59 = .ok (.l2i, 1) := dk_136 (dk_at dksX3_weighs_2 12 rfl rfl)
theorem dX3_weighs_60 : decode cX3_weighs 60 = .ok (.invokestatic 161, 3) := dk_184 0 161 (dk_at dksX3_weighs_2 13 rfl rfl)
theorem dX3_weighs_63 : decode cX3_weighs 63 = .ok (.iastore, 1) := dk_79 (dk_at dksX3_weighs_2 16 rfl rfl)
theorem dX3_weighs_64 : decode cX3_weighs 64 = .ok (.iload_n 2, 1) := dk_28 (dk_at dksX3_weighs_2 17 rfl rfl)
theorem dX3_weighs_65 : decode cX3_weighs 65 = .ok (.aload_n 0, 1) := dk_42 (dk_at dksX3_weighs_2 18 rfl rfl)
theorem dX3_weighs_66 : decode cX3_weighs 66 = .ok (.getfield 24, 3) := dk_180 0 24 (dk_at dksX3_weighs_2 19 rfl rfl)
theorem dX3_weighs_69 : decode cX3_weighs 69 = .ok (.iload_n 3, 1) := dk_29 (dk_at dksX3_weighs_2 22 rfl rfl)
theorem dX3_weighs_70 : decode cX3_weighs 70 = .ok (.iaload, 1) := dk_46 (dk_at dksX3_weighs_2 23 rfl rfl)
theorem dX3_weighs_71 : decode cX3_weighs 71 = .ok (.sipush 500, 3) := dk_17 1 244 (dk_at dksX3_weighs_3 0 rfl rfl)
theorem dX3_weighs_74 : decode cX3_weighs 74 = .ok (.if_icmp .ge 7, 3) := dk_162 0 7 (dk_at dksX3_weighs_3 3 rfl rfl)
theorem dX3_weighs_77 : decode cX3_weighs 77 = .ok (.iconst 1, 1) := dk_4 (dk_at dksX3_weighs_3 6 rfl rfl)
theorem dX3_weighs_78 : decode cX3_weighs 78 = .ok (.goto 4, 3) := dk_167 0 4 (dk_at dksX3_weighs_3 7 rfl rfl)
theorem dX3_weighs_81 : decode cX3_weighs 81 = .ok (.iconst 0, 1) := dk_3 (dk_at dksX3_weighs_3 10 rfl rfl)
theorem dX3_weighs_82 : decode cX3_weighs 82 = .ok (.iand, 1) := dk_126 (dk_at dksX3_weighs_3 11 rfl rfl)
theorem dX3_weighs_83 : decode cX3_weighs 83 = .ok (.istore_n 2, 1) := dk_61 (dk_at dksX3_weighs_3 12 rfl rfl)
theorem dX3_weighs_84 : decode cX3_weighs 84 = .ok (.iinc 3 1, 3) := dk_132 3 1 (dk_at dksX3_weighs_3 13 rfl rfl)
theorem dX3_weighs_87 : decode cX3_weighs 87 = .ok (.goto (-83), 3) := dk_167 255 173 (dk_at dksX3_weighs_3 16 rfl rfl)
theorem dX3_weighs_90 : decode cX3_weighs 90 = .ok (.iconst 0, 1) := dk_3 (dk_at dksX3_weighs_3 19 rfl rfl)
theorem dX3_weighs_91 : decode cX3_weighs 91 = .ok (.istore_n 3, 1) := dk_62 (dk_at dksX3_weighs_3 20 rfl rfl)
theorem dX3_weighs_92 : decode cX3_weighs 92 = .ok (.iload_n 3, 1) := dk_29 (dk_at dksX3_weighs_3 21 rfl rfl)
theorem dX3_weighs_93 : decode cX3_weighs 93 = .ok (.iconst 5, 1) := dk_8 (dk_at dksX3_weighs_3 22 rfl rfl)
theorem dX3_weighs_94 : decode cX3_weighs 94 = .ok (.if_icmp .ge 23, 3) := dk_162 0 23 (dk_at dksX3_weighs_4 0 rfl rfl)
theorem dX3_weighs_97 : decode cX3_weighs 97 = .ok (.iload_n 2, 1) := dk_28 (dk_at dksX3_weighs_4 3 rfl rfl)
theorem dX3_weighs_98 : decode cX3_weighs 98 = .ok (.ifCond .eq 19, 3) := dk_153 0 19 (dk_at dksX3_weighs_4 4 rfl rfl)
theorem dX3_weighs_101 : decode cX3_weighs 101 = .ok (.aload_n 0, 1) := dk_42 (dk_at dksX3_weighs_4 7 rfl rfl)
theorem dX3_weighs_102 : decode cX3_weighs 102 = .ok (.getfield 24, 3) := dk_180 0 24 (dk_at dksX3_weighs_4 8 rfl rfl)
theorem dX3_weighs_105 : decode cX3_weighs 105 = .ok (.iload_n 3, 1) := dk_29 (dk_at dksX3_weighs_4 11 rfl rfl)
theorem dX3_weighs_106 : decode cX3_weighs 106 = .ok (.dup2, 1) := dk_92 (dk_at dksX3_weighs_4 12 rfl rfl)
theorem dX3_weighs_107 : decode cX3_weighs 107 = .ok (.iaload, 1) := dk_46 (dk_at dksX3_weighs_4 13 rfl rfl)
theorem dX3_weighs_108 : decode cX3_weighs 108 = .ok (.iconst 2, 1) := dk_5 (dk_at dksX3_weighs_4 14 rfl rfl)
theorem dX3_weighs_109 : decode cX3_weighs 109 = .ok (.imul, 1) := dk_104 (dk_at dksX3_weighs_4 15 rfl rfl)
theorem dX3_weighs_110 : decode cX3_weighs 110 = .ok (.iastore, 1) := dk_79 (dk_at dksX3_weighs_4 16 rfl rfl)
theorem dX3_weighs_111 : decode cX3_weighs 111 = .ok (.iinc 3 1, 3) := dk_132 3 1 (dk_at dksX3_weighs_4 17 rfl rfl)
theorem dX3_weighs_114 : decode cX3_weighs 114 = .ok (.goto (-22), 3) := dk_167 255 234 (dk_at dksX3_weighs_4 20 rfl rfl)
theorem dX3_weighs_117 : decode cX3_weighs 117 = .ok (.return_, 1) := dk_177 (dk_at dksX3_weighs_4 23 rfl rfl)
abbrev cX3_learns : ByteArray := prog_9_method_9_code
def yX3_learns : MethodName := ⟨RX3, "learns", "(LFlashZones$Unit;)V"⟩
def dkwX3_learns_4 : List UInt8 := [4, 96, 181, 0, 102, 42, 89, 180, 0, 105, 43, 180, 0, 169, 96, 181, 0, 105, 177]
abbrev dktX3_learns_4 : List UInt8 := dkwX3_learns_4 ++ []
def dkwX3_learns_3 : List UInt8 := [180, 0, 169, 96, 79, 42, 180, 0, 46, 28, 29, 184, 0, 172, 43, 180, 0, 169, 79, 42, 89, 180, 0, 102]
abbrev dktX3_learns_3 : List UInt8 := dkwX3_learns_3 ++ dktX3_learns_4
def dkwX3_learns_2 : List UInt8 := [184, 0, 161, 79, 42, 180, 0, 40, 29, 92, 46, 4, 96, 79, 42, 180, 0, 43, 29, 92, 46, 43]
abbrev dktX3_learns_2 : List UInt8 := dkwX3_learns_2 ++ dktX3_learns_3
def dkwX3_learns_1 : List UInt8 := [28, 92, 46, 43, 180, 0, 169, 96, 79, 42, 180, 0, 37, 28, 42, 180, 0, 37, 28, 46, 43, 180, 0, 169]
abbrev dktX3_learns_1 : List UInt8 := dkwX3_learns_1 ++ dktX3_learns_2
def dkwX3_learns_0 : List UInt8 := [43, 180, 0, 164, 61, 43, 180, 0, 167, 62, 42, 180, 0, 31, 28, 92, 46, 4, 96, 79, 42, 180, 0, 34]
abbrev dktX3_learns_0 : List UInt8 := dkwX3_learns_0 ++ dktX3_learns_1
theorem dksX3_learns_0 : cX3_learns.data.toList.drop 0 = dktX3_learns_0 := by decide +kernel
theorem dksX3_learns_1 : cX3_learns.data.toList.drop 24 = dktX3_learns_1 := dk_seg dksX3_learns_0 24 rfl rfl
theorem dksX3_learns_2 : cX3_learns.data.toList.drop 48 = dktX3_learns_2 := dk_seg dksX3_learns_1 24 rfl rfl
theorem dksX3_learns_3 : cX3_learns.data.toList.drop 70 = dktX3_learns_3 := dk_seg dksX3_learns_2 22 rfl rfl
theorem dksX3_learns_4 : cX3_learns.data.toList.drop 94 = dktX3_learns_4 := dk_seg dksX3_learns_3 24 rfl rfl
theorem dX3_learns_0 : decode cX3_learns 0 = .ok (.aload_n 1, 1) := dk_43 (dk_at dksX3_learns_0 0 rfl rfl)
theorem dX3_learns_1 : decode cX3_learns 1 = .ok (.getfield 164, 3) := dk_180 0 164 (dk_at dksX3_learns_0 1 rfl rfl)
theorem dX3_learns_4 : decode cX3_learns 4 = .ok (.istore_n 2, 1) := dk_61 (dk_at dksX3_learns_0 4 rfl rfl)
theorem dX3_learns_5 : decode cX3_learns 5 = .ok (.aload_n 1, 1) := dk_43 (dk_at dksX3_learns_0 5 rfl rfl)
theorem dX3_learns_6 : decode cX3_learns 6 = .ok (.getfield 167, 3) := dk_180 0 167 (dk_at dksX3_learns_0 6 rfl rfl)
theorem dX3_learns_9 : decode cX3_learns 9 = .ok (.istore_n 3, 1) := dk_62 (dk_at dksX3_learns_0 9 rfl rfl)
theorem dX3_learns_10 : decode cX3_learns 10 = .ok (.aload_n 0, 1) := dk_42 (dk_at dksX3_learns_0 10 rfl rfl)
theorem dX3_learns_11 : decode cX3_learns 11 = .ok (.getfield 31, 3) := dk_180 0 31 (dk_at dksX3_learns_0 11 rfl rfl)
theorem dX3_learns_14 : decode cX3_learns 14 = .ok (.iload_n 2, 1) := dk_28 (dk_at dksX3_learns_0 14 rfl rfl)
theorem dX3_learns_15 : decode cX3_learns 15 = .ok (.dup2, 1) := dk_92 (dk_at dksX3_learns_0 15 rfl rfl)
theorem dX3_learns_16 : decode cX3_learns 16 = .ok (.iaload, 1) := dk_46 (dk_at dksX3_learns_0 16 rfl rfl)
theorem dX3_learns_17 : decode cX3_learns 17 = .ok (.iconst 1, 1) := dk_4 (dk_at dksX3_learns_0 17 rfl rfl)
theorem dX3_learns_18 : decode cX3_learns 18 = .ok (.iadd, 1) := dk_96 (dk_at dksX3_learns_0 18 rfl rfl)
theorem dX3_learns_19 : decode cX3_learns 19 = .ok (.iastore, 1) := dk_79 (dk_at dksX3_learns_0 19 rfl rfl)
theorem dX3_learns_20 : decode cX3_learns 20 = .ok (.aload_n 0, 1) := dk_42 (dk_at dksX3_learns_0 20 rfl rfl)
theorem dX3_learns_21 : decode cX3_learns 21 = .ok (.getfield 34, 3) := dk_180 0 34 (dk_at dksX3_learns_0 21 rfl rfl)
theorem dX3_learns_24 : decode cX3_learns 24 = .ok (.iload_n 2, 1) := dk_28 (dk_at dksX3_learns_1 0 rfl rfl)
theorem dX3_learns_25 : decode cX3_learns 25 = .ok (.dup2, 1) := dk_92 (dk_at dksX3_learns_1 1 rfl rfl)
theorem dX3_learns_26 : decode cX3_learns 26 = .ok (.iaload, 1) := dk_46 (dk_at dksX3_learns_1 2 rfl rfl)
theorem dX3_learns_27 : decode cX3_learns 27 = .ok (.aload_n 1, 1) := dk_43 (dk_at dksX3_learns_1 3 rfl rfl)
theorem dX3_learns_28 : decode cX3_learns 28 = .ok (.getfield 169, 3) := dk_180 0 169 (dk_at dksX3_learns_1 4 rfl rfl)
theorem dX3_learns_31 : decode cX3_learns 31 = .ok (.iadd, 1) := dk_96 (dk_at dksX3_learns_1 7 rfl rfl)
theorem dX3_learns_32 : decode cX3_learns 32 = .ok (.iastore, 1) := dk_79 (dk_at dksX3_learns_1 8 rfl rfl)
theorem dX3_learns_33 : decode cX3_learns 33 = .ok (.aload_n 0, 1) := dk_42 (dk_at dksX3_learns_1 9 rfl rfl)
theorem dX3_learns_34 : decode cX3_learns 34 = .ok (.getfield 37, 3) := dk_180 0 37 (dk_at dksX3_learns_1 10 rfl rfl)
theorem dX3_learns_37 : decode cX3_learns 37 = .ok (.iload_n 2, 1) := dk_28 (dk_at dksX3_learns_1 13 rfl rfl)
theorem dX3_learns_38 : decode cX3_learns 38 = .ok (.aload_n 0, 1) := dk_42 (dk_at dksX3_learns_1 14 rfl rfl)
theorem dX3_learns_39 : decode cX3_learns 39 = .ok (.getfield 37, 3) := dk_180 0 37 (dk_at dksX3_learns_1 15 rfl rfl)
theorem dX3_learns_42 : decode cX3_learns 42 = .ok (.iload_n 2, 1) := dk_28 (dk_at dksX3_learns_1 18 rfl rfl)
theorem dX3_learns_43 : decode cX3_learns 43 = .ok (.iaload, 1) := dk_46 (dk_at dksX3_learns_1 19 rfl rfl)
theorem dX3_learns_44 : decode cX3_learns 44 = .ok (.aload_n 1, 1) := dk_43 (dk_at dksX3_learns_1 20 rfl rfl)
theorem dX3_learns_45 : decode cX3_learns 45 = .ok (.getfield 169, 3) := dk_180 0 169 (dk_at dksX3_learns_1 21 rfl rfl)
theorem dX3_learns_48 : decode cX3_learns 48 = .ok (.invokestatic 161, 3) := dk_184 0 161 (dk_at dksX3_learns_2 0 rfl rfl)
theorem dX3_learns_51 : decode cX3_learns 51 = .ok (.iastore, 1) := dk_79 (dk_at dksX3_learns_2 3 rfl rfl)
theorem dX3_learns_52 : decode cX3_learns 52 = .ok (.aload_n 0, 1) := dk_42 (dk_at dksX3_learns_2 4 rfl rfl)
theorem dX3_learns_53 : decode cX3_learns 53 = .ok (.getfield 40, 3) := dk_180 0 40 (dk_at dksX3_learns_2 5 rfl rfl)
theorem dX3_learns_56 : decode cX3_learns 56 = .ok (.iload_n 3, 1) := dk_29 (dk_at dksX3_learns_2 8 rfl rfl)
theorem dX3_learns_57 : decode cX3_learns 57 = .ok (.dup2, 1) := dk_92 (dk_at dksX3_learns_2 9 rfl rfl)
theorem dX3_learns_58 : decode cX3_learns 58 = .ok (.iaload, 1) := dk_46 (dk_at dksX3_learns_2 10 rfl rfl)
theorem dX3_learns_59 : decode cX3_learns 59 = .ok (.iconst 1, 1) := dk_4 (dk_at dksX3_learns_2 11 rfl rfl)
theorem dX3_learns_60 : decode cX3_learns 60 = .ok (.iadd, 1) := dk_96 (dk_at dksX3_learns_2 12 rfl rfl)
theorem dX3_learns_61 : decode cX3_learns 61 = .ok (.iastore, 1) := dk_79 (dk_at dksX3_learns_2 13 rfl rfl)
theorem dX3_learns_62 : decode cX3_learns 62 = .ok (.aload_n 0, 1) := dk_42 (dk_at dksX3_learns_2 14 rfl rfl)
theorem dX3_learns_63 : decode cX3_learns 63 = .ok (.getfield 43, 3) := dk_180 0 43 (dk_at dksX3_learns_2 15 rfl rfl)
theorem dX3_learns_66 : decode cX3_learns 66 = .ok (.iload_n 3, 1) := dk_29 (dk_at dksX3_learns_2 18 rfl rfl)
theorem dX3_learns_67 : decode cX3_learns 67 = .ok (.dup2, 1) := dk_92 (dk_at dksX3_learns_2 19 rfl rfl)
theorem dX3_learns_68 : decode cX3_learns 68 = .ok (.iaload, 1) := dk_46 (dk_at dksX3_learns_2 20 rfl rfl)
theorem dX3_learns_69 : decode cX3_learns 69 = .ok (.aload_n 1, 1) := dk_43 (dk_at dksX3_learns_2 21 rfl rfl)
theorem dX3_learns_70 : decode cX3_learns 70 = .ok (.getfield 169, 3) := dk_180 0 169 (dk_at dksX3_learns_3 0 rfl rfl)
theorem dX3_learns_73 : decode cX3_learns 73 = .ok (.iadd, 1) := dk_96 (dk_at dksX3_learns_3 3 rfl rfl)
theorem dX3_learns_74 : decode cX3_learns 74 = .ok (.iastore, 1) := dk_79 (dk_at dksX3_learns_3 4 rfl rfl)
theorem dX3_learns_75 : decode cX3_learns 75 = .ok (.aload_n 0, 1) := dk_42 (dk_at dksX3_learns_3 5 rfl rfl)
theorem dX3_learns_76 : decode cX3_learns 76 = .ok (.getfield 46, 3) := dk_180 0 46 (dk_at dksX3_learns_3 6 rfl rfl)
theorem dX3_learns_79 : decode cX3_learns 79 = .ok (.iload_n 2, 1) := dk_28 (dk_at dksX3_learns_3 9 rfl rfl)
theorem dX3_learns_80 : decode cX3_learns 80 = .ok (.iload_n 3, 1) := dk_29 (dk_at dksX3_learns_3 10 rfl rfl)
theorem dX3_learns_81 : decode cX3_learns 81 = .ok (.invokestatic 172, 3) := dk_184 0 172 (dk_at dksX3_learns_3 11 rfl rfl)
theorem dX3_learns_84 : decode cX3_learns 84 = .ok (.aload_n 1, 1) := dk_43 (dk_at dksX3_learns_3 14 rfl rfl)
theorem dX3_learns_85 : decode cX3_learns 85 = .ok (.getfield 169, 3) := dk_180 0 169 (dk_at dksX3_learns_3 15 rfl rfl)
theorem dX3_learns_88 : decode cX3_learns 88 = .ok (.iastore, 1) := dk_79 (dk_at dksX3_learns_3 18 rfl rfl)
theorem dX3_learns_89 : decode cX3_learns 89 = .ok (.aload_n 0, 1) := dk_42 (dk_at dksX3_learns_3 19 rfl rfl)
theorem dX3_learns_90 : decode cX3_learns 90 = .ok (.dup, 1) := dk_89 (dk_at dksX3_learns_3 20 rfl rfl)
theorem dX3_learns_91 : decode cX3_learns 91 = .ok (.getfield 102, 3) := dk_180 0 102 (dk_at dksX3_learns_3 21 rfl rfl)
theorem dX3_learns_94 : decode cX3_learns 94 = .ok (.iconst 1, 1) := dk_4 (dk_at dksX3_learns_4 0 rfl rfl)
theorem dX3_learns_95 : decode cX3_learns 95 = .ok (.iadd, 1) := dk_96 (dk_at dksX3_learns_4 1 rfl rfl)
theorem dX3_learns_96 : decode cX3_learns 96 = .ok (.putfield 102, 3) := dk_181 0 102 (dk_at dksX3_learns_4 2 rfl rfl)
theorem dX3_learns_99 : decode cX3_learns 99 = .ok (.aload_n 0, 1) := dk_42 (dk_at dksX3_learns_4 5 rfl rfl)
theorem dX3_learns_100 : decode cX3_learns 100 = .ok (.dup, 1) := dk_89 (dk_at dksX3_learns_4 6 rfl rfl)
theorem dX3_learns_101 : decode cX3_learns 101 = .ok (.getfield 105, 3) := dk_180 0 105 (dk_at dksX3_learns_4 7 rfl rfl)
theorem dX3_learns_104 : decode cX3_learns 104 = .ok (.aload_n 1, 1) := dk_43 (dk_at dksX3_learns_4 10 rfl rfl)
theorem dX3_learns_105 : decode cX3_learns 105 = .ok (.getfield 169, 3) := dk_180 0 169 (dk_at dksX3_learns_4 11 rfl rfl)
theorem dX3_learns_108 : decode cX3_learns 108 = .ok (.iadd, 1) := dk_96 (dk_at dksX3_learns_4 14 rfl rfl)
theorem dX3_learns_109 : decode cX3_learns 109 = .ok (.putfield 105, 3) := dk_181 0 105 (dk_at dksX3_learns_4 15 rfl rfl)
theorem dX3_learns_112 : decode cX3_learns 112 = .ok (.return_, 1) := dk_177 (dk_at dksX3_learns_4 18 rfl rfl)
abbrev cX3_resetZone : ByteArray := prog_9_method_23_code
def yX3_resetZone : MethodName := ⟨RX3, "resetZone", "(I)I"⟩
def dkwX3_resetZone_1 : List UInt8 := [42, 27, 182, 0, 251, 3, 172]
abbrev dktX3_resetZone_1 : List UInt8 := dkwX3_resetZone_1 ++ []
def dkwX3_resetZone_0 : List UInt8 := [42, 180, 0, 20, 27, 50, 182, 0, 214, 153, 0, 5, 6, 172, 42, 27, 182, 0, 248, 158, 0, 5, 7, 172]
abbrev dktX3_resetZone_0 : List UInt8 := dkwX3_resetZone_0 ++ dktX3_resetZone_1
theorem dksX3_resetZone_0 : cX3_resetZone.data.toList.drop 0 = dktX3_resetZone_0 := by decide +kernel
theorem dksX3_resetZone_1 : cX3_resetZone.data.toList.drop 24 = dktX3_resetZone_1 := dk_seg dksX3_resetZone_0 24 rfl rfl
theorem dX3_resetZone_0 : decode cX3_resetZone 0 = .ok (.aload_n 0, 1) := dk_42 (dk_at dksX3_resetZone_0 0 rfl rfl)
theorem dX3_resetZone_1 : decode cX3_resetZone 1 = .ok (.getfield 20, 3) := dk_180 0 20 (dk_at dksX3_resetZone_0 1 rfl rfl)
theorem dX3_resetZone_4 : decode cX3_resetZone 4 = .ok (.iload_n 1, 1) := dk_27 (dk_at dksX3_resetZone_0 4 rfl rfl)
theorem dX3_resetZone_5 : decode cX3_resetZone 5 = .ok (.aaload, 1) := dk_50 (dk_at dksX3_resetZone_0 5 rfl rfl)
theorem dX3_resetZone_6 : decode cX3_resetZone 6 = .ok (.invokevirtual 214, 3) := dk_182 0 214 (dk_at dksX3_resetZone_0 6 rfl rfl)
theorem dX3_resetZone_9 : decode cX3_resetZone 9 = .ok (.ifCond .eq 5, 3) := dk_153 0 5 (dk_at dksX3_resetZone_0 9 rfl rfl)
theorem dX3_resetZone_12 : decode cX3_resetZone 12 = .ok (.iconst 3, 1) := dk_6 (dk_at dksX3_resetZone_0 12 rfl rfl)
theorem dX3_resetZone_13 : decode cX3_resetZone 13 = .ok (.ireturn, 1) := dk_172 (dk_at dksX3_resetZone_0 13 rfl rfl)
theorem dX3_resetZone_14 : decode cX3_resetZone 14 = .ok (.aload_n 0, 1) := dk_42 (dk_at dksX3_resetZone_0 14 rfl rfl)
theorem dX3_resetZone_15 : decode cX3_resetZone 15 = .ok (.iload_n 1, 1) := dk_27 (dk_at dksX3_resetZone_0 15 rfl rfl)
theorem dX3_resetZone_16 : decode cX3_resetZone 16 = .ok (.invokevirtual 248, 3) := dk_182 0 248 (dk_at dksX3_resetZone_0 16 rfl rfl)
theorem dX3_resetZone_19 : decode cX3_resetZone 19 = .ok (.ifCond .le 5, 3) := dk_158 0 5 (dk_at dksX3_resetZone_0 19 rfl rfl)
theorem dX3_resetZone_22 : decode cX3_resetZone 22 = .ok (.iconst 4, 1) := dk_7 (dk_at dksX3_resetZone_0 22 rfl rfl)
theorem dX3_resetZone_23 : decode cX3_resetZone 23 = .ok (.ireturn, 1) := dk_172 (dk_at dksX3_resetZone_0 23 rfl rfl)
theorem dX3_resetZone_24 : decode cX3_resetZone 24 = .ok (.aload_n 0, 1) := dk_42 (dk_at dksX3_resetZone_1 0 rfl rfl)
theorem dX3_resetZone_25 : decode cX3_resetZone 25 = .ok (.iload_n 1, 1) := dk_27 (dk_at dksX3_resetZone_1 1 rfl rfl)
theorem dX3_resetZone_26 : decode cX3_resetZone 26 = .ok (.invokevirtual 251, 3) := dk_182 0 251 (dk_at dksX3_resetZone_1 2 rfl rfl)
theorem dX3_resetZone_29 : decode cX3_resetZone 29 = .ok (.iconst 0, 1) := dk_3 (dk_at dksX3_resetZone_1 5 rfl rfl)
theorem dX3_resetZone_30 : decode cX3_resetZone 30 = .ok (.ireturn, 1) := dk_172 (dk_at dksX3_resetZone_1 6 rfl rfl)
abbrev cX3_livingIn : ByteArray := prog_9_method_22_code
def yX3_livingIn : MethodName := ⟨RX3, "livingIn", "(I)I"⟩
def dkwX3_livingIn_2 : List UInt8 := [4, 167, 0, 4, 3, 184, 0, 244, 96, 61, 132, 3, 1, 167, 255, 199, 28, 172]
abbrev dktX3_livingIn_2 : List UInt8 := dkwX3_livingIn_2 ++ []
def dkwX3_livingIn_1 : List UInt8 := [180, 0, 20, 27, 50, 180, 0, 144, 29, 185, 0, 116, 2, 0, 192, 0, 114, 180, 0, 191, 27, 160, 0, 7]
abbrev dktX3_livingIn_1 : List UInt8 := dkwX3_livingIn_1 ++ dktX3_livingIn_2
def dkwX3_livingIn_0 : List UInt8 := [3, 61, 3, 62, 29, 42, 180, 0, 20, 27, 50, 180, 0, 144, 185, 0, 108, 1, 0, 162, 0, 45, 28, 42]
abbrev dktX3_livingIn_0 : List UInt8 := dkwX3_livingIn_0 ++ dktX3_livingIn_1
theorem dksX3_livingIn_0 : cX3_livingIn.data.toList.drop 0 = dktX3_livingIn_0 := by decide +kernel
theorem dksX3_livingIn_1 : cX3_livingIn.data.toList.drop 24 = dktX3_livingIn_1 := dk_seg dksX3_livingIn_0 24 rfl rfl
theorem dksX3_livingIn_2 : cX3_livingIn.data.toList.drop 48 = dktX3_livingIn_2 := dk_seg dksX3_livingIn_1 24 rfl rfl
theorem dX3_livingIn_0 : decode cX3_livingIn 0 = .ok (.iconst 0, 1) := dk_3 (dk_at dksX3_livingIn_0 0 rfl rfl)
theorem dX3_livingIn_1 : decode cX3_livingIn 1 = .ok (.istore_n 2, 1) := dk_61 (dk_at dksX3_livingIn_0 1 rfl rfl)
theorem dX3_livingIn_2 : decode cX3_livingIn 2 = .ok (.iconst 0, 1) := dk_3 (dk_at dksX3_livingIn_0 2 rfl rfl)
theorem dX3_livingIn_3 : decode cX3_livingIn 3 = .ok (.istore_n 3, 1) := dk_62 (dk_at dksX3_livingIn_0 3 rfl rfl)
theorem dX3_livingIn_4 : decode cX3_livingIn 4 = .ok (.iload_n 3, 1) := dk_29 (dk_at dksX3_livingIn_0 4 rfl rfl)
theorem dX3_livingIn_5 : decode cX3_livingIn 5 = .ok (.aload_n 0, 1) := dk_42 (dk_at dksX3_livingIn_0 5 rfl rfl)
theorem dX3_livingIn_6 : decode cX3_livingIn 6 = .ok (.getfield 20, 3) := dk_180 0 20 (dk_at dksX3_livingIn_0 6 rfl rfl)
theorem dX3_livingIn_9 : decode cX3_livingIn 9 = .ok (.iload_n 1, 1) := dk_27 (dk_at dksX3_livingIn_0 9 rfl rfl)
theorem dX3_livingIn_10 : decode cX3_livingIn 10 = .ok (.aaload, 1) := dk_50 (dk_at dksX3_livingIn_0 10 rfl rfl)
theorem dX3_livingIn_11 : decode cX3_livingIn 11 = .ok (.getfield 144, 3) := dk_180 0 144 (dk_at dksX3_livingIn_0 11 rfl rfl)
theorem dX3_livingIn_14 : decode cX3_livingIn 14 = .ok (.invokeinterface 108 1, 5) := by decide +kernel
theorem dX3_livingIn_19 : decode cX3_livingIn 19 = .ok (.if_icmp .ge 45, 3) := dk_162 0 45 (dk_at dksX3_livingIn_0 19 rfl rfl)
theorem dX3_livingIn_22 : decode cX3_livingIn 22 = .ok (.iload_n 2, 1) := dk_28 (dk_at dksX3_livingIn_0 22 rfl rfl)
theorem dX3_livingIn_23 : decode cX3_livingIn 23 = .ok (.aload_n 0, 1) := dk_42 (dk_at dksX3_livingIn_0 23 rfl rfl)
theorem dX3_livingIn_24 : decode cX3_livingIn 24 = .ok (.getfield 20, 3) := dk_180 0 20 (dk_at dksX3_livingIn_1 0 rfl rfl)
theorem dX3_livingIn_27 : decode cX3_livingIn 27 = .ok (.iload_n 1, 1) := dk_27 (dk_at dksX3_livingIn_1 3 rfl rfl)
theorem dX3_livingIn_28 : decode cX3_livingIn 28 = .ok (.aaload, 1) := dk_50 (dk_at dksX3_livingIn_1 4 rfl rfl)
theorem dX3_livingIn_29 : decode cX3_livingIn 29 = .ok (.getfield 144, 3) := dk_180 0 144 (dk_at dksX3_livingIn_1 5 rfl rfl)
theorem dX3_livingIn_32 : decode cX3_livingIn 32 = .ok (.iload_n 3, 1) := dk_29 (dk_at dksX3_livingIn_1 8 rfl rfl)
theorem dX3_livingIn_33 : decode cX3_livingIn 33 = .ok (.invokeinterface 116 2, 5) := by decide +kernel
theorem dX3_livingIn_38 : decode cX3_livingIn 38 = .ok (.checkcast 114, 3) := dk_192 0 114 (dk_at dksX3_livingIn_1 14 rfl rfl)
theorem dX3_livingIn_41 : decode cX3_livingIn 41 = .ok (.getfield 191, 3) := dk_180 0 191 (dk_at dksX3_livingIn_1 17 rfl rfl)
theorem dX3_livingIn_44 : decode cX3_livingIn 44 = .ok (.iload_n 1, 1) := dk_27 (dk_at dksX3_livingIn_1 20 rfl rfl)
theorem dX3_livingIn_45 : decode cX3_livingIn 45 = .ok (.if_icmp .ne 7, 3) := dk_160 0 7 (dk_at dksX3_livingIn_1 21 rfl rfl)
theorem dX3_livingIn_48 : decode cX3_livingIn 48 = .ok (.iconst 1, 1) := dk_4 (dk_at dksX3_livingIn_2 0 rfl rfl)
theorem dX3_livingIn_49 : decode cX3_livingIn 49 = .ok (.goto 4, 3) := dk_167 0 4 (dk_at dksX3_livingIn_2 1 rfl rfl)
theorem dX3_livingIn_52 : decode cX3_livingIn 52 = .ok (.iconst 0, 1) := dk_3 (dk_at dksX3_livingIn_2 4 rfl rfl)
theorem dX3_livingIn_53 : decode cX3_livingIn 53 = .ok (.invokestatic 244, 3) := dk_184 0 244 (dk_at dksX3_livingIn_2 5 rfl rfl)
theorem dX3_livingIn_56 : decode cX3_livingIn 56 = .ok (.iadd, 1) := dk_96 (dk_at dksX3_livingIn_2 8 rfl rfl)
theorem dX3_livingIn_57 : decode cX3_livingIn 57 = .ok (.istore_n 2, 1) := dk_61 (dk_at dksX3_livingIn_2 9 rfl rfl)
theorem dX3_livingIn_58 : decode cX3_livingIn 58 = .ok (.iinc 3 1, 3) := dk_132 3 1 (dk_at dksX3_livingIn_2 10 rfl rfl)
theorem dX3_livingIn_61 : decode cX3_livingIn 61 = .ok (.goto (-57), 3) := dk_167 255 199 (dk_at dksX3_livingIn_2 13 rfl rfl)
theorem dX3_livingIn_64 : decode cX3_livingIn 64 = .ok (.iload_n 2, 1) := dk_28 (dk_at dksX3_livingIn_2 16 rfl rfl)
theorem dX3_livingIn_65 : decode cX3_livingIn 65 = .ok (.ireturn, 1) := dk_172 (dk_at dksX3_livingIn_2 17 rfl rfl)
abbrev cX3_clearZone : ByteArray := prog_9_method_24_code
def yX3_clearZone : MethodName := ⟨RX3, "clearZone", "(I)V"⟩
def dkwX3_clearZone_0 : List UInt8 := [42, 180, 0, 20, 27, 50, 182, 0, 255, 42, 89, 180, 0, 99, 4, 96, 181, 0, 99, 177]
abbrev dktX3_clearZone_0 : List UInt8 := dkwX3_clearZone_0 ++ []
theorem dksX3_clearZone_0 : cX3_clearZone.data.toList.drop 0 = dktX3_clearZone_0 := by decide +kernel
theorem dX3_clearZone_0 : decode cX3_clearZone 0 = .ok (.aload_n 0, 1) := dk_42 (dk_at dksX3_clearZone_0 0 rfl rfl)
theorem dX3_clearZone_1 : decode cX3_clearZone 1 = .ok (.getfield 20, 3) := dk_180 0 20 (dk_at dksX3_clearZone_0 1 rfl rfl)
theorem dX3_clearZone_4 : decode cX3_clearZone 4 = .ok (.iload_n 1, 1) := dk_27 (dk_at dksX3_clearZone_0 4 rfl rfl)
theorem dX3_clearZone_5 : decode cX3_clearZone 5 = .ok (.aaload, 1) := dk_50 (dk_at dksX3_clearZone_0 5 rfl rfl)
theorem dX3_clearZone_6 : decode cX3_clearZone 6 = .ok (.invokevirtual 255, 3) := dk_182 0 255 (dk_at dksX3_clearZone_0 6 rfl rfl)
theorem dX3_clearZone_9 : decode cX3_clearZone 9 = .ok (.aload_n 0, 1) := dk_42 (dk_at dksX3_clearZone_0 9 rfl rfl)
theorem dX3_clearZone_10 : decode cX3_clearZone 10 = .ok (.dup, 1) := dk_89 (dk_at dksX3_clearZone_0 10 rfl rfl)
theorem dX3_clearZone_11 : decode cX3_clearZone 11 = .ok (.getfield 99, 3) := dk_180 0 99 (dk_at dksX3_clearZone_0 11 rfl rfl)
theorem dX3_clearZone_14 : decode cX3_clearZone 14 = .ok (.iconst 1, 1) := dk_4 (dk_at dksX3_clearZone_0 14 rfl rfl)
theorem dX3_clearZone_15 : decode cX3_clearZone 15 = .ok (.iadd, 1) := dk_96 (dk_at dksX3_clearZone_0 15 rfl rfl)
theorem dX3_clearZone_16 : decode cX3_clearZone 16 = .ok (.putfield 99, 3) := dk_181 0 99 (dk_at dksX3_clearZone_0 16 rfl rfl)
theorem dX3_clearZone_19 : decode cX3_clearZone 19 = .ok (.return_, 1) := dk_177 (dk_at dksX3_clearZone_0 19 rfl rfl)
abbrev cX3_buryZone : ByteArray := prog_9_method_26_code
def yX3_buryZone : MethodName := ⟨RX3, "buryZone", "(I)I"⟩
def dkwX3_buryZone_5 : List UInt8 := [89, 180, 0, 96, 28, 96, 181, 0, 96, 42, 27, 182, 0, 251, 3, 172]
abbrev dktX3_buryZone_5 : List UInt8 := dkwX3_buryZone_5 ++ []
def dkwX3_buryZone_4 : List UInt8 := [182, 0, 235, 25, 5, 89, 180, 1, 9, 4, 96, 181, 1, 9, 132, 3, 1, 132, 4, 1, 167, 255, 174, 42]
abbrev dktX3_buryZone_4 : List UInt8 := dkwX3_buryZone_4 ++ dktX3_buryZone_5
def dkwX3_buryZone_3 : List UInt8 := [27, 159, 0, 6, 167, 0, 35, 42, 25, 5, 42, 180, 0, 70, 29, 46, 42, 180, 0, 73, 29, 46]
abbrev dktX3_buryZone_3 : List UInt8 := dkwX3_buryZone_3 ++ dktX3_buryZone_4
def dkwX3_buryZone_2 : List UInt8 := [162, 0, 69, 42, 180, 0, 12, 21, 4, 185, 0, 116, 2, 0, 192, 0, 114, 58, 5, 25, 5, 180, 0, 191]
abbrev dktX3_buryZone_2 : List UInt8 := dkwX3_buryZone_2 ++ dktX3_buryZone_3
def dkwX3_buryZone_1 : List UInt8 := [160, 0, 5, 8, 172, 3, 54, 4, 21, 4, 42, 180, 0, 12, 185, 0, 108, 1, 0, 162, 0, 74, 29, 28]
abbrev dktX3_buryZone_1 : List UInt8 := dkwX3_buryZone_1 ++ dktX3_buryZone_2
def dkwX3_buryZone_0 : List UInt8 := [42, 180, 0, 20, 27, 50, 182, 0, 214, 153, 0, 5, 6, 172, 42, 27, 182, 1, 6, 61, 3, 62, 28, 2]
abbrev dktX3_buryZone_0 : List UInt8 := dkwX3_buryZone_0 ++ dktX3_buryZone_1
theorem dksX3_buryZone_0 : cX3_buryZone.data.toList.drop 0 = dktX3_buryZone_0 := by decide +kernel
theorem dksX3_buryZone_1 : cX3_buryZone.data.toList.drop 24 = dktX3_buryZone_1 := dk_seg dksX3_buryZone_0 24 rfl rfl
theorem dksX3_buryZone_2 : cX3_buryZone.data.toList.drop 48 = dktX3_buryZone_2 := dk_seg dksX3_buryZone_1 24 rfl rfl
theorem dksX3_buryZone_3 : cX3_buryZone.data.toList.drop 72 = dktX3_buryZone_3 := dk_seg dksX3_buryZone_2 24 rfl rfl
theorem dksX3_buryZone_4 : cX3_buryZone.data.toList.drop 94 = dktX3_buryZone_4 := dk_seg dksX3_buryZone_3 22 rfl rfl
theorem dksX3_buryZone_5 : cX3_buryZone.data.toList.drop 118 = dktX3_buryZone_5 := dk_seg dksX3_buryZone_4 24 rfl rfl
theorem dX3_buryZone_0 : decode cX3_buryZone 0 = .ok (.aload_n 0, 1) := dk_42 (dk_at dksX3_buryZone_0 0 rfl rfl)
theorem dX3_buryZone_1 : decode cX3_buryZone 1 = .ok (.getfield 20, 3) := dk_180 0 20 (dk_at dksX3_buryZone_0 1 rfl rfl)
theorem dX3_buryZone_4 : decode cX3_buryZone 4 = .ok (.iload_n 1, 1) := dk_27 (dk_at dksX3_buryZone_0 4 rfl rfl)
theorem dX3_buryZone_5 : decode cX3_buryZone 5 = .ok (.aaload, 1) := dk_50 (dk_at dksX3_buryZone_0 5 rfl rfl)
theorem dX3_buryZone_6 : decode cX3_buryZone 6 = .ok (.invokevirtual 214, 3) := dk_182 0 214 (dk_at dksX3_buryZone_0 6 rfl rfl)
theorem dX3_buryZone_9 : decode cX3_buryZone 9 = .ok (.ifCond .eq 5, 3) := dk_153 0 5 (dk_at dksX3_buryZone_0 9 rfl rfl)
theorem dX3_buryZone_12 : decode cX3_buryZone 12 = .ok (.iconst 3, 1) := dk_6 (dk_at dksX3_buryZone_0 12 rfl rfl)
theorem dX3_buryZone_13 : decode cX3_buryZone 13 = .ok (.ireturn, 1) := dk_172 (dk_at dksX3_buryZone_0 13 rfl rfl)
theorem dX3_buryZone_14 : decode cX3_buryZone 14 = .ok (.aload_n 0, 1) := dk_42 (dk_at dksX3_buryZone_0 14 rfl rfl)
theorem dX3_buryZone_15 : decode cX3_buryZone 15 = .ok (.iload_n 1, 1) := dk_27 (dk_at dksX3_buryZone_0 15 rfl rfl)
theorem dX3_buryZone_16 : decode cX3_buryZone 16 = .ok (.invokevirtual 262, 3) := dk_182 1 6 (dk_at dksX3_buryZone_0 16 rfl rfl)
theorem dX3_buryZone_19 : decode cX3_buryZone 19 = .ok (.istore_n 2, 1) := dk_61 (dk_at dksX3_buryZone_0 19 rfl rfl)
theorem dX3_buryZone_20 : decode cX3_buryZone 20 = .ok (.iconst 0, 1) := dk_3 (dk_at dksX3_buryZone_0 20 rfl rfl)
theorem dX3_buryZone_21 : decode cX3_buryZone 21 = .ok (.istore_n 3, 1) := dk_62 (dk_at dksX3_buryZone_0 21 rfl rfl)
theorem dX3_buryZone_22 : decode cX3_buryZone 22 = .ok (.iload_n 2, 1) := dk_28 (dk_at dksX3_buryZone_0 22 rfl rfl)
theorem dX3_buryZone_23 : decode cX3_buryZone 23 = .ok (.iconst (-1), 1) := dk_2 (dk_at dksX3_buryZone_0 23 rfl rfl)
theorem dX3_buryZone_24 : decode cX3_buryZone 24 = .ok (.if_icmp .ne 5, 3) := dk_160 0 5 (dk_at dksX3_buryZone_1 0 rfl rfl)
theorem dX3_buryZone_27 : decode cX3_buryZone 27 = .ok (.iconst 5, 1) := dk_8 (dk_at dksX3_buryZone_1 3 rfl rfl)
theorem dX3_buryZone_28 : decode cX3_buryZone 28 = .ok (.ireturn, 1) := dk_172 (dk_at dksX3_buryZone_1 4 rfl rfl)
theorem dX3_buryZone_29 : decode cX3_buryZone 29 = .ok (.iconst 0, 1) := dk_3 (dk_at dksX3_buryZone_1 5 rfl rfl)
theorem dX3_buryZone_30 : decode cX3_buryZone 30 = .ok (.istore 4, 2) := dk_54 4 (dk_at dksX3_buryZone_1 6 rfl rfl)
theorem dX3_buryZone_32 : decode cX3_buryZone 32 = .ok (.iload 4, 2) := dk_21 4 (dk_at dksX3_buryZone_1 8 rfl rfl)
theorem dX3_buryZone_34 : decode cX3_buryZone 34 = .ok (.aload_n 0, 1) := dk_42 (dk_at dksX3_buryZone_1 10 rfl rfl)
theorem dX3_buryZone_35 : decode cX3_buryZone 35 = .ok (.getfield 12, 3) := dk_180 0 12 (dk_at dksX3_buryZone_1 11 rfl rfl)
theorem dX3_buryZone_38 : decode cX3_buryZone 38 = .ok (.invokeinterface 108 1, 5) := by decide +kernel
theorem dX3_buryZone_43 : decode cX3_buryZone 43 = .ok (.if_icmp .ge 74, 3) := dk_162 0 74 (dk_at dksX3_buryZone_1 19 rfl rfl)
theorem dX3_buryZone_46 : decode cX3_buryZone 46 = .ok (.iload_n 3, 1) := dk_29 (dk_at dksX3_buryZone_1 22 rfl rfl)
theorem dX3_buryZone_47 : decode cX3_buryZone 47 = .ok (.iload_n 2, 1) := dk_28 (dk_at dksX3_buryZone_1 23 rfl rfl)
theorem dX3_buryZone_48 : decode cX3_buryZone 48 = .ok (.if_icmp .ge 69, 3) := dk_162 0 69 (dk_at dksX3_buryZone_2 0 rfl rfl)
theorem dX3_buryZone_51 : decode cX3_buryZone 51 = .ok (.aload_n 0, 1) := dk_42 (dk_at dksX3_buryZone_2 3 rfl rfl)
theorem dX3_buryZone_52 : decode cX3_buryZone 52 = .ok (.getfield 12, 3) := dk_180 0 12 (dk_at dksX3_buryZone_2 4 rfl rfl)
theorem dX3_buryZone_55 : decode cX3_buryZone 55 = .ok (.iload 4, 2) := dk_21 4 (dk_at dksX3_buryZone_2 7 rfl rfl)
theorem dX3_buryZone_57 : decode cX3_buryZone 57 = .ok (.invokeinterface 116 2, 5) := by decide +kernel
theorem dX3_buryZone_62 : decode cX3_buryZone 62 = .ok (.checkcast 114, 3) := dk_192 0 114 (dk_at dksX3_buryZone_2 14 rfl rfl)
theorem dX3_buryZone_65 : decode cX3_buryZone 65 = .ok (.astore 5, 2) := dk_58 5 (dk_at dksX3_buryZone_2 17 rfl rfl)
theorem dX3_buryZone_67 : decode cX3_buryZone 67 = .ok (.aload 5, 2) := dk_25 5 (dk_at dksX3_buryZone_2 19 rfl rfl)
theorem dX3_buryZone_69 : decode cX3_buryZone 69 = .ok (.getfield 191, 3) := dk_180 0 191 (dk_at dksX3_buryZone_2 21 rfl rfl)
theorem dX3_buryZone_72 : decode cX3_buryZone 72 = .ok (.iload_n 1, 1) := dk_27 (dk_at dksX3_buryZone_3 0 rfl rfl)
theorem dX3_buryZone_73 : decode cX3_buryZone 73 = .ok (.if_icmp .eq 6, 3) := dk_159 0 6 (dk_at dksX3_buryZone_3 1 rfl rfl)
theorem dX3_buryZone_76 : decode cX3_buryZone 76 = .ok (.goto 35, 3) := dk_167 0 35 (dk_at dksX3_buryZone_3 4 rfl rfl)
theorem dX3_buryZone_79 : decode cX3_buryZone 79 = .ok (.aload_n 0, 1) := dk_42 (dk_at dksX3_buryZone_3 7 rfl rfl)
theorem dX3_buryZone_80 : decode cX3_buryZone 80 = .ok (.aload 5, 2) := dk_25 5 (dk_at dksX3_buryZone_3 8 rfl rfl)
theorem dX3_buryZone_82 : decode cX3_buryZone 82 = .ok (.aload_n 0, 1) := dk_42 (dk_at dksX3_buryZone_3 10 rfl rfl)
theorem dX3_buryZone_83 : decode cX3_buryZone 83 = .ok (.getfield 70, 3) := dk_180 0 70 (dk_at dksX3_buryZone_3 11 rfl rfl)
theorem dX3_buryZone_86 : decode cX3_buryZone 86 = .ok (.iload_n 3, 1) := dk_29 (dk_at dksX3_buryZone_3 14 rfl rfl)
theorem dX3_buryZone_87 : decode cX3_buryZone 87 = .ok (.iaload, 1) := dk_46 (dk_at dksX3_buryZone_3 15 rfl rfl)
theorem dX3_buryZone_88 : decode cX3_buryZone 88 = .ok (.aload_n 0, 1) := dk_42 (dk_at dksX3_buryZone_3 16 rfl rfl)
theorem dX3_buryZone_89 : decode cX3_buryZone 89 = .ok (.getfield 73, 3) := dk_180 0 73 (dk_at dksX3_buryZone_3 17 rfl rfl)
theorem dX3_buryZone_92 : decode cX3_buryZone 92 = .ok (.iload_n 3, 1) := dk_29 (dk_at dksX3_buryZone_3 20 rfl rfl)
theorem dX3_buryZone_93 : decode cX3_buryZone 93 = .ok (.iaload, 1) := dk_46 (dk_at dksX3_buryZone_3 21 rfl rfl)
theorem dX3_buryZone_94 : decode cX3_buryZone 94 = .ok (.invokevirtual 235, 3) := dk_182 0 235 (dk_at dksX3_buryZone_4 0 rfl rfl)
theorem dX3_buryZone_97 : decode cX3_buryZone 97 = .ok (.aload 5, 2) := dk_25 5 (dk_at dksX3_buryZone_4 3 rfl rfl)
theorem dX3_buryZone_99 : decode cX3_buryZone 99 = .ok (.dup, 1) := dk_89 (dk_at dksX3_buryZone_4 5 rfl rfl)
theorem dX3_buryZone_100 : decode cX3_buryZone 100 = .ok (.getfield 265, 3) := dk_180 1 9 (dk_at dksX3_buryZone_4 6 rfl rfl)
theorem dX3_buryZone_103 : decode cX3_buryZone 103 = .ok (.iconst 1, 1) := dk_4 (dk_at dksX3_buryZone_4 9 rfl rfl)
theorem dX3_buryZone_104 : decode cX3_buryZone 104 = .ok (.iadd, 1) := dk_96 (dk_at dksX3_buryZone_4 10 rfl rfl)
theorem dX3_buryZone_105 : decode cX3_buryZone 105 = .ok (.putfield 265, 3) := dk_181 1 9 (dk_at dksX3_buryZone_4 11 rfl rfl)
theorem dX3_buryZone_108 : decode cX3_buryZone 108 = .ok (.iinc 3 1, 3) := dk_132 3 1 (dk_at dksX3_buryZone_4 14 rfl rfl)
theorem dX3_buryZone_111 : decode cX3_buryZone 111 = .ok (.iinc 4 1, 3) := dk_132 4 1 (dk_at dksX3_buryZone_4 17 rfl rfl)
theorem dX3_buryZone_114 : decode cX3_buryZone 114 = .ok (.goto (-82), 3) := dk_167 255 174 (dk_at dksX3_buryZone_4 20 rfl rfl)
theorem dX3_buryZone_117 : decode cX3_buryZone 117 = .ok (.aload_n 0, 1) := dk_42 (dk_at dksX3_buryZone_4 23 rfl rfl)
theorem dX3_buryZone_118 : decode cX3_buryZone 118 = .ok (.dup, 1) := dk_89 (dk_at dksX3_buryZone_5 0 rfl rfl)
theorem dX3_buryZone_119 : decode cX3_buryZone 119 = .ok (.getfield 96, 3) := dk_180 0 96 (dk_at dksX3_buryZone_5 1 rfl rfl)
theorem dX3_buryZone_122 : decode cX3_buryZone 122 = .ok (.iload_n 2, 1) := dk_28 (dk_at dksX3_buryZone_5 4 rfl rfl)
theorem dX3_buryZone_123 : decode cX3_buryZone 123 = .ok (.iadd, 1) := dk_96 (dk_at dksX3_buryZone_5 5 rfl rfl)
theorem dX3_buryZone_124 : decode cX3_buryZone 124 = .ok (.putfield 96, 3) := dk_181 0 96 (dk_at dksX3_buryZone_5 6 rfl rfl)
theorem dX3_buryZone_127 : decode cX3_buryZone 127 = .ok (.aload_n 0, 1) := dk_42 (dk_at dksX3_buryZone_5 9 rfl rfl)
theorem dX3_buryZone_128 : decode cX3_buryZone 128 = .ok (.iload_n 1, 1) := dk_27 (dk_at dksX3_buryZone_5 10 rfl rfl)
theorem dX3_buryZone_129 : decode cX3_buryZone 129 = .ok (.invokevirtual 251, 3) := dk_182 0 251 (dk_at dksX3_buryZone_5 11 rfl rfl)
theorem dX3_buryZone_132 : decode cX3_buryZone 132 = .ok (.iconst 0, 1) := dk_3 (dk_at dksX3_buryZone_5 14 rfl rfl)
theorem dX3_buryZone_133 : decode cX3_buryZone 133 = .ok (.ireturn, 1) := dk_172 (dk_at dksX3_buryZone_5 15 rfl rfl)
abbrev cX3_plan : ByteArray := prog_9_method_25_code
def yX3_plan : MethodName := ⟨RX3, "plan", "(I)I"⟩
def dkwX3_plan_7 : List UInt8 := [28, 172]
abbrev dktX3_plan_7 : List UInt8 := dkwX3_plan_7 ++ []
def dkwX3_plan_6 : List UInt8 := [180, 0, 70, 28, 21, 6, 79, 42, 180, 0, 73, 28, 21, 5, 79, 132, 2, 1, 132, 3, 1, 167, 255, 105]
abbrev dktX3_plan_6 : List UInt8 := dkwX3_plan_6 ++ dktX3_plan_7
def dkwX3_plan_5 : List UInt8 := [172, 42, 21, 6, 21, 5, 42, 180, 0, 80, 5, 46, 108, 25, 4, 180, 0, 167, 182, 1, 2, 42]
abbrev dktX3_plan_5 : List UInt8 := dkwX3_plan_5 ++ dktX3_plan_6
def dkwX3_plan_4 : List UInt8 := [180, 0, 80, 5, 46, 108, 25, 4, 180, 0, 167, 27, 182, 0, 226, 54, 6, 21, 6, 2, 160, 0, 5, 2]
abbrev dktX3_plan_4 : List UInt8 := dkwX3_plan_4 ++ dktX3_plan_5
def dkwX3_plan_3 : List UInt8 := [25, 4, 180, 0, 145, 182, 0, 223, 96, 42, 180, 0, 90, 4, 96, 184, 0, 161, 54, 5, 42, 21, 5, 42]
abbrev dktX3_plan_3 : List UInt8 := dkwX3_plan_3 ++ dktX3_plan_4
def dkwX3_plan_2 : List UInt8 := [167, 0, 111, 25, 4, 180, 0, 188, 42, 42, 182, 0, 221, 25, 4, 180, 0, 164, 25, 4, 180, 0, 167]
abbrev dktX3_plan_2 : List UInt8 := dkwX3_plan_2 ++ dktX3_plan_3
def dkwX3_plan_1 : List UInt8 := [180, 0, 12, 29, 185, 0, 116, 2, 0, 192, 0, 114, 58, 4, 25, 4, 180, 0, 191, 27, 159, 0, 6]
abbrev dktX3_plan_1 : List UInt8 := dkwX3_plan_1 ++ dktX3_plan_2
def dkwX3_plan_0 : List UInt8 := [42, 182, 0, 218, 3, 61, 3, 62, 29, 42, 180, 0, 12, 185, 0, 108, 1, 0, 162, 0, 144, 42]
abbrev dktX3_plan_0 : List UInt8 := dkwX3_plan_0 ++ dktX3_plan_1
theorem dksX3_plan_0 : cX3_plan.data.toList.drop 0 = dktX3_plan_0 := by decide +kernel
theorem dksX3_plan_1 : cX3_plan.data.toList.drop 22 = dktX3_plan_1 := dk_seg dksX3_plan_0 22 rfl rfl
theorem dksX3_plan_2 : cX3_plan.data.toList.drop 45 = dktX3_plan_2 := dk_seg dksX3_plan_1 23 rfl rfl
theorem dksX3_plan_3 : cX3_plan.data.toList.drop 68 = dktX3_plan_3 := dk_seg dksX3_plan_2 23 rfl rfl
theorem dksX3_plan_4 : cX3_plan.data.toList.drop 92 = dktX3_plan_4 := dk_seg dksX3_plan_3 24 rfl rfl
theorem dksX3_plan_5 : cX3_plan.data.toList.drop 116 = dktX3_plan_5 := dk_seg dksX3_plan_4 24 rfl rfl
theorem dksX3_plan_6 : cX3_plan.data.toList.drop 138 = dktX3_plan_6 := dk_seg dksX3_plan_5 22 rfl rfl
theorem dksX3_plan_7 : cX3_plan.data.toList.drop 162 = dktX3_plan_7 := dk_seg dksX3_plan_6 24 rfl rfl
theorem dX3_plan_0 : decode cX3_plan 0 = .ok (.aload_n 0, 1) := dk_42 (dk_at dksX3_plan_0 0 rfl rfl)
theorem dX3_plan_1 : decode cX3_plan 1 = .ok (.invokevirtual 218, 3) := dk_182 0 218 (dk_at dksX3_plan_0 1 rfl rfl)
theorem dX3_plan_4 : decode cX3_plan 4 = .ok (.iconst 0, 1) := dk_3 (dk_at dksX3_plan_0 4 rfl rfl)
theorem dX3_plan_5 : decode cX3_plan 5 = .ok (.istore_n 2, 1) := dk_61 (dk_at dksX3_plan_0 5 rfl rfl)
theorem dX3_plan_6 : decode cX3_plan 6 = .ok (.iconst 0, 1) := dk_3 (dk_at dksX3_plan_0 6 rfl rfl)
theorem dX3_plan_7 : decode cX3_plan 7 = .ok (.istore_n 3, 1) := dk_62 (dk_at dksX3_plan_0 7 rfl rfl)
theorem dX3_plan_8 : decode cX3_plan 8 = .ok (.iload_n 3, 1) := dk_29 (dk_at dksX3_plan_0 8 rfl rfl)
theorem dX3_plan_9 : decode cX3_plan 9 = .ok (.aload_n 0, 1) := dk_42 (dk_at dksX3_plan_0 9 rfl rfl)
theorem dX3_plan_10 : decode cX3_plan 10 = .ok (.getfield 12, 3) := dk_180 0 12 (dk_at dksX3_plan_0 10 rfl rfl)
theorem dX3_plan_13 : decode cX3_plan 13 = .ok (.invokeinterface 108 1, 5) := by decide +kernel
theorem dX3_plan_18 : decode cX3_plan 18 = .ok (.if_icmp .ge 144, 3) := dk_162 0 144 (dk_at dksX3_plan_0 18 rfl rfl)
theorem dX3_plan_21 : decode cX3_plan 21 = .ok (.aload_n 0, 1) := dk_42 (dk_at dksX3_plan_0 21 rfl rfl)
theorem dX3_plan_22 : decode cX3_plan 22 = .ok (.getfield 12, 3) := dk_180 0 12 (dk_at dksX3_plan_1 0 rfl rfl)
theorem dX3_plan_25 : decode cX3_plan 25 = .ok (.iload_n 3, 1) := dk_29 (dk_at dksX3_plan_1 3 rfl rfl)
theorem dX3_plan_26 : decode cX3_plan 26 = .ok (.invokeinterface 116 2, 5) := by decide +kernel
theorem dX3_plan_31 : decode cX3_plan 31 = .ok (.checkcast 114, 3) := dk_192 0 114 (dk_at dksX3_plan_1 9 rfl rfl)
theorem dX3_plan_34 : decode cX3_plan 34 = .ok (.astore 4, 2) := dk_58 4 (dk_at dksX3_plan_1 12 rfl rfl)
theorem dX3_plan_36 : decode cX3_plan 36 = .ok (.aload 4, 2) := dk_25 4 (dk_at dksX3_plan_1 14 rfl rfl)
theorem dX3_plan_38 : decode cX3_plan 38 = .ok (.getfield 191, 3) := dk_180 0 191 (dk_at dksX3_plan_1 16 rfl rfl)
theorem dX3_plan_41 : decode cX3_plan 41 = .ok (.iload_n 1, 1) := dk_27 (dk_at dksX3_plan_1 19 rfl rfl)
theorem dX3_plan_42 : decode cX3_plan 42 = .ok (.if_icmp .eq 6, 3) := dk_159 0 6 (dk_at dksX3_plan_1 20 rfl rfl)
theorem dX3_plan_45 : decode cX3_plan 45 = .ok (.goto 111, 3) := dk_167 0 111 (dk_at dksX3_plan_2 0 rfl rfl)
theorem dX3_plan_48 : decode cX3_plan 48 = .ok (.aload 4, 2) := dk_25 4 (dk_at dksX3_plan_2 3 rfl rfl)
theorem dX3_plan_50 : decode cX3_plan 50 = .ok (.getfield 188, 3) := dk_180 0 188 (dk_at dksX3_plan_2 5 rfl rfl)
theorem dX3_plan_53 : decode cX3_plan 53 = .ok (.aload_n 0, 1) := dk_42 (dk_at dksX3_plan_2 8 rfl rfl)
theorem dX3_plan_54 : decode cX3_plan 54 = .ok (.aload_n 0, 1) := dk_42 (dk_at dksX3_plan_2 9 rfl rfl)
theorem dX3_plan_55 : decode cX3_plan 55 = .ok (.invokevirtual 221, 3) := dk_182 0 221 (dk_at dksX3_plan_2 10 rfl rfl)
theorem dX3_plan_58 : decode cX3_plan 58 = .ok (.aload 4, 2) := dk_25 4 (dk_at dksX3_plan_2 13 rfl rfl)
theorem dX3_plan_60 : decode cX3_plan 60 = .ok (.getfield 164, 3) := dk_180 0 164 (dk_at dksX3_plan_2 15 rfl rfl)
theorem dX3_plan_63 : decode cX3_plan 63 = .ok (.aload 4, 2) := dk_25 4 (dk_at dksX3_plan_2 18 rfl rfl)
theorem dX3_plan_65 : decode cX3_plan 65 = .ok (.getfield 167, 3) := dk_180 0 167 (dk_at dksX3_plan_2 20 rfl rfl)
theorem dX3_plan_68 : decode cX3_plan 68 = .ok (.aload 4, 2) := dk_25 4 (dk_at dksX3_plan_3 0 rfl rfl)
theorem dX3_plan_70 : decode cX3_plan 70 = .ok (.getfield 145, 3) := dk_180 0 145 (dk_at dksX3_plan_3 2 rfl rfl)
theorem dX3_plan_73 : decode cX3_plan 73 = .ok (.invokevirtual 223, 3) := dk_182 0 223 (dk_at dksX3_plan_3 5 rfl rfl)
theorem dX3_plan_76 : decode cX3_plan 76 = .ok (.iadd, 1) := dk_96 (dk_at dksX3_plan_3 8 rfl rfl)
theorem dX3_plan_77 : decode cX3_plan 77 = .ok (.aload_n 0, 1) := dk_42 (dk_at dksX3_plan_3 9 rfl rfl)
theorem dX3_plan_78 : decode cX3_plan 78 = .ok (.getfield 90, 3) := dk_180 0 90 (dk_at dksX3_plan_3 10 rfl rfl)
theorem dX3_plan_81 : decode cX3_plan 81 = .ok (.iconst 1, 1) := dk_4 (dk_at dksX3_plan_3 13 rfl rfl)
theorem dX3_plan_82 : decode cX3_plan 82 = .ok (.iadd, 1) := dk_96 (dk_at dksX3_plan_3 14 rfl rfl)
theorem dX3_plan_83 : decode cX3_plan 83 = .ok (.invokestatic 161, 3) := dk_184 0 161 (dk_at dksX3_plan_3 15 rfl rfl)
theorem dX3_plan_86 : decode cX3_plan 86 = .ok (.istore 5, 2) := dk_54 5 (dk_at dksX3_plan_3 18 rfl rfl)
theorem dX3_plan_88 : decode cX3_plan 88 = .ok (.aload_n 0, 1) := dk_42 (dk_at dksX3_plan_3 20 rfl rfl)
theorem dX3_plan_89 : decode cX3_plan 89 = .ok (.iload 5, 2) := dk_21 5 (dk_at dksX3_plan_3 21 rfl rfl)
theorem dX3_plan_91 : decode cX3_plan 91 = .ok (.aload_n 0, 1) := dk_42 (dk_at dksX3_plan_3 23 rfl rfl)
theorem dX3_plan_92 : decode cX3_plan 92 = .ok (.getfield 80, 3) := dk_180 0 80 (dk_at dksX3_plan_4 0 rfl rfl)
theorem dX3_plan_95 : decode cX3_plan 95 = .ok (.iconst 2, 1) := dk_5 (dk_at dksX3_plan_4 3 rfl rfl)
theorem dX3_plan_96 : decode cX3_plan 96 = .ok (.iaload, 1) := dk_46 (dk_at dksX3_plan_4 4 rfl rfl)
theorem dX3_plan_97 : decode cX3_plan 97 = .ok (.idiv, 1) := dk_108 (dk_at dksX3_plan_4 5 rfl rfl)
theorem dX3_plan_98 : decode cX3_plan 98 = .ok (.aload 4, 2) := dk_25 4 (dk_at dksX3_plan_4 6 rfl rfl)
theorem dX3_plan_100 : decode cX3_plan 100 = .ok (.getfield 167, 3) := dk_180 0 167 (dk_at dksX3_plan_4 8 rfl rfl)
theorem dX3_plan_103 : decode cX3_plan 103 = .ok (.iload_n 1, 1) := dk_27 (dk_at dksX3_plan_4 11 rfl rfl)
theorem dX3_plan_104 : decode cX3_plan 104 = .ok (.invokevirtual 226, 3) := dk_182 0 226 (dk_at dksX3_plan_4 12 rfl rfl)
theorem dX3_plan_107 : decode cX3_plan 107 = .ok (.istore 6, 2) := dk_54 6 (dk_at dksX3_plan_4 15 rfl rfl)
theorem dX3_plan_109 : decode cX3_plan 109 = .ok (.iload 6, 2) := dk_21 6 (dk_at dksX3_plan_4 17 rfl rfl)
theorem dX3_plan_111 : decode cX3_plan 111 = .ok (.iconst (-1), 1) := dk_2 (dk_at dksX3_plan_4 19 rfl rfl)
theorem dX3_plan_112 : decode cX3_plan 112 = .ok (.if_icmp .ne 5, 3) := dk_160 0 5 (dk_at dksX3_plan_4 20 rfl rfl)
theorem dX3_plan_115 : decode cX3_plan 115 = .ok (.iconst (-1), 1) := dk_2 (dk_at dksX3_plan_4 23 rfl rfl)
theorem dX3_plan_116 : decode cX3_plan 116 = .ok (.ireturn, 1) := dk_172 (dk_at dksX3_plan_5 0 rfl rfl)
theorem dX3_plan_117 : decode cX3_plan 117 = .ok (.aload_n 0, 1) := dk_42 (dk_at dksX3_plan_5 1 rfl rfl)
theorem dX3_plan_118 : decode cX3_plan 118 = .ok (.iload 6, 2) := dk_21 6 (dk_at dksX3_plan_5 2 rfl rfl)
theorem dX3_plan_120 : decode cX3_plan 120 = .ok (.iload 5, 2) := dk_21 5 (dk_at dksX3_plan_5 4 rfl rfl)
theorem dX3_plan_122 : decode cX3_plan 122 = .ok (.aload_n 0, 1) := dk_42 (dk_at dksX3_plan_5 6 rfl rfl)
theorem dX3_plan_123 : decode cX3_plan 123 = .ok (.getfield 80, 3) := dk_180 0 80 (dk_at dksX3_plan_5 7 rfl rfl)
theorem dX3_plan_126 : decode cX3_plan 126 = .ok (.iconst 2, 1) := dk_5 (dk_at dksX3_plan_5 10 rfl rfl)
theorem dX3_plan_127 : decode cX3_plan 127 = .ok (.iaload, 1) := dk_46 (dk_at dksX3_plan_5 11 rfl rfl)
theorem dX3_plan_128 : decode cX3_plan 128 = .ok (.idiv, 1) := dk_108 (dk_at dksX3_plan_5 12 rfl rfl)
theorem dX3_plan_129 : decode cX3_plan 129 = .ok (.aload 4, 2) := dk_25 4 (dk_at dksX3_plan_5 13 rfl rfl)
theorem dX3_plan_131 : decode cX3_plan 131 = .ok (.getfield 167, 3) := dk_180 0 167 (dk_at dksX3_plan_5 15 rfl rfl)
theorem dX3_plan_134 : decode cX3_plan 134 = .ok (.invokevirtual 258, 3) := dk_182 1 2 (dk_at dksX3_plan_5 18 rfl rfl)
theorem dX3_plan_137 : decode cX3_plan 137 = .ok (.aload_n 0, 1) := dk_42 (dk_at dksX3_plan_5 21 rfl rfl)
theorem dX3_plan_138 : decode cX3_plan 138 = .ok (.getfield 70, 3) := dk_180 0 70 (dk_at dksX3_plan_6 0 rfl rfl)
theorem dX3_plan_141 : decode cX3_plan 141 = .ok (.iload_n 2, 1) := dk_28 (dk_at dksX3_plan_6 3 rfl rfl)
theorem dX3_plan_142 : decode cX3_plan 142 = .ok (.iload 6, 2) := dk_21 6 (dk_at dksX3_plan_6 4 rfl rfl)
theorem dX3_plan_144 : decode cX3_plan 144 = .ok (.iastore, 1) := dk_79 (dk_at dksX3_plan_6 6 rfl rfl)
theorem dX3_plan_145 : decode cX3_plan 145 = .ok (.aload_n 0, 1) := dk_42 (dk_at dksX3_plan_6 7 rfl rfl)
theorem dX3_plan_146 : decode cX3_plan 146 = .ok (.getfield 73, 3) := dk_180 0 73 (dk_at dksX3_plan_6 8 rfl rfl)
theorem dX3_plan_149 : decode cX3_plan 149 = .ok (.iload_n 2, 1) := dk_28 (dk_at dksX3_plan_6 11 rfl rfl)
theorem dX3_plan_150 : decode cX3_plan 150 = .ok (.iload 5, 2) := dk_21 5 (dk_at dksX3_plan_6 12 rfl rfl)
theorem dX3_plan_152 : decode cX3_plan 152 = .ok (.iastore, 1) := dk_79 (dk_at dksX3_plan_6 14 rfl rfl)
theorem dX3_plan_153 : decode cX3_plan 153 = .ok (.iinc 2 1, 3) := dk_132 2 1 (dk_at dksX3_plan_6 15 rfl rfl)
theorem dX3_plan_156 : decode cX3_plan 156 = .ok (.iinc 3 1, 3) := dk_132 3 1 (dk_at dksX3_plan_6 18 rfl rfl)
theorem dX3_plan_159 : decode cX3_plan 159 = .ok (.goto (-151), 3) := dk_167 255 105 (dk_at dksX3_plan_6 21 rfl rfl)
theorem dX3_plan_162 : decode cX3_plan 162 = .ok (.iload_n 2, 1) := dk_28 (dk_at dksX3_plan_7 0 rfl rfl)
theorem dX3_plan_163 : decode cX3_plan 163 = .ok (.ireturn, 1) := dk_172 (dk_at dksX3_plan_7 1 rfl rfl)
abbrev cX3_fill : ByteArray := prog_9_method_17_code
def yX3_fill : MethodName := ⟨RX3, "fill", "(III)V"⟩
def dkwX3_fill_1 : List UInt8 := [46, 79, 42, 180, 0, 67, 27, 92, 46, 29, 96, 79, 177]
abbrev dktX3_fill_1 : List UInt8 := dkwX3_fill_1 ++ []
def dkwX3_fill_0 : List UInt8 := [42, 180, 0, 64, 27, 42, 180, 0, 64, 27, 46, 2, 160, 0, 7, 28, 167, 0, 9, 42, 180, 0, 64, 27]
abbrev dktX3_fill_0 : List UInt8 := dkwX3_fill_0 ++ dktX3_fill_1
theorem dksX3_fill_0 : cX3_fill.data.toList.drop 0 = dktX3_fill_0 := by decide +kernel
theorem dksX3_fill_1 : cX3_fill.data.toList.drop 24 = dktX3_fill_1 := dk_seg dksX3_fill_0 24 rfl rfl
theorem dX3_fill_0 : decode cX3_fill 0 = .ok (.aload_n 0, 1) := dk_42 (dk_at dksX3_fill_0 0 rfl rfl)
theorem dX3_fill_1 : decode cX3_fill 1 = .ok (.getfield 64, 3) := dk_180 0 64 (dk_at dksX3_fill_0 1 rfl rfl)
theorem dX3_fill_4 : decode cX3_fill 4 = .ok (.iload_n 1, 1) := dk_27 (dk_at dksX3_fill_0 4 rfl rfl)
theorem dX3_fill_5 : decode cX3_fill 5 = .ok (.aload_n 0, 1) := dk_42 (dk_at dksX3_fill_0 5 rfl rfl)
theorem dX3_fill_6 : decode cX3_fill 6 = .ok (.getfield 64, 3) := dk_180 0 64 (dk_at dksX3_fill_0 6 rfl rfl)
theorem dX3_fill_9 : decode cX3_fill 9 = .ok (.iload_n 1, 1) := dk_27 (dk_at dksX3_fill_0 9 rfl rfl)
theorem dX3_fill_10 : decode cX3_fill 10 = .ok (.iaload, 1) := dk_46 (dk_at dksX3_fill_0 10 rfl rfl)
theorem dX3_fill_11 : decode cX3_fill 11 = .ok (.iconst (-1), 1) := dk_2 (dk_at dksX3_fill_0 11 rfl rfl)
theorem dX3_fill_12 : decode cX3_fill 12 = .ok (.if_icmp .ne 7, 3) := dk_160 0 7 (dk_at dksX3_fill_0 12 rfl rfl)
theorem dX3_fill_15 : decode cX3_fill 15 = .ok (.iload_n 2, 1) := dk_28 (dk_at dksX3_fill_0 15 rfl rfl)
theorem dX3_fill_16 : decode cX3_fill 16 = .ok (.goto 9, 3) := dk_167 0 9 (dk_at dksX3_fill_0 16 rfl rfl)
theorem dX3_fill_19 : decode cX3_fill 19 = .ok (.aload_n 0, 1) := dk_42 (dk_at dksX3_fill_0 19 rfl rfl)
theorem dX3_fill_20 : decode cX3_fill 20 = .ok (.getfield 64, 3) := dk_180 0 64 (dk_at dksX3_fill_0 20 rfl rfl)
theorem dX3_fill_23 : decode cX3_fill 23 = .ok (.iload_n 1, 1) := dk_27 (dk_at dksX3_fill_0 23 rfl rfl)
theorem dX3_fill_24 : decode cX3_fill 24 = .ok (.iaload, 1) := dk_46 (dk_at dksX3_fill_1 0 rfl rfl)
theorem dX3_fill_25 : decode cX3_fill 25 = .ok (.iastore, 1) := dk_79 (dk_at dksX3_fill_1 1 rfl rfl)
theorem dX3_fill_26 : decode cX3_fill 26 = .ok (.aload_n 0, 1) := dk_42 (dk_at dksX3_fill_1 2 rfl rfl)
theorem dX3_fill_27 : decode cX3_fill 27 = .ok (.getfield 67, 3) := dk_180 0 67 (dk_at dksX3_fill_1 3 rfl rfl)
theorem dX3_fill_30 : decode cX3_fill 30 = .ok (.iload_n 1, 1) := dk_27 (dk_at dksX3_fill_1 6 rfl rfl)
theorem dX3_fill_31 : decode cX3_fill 31 = .ok (.dup2, 1) := dk_92 (dk_at dksX3_fill_1 7 rfl rfl)
theorem dX3_fill_32 : decode cX3_fill 32 = .ok (.iaload, 1) := dk_46 (dk_at dksX3_fill_1 8 rfl rfl)
theorem dX3_fill_33 : decode cX3_fill 33 = .ok (.iload_n 3, 1) := dk_29 (dk_at dksX3_fill_1 9 rfl rfl)
theorem dX3_fill_34 : decode cX3_fill 34 = .ok (.iadd, 1) := dk_96 (dk_at dksX3_fill_1 10 rfl rfl)
theorem dX3_fill_35 : decode cX3_fill 35 = .ok (.iastore, 1) := dk_79 (dk_at dksX3_fill_1 11 rfl rfl)
theorem dX3_fill_36 : decode cX3_fill 36 = .ok (.return_, 1) := dk_177 (dk_at dksX3_fill_1 12 rfl rfl)
abbrev cX3_passAll : ByteArray := prog_9_method_29_code
def yX3_passAll : MethodName := ⟨RX3, "passAll", "(I)V"⟩
def dkwX3_passAll_0 : List UInt8 := [3, 61, 28, 27, 162, 0, 13, 42, 182, 1, 23, 132, 2, 1, 167, 255, 244, 177]
abbrev dktX3_passAll_0 : List UInt8 := dkwX3_passAll_0 ++ []
theorem dksX3_passAll_0 : cX3_passAll.data.toList.drop 0 = dktX3_passAll_0 := by decide +kernel
theorem dX3_passAll_0 : decode cX3_passAll 0 = .ok (.iconst 0, 1) := dk_3 (dk_at dksX3_passAll_0 0 rfl rfl)
theorem dX3_passAll_1 : decode cX3_passAll 1 = .ok (.istore_n 2, 1) := dk_61 (dk_at dksX3_passAll_0 1 rfl rfl)
theorem dX3_passAll_2 : decode cX3_passAll 2 = .ok (.iload_n 2, 1) := dk_28 (dk_at dksX3_passAll_0 2 rfl rfl)
theorem dX3_passAll_3 : decode cX3_passAll 3 = .ok (.iload_n 1, 1) := dk_27 (dk_at dksX3_passAll_0 3 rfl rfl)
theorem dX3_passAll_4 : decode cX3_passAll 4 = .ok (.if_icmp .ge 13, 3) := dk_162 0 13 (dk_at dksX3_passAll_0 4 rfl rfl)
theorem dX3_passAll_7 : decode cX3_passAll 7 = .ok (.aload_n 0, 1) := dk_42 (dk_at dksX3_passAll_0 7 rfl rfl)
theorem dX3_passAll_8 : decode cX3_passAll 8 = .ok (.invokevirtual 279, 3) := dk_182 1 23 (dk_at dksX3_passAll_0 8 rfl rfl)
theorem dX3_passAll_11 : decode cX3_passAll 11 = .ok (.iinc 2 1, 3) := dk_132 2 1 (dk_at dksX3_passAll_0 11 rfl rfl)
theorem dX3_passAll_14 : decode cX3_passAll 14 = .ok (.goto (-12), 3) := dk_167 255 244 (dk_at dksX3_passAll_0 14 rfl rfl)
theorem dX3_passAll_17 : decode cX3_passAll 17 = .ok (.return_, 1) := dk_177 (dk_at dksX3_passAll_0 17 rfl rfl)
abbrev cX3_pass : ByteArray := prog_9_method_28_code
def yX3_pass : MethodName := ⟨RX3, "pass", "()V"⟩
def dkwX3_pass_5 : List UInt8 := [167, 0, 8, 42, 27, 182, 1, 20, 61, 132, 1, 1, 167, 255, 204, 177]
abbrev dktX3_pass_5 : List UInt8 := dkwX3_pass_5 ++ []
def dkwX3_pass_4 : List UInt8 := [182, 1, 14, 154, 0, 6, 167, 0, 25, 42, 27, 182, 0, 248, 154, 0, 11, 42, 27, 182, 1, 17]
abbrev dktX3_pass_4 : List UInt8 := dkwX3_pass_4 ++ dktX3_pass_5
def dkwX3_pass_3 : List UInt8 := [167, 255, 200, 3, 60, 27, 42, 180, 0, 80, 3, 46, 162, 0, 48, 42, 27, 42, 180, 0, 80, 6, 46]
abbrev dktX3_pass_3 : List UInt8 := dkwX3_pass_3 ++ dktX3_pass_4
def dkwX3_pass_2 : List UInt8 := [153, 0, 20, 42, 42, 180, 0, 12, 27, 185, 0, 116, 2, 0, 192, 0, 114, 182, 0, 241, 132, 1, 1]
abbrev dktX3_pass_2 : List UInt8 := dkwX3_pass_2 ++ dktX3_pass_3
def dkwX3_pass_1 : List UInt8 := [162, 0, 49, 42, 180, 0, 12, 27, 185, 0, 116, 2, 0, 192, 0, 114, 42, 180, 0, 90, 182, 1, 10]
abbrev dktX3_pass_1 : List UInt8 := dkwX3_pass_1 ++ dktX3_pass_2
def dkwX3_pass_0 : List UInt8 := [42, 89, 180, 0, 90, 4, 96, 181, 0, 90, 3, 60, 27, 42, 180, 0, 12, 185, 0, 108, 1, 0]
abbrev dktX3_pass_0 : List UInt8 := dkwX3_pass_0 ++ dktX3_pass_1
theorem dksX3_pass_0 : cX3_pass.data.toList.drop 0 = dktX3_pass_0 := by decide +kernel
theorem dksX3_pass_1 : cX3_pass.data.toList.drop 22 = dktX3_pass_1 := dk_seg dksX3_pass_0 22 rfl rfl
theorem dksX3_pass_2 : cX3_pass.data.toList.drop 45 = dktX3_pass_2 := dk_seg dksX3_pass_1 23 rfl rfl
theorem dksX3_pass_3 : cX3_pass.data.toList.drop 68 = dktX3_pass_3 := dk_seg dksX3_pass_2 23 rfl rfl
theorem dksX3_pass_4 : cX3_pass.data.toList.drop 91 = dktX3_pass_4 := dk_seg dksX3_pass_3 23 rfl rfl
theorem dksX3_pass_5 : cX3_pass.data.toList.drop 113 = dktX3_pass_5 := dk_seg dksX3_pass_4 22 rfl rfl
theorem dX3_pass_0 : decode cX3_pass 0 = .ok (.aload_n 0, 1) := dk_42 (dk_at dksX3_pass_0 0 rfl rfl)
theorem dX3_pass_1 : decode cX3_pass 1 = .ok (.dup, 1) := dk_89 (dk_at dksX3_pass_0 1 rfl rfl)
theorem dX3_pass_2 : decode cX3_pass 2 = .ok (.getfield 90, 3) := dk_180 0 90 (dk_at dksX3_pass_0 2 rfl rfl)
theorem dX3_pass_5 : decode cX3_pass 5 = .ok (.iconst 1, 1) := dk_4 (dk_at dksX3_pass_0 5 rfl rfl)
theorem dX3_pass_6 : decode cX3_pass 6 = .ok (.iadd, 1) := dk_96 (dk_at dksX3_pass_0 6 rfl rfl)
theorem dX3_pass_7 : decode cX3_pass 7 = .ok (.putfield 90, 3) := dk_181 0 90 (dk_at dksX3_pass_0 7 rfl rfl)
theorem dX3_pass_10 : decode cX3_pass 10 = .ok (.iconst 0, 1) := dk_3 (dk_at dksX3_pass_0 10 rfl rfl)
theorem dX3_pass_11 : decode cX3_pass 11 = .ok (.istore_n 1, 1) := dk_60 (dk_at dksX3_pass_0 11 rfl rfl)
theorem dX3_pass_12 : decode cX3_pass 12 = .ok (.iload_n 1, 1) := dk_27 (dk_at dksX3_pass_0 12 rfl rfl)
theorem dX3_pass_13 : decode cX3_pass 13 = .ok (.aload_n 0, 1) := dk_42 (dk_at dksX3_pass_0 13 rfl rfl)
theorem dX3_pass_14 : decode cX3_pass 14 = .ok (.getfield 12, 3) := dk_180 0 12 (dk_at dksX3_pass_0 14 rfl rfl)
theorem dX3_pass_17 : decode cX3_pass 17 = .ok (.invokeinterface 108 1, 5) := by decide +kernel
theorem dX3_pass_22 : decode cX3_pass 22 = .ok (.if_icmp .ge 49, 3) := dk_162 0 49 (dk_at dksX3_pass_1 0 rfl rfl)
theorem dX3_pass_25 : decode cX3_pass 25 = .ok (.aload_n 0, 1) := dk_42 (dk_at dksX3_pass_1 3 rfl rfl)
theorem dX3_pass_26 : decode cX3_pass 26 = .ok (.getfield 12, 3) := dk_180 0 12 (dk_at dksX3_pass_1 4 rfl rfl)
theorem dX3_pass_29 : decode cX3_pass 29 = .ok (.iload_n 1, 1) := dk_27 (dk_at dksX3_pass_1 7 rfl rfl)
theorem dX3_pass_30 : decode cX3_pass 30 = .ok (.invokeinterface 116 2, 5) := by decide +kernel
theorem dX3_pass_35 : decode cX3_pass 35 = .ok (.checkcast 114, 3) := dk_192 0 114 (dk_at dksX3_pass_1 13 rfl rfl)
theorem dX3_pass_38 : decode cX3_pass 38 = .ok (.aload_n 0, 1) := dk_42 (dk_at dksX3_pass_1 16 rfl rfl)
theorem dX3_pass_39 : decode cX3_pass 39 = .ok (.getfield 90, 3) := dk_180 0 90 (dk_at dksX3_pass_1 17 rfl rfl)
theorem dX3_pass_42 : decode cX3_pass 42 = .ok (.invokevirtual 266, 3) := dk_182 1 10 (dk_at dksX3_pass_1 20 rfl rfl)
theorem dX3_pass_45 : decode cX3_pass 45 = .ok (.ifCond .eq 20, 3) := dk_153 0 20 (dk_at dksX3_pass_2 0 rfl rfl)
theorem dX3_pass_48 : decode cX3_pass 48 = .ok (.aload_n 0, 1) := dk_42 (dk_at dksX3_pass_2 3 rfl rfl)
theorem dX3_pass_49 : decode cX3_pass 49 = .ok (.aload_n 0, 1) := dk_42 (dk_at dksX3_pass_2 4 rfl rfl)
theorem dX3_pass_50 : decode cX3_pass 50 = .ok (.getfield 12, 3) := dk_180 0 12 (dk_at dksX3_pass_2 5 rfl rfl)
theorem dX3_pass_53 : decode cX3_pass 53 = .ok (.iload_n 1, 1) := dk_27 (dk_at dksX3_pass_2 8 rfl rfl)
theorem dX3_pass_54 : decode cX3_pass 54 = .ok (.invokeinterface 116 2, 5) := by decide +kernel
theorem dX3_pass_59 : decode cX3_pass 59 = .ok (.checkcast 114, 3) := dk_192 0 114 (dk_at dksX3_pass_2 14 rfl rfl)
theorem dX3_pass_62 : decode cX3_pass 62 = .ok (.invokevirtual 241, 3) := dk_182 0 241 (dk_at dksX3_pass_2 17 rfl rfl)
theorem dX3_pass_65 : decode cX3_pass 65 = .ok (.iinc 1 1, 3) := dk_132 1 1 (dk_at dksX3_pass_2 20 rfl rfl)
theorem dX3_pass_68 : decode cX3_pass 68 = .ok (.goto (-56), 3) := dk_167 255 200 (dk_at dksX3_pass_3 0 rfl rfl)
theorem dX3_pass_71 : decode cX3_pass 71 = .ok (.iconst 0, 1) := dk_3 (dk_at dksX3_pass_3 3 rfl rfl)
theorem dX3_pass_72 : decode cX3_pass 72 = .ok (.istore_n 1, 1) := dk_60 (dk_at dksX3_pass_3 4 rfl rfl)
theorem dX3_pass_73 : decode cX3_pass 73 = .ok (.iload_n 1, 1) := dk_27 (dk_at dksX3_pass_3 5 rfl rfl)
theorem dX3_pass_74 : decode cX3_pass 74 = .ok (.aload_n 0, 1) := dk_42 (dk_at dksX3_pass_3 6 rfl rfl)
theorem dX3_pass_75 : decode cX3_pass 75 = .ok (.getfield 80, 3) := dk_180 0 80 (dk_at dksX3_pass_3 7 rfl rfl)
theorem dX3_pass_78 : decode cX3_pass 78 = .ok (.iconst 0, 1) := dk_3 (dk_at dksX3_pass_3 10 rfl rfl)
theorem dX3_pass_79 : decode cX3_pass 79 = .ok (.iaload, 1) := dk_46 (dk_at dksX3_pass_3 11 rfl rfl)
theorem dX3_pass_80 : decode cX3_pass 80 = .ok (.if_icmp .ge 48, 3) := dk_162 0 48 (dk_at dksX3_pass_3 12 rfl rfl)
theorem dX3_pass_83 : decode cX3_pass 83 = .ok (.aload_n 0, 1) := dk_42 (dk_at dksX3_pass_3 15 rfl rfl)
theorem dX3_pass_84 : decode cX3_pass 84 = .ok (.iload_n 1, 1) := dk_27 (dk_at dksX3_pass_3 16 rfl rfl)
theorem dX3_pass_85 : decode cX3_pass 85 = .ok (.aload_n 0, 1) := dk_42 (dk_at dksX3_pass_3 17 rfl rfl)
theorem dX3_pass_86 : decode cX3_pass 86 = .ok (.getfield 80, 3) := dk_180 0 80 (dk_at dksX3_pass_3 18 rfl rfl)
theorem dX3_pass_89 : decode cX3_pass 89 = .ok (.iconst 3, 1) := dk_6 (dk_at dksX3_pass_3 21 rfl rfl)
theorem dX3_pass_90 : decode cX3_pass 90 = .ok (.iaload, 1) := dk_46 (dk_at dksX3_pass_3 22 rfl rfl)
theorem dX3_pass_91 : decode cX3_pass 91 = .ok (.invokevirtual 270, 3) := dk_182 1 14 (dk_at dksX3_pass_4 0 rfl rfl)
theorem dX3_pass_94 : decode cX3_pass 94 = .ok (.ifCond .ne 6, 3) := dk_154 0 6 (dk_at dksX3_pass_4 3 rfl rfl)
theorem dX3_pass_97 : decode cX3_pass 97 = .ok (.goto 25, 3) := dk_167 0 25 (dk_at dksX3_pass_4 6 rfl rfl)
theorem dX3_pass_100 : decode cX3_pass 100 = .ok (.aload_n 0, 1) := dk_42 (dk_at dksX3_pass_4 9 rfl rfl)
theorem dX3_pass_101 : decode cX3_pass 101 = .ok (.iload_n 1, 1) := dk_27 (dk_at dksX3_pass_4 10 rfl rfl)
theorem dX3_pass_102 : decode cX3_pass 102 = .ok (.invokevirtual 248, 3) := dk_182 0 248 (dk_at dksX3_pass_4 11 rfl rfl)
theorem dX3_pass_105 : decode cX3_pass 105 = .ok (.ifCond .ne 11, 3) := dk_154 0 11 (dk_at dksX3_pass_4 14 rfl rfl)
theorem dX3_pass_108 : decode cX3_pass 108 = .ok (.aload_n 0, 1) := dk_42 (dk_at dksX3_pass_4 17 rfl rfl)
theorem dX3_pass_109 : decode cX3_pass 109 = .ok (.iload_n 1, 1) := dk_27 (dk_at dksX3_pass_4 18 rfl rfl)
theorem dX3_pass_110 : decode cX3_pass 110 = .ok (.invokevirtual 273, 3) := dk_182 1 17 (dk_at dksX3_pass_4 19 rfl rfl)
theorem dX3_pass_113 : decode cX3_pass 113 = .ok (.goto 8, 3) := dk_167 0 8 (dk_at dksX3_pass_5 0 rfl rfl)
theorem dX3_pass_116 : decode cX3_pass 116 = .ok (.aload_n 0, 1) := dk_42 (dk_at dksX3_pass_5 3 rfl rfl)
theorem dX3_pass_117 : decode cX3_pass 117 = .ok (.iload_n 1, 1) := dk_27 (dk_at dksX3_pass_5 4 rfl rfl)
theorem dX3_pass_118 : decode cX3_pass 118 = .ok (.invokevirtual 276, 3) := dk_182 1 20 (dk_at dksX3_pass_5 5 rfl rfl)
theorem dX3_pass_121 : decode cX3_pass 121 = .ok (.istore_n 2, 1) := dk_61 (dk_at dksX3_pass_5 8 rfl rfl)
theorem dX3_pass_122 : decode cX3_pass 122 = .ok (.iinc 1 1, 3) := dk_132 1 1 (dk_at dksX3_pass_5 9 rfl rfl)
theorem dX3_pass_125 : decode cX3_pass 125 = .ok (.goto (-52), 3) := dk_167 255 204 (dk_at dksX3_pass_5 12 rfl rfl)
theorem dX3_pass_128 : decode cX3_pass 128 = .ok (.return_, 1) := dk_177 (dk_at dksX3_pass_5 15 rfl rfl)
abbrev cX3_isOver : ByteArray := prog_9_method_27_code
def yX3_isOver : MethodName := ⟨RX3, "isOver", "(II)Z"⟩
def dkwX3_isOver_1 : List UInt8 := [180, 0, 80, 5, 46, 104, 4, 100, 28, 96, 42, 180, 0, 90, 162, 0, 7, 4, 167, 0, 4, 3, 172]
abbrev dktX3_isOver_1 : List UInt8 := dkwX3_isOver_1 ++ []
def dkwX3_isOver_0 : List UInt8 := [42, 180, 0, 20, 27, 50, 182, 0, 214, 154, 0, 36, 42, 180, 0, 20, 27, 50, 180, 0, 137, 4, 96, 42]
abbrev dktX3_isOver_0 : List UInt8 := dkwX3_isOver_0 ++ dktX3_isOver_1
theorem dksX3_isOver_0 : cX3_isOver.data.toList.drop 0 = dktX3_isOver_0 := by decide +kernel
theorem dksX3_isOver_1 : cX3_isOver.data.toList.drop 24 = dktX3_isOver_1 := dk_seg dksX3_isOver_0 24 rfl rfl
theorem dX3_isOver_0 : decode cX3_isOver 0 = .ok (.aload_n 0, 1) := dk_42 (dk_at dksX3_isOver_0 0 rfl rfl)
theorem dX3_isOver_1 : decode cX3_isOver 1 = .ok (.getfield 20, 3) := dk_180 0 20 (dk_at dksX3_isOver_0 1 rfl rfl)
theorem dX3_isOver_4 : decode cX3_isOver 4 = .ok (.iload_n 1, 1) := dk_27 (dk_at dksX3_isOver_0 4 rfl rfl)
theorem dX3_isOver_5 : decode cX3_isOver 5 = .ok (.aaload, 1) := dk_50 (dk_at dksX3_isOver_0 5 rfl rfl)
theorem dX3_isOver_6 : decode cX3_isOver 6 = .ok (.invokevirtual 214, 3) := dk_182 0 214 (dk_at dksX3_isOver_0 6 rfl rfl)
theorem dX3_isOver_9 : decode cX3_isOver 9 = .ok (.ifCond .ne 36, 3) := dk_154 0 36 (dk_at dksX3_isOver_0 9 rfl rfl)
theorem dX3_isOver_12 : decode cX3_isOver 12 = .ok (.aload_n 0, 1) := dk_42 (dk_at dksX3_isOver_0 12 rfl rfl)
theorem dX3_isOver_13 : decode cX3_isOver 13 = .ok (.getfield 20, 3) := dk_180 0 20 (dk_at dksX3_isOver_0 13 rfl rfl)
theorem dX3_isOver_16 : decode cX3_isOver 16 = .ok (.iload_n 1, 1) := dk_27 (dk_at dksX3_isOver_0 16 rfl rfl)
theorem dX3_isOver_17 : decode cX3_isOver 17 = .ok (.aaload, 1) := dk_50 (dk_at dksX3_isOver_0 17 rfl rfl)
theorem dX3_isOver_18 : decode cX3_isOver 18 = .ok (.getfield 137, 3) := dk_180 0 137 (dk_at dksX3_isOver_0 18 rfl rfl)
theorem dX3_isOver_21 : decode cX3_isOver 21 = .ok (.iconst 1, 1) := dk_4 (dk_at dksX3_isOver_0 21 rfl rfl)
theorem dX3_isOver_22 : decode cX3_isOver 22 = .ok (.iadd, 1) := dk_96 (dk_at dksX3_isOver_0 22 rfl rfl)
theorem dX3_isOver_23 : decode cX3_isOver 23 = .ok (.aload_n 0, 1) := dk_42 (dk_at dksX3_isOver_0 23 rfl rfl)
theorem dX3_isOver_24 : decode cX3_isOver 24 = .ok (.getfield 80, 3) := dk_180 0 80 (dk_at dksX3_isOver_1 0 rfl rfl)
theorem dX3_isOver_27 : decode cX3_isOver 27 = .ok (.iconst 2, 1) := dk_5 (dk_at dksX3_isOver_1 3 rfl rfl)
theorem dX3_isOver_28 : decode cX3_isOver 28 = .ok (.iaload, 1) := dk_46 (dk_at dksX3_isOver_1 4 rfl rfl)
theorem dX3_isOver_29 : decode cX3_isOver 29 = .ok (.imul, 1) := dk_104 (dk_at dksX3_isOver_1 5 rfl rfl)
theorem dX3_isOver_30 : decode cX3_isOver 30 = .ok (.iconst 1, 1) := dk_4 (dk_at dksX3_isOver_1 6 rfl rfl)
theorem dX3_isOver_31 : decode cX3_isOver 31 = .ok (.isub, 1) := dk_100 (dk_at dksX3_isOver_1 7 rfl rfl)
theorem dX3_isOver_32 : decode cX3_isOver 32 = .ok (.iload_n 2, 1) := dk_28 (dk_at dksX3_isOver_1 8 rfl rfl)
theorem dX3_isOver_33 : decode cX3_isOver 33 = .ok (.iadd, 1) := dk_96 (dk_at dksX3_isOver_1 9 rfl rfl)
theorem dX3_isOver_34 : decode cX3_isOver 34 = .ok (.aload_n 0, 1) := dk_42 (dk_at dksX3_isOver_1 10 rfl rfl)
theorem dX3_isOver_35 : decode cX3_isOver 35 = .ok (.getfield 90, 3) := dk_180 0 90 (dk_at dksX3_isOver_1 11 rfl rfl)
theorem dX3_isOver_38 : decode cX3_isOver 38 = .ok (.if_icmp .ge 7, 3) := dk_162 0 7 (dk_at dksX3_isOver_1 14 rfl rfl)
theorem dX3_isOver_41 : decode cX3_isOver 41 = .ok (.iconst 1, 1) := dk_4 (dk_at dksX3_isOver_1 17 rfl rfl)
theorem dX3_isOver_42 : decode cX3_isOver 42 = .ok (.goto 4, 3) := dk_167 0 4 (dk_at dksX3_isOver_1 18 rfl rfl)
theorem dX3_isOver_45 : decode cX3_isOver 45 = .ok (.iconst 0, 1) := dk_3 (dk_at dksX3_isOver_1 21 rfl rfl)
theorem dX3_isOver_46 : decode cX3_isOver 46 = .ok (.ireturn, 1) := dk_172 (dk_at dksX3_isOver_1 22 rfl rfl)
abbrev cX3_living : ByteArray := prog_9_method_32_code
def yX3_living : MethodName := ⟨RX3, "living", "(Z)I"⟩
def dkwX3_living_3 : List UInt8 := [167, 255, 190, 28, 172]
abbrev dktX3_living_3 : List UInt8 := dkwX3_living_3 ++ []
def dkwX3_living_2 : List UInt8 := [180, 0, 12, 29, 185, 0, 116, 2, 0, 192, 0, 114, 180, 0, 167, 167, 0, 4, 4, 96, 61, 132, 3, 1]
abbrev dktX3_living_2 : List UInt8 := dkwX3_living_2 ++ dktX3_living_3
def dkwX3_living_1 : List UInt8 := [185, 0, 116, 2, 0, 192, 0, 114, 182, 0, 239, 154, 0, 7, 3, 167, 0, 27, 27, 153, 0, 22, 42]
abbrev dktX3_living_1 : List UInt8 := dkwX3_living_1 ++ dktX3_living_2
def dkwX3_living_0 : List UInt8 := [3, 61, 3, 62, 29, 42, 180, 0, 12, 185, 0, 108, 1, 0, 162, 0, 59, 28, 42, 180, 0, 12, 29]
abbrev dktX3_living_0 : List UInt8 := dkwX3_living_0 ++ dktX3_living_1
theorem dksX3_living_0 : cX3_living.data.toList.drop 0 = dktX3_living_0 := by decide +kernel
theorem dksX3_living_1 : cX3_living.data.toList.drop 23 = dktX3_living_1 := dk_seg dksX3_living_0 23 rfl rfl
theorem dksX3_living_2 : cX3_living.data.toList.drop 46 = dktX3_living_2 := dk_seg dksX3_living_1 23 rfl rfl
theorem dksX3_living_3 : cX3_living.data.toList.drop 70 = dktX3_living_3 := dk_seg dksX3_living_2 24 rfl rfl
theorem dX3_living_0 : decode cX3_living 0 = .ok (.iconst 0, 1) := dk_3 (dk_at dksX3_living_0 0 rfl rfl)
theorem dX3_living_1 : decode cX3_living 1 = .ok (.istore_n 2, 1) := dk_61 (dk_at dksX3_living_0 1 rfl rfl)
theorem dX3_living_2 : decode cX3_living 2 = .ok (.iconst 0, 1) := dk_3 (dk_at dksX3_living_0 2 rfl rfl)
theorem dX3_living_3 : decode cX3_living 3 = .ok (.istore_n 3, 1) := dk_62 (dk_at dksX3_living_0 3 rfl rfl)
theorem dX3_living_4 : decode cX3_living 4 = .ok (.iload_n 3, 1) := dk_29 (dk_at dksX3_living_0 4 rfl rfl)
theorem dX3_living_5 : decode cX3_living 5 = .ok (.aload_n 0, 1) := dk_42 (dk_at dksX3_living_0 5 rfl rfl)
theorem dX3_living_6 : decode cX3_living 6 = .ok (.getfield 12, 3) := dk_180 0 12 (dk_at dksX3_living_0 6 rfl rfl)
theorem dX3_living_9 : decode cX3_living 9 = .ok (.invokeinterface 108 1, 5) := by decide +kernel
theorem dX3_living_14 : decode cX3_living 14 = .ok (.if_icmp .ge 59, 3) := dk_162 0 59 (dk_at dksX3_living_0 14 rfl rfl)
theorem dX3_living_17 : decode cX3_living 17 = .ok (.iload_n 2, 1) := dk_28 (dk_at dksX3_living_0 17 rfl rfl)
theorem dX3_living_18 : decode cX3_living 18 = .ok (.aload_n 0, 1) := dk_42 (dk_at dksX3_living_0 18 rfl rfl)
theorem dX3_living_19 : decode cX3_living 19 = .ok (.getfield 12, 3) := dk_180 0 12 (dk_at dksX3_living_0 19 rfl rfl)
theorem dX3_living_22 : decode cX3_living 22 = .ok (.iload_n 3, 1) := dk_29 (dk_at dksX3_living_0 22 rfl rfl)
theorem dX3_living_23 : decode cX3_living 23 = .ok (.invokeinterface 116 2, 5) := by decide +kernel
theorem dX3_living_28 : decode cX3_living 28 = .ok (.checkcast 114, 3) := dk_192 0 114 (dk_at dksX3_living_1 5 rfl rfl)
theorem dX3_living_31 : decode cX3_living 31 = .ok (.invokevirtual 239, 3) := dk_182 0 239 (dk_at dksX3_living_1 8 rfl rfl)
theorem dX3_living_34 : decode cX3_living 34 = .ok (.ifCond .ne 7, 3) := dk_154 0 7 (dk_at dksX3_living_1 11 rfl rfl)
theorem dX3_living_37 : decode cX3_living 37 = .ok (.iconst 0, 1) := dk_3 (dk_at dksX3_living_1 14 rfl rfl)
theorem dX3_living_38 : decode cX3_living 38 = .ok (.goto 27, 3) := dk_167 0 27 (dk_at dksX3_living_1 15 rfl rfl)
theorem dX3_living_41 : decode cX3_living 41 = .ok (.iload_n 1, 1) := dk_27 (dk_at dksX3_living_1 18 rfl rfl)
theorem dX3_living_42 : decode cX3_living 42 = .ok (.ifCond .eq 22, 3) := dk_153 0 22 (dk_at dksX3_living_1 19 rfl rfl)
theorem dX3_living_45 : decode cX3_living 45 = .ok (.aload_n 0, 1) := dk_42 (dk_at dksX3_living_1 22 rfl rfl)
theorem dX3_living_46 : decode cX3_living 46 = .ok (.getfield 12, 3) := dk_180 0 12 (dk_at dksX3_living_2 0 rfl rfl)
theorem dX3_living_49 : decode cX3_living 49 = .ok (.iload_n 3, 1) := dk_29 (dk_at dksX3_living_2 3 rfl rfl)
theorem dX3_living_50 : decode cX3_living 50 = .ok (.invokeinterface 116 2, 5) := by decide +kernel
theorem dX3_living_55 : decode cX3_living 55 = .ok (.checkcast 114, 3) := dk_192 0 114 (dk_at dksX3_living_2 9 rfl rfl)
theorem dX3_living_58 : decode cX3_living 58 = .ok (.getfield 167, 3) := dk_180 0 167 (dk_at dksX3_living_2 12 rfl rfl)
theorem dX3_living_61 : decode cX3_living 61 = .ok (.goto 4, 3) := dk_167 0 4 (dk_at dksX3_living_2 15 rfl rfl)
theorem dX3_living_64 : decode cX3_living 64 = .ok (.iconst 1, 1) := dk_4 (dk_at dksX3_living_2 18 rfl rfl)
theorem dX3_living_65 : decode cX3_living 65 = .ok (.iadd, 1) := dk_96 (dk_at dksX3_living_2 19 rfl rfl)
theorem dX3_living_66 : decode cX3_living 66 = .ok (.istore_n 2, 1) := dk_61 (dk_at dksX3_living_2 20 rfl rfl)
theorem dX3_living_67 : decode cX3_living 67 = .ok (.iinc 3 1, 3) := dk_132 3 1 (dk_at dksX3_living_2 21 rfl rfl)
theorem dX3_living_70 : decode cX3_living 70 = .ok (.goto (-66), 3) := dk_167 255 190 (dk_at dksX3_living_3 0 rfl rfl)
theorem dX3_living_73 : decode cX3_living 73 = .ok (.iload_n 2, 1) := dk_28 (dk_at dksX3_living_3 3 rfl rfl)
theorem dX3_living_74 : decode cX3_living 74 = .ok (.ireturn, 1) := dk_172 (dk_at dksX3_living_3 4 rfl rfl)
abbrev cX3_free : ByteArray := prog_9_method_31_code
def yX3_free : MethodName := ⟨RX3, "free", "()I"⟩
def dkwX3_free_1 : List UInt8 := [184, 0, 244, 96, 60, 132, 2, 1, 167, 255, 228, 27, 172]
abbrev dktX3_free_1 : List UInt8 := dkwX3_free_1 ++ []
def dkwX3_free_0 : List UInt8 := [3, 60, 3, 61, 28, 42, 180, 0, 80, 3, 46, 162, 0, 24, 27, 42, 180, 0, 20, 28, 50, 182, 0, 214]
abbrev dktX3_free_0 : List UInt8 := dkwX3_free_0 ++ dktX3_free_1
theorem dksX3_free_0 : cX3_free.data.toList.drop 0 = dktX3_free_0 := by decide +kernel
theorem dksX3_free_1 : cX3_free.data.toList.drop 24 = dktX3_free_1 := dk_seg dksX3_free_0 24 rfl rfl
theorem dX3_free_0 : decode cX3_free 0 = .ok (.iconst 0, 1) := dk_3 (dk_at dksX3_free_0 0 rfl rfl)
theorem dX3_free_1 : decode cX3_free 1 = .ok (.istore_n 1, 1) := dk_60 (dk_at dksX3_free_0 1 rfl rfl)
theorem dX3_free_2 : decode cX3_free 2 = .ok (.iconst 0, 1) := dk_3 (dk_at dksX3_free_0 2 rfl rfl)
theorem dX3_free_3 : decode cX3_free 3 = .ok (.istore_n 2, 1) := dk_61 (dk_at dksX3_free_0 3 rfl rfl)
theorem dX3_free_4 : decode cX3_free 4 = .ok (.iload_n 2, 1) := dk_28 (dk_at dksX3_free_0 4 rfl rfl)
theorem dX3_free_5 : decode cX3_free 5 = .ok (.aload_n 0, 1) := dk_42 (dk_at dksX3_free_0 5 rfl rfl)
theorem dX3_free_6 : decode cX3_free 6 = .ok (.getfield 80, 3) := dk_180 0 80 (dk_at dksX3_free_0 6 rfl rfl)
theorem dX3_free_9 : decode cX3_free 9 = .ok (.iconst 0, 1) := dk_3 (dk_at dksX3_free_0 9 rfl rfl)
theorem dX3_free_10 : decode cX3_free 10 = .ok (.iaload, 1) := dk_46 (dk_at dksX3_free_0 10 rfl rfl)
theorem dX3_free_11 : decode cX3_free 11 = .ok (.if_icmp .ge 24, 3) := dk_162 0 24 (dk_at dksX3_free_0 11 rfl rfl)
theorem dX3_free_14 : decode cX3_free 14 = .ok (.iload_n 1, 1) := dk_27 (dk_at dksX3_free_0 14 rfl rfl)
theorem dX3_free_15 : decode cX3_free 15 = .ok (.aload_n 0, 1) := dk_42 (dk_at dksX3_free_0 15 rfl rfl)
theorem dX3_free_16 : decode cX3_free 16 = .ok (.getfield 20, 3) := dk_180 0 20 (dk_at dksX3_free_0 16 rfl rfl)
theorem dX3_free_19 : decode cX3_free 19 = .ok (.iload_n 2, 1) := dk_28 (dk_at dksX3_free_0 19 rfl rfl)
theorem dX3_free_20 : decode cX3_free 20 = .ok (.aaload, 1) := dk_50 (dk_at dksX3_free_0 20 rfl rfl)
theorem dX3_free_21 : decode cX3_free 21 = .ok (.invokevirtual 214, 3) := dk_182 0 214 (dk_at dksX3_free_0 21 rfl rfl)
theorem dX3_free_24 : decode cX3_free 24 = .ok (.invokestatic 244, 3) := dk_184 0 244 (dk_at dksX3_free_1 0 rfl rfl)
theorem dX3_free_27 : decode cX3_free 27 = .ok (.iadd, 1) := dk_96 (dk_at dksX3_free_1 3 rfl rfl)
theorem dX3_free_28 : decode cX3_free 28 = .ok (.istore_n 1, 1) := dk_60 (dk_at dksX3_free_1 4 rfl rfl)
theorem dX3_free_29 : decode cX3_free 29 = .ok (.iinc 2 1, 3) := dk_132 2 1 (dk_at dksX3_free_1 5 rfl rfl)
theorem dX3_free_32 : decode cX3_free 32 = .ok (.goto (-28), 3) := dk_167 255 228 (dk_at dksX3_free_1 8 rfl rfl)
theorem dX3_free_35 : decode cX3_free 35 = .ok (.iload_n 1, 1) := dk_27 (dk_at dksX3_free_1 11 rfl rfl)
theorem dX3_free_36 : decode cX3_free 36 = .ok (.ireturn, 1) := dk_172 (dk_at dksX3_free_1 12 rfl rfl)
abbrev cX3_init_2 : ByteArray := prog_9_method_2_code
def yX3_init_2 : MethodName := ⟨RX3, "<init>", "(LFlashZones$Store;)V"⟩
def dkwX3_init_2_11 : List UInt8 := [180, 0, 46, 3, 42, 180, 0, 46, 190, 184, 0, 131, 177]
abbrev dktX3_init_2_11 : List UInt8 := dkwX3_init_2_11 ++ []
def dkwX3_init_2_10 : List UInt8 := [184, 0, 131, 43, 180, 0, 43, 3, 42, 180, 0, 43, 3, 7, 184, 0, 131, 43, 180, 0, 46, 3, 42]
abbrev dktX3_init_2_10 : List UInt8 := dkwX3_init_2_10 ++ dktX3_init_2_11
def dkwX3_init_2_9 : List UInt8 := [3, 42, 180, 0, 37, 3, 16, 8, 184, 0, 131, 43, 180, 0, 40, 3, 42, 180, 0, 40, 3, 7]
abbrev dktX3_init_2_9 : List UInt8 := dkwX3_init_2_9 ++ dktX3_init_2_10
def dkwX3_init_2_8 : List UInt8 := [16, 8, 184, 0, 131, 43, 180, 0, 34, 3, 42, 180, 0, 34, 3, 16, 8, 184, 0, 131, 43, 180, 0, 37]
abbrev dktX3_init_2_8 : List UInt8 := dkwX3_init_2_8 ++ dktX3_init_2_9
def dkwX3_init_2_7 : List UInt8 := [180, 0, 28, 3, 42, 180, 0, 28, 3, 8, 184, 0, 131, 43, 180, 0, 31, 3, 42, 180, 0, 31, 3]
abbrev dktX3_init_2_7 : List UInt8 := dkwX3_init_2_7 ++ dktX3_init_2_8
def dkwX3_init_2_6 : List UInt8 := [182, 0, 127, 132, 2, 1, 167, 255, 227, 43, 180, 0, 24, 3, 42, 180, 0, 24, 3, 8, 184, 0, 131, 43]
abbrev dktX3_init_2_6 : List UInt8 := dkwX3_init_2_6 ++ dktX3_init_2_7
def dkwX3_init_2_5 : List UInt8 := [61, 28, 42, 180, 0, 80, 3, 46, 162, 0, 25, 42, 42, 180, 0, 20, 28, 50, 43, 180, 0, 20, 28, 50]
abbrev dktX3_init_2_5 : List UInt8 := dkwX3_init_2_5 ++ dktX3_init_2_6
def dkwX3_init_2_4 : List UInt8 := [185, 0, 116, 2, 0, 192, 0, 114, 183, 0, 120, 185, 0, 123, 2, 0, 87, 132, 2, 1, 167, 255, 210, 3]
abbrev dktX3_init_2_4 : List UInt8 := dkwX3_init_2_4 ++ dktX3_init_2_5
def dkwX3_init_2_3 : List UInt8 := [185, 0, 108, 1, 0, 162, 0, 39, 42, 180, 0, 12, 187, 0, 114, 89, 43, 180, 0, 12, 28]
abbrev dktX3_init_2_3 : List UInt8 := dkwX3_init_2_3 ++ dktX3_init_2_4
def dkwX3_init_2_2 : List UInt8 := [42, 43, 180, 0, 102, 181, 0, 102, 42, 43, 180, 0, 105, 181, 0, 105, 3, 61, 28, 43, 180, 0, 12]
abbrev dktX3_init_2_2 : List UInt8 := dkwX3_init_2_2 ++ dktX3_init_2_3
def dkwX3_init_2_1 : List UInt8 := [42, 43, 180, 0, 93, 181, 0, 93, 42, 43, 180, 0, 96, 181, 0, 96, 42, 43, 180, 0, 99, 181, 0, 99]
abbrev dktX3_init_2_1 : List UInt8 := dkwX3_init_2_1 ++ dktX3_init_2_2
def dkwX3_init_2_0 : List UInt8 := [42, 43, 180, 0, 76, 43, 180, 0, 80, 43, 180, 0, 83, 183, 0, 87, 42, 43, 180, 0, 90, 181, 0, 90]
abbrev dktX3_init_2_0 : List UInt8 := dkwX3_init_2_0 ++ dktX3_init_2_1
theorem dksX3_init_2_0 : cX3_init_2.data.toList.drop 0 = dktX3_init_2_0 := by decide +kernel
theorem dksX3_init_2_1 : cX3_init_2.data.toList.drop 24 = dktX3_init_2_1 := dk_seg dksX3_init_2_0 24 rfl rfl
theorem dksX3_init_2_2 : cX3_init_2.data.toList.drop 48 = dktX3_init_2_2 := dk_seg dksX3_init_2_1 24 rfl rfl
theorem dksX3_init_2_3 : cX3_init_2.data.toList.drop 71 = dktX3_init_2_3 := dk_seg dksX3_init_2_2 23 rfl rfl
theorem dksX3_init_2_4 : cX3_init_2.data.toList.drop 92 = dktX3_init_2_4 := dk_seg dksX3_init_2_3 21 rfl rfl
theorem dksX3_init_2_5 : cX3_init_2.data.toList.drop 116 = dktX3_init_2_5 := dk_seg dksX3_init_2_4 24 rfl rfl
theorem dksX3_init_2_6 : cX3_init_2.data.toList.drop 140 = dktX3_init_2_6 := dk_seg dksX3_init_2_5 24 rfl rfl
theorem dksX3_init_2_7 : cX3_init_2.data.toList.drop 164 = dktX3_init_2_7 := dk_seg dksX3_init_2_6 24 rfl rfl
theorem dksX3_init_2_8 : cX3_init_2.data.toList.drop 187 = dktX3_init_2_8 := dk_seg dksX3_init_2_7 23 rfl rfl
theorem dksX3_init_2_9 : cX3_init_2.data.toList.drop 211 = dktX3_init_2_9 := dk_seg dksX3_init_2_8 24 rfl rfl
theorem dksX3_init_2_10 : cX3_init_2.data.toList.drop 233 = dktX3_init_2_10 := dk_seg dksX3_init_2_9 22 rfl rfl
theorem dksX3_init_2_11 : cX3_init_2.data.toList.drop 256 = dktX3_init_2_11 := dk_seg dksX3_init_2_10 23 rfl rfl
theorem dX3_init_2_0 : decode cX3_init_2 0 = .ok (.aload_n 0, 1) := dk_42 (dk_at dksX3_init_2_0 0 rfl rfl)
theorem dX3_init_2_1 : decode cX3_init_2 1 = .ok (.aload_n 1, 1) := dk_43 (dk_at dksX3_init_2_0 1 rfl rfl)
theorem dX3_init_2_2 : decode cX3_init_2 2 = .ok (.getfield 76, 3) := dk_180 0 76 (dk_at dksX3_init_2_0 2 rfl rfl)
theorem dX3_init_2_5 : decode cX3_init_2 5 = .ok (.aload_n 1, 1) := dk_43 (dk_at dksX3_init_2_0 5 rfl rfl)
theorem dX3_init_2_6 : decode cX3_init_2 6 = .ok (.getfield 80, 3) := dk_180 0 80 (dk_at dksX3_init_2_0 6 rfl rfl)
theorem dX3_init_2_9 : decode cX3_init_2 9 = .ok (.aload_n 1, 1) := dk_43 (dk_at dksX3_init_2_0 9 rfl rfl)
theorem dX3_init_2_10 : decode cX3_init_2 10 = .ok (.getfield 83, 3) := dk_180 0 83 (dk_at dksX3_init_2_0 10 rfl rfl)
theorem dX3_init_2_13 : decode cX3_init_2 13 = .ok (.invokespecial 87, 3) := dk_183 0 87 (dk_at dksX3_init_2_0 13 rfl rfl)
theorem dX3_init_2_16 : decode cX3_init_2 16 = .ok (.aload_n 0, 1) := dk_42 (dk_at dksX3_init_2_0 16 rfl rfl)
theorem dX3_init_2_17 : decode cX3_init_2 17 = .ok (.aload_n 1, 1) := dk_43 (dk_at dksX3_init_2_0 17 rfl rfl)
theorem dX3_init_2_18 : decode cX3_init_2 18 = .ok (.getfield 90, 3) := dk_180 0 90 (dk_at dksX3_init_2_0 18 rfl rfl)
theorem dX3_init_2_21 : decode cX3_init_2 21 = .ok (.putfield 90, 3) := dk_181 0 90 (dk_at dksX3_init_2_0 21 rfl rfl)
theorem dX3_init_2_24 : decode cX3_init_2 24 = .ok (.aload_n 0, 1) := dk_42 (dk_at dksX3_init_2_1 0 rfl rfl)
theorem dX3_init_2_25 : decode cX3_init_2 25 = .ok (.aload_n 1, 1) := dk_43 (dk_at dksX3_init_2_1 1 rfl rfl)
theorem dX3_init_2_26 : decode cX3_init_2 26 = .ok (.getfield 93, 3) := dk_180 0 93 (dk_at dksX3_init_2_1 2 rfl rfl)
theorem dX3_init_2_29 : decode cX3_init_2 29 = .ok (.putfield 93, 3) := dk_181 0 93 (dk_at dksX3_init_2_1 5 rfl rfl)
theorem dX3_init_2_32 : decode cX3_init_2 32 = .ok (.aload_n 0, 1) := dk_42 (dk_at dksX3_init_2_1 8 rfl rfl)
theorem dX3_init_2_33 : decode cX3_init_2 33 = .ok (.aload_n 1, 1) := dk_43 (dk_at dksX3_init_2_1 9 rfl rfl)
theorem dX3_init_2_34 : decode cX3_init_2 34 = .ok (.getfield 96, 3) := dk_180 0 96 (dk_at dksX3_init_2_1 10 rfl rfl)
theorem dX3_init_2_37 : decode cX3_init_2 37 = .ok (.putfield 96, 3) := dk_181 0 96 (dk_at dksX3_init_2_1 13 rfl rfl)
theorem dX3_init_2_40 : decode cX3_init_2 40 = .ok (.aload_n 0, 1) := dk_42 (dk_at dksX3_init_2_1 16 rfl rfl)
theorem dX3_init_2_41 : decode cX3_init_2 41 = .ok (.aload_n 1, 1) := dk_43 (dk_at dksX3_init_2_1 17 rfl rfl)
theorem dX3_init_2_42 : decode cX3_init_2 42 = .ok (.getfield 99, 3) := dk_180 0 99 (dk_at dksX3_init_2_1 18 rfl rfl)
theorem dX3_init_2_45 : decode cX3_init_2 45 = .ok (.putfield 99, 3) := dk_181 0 99 (dk_at dksX3_init_2_1 21 rfl rfl)
theorem dX3_init_2_48 : decode cX3_init_2 48 = .ok (.aload_n 0, 1) := dk_42 (dk_at dksX3_init_2_2 0 rfl rfl)
theorem dX3_init_2_49 : decode cX3_init_2 49 = .ok (.aload_n 1, 1) := dk_43 (dk_at dksX3_init_2_2 1 rfl rfl)
theorem dX3_init_2_50 : decode cX3_init_2 50 = .ok (.getfield 102, 3) := dk_180 0 102 (dk_at dksX3_init_2_2 2 rfl rfl)
theorem dX3_init_2_53 : decode cX3_init_2 53 = .ok (.putfield 102, 3) := dk_181 0 102 (dk_at dksX3_init_2_2 5 rfl rfl)
theorem dX3_init_2_56 : decode cX3_init_2 56 = .ok (.aload_n 0, 1) := dk_42 (dk_at dksX3_init_2_2 8 rfl rfl)
theorem dX3_init_2_57 : decode cX3_init_2 57 = .ok (.aload_n 1, 1) := dk_43 (dk_at dksX3_init_2_2 9 rfl rfl)
theorem dX3_init_2_58 : decode cX3_init_2 58 = .ok (.getfield 105, 3) := dk_180 0 105 (dk_at dksX3_init_2_2 10 rfl rfl)
theorem dX3_init_2_61 : decode cX3_init_2 61 = .ok (.putfield 105, 3) := dk_181 0 105 (dk_at dksX3_init_2_2 13 rfl rfl)
theorem dX3_init_2_64 : decode cX3_init_2 64 = .ok (.iconst 0, 1) := dk_3 (dk_at dksX3_init_2_2 16 rfl rfl)
theorem dX3_init_2_65 : decode cX3_init_2 65 = .ok (.istore_n 2, 1) := dk_61 (dk_at dksX3_init_2_2 17 rfl rfl)
theorem dX3_init_2_66 : decode cX3_init_2 66 = .ok (.iload_n 2, 1) := dk_28 (dk_at dksX3_init_2_2 18 rfl rfl)
theorem dX3_init_2_67 : decode cX3_init_2 67 = .ok (.aload_n 1, 1) := dk_43 (dk_at dksX3_init_2_2 19 rfl rfl)
theorem dX3_init_2_68 : decode cX3_init_2 68 = .ok (.getfield 12, 3) := dk_180 0 12 (dk_at dksX3_init_2_2 20 rfl rfl)
theorem dX3_init_2_71 : decode cX3_init_2 71 = .ok (.invokeinterface 108 1, 5) := by decide +kernel
theorem dX3_init_2_76 : decode cX3_init_2 76 = .ok (.if_icmp .ge 39, 3) := dk_162 0 39 (dk_at dksX3_init_2_3 5 rfl rfl)
theorem dX3_init_2_79 : decode cX3_init_2 79 = .ok (.aload_n 0, 1) := dk_42 (dk_at dksX3_init_2_3 8 rfl rfl)
theorem dX3_init_2_80 : decode cX3_init_2 80 = .ok (.getfield 12, 3) := dk_180 0 12 (dk_at dksX3_init_2_3 9 rfl rfl)
theorem dX3_init_2_83 : decode cX3_init_2 83 = .ok (.new 114, 3) := dk_187 0 114 (dk_at dksX3_init_2_3 12 rfl rfl)
theorem dX3_init_2_86 : decode cX3_init_2 86 = .ok (.dup, 1) := dk_89 (dk_at dksX3_init_2_3 15 rfl rfl)
theorem dX3_init_2_87 : decode cX3_init_2 87 = .ok (.aload_n 1, 1) := dk_43 (dk_at dksX3_init_2_3 16 rfl rfl)
theorem dX3_init_2_88 : decode cX3_init_2 88 = .ok (.getfield 12, 3) := dk_180 0 12 (dk_at dksX3_init_2_3 17 rfl rfl)
theorem dX3_init_2_91 : decode cX3_init_2 91 = .ok (.iload_n 2, 1) := dk_28 (dk_at dksX3_init_2_3 20 rfl rfl)
theorem dX3_init_2_92 : decode cX3_init_2 92 = .ok (.invokeinterface 116 2, 5) := by decide +kernel
theorem dX3_init_2_97 : decode cX3_init_2 97 = .ok (.checkcast 114, 3) := dk_192 0 114 (dk_at dksX3_init_2_4 5 rfl rfl)
theorem dX3_init_2_100 : decode cX3_init_2 100 = .ok (.invokespecial 120, 3) := dk_183 0 120 (dk_at dksX3_init_2_4 8 rfl rfl)
theorem dX3_init_2_103 : decode cX3_init_2 103 = .ok (.invokeinterface 123 2, 5) := by decide +kernel
theorem dX3_init_2_108 : decode cX3_init_2 108 = .ok (.pop, 1) := dk_87 (dk_at dksX3_init_2_4 16 rfl rfl)
theorem dX3_init_2_109 : decode cX3_init_2 109 = .ok (.iinc 2 1, 3) := dk_132 2 1 (dk_at dksX3_init_2_4 17 rfl rfl)
theorem dX3_init_2_112 : decode cX3_init_2 112 = .ok (.goto (-46), 3) := dk_167 255 210 (dk_at dksX3_init_2_4 20 rfl rfl)
theorem dX3_init_2_115 : decode cX3_init_2 115 = .ok (.iconst 0, 1) := dk_3 (dk_at dksX3_init_2_4 23 rfl rfl)
theorem dX3_init_2_116 : decode cX3_init_2 116 = .ok (.istore_n 2, 1) := dk_61 (dk_at dksX3_init_2_5 0 rfl rfl)
theorem dX3_init_2_117 : decode cX3_init_2 117 = .ok (.iload_n 2, 1) := dk_28 (dk_at dksX3_init_2_5 1 rfl rfl)
theorem dX3_init_2_118 : decode cX3_init_2 118 = .ok (.aload_n 0, 1) := dk_42 (dk_at dksX3_init_2_5 2 rfl rfl)
theorem dX3_init_2_119 : decode cX3_init_2 119 = .ok (.getfield 80, 3) := dk_180 0 80 (dk_at dksX3_init_2_5 3 rfl rfl)
theorem dX3_init_2_122 : decode cX3_init_2 122 = .ok (.iconst 0, 1) := dk_3 (dk_at dksX3_init_2_5 6 rfl rfl)
theorem dX3_init_2_123 : decode cX3_init_2 123 = .ok (.iaload, 1) := dk_46 (dk_at dksX3_init_2_5 7 rfl rfl)
theorem dX3_init_2_124 : decode cX3_init_2 124 = .ok (.if_icmp .ge 25, 3) := dk_162 0 25 (dk_at dksX3_init_2_5 8 rfl rfl)
theorem dX3_init_2_127 : decode cX3_init_2 127 = .ok (.aload_n 0, 1) := dk_42 (dk_at dksX3_init_2_5 11 rfl rfl)
theorem dX3_init_2_128 : decode cX3_init_2 128 = .ok (.aload_n 0, 1) := dk_42 (dk_at dksX3_init_2_5 12 rfl rfl)
theorem dX3_init_2_129 : decode cX3_init_2 129 = .ok (.getfield 20, 3) := dk_180 0 20 (dk_at dksX3_init_2_5 13 rfl rfl)
theorem dX3_init_2_132 : decode cX3_init_2 132 = .ok (.iload_n 2, 1) := dk_28 (dk_at dksX3_init_2_5 16 rfl rfl)
theorem dX3_init_2_133 : decode cX3_init_2 133 = .ok (.aaload, 1) := dk_50 (dk_at dksX3_init_2_5 17 rfl rfl)
theorem dX3_init_2_134 : decode cX3_init_2 134 = .ok (.aload_n 1, 1) := dk_43 (dk_at dksX3_init_2_5 18 rfl rfl)
theorem dX3_init_2_135 : decode cX3_init_2 135 = .ok (.getfield 20, 3) := dk_180 0 20 (dk_at dksX3_init_2_5 19 rfl rfl)
theorem dX3_init_2_138 : decode cX3_init_2 138 = .ok (.iload_n 2, 1) := dk_28 (dk_at dksX3_init_2_5 22 rfl rfl)
theorem dX3_init_2_139 : decode cX3_init_2 139 = .ok (.aaload, 1) := dk_50 (dk_at dksX3_init_2_5 23 rfl rfl)
theorem dX3_init_2_140 : decode cX3_init_2 140 = .ok (.invokevirtual 127, 3) := dk_182 0 127 (dk_at dksX3_init_2_6 0 rfl rfl)
theorem dX3_init_2_143 : decode cX3_init_2 143 = .ok (.iinc 2 1, 3) := dk_132 2 1 (dk_at dksX3_init_2_6 3 rfl rfl)
theorem dX3_init_2_146 : decode cX3_init_2 146 = .ok (.goto (-29), 3) := dk_167 255 227 (dk_at dksX3_init_2_6 6 rfl rfl)
theorem dX3_init_2_149 : decode cX3_init_2 149 = .ok (.aload_n 1, 1) := dk_43 (dk_at dksX3_init_2_6 9 rfl rfl)
theorem dX3_init_2_150 : decode cX3_init_2 150 = .ok (.getfield 24, 3) := dk_180 0 24 (dk_at dksX3_init_2_6 10 rfl rfl)
theorem dX3_init_2_153 : decode cX3_init_2 153 = .ok (.iconst 0, 1) := dk_3 (dk_at dksX3_init_2_6 13 rfl rfl)
theorem dX3_init_2_154 : decode cX3_init_2 154 = .ok (.aload_n 0, 1) := dk_42 (dk_at dksX3_init_2_6 14 rfl rfl)
theorem dX3_init_2_155 : decode cX3_init_2 155 = .ok (.getfield 24, 3) := dk_180 0 24 (dk_at dksX3_init_2_6 15 rfl rfl)
theorem dX3_init_2_158 : decode cX3_init_2 158 = .ok (.iconst 0, 1) := dk_3 (dk_at dksX3_init_2_6 18 rfl rfl)
theorem dX3_init_2_159 : decode cX3_init_2 159 = .ok (.iconst 5, 1) := dk_8 (dk_at dksX3_init_2_6 19 rfl rfl)
theorem dX3_init_2_160 : decode cX3_init_2 160 = .ok (.invokestatic 131, 3) := dk_184 0 131 (dk_at dksX3_init_2_6 20 rfl rfl)
theorem dX3_init_2_163 : decode cX3_init_2 163 = .ok (.aload_n 1, 1) := dk_43 (dk_at dksX3_init_2_6 23 rfl rfl)
theorem dX3_init_2_164 : decode cX3_init_2 164 = .ok (.getfield 28, 3) := dk_180 0 28 (dk_at dksX3_init_2_7 0 rfl rfl)
theorem dX3_init_2_167 : decode cX3_init_2 167 = .ok (.iconst 0, 1) := dk_3 (dk_at dksX3_init_2_7 3 rfl rfl)
theorem dX3_init_2_168 : decode cX3_init_2 168 = .ok (.aload_n 0, 1) := dk_42 (dk_at dksX3_init_2_7 4 rfl rfl)
theorem dX3_init_2_169 : decode cX3_init_2 169 = .ok (.getfield 28, 3) := dk_180 0 28 (dk_at dksX3_init_2_7 5 rfl rfl)
theorem dX3_init_2_172 : decode cX3_init_2 172 = .ok (.iconst 0, 1) := dk_3 (dk_at dksX3_init_2_7 8 rfl rfl)
theorem dX3_init_2_173 : decode cX3_init_2 173 = .ok (.iconst 5, 1) := dk_8 (dk_at dksX3_init_2_7 9 rfl rfl)
theorem dX3_init_2_174 : decode cX3_init_2 174 = .ok (.invokestatic 131, 3) := dk_184 0 131 (dk_at dksX3_init_2_7 10 rfl rfl)
theorem dX3_init_2_177 : decode cX3_init_2 177 = .ok (.aload_n 1, 1) := dk_43 (dk_at dksX3_init_2_7 13 rfl rfl)
theorem dX3_init_2_178 : decode cX3_init_2 178 = .ok (.getfield 31, 3) := dk_180 0 31 (dk_at dksX3_init_2_7 14 rfl rfl)
theorem dX3_init_2_181 : decode cX3_init_2 181 = .ok (.iconst 0, 1) := dk_3 (dk_at dksX3_init_2_7 17 rfl rfl)
theorem dX3_init_2_182 : decode cX3_init_2 182 = .ok (.aload_n 0, 1) := dk_42 (dk_at dksX3_init_2_7 18 rfl rfl)
theorem dX3_init_2_183 : decode cX3_init_2 183 = .ok (.getfield 31, 3) := dk_180 0 31 (dk_at dksX3_init_2_7 19 rfl rfl)
theorem dX3_init_2_186 : decode cX3_init_2 186 = .ok (.iconst 0, 1) := dk_3 (dk_at dksX3_init_2_7 22 rfl rfl)
theorem dX3_init_2_187 : decode cX3_init_2 187 = .ok (.bipush 8, 2) := dk_16 8 (dk_at dksX3_init_2_8 0 rfl rfl)
theorem dX3_init_2_189 : decode cX3_init_2 189 = .ok (.invokestatic 131, 3) := dk_184 0 131 (dk_at dksX3_init_2_8 2 rfl rfl)
theorem dX3_init_2_192 : decode cX3_init_2 192 = .ok (.aload_n 1, 1) := dk_43 (dk_at dksX3_init_2_8 5 rfl rfl)
theorem dX3_init_2_193 : decode cX3_init_2 193 = .ok (.getfield 34, 3) := dk_180 0 34 (dk_at dksX3_init_2_8 6 rfl rfl)
theorem dX3_init_2_196 : decode cX3_init_2 196 = .ok (.iconst 0, 1) := dk_3 (dk_at dksX3_init_2_8 9 rfl rfl)
theorem dX3_init_2_197 : decode cX3_init_2 197 = .ok (.aload_n 0, 1) := dk_42 (dk_at dksX3_init_2_8 10 rfl rfl)
theorem dX3_init_2_198 : decode cX3_init_2 198 = .ok (.getfield 34, 3) := dk_180 0 34 (dk_at dksX3_init_2_8 11 rfl rfl)
theorem dX3_init_2_201 : decode cX3_init_2 201 = .ok (.iconst 0, 1) := dk_3 (dk_at dksX3_init_2_8 14 rfl rfl)
theorem dX3_init_2_202 : decode cX3_init_2 202 = .ok (.bipush 8, 2) := dk_16 8 (dk_at dksX3_init_2_8 15 rfl rfl)
theorem dX3_init_2_204 : decode cX3_init_2 204 = .ok (.invokestatic 131, 3) := dk_184 0 131 (dk_at dksX3_init_2_8 17 rfl rfl)
theorem dX3_init_2_207 : decode cX3_init_2 207 = .ok (.aload_n 1, 1) := dk_43 (dk_at dksX3_init_2_8 20 rfl rfl)
theorem dX3_init_2_208 : decode cX3_init_2 208 = .ok (.getfield 37, 3) := dk_180 0 37 (dk_at dksX3_init_2_8 21 rfl rfl)
theorem dX3_init_2_211 : decode cX3_init_2 211 = .ok (.iconst 0, 1) := dk_3 (dk_at dksX3_init_2_9 0 rfl rfl)
theorem dX3_init_2_212 : decode cX3_init_2 212 = .ok (.aload_n 0, 1) := dk_42 (dk_at dksX3_init_2_9 1 rfl rfl)
theorem dX3_init_2_213 : decode cX3_init_2 213 = .ok (.getfield 37, 3) := dk_180 0 37 (dk_at dksX3_init_2_9 2 rfl rfl)
theorem dX3_init_2_216 : decode cX3_init_2 216 = .ok (.iconst 0, 1) := dk_3 (dk_at dksX3_init_2_9 5 rfl rfl)
theorem dX3_init_2_217 : decode cX3_init_2 217 = .ok (.bipush 8, 2) := dk_16 8 (dk_at dksX3_init_2_9 6 rfl rfl)
theorem dX3_init_2_219 : decode cX3_init_2 219 = .ok (.invokestatic 131, 3) := dk_184 0 131 (dk_at dksX3_init_2_9 8 rfl rfl)
theorem dX3_init_2_222 : decode cX3_init_2 222 = .ok (.aload_n 1, 1) := dk_43 (dk_at dksX3_init_2_9 11 rfl rfl)
theorem dX3_init_2_223 : decode cX3_init_2 223 = .ok (.getfield 40, 3) := dk_180 0 40 (dk_at dksX3_init_2_9 12 rfl rfl)
theorem dX3_init_2_226 : decode cX3_init_2 226 = .ok (.iconst 0, 1) := dk_3 (dk_at dksX3_init_2_9 15 rfl rfl)
theorem dX3_init_2_227 : decode cX3_init_2 227 = .ok (.aload_n 0, 1) := dk_42 (dk_at dksX3_init_2_9 16 rfl rfl)
theorem dX3_init_2_228 : decode cX3_init_2 228 = .ok (.getfield 40, 3) := dk_180 0 40 (dk_at dksX3_init_2_9 17 rfl rfl)
theorem dX3_init_2_231 : decode cX3_init_2 231 = .ok (.iconst 0, 1) := dk_3 (dk_at dksX3_init_2_9 20 rfl rfl)
theorem dX3_init_2_232 : decode cX3_init_2 232 = .ok (.iconst 4, 1) := dk_7 (dk_at dksX3_init_2_9 21 rfl rfl)
theorem dX3_init_2_233 : decode cX3_init_2 233 = .ok (.invokestatic 131, 3) := dk_184 0 131 (dk_at dksX3_init_2_10 0 rfl rfl)
theorem dX3_init_2_236 : decode cX3_init_2 236 = .ok (.aload_n 1, 1) := dk_43 (dk_at dksX3_init_2_10 3 rfl rfl)
theorem dX3_init_2_237 : decode cX3_init_2 237 = .ok (.getfield 43, 3) := dk_180 0 43 (dk_at dksX3_init_2_10 4 rfl rfl)
theorem dX3_init_2_240 : decode cX3_init_2 240 = .ok (.iconst 0, 1) := dk_3 (dk_at dksX3_init_2_10 7 rfl rfl)
theorem dX3_init_2_241 : decode cX3_init_2 241 = .ok (.aload_n 0, 1) := dk_42 (dk_at dksX3_init_2_10 8 rfl rfl)
theorem dX3_init_2_242 : decode cX3_init_2 242 = .ok (.getfield 43, 3) := dk_180 0 43 (dk_at dksX3_init_2_10 9 rfl rfl)
theorem dX3_init_2_245 : decode cX3_init_2 245 = .ok (.iconst 0, 1) := dk_3 (dk_at dksX3_init_2_10 12 rfl rfl)
theorem dX3_init_2_246 : decode cX3_init_2 246 = .ok (.iconst 4, 1) := dk_7 (dk_at dksX3_init_2_10 13 rfl rfl)
theorem dX3_init_2_247 : decode cX3_init_2 247 = .ok (.invokestatic 131, 3) := dk_184 0 131 (dk_at dksX3_init_2_10 14 rfl rfl)
theorem dX3_init_2_250 : decode cX3_init_2 250 = .ok (.aload_n 1, 1) := dk_43 (dk_at dksX3_init_2_10 17 rfl rfl)
theorem dX3_init_2_251 : decode cX3_init_2 251 = .ok (.getfield 46, 3) := dk_180 0 46 (dk_at dksX3_init_2_10 18 rfl rfl)
theorem dX3_init_2_254 : decode cX3_init_2 254 = .ok (.iconst 0, 1) := dk_3 (dk_at dksX3_init_2_10 21 rfl rfl)
theorem dX3_init_2_255 : decode cX3_init_2 255 = .ok (.aload_n 0, 1) := dk_42 (dk_at dksX3_init_2_10 22 rfl rfl)
theorem dX3_init_2_256 : decode cX3_init_2 256 = .ok (.getfield 46, 3) := dk_180 0 46 (dk_at dksX3_init_2_11 0 rfl rfl)
theorem dX3_init_2_259 : decode cX3_init_2 259 = .ok (.iconst 0, 1) := dk_3 (dk_at dksX3_init_2_11 3 rfl rfl)
theorem dX3_init_2_260 : decode cX3_init_2 260 = .ok (.aload_n 0, 1) := dk_42 (dk_at dksX3_init_2_11 4 rfl rfl)
theorem dX3_init_2_261 : decode cX3_init_2 261 = .ok (.getfield 46, 3) := dk_180 0 46 (dk_at dksX3_init_2_11 5 rfl rfl)
theorem dX3_init_2_264 : decode cX3_init_2 264 = .ok (.arraylength, 1) := dk_190 (dk_at dksX3_init_2_11 8 rfl rfl)
theorem dX3_init_2_265 : decode cX3_init_2 265 = .ok (.invokestatic 131, 3) := dk_184 0 131 (dk_at dksX3_init_2_11 9 rfl rfl)
theorem dX3_init_2_268 : decode cX3_init_2 268 = .ok (.return_, 1) := dk_177 (dk_at dksX3_init_2_11 12 rfl rfl)
abbrev cX3_takes : ByteArray := prog_9_method_3_code
def yX3_takes : MethodName := ⟨RX3, "takes", "(LFlashZones$Zone;LFlashZones$Zone;)V"⟩
def dkwX3_takes_3 : List UInt8 := [167, 255, 210, 177]
abbrev dktX3_takes_3 : List UInt8 := dkwX3_takes_3 ++ []
def dkwX3_takes_2 : List UInt8 := [29, 185, 0, 116, 2, 0, 192, 0, 114, 180, 0, 145, 182, 0, 148, 185, 0, 123, 2, 0, 87, 132, 3, 1]
abbrev dktX3_takes_2 : List UInt8 := dkwX3_takes_2 ++ dktX3_takes_3
def dkwX3_takes_1 : List UInt8 := [3, 62, 29, 44, 180, 0, 144, 185, 0, 108, 1, 0, 162, 0, 39, 43, 180, 0, 144, 42, 44, 180, 0, 144]
abbrev dktX3_takes_1 : List UInt8 := dkwX3_takes_1 ++ dktX3_takes_2
def dkwX3_takes_0 : List UInt8 := [43, 44, 180, 0, 137, 181, 0, 137, 43, 44, 180, 0, 140, 181, 0, 140, 43, 44, 180, 0, 143, 181, 0, 143]
abbrev dktX3_takes_0 : List UInt8 := dkwX3_takes_0 ++ dktX3_takes_1
theorem dksX3_takes_0 : cX3_takes.data.toList.drop 0 = dktX3_takes_0 := by decide +kernel
theorem dksX3_takes_1 : cX3_takes.data.toList.drop 24 = dktX3_takes_1 := dk_seg dksX3_takes_0 24 rfl rfl
theorem dksX3_takes_2 : cX3_takes.data.toList.drop 48 = dktX3_takes_2 := dk_seg dksX3_takes_1 24 rfl rfl
theorem dksX3_takes_3 : cX3_takes.data.toList.drop 72 = dktX3_takes_3 := dk_seg dksX3_takes_2 24 rfl rfl
theorem dX3_takes_0 : decode cX3_takes 0 = .ok (.aload_n 1, 1) := dk_43 (dk_at dksX3_takes_0 0 rfl rfl)
theorem dX3_takes_1 : decode cX3_takes 1 = .ok (.aload_n 2, 1) := dk_44 (dk_at dksX3_takes_0 1 rfl rfl)
theorem dX3_takes_2 : decode cX3_takes 2 = .ok (.getfield 137, 3) := dk_180 0 137 (dk_at dksX3_takes_0 2 rfl rfl)
theorem dX3_takes_5 : decode cX3_takes 5 = .ok (.putfield 137, 3) := dk_181 0 137 (dk_at dksX3_takes_0 5 rfl rfl)
theorem dX3_takes_8 : decode cX3_takes 8 = .ok (.aload_n 1, 1) := dk_43 (dk_at dksX3_takes_0 8 rfl rfl)
theorem dX3_takes_9 : decode cX3_takes 9 = .ok (.aload_n 2, 1) := dk_44 (dk_at dksX3_takes_0 9 rfl rfl)
theorem dX3_takes_10 : decode cX3_takes 10 = .ok (.getfield 140, 3) := dk_180 0 140 (dk_at dksX3_takes_0 10 rfl rfl)
theorem dX3_takes_13 : decode cX3_takes 13 = .ok (.putfield 140, 3) := dk_181 0 140 (dk_at dksX3_takes_0 13 rfl rfl)
theorem dX3_takes_16 : decode cX3_takes 16 = .ok (.aload_n 1, 1) := dk_43 (dk_at dksX3_takes_0 16 rfl rfl)
theorem dX3_takes_17 : decode cX3_takes 17 = .ok (.aload_n 2, 1) := dk_44 (dk_at dksX3_takes_0 17 rfl rfl)
theorem dX3_takes_18 : decode cX3_takes 18 = .ok (.getfield 143, 3) := dk_180 0 143 (dk_at dksX3_takes_0 18 rfl rfl)
theorem dX3_takes_21 : decode cX3_takes 21 = .ok (.putfield 143, 3) := dk_181 0 143 (dk_at dksX3_takes_0 21 rfl rfl)
theorem dX3_takes_24 : decode cX3_takes 24 = .ok (.iconst 0, 1) := dk_3 (dk_at dksX3_takes_1 0 rfl rfl)
theorem dX3_takes_25 : decode cX3_takes 25 = .ok (.istore_n 3, 1) := dk_62 (dk_at dksX3_takes_1 1 rfl rfl)
theorem dX3_takes_26 : decode cX3_takes 26 = .ok (.iload_n 3, 1) := dk_29 (dk_at dksX3_takes_1 2 rfl rfl)
theorem dX3_takes_27 : decode cX3_takes 27 = .ok (.aload_n 2, 1) := dk_44 (dk_at dksX3_takes_1 3 rfl rfl)
theorem dX3_takes_28 : decode cX3_takes 28 = .ok (.getfield 144, 3) := dk_180 0 144 (dk_at dksX3_takes_1 4 rfl rfl)
theorem dX3_takes_31 : decode cX3_takes 31 = .ok (.invokeinterface 108 1, 5) := by decide +kernel
theorem dX3_takes_36 : decode cX3_takes 36 = .ok (.if_icmp .ge 39, 3) := dk_162 0 39 (dk_at dksX3_takes_1 12 rfl rfl)
theorem dX3_takes_39 : decode cX3_takes 39 = .ok (.aload_n 1, 1) := dk_43 (dk_at dksX3_takes_1 15 rfl rfl)
theorem dX3_takes_40 : decode cX3_takes 40 = .ok (.getfield 144, 3) := dk_180 0 144 (dk_at dksX3_takes_1 16 rfl rfl)
theorem dX3_takes_43 : decode cX3_takes 43 = .ok (.aload_n 0, 1) := dk_42 (dk_at dksX3_takes_1 19 rfl rfl)
theorem dX3_takes_44 : decode cX3_takes 44 = .ok (.aload_n 2, 1) := dk_44 (dk_at dksX3_takes_1 20 rfl rfl)
theorem dX3_takes_45 : decode cX3_takes 45 = .ok (.getfield 144, 3) := dk_180 0 144 (dk_at dksX3_takes_1 21 rfl rfl)
theorem dX3_takes_48 : decode cX3_takes 48 = .ok (.iload_n 3, 1) := dk_29 (dk_at dksX3_takes_2 0 rfl rfl)
theorem dX3_takes_49 : decode cX3_takes 49 = .ok (.invokeinterface 116 2, 5) := by decide +kernel
theorem dX3_takes_54 : decode cX3_takes 54 = .ok (.checkcast 114, 3) := dk_192 0 114 (dk_at dksX3_takes_2 6 rfl rfl)
theorem dX3_takes_57 : decode cX3_takes 57 = .ok (.getfield 145, 3) := dk_180 0 145 (dk_at dksX3_takes_2 9 rfl rfl)
theorem dX3_takes_60 : decode cX3_takes 60 = .ok (.invokevirtual 148, 3) := dk_182 0 148 (dk_at dksX3_takes_2 12 rfl rfl)
theorem dX3_takes_63 : decode cX3_takes 63 = .ok (.invokeinterface 123 2, 5) := by decide +kernel
theorem dX3_takes_68 : decode cX3_takes 68 = .ok (.pop, 1) := dk_87 (dk_at dksX3_takes_2 20 rfl rfl)
theorem dX3_takes_69 : decode cX3_takes 69 = .ok (.iinc 3 1, 3) := dk_132 3 1 (dk_at dksX3_takes_2 21 rfl rfl)
theorem dX3_takes_72 : decode cX3_takes 72 = .ok (.goto (-46), 3) := dk_167 255 210 (dk_at dksX3_takes_3 0 rfl rfl)
theorem dX3_takes_75 : decode cX3_takes 75 = .ok (.return_, 1) := dk_177 (dk_at dksX3_takes_3 3 rfl rfl)
theorem q118 : (Jvm.Cond.initialized "FlashZones$Store") ∈ lw_all := lw_g (lw_at lw_m1 6 rfl) rfl
theorem q207 : (Jvm.Cond.instantiable "FlashZones$Store" (24 : Nat)) ∈ lw_all := lw_g (lw_at lw_m1 95 rfl) rfl
theorem q209 : (Jvm.Cond.instanceMethod ({ cls := "FlashZones$Store", name := "<init>", desc := "(I[I[I)V" } : Jvm.MethodName)) ∈ lw_all := lw_g (lw_at lw_m1 97 rfl) rfl
theorem q210 : (Jvm.Cond.code ({ cls := "FlashZones$Store", name := "<init>", desc := "(I[I[I)V" } : Jvm.MethodName) prog_9_method_1_code (5 : Nat) (Option.none : Option Jvm.ClassFile.FieldType)) ∈ lw_all := lw_g (lw_at lw_m1 98 rfl) rfl
theorem q211 : (Jvm.Cond.methodLink "FlashZones$Store" (3 : Nat) ({ cls := "java/lang/Object", name := "<init>", desc := "()V" } : Jvm.MethodName)) ∈ lw_all := lw_g (lw_at lw_m1 99 rfl) rfl
theorem q212 : (Jvm.Cond.classLink "FlashZones$Store" (9 : Nat) "java/util/ArrayList") ∈ lw_all := lw_g (lw_at lw_m1 100 rfl) rfl
theorem q213 : (Jvm.Cond.methodLink "FlashZones$Store" (11 : Nat) ({ cls := "java/util/ArrayList", name := "<init>", desc := "()V" } : Jvm.MethodName)) ∈ lw_all := lw_g (lw_at lw_m1 101 rfl) rfl
theorem q214 : (Jvm.Cond.classLink "FlashZones$Store" (18 : Nat) "FlashZones$Zone") ∈ lw_all := lw_g (lw_at lw_m1 102 rfl) rfl
theorem q216 : (Jvm.Cond.classLink "FlashZones$Store" (49 : Nat) "FlashZones$Guesser") ∈ lw_all := lw_g (lw_at lw_m1 104 rfl) rfl
theorem q218 : (Jvm.Cond.privateMethod ({ cls := "FlashZones$Store", name := "lambda$new$0", desc := "(III)I" } : Jvm.MethodName)) ∈ lw_tbl := lw_at lw_m1 106 rfl
theorem q219 : (Jvm.Cond.instanceMethod ({ cls := "FlashZones$Store", name := "lambda$new$0", desc := "(III)I" } : Jvm.MethodName)) ∈ lw_all := lw_g (lw_at lw_m1 107 rfl) rfl
theorem q220 : (Jvm.Cond.code ({ cls := "FlashZones$Store", name := "lambda$new$0", desc := "(III)I" } : Jvm.MethodName) prog_9_method_38_code (4 : Nat) (Option.some Jvm.ClassFile.FieldType.int)) ∈ lw_all := lw_g (lw_at lw_m1 108 rfl) rfl
theorem q221 : (Jvm.Cond.methodLink "FlashZones$Store" (285 : Nat) ({ cls := "FlashZones$Store", name := "life", desc := "()I" } : Jvm.MethodName)) ∈ lw_all := lw_g (lw_at lw_m1 109 rfl) rfl
theorem q222 : (Jvm.Cond.privateMethod ({ cls := "FlashZones$Store", name := "life", desc := "()I" } : Jvm.MethodName)) ∈ lw_tbl := lw_at lw_m1 110 rfl
theorem q223 : (Jvm.Cond.instanceMethod ({ cls := "FlashZones$Store", name := "life", desc := "()I" } : Jvm.MethodName)) ∈ lw_all := lw_g (lw_at lw_m1 111 rfl) rfl
theorem q224 : (Jvm.Cond.code ({ cls := "FlashZones$Store", name := "life", desc := "()I" } : Jvm.MethodName) prog_9_method_5_code (1 : Nat) (Option.some Jvm.ClassFile.FieldType.int)) ∈ lw_all := lw_g (lw_at lw_m1 112 rfl) rfl
theorem q225 : (Jvm.Cond.privateMethod ({ cls := "FlashZones$Store", name := "lambda$new$1", desc := "(III)I" } : Jvm.MethodName)) ∈ lw_tbl := lw_at lw_m1 113 rfl
theorem q226 : (Jvm.Cond.instanceMethod ({ cls := "FlashZones$Store", name := "lambda$new$1", desc := "(III)I" } : Jvm.MethodName)) ∈ lw_all := lw_g (lw_at lw_m1 114 rfl) rfl
theorem q227 : (Jvm.Cond.code ({ cls := "FlashZones$Store", name := "lambda$new$1", desc := "(III)I" } : Jvm.MethodName) prog_9_method_37_code (4 : Nat) (Option.some Jvm.ClassFile.FieldType.int)) ∈ lw_all := lw_g (lw_at lw_m1 115 rfl) rfl
theorem q228 : (Jvm.Cond.privateMethod ({ cls := "FlashZones$Store", name := "lambda$new$2", desc := "(III)I" } : Jvm.MethodName)) ∈ lw_tbl := lw_at lw_m1 116 rfl
theorem q229 : (Jvm.Cond.instanceMethod ({ cls := "FlashZones$Store", name := "lambda$new$2", desc := "(III)I" } : Jvm.MethodName)) ∈ lw_all := lw_g (lw_at lw_m1 117 rfl) rfl
theorem q230 : (Jvm.Cond.code ({ cls := "FlashZones$Store", name := "lambda$new$2", desc := "(III)I" } : Jvm.MethodName) prog_9_method_36_code (4 : Nat) (Option.some Jvm.ClassFile.FieldType.int)) ∈ lw_all := lw_g (lw_at lw_m1 118 rfl) rfl
theorem q231 : (Jvm.Cond.privateMethod ({ cls := "FlashZones$Store", name := "lambda$new$3", desc := "(III)I" } : Jvm.MethodName)) ∈ lw_tbl := lw_at lw_m1 119 rfl
theorem q232 : (Jvm.Cond.instanceMethod ({ cls := "FlashZones$Store", name := "lambda$new$3", desc := "(III)I" } : Jvm.MethodName)) ∈ lw_all := lw_g (lw_at lw_m1 120 rfl) rfl
theorem q233 : (Jvm.Cond.code ({ cls := "FlashZones$Store", name := "lambda$new$3", desc := "(III)I" } : Jvm.MethodName) prog_9_method_35_code (4 : Nat) (Option.some Jvm.ClassFile.FieldType.int)) ∈ lw_all := lw_g (lw_at lw_m1 121 rfl) rfl
theorem q234 : (Jvm.Cond.methodLink "FlashZones$Store" (172 : Nat) ({ cls := "FlashZones$Store", name := "both", desc := "(II)I" } : Jvm.MethodName)) ∈ lw_all := lw_g (lw_at lw_m1 122 rfl) rfl
theorem q235 : (Jvm.Cond.static ({ cls := "FlashZones$Store", name := "both", desc := "(II)I" } : Jvm.MethodName)) ∈ lw_all := lw_g (lw_at lw_m1 123 rfl) rfl
theorem q236 : (Jvm.Cond.code ({ cls := "FlashZones$Store", name := "both", desc := "(II)I" } : Jvm.MethodName) prog_9_method_4_code (2 : Nat) (Option.some Jvm.ClassFile.FieldType.int)) ∈ lw_all := lw_g (lw_at lw_m1 124 rfl) rfl
theorem q237 : (Jvm.Cond.privateMethod ({ cls := "FlashZones$Store", name := "lambda$new$4", desc := "(III)I" } : Jvm.MethodName)) ∈ lw_tbl := lw_at lw_m1 125 rfl
theorem q238 : (Jvm.Cond.instanceMethod ({ cls := "FlashZones$Store", name := "lambda$new$4", desc := "(III)I" } : Jvm.MethodName)) ∈ lw_all := lw_g (lw_at lw_m1 126 rfl) rfl
theorem q239 : (Jvm.Cond.code ({ cls := "FlashZones$Store", name := "lambda$new$4", desc := "(III)I" } : Jvm.MethodName) prog_9_method_34_code (4 : Nat) (Option.some Jvm.ClassFile.FieldType.int)) ∈ lw_all := lw_g (lw_at lw_m1 127 rfl) rfl
theorem q240 : (Jvm.Cond.privateMethod ({ cls := "FlashZones$Store", name := "lambda$new$5", desc := "(III)I" } : Jvm.MethodName)) ∈ lw_tbl := lw_at lw_m1 128 rfl
theorem q241 : (Jvm.Cond.instanceMethod ({ cls := "FlashZones$Store", name := "lambda$new$5", desc := "(III)I" } : Jvm.MethodName)) ∈ lw_all := lw_g (lw_at lw_m1 129 rfl) rfl
theorem q242 : (Jvm.Cond.code ({ cls := "FlashZones$Store", name := "lambda$new$5", desc := "(III)I" } : Jvm.MethodName) prog_9_method_33_code (4 : Nat) (Option.some Jvm.ClassFile.FieldType.int)) ∈ lw_all := lw_g (lw_at lw_m1 130 rfl) rfl
theorem q243 : (Jvm.Cond.methodLink "FlashZones$Store" (282 : Nat) ({ cls := "FlashZones$Store", name := "lifeOf", desc := "(I)I" } : Jvm.MethodName)) ∈ lw_all := lw_g (lw_at lw_m1 131 rfl) rfl
theorem q244 : (Jvm.Cond.privateMethod ({ cls := "FlashZones$Store", name := "lifeOf", desc := "(I)I" } : Jvm.MethodName)) ∈ lw_tbl := lw_at lw_m1 132 rfl
theorem q245 : (Jvm.Cond.instanceMethod ({ cls := "FlashZones$Store", name := "lifeOf", desc := "(I)I" } : Jvm.MethodName)) ∈ lw_all := lw_g (lw_at lw_m1 133 rfl) rfl
theorem q246 : (Jvm.Cond.code ({ cls := "FlashZones$Store", name := "lifeOf", desc := "(I)I" } : Jvm.MethodName) prog_9_method_6_code (2 : Nat) (Option.some Jvm.ClassFile.FieldType.int)) ∈ lw_all := lw_g (lw_at lw_m1 134 rfl) rfl
theorem q248 : (Jvm.Cond.methodLinkNest "FlashZones$Store" (86 : Nat) ({ cls := "FlashZones$Zone", name := "<init>", desc := "()V" } : Jvm.MethodName) "FlashZones") ∈ lw_tbl := lw_at lw_m1 136 rfl
theorem q575 : (Jvm.Cond.fieldLinkNest "FlashZones$Store" (137 : Nat) "FlashZones$Zone" "window" "I" "FlashZones") ∈ lw_tbl := lw_at lw_m2 223 rfl
theorem q578 : (Jvm.Cond.fieldLinkNest "FlashZones$Store" (140 : Nat) "FlashZones$Zone" "filled" "I" "FlashZones") ∈ lw_tbl := lw_at lw_m2 226 rfl
theorem q581 : (Jvm.Cond.fieldLinkNest "FlashZones$Store" (143 : Nat) "FlashZones$Zone" "resets" "I" "FlashZones") ∈ lw_tbl := lw_at lw_m2 229 rfl
theorem q585 : (Jvm.Cond.fieldLinkNest "FlashZones$Store" (144 : Nat) "FlashZones$Zone" "units" "Ljava/util/List;" "FlashZones") ∈ lw_tbl := lw_at lw_m2 233 rfl
theorem q596 : (Jvm.Cond.fieldLink "FlashZones$Store" (80 : Nat) "FlashZones$Store" "set" "[I") ∈ lw_all := lw_g (lw_at lw_m3 4 rfl) rfl
theorem q597 : (Jvm.Cond.fieldLink "FlashZones$Store" (76 : Nat) "FlashZones$Store" "way" "I") ∈ lw_all := lw_g (lw_at lw_m3 5 rfl) rfl
theorem q598 : (Jvm.Cond.fieldLink "FlashZones$Store" (83 : Nat) "FlashZones$Store" "known" "[I") ∈ lw_all := lw_g (lw_at lw_m3 6 rfl) rfl
theorem q599 : (Jvm.Cond.fieldLink "FlashZones$Store" (90 : Nat) "FlashZones$Store" "day" "I") ∈ lw_all := lw_g (lw_at lw_m3 7 rfl) rfl
theorem q601 : (Jvm.Cond.fieldLink "FlashZones$Store" (93 : Nat) "FlashZones$Store" "loss" "I") ∈ lw_all := lw_g (lw_at lw_m3 9 rfl) rfl
theorem q604 : (Jvm.Cond.fieldLink "FlashZones$Store" (96 : Nat) "FlashZones$Store" "moves" "I") ∈ lw_all := lw_g (lw_at lw_m3 12 rfl) rfl
theorem q607 : (Jvm.Cond.fieldLink "FlashZones$Store" (99 : Nat) "FlashZones$Store" "resets" "I") ∈ lw_all := lw_g (lw_at lw_m3 15 rfl) rfl
theorem q610 : (Jvm.Cond.fieldLink "FlashZones$Store" (102 : Nat) "FlashZones$Store" "deaths" "I") ∈ lw_all := lw_g (lw_at lw_m3 18 rfl) rfl
theorem q612 : (Jvm.Cond.fieldLink "FlashZones$Store" (105 : Nat) "FlashZones$Store" "lives" "I") ∈ lw_all := lw_g (lw_at lw_m3 20 rfl) rfl
theorem q614 : (Jvm.Cond.fieldLink "FlashZones$Store" (12 : Nat) "FlashZones$Store" "units" "Ljava/util/List;") ∈ lw_all := lw_g (lw_at lw_m3 22 rfl) rfl
theorem q616 : (Jvm.Cond.fieldLink "FlashZones$Store" (20 : Nat) "FlashZones$Store" "zones" "[LFlashZones$Zone;") ∈ lw_all := lw_g (lw_at lw_m3 24 rfl) rfl
theorem q619 : (Jvm.Cond.fieldLink "FlashZones$Store" (24 : Nat) "FlashZones$Store" "weights" "[I") ∈ lw_all := lw_g (lw_at lw_m3 27 rfl) rfl
theorem q621 : (Jvm.Cond.fieldLink "FlashZones$Store" (28 : Nat) "FlashZones$Store" "losses" "[I") ∈ lw_all := lw_g (lw_at lw_m3 29 rfl) rfl
theorem q623 : (Jvm.Cond.fieldLink "FlashZones$Store" (31 : Nat) "FlashZones$Store" "writerMany" "[I") ∈ lw_all := lw_g (lw_at lw_m3 31 rfl) rfl
theorem q624 : (Jvm.Cond.fieldLink "FlashZones$Store" (34 : Nat) "FlashZones$Store" "writerSum" "[I") ∈ lw_all := lw_g (lw_at lw_m3 32 rfl) rfl
theorem q625 : (Jvm.Cond.fieldLink "FlashZones$Store" (37 : Nat) "FlashZones$Store" "writerMost" "[I") ∈ lw_all := lw_g (lw_at lw_m3 33 rfl) rfl
theorem q626 : (Jvm.Cond.fieldLink "FlashZones$Store" (40 : Nat) "FlashZones$Store" "sizeMany" "[I") ∈ lw_all := lw_g (lw_at lw_m3 34 rfl) rfl
theorem q627 : (Jvm.Cond.fieldLink "FlashZones$Store" (43 : Nat) "FlashZones$Store" "sizeSum" "[I") ∈ lw_all := lw_g (lw_at lw_m3 35 rfl) rfl
theorem q628 : (Jvm.Cond.fieldLink "FlashZones$Store" (46 : Nat) "FlashZones$Store" "latest" "[I") ∈ lw_all := lw_g (lw_at lw_m3 36 rfl) rfl
theorem q629 : (Jvm.Cond.fieldLink "FlashZones$Store" (51 : Nat) "FlashZones$Store" "guessers" "[LFlashZones$Guesser;") ∈ lw_all := lw_g (lw_at lw_m3 37 rfl) rfl
theorem q630 : (Jvm.Cond.fieldLink "FlashZones$Store" (64 : Nat) "FlashZones$Store" "windows" "[I") ∈ lw_all := lw_g (lw_at lw_m3 38 rfl) rfl
theorem q631 : (Jvm.Cond.fieldLink "FlashZones$Store" (67 : Nat) "FlashZones$Store" "fills" "[I") ∈ lw_all := lw_g (lw_at lw_m3 39 rfl) rfl
theorem q632 : (Jvm.Cond.fieldLink "FlashZones$Store" (70 : Nat) "FlashZones$Store" "targets" "[I") ∈ lw_all := lw_g (lw_at lw_m3 40 rfl) rfl
theorem q633 : (Jvm.Cond.fieldLink "FlashZones$Store" (73 : Nat) "FlashZones$Store" "days" "[I") ∈ lw_all := lw_g (lw_at lw_m3 41 rfl) rfl
theorem q634 : (Jvm.Cond.laysFinal "FlashZones$Store" "FlashZones$Store" "set" "[I") ∈ lw_all := lw_g (lw_at lw_m3 42 rfl) rfl
theorem q635 : (Jvm.Cond.soleField "FlashZones$Store" "set") ∈ lw_all := lw_g (lw_at lw_m3 43 rfl) rfl
theorem q636 : (Jvm.Cond.laysFinal "FlashZones$Store" "FlashZones$Store" "way" "I") ∈ lw_all := lw_g (lw_at lw_m3 44 rfl) rfl
theorem q637 : (Jvm.Cond.soleField "FlashZones$Store" "way") ∈ lw_all := lw_g (lw_at lw_m3 45 rfl) rfl
theorem q638 : (Jvm.Cond.laysFinal "FlashZones$Store" "FlashZones$Store" "known" "[I") ∈ lw_all := lw_g (lw_at lw_m3 46 rfl) rfl
theorem q639 : (Jvm.Cond.soleField "FlashZones$Store" "known") ∈ lw_all := lw_g (lw_at lw_m3 47 rfl) rfl
theorem q640 : (Jvm.Cond.lays "FlashZones$Store" "FlashZones$Store" "day" "I") ∈ lw_all := lw_g (lw_at lw_m3 48 rfl) rfl
theorem q641 : (Jvm.Cond.soleField "FlashZones$Store" "day") ∈ lw_all := lw_g (lw_at lw_m3 49 rfl) rfl
theorem q642 : (Jvm.Cond.lays "FlashZones$Store" "FlashZones$Store" "loss" "I") ∈ lw_all := lw_g (lw_at lw_m3 50 rfl) rfl
theorem q643 : (Jvm.Cond.soleField "FlashZones$Store" "loss") ∈ lw_all := lw_g (lw_at lw_m3 51 rfl) rfl
theorem q644 : (Jvm.Cond.lays "FlashZones$Store" "FlashZones$Store" "moves" "I") ∈ lw_all := lw_g (lw_at lw_m3 52 rfl) rfl
theorem q645 : (Jvm.Cond.soleField "FlashZones$Store" "moves") ∈ lw_all := lw_g (lw_at lw_m3 53 rfl) rfl
theorem q646 : (Jvm.Cond.lays "FlashZones$Store" "FlashZones$Store" "resets" "I") ∈ lw_all := lw_g (lw_at lw_m3 54 rfl) rfl
theorem q647 : (Jvm.Cond.soleField "FlashZones$Store" "resets") ∈ lw_all := lw_g (lw_at lw_m3 55 rfl) rfl
theorem q648 : (Jvm.Cond.lays "FlashZones$Store" "FlashZones$Store" "deaths" "I") ∈ lw_all := lw_g (lw_at lw_m3 56 rfl) rfl
theorem q649 : (Jvm.Cond.soleField "FlashZones$Store" "deaths") ∈ lw_all := lw_g (lw_at lw_m3 57 rfl) rfl
theorem q650 : (Jvm.Cond.lays "FlashZones$Store" "FlashZones$Store" "lives" "I") ∈ lw_all := lw_g (lw_at lw_m3 58 rfl) rfl
theorem q651 : (Jvm.Cond.soleField "FlashZones$Store" "lives") ∈ lw_all := lw_g (lw_at lw_m3 59 rfl) rfl
theorem q652 : (Jvm.Cond.laysFinal "FlashZones$Store" "FlashZones$Store" "units" "Ljava/util/List;") ∈ lw_all := lw_g (lw_at lw_m3 60 rfl) rfl
theorem q653 : (Jvm.Cond.soleField "FlashZones$Store" "units") ∈ lw_all := lw_g (lw_at lw_m3 61 rfl) rfl
theorem q654 : (Jvm.Cond.laysFinal "FlashZones$Store" "FlashZones$Store" "zones" "[LFlashZones$Zone;") ∈ lw_all := lw_g (lw_at lw_m3 62 rfl) rfl
theorem q655 : (Jvm.Cond.soleField "FlashZones$Store" "zones") ∈ lw_all := lw_g (lw_at lw_m3 63 rfl) rfl
theorem q656 : (Jvm.Cond.laysFinal "FlashZones$Store" "FlashZones$Store" "weights" "[I") ∈ lw_all := lw_g (lw_at lw_m3 64 rfl) rfl
theorem q657 : (Jvm.Cond.soleField "FlashZones$Store" "weights") ∈ lw_all := lw_g (lw_at lw_m3 65 rfl) rfl
theorem q658 : (Jvm.Cond.laysFinal "FlashZones$Store" "FlashZones$Store" "losses" "[I") ∈ lw_all := lw_g (lw_at lw_m3 66 rfl) rfl
theorem q659 : (Jvm.Cond.soleField "FlashZones$Store" "losses") ∈ lw_all := lw_g (lw_at lw_m3 67 rfl) rfl
theorem q660 : (Jvm.Cond.laysFinal "FlashZones$Store" "FlashZones$Store" "writerMany" "[I") ∈ lw_all := lw_g (lw_at lw_m3 68 rfl) rfl
theorem q661 : (Jvm.Cond.soleField "FlashZones$Store" "writerMany") ∈ lw_all := lw_g (lw_at lw_m3 69 rfl) rfl
theorem q662 : (Jvm.Cond.laysFinal "FlashZones$Store" "FlashZones$Store" "writerSum" "[I") ∈ lw_all := lw_g (lw_at lw_m3 70 rfl) rfl
theorem q663 : (Jvm.Cond.soleField "FlashZones$Store" "writerSum") ∈ lw_all := lw_g (lw_at lw_m3 71 rfl) rfl
theorem q664 : (Jvm.Cond.laysFinal "FlashZones$Store" "FlashZones$Store" "writerMost" "[I") ∈ lw_all := lw_g (lw_at lw_m3 72 rfl) rfl
theorem q665 : (Jvm.Cond.soleField "FlashZones$Store" "writerMost") ∈ lw_all := lw_g (lw_at lw_m3 73 rfl) rfl
theorem q666 : (Jvm.Cond.laysFinal "FlashZones$Store" "FlashZones$Store" "sizeMany" "[I") ∈ lw_all := lw_g (lw_at lw_m3 74 rfl) rfl
theorem q667 : (Jvm.Cond.soleField "FlashZones$Store" "sizeMany") ∈ lw_all := lw_g (lw_at lw_m3 75 rfl) rfl
theorem q668 : (Jvm.Cond.laysFinal "FlashZones$Store" "FlashZones$Store" "sizeSum" "[I") ∈ lw_all := lw_g (lw_at lw_m3 76 rfl) rfl
theorem q669 : (Jvm.Cond.soleField "FlashZones$Store" "sizeSum") ∈ lw_all := lw_g (lw_at lw_m3 77 rfl) rfl
theorem q670 : (Jvm.Cond.laysFinal "FlashZones$Store" "FlashZones$Store" "latest" "[I") ∈ lw_all := lw_g (lw_at lw_m3 78 rfl) rfl
theorem q671 : (Jvm.Cond.soleField "FlashZones$Store" "latest") ∈ lw_all := lw_g (lw_at lw_m3 79 rfl) rfl
theorem q672 : (Jvm.Cond.laysFinal "FlashZones$Store" "FlashZones$Store" "guessers" "[LFlashZones$Guesser;") ∈ lw_all := lw_g (lw_at lw_m3 80 rfl) rfl
theorem q673 : (Jvm.Cond.soleField "FlashZones$Store" "guessers") ∈ lw_all := lw_g (lw_at lw_m3 81 rfl) rfl
theorem q674 : (Jvm.Cond.laysFinal "FlashZones$Store" "FlashZones$Store" "windows" "[I") ∈ lw_all := lw_g (lw_at lw_m3 82 rfl) rfl
theorem q675 : (Jvm.Cond.soleField "FlashZones$Store" "windows") ∈ lw_all := lw_g (lw_at lw_m3 83 rfl) rfl
theorem q676 : (Jvm.Cond.laysFinal "FlashZones$Store" "FlashZones$Store" "fills" "[I") ∈ lw_all := lw_g (lw_at lw_m3 84 rfl) rfl
theorem q677 : (Jvm.Cond.soleField "FlashZones$Store" "fills") ∈ lw_all := lw_g (lw_at lw_m3 85 rfl) rfl
theorem q678 : (Jvm.Cond.laysFinal "FlashZones$Store" "FlashZones$Store" "targets" "[I") ∈ lw_all := lw_g (lw_at lw_m3 86 rfl) rfl
theorem q679 : (Jvm.Cond.soleField "FlashZones$Store" "targets") ∈ lw_all := lw_g (lw_at lw_m3 87 rfl) rfl
theorem q680 : (Jvm.Cond.laysFinal "FlashZones$Store" "FlashZones$Store" "days" "[I") ∈ lw_all := lw_g (lw_at lw_m3 88 rfl) rfl
theorem q681 : (Jvm.Cond.soleField "FlashZones$Store" "days") ∈ lw_all := lw_g (lw_at lw_m3 89 rfl) rfl
theorem q682 : (Jvm.Cond.superclass "FlashZones$Store" "java/lang/Object") ∈ lw_all := lw_g (lw_at lw_m3 90 rfl) rfl
theorem q819 : (Jvm.Cond.instanceMethod ({ cls := "FlashZones$Store", name := "named", desc := "(I)LFlashZones$Unit;" } : Jvm.MethodName)) ∈ lw_all := lw_g (lw_at lw_m3 227 rfl) rfl
theorem q820 : (Jvm.Cond.selects "FlashZones$Store" ({ cls := "FlashZones$Store", name := "named", desc := "(I)LFlashZones$Unit;" } : Jvm.MethodName) ({ cls := "FlashZones$Store", name := "named", desc := "(I)LFlashZones$Unit;" } : Jvm.MethodName)) ∈ lw_all := lw_g (lw_at lw_m3 228 rfl) rfl
theorem q821 : (Jvm.Cond.code ({ cls := "FlashZones$Store", name := "named", desc := "(I)LFlashZones$Unit;" } : Jvm.MethodName) prog_9_method_30_code (3 : Nat) (Option.some (Jvm.ClassFile.FieldType.object "FlashZones$Unit"))) ∈ lw_all := lw_g (lw_at lw_m3 229 rfl) rfl
theorem q822 : (Jvm.Cond.interfaceEntry "FlashZones$Store" (108 : Nat)) ∈ lw_tbl := lw_at lw_m3 230 rfl
theorem q823 : (Jvm.Cond.methodLink "FlashZones$Store" (108 : Nat) ({ cls := "java/util/List", name := "size", desc := "()I" } : Jvm.MethodName)) ∈ lw_all := lw_g (lw_at lw_m3 231 rfl) rfl
theorem q824 : (Jvm.Cond.interfaceEntry "FlashZones$Store" (116 : Nat)) ∈ lw_tbl := lw_at lw_m3 232 rfl
theorem q825 : (Jvm.Cond.methodLink "FlashZones$Store" (116 : Nat) ({ cls := "java/util/List", name := "get", desc := "(I)Ljava/lang/Object;" } : Jvm.MethodName)) ∈ lw_all := lw_g (lw_at lw_m3 233 rfl) rfl
theorem q826 : (Jvm.Cond.classLink "FlashZones$Store" (114 : Nat) "FlashZones$Unit") ∈ lw_all := lw_g (lw_at lw_m3 234 rfl) rfl
theorem q832 : (Jvm.Cond.instanceMethod ({ cls := "FlashZones$Store", name := "writeUnit", desc := "(IIII)I" } : Jvm.MethodName)) ∈ lw_all := lw_g (lw_at lw_m4 0 rfl) rfl
theorem q833 : (Jvm.Cond.selects "FlashZones$Store" ({ cls := "FlashZones$Store", name := "writeUnit", desc := "(IIII)I" } : Jvm.MethodName) ({ cls := "FlashZones$Store", name := "writeUnit", desc := "(IIII)I" } : Jvm.MethodName)) ∈ lw_all := lw_g (lw_at lw_m4 1 rfl) rfl
theorem q834 : (Jvm.Cond.code ({ cls := "FlashZones$Store", name := "writeUnit", desc := "(IIII)I" } : Jvm.MethodName) prog_9_method_20_code (8 : Nat) (Option.some Jvm.ClassFile.FieldType.int)) ∈ lw_all := lw_g (lw_at lw_m4 2 rfl) rfl
theorem q835 : (Jvm.Cond.methodLink "FlashZones$Store" (229 : Nat) ({ cls := "FlashZones$Store", name := "placeFor", desc := "(III)I" } : Jvm.MethodName)) ∈ lw_all := lw_g (lw_at lw_m4 3 rfl) rfl
theorem q836 : (Jvm.Cond.instanceMethod ({ cls := "FlashZones$Store", name := "placeFor", desc := "(III)I" } : Jvm.MethodName)) ∈ lw_all := lw_g (lw_at lw_m4 4 rfl) rfl
theorem q837 : (Jvm.Cond.selects "FlashZones$Store" ({ cls := "FlashZones$Store", name := "placeFor", desc := "(III)I" } : Jvm.MethodName) ({ cls := "FlashZones$Store", name := "placeFor", desc := "(III)I" } : Jvm.MethodName)) ∈ lw_all := lw_g (lw_at lw_m4 5 rfl) rfl
theorem q838 : (Jvm.Cond.code ({ cls := "FlashZones$Store", name := "placeFor", desc := "(III)I" } : Jvm.MethodName) prog_9_method_19_code (4 : Nat) (Option.some Jvm.ClassFile.FieldType.int)) ∈ lw_all := lw_g (lw_at lw_m4 6 rfl) rfl
theorem q839 : (Jvm.Cond.methodLink "FlashZones$Store" (218 : Nat) ({ cls := "FlashZones$Store", name := "lay", desc := "()V" } : Jvm.MethodName)) ∈ lw_all := lw_g (lw_at lw_m4 7 rfl) rfl
theorem q840 : (Jvm.Cond.privateMethod ({ cls := "FlashZones$Store", name := "lay", desc := "()V" } : Jvm.MethodName)) ∈ lw_tbl := lw_at lw_m4 8 rfl
theorem q841 : (Jvm.Cond.instanceMethod ({ cls := "FlashZones$Store", name := "lay", desc := "()V" } : Jvm.MethodName)) ∈ lw_all := lw_g (lw_at lw_m4 9 rfl) rfl
theorem q842 : (Jvm.Cond.code ({ cls := "FlashZones$Store", name := "lay", desc := "()V" } : Jvm.MethodName) prog_9_method_13_code (2 : Nat) (Option.none : Option Jvm.ClassFile.FieldType)) ∈ lw_all := lw_g (lw_at lw_m4 10 rfl) rfl
theorem q843 : (Jvm.Cond.methodLink "FlashZones$Store" (221 : Nat) ({ cls := "FlashZones$Store", name := "leader", desc := "()I" } : Jvm.MethodName)) ∈ lw_all := lw_g (lw_at lw_m4 11 rfl) rfl
theorem q844 : (Jvm.Cond.instanceMethod ({ cls := "FlashZones$Store", name := "leader", desc := "()I" } : Jvm.MethodName)) ∈ lw_all := lw_g (lw_at lw_m4 12 rfl) rfl
theorem q845 : (Jvm.Cond.selects "FlashZones$Store" ({ cls := "FlashZones$Store", name := "leader", desc := "()I" } : Jvm.MethodName) ({ cls := "FlashZones$Store", name := "leader", desc := "()I" } : Jvm.MethodName)) ∈ lw_all := lw_g (lw_at lw_m4 13 rfl) rfl
theorem q846 : (Jvm.Cond.code ({ cls := "FlashZones$Store", name := "leader", desc := "()I" } : Jvm.MethodName) prog_9_method_7_code (3 : Nat) (Option.some Jvm.ClassFile.FieldType.int)) ∈ lw_all := lw_g (lw_at lw_m4 14 rfl) rfl
theorem q847 : (Jvm.Cond.methodLink "FlashZones$Store" (223 : Nat) ({ cls := "FlashZones$Store", name := "tells", desc := "(IIII)I" } : Jvm.MethodName)) ∈ lw_all := lw_g (lw_at lw_m4 15 rfl) rfl
theorem q848 : (Jvm.Cond.instanceMethod ({ cls := "FlashZones$Store", name := "tells", desc := "(IIII)I" } : Jvm.MethodName)) ∈ lw_all := lw_g (lw_at lw_m4 16 rfl) rfl
theorem q849 : (Jvm.Cond.selects "FlashZones$Store" ({ cls := "FlashZones$Store", name := "tells", desc := "(IIII)I" } : Jvm.MethodName) ({ cls := "FlashZones$Store", name := "tells", desc := "(IIII)I" } : Jvm.MethodName)) ∈ lw_all := lw_g (lw_at lw_m4 17 rfl) rfl
theorem q850 : (Jvm.Cond.code ({ cls := "FlashZones$Store", name := "tells", desc := "(IIII)I" } : Jvm.MethodName) prog_9_method_8_code (5 : Nat) (Option.some Jvm.ClassFile.FieldType.int)) ∈ lw_all := lw_g (lw_at lw_m4 18 rfl) rfl
theorem q851 : (Jvm.Cond.interfaceEntry "FlashZones$Store" (152 : Nat)) ∈ lw_tbl := lw_at lw_m4 19 rfl
theorem q852 : (Jvm.Cond.methodLink "FlashZones$Store" (152 : Nat) ({ cls := "FlashZones$Guesser", name := "tells", desc := "(III)I" } : Jvm.MethodName)) ∈ lw_all := lw_g (lw_at lw_m4 20 rfl) rfl
theorem q855 : (Jvm.Cond.methodLink "FlashZones$Store" (155 : Nat) ({ cls := "java/lang/Math", name := "min", desc := "(II)I" } : Jvm.MethodName)) ∈ lw_all := lw_g (lw_at lw_m4 23 rfl) rfl
theorem q856 : (Jvm.Cond.methodLink "FlashZones$Store" (161 : Nat) ({ cls := "java/lang/Math", name := "max", desc := "(II)I" } : Jvm.MethodName)) ∈ lw_all := lw_g (lw_at lw_m4 24 rfl) rfl
theorem q857 : (Jvm.Cond.methodLink "FlashZones$Store" (226 : Nat) ({ cls := "FlashZones$Store", name := "find", desc := "(III)I" } : Jvm.MethodName)) ∈ lw_all := lw_g (lw_at lw_m4 25 rfl) rfl
theorem q858 : (Jvm.Cond.privateMethod ({ cls := "FlashZones$Store", name := "find", desc := "(III)I" } : Jvm.MethodName)) ∈ lw_tbl := lw_at lw_m4 26 rfl
theorem q859 : (Jvm.Cond.instanceMethod ({ cls := "FlashZones$Store", name := "find", desc := "(III)I" } : Jvm.MethodName)) ∈ lw_all := lw_g (lw_at lw_m4 27 rfl) rfl
theorem q860 : (Jvm.Cond.code ({ cls := "FlashZones$Store", name := "find", desc := "(III)I" } : Jvm.MethodName) prog_9_method_15_code (7 : Nat) (Option.some Jvm.ClassFile.FieldType.int)) ∈ lw_all := lw_g (lw_at lw_m4 28 rfl) rfl
theorem q861 : (Jvm.Cond.methodLink "FlashZones$Store" (203 : Nat) ({ cls := "FlashZones$Store", name := "hasRoom", desc := "(II)Z" } : Jvm.MethodName)) ∈ lw_all := lw_g (lw_at lw_m4 29 rfl) rfl
theorem q862 : (Jvm.Cond.privateMethod ({ cls := "FlashZones$Store", name := "hasRoom", desc := "(II)Z" } : Jvm.MethodName)) ∈ lw_tbl := lw_at lw_m4 30 rfl
theorem q863 : (Jvm.Cond.instanceMethod ({ cls := "FlashZones$Store", name := "hasRoom", desc := "(II)Z" } : Jvm.MethodName)) ∈ lw_all := lw_g (lw_at lw_m4 31 rfl) rfl
theorem q864 : (Jvm.Cond.code ({ cls := "FlashZones$Store", name := "hasRoom", desc := "(II)Z" } : Jvm.MethodName) prog_9_method_14_code (3 : Nat) (Option.some Jvm.ClassFile.FieldType.boolean)) ∈ lw_all := lw_g (lw_at lw_m4 32 rfl) rfl
theorem q865 : (Jvm.Cond.methodLink "FlashZones$Store" (207 : Nat) ({ cls := "FlashZones$Store", name := "isNearer", desc := "(III)Z" } : Jvm.MethodName)) ∈ lw_all := lw_g (lw_at lw_m4 33 rfl) rfl
theorem q866 : (Jvm.Cond.static ({ cls := "FlashZones$Store", name := "isNearer", desc := "(III)Z" } : Jvm.MethodName)) ∈ lw_all := lw_g (lw_at lw_m4 34 rfl) rfl
theorem q867 : (Jvm.Cond.code ({ cls := "FlashZones$Store", name := "isNearer", desc := "(III)Z" } : Jvm.MethodName) prog_9_method_16_code (4 : Nat) (Option.some Jvm.ClassFile.FieldType.boolean)) ∈ lw_all := lw_g (lw_at lw_m4 35 rfl) rfl
theorem q868 : (Jvm.Cond.methodLink "FlashZones$Store" (184 : Nat) ({ cls := "java/lang/Math", name := "abs", desc := "(I)I" } : Jvm.MethodName)) ∈ lw_all := lw_g (lw_at lw_m4 36 rfl) rfl
theorem q872 : (Jvm.Cond.methodLink "FlashZones$Store" (232 : Nat) ({ cls := "FlashZones$Unit", name := "<init>", desc := "(III[I[I)V" } : Jvm.MethodName)) ∈ lw_all := lw_g (lw_at lw_m4 40 rfl) rfl
theorem q877 : (Jvm.Cond.fieldLinkNest "FlashZones$Store" (145 : Nat) "FlashZones$Unit" "name" "I" "FlashZones") ∈ lw_tbl := lw_at lw_m4 45 rfl
theorem q880 : (Jvm.Cond.fieldLinkNest "FlashZones$Store" (164 : Nat) "FlashZones$Unit" "writer" "I" "FlashZones") ∈ lw_tbl := lw_at lw_m4 48 rfl
theorem q883 : (Jvm.Cond.fieldLinkNest "FlashZones$Store" (167 : Nat) "FlashZones$Unit" "size" "I" "FlashZones") ∈ lw_tbl := lw_at lw_m4 51 rfl
theorem q888 : (Jvm.Cond.fieldLinkNest "FlashZones$Store" (188 : Nat) "FlashZones$Unit" "born" "I" "FlashZones") ∈ lw_tbl := lw_at lw_m4 56 rfl
theorem q891 : (Jvm.Cond.fieldLinkNest "FlashZones$Store" (194 : Nat) "FlashZones$Unit" "leader" "I" "FlashZones") ∈ lw_tbl := lw_at lw_m4 59 rfl
theorem q894 : (Jvm.Cond.fieldLinkNest "FlashZones$Store" (181 : Nat) "FlashZones$Unit" "told" "[I" "FlashZones") ∈ lw_tbl := lw_at lw_m4 62 rfl
theorem q897 : (Jvm.Cond.fieldLinkNest "FlashZones$Store" (191 : Nat) "FlashZones$Unit" "zone" "I" "FlashZones") ∈ lw_tbl := lw_at lw_m4 65 rfl
theorem q900 : (Jvm.Cond.fieldLinkNest "FlashZones$Store" (211 : Nat) "FlashZones$Unit" "guessed" "I" "FlashZones") ∈ lw_tbl := lw_at lw_m4 68 rfl
theorem q903 : (Jvm.Cond.fieldLinkNest "FlashZones$Store" (265 : Nat) "FlashZones$Unit" "moves" "I" "FlashZones") ∈ lw_tbl := lw_at lw_m4 71 rfl
theorem q906 : (Jvm.Cond.fieldLinkNest "FlashZones$Store" (169 : Nat) "FlashZones$Unit" "life" "I" "FlashZones") ∈ lw_tbl := lw_at lw_m4 74 rfl
theorem q931 : (Jvm.Cond.interfaceEntry "FlashZones$Store" (123 : Nat)) ∈ lw_tbl := lw_at lw_m4 99 rfl
theorem q932 : (Jvm.Cond.methodLink "FlashZones$Store" (123 : Nat) ({ cls := "java/util/List", name := "add", desc := "(Ljava/lang/Object;)Z" } : Jvm.MethodName)) ∈ lw_all := lw_g (lw_at lw_m4 100 rfl) rfl
theorem q965 : (Jvm.Cond.selects "FlashZones$Store" ({ cls := "java/lang/Object", name := "getClass", desc := "()Ljava/lang/Class;" } : Jvm.MethodName) ({ cls := "java/lang/Object", name := "getClass", desc := "()Ljava/lang/Class;" } : Jvm.MethodName)) ∈ lw_all := lw_g (lw_at lw_m4 133 rfl) rfl
theorem q987 : (Jvm.Cond.methodLink "FlashZones$Store" (235 : Nat) ({ cls := "FlashZones$Store", name := "enter", desc := "(LFlashZones$Unit;II)V" } : Jvm.MethodName)) ∈ lw_all := lw_g (lw_at lw_m4 155 rfl) rfl
theorem q988 : (Jvm.Cond.privateMethod ({ cls := "FlashZones$Store", name := "enter", desc := "(LFlashZones$Unit;II)V" } : Jvm.MethodName)) ∈ lw_tbl := lw_at lw_m4 156 rfl
theorem q989 : (Jvm.Cond.instanceMethod ({ cls := "FlashZones$Store", name := "enter", desc := "(LFlashZones$Unit;II)V" } : Jvm.MethodName)) ∈ lw_all := lw_g (lw_at lw_m4 157 rfl) rfl
theorem q990 : (Jvm.Cond.code ({ cls := "FlashZones$Store", name := "enter", desc := "(LFlashZones$Unit;II)V" } : Jvm.MethodName) prog_9_method_18_code (5 : Nat) (Option.none : Option Jvm.ClassFile.FieldType)) ∈ lw_all := lw_g (lw_at lw_m4 158 rfl) rfl
theorem q991 : (Jvm.Cond.methodLink "FlashZones$Store" (214 : Nat) ({ cls := "FlashZones$Zone", name := "isFree", desc := "()Z" } : Jvm.MethodName)) ∈ lw_all := lw_g (lw_at lw_m4 159 rfl) rfl
theorem q996 : (Jvm.Cond.instanceMethod ({ cls := "FlashZones$Store", name := "killUnit", desc := "(LFlashZones$Unit;)I" } : Jvm.MethodName)) ∈ lw_all := lw_g (lw_at lw_m4 164 rfl) rfl
theorem q997 : (Jvm.Cond.selects "FlashZones$Store" ({ cls := "FlashZones$Store", name := "killUnit", desc := "(LFlashZones$Unit;)I" } : Jvm.MethodName) ({ cls := "FlashZones$Store", name := "killUnit", desc := "(LFlashZones$Unit;)I" } : Jvm.MethodName)) ∈ lw_all := lw_g (lw_at lw_m4 165 rfl) rfl
theorem q998 : (Jvm.Cond.code ({ cls := "FlashZones$Store", name := "killUnit", desc := "(LFlashZones$Unit;)I" } : Jvm.MethodName) prog_9_method_21_code (2 : Nat) (Option.some Jvm.ClassFile.FieldType.int)) ∈ lw_all := lw_g (lw_at lw_m4 166 rfl) rfl
theorem q999 : (Jvm.Cond.methodLink "FlashZones$Store" (239 : Nat) ({ cls := "FlashZones$Unit", name := "lives", desc := "()Z" } : Jvm.MethodName)) ∈ lw_all := lw_g (lw_at lw_m4 167 rfl) rfl
theorem q1000 : (Jvm.Cond.methodLink "FlashZones$Store" (241 : Nat) ({ cls := "FlashZones$Store", name := "dies", desc := "(LFlashZones$Unit;)V" } : Jvm.MethodName)) ∈ lw_all := lw_g (lw_at lw_m4 168 rfl) rfl
theorem q1001 : (Jvm.Cond.instanceMethod ({ cls := "FlashZones$Store", name := "dies", desc := "(LFlashZones$Unit;)V" } : Jvm.MethodName)) ∈ lw_all := lw_g (lw_at lw_m4 169 rfl) rfl
theorem q1002 : (Jvm.Cond.selects "FlashZones$Store" ({ cls := "FlashZones$Store", name := "dies", desc := "(LFlashZones$Unit;)V" } : Jvm.MethodName) ({ cls := "FlashZones$Store", name := "dies", desc := "(LFlashZones$Unit;)V" } : Jvm.MethodName)) ∈ lw_all := lw_g (lw_at lw_m4 170 rfl) rfl
theorem q1003 : (Jvm.Cond.code ({ cls := "FlashZones$Store", name := "dies", desc := "(LFlashZones$Unit;)V" } : Jvm.MethodName) prog_9_method_12_code (2 : Nat) (Option.none : Option Jvm.ClassFile.FieldType)) ∈ lw_all := lw_g (lw_at lw_m4 171 rfl) rfl
theorem q1004 : (Jvm.Cond.methodLink "FlashZones$Store" (175 : Nat) ({ cls := "FlashZones$Store", name := "lossOf", desc := "(LFlashZones$Unit;I)I" } : Jvm.MethodName)) ∈ lw_all := lw_g (lw_at lw_m4 172 rfl) rfl
theorem q1005 : (Jvm.Cond.static ({ cls := "FlashZones$Store", name := "lossOf", desc := "(LFlashZones$Unit;I)I" } : Jvm.MethodName)) ∈ lw_all := lw_g (lw_at lw_m4 173 rfl) rfl
theorem q1006 : (Jvm.Cond.code ({ cls := "FlashZones$Store", name := "lossOf", desc := "(LFlashZones$Unit;I)I" } : Jvm.MethodName) prog_9_method_11_code (2 : Nat) (Option.some Jvm.ClassFile.FieldType.int)) ∈ lw_all := lw_g (lw_at lw_m4 174 rfl) rfl
theorem q1007 : (Jvm.Cond.methodLink "FlashZones$Store" (197 : Nat) ({ cls := "FlashZones$Store", name := "weighs", desc := "(LFlashZones$Unit;)V" } : Jvm.MethodName)) ∈ lw_all := lw_g (lw_at lw_m4 175 rfl) rfl
theorem q1008 : (Jvm.Cond.privateMethod ({ cls := "FlashZones$Store", name := "weighs", desc := "(LFlashZones$Unit;)V" } : Jvm.MethodName)) ∈ lw_tbl := lw_at lw_m4 176 rfl
theorem q1009 : (Jvm.Cond.instanceMethod ({ cls := "FlashZones$Store", name := "weighs", desc := "(LFlashZones$Unit;)V" } : Jvm.MethodName)) ∈ lw_all := lw_g (lw_at lw_m4 177 rfl) rfl
theorem q1010 : (Jvm.Cond.code ({ cls := "FlashZones$Store", name := "weighs", desc := "(LFlashZones$Unit;)V" } : Jvm.MethodName) prog_9_method_10_code (5 : Nat) (Option.none : Option Jvm.ClassFile.FieldType)) ∈ lw_all := lw_g (lw_at lw_m4 178 rfl) rfl
theorem q1011 : (Jvm.Cond.constantLong "FlashZones$Store" (179 : Nat) (2000 : Int64)) ∈ lw_all := lw_g (lw_at lw_m4 179 rfl) rfl
theorem q1012 : (Jvm.Cond.methodLink "FlashZones$Store" (200 : Nat) ({ cls := "FlashZones$Store", name := "learns", desc := "(LFlashZones$Unit;)V" } : Jvm.MethodName)) ∈ lw_all := lw_g (lw_at lw_m4 180 rfl) rfl
theorem q1013 : (Jvm.Cond.privateMethod ({ cls := "FlashZones$Store", name := "learns", desc := "(LFlashZones$Unit;)V" } : Jvm.MethodName)) ∈ lw_tbl := lw_at lw_m4 181 rfl
theorem q1014 : (Jvm.Cond.instanceMethod ({ cls := "FlashZones$Store", name := "learns", desc := "(LFlashZones$Unit;)V" } : Jvm.MethodName)) ∈ lw_all := lw_g (lw_at lw_m4 182 rfl) rfl
theorem q1015 : (Jvm.Cond.code ({ cls := "FlashZones$Store", name := "learns", desc := "(LFlashZones$Unit;)V" } : Jvm.MethodName) prog_9_method_9_code (4 : Nat) (Option.none : Option Jvm.ClassFile.FieldType)) ∈ lw_all := lw_g (lw_at lw_m4 183 rfl) rfl
theorem q1017 : (Jvm.Cond.instanceMethod ({ cls := "FlashZones$Store", name := "resetZone", desc := "(I)I" } : Jvm.MethodName)) ∈ lw_all := lw_g (lw_at lw_m4 185 rfl) rfl
theorem q1018 : (Jvm.Cond.selects "FlashZones$Store" ({ cls := "FlashZones$Store", name := "resetZone", desc := "(I)I" } : Jvm.MethodName) ({ cls := "FlashZones$Store", name := "resetZone", desc := "(I)I" } : Jvm.MethodName)) ∈ lw_all := lw_g (lw_at lw_m4 186 rfl) rfl
theorem q1019 : (Jvm.Cond.code ({ cls := "FlashZones$Store", name := "resetZone", desc := "(I)I" } : Jvm.MethodName) prog_9_method_23_code (2 : Nat) (Option.some Jvm.ClassFile.FieldType.int)) ∈ lw_all := lw_g (lw_at lw_m4 187 rfl) rfl
theorem q1020 : (Jvm.Cond.methodLink "FlashZones$Store" (248 : Nat) ({ cls := "FlashZones$Store", name := "livingIn", desc := "(I)I" } : Jvm.MethodName)) ∈ lw_all := lw_g (lw_at lw_m4 188 rfl) rfl
theorem q1021 : (Jvm.Cond.instanceMethod ({ cls := "FlashZones$Store", name := "livingIn", desc := "(I)I" } : Jvm.MethodName)) ∈ lw_all := lw_g (lw_at lw_m4 189 rfl) rfl
theorem q1022 : (Jvm.Cond.selects "FlashZones$Store" ({ cls := "FlashZones$Store", name := "livingIn", desc := "(I)I" } : Jvm.MethodName) ({ cls := "FlashZones$Store", name := "livingIn", desc := "(I)I" } : Jvm.MethodName)) ∈ lw_all := lw_g (lw_at lw_m4 190 rfl) rfl
theorem q1023 : (Jvm.Cond.code ({ cls := "FlashZones$Store", name := "livingIn", desc := "(I)I" } : Jvm.MethodName) prog_9_method_22_code (4 : Nat) (Option.some Jvm.ClassFile.FieldType.int)) ∈ lw_all := lw_g (lw_at lw_m4 191 rfl) rfl
theorem q1024 : (Jvm.Cond.methodLinkNest "FlashZones$Store" (244 : Nat) ({ cls := "FlashZones", name := "bit", desc := "(Z)I" } : Jvm.MethodName) "FlashZones") ∈ lw_tbl := lw_at lw_m4 192 rfl
theorem q1027 : (Jvm.Cond.methodLink "FlashZones$Store" (251 : Nat) ({ cls := "FlashZones$Store", name := "clearZone", desc := "(I)V" } : Jvm.MethodName)) ∈ lw_all := lw_g (lw_at lw_m4 195 rfl) rfl
theorem q1028 : (Jvm.Cond.privateMethod ({ cls := "FlashZones$Store", name := "clearZone", desc := "(I)V" } : Jvm.MethodName)) ∈ lw_tbl := lw_at lw_m4 196 rfl
theorem q1029 : (Jvm.Cond.instanceMethod ({ cls := "FlashZones$Store", name := "clearZone", desc := "(I)V" } : Jvm.MethodName)) ∈ lw_all := lw_g (lw_at lw_m4 197 rfl) rfl
theorem q1030 : (Jvm.Cond.code ({ cls := "FlashZones$Store", name := "clearZone", desc := "(I)V" } : Jvm.MethodName) prog_9_method_24_code (2 : Nat) (Option.none : Option Jvm.ClassFile.FieldType)) ∈ lw_all := lw_g (lw_at lw_m4 198 rfl) rfl
theorem q1031 : (Jvm.Cond.methodLink "FlashZones$Store" (255 : Nat) ({ cls := "FlashZones$Zone", name := "empty", desc := "()V" } : Jvm.MethodName)) ∈ lw_all := lw_g (lw_at lw_m4 199 rfl) rfl
theorem q1045 : (Jvm.Cond.instanceMethod ({ cls := "FlashZones$Store", name := "buryZone", desc := "(I)I" } : Jvm.MethodName)) ∈ lw_all := lw_g (lw_at lw_m4 213 rfl) rfl
theorem q1046 : (Jvm.Cond.selects "FlashZones$Store" ({ cls := "FlashZones$Store", name := "buryZone", desc := "(I)I" } : Jvm.MethodName) ({ cls := "FlashZones$Store", name := "buryZone", desc := "(I)I" } : Jvm.MethodName)) ∈ lw_all := lw_g (lw_at lw_m4 214 rfl) rfl
theorem q1047 : (Jvm.Cond.code ({ cls := "FlashZones$Store", name := "buryZone", desc := "(I)I" } : Jvm.MethodName) prog_9_method_26_code (6 : Nat) (Option.some Jvm.ClassFile.FieldType.int)) ∈ lw_all := lw_g (lw_at lw_m4 215 rfl) rfl
theorem q1048 : (Jvm.Cond.methodLink "FlashZones$Store" (262 : Nat) ({ cls := "FlashZones$Store", name := "plan", desc := "(I)I" } : Jvm.MethodName)) ∈ lw_all := lw_g (lw_at lw_m4 216 rfl) rfl
theorem q1049 : (Jvm.Cond.instanceMethod ({ cls := "FlashZones$Store", name := "plan", desc := "(I)I" } : Jvm.MethodName)) ∈ lw_all := lw_g (lw_at lw_m4 217 rfl) rfl
theorem q1050 : (Jvm.Cond.selects "FlashZones$Store" ({ cls := "FlashZones$Store", name := "plan", desc := "(I)I" } : Jvm.MethodName) ({ cls := "FlashZones$Store", name := "plan", desc := "(I)I" } : Jvm.MethodName)) ∈ lw_all := lw_g (lw_at lw_m4 218 rfl) rfl
theorem q1051 : (Jvm.Cond.code ({ cls := "FlashZones$Store", name := "plan", desc := "(I)I" } : Jvm.MethodName) prog_9_method_25_code (7 : Nat) (Option.some Jvm.ClassFile.FieldType.int)) ∈ lw_all := lw_g (lw_at lw_m4 219 rfl) rfl
theorem q1052 : (Jvm.Cond.methodLink "FlashZones$Store" (258 : Nat) ({ cls := "FlashZones$Store", name := "fill", desc := "(III)V" } : Jvm.MethodName)) ∈ lw_all := lw_g (lw_at lw_m4 220 rfl) rfl
theorem q1053 : (Jvm.Cond.privateMethod ({ cls := "FlashZones$Store", name := "fill", desc := "(III)V" } : Jvm.MethodName)) ∈ lw_tbl := lw_at lw_m4 221 rfl
theorem q1054 : (Jvm.Cond.instanceMethod ({ cls := "FlashZones$Store", name := "fill", desc := "(III)V" } : Jvm.MethodName)) ∈ lw_all := lw_g (lw_at lw_m4 222 rfl) rfl
theorem q1055 : (Jvm.Cond.code ({ cls := "FlashZones$Store", name := "fill", desc := "(III)V" } : Jvm.MethodName) prog_9_method_17_code (4 : Nat) (Option.none : Option Jvm.ClassFile.FieldType)) ∈ lw_all := lw_g (lw_at lw_m4 223 rfl) rfl
theorem q1062 : (Jvm.Cond.instanceMethod ({ cls := "FlashZones$Store", name := "passAll", desc := "(I)V" } : Jvm.MethodName)) ∈ lw_all := lw_g (lw_at lw_m4 230 rfl) rfl
theorem q1063 : (Jvm.Cond.selects "FlashZones$Store" ({ cls := "FlashZones$Store", name := "passAll", desc := "(I)V" } : Jvm.MethodName) ({ cls := "FlashZones$Store", name := "passAll", desc := "(I)V" } : Jvm.MethodName)) ∈ lw_all := lw_g (lw_at lw_m4 231 rfl) rfl
theorem q1064 : (Jvm.Cond.code ({ cls := "FlashZones$Store", name := "passAll", desc := "(I)V" } : Jvm.MethodName) prog_9_method_29_code (3 : Nat) (Option.none : Option Jvm.ClassFile.FieldType)) ∈ lw_all := lw_g (lw_at lw_m4 232 rfl) rfl
theorem q1065 : (Jvm.Cond.methodLink "FlashZones$Store" (279 : Nat) ({ cls := "FlashZones$Store", name := "pass", desc := "()V" } : Jvm.MethodName)) ∈ lw_all := lw_g (lw_at lw_m4 233 rfl) rfl
theorem q1066 : (Jvm.Cond.instanceMethod ({ cls := "FlashZones$Store", name := "pass", desc := "()V" } : Jvm.MethodName)) ∈ lw_all := lw_g (lw_at lw_m4 234 rfl) rfl
theorem q1067 : (Jvm.Cond.selects "FlashZones$Store" ({ cls := "FlashZones$Store", name := "pass", desc := "()V" } : Jvm.MethodName) ({ cls := "FlashZones$Store", name := "pass", desc := "()V" } : Jvm.MethodName)) ∈ lw_all := lw_g (lw_at lw_m4 235 rfl) rfl
theorem q1068 : (Jvm.Cond.code ({ cls := "FlashZones$Store", name := "pass", desc := "()V" } : Jvm.MethodName) prog_9_method_28_code (3 : Nat) (Option.none : Option Jvm.ClassFile.FieldType)) ∈ lw_all := lw_g (lw_at lw_m4 236 rfl) rfl
theorem q1069 : (Jvm.Cond.methodLink "FlashZones$Store" (266 : Nat) ({ cls := "FlashZones$Unit", name := "isDue", desc := "(I)Z" } : Jvm.MethodName)) ∈ lw_all := lw_g (lw_at lw_m4 237 rfl) rfl
theorem q1074 : (Jvm.Cond.methodLink "FlashZones$Store" (270 : Nat) ({ cls := "FlashZones$Store", name := "isOver", desc := "(II)Z" } : Jvm.MethodName)) ∈ lw_all := lw_g (lw_at lw_m5 2 rfl) rfl
theorem q1075 : (Jvm.Cond.instanceMethod ({ cls := "FlashZones$Store", name := "isOver", desc := "(II)Z" } : Jvm.MethodName)) ∈ lw_all := lw_g (lw_at lw_m5 3 rfl) rfl
theorem q1076 : (Jvm.Cond.selects "FlashZones$Store" ({ cls := "FlashZones$Store", name := "isOver", desc := "(II)Z" } : Jvm.MethodName) ({ cls := "FlashZones$Store", name := "isOver", desc := "(II)Z" } : Jvm.MethodName)) ∈ lw_all := lw_g (lw_at lw_m5 4 rfl) rfl
theorem q1077 : (Jvm.Cond.code ({ cls := "FlashZones$Store", name := "isOver", desc := "(II)Z" } : Jvm.MethodName) prog_9_method_27_code (3 : Nat) (Option.some Jvm.ClassFile.FieldType.boolean)) ∈ lw_all := lw_g (lw_at lw_m5 5 rfl) rfl
theorem q1078 : (Jvm.Cond.methodLink "FlashZones$Store" (273 : Nat) ({ cls := "FlashZones$Store", name := "resetZone", desc := "(I)I" } : Jvm.MethodName)) ∈ lw_all := lw_g (lw_at lw_m5 6 rfl) rfl
theorem q1079 : (Jvm.Cond.methodLink "FlashZones$Store" (276 : Nat) ({ cls := "FlashZones$Store", name := "buryZone", desc := "(I)I" } : Jvm.MethodName)) ∈ lw_all := lw_g (lw_at lw_m5 7 rfl) rfl
theorem q1097 : (Jvm.Cond.instanceMethod ({ cls := "FlashZones$Store", name := "living", desc := "(Z)I" } : Jvm.MethodName)) ∈ lw_all := lw_g (lw_at lw_m5 25 rfl) rfl
theorem q1098 : (Jvm.Cond.selects "FlashZones$Store" ({ cls := "FlashZones$Store", name := "living", desc := "(Z)I" } : Jvm.MethodName) ({ cls := "FlashZones$Store", name := "living", desc := "(Z)I" } : Jvm.MethodName)) ∈ lw_all := lw_g (lw_at lw_m5 26 rfl) rfl
theorem q1099 : (Jvm.Cond.code ({ cls := "FlashZones$Store", name := "living", desc := "(Z)I" } : Jvm.MethodName) prog_9_method_32_code (4 : Nat) (Option.some Jvm.ClassFile.FieldType.int)) ∈ lw_all := lw_g (lw_at lw_m5 27 rfl) rfl
theorem q1101 : (Jvm.Cond.instanceMethod ({ cls := "FlashZones$Store", name := "free", desc := "()I" } : Jvm.MethodName)) ∈ lw_all := lw_g (lw_at lw_m5 29 rfl) rfl
theorem q1102 : (Jvm.Cond.selects "FlashZones$Store" ({ cls := "FlashZones$Store", name := "free", desc := "()I" } : Jvm.MethodName) ({ cls := "FlashZones$Store", name := "free", desc := "()I" } : Jvm.MethodName)) ∈ lw_all := lw_g (lw_at lw_m5 30 rfl) rfl
theorem q1103 : (Jvm.Cond.code ({ cls := "FlashZones$Store", name := "free", desc := "()I" } : Jvm.MethodName) prog_9_method_31_code (3 : Nat) (Option.some Jvm.ClassFile.FieldType.int)) ∈ lw_all := lw_g (lw_at lw_m5 31 rfl) rfl
theorem q1476 : (Jvm.Cond.instanceMethod ({ cls := "FlashZones$Store", name := "<init>", desc := "(LFlashZones$Store;)V" } : Jvm.MethodName)) ∈ lw_all := lw_g (lw_at lw_m6 164 rfl) rfl
theorem q1477 : (Jvm.Cond.code ({ cls := "FlashZones$Store", name := "<init>", desc := "(LFlashZones$Store;)V" } : Jvm.MethodName) prog_9_method_2_code (3 : Nat) (Option.none : Option Jvm.ClassFile.FieldType)) ∈ lw_all := lw_g (lw_at lw_m6 165 rfl) rfl
theorem q1478 : (Jvm.Cond.methodLink "FlashZones$Store" (87 : Nat) ({ cls := "FlashZones$Store", name := "<init>", desc := "(I[I[I)V" } : Jvm.MethodName)) ∈ lw_all := lw_g (lw_at lw_m6 166 rfl) rfl
theorem q1479 : (Jvm.Cond.methodLink "FlashZones$Store" (120 : Nat) ({ cls := "FlashZones$Unit", name := "<init>", desc := "(LFlashZones$Unit;)V" } : Jvm.MethodName)) ∈ lw_all := lw_g (lw_at lw_m6 167 rfl) rfl
theorem q1483 : (Jvm.Cond.methodLink "FlashZones$Store" (127 : Nat) ({ cls := "FlashZones$Store", name := "takes", desc := "(LFlashZones$Zone;LFlashZones$Zone;)V" } : Jvm.MethodName)) ∈ lw_all := lw_g (lw_at lw_m6 171 rfl) rfl
theorem q1484 : (Jvm.Cond.privateMethod ({ cls := "FlashZones$Store", name := "takes", desc := "(LFlashZones$Zone;LFlashZones$Zone;)V" } : Jvm.MethodName)) ∈ lw_tbl := lw_at lw_m6 172 rfl
theorem q1485 : (Jvm.Cond.instanceMethod ({ cls := "FlashZones$Store", name := "takes", desc := "(LFlashZones$Zone;LFlashZones$Zone;)V" } : Jvm.MethodName)) ∈ lw_all := lw_g (lw_at lw_m6 173 rfl) rfl
theorem q1486 : (Jvm.Cond.code ({ cls := "FlashZones$Store", name := "takes", desc := "(LFlashZones$Zone;LFlashZones$Zone;)V" } : Jvm.MethodName) prog_9_method_3_code (4 : Nat) (Option.none : Option Jvm.ClassFile.FieldType)) ∈ lw_all := lw_g (lw_at lw_m6 174 rfl) rfl
theorem q1487 : (Jvm.Cond.methodLink "FlashZones$Store" (148 : Nat) ({ cls := "FlashZones$Store", name := "named", desc := "(I)LFlashZones$Unit;" } : Jvm.MethodName)) ∈ lw_all := lw_g (lw_at lw_m6 175 rfl) rfl
theorem q1488 : (Jvm.Cond.methodLink "FlashZones$Store" (131 : Nat) ({ cls := "java/lang/System", name := "arraycopy", desc := "(Ljava/lang/Object;ILjava/lang/Object;II)V" } : Jvm.MethodName)) ∈ lw_all := lw_g (lw_at lw_m6 176 rfl) rfl
theorem q2559 : (Jvm.Cond.castable "FlashZones$Store" "java/lang/Object") ∈ lw_tbl := lw_at lw_m11 47 rfl
theorem in_X3 : ∀ w ∈ wsX30, w ∈ lw_all := lw_in wsX30 [634, 636, 638, 640, 642, 644, 646, 648, 650, 652, 654, 656, 658, 660, 662, 664, 666, 668, 670, 672, 674, 676, 678, 680] (by decide +kernel) (by decide +kernel)
/-! FlashZones$Zone -/
set_option maxRecDepth 100000
def RX4 : String := "FlashZones$Zone"
def TX4 : u_T := fun k => match k with
  | 0 => ("FlashZones$Zone", "window", "I", false)
  | 1 => ("FlashZones$Zone", "filled", "I", false)
  | 2 => ("FlashZones$Zone", "resets", "I", false)
  | _ => ("FlashZones$Zone", "units", "Ljava/util/List;", true)
def tyX4 : Nat → FieldType := fun k => match k with
  | 0 => .int
  | 1 => .int
  | 2 => .int
  | _ => .object "java/util/List"
abbrev wsX40 : List Cond := u_ws RX4 TX4 4
theorem nmX4 : ∀ a, a < 4 → ∀ b, b < 4 → a ≠ b → (TX4 a).2.1 ≠ (TX4 b).2.1 := by decide +kernel
theorem tyX4_ok : ∀ k, k < 4 → parseFieldDescriptor (TX4 k).2.2.1 = some (tyX4 k) := by decide +kernel
abbrev cX4_init : ByteArray := prog_12_method_1_code
def yX4_init : MethodName := ⟨RX4, "<init>", "()V"⟩
def dkwX4_init_0 : List UInt8 := [42, 183, 0, 3, 42, 2, 181, 0, 9, 42, 187, 0, 15, 89, 16, 9, 183, 0, 17, 181, 0, 20, 177]
abbrev dktX4_init_0 : List UInt8 := dkwX4_init_0 ++ []
theorem dksX4_init_0 : cX4_init.data.toList.drop 0 = dktX4_init_0 := by decide +kernel
theorem dX4_init_0 : decode cX4_init 0 = .ok (.aload_n 0, 1) := dk_42 (dk_at dksX4_init_0 0 rfl rfl)
theorem dX4_init_1 : decode cX4_init 1 = .ok (.invokespecial 3, 3) := dk_183 0 3 (dk_at dksX4_init_0 1 rfl rfl)
theorem dX4_init_4 : decode cX4_init 4 = .ok (.aload_n 0, 1) := dk_42 (dk_at dksX4_init_0 4 rfl rfl)
theorem dX4_init_5 : decode cX4_init 5 = .ok (.iconst (-1), 1) := dk_2 (dk_at dksX4_init_0 5 rfl rfl)
theorem dX4_init_6 : decode cX4_init 6 = .ok (.putfield 9, 3) := dk_181 0 9 (dk_at dksX4_init_0 6 rfl rfl)
theorem dX4_init_9 : decode cX4_init 9 = .ok (.aload_n 0, 1) := dk_42 (dk_at dksX4_init_0 9 rfl rfl)
theorem dX4_init_10 : decode cX4_init 10 = .ok (.new 15, 3) := dk_187 0 15 (dk_at dksX4_init_0 10 rfl rfl)
theorem dX4_init_13 : decode cX4_init 13 = .ok (.dup, 1) := dk_89 (dk_at dksX4_init_0 13 rfl rfl)
theorem dX4_init_14 : decode cX4_init 14 = .ok (.bipush 9, 2) := dk_16 9 (dk_at dksX4_init_0 14 rfl rfl)
theorem dX4_init_16 : decode cX4_init 16 = .ok (.invokespecial 17, 3) := dk_183 0 17 (dk_at dksX4_init_0 16 rfl rfl)
theorem dX4_init_19 : decode cX4_init 19 = .ok (.putfield 20, 3) := dk_181 0 20 (dk_at dksX4_init_0 19 rfl rfl)
theorem dX4_init_22 : decode cX4_init 22 = .ok (.return_, 1) := dk_177 (dk_at dksX4_init_0 22 rfl rfl)
abbrev cX4_isFree : ByteArray := prog_12_method_2_code
def yX4_isFree : MethodName := ⟨RX4, "isFree", "()Z"⟩
def dkwX4_isFree_0 : List UInt8 := [42, 180, 0, 9, 2, 160, 0, 7, 4, 167, 0, 4, 3, 172]
abbrev dktX4_isFree_0 : List UInt8 := dkwX4_isFree_0 ++ []
theorem dksX4_isFree_0 : cX4_isFree.data.toList.drop 0 = dktX4_isFree_0 := by decide +kernel
theorem dX4_isFree_0 : decode cX4_isFree 0 = .ok (.aload_n 0, 1) := dk_42 (dk_at dksX4_isFree_0 0 rfl rfl)
theorem dX4_isFree_1 : decode cX4_isFree 1 = .ok (.getfield 9, 3) := dk_180 0 9 (dk_at dksX4_isFree_0 1 rfl rfl)
theorem dX4_isFree_4 : decode cX4_isFree 4 = .ok (.iconst (-1), 1) := dk_2 (dk_at dksX4_isFree_0 4 rfl rfl)
theorem dX4_isFree_5 : decode cX4_isFree 5 = .ok (.if_icmp .ne 7, 3) := dk_160 0 7 (dk_at dksX4_isFree_0 5 rfl rfl)
theorem dX4_isFree_8 : decode cX4_isFree 8 = .ok (.iconst 1, 1) := dk_4 (dk_at dksX4_isFree_0 8 rfl rfl)
theorem dX4_isFree_9 : decode cX4_isFree 9 = .ok (.goto 4, 3) := dk_167 0 4 (dk_at dksX4_isFree_0 9 rfl rfl)
theorem dX4_isFree_12 : decode cX4_isFree 12 = .ok (.iconst 0, 1) := dk_3 (dk_at dksX4_isFree_0 12 rfl rfl)
theorem dX4_isFree_13 : decode cX4_isFree 13 = .ok (.ireturn, 1) := dk_172 (dk_at dksX4_isFree_0 13 rfl rfl)
abbrev cX4_empty : ByteArray := prog_12_method_3_code
def yX4_empty : MethodName := ⟨RX4, "empty", "()V"⟩
def dkwX4_empty_1 : List UInt8 := [4, 96, 181, 0, 32, 177]
abbrev dktX4_empty_1 : List UInt8 := dkwX4_empty_1 ++ []
def dkwX4_empty_0 : List UInt8 := [42, 2, 181, 0, 9, 42, 3, 181, 0, 24, 42, 180, 0, 20, 185, 0, 27, 1, 0, 42, 89, 180, 0, 32]
abbrev dktX4_empty_0 : List UInt8 := dkwX4_empty_0 ++ dktX4_empty_1
theorem dksX4_empty_0 : cX4_empty.data.toList.drop 0 = dktX4_empty_0 := by decide +kernel
theorem dksX4_empty_1 : cX4_empty.data.toList.drop 24 = dktX4_empty_1 := dk_seg dksX4_empty_0 24 rfl rfl
theorem dX4_empty_0 : decode cX4_empty 0 = .ok (.aload_n 0, 1) := dk_42 (dk_at dksX4_empty_0 0 rfl rfl)
theorem dX4_empty_1 : decode cX4_empty 1 = .ok (.iconst (-1), 1) := dk_2 (dk_at dksX4_empty_0 1 rfl rfl)
theorem dX4_empty_2 : decode cX4_empty 2 = .ok (.putfield 9, 3) := dk_181 0 9 (dk_at dksX4_empty_0 2 rfl rfl)
theorem dX4_empty_5 : decode cX4_empty 5 = .ok (.aload_n 0, 1) := dk_42 (dk_at dksX4_empty_0 5 rfl rfl)
theorem dX4_empty_6 : decode cX4_empty 6 = .ok (.iconst 0, 1) := dk_3 (dk_at dksX4_empty_0 6 rfl rfl)
theorem dX4_empty_7 : decode cX4_empty 7 = .ok (.putfield 24, 3) := dk_181 0 24 (dk_at dksX4_empty_0 7 rfl rfl)
theorem dX4_empty_10 : decode cX4_empty 10 = .ok (.aload_n 0, 1) := dk_42 (dk_at dksX4_empty_0 10 rfl rfl)
theorem dX4_empty_11 : decode cX4_empty 11 = .ok (.getfield 20, 3) := dk_180 0 20 (dk_at dksX4_empty_0 11 rfl rfl)
theorem dX4_empty_14 : decode cX4_empty 14 = .ok (.invokeinterface 27 1, 5) := by decide +kernel
theorem dX4_empty_19 : decode cX4_empty 19 = .ok (.aload_n 0, 1) := dk_42 (dk_at dksX4_empty_0 19 rfl rfl)
theorem dX4_empty_20 : decode cX4_empty 20 = .ok (.dup, 1) := dk_89 (dk_at dksX4_empty_0 20 rfl rfl)
theorem dX4_empty_21 : decode cX4_empty 21 = .ok (.getfield 32, 3) := dk_180 0 32 (dk_at dksX4_empty_0 21 rfl rfl)
theorem dX4_empty_24 : decode cX4_empty 24 = .ok (.iconst 1, 1) := dk_4 (dk_at dksX4_empty_1 0 rfl rfl)
theorem dX4_empty_25 : decode cX4_empty 25 = .ok (.iadd, 1) := dk_96 (dk_at dksX4_empty_1 1 rfl rfl)
theorem dX4_empty_26 : decode cX4_empty 26 = .ok (.putfield 32, 3) := dk_181 0 32 (dk_at dksX4_empty_1 2 rfl rfl)
theorem dX4_empty_29 : decode cX4_empty 29 = .ok (.return_, 1) := dk_177 (dk_at dksX4_empty_1 5 rfl rfl)
theorem q119 : (Jvm.Cond.initialized "FlashZones$Zone") ∈ lw_all := lw_g (lw_at lw_m1 7 rfl) rfl
theorem q247 : (Jvm.Cond.instantiable "FlashZones$Zone" (4 : Nat)) ∈ lw_all := lw_g (lw_at lw_m1 135 rfl) rfl
theorem q249 : (Jvm.Cond.instanceMethod ({ cls := "FlashZones$Zone", name := "<init>", desc := "()V" } : Jvm.MethodName)) ∈ lw_all := lw_g (lw_at lw_m1 137 rfl) rfl
theorem q250 : (Jvm.Cond.code ({ cls := "FlashZones$Zone", name := "<init>", desc := "()V" } : Jvm.MethodName) prog_12_method_1_code (1 : Nat) (Option.none : Option Jvm.ClassFile.FieldType)) ∈ lw_all := lw_g (lw_at lw_m1 138 rfl) rfl
theorem q251 : (Jvm.Cond.methodLink "FlashZones$Zone" (3 : Nat) ({ cls := "java/lang/Object", name := "<init>", desc := "()V" } : Jvm.MethodName)) ∈ lw_all := lw_g (lw_at lw_m1 139 rfl) rfl
theorem q252 : (Jvm.Cond.classLink "FlashZones$Zone" (15 : Nat) "java/util/ArrayList") ∈ lw_all := lw_g (lw_at lw_m1 140 rfl) rfl
theorem q253 : (Jvm.Cond.methodLink "FlashZones$Zone" (17 : Nat) ({ cls := "java/util/ArrayList", name := "<init>", desc := "(I)V" } : Jvm.MethodName)) ∈ lw_all := lw_g (lw_at lw_m1 141 rfl) rfl
theorem q574 : (Jvm.Cond.fieldLink "FlashZones$Zone" (9 : Nat) "FlashZones$Zone" "window" "I") ∈ lw_all := lw_g (lw_at lw_m2 222 rfl) rfl
theorem q577 : (Jvm.Cond.fieldLink "FlashZones$Zone" (24 : Nat) "FlashZones$Zone" "filled" "I") ∈ lw_all := lw_g (lw_at lw_m2 225 rfl) rfl
theorem q582 : (Jvm.Cond.fieldLink "FlashZones$Zone" (32 : Nat) "FlashZones$Zone" "resets" "I") ∈ lw_all := lw_g (lw_at lw_m2 230 rfl) rfl
theorem q584 : (Jvm.Cond.fieldLink "FlashZones$Zone" (20 : Nat) "FlashZones$Zone" "units" "Ljava/util/List;") ∈ lw_all := lw_g (lw_at lw_m2 232 rfl) rfl
theorem q587 : (Jvm.Cond.lays "FlashZones$Zone" "FlashZones$Zone" "window" "I") ∈ lw_all := lw_g (lw_at lw_m2 235 rfl) rfl
theorem q588 : (Jvm.Cond.soleField "FlashZones$Zone" "window") ∈ lw_all := lw_g (lw_at lw_m2 236 rfl) rfl
theorem q589 : (Jvm.Cond.lays "FlashZones$Zone" "FlashZones$Zone" "filled" "I") ∈ lw_all := lw_g (lw_at lw_m2 237 rfl) rfl
theorem q590 : (Jvm.Cond.soleField "FlashZones$Zone" "filled") ∈ lw_all := lw_g (lw_at lw_m2 238 rfl) rfl
theorem q591 : (Jvm.Cond.lays "FlashZones$Zone" "FlashZones$Zone" "resets" "I") ∈ lw_all := lw_g (lw_at lw_m2 239 rfl) rfl
theorem q592 : (Jvm.Cond.soleField "FlashZones$Zone" "resets") ∈ lw_all := lw_g (lw_at lw_m3 0 rfl) rfl
theorem q593 : (Jvm.Cond.laysFinal "FlashZones$Zone" "FlashZones$Zone" "units" "Ljava/util/List;") ∈ lw_all := lw_g (lw_at lw_m3 1 rfl) rfl
theorem q594 : (Jvm.Cond.soleField "FlashZones$Zone" "units") ∈ lw_all := lw_g (lw_at lw_m3 2 rfl) rfl
theorem q595 : (Jvm.Cond.superclass "FlashZones$Zone" "java/lang/Object") ∈ lw_all := lw_g (lw_at lw_m3 3 rfl) rfl
theorem q968 : (Jvm.Cond.selects "FlashZones$Zone" ({ cls := "java/lang/Object", name := "getClass", desc := "()Ljava/lang/Class;" } : Jvm.MethodName) ({ cls := "java/lang/Object", name := "getClass", desc := "()Ljava/lang/Class;" } : Jvm.MethodName)) ∈ lw_all := lw_g (lw_at lw_m4 136 rfl) rfl
theorem q992 : (Jvm.Cond.instanceMethod ({ cls := "FlashZones$Zone", name := "isFree", desc := "()Z" } : Jvm.MethodName)) ∈ lw_all := lw_g (lw_at lw_m4 160 rfl) rfl
theorem q993 : (Jvm.Cond.selects "FlashZones$Zone" ({ cls := "FlashZones$Zone", name := "isFree", desc := "()Z" } : Jvm.MethodName) ({ cls := "FlashZones$Zone", name := "isFree", desc := "()Z" } : Jvm.MethodName)) ∈ lw_all := lw_g (lw_at lw_m4 161 rfl) rfl
theorem q994 : (Jvm.Cond.code ({ cls := "FlashZones$Zone", name := "isFree", desc := "()Z" } : Jvm.MethodName) prog_12_method_2_code (1 : Nat) (Option.some Jvm.ClassFile.FieldType.boolean)) ∈ lw_all := lw_g (lw_at lw_m4 162 rfl) rfl
theorem q1032 : (Jvm.Cond.instanceMethod ({ cls := "FlashZones$Zone", name := "empty", desc := "()V" } : Jvm.MethodName)) ∈ lw_all := lw_g (lw_at lw_m4 200 rfl) rfl
theorem q1033 : (Jvm.Cond.selects "FlashZones$Zone" ({ cls := "FlashZones$Zone", name := "empty", desc := "()V" } : Jvm.MethodName) ({ cls := "FlashZones$Zone", name := "empty", desc := "()V" } : Jvm.MethodName)) ∈ lw_all := lw_g (lw_at lw_m4 201 rfl) rfl
theorem q1034 : (Jvm.Cond.code ({ cls := "FlashZones$Zone", name := "empty", desc := "()V" } : Jvm.MethodName) prog_12_method_3_code (1 : Nat) (Option.none : Option Jvm.ClassFile.FieldType)) ∈ lw_all := lw_g (lw_at lw_m4 202 rfl) rfl
theorem q1035 : (Jvm.Cond.interfaceEntry "FlashZones$Zone" (27 : Nat)) ∈ lw_tbl := lw_at lw_m4 203 rfl
theorem q1036 : (Jvm.Cond.methodLink "FlashZones$Zone" (27 : Nat) ({ cls := "java/util/List", name := "clear", desc := "()V" } : Jvm.MethodName)) ∈ lw_all := lw_g (lw_at lw_m4 204 rfl) rfl
theorem q2552 : (Jvm.Cond.castable "FlashZones$Zone" "java/lang/Object") ∈ lw_tbl := lw_at lw_m11 40 rfl
theorem in_X4 : ∀ w ∈ wsX40, w ∈ lw_all := lw_in wsX40 [587, 589, 591, 593] (by decide +kernel) (by decide +kernel)
/-! FlashZones$Reader -/
set_option maxRecDepth 100000
def RX6 : String := "FlashZones$Reader"
def TX6 : u_T := fun k => match k with
  | 0 => ("FlashZones$Reader", "commands", "[LFlashZones$Act;", true)
  | 1 => ("FlashZones$Reader", "many", "I", false)
  | 2 => ("FlashZones$Reader", "at", "I", false)
  | 3 => ("FlashZones$Reader", "begin", "I", false)
  | 4 => ("FlashZones$Reader", "kind", "I", false)
  | 5 => ("FlashZones$Reader", "number", "I", false)
  | _ => ("FlashZones$Reader", "this$0", "LFlashZones;", true)
def tyX6 : Nat → FieldType := fun k => match k with
  | 0 => .array (.object "FlashZones$Act")
  | 1 => .int
  | 2 => .int
  | 3 => .int
  | 4 => .int
  | 5 => .int
  | _ => .object "FlashZones"
abbrev wsX60 : List Cond := u_ws RX6 TX6 7
theorem nmX6 : ∀ a, a < 7 → ∀ b, b < 7 → a ≠ b → (TX6 a).2.1 ≠ (TX6 b).2.1 := by decide +kernel
theorem tyX6_ok : ∀ k, k < 7 → parseFieldDescriptor (TX6 k).2.2.1 = some (tyX6 k) := by decide +kernel
abbrev cX6_init : ByteArray := prog_7_method_1_code
def yX6_init : MethodName := ⟨RX6, "<init>", "(LFlashZones;)V"⟩
def dkwX6_init_0 : List UInt8 := [42, 43, 181, 0, 3, 42, 183, 0, 9, 42, 16, 60, 189, 0, 15, 181, 0, 17, 42, 182, 0, 21, 177]
abbrev dktX6_init_0 : List UInt8 := dkwX6_init_0 ++ []
theorem dksX6_init_0 : cX6_init.data.toList.drop 0 = dktX6_init_0 := by decide +kernel
theorem dX6_init_0 : decode cX6_init 0 = .ok (.aload_n 0, 1) := dk_42 (dk_at dksX6_init_0 0 rfl rfl)
theorem dX6_init_1 : decode cX6_init 1 = .ok (.aload_n 1, 1) := dk_43 (dk_at dksX6_init_0 1 rfl rfl)
theorem dX6_init_2 : decode cX6_init 2 = .ok (.putfield 3, 3) := dk_181 0 3 (dk_at dksX6_init_0 2 rfl rfl)
theorem dX6_init_5 : decode cX6_init 5 = .ok (.aload_n 0, 1) := dk_42 (dk_at dksX6_init_0 5 rfl rfl)
theorem dX6_init_6 : decode cX6_init 6 = .ok (.invokespecial 9, 3) := dk_183 0 9 (dk_at dksX6_init_0 6 rfl rfl)
theorem dX6_init_9 : decode cX6_init 9 = .ok (.aload_n 0, 1) := dk_42 (dk_at dksX6_init_0 9 rfl rfl)
theorem dX6_init_10 : decode cX6_init 10 = .ok (.bipush 60, 2) := dk_16 60 (dk_at dksX6_init_0 10 rfl rfl)
theorem dX6_init_12 : decode cX6_init 12 = .ok (.anewarray 15, 3) := dk_189 0 15 (dk_at dksX6_init_0 12 rfl rfl)
theorem dX6_init_15 : decode cX6_init 15 = .ok (.putfield 17, 3) := dk_181 0 17 (dk_at dksX6_init_0 15 rfl rfl)
theorem dX6_init_18 : decode cX6_init 18 = .ok (.aload_n 0, 1) := dk_42 (dk_at dksX6_init_0 18 rfl rfl)
theorem dX6_init_19 : decode cX6_init 19 = .ok (.invokevirtual 21, 3) := dk_182 0 21 (dk_at dksX6_init_0 19 rfl rfl)
theorem dX6_init_22 : decode cX6_init 22 = .ok (.return_, 1) := dk_177 (dk_at dksX6_init_0 22 rfl rfl)
abbrev cX6_next : ByteArray := prog_7_method_3_code
def yX6_next : MethodName := ⟨RX6, "next", "()V"⟩
def dkwX6_next_8 : List UInt8 := [180, 0, 24, 4, 96, 181, 0, 24, 177]
abbrev dktX6_next_8 : List UInt8 := dkwX6_next_8 ++ []
def dkwX6_next_7 : List UInt8 := [181, 0, 46, 42, 89, 180, 0, 24, 4, 96, 181, 0, 24, 167, 255, 203, 42, 6, 181, 0, 49, 42, 89]
abbrev dktX6_next_7 : List UInt8 := dkwX6_next_7 ++ dktX6_next_8
def dkwX6_next_6 : List UInt8 := [42, 180, 0, 46, 104, 42, 180, 0, 3, 180, 0, 31, 42, 180, 0, 24, 51, 96, 16, 48, 100, 184, 0, 53]
abbrev dktX6_next_6 : List UInt8 := dkwX6_next_6 ++ dktX6_next_7
def dkwX6_next_5 : List UInt8 := [153, 0, 64, 42, 5, 181, 0, 49, 42, 16, 48, 16, 57, 182, 0, 39, 153, 0, 63, 42, 18, 52, 16, 10]
abbrev dktX6_next_5 : List UInt8 := dkwX6_next_5 ++ dktX6_next_6
def dkwX6_next_4 : List UInt8 := [153, 0, 103, 42, 89, 180, 0, 24, 4, 96, 181, 0, 24, 167, 255, 235, 42, 16, 48, 16, 57, 182, 0, 39]
abbrev dktX6_next_4 : List UInt8 := dkwX6_next_4 ++ dktX6_next_5
def dkwX6_next_3 : List UInt8 := [16, 97, 16, 122, 182, 0, 39, 153, 0, 32, 42, 4, 181, 0, 49, 42, 16, 97, 16, 122, 182, 0, 39]
abbrev dktX6_next_3 : List UInt8 := dkwX6_next_3 ++ dktX6_next_4
def dkwX6_next_2 : List UInt8 := [42, 180, 0, 24, 42, 180, 0, 3, 180, 0, 28, 160, 0, 11, 42, 3, 181, 0, 49, 167, 0, 130, 42]
abbrev dktX6_next_2 : List UInt8 := dkwX6_next_2 ++ dktX6_next_3
def dkwX6_next_1 : List UInt8 := [180, 0, 24, 4, 96, 181, 0, 24, 167, 255, 224, 42, 42, 180, 0, 24, 181, 0, 43, 42, 3, 181, 0, 46]
abbrev dktX6_next_1 : List UInt8 := dkwX6_next_1 ++ dktX6_next_2
def dkwX6_next_0 : List UInt8 := [42, 16, 32, 16, 32, 182, 0, 39, 154, 0, 14, 42, 16, 10, 16, 10, 182, 0, 39, 153, 0, 16, 42, 89]
abbrev dktX6_next_0 : List UInt8 := dkwX6_next_0 ++ dktX6_next_1
theorem dksX6_next_0 : cX6_next.data.toList.drop 0 = dktX6_next_0 := by decide +kernel
theorem dksX6_next_1 : cX6_next.data.toList.drop 24 = dktX6_next_1 := dk_seg dksX6_next_0 24 rfl rfl
theorem dksX6_next_2 : cX6_next.data.toList.drop 48 = dktX6_next_2 := dk_seg dksX6_next_1 24 rfl rfl
theorem dksX6_next_3 : cX6_next.data.toList.drop 71 = dktX6_next_3 := dk_seg dksX6_next_2 23 rfl rfl
theorem dksX6_next_4 : cX6_next.data.toList.drop 94 = dktX6_next_4 := dk_seg dksX6_next_3 23 rfl rfl
theorem dksX6_next_5 : cX6_next.data.toList.drop 118 = dktX6_next_5 := dk_seg dksX6_next_4 24 rfl rfl
theorem dksX6_next_6 : cX6_next.data.toList.drop 142 = dktX6_next_6 := dk_seg dksX6_next_5 24 rfl rfl
theorem dksX6_next_7 : cX6_next.data.toList.drop 166 = dktX6_next_7 := dk_seg dksX6_next_6 24 rfl rfl
theorem dksX6_next_8 : cX6_next.data.toList.drop 189 = dktX6_next_8 := dk_seg dksX6_next_7 23 rfl rfl
theorem dX6_next_0 : decode cX6_next 0 = .ok (.aload_n 0, 1) := dk_42 (dk_at dksX6_next_0 0 rfl rfl)
theorem dX6_next_1 : decode cX6_next 1 = .ok (.bipush 32, 2) := dk_16 32 (dk_at dksX6_next_0 1 rfl rfl)
theorem dX6_next_3 : decode cX6_next 3 = .ok (.bipush 32, 2) := dk_16 32 (dk_at dksX6_next_0 3 rfl rfl)
theorem dX6_next_5 : decode cX6_next 5 = .ok (.invokevirtual 39, 3) := dk_182 0 39 (dk_at dksX6_next_0 5 rfl rfl)
theorem dX6_next_8 : decode cX6_next 8 = .ok (.ifCond .ne 14, 3) := dk_154 0 14 (dk_at dksX6_next_0 8 rfl rfl)
theorem dX6_next_11 : decode cX6_next 11 = .ok (.aload_n 0, 1) := dk_42 (dk_at dksX6_next_0 11 rfl rfl)
theorem dX6_next_12 : decode cX6_next 12 = .ok (.bipush 10, 2) := dk_16 10 (dk_at dksX6_next_0 12 rfl rfl)
theorem dX6_next_14 : decode cX6_next 14 = .ok (.bipush 10, 2) := dk_16 10 (dk_at dksX6_next_0 14 rfl rfl)
theorem dX6_next_16 : decode cX6_next 16 = .ok (.invokevirtual 39, 3) := dk_182 0 39 (dk_at dksX6_next_0 16 rfl rfl)
theorem dX6_next_19 : decode cX6_next 19 = .ok (.ifCond .eq 16, 3) := dk_153 0 16 (dk_at dksX6_next_0 19 rfl rfl)
theorem dX6_next_22 : decode cX6_next 22 = .ok (.aload_n 0, 1) := dk_42 (dk_at dksX6_next_0 22 rfl rfl)
theorem dX6_next_23 : decode cX6_next 23 = .ok (.dup, 1) := dk_89 (dk_at dksX6_next_0 23 rfl rfl)
theorem dX6_next_24 : decode cX6_next 24 = .ok (.getfield 24, 3) := dk_180 0 24 (dk_at dksX6_next_1 0 rfl rfl)
theorem dX6_next_27 : decode cX6_next 27 = .ok (.iconst 1, 1) := dk_4 (dk_at dksX6_next_1 3 rfl rfl)
theorem dX6_next_28 : decode cX6_next 28 = .ok (.iadd, 1) := dk_96 (dk_at dksX6_next_1 4 rfl rfl)
theorem dX6_next_29 : decode cX6_next 29 = .ok (.putfield 24, 3) := dk_181 0 24 (dk_at dksX6_next_1 5 rfl rfl)
theorem dX6_next_32 : decode cX6_next 32 = .ok (.goto (-32), 3) := dk_167 255 224 (dk_at dksX6_next_1 8 rfl rfl)
theorem dX6_next_35 : decode cX6_next 35 = .ok (.aload_n 0, 1) := dk_42 (dk_at dksX6_next_1 11 rfl rfl)
theorem dX6_next_36 : decode cX6_next 36 = .ok (.aload_n 0, 1) := dk_42 (dk_at dksX6_next_1 12 rfl rfl)
theorem dX6_next_37 : decode cX6_next 37 = .ok (.getfield 24, 3) := dk_180 0 24 (dk_at dksX6_next_1 13 rfl rfl)
theorem dX6_next_40 : decode cX6_next 40 = .ok (.putfield 43, 3) := dk_181 0 43 (dk_at dksX6_next_1 16 rfl rfl)
theorem dX6_next_43 : decode cX6_next 43 = .ok (.aload_n 0, 1) := dk_42 (dk_at dksX6_next_1 19 rfl rfl)
theorem dX6_next_44 : decode cX6_next 44 = .ok (.iconst 0, 1) := dk_3 (dk_at dksX6_next_1 20 rfl rfl)
theorem dX6_next_45 : decode cX6_next 45 = .ok (.putfield 46, 3) := dk_181 0 46 (dk_at dksX6_next_1 21 rfl rfl)
theorem dX6_next_48 : decode cX6_next 48 = .ok (.aload_n 0, 1) := dk_42 (dk_at dksX6_next_2 0 rfl rfl)
theorem dX6_next_49 : decode cX6_next 49 = .ok (.getfield 24, 3) := dk_180 0 24 (dk_at dksX6_next_2 1 rfl rfl)
theorem dX6_next_52 : decode cX6_next 52 = .ok (.aload_n 0, 1) := dk_42 (dk_at dksX6_next_2 4 rfl rfl)
theorem dX6_next_53 : decode cX6_next 53 = .ok (.getfield 3, 3) := dk_180 0 3 (dk_at dksX6_next_2 5 rfl rfl)
theorem dX6_next_56 : decode cX6_next 56 = .ok (.getfield 28, 3) := dk_180 0 28 (dk_at dksX6_next_2 8 rfl rfl)
theorem dX6_next_59 : decode cX6_next 59 = .ok (.if_icmp .ne 11, 3) := dk_160 0 11 (dk_at dksX6_next_2 11 rfl rfl)
theorem dX6_next_62 : decode cX6_next 62 = .ok (.aload_n 0, 1) := dk_42 (dk_at dksX6_next_2 14 rfl rfl)
theorem dX6_next_63 : decode cX6_next 63 = .ok (.iconst 0, 1) := dk_3 (dk_at dksX6_next_2 15 rfl rfl)
theorem dX6_next_64 : decode cX6_next 64 = .ok (.putfield 49, 3) := dk_181 0 49 (dk_at dksX6_next_2 16 rfl rfl)
theorem dX6_next_67 : decode cX6_next 67 = .ok (.goto 130, 3) := dk_167 0 130 (dk_at dksX6_next_2 19 rfl rfl)
theorem dX6_next_70 : decode cX6_next 70 = .ok (.aload_n 0, 1) := dk_42 (dk_at dksX6_next_2 22 rfl rfl)
theorem dX6_next_71 : decode cX6_next 71 = .ok (.bipush 97, 2) := dk_16 97 (dk_at dksX6_next_3 0 rfl rfl)
theorem dX6_next_73 : decode cX6_next 73 = .ok (.bipush 122, 2) := dk_16 122 (dk_at dksX6_next_3 2 rfl rfl)
theorem dX6_next_75 : decode cX6_next 75 = .ok (.invokevirtual 39, 3) := dk_182 0 39 (dk_at dksX6_next_3 4 rfl rfl)
theorem dX6_next_78 : decode cX6_next 78 = .ok (.ifCond .eq 32, 3) := dk_153 0 32 (dk_at dksX6_next_3 7 rfl rfl)
theorem dX6_next_81 : decode cX6_next 81 = .ok (.aload_n 0, 1) := dk_42 (dk_at dksX6_next_3 10 rfl rfl)
theorem dX6_next_82 : decode cX6_next 82 = .ok (.iconst 1, 1) := dk_4 (dk_at dksX6_next_3 11 rfl rfl)
theorem dX6_next_83 : decode cX6_next 83 = .ok (.putfield 49, 3) := dk_181 0 49 (dk_at dksX6_next_3 12 rfl rfl)
theorem dX6_next_86 : decode cX6_next 86 = .ok (.aload_n 0, 1) := dk_42 (dk_at dksX6_next_3 15 rfl rfl)
theorem dX6_next_87 : decode cX6_next 87 = .ok (.bipush 97, 2) := dk_16 97 (dk_at dksX6_next_3 16 rfl rfl)
theorem dX6_next_89 : decode cX6_next 89 = .ok (.bipush 122, 2) := dk_16 122 (dk_at dksX6_next_3 18 rfl rfl)
theorem dX6_next_91 : decode cX6_next 91 = .ok (.invokevirtual 39, 3) := dk_182 0 39 (dk_at dksX6_next_3 20 rfl rfl)
theorem dX6_next_94 : decode cX6_next 94 = .ok (.ifCond .eq 103, 3) := dk_153 0 103 (dk_at dksX6_next_4 0 rfl rfl)
theorem dX6_next_97 : decode cX6_next 97 = .ok (.aload_n 0, 1) := dk_42 (dk_at dksX6_next_4 3 rfl rfl)
theorem dX6_next_98 : decode cX6_next 98 = .ok (.dup, 1) := dk_89 (dk_at dksX6_next_4 4 rfl rfl)
theorem dX6_next_99 : decode cX6_next 99 = .ok (.getfield 24, 3) := dk_180 0 24 (dk_at dksX6_next_4 5 rfl rfl)
theorem dX6_next_102 : decode cX6_next 102 = .ok (.iconst 1, 1) := dk_4 (dk_at dksX6_next_4 8 rfl rfl)
theorem dX6_next_103 : decode cX6_next 103 = .ok (.iadd, 1) := dk_96 (dk_at dksX6_next_4 9 rfl rfl)
theorem dX6_next_104 : decode cX6_next 104 = .ok (.putfield 24, 3) := dk_181 0 24 (dk_at dksX6_next_4 10 rfl rfl)
theorem dX6_next_107 : decode cX6_next 107 = .ok (.goto (-21), 3) := dk_167 255 235 (dk_at dksX6_next_4 13 rfl rfl)
theorem dX6_next_110 : decode cX6_next 110 = .ok (.aload_n 0, 1) := dk_42 (dk_at dksX6_next_4 16 rfl rfl)
theorem dX6_next_111 : decode cX6_next 111 = .ok (.bipush 48, 2) := dk_16 48 (dk_at dksX6_next_4 17 rfl rfl)
theorem dX6_next_113 : decode cX6_next 113 = .ok (.bipush 57, 2) := dk_16 57 (dk_at dksX6_next_4 19 rfl rfl)
theorem dX6_next_115 : decode cX6_next 115 = .ok (.invokevirtual 39, 3) := dk_182 0 39 (dk_at dksX6_next_4 21 rfl rfl)
theorem dX6_next_118 : decode cX6_next 118 = .ok (.ifCond .eq 64, 3) := dk_153 0 64 (dk_at dksX6_next_5 0 rfl rfl)
theorem dX6_next_121 : decode cX6_next 121 = .ok (.aload_n 0, 1) := dk_42 (dk_at dksX6_next_5 3 rfl rfl)
theorem dX6_next_122 : decode cX6_next 122 = .ok (.iconst 2, 1) := dk_5 (dk_at dksX6_next_5 4 rfl rfl)
theorem dX6_next_123 : decode cX6_next 123 = .ok (.putfield 49, 3) := dk_181 0 49 (dk_at dksX6_next_5 5 rfl rfl)
theorem dX6_next_126 : decode cX6_next 126 = .ok (.aload_n 0, 1) := dk_42 (dk_at dksX6_next_5 8 rfl rfl)
theorem dX6_next_127 : decode cX6_next 127 = .ok (.bipush 48, 2) := dk_16 48 (dk_at dksX6_next_5 9 rfl rfl)
theorem dX6_next_129 : decode cX6_next 129 = .ok (.bipush 57, 2) := dk_16 57 (dk_at dksX6_next_5 11 rfl rfl)
theorem dX6_next_131 : decode cX6_next 131 = .ok (.invokevirtual 39, 3) := dk_182 0 39 (dk_at dksX6_next_5 13 rfl rfl)
theorem dX6_next_134 : decode cX6_next 134 = .ok (.ifCond .eq 63, 3) := dk_153 0 63 (dk_at dksX6_next_5 16 rfl rfl)
theorem dX6_next_137 : decode cX6_next 137 = .ok (.aload_n 0, 1) := dk_42 (dk_at dksX6_next_5 19 rfl rfl)
theorem dX6_next_138 : decode cX6_next 138 = .ok (.ldc 52, 2) := dk_18 52 (dk_at dksX6_next_5 20 rfl rfl)
theorem dX6_next_140 : decode cX6_next 140 = .ok (.bipush 10, 2) := dk_16 10 (dk_at dksX6_next_5 22 rfl rfl)
theorem dX6_next_142 : decode cX6_next 142 = .ok (.aload_n 0, 1) := dk_42 (dk_at dksX6_next_6 0 rfl rfl)
theorem dX6_next_143 : decode cX6_next 143 = .ok (.getfield 46, 3) := dk_180 0 46 (dk_at dksX6_next_6 1 rfl rfl)
theorem dX6_next_146 : decode cX6_next 146 = .ok (.imul, 1) := dk_104 (dk_at dksX6_next_6 4 rfl rfl)
theorem dX6_next_147 : decode cX6_next 147 = .ok (.aload_n 0, 1) := dk_42 (dk_at dksX6_next_6 5 rfl rfl)
theorem dX6_next_148 : decode cX6_next 148 = .ok (.getfield 3, 3) := dk_180 0 3 (dk_at dksX6_next_6 6 rfl rfl)
theorem dX6_next_151 : decode cX6_next 151 = .ok (.getfield 31, 3) := dk_180 0 31 (dk_at dksX6_next_6 9 rfl rfl)
theorem dX6_next_154 : decode cX6_next 154 = .ok (.aload_n 0, 1) := dk_42 (dk_at dksX6_next_6 12 rfl rfl)
theorem dX6_next_155 : decode cX6_next 155 = .ok (.getfield 24, 3) := dk_180 0 24 (dk_at dksX6_next_6 13 rfl rfl)
theorem dX6_next_158 : decode cX6_next 158 = .ok (.baload, 1) := dk_51 (dk_at dksX6_next_6 16 rfl rfl)
theorem dX6_next_159 : decode cX6_next 159 = .ok (.iadd, 1) := dk_96 (dk_at dksX6_next_6 17 rfl rfl)
theorem dX6_next_160 : decode cX6_next 160 = .ok (.bipush 48, 2) := dk_16 48 (dk_at dksX6_next_6 18 rfl rfl)
theorem dX6_next_162 : decode cX6_next 162 = .ok (.isub, 1) := dk_100 (dk_at dksX6_next_6 20 rfl rfl)
theorem dX6_next_163 : decode cX6_next 163 = .ok (.invokestatic 53, 3) := dk_184 0 53 (dk_at dksX6_next_6 21 rfl rfl)
theorem dX6_next_166 : decode cX6_next 166 = .ok (.putfield 46, 3) := dk_181 0 46 (dk_at dksX6_next_7 0 rfl rfl)
theorem dX6_next_169 : decode cX6_next 169 = .ok (.aload_n 0, 1) := dk_42 (dk_at dksX6_next_7 3 rfl rfl)
theorem dX6_next_170 : decode cX6_next 170 = .ok (.dup, 1) := dk_89 (dk_at dksX6_next_7 4 rfl rfl)
theorem dX6_next_171 : decode cX6_next 171 = .ok (.getfield 24, 3) := dk_180 0 24 (dk_at dksX6_next_7 5 rfl rfl)
theorem dX6_next_174 : decode cX6_next 174 = .ok (.iconst 1, 1) := dk_4 (dk_at dksX6_next_7 8 rfl rfl)
theorem dX6_next_175 : decode cX6_next 175 = .ok (.iadd, 1) := dk_96 (dk_at dksX6_next_7 9 rfl rfl)
theorem dX6_next_176 : decode cX6_next 176 = .ok (.putfield 24, 3) := dk_181 0 24 (dk_at dksX6_next_7 10 rfl rfl)
theorem dX6_next_179 : decode cX6_next 179 = .ok (.goto (-53), 3) := dk_167 255 203 (dk_at dksX6_next_7 13 rfl rfl)
theorem dX6_next_182 : decode cX6_next 182 = .ok (.aload_n 0, 1) := dk_42 (dk_at dksX6_next_7 16 rfl rfl)
theorem dX6_next_183 : decode cX6_next 183 = .ok (.iconst 3, 1) := dk_6 (dk_at dksX6_next_7 17 rfl rfl)
theorem dX6_next_184 : decode cX6_next 184 = .ok (.putfield 49, 3) := dk_181 0 49 (dk_at dksX6_next_7 18 rfl rfl)
theorem dX6_next_187 : decode cX6_next 187 = .ok (.aload_n 0, 1) := dk_42 (dk_at dksX6_next_7 21 rfl rfl)
theorem dX6_next_188 : decode cX6_next 188 = .ok (.dup, 1) := dk_89 (dk_at dksX6_next_7 22 rfl rfl)
theorem dX6_next_189 : decode cX6_next 189 = .ok (.getfield 24, 3) := dk_180 0 24 (dk_at dksX6_next_8 0 rfl rfl)
theorem dX6_next_192 : decode cX6_next 192 = .ok (.iconst 1, 1) := dk_4 (dk_at dksX6_next_8 3 rfl rfl)
theorem dX6_next_193 : decode cX6_next 193 = .ok (.iadd, 1) := dk_96 (dk_at dksX6_next_8 4 rfl rfl)
theorem dX6_next_194 : decode cX6_next 194 = .ok (.putfield 24, 3) := dk_181 0 24 (dk_at dksX6_next_8 5 rfl rfl)
theorem dX6_next_197 : decode cX6_next 197 = .ok (.return_, 1) := dk_177 (dk_at dksX6_next_8 8 rfl rfl)
abbrev cX6_isAt : ByteArray := prog_7_method_2_code
def yX6_isAt : MethodName := ⟨RX6, "isAt", "(II)Z"⟩
def dkwX6_isAt_1 : List UInt8 := [180, 0, 24, 51, 27, 28, 184, 0, 35, 153, 0, 7, 4, 167, 0, 4, 3, 172]
abbrev dktX6_isAt_1 : List UInt8 := dkwX6_isAt_1 ++ []
def dkwX6_isAt_0 : List UInt8 := [42, 180, 0, 24, 42, 180, 0, 3, 180, 0, 28, 162, 0, 27, 42, 180, 0, 3, 180, 0, 31, 42]
abbrev dktX6_isAt_0 : List UInt8 := dkwX6_isAt_0 ++ dktX6_isAt_1
theorem dksX6_isAt_0 : cX6_isAt.data.toList.drop 0 = dktX6_isAt_0 := by decide +kernel
theorem dksX6_isAt_1 : cX6_isAt.data.toList.drop 22 = dktX6_isAt_1 := dk_seg dksX6_isAt_0 22 rfl rfl
theorem dX6_isAt_0 : decode cX6_isAt 0 = .ok (.aload_n 0, 1) := dk_42 (dk_at dksX6_isAt_0 0 rfl rfl)
theorem dX6_isAt_1 : decode cX6_isAt 1 = .ok (.getfield 24, 3) := dk_180 0 24 (dk_at dksX6_isAt_0 1 rfl rfl)
theorem dX6_isAt_4 : decode cX6_isAt 4 = .ok (.aload_n 0, 1) := dk_42 (dk_at dksX6_isAt_0 4 rfl rfl)
theorem dX6_isAt_5 : decode cX6_isAt 5 = .ok (.getfield 3, 3) := dk_180 0 3 (dk_at dksX6_isAt_0 5 rfl rfl)
theorem dX6_isAt_8 : decode cX6_isAt 8 = .ok (.getfield 28, 3) := dk_180 0 28 (dk_at dksX6_isAt_0 8 rfl rfl)
theorem dX6_isAt_11 : decode cX6_isAt 11 = .ok (.if_icmp .ge 27, 3) := dk_162 0 27 (dk_at dksX6_isAt_0 11 rfl rfl)
theorem dX6_isAt_14 : decode cX6_isAt 14 = .ok (.aload_n 0, 1) := dk_42 (dk_at dksX6_isAt_0 14 rfl rfl)
theorem dX6_isAt_15 : decode cX6_isAt 15 = .ok (.getfield 3, 3) := dk_180 0 3 (dk_at dksX6_isAt_0 15 rfl rfl)
theorem dX6_isAt_18 : decode cX6_isAt 18 = .ok (.getfield 31, 3) := dk_180 0 31 (dk_at dksX6_isAt_0 18 rfl rfl)
theorem dX6_isAt_21 : decode cX6_isAt 21 = .ok (.aload_n 0, 1) := dk_42 (dk_at dksX6_isAt_0 21 rfl rfl)
theorem dX6_isAt_22 : decode cX6_isAt 22 = .ok (.getfield 24, 3) := dk_180 0 24 (dk_at dksX6_isAt_1 0 rfl rfl)
theorem dX6_isAt_25 : decode cX6_isAt 25 = .ok (.baload, 1) := dk_51 (dk_at dksX6_isAt_1 3 rfl rfl)
theorem dX6_isAt_26 : decode cX6_isAt 26 = .ok (.iload_n 1, 1) := dk_27 (dk_at dksX6_isAt_1 4 rfl rfl)
theorem dX6_isAt_27 : decode cX6_isAt 27 = .ok (.iload_n 2, 1) := dk_28 (dk_at dksX6_isAt_1 5 rfl rfl)
theorem dX6_isAt_28 : decode cX6_isAt 28 = .ok (.invokestatic 35, 3) := dk_184 0 35 (dk_at dksX6_isAt_1 6 rfl rfl)
theorem dX6_isAt_31 : decode cX6_isAt 31 = .ok (.ifCond .eq 7, 3) := dk_153 0 7 (dk_at dksX6_isAt_1 9 rfl rfl)
theorem dX6_isAt_34 : decode cX6_isAt 34 = .ok (.iconst 1, 1) := dk_4 (dk_at dksX6_isAt_1 12 rfl rfl)
theorem dX6_isAt_35 : decode cX6_isAt 35 = .ok (.goto 4, 3) := dk_167 0 4 (dk_at dksX6_isAt_1 13 rfl rfl)
theorem dX6_isAt_38 : decode cX6_isAt 38 = .ok (.iconst 0, 1) := dk_3 (dk_at dksX6_isAt_1 16 rfl rfl)
theorem dX6_isAt_39 : decode cX6_isAt 39 = .ok (.ireturn, 1) := dk_172 (dk_at dksX6_isAt_1 17 rfl rfl)
abbrev cX6_script : ByteArray := prog_7_method_10_code
def yX6_script : MethodName := ⟨RX6, "script", "()V"⟩
def dkwX6_script_3 : List UInt8 := [181, 0, 101, 167, 255, 185, 177]
abbrev dktX6_script_3 : List UInt8 := dkwX6_script_3 ++ []
def dkwX6_script_2 : List UInt8 := [182, 0, 74, 42, 182, 0, 21, 42, 180, 0, 17, 42, 180, 0, 101, 43, 83, 42, 89, 180, 0, 101, 4, 96]
abbrev dktX6_script_2 : List UInt8 := dkwX6_script_2 ++ dktX6_script_3
def dkwX6_script_1 : List UInt8 := [180, 0, 3, 180, 0, 31, 42, 180, 0, 43, 51, 16, 59, 160, 0, 7, 4, 167, 0, 4, 3, 4]
abbrev dktX6_script_1 : List UInt8 := dkwX6_script_1 ++ dktX6_script_2
def dkwX6_script_0 : List UInt8 := [42, 180, 0, 49, 153, 0, 70, 42, 182, 0, 108, 76, 42, 42, 180, 0, 49, 6, 160, 0, 24, 42]
abbrev dktX6_script_0 : List UInt8 := dkwX6_script_0 ++ dktX6_script_1
theorem dksX6_script_0 : cX6_script.data.toList.drop 0 = dktX6_script_0 := by decide +kernel
theorem dksX6_script_1 : cX6_script.data.toList.drop 22 = dktX6_script_1 := dk_seg dksX6_script_0 22 rfl rfl
theorem dksX6_script_2 : cX6_script.data.toList.drop 44 = dktX6_script_2 := dk_seg dksX6_script_1 22 rfl rfl
theorem dksX6_script_3 : cX6_script.data.toList.drop 68 = dktX6_script_3 := dk_seg dksX6_script_2 24 rfl rfl
theorem dX6_script_0 : decode cX6_script 0 = .ok (.aload_n 0, 1) := dk_42 (dk_at dksX6_script_0 0 rfl rfl)
theorem dX6_script_1 : decode cX6_script 1 = .ok (.getfield 49, 3) := dk_180 0 49 (dk_at dksX6_script_0 1 rfl rfl)
theorem dX6_script_4 : decode cX6_script 4 = .ok (.ifCond .eq 70, 3) := dk_153 0 70 (dk_at dksX6_script_0 4 rfl rfl)
theorem dX6_script_7 : decode cX6_script 7 = .ok (.aload_n 0, 1) := dk_42 (dk_at dksX6_script_0 7 rfl rfl)
theorem dX6_script_8 : decode cX6_script 8 = .ok (.invokevirtual 108, 3) := dk_182 0 108 (dk_at dksX6_script_0 8 rfl rfl)
theorem dX6_script_11 : decode cX6_script 11 = .ok (.astore_n 1, 1) := dk_76 (dk_at dksX6_script_0 11 rfl rfl)
theorem dX6_script_12 : decode cX6_script 12 = .ok (.aload_n 0, 1) := dk_42 (dk_at dksX6_script_0 12 rfl rfl)
theorem dX6_script_13 : decode cX6_script 13 = .ok (.aload_n 0, 1) := dk_42 (dk_at dksX6_script_0 13 rfl rfl)
theorem dX6_script_14 : decode cX6_script 14 = .ok (.getfield 49, 3) := dk_180 0 49 (dk_at dksX6_script_0 14 rfl rfl)
theorem dX6_script_17 : decode cX6_script 17 = .ok (.iconst 3, 1) := dk_6 (dk_at dksX6_script_0 17 rfl rfl)
theorem dX6_script_18 : decode cX6_script 18 = .ok (.if_icmp .ne 24, 3) := dk_160 0 24 (dk_at dksX6_script_0 18 rfl rfl)
theorem dX6_script_21 : decode cX6_script 21 = .ok (.aload_n 0, 1) := dk_42 (dk_at dksX6_script_0 21 rfl rfl)
theorem dX6_script_22 : decode cX6_script 22 = .ok (.getfield 3, 3) := dk_180 0 3 (dk_at dksX6_script_1 0 rfl rfl)
theorem dX6_script_25 : decode cX6_script 25 = .ok (.getfield 31, 3) := dk_180 0 31 (dk_at dksX6_script_1 3 rfl rfl)
theorem dX6_script_28 : decode cX6_script 28 = .ok (.aload_n 0, 1) := dk_42 (dk_at dksX6_script_1 6 rfl rfl)
theorem dX6_script_29 : decode cX6_script 29 = .ok (.getfield 43, 3) := dk_180 0 43 (dk_at dksX6_script_1 7 rfl rfl)
theorem dX6_script_32 : decode cX6_script 32 = .ok (.baload, 1) := dk_51 (dk_at dksX6_script_1 10 rfl rfl)
theorem dX6_script_33 : decode cX6_script 33 = .ok (.bipush 59, 2) := dk_16 59 (dk_at dksX6_script_1 11 rfl rfl)
theorem dX6_script_35 : decode cX6_script 35 = .ok (.if_icmp .ne 7, 3) := dk_160 0 7 (dk_at dksX6_script_1 13 rfl rfl)
theorem dX6_script_38 : decode cX6_script 38 = .ok (.iconst 1, 1) := dk_4 (dk_at dksX6_script_1 16 rfl rfl)
theorem dX6_script_39 : decode cX6_script 39 = .ok (.goto 4, 3) := dk_167 0 4 (dk_at dksX6_script_1 17 rfl rfl)
theorem dX6_script_42 : decode cX6_script 42 = .ok (.iconst 0, 1) := dk_3 (dk_at dksX6_script_1 20 rfl rfl)
theorem dX6_script_43 : decode cX6_script 43 = .ok (.iconst 1, 1) := dk_4 (dk_at dksX6_script_1 21 rfl rfl)
theorem dX6_script_44 : decode cX6_script 44 = .ok (.invokevirtual 74, 3) := dk_182 0 74 (dk_at dksX6_script_2 0 rfl rfl)
theorem dX6_script_47 : decode cX6_script 47 = .ok (.aload_n 0, 1) := dk_42 (dk_at dksX6_script_2 3 rfl rfl)
theorem dX6_script_48 : decode cX6_script 48 = .ok (.invokevirtual 21, 3) := dk_182 0 21 (dk_at dksX6_script_2 4 rfl rfl)
theorem dX6_script_51 : decode cX6_script 51 = .ok (.aload_n 0, 1) := dk_42 (dk_at dksX6_script_2 7 rfl rfl)
theorem dX6_script_52 : decode cX6_script 52 = .ok (.getfield 17, 3) := dk_180 0 17 (dk_at dksX6_script_2 8 rfl rfl)
theorem dX6_script_55 : decode cX6_script 55 = .ok (.aload_n 0, 1) := dk_42 (dk_at dksX6_script_2 11 rfl rfl)
theorem dX6_script_56 : decode cX6_script 56 = .ok (.getfield 101, 3) := dk_180 0 101 (dk_at dksX6_script_2 12 rfl rfl)
theorem dX6_script_59 : decode cX6_script 59 = .ok (.aload_n 1, 1) := dk_43 (dk_at dksX6_script_2 15 rfl rfl)
theorem dX6_script_60 : decode cX6_script 60 = .ok (.aastore, 1) := dk_83 (dk_at dksX6_script_2 16 rfl rfl)
theorem dX6_script_61 : decode cX6_script 61 = .ok (.aload_n 0, 1) := dk_42 (dk_at dksX6_script_2 17 rfl rfl)
theorem dX6_script_62 : decode cX6_script 62 = .ok (.dup, 1) := dk_89 (dk_at dksX6_script_2 18 rfl rfl)
theorem dX6_script_63 : decode cX6_script 63 = .ok (.getfield 101, 3) := dk_180 0 101 (dk_at dksX6_script_2 19 rfl rfl)
theorem dX6_script_66 : decode cX6_script 66 = .ok (.iconst 1, 1) := dk_4 (dk_at dksX6_script_2 22 rfl rfl)
theorem dX6_script_67 : decode cX6_script 67 = .ok (.iadd, 1) := dk_96 (dk_at dksX6_script_2 23 rfl rfl)
theorem dX6_script_68 : decode cX6_script 68 = .ok (.putfield 101, 3) := dk_181 0 101 (dk_at dksX6_script_3 0 rfl rfl)
theorem dX6_script_71 : decode cX6_script 71 = .ok (.goto (-71), 3) := dk_167 255 185 (dk_at dksX6_script_3 3 rfl rfl)
theorem dX6_script_74 : decode cX6_script 74 = .ok (.return_, 1) := dk_177 (dk_at dksX6_script_3 6 rfl rfl)
abbrev cX6_command : ByteArray := prog_7_method_9_code
def yX6_command : MethodName := ⟨RX6, "command", "()LFlashZones$Act;"⟩
def dkwX6_command_4 : List UInt8 := [182, 0, 92, 167, 0, 10, 42, 3, 16, 11, 182, 0, 92, 79, 183, 0, 95, 176]
abbrev dktX6_command_4 : List UInt8 := dkwX6_command_4 ++ []
def dkwX6_command_3 : List UInt8 := [160, 0, 13, 42, 3, 16, 98, 182, 0, 92, 167, 0, 25, 27, 7, 160, 0, 13, 42, 4, 16, 60]
abbrev dktX6_command_3 : List UInt8 := dkwX6_command_3 ++ dktX6_command_4
def dkwX6_command_2 : List UInt8 := [154, 0, 10, 42, 182, 0, 104, 167, 0, 54, 187, 0, 15, 89, 27, 4, 188, 10, 89, 3, 27, 4]
abbrev dktX6_command_2 : List UInt8 := dkwX6_command_2 ++ dktX6_command_3
def dkwX6_command_1 : List UInt8 := [180, 0, 101, 16, 60, 162, 0, 7, 4, 167, 0, 4, 3, 6, 182, 0, 74, 42, 182, 0, 21, 27]
abbrev dktX6_command_1 : List UInt8 := dkwX6_command_1 ++ dktX6_command_2
def dkwX6_command_0 : List UInt8 := [42, 182, 0, 98, 60, 42, 27, 2, 159, 0, 7, 4, 167, 0, 4, 3, 4, 182, 0, 74, 42, 42]
abbrev dktX6_command_0 : List UInt8 := dkwX6_command_0 ++ dktX6_command_1
theorem dksX6_command_0 : cX6_command.data.toList.drop 0 = dktX6_command_0 := by decide +kernel
theorem dksX6_command_1 : cX6_command.data.toList.drop 22 = dktX6_command_1 := dk_seg dksX6_command_0 22 rfl rfl
theorem dksX6_command_2 : cX6_command.data.toList.drop 44 = dktX6_command_2 := dk_seg dksX6_command_1 22 rfl rfl
theorem dksX6_command_3 : cX6_command.data.toList.drop 66 = dktX6_command_3 := dk_seg dksX6_command_2 22 rfl rfl
theorem dksX6_command_4 : cX6_command.data.toList.drop 88 = dktX6_command_4 := dk_seg dksX6_command_3 22 rfl rfl
theorem dX6_command_0 : decode cX6_command 0 = .ok (.aload_n 0, 1) := dk_42 (dk_at dksX6_command_0 0 rfl rfl)
theorem dX6_command_1 : decode cX6_command 1 = .ok (.invokevirtual 98, 3) := dk_182 0 98 (dk_at dksX6_command_0 1 rfl rfl)
theorem dX6_command_4 : decode cX6_command 4 = .ok (.istore_n 1, 1) := dk_60 (dk_at dksX6_command_0 4 rfl rfl)
theorem dX6_command_5 : decode cX6_command 5 = .ok (.aload_n 0, 1) := dk_42 (dk_at dksX6_command_0 5 rfl rfl)
theorem dX6_command_6 : decode cX6_command 6 = .ok (.iload_n 1, 1) := dk_27 (dk_at dksX6_command_0 6 rfl rfl)
theorem dX6_command_7 : decode cX6_command 7 = .ok (.iconst (-1), 1) := dk_2 (dk_at dksX6_command_0 7 rfl rfl)
theorem dX6_command_8 : decode cX6_command 8 = .ok (.if_icmp .eq 7, 3) := dk_159 0 7 (dk_at dksX6_command_0 8 rfl rfl)
theorem dX6_command_11 : decode cX6_command 11 = .ok (.iconst 1, 1) := dk_4 (dk_at dksX6_command_0 11 rfl rfl)
theorem dX6_command_12 : decode cX6_command 12 = .ok (.goto 4, 3) := dk_167 0 4 (dk_at dksX6_command_0 12 rfl rfl)
theorem dX6_command_15 : decode cX6_command 15 = .ok (.iconst 0, 1) := dk_3 (dk_at dksX6_command_0 15 rfl rfl)
theorem dX6_command_16 : decode cX6_command 16 = .ok (.iconst 1, 1) := dk_4 (dk_at dksX6_command_0 16 rfl rfl)
theorem dX6_command_17 : decode cX6_command 17 = .ok (.invokevirtual 74, 3) := dk_182 0 74 (dk_at dksX6_command_0 17 rfl rfl)
theorem dX6_command_20 : decode cX6_command 20 = .ok (.aload_n 0, 1) := dk_42 (dk_at dksX6_command_0 20 rfl rfl)
theorem dX6_command_21 : decode cX6_command 21 = .ok (.aload_n 0, 1) := dk_42 (dk_at dksX6_command_0 21 rfl rfl)
theorem dX6_command_22 : decode cX6_command 22 = .ok (.getfield 101, 3) := dk_180 0 101 (dk_at dksX6_command_1 0 rfl rfl)
theorem dX6_command_25 : decode cX6_command 25 = .ok (.bipush 60, 2) := dk_16 60 (dk_at dksX6_command_1 3 rfl rfl)
theorem dX6_command_27 : decode cX6_command 27 = .ok (.if_icmp .ge 7, 3) := dk_162 0 7 (dk_at dksX6_command_1 5 rfl rfl)
theorem dX6_command_30 : decode cX6_command 30 = .ok (.iconst 1, 1) := dk_4 (dk_at dksX6_command_1 8 rfl rfl)
theorem dX6_command_31 : decode cX6_command 31 = .ok (.goto 4, 3) := dk_167 0 4 (dk_at dksX6_command_1 9 rfl rfl)
theorem dX6_command_34 : decode cX6_command 34 = .ok (.iconst 0, 1) := dk_3 (dk_at dksX6_command_1 12 rfl rfl)
theorem dX6_command_35 : decode cX6_command 35 = .ok (.iconst 3, 1) := dk_6 (dk_at dksX6_command_1 13 rfl rfl)
theorem dX6_command_36 : decode cX6_command 36 = .ok (.invokevirtual 74, 3) := dk_182 0 74 (dk_at dksX6_command_1 14 rfl rfl)
theorem dX6_command_39 : decode cX6_command 39 = .ok (.aload_n 0, 1) := dk_42 (dk_at dksX6_command_1 17 rfl rfl)
theorem dX6_command_40 : decode cX6_command 40 = .ok (.invokevirtual 21, 3) := dk_182 0 21 (dk_at dksX6_command_1 18 rfl rfl)
theorem dX6_command_43 : decode cX6_command 43 = .ok (.iload_n 1, 1) := dk_27 (dk_at dksX6_command_1 21 rfl rfl)
theorem dX6_command_44 : decode cX6_command 44 = .ok (.ifCond .ne 10, 3) := dk_154 0 10 (dk_at dksX6_command_2 0 rfl rfl)
theorem dX6_command_47 : decode cX6_command 47 = .ok (.aload_n 0, 1) := dk_42 (dk_at dksX6_command_2 3 rfl rfl)
theorem dX6_command_48 : decode cX6_command 48 = .ok (.invokevirtual 104, 3) := dk_182 0 104 (dk_at dksX6_command_2 4 rfl rfl)
theorem dX6_command_51 : decode cX6_command 51 = .ok (.goto 54, 3) := dk_167 0 54 (dk_at dksX6_command_2 7 rfl rfl)
theorem dX6_command_54 : decode cX6_command 54 = .ok (.new 15, 3) := dk_187 0 15 (dk_at dksX6_command_2 10 rfl rfl)
theorem dX6_command_57 : decode cX6_command 57 = .ok (.dup, 1) := dk_89 (dk_at dksX6_command_2 13 rfl rfl)
theorem dX6_command_58 : decode cX6_command 58 = .ok (.iload_n 1, 1) := dk_27 (dk_at dksX6_command_2 14 rfl rfl)
theorem dX6_command_59 : decode cX6_command 59 = .ok (.iconst 1, 1) := dk_4 (dk_at dksX6_command_2 15 rfl rfl)
theorem dX6_command_60 : decode cX6_command 60 = .ok (.newarray .int, 2) := dk_188_10 (dk_at dksX6_command_2 16 rfl rfl)
theorem dX6_command_62 : decode cX6_command 62 = .ok (.dup, 1) := dk_89 (dk_at dksX6_command_2 18 rfl rfl)
theorem dX6_command_63 : decode cX6_command 63 = .ok (.iconst 0, 1) := dk_3 (dk_at dksX6_command_2 19 rfl rfl)
theorem dX6_command_64 : decode cX6_command 64 = .ok (.iload_n 1, 1) := dk_27 (dk_at dksX6_command_2 20 rfl rfl)
theorem dX6_command_65 : decode cX6_command 65 = .ok (.iconst 1, 1) := dk_4 (dk_at dksX6_command_2 21 rfl rfl)
theorem dX6_command_66 : decode cX6_command 66 = .ok (.if_icmp .ne 13, 3) := dk_160 0 13 (dk_at dksX6_command_3 0 rfl rfl)
theorem dX6_command_69 : decode cX6_command 69 = .ok (.aload_n 0, 1) := dk_42 (dk_at dksX6_command_3 3 rfl rfl)
theorem dX6_command_70 : decode cX6_command 70 = .ok (.iconst 0, 1) := dk_3 (dk_at dksX6_command_3 4 rfl rfl)
theorem dX6_command_71 : decode cX6_command 71 = .ok (.bipush 98, 2) := dk_16 98 (dk_at dksX6_command_3 5 rfl rfl)
theorem dX6_command_73 : decode cX6_command 73 = .ok (.invokevirtual 92, 3) := dk_182 0 92 (dk_at dksX6_command_3 7 rfl rfl)
theorem dX6_command_76 : decode cX6_command 76 = .ok (.goto 25, 3) := dk_167 0 25 (dk_at dksX6_command_3 10 rfl rfl)
theorem dX6_command_79 : decode cX6_command 79 = .ok (.iload_n 1, 1) := dk_27 (dk_at dksX6_command_3 13 rfl rfl)
theorem dX6_command_80 : decode cX6_command 80 = .ok (.iconst 4, 1) := dk_7 (dk_at dksX6_command_3 14 rfl rfl)
theorem dX6_command_81 : decode cX6_command 81 = .ok (.if_icmp .ne 13, 3) := dk_160 0 13 (dk_at dksX6_command_3 15 rfl rfl)
theorem dX6_command_84 : decode cX6_command 84 = .ok (.aload_n 0, 1) := dk_42 (dk_at dksX6_command_3 18 rfl rfl)
theorem dX6_command_85 : decode cX6_command 85 = .ok (.iconst 1, 1) := dk_4 (dk_at dksX6_command_3 19 rfl rfl)
theorem dX6_command_86 : decode cX6_command 86 = .ok (.bipush 60, 2) := dk_16 60 (dk_at dksX6_command_3 20 rfl rfl)
theorem dX6_command_88 : decode cX6_command 88 = .ok (.invokevirtual 92, 3) := dk_182 0 92 (dk_at dksX6_command_4 0 rfl rfl)
theorem dX6_command_91 : decode cX6_command 91 = .ok (.goto 10, 3) := dk_167 0 10 (dk_at dksX6_command_4 3 rfl rfl)
theorem dX6_command_94 : decode cX6_command 94 = .ok (.aload_n 0, 1) := dk_42 (dk_at dksX6_command_4 6 rfl rfl)
theorem dX6_command_95 : decode cX6_command 95 = .ok (.iconst 0, 1) := dk_3 (dk_at dksX6_command_4 7 rfl rfl)
theorem dX6_command_96 : decode cX6_command 96 = .ok (.bipush 11, 2) := dk_16 11 (dk_at dksX6_command_4 8 rfl rfl)
theorem dX6_command_98 : decode cX6_command 98 = .ok (.invokevirtual 92, 3) := dk_182 0 92 (dk_at dksX6_command_4 10 rfl rfl)
theorem dX6_command_101 : decode cX6_command 101 = .ok (.iastore, 1) := dk_79 (dk_at dksX6_command_4 13 rfl rfl)
theorem dX6_command_102 : decode cX6_command 102 = .ok (.invokespecial 95, 3) := dk_183 0 95 (dk_at dksX6_command_4 14 rfl rfl)
theorem dX6_command_105 : decode cX6_command 105 = .ok (.areturn, 1) := dk_176 (dk_at dksX6_command_4 17 rfl rfl)
abbrev cX6_commandHere : ByteArray := prog_7_method_7_code
def yX6_commandHere : MethodName := ⟨RX6, "commandHere", "()I"⟩
def dkwX6_commandHere_2 : List UInt8 := [18, 90, 182, 0, 80, 153, 0, 7, 7, 167, 0, 4, 2, 172]
abbrev dktX6_commandHere_2 : List UInt8 := dkwX6_commandHere_2 ++ []
def dkwX6_commandHere_1 : List UInt8 := [18, 86, 182, 0, 80, 153, 0, 5, 5, 172, 42, 18, 88, 182, 0, 80, 153, 0, 7, 6, 167, 0, 17, 42]
abbrev dktX6_commandHere_1 : List UInt8 := dkwX6_commandHere_1 ++ dktX6_commandHere_2
def dkwX6_commandHere_0 : List UInt8 := [42, 18, 78, 182, 0, 80, 153, 0, 5, 3, 172, 42, 18, 84, 182, 0, 80, 153, 0, 5, 4, 172, 42]
abbrev dktX6_commandHere_0 : List UInt8 := dkwX6_commandHere_0 ++ dktX6_commandHere_1
theorem dksX6_commandHere_0 : cX6_commandHere.data.toList.drop 0 = dktX6_commandHere_0 := by decide +kernel
theorem dksX6_commandHere_1 : cX6_commandHere.data.toList.drop 23 = dktX6_commandHere_1 := dk_seg dksX6_commandHere_0 23 rfl rfl
theorem dksX6_commandHere_2 : cX6_commandHere.data.toList.drop 47 = dktX6_commandHere_2 := dk_seg dksX6_commandHere_1 24 rfl rfl
theorem dX6_commandHere_0 : decode cX6_commandHere 0 = .ok (.aload_n 0, 1) := dk_42 (dk_at dksX6_commandHere_0 0 rfl rfl)
theorem dX6_commandHere_1 : decode cX6_commandHere 1 = .ok (.ldc 78, 2) := dk_18 78 (dk_at dksX6_commandHere_0 1 rfl rfl)
theorem dX6_commandHere_3 : decode cX6_commandHere 3 = .ok (.invokevirtual 80, 3) := dk_182 0 80 (dk_at dksX6_commandHere_0 3 rfl rfl)
theorem dX6_commandHere_6 : decode cX6_commandHere 6 = .ok (.ifCond .eq 5, 3) := dk_153 0 5 (dk_at dksX6_commandHere_0 6 rfl rfl)
theorem dX6_commandHere_9 : decode cX6_commandHere 9 = .ok (.iconst 0, 1) := dk_3 (dk_at dksX6_commandHere_0 9 rfl rfl)
theorem dX6_commandHere_10 : decode cX6_commandHere 10 = .ok (.ireturn, 1) := dk_172 (dk_at dksX6_commandHere_0 10 rfl rfl)
theorem dX6_commandHere_11 : decode cX6_commandHere 11 = .ok (.aload_n 0, 1) := dk_42 (dk_at dksX6_commandHere_0 11 rfl rfl)
theorem dX6_commandHere_12 : decode cX6_commandHere 12 = .ok (.ldc 84, 2) := dk_18 84 (dk_at dksX6_commandHere_0 12 rfl rfl)
theorem dX6_commandHere_14 : decode cX6_commandHere 14 = .ok (.invokevirtual 80, 3) := dk_182 0 80 (dk_at dksX6_commandHere_0 14 rfl rfl)
theorem dX6_commandHere_17 : decode cX6_commandHere 17 = .ok (.ifCond .eq 5, 3) := dk_153 0 5 (dk_at dksX6_commandHere_0 17 rfl rfl)
theorem dX6_commandHere_20 : decode cX6_commandHere 20 = .ok (.iconst 1, 1) := dk_4 (dk_at dksX6_commandHere_0 20 rfl rfl)
theorem dX6_commandHere_21 : decode cX6_commandHere 21 = .ok (.ireturn, 1) := dk_172 (dk_at dksX6_commandHere_0 21 rfl rfl)
theorem dX6_commandHere_22 : decode cX6_commandHere 22 = .ok (.aload_n 0, 1) := dk_42 (dk_at dksX6_commandHere_0 22 rfl rfl)
theorem dX6_commandHere_23 : decode cX6_commandHere 23 = .ok (.ldc 86, 2) := dk_18 86 (dk_at dksX6_commandHere_1 0 rfl rfl)
theorem dX6_commandHere_25 : decode cX6_commandHere 25 = .ok (.invokevirtual 80, 3) := dk_182 0 80 (dk_at dksX6_commandHere_1 2 rfl rfl)
theorem dX6_commandHere_28 : decode cX6_commandHere 28 = .ok (.ifCond .eq 5, 3) := dk_153 0 5 (dk_at dksX6_commandHere_1 5 rfl rfl)
theorem dX6_commandHere_31 : decode cX6_commandHere 31 = .ok (.iconst 2, 1) := dk_5 (dk_at dksX6_commandHere_1 8 rfl rfl)
theorem dX6_commandHere_32 : decode cX6_commandHere 32 = .ok (.ireturn, 1) := dk_172 (dk_at dksX6_commandHere_1 9 rfl rfl)
theorem dX6_commandHere_33 : decode cX6_commandHere 33 = .ok (.aload_n 0, 1) := dk_42 (dk_at dksX6_commandHere_1 10 rfl rfl)
theorem dX6_commandHere_34 : decode cX6_commandHere 34 = .ok (.ldc 88, 2) := dk_18 88 (dk_at dksX6_commandHere_1 11 rfl rfl)
theorem dX6_commandHere_36 : decode cX6_commandHere 36 = .ok (.invokevirtual 80, 3) := dk_182 0 80 (dk_at dksX6_commandHere_1 13 rfl rfl)
theorem dX6_commandHere_39 : decode cX6_commandHere 39 = .ok (.ifCond .eq 7, 3) := dk_153 0 7 (dk_at dksX6_commandHere_1 16 rfl rfl)
theorem dX6_commandHere_42 : decode cX6_commandHere 42 = .ok (.iconst 3, 1) := dk_6 (dk_at dksX6_commandHere_1 19 rfl rfl)
theorem dX6_commandHere_43 : decode cX6_commandHere 43 = .ok (.goto 17, 3) := dk_167 0 17 (dk_at dksX6_commandHere_1 20 rfl rfl)
theorem dX6_commandHere_46 : decode cX6_commandHere 46 = .ok (.aload_n 0, 1) := dk_42 (dk_at dksX6_commandHere_1 23 rfl rfl)
theorem dX6_commandHere_47 : decode cX6_commandHere 47 = .ok (.ldc 90, 2) := dk_18 90 (dk_at dksX6_commandHere_2 0 rfl rfl)
theorem dX6_commandHere_49 : decode cX6_commandHere 49 = .ok (.invokevirtual 80, 3) := dk_182 0 80 (dk_at dksX6_commandHere_2 2 rfl rfl)
theorem dX6_commandHere_52 : decode cX6_commandHere 52 = .ok (.ifCond .eq 7, 3) := dk_153 0 7 (dk_at dksX6_commandHere_2 5 rfl rfl)
theorem dX6_commandHere_55 : decode cX6_commandHere 55 = .ok (.iconst 4, 1) := dk_7 (dk_at dksX6_commandHere_2 8 rfl rfl)
theorem dX6_commandHere_56 : decode cX6_commandHere 56 = .ok (.goto 4, 3) := dk_167 0 4 (dk_at dksX6_commandHere_2 9 rfl rfl)
theorem dX6_commandHere_59 : decode cX6_commandHere 59 = .ok (.iconst (-1), 1) := dk_2 (dk_at dksX6_commandHere_2 12 rfl rfl)
theorem dX6_commandHere_60 : decode cX6_commandHere 60 = .ok (.ireturn, 1) := dk_172 (dk_at dksX6_commandHere_2 13 rfl rfl)
abbrev cX6_isWord : ByteArray := prog_7_method_4_code
def yX6_isWord : MethodName := ⟨RX6, "isWord", "(Ljava/lang/String;)Z"⟩
def dkwX6_isWord_3 : List UInt8 := [132, 3, 1, 167, 255, 213, 28, 172]
abbrev dktX6_isWord_3 : List UInt8 := dkwX6_isWord_3 ++ []
def dkwX6_isWord_2 : List UInt8 := [180, 0, 31, 42, 180, 0, 43, 29, 96, 51, 43, 29, 182, 0, 65, 160, 0, 7, 4, 167, 0, 4, 3, 61]
abbrev dktX6_isWord_2 : List UInt8 := dkwX6_isWord_2 ++ dktX6_isWord_3
def dkwX6_isWord_1 : List UInt8 := [4, 167, 0, 4, 3, 61, 3, 62, 29, 43, 182, 0, 59, 162, 0, 41, 28, 153, 0, 37, 42, 180, 0, 3]
abbrev dktX6_isWord_1 : List UInt8 := dkwX6_isWord_1 ++ dktX6_isWord_2
def dkwX6_isWord_0 : List UInt8 := [42, 180, 0, 49, 4, 160, 0, 23, 42, 180, 0, 24, 42, 180, 0, 43, 100, 43, 182, 0, 59, 160, 0, 7]
abbrev dktX6_isWord_0 : List UInt8 := dkwX6_isWord_0 ++ dktX6_isWord_1
theorem dksX6_isWord_0 : cX6_isWord.data.toList.drop 0 = dktX6_isWord_0 := by decide +kernel
theorem dksX6_isWord_1 : cX6_isWord.data.toList.drop 24 = dktX6_isWord_1 := dk_seg dksX6_isWord_0 24 rfl rfl
theorem dksX6_isWord_2 : cX6_isWord.data.toList.drop 48 = dktX6_isWord_2 := dk_seg dksX6_isWord_1 24 rfl rfl
theorem dksX6_isWord_3 : cX6_isWord.data.toList.drop 72 = dktX6_isWord_3 := dk_seg dksX6_isWord_2 24 rfl rfl
theorem dX6_isWord_0 : decode cX6_isWord 0 = .ok (.aload_n 0, 1) := dk_42 (dk_at dksX6_isWord_0 0 rfl rfl)
theorem dX6_isWord_1 : decode cX6_isWord 1 = .ok (.getfield 49, 3) := dk_180 0 49 (dk_at dksX6_isWord_0 1 rfl rfl)
theorem dX6_isWord_4 : decode cX6_isWord 4 = .ok (.iconst 1, 1) := dk_4 (dk_at dksX6_isWord_0 4 rfl rfl)
theorem dX6_isWord_5 : decode cX6_isWord 5 = .ok (.if_icmp .ne 23, 3) := dk_160 0 23 (dk_at dksX6_isWord_0 5 rfl rfl)
theorem dX6_isWord_8 : decode cX6_isWord 8 = .ok (.aload_n 0, 1) := dk_42 (dk_at dksX6_isWord_0 8 rfl rfl)
theorem dX6_isWord_9 : decode cX6_isWord 9 = .ok (.getfield 24, 3) := dk_180 0 24 (dk_at dksX6_isWord_0 9 rfl rfl)
theorem dX6_isWord_12 : decode cX6_isWord 12 = .ok (.aload_n 0, 1) := dk_42 (dk_at dksX6_isWord_0 12 rfl rfl)
theorem dX6_isWord_13 : decode cX6_isWord 13 = .ok (.getfield 43, 3) := dk_180 0 43 (dk_at dksX6_isWord_0 13 rfl rfl)
theorem dX6_isWord_16 : decode cX6_isWord 16 = .ok (.isub, 1) := dk_100 (dk_at dksX6_isWord_0 16 rfl rfl)
theorem dX6_isWord_17 : decode cX6_isWord 17 = .ok (.aload_n 1, 1) := dk_43 (dk_at dksX6_isWord_0 17 rfl rfl)
theorem dX6_isWord_18 : decode cX6_isWord 18 = .ok (.invokevirtual 59, 3) := dk_182 0 59 (dk_at dksX6_isWord_0 18 rfl rfl)
theorem dX6_isWord_21 : decode cX6_isWord 21 = .ok (.if_icmp .ne 7, 3) := dk_160 0 7 (dk_at dksX6_isWord_0 21 rfl rfl)
theorem dX6_isWord_24 : decode cX6_isWord 24 = .ok (.iconst 1, 1) := dk_4 (dk_at dksX6_isWord_1 0 rfl rfl)
theorem dX6_isWord_25 : decode cX6_isWord 25 = .ok (.goto 4, 3) := dk_167 0 4 (dk_at dksX6_isWord_1 1 rfl rfl)
theorem dX6_isWord_28 : decode cX6_isWord 28 = .ok (.iconst 0, 1) := dk_3 (dk_at dksX6_isWord_1 4 rfl rfl)
theorem dX6_isWord_29 : decode cX6_isWord 29 = .ok (.istore_n 2, 1) := dk_61 (dk_at dksX6_isWord_1 5 rfl rfl)
theorem dX6_isWord_30 : decode cX6_isWord 30 = .ok (.iconst 0, 1) := dk_3 (dk_at dksX6_isWord_1 6 rfl rfl)
theorem dX6_isWord_31 : decode cX6_isWord 31 = .ok (.istore_n 3, 1) := dk_62 (dk_at dksX6_isWord_1 7 rfl rfl)
theorem dX6_isWord_32 : decode cX6_isWord 32 = .ok (.iload_n 3, 1) := dk_29 (dk_at dksX6_isWord_1 8 rfl rfl)
theorem dX6_isWord_33 : decode cX6_isWord 33 = .ok (.aload_n 1, 1) := dk_43 (dk_at dksX6_isWord_1 9 rfl rfl)
theorem dX6_isWord_34 : decode cX6_isWord 34 = .ok (.invokevirtual 59, 3) := dk_182 0 59 (dk_at dksX6_isWord_1 10 rfl rfl)
theorem dX6_isWord_37 : decode cX6_isWord 37 = .ok (.if_icmp .ge 41, 3) := dk_162 0 41 (dk_at dksX6_isWord_1 13 rfl rfl)
theorem dX6_isWord_40 : decode cX6_isWord 40 = .ok (.iload_n 2, 1) := dk_28 (dk_at dksX6_isWord_1 16 rfl rfl)
theorem dX6_isWord_41 : decode cX6_isWord 41 = .ok (.ifCond .eq 37, 3) := dk_153 0 37 (dk_at dksX6_isWord_1 17 rfl rfl)
theorem dX6_isWord_44 : decode cX6_isWord 44 = .ok (.aload_n 0, 1) := dk_42 (dk_at dksX6_isWord_1 20 rfl rfl)
theorem dX6_isWord_45 : decode cX6_isWord 45 = .ok (.getfield 3, 3) := dk_180 0 3 (dk_at dksX6_isWord_1 21 rfl rfl)
theorem dX6_isWord_48 : decode cX6_isWord 48 = .ok (.getfield 31, 3) := dk_180 0 31 (dk_at dksX6_isWord_2 0 rfl rfl)
theorem dX6_isWord_51 : decode cX6_isWord 51 = .ok (.aload_n 0, 1) := dk_42 (dk_at dksX6_isWord_2 3 rfl rfl)
theorem dX6_isWord_52 : decode cX6_isWord 52 = .ok (.getfield 43, 3) := dk_180 0 43 (dk_at dksX6_isWord_2 4 rfl rfl)
theorem dX6_isWord_55 : decode cX6_isWord 55 = .ok (.iload_n 3, 1) := dk_29 (dk_at dksX6_isWord_2 7 rfl rfl)
theorem dX6_isWord_56 : decode cX6_isWord 56 = .ok (.iadd, 1) := dk_96 (dk_at dksX6_isWord_2 8 rfl rfl)
theorem dX6_isWord_57 : decode cX6_isWord 57 = .ok (.baload, 1) := dk_51 (dk_at dksX6_isWord_2 9 rfl rfl)
theorem dX6_isWord_58 : decode cX6_isWord 58 = .ok (.aload_n 1, 1) := dk_43 (dk_at dksX6_isWord_2 10 rfl rfl)
theorem dX6_isWord_59 : decode cX6_isWord 59 = .ok (.iload_n 3, 1) := dk_29 (dk_at dksX6_isWord_2 11 rfl rfl)
theorem dX6_isWord_60 : decode cX6_isWord 60 = .ok (.invokevirtual 65, 3) := dk_182 0 65 (dk_at dksX6_isWord_2 12 rfl rfl)
theorem dX6_isWord_63 : decode cX6_isWord 63 = .ok (.if_icmp .ne 7, 3) := dk_160 0 7 (dk_at dksX6_isWord_2 15 rfl rfl)
theorem dX6_isWord_66 : decode cX6_isWord 66 = .ok (.iconst 1, 1) := dk_4 (dk_at dksX6_isWord_2 18 rfl rfl)
theorem dX6_isWord_67 : decode cX6_isWord 67 = .ok (.goto 4, 3) := dk_167 0 4 (dk_at dksX6_isWord_2 19 rfl rfl)
theorem dX6_isWord_70 : decode cX6_isWord 70 = .ok (.iconst 0, 1) := dk_3 (dk_at dksX6_isWord_2 22 rfl rfl)
theorem dX6_isWord_71 : decode cX6_isWord 71 = .ok (.istore_n 2, 1) := dk_61 (dk_at dksX6_isWord_2 23 rfl rfl)
theorem dX6_isWord_72 : decode cX6_isWord 72 = .ok (.iinc 3 1, 3) := dk_132 3 1 (dk_at dksX6_isWord_3 0 rfl rfl)
theorem dX6_isWord_75 : decode cX6_isWord 75 = .ok (.goto (-43), 3) := dk_167 255 213 (dk_at dksX6_isWord_3 3 rfl rfl)
theorem dX6_isWord_78 : decode cX6_isWord 78 = .ok (.iload_n 2, 1) := dk_28 (dk_at dksX6_isWord_3 6 rfl rfl)
theorem dX6_isWord_79 : decode cX6_isWord 79 = .ok (.ireturn, 1) := dk_172 (dk_at dksX6_isWord_3 7 rfl rfl)
abbrev cX6_need : ByteArray := prog_7_method_5_code
def yX6_need : MethodName := ⟨RX6, "need", "(ZI)V"⟩
def dkwX6_need_0 : List UInt8 := [27, 154, 0, 16, 187, 0, 69, 89, 28, 42, 180, 0, 43, 183, 0, 71, 191, 177]
abbrev dktX6_need_0 : List UInt8 := dkwX6_need_0 ++ []
theorem dksX6_need_0 : cX6_need.data.toList.drop 0 = dktX6_need_0 := by decide +kernel
theorem dX6_need_0 : decode cX6_need 0 = .ok (.iload_n 1, 1) := dk_27 (dk_at dksX6_need_0 0 rfl rfl)
theorem dX6_need_1 : decode cX6_need 1 = .ok (.ifCond .ne 16, 3) := dk_154 0 16 (dk_at dksX6_need_0 1 rfl rfl)
theorem dX6_need_4 : decode cX6_need 4 = .ok (.new 69, 3) := dk_187 0 69 (dk_at dksX6_need_0 4 rfl rfl)
theorem dX6_need_7 : decode cX6_need 7 = .ok (.dup, 1) := dk_89 (dk_at dksX6_need_0 7 rfl rfl)
theorem dX6_need_8 : decode cX6_need 8 = .ok (.iload_n 2, 1) := dk_28 (dk_at dksX6_need_0 8 rfl rfl)
theorem dX6_need_9 : decode cX6_need 9 = .ok (.aload_n 0, 1) := dk_42 (dk_at dksX6_need_0 9 rfl rfl)
theorem dX6_need_10 : decode cX6_need 10 = .ok (.getfield 43, 3) := dk_180 0 43 (dk_at dksX6_need_0 10 rfl rfl)
theorem dX6_need_13 : decode cX6_need 13 = .ok (.invokespecial 71, 3) := dk_183 0 71 (dk_at dksX6_need_0 13 rfl rfl)
theorem dX6_need_16 : decode cX6_need 16 = .ok (.athrow, 1) := dk_191 (dk_at dksX6_need_0 16 rfl rfl)
theorem dX6_need_17 : decode cX6_need 17 = .ok (.return_, 1) := dk_177 (dk_at dksX6_need_0 17 rfl rfl)
abbrev cX6_written : ByteArray := prog_7_method_8_code
def yX6_written : MethodName := ⟨RX6, "written", "()LFlashZones$Act;"⟩
def dkwX6_written_2 : List UInt8 := [167, 0, 4, 3, 79, 183, 0, 95, 176]
abbrev dktX6_written_2 : List UInt8 := dkwX6_written_2 ++ []
def dkwX6_written_1 : List UInt8 := [3, 27, 79, 89, 4, 28, 79, 89, 5, 42, 180, 0, 49, 5, 160, 0, 13, 42, 3, 16, 99, 182, 0, 92]
abbrev dktX6_written_1 : List UInt8 := dkwX6_written_1 ++ dktX6_written_2
def dkwX6_written_0 : List UInt8 := [42, 3, 16, 7, 182, 0, 92, 60, 42, 4, 6, 182, 0, 92, 61, 187, 0, 15, 89, 3, 6, 188, 10, 89]
abbrev dktX6_written_0 : List UInt8 := dkwX6_written_0 ++ dktX6_written_1
theorem dksX6_written_0 : cX6_written.data.toList.drop 0 = dktX6_written_0 := by decide +kernel
theorem dksX6_written_1 : cX6_written.data.toList.drop 24 = dktX6_written_1 := dk_seg dksX6_written_0 24 rfl rfl
theorem dksX6_written_2 : cX6_written.data.toList.drop 48 = dktX6_written_2 := dk_seg dksX6_written_1 24 rfl rfl
theorem dX6_written_0 : decode cX6_written 0 = .ok (.aload_n 0, 1) := dk_42 (dk_at dksX6_written_0 0 rfl rfl)
theorem dX6_written_1 : decode cX6_written 1 = .ok (.iconst 0, 1) := dk_3 (dk_at dksX6_written_0 1 rfl rfl)
theorem dX6_written_2 : decode cX6_written 2 = .ok (.bipush 7, 2) := dk_16 7 (dk_at dksX6_written_0 2 rfl rfl)
theorem dX6_written_4 : decode cX6_written 4 = .ok (.invokevirtual 92, 3) := dk_182 0 92 (dk_at dksX6_written_0 4 rfl rfl)
theorem dX6_written_7 : decode cX6_written 7 = .ok (.istore_n 1, 1) := dk_60 (dk_at dksX6_written_0 7 rfl rfl)
theorem dX6_written_8 : decode cX6_written 8 = .ok (.aload_n 0, 1) := dk_42 (dk_at dksX6_written_0 8 rfl rfl)
theorem dX6_written_9 : decode cX6_written 9 = .ok (.iconst 1, 1) := dk_4 (dk_at dksX6_written_0 9 rfl rfl)
theorem dX6_written_10 : decode cX6_written 10 = .ok (.iconst 3, 1) := dk_6 (dk_at dksX6_written_0 10 rfl rfl)
theorem dX6_written_11 : decode cX6_written 11 = .ok (.invokevirtual 92, 3) := dk_182 0 92 (dk_at dksX6_written_0 11 rfl rfl)
theorem dX6_written_14 : decode cX6_written 14 = .ok (.istore_n 2, 1) := dk_61 (dk_at dksX6_written_0 14 rfl rfl)
theorem dX6_written_15 : decode cX6_written 15 = .ok (.new 15, 3) := dk_187 0 15 (dk_at dksX6_written_0 15 rfl rfl)
theorem dX6_written_18 : decode cX6_written 18 = .ok (.dup, 1) := dk_89 (dk_at dksX6_written_0 18 rfl rfl)
theorem dX6_written_19 : decode cX6_written 19 = .ok (.iconst 0, 1) := dk_3 (dk_at dksX6_written_0 19 rfl rfl)
theorem dX6_written_20 : decode cX6_written 20 = .ok (.iconst 3, 1) := dk_6 (dk_at dksX6_written_0 20 rfl rfl)
theorem dX6_written_21 : decode cX6_written 21 = .ok (.newarray .int, 2) := dk_188_10 (dk_at dksX6_written_0 21 rfl rfl)
theorem dX6_written_23 : decode cX6_written 23 = .ok (.dup, 1) := dk_89 (dk_at dksX6_written_0 23 rfl rfl)
theorem dX6_written_24 : decode cX6_written 24 = .ok (.iconst 0, 1) := dk_3 (dk_at dksX6_written_1 0 rfl rfl)
theorem dX6_written_25 : decode cX6_written 25 = .ok (.iload_n 1, 1) := dk_27 (dk_at dksX6_written_1 1 rfl rfl)
theorem dX6_written_26 : decode cX6_written 26 = .ok (.iastore, 1) := dk_79 (dk_at dksX6_written_1 2 rfl rfl)
theorem dX6_written_27 : decode cX6_written 27 = .ok (.dup, 1) := dk_89 (dk_at dksX6_written_1 3 rfl rfl)
theorem dX6_written_28 : decode cX6_written 28 = .ok (.iconst 1, 1) := dk_4 (dk_at dksX6_written_1 4 rfl rfl)
theorem dX6_written_29 : decode cX6_written 29 = .ok (.iload_n 2, 1) := dk_28 (dk_at dksX6_written_1 5 rfl rfl)
theorem dX6_written_30 : decode cX6_written 30 = .ok (.iastore, 1) := dk_79 (dk_at dksX6_written_1 6 rfl rfl)
theorem dX6_written_31 : decode cX6_written 31 = .ok (.dup, 1) := dk_89 (dk_at dksX6_written_1 7 rfl rfl)
theorem dX6_written_32 : decode cX6_written 32 = .ok (.iconst 2, 1) := dk_5 (dk_at dksX6_written_1 8 rfl rfl)
theorem dX6_written_33 : decode cX6_written 33 = .ok (.aload_n 0, 1) := dk_42 (dk_at dksX6_written_1 9 rfl rfl)
theorem dX6_written_34 : decode cX6_written 34 = .ok (.getfield 49, 3) := dk_180 0 49 (dk_at dksX6_written_1 10 rfl rfl)
theorem dX6_written_37 : decode cX6_written 37 = .ok (.iconst 2, 1) := dk_5 (dk_at dksX6_written_1 13 rfl rfl)
theorem dX6_written_38 : decode cX6_written 38 = .ok (.if_icmp .ne 13, 3) := dk_160 0 13 (dk_at dksX6_written_1 14 rfl rfl)
theorem dX6_written_41 : decode cX6_written 41 = .ok (.aload_n 0, 1) := dk_42 (dk_at dksX6_written_1 17 rfl rfl)
theorem dX6_written_42 : decode cX6_written 42 = .ok (.iconst 0, 1) := dk_3 (dk_at dksX6_written_1 18 rfl rfl)
theorem dX6_written_43 : decode cX6_written 43 = .ok (.bipush 99, 2) := dk_16 99 (dk_at dksX6_written_1 19 rfl rfl)
theorem dX6_written_45 : decode cX6_written 45 = .ok (.invokevirtual 92, 3) := dk_182 0 92 (dk_at dksX6_written_1 21 rfl rfl)
theorem dX6_written_48 : decode cX6_written 48 = .ok (.goto 4, 3) := dk_167 0 4 (dk_at dksX6_written_2 0 rfl rfl)
theorem dX6_written_51 : decode cX6_written 51 = .ok (.iconst 0, 1) := dk_3 (dk_at dksX6_written_2 3 rfl rfl)
theorem dX6_written_52 : decode cX6_written 52 = .ok (.iastore, 1) := dk_79 (dk_at dksX6_written_2 4 rfl rfl)
theorem dX6_written_53 : decode cX6_written 53 = .ok (.invokespecial 95, 3) := dk_183 0 95 (dk_at dksX6_written_2 5 rfl rfl)
theorem dX6_written_56 : decode cX6_written 56 = .ok (.areturn, 1) := dk_176 (dk_at dksX6_written_2 8 rfl rfl)
abbrev cX6_take : ByteArray := prog_7_method_6_code
def yX6_take : MethodName := ⟨RX6, "take", "(II)I"⟩
def dkwX6_take_1 : List UInt8 := [28, 184, 0, 35, 5, 182, 0, 74, 42, 180, 0, 46, 62, 42, 182, 0, 21, 29, 172]
abbrev dktX6_take_1 : List UInt8 := dkwX6_take_1 ++ []
def dkwX6_take_0 : List UInt8 := [42, 42, 180, 0, 49, 5, 160, 0, 7, 4, 167, 0, 4, 3, 4, 182, 0, 74, 42, 42, 180, 0, 46, 27]
abbrev dktX6_take_0 : List UInt8 := dkwX6_take_0 ++ dktX6_take_1
theorem dksX6_take_0 : cX6_take.data.toList.drop 0 = dktX6_take_0 := by decide +kernel
theorem dksX6_take_1 : cX6_take.data.toList.drop 24 = dktX6_take_1 := dk_seg dksX6_take_0 24 rfl rfl
theorem dX6_take_0 : decode cX6_take 0 = .ok (.aload_n 0, 1) := dk_42 (dk_at dksX6_take_0 0 rfl rfl)
theorem dX6_take_1 : decode cX6_take 1 = .ok (.aload_n 0, 1) := dk_42 (dk_at dksX6_take_0 1 rfl rfl)
theorem dX6_take_2 : decode cX6_take 2 = .ok (.getfield 49, 3) := dk_180 0 49 (dk_at dksX6_take_0 2 rfl rfl)
theorem dX6_take_5 : decode cX6_take 5 = .ok (.iconst 2, 1) := dk_5 (dk_at dksX6_take_0 5 rfl rfl)
theorem dX6_take_6 : decode cX6_take 6 = .ok (.if_icmp .ne 7, 3) := dk_160 0 7 (dk_at dksX6_take_0 6 rfl rfl)
theorem dX6_take_9 : decode cX6_take 9 = .ok (.iconst 1, 1) := dk_4 (dk_at dksX6_take_0 9 rfl rfl)
theorem dX6_take_10 : decode cX6_take 10 = .ok (.goto 4, 3) := dk_167 0 4 (dk_at dksX6_take_0 10 rfl rfl)
theorem dX6_take_13 : decode cX6_take 13 = .ok (.iconst 0, 1) := dk_3 (dk_at dksX6_take_0 13 rfl rfl)
theorem dX6_take_14 : decode cX6_take 14 = .ok (.iconst 1, 1) := dk_4 (dk_at dksX6_take_0 14 rfl rfl)
theorem dX6_take_15 : decode cX6_take 15 = .ok (.invokevirtual 74, 3) := dk_182 0 74 (dk_at dksX6_take_0 15 rfl rfl)
theorem dX6_take_18 : decode cX6_take 18 = .ok (.aload_n 0, 1) := dk_42 (dk_at dksX6_take_0 18 rfl rfl)
theorem dX6_take_19 : decode cX6_take 19 = .ok (.aload_n 0, 1) := dk_42 (dk_at dksX6_take_0 19 rfl rfl)
theorem dX6_take_20 : decode cX6_take 20 = .ok (.getfield 46, 3) := dk_180 0 46 (dk_at dksX6_take_0 20 rfl rfl)
theorem dX6_take_23 : decode cX6_take 23 = .ok (.iload_n 1, 1) := dk_27 (dk_at dksX6_take_0 23 rfl rfl)
theorem dX6_take_24 : decode cX6_take 24 = .ok (.iload_n 2, 1) := dk_28 (dk_at dksX6_take_1 0 rfl rfl)
theorem dX6_take_25 : decode cX6_take 25 = .ok (.invokestatic 35, 3) := dk_184 0 35 (dk_at dksX6_take_1 1 rfl rfl)
theorem dX6_take_28 : decode cX6_take 28 = .ok (.iconst 2, 1) := dk_5 (dk_at dksX6_take_1 4 rfl rfl)
theorem dX6_take_29 : decode cX6_take 29 = .ok (.invokevirtual 74, 3) := dk_182 0 74 (dk_at dksX6_take_1 5 rfl rfl)
theorem dX6_take_32 : decode cX6_take 32 = .ok (.aload_n 0, 1) := dk_42 (dk_at dksX6_take_1 8 rfl rfl)
theorem dX6_take_33 : decode cX6_take 33 = .ok (.getfield 46, 3) := dk_180 0 46 (dk_at dksX6_take_1 9 rfl rfl)
theorem dX6_take_36 : decode cX6_take 36 = .ok (.istore_n 3, 1) := dk_62 (dk_at dksX6_take_1 12 rfl rfl)
theorem dX6_take_37 : decode cX6_take 37 = .ok (.aload_n 0, 1) := dk_42 (dk_at dksX6_take_1 13 rfl rfl)
theorem dX6_take_38 : decode cX6_take 38 = .ok (.invokevirtual 21, 3) := dk_182 0 21 (dk_at dksX6_take_1 14 rfl rfl)
theorem dX6_take_41 : decode cX6_take 41 = .ok (.iload_n 3, 1) := dk_29 (dk_at dksX6_take_1 17 rfl rfl)
theorem dX6_take_42 : decode cX6_take 42 = .ok (.ireturn, 1) := dk_172 (dk_at dksX6_take_1 18 rfl rfl)
theorem q139 : (Jvm.Cond.initialized "FlashZones$Reader") ∈ lw_all := lw_g (lw_at lw_m1 27 rfl) rfl
theorem q726 : (Jvm.Cond.fieldLinkNest "FlashZones$Reader" (31 : Nat) "FlashZones" "text" "[B" "FlashZones") ∈ lw_tbl := lw_at lw_m3 134 rfl
theorem q728 : (Jvm.Cond.fieldLinkNest "FlashZones$Reader" (28 : Nat) "FlashZones" "textLength" "I" "FlashZones") ∈ lw_tbl := lw_at lw_m3 136 rfl
theorem q963 : (Jvm.Cond.selects "FlashZones$Reader" ({ cls := "java/lang/Object", name := "getClass", desc := "()Ljava/lang/Class;" } : Jvm.MethodName) ({ cls := "java/lang/Object", name := "getClass", desc := "()Ljava/lang/Class;" } : Jvm.MethodName)) ∈ lw_all := lw_g (lw_at lw_m4 131 rfl) rfl
theorem q1315 : (Jvm.Cond.instantiable "FlashZones$Reader" (7 : Nat)) ∈ lw_all := lw_g (lw_at lw_m6 3 rfl) rfl
theorem q1317 : (Jvm.Cond.instanceMethod ({ cls := "FlashZones$Reader", name := "<init>", desc := "(LFlashZones;)V" } : Jvm.MethodName)) ∈ lw_all := lw_g (lw_at lw_m6 5 rfl) rfl
theorem q1318 : (Jvm.Cond.code ({ cls := "FlashZones$Reader", name := "<init>", desc := "(LFlashZones;)V" } : Jvm.MethodName) prog_7_method_1_code (2 : Nat) (Option.none : Option Jvm.ClassFile.FieldType)) ∈ lw_all := lw_g (lw_at lw_m6 6 rfl) rfl
theorem q1319 : (Jvm.Cond.methodLink "FlashZones$Reader" (9 : Nat) ({ cls := "java/lang/Object", name := "<init>", desc := "()V" } : Jvm.MethodName)) ∈ lw_all := lw_g (lw_at lw_m6 7 rfl) rfl
theorem q1320 : (Jvm.Cond.classLink "FlashZones$Reader" (15 : Nat) "FlashZones$Act") ∈ lw_all := lw_g (lw_at lw_m6 8 rfl) rfl
theorem q1322 : (Jvm.Cond.methodLink "FlashZones$Reader" (21 : Nat) ({ cls := "FlashZones$Reader", name := "next", desc := "()V" } : Jvm.MethodName)) ∈ lw_all := lw_g (lw_at lw_m6 10 rfl) rfl
theorem q1323 : (Jvm.Cond.privateMethod ({ cls := "FlashZones$Reader", name := "next", desc := "()V" } : Jvm.MethodName)) ∈ lw_tbl := lw_at lw_m6 11 rfl
theorem q1324 : (Jvm.Cond.instanceMethod ({ cls := "FlashZones$Reader", name := "next", desc := "()V" } : Jvm.MethodName)) ∈ lw_all := lw_g (lw_at lw_m6 12 rfl) rfl
theorem q1325 : (Jvm.Cond.code ({ cls := "FlashZones$Reader", name := "next", desc := "()V" } : Jvm.MethodName) prog_7_method_3_code (1 : Nat) (Option.none : Option Jvm.ClassFile.FieldType)) ∈ lw_all := lw_g (lw_at lw_m6 13 rfl) rfl
theorem q1326 : (Jvm.Cond.methodLink "FlashZones$Reader" (39 : Nat) ({ cls := "FlashZones$Reader", name := "isAt", desc := "(II)Z" } : Jvm.MethodName)) ∈ lw_all := lw_g (lw_at lw_m6 14 rfl) rfl
theorem q1327 : (Jvm.Cond.privateMethod ({ cls := "FlashZones$Reader", name := "isAt", desc := "(II)Z" } : Jvm.MethodName)) ∈ lw_tbl := lw_at lw_m6 15 rfl
theorem q1328 : (Jvm.Cond.instanceMethod ({ cls := "FlashZones$Reader", name := "isAt", desc := "(II)Z" } : Jvm.MethodName)) ∈ lw_all := lw_g (lw_at lw_m6 16 rfl) rfl
theorem q1329 : (Jvm.Cond.code ({ cls := "FlashZones$Reader", name := "isAt", desc := "(II)Z" } : Jvm.MethodName) prog_7_method_2_code (3 : Nat) (Option.some Jvm.ClassFile.FieldType.boolean)) ∈ lw_all := lw_g (lw_at lw_m6 17 rfl) rfl
theorem q1330 : (Jvm.Cond.methodLinkNest "FlashZones$Reader" (35 : Nat) ({ cls := "FlashZones", name := "isIn", desc := "(III)Z" } : Jvm.MethodName) "FlashZones") ∈ lw_tbl := lw_at lw_m6 18 rfl
theorem q1331 : (Jvm.Cond.constant "FlashZones$Reader" (52 : Nat) (100000 : Int32)) ∈ lw_all := lw_g (lw_at lw_m6 19 rfl) rfl
theorem q1332 : (Jvm.Cond.methodLink "FlashZones$Reader" (53 : Nat) ({ cls := "java/lang/Math", name := "min", desc := "(II)I" } : Jvm.MethodName)) ∈ lw_all := lw_g (lw_at lw_m6 20 rfl) rfl
theorem q1333 : (Jvm.Cond.fieldLink "FlashZones$Reader" (17 : Nat) "FlashZones$Reader" "commands" "[LFlashZones$Act;") ∈ lw_all := lw_g (lw_at lw_m6 21 rfl) rfl
theorem q1335 : (Jvm.Cond.fieldLink "FlashZones$Reader" (101 : Nat) "FlashZones$Reader" "many" "I") ∈ lw_all := lw_g (lw_at lw_m6 23 rfl) rfl
theorem q1337 : (Jvm.Cond.fieldLink "FlashZones$Reader" (24 : Nat) "FlashZones$Reader" "at" "I") ∈ lw_all := lw_g (lw_at lw_m6 25 rfl) rfl
theorem q1338 : (Jvm.Cond.fieldLink "FlashZones$Reader" (43 : Nat) "FlashZones$Reader" "begin" "I") ∈ lw_all := lw_g (lw_at lw_m6 26 rfl) rfl
theorem q1339 : (Jvm.Cond.fieldLink "FlashZones$Reader" (49 : Nat) "FlashZones$Reader" "kind" "I") ∈ lw_all := lw_g (lw_at lw_m6 27 rfl) rfl
theorem q1340 : (Jvm.Cond.fieldLink "FlashZones$Reader" (46 : Nat) "FlashZones$Reader" "number" "I") ∈ lw_all := lw_g (lw_at lw_m6 28 rfl) rfl
theorem q1341 : (Jvm.Cond.fieldLink "FlashZones$Reader" (3 : Nat) "FlashZones$Reader" "this$0" "LFlashZones;") ∈ lw_all := lw_g (lw_at lw_m6 29 rfl) rfl
theorem q1342 : (Jvm.Cond.laysFinal "FlashZones$Reader" "FlashZones$Reader" "commands" "[LFlashZones$Act;") ∈ lw_all := lw_g (lw_at lw_m6 30 rfl) rfl
theorem q1343 : (Jvm.Cond.soleField "FlashZones$Reader" "commands") ∈ lw_all := lw_g (lw_at lw_m6 31 rfl) rfl
theorem q1344 : (Jvm.Cond.lays "FlashZones$Reader" "FlashZones$Reader" "many" "I") ∈ lw_all := lw_g (lw_at lw_m6 32 rfl) rfl
theorem q1345 : (Jvm.Cond.soleField "FlashZones$Reader" "many") ∈ lw_all := lw_g (lw_at lw_m6 33 rfl) rfl
theorem q1346 : (Jvm.Cond.lays "FlashZones$Reader" "FlashZones$Reader" "at" "I") ∈ lw_all := lw_g (lw_at lw_m6 34 rfl) rfl
theorem q1347 : (Jvm.Cond.soleField "FlashZones$Reader" "at") ∈ lw_all := lw_g (lw_at lw_m6 35 rfl) rfl
theorem q1348 : (Jvm.Cond.lays "FlashZones$Reader" "FlashZones$Reader" "begin" "I") ∈ lw_all := lw_g (lw_at lw_m6 36 rfl) rfl
theorem q1349 : (Jvm.Cond.soleField "FlashZones$Reader" "begin") ∈ lw_all := lw_g (lw_at lw_m6 37 rfl) rfl
theorem q1350 : (Jvm.Cond.lays "FlashZones$Reader" "FlashZones$Reader" "kind" "I") ∈ lw_all := lw_g (lw_at lw_m6 38 rfl) rfl
theorem q1351 : (Jvm.Cond.soleField "FlashZones$Reader" "kind") ∈ lw_all := lw_g (lw_at lw_m6 39 rfl) rfl
theorem q1352 : (Jvm.Cond.lays "FlashZones$Reader" "FlashZones$Reader" "number" "I") ∈ lw_all := lw_g (lw_at lw_m6 40 rfl) rfl
theorem q1353 : (Jvm.Cond.soleField "FlashZones$Reader" "number") ∈ lw_all := lw_g (lw_at lw_m6 41 rfl) rfl
theorem q1354 : (Jvm.Cond.laysFinal "FlashZones$Reader" "FlashZones$Reader" "this$0" "LFlashZones;") ∈ lw_all := lw_g (lw_at lw_m6 42 rfl) rfl
theorem q1355 : (Jvm.Cond.soleField "FlashZones$Reader" "this$0") ∈ lw_all := lw_g (lw_at lw_m6 43 rfl) rfl
theorem q1356 : (Jvm.Cond.superclass "FlashZones$Reader" "java/lang/Object") ∈ lw_all := lw_g (lw_at lw_m6 44 rfl) rfl
theorem q1358 : (Jvm.Cond.instanceMethod ({ cls := "FlashZones$Reader", name := "script", desc := "()V" } : Jvm.MethodName)) ∈ lw_all := lw_g (lw_at lw_m6 46 rfl) rfl
theorem q1359 : (Jvm.Cond.selects "FlashZones$Reader" ({ cls := "FlashZones$Reader", name := "script", desc := "()V" } : Jvm.MethodName) ({ cls := "FlashZones$Reader", name := "script", desc := "()V" } : Jvm.MethodName)) ∈ lw_all := lw_g (lw_at lw_m6 47 rfl) rfl
theorem q1360 : (Jvm.Cond.code ({ cls := "FlashZones$Reader", name := "script", desc := "()V" } : Jvm.MethodName) prog_7_method_10_code (2 : Nat) (Option.none : Option Jvm.ClassFile.FieldType)) ∈ lw_all := lw_g (lw_at lw_m6 48 rfl) rfl
theorem q1361 : (Jvm.Cond.methodLink "FlashZones$Reader" (108 : Nat) ({ cls := "FlashZones$Reader", name := "command", desc := "()LFlashZones$Act;" } : Jvm.MethodName)) ∈ lw_all := lw_g (lw_at lw_m6 49 rfl) rfl
theorem q1362 : (Jvm.Cond.privateMethod ({ cls := "FlashZones$Reader", name := "command", desc := "()LFlashZones$Act;" } : Jvm.MethodName)) ∈ lw_tbl := lw_at lw_m6 50 rfl
theorem q1363 : (Jvm.Cond.instanceMethod ({ cls := "FlashZones$Reader", name := "command", desc := "()LFlashZones$Act;" } : Jvm.MethodName)) ∈ lw_all := lw_g (lw_at lw_m6 51 rfl) rfl
theorem q1364 : (Jvm.Cond.code ({ cls := "FlashZones$Reader", name := "command", desc := "()LFlashZones$Act;" } : Jvm.MethodName) prog_7_method_9_code (2 : Nat) (Option.some (Jvm.ClassFile.FieldType.object "FlashZones$Act"))) ∈ lw_all := lw_g (lw_at lw_m6 52 rfl) rfl
theorem q1365 : (Jvm.Cond.methodLink "FlashZones$Reader" (98 : Nat) ({ cls := "FlashZones$Reader", name := "commandHere", desc := "()I" } : Jvm.MethodName)) ∈ lw_all := lw_g (lw_at lw_m6 53 rfl) rfl
theorem q1366 : (Jvm.Cond.privateMethod ({ cls := "FlashZones$Reader", name := "commandHere", desc := "()I" } : Jvm.MethodName)) ∈ lw_tbl := lw_at lw_m6 54 rfl
theorem q1367 : (Jvm.Cond.instanceMethod ({ cls := "FlashZones$Reader", name := "commandHere", desc := "()I" } : Jvm.MethodName)) ∈ lw_all := lw_g (lw_at lw_m6 55 rfl) rfl
theorem q1368 : (Jvm.Cond.code ({ cls := "FlashZones$Reader", name := "commandHere", desc := "()I" } : Jvm.MethodName) prog_7_method_7_code (1 : Nat) (Option.some Jvm.ClassFile.FieldType.int)) ∈ lw_all := lw_g (lw_at lw_m6 56 rfl) rfl
theorem q1369 : (Jvm.Cond.stringRef "FlashZones$Reader" (78 : Nat) "write") ∈ lw_tbl := lw_at lw_m6 57 rfl
theorem q1370 : (Jvm.Cond.methodLink "FlashZones$Reader" (80 : Nat) ({ cls := "FlashZones$Reader", name := "isWord", desc := "(Ljava/lang/String;)Z" } : Jvm.MethodName)) ∈ lw_all := lw_g (lw_at lw_m6 58 rfl) rfl
theorem q1371 : (Jvm.Cond.privateMethod ({ cls := "FlashZones$Reader", name := "isWord", desc := "(Ljava/lang/String;)Z" } : Jvm.MethodName)) ∈ lw_tbl := lw_at lw_m6 59 rfl
theorem q1372 : (Jvm.Cond.instanceMethod ({ cls := "FlashZones$Reader", name := "isWord", desc := "(Ljava/lang/String;)Z" } : Jvm.MethodName)) ∈ lw_all := lw_g (lw_at lw_m6 60 rfl) rfl
theorem q1373 : (Jvm.Cond.code ({ cls := "FlashZones$Reader", name := "isWord", desc := "(Ljava/lang/String;)Z" } : Jvm.MethodName) prog_7_method_4_code (4 : Nat) (Option.some Jvm.ClassFile.FieldType.boolean)) ∈ lw_all := lw_g (lw_at lw_m6 61 rfl) rfl
theorem q1374 : (Jvm.Cond.methodLink "FlashZones$Reader" (59 : Nat) ({ cls := "java/lang/String", name := "length", desc := "()I" } : Jvm.MethodName)) ∈ lw_all := lw_g (lw_at lw_m6 62 rfl) rfl
theorem q1375 : (Jvm.Cond.methodLink "FlashZones$Reader" (65 : Nat) ({ cls := "java/lang/String", name := "charAt", desc := "(I)C" } : Jvm.MethodName)) ∈ lw_all := lw_g (lw_at lw_m6 63 rfl) rfl
theorem q1390 : (Jvm.Cond.stringRef "FlashZones$Reader" (84 : Nat) "die") ∈ lw_tbl := lw_at lw_m6 78 rfl
theorem q1391 : (Jvm.Cond.stringRef "FlashZones$Reader" (86 : Nat) "reset") ∈ lw_tbl := lw_at lw_m6 79 rfl
theorem q1392 : (Jvm.Cond.stringRef "FlashZones$Reader" (88 : Nat) "bury") ∈ lw_tbl := lw_at lw_m6 80 rfl
theorem q1393 : (Jvm.Cond.stringRef "FlashZones$Reader" (90 : Nat) "days") ∈ lw_tbl := lw_at lw_m6 81 rfl
theorem q1394 : (Jvm.Cond.methodLink "FlashZones$Reader" (74 : Nat) ({ cls := "FlashZones$Reader", name := "need", desc := "(ZI)V" } : Jvm.MethodName)) ∈ lw_all := lw_g (lw_at lw_m6 82 rfl) rfl
theorem q1395 : (Jvm.Cond.privateMethod ({ cls := "FlashZones$Reader", name := "need", desc := "(ZI)V" } : Jvm.MethodName)) ∈ lw_tbl := lw_at lw_m6 83 rfl
theorem q1396 : (Jvm.Cond.instanceMethod ({ cls := "FlashZones$Reader", name := "need", desc := "(ZI)V" } : Jvm.MethodName)) ∈ lw_all := lw_g (lw_at lw_m6 84 rfl) rfl
theorem q1397 : (Jvm.Cond.code ({ cls := "FlashZones$Reader", name := "need", desc := "(ZI)V" } : Jvm.MethodName) prog_7_method_5_code (3 : Nat) (Option.none : Option Jvm.ClassFile.FieldType)) ∈ lw_all := lw_g (lw_at lw_m6 85 rfl) rfl
theorem q1398 : (Jvm.Cond.classLink "FlashZones$Reader" (69 : Nat) "FlashZones$Fault") ∈ lw_all := lw_g (lw_at lw_m6 86 rfl) rfl
theorem q1407 : (Jvm.Cond.methodLink "FlashZones$Reader" (71 : Nat) ({ cls := "FlashZones$Fault", name := "<init>", desc := "(II)V" } : Jvm.MethodName)) ∈ lw_all := lw_g (lw_at lw_m6 95 rfl) rfl
theorem q1427 : (Jvm.Cond.methodLink "FlashZones$Reader" (104 : Nat) ({ cls := "FlashZones$Reader", name := "written", desc := "()LFlashZones$Act;" } : Jvm.MethodName)) ∈ lw_all := lw_g (lw_at lw_m6 115 rfl) rfl
theorem q1428 : (Jvm.Cond.privateMethod ({ cls := "FlashZones$Reader", name := "written", desc := "()LFlashZones$Act;" } : Jvm.MethodName)) ∈ lw_tbl := lw_at lw_m6 116 rfl
theorem q1429 : (Jvm.Cond.instanceMethod ({ cls := "FlashZones$Reader", name := "written", desc := "()LFlashZones$Act;" } : Jvm.MethodName)) ∈ lw_all := lw_g (lw_at lw_m6 117 rfl) rfl
theorem q1430 : (Jvm.Cond.code ({ cls := "FlashZones$Reader", name := "written", desc := "()LFlashZones$Act;" } : Jvm.MethodName) prog_7_method_8_code (3 : Nat) (Option.some (Jvm.ClassFile.FieldType.object "FlashZones$Act"))) ∈ lw_all := lw_g (lw_at lw_m6 118 rfl) rfl
theorem q1431 : (Jvm.Cond.methodLink "FlashZones$Reader" (92 : Nat) ({ cls := "FlashZones$Reader", name := "take", desc := "(II)I" } : Jvm.MethodName)) ∈ lw_all := lw_g (lw_at lw_m6 119 rfl) rfl
theorem q1432 : (Jvm.Cond.privateMethod ({ cls := "FlashZones$Reader", name := "take", desc := "(II)I" } : Jvm.MethodName)) ∈ lw_tbl := lw_at lw_m6 120 rfl
theorem q1433 : (Jvm.Cond.instanceMethod ({ cls := "FlashZones$Reader", name := "take", desc := "(II)I" } : Jvm.MethodName)) ∈ lw_all := lw_g (lw_at lw_m6 121 rfl) rfl
theorem q1434 : (Jvm.Cond.code ({ cls := "FlashZones$Reader", name := "take", desc := "(II)I" } : Jvm.MethodName) prog_7_method_6_code (4 : Nat) (Option.some Jvm.ClassFile.FieldType.int)) ∈ lw_all := lw_g (lw_at lw_m6 122 rfl) rfl
theorem q1435 : (Jvm.Cond.methodLink "FlashZones$Reader" (95 : Nat) ({ cls := "FlashZones$Act", name := "<init>", desc := "(I[I)V" } : Jvm.MethodName)) ∈ lw_all := lw_g (lw_at lw_m6 123 rfl) rfl
theorem q2566 : (Jvm.Cond.castable "FlashZones$Reader" "java/lang/Object") ∈ lw_tbl := lw_at lw_m11 54 rfl
theorem in_X6 : ∀ w ∈ wsX60, w ∈ lw_all := lw_in wsX60 [1342, 1344, 1346, 1348, 1350, 1352, 1354] (by decide +kernel) (by decide +kernel)
/-! FlashZones$Fault -/
set_option maxRecDepth 100000
def RX7 : String := "FlashZones$Fault"
def TX7 : u_T := fun k => match k with
  | 0 => ("java/lang/Throwable", "cause", "Ljava/lang/Throwable;", false)
  | 1 => ("java/lang/Throwable", "stackTrace", "[Ljava/lang/StackTraceElement;", false)
  | 2 => ("java/lang/Throwable", "suppressedExceptions", "Ljava/util/List;", false)
  | 3 => ("java/lang/Throwable", "detailMessage", "Ljava/lang/String;", false)
  | 4 => ("java/lang/Throwable", "backtrace", "Ljava/lang/Object;", false)
  | 5 => ("java/lang/Throwable", "depth", "I", false)
  | 6 => ("FlashZones$Fault", "code", "I", true)
  | _ => ("FlashZones$Fault", "place", "I", true)
def tyX7 : Nat → FieldType := fun k => match k with
  | 0 => .object "java/lang/Throwable"
  | 1 => .array (.object "java/lang/StackTraceElement")
  | 2 => .object "java/util/List"
  | 3 => .object "java/lang/String"
  | 4 => .object "java/lang/Object"
  | 5 => .int
  | 6 => .int
  | _ => .int
abbrev wsX70 : List Cond := u_ws RX7 TX7 8
theorem nmX7 : ∀ a, a < 8 → ∀ b, b < 8 → a ≠ b → (TX7 a).2.1 ≠ (TX7 b).2.1 := by decide +kernel
theorem tyX7_ok : ∀ k, k < 8 → parseFieldDescriptor (TX7 k).2.2.1 = some (tyX7 k) := by decide +kernel
abbrev cX7_init : ByteArray := prog_5_method_1_code
def yX7_init : MethodName := ⟨RX7, "<init>", "(II)V"⟩
def dkwX7_init_0 : List UInt8 := [42, 18, 1, 1, 3, 3, 183, 0, 3, 42, 27, 181, 0, 9, 42, 28, 181, 0, 15, 177]
abbrev dktX7_init_0 : List UInt8 := dkwX7_init_0 ++ []
theorem dksX7_init_0 : cX7_init.data.toList.drop 0 = dktX7_init_0 := by decide +kernel
theorem dX7_init_0 : decode cX7_init 0 = .ok (.aload_n 0, 1) := dk_42 (dk_at dksX7_init_0 0 rfl rfl)
theorem dX7_init_1 : decode cX7_init 1 = .ok (.ldc 1, 2) := dk_18 1 (dk_at dksX7_init_0 1 rfl rfl)
theorem dX7_init_3 : decode cX7_init 3 = .ok (.aconst_null, 1) := dk_1 (dk_at dksX7_init_0 3 rfl rfl)
theorem dX7_init_4 : decode cX7_init 4 = .ok (.iconst 0, 1) := dk_3 (dk_at dksX7_init_0 4 rfl rfl)
theorem dX7_init_5 : decode cX7_init 5 = .ok (.iconst 0, 1) := dk_3 (dk_at dksX7_init_0 5 rfl rfl)
theorem dX7_init_6 : decode cX7_init 6 = .ok (.invokespecial 3, 3) := dk_183 0 3 (dk_at dksX7_init_0 6 rfl rfl)
theorem dX7_init_9 : decode cX7_init 9 = .ok (.aload_n 0, 1) := dk_42 (dk_at dksX7_init_0 9 rfl rfl)
theorem dX7_init_10 : decode cX7_init 10 = .ok (.iload_n 1, 1) := dk_27 (dk_at dksX7_init_0 10 rfl rfl)
theorem dX7_init_11 : decode cX7_init 11 = .ok (.putfield 9, 3) := dk_181 0 9 (dk_at dksX7_init_0 11 rfl rfl)
theorem dX7_init_14 : decode cX7_init 14 = .ok (.aload_n 0, 1) := dk_42 (dk_at dksX7_init_0 14 rfl rfl)
theorem dX7_init_15 : decode cX7_init 15 = .ok (.iload_n 2, 1) := dk_28 (dk_at dksX7_init_0 15 rfl rfl)
theorem dX7_init_16 : decode cX7_init 16 = .ok (.putfield 15, 3) := dk_181 0 15 (dk_at dksX7_init_0 16 rfl rfl)
theorem dX7_init_19 : decode cX7_init 19 = .ok (.return_, 1) := dk_177 (dk_at dksX7_init_0 19 rfl rfl)
theorem q140 : (Jvm.Cond.initialized "FlashZones$Fault") ∈ lw_all := lw_g (lw_at lw_m1 28 rfl) rfl
theorem q293 : (Jvm.Cond.selects "FlashZones$Fault" ({ cls := "java/lang/Throwable", name := "fillInStackTrace", desc := "()Ljava/lang/Throwable;" } : Jvm.MethodName) ({ cls := "java/lang/Throwable", name := "fillInStackTrace", desc := "()Ljava/lang/Throwable;" } : Jvm.MethodName)) ∈ lw_all := lw_g (lw_at lw_m1 181 rfl) rfl
theorem q962 : (Jvm.Cond.selects "FlashZones$Fault" ({ cls := "java/lang/Object", name := "getClass", desc := "()Ljava/lang/Class;" } : Jvm.MethodName) ({ cls := "java/lang/Object", name := "getClass", desc := "()Ljava/lang/Class;" } : Jvm.MethodName)) ∈ lw_all := lw_g (lw_at lw_m4 130 rfl) rfl
theorem q1399 : (Jvm.Cond.instantiable "FlashZones$Fault" (8 : Nat)) ∈ lw_all := lw_g (lw_at lw_m6 87 rfl) rfl
theorem q1400 : (Jvm.Cond.castable "FlashZones$Fault" "FlashZones$Fault") ∈ lw_tbl := lw_at lw_m6 88 rfl
theorem q1401 : (Jvm.Cond.selects "FlashZones$Fault" ({ cls := "java/lang/Throwable", name := "fillInStackTrace", desc := "(I)Ljava/lang/Throwable;" } : Jvm.MethodName) ({ cls := "java/lang/Throwable", name := "fillInStackTrace", desc := "(I)Ljava/lang/Throwable;" } : Jvm.MethodName)) ∈ lw_all := lw_g (lw_at lw_m6 89 rfl) rfl
theorem q1402 : (Jvm.Cond.lays "FlashZones$Fault" "java/lang/Throwable" "cause" "Ljava/lang/Throwable;") ∈ lw_all := lw_g (lw_at lw_m6 90 rfl) rfl
theorem q1403 : (Jvm.Cond.lays "FlashZones$Fault" "java/lang/Throwable" "stackTrace" "[Ljava/lang/StackTraceElement;") ∈ lw_all := lw_g (lw_at lw_m6 91 rfl) rfl
theorem q1404 : (Jvm.Cond.lays "FlashZones$Fault" "java/lang/Throwable" "suppressedExceptions" "Ljava/util/List;") ∈ lw_all := lw_g (lw_at lw_m6 92 rfl) rfl
theorem q1405 : (Jvm.Cond.lays "FlashZones$Fault" "java/lang/Throwable" "detailMessage" "Ljava/lang/String;") ∈ lw_all := lw_g (lw_at lw_m6 93 rfl) rfl
theorem q1406 : (Jvm.Cond.lays "FlashZones$Fault" "java/lang/Throwable" "backtrace" "Ljava/lang/Object;") ∈ lw_all := lw_g (lw_at lw_m6 94 rfl) rfl
theorem q1408 : (Jvm.Cond.instanceMethod ({ cls := "FlashZones$Fault", name := "<init>", desc := "(II)V" } : Jvm.MethodName)) ∈ lw_all := lw_g (lw_at lw_m6 96 rfl) rfl
theorem q1409 : (Jvm.Cond.code ({ cls := "FlashZones$Fault", name := "<init>", desc := "(II)V" } : Jvm.MethodName) prog_5_method_1_code (3 : Nat) (Option.none : Option Jvm.ClassFile.FieldType)) ∈ lw_all := lw_g (lw_at lw_m6 97 rfl) rfl
theorem q1410 : (Jvm.Cond.stringRef "FlashZones$Fault" (1 : Nat) "a fault") ∈ lw_tbl := lw_at lw_m6 98 rfl
theorem q1411 : (Jvm.Cond.methodLink "FlashZones$Fault" (3 : Nat) ({ cls := "java/lang/Exception", name := "<init>", desc := "(Ljava/lang/String;Ljava/lang/Throwable;ZZ)V" } : Jvm.MethodName)) ∈ lw_all := lw_g (lw_at lw_m6 99 rfl) rfl
theorem q1417 : (Jvm.Cond.fieldLink "FlashZones$Fault" (9 : Nat) "FlashZones$Fault" "code" "I") ∈ lw_all := lw_g (lw_at lw_m6 105 rfl) rfl
theorem q1419 : (Jvm.Cond.fieldLink "FlashZones$Fault" (15 : Nat) "FlashZones$Fault" "place" "I") ∈ lw_all := lw_g (lw_at lw_m6 107 rfl) rfl
theorem q1421 : (Jvm.Cond.laysFinal "FlashZones$Fault" "FlashZones$Fault" "code" "I") ∈ lw_all := lw_g (lw_at lw_m6 109 rfl) rfl
theorem q1422 : (Jvm.Cond.soleField "FlashZones$Fault" "code") ∈ lw_all := lw_g (lw_at lw_m6 110 rfl) rfl
theorem q1423 : (Jvm.Cond.laysFinal "FlashZones$Fault" "FlashZones$Fault" "place" "I") ∈ lw_all := lw_g (lw_at lw_m6 111 rfl) rfl
theorem q1424 : (Jvm.Cond.soleField "FlashZones$Fault" "place") ∈ lw_all := lw_g (lw_at lw_m6 112 rfl) rfl
theorem q1425 : (Jvm.Cond.lays "FlashZones$Fault" "java/lang/Throwable" "depth" "I") ∈ lw_all := lw_g (lw_at lw_m6 113 rfl) rfl
theorem q1426 : (Jvm.Cond.superclass "FlashZones$Fault" "java/lang/Exception") ∈ lw_all := lw_g (lw_at lw_m6 114 rfl) rfl
theorem q2567 : (Jvm.Cond.castable "FlashZones$Fault" "java/lang/Object") ∈ lw_tbl := lw_at lw_m11 55 rfl
theorem in_X7 : ∀ w ∈ wsX70, w ∈ lw_all := lw_in wsX70 [1402, 1403, 1404, 1405, 1406, 1425, 1421, 1423] (by decide +kernel) (by decide +kernel)
/-! FlashZones$Act -/
set_option maxRecDepth 100000
def RX8 : String := "FlashZones$Act"
def TX8 : u_T := fun k => match k with
  | 0 => ("FlashZones$Act", "kind", "I", true)
  | _ => ("FlashZones$Act", "numbers", "[I", true)
def tyX8 : Nat → FieldType := fun k => match k with
  | 0 => .int
  | _ => .array .int
abbrev wsX80 : List Cond := u_ws RX8 TX8 2
theorem nmX8 : ∀ a, a < 2 → ∀ b, b < 2 → a ≠ b → (TX8 a).2.1 ≠ (TX8 b).2.1 := by decide +kernel
theorem tyX8_ok : ∀ k, k < 2 → parseFieldDescriptor (TX8 k).2.2.1 = some (tyX8 k) := by decide +kernel
abbrev cX8_isLost : ByteArray := prog_2_method_6_code
def yX8_isLost : MethodName := ⟨RX8, "isLost", "(LFlashZones$Store;)Z"⟩
def dkwX8_isLost_1 : List UInt8 := [167, 0, 4, 3, 172]
abbrev dktX8_isLost_1 : List UInt8 := dkwX8_isLost_1 ++ []
def dkwX8_isLost_0 : List UInt8 := [42, 180, 0, 9, 4, 160, 0, 20, 43, 42, 180, 0, 15, 3, 46, 182, 0, 25, 199, 0, 7, 4]
abbrev dktX8_isLost_0 : List UInt8 := dkwX8_isLost_0 ++ dktX8_isLost_1
theorem dksX8_isLost_0 : cX8_isLost.data.toList.drop 0 = dktX8_isLost_0 := by decide +kernel
theorem dksX8_isLost_1 : cX8_isLost.data.toList.drop 22 = dktX8_isLost_1 := dk_seg dksX8_isLost_0 22 rfl rfl
theorem dX8_isLost_0 : decode cX8_isLost 0 = .ok (.aload_n 0, 1) := dk_42 (dk_at dksX8_isLost_0 0 rfl rfl)
theorem dX8_isLost_1 : decode cX8_isLost 1 = .ok (.getfield 9, 3) := dk_180 0 9 (dk_at dksX8_isLost_0 1 rfl rfl)
theorem dX8_isLost_4 : decode cX8_isLost 4 = .ok (.iconst 1, 1) := dk_4 (dk_at dksX8_isLost_0 4 rfl rfl)
theorem dX8_isLost_5 : decode cX8_isLost 5 = .ok (.if_icmp .ne 20, 3) := dk_160 0 20 (dk_at dksX8_isLost_0 5 rfl rfl)
theorem dX8_isLost_8 : decode cX8_isLost 8 = .ok (.aload_n 1, 1) := dk_43 (dk_at dksX8_isLost_0 8 rfl rfl)
theorem dX8_isLost_9 : decode cX8_isLost 9 = .ok (.aload_n 0, 1) := dk_42 (dk_at dksX8_isLost_0 9 rfl rfl)
theorem dX8_isLost_10 : decode cX8_isLost 10 = .ok (.getfield 15, 3) := dk_180 0 15 (dk_at dksX8_isLost_0 10 rfl rfl)
theorem dX8_isLost_13 : decode cX8_isLost 13 = .ok (.iconst 0, 1) := dk_3 (dk_at dksX8_isLost_0 13 rfl rfl)
theorem dX8_isLost_14 : decode cX8_isLost 14 = .ok (.iaload, 1) := dk_46 (dk_at dksX8_isLost_0 14 rfl rfl)
theorem dX8_isLost_15 : decode cX8_isLost 15 = .ok (.invokevirtual 25, 3) := dk_182 0 25 (dk_at dksX8_isLost_0 15 rfl rfl)
theorem dX8_isLost_18 : decode cX8_isLost 18 = .ok (.ifnonnull 7, 3) := dk_199 0 7 (dk_at dksX8_isLost_0 18 rfl rfl)
theorem dX8_isLost_21 : decode cX8_isLost 21 = .ok (.iconst 1, 1) := dk_4 (dk_at dksX8_isLost_0 21 rfl rfl)
theorem dX8_isLost_22 : decode cX8_isLost 22 = .ok (.goto 4, 3) := dk_167 0 4 (dk_at dksX8_isLost_1 0 rfl rfl)
theorem dX8_isLost_25 : decode cX8_isLost 25 = .ok (.iconst 0, 1) := dk_3 (dk_at dksX8_isLost_1 3 rfl rfl)
theorem dX8_isLost_26 : decode cX8_isLost 26 = .ok (.ireturn, 1) := dk_172 (dk_at dksX8_isLost_1 4 rfl rfl)
abbrev cX8_run : ByteArray := prog_2_method_2_code
def yX8_run : MethodName := ⟨RX8, "run", "(LFlashZones$Store;I)I"⟩
def dkwX8_run_5 : List UInt8 := [42, 43, 182, 0, 40, 172]
abbrev dktX8_run_5 : List UInt8 := dkwX8_run_5 ++ []
def dkwX8_run_4 : List UInt8 := [180, 0, 15, 3, 46, 182, 0, 33, 167, 0, 21, 43, 42, 180, 0, 15, 3, 46, 182, 0, 37, 167, 0, 8]
abbrev dktX8_run_4 : List UInt8 := dkwX8_run_4 ++ dktX8_run_5
def dkwX8_run_3 : List UInt8 := [167, 0, 51, 43, 43, 42, 180, 0, 15, 3, 46, 182, 0, 25, 182, 0, 29, 167, 0, 34, 43, 42]
abbrev dktX8_run_3 : List UInt8 := dkwX8_run_3 ++ dktX8_run_4
def dkwX8_run_2 : List UInt8 := [43, 28, 42, 180, 0, 15, 3, 46, 42, 180, 0, 15, 4, 46, 42, 180, 0, 15, 5, 46, 182, 0, 19]
abbrev dktX8_run_2 : List UInt8 := dkwX8_run_2 ++ dktX8_run_3
def dkwX8_run_1 : List UInt8 := [170, 0, 0, 0, 0, 0, 0, 101, 0, 0, 0, 0, 0, 0, 0, 3, 0, 0, 0, 32, 0, 0, 0, 58, 0, 0, 0, 75, 0, 0, 0, 88]
abbrev dktX8_run_1 : List UInt8 := dkwX8_run_1 ++ dktX8_run_2
def dkwX8_run_0 : List UInt8 := [42, 180, 0, 9]
abbrev dktX8_run_0 : List UInt8 := dkwX8_run_0 ++ dktX8_run_1
theorem dksX8_run_0 : cX8_run.data.toList.drop 0 = dktX8_run_0 := by decide +kernel
theorem dksX8_run_1 : cX8_run.data.toList.drop 4 = dktX8_run_1 := dk_seg dksX8_run_0 4 rfl rfl
theorem dksX8_run_2 : cX8_run.data.toList.drop 36 = dktX8_run_2 := dk_seg dksX8_run_1 32 rfl rfl
theorem dksX8_run_3 : cX8_run.data.toList.drop 59 = dktX8_run_3 := dk_seg dksX8_run_2 23 rfl rfl
theorem dksX8_run_4 : cX8_run.data.toList.drop 81 = dktX8_run_4 := dk_seg dksX8_run_3 22 rfl rfl
theorem dksX8_run_5 : cX8_run.data.toList.drop 105 = dktX8_run_5 := dk_seg dksX8_run_4 24 rfl rfl
theorem dX8_run_0 : decode cX8_run 0 = .ok (.aload_n 0, 1) := dk_42 (dk_at dksX8_run_0 0 rfl rfl)
theorem dX8_run_1 : decode cX8_run 1 = .ok (.getfield 9, 3) := dk_180 0 9 (dk_at dksX8_run_0 1 rfl rfl)
theorem dX8_run_4 : decode cX8_run 4 = .ok (.tableswitch 101 0 3 #[32, 58, 75, 88], 32) := by decide +kernel
theorem dX8_run_36 : decode cX8_run 36 = .ok (.aload_n 1, 1) := dk_43 (dk_at dksX8_run_2 0 rfl rfl)
theorem dX8_run_37 : decode cX8_run 37 = .ok (.iload_n 2, 1) := dk_28 (dk_at dksX8_run_2 1 rfl rfl)
theorem dX8_run_38 : decode cX8_run 38 = .ok (.aload_n 0, 1) := dk_42 (dk_at dksX8_run_2 2 rfl rfl)
theorem dX8_run_39 : decode cX8_run 39 = .ok (.getfield 15, 3) := dk_180 0 15 (dk_at dksX8_run_2 3 rfl rfl)
theorem dX8_run_42 : decode cX8_run 42 = .ok (.iconst 0, 1) := dk_3 (dk_at dksX8_run_2 6 rfl rfl)
theorem dX8_run_43 : decode cX8_run 43 = .ok (.iaload, 1) := dk_46 (dk_at dksX8_run_2 7 rfl rfl)
theorem dX8_run_44 : decode cX8_run 44 = .ok (.aload_n 0, 1) := dk_42 (dk_at dksX8_run_2 8 rfl rfl)
theorem dX8_run_45 : decode cX8_run 45 = .ok (.getfield 15, 3) := dk_180 0 15 (dk_at dksX8_run_2 9 rfl rfl)
theorem dX8_run_48 : decode cX8_run 48 = .ok (.iconst 1, 1) := dk_4 (dk_at dksX8_run_2 12 rfl rfl)
theorem dX8_run_49 : decode cX8_run 49 = .ok (.iaload, 1) := dk_46 (dk_at dksX8_run_2 13 rfl rfl)
theorem dX8_run_50 : decode cX8_run 50 = .ok (.aload_n 0, 1) := dk_42 (dk_at dksX8_run_2 14 rfl rfl)
theorem dX8_run_51 : decode cX8_run 51 = .ok (.getfield 15, 3) := dk_180 0 15 (dk_at dksX8_run_2 15 rfl rfl)
theorem dX8_run_54 : decode cX8_run 54 = .ok (.iconst 2, 1) := dk_5 (dk_at dksX8_run_2 18 rfl rfl)
theorem dX8_run_55 : decode cX8_run 55 = .ok (.iaload, 1) := dk_46 (dk_at dksX8_run_2 19 rfl rfl)
theorem dX8_run_56 : decode cX8_run 56 = .ok (.invokevirtual 19, 3) := dk_182 0 19 (dk_at dksX8_run_2 20 rfl rfl)
theorem dX8_run_59 : decode cX8_run 59 = .ok (.goto 51, 3) := dk_167 0 51 (dk_at dksX8_run_3 0 rfl rfl)
theorem dX8_run_62 : decode cX8_run 62 = .ok (.aload_n 1, 1) := dk_43 (dk_at dksX8_run_3 3 rfl rfl)
theorem dX8_run_63 : decode cX8_run 63 = .ok (.aload_n 1, 1) := dk_43 (dk_at dksX8_run_3 4 rfl rfl)
theorem dX8_run_64 : decode cX8_run 64 = .ok (.aload_n 0, 1) := dk_42 (dk_at dksX8_run_3 5 rfl rfl)
theorem dX8_run_65 : decode cX8_run 65 = .ok (.getfield 15, 3) := dk_180 0 15 (dk_at dksX8_run_3 6 rfl rfl)
theorem dX8_run_68 : decode cX8_run 68 = .ok (.iconst 0, 1) := dk_3 (dk_at dksX8_run_3 9 rfl rfl)
theorem dX8_run_69 : decode cX8_run 69 = .ok (.iaload, 1) := dk_46 (dk_at dksX8_run_3 10 rfl rfl)
theorem dX8_run_70 : decode cX8_run 70 = .ok (.invokevirtual 25, 3) := dk_182 0 25 (dk_at dksX8_run_3 11 rfl rfl)
theorem dX8_run_73 : decode cX8_run 73 = .ok (.invokevirtual 29, 3) := dk_182 0 29 (dk_at dksX8_run_3 14 rfl rfl)
theorem dX8_run_76 : decode cX8_run 76 = .ok (.goto 34, 3) := dk_167 0 34 (dk_at dksX8_run_3 17 rfl rfl)
theorem dX8_run_79 : decode cX8_run 79 = .ok (.aload_n 1, 1) := dk_43 (dk_at dksX8_run_3 20 rfl rfl)
theorem dX8_run_80 : decode cX8_run 80 = .ok (.aload_n 0, 1) := dk_42 (dk_at dksX8_run_3 21 rfl rfl)
theorem dX8_run_81 : decode cX8_run 81 = .ok (.getfield 15, 3) := dk_180 0 15 (dk_at dksX8_run_4 0 rfl rfl)
theorem dX8_run_84 : decode cX8_run 84 = .ok (.iconst 0, 1) := dk_3 (dk_at dksX8_run_4 3 rfl rfl)
theorem dX8_run_85 : decode cX8_run 85 = .ok (.iaload, 1) := dk_46 (dk_at dksX8_run_4 4 rfl rfl)
theorem dX8_run_86 : decode cX8_run 86 = .ok (.invokevirtual 33, 3) := dk_182 0 33 (dk_at dksX8_run_4 5 rfl rfl)
theorem dX8_run_89 : decode cX8_run 89 = .ok (.goto 21, 3) := dk_167 0 21 (dk_at dksX8_run_4 8 rfl rfl)
theorem dX8_run_92 : decode cX8_run 92 = .ok (.aload_n 1, 1) := dk_43 (dk_at dksX8_run_4 11 rfl rfl)
theorem dX8_run_93 : decode cX8_run 93 = .ok (.aload_n 0, 1) := dk_42 (dk_at dksX8_run_4 12 rfl rfl)
theorem dX8_run_94 : decode cX8_run 94 = .ok (.getfield 15, 3) := dk_180 0 15 (dk_at dksX8_run_4 13 rfl rfl)
theorem dX8_run_97 : decode cX8_run 97 = .ok (.iconst 0, 1) := dk_3 (dk_at dksX8_run_4 16 rfl rfl)
theorem dX8_run_98 : decode cX8_run 98 = .ok (.iaload, 1) := dk_46 (dk_at dksX8_run_4 17 rfl rfl)
theorem dX8_run_99 : decode cX8_run 99 = .ok (.invokevirtual 37, 3) := dk_182 0 37 (dk_at dksX8_run_4 18 rfl rfl)
theorem dX8_run_102 : decode cX8_run 102 = .ok (.goto 8, 3) := dk_167 0 8 (dk_at dksX8_run_4 21 rfl rfl)
theorem dX8_run_105 : decode cX8_run 105 = .ok (.aload_n 0, 1) := dk_42 (dk_at dksX8_run_5 0 rfl rfl)
theorem dX8_run_106 : decode cX8_run 106 = .ok (.aload_n 1, 1) := dk_43 (dk_at dksX8_run_5 1 rfl rfl)
theorem dX8_run_107 : decode cX8_run 107 = .ok (.invokevirtual 40, 3) := dk_182 0 40 (dk_at dksX8_run_5 2 rfl rfl)
theorem dX8_run_110 : decode cX8_run 110 = .ok (.ireturn, 1) := dk_172 (dk_at dksX8_run_5 5 rfl rfl)
abbrev cX8_pass : ByteArray := prog_2_method_3_code
def yX8_pass : MethodName := ⟨RX8, "pass", "(LFlashZones$Store;)I"⟩
def dkwX8_pass_0 : List UInt8 := [43, 42, 180, 0, 15, 3, 46, 182, 0, 44, 3, 172]
abbrev dktX8_pass_0 : List UInt8 := dkwX8_pass_0 ++ []
theorem dksX8_pass_0 : cX8_pass.data.toList.drop 0 = dktX8_pass_0 := by decide +kernel
theorem dX8_pass_0 : decode cX8_pass 0 = .ok (.aload_n 1, 1) := dk_43 (dk_at dksX8_pass_0 0 rfl rfl)
theorem dX8_pass_1 : decode cX8_pass 1 = .ok (.aload_n 0, 1) := dk_42 (dk_at dksX8_pass_0 1 rfl rfl)
theorem dX8_pass_2 : decode cX8_pass 2 = .ok (.getfield 15, 3) := dk_180 0 15 (dk_at dksX8_pass_0 2 rfl rfl)
theorem dX8_pass_5 : decode cX8_pass 5 = .ok (.iconst 0, 1) := dk_3 (dk_at dksX8_pass_0 5 rfl rfl)
theorem dX8_pass_6 : decode cX8_pass 6 = .ok (.iaload, 1) := dk_46 (dk_at dksX8_pass_0 6 rfl rfl)
theorem dX8_pass_7 : decode cX8_pass 7 = .ok (.invokevirtual 44, 3) := dk_182 0 44 (dk_at dksX8_pass_0 7 rfl rfl)
theorem dX8_pass_10 : decode cX8_pass 10 = .ok (.iconst 0, 1) := dk_3 (dk_at dksX8_pass_0 10 rfl rfl)
theorem dX8_pass_11 : decode cX8_pass 11 = .ok (.ireturn, 1) := dk_172 (dk_at dksX8_pass_0 11 rfl rfl)
abbrev cX8_write : ByteArray := prog_2_method_5_code
def yX8_write : MethodName := ⟨RX8, "write", "(Ljava/lang/StringBuilder;)V"⟩
def dkwX8_write_2 : List UInt8 := [182, 0, 71, 87, 132, 2, 1, 167, 255, 214, 43, 16, 59, 182, 0, 68, 87, 177]
abbrev dktX8_write_2 : List UInt8 := dkwX8_write_2 ++ []
def dkwX8_write_1 : List UInt8 := [161, 0, 12, 42, 180, 0, 15, 28, 46, 153, 0, 19, 43, 16, 32, 182, 0, 68, 42, 180, 0, 15, 28, 46]
abbrev dktX8_write_1 : List UInt8 := dkwX8_write_1 ++ dktX8_write_2
def dkwX8_write_0 : List UInt8 := [43, 42, 182, 0, 58, 182, 0, 62, 87, 3, 61, 28, 42, 180, 0, 15, 190, 162, 0, 39, 28, 5]
abbrev dktX8_write_0 : List UInt8 := dkwX8_write_0 ++ dktX8_write_1
theorem dksX8_write_0 : cX8_write.data.toList.drop 0 = dktX8_write_0 := by decide +kernel
theorem dksX8_write_1 : cX8_write.data.toList.drop 22 = dktX8_write_1 := dk_seg dksX8_write_0 22 rfl rfl
theorem dksX8_write_2 : cX8_write.data.toList.drop 46 = dktX8_write_2 := dk_seg dksX8_write_1 24 rfl rfl
theorem dX8_write_0 : decode cX8_write 0 = .ok (.aload_n 1, 1) := dk_43 (dk_at dksX8_write_0 0 rfl rfl)
theorem dX8_write_1 : decode cX8_write 1 = .ok (.aload_n 0, 1) := dk_42 (dk_at dksX8_write_0 1 rfl rfl)
theorem dX8_write_2 : decode cX8_write 2 = .ok (.invokevirtual 58, 3) := dk_182 0 58 (dk_at dksX8_write_0 2 rfl rfl)
theorem dX8_write_5 : decode cX8_write 5 = .ok (.invokevirtual 62, 3) := dk_182 0 62 (dk_at dksX8_write_0 5 rfl rfl)
theorem dX8_write_8 : decode cX8_write 8 = .ok (.pop, 1) := dk_87 (dk_at dksX8_write_0 8 rfl rfl)
theorem dX8_write_9 : decode cX8_write 9 = .ok (.iconst 0, 1) := dk_3 (dk_at dksX8_write_0 9 rfl rfl)
theorem dX8_write_10 : decode cX8_write 10 = .ok (.istore_n 2, 1) := dk_61 (dk_at dksX8_write_0 10 rfl rfl)
theorem dX8_write_11 : decode cX8_write 11 = .ok (.iload_n 2, 1) := dk_28 (dk_at dksX8_write_0 11 rfl rfl)
theorem dX8_write_12 : decode cX8_write 12 = .ok (.aload_n 0, 1) := dk_42 (dk_at dksX8_write_0 12 rfl rfl)
theorem dX8_write_13 : decode cX8_write 13 = .ok (.getfield 15, 3) := dk_180 0 15 (dk_at dksX8_write_0 13 rfl rfl)
theorem dX8_write_16 : decode cX8_write 16 = .ok (.arraylength, 1) := dk_190 (dk_at dksX8_write_0 16 rfl rfl)
theorem dX8_write_17 : decode cX8_write 17 = .ok (.if_icmp .ge 39, 3) := dk_162 0 39 (dk_at dksX8_write_0 17 rfl rfl)
theorem dX8_write_20 : decode cX8_write 20 = .ok (.iload_n 2, 1) := dk_28 (dk_at dksX8_write_0 20 rfl rfl)
theorem dX8_write_21 : decode cX8_write 21 = .ok (.iconst 2, 1) := dk_5 (dk_at dksX8_write_0 21 rfl rfl)
theorem dX8_write_22 : decode cX8_write 22 = .ok (.if_icmp .lt 12, 3) := dk_161 0 12 (dk_at dksX8_write_1 0 rfl rfl)
theorem dX8_write_25 : decode cX8_write 25 = .ok (.aload_n 0, 1) := dk_42 (dk_at dksX8_write_1 3 rfl rfl)
theorem dX8_write_26 : decode cX8_write 26 = .ok (.getfield 15, 3) := dk_180 0 15 (dk_at dksX8_write_1 4 rfl rfl)
theorem dX8_write_29 : decode cX8_write 29 = .ok (.iload_n 2, 1) := dk_28 (dk_at dksX8_write_1 7 rfl rfl)
theorem dX8_write_30 : decode cX8_write 30 = .ok (.iaload, 1) := dk_46 (dk_at dksX8_write_1 8 rfl rfl)
theorem dX8_write_31 : decode cX8_write 31 = .ok (.ifCond .eq 19, 3) := dk_153 0 19 (dk_at dksX8_write_1 9 rfl rfl)
theorem dX8_write_34 : decode cX8_write 34 = .ok (.aload_n 1, 1) := dk_43 (dk_at dksX8_write_1 12 rfl rfl)
theorem dX8_write_35 : decode cX8_write 35 = .ok (.bipush 32, 2) := dk_16 32 (dk_at dksX8_write_1 13 rfl rfl)
theorem dX8_write_37 : decode cX8_write 37 = .ok (.invokevirtual 68, 3) := dk_182 0 68 (dk_at dksX8_write_1 15 rfl rfl)
theorem dX8_write_40 : decode cX8_write 40 = .ok (.aload_n 0, 1) := dk_42 (dk_at dksX8_write_1 18 rfl rfl)
theorem dX8_write_41 : decode cX8_write 41 = .ok (.getfield 15, 3) := dk_180 0 15 (dk_at dksX8_write_1 19 rfl rfl)
theorem dX8_write_44 : decode cX8_write 44 = .ok (.iload_n 2, 1) := dk_28 (dk_at dksX8_write_1 22 rfl rfl)
theorem dX8_write_45 : decode cX8_write 45 = .ok (.iaload, 1) := dk_46 (dk_at dksX8_write_1 23 rfl rfl)
theorem dX8_write_46 : decode cX8_write 46 = .ok (.invokevirtual 71, 3) := dk_182 0 71 (dk_at dksX8_write_2 0 rfl rfl)
theorem dX8_write_49 : decode cX8_write 49 = .ok (.pop, 1) := dk_87 (dk_at dksX8_write_2 3 rfl rfl)
theorem dX8_write_50 : decode cX8_write 50 = .ok (.iinc 2 1, 3) := dk_132 2 1 (dk_at dksX8_write_2 4 rfl rfl)
theorem dX8_write_53 : decode cX8_write 53 = .ok (.goto (-42), 3) := dk_167 255 214 (dk_at dksX8_write_2 7 rfl rfl)
theorem dX8_write_56 : decode cX8_write 56 = .ok (.aload_n 1, 1) := dk_43 (dk_at dksX8_write_2 10 rfl rfl)
theorem dX8_write_57 : decode cX8_write 57 = .ok (.bipush 59, 2) := dk_16 59 (dk_at dksX8_write_2 11 rfl rfl)
theorem dX8_write_59 : decode cX8_write 59 = .ok (.invokevirtual 68, 3) := dk_182 0 68 (dk_at dksX8_write_2 13 rfl rfl)
theorem dX8_write_62 : decode cX8_write 62 = .ok (.pop, 1) := dk_87 (dk_at dksX8_write_2 16 rfl rfl)
theorem dX8_write_63 : decode cX8_write 63 = .ok (.return_, 1) := dk_177 (dk_at dksX8_write_2 17 rfl rfl)
abbrev cX8_word : ByteArray := prog_2_method_4_code
def yX8_word : MethodName := ⟨RX8, "word", "()Ljava/lang/String;"⟩
def dkwX8_word_2 : List UInt8 := [18, 48, 167, 0, 20, 18, 50, 167, 0, 15, 18, 52, 167, 0, 10, 18, 54, 167, 0, 5, 18, 56, 176]
abbrev dktX8_word_2 : List UInt8 := dkwX8_word_2 ++ []
def dkwX8_word_1 : List UInt8 := [170, 0, 0, 0, 0, 0, 0, 52, 0, 0, 0, 0, 0, 0, 0, 3, 0, 0, 0, 32, 0, 0, 0, 37, 0, 0, 0, 42, 0, 0, 0, 47]
abbrev dktX8_word_1 : List UInt8 := dkwX8_word_1 ++ dktX8_word_2
def dkwX8_word_0 : List UInt8 := [42, 180, 0, 9]
abbrev dktX8_word_0 : List UInt8 := dkwX8_word_0 ++ dktX8_word_1
theorem dksX8_word_0 : cX8_word.data.toList.drop 0 = dktX8_word_0 := by decide +kernel
theorem dksX8_word_1 : cX8_word.data.toList.drop 4 = dktX8_word_1 := dk_seg dksX8_word_0 4 rfl rfl
theorem dksX8_word_2 : cX8_word.data.toList.drop 36 = dktX8_word_2 := dk_seg dksX8_word_1 32 rfl rfl
theorem dX8_word_0 : decode cX8_word 0 = .ok (.aload_n 0, 1) := dk_42 (dk_at dksX8_word_0 0 rfl rfl)
theorem dX8_word_1 : decode cX8_word 1 = .ok (.getfield 9, 3) := dk_180 0 9 (dk_at dksX8_word_0 1 rfl rfl)
theorem dX8_word_4 : decode cX8_word 4 = .ok (.tableswitch 52 0 3 #[32, 37, 42, 47], 32) := by decide +kernel
theorem dX8_word_36 : decode cX8_word 36 = .ok (.ldc 48, 2) := dk_18 48 (dk_at dksX8_word_2 0 rfl rfl)
theorem dX8_word_38 : decode cX8_word 38 = .ok (.goto 20, 3) := dk_167 0 20 (dk_at dksX8_word_2 2 rfl rfl)
theorem dX8_word_41 : decode cX8_word 41 = .ok (.ldc 50, 2) := dk_18 50 (dk_at dksX8_word_2 5 rfl rfl)
theorem dX8_word_43 : decode cX8_word 43 = .ok (.goto 15, 3) := dk_167 0 15 (dk_at dksX8_word_2 7 rfl rfl)
theorem dX8_word_46 : decode cX8_word 46 = .ok (.ldc 52, 2) := dk_18 52 (dk_at dksX8_word_2 10 rfl rfl)
theorem dX8_word_48 : decode cX8_word 48 = .ok (.goto 10, 3) := dk_167 0 10 (dk_at dksX8_word_2 12 rfl rfl)
theorem dX8_word_51 : decode cX8_word 51 = .ok (.ldc 54, 2) := dk_18 54 (dk_at dksX8_word_2 15 rfl rfl)
theorem dX8_word_53 : decode cX8_word 53 = .ok (.goto 5, 3) := dk_167 0 5 (dk_at dksX8_word_2 17 rfl rfl)
theorem dX8_word_56 : decode cX8_word 56 = .ok (.ldc 56, 2) := dk_18 56 (dk_at dksX8_word_2 20 rfl rfl)
theorem dX8_word_58 : decode cX8_word 58 = .ok (.areturn, 1) := dk_176 (dk_at dksX8_word_2 22 rfl rfl)
abbrev cX8_init : ByteArray := prog_2_method_1_code
def yX8_init : MethodName := ⟨RX8, "<init>", "(I[I)V"⟩
def dkwX8_init_0 : List UInt8 := [42, 183, 0, 3, 42, 27, 181, 0, 9, 42, 44, 181, 0, 15, 177]
abbrev dktX8_init_0 : List UInt8 := dkwX8_init_0 ++ []
theorem dksX8_init_0 : cX8_init.data.toList.drop 0 = dktX8_init_0 := by decide +kernel
theorem dX8_init_0 : decode cX8_init 0 = .ok (.aload_n 0, 1) := dk_42 (dk_at dksX8_init_0 0 rfl rfl)
theorem dX8_init_1 : decode cX8_init 1 = .ok (.invokespecial 3, 3) := dk_183 0 3 (dk_at dksX8_init_0 1 rfl rfl)
theorem dX8_init_4 : decode cX8_init 4 = .ok (.aload_n 0, 1) := dk_42 (dk_at dksX8_init_0 4 rfl rfl)
theorem dX8_init_5 : decode cX8_init 5 = .ok (.iload_n 1, 1) := dk_27 (dk_at dksX8_init_0 5 rfl rfl)
theorem dX8_init_6 : decode cX8_init 6 = .ok (.putfield 9, 3) := dk_181 0 9 (dk_at dksX8_init_0 6 rfl rfl)
theorem dX8_init_9 : decode cX8_init 9 = .ok (.aload_n 0, 1) := dk_42 (dk_at dksX8_init_0 9 rfl rfl)
theorem dX8_init_10 : decode cX8_init 10 = .ok (.aload_n 2, 1) := dk_44 (dk_at dksX8_init_0 10 rfl rfl)
theorem dX8_init_11 : decode cX8_init 11 = .ok (.putfield 15, 3) := dk_181 0 15 (dk_at dksX8_init_0 11 rfl rfl)
theorem dX8_init_14 : decode cX8_init 14 = .ok (.return_, 1) := dk_177 (dk_at dksX8_init_0 14 rfl rfl)
theorem q141 : (Jvm.Cond.initialized "FlashZones$Act") ∈ lw_all := lw_g (lw_at lw_m1 29 rfl) rfl
theorem q815 : (Jvm.Cond.instanceMethod ({ cls := "FlashZones$Act", name := "isLost", desc := "(LFlashZones$Store;)Z" } : Jvm.MethodName)) ∈ lw_all := lw_g (lw_at lw_m3 223 rfl) rfl
theorem q816 : (Jvm.Cond.selects "FlashZones$Act" ({ cls := "FlashZones$Act", name := "isLost", desc := "(LFlashZones$Store;)Z" } : Jvm.MethodName) ({ cls := "FlashZones$Act", name := "isLost", desc := "(LFlashZones$Store;)Z" } : Jvm.MethodName)) ∈ lw_all := lw_g (lw_at lw_m3 224 rfl) rfl
theorem q817 : (Jvm.Cond.code ({ cls := "FlashZones$Act", name := "isLost", desc := "(LFlashZones$Store;)Z" } : Jvm.MethodName) prog_2_method_6_code (2 : Nat) (Option.some Jvm.ClassFile.FieldType.boolean)) ∈ lw_all := lw_g (lw_at lw_m3 225 rfl) rfl
theorem q818 : (Jvm.Cond.methodLink "FlashZones$Act" (25 : Nat) ({ cls := "FlashZones$Store", name := "named", desc := "(I)LFlashZones$Unit;" } : Jvm.MethodName)) ∈ lw_all := lw_g (lw_at lw_m3 226 rfl) rfl
theorem q828 : (Jvm.Cond.instanceMethod ({ cls := "FlashZones$Act", name := "run", desc := "(LFlashZones$Store;I)I" } : Jvm.MethodName)) ∈ lw_all := lw_g (lw_at lw_m3 236 rfl) rfl
theorem q829 : (Jvm.Cond.selects "FlashZones$Act" ({ cls := "FlashZones$Act", name := "run", desc := "(LFlashZones$Store;I)I" } : Jvm.MethodName) ({ cls := "FlashZones$Act", name := "run", desc := "(LFlashZones$Store;I)I" } : Jvm.MethodName)) ∈ lw_all := lw_g (lw_at lw_m3 237 rfl) rfl
theorem q830 : (Jvm.Cond.code ({ cls := "FlashZones$Act", name := "run", desc := "(LFlashZones$Store;I)I" } : Jvm.MethodName) prog_2_method_2_code (3 : Nat) (Option.some Jvm.ClassFile.FieldType.int)) ∈ lw_all := lw_g (lw_at lw_m3 238 rfl) rfl
theorem q831 : (Jvm.Cond.methodLink "FlashZones$Act" (19 : Nat) ({ cls := "FlashZones$Store", name := "writeUnit", desc := "(IIII)I" } : Jvm.MethodName)) ∈ lw_all := lw_g (lw_at lw_m3 239 rfl) rfl
theorem q960 : (Jvm.Cond.selects "FlashZones$Act" ({ cls := "java/lang/Object", name := "getClass", desc := "()Ljava/lang/Class;" } : Jvm.MethodName) ({ cls := "java/lang/Object", name := "getClass", desc := "()Ljava/lang/Class;" } : Jvm.MethodName)) ∈ lw_all := lw_g (lw_at lw_m4 128 rfl) rfl
theorem q995 : (Jvm.Cond.methodLink "FlashZones$Act" (29 : Nat) ({ cls := "FlashZones$Store", name := "killUnit", desc := "(LFlashZones$Unit;)I" } : Jvm.MethodName)) ∈ lw_all := lw_g (lw_at lw_m4 163 rfl) rfl
theorem q1016 : (Jvm.Cond.methodLink "FlashZones$Act" (33 : Nat) ({ cls := "FlashZones$Store", name := "resetZone", desc := "(I)I" } : Jvm.MethodName)) ∈ lw_all := lw_g (lw_at lw_m4 184 rfl) rfl
theorem q1044 : (Jvm.Cond.methodLink "FlashZones$Act" (37 : Nat) ({ cls := "FlashZones$Store", name := "buryZone", desc := "(I)I" } : Jvm.MethodName)) ∈ lw_all := lw_g (lw_at lw_m4 212 rfl) rfl
theorem q1056 : (Jvm.Cond.methodLink "FlashZones$Act" (40 : Nat) ({ cls := "FlashZones$Act", name := "pass", desc := "(LFlashZones$Store;)I" } : Jvm.MethodName)) ∈ lw_all := lw_g (lw_at lw_m4 224 rfl) rfl
theorem q1057 : (Jvm.Cond.privateMethod ({ cls := "FlashZones$Act", name := "pass", desc := "(LFlashZones$Store;)I" } : Jvm.MethodName)) ∈ lw_tbl := lw_at lw_m4 225 rfl
theorem q1058 : (Jvm.Cond.instanceMethod ({ cls := "FlashZones$Act", name := "pass", desc := "(LFlashZones$Store;)I" } : Jvm.MethodName)) ∈ lw_all := lw_g (lw_at lw_m4 226 rfl) rfl
theorem q1059 : (Jvm.Cond.instantiable "FlashZones$Act" (2 : Nat)) ∈ lw_all := lw_g (lw_at lw_m4 227 rfl) rfl
theorem q1060 : (Jvm.Cond.code ({ cls := "FlashZones$Act", name := "pass", desc := "(LFlashZones$Store;)I" } : Jvm.MethodName) prog_2_method_3_code (2 : Nat) (Option.some Jvm.ClassFile.FieldType.int)) ∈ lw_all := lw_g (lw_at lw_m4 228 rfl) rfl
theorem q1061 : (Jvm.Cond.methodLink "FlashZones$Act" (44 : Nat) ({ cls := "FlashZones$Store", name := "passAll", desc := "(I)V" } : Jvm.MethodName)) ∈ lw_all := lw_g (lw_at lw_m4 229 rfl) rfl
theorem q1257 : (Jvm.Cond.instanceMethod ({ cls := "FlashZones$Act", name := "write", desc := "(Ljava/lang/StringBuilder;)V" } : Jvm.MethodName)) ∈ lw_all := lw_g (lw_at lw_m5 185 rfl) rfl
theorem q1258 : (Jvm.Cond.selects "FlashZones$Act" ({ cls := "FlashZones$Act", name := "write", desc := "(Ljava/lang/StringBuilder;)V" } : Jvm.MethodName) ({ cls := "FlashZones$Act", name := "write", desc := "(Ljava/lang/StringBuilder;)V" } : Jvm.MethodName)) ∈ lw_all := lw_g (lw_at lw_m5 186 rfl) rfl
theorem q1259 : (Jvm.Cond.code ({ cls := "FlashZones$Act", name := "write", desc := "(Ljava/lang/StringBuilder;)V" } : Jvm.MethodName) prog_2_method_5_code (3 : Nat) (Option.none : Option Jvm.ClassFile.FieldType)) ∈ lw_all := lw_g (lw_at lw_m5 187 rfl) rfl
theorem q1260 : (Jvm.Cond.methodLink "FlashZones$Act" (58 : Nat) ({ cls := "FlashZones$Act", name := "word", desc := "()Ljava/lang/String;" } : Jvm.MethodName)) ∈ lw_all := lw_g (lw_at lw_m5 188 rfl) rfl
theorem q1261 : (Jvm.Cond.privateMethod ({ cls := "FlashZones$Act", name := "word", desc := "()Ljava/lang/String;" } : Jvm.MethodName)) ∈ lw_tbl := lw_at lw_m5 189 rfl
theorem q1262 : (Jvm.Cond.instanceMethod ({ cls := "FlashZones$Act", name := "word", desc := "()Ljava/lang/String;" } : Jvm.MethodName)) ∈ lw_all := lw_g (lw_at lw_m5 190 rfl) rfl
theorem q1263 : (Jvm.Cond.code ({ cls := "FlashZones$Act", name := "word", desc := "()Ljava/lang/String;" } : Jvm.MethodName) prog_2_method_4_code (1 : Nat) (Option.some (Jvm.ClassFile.FieldType.object "java/lang/String"))) ∈ lw_all := lw_g (lw_at lw_m5 191 rfl) rfl
theorem q1264 : (Jvm.Cond.stringRef "FlashZones$Act" (48 : Nat) "write") ∈ lw_tbl := lw_at lw_m5 192 rfl
theorem q1265 : (Jvm.Cond.stringRef "FlashZones$Act" (50 : Nat) "die") ∈ lw_tbl := lw_at lw_m5 193 rfl
theorem q1266 : (Jvm.Cond.stringRef "FlashZones$Act" (52 : Nat) "reset") ∈ lw_tbl := lw_at lw_m5 194 rfl
theorem q1267 : (Jvm.Cond.stringRef "FlashZones$Act" (54 : Nat) "bury") ∈ lw_tbl := lw_at lw_m5 195 rfl
theorem q1268 : (Jvm.Cond.stringRef "FlashZones$Act" (56 : Nat) "days") ∈ lw_tbl := lw_at lw_m5 196 rfl
theorem q1269 : (Jvm.Cond.methodLink "FlashZones$Act" (62 : Nat) ({ cls := "java/lang/StringBuilder", name := "append", desc := "(Ljava/lang/String;)Ljava/lang/StringBuilder;" } : Jvm.MethodName)) ∈ lw_all := lw_g (lw_at lw_m5 197 rfl) rfl
theorem q1270 : (Jvm.Cond.methodLink "FlashZones$Act" (68 : Nat) ({ cls := "java/lang/StringBuilder", name := "append", desc := "(C)Ljava/lang/StringBuilder;" } : Jvm.MethodName)) ∈ lw_all := lw_g (lw_at lw_m5 198 rfl) rfl
theorem q1290 : (Jvm.Cond.methodLink "FlashZones$Act" (71 : Nat) ({ cls := "java/lang/StringBuilder", name := "append", desc := "(I)Ljava/lang/StringBuilder;" } : Jvm.MethodName)) ∈ lw_all := lw_g (lw_at lw_m5 218 rfl) rfl
theorem q1436 : (Jvm.Cond.instanceMethod ({ cls := "FlashZones$Act", name := "<init>", desc := "(I[I)V" } : Jvm.MethodName)) ∈ lw_all := lw_g (lw_at lw_m6 124 rfl) rfl
theorem q1437 : (Jvm.Cond.code ({ cls := "FlashZones$Act", name := "<init>", desc := "(I[I)V" } : Jvm.MethodName) prog_2_method_1_code (3 : Nat) (Option.none : Option Jvm.ClassFile.FieldType)) ∈ lw_all := lw_g (lw_at lw_m6 125 rfl) rfl
theorem q1438 : (Jvm.Cond.methodLink "FlashZones$Act" (3 : Nat) ({ cls := "java/lang/Object", name := "<init>", desc := "()V" } : Jvm.MethodName)) ∈ lw_all := lw_g (lw_at lw_m6 126 rfl) rfl
theorem q1439 : (Jvm.Cond.fieldLink "FlashZones$Act" (9 : Nat) "FlashZones$Act" "kind" "I") ∈ lw_all := lw_g (lw_at lw_m6 127 rfl) rfl
theorem q1442 : (Jvm.Cond.fieldLink "FlashZones$Act" (15 : Nat) "FlashZones$Act" "numbers" "[I") ∈ lw_all := lw_g (lw_at lw_m6 130 rfl) rfl
theorem q1444 : (Jvm.Cond.laysFinal "FlashZones$Act" "FlashZones$Act" "kind" "I") ∈ lw_all := lw_g (lw_at lw_m6 132 rfl) rfl
theorem q1445 : (Jvm.Cond.soleField "FlashZones$Act" "kind") ∈ lw_all := lw_g (lw_at lw_m6 133 rfl) rfl
theorem q1446 : (Jvm.Cond.laysFinal "FlashZones$Act" "FlashZones$Act" "numbers" "[I") ∈ lw_all := lw_g (lw_at lw_m6 134 rfl) rfl
theorem q1447 : (Jvm.Cond.soleField "FlashZones$Act" "numbers") ∈ lw_all := lw_g (lw_at lw_m6 135 rfl) rfl
theorem q1448 : (Jvm.Cond.superclass "FlashZones$Act" "java/lang/Object") ∈ lw_all := lw_g (lw_at lw_m6 136 rfl) rfl
theorem q2555 : (Jvm.Cond.castable "FlashZones$Act" "java/lang/Object") ∈ lw_tbl := lw_at lw_m11 43 rfl
theorem in_X8 : ∀ w ∈ wsX80, w ∈ lw_all := lw_in wsX80 [1444, 1446] (by decide +kernel) (by decide +kernel)
/-! FlashZones$Unit -/
set_option maxRecDepth 100000
def RX9 : String := "FlashZones$Unit"
def TX9 : u_T := fun k => match k with
  | 0 => ("FlashZones$Unit", "name", "I", true)
  | 1 => ("FlashZones$Unit", "writer", "I", true)
  | 2 => ("FlashZones$Unit", "size", "I", true)
  | 3 => ("FlashZones$Unit", "fate", "I", true)
  | 4 => ("FlashZones$Unit", "born", "I", true)
  | 5 => ("FlashZones$Unit", "leader", "I", true)
  | 6 => ("FlashZones$Unit", "told", "[I", true)
  | 7 => ("FlashZones$Unit", "zone", "I", false)
  | 8 => ("FlashZones$Unit", "guessed", "I", false)
  | 9 => ("FlashZones$Unit", "moves", "I", false)
  | _ => ("FlashZones$Unit", "life", "I", false)
def tyX9 : Nat → FieldType := fun k => match k with
  | 0 => .int
  | 1 => .int
  | 2 => .int
  | 3 => .int
  | 4 => .int
  | 5 => .int
  | 6 => .array .int
  | 7 => .int
  | 8 => .int
  | 9 => .int
  | _ => .int
abbrev wsX90 : List Cond := u_ws RX9 TX9 11
theorem nmX9 : ∀ a, a < 11 → ∀ b, b < 11 → a ≠ b → (TX9 a).2.1 ≠ (TX9 b).2.1 := by decide +kernel
theorem tyX9_ok : ∀ k, k < 11 → parseFieldDescriptor (TX9 k).2.2.1 = some (tyX9 k) := by decide +kernel
abbrev cX9_lives : ByteArray := prog_10_method_3_code
def yX9_lives : MethodName := ⟨RX9, "lives", "()Z"⟩
def dkwX9_lives_0 : List UInt8 := [42, 180, 0, 15, 2, 160, 0, 7, 4, 167, 0, 4, 3, 172]
abbrev dktX9_lives_0 : List UInt8 := dkwX9_lives_0 ++ []
theorem dksX9_lives_0 : cX9_lives.data.toList.drop 0 = dktX9_lives_0 := by decide +kernel
theorem dX9_lives_0 : decode cX9_lives 0 = .ok (.aload_n 0, 1) := dk_42 (dk_at dksX9_lives_0 0 rfl rfl)
theorem dX9_lives_1 : decode cX9_lives 1 = .ok (.getfield 15, 3) := dk_180 0 15 (dk_at dksX9_lives_0 1 rfl rfl)
theorem dX9_lives_4 : decode cX9_lives 4 = .ok (.iconst (-1), 1) := dk_2 (dk_at dksX9_lives_0 4 rfl rfl)
theorem dX9_lives_5 : decode cX9_lives 5 = .ok (.if_icmp .ne 7, 3) := dk_160 0 7 (dk_at dksX9_lives_0 5 rfl rfl)
theorem dX9_lives_8 : decode cX9_lives 8 = .ok (.iconst 1, 1) := dk_4 (dk_at dksX9_lives_0 8 rfl rfl)
theorem dX9_lives_9 : decode cX9_lives 9 = .ok (.goto 4, 3) := dk_167 0 4 (dk_at dksX9_lives_0 9 rfl rfl)
theorem dX9_lives_12 : decode cX9_lives 12 = .ok (.iconst 0, 1) := dk_3 (dk_at dksX9_lives_0 12 rfl rfl)
theorem dX9_lives_13 : decode cX9_lives 13 = .ok (.ireturn, 1) := dk_172 (dk_at dksX9_lives_0 13 rfl rfl)
abbrev cX9_init : ByteArray := prog_10_method_1_code
def yX9_init : MethodName := ⟨RX9, "<init>", "(III[I[I)V"⟩
def dkwX9_init_2 : List UInt8 := [181, 0, 34, 42, 25, 5, 5, 46, 181, 0, 37, 177]
abbrev dktX9_init_2 : List UInt8 := dkwX9_init_2 ++ []
def dkwX9_init_1 : List UInt8 := [42, 29, 181, 0, 24, 42, 25, 4, 181, 0, 27, 42, 25, 5, 3, 46, 181, 0, 31, 42, 25, 5, 4, 46]
abbrev dktX9_init_1 : List UInt8 := dkwX9_init_1 ++ dktX9_init_2
def dkwX9_init_0 : List UInt8 := [42, 183, 0, 3, 42, 2, 181, 0, 9, 42, 2, 181, 0, 15, 42, 27, 181, 0, 18, 42, 28, 181, 0, 21]
abbrev dktX9_init_0 : List UInt8 := dkwX9_init_0 ++ dktX9_init_1
theorem dksX9_init_0 : cX9_init.data.toList.drop 0 = dktX9_init_0 := by decide +kernel
theorem dksX9_init_1 : cX9_init.data.toList.drop 24 = dktX9_init_1 := dk_seg dksX9_init_0 24 rfl rfl
theorem dksX9_init_2 : cX9_init.data.toList.drop 48 = dktX9_init_2 := dk_seg dksX9_init_1 24 rfl rfl
theorem dX9_init_0 : decode cX9_init 0 = .ok (.aload_n 0, 1) := dk_42 (dk_at dksX9_init_0 0 rfl rfl)
theorem dX9_init_1 : decode cX9_init 1 = .ok (.invokespecial 3, 3) := dk_183 0 3 (dk_at dksX9_init_0 1 rfl rfl)
theorem dX9_init_4 : decode cX9_init 4 = .ok (.aload_n 0, 1) := dk_42 (dk_at dksX9_init_0 4 rfl rfl)
theorem dX9_init_5 : decode cX9_init 5 = .ok (.iconst (-1), 1) := dk_2 (dk_at dksX9_init_0 5 rfl rfl)
theorem dX9_init_6 : decode cX9_init 6 = .ok (.putfield 9, 3) := dk_181 0 9 (dk_at dksX9_init_0 6 rfl rfl)
theorem dX9_init_9 : decode cX9_init 9 = .ok (.aload_n 0, 1) := dk_42 (dk_at dksX9_init_0 9 rfl rfl)
theorem dX9_init_10 : decode cX9_init 10 = .ok (.iconst (-1), 1) := dk_2 (dk_at dksX9_init_0 10 rfl rfl)
theorem dX9_init_11 : decode cX9_init 11 = .ok (.putfield 15, 3) := dk_181 0 15 (dk_at dksX9_init_0 11 rfl rfl)
theorem dX9_init_14 : decode cX9_init 14 = .ok (.aload_n 0, 1) := dk_42 (dk_at dksX9_init_0 14 rfl rfl)
theorem dX9_init_15 : decode cX9_init 15 = .ok (.iload_n 1, 1) := dk_27 (dk_at dksX9_init_0 15 rfl rfl)
theorem dX9_init_16 : decode cX9_init 16 = .ok (.putfield 18, 3) := dk_181 0 18 (dk_at dksX9_init_0 16 rfl rfl)
theorem dX9_init_19 : decode cX9_init 19 = .ok (.aload_n 0, 1) := dk_42 (dk_at dksX9_init_0 19 rfl rfl)
theorem dX9_init_20 : decode cX9_init 20 = .ok (.iload_n 2, 1) := dk_28 (dk_at dksX9_init_0 20 rfl rfl)
theorem dX9_init_21 : decode cX9_init 21 = .ok (.putfield 21, 3) := dk_181 0 21 (dk_at dksX9_init_0 21 rfl rfl)
theorem dX9_init_24 : decode cX9_init 24 = .ok (.aload_n 0, 1) := dk_42 (dk_at dksX9_init_1 0 rfl rfl)
theorem dX9_init_25 : decode cX9_init 25 = .ok (.iload_n 3, 1) := dk_29 (dk_at dksX9_init_1 1 rfl rfl)
theorem dX9_init_26 : decode cX9_init 26 = .ok (.putfield 24, 3) := dk_181 0 24 (dk_at dksX9_init_1 2 rfl rfl)
theorem dX9_init_29 : decode cX9_init 29 = .ok (.aload_n 0, 1) := dk_42 (dk_at dksX9_init_1 5 rfl rfl)
theorem dX9_init_30 : decode cX9_init 30 = .ok (.aload 4, 2) := dk_25 4 (dk_at dksX9_init_1 6 rfl rfl)
theorem dX9_init_32 : decode cX9_init 32 = .ok (.putfield 27, 3) := dk_181 0 27 (dk_at dksX9_init_1 8 rfl rfl)
theorem dX9_init_35 : decode cX9_init 35 = .ok (.aload_n 0, 1) := dk_42 (dk_at dksX9_init_1 11 rfl rfl)
theorem dX9_init_36 : decode cX9_init 36 = .ok (.aload 5, 2) := dk_25 5 (dk_at dksX9_init_1 12 rfl rfl)
theorem dX9_init_38 : decode cX9_init 38 = .ok (.iconst 0, 1) := dk_3 (dk_at dksX9_init_1 14 rfl rfl)
theorem dX9_init_39 : decode cX9_init 39 = .ok (.iaload, 1) := dk_46 (dk_at dksX9_init_1 15 rfl rfl)
theorem dX9_init_40 : decode cX9_init 40 = .ok (.putfield 31, 3) := dk_181 0 31 (dk_at dksX9_init_1 16 rfl rfl)
theorem dX9_init_43 : decode cX9_init 43 = .ok (.aload_n 0, 1) := dk_42 (dk_at dksX9_init_1 19 rfl rfl)
theorem dX9_init_44 : decode cX9_init 44 = .ok (.aload 5, 2) := dk_25 5 (dk_at dksX9_init_1 20 rfl rfl)
theorem dX9_init_46 : decode cX9_init 46 = .ok (.iconst 1, 1) := dk_4 (dk_at dksX9_init_1 22 rfl rfl)
theorem dX9_init_47 : decode cX9_init 47 = .ok (.iaload, 1) := dk_46 (dk_at dksX9_init_1 23 rfl rfl)
theorem dX9_init_48 : decode cX9_init 48 = .ok (.putfield 34, 3) := dk_181 0 34 (dk_at dksX9_init_2 0 rfl rfl)
theorem dX9_init_51 : decode cX9_init 51 = .ok (.aload_n 0, 1) := dk_42 (dk_at dksX9_init_2 3 rfl rfl)
theorem dX9_init_52 : decode cX9_init 52 = .ok (.aload 5, 2) := dk_25 5 (dk_at dksX9_init_2 4 rfl rfl)
theorem dX9_init_54 : decode cX9_init 54 = .ok (.iconst 2, 1) := dk_5 (dk_at dksX9_init_2 6 rfl rfl)
theorem dX9_init_55 : decode cX9_init 55 = .ok (.iaload, 1) := dk_46 (dk_at dksX9_init_2 7 rfl rfl)
theorem dX9_init_56 : decode cX9_init 56 = .ok (.putfield 37, 3) := dk_181 0 37 (dk_at dksX9_init_2 8 rfl rfl)
theorem dX9_init_59 : decode cX9_init 59 = .ok (.return_, 1) := dk_177 (dk_at dksX9_init_2 11 rfl rfl)
abbrev cX9_isDue : ByteArray := prog_10_method_4_code
def yX9_isDue : MethodName := ⟨RX9, "isDue", "(I)Z"⟩
def dkwX9_isDue_1 : List UInt8 := [163, 0, 7, 4, 167, 0, 4, 3, 172]
abbrev dktX9_isDue_1 : List UInt8 := dkwX9_isDue_1 ++ []
def dkwX9_isDue_0 : List UInt8 := [42, 182, 0, 49, 153, 0, 27, 42, 180, 0, 37, 153, 0, 20, 42, 180, 0, 24, 42, 180, 0, 37, 96, 27]
abbrev dktX9_isDue_0 : List UInt8 := dkwX9_isDue_0 ++ dktX9_isDue_1
theorem dksX9_isDue_0 : cX9_isDue.data.toList.drop 0 = dktX9_isDue_0 := by decide +kernel
theorem dksX9_isDue_1 : cX9_isDue.data.toList.drop 24 = dktX9_isDue_1 := dk_seg dksX9_isDue_0 24 rfl rfl
theorem dX9_isDue_0 : decode cX9_isDue 0 = .ok (.aload_n 0, 1) := dk_42 (dk_at dksX9_isDue_0 0 rfl rfl)
theorem dX9_isDue_1 : decode cX9_isDue 1 = .ok (.invokevirtual 49, 3) := dk_182 0 49 (dk_at dksX9_isDue_0 1 rfl rfl)
theorem dX9_isDue_4 : decode cX9_isDue 4 = .ok (.ifCond .eq 27, 3) := dk_153 0 27 (dk_at dksX9_isDue_0 4 rfl rfl)
theorem dX9_isDue_7 : decode cX9_isDue 7 = .ok (.aload_n 0, 1) := dk_42 (dk_at dksX9_isDue_0 7 rfl rfl)
theorem dX9_isDue_8 : decode cX9_isDue 8 = .ok (.getfield 37, 3) := dk_180 0 37 (dk_at dksX9_isDue_0 8 rfl rfl)
theorem dX9_isDue_11 : decode cX9_isDue 11 = .ok (.ifCond .eq 20, 3) := dk_153 0 20 (dk_at dksX9_isDue_0 11 rfl rfl)
theorem dX9_isDue_14 : decode cX9_isDue 14 = .ok (.aload_n 0, 1) := dk_42 (dk_at dksX9_isDue_0 14 rfl rfl)
theorem dX9_isDue_15 : decode cX9_isDue 15 = .ok (.getfield 24, 3) := dk_180 0 24 (dk_at dksX9_isDue_0 15 rfl rfl)
theorem dX9_isDue_18 : decode cX9_isDue 18 = .ok (.aload_n 0, 1) := dk_42 (dk_at dksX9_isDue_0 18 rfl rfl)
theorem dX9_isDue_19 : decode cX9_isDue 19 = .ok (.getfield 37, 3) := dk_180 0 37 (dk_at dksX9_isDue_0 19 rfl rfl)
theorem dX9_isDue_22 : decode cX9_isDue 22 = .ok (.iadd, 1) := dk_96 (dk_at dksX9_isDue_0 22 rfl rfl)
theorem dX9_isDue_23 : decode cX9_isDue 23 = .ok (.iload_n 1, 1) := dk_27 (dk_at dksX9_isDue_0 23 rfl rfl)
theorem dX9_isDue_24 : decode cX9_isDue 24 = .ok (.if_icmp .gt 7, 3) := dk_163 0 7 (dk_at dksX9_isDue_1 0 rfl rfl)
theorem dX9_isDue_27 : decode cX9_isDue 27 = .ok (.iconst 1, 1) := dk_4 (dk_at dksX9_isDue_1 3 rfl rfl)
theorem dX9_isDue_28 : decode cX9_isDue 28 = .ok (.goto 4, 3) := dk_167 0 4 (dk_at dksX9_isDue_1 4 rfl rfl)
theorem dX9_isDue_31 : decode cX9_isDue 31 = .ok (.iconst 0, 1) := dk_3 (dk_at dksX9_isDue_1 7 rfl rfl)
theorem dX9_isDue_32 : decode cX9_isDue 32 = .ok (.ireturn, 1) := dk_172 (dk_at dksX9_isDue_1 8 rfl rfl)
abbrev cX9_init_2 : ByteArray := prog_10_method_2_code
def yX9_init_2 : MethodName := ⟨RX9, "<init>", "(LFlashZones$Unit;)V"⟩
def dkwX9_init_2_3 : List UInt8 := [180, 0, 15, 181, 0, 15, 177]
abbrev dktX9_init_2_3 : List UInt8 := dkwX9_init_2_3 ++ []
def dkwX9_init_2_2 : List UInt8 := [180, 0, 9, 181, 0, 9, 42, 43, 180, 0, 43, 181, 0, 43, 42, 43, 180, 0, 46, 181, 0, 46, 42, 43]
abbrev dktX9_init_2_2 : List UInt8 := dkwX9_init_2_2 ++ dktX9_init_2_3
def dkwX9_init_2_1 : List UInt8 := [180, 0, 31, 79, 89, 4, 43, 180, 0, 34, 79, 89, 5, 43, 180, 0, 37, 79, 183, 0, 40, 42, 43]
abbrev dktX9_init_2_1 : List UInt8 := dkwX9_init_2_1 ++ dktX9_init_2_2
def dkwX9_init_2_0 : List UInt8 := [42, 43, 180, 0, 18, 43, 180, 0, 21, 43, 180, 0, 24, 43, 180, 0, 27, 6, 188, 10, 89, 3, 43]
abbrev dktX9_init_2_0 : List UInt8 := dkwX9_init_2_0 ++ dktX9_init_2_1
theorem dksX9_init_2_0 : cX9_init_2.data.toList.drop 0 = dktX9_init_2_0 := by decide +kernel
theorem dksX9_init_2_1 : cX9_init_2.data.toList.drop 23 = dktX9_init_2_1 := dk_seg dksX9_init_2_0 23 rfl rfl
theorem dksX9_init_2_2 : cX9_init_2.data.toList.drop 46 = dktX9_init_2_2 := dk_seg dksX9_init_2_1 23 rfl rfl
theorem dksX9_init_2_3 : cX9_init_2.data.toList.drop 70 = dktX9_init_2_3 := dk_seg dksX9_init_2_2 24 rfl rfl
theorem dX9_init_2_0 : decode cX9_init_2 0 = .ok (.aload_n 0, 1) := dk_42 (dk_at dksX9_init_2_0 0 rfl rfl)
theorem dX9_init_2_1 : decode cX9_init_2 1 = .ok (.aload_n 1, 1) := dk_43 (dk_at dksX9_init_2_0 1 rfl rfl)
theorem dX9_init_2_2 : decode cX9_init_2 2 = .ok (.getfield 18, 3) := dk_180 0 18 (dk_at dksX9_init_2_0 2 rfl rfl)
theorem dX9_init_2_5 : decode cX9_init_2 5 = .ok (.aload_n 1, 1) := dk_43 (dk_at dksX9_init_2_0 5 rfl rfl)
theorem dX9_init_2_6 : decode cX9_init_2 6 = .ok (.getfield 21, 3) := dk_180 0 21 (dk_at dksX9_init_2_0 6 rfl rfl)
theorem dX9_init_2_9 : decode cX9_init_2 9 = .ok (.aload_n 1, 1) := dk_43 (dk_at dksX9_init_2_0 9 rfl rfl)
theorem dX9_init_2_10 : decode cX9_init_2 10 = .ok (.getfield 24, 3) := dk_180 0 24 (dk_at dksX9_init_2_0 10 rfl rfl)
theorem dX9_init_2_13 : decode cX9_init_2 13 = .ok (.aload_n 1, 1) := dk_43 (dk_at dksX9_init_2_0 13 rfl rfl)
theorem dX9_init_2_14 : decode cX9_init_2 14 = .ok (.getfield 27, 3) := dk_180 0 27 (dk_at dksX9_init_2_0 14 rfl rfl)
theorem dX9_init_2_17 : decode cX9_init_2 17 = .ok (.iconst 3, 1) := dk_6 (dk_at dksX9_init_2_0 17 rfl rfl)
theorem dX9_init_2_18 : decode cX9_init_2 18 = .ok (.newarray .int, 2) := dk_188_10 (dk_at dksX9_init_2_0 18 rfl rfl)
theorem dX9_init_2_20 : decode cX9_init_2 20 = .ok (.dup, 1) := dk_89 (dk_at dksX9_init_2_0 20 rfl rfl)
theorem dX9_init_2_21 : decode cX9_init_2 21 = .ok (.iconst 0, 1) := dk_3 (dk_at dksX9_init_2_0 21 rfl rfl)
theorem dX9_init_2_22 : decode cX9_init_2 22 = .ok (.aload_n 1, 1) := dk_43 (dk_at dksX9_init_2_0 22 rfl rfl)
theorem dX9_init_2_23 : decode cX9_init_2 23 = .ok (.getfield 31, 3) := dk_180 0 31 (dk_at dksX9_init_2_1 0 rfl rfl)
theorem dX9_init_2_26 : decode cX9_init_2 26 = .ok (.iastore, 1) := dk_79 (dk_at dksX9_init_2_1 3 rfl rfl)
theorem dX9_init_2_27 : decode cX9_init_2 27 = .ok (.dup, 1) := dk_89 (dk_at dksX9_init_2_1 4 rfl rfl)
theorem dX9_init_2_28 : decode cX9_init_2 28 = .ok (.iconst 1, 1) := dk_4 (dk_at dksX9_init_2_1 5 rfl rfl)
theorem dX9_init_2_29 : decode cX9_init_2 29 = .ok (.aload_n 1, 1) := dk_43 (dk_at dksX9_init_2_1 6 rfl rfl)
theorem dX9_init_2_30 : decode cX9_init_2 30 = .ok (.getfield 34, 3) := dk_180 0 34 (dk_at dksX9_init_2_1 7 rfl rfl)
theorem dX9_init_2_33 : decode cX9_init_2 33 = .ok (.iastore, 1) := dk_79 (dk_at dksX9_init_2_1 10 rfl rfl)
theorem dX9_init_2_34 : decode cX9_init_2 34 = .ok (.dup, 1) := dk_89 (dk_at dksX9_init_2_1 11 rfl rfl)
theorem dX9_init_2_35 : decode cX9_init_2 35 = .ok (.iconst 2, 1) := dk_5 (dk_at dksX9_init_2_1 12 rfl rfl)
theorem dX9_init_2_36 : decode cX9_init_2 36 = .ok (.aload_n 1, 1) := dk_43 (dk_at dksX9_init_2_1 13 rfl rfl)
theorem dX9_init_2_37 : decode cX9_init_2 37 = .ok (.getfield 37, 3) := dk_180 0 37 (dk_at dksX9_init_2_1 14 rfl rfl)
theorem dX9_init_2_40 : decode cX9_init_2 40 = .ok (.iastore, 1) := dk_79 (dk_at dksX9_init_2_1 17 rfl rfl)
theorem dX9_init_2_41 : decode cX9_init_2 41 = .ok (.invokespecial 40, 3) := dk_183 0 40 (dk_at dksX9_init_2_1 18 rfl rfl)
theorem dX9_init_2_44 : decode cX9_init_2 44 = .ok (.aload_n 0, 1) := dk_42 (dk_at dksX9_init_2_1 21 rfl rfl)
theorem dX9_init_2_45 : decode cX9_init_2 45 = .ok (.aload_n 1, 1) := dk_43 (dk_at dksX9_init_2_1 22 rfl rfl)
theorem dX9_init_2_46 : decode cX9_init_2 46 = .ok (.getfield 9, 3) := dk_180 0 9 (dk_at dksX9_init_2_2 0 rfl rfl)
theorem dX9_init_2_49 : decode cX9_init_2 49 = .ok (.putfield 9, 3) := dk_181 0 9 (dk_at dksX9_init_2_2 3 rfl rfl)
theorem dX9_init_2_52 : decode cX9_init_2 52 = .ok (.aload_n 0, 1) := dk_42 (dk_at dksX9_init_2_2 6 rfl rfl)
theorem dX9_init_2_53 : decode cX9_init_2 53 = .ok (.aload_n 1, 1) := dk_43 (dk_at dksX9_init_2_2 7 rfl rfl)
theorem dX9_init_2_54 : decode cX9_init_2 54 = .ok (.getfield 43, 3) := dk_180 0 43 (dk_at dksX9_init_2_2 8 rfl rfl)
theorem dX9_init_2_57 : decode cX9_init_2 57 = .ok (.putfield 43, 3) := dk_181 0 43 (dk_at dksX9_init_2_2 11 rfl rfl)
theorem dX9_init_2_60 : decode cX9_init_2 60 = .ok (.aload_n 0, 1) := dk_42 (dk_at dksX9_init_2_2 14 rfl rfl)
theorem dX9_init_2_61 : decode cX9_init_2 61 = .ok (.aload_n 1, 1) := dk_43 (dk_at dksX9_init_2_2 15 rfl rfl)
theorem dX9_init_2_62 : decode cX9_init_2 62 = .ok (.getfield 46, 3) := dk_180 0 46 (dk_at dksX9_init_2_2 16 rfl rfl)
theorem dX9_init_2_65 : decode cX9_init_2 65 = .ok (.putfield 46, 3) := dk_181 0 46 (dk_at dksX9_init_2_2 19 rfl rfl)
theorem dX9_init_2_68 : decode cX9_init_2 68 = .ok (.aload_n 0, 1) := dk_42 (dk_at dksX9_init_2_2 22 rfl rfl)
theorem dX9_init_2_69 : decode cX9_init_2 69 = .ok (.aload_n 1, 1) := dk_43 (dk_at dksX9_init_2_2 23 rfl rfl)
theorem dX9_init_2_70 : decode cX9_init_2 70 = .ok (.getfield 15, 3) := dk_180 0 15 (dk_at dksX9_init_2_3 0 rfl rfl)
theorem dX9_init_2_73 : decode cX9_init_2 73 = .ok (.putfield 15, 3) := dk_181 0 15 (dk_at dksX9_init_2_3 3 rfl rfl)
theorem dX9_init_2_76 : decode cX9_init_2 76 = .ok (.return_, 1) := dk_177 (dk_at dksX9_init_2_3 6 rfl rfl)
theorem q142 : (Jvm.Cond.initialized "FlashZones$Unit") ∈ lw_all := lw_g (lw_at lw_m1 30 rfl) rfl
theorem q800 : (Jvm.Cond.instanceMethod ({ cls := "FlashZones$Unit", name := "lives", desc := "()Z" } : Jvm.MethodName)) ∈ lw_all := lw_g (lw_at lw_m3 208 rfl) rfl
theorem q801 : (Jvm.Cond.selects "FlashZones$Unit" ({ cls := "FlashZones$Unit", name := "lives", desc := "()Z" } : Jvm.MethodName) ({ cls := "FlashZones$Unit", name := "lives", desc := "()Z" } : Jvm.MethodName)) ∈ lw_all := lw_g (lw_at lw_m3 209 rfl) rfl
theorem q802 : (Jvm.Cond.code ({ cls := "FlashZones$Unit", name := "lives", desc := "()Z" } : Jvm.MethodName) prog_10_method_3_code (1 : Nat) (Option.some Jvm.ClassFile.FieldType.boolean)) ∈ lw_all := lw_g (lw_at lw_m3 210 rfl) rfl
theorem q871 : (Jvm.Cond.instantiable "FlashZones$Unit" (11 : Nat)) ∈ lw_all := lw_g (lw_at lw_m4 39 rfl) rfl
theorem q873 : (Jvm.Cond.instanceMethod ({ cls := "FlashZones$Unit", name := "<init>", desc := "(III[I[I)V" } : Jvm.MethodName)) ∈ lw_all := lw_g (lw_at lw_m4 41 rfl) rfl
theorem q874 : (Jvm.Cond.code ({ cls := "FlashZones$Unit", name := "<init>", desc := "(III[I[I)V" } : Jvm.MethodName) prog_10_method_1_code (6 : Nat) (Option.none : Option Jvm.ClassFile.FieldType)) ∈ lw_all := lw_g (lw_at lw_m4 42 rfl) rfl
theorem q875 : (Jvm.Cond.methodLink "FlashZones$Unit" (3 : Nat) ({ cls := "java/lang/Object", name := "<init>", desc := "()V" } : Jvm.MethodName)) ∈ lw_all := lw_g (lw_at lw_m4 43 rfl) rfl
theorem q876 : (Jvm.Cond.fieldLink "FlashZones$Unit" (21 : Nat) "FlashZones$Unit" "name" "I") ∈ lw_all := lw_g (lw_at lw_m4 44 rfl) rfl
theorem q879 : (Jvm.Cond.fieldLink "FlashZones$Unit" (31 : Nat) "FlashZones$Unit" "writer" "I") ∈ lw_all := lw_g (lw_at lw_m4 47 rfl) rfl
theorem q882 : (Jvm.Cond.fieldLink "FlashZones$Unit" (34 : Nat) "FlashZones$Unit" "size" "I") ∈ lw_all := lw_g (lw_at lw_m4 50 rfl) rfl
theorem q885 : (Jvm.Cond.fieldLink "FlashZones$Unit" (37 : Nat) "FlashZones$Unit" "fate" "I") ∈ lw_all := lw_g (lw_at lw_m4 53 rfl) rfl
theorem q887 : (Jvm.Cond.fieldLink "FlashZones$Unit" (24 : Nat) "FlashZones$Unit" "born" "I") ∈ lw_all := lw_g (lw_at lw_m4 55 rfl) rfl
theorem q890 : (Jvm.Cond.fieldLink "FlashZones$Unit" (18 : Nat) "FlashZones$Unit" "leader" "I") ∈ lw_all := lw_g (lw_at lw_m4 58 rfl) rfl
theorem q893 : (Jvm.Cond.fieldLink "FlashZones$Unit" (27 : Nat) "FlashZones$Unit" "told" "[I") ∈ lw_all := lw_g (lw_at lw_m4 61 rfl) rfl
theorem q896 : (Jvm.Cond.fieldLink "FlashZones$Unit" (9 : Nat) "FlashZones$Unit" "zone" "I") ∈ lw_all := lw_g (lw_at lw_m4 64 rfl) rfl
theorem q899 : (Jvm.Cond.fieldLink "FlashZones$Unit" (43 : Nat) "FlashZones$Unit" "guessed" "I") ∈ lw_all := lw_g (lw_at lw_m4 67 rfl) rfl
theorem q902 : (Jvm.Cond.fieldLink "FlashZones$Unit" (46 : Nat) "FlashZones$Unit" "moves" "I") ∈ lw_all := lw_g (lw_at lw_m4 70 rfl) rfl
theorem q905 : (Jvm.Cond.fieldLink "FlashZones$Unit" (15 : Nat) "FlashZones$Unit" "life" "I") ∈ lw_all := lw_g (lw_at lw_m4 73 rfl) rfl
theorem q908 : (Jvm.Cond.laysFinal "FlashZones$Unit" "FlashZones$Unit" "name" "I") ∈ lw_all := lw_g (lw_at lw_m4 76 rfl) rfl
theorem q909 : (Jvm.Cond.soleField "FlashZones$Unit" "name") ∈ lw_all := lw_g (lw_at lw_m4 77 rfl) rfl
theorem q910 : (Jvm.Cond.laysFinal "FlashZones$Unit" "FlashZones$Unit" "writer" "I") ∈ lw_all := lw_g (lw_at lw_m4 78 rfl) rfl
theorem q911 : (Jvm.Cond.soleField "FlashZones$Unit" "writer") ∈ lw_all := lw_g (lw_at lw_m4 79 rfl) rfl
theorem q912 : (Jvm.Cond.laysFinal "FlashZones$Unit" "FlashZones$Unit" "size" "I") ∈ lw_all := lw_g (lw_at lw_m4 80 rfl) rfl
theorem q913 : (Jvm.Cond.soleField "FlashZones$Unit" "size") ∈ lw_all := lw_g (lw_at lw_m4 81 rfl) rfl
theorem q914 : (Jvm.Cond.laysFinal "FlashZones$Unit" "FlashZones$Unit" "fate" "I") ∈ lw_all := lw_g (lw_at lw_m4 82 rfl) rfl
theorem q915 : (Jvm.Cond.soleField "FlashZones$Unit" "fate") ∈ lw_all := lw_g (lw_at lw_m4 83 rfl) rfl
theorem q916 : (Jvm.Cond.laysFinal "FlashZones$Unit" "FlashZones$Unit" "born" "I") ∈ lw_all := lw_g (lw_at lw_m4 84 rfl) rfl
theorem q917 : (Jvm.Cond.soleField "FlashZones$Unit" "born") ∈ lw_all := lw_g (lw_at lw_m4 85 rfl) rfl
theorem q918 : (Jvm.Cond.laysFinal "FlashZones$Unit" "FlashZones$Unit" "leader" "I") ∈ lw_all := lw_g (lw_at lw_m4 86 rfl) rfl
theorem q919 : (Jvm.Cond.soleField "FlashZones$Unit" "leader") ∈ lw_all := lw_g (lw_at lw_m4 87 rfl) rfl
theorem q920 : (Jvm.Cond.laysFinal "FlashZones$Unit" "FlashZones$Unit" "told" "[I") ∈ lw_all := lw_g (lw_at lw_m4 88 rfl) rfl
theorem q921 : (Jvm.Cond.soleField "FlashZones$Unit" "told") ∈ lw_all := lw_g (lw_at lw_m4 89 rfl) rfl
theorem q922 : (Jvm.Cond.lays "FlashZones$Unit" "FlashZones$Unit" "zone" "I") ∈ lw_all := lw_g (lw_at lw_m4 90 rfl) rfl
theorem q923 : (Jvm.Cond.soleField "FlashZones$Unit" "zone") ∈ lw_all := lw_g (lw_at lw_m4 91 rfl) rfl
theorem q924 : (Jvm.Cond.lays "FlashZones$Unit" "FlashZones$Unit" "guessed" "I") ∈ lw_all := lw_g (lw_at lw_m4 92 rfl) rfl
theorem q925 : (Jvm.Cond.soleField "FlashZones$Unit" "guessed") ∈ lw_all := lw_g (lw_at lw_m4 93 rfl) rfl
theorem q926 : (Jvm.Cond.lays "FlashZones$Unit" "FlashZones$Unit" "moves" "I") ∈ lw_all := lw_g (lw_at lw_m4 94 rfl) rfl
theorem q927 : (Jvm.Cond.soleField "FlashZones$Unit" "moves") ∈ lw_all := lw_g (lw_at lw_m4 95 rfl) rfl
theorem q928 : (Jvm.Cond.lays "FlashZones$Unit" "FlashZones$Unit" "life" "I") ∈ lw_all := lw_g (lw_at lw_m4 96 rfl) rfl
theorem q929 : (Jvm.Cond.soleField "FlashZones$Unit" "life") ∈ lw_all := lw_g (lw_at lw_m4 97 rfl) rfl
theorem q930 : (Jvm.Cond.superclass "FlashZones$Unit" "java/lang/Object") ∈ lw_all := lw_g (lw_at lw_m4 98 rfl) rfl
theorem q966 : (Jvm.Cond.selects "FlashZones$Unit" ({ cls := "java/lang/Object", name := "getClass", desc := "()Ljava/lang/Class;" } : Jvm.MethodName) ({ cls := "java/lang/Object", name := "getClass", desc := "()Ljava/lang/Class;" } : Jvm.MethodName)) ∈ lw_all := lw_g (lw_at lw_m4 134 rfl) rfl
theorem q1070 : (Jvm.Cond.instanceMethod ({ cls := "FlashZones$Unit", name := "isDue", desc := "(I)Z" } : Jvm.MethodName)) ∈ lw_all := lw_g (lw_at lw_m4 238 rfl) rfl
theorem q1071 : (Jvm.Cond.selects "FlashZones$Unit" ({ cls := "FlashZones$Unit", name := "isDue", desc := "(I)Z" } : Jvm.MethodName) ({ cls := "FlashZones$Unit", name := "isDue", desc := "(I)Z" } : Jvm.MethodName)) ∈ lw_all := lw_g (lw_at lw_m4 239 rfl) rfl
theorem q1072 : (Jvm.Cond.code ({ cls := "FlashZones$Unit", name := "isDue", desc := "(I)Z" } : Jvm.MethodName) prog_10_method_4_code (2 : Nat) (Option.some Jvm.ClassFile.FieldType.boolean)) ∈ lw_all := lw_g (lw_at lw_m5 0 rfl) rfl
theorem q1073 : (Jvm.Cond.methodLink "FlashZones$Unit" (49 : Nat) ({ cls := "FlashZones$Unit", name := "lives", desc := "()Z" } : Jvm.MethodName)) ∈ lw_all := lw_g (lw_at lw_m5 1 rfl) rfl
theorem q1480 : (Jvm.Cond.instanceMethod ({ cls := "FlashZones$Unit", name := "<init>", desc := "(LFlashZones$Unit;)V" } : Jvm.MethodName)) ∈ lw_all := lw_g (lw_at lw_m6 168 rfl) rfl
theorem q1481 : (Jvm.Cond.code ({ cls := "FlashZones$Unit", name := "<init>", desc := "(LFlashZones$Unit;)V" } : Jvm.MethodName) prog_10_method_2_code (2 : Nat) (Option.none : Option Jvm.ClassFile.FieldType)) ∈ lw_all := lw_g (lw_at lw_m6 169 rfl) rfl
theorem q1482 : (Jvm.Cond.methodLink "FlashZones$Unit" (40 : Nat) ({ cls := "FlashZones$Unit", name := "<init>", desc := "(III[I[I)V" } : Jvm.MethodName)) ∈ lw_all := lw_g (lw_at lw_m6 170 rfl) rfl
theorem q2568 : (Jvm.Cond.castable "FlashZones$Unit" "java/lang/Object") ∈ lw_tbl := lw_at lw_m11 56 rfl
theorem in_X9 : ∀ w ∈ wsX90, w ∈ lw_all := lw_in wsX90 [908, 910, 912, 914, 916, 918, 920, 922, 924, 926, 928] (by decide +kernel) (by decide +kernel)
/-! FlashZones$Wear -/
set_option maxRecDepth 100000
def RX10 : String := "FlashZones$Wear"
def TX10 : u_T := fun k => match k with
  | 0 => ("FlashZones$Wear", "most", "I", false)
  | 1 => ("FlashZones$Wear", "least", "I", false)
  | _ => ("FlashZones$Wear", "this$0", "LFlashZones;", true)
def tyX10 : Nat → FieldType := fun k => match k with
  | 0 => .int
  | 1 => .int
  | _ => .object "FlashZones"
abbrev wsX100 : List Cond := u_ws RX10 TX10 3
theorem nmX10 : ∀ a, a < 3 → ∀ b, b < 3 → a ≠ b → (TX10 a).2.1 ≠ (TX10 b).2.1 := by decide +kernel
theorem tyX10_ok : ∀ k, k < 3 → parseFieldDescriptor (TX10 k).2.2.1 = some (tyX10 k) := by decide +kernel
abbrev cX10_init : ByteArray := prog_11_method_1_code
def yX10_init : MethodName := ⟨RX10, "<init>", "(LFlashZones;)V"⟩
def dkwX10_init_3 : List UInt8 := [167, 0, 7, 42, 180, 0, 33, 181, 0, 33, 132, 2, 1, 167, 255, 184, 177]
abbrev dktX10_init_3 : List UInt8 := dkwX10_init_3 ++ []
def dkwX10_init_2 : List UInt8 := [180, 0, 29, 181, 0, 29, 42, 42, 28, 182, 0, 25, 42, 42, 180, 0, 33, 182, 0, 25, 162, 0, 7, 28]
abbrev dktX10_init_2 : List UInt8 := dkwX10_init_2 ++ dktX10_init_3
def dkwX10_init_1 : List UInt8 := [42, 42, 28, 182, 0, 25, 42, 42, 180, 0, 29, 182, 0, 25, 164, 0, 7, 28, 167, 0, 7, 42]
abbrev dktX10_init_1 : List UInt8 := dkwX10_init_1 ++ dktX10_init_2
def dkwX10_init_0 : List UInt8 := [42, 43, 181, 0, 3, 42, 183, 0, 9, 4, 61, 28, 43, 180, 0, 15, 180, 0, 19, 3, 46, 162, 0, 65]
abbrev dktX10_init_0 : List UInt8 := dkwX10_init_0 ++ dktX10_init_1
theorem dksX10_init_0 : cX10_init.data.toList.drop 0 = dktX10_init_0 := by decide +kernel
theorem dksX10_init_1 : cX10_init.data.toList.drop 24 = dktX10_init_1 := dk_seg dksX10_init_0 24 rfl rfl
theorem dksX10_init_2 : cX10_init.data.toList.drop 46 = dktX10_init_2 := dk_seg dksX10_init_1 22 rfl rfl
theorem dksX10_init_3 : cX10_init.data.toList.drop 70 = dktX10_init_3 := dk_seg dksX10_init_2 24 rfl rfl
theorem dX10_init_0 : decode cX10_init 0 = .ok (.aload_n 0, 1) := dk_42 (dk_at dksX10_init_0 0 rfl rfl)
theorem dX10_init_1 : decode cX10_init 1 = .ok (.aload_n 1, 1) := dk_43 (dk_at dksX10_init_0 1 rfl rfl)
theorem dX10_init_2 : decode cX10_init 2 = .ok (.putfield 3, 3) := dk_181 0 3 (dk_at dksX10_init_0 2 rfl rfl)
theorem dX10_init_5 : decode cX10_init 5 = .ok (.aload_n 0, 1) := dk_42 (dk_at dksX10_init_0 5 rfl rfl)
theorem dX10_init_6 : decode cX10_init 6 = .ok (.invokespecial 9, 3) := dk_183 0 9 (dk_at dksX10_init_0 6 rfl rfl)
theorem dX10_init_9 : decode cX10_init 9 = .ok (.iconst 1, 1) := dk_4 (dk_at dksX10_init_0 9 rfl rfl)
theorem dX10_init_10 : decode cX10_init 10 = .ok (.istore_n 2, 1) := dk_61 (dk_at dksX10_init_0 10 rfl rfl)
theorem dX10_init_11 : decode cX10_init 11 = .ok (.iload_n 2, 1) := dk_28 (dk_at dksX10_init_0 11 rfl rfl)
theorem dX10_init_12 : decode cX10_init 12 = .ok (.aload_n 1, 1) := dk_43 (dk_at dksX10_init_0 12 rfl rfl)
theorem dX10_init_13 : decode cX10_init 13 = .ok (.getfield 15, 3) := dk_180 0 15 (dk_at dksX10_init_0 13 rfl rfl)
theorem dX10_init_16 : decode cX10_init 16 = .ok (.getfield 19, 3) := dk_180 0 19 (dk_at dksX10_init_0 16 rfl rfl)
theorem dX10_init_19 : decode cX10_init 19 = .ok (.iconst 0, 1) := dk_3 (dk_at dksX10_init_0 19 rfl rfl)
theorem dX10_init_20 : decode cX10_init 20 = .ok (.iaload, 1) := dk_46 (dk_at dksX10_init_0 20 rfl rfl)
theorem dX10_init_21 : decode cX10_init 21 = .ok (.if_icmp .ge 65, 3) := dk_162 0 65 (dk_at dksX10_init_0 21 rfl rfl)
theorem dX10_init_24 : decode cX10_init 24 = .ok (.aload_n 0, 1) := dk_42 (dk_at dksX10_init_1 0 rfl rfl)
theorem dX10_init_25 : decode cX10_init 25 = .ok (.aload_n 0, 1) := dk_42 (dk_at dksX10_init_1 1 rfl rfl)
theorem dX10_init_26 : decode cX10_init 26 = .ok (.iload_n 2, 1) := dk_28 (dk_at dksX10_init_1 2 rfl rfl)
theorem dX10_init_27 : decode cX10_init 27 = .ok (.invokevirtual 25, 3) := dk_182 0 25 (dk_at dksX10_init_1 3 rfl rfl)
theorem dX10_init_30 : decode cX10_init 30 = .ok (.aload_n 0, 1) := dk_42 (dk_at dksX10_init_1 6 rfl rfl)
theorem dX10_init_31 : decode cX10_init 31 = .ok (.aload_n 0, 1) := dk_42 (dk_at dksX10_init_1 7 rfl rfl)
theorem dX10_init_32 : decode cX10_init 32 = .ok (.getfield 29, 3) := dk_180 0 29 (dk_at dksX10_init_1 8 rfl rfl)
theorem dX10_init_35 : decode cX10_init 35 = .ok (.invokevirtual 25, 3) := dk_182 0 25 (dk_at dksX10_init_1 11 rfl rfl)
theorem dX10_init_38 : decode cX10_init 38 = .ok (.if_icmp .le 7, 3) := dk_164 0 7 (dk_at dksX10_init_1 14 rfl rfl)
theorem dX10_init_41 : decode cX10_init 41 = .ok (.iload_n 2, 1) := dk_28 (dk_at dksX10_init_1 17 rfl rfl)
theorem dX10_init_42 : decode cX10_init 42 = .ok (.goto 7, 3) := dk_167 0 7 (dk_at dksX10_init_1 18 rfl rfl)
theorem dX10_init_45 : decode cX10_init 45 = .ok (.aload_n 0, 1) := dk_42 (dk_at dksX10_init_1 21 rfl rfl)
theorem dX10_init_46 : decode cX10_init 46 = .ok (.getfield 29, 3) := dk_180 0 29 (dk_at dksX10_init_2 0 rfl rfl)
theorem dX10_init_49 : decode cX10_init 49 = .ok (.putfield 29, 3) := dk_181 0 29 (dk_at dksX10_init_2 3 rfl rfl)
theorem dX10_init_52 : decode cX10_init 52 = .ok (.aload_n 0, 1) := dk_42 (dk_at dksX10_init_2 6 rfl rfl)
theorem dX10_init_53 : decode cX10_init 53 = .ok (.aload_n 0, 1) := dk_42 (dk_at dksX10_init_2 7 rfl rfl)
theorem dX10_init_54 : decode cX10_init 54 = .ok (.iload_n 2, 1) := dk_28 (dk_at dksX10_init_2 8 rfl rfl)
theorem dX10_init_55 : decode cX10_init 55 = .ok (.invokevirtual 25, 3) := dk_182 0 25 (dk_at dksX10_init_2 9 rfl rfl)
theorem dX10_init_58 : decode cX10_init 58 = .ok (.aload_n 0, 1) := dk_42 (dk_at dksX10_init_2 12 rfl rfl)
theorem dX10_init_59 : decode cX10_init 59 = .ok (.aload_n 0, 1) := dk_42 (dk_at dksX10_init_2 13 rfl rfl)
theorem dX10_init_60 : decode cX10_init 60 = .ok (.getfield 33, 3) := dk_180 0 33 (dk_at dksX10_init_2 14 rfl rfl)
theorem dX10_init_63 : decode cX10_init 63 = .ok (.invokevirtual 25, 3) := dk_182 0 25 (dk_at dksX10_init_2 17 rfl rfl)
theorem dX10_init_66 : decode cX10_init 66 = .ok (.if_icmp .ge 7, 3) := dk_162 0 7 (dk_at dksX10_init_2 20 rfl rfl)
theorem dX10_init_69 : decode cX10_init 69 = .ok (.iload_n 2, 1) := dk_28 (dk_at dksX10_init_2 23 rfl rfl)
theorem dX10_init_70 : decode cX10_init 70 = .ok (.goto 7, 3) := dk_167 0 7 (dk_at dksX10_init_3 0 rfl rfl)
theorem dX10_init_73 : decode cX10_init 73 = .ok (.aload_n 0, 1) := dk_42 (dk_at dksX10_init_3 3 rfl rfl)
theorem dX10_init_74 : decode cX10_init 74 = .ok (.getfield 33, 3) := dk_180 0 33 (dk_at dksX10_init_3 4 rfl rfl)
theorem dX10_init_77 : decode cX10_init 77 = .ok (.putfield 33, 3) := dk_181 0 33 (dk_at dksX10_init_3 7 rfl rfl)
theorem dX10_init_80 : decode cX10_init 80 = .ok (.iinc 2 1, 3) := dk_132 2 1 (dk_at dksX10_init_3 10 rfl rfl)
theorem dX10_init_83 : decode cX10_init 83 = .ok (.goto (-72), 3) := dk_167 255 184 (dk_at dksX10_init_3 13 rfl rfl)
theorem dX10_init_86 : decode cX10_init 86 = .ok (.return_, 1) := dk_177 (dk_at dksX10_init_3 16 rfl rfl)
abbrev cX10_resets : ByteArray := prog_11_method_2_code
def yX10_resets : MethodName := ⟨RX10, "resets", "(I)I"⟩
def dkwX10_resets_0 : List UInt8 := [42, 180, 0, 3, 182, 0, 36, 180, 0, 40, 27, 50, 180, 0, 46, 172]
abbrev dktX10_resets_0 : List UInt8 := dkwX10_resets_0 ++ []
theorem dksX10_resets_0 : cX10_resets.data.toList.drop 0 = dktX10_resets_0 := by decide +kernel
theorem dX10_resets_0 : decode cX10_resets 0 = .ok (.aload_n 0, 1) := dk_42 (dk_at dksX10_resets_0 0 rfl rfl)
theorem dX10_resets_1 : decode cX10_resets 1 = .ok (.getfield 3, 3) := dk_180 0 3 (dk_at dksX10_resets_0 1 rfl rfl)
theorem dX10_resets_4 : decode cX10_resets 4 = .ok (.invokevirtual 36, 3) := dk_182 0 36 (dk_at dksX10_resets_0 4 rfl rfl)
theorem dX10_resets_7 : decode cX10_resets 7 = .ok (.getfield 40, 3) := dk_180 0 40 (dk_at dksX10_resets_0 7 rfl rfl)
theorem dX10_resets_10 : decode cX10_resets 10 = .ok (.iload_n 1, 1) := dk_27 (dk_at dksX10_resets_0 10 rfl rfl)
theorem dX10_resets_11 : decode cX10_resets 11 = .ok (.aaload, 1) := dk_50 (dk_at dksX10_resets_0 11 rfl rfl)
theorem dX10_resets_12 : decode cX10_resets 12 = .ok (.getfield 46, 3) := dk_180 0 46 (dk_at dksX10_resets_0 12 rfl rfl)
theorem dX10_resets_15 : decode cX10_resets 15 = .ok (.ireturn, 1) := dk_172 (dk_at dksX10_resets_0 15 rfl rfl)
abbrev cX10_tells : ByteArray := prog_11_method_3_code
def yX10_tells : MethodName := ⟨RX10, "tells", "(I)I"⟩
def dkwX10_tells_2 : List UInt8 := [180, 0, 33, 172]
abbrev dktX10_tells_2 : List UInt8 := dkwX10_tells_2 ++ []
def dkwX10_tells_1 : List UInt8 := [180, 0, 33, 182, 0, 25, 167, 0, 19, 27, 5, 160, 0, 10, 42, 180, 0, 29, 167, 0, 7, 42]
abbrev dktX10_tells_1 : List UInt8 := dkwX10_tells_1 ++ dktX10_tells_2
def dkwX10_tells_0 : List UInt8 := [27, 154, 0, 14, 42, 42, 180, 0, 29, 182, 0, 25, 167, 0, 35, 27, 4, 160, 0, 14, 42, 42]
abbrev dktX10_tells_0 : List UInt8 := dkwX10_tells_0 ++ dktX10_tells_1
theorem dksX10_tells_0 : cX10_tells.data.toList.drop 0 = dktX10_tells_0 := by decide +kernel
theorem dksX10_tells_1 : cX10_tells.data.toList.drop 22 = dktX10_tells_1 := dk_seg dksX10_tells_0 22 rfl rfl
theorem dksX10_tells_2 : cX10_tells.data.toList.drop 44 = dktX10_tells_2 := dk_seg dksX10_tells_1 22 rfl rfl
theorem dX10_tells_0 : decode cX10_tells 0 = .ok (.iload_n 1, 1) := dk_27 (dk_at dksX10_tells_0 0 rfl rfl)
theorem dX10_tells_1 : decode cX10_tells 1 = .ok (.ifCond .ne 14, 3) := dk_154 0 14 (dk_at dksX10_tells_0 1 rfl rfl)
theorem dX10_tells_4 : decode cX10_tells 4 = .ok (.aload_n 0, 1) := dk_42 (dk_at dksX10_tells_0 4 rfl rfl)
theorem dX10_tells_5 : decode cX10_tells 5 = .ok (.aload_n 0, 1) := dk_42 (dk_at dksX10_tells_0 5 rfl rfl)
theorem dX10_tells_6 : decode cX10_tells 6 = .ok (.getfield 29, 3) := dk_180 0 29 (dk_at dksX10_tells_0 6 rfl rfl)
theorem dX10_tells_9 : decode cX10_tells 9 = .ok (.invokevirtual 25, 3) := dk_182 0 25 (dk_at dksX10_tells_0 9 rfl rfl)
theorem dX10_tells_12 : decode cX10_tells 12 = .ok (.goto 35, 3) := dk_167 0 35 (dk_at dksX10_tells_0 12 rfl rfl)
theorem dX10_tells_15 : decode cX10_tells 15 = .ok (.iload_n 1, 1) := dk_27 (dk_at dksX10_tells_0 15 rfl rfl)
theorem dX10_tells_16 : decode cX10_tells 16 = .ok (.iconst 1, 1) := dk_4 (dk_at dksX10_tells_0 16 rfl rfl)
theorem dX10_tells_17 : decode cX10_tells 17 = .ok (.if_icmp .ne 14, 3) := dk_160 0 14 (dk_at dksX10_tells_0 17 rfl rfl)
theorem dX10_tells_20 : decode cX10_tells 20 = .ok (.aload_n 0, 1) := dk_42 (dk_at dksX10_tells_0 20 rfl rfl)
theorem dX10_tells_21 : decode cX10_tells 21 = .ok (.aload_n 0, 1) := dk_42 (dk_at dksX10_tells_0 21 rfl rfl)
theorem dX10_tells_22 : decode cX10_tells 22 = .ok (.getfield 33, 3) := dk_180 0 33 (dk_at dksX10_tells_1 0 rfl rfl)
theorem dX10_tells_25 : decode cX10_tells 25 = .ok (.invokevirtual 25, 3) := dk_182 0 25 (dk_at dksX10_tells_1 3 rfl rfl)
theorem dX10_tells_28 : decode cX10_tells 28 = .ok (.goto 19, 3) := dk_167 0 19 (dk_at dksX10_tells_1 6 rfl rfl)
theorem dX10_tells_31 : decode cX10_tells 31 = .ok (.iload_n 1, 1) := dk_27 (dk_at dksX10_tells_1 9 rfl rfl)
theorem dX10_tells_32 : decode cX10_tells 32 = .ok (.iconst 2, 1) := dk_5 (dk_at dksX10_tells_1 10 rfl rfl)
theorem dX10_tells_33 : decode cX10_tells 33 = .ok (.if_icmp .ne 10, 3) := dk_160 0 10 (dk_at dksX10_tells_1 11 rfl rfl)
theorem dX10_tells_36 : decode cX10_tells 36 = .ok (.aload_n 0, 1) := dk_42 (dk_at dksX10_tells_1 14 rfl rfl)
theorem dX10_tells_37 : decode cX10_tells 37 = .ok (.getfield 29, 3) := dk_180 0 29 (dk_at dksX10_tells_1 15 rfl rfl)
theorem dX10_tells_40 : decode cX10_tells 40 = .ok (.goto 7, 3) := dk_167 0 7 (dk_at dksX10_tells_1 18 rfl rfl)
theorem dX10_tells_43 : decode cX10_tells 43 = .ok (.aload_n 0, 1) := dk_42 (dk_at dksX10_tells_1 21 rfl rfl)
theorem dX10_tells_44 : decode cX10_tells 44 = .ok (.getfield 33, 3) := dk_180 0 33 (dk_at dksX10_tells_2 0 rfl rfl)
theorem dX10_tells_47 : decode cX10_tells 47 = .ok (.ireturn, 1) := dk_172 (dk_at dksX10_tells_2 3 rfl rfl)
theorem q147 : (Jvm.Cond.initialized "FlashZones$Wear") ∈ lw_all := lw_g (lw_at lw_m1 35 rfl) rfl
theorem q580 : (Jvm.Cond.fieldLinkNest "FlashZones$Wear" (46 : Nat) "FlashZones$Zone" "resets" "I" "FlashZones") ∈ lw_tbl := lw_at lw_m2 228 rfl
theorem q617 : (Jvm.Cond.fieldLinkNest "FlashZones$Wear" (40 : Nat) "FlashZones$Store" "zones" "[LFlashZones$Zone;" "FlashZones") ∈ lw_tbl := lw_at lw_m3 25 rfl
theorem q684 : (Jvm.Cond.fieldLinkNest "FlashZones$Wear" (19 : Nat) "FlashZones$Book" "set" "[I" "FlashZones") ∈ lw_tbl := lw_at lw_m3 92 rfl
theorem q720 : (Jvm.Cond.fieldLinkNest "FlashZones$Wear" (15 : Nat) "FlashZones" "now" "LFlashZones$Book;" "FlashZones") ∈ lw_tbl := lw_at lw_m3 128 rfl
theorem q967 : (Jvm.Cond.selects "FlashZones$Wear" ({ cls := "java/lang/Object", name := "getClass", desc := "()Ljava/lang/Class;" } : Jvm.MethodName) ({ cls := "java/lang/Object", name := "getClass", desc := "()Ljava/lang/Class;" } : Jvm.MethodName)) ∈ lw_all := lw_g (lw_at lw_m4 135 rfl) rfl
theorem q1813 : (Jvm.Cond.instantiable "FlashZones$Wear" (3 : Nat)) ∈ lw_all := lw_g (lw_at lw_m8 21 rfl) rfl
theorem q1815 : (Jvm.Cond.instanceMethod ({ cls := "FlashZones$Wear", name := "<init>", desc := "(LFlashZones;)V" } : Jvm.MethodName)) ∈ lw_all := lw_g (lw_at lw_m8 23 rfl) rfl
theorem q1816 : (Jvm.Cond.code ({ cls := "FlashZones$Wear", name := "<init>", desc := "(LFlashZones;)V" } : Jvm.MethodName) prog_11_method_1_code (3 : Nat) (Option.none : Option Jvm.ClassFile.FieldType)) ∈ lw_all := lw_g (lw_at lw_m8 24 rfl) rfl
theorem q1817 : (Jvm.Cond.methodLink "FlashZones$Wear" (9 : Nat) ({ cls := "java/lang/Object", name := "<init>", desc := "()V" } : Jvm.MethodName)) ∈ lw_all := lw_g (lw_at lw_m8 25 rfl) rfl
theorem q1818 : (Jvm.Cond.methodLink "FlashZones$Wear" (25 : Nat) ({ cls := "FlashZones$Wear", name := "resets", desc := "(I)I" } : Jvm.MethodName)) ∈ lw_all := lw_g (lw_at lw_m8 26 rfl) rfl
theorem q1819 : (Jvm.Cond.privateMethod ({ cls := "FlashZones$Wear", name := "resets", desc := "(I)I" } : Jvm.MethodName)) ∈ lw_tbl := lw_at lw_m8 27 rfl
theorem q1820 : (Jvm.Cond.instanceMethod ({ cls := "FlashZones$Wear", name := "resets", desc := "(I)I" } : Jvm.MethodName)) ∈ lw_all := lw_g (lw_at lw_m8 28 rfl) rfl
theorem q1821 : (Jvm.Cond.code ({ cls := "FlashZones$Wear", name := "resets", desc := "(I)I" } : Jvm.MethodName) prog_11_method_2_code (2 : Nat) (Option.some Jvm.ClassFile.FieldType.int)) ∈ lw_all := lw_g (lw_at lw_m8 29 rfl) rfl
theorem q1822 : (Jvm.Cond.methodLinkNest "FlashZones$Wear" (36 : Nat) ({ cls := "FlashZones", name := "store", desc := "()LFlashZones$Store;" } : Jvm.MethodName) "FlashZones") ∈ lw_tbl := lw_at lw_m8 30 rfl
theorem q1823 : (Jvm.Cond.fieldLink "FlashZones$Wear" (29 : Nat) "FlashZones$Wear" "most" "I") ∈ lw_all := lw_g (lw_at lw_m8 31 rfl) rfl
theorem q1824 : (Jvm.Cond.fieldLink "FlashZones$Wear" (33 : Nat) "FlashZones$Wear" "least" "I") ∈ lw_all := lw_g (lw_at lw_m8 32 rfl) rfl
theorem q1825 : (Jvm.Cond.fieldLink "FlashZones$Wear" (3 : Nat) "FlashZones$Wear" "this$0" "LFlashZones;") ∈ lw_all := lw_g (lw_at lw_m8 33 rfl) rfl
theorem q1826 : (Jvm.Cond.lays "FlashZones$Wear" "FlashZones$Wear" "most" "I") ∈ lw_all := lw_g (lw_at lw_m8 34 rfl) rfl
theorem q1827 : (Jvm.Cond.soleField "FlashZones$Wear" "most") ∈ lw_all := lw_g (lw_at lw_m8 35 rfl) rfl
theorem q1828 : (Jvm.Cond.lays "FlashZones$Wear" "FlashZones$Wear" "least" "I") ∈ lw_all := lw_g (lw_at lw_m8 36 rfl) rfl
theorem q1829 : (Jvm.Cond.soleField "FlashZones$Wear" "least") ∈ lw_all := lw_g (lw_at lw_m8 37 rfl) rfl
theorem q1830 : (Jvm.Cond.laysFinal "FlashZones$Wear" "FlashZones$Wear" "this$0" "LFlashZones;") ∈ lw_all := lw_g (lw_at lw_m8 38 rfl) rfl
theorem q1831 : (Jvm.Cond.soleField "FlashZones$Wear" "this$0") ∈ lw_all := lw_g (lw_at lw_m8 39 rfl) rfl
theorem q1832 : (Jvm.Cond.superclass "FlashZones$Wear" "java/lang/Object") ∈ lw_all := lw_g (lw_at lw_m8 40 rfl) rfl
theorem q1834 : (Jvm.Cond.instanceMethod ({ cls := "FlashZones$Wear", name := "tells", desc := "(I)I" } : Jvm.MethodName)) ∈ lw_all := lw_g (lw_at lw_m8 42 rfl) rfl
theorem q1835 : (Jvm.Cond.selects "FlashZones$Wear" ({ cls := "FlashZones$Wear", name := "tells", desc := "(I)I" } : Jvm.MethodName) ({ cls := "FlashZones$Wear", name := "tells", desc := "(I)I" } : Jvm.MethodName)) ∈ lw_all := lw_g (lw_at lw_m8 43 rfl) rfl
theorem q1836 : (Jvm.Cond.code ({ cls := "FlashZones$Wear", name := "tells", desc := "(I)I" } : Jvm.MethodName) prog_11_method_3_code (2 : Nat) (Option.some Jvm.ClassFile.FieldType.int)) ∈ lw_all := lw_g (lw_at lw_m8 44 rfl) rfl
theorem q2572 : (Jvm.Cond.castable "FlashZones$Wear" "java/lang/Object") ∈ lw_tbl := lw_at lw_m11 60 rfl
theorem in_X10 : ∀ w ∈ wsX100, w ∈ lw_all := lw_in wsX100 [1826, 1828, 1830] (by decide +kernel) (by decide +kernel)
/-! FlashZones$Retold -/
set_option maxRecDepth 100000
def RX11 : String := "FlashZones$Retold"
def TX11 : u_T := fun k => match k with
  | 0 => ("FlashZones$Retold", "store", "LFlashZones$Store;", true)
  | _ => ("FlashZones$Retold", "left", "I", false)
def tyX11 : Nat → FieldType := fun k => match k with
  | 0 => .object "FlashZones$Store"
  | _ => .int
abbrev wsX110 : List Cond := u_ws RX11 TX11 2
theorem nmX11 : ∀ a, a < 2 → ∀ b, b < 2 → a ≠ b → (TX11 a).2.1 ≠ (TX11 b).2.1 := by decide +kernel
theorem tyX11_ok : ∀ k, k < 2 → parseFieldDescriptor (TX11 k).2.2.1 = some (tyX11 k) := by decide +kernel
abbrev cX11_init : ByteArray := prog_8_method_1_code
def yX11_init : MethodName := ⟨RX11, "<init>", "(LFlashZones$Book;I[I)V"⟩
def dkwX11_init_5 : List UInt8 := [184, 0, 54, 96, 54, 4, 132, 5, 1, 167, 255, 159, 177]
abbrev dktX11_init_5 : List UInt8 := dkwX11_init_5 ++ []
def dkwX11_init_4 : List UInt8 := [184, 0, 54, 96, 181, 0, 42, 21, 4, 25, 6, 180, 0, 58, 154, 0, 7, 4, 167, 0, 4, 3]
abbrev dktX11_init_4 : List UInt8 := dkwX11_init_4 ++ dktX11_init_5
def dkwX11_init_3 : List UInt8 := [154, 0, 17, 25, 6, 42, 180, 0, 20, 21, 4, 182, 0, 50, 153, 0, 7, 4, 167, 0, 4, 3]
abbrev dktX11_init_3 : List UInt8 := dkwX11_init_3 ++ dktX11_init_4
def dkwX11_init_2 : List UInt8 := [185, 0, 36, 2, 0, 192, 0, 40, 58, 6, 42, 89, 180, 0, 42, 25, 6, 42, 180, 0, 20, 182, 0, 46]
abbrev dktX11_init_2 : List UInt8 := dkwX11_init_2 ++ dktX11_init_3
def dkwX11_init_1 : List UInt8 := [3, 54, 5, 21, 5, 43, 180, 0, 26, 185, 0, 30, 1, 0, 162, 0, 89, 43, 180, 0, 26, 21, 5]
abbrev dktX11_init_1 : List UInt8 := dkwX11_init_1 ++ dktX11_init_2
def dkwX11_init_0 : List UInt8 := [42, 183, 0, 3, 42, 187, 0, 9, 89, 28, 43, 180, 0, 11, 45, 183, 0, 17, 181, 0, 20, 3, 54, 4]
abbrev dktX11_init_0 : List UInt8 := dkwX11_init_0 ++ dktX11_init_1
theorem dksX11_init_0 : cX11_init.data.toList.drop 0 = dktX11_init_0 := by decide +kernel
theorem dksX11_init_1 : cX11_init.data.toList.drop 24 = dktX11_init_1 := dk_seg dksX11_init_0 24 rfl rfl
theorem dksX11_init_2 : cX11_init.data.toList.drop 47 = dktX11_init_2 := dk_seg dksX11_init_1 23 rfl rfl
theorem dksX11_init_3 : cX11_init.data.toList.drop 71 = dktX11_init_3 := dk_seg dksX11_init_2 24 rfl rfl
theorem dksX11_init_4 : cX11_init.data.toList.drop 93 = dktX11_init_4 := dk_seg dksX11_init_3 22 rfl rfl
theorem dksX11_init_5 : cX11_init.data.toList.drop 115 = dktX11_init_5 := dk_seg dksX11_init_4 22 rfl rfl
theorem dX11_init_0 : decode cX11_init 0 = .ok (.aload_n 0, 1) := dk_42 (dk_at dksX11_init_0 0 rfl rfl)
theorem dX11_init_1 : decode cX11_init 1 = .ok (.invokespecial 3, 3) := dk_183 0 3 (dk_at dksX11_init_0 1 rfl rfl)
theorem dX11_init_4 : decode cX11_init 4 = .ok (.aload_n 0, 1) := dk_42 (dk_at dksX11_init_0 4 rfl rfl)
theorem dX11_init_5 : decode cX11_init 5 = .ok (.new 9, 3) := dk_187 0 9 (dk_at dksX11_init_0 5 rfl rfl)
theorem dX11_init_8 : decode cX11_init 8 = .ok (.dup, 1) := dk_89 (dk_at dksX11_init_0 8 rfl rfl)
theorem dX11_init_9 : decode cX11_init 9 = .ok (.iload_n 2, 1) := dk_28 (dk_at dksX11_init_0 9 rfl rfl)
theorem dX11_init_10 : decode cX11_init 10 = .ok (.aload_n 1, 1) := dk_43 (dk_at dksX11_init_0 10 rfl rfl)
theorem dX11_init_11 : decode cX11_init 11 = .ok (.getfield 11, 3) := dk_180 0 11 (dk_at dksX11_init_0 11 rfl rfl)
theorem dX11_init_14 : decode cX11_init 14 = .ok (.aload_n 3, 1) := dk_45 (dk_at dksX11_init_0 14 rfl rfl)
theorem dX11_init_15 : decode cX11_init 15 = .ok (.invokespecial 17, 3) := dk_183 0 17 (dk_at dksX11_init_0 15 rfl rfl)
theorem dX11_init_18 : decode cX11_init 18 = .ok (.putfield 20, 3) := dk_181 0 20 (dk_at dksX11_init_0 18 rfl rfl)
theorem dX11_init_21 : decode cX11_init 21 = .ok (.iconst 0, 1) := dk_3 (dk_at dksX11_init_0 21 rfl rfl)
theorem dX11_init_22 : decode cX11_init 22 = .ok (.istore 4, 2) := dk_54 4 (dk_at dksX11_init_0 22 rfl rfl)
theorem dX11_init_24 : decode cX11_init 24 = .ok (.iconst 0, 1) := dk_3 (dk_at dksX11_init_1 0 rfl rfl)
theorem dX11_init_25 : decode cX11_init 25 = .ok (.istore 5, 2) := dk_54 5 (dk_at dksX11_init_1 1 rfl rfl)
theorem dX11_init_27 : decode cX11_init 27 = .ok (.iload 5, 2) := dk_21 5 (dk_at dksX11_init_1 3 rfl rfl)
theorem dX11_init_29 : decode cX11_init 29 = .ok (.aload_n 1, 1) := dk_43 (dk_at dksX11_init_1 5 rfl rfl)
theorem dX11_init_30 : decode cX11_init 30 = .ok (.getfield 26, 3) := dk_180 0 26 (dk_at dksX11_init_1 6 rfl rfl)
theorem dX11_init_33 : decode cX11_init 33 = .ok (.invokeinterface 30 1, 5) := by decide +kernel
theorem dX11_init_38 : decode cX11_init 38 = .ok (.if_icmp .ge 89, 3) := dk_162 0 89 (dk_at dksX11_init_1 14 rfl rfl)
theorem dX11_init_41 : decode cX11_init 41 = .ok (.aload_n 1, 1) := dk_43 (dk_at dksX11_init_1 17 rfl rfl)
theorem dX11_init_42 : decode cX11_init 42 = .ok (.getfield 26, 3) := dk_180 0 26 (dk_at dksX11_init_1 18 rfl rfl)
theorem dX11_init_45 : decode cX11_init 45 = .ok (.iload 5, 2) := dk_21 5 (dk_at dksX11_init_1 21 rfl rfl)
theorem dX11_init_47 : decode cX11_init 47 = .ok (.invokeinterface 36 2, 5) := by decide +kernel
theorem dX11_init_52 : decode cX11_init 52 = .ok (.checkcast 40, 3) := dk_192 0 40 (dk_at dksX11_init_2 5 rfl rfl)
theorem dX11_init_55 : decode cX11_init 55 = .ok (.astore 6, 2) := dk_58 6 (dk_at dksX11_init_2 8 rfl rfl)
theorem dX11_init_57 : decode cX11_init 57 = .ok (.aload_n 0, 1) := dk_42 (dk_at dksX11_init_2 10 rfl rfl)
theorem dX11_init_58 : decode cX11_init 58 = .ok (.dup, 1) := dk_89 (dk_at dksX11_init_2 11 rfl rfl)
theorem dX11_init_59 : decode cX11_init 59 = .ok (.getfield 42, 3) := dk_180 0 42 (dk_at dksX11_init_2 12 rfl rfl)
theorem dX11_init_62 : decode cX11_init 62 = .ok (.aload 6, 2) := dk_25 6 (dk_at dksX11_init_2 15 rfl rfl)
theorem dX11_init_64 : decode cX11_init 64 = .ok (.aload_n 0, 1) := dk_42 (dk_at dksX11_init_2 17 rfl rfl)
theorem dX11_init_65 : decode cX11_init 65 = .ok (.getfield 20, 3) := dk_180 0 20 (dk_at dksX11_init_2 18 rfl rfl)
theorem dX11_init_68 : decode cX11_init 68 = .ok (.invokevirtual 46, 3) := dk_182 0 46 (dk_at dksX11_init_2 21 rfl rfl)
theorem dX11_init_71 : decode cX11_init 71 = .ok (.ifCond .ne 17, 3) := dk_154 0 17 (dk_at dksX11_init_3 0 rfl rfl)
theorem dX11_init_74 : decode cX11_init 74 = .ok (.aload 6, 2) := dk_25 6 (dk_at dksX11_init_3 3 rfl rfl)
theorem dX11_init_76 : decode cX11_init 76 = .ok (.aload_n 0, 1) := dk_42 (dk_at dksX11_init_3 5 rfl rfl)
theorem dX11_init_77 : decode cX11_init 77 = .ok (.getfield 20, 3) := dk_180 0 20 (dk_at dksX11_init_3 6 rfl rfl)
theorem dX11_init_80 : decode cX11_init 80 = .ok (.iload 4, 2) := dk_21 4 (dk_at dksX11_init_3 9 rfl rfl)
theorem dX11_init_82 : decode cX11_init 82 = .ok (.invokevirtual 50, 3) := dk_182 0 50 (dk_at dksX11_init_3 11 rfl rfl)
theorem dX11_init_85 : decode cX11_init 85 = .ok (.ifCond .eq 7, 3) := dk_153 0 7 (dk_at dksX11_init_3 14 rfl rfl)
theorem dX11_init_88 : decode cX11_init 88 = .ok (.iconst 1, 1) := dk_4 (dk_at dksX11_init_3 17 rfl rfl)
theorem dX11_init_89 : decode cX11_init 89 = .ok (.goto 4, 3) := dk_167 0 4 (dk_at dksX11_init_3 18 rfl rfl)
theorem dX11_init_92 : decode cX11_init 92 = .ok (.iconst 0, 1) := dk_3 (dk_at dksX11_init_3 21 rfl rfl)
theorem dX11_init_93 : decode cX11_init 93 = .ok (.invokestatic 54, 3) := dk_184 0 54 (dk_at dksX11_init_4 0 rfl rfl)
theorem dX11_init_96 : decode cX11_init 96 = .ok (.iadd, 1) := dk_96 (dk_at dksX11_init_4 3 rfl rfl)
theorem dX11_init_97 : decode cX11_init 97 = .ok (.putfield 42, 3) := dk_181 0 42 (dk_at dksX11_init_4 4 rfl rfl)
theorem dX11_init_100 : decode cX11_init 100 = .ok (.iload 4, 2) := dk_21 4 (dk_at dksX11_init_4 7 rfl rfl)
theorem dX11_init_102 : decode cX11_init 102 = .ok (.aload 6, 2) := dk_25 6 (dk_at dksX11_init_4 9 rfl rfl)
theorem dX11_init_104 : decode cX11_init 104 = .ok (.getfield 58, 3) := dk_180 0 58 (dk_at dksX11_init_4 11 rfl rfl)
theorem dX11_init_107 : decode cX11_init 107 = .ok (.ifCond .ne 7, 3) := dk_154 0 7 (dk_at dksX11_init_4 14 rfl rfl)
theorem dX11_init_110 : decode cX11_init 110 = .ok (.iconst 1, 1) := dk_4 (dk_at dksX11_init_4 17 rfl rfl)
theorem dX11_init_111 : decode cX11_init 111 = .ok (.goto 4, 3) := dk_167 0 4 (dk_at dksX11_init_4 18 rfl rfl)
theorem dX11_init_114 : decode cX11_init 114 = .ok (.iconst 0, 1) := dk_3 (dk_at dksX11_init_4 21 rfl rfl)
theorem dX11_init_115 : decode cX11_init 115 = .ok (.invokestatic 54, 3) := dk_184 0 54 (dk_at dksX11_init_5 0 rfl rfl)
theorem dX11_init_118 : decode cX11_init 118 = .ok (.iadd, 1) := dk_96 (dk_at dksX11_init_5 3 rfl rfl)
theorem dX11_init_119 : decode cX11_init 119 = .ok (.istore 4, 2) := dk_54 4 (dk_at dksX11_init_5 4 rfl rfl)
theorem dX11_init_121 : decode cX11_init 121 = .ok (.iinc 5 1, 3) := dk_132 5 1 (dk_at dksX11_init_5 6 rfl rfl)
theorem dX11_init_124 : decode cX11_init 124 = .ok (.goto (-97), 3) := dk_167 255 159 (dk_at dksX11_init_5 9 rfl rfl)
theorem dX11_init_127 : decode cX11_init 127 = .ok (.return_, 1) := dk_177 (dk_at dksX11_init_5 12 rfl rfl)
abbrev cX11_isBetter : ByteArray := prog_8_method_3_code
def yX11_isBetter : MethodName := ⟨RX11, "isBetter", "(LFlashZones$Retold;)Z"⟩
def dkwX11_isBetter_2 : List UInt8 := [172]
abbrev dktX11_isBetter_2 : List UInt8 := dkwX11_isBetter_2 ++ []
def dkwX11_isBetter_1 : List UInt8 := [182, 0, 76, 43, 28, 182, 0, 76, 162, 0, 7, 4, 167, 0, 4, 3, 172, 132, 2, 1, 167, 255, 216, 3]
abbrev dktX11_isBetter_1 : List UInt8 := dkwX11_isBetter_1 ++ dktX11_isBetter_2
def dkwX11_isBetter_0 : List UInt8 := [3, 61, 28, 6, 162, 0, 41, 42, 28, 182, 0, 76, 43, 28, 182, 0, 76, 159, 0, 22, 42, 28]
abbrev dktX11_isBetter_0 : List UInt8 := dkwX11_isBetter_0 ++ dktX11_isBetter_1
theorem dksX11_isBetter_0 : cX11_isBetter.data.toList.drop 0 = dktX11_isBetter_0 := by decide +kernel
theorem dksX11_isBetter_1 : cX11_isBetter.data.toList.drop 22 = dktX11_isBetter_1 := dk_seg dksX11_isBetter_0 22 rfl rfl
theorem dksX11_isBetter_2 : cX11_isBetter.data.toList.drop 46 = dktX11_isBetter_2 := dk_seg dksX11_isBetter_1 24 rfl rfl
theorem dX11_isBetter_0 : decode cX11_isBetter 0 = .ok (.iconst 0, 1) := dk_3 (dk_at dksX11_isBetter_0 0 rfl rfl)
theorem dX11_isBetter_1 : decode cX11_isBetter 1 = .ok (.istore_n 2, 1) := dk_61 (dk_at dksX11_isBetter_0 1 rfl rfl)
theorem dX11_isBetter_2 : decode cX11_isBetter 2 = .ok (.iload_n 2, 1) := dk_28 (dk_at dksX11_isBetter_0 2 rfl rfl)
theorem dX11_isBetter_3 : decode cX11_isBetter 3 = .ok (.iconst 3, 1) := dk_6 (dk_at dksX11_isBetter_0 3 rfl rfl)
theorem dX11_isBetter_4 : decode cX11_isBetter 4 = .ok (.if_icmp .ge 41, 3) := dk_162 0 41 (dk_at dksX11_isBetter_0 4 rfl rfl)
theorem dX11_isBetter_7 : decode cX11_isBetter 7 = .ok (.aload_n 0, 1) := dk_42 (dk_at dksX11_isBetter_0 7 rfl rfl)
theorem dX11_isBetter_8 : decode cX11_isBetter 8 = .ok (.iload_n 2, 1) := dk_28 (dk_at dksX11_isBetter_0 8 rfl rfl)
theorem dX11_isBetter_9 : decode cX11_isBetter 9 = .ok (.invokevirtual 76, 3) := dk_182 0 76 (dk_at dksX11_isBetter_0 9 rfl rfl)
theorem dX11_isBetter_12 : decode cX11_isBetter 12 = .ok (.aload_n 1, 1) := dk_43 (dk_at dksX11_isBetter_0 12 rfl rfl)
theorem dX11_isBetter_13 : decode cX11_isBetter 13 = .ok (.iload_n 2, 1) := dk_28 (dk_at dksX11_isBetter_0 13 rfl rfl)
theorem dX11_isBetter_14 : decode cX11_isBetter 14 = .ok (.invokevirtual 76, 3) := dk_182 0 76 (dk_at dksX11_isBetter_0 14 rfl rfl)
theorem dX11_isBetter_17 : decode cX11_isBetter 17 = .ok (.if_icmp .eq 22, 3) := dk_159 0 22 (dk_at dksX11_isBetter_0 17 rfl rfl)
theorem dX11_isBetter_20 : decode cX11_isBetter 20 = .ok (.aload_n 0, 1) := dk_42 (dk_at dksX11_isBetter_0 20 rfl rfl)
theorem dX11_isBetter_21 : decode cX11_isBetter 21 = .ok (.iload_n 2, 1) := dk_28 (dk_at dksX11_isBetter_0 21 rfl rfl)
theorem dX11_isBetter_22 : decode cX11_isBetter 22 = .ok (.invokevirtual 76, 3) := dk_182 0 76 (dk_at dksX11_isBetter_1 0 rfl rfl)
theorem dX11_isBetter_25 : decode cX11_isBetter 25 = .ok (.aload_n 1, 1) := dk_43 (dk_at dksX11_isBetter_1 3 rfl rfl)
theorem dX11_isBetter_26 : decode cX11_isBetter 26 = .ok (.iload_n 2, 1) := dk_28 (dk_at dksX11_isBetter_1 4 rfl rfl)
theorem dX11_isBetter_27 : decode cX11_isBetter 27 = .ok (.invokevirtual 76, 3) := dk_182 0 76 (dk_at dksX11_isBetter_1 5 rfl rfl)
theorem dX11_isBetter_30 : decode cX11_isBetter 30 = .ok (.if_icmp .ge 7, 3) := dk_162 0 7 (dk_at dksX11_isBetter_1 8 rfl rfl)
theorem dX11_isBetter_33 : decode cX11_isBetter 33 = .ok (.iconst 1, 1) := dk_4 (dk_at dksX11_isBetter_1 11 rfl rfl)
theorem dX11_isBetter_34 : decode cX11_isBetter 34 = .ok (.goto 4, 3) := dk_167 0 4 (dk_at dksX11_isBetter_1 12 rfl rfl)
theorem dX11_isBetter_37 : decode cX11_isBetter 37 = .ok (.iconst 0, 1) := dk_3 (dk_at dksX11_isBetter_1 15 rfl rfl)
theorem dX11_isBetter_38 : decode cX11_isBetter 38 = .ok (.ireturn, 1) := dk_172 (dk_at dksX11_isBetter_1 16 rfl rfl)
theorem dX11_isBetter_39 : decode cX11_isBetter 39 = .ok (.iinc 2 1, 3) := dk_132 2 1 (dk_at dksX11_isBetter_1 17 rfl rfl)
theorem dX11_isBetter_42 : decode cX11_isBetter 42 = .ok (.goto (-40), 3) := dk_167 255 216 (dk_at dksX11_isBetter_1 20 rfl rfl)
theorem dX11_isBetter_45 : decode cX11_isBetter 45 = .ok (.iconst 0, 1) := dk_3 (dk_at dksX11_isBetter_1 23 rfl rfl)
theorem dX11_isBetter_46 : decode cX11_isBetter 46 = .ok (.ireturn, 1) := dk_172 (dk_at dksX11_isBetter_2 0 rfl rfl)
abbrev cX11_tells : ByteArray := prog_8_method_2_code
def yX11_tells : MethodName := ⟨RX11, "tells", "(I)I"⟩
def dkwX11_tells_4 : List UInt8 := [42, 180, 0, 20, 182, 0, 73, 172]
abbrev dktX11_tells_4 : List UInt8 := dkwX11_tells_4 ++ []
def dkwX11_tells_3 : List UInt8 := [167, 0, 31, 42, 180, 0, 20, 3, 182, 0, 67, 167, 0, 20, 42, 180, 0, 20, 180, 0, 70, 167, 0, 10]
abbrev dktX11_tells_3 : List UInt8 := dkwX11_tells_3 ++ dktX11_tells_4
def dkwX11_tells_2 : List UInt8 := [42, 180, 0, 20, 180, 0, 61, 167, 0, 48, 42, 180, 0, 20, 180, 0, 64, 167, 0, 38, 42, 180, 0, 42]
abbrev dktX11_tells_2 : List UInt8 := dkwX11_tells_2 ++ dktX11_tells_3
def dkwX11_tells_1 : List UInt8 := [170, 0, 0, 0, 0, 0, 83, 0, 0, 0, 0, 0, 0, 0, 4, 0, 0, 0, 35, 0, 0, 0, 45, 0, 0, 0, 55, 0, 0, 0, 62, 0, 0, 0, 73]
abbrev dktX11_tells_1 : List UInt8 := dkwX11_tells_1 ++ dktX11_tells_2
def dkwX11_tells_0 : List UInt8 := [27]
abbrev dktX11_tells_0 : List UInt8 := dkwX11_tells_0 ++ dktX11_tells_1
theorem dksX11_tells_0 : cX11_tells.data.toList.drop 0 = dktX11_tells_0 := by decide +kernel
theorem dksX11_tells_1 : cX11_tells.data.toList.drop 1 = dktX11_tells_1 := dk_seg dksX11_tells_0 1 rfl rfl
theorem dksX11_tells_2 : cX11_tells.data.toList.drop 36 = dktX11_tells_2 := dk_seg dksX11_tells_1 35 rfl rfl
theorem dksX11_tells_3 : cX11_tells.data.toList.drop 60 = dktX11_tells_3 := dk_seg dksX11_tells_2 24 rfl rfl
theorem dksX11_tells_4 : cX11_tells.data.toList.drop 84 = dktX11_tells_4 := dk_seg dksX11_tells_3 24 rfl rfl
theorem dX11_tells_0 : decode cX11_tells 0 = .ok (.iload_n 1, 1) := dk_27 (dk_at dksX11_tells_0 0 rfl rfl)
theorem dX11_tells_1 : decode cX11_tells 1 = .ok (.tableswitch 83 0 4 #[35, 45, 55, 62, 73], 35) := by decide +kernel
theorem dX11_tells_36 : decode cX11_tells 36 = .ok (.aload_n 0, 1) := dk_42 (dk_at dksX11_tells_2 0 rfl rfl)
theorem dX11_tells_37 : decode cX11_tells 37 = .ok (.getfield 20, 3) := dk_180 0 20 (dk_at dksX11_tells_2 1 rfl rfl)
theorem dX11_tells_40 : decode cX11_tells 40 = .ok (.getfield 61, 3) := dk_180 0 61 (dk_at dksX11_tells_2 4 rfl rfl)
theorem dX11_tells_43 : decode cX11_tells 43 = .ok (.goto 48, 3) := dk_167 0 48 (dk_at dksX11_tells_2 7 rfl rfl)
theorem dX11_tells_46 : decode cX11_tells 46 = .ok (.aload_n 0, 1) := dk_42 (dk_at dksX11_tells_2 10 rfl rfl)
theorem dX11_tells_47 : decode cX11_tells 47 = .ok (.getfield 20, 3) := dk_180 0 20 (dk_at dksX11_tells_2 11 rfl rfl)
theorem dX11_tells_50 : decode cX11_tells 50 = .ok (.getfield 64, 3) := dk_180 0 64 (dk_at dksX11_tells_2 14 rfl rfl)
theorem dX11_tells_53 : decode cX11_tells 53 = .ok (.goto 38, 3) := dk_167 0 38 (dk_at dksX11_tells_2 17 rfl rfl)
theorem dX11_tells_56 : decode cX11_tells 56 = .ok (.aload_n 0, 1) := dk_42 (dk_at dksX11_tells_2 20 rfl rfl)
theorem dX11_tells_57 : decode cX11_tells 57 = .ok (.getfield 42, 3) := dk_180 0 42 (dk_at dksX11_tells_2 21 rfl rfl)
theorem dX11_tells_60 : decode cX11_tells 60 = .ok (.goto 31, 3) := dk_167 0 31 (dk_at dksX11_tells_3 0 rfl rfl)
theorem dX11_tells_63 : decode cX11_tells 63 = .ok (.aload_n 0, 1) := dk_42 (dk_at dksX11_tells_3 3 rfl rfl)
theorem dX11_tells_64 : decode cX11_tells 64 = .ok (.getfield 20, 3) := dk_180 0 20 (dk_at dksX11_tells_3 4 rfl rfl)
theorem dX11_tells_67 : decode cX11_tells 67 = .ok (.iconst 0, 1) := dk_3 (dk_at dksX11_tells_3 7 rfl rfl)
theorem dX11_tells_68 : decode cX11_tells 68 = .ok (.invokevirtual 67, 3) := dk_182 0 67 (dk_at dksX11_tells_3 8 rfl rfl)
theorem dX11_tells_71 : decode cX11_tells 71 = .ok (.goto 20, 3) := dk_167 0 20 (dk_at dksX11_tells_3 11 rfl rfl)
theorem dX11_tells_74 : decode cX11_tells 74 = .ok (.aload_n 0, 1) := dk_42 (dk_at dksX11_tells_3 14 rfl rfl)
theorem dX11_tells_75 : decode cX11_tells 75 = .ok (.getfield 20, 3) := dk_180 0 20 (dk_at dksX11_tells_3 15 rfl rfl)
theorem dX11_tells_78 : decode cX11_tells 78 = .ok (.getfield 70, 3) := dk_180 0 70 (dk_at dksX11_tells_3 18 rfl rfl)
theorem dX11_tells_81 : decode cX11_tells 81 = .ok (.goto 10, 3) := dk_167 0 10 (dk_at dksX11_tells_3 21 rfl rfl)
theorem dX11_tells_84 : decode cX11_tells 84 = .ok (.aload_n 0, 1) := dk_42 (dk_at dksX11_tells_4 0 rfl rfl)
theorem dX11_tells_85 : decode cX11_tells 85 = .ok (.getfield 20, 3) := dk_180 0 20 (dk_at dksX11_tells_4 1 rfl rfl)
theorem dX11_tells_88 : decode cX11_tells 88 = .ok (.invokevirtual 73, 3) := dk_182 0 73 (dk_at dksX11_tells_4 4 rfl rfl)
theorem dX11_tells_91 : decode cX11_tells 91 = .ok (.ireturn, 1) := dk_172 (dk_at dksX11_tells_4 7 rfl rfl)
theorem q148 : (Jvm.Cond.initialized "FlashZones$Retold") ∈ lw_all := lw_g (lw_at lw_m1 36 rfl) rfl
theorem q602 : (Jvm.Cond.fieldLinkNest "FlashZones$Retold" (70 : Nat) "FlashZones$Store" "loss" "I" "FlashZones") ∈ lw_tbl := lw_at lw_m3 10 rfl
theorem q605 : (Jvm.Cond.fieldLinkNest "FlashZones$Retold" (61 : Nat) "FlashZones$Store" "moves" "I" "FlashZones") ∈ lw_tbl := lw_at lw_m3 13 rfl
theorem q608 : (Jvm.Cond.fieldLinkNest "FlashZones$Retold" (64 : Nat) "FlashZones$Store" "resets" "I" "FlashZones") ∈ lw_tbl := lw_at lw_m3 16 rfl
theorem q683 : (Jvm.Cond.fieldLinkNest "FlashZones$Retold" (11 : Nat) "FlashZones$Book" "set" "[I" "FlashZones") ∈ lw_tbl := lw_at lw_m3 91 rfl
theorem q689 : (Jvm.Cond.fieldLinkNest "FlashZones$Retold" (26 : Nat) "FlashZones$Book" "acts" "Ljava/util/List;" "FlashZones") ∈ lw_tbl := lw_at lw_m3 97 rfl
theorem q760 : (Jvm.Cond.instantiable "FlashZones$Retold" (2 : Nat)) ∈ lw_all := lw_g (lw_at lw_m3 168 rfl) rfl
theorem q804 : (Jvm.Cond.instanceMethod ({ cls := "FlashZones$Retold", name := "<init>", desc := "(LFlashZones$Book;I[I)V" } : Jvm.MethodName)) ∈ lw_all := lw_g (lw_at lw_m3 212 rfl) rfl
theorem q805 : (Jvm.Cond.code ({ cls := "FlashZones$Retold", name := "<init>", desc := "(LFlashZones$Book;I[I)V" } : Jvm.MethodName) prog_8_method_1_code (7 : Nat) (Option.none : Option Jvm.ClassFile.FieldType)) ∈ lw_all := lw_g (lw_at lw_m3 213 rfl) rfl
theorem q806 : (Jvm.Cond.methodLink "FlashZones$Retold" (3 : Nat) ({ cls := "java/lang/Object", name := "<init>", desc := "()V" } : Jvm.MethodName)) ∈ lw_all := lw_g (lw_at lw_m3 214 rfl) rfl
theorem q807 : (Jvm.Cond.classLink "FlashZones$Retold" (9 : Nat) "FlashZones$Store") ∈ lw_all := lw_g (lw_at lw_m3 215 rfl) rfl
theorem q808 : (Jvm.Cond.methodLink "FlashZones$Retold" (17 : Nat) ({ cls := "FlashZones$Store", name := "<init>", desc := "(I[I[I)V" } : Jvm.MethodName)) ∈ lw_all := lw_g (lw_at lw_m3 216 rfl) rfl
theorem q809 : (Jvm.Cond.interfaceEntry "FlashZones$Retold" (30 : Nat)) ∈ lw_tbl := lw_at lw_m3 217 rfl
theorem q810 : (Jvm.Cond.methodLink "FlashZones$Retold" (30 : Nat) ({ cls := "java/util/List", name := "size", desc := "()I" } : Jvm.MethodName)) ∈ lw_all := lw_g (lw_at lw_m3 218 rfl) rfl
theorem q811 : (Jvm.Cond.interfaceEntry "FlashZones$Retold" (36 : Nat)) ∈ lw_tbl := lw_at lw_m3 219 rfl
theorem q812 : (Jvm.Cond.methodLink "FlashZones$Retold" (36 : Nat) ({ cls := "java/util/List", name := "get", desc := "(I)Ljava/lang/Object;" } : Jvm.MethodName)) ∈ lw_all := lw_g (lw_at lw_m3 220 rfl) rfl
theorem q813 : (Jvm.Cond.classLink "FlashZones$Retold" (40 : Nat) "FlashZones$Act") ∈ lw_all := lw_g (lw_at lw_m3 221 rfl) rfl
theorem q814 : (Jvm.Cond.methodLink "FlashZones$Retold" (46 : Nat) ({ cls := "FlashZones$Act", name := "isLost", desc := "(LFlashZones$Store;)Z" } : Jvm.MethodName)) ∈ lw_all := lw_g (lw_at lw_m3 222 rfl) rfl
theorem q827 : (Jvm.Cond.methodLink "FlashZones$Retold" (50 : Nat) ({ cls := "FlashZones$Act", name := "run", desc := "(LFlashZones$Store;I)I" } : Jvm.MethodName)) ∈ lw_all := lw_g (lw_at lw_m3 235 rfl) rfl
theorem q964 : (Jvm.Cond.selects "FlashZones$Retold" ({ cls := "java/lang/Object", name := "getClass", desc := "()Ljava/lang/Class;" } : Jvm.MethodName) ({ cls := "java/lang/Object", name := "getClass", desc := "()Ljava/lang/Class;" } : Jvm.MethodName)) ∈ lw_all := lw_g (lw_at lw_m4 132 rfl) rfl
theorem q1080 : (Jvm.Cond.methodLinkNest "FlashZones$Retold" (54 : Nat) ({ cls := "FlashZones", name := "bit", desc := "(Z)I" } : Jvm.MethodName) "FlashZones") ∈ lw_tbl := lw_at lw_m5 8 rfl
theorem q1081 : (Jvm.Cond.fieldLink "FlashZones$Retold" (20 : Nat) "FlashZones$Retold" "store" "LFlashZones$Store;") ∈ lw_all := lw_g (lw_at lw_m5 9 rfl) rfl
theorem q1082 : (Jvm.Cond.fieldLink "FlashZones$Retold" (42 : Nat) "FlashZones$Retold" "left" "I") ∈ lw_all := lw_g (lw_at lw_m5 10 rfl) rfl
theorem q1083 : (Jvm.Cond.laysFinal "FlashZones$Retold" "FlashZones$Retold" "store" "LFlashZones$Store;") ∈ lw_all := lw_g (lw_at lw_m5 11 rfl) rfl
theorem q1084 : (Jvm.Cond.soleField "FlashZones$Retold" "store") ∈ lw_all := lw_g (lw_at lw_m5 12 rfl) rfl
theorem q1085 : (Jvm.Cond.lays "FlashZones$Retold" "FlashZones$Retold" "left" "I") ∈ lw_all := lw_g (lw_at lw_m5 13 rfl) rfl
theorem q1086 : (Jvm.Cond.soleField "FlashZones$Retold" "left") ∈ lw_all := lw_g (lw_at lw_m5 14 rfl) rfl
theorem q1087 : (Jvm.Cond.superclass "FlashZones$Retold" "java/lang/Object") ∈ lw_all := lw_g (lw_at lw_m5 15 rfl) rfl
theorem q1089 : (Jvm.Cond.instanceMethod ({ cls := "FlashZones$Retold", name := "isBetter", desc := "(LFlashZones$Retold;)Z" } : Jvm.MethodName)) ∈ lw_all := lw_g (lw_at lw_m5 17 rfl) rfl
theorem q1090 : (Jvm.Cond.selects "FlashZones$Retold" ({ cls := "FlashZones$Retold", name := "isBetter", desc := "(LFlashZones$Retold;)Z" } : Jvm.MethodName) ({ cls := "FlashZones$Retold", name := "isBetter", desc := "(LFlashZones$Retold;)Z" } : Jvm.MethodName)) ∈ lw_all := lw_g (lw_at lw_m5 18 rfl) rfl
theorem q1091 : (Jvm.Cond.code ({ cls := "FlashZones$Retold", name := "isBetter", desc := "(LFlashZones$Retold;)Z" } : Jvm.MethodName) prog_8_method_3_code (3 : Nat) (Option.some Jvm.ClassFile.FieldType.boolean)) ∈ lw_all := lw_g (lw_at lw_m5 19 rfl) rfl
theorem q1092 : (Jvm.Cond.methodLink "FlashZones$Retold" (76 : Nat) ({ cls := "FlashZones$Retold", name := "tells", desc := "(I)I" } : Jvm.MethodName)) ∈ lw_all := lw_g (lw_at lw_m5 20 rfl) rfl
theorem q1093 : (Jvm.Cond.instanceMethod ({ cls := "FlashZones$Retold", name := "tells", desc := "(I)I" } : Jvm.MethodName)) ∈ lw_all := lw_g (lw_at lw_m5 21 rfl) rfl
theorem q1094 : (Jvm.Cond.selects "FlashZones$Retold" ({ cls := "FlashZones$Retold", name := "tells", desc := "(I)I" } : Jvm.MethodName) ({ cls := "FlashZones$Retold", name := "tells", desc := "(I)I" } : Jvm.MethodName)) ∈ lw_all := lw_g (lw_at lw_m5 22 rfl) rfl
theorem q1095 : (Jvm.Cond.code ({ cls := "FlashZones$Retold", name := "tells", desc := "(I)I" } : Jvm.MethodName) prog_8_method_2_code (2 : Nat) (Option.some Jvm.ClassFile.FieldType.int)) ∈ lw_all := lw_g (lw_at lw_m5 23 rfl) rfl
theorem q1096 : (Jvm.Cond.methodLink "FlashZones$Retold" (67 : Nat) ({ cls := "FlashZones$Store", name := "living", desc := "(Z)I" } : Jvm.MethodName)) ∈ lw_all := lw_g (lw_at lw_m5 24 rfl) rfl
theorem q1100 : (Jvm.Cond.methodLink "FlashZones$Retold" (73 : Nat) ({ cls := "FlashZones$Store", name := "free", desc := "()I" } : Jvm.MethodName)) ∈ lw_all := lw_g (lw_at lw_m5 28 rfl) rfl
theorem q1440 : (Jvm.Cond.fieldLinkNest "FlashZones$Retold" (58 : Nat) "FlashZones$Act" "kind" "I" "FlashZones") ∈ lw_tbl := lw_at lw_m6 128 rfl
theorem q2573 : (Jvm.Cond.castable "FlashZones$Retold" "java/lang/Object") ∈ lw_tbl := lw_at lw_m11 61 rfl
theorem in_X11 : ∀ w ∈ wsX110, w ∈ lw_all := lw_in wsX110 [1083, 1085] (by decide +kernel) (by decide +kernel)
