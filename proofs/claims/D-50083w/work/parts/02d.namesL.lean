/-! FlashZonesLaw -/
set_option maxRecDepth 100000
def RX0 : String := "FlashZonesLaw"
abbrev cX0_appendText : ByteArray := method_3_code
def yX0_appendText : MethodName := ⟨RX0, "appendText", "(LFlashZones;I[J)I"⟩
def dkwX0_appendText_0 : List UInt8 := [44, 3, 42, 27, 182, 0, 7, 133, 80, 167, 0, 6, 78, 4, 172, 3, 172]
abbrev dktX0_appendText_0 : List UInt8 := dkwX0_appendText_0 ++ []
theorem dksX0_appendText_0 : cX0_appendText.data.toList.drop 0 = dktX0_appendText_0 := by decide +kernel
theorem dX0_appendText_0 : decode cX0_appendText 0 = .ok (.aload_n 2, 1) := dk_44 (dk_at dksX0_appendText_0 0 rfl rfl)
theorem dX0_appendText_1 : decode cX0_appendText 1 = .ok (.iconst 0, 1) := dk_3 (dk_at dksX0_appendText_0 1 rfl rfl)
theorem dX0_appendText_2 : decode cX0_appendText 2 = .ok (.aload_n 0, 1) := dk_42 (dk_at dksX0_appendText_0 2 rfl rfl)
theorem dX0_appendText_3 : decode cX0_appendText 3 = .ok (.iload_n 1, 1) := dk_27 (dk_at dksX0_appendText_0 3 rfl rfl)
theorem dX0_appendText_4 : decode cX0_appendText 4 = .ok (.invokevirtual 7, 3) := dk_182 0 7 (dk_at dksX0_appendText_0 4 rfl rfl)
theorem dX0_appendText_7 : decode cX0_appendText 7 = .ok (.i2l, 1) := dk_133 (dk_at dksX0_appendText_0 7 rfl rfl)
theorem dX0_appendText_8 : decode cX0_appendText 8 = .ok (.lastore, 1) := dk_80 (dk_at dksX0_appendText_0 8 rfl rfl)
theorem dX0_appendText_9 : decode cX0_appendText 9 = .ok (.goto 6, 3) := dk_167 0 6 (dk_at dksX0_appendText_0 9 rfl rfl)
theorem dX0_appendText_12 : decode cX0_appendText 12 = .ok (.astore_n 3, 1) := dk_78 (dk_at dksX0_appendText_0 12 rfl rfl)
theorem dX0_appendText_13 : decode cX0_appendText 13 = .ok (.iconst 1, 1) := dk_4 (dk_at dksX0_appendText_0 13 rfl rfl)
theorem dX0_appendText_14 : decode cX0_appendText 14 = .ok (.ireturn, 1) := dk_172 (dk_at dksX0_appendText_0 14 rfl rfl)
theorem dX0_appendText_15 : decode cX0_appendText 15 = .ok (.iconst 0, 1) := dk_3 (dk_at dksX0_appendText_0 15 rfl rfl)
theorem dX0_appendText_16 : decode cX0_appendText 16 = .ok (.ireturn, 1) := dk_172 (dk_at dksX0_appendText_0 16 rfl rfl)
abbrev cX0_truncateText : ByteArray := method_4_code
def yX0_truncateText : MethodName := ⟨RX0, "truncateText", "(LFlashZones;I[J)I"⟩
def dkwX0_truncateText_0 : List UInt8 := [44, 3, 42, 27, 182, 0, 15, 133, 80, 167, 0, 6, 78, 4, 172, 3, 172]
abbrev dktX0_truncateText_0 : List UInt8 := dkwX0_truncateText_0 ++ []
theorem dksX0_truncateText_0 : cX0_truncateText.data.toList.drop 0 = dktX0_truncateText_0 := by decide +kernel
theorem dX0_truncateText_0 : decode cX0_truncateText 0 = .ok (.aload_n 2, 1) := dk_44 (dk_at dksX0_truncateText_0 0 rfl rfl)
theorem dX0_truncateText_1 : decode cX0_truncateText 1 = .ok (.iconst 0, 1) := dk_3 (dk_at dksX0_truncateText_0 1 rfl rfl)
theorem dX0_truncateText_2 : decode cX0_truncateText 2 = .ok (.aload_n 0, 1) := dk_42 (dk_at dksX0_truncateText_0 2 rfl rfl)
theorem dX0_truncateText_3 : decode cX0_truncateText 3 = .ok (.iload_n 1, 1) := dk_27 (dk_at dksX0_truncateText_0 3 rfl rfl)
theorem dX0_truncateText_4 : decode cX0_truncateText 4 = .ok (.invokevirtual 15, 3) := dk_182 0 15 (dk_at dksX0_truncateText_0 4 rfl rfl)
theorem dX0_truncateText_7 : decode cX0_truncateText 7 = .ok (.i2l, 1) := dk_133 (dk_at dksX0_truncateText_0 7 rfl rfl)
theorem dX0_truncateText_8 : decode cX0_truncateText 8 = .ok (.lastore, 1) := dk_80 (dk_at dksX0_truncateText_0 8 rfl rfl)
theorem dX0_truncateText_9 : decode cX0_truncateText 9 = .ok (.goto 6, 3) := dk_167 0 6 (dk_at dksX0_truncateText_0 9 rfl rfl)
theorem dX0_truncateText_12 : decode cX0_truncateText 12 = .ok (.astore_n 3, 1) := dk_78 (dk_at dksX0_truncateText_0 12 rfl rfl)
theorem dX0_truncateText_13 : decode cX0_truncateText 13 = .ok (.iconst 1, 1) := dk_4 (dk_at dksX0_truncateText_0 13 rfl rfl)
theorem dX0_truncateText_14 : decode cX0_truncateText 14 = .ok (.ireturn, 1) := dk_172 (dk_at dksX0_truncateText_0 14 rfl rfl)
theorem dX0_truncateText_15 : decode cX0_truncateText 15 = .ok (.iconst 0, 1) := dk_3 (dk_at dksX0_truncateText_0 15 rfl rfl)
theorem dX0_truncateText_16 : decode cX0_truncateText 16 = .ok (.ireturn, 1) := dk_172 (dk_at dksX0_truncateText_0 16 rfl rfl)
abbrev cX0_set : ByteArray := method_5_code
def yX0_set : MethodName := ⟨RX0, "set", "(LFlashZones;II[J)I"⟩
def dkwX0_set_0 : List UInt8 := [45, 3, 42, 27, 28, 182, 0, 20, 133, 80, 167, 0, 11, 58, 4, 4, 172, 58, 4, 5, 172, 3, 172]
abbrev dktX0_set_0 : List UInt8 := dkwX0_set_0 ++ []
theorem dksX0_set_0 : cX0_set.data.toList.drop 0 = dktX0_set_0 := by decide +kernel
theorem dX0_set_0 : decode cX0_set 0 = .ok (.aload_n 3, 1) := dk_45 (dk_at dksX0_set_0 0 rfl rfl)
theorem dX0_set_1 : decode cX0_set 1 = .ok (.iconst 0, 1) := dk_3 (dk_at dksX0_set_0 1 rfl rfl)
theorem dX0_set_2 : decode cX0_set 2 = .ok (.aload_n 0, 1) := dk_42 (dk_at dksX0_set_0 2 rfl rfl)
theorem dX0_set_3 : decode cX0_set 3 = .ok (.iload_n 1, 1) := dk_27 (dk_at dksX0_set_0 3 rfl rfl)
theorem dX0_set_4 : decode cX0_set 4 = .ok (.iload_n 2, 1) := dk_28 (dk_at dksX0_set_0 4 rfl rfl)
theorem dX0_set_5 : decode cX0_set 5 = .ok (.invokevirtual 20, 3) := dk_182 0 20 (dk_at dksX0_set_0 5 rfl rfl)
theorem dX0_set_8 : decode cX0_set 8 = .ok (.i2l, 1) := dk_133 (dk_at dksX0_set_0 8 rfl rfl)
theorem dX0_set_9 : decode cX0_set 9 = .ok (.lastore, 1) := dk_80 (dk_at dksX0_set_0 9 rfl rfl)
theorem dX0_set_10 : decode cX0_set 10 = .ok (.goto 11, 3) := dk_167 0 11 (dk_at dksX0_set_0 10 rfl rfl)
theorem dX0_set_13 : decode cX0_set 13 = .ok (.astore 4, 2) := dk_58 4 (dk_at dksX0_set_0 13 rfl rfl)
theorem dX0_set_15 : decode cX0_set 15 = .ok (.iconst 1, 1) := dk_4 (dk_at dksX0_set_0 15 rfl rfl)
theorem dX0_set_16 : decode cX0_set 16 = .ok (.ireturn, 1) := dk_172 (dk_at dksX0_set_0 16 rfl rfl)
theorem dX0_set_17 : decode cX0_set 17 = .ok (.astore 4, 2) := dk_58 4 (dk_at dksX0_set_0 17 rfl rfl)
theorem dX0_set_19 : decode cX0_set 19 = .ok (.iconst 2, 1) := dk_5 (dk_at dksX0_set_0 19 rfl rfl)
theorem dX0_set_20 : decode cX0_set 20 = .ok (.ireturn, 1) := dk_172 (dk_at dksX0_set_0 20 rfl rfl)
theorem dX0_set_21 : decode cX0_set 21 = .ok (.iconst 0, 1) := dk_3 (dk_at dksX0_set_0 21 rfl rfl)
theorem dX0_set_22 : decode cX0_set 22 = .ok (.ireturn, 1) := dk_172 (dk_at dksX0_set_0 22 rfl rfl)
abbrev cX0_count : ByteArray := method_6_code
def yX0_count : MethodName := ⟨RX0, "count", "(LFlashZones;I[J)I"⟩
def dkwX0_count_0 : List UInt8 := [44, 3, 42, 27, 182, 0, 24, 133, 80, 167, 0, 6, 78, 4, 172, 3, 172]
abbrev dktX0_count_0 : List UInt8 := dkwX0_count_0 ++ []
theorem dksX0_count_0 : cX0_count.data.toList.drop 0 = dktX0_count_0 := by decide +kernel
theorem dX0_count_0 : decode cX0_count 0 = .ok (.aload_n 2, 1) := dk_44 (dk_at dksX0_count_0 0 rfl rfl)
theorem dX0_count_1 : decode cX0_count 1 = .ok (.iconst 0, 1) := dk_3 (dk_at dksX0_count_0 1 rfl rfl)
theorem dX0_count_2 : decode cX0_count 2 = .ok (.aload_n 0, 1) := dk_42 (dk_at dksX0_count_0 2 rfl rfl)
theorem dX0_count_3 : decode cX0_count 3 = .ok (.iload_n 1, 1) := dk_27 (dk_at dksX0_count_0 3 rfl rfl)
theorem dX0_count_4 : decode cX0_count 4 = .ok (.invokevirtual 24, 3) := dk_182 0 24 (dk_at dksX0_count_0 4 rfl rfl)
theorem dX0_count_7 : decode cX0_count 7 = .ok (.i2l, 1) := dk_133 (dk_at dksX0_count_0 7 rfl rfl)
theorem dX0_count_8 : decode cX0_count 8 = .ok (.lastore, 1) := dk_80 (dk_at dksX0_count_0 8 rfl rfl)
theorem dX0_count_9 : decode cX0_count 9 = .ok (.goto 6, 3) := dk_167 0 6 (dk_at dksX0_count_0 9 rfl rfl)
theorem dX0_count_12 : decode cX0_count 12 = .ok (.astore_n 3, 1) := dk_78 (dk_at dksX0_count_0 12 rfl rfl)
theorem dX0_count_13 : decode cX0_count 13 = .ok (.iconst 1, 1) := dk_4 (dk_at dksX0_count_0 13 rfl rfl)
theorem dX0_count_14 : decode cX0_count 14 = .ok (.ireturn, 1) := dk_172 (dk_at dksX0_count_0 14 rfl rfl)
theorem dX0_count_15 : decode cX0_count 15 = .ok (.iconst 0, 1) := dk_3 (dk_at dksX0_count_0 15 rfl rfl)
theorem dX0_count_16 : decode cX0_count 16 = .ok (.ireturn, 1) := dk_172 (dk_at dksX0_count_0 16 rfl rfl)
abbrev cX0_zone : ByteArray := method_7_code
def yX0_zone : MethodName := ⟨RX0, "zone", "(LFlashZones;II[J)I"⟩
def dkwX0_zone_0 : List UInt8 := [45, 3, 42, 27, 28, 182, 0, 27, 133, 80, 167, 0, 11, 58, 4, 4, 172, 58, 4, 5, 172, 3, 172]
abbrev dktX0_zone_0 : List UInt8 := dkwX0_zone_0 ++ []
theorem dksX0_zone_0 : cX0_zone.data.toList.drop 0 = dktX0_zone_0 := by decide +kernel
theorem dX0_zone_0 : decode cX0_zone 0 = .ok (.aload_n 3, 1) := dk_45 (dk_at dksX0_zone_0 0 rfl rfl)
theorem dX0_zone_1 : decode cX0_zone 1 = .ok (.iconst 0, 1) := dk_3 (dk_at dksX0_zone_0 1 rfl rfl)
theorem dX0_zone_2 : decode cX0_zone 2 = .ok (.aload_n 0, 1) := dk_42 (dk_at dksX0_zone_0 2 rfl rfl)
theorem dX0_zone_3 : decode cX0_zone 3 = .ok (.iload_n 1, 1) := dk_27 (dk_at dksX0_zone_0 3 rfl rfl)
theorem dX0_zone_4 : decode cX0_zone 4 = .ok (.iload_n 2, 1) := dk_28 (dk_at dksX0_zone_0 4 rfl rfl)
theorem dX0_zone_5 : decode cX0_zone 5 = .ok (.invokevirtual 27, 3) := dk_182 0 27 (dk_at dksX0_zone_0 5 rfl rfl)
theorem dX0_zone_8 : decode cX0_zone 8 = .ok (.i2l, 1) := dk_133 (dk_at dksX0_zone_0 8 rfl rfl)
theorem dX0_zone_9 : decode cX0_zone 9 = .ok (.lastore, 1) := dk_80 (dk_at dksX0_zone_0 9 rfl rfl)
theorem dX0_zone_10 : decode cX0_zone 10 = .ok (.goto 11, 3) := dk_167 0 11 (dk_at dksX0_zone_0 10 rfl rfl)
theorem dX0_zone_13 : decode cX0_zone 13 = .ok (.astore 4, 2) := dk_58 4 (dk_at dksX0_zone_0 13 rfl rfl)
theorem dX0_zone_15 : decode cX0_zone 15 = .ok (.iconst 1, 1) := dk_4 (dk_at dksX0_zone_0 15 rfl rfl)
theorem dX0_zone_16 : decode cX0_zone 16 = .ok (.ireturn, 1) := dk_172 (dk_at dksX0_zone_0 16 rfl rfl)
theorem dX0_zone_17 : decode cX0_zone 17 = .ok (.astore 4, 2) := dk_58 4 (dk_at dksX0_zone_0 17 rfl rfl)
theorem dX0_zone_19 : decode cX0_zone 19 = .ok (.iconst 2, 1) := dk_5 (dk_at dksX0_zone_0 19 rfl rfl)
theorem dX0_zone_20 : decode cX0_zone 20 = .ok (.ireturn, 1) := dk_172 (dk_at dksX0_zone_0 20 rfl rfl)
theorem dX0_zone_21 : decode cX0_zone 21 = .ok (.iconst 0, 1) := dk_3 (dk_at dksX0_zone_0 21 rfl rfl)
theorem dX0_zone_22 : decode cX0_zone 22 = .ok (.ireturn, 1) := dk_172 (dk_at dksX0_zone_0 22 rfl rfl)
abbrev cX0_unit : ByteArray := method_8_code
def yX0_unit : MethodName := ⟨RX0, "unit", "(LFlashZones;II[J)I"⟩
def dkwX0_unit_0 : List UInt8 := [45, 3, 42, 27, 28, 182, 0, 32, 133, 80, 167, 0, 11, 58, 4, 4, 172, 58, 4, 5, 172, 3, 172]
abbrev dktX0_unit_0 : List UInt8 := dkwX0_unit_0 ++ []
theorem dksX0_unit_0 : cX0_unit.data.toList.drop 0 = dktX0_unit_0 := by decide +kernel
theorem dX0_unit_0 : decode cX0_unit 0 = .ok (.aload_n 3, 1) := dk_45 (dk_at dksX0_unit_0 0 rfl rfl)
theorem dX0_unit_1 : decode cX0_unit 1 = .ok (.iconst 0, 1) := dk_3 (dk_at dksX0_unit_0 1 rfl rfl)
theorem dX0_unit_2 : decode cX0_unit 2 = .ok (.aload_n 0, 1) := dk_42 (dk_at dksX0_unit_0 2 rfl rfl)
theorem dX0_unit_3 : decode cX0_unit 3 = .ok (.iload_n 1, 1) := dk_27 (dk_at dksX0_unit_0 3 rfl rfl)
theorem dX0_unit_4 : decode cX0_unit 4 = .ok (.iload_n 2, 1) := dk_28 (dk_at dksX0_unit_0 4 rfl rfl)
theorem dX0_unit_5 : decode cX0_unit 5 = .ok (.invokevirtual 32, 3) := dk_182 0 32 (dk_at dksX0_unit_0 5 rfl rfl)
theorem dX0_unit_8 : decode cX0_unit 8 = .ok (.i2l, 1) := dk_133 (dk_at dksX0_unit_0 8 rfl rfl)
theorem dX0_unit_9 : decode cX0_unit 9 = .ok (.lastore, 1) := dk_80 (dk_at dksX0_unit_0 9 rfl rfl)
theorem dX0_unit_10 : decode cX0_unit 10 = .ok (.goto 11, 3) := dk_167 0 11 (dk_at dksX0_unit_0 10 rfl rfl)
theorem dX0_unit_13 : decode cX0_unit 13 = .ok (.astore 4, 2) := dk_58 4 (dk_at dksX0_unit_0 13 rfl rfl)
theorem dX0_unit_15 : decode cX0_unit 15 = .ok (.iconst 1, 1) := dk_4 (dk_at dksX0_unit_0 15 rfl rfl)
theorem dX0_unit_16 : decode cX0_unit 16 = .ok (.ireturn, 1) := dk_172 (dk_at dksX0_unit_0 16 rfl rfl)
theorem dX0_unit_17 : decode cX0_unit 17 = .ok (.astore 4, 2) := dk_58 4 (dk_at dksX0_unit_0 17 rfl rfl)
theorem dX0_unit_19 : decode cX0_unit 19 = .ok (.iconst 2, 1) := dk_5 (dk_at dksX0_unit_0 19 rfl rfl)
theorem dX0_unit_20 : decode cX0_unit 20 = .ok (.ireturn, 1) := dk_172 (dk_at dksX0_unit_0 20 rfl rfl)
theorem dX0_unit_21 : decode cX0_unit 21 = .ok (.iconst 0, 1) := dk_3 (dk_at dksX0_unit_0 21 rfl rfl)
theorem dX0_unit_22 : decode cX0_unit 22 = .ok (.ireturn, 1) := dk_172 (dk_at dksX0_unit_0 22 rfl rfl)
abbrev cX0_guesser : ByteArray := method_9_code
def yX0_guesser : MethodName := ⟨RX0, "guesser", "(LFlashZones;II[J)I"⟩
def dkwX0_guesser_0 : List UInt8 := [45, 3, 42, 27, 28, 182, 0, 35, 133, 80, 167, 0, 11, 58, 4, 4, 172, 58, 4, 5, 172, 3, 172]
abbrev dktX0_guesser_0 : List UInt8 := dkwX0_guesser_0 ++ []
theorem dksX0_guesser_0 : cX0_guesser.data.toList.drop 0 = dktX0_guesser_0 := by decide +kernel
theorem dX0_guesser_0 : decode cX0_guesser 0 = .ok (.aload_n 3, 1) := dk_45 (dk_at dksX0_guesser_0 0 rfl rfl)
theorem dX0_guesser_1 : decode cX0_guesser 1 = .ok (.iconst 0, 1) := dk_3 (dk_at dksX0_guesser_0 1 rfl rfl)
theorem dX0_guesser_2 : decode cX0_guesser 2 = .ok (.aload_n 0, 1) := dk_42 (dk_at dksX0_guesser_0 2 rfl rfl)
theorem dX0_guesser_3 : decode cX0_guesser 3 = .ok (.iload_n 1, 1) := dk_27 (dk_at dksX0_guesser_0 3 rfl rfl)
theorem dX0_guesser_4 : decode cX0_guesser 4 = .ok (.iload_n 2, 1) := dk_28 (dk_at dksX0_guesser_0 4 rfl rfl)
theorem dX0_guesser_5 : decode cX0_guesser 5 = .ok (.invokevirtual 35, 3) := dk_182 0 35 (dk_at dksX0_guesser_0 5 rfl rfl)
theorem dX0_guesser_8 : decode cX0_guesser 8 = .ok (.i2l, 1) := dk_133 (dk_at dksX0_guesser_0 8 rfl rfl)
theorem dX0_guesser_9 : decode cX0_guesser 9 = .ok (.lastore, 1) := dk_80 (dk_at dksX0_guesser_0 9 rfl rfl)
theorem dX0_guesser_10 : decode cX0_guesser 10 = .ok (.goto 11, 3) := dk_167 0 11 (dk_at dksX0_guesser_0 10 rfl rfl)
theorem dX0_guesser_13 : decode cX0_guesser 13 = .ok (.astore 4, 2) := dk_58 4 (dk_at dksX0_guesser_0 13 rfl rfl)
theorem dX0_guesser_15 : decode cX0_guesser 15 = .ok (.iconst 1, 1) := dk_4 (dk_at dksX0_guesser_0 15 rfl rfl)
theorem dX0_guesser_16 : decode cX0_guesser 16 = .ok (.ireturn, 1) := dk_172 (dk_at dksX0_guesser_0 16 rfl rfl)
theorem dX0_guesser_17 : decode cX0_guesser 17 = .ok (.astore 4, 2) := dk_58 4 (dk_at dksX0_guesser_0 17 rfl rfl)
theorem dX0_guesser_19 : decode cX0_guesser 19 = .ok (.iconst 2, 1) := dk_5 (dk_at dksX0_guesser_0 19 rfl rfl)
theorem dX0_guesser_20 : decode cX0_guesser 20 = .ok (.ireturn, 1) := dk_172 (dk_at dksX0_guesser_0 20 rfl rfl)
theorem dX0_guesser_21 : decode cX0_guesser 21 = .ok (.iconst 0, 1) := dk_3 (dk_at dksX0_guesser_0 21 rfl rfl)
theorem dX0_guesser_22 : decode cX0_guesser 22 = .ok (.ireturn, 1) := dk_172 (dk_at dksX0_guesser_0 22 rfl rfl)
abbrev cX0_guess : ByteArray := method_10_code
def yX0_guess : MethodName := ⟨RX0, "guess", "(LFlashZones;III[J)I"⟩
def dkwX0_guess_1 : List UInt8 := [172]
abbrev dktX0_guess_1 : List UInt8 := dkwX0_guess_1 ++ []
def dkwX0_guess_0 : List UInt8 := [25, 4, 3, 42, 27, 28, 29, 182, 0, 38, 133, 80, 167, 0, 11, 58, 5, 4, 172, 58, 5, 5, 172, 3]
abbrev dktX0_guess_0 : List UInt8 := dkwX0_guess_0 ++ dktX0_guess_1
theorem dksX0_guess_0 : cX0_guess.data.toList.drop 0 = dktX0_guess_0 := by decide +kernel
theorem dksX0_guess_1 : cX0_guess.data.toList.drop 24 = dktX0_guess_1 := dk_seg dksX0_guess_0 24 rfl rfl
theorem dX0_guess_0 : decode cX0_guess 0 = .ok (.aload 4, 2) := dk_25 4 (dk_at dksX0_guess_0 0 rfl rfl)
theorem dX0_guess_2 : decode cX0_guess 2 = .ok (.iconst 0, 1) := dk_3 (dk_at dksX0_guess_0 2 rfl rfl)
theorem dX0_guess_3 : decode cX0_guess 3 = .ok (.aload_n 0, 1) := dk_42 (dk_at dksX0_guess_0 3 rfl rfl)
theorem dX0_guess_4 : decode cX0_guess 4 = .ok (.iload_n 1, 1) := dk_27 (dk_at dksX0_guess_0 4 rfl rfl)
theorem dX0_guess_5 : decode cX0_guess 5 = .ok (.iload_n 2, 1) := dk_28 (dk_at dksX0_guess_0 5 rfl rfl)
theorem dX0_guess_6 : decode cX0_guess 6 = .ok (.iload_n 3, 1) := dk_29 (dk_at dksX0_guess_0 6 rfl rfl)
theorem dX0_guess_7 : decode cX0_guess 7 = .ok (.invokevirtual 38, 3) := dk_182 0 38 (dk_at dksX0_guess_0 7 rfl rfl)
theorem dX0_guess_10 : decode cX0_guess 10 = .ok (.i2l, 1) := dk_133 (dk_at dksX0_guess_0 10 rfl rfl)
theorem dX0_guess_11 : decode cX0_guess 11 = .ok (.lastore, 1) := dk_80 (dk_at dksX0_guess_0 11 rfl rfl)
theorem dX0_guess_12 : decode cX0_guess 12 = .ok (.goto 11, 3) := dk_167 0 11 (dk_at dksX0_guess_0 12 rfl rfl)
theorem dX0_guess_15 : decode cX0_guess 15 = .ok (.astore 5, 2) := dk_58 5 (dk_at dksX0_guess_0 15 rfl rfl)
theorem dX0_guess_17 : decode cX0_guess 17 = .ok (.iconst 1, 1) := dk_4 (dk_at dksX0_guess_0 17 rfl rfl)
theorem dX0_guess_18 : decode cX0_guess 18 = .ok (.ireturn, 1) := dk_172 (dk_at dksX0_guess_0 18 rfl rfl)
theorem dX0_guess_19 : decode cX0_guess 19 = .ok (.astore 5, 2) := dk_58 5 (dk_at dksX0_guess_0 19 rfl rfl)
theorem dX0_guess_21 : decode cX0_guess 21 = .ok (.iconst 2, 1) := dk_5 (dk_at dksX0_guess_0 21 rfl rfl)
theorem dX0_guess_22 : decode cX0_guess 22 = .ok (.ireturn, 1) := dk_172 (dk_at dksX0_guess_0 22 rfl rfl)
theorem dX0_guess_23 : decode cX0_guess 23 = .ok (.iconst 0, 1) := dk_3 (dk_at dksX0_guess_0 23 rfl rfl)
theorem dX0_guess_24 : decode cX0_guess 24 = .ok (.ireturn, 1) := dk_172 (dk_at dksX0_guess_1 0 rfl rfl)
abbrev cX0_share : ByteArray := method_11_code
def yX0_share : MethodName := ⟨RX0, "share", "(LFlashZones;I[D)I"⟩
def dkwX0_share_0 : List UInt8 := [44, 3, 42, 27, 182, 0, 42, 82, 167, 0, 6, 78, 4, 172, 3, 172]
abbrev dktX0_share_0 : List UInt8 := dkwX0_share_0 ++ []
theorem dksX0_share_0 : cX0_share.data.toList.drop 0 = dktX0_share_0 := by decide +kernel
theorem dX0_share_0 : decode cX0_share 0 = .ok (.aload_n 2, 1) := dk_44 (dk_at dksX0_share_0 0 rfl rfl)
theorem dX0_share_1 : decode cX0_share 1 = .ok (.iconst 0, 1) := dk_3 (dk_at dksX0_share_0 1 rfl rfl)
theorem dX0_share_2 : decode cX0_share 2 = .ok (.aload_n 0, 1) := dk_42 (dk_at dksX0_share_0 2 rfl rfl)
theorem dX0_share_3 : decode cX0_share 3 = .ok (.iload_n 1, 1) := dk_27 (dk_at dksX0_share_0 3 rfl rfl)
theorem dX0_share_4 : decode cX0_share 4 = .ok (.invokevirtual 42, 3) := dk_182 0 42 (dk_at dksX0_share_0 4 rfl rfl)
theorem dX0_share_7 : decode cX0_share 7 = .ok (.dastore, 1) := dk_82 (dk_at dksX0_share_0 7 rfl rfl)
theorem dX0_share_8 : decode cX0_share 8 = .ok (.goto 6, 3) := dk_167 0 6 (dk_at dksX0_share_0 8 rfl rfl)
theorem dX0_share_11 : decode cX0_share 11 = .ok (.astore_n 3, 1) := dk_78 (dk_at dksX0_share_0 11 rfl rfl)
theorem dX0_share_12 : decode cX0_share 12 = .ok (.iconst 1, 1) := dk_4 (dk_at dksX0_share_0 12 rfl rfl)
theorem dX0_share_13 : decode cX0_share 13 = .ok (.ireturn, 1) := dk_172 (dk_at dksX0_share_0 13 rfl rfl)
theorem dX0_share_14 : decode cX0_share 14 = .ok (.iconst 0, 1) := dk_3 (dk_at dksX0_share_0 14 rfl rfl)
theorem dX0_share_15 : decode cX0_share 15 = .ok (.ireturn, 1) := dk_172 (dk_at dksX0_share_0 15 rfl rfl)
abbrev cX0_account : ByteArray := method_12_code
def yX0_account : MethodName := ⟨RX0, "account", "(LFlashZones;I[J)I"⟩
def dkwX0_account_0 : List UInt8 := [44, 3, 42, 27, 182, 0, 46, 133, 80, 167, 0, 6, 78, 4, 172, 3, 172]
abbrev dktX0_account_0 : List UInt8 := dkwX0_account_0 ++ []
theorem dksX0_account_0 : cX0_account.data.toList.drop 0 = dktX0_account_0 := by decide +kernel
theorem dX0_account_0 : decode cX0_account 0 = .ok (.aload_n 2, 1) := dk_44 (dk_at dksX0_account_0 0 rfl rfl)
theorem dX0_account_1 : decode cX0_account 1 = .ok (.iconst 0, 1) := dk_3 (dk_at dksX0_account_0 1 rfl rfl)
theorem dX0_account_2 : decode cX0_account 2 = .ok (.aload_n 0, 1) := dk_42 (dk_at dksX0_account_0 2 rfl rfl)
theorem dX0_account_3 : decode cX0_account 3 = .ok (.iload_n 1, 1) := dk_27 (dk_at dksX0_account_0 3 rfl rfl)
theorem dX0_account_4 : decode cX0_account 4 = .ok (.invokevirtual 46, 3) := dk_182 0 46 (dk_at dksX0_account_0 4 rfl rfl)
theorem dX0_account_7 : decode cX0_account 7 = .ok (.i2l, 1) := dk_133 (dk_at dksX0_account_0 7 rfl rfl)
theorem dX0_account_8 : decode cX0_account 8 = .ok (.lastore, 1) := dk_80 (dk_at dksX0_account_0 8 rfl rfl)
theorem dX0_account_9 : decode cX0_account 9 = .ok (.goto 6, 3) := dk_167 0 6 (dk_at dksX0_account_0 9 rfl rfl)
theorem dX0_account_12 : decode cX0_account 12 = .ok (.astore_n 3, 1) := dk_78 (dk_at dksX0_account_0 12 rfl rfl)
theorem dX0_account_13 : decode cX0_account 13 = .ok (.iconst 1, 1) := dk_4 (dk_at dksX0_account_0 13 rfl rfl)
theorem dX0_account_14 : decode cX0_account 14 = .ok (.ireturn, 1) := dk_172 (dk_at dksX0_account_0 14 rfl rfl)
theorem dX0_account_15 : decode cX0_account 15 = .ok (.iconst 0, 1) := dk_3 (dk_at dksX0_account_0 15 rfl rfl)
theorem dX0_account_16 : decode cX0_account 16 = .ok (.ireturn, 1) := dk_172 (dk_at dksX0_account_0 16 rfl rfl)
abbrev cX0_writer : ByteArray := method_13_code
def yX0_writer : MethodName := ⟨RX0, "writer", "(LFlashZones;II[J)I"⟩
def dkwX0_writer_0 : List UInt8 := [45, 3, 42, 27, 28, 182, 0, 49, 133, 80, 167, 0, 11, 58, 4, 4, 172, 58, 4, 5, 172, 3, 172]
abbrev dktX0_writer_0 : List UInt8 := dkwX0_writer_0 ++ []
theorem dksX0_writer_0 : cX0_writer.data.toList.drop 0 = dktX0_writer_0 := by decide +kernel
theorem dX0_writer_0 : decode cX0_writer 0 = .ok (.aload_n 3, 1) := dk_45 (dk_at dksX0_writer_0 0 rfl rfl)
theorem dX0_writer_1 : decode cX0_writer 1 = .ok (.iconst 0, 1) := dk_3 (dk_at dksX0_writer_0 1 rfl rfl)
theorem dX0_writer_2 : decode cX0_writer 2 = .ok (.aload_n 0, 1) := dk_42 (dk_at dksX0_writer_0 2 rfl rfl)
theorem dX0_writer_3 : decode cX0_writer 3 = .ok (.iload_n 1, 1) := dk_27 (dk_at dksX0_writer_0 3 rfl rfl)
theorem dX0_writer_4 : decode cX0_writer 4 = .ok (.iload_n 2, 1) := dk_28 (dk_at dksX0_writer_0 4 rfl rfl)
theorem dX0_writer_5 : decode cX0_writer 5 = .ok (.invokevirtual 49, 3) := dk_182 0 49 (dk_at dksX0_writer_0 5 rfl rfl)
theorem dX0_writer_8 : decode cX0_writer 8 = .ok (.i2l, 1) := dk_133 (dk_at dksX0_writer_0 8 rfl rfl)
theorem dX0_writer_9 : decode cX0_writer 9 = .ok (.lastore, 1) := dk_80 (dk_at dksX0_writer_0 9 rfl rfl)
theorem dX0_writer_10 : decode cX0_writer 10 = .ok (.goto 11, 3) := dk_167 0 11 (dk_at dksX0_writer_0 10 rfl rfl)
theorem dX0_writer_13 : decode cX0_writer 13 = .ok (.astore 4, 2) := dk_58 4 (dk_at dksX0_writer_0 13 rfl rfl)
theorem dX0_writer_15 : decode cX0_writer 15 = .ok (.iconst 1, 1) := dk_4 (dk_at dksX0_writer_0 15 rfl rfl)
theorem dX0_writer_16 : decode cX0_writer 16 = .ok (.ireturn, 1) := dk_172 (dk_at dksX0_writer_0 16 rfl rfl)
theorem dX0_writer_17 : decode cX0_writer 17 = .ok (.astore 4, 2) := dk_58 4 (dk_at dksX0_writer_0 17 rfl rfl)
theorem dX0_writer_19 : decode cX0_writer 19 = .ok (.iconst 2, 1) := dk_5 (dk_at dksX0_writer_0 19 rfl rfl)
theorem dX0_writer_20 : decode cX0_writer 20 = .ok (.ireturn, 1) := dk_172 (dk_at dksX0_writer_0 20 rfl rfl)
theorem dX0_writer_21 : decode cX0_writer 21 = .ok (.iconst 0, 1) := dk_3 (dk_at dksX0_writer_0 21 rfl rfl)
theorem dX0_writer_22 : decode cX0_writer 22 = .ok (.ireturn, 1) := dk_172 (dk_at dksX0_writer_0 22 rfl rfl)
abbrev cX0_late : ByteArray := method_14_code
def yX0_late : MethodName := ⟨RX0, "late", "(LFlashZones;I[J)I"⟩
def dkwX0_late_0 : List UInt8 := [44, 3, 42, 27, 182, 0, 52, 133, 80, 167, 0, 6, 78, 4, 172, 3, 172]
abbrev dktX0_late_0 : List UInt8 := dkwX0_late_0 ++ []
theorem dksX0_late_0 : cX0_late.data.toList.drop 0 = dktX0_late_0 := by decide +kernel
theorem dX0_late_0 : decode cX0_late 0 = .ok (.aload_n 2, 1) := dk_44 (dk_at dksX0_late_0 0 rfl rfl)
theorem dX0_late_1 : decode cX0_late 1 = .ok (.iconst 0, 1) := dk_3 (dk_at dksX0_late_0 1 rfl rfl)
theorem dX0_late_2 : decode cX0_late 2 = .ok (.aload_n 0, 1) := dk_42 (dk_at dksX0_late_0 2 rfl rfl)
theorem dX0_late_3 : decode cX0_late 3 = .ok (.iload_n 1, 1) := dk_27 (dk_at dksX0_late_0 3 rfl rfl)
theorem dX0_late_4 : decode cX0_late 4 = .ok (.invokevirtual 52, 3) := dk_182 0 52 (dk_at dksX0_late_0 4 rfl rfl)
theorem dX0_late_7 : decode cX0_late 7 = .ok (.i2l, 1) := dk_133 (dk_at dksX0_late_0 7 rfl rfl)
theorem dX0_late_8 : decode cX0_late 8 = .ok (.lastore, 1) := dk_80 (dk_at dksX0_late_0 8 rfl rfl)
theorem dX0_late_9 : decode cX0_late 9 = .ok (.goto 6, 3) := dk_167 0 6 (dk_at dksX0_late_0 9 rfl rfl)
theorem dX0_late_12 : decode cX0_late 12 = .ok (.astore_n 3, 1) := dk_78 (dk_at dksX0_late_0 12 rfl rfl)
theorem dX0_late_13 : decode cX0_late 13 = .ok (.iconst 1, 1) := dk_4 (dk_at dksX0_late_0 13 rfl rfl)
theorem dX0_late_14 : decode cX0_late 14 = .ok (.ireturn, 1) := dk_172 (dk_at dksX0_late_0 14 rfl rfl)
theorem dX0_late_15 : decode cX0_late 15 = .ok (.iconst 0, 1) := dk_3 (dk_at dksX0_late_0 15 rfl rfl)
theorem dX0_late_16 : decode cX0_late 16 = .ok (.ireturn, 1) := dk_172 (dk_at dksX0_late_0 16 rfl rfl)
abbrev cX0_inZone : ByteArray := method_15_code
def yX0_inZone : MethodName := ⟨RX0, "inZone", "(LFlashZones;II[J)I"⟩
def dkwX0_inZone_0 : List UInt8 := [45, 3, 42, 27, 28, 182, 0, 55, 133, 80, 167, 0, 7, 58, 4, 4, 172, 3, 172]
abbrev dktX0_inZone_0 : List UInt8 := dkwX0_inZone_0 ++ []
theorem dksX0_inZone_0 : cX0_inZone.data.toList.drop 0 = dktX0_inZone_0 := by decide +kernel
theorem dX0_inZone_0 : decode cX0_inZone 0 = .ok (.aload_n 3, 1) := dk_45 (dk_at dksX0_inZone_0 0 rfl rfl)
theorem dX0_inZone_1 : decode cX0_inZone 1 = .ok (.iconst 0, 1) := dk_3 (dk_at dksX0_inZone_0 1 rfl rfl)
theorem dX0_inZone_2 : decode cX0_inZone 2 = .ok (.aload_n 0, 1) := dk_42 (dk_at dksX0_inZone_0 2 rfl rfl)
theorem dX0_inZone_3 : decode cX0_inZone 3 = .ok (.iload_n 1, 1) := dk_27 (dk_at dksX0_inZone_0 3 rfl rfl)
theorem dX0_inZone_4 : decode cX0_inZone 4 = .ok (.iload_n 2, 1) := dk_28 (dk_at dksX0_inZone_0 4 rfl rfl)
theorem dX0_inZone_5 : decode cX0_inZone 5 = .ok (.invokevirtual 55, 3) := dk_182 0 55 (dk_at dksX0_inZone_0 5 rfl rfl)
theorem dX0_inZone_8 : decode cX0_inZone 8 = .ok (.i2l, 1) := dk_133 (dk_at dksX0_inZone_0 8 rfl rfl)
theorem dX0_inZone_9 : decode cX0_inZone 9 = .ok (.lastore, 1) := dk_80 (dk_at dksX0_inZone_0 9 rfl rfl)
theorem dX0_inZone_10 : decode cX0_inZone 10 = .ok (.goto 7, 3) := dk_167 0 7 (dk_at dksX0_inZone_0 10 rfl rfl)
theorem dX0_inZone_13 : decode cX0_inZone 13 = .ok (.astore 4, 2) := dk_58 4 (dk_at dksX0_inZone_0 13 rfl rfl)
theorem dX0_inZone_15 : decode cX0_inZone 15 = .ok (.iconst 1, 1) := dk_4 (dk_at dksX0_inZone_0 15 rfl rfl)
theorem dX0_inZone_16 : decode cX0_inZone 16 = .ok (.ireturn, 1) := dk_172 (dk_at dksX0_inZone_0 16 rfl rfl)
theorem dX0_inZone_17 : decode cX0_inZone 17 = .ok (.iconst 0, 1) := dk_3 (dk_at dksX0_inZone_0 17 rfl rfl)
theorem dX0_inZone_18 : decode cX0_inZone 18 = .ok (.ireturn, 1) := dk_172 (dk_at dksX0_inZone_0 18 rfl rfl)
abbrev cX0_due : ByteArray := method_16_code
def yX0_due : MethodName := ⟨RX0, "due", "(LFlashZones;I[J)I"⟩
def dkwX0_due_0 : List UInt8 := [44, 3, 42, 27, 182, 0, 58, 133, 80, 167, 0, 6, 78, 4, 172, 3, 172]
abbrev dktX0_due_0 : List UInt8 := dkwX0_due_0 ++ []
theorem dksX0_due_0 : cX0_due.data.toList.drop 0 = dktX0_due_0 := by decide +kernel
theorem dX0_due_0 : decode cX0_due 0 = .ok (.aload_n 2, 1) := dk_44 (dk_at dksX0_due_0 0 rfl rfl)
theorem dX0_due_1 : decode cX0_due 1 = .ok (.iconst 0, 1) := dk_3 (dk_at dksX0_due_0 1 rfl rfl)
theorem dX0_due_2 : decode cX0_due 2 = .ok (.aload_n 0, 1) := dk_42 (dk_at dksX0_due_0 2 rfl rfl)
theorem dX0_due_3 : decode cX0_due 3 = .ok (.iload_n 1, 1) := dk_27 (dk_at dksX0_due_0 3 rfl rfl)
theorem dX0_due_4 : decode cX0_due 4 = .ok (.invokevirtual 58, 3) := dk_182 0 58 (dk_at dksX0_due_0 4 rfl rfl)
theorem dX0_due_7 : decode cX0_due 7 = .ok (.i2l, 1) := dk_133 (dk_at dksX0_due_0 7 rfl rfl)
theorem dX0_due_8 : decode cX0_due 8 = .ok (.lastore, 1) := dk_80 (dk_at dksX0_due_0 8 rfl rfl)
theorem dX0_due_9 : decode cX0_due 9 = .ok (.goto 6, 3) := dk_167 0 6 (dk_at dksX0_due_0 9 rfl rfl)
theorem dX0_due_12 : decode cX0_due 12 = .ok (.astore_n 3, 1) := dk_78 (dk_at dksX0_due_0 12 rfl rfl)
theorem dX0_due_13 : decode cX0_due 13 = .ok (.iconst 1, 1) := dk_4 (dk_at dksX0_due_0 13 rfl rfl)
theorem dX0_due_14 : decode cX0_due 14 = .ok (.ireturn, 1) := dk_172 (dk_at dksX0_due_0 14 rfl rfl)
theorem dX0_due_15 : decode cX0_due 15 = .ok (.iconst 0, 1) := dk_3 (dk_at dksX0_due_0 15 rfl rfl)
theorem dX0_due_16 : decode cX0_due 16 = .ok (.ireturn, 1) := dk_172 (dk_at dksX0_due_0 16 rfl rfl)
abbrev cX0_wear : ByteArray := method_17_code
def yX0_wear : MethodName := ⟨RX0, "wear", "(LFlashZones;I[J)I"⟩
def dkwX0_wear_0 : List UInt8 := [44, 3, 42, 27, 182, 0, 61, 133, 80, 167, 0, 6, 78, 4, 172, 3, 172]
abbrev dktX0_wear_0 : List UInt8 := dkwX0_wear_0 ++ []
theorem dksX0_wear_0 : cX0_wear.data.toList.drop 0 = dktX0_wear_0 := by decide +kernel
theorem dX0_wear_0 : decode cX0_wear 0 = .ok (.aload_n 2, 1) := dk_44 (dk_at dksX0_wear_0 0 rfl rfl)
theorem dX0_wear_1 : decode cX0_wear 1 = .ok (.iconst 0, 1) := dk_3 (dk_at dksX0_wear_0 1 rfl rfl)
theorem dX0_wear_2 : decode cX0_wear 2 = .ok (.aload_n 0, 1) := dk_42 (dk_at dksX0_wear_0 2 rfl rfl)
theorem dX0_wear_3 : decode cX0_wear 3 = .ok (.iload_n 1, 1) := dk_27 (dk_at dksX0_wear_0 3 rfl rfl)
theorem dX0_wear_4 : decode cX0_wear 4 = .ok (.invokevirtual 61, 3) := dk_182 0 61 (dk_at dksX0_wear_0 4 rfl rfl)
theorem dX0_wear_7 : decode cX0_wear 7 = .ok (.i2l, 1) := dk_133 (dk_at dksX0_wear_0 7 rfl rfl)
theorem dX0_wear_8 : decode cX0_wear 8 = .ok (.lastore, 1) := dk_80 (dk_at dksX0_wear_0 8 rfl rfl)
theorem dX0_wear_9 : decode cX0_wear 9 = .ok (.goto 6, 3) := dk_167 0 6 (dk_at dksX0_wear_0 9 rfl rfl)
theorem dX0_wear_12 : decode cX0_wear 12 = .ok (.astore_n 3, 1) := dk_78 (dk_at dksX0_wear_0 12 rfl rfl)
theorem dX0_wear_13 : decode cX0_wear 13 = .ok (.iconst 1, 1) := dk_4 (dk_at dksX0_wear_0 13 rfl rfl)
theorem dX0_wear_14 : decode cX0_wear 14 = .ok (.ireturn, 1) := dk_172 (dk_at dksX0_wear_0 14 rfl rfl)
theorem dX0_wear_15 : decode cX0_wear 15 = .ok (.iconst 0, 1) := dk_3 (dk_at dksX0_wear_0 15 rfl rfl)
theorem dX0_wear_16 : decode cX0_wear 16 = .ok (.ireturn, 1) := dk_172 (dk_at dksX0_wear_0 16 rfl rfl)
abbrev cX0_bin : ByteArray := method_18_code
def yX0_bin : MethodName := ⟨RX0, "bin", "(LFlashZones;II[J)I"⟩
def dkwX0_bin_0 : List UInt8 := [45, 3, 42, 27, 28, 182, 0, 64, 133, 80, 167, 0, 7, 58, 4, 4, 172, 3, 172]
abbrev dktX0_bin_0 : List UInt8 := dkwX0_bin_0 ++ []
theorem dksX0_bin_0 : cX0_bin.data.toList.drop 0 = dktX0_bin_0 := by decide +kernel
theorem dX0_bin_0 : decode cX0_bin 0 = .ok (.aload_n 3, 1) := dk_45 (dk_at dksX0_bin_0 0 rfl rfl)
theorem dX0_bin_1 : decode cX0_bin 1 = .ok (.iconst 0, 1) := dk_3 (dk_at dksX0_bin_0 1 rfl rfl)
theorem dX0_bin_2 : decode cX0_bin 2 = .ok (.aload_n 0, 1) := dk_42 (dk_at dksX0_bin_0 2 rfl rfl)
theorem dX0_bin_3 : decode cX0_bin 3 = .ok (.iload_n 1, 1) := dk_27 (dk_at dksX0_bin_0 3 rfl rfl)
theorem dX0_bin_4 : decode cX0_bin 4 = .ok (.iload_n 2, 1) := dk_28 (dk_at dksX0_bin_0 4 rfl rfl)
theorem dX0_bin_5 : decode cX0_bin 5 = .ok (.invokevirtual 64, 3) := dk_182 0 64 (dk_at dksX0_bin_0 5 rfl rfl)
theorem dX0_bin_8 : decode cX0_bin 8 = .ok (.i2l, 1) := dk_133 (dk_at dksX0_bin_0 8 rfl rfl)
theorem dX0_bin_9 : decode cX0_bin 9 = .ok (.lastore, 1) := dk_80 (dk_at dksX0_bin_0 9 rfl rfl)
theorem dX0_bin_10 : decode cX0_bin 10 = .ok (.goto 7, 3) := dk_167 0 7 (dk_at dksX0_bin_0 10 rfl rfl)
theorem dX0_bin_13 : decode cX0_bin 13 = .ok (.astore 4, 2) := dk_58 4 (dk_at dksX0_bin_0 13 rfl rfl)
theorem dX0_bin_15 : decode cX0_bin 15 = .ok (.iconst 1, 1) := dk_4 (dk_at dksX0_bin_0 15 rfl rfl)
theorem dX0_bin_16 : decode cX0_bin 16 = .ok (.ireturn, 1) := dk_172 (dk_at dksX0_bin_0 16 rfl rfl)
theorem dX0_bin_17 : decode cX0_bin 17 = .ok (.iconst 0, 1) := dk_3 (dk_at dksX0_bin_0 17 rfl rfl)
theorem dX0_bin_18 : decode cX0_bin 18 = .ok (.ireturn, 1) := dk_172 (dk_at dksX0_bin_0 18 rfl rfl)
abbrev cX0_expected : ByteArray := method_19_code
def yX0_expected : MethodName := ⟨RX0, "expected", "(LFlashZones;II[J)I"⟩
def dkwX0_expected_0 : List UInt8 := [45, 3, 42, 27, 28, 182, 0, 67, 133, 80, 167, 0, 7, 58, 4, 4, 172, 3, 172]
abbrev dktX0_expected_0 : List UInt8 := dkwX0_expected_0 ++ []
theorem dksX0_expected_0 : cX0_expected.data.toList.drop 0 = dktX0_expected_0 := by decide +kernel
theorem dX0_expected_0 : decode cX0_expected 0 = .ok (.aload_n 3, 1) := dk_45 (dk_at dksX0_expected_0 0 rfl rfl)
theorem dX0_expected_1 : decode cX0_expected 1 = .ok (.iconst 0, 1) := dk_3 (dk_at dksX0_expected_0 1 rfl rfl)
theorem dX0_expected_2 : decode cX0_expected 2 = .ok (.aload_n 0, 1) := dk_42 (dk_at dksX0_expected_0 2 rfl rfl)
theorem dX0_expected_3 : decode cX0_expected 3 = .ok (.iload_n 1, 1) := dk_27 (dk_at dksX0_expected_0 3 rfl rfl)
theorem dX0_expected_4 : decode cX0_expected 4 = .ok (.iload_n 2, 1) := dk_28 (dk_at dksX0_expected_0 4 rfl rfl)
theorem dX0_expected_5 : decode cX0_expected 5 = .ok (.invokevirtual 67, 3) := dk_182 0 67 (dk_at dksX0_expected_0 5 rfl rfl)
theorem dX0_expected_8 : decode cX0_expected 8 = .ok (.i2l, 1) := dk_133 (dk_at dksX0_expected_0 8 rfl rfl)
theorem dX0_expected_9 : decode cX0_expected 9 = .ok (.lastore, 1) := dk_80 (dk_at dksX0_expected_0 9 rfl rfl)
theorem dX0_expected_10 : decode cX0_expected 10 = .ok (.goto 7, 3) := dk_167 0 7 (dk_at dksX0_expected_0 10 rfl rfl)
theorem dX0_expected_13 : decode cX0_expected 13 = .ok (.astore 4, 2) := dk_58 4 (dk_at dksX0_expected_0 13 rfl rfl)
theorem dX0_expected_15 : decode cX0_expected 15 = .ok (.iconst 1, 1) := dk_4 (dk_at dksX0_expected_0 15 rfl rfl)
theorem dX0_expected_16 : decode cX0_expected 16 = .ok (.ireturn, 1) := dk_172 (dk_at dksX0_expected_0 16 rfl rfl)
theorem dX0_expected_17 : decode cX0_expected 17 = .ok (.iconst 0, 1) := dk_3 (dk_at dksX0_expected_0 17 rfl rfl)
theorem dX0_expected_18 : decode cX0_expected 18 = .ok (.ireturn, 1) := dk_172 (dk_at dksX0_expected_0 18 rfl rfl)
abbrev cX0_leaderIf : ByteArray := method_20_code
def yX0_leaderIf : MethodName := ⟨RX0, "leaderIf", "(LFlashZones;I[J)I"⟩
def dkwX0_leaderIf_0 : List UInt8 := [44, 3, 42, 27, 182, 0, 70, 133, 80, 167, 0, 6, 78, 4, 172, 3, 172]
abbrev dktX0_leaderIf_0 : List UInt8 := dkwX0_leaderIf_0 ++ []
theorem dksX0_leaderIf_0 : cX0_leaderIf.data.toList.drop 0 = dktX0_leaderIf_0 := by decide +kernel
theorem dX0_leaderIf_0 : decode cX0_leaderIf 0 = .ok (.aload_n 2, 1) := dk_44 (dk_at dksX0_leaderIf_0 0 rfl rfl)
theorem dX0_leaderIf_1 : decode cX0_leaderIf 1 = .ok (.iconst 0, 1) := dk_3 (dk_at dksX0_leaderIf_0 1 rfl rfl)
theorem dX0_leaderIf_2 : decode cX0_leaderIf 2 = .ok (.aload_n 0, 1) := dk_42 (dk_at dksX0_leaderIf_0 2 rfl rfl)
theorem dX0_leaderIf_3 : decode cX0_leaderIf 3 = .ok (.iload_n 1, 1) := dk_27 (dk_at dksX0_leaderIf_0 3 rfl rfl)
theorem dX0_leaderIf_4 : decode cX0_leaderIf 4 = .ok (.invokevirtual 70, 3) := dk_182 0 70 (dk_at dksX0_leaderIf_0 4 rfl rfl)
theorem dX0_leaderIf_7 : decode cX0_leaderIf 7 = .ok (.i2l, 1) := dk_133 (dk_at dksX0_leaderIf_0 7 rfl rfl)
theorem dX0_leaderIf_8 : decode cX0_leaderIf 8 = .ok (.lastore, 1) := dk_80 (dk_at dksX0_leaderIf_0 8 rfl rfl)
theorem dX0_leaderIf_9 : decode cX0_leaderIf 9 = .ok (.goto 6, 3) := dk_167 0 6 (dk_at dksX0_leaderIf_0 9 rfl rfl)
theorem dX0_leaderIf_12 : decode cX0_leaderIf 12 = .ok (.astore_n 3, 1) := dk_78 (dk_at dksX0_leaderIf_0 12 rfl rfl)
theorem dX0_leaderIf_13 : decode cX0_leaderIf 13 = .ok (.iconst 1, 1) := dk_4 (dk_at dksX0_leaderIf_0 13 rfl rfl)
theorem dX0_leaderIf_14 : decode cX0_leaderIf 14 = .ok (.ireturn, 1) := dk_172 (dk_at dksX0_leaderIf_0 14 rfl rfl)
theorem dX0_leaderIf_15 : decode cX0_leaderIf 15 = .ok (.iconst 0, 1) := dk_3 (dk_at dksX0_leaderIf_0 15 rfl rfl)
theorem dX0_leaderIf_16 : decode cX0_leaderIf 16 = .ok (.ireturn, 1) := dk_172 (dk_at dksX0_leaderIf_0 16 rfl rfl)
abbrev cX0_write : ByteArray := method_21_code
def yX0_write : MethodName := ⟨RX0, "write", "(LFlashZones;III[J)I"⟩
def dkwX0_write_0 : List UInt8 := [25, 4, 3, 42, 27, 28, 29, 182, 0, 73, 133, 80, 167, 0, 7, 58, 5, 4, 172, 3, 172]
abbrev dktX0_write_0 : List UInt8 := dkwX0_write_0 ++ []
theorem dksX0_write_0 : cX0_write.data.toList.drop 0 = dktX0_write_0 := by decide +kernel
theorem dX0_write_0 : decode cX0_write 0 = .ok (.aload 4, 2) := dk_25 4 (dk_at dksX0_write_0 0 rfl rfl)
theorem dX0_write_2 : decode cX0_write 2 = .ok (.iconst 0, 1) := dk_3 (dk_at dksX0_write_0 2 rfl rfl)
theorem dX0_write_3 : decode cX0_write 3 = .ok (.aload_n 0, 1) := dk_42 (dk_at dksX0_write_0 3 rfl rfl)
theorem dX0_write_4 : decode cX0_write 4 = .ok (.iload_n 1, 1) := dk_27 (dk_at dksX0_write_0 4 rfl rfl)
theorem dX0_write_5 : decode cX0_write 5 = .ok (.iload_n 2, 1) := dk_28 (dk_at dksX0_write_0 5 rfl rfl)
theorem dX0_write_6 : decode cX0_write 6 = .ok (.iload_n 3, 1) := dk_29 (dk_at dksX0_write_0 6 rfl rfl)
theorem dX0_write_7 : decode cX0_write 7 = .ok (.invokevirtual 73, 3) := dk_182 0 73 (dk_at dksX0_write_0 7 rfl rfl)
theorem dX0_write_10 : decode cX0_write 10 = .ok (.i2l, 1) := dk_133 (dk_at dksX0_write_0 10 rfl rfl)
theorem dX0_write_11 : decode cX0_write 11 = .ok (.lastore, 1) := dk_80 (dk_at dksX0_write_0 11 rfl rfl)
theorem dX0_write_12 : decode cX0_write 12 = .ok (.goto 7, 3) := dk_167 0 7 (dk_at dksX0_write_0 12 rfl rfl)
theorem dX0_write_15 : decode cX0_write 15 = .ok (.astore 5, 2) := dk_58 5 (dk_at dksX0_write_0 15 rfl rfl)
theorem dX0_write_17 : decode cX0_write 17 = .ok (.iconst 1, 1) := dk_4 (dk_at dksX0_write_0 17 rfl rfl)
theorem dX0_write_18 : decode cX0_write 18 = .ok (.ireturn, 1) := dk_172 (dk_at dksX0_write_0 18 rfl rfl)
theorem dX0_write_19 : decode cX0_write 19 = .ok (.iconst 0, 1) := dk_3 (dk_at dksX0_write_0 19 rfl rfl)
theorem dX0_write_20 : decode cX0_write 20 = .ok (.ireturn, 1) := dk_172 (dk_at dksX0_write_0 20 rfl rfl)
abbrev cX0_die : ByteArray := method_22_code
def yX0_die : MethodName := ⟨RX0, "die", "(LFlashZones;I[J)I"⟩
def dkwX0_die_0 : List UInt8 := [44, 3, 42, 27, 182, 0, 76, 133, 80, 167, 0, 6, 78, 4, 172, 3, 172]
abbrev dktX0_die_0 : List UInt8 := dkwX0_die_0 ++ []
theorem dksX0_die_0 : cX0_die.data.toList.drop 0 = dktX0_die_0 := by decide +kernel
theorem dX0_die_0 : decode cX0_die 0 = .ok (.aload_n 2, 1) := dk_44 (dk_at dksX0_die_0 0 rfl rfl)
theorem dX0_die_1 : decode cX0_die 1 = .ok (.iconst 0, 1) := dk_3 (dk_at dksX0_die_0 1 rfl rfl)
theorem dX0_die_2 : decode cX0_die 2 = .ok (.aload_n 0, 1) := dk_42 (dk_at dksX0_die_0 2 rfl rfl)
theorem dX0_die_3 : decode cX0_die 3 = .ok (.iload_n 1, 1) := dk_27 (dk_at dksX0_die_0 3 rfl rfl)
theorem dX0_die_4 : decode cX0_die 4 = .ok (.invokevirtual 76, 3) := dk_182 0 76 (dk_at dksX0_die_0 4 rfl rfl)
theorem dX0_die_7 : decode cX0_die 7 = .ok (.i2l, 1) := dk_133 (dk_at dksX0_die_0 7 rfl rfl)
theorem dX0_die_8 : decode cX0_die 8 = .ok (.lastore, 1) := dk_80 (dk_at dksX0_die_0 8 rfl rfl)
theorem dX0_die_9 : decode cX0_die 9 = .ok (.goto 6, 3) := dk_167 0 6 (dk_at dksX0_die_0 9 rfl rfl)
theorem dX0_die_12 : decode cX0_die 12 = .ok (.astore_n 3, 1) := dk_78 (dk_at dksX0_die_0 12 rfl rfl)
theorem dX0_die_13 : decode cX0_die 13 = .ok (.iconst 1, 1) := dk_4 (dk_at dksX0_die_0 13 rfl rfl)
theorem dX0_die_14 : decode cX0_die 14 = .ok (.ireturn, 1) := dk_172 (dk_at dksX0_die_0 14 rfl rfl)
theorem dX0_die_15 : decode cX0_die 15 = .ok (.iconst 0, 1) := dk_3 (dk_at dksX0_die_0 15 rfl rfl)
theorem dX0_die_16 : decode cX0_die 16 = .ok (.ireturn, 1) := dk_172 (dk_at dksX0_die_0 16 rfl rfl)
abbrev cX0_reset : ByteArray := method_23_code
def yX0_reset : MethodName := ⟨RX0, "reset", "(LFlashZones;I[J)I"⟩
def dkwX0_reset_0 : List UInt8 := [44, 3, 42, 27, 182, 0, 79, 133, 80, 167, 0, 6, 78, 4, 172, 3, 172]
abbrev dktX0_reset_0 : List UInt8 := dkwX0_reset_0 ++ []
theorem dksX0_reset_0 : cX0_reset.data.toList.drop 0 = dktX0_reset_0 := by decide +kernel
theorem dX0_reset_0 : decode cX0_reset 0 = .ok (.aload_n 2, 1) := dk_44 (dk_at dksX0_reset_0 0 rfl rfl)
theorem dX0_reset_1 : decode cX0_reset 1 = .ok (.iconst 0, 1) := dk_3 (dk_at dksX0_reset_0 1 rfl rfl)
theorem dX0_reset_2 : decode cX0_reset 2 = .ok (.aload_n 0, 1) := dk_42 (dk_at dksX0_reset_0 2 rfl rfl)
theorem dX0_reset_3 : decode cX0_reset 3 = .ok (.iload_n 1, 1) := dk_27 (dk_at dksX0_reset_0 3 rfl rfl)
theorem dX0_reset_4 : decode cX0_reset 4 = .ok (.invokevirtual 79, 3) := dk_182 0 79 (dk_at dksX0_reset_0 4 rfl rfl)
theorem dX0_reset_7 : decode cX0_reset 7 = .ok (.i2l, 1) := dk_133 (dk_at dksX0_reset_0 7 rfl rfl)
theorem dX0_reset_8 : decode cX0_reset 8 = .ok (.lastore, 1) := dk_80 (dk_at dksX0_reset_0 8 rfl rfl)
theorem dX0_reset_9 : decode cX0_reset 9 = .ok (.goto 6, 3) := dk_167 0 6 (dk_at dksX0_reset_0 9 rfl rfl)
theorem dX0_reset_12 : decode cX0_reset 12 = .ok (.astore_n 3, 1) := dk_78 (dk_at dksX0_reset_0 12 rfl rfl)
theorem dX0_reset_13 : decode cX0_reset 13 = .ok (.iconst 1, 1) := dk_4 (dk_at dksX0_reset_0 13 rfl rfl)
theorem dX0_reset_14 : decode cX0_reset 14 = .ok (.ireturn, 1) := dk_172 (dk_at dksX0_reset_0 14 rfl rfl)
theorem dX0_reset_15 : decode cX0_reset 15 = .ok (.iconst 0, 1) := dk_3 (dk_at dksX0_reset_0 15 rfl rfl)
theorem dX0_reset_16 : decode cX0_reset 16 = .ok (.ireturn, 1) := dk_172 (dk_at dksX0_reset_0 16 rfl rfl)
abbrev cX0_bury : ByteArray := method_24_code
def yX0_bury : MethodName := ⟨RX0, "bury", "(LFlashZones;I[J)I"⟩
def dkwX0_bury_0 : List UInt8 := [44, 3, 42, 27, 182, 0, 82, 133, 80, 167, 0, 6, 78, 4, 172, 3, 172]
abbrev dktX0_bury_0 : List UInt8 := dkwX0_bury_0 ++ []
theorem dksX0_bury_0 : cX0_bury.data.toList.drop 0 = dktX0_bury_0 := by decide +kernel
theorem dX0_bury_0 : decode cX0_bury 0 = .ok (.aload_n 2, 1) := dk_44 (dk_at dksX0_bury_0 0 rfl rfl)
theorem dX0_bury_1 : decode cX0_bury 1 = .ok (.iconst 0, 1) := dk_3 (dk_at dksX0_bury_0 1 rfl rfl)
theorem dX0_bury_2 : decode cX0_bury 2 = .ok (.aload_n 0, 1) := dk_42 (dk_at dksX0_bury_0 2 rfl rfl)
theorem dX0_bury_3 : decode cX0_bury 3 = .ok (.iload_n 1, 1) := dk_27 (dk_at dksX0_bury_0 3 rfl rfl)
theorem dX0_bury_4 : decode cX0_bury 4 = .ok (.invokevirtual 82, 3) := dk_182 0 82 (dk_at dksX0_bury_0 4 rfl rfl)
theorem dX0_bury_7 : decode cX0_bury 7 = .ok (.i2l, 1) := dk_133 (dk_at dksX0_bury_0 7 rfl rfl)
theorem dX0_bury_8 : decode cX0_bury 8 = .ok (.lastore, 1) := dk_80 (dk_at dksX0_bury_0 8 rfl rfl)
theorem dX0_bury_9 : decode cX0_bury 9 = .ok (.goto 6, 3) := dk_167 0 6 (dk_at dksX0_bury_0 9 rfl rfl)
theorem dX0_bury_12 : decode cX0_bury 12 = .ok (.astore_n 3, 1) := dk_78 (dk_at dksX0_bury_0 12 rfl rfl)
theorem dX0_bury_13 : decode cX0_bury 13 = .ok (.iconst 1, 1) := dk_4 (dk_at dksX0_bury_0 13 rfl rfl)
theorem dX0_bury_14 : decode cX0_bury 14 = .ok (.ireturn, 1) := dk_172 (dk_at dksX0_bury_0 14 rfl rfl)
theorem dX0_bury_15 : decode cX0_bury 15 = .ok (.iconst 0, 1) := dk_3 (dk_at dksX0_bury_0 15 rfl rfl)
theorem dX0_bury_16 : decode cX0_bury 16 = .ok (.ireturn, 1) := dk_172 (dk_at dksX0_bury_0 16 rfl rfl)
abbrev cX0_days : ByteArray := method_25_code
def yX0_days : MethodName := ⟨RX0, "days", "(LFlashZones;I[J)I"⟩
def dkwX0_days_0 : List UInt8 := [44, 3, 42, 27, 182, 0, 85, 133, 80, 167, 0, 6, 78, 4, 172, 3, 172]
abbrev dktX0_days_0 : List UInt8 := dkwX0_days_0 ++ []
theorem dksX0_days_0 : cX0_days.data.toList.drop 0 = dktX0_days_0 := by decide +kernel
theorem dX0_days_0 : decode cX0_days 0 = .ok (.aload_n 2, 1) := dk_44 (dk_at dksX0_days_0 0 rfl rfl)
theorem dX0_days_1 : decode cX0_days 1 = .ok (.iconst 0, 1) := dk_3 (dk_at dksX0_days_0 1 rfl rfl)
theorem dX0_days_2 : decode cX0_days 2 = .ok (.aload_n 0, 1) := dk_42 (dk_at dksX0_days_0 2 rfl rfl)
theorem dX0_days_3 : decode cX0_days 3 = .ok (.iload_n 1, 1) := dk_27 (dk_at dksX0_days_0 3 rfl rfl)
theorem dX0_days_4 : decode cX0_days 4 = .ok (.invokevirtual 85, 3) := dk_182 0 85 (dk_at dksX0_days_0 4 rfl rfl)
theorem dX0_days_7 : decode cX0_days 7 = .ok (.i2l, 1) := dk_133 (dk_at dksX0_days_0 7 rfl rfl)
theorem dX0_days_8 : decode cX0_days 8 = .ok (.lastore, 1) := dk_80 (dk_at dksX0_days_0 8 rfl rfl)
theorem dX0_days_9 : decode cX0_days 9 = .ok (.goto 6, 3) := dk_167 0 6 (dk_at dksX0_days_0 9 rfl rfl)
theorem dX0_days_12 : decode cX0_days 12 = .ok (.astore_n 3, 1) := dk_78 (dk_at dksX0_days_0 12 rfl rfl)
theorem dX0_days_13 : decode cX0_days 13 = .ok (.iconst 1, 1) := dk_4 (dk_at dksX0_days_0 13 rfl rfl)
theorem dX0_days_14 : decode cX0_days 14 = .ok (.ireturn, 1) := dk_172 (dk_at dksX0_days_0 14 rfl rfl)
theorem dX0_days_15 : decode cX0_days 15 = .ok (.iconst 0, 1) := dk_3 (dk_at dksX0_days_0 15 rfl rfl)
theorem dX0_days_16 : decode cX0_days 16 = .ok (.ireturn, 1) := dk_172 (dk_at dksX0_days_0 16 rfl rfl)
abbrev cX0_place : ByteArray := method_26_code
def yX0_place : MethodName := ⟨RX0, "place", "(LFlashZones;II[J)I"⟩
def dkwX0_place_0 : List UInt8 := [45, 3, 42, 27, 28, 182, 0, 88, 133, 80, 167, 0, 7, 58, 4, 4, 172, 3, 172]
abbrev dktX0_place_0 : List UInt8 := dkwX0_place_0 ++ []
theorem dksX0_place_0 : cX0_place.data.toList.drop 0 = dktX0_place_0 := by decide +kernel
theorem dX0_place_0 : decode cX0_place 0 = .ok (.aload_n 3, 1) := dk_45 (dk_at dksX0_place_0 0 rfl rfl)
theorem dX0_place_1 : decode cX0_place 1 = .ok (.iconst 0, 1) := dk_3 (dk_at dksX0_place_0 1 rfl rfl)
theorem dX0_place_2 : decode cX0_place 2 = .ok (.aload_n 0, 1) := dk_42 (dk_at dksX0_place_0 2 rfl rfl)
theorem dX0_place_3 : decode cX0_place 3 = .ok (.iload_n 1, 1) := dk_27 (dk_at dksX0_place_0 3 rfl rfl)
theorem dX0_place_4 : decode cX0_place 4 = .ok (.iload_n 2, 1) := dk_28 (dk_at dksX0_place_0 4 rfl rfl)
theorem dX0_place_5 : decode cX0_place 5 = .ok (.invokevirtual 88, 3) := dk_182 0 88 (dk_at dksX0_place_0 5 rfl rfl)
theorem dX0_place_8 : decode cX0_place 8 = .ok (.i2l, 1) := dk_133 (dk_at dksX0_place_0 8 rfl rfl)
theorem dX0_place_9 : decode cX0_place 9 = .ok (.lastore, 1) := dk_80 (dk_at dksX0_place_0 9 rfl rfl)
theorem dX0_place_10 : decode cX0_place 10 = .ok (.goto 7, 3) := dk_167 0 7 (dk_at dksX0_place_0 10 rfl rfl)
theorem dX0_place_13 : decode cX0_place 13 = .ok (.astore 4, 2) := dk_58 4 (dk_at dksX0_place_0 13 rfl rfl)
theorem dX0_place_15 : decode cX0_place 15 = .ok (.iconst 1, 1) := dk_4 (dk_at dksX0_place_0 15 rfl rfl)
theorem dX0_place_16 : decode cX0_place 16 = .ok (.ireturn, 1) := dk_172 (dk_at dksX0_place_0 16 rfl rfl)
theorem dX0_place_17 : decode cX0_place 17 = .ok (.iconst 0, 1) := dk_3 (dk_at dksX0_place_0 17 rfl rfl)
theorem dX0_place_18 : decode cX0_place 18 = .ok (.ireturn, 1) := dk_172 (dk_at dksX0_place_0 18 rfl rfl)
abbrev cX0_toBury : ByteArray := method_27_code
def yX0_toBury : MethodName := ⟨RX0, "toBury", "(LFlashZones;I[J)I"⟩
def dkwX0_toBury_0 : List UInt8 := [44, 3, 42, 27, 182, 0, 91, 133, 80, 167, 0, 6, 78, 4, 172, 3, 172]
abbrev dktX0_toBury_0 : List UInt8 := dkwX0_toBury_0 ++ []
theorem dksX0_toBury_0 : cX0_toBury.data.toList.drop 0 = dktX0_toBury_0 := by decide +kernel
theorem dX0_toBury_0 : decode cX0_toBury 0 = .ok (.aload_n 2, 1) := dk_44 (dk_at dksX0_toBury_0 0 rfl rfl)
theorem dX0_toBury_1 : decode cX0_toBury 1 = .ok (.iconst 0, 1) := dk_3 (dk_at dksX0_toBury_0 1 rfl rfl)
theorem dX0_toBury_2 : decode cX0_toBury 2 = .ok (.aload_n 0, 1) := dk_42 (dk_at dksX0_toBury_0 2 rfl rfl)
theorem dX0_toBury_3 : decode cX0_toBury 3 = .ok (.iload_n 1, 1) := dk_27 (dk_at dksX0_toBury_0 3 rfl rfl)
theorem dX0_toBury_4 : decode cX0_toBury 4 = .ok (.invokevirtual 91, 3) := dk_182 0 91 (dk_at dksX0_toBury_0 4 rfl rfl)
theorem dX0_toBury_7 : decode cX0_toBury 7 = .ok (.i2l, 1) := dk_133 (dk_at dksX0_toBury_0 7 rfl rfl)
theorem dX0_toBury_8 : decode cX0_toBury 8 = .ok (.lastore, 1) := dk_80 (dk_at dksX0_toBury_0 8 rfl rfl)
theorem dX0_toBury_9 : decode cX0_toBury 9 = .ok (.goto 6, 3) := dk_167 0 6 (dk_at dksX0_toBury_0 9 rfl rfl)
theorem dX0_toBury_12 : decode cX0_toBury 12 = .ok (.astore_n 3, 1) := dk_78 (dk_at dksX0_toBury_0 12 rfl rfl)
theorem dX0_toBury_13 : decode cX0_toBury 13 = .ok (.iconst 1, 1) := dk_4 (dk_at dksX0_toBury_0 13 rfl rfl)
theorem dX0_toBury_14 : decode cX0_toBury 14 = .ok (.ireturn, 1) := dk_172 (dk_at dksX0_toBury_0 14 rfl rfl)
theorem dX0_toBury_15 : decode cX0_toBury 15 = .ok (.iconst 0, 1) := dk_3 (dk_at dksX0_toBury_0 15 rfl rfl)
theorem dX0_toBury_16 : decode cX0_toBury 16 = .ok (.ireturn, 1) := dk_172 (dk_at dksX0_toBury_0 16 rfl rfl)
abbrev cX0_ahead : ByteArray := method_28_code
def yX0_ahead : MethodName := ⟨RX0, "ahead", "(LFlashZones;II[J)I"⟩
def dkwX0_ahead_0 : List UInt8 := [45, 3, 42, 27, 28, 182, 0, 94, 133, 80, 167, 0, 7, 58, 4, 4, 172, 3, 172]
abbrev dktX0_ahead_0 : List UInt8 := dkwX0_ahead_0 ++ []
theorem dksX0_ahead_0 : cX0_ahead.data.toList.drop 0 = dktX0_ahead_0 := by decide +kernel
theorem dX0_ahead_0 : decode cX0_ahead 0 = .ok (.aload_n 3, 1) := dk_45 (dk_at dksX0_ahead_0 0 rfl rfl)
theorem dX0_ahead_1 : decode cX0_ahead 1 = .ok (.iconst 0, 1) := dk_3 (dk_at dksX0_ahead_0 1 rfl rfl)
theorem dX0_ahead_2 : decode cX0_ahead 2 = .ok (.aload_n 0, 1) := dk_42 (dk_at dksX0_ahead_0 2 rfl rfl)
theorem dX0_ahead_3 : decode cX0_ahead 3 = .ok (.iload_n 1, 1) := dk_27 (dk_at dksX0_ahead_0 3 rfl rfl)
theorem dX0_ahead_4 : decode cX0_ahead 4 = .ok (.iload_n 2, 1) := dk_28 (dk_at dksX0_ahead_0 4 rfl rfl)
theorem dX0_ahead_5 : decode cX0_ahead 5 = .ok (.invokevirtual 94, 3) := dk_182 0 94 (dk_at dksX0_ahead_0 5 rfl rfl)
theorem dX0_ahead_8 : decode cX0_ahead 8 = .ok (.i2l, 1) := dk_133 (dk_at dksX0_ahead_0 8 rfl rfl)
theorem dX0_ahead_9 : decode cX0_ahead 9 = .ok (.lastore, 1) := dk_80 (dk_at dksX0_ahead_0 9 rfl rfl)
theorem dX0_ahead_10 : decode cX0_ahead 10 = .ok (.goto 7, 3) := dk_167 0 7 (dk_at dksX0_ahead_0 10 rfl rfl)
theorem dX0_ahead_13 : decode cX0_ahead 13 = .ok (.astore 4, 2) := dk_58 4 (dk_at dksX0_ahead_0 13 rfl rfl)
theorem dX0_ahead_15 : decode cX0_ahead 15 = .ok (.iconst 1, 1) := dk_4 (dk_at dksX0_ahead_0 15 rfl rfl)
theorem dX0_ahead_16 : decode cX0_ahead 16 = .ok (.ireturn, 1) := dk_172 (dk_at dksX0_ahead_0 16 rfl rfl)
theorem dX0_ahead_17 : decode cX0_ahead 17 = .ok (.iconst 0, 1) := dk_3 (dk_at dksX0_ahead_0 17 rfl rfl)
theorem dX0_ahead_18 : decode cX0_ahead 18 = .ok (.ireturn, 1) := dk_172 (dk_at dksX0_ahead_0 18 rfl rfl)
abbrev cX0_anew : ByteArray := method_29_code
def yX0_anew : MethodName := ⟨RX0, "anew", "(LFlashZones;II[J)I"⟩
def dkwX0_anew_0 : List UInt8 := [45, 3, 42, 27, 28, 182, 0, 97, 133, 80, 167, 0, 7, 58, 4, 4, 172, 3, 172]
abbrev dktX0_anew_0 : List UInt8 := dkwX0_anew_0 ++ []
theorem dksX0_anew_0 : cX0_anew.data.toList.drop 0 = dktX0_anew_0 := by decide +kernel
theorem dX0_anew_0 : decode cX0_anew 0 = .ok (.aload_n 3, 1) := dk_45 (dk_at dksX0_anew_0 0 rfl rfl)
theorem dX0_anew_1 : decode cX0_anew 1 = .ok (.iconst 0, 1) := dk_3 (dk_at dksX0_anew_0 1 rfl rfl)
theorem dX0_anew_2 : decode cX0_anew 2 = .ok (.aload_n 0, 1) := dk_42 (dk_at dksX0_anew_0 2 rfl rfl)
theorem dX0_anew_3 : decode cX0_anew 3 = .ok (.iload_n 1, 1) := dk_27 (dk_at dksX0_anew_0 3 rfl rfl)
theorem dX0_anew_4 : decode cX0_anew 4 = .ok (.iload_n 2, 1) := dk_28 (dk_at dksX0_anew_0 4 rfl rfl)
theorem dX0_anew_5 : decode cX0_anew 5 = .ok (.invokevirtual 97, 3) := dk_182 0 97 (dk_at dksX0_anew_0 5 rfl rfl)
theorem dX0_anew_8 : decode cX0_anew 8 = .ok (.i2l, 1) := dk_133 (dk_at dksX0_anew_0 8 rfl rfl)
theorem dX0_anew_9 : decode cX0_anew 9 = .ok (.lastore, 1) := dk_80 (dk_at dksX0_anew_0 9 rfl rfl)
theorem dX0_anew_10 : decode cX0_anew 10 = .ok (.goto 7, 3) := dk_167 0 7 (dk_at dksX0_anew_0 10 rfl rfl)
theorem dX0_anew_13 : decode cX0_anew 13 = .ok (.astore 4, 2) := dk_58 4 (dk_at dksX0_anew_0 13 rfl rfl)
theorem dX0_anew_15 : decode cX0_anew 15 = .ok (.iconst 1, 1) := dk_4 (dk_at dksX0_anew_0 15 rfl rfl)
theorem dX0_anew_16 : decode cX0_anew 16 = .ok (.ireturn, 1) := dk_172 (dk_at dksX0_anew_0 16 rfl rfl)
theorem dX0_anew_17 : decode cX0_anew 17 = .ok (.iconst 0, 1) := dk_3 (dk_at dksX0_anew_0 17 rfl rfl)
theorem dX0_anew_18 : decode cX0_anew 18 = .ok (.ireturn, 1) := dk_172 (dk_at dksX0_anew_0 18 rfl rfl)
abbrev cX0_better : ByteArray := method_30_code
def yX0_better : MethodName := ⟨RX0, "better", "(LFlashZones;II[J)I"⟩
def dkwX0_better_0 : List UInt8 := [45, 3, 42, 27, 28, 182, 0, 100, 133, 80, 167, 0, 7, 58, 4, 4, 172, 3, 172]
abbrev dktX0_better_0 : List UInt8 := dkwX0_better_0 ++ []
theorem dksX0_better_0 : cX0_better.data.toList.drop 0 = dktX0_better_0 := by decide +kernel
theorem dX0_better_0 : decode cX0_better 0 = .ok (.aload_n 3, 1) := dk_45 (dk_at dksX0_better_0 0 rfl rfl)
theorem dX0_better_1 : decode cX0_better 1 = .ok (.iconst 0, 1) := dk_3 (dk_at dksX0_better_0 1 rfl rfl)
theorem dX0_better_2 : decode cX0_better 2 = .ok (.aload_n 0, 1) := dk_42 (dk_at dksX0_better_0 2 rfl rfl)
theorem dX0_better_3 : decode cX0_better 3 = .ok (.iload_n 1, 1) := dk_27 (dk_at dksX0_better_0 3 rfl rfl)
theorem dX0_better_4 : decode cX0_better 4 = .ok (.iload_n 2, 1) := dk_28 (dk_at dksX0_better_0 4 rfl rfl)
theorem dX0_better_5 : decode cX0_better 5 = .ok (.invokevirtual 100, 3) := dk_182 0 100 (dk_at dksX0_better_0 5 rfl rfl)
theorem dX0_better_8 : decode cX0_better 8 = .ok (.i2l, 1) := dk_133 (dk_at dksX0_better_0 8 rfl rfl)
theorem dX0_better_9 : decode cX0_better 9 = .ok (.lastore, 1) := dk_80 (dk_at dksX0_better_0 9 rfl rfl)
theorem dX0_better_10 : decode cX0_better 10 = .ok (.goto 7, 3) := dk_167 0 7 (dk_at dksX0_better_0 10 rfl rfl)
theorem dX0_better_13 : decode cX0_better 13 = .ok (.astore 4, 2) := dk_58 4 (dk_at dksX0_better_0 13 rfl rfl)
theorem dX0_better_15 : decode cX0_better 15 = .ok (.iconst 1, 1) := dk_4 (dk_at dksX0_better_0 15 rfl rfl)
theorem dX0_better_16 : decode cX0_better 16 = .ok (.ireturn, 1) := dk_172 (dk_at dksX0_better_0 16 rfl rfl)
theorem dX0_better_17 : decode cX0_better 17 = .ok (.iconst 0, 1) := dk_3 (dk_at dksX0_better_0 17 rfl rfl)
theorem dX0_better_18 : decode cX0_better 18 = .ok (.ireturn, 1) := dk_172 (dk_at dksX0_better_0 18 rfl rfl)
abbrev cX0_gap : ByteArray := method_31_code
def yX0_gap : MethodName := ⟨RX0, "gap", "(LFlashZones;I[J)I"⟩
def dkwX0_gap_0 : List UInt8 := [44, 3, 42, 27, 182, 0, 103, 133, 80, 167, 0, 6, 78, 4, 172, 3, 172]
abbrev dktX0_gap_0 : List UInt8 := dkwX0_gap_0 ++ []
theorem dksX0_gap_0 : cX0_gap.data.toList.drop 0 = dktX0_gap_0 := by decide +kernel
theorem dX0_gap_0 : decode cX0_gap 0 = .ok (.aload_n 2, 1) := dk_44 (dk_at dksX0_gap_0 0 rfl rfl)
theorem dX0_gap_1 : decode cX0_gap 1 = .ok (.iconst 0, 1) := dk_3 (dk_at dksX0_gap_0 1 rfl rfl)
theorem dX0_gap_2 : decode cX0_gap 2 = .ok (.aload_n 0, 1) := dk_42 (dk_at dksX0_gap_0 2 rfl rfl)
theorem dX0_gap_3 : decode cX0_gap 3 = .ok (.iload_n 1, 1) := dk_27 (dk_at dksX0_gap_0 3 rfl rfl)
theorem dX0_gap_4 : decode cX0_gap 4 = .ok (.invokevirtual 103, 3) := dk_182 0 103 (dk_at dksX0_gap_0 4 rfl rfl)
theorem dX0_gap_7 : decode cX0_gap 7 = .ok (.i2l, 1) := dk_133 (dk_at dksX0_gap_0 7 rfl rfl)
theorem dX0_gap_8 : decode cX0_gap 8 = .ok (.lastore, 1) := dk_80 (dk_at dksX0_gap_0 8 rfl rfl)
theorem dX0_gap_9 : decode cX0_gap 9 = .ok (.goto 6, 3) := dk_167 0 6 (dk_at dksX0_gap_0 9 rfl rfl)
theorem dX0_gap_12 : decode cX0_gap 12 = .ok (.astore_n 3, 1) := dk_78 (dk_at dksX0_gap_0 12 rfl rfl)
theorem dX0_gap_13 : decode cX0_gap 13 = .ok (.iconst 1, 1) := dk_4 (dk_at dksX0_gap_0 13 rfl rfl)
theorem dX0_gap_14 : decode cX0_gap 14 = .ok (.ireturn, 1) := dk_172 (dk_at dksX0_gap_0 14 rfl rfl)
theorem dX0_gap_15 : decode cX0_gap 15 = .ok (.iconst 0, 1) := dk_3 (dk_at dksX0_gap_0 15 rfl rfl)
theorem dX0_gap_16 : decode cX0_gap 16 = .ok (.ireturn, 1) := dk_172 (dk_at dksX0_gap_0 16 rfl rfl)
abbrev cX0_history : ByteArray := method_32_code
def yX0_history : MethodName := ⟨RX0, "history", "(LFlashZones;II[J)I"⟩
def dkwX0_history_0 : List UInt8 := [45, 3, 42, 27, 28, 182, 0, 106, 133, 80, 167, 0, 11, 58, 4, 4, 172, 58, 4, 5, 172, 3, 172]
abbrev dktX0_history_0 : List UInt8 := dkwX0_history_0 ++ []
theorem dksX0_history_0 : cX0_history.data.toList.drop 0 = dktX0_history_0 := by decide +kernel
theorem dX0_history_0 : decode cX0_history 0 = .ok (.aload_n 3, 1) := dk_45 (dk_at dksX0_history_0 0 rfl rfl)
theorem dX0_history_1 : decode cX0_history 1 = .ok (.iconst 0, 1) := dk_3 (dk_at dksX0_history_0 1 rfl rfl)
theorem dX0_history_2 : decode cX0_history 2 = .ok (.aload_n 0, 1) := dk_42 (dk_at dksX0_history_0 2 rfl rfl)
theorem dX0_history_3 : decode cX0_history 3 = .ok (.iload_n 1, 1) := dk_27 (dk_at dksX0_history_0 3 rfl rfl)
theorem dX0_history_4 : decode cX0_history 4 = .ok (.iload_n 2, 1) := dk_28 (dk_at dksX0_history_0 4 rfl rfl)
theorem dX0_history_5 : decode cX0_history 5 = .ok (.invokevirtual 106, 3) := dk_182 0 106 (dk_at dksX0_history_0 5 rfl rfl)
theorem dX0_history_8 : decode cX0_history 8 = .ok (.i2l, 1) := dk_133 (dk_at dksX0_history_0 8 rfl rfl)
theorem dX0_history_9 : decode cX0_history 9 = .ok (.lastore, 1) := dk_80 (dk_at dksX0_history_0 9 rfl rfl)
theorem dX0_history_10 : decode cX0_history 10 = .ok (.goto 11, 3) := dk_167 0 11 (dk_at dksX0_history_0 10 rfl rfl)
theorem dX0_history_13 : decode cX0_history 13 = .ok (.astore 4, 2) := dk_58 4 (dk_at dksX0_history_0 13 rfl rfl)
theorem dX0_history_15 : decode cX0_history 15 = .ok (.iconst 1, 1) := dk_4 (dk_at dksX0_history_0 15 rfl rfl)
theorem dX0_history_16 : decode cX0_history 16 = .ok (.ireturn, 1) := dk_172 (dk_at dksX0_history_0 16 rfl rfl)
theorem dX0_history_17 : decode cX0_history 17 = .ok (.astore 4, 2) := dk_58 4 (dk_at dksX0_history_0 17 rfl rfl)
theorem dX0_history_19 : decode cX0_history 19 = .ok (.iconst 2, 1) := dk_5 (dk_at dksX0_history_0 19 rfl rfl)
theorem dX0_history_20 : decode cX0_history 20 = .ok (.ireturn, 1) := dk_172 (dk_at dksX0_history_0 20 rfl rfl)
theorem dX0_history_21 : decode cX0_history 21 = .ok (.iconst 0, 1) := dk_3 (dk_at dksX0_history_0 21 rfl rfl)
theorem dX0_history_22 : decode cX0_history 22 = .ok (.ireturn, 1) := dk_172 (dk_at dksX0_history_0 22 rfl rfl)
abbrev cX0_show : ByteArray := method_33_code
def yX0_show : MethodName := ⟨RX0, "show", "(LFlashZones;I[J)I"⟩
def dkwX0_show_0 : List UInt8 := [44, 3, 42, 27, 182, 0, 109, 133, 80, 167, 0, 6, 78, 4, 172, 3, 172]
abbrev dktX0_show_0 : List UInt8 := dkwX0_show_0 ++ []
theorem dksX0_show_0 : cX0_show.data.toList.drop 0 = dktX0_show_0 := by decide +kernel
theorem dX0_show_0 : decode cX0_show 0 = .ok (.aload_n 2, 1) := dk_44 (dk_at dksX0_show_0 0 rfl rfl)
theorem dX0_show_1 : decode cX0_show 1 = .ok (.iconst 0, 1) := dk_3 (dk_at dksX0_show_0 1 rfl rfl)
theorem dX0_show_2 : decode cX0_show 2 = .ok (.aload_n 0, 1) := dk_42 (dk_at dksX0_show_0 2 rfl rfl)
theorem dX0_show_3 : decode cX0_show 3 = .ok (.iload_n 1, 1) := dk_27 (dk_at dksX0_show_0 3 rfl rfl)
theorem dX0_show_4 : decode cX0_show 4 = .ok (.invokevirtual 109, 3) := dk_182 0 109 (dk_at dksX0_show_0 4 rfl rfl)
theorem dX0_show_7 : decode cX0_show 7 = .ok (.i2l, 1) := dk_133 (dk_at dksX0_show_0 7 rfl rfl)
theorem dX0_show_8 : decode cX0_show 8 = .ok (.lastore, 1) := dk_80 (dk_at dksX0_show_0 8 rfl rfl)
theorem dX0_show_9 : decode cX0_show 9 = .ok (.goto 6, 3) := dk_167 0 6 (dk_at dksX0_show_0 9 rfl rfl)
theorem dX0_show_12 : decode cX0_show 12 = .ok (.astore_n 3, 1) := dk_78 (dk_at dksX0_show_0 12 rfl rfl)
theorem dX0_show_13 : decode cX0_show 13 = .ok (.iconst 1, 1) := dk_4 (dk_at dksX0_show_0 13 rfl rfl)
theorem dX0_show_14 : decode cX0_show 14 = .ok (.ireturn, 1) := dk_172 (dk_at dksX0_show_0 14 rfl rfl)
theorem dX0_show_15 : decode cX0_show 15 = .ok (.iconst 0, 1) := dk_3 (dk_at dksX0_show_0 15 rfl rfl)
theorem dX0_show_16 : decode cX0_show 16 = .ok (.ireturn, 1) := dk_172 (dk_at dksX0_show_0 16 rfl rfl)
abbrev cX0_save : ByteArray := method_34_code
def yX0_save : MethodName := ⟨RX0, "save", "(LFlashZones;I)I"⟩
def dkwX0_save_0 : List UInt8 := [42, 27, 182, 0, 112, 167, 0, 6, 77, 4, 172, 3, 172]
abbrev dktX0_save_0 : List UInt8 := dkwX0_save_0 ++ []
theorem dksX0_save_0 : cX0_save.data.toList.drop 0 = dktX0_save_0 := by decide +kernel
theorem dX0_save_0 : decode cX0_save 0 = .ok (.aload_n 0, 1) := dk_42 (dk_at dksX0_save_0 0 rfl rfl)
theorem dX0_save_1 : decode cX0_save 1 = .ok (.iload_n 1, 1) := dk_27 (dk_at dksX0_save_0 1 rfl rfl)
theorem dX0_save_2 : decode cX0_save 2 = .ok (.invokevirtual 112, 3) := dk_182 0 112 (dk_at dksX0_save_0 2 rfl rfl)
theorem dX0_save_5 : decode cX0_save 5 = .ok (.goto 6, 3) := dk_167 0 6 (dk_at dksX0_save_0 5 rfl rfl)
theorem dX0_save_8 : decode cX0_save 8 = .ok (.astore_n 2, 1) := dk_77 (dk_at dksX0_save_0 8 rfl rfl)
theorem dX0_save_9 : decode cX0_save 9 = .ok (.iconst 1, 1) := dk_4 (dk_at dksX0_save_0 9 rfl rfl)
theorem dX0_save_10 : decode cX0_save 10 = .ok (.ireturn, 1) := dk_172 (dk_at dksX0_save_0 10 rfl rfl)
theorem dX0_save_11 : decode cX0_save 11 = .ok (.iconst 0, 1) := dk_3 (dk_at dksX0_save_0 11 rfl rfl)
theorem dX0_save_12 : decode cX0_save 12 = .ok (.ireturn, 1) := dk_172 (dk_at dksX0_save_0 12 rfl rfl)
abbrev cX0_restore : ByteArray := method_35_code
def yX0_restore : MethodName := ⟨RX0, "restore", "(LFlashZones;I)I"⟩
def dkwX0_restore_0 : List UInt8 := [42, 27, 182, 0, 116, 167, 0, 9, 77, 4, 172, 77, 5, 172, 3, 172]
abbrev dktX0_restore_0 : List UInt8 := dkwX0_restore_0 ++ []
theorem dksX0_restore_0 : cX0_restore.data.toList.drop 0 = dktX0_restore_0 := by decide +kernel
theorem dX0_restore_0 : decode cX0_restore 0 = .ok (.aload_n 0, 1) := dk_42 (dk_at dksX0_restore_0 0 rfl rfl)
theorem dX0_restore_1 : decode cX0_restore 1 = .ok (.iload_n 1, 1) := dk_27 (dk_at dksX0_restore_0 1 rfl rfl)
theorem dX0_restore_2 : decode cX0_restore 2 = .ok (.invokevirtual 116, 3) := dk_182 0 116 (dk_at dksX0_restore_0 2 rfl rfl)
theorem dX0_restore_5 : decode cX0_restore 5 = .ok (.goto 9, 3) := dk_167 0 9 (dk_at dksX0_restore_0 5 rfl rfl)
theorem dX0_restore_8 : decode cX0_restore 8 = .ok (.astore_n 2, 1) := dk_77 (dk_at dksX0_restore_0 8 rfl rfl)
theorem dX0_restore_9 : decode cX0_restore 9 = .ok (.iconst 1, 1) := dk_4 (dk_at dksX0_restore_0 9 rfl rfl)
theorem dX0_restore_10 : decode cX0_restore 10 = .ok (.ireturn, 1) := dk_172 (dk_at dksX0_restore_0 10 rfl rfl)
theorem dX0_restore_11 : decode cX0_restore 11 = .ok (.astore_n 2, 1) := dk_77 (dk_at dksX0_restore_0 11 rfl rfl)
theorem dX0_restore_12 : decode cX0_restore 12 = .ok (.iconst 2, 1) := dk_5 (dk_at dksX0_restore_0 12 rfl rfl)
theorem dX0_restore_13 : decode cX0_restore 13 = .ok (.ireturn, 1) := dk_172 (dk_at dksX0_restore_0 13 rfl rfl)
theorem dX0_restore_14 : decode cX0_restore 14 = .ok (.iconst 0, 1) := dk_3 (dk_at dksX0_restore_0 14 rfl rfl)
theorem dX0_restore_15 : decode cX0_restore 15 = .ok (.ireturn, 1) := dk_172 (dk_at dksX0_restore_0 15 rfl rfl)
theorem q112 : (Jvm.Cond.initialized "FlashZonesLaw") ∈ lw_all := lw_g (lw_at lw_m1 0 rfl) rfl
theorem q150 : (Jvm.Cond.classLink "FlashZonesLaw" (8 : Nat) "FlashZones") ∈ lw_all := lw_g (lw_at lw_m1 38 rfl) rfl
theorem q152 : (Jvm.Cond.methodLink "FlashZonesLaw" (119 : Nat) ({ cls := "FlashZones", name := "<init>", desc := "()V" } : Jvm.MethodName)) ∈ lw_all := lw_g (lw_at lw_m1 40 rfl) rfl
theorem q751 : (Jvm.Cond.methodLink "FlashZonesLaw" (243 : Nat) ({ cls := "FlashZones", name := "hindsight", desc := "()I" } : Jvm.MethodName)) ∈ lw_all := lw_g (lw_at lw_m3 159 rfl) rfl
theorem q1104 : (Jvm.Cond.methodLink "FlashZonesLaw" (152 : Nat) ({ cls := "FlashZones", name := "clear", desc := "()I" } : Jvm.MethodName)) ∈ lw_all := lw_g (lw_at lw_m5 32 rfl) rfl
theorem q1118 : (Jvm.Cond.methodLink "FlashZonesLaw" (176 : Nat) ({ cls := "FlashZones", name := "regret", desc := "()I" } : Jvm.MethodName)) ∈ lw_all := lw_g (lw_at lw_m5 46 rfl) rfl
theorem q1123 : (Jvm.Cond.methodLink "FlashZonesLaw" (180 : Nat) ({ cls := "FlashZones", name := "meanLife", desc := "()F" } : Jvm.MethodName)) ∈ lw_all := lw_g (lw_at lw_m5 51 rfl) rfl
theorem q1128 : (Jvm.Cond.methodLink "FlashZonesLaw" (209 : Nat) ({ cls := "FlashZones", name := "nextFate", desc := "()I" } : Jvm.MethodName)) ∈ lw_all := lw_g (lw_at lw_m5 56 rfl) rfl
theorem q1183 : (Jvm.Cond.methodLink "FlashZonesLaw" (259 : Nat) ({ cls := "FlashZones", name := "writeHistory", desc := "()I" } : Jvm.MethodName)) ∈ lw_all := lw_g (lw_at lw_m5 111 rfl) rfl
theorem q1292 : (Jvm.Cond.methodLink "FlashZonesLaw" (263 : Nat) ({ cls := "FlashZones", name := "output", desc := "(I)I" } : Jvm.MethodName)) ∈ lw_all := lw_g (lw_at lw_m5 220 rfl) rfl
theorem q1309 : (Jvm.Cond.methodLink "FlashZonesLaw" (136 : Nat) ({ cls := "FlashZones", name := "runScript", desc := "()I" } : Jvm.MethodName)) ∈ lw_all := lw_g (lw_at lw_m5 237 rfl) rfl
theorem q1578 : (Jvm.Cond.methodLink "FlashZonesLaw" (140 : Nat) ({ cls := "FlashZones", name := "errorCode", desc := "()I" } : Jvm.MethodName)) ∈ lw_all := lw_g (lw_at lw_m7 26 rfl) rfl
theorem q1582 : (Jvm.Cond.methodLink "FlashZonesLaw" (144 : Nat) ({ cls := "FlashZones", name := "errorPosition", desc := "()I" } : Jvm.MethodName)) ∈ lw_all := lw_g (lw_at lw_m7 30 rfl) rfl
theorem q1586 : (Jvm.Cond.methodLink "FlashZonesLaw" (267 : Nat) ({ cls := "FlashZones", name := "undo", desc := "()I" } : Jvm.MethodName)) ∈ lw_all := lw_g (lw_at lw_m7 34 rfl) rfl
theorem q1605 : (Jvm.Cond.methodLink "FlashZonesLaw" (123 : Nat) ({ cls := "FlashZonesLaw", name := "appendText", desc := "(LFlashZones;I[J)I" } : Jvm.MethodName)) ∈ lw_all := lw_g (lw_at lw_m7 53 rfl) rfl
theorem q1606 : (Jvm.Cond.static ({ cls := "FlashZonesLaw", name := "appendText", desc := "(LFlashZones;I[J)I" } : Jvm.MethodName)) ∈ lw_all := lw_g (lw_at lw_m7 54 rfl) rfl
theorem q1607 : (Jvm.Cond.codeWith ({ cls := "FlashZonesLaw", name := "appendText", desc := "(LFlashZones;I[J)I" } : Jvm.MethodName) method_3_code (4 : Nat) (Option.some Jvm.ClassFile.FieldType.int) [((0 : Nat), (9 : Nat), (12 : Nat), (13 : Nat))]) ∈ lw_all := lw_g (lw_at lw_m7 55 rfl) rfl
theorem q1608 : (Jvm.Cond.classLink "FlashZonesLaw" (13 : Nat) "java/lang/IllegalStateException") ∈ lw_all := lw_g (lw_at lw_m7 56 rfl) rfl
theorem q1609 : (Jvm.Cond.methodLink "FlashZonesLaw" (7 : Nat) ({ cls := "FlashZones", name := "appendText", desc := "(I)I" } : Jvm.MethodName)) ∈ lw_all := lw_g (lw_at lw_m7 57 rfl) rfl
theorem q1619 : (Jvm.Cond.methodLink "FlashZonesLaw" (133 : Nat) ({ cls := "FlashZonesLaw", name := "truncateText", desc := "(LFlashZones;I[J)I" } : Jvm.MethodName)) ∈ lw_all := lw_g (lw_at lw_m7 67 rfl) rfl
theorem q1620 : (Jvm.Cond.static ({ cls := "FlashZonesLaw", name := "truncateText", desc := "(LFlashZones;I[J)I" } : Jvm.MethodName)) ∈ lw_all := lw_g (lw_at lw_m7 68 rfl) rfl
theorem q1621 : (Jvm.Cond.codeWith ({ cls := "FlashZonesLaw", name := "truncateText", desc := "(LFlashZones;I[J)I" } : Jvm.MethodName) method_4_code (4 : Nat) (Option.some Jvm.ClassFile.FieldType.int) [((0 : Nat), (9 : Nat), (12 : Nat), (18 : Nat))]) ∈ lw_all := lw_g (lw_at lw_m7 69 rfl) rfl
theorem q1622 : (Jvm.Cond.classLink "FlashZonesLaw" (18 : Nat) "java/lang/IllegalArgumentException") ∈ lw_all := lw_g (lw_at lw_m7 70 rfl) rfl
theorem q1623 : (Jvm.Cond.methodLink "FlashZonesLaw" (15 : Nat) ({ cls := "FlashZones", name := "truncateText", desc := "(I)I" } : Jvm.MethodName)) ∈ lw_all := lw_g (lw_at lw_m7 71 rfl) rfl
theorem q1633 : (Jvm.Cond.methodLink "FlashZonesLaw" (148 : Nat) ({ cls := "FlashZonesLaw", name := "set", desc := "(LFlashZones;II[J)I" } : Jvm.MethodName)) ∈ lw_all := lw_g (lw_at lw_m7 81 rfl) rfl
theorem q1634 : (Jvm.Cond.static ({ cls := "FlashZonesLaw", name := "set", desc := "(LFlashZones;II[J)I" } : Jvm.MethodName)) ∈ lw_all := lw_g (lw_at lw_m7 82 rfl) rfl
theorem q1635 : (Jvm.Cond.codeWith ({ cls := "FlashZonesLaw", name := "set", desc := "(LFlashZones;II[J)I" } : Jvm.MethodName) method_5_code (5 : Nat) (Option.some Jvm.ClassFile.FieldType.int) [((0 : Nat), (10 : Nat), (13 : Nat), (18 : Nat)), ((0 : Nat), (10 : Nat), (17 : Nat), (13 : Nat))]) ∈ lw_all := lw_g (lw_at lw_m7 83 rfl) rfl
theorem q1636 : (Jvm.Cond.methodLink "FlashZonesLaw" (20 : Nat) ({ cls := "FlashZones", name := "set", desc := "(II)I" } : Jvm.MethodName)) ∈ lw_all := lw_g (lw_at lw_m7 84 rfl) rfl
theorem q1653 : (Jvm.Cond.methodLink "FlashZonesLaw" (156 : Nat) ({ cls := "FlashZonesLaw", name := "count", desc := "(LFlashZones;I[J)I" } : Jvm.MethodName)) ∈ lw_all := lw_g (lw_at lw_m7 101 rfl) rfl
theorem q1654 : (Jvm.Cond.static ({ cls := "FlashZonesLaw", name := "count", desc := "(LFlashZones;I[J)I" } : Jvm.MethodName)) ∈ lw_all := lw_g (lw_at lw_m7 102 rfl) rfl
theorem q1655 : (Jvm.Cond.codeWith ({ cls := "FlashZonesLaw", name := "count", desc := "(LFlashZones;I[J)I" } : Jvm.MethodName) method_6_code (4 : Nat) (Option.some Jvm.ClassFile.FieldType.int) [((0 : Nat), (9 : Nat), (12 : Nat), (18 : Nat))]) ∈ lw_all := lw_g (lw_at lw_m7 103 rfl) rfl
theorem q1656 : (Jvm.Cond.methodLink "FlashZonesLaw" (24 : Nat) ({ cls := "FlashZones", name := "count", desc := "(I)I" } : Jvm.MethodName)) ∈ lw_all := lw_g (lw_at lw_m7 104 rfl) rfl
theorem q1667 : (Jvm.Cond.methodLink "FlashZonesLaw" (159 : Nat) ({ cls := "FlashZonesLaw", name := "zone", desc := "(LFlashZones;II[J)I" } : Jvm.MethodName)) ∈ lw_all := lw_g (lw_at lw_m7 115 rfl) rfl
theorem q1668 : (Jvm.Cond.static ({ cls := "FlashZonesLaw", name := "zone", desc := "(LFlashZones;II[J)I" } : Jvm.MethodName)) ∈ lw_all := lw_g (lw_at lw_m7 116 rfl) rfl
theorem q1669 : (Jvm.Cond.codeWith ({ cls := "FlashZonesLaw", name := "zone", desc := "(LFlashZones;II[J)I" } : Jvm.MethodName) method_7_code (5 : Nat) (Option.some Jvm.ClassFile.FieldType.int) [((0 : Nat), (10 : Nat), (13 : Nat), (30 : Nat)), ((0 : Nat), (10 : Nat), (17 : Nat), (18 : Nat))]) ∈ lw_all := lw_g (lw_at lw_m7 117 rfl) rfl
theorem q1670 : (Jvm.Cond.classLink "FlashZonesLaw" (30 : Nat) "java/lang/IndexOutOfBoundsException") ∈ lw_all := lw_g (lw_at lw_m7 118 rfl) rfl
theorem q1673 : (Jvm.Cond.methodLink "FlashZonesLaw" (27 : Nat) ({ cls := "FlashZones", name := "zone", desc := "(II)I" } : Jvm.MethodName)) ∈ lw_all := lw_g (lw_at lw_m7 121 rfl) rfl
theorem q1704 : (Jvm.Cond.methodLink "FlashZonesLaw" (162 : Nat) ({ cls := "FlashZonesLaw", name := "unit", desc := "(LFlashZones;II[J)I" } : Jvm.MethodName)) ∈ lw_all := lw_g (lw_at lw_m7 152 rfl) rfl
theorem q1705 : (Jvm.Cond.static ({ cls := "FlashZonesLaw", name := "unit", desc := "(LFlashZones;II[J)I" } : Jvm.MethodName)) ∈ lw_all := lw_g (lw_at lw_m7 153 rfl) rfl
theorem q1706 : (Jvm.Cond.codeWith ({ cls := "FlashZonesLaw", name := "unit", desc := "(LFlashZones;II[J)I" } : Jvm.MethodName) method_8_code (5 : Nat) (Option.some Jvm.ClassFile.FieldType.int) [((0 : Nat), (10 : Nat), (13 : Nat), (30 : Nat)), ((0 : Nat), (10 : Nat), (17 : Nat), (18 : Nat))]) ∈ lw_all := lw_g (lw_at lw_m7 154 rfl) rfl
theorem q1707 : (Jvm.Cond.methodLink "FlashZonesLaw" (32 : Nat) ({ cls := "FlashZones", name := "unit", desc := "(II)I" } : Jvm.MethodName)) ∈ lw_all := lw_g (lw_at lw_m7 155 rfl) rfl
theorem q1711 : (Jvm.Cond.methodLink "FlashZonesLaw" (165 : Nat) ({ cls := "FlashZonesLaw", name := "guesser", desc := "(LFlashZones;II[J)I" } : Jvm.MethodName)) ∈ lw_all := lw_g (lw_at lw_m7 159 rfl) rfl
theorem q1712 : (Jvm.Cond.static ({ cls := "FlashZonesLaw", name := "guesser", desc := "(LFlashZones;II[J)I" } : Jvm.MethodName)) ∈ lw_all := lw_g (lw_at lw_m7 160 rfl) rfl
theorem q1713 : (Jvm.Cond.codeWith ({ cls := "FlashZonesLaw", name := "guesser", desc := "(LFlashZones;II[J)I" } : Jvm.MethodName) method_9_code (5 : Nat) (Option.some Jvm.ClassFile.FieldType.int) [((0 : Nat), (10 : Nat), (13 : Nat), (30 : Nat)), ((0 : Nat), (10 : Nat), (17 : Nat), (18 : Nat))]) ∈ lw_all := lw_g (lw_at lw_m7 161 rfl) rfl
theorem q1714 : (Jvm.Cond.methodLink "FlashZonesLaw" (35 : Nat) ({ cls := "FlashZones", name := "guesser", desc := "(II)I" } : Jvm.MethodName)) ∈ lw_all := lw_g (lw_at lw_m7 162 rfl) rfl
theorem q1721 : (Jvm.Cond.methodLink "FlashZonesLaw" (168 : Nat) ({ cls := "FlashZonesLaw", name := "guess", desc := "(LFlashZones;III[J)I" } : Jvm.MethodName)) ∈ lw_all := lw_g (lw_at lw_m7 169 rfl) rfl
theorem q1722 : (Jvm.Cond.static ({ cls := "FlashZonesLaw", name := "guess", desc := "(LFlashZones;III[J)I" } : Jvm.MethodName)) ∈ lw_all := lw_g (lw_at lw_m7 170 rfl) rfl
theorem q1723 : (Jvm.Cond.codeWith ({ cls := "FlashZonesLaw", name := "guess", desc := "(LFlashZones;III[J)I" } : Jvm.MethodName) method_10_code (6 : Nat) (Option.some Jvm.ClassFile.FieldType.int) [((0 : Nat), (12 : Nat), (15 : Nat), (30 : Nat)), ((0 : Nat), (12 : Nat), (19 : Nat), (18 : Nat))]) ∈ lw_all := lw_g (lw_at lw_m7 171 rfl) rfl
theorem q1724 : (Jvm.Cond.methodLink "FlashZonesLaw" (38 : Nat) ({ cls := "FlashZones", name := "guess", desc := "(III)I" } : Jvm.MethodName)) ∈ lw_all := lw_g (lw_at lw_m7 172 rfl) rfl
theorem q1732 : (Jvm.Cond.methodLink "FlashZonesLaw" (172 : Nat) ({ cls := "FlashZonesLaw", name := "share", desc := "(LFlashZones;I[D)I" } : Jvm.MethodName)) ∈ lw_all := lw_g (lw_at lw_m7 180 rfl) rfl
theorem q1733 : (Jvm.Cond.static ({ cls := "FlashZonesLaw", name := "share", desc := "(LFlashZones;I[D)I" } : Jvm.MethodName)) ∈ lw_all := lw_g (lw_at lw_m7 181 rfl) rfl
theorem q1734 : (Jvm.Cond.codeWith ({ cls := "FlashZonesLaw", name := "share", desc := "(LFlashZones;I[D)I" } : Jvm.MethodName) method_11_code (4 : Nat) (Option.some Jvm.ClassFile.FieldType.int) [((0 : Nat), (8 : Nat), (11 : Nat), (30 : Nat))]) ∈ lw_all := lw_g (lw_at lw_m7 182 rfl) rfl
theorem q1735 : (Jvm.Cond.methodLink "FlashZonesLaw" (42 : Nat) ({ cls := "FlashZones", name := "share", desc := "(I)D" } : Jvm.MethodName)) ∈ lw_all := lw_g (lw_at lw_m7 183 rfl) rfl
theorem q1739 : (Jvm.Cond.methodLink "FlashZonesLaw" (185 : Nat) ({ cls := "FlashZonesLaw", name := "account", desc := "(LFlashZones;I[J)I" } : Jvm.MethodName)) ∈ lw_all := lw_g (lw_at lw_m7 187 rfl) rfl
theorem q1740 : (Jvm.Cond.static ({ cls := "FlashZonesLaw", name := "account", desc := "(LFlashZones;I[J)I" } : Jvm.MethodName)) ∈ lw_all := lw_g (lw_at lw_m7 188 rfl) rfl
theorem q1741 : (Jvm.Cond.codeWith ({ cls := "FlashZonesLaw", name := "account", desc := "(LFlashZones;I[J)I" } : Jvm.MethodName) method_12_code (4 : Nat) (Option.some Jvm.ClassFile.FieldType.int) [((0 : Nat), (9 : Nat), (12 : Nat), (18 : Nat))]) ∈ lw_all := lw_g (lw_at lw_m7 189 rfl) rfl
theorem q1742 : (Jvm.Cond.methodLink "FlashZonesLaw" (46 : Nat) ({ cls := "FlashZones", name := "account", desc := "(I)I" } : Jvm.MethodName)) ∈ lw_all := lw_g (lw_at lw_m7 190 rfl) rfl
theorem q1746 : (Jvm.Cond.methodLink "FlashZonesLaw" (188 : Nat) ({ cls := "FlashZonesLaw", name := "writer", desc := "(LFlashZones;II[J)I" } : Jvm.MethodName)) ∈ lw_all := lw_g (lw_at lw_m7 194 rfl) rfl
theorem q1747 : (Jvm.Cond.static ({ cls := "FlashZonesLaw", name := "writer", desc := "(LFlashZones;II[J)I" } : Jvm.MethodName)) ∈ lw_all := lw_g (lw_at lw_m7 195 rfl) rfl
theorem q1748 : (Jvm.Cond.codeWith ({ cls := "FlashZonesLaw", name := "writer", desc := "(LFlashZones;II[J)I" } : Jvm.MethodName) method_13_code (5 : Nat) (Option.some Jvm.ClassFile.FieldType.int) [((0 : Nat), (10 : Nat), (13 : Nat), (30 : Nat)), ((0 : Nat), (10 : Nat), (17 : Nat), (18 : Nat))]) ∈ lw_all := lw_g (lw_at lw_m7 196 rfl) rfl
theorem q1749 : (Jvm.Cond.methodLink "FlashZonesLaw" (49 : Nat) ({ cls := "FlashZones", name := "writer", desc := "(II)I" } : Jvm.MethodName)) ∈ lw_all := lw_g (lw_at lw_m7 197 rfl) rfl
theorem q1783 : (Jvm.Cond.methodLink "FlashZonesLaw" (191 : Nat) ({ cls := "FlashZonesLaw", name := "late", desc := "(LFlashZones;I[J)I" } : Jvm.MethodName)) ∈ lw_all := lw_g (lw_at lw_m7 231 rfl) rfl
theorem q1784 : (Jvm.Cond.static ({ cls := "FlashZonesLaw", name := "late", desc := "(LFlashZones;I[J)I" } : Jvm.MethodName)) ∈ lw_all := lw_g (lw_at lw_m7 232 rfl) rfl
theorem q1785 : (Jvm.Cond.codeWith ({ cls := "FlashZonesLaw", name := "late", desc := "(LFlashZones;I[J)I" } : Jvm.MethodName) method_14_code (4 : Nat) (Option.some Jvm.ClassFile.FieldType.int) [((0 : Nat), (9 : Nat), (12 : Nat), (30 : Nat))]) ∈ lw_all := lw_g (lw_at lw_m7 233 rfl) rfl
theorem q1786 : (Jvm.Cond.methodLink "FlashZonesLaw" (52 : Nat) ({ cls := "FlashZones", name := "late", desc := "(I)I" } : Jvm.MethodName)) ∈ lw_all := lw_g (lw_at lw_m7 234 rfl) rfl
theorem q1790 : (Jvm.Cond.methodLink "FlashZonesLaw" (194 : Nat) ({ cls := "FlashZonesLaw", name := "inZone", desc := "(LFlashZones;II[J)I" } : Jvm.MethodName)) ∈ lw_all := lw_g (lw_at lw_m7 238 rfl) rfl
theorem q1791 : (Jvm.Cond.static ({ cls := "FlashZonesLaw", name := "inZone", desc := "(LFlashZones;II[J)I" } : Jvm.MethodName)) ∈ lw_all := lw_g (lw_at lw_m7 239 rfl) rfl
theorem q1792 : (Jvm.Cond.codeWith ({ cls := "FlashZonesLaw", name := "inZone", desc := "(LFlashZones;II[J)I" } : Jvm.MethodName) method_15_code (5 : Nat) (Option.some Jvm.ClassFile.FieldType.int) [((0 : Nat), (10 : Nat), (13 : Nat), (30 : Nat))]) ∈ lw_all := lw_g (lw_at lw_m8 0 rfl) rfl
theorem q1793 : (Jvm.Cond.methodLink "FlashZonesLaw" (55 : Nat) ({ cls := "FlashZones", name := "inZone", desc := "(II)I" } : Jvm.MethodName)) ∈ lw_all := lw_g (lw_at lw_m8 1 rfl) rfl
theorem q1797 : (Jvm.Cond.methodLink "FlashZonesLaw" (197 : Nat) ({ cls := "FlashZonesLaw", name := "due", desc := "(LFlashZones;I[J)I" } : Jvm.MethodName)) ∈ lw_all := lw_g (lw_at lw_m8 5 rfl) rfl
theorem q1798 : (Jvm.Cond.static ({ cls := "FlashZonesLaw", name := "due", desc := "(LFlashZones;I[J)I" } : Jvm.MethodName)) ∈ lw_all := lw_g (lw_at lw_m8 6 rfl) rfl
theorem q1799 : (Jvm.Cond.codeWith ({ cls := "FlashZonesLaw", name := "due", desc := "(LFlashZones;I[J)I" } : Jvm.MethodName) method_16_code (4 : Nat) (Option.some Jvm.ClassFile.FieldType.int) [((0 : Nat), (9 : Nat), (12 : Nat), (30 : Nat))]) ∈ lw_all := lw_g (lw_at lw_m8 7 rfl) rfl
theorem q1800 : (Jvm.Cond.methodLink "FlashZonesLaw" (58 : Nat) ({ cls := "FlashZones", name := "due", desc := "(I)I" } : Jvm.MethodName)) ∈ lw_all := lw_g (lw_at lw_m8 8 rfl) rfl
theorem q1805 : (Jvm.Cond.methodLink "FlashZonesLaw" (200 : Nat) ({ cls := "FlashZonesLaw", name := "wear", desc := "(LFlashZones;I[J)I" } : Jvm.MethodName)) ∈ lw_all := lw_g (lw_at lw_m8 13 rfl) rfl
theorem q1806 : (Jvm.Cond.static ({ cls := "FlashZonesLaw", name := "wear", desc := "(LFlashZones;I[J)I" } : Jvm.MethodName)) ∈ lw_all := lw_g (lw_at lw_m8 14 rfl) rfl
theorem q1807 : (Jvm.Cond.codeWith ({ cls := "FlashZonesLaw", name := "wear", desc := "(LFlashZones;I[J)I" } : Jvm.MethodName) method_17_code (4 : Nat) (Option.some Jvm.ClassFile.FieldType.int) [((0 : Nat), (9 : Nat), (12 : Nat), (18 : Nat))]) ∈ lw_all := lw_g (lw_at lw_m8 15 rfl) rfl
theorem q1808 : (Jvm.Cond.methodLink "FlashZonesLaw" (61 : Nat) ({ cls := "FlashZones", name := "wear", desc := "(I)I" } : Jvm.MethodName)) ∈ lw_all := lw_g (lw_at lw_m8 16 rfl) rfl
theorem q1837 : (Jvm.Cond.methodLink "FlashZonesLaw" (203 : Nat) ({ cls := "FlashZonesLaw", name := "bin", desc := "(LFlashZones;II[J)I" } : Jvm.MethodName)) ∈ lw_all := lw_g (lw_at lw_m8 45 rfl) rfl
theorem q1838 : (Jvm.Cond.static ({ cls := "FlashZonesLaw", name := "bin", desc := "(LFlashZones;II[J)I" } : Jvm.MethodName)) ∈ lw_all := lw_g (lw_at lw_m8 46 rfl) rfl
theorem q1839 : (Jvm.Cond.codeWith ({ cls := "FlashZonesLaw", name := "bin", desc := "(LFlashZones;II[J)I" } : Jvm.MethodName) method_18_code (5 : Nat) (Option.some Jvm.ClassFile.FieldType.int) [((0 : Nat), (10 : Nat), (13 : Nat), (30 : Nat))]) ∈ lw_all := lw_g (lw_at lw_m8 47 rfl) rfl
theorem q1840 : (Jvm.Cond.methodLink "FlashZonesLaw" (64 : Nat) ({ cls := "FlashZones", name := "bin", desc := "(II)I" } : Jvm.MethodName)) ∈ lw_all := lw_g (lw_at lw_m8 48 rfl) rfl
theorem q1849 : (Jvm.Cond.methodLink "FlashZonesLaw" (206 : Nat) ({ cls := "FlashZonesLaw", name := "expected", desc := "(LFlashZones;II[J)I" } : Jvm.MethodName)) ∈ lw_all := lw_g (lw_at lw_m8 57 rfl) rfl
theorem q1850 : (Jvm.Cond.static ({ cls := "FlashZonesLaw", name := "expected", desc := "(LFlashZones;II[J)I" } : Jvm.MethodName)) ∈ lw_all := lw_g (lw_at lw_m8 58 rfl) rfl
theorem q1851 : (Jvm.Cond.codeWith ({ cls := "FlashZonesLaw", name := "expected", desc := "(LFlashZones;II[J)I" } : Jvm.MethodName) method_19_code (5 : Nat) (Option.some Jvm.ClassFile.FieldType.int) [((0 : Nat), (10 : Nat), (13 : Nat), (18 : Nat))]) ∈ lw_all := lw_g (lw_at lw_m8 59 rfl) rfl
theorem q1852 : (Jvm.Cond.methodLink "FlashZonesLaw" (67 : Nat) ({ cls := "FlashZones", name := "expected", desc := "(II)I" } : Jvm.MethodName)) ∈ lw_all := lw_g (lw_at lw_m8 60 rfl) rfl
theorem q1858 : (Jvm.Cond.methodLink "FlashZonesLaw" (213 : Nat) ({ cls := "FlashZonesLaw", name := "leaderIf", desc := "(LFlashZones;I[J)I" } : Jvm.MethodName)) ∈ lw_all := lw_g (lw_at lw_m8 66 rfl) rfl
theorem q1859 : (Jvm.Cond.static ({ cls := "FlashZonesLaw", name := "leaderIf", desc := "(LFlashZones;I[J)I" } : Jvm.MethodName)) ∈ lw_all := lw_g (lw_at lw_m8 67 rfl) rfl
theorem q1860 : (Jvm.Cond.codeWith ({ cls := "FlashZonesLaw", name := "leaderIf", desc := "(LFlashZones;I[J)I" } : Jvm.MethodName) method_20_code (4 : Nat) (Option.some Jvm.ClassFile.FieldType.int) [((0 : Nat), (9 : Nat), (12 : Nat), (30 : Nat))]) ∈ lw_all := lw_g (lw_at lw_m8 68 rfl) rfl
theorem q1861 : (Jvm.Cond.methodLink "FlashZonesLaw" (70 : Nat) ({ cls := "FlashZones", name := "leaderIf", desc := "(I)I" } : Jvm.MethodName)) ∈ lw_all := lw_g (lw_at lw_m8 69 rfl) rfl
theorem q1868 : (Jvm.Cond.methodLink "FlashZonesLaw" (216 : Nat) ({ cls := "FlashZonesLaw", name := "write", desc := "(LFlashZones;III[J)I" } : Jvm.MethodName)) ∈ lw_all := lw_g (lw_at lw_m8 76 rfl) rfl
theorem q1869 : (Jvm.Cond.static ({ cls := "FlashZonesLaw", name := "write", desc := "(LFlashZones;III[J)I" } : Jvm.MethodName)) ∈ lw_all := lw_g (lw_at lw_m8 77 rfl) rfl
theorem q1870 : (Jvm.Cond.codeWith ({ cls := "FlashZonesLaw", name := "write", desc := "(LFlashZones;III[J)I" } : Jvm.MethodName) method_21_code (6 : Nat) (Option.some Jvm.ClassFile.FieldType.int) [((0 : Nat), (12 : Nat), (15 : Nat), (18 : Nat))]) ∈ lw_all := lw_g (lw_at lw_m8 78 rfl) rfl
theorem q1871 : (Jvm.Cond.methodLink "FlashZonesLaw" (73 : Nat) ({ cls := "FlashZones", name := "write", desc := "(III)I" } : Jvm.MethodName)) ∈ lw_all := lw_g (lw_at lw_m8 79 rfl) rfl
theorem q1875 : (Jvm.Cond.methodLink "FlashZonesLaw" (219 : Nat) ({ cls := "FlashZonesLaw", name := "die", desc := "(LFlashZones;I[J)I" } : Jvm.MethodName)) ∈ lw_all := lw_g (lw_at lw_m8 83 rfl) rfl
theorem q1876 : (Jvm.Cond.static ({ cls := "FlashZonesLaw", name := "die", desc := "(LFlashZones;I[J)I" } : Jvm.MethodName)) ∈ lw_all := lw_g (lw_at lw_m8 84 rfl) rfl
theorem q1877 : (Jvm.Cond.codeWith ({ cls := "FlashZonesLaw", name := "die", desc := "(LFlashZones;I[J)I" } : Jvm.MethodName) method_22_code (4 : Nat) (Option.some Jvm.ClassFile.FieldType.int) [((0 : Nat), (9 : Nat), (12 : Nat), (30 : Nat))]) ∈ lw_all := lw_g (lw_at lw_m8 85 rfl) rfl
theorem q1878 : (Jvm.Cond.methodLink "FlashZonesLaw" (76 : Nat) ({ cls := "FlashZones", name := "die", desc := "(I)I" } : Jvm.MethodName)) ∈ lw_all := lw_g (lw_at lw_m8 86 rfl) rfl
theorem q1882 : (Jvm.Cond.methodLink "FlashZonesLaw" (222 : Nat) ({ cls := "FlashZonesLaw", name := "reset", desc := "(LFlashZones;I[J)I" } : Jvm.MethodName)) ∈ lw_all := lw_g (lw_at lw_m8 90 rfl) rfl
theorem q1883 : (Jvm.Cond.static ({ cls := "FlashZonesLaw", name := "reset", desc := "(LFlashZones;I[J)I" } : Jvm.MethodName)) ∈ lw_all := lw_g (lw_at lw_m8 91 rfl) rfl
theorem q1884 : (Jvm.Cond.codeWith ({ cls := "FlashZonesLaw", name := "reset", desc := "(LFlashZones;I[J)I" } : Jvm.MethodName) method_23_code (4 : Nat) (Option.some Jvm.ClassFile.FieldType.int) [((0 : Nat), (9 : Nat), (12 : Nat), (30 : Nat))]) ∈ lw_all := lw_g (lw_at lw_m8 92 rfl) rfl
theorem q1885 : (Jvm.Cond.methodLink "FlashZonesLaw" (79 : Nat) ({ cls := "FlashZones", name := "reset", desc := "(I)I" } : Jvm.MethodName)) ∈ lw_all := lw_g (lw_at lw_m8 93 rfl) rfl
theorem q1889 : (Jvm.Cond.methodLink "FlashZonesLaw" (225 : Nat) ({ cls := "FlashZonesLaw", name := "bury", desc := "(LFlashZones;I[J)I" } : Jvm.MethodName)) ∈ lw_all := lw_g (lw_at lw_m8 97 rfl) rfl
theorem q1890 : (Jvm.Cond.static ({ cls := "FlashZonesLaw", name := "bury", desc := "(LFlashZones;I[J)I" } : Jvm.MethodName)) ∈ lw_all := lw_g (lw_at lw_m8 98 rfl) rfl
theorem q1891 : (Jvm.Cond.codeWith ({ cls := "FlashZonesLaw", name := "bury", desc := "(LFlashZones;I[J)I" } : Jvm.MethodName) method_24_code (4 : Nat) (Option.some Jvm.ClassFile.FieldType.int) [((0 : Nat), (9 : Nat), (12 : Nat), (30 : Nat))]) ∈ lw_all := lw_g (lw_at lw_m8 99 rfl) rfl
theorem q1892 : (Jvm.Cond.methodLink "FlashZonesLaw" (82 : Nat) ({ cls := "FlashZones", name := "bury", desc := "(I)I" } : Jvm.MethodName)) ∈ lw_all := lw_g (lw_at lw_m8 100 rfl) rfl
theorem q1896 : (Jvm.Cond.methodLink "FlashZonesLaw" (228 : Nat) ({ cls := "FlashZonesLaw", name := "days", desc := "(LFlashZones;I[J)I" } : Jvm.MethodName)) ∈ lw_all := lw_g (lw_at lw_m8 104 rfl) rfl
theorem q1897 : (Jvm.Cond.static ({ cls := "FlashZonesLaw", name := "days", desc := "(LFlashZones;I[J)I" } : Jvm.MethodName)) ∈ lw_all := lw_g (lw_at lw_m8 105 rfl) rfl
theorem q1898 : (Jvm.Cond.codeWith ({ cls := "FlashZonesLaw", name := "days", desc := "(LFlashZones;I[J)I" } : Jvm.MethodName) method_25_code (4 : Nat) (Option.some Jvm.ClassFile.FieldType.int) [((0 : Nat), (9 : Nat), (12 : Nat), (18 : Nat))]) ∈ lw_all := lw_g (lw_at lw_m8 106 rfl) rfl
theorem q1899 : (Jvm.Cond.methodLink "FlashZonesLaw" (85 : Nat) ({ cls := "FlashZones", name := "days", desc := "(I)I" } : Jvm.MethodName)) ∈ lw_all := lw_g (lw_at lw_m8 107 rfl) rfl
theorem q1903 : (Jvm.Cond.methodLink "FlashZonesLaw" (231 : Nat) ({ cls := "FlashZonesLaw", name := "place", desc := "(LFlashZones;II[J)I" } : Jvm.MethodName)) ∈ lw_all := lw_g (lw_at lw_m8 111 rfl) rfl
theorem q1904 : (Jvm.Cond.static ({ cls := "FlashZonesLaw", name := "place", desc := "(LFlashZones;II[J)I" } : Jvm.MethodName)) ∈ lw_all := lw_g (lw_at lw_m8 112 rfl) rfl
theorem q1905 : (Jvm.Cond.codeWith ({ cls := "FlashZonesLaw", name := "place", desc := "(LFlashZones;II[J)I" } : Jvm.MethodName) method_26_code (5 : Nat) (Option.some Jvm.ClassFile.FieldType.int) [((0 : Nat), (10 : Nat), (13 : Nat), (18 : Nat))]) ∈ lw_all := lw_g (lw_at lw_m8 113 rfl) rfl
theorem q1906 : (Jvm.Cond.methodLink "FlashZonesLaw" (88 : Nat) ({ cls := "FlashZones", name := "place", desc := "(II)I" } : Jvm.MethodName)) ∈ lw_all := lw_g (lw_at lw_m8 114 rfl) rfl
theorem q1911 : (Jvm.Cond.methodLink "FlashZonesLaw" (234 : Nat) ({ cls := "FlashZonesLaw", name := "toBury", desc := "(LFlashZones;I[J)I" } : Jvm.MethodName)) ∈ lw_all := lw_g (lw_at lw_m8 119 rfl) rfl
theorem q1912 : (Jvm.Cond.static ({ cls := "FlashZonesLaw", name := "toBury", desc := "(LFlashZones;I[J)I" } : Jvm.MethodName)) ∈ lw_all := lw_g (lw_at lw_m8 120 rfl) rfl
theorem q1913 : (Jvm.Cond.codeWith ({ cls := "FlashZonesLaw", name := "toBury", desc := "(LFlashZones;I[J)I" } : Jvm.MethodName) method_27_code (4 : Nat) (Option.some Jvm.ClassFile.FieldType.int) [((0 : Nat), (9 : Nat), (12 : Nat), (30 : Nat))]) ∈ lw_all := lw_g (lw_at lw_m8 121 rfl) rfl
theorem q1914 : (Jvm.Cond.methodLink "FlashZonesLaw" (91 : Nat) ({ cls := "FlashZones", name := "toBury", desc := "(I)I" } : Jvm.MethodName)) ∈ lw_all := lw_g (lw_at lw_m8 122 rfl) rfl
theorem q1919 : (Jvm.Cond.methodLink "FlashZonesLaw" (237 : Nat) ({ cls := "FlashZonesLaw", name := "ahead", desc := "(LFlashZones;II[J)I" } : Jvm.MethodName)) ∈ lw_all := lw_g (lw_at lw_m8 127 rfl) rfl
theorem q1920 : (Jvm.Cond.static ({ cls := "FlashZonesLaw", name := "ahead", desc := "(LFlashZones;II[J)I" } : Jvm.MethodName)) ∈ lw_all := lw_g (lw_at lw_m8 128 rfl) rfl
theorem q1921 : (Jvm.Cond.codeWith ({ cls := "FlashZonesLaw", name := "ahead", desc := "(LFlashZones;II[J)I" } : Jvm.MethodName) method_28_code (5 : Nat) (Option.some Jvm.ClassFile.FieldType.int) [((0 : Nat), (10 : Nat), (13 : Nat), (18 : Nat))]) ∈ lw_all := lw_g (lw_at lw_m8 129 rfl) rfl
theorem q1922 : (Jvm.Cond.methodLink "FlashZonesLaw" (94 : Nat) ({ cls := "FlashZones", name := "ahead", desc := "(II)I" } : Jvm.MethodName)) ∈ lw_all := lw_g (lw_at lw_m8 130 rfl) rfl
theorem q1927 : (Jvm.Cond.methodLink "FlashZonesLaw" (240 : Nat) ({ cls := "FlashZonesLaw", name := "anew", desc := "(LFlashZones;II[J)I" } : Jvm.MethodName)) ∈ lw_all := lw_g (lw_at lw_m8 135 rfl) rfl
theorem q1928 : (Jvm.Cond.static ({ cls := "FlashZonesLaw", name := "anew", desc := "(LFlashZones;II[J)I" } : Jvm.MethodName)) ∈ lw_all := lw_g (lw_at lw_m8 136 rfl) rfl
theorem q1929 : (Jvm.Cond.codeWith ({ cls := "FlashZonesLaw", name := "anew", desc := "(LFlashZones;II[J)I" } : Jvm.MethodName) method_29_code (5 : Nat) (Option.some Jvm.ClassFile.FieldType.int) [((0 : Nat), (10 : Nat), (13 : Nat), (18 : Nat))]) ∈ lw_all := lw_g (lw_at lw_m8 137 rfl) rfl
theorem q1930 : (Jvm.Cond.methodLink "FlashZonesLaw" (97 : Nat) ({ cls := "FlashZones", name := "anew", desc := "(II)I" } : Jvm.MethodName)) ∈ lw_all := lw_g (lw_at lw_m8 138 rfl) rfl
theorem q1935 : (Jvm.Cond.methodLink "FlashZonesLaw" (247 : Nat) ({ cls := "FlashZonesLaw", name := "better", desc := "(LFlashZones;II[J)I" } : Jvm.MethodName)) ∈ lw_all := lw_g (lw_at lw_m8 143 rfl) rfl
theorem q1936 : (Jvm.Cond.static ({ cls := "FlashZonesLaw", name := "better", desc := "(LFlashZones;II[J)I" } : Jvm.MethodName)) ∈ lw_all := lw_g (lw_at lw_m8 144 rfl) rfl
theorem q1937 : (Jvm.Cond.codeWith ({ cls := "FlashZonesLaw", name := "better", desc := "(LFlashZones;II[J)I" } : Jvm.MethodName) method_30_code (5 : Nat) (Option.some Jvm.ClassFile.FieldType.int) [((0 : Nat), (10 : Nat), (13 : Nat), (18 : Nat))]) ∈ lw_all := lw_g (lw_at lw_m8 145 rfl) rfl
theorem q1938 : (Jvm.Cond.methodLink "FlashZonesLaw" (100 : Nat) ({ cls := "FlashZones", name := "better", desc := "(II)I" } : Jvm.MethodName)) ∈ lw_all := lw_g (lw_at lw_m8 146 rfl) rfl
theorem q1942 : (Jvm.Cond.methodLink "FlashZonesLaw" (250 : Nat) ({ cls := "FlashZonesLaw", name := "gap", desc := "(LFlashZones;I[J)I" } : Jvm.MethodName)) ∈ lw_all := lw_g (lw_at lw_m8 150 rfl) rfl
theorem q1943 : (Jvm.Cond.static ({ cls := "FlashZonesLaw", name := "gap", desc := "(LFlashZones;I[J)I" } : Jvm.MethodName)) ∈ lw_all := lw_g (lw_at lw_m8 151 rfl) rfl
theorem q1944 : (Jvm.Cond.codeWith ({ cls := "FlashZonesLaw", name := "gap", desc := "(LFlashZones;I[J)I" } : Jvm.MethodName) method_31_code (4 : Nat) (Option.some Jvm.ClassFile.FieldType.int) [((0 : Nat), (9 : Nat), (12 : Nat), (18 : Nat))]) ∈ lw_all := lw_g (lw_at lw_m8 152 rfl) rfl
theorem q1945 : (Jvm.Cond.methodLink "FlashZonesLaw" (103 : Nat) ({ cls := "FlashZones", name := "gap", desc := "(I)I" } : Jvm.MethodName)) ∈ lw_all := lw_g (lw_at lw_m8 153 rfl) rfl
theorem q1949 : (Jvm.Cond.methodLink "FlashZonesLaw" (253 : Nat) ({ cls := "FlashZonesLaw", name := "history", desc := "(LFlashZones;II[J)I" } : Jvm.MethodName)) ∈ lw_all := lw_g (lw_at lw_m8 157 rfl) rfl
theorem q1950 : (Jvm.Cond.static ({ cls := "FlashZonesLaw", name := "history", desc := "(LFlashZones;II[J)I" } : Jvm.MethodName)) ∈ lw_all := lw_g (lw_at lw_m8 158 rfl) rfl
theorem q1951 : (Jvm.Cond.codeWith ({ cls := "FlashZonesLaw", name := "history", desc := "(LFlashZones;II[J)I" } : Jvm.MethodName) method_32_code (5 : Nat) (Option.some Jvm.ClassFile.FieldType.int) [((0 : Nat), (10 : Nat), (13 : Nat), (30 : Nat)), ((0 : Nat), (10 : Nat), (17 : Nat), (18 : Nat))]) ∈ lw_all := lw_g (lw_at lw_m8 159 rfl) rfl
theorem q1952 : (Jvm.Cond.methodLink "FlashZonesLaw" (106 : Nat) ({ cls := "FlashZones", name := "history", desc := "(II)I" } : Jvm.MethodName)) ∈ lw_all := lw_g (lw_at lw_m8 160 rfl) rfl
theorem q1956 : (Jvm.Cond.methodLink "FlashZonesLaw" (256 : Nat) ({ cls := "FlashZonesLaw", name := "show", desc := "(LFlashZones;I[J)I" } : Jvm.MethodName)) ∈ lw_all := lw_g (lw_at lw_m8 164 rfl) rfl
theorem q1957 : (Jvm.Cond.static ({ cls := "FlashZonesLaw", name := "show", desc := "(LFlashZones;I[J)I" } : Jvm.MethodName)) ∈ lw_all := lw_g (lw_at lw_m8 165 rfl) rfl
theorem q1958 : (Jvm.Cond.codeWith ({ cls := "FlashZonesLaw", name := "show", desc := "(LFlashZones;I[J)I" } : Jvm.MethodName) method_33_code (4 : Nat) (Option.some Jvm.ClassFile.FieldType.int) [((0 : Nat), (9 : Nat), (12 : Nat), (30 : Nat))]) ∈ lw_all := lw_g (lw_at lw_m8 166 rfl) rfl
theorem q1959 : (Jvm.Cond.methodLink "FlashZonesLaw" (109 : Nat) ({ cls := "FlashZones", name := "show", desc := "(I)I" } : Jvm.MethodName)) ∈ lw_all := lw_g (lw_at lw_m8 167 rfl) rfl
theorem q1967 : (Jvm.Cond.methodLink "FlashZonesLaw" (271 : Nat) ({ cls := "FlashZonesLaw", name := "save", desc := "(LFlashZones;I)I" } : Jvm.MethodName)) ∈ lw_all := lw_g (lw_at lw_m8 175 rfl) rfl
theorem q1968 : (Jvm.Cond.static ({ cls := "FlashZonesLaw", name := "save", desc := "(LFlashZones;I)I" } : Jvm.MethodName)) ∈ lw_all := lw_g (lw_at lw_m8 176 rfl) rfl
theorem q1969 : (Jvm.Cond.codeWith ({ cls := "FlashZonesLaw", name := "save", desc := "(LFlashZones;I)I" } : Jvm.MethodName) method_34_code (3 : Nat) (Option.some Jvm.ClassFile.FieldType.int) [((0 : Nat), (5 : Nat), (8 : Nat), (18 : Nat))]) ∈ lw_all := lw_g (lw_at lw_m8 177 rfl) rfl
theorem q1970 : (Jvm.Cond.methodLink "FlashZonesLaw" (112 : Nat) ({ cls := "FlashZones", name := "save", desc := "(I)V" } : Jvm.MethodName)) ∈ lw_all := lw_g (lw_at lw_m8 178 rfl) rfl
theorem q1974 : (Jvm.Cond.methodLink "FlashZonesLaw" (275 : Nat) ({ cls := "FlashZonesLaw", name := "restore", desc := "(LFlashZones;I)I" } : Jvm.MethodName)) ∈ lw_all := lw_g (lw_at lw_m8 182 rfl) rfl
theorem q1975 : (Jvm.Cond.static ({ cls := "FlashZonesLaw", name := "restore", desc := "(LFlashZones;I)I" } : Jvm.MethodName)) ∈ lw_all := lw_g (lw_at lw_m8 183 rfl) rfl
theorem q1976 : (Jvm.Cond.codeWith ({ cls := "FlashZonesLaw", name := "restore", desc := "(LFlashZones;I)I" } : Jvm.MethodName) method_35_code (3 : Nat) (Option.some Jvm.ClassFile.FieldType.int) [((0 : Nat), (5 : Nat), (8 : Nat), (18 : Nat)), ((0 : Nat), (5 : Nat), (11 : Nat), (13 : Nat))]) ∈ lw_all := lw_g (lw_at lw_m8 184 rfl) rfl
theorem q1977 : (Jvm.Cond.methodLink "FlashZonesLaw" (116 : Nat) ({ cls := "FlashZones", name := "restore", desc := "(I)V" } : Jvm.MethodName)) ∈ lw_all := lw_g (lw_at lw_m8 185 rfl) rfl
theorem q1981 : (Jvm.Cond.classLink "FlashZonesLaw" (120 : Nat) "FlashZonesModel") ∈ lw_all := lw_g (lw_at lw_m8 189 rfl) rfl
theorem q1983 : (Jvm.Cond.methodLink "FlashZonesLaw" (122 : Nat) ({ cls := "FlashZonesModel", name := "<init>", desc := "()V" } : Jvm.MethodName)) ∈ lw_all := lw_g (lw_at lw_m8 191 rfl) rfl
theorem q2071 : (Jvm.Cond.methodLink "FlashZonesLaw" (129 : Nat) ({ cls := "FlashZonesModel", name := "thrown", desc := "()I" } : Jvm.MethodName)) ∈ lw_all := lw_g (lw_at lw_m9 39 rfl) rfl
theorem q2075 : (Jvm.Cond.methodLink "FlashZonesLaw" (151 : Nat) ({ cls := "FlashZonesModel", name := "set", desc := "(II)I" } : Jvm.MethodName)) ∈ lw_all := lw_g (lw_at lw_m9 43 rfl) rfl
theorem q2088 : (Jvm.Cond.methodLink "FlashZonesLaw" (155 : Nat) ({ cls := "FlashZonesModel", name := "clear", desc := "()I" } : Jvm.MethodName)) ∈ lw_all := lw_g (lw_at lw_m9 56 rfl) rfl
theorem q2092 : (Jvm.Cond.methodLink "FlashZonesLaw" (158 : Nat) ({ cls := "FlashZonesModel", name := "count", desc := "(I)I" } : Jvm.MethodName)) ∈ lw_all := lw_g (lw_at lw_m9 60 rfl) rfl
theorem q2135 : (Jvm.Cond.methodLink "FlashZonesLaw" (161 : Nat) ({ cls := "FlashZonesModel", name := "zone", desc := "(II)I" } : Jvm.MethodName)) ∈ lw_all := lw_g (lw_at lw_m9 103 rfl) rfl
theorem q2155 : (Jvm.Cond.methodLink "FlashZonesLaw" (164 : Nat) ({ cls := "FlashZonesModel", name := "unit", desc := "(II)I" } : Jvm.MethodName)) ∈ lw_all := lw_g (lw_at lw_m9 123 rfl) rfl
theorem q2163 : (Jvm.Cond.methodLink "FlashZonesLaw" (167 : Nat) ({ cls := "FlashZonesModel", name := "guesser", desc := "(II)I" } : Jvm.MethodName)) ∈ lw_all := lw_g (lw_at lw_m9 131 rfl) rfl
theorem q2170 : (Jvm.Cond.methodLink "FlashZonesLaw" (171 : Nat) ({ cls := "FlashZonesModel", name := "guess", desc := "(III)I" } : Jvm.MethodName)) ∈ lw_all := lw_g (lw_at lw_m9 138 rfl) rfl
theorem q2188 : (Jvm.Cond.methodLink "FlashZonesLaw" (175 : Nat) ({ cls := "FlashZonesModel", name := "share", desc := "(I)D" } : Jvm.MethodName)) ∈ lw_all := lw_g (lw_at lw_m9 156 rfl) rfl
theorem q2192 : (Jvm.Cond.methodLink "FlashZonesLaw" (179 : Nat) ({ cls := "FlashZonesModel", name := "regret", desc := "()I" } : Jvm.MethodName)) ∈ lw_all := lw_g (lw_at lw_m9 160 rfl) rfl
theorem q2196 : (Jvm.Cond.methodLink "FlashZonesLaw" (184 : Nat) ({ cls := "FlashZonesModel", name := "meanLife", desc := "()F" } : Jvm.MethodName)) ∈ lw_all := lw_g (lw_at lw_m9 164 rfl) rfl
theorem q2201 : (Jvm.Cond.methodLink "FlashZonesLaw" (187 : Nat) ({ cls := "FlashZonesModel", name := "account", desc := "(I)I" } : Jvm.MethodName)) ∈ lw_all := lw_g (lw_at lw_m9 169 rfl) rfl
theorem q2205 : (Jvm.Cond.methodLink "FlashZonesLaw" (190 : Nat) ({ cls := "FlashZonesModel", name := "writer", desc := "(II)I" } : Jvm.MethodName)) ∈ lw_all := lw_g (lw_at lw_m9 173 rfl) rfl
theorem q2221 : (Jvm.Cond.methodLink "FlashZonesLaw" (193 : Nat) ({ cls := "FlashZonesModel", name := "late", desc := "(I)I" } : Jvm.MethodName)) ∈ lw_all := lw_g (lw_at lw_m9 189 rfl) rfl
theorem q2225 : (Jvm.Cond.methodLink "FlashZonesLaw" (196 : Nat) ({ cls := "FlashZonesModel", name := "inZone", desc := "(II)I" } : Jvm.MethodName)) ∈ lw_all := lw_g (lw_at lw_m9 193 rfl) rfl
theorem q2229 : (Jvm.Cond.methodLink "FlashZonesLaw" (199 : Nat) ({ cls := "FlashZonesModel", name := "due", desc := "(I)I" } : Jvm.MethodName)) ∈ lw_all := lw_g (lw_at lw_m9 197 rfl) rfl
theorem q2233 : (Jvm.Cond.methodLink "FlashZonesLaw" (202 : Nat) ({ cls := "FlashZonesModel", name := "wear", desc := "(I)I" } : Jvm.MethodName)) ∈ lw_all := lw_g (lw_at lw_m9 201 rfl) rfl
theorem q2237 : (Jvm.Cond.methodLink "FlashZonesLaw" (208 : Nat) ({ cls := "FlashZonesModel", name := "expected", desc := "(II)I" } : Jvm.MethodName)) ∈ lw_all := lw_g (lw_at lw_m9 205 rfl) rfl
theorem q2241 : (Jvm.Cond.methodLink "FlashZonesLaw" (212 : Nat) ({ cls := "FlashZonesModel", name := "nextFate", desc := "()I" } : Jvm.MethodName)) ∈ lw_all := lw_g (lw_at lw_m9 209 rfl) rfl
theorem q2245 : (Jvm.Cond.methodLink "FlashZonesLaw" (252 : Nat) ({ cls := "FlashZonesModel", name := "gap", desc := "(I)I" } : Jvm.MethodName)) ∈ lw_all := lw_g (lw_at lw_m9 213 rfl) rfl
theorem q2336 : (Jvm.Cond.methodLink "FlashZonesLaw" (205 : Nat) ({ cls := "FlashZonesModel", name := "bin", desc := "(II)I" } : Jvm.MethodName)) ∈ lw_all := lw_g (lw_at lw_m10 64 rfl) rfl
theorem q2343 : (Jvm.Cond.methodLink "FlashZonesLaw" (215 : Nat) ({ cls := "FlashZonesModel", name := "leaderIf", desc := "(I)I" } : Jvm.MethodName)) ∈ lw_all := lw_g (lw_at lw_m10 71 rfl) rfl
theorem q2347 : (Jvm.Cond.methodLink "FlashZonesLaw" (218 : Nat) ({ cls := "FlashZonesModel", name := "write", desc := "(III)I" } : Jvm.MethodName)) ∈ lw_all := lw_g (lw_at lw_m10 75 rfl) rfl
theorem q2371 : (Jvm.Cond.methodLink "FlashZonesLaw" (221 : Nat) ({ cls := "FlashZonesModel", name := "die", desc := "(I)I" } : Jvm.MethodName)) ∈ lw_all := lw_g (lw_at lw_m10 99 rfl) rfl
theorem q2379 : (Jvm.Cond.methodLink "FlashZonesLaw" (224 : Nat) ({ cls := "FlashZonesModel", name := "reset", desc := "(I)I" } : Jvm.MethodName)) ∈ lw_all := lw_g (lw_at lw_m10 107 rfl) rfl
theorem q2387 : (Jvm.Cond.methodLink "FlashZonesLaw" (227 : Nat) ({ cls := "FlashZonesModel", name := "bury", desc := "(I)I" } : Jvm.MethodName)) ∈ lw_all := lw_g (lw_at lw_m10 115 rfl) rfl
theorem q2399 : (Jvm.Cond.methodLink "FlashZonesLaw" (230 : Nat) ({ cls := "FlashZonesModel", name := "days", desc := "(I)I" } : Jvm.MethodName)) ∈ lw_all := lw_g (lw_at lw_m10 127 rfl) rfl
theorem q2410 : (Jvm.Cond.methodLink "FlashZonesLaw" (233 : Nat) ({ cls := "FlashZonesModel", name := "place", desc := "(II)I" } : Jvm.MethodName)) ∈ lw_all := lw_g (lw_at lw_m10 138 rfl) rfl
theorem q2414 : (Jvm.Cond.methodLink "FlashZonesLaw" (236 : Nat) ({ cls := "FlashZonesModel", name := "toBury", desc := "(I)I" } : Jvm.MethodName)) ∈ lw_all := lw_g (lw_at lw_m10 142 rfl) rfl
theorem q2418 : (Jvm.Cond.methodLink "FlashZonesLaw" (239 : Nat) ({ cls := "FlashZonesModel", name := "ahead", desc := "(II)I" } : Jvm.MethodName)) ∈ lw_all := lw_g (lw_at lw_m10 146 rfl) rfl
theorem q2422 : (Jvm.Cond.methodLink "FlashZonesLaw" (242 : Nat) ({ cls := "FlashZonesModel", name := "anew", desc := "(II)I" } : Jvm.MethodName)) ∈ lw_all := lw_g (lw_at lw_m10 150 rfl) rfl
theorem q2426 : (Jvm.Cond.methodLink "FlashZonesLaw" (246 : Nat) ({ cls := "FlashZonesModel", name := "hindsight", desc := "()I" } : Jvm.MethodName)) ∈ lw_all := lw_g (lw_at lw_m10 154 rfl) rfl
theorem q2430 : (Jvm.Cond.methodLink "FlashZonesLaw" (249 : Nat) ({ cls := "FlashZonesModel", name := "better", desc := "(II)I" } : Jvm.MethodName)) ∈ lw_all := lw_g (lw_at lw_m10 158 rfl) rfl
theorem q2434 : (Jvm.Cond.methodLink "FlashZonesLaw" (255 : Nat) ({ cls := "FlashZonesModel", name := "history", desc := "(II)I" } : Jvm.MethodName)) ∈ lw_all := lw_g (lw_at lw_m10 162 rfl) rfl
theorem q2438 : (Jvm.Cond.methodLink "FlashZonesLaw" (128 : Nat) ({ cls := "FlashZonesModel", name := "appendText", desc := "(I)I" } : Jvm.MethodName)) ∈ lw_all := lw_g (lw_at lw_m10 166 rfl) rfl
theorem q2442 : (Jvm.Cond.methodLink "FlashZonesLaw" (135 : Nat) ({ cls := "FlashZonesModel", name := "truncateText", desc := "(I)I" } : Jvm.MethodName)) ∈ lw_all := lw_g (lw_at lw_m10 170 rfl) rfl
theorem q2446 : (Jvm.Cond.methodLink "FlashZonesLaw" (139 : Nat) ({ cls := "FlashZonesModel", name := "runScript", desc := "()I" } : Jvm.MethodName)) ∈ lw_all := lw_g (lw_at lw_m10 174 rfl) rfl
theorem q2486 : (Jvm.Cond.methodLink "FlashZonesLaw" (143 : Nat) ({ cls := "FlashZonesModel", name := "errorCode", desc := "()I" } : Jvm.MethodName)) ∈ lw_all := lw_g (lw_at lw_m10 214 rfl) rfl
theorem q2490 : (Jvm.Cond.methodLink "FlashZonesLaw" (147 : Nat) ({ cls := "FlashZonesModel", name := "errorPosition", desc := "()I" } : Jvm.MethodName)) ∈ lw_all := lw_g (lw_at lw_m10 218 rfl) rfl
theorem q2494 : (Jvm.Cond.methodLink "FlashZonesLaw" (258 : Nat) ({ cls := "FlashZonesModel", name := "show", desc := "(I)I" } : Jvm.MethodName)) ∈ lw_all := lw_g (lw_at lw_m10 222 rfl) rfl
theorem q2514 : (Jvm.Cond.methodLink "FlashZonesLaw" (262 : Nat) ({ cls := "FlashZonesModel", name := "writeHistory", desc := "()I" } : Jvm.MethodName)) ∈ lw_all := lw_g (lw_at lw_m11 2 rfl) rfl
theorem q2518 : (Jvm.Cond.methodLink "FlashZonesLaw" (266 : Nat) ({ cls := "FlashZonesModel", name := "output", desc := "(I)I" } : Jvm.MethodName)) ∈ lw_all := lw_g (lw_at lw_m11 6 rfl) rfl
theorem q2522 : (Jvm.Cond.methodLink "FlashZonesLaw" (270 : Nat) ({ cls := "FlashZonesModel", name := "undo", desc := "()I" } : Jvm.MethodName)) ∈ lw_all := lw_g (lw_at lw_m11 10 rfl) rfl
theorem q2526 : (Jvm.Cond.methodLink "FlashZonesLaw" (274 : Nat) ({ cls := "FlashZonesModel", name := "save", desc := "(I)V" } : Jvm.MethodName)) ∈ lw_all := lw_g (lw_at lw_m11 14 rfl) rfl
theorem q2530 : (Jvm.Cond.methodLink "FlashZonesLaw" (277 : Nat) ({ cls := "FlashZonesModel", name := "restore", desc := "(I)V" } : Jvm.MethodName)) ∈ lw_all := lw_g (lw_at lw_m11 18 rfl) rfl
/-! the law's own entry -/
set_option maxRecDepth 100000
abbrev cL_law : ByteArray := code
def dkwL_law_98 : List UInt8 := [132, 5, 4, 167, 246, 131, 4, 172]
abbrev dktL_law_98 : List UInt8 := dkwL_law_98 ++ []
def dkwL_law_97 : List UInt8 := [21, 5, 4, 96, 46, 182, 1, 21, 44, 182, 0, 129, 21, 6, 159, 0, 5, 3, 172, 167, 0, 3]
abbrev dktL_law_97 : List UInt8 := dkwL_law_97 ++ dktL_law_98
def dkwL_law_96 : List UInt8 := [21, 6, 159, 0, 5, 3, 172, 167, 0, 39, 43, 42, 21, 5, 4, 96, 46, 184, 1, 19, 54, 6, 44, 42]
abbrev dktL_law_96 : List UInt8 := dkwL_law_96 ++ dktL_law_97
def dkwL_law_95 : List UInt8 := [21, 5, 4, 96, 46, 184, 1, 15, 54, 6, 44, 42, 21, 5, 4, 96, 46, 182, 1, 18, 44, 182, 0, 129]
abbrev dktL_law_95 : List UInt8 := dkwL_law_95 ++ dktL_law_96
def dkwL_law_94 : List UInt8 := [46, 182, 1, 10, 159, 0, 90, 3, 172, 43, 182, 1, 11, 44, 182, 1, 14, 159, 0, 77, 3, 172, 43, 42]
abbrev dktL_law_94 : List UInt8 := dkwL_law_94 ++ dktL_law_95
def dkwL_law_93 : List UInt8 := [182, 1, 6, 159, 0, 115, 3, 172, 43, 42, 21, 5, 4, 96, 46, 182, 1, 7, 44, 42, 21, 5, 4, 96]
abbrev dktL_law_93 : List UInt8 := dkwL_law_93 ++ dktL_law_94
def dkwL_law_92 : List UInt8 := [154, 0, 15, 45, 3, 47, 21, 7, 133, 148, 153, 0, 5, 3, 172, 167, 0, 126, 43, 182, 1, 3, 44]
abbrev dktL_law_92 : List UInt8 := dkwL_law_92 ++ dktL_law_93
def dkwL_law_91 : List UInt8 := [21, 5, 4, 96, 46, 182, 1, 2, 54, 7, 44, 182, 0, 129, 21, 6, 159, 0, 5, 3, 172, 21, 6]
abbrev dktL_law_91 : List UInt8 := dkwL_law_91 ++ dktL_law_92
def dkwL_law_90 : List UInt8 := [153, 0, 5, 3, 172, 167, 0, 182, 43, 42, 21, 5, 4, 96, 46, 45, 184, 1, 0, 54, 6, 44, 42]
abbrev dktL_law_90 : List UInt8 := dkwL_law_90 ++ dktL_law_91
def dkwL_law_89 : List UInt8 := [182, 0, 129, 21, 6, 159, 0, 5, 3, 172, 21, 6, 154, 0, 15, 45, 3, 47, 21, 7, 133, 148]
abbrev dktL_law_89 : List UInt8 := dkwL_law_89 ++ dktL_law_90
def dkwL_law_88 : List UInt8 := [184, 0, 253, 54, 6, 44, 42, 21, 5, 4, 96, 46, 42, 21, 5, 5, 96, 46, 182, 0, 255, 54, 7, 44]
abbrev dktL_law_88 : List UInt8 := dkwL_law_88 ++ dktL_law_89
def dkwL_law_87 : List UInt8 := [153, 0, 5, 3, 172, 167, 0, 250, 43, 42, 21, 5, 4, 96, 46, 42, 21, 5, 5, 96, 46, 45]
abbrev dktL_law_87 : List UInt8 := dkwL_law_87 ++ dktL_law_88
def dkwL_law_86 : List UInt8 := [182, 0, 129, 21, 6, 159, 0, 5, 3, 172, 21, 6, 154, 0, 15, 45, 3, 47, 21, 7, 133, 148]
abbrev dktL_law_86 : List UInt8 := dkwL_law_86 ++ dktL_law_87
def dkwL_law_85 : List UInt8 := [21, 5, 4, 96, 46, 45, 184, 0, 250, 54, 6, 44, 42, 21, 5, 4, 96, 46, 182, 0, 252, 54, 7, 44]
abbrev dktL_law_85 : List UInt8 := dkwL_law_85 ++ dktL_law_86
def dkwL_law_84 : List UInt8 := [172, 21, 6, 154, 0, 15, 45, 3, 47, 21, 7, 133, 148, 153, 0, 5, 3, 172, 167, 1, 50, 43, 42]
abbrev dktL_law_84 : List UInt8 := dkwL_law_84 ++ dktL_law_85
def dkwL_law_83 : List UInt8 := [4, 96, 46, 42, 21, 5, 5, 96, 46, 182, 0, 249, 54, 7, 44, 182, 0, 129, 21, 6, 159, 0, 5, 3]
abbrev dktL_law_83 : List UInt8 := dkwL_law_83 ++ dktL_law_84
def dkwL_law_82 : List UInt8 := [172, 43, 42, 21, 5, 4, 96, 46, 42, 21, 5, 5, 96, 46, 45, 184, 0, 247, 54, 6, 44, 42, 21, 5]
abbrev dktL_law_82 : List UInt8 := dkwL_law_82 ++ dktL_law_83
def dkwL_law_81 : List UInt8 := [21, 7, 133, 148, 153, 0, 5, 3, 172, 167, 1, 131, 43, 182, 0, 243, 44, 182, 0, 246, 159, 1, 120, 3]
abbrev dktL_law_81 : List UInt8 := dkwL_law_81 ++ dktL_law_82
def dkwL_law_80 : List UInt8 := [182, 0, 242, 54, 7, 44, 182, 0, 129, 21, 6, 159, 0, 5, 3, 172, 21, 6, 154, 0, 15, 45, 3, 47]
abbrev dktL_law_80 : List UInt8 := dkwL_law_80 ++ dktL_law_81
def dkwL_law_79 : List UInt8 := [5, 96, 46, 45, 184, 0, 240, 54, 6, 44, 42, 21, 5, 4, 96, 46, 42, 21, 5, 5, 96, 46]
abbrev dktL_law_79 : List UInt8 := dkwL_law_79 ++ dktL_law_80
def dkwL_law_78 : List UInt8 := [3, 47, 21, 7, 133, 148, 153, 0, 5, 3, 172, 167, 1, 199, 43, 42, 21, 5, 4, 96, 46, 42, 21, 5]
abbrev dktL_law_78 : List UInt8 := dkwL_law_78 ++ dktL_law_79
def dkwL_law_77 : List UInt8 := [96, 46, 182, 0, 239, 54, 7, 44, 182, 0, 129, 21, 6, 159, 0, 5, 3, 172, 21, 6, 154, 0, 15, 45]
abbrev dktL_law_77 : List UInt8 := dkwL_law_77 ++ dktL_law_78
def dkwL_law_76 : List UInt8 := [46, 42, 21, 5, 5, 96, 46, 45, 184, 0, 237, 54, 6, 44, 42, 21, 5, 4, 96, 46, 42, 21, 5, 5]
abbrev dktL_law_76 : List UInt8 := dkwL_law_76 ++ dktL_law_77
def dkwL_law_75 : List UInt8 := [154, 0, 15, 45, 3, 47, 21, 7, 133, 148, 153, 0, 5, 3, 172, 167, 2, 11, 43, 42, 21, 5, 4, 96]
abbrev dktL_law_75 : List UInt8 := dkwL_law_75 ++ dktL_law_76
def dkwL_law_74 : List UInt8 := [21, 5, 4, 96, 46, 182, 0, 236, 54, 7, 44, 182, 0, 129, 21, 6, 159, 0, 5, 3, 172, 21, 6]
abbrev dktL_law_74 : List UInt8 := dkwL_law_74 ++ dktL_law_75
def dkwL_law_73 : List UInt8 := [148, 153, 0, 5, 3, 172, 167, 2, 67, 43, 42, 21, 5, 4, 96, 46, 45, 184, 0, 234, 54, 6, 44, 42]
abbrev dktL_law_73 : List UInt8 := dkwL_law_73 ++ dktL_law_74
def dkwL_law_72 : List UInt8 := [54, 7, 44, 182, 0, 129, 21, 6, 159, 0, 5, 3, 172, 21, 6, 154, 0, 15, 45, 3, 47, 21, 7, 133]
abbrev dktL_law_72 : List UInt8 := dkwL_law_72 ++ dktL_law_73
def dkwL_law_71 : List UInt8 := [46, 45, 184, 0, 231, 54, 6, 44, 42, 21, 5, 4, 96, 46, 42, 21, 5, 5, 96, 46, 182, 0, 233]
abbrev dktL_law_71 : List UInt8 := dkwL_law_71 ++ dktL_law_72
def dkwL_law_70 : List UInt8 := [21, 7, 133, 148, 153, 0, 5, 3, 172, 167, 2, 135, 43, 42, 21, 5, 4, 96, 46, 42, 21, 5, 5, 96]
abbrev dktL_law_70 : List UInt8 := dkwL_law_70 ++ dktL_law_71
def dkwL_law_69 : List UInt8 := [182, 0, 230, 54, 7, 44, 182, 0, 129, 21, 6, 159, 0, 5, 3, 172, 21, 6, 154, 0, 15, 45, 3, 47]
abbrev dktL_law_69 : List UInt8 := dkwL_law_69 ++ dktL_law_70
def dkwL_law_68 : List UInt8 := [167, 2, 191, 43, 42, 21, 5, 4, 96, 46, 45, 184, 0, 228, 54, 6, 44, 42, 21, 5, 4, 96, 46]
abbrev dktL_law_68 : List UInt8 := dkwL_law_68 ++ dktL_law_69
def dkwL_law_67 : List UInt8 := [21, 6, 159, 0, 5, 3, 172, 21, 6, 154, 0, 15, 45, 3, 47, 21, 7, 133, 148, 153, 0, 5, 3, 172]
abbrev dktL_law_67 : List UInt8 := dkwL_law_67 ++ dktL_law_68
def dkwL_law_66 : List UInt8 := [46, 45, 184, 0, 225, 54, 6, 44, 42, 21, 5, 4, 96, 46, 182, 0, 227, 54, 7, 44, 182, 0, 129]
abbrev dktL_law_66 : List UInt8 := dkwL_law_66 ++ dktL_law_67
def dkwL_law_65 : List UInt8 := [154, 0, 15, 45, 3, 47, 21, 7, 133, 148, 153, 0, 5, 3, 172, 167, 2, 247, 43, 42, 21, 5, 4, 96]
abbrev dktL_law_65 : List UInt8 := dkwL_law_65 ++ dktL_law_66
def dkwL_law_64 : List UInt8 := [21, 5, 4, 96, 46, 182, 0, 224, 54, 7, 44, 182, 0, 129, 21, 6, 159, 0, 5, 3, 172, 21, 6]
abbrev dktL_law_64 : List UInt8 := dkwL_law_64 ++ dktL_law_65
def dkwL_law_63 : List UInt8 := [153, 0, 5, 3, 172, 167, 3, 47, 43, 42, 21, 5, 4, 96, 46, 45, 184, 0, 222, 54, 6, 44, 42]
abbrev dktL_law_63 : List UInt8 := dkwL_law_63 ++ dktL_law_64
def dkwL_law_62 : List UInt8 := [182, 0, 129, 21, 6, 159, 0, 5, 3, 172, 21, 6, 154, 0, 15, 45, 3, 47, 21, 7, 133, 148]
abbrev dktL_law_62 : List UInt8 := dkwL_law_62 ++ dktL_law_63
def dkwL_law_61 : List UInt8 := [21, 5, 4, 96, 46, 45, 184, 0, 219, 54, 6, 44, 42, 21, 5, 4, 96, 46, 182, 0, 221, 54, 7, 44]
abbrev dktL_law_61 : List UInt8 := dkwL_law_61 ++ dktL_law_62
def dkwL_law_60 : List UInt8 := [172, 21, 6, 154, 0, 15, 45, 3, 47, 21, 7, 133, 148, 153, 0, 5, 3, 172, 167, 3, 103, 43, 42]
abbrev dktL_law_60 : List UInt8 := dkwL_law_60 ++ dktL_law_61
def dkwL_law_59 : List UInt8 := [5, 96, 46, 42, 21, 5, 6, 96, 46, 182, 0, 218, 54, 7, 44, 182, 0, 129, 21, 6, 159, 0, 5, 3]
abbrev dktL_law_59 : List UInt8 := dkwL_law_59 ++ dktL_law_60
def dkwL_law_58 : List UInt8 := [96, 46, 42, 21, 5, 6, 96, 46, 45, 184, 0, 216, 54, 6, 44, 42, 21, 5, 4, 96, 46, 42, 21, 5]
abbrev dktL_law_58 : List UInt8 := dkwL_law_58 ++ dktL_law_59
def dkwL_law_57 : List UInt8 := [47, 21, 7, 133, 148, 153, 0, 5, 3, 172, 167, 3, 183, 43, 42, 21, 5, 4, 96, 46, 42, 21, 5, 5]
abbrev dktL_law_57 : List UInt8 := dkwL_law_57 ++ dktL_law_58
def dkwL_law_56 : List UInt8 := [46, 182, 0, 215, 54, 7, 44, 182, 0, 129, 21, 6, 159, 0, 5, 3, 172, 21, 6, 154, 0, 15, 45, 3]
abbrev dktL_law_56 : List UInt8 := dkwL_law_56 ++ dktL_law_57
def dkwL_law_55 : List UInt8 := [159, 3, 241, 3, 172, 43, 42, 21, 5, 4, 96, 46, 45, 184, 0, 213, 54, 6, 44, 42, 21, 5, 4, 96]
abbrev dktL_law_55 : List UInt8 := dkwL_law_55 ++ dktL_law_56
def dkwL_law_54 : List UInt8 := [3, 47, 21, 7, 133, 148, 153, 0, 5, 3, 172, 167, 3, 252, 43, 182, 0, 209, 44, 182, 0, 212]
abbrev dktL_law_54 : List UInt8 := dkwL_law_54 ++ dktL_law_55
def dkwL_law_53 : List UInt8 := [96, 46, 182, 0, 208, 54, 7, 44, 182, 0, 129, 21, 6, 159, 0, 5, 3, 172, 21, 6, 154, 0, 15, 45]
abbrev dktL_law_53 : List UInt8 := dkwL_law_53 ++ dktL_law_54
def dkwL_law_52 : List UInt8 := [46, 42, 21, 5, 5, 96, 46, 45, 184, 0, 206, 54, 6, 44, 42, 21, 5, 4, 96, 46, 42, 21, 5, 5]
abbrev dktL_law_52 : List UInt8 := dkwL_law_52 ++ dktL_law_53
def dkwL_law_51 : List UInt8 := [154, 0, 15, 45, 3, 47, 21, 7, 133, 148, 153, 0, 5, 3, 172, 167, 4, 64, 43, 42, 21, 5, 4, 96]
abbrev dktL_law_51 : List UInt8 := dkwL_law_51 ++ dktL_law_52
def dkwL_law_50 : List UInt8 := [42, 21, 5, 5, 96, 46, 182, 0, 205, 54, 7, 44, 182, 0, 129, 21, 6, 159, 0, 5, 3, 172, 21, 6]
abbrev dktL_law_50 : List UInt8 := dkwL_law_50 ++ dktL_law_51
def dkwL_law_49 : List UInt8 := [21, 5, 4, 96, 46, 42, 21, 5, 5, 96, 46, 45, 184, 0, 203, 54, 6, 44, 42, 21, 5, 4, 96, 46]
abbrev dktL_law_49 : List UInt8 := dkwL_law_49 ++ dktL_law_50
def dkwL_law_48 : List UInt8 := [172, 21, 6, 154, 0, 15, 45, 3, 47, 21, 7, 133, 148, 153, 0, 5, 3, 172, 167, 4, 132, 43, 42]
abbrev dktL_law_48 : List UInt8 := dkwL_law_48 ++ dktL_law_49
def dkwL_law_47 : List UInt8 := [54, 6, 44, 42, 21, 5, 4, 96, 46, 182, 0, 202, 54, 7, 44, 182, 0, 129, 21, 6, 159, 0, 5, 3]
abbrev dktL_law_47 : List UInt8 := dkwL_law_47 ++ dktL_law_48
def dkwL_law_46 : List UInt8 := [21, 7, 133, 148, 153, 0, 5, 3, 172, 167, 4, 188, 43, 42, 21, 5, 4, 96, 46, 45, 184, 0, 200]
abbrev dktL_law_46 : List UInt8 := dkwL_law_46 ++ dktL_law_47
def dkwL_law_45 : List UInt8 := [182, 0, 199, 54, 7, 44, 182, 0, 129, 21, 6, 159, 0, 5, 3, 172, 21, 6, 154, 0, 15, 45, 3, 47]
abbrev dktL_law_45 : List UInt8 := dkwL_law_45 ++ dktL_law_46
def dkwL_law_44 : List UInt8 := [167, 4, 244, 43, 42, 21, 5, 4, 96, 46, 45, 184, 0, 197, 54, 6, 44, 42, 21, 5, 4, 96, 46]
abbrev dktL_law_44 : List UInt8 := dkwL_law_44 ++ dktL_law_45
def dkwL_law_43 : List UInt8 := [159, 0, 5, 3, 172, 21, 6, 154, 0, 15, 45, 3, 47, 21, 7, 133, 148, 153, 0, 5, 3, 172]
abbrev dktL_law_43 : List UInt8 := dkwL_law_43 ++ dktL_law_44
def dkwL_law_42 : List UInt8 := [21, 5, 4, 96, 46, 42, 21, 5, 5, 96, 46, 182, 0, 196, 54, 7, 44, 182, 0, 129, 21, 6]
abbrev dktL_law_42 : List UInt8 := dkwL_law_42 ++ dktL_law_43
def dkwL_law_41 : List UInt8 := [167, 5, 56, 43, 42, 21, 5, 4, 96, 46, 42, 21, 5, 5, 96, 46, 45, 184, 0, 194, 54, 6, 44, 42]
abbrev dktL_law_41 : List UInt8 := dkwL_law_41 ++ dktL_law_42
def dkwL_law_40 : List UInt8 := [159, 0, 5, 3, 172, 21, 6, 154, 0, 15, 45, 3, 47, 21, 7, 133, 148, 153, 0, 5, 3, 172]
abbrev dktL_law_40 : List UInt8 := dkwL_law_40 ++ dktL_law_41
def dkwL_law_39 : List UInt8 := [184, 0, 191, 54, 6, 44, 42, 21, 5, 4, 96, 46, 182, 0, 193, 54, 7, 44, 182, 0, 129, 21, 6]
abbrev dktL_law_39 : List UInt8 := dkwL_law_39 ++ dktL_law_40
def dkwL_law_38 : List UInt8 := [3, 47, 21, 7, 133, 148, 153, 0, 5, 3, 172, 167, 5, 112, 43, 42, 21, 5, 4, 96, 46, 45]
abbrev dktL_law_38 : List UInt8 := dkwL_law_38 ++ dktL_law_39
def dkwL_law_37 : List UInt8 := [96, 46, 182, 0, 190, 54, 7, 44, 182, 0, 129, 21, 6, 159, 0, 5, 3, 172, 21, 6, 154, 0, 15, 45]
abbrev dktL_law_37 : List UInt8 := dkwL_law_37 ++ dktL_law_38
def dkwL_law_36 : List UInt8 := [46, 42, 21, 5, 5, 96, 46, 45, 184, 0, 188, 54, 6, 44, 42, 21, 5, 4, 96, 46, 42, 21, 5, 5]
abbrev dktL_law_36 : List UInt8 := dkwL_law_36 ++ dktL_law_37
def dkwL_law_35 : List UInt8 := [154, 0, 15, 45, 3, 47, 21, 7, 133, 148, 153, 0, 5, 3, 172, 167, 5, 180, 43, 42, 21, 5, 4, 96]
abbrev dktL_law_35 : List UInt8 := dkwL_law_35 ++ dktL_law_36
def dkwL_law_34 : List UInt8 := [21, 5, 4, 96, 46, 182, 0, 187, 54, 7, 44, 182, 0, 129, 21, 6, 159, 0, 5, 3, 172, 21, 6]
abbrev dktL_law_34 : List UInt8 := dkwL_law_34 ++ dktL_law_35
def dkwL_law_33 : List UInt8 := [154, 0, 5, 3, 172, 167, 5, 236, 43, 42, 21, 5, 4, 96, 46, 45, 184, 0, 185, 54, 6, 44, 42]
abbrev dktL_law_33 : List UInt8 := dkwL_law_33 ++ dktL_law_34
def dkwL_law_32 : List UInt8 := [57, 8, 24, 6, 24, 8, 151, 153, 0, 21, 24, 6, 24, 6, 151, 153, 0, 11, 24, 8, 24, 8, 151]
abbrev dktL_law_32 : List UInt8 := dkwL_law_32 ++ dktL_law_33
def dkwL_law_31 : List UInt8 := [182, 0, 176, 44, 182, 0, 179, 159, 6, 25, 3, 172, 43, 182, 0, 180, 141, 57, 6, 44, 182, 0, 184, 141]
abbrev dktL_law_31 : List UInt8 := dkwL_law_31 ++ dktL_law_32
def dkwL_law_30 : List UInt8 := [3, 49, 25, 4, 3, 49, 151, 153, 0, 11, 24, 7, 24, 7, 151, 154, 0, 5, 3, 172, 167, 6, 36, 43]
abbrev dktL_law_30 : List UInt8 := dkwL_law_30 ++ dktL_law_31
def dkwL_law_29 : List UInt8 := [21, 6, 159, 0, 5, 3, 172, 21, 6, 154, 0, 35, 25, 4, 3, 49, 24, 7, 151, 153, 0, 25, 25, 4]
abbrev dktL_law_29 : List UInt8 := dkwL_law_29 ++ dktL_law_30
def dkwL_law_28 : List UInt8 := [46, 25, 4, 184, 0, 172, 54, 6, 44, 42, 21, 5, 4, 96, 46, 182, 0, 175, 57, 7, 44, 182, 0, 129]
abbrev dktL_law_28 : List UInt8 := dkwL_law_28 ++ dktL_law_29
def dkwL_law_27 : List UInt8 := [154, 0, 15, 45, 3, 47, 21, 7, 133, 148, 153, 0, 5, 3, 172, 167, 6, 113, 43, 42, 21, 5, 4, 96]
abbrev dktL_law_27 : List UInt8 := dkwL_law_27 ++ dktL_law_28
def dkwL_law_26 : List UInt8 := [21, 5, 6, 96, 46, 182, 0, 171, 54, 7, 44, 182, 0, 129, 21, 6, 159, 0, 5, 3, 172, 21, 6]
abbrev dktL_law_26 : List UInt8 := dkwL_law_26 ++ dktL_law_27
def dkwL_law_25 : List UInt8 := [6, 96, 46, 45, 184, 0, 168, 54, 6, 44, 42, 21, 5, 4, 96, 46, 42, 21, 5, 5, 96, 46, 42]
abbrev dktL_law_25 : List UInt8 := dkwL_law_25 ++ dktL_law_26
def dkwL_law_24 : List UInt8 := [153, 0, 5, 3, 172, 167, 6, 193, 43, 42, 21, 5, 4, 96, 46, 42, 21, 5, 5, 96, 46, 42, 21, 5]
abbrev dktL_law_24 : List UInt8 := dkwL_law_24 ++ dktL_law_25
def dkwL_law_23 : List UInt8 := [182, 0, 129, 21, 6, 159, 0, 5, 3, 172, 21, 6, 154, 0, 15, 45, 3, 47, 21, 7, 133, 148]
abbrev dktL_law_23 : List UInt8 := dkwL_law_23 ++ dktL_law_24
def dkwL_law_22 : List UInt8 := [184, 0, 165, 54, 6, 44, 42, 21, 5, 4, 96, 46, 42, 21, 5, 5, 96, 46, 182, 0, 167, 54, 7, 44]
abbrev dktL_law_22 : List UInt8 := dkwL_law_22 ++ dktL_law_23
def dkwL_law_21 : List UInt8 := [153, 0, 5, 3, 172, 167, 7, 5, 43, 42, 21, 5, 4, 96, 46, 42, 21, 5, 5, 96, 46, 45]
abbrev dktL_law_21 : List UInt8 := dkwL_law_21 ++ dktL_law_22
def dkwL_law_20 : List UInt8 := [182, 0, 129, 21, 6, 159, 0, 5, 3, 172, 21, 6, 154, 0, 15, 45, 3, 47, 21, 7, 133, 148]
abbrev dktL_law_20 : List UInt8 := dkwL_law_20 ++ dktL_law_21
def dkwL_law_19 : List UInt8 := [184, 0, 162, 54, 6, 44, 42, 21, 5, 4, 96, 46, 42, 21, 5, 5, 96, 46, 182, 0, 164, 54, 7, 44]
abbrev dktL_law_19 : List UInt8 := dkwL_law_19 ++ dktL_law_20
def dkwL_law_18 : List UInt8 := [153, 0, 5, 3, 172, 167, 7, 73, 43, 42, 21, 5, 4, 96, 46, 42, 21, 5, 5, 96, 46, 45]
abbrev dktL_law_18 : List UInt8 := dkwL_law_18 ++ dktL_law_19
def dkwL_law_17 : List UInt8 := [182, 0, 129, 21, 6, 159, 0, 5, 3, 172, 21, 6, 154, 0, 15, 45, 3, 47, 21, 7, 133, 148]
abbrev dktL_law_17 : List UInt8 := dkwL_law_17 ++ dktL_law_18
def dkwL_law_16 : List UInt8 := [184, 0, 159, 54, 6, 44, 42, 21, 5, 4, 96, 46, 42, 21, 5, 5, 96, 46, 182, 0, 161, 54, 7, 44]
abbrev dktL_law_16 : List UInt8 := dkwL_law_16 ++ dktL_law_17
def dkwL_law_15 : List UInt8 := [153, 0, 5, 3, 172, 167, 7, 141, 43, 42, 21, 5, 4, 96, 46, 42, 21, 5, 5, 96, 46, 45]
abbrev dktL_law_15 : List UInt8 := dkwL_law_15 ++ dktL_law_16
def dkwL_law_14 : List UInt8 := [182, 0, 129, 21, 6, 159, 0, 5, 3, 172, 21, 6, 154, 0, 15, 45, 3, 47, 21, 7, 133, 148]
abbrev dktL_law_14 : List UInt8 := dkwL_law_14 ++ dktL_law_15
def dkwL_law_13 : List UInt8 := [21, 5, 4, 96, 46, 45, 184, 0, 156, 54, 6, 44, 42, 21, 5, 4, 96, 46, 182, 0, 158, 54, 7, 44]
abbrev dktL_law_13 : List UInt8 := dkwL_law_13 ++ dktL_law_14
def dkwL_law_12 : List UInt8 := [148, 153, 0, 5, 3, 172, 167, 7, 210, 43, 182, 0, 152, 44, 182, 0, 155, 159, 7, 199, 3, 172, 43, 42]
abbrev dktL_law_12 : List UInt8 := dkwL_law_12 ++ dktL_law_13
def dkwL_law_11 : List UInt8 := [54, 7, 44, 182, 0, 129, 21, 6, 159, 0, 5, 3, 172, 21, 6, 154, 0, 15, 45, 3, 47, 21, 7, 133]
abbrev dktL_law_11 : List UInt8 := dkwL_law_11 ++ dktL_law_12
def dkwL_law_10 : List UInt8 := [46, 45, 184, 0, 148, 54, 6, 44, 42, 21, 5, 4, 96, 46, 42, 21, 5, 5, 96, 46, 182, 0, 151]
abbrev dktL_law_10 : List UInt8 := dkwL_law_10 ++ dktL_law_11
def dkwL_law_9 : List UInt8 := [182, 0, 144, 44, 182, 0, 147, 159, 8, 24, 3, 172, 43, 42, 21, 5, 4, 96, 46, 42, 21, 5, 5, 96]
abbrev dktL_law_9 : List UInt8 := dkwL_law_9 ++ dktL_law_10
def dkwL_law_8 : List UInt8 := [182, 0, 139, 159, 8, 50, 3, 172, 43, 182, 0, 140, 44, 182, 0, 143, 159, 8, 37, 3, 172, 43]
abbrev dktL_law_8 : List UInt8 := dkwL_law_8 ++ dktL_law_9
def dkwL_law_7 : List UInt8 := [154, 0, 15, 45, 3, 47, 21, 7, 133, 148, 153, 0, 5, 3, 172, 167, 8, 61, 43, 182, 0, 136, 44]
abbrev dktL_law_7 : List UInt8 := dkwL_law_7 ++ dktL_law_8
def dkwL_law_6 : List UInt8 := [21, 5, 4, 96, 46, 182, 0, 135, 54, 7, 44, 182, 0, 129, 21, 6, 159, 0, 5, 3, 172, 21, 6]
abbrev dktL_law_6 : List UInt8 := dkwL_law_6 ++ dktL_law_7
def dkwL_law_5 : List UInt8 := [148, 153, 0, 5, 3, 172, 167, 8, 117, 43, 42, 21, 5, 4, 96, 46, 45, 184, 0, 133, 54, 6, 44, 42]
abbrev dktL_law_5 : List UInt8 := dkwL_law_5 ++ dktL_law_6
def dkwL_law_4 : List UInt8 := [54, 7, 44, 182, 0, 129, 21, 6, 159, 0, 5, 3, 172, 21, 6, 154, 0, 15, 45, 3, 47, 21, 7, 133]
abbrev dktL_law_4 : List UInt8 := dkwL_law_4 ++ dktL_law_5
def dkwL_law_3 : List UInt8 := [43, 42, 21, 5, 4, 96, 46, 45, 184, 0, 123, 54, 6, 44, 42, 21, 5, 4, 96, 46, 182, 0, 128]
abbrev dktL_law_3 : List UInt8 := dkwL_law_3 ++ dktL_law_4
def dkwL_law_2 : List UInt8 := [170, 0, 0, 0, 0, 0, 9, 106, 0, 0, 0, 0, 0, 0, 0, 43, 0, 0, 0, 192, 0, 0, 0, 248, 0, 0, 1, 48, 0, 0, 1, 61, 0, 0, 1, 74, 0, 0, 1, 87, 0, 0, 1, 155, 0, 0, 1, 168, 0, 0, 1, 224, 0, 0, 2, 36, 0, 0, 2, 104, 0, 0, 2, 172, 0, 0, 2, 252, 0, 0, 3, 73, 0, 0, 3, 86, 0, 0, 3, 129, 0, 0, 3, 185, 0, 0, 3, 253, 0, 0, 4, 53, 0, 0, 4, 121, 0, 0, 4, 177, 0, 0, 4, 233, 0, 0, 5, 45, 0, 0, 5, 113, 0, 0, 5, 126, 0, 0, 5, 182, 0, 0, 6, 6, 0, 0, 6, 62, 0, 0, 6, 118, 0, 0, 6, 174, 0, 0, 6, 230, 0, 0, 7, 42, 0, 0, 7, 98, 0, 0, 7, 166, 0, 0, 7, 234, 0, 0, 7, 247, 0, 0, 8, 59, 0, 0, 8, 115, 0, 0, 8, 183, 0, 0, 8, 239, 0, 0, 8, 252, 0, 0, 9, 21, 0, 0, 9, 34, 0, 0, 9, 70]
abbrev dktL_law_2 : List UInt8 := dkwL_law_2 ++ dktL_law_3
def dkwL_law_1 : List UInt8 := [58, 4, 3, 54, 5, 21, 5, 42, 190, 7, 100, 163, 9, 122, 42, 21, 5, 46, 16, 63, 126]
abbrev dktL_law_1 : List UInt8 := dkwL_law_1 ++ dktL_law_2
def dkwL_law_0 : List UInt8 := [187, 0, 8, 89, 183, 0, 119, 76, 187, 0, 120, 89, 183, 0, 122, 77, 4, 188, 11, 78, 4, 188, 7]
abbrev dktL_law_0 : List UInt8 := dkwL_law_0 ++ dktL_law_1
theorem dksL_law_0 : cL_law.data.toList.drop 0 = dktL_law_0 := by decide +kernel
theorem dksL_law_1 : cL_law.data.toList.drop 23 = dktL_law_1 := dk_seg dksL_law_0 23 rfl rfl
theorem dksL_law_2 : cL_law.data.toList.drop 44 = dktL_law_2 := dk_seg dksL_law_1 21 rfl rfl
theorem dksL_law_3 : cL_law.data.toList.drop 236 = dktL_law_3 := dk_seg dksL_law_2 192 rfl rfl
theorem dksL_law_4 : cL_law.data.toList.drop 259 = dktL_law_4 := dk_seg dksL_law_3 23 rfl rfl
theorem dksL_law_5 : cL_law.data.toList.drop 283 = dktL_law_5 := dk_seg dksL_law_4 24 rfl rfl
theorem dksL_law_6 : cL_law.data.toList.drop 307 = dktL_law_6 := dk_seg dksL_law_5 24 rfl rfl
theorem dksL_law_7 : cL_law.data.toList.drop 330 = dktL_law_7 := dk_seg dksL_law_6 23 rfl rfl
theorem dksL_law_8 : cL_law.data.toList.drop 353 = dktL_law_8 := dk_seg dksL_law_7 23 rfl rfl
theorem dksL_law_9 : cL_law.data.toList.drop 375 = dktL_law_9 := dk_seg dksL_law_8 22 rfl rfl
theorem dksL_law_10 : cL_law.data.toList.drop 399 = dktL_law_10 := dk_seg dksL_law_9 24 rfl rfl
theorem dksL_law_11 : cL_law.data.toList.drop 422 = dktL_law_11 := dk_seg dksL_law_10 23 rfl rfl
theorem dksL_law_12 : cL_law.data.toList.drop 446 = dktL_law_12 := dk_seg dksL_law_11 24 rfl rfl
theorem dksL_law_13 : cL_law.data.toList.drop 470 = dktL_law_13 := dk_seg dksL_law_12 24 rfl rfl
theorem dksL_law_14 : cL_law.data.toList.drop 494 = dktL_law_14 := dk_seg dksL_law_13 24 rfl rfl
theorem dksL_law_15 : cL_law.data.toList.drop 516 = dktL_law_15 := dk_seg dksL_law_14 22 rfl rfl
theorem dksL_law_16 : cL_law.data.toList.drop 538 = dktL_law_16 := dk_seg dksL_law_15 22 rfl rfl
theorem dksL_law_17 : cL_law.data.toList.drop 562 = dktL_law_17 := dk_seg dksL_law_16 24 rfl rfl
theorem dksL_law_18 : cL_law.data.toList.drop 584 = dktL_law_18 := dk_seg dksL_law_17 22 rfl rfl
theorem dksL_law_19 : cL_law.data.toList.drop 606 = dktL_law_19 := dk_seg dksL_law_18 22 rfl rfl
theorem dksL_law_20 : cL_law.data.toList.drop 630 = dktL_law_20 := dk_seg dksL_law_19 24 rfl rfl
theorem dksL_law_21 : cL_law.data.toList.drop 652 = dktL_law_21 := dk_seg dksL_law_20 22 rfl rfl
theorem dksL_law_22 : cL_law.data.toList.drop 674 = dktL_law_22 := dk_seg dksL_law_21 22 rfl rfl
theorem dksL_law_23 : cL_law.data.toList.drop 698 = dktL_law_23 := dk_seg dksL_law_22 24 rfl rfl
theorem dksL_law_24 : cL_law.data.toList.drop 720 = dktL_law_24 := dk_seg dksL_law_23 22 rfl rfl
theorem dksL_law_25 : cL_law.data.toList.drop 744 = dktL_law_25 := dk_seg dksL_law_24 24 rfl rfl
theorem dksL_law_26 : cL_law.data.toList.drop 767 = dktL_law_26 := dk_seg dksL_law_25 23 rfl rfl
theorem dksL_law_27 : cL_law.data.toList.drop 790 = dktL_law_27 := dk_seg dksL_law_26 23 rfl rfl
theorem dksL_law_28 : cL_law.data.toList.drop 814 = dktL_law_28 := dk_seg dksL_law_27 24 rfl rfl
theorem dksL_law_29 : cL_law.data.toList.drop 838 = dktL_law_29 := dk_seg dksL_law_28 24 rfl rfl
theorem dksL_law_30 : cL_law.data.toList.drop 862 = dktL_law_30 := dk_seg dksL_law_29 24 rfl rfl
theorem dksL_law_31 : cL_law.data.toList.drop 886 = dktL_law_31 := dk_seg dksL_law_30 24 rfl rfl
theorem dksL_law_32 : cL_law.data.toList.drop 910 = dktL_law_32 := dk_seg dksL_law_31 24 rfl rfl
theorem dksL_law_33 : cL_law.data.toList.drop 933 = dktL_law_33 := dk_seg dksL_law_32 23 rfl rfl
theorem dksL_law_34 : cL_law.data.toList.drop 956 = dktL_law_34 := dk_seg dksL_law_33 23 rfl rfl
theorem dksL_law_35 : cL_law.data.toList.drop 979 = dktL_law_35 := dk_seg dksL_law_34 23 rfl rfl
theorem dksL_law_36 : cL_law.data.toList.drop 1003 = dktL_law_36 := dk_seg dksL_law_35 24 rfl rfl
theorem dksL_law_37 : cL_law.data.toList.drop 1027 = dktL_law_37 := dk_seg dksL_law_36 24 rfl rfl
theorem dksL_law_38 : cL_law.data.toList.drop 1051 = dktL_law_38 := dk_seg dksL_law_37 24 rfl rfl
theorem dksL_law_39 : cL_law.data.toList.drop 1073 = dktL_law_39 := dk_seg dksL_law_38 22 rfl rfl
theorem dksL_law_40 : cL_law.data.toList.drop 1096 = dktL_law_40 := dk_seg dksL_law_39 23 rfl rfl
theorem dksL_law_41 : cL_law.data.toList.drop 1118 = dktL_law_41 := dk_seg dksL_law_40 22 rfl rfl
theorem dksL_law_42 : cL_law.data.toList.drop 1142 = dktL_law_42 := dk_seg dksL_law_41 24 rfl rfl
theorem dksL_law_43 : cL_law.data.toList.drop 1164 = dktL_law_43 := dk_seg dksL_law_42 22 rfl rfl
theorem dksL_law_44 : cL_law.data.toList.drop 1186 = dktL_law_44 := dk_seg dksL_law_43 22 rfl rfl
theorem dksL_law_45 : cL_law.data.toList.drop 1209 = dktL_law_45 := dk_seg dksL_law_44 23 rfl rfl
theorem dksL_law_46 : cL_law.data.toList.drop 1233 = dktL_law_46 := dk_seg dksL_law_45 24 rfl rfl
theorem dksL_law_47 : cL_law.data.toList.drop 1256 = dktL_law_47 := dk_seg dksL_law_46 23 rfl rfl
theorem dksL_law_48 : cL_law.data.toList.drop 1280 = dktL_law_48 := dk_seg dksL_law_47 24 rfl rfl
theorem dksL_law_49 : cL_law.data.toList.drop 1303 = dktL_law_49 := dk_seg dksL_law_48 23 rfl rfl
theorem dksL_law_50 : cL_law.data.toList.drop 1327 = dktL_law_50 := dk_seg dksL_law_49 24 rfl rfl
theorem dksL_law_51 : cL_law.data.toList.drop 1351 = dktL_law_51 := dk_seg dksL_law_50 24 rfl rfl
theorem dksL_law_52 : cL_law.data.toList.drop 1375 = dktL_law_52 := dk_seg dksL_law_51 24 rfl rfl
theorem dksL_law_53 : cL_law.data.toList.drop 1399 = dktL_law_53 := dk_seg dksL_law_52 24 rfl rfl
theorem dksL_law_54 : cL_law.data.toList.drop 1423 = dktL_law_54 := dk_seg dksL_law_53 24 rfl rfl
theorem dksL_law_55 : cL_law.data.toList.drop 1445 = dktL_law_55 := dk_seg dksL_law_54 22 rfl rfl
theorem dksL_law_56 : cL_law.data.toList.drop 1469 = dktL_law_56 := dk_seg dksL_law_55 24 rfl rfl
theorem dksL_law_57 : cL_law.data.toList.drop 1493 = dktL_law_57 := dk_seg dksL_law_56 24 rfl rfl
theorem dksL_law_58 : cL_law.data.toList.drop 1517 = dktL_law_58 := dk_seg dksL_law_57 24 rfl rfl
theorem dksL_law_59 : cL_law.data.toList.drop 1541 = dktL_law_59 := dk_seg dksL_law_58 24 rfl rfl
theorem dksL_law_60 : cL_law.data.toList.drop 1565 = dktL_law_60 := dk_seg dksL_law_59 24 rfl rfl
theorem dksL_law_61 : cL_law.data.toList.drop 1588 = dktL_law_61 := dk_seg dksL_law_60 23 rfl rfl
theorem dksL_law_62 : cL_law.data.toList.drop 1612 = dktL_law_62 := dk_seg dksL_law_61 24 rfl rfl
theorem dksL_law_63 : cL_law.data.toList.drop 1634 = dktL_law_63 := dk_seg dksL_law_62 22 rfl rfl
theorem dksL_law_64 : cL_law.data.toList.drop 1657 = dktL_law_64 := dk_seg dksL_law_63 23 rfl rfl
theorem dksL_law_65 : cL_law.data.toList.drop 1680 = dktL_law_65 := dk_seg dksL_law_64 23 rfl rfl
theorem dksL_law_66 : cL_law.data.toList.drop 1704 = dktL_law_66 := dk_seg dksL_law_65 24 rfl rfl
theorem dksL_law_67 : cL_law.data.toList.drop 1727 = dktL_law_67 := dk_seg dksL_law_66 23 rfl rfl
theorem dksL_law_68 : cL_law.data.toList.drop 1751 = dktL_law_68 := dk_seg dksL_law_67 24 rfl rfl
theorem dksL_law_69 : cL_law.data.toList.drop 1774 = dktL_law_69 := dk_seg dksL_law_68 23 rfl rfl
theorem dksL_law_70 : cL_law.data.toList.drop 1798 = dktL_law_70 := dk_seg dksL_law_69 24 rfl rfl
theorem dksL_law_71 : cL_law.data.toList.drop 1822 = dktL_law_71 := dk_seg dksL_law_70 24 rfl rfl
theorem dksL_law_72 : cL_law.data.toList.drop 1845 = dktL_law_72 := dk_seg dksL_law_71 23 rfl rfl
theorem dksL_law_73 : cL_law.data.toList.drop 1869 = dktL_law_73 := dk_seg dksL_law_72 24 rfl rfl
theorem dksL_law_74 : cL_law.data.toList.drop 1893 = dktL_law_74 := dk_seg dksL_law_73 24 rfl rfl
theorem dksL_law_75 : cL_law.data.toList.drop 1916 = dktL_law_75 := dk_seg dksL_law_74 23 rfl rfl
theorem dksL_law_76 : cL_law.data.toList.drop 1940 = dktL_law_76 := dk_seg dksL_law_75 24 rfl rfl
theorem dksL_law_77 : cL_law.data.toList.drop 1964 = dktL_law_77 := dk_seg dksL_law_76 24 rfl rfl
theorem dksL_law_78 : cL_law.data.toList.drop 1988 = dktL_law_78 := dk_seg dksL_law_77 24 rfl rfl
theorem dksL_law_79 : cL_law.data.toList.drop 2012 = dktL_law_79 := dk_seg dksL_law_78 24 rfl rfl
theorem dksL_law_80 : cL_law.data.toList.drop 2034 = dktL_law_80 := dk_seg dksL_law_79 22 rfl rfl
theorem dksL_law_81 : cL_law.data.toList.drop 2058 = dktL_law_81 := dk_seg dksL_law_80 24 rfl rfl
theorem dksL_law_82 : cL_law.data.toList.drop 2082 = dktL_law_82 := dk_seg dksL_law_81 24 rfl rfl
theorem dksL_law_83 : cL_law.data.toList.drop 2106 = dktL_law_83 := dk_seg dksL_law_82 24 rfl rfl
theorem dksL_law_84 : cL_law.data.toList.drop 2130 = dktL_law_84 := dk_seg dksL_law_83 24 rfl rfl
theorem dksL_law_85 : cL_law.data.toList.drop 2153 = dktL_law_85 := dk_seg dksL_law_84 23 rfl rfl
theorem dksL_law_86 : cL_law.data.toList.drop 2177 = dktL_law_86 := dk_seg dksL_law_85 24 rfl rfl
theorem dksL_law_87 : cL_law.data.toList.drop 2199 = dktL_law_87 := dk_seg dksL_law_86 22 rfl rfl
theorem dksL_law_88 : cL_law.data.toList.drop 2221 = dktL_law_88 := dk_seg dksL_law_87 22 rfl rfl
theorem dksL_law_89 : cL_law.data.toList.drop 2245 = dktL_law_89 := dk_seg dksL_law_88 24 rfl rfl
theorem dksL_law_90 : cL_law.data.toList.drop 2267 = dktL_law_90 := dk_seg dksL_law_89 22 rfl rfl
theorem dksL_law_91 : cL_law.data.toList.drop 2290 = dktL_law_91 := dk_seg dksL_law_90 23 rfl rfl
theorem dksL_law_92 : cL_law.data.toList.drop 2313 = dktL_law_92 := dk_seg dksL_law_91 23 rfl rfl
theorem dksL_law_93 : cL_law.data.toList.drop 2336 = dktL_law_93 := dk_seg dksL_law_92 23 rfl rfl
theorem dksL_law_94 : cL_law.data.toList.drop 2360 = dktL_law_94 := dk_seg dksL_law_93 24 rfl rfl
theorem dksL_law_95 : cL_law.data.toList.drop 2384 = dktL_law_95 := dk_seg dksL_law_94 24 rfl rfl
theorem dksL_law_96 : cL_law.data.toList.drop 2408 = dktL_law_96 := dk_seg dksL_law_95 24 rfl rfl
theorem dksL_law_97 : cL_law.data.toList.drop 2432 = dktL_law_97 := dk_seg dksL_law_96 24 rfl rfl
theorem dksL_law_98 : cL_law.data.toList.drop 2454 = dktL_law_98 := dk_seg dksL_law_97 22 rfl rfl
theorem dL_law_0 : decode cL_law 0 = .ok (.new 8, 3) := dk_187 0 8 (dk_at dksL_law_0 0 rfl rfl)
theorem dL_law_3 : decode cL_law 3 = .ok (.dup, 1) := dk_89 (dk_at dksL_law_0 3 rfl rfl)
theorem dL_law_4 : decode cL_law 4 = .ok (.invokespecial 119, 3) := dk_183 0 119 (dk_at dksL_law_0 4 rfl rfl)
theorem dL_law_7 : decode cL_law 7 = .ok (.astore_n 1, 1) := dk_76 (dk_at dksL_law_0 7 rfl rfl)
theorem dL_law_8 : decode cL_law 8 = .ok (.new 120, 3) := dk_187 0 120 (dk_at dksL_law_0 8 rfl rfl)
theorem dL_law_11 : decode cL_law 11 = .ok (.dup, 1) := dk_89 (dk_at dksL_law_0 11 rfl rfl)
theorem dL_law_12 : decode cL_law 12 = .ok (.invokespecial 122, 3) := dk_183 0 122 (dk_at dksL_law_0 12 rfl rfl)
theorem dL_law_15 : decode cL_law 15 = .ok (.astore_n 2, 1) := dk_77 (dk_at dksL_law_0 15 rfl rfl)
theorem dL_law_16 : decode cL_law 16 = .ok (.iconst 1, 1) := dk_4 (dk_at dksL_law_0 16 rfl rfl)
theorem dL_law_17 : decode cL_law 17 = .ok (.newarray .long, 2) := dk_188_11 (dk_at dksL_law_0 17 rfl rfl)
theorem dL_law_19 : decode cL_law 19 = .ok (.astore_n 3, 1) := dk_78 (dk_at dksL_law_0 19 rfl rfl)
theorem dL_law_20 : decode cL_law 20 = .ok (.iconst 1, 1) := dk_4 (dk_at dksL_law_0 20 rfl rfl)
theorem dL_law_21 : decode cL_law 21 = .ok (.newarray .double, 2) := dk_188_7 (dk_at dksL_law_0 21 rfl rfl)
theorem dL_law_23 : decode cL_law 23 = .ok (.astore 4, 2) := dk_58 4 (dk_at dksL_law_1 0 rfl rfl)
theorem dL_law_25 : decode cL_law 25 = .ok (.iconst 0, 1) := dk_3 (dk_at dksL_law_1 2 rfl rfl)
theorem dL_law_26 : decode cL_law 26 = .ok (.istore 5, 2) := dk_54 5 (dk_at dksL_law_1 3 rfl rfl)
theorem dL_law_28 : decode cL_law 28 = .ok (.iload 5, 2) := dk_21 5 (dk_at dksL_law_1 5 rfl rfl)
theorem dL_law_30 : decode cL_law 30 = .ok (.aload_n 0, 1) := dk_42 (dk_at dksL_law_1 7 rfl rfl)
theorem dL_law_31 : decode cL_law 31 = .ok (.arraylength, 1) := dk_190 (dk_at dksL_law_1 8 rfl rfl)
theorem dL_law_32 : decode cL_law 32 = .ok (.iconst 4, 1) := dk_7 (dk_at dksL_law_1 9 rfl rfl)
theorem dL_law_33 : decode cL_law 33 = .ok (.isub, 1) := dk_100 (dk_at dksL_law_1 10 rfl rfl)
theorem dL_law_34 : decode cL_law 34 = .ok (.if_icmp .gt 2426, 3) := dk_163 9 122 (dk_at dksL_law_1 11 rfl rfl)
theorem dL_law_37 : decode cL_law 37 = .ok (.aload_n 0, 1) := dk_42 (dk_at dksL_law_1 14 rfl rfl)
theorem dL_law_38 : decode cL_law 38 = .ok (.iload 5, 2) := dk_21 5 (dk_at dksL_law_1 15 rfl rfl)
theorem dL_law_40 : decode cL_law 40 = .ok (.iaload, 1) := dk_46 (dk_at dksL_law_1 17 rfl rfl)
theorem dL_law_41 : decode cL_law 41 = .ok (.bipush 63, 2) := dk_16 63 (dk_at dksL_law_1 18 rfl rfl)
theorem dL_law_43 : decode cL_law 43 = .ok (.iand, 1) := dk_126 (dk_at dksL_law_1 20 rfl rfl)
theorem dL_law_44 : decode cL_law 44 = .ok (.tableswitch 2410 0 43 #[192, 248, 304, 317, 330, 343, 411, 424, 480, 548, 616, 684, 764, 841, 854, 897, 953, 1021, 1077, 1145, 1201, 1257, 1325, 1393, 1406, 1462, 1542, 1598, 1654, 1710, 1766, 1834, 1890, 1958, 2026, 2039, 2107, 2163, 2231, 2287, 2300, 2325, 2338, 2374], 192) := by decide +kernel
theorem dL_law_236 : decode cL_law 236 = .ok (.aload_n 1, 1) := dk_43 (dk_at dksL_law_3 0 rfl rfl)
theorem dL_law_237 : decode cL_law 237 = .ok (.aload_n 0, 1) := dk_42 (dk_at dksL_law_3 1 rfl rfl)
theorem dL_law_238 : decode cL_law 238 = .ok (.iload 5, 2) := dk_21 5 (dk_at dksL_law_3 2 rfl rfl)
theorem dL_law_240 : decode cL_law 240 = .ok (.iconst 1, 1) := dk_4 (dk_at dksL_law_3 4 rfl rfl)
theorem dL_law_241 : decode cL_law 241 = .ok (.iadd, 1) := dk_96 (dk_at dksL_law_3 5 rfl rfl)
theorem dL_law_242 : decode cL_law 242 = .ok (.iaload, 1) := dk_46 (dk_at dksL_law_3 6 rfl rfl)
theorem dL_law_243 : decode cL_law 243 = .ok (.aload_n 3, 1) := dk_45 (dk_at dksL_law_3 7 rfl rfl)
theorem dL_law_244 : decode cL_law 244 = .ok (.invokestatic 123, 3) := dk_184 0 123 (dk_at dksL_law_3 8 rfl rfl)
theorem dL_law_247 : decode cL_law 247 = .ok (.istore 6, 2) := dk_54 6 (dk_at dksL_law_3 11 rfl rfl)
theorem dL_law_249 : decode cL_law 249 = .ok (.aload_n 2, 1) := dk_44 (dk_at dksL_law_3 13 rfl rfl)
theorem dL_law_250 : decode cL_law 250 = .ok (.aload_n 0, 1) := dk_42 (dk_at dksL_law_3 14 rfl rfl)
theorem dL_law_251 : decode cL_law 251 = .ok (.iload 5, 2) := dk_21 5 (dk_at dksL_law_3 15 rfl rfl)
theorem dL_law_253 : decode cL_law 253 = .ok (.iconst 1, 1) := dk_4 (dk_at dksL_law_3 17 rfl rfl)
theorem dL_law_254 : decode cL_law 254 = .ok (.iadd, 1) := dk_96 (dk_at dksL_law_3 18 rfl rfl)
theorem dL_law_255 : decode cL_law 255 = .ok (.iaload, 1) := dk_46 (dk_at dksL_law_3 19 rfl rfl)
theorem dL_law_256 : decode cL_law 256 = .ok (.invokevirtual 128, 3) := dk_182 0 128 (dk_at dksL_law_3 20 rfl rfl)
theorem dL_law_259 : decode cL_law 259 = .ok (.istore 7, 2) := dk_54 7 (dk_at dksL_law_4 0 rfl rfl)
theorem dL_law_261 : decode cL_law 261 = .ok (.aload_n 2, 1) := dk_44 (dk_at dksL_law_4 2 rfl rfl)
theorem dL_law_262 : decode cL_law 262 = .ok (.invokevirtual 129, 3) := dk_182 0 129 (dk_at dksL_law_4 3 rfl rfl)
theorem dL_law_265 : decode cL_law 265 = .ok (.iload 6, 2) := dk_21 6 (dk_at dksL_law_4 6 rfl rfl)
theorem dL_law_267 : decode cL_law 267 = .ok (.if_icmp .eq 5, 3) := dk_159 0 5 (dk_at dksL_law_4 8 rfl rfl)
theorem dL_law_270 : decode cL_law 270 = .ok (.iconst 0, 1) := dk_3 (dk_at dksL_law_4 11 rfl rfl)
theorem dL_law_271 : decode cL_law 271 = .ok (.ireturn, 1) := dk_172 (dk_at dksL_law_4 12 rfl rfl)
theorem dL_law_272 : decode cL_law 272 = .ok (.iload 6, 2) := dk_21 6 (dk_at dksL_law_4 13 rfl rfl)
theorem dL_law_274 : decode cL_law 274 = .ok (.ifCond .ne 15, 3) := dk_154 0 15 (dk_at dksL_law_4 15 rfl rfl)
theorem dL_law_277 : decode cL_law 277 = .ok (.aload_n 3, 1) := dk_45 (dk_at dksL_law_4 18 rfl rfl)
theorem dL_law_278 : decode cL_law 278 = .ok (.iconst 0, 1) := dk_3 (dk_at dksL_law_4 19 rfl rfl)
theorem dL_law_279 : decode cL_law 279 = .ok (.laload, 1) := dk_47 (dk_at dksL_law_4 20 rfl rfl)
theorem dL_law_280 : decode cL_law 280 = .ok (.iload 7, 2) := dk_21 7 (dk_at dksL_law_4 21 rfl rfl)
theorem dL_law_282 : decode cL_law 282 = .ok (.i2l, 1) := dk_133 (dk_at dksL_law_4 23 rfl rfl)
theorem dL_law_283 : decode cL_law 283 = .ok (.lcmp, 1) := dk_148 (dk_at dksL_law_5 0 rfl rfl)
theorem dL_law_284 : decode cL_law 284 = .ok (.ifCond .eq 5, 3) := dk_153 0 5 (dk_at dksL_law_5 1 rfl rfl)
theorem dL_law_287 : decode cL_law 287 = .ok (.iconst 0, 1) := dk_3 (dk_at dksL_law_5 4 rfl rfl)
theorem dL_law_288 : decode cL_law 288 = .ok (.ireturn, 1) := dk_172 (dk_at dksL_law_5 5 rfl rfl)
theorem dL_law_289 : decode cL_law 289 = .ok (.goto 2165, 3) := dk_167 8 117 (dk_at dksL_law_5 6 rfl rfl)
theorem dL_law_292 : decode cL_law 292 = .ok (.aload_n 1, 1) := dk_43 (dk_at dksL_law_5 9 rfl rfl)
theorem dL_law_293 : decode cL_law 293 = .ok (.aload_n 0, 1) := dk_42 (dk_at dksL_law_5 10 rfl rfl)
theorem dL_law_294 : decode cL_law 294 = .ok (.iload 5, 2) := dk_21 5 (dk_at dksL_law_5 11 rfl rfl)
theorem dL_law_296 : decode cL_law 296 = .ok (.iconst 1, 1) := dk_4 (dk_at dksL_law_5 13 rfl rfl)
theorem dL_law_297 : decode cL_law 297 = .ok (.iadd, 1) := dk_96 (dk_at dksL_law_5 14 rfl rfl)
theorem dL_law_298 : decode cL_law 298 = .ok (.iaload, 1) := dk_46 (dk_at dksL_law_5 15 rfl rfl)
theorem dL_law_299 : decode cL_law 299 = .ok (.aload_n 3, 1) := dk_45 (dk_at dksL_law_5 16 rfl rfl)
theorem dL_law_300 : decode cL_law 300 = .ok (.invokestatic 133, 3) := dk_184 0 133 (dk_at dksL_law_5 17 rfl rfl)
theorem dL_law_303 : decode cL_law 303 = .ok (.istore 6, 2) := dk_54 6 (dk_at dksL_law_5 20 rfl rfl)
theorem dL_law_305 : decode cL_law 305 = .ok (.aload_n 2, 1) := dk_44 (dk_at dksL_law_5 22 rfl rfl)
theorem dL_law_306 : decode cL_law 306 = .ok (.aload_n 0, 1) := dk_42 (dk_at dksL_law_5 23 rfl rfl)
theorem dL_law_307 : decode cL_law 307 = .ok (.iload 5, 2) := dk_21 5 (dk_at dksL_law_6 0 rfl rfl)
theorem dL_law_309 : decode cL_law 309 = .ok (.iconst 1, 1) := dk_4 (dk_at dksL_law_6 2 rfl rfl)
theorem dL_law_310 : decode cL_law 310 = .ok (.iadd, 1) := dk_96 (dk_at dksL_law_6 3 rfl rfl)
theorem dL_law_311 : decode cL_law 311 = .ok (.iaload, 1) := dk_46 (dk_at dksL_law_6 4 rfl rfl)
theorem dL_law_312 : decode cL_law 312 = .ok (.invokevirtual 135, 3) := dk_182 0 135 (dk_at dksL_law_6 5 rfl rfl)
theorem dL_law_315 : decode cL_law 315 = .ok (.istore 7, 2) := dk_54 7 (dk_at dksL_law_6 8 rfl rfl)
theorem dL_law_317 : decode cL_law 317 = .ok (.aload_n 2, 1) := dk_44 (dk_at dksL_law_6 10 rfl rfl)
theorem dL_law_318 : decode cL_law 318 = .ok (.invokevirtual 129, 3) := dk_182 0 129 (dk_at dksL_law_6 11 rfl rfl)
theorem dL_law_321 : decode cL_law 321 = .ok (.iload 6, 2) := dk_21 6 (dk_at dksL_law_6 14 rfl rfl)
theorem dL_law_323 : decode cL_law 323 = .ok (.if_icmp .eq 5, 3) := dk_159 0 5 (dk_at dksL_law_6 16 rfl rfl)
theorem dL_law_326 : decode cL_law 326 = .ok (.iconst 0, 1) := dk_3 (dk_at dksL_law_6 19 rfl rfl)
theorem dL_law_327 : decode cL_law 327 = .ok (.ireturn, 1) := dk_172 (dk_at dksL_law_6 20 rfl rfl)
theorem dL_law_328 : decode cL_law 328 = .ok (.iload 6, 2) := dk_21 6 (dk_at dksL_law_6 21 rfl rfl)
theorem dL_law_330 : decode cL_law 330 = .ok (.ifCond .ne 15, 3) := dk_154 0 15 (dk_at dksL_law_7 0 rfl rfl)
theorem dL_law_333 : decode cL_law 333 = .ok (.aload_n 3, 1) := dk_45 (dk_at dksL_law_7 3 rfl rfl)
theorem dL_law_334 : decode cL_law 334 = .ok (.iconst 0, 1) := dk_3 (dk_at dksL_law_7 4 rfl rfl)
theorem dL_law_335 : decode cL_law 335 = .ok (.laload, 1) := dk_47 (dk_at dksL_law_7 5 rfl rfl)
theorem dL_law_336 : decode cL_law 336 = .ok (.iload 7, 2) := dk_21 7 (dk_at dksL_law_7 6 rfl rfl)
theorem dL_law_338 : decode cL_law 338 = .ok (.i2l, 1) := dk_133 (dk_at dksL_law_7 8 rfl rfl)
theorem dL_law_339 : decode cL_law 339 = .ok (.lcmp, 1) := dk_148 (dk_at dksL_law_7 9 rfl rfl)
theorem dL_law_340 : decode cL_law 340 = .ok (.ifCond .eq 5, 3) := dk_153 0 5 (dk_at dksL_law_7 10 rfl rfl)
theorem dL_law_343 : decode cL_law 343 = .ok (.iconst 0, 1) := dk_3 (dk_at dksL_law_7 13 rfl rfl)
theorem dL_law_344 : decode cL_law 344 = .ok (.ireturn, 1) := dk_172 (dk_at dksL_law_7 14 rfl rfl)
theorem dL_law_345 : decode cL_law 345 = .ok (.goto 2109, 3) := dk_167 8 61 (dk_at dksL_law_7 15 rfl rfl)
theorem dL_law_348 : decode cL_law 348 = .ok (.aload_n 1, 1) := dk_43 (dk_at dksL_law_7 18 rfl rfl)
theorem dL_law_349 : decode cL_law 349 = .ok (.invokevirtual 136, 3) := dk_182 0 136 (dk_at dksL_law_7 19 rfl rfl)
theorem dL_law_352 : decode cL_law 352 = .ok (.aload_n 2, 1) := dk_44 (dk_at dksL_law_7 22 rfl rfl)
theorem dL_law_353 : decode cL_law 353 = .ok (.invokevirtual 139, 3) := dk_182 0 139 (dk_at dksL_law_8 0 rfl rfl)
theorem dL_law_356 : decode cL_law 356 = .ok (.if_icmp .eq 2098, 3) := dk_159 8 50 (dk_at dksL_law_8 3 rfl rfl)
theorem dL_law_359 : decode cL_law 359 = .ok (.iconst 0, 1) := dk_3 (dk_at dksL_law_8 6 rfl rfl)
theorem dL_law_360 : decode cL_law 360 = .ok (.ireturn, 1) := dk_172 (dk_at dksL_law_8 7 rfl rfl)
theorem dL_law_361 : decode cL_law 361 = .ok (.aload_n 1, 1) := dk_43 (dk_at dksL_law_8 8 rfl rfl)
theorem dL_law_362 : decode cL_law 362 = .ok (.invokevirtual 140, 3) := dk_182 0 140 (dk_at dksL_law_8 9 rfl rfl)
theorem dL_law_365 : decode cL_law 365 = .ok (.aload_n 2, 1) := dk_44 (dk_at dksL_law_8 12 rfl rfl)
theorem dL_law_366 : decode cL_law 366 = .ok (.invokevirtual 143, 3) := dk_182 0 143 (dk_at dksL_law_8 13 rfl rfl)
theorem dL_law_369 : decode cL_law 369 = .ok (.if_icmp .eq 2085, 3) := dk_159 8 37 (dk_at dksL_law_8 16 rfl rfl)
theorem dL_law_372 : decode cL_law 372 = .ok (.iconst 0, 1) := dk_3 (dk_at dksL_law_8 19 rfl rfl)
theorem dL_law_373 : decode cL_law 373 = .ok (.ireturn, 1) := dk_172 (dk_at dksL_law_8 20 rfl rfl)
theorem dL_law_374 : decode cL_law 374 = .ok (.aload_n 1, 1) := dk_43 (dk_at dksL_law_8 21 rfl rfl)
theorem dL_law_375 : decode cL_law 375 = .ok (.invokevirtual 144, 3) := dk_182 0 144 (dk_at dksL_law_9 0 rfl rfl)
theorem dL_law_378 : decode cL_law 378 = .ok (.aload_n 2, 1) := dk_44 (dk_at dksL_law_9 3 rfl rfl)
theorem dL_law_379 : decode cL_law 379 = .ok (.invokevirtual 147, 3) := dk_182 0 147 (dk_at dksL_law_9 4 rfl rfl)
theorem dL_law_382 : decode cL_law 382 = .ok (.if_icmp .eq 2072, 3) := dk_159 8 24 (dk_at dksL_law_9 7 rfl rfl)
theorem dL_law_385 : decode cL_law 385 = .ok (.iconst 0, 1) := dk_3 (dk_at dksL_law_9 10 rfl rfl)
theorem dL_law_386 : decode cL_law 386 = .ok (.ireturn, 1) := dk_172 (dk_at dksL_law_9 11 rfl rfl)
theorem dL_law_387 : decode cL_law 387 = .ok (.aload_n 1, 1) := dk_43 (dk_at dksL_law_9 12 rfl rfl)
theorem dL_law_388 : decode cL_law 388 = .ok (.aload_n 0, 1) := dk_42 (dk_at dksL_law_9 13 rfl rfl)
theorem dL_law_389 : decode cL_law 389 = .ok (.iload 5, 2) := dk_21 5 (dk_at dksL_law_9 14 rfl rfl)
theorem dL_law_391 : decode cL_law 391 = .ok (.iconst 1, 1) := dk_4 (dk_at dksL_law_9 16 rfl rfl)
theorem dL_law_392 : decode cL_law 392 = .ok (.iadd, 1) := dk_96 (dk_at dksL_law_9 17 rfl rfl)
theorem dL_law_393 : decode cL_law 393 = .ok (.iaload, 1) := dk_46 (dk_at dksL_law_9 18 rfl rfl)
theorem dL_law_394 : decode cL_law 394 = .ok (.aload_n 0, 1) := dk_42 (dk_at dksL_law_9 19 rfl rfl)
theorem dL_law_395 : decode cL_law 395 = .ok (.iload 5, 2) := dk_21 5 (dk_at dksL_law_9 20 rfl rfl)
theorem dL_law_397 : decode cL_law 397 = .ok (.iconst 2, 1) := dk_5 (dk_at dksL_law_9 22 rfl rfl)
theorem dL_law_398 : decode cL_law 398 = .ok (.iadd, 1) := dk_96 (dk_at dksL_law_9 23 rfl rfl)
theorem dL_law_399 : decode cL_law 399 = .ok (.iaload, 1) := dk_46 (dk_at dksL_law_10 0 rfl rfl)
theorem dL_law_400 : decode cL_law 400 = .ok (.aload_n 3, 1) := dk_45 (dk_at dksL_law_10 1 rfl rfl)
theorem dL_law_401 : decode cL_law 401 = .ok (.invokestatic 148, 3) := dk_184 0 148 (dk_at dksL_law_10 2 rfl rfl)
theorem dL_law_404 : decode cL_law 404 = .ok (.istore 6, 2) := dk_54 6 (dk_at dksL_law_10 5 rfl rfl)
theorem dL_law_406 : decode cL_law 406 = .ok (.aload_n 2, 1) := dk_44 (dk_at dksL_law_10 7 rfl rfl)
theorem dL_law_407 : decode cL_law 407 = .ok (.aload_n 0, 1) := dk_42 (dk_at dksL_law_10 8 rfl rfl)
theorem dL_law_408 : decode cL_law 408 = .ok (.iload 5, 2) := dk_21 5 (dk_at dksL_law_10 9 rfl rfl)
theorem dL_law_410 : decode cL_law 410 = .ok (.iconst 1, 1) := dk_4 (dk_at dksL_law_10 11 rfl rfl)
theorem dL_law_411 : decode cL_law 411 = .ok (.iadd, 1) := dk_96 (dk_at dksL_law_10 12 rfl rfl)
theorem dL_law_412 : decode cL_law 412 = .ok (.iaload, 1) := dk_46 (dk_at dksL_law_10 13 rfl rfl)
theorem dL_law_413 : decode cL_law 413 = .ok (.aload_n 0, 1) := dk_42 (dk_at dksL_law_10 14 rfl rfl)
theorem dL_law_414 : decode cL_law 414 = .ok (.iload 5, 2) := dk_21 5 (dk_at dksL_law_10 15 rfl rfl)
theorem dL_law_416 : decode cL_law 416 = .ok (.iconst 2, 1) := dk_5 (dk_at dksL_law_10 17 rfl rfl)
theorem dL_law_417 : decode cL_law 417 = .ok (.iadd, 1) := dk_96 (dk_at dksL_law_10 18 rfl rfl)
theorem dL_law_418 : decode cL_law 418 = .ok (.iaload, 1) := dk_46 (dk_at dksL_law_10 19 rfl rfl)
theorem dL_law_419 : decode cL_law 419 = .ok (.invokevirtual 151, 3) := dk_182 0 151 (dk_at dksL_law_10 20 rfl rfl)
theorem dL_law_422 : decode cL_law 422 = .ok (.istore 7, 2) := dk_54 7 (dk_at dksL_law_11 0 rfl rfl)
theorem dL_law_424 : decode cL_law 424 = .ok (.aload_n 2, 1) := dk_44 (dk_at dksL_law_11 2 rfl rfl)
theorem dL_law_425 : decode cL_law 425 = .ok (.invokevirtual 129, 3) := dk_182 0 129 (dk_at dksL_law_11 3 rfl rfl)
theorem dL_law_428 : decode cL_law 428 = .ok (.iload 6, 2) := dk_21 6 (dk_at dksL_law_11 6 rfl rfl)
theorem dL_law_430 : decode cL_law 430 = .ok (.if_icmp .eq 5, 3) := dk_159 0 5 (dk_at dksL_law_11 8 rfl rfl)
theorem dL_law_433 : decode cL_law 433 = .ok (.iconst 0, 1) := dk_3 (dk_at dksL_law_11 11 rfl rfl)
theorem dL_law_434 : decode cL_law 434 = .ok (.ireturn, 1) := dk_172 (dk_at dksL_law_11 12 rfl rfl)
theorem dL_law_435 : decode cL_law 435 = .ok (.iload 6, 2) := dk_21 6 (dk_at dksL_law_11 13 rfl rfl)
theorem dL_law_437 : decode cL_law 437 = .ok (.ifCond .ne 15, 3) := dk_154 0 15 (dk_at dksL_law_11 15 rfl rfl)
theorem dL_law_440 : decode cL_law 440 = .ok (.aload_n 3, 1) := dk_45 (dk_at dksL_law_11 18 rfl rfl)
theorem dL_law_441 : decode cL_law 441 = .ok (.iconst 0, 1) := dk_3 (dk_at dksL_law_11 19 rfl rfl)
theorem dL_law_442 : decode cL_law 442 = .ok (.laload, 1) := dk_47 (dk_at dksL_law_11 20 rfl rfl)
theorem dL_law_443 : decode cL_law 443 = .ok (.iload 7, 2) := dk_21 7 (dk_at dksL_law_11 21 rfl rfl)
theorem dL_law_445 : decode cL_law 445 = .ok (.i2l, 1) := dk_133 (dk_at dksL_law_11 23 rfl rfl)
theorem dL_law_446 : decode cL_law 446 = .ok (.lcmp, 1) := dk_148 (dk_at dksL_law_12 0 rfl rfl)
theorem dL_law_447 : decode cL_law 447 = .ok (.ifCond .eq 5, 3) := dk_153 0 5 (dk_at dksL_law_12 1 rfl rfl)
theorem dL_law_450 : decode cL_law 450 = .ok (.iconst 0, 1) := dk_3 (dk_at dksL_law_12 4 rfl rfl)
theorem dL_law_451 : decode cL_law 451 = .ok (.ireturn, 1) := dk_172 (dk_at dksL_law_12 5 rfl rfl)
theorem dL_law_452 : decode cL_law 452 = .ok (.goto 2002, 3) := dk_167 7 210 (dk_at dksL_law_12 6 rfl rfl)
theorem dL_law_455 : decode cL_law 455 = .ok (.aload_n 1, 1) := dk_43 (dk_at dksL_law_12 9 rfl rfl)
theorem dL_law_456 : decode cL_law 456 = .ok (.invokevirtual 152, 3) := dk_182 0 152 (dk_at dksL_law_12 10 rfl rfl)
theorem dL_law_459 : decode cL_law 459 = .ok (.aload_n 2, 1) := dk_44 (dk_at dksL_law_12 13 rfl rfl)
theorem dL_law_460 : decode cL_law 460 = .ok (.invokevirtual 155, 3) := dk_182 0 155 (dk_at dksL_law_12 14 rfl rfl)
theorem dL_law_463 : decode cL_law 463 = .ok (.if_icmp .eq 1991, 3) := dk_159 7 199 (dk_at dksL_law_12 17 rfl rfl)
theorem dL_law_466 : decode cL_law 466 = .ok (.iconst 0, 1) := dk_3 (dk_at dksL_law_12 20 rfl rfl)
theorem dL_law_467 : decode cL_law 467 = .ok (.ireturn, 1) := dk_172 (dk_at dksL_law_12 21 rfl rfl)
theorem dL_law_468 : decode cL_law 468 = .ok (.aload_n 1, 1) := dk_43 (dk_at dksL_law_12 22 rfl rfl)
theorem dL_law_469 : decode cL_law 469 = .ok (.aload_n 0, 1) := dk_42 (dk_at dksL_law_12 23 rfl rfl)
theorem dL_law_470 : decode cL_law 470 = .ok (.iload 5, 2) := dk_21 5 (dk_at dksL_law_13 0 rfl rfl)
theorem dL_law_472 : decode cL_law 472 = .ok (.iconst 1, 1) := dk_4 (dk_at dksL_law_13 2 rfl rfl)
theorem dL_law_473 : decode cL_law 473 = .ok (.iadd, 1) := dk_96 (dk_at dksL_law_13 3 rfl rfl)
theorem dL_law_474 : decode cL_law 474 = .ok (.iaload, 1) := dk_46 (dk_at dksL_law_13 4 rfl rfl)
theorem dL_law_475 : decode cL_law 475 = .ok (.aload_n 3, 1) := dk_45 (dk_at dksL_law_13 5 rfl rfl)
theorem dL_law_476 : decode cL_law 476 = .ok (.invokestatic 156, 3) := dk_184 0 156 (dk_at dksL_law_13 6 rfl rfl)
theorem dL_law_479 : decode cL_law 479 = .ok (.istore 6, 2) := dk_54 6 (dk_at dksL_law_13 9 rfl rfl)
theorem dL_law_481 : decode cL_law 481 = .ok (.aload_n 2, 1) := dk_44 (dk_at dksL_law_13 11 rfl rfl)
theorem dL_law_482 : decode cL_law 482 = .ok (.aload_n 0, 1) := dk_42 (dk_at dksL_law_13 12 rfl rfl)
theorem dL_law_483 : decode cL_law 483 = .ok (.iload 5, 2) := dk_21 5 (dk_at dksL_law_13 13 rfl rfl)
theorem dL_law_485 : decode cL_law 485 = .ok (.iconst 1, 1) := dk_4 (dk_at dksL_law_13 15 rfl rfl)
theorem dL_law_486 : decode cL_law 486 = .ok (.iadd, 1) := dk_96 (dk_at dksL_law_13 16 rfl rfl)
theorem dL_law_487 : decode cL_law 487 = .ok (.iaload, 1) := dk_46 (dk_at dksL_law_13 17 rfl rfl)
theorem dL_law_488 : decode cL_law 488 = .ok (.invokevirtual 158, 3) := dk_182 0 158 (dk_at dksL_law_13 18 rfl rfl)
theorem dL_law_491 : decode cL_law 491 = .ok (.istore 7, 2) := dk_54 7 (dk_at dksL_law_13 21 rfl rfl)
theorem dL_law_493 : decode cL_law 493 = .ok (.aload_n 2, 1) := dk_44 (dk_at dksL_law_13 23 rfl rfl)
theorem dL_law_494 : decode cL_law 494 = .ok (.invokevirtual 129, 3) := dk_182 0 129 (dk_at dksL_law_14 0 rfl rfl)
theorem dL_law_497 : decode cL_law 497 = .ok (.iload 6, 2) := dk_21 6 (dk_at dksL_law_14 3 rfl rfl)
theorem dL_law_499 : decode cL_law 499 = .ok (.if_icmp .eq 5, 3) := dk_159 0 5 (dk_at dksL_law_14 5 rfl rfl)
theorem dL_law_502 : decode cL_law 502 = .ok (.iconst 0, 1) := dk_3 (dk_at dksL_law_14 8 rfl rfl)
theorem dL_law_503 : decode cL_law 503 = .ok (.ireturn, 1) := dk_172 (dk_at dksL_law_14 9 rfl rfl)
theorem dL_law_504 : decode cL_law 504 = .ok (.iload 6, 2) := dk_21 6 (dk_at dksL_law_14 10 rfl rfl)
theorem dL_law_506 : decode cL_law 506 = .ok (.ifCond .ne 15, 3) := dk_154 0 15 (dk_at dksL_law_14 12 rfl rfl)
theorem dL_law_509 : decode cL_law 509 = .ok (.aload_n 3, 1) := dk_45 (dk_at dksL_law_14 15 rfl rfl)
theorem dL_law_510 : decode cL_law 510 = .ok (.iconst 0, 1) := dk_3 (dk_at dksL_law_14 16 rfl rfl)
theorem dL_law_511 : decode cL_law 511 = .ok (.laload, 1) := dk_47 (dk_at dksL_law_14 17 rfl rfl)
theorem dL_law_512 : decode cL_law 512 = .ok (.iload 7, 2) := dk_21 7 (dk_at dksL_law_14 18 rfl rfl)
theorem dL_law_514 : decode cL_law 514 = .ok (.i2l, 1) := dk_133 (dk_at dksL_law_14 20 rfl rfl)
theorem dL_law_515 : decode cL_law 515 = .ok (.lcmp, 1) := dk_148 (dk_at dksL_law_14 21 rfl rfl)
theorem dL_law_516 : decode cL_law 516 = .ok (.ifCond .eq 5, 3) := dk_153 0 5 (dk_at dksL_law_15 0 rfl rfl)
theorem dL_law_519 : decode cL_law 519 = .ok (.iconst 0, 1) := dk_3 (dk_at dksL_law_15 3 rfl rfl)
theorem dL_law_520 : decode cL_law 520 = .ok (.ireturn, 1) := dk_172 (dk_at dksL_law_15 4 rfl rfl)
theorem dL_law_521 : decode cL_law 521 = .ok (.goto 1933, 3) := dk_167 7 141 (dk_at dksL_law_15 5 rfl rfl)
theorem dL_law_524 : decode cL_law 524 = .ok (.aload_n 1, 1) := dk_43 (dk_at dksL_law_15 8 rfl rfl)
theorem dL_law_525 : decode cL_law 525 = .ok (.aload_n 0, 1) := dk_42 (dk_at dksL_law_15 9 rfl rfl)
theorem dL_law_526 : decode cL_law 526 = .ok (.iload 5, 2) := dk_21 5 (dk_at dksL_law_15 10 rfl rfl)
theorem dL_law_528 : decode cL_law 528 = .ok (.iconst 1, 1) := dk_4 (dk_at dksL_law_15 12 rfl rfl)
theorem dL_law_529 : decode cL_law 529 = .ok (.iadd, 1) := dk_96 (dk_at dksL_law_15 13 rfl rfl)
theorem dL_law_530 : decode cL_law 530 = .ok (.iaload, 1) := dk_46 (dk_at dksL_law_15 14 rfl rfl)
theorem dL_law_531 : decode cL_law 531 = .ok (.aload_n 0, 1) := dk_42 (dk_at dksL_law_15 15 rfl rfl)
theorem dL_law_532 : decode cL_law 532 = .ok (.iload 5, 2) := dk_21 5 (dk_at dksL_law_15 16 rfl rfl)
theorem dL_law_534 : decode cL_law 534 = .ok (.iconst 2, 1) := dk_5 (dk_at dksL_law_15 18 rfl rfl)
theorem dL_law_535 : decode cL_law 535 = .ok (.iadd, 1) := dk_96 (dk_at dksL_law_15 19 rfl rfl)
theorem dL_law_536 : decode cL_law 536 = .ok (.iaload, 1) := dk_46 (dk_at dksL_law_15 20 rfl rfl)
theorem dL_law_537 : decode cL_law 537 = .ok (.aload_n 3, 1) := dk_45 (dk_at dksL_law_15 21 rfl rfl)
theorem dL_law_538 : decode cL_law 538 = .ok (.invokestatic 159, 3) := dk_184 0 159 (dk_at dksL_law_16 0 rfl rfl)
theorem dL_law_541 : decode cL_law 541 = .ok (.istore 6, 2) := dk_54 6 (dk_at dksL_law_16 3 rfl rfl)
theorem dL_law_543 : decode cL_law 543 = .ok (.aload_n 2, 1) := dk_44 (dk_at dksL_law_16 5 rfl rfl)
theorem dL_law_544 : decode cL_law 544 = .ok (.aload_n 0, 1) := dk_42 (dk_at dksL_law_16 6 rfl rfl)
theorem dL_law_545 : decode cL_law 545 = .ok (.iload 5, 2) := dk_21 5 (dk_at dksL_law_16 7 rfl rfl)
theorem dL_law_547 : decode cL_law 547 = .ok (.iconst 1, 1) := dk_4 (dk_at dksL_law_16 9 rfl rfl)
theorem dL_law_548 : decode cL_law 548 = .ok (.iadd, 1) := dk_96 (dk_at dksL_law_16 10 rfl rfl)
theorem dL_law_549 : decode cL_law 549 = .ok (.iaload, 1) := dk_46 (dk_at dksL_law_16 11 rfl rfl)
theorem dL_law_550 : decode cL_law 550 = .ok (.aload_n 0, 1) := dk_42 (dk_at dksL_law_16 12 rfl rfl)
theorem dL_law_551 : decode cL_law 551 = .ok (.iload 5, 2) := dk_21 5 (dk_at dksL_law_16 13 rfl rfl)
theorem dL_law_553 : decode cL_law 553 = .ok (.iconst 2, 1) := dk_5 (dk_at dksL_law_16 15 rfl rfl)
theorem dL_law_554 : decode cL_law 554 = .ok (.iadd, 1) := dk_96 (dk_at dksL_law_16 16 rfl rfl)
theorem dL_law_555 : decode cL_law 555 = .ok (.iaload, 1) := dk_46 (dk_at dksL_law_16 17 rfl rfl)
theorem dL_law_556 : decode cL_law 556 = .ok (.invokevirtual 161, 3) := dk_182 0 161 (dk_at dksL_law_16 18 rfl rfl)
theorem dL_law_559 : decode cL_law 559 = .ok (.istore 7, 2) := dk_54 7 (dk_at dksL_law_16 21 rfl rfl)
theorem dL_law_561 : decode cL_law 561 = .ok (.aload_n 2, 1) := dk_44 (dk_at dksL_law_16 23 rfl rfl)
theorem dL_law_562 : decode cL_law 562 = .ok (.invokevirtual 129, 3) := dk_182 0 129 (dk_at dksL_law_17 0 rfl rfl)
theorem dL_law_565 : decode cL_law 565 = .ok (.iload 6, 2) := dk_21 6 (dk_at dksL_law_17 3 rfl rfl)
theorem dL_law_567 : decode cL_law 567 = .ok (.if_icmp .eq 5, 3) := dk_159 0 5 (dk_at dksL_law_17 5 rfl rfl)
theorem dL_law_570 : decode cL_law 570 = .ok (.iconst 0, 1) := dk_3 (dk_at dksL_law_17 8 rfl rfl)
theorem dL_law_571 : decode cL_law 571 = .ok (.ireturn, 1) := dk_172 (dk_at dksL_law_17 9 rfl rfl)
theorem dL_law_572 : decode cL_law 572 = .ok (.iload 6, 2) := dk_21 6 (dk_at dksL_law_17 10 rfl rfl)
theorem dL_law_574 : decode cL_law 574 = .ok (.ifCond .ne 15, 3) := dk_154 0 15 (dk_at dksL_law_17 12 rfl rfl)
theorem dL_law_577 : decode cL_law 577 = .ok (.aload_n 3, 1) := dk_45 (dk_at dksL_law_17 15 rfl rfl)
theorem dL_law_578 : decode cL_law 578 = .ok (.iconst 0, 1) := dk_3 (dk_at dksL_law_17 16 rfl rfl)
theorem dL_law_579 : decode cL_law 579 = .ok (.laload, 1) := dk_47 (dk_at dksL_law_17 17 rfl rfl)
theorem dL_law_580 : decode cL_law 580 = .ok (.iload 7, 2) := dk_21 7 (dk_at dksL_law_17 18 rfl rfl)
theorem dL_law_582 : decode cL_law 582 = .ok (.i2l, 1) := dk_133 (dk_at dksL_law_17 20 rfl rfl)
theorem dL_law_583 : decode cL_law 583 = .ok (.lcmp, 1) := dk_148 (dk_at dksL_law_17 21 rfl rfl)
theorem dL_law_584 : decode cL_law 584 = .ok (.ifCond .eq 5, 3) := dk_153 0 5 (dk_at dksL_law_18 0 rfl rfl)
theorem dL_law_587 : decode cL_law 587 = .ok (.iconst 0, 1) := dk_3 (dk_at dksL_law_18 3 rfl rfl)
theorem dL_law_588 : decode cL_law 588 = .ok (.ireturn, 1) := dk_172 (dk_at dksL_law_18 4 rfl rfl)
theorem dL_law_589 : decode cL_law 589 = .ok (.goto 1865, 3) := dk_167 7 73 (dk_at dksL_law_18 5 rfl rfl)
theorem dL_law_592 : decode cL_law 592 = .ok (.aload_n 1, 1) := dk_43 (dk_at dksL_law_18 8 rfl rfl)
theorem dL_law_593 : decode cL_law 593 = .ok (.aload_n 0, 1) := dk_42 (dk_at dksL_law_18 9 rfl rfl)
theorem dL_law_594 : decode cL_law 594 = .ok (.iload 5, 2) := dk_21 5 (dk_at dksL_law_18 10 rfl rfl)
theorem dL_law_596 : decode cL_law 596 = .ok (.iconst 1, 1) := dk_4 (dk_at dksL_law_18 12 rfl rfl)
theorem dL_law_597 : decode cL_law 597 = .ok (.iadd, 1) := dk_96 (dk_at dksL_law_18 13 rfl rfl)
theorem dL_law_598 : decode cL_law 598 = .ok (.iaload, 1) := dk_46 (dk_at dksL_law_18 14 rfl rfl)
theorem dL_law_599 : decode cL_law 599 = .ok (.aload_n 0, 1) := dk_42 (dk_at dksL_law_18 15 rfl rfl)
theorem dL_law_600 : decode cL_law 600 = .ok (.iload 5, 2) := dk_21 5 (dk_at dksL_law_18 16 rfl rfl)
theorem dL_law_602 : decode cL_law 602 = .ok (.iconst 2, 1) := dk_5 (dk_at dksL_law_18 18 rfl rfl)
theorem dL_law_603 : decode cL_law 603 = .ok (.iadd, 1) := dk_96 (dk_at dksL_law_18 19 rfl rfl)
theorem dL_law_604 : decode cL_law 604 = .ok (.iaload, 1) := dk_46 (dk_at dksL_law_18 20 rfl rfl)
theorem dL_law_605 : decode cL_law 605 = .ok (.aload_n 3, 1) := dk_45 (dk_at dksL_law_18 21 rfl rfl)
theorem dL_law_606 : decode cL_law 606 = .ok (.invokestatic 162, 3) := dk_184 0 162 (dk_at dksL_law_19 0 rfl rfl)
theorem dL_law_609 : decode cL_law 609 = .ok (.istore 6, 2) := dk_54 6 (dk_at dksL_law_19 3 rfl rfl)
theorem dL_law_611 : decode cL_law 611 = .ok (.aload_n 2, 1) := dk_44 (dk_at dksL_law_19 5 rfl rfl)
theorem dL_law_612 : decode cL_law 612 = .ok (.aload_n 0, 1) := dk_42 (dk_at dksL_law_19 6 rfl rfl)
theorem dL_law_613 : decode cL_law 613 = .ok (.iload 5, 2) := dk_21 5 (dk_at dksL_law_19 7 rfl rfl)
theorem dL_law_615 : decode cL_law 615 = .ok (.iconst 1, 1) := dk_4 (dk_at dksL_law_19 9 rfl rfl)
theorem dL_law_616 : decode cL_law 616 = .ok (.iadd, 1) := dk_96 (dk_at dksL_law_19 10 rfl rfl)
theorem dL_law_617 : decode cL_law 617 = .ok (.iaload, 1) := dk_46 (dk_at dksL_law_19 11 rfl rfl)
theorem dL_law_618 : decode cL_law 618 = .ok (.aload_n 0, 1) := dk_42 (dk_at dksL_law_19 12 rfl rfl)
theorem dL_law_619 : decode cL_law 619 = .ok (.iload 5, 2) := dk_21 5 (dk_at dksL_law_19 13 rfl rfl)
theorem dL_law_621 : decode cL_law 621 = .ok (.iconst 2, 1) := dk_5 (dk_at dksL_law_19 15 rfl rfl)
theorem dL_law_622 : decode cL_law 622 = .ok (.iadd, 1) := dk_96 (dk_at dksL_law_19 16 rfl rfl)
theorem dL_law_623 : decode cL_law 623 = .ok (.iaload, 1) := dk_46 (dk_at dksL_law_19 17 rfl rfl)
theorem dL_law_624 : decode cL_law 624 = .ok (.invokevirtual 164, 3) := dk_182 0 164 (dk_at dksL_law_19 18 rfl rfl)
theorem dL_law_627 : decode cL_law 627 = .ok (.istore 7, 2) := dk_54 7 (dk_at dksL_law_19 21 rfl rfl)
theorem dL_law_629 : decode cL_law 629 = .ok (.aload_n 2, 1) := dk_44 (dk_at dksL_law_19 23 rfl rfl)
theorem dL_law_630 : decode cL_law 630 = .ok (.invokevirtual 129, 3) := dk_182 0 129 (dk_at dksL_law_20 0 rfl rfl)
theorem dL_law_633 : decode cL_law 633 = .ok (.iload 6, 2) := dk_21 6 (dk_at dksL_law_20 3 rfl rfl)
theorem dL_law_635 : decode cL_law 635 = .ok (.if_icmp .eq 5, 3) := dk_159 0 5 (dk_at dksL_law_20 5 rfl rfl)
theorem dL_law_638 : decode cL_law 638 = .ok (.iconst 0, 1) := dk_3 (dk_at dksL_law_20 8 rfl rfl)
theorem dL_law_639 : decode cL_law 639 = .ok (.ireturn, 1) := dk_172 (dk_at dksL_law_20 9 rfl rfl)
theorem dL_law_640 : decode cL_law 640 = .ok (.iload 6, 2) := dk_21 6 (dk_at dksL_law_20 10 rfl rfl)
theorem dL_law_642 : decode cL_law 642 = .ok (.ifCond .ne 15, 3) := dk_154 0 15 (dk_at dksL_law_20 12 rfl rfl)
theorem dL_law_645 : decode cL_law 645 = .ok (.aload_n 3, 1) := dk_45 (dk_at dksL_law_20 15 rfl rfl)
theorem dL_law_646 : decode cL_law 646 = .ok (.iconst 0, 1) := dk_3 (dk_at dksL_law_20 16 rfl rfl)
theorem dL_law_647 : decode cL_law 647 = .ok (.laload, 1) := dk_47 (dk_at dksL_law_20 17 rfl rfl)
theorem dL_law_648 : decode cL_law 648 = .ok (.iload 7, 2) := dk_21 7 (dk_at dksL_law_20 18 rfl rfl)
theorem dL_law_650 : decode cL_law 650 = .ok (.i2l, 1) := dk_133 (dk_at dksL_law_20 20 rfl rfl)
theorem dL_law_651 : decode cL_law 651 = .ok (.lcmp, 1) := dk_148 (dk_at dksL_law_20 21 rfl rfl)
theorem dL_law_652 : decode cL_law 652 = .ok (.ifCond .eq 5, 3) := dk_153 0 5 (dk_at dksL_law_21 0 rfl rfl)
theorem dL_law_655 : decode cL_law 655 = .ok (.iconst 0, 1) := dk_3 (dk_at dksL_law_21 3 rfl rfl)
theorem dL_law_656 : decode cL_law 656 = .ok (.ireturn, 1) := dk_172 (dk_at dksL_law_21 4 rfl rfl)
theorem dL_law_657 : decode cL_law 657 = .ok (.goto 1797, 3) := dk_167 7 5 (dk_at dksL_law_21 5 rfl rfl)
theorem dL_law_660 : decode cL_law 660 = .ok (.aload_n 1, 1) := dk_43 (dk_at dksL_law_21 8 rfl rfl)
theorem dL_law_661 : decode cL_law 661 = .ok (.aload_n 0, 1) := dk_42 (dk_at dksL_law_21 9 rfl rfl)
theorem dL_law_662 : decode cL_law 662 = .ok (.iload 5, 2) := dk_21 5 (dk_at dksL_law_21 10 rfl rfl)
theorem dL_law_664 : decode cL_law 664 = .ok (.iconst 1, 1) := dk_4 (dk_at dksL_law_21 12 rfl rfl)
theorem dL_law_665 : decode cL_law 665 = .ok (.iadd, 1) := dk_96 (dk_at dksL_law_21 13 rfl rfl)
theorem dL_law_666 : decode cL_law 666 = .ok (.iaload, 1) := dk_46 (dk_at dksL_law_21 14 rfl rfl)
theorem dL_law_667 : decode cL_law 667 = .ok (.aload_n 0, 1) := dk_42 (dk_at dksL_law_21 15 rfl rfl)
theorem dL_law_668 : decode cL_law 668 = .ok (.iload 5, 2) := dk_21 5 (dk_at dksL_law_21 16 rfl rfl)
theorem dL_law_670 : decode cL_law 670 = .ok (.iconst 2, 1) := dk_5 (dk_at dksL_law_21 18 rfl rfl)
theorem dL_law_671 : decode cL_law 671 = .ok (.iadd, 1) := dk_96 (dk_at dksL_law_21 19 rfl rfl)
theorem dL_law_672 : decode cL_law 672 = .ok (.iaload, 1) := dk_46 (dk_at dksL_law_21 20 rfl rfl)
theorem dL_law_673 : decode cL_law 673 = .ok (.aload_n 3, 1) := dk_45 (dk_at dksL_law_21 21 rfl rfl)
theorem dL_law_674 : decode cL_law 674 = .ok (.invokestatic 165, 3) := dk_184 0 165 (dk_at dksL_law_22 0 rfl rfl)
theorem dL_law_677 : decode cL_law 677 = .ok (.istore 6, 2) := dk_54 6 (dk_at dksL_law_22 3 rfl rfl)
theorem dL_law_679 : decode cL_law 679 = .ok (.aload_n 2, 1) := dk_44 (dk_at dksL_law_22 5 rfl rfl)
theorem dL_law_680 : decode cL_law 680 = .ok (.aload_n 0, 1) := dk_42 (dk_at dksL_law_22 6 rfl rfl)
theorem dL_law_681 : decode cL_law 681 = .ok (.iload 5, 2) := dk_21 5 (dk_at dksL_law_22 7 rfl rfl)
theorem dL_law_683 : decode cL_law 683 = .ok (.iconst 1, 1) := dk_4 (dk_at dksL_law_22 9 rfl rfl)
theorem dL_law_684 : decode cL_law 684 = .ok (.iadd, 1) := dk_96 (dk_at dksL_law_22 10 rfl rfl)
theorem dL_law_685 : decode cL_law 685 = .ok (.iaload, 1) := dk_46 (dk_at dksL_law_22 11 rfl rfl)
theorem dL_law_686 : decode cL_law 686 = .ok (.aload_n 0, 1) := dk_42 (dk_at dksL_law_22 12 rfl rfl)
theorem dL_law_687 : decode cL_law 687 = .ok (.iload 5, 2) := dk_21 5 (dk_at dksL_law_22 13 rfl rfl)
theorem dL_law_689 : decode cL_law 689 = .ok (.iconst 2, 1) := dk_5 (dk_at dksL_law_22 15 rfl rfl)
theorem dL_law_690 : decode cL_law 690 = .ok (.iadd, 1) := dk_96 (dk_at dksL_law_22 16 rfl rfl)
theorem dL_law_691 : decode cL_law 691 = .ok (.iaload, 1) := dk_46 (dk_at dksL_law_22 17 rfl rfl)
theorem dL_law_692 : decode cL_law 692 = .ok (.invokevirtual 167, 3) := dk_182 0 167 (dk_at dksL_law_22 18 rfl rfl)
theorem dL_law_695 : decode cL_law 695 = .ok (.istore 7, 2) := dk_54 7 (dk_at dksL_law_22 21 rfl rfl)
theorem dL_law_697 : decode cL_law 697 = .ok (.aload_n 2, 1) := dk_44 (dk_at dksL_law_22 23 rfl rfl)
theorem dL_law_698 : decode cL_law 698 = .ok (.invokevirtual 129, 3) := dk_182 0 129 (dk_at dksL_law_23 0 rfl rfl)
theorem dL_law_701 : decode cL_law 701 = .ok (.iload 6, 2) := dk_21 6 (dk_at dksL_law_23 3 rfl rfl)
theorem dL_law_703 : decode cL_law 703 = .ok (.if_icmp .eq 5, 3) := dk_159 0 5 (dk_at dksL_law_23 5 rfl rfl)
theorem dL_law_706 : decode cL_law 706 = .ok (.iconst 0, 1) := dk_3 (dk_at dksL_law_23 8 rfl rfl)
theorem dL_law_707 : decode cL_law 707 = .ok (.ireturn, 1) := dk_172 (dk_at dksL_law_23 9 rfl rfl)
theorem dL_law_708 : decode cL_law 708 = .ok (.iload 6, 2) := dk_21 6 (dk_at dksL_law_23 10 rfl rfl)
theorem dL_law_710 : decode cL_law 710 = .ok (.ifCond .ne 15, 3) := dk_154 0 15 (dk_at dksL_law_23 12 rfl rfl)
theorem dL_law_713 : decode cL_law 713 = .ok (.aload_n 3, 1) := dk_45 (dk_at dksL_law_23 15 rfl rfl)
theorem dL_law_714 : decode cL_law 714 = .ok (.iconst 0, 1) := dk_3 (dk_at dksL_law_23 16 rfl rfl)
theorem dL_law_715 : decode cL_law 715 = .ok (.laload, 1) := dk_47 (dk_at dksL_law_23 17 rfl rfl)
theorem dL_law_716 : decode cL_law 716 = .ok (.iload 7, 2) := dk_21 7 (dk_at dksL_law_23 18 rfl rfl)
theorem dL_law_718 : decode cL_law 718 = .ok (.i2l, 1) := dk_133 (dk_at dksL_law_23 20 rfl rfl)
theorem dL_law_719 : decode cL_law 719 = .ok (.lcmp, 1) := dk_148 (dk_at dksL_law_23 21 rfl rfl)
theorem dL_law_720 : decode cL_law 720 = .ok (.ifCond .eq 5, 3) := dk_153 0 5 (dk_at dksL_law_24 0 rfl rfl)
theorem dL_law_723 : decode cL_law 723 = .ok (.iconst 0, 1) := dk_3 (dk_at dksL_law_24 3 rfl rfl)
theorem dL_law_724 : decode cL_law 724 = .ok (.ireturn, 1) := dk_172 (dk_at dksL_law_24 4 rfl rfl)
theorem dL_law_725 : decode cL_law 725 = .ok (.goto 1729, 3) := dk_167 6 193 (dk_at dksL_law_24 5 rfl rfl)
theorem dL_law_728 : decode cL_law 728 = .ok (.aload_n 1, 1) := dk_43 (dk_at dksL_law_24 8 rfl rfl)
theorem dL_law_729 : decode cL_law 729 = .ok (.aload_n 0, 1) := dk_42 (dk_at dksL_law_24 9 rfl rfl)
theorem dL_law_730 : decode cL_law 730 = .ok (.iload 5, 2) := dk_21 5 (dk_at dksL_law_24 10 rfl rfl)
theorem dL_law_732 : decode cL_law 732 = .ok (.iconst 1, 1) := dk_4 (dk_at dksL_law_24 12 rfl rfl)
theorem dL_law_733 : decode cL_law 733 = .ok (.iadd, 1) := dk_96 (dk_at dksL_law_24 13 rfl rfl)
theorem dL_law_734 : decode cL_law 734 = .ok (.iaload, 1) := dk_46 (dk_at dksL_law_24 14 rfl rfl)
theorem dL_law_735 : decode cL_law 735 = .ok (.aload_n 0, 1) := dk_42 (dk_at dksL_law_24 15 rfl rfl)
theorem dL_law_736 : decode cL_law 736 = .ok (.iload 5, 2) := dk_21 5 (dk_at dksL_law_24 16 rfl rfl)
theorem dL_law_738 : decode cL_law 738 = .ok (.iconst 2, 1) := dk_5 (dk_at dksL_law_24 18 rfl rfl)
theorem dL_law_739 : decode cL_law 739 = .ok (.iadd, 1) := dk_96 (dk_at dksL_law_24 19 rfl rfl)
theorem dL_law_740 : decode cL_law 740 = .ok (.iaload, 1) := dk_46 (dk_at dksL_law_24 20 rfl rfl)
theorem dL_law_741 : decode cL_law 741 = .ok (.aload_n 0, 1) := dk_42 (dk_at dksL_law_24 21 rfl rfl)
theorem dL_law_742 : decode cL_law 742 = .ok (.iload 5, 2) := dk_21 5 (dk_at dksL_law_24 22 rfl rfl)
theorem dL_law_744 : decode cL_law 744 = .ok (.iconst 3, 1) := dk_6 (dk_at dksL_law_25 0 rfl rfl)
theorem dL_law_745 : decode cL_law 745 = .ok (.iadd, 1) := dk_96 (dk_at dksL_law_25 1 rfl rfl)
theorem dL_law_746 : decode cL_law 746 = .ok (.iaload, 1) := dk_46 (dk_at dksL_law_25 2 rfl rfl)
theorem dL_law_747 : decode cL_law 747 = .ok (.aload_n 3, 1) := dk_45 (dk_at dksL_law_25 3 rfl rfl)
theorem dL_law_748 : decode cL_law 748 = .ok (.invokestatic 168, 3) := dk_184 0 168 (dk_at dksL_law_25 4 rfl rfl)
theorem dL_law_751 : decode cL_law 751 = .ok (.istore 6, 2) := dk_54 6 (dk_at dksL_law_25 7 rfl rfl)
theorem dL_law_753 : decode cL_law 753 = .ok (.aload_n 2, 1) := dk_44 (dk_at dksL_law_25 9 rfl rfl)
theorem dL_law_754 : decode cL_law 754 = .ok (.aload_n 0, 1) := dk_42 (dk_at dksL_law_25 10 rfl rfl)
theorem dL_law_755 : decode cL_law 755 = .ok (.iload 5, 2) := dk_21 5 (dk_at dksL_law_25 11 rfl rfl)
theorem dL_law_757 : decode cL_law 757 = .ok (.iconst 1, 1) := dk_4 (dk_at dksL_law_25 13 rfl rfl)
theorem dL_law_758 : decode cL_law 758 = .ok (.iadd, 1) := dk_96 (dk_at dksL_law_25 14 rfl rfl)
theorem dL_law_759 : decode cL_law 759 = .ok (.iaload, 1) := dk_46 (dk_at dksL_law_25 15 rfl rfl)
theorem dL_law_760 : decode cL_law 760 = .ok (.aload_n 0, 1) := dk_42 (dk_at dksL_law_25 16 rfl rfl)
theorem dL_law_761 : decode cL_law 761 = .ok (.iload 5, 2) := dk_21 5 (dk_at dksL_law_25 17 rfl rfl)
theorem dL_law_763 : decode cL_law 763 = .ok (.iconst 2, 1) := dk_5 (dk_at dksL_law_25 19 rfl rfl)
theorem dL_law_764 : decode cL_law 764 = .ok (.iadd, 1) := dk_96 (dk_at dksL_law_25 20 rfl rfl)
theorem dL_law_765 : decode cL_law 765 = .ok (.iaload, 1) := dk_46 (dk_at dksL_law_25 21 rfl rfl)
theorem dL_law_766 : decode cL_law 766 = .ok (.aload_n 0, 1) := dk_42 (dk_at dksL_law_25 22 rfl rfl)
theorem dL_law_767 : decode cL_law 767 = .ok (.iload 5, 2) := dk_21 5 (dk_at dksL_law_26 0 rfl rfl)
theorem dL_law_769 : decode cL_law 769 = .ok (.iconst 3, 1) := dk_6 (dk_at dksL_law_26 2 rfl rfl)
theorem dL_law_770 : decode cL_law 770 = .ok (.iadd, 1) := dk_96 (dk_at dksL_law_26 3 rfl rfl)
theorem dL_law_771 : decode cL_law 771 = .ok (.iaload, 1) := dk_46 (dk_at dksL_law_26 4 rfl rfl)
theorem dL_law_772 : decode cL_law 772 = .ok (.invokevirtual 171, 3) := dk_182 0 171 (dk_at dksL_law_26 5 rfl rfl)
theorem dL_law_775 : decode cL_law 775 = .ok (.istore 7, 2) := dk_54 7 (dk_at dksL_law_26 8 rfl rfl)
theorem dL_law_777 : decode cL_law 777 = .ok (.aload_n 2, 1) := dk_44 (dk_at dksL_law_26 10 rfl rfl)
theorem dL_law_778 : decode cL_law 778 = .ok (.invokevirtual 129, 3) := dk_182 0 129 (dk_at dksL_law_26 11 rfl rfl)
theorem dL_law_781 : decode cL_law 781 = .ok (.iload 6, 2) := dk_21 6 (dk_at dksL_law_26 14 rfl rfl)
theorem dL_law_783 : decode cL_law 783 = .ok (.if_icmp .eq 5, 3) := dk_159 0 5 (dk_at dksL_law_26 16 rfl rfl)
theorem dL_law_786 : decode cL_law 786 = .ok (.iconst 0, 1) := dk_3 (dk_at dksL_law_26 19 rfl rfl)
theorem dL_law_787 : decode cL_law 787 = .ok (.ireturn, 1) := dk_172 (dk_at dksL_law_26 20 rfl rfl)
theorem dL_law_788 : decode cL_law 788 = .ok (.iload 6, 2) := dk_21 6 (dk_at dksL_law_26 21 rfl rfl)
theorem dL_law_790 : decode cL_law 790 = .ok (.ifCond .ne 15, 3) := dk_154 0 15 (dk_at dksL_law_27 0 rfl rfl)
theorem dL_law_793 : decode cL_law 793 = .ok (.aload_n 3, 1) := dk_45 (dk_at dksL_law_27 3 rfl rfl)
theorem dL_law_794 : decode cL_law 794 = .ok (.iconst 0, 1) := dk_3 (dk_at dksL_law_27 4 rfl rfl)
theorem dL_law_795 : decode cL_law 795 = .ok (.laload, 1) := dk_47 (dk_at dksL_law_27 5 rfl rfl)
theorem dL_law_796 : decode cL_law 796 = .ok (.iload 7, 2) := dk_21 7 (dk_at dksL_law_27 6 rfl rfl)
theorem dL_law_798 : decode cL_law 798 = .ok (.i2l, 1) := dk_133 (dk_at dksL_law_27 8 rfl rfl)
theorem dL_law_799 : decode cL_law 799 = .ok (.lcmp, 1) := dk_148 (dk_at dksL_law_27 9 rfl rfl)
theorem dL_law_800 : decode cL_law 800 = .ok (.ifCond .eq 5, 3) := dk_153 0 5 (dk_at dksL_law_27 10 rfl rfl)
theorem dL_law_803 : decode cL_law 803 = .ok (.iconst 0, 1) := dk_3 (dk_at dksL_law_27 13 rfl rfl)
theorem dL_law_804 : decode cL_law 804 = .ok (.ireturn, 1) := dk_172 (dk_at dksL_law_27 14 rfl rfl)
theorem dL_law_805 : decode cL_law 805 = .ok (.goto 1649, 3) := dk_167 6 113 (dk_at dksL_law_27 15 rfl rfl)
theorem dL_law_808 : decode cL_law 808 = .ok (.aload_n 1, 1) := dk_43 (dk_at dksL_law_27 18 rfl rfl)
theorem dL_law_809 : decode cL_law 809 = .ok (.aload_n 0, 1) := dk_42 (dk_at dksL_law_27 19 rfl rfl)
theorem dL_law_810 : decode cL_law 810 = .ok (.iload 5, 2) := dk_21 5 (dk_at dksL_law_27 20 rfl rfl)
theorem dL_law_812 : decode cL_law 812 = .ok (.iconst 1, 1) := dk_4 (dk_at dksL_law_27 22 rfl rfl)
theorem dL_law_813 : decode cL_law 813 = .ok (.iadd, 1) := dk_96 (dk_at dksL_law_27 23 rfl rfl)
theorem dL_law_814 : decode cL_law 814 = .ok (.iaload, 1) := dk_46 (dk_at dksL_law_28 0 rfl rfl)
theorem dL_law_815 : decode cL_law 815 = .ok (.aload 4, 2) := dk_25 4 (dk_at dksL_law_28 1 rfl rfl)
theorem dL_law_817 : decode cL_law 817 = .ok (.invokestatic 172, 3) := dk_184 0 172 (dk_at dksL_law_28 3 rfl rfl)
theorem dL_law_820 : decode cL_law 820 = .ok (.istore 6, 2) := dk_54 6 (dk_at dksL_law_28 6 rfl rfl)
theorem dL_law_822 : decode cL_law 822 = .ok (.aload_n 2, 1) := dk_44 (dk_at dksL_law_28 8 rfl rfl)
theorem dL_law_823 : decode cL_law 823 = .ok (.aload_n 0, 1) := dk_42 (dk_at dksL_law_28 9 rfl rfl)
theorem dL_law_824 : decode cL_law 824 = .ok (.iload 5, 2) := dk_21 5 (dk_at dksL_law_28 10 rfl rfl)
theorem dL_law_826 : decode cL_law 826 = .ok (.iconst 1, 1) := dk_4 (dk_at dksL_law_28 12 rfl rfl)
theorem dL_law_827 : decode cL_law 827 = .ok (.iadd, 1) := dk_96 (dk_at dksL_law_28 13 rfl rfl)
theorem dL_law_828 : decode cL_law 828 = .ok (.iaload, 1) := dk_46 (dk_at dksL_law_28 14 rfl rfl)
theorem dL_law_829 : decode cL_law 829 = .ok (.invokevirtual 175, 3) := dk_182 0 175 (dk_at dksL_law_28 15 rfl rfl)
theorem dL_law_832 : decode cL_law 832 = .ok (.dstore 7, 2) := dk_57 7 (dk_at dksL_law_28 18 rfl rfl)
theorem dL_law_834 : decode cL_law 834 = .ok (.aload_n 2, 1) := dk_44 (dk_at dksL_law_28 20 rfl rfl)
theorem dL_law_835 : decode cL_law 835 = .ok (.invokevirtual 129, 3) := dk_182 0 129 (dk_at dksL_law_28 21 rfl rfl)
theorem dL_law_838 : decode cL_law 838 = .ok (.iload 6, 2) := dk_21 6 (dk_at dksL_law_29 0 rfl rfl)
theorem dL_law_840 : decode cL_law 840 = .ok (.if_icmp .eq 5, 3) := dk_159 0 5 (dk_at dksL_law_29 2 rfl rfl)
theorem dL_law_843 : decode cL_law 843 = .ok (.iconst 0, 1) := dk_3 (dk_at dksL_law_29 5 rfl rfl)
theorem dL_law_844 : decode cL_law 844 = .ok (.ireturn, 1) := dk_172 (dk_at dksL_law_29 6 rfl rfl)
theorem dL_law_845 : decode cL_law 845 = .ok (.iload 6, 2) := dk_21 6 (dk_at dksL_law_29 7 rfl rfl)
theorem dL_law_847 : decode cL_law 847 = .ok (.ifCond .ne 35, 3) := dk_154 0 35 (dk_at dksL_law_29 9 rfl rfl)
theorem dL_law_850 : decode cL_law 850 = .ok (.aload 4, 2) := dk_25 4 (dk_at dksL_law_29 12 rfl rfl)
theorem dL_law_852 : decode cL_law 852 = .ok (.iconst 0, 1) := dk_3 (dk_at dksL_law_29 14 rfl rfl)
theorem dL_law_853 : decode cL_law 853 = .ok (.daload, 1) := dk_49 (dk_at dksL_law_29 15 rfl rfl)
theorem dL_law_854 : decode cL_law 854 = .ok (.dload 7, 2) := dk_24 7 (dk_at dksL_law_29 16 rfl rfl)
theorem dL_law_856 : decode cL_law 856 = .ok (.dcmp .l, 1) := dk_151 (dk_at dksL_law_29 18 rfl rfl)
theorem dL_law_857 : decode cL_law 857 = .ok (.ifCond .eq 25, 3) := dk_153 0 25 (dk_at dksL_law_29 19 rfl rfl)
theorem dL_law_860 : decode cL_law 860 = .ok (.aload 4, 2) := dk_25 4 (dk_at dksL_law_29 22 rfl rfl)
theorem dL_law_862 : decode cL_law 862 = .ok (.iconst 0, 1) := dk_3 (dk_at dksL_law_30 0 rfl rfl)
theorem dL_law_863 : decode cL_law 863 = .ok (.daload, 1) := dk_49 (dk_at dksL_law_30 1 rfl rfl)
theorem dL_law_864 : decode cL_law 864 = .ok (.aload 4, 2) := dk_25 4 (dk_at dksL_law_30 2 rfl rfl)
theorem dL_law_866 : decode cL_law 866 = .ok (.iconst 0, 1) := dk_3 (dk_at dksL_law_30 4 rfl rfl)
theorem dL_law_867 : decode cL_law 867 = .ok (.daload, 1) := dk_49 (dk_at dksL_law_30 5 rfl rfl)
theorem dL_law_868 : decode cL_law 868 = .ok (.dcmp .l, 1) := dk_151 (dk_at dksL_law_30 6 rfl rfl)
theorem dL_law_869 : decode cL_law 869 = .ok (.ifCond .eq 11, 3) := dk_153 0 11 (dk_at dksL_law_30 7 rfl rfl)
theorem dL_law_872 : decode cL_law 872 = .ok (.dload 7, 2) := dk_24 7 (dk_at dksL_law_30 10 rfl rfl)
theorem dL_law_874 : decode cL_law 874 = .ok (.dload 7, 2) := dk_24 7 (dk_at dksL_law_30 12 rfl rfl)
theorem dL_law_876 : decode cL_law 876 = .ok (.dcmp .l, 1) := dk_151 (dk_at dksL_law_30 14 rfl rfl)
theorem dL_law_877 : decode cL_law 877 = .ok (.ifCond .ne 5, 3) := dk_154 0 5 (dk_at dksL_law_30 15 rfl rfl)
theorem dL_law_880 : decode cL_law 880 = .ok (.iconst 0, 1) := dk_3 (dk_at dksL_law_30 18 rfl rfl)
theorem dL_law_881 : decode cL_law 881 = .ok (.ireturn, 1) := dk_172 (dk_at dksL_law_30 19 rfl rfl)
theorem dL_law_882 : decode cL_law 882 = .ok (.goto 1572, 3) := dk_167 6 36 (dk_at dksL_law_30 20 rfl rfl)
theorem dL_law_885 : decode cL_law 885 = .ok (.aload_n 1, 1) := dk_43 (dk_at dksL_law_30 23 rfl rfl)
theorem dL_law_886 : decode cL_law 886 = .ok (.invokevirtual 176, 3) := dk_182 0 176 (dk_at dksL_law_31 0 rfl rfl)
theorem dL_law_889 : decode cL_law 889 = .ok (.aload_n 2, 1) := dk_44 (dk_at dksL_law_31 3 rfl rfl)
theorem dL_law_890 : decode cL_law 890 = .ok (.invokevirtual 179, 3) := dk_182 0 179 (dk_at dksL_law_31 4 rfl rfl)
theorem dL_law_893 : decode cL_law 893 = .ok (.if_icmp .eq 1561, 3) := dk_159 6 25 (dk_at dksL_law_31 7 rfl rfl)
theorem dL_law_896 : decode cL_law 896 = .ok (.iconst 0, 1) := dk_3 (dk_at dksL_law_31 10 rfl rfl)
theorem dL_law_897 : decode cL_law 897 = .ok (.ireturn, 1) := dk_172 (dk_at dksL_law_31 11 rfl rfl)
theorem dL_law_898 : decode cL_law 898 = .ok (.aload_n 1, 1) := dk_43 (dk_at dksL_law_31 12 rfl rfl)
theorem dL_law_899 : decode cL_law 899 = .ok (.invokevirtual 180, 3) := dk_182 0 180 (dk_at dksL_law_31 13 rfl rfl)
theorem dL_law_902 : decode cL_law 902 = .ok (.f2d, 1) := dk_141 (dk_at dksL_law_31 16 rfl rfl)
theorem dL_law_903 : decode cL_law 903 = .ok (.dstore 6, 2) := dk_57 6 (dk_at dksL_law_31 17 rfl rfl)
theorem dL_law_905 : decode cL_law 905 = .ok (.aload_n 2, 1) := dk_44 (dk_at dksL_law_31 19 rfl rfl)
theorem dL_law_906 : decode cL_law 906 = .ok (.invokevirtual 184, 3) := dk_182 0 184 (dk_at dksL_law_31 20 rfl rfl)
theorem dL_law_909 : decode cL_law 909 = .ok (.f2d, 1) := dk_141 (dk_at dksL_law_31 23 rfl rfl)
theorem dL_law_910 : decode cL_law 910 = .ok (.dstore 8, 2) := dk_57 8 (dk_at dksL_law_32 0 rfl rfl)
theorem dL_law_912 : decode cL_law 912 = .ok (.dload 6, 2) := dk_24 6 (dk_at dksL_law_32 2 rfl rfl)
theorem dL_law_914 : decode cL_law 914 = .ok (.dload 8, 2) := dk_24 8 (dk_at dksL_law_32 4 rfl rfl)
theorem dL_law_916 : decode cL_law 916 = .ok (.dcmp .l, 1) := dk_151 (dk_at dksL_law_32 6 rfl rfl)
theorem dL_law_917 : decode cL_law 917 = .ok (.ifCond .eq 21, 3) := dk_153 0 21 (dk_at dksL_law_32 7 rfl rfl)
theorem dL_law_920 : decode cL_law 920 = .ok (.dload 6, 2) := dk_24 6 (dk_at dksL_law_32 10 rfl rfl)
theorem dL_law_922 : decode cL_law 922 = .ok (.dload 6, 2) := dk_24 6 (dk_at dksL_law_32 12 rfl rfl)
theorem dL_law_924 : decode cL_law 924 = .ok (.dcmp .l, 1) := dk_151 (dk_at dksL_law_32 14 rfl rfl)
theorem dL_law_925 : decode cL_law 925 = .ok (.ifCond .eq 11, 3) := dk_153 0 11 (dk_at dksL_law_32 15 rfl rfl)
theorem dL_law_928 : decode cL_law 928 = .ok (.dload 8, 2) := dk_24 8 (dk_at dksL_law_32 18 rfl rfl)
theorem dL_law_930 : decode cL_law 930 = .ok (.dload 8, 2) := dk_24 8 (dk_at dksL_law_32 20 rfl rfl)
theorem dL_law_932 : decode cL_law 932 = .ok (.dcmp .l, 1) := dk_151 (dk_at dksL_law_32 22 rfl rfl)
theorem dL_law_933 : decode cL_law 933 = .ok (.ifCond .ne 5, 3) := dk_154 0 5 (dk_at dksL_law_33 0 rfl rfl)
theorem dL_law_936 : decode cL_law 936 = .ok (.iconst 0, 1) := dk_3 (dk_at dksL_law_33 3 rfl rfl)
theorem dL_law_937 : decode cL_law 937 = .ok (.ireturn, 1) := dk_172 (dk_at dksL_law_33 4 rfl rfl)
theorem dL_law_938 : decode cL_law 938 = .ok (.goto 1516, 3) := dk_167 5 236 (dk_at dksL_law_33 5 rfl rfl)
theorem dL_law_941 : decode cL_law 941 = .ok (.aload_n 1, 1) := dk_43 (dk_at dksL_law_33 8 rfl rfl)
theorem dL_law_942 : decode cL_law 942 = .ok (.aload_n 0, 1) := dk_42 (dk_at dksL_law_33 9 rfl rfl)
theorem dL_law_943 : decode cL_law 943 = .ok (.iload 5, 2) := dk_21 5 (dk_at dksL_law_33 10 rfl rfl)
theorem dL_law_945 : decode cL_law 945 = .ok (.iconst 1, 1) := dk_4 (dk_at dksL_law_33 12 rfl rfl)
theorem dL_law_946 : decode cL_law 946 = .ok (.iadd, 1) := dk_96 (dk_at dksL_law_33 13 rfl rfl)
theorem dL_law_947 : decode cL_law 947 = .ok (.iaload, 1) := dk_46 (dk_at dksL_law_33 14 rfl rfl)
theorem dL_law_948 : decode cL_law 948 = .ok (.aload_n 3, 1) := dk_45 (dk_at dksL_law_33 15 rfl rfl)
theorem dL_law_949 : decode cL_law 949 = .ok (.invokestatic 185, 3) := dk_184 0 185 (dk_at dksL_law_33 16 rfl rfl)
theorem dL_law_952 : decode cL_law 952 = .ok (.istore 6, 2) := dk_54 6 (dk_at dksL_law_33 19 rfl rfl)
theorem dL_law_954 : decode cL_law 954 = .ok (.aload_n 2, 1) := dk_44 (dk_at dksL_law_33 21 rfl rfl)
theorem dL_law_955 : decode cL_law 955 = .ok (.aload_n 0, 1) := dk_42 (dk_at dksL_law_33 22 rfl rfl)
theorem dL_law_956 : decode cL_law 956 = .ok (.iload 5, 2) := dk_21 5 (dk_at dksL_law_34 0 rfl rfl)
theorem dL_law_958 : decode cL_law 958 = .ok (.iconst 1, 1) := dk_4 (dk_at dksL_law_34 2 rfl rfl)
theorem dL_law_959 : decode cL_law 959 = .ok (.iadd, 1) := dk_96 (dk_at dksL_law_34 3 rfl rfl)
theorem dL_law_960 : decode cL_law 960 = .ok (.iaload, 1) := dk_46 (dk_at dksL_law_34 4 rfl rfl)
theorem dL_law_961 : decode cL_law 961 = .ok (.invokevirtual 187, 3) := dk_182 0 187 (dk_at dksL_law_34 5 rfl rfl)
theorem dL_law_964 : decode cL_law 964 = .ok (.istore 7, 2) := dk_54 7 (dk_at dksL_law_34 8 rfl rfl)
theorem dL_law_966 : decode cL_law 966 = .ok (.aload_n 2, 1) := dk_44 (dk_at dksL_law_34 10 rfl rfl)
theorem dL_law_967 : decode cL_law 967 = .ok (.invokevirtual 129, 3) := dk_182 0 129 (dk_at dksL_law_34 11 rfl rfl)
theorem dL_law_970 : decode cL_law 970 = .ok (.iload 6, 2) := dk_21 6 (dk_at dksL_law_34 14 rfl rfl)
theorem dL_law_972 : decode cL_law 972 = .ok (.if_icmp .eq 5, 3) := dk_159 0 5 (dk_at dksL_law_34 16 rfl rfl)
theorem dL_law_975 : decode cL_law 975 = .ok (.iconst 0, 1) := dk_3 (dk_at dksL_law_34 19 rfl rfl)
theorem dL_law_976 : decode cL_law 976 = .ok (.ireturn, 1) := dk_172 (dk_at dksL_law_34 20 rfl rfl)
theorem dL_law_977 : decode cL_law 977 = .ok (.iload 6, 2) := dk_21 6 (dk_at dksL_law_34 21 rfl rfl)
theorem dL_law_979 : decode cL_law 979 = .ok (.ifCond .ne 15, 3) := dk_154 0 15 (dk_at dksL_law_35 0 rfl rfl)
theorem dL_law_982 : decode cL_law 982 = .ok (.aload_n 3, 1) := dk_45 (dk_at dksL_law_35 3 rfl rfl)
theorem dL_law_983 : decode cL_law 983 = .ok (.iconst 0, 1) := dk_3 (dk_at dksL_law_35 4 rfl rfl)
theorem dL_law_984 : decode cL_law 984 = .ok (.laload, 1) := dk_47 (dk_at dksL_law_35 5 rfl rfl)
theorem dL_law_985 : decode cL_law 985 = .ok (.iload 7, 2) := dk_21 7 (dk_at dksL_law_35 6 rfl rfl)
theorem dL_law_987 : decode cL_law 987 = .ok (.i2l, 1) := dk_133 (dk_at dksL_law_35 8 rfl rfl)
theorem dL_law_988 : decode cL_law 988 = .ok (.lcmp, 1) := dk_148 (dk_at dksL_law_35 9 rfl rfl)
theorem dL_law_989 : decode cL_law 989 = .ok (.ifCond .eq 5, 3) := dk_153 0 5 (dk_at dksL_law_35 10 rfl rfl)
theorem dL_law_992 : decode cL_law 992 = .ok (.iconst 0, 1) := dk_3 (dk_at dksL_law_35 13 rfl rfl)
theorem dL_law_993 : decode cL_law 993 = .ok (.ireturn, 1) := dk_172 (dk_at dksL_law_35 14 rfl rfl)
theorem dL_law_994 : decode cL_law 994 = .ok (.goto 1460, 3) := dk_167 5 180 (dk_at dksL_law_35 15 rfl rfl)
theorem dL_law_997 : decode cL_law 997 = .ok (.aload_n 1, 1) := dk_43 (dk_at dksL_law_35 18 rfl rfl)
theorem dL_law_998 : decode cL_law 998 = .ok (.aload_n 0, 1) := dk_42 (dk_at dksL_law_35 19 rfl rfl)
theorem dL_law_999 : decode cL_law 999 = .ok (.iload 5, 2) := dk_21 5 (dk_at dksL_law_35 20 rfl rfl)
theorem dL_law_1001 : decode cL_law 1001 = .ok (.iconst 1, 1) := dk_4 (dk_at dksL_law_35 22 rfl rfl)
theorem dL_law_1002 : decode cL_law 1002 = .ok (.iadd, 1) := dk_96 (dk_at dksL_law_35 23 rfl rfl)
theorem dL_law_1003 : decode cL_law 1003 = .ok (.iaload, 1) := dk_46 (dk_at dksL_law_36 0 rfl rfl)
theorem dL_law_1004 : decode cL_law 1004 = .ok (.aload_n 0, 1) := dk_42 (dk_at dksL_law_36 1 rfl rfl)
theorem dL_law_1005 : decode cL_law 1005 = .ok (.iload 5, 2) := dk_21 5 (dk_at dksL_law_36 2 rfl rfl)
theorem dL_law_1007 : decode cL_law 1007 = .ok (.iconst 2, 1) := dk_5 (dk_at dksL_law_36 4 rfl rfl)
theorem dL_law_1008 : decode cL_law 1008 = .ok (.iadd, 1) := dk_96 (dk_at dksL_law_36 5 rfl rfl)
theorem dL_law_1009 : decode cL_law 1009 = .ok (.iaload, 1) := dk_46 (dk_at dksL_law_36 6 rfl rfl)
theorem dL_law_1010 : decode cL_law 1010 = .ok (.aload_n 3, 1) := dk_45 (dk_at dksL_law_36 7 rfl rfl)
theorem dL_law_1011 : decode cL_law 1011 = .ok (.invokestatic 188, 3) := dk_184 0 188 (dk_at dksL_law_36 8 rfl rfl)
theorem dL_law_1014 : decode cL_law 1014 = .ok (.istore 6, 2) := dk_54 6 (dk_at dksL_law_36 11 rfl rfl)
theorem dL_law_1016 : decode cL_law 1016 = .ok (.aload_n 2, 1) := dk_44 (dk_at dksL_law_36 13 rfl rfl)
theorem dL_law_1017 : decode cL_law 1017 = .ok (.aload_n 0, 1) := dk_42 (dk_at dksL_law_36 14 rfl rfl)
theorem dL_law_1018 : decode cL_law 1018 = .ok (.iload 5, 2) := dk_21 5 (dk_at dksL_law_36 15 rfl rfl)
theorem dL_law_1020 : decode cL_law 1020 = .ok (.iconst 1, 1) := dk_4 (dk_at dksL_law_36 17 rfl rfl)
theorem dL_law_1021 : decode cL_law 1021 = .ok (.iadd, 1) := dk_96 (dk_at dksL_law_36 18 rfl rfl)
theorem dL_law_1022 : decode cL_law 1022 = .ok (.iaload, 1) := dk_46 (dk_at dksL_law_36 19 rfl rfl)
theorem dL_law_1023 : decode cL_law 1023 = .ok (.aload_n 0, 1) := dk_42 (dk_at dksL_law_36 20 rfl rfl)
theorem dL_law_1024 : decode cL_law 1024 = .ok (.iload 5, 2) := dk_21 5 (dk_at dksL_law_36 21 rfl rfl)
theorem dL_law_1026 : decode cL_law 1026 = .ok (.iconst 2, 1) := dk_5 (dk_at dksL_law_36 23 rfl rfl)
theorem dL_law_1027 : decode cL_law 1027 = .ok (.iadd, 1) := dk_96 (dk_at dksL_law_37 0 rfl rfl)
theorem dL_law_1028 : decode cL_law 1028 = .ok (.iaload, 1) := dk_46 (dk_at dksL_law_37 1 rfl rfl)
theorem dL_law_1029 : decode cL_law 1029 = .ok (.invokevirtual 190, 3) := dk_182 0 190 (dk_at dksL_law_37 2 rfl rfl)
theorem dL_law_1032 : decode cL_law 1032 = .ok (.istore 7, 2) := dk_54 7 (dk_at dksL_law_37 5 rfl rfl)
theorem dL_law_1034 : decode cL_law 1034 = .ok (.aload_n 2, 1) := dk_44 (dk_at dksL_law_37 7 rfl rfl)
theorem dL_law_1035 : decode cL_law 1035 = .ok (.invokevirtual 129, 3) := dk_182 0 129 (dk_at dksL_law_37 8 rfl rfl)
theorem dL_law_1038 : decode cL_law 1038 = .ok (.iload 6, 2) := dk_21 6 (dk_at dksL_law_37 11 rfl rfl)
theorem dL_law_1040 : decode cL_law 1040 = .ok (.if_icmp .eq 5, 3) := dk_159 0 5 (dk_at dksL_law_37 13 rfl rfl)
theorem dL_law_1043 : decode cL_law 1043 = .ok (.iconst 0, 1) := dk_3 (dk_at dksL_law_37 16 rfl rfl)
theorem dL_law_1044 : decode cL_law 1044 = .ok (.ireturn, 1) := dk_172 (dk_at dksL_law_37 17 rfl rfl)
theorem dL_law_1045 : decode cL_law 1045 = .ok (.iload 6, 2) := dk_21 6 (dk_at dksL_law_37 18 rfl rfl)
theorem dL_law_1047 : decode cL_law 1047 = .ok (.ifCond .ne 15, 3) := dk_154 0 15 (dk_at dksL_law_37 20 rfl rfl)
theorem dL_law_1050 : decode cL_law 1050 = .ok (.aload_n 3, 1) := dk_45 (dk_at dksL_law_37 23 rfl rfl)
theorem dL_law_1051 : decode cL_law 1051 = .ok (.iconst 0, 1) := dk_3 (dk_at dksL_law_38 0 rfl rfl)
theorem dL_law_1052 : decode cL_law 1052 = .ok (.laload, 1) := dk_47 (dk_at dksL_law_38 1 rfl rfl)
theorem dL_law_1053 : decode cL_law 1053 = .ok (.iload 7, 2) := dk_21 7 (dk_at dksL_law_38 2 rfl rfl)
theorem dL_law_1055 : decode cL_law 1055 = .ok (.i2l, 1) := dk_133 (dk_at dksL_law_38 4 rfl rfl)
theorem dL_law_1056 : decode cL_law 1056 = .ok (.lcmp, 1) := dk_148 (dk_at dksL_law_38 5 rfl rfl)
theorem dL_law_1057 : decode cL_law 1057 = .ok (.ifCond .eq 5, 3) := dk_153 0 5 (dk_at dksL_law_38 6 rfl rfl)
theorem dL_law_1060 : decode cL_law 1060 = .ok (.iconst 0, 1) := dk_3 (dk_at dksL_law_38 9 rfl rfl)
theorem dL_law_1061 : decode cL_law 1061 = .ok (.ireturn, 1) := dk_172 (dk_at dksL_law_38 10 rfl rfl)
theorem dL_law_1062 : decode cL_law 1062 = .ok (.goto 1392, 3) := dk_167 5 112 (dk_at dksL_law_38 11 rfl rfl)
theorem dL_law_1065 : decode cL_law 1065 = .ok (.aload_n 1, 1) := dk_43 (dk_at dksL_law_38 14 rfl rfl)
theorem dL_law_1066 : decode cL_law 1066 = .ok (.aload_n 0, 1) := dk_42 (dk_at dksL_law_38 15 rfl rfl)
theorem dL_law_1067 : decode cL_law 1067 = .ok (.iload 5, 2) := dk_21 5 (dk_at dksL_law_38 16 rfl rfl)
theorem dL_law_1069 : decode cL_law 1069 = .ok (.iconst 1, 1) := dk_4 (dk_at dksL_law_38 18 rfl rfl)
theorem dL_law_1070 : decode cL_law 1070 = .ok (.iadd, 1) := dk_96 (dk_at dksL_law_38 19 rfl rfl)
theorem dL_law_1071 : decode cL_law 1071 = .ok (.iaload, 1) := dk_46 (dk_at dksL_law_38 20 rfl rfl)
theorem dL_law_1072 : decode cL_law 1072 = .ok (.aload_n 3, 1) := dk_45 (dk_at dksL_law_38 21 rfl rfl)
theorem dL_law_1073 : decode cL_law 1073 = .ok (.invokestatic 191, 3) := dk_184 0 191 (dk_at dksL_law_39 0 rfl rfl)
theorem dL_law_1076 : decode cL_law 1076 = .ok (.istore 6, 2) := dk_54 6 (dk_at dksL_law_39 3 rfl rfl)
theorem dL_law_1078 : decode cL_law 1078 = .ok (.aload_n 2, 1) := dk_44 (dk_at dksL_law_39 5 rfl rfl)
theorem dL_law_1079 : decode cL_law 1079 = .ok (.aload_n 0, 1) := dk_42 (dk_at dksL_law_39 6 rfl rfl)
theorem dL_law_1080 : decode cL_law 1080 = .ok (.iload 5, 2) := dk_21 5 (dk_at dksL_law_39 7 rfl rfl)
theorem dL_law_1082 : decode cL_law 1082 = .ok (.iconst 1, 1) := dk_4 (dk_at dksL_law_39 9 rfl rfl)
theorem dL_law_1083 : decode cL_law 1083 = .ok (.iadd, 1) := dk_96 (dk_at dksL_law_39 10 rfl rfl)
theorem dL_law_1084 : decode cL_law 1084 = .ok (.iaload, 1) := dk_46 (dk_at dksL_law_39 11 rfl rfl)
theorem dL_law_1085 : decode cL_law 1085 = .ok (.invokevirtual 193, 3) := dk_182 0 193 (dk_at dksL_law_39 12 rfl rfl)
theorem dL_law_1088 : decode cL_law 1088 = .ok (.istore 7, 2) := dk_54 7 (dk_at dksL_law_39 15 rfl rfl)
theorem dL_law_1090 : decode cL_law 1090 = .ok (.aload_n 2, 1) := dk_44 (dk_at dksL_law_39 17 rfl rfl)
theorem dL_law_1091 : decode cL_law 1091 = .ok (.invokevirtual 129, 3) := dk_182 0 129 (dk_at dksL_law_39 18 rfl rfl)
theorem dL_law_1094 : decode cL_law 1094 = .ok (.iload 6, 2) := dk_21 6 (dk_at dksL_law_39 21 rfl rfl)
theorem dL_law_1096 : decode cL_law 1096 = .ok (.if_icmp .eq 5, 3) := dk_159 0 5 (dk_at dksL_law_40 0 rfl rfl)
theorem dL_law_1099 : decode cL_law 1099 = .ok (.iconst 0, 1) := dk_3 (dk_at dksL_law_40 3 rfl rfl)
theorem dL_law_1100 : decode cL_law 1100 = .ok (.ireturn, 1) := dk_172 (dk_at dksL_law_40 4 rfl rfl)
theorem dL_law_1101 : decode cL_law 1101 = .ok (.iload 6, 2) := dk_21 6 (dk_at dksL_law_40 5 rfl rfl)
theorem dL_law_1103 : decode cL_law 1103 = .ok (.ifCond .ne 15, 3) := dk_154 0 15 (dk_at dksL_law_40 7 rfl rfl)
theorem dL_law_1106 : decode cL_law 1106 = .ok (.aload_n 3, 1) := dk_45 (dk_at dksL_law_40 10 rfl rfl)
theorem dL_law_1107 : decode cL_law 1107 = .ok (.iconst 0, 1) := dk_3 (dk_at dksL_law_40 11 rfl rfl)
theorem dL_law_1108 : decode cL_law 1108 = .ok (.laload, 1) := dk_47 (dk_at dksL_law_40 12 rfl rfl)
theorem dL_law_1109 : decode cL_law 1109 = .ok (.iload 7, 2) := dk_21 7 (dk_at dksL_law_40 13 rfl rfl)
theorem dL_law_1111 : decode cL_law 1111 = .ok (.i2l, 1) := dk_133 (dk_at dksL_law_40 15 rfl rfl)
theorem dL_law_1112 : decode cL_law 1112 = .ok (.lcmp, 1) := dk_148 (dk_at dksL_law_40 16 rfl rfl)
theorem dL_law_1113 : decode cL_law 1113 = .ok (.ifCond .eq 5, 3) := dk_153 0 5 (dk_at dksL_law_40 17 rfl rfl)
theorem dL_law_1116 : decode cL_law 1116 = .ok (.iconst 0, 1) := dk_3 (dk_at dksL_law_40 20 rfl rfl)
theorem dL_law_1117 : decode cL_law 1117 = .ok (.ireturn, 1) := dk_172 (dk_at dksL_law_40 21 rfl rfl)
theorem dL_law_1118 : decode cL_law 1118 = .ok (.goto 1336, 3) := dk_167 5 56 (dk_at dksL_law_41 0 rfl rfl)
theorem dL_law_1121 : decode cL_law 1121 = .ok (.aload_n 1, 1) := dk_43 (dk_at dksL_law_41 3 rfl rfl)
theorem dL_law_1122 : decode cL_law 1122 = .ok (.aload_n 0, 1) := dk_42 (dk_at dksL_law_41 4 rfl rfl)
theorem dL_law_1123 : decode cL_law 1123 = .ok (.iload 5, 2) := dk_21 5 (dk_at dksL_law_41 5 rfl rfl)
theorem dL_law_1125 : decode cL_law 1125 = .ok (.iconst 1, 1) := dk_4 (dk_at dksL_law_41 7 rfl rfl)
theorem dL_law_1126 : decode cL_law 1126 = .ok (.iadd, 1) := dk_96 (dk_at dksL_law_41 8 rfl rfl)
theorem dL_law_1127 : decode cL_law 1127 = .ok (.iaload, 1) := dk_46 (dk_at dksL_law_41 9 rfl rfl)
theorem dL_law_1128 : decode cL_law 1128 = .ok (.aload_n 0, 1) := dk_42 (dk_at dksL_law_41 10 rfl rfl)
theorem dL_law_1129 : decode cL_law 1129 = .ok (.iload 5, 2) := dk_21 5 (dk_at dksL_law_41 11 rfl rfl)
theorem dL_law_1131 : decode cL_law 1131 = .ok (.iconst 2, 1) := dk_5 (dk_at dksL_law_41 13 rfl rfl)
theorem dL_law_1132 : decode cL_law 1132 = .ok (.iadd, 1) := dk_96 (dk_at dksL_law_41 14 rfl rfl)
theorem dL_law_1133 : decode cL_law 1133 = .ok (.iaload, 1) := dk_46 (dk_at dksL_law_41 15 rfl rfl)
theorem dL_law_1134 : decode cL_law 1134 = .ok (.aload_n 3, 1) := dk_45 (dk_at dksL_law_41 16 rfl rfl)
theorem dL_law_1135 : decode cL_law 1135 = .ok (.invokestatic 194, 3) := dk_184 0 194 (dk_at dksL_law_41 17 rfl rfl)
theorem dL_law_1138 : decode cL_law 1138 = .ok (.istore 6, 2) := dk_54 6 (dk_at dksL_law_41 20 rfl rfl)
theorem dL_law_1140 : decode cL_law 1140 = .ok (.aload_n 2, 1) := dk_44 (dk_at dksL_law_41 22 rfl rfl)
theorem dL_law_1141 : decode cL_law 1141 = .ok (.aload_n 0, 1) := dk_42 (dk_at dksL_law_41 23 rfl rfl)
theorem dL_law_1142 : decode cL_law 1142 = .ok (.iload 5, 2) := dk_21 5 (dk_at dksL_law_42 0 rfl rfl)
theorem dL_law_1144 : decode cL_law 1144 = .ok (.iconst 1, 1) := dk_4 (dk_at dksL_law_42 2 rfl rfl)
theorem dL_law_1145 : decode cL_law 1145 = .ok (.iadd, 1) := dk_96 (dk_at dksL_law_42 3 rfl rfl)
theorem dL_law_1146 : decode cL_law 1146 = .ok (.iaload, 1) := dk_46 (dk_at dksL_law_42 4 rfl rfl)
theorem dL_law_1147 : decode cL_law 1147 = .ok (.aload_n 0, 1) := dk_42 (dk_at dksL_law_42 5 rfl rfl)
theorem dL_law_1148 : decode cL_law 1148 = .ok (.iload 5, 2) := dk_21 5 (dk_at dksL_law_42 6 rfl rfl)
theorem dL_law_1150 : decode cL_law 1150 = .ok (.iconst 2, 1) := dk_5 (dk_at dksL_law_42 8 rfl rfl)
theorem dL_law_1151 : decode cL_law 1151 = .ok (.iadd, 1) := dk_96 (dk_at dksL_law_42 9 rfl rfl)
theorem dL_law_1152 : decode cL_law 1152 = .ok (.iaload, 1) := dk_46 (dk_at dksL_law_42 10 rfl rfl)
theorem dL_law_1153 : decode cL_law 1153 = .ok (.invokevirtual 196, 3) := dk_182 0 196 (dk_at dksL_law_42 11 rfl rfl)
theorem dL_law_1156 : decode cL_law 1156 = .ok (.istore 7, 2) := dk_54 7 (dk_at dksL_law_42 14 rfl rfl)
theorem dL_law_1158 : decode cL_law 1158 = .ok (.aload_n 2, 1) := dk_44 (dk_at dksL_law_42 16 rfl rfl)
theorem dL_law_1159 : decode cL_law 1159 = .ok (.invokevirtual 129, 3) := dk_182 0 129 (dk_at dksL_law_42 17 rfl rfl)
theorem dL_law_1162 : decode cL_law 1162 = .ok (.iload 6, 2) := dk_21 6 (dk_at dksL_law_42 20 rfl rfl)
theorem dL_law_1164 : decode cL_law 1164 = .ok (.if_icmp .eq 5, 3) := dk_159 0 5 (dk_at dksL_law_43 0 rfl rfl)
theorem dL_law_1167 : decode cL_law 1167 = .ok (.iconst 0, 1) := dk_3 (dk_at dksL_law_43 3 rfl rfl)
theorem dL_law_1168 : decode cL_law 1168 = .ok (.ireturn, 1) := dk_172 (dk_at dksL_law_43 4 rfl rfl)
theorem dL_law_1169 : decode cL_law 1169 = .ok (.iload 6, 2) := dk_21 6 (dk_at dksL_law_43 5 rfl rfl)
theorem dL_law_1171 : decode cL_law 1171 = .ok (.ifCond .ne 15, 3) := dk_154 0 15 (dk_at dksL_law_43 7 rfl rfl)
theorem dL_law_1174 : decode cL_law 1174 = .ok (.aload_n 3, 1) := dk_45 (dk_at dksL_law_43 10 rfl rfl)
theorem dL_law_1175 : decode cL_law 1175 = .ok (.iconst 0, 1) := dk_3 (dk_at dksL_law_43 11 rfl rfl)
theorem dL_law_1176 : decode cL_law 1176 = .ok (.laload, 1) := dk_47 (dk_at dksL_law_43 12 rfl rfl)
theorem dL_law_1177 : decode cL_law 1177 = .ok (.iload 7, 2) := dk_21 7 (dk_at dksL_law_43 13 rfl rfl)
theorem dL_law_1179 : decode cL_law 1179 = .ok (.i2l, 1) := dk_133 (dk_at dksL_law_43 15 rfl rfl)
theorem dL_law_1180 : decode cL_law 1180 = .ok (.lcmp, 1) := dk_148 (dk_at dksL_law_43 16 rfl rfl)
theorem dL_law_1181 : decode cL_law 1181 = .ok (.ifCond .eq 5, 3) := dk_153 0 5 (dk_at dksL_law_43 17 rfl rfl)
theorem dL_law_1184 : decode cL_law 1184 = .ok (.iconst 0, 1) := dk_3 (dk_at dksL_law_43 20 rfl rfl)
theorem dL_law_1185 : decode cL_law 1185 = .ok (.ireturn, 1) := dk_172 (dk_at dksL_law_43 21 rfl rfl)
theorem dL_law_1186 : decode cL_law 1186 = .ok (.goto 1268, 3) := dk_167 4 244 (dk_at dksL_law_44 0 rfl rfl)
theorem dL_law_1189 : decode cL_law 1189 = .ok (.aload_n 1, 1) := dk_43 (dk_at dksL_law_44 3 rfl rfl)
theorem dL_law_1190 : decode cL_law 1190 = .ok (.aload_n 0, 1) := dk_42 (dk_at dksL_law_44 4 rfl rfl)
theorem dL_law_1191 : decode cL_law 1191 = .ok (.iload 5, 2) := dk_21 5 (dk_at dksL_law_44 5 rfl rfl)
theorem dL_law_1193 : decode cL_law 1193 = .ok (.iconst 1, 1) := dk_4 (dk_at dksL_law_44 7 rfl rfl)
theorem dL_law_1194 : decode cL_law 1194 = .ok (.iadd, 1) := dk_96 (dk_at dksL_law_44 8 rfl rfl)
theorem dL_law_1195 : decode cL_law 1195 = .ok (.iaload, 1) := dk_46 (dk_at dksL_law_44 9 rfl rfl)
theorem dL_law_1196 : decode cL_law 1196 = .ok (.aload_n 3, 1) := dk_45 (dk_at dksL_law_44 10 rfl rfl)
theorem dL_law_1197 : decode cL_law 1197 = .ok (.invokestatic 197, 3) := dk_184 0 197 (dk_at dksL_law_44 11 rfl rfl)
theorem dL_law_1200 : decode cL_law 1200 = .ok (.istore 6, 2) := dk_54 6 (dk_at dksL_law_44 14 rfl rfl)
theorem dL_law_1202 : decode cL_law 1202 = .ok (.aload_n 2, 1) := dk_44 (dk_at dksL_law_44 16 rfl rfl)
theorem dL_law_1203 : decode cL_law 1203 = .ok (.aload_n 0, 1) := dk_42 (dk_at dksL_law_44 17 rfl rfl)
theorem dL_law_1204 : decode cL_law 1204 = .ok (.iload 5, 2) := dk_21 5 (dk_at dksL_law_44 18 rfl rfl)
theorem dL_law_1206 : decode cL_law 1206 = .ok (.iconst 1, 1) := dk_4 (dk_at dksL_law_44 20 rfl rfl)
theorem dL_law_1207 : decode cL_law 1207 = .ok (.iadd, 1) := dk_96 (dk_at dksL_law_44 21 rfl rfl)
theorem dL_law_1208 : decode cL_law 1208 = .ok (.iaload, 1) := dk_46 (dk_at dksL_law_44 22 rfl rfl)
theorem dL_law_1209 : decode cL_law 1209 = .ok (.invokevirtual 199, 3) := dk_182 0 199 (dk_at dksL_law_45 0 rfl rfl)
theorem dL_law_1212 : decode cL_law 1212 = .ok (.istore 7, 2) := dk_54 7 (dk_at dksL_law_45 3 rfl rfl)
theorem dL_law_1214 : decode cL_law 1214 = .ok (.aload_n 2, 1) := dk_44 (dk_at dksL_law_45 5 rfl rfl)
theorem dL_law_1215 : decode cL_law 1215 = .ok (.invokevirtual 129, 3) := dk_182 0 129 (dk_at dksL_law_45 6 rfl rfl)
theorem dL_law_1218 : decode cL_law 1218 = .ok (.iload 6, 2) := dk_21 6 (dk_at dksL_law_45 9 rfl rfl)
theorem dL_law_1220 : decode cL_law 1220 = .ok (.if_icmp .eq 5, 3) := dk_159 0 5 (dk_at dksL_law_45 11 rfl rfl)
theorem dL_law_1223 : decode cL_law 1223 = .ok (.iconst 0, 1) := dk_3 (dk_at dksL_law_45 14 rfl rfl)
theorem dL_law_1224 : decode cL_law 1224 = .ok (.ireturn, 1) := dk_172 (dk_at dksL_law_45 15 rfl rfl)
theorem dL_law_1225 : decode cL_law 1225 = .ok (.iload 6, 2) := dk_21 6 (dk_at dksL_law_45 16 rfl rfl)
theorem dL_law_1227 : decode cL_law 1227 = .ok (.ifCond .ne 15, 3) := dk_154 0 15 (dk_at dksL_law_45 18 rfl rfl)
theorem dL_law_1230 : decode cL_law 1230 = .ok (.aload_n 3, 1) := dk_45 (dk_at dksL_law_45 21 rfl rfl)
theorem dL_law_1231 : decode cL_law 1231 = .ok (.iconst 0, 1) := dk_3 (dk_at dksL_law_45 22 rfl rfl)
theorem dL_law_1232 : decode cL_law 1232 = .ok (.laload, 1) := dk_47 (dk_at dksL_law_45 23 rfl rfl)
theorem dL_law_1233 : decode cL_law 1233 = .ok (.iload 7, 2) := dk_21 7 (dk_at dksL_law_46 0 rfl rfl)
theorem dL_law_1235 : decode cL_law 1235 = .ok (.i2l, 1) := dk_133 (dk_at dksL_law_46 2 rfl rfl)
theorem dL_law_1236 : decode cL_law 1236 = .ok (.lcmp, 1) := dk_148 (dk_at dksL_law_46 3 rfl rfl)
theorem dL_law_1237 : decode cL_law 1237 = .ok (.ifCond .eq 5, 3) := dk_153 0 5 (dk_at dksL_law_46 4 rfl rfl)
theorem dL_law_1240 : decode cL_law 1240 = .ok (.iconst 0, 1) := dk_3 (dk_at dksL_law_46 7 rfl rfl)
theorem dL_law_1241 : decode cL_law 1241 = .ok (.ireturn, 1) := dk_172 (dk_at dksL_law_46 8 rfl rfl)
theorem dL_law_1242 : decode cL_law 1242 = .ok (.goto 1212, 3) := dk_167 4 188 (dk_at dksL_law_46 9 rfl rfl)
theorem dL_law_1245 : decode cL_law 1245 = .ok (.aload_n 1, 1) := dk_43 (dk_at dksL_law_46 12 rfl rfl)
theorem dL_law_1246 : decode cL_law 1246 = .ok (.aload_n 0, 1) := dk_42 (dk_at dksL_law_46 13 rfl rfl)
theorem dL_law_1247 : decode cL_law 1247 = .ok (.iload 5, 2) := dk_21 5 (dk_at dksL_law_46 14 rfl rfl)
theorem dL_law_1249 : decode cL_law 1249 = .ok (.iconst 1, 1) := dk_4 (dk_at dksL_law_46 16 rfl rfl)
theorem dL_law_1250 : decode cL_law 1250 = .ok (.iadd, 1) := dk_96 (dk_at dksL_law_46 17 rfl rfl)
theorem dL_law_1251 : decode cL_law 1251 = .ok (.iaload, 1) := dk_46 (dk_at dksL_law_46 18 rfl rfl)
theorem dL_law_1252 : decode cL_law 1252 = .ok (.aload_n 3, 1) := dk_45 (dk_at dksL_law_46 19 rfl rfl)
theorem dL_law_1253 : decode cL_law 1253 = .ok (.invokestatic 200, 3) := dk_184 0 200 (dk_at dksL_law_46 20 rfl rfl)
theorem dL_law_1256 : decode cL_law 1256 = .ok (.istore 6, 2) := dk_54 6 (dk_at dksL_law_47 0 rfl rfl)
theorem dL_law_1258 : decode cL_law 1258 = .ok (.aload_n 2, 1) := dk_44 (dk_at dksL_law_47 2 rfl rfl)
theorem dL_law_1259 : decode cL_law 1259 = .ok (.aload_n 0, 1) := dk_42 (dk_at dksL_law_47 3 rfl rfl)
theorem dL_law_1260 : decode cL_law 1260 = .ok (.iload 5, 2) := dk_21 5 (dk_at dksL_law_47 4 rfl rfl)
theorem dL_law_1262 : decode cL_law 1262 = .ok (.iconst 1, 1) := dk_4 (dk_at dksL_law_47 6 rfl rfl)
theorem dL_law_1263 : decode cL_law 1263 = .ok (.iadd, 1) := dk_96 (dk_at dksL_law_47 7 rfl rfl)
theorem dL_law_1264 : decode cL_law 1264 = .ok (.iaload, 1) := dk_46 (dk_at dksL_law_47 8 rfl rfl)
theorem dL_law_1265 : decode cL_law 1265 = .ok (.invokevirtual 202, 3) := dk_182 0 202 (dk_at dksL_law_47 9 rfl rfl)
theorem dL_law_1268 : decode cL_law 1268 = .ok (.istore 7, 2) := dk_54 7 (dk_at dksL_law_47 12 rfl rfl)
theorem dL_law_1270 : decode cL_law 1270 = .ok (.aload_n 2, 1) := dk_44 (dk_at dksL_law_47 14 rfl rfl)
theorem dL_law_1271 : decode cL_law 1271 = .ok (.invokevirtual 129, 3) := dk_182 0 129 (dk_at dksL_law_47 15 rfl rfl)
theorem dL_law_1274 : decode cL_law 1274 = .ok (.iload 6, 2) := dk_21 6 (dk_at dksL_law_47 18 rfl rfl)
theorem dL_law_1276 : decode cL_law 1276 = .ok (.if_icmp .eq 5, 3) := dk_159 0 5 (dk_at dksL_law_47 20 rfl rfl)
theorem dL_law_1279 : decode cL_law 1279 = .ok (.iconst 0, 1) := dk_3 (dk_at dksL_law_47 23 rfl rfl)
theorem dL_law_1280 : decode cL_law 1280 = .ok (.ireturn, 1) := dk_172 (dk_at dksL_law_48 0 rfl rfl)
theorem dL_law_1281 : decode cL_law 1281 = .ok (.iload 6, 2) := dk_21 6 (dk_at dksL_law_48 1 rfl rfl)
theorem dL_law_1283 : decode cL_law 1283 = .ok (.ifCond .ne 15, 3) := dk_154 0 15 (dk_at dksL_law_48 3 rfl rfl)
theorem dL_law_1286 : decode cL_law 1286 = .ok (.aload_n 3, 1) := dk_45 (dk_at dksL_law_48 6 rfl rfl)
theorem dL_law_1287 : decode cL_law 1287 = .ok (.iconst 0, 1) := dk_3 (dk_at dksL_law_48 7 rfl rfl)
theorem dL_law_1288 : decode cL_law 1288 = .ok (.laload, 1) := dk_47 (dk_at dksL_law_48 8 rfl rfl)
theorem dL_law_1289 : decode cL_law 1289 = .ok (.iload 7, 2) := dk_21 7 (dk_at dksL_law_48 9 rfl rfl)
theorem dL_law_1291 : decode cL_law 1291 = .ok (.i2l, 1) := dk_133 (dk_at dksL_law_48 11 rfl rfl)
theorem dL_law_1292 : decode cL_law 1292 = .ok (.lcmp, 1) := dk_148 (dk_at dksL_law_48 12 rfl rfl)
theorem dL_law_1293 : decode cL_law 1293 = .ok (.ifCond .eq 5, 3) := dk_153 0 5 (dk_at dksL_law_48 13 rfl rfl)
theorem dL_law_1296 : decode cL_law 1296 = .ok (.iconst 0, 1) := dk_3 (dk_at dksL_law_48 16 rfl rfl)
theorem dL_law_1297 : decode cL_law 1297 = .ok (.ireturn, 1) := dk_172 (dk_at dksL_law_48 17 rfl rfl)
theorem dL_law_1298 : decode cL_law 1298 = .ok (.goto 1156, 3) := dk_167 4 132 (dk_at dksL_law_48 18 rfl rfl)
theorem dL_law_1301 : decode cL_law 1301 = .ok (.aload_n 1, 1) := dk_43 (dk_at dksL_law_48 21 rfl rfl)
theorem dL_law_1302 : decode cL_law 1302 = .ok (.aload_n 0, 1) := dk_42 (dk_at dksL_law_48 22 rfl rfl)
theorem dL_law_1303 : decode cL_law 1303 = .ok (.iload 5, 2) := dk_21 5 (dk_at dksL_law_49 0 rfl rfl)
theorem dL_law_1305 : decode cL_law 1305 = .ok (.iconst 1, 1) := dk_4 (dk_at dksL_law_49 2 rfl rfl)
theorem dL_law_1306 : decode cL_law 1306 = .ok (.iadd, 1) := dk_96 (dk_at dksL_law_49 3 rfl rfl)
theorem dL_law_1307 : decode cL_law 1307 = .ok (.iaload, 1) := dk_46 (dk_at dksL_law_49 4 rfl rfl)
theorem dL_law_1308 : decode cL_law 1308 = .ok (.aload_n 0, 1) := dk_42 (dk_at dksL_law_49 5 rfl rfl)
theorem dL_law_1309 : decode cL_law 1309 = .ok (.iload 5, 2) := dk_21 5 (dk_at dksL_law_49 6 rfl rfl)
theorem dL_law_1311 : decode cL_law 1311 = .ok (.iconst 2, 1) := dk_5 (dk_at dksL_law_49 8 rfl rfl)
theorem dL_law_1312 : decode cL_law 1312 = .ok (.iadd, 1) := dk_96 (dk_at dksL_law_49 9 rfl rfl)
theorem dL_law_1313 : decode cL_law 1313 = .ok (.iaload, 1) := dk_46 (dk_at dksL_law_49 10 rfl rfl)
theorem dL_law_1314 : decode cL_law 1314 = .ok (.aload_n 3, 1) := dk_45 (dk_at dksL_law_49 11 rfl rfl)
theorem dL_law_1315 : decode cL_law 1315 = .ok (.invokestatic 203, 3) := dk_184 0 203 (dk_at dksL_law_49 12 rfl rfl)
theorem dL_law_1318 : decode cL_law 1318 = .ok (.istore 6, 2) := dk_54 6 (dk_at dksL_law_49 15 rfl rfl)
theorem dL_law_1320 : decode cL_law 1320 = .ok (.aload_n 2, 1) := dk_44 (dk_at dksL_law_49 17 rfl rfl)
theorem dL_law_1321 : decode cL_law 1321 = .ok (.aload_n 0, 1) := dk_42 (dk_at dksL_law_49 18 rfl rfl)
theorem dL_law_1322 : decode cL_law 1322 = .ok (.iload 5, 2) := dk_21 5 (dk_at dksL_law_49 19 rfl rfl)
theorem dL_law_1324 : decode cL_law 1324 = .ok (.iconst 1, 1) := dk_4 (dk_at dksL_law_49 21 rfl rfl)
theorem dL_law_1325 : decode cL_law 1325 = .ok (.iadd, 1) := dk_96 (dk_at dksL_law_49 22 rfl rfl)
theorem dL_law_1326 : decode cL_law 1326 = .ok (.iaload, 1) := dk_46 (dk_at dksL_law_49 23 rfl rfl)
theorem dL_law_1327 : decode cL_law 1327 = .ok (.aload_n 0, 1) := dk_42 (dk_at dksL_law_50 0 rfl rfl)
theorem dL_law_1328 : decode cL_law 1328 = .ok (.iload 5, 2) := dk_21 5 (dk_at dksL_law_50 1 rfl rfl)
theorem dL_law_1330 : decode cL_law 1330 = .ok (.iconst 2, 1) := dk_5 (dk_at dksL_law_50 3 rfl rfl)
theorem dL_law_1331 : decode cL_law 1331 = .ok (.iadd, 1) := dk_96 (dk_at dksL_law_50 4 rfl rfl)
theorem dL_law_1332 : decode cL_law 1332 = .ok (.iaload, 1) := dk_46 (dk_at dksL_law_50 5 rfl rfl)
theorem dL_law_1333 : decode cL_law 1333 = .ok (.invokevirtual 205, 3) := dk_182 0 205 (dk_at dksL_law_50 6 rfl rfl)
theorem dL_law_1336 : decode cL_law 1336 = .ok (.istore 7, 2) := dk_54 7 (dk_at dksL_law_50 9 rfl rfl)
theorem dL_law_1338 : decode cL_law 1338 = .ok (.aload_n 2, 1) := dk_44 (dk_at dksL_law_50 11 rfl rfl)
theorem dL_law_1339 : decode cL_law 1339 = .ok (.invokevirtual 129, 3) := dk_182 0 129 (dk_at dksL_law_50 12 rfl rfl)
theorem dL_law_1342 : decode cL_law 1342 = .ok (.iload 6, 2) := dk_21 6 (dk_at dksL_law_50 15 rfl rfl)
theorem dL_law_1344 : decode cL_law 1344 = .ok (.if_icmp .eq 5, 3) := dk_159 0 5 (dk_at dksL_law_50 17 rfl rfl)
theorem dL_law_1347 : decode cL_law 1347 = .ok (.iconst 0, 1) := dk_3 (dk_at dksL_law_50 20 rfl rfl)
theorem dL_law_1348 : decode cL_law 1348 = .ok (.ireturn, 1) := dk_172 (dk_at dksL_law_50 21 rfl rfl)
theorem dL_law_1349 : decode cL_law 1349 = .ok (.iload 6, 2) := dk_21 6 (dk_at dksL_law_50 22 rfl rfl)
theorem dL_law_1351 : decode cL_law 1351 = .ok (.ifCond .ne 15, 3) := dk_154 0 15 (dk_at dksL_law_51 0 rfl rfl)
theorem dL_law_1354 : decode cL_law 1354 = .ok (.aload_n 3, 1) := dk_45 (dk_at dksL_law_51 3 rfl rfl)
theorem dL_law_1355 : decode cL_law 1355 = .ok (.iconst 0, 1) := dk_3 (dk_at dksL_law_51 4 rfl rfl)
theorem dL_law_1356 : decode cL_law 1356 = .ok (.laload, 1) := dk_47 (dk_at dksL_law_51 5 rfl rfl)
theorem dL_law_1357 : decode cL_law 1357 = .ok (.iload 7, 2) := dk_21 7 (dk_at dksL_law_51 6 rfl rfl)
theorem dL_law_1359 : decode cL_law 1359 = .ok (.i2l, 1) := dk_133 (dk_at dksL_law_51 8 rfl rfl)
theorem dL_law_1360 : decode cL_law 1360 = .ok (.lcmp, 1) := dk_148 (dk_at dksL_law_51 9 rfl rfl)
theorem dL_law_1361 : decode cL_law 1361 = .ok (.ifCond .eq 5, 3) := dk_153 0 5 (dk_at dksL_law_51 10 rfl rfl)
theorem dL_law_1364 : decode cL_law 1364 = .ok (.iconst 0, 1) := dk_3 (dk_at dksL_law_51 13 rfl rfl)
theorem dL_law_1365 : decode cL_law 1365 = .ok (.ireturn, 1) := dk_172 (dk_at dksL_law_51 14 rfl rfl)
theorem dL_law_1366 : decode cL_law 1366 = .ok (.goto 1088, 3) := dk_167 4 64 (dk_at dksL_law_51 15 rfl rfl)
theorem dL_law_1369 : decode cL_law 1369 = .ok (.aload_n 1, 1) := dk_43 (dk_at dksL_law_51 18 rfl rfl)
theorem dL_law_1370 : decode cL_law 1370 = .ok (.aload_n 0, 1) := dk_42 (dk_at dksL_law_51 19 rfl rfl)
theorem dL_law_1371 : decode cL_law 1371 = .ok (.iload 5, 2) := dk_21 5 (dk_at dksL_law_51 20 rfl rfl)
theorem dL_law_1373 : decode cL_law 1373 = .ok (.iconst 1, 1) := dk_4 (dk_at dksL_law_51 22 rfl rfl)
theorem dL_law_1374 : decode cL_law 1374 = .ok (.iadd, 1) := dk_96 (dk_at dksL_law_51 23 rfl rfl)
theorem dL_law_1375 : decode cL_law 1375 = .ok (.iaload, 1) := dk_46 (dk_at dksL_law_52 0 rfl rfl)
theorem dL_law_1376 : decode cL_law 1376 = .ok (.aload_n 0, 1) := dk_42 (dk_at dksL_law_52 1 rfl rfl)
theorem dL_law_1377 : decode cL_law 1377 = .ok (.iload 5, 2) := dk_21 5 (dk_at dksL_law_52 2 rfl rfl)
theorem dL_law_1379 : decode cL_law 1379 = .ok (.iconst 2, 1) := dk_5 (dk_at dksL_law_52 4 rfl rfl)
theorem dL_law_1380 : decode cL_law 1380 = .ok (.iadd, 1) := dk_96 (dk_at dksL_law_52 5 rfl rfl)
theorem dL_law_1381 : decode cL_law 1381 = .ok (.iaload, 1) := dk_46 (dk_at dksL_law_52 6 rfl rfl)
theorem dL_law_1382 : decode cL_law 1382 = .ok (.aload_n 3, 1) := dk_45 (dk_at dksL_law_52 7 rfl rfl)
theorem dL_law_1383 : decode cL_law 1383 = .ok (.invokestatic 206, 3) := dk_184 0 206 (dk_at dksL_law_52 8 rfl rfl)
theorem dL_law_1386 : decode cL_law 1386 = .ok (.istore 6, 2) := dk_54 6 (dk_at dksL_law_52 11 rfl rfl)
theorem dL_law_1388 : decode cL_law 1388 = .ok (.aload_n 2, 1) := dk_44 (dk_at dksL_law_52 13 rfl rfl)
theorem dL_law_1389 : decode cL_law 1389 = .ok (.aload_n 0, 1) := dk_42 (dk_at dksL_law_52 14 rfl rfl)
theorem dL_law_1390 : decode cL_law 1390 = .ok (.iload 5, 2) := dk_21 5 (dk_at dksL_law_52 15 rfl rfl)
theorem dL_law_1392 : decode cL_law 1392 = .ok (.iconst 1, 1) := dk_4 (dk_at dksL_law_52 17 rfl rfl)
theorem dL_law_1393 : decode cL_law 1393 = .ok (.iadd, 1) := dk_96 (dk_at dksL_law_52 18 rfl rfl)
theorem dL_law_1394 : decode cL_law 1394 = .ok (.iaload, 1) := dk_46 (dk_at dksL_law_52 19 rfl rfl)
theorem dL_law_1395 : decode cL_law 1395 = .ok (.aload_n 0, 1) := dk_42 (dk_at dksL_law_52 20 rfl rfl)
theorem dL_law_1396 : decode cL_law 1396 = .ok (.iload 5, 2) := dk_21 5 (dk_at dksL_law_52 21 rfl rfl)
theorem dL_law_1398 : decode cL_law 1398 = .ok (.iconst 2, 1) := dk_5 (dk_at dksL_law_52 23 rfl rfl)
theorem dL_law_1399 : decode cL_law 1399 = .ok (.iadd, 1) := dk_96 (dk_at dksL_law_53 0 rfl rfl)
theorem dL_law_1400 : decode cL_law 1400 = .ok (.iaload, 1) := dk_46 (dk_at dksL_law_53 1 rfl rfl)
theorem dL_law_1401 : decode cL_law 1401 = .ok (.invokevirtual 208, 3) := dk_182 0 208 (dk_at dksL_law_53 2 rfl rfl)
theorem dL_law_1404 : decode cL_law 1404 = .ok (.istore 7, 2) := dk_54 7 (dk_at dksL_law_53 5 rfl rfl)
theorem dL_law_1406 : decode cL_law 1406 = .ok (.aload_n 2, 1) := dk_44 (dk_at dksL_law_53 7 rfl rfl)
theorem dL_law_1407 : decode cL_law 1407 = .ok (.invokevirtual 129, 3) := dk_182 0 129 (dk_at dksL_law_53 8 rfl rfl)
theorem dL_law_1410 : decode cL_law 1410 = .ok (.iload 6, 2) := dk_21 6 (dk_at dksL_law_53 11 rfl rfl)
theorem dL_law_1412 : decode cL_law 1412 = .ok (.if_icmp .eq 5, 3) := dk_159 0 5 (dk_at dksL_law_53 13 rfl rfl)
theorem dL_law_1415 : decode cL_law 1415 = .ok (.iconst 0, 1) := dk_3 (dk_at dksL_law_53 16 rfl rfl)
theorem dL_law_1416 : decode cL_law 1416 = .ok (.ireturn, 1) := dk_172 (dk_at dksL_law_53 17 rfl rfl)
theorem dL_law_1417 : decode cL_law 1417 = .ok (.iload 6, 2) := dk_21 6 (dk_at dksL_law_53 18 rfl rfl)
theorem dL_law_1419 : decode cL_law 1419 = .ok (.ifCond .ne 15, 3) := dk_154 0 15 (dk_at dksL_law_53 20 rfl rfl)
theorem dL_law_1422 : decode cL_law 1422 = .ok (.aload_n 3, 1) := dk_45 (dk_at dksL_law_53 23 rfl rfl)
theorem dL_law_1423 : decode cL_law 1423 = .ok (.iconst 0, 1) := dk_3 (dk_at dksL_law_54 0 rfl rfl)
theorem dL_law_1424 : decode cL_law 1424 = .ok (.laload, 1) := dk_47 (dk_at dksL_law_54 1 rfl rfl)
theorem dL_law_1425 : decode cL_law 1425 = .ok (.iload 7, 2) := dk_21 7 (dk_at dksL_law_54 2 rfl rfl)
theorem dL_law_1427 : decode cL_law 1427 = .ok (.i2l, 1) := dk_133 (dk_at dksL_law_54 4 rfl rfl)
theorem dL_law_1428 : decode cL_law 1428 = .ok (.lcmp, 1) := dk_148 (dk_at dksL_law_54 5 rfl rfl)
theorem dL_law_1429 : decode cL_law 1429 = .ok (.ifCond .eq 5, 3) := dk_153 0 5 (dk_at dksL_law_54 6 rfl rfl)
theorem dL_law_1432 : decode cL_law 1432 = .ok (.iconst 0, 1) := dk_3 (dk_at dksL_law_54 9 rfl rfl)
theorem dL_law_1433 : decode cL_law 1433 = .ok (.ireturn, 1) := dk_172 (dk_at dksL_law_54 10 rfl rfl)
theorem dL_law_1434 : decode cL_law 1434 = .ok (.goto 1020, 3) := dk_167 3 252 (dk_at dksL_law_54 11 rfl rfl)
theorem dL_law_1437 : decode cL_law 1437 = .ok (.aload_n 1, 1) := dk_43 (dk_at dksL_law_54 14 rfl rfl)
theorem dL_law_1438 : decode cL_law 1438 = .ok (.invokevirtual 209, 3) := dk_182 0 209 (dk_at dksL_law_54 15 rfl rfl)
theorem dL_law_1441 : decode cL_law 1441 = .ok (.aload_n 2, 1) := dk_44 (dk_at dksL_law_54 18 rfl rfl)
theorem dL_law_1442 : decode cL_law 1442 = .ok (.invokevirtual 212, 3) := dk_182 0 212 (dk_at dksL_law_54 19 rfl rfl)
theorem dL_law_1445 : decode cL_law 1445 = .ok (.if_icmp .eq 1009, 3) := dk_159 3 241 (dk_at dksL_law_55 0 rfl rfl)
theorem dL_law_1448 : decode cL_law 1448 = .ok (.iconst 0, 1) := dk_3 (dk_at dksL_law_55 3 rfl rfl)
theorem dL_law_1449 : decode cL_law 1449 = .ok (.ireturn, 1) := dk_172 (dk_at dksL_law_55 4 rfl rfl)
theorem dL_law_1450 : decode cL_law 1450 = .ok (.aload_n 1, 1) := dk_43 (dk_at dksL_law_55 5 rfl rfl)
theorem dL_law_1451 : decode cL_law 1451 = .ok (.aload_n 0, 1) := dk_42 (dk_at dksL_law_55 6 rfl rfl)
theorem dL_law_1452 : decode cL_law 1452 = .ok (.iload 5, 2) := dk_21 5 (dk_at dksL_law_55 7 rfl rfl)
theorem dL_law_1454 : decode cL_law 1454 = .ok (.iconst 1, 1) := dk_4 (dk_at dksL_law_55 9 rfl rfl)
theorem dL_law_1455 : decode cL_law 1455 = .ok (.iadd, 1) := dk_96 (dk_at dksL_law_55 10 rfl rfl)
theorem dL_law_1456 : decode cL_law 1456 = .ok (.iaload, 1) := dk_46 (dk_at dksL_law_55 11 rfl rfl)
theorem dL_law_1457 : decode cL_law 1457 = .ok (.aload_n 3, 1) := dk_45 (dk_at dksL_law_55 12 rfl rfl)
theorem dL_law_1458 : decode cL_law 1458 = .ok (.invokestatic 213, 3) := dk_184 0 213 (dk_at dksL_law_55 13 rfl rfl)
theorem dL_law_1461 : decode cL_law 1461 = .ok (.istore 6, 2) := dk_54 6 (dk_at dksL_law_55 16 rfl rfl)
theorem dL_law_1463 : decode cL_law 1463 = .ok (.aload_n 2, 1) := dk_44 (dk_at dksL_law_55 18 rfl rfl)
theorem dL_law_1464 : decode cL_law 1464 = .ok (.aload_n 0, 1) := dk_42 (dk_at dksL_law_55 19 rfl rfl)
theorem dL_law_1465 : decode cL_law 1465 = .ok (.iload 5, 2) := dk_21 5 (dk_at dksL_law_55 20 rfl rfl)
theorem dL_law_1467 : decode cL_law 1467 = .ok (.iconst 1, 1) := dk_4 (dk_at dksL_law_55 22 rfl rfl)
theorem dL_law_1468 : decode cL_law 1468 = .ok (.iadd, 1) := dk_96 (dk_at dksL_law_55 23 rfl rfl)
theorem dL_law_1469 : decode cL_law 1469 = .ok (.iaload, 1) := dk_46 (dk_at dksL_law_56 0 rfl rfl)
theorem dL_law_1470 : decode cL_law 1470 = .ok (.invokevirtual 215, 3) := dk_182 0 215 (dk_at dksL_law_56 1 rfl rfl)
theorem dL_law_1473 : decode cL_law 1473 = .ok (.istore 7, 2) := dk_54 7 (dk_at dksL_law_56 4 rfl rfl)
theorem dL_law_1475 : decode cL_law 1475 = .ok (.aload_n 2, 1) := dk_44 (dk_at dksL_law_56 6 rfl rfl)
theorem dL_law_1476 : decode cL_law 1476 = .ok (.invokevirtual 129, 3) := dk_182 0 129 (dk_at dksL_law_56 7 rfl rfl)
theorem dL_law_1479 : decode cL_law 1479 = .ok (.iload 6, 2) := dk_21 6 (dk_at dksL_law_56 10 rfl rfl)
theorem dL_law_1481 : decode cL_law 1481 = .ok (.if_icmp .eq 5, 3) := dk_159 0 5 (dk_at dksL_law_56 12 rfl rfl)
theorem dL_law_1484 : decode cL_law 1484 = .ok (.iconst 0, 1) := dk_3 (dk_at dksL_law_56 15 rfl rfl)
theorem dL_law_1485 : decode cL_law 1485 = .ok (.ireturn, 1) := dk_172 (dk_at dksL_law_56 16 rfl rfl)
theorem dL_law_1486 : decode cL_law 1486 = .ok (.iload 6, 2) := dk_21 6 (dk_at dksL_law_56 17 rfl rfl)
theorem dL_law_1488 : decode cL_law 1488 = .ok (.ifCond .ne 15, 3) := dk_154 0 15 (dk_at dksL_law_56 19 rfl rfl)
theorem dL_law_1491 : decode cL_law 1491 = .ok (.aload_n 3, 1) := dk_45 (dk_at dksL_law_56 22 rfl rfl)
theorem dL_law_1492 : decode cL_law 1492 = .ok (.iconst 0, 1) := dk_3 (dk_at dksL_law_56 23 rfl rfl)
theorem dL_law_1493 : decode cL_law 1493 = .ok (.laload, 1) := dk_47 (dk_at dksL_law_57 0 rfl rfl)
theorem dL_law_1494 : decode cL_law 1494 = .ok (.iload 7, 2) := dk_21 7 (dk_at dksL_law_57 1 rfl rfl)
theorem dL_law_1496 : decode cL_law 1496 = .ok (.i2l, 1) := dk_133 (dk_at dksL_law_57 3 rfl rfl)
theorem dL_law_1497 : decode cL_law 1497 = .ok (.lcmp, 1) := dk_148 (dk_at dksL_law_57 4 rfl rfl)
theorem dL_law_1498 : decode cL_law 1498 = .ok (.ifCond .eq 5, 3) := dk_153 0 5 (dk_at dksL_law_57 5 rfl rfl)
theorem dL_law_1501 : decode cL_law 1501 = .ok (.iconst 0, 1) := dk_3 (dk_at dksL_law_57 8 rfl rfl)
theorem dL_law_1502 : decode cL_law 1502 = .ok (.ireturn, 1) := dk_172 (dk_at dksL_law_57 9 rfl rfl)
theorem dL_law_1503 : decode cL_law 1503 = .ok (.goto 951, 3) := dk_167 3 183 (dk_at dksL_law_57 10 rfl rfl)
theorem dL_law_1506 : decode cL_law 1506 = .ok (.aload_n 1, 1) := dk_43 (dk_at dksL_law_57 13 rfl rfl)
theorem dL_law_1507 : decode cL_law 1507 = .ok (.aload_n 0, 1) := dk_42 (dk_at dksL_law_57 14 rfl rfl)
theorem dL_law_1508 : decode cL_law 1508 = .ok (.iload 5, 2) := dk_21 5 (dk_at dksL_law_57 15 rfl rfl)
theorem dL_law_1510 : decode cL_law 1510 = .ok (.iconst 1, 1) := dk_4 (dk_at dksL_law_57 17 rfl rfl)
theorem dL_law_1511 : decode cL_law 1511 = .ok (.iadd, 1) := dk_96 (dk_at dksL_law_57 18 rfl rfl)
theorem dL_law_1512 : decode cL_law 1512 = .ok (.iaload, 1) := dk_46 (dk_at dksL_law_57 19 rfl rfl)
theorem dL_law_1513 : decode cL_law 1513 = .ok (.aload_n 0, 1) := dk_42 (dk_at dksL_law_57 20 rfl rfl)
theorem dL_law_1514 : decode cL_law 1514 = .ok (.iload 5, 2) := dk_21 5 (dk_at dksL_law_57 21 rfl rfl)
theorem dL_law_1516 : decode cL_law 1516 = .ok (.iconst 2, 1) := dk_5 (dk_at dksL_law_57 23 rfl rfl)
theorem dL_law_1517 : decode cL_law 1517 = .ok (.iadd, 1) := dk_96 (dk_at dksL_law_58 0 rfl rfl)
theorem dL_law_1518 : decode cL_law 1518 = .ok (.iaload, 1) := dk_46 (dk_at dksL_law_58 1 rfl rfl)
theorem dL_law_1519 : decode cL_law 1519 = .ok (.aload_n 0, 1) := dk_42 (dk_at dksL_law_58 2 rfl rfl)
theorem dL_law_1520 : decode cL_law 1520 = .ok (.iload 5, 2) := dk_21 5 (dk_at dksL_law_58 3 rfl rfl)
theorem dL_law_1522 : decode cL_law 1522 = .ok (.iconst 3, 1) := dk_6 (dk_at dksL_law_58 5 rfl rfl)
theorem dL_law_1523 : decode cL_law 1523 = .ok (.iadd, 1) := dk_96 (dk_at dksL_law_58 6 rfl rfl)
theorem dL_law_1524 : decode cL_law 1524 = .ok (.iaload, 1) := dk_46 (dk_at dksL_law_58 7 rfl rfl)
theorem dL_law_1525 : decode cL_law 1525 = .ok (.aload_n 3, 1) := dk_45 (dk_at dksL_law_58 8 rfl rfl)
theorem dL_law_1526 : decode cL_law 1526 = .ok (.invokestatic 216, 3) := dk_184 0 216 (dk_at dksL_law_58 9 rfl rfl)
theorem dL_law_1529 : decode cL_law 1529 = .ok (.istore 6, 2) := dk_54 6 (dk_at dksL_law_58 12 rfl rfl)
theorem dL_law_1531 : decode cL_law 1531 = .ok (.aload_n 2, 1) := dk_44 (dk_at dksL_law_58 14 rfl rfl)
theorem dL_law_1532 : decode cL_law 1532 = .ok (.aload_n 0, 1) := dk_42 (dk_at dksL_law_58 15 rfl rfl)
theorem dL_law_1533 : decode cL_law 1533 = .ok (.iload 5, 2) := dk_21 5 (dk_at dksL_law_58 16 rfl rfl)
theorem dL_law_1535 : decode cL_law 1535 = .ok (.iconst 1, 1) := dk_4 (dk_at dksL_law_58 18 rfl rfl)
theorem dL_law_1536 : decode cL_law 1536 = .ok (.iadd, 1) := dk_96 (dk_at dksL_law_58 19 rfl rfl)
theorem dL_law_1537 : decode cL_law 1537 = .ok (.iaload, 1) := dk_46 (dk_at dksL_law_58 20 rfl rfl)
theorem dL_law_1538 : decode cL_law 1538 = .ok (.aload_n 0, 1) := dk_42 (dk_at dksL_law_58 21 rfl rfl)
theorem dL_law_1539 : decode cL_law 1539 = .ok (.iload 5, 2) := dk_21 5 (dk_at dksL_law_58 22 rfl rfl)
theorem dL_law_1541 : decode cL_law 1541 = .ok (.iconst 2, 1) := dk_5 (dk_at dksL_law_59 0 rfl rfl)
theorem dL_law_1542 : decode cL_law 1542 = .ok (.iadd, 1) := dk_96 (dk_at dksL_law_59 1 rfl rfl)
theorem dL_law_1543 : decode cL_law 1543 = .ok (.iaload, 1) := dk_46 (dk_at dksL_law_59 2 rfl rfl)
theorem dL_law_1544 : decode cL_law 1544 = .ok (.aload_n 0, 1) := dk_42 (dk_at dksL_law_59 3 rfl rfl)
theorem dL_law_1545 : decode cL_law 1545 = .ok (.iload 5, 2) := dk_21 5 (dk_at dksL_law_59 4 rfl rfl)
theorem dL_law_1547 : decode cL_law 1547 = .ok (.iconst 3, 1) := dk_6 (dk_at dksL_law_59 6 rfl rfl)
theorem dL_law_1548 : decode cL_law 1548 = .ok (.iadd, 1) := dk_96 (dk_at dksL_law_59 7 rfl rfl)
theorem dL_law_1549 : decode cL_law 1549 = .ok (.iaload, 1) := dk_46 (dk_at dksL_law_59 8 rfl rfl)
theorem dL_law_1550 : decode cL_law 1550 = .ok (.invokevirtual 218, 3) := dk_182 0 218 (dk_at dksL_law_59 9 rfl rfl)
theorem dL_law_1553 : decode cL_law 1553 = .ok (.istore 7, 2) := dk_54 7 (dk_at dksL_law_59 12 rfl rfl)
theorem dL_law_1555 : decode cL_law 1555 = .ok (.aload_n 2, 1) := dk_44 (dk_at dksL_law_59 14 rfl rfl)
theorem dL_law_1556 : decode cL_law 1556 = .ok (.invokevirtual 129, 3) := dk_182 0 129 (dk_at dksL_law_59 15 rfl rfl)
theorem dL_law_1559 : decode cL_law 1559 = .ok (.iload 6, 2) := dk_21 6 (dk_at dksL_law_59 18 rfl rfl)
theorem dL_law_1561 : decode cL_law 1561 = .ok (.if_icmp .eq 5, 3) := dk_159 0 5 (dk_at dksL_law_59 20 rfl rfl)
theorem dL_law_1564 : decode cL_law 1564 = .ok (.iconst 0, 1) := dk_3 (dk_at dksL_law_59 23 rfl rfl)
theorem dL_law_1565 : decode cL_law 1565 = .ok (.ireturn, 1) := dk_172 (dk_at dksL_law_60 0 rfl rfl)
theorem dL_law_1566 : decode cL_law 1566 = .ok (.iload 6, 2) := dk_21 6 (dk_at dksL_law_60 1 rfl rfl)
theorem dL_law_1568 : decode cL_law 1568 = .ok (.ifCond .ne 15, 3) := dk_154 0 15 (dk_at dksL_law_60 3 rfl rfl)
theorem dL_law_1571 : decode cL_law 1571 = .ok (.aload_n 3, 1) := dk_45 (dk_at dksL_law_60 6 rfl rfl)
theorem dL_law_1572 : decode cL_law 1572 = .ok (.iconst 0, 1) := dk_3 (dk_at dksL_law_60 7 rfl rfl)
theorem dL_law_1573 : decode cL_law 1573 = .ok (.laload, 1) := dk_47 (dk_at dksL_law_60 8 rfl rfl)
theorem dL_law_1574 : decode cL_law 1574 = .ok (.iload 7, 2) := dk_21 7 (dk_at dksL_law_60 9 rfl rfl)
theorem dL_law_1576 : decode cL_law 1576 = .ok (.i2l, 1) := dk_133 (dk_at dksL_law_60 11 rfl rfl)
theorem dL_law_1577 : decode cL_law 1577 = .ok (.lcmp, 1) := dk_148 (dk_at dksL_law_60 12 rfl rfl)
theorem dL_law_1578 : decode cL_law 1578 = .ok (.ifCond .eq 5, 3) := dk_153 0 5 (dk_at dksL_law_60 13 rfl rfl)
theorem dL_law_1581 : decode cL_law 1581 = .ok (.iconst 0, 1) := dk_3 (dk_at dksL_law_60 16 rfl rfl)
theorem dL_law_1582 : decode cL_law 1582 = .ok (.ireturn, 1) := dk_172 (dk_at dksL_law_60 17 rfl rfl)
theorem dL_law_1583 : decode cL_law 1583 = .ok (.goto 871, 3) := dk_167 3 103 (dk_at dksL_law_60 18 rfl rfl)
theorem dL_law_1586 : decode cL_law 1586 = .ok (.aload_n 1, 1) := dk_43 (dk_at dksL_law_60 21 rfl rfl)
theorem dL_law_1587 : decode cL_law 1587 = .ok (.aload_n 0, 1) := dk_42 (dk_at dksL_law_60 22 rfl rfl)
theorem dL_law_1588 : decode cL_law 1588 = .ok (.iload 5, 2) := dk_21 5 (dk_at dksL_law_61 0 rfl rfl)
theorem dL_law_1590 : decode cL_law 1590 = .ok (.iconst 1, 1) := dk_4 (dk_at dksL_law_61 2 rfl rfl)
theorem dL_law_1591 : decode cL_law 1591 = .ok (.iadd, 1) := dk_96 (dk_at dksL_law_61 3 rfl rfl)
theorem dL_law_1592 : decode cL_law 1592 = .ok (.iaload, 1) := dk_46 (dk_at dksL_law_61 4 rfl rfl)
theorem dL_law_1593 : decode cL_law 1593 = .ok (.aload_n 3, 1) := dk_45 (dk_at dksL_law_61 5 rfl rfl)
theorem dL_law_1594 : decode cL_law 1594 = .ok (.invokestatic 219, 3) := dk_184 0 219 (dk_at dksL_law_61 6 rfl rfl)
theorem dL_law_1597 : decode cL_law 1597 = .ok (.istore 6, 2) := dk_54 6 (dk_at dksL_law_61 9 rfl rfl)
theorem dL_law_1599 : decode cL_law 1599 = .ok (.aload_n 2, 1) := dk_44 (dk_at dksL_law_61 11 rfl rfl)
theorem dL_law_1600 : decode cL_law 1600 = .ok (.aload_n 0, 1) := dk_42 (dk_at dksL_law_61 12 rfl rfl)
theorem dL_law_1601 : decode cL_law 1601 = .ok (.iload 5, 2) := dk_21 5 (dk_at dksL_law_61 13 rfl rfl)
theorem dL_law_1603 : decode cL_law 1603 = .ok (.iconst 1, 1) := dk_4 (dk_at dksL_law_61 15 rfl rfl)
theorem dL_law_1604 : decode cL_law 1604 = .ok (.iadd, 1) := dk_96 (dk_at dksL_law_61 16 rfl rfl)
theorem dL_law_1605 : decode cL_law 1605 = .ok (.iaload, 1) := dk_46 (dk_at dksL_law_61 17 rfl rfl)
theorem dL_law_1606 : decode cL_law 1606 = .ok (.invokevirtual 221, 3) := dk_182 0 221 (dk_at dksL_law_61 18 rfl rfl)
theorem dL_law_1609 : decode cL_law 1609 = .ok (.istore 7, 2) := dk_54 7 (dk_at dksL_law_61 21 rfl rfl)
theorem dL_law_1611 : decode cL_law 1611 = .ok (.aload_n 2, 1) := dk_44 (dk_at dksL_law_61 23 rfl rfl)
theorem dL_law_1612 : decode cL_law 1612 = .ok (.invokevirtual 129, 3) := dk_182 0 129 (dk_at dksL_law_62 0 rfl rfl)
theorem dL_law_1615 : decode cL_law 1615 = .ok (.iload 6, 2) := dk_21 6 (dk_at dksL_law_62 3 rfl rfl)
theorem dL_law_1617 : decode cL_law 1617 = .ok (.if_icmp .eq 5, 3) := dk_159 0 5 (dk_at dksL_law_62 5 rfl rfl)
theorem dL_law_1620 : decode cL_law 1620 = .ok (.iconst 0, 1) := dk_3 (dk_at dksL_law_62 8 rfl rfl)
theorem dL_law_1621 : decode cL_law 1621 = .ok (.ireturn, 1) := dk_172 (dk_at dksL_law_62 9 rfl rfl)
theorem dL_law_1622 : decode cL_law 1622 = .ok (.iload 6, 2) := dk_21 6 (dk_at dksL_law_62 10 rfl rfl)
theorem dL_law_1624 : decode cL_law 1624 = .ok (.ifCond .ne 15, 3) := dk_154 0 15 (dk_at dksL_law_62 12 rfl rfl)
theorem dL_law_1627 : decode cL_law 1627 = .ok (.aload_n 3, 1) := dk_45 (dk_at dksL_law_62 15 rfl rfl)
theorem dL_law_1628 : decode cL_law 1628 = .ok (.iconst 0, 1) := dk_3 (dk_at dksL_law_62 16 rfl rfl)
theorem dL_law_1629 : decode cL_law 1629 = .ok (.laload, 1) := dk_47 (dk_at dksL_law_62 17 rfl rfl)
theorem dL_law_1630 : decode cL_law 1630 = .ok (.iload 7, 2) := dk_21 7 (dk_at dksL_law_62 18 rfl rfl)
theorem dL_law_1632 : decode cL_law 1632 = .ok (.i2l, 1) := dk_133 (dk_at dksL_law_62 20 rfl rfl)
theorem dL_law_1633 : decode cL_law 1633 = .ok (.lcmp, 1) := dk_148 (dk_at dksL_law_62 21 rfl rfl)
theorem dL_law_1634 : decode cL_law 1634 = .ok (.ifCond .eq 5, 3) := dk_153 0 5 (dk_at dksL_law_63 0 rfl rfl)
theorem dL_law_1637 : decode cL_law 1637 = .ok (.iconst 0, 1) := dk_3 (dk_at dksL_law_63 3 rfl rfl)
theorem dL_law_1638 : decode cL_law 1638 = .ok (.ireturn, 1) := dk_172 (dk_at dksL_law_63 4 rfl rfl)
theorem dL_law_1639 : decode cL_law 1639 = .ok (.goto 815, 3) := dk_167 3 47 (dk_at dksL_law_63 5 rfl rfl)
theorem dL_law_1642 : decode cL_law 1642 = .ok (.aload_n 1, 1) := dk_43 (dk_at dksL_law_63 8 rfl rfl)
theorem dL_law_1643 : decode cL_law 1643 = .ok (.aload_n 0, 1) := dk_42 (dk_at dksL_law_63 9 rfl rfl)
theorem dL_law_1644 : decode cL_law 1644 = .ok (.iload 5, 2) := dk_21 5 (dk_at dksL_law_63 10 rfl rfl)
theorem dL_law_1646 : decode cL_law 1646 = .ok (.iconst 1, 1) := dk_4 (dk_at dksL_law_63 12 rfl rfl)
theorem dL_law_1647 : decode cL_law 1647 = .ok (.iadd, 1) := dk_96 (dk_at dksL_law_63 13 rfl rfl)
theorem dL_law_1648 : decode cL_law 1648 = .ok (.iaload, 1) := dk_46 (dk_at dksL_law_63 14 rfl rfl)
theorem dL_law_1649 : decode cL_law 1649 = .ok (.aload_n 3, 1) := dk_45 (dk_at dksL_law_63 15 rfl rfl)
theorem dL_law_1650 : decode cL_law 1650 = .ok (.invokestatic 222, 3) := dk_184 0 222 (dk_at dksL_law_63 16 rfl rfl)
theorem dL_law_1653 : decode cL_law 1653 = .ok (.istore 6, 2) := dk_54 6 (dk_at dksL_law_63 19 rfl rfl)
theorem dL_law_1655 : decode cL_law 1655 = .ok (.aload_n 2, 1) := dk_44 (dk_at dksL_law_63 21 rfl rfl)
theorem dL_law_1656 : decode cL_law 1656 = .ok (.aload_n 0, 1) := dk_42 (dk_at dksL_law_63 22 rfl rfl)
theorem dL_law_1657 : decode cL_law 1657 = .ok (.iload 5, 2) := dk_21 5 (dk_at dksL_law_64 0 rfl rfl)
theorem dL_law_1659 : decode cL_law 1659 = .ok (.iconst 1, 1) := dk_4 (dk_at dksL_law_64 2 rfl rfl)
theorem dL_law_1660 : decode cL_law 1660 = .ok (.iadd, 1) := dk_96 (dk_at dksL_law_64 3 rfl rfl)
theorem dL_law_1661 : decode cL_law 1661 = .ok (.iaload, 1) := dk_46 (dk_at dksL_law_64 4 rfl rfl)
theorem dL_law_1662 : decode cL_law 1662 = .ok (.invokevirtual 224, 3) := dk_182 0 224 (dk_at dksL_law_64 5 rfl rfl)
theorem dL_law_1665 : decode cL_law 1665 = .ok (.istore 7, 2) := dk_54 7 (dk_at dksL_law_64 8 rfl rfl)
theorem dL_law_1667 : decode cL_law 1667 = .ok (.aload_n 2, 1) := dk_44 (dk_at dksL_law_64 10 rfl rfl)
theorem dL_law_1668 : decode cL_law 1668 = .ok (.invokevirtual 129, 3) := dk_182 0 129 (dk_at dksL_law_64 11 rfl rfl)
theorem dL_law_1671 : decode cL_law 1671 = .ok (.iload 6, 2) := dk_21 6 (dk_at dksL_law_64 14 rfl rfl)
theorem dL_law_1673 : decode cL_law 1673 = .ok (.if_icmp .eq 5, 3) := dk_159 0 5 (dk_at dksL_law_64 16 rfl rfl)
theorem dL_law_1676 : decode cL_law 1676 = .ok (.iconst 0, 1) := dk_3 (dk_at dksL_law_64 19 rfl rfl)
theorem dL_law_1677 : decode cL_law 1677 = .ok (.ireturn, 1) := dk_172 (dk_at dksL_law_64 20 rfl rfl)
theorem dL_law_1678 : decode cL_law 1678 = .ok (.iload 6, 2) := dk_21 6 (dk_at dksL_law_64 21 rfl rfl)
theorem dL_law_1680 : decode cL_law 1680 = .ok (.ifCond .ne 15, 3) := dk_154 0 15 (dk_at dksL_law_65 0 rfl rfl)
theorem dL_law_1683 : decode cL_law 1683 = .ok (.aload_n 3, 1) := dk_45 (dk_at dksL_law_65 3 rfl rfl)
theorem dL_law_1684 : decode cL_law 1684 = .ok (.iconst 0, 1) := dk_3 (dk_at dksL_law_65 4 rfl rfl)
theorem dL_law_1685 : decode cL_law 1685 = .ok (.laload, 1) := dk_47 (dk_at dksL_law_65 5 rfl rfl)
theorem dL_law_1686 : decode cL_law 1686 = .ok (.iload 7, 2) := dk_21 7 (dk_at dksL_law_65 6 rfl rfl)
theorem dL_law_1688 : decode cL_law 1688 = .ok (.i2l, 1) := dk_133 (dk_at dksL_law_65 8 rfl rfl)
theorem dL_law_1689 : decode cL_law 1689 = .ok (.lcmp, 1) := dk_148 (dk_at dksL_law_65 9 rfl rfl)
theorem dL_law_1690 : decode cL_law 1690 = .ok (.ifCond .eq 5, 3) := dk_153 0 5 (dk_at dksL_law_65 10 rfl rfl)
theorem dL_law_1693 : decode cL_law 1693 = .ok (.iconst 0, 1) := dk_3 (dk_at dksL_law_65 13 rfl rfl)
theorem dL_law_1694 : decode cL_law 1694 = .ok (.ireturn, 1) := dk_172 (dk_at dksL_law_65 14 rfl rfl)
theorem dL_law_1695 : decode cL_law 1695 = .ok (.goto 759, 3) := dk_167 2 247 (dk_at dksL_law_65 15 rfl rfl)
theorem dL_law_1698 : decode cL_law 1698 = .ok (.aload_n 1, 1) := dk_43 (dk_at dksL_law_65 18 rfl rfl)
theorem dL_law_1699 : decode cL_law 1699 = .ok (.aload_n 0, 1) := dk_42 (dk_at dksL_law_65 19 rfl rfl)
theorem dL_law_1700 : decode cL_law 1700 = .ok (.iload 5, 2) := dk_21 5 (dk_at dksL_law_65 20 rfl rfl)
theorem dL_law_1702 : decode cL_law 1702 = .ok (.iconst 1, 1) := dk_4 (dk_at dksL_law_65 22 rfl rfl)
theorem dL_law_1703 : decode cL_law 1703 = .ok (.iadd, 1) := dk_96 (dk_at dksL_law_65 23 rfl rfl)
theorem dL_law_1704 : decode cL_law 1704 = .ok (.iaload, 1) := dk_46 (dk_at dksL_law_66 0 rfl rfl)
theorem dL_law_1705 : decode cL_law 1705 = .ok (.aload_n 3, 1) := dk_45 (dk_at dksL_law_66 1 rfl rfl)
theorem dL_law_1706 : decode cL_law 1706 = .ok (.invokestatic 225, 3) := dk_184 0 225 (dk_at dksL_law_66 2 rfl rfl)
theorem dL_law_1709 : decode cL_law 1709 = .ok (.istore 6, 2) := dk_54 6 (dk_at dksL_law_66 5 rfl rfl)
theorem dL_law_1711 : decode cL_law 1711 = .ok (.aload_n 2, 1) := dk_44 (dk_at dksL_law_66 7 rfl rfl)
theorem dL_law_1712 : decode cL_law 1712 = .ok (.aload_n 0, 1) := dk_42 (dk_at dksL_law_66 8 rfl rfl)
theorem dL_law_1713 : decode cL_law 1713 = .ok (.iload 5, 2) := dk_21 5 (dk_at dksL_law_66 9 rfl rfl)
theorem dL_law_1715 : decode cL_law 1715 = .ok (.iconst 1, 1) := dk_4 (dk_at dksL_law_66 11 rfl rfl)
theorem dL_law_1716 : decode cL_law 1716 = .ok (.iadd, 1) := dk_96 (dk_at dksL_law_66 12 rfl rfl)
theorem dL_law_1717 : decode cL_law 1717 = .ok (.iaload, 1) := dk_46 (dk_at dksL_law_66 13 rfl rfl)
theorem dL_law_1718 : decode cL_law 1718 = .ok (.invokevirtual 227, 3) := dk_182 0 227 (dk_at dksL_law_66 14 rfl rfl)
theorem dL_law_1721 : decode cL_law 1721 = .ok (.istore 7, 2) := dk_54 7 (dk_at dksL_law_66 17 rfl rfl)
theorem dL_law_1723 : decode cL_law 1723 = .ok (.aload_n 2, 1) := dk_44 (dk_at dksL_law_66 19 rfl rfl)
theorem dL_law_1724 : decode cL_law 1724 = .ok (.invokevirtual 129, 3) := dk_182 0 129 (dk_at dksL_law_66 20 rfl rfl)
theorem dL_law_1727 : decode cL_law 1727 = .ok (.iload 6, 2) := dk_21 6 (dk_at dksL_law_67 0 rfl rfl)
theorem dL_law_1729 : decode cL_law 1729 = .ok (.if_icmp .eq 5, 3) := dk_159 0 5 (dk_at dksL_law_67 2 rfl rfl)
theorem dL_law_1732 : decode cL_law 1732 = .ok (.iconst 0, 1) := dk_3 (dk_at dksL_law_67 5 rfl rfl)
theorem dL_law_1733 : decode cL_law 1733 = .ok (.ireturn, 1) := dk_172 (dk_at dksL_law_67 6 rfl rfl)
theorem dL_law_1734 : decode cL_law 1734 = .ok (.iload 6, 2) := dk_21 6 (dk_at dksL_law_67 7 rfl rfl)
theorem dL_law_1736 : decode cL_law 1736 = .ok (.ifCond .ne 15, 3) := dk_154 0 15 (dk_at dksL_law_67 9 rfl rfl)
theorem dL_law_1739 : decode cL_law 1739 = .ok (.aload_n 3, 1) := dk_45 (dk_at dksL_law_67 12 rfl rfl)
theorem dL_law_1740 : decode cL_law 1740 = .ok (.iconst 0, 1) := dk_3 (dk_at dksL_law_67 13 rfl rfl)
theorem dL_law_1741 : decode cL_law 1741 = .ok (.laload, 1) := dk_47 (dk_at dksL_law_67 14 rfl rfl)
theorem dL_law_1742 : decode cL_law 1742 = .ok (.iload 7, 2) := dk_21 7 (dk_at dksL_law_67 15 rfl rfl)
theorem dL_law_1744 : decode cL_law 1744 = .ok (.i2l, 1) := dk_133 (dk_at dksL_law_67 17 rfl rfl)
theorem dL_law_1745 : decode cL_law 1745 = .ok (.lcmp, 1) := dk_148 (dk_at dksL_law_67 18 rfl rfl)
theorem dL_law_1746 : decode cL_law 1746 = .ok (.ifCond .eq 5, 3) := dk_153 0 5 (dk_at dksL_law_67 19 rfl rfl)
theorem dL_law_1749 : decode cL_law 1749 = .ok (.iconst 0, 1) := dk_3 (dk_at dksL_law_67 22 rfl rfl)
theorem dL_law_1750 : decode cL_law 1750 = .ok (.ireturn, 1) := dk_172 (dk_at dksL_law_67 23 rfl rfl)
theorem dL_law_1751 : decode cL_law 1751 = .ok (.goto 703, 3) := dk_167 2 191 (dk_at dksL_law_68 0 rfl rfl)
theorem dL_law_1754 : decode cL_law 1754 = .ok (.aload_n 1, 1) := dk_43 (dk_at dksL_law_68 3 rfl rfl)
theorem dL_law_1755 : decode cL_law 1755 = .ok (.aload_n 0, 1) := dk_42 (dk_at dksL_law_68 4 rfl rfl)
theorem dL_law_1756 : decode cL_law 1756 = .ok (.iload 5, 2) := dk_21 5 (dk_at dksL_law_68 5 rfl rfl)
theorem dL_law_1758 : decode cL_law 1758 = .ok (.iconst 1, 1) := dk_4 (dk_at dksL_law_68 7 rfl rfl)
theorem dL_law_1759 : decode cL_law 1759 = .ok (.iadd, 1) := dk_96 (dk_at dksL_law_68 8 rfl rfl)
theorem dL_law_1760 : decode cL_law 1760 = .ok (.iaload, 1) := dk_46 (dk_at dksL_law_68 9 rfl rfl)
theorem dL_law_1761 : decode cL_law 1761 = .ok (.aload_n 3, 1) := dk_45 (dk_at dksL_law_68 10 rfl rfl)
theorem dL_law_1762 : decode cL_law 1762 = .ok (.invokestatic 228, 3) := dk_184 0 228 (dk_at dksL_law_68 11 rfl rfl)
theorem dL_law_1765 : decode cL_law 1765 = .ok (.istore 6, 2) := dk_54 6 (dk_at dksL_law_68 14 rfl rfl)
theorem dL_law_1767 : decode cL_law 1767 = .ok (.aload_n 2, 1) := dk_44 (dk_at dksL_law_68 16 rfl rfl)
theorem dL_law_1768 : decode cL_law 1768 = .ok (.aload_n 0, 1) := dk_42 (dk_at dksL_law_68 17 rfl rfl)
theorem dL_law_1769 : decode cL_law 1769 = .ok (.iload 5, 2) := dk_21 5 (dk_at dksL_law_68 18 rfl rfl)
theorem dL_law_1771 : decode cL_law 1771 = .ok (.iconst 1, 1) := dk_4 (dk_at dksL_law_68 20 rfl rfl)
theorem dL_law_1772 : decode cL_law 1772 = .ok (.iadd, 1) := dk_96 (dk_at dksL_law_68 21 rfl rfl)
theorem dL_law_1773 : decode cL_law 1773 = .ok (.iaload, 1) := dk_46 (dk_at dksL_law_68 22 rfl rfl)
theorem dL_law_1774 : decode cL_law 1774 = .ok (.invokevirtual 230, 3) := dk_182 0 230 (dk_at dksL_law_69 0 rfl rfl)
theorem dL_law_1777 : decode cL_law 1777 = .ok (.istore 7, 2) := dk_54 7 (dk_at dksL_law_69 3 rfl rfl)
theorem dL_law_1779 : decode cL_law 1779 = .ok (.aload_n 2, 1) := dk_44 (dk_at dksL_law_69 5 rfl rfl)
theorem dL_law_1780 : decode cL_law 1780 = .ok (.invokevirtual 129, 3) := dk_182 0 129 (dk_at dksL_law_69 6 rfl rfl)
theorem dL_law_1783 : decode cL_law 1783 = .ok (.iload 6, 2) := dk_21 6 (dk_at dksL_law_69 9 rfl rfl)
theorem dL_law_1785 : decode cL_law 1785 = .ok (.if_icmp .eq 5, 3) := dk_159 0 5 (dk_at dksL_law_69 11 rfl rfl)
theorem dL_law_1788 : decode cL_law 1788 = .ok (.iconst 0, 1) := dk_3 (dk_at dksL_law_69 14 rfl rfl)
theorem dL_law_1789 : decode cL_law 1789 = .ok (.ireturn, 1) := dk_172 (dk_at dksL_law_69 15 rfl rfl)
theorem dL_law_1790 : decode cL_law 1790 = .ok (.iload 6, 2) := dk_21 6 (dk_at dksL_law_69 16 rfl rfl)
theorem dL_law_1792 : decode cL_law 1792 = .ok (.ifCond .ne 15, 3) := dk_154 0 15 (dk_at dksL_law_69 18 rfl rfl)
theorem dL_law_1795 : decode cL_law 1795 = .ok (.aload_n 3, 1) := dk_45 (dk_at dksL_law_69 21 rfl rfl)
theorem dL_law_1796 : decode cL_law 1796 = .ok (.iconst 0, 1) := dk_3 (dk_at dksL_law_69 22 rfl rfl)
theorem dL_law_1797 : decode cL_law 1797 = .ok (.laload, 1) := dk_47 (dk_at dksL_law_69 23 rfl rfl)
theorem dL_law_1798 : decode cL_law 1798 = .ok (.iload 7, 2) := dk_21 7 (dk_at dksL_law_70 0 rfl rfl)
theorem dL_law_1800 : decode cL_law 1800 = .ok (.i2l, 1) := dk_133 (dk_at dksL_law_70 2 rfl rfl)
theorem dL_law_1801 : decode cL_law 1801 = .ok (.lcmp, 1) := dk_148 (dk_at dksL_law_70 3 rfl rfl)
theorem dL_law_1802 : decode cL_law 1802 = .ok (.ifCond .eq 5, 3) := dk_153 0 5 (dk_at dksL_law_70 4 rfl rfl)
theorem dL_law_1805 : decode cL_law 1805 = .ok (.iconst 0, 1) := dk_3 (dk_at dksL_law_70 7 rfl rfl)
theorem dL_law_1806 : decode cL_law 1806 = .ok (.ireturn, 1) := dk_172 (dk_at dksL_law_70 8 rfl rfl)
theorem dL_law_1807 : decode cL_law 1807 = .ok (.goto 647, 3) := dk_167 2 135 (dk_at dksL_law_70 9 rfl rfl)
theorem dL_law_1810 : decode cL_law 1810 = .ok (.aload_n 1, 1) := dk_43 (dk_at dksL_law_70 12 rfl rfl)
theorem dL_law_1811 : decode cL_law 1811 = .ok (.aload_n 0, 1) := dk_42 (dk_at dksL_law_70 13 rfl rfl)
theorem dL_law_1812 : decode cL_law 1812 = .ok (.iload 5, 2) := dk_21 5 (dk_at dksL_law_70 14 rfl rfl)
theorem dL_law_1814 : decode cL_law 1814 = .ok (.iconst 1, 1) := dk_4 (dk_at dksL_law_70 16 rfl rfl)
theorem dL_law_1815 : decode cL_law 1815 = .ok (.iadd, 1) := dk_96 (dk_at dksL_law_70 17 rfl rfl)
theorem dL_law_1816 : decode cL_law 1816 = .ok (.iaload, 1) := dk_46 (dk_at dksL_law_70 18 rfl rfl)
theorem dL_law_1817 : decode cL_law 1817 = .ok (.aload_n 0, 1) := dk_42 (dk_at dksL_law_70 19 rfl rfl)
theorem dL_law_1818 : decode cL_law 1818 = .ok (.iload 5, 2) := dk_21 5 (dk_at dksL_law_70 20 rfl rfl)
theorem dL_law_1820 : decode cL_law 1820 = .ok (.iconst 2, 1) := dk_5 (dk_at dksL_law_70 22 rfl rfl)
theorem dL_law_1821 : decode cL_law 1821 = .ok (.iadd, 1) := dk_96 (dk_at dksL_law_70 23 rfl rfl)
theorem dL_law_1822 : decode cL_law 1822 = .ok (.iaload, 1) := dk_46 (dk_at dksL_law_71 0 rfl rfl)
theorem dL_law_1823 : decode cL_law 1823 = .ok (.aload_n 3, 1) := dk_45 (dk_at dksL_law_71 1 rfl rfl)
theorem dL_law_1824 : decode cL_law 1824 = .ok (.invokestatic 231, 3) := dk_184 0 231 (dk_at dksL_law_71 2 rfl rfl)
theorem dL_law_1827 : decode cL_law 1827 = .ok (.istore 6, 2) := dk_54 6 (dk_at dksL_law_71 5 rfl rfl)
theorem dL_law_1829 : decode cL_law 1829 = .ok (.aload_n 2, 1) := dk_44 (dk_at dksL_law_71 7 rfl rfl)
theorem dL_law_1830 : decode cL_law 1830 = .ok (.aload_n 0, 1) := dk_42 (dk_at dksL_law_71 8 rfl rfl)
theorem dL_law_1831 : decode cL_law 1831 = .ok (.iload 5, 2) := dk_21 5 (dk_at dksL_law_71 9 rfl rfl)
theorem dL_law_1833 : decode cL_law 1833 = .ok (.iconst 1, 1) := dk_4 (dk_at dksL_law_71 11 rfl rfl)
theorem dL_law_1834 : decode cL_law 1834 = .ok (.iadd, 1) := dk_96 (dk_at dksL_law_71 12 rfl rfl)
theorem dL_law_1835 : decode cL_law 1835 = .ok (.iaload, 1) := dk_46 (dk_at dksL_law_71 13 rfl rfl)
theorem dL_law_1836 : decode cL_law 1836 = .ok (.aload_n 0, 1) := dk_42 (dk_at dksL_law_71 14 rfl rfl)
theorem dL_law_1837 : decode cL_law 1837 = .ok (.iload 5, 2) := dk_21 5 (dk_at dksL_law_71 15 rfl rfl)
theorem dL_law_1839 : decode cL_law 1839 = .ok (.iconst 2, 1) := dk_5 (dk_at dksL_law_71 17 rfl rfl)
theorem dL_law_1840 : decode cL_law 1840 = .ok (.iadd, 1) := dk_96 (dk_at dksL_law_71 18 rfl rfl)
theorem dL_law_1841 : decode cL_law 1841 = .ok (.iaload, 1) := dk_46 (dk_at dksL_law_71 19 rfl rfl)
theorem dL_law_1842 : decode cL_law 1842 = .ok (.invokevirtual 233, 3) := dk_182 0 233 (dk_at dksL_law_71 20 rfl rfl)
theorem dL_law_1845 : decode cL_law 1845 = .ok (.istore 7, 2) := dk_54 7 (dk_at dksL_law_72 0 rfl rfl)
theorem dL_law_1847 : decode cL_law 1847 = .ok (.aload_n 2, 1) := dk_44 (dk_at dksL_law_72 2 rfl rfl)
theorem dL_law_1848 : decode cL_law 1848 = .ok (.invokevirtual 129, 3) := dk_182 0 129 (dk_at dksL_law_72 3 rfl rfl)
theorem dL_law_1851 : decode cL_law 1851 = .ok (.iload 6, 2) := dk_21 6 (dk_at dksL_law_72 6 rfl rfl)
theorem dL_law_1853 : decode cL_law 1853 = .ok (.if_icmp .eq 5, 3) := dk_159 0 5 (dk_at dksL_law_72 8 rfl rfl)
theorem dL_law_1856 : decode cL_law 1856 = .ok (.iconst 0, 1) := dk_3 (dk_at dksL_law_72 11 rfl rfl)
theorem dL_law_1857 : decode cL_law 1857 = .ok (.ireturn, 1) := dk_172 (dk_at dksL_law_72 12 rfl rfl)
theorem dL_law_1858 : decode cL_law 1858 = .ok (.iload 6, 2) := dk_21 6 (dk_at dksL_law_72 13 rfl rfl)
theorem dL_law_1860 : decode cL_law 1860 = .ok (.ifCond .ne 15, 3) := dk_154 0 15 (dk_at dksL_law_72 15 rfl rfl)
theorem dL_law_1863 : decode cL_law 1863 = .ok (.aload_n 3, 1) := dk_45 (dk_at dksL_law_72 18 rfl rfl)
theorem dL_law_1864 : decode cL_law 1864 = .ok (.iconst 0, 1) := dk_3 (dk_at dksL_law_72 19 rfl rfl)
theorem dL_law_1865 : decode cL_law 1865 = .ok (.laload, 1) := dk_47 (dk_at dksL_law_72 20 rfl rfl)
theorem dL_law_1866 : decode cL_law 1866 = .ok (.iload 7, 2) := dk_21 7 (dk_at dksL_law_72 21 rfl rfl)
theorem dL_law_1868 : decode cL_law 1868 = .ok (.i2l, 1) := dk_133 (dk_at dksL_law_72 23 rfl rfl)
theorem dL_law_1869 : decode cL_law 1869 = .ok (.lcmp, 1) := dk_148 (dk_at dksL_law_73 0 rfl rfl)
theorem dL_law_1870 : decode cL_law 1870 = .ok (.ifCond .eq 5, 3) := dk_153 0 5 (dk_at dksL_law_73 1 rfl rfl)
theorem dL_law_1873 : decode cL_law 1873 = .ok (.iconst 0, 1) := dk_3 (dk_at dksL_law_73 4 rfl rfl)
theorem dL_law_1874 : decode cL_law 1874 = .ok (.ireturn, 1) := dk_172 (dk_at dksL_law_73 5 rfl rfl)
theorem dL_law_1875 : decode cL_law 1875 = .ok (.goto 579, 3) := dk_167 2 67 (dk_at dksL_law_73 6 rfl rfl)
theorem dL_law_1878 : decode cL_law 1878 = .ok (.aload_n 1, 1) := dk_43 (dk_at dksL_law_73 9 rfl rfl)
theorem dL_law_1879 : decode cL_law 1879 = .ok (.aload_n 0, 1) := dk_42 (dk_at dksL_law_73 10 rfl rfl)
theorem dL_law_1880 : decode cL_law 1880 = .ok (.iload 5, 2) := dk_21 5 (dk_at dksL_law_73 11 rfl rfl)
theorem dL_law_1882 : decode cL_law 1882 = .ok (.iconst 1, 1) := dk_4 (dk_at dksL_law_73 13 rfl rfl)
theorem dL_law_1883 : decode cL_law 1883 = .ok (.iadd, 1) := dk_96 (dk_at dksL_law_73 14 rfl rfl)
theorem dL_law_1884 : decode cL_law 1884 = .ok (.iaload, 1) := dk_46 (dk_at dksL_law_73 15 rfl rfl)
theorem dL_law_1885 : decode cL_law 1885 = .ok (.aload_n 3, 1) := dk_45 (dk_at dksL_law_73 16 rfl rfl)
theorem dL_law_1886 : decode cL_law 1886 = .ok (.invokestatic 234, 3) := dk_184 0 234 (dk_at dksL_law_73 17 rfl rfl)
theorem dL_law_1889 : decode cL_law 1889 = .ok (.istore 6, 2) := dk_54 6 (dk_at dksL_law_73 20 rfl rfl)
theorem dL_law_1891 : decode cL_law 1891 = .ok (.aload_n 2, 1) := dk_44 (dk_at dksL_law_73 22 rfl rfl)
theorem dL_law_1892 : decode cL_law 1892 = .ok (.aload_n 0, 1) := dk_42 (dk_at dksL_law_73 23 rfl rfl)
theorem dL_law_1893 : decode cL_law 1893 = .ok (.iload 5, 2) := dk_21 5 (dk_at dksL_law_74 0 rfl rfl)
theorem dL_law_1895 : decode cL_law 1895 = .ok (.iconst 1, 1) := dk_4 (dk_at dksL_law_74 2 rfl rfl)
theorem dL_law_1896 : decode cL_law 1896 = .ok (.iadd, 1) := dk_96 (dk_at dksL_law_74 3 rfl rfl)
theorem dL_law_1897 : decode cL_law 1897 = .ok (.iaload, 1) := dk_46 (dk_at dksL_law_74 4 rfl rfl)
theorem dL_law_1898 : decode cL_law 1898 = .ok (.invokevirtual 236, 3) := dk_182 0 236 (dk_at dksL_law_74 5 rfl rfl)
theorem dL_law_1901 : decode cL_law 1901 = .ok (.istore 7, 2) := dk_54 7 (dk_at dksL_law_74 8 rfl rfl)
theorem dL_law_1903 : decode cL_law 1903 = .ok (.aload_n 2, 1) := dk_44 (dk_at dksL_law_74 10 rfl rfl)
theorem dL_law_1904 : decode cL_law 1904 = .ok (.invokevirtual 129, 3) := dk_182 0 129 (dk_at dksL_law_74 11 rfl rfl)
theorem dL_law_1907 : decode cL_law 1907 = .ok (.iload 6, 2) := dk_21 6 (dk_at dksL_law_74 14 rfl rfl)
theorem dL_law_1909 : decode cL_law 1909 = .ok (.if_icmp .eq 5, 3) := dk_159 0 5 (dk_at dksL_law_74 16 rfl rfl)
theorem dL_law_1912 : decode cL_law 1912 = .ok (.iconst 0, 1) := dk_3 (dk_at dksL_law_74 19 rfl rfl)
theorem dL_law_1913 : decode cL_law 1913 = .ok (.ireturn, 1) := dk_172 (dk_at dksL_law_74 20 rfl rfl)
theorem dL_law_1914 : decode cL_law 1914 = .ok (.iload 6, 2) := dk_21 6 (dk_at dksL_law_74 21 rfl rfl)
theorem dL_law_1916 : decode cL_law 1916 = .ok (.ifCond .ne 15, 3) := dk_154 0 15 (dk_at dksL_law_75 0 rfl rfl)
theorem dL_law_1919 : decode cL_law 1919 = .ok (.aload_n 3, 1) := dk_45 (dk_at dksL_law_75 3 rfl rfl)
theorem dL_law_1920 : decode cL_law 1920 = .ok (.iconst 0, 1) := dk_3 (dk_at dksL_law_75 4 rfl rfl)
theorem dL_law_1921 : decode cL_law 1921 = .ok (.laload, 1) := dk_47 (dk_at dksL_law_75 5 rfl rfl)
theorem dL_law_1922 : decode cL_law 1922 = .ok (.iload 7, 2) := dk_21 7 (dk_at dksL_law_75 6 rfl rfl)
theorem dL_law_1924 : decode cL_law 1924 = .ok (.i2l, 1) := dk_133 (dk_at dksL_law_75 8 rfl rfl)
theorem dL_law_1925 : decode cL_law 1925 = .ok (.lcmp, 1) := dk_148 (dk_at dksL_law_75 9 rfl rfl)
theorem dL_law_1926 : decode cL_law 1926 = .ok (.ifCond .eq 5, 3) := dk_153 0 5 (dk_at dksL_law_75 10 rfl rfl)
theorem dL_law_1929 : decode cL_law 1929 = .ok (.iconst 0, 1) := dk_3 (dk_at dksL_law_75 13 rfl rfl)
theorem dL_law_1930 : decode cL_law 1930 = .ok (.ireturn, 1) := dk_172 (dk_at dksL_law_75 14 rfl rfl)
theorem dL_law_1931 : decode cL_law 1931 = .ok (.goto 523, 3) := dk_167 2 11 (dk_at dksL_law_75 15 rfl rfl)
theorem dL_law_1934 : decode cL_law 1934 = .ok (.aload_n 1, 1) := dk_43 (dk_at dksL_law_75 18 rfl rfl)
theorem dL_law_1935 : decode cL_law 1935 = .ok (.aload_n 0, 1) := dk_42 (dk_at dksL_law_75 19 rfl rfl)
theorem dL_law_1936 : decode cL_law 1936 = .ok (.iload 5, 2) := dk_21 5 (dk_at dksL_law_75 20 rfl rfl)
theorem dL_law_1938 : decode cL_law 1938 = .ok (.iconst 1, 1) := dk_4 (dk_at dksL_law_75 22 rfl rfl)
theorem dL_law_1939 : decode cL_law 1939 = .ok (.iadd, 1) := dk_96 (dk_at dksL_law_75 23 rfl rfl)
theorem dL_law_1940 : decode cL_law 1940 = .ok (.iaload, 1) := dk_46 (dk_at dksL_law_76 0 rfl rfl)
theorem dL_law_1941 : decode cL_law 1941 = .ok (.aload_n 0, 1) := dk_42 (dk_at dksL_law_76 1 rfl rfl)
theorem dL_law_1942 : decode cL_law 1942 = .ok (.iload 5, 2) := dk_21 5 (dk_at dksL_law_76 2 rfl rfl)
theorem dL_law_1944 : decode cL_law 1944 = .ok (.iconst 2, 1) := dk_5 (dk_at dksL_law_76 4 rfl rfl)
theorem dL_law_1945 : decode cL_law 1945 = .ok (.iadd, 1) := dk_96 (dk_at dksL_law_76 5 rfl rfl)
theorem dL_law_1946 : decode cL_law 1946 = .ok (.iaload, 1) := dk_46 (dk_at dksL_law_76 6 rfl rfl)
theorem dL_law_1947 : decode cL_law 1947 = .ok (.aload_n 3, 1) := dk_45 (dk_at dksL_law_76 7 rfl rfl)
theorem dL_law_1948 : decode cL_law 1948 = .ok (.invokestatic 237, 3) := dk_184 0 237 (dk_at dksL_law_76 8 rfl rfl)
theorem dL_law_1951 : decode cL_law 1951 = .ok (.istore 6, 2) := dk_54 6 (dk_at dksL_law_76 11 rfl rfl)
theorem dL_law_1953 : decode cL_law 1953 = .ok (.aload_n 2, 1) := dk_44 (dk_at dksL_law_76 13 rfl rfl)
theorem dL_law_1954 : decode cL_law 1954 = .ok (.aload_n 0, 1) := dk_42 (dk_at dksL_law_76 14 rfl rfl)
theorem dL_law_1955 : decode cL_law 1955 = .ok (.iload 5, 2) := dk_21 5 (dk_at dksL_law_76 15 rfl rfl)
theorem dL_law_1957 : decode cL_law 1957 = .ok (.iconst 1, 1) := dk_4 (dk_at dksL_law_76 17 rfl rfl)
theorem dL_law_1958 : decode cL_law 1958 = .ok (.iadd, 1) := dk_96 (dk_at dksL_law_76 18 rfl rfl)
theorem dL_law_1959 : decode cL_law 1959 = .ok (.iaload, 1) := dk_46 (dk_at dksL_law_76 19 rfl rfl)
theorem dL_law_1960 : decode cL_law 1960 = .ok (.aload_n 0, 1) := dk_42 (dk_at dksL_law_76 20 rfl rfl)
theorem dL_law_1961 : decode cL_law 1961 = .ok (.iload 5, 2) := dk_21 5 (dk_at dksL_law_76 21 rfl rfl)
theorem dL_law_1963 : decode cL_law 1963 = .ok (.iconst 2, 1) := dk_5 (dk_at dksL_law_76 23 rfl rfl)
theorem dL_law_1964 : decode cL_law 1964 = .ok (.iadd, 1) := dk_96 (dk_at dksL_law_77 0 rfl rfl)
theorem dL_law_1965 : decode cL_law 1965 = .ok (.iaload, 1) := dk_46 (dk_at dksL_law_77 1 rfl rfl)
theorem dL_law_1966 : decode cL_law 1966 = .ok (.invokevirtual 239, 3) := dk_182 0 239 (dk_at dksL_law_77 2 rfl rfl)
theorem dL_law_1969 : decode cL_law 1969 = .ok (.istore 7, 2) := dk_54 7 (dk_at dksL_law_77 5 rfl rfl)
theorem dL_law_1971 : decode cL_law 1971 = .ok (.aload_n 2, 1) := dk_44 (dk_at dksL_law_77 7 rfl rfl)
theorem dL_law_1972 : decode cL_law 1972 = .ok (.invokevirtual 129, 3) := dk_182 0 129 (dk_at dksL_law_77 8 rfl rfl)
theorem dL_law_1975 : decode cL_law 1975 = .ok (.iload 6, 2) := dk_21 6 (dk_at dksL_law_77 11 rfl rfl)
theorem dL_law_1977 : decode cL_law 1977 = .ok (.if_icmp .eq 5, 3) := dk_159 0 5 (dk_at dksL_law_77 13 rfl rfl)
theorem dL_law_1980 : decode cL_law 1980 = .ok (.iconst 0, 1) := dk_3 (dk_at dksL_law_77 16 rfl rfl)
theorem dL_law_1981 : decode cL_law 1981 = .ok (.ireturn, 1) := dk_172 (dk_at dksL_law_77 17 rfl rfl)
theorem dL_law_1982 : decode cL_law 1982 = .ok (.iload 6, 2) := dk_21 6 (dk_at dksL_law_77 18 rfl rfl)
theorem dL_law_1984 : decode cL_law 1984 = .ok (.ifCond .ne 15, 3) := dk_154 0 15 (dk_at dksL_law_77 20 rfl rfl)
theorem dL_law_1987 : decode cL_law 1987 = .ok (.aload_n 3, 1) := dk_45 (dk_at dksL_law_77 23 rfl rfl)
theorem dL_law_1988 : decode cL_law 1988 = .ok (.iconst 0, 1) := dk_3 (dk_at dksL_law_78 0 rfl rfl)
theorem dL_law_1989 : decode cL_law 1989 = .ok (.laload, 1) := dk_47 (dk_at dksL_law_78 1 rfl rfl)
theorem dL_law_1990 : decode cL_law 1990 = .ok (.iload 7, 2) := dk_21 7 (dk_at dksL_law_78 2 rfl rfl)
theorem dL_law_1992 : decode cL_law 1992 = .ok (.i2l, 1) := dk_133 (dk_at dksL_law_78 4 rfl rfl)
theorem dL_law_1993 : decode cL_law 1993 = .ok (.lcmp, 1) := dk_148 (dk_at dksL_law_78 5 rfl rfl)
theorem dL_law_1994 : decode cL_law 1994 = .ok (.ifCond .eq 5, 3) := dk_153 0 5 (dk_at dksL_law_78 6 rfl rfl)
theorem dL_law_1997 : decode cL_law 1997 = .ok (.iconst 0, 1) := dk_3 (dk_at dksL_law_78 9 rfl rfl)
theorem dL_law_1998 : decode cL_law 1998 = .ok (.ireturn, 1) := dk_172 (dk_at dksL_law_78 10 rfl rfl)
theorem dL_law_1999 : decode cL_law 1999 = .ok (.goto 455, 3) := dk_167 1 199 (dk_at dksL_law_78 11 rfl rfl)
theorem dL_law_2002 : decode cL_law 2002 = .ok (.aload_n 1, 1) := dk_43 (dk_at dksL_law_78 14 rfl rfl)
theorem dL_law_2003 : decode cL_law 2003 = .ok (.aload_n 0, 1) := dk_42 (dk_at dksL_law_78 15 rfl rfl)
theorem dL_law_2004 : decode cL_law 2004 = .ok (.iload 5, 2) := dk_21 5 (dk_at dksL_law_78 16 rfl rfl)
theorem dL_law_2006 : decode cL_law 2006 = .ok (.iconst 1, 1) := dk_4 (dk_at dksL_law_78 18 rfl rfl)
theorem dL_law_2007 : decode cL_law 2007 = .ok (.iadd, 1) := dk_96 (dk_at dksL_law_78 19 rfl rfl)
theorem dL_law_2008 : decode cL_law 2008 = .ok (.iaload, 1) := dk_46 (dk_at dksL_law_78 20 rfl rfl)
theorem dL_law_2009 : decode cL_law 2009 = .ok (.aload_n 0, 1) := dk_42 (dk_at dksL_law_78 21 rfl rfl)
theorem dL_law_2010 : decode cL_law 2010 = .ok (.iload 5, 2) := dk_21 5 (dk_at dksL_law_78 22 rfl rfl)
theorem dL_law_2012 : decode cL_law 2012 = .ok (.iconst 2, 1) := dk_5 (dk_at dksL_law_79 0 rfl rfl)
theorem dL_law_2013 : decode cL_law 2013 = .ok (.iadd, 1) := dk_96 (dk_at dksL_law_79 1 rfl rfl)
theorem dL_law_2014 : decode cL_law 2014 = .ok (.iaload, 1) := dk_46 (dk_at dksL_law_79 2 rfl rfl)
theorem dL_law_2015 : decode cL_law 2015 = .ok (.aload_n 3, 1) := dk_45 (dk_at dksL_law_79 3 rfl rfl)
theorem dL_law_2016 : decode cL_law 2016 = .ok (.invokestatic 240, 3) := dk_184 0 240 (dk_at dksL_law_79 4 rfl rfl)
theorem dL_law_2019 : decode cL_law 2019 = .ok (.istore 6, 2) := dk_54 6 (dk_at dksL_law_79 7 rfl rfl)
theorem dL_law_2021 : decode cL_law 2021 = .ok (.aload_n 2, 1) := dk_44 (dk_at dksL_law_79 9 rfl rfl)
theorem dL_law_2022 : decode cL_law 2022 = .ok (.aload_n 0, 1) := dk_42 (dk_at dksL_law_79 10 rfl rfl)
theorem dL_law_2023 : decode cL_law 2023 = .ok (.iload 5, 2) := dk_21 5 (dk_at dksL_law_79 11 rfl rfl)
theorem dL_law_2025 : decode cL_law 2025 = .ok (.iconst 1, 1) := dk_4 (dk_at dksL_law_79 13 rfl rfl)
theorem dL_law_2026 : decode cL_law 2026 = .ok (.iadd, 1) := dk_96 (dk_at dksL_law_79 14 rfl rfl)
theorem dL_law_2027 : decode cL_law 2027 = .ok (.iaload, 1) := dk_46 (dk_at dksL_law_79 15 rfl rfl)
theorem dL_law_2028 : decode cL_law 2028 = .ok (.aload_n 0, 1) := dk_42 (dk_at dksL_law_79 16 rfl rfl)
theorem dL_law_2029 : decode cL_law 2029 = .ok (.iload 5, 2) := dk_21 5 (dk_at dksL_law_79 17 rfl rfl)
theorem dL_law_2031 : decode cL_law 2031 = .ok (.iconst 2, 1) := dk_5 (dk_at dksL_law_79 19 rfl rfl)
theorem dL_law_2032 : decode cL_law 2032 = .ok (.iadd, 1) := dk_96 (dk_at dksL_law_79 20 rfl rfl)
theorem dL_law_2033 : decode cL_law 2033 = .ok (.iaload, 1) := dk_46 (dk_at dksL_law_79 21 rfl rfl)
theorem dL_law_2034 : decode cL_law 2034 = .ok (.invokevirtual 242, 3) := dk_182 0 242 (dk_at dksL_law_80 0 rfl rfl)
theorem dL_law_2037 : decode cL_law 2037 = .ok (.istore 7, 2) := dk_54 7 (dk_at dksL_law_80 3 rfl rfl)
theorem dL_law_2039 : decode cL_law 2039 = .ok (.aload_n 2, 1) := dk_44 (dk_at dksL_law_80 5 rfl rfl)
theorem dL_law_2040 : decode cL_law 2040 = .ok (.invokevirtual 129, 3) := dk_182 0 129 (dk_at dksL_law_80 6 rfl rfl)
theorem dL_law_2043 : decode cL_law 2043 = .ok (.iload 6, 2) := dk_21 6 (dk_at dksL_law_80 9 rfl rfl)
theorem dL_law_2045 : decode cL_law 2045 = .ok (.if_icmp .eq 5, 3) := dk_159 0 5 (dk_at dksL_law_80 11 rfl rfl)
theorem dL_law_2048 : decode cL_law 2048 = .ok (.iconst 0, 1) := dk_3 (dk_at dksL_law_80 14 rfl rfl)
theorem dL_law_2049 : decode cL_law 2049 = .ok (.ireturn, 1) := dk_172 (dk_at dksL_law_80 15 rfl rfl)
theorem dL_law_2050 : decode cL_law 2050 = .ok (.iload 6, 2) := dk_21 6 (dk_at dksL_law_80 16 rfl rfl)
theorem dL_law_2052 : decode cL_law 2052 = .ok (.ifCond .ne 15, 3) := dk_154 0 15 (dk_at dksL_law_80 18 rfl rfl)
theorem dL_law_2055 : decode cL_law 2055 = .ok (.aload_n 3, 1) := dk_45 (dk_at dksL_law_80 21 rfl rfl)
theorem dL_law_2056 : decode cL_law 2056 = .ok (.iconst 0, 1) := dk_3 (dk_at dksL_law_80 22 rfl rfl)
theorem dL_law_2057 : decode cL_law 2057 = .ok (.laload, 1) := dk_47 (dk_at dksL_law_80 23 rfl rfl)
theorem dL_law_2058 : decode cL_law 2058 = .ok (.iload 7, 2) := dk_21 7 (dk_at dksL_law_81 0 rfl rfl)
theorem dL_law_2060 : decode cL_law 2060 = .ok (.i2l, 1) := dk_133 (dk_at dksL_law_81 2 rfl rfl)
theorem dL_law_2061 : decode cL_law 2061 = .ok (.lcmp, 1) := dk_148 (dk_at dksL_law_81 3 rfl rfl)
theorem dL_law_2062 : decode cL_law 2062 = .ok (.ifCond .eq 5, 3) := dk_153 0 5 (dk_at dksL_law_81 4 rfl rfl)
theorem dL_law_2065 : decode cL_law 2065 = .ok (.iconst 0, 1) := dk_3 (dk_at dksL_law_81 7 rfl rfl)
theorem dL_law_2066 : decode cL_law 2066 = .ok (.ireturn, 1) := dk_172 (dk_at dksL_law_81 8 rfl rfl)
theorem dL_law_2067 : decode cL_law 2067 = .ok (.goto 387, 3) := dk_167 1 131 (dk_at dksL_law_81 9 rfl rfl)
theorem dL_law_2070 : decode cL_law 2070 = .ok (.aload_n 1, 1) := dk_43 (dk_at dksL_law_81 12 rfl rfl)
theorem dL_law_2071 : decode cL_law 2071 = .ok (.invokevirtual 243, 3) := dk_182 0 243 (dk_at dksL_law_81 13 rfl rfl)
theorem dL_law_2074 : decode cL_law 2074 = .ok (.aload_n 2, 1) := dk_44 (dk_at dksL_law_81 16 rfl rfl)
theorem dL_law_2075 : decode cL_law 2075 = .ok (.invokevirtual 246, 3) := dk_182 0 246 (dk_at dksL_law_81 17 rfl rfl)
theorem dL_law_2078 : decode cL_law 2078 = .ok (.if_icmp .eq 376, 3) := dk_159 1 120 (dk_at dksL_law_81 20 rfl rfl)
theorem dL_law_2081 : decode cL_law 2081 = .ok (.iconst 0, 1) := dk_3 (dk_at dksL_law_81 23 rfl rfl)
theorem dL_law_2082 : decode cL_law 2082 = .ok (.ireturn, 1) := dk_172 (dk_at dksL_law_82 0 rfl rfl)
theorem dL_law_2083 : decode cL_law 2083 = .ok (.aload_n 1, 1) := dk_43 (dk_at dksL_law_82 1 rfl rfl)
theorem dL_law_2084 : decode cL_law 2084 = .ok (.aload_n 0, 1) := dk_42 (dk_at dksL_law_82 2 rfl rfl)
theorem dL_law_2085 : decode cL_law 2085 = .ok (.iload 5, 2) := dk_21 5 (dk_at dksL_law_82 3 rfl rfl)
theorem dL_law_2087 : decode cL_law 2087 = .ok (.iconst 1, 1) := dk_4 (dk_at dksL_law_82 5 rfl rfl)
theorem dL_law_2088 : decode cL_law 2088 = .ok (.iadd, 1) := dk_96 (dk_at dksL_law_82 6 rfl rfl)
theorem dL_law_2089 : decode cL_law 2089 = .ok (.iaload, 1) := dk_46 (dk_at dksL_law_82 7 rfl rfl)
theorem dL_law_2090 : decode cL_law 2090 = .ok (.aload_n 0, 1) := dk_42 (dk_at dksL_law_82 8 rfl rfl)
theorem dL_law_2091 : decode cL_law 2091 = .ok (.iload 5, 2) := dk_21 5 (dk_at dksL_law_82 9 rfl rfl)
theorem dL_law_2093 : decode cL_law 2093 = .ok (.iconst 2, 1) := dk_5 (dk_at dksL_law_82 11 rfl rfl)
theorem dL_law_2094 : decode cL_law 2094 = .ok (.iadd, 1) := dk_96 (dk_at dksL_law_82 12 rfl rfl)
theorem dL_law_2095 : decode cL_law 2095 = .ok (.iaload, 1) := dk_46 (dk_at dksL_law_82 13 rfl rfl)
theorem dL_law_2096 : decode cL_law 2096 = .ok (.aload_n 3, 1) := dk_45 (dk_at dksL_law_82 14 rfl rfl)
theorem dL_law_2097 : decode cL_law 2097 = .ok (.invokestatic 247, 3) := dk_184 0 247 (dk_at dksL_law_82 15 rfl rfl)
theorem dL_law_2100 : decode cL_law 2100 = .ok (.istore 6, 2) := dk_54 6 (dk_at dksL_law_82 18 rfl rfl)
theorem dL_law_2102 : decode cL_law 2102 = .ok (.aload_n 2, 1) := dk_44 (dk_at dksL_law_82 20 rfl rfl)
theorem dL_law_2103 : decode cL_law 2103 = .ok (.aload_n 0, 1) := dk_42 (dk_at dksL_law_82 21 rfl rfl)
theorem dL_law_2104 : decode cL_law 2104 = .ok (.iload 5, 2) := dk_21 5 (dk_at dksL_law_82 22 rfl rfl)
theorem dL_law_2106 : decode cL_law 2106 = .ok (.iconst 1, 1) := dk_4 (dk_at dksL_law_83 0 rfl rfl)
theorem dL_law_2107 : decode cL_law 2107 = .ok (.iadd, 1) := dk_96 (dk_at dksL_law_83 1 rfl rfl)
theorem dL_law_2108 : decode cL_law 2108 = .ok (.iaload, 1) := dk_46 (dk_at dksL_law_83 2 rfl rfl)
theorem dL_law_2109 : decode cL_law 2109 = .ok (.aload_n 0, 1) := dk_42 (dk_at dksL_law_83 3 rfl rfl)
theorem dL_law_2110 : decode cL_law 2110 = .ok (.iload 5, 2) := dk_21 5 (dk_at dksL_law_83 4 rfl rfl)
theorem dL_law_2112 : decode cL_law 2112 = .ok (.iconst 2, 1) := dk_5 (dk_at dksL_law_83 6 rfl rfl)
theorem dL_law_2113 : decode cL_law 2113 = .ok (.iadd, 1) := dk_96 (dk_at dksL_law_83 7 rfl rfl)
theorem dL_law_2114 : decode cL_law 2114 = .ok (.iaload, 1) := dk_46 (dk_at dksL_law_83 8 rfl rfl)
theorem dL_law_2115 : decode cL_law 2115 = .ok (.invokevirtual 249, 3) := dk_182 0 249 (dk_at dksL_law_83 9 rfl rfl)
theorem dL_law_2118 : decode cL_law 2118 = .ok (.istore 7, 2) := dk_54 7 (dk_at dksL_law_83 12 rfl rfl)
theorem dL_law_2120 : decode cL_law 2120 = .ok (.aload_n 2, 1) := dk_44 (dk_at dksL_law_83 14 rfl rfl)
theorem dL_law_2121 : decode cL_law 2121 = .ok (.invokevirtual 129, 3) := dk_182 0 129 (dk_at dksL_law_83 15 rfl rfl)
theorem dL_law_2124 : decode cL_law 2124 = .ok (.iload 6, 2) := dk_21 6 (dk_at dksL_law_83 18 rfl rfl)
theorem dL_law_2126 : decode cL_law 2126 = .ok (.if_icmp .eq 5, 3) := dk_159 0 5 (dk_at dksL_law_83 20 rfl rfl)
theorem dL_law_2129 : decode cL_law 2129 = .ok (.iconst 0, 1) := dk_3 (dk_at dksL_law_83 23 rfl rfl)
theorem dL_law_2130 : decode cL_law 2130 = .ok (.ireturn, 1) := dk_172 (dk_at dksL_law_84 0 rfl rfl)
theorem dL_law_2131 : decode cL_law 2131 = .ok (.iload 6, 2) := dk_21 6 (dk_at dksL_law_84 1 rfl rfl)
theorem dL_law_2133 : decode cL_law 2133 = .ok (.ifCond .ne 15, 3) := dk_154 0 15 (dk_at dksL_law_84 3 rfl rfl)
theorem dL_law_2136 : decode cL_law 2136 = .ok (.aload_n 3, 1) := dk_45 (dk_at dksL_law_84 6 rfl rfl)
theorem dL_law_2137 : decode cL_law 2137 = .ok (.iconst 0, 1) := dk_3 (dk_at dksL_law_84 7 rfl rfl)
theorem dL_law_2138 : decode cL_law 2138 = .ok (.laload, 1) := dk_47 (dk_at dksL_law_84 8 rfl rfl)
theorem dL_law_2139 : decode cL_law 2139 = .ok (.iload 7, 2) := dk_21 7 (dk_at dksL_law_84 9 rfl rfl)
theorem dL_law_2141 : decode cL_law 2141 = .ok (.i2l, 1) := dk_133 (dk_at dksL_law_84 11 rfl rfl)
theorem dL_law_2142 : decode cL_law 2142 = .ok (.lcmp, 1) := dk_148 (dk_at dksL_law_84 12 rfl rfl)
theorem dL_law_2143 : decode cL_law 2143 = .ok (.ifCond .eq 5, 3) := dk_153 0 5 (dk_at dksL_law_84 13 rfl rfl)
theorem dL_law_2146 : decode cL_law 2146 = .ok (.iconst 0, 1) := dk_3 (dk_at dksL_law_84 16 rfl rfl)
theorem dL_law_2147 : decode cL_law 2147 = .ok (.ireturn, 1) := dk_172 (dk_at dksL_law_84 17 rfl rfl)
theorem dL_law_2148 : decode cL_law 2148 = .ok (.goto 306, 3) := dk_167 1 50 (dk_at dksL_law_84 18 rfl rfl)
theorem dL_law_2151 : decode cL_law 2151 = .ok (.aload_n 1, 1) := dk_43 (dk_at dksL_law_84 21 rfl rfl)
theorem dL_law_2152 : decode cL_law 2152 = .ok (.aload_n 0, 1) := dk_42 (dk_at dksL_law_84 22 rfl rfl)
theorem dL_law_2153 : decode cL_law 2153 = .ok (.iload 5, 2) := dk_21 5 (dk_at dksL_law_85 0 rfl rfl)
theorem dL_law_2155 : decode cL_law 2155 = .ok (.iconst 1, 1) := dk_4 (dk_at dksL_law_85 2 rfl rfl)
theorem dL_law_2156 : decode cL_law 2156 = .ok (.iadd, 1) := dk_96 (dk_at dksL_law_85 3 rfl rfl)
theorem dL_law_2157 : decode cL_law 2157 = .ok (.iaload, 1) := dk_46 (dk_at dksL_law_85 4 rfl rfl)
theorem dL_law_2158 : decode cL_law 2158 = .ok (.aload_n 3, 1) := dk_45 (dk_at dksL_law_85 5 rfl rfl)
theorem dL_law_2159 : decode cL_law 2159 = .ok (.invokestatic 250, 3) := dk_184 0 250 (dk_at dksL_law_85 6 rfl rfl)
theorem dL_law_2162 : decode cL_law 2162 = .ok (.istore 6, 2) := dk_54 6 (dk_at dksL_law_85 9 rfl rfl)
theorem dL_law_2164 : decode cL_law 2164 = .ok (.aload_n 2, 1) := dk_44 (dk_at dksL_law_85 11 rfl rfl)
theorem dL_law_2165 : decode cL_law 2165 = .ok (.aload_n 0, 1) := dk_42 (dk_at dksL_law_85 12 rfl rfl)
theorem dL_law_2166 : decode cL_law 2166 = .ok (.iload 5, 2) := dk_21 5 (dk_at dksL_law_85 13 rfl rfl)
theorem dL_law_2168 : decode cL_law 2168 = .ok (.iconst 1, 1) := dk_4 (dk_at dksL_law_85 15 rfl rfl)
theorem dL_law_2169 : decode cL_law 2169 = .ok (.iadd, 1) := dk_96 (dk_at dksL_law_85 16 rfl rfl)
theorem dL_law_2170 : decode cL_law 2170 = .ok (.iaload, 1) := dk_46 (dk_at dksL_law_85 17 rfl rfl)
theorem dL_law_2171 : decode cL_law 2171 = .ok (.invokevirtual 252, 3) := dk_182 0 252 (dk_at dksL_law_85 18 rfl rfl)
theorem dL_law_2174 : decode cL_law 2174 = .ok (.istore 7, 2) := dk_54 7 (dk_at dksL_law_85 21 rfl rfl)
theorem dL_law_2176 : decode cL_law 2176 = .ok (.aload_n 2, 1) := dk_44 (dk_at dksL_law_85 23 rfl rfl)
theorem dL_law_2177 : decode cL_law 2177 = .ok (.invokevirtual 129, 3) := dk_182 0 129 (dk_at dksL_law_86 0 rfl rfl)
theorem dL_law_2180 : decode cL_law 2180 = .ok (.iload 6, 2) := dk_21 6 (dk_at dksL_law_86 3 rfl rfl)
theorem dL_law_2182 : decode cL_law 2182 = .ok (.if_icmp .eq 5, 3) := dk_159 0 5 (dk_at dksL_law_86 5 rfl rfl)
theorem dL_law_2185 : decode cL_law 2185 = .ok (.iconst 0, 1) := dk_3 (dk_at dksL_law_86 8 rfl rfl)
theorem dL_law_2186 : decode cL_law 2186 = .ok (.ireturn, 1) := dk_172 (dk_at dksL_law_86 9 rfl rfl)
theorem dL_law_2187 : decode cL_law 2187 = .ok (.iload 6, 2) := dk_21 6 (dk_at dksL_law_86 10 rfl rfl)
theorem dL_law_2189 : decode cL_law 2189 = .ok (.ifCond .ne 15, 3) := dk_154 0 15 (dk_at dksL_law_86 12 rfl rfl)
theorem dL_law_2192 : decode cL_law 2192 = .ok (.aload_n 3, 1) := dk_45 (dk_at dksL_law_86 15 rfl rfl)
theorem dL_law_2193 : decode cL_law 2193 = .ok (.iconst 0, 1) := dk_3 (dk_at dksL_law_86 16 rfl rfl)
theorem dL_law_2194 : decode cL_law 2194 = .ok (.laload, 1) := dk_47 (dk_at dksL_law_86 17 rfl rfl)
theorem dL_law_2195 : decode cL_law 2195 = .ok (.iload 7, 2) := dk_21 7 (dk_at dksL_law_86 18 rfl rfl)
theorem dL_law_2197 : decode cL_law 2197 = .ok (.i2l, 1) := dk_133 (dk_at dksL_law_86 20 rfl rfl)
theorem dL_law_2198 : decode cL_law 2198 = .ok (.lcmp, 1) := dk_148 (dk_at dksL_law_86 21 rfl rfl)
theorem dL_law_2199 : decode cL_law 2199 = .ok (.ifCond .eq 5, 3) := dk_153 0 5 (dk_at dksL_law_87 0 rfl rfl)
theorem dL_law_2202 : decode cL_law 2202 = .ok (.iconst 0, 1) := dk_3 (dk_at dksL_law_87 3 rfl rfl)
theorem dL_law_2203 : decode cL_law 2203 = .ok (.ireturn, 1) := dk_172 (dk_at dksL_law_87 4 rfl rfl)
theorem dL_law_2204 : decode cL_law 2204 = .ok (.goto 250, 3) := dk_167 0 250 (dk_at dksL_law_87 5 rfl rfl)
theorem dL_law_2207 : decode cL_law 2207 = .ok (.aload_n 1, 1) := dk_43 (dk_at dksL_law_87 8 rfl rfl)
theorem dL_law_2208 : decode cL_law 2208 = .ok (.aload_n 0, 1) := dk_42 (dk_at dksL_law_87 9 rfl rfl)
theorem dL_law_2209 : decode cL_law 2209 = .ok (.iload 5, 2) := dk_21 5 (dk_at dksL_law_87 10 rfl rfl)
theorem dL_law_2211 : decode cL_law 2211 = .ok (.iconst 1, 1) := dk_4 (dk_at dksL_law_87 12 rfl rfl)
theorem dL_law_2212 : decode cL_law 2212 = .ok (.iadd, 1) := dk_96 (dk_at dksL_law_87 13 rfl rfl)
theorem dL_law_2213 : decode cL_law 2213 = .ok (.iaload, 1) := dk_46 (dk_at dksL_law_87 14 rfl rfl)
theorem dL_law_2214 : decode cL_law 2214 = .ok (.aload_n 0, 1) := dk_42 (dk_at dksL_law_87 15 rfl rfl)
theorem dL_law_2215 : decode cL_law 2215 = .ok (.iload 5, 2) := dk_21 5 (dk_at dksL_law_87 16 rfl rfl)
theorem dL_law_2217 : decode cL_law 2217 = .ok (.iconst 2, 1) := dk_5 (dk_at dksL_law_87 18 rfl rfl)
theorem dL_law_2218 : decode cL_law 2218 = .ok (.iadd, 1) := dk_96 (dk_at dksL_law_87 19 rfl rfl)
theorem dL_law_2219 : decode cL_law 2219 = .ok (.iaload, 1) := dk_46 (dk_at dksL_law_87 20 rfl rfl)
theorem dL_law_2220 : decode cL_law 2220 = .ok (.aload_n 3, 1) := dk_45 (dk_at dksL_law_87 21 rfl rfl)
theorem dL_law_2221 : decode cL_law 2221 = .ok (.invokestatic 253, 3) := dk_184 0 253 (dk_at dksL_law_88 0 rfl rfl)
theorem dL_law_2224 : decode cL_law 2224 = .ok (.istore 6, 2) := dk_54 6 (dk_at dksL_law_88 3 rfl rfl)
theorem dL_law_2226 : decode cL_law 2226 = .ok (.aload_n 2, 1) := dk_44 (dk_at dksL_law_88 5 rfl rfl)
theorem dL_law_2227 : decode cL_law 2227 = .ok (.aload_n 0, 1) := dk_42 (dk_at dksL_law_88 6 rfl rfl)
theorem dL_law_2228 : decode cL_law 2228 = .ok (.iload 5, 2) := dk_21 5 (dk_at dksL_law_88 7 rfl rfl)
theorem dL_law_2230 : decode cL_law 2230 = .ok (.iconst 1, 1) := dk_4 (dk_at dksL_law_88 9 rfl rfl)
theorem dL_law_2231 : decode cL_law 2231 = .ok (.iadd, 1) := dk_96 (dk_at dksL_law_88 10 rfl rfl)
theorem dL_law_2232 : decode cL_law 2232 = .ok (.iaload, 1) := dk_46 (dk_at dksL_law_88 11 rfl rfl)
theorem dL_law_2233 : decode cL_law 2233 = .ok (.aload_n 0, 1) := dk_42 (dk_at dksL_law_88 12 rfl rfl)
theorem dL_law_2234 : decode cL_law 2234 = .ok (.iload 5, 2) := dk_21 5 (dk_at dksL_law_88 13 rfl rfl)
theorem dL_law_2236 : decode cL_law 2236 = .ok (.iconst 2, 1) := dk_5 (dk_at dksL_law_88 15 rfl rfl)
theorem dL_law_2237 : decode cL_law 2237 = .ok (.iadd, 1) := dk_96 (dk_at dksL_law_88 16 rfl rfl)
theorem dL_law_2238 : decode cL_law 2238 = .ok (.iaload, 1) := dk_46 (dk_at dksL_law_88 17 rfl rfl)
theorem dL_law_2239 : decode cL_law 2239 = .ok (.invokevirtual 255, 3) := dk_182 0 255 (dk_at dksL_law_88 18 rfl rfl)
theorem dL_law_2242 : decode cL_law 2242 = .ok (.istore 7, 2) := dk_54 7 (dk_at dksL_law_88 21 rfl rfl)
theorem dL_law_2244 : decode cL_law 2244 = .ok (.aload_n 2, 1) := dk_44 (dk_at dksL_law_88 23 rfl rfl)
theorem dL_law_2245 : decode cL_law 2245 = .ok (.invokevirtual 129, 3) := dk_182 0 129 (dk_at dksL_law_89 0 rfl rfl)
theorem dL_law_2248 : decode cL_law 2248 = .ok (.iload 6, 2) := dk_21 6 (dk_at dksL_law_89 3 rfl rfl)
theorem dL_law_2250 : decode cL_law 2250 = .ok (.if_icmp .eq 5, 3) := dk_159 0 5 (dk_at dksL_law_89 5 rfl rfl)
theorem dL_law_2253 : decode cL_law 2253 = .ok (.iconst 0, 1) := dk_3 (dk_at dksL_law_89 8 rfl rfl)
theorem dL_law_2254 : decode cL_law 2254 = .ok (.ireturn, 1) := dk_172 (dk_at dksL_law_89 9 rfl rfl)
theorem dL_law_2255 : decode cL_law 2255 = .ok (.iload 6, 2) := dk_21 6 (dk_at dksL_law_89 10 rfl rfl)
theorem dL_law_2257 : decode cL_law 2257 = .ok (.ifCond .ne 15, 3) := dk_154 0 15 (dk_at dksL_law_89 12 rfl rfl)
theorem dL_law_2260 : decode cL_law 2260 = .ok (.aload_n 3, 1) := dk_45 (dk_at dksL_law_89 15 rfl rfl)
theorem dL_law_2261 : decode cL_law 2261 = .ok (.iconst 0, 1) := dk_3 (dk_at dksL_law_89 16 rfl rfl)
theorem dL_law_2262 : decode cL_law 2262 = .ok (.laload, 1) := dk_47 (dk_at dksL_law_89 17 rfl rfl)
theorem dL_law_2263 : decode cL_law 2263 = .ok (.iload 7, 2) := dk_21 7 (dk_at dksL_law_89 18 rfl rfl)
theorem dL_law_2265 : decode cL_law 2265 = .ok (.i2l, 1) := dk_133 (dk_at dksL_law_89 20 rfl rfl)
theorem dL_law_2266 : decode cL_law 2266 = .ok (.lcmp, 1) := dk_148 (dk_at dksL_law_89 21 rfl rfl)
theorem dL_law_2267 : decode cL_law 2267 = .ok (.ifCond .eq 5, 3) := dk_153 0 5 (dk_at dksL_law_90 0 rfl rfl)
theorem dL_law_2270 : decode cL_law 2270 = .ok (.iconst 0, 1) := dk_3 (dk_at dksL_law_90 3 rfl rfl)
theorem dL_law_2271 : decode cL_law 2271 = .ok (.ireturn, 1) := dk_172 (dk_at dksL_law_90 4 rfl rfl)
theorem dL_law_2272 : decode cL_law 2272 = .ok (.goto 182, 3) := dk_167 0 182 (dk_at dksL_law_90 5 rfl rfl)
theorem dL_law_2275 : decode cL_law 2275 = .ok (.aload_n 1, 1) := dk_43 (dk_at dksL_law_90 8 rfl rfl)
theorem dL_law_2276 : decode cL_law 2276 = .ok (.aload_n 0, 1) := dk_42 (dk_at dksL_law_90 9 rfl rfl)
theorem dL_law_2277 : decode cL_law 2277 = .ok (.iload 5, 2) := dk_21 5 (dk_at dksL_law_90 10 rfl rfl)
theorem dL_law_2279 : decode cL_law 2279 = .ok (.iconst 1, 1) := dk_4 (dk_at dksL_law_90 12 rfl rfl)
theorem dL_law_2280 : decode cL_law 2280 = .ok (.iadd, 1) := dk_96 (dk_at dksL_law_90 13 rfl rfl)
theorem dL_law_2281 : decode cL_law 2281 = .ok (.iaload, 1) := dk_46 (dk_at dksL_law_90 14 rfl rfl)
theorem dL_law_2282 : decode cL_law 2282 = .ok (.aload_n 3, 1) := dk_45 (dk_at dksL_law_90 15 rfl rfl)
theorem dL_law_2283 : decode cL_law 2283 = .ok (.invokestatic 256, 3) := dk_184 1 0 (dk_at dksL_law_90 16 rfl rfl)
theorem dL_law_2286 : decode cL_law 2286 = .ok (.istore 6, 2) := dk_54 6 (dk_at dksL_law_90 19 rfl rfl)
theorem dL_law_2288 : decode cL_law 2288 = .ok (.aload_n 2, 1) := dk_44 (dk_at dksL_law_90 21 rfl rfl)
theorem dL_law_2289 : decode cL_law 2289 = .ok (.aload_n 0, 1) := dk_42 (dk_at dksL_law_90 22 rfl rfl)
theorem dL_law_2290 : decode cL_law 2290 = .ok (.iload 5, 2) := dk_21 5 (dk_at dksL_law_91 0 rfl rfl)
theorem dL_law_2292 : decode cL_law 2292 = .ok (.iconst 1, 1) := dk_4 (dk_at dksL_law_91 2 rfl rfl)
theorem dL_law_2293 : decode cL_law 2293 = .ok (.iadd, 1) := dk_96 (dk_at dksL_law_91 3 rfl rfl)
theorem dL_law_2294 : decode cL_law 2294 = .ok (.iaload, 1) := dk_46 (dk_at dksL_law_91 4 rfl rfl)
theorem dL_law_2295 : decode cL_law 2295 = .ok (.invokevirtual 258, 3) := dk_182 1 2 (dk_at dksL_law_91 5 rfl rfl)
theorem dL_law_2298 : decode cL_law 2298 = .ok (.istore 7, 2) := dk_54 7 (dk_at dksL_law_91 8 rfl rfl)
theorem dL_law_2300 : decode cL_law 2300 = .ok (.aload_n 2, 1) := dk_44 (dk_at dksL_law_91 10 rfl rfl)
theorem dL_law_2301 : decode cL_law 2301 = .ok (.invokevirtual 129, 3) := dk_182 0 129 (dk_at dksL_law_91 11 rfl rfl)
theorem dL_law_2304 : decode cL_law 2304 = .ok (.iload 6, 2) := dk_21 6 (dk_at dksL_law_91 14 rfl rfl)
theorem dL_law_2306 : decode cL_law 2306 = .ok (.if_icmp .eq 5, 3) := dk_159 0 5 (dk_at dksL_law_91 16 rfl rfl)
theorem dL_law_2309 : decode cL_law 2309 = .ok (.iconst 0, 1) := dk_3 (dk_at dksL_law_91 19 rfl rfl)
theorem dL_law_2310 : decode cL_law 2310 = .ok (.ireturn, 1) := dk_172 (dk_at dksL_law_91 20 rfl rfl)
theorem dL_law_2311 : decode cL_law 2311 = .ok (.iload 6, 2) := dk_21 6 (dk_at dksL_law_91 21 rfl rfl)
theorem dL_law_2313 : decode cL_law 2313 = .ok (.ifCond .ne 15, 3) := dk_154 0 15 (dk_at dksL_law_92 0 rfl rfl)
theorem dL_law_2316 : decode cL_law 2316 = .ok (.aload_n 3, 1) := dk_45 (dk_at dksL_law_92 3 rfl rfl)
theorem dL_law_2317 : decode cL_law 2317 = .ok (.iconst 0, 1) := dk_3 (dk_at dksL_law_92 4 rfl rfl)
theorem dL_law_2318 : decode cL_law 2318 = .ok (.laload, 1) := dk_47 (dk_at dksL_law_92 5 rfl rfl)
theorem dL_law_2319 : decode cL_law 2319 = .ok (.iload 7, 2) := dk_21 7 (dk_at dksL_law_92 6 rfl rfl)
theorem dL_law_2321 : decode cL_law 2321 = .ok (.i2l, 1) := dk_133 (dk_at dksL_law_92 8 rfl rfl)
theorem dL_law_2322 : decode cL_law 2322 = .ok (.lcmp, 1) := dk_148 (dk_at dksL_law_92 9 rfl rfl)
theorem dL_law_2323 : decode cL_law 2323 = .ok (.ifCond .eq 5, 3) := dk_153 0 5 (dk_at dksL_law_92 10 rfl rfl)
theorem dL_law_2326 : decode cL_law 2326 = .ok (.iconst 0, 1) := dk_3 (dk_at dksL_law_92 13 rfl rfl)
theorem dL_law_2327 : decode cL_law 2327 = .ok (.ireturn, 1) := dk_172 (dk_at dksL_law_92 14 rfl rfl)
theorem dL_law_2328 : decode cL_law 2328 = .ok (.goto 126, 3) := dk_167 0 126 (dk_at dksL_law_92 15 rfl rfl)
theorem dL_law_2331 : decode cL_law 2331 = .ok (.aload_n 1, 1) := dk_43 (dk_at dksL_law_92 18 rfl rfl)
theorem dL_law_2332 : decode cL_law 2332 = .ok (.invokevirtual 259, 3) := dk_182 1 3 (dk_at dksL_law_92 19 rfl rfl)
theorem dL_law_2335 : decode cL_law 2335 = .ok (.aload_n 2, 1) := dk_44 (dk_at dksL_law_92 22 rfl rfl)
theorem dL_law_2336 : decode cL_law 2336 = .ok (.invokevirtual 262, 3) := dk_182 1 6 (dk_at dksL_law_93 0 rfl rfl)
theorem dL_law_2339 : decode cL_law 2339 = .ok (.if_icmp .eq 115, 3) := dk_159 0 115 (dk_at dksL_law_93 3 rfl rfl)
theorem dL_law_2342 : decode cL_law 2342 = .ok (.iconst 0, 1) := dk_3 (dk_at dksL_law_93 6 rfl rfl)
theorem dL_law_2343 : decode cL_law 2343 = .ok (.ireturn, 1) := dk_172 (dk_at dksL_law_93 7 rfl rfl)
theorem dL_law_2344 : decode cL_law 2344 = .ok (.aload_n 1, 1) := dk_43 (dk_at dksL_law_93 8 rfl rfl)
theorem dL_law_2345 : decode cL_law 2345 = .ok (.aload_n 0, 1) := dk_42 (dk_at dksL_law_93 9 rfl rfl)
theorem dL_law_2346 : decode cL_law 2346 = .ok (.iload 5, 2) := dk_21 5 (dk_at dksL_law_93 10 rfl rfl)
theorem dL_law_2348 : decode cL_law 2348 = .ok (.iconst 1, 1) := dk_4 (dk_at dksL_law_93 12 rfl rfl)
theorem dL_law_2349 : decode cL_law 2349 = .ok (.iadd, 1) := dk_96 (dk_at dksL_law_93 13 rfl rfl)
theorem dL_law_2350 : decode cL_law 2350 = .ok (.iaload, 1) := dk_46 (dk_at dksL_law_93 14 rfl rfl)
theorem dL_law_2351 : decode cL_law 2351 = .ok (.invokevirtual 263, 3) := dk_182 1 7 (dk_at dksL_law_93 15 rfl rfl)
theorem dL_law_2354 : decode cL_law 2354 = .ok (.aload_n 2, 1) := dk_44 (dk_at dksL_law_93 18 rfl rfl)
theorem dL_law_2355 : decode cL_law 2355 = .ok (.aload_n 0, 1) := dk_42 (dk_at dksL_law_93 19 rfl rfl)
theorem dL_law_2356 : decode cL_law 2356 = .ok (.iload 5, 2) := dk_21 5 (dk_at dksL_law_93 20 rfl rfl)
theorem dL_law_2358 : decode cL_law 2358 = .ok (.iconst 1, 1) := dk_4 (dk_at dksL_law_93 22 rfl rfl)
theorem dL_law_2359 : decode cL_law 2359 = .ok (.iadd, 1) := dk_96 (dk_at dksL_law_93 23 rfl rfl)
theorem dL_law_2360 : decode cL_law 2360 = .ok (.iaload, 1) := dk_46 (dk_at dksL_law_94 0 rfl rfl)
theorem dL_law_2361 : decode cL_law 2361 = .ok (.invokevirtual 266, 3) := dk_182 1 10 (dk_at dksL_law_94 1 rfl rfl)
theorem dL_law_2364 : decode cL_law 2364 = .ok (.if_icmp .eq 90, 3) := dk_159 0 90 (dk_at dksL_law_94 4 rfl rfl)
theorem dL_law_2367 : decode cL_law 2367 = .ok (.iconst 0, 1) := dk_3 (dk_at dksL_law_94 7 rfl rfl)
theorem dL_law_2368 : decode cL_law 2368 = .ok (.ireturn, 1) := dk_172 (dk_at dksL_law_94 8 rfl rfl)
theorem dL_law_2369 : decode cL_law 2369 = .ok (.aload_n 1, 1) := dk_43 (dk_at dksL_law_94 9 rfl rfl)
theorem dL_law_2370 : decode cL_law 2370 = .ok (.invokevirtual 267, 3) := dk_182 1 11 (dk_at dksL_law_94 10 rfl rfl)
theorem dL_law_2373 : decode cL_law 2373 = .ok (.aload_n 2, 1) := dk_44 (dk_at dksL_law_94 13 rfl rfl)
theorem dL_law_2374 : decode cL_law 2374 = .ok (.invokevirtual 270, 3) := dk_182 1 14 (dk_at dksL_law_94 14 rfl rfl)
theorem dL_law_2377 : decode cL_law 2377 = .ok (.if_icmp .eq 77, 3) := dk_159 0 77 (dk_at dksL_law_94 17 rfl rfl)
theorem dL_law_2380 : decode cL_law 2380 = .ok (.iconst 0, 1) := dk_3 (dk_at dksL_law_94 20 rfl rfl)
theorem dL_law_2381 : decode cL_law 2381 = .ok (.ireturn, 1) := dk_172 (dk_at dksL_law_94 21 rfl rfl)
theorem dL_law_2382 : decode cL_law 2382 = .ok (.aload_n 1, 1) := dk_43 (dk_at dksL_law_94 22 rfl rfl)
theorem dL_law_2383 : decode cL_law 2383 = .ok (.aload_n 0, 1) := dk_42 (dk_at dksL_law_94 23 rfl rfl)
theorem dL_law_2384 : decode cL_law 2384 = .ok (.iload 5, 2) := dk_21 5 (dk_at dksL_law_95 0 rfl rfl)
theorem dL_law_2386 : decode cL_law 2386 = .ok (.iconst 1, 1) := dk_4 (dk_at dksL_law_95 2 rfl rfl)
theorem dL_law_2387 : decode cL_law 2387 = .ok (.iadd, 1) := dk_96 (dk_at dksL_law_95 3 rfl rfl)
theorem dL_law_2388 : decode cL_law 2388 = .ok (.iaload, 1) := dk_46 (dk_at dksL_law_95 4 rfl rfl)
theorem dL_law_2389 : decode cL_law 2389 = .ok (.invokestatic 271, 3) := dk_184 1 15 (dk_at dksL_law_95 5 rfl rfl)
theorem dL_law_2392 : decode cL_law 2392 = .ok (.istore 6, 2) := dk_54 6 (dk_at dksL_law_95 8 rfl rfl)
theorem dL_law_2394 : decode cL_law 2394 = .ok (.aload_n 2, 1) := dk_44 (dk_at dksL_law_95 10 rfl rfl)
theorem dL_law_2395 : decode cL_law 2395 = .ok (.aload_n 0, 1) := dk_42 (dk_at dksL_law_95 11 rfl rfl)
theorem dL_law_2396 : decode cL_law 2396 = .ok (.iload 5, 2) := dk_21 5 (dk_at dksL_law_95 12 rfl rfl)
theorem dL_law_2398 : decode cL_law 2398 = .ok (.iconst 1, 1) := dk_4 (dk_at dksL_law_95 14 rfl rfl)
theorem dL_law_2399 : decode cL_law 2399 = .ok (.iadd, 1) := dk_96 (dk_at dksL_law_95 15 rfl rfl)
theorem dL_law_2400 : decode cL_law 2400 = .ok (.iaload, 1) := dk_46 (dk_at dksL_law_95 16 rfl rfl)
theorem dL_law_2401 : decode cL_law 2401 = .ok (.invokevirtual 274, 3) := dk_182 1 18 (dk_at dksL_law_95 17 rfl rfl)
theorem dL_law_2404 : decode cL_law 2404 = .ok (.aload_n 2, 1) := dk_44 (dk_at dksL_law_95 20 rfl rfl)
theorem dL_law_2405 : decode cL_law 2405 = .ok (.invokevirtual 129, 3) := dk_182 0 129 (dk_at dksL_law_95 21 rfl rfl)
theorem dL_law_2408 : decode cL_law 2408 = .ok (.iload 6, 2) := dk_21 6 (dk_at dksL_law_96 0 rfl rfl)
theorem dL_law_2410 : decode cL_law 2410 = .ok (.if_icmp .eq 5, 3) := dk_159 0 5 (dk_at dksL_law_96 2 rfl rfl)
theorem dL_law_2413 : decode cL_law 2413 = .ok (.iconst 0, 1) := dk_3 (dk_at dksL_law_96 5 rfl rfl)
theorem dL_law_2414 : decode cL_law 2414 = .ok (.ireturn, 1) := dk_172 (dk_at dksL_law_96 6 rfl rfl)
theorem dL_law_2415 : decode cL_law 2415 = .ok (.goto 39, 3) := dk_167 0 39 (dk_at dksL_law_96 7 rfl rfl)
theorem dL_law_2418 : decode cL_law 2418 = .ok (.aload_n 1, 1) := dk_43 (dk_at dksL_law_96 10 rfl rfl)
theorem dL_law_2419 : decode cL_law 2419 = .ok (.aload_n 0, 1) := dk_42 (dk_at dksL_law_96 11 rfl rfl)
theorem dL_law_2420 : decode cL_law 2420 = .ok (.iload 5, 2) := dk_21 5 (dk_at dksL_law_96 12 rfl rfl)
theorem dL_law_2422 : decode cL_law 2422 = .ok (.iconst 1, 1) := dk_4 (dk_at dksL_law_96 14 rfl rfl)
theorem dL_law_2423 : decode cL_law 2423 = .ok (.iadd, 1) := dk_96 (dk_at dksL_law_96 15 rfl rfl)
theorem dL_law_2424 : decode cL_law 2424 = .ok (.iaload, 1) := dk_46 (dk_at dksL_law_96 16 rfl rfl)
theorem dL_law_2425 : decode cL_law 2425 = .ok (.invokestatic 275, 3) := dk_184 1 19 (dk_at dksL_law_96 17 rfl rfl)
theorem dL_law_2428 : decode cL_law 2428 = .ok (.istore 6, 2) := dk_54 6 (dk_at dksL_law_96 20 rfl rfl)
theorem dL_law_2430 : decode cL_law 2430 = .ok (.aload_n 2, 1) := dk_44 (dk_at dksL_law_96 22 rfl rfl)
theorem dL_law_2431 : decode cL_law 2431 = .ok (.aload_n 0, 1) := dk_42 (dk_at dksL_law_96 23 rfl rfl)
theorem dL_law_2432 : decode cL_law 2432 = .ok (.iload 5, 2) := dk_21 5 (dk_at dksL_law_97 0 rfl rfl)
theorem dL_law_2434 : decode cL_law 2434 = .ok (.iconst 1, 1) := dk_4 (dk_at dksL_law_97 2 rfl rfl)
theorem dL_law_2435 : decode cL_law 2435 = .ok (.iadd, 1) := dk_96 (dk_at dksL_law_97 3 rfl rfl)
theorem dL_law_2436 : decode cL_law 2436 = .ok (.iaload, 1) := dk_46 (dk_at dksL_law_97 4 rfl rfl)
theorem dL_law_2437 : decode cL_law 2437 = .ok (.invokevirtual 277, 3) := dk_182 1 21 (dk_at dksL_law_97 5 rfl rfl)
theorem dL_law_2440 : decode cL_law 2440 = .ok (.aload_n 2, 1) := dk_44 (dk_at dksL_law_97 8 rfl rfl)
theorem dL_law_2441 : decode cL_law 2441 = .ok (.invokevirtual 129, 3) := dk_182 0 129 (dk_at dksL_law_97 9 rfl rfl)
theorem dL_law_2444 : decode cL_law 2444 = .ok (.iload 6, 2) := dk_21 6 (dk_at dksL_law_97 12 rfl rfl)
theorem dL_law_2446 : decode cL_law 2446 = .ok (.if_icmp .eq 5, 3) := dk_159 0 5 (dk_at dksL_law_97 14 rfl rfl)
theorem dL_law_2449 : decode cL_law 2449 = .ok (.iconst 0, 1) := dk_3 (dk_at dksL_law_97 17 rfl rfl)
theorem dL_law_2450 : decode cL_law 2450 = .ok (.ireturn, 1) := dk_172 (dk_at dksL_law_97 18 rfl rfl)
theorem dL_law_2451 : decode cL_law 2451 = .ok (.goto 3, 3) := dk_167 0 3 (dk_at dksL_law_97 19 rfl rfl)
theorem dL_law_2454 : decode cL_law 2454 = .ok (.iinc 5 4, 3) := dk_132 5 4 (dk_at dksL_law_98 0 rfl rfl)
theorem dL_law_2457 : decode cL_law 2457 = .ok (.goto (-2429), 3) := dk_167 246 131 (dk_at dksL_law_98 3 rfl rfl)
theorem dL_law_2460 : decode cL_law 2460 = .ok (.iconst 1, 1) := dk_4 (dk_at dksL_law_98 6 rfl rfl)
theorem dL_law_2461 : decode cL_law 2461 = .ok (.ireturn, 1) := dk_172 (dk_at dksL_law_98 7 rfl rfl)
