/-! ErrataPressLaw (printed by gen_m.py) -/
set_option maxRecDepth 100000
abbrev cX0_house : ByteArray := method_3_code
def yX0_house : MethodName := ⟨RX0, "house", "(LErrataPress;I[J)I"⟩
def dkwX0_house_0 : List UInt8 := [44, 3, 42, 27, 182, 0, 7, 133, 80, 167, 0, 9, 78, 4, 172, 78, 5, 172, 3, 172]
abbrev dktX0_house_0 : List UInt8 := dkwX0_house_0 ++ []
theorem dksX0_house_0 : cX0_house.data.toList.drop 0 = dktX0_house_0 := by decide +kernel
theorem dX0_house_0 : decode cX0_house 0 = .ok (.aload_n 2, 1) := dk_44 (dk_at dksX0_house_0 0 rfl rfl)
theorem dX0_house_1 : decode cX0_house 1 = .ok (.iconst 0, 1) := dk_3 (dk_at dksX0_house_0 1 rfl rfl)
theorem dX0_house_2 : decode cX0_house 2 = .ok (.aload_n 0, 1) := dk_42 (dk_at dksX0_house_0 2 rfl rfl)
theorem dX0_house_3 : decode cX0_house 3 = .ok (.iload_n 1, 1) := dk_27 (dk_at dksX0_house_0 3 rfl rfl)
theorem dX0_house_4 : decode cX0_house 4 = .ok (.invokevirtual 7, 3) := dk_182 0 7 (dk_at dksX0_house_0 4 rfl rfl)
theorem dX0_house_7 : decode cX0_house 7 = .ok (.i2l, 1) := dk_133 (dk_at dksX0_house_0 7 rfl rfl)
theorem dX0_house_8 : decode cX0_house 8 = .ok (.lastore, 1) := dk_80 (dk_at dksX0_house_0 8 rfl rfl)
theorem dX0_house_9 : decode cX0_house 9 = .ok (.goto 9, 3) := dk_167 0 9 (dk_at dksX0_house_0 9 rfl rfl)
theorem dX0_house_12 : decode cX0_house 12 = .ok (.astore_n 3, 1) := dk_78 (dk_at dksX0_house_0 12 rfl rfl)
theorem dX0_house_13 : decode cX0_house 13 = .ok (.iconst 1, 1) := dk_4 (dk_at dksX0_house_0 13 rfl rfl)
theorem dX0_house_14 : decode cX0_house 14 = .ok (.ireturn, 1) := dk_172 (dk_at dksX0_house_0 14 rfl rfl)
theorem dX0_house_15 : decode cX0_house 15 = .ok (.astore_n 3, 1) := dk_78 (dk_at dksX0_house_0 15 rfl rfl)
theorem dX0_house_16 : decode cX0_house 16 = .ok (.iconst 2, 1) := dk_5 (dk_at dksX0_house_0 16 rfl rfl)
theorem dX0_house_17 : decode cX0_house 17 = .ok (.ireturn, 1) := dk_172 (dk_at dksX0_house_0 17 rfl rfl)
theorem dX0_house_18 : decode cX0_house 18 = .ok (.iconst 0, 1) := dk_3 (dk_at dksX0_house_0 18 rfl rfl)
theorem dX0_house_19 : decode cX0_house 19 = .ok (.ireturn, 1) := dk_172 (dk_at dksX0_house_0 19 rfl rfl)
abbrev cX0_sheet : ByteArray := method_4_code
def yX0_sheet : MethodName := ⟨RX0, "sheet", "(LErrataPress;II[J)I"⟩
def dkwX0_sheet_1 : List UInt8 := [172, 3, 172]
abbrev dktX0_sheet_1 : List UInt8 := dkwX0_sheet_1 ++ []
def dkwX0_sheet_0 : List UInt8 := [45, 3, 42, 27, 28, 182, 0, 17, 133, 80, 167, 0, 15, 58, 4, 4, 172, 58, 4, 5, 172, 58, 4, 6]
abbrev dktX0_sheet_0 : List UInt8 := dkwX0_sheet_0 ++ dktX0_sheet_1
theorem dksX0_sheet_0 : cX0_sheet.data.toList.drop 0 = dktX0_sheet_0 := by decide +kernel
theorem dksX0_sheet_1 : cX0_sheet.data.toList.drop 24 = dktX0_sheet_1 := dk_seg dksX0_sheet_0 24 rfl rfl
theorem dX0_sheet_0 : decode cX0_sheet 0 = .ok (.aload_n 3, 1) := dk_45 (dk_at dksX0_sheet_0 0 rfl rfl)
theorem dX0_sheet_1 : decode cX0_sheet 1 = .ok (.iconst 0, 1) := dk_3 (dk_at dksX0_sheet_0 1 rfl rfl)
theorem dX0_sheet_2 : decode cX0_sheet 2 = .ok (.aload_n 0, 1) := dk_42 (dk_at dksX0_sheet_0 2 rfl rfl)
theorem dX0_sheet_3 : decode cX0_sheet 3 = .ok (.iload_n 1, 1) := dk_27 (dk_at dksX0_sheet_0 3 rfl rfl)
theorem dX0_sheet_4 : decode cX0_sheet 4 = .ok (.iload_n 2, 1) := dk_28 (dk_at dksX0_sheet_0 4 rfl rfl)
theorem dX0_sheet_5 : decode cX0_sheet 5 = .ok (.invokevirtual 17, 3) := dk_182 0 17 (dk_at dksX0_sheet_0 5 rfl rfl)
theorem dX0_sheet_8 : decode cX0_sheet 8 = .ok (.i2l, 1) := dk_133 (dk_at dksX0_sheet_0 8 rfl rfl)
theorem dX0_sheet_9 : decode cX0_sheet 9 = .ok (.lastore, 1) := dk_80 (dk_at dksX0_sheet_0 9 rfl rfl)
theorem dX0_sheet_10 : decode cX0_sheet 10 = .ok (.goto 15, 3) := dk_167 0 15 (dk_at dksX0_sheet_0 10 rfl rfl)
theorem dX0_sheet_13 : decode cX0_sheet 13 = .ok (.astore 4, 2) := dk_58 4 (dk_at dksX0_sheet_0 13 rfl rfl)
theorem dX0_sheet_15 : decode cX0_sheet 15 = .ok (.iconst 1, 1) := dk_4 (dk_at dksX0_sheet_0 15 rfl rfl)
theorem dX0_sheet_16 : decode cX0_sheet 16 = .ok (.ireturn, 1) := dk_172 (dk_at dksX0_sheet_0 16 rfl rfl)
theorem dX0_sheet_17 : decode cX0_sheet 17 = .ok (.astore 4, 2) := dk_58 4 (dk_at dksX0_sheet_0 17 rfl rfl)
theorem dX0_sheet_19 : decode cX0_sheet 19 = .ok (.iconst 2, 1) := dk_5 (dk_at dksX0_sheet_0 19 rfl rfl)
theorem dX0_sheet_20 : decode cX0_sheet 20 = .ok (.ireturn, 1) := dk_172 (dk_at dksX0_sheet_0 20 rfl rfl)
theorem dX0_sheet_21 : decode cX0_sheet 21 = .ok (.astore 4, 2) := dk_58 4 (dk_at dksX0_sheet_0 21 rfl rfl)
theorem dX0_sheet_23 : decode cX0_sheet 23 = .ok (.iconst 3, 1) := dk_6 (dk_at dksX0_sheet_0 23 rfl rfl)
theorem dX0_sheet_24 : decode cX0_sheet 24 = .ok (.ireturn, 1) := dk_172 (dk_at dksX0_sheet_1 0 rfl rfl)
theorem dX0_sheet_25 : decode cX0_sheet 25 = .ok (.iconst 0, 1) := dk_3 (dk_at dksX0_sheet_1 1 rfl rfl)
theorem dX0_sheet_26 : decode cX0_sheet 26 = .ok (.ireturn, 1) := dk_172 (dk_at dksX0_sheet_1 2 rfl rfl)
abbrev cX0_take : ByteArray := method_5_code
def yX0_take : MethodName := ⟨RX0, "take", "(LErrataPress;I[J)I"⟩
def dkwX0_take_0 : List UInt8 := [44, 3, 42, 27, 182, 0, 23, 133, 80, 167, 0, 6, 78, 4, 172, 3, 172]
abbrev dktX0_take_0 : List UInt8 := dkwX0_take_0 ++ []
theorem dksX0_take_0 : cX0_take.data.toList.drop 0 = dktX0_take_0 := by decide +kernel
theorem dX0_take_0 : decode cX0_take 0 = .ok (.aload_n 2, 1) := dk_44 (dk_at dksX0_take_0 0 rfl rfl)
theorem dX0_take_1 : decode cX0_take 1 = .ok (.iconst 0, 1) := dk_3 (dk_at dksX0_take_0 1 rfl rfl)
theorem dX0_take_2 : decode cX0_take 2 = .ok (.aload_n 0, 1) := dk_42 (dk_at dksX0_take_0 2 rfl rfl)
theorem dX0_take_3 : decode cX0_take 3 = .ok (.iload_n 1, 1) := dk_27 (dk_at dksX0_take_0 3 rfl rfl)
theorem dX0_take_4 : decode cX0_take 4 = .ok (.invokevirtual 23, 3) := dk_182 0 23 (dk_at dksX0_take_0 4 rfl rfl)
theorem dX0_take_7 : decode cX0_take 7 = .ok (.i2l, 1) := dk_133 (dk_at dksX0_take_0 7 rfl rfl)
theorem dX0_take_8 : decode cX0_take 8 = .ok (.lastore, 1) := dk_80 (dk_at dksX0_take_0 8 rfl rfl)
theorem dX0_take_9 : decode cX0_take 9 = .ok (.goto 6, 3) := dk_167 0 6 (dk_at dksX0_take_0 9 rfl rfl)
theorem dX0_take_12 : decode cX0_take 12 = .ok (.astore_n 3, 1) := dk_78 (dk_at dksX0_take_0 12 rfl rfl)
theorem dX0_take_13 : decode cX0_take 13 = .ok (.iconst 1, 1) := dk_4 (dk_at dksX0_take_0 13 rfl rfl)
theorem dX0_take_14 : decode cX0_take 14 = .ok (.ireturn, 1) := dk_172 (dk_at dksX0_take_0 14 rfl rfl)
theorem dX0_take_15 : decode cX0_take 15 = .ok (.iconst 0, 1) := dk_3 (dk_at dksX0_take_0 15 rfl rfl)
theorem dX0_take_16 : decode cX0_take 16 = .ok (.ireturn, 1) := dk_172 (dk_at dksX0_take_0 16 rfl rfl)
abbrev cX0_set : ByteArray := method_6_code
def yX0_set : MethodName := ⟨RX0, "set", "(LErrataPress;IIC[J)I"⟩
def dkwX0_set_1 : List UInt8 := [58, 5, 6, 172, 3, 172]
abbrev dktX0_set_1 : List UInt8 := dkwX0_set_1 ++ []
def dkwX0_set_0 : List UInt8 := [25, 4, 3, 42, 27, 28, 29, 182, 0, 26, 133, 80, 167, 0, 15, 58, 5, 4, 172, 58, 5, 5, 172]
abbrev dktX0_set_0 : List UInt8 := dkwX0_set_0 ++ dktX0_set_1
theorem dksX0_set_0 : cX0_set.data.toList.drop 0 = dktX0_set_0 := by decide +kernel
theorem dksX0_set_1 : cX0_set.data.toList.drop 23 = dktX0_set_1 := dk_seg dksX0_set_0 23 rfl rfl
theorem dX0_set_0 : decode cX0_set 0 = .ok (.aload 4, 2) := dk_25 4 (dk_at dksX0_set_0 0 rfl rfl)
theorem dX0_set_2 : decode cX0_set 2 = .ok (.iconst 0, 1) := dk_3 (dk_at dksX0_set_0 2 rfl rfl)
theorem dX0_set_3 : decode cX0_set 3 = .ok (.aload_n 0, 1) := dk_42 (dk_at dksX0_set_0 3 rfl rfl)
theorem dX0_set_4 : decode cX0_set 4 = .ok (.iload_n 1, 1) := dk_27 (dk_at dksX0_set_0 4 rfl rfl)
theorem dX0_set_5 : decode cX0_set 5 = .ok (.iload_n 2, 1) := dk_28 (dk_at dksX0_set_0 5 rfl rfl)
theorem dX0_set_6 : decode cX0_set 6 = .ok (.iload_n 3, 1) := dk_29 (dk_at dksX0_set_0 6 rfl rfl)
theorem dX0_set_7 : decode cX0_set 7 = .ok (.invokevirtual 26, 3) := dk_182 0 26 (dk_at dksX0_set_0 7 rfl rfl)
theorem dX0_set_10 : decode cX0_set 10 = .ok (.i2l, 1) := dk_133 (dk_at dksX0_set_0 10 rfl rfl)
theorem dX0_set_11 : decode cX0_set 11 = .ok (.lastore, 1) := dk_80 (dk_at dksX0_set_0 11 rfl rfl)
theorem dX0_set_12 : decode cX0_set 12 = .ok (.goto 15, 3) := dk_167 0 15 (dk_at dksX0_set_0 12 rfl rfl)
theorem dX0_set_15 : decode cX0_set 15 = .ok (.astore 5, 2) := dk_58 5 (dk_at dksX0_set_0 15 rfl rfl)
theorem dX0_set_17 : decode cX0_set 17 = .ok (.iconst 1, 1) := dk_4 (dk_at dksX0_set_0 17 rfl rfl)
theorem dX0_set_18 : decode cX0_set 18 = .ok (.ireturn, 1) := dk_172 (dk_at dksX0_set_0 18 rfl rfl)
theorem dX0_set_19 : decode cX0_set 19 = .ok (.astore 5, 2) := dk_58 5 (dk_at dksX0_set_0 19 rfl rfl)
theorem dX0_set_21 : decode cX0_set 21 = .ok (.iconst 2, 1) := dk_5 (dk_at dksX0_set_0 21 rfl rfl)
theorem dX0_set_22 : decode cX0_set 22 = .ok (.ireturn, 1) := dk_172 (dk_at dksX0_set_0 22 rfl rfl)
theorem dX0_set_23 : decode cX0_set 23 = .ok (.astore 5, 2) := dk_58 5 (dk_at dksX0_set_1 0 rfl rfl)
theorem dX0_set_25 : decode cX0_set 25 = .ok (.iconst 3, 1) := dk_6 (dk_at dksX0_set_1 2 rfl rfl)
theorem dX0_set_26 : decode cX0_set 26 = .ok (.ireturn, 1) := dk_172 (dk_at dksX0_set_1 3 rfl rfl)
theorem dX0_set_27 : decode cX0_set 27 = .ok (.iconst 0, 1) := dk_3 (dk_at dksX0_set_1 4 rfl rfl)
theorem dX0_set_28 : decode cX0_set 28 = .ok (.ireturn, 1) := dk_172 (dk_at dksX0_set_1 5 rfl rfl)
abbrev cX0_license : ByteArray := method_7_code
def yX0_license : MethodName := ⟨RX0, "license", "(LErrataPress;II[J)I"⟩
def dkwX0_license_0 : List UInt8 := [45, 3, 42, 27, 28, 182, 0, 30, 133, 80, 167, 0, 11, 58, 4, 4, 172, 58, 4, 5, 172, 3, 172]
abbrev dktX0_license_0 : List UInt8 := dkwX0_license_0 ++ []
theorem dksX0_license_0 : cX0_license.data.toList.drop 0 = dktX0_license_0 := by decide +kernel
theorem dX0_license_0 : decode cX0_license 0 = .ok (.aload_n 3, 1) := dk_45 (dk_at dksX0_license_0 0 rfl rfl)
theorem dX0_license_1 : decode cX0_license 1 = .ok (.iconst 0, 1) := dk_3 (dk_at dksX0_license_0 1 rfl rfl)
theorem dX0_license_2 : decode cX0_license 2 = .ok (.aload_n 0, 1) := dk_42 (dk_at dksX0_license_0 2 rfl rfl)
theorem dX0_license_3 : decode cX0_license 3 = .ok (.iload_n 1, 1) := dk_27 (dk_at dksX0_license_0 3 rfl rfl)
theorem dX0_license_4 : decode cX0_license 4 = .ok (.iload_n 2, 1) := dk_28 (dk_at dksX0_license_0 4 rfl rfl)
theorem dX0_license_5 : decode cX0_license 5 = .ok (.invokevirtual 30, 3) := dk_182 0 30 (dk_at dksX0_license_0 5 rfl rfl)
theorem dX0_license_8 : decode cX0_license 8 = .ok (.i2l, 1) := dk_133 (dk_at dksX0_license_0 8 rfl rfl)
theorem dX0_license_9 : decode cX0_license 9 = .ok (.lastore, 1) := dk_80 (dk_at dksX0_license_0 9 rfl rfl)
theorem dX0_license_10 : decode cX0_license 10 = .ok (.goto 11, 3) := dk_167 0 11 (dk_at dksX0_license_0 10 rfl rfl)
theorem dX0_license_13 : decode cX0_license 13 = .ok (.astore 4, 2) := dk_58 4 (dk_at dksX0_license_0 13 rfl rfl)
theorem dX0_license_15 : decode cX0_license 15 = .ok (.iconst 1, 1) := dk_4 (dk_at dksX0_license_0 15 rfl rfl)
theorem dX0_license_16 : decode cX0_license 16 = .ok (.ireturn, 1) := dk_172 (dk_at dksX0_license_0 16 rfl rfl)
theorem dX0_license_17 : decode cX0_license 17 = .ok (.astore 4, 2) := dk_58 4 (dk_at dksX0_license_0 17 rfl rfl)
theorem dX0_license_19 : decode cX0_license 19 = .ok (.iconst 2, 1) := dk_5 (dk_at dksX0_license_0 19 rfl rfl)
theorem dX0_license_20 : decode cX0_license 20 = .ok (.ireturn, 1) := dk_172 (dk_at dksX0_license_0 20 rfl rfl)
theorem dX0_license_21 : decode cX0_license 21 = .ok (.iconst 0, 1) := dk_3 (dk_at dksX0_license_0 21 rfl rfl)
theorem dX0_license_22 : decode cX0_license 22 = .ok (.ireturn, 1) := dk_172 (dk_at dksX0_license_0 22 rfl rfl)
abbrev cX0_correct : ByteArray := method_8_code
def yX0_correct : MethodName := ⟨RX0, "correct", "(LErrataPress;II[J)I"⟩
def dkwX0_correct_0 : List UInt8 := [45, 3, 42, 27, 28, 182, 0, 33, 133, 80, 167, 0, 11, 58, 4, 4, 172, 58, 4, 5, 172, 3, 172]
abbrev dktX0_correct_0 : List UInt8 := dkwX0_correct_0 ++ []
theorem dksX0_correct_0 : cX0_correct.data.toList.drop 0 = dktX0_correct_0 := by decide +kernel
theorem dX0_correct_0 : decode cX0_correct 0 = .ok (.aload_n 3, 1) := dk_45 (dk_at dksX0_correct_0 0 rfl rfl)
theorem dX0_correct_1 : decode cX0_correct 1 = .ok (.iconst 0, 1) := dk_3 (dk_at dksX0_correct_0 1 rfl rfl)
theorem dX0_correct_2 : decode cX0_correct 2 = .ok (.aload_n 0, 1) := dk_42 (dk_at dksX0_correct_0 2 rfl rfl)
theorem dX0_correct_3 : decode cX0_correct 3 = .ok (.iload_n 1, 1) := dk_27 (dk_at dksX0_correct_0 3 rfl rfl)
theorem dX0_correct_4 : decode cX0_correct 4 = .ok (.iload_n 2, 1) := dk_28 (dk_at dksX0_correct_0 4 rfl rfl)
theorem dX0_correct_5 : decode cX0_correct 5 = .ok (.invokevirtual 33, 3) := dk_182 0 33 (dk_at dksX0_correct_0 5 rfl rfl)
theorem dX0_correct_8 : decode cX0_correct 8 = .ok (.i2l, 1) := dk_133 (dk_at dksX0_correct_0 8 rfl rfl)
theorem dX0_correct_9 : decode cX0_correct 9 = .ok (.lastore, 1) := dk_80 (dk_at dksX0_correct_0 9 rfl rfl)
theorem dX0_correct_10 : decode cX0_correct 10 = .ok (.goto 11, 3) := dk_167 0 11 (dk_at dksX0_correct_0 10 rfl rfl)
theorem dX0_correct_13 : decode cX0_correct 13 = .ok (.astore 4, 2) := dk_58 4 (dk_at dksX0_correct_0 13 rfl rfl)
theorem dX0_correct_15 : decode cX0_correct 15 = .ok (.iconst 1, 1) := dk_4 (dk_at dksX0_correct_0 15 rfl rfl)
theorem dX0_correct_16 : decode cX0_correct 16 = .ok (.ireturn, 1) := dk_172 (dk_at dksX0_correct_0 16 rfl rfl)
theorem dX0_correct_17 : decode cX0_correct 17 = .ok (.astore 4, 2) := dk_58 4 (dk_at dksX0_correct_0 17 rfl rfl)
theorem dX0_correct_19 : decode cX0_correct 19 = .ok (.iconst 2, 1) := dk_5 (dk_at dksX0_correct_0 19 rfl rfl)
theorem dX0_correct_20 : decode cX0_correct 20 = .ok (.ireturn, 1) := dk_172 (dk_at dksX0_correct_0 20 rfl rfl)
theorem dX0_correct_21 : decode cX0_correct 21 = .ok (.iconst 0, 1) := dk_3 (dk_at dksX0_correct_0 21 rfl rfl)
theorem dX0_correct_22 : decode cX0_correct 22 = .ok (.ireturn, 1) := dk_172 (dk_at dksX0_correct_0 22 rfl rfl)
abbrev cX0_reader : ByteArray := method_9_code
def yX0_reader : MethodName := ⟨RX0, "reader", "(LErrataPress;II[J)I"⟩
def dkwX0_reader_0 : List UInt8 := [45, 3, 42, 27, 28, 182, 0, 36, 133, 80, 167, 0, 11, 58, 4, 4, 172, 58, 4, 5, 172, 3, 172]
abbrev dktX0_reader_0 : List UInt8 := dkwX0_reader_0 ++ []
theorem dksX0_reader_0 : cX0_reader.data.toList.drop 0 = dktX0_reader_0 := by decide +kernel
theorem dX0_reader_0 : decode cX0_reader 0 = .ok (.aload_n 3, 1) := dk_45 (dk_at dksX0_reader_0 0 rfl rfl)
theorem dX0_reader_1 : decode cX0_reader 1 = .ok (.iconst 0, 1) := dk_3 (dk_at dksX0_reader_0 1 rfl rfl)
theorem dX0_reader_2 : decode cX0_reader 2 = .ok (.aload_n 0, 1) := dk_42 (dk_at dksX0_reader_0 2 rfl rfl)
theorem dX0_reader_3 : decode cX0_reader 3 = .ok (.iload_n 1, 1) := dk_27 (dk_at dksX0_reader_0 3 rfl rfl)
theorem dX0_reader_4 : decode cX0_reader 4 = .ok (.iload_n 2, 1) := dk_28 (dk_at dksX0_reader_0 4 rfl rfl)
theorem dX0_reader_5 : decode cX0_reader 5 = .ok (.invokevirtual 36, 3) := dk_182 0 36 (dk_at dksX0_reader_0 5 rfl rfl)
theorem dX0_reader_8 : decode cX0_reader 8 = .ok (.i2l, 1) := dk_133 (dk_at dksX0_reader_0 8 rfl rfl)
theorem dX0_reader_9 : decode cX0_reader 9 = .ok (.lastore, 1) := dk_80 (dk_at dksX0_reader_0 9 rfl rfl)
theorem dX0_reader_10 : decode cX0_reader 10 = .ok (.goto 11, 3) := dk_167 0 11 (dk_at dksX0_reader_0 10 rfl rfl)
theorem dX0_reader_13 : decode cX0_reader 13 = .ok (.astore 4, 2) := dk_58 4 (dk_at dksX0_reader_0 13 rfl rfl)
theorem dX0_reader_15 : decode cX0_reader 15 = .ok (.iconst 1, 1) := dk_4 (dk_at dksX0_reader_0 15 rfl rfl)
theorem dX0_reader_16 : decode cX0_reader 16 = .ok (.ireturn, 1) := dk_172 (dk_at dksX0_reader_0 16 rfl rfl)
theorem dX0_reader_17 : decode cX0_reader 17 = .ok (.astore 4, 2) := dk_58 4 (dk_at dksX0_reader_0 17 rfl rfl)
theorem dX0_reader_19 : decode cX0_reader 19 = .ok (.iconst 2, 1) := dk_5 (dk_at dksX0_reader_0 19 rfl rfl)
theorem dX0_reader_20 : decode cX0_reader 20 = .ok (.ireturn, 1) := dk_172 (dk_at dksX0_reader_0 20 rfl rfl)
theorem dX0_reader_21 : decode cX0_reader 21 = .ok (.iconst 0, 1) := dk_3 (dk_at dksX0_reader_0 21 rfl rfl)
theorem dX0_reader_22 : decode cX0_reader 22 = .ok (.ireturn, 1) := dk_172 (dk_at dksX0_reader_0 22 rfl rfl)
abbrev cX0_edition : ByteArray := method_10_code
def yX0_edition : MethodName := ⟨RX0, "edition", "(LErrataPress;[J)I"⟩
def dkwX0_edition_0 : List UInt8 := [43, 3, 42, 182, 0, 39, 133, 80, 167, 0, 6, 77, 4, 172, 3, 172]
abbrev dktX0_edition_0 : List UInt8 := dkwX0_edition_0 ++ []
theorem dksX0_edition_0 : cX0_edition.data.toList.drop 0 = dktX0_edition_0 := by decide +kernel
theorem dX0_edition_0 : decode cX0_edition 0 = .ok (.aload_n 1, 1) := dk_43 (dk_at dksX0_edition_0 0 rfl rfl)
theorem dX0_edition_1 : decode cX0_edition 1 = .ok (.iconst 0, 1) := dk_3 (dk_at dksX0_edition_0 1 rfl rfl)
theorem dX0_edition_2 : decode cX0_edition 2 = .ok (.aload_n 0, 1) := dk_42 (dk_at dksX0_edition_0 2 rfl rfl)
theorem dX0_edition_3 : decode cX0_edition 3 = .ok (.invokevirtual 39, 3) := dk_182 0 39 (dk_at dksX0_edition_0 3 rfl rfl)
theorem dX0_edition_6 : decode cX0_edition 6 = .ok (.i2l, 1) := dk_133 (dk_at dksX0_edition_0 6 rfl rfl)
theorem dX0_edition_7 : decode cX0_edition 7 = .ok (.lastore, 1) := dk_80 (dk_at dksX0_edition_0 7 rfl rfl)
theorem dX0_edition_8 : decode cX0_edition 8 = .ok (.goto 6, 3) := dk_167 0 6 (dk_at dksX0_edition_0 8 rfl rfl)
theorem dX0_edition_11 : decode cX0_edition 11 = .ok (.astore_n 2, 1) := dk_77 (dk_at dksX0_edition_0 11 rfl rfl)
theorem dX0_edition_12 : decode cX0_edition 12 = .ok (.iconst 1, 1) := dk_4 (dk_at dksX0_edition_0 12 rfl rfl)
theorem dX0_edition_13 : decode cX0_edition 13 = .ok (.ireturn, 1) := dk_172 (dk_at dksX0_edition_0 13 rfl rfl)
theorem dX0_edition_14 : decode cX0_edition 14 = .ok (.iconst 0, 1) := dk_3 (dk_at dksX0_edition_0 14 rfl rfl)
theorem dX0_edition_15 : decode cX0_edition 15 = .ok (.ireturn, 1) := dk_172 (dk_at dksX0_edition_0 15 rfl rfl)
abbrev cX0_houseOf : ByteArray := method_11_code
def yX0_houseOf : MethodName := ⟨RX0, "houseOf", "(LErrataPress;II[J)I"⟩
def dkwX0_houseOf_0 : List UInt8 := [45, 3, 42, 27, 28, 182, 0, 43, 133, 80, 167, 0, 11, 58, 4, 4, 172, 58, 4, 5, 172, 3, 172]
abbrev dktX0_houseOf_0 : List UInt8 := dkwX0_houseOf_0 ++ []
theorem dksX0_houseOf_0 : cX0_houseOf.data.toList.drop 0 = dktX0_houseOf_0 := by decide +kernel
theorem dX0_houseOf_0 : decode cX0_houseOf 0 = .ok (.aload_n 3, 1) := dk_45 (dk_at dksX0_houseOf_0 0 rfl rfl)
theorem dX0_houseOf_1 : decode cX0_houseOf 1 = .ok (.iconst 0, 1) := dk_3 (dk_at dksX0_houseOf_0 1 rfl rfl)
theorem dX0_houseOf_2 : decode cX0_houseOf 2 = .ok (.aload_n 0, 1) := dk_42 (dk_at dksX0_houseOf_0 2 rfl rfl)
theorem dX0_houseOf_3 : decode cX0_houseOf 3 = .ok (.iload_n 1, 1) := dk_27 (dk_at dksX0_houseOf_0 3 rfl rfl)
theorem dX0_houseOf_4 : decode cX0_houseOf 4 = .ok (.iload_n 2, 1) := dk_28 (dk_at dksX0_houseOf_0 4 rfl rfl)
theorem dX0_houseOf_5 : decode cX0_houseOf 5 = .ok (.invokevirtual 43, 3) := dk_182 0 43 (dk_at dksX0_houseOf_0 5 rfl rfl)
theorem dX0_houseOf_8 : decode cX0_houseOf 8 = .ok (.i2l, 1) := dk_133 (dk_at dksX0_houseOf_0 8 rfl rfl)
theorem dX0_houseOf_9 : decode cX0_houseOf 9 = .ok (.lastore, 1) := dk_80 (dk_at dksX0_houseOf_0 9 rfl rfl)
theorem dX0_houseOf_10 : decode cX0_houseOf 10 = .ok (.goto 11, 3) := dk_167 0 11 (dk_at dksX0_houseOf_0 10 rfl rfl)
theorem dX0_houseOf_13 : decode cX0_houseOf 13 = .ok (.astore 4, 2) := dk_58 4 (dk_at dksX0_houseOf_0 13 rfl rfl)
theorem dX0_houseOf_15 : decode cX0_houseOf 15 = .ok (.iconst 1, 1) := dk_4 (dk_at dksX0_houseOf_0 15 rfl rfl)
theorem dX0_houseOf_16 : decode cX0_houseOf 16 = .ok (.ireturn, 1) := dk_172 (dk_at dksX0_houseOf_0 16 rfl rfl)
theorem dX0_houseOf_17 : decode cX0_houseOf 17 = .ok (.astore 4, 2) := dk_58 4 (dk_at dksX0_houseOf_0 17 rfl rfl)
theorem dX0_houseOf_19 : decode cX0_houseOf 19 = .ok (.iconst 2, 1) := dk_5 (dk_at dksX0_houseOf_0 19 rfl rfl)
theorem dX0_houseOf_20 : decode cX0_houseOf 20 = .ok (.ireturn, 1) := dk_172 (dk_at dksX0_houseOf_0 20 rfl rfl)
theorem dX0_houseOf_21 : decode cX0_houseOf 21 = .ok (.iconst 0, 1) := dk_3 (dk_at dksX0_houseOf_0 21 rfl rfl)
theorem dX0_houseOf_22 : decode cX0_houseOf 22 = .ok (.ireturn, 1) := dk_172 (dk_at dksX0_houseOf_0 22 rfl rfl)
abbrev cX0_sheetOf : ByteArray := method_12_code
def yX0_sheetOf : MethodName := ⟨RX0, "sheetOf", "(LErrataPress;II[J)I"⟩
def dkwX0_sheetOf_0 : List UInt8 := [45, 3, 42, 27, 28, 182, 0, 46, 133, 80, 167, 0, 11, 58, 4, 4, 172, 58, 4, 5, 172, 3, 172]
abbrev dktX0_sheetOf_0 : List UInt8 := dkwX0_sheetOf_0 ++ []
theorem dksX0_sheetOf_0 : cX0_sheetOf.data.toList.drop 0 = dktX0_sheetOf_0 := by decide +kernel
theorem dX0_sheetOf_0 : decode cX0_sheetOf 0 = .ok (.aload_n 3, 1) := dk_45 (dk_at dksX0_sheetOf_0 0 rfl rfl)
theorem dX0_sheetOf_1 : decode cX0_sheetOf 1 = .ok (.iconst 0, 1) := dk_3 (dk_at dksX0_sheetOf_0 1 rfl rfl)
theorem dX0_sheetOf_2 : decode cX0_sheetOf 2 = .ok (.aload_n 0, 1) := dk_42 (dk_at dksX0_sheetOf_0 2 rfl rfl)
theorem dX0_sheetOf_3 : decode cX0_sheetOf 3 = .ok (.iload_n 1, 1) := dk_27 (dk_at dksX0_sheetOf_0 3 rfl rfl)
theorem dX0_sheetOf_4 : decode cX0_sheetOf 4 = .ok (.iload_n 2, 1) := dk_28 (dk_at dksX0_sheetOf_0 4 rfl rfl)
theorem dX0_sheetOf_5 : decode cX0_sheetOf 5 = .ok (.invokevirtual 46, 3) := dk_182 0 46 (dk_at dksX0_sheetOf_0 5 rfl rfl)
theorem dX0_sheetOf_8 : decode cX0_sheetOf 8 = .ok (.i2l, 1) := dk_133 (dk_at dksX0_sheetOf_0 8 rfl rfl)
theorem dX0_sheetOf_9 : decode cX0_sheetOf 9 = .ok (.lastore, 1) := dk_80 (dk_at dksX0_sheetOf_0 9 rfl rfl)
theorem dX0_sheetOf_10 : decode cX0_sheetOf 10 = .ok (.goto 11, 3) := dk_167 0 11 (dk_at dksX0_sheetOf_0 10 rfl rfl)
theorem dX0_sheetOf_13 : decode cX0_sheetOf 13 = .ok (.astore 4, 2) := dk_58 4 (dk_at dksX0_sheetOf_0 13 rfl rfl)
theorem dX0_sheetOf_15 : decode cX0_sheetOf 15 = .ok (.iconst 1, 1) := dk_4 (dk_at dksX0_sheetOf_0 15 rfl rfl)
theorem dX0_sheetOf_16 : decode cX0_sheetOf 16 = .ok (.ireturn, 1) := dk_172 (dk_at dksX0_sheetOf_0 16 rfl rfl)
theorem dX0_sheetOf_17 : decode cX0_sheetOf 17 = .ok (.astore 4, 2) := dk_58 4 (dk_at dksX0_sheetOf_0 17 rfl rfl)
theorem dX0_sheetOf_19 : decode cX0_sheetOf 19 = .ok (.iconst 2, 1) := dk_5 (dk_at dksX0_sheetOf_0 19 rfl rfl)
theorem dX0_sheetOf_20 : decode cX0_sheetOf 20 = .ok (.ireturn, 1) := dk_172 (dk_at dksX0_sheetOf_0 20 rfl rfl)
theorem dX0_sheetOf_21 : decode cX0_sheetOf 21 = .ok (.iconst 0, 1) := dk_3 (dk_at dksX0_sheetOf_0 21 rfl rfl)
theorem dX0_sheetOf_22 : decode cX0_sheetOf 22 = .ok (.ireturn, 1) := dk_172 (dk_at dksX0_sheetOf_0 22 rfl rfl)
abbrev cX0_letterAt : ByteArray := method_13_code
def yX0_letterAt : MethodName := ⟨RX0, "letterAt", "(LErrataPress;IIZ[J)I"⟩
def dkwX0_letterAt_0 : List UInt8 := [25, 4, 3, 42, 27, 28, 29, 182, 0, 49, 133, 80, 167, 0, 7, 58, 5, 4, 172, 3, 172]
abbrev dktX0_letterAt_0 : List UInt8 := dkwX0_letterAt_0 ++ []
theorem dksX0_letterAt_0 : cX0_letterAt.data.toList.drop 0 = dktX0_letterAt_0 := by decide +kernel
theorem dX0_letterAt_0 : decode cX0_letterAt 0 = .ok (.aload 4, 2) := dk_25 4 (dk_at dksX0_letterAt_0 0 rfl rfl)
theorem dX0_letterAt_2 : decode cX0_letterAt 2 = .ok (.iconst 0, 1) := dk_3 (dk_at dksX0_letterAt_0 2 rfl rfl)
theorem dX0_letterAt_3 : decode cX0_letterAt 3 = .ok (.aload_n 0, 1) := dk_42 (dk_at dksX0_letterAt_0 3 rfl rfl)
theorem dX0_letterAt_4 : decode cX0_letterAt 4 = .ok (.iload_n 1, 1) := dk_27 (dk_at dksX0_letterAt_0 4 rfl rfl)
theorem dX0_letterAt_5 : decode cX0_letterAt 5 = .ok (.iload_n 2, 1) := dk_28 (dk_at dksX0_letterAt_0 5 rfl rfl)
theorem dX0_letterAt_6 : decode cX0_letterAt 6 = .ok (.iload_n 3, 1) := dk_29 (dk_at dksX0_letterAt_0 6 rfl rfl)
theorem dX0_letterAt_7 : decode cX0_letterAt 7 = .ok (.invokevirtual 49, 3) := dk_182 0 49 (dk_at dksX0_letterAt_0 7 rfl rfl)
theorem dX0_letterAt_10 : decode cX0_letterAt 10 = .ok (.i2l, 1) := dk_133 (dk_at dksX0_letterAt_0 10 rfl rfl)
theorem dX0_letterAt_11 : decode cX0_letterAt 11 = .ok (.lastore, 1) := dk_80 (dk_at dksX0_letterAt_0 11 rfl rfl)
theorem dX0_letterAt_12 : decode cX0_letterAt 12 = .ok (.goto 7, 3) := dk_167 0 7 (dk_at dksX0_letterAt_0 12 rfl rfl)
theorem dX0_letterAt_15 : decode cX0_letterAt 15 = .ok (.astore 5, 2) := dk_58 5 (dk_at dksX0_letterAt_0 15 rfl rfl)
theorem dX0_letterAt_17 : decode cX0_letterAt 17 = .ok (.iconst 1, 1) := dk_4 (dk_at dksX0_letterAt_0 17 rfl rfl)
theorem dX0_letterAt_18 : decode cX0_letterAt 18 = .ok (.ireturn, 1) := dk_172 (dk_at dksX0_letterAt_0 18 rfl rfl)
theorem dX0_letterAt_19 : decode cX0_letterAt 19 = .ok (.iconst 0, 1) := dk_3 (dk_at dksX0_letterAt_0 19 rfl rfl)
theorem dX0_letterAt_20 : decode cX0_letterAt 20 = .ok (.ireturn, 1) := dk_172 (dk_at dksX0_letterAt_0 20 rfl rfl)
abbrev cX0_markAt : ByteArray := method_14_code
def yX0_markAt : MethodName := ⟨RX0, "markAt", "(LErrataPress;II[J)I"⟩
def dkwX0_markAt_0 : List UInt8 := [45, 3, 42, 27, 28, 182, 0, 53, 133, 80, 167, 0, 7, 58, 4, 4, 172, 3, 172]
abbrev dktX0_markAt_0 : List UInt8 := dkwX0_markAt_0 ++ []
theorem dksX0_markAt_0 : cX0_markAt.data.toList.drop 0 = dktX0_markAt_0 := by decide +kernel
theorem dX0_markAt_0 : decode cX0_markAt 0 = .ok (.aload_n 3, 1) := dk_45 (dk_at dksX0_markAt_0 0 rfl rfl)
theorem dX0_markAt_1 : decode cX0_markAt 1 = .ok (.iconst 0, 1) := dk_3 (dk_at dksX0_markAt_0 1 rfl rfl)
theorem dX0_markAt_2 : decode cX0_markAt 2 = .ok (.aload_n 0, 1) := dk_42 (dk_at dksX0_markAt_0 2 rfl rfl)
theorem dX0_markAt_3 : decode cX0_markAt 3 = .ok (.iload_n 1, 1) := dk_27 (dk_at dksX0_markAt_0 3 rfl rfl)
theorem dX0_markAt_4 : decode cX0_markAt 4 = .ok (.iload_n 2, 1) := dk_28 (dk_at dksX0_markAt_0 4 rfl rfl)
theorem dX0_markAt_5 : decode cX0_markAt 5 = .ok (.invokevirtual 53, 3) := dk_182 0 53 (dk_at dksX0_markAt_0 5 rfl rfl)
theorem dX0_markAt_8 : decode cX0_markAt 8 = .ok (.i2l, 1) := dk_133 (dk_at dksX0_markAt_0 8 rfl rfl)
theorem dX0_markAt_9 : decode cX0_markAt 9 = .ok (.lastore, 1) := dk_80 (dk_at dksX0_markAt_0 9 rfl rfl)
theorem dX0_markAt_10 : decode cX0_markAt 10 = .ok (.goto 7, 3) := dk_167 0 7 (dk_at dksX0_markAt_0 10 rfl rfl)
theorem dX0_markAt_13 : decode cX0_markAt 13 = .ok (.astore 4, 2) := dk_58 4 (dk_at dksX0_markAt_0 13 rfl rfl)
theorem dX0_markAt_15 : decode cX0_markAt 15 = .ok (.iconst 1, 1) := dk_4 (dk_at dksX0_markAt_0 15 rfl rfl)
theorem dX0_markAt_16 : decode cX0_markAt 16 = .ok (.ireturn, 1) := dk_172 (dk_at dksX0_markAt_0 16 rfl rfl)
theorem dX0_markAt_17 : decode cX0_markAt 17 = .ok (.iconst 0, 1) := dk_3 (dk_at dksX0_markAt_0 17 rfl rfl)
theorem dX0_markAt_18 : decode cX0_markAt 18 = .ok (.ireturn, 1) := dk_172 (dk_at dksX0_markAt_0 18 rfl rfl)
abbrev cX0_fine : ByteArray := method_15_code
def yX0_fine : MethodName := ⟨RX0, "fine", "(LErrataPress;IIZ[J)I"⟩
def dkwX0_fine_0 : List UInt8 := [25, 4, 3, 42, 27, 28, 29, 182, 0, 56, 133, 80, 167, 0, 7, 58, 5, 4, 172, 3, 172]
abbrev dktX0_fine_0 : List UInt8 := dkwX0_fine_0 ++ []
theorem dksX0_fine_0 : cX0_fine.data.toList.drop 0 = dktX0_fine_0 := by decide +kernel
theorem dX0_fine_0 : decode cX0_fine 0 = .ok (.aload 4, 2) := dk_25 4 (dk_at dksX0_fine_0 0 rfl rfl)
theorem dX0_fine_2 : decode cX0_fine 2 = .ok (.iconst 0, 1) := dk_3 (dk_at dksX0_fine_0 2 rfl rfl)
theorem dX0_fine_3 : decode cX0_fine 3 = .ok (.aload_n 0, 1) := dk_42 (dk_at dksX0_fine_0 3 rfl rfl)
theorem dX0_fine_4 : decode cX0_fine 4 = .ok (.iload_n 1, 1) := dk_27 (dk_at dksX0_fine_0 4 rfl rfl)
theorem dX0_fine_5 : decode cX0_fine 5 = .ok (.iload_n 2, 1) := dk_28 (dk_at dksX0_fine_0 5 rfl rfl)
theorem dX0_fine_6 : decode cX0_fine 6 = .ok (.iload_n 3, 1) := dk_29 (dk_at dksX0_fine_0 6 rfl rfl)
theorem dX0_fine_7 : decode cX0_fine 7 = .ok (.invokevirtual 56, 3) := dk_182 0 56 (dk_at dksX0_fine_0 7 rfl rfl)
theorem dX0_fine_10 : decode cX0_fine 10 = .ok (.i2l, 1) := dk_133 (dk_at dksX0_fine_0 10 rfl rfl)
theorem dX0_fine_11 : decode cX0_fine 11 = .ok (.lastore, 1) := dk_80 (dk_at dksX0_fine_0 11 rfl rfl)
theorem dX0_fine_12 : decode cX0_fine 12 = .ok (.goto 7, 3) := dk_167 0 7 (dk_at dksX0_fine_0 12 rfl rfl)
theorem dX0_fine_15 : decode cX0_fine 15 = .ok (.astore 5, 2) := dk_58 5 (dk_at dksX0_fine_0 15 rfl rfl)
theorem dX0_fine_17 : decode cX0_fine 17 = .ok (.iconst 1, 1) := dk_4 (dk_at dksX0_fine_0 17 rfl rfl)
theorem dX0_fine_18 : decode cX0_fine 18 = .ok (.ireturn, 1) := dk_172 (dk_at dksX0_fine_0 18 rfl rfl)
theorem dX0_fine_19 : decode cX0_fine 19 = .ok (.iconst 0, 1) := dk_3 (dk_at dksX0_fine_0 19 rfl rfl)
theorem dX0_fine_20 : decode cX0_fine 20 = .ok (.ireturn, 1) := dk_172 (dk_at dksX0_fine_0 20 rfl rfl)
abbrev cX0_fines : ByteArray := method_16_code
def yX0_fines : MethodName := ⟨RX0, "fines", "(LErrataPress;IZ[J)I"⟩
def dkwX0_fines_0 : List UInt8 := [45, 3, 42, 27, 28, 182, 0, 60, 133, 80, 167, 0, 7, 58, 4, 4, 172, 3, 172]
abbrev dktX0_fines_0 : List UInt8 := dkwX0_fines_0 ++ []
theorem dksX0_fines_0 : cX0_fines.data.toList.drop 0 = dktX0_fines_0 := by decide +kernel
theorem dX0_fines_0 : decode cX0_fines 0 = .ok (.aload_n 3, 1) := dk_45 (dk_at dksX0_fines_0 0 rfl rfl)
theorem dX0_fines_1 : decode cX0_fines 1 = .ok (.iconst 0, 1) := dk_3 (dk_at dksX0_fines_0 1 rfl rfl)
theorem dX0_fines_2 : decode cX0_fines 2 = .ok (.aload_n 0, 1) := dk_42 (dk_at dksX0_fines_0 2 rfl rfl)
theorem dX0_fines_3 : decode cX0_fines 3 = .ok (.iload_n 1, 1) := dk_27 (dk_at dksX0_fines_0 3 rfl rfl)
theorem dX0_fines_4 : decode cX0_fines 4 = .ok (.iload_n 2, 1) := dk_28 (dk_at dksX0_fines_0 4 rfl rfl)
theorem dX0_fines_5 : decode cX0_fines 5 = .ok (.invokevirtual 60, 3) := dk_182 0 60 (dk_at dksX0_fines_0 5 rfl rfl)
theorem dX0_fines_8 : decode cX0_fines 8 = .ok (.i2l, 1) := dk_133 (dk_at dksX0_fines_0 8 rfl rfl)
theorem dX0_fines_9 : decode cX0_fines 9 = .ok (.lastore, 1) := dk_80 (dk_at dksX0_fines_0 9 rfl rfl)
theorem dX0_fines_10 : decode cX0_fines 10 = .ok (.goto 7, 3) := dk_167 0 7 (dk_at dksX0_fines_0 10 rfl rfl)
theorem dX0_fines_13 : decode cX0_fines 13 = .ok (.astore 4, 2) := dk_58 4 (dk_at dksX0_fines_0 13 rfl rfl)
theorem dX0_fines_15 : decode cX0_fines 15 = .ok (.iconst 1, 1) := dk_4 (dk_at dksX0_fines_0 15 rfl rfl)
theorem dX0_fines_16 : decode cX0_fines 16 = .ok (.ireturn, 1) := dk_172 (dk_at dksX0_fines_0 16 rfl rfl)
theorem dX0_fines_17 : decode cX0_fines 17 = .ok (.iconst 0, 1) := dk_3 (dk_at dksX0_fines_0 17 rfl rfl)
theorem dX0_fines_18 : decode cX0_fines 18 = .ok (.ireturn, 1) := dk_172 (dk_at dksX0_fines_0 18 rfl rfl)
abbrev cX0_canMend : ByteArray := method_17_code
def yX0_canMend : MethodName := ⟨RX0, "canMend", "(LErrataPress;I[J)I"⟩
def dkwX0_canMend_0 : List UInt8 := [44, 3, 42, 27, 182, 0, 64, 153, 0, 7, 10, 167, 0, 4, 9, 80, 167, 0, 6, 78, 4, 172, 3, 172]
abbrev dktX0_canMend_0 : List UInt8 := dkwX0_canMend_0 ++ []
theorem dksX0_canMend_0 : cX0_canMend.data.toList.drop 0 = dktX0_canMend_0 := by decide +kernel
theorem dX0_canMend_0 : decode cX0_canMend 0 = .ok (.aload_n 2, 1) := dk_44 (dk_at dksX0_canMend_0 0 rfl rfl)
theorem dX0_canMend_1 : decode cX0_canMend 1 = .ok (.iconst 0, 1) := dk_3 (dk_at dksX0_canMend_0 1 rfl rfl)
theorem dX0_canMend_2 : decode cX0_canMend 2 = .ok (.aload_n 0, 1) := dk_42 (dk_at dksX0_canMend_0 2 rfl rfl)
theorem dX0_canMend_3 : decode cX0_canMend 3 = .ok (.iload_n 1, 1) := dk_27 (dk_at dksX0_canMend_0 3 rfl rfl)
theorem dX0_canMend_4 : decode cX0_canMend 4 = .ok (.invokevirtual 64, 3) := dk_182 0 64 (dk_at dksX0_canMend_0 4 rfl rfl)
theorem dX0_canMend_7 : decode cX0_canMend 7 = .ok (.ifCond .eq 7, 3) := dk_153 0 7 (dk_at dksX0_canMend_0 7 rfl rfl)
theorem dX0_canMend_10 : decode cX0_canMend 10 = .ok (.lconst 1, 1) := dk_10 (dk_at dksX0_canMend_0 10 rfl rfl)
theorem dX0_canMend_11 : decode cX0_canMend 11 = .ok (.goto 4, 3) := dk_167 0 4 (dk_at dksX0_canMend_0 11 rfl rfl)
theorem dX0_canMend_14 : decode cX0_canMend 14 = .ok (.lconst 0, 1) := dk_9 (dk_at dksX0_canMend_0 14 rfl rfl)
theorem dX0_canMend_15 : decode cX0_canMend 15 = .ok (.lastore, 1) := dk_80 (dk_at dksX0_canMend_0 15 rfl rfl)
theorem dX0_canMend_16 : decode cX0_canMend 16 = .ok (.goto 6, 3) := dk_167 0 6 (dk_at dksX0_canMend_0 16 rfl rfl)
theorem dX0_canMend_19 : decode cX0_canMend 19 = .ok (.astore_n 3, 1) := dk_78 (dk_at dksX0_canMend_0 19 rfl rfl)
theorem dX0_canMend_20 : decode cX0_canMend 20 = .ok (.iconst 1, 1) := dk_4 (dk_at dksX0_canMend_0 20 rfl rfl)
theorem dX0_canMend_21 : decode cX0_canMend 21 = .ok (.ireturn, 1) := dk_172 (dk_at dksX0_canMend_0 21 rfl rfl)
theorem dX0_canMend_22 : decode cX0_canMend 22 = .ok (.iconst 0, 1) := dk_3 (dk_at dksX0_canMend_0 22 rfl rfl)
theorem dX0_canMend_23 : decode cX0_canMend 23 = .ok (.ireturn, 1) := dk_172 (dk_at dksX0_canMend_0 23 rfl rfl)
abbrev cX0_laughing : ByteArray := method_18_code
def yX0_laughing : MethodName := ⟨RX0, "laughing", "(LErrataPress;II[J)I"⟩
def dkwX0_laughing_0 : List UInt8 := [45, 3, 42, 27, 28, 182, 0, 68, 133, 80, 167, 0, 7, 58, 4, 4, 172, 3, 172]
abbrev dktX0_laughing_0 : List UInt8 := dkwX0_laughing_0 ++ []
theorem dksX0_laughing_0 : cX0_laughing.data.toList.drop 0 = dktX0_laughing_0 := by decide +kernel
theorem dX0_laughing_0 : decode cX0_laughing 0 = .ok (.aload_n 3, 1) := dk_45 (dk_at dksX0_laughing_0 0 rfl rfl)
theorem dX0_laughing_1 : decode cX0_laughing 1 = .ok (.iconst 0, 1) := dk_3 (dk_at dksX0_laughing_0 1 rfl rfl)
theorem dX0_laughing_2 : decode cX0_laughing 2 = .ok (.aload_n 0, 1) := dk_42 (dk_at dksX0_laughing_0 2 rfl rfl)
theorem dX0_laughing_3 : decode cX0_laughing 3 = .ok (.iload_n 1, 1) := dk_27 (dk_at dksX0_laughing_0 3 rfl rfl)
theorem dX0_laughing_4 : decode cX0_laughing 4 = .ok (.iload_n 2, 1) := dk_28 (dk_at dksX0_laughing_0 4 rfl rfl)
theorem dX0_laughing_5 : decode cX0_laughing 5 = .ok (.invokevirtual 68, 3) := dk_182 0 68 (dk_at dksX0_laughing_0 5 rfl rfl)
theorem dX0_laughing_8 : decode cX0_laughing 8 = .ok (.i2l, 1) := dk_133 (dk_at dksX0_laughing_0 8 rfl rfl)
theorem dX0_laughing_9 : decode cX0_laughing 9 = .ok (.lastore, 1) := dk_80 (dk_at dksX0_laughing_0 9 rfl rfl)
theorem dX0_laughing_10 : decode cX0_laughing 10 = .ok (.goto 7, 3) := dk_167 0 7 (dk_at dksX0_laughing_0 10 rfl rfl)
theorem dX0_laughing_13 : decode cX0_laughing 13 = .ok (.astore 4, 2) := dk_58 4 (dk_at dksX0_laughing_0 13 rfl rfl)
theorem dX0_laughing_15 : decode cX0_laughing 15 = .ok (.iconst 1, 1) := dk_4 (dk_at dksX0_laughing_0 15 rfl rfl)
theorem dX0_laughing_16 : decode cX0_laughing 16 = .ok (.ireturn, 1) := dk_172 (dk_at dksX0_laughing_0 16 rfl rfl)
theorem dX0_laughing_17 : decode cX0_laughing 17 = .ok (.iconst 0, 1) := dk_3 (dk_at dksX0_laughing_0 17 rfl rfl)
theorem dX0_laughing_18 : decode cX0_laughing 18 = .ok (.ireturn, 1) := dk_172 (dk_at dksX0_laughing_0 18 rfl rfl)
abbrev cX0_bargain : ByteArray := method_19_code
def yX0_bargain : MethodName := ⟨RX0, "bargain", "(LErrataPress;Z[J)I"⟩
def dkwX0_bargain_0 : List UInt8 := [44, 3, 42, 27, 182, 0, 71, 133, 80, 167, 0, 6, 78, 4, 172, 3, 172]
abbrev dktX0_bargain_0 : List UInt8 := dkwX0_bargain_0 ++ []
theorem dksX0_bargain_0 : cX0_bargain.data.toList.drop 0 = dktX0_bargain_0 := by decide +kernel
theorem dX0_bargain_0 : decode cX0_bargain 0 = .ok (.aload_n 2, 1) := dk_44 (dk_at dksX0_bargain_0 0 rfl rfl)
theorem dX0_bargain_1 : decode cX0_bargain 1 = .ok (.iconst 0, 1) := dk_3 (dk_at dksX0_bargain_0 1 rfl rfl)
theorem dX0_bargain_2 : decode cX0_bargain 2 = .ok (.aload_n 0, 1) := dk_42 (dk_at dksX0_bargain_0 2 rfl rfl)
theorem dX0_bargain_3 : decode cX0_bargain 3 = .ok (.iload_n 1, 1) := dk_27 (dk_at dksX0_bargain_0 3 rfl rfl)
theorem dX0_bargain_4 : decode cX0_bargain 4 = .ok (.invokevirtual 71, 3) := dk_182 0 71 (dk_at dksX0_bargain_0 4 rfl rfl)
theorem dX0_bargain_7 : decode cX0_bargain 7 = .ok (.i2l, 1) := dk_133 (dk_at dksX0_bargain_0 7 rfl rfl)
theorem dX0_bargain_8 : decode cX0_bargain 8 = .ok (.lastore, 1) := dk_80 (dk_at dksX0_bargain_0 8 rfl rfl)
theorem dX0_bargain_9 : decode cX0_bargain 9 = .ok (.goto 6, 3) := dk_167 0 6 (dk_at dksX0_bargain_0 9 rfl rfl)
theorem dX0_bargain_12 : decode cX0_bargain 12 = .ok (.astore_n 3, 1) := dk_78 (dk_at dksX0_bargain_0 12 rfl rfl)
theorem dX0_bargain_13 : decode cX0_bargain 13 = .ok (.iconst 1, 1) := dk_4 (dk_at dksX0_bargain_0 13 rfl rfl)
theorem dX0_bargain_14 : decode cX0_bargain 14 = .ok (.ireturn, 1) := dk_172 (dk_at dksX0_bargain_0 14 rfl rfl)
theorem dX0_bargain_15 : decode cX0_bargain 15 = .ok (.iconst 0, 1) := dk_3 (dk_at dksX0_bargain_0 15 rfl rfl)
theorem dX0_bargain_16 : decode cX0_bargain 16 = .ok (.ireturn, 1) := dk_172 (dk_at dksX0_bargain_0 16 rfl rfl)
abbrev cX0_wouldShame : ByteArray := method_20_code
def yX0_wouldShame : MethodName := ⟨RX0, "wouldShame", "(LErrataPress;I[J)I"⟩
def dkwX0_wouldShame_0 : List UInt8 := [44, 3, 42, 27, 182, 0, 77, 133, 80, 167, 0, 6, 78, 4, 172, 3, 172]
abbrev dktX0_wouldShame_0 : List UInt8 := dkwX0_wouldShame_0 ++ []
theorem dksX0_wouldShame_0 : cX0_wouldShame.data.toList.drop 0 = dktX0_wouldShame_0 := by decide +kernel
theorem dX0_wouldShame_0 : decode cX0_wouldShame 0 = .ok (.aload_n 2, 1) := dk_44 (dk_at dksX0_wouldShame_0 0 rfl rfl)
theorem dX0_wouldShame_1 : decode cX0_wouldShame 1 = .ok (.iconst 0, 1) := dk_3 (dk_at dksX0_wouldShame_0 1 rfl rfl)
theorem dX0_wouldShame_2 : decode cX0_wouldShame 2 = .ok (.aload_n 0, 1) := dk_42 (dk_at dksX0_wouldShame_0 2 rfl rfl)
theorem dX0_wouldShame_3 : decode cX0_wouldShame 3 = .ok (.iload_n 1, 1) := dk_27 (dk_at dksX0_wouldShame_0 3 rfl rfl)
theorem dX0_wouldShame_4 : decode cX0_wouldShame 4 = .ok (.invokevirtual 77, 3) := dk_182 0 77 (dk_at dksX0_wouldShame_0 4 rfl rfl)
theorem dX0_wouldShame_7 : decode cX0_wouldShame 7 = .ok (.i2l, 1) := dk_133 (dk_at dksX0_wouldShame_0 7 rfl rfl)
theorem dX0_wouldShame_8 : decode cX0_wouldShame 8 = .ok (.lastore, 1) := dk_80 (dk_at dksX0_wouldShame_0 8 rfl rfl)
theorem dX0_wouldShame_9 : decode cX0_wouldShame 9 = .ok (.goto 6, 3) := dk_167 0 6 (dk_at dksX0_wouldShame_0 9 rfl rfl)
theorem dX0_wouldShame_12 : decode cX0_wouldShame 12 = .ok (.astore_n 3, 1) := dk_78 (dk_at dksX0_wouldShame_0 12 rfl rfl)
theorem dX0_wouldShame_13 : decode cX0_wouldShame 13 = .ok (.iconst 1, 1) := dk_4 (dk_at dksX0_wouldShame_0 13 rfl rfl)
theorem dX0_wouldShame_14 : decode cX0_wouldShame 14 = .ok (.ireturn, 1) := dk_172 (dk_at dksX0_wouldShame_0 14 rfl rfl)
theorem dX0_wouldShame_15 : decode cX0_wouldShame 15 = .ok (.iconst 0, 1) := dk_3 (dk_at dksX0_wouldShame_0 15 rfl rfl)
theorem dX0_wouldShame_16 : decode cX0_wouldShame 16 = .ok (.ireturn, 1) := dk_172 (dk_at dksX0_wouldShame_0 16 rfl rfl)
abbrev cX0_nearest : ByteArray := method_21_code
def yX0_nearest : MethodName := ⟨RX0, "nearest", "(LErrataPress;I[J)I"⟩
def dkwX0_nearest_0 : List UInt8 := [44, 3, 42, 27, 182, 0, 80, 133, 80, 167, 0, 6, 78, 4, 172, 3, 172]
abbrev dktX0_nearest_0 : List UInt8 := dkwX0_nearest_0 ++ []
theorem dksX0_nearest_0 : cX0_nearest.data.toList.drop 0 = dktX0_nearest_0 := by decide +kernel
theorem dX0_nearest_0 : decode cX0_nearest 0 = .ok (.aload_n 2, 1) := dk_44 (dk_at dksX0_nearest_0 0 rfl rfl)
theorem dX0_nearest_1 : decode cX0_nearest 1 = .ok (.iconst 0, 1) := dk_3 (dk_at dksX0_nearest_0 1 rfl rfl)
theorem dX0_nearest_2 : decode cX0_nearest 2 = .ok (.aload_n 0, 1) := dk_42 (dk_at dksX0_nearest_0 2 rfl rfl)
theorem dX0_nearest_3 : decode cX0_nearest 3 = .ok (.iload_n 1, 1) := dk_27 (dk_at dksX0_nearest_0 3 rfl rfl)
theorem dX0_nearest_4 : decode cX0_nearest 4 = .ok (.invokevirtual 80, 3) := dk_182 0 80 (dk_at dksX0_nearest_0 4 rfl rfl)
theorem dX0_nearest_7 : decode cX0_nearest 7 = .ok (.i2l, 1) := dk_133 (dk_at dksX0_nearest_0 7 rfl rfl)
theorem dX0_nearest_8 : decode cX0_nearest 8 = .ok (.lastore, 1) := dk_80 (dk_at dksX0_nearest_0 8 rfl rfl)
theorem dX0_nearest_9 : decode cX0_nearest 9 = .ok (.goto 6, 3) := dk_167 0 6 (dk_at dksX0_nearest_0 9 rfl rfl)
theorem dX0_nearest_12 : decode cX0_nearest 12 = .ok (.astore_n 3, 1) := dk_78 (dk_at dksX0_nearest_0 12 rfl rfl)
theorem dX0_nearest_13 : decode cX0_nearest 13 = .ok (.iconst 1, 1) := dk_4 (dk_at dksX0_nearest_0 13 rfl rfl)
theorem dX0_nearest_14 : decode cX0_nearest 14 = .ok (.ireturn, 1) := dk_172 (dk_at dksX0_nearest_0 14 rfl rfl)
theorem dX0_nearest_15 : decode cX0_nearest 15 = .ok (.iconst 0, 1) := dk_3 (dk_at dksX0_nearest_0 15 rfl rfl)
theorem dX0_nearest_16 : decode cX0_nearest 16 = .ok (.ireturn, 1) := dk_172 (dk_at dksX0_nearest_0 16 rfl rfl)
abbrev cX0_calmIn : ByteArray := method_22_code
def yX0_calmIn : MethodName := ⟨RX0, "calmIn", "(LErrataPress;I[J)I"⟩
def dkwX0_calmIn_0 : List UInt8 := [44, 3, 42, 27, 182, 0, 83, 133, 80, 167, 0, 6, 78, 4, 172, 3, 172]
abbrev dktX0_calmIn_0 : List UInt8 := dkwX0_calmIn_0 ++ []
theorem dksX0_calmIn_0 : cX0_calmIn.data.toList.drop 0 = dktX0_calmIn_0 := by decide +kernel
theorem dX0_calmIn_0 : decode cX0_calmIn 0 = .ok (.aload_n 2, 1) := dk_44 (dk_at dksX0_calmIn_0 0 rfl rfl)
theorem dX0_calmIn_1 : decode cX0_calmIn 1 = .ok (.iconst 0, 1) := dk_3 (dk_at dksX0_calmIn_0 1 rfl rfl)
theorem dX0_calmIn_2 : decode cX0_calmIn 2 = .ok (.aload_n 0, 1) := dk_42 (dk_at dksX0_calmIn_0 2 rfl rfl)
theorem dX0_calmIn_3 : decode cX0_calmIn 3 = .ok (.iload_n 1, 1) := dk_27 (dk_at dksX0_calmIn_0 3 rfl rfl)
theorem dX0_calmIn_4 : decode cX0_calmIn 4 = .ok (.invokevirtual 83, 3) := dk_182 0 83 (dk_at dksX0_calmIn_0 4 rfl rfl)
theorem dX0_calmIn_7 : decode cX0_calmIn 7 = .ok (.i2l, 1) := dk_133 (dk_at dksX0_calmIn_0 7 rfl rfl)
theorem dX0_calmIn_8 : decode cX0_calmIn 8 = .ok (.lastore, 1) := dk_80 (dk_at dksX0_calmIn_0 8 rfl rfl)
theorem dX0_calmIn_9 : decode cX0_calmIn 9 = .ok (.goto 6, 3) := dk_167 0 6 (dk_at dksX0_calmIn_0 9 rfl rfl)
theorem dX0_calmIn_12 : decode cX0_calmIn 12 = .ok (.astore_n 3, 1) := dk_78 (dk_at dksX0_calmIn_0 12 rfl rfl)
theorem dX0_calmIn_13 : decode cX0_calmIn 13 = .ok (.iconst 1, 1) := dk_4 (dk_at dksX0_calmIn_0 13 rfl rfl)
theorem dX0_calmIn_14 : decode cX0_calmIn 14 = .ok (.ireturn, 1) := dk_172 (dk_at dksX0_calmIn_0 14 rfl rfl)
theorem dX0_calmIn_15 : decode cX0_calmIn 15 = .ok (.iconst 0, 1) := dk_3 (dk_at dksX0_calmIn_0 15 rfl rfl)
theorem dX0_calmIn_16 : decode cX0_calmIn 16 = .ok (.ireturn, 1) := dk_172 (dk_at dksX0_calmIn_0 16 rfl rfl)
abbrev cX0_ashamed : ByteArray := method_23_code
def yX0_ashamed : MethodName := ⟨RX0, "ashamed", "(LErrataPress;I[J)I"⟩
def dkwX0_ashamed_0 : List UInt8 := [44, 3, 42, 27, 182, 0, 86, 133, 80, 167, 0, 6, 78, 4, 172, 3, 172]
abbrev dktX0_ashamed_0 : List UInt8 := dkwX0_ashamed_0 ++ []
theorem dksX0_ashamed_0 : cX0_ashamed.data.toList.drop 0 = dktX0_ashamed_0 := by decide +kernel
theorem dX0_ashamed_0 : decode cX0_ashamed 0 = .ok (.aload_n 2, 1) := dk_44 (dk_at dksX0_ashamed_0 0 rfl rfl)
theorem dX0_ashamed_1 : decode cX0_ashamed 1 = .ok (.iconst 0, 1) := dk_3 (dk_at dksX0_ashamed_0 1 rfl rfl)
theorem dX0_ashamed_2 : decode cX0_ashamed 2 = .ok (.aload_n 0, 1) := dk_42 (dk_at dksX0_ashamed_0 2 rfl rfl)
theorem dX0_ashamed_3 : decode cX0_ashamed 3 = .ok (.iload_n 1, 1) := dk_27 (dk_at dksX0_ashamed_0 3 rfl rfl)
theorem dX0_ashamed_4 : decode cX0_ashamed 4 = .ok (.invokevirtual 86, 3) := dk_182 0 86 (dk_at dksX0_ashamed_0 4 rfl rfl)
theorem dX0_ashamed_7 : decode cX0_ashamed 7 = .ok (.i2l, 1) := dk_133 (dk_at dksX0_ashamed_0 7 rfl rfl)
theorem dX0_ashamed_8 : decode cX0_ashamed 8 = .ok (.lastore, 1) := dk_80 (dk_at dksX0_ashamed_0 8 rfl rfl)
theorem dX0_ashamed_9 : decode cX0_ashamed 9 = .ok (.goto 6, 3) := dk_167 0 6 (dk_at dksX0_ashamed_0 9 rfl rfl)
theorem dX0_ashamed_12 : decode cX0_ashamed 12 = .ok (.astore_n 3, 1) := dk_78 (dk_at dksX0_ashamed_0 12 rfl rfl)
theorem dX0_ashamed_13 : decode cX0_ashamed 13 = .ok (.iconst 1, 1) := dk_4 (dk_at dksX0_ashamed_0 13 rfl rfl)
theorem dX0_ashamed_14 : decode cX0_ashamed 14 = .ok (.ireturn, 1) := dk_172 (dk_at dksX0_ashamed_0 14 rfl rfl)
theorem dX0_ashamed_15 : decode cX0_ashamed 15 = .ok (.iconst 0, 1) := dk_3 (dk_at dksX0_ashamed_0 15 rfl rfl)
theorem dX0_ashamed_16 : decode cX0_ashamed 16 = .ok (.ireturn, 1) := dk_172 (dk_at dksX0_ashamed_0 16 rfl rfl)
abbrev cX0_worst : ByteArray := method_24_code
def yX0_worst : MethodName := ⟨RX0, "worst", "(LErrataPress;I[J)I"⟩
def dkwX0_worst_0 : List UInt8 := [44, 3, 42, 27, 182, 0, 89, 133, 80, 167, 0, 6, 78, 4, 172, 3, 172]
abbrev dktX0_worst_0 : List UInt8 := dkwX0_worst_0 ++ []
theorem dksX0_worst_0 : cX0_worst.data.toList.drop 0 = dktX0_worst_0 := by decide +kernel
theorem dX0_worst_0 : decode cX0_worst 0 = .ok (.aload_n 2, 1) := dk_44 (dk_at dksX0_worst_0 0 rfl rfl)
theorem dX0_worst_1 : decode cX0_worst 1 = .ok (.iconst 0, 1) := dk_3 (dk_at dksX0_worst_0 1 rfl rfl)
theorem dX0_worst_2 : decode cX0_worst 2 = .ok (.aload_n 0, 1) := dk_42 (dk_at dksX0_worst_0 2 rfl rfl)
theorem dX0_worst_3 : decode cX0_worst 3 = .ok (.iload_n 1, 1) := dk_27 (dk_at dksX0_worst_0 3 rfl rfl)
theorem dX0_worst_4 : decode cX0_worst 4 = .ok (.invokevirtual 89, 3) := dk_182 0 89 (dk_at dksX0_worst_0 4 rfl rfl)
theorem dX0_worst_7 : decode cX0_worst 7 = .ok (.i2l, 1) := dk_133 (dk_at dksX0_worst_0 7 rfl rfl)
theorem dX0_worst_8 : decode cX0_worst 8 = .ok (.lastore, 1) := dk_80 (dk_at dksX0_worst_0 8 rfl rfl)
theorem dX0_worst_9 : decode cX0_worst 9 = .ok (.goto 6, 3) := dk_167 0 6 (dk_at dksX0_worst_0 9 rfl rfl)
theorem dX0_worst_12 : decode cX0_worst 12 = .ok (.astore_n 3, 1) := dk_78 (dk_at dksX0_worst_0 12 rfl rfl)
theorem dX0_worst_13 : decode cX0_worst 13 = .ok (.iconst 1, 1) := dk_4 (dk_at dksX0_worst_0 13 rfl rfl)
theorem dX0_worst_14 : decode cX0_worst 14 = .ok (.ireturn, 1) := dk_172 (dk_at dksX0_worst_0 14 rfl rfl)
theorem dX0_worst_15 : decode cX0_worst 15 = .ok (.iconst 0, 1) := dk_3 (dk_at dksX0_worst_0 15 rfl rfl)
theorem dX0_worst_16 : decode cX0_worst 16 = .ok (.ireturn, 1) := dk_172 (dk_at dksX0_worst_0 16 rfl rfl)
abbrev cX0_line : ByteArray := method_25_code
def yX0_line : MethodName := ⟨RX0, "line", "(LErrataPress;I[J)I"⟩
def dkwX0_line_0 : List UInt8 := [44, 3, 42, 27, 182, 0, 92, 133, 80, 167, 0, 6, 78, 4, 172, 3, 172]
abbrev dktX0_line_0 : List UInt8 := dkwX0_line_0 ++ []
theorem dksX0_line_0 : cX0_line.data.toList.drop 0 = dktX0_line_0 := by decide +kernel
theorem dX0_line_0 : decode cX0_line 0 = .ok (.aload_n 2, 1) := dk_44 (dk_at dksX0_line_0 0 rfl rfl)
theorem dX0_line_1 : decode cX0_line 1 = .ok (.iconst 0, 1) := dk_3 (dk_at dksX0_line_0 1 rfl rfl)
theorem dX0_line_2 : decode cX0_line 2 = .ok (.aload_n 0, 1) := dk_42 (dk_at dksX0_line_0 2 rfl rfl)
theorem dX0_line_3 : decode cX0_line 3 = .ok (.iload_n 1, 1) := dk_27 (dk_at dksX0_line_0 3 rfl rfl)
theorem dX0_line_4 : decode cX0_line 4 = .ok (.invokevirtual 92, 3) := dk_182 0 92 (dk_at dksX0_line_0 4 rfl rfl)
theorem dX0_line_7 : decode cX0_line 7 = .ok (.i2l, 1) := dk_133 (dk_at dksX0_line_0 7 rfl rfl)
theorem dX0_line_8 : decode cX0_line 8 = .ok (.lastore, 1) := dk_80 (dk_at dksX0_line_0 8 rfl rfl)
theorem dX0_line_9 : decode cX0_line 9 = .ok (.goto 6, 3) := dk_167 0 6 (dk_at dksX0_line_0 9 rfl rfl)
theorem dX0_line_12 : decode cX0_line 12 = .ok (.astore_n 3, 1) := dk_78 (dk_at dksX0_line_0 12 rfl rfl)
theorem dX0_line_13 : decode cX0_line 13 = .ok (.iconst 1, 1) := dk_4 (dk_at dksX0_line_0 13 rfl rfl)
theorem dX0_line_14 : decode cX0_line 14 = .ok (.ireturn, 1) := dk_172 (dk_at dksX0_line_0 14 rfl rfl)
theorem dX0_line_15 : decode cX0_line 15 = .ok (.iconst 0, 1) := dk_3 (dk_at dksX0_line_0 15 rfl rfl)
theorem dX0_line_16 : decode cX0_line 16 = .ok (.ireturn, 1) := dk_172 (dk_at dksX0_line_0 16 rfl rfl)
abbrev cX0_houseLine : ByteArray := method_26_code
def yX0_houseLine : MethodName := ⟨RX0, "houseLine", "(LErrataPress;I[J)I"⟩
def dkwX0_houseLine_0 : List UInt8 := [44, 3, 42, 27, 182, 0, 95, 133, 80, 167, 0, 6, 78, 4, 172, 3, 172]
abbrev dktX0_houseLine_0 : List UInt8 := dkwX0_houseLine_0 ++ []
theorem dksX0_houseLine_0 : cX0_houseLine.data.toList.drop 0 = dktX0_houseLine_0 := by decide +kernel
theorem dX0_houseLine_0 : decode cX0_houseLine 0 = .ok (.aload_n 2, 1) := dk_44 (dk_at dksX0_houseLine_0 0 rfl rfl)
theorem dX0_houseLine_1 : decode cX0_houseLine 1 = .ok (.iconst 0, 1) := dk_3 (dk_at dksX0_houseLine_0 1 rfl rfl)
theorem dX0_houseLine_2 : decode cX0_houseLine 2 = .ok (.aload_n 0, 1) := dk_42 (dk_at dksX0_houseLine_0 2 rfl rfl)
theorem dX0_houseLine_3 : decode cX0_houseLine 3 = .ok (.iload_n 1, 1) := dk_27 (dk_at dksX0_houseLine_0 3 rfl rfl)
theorem dX0_houseLine_4 : decode cX0_houseLine 4 = .ok (.invokevirtual 95, 3) := dk_182 0 95 (dk_at dksX0_houseLine_0 4 rfl rfl)
theorem dX0_houseLine_7 : decode cX0_houseLine 7 = .ok (.i2l, 1) := dk_133 (dk_at dksX0_houseLine_0 7 rfl rfl)
theorem dX0_houseLine_8 : decode cX0_houseLine 8 = .ok (.lastore, 1) := dk_80 (dk_at dksX0_houseLine_0 8 rfl rfl)
theorem dX0_houseLine_9 : decode cX0_houseLine 9 = .ok (.goto 6, 3) := dk_167 0 6 (dk_at dksX0_houseLine_0 9 rfl rfl)
theorem dX0_houseLine_12 : decode cX0_houseLine 12 = .ok (.astore_n 3, 1) := dk_78 (dk_at dksX0_houseLine_0 12 rfl rfl)
theorem dX0_houseLine_13 : decode cX0_houseLine 13 = .ok (.iconst 1, 1) := dk_4 (dk_at dksX0_houseLine_0 13 rfl rfl)
theorem dX0_houseLine_14 : decode cX0_houseLine 14 = .ok (.ireturn, 1) := dk_172 (dk_at dksX0_houseLine_0 14 rfl rfl)
theorem dX0_houseLine_15 : decode cX0_houseLine 15 = .ok (.iconst 0, 1) := dk_3 (dk_at dksX0_houseLine_0 15 rfl rfl)
theorem dX0_houseLine_16 : decode cX0_houseLine 16 = .ok (.ireturn, 1) := dk_172 (dk_at dksX0_houseLine_0 16 rfl rfl)
abbrev cX0_character : ByteArray := method_27_code
def yX0_character : MethodName := ⟨RX0, "character", "(LErrataPress;I[J)I"⟩
def dkwX0_character_0 : List UInt8 := [44, 3, 42, 27, 182, 0, 98, 133, 80, 167, 0, 6, 78, 4, 172, 3, 172]
abbrev dktX0_character_0 : List UInt8 := dkwX0_character_0 ++ []
theorem dksX0_character_0 : cX0_character.data.toList.drop 0 = dktX0_character_0 := by decide +kernel
theorem dX0_character_0 : decode cX0_character 0 = .ok (.aload_n 2, 1) := dk_44 (dk_at dksX0_character_0 0 rfl rfl)
theorem dX0_character_1 : decode cX0_character 1 = .ok (.iconst 0, 1) := dk_3 (dk_at dksX0_character_0 1 rfl rfl)
theorem dX0_character_2 : decode cX0_character 2 = .ok (.aload_n 0, 1) := dk_42 (dk_at dksX0_character_0 2 rfl rfl)
theorem dX0_character_3 : decode cX0_character 3 = .ok (.iload_n 1, 1) := dk_27 (dk_at dksX0_character_0 3 rfl rfl)
theorem dX0_character_4 : decode cX0_character 4 = .ok (.invokevirtual 98, 3) := dk_182 0 98 (dk_at dksX0_character_0 4 rfl rfl)
theorem dX0_character_7 : decode cX0_character 7 = .ok (.i2l, 1) := dk_133 (dk_at dksX0_character_0 7 rfl rfl)
theorem dX0_character_8 : decode cX0_character 8 = .ok (.lastore, 1) := dk_80 (dk_at dksX0_character_0 8 rfl rfl)
theorem dX0_character_9 : decode cX0_character 9 = .ok (.goto 6, 3) := dk_167 0 6 (dk_at dksX0_character_0 9 rfl rfl)
theorem dX0_character_12 : decode cX0_character 12 = .ok (.astore_n 3, 1) := dk_78 (dk_at dksX0_character_0 12 rfl rfl)
theorem dX0_character_13 : decode cX0_character 13 = .ok (.iconst 1, 1) := dk_4 (dk_at dksX0_character_0 13 rfl rfl)
theorem dX0_character_14 : decode cX0_character 14 = .ok (.ireturn, 1) := dk_172 (dk_at dksX0_character_0 14 rfl rfl)
theorem dX0_character_15 : decode cX0_character 15 = .ok (.iconst 0, 1) := dk_3 (dk_at dksX0_character_0 15 rfl rfl)
theorem dX0_character_16 : decode cX0_character 16 = .ok (.ireturn, 1) := dk_172 (dk_at dksX0_character_0 16 rfl rfl)
abbrev cX0_append : ByteArray := method_28_code
def yX0_append : MethodName := ⟨RX0, "append", "(LErrataPress;C[J)I"⟩
def dkwX0_append_0 : List UInt8 := [44, 3, 42, 27, 182, 0, 102, 133, 80, 167, 0, 6, 78, 4, 172, 3, 172]
abbrev dktX0_append_0 : List UInt8 := dkwX0_append_0 ++ []
theorem dksX0_append_0 : cX0_append.data.toList.drop 0 = dktX0_append_0 := by decide +kernel
theorem dX0_append_0 : decode cX0_append 0 = .ok (.aload_n 2, 1) := dk_44 (dk_at dksX0_append_0 0 rfl rfl)
theorem dX0_append_1 : decode cX0_append 1 = .ok (.iconst 0, 1) := dk_3 (dk_at dksX0_append_0 1 rfl rfl)
theorem dX0_append_2 : decode cX0_append 2 = .ok (.aload_n 0, 1) := dk_42 (dk_at dksX0_append_0 2 rfl rfl)
theorem dX0_append_3 : decode cX0_append 3 = .ok (.iload_n 1, 1) := dk_27 (dk_at dksX0_append_0 3 rfl rfl)
theorem dX0_append_4 : decode cX0_append 4 = .ok (.invokevirtual 102, 3) := dk_182 0 102 (dk_at dksX0_append_0 4 rfl rfl)
theorem dX0_append_7 : decode cX0_append 7 = .ok (.i2l, 1) := dk_133 (dk_at dksX0_append_0 7 rfl rfl)
theorem dX0_append_8 : decode cX0_append 8 = .ok (.lastore, 1) := dk_80 (dk_at dksX0_append_0 8 rfl rfl)
theorem dX0_append_9 : decode cX0_append 9 = .ok (.goto 6, 3) := dk_167 0 6 (dk_at dksX0_append_0 9 rfl rfl)
theorem dX0_append_12 : decode cX0_append 12 = .ok (.astore_n 3, 1) := dk_78 (dk_at dksX0_append_0 12 rfl rfl)
theorem dX0_append_13 : decode cX0_append 13 = .ok (.iconst 1, 1) := dk_4 (dk_at dksX0_append_0 13 rfl rfl)
theorem dX0_append_14 : decode cX0_append 14 = .ok (.ireturn, 1) := dk_172 (dk_at dksX0_append_0 14 rfl rfl)
theorem dX0_append_15 : decode cX0_append 15 = .ok (.iconst 0, 1) := dk_3 (dk_at dksX0_append_0 15 rfl rfl)
theorem dX0_append_16 : decode cX0_append 16 = .ok (.ireturn, 1) := dk_172 (dk_at dksX0_append_0 16 rfl rfl)
abbrev cX0_run : ByteArray := method_29_code
def yX0_run : MethodName := ⟨RX0, "run", "(LErrataPress;[J)I"⟩
def dkwX0_run_0 : List UInt8 := [43, 3, 42, 182, 0, 108, 133, 80, 167, 0, 9, 77, 4, 172, 77, 5, 172, 3, 172]
abbrev dktX0_run_0 : List UInt8 := dkwX0_run_0 ++ []
theorem dksX0_run_0 : cX0_run.data.toList.drop 0 = dktX0_run_0 := by decide +kernel
theorem dX0_run_0 : decode cX0_run 0 = .ok (.aload_n 1, 1) := dk_43 (dk_at dksX0_run_0 0 rfl rfl)
theorem dX0_run_1 : decode cX0_run 1 = .ok (.iconst 0, 1) := dk_3 (dk_at dksX0_run_0 1 rfl rfl)
theorem dX0_run_2 : decode cX0_run 2 = .ok (.aload_n 0, 1) := dk_42 (dk_at dksX0_run_0 2 rfl rfl)
theorem dX0_run_3 : decode cX0_run 3 = .ok (.invokevirtual 108, 3) := dk_182 0 108 (dk_at dksX0_run_0 3 rfl rfl)
theorem dX0_run_6 : decode cX0_run 6 = .ok (.i2l, 1) := dk_133 (dk_at dksX0_run_0 6 rfl rfl)
theorem dX0_run_7 : decode cX0_run 7 = .ok (.lastore, 1) := dk_80 (dk_at dksX0_run_0 7 rfl rfl)
theorem dX0_run_8 : decode cX0_run 8 = .ok (.goto 9, 3) := dk_167 0 9 (dk_at dksX0_run_0 8 rfl rfl)
theorem dX0_run_11 : decode cX0_run 11 = .ok (.astore_n 2, 1) := dk_77 (dk_at dksX0_run_0 11 rfl rfl)
theorem dX0_run_12 : decode cX0_run 12 = .ok (.iconst 1, 1) := dk_4 (dk_at dksX0_run_0 12 rfl rfl)
theorem dX0_run_13 : decode cX0_run 13 = .ok (.ireturn, 1) := dk_172 (dk_at dksX0_run_0 13 rfl rfl)
theorem dX0_run_14 : decode cX0_run 14 = .ok (.astore_n 2, 1) := dk_77 (dk_at dksX0_run_0 14 rfl rfl)
theorem dX0_run_15 : decode cX0_run 15 = .ok (.iconst 2, 1) := dk_5 (dk_at dksX0_run_0 15 rfl rfl)
theorem dX0_run_16 : decode cX0_run 16 = .ok (.ireturn, 1) := dk_172 (dk_at dksX0_run_0 16 rfl rfl)
theorem dX0_run_17 : decode cX0_run 17 = .ok (.iconst 0, 1) := dk_3 (dk_at dksX0_run_0 17 rfl rfl)
theorem dX0_run_18 : decode cX0_run 18 = .ok (.ireturn, 1) := dk_172 (dk_at dksX0_run_0 18 rfl rfl)
abbrev cX0_refusal : ByteArray := method_30_code
def yX0_refusal : MethodName := ⟨RX0, "refusal", "(LErrataPress;ZZ[J)I"⟩
def dkwX0_refusal_0 : List UInt8 := [45, 3, 42, 27, 28, 182, 0, 111, 133, 80, 167, 0, 7, 58, 4, 4, 172, 3, 172]
abbrev dktX0_refusal_0 : List UInt8 := dkwX0_refusal_0 ++ []
theorem dksX0_refusal_0 : cX0_refusal.data.toList.drop 0 = dktX0_refusal_0 := by decide +kernel
theorem dX0_refusal_0 : decode cX0_refusal 0 = .ok (.aload_n 3, 1) := dk_45 (dk_at dksX0_refusal_0 0 rfl rfl)
theorem dX0_refusal_1 : decode cX0_refusal 1 = .ok (.iconst 0, 1) := dk_3 (dk_at dksX0_refusal_0 1 rfl rfl)
theorem dX0_refusal_2 : decode cX0_refusal 2 = .ok (.aload_n 0, 1) := dk_42 (dk_at dksX0_refusal_0 2 rfl rfl)
theorem dX0_refusal_3 : decode cX0_refusal 3 = .ok (.iload_n 1, 1) := dk_27 (dk_at dksX0_refusal_0 3 rfl rfl)
theorem dX0_refusal_4 : decode cX0_refusal 4 = .ok (.iload_n 2, 1) := dk_28 (dk_at dksX0_refusal_0 4 rfl rfl)
theorem dX0_refusal_5 : decode cX0_refusal 5 = .ok (.invokevirtual 111, 3) := dk_182 0 111 (dk_at dksX0_refusal_0 5 rfl rfl)
theorem dX0_refusal_8 : decode cX0_refusal 8 = .ok (.i2l, 1) := dk_133 (dk_at dksX0_refusal_0 8 rfl rfl)
theorem dX0_refusal_9 : decode cX0_refusal 9 = .ok (.lastore, 1) := dk_80 (dk_at dksX0_refusal_0 9 rfl rfl)
theorem dX0_refusal_10 : decode cX0_refusal 10 = .ok (.goto 7, 3) := dk_167 0 7 (dk_at dksX0_refusal_0 10 rfl rfl)
theorem dX0_refusal_13 : decode cX0_refusal 13 = .ok (.astore 4, 2) := dk_58 4 (dk_at dksX0_refusal_0 13 rfl rfl)
theorem dX0_refusal_15 : decode cX0_refusal 15 = .ok (.iconst 1, 1) := dk_4 (dk_at dksX0_refusal_0 15 rfl rfl)
theorem dX0_refusal_16 : decode cX0_refusal 16 = .ok (.ireturn, 1) := dk_172 (dk_at dksX0_refusal_0 16 rfl rfl)
theorem dX0_refusal_17 : decode cX0_refusal 17 = .ok (.iconst 0, 1) := dk_3 (dk_at dksX0_refusal_0 17 rfl rfl)
theorem dX0_refusal_18 : decode cX0_refusal 18 = .ok (.ireturn, 1) := dk_172 (dk_at dksX0_refusal_0 18 rfl rfl)
abbrev cX0_account : ByteArray := method_31_code
def yX0_account : MethodName := ⟨RX0, "account", "(LErrataPress;I[J)I"⟩
def dkwX0_account_0 : List UInt8 := [44, 3, 42, 27, 182, 0, 115, 133, 80, 167, 0, 6, 78, 4, 172, 3, 172]
abbrev dktX0_account_0 : List UInt8 := dkwX0_account_0 ++ []
theorem dksX0_account_0 : cX0_account.data.toList.drop 0 = dktX0_account_0 := by decide +kernel
theorem dX0_account_0 : decode cX0_account 0 = .ok (.aload_n 2, 1) := dk_44 (dk_at dksX0_account_0 0 rfl rfl)
theorem dX0_account_1 : decode cX0_account 1 = .ok (.iconst 0, 1) := dk_3 (dk_at dksX0_account_0 1 rfl rfl)
theorem dX0_account_2 : decode cX0_account 2 = .ok (.aload_n 0, 1) := dk_42 (dk_at dksX0_account_0 2 rfl rfl)
theorem dX0_account_3 : decode cX0_account 3 = .ok (.iload_n 1, 1) := dk_27 (dk_at dksX0_account_0 3 rfl rfl)
theorem dX0_account_4 : decode cX0_account 4 = .ok (.invokevirtual 115, 3) := dk_182 0 115 (dk_at dksX0_account_0 4 rfl rfl)
theorem dX0_account_7 : decode cX0_account 7 = .ok (.i2l, 1) := dk_133 (dk_at dksX0_account_0 7 rfl rfl)
theorem dX0_account_8 : decode cX0_account 8 = .ok (.lastore, 1) := dk_80 (dk_at dksX0_account_0 8 rfl rfl)
theorem dX0_account_9 : decode cX0_account 9 = .ok (.goto 6, 3) := dk_167 0 6 (dk_at dksX0_account_0 9 rfl rfl)
theorem dX0_account_12 : decode cX0_account 12 = .ok (.astore_n 3, 1) := dk_78 (dk_at dksX0_account_0 12 rfl rfl)
theorem dX0_account_13 : decode cX0_account 13 = .ok (.iconst 1, 1) := dk_4 (dk_at dksX0_account_0 13 rfl rfl)
theorem dX0_account_14 : decode cX0_account 14 = .ok (.ireturn, 1) := dk_172 (dk_at dksX0_account_0 14 rfl rfl)
theorem dX0_account_15 : decode cX0_account 15 = .ok (.iconst 0, 1) := dk_3 (dk_at dksX0_account_0 15 rfl rfl)
theorem dX0_account_16 : decode cX0_account 16 = .ok (.ireturn, 1) := dk_172 (dk_at dksX0_account_0 16 rfl rfl)
abbrev cX0_meanShame : ByteArray := method_32_code
def yX0_meanShame : MethodName := ⟨RX0, "meanShame", "(LErrataPress;[D)I"⟩
def dkwX0_meanShame_0 : List UInt8 := [43, 3, 42, 182, 0, 118, 82, 167, 0, 6, 77, 4, 172, 3, 172]
abbrev dktX0_meanShame_0 : List UInt8 := dkwX0_meanShame_0 ++ []
theorem dksX0_meanShame_0 : cX0_meanShame.data.toList.drop 0 = dktX0_meanShame_0 := by decide +kernel
theorem dX0_meanShame_0 : decode cX0_meanShame 0 = .ok (.aload_n 1, 1) := dk_43 (dk_at dksX0_meanShame_0 0 rfl rfl)
theorem dX0_meanShame_1 : decode cX0_meanShame 1 = .ok (.iconst 0, 1) := dk_3 (dk_at dksX0_meanShame_0 1 rfl rfl)
theorem dX0_meanShame_2 : decode cX0_meanShame 2 = .ok (.aload_n 0, 1) := dk_42 (dk_at dksX0_meanShame_0 2 rfl rfl)
theorem dX0_meanShame_3 : decode cX0_meanShame 3 = .ok (.invokevirtual 118, 3) := dk_182 0 118 (dk_at dksX0_meanShame_0 3 rfl rfl)
theorem dX0_meanShame_6 : decode cX0_meanShame 6 = .ok (.dastore, 1) := dk_82 (dk_at dksX0_meanShame_0 6 rfl rfl)
theorem dX0_meanShame_7 : decode cX0_meanShame 7 = .ok (.goto 6, 3) := dk_167 0 6 (dk_at dksX0_meanShame_0 7 rfl rfl)
theorem dX0_meanShame_10 : decode cX0_meanShame 10 = .ok (.astore_n 2, 1) := dk_77 (dk_at dksX0_meanShame_0 10 rfl rfl)
theorem dX0_meanShame_11 : decode cX0_meanShame 11 = .ok (.iconst 1, 1) := dk_4 (dk_at dksX0_meanShame_0 11 rfl rfl)
theorem dX0_meanShame_12 : decode cX0_meanShame 12 = .ok (.ireturn, 1) := dk_172 (dk_at dksX0_meanShame_0 12 rfl rfl)
theorem dX0_meanShame_13 : decode cX0_meanShame 13 = .ok (.iconst 0, 1) := dk_3 (dk_at dksX0_meanShame_0 13 rfl rfl)
theorem dX0_meanShame_14 : decode cX0_meanShame 14 = .ok (.ireturn, 1) := dk_172 (dk_at dksX0_meanShame_0 14 rfl rfl)
abbrev cX0_errorShare : ByteArray := method_33_code
def yX0_errorShare : MethodName := ⟨RX0, "errorShare", "(LErrataPress;[D)I"⟩
def dkwX0_errorShare_0 : List UInt8 := [43, 3, 42, 182, 0, 124, 141, 82, 167, 0, 6, 77, 4, 172, 3, 172]
abbrev dktX0_errorShare_0 : List UInt8 := dkwX0_errorShare_0 ++ []
theorem dksX0_errorShare_0 : cX0_errorShare.data.toList.drop 0 = dktX0_errorShare_0 := by decide +kernel
theorem dX0_errorShare_0 : decode cX0_errorShare 0 = .ok (.aload_n 1, 1) := dk_43 (dk_at dksX0_errorShare_0 0 rfl rfl)
theorem dX0_errorShare_1 : decode cX0_errorShare 1 = .ok (.iconst 0, 1) := dk_3 (dk_at dksX0_errorShare_0 1 rfl rfl)
theorem dX0_errorShare_2 : decode cX0_errorShare 2 = .ok (.aload_n 0, 1) := dk_42 (dk_at dksX0_errorShare_0 2 rfl rfl)
theorem dX0_errorShare_3 : decode cX0_errorShare 3 = .ok (.invokevirtual 124, 3) := dk_182 0 124 (dk_at dksX0_errorShare_0 3 rfl rfl)
theorem dX0_errorShare_6 : decode cX0_errorShare 6 = .ok (.f2d, 1) := dk_141 (dk_at dksX0_errorShare_0 6 rfl rfl)
theorem dX0_errorShare_7 : decode cX0_errorShare 7 = .ok (.dastore, 1) := dk_82 (dk_at dksX0_errorShare_0 7 rfl rfl)
theorem dX0_errorShare_8 : decode cX0_errorShare 8 = .ok (.goto 6, 3) := dk_167 0 6 (dk_at dksX0_errorShare_0 8 rfl rfl)
theorem dX0_errorShare_11 : decode cX0_errorShare 11 = .ok (.astore_n 2, 1) := dk_77 (dk_at dksX0_errorShare_0 11 rfl rfl)
theorem dX0_errorShare_12 : decode cX0_errorShare 12 = .ok (.iconst 1, 1) := dk_4 (dk_at dksX0_errorShare_0 12 rfl rfl)
theorem dX0_errorShare_13 : decode cX0_errorShare 13 = .ok (.ireturn, 1) := dk_172 (dk_at dksX0_errorShare_0 13 rfl rfl)
theorem dX0_errorShare_14 : decode cX0_errorShare 14 = .ok (.iconst 0, 1) := dk_3 (dk_at dksX0_errorShare_0 14 rfl rfl)
theorem dX0_errorShare_15 : decode cX0_errorShare 15 = .ok (.ireturn, 1) := dk_172 (dk_at dksX0_errorShare_0 15 rfl rfl)
abbrev cX0_undo : ByteArray := method_34_code
def yX0_undo : MethodName := ⟨RX0, "undo", "(LErrataPress;[J)I"⟩
def dkwX0_undo_0 : List UInt8 := [43, 3, 42, 182, 0, 128, 133, 80, 167, 0, 6, 77, 4, 172, 3, 172]
abbrev dktX0_undo_0 : List UInt8 := dkwX0_undo_0 ++ []
theorem dksX0_undo_0 : cX0_undo.data.toList.drop 0 = dktX0_undo_0 := by decide +kernel
theorem dX0_undo_0 : decode cX0_undo 0 = .ok (.aload_n 1, 1) := dk_43 (dk_at dksX0_undo_0 0 rfl rfl)
theorem dX0_undo_1 : decode cX0_undo 1 = .ok (.iconst 0, 1) := dk_3 (dk_at dksX0_undo_0 1 rfl rfl)
theorem dX0_undo_2 : decode cX0_undo 2 = .ok (.aload_n 0, 1) := dk_42 (dk_at dksX0_undo_0 2 rfl rfl)
theorem dX0_undo_3 : decode cX0_undo 3 = .ok (.invokevirtual 128, 3) := dk_182 0 128 (dk_at dksX0_undo_0 3 rfl rfl)
theorem dX0_undo_6 : decode cX0_undo 6 = .ok (.i2l, 1) := dk_133 (dk_at dksX0_undo_0 6 rfl rfl)
theorem dX0_undo_7 : decode cX0_undo 7 = .ok (.lastore, 1) := dk_80 (dk_at dksX0_undo_0 7 rfl rfl)
theorem dX0_undo_8 : decode cX0_undo 8 = .ok (.goto 6, 3) := dk_167 0 6 (dk_at dksX0_undo_0 8 rfl rfl)
theorem dX0_undo_11 : decode cX0_undo 11 = .ok (.astore_n 2, 1) := dk_77 (dk_at dksX0_undo_0 11 rfl rfl)
theorem dX0_undo_12 : decode cX0_undo 12 = .ok (.iconst 1, 1) := dk_4 (dk_at dksX0_undo_0 12 rfl rfl)
theorem dX0_undo_13 : decode cX0_undo 13 = .ok (.ireturn, 1) := dk_172 (dk_at dksX0_undo_0 13 rfl rfl)
theorem dX0_undo_14 : decode cX0_undo 14 = .ok (.iconst 0, 1) := dk_3 (dk_at dksX0_undo_0 14 rfl rfl)
theorem dX0_undo_15 : decode cX0_undo 15 = .ok (.ireturn, 1) := dk_172 (dk_at dksX0_undo_0 15 rfl rfl)
abbrev cX0_restore : ByteArray := method_35_code
def yX0_restore : MethodName := ⟨RX0, "restore", "(LErrataPress;[J)I"⟩
def dkwX0_restore_0 : List UInt8 := [43, 3, 42, 182, 0, 131, 133, 80, 167, 0, 6, 77, 4, 172, 3, 172]
abbrev dktX0_restore_0 : List UInt8 := dkwX0_restore_0 ++ []
theorem dksX0_restore_0 : cX0_restore.data.toList.drop 0 = dktX0_restore_0 := by decide +kernel
theorem dX0_restore_0 : decode cX0_restore 0 = .ok (.aload_n 1, 1) := dk_43 (dk_at dksX0_restore_0 0 rfl rfl)
theorem dX0_restore_1 : decode cX0_restore 1 = .ok (.iconst 0, 1) := dk_3 (dk_at dksX0_restore_0 1 rfl rfl)
theorem dX0_restore_2 : decode cX0_restore 2 = .ok (.aload_n 0, 1) := dk_42 (dk_at dksX0_restore_0 2 rfl rfl)
theorem dX0_restore_3 : decode cX0_restore 3 = .ok (.invokevirtual 131, 3) := dk_182 0 131 (dk_at dksX0_restore_0 3 rfl rfl)
theorem dX0_restore_6 : decode cX0_restore 6 = .ok (.i2l, 1) := dk_133 (dk_at dksX0_restore_0 6 rfl rfl)
theorem dX0_restore_7 : decode cX0_restore 7 = .ok (.lastore, 1) := dk_80 (dk_at dksX0_restore_0 7 rfl rfl)
theorem dX0_restore_8 : decode cX0_restore 8 = .ok (.goto 6, 3) := dk_167 0 6 (dk_at dksX0_restore_0 8 rfl rfl)
theorem dX0_restore_11 : decode cX0_restore 11 = .ok (.astore_n 2, 1) := dk_77 (dk_at dksX0_restore_0 11 rfl rfl)
theorem dX0_restore_12 : decode cX0_restore 12 = .ok (.iconst 1, 1) := dk_4 (dk_at dksX0_restore_0 12 rfl rfl)
theorem dX0_restore_13 : decode cX0_restore 13 = .ok (.ireturn, 1) := dk_172 (dk_at dksX0_restore_0 13 rfl rfl)
theorem dX0_restore_14 : decode cX0_restore 14 = .ok (.iconst 0, 1) := dk_3 (dk_at dksX0_restore_0 14 rfl rfl)
theorem dX0_restore_15 : decode cX0_restore 15 = .ok (.ireturn, 1) := dk_172 (dk_at dksX0_restore_0 15 rfl rfl)
def fX0 : List ZE := []
theorem fokX0 : zFok RX0 fX0 := fun _ h => by cases h
abbrev kX0_house : ZK := (RX0, cX0_house, 4, (Option.some Jvm.ClassFile.FieldType.int), [(0, 9, 12, 13), (0, 9, 15, 15)], false, fX0)
abbrev tX0_house (g : ZG) (args : List Value) (M : ZM) (d c s : Nat) (Q : ZQ) : Prop := Ct g yX0_house (wsW_ yX0_house cX0_house 4 (Option.some Jvm.ClassFile.FieldType.int) [(0, 9, 12, 13), (0, 9, 15, 15)]) args M d c s Q
abbrev nX0_house : Nat := 14
theorem mX0_house : zMok yX0_house 3 4 := ⟨⟨by decide +kernel, by decide +kernel, by decide +kernel⟩, by decide⟩
theorem eX0_house {g : ZG} {Q : ZQ} {d cN sN : Nat} {M : ZM} {v1 : Value} (hv1 : v1.category = 1) {x2 : Int32} {v3 : Value} (hv3 : v3.category = 1) (hV : zV g) (h : Z g kX0_house Q d cN sN M 0 [some (v1), some (.int x2), some (v3), none] []) : tX0_house g [v1, .int x2, v3] M d cN sN Q := Ct.ofW (K := kX0_house) rfl (by decide +kernel) hV fokX0 (fun h => by cases h) (fun v hv => by simp only [List.mem_cons, List.not_mem_nil, or_false] at hv; rcases hv with rfl | rfl | rfl <;> first | rfl | assumption) (Nat.le_of_ble_eq_true rfl) h
theorem sX0_house_0 {g : ZG} {Q : ZQ} {d cN sN : Nat} {M : ZM} {l2 : Nat} {l0 : Nat} {l1 : Int32} {o3 : Option Value}  (kk : Z g kX0_house Q d cN sN M 4 [some (.ref l0), some (.int l1), some (.ref l2), o3] [.int l1, .ref l0, .int 0, .ref l2]) : Z g kX0_house Q d cN sN M 0 [some (.ref l0), some (.int l1), some (.ref l2), o3] [] := by
  refine zi_aload_n dX0_house_0 rfl zrf_r ?_
  refine zi_iconst dX0_house_1 (by decide +kernel : Int32.ofInt (0) = (0 : Int32)) ?_
  refine zi_aload_n dX0_house_2 rfl zrf_r ?_
  refine zi_iload_n dX0_house_3 rfl ?_
  exact kk
theorem sX0_house_7 {g : ZG} {Q : ZQ} {d cN sN : Nat} {M : ZM} {t0 : Nat} {t1 : Int32} {t2 : Int32} {n1 : Nat} {f2 : Nat → Int64} {o0 o1 o2 o3 : Option Value} (h3 : M.1 t0 = some (.inl (zA g 1, n1, .inr (.inl (f2))))) (h4 : vp_in (t1) n1) (kk : Z g kX0_house Q d cN sN (zup M t0 (.inl (zA g 1, n1, .inr (.inl (vp_updL f2 ((t1 : Int32).toNatClampNeg) ((t2 : Int32).toInt64)))))) 18 [o0, o1, o2, o3] []) : Z g kX0_house Q d cN sN M 7 [o0, o1, o2, o3] [.int t2, .int t1, .ref t0] := by
  refine zi_i2l dX0_house_7 ?_
  refine zi_lastore dX0_house_8 h3 h4 ?_
  exact zi_goto (tgt := 18) dX0_house_9 (by decide +kernel) kk
theorem sX0_house_12 {g : ZG} {Q : ZQ} {d cN sN : Nat} {M : ZM} {t0 : Nat} {o0 o1 o2 o3 : Option Value}  (kk : Q.1 (some (.int 1)) M) : Z g kX0_house Q d cN sN M 12 [o0, o1, o2, o3] [.ref t0] := by
  refine zi_astore_n dX0_house_12 zrf_r (Nat.le_of_ble_eq_true rfl) ?_
  refine zi_iconst dX0_house_13 (by decide +kernel : Int32.ofInt (1) = (1 : Int32)) ?_
  exact zi_ireturn dX0_house_14 rfl rfl kk
theorem sX0_house_15 {g : ZG} {Q : ZQ} {d cN sN : Nat} {M : ZM} {t0 : Nat} {o0 o1 o2 o3 : Option Value}  (kk : Q.1 (some (.int 2)) M) : Z g kX0_house Q d cN sN M 15 [o0, o1, o2, o3] [.ref t0] := by
  refine zi_astore_n dX0_house_15 zrf_r (Nat.le_of_ble_eq_true rfl) ?_
  refine zi_iconst dX0_house_16 (by decide +kernel : Int32.ofInt (2) = (2 : Int32)) ?_
  exact zi_ireturn dX0_house_17 rfl rfl kk
theorem sX0_house_18 {g : ZG} {Q : ZQ} {d cN sN : Nat} {M : ZM} {o0 o1 o2 o3 : Option Value}  (kk : Q.1 (some (.int 0)) M) : Z g kX0_house Q d cN sN M 18 [o0, o1, o2, o3] [] := by
  refine zi_iconst dX0_house_18 (by decide +kernel : Int32.ofInt (0) = (0 : Int32)) ?_
  exact zi_ireturn dX0_house_19 rfl rfl kk
abbrev kX0_sheet : ZK := (RX0, cX0_sheet, 5, (Option.some Jvm.ClassFile.FieldType.int), [(0, 10, 13, 21), (0, 10, 17, 13), (0, 10, 21, 15)], false, fX0)
abbrev tX0_sheet (g : ZG) (args : List Value) (M : ZM) (d c s : Nat) (Q : ZQ) : Prop := Ct g yX0_sheet (wsW_ yX0_sheet cX0_sheet 5 (Option.some Jvm.ClassFile.FieldType.int) [(0, 10, 13, 21), (0, 10, 17, 13), (0, 10, 21, 15)]) args M d c s Q
abbrev nX0_sheet : Nat := 14
theorem mX0_sheet : zMok yX0_sheet 4 5 := ⟨⟨by decide +kernel, by decide +kernel, by decide +kernel⟩, by decide⟩
theorem eX0_sheet {g : ZG} {Q : ZQ} {d cN sN : Nat} {M : ZM} {v1 : Value} (hv1 : v1.category = 1) {x2 : Int32} {x3 : Int32} {v4 : Value} (hv4 : v4.category = 1) (hV : zV g) (h : Z g kX0_sheet Q d cN sN M 0 [some (v1), some (.int x2), some (.int x3), some (v4), none] []) : tX0_sheet g [v1, .int x2, .int x3, v4] M d cN sN Q := Ct.ofW (K := kX0_sheet) rfl (by decide +kernel) hV fokX0 (fun h => by cases h) (fun v hv => by simp only [List.mem_cons, List.not_mem_nil, or_false] at hv; rcases hv with rfl | rfl | rfl | rfl <;> first | rfl | assumption) (Nat.le_of_ble_eq_true rfl) h
theorem sX0_sheet_0 {g : ZG} {Q : ZQ} {d cN sN : Nat} {M : ZM} {l3 : Nat} {l0 : Nat} {l1 : Int32} {l2 : Int32} {o4 : Option Value}  (kk : Z g kX0_sheet Q d cN sN M 5 [some (.ref l0), some (.int l1), some (.int l2), some (.ref l3), o4] [.int l2, .int l1, .ref l0, .int 0, .ref l3]) : Z g kX0_sheet Q d cN sN M 0 [some (.ref l0), some (.int l1), some (.int l2), some (.ref l3), o4] [] := by
  refine zi_aload_n dX0_sheet_0 rfl zrf_r ?_
  refine zi_iconst dX0_sheet_1 (by decide +kernel : Int32.ofInt (0) = (0 : Int32)) ?_
  refine zi_aload_n dX0_sheet_2 rfl zrf_r ?_
  refine zi_iload_n dX0_sheet_3 rfl ?_
  refine zi_iload_n dX0_sheet_4 rfl ?_
  exact kk
theorem sX0_sheet_8 {g : ZG} {Q : ZQ} {d cN sN : Nat} {M : ZM} {t0 : Nat} {t1 : Int32} {t2 : Int32} {n1 : Nat} {f2 : Nat → Int64} {o0 o1 o2 o3 o4 : Option Value} (h3 : M.1 t0 = some (.inl (zA g 1, n1, .inr (.inl (f2))))) (h4 : vp_in (t1) n1) (kk : Z g kX0_sheet Q d cN sN (zup M t0 (.inl (zA g 1, n1, .inr (.inl (vp_updL f2 ((t1 : Int32).toNatClampNeg) ((t2 : Int32).toInt64)))))) 25 [o0, o1, o2, o3, o4] []) : Z g kX0_sheet Q d cN sN M 8 [o0, o1, o2, o3, o4] [.int t2, .int t1, .ref t0] := by
  refine zi_i2l dX0_sheet_8 ?_
  refine zi_lastore dX0_sheet_9 h3 h4 ?_
  exact zi_goto (tgt := 25) dX0_sheet_10 (by decide +kernel) kk
theorem sX0_sheet_13 {g : ZG} {Q : ZQ} {d cN sN : Nat} {M : ZM} {t0 : Nat} {o0 o1 o2 o3 o4 : Option Value}  (kk : Q.1 (some (.int 1)) M) : Z g kX0_sheet Q d cN sN M 13 [o0, o1, o2, o3, o4] [.ref t0] := by
  refine zi_astore dX0_sheet_13 zrf_r (Nat.le_of_ble_eq_true rfl) ?_
  refine zi_iconst dX0_sheet_15 (by decide +kernel : Int32.ofInt (1) = (1 : Int32)) ?_
  exact zi_ireturn dX0_sheet_16 rfl rfl kk
theorem sX0_sheet_17 {g : ZG} {Q : ZQ} {d cN sN : Nat} {M : ZM} {t0 : Nat} {o0 o1 o2 o3 o4 : Option Value}  (kk : Q.1 (some (.int 2)) M) : Z g kX0_sheet Q d cN sN M 17 [o0, o1, o2, o3, o4] [.ref t0] := by
  refine zi_astore dX0_sheet_17 zrf_r (Nat.le_of_ble_eq_true rfl) ?_
  refine zi_iconst dX0_sheet_19 (by decide +kernel : Int32.ofInt (2) = (2 : Int32)) ?_
  exact zi_ireturn dX0_sheet_20 rfl rfl kk
theorem sX0_sheet_21 {g : ZG} {Q : ZQ} {d cN sN : Nat} {M : ZM} {t0 : Nat} {o0 o1 o2 o3 o4 : Option Value}  (kk : Q.1 (some (.int 3)) M) : Z g kX0_sheet Q d cN sN M 21 [o0, o1, o2, o3, o4] [.ref t0] := by
  refine zi_astore dX0_sheet_21 zrf_r (Nat.le_of_ble_eq_true rfl) ?_
  refine zi_iconst dX0_sheet_23 (by decide +kernel : Int32.ofInt (3) = (3 : Int32)) ?_
  exact zi_ireturn dX0_sheet_24 rfl rfl kk
theorem sX0_sheet_25 {g : ZG} {Q : ZQ} {d cN sN : Nat} {M : ZM} {o0 o1 o2 o3 o4 : Option Value}  (kk : Q.1 (some (.int 0)) M) : Z g kX0_sheet Q d cN sN M 25 [o0, o1, o2, o3, o4] [] := by
  refine zi_iconst dX0_sheet_25 (by decide +kernel : Int32.ofInt (0) = (0 : Int32)) ?_
  exact zi_ireturn dX0_sheet_26 rfl rfl kk
abbrev kX0_take : ZK := (RX0, cX0_take, 4, (Option.some Jvm.ClassFile.FieldType.int), [(0, 9, 12, 21)], false, fX0)
abbrev tX0_take (g : ZG) (args : List Value) (M : ZM) (d c s : Nat) (Q : ZQ) : Prop := Ct g yX0_take (wsW_ yX0_take cX0_take 4 (Option.some Jvm.ClassFile.FieldType.int) [(0, 9, 12, 21)]) args M d c s Q
abbrev nX0_take : Nat := 14
theorem mX0_take : zMok yX0_take 3 4 := ⟨⟨by decide +kernel, by decide +kernel, by decide +kernel⟩, by decide⟩
theorem eX0_take {g : ZG} {Q : ZQ} {d cN sN : Nat} {M : ZM} {v1 : Value} (hv1 : v1.category = 1) {x2 : Int32} {v3 : Value} (hv3 : v3.category = 1) (hV : zV g) (h : Z g kX0_take Q d cN sN M 0 [some (v1), some (.int x2), some (v3), none] []) : tX0_take g [v1, .int x2, v3] M d cN sN Q := Ct.ofW (K := kX0_take) rfl (by decide +kernel) hV fokX0 (fun h => by cases h) (fun v hv => by simp only [List.mem_cons, List.not_mem_nil, or_false] at hv; rcases hv with rfl | rfl | rfl <;> first | rfl | assumption) (Nat.le_of_ble_eq_true rfl) h
theorem sX0_take_0 {g : ZG} {Q : ZQ} {d cN sN : Nat} {M : ZM} {l2 : Nat} {l0 : Nat} {l1 : Int32} {o3 : Option Value}  (kk : Z g kX0_take Q d cN sN M 4 [some (.ref l0), some (.int l1), some (.ref l2), o3] [.int l1, .ref l0, .int 0, .ref l2]) : Z g kX0_take Q d cN sN M 0 [some (.ref l0), some (.int l1), some (.ref l2), o3] [] := by
  refine zi_aload_n dX0_take_0 rfl zrf_r ?_
  refine zi_iconst dX0_take_1 (by decide +kernel : Int32.ofInt (0) = (0 : Int32)) ?_
  refine zi_aload_n dX0_take_2 rfl zrf_r ?_
  refine zi_iload_n dX0_take_3 rfl ?_
  exact kk
theorem sX0_take_7 {g : ZG} {Q : ZQ} {d cN sN : Nat} {M : ZM} {t0 : Nat} {t1 : Int32} {t2 : Int32} {n1 : Nat} {f2 : Nat → Int64} {o0 o1 o2 o3 : Option Value} (h3 : M.1 t0 = some (.inl (zA g 1, n1, .inr (.inl (f2))))) (h4 : vp_in (t1) n1) (kk : Z g kX0_take Q d cN sN (zup M t0 (.inl (zA g 1, n1, .inr (.inl (vp_updL f2 ((t1 : Int32).toNatClampNeg) ((t2 : Int32).toInt64)))))) 15 [o0, o1, o2, o3] []) : Z g kX0_take Q d cN sN M 7 [o0, o1, o2, o3] [.int t2, .int t1, .ref t0] := by
  refine zi_i2l dX0_take_7 ?_
  refine zi_lastore dX0_take_8 h3 h4 ?_
  exact zi_goto (tgt := 15) dX0_take_9 (by decide +kernel) kk
theorem sX0_take_12 {g : ZG} {Q : ZQ} {d cN sN : Nat} {M : ZM} {t0 : Nat} {o0 o1 o2 o3 : Option Value}  (kk : Q.1 (some (.int 1)) M) : Z g kX0_take Q d cN sN M 12 [o0, o1, o2, o3] [.ref t0] := by
  refine zi_astore_n dX0_take_12 zrf_r (Nat.le_of_ble_eq_true rfl) ?_
  refine zi_iconst dX0_take_13 (by decide +kernel : Int32.ofInt (1) = (1 : Int32)) ?_
  exact zi_ireturn dX0_take_14 rfl rfl kk
theorem sX0_take_15 {g : ZG} {Q : ZQ} {d cN sN : Nat} {M : ZM} {o0 o1 o2 o3 : Option Value}  (kk : Q.1 (some (.int 0)) M) : Z g kX0_take Q d cN sN M 15 [o0, o1, o2, o3] [] := by
  refine zi_iconst dX0_take_15 (by decide +kernel : Int32.ofInt (0) = (0 : Int32)) ?_
  exact zi_ireturn dX0_take_16 rfl rfl kk
abbrev kX0_set : ZK := (RX0, cX0_set, 6, (Option.some Jvm.ClassFile.FieldType.int), [(0, 12, 15, 21), (0, 12, 19, 13), (0, 12, 23, 15)], false, fX0)
abbrev tX0_set (g : ZG) (args : List Value) (M : ZM) (d c s : Nat) (Q : ZQ) : Prop := Ct g yX0_set (wsW_ yX0_set cX0_set 6 (Option.some Jvm.ClassFile.FieldType.int) [(0, 12, 15, 21), (0, 12, 19, 13), (0, 12, 23, 15)]) args M d c s Q
abbrev nX0_set : Nat := 14
theorem mX0_set : zMok yX0_set 5 6 := ⟨⟨by decide +kernel, by decide +kernel, by decide +kernel⟩, by decide⟩
theorem eX0_set {g : ZG} {Q : ZQ} {d cN sN : Nat} {M : ZM} {v1 : Value} (hv1 : v1.category = 1) {x2 : Int32} {x3 : Int32} {x4 : Int32} {v5 : Value} (hv5 : v5.category = 1) (hV : zV g) (h : Z g kX0_set Q d cN sN M 0 [some (v1), some (.int x2), some (.int x3), some (.int x4), some (v5), none] []) : tX0_set g [v1, .int x2, .int x3, .int x4, v5] M d cN sN Q := Ct.ofW (K := kX0_set) rfl (by decide +kernel) hV fokX0 (fun h => by cases h) (fun v hv => by simp only [List.mem_cons, List.not_mem_nil, or_false] at hv; rcases hv with rfl | rfl | rfl | rfl | rfl <;> first | rfl | assumption) (Nat.le_of_ble_eq_true rfl) h
theorem sX0_set_0 {g : ZG} {Q : ZQ} {d cN sN : Nat} {M : ZM} {l4 : Nat} {l0 : Nat} {l1 : Int32} {l2 : Int32} {l3 : Int32} {o5 : Option Value}  (kk : Z g kX0_set Q d cN sN M 7 [some (.ref l0), some (.int l1), some (.int l2), some (.int l3), some (.ref l4), o5] [.int l3, .int l2, .int l1, .ref l0, .int 0, .ref l4]) : Z g kX0_set Q d cN sN M 0 [some (.ref l0), some (.int l1), some (.int l2), some (.int l3), some (.ref l4), o5] [] := by
  refine zi_aload dX0_set_0 rfl zrf_r ?_
  refine zi_iconst dX0_set_2 (by decide +kernel : Int32.ofInt (0) = (0 : Int32)) ?_
  refine zi_aload_n dX0_set_3 rfl zrf_r ?_
  refine zi_iload_n dX0_set_4 rfl ?_
  refine zi_iload_n dX0_set_5 rfl ?_
  refine zi_iload_n dX0_set_6 rfl ?_
  exact kk
theorem sX0_set_10 {g : ZG} {Q : ZQ} {d cN sN : Nat} {M : ZM} {t0 : Nat} {t1 : Int32} {t2 : Int32} {n1 : Nat} {f2 : Nat → Int64} {o0 o1 o2 o3 o4 o5 : Option Value} (h3 : M.1 t0 = some (.inl (zA g 1, n1, .inr (.inl (f2))))) (h4 : vp_in (t1) n1) (kk : Z g kX0_set Q d cN sN (zup M t0 (.inl (zA g 1, n1, .inr (.inl (vp_updL f2 ((t1 : Int32).toNatClampNeg) ((t2 : Int32).toInt64)))))) 27 [o0, o1, o2, o3, o4, o5] []) : Z g kX0_set Q d cN sN M 10 [o0, o1, o2, o3, o4, o5] [.int t2, .int t1, .ref t0] := by
  refine zi_i2l dX0_set_10 ?_
  refine zi_lastore dX0_set_11 h3 h4 ?_
  exact zi_goto (tgt := 27) dX0_set_12 (by decide +kernel) kk
theorem sX0_set_15 {g : ZG} {Q : ZQ} {d cN sN : Nat} {M : ZM} {t0 : Nat} {o0 o1 o2 o3 o4 o5 : Option Value}  (kk : Q.1 (some (.int 1)) M) : Z g kX0_set Q d cN sN M 15 [o0, o1, o2, o3, o4, o5] [.ref t0] := by
  refine zi_astore dX0_set_15 zrf_r (Nat.le_of_ble_eq_true rfl) ?_
  refine zi_iconst dX0_set_17 (by decide +kernel : Int32.ofInt (1) = (1 : Int32)) ?_
  exact zi_ireturn dX0_set_18 rfl rfl kk
theorem sX0_set_19 {g : ZG} {Q : ZQ} {d cN sN : Nat} {M : ZM} {t0 : Nat} {o0 o1 o2 o3 o4 o5 : Option Value}  (kk : Q.1 (some (.int 2)) M) : Z g kX0_set Q d cN sN M 19 [o0, o1, o2, o3, o4, o5] [.ref t0] := by
  refine zi_astore dX0_set_19 zrf_r (Nat.le_of_ble_eq_true rfl) ?_
  refine zi_iconst dX0_set_21 (by decide +kernel : Int32.ofInt (2) = (2 : Int32)) ?_
  exact zi_ireturn dX0_set_22 rfl rfl kk
theorem sX0_set_23 {g : ZG} {Q : ZQ} {d cN sN : Nat} {M : ZM} {t0 : Nat} {o0 o1 o2 o3 o4 o5 : Option Value}  (kk : Q.1 (some (.int 3)) M) : Z g kX0_set Q d cN sN M 23 [o0, o1, o2, o3, o4, o5] [.ref t0] := by
  refine zi_astore dX0_set_23 zrf_r (Nat.le_of_ble_eq_true rfl) ?_
  refine zi_iconst dX0_set_25 (by decide +kernel : Int32.ofInt (3) = (3 : Int32)) ?_
  exact zi_ireturn dX0_set_26 rfl rfl kk
theorem sX0_set_27 {g : ZG} {Q : ZQ} {d cN sN : Nat} {M : ZM} {o0 o1 o2 o3 o4 o5 : Option Value}  (kk : Q.1 (some (.int 0)) M) : Z g kX0_set Q d cN sN M 27 [o0, o1, o2, o3, o4, o5] [] := by
  refine zi_iconst dX0_set_27 (by decide +kernel : Int32.ofInt (0) = (0 : Int32)) ?_
  exact zi_ireturn dX0_set_28 rfl rfl kk
abbrev kX0_license : ZK := (RX0, cX0_license, 5, (Option.some Jvm.ClassFile.FieldType.int), [(0, 10, 13, 21), (0, 10, 17, 15)], false, fX0)
abbrev tX0_license (g : ZG) (args : List Value) (M : ZM) (d c s : Nat) (Q : ZQ) : Prop := Ct g yX0_license (wsW_ yX0_license cX0_license 5 (Option.some Jvm.ClassFile.FieldType.int) [(0, 10, 13, 21), (0, 10, 17, 15)]) args M d c s Q
abbrev nX0_license : Nat := 14
theorem mX0_license : zMok yX0_license 4 5 := ⟨⟨by decide +kernel, by decide +kernel, by decide +kernel⟩, by decide⟩
theorem eX0_license {g : ZG} {Q : ZQ} {d cN sN : Nat} {M : ZM} {v1 : Value} (hv1 : v1.category = 1) {x2 : Int32} {x3 : Int32} {v4 : Value} (hv4 : v4.category = 1) (hV : zV g) (h : Z g kX0_license Q d cN sN M 0 [some (v1), some (.int x2), some (.int x3), some (v4), none] []) : tX0_license g [v1, .int x2, .int x3, v4] M d cN sN Q := Ct.ofW (K := kX0_license) rfl (by decide +kernel) hV fokX0 (fun h => by cases h) (fun v hv => by simp only [List.mem_cons, List.not_mem_nil, or_false] at hv; rcases hv with rfl | rfl | rfl | rfl <;> first | rfl | assumption) (Nat.le_of_ble_eq_true rfl) h
theorem sX0_license_0 {g : ZG} {Q : ZQ} {d cN sN : Nat} {M : ZM} {l3 : Nat} {l0 : Nat} {l1 : Int32} {l2 : Int32} {o4 : Option Value}  (kk : Z g kX0_license Q d cN sN M 5 [some (.ref l0), some (.int l1), some (.int l2), some (.ref l3), o4] [.int l2, .int l1, .ref l0, .int 0, .ref l3]) : Z g kX0_license Q d cN sN M 0 [some (.ref l0), some (.int l1), some (.int l2), some (.ref l3), o4] [] := by
  refine zi_aload_n dX0_license_0 rfl zrf_r ?_
  refine zi_iconst dX0_license_1 (by decide +kernel : Int32.ofInt (0) = (0 : Int32)) ?_
  refine zi_aload_n dX0_license_2 rfl zrf_r ?_
  refine zi_iload_n dX0_license_3 rfl ?_
  refine zi_iload_n dX0_license_4 rfl ?_
  exact kk
theorem sX0_license_8 {g : ZG} {Q : ZQ} {d cN sN : Nat} {M : ZM} {t0 : Nat} {t1 : Int32} {t2 : Int32} {n1 : Nat} {f2 : Nat → Int64} {o0 o1 o2 o3 o4 : Option Value} (h3 : M.1 t0 = some (.inl (zA g 1, n1, .inr (.inl (f2))))) (h4 : vp_in (t1) n1) (kk : Z g kX0_license Q d cN sN (zup M t0 (.inl (zA g 1, n1, .inr (.inl (vp_updL f2 ((t1 : Int32).toNatClampNeg) ((t2 : Int32).toInt64)))))) 21 [o0, o1, o2, o3, o4] []) : Z g kX0_license Q d cN sN M 8 [o0, o1, o2, o3, o4] [.int t2, .int t1, .ref t0] := by
  refine zi_i2l dX0_license_8 ?_
  refine zi_lastore dX0_license_9 h3 h4 ?_
  exact zi_goto (tgt := 21) dX0_license_10 (by decide +kernel) kk
theorem sX0_license_13 {g : ZG} {Q : ZQ} {d cN sN : Nat} {M : ZM} {t0 : Nat} {o0 o1 o2 o3 o4 : Option Value}  (kk : Q.1 (some (.int 1)) M) : Z g kX0_license Q d cN sN M 13 [o0, o1, o2, o3, o4] [.ref t0] := by
  refine zi_astore dX0_license_13 zrf_r (Nat.le_of_ble_eq_true rfl) ?_
  refine zi_iconst dX0_license_15 (by decide +kernel : Int32.ofInt (1) = (1 : Int32)) ?_
  exact zi_ireturn dX0_license_16 rfl rfl kk
theorem sX0_license_17 {g : ZG} {Q : ZQ} {d cN sN : Nat} {M : ZM} {t0 : Nat} {o0 o1 o2 o3 o4 : Option Value}  (kk : Q.1 (some (.int 2)) M) : Z g kX0_license Q d cN sN M 17 [o0, o1, o2, o3, o4] [.ref t0] := by
  refine zi_astore dX0_license_17 zrf_r (Nat.le_of_ble_eq_true rfl) ?_
  refine zi_iconst dX0_license_19 (by decide +kernel : Int32.ofInt (2) = (2 : Int32)) ?_
  exact zi_ireturn dX0_license_20 rfl rfl kk
theorem sX0_license_21 {g : ZG} {Q : ZQ} {d cN sN : Nat} {M : ZM} {o0 o1 o2 o3 o4 : Option Value}  (kk : Q.1 (some (.int 0)) M) : Z g kX0_license Q d cN sN M 21 [o0, o1, o2, o3, o4] [] := by
  refine zi_iconst dX0_license_21 (by decide +kernel : Int32.ofInt (0) = (0 : Int32)) ?_
  exact zi_ireturn dX0_license_22 rfl rfl kk
abbrev kX0_correct : ZK := (RX0, cX0_correct, 5, (Option.some Jvm.ClassFile.FieldType.int), [(0, 10, 13, 21), (0, 10, 17, 15)], false, fX0)
abbrev tX0_correct (g : ZG) (args : List Value) (M : ZM) (d c s : Nat) (Q : ZQ) : Prop := Ct g yX0_correct (wsW_ yX0_correct cX0_correct 5 (Option.some Jvm.ClassFile.FieldType.int) [(0, 10, 13, 21), (0, 10, 17, 15)]) args M d c s Q
abbrev nX0_correct : Nat := 14
theorem mX0_correct : zMok yX0_correct 4 5 := ⟨⟨by decide +kernel, by decide +kernel, by decide +kernel⟩, by decide⟩
theorem eX0_correct {g : ZG} {Q : ZQ} {d cN sN : Nat} {M : ZM} {v1 : Value} (hv1 : v1.category = 1) {x2 : Int32} {x3 : Int32} {v4 : Value} (hv4 : v4.category = 1) (hV : zV g) (h : Z g kX0_correct Q d cN sN M 0 [some (v1), some (.int x2), some (.int x3), some (v4), none] []) : tX0_correct g [v1, .int x2, .int x3, v4] M d cN sN Q := Ct.ofW (K := kX0_correct) rfl (by decide +kernel) hV fokX0 (fun h => by cases h) (fun v hv => by simp only [List.mem_cons, List.not_mem_nil, or_false] at hv; rcases hv with rfl | rfl | rfl | rfl <;> first | rfl | assumption) (Nat.le_of_ble_eq_true rfl) h
theorem sX0_correct_0 {g : ZG} {Q : ZQ} {d cN sN : Nat} {M : ZM} {l3 : Nat} {l0 : Nat} {l1 : Int32} {l2 : Int32} {o4 : Option Value}  (kk : Z g kX0_correct Q d cN sN M 5 [some (.ref l0), some (.int l1), some (.int l2), some (.ref l3), o4] [.int l2, .int l1, .ref l0, .int 0, .ref l3]) : Z g kX0_correct Q d cN sN M 0 [some (.ref l0), some (.int l1), some (.int l2), some (.ref l3), o4] [] := by
  refine zi_aload_n dX0_correct_0 rfl zrf_r ?_
  refine zi_iconst dX0_correct_1 (by decide +kernel : Int32.ofInt (0) = (0 : Int32)) ?_
  refine zi_aload_n dX0_correct_2 rfl zrf_r ?_
  refine zi_iload_n dX0_correct_3 rfl ?_
  refine zi_iload_n dX0_correct_4 rfl ?_
  exact kk
theorem sX0_correct_8 {g : ZG} {Q : ZQ} {d cN sN : Nat} {M : ZM} {t0 : Nat} {t1 : Int32} {t2 : Int32} {n1 : Nat} {f2 : Nat → Int64} {o0 o1 o2 o3 o4 : Option Value} (h3 : M.1 t0 = some (.inl (zA g 1, n1, .inr (.inl (f2))))) (h4 : vp_in (t1) n1) (kk : Z g kX0_correct Q d cN sN (zup M t0 (.inl (zA g 1, n1, .inr (.inl (vp_updL f2 ((t1 : Int32).toNatClampNeg) ((t2 : Int32).toInt64)))))) 21 [o0, o1, o2, o3, o4] []) : Z g kX0_correct Q d cN sN M 8 [o0, o1, o2, o3, o4] [.int t2, .int t1, .ref t0] := by
  refine zi_i2l dX0_correct_8 ?_
  refine zi_lastore dX0_correct_9 h3 h4 ?_
  exact zi_goto (tgt := 21) dX0_correct_10 (by decide +kernel) kk
theorem sX0_correct_13 {g : ZG} {Q : ZQ} {d cN sN : Nat} {M : ZM} {t0 : Nat} {o0 o1 o2 o3 o4 : Option Value}  (kk : Q.1 (some (.int 1)) M) : Z g kX0_correct Q d cN sN M 13 [o0, o1, o2, o3, o4] [.ref t0] := by
  refine zi_astore dX0_correct_13 zrf_r (Nat.le_of_ble_eq_true rfl) ?_
  refine zi_iconst dX0_correct_15 (by decide +kernel : Int32.ofInt (1) = (1 : Int32)) ?_
  exact zi_ireturn dX0_correct_16 rfl rfl kk
theorem sX0_correct_17 {g : ZG} {Q : ZQ} {d cN sN : Nat} {M : ZM} {t0 : Nat} {o0 o1 o2 o3 o4 : Option Value}  (kk : Q.1 (some (.int 2)) M) : Z g kX0_correct Q d cN sN M 17 [o0, o1, o2, o3, o4] [.ref t0] := by
  refine zi_astore dX0_correct_17 zrf_r (Nat.le_of_ble_eq_true rfl) ?_
  refine zi_iconst dX0_correct_19 (by decide +kernel : Int32.ofInt (2) = (2 : Int32)) ?_
  exact zi_ireturn dX0_correct_20 rfl rfl kk
theorem sX0_correct_21 {g : ZG} {Q : ZQ} {d cN sN : Nat} {M : ZM} {o0 o1 o2 o3 o4 : Option Value}  (kk : Q.1 (some (.int 0)) M) : Z g kX0_correct Q d cN sN M 21 [o0, o1, o2, o3, o4] [] := by
  refine zi_iconst dX0_correct_21 (by decide +kernel : Int32.ofInt (0) = (0 : Int32)) ?_
  exact zi_ireturn dX0_correct_22 rfl rfl kk
abbrev kX0_reader : ZK := (RX0, cX0_reader, 5, (Option.some Jvm.ClassFile.FieldType.int), [(0, 10, 13, 13), (0, 10, 17, 15)], false, fX0)
abbrev tX0_reader (g : ZG) (args : List Value) (M : ZM) (d c s : Nat) (Q : ZQ) : Prop := Ct g yX0_reader (wsW_ yX0_reader cX0_reader 5 (Option.some Jvm.ClassFile.FieldType.int) [(0, 10, 13, 13), (0, 10, 17, 15)]) args M d c s Q
abbrev nX0_reader : Nat := 14
theorem mX0_reader : zMok yX0_reader 4 5 := ⟨⟨by decide +kernel, by decide +kernel, by decide +kernel⟩, by decide⟩
theorem eX0_reader {g : ZG} {Q : ZQ} {d cN sN : Nat} {M : ZM} {v1 : Value} (hv1 : v1.category = 1) {x2 : Int32} {x3 : Int32} {v4 : Value} (hv4 : v4.category = 1) (hV : zV g) (h : Z g kX0_reader Q d cN sN M 0 [some (v1), some (.int x2), some (.int x3), some (v4), none] []) : tX0_reader g [v1, .int x2, .int x3, v4] M d cN sN Q := Ct.ofW (K := kX0_reader) rfl (by decide +kernel) hV fokX0 (fun h => by cases h) (fun v hv => by simp only [List.mem_cons, List.not_mem_nil, or_false] at hv; rcases hv with rfl | rfl | rfl | rfl <;> first | rfl | assumption) (Nat.le_of_ble_eq_true rfl) h
theorem sX0_reader_0 {g : ZG} {Q : ZQ} {d cN sN : Nat} {M : ZM} {l3 : Nat} {l0 : Nat} {l1 : Int32} {l2 : Int32} {o4 : Option Value}  (kk : Z g kX0_reader Q d cN sN M 5 [some (.ref l0), some (.int l1), some (.int l2), some (.ref l3), o4] [.int l2, .int l1, .ref l0, .int 0, .ref l3]) : Z g kX0_reader Q d cN sN M 0 [some (.ref l0), some (.int l1), some (.int l2), some (.ref l3), o4] [] := by
  refine zi_aload_n dX0_reader_0 rfl zrf_r ?_
  refine zi_iconst dX0_reader_1 (by decide +kernel : Int32.ofInt (0) = (0 : Int32)) ?_
  refine zi_aload_n dX0_reader_2 rfl zrf_r ?_
  refine zi_iload_n dX0_reader_3 rfl ?_
  refine zi_iload_n dX0_reader_4 rfl ?_
  exact kk
theorem sX0_reader_8 {g : ZG} {Q : ZQ} {d cN sN : Nat} {M : ZM} {t0 : Nat} {t1 : Int32} {t2 : Int32} {n1 : Nat} {f2 : Nat → Int64} {o0 o1 o2 o3 o4 : Option Value} (h3 : M.1 t0 = some (.inl (zA g 1, n1, .inr (.inl (f2))))) (h4 : vp_in (t1) n1) (kk : Z g kX0_reader Q d cN sN (zup M t0 (.inl (zA g 1, n1, .inr (.inl (vp_updL f2 ((t1 : Int32).toNatClampNeg) ((t2 : Int32).toInt64)))))) 21 [o0, o1, o2, o3, o4] []) : Z g kX0_reader Q d cN sN M 8 [o0, o1, o2, o3, o4] [.int t2, .int t1, .ref t0] := by
  refine zi_i2l dX0_reader_8 ?_
  refine zi_lastore dX0_reader_9 h3 h4 ?_
  exact zi_goto (tgt := 21) dX0_reader_10 (by decide +kernel) kk
theorem sX0_reader_13 {g : ZG} {Q : ZQ} {d cN sN : Nat} {M : ZM} {t0 : Nat} {o0 o1 o2 o3 o4 : Option Value}  (kk : Q.1 (some (.int 1)) M) : Z g kX0_reader Q d cN sN M 13 [o0, o1, o2, o3, o4] [.ref t0] := by
  refine zi_astore dX0_reader_13 zrf_r (Nat.le_of_ble_eq_true rfl) ?_
  refine zi_iconst dX0_reader_15 (by decide +kernel : Int32.ofInt (1) = (1 : Int32)) ?_
  exact zi_ireturn dX0_reader_16 rfl rfl kk
theorem sX0_reader_17 {g : ZG} {Q : ZQ} {d cN sN : Nat} {M : ZM} {t0 : Nat} {o0 o1 o2 o3 o4 : Option Value}  (kk : Q.1 (some (.int 2)) M) : Z g kX0_reader Q d cN sN M 17 [o0, o1, o2, o3, o4] [.ref t0] := by
  refine zi_astore dX0_reader_17 zrf_r (Nat.le_of_ble_eq_true rfl) ?_
  refine zi_iconst dX0_reader_19 (by decide +kernel : Int32.ofInt (2) = (2 : Int32)) ?_
  exact zi_ireturn dX0_reader_20 rfl rfl kk
theorem sX0_reader_21 {g : ZG} {Q : ZQ} {d cN sN : Nat} {M : ZM} {o0 o1 o2 o3 o4 : Option Value}  (kk : Q.1 (some (.int 0)) M) : Z g kX0_reader Q d cN sN M 21 [o0, o1, o2, o3, o4] [] := by
  refine zi_iconst dX0_reader_21 (by decide +kernel : Int32.ofInt (0) = (0 : Int32)) ?_
  exact zi_ireturn dX0_reader_22 rfl rfl kk
abbrev kX0_edition : ZK := (RX0, cX0_edition, 3, (Option.some Jvm.ClassFile.FieldType.int), [(0, 8, 11, 15)], false, fX0)
abbrev tX0_edition (g : ZG) (args : List Value) (M : ZM) (d c s : Nat) (Q : ZQ) : Prop := Ct g yX0_edition (wsW_ yX0_edition cX0_edition 3 (Option.some Jvm.ClassFile.FieldType.int) [(0, 8, 11, 15)]) args M d c s Q
abbrev nX0_edition : Nat := 14
theorem mX0_edition : zMok yX0_edition 2 3 := ⟨⟨by decide +kernel, by decide +kernel, by decide +kernel⟩, by decide⟩
theorem eX0_edition {g : ZG} {Q : ZQ} {d cN sN : Nat} {M : ZM} {v1 : Value} (hv1 : v1.category = 1) {v2 : Value} (hv2 : v2.category = 1) (hV : zV g) (h : Z g kX0_edition Q d cN sN M 0 [some (v1), some (v2), none] []) : tX0_edition g [v1, v2] M d cN sN Q := Ct.ofW (K := kX0_edition) rfl (by decide +kernel) hV fokX0 (fun h => by cases h) (fun v hv => by simp only [List.mem_cons, List.not_mem_nil, or_false] at hv; rcases hv with rfl | rfl <;> first | rfl | assumption) (Nat.le_of_ble_eq_true rfl) h
theorem sX0_edition_0 {g : ZG} {Q : ZQ} {d cN sN : Nat} {M : ZM} {l1 : Nat} {l0 : Nat} {o2 : Option Value}  (kk : Z g kX0_edition Q d cN sN M 3 [some (.ref l0), some (.ref l1), o2] [.ref l0, .int 0, .ref l1]) : Z g kX0_edition Q d cN sN M 0 [some (.ref l0), some (.ref l1), o2] [] := by
  refine zi_aload_n dX0_edition_0 rfl zrf_r ?_
  refine zi_iconst dX0_edition_1 (by decide +kernel : Int32.ofInt (0) = (0 : Int32)) ?_
  refine zi_aload_n dX0_edition_2 rfl zrf_r ?_
  exact kk
theorem sX0_edition_6 {g : ZG} {Q : ZQ} {d cN sN : Nat} {M : ZM} {t0 : Nat} {t1 : Int32} {t2 : Int32} {n1 : Nat} {f2 : Nat → Int64} {o0 o1 o2 : Option Value} (h3 : M.1 t0 = some (.inl (zA g 1, n1, .inr (.inl (f2))))) (h4 : vp_in (t1) n1) (kk : Z g kX0_edition Q d cN sN (zup M t0 (.inl (zA g 1, n1, .inr (.inl (vp_updL f2 ((t1 : Int32).toNatClampNeg) ((t2 : Int32).toInt64)))))) 14 [o0, o1, o2] []) : Z g kX0_edition Q d cN sN M 6 [o0, o1, o2] [.int t2, .int t1, .ref t0] := by
  refine zi_i2l dX0_edition_6 ?_
  refine zi_lastore dX0_edition_7 h3 h4 ?_
  exact zi_goto (tgt := 14) dX0_edition_8 (by decide +kernel) kk
theorem sX0_edition_11 {g : ZG} {Q : ZQ} {d cN sN : Nat} {M : ZM} {t0 : Nat} {o0 o1 o2 : Option Value}  (kk : Q.1 (some (.int 1)) M) : Z g kX0_edition Q d cN sN M 11 [o0, o1, o2] [.ref t0] := by
  refine zi_astore_n dX0_edition_11 zrf_r (Nat.le_of_ble_eq_true rfl) ?_
  refine zi_iconst dX0_edition_12 (by decide +kernel : Int32.ofInt (1) = (1 : Int32)) ?_
  exact zi_ireturn dX0_edition_13 rfl rfl kk
theorem sX0_edition_14 {g : ZG} {Q : ZQ} {d cN sN : Nat} {M : ZM} {o0 o1 o2 : Option Value}  (kk : Q.1 (some (.int 0)) M) : Z g kX0_edition Q d cN sN M 14 [o0, o1, o2] [] := by
  refine zi_iconst dX0_edition_14 (by decide +kernel : Int32.ofInt (0) = (0 : Int32)) ?_
  exact zi_ireturn dX0_edition_15 rfl rfl kk
abbrev kX0_houseOf : ZK := (RX0, cX0_houseOf, 5, (Option.some Jvm.ClassFile.FieldType.int), [(0, 10, 13, 21), (0, 10, 17, 13)], false, fX0)
abbrev tX0_houseOf (g : ZG) (args : List Value) (M : ZM) (d c s : Nat) (Q : ZQ) : Prop := Ct g yX0_houseOf (wsW_ yX0_houseOf cX0_houseOf 5 (Option.some Jvm.ClassFile.FieldType.int) [(0, 10, 13, 21), (0, 10, 17, 13)]) args M d c s Q
abbrev nX0_houseOf : Nat := 11
theorem mX0_houseOf : zMok yX0_houseOf 4 5 := ⟨⟨by decide +kernel, by decide +kernel, by decide +kernel⟩, by decide⟩
theorem eX0_houseOf {g : ZG} {Q : ZQ} {d cN sN : Nat} {M : ZM} {v1 : Value} (hv1 : v1.category = 1) {x2 : Int32} {x3 : Int32} {v4 : Value} (hv4 : v4.category = 1) (hV : zV g) (h : Z g kX0_houseOf Q d cN sN M 0 [some (v1), some (.int x2), some (.int x3), some (v4), none] []) : tX0_houseOf g [v1, .int x2, .int x3, v4] M d cN sN Q := Ct.ofW (K := kX0_houseOf) rfl (by decide +kernel) hV fokX0 (fun h => by cases h) (fun v hv => by simp only [List.mem_cons, List.not_mem_nil, or_false] at hv; rcases hv with rfl | rfl | rfl | rfl <;> first | rfl | assumption) (Nat.le_of_ble_eq_true rfl) h
theorem sX0_houseOf_0 {g : ZG} {Q : ZQ} {d cN sN : Nat} {M : ZM} {l3 : Nat} {l0 : Nat} {l1 : Int32} {l2 : Int32} {o4 : Option Value}  (kk : Z g kX0_houseOf Q d cN sN M 5 [some (.ref l0), some (.int l1), some (.int l2), some (.ref l3), o4] [.int l2, .int l1, .ref l0, .int 0, .ref l3]) : Z g kX0_houseOf Q d cN sN M 0 [some (.ref l0), some (.int l1), some (.int l2), some (.ref l3), o4] [] := by
  refine zi_aload_n dX0_houseOf_0 rfl zrf_r ?_
  refine zi_iconst dX0_houseOf_1 (by decide +kernel : Int32.ofInt (0) = (0 : Int32)) ?_
  refine zi_aload_n dX0_houseOf_2 rfl zrf_r ?_
  refine zi_iload_n dX0_houseOf_3 rfl ?_
  refine zi_iload_n dX0_houseOf_4 rfl ?_
  exact kk
theorem sX0_houseOf_8 {g : ZG} {Q : ZQ} {d cN sN : Nat} {M : ZM} {t0 : Nat} {t1 : Int32} {t2 : Int32} {n1 : Nat} {f2 : Nat → Int64} {o0 o1 o2 o3 o4 : Option Value} (h3 : M.1 t0 = some (.inl (zA g 1, n1, .inr (.inl (f2))))) (h4 : vp_in (t1) n1) (kk : Z g kX0_houseOf Q d cN sN (zup M t0 (.inl (zA g 1, n1, .inr (.inl (vp_updL f2 ((t1 : Int32).toNatClampNeg) ((t2 : Int32).toInt64)))))) 21 [o0, o1, o2, o3, o4] []) : Z g kX0_houseOf Q d cN sN M 8 [o0, o1, o2, o3, o4] [.int t2, .int t1, .ref t0] := by
  refine zi_i2l dX0_houseOf_8 ?_
  refine zi_lastore dX0_houseOf_9 h3 h4 ?_
  exact zi_goto (tgt := 21) dX0_houseOf_10 (by decide +kernel) kk
theorem sX0_houseOf_13 {g : ZG} {Q : ZQ} {d cN sN : Nat} {M : ZM} {t0 : Nat} {o0 o1 o2 o3 o4 : Option Value}  (kk : Q.1 (some (.int 1)) M) : Z g kX0_houseOf Q d cN sN M 13 [o0, o1, o2, o3, o4] [.ref t0] := by
  refine zi_astore dX0_houseOf_13 zrf_r (Nat.le_of_ble_eq_true rfl) ?_
  refine zi_iconst dX0_houseOf_15 (by decide +kernel : Int32.ofInt (1) = (1 : Int32)) ?_
  exact zi_ireturn dX0_houseOf_16 rfl rfl kk
theorem sX0_houseOf_17 {g : ZG} {Q : ZQ} {d cN sN : Nat} {M : ZM} {t0 : Nat} {o0 o1 o2 o3 o4 : Option Value}  (kk : Q.1 (some (.int 2)) M) : Z g kX0_houseOf Q d cN sN M 17 [o0, o1, o2, o3, o4] [.ref t0] := by
  refine zi_astore dX0_houseOf_17 zrf_r (Nat.le_of_ble_eq_true rfl) ?_
  refine zi_iconst dX0_houseOf_19 (by decide +kernel : Int32.ofInt (2) = (2 : Int32)) ?_
  exact zi_ireturn dX0_houseOf_20 rfl rfl kk
theorem sX0_houseOf_21 {g : ZG} {Q : ZQ} {d cN sN : Nat} {M : ZM} {o0 o1 o2 o3 o4 : Option Value}  (kk : Q.1 (some (.int 0)) M) : Z g kX0_houseOf Q d cN sN M 21 [o0, o1, o2, o3, o4] [] := by
  refine zi_iconst dX0_houseOf_21 (by decide +kernel : Int32.ofInt (0) = (0 : Int32)) ?_
  exact zi_ireturn dX0_houseOf_22 rfl rfl kk
abbrev kX0_sheetOf : ZK := (RX0, cX0_sheetOf, 5, (Option.some Jvm.ClassFile.FieldType.int), [(0, 10, 13, 21), (0, 10, 17, 13)], false, fX0)
abbrev tX0_sheetOf (g : ZG) (args : List Value) (M : ZM) (d c s : Nat) (Q : ZQ) : Prop := Ct g yX0_sheetOf (wsW_ yX0_sheetOf cX0_sheetOf 5 (Option.some Jvm.ClassFile.FieldType.int) [(0, 10, 13, 21), (0, 10, 17, 13)]) args M d c s Q
abbrev nX0_sheetOf : Nat := 11
theorem mX0_sheetOf : zMok yX0_sheetOf 4 5 := ⟨⟨by decide +kernel, by decide +kernel, by decide +kernel⟩, by decide⟩
theorem eX0_sheetOf {g : ZG} {Q : ZQ} {d cN sN : Nat} {M : ZM} {v1 : Value} (hv1 : v1.category = 1) {x2 : Int32} {x3 : Int32} {v4 : Value} (hv4 : v4.category = 1) (hV : zV g) (h : Z g kX0_sheetOf Q d cN sN M 0 [some (v1), some (.int x2), some (.int x3), some (v4), none] []) : tX0_sheetOf g [v1, .int x2, .int x3, v4] M d cN sN Q := Ct.ofW (K := kX0_sheetOf) rfl (by decide +kernel) hV fokX0 (fun h => by cases h) (fun v hv => by simp only [List.mem_cons, List.not_mem_nil, or_false] at hv; rcases hv with rfl | rfl | rfl | rfl <;> first | rfl | assumption) (Nat.le_of_ble_eq_true rfl) h
theorem sX0_sheetOf_0 {g : ZG} {Q : ZQ} {d cN sN : Nat} {M : ZM} {l3 : Nat} {l0 : Nat} {l1 : Int32} {l2 : Int32} {o4 : Option Value}  (kk : Z g kX0_sheetOf Q d cN sN M 5 [some (.ref l0), some (.int l1), some (.int l2), some (.ref l3), o4] [.int l2, .int l1, .ref l0, .int 0, .ref l3]) : Z g kX0_sheetOf Q d cN sN M 0 [some (.ref l0), some (.int l1), some (.int l2), some (.ref l3), o4] [] := by
  refine zi_aload_n dX0_sheetOf_0 rfl zrf_r ?_
  refine zi_iconst dX0_sheetOf_1 (by decide +kernel : Int32.ofInt (0) = (0 : Int32)) ?_
  refine zi_aload_n dX0_sheetOf_2 rfl zrf_r ?_
  refine zi_iload_n dX0_sheetOf_3 rfl ?_
  refine zi_iload_n dX0_sheetOf_4 rfl ?_
  exact kk
theorem sX0_sheetOf_8 {g : ZG} {Q : ZQ} {d cN sN : Nat} {M : ZM} {t0 : Nat} {t1 : Int32} {t2 : Int32} {n1 : Nat} {f2 : Nat → Int64} {o0 o1 o2 o3 o4 : Option Value} (h3 : M.1 t0 = some (.inl (zA g 1, n1, .inr (.inl (f2))))) (h4 : vp_in (t1) n1) (kk : Z g kX0_sheetOf Q d cN sN (zup M t0 (.inl (zA g 1, n1, .inr (.inl (vp_updL f2 ((t1 : Int32).toNatClampNeg) ((t2 : Int32).toInt64)))))) 21 [o0, o1, o2, o3, o4] []) : Z g kX0_sheetOf Q d cN sN M 8 [o0, o1, o2, o3, o4] [.int t2, .int t1, .ref t0] := by
  refine zi_i2l dX0_sheetOf_8 ?_
  refine zi_lastore dX0_sheetOf_9 h3 h4 ?_
  exact zi_goto (tgt := 21) dX0_sheetOf_10 (by decide +kernel) kk
theorem sX0_sheetOf_13 {g : ZG} {Q : ZQ} {d cN sN : Nat} {M : ZM} {t0 : Nat} {o0 o1 o2 o3 o4 : Option Value}  (kk : Q.1 (some (.int 1)) M) : Z g kX0_sheetOf Q d cN sN M 13 [o0, o1, o2, o3, o4] [.ref t0] := by
  refine zi_astore dX0_sheetOf_13 zrf_r (Nat.le_of_ble_eq_true rfl) ?_
  refine zi_iconst dX0_sheetOf_15 (by decide +kernel : Int32.ofInt (1) = (1 : Int32)) ?_
  exact zi_ireturn dX0_sheetOf_16 rfl rfl kk
theorem sX0_sheetOf_17 {g : ZG} {Q : ZQ} {d cN sN : Nat} {M : ZM} {t0 : Nat} {o0 o1 o2 o3 o4 : Option Value}  (kk : Q.1 (some (.int 2)) M) : Z g kX0_sheetOf Q d cN sN M 17 [o0, o1, o2, o3, o4] [.ref t0] := by
  refine zi_astore dX0_sheetOf_17 zrf_r (Nat.le_of_ble_eq_true rfl) ?_
  refine zi_iconst dX0_sheetOf_19 (by decide +kernel : Int32.ofInt (2) = (2 : Int32)) ?_
  exact zi_ireturn dX0_sheetOf_20 rfl rfl kk
theorem sX0_sheetOf_21 {g : ZG} {Q : ZQ} {d cN sN : Nat} {M : ZM} {o0 o1 o2 o3 o4 : Option Value}  (kk : Q.1 (some (.int 0)) M) : Z g kX0_sheetOf Q d cN sN M 21 [o0, o1, o2, o3, o4] [] := by
  refine zi_iconst dX0_sheetOf_21 (by decide +kernel : Int32.ofInt (0) = (0 : Int32)) ?_
  exact zi_ireturn dX0_sheetOf_22 rfl rfl kk
abbrev kX0_letterAt : ZK := (RX0, cX0_letterAt, 6, (Option.some Jvm.ClassFile.FieldType.int), [(0, 12, 15, 21)], false, fX0)
abbrev tX0_letterAt (g : ZG) (args : List Value) (M : ZM) (d c s : Nat) (Q : ZQ) : Prop := Ct g yX0_letterAt (wsW_ yX0_letterAt cX0_letterAt 6 (Option.some Jvm.ClassFile.FieldType.int) [(0, 12, 15, 21)]) args M d c s Q
abbrev nX0_letterAt : Nat := 11
theorem mX0_letterAt : zMok yX0_letterAt 5 6 := ⟨⟨by decide +kernel, by decide +kernel, by decide +kernel⟩, by decide⟩
theorem eX0_letterAt {g : ZG} {Q : ZQ} {d cN sN : Nat} {M : ZM} {v1 : Value} (hv1 : v1.category = 1) {x2 : Int32} {x3 : Int32} {x4 : Int32} {v5 : Value} (hv5 : v5.category = 1) (hV : zV g) (h : Z g kX0_letterAt Q d cN sN M 0 [some (v1), some (.int x2), some (.int x3), some (.int x4), some (v5), none] []) : tX0_letterAt g [v1, .int x2, .int x3, .int x4, v5] M d cN sN Q := Ct.ofW (K := kX0_letterAt) rfl (by decide +kernel) hV fokX0 (fun h => by cases h) (fun v hv => by simp only [List.mem_cons, List.not_mem_nil, or_false] at hv; rcases hv with rfl | rfl | rfl | rfl | rfl <;> first | rfl | assumption) (Nat.le_of_ble_eq_true rfl) h
theorem sX0_letterAt_0 {g : ZG} {Q : ZQ} {d cN sN : Nat} {M : ZM} {l4 : Nat} {l0 : Nat} {l1 : Int32} {l2 : Int32} {l3 : Int32} {o5 : Option Value}  (kk : Z g kX0_letterAt Q d cN sN M 7 [some (.ref l0), some (.int l1), some (.int l2), some (.int l3), some (.ref l4), o5] [.int l3, .int l2, .int l1, .ref l0, .int 0, .ref l4]) : Z g kX0_letterAt Q d cN sN M 0 [some (.ref l0), some (.int l1), some (.int l2), some (.int l3), some (.ref l4), o5] [] := by
  refine zi_aload dX0_letterAt_0 rfl zrf_r ?_
  refine zi_iconst dX0_letterAt_2 (by decide +kernel : Int32.ofInt (0) = (0 : Int32)) ?_
  refine zi_aload_n dX0_letterAt_3 rfl zrf_r ?_
  refine zi_iload_n dX0_letterAt_4 rfl ?_
  refine zi_iload_n dX0_letterAt_5 rfl ?_
  refine zi_iload_n dX0_letterAt_6 rfl ?_
  exact kk
theorem sX0_letterAt_10 {g : ZG} {Q : ZQ} {d cN sN : Nat} {M : ZM} {t0 : Nat} {t1 : Int32} {t2 : Int32} {n1 : Nat} {f2 : Nat → Int64} {o0 o1 o2 o3 o4 o5 : Option Value} (h3 : M.1 t0 = some (.inl (zA g 1, n1, .inr (.inl (f2))))) (h4 : vp_in (t1) n1) (kk : Z g kX0_letterAt Q d cN sN (zup M t0 (.inl (zA g 1, n1, .inr (.inl (vp_updL f2 ((t1 : Int32).toNatClampNeg) ((t2 : Int32).toInt64)))))) 19 [o0, o1, o2, o3, o4, o5] []) : Z g kX0_letterAt Q d cN sN M 10 [o0, o1, o2, o3, o4, o5] [.int t2, .int t1, .ref t0] := by
  refine zi_i2l dX0_letterAt_10 ?_
  refine zi_lastore dX0_letterAt_11 h3 h4 ?_
  exact zi_goto (tgt := 19) dX0_letterAt_12 (by decide +kernel) kk
theorem sX0_letterAt_15 {g : ZG} {Q : ZQ} {d cN sN : Nat} {M : ZM} {t0 : Nat} {o0 o1 o2 o3 o4 o5 : Option Value}  (kk : Q.1 (some (.int 1)) M) : Z g kX0_letterAt Q d cN sN M 15 [o0, o1, o2, o3, o4, o5] [.ref t0] := by
  refine zi_astore dX0_letterAt_15 zrf_r (Nat.le_of_ble_eq_true rfl) ?_
  refine zi_iconst dX0_letterAt_17 (by decide +kernel : Int32.ofInt (1) = (1 : Int32)) ?_
  exact zi_ireturn dX0_letterAt_18 rfl rfl kk
theorem sX0_letterAt_19 {g : ZG} {Q : ZQ} {d cN sN : Nat} {M : ZM} {o0 o1 o2 o3 o4 o5 : Option Value}  (kk : Q.1 (some (.int 0)) M) : Z g kX0_letterAt Q d cN sN M 19 [o0, o1, o2, o3, o4, o5] [] := by
  refine zi_iconst dX0_letterAt_19 (by decide +kernel : Int32.ofInt (0) = (0 : Int32)) ?_
  exact zi_ireturn dX0_letterAt_20 rfl rfl kk
abbrev kX0_markAt : ZK := (RX0, cX0_markAt, 5, (Option.some Jvm.ClassFile.FieldType.int), [(0, 10, 13, 21)], false, fX0)
abbrev tX0_markAt (g : ZG) (args : List Value) (M : ZM) (d c s : Nat) (Q : ZQ) : Prop := Ct g yX0_markAt (wsW_ yX0_markAt cX0_markAt 5 (Option.some Jvm.ClassFile.FieldType.int) [(0, 10, 13, 21)]) args M d c s Q
abbrev nX0_markAt : Nat := 11
theorem mX0_markAt : zMok yX0_markAt 4 5 := ⟨⟨by decide +kernel, by decide +kernel, by decide +kernel⟩, by decide⟩
theorem eX0_markAt {g : ZG} {Q : ZQ} {d cN sN : Nat} {M : ZM} {v1 : Value} (hv1 : v1.category = 1) {x2 : Int32} {x3 : Int32} {v4 : Value} (hv4 : v4.category = 1) (hV : zV g) (h : Z g kX0_markAt Q d cN sN M 0 [some (v1), some (.int x2), some (.int x3), some (v4), none] []) : tX0_markAt g [v1, .int x2, .int x3, v4] M d cN sN Q := Ct.ofW (K := kX0_markAt) rfl (by decide +kernel) hV fokX0 (fun h => by cases h) (fun v hv => by simp only [List.mem_cons, List.not_mem_nil, or_false] at hv; rcases hv with rfl | rfl | rfl | rfl <;> first | rfl | assumption) (Nat.le_of_ble_eq_true rfl) h
theorem sX0_markAt_0 {g : ZG} {Q : ZQ} {d cN sN : Nat} {M : ZM} {l3 : Nat} {l0 : Nat} {l1 : Int32} {l2 : Int32} {o4 : Option Value}  (kk : Z g kX0_markAt Q d cN sN M 5 [some (.ref l0), some (.int l1), some (.int l2), some (.ref l3), o4] [.int l2, .int l1, .ref l0, .int 0, .ref l3]) : Z g kX0_markAt Q d cN sN M 0 [some (.ref l0), some (.int l1), some (.int l2), some (.ref l3), o4] [] := by
  refine zi_aload_n dX0_markAt_0 rfl zrf_r ?_
  refine zi_iconst dX0_markAt_1 (by decide +kernel : Int32.ofInt (0) = (0 : Int32)) ?_
  refine zi_aload_n dX0_markAt_2 rfl zrf_r ?_
  refine zi_iload_n dX0_markAt_3 rfl ?_
  refine zi_iload_n dX0_markAt_4 rfl ?_
  exact kk
theorem sX0_markAt_8 {g : ZG} {Q : ZQ} {d cN sN : Nat} {M : ZM} {t0 : Nat} {t1 : Int32} {t2 : Int32} {n1 : Nat} {f2 : Nat → Int64} {o0 o1 o2 o3 o4 : Option Value} (h3 : M.1 t0 = some (.inl (zA g 1, n1, .inr (.inl (f2))))) (h4 : vp_in (t1) n1) (kk : Z g kX0_markAt Q d cN sN (zup M t0 (.inl (zA g 1, n1, .inr (.inl (vp_updL f2 ((t1 : Int32).toNatClampNeg) ((t2 : Int32).toInt64)))))) 17 [o0, o1, o2, o3, o4] []) : Z g kX0_markAt Q d cN sN M 8 [o0, o1, o2, o3, o4] [.int t2, .int t1, .ref t0] := by
  refine zi_i2l dX0_markAt_8 ?_
  refine zi_lastore dX0_markAt_9 h3 h4 ?_
  exact zi_goto (tgt := 17) dX0_markAt_10 (by decide +kernel) kk
theorem sX0_markAt_13 {g : ZG} {Q : ZQ} {d cN sN : Nat} {M : ZM} {t0 : Nat} {o0 o1 o2 o3 o4 : Option Value}  (kk : Q.1 (some (.int 1)) M) : Z g kX0_markAt Q d cN sN M 13 [o0, o1, o2, o3, o4] [.ref t0] := by
  refine zi_astore dX0_markAt_13 zrf_r (Nat.le_of_ble_eq_true rfl) ?_
  refine zi_iconst dX0_markAt_15 (by decide +kernel : Int32.ofInt (1) = (1 : Int32)) ?_
  exact zi_ireturn dX0_markAt_16 rfl rfl kk
theorem sX0_markAt_17 {g : ZG} {Q : ZQ} {d cN sN : Nat} {M : ZM} {o0 o1 o2 o3 o4 : Option Value}  (kk : Q.1 (some (.int 0)) M) : Z g kX0_markAt Q d cN sN M 17 [o0, o1, o2, o3, o4] [] := by
  refine zi_iconst dX0_markAt_17 (by decide +kernel : Int32.ofInt (0) = (0 : Int32)) ?_
  exact zi_ireturn dX0_markAt_18 rfl rfl kk
abbrev kX0_fine : ZK := (RX0, cX0_fine, 6, (Option.some Jvm.ClassFile.FieldType.int), [(0, 12, 15, 21)], false, fX0)
abbrev tX0_fine (g : ZG) (args : List Value) (M : ZM) (d c s : Nat) (Q : ZQ) : Prop := Ct g yX0_fine (wsW_ yX0_fine cX0_fine 6 (Option.some Jvm.ClassFile.FieldType.int) [(0, 12, 15, 21)]) args M d c s Q
abbrev nX0_fine : Nat := 11
theorem mX0_fine : zMok yX0_fine 5 6 := ⟨⟨by decide +kernel, by decide +kernel, by decide +kernel⟩, by decide⟩
theorem eX0_fine {g : ZG} {Q : ZQ} {d cN sN : Nat} {M : ZM} {v1 : Value} (hv1 : v1.category = 1) {x2 : Int32} {x3 : Int32} {x4 : Int32} {v5 : Value} (hv5 : v5.category = 1) (hV : zV g) (h : Z g kX0_fine Q d cN sN M 0 [some (v1), some (.int x2), some (.int x3), some (.int x4), some (v5), none] []) : tX0_fine g [v1, .int x2, .int x3, .int x4, v5] M d cN sN Q := Ct.ofW (K := kX0_fine) rfl (by decide +kernel) hV fokX0 (fun h => by cases h) (fun v hv => by simp only [List.mem_cons, List.not_mem_nil, or_false] at hv; rcases hv with rfl | rfl | rfl | rfl | rfl <;> first | rfl | assumption) (Nat.le_of_ble_eq_true rfl) h
theorem sX0_fine_0 {g : ZG} {Q : ZQ} {d cN sN : Nat} {M : ZM} {l4 : Nat} {l0 : Nat} {l1 : Int32} {l2 : Int32} {l3 : Int32} {o5 : Option Value}  (kk : Z g kX0_fine Q d cN sN M 7 [some (.ref l0), some (.int l1), some (.int l2), some (.int l3), some (.ref l4), o5] [.int l3, .int l2, .int l1, .ref l0, .int 0, .ref l4]) : Z g kX0_fine Q d cN sN M 0 [some (.ref l0), some (.int l1), some (.int l2), some (.int l3), some (.ref l4), o5] [] := by
  refine zi_aload dX0_fine_0 rfl zrf_r ?_
  refine zi_iconst dX0_fine_2 (by decide +kernel : Int32.ofInt (0) = (0 : Int32)) ?_
  refine zi_aload_n dX0_fine_3 rfl zrf_r ?_
  refine zi_iload_n dX0_fine_4 rfl ?_
  refine zi_iload_n dX0_fine_5 rfl ?_
  refine zi_iload_n dX0_fine_6 rfl ?_
  exact kk
theorem sX0_fine_10 {g : ZG} {Q : ZQ} {d cN sN : Nat} {M : ZM} {t0 : Nat} {t1 : Int32} {t2 : Int32} {n1 : Nat} {f2 : Nat → Int64} {o0 o1 o2 o3 o4 o5 : Option Value} (h3 : M.1 t0 = some (.inl (zA g 1, n1, .inr (.inl (f2))))) (h4 : vp_in (t1) n1) (kk : Z g kX0_fine Q d cN sN (zup M t0 (.inl (zA g 1, n1, .inr (.inl (vp_updL f2 ((t1 : Int32).toNatClampNeg) ((t2 : Int32).toInt64)))))) 19 [o0, o1, o2, o3, o4, o5] []) : Z g kX0_fine Q d cN sN M 10 [o0, o1, o2, o3, o4, o5] [.int t2, .int t1, .ref t0] := by
  refine zi_i2l dX0_fine_10 ?_
  refine zi_lastore dX0_fine_11 h3 h4 ?_
  exact zi_goto (tgt := 19) dX0_fine_12 (by decide +kernel) kk
theorem sX0_fine_15 {g : ZG} {Q : ZQ} {d cN sN : Nat} {M : ZM} {t0 : Nat} {o0 o1 o2 o3 o4 o5 : Option Value}  (kk : Q.1 (some (.int 1)) M) : Z g kX0_fine Q d cN sN M 15 [o0, o1, o2, o3, o4, o5] [.ref t0] := by
  refine zi_astore dX0_fine_15 zrf_r (Nat.le_of_ble_eq_true rfl) ?_
  refine zi_iconst dX0_fine_17 (by decide +kernel : Int32.ofInt (1) = (1 : Int32)) ?_
  exact zi_ireturn dX0_fine_18 rfl rfl kk
theorem sX0_fine_19 {g : ZG} {Q : ZQ} {d cN sN : Nat} {M : ZM} {o0 o1 o2 o3 o4 o5 : Option Value}  (kk : Q.1 (some (.int 0)) M) : Z g kX0_fine Q d cN sN M 19 [o0, o1, o2, o3, o4, o5] [] := by
  refine zi_iconst dX0_fine_19 (by decide +kernel : Int32.ofInt (0) = (0 : Int32)) ?_
  exact zi_ireturn dX0_fine_20 rfl rfl kk
abbrev kX0_fines : ZK := (RX0, cX0_fines, 5, (Option.some Jvm.ClassFile.FieldType.int), [(0, 10, 13, 21)], false, fX0)
abbrev tX0_fines (g : ZG) (args : List Value) (M : ZM) (d c s : Nat) (Q : ZQ) : Prop := Ct g yX0_fines (wsW_ yX0_fines cX0_fines 5 (Option.some Jvm.ClassFile.FieldType.int) [(0, 10, 13, 21)]) args M d c s Q
abbrev nX0_fines : Nat := 12
theorem mX0_fines : zMok yX0_fines 4 5 := ⟨⟨by decide +kernel, by decide +kernel, by decide +kernel⟩, by decide⟩
theorem eX0_fines {g : ZG} {Q : ZQ} {d cN sN : Nat} {M : ZM} {v1 : Value} (hv1 : v1.category = 1) {x2 : Int32} {x3 : Int32} {v4 : Value} (hv4 : v4.category = 1) (hV : zV g) (h : Z g kX0_fines Q d cN sN M 0 [some (v1), some (.int x2), some (.int x3), some (v4), none] []) : tX0_fines g [v1, .int x2, .int x3, v4] M d cN sN Q := Ct.ofW (K := kX0_fines) rfl (by decide +kernel) hV fokX0 (fun h => by cases h) (fun v hv => by simp only [List.mem_cons, List.not_mem_nil, or_false] at hv; rcases hv with rfl | rfl | rfl | rfl <;> first | rfl | assumption) (Nat.le_of_ble_eq_true rfl) h
theorem sX0_fines_0 {g : ZG} {Q : ZQ} {d cN sN : Nat} {M : ZM} {l3 : Nat} {l0 : Nat} {l1 : Int32} {l2 : Int32} {o4 : Option Value}  (kk : Z g kX0_fines Q d cN sN M 5 [some (.ref l0), some (.int l1), some (.int l2), some (.ref l3), o4] [.int l2, .int l1, .ref l0, .int 0, .ref l3]) : Z g kX0_fines Q d cN sN M 0 [some (.ref l0), some (.int l1), some (.int l2), some (.ref l3), o4] [] := by
  refine zi_aload_n dX0_fines_0 rfl zrf_r ?_
  refine zi_iconst dX0_fines_1 (by decide +kernel : Int32.ofInt (0) = (0 : Int32)) ?_
  refine zi_aload_n dX0_fines_2 rfl zrf_r ?_
  refine zi_iload_n dX0_fines_3 rfl ?_
  refine zi_iload_n dX0_fines_4 rfl ?_
  exact kk
theorem sX0_fines_8 {g : ZG} {Q : ZQ} {d cN sN : Nat} {M : ZM} {t0 : Nat} {t1 : Int32} {t2 : Int32} {n1 : Nat} {f2 : Nat → Int64} {o0 o1 o2 o3 o4 : Option Value} (h3 : M.1 t0 = some (.inl (zA g 1, n1, .inr (.inl (f2))))) (h4 : vp_in (t1) n1) (kk : Z g kX0_fines Q d cN sN (zup M t0 (.inl (zA g 1, n1, .inr (.inl (vp_updL f2 ((t1 : Int32).toNatClampNeg) ((t2 : Int32).toInt64)))))) 17 [o0, o1, o2, o3, o4] []) : Z g kX0_fines Q d cN sN M 8 [o0, o1, o2, o3, o4] [.int t2, .int t1, .ref t0] := by
  refine zi_i2l dX0_fines_8 ?_
  refine zi_lastore dX0_fines_9 h3 h4 ?_
  exact zi_goto (tgt := 17) dX0_fines_10 (by decide +kernel) kk
theorem sX0_fines_13 {g : ZG} {Q : ZQ} {d cN sN : Nat} {M : ZM} {t0 : Nat} {o0 o1 o2 o3 o4 : Option Value}  (kk : Q.1 (some (.int 1)) M) : Z g kX0_fines Q d cN sN M 13 [o0, o1, o2, o3, o4] [.ref t0] := by
  refine zi_astore dX0_fines_13 zrf_r (Nat.le_of_ble_eq_true rfl) ?_
  refine zi_iconst dX0_fines_15 (by decide +kernel : Int32.ofInt (1) = (1 : Int32)) ?_
  exact zi_ireturn dX0_fines_16 rfl rfl kk
theorem sX0_fines_17 {g : ZG} {Q : ZQ} {d cN sN : Nat} {M : ZM} {o0 o1 o2 o3 o4 : Option Value}  (kk : Q.1 (some (.int 0)) M) : Z g kX0_fines Q d cN sN M 17 [o0, o1, o2, o3, o4] [] := by
  refine zi_iconst dX0_fines_17 (by decide +kernel : Int32.ofInt (0) = (0 : Int32)) ?_
  exact zi_ireturn dX0_fines_18 rfl rfl kk
abbrev kX0_canMend : ZK := (RX0, cX0_canMend, 4, (Option.some Jvm.ClassFile.FieldType.int), [(0, 16, 19, 21)], false, fX0)
abbrev tX0_canMend (g : ZG) (args : List Value) (M : ZM) (d c s : Nat) (Q : ZQ) : Prop := Ct g yX0_canMend (wsW_ yX0_canMend cX0_canMend 4 (Option.some Jvm.ClassFile.FieldType.int) [(0, 16, 19, 21)]) args M d c s Q
abbrev nX0_canMend : Nat := 11
theorem mX0_canMend : zMok yX0_canMend 3 4 := ⟨⟨by decide +kernel, by decide +kernel, by decide +kernel⟩, by decide⟩
theorem eX0_canMend {g : ZG} {Q : ZQ} {d cN sN : Nat} {M : ZM} {v1 : Value} (hv1 : v1.category = 1) {x2 : Int32} {v3 : Value} (hv3 : v3.category = 1) (hV : zV g) (h : Z g kX0_canMend Q d cN sN M 0 [some (v1), some (.int x2), some (v3), none] []) : tX0_canMend g [v1, .int x2, v3] M d cN sN Q := Ct.ofW (K := kX0_canMend) rfl (by decide +kernel) hV fokX0 (fun h => by cases h) (fun v hv => by simp only [List.mem_cons, List.not_mem_nil, or_false] at hv; rcases hv with rfl | rfl | rfl <;> first | rfl | assumption) (Nat.le_of_ble_eq_true rfl) h
theorem sX0_canMend_0 {g : ZG} {Q : ZQ} {d cN sN : Nat} {M : ZM} {l2 : Nat} {l0 : Nat} {l1 : Int32} {o3 : Option Value}  (kk : Z g kX0_canMend Q d cN sN M 4 [some (.ref l0), some (.int l1), some (.ref l2), o3] [.int l1, .ref l0, .int 0, .ref l2]) : Z g kX0_canMend Q d cN sN M 0 [some (.ref l0), some (.int l1), some (.ref l2), o3] [] := by
  refine zi_aload_n dX0_canMend_0 rfl zrf_r ?_
  refine zi_iconst dX0_canMend_1 (by decide +kernel : Int32.ofInt (0) = (0 : Int32)) ?_
  refine zi_aload_n dX0_canMend_2 rfl zrf_r ?_
  refine zi_iload_n dX0_canMend_3 rfl ?_
  exact kk
theorem sX0_canMend_7 {g : ZG} {Q : ZQ} {d cN sN : Nat} {M : ZM} {t0 : Nat} {t1 : Int32} {t2 : Int32} {o0 o1 o2 o3 : Option Value}  (kt : (t2 : Int32) = 0 → Z g kX0_canMend Q d cN sN M 14 [o0, o1, o2, o3] [.int t1, .ref t0]) (kf : ¬ (t2 : Int32) = 0 → Z g kX0_canMend Q d cN sN M 10 [o0, o1, o2, o3] [.int t1, .ref t0]) : Z g kX0_canMend Q d cN sN M 7 [o0, o1, o2, o3] [.int t2, .int t1, .ref t0] := by
  exact zi_if_eq (tgt := 14) dX0_canMend_7 (by decide +kernel) kt kf
theorem sX0_canMend_10 {g : ZG} {Q : ZQ} {d cN sN : Nat} {M : ZM} {t0 : Nat} {t1 : Int32} {o0 o1 o2 o3 : Option Value}  (kk : Z g kX0_canMend Q d cN sN M 15 [o0, o1, o2, o3] [.long (1), .int t1, .ref t0]) : Z g kX0_canMend Q d cN sN M 10 [o0, o1, o2, o3] [.int t1, .ref t0] := by
  refine zi_lconst dX0_canMend_10 (by decide +kernel : _ = (1 : Int64)) ?_
  exact zi_goto (tgt := 15) dX0_canMend_11 (by decide +kernel) kk
theorem sX0_canMend_14 {g : ZG} {Q : ZQ} {d cN sN : Nat} {M : ZM} {t0 : Nat} {t1 : Int32} {o0 o1 o2 o3 : Option Value}  (kk : Z g kX0_canMend Q d cN sN M 15 [o0, o1, o2, o3] [.long (0), .int t1, .ref t0]) : Z g kX0_canMend Q d cN sN M 14 [o0, o1, o2, o3] [.int t1, .ref t0] := by
  refine zi_lconst dX0_canMend_14 (by decide +kernel : _ = (0 : Int64)) ?_
  exact kk
theorem sX0_canMend_15 {g : ZG} {Q : ZQ} {d cN sN : Nat} {M : ZM} {t0 : Nat} {t1 : Int32} {t2 : Int64} {n1 : Nat} {f2 : Nat → Int64} {o0 o1 o2 o3 : Option Value} (h3 : M.1 t0 = some (.inl (zA g 1, n1, .inr (.inl (f2))))) (h4 : vp_in (t1) n1) (kk : Z g kX0_canMend Q d cN sN (zup M t0 (.inl (zA g 1, n1, .inr (.inl (vp_updL f2 ((t1 : Int32).toNatClampNeg) (t2)))))) 22 [o0, o1, o2, o3] []) : Z g kX0_canMend Q d cN sN M 15 [o0, o1, o2, o3] [.long (t2), .int t1, .ref t0] := by
  refine zi_lastore dX0_canMend_15 h3 h4 ?_
  exact zi_goto (tgt := 22) dX0_canMend_16 (by decide +kernel) kk
theorem sX0_canMend_19 {g : ZG} {Q : ZQ} {d cN sN : Nat} {M : ZM} {t0 : Nat} {o0 o1 o2 o3 : Option Value}  (kk : Q.1 (some (.int 1)) M) : Z g kX0_canMend Q d cN sN M 19 [o0, o1, o2, o3] [.ref t0] := by
  refine zi_astore_n dX0_canMend_19 zrf_r (Nat.le_of_ble_eq_true rfl) ?_
  refine zi_iconst dX0_canMend_20 (by decide +kernel : Int32.ofInt (1) = (1 : Int32)) ?_
  exact zi_ireturn dX0_canMend_21 rfl rfl kk
theorem sX0_canMend_22 {g : ZG} {Q : ZQ} {d cN sN : Nat} {M : ZM} {o0 o1 o2 o3 : Option Value}  (kk : Q.1 (some (.int 0)) M) : Z g kX0_canMend Q d cN sN M 22 [o0, o1, o2, o3] [] := by
  refine zi_iconst dX0_canMend_22 (by decide +kernel : Int32.ofInt (0) = (0 : Int32)) ?_
  exact zi_ireturn dX0_canMend_23 rfl rfl kk
abbrev kX0_laughing : ZK := (RX0, cX0_laughing, 5, (Option.some Jvm.ClassFile.FieldType.int), [(0, 10, 13, 21)], false, fX0)
abbrev tX0_laughing (g : ZG) (args : List Value) (M : ZM) (d c s : Nat) (Q : ZQ) : Prop := Ct g yX0_laughing (wsW_ yX0_laughing cX0_laughing 5 (Option.some Jvm.ClassFile.FieldType.int) [(0, 10, 13, 21)]) args M d c s Q
abbrev nX0_laughing : Nat := 11
theorem mX0_laughing : zMok yX0_laughing 4 5 := ⟨⟨by decide +kernel, by decide +kernel, by decide +kernel⟩, by decide⟩
theorem eX0_laughing {g : ZG} {Q : ZQ} {d cN sN : Nat} {M : ZM} {v1 : Value} (hv1 : v1.category = 1) {x2 : Int32} {x3 : Int32} {v4 : Value} (hv4 : v4.category = 1) (hV : zV g) (h : Z g kX0_laughing Q d cN sN M 0 [some (v1), some (.int x2), some (.int x3), some (v4), none] []) : tX0_laughing g [v1, .int x2, .int x3, v4] M d cN sN Q := Ct.ofW (K := kX0_laughing) rfl (by decide +kernel) hV fokX0 (fun h => by cases h) (fun v hv => by simp only [List.mem_cons, List.not_mem_nil, or_false] at hv; rcases hv with rfl | rfl | rfl | rfl <;> first | rfl | assumption) (Nat.le_of_ble_eq_true rfl) h
theorem sX0_laughing_0 {g : ZG} {Q : ZQ} {d cN sN : Nat} {M : ZM} {l3 : Nat} {l0 : Nat} {l1 : Int32} {l2 : Int32} {o4 : Option Value}  (kk : Z g kX0_laughing Q d cN sN M 5 [some (.ref l0), some (.int l1), some (.int l2), some (.ref l3), o4] [.int l2, .int l1, .ref l0, .int 0, .ref l3]) : Z g kX0_laughing Q d cN sN M 0 [some (.ref l0), some (.int l1), some (.int l2), some (.ref l3), o4] [] := by
  refine zi_aload_n dX0_laughing_0 rfl zrf_r ?_
  refine zi_iconst dX0_laughing_1 (by decide +kernel : Int32.ofInt (0) = (0 : Int32)) ?_
  refine zi_aload_n dX0_laughing_2 rfl zrf_r ?_
  refine zi_iload_n dX0_laughing_3 rfl ?_
  refine zi_iload_n dX0_laughing_4 rfl ?_
  exact kk
theorem sX0_laughing_8 {g : ZG} {Q : ZQ} {d cN sN : Nat} {M : ZM} {t0 : Nat} {t1 : Int32} {t2 : Int32} {n1 : Nat} {f2 : Nat → Int64} {o0 o1 o2 o3 o4 : Option Value} (h3 : M.1 t0 = some (.inl (zA g 1, n1, .inr (.inl (f2))))) (h4 : vp_in (t1) n1) (kk : Z g kX0_laughing Q d cN sN (zup M t0 (.inl (zA g 1, n1, .inr (.inl (vp_updL f2 ((t1 : Int32).toNatClampNeg) ((t2 : Int32).toInt64)))))) 17 [o0, o1, o2, o3, o4] []) : Z g kX0_laughing Q d cN sN M 8 [o0, o1, o2, o3, o4] [.int t2, .int t1, .ref t0] := by
  refine zi_i2l dX0_laughing_8 ?_
  refine zi_lastore dX0_laughing_9 h3 h4 ?_
  exact zi_goto (tgt := 17) dX0_laughing_10 (by decide +kernel) kk
theorem sX0_laughing_13 {g : ZG} {Q : ZQ} {d cN sN : Nat} {M : ZM} {t0 : Nat} {o0 o1 o2 o3 o4 : Option Value}  (kk : Q.1 (some (.int 1)) M) : Z g kX0_laughing Q d cN sN M 13 [o0, o1, o2, o3, o4] [.ref t0] := by
  refine zi_astore dX0_laughing_13 zrf_r (Nat.le_of_ble_eq_true rfl) ?_
  refine zi_iconst dX0_laughing_15 (by decide +kernel : Int32.ofInt (1) = (1 : Int32)) ?_
  exact zi_ireturn dX0_laughing_16 rfl rfl kk
theorem sX0_laughing_17 {g : ZG} {Q : ZQ} {d cN sN : Nat} {M : ZM} {o0 o1 o2 o3 o4 : Option Value}  (kk : Q.1 (some (.int 0)) M) : Z g kX0_laughing Q d cN sN M 17 [o0, o1, o2, o3, o4] [] := by
  refine zi_iconst dX0_laughing_17 (by decide +kernel : Int32.ofInt (0) = (0 : Int32)) ?_
  exact zi_ireturn dX0_laughing_18 rfl rfl kk
abbrev kX0_bargain : ZK := (RX0, cX0_bargain, 4, (Option.some Jvm.ClassFile.FieldType.int), [(0, 9, 12, 75)], false, fX0)
abbrev tX0_bargain (g : ZG) (args : List Value) (M : ZM) (d c s : Nat) (Q : ZQ) : Prop := Ct g yX0_bargain (wsW_ yX0_bargain cX0_bargain 4 (Option.some Jvm.ClassFile.FieldType.int) [(0, 9, 12, 75)]) args M d c s Q
abbrev nX0_bargain : Nat := 11
theorem mX0_bargain : zMok yX0_bargain 3 4 := ⟨⟨by decide +kernel, by decide +kernel, by decide +kernel⟩, by decide⟩
theorem eX0_bargain {g : ZG} {Q : ZQ} {d cN sN : Nat} {M : ZM} {v1 : Value} (hv1 : v1.category = 1) {x2 : Int32} {v3 : Value} (hv3 : v3.category = 1) (hV : zV g) (h : Z g kX0_bargain Q d cN sN M 0 [some (v1), some (.int x2), some (v3), none] []) : tX0_bargain g [v1, .int x2, v3] M d cN sN Q := Ct.ofW (K := kX0_bargain) rfl (by decide +kernel) hV fokX0 (fun h => by cases h) (fun v hv => by simp only [List.mem_cons, List.not_mem_nil, or_false] at hv; rcases hv with rfl | rfl | rfl <;> first | rfl | assumption) (Nat.le_of_ble_eq_true rfl) h
theorem sX0_bargain_0 {g : ZG} {Q : ZQ} {d cN sN : Nat} {M : ZM} {l2 : Nat} {l0 : Nat} {l1 : Int32} {o3 : Option Value}  (kk : Z g kX0_bargain Q d cN sN M 4 [some (.ref l0), some (.int l1), some (.ref l2), o3] [.int l1, .ref l0, .int 0, .ref l2]) : Z g kX0_bargain Q d cN sN M 0 [some (.ref l0), some (.int l1), some (.ref l2), o3] [] := by
  refine zi_aload_n dX0_bargain_0 rfl zrf_r ?_
  refine zi_iconst dX0_bargain_1 (by decide +kernel : Int32.ofInt (0) = (0 : Int32)) ?_
  refine zi_aload_n dX0_bargain_2 rfl zrf_r ?_
  refine zi_iload_n dX0_bargain_3 rfl ?_
  exact kk
theorem sX0_bargain_7 {g : ZG} {Q : ZQ} {d cN sN : Nat} {M : ZM} {t0 : Nat} {t1 : Int32} {t2 : Int32} {n1 : Nat} {f2 : Nat → Int64} {o0 o1 o2 o3 : Option Value} (h3 : M.1 t0 = some (.inl (zA g 1, n1, .inr (.inl (f2))))) (h4 : vp_in (t1) n1) (kk : Z g kX0_bargain Q d cN sN (zup M t0 (.inl (zA g 1, n1, .inr (.inl (vp_updL f2 ((t1 : Int32).toNatClampNeg) ((t2 : Int32).toInt64)))))) 15 [o0, o1, o2, o3] []) : Z g kX0_bargain Q d cN sN M 7 [o0, o1, o2, o3] [.int t2, .int t1, .ref t0] := by
  refine zi_i2l dX0_bargain_7 ?_
  refine zi_lastore dX0_bargain_8 h3 h4 ?_
  exact zi_goto (tgt := 15) dX0_bargain_9 (by decide +kernel) kk
theorem sX0_bargain_12 {g : ZG} {Q : ZQ} {d cN sN : Nat} {M : ZM} {t0 : Nat} {o0 o1 o2 o3 : Option Value}  (kk : Q.1 (some (.int 1)) M) : Z g kX0_bargain Q d cN sN M 12 [o0, o1, o2, o3] [.ref t0] := by
  refine zi_astore_n dX0_bargain_12 zrf_r (Nat.le_of_ble_eq_true rfl) ?_
  refine zi_iconst dX0_bargain_13 (by decide +kernel : Int32.ofInt (1) = (1 : Int32)) ?_
  exact zi_ireturn dX0_bargain_14 rfl rfl kk
theorem sX0_bargain_15 {g : ZG} {Q : ZQ} {d cN sN : Nat} {M : ZM} {o0 o1 o2 o3 : Option Value}  (kk : Q.1 (some (.int 0)) M) : Z g kX0_bargain Q d cN sN M 15 [o0, o1, o2, o3] [] := by
  refine zi_iconst dX0_bargain_15 (by decide +kernel : Int32.ofInt (0) = (0 : Int32)) ?_
  exact zi_ireturn dX0_bargain_16 rfl rfl kk
abbrev kX0_wouldShame : ZK := (RX0, cX0_wouldShame, 4, (Option.some Jvm.ClassFile.FieldType.int), [(0, 9, 12, 21)], false, fX0)
abbrev tX0_wouldShame (g : ZG) (args : List Value) (M : ZM) (d c s : Nat) (Q : ZQ) : Prop := Ct g yX0_wouldShame (wsW_ yX0_wouldShame cX0_wouldShame 4 (Option.some Jvm.ClassFile.FieldType.int) [(0, 9, 12, 21)]) args M d c s Q
abbrev nX0_wouldShame : Nat := 11
theorem mX0_wouldShame : zMok yX0_wouldShame 3 4 := ⟨⟨by decide +kernel, by decide +kernel, by decide +kernel⟩, by decide⟩
theorem eX0_wouldShame {g : ZG} {Q : ZQ} {d cN sN : Nat} {M : ZM} {v1 : Value} (hv1 : v1.category = 1) {x2 : Int32} {v3 : Value} (hv3 : v3.category = 1) (hV : zV g) (h : Z g kX0_wouldShame Q d cN sN M 0 [some (v1), some (.int x2), some (v3), none] []) : tX0_wouldShame g [v1, .int x2, v3] M d cN sN Q := Ct.ofW (K := kX0_wouldShame) rfl (by decide +kernel) hV fokX0 (fun h => by cases h) (fun v hv => by simp only [List.mem_cons, List.not_mem_nil, or_false] at hv; rcases hv with rfl | rfl | rfl <;> first | rfl | assumption) (Nat.le_of_ble_eq_true rfl) h
theorem sX0_wouldShame_0 {g : ZG} {Q : ZQ} {d cN sN : Nat} {M : ZM} {l2 : Nat} {l0 : Nat} {l1 : Int32} {o3 : Option Value}  (kk : Z g kX0_wouldShame Q d cN sN M 4 [some (.ref l0), some (.int l1), some (.ref l2), o3] [.int l1, .ref l0, .int 0, .ref l2]) : Z g kX0_wouldShame Q d cN sN M 0 [some (.ref l0), some (.int l1), some (.ref l2), o3] [] := by
  refine zi_aload_n dX0_wouldShame_0 rfl zrf_r ?_
  refine zi_iconst dX0_wouldShame_1 (by decide +kernel : Int32.ofInt (0) = (0 : Int32)) ?_
  refine zi_aload_n dX0_wouldShame_2 rfl zrf_r ?_
  refine zi_iload_n dX0_wouldShame_3 rfl ?_
  exact kk
theorem sX0_wouldShame_7 {g : ZG} {Q : ZQ} {d cN sN : Nat} {M : ZM} {t0 : Nat} {t1 : Int32} {t2 : Int32} {n1 : Nat} {f2 : Nat → Int64} {o0 o1 o2 o3 : Option Value} (h3 : M.1 t0 = some (.inl (zA g 1, n1, .inr (.inl (f2))))) (h4 : vp_in (t1) n1) (kk : Z g kX0_wouldShame Q d cN sN (zup M t0 (.inl (zA g 1, n1, .inr (.inl (vp_updL f2 ((t1 : Int32).toNatClampNeg) ((t2 : Int32).toInt64)))))) 15 [o0, o1, o2, o3] []) : Z g kX0_wouldShame Q d cN sN M 7 [o0, o1, o2, o3] [.int t2, .int t1, .ref t0] := by
  refine zi_i2l dX0_wouldShame_7 ?_
  refine zi_lastore dX0_wouldShame_8 h3 h4 ?_
  exact zi_goto (tgt := 15) dX0_wouldShame_9 (by decide +kernel) kk
theorem sX0_wouldShame_12 {g : ZG} {Q : ZQ} {d cN sN : Nat} {M : ZM} {t0 : Nat} {o0 o1 o2 o3 : Option Value}  (kk : Q.1 (some (.int 1)) M) : Z g kX0_wouldShame Q d cN sN M 12 [o0, o1, o2, o3] [.ref t0] := by
  refine zi_astore_n dX0_wouldShame_12 zrf_r (Nat.le_of_ble_eq_true rfl) ?_
  refine zi_iconst dX0_wouldShame_13 (by decide +kernel : Int32.ofInt (1) = (1 : Int32)) ?_
  exact zi_ireturn dX0_wouldShame_14 rfl rfl kk
theorem sX0_wouldShame_15 {g : ZG} {Q : ZQ} {d cN sN : Nat} {M : ZM} {o0 o1 o2 o3 : Option Value}  (kk : Q.1 (some (.int 0)) M) : Z g kX0_wouldShame Q d cN sN M 15 [o0, o1, o2, o3] [] := by
  refine zi_iconst dX0_wouldShame_15 (by decide +kernel : Int32.ofInt (0) = (0 : Int32)) ?_
  exact zi_ireturn dX0_wouldShame_16 rfl rfl kk
abbrev kX0_nearest : ZK := (RX0, cX0_nearest, 4, (Option.some Jvm.ClassFile.FieldType.int), [(0, 9, 12, 21)], false, fX0)
abbrev tX0_nearest (g : ZG) (args : List Value) (M : ZM) (d c s : Nat) (Q : ZQ) : Prop := Ct g yX0_nearest (wsW_ yX0_nearest cX0_nearest 4 (Option.some Jvm.ClassFile.FieldType.int) [(0, 9, 12, 21)]) args M d c s Q
abbrev nX0_nearest : Nat := 11
theorem mX0_nearest : zMok yX0_nearest 3 4 := ⟨⟨by decide +kernel, by decide +kernel, by decide +kernel⟩, by decide⟩
theorem eX0_nearest {g : ZG} {Q : ZQ} {d cN sN : Nat} {M : ZM} {v1 : Value} (hv1 : v1.category = 1) {x2 : Int32} {v3 : Value} (hv3 : v3.category = 1) (hV : zV g) (h : Z g kX0_nearest Q d cN sN M 0 [some (v1), some (.int x2), some (v3), none] []) : tX0_nearest g [v1, .int x2, v3] M d cN sN Q := Ct.ofW (K := kX0_nearest) rfl (by decide +kernel) hV fokX0 (fun h => by cases h) (fun v hv => by simp only [List.mem_cons, List.not_mem_nil, or_false] at hv; rcases hv with rfl | rfl | rfl <;> first | rfl | assumption) (Nat.le_of_ble_eq_true rfl) h
theorem sX0_nearest_0 {g : ZG} {Q : ZQ} {d cN sN : Nat} {M : ZM} {l2 : Nat} {l0 : Nat} {l1 : Int32} {o3 : Option Value}  (kk : Z g kX0_nearest Q d cN sN M 4 [some (.ref l0), some (.int l1), some (.ref l2), o3] [.int l1, .ref l0, .int 0, .ref l2]) : Z g kX0_nearest Q d cN sN M 0 [some (.ref l0), some (.int l1), some (.ref l2), o3] [] := by
  refine zi_aload_n dX0_nearest_0 rfl zrf_r ?_
  refine zi_iconst dX0_nearest_1 (by decide +kernel : Int32.ofInt (0) = (0 : Int32)) ?_
  refine zi_aload_n dX0_nearest_2 rfl zrf_r ?_
  refine zi_iload_n dX0_nearest_3 rfl ?_
  exact kk
theorem sX0_nearest_7 {g : ZG} {Q : ZQ} {d cN sN : Nat} {M : ZM} {t0 : Nat} {t1 : Int32} {t2 : Int32} {n1 : Nat} {f2 : Nat → Int64} {o0 o1 o2 o3 : Option Value} (h3 : M.1 t0 = some (.inl (zA g 1, n1, .inr (.inl (f2))))) (h4 : vp_in (t1) n1) (kk : Z g kX0_nearest Q d cN sN (zup M t0 (.inl (zA g 1, n1, .inr (.inl (vp_updL f2 ((t1 : Int32).toNatClampNeg) ((t2 : Int32).toInt64)))))) 15 [o0, o1, o2, o3] []) : Z g kX0_nearest Q d cN sN M 7 [o0, o1, o2, o3] [.int t2, .int t1, .ref t0] := by
  refine zi_i2l dX0_nearest_7 ?_
  refine zi_lastore dX0_nearest_8 h3 h4 ?_
  exact zi_goto (tgt := 15) dX0_nearest_9 (by decide +kernel) kk
theorem sX0_nearest_12 {g : ZG} {Q : ZQ} {d cN sN : Nat} {M : ZM} {t0 : Nat} {o0 o1 o2 o3 : Option Value}  (kk : Q.1 (some (.int 1)) M) : Z g kX0_nearest Q d cN sN M 12 [o0, o1, o2, o3] [.ref t0] := by
  refine zi_astore_n dX0_nearest_12 zrf_r (Nat.le_of_ble_eq_true rfl) ?_
  refine zi_iconst dX0_nearest_13 (by decide +kernel : Int32.ofInt (1) = (1 : Int32)) ?_
  exact zi_ireturn dX0_nearest_14 rfl rfl kk
theorem sX0_nearest_15 {g : ZG} {Q : ZQ} {d cN sN : Nat} {M : ZM} {o0 o1 o2 o3 : Option Value}  (kk : Q.1 (some (.int 0)) M) : Z g kX0_nearest Q d cN sN M 15 [o0, o1, o2, o3] [] := by
  refine zi_iconst dX0_nearest_15 (by decide +kernel : Int32.ofInt (0) = (0 : Int32)) ?_
  exact zi_ireturn dX0_nearest_16 rfl rfl kk
abbrev kX0_calmIn : ZK := (RX0, cX0_calmIn, 4, (Option.some Jvm.ClassFile.FieldType.int), [(0, 9, 12, 21)], false, fX0)
abbrev tX0_calmIn (g : ZG) (args : List Value) (M : ZM) (d c s : Nat) (Q : ZQ) : Prop := Ct g yX0_calmIn (wsW_ yX0_calmIn cX0_calmIn 4 (Option.some Jvm.ClassFile.FieldType.int) [(0, 9, 12, 21)]) args M d c s Q
abbrev nX0_calmIn : Nat := 11
theorem mX0_calmIn : zMok yX0_calmIn 3 4 := ⟨⟨by decide +kernel, by decide +kernel, by decide +kernel⟩, by decide⟩
theorem eX0_calmIn {g : ZG} {Q : ZQ} {d cN sN : Nat} {M : ZM} {v1 : Value} (hv1 : v1.category = 1) {x2 : Int32} {v3 : Value} (hv3 : v3.category = 1) (hV : zV g) (h : Z g kX0_calmIn Q d cN sN M 0 [some (v1), some (.int x2), some (v3), none] []) : tX0_calmIn g [v1, .int x2, v3] M d cN sN Q := Ct.ofW (K := kX0_calmIn) rfl (by decide +kernel) hV fokX0 (fun h => by cases h) (fun v hv => by simp only [List.mem_cons, List.not_mem_nil, or_false] at hv; rcases hv with rfl | rfl | rfl <;> first | rfl | assumption) (Nat.le_of_ble_eq_true rfl) h
theorem sX0_calmIn_0 {g : ZG} {Q : ZQ} {d cN sN : Nat} {M : ZM} {l2 : Nat} {l0 : Nat} {l1 : Int32} {o3 : Option Value}  (kk : Z g kX0_calmIn Q d cN sN M 4 [some (.ref l0), some (.int l1), some (.ref l2), o3] [.int l1, .ref l0, .int 0, .ref l2]) : Z g kX0_calmIn Q d cN sN M 0 [some (.ref l0), some (.int l1), some (.ref l2), o3] [] := by
  refine zi_aload_n dX0_calmIn_0 rfl zrf_r ?_
  refine zi_iconst dX0_calmIn_1 (by decide +kernel : Int32.ofInt (0) = (0 : Int32)) ?_
  refine zi_aload_n dX0_calmIn_2 rfl zrf_r ?_
  refine zi_iload_n dX0_calmIn_3 rfl ?_
  exact kk
theorem sX0_calmIn_7 {g : ZG} {Q : ZQ} {d cN sN : Nat} {M : ZM} {t0 : Nat} {t1 : Int32} {t2 : Int32} {n1 : Nat} {f2 : Nat → Int64} {o0 o1 o2 o3 : Option Value} (h3 : M.1 t0 = some (.inl (zA g 1, n1, .inr (.inl (f2))))) (h4 : vp_in (t1) n1) (kk : Z g kX0_calmIn Q d cN sN (zup M t0 (.inl (zA g 1, n1, .inr (.inl (vp_updL f2 ((t1 : Int32).toNatClampNeg) ((t2 : Int32).toInt64)))))) 15 [o0, o1, o2, o3] []) : Z g kX0_calmIn Q d cN sN M 7 [o0, o1, o2, o3] [.int t2, .int t1, .ref t0] := by
  refine zi_i2l dX0_calmIn_7 ?_
  refine zi_lastore dX0_calmIn_8 h3 h4 ?_
  exact zi_goto (tgt := 15) dX0_calmIn_9 (by decide +kernel) kk
theorem sX0_calmIn_12 {g : ZG} {Q : ZQ} {d cN sN : Nat} {M : ZM} {t0 : Nat} {o0 o1 o2 o3 : Option Value}  (kk : Q.1 (some (.int 1)) M) : Z g kX0_calmIn Q d cN sN M 12 [o0, o1, o2, o3] [.ref t0] := by
  refine zi_astore_n dX0_calmIn_12 zrf_r (Nat.le_of_ble_eq_true rfl) ?_
  refine zi_iconst dX0_calmIn_13 (by decide +kernel : Int32.ofInt (1) = (1 : Int32)) ?_
  exact zi_ireturn dX0_calmIn_14 rfl rfl kk
theorem sX0_calmIn_15 {g : ZG} {Q : ZQ} {d cN sN : Nat} {M : ZM} {o0 o1 o2 o3 : Option Value}  (kk : Q.1 (some (.int 0)) M) : Z g kX0_calmIn Q d cN sN M 15 [o0, o1, o2, o3] [] := by
  refine zi_iconst dX0_calmIn_15 (by decide +kernel : Int32.ofInt (0) = (0 : Int32)) ?_
  exact zi_ireturn dX0_calmIn_16 rfl rfl kk
abbrev kX0_ashamed : ZK := (RX0, cX0_ashamed, 4, (Option.some Jvm.ClassFile.FieldType.int), [(0, 9, 12, 75)], false, fX0)
abbrev tX0_ashamed (g : ZG) (args : List Value) (M : ZM) (d c s : Nat) (Q : ZQ) : Prop := Ct g yX0_ashamed (wsW_ yX0_ashamed cX0_ashamed 4 (Option.some Jvm.ClassFile.FieldType.int) [(0, 9, 12, 75)]) args M d c s Q
abbrev nX0_ashamed : Nat := 11
theorem mX0_ashamed : zMok yX0_ashamed 3 4 := ⟨⟨by decide +kernel, by decide +kernel, by decide +kernel⟩, by decide⟩
theorem eX0_ashamed {g : ZG} {Q : ZQ} {d cN sN : Nat} {M : ZM} {v1 : Value} (hv1 : v1.category = 1) {x2 : Int32} {v3 : Value} (hv3 : v3.category = 1) (hV : zV g) (h : Z g kX0_ashamed Q d cN sN M 0 [some (v1), some (.int x2), some (v3), none] []) : tX0_ashamed g [v1, .int x2, v3] M d cN sN Q := Ct.ofW (K := kX0_ashamed) rfl (by decide +kernel) hV fokX0 (fun h => by cases h) (fun v hv => by simp only [List.mem_cons, List.not_mem_nil, or_false] at hv; rcases hv with rfl | rfl | rfl <;> first | rfl | assumption) (Nat.le_of_ble_eq_true rfl) h
theorem sX0_ashamed_0 {g : ZG} {Q : ZQ} {d cN sN : Nat} {M : ZM} {l2 : Nat} {l0 : Nat} {l1 : Int32} {o3 : Option Value}  (kk : Z g kX0_ashamed Q d cN sN M 4 [some (.ref l0), some (.int l1), some (.ref l2), o3] [.int l1, .ref l0, .int 0, .ref l2]) : Z g kX0_ashamed Q d cN sN M 0 [some (.ref l0), some (.int l1), some (.ref l2), o3] [] := by
  refine zi_aload_n dX0_ashamed_0 rfl zrf_r ?_
  refine zi_iconst dX0_ashamed_1 (by decide +kernel : Int32.ofInt (0) = (0 : Int32)) ?_
  refine zi_aload_n dX0_ashamed_2 rfl zrf_r ?_
  refine zi_iload_n dX0_ashamed_3 rfl ?_
  exact kk
theorem sX0_ashamed_7 {g : ZG} {Q : ZQ} {d cN sN : Nat} {M : ZM} {t0 : Nat} {t1 : Int32} {t2 : Int32} {n1 : Nat} {f2 : Nat → Int64} {o0 o1 o2 o3 : Option Value} (h3 : M.1 t0 = some (.inl (zA g 1, n1, .inr (.inl (f2))))) (h4 : vp_in (t1) n1) (kk : Z g kX0_ashamed Q d cN sN (zup M t0 (.inl (zA g 1, n1, .inr (.inl (vp_updL f2 ((t1 : Int32).toNatClampNeg) ((t2 : Int32).toInt64)))))) 15 [o0, o1, o2, o3] []) : Z g kX0_ashamed Q d cN sN M 7 [o0, o1, o2, o3] [.int t2, .int t1, .ref t0] := by
  refine zi_i2l dX0_ashamed_7 ?_
  refine zi_lastore dX0_ashamed_8 h3 h4 ?_
  exact zi_goto (tgt := 15) dX0_ashamed_9 (by decide +kernel) kk
theorem sX0_ashamed_12 {g : ZG} {Q : ZQ} {d cN sN : Nat} {M : ZM} {t0 : Nat} {o0 o1 o2 o3 : Option Value}  (kk : Q.1 (some (.int 1)) M) : Z g kX0_ashamed Q d cN sN M 12 [o0, o1, o2, o3] [.ref t0] := by
  refine zi_astore_n dX0_ashamed_12 zrf_r (Nat.le_of_ble_eq_true rfl) ?_
  refine zi_iconst dX0_ashamed_13 (by decide +kernel : Int32.ofInt (1) = (1 : Int32)) ?_
  exact zi_ireturn dX0_ashamed_14 rfl rfl kk
theorem sX0_ashamed_15 {g : ZG} {Q : ZQ} {d cN sN : Nat} {M : ZM} {o0 o1 o2 o3 : Option Value}  (kk : Q.1 (some (.int 0)) M) : Z g kX0_ashamed Q d cN sN M 15 [o0, o1, o2, o3] [] := by
  refine zi_iconst dX0_ashamed_15 (by decide +kernel : Int32.ofInt (0) = (0 : Int32)) ?_
  exact zi_ireturn dX0_ashamed_16 rfl rfl kk
abbrev kX0_worst : ZK := (RX0, cX0_worst, 4, (Option.some Jvm.ClassFile.FieldType.int), [(0, 9, 12, 75)], false, fX0)
abbrev tX0_worst (g : ZG) (args : List Value) (M : ZM) (d c s : Nat) (Q : ZQ) : Prop := Ct g yX0_worst (wsW_ yX0_worst cX0_worst 4 (Option.some Jvm.ClassFile.FieldType.int) [(0, 9, 12, 75)]) args M d c s Q
abbrev nX0_worst : Nat := 11
theorem mX0_worst : zMok yX0_worst 3 4 := ⟨⟨by decide +kernel, by decide +kernel, by decide +kernel⟩, by decide⟩
theorem eX0_worst {g : ZG} {Q : ZQ} {d cN sN : Nat} {M : ZM} {v1 : Value} (hv1 : v1.category = 1) {x2 : Int32} {v3 : Value} (hv3 : v3.category = 1) (hV : zV g) (h : Z g kX0_worst Q d cN sN M 0 [some (v1), some (.int x2), some (v3), none] []) : tX0_worst g [v1, .int x2, v3] M d cN sN Q := Ct.ofW (K := kX0_worst) rfl (by decide +kernel) hV fokX0 (fun h => by cases h) (fun v hv => by simp only [List.mem_cons, List.not_mem_nil, or_false] at hv; rcases hv with rfl | rfl | rfl <;> first | rfl | assumption) (Nat.le_of_ble_eq_true rfl) h
theorem sX0_worst_0 {g : ZG} {Q : ZQ} {d cN sN : Nat} {M : ZM} {l2 : Nat} {l0 : Nat} {l1 : Int32} {o3 : Option Value}  (kk : Z g kX0_worst Q d cN sN M 4 [some (.ref l0), some (.int l1), some (.ref l2), o3] [.int l1, .ref l0, .int 0, .ref l2]) : Z g kX0_worst Q d cN sN M 0 [some (.ref l0), some (.int l1), some (.ref l2), o3] [] := by
  refine zi_aload_n dX0_worst_0 rfl zrf_r ?_
  refine zi_iconst dX0_worst_1 (by decide +kernel : Int32.ofInt (0) = (0 : Int32)) ?_
  refine zi_aload_n dX0_worst_2 rfl zrf_r ?_
  refine zi_iload_n dX0_worst_3 rfl ?_
  exact kk
theorem sX0_worst_7 {g : ZG} {Q : ZQ} {d cN sN : Nat} {M : ZM} {t0 : Nat} {t1 : Int32} {t2 : Int32} {n1 : Nat} {f2 : Nat → Int64} {o0 o1 o2 o3 : Option Value} (h3 : M.1 t0 = some (.inl (zA g 1, n1, .inr (.inl (f2))))) (h4 : vp_in (t1) n1) (kk : Z g kX0_worst Q d cN sN (zup M t0 (.inl (zA g 1, n1, .inr (.inl (vp_updL f2 ((t1 : Int32).toNatClampNeg) ((t2 : Int32).toInt64)))))) 15 [o0, o1, o2, o3] []) : Z g kX0_worst Q d cN sN M 7 [o0, o1, o2, o3] [.int t2, .int t1, .ref t0] := by
  refine zi_i2l dX0_worst_7 ?_
  refine zi_lastore dX0_worst_8 h3 h4 ?_
  exact zi_goto (tgt := 15) dX0_worst_9 (by decide +kernel) kk
theorem sX0_worst_12 {g : ZG} {Q : ZQ} {d cN sN : Nat} {M : ZM} {t0 : Nat} {o0 o1 o2 o3 : Option Value}  (kk : Q.1 (some (.int 1)) M) : Z g kX0_worst Q d cN sN M 12 [o0, o1, o2, o3] [.ref t0] := by
  refine zi_astore_n dX0_worst_12 zrf_r (Nat.le_of_ble_eq_true rfl) ?_
  refine zi_iconst dX0_worst_13 (by decide +kernel : Int32.ofInt (1) = (1 : Int32)) ?_
  exact zi_ireturn dX0_worst_14 rfl rfl kk
theorem sX0_worst_15 {g : ZG} {Q : ZQ} {d cN sN : Nat} {M : ZM} {o0 o1 o2 o3 : Option Value}  (kk : Q.1 (some (.int 0)) M) : Z g kX0_worst Q d cN sN M 15 [o0, o1, o2, o3] [] := by
  refine zi_iconst dX0_worst_15 (by decide +kernel : Int32.ofInt (0) = (0 : Int32)) ?_
  exact zi_ireturn dX0_worst_16 rfl rfl kk
abbrev kX0_line : ZK := (RX0, cX0_line, 4, (Option.some Jvm.ClassFile.FieldType.int), [(0, 9, 12, 21)], false, fX0)
abbrev tX0_line (g : ZG) (args : List Value) (M : ZM) (d c s : Nat) (Q : ZQ) : Prop := Ct g yX0_line (wsW_ yX0_line cX0_line 4 (Option.some Jvm.ClassFile.FieldType.int) [(0, 9, 12, 21)]) args M d c s Q
abbrev nX0_line : Nat := 23
theorem mX0_line : zMok yX0_line 3 4 := ⟨⟨by decide +kernel, by decide +kernel, by decide +kernel⟩, by decide⟩
theorem eX0_line {g : ZG} {Q : ZQ} {d cN sN : Nat} {M : ZM} {v1 : Value} (hv1 : v1.category = 1) {x2 : Int32} {v3 : Value} (hv3 : v3.category = 1) (hV : zV g) (h : Z g kX0_line Q d cN sN M 0 [some (v1), some (.int x2), some (v3), none] []) : tX0_line g [v1, .int x2, v3] M d cN sN Q := Ct.ofW (K := kX0_line) rfl (by decide +kernel) hV fokX0 (fun h => by cases h) (fun v hv => by simp only [List.mem_cons, List.not_mem_nil, or_false] at hv; rcases hv with rfl | rfl | rfl <;> first | rfl | assumption) (Nat.le_of_ble_eq_true rfl) h
theorem sX0_line_0 {g : ZG} {Q : ZQ} {d cN sN : Nat} {M : ZM} {l2 : Nat} {l0 : Nat} {l1 : Int32} {o3 : Option Value}  (kk : Z g kX0_line Q d cN sN M 4 [some (.ref l0), some (.int l1), some (.ref l2), o3] [.int l1, .ref l0, .int 0, .ref l2]) : Z g kX0_line Q d cN sN M 0 [some (.ref l0), some (.int l1), some (.ref l2), o3] [] := by
  refine zi_aload_n dX0_line_0 rfl zrf_r ?_
  refine zi_iconst dX0_line_1 (by decide +kernel : Int32.ofInt (0) = (0 : Int32)) ?_
  refine zi_aload_n dX0_line_2 rfl zrf_r ?_
  refine zi_iload_n dX0_line_3 rfl ?_
  exact kk
theorem sX0_line_7 {g : ZG} {Q : ZQ} {d cN sN : Nat} {M : ZM} {t0 : Nat} {t1 : Int32} {t2 : Int32} {n1 : Nat} {f2 : Nat → Int64} {o0 o1 o2 o3 : Option Value} (h3 : M.1 t0 = some (.inl (zA g 1, n1, .inr (.inl (f2))))) (h4 : vp_in (t1) n1) (kk : Z g kX0_line Q d cN sN (zup M t0 (.inl (zA g 1, n1, .inr (.inl (vp_updL f2 ((t1 : Int32).toNatClampNeg) ((t2 : Int32).toInt64)))))) 15 [o0, o1, o2, o3] []) : Z g kX0_line Q d cN sN M 7 [o0, o1, o2, o3] [.int t2, .int t1, .ref t0] := by
  refine zi_i2l dX0_line_7 ?_
  refine zi_lastore dX0_line_8 h3 h4 ?_
  exact zi_goto (tgt := 15) dX0_line_9 (by decide +kernel) kk
theorem sX0_line_12 {g : ZG} {Q : ZQ} {d cN sN : Nat} {M : ZM} {t0 : Nat} {o0 o1 o2 o3 : Option Value}  (kk : Q.1 (some (.int 1)) M) : Z g kX0_line Q d cN sN M 12 [o0, o1, o2, o3] [.ref t0] := by
  refine zi_astore_n dX0_line_12 zrf_r (Nat.le_of_ble_eq_true rfl) ?_
  refine zi_iconst dX0_line_13 (by decide +kernel : Int32.ofInt (1) = (1 : Int32)) ?_
  exact zi_ireturn dX0_line_14 rfl rfl kk
theorem sX0_line_15 {g : ZG} {Q : ZQ} {d cN sN : Nat} {M : ZM} {o0 o1 o2 o3 : Option Value}  (kk : Q.1 (some (.int 0)) M) : Z g kX0_line Q d cN sN M 15 [o0, o1, o2, o3] [] := by
  refine zi_iconst dX0_line_15 (by decide +kernel : Int32.ofInt (0) = (0 : Int32)) ?_
  exact zi_ireturn dX0_line_16 rfl rfl kk
abbrev kX0_houseLine : ZK := (RX0, cX0_houseLine, 4, (Option.some Jvm.ClassFile.FieldType.int), [(0, 9, 12, 21)], false, fX0)
abbrev tX0_houseLine (g : ZG) (args : List Value) (M : ZM) (d c s : Nat) (Q : ZQ) : Prop := Ct g yX0_houseLine (wsW_ yX0_houseLine cX0_houseLine 4 (Option.some Jvm.ClassFile.FieldType.int) [(0, 9, 12, 21)]) args M d c s Q
abbrev nX0_houseLine : Nat := 23
theorem mX0_houseLine : zMok yX0_houseLine 3 4 := ⟨⟨by decide +kernel, by decide +kernel, by decide +kernel⟩, by decide⟩
theorem eX0_houseLine {g : ZG} {Q : ZQ} {d cN sN : Nat} {M : ZM} {v1 : Value} (hv1 : v1.category = 1) {x2 : Int32} {v3 : Value} (hv3 : v3.category = 1) (hV : zV g) (h : Z g kX0_houseLine Q d cN sN M 0 [some (v1), some (.int x2), some (v3), none] []) : tX0_houseLine g [v1, .int x2, v3] M d cN sN Q := Ct.ofW (K := kX0_houseLine) rfl (by decide +kernel) hV fokX0 (fun h => by cases h) (fun v hv => by simp only [List.mem_cons, List.not_mem_nil, or_false] at hv; rcases hv with rfl | rfl | rfl <;> first | rfl | assumption) (Nat.le_of_ble_eq_true rfl) h
theorem sX0_houseLine_0 {g : ZG} {Q : ZQ} {d cN sN : Nat} {M : ZM} {l2 : Nat} {l0 : Nat} {l1 : Int32} {o3 : Option Value}  (kk : Z g kX0_houseLine Q d cN sN M 4 [some (.ref l0), some (.int l1), some (.ref l2), o3] [.int l1, .ref l0, .int 0, .ref l2]) : Z g kX0_houseLine Q d cN sN M 0 [some (.ref l0), some (.int l1), some (.ref l2), o3] [] := by
  refine zi_aload_n dX0_houseLine_0 rfl zrf_r ?_
  refine zi_iconst dX0_houseLine_1 (by decide +kernel : Int32.ofInt (0) = (0 : Int32)) ?_
  refine zi_aload_n dX0_houseLine_2 rfl zrf_r ?_
  refine zi_iload_n dX0_houseLine_3 rfl ?_
  exact kk
theorem sX0_houseLine_7 {g : ZG} {Q : ZQ} {d cN sN : Nat} {M : ZM} {t0 : Nat} {t1 : Int32} {t2 : Int32} {n1 : Nat} {f2 : Nat → Int64} {o0 o1 o2 o3 : Option Value} (h3 : M.1 t0 = some (.inl (zA g 1, n1, .inr (.inl (f2))))) (h4 : vp_in (t1) n1) (kk : Z g kX0_houseLine Q d cN sN (zup M t0 (.inl (zA g 1, n1, .inr (.inl (vp_updL f2 ((t1 : Int32).toNatClampNeg) ((t2 : Int32).toInt64)))))) 15 [o0, o1, o2, o3] []) : Z g kX0_houseLine Q d cN sN M 7 [o0, o1, o2, o3] [.int t2, .int t1, .ref t0] := by
  refine zi_i2l dX0_houseLine_7 ?_
  refine zi_lastore dX0_houseLine_8 h3 h4 ?_
  exact zi_goto (tgt := 15) dX0_houseLine_9 (by decide +kernel) kk
theorem sX0_houseLine_12 {g : ZG} {Q : ZQ} {d cN sN : Nat} {M : ZM} {t0 : Nat} {o0 o1 o2 o3 : Option Value}  (kk : Q.1 (some (.int 1)) M) : Z g kX0_houseLine Q d cN sN M 12 [o0, o1, o2, o3] [.ref t0] := by
  refine zi_astore_n dX0_houseLine_12 zrf_r (Nat.le_of_ble_eq_true rfl) ?_
  refine zi_iconst dX0_houseLine_13 (by decide +kernel : Int32.ofInt (1) = (1 : Int32)) ?_
  exact zi_ireturn dX0_houseLine_14 rfl rfl kk
theorem sX0_houseLine_15 {g : ZG} {Q : ZQ} {d cN sN : Nat} {M : ZM} {o0 o1 o2 o3 : Option Value}  (kk : Q.1 (some (.int 0)) M) : Z g kX0_houseLine Q d cN sN M 15 [o0, o1, o2, o3] [] := by
  refine zi_iconst dX0_houseLine_15 (by decide +kernel : Int32.ofInt (0) = (0 : Int32)) ?_
  exact zi_ireturn dX0_houseLine_16 rfl rfl kk
abbrev kX0_character : ZK := (RX0, cX0_character, 4, (Option.some Jvm.ClassFile.FieldType.int), [(0, 9, 12, 21)], false, fX0)
abbrev tX0_character (g : ZG) (args : List Value) (M : ZM) (d c s : Nat) (Q : ZQ) : Prop := Ct g yX0_character (wsW_ yX0_character cX0_character 4 (Option.some Jvm.ClassFile.FieldType.int) [(0, 9, 12, 21)]) args M d c s Q
abbrev nX0_character : Nat := 12
theorem mX0_character : zMok yX0_character 3 4 := ⟨⟨by decide +kernel, by decide +kernel, by decide +kernel⟩, by decide⟩
theorem eX0_character {g : ZG} {Q : ZQ} {d cN sN : Nat} {M : ZM} {v1 : Value} (hv1 : v1.category = 1) {x2 : Int32} {v3 : Value} (hv3 : v3.category = 1) (hV : zV g) (h : Z g kX0_character Q d cN sN M 0 [some (v1), some (.int x2), some (v3), none] []) : tX0_character g [v1, .int x2, v3] M d cN sN Q := Ct.ofW (K := kX0_character) rfl (by decide +kernel) hV fokX0 (fun h => by cases h) (fun v hv => by simp only [List.mem_cons, List.not_mem_nil, or_false] at hv; rcases hv with rfl | rfl | rfl <;> first | rfl | assumption) (Nat.le_of_ble_eq_true rfl) h
theorem sX0_character_0 {g : ZG} {Q : ZQ} {d cN sN : Nat} {M : ZM} {l2 : Nat} {l0 : Nat} {l1 : Int32} {o3 : Option Value}  (kk : Z g kX0_character Q d cN sN M 4 [some (.ref l0), some (.int l1), some (.ref l2), o3] [.int l1, .ref l0, .int 0, .ref l2]) : Z g kX0_character Q d cN sN M 0 [some (.ref l0), some (.int l1), some (.ref l2), o3] [] := by
  refine zi_aload_n dX0_character_0 rfl zrf_r ?_
  refine zi_iconst dX0_character_1 (by decide +kernel : Int32.ofInt (0) = (0 : Int32)) ?_
  refine zi_aload_n dX0_character_2 rfl zrf_r ?_
  refine zi_iload_n dX0_character_3 rfl ?_
  exact kk
theorem sX0_character_7 {g : ZG} {Q : ZQ} {d cN sN : Nat} {M : ZM} {t0 : Nat} {t1 : Int32} {t2 : Int32} {n1 : Nat} {f2 : Nat → Int64} {o0 o1 o2 o3 : Option Value} (h3 : M.1 t0 = some (.inl (zA g 1, n1, .inr (.inl (f2))))) (h4 : vp_in (t1) n1) (kk : Z g kX0_character Q d cN sN (zup M t0 (.inl (zA g 1, n1, .inr (.inl (vp_updL f2 ((t1 : Int32).toNatClampNeg) ((t2 : Int32).toInt64)))))) 15 [o0, o1, o2, o3] []) : Z g kX0_character Q d cN sN M 7 [o0, o1, o2, o3] [.int t2, .int t1, .ref t0] := by
  refine zi_i2l dX0_character_7 ?_
  refine zi_lastore dX0_character_8 h3 h4 ?_
  exact zi_goto (tgt := 15) dX0_character_9 (by decide +kernel) kk
theorem sX0_character_12 {g : ZG} {Q : ZQ} {d cN sN : Nat} {M : ZM} {t0 : Nat} {o0 o1 o2 o3 : Option Value}  (kk : Q.1 (some (.int 1)) M) : Z g kX0_character Q d cN sN M 12 [o0, o1, o2, o3] [.ref t0] := by
  refine zi_astore_n dX0_character_12 zrf_r (Nat.le_of_ble_eq_true rfl) ?_
  refine zi_iconst dX0_character_13 (by decide +kernel : Int32.ofInt (1) = (1 : Int32)) ?_
  exact zi_ireturn dX0_character_14 rfl rfl kk
theorem sX0_character_15 {g : ZG} {Q : ZQ} {d cN sN : Nat} {M : ZM} {o0 o1 o2 o3 : Option Value}  (kk : Q.1 (some (.int 0)) M) : Z g kX0_character Q d cN sN M 15 [o0, o1, o2, o3] [] := by
  refine zi_iconst dX0_character_15 (by decide +kernel : Int32.ofInt (0) = (0 : Int32)) ?_
  exact zi_ireturn dX0_character_16 rfl rfl kk
abbrev kX0_append : ZK := (RX0, cX0_append, 4, (Option.some Jvm.ClassFile.FieldType.int), [(0, 9, 12, 106)], false, fX0)
abbrev tX0_append (g : ZG) (args : List Value) (M : ZM) (d c s : Nat) (Q : ZQ) : Prop := Ct g yX0_append (wsW_ yX0_append cX0_append 4 (Option.some Jvm.ClassFile.FieldType.int) [(0, 9, 12, 106)]) args M d c s Q
abbrev nX0_append : Nat := 15
theorem mX0_append : zMok yX0_append 3 4 := ⟨⟨by decide +kernel, by decide +kernel, by decide +kernel⟩, by decide⟩
theorem eX0_append {g : ZG} {Q : ZQ} {d cN sN : Nat} {M : ZM} {v1 : Value} (hv1 : v1.category = 1) {x2 : Int32} {v3 : Value} (hv3 : v3.category = 1) (hV : zV g) (h : Z g kX0_append Q d cN sN M 0 [some (v1), some (.int x2), some (v3), none] []) : tX0_append g [v1, .int x2, v3] M d cN sN Q := Ct.ofW (K := kX0_append) rfl (by decide +kernel) hV fokX0 (fun h => by cases h) (fun v hv => by simp only [List.mem_cons, List.not_mem_nil, or_false] at hv; rcases hv with rfl | rfl | rfl <;> first | rfl | assumption) (Nat.le_of_ble_eq_true rfl) h
theorem sX0_append_0 {g : ZG} {Q : ZQ} {d cN sN : Nat} {M : ZM} {l2 : Nat} {l0 : Nat} {l1 : Int32} {o3 : Option Value}  (kk : Z g kX0_append Q d cN sN M 4 [some (.ref l0), some (.int l1), some (.ref l2), o3] [.int l1, .ref l0, .int 0, .ref l2]) : Z g kX0_append Q d cN sN M 0 [some (.ref l0), some (.int l1), some (.ref l2), o3] [] := by
  refine zi_aload_n dX0_append_0 rfl zrf_r ?_
  refine zi_iconst dX0_append_1 (by decide +kernel : Int32.ofInt (0) = (0 : Int32)) ?_
  refine zi_aload_n dX0_append_2 rfl zrf_r ?_
  refine zi_iload_n dX0_append_3 rfl ?_
  exact kk
theorem sX0_append_7 {g : ZG} {Q : ZQ} {d cN sN : Nat} {M : ZM} {t0 : Nat} {t1 : Int32} {t2 : Int32} {n1 : Nat} {f2 : Nat → Int64} {o0 o1 o2 o3 : Option Value} (h3 : M.1 t0 = some (.inl (zA g 1, n1, .inr (.inl (f2))))) (h4 : vp_in (t1) n1) (kk : Z g kX0_append Q d cN sN (zup M t0 (.inl (zA g 1, n1, .inr (.inl (vp_updL f2 ((t1 : Int32).toNatClampNeg) ((t2 : Int32).toInt64)))))) 15 [o0, o1, o2, o3] []) : Z g kX0_append Q d cN sN M 7 [o0, o1, o2, o3] [.int t2, .int t1, .ref t0] := by
  refine zi_i2l dX0_append_7 ?_
  refine zi_lastore dX0_append_8 h3 h4 ?_
  exact zi_goto (tgt := 15) dX0_append_9 (by decide +kernel) kk
theorem sX0_append_12 {g : ZG} {Q : ZQ} {d cN sN : Nat} {M : ZM} {t0 : Nat} {o0 o1 o2 o3 : Option Value}  (kk : Q.1 (some (.int 1)) M) : Z g kX0_append Q d cN sN M 12 [o0, o1, o2, o3] [.ref t0] := by
  refine zi_astore_n dX0_append_12 zrf_r (Nat.le_of_ble_eq_true rfl) ?_
  refine zi_iconst dX0_append_13 (by decide +kernel : Int32.ofInt (1) = (1 : Int32)) ?_
  exact zi_ireturn dX0_append_14 rfl rfl kk
theorem sX0_append_15 {g : ZG} {Q : ZQ} {d cN sN : Nat} {M : ZM} {o0 o1 o2 o3 : Option Value}  (kk : Q.1 (some (.int 0)) M) : Z g kX0_append Q d cN sN M 15 [o0, o1, o2, o3] [] := by
  refine zi_iconst dX0_append_15 (by decide +kernel : Int32.ofInt (0) = (0 : Int32)) ?_
  exact zi_ireturn dX0_append_16 rfl rfl kk
abbrev kX0_run : ZK := (RX0, cX0_run, 3, (Option.some Jvm.ClassFile.FieldType.int), [(0, 8, 11, 13), (0, 8, 14, 15)], false, fX0)
abbrev tX0_run (g : ZG) (args : List Value) (M : ZM) (d c s : Nat) (Q : ZQ) : Prop := Ct g yX0_run (wsW_ yX0_run cX0_run 3 (Option.some Jvm.ClassFile.FieldType.int) [(0, 8, 11, 13), (0, 8, 14, 15)]) args M d c s Q
abbrev nX0_run : Nat := 23
theorem mX0_run : zMok yX0_run 2 3 := ⟨⟨by decide +kernel, by decide +kernel, by decide +kernel⟩, by decide⟩
theorem eX0_run {g : ZG} {Q : ZQ} {d cN sN : Nat} {M : ZM} {v1 : Value} (hv1 : v1.category = 1) {v2 : Value} (hv2 : v2.category = 1) (hV : zV g) (h : Z g kX0_run Q d cN sN M 0 [some (v1), some (v2), none] []) : tX0_run g [v1, v2] M d cN sN Q := Ct.ofW (K := kX0_run) rfl (by decide +kernel) hV fokX0 (fun h => by cases h) (fun v hv => by simp only [List.mem_cons, List.not_mem_nil, or_false] at hv; rcases hv with rfl | rfl <;> first | rfl | assumption) (Nat.le_of_ble_eq_true rfl) h
theorem sX0_run_0 {g : ZG} {Q : ZQ} {d cN sN : Nat} {M : ZM} {l1 : Nat} {l0 : Nat} {o2 : Option Value}  (kk : Z g kX0_run Q d cN sN M 3 [some (.ref l0), some (.ref l1), o2] [.ref l0, .int 0, .ref l1]) : Z g kX0_run Q d cN sN M 0 [some (.ref l0), some (.ref l1), o2] [] := by
  refine zi_aload_n dX0_run_0 rfl zrf_r ?_
  refine zi_iconst dX0_run_1 (by decide +kernel : Int32.ofInt (0) = (0 : Int32)) ?_
  refine zi_aload_n dX0_run_2 rfl zrf_r ?_
  exact kk
theorem sX0_run_6 {g : ZG} {Q : ZQ} {d cN sN : Nat} {M : ZM} {t0 : Nat} {t1 : Int32} {t2 : Int32} {n1 : Nat} {f2 : Nat → Int64} {o0 o1 o2 : Option Value} (h3 : M.1 t0 = some (.inl (zA g 1, n1, .inr (.inl (f2))))) (h4 : vp_in (t1) n1) (kk : Z g kX0_run Q d cN sN (zup M t0 (.inl (zA g 1, n1, .inr (.inl (vp_updL f2 ((t1 : Int32).toNatClampNeg) ((t2 : Int32).toInt64)))))) 17 [o0, o1, o2] []) : Z g kX0_run Q d cN sN M 6 [o0, o1, o2] [.int t2, .int t1, .ref t0] := by
  refine zi_i2l dX0_run_6 ?_
  refine zi_lastore dX0_run_7 h3 h4 ?_
  exact zi_goto (tgt := 17) dX0_run_8 (by decide +kernel) kk
theorem sX0_run_11 {g : ZG} {Q : ZQ} {d cN sN : Nat} {M : ZM} {t0 : Nat} {o0 o1 o2 : Option Value}  (kk : Q.1 (some (.int 1)) M) : Z g kX0_run Q d cN sN M 11 [o0, o1, o2] [.ref t0] := by
  refine zi_astore_n dX0_run_11 zrf_r (Nat.le_of_ble_eq_true rfl) ?_
  refine zi_iconst dX0_run_12 (by decide +kernel : Int32.ofInt (1) = (1 : Int32)) ?_
  exact zi_ireturn dX0_run_13 rfl rfl kk
theorem sX0_run_14 {g : ZG} {Q : ZQ} {d cN sN : Nat} {M : ZM} {t0 : Nat} {o0 o1 o2 : Option Value}  (kk : Q.1 (some (.int 2)) M) : Z g kX0_run Q d cN sN M 14 [o0, o1, o2] [.ref t0] := by
  refine zi_astore_n dX0_run_14 zrf_r (Nat.le_of_ble_eq_true rfl) ?_
  refine zi_iconst dX0_run_15 (by decide +kernel : Int32.ofInt (2) = (2 : Int32)) ?_
  exact zi_ireturn dX0_run_16 rfl rfl kk
theorem sX0_run_17 {g : ZG} {Q : ZQ} {d cN sN : Nat} {M : ZM} {o0 o1 o2 : Option Value}  (kk : Q.1 (some (.int 0)) M) : Z g kX0_run Q d cN sN M 17 [o0, o1, o2] [] := by
  refine zi_iconst dX0_run_17 (by decide +kernel : Int32.ofInt (0) = (0 : Int32)) ?_
  exact zi_ireturn dX0_run_18 rfl rfl kk
abbrev kX0_refusal : ZK := (RX0, cX0_refusal, 5, (Option.some Jvm.ClassFile.FieldType.int), [(0, 10, 13, 75)], false, fX0)
abbrev tX0_refusal (g : ZG) (args : List Value) (M : ZM) (d c s : Nat) (Q : ZQ) : Prop := Ct g yX0_refusal (wsW_ yX0_refusal cX0_refusal 5 (Option.some Jvm.ClassFile.FieldType.int) [(0, 10, 13, 75)]) args M d c s Q
abbrev nX0_refusal : Nat := 10
theorem mX0_refusal : zMok yX0_refusal 4 5 := ⟨⟨by decide +kernel, by decide +kernel, by decide +kernel⟩, by decide⟩
theorem eX0_refusal {g : ZG} {Q : ZQ} {d cN sN : Nat} {M : ZM} {v1 : Value} (hv1 : v1.category = 1) {x2 : Int32} {x3 : Int32} {v4 : Value} (hv4 : v4.category = 1) (hV : zV g) (h : Z g kX0_refusal Q d cN sN M 0 [some (v1), some (.int x2), some (.int x3), some (v4), none] []) : tX0_refusal g [v1, .int x2, .int x3, v4] M d cN sN Q := Ct.ofW (K := kX0_refusal) rfl (by decide +kernel) hV fokX0 (fun h => by cases h) (fun v hv => by simp only [List.mem_cons, List.not_mem_nil, or_false] at hv; rcases hv with rfl | rfl | rfl | rfl <;> first | rfl | assumption) (Nat.le_of_ble_eq_true rfl) h
theorem sX0_refusal_0 {g : ZG} {Q : ZQ} {d cN sN : Nat} {M : ZM} {l3 : Nat} {l0 : Nat} {l1 : Int32} {l2 : Int32} {o4 : Option Value}  (kk : Z g kX0_refusal Q d cN sN M 5 [some (.ref l0), some (.int l1), some (.int l2), some (.ref l3), o4] [.int l2, .int l1, .ref l0, .int 0, .ref l3]) : Z g kX0_refusal Q d cN sN M 0 [some (.ref l0), some (.int l1), some (.int l2), some (.ref l3), o4] [] := by
  refine zi_aload_n dX0_refusal_0 rfl zrf_r ?_
  refine zi_iconst dX0_refusal_1 (by decide +kernel : Int32.ofInt (0) = (0 : Int32)) ?_
  refine zi_aload_n dX0_refusal_2 rfl zrf_r ?_
  refine zi_iload_n dX0_refusal_3 rfl ?_
  refine zi_iload_n dX0_refusal_4 rfl ?_
  exact kk
theorem sX0_refusal_8 {g : ZG} {Q : ZQ} {d cN sN : Nat} {M : ZM} {t0 : Nat} {t1 : Int32} {t2 : Int32} {n1 : Nat} {f2 : Nat → Int64} {o0 o1 o2 o3 o4 : Option Value} (h3 : M.1 t0 = some (.inl (zA g 1, n1, .inr (.inl (f2))))) (h4 : vp_in (t1) n1) (kk : Z g kX0_refusal Q d cN sN (zup M t0 (.inl (zA g 1, n1, .inr (.inl (vp_updL f2 ((t1 : Int32).toNatClampNeg) ((t2 : Int32).toInt64)))))) 17 [o0, o1, o2, o3, o4] []) : Z g kX0_refusal Q d cN sN M 8 [o0, o1, o2, o3, o4] [.int t2, .int t1, .ref t0] := by
  refine zi_i2l dX0_refusal_8 ?_
  refine zi_lastore dX0_refusal_9 h3 h4 ?_
  exact zi_goto (tgt := 17) dX0_refusal_10 (by decide +kernel) kk
theorem sX0_refusal_13 {g : ZG} {Q : ZQ} {d cN sN : Nat} {M : ZM} {t0 : Nat} {o0 o1 o2 o3 o4 : Option Value}  (kk : Q.1 (some (.int 1)) M) : Z g kX0_refusal Q d cN sN M 13 [o0, o1, o2, o3, o4] [.ref t0] := by
  refine zi_astore dX0_refusal_13 zrf_r (Nat.le_of_ble_eq_true rfl) ?_
  refine zi_iconst dX0_refusal_15 (by decide +kernel : Int32.ofInt (1) = (1 : Int32)) ?_
  exact zi_ireturn dX0_refusal_16 rfl rfl kk
theorem sX0_refusal_17 {g : ZG} {Q : ZQ} {d cN sN : Nat} {M : ZM} {o0 o1 o2 o3 o4 : Option Value}  (kk : Q.1 (some (.int 0)) M) : Z g kX0_refusal Q d cN sN M 17 [o0, o1, o2, o3, o4] [] := by
  refine zi_iconst dX0_refusal_17 (by decide +kernel : Int32.ofInt (0) = (0 : Int32)) ?_
  exact zi_ireturn dX0_refusal_18 rfl rfl kk
abbrev kX0_account : ZK := (RX0, cX0_account, 4, (Option.some Jvm.ClassFile.FieldType.int), [(0, 9, 12, 13)], false, fX0)
abbrev tX0_account (g : ZG) (args : List Value) (M : ZM) (d c s : Nat) (Q : ZQ) : Prop := Ct g yX0_account (wsW_ yX0_account cX0_account 4 (Option.some Jvm.ClassFile.FieldType.int) [(0, 9, 12, 13)]) args M d c s Q
abbrev nX0_account : Nat := 10
theorem mX0_account : zMok yX0_account 3 4 := ⟨⟨by decide +kernel, by decide +kernel, by decide +kernel⟩, by decide⟩
theorem eX0_account {g : ZG} {Q : ZQ} {d cN sN : Nat} {M : ZM} {v1 : Value} (hv1 : v1.category = 1) {x2 : Int32} {v3 : Value} (hv3 : v3.category = 1) (hV : zV g) (h : Z g kX0_account Q d cN sN M 0 [some (v1), some (.int x2), some (v3), none] []) : tX0_account g [v1, .int x2, v3] M d cN sN Q := Ct.ofW (K := kX0_account) rfl (by decide +kernel) hV fokX0 (fun h => by cases h) (fun v hv => by simp only [List.mem_cons, List.not_mem_nil, or_false] at hv; rcases hv with rfl | rfl | rfl <;> first | rfl | assumption) (Nat.le_of_ble_eq_true rfl) h
theorem sX0_account_0 {g : ZG} {Q : ZQ} {d cN sN : Nat} {M : ZM} {l2 : Nat} {l0 : Nat} {l1 : Int32} {o3 : Option Value}  (kk : Z g kX0_account Q d cN sN M 4 [some (.ref l0), some (.int l1), some (.ref l2), o3] [.int l1, .ref l0, .int 0, .ref l2]) : Z g kX0_account Q d cN sN M 0 [some (.ref l0), some (.int l1), some (.ref l2), o3] [] := by
  refine zi_aload_n dX0_account_0 rfl zrf_r ?_
  refine zi_iconst dX0_account_1 (by decide +kernel : Int32.ofInt (0) = (0 : Int32)) ?_
  refine zi_aload_n dX0_account_2 rfl zrf_r ?_
  refine zi_iload_n dX0_account_3 rfl ?_
  exact kk
theorem sX0_account_7 {g : ZG} {Q : ZQ} {d cN sN : Nat} {M : ZM} {t0 : Nat} {t1 : Int32} {t2 : Int32} {n1 : Nat} {f2 : Nat → Int64} {o0 o1 o2 o3 : Option Value} (h3 : M.1 t0 = some (.inl (zA g 1, n1, .inr (.inl (f2))))) (h4 : vp_in (t1) n1) (kk : Z g kX0_account Q d cN sN (zup M t0 (.inl (zA g 1, n1, .inr (.inl (vp_updL f2 ((t1 : Int32).toNatClampNeg) ((t2 : Int32).toInt64)))))) 15 [o0, o1, o2, o3] []) : Z g kX0_account Q d cN sN M 7 [o0, o1, o2, o3] [.int t2, .int t1, .ref t0] := by
  refine zi_i2l dX0_account_7 ?_
  refine zi_lastore dX0_account_8 h3 h4 ?_
  exact zi_goto (tgt := 15) dX0_account_9 (by decide +kernel) kk
theorem sX0_account_12 {g : ZG} {Q : ZQ} {d cN sN : Nat} {M : ZM} {t0 : Nat} {o0 o1 o2 o3 : Option Value}  (kk : Q.1 (some (.int 1)) M) : Z g kX0_account Q d cN sN M 12 [o0, o1, o2, o3] [.ref t0] := by
  refine zi_astore_n dX0_account_12 zrf_r (Nat.le_of_ble_eq_true rfl) ?_
  refine zi_iconst dX0_account_13 (by decide +kernel : Int32.ofInt (1) = (1 : Int32)) ?_
  exact zi_ireturn dX0_account_14 rfl rfl kk
theorem sX0_account_15 {g : ZG} {Q : ZQ} {d cN sN : Nat} {M : ZM} {o0 o1 o2 o3 : Option Value}  (kk : Q.1 (some (.int 0)) M) : Z g kX0_account Q d cN sN M 15 [o0, o1, o2, o3] [] := by
  refine zi_iconst dX0_account_15 (by decide +kernel : Int32.ofInt (0) = (0 : Int32)) ?_
  exact zi_ireturn dX0_account_16 rfl rfl kk
abbrev kX0_meanShame : ZK := (RX0, cX0_meanShame, 3, (Option.some Jvm.ClassFile.FieldType.int), [(0, 7, 10, 122)], false, fX0)
abbrev tX0_meanShame (g : ZG) (args : List Value) (M : ZM) (d c s : Nat) (Q : ZQ) : Prop := Ct g yX0_meanShame (wsW_ yX0_meanShame cX0_meanShame 3 (Option.some Jvm.ClassFile.FieldType.int) [(0, 7, 10, 122)]) args M d c s Q
abbrev nX0_meanShame : Nat := 10
theorem mX0_meanShame : zMok yX0_meanShame 2 3 := ⟨⟨by decide +kernel, by decide +kernel, by decide +kernel⟩, by decide⟩
theorem eX0_meanShame {g : ZG} {Q : ZQ} {d cN sN : Nat} {M : ZM} {v1 : Value} (hv1 : v1.category = 1) {v2 : Value} (hv2 : v2.category = 1) (hV : zV g) (h : Z g kX0_meanShame Q d cN sN M 0 [some (v1), some (v2), none] []) : tX0_meanShame g [v1, v2] M d cN sN Q := Ct.ofW (K := kX0_meanShame) rfl (by decide +kernel) hV fokX0 (fun h => by cases h) (fun v hv => by simp only [List.mem_cons, List.not_mem_nil, or_false] at hv; rcases hv with rfl | rfl <;> first | rfl | assumption) (Nat.le_of_ble_eq_true rfl) h
theorem sX0_meanShame_0 {g : ZG} {Q : ZQ} {d cN sN : Nat} {M : ZM} {l1 : Nat} {l0 : Nat} {o2 : Option Value}  (kk : Z g kX0_meanShame Q d cN sN M 3 [some (.ref l0), some (.ref l1), o2] [.ref l0, .int 0, .ref l1]) : Z g kX0_meanShame Q d cN sN M 0 [some (.ref l0), some (.ref l1), o2] [] := by
  refine zi_aload_n dX0_meanShame_0 rfl zrf_r ?_
  refine zi_iconst dX0_meanShame_1 (by decide +kernel : Int32.ofInt (0) = (0 : Int32)) ?_
  refine zi_aload_n dX0_meanShame_2 rfl zrf_r ?_
  exact kk
theorem sX0_meanShame_6 {g : ZG} {Q : ZQ} {d cN sN : Nat} {M : ZM} {t0 : Nat} {t1 : Int32} {t2 : UInt64} {n1 : Nat} {f2 : Nat → UInt64} {o0 o1 o2 : Option Value} (h3 : M.1 t0 = some (.inl (zA g 2, n1, .inr (.inr (.inr (.inl (f2))))))) (h4 : vp_in (t1) n1) (kk : Z g kX0_meanShame Q d cN sN (zup M t0 (.inl (zA g 2, n1, .inr (.inr (.inr (.inl (vf_upd f2 ((t1 : Int32).toNatClampNeg) (t2)))))))) 13 [o0, o1, o2] []) : Z g kX0_meanShame Q d cN sN M 6 [o0, o1, o2] [.double (t2), .int t1, .ref t0] := by
  refine zi_dastore dX0_meanShame_6 h3 h4 ?_
  exact zi_goto (tgt := 13) dX0_meanShame_7 (by decide +kernel) kk
theorem sX0_meanShame_10 {g : ZG} {Q : ZQ} {d cN sN : Nat} {M : ZM} {t0 : Nat} {o0 o1 o2 : Option Value}  (kk : Q.1 (some (.int 1)) M) : Z g kX0_meanShame Q d cN sN M 10 [o0, o1, o2] [.ref t0] := by
  refine zi_astore_n dX0_meanShame_10 zrf_r (Nat.le_of_ble_eq_true rfl) ?_
  refine zi_iconst dX0_meanShame_11 (by decide +kernel : Int32.ofInt (1) = (1 : Int32)) ?_
  exact zi_ireturn dX0_meanShame_12 rfl rfl kk
theorem sX0_meanShame_13 {g : ZG} {Q : ZQ} {d cN sN : Nat} {M : ZM} {o0 o1 o2 : Option Value}  (kk : Q.1 (some (.int 0)) M) : Z g kX0_meanShame Q d cN sN M 13 [o0, o1, o2] [] := by
  refine zi_iconst dX0_meanShame_13 (by decide +kernel : Int32.ofInt (0) = (0 : Int32)) ?_
  exact zi_ireturn dX0_meanShame_14 rfl rfl kk
abbrev kX0_errorShare : ZK := (RX0, cX0_errorShare, 3, (Option.some Jvm.ClassFile.FieldType.int), [(0, 8, 11, 122)], false, fX0)
abbrev tX0_errorShare (g : ZG) (args : List Value) (M : ZM) (d c s : Nat) (Q : ZQ) : Prop := Ct g yX0_errorShare (wsW_ yX0_errorShare cX0_errorShare 3 (Option.some Jvm.ClassFile.FieldType.int) [(0, 8, 11, 122)]) args M d c s Q
abbrev nX0_errorShare : Nat := 10
theorem mX0_errorShare : zMok yX0_errorShare 2 3 := ⟨⟨by decide +kernel, by decide +kernel, by decide +kernel⟩, by decide⟩
theorem eX0_errorShare {g : ZG} {Q : ZQ} {d cN sN : Nat} {M : ZM} {v1 : Value} (hv1 : v1.category = 1) {v2 : Value} (hv2 : v2.category = 1) (hV : zV g) (h : Z g kX0_errorShare Q d cN sN M 0 [some (v1), some (v2), none] []) : tX0_errorShare g [v1, v2] M d cN sN Q := Ct.ofW (K := kX0_errorShare) rfl (by decide +kernel) hV fokX0 (fun h => by cases h) (fun v hv => by simp only [List.mem_cons, List.not_mem_nil, or_false] at hv; rcases hv with rfl | rfl <;> first | rfl | assumption) (Nat.le_of_ble_eq_true rfl) h
theorem sX0_errorShare_0 {g : ZG} {Q : ZQ} {d cN sN : Nat} {M : ZM} {l1 : Nat} {l0 : Nat} {o2 : Option Value}  (kk : Z g kX0_errorShare Q d cN sN M 3 [some (.ref l0), some (.ref l1), o2] [.ref l0, .int 0, .ref l1]) : Z g kX0_errorShare Q d cN sN M 0 [some (.ref l0), some (.ref l1), o2] [] := by
  refine zi_aload_n dX0_errorShare_0 rfl zrf_r ?_
  refine zi_iconst dX0_errorShare_1 (by decide +kernel : Int32.ofInt (0) = (0 : Int32)) ?_
  refine zi_aload_n dX0_errorShare_2 rfl zrf_r ?_
  exact kk
theorem sX0_errorShare_6 {g : ZG} {Q : ZQ} {d cN sN : Nat} {M : ZM} {t0 : Nat} {t1 : Int32} {t2 : UInt32} {n2 : Nat} {f3 : Nat → UInt64} {o0 o1 o2 : Option Value} (h1 : vf_n64 (FP.f2d (t2))) (h4 : M.1 t0 = some (.inl (zA g 2, n2, .inr (.inr (.inr (.inl (f3))))))) (h5 : vp_in (t1) n2) (kk : Z g kX0_errorShare Q d cN sN (zup M t0 (.inl (zA g 2, n2, .inr (.inr (.inr (.inl (vf_upd f3 ((t1 : Int32).toNatClampNeg) (FP.f2d (t2))))))))) 14 [o0, o1, o2] []) : Z g kX0_errorShare Q d cN sN M 6 [o0, o1, o2] [.float (t2), .int t1, .ref t0] := by
  refine zi_f2d dX0_errorShare_6 h1 ?_
  refine zi_dastore dX0_errorShare_7 h4 h5 ?_
  exact zi_goto (tgt := 14) dX0_errorShare_8 (by decide +kernel) kk
theorem sX0_errorShare_11 {g : ZG} {Q : ZQ} {d cN sN : Nat} {M : ZM} {t0 : Nat} {o0 o1 o2 : Option Value}  (kk : Q.1 (some (.int 1)) M) : Z g kX0_errorShare Q d cN sN M 11 [o0, o1, o2] [.ref t0] := by
  refine zi_astore_n dX0_errorShare_11 zrf_r (Nat.le_of_ble_eq_true rfl) ?_
  refine zi_iconst dX0_errorShare_12 (by decide +kernel : Int32.ofInt (1) = (1 : Int32)) ?_
  exact zi_ireturn dX0_errorShare_13 rfl rfl kk
theorem sX0_errorShare_14 {g : ZG} {Q : ZQ} {d cN sN : Nat} {M : ZM} {o0 o1 o2 : Option Value}  (kk : Q.1 (some (.int 0)) M) : Z g kX0_errorShare Q d cN sN M 14 [o0, o1, o2] [] := by
  refine zi_iconst dX0_errorShare_14 (by decide +kernel : Int32.ofInt (0) = (0 : Int32)) ?_
  exact zi_ireturn dX0_errorShare_15 rfl rfl kk
abbrev kX0_undo : ZK := (RX0, cX0_undo, 3, (Option.some Jvm.ClassFile.FieldType.int), [(0, 8, 11, 106)], false, fX0)
abbrev tX0_undo (g : ZG) (args : List Value) (M : ZM) (d c s : Nat) (Q : ZQ) : Prop := Ct g yX0_undo (wsW_ yX0_undo cX0_undo 3 (Option.some Jvm.ClassFile.FieldType.int) [(0, 8, 11, 106)]) args M d c s Q
abbrev nX0_undo : Nat := 12
theorem mX0_undo : zMok yX0_undo 2 3 := ⟨⟨by decide +kernel, by decide +kernel, by decide +kernel⟩, by decide⟩
theorem eX0_undo {g : ZG} {Q : ZQ} {d cN sN : Nat} {M : ZM} {v1 : Value} (hv1 : v1.category = 1) {v2 : Value} (hv2 : v2.category = 1) (hV : zV g) (h : Z g kX0_undo Q d cN sN M 0 [some (v1), some (v2), none] []) : tX0_undo g [v1, v2] M d cN sN Q := Ct.ofW (K := kX0_undo) rfl (by decide +kernel) hV fokX0 (fun h => by cases h) (fun v hv => by simp only [List.mem_cons, List.not_mem_nil, or_false] at hv; rcases hv with rfl | rfl <;> first | rfl | assumption) (Nat.le_of_ble_eq_true rfl) h
theorem sX0_undo_0 {g : ZG} {Q : ZQ} {d cN sN : Nat} {M : ZM} {l1 : Nat} {l0 : Nat} {o2 : Option Value}  (kk : Z g kX0_undo Q d cN sN M 3 [some (.ref l0), some (.ref l1), o2] [.ref l0, .int 0, .ref l1]) : Z g kX0_undo Q d cN sN M 0 [some (.ref l0), some (.ref l1), o2] [] := by
  refine zi_aload_n dX0_undo_0 rfl zrf_r ?_
  refine zi_iconst dX0_undo_1 (by decide +kernel : Int32.ofInt (0) = (0 : Int32)) ?_
  refine zi_aload_n dX0_undo_2 rfl zrf_r ?_
  exact kk
theorem sX0_undo_6 {g : ZG} {Q : ZQ} {d cN sN : Nat} {M : ZM} {t0 : Nat} {t1 : Int32} {t2 : Int32} {n1 : Nat} {f2 : Nat → Int64} {o0 o1 o2 : Option Value} (h3 : M.1 t0 = some (.inl (zA g 1, n1, .inr (.inl (f2))))) (h4 : vp_in (t1) n1) (kk : Z g kX0_undo Q d cN sN (zup M t0 (.inl (zA g 1, n1, .inr (.inl (vp_updL f2 ((t1 : Int32).toNatClampNeg) ((t2 : Int32).toInt64)))))) 14 [o0, o1, o2] []) : Z g kX0_undo Q d cN sN M 6 [o0, o1, o2] [.int t2, .int t1, .ref t0] := by
  refine zi_i2l dX0_undo_6 ?_
  refine zi_lastore dX0_undo_7 h3 h4 ?_
  exact zi_goto (tgt := 14) dX0_undo_8 (by decide +kernel) kk
theorem sX0_undo_11 {g : ZG} {Q : ZQ} {d cN sN : Nat} {M : ZM} {t0 : Nat} {o0 o1 o2 : Option Value}  (kk : Q.1 (some (.int 1)) M) : Z g kX0_undo Q d cN sN M 11 [o0, o1, o2] [.ref t0] := by
  refine zi_astore_n dX0_undo_11 zrf_r (Nat.le_of_ble_eq_true rfl) ?_
  refine zi_iconst dX0_undo_12 (by decide +kernel : Int32.ofInt (1) = (1 : Int32)) ?_
  exact zi_ireturn dX0_undo_13 rfl rfl kk
theorem sX0_undo_14 {g : ZG} {Q : ZQ} {d cN sN : Nat} {M : ZM} {o0 o1 o2 : Option Value}  (kk : Q.1 (some (.int 0)) M) : Z g kX0_undo Q d cN sN M 14 [o0, o1, o2] [] := by
  refine zi_iconst dX0_undo_14 (by decide +kernel : Int32.ofInt (0) = (0 : Int32)) ?_
  exact zi_ireturn dX0_undo_15 rfl rfl kk
abbrev kX0_restore : ZK := (RX0, cX0_restore, 3, (Option.some Jvm.ClassFile.FieldType.int), [(0, 8, 11, 106)], false, fX0)
abbrev tX0_restore (g : ZG) (args : List Value) (M : ZM) (d c s : Nat) (Q : ZQ) : Prop := Ct g yX0_restore (wsW_ yX0_restore cX0_restore 3 (Option.some Jvm.ClassFile.FieldType.int) [(0, 8, 11, 106)]) args M d c s Q
abbrev nX0_restore : Nat := 12
theorem mX0_restore : zMok yX0_restore 2 3 := ⟨⟨by decide +kernel, by decide +kernel, by decide +kernel⟩, by decide⟩
theorem eX0_restore {g : ZG} {Q : ZQ} {d cN sN : Nat} {M : ZM} {v1 : Value} (hv1 : v1.category = 1) {v2 : Value} (hv2 : v2.category = 1) (hV : zV g) (h : Z g kX0_restore Q d cN sN M 0 [some (v1), some (v2), none] []) : tX0_restore g [v1, v2] M d cN sN Q := Ct.ofW (K := kX0_restore) rfl (by decide +kernel) hV fokX0 (fun h => by cases h) (fun v hv => by simp only [List.mem_cons, List.not_mem_nil, or_false] at hv; rcases hv with rfl | rfl <;> first | rfl | assumption) (Nat.le_of_ble_eq_true rfl) h
theorem sX0_restore_0 {g : ZG} {Q : ZQ} {d cN sN : Nat} {M : ZM} {l1 : Nat} {l0 : Nat} {o2 : Option Value}  (kk : Z g kX0_restore Q d cN sN M 3 [some (.ref l0), some (.ref l1), o2] [.ref l0, .int 0, .ref l1]) : Z g kX0_restore Q d cN sN M 0 [some (.ref l0), some (.ref l1), o2] [] := by
  refine zi_aload_n dX0_restore_0 rfl zrf_r ?_
  refine zi_iconst dX0_restore_1 (by decide +kernel : Int32.ofInt (0) = (0 : Int32)) ?_
  refine zi_aload_n dX0_restore_2 rfl zrf_r ?_
  exact kk
theorem sX0_restore_6 {g : ZG} {Q : ZQ} {d cN sN : Nat} {M : ZM} {t0 : Nat} {t1 : Int32} {t2 : Int32} {n1 : Nat} {f2 : Nat → Int64} {o0 o1 o2 : Option Value} (h3 : M.1 t0 = some (.inl (zA g 1, n1, .inr (.inl (f2))))) (h4 : vp_in (t1) n1) (kk : Z g kX0_restore Q d cN sN (zup M t0 (.inl (zA g 1, n1, .inr (.inl (vp_updL f2 ((t1 : Int32).toNatClampNeg) ((t2 : Int32).toInt64)))))) 14 [o0, o1, o2] []) : Z g kX0_restore Q d cN sN M 6 [o0, o1, o2] [.int t2, .int t1, .ref t0] := by
  refine zi_i2l dX0_restore_6 ?_
  refine zi_lastore dX0_restore_7 h3 h4 ?_
  exact zi_goto (tgt := 14) dX0_restore_8 (by decide +kernel) kk
theorem sX0_restore_11 {g : ZG} {Q : ZQ} {d cN sN : Nat} {M : ZM} {t0 : Nat} {o0 o1 o2 : Option Value}  (kk : Q.1 (some (.int 1)) M) : Z g kX0_restore Q d cN sN M 11 [o0, o1, o2] [.ref t0] := by
  refine zi_astore_n dX0_restore_11 zrf_r (Nat.le_of_ble_eq_true rfl) ?_
  refine zi_iconst dX0_restore_12 (by decide +kernel : Int32.ofInt (1) = (1 : Int32)) ?_
  exact zi_ireturn dX0_restore_13 rfl rfl kk
theorem sX0_restore_14 {g : ZG} {Q : ZQ} {d cN sN : Nat} {M : ZM} {o0 o1 o2 : Option Value}  (kk : Q.1 (some (.int 0)) M) : Z g kX0_restore Q d cN sN M 14 [o0, o1, o2] [] := by
  refine zi_iconst dX0_restore_14 (by decide +kernel : Int32.ofInt (0) = (0 : Int32)) ?_
  exact zi_ireturn dX0_restore_15 rfl rfl kk
