/-! ErrataPress (printed by gen_m.py) -/
set_option maxRecDepth 100000
abbrev cX1_init : ByteArray := prog_1_method_8_code
def yX1_init : MethodName := ⟨RX1, "<init>", "()V"⟩
def dkwX1_init_6 : List UInt8 := [167, 255, 233, 177]
abbrev dktX1_init_6 : List UInt8 := dkwX1_init_6 ++ []
def dkwX1_init_5 : List UInt8 := [60, 27, 16, 8, 162, 0, 23, 42, 180, 0, 58, 187, 0, 35, 89, 183, 0, 37, 182, 0, 84, 132, 1, 1]
abbrev dktX1_init_5 : List UInt8 := dkwX1_init_5 ++ dktX1_init_6
def dkwX1_init_4 : List UInt8 := [181, 0, 68, 42, 187, 0, 71, 89, 42, 180, 0, 64, 183, 0, 73, 181, 0, 76, 42, 2, 181, 0, 80, 3]
abbrev dktX1_init_4 : List UInt8 := dkwX1_init_4 ++ dktX1_init_5
def dkwX1_init_3 : List UInt8 := [181, 0, 58, 42, 187, 0, 61, 89, 183, 0, 63, 181, 0, 64, 42, 187, 0, 61, 89, 183, 0, 63]
abbrev dktX1_init_3 : List UInt8 := dkwX1_init_3 ++ dktX1_init_4
def dkwX1_init_2 : List UInt8 := [181, 0, 48, 42, 187, 0, 51, 89, 183, 0, 53, 181, 0, 54, 42, 187, 0, 51, 89, 183, 0, 53]
abbrev dktX1_init_2 : List UInt8 := dkwX1_init_2 ++ dktX1_init_3
def dkwX1_init_1 : List UInt8 := [181, 0, 42, 42, 187, 0, 35, 89, 183, 0, 37, 181, 0, 45, 42, 187, 0, 35, 89, 183, 0, 37]
abbrev dktX1_init_1 : List UInt8 := dkwX1_init_1 ++ dktX1_init_2
def dkwX1_init_0 : List UInt8 := [42, 183, 0, 30, 42, 187, 0, 35, 89, 183, 0, 37, 181, 0, 38, 42, 187, 0, 35, 89, 183, 0, 37]
abbrev dktX1_init_0 : List UInt8 := dkwX1_init_0 ++ dktX1_init_1
theorem dksX1_init_0 : cX1_init.data.toList.drop 0 = dktX1_init_0 := by decide +kernel
theorem dksX1_init_1 : cX1_init.data.toList.drop 23 = dktX1_init_1 := dk_seg dksX1_init_0 23 rfl rfl
theorem dksX1_init_2 : cX1_init.data.toList.drop 45 = dktX1_init_2 := dk_seg dksX1_init_1 22 rfl rfl
theorem dksX1_init_3 : cX1_init.data.toList.drop 67 = dktX1_init_3 := dk_seg dksX1_init_2 22 rfl rfl
theorem dksX1_init_4 : cX1_init.data.toList.drop 89 = dktX1_init_4 := dk_seg dksX1_init_3 22 rfl rfl
theorem dksX1_init_5 : cX1_init.data.toList.drop 113 = dktX1_init_5 := dk_seg dksX1_init_4 24 rfl rfl
theorem dksX1_init_6 : cX1_init.data.toList.drop 137 = dktX1_init_6 := dk_seg dksX1_init_5 24 rfl rfl
theorem dX1_init_0 : decode cX1_init 0 = .ok (.aload_n 0, 1) := dk_42 (dk_at dksX1_init_0 0 rfl rfl)
theorem dX1_init_1 : decode cX1_init 1 = .ok (.invokespecial 30, 3) := dk_183 0 30 (dk_at dksX1_init_0 1 rfl rfl)
theorem dX1_init_4 : decode cX1_init 4 = .ok (.aload_n 0, 1) := dk_42 (dk_at dksX1_init_0 4 rfl rfl)
theorem dX1_init_5 : decode cX1_init 5 = .ok (.new 35, 3) := dk_187 0 35 (dk_at dksX1_init_0 5 rfl rfl)
theorem dX1_init_8 : decode cX1_init 8 = .ok (.dup, 1) := dk_89 (dk_at dksX1_init_0 8 rfl rfl)
theorem dX1_init_9 : decode cX1_init 9 = .ok (.invokespecial 37, 3) := dk_183 0 37 (dk_at dksX1_init_0 9 rfl rfl)
theorem dX1_init_12 : decode cX1_init 12 = .ok (.putfield 38, 3) := dk_181 0 38 (dk_at dksX1_init_0 12 rfl rfl)
theorem dX1_init_15 : decode cX1_init 15 = .ok (.aload_n 0, 1) := dk_42 (dk_at dksX1_init_0 15 rfl rfl)
theorem dX1_init_16 : decode cX1_init 16 = .ok (.new 35, 3) := dk_187 0 35 (dk_at dksX1_init_0 16 rfl rfl)
theorem dX1_init_19 : decode cX1_init 19 = .ok (.dup, 1) := dk_89 (dk_at dksX1_init_0 19 rfl rfl)
theorem dX1_init_20 : decode cX1_init 20 = .ok (.invokespecial 37, 3) := dk_183 0 37 (dk_at dksX1_init_0 20 rfl rfl)
theorem dX1_init_23 : decode cX1_init 23 = .ok (.putfield 42, 3) := dk_181 0 42 (dk_at dksX1_init_1 0 rfl rfl)
theorem dX1_init_26 : decode cX1_init 26 = .ok (.aload_n 0, 1) := dk_42 (dk_at dksX1_init_1 3 rfl rfl)
theorem dX1_init_27 : decode cX1_init 27 = .ok (.new 35, 3) := dk_187 0 35 (dk_at dksX1_init_1 4 rfl rfl)
theorem dX1_init_30 : decode cX1_init 30 = .ok (.dup, 1) := dk_89 (dk_at dksX1_init_1 7 rfl rfl)
theorem dX1_init_31 : decode cX1_init 31 = .ok (.invokespecial 37, 3) := dk_183 0 37 (dk_at dksX1_init_1 8 rfl rfl)
theorem dX1_init_34 : decode cX1_init 34 = .ok (.putfield 45, 3) := dk_181 0 45 (dk_at dksX1_init_1 11 rfl rfl)
theorem dX1_init_37 : decode cX1_init 37 = .ok (.aload_n 0, 1) := dk_42 (dk_at dksX1_init_1 14 rfl rfl)
theorem dX1_init_38 : decode cX1_init 38 = .ok (.new 35, 3) := dk_187 0 35 (dk_at dksX1_init_1 15 rfl rfl)
theorem dX1_init_41 : decode cX1_init 41 = .ok (.dup, 1) := dk_89 (dk_at dksX1_init_1 18 rfl rfl)
theorem dX1_init_42 : decode cX1_init 42 = .ok (.invokespecial 37, 3) := dk_183 0 37 (dk_at dksX1_init_1 19 rfl rfl)
theorem dX1_init_45 : decode cX1_init 45 = .ok (.putfield 48, 3) := dk_181 0 48 (dk_at dksX1_init_2 0 rfl rfl)
theorem dX1_init_48 : decode cX1_init 48 = .ok (.aload_n 0, 1) := dk_42 (dk_at dksX1_init_2 3 rfl rfl)
theorem dX1_init_49 : decode cX1_init 49 = .ok (.new 51, 3) := dk_187 0 51 (dk_at dksX1_init_2 4 rfl rfl)
theorem dX1_init_52 : decode cX1_init 52 = .ok (.dup, 1) := dk_89 (dk_at dksX1_init_2 7 rfl rfl)
theorem dX1_init_53 : decode cX1_init 53 = .ok (.invokespecial 53, 3) := dk_183 0 53 (dk_at dksX1_init_2 8 rfl rfl)
theorem dX1_init_56 : decode cX1_init 56 = .ok (.putfield 54, 3) := dk_181 0 54 (dk_at dksX1_init_2 11 rfl rfl)
theorem dX1_init_59 : decode cX1_init 59 = .ok (.aload_n 0, 1) := dk_42 (dk_at dksX1_init_2 14 rfl rfl)
theorem dX1_init_60 : decode cX1_init 60 = .ok (.new 51, 3) := dk_187 0 51 (dk_at dksX1_init_2 15 rfl rfl)
theorem dX1_init_63 : decode cX1_init 63 = .ok (.dup, 1) := dk_89 (dk_at dksX1_init_2 18 rfl rfl)
theorem dX1_init_64 : decode cX1_init 64 = .ok (.invokespecial 53, 3) := dk_183 0 53 (dk_at dksX1_init_2 19 rfl rfl)
theorem dX1_init_67 : decode cX1_init 67 = .ok (.putfield 58, 3) := dk_181 0 58 (dk_at dksX1_init_3 0 rfl rfl)
theorem dX1_init_70 : decode cX1_init 70 = .ok (.aload_n 0, 1) := dk_42 (dk_at dksX1_init_3 3 rfl rfl)
theorem dX1_init_71 : decode cX1_init 71 = .ok (.new 61, 3) := dk_187 0 61 (dk_at dksX1_init_3 4 rfl rfl)
theorem dX1_init_74 : decode cX1_init 74 = .ok (.dup, 1) := dk_89 (dk_at dksX1_init_3 7 rfl rfl)
theorem dX1_init_75 : decode cX1_init 75 = .ok (.invokespecial 63, 3) := dk_183 0 63 (dk_at dksX1_init_3 8 rfl rfl)
theorem dX1_init_78 : decode cX1_init 78 = .ok (.putfield 64, 3) := dk_181 0 64 (dk_at dksX1_init_3 11 rfl rfl)
theorem dX1_init_81 : decode cX1_init 81 = .ok (.aload_n 0, 1) := dk_42 (dk_at dksX1_init_3 14 rfl rfl)
theorem dX1_init_82 : decode cX1_init 82 = .ok (.new 61, 3) := dk_187 0 61 (dk_at dksX1_init_3 15 rfl rfl)
theorem dX1_init_85 : decode cX1_init 85 = .ok (.dup, 1) := dk_89 (dk_at dksX1_init_3 18 rfl rfl)
theorem dX1_init_86 : decode cX1_init 86 = .ok (.invokespecial 63, 3) := dk_183 0 63 (dk_at dksX1_init_3 19 rfl rfl)
theorem dX1_init_89 : decode cX1_init 89 = .ok (.putfield 68, 3) := dk_181 0 68 (dk_at dksX1_init_4 0 rfl rfl)
theorem dX1_init_92 : decode cX1_init 92 = .ok (.aload_n 0, 1) := dk_42 (dk_at dksX1_init_4 3 rfl rfl)
theorem dX1_init_93 : decode cX1_init 93 = .ok (.new 71, 3) := dk_187 0 71 (dk_at dksX1_init_4 4 rfl rfl)
theorem dX1_init_96 : decode cX1_init 96 = .ok (.dup, 1) := dk_89 (dk_at dksX1_init_4 7 rfl rfl)
theorem dX1_init_97 : decode cX1_init 97 = .ok (.aload_n 0, 1) := dk_42 (dk_at dksX1_init_4 8 rfl rfl)
theorem dX1_init_98 : decode cX1_init 98 = .ok (.getfield 64, 3) := dk_180 0 64 (dk_at dksX1_init_4 9 rfl rfl)
theorem dX1_init_101 : decode cX1_init 101 = .ok (.invokespecial 73, 3) := dk_183 0 73 (dk_at dksX1_init_4 12 rfl rfl)
theorem dX1_init_104 : decode cX1_init 104 = .ok (.putfield 76, 3) := dk_181 0 76 (dk_at dksX1_init_4 15 rfl rfl)
theorem dX1_init_107 : decode cX1_init 107 = .ok (.aload_n 0, 1) := dk_42 (dk_at dksX1_init_4 18 rfl rfl)
theorem dX1_init_108 : decode cX1_init 108 = .ok (.iconst (-1), 1) := dk_2 (dk_at dksX1_init_4 19 rfl rfl)
theorem dX1_init_109 : decode cX1_init 109 = .ok (.putfield 80, 3) := dk_181 0 80 (dk_at dksX1_init_4 20 rfl rfl)
theorem dX1_init_112 : decode cX1_init 112 = .ok (.iconst 0, 1) := dk_3 (dk_at dksX1_init_4 23 rfl rfl)
theorem dX1_init_113 : decode cX1_init 113 = .ok (.istore_n 1, 1) := dk_60 (dk_at dksX1_init_5 0 rfl rfl)
theorem dX1_init_114 : decode cX1_init 114 = .ok (.iload_n 1, 1) := dk_27 (dk_at dksX1_init_5 1 rfl rfl)
theorem dX1_init_115 : decode cX1_init 115 = .ok (.bipush 8, 2) := dk_16 8 (dk_at dksX1_init_5 2 rfl rfl)
theorem dX1_init_117 : decode cX1_init 117 = .ok (.if_icmp .ge 23, 3) := dk_162 0 23 (dk_at dksX1_init_5 4 rfl rfl)
theorem dX1_init_120 : decode cX1_init 120 = .ok (.aload_n 0, 1) := dk_42 (dk_at dksX1_init_5 7 rfl rfl)
theorem dX1_init_121 : decode cX1_init 121 = .ok (.getfield 58, 3) := dk_180 0 58 (dk_at dksX1_init_5 8 rfl rfl)
theorem dX1_init_124 : decode cX1_init 124 = .ok (.new 35, 3) := dk_187 0 35 (dk_at dksX1_init_5 11 rfl rfl)
theorem dX1_init_127 : decode cX1_init 127 = .ok (.dup, 1) := dk_89 (dk_at dksX1_init_5 14 rfl rfl)
theorem dX1_init_128 : decode cX1_init 128 = .ok (.invokespecial 37, 3) := dk_183 0 37 (dk_at dksX1_init_5 15 rfl rfl)
theorem dX1_init_131 : decode cX1_init 131 = .ok (.invokevirtual 84, 3) := dk_182 0 84 (dk_at dksX1_init_5 18 rfl rfl)
theorem dX1_init_134 : decode cX1_init 134 = .ok (.iinc 1 1, 3) := dk_132 1 1 (dk_at dksX1_init_5 21 rfl rfl)
theorem dX1_init_137 : decode cX1_init 137 = .ok (.goto (-23), 3) := dk_167 255 233 (dk_at dksX1_init_6 0 rfl rfl)
theorem dX1_init_140 : decode cX1_init 140 = .ok (.return_, 1) := dk_177 (dk_at dksX1_init_6 3 rfl rfl)
abbrev cX1_rules : ByteArray := prog_1_method_3_code
def yX1_rules : MethodName := ⟨RX1, "rules", "(III)[LErrataPress$Rule;"⟩
def dkwX1_rules_1 : List UInt8 := [5, 28, 186, 0, 16, 0, 0, 83, 45, 176]
abbrev dktX1_rules_1 : List UInt8 := dkwX1_rules_1 ++ []
def dkwX1_rules_0 : List UInt8 := [6, 189, 0, 9, 78, 45, 3, 26, 186, 0, 11, 0, 0, 83, 45, 4, 27, 186, 0, 15, 0, 0, 83, 45]
abbrev dktX1_rules_0 : List UInt8 := dkwX1_rules_0 ++ dktX1_rules_1
theorem dksX1_rules_0 : cX1_rules.data.toList.drop 0 = dktX1_rules_0 := by decide +kernel
theorem dksX1_rules_1 : cX1_rules.data.toList.drop 24 = dktX1_rules_1 := dk_seg dksX1_rules_0 24 rfl rfl
theorem dX1_rules_0 : decode cX1_rules 0 = .ok (.iconst 3, 1) := dk_6 (dk_at dksX1_rules_0 0 rfl rfl)
theorem dX1_rules_1 : decode cX1_rules 1 = .ok (.anewarray 9, 3) := dk_189 0 9 (dk_at dksX1_rules_0 1 rfl rfl)
theorem dX1_rules_4 : decode cX1_rules 4 = .ok (.astore_n 3, 1) := dk_78 (dk_at dksX1_rules_0 4 rfl rfl)
theorem dX1_rules_5 : decode cX1_rules 5 = .ok (.aload_n 3, 1) := dk_45 (dk_at dksX1_rules_0 5 rfl rfl)
theorem dX1_rules_6 : decode cX1_rules 6 = .ok (.iconst 0, 1) := dk_3 (dk_at dksX1_rules_0 6 rfl rfl)
theorem dX1_rules_7 : decode cX1_rules 7 = .ok (.iload_n 0, 1) := dk_26 (dk_at dksX1_rules_0 7 rfl rfl)
theorem dX1_rules_8 : decode cX1_rules 8 = .ok (.invokedynamic 11, 5) := by decide +kernel
theorem dX1_rules_13 : decode cX1_rules 13 = .ok (.aastore, 1) := dk_83 (dk_at dksX1_rules_0 13 rfl rfl)
theorem dX1_rules_14 : decode cX1_rules 14 = .ok (.aload_n 3, 1) := dk_45 (dk_at dksX1_rules_0 14 rfl rfl)
theorem dX1_rules_15 : decode cX1_rules 15 = .ok (.iconst 1, 1) := dk_4 (dk_at dksX1_rules_0 15 rfl rfl)
theorem dX1_rules_16 : decode cX1_rules 16 = .ok (.iload_n 1, 1) := dk_27 (dk_at dksX1_rules_0 16 rfl rfl)
theorem dX1_rules_17 : decode cX1_rules 17 = .ok (.invokedynamic 15, 5) := by decide +kernel
theorem dX1_rules_22 : decode cX1_rules 22 = .ok (.aastore, 1) := dk_83 (dk_at dksX1_rules_0 22 rfl rfl)
theorem dX1_rules_23 : decode cX1_rules 23 = .ok (.aload_n 3, 1) := dk_45 (dk_at dksX1_rules_0 23 rfl rfl)
theorem dX1_rules_24 : decode cX1_rules 24 = .ok (.iconst 2, 1) := dk_5 (dk_at dksX1_rules_1 0 rfl rfl)
theorem dX1_rules_25 : decode cX1_rules 25 = .ok (.iload_n 2, 1) := dk_28 (dk_at dksX1_rules_1 1 rfl rfl)
theorem dX1_rules_26 : decode cX1_rules 26 = .ok (.invokedynamic 16, 5) := by decide +kernel
theorem dX1_rules_31 : decode cX1_rules 31 = .ok (.aastore, 1) := dk_83 (dk_at dksX1_rules_1 7 rfl rfl)
theorem dX1_rules_32 : decode cX1_rules 32 = .ok (.aload_n 3, 1) := dk_45 (dk_at dksX1_rules_1 8 rfl rfl)
theorem dX1_rules_33 : decode cX1_rules 33 = .ok (.areturn, 1) := dk_176 (dk_at dksX1_rules_1 9 rfl rfl)
abbrev cX1_lambda_rules_0 : ByteArray := prog_1_method_65_code
def yX1_lambda_rules_0 : MethodName := ⟨RX1, "lambda$rules$0", "(IIII)I"⟩
def dkwX1_lambda_rules_0_0 : List UInt8 := [27, 28, 96, 26, 96, 172]
abbrev dktX1_lambda_rules_0_0 : List UInt8 := dkwX1_lambda_rules_0_0 ++ []
theorem dksX1_lambda_rules_0_0 : cX1_lambda_rules_0.data.toList.drop 0 = dktX1_lambda_rules_0_0 := by decide +kernel
theorem dX1_lambda_rules_0_0 : decode cX1_lambda_rules_0 0 = .ok (.iload_n 1, 1) := dk_27 (dk_at dksX1_lambda_rules_0_0 0 rfl rfl)
theorem dX1_lambda_rules_0_1 : decode cX1_lambda_rules_0 1 = .ok (.iload_n 2, 1) := dk_28 (dk_at dksX1_lambda_rules_0_0 1 rfl rfl)
theorem dX1_lambda_rules_0_2 : decode cX1_lambda_rules_0 2 = .ok (.iadd, 1) := dk_96 (dk_at dksX1_lambda_rules_0_0 2 rfl rfl)
theorem dX1_lambda_rules_0_3 : decode cX1_lambda_rules_0 3 = .ok (.iload_n 0, 1) := dk_26 (dk_at dksX1_lambda_rules_0_0 3 rfl rfl)
theorem dX1_lambda_rules_0_4 : decode cX1_lambda_rules_0 4 = .ok (.iadd, 1) := dk_96 (dk_at dksX1_lambda_rules_0_0 4 rfl rfl)
theorem dX1_lambda_rules_0_5 : decode cX1_lambda_rules_0 5 = .ok (.ireturn, 1) := dk_172 (dk_at dksX1_lambda_rules_0_0 5 rfl rfl)
abbrev cX1_lambda_rules_1 : ByteArray := prog_1_method_64_code
def yX1_lambda_rules_1 : MethodName := ⟨RX1, "lambda$rules$1", "(IIII)I"⟩
def dkwX1_lambda_rules_1_0 : List UInt8 := [29, 5, 161, 0, 9, 27, 26, 96, 167, 0, 4, 27, 172]
abbrev dktX1_lambda_rules_1_0 : List UInt8 := dkwX1_lambda_rules_1_0 ++ []
theorem dksX1_lambda_rules_1_0 : cX1_lambda_rules_1.data.toList.drop 0 = dktX1_lambda_rules_1_0 := by decide +kernel
theorem dX1_lambda_rules_1_0 : decode cX1_lambda_rules_1 0 = .ok (.iload_n 3, 1) := dk_29 (dk_at dksX1_lambda_rules_1_0 0 rfl rfl)
theorem dX1_lambda_rules_1_1 : decode cX1_lambda_rules_1 1 = .ok (.iconst 2, 1) := dk_5 (dk_at dksX1_lambda_rules_1_0 1 rfl rfl)
theorem dX1_lambda_rules_1_2 : decode cX1_lambda_rules_1 2 = .ok (.if_icmp .lt 9, 3) := dk_161 0 9 (dk_at dksX1_lambda_rules_1_0 2 rfl rfl)
theorem dX1_lambda_rules_1_5 : decode cX1_lambda_rules_1 5 = .ok (.iload_n 1, 1) := dk_27 (dk_at dksX1_lambda_rules_1_0 5 rfl rfl)
theorem dX1_lambda_rules_1_6 : decode cX1_lambda_rules_1 6 = .ok (.iload_n 0, 1) := dk_26 (dk_at dksX1_lambda_rules_1_0 6 rfl rfl)
theorem dX1_lambda_rules_1_7 : decode cX1_lambda_rules_1 7 = .ok (.iadd, 1) := dk_96 (dk_at dksX1_lambda_rules_1_0 7 rfl rfl)
theorem dX1_lambda_rules_1_8 : decode cX1_lambda_rules_1 8 = .ok (.goto 4, 3) := dk_167 0 4 (dk_at dksX1_lambda_rules_1_0 8 rfl rfl)
theorem dX1_lambda_rules_1_11 : decode cX1_lambda_rules_1 11 = .ok (.iload_n 1, 1) := dk_27 (dk_at dksX1_lambda_rules_1_0 11 rfl rfl)
theorem dX1_lambda_rules_1_12 : decode cX1_lambda_rules_1 12 = .ok (.ireturn, 1) := dk_172 (dk_at dksX1_lambda_rules_1_0 12 rfl rfl)
abbrev cX1_lambda_rules_2 : ByteArray := prog_1_method_63_code
def yX1_lambda_rules_2 : MethodName := ⟨RX1, "lambda$rules$2", "(IIII)I"⟩
def dkwX1_lambda_rules_2_0 : List UInt8 := [29, 6, 160, 0, 9, 26, 27, 104, 167, 0, 4, 27, 172]
abbrev dktX1_lambda_rules_2_0 : List UInt8 := dkwX1_lambda_rules_2_0 ++ []
theorem dksX1_lambda_rules_2_0 : cX1_lambda_rules_2.data.toList.drop 0 = dktX1_lambda_rules_2_0 := by decide +kernel
theorem dX1_lambda_rules_2_0 : decode cX1_lambda_rules_2 0 = .ok (.iload_n 3, 1) := dk_29 (dk_at dksX1_lambda_rules_2_0 0 rfl rfl)
theorem dX1_lambda_rules_2_1 : decode cX1_lambda_rules_2 1 = .ok (.iconst 3, 1) := dk_6 (dk_at dksX1_lambda_rules_2_0 1 rfl rfl)
theorem dX1_lambda_rules_2_2 : decode cX1_lambda_rules_2 2 = .ok (.if_icmp .ne 9, 3) := dk_160 0 9 (dk_at dksX1_lambda_rules_2_0 2 rfl rfl)
theorem dX1_lambda_rules_2_5 : decode cX1_lambda_rules_2 5 = .ok (.iload_n 0, 1) := dk_26 (dk_at dksX1_lambda_rules_2_0 5 rfl rfl)
theorem dX1_lambda_rules_2_6 : decode cX1_lambda_rules_2 6 = .ok (.iload_n 1, 1) := dk_27 (dk_at dksX1_lambda_rules_2_0 6 rfl rfl)
theorem dX1_lambda_rules_2_7 : decode cX1_lambda_rules_2 7 = .ok (.imul, 1) := dk_104 (dk_at dksX1_lambda_rules_2_0 7 rfl rfl)
theorem dX1_lambda_rules_2_8 : decode cX1_lambda_rules_2 8 = .ok (.goto 4, 3) := dk_167 0 4 (dk_at dksX1_lambda_rules_2_0 8 rfl rfl)
theorem dX1_lambda_rules_2_11 : decode cX1_lambda_rules_2 11 = .ok (.iload_n 1, 1) := dk_27 (dk_at dksX1_lambda_rules_2_0 11 rfl rfl)
theorem dX1_lambda_rules_2_12 : decode cX1_lambda_rules_2 12 = .ok (.ireturn, 1) := dk_172 (dk_at dksX1_lambda_rules_2_0 12 rfl rfl)
abbrev cX1_day : ByteArray := prog_1_method_31_code
def yX1_day : MethodName := ⟨RX1, "day", "()I"⟩
def dkwX1_day_0 : List UInt8 := [42, 42, 182, 0, 146, 182, 0, 200, 182, 0, 153, 172]
abbrev dktX1_day_0 : List UInt8 := dkwX1_day_0 ++ []
theorem dksX1_day_0 : cX1_day.data.toList.drop 0 = dktX1_day_0 := by decide +kernel
theorem dX1_day_0 : decode cX1_day 0 = .ok (.aload_n 0, 1) := dk_42 (dk_at dksX1_day_0 0 rfl rfl)
theorem dX1_day_1 : decode cX1_day 1 = .ok (.aload_n 0, 1) := dk_42 (dk_at dksX1_day_0 1 rfl rfl)
theorem dX1_day_2 : decode cX1_day 2 = .ok (.invokevirtual 146, 3) := dk_182 0 146 (dk_at dksX1_day_0 2 rfl rfl)
theorem dX1_day_5 : decode cX1_day 5 = .ok (.invokevirtual 200, 3) := dk_182 0 200 (dk_at dksX1_day_0 5 rfl rfl)
theorem dX1_day_8 : decode cX1_day 8 = .ok (.invokevirtual 153, 3) := dk_182 0 153 (dk_at dksX1_day_0 8 rfl rfl)
theorem dX1_day_11 : decode cX1_day 11 = .ok (.ireturn, 1) := dk_172 (dk_at dksX1_day_0 11 rfl rfl)
abbrev cX1_tryOn : ByteArray := prog_1_method_20_code
def yX1_tryOn : MethodName := ⟨RX1, "tryOn", "()LErrataPress$Press;"⟩
def dkwX1_tryOn_0 : List UInt8 := [42, 180, 0, 42, 42, 180, 0, 38, 182, 0, 136, 42, 180, 0, 42, 176]
abbrev dktX1_tryOn_0 : List UInt8 := dkwX1_tryOn_0 ++ []
theorem dksX1_tryOn_0 : cX1_tryOn.data.toList.drop 0 = dktX1_tryOn_0 := by decide +kernel
theorem dX1_tryOn_0 : decode cX1_tryOn 0 = .ok (.aload_n 0, 1) := dk_42 (dk_at dksX1_tryOn_0 0 rfl rfl)
theorem dX1_tryOn_1 : decode cX1_tryOn 1 = .ok (.getfield 42, 3) := dk_180 0 42 (dk_at dksX1_tryOn_0 1 rfl rfl)
theorem dX1_tryOn_4 : decode cX1_tryOn 4 = .ok (.aload_n 0, 1) := dk_42 (dk_at dksX1_tryOn_0 4 rfl rfl)
theorem dX1_tryOn_5 : decode cX1_tryOn 5 = .ok (.getfield 38, 3) := dk_180 0 38 (dk_at dksX1_tryOn_0 5 rfl rfl)
theorem dX1_tryOn_8 : decode cX1_tryOn 8 = .ok (.invokevirtual 136, 3) := dk_182 0 136 (dk_at dksX1_tryOn_0 8 rfl rfl)
theorem dX1_tryOn_11 : decode cX1_tryOn 11 = .ok (.aload_n 0, 1) := dk_42 (dk_at dksX1_tryOn_0 11 rfl rfl)
theorem dX1_tryOn_12 : decode cX1_tryOn 12 = .ok (.getfield 42, 3) := dk_180 0 42 (dk_at dksX1_tryOn_0 12 rfl rfl)
theorem dX1_tryOn_15 : decode cX1_tryOn 15 = .ok (.areturn, 1) := dk_176 (dk_at dksX1_tryOn_0 15 rfl rfl)
abbrev cX1_becomes : ByteArray := prog_1_method_22_code
def yX1_becomes : MethodName := ⟨RX1, "becomes", "(I)I"⟩
def dkwX1_becomes_0 : List UInt8 := [42, 182, 0, 140, 42, 180, 0, 38, 42, 180, 0, 42, 182, 0, 136, 27, 172]
abbrev dktX1_becomes_0 : List UInt8 := dkwX1_becomes_0 ++ []
theorem dksX1_becomes_0 : cX1_becomes.data.toList.drop 0 = dktX1_becomes_0 := by decide +kernel
theorem dX1_becomes_0 : decode cX1_becomes 0 = .ok (.aload_n 0, 1) := dk_42 (dk_at dksX1_becomes_0 0 rfl rfl)
theorem dX1_becomes_1 : decode cX1_becomes 1 = .ok (.invokevirtual 140, 3) := dk_182 0 140 (dk_at dksX1_becomes_0 1 rfl rfl)
theorem dX1_becomes_4 : decode cX1_becomes 4 = .ok (.aload_n 0, 1) := dk_42 (dk_at dksX1_becomes_0 4 rfl rfl)
theorem dX1_becomes_5 : decode cX1_becomes 5 = .ok (.getfield 38, 3) := dk_180 0 38 (dk_at dksX1_becomes_0 5 rfl rfl)
theorem dX1_becomes_8 : decode cX1_becomes 8 = .ok (.aload_n 0, 1) := dk_42 (dk_at dksX1_becomes_0 8 rfl rfl)
theorem dX1_becomes_9 : decode cX1_becomes 9 = .ok (.getfield 42, 3) := dk_180 0 42 (dk_at dksX1_becomes_0 9 rfl rfl)
theorem dX1_becomes_12 : decode cX1_becomes 12 = .ok (.invokevirtual 136, 3) := dk_182 0 136 (dk_at dksX1_becomes_0 12 rfl rfl)
theorem dX1_becomes_15 : decode cX1_becomes 15 = .ok (.iload_n 1, 1) := dk_27 (dk_at dksX1_becomes_0 15 rfl rfl)
theorem dX1_becomes_16 : decode cX1_becomes 16 = .ok (.ireturn, 1) := dk_172 (dk_at dksX1_becomes_0 16 rfl rfl)
abbrev cX1_keep : ByteArray := prog_1_method_19_code
def yX1_keep : MethodName := ⟨RX1, "keep", "()V"⟩
def dkwX1_keep_2 : List UInt8 := [182, 0, 84, 177]
abbrev dktX1_keep_2 : List UInt8 := dkwX1_keep_2 ++ []
def dkwX1_keep_1 : List UInt8 := [180, 0, 58, 182, 0, 132, 192, 0, 35, 76, 43, 42, 180, 0, 38, 182, 0, 136, 42, 180, 0, 54, 43]
abbrev dktX1_keep_1 : List UInt8 := dkwX1_keep_1 ++ dktX1_keep_2
def dkwX1_keep_0 : List UInt8 := [42, 180, 0, 58, 182, 0, 128, 153, 0, 16, 42, 180, 0, 54, 182, 0, 132, 192, 0, 35, 167, 0, 13, 42]
abbrev dktX1_keep_0 : List UInt8 := dkwX1_keep_0 ++ dktX1_keep_1
theorem dksX1_keep_0 : cX1_keep.data.toList.drop 0 = dktX1_keep_0 := by decide +kernel
theorem dksX1_keep_1 : cX1_keep.data.toList.drop 24 = dktX1_keep_1 := dk_seg dksX1_keep_0 24 rfl rfl
theorem dksX1_keep_2 : cX1_keep.data.toList.drop 47 = dktX1_keep_2 := dk_seg dksX1_keep_1 23 rfl rfl
theorem dX1_keep_0 : decode cX1_keep 0 = .ok (.aload_n 0, 1) := dk_42 (dk_at dksX1_keep_0 0 rfl rfl)
theorem dX1_keep_1 : decode cX1_keep 1 = .ok (.getfield 58, 3) := dk_180 0 58 (dk_at dksX1_keep_0 1 rfl rfl)
theorem dX1_keep_4 : decode cX1_keep 4 = .ok (.invokevirtual 128, 3) := dk_182 0 128 (dk_at dksX1_keep_0 4 rfl rfl)
theorem dX1_keep_7 : decode cX1_keep 7 = .ok (.ifCond .eq 16, 3) := dk_153 0 16 (dk_at dksX1_keep_0 7 rfl rfl)
theorem dX1_keep_10 : decode cX1_keep 10 = .ok (.aload_n 0, 1) := dk_42 (dk_at dksX1_keep_0 10 rfl rfl)
theorem dX1_keep_11 : decode cX1_keep 11 = .ok (.getfield 54, 3) := dk_180 0 54 (dk_at dksX1_keep_0 11 rfl rfl)
theorem dX1_keep_14 : decode cX1_keep 14 = .ok (.invokevirtual 132, 3) := dk_182 0 132 (dk_at dksX1_keep_0 14 rfl rfl)
theorem dX1_keep_17 : decode cX1_keep 17 = .ok (.checkcast 35, 3) := dk_192 0 35 (dk_at dksX1_keep_0 17 rfl rfl)
theorem dX1_keep_20 : decode cX1_keep 20 = .ok (.goto 13, 3) := dk_167 0 13 (dk_at dksX1_keep_0 20 rfl rfl)
theorem dX1_keep_23 : decode cX1_keep 23 = .ok (.aload_n 0, 1) := dk_42 (dk_at dksX1_keep_0 23 rfl rfl)
theorem dX1_keep_24 : decode cX1_keep 24 = .ok (.getfield 58, 3) := dk_180 0 58 (dk_at dksX1_keep_1 0 rfl rfl)
theorem dX1_keep_27 : decode cX1_keep 27 = .ok (.invokevirtual 132, 3) := dk_182 0 132 (dk_at dksX1_keep_1 3 rfl rfl)
theorem dX1_keep_30 : decode cX1_keep 30 = .ok (.checkcast 35, 3) := dk_192 0 35 (dk_at dksX1_keep_1 6 rfl rfl)
theorem dX1_keep_33 : decode cX1_keep 33 = .ok (.astore_n 1, 1) := dk_76 (dk_at dksX1_keep_1 9 rfl rfl)
theorem dX1_keep_34 : decode cX1_keep 34 = .ok (.aload_n 1, 1) := dk_43 (dk_at dksX1_keep_1 10 rfl rfl)
theorem dX1_keep_35 : decode cX1_keep 35 = .ok (.aload_n 0, 1) := dk_42 (dk_at dksX1_keep_1 11 rfl rfl)
theorem dX1_keep_36 : decode cX1_keep 36 = .ok (.getfield 38, 3) := dk_180 0 38 (dk_at dksX1_keep_1 12 rfl rfl)
theorem dX1_keep_39 : decode cX1_keep 39 = .ok (.invokevirtual 136, 3) := dk_182 0 136 (dk_at dksX1_keep_1 15 rfl rfl)
theorem dX1_keep_42 : decode cX1_keep 42 = .ok (.aload_n 0, 1) := dk_42 (dk_at dksX1_keep_1 18 rfl rfl)
theorem dX1_keep_43 : decode cX1_keep 43 = .ok (.getfield 54, 3) := dk_180 0 54 (dk_at dksX1_keep_1 19 rfl rfl)
theorem dX1_keep_46 : decode cX1_keep 46 = .ok (.aload_n 1, 1) := dk_43 (dk_at dksX1_keep_1 22 rfl rfl)
theorem dX1_keep_47 : decode cX1_keep 47 = .ok (.invokevirtual 84, 3) := dk_182 0 84 (dk_at dksX1_keep_2 0 rfl rfl)
theorem dX1_keep_50 : decode cX1_keep 50 = .ok (.return_, 1) := dk_177 (dk_at dksX1_keep_2 3 rfl rfl)
abbrev cX1_wouldLaugh : ByteArray := prog_1_method_42_code
def yX1_wouldLaugh : MethodName := ⟨RX1, "wouldLaugh", "(Z)I"⟩
def dkwX1_wouldLaugh_0 : List UInt8 := [27, 153, 0, 13, 42, 180, 0, 38, 182, 1, 30, 167, 0, 10, 42, 180, 0, 38, 182, 1, 33, 172]
abbrev dktX1_wouldLaugh_0 : List UInt8 := dkwX1_wouldLaugh_0 ++ []
theorem dksX1_wouldLaugh_0 : cX1_wouldLaugh.data.toList.drop 0 = dktX1_wouldLaugh_0 := by decide +kernel
theorem dX1_wouldLaugh_0 : decode cX1_wouldLaugh 0 = .ok (.iload_n 1, 1) := dk_27 (dk_at dksX1_wouldLaugh_0 0 rfl rfl)
theorem dX1_wouldLaugh_1 : decode cX1_wouldLaugh 1 = .ok (.ifCond .eq 13, 3) := dk_153 0 13 (dk_at dksX1_wouldLaugh_0 1 rfl rfl)
theorem dX1_wouldLaugh_4 : decode cX1_wouldLaugh 4 = .ok (.aload_n 0, 1) := dk_42 (dk_at dksX1_wouldLaugh_0 4 rfl rfl)
theorem dX1_wouldLaugh_5 : decode cX1_wouldLaugh 5 = .ok (.getfield 38, 3) := dk_180 0 38 (dk_at dksX1_wouldLaugh_0 5 rfl rfl)
theorem dX1_wouldLaugh_8 : decode cX1_wouldLaugh 8 = .ok (.invokevirtual 286, 3) := dk_182 1 30 (dk_at dksX1_wouldLaugh_0 8 rfl rfl)
theorem dX1_wouldLaugh_11 : decode cX1_wouldLaugh 11 = .ok (.goto 10, 3) := dk_167 0 10 (dk_at dksX1_wouldLaugh_0 11 rfl rfl)
theorem dX1_wouldLaugh_14 : decode cX1_wouldLaugh 14 = .ok (.aload_n 0, 1) := dk_42 (dk_at dksX1_wouldLaugh_0 14 rfl rfl)
theorem dX1_wouldLaugh_15 : decode cX1_wouldLaugh 15 = .ok (.getfield 38, 3) := dk_180 0 38 (dk_at dksX1_wouldLaugh_0 15 rfl rfl)
theorem dX1_wouldLaugh_18 : decode cX1_wouldLaugh 18 = .ok (.invokevirtual 289, 3) := dk_182 1 33 (dk_at dksX1_wouldLaugh_0 18 rfl rfl)
theorem dX1_wouldLaugh_21 : decode cX1_wouldLaugh 21 = .ok (.ireturn, 1) := dk_172 (dk_at dksX1_wouldLaugh_0 21 rfl rfl)
abbrev cX1_errorPosition : ByteArray := prog_1_method_52_code
def yX1_errorPosition : MethodName := ⟨RX1, "errorPosition", "()I"⟩
theorem dX1_errorPosition_0 : decode cX1_errorPosition 0 = .ok (.aload_n 0, 1) := by decide +kernel
theorem dX1_errorPosition_1 : decode cX1_errorPosition 1 = .ok (.getfield 80, 3) := by decide +kernel
theorem dX1_errorPosition_4 : decode cX1_errorPosition 4 = .ok (.ireturn, 1) := by decide +kernel
abbrev cX1_isWell : ByteArray := prog_1_method_55_code
def yX1_isWell : MethodName := ⟨RX1, "isWell", "()Z"⟩
def dkwX1_isWell_3 : List UInt8 := [126, 60, 132, 2, 1, 167, 255, 204, 27, 172]
abbrev dktX1_isWell_3 : List UInt8 := dkwX1_isWell_3 ++ []
def dkwX1_isWell_2 : List UInt8 := [42, 180, 0, 38, 28, 182, 1, 12, 42, 182, 1, 6, 28, 182, 1, 9, 160, 0, 7, 4, 167, 0, 4, 3]
abbrev dktX1_isWell_2 : List UInt8 := dkwX1_isWell_2 ++ dktX1_isWell_3
def dkwX1_isWell_1 : List UInt8 := [61, 28, 42, 180, 0, 38, 180, 1, 100, 162, 0, 47, 27, 42, 180, 0, 38, 28, 182, 1, 129, 153, 0, 26]
abbrev dktX1_isWell_1 : List UInt8 := dkwX1_isWell_1 ++ dktX1_isWell_2
def dkwX1_isWell_0 : List UInt8 := [42, 180, 0, 38, 182, 1, 33, 42, 180, 0, 38, 182, 1, 30, 160, 0, 7, 4, 167, 0, 4, 3, 60, 3]
abbrev dktX1_isWell_0 : List UInt8 := dkwX1_isWell_0 ++ dktX1_isWell_1
theorem dksX1_isWell_0 : cX1_isWell.data.toList.drop 0 = dktX1_isWell_0 := by decide +kernel
theorem dksX1_isWell_1 : cX1_isWell.data.toList.drop 24 = dktX1_isWell_1 := dk_seg dksX1_isWell_0 24 rfl rfl
theorem dksX1_isWell_2 : cX1_isWell.data.toList.drop 48 = dktX1_isWell_2 := dk_seg dksX1_isWell_1 24 rfl rfl
theorem dksX1_isWell_3 : cX1_isWell.data.toList.drop 72 = dktX1_isWell_3 := dk_seg dksX1_isWell_2 24 rfl rfl
theorem dX1_isWell_0 : decode cX1_isWell 0 = .ok (.aload_n 0, 1) := dk_42 (dk_at dksX1_isWell_0 0 rfl rfl)
theorem dX1_isWell_1 : decode cX1_isWell 1 = .ok (.getfield 38, 3) := dk_180 0 38 (dk_at dksX1_isWell_0 1 rfl rfl)
theorem dX1_isWell_4 : decode cX1_isWell 4 = .ok (.invokevirtual 289, 3) := dk_182 1 33 (dk_at dksX1_isWell_0 4 rfl rfl)
theorem dX1_isWell_7 : decode cX1_isWell 7 = .ok (.aload_n 0, 1) := dk_42 (dk_at dksX1_isWell_0 7 rfl rfl)
theorem dX1_isWell_8 : decode cX1_isWell 8 = .ok (.getfield 38, 3) := dk_180 0 38 (dk_at dksX1_isWell_0 8 rfl rfl)
theorem dX1_isWell_11 : decode cX1_isWell 11 = .ok (.invokevirtual 286, 3) := dk_182 1 30 (dk_at dksX1_isWell_0 11 rfl rfl)
theorem dX1_isWell_14 : decode cX1_isWell 14 = .ok (.if_icmp .ne 7, 3) := dk_160 0 7 (dk_at dksX1_isWell_0 14 rfl rfl)
theorem dX1_isWell_17 : decode cX1_isWell 17 = .ok (.iconst 1, 1) := dk_4 (dk_at dksX1_isWell_0 17 rfl rfl)
theorem dX1_isWell_18 : decode cX1_isWell 18 = .ok (.goto 4, 3) := dk_167 0 4 (dk_at dksX1_isWell_0 18 rfl rfl)
theorem dX1_isWell_21 : decode cX1_isWell 21 = .ok (.iconst 0, 1) := dk_3 (dk_at dksX1_isWell_0 21 rfl rfl)
theorem dX1_isWell_22 : decode cX1_isWell 22 = .ok (.istore_n 1, 1) := dk_60 (dk_at dksX1_isWell_0 22 rfl rfl)
theorem dX1_isWell_23 : decode cX1_isWell 23 = .ok (.iconst 0, 1) := dk_3 (dk_at dksX1_isWell_0 23 rfl rfl)
theorem dX1_isWell_24 : decode cX1_isWell 24 = .ok (.istore_n 2, 1) := dk_61 (dk_at dksX1_isWell_1 0 rfl rfl)
theorem dX1_isWell_25 : decode cX1_isWell 25 = .ok (.iload_n 2, 1) := dk_28 (dk_at dksX1_isWell_1 1 rfl rfl)
theorem dX1_isWell_26 : decode cX1_isWell 26 = .ok (.aload_n 0, 1) := dk_42 (dk_at dksX1_isWell_1 2 rfl rfl)
theorem dX1_isWell_27 : decode cX1_isWell 27 = .ok (.getfield 38, 3) := dk_180 0 38 (dk_at dksX1_isWell_1 3 rfl rfl)
theorem dX1_isWell_30 : decode cX1_isWell 30 = .ok (.getfield 356, 3) := dk_180 1 100 (dk_at dksX1_isWell_1 6 rfl rfl)
theorem dX1_isWell_33 : decode cX1_isWell 33 = .ok (.if_icmp .ge 47, 3) := dk_162 0 47 (dk_at dksX1_isWell_1 9 rfl rfl)
theorem dX1_isWell_36 : decode cX1_isWell 36 = .ok (.iload_n 1, 1) := dk_27 (dk_at dksX1_isWell_1 12 rfl rfl)
theorem dX1_isWell_37 : decode cX1_isWell 37 = .ok (.aload_n 0, 1) := dk_42 (dk_at dksX1_isWell_1 13 rfl rfl)
theorem dX1_isWell_38 : decode cX1_isWell 38 = .ok (.getfield 38, 3) := dk_180 0 38 (dk_at dksX1_isWell_1 14 rfl rfl)
theorem dX1_isWell_41 : decode cX1_isWell 41 = .ok (.iload_n 2, 1) := dk_28 (dk_at dksX1_isWell_1 17 rfl rfl)
theorem dX1_isWell_42 : decode cX1_isWell 42 = .ok (.invokevirtual 385, 3) := dk_182 1 129 (dk_at dksX1_isWell_1 18 rfl rfl)
theorem dX1_isWell_45 : decode cX1_isWell 45 = .ok (.ifCond .eq 26, 3) := dk_153 0 26 (dk_at dksX1_isWell_1 21 rfl rfl)
theorem dX1_isWell_48 : decode cX1_isWell 48 = .ok (.aload_n 0, 1) := dk_42 (dk_at dksX1_isWell_2 0 rfl rfl)
theorem dX1_isWell_49 : decode cX1_isWell 49 = .ok (.getfield 38, 3) := dk_180 0 38 (dk_at dksX1_isWell_2 1 rfl rfl)
theorem dX1_isWell_52 : decode cX1_isWell 52 = .ok (.iload_n 2, 1) := dk_28 (dk_at dksX1_isWell_2 4 rfl rfl)
theorem dX1_isWell_53 : decode cX1_isWell 53 = .ok (.invokevirtual 268, 3) := dk_182 1 12 (dk_at dksX1_isWell_2 5 rfl rfl)
theorem dX1_isWell_56 : decode cX1_isWell 56 = .ok (.aload_n 0, 1) := dk_42 (dk_at dksX1_isWell_2 8 rfl rfl)
theorem dX1_isWell_57 : decode cX1_isWell 57 = .ok (.invokevirtual 262, 3) := dk_182 1 6 (dk_at dksX1_isWell_2 9 rfl rfl)
theorem dX1_isWell_60 : decode cX1_isWell 60 = .ok (.iload_n 2, 1) := dk_28 (dk_at dksX1_isWell_2 12 rfl rfl)
theorem dX1_isWell_61 : decode cX1_isWell 61 = .ok (.invokevirtual 265, 3) := dk_182 1 9 (dk_at dksX1_isWell_2 13 rfl rfl)
theorem dX1_isWell_64 : decode cX1_isWell 64 = .ok (.if_icmp .ne 7, 3) := dk_160 0 7 (dk_at dksX1_isWell_2 16 rfl rfl)
theorem dX1_isWell_67 : decode cX1_isWell 67 = .ok (.iconst 1, 1) := dk_4 (dk_at dksX1_isWell_2 19 rfl rfl)
theorem dX1_isWell_68 : decode cX1_isWell 68 = .ok (.goto 4, 3) := dk_167 0 4 (dk_at dksX1_isWell_2 20 rfl rfl)
theorem dX1_isWell_71 : decode cX1_isWell 71 = .ok (.iconst 0, 1) := dk_3 (dk_at dksX1_isWell_2 23 rfl rfl)
theorem dX1_isWell_72 : decode cX1_isWell 72 = .ok (.iand, 1) := dk_126 (dk_at dksX1_isWell_3 0 rfl rfl)
theorem dX1_isWell_73 : decode cX1_isWell 73 = .ok (.istore_n 1, 1) := dk_60 (dk_at dksX1_isWell_3 1 rfl rfl)
theorem dX1_isWell_74 : decode cX1_isWell 74 = .ok (.iinc 2 1, 3) := dk_132 2 1 (dk_at dksX1_isWell_3 2 rfl rfl)
theorem dX1_isWell_77 : decode cX1_isWell 77 = .ok (.goto (-52), 3) := dk_167 255 204 (dk_at dksX1_isWell_3 5 rfl rfl)
theorem dX1_isWell_80 : decode cX1_isWell 80 = .ok (.iload_n 1, 1) := dk_27 (dk_at dksX1_isWell_3 8 rfl rfl)
theorem dX1_isWell_81 : decode cX1_isWell 81 = .ok (.ireturn, 1) := dk_172 (dk_at dksX1_isWell_3 9 rfl rfl)
abbrev cX1_thinkOf : ByteArray := prog_1_method_21_code
def yX1_thinkOf : MethodName := ⟨RX1, "thinkOf", "()LErrataPress$Press;"⟩
def dkwX1_thinkOf_0 : List UInt8 := [42, 180, 0, 48, 42, 180, 0, 38, 182, 0, 136, 42, 180, 0, 48, 176]
abbrev dktX1_thinkOf_0 : List UInt8 := dkwX1_thinkOf_0 ++ []
theorem dksX1_thinkOf_0 : cX1_thinkOf.data.toList.drop 0 = dktX1_thinkOf_0 := by decide +kernel
theorem dX1_thinkOf_0 : decode cX1_thinkOf 0 = .ok (.aload_n 0, 1) := dk_42 (dk_at dksX1_thinkOf_0 0 rfl rfl)
theorem dX1_thinkOf_1 : decode cX1_thinkOf 1 = .ok (.getfield 48, 3) := dk_180 0 48 (dk_at dksX1_thinkOf_0 1 rfl rfl)
theorem dX1_thinkOf_4 : decode cX1_thinkOf 4 = .ok (.aload_n 0, 1) := dk_42 (dk_at dksX1_thinkOf_0 4 rfl rfl)
theorem dX1_thinkOf_5 : decode cX1_thinkOf 5 = .ok (.getfield 38, 3) := dk_180 0 38 (dk_at dksX1_thinkOf_0 5 rfl rfl)
theorem dX1_thinkOf_8 : decode cX1_thinkOf 8 = .ok (.invokevirtual 136, 3) := dk_182 0 136 (dk_at dksX1_thinkOf_0 8 rfl rfl)
theorem dX1_thinkOf_11 : decode cX1_thinkOf 11 = .ok (.aload_n 0, 1) := dk_42 (dk_at dksX1_thinkOf_0 11 rfl rfl)
theorem dX1_thinkOf_12 : decode cX1_thinkOf 12 = .ok (.getfield 48, 3) := dk_180 0 48 (dk_at dksX1_thinkOf_0 12 rfl rfl)
theorem dX1_thinkOf_15 : decode cX1_thinkOf 15 = .ok (.areturn, 1) := dk_176 (dk_at dksX1_thinkOf_0 15 rfl rfl)
abbrev cX1_refuse : ByteArray := prog_1_method_2_code
def yX1_refuse : MethodName := ⟨RX1, "refuse", "(ZII)V"⟩
def dkwX1_refuse_0 : List UInt8 := [26, 153, 0, 14, 187, 0, 1, 89, 27, 28, 1, 183, 0, 3, 191, 177]
abbrev dktX1_refuse_0 : List UInt8 := dkwX1_refuse_0 ++ []
theorem dksX1_refuse_0 : cX1_refuse.data.toList.drop 0 = dktX1_refuse_0 := by decide +kernel
theorem dX1_refuse_0 : decode cX1_refuse 0 = .ok (.iload_n 0, 1) := dk_26 (dk_at dksX1_refuse_0 0 rfl rfl)
theorem dX1_refuse_1 : decode cX1_refuse 1 = .ok (.ifCond .eq 14, 3) := dk_153 0 14 (dk_at dksX1_refuse_0 1 rfl rfl)
theorem dX1_refuse_4 : decode cX1_refuse 4 = .ok (.new 1, 3) := dk_187 0 1 (dk_at dksX1_refuse_0 4 rfl rfl)
theorem dX1_refuse_7 : decode cX1_refuse 7 = .ok (.dup, 1) := dk_89 (dk_at dksX1_refuse_0 7 rfl rfl)
theorem dX1_refuse_8 : decode cX1_refuse 8 = .ok (.iload_n 1, 1) := dk_27 (dk_at dksX1_refuse_0 8 rfl rfl)
theorem dX1_refuse_9 : decode cX1_refuse 9 = .ok (.iload_n 2, 1) := dk_28 (dk_at dksX1_refuse_0 9 rfl rfl)
theorem dX1_refuse_10 : decode cX1_refuse 10 = .ok (.aconst_null, 1) := dk_1 (dk_at dksX1_refuse_0 10 rfl rfl)
theorem dX1_refuse_11 : decode cX1_refuse 11 = .ok (.invokespecial 3, 3) := dk_183 0 3 (dk_at dksX1_refuse_0 11 rfl rfl)
theorem dX1_refuse_14 : decode cX1_refuse 14 = .ok (.athrow, 1) := dk_191 (dk_at dksX1_refuse_0 14 rfl rfl)
theorem dX1_refuse_15 : decode cX1_refuse 15 = .ok (.return_, 1) := dk_177 (dk_at dksX1_refuse_0 15 rfl rfl)
abbrev cX1_save : ByteArray := prog_1_method_59_code
def yX1_save : MethodName := ⟨RX1, "save", "()I"⟩
def dkwX1_save_0 : List UInt8 := [42, 180, 0, 45, 42, 180, 0, 38, 182, 0, 136, 42, 4, 181, 1, 144, 42, 180, 0, 38, 180, 1, 100, 172]
abbrev dktX1_save_0 : List UInt8 := dkwX1_save_0 ++ []
theorem dksX1_save_0 : cX1_save.data.toList.drop 0 = dktX1_save_0 := by decide +kernel
theorem dX1_save_0 : decode cX1_save 0 = .ok (.aload_n 0, 1) := dk_42 (dk_at dksX1_save_0 0 rfl rfl)
theorem dX1_save_1 : decode cX1_save 1 = .ok (.getfield 45, 3) := dk_180 0 45 (dk_at dksX1_save_0 1 rfl rfl)
theorem dX1_save_4 : decode cX1_save 4 = .ok (.aload_n 0, 1) := dk_42 (dk_at dksX1_save_0 4 rfl rfl)
theorem dX1_save_5 : decode cX1_save 5 = .ok (.getfield 38, 3) := dk_180 0 38 (dk_at dksX1_save_0 5 rfl rfl)
theorem dX1_save_8 : decode cX1_save 8 = .ok (.invokevirtual 136, 3) := dk_182 0 136 (dk_at dksX1_save_0 8 rfl rfl)
theorem dX1_save_11 : decode cX1_save 11 = .ok (.aload_n 0, 1) := dk_42 (dk_at dksX1_save_0 11 rfl rfl)
theorem dX1_save_12 : decode cX1_save 12 = .ok (.iconst 1, 1) := dk_4 (dk_at dksX1_save_0 12 rfl rfl)
theorem dX1_save_13 : decode cX1_save 13 = .ok (.putfield 400, 3) := dk_181 1 144 (dk_at dksX1_save_0 13 rfl rfl)
theorem dX1_save_16 : decode cX1_save 16 = .ok (.aload_n 0, 1) := dk_42 (dk_at dksX1_save_0 16 rfl rfl)
theorem dX1_save_17 : decode cX1_save 17 = .ok (.getfield 38, 3) := dk_180 0 38 (dk_at dksX1_save_0 17 rfl rfl)
theorem dX1_save_20 : decode cX1_save 20 = .ok (.getfield 356, 3) := dk_180 1 100 (dk_at dksX1_save_0 20 rfl rfl)
theorem dX1_save_23 : decode cX1_save 23 = .ok (.ireturn, 1) := dk_172 (dk_at dksX1_save_0 23 rfl rfl)
abbrev cX1_house : ByteArray := prog_1_method_23_code
def yX1_house : MethodName := ⟨RX1, "house", "(I)I"⟩
def dkwX1_house_1 : List UInt8 := [42, 44, 182, 0, 156, 191]
abbrev dktX1_house_1 : List UInt8 := dkwX1_house_1 ++ []
def dkwX1_house_0 : List UInt8 := [27, 3, 16, 99, 184, 0, 26, 184, 0, 143, 42, 42, 182, 0, 146, 27, 182, 0, 150, 182, 0, 153, 172, 77]
abbrev dktX1_house_0 : List UInt8 := dkwX1_house_0 ++ dktX1_house_1
theorem dksX1_house_0 : cX1_house.data.toList.drop 0 = dktX1_house_0 := by decide +kernel
theorem dksX1_house_1 : cX1_house.data.toList.drop 24 = dktX1_house_1 := dk_seg dksX1_house_0 24 rfl rfl
theorem dX1_house_0 : decode cX1_house 0 = .ok (.iload_n 1, 1) := dk_27 (dk_at dksX1_house_0 0 rfl rfl)
theorem dX1_house_1 : decode cX1_house 1 = .ok (.iconst 0, 1) := dk_3 (dk_at dksX1_house_0 1 rfl rfl)
theorem dX1_house_2 : decode cX1_house 2 = .ok (.bipush 99, 2) := dk_16 99 (dk_at dksX1_house_0 2 rfl rfl)
theorem dX1_house_4 : decode cX1_house 4 = .ok (.invokestatic 26, 3) := dk_184 0 26 (dk_at dksX1_house_0 4 rfl rfl)
theorem dX1_house_7 : decode cX1_house 7 = .ok (.invokestatic 143, 3) := dk_184 0 143 (dk_at dksX1_house_0 7 rfl rfl)
theorem dX1_house_10 : decode cX1_house 10 = .ok (.aload_n 0, 1) := dk_42 (dk_at dksX1_house_0 10 rfl rfl)
theorem dX1_house_11 : decode cX1_house 11 = .ok (.aload_n 0, 1) := dk_42 (dk_at dksX1_house_0 11 rfl rfl)
theorem dX1_house_12 : decode cX1_house 12 = .ok (.invokevirtual 146, 3) := dk_182 0 146 (dk_at dksX1_house_0 12 rfl rfl)
theorem dX1_house_15 : decode cX1_house 15 = .ok (.iload_n 1, 1) := dk_27 (dk_at dksX1_house_0 15 rfl rfl)
theorem dX1_house_16 : decode cX1_house 16 = .ok (.invokevirtual 150, 3) := dk_182 0 150 (dk_at dksX1_house_0 16 rfl rfl)
theorem dX1_house_19 : decode cX1_house 19 = .ok (.invokevirtual 153, 3) := dk_182 0 153 (dk_at dksX1_house_0 19 rfl rfl)
theorem dX1_house_22 : decode cX1_house 22 = .ok (.ireturn, 1) := dk_172 (dk_at dksX1_house_0 22 rfl rfl)
theorem dX1_house_23 : decode cX1_house 23 = .ok (.astore_n 2, 1) := dk_77 (dk_at dksX1_house_0 23 rfl rfl)
theorem dX1_house_24 : decode cX1_house 24 = .ok (.aload_n 0, 1) := dk_42 (dk_at dksX1_house_1 0 rfl rfl)
theorem dX1_house_25 : decode cX1_house 25 = .ok (.aload_n 2, 1) := dk_44 (dk_at dksX1_house_1 1 rfl rfl)
theorem dX1_house_26 : decode cX1_house 26 = .ok (.invokevirtual 156, 3) := dk_182 0 156 (dk_at dksX1_house_1 2 rfl rfl)
theorem dX1_house_29 : decode cX1_house 29 = .ok (.athrow, 1) := dk_191 (dk_at dksX1_house_1 5 rfl rfl)
abbrev cX1_in : ByteArray := prog_1_method_1_code
def yX1_in : MethodName := ⟨RX1, "in", "(III)Z"⟩
def dkwX1_in_0 : List UInt8 := [26, 27, 161, 0, 12, 26, 28, 163, 0, 7, 4, 167, 0, 4, 3, 172]
abbrev dktX1_in_0 : List UInt8 := dkwX1_in_0 ++ []
theorem dksX1_in_0 : cX1_in.data.toList.drop 0 = dktX1_in_0 := by decide +kernel
theorem dX1_in_0 : decode cX1_in 0 = .ok (.iload_n 0, 1) := dk_26 (dk_at dksX1_in_0 0 rfl rfl)
theorem dX1_in_1 : decode cX1_in 1 = .ok (.iload_n 1, 1) := dk_27 (dk_at dksX1_in_0 1 rfl rfl)
theorem dX1_in_2 : decode cX1_in 2 = .ok (.if_icmp .lt 12, 3) := dk_161 0 12 (dk_at dksX1_in_0 2 rfl rfl)
theorem dX1_in_5 : decode cX1_in 5 = .ok (.iload_n 0, 1) := dk_26 (dk_at dksX1_in_0 5 rfl rfl)
theorem dX1_in_6 : decode cX1_in 6 = .ok (.iload_n 2, 1) := dk_28 (dk_at dksX1_in_0 6 rfl rfl)
theorem dX1_in_7 : decode cX1_in 7 = .ok (.if_icmp .gt 7, 3) := dk_163 0 7 (dk_at dksX1_in_0 7 rfl rfl)
theorem dX1_in_10 : decode cX1_in 10 = .ok (.iconst 1, 1) := dk_4 (dk_at dksX1_in_0 10 rfl rfl)
theorem dX1_in_11 : decode cX1_in 11 = .ok (.goto 4, 3) := dk_167 0 4 (dk_at dksX1_in_0 11 rfl rfl)
theorem dX1_in_14 : decode cX1_in 14 = .ok (.iconst 0, 1) := dk_3 (dk_at dksX1_in_0 14 rfl rfl)
theorem dX1_in_15 : decode cX1_in 15 = .ok (.ireturn, 1) := dk_172 (dk_at dksX1_in_0 15 rfl rfl)
abbrev cX1_check : ByteArray := prog_1_method_9_code
def yX1_check : MethodName := ⟨RX1, "check", "(Z)V"⟩
def dkwX1_check_0 : List UInt8 := [26, 154, 0, 11, 187, 0, 88, 89, 183, 0, 90, 191, 177]
abbrev dktX1_check_0 : List UInt8 := dkwX1_check_0 ++ []
theorem dksX1_check_0 : cX1_check.data.toList.drop 0 = dktX1_check_0 := by decide +kernel
theorem dX1_check_0 : decode cX1_check 0 = .ok (.iload_n 0, 1) := dk_26 (dk_at dksX1_check_0 0 rfl rfl)
theorem dX1_check_1 : decode cX1_check 1 = .ok (.ifCond .ne 11, 3) := dk_154 0 11 (dk_at dksX1_check_0 1 rfl rfl)
theorem dX1_check_4 : decode cX1_check 4 = .ok (.new 88, 3) := dk_187 0 88 (dk_at dksX1_check_0 4 rfl rfl)
theorem dX1_check_7 : decode cX1_check 7 = .ok (.dup, 1) := dk_89 (dk_at dksX1_check_0 7 rfl rfl)
theorem dX1_check_8 : decode cX1_check 8 = .ok (.invokespecial 90, 3) := dk_183 0 90 (dk_at dksX1_check_0 8 rfl rfl)
theorem dX1_check_11 : decode cX1_check 11 = .ok (.athrow, 1) := dk_191 (dk_at dksX1_check_0 11 rfl rfl)
theorem dX1_check_12 : decode cX1_check 12 = .ok (.return_, 1) := dk_177 (dk_at dksX1_check_0 12 rfl rfl)
abbrev cX1_because : ByteArray := prog_1_method_15_code
def yX1_because : MethodName := ⟨RX1, "because", "(LErrataPress$Refused;)Ljava/lang/UnsupportedOperationException;"⟩
def dkwX1_because_0 : List UInt8 := [42, 43, 181, 0, 107, 187, 0, 111, 89, 183, 0, 113, 176]
abbrev dktX1_because_0 : List UInt8 := dkwX1_because_0 ++ []
theorem dksX1_because_0 : cX1_because.data.toList.drop 0 = dktX1_because_0 := by decide +kernel
theorem dX1_because_0 : decode cX1_because 0 = .ok (.aload_n 0, 1) := dk_42 (dk_at dksX1_because_0 0 rfl rfl)
theorem dX1_because_1 : decode cX1_because 1 = .ok (.aload_n 1, 1) := dk_43 (dk_at dksX1_because_0 1 rfl rfl)
theorem dX1_because_2 : decode cX1_because 2 = .ok (.putfield 107, 3) := dk_181 0 107 (dk_at dksX1_because_0 2 rfl rfl)
theorem dX1_because_5 : decode cX1_because 5 = .ok (.new 111, 3) := dk_187 0 111 (dk_at dksX1_because_0 5 rfl rfl)
theorem dX1_because_8 : decode cX1_because 8 = .ok (.dup, 1) := dk_89 (dk_at dksX1_because_0 8 rfl rfl)
theorem dX1_because_9 : decode cX1_because 9 = .ok (.invokespecial 113, 3) := dk_183 0 113 (dk_at dksX1_because_0 9 rfl rfl)
theorem dX1_because_12 : decode cX1_because 12 = .ok (.areturn, 1) := dk_176 (dk_at dksX1_because_0 12 rfl rfl)
abbrev cX1_sheet : ByteArray := prog_1_method_24_code
def yX1_sheet : MethodName := ⟨RX1, "sheet", "(II)I"⟩
def dkwX1_sheet_1 : List UInt8 := [182, 0, 153, 172, 78, 42, 45, 182, 0, 156, 191]
abbrev dktX1_sheet_1 : List UInt8 := dkwX1_sheet_1 ++ []
def dkwX1_sheet_0 : List UInt8 := [42, 27, 182, 0, 160, 28, 184, 0, 164, 184, 0, 143, 42, 42, 182, 0, 146, 27, 28, 182, 0, 167]
abbrev dktX1_sheet_0 : List UInt8 := dkwX1_sheet_0 ++ dktX1_sheet_1
theorem dksX1_sheet_0 : cX1_sheet.data.toList.drop 0 = dktX1_sheet_0 := by decide +kernel
theorem dksX1_sheet_1 : cX1_sheet.data.toList.drop 22 = dktX1_sheet_1 := dk_seg dksX1_sheet_0 22 rfl rfl
theorem dX1_sheet_0 : decode cX1_sheet 0 = .ok (.aload_n 0, 1) := dk_42 (dk_at dksX1_sheet_0 0 rfl rfl)
theorem dX1_sheet_1 : decode cX1_sheet 1 = .ok (.iload_n 1, 1) := dk_27 (dk_at dksX1_sheet_0 1 rfl rfl)
theorem dX1_sheet_2 : decode cX1_sheet 2 = .ok (.invokevirtual 160, 3) := dk_182 0 160 (dk_at dksX1_sheet_0 2 rfl rfl)
theorem dX1_sheet_5 : decode cX1_sheet 5 = .ok (.iload_n 2, 1) := dk_28 (dk_at dksX1_sheet_0 5 rfl rfl)
theorem dX1_sheet_6 : decode cX1_sheet 6 = .ok (.invokestatic 164, 3) := dk_184 0 164 (dk_at dksX1_sheet_0 6 rfl rfl)
theorem dX1_sheet_9 : decode cX1_sheet 9 = .ok (.invokestatic 143, 3) := dk_184 0 143 (dk_at dksX1_sheet_0 9 rfl rfl)
theorem dX1_sheet_12 : decode cX1_sheet 12 = .ok (.aload_n 0, 1) := dk_42 (dk_at dksX1_sheet_0 12 rfl rfl)
theorem dX1_sheet_13 : decode cX1_sheet 13 = .ok (.aload_n 0, 1) := dk_42 (dk_at dksX1_sheet_0 13 rfl rfl)
theorem dX1_sheet_14 : decode cX1_sheet 14 = .ok (.invokevirtual 146, 3) := dk_182 0 146 (dk_at dksX1_sheet_0 14 rfl rfl)
theorem dX1_sheet_17 : decode cX1_sheet 17 = .ok (.iload_n 1, 1) := dk_27 (dk_at dksX1_sheet_0 17 rfl rfl)
theorem dX1_sheet_18 : decode cX1_sheet 18 = .ok (.iload_n 2, 1) := dk_28 (dk_at dksX1_sheet_0 18 rfl rfl)
theorem dX1_sheet_19 : decode cX1_sheet 19 = .ok (.invokevirtual 167, 3) := dk_182 0 167 (dk_at dksX1_sheet_0 19 rfl rfl)
theorem dX1_sheet_22 : decode cX1_sheet 22 = .ok (.invokevirtual 153, 3) := dk_182 0 153 (dk_at dksX1_sheet_1 0 rfl rfl)
theorem dX1_sheet_25 : decode cX1_sheet 25 = .ok (.ireturn, 1) := dk_172 (dk_at dksX1_sheet_1 3 rfl rfl)
theorem dX1_sheet_26 : decode cX1_sheet 26 = .ok (.astore_n 3, 1) := dk_78 (dk_at dksX1_sheet_1 4 rfl rfl)
theorem dX1_sheet_27 : decode cX1_sheet 27 = .ok (.aload_n 0, 1) := dk_42 (dk_at dksX1_sheet_1 5 rfl rfl)
theorem dX1_sheet_28 : decode cX1_sheet 28 = .ok (.aload_n 3, 1) := dk_45 (dk_at dksX1_sheet_1 6 rfl rfl)
theorem dX1_sheet_29 : decode cX1_sheet 29 = .ok (.invokevirtual 156, 3) := dk_182 0 156 (dk_at dksX1_sheet_1 7 rfl rfl)
theorem dX1_sheet_32 : decode cX1_sheet 32 = .ok (.athrow, 1) := dk_191 (dk_at dksX1_sheet_1 10 rfl rfl)
abbrev cX1_checkHouse : ByteArray := prog_1_method_16_code
def yX1_checkHouse : MethodName := ⟨RX1, "checkHouse", "(I)V"⟩
def dkwX1_checkHouse_0 : List UInt8 := [42, 180, 0, 38, 27, 182, 0, 114, 184, 0, 118, 177]
abbrev dktX1_checkHouse_0 : List UInt8 := dkwX1_checkHouse_0 ++ []
theorem dksX1_checkHouse_0 : cX1_checkHouse.data.toList.drop 0 = dktX1_checkHouse_0 := by decide +kernel
theorem dX1_checkHouse_0 : decode cX1_checkHouse 0 = .ok (.aload_n 0, 1) := dk_42 (dk_at dksX1_checkHouse_0 0 rfl rfl)
theorem dX1_checkHouse_1 : decode cX1_checkHouse 1 = .ok (.getfield 38, 3) := dk_180 0 38 (dk_at dksX1_checkHouse_0 1 rfl rfl)
theorem dX1_checkHouse_4 : decode cX1_checkHouse 4 = .ok (.iload_n 1, 1) := dk_27 (dk_at dksX1_checkHouse_0 4 rfl rfl)
theorem dX1_checkHouse_5 : decode cX1_checkHouse 5 = .ok (.invokevirtual 114, 3) := dk_182 0 114 (dk_at dksX1_checkHouse_0 5 rfl rfl)
theorem dX1_checkHouse_8 : decode cX1_checkHouse 8 = .ok (.invokestatic 118, 3) := dk_184 0 118 (dk_at dksX1_checkHouse_0 8 rfl rfl)
theorem dX1_checkHouse_11 : decode cX1_checkHouse 11 = .ok (.return_, 1) := dk_177 (dk_at dksX1_checkHouse_0 11 rfl rfl)
abbrev cX1_checkIndex : ByteArray := prog_1_method_12_code
def yX1_checkIndex : MethodName := ⟨RX1, "checkIndex", "(Z)V"⟩
def dkwX1_checkIndex_0 : List UInt8 := [26, 154, 0, 11, 187, 0, 97, 89, 183, 0, 99, 191, 177]
abbrev dktX1_checkIndex_0 : List UInt8 := dkwX1_checkIndex_0 ++ []
theorem dksX1_checkIndex_0 : cX1_checkIndex.data.toList.drop 0 = dktX1_checkIndex_0 := by decide +kernel
theorem dX1_checkIndex_0 : decode cX1_checkIndex 0 = .ok (.iload_n 0, 1) := dk_26 (dk_at dksX1_checkIndex_0 0 rfl rfl)
theorem dX1_checkIndex_1 : decode cX1_checkIndex 1 = .ok (.ifCond .ne 11, 3) := dk_154 0 11 (dk_at dksX1_checkIndex_0 1 rfl rfl)
theorem dX1_checkIndex_4 : decode cX1_checkIndex 4 = .ok (.new 97, 3) := dk_187 0 97 (dk_at dksX1_checkIndex_0 4 rfl rfl)
theorem dX1_checkIndex_7 : decode cX1_checkIndex 7 = .ok (.dup, 1) := dk_89 (dk_at dksX1_checkIndex_0 7 rfl rfl)
theorem dX1_checkIndex_8 : decode cX1_checkIndex 8 = .ok (.invokespecial 99, 3) := dk_183 0 99 (dk_at dksX1_checkIndex_0 8 rfl rfl)
theorem dX1_checkIndex_11 : decode cX1_checkIndex 11 = .ok (.athrow, 1) := dk_191 (dk_at dksX1_checkIndex_0 11 rfl rfl)
theorem dX1_checkIndex_12 : decode cX1_checkIndex 12 = .ok (.return_, 1) := dk_177 (dk_at dksX1_checkIndex_0 12 rfl rfl)
abbrev cX1_isWord : ByteArray := prog_1_method_6_code
def yX1_isWord : MethodName := ⟨RX1, "isWord", "(I)Z"⟩
def dkwX1_isWord_2 : List UInt8 := [27, 172]
abbrev dktX1_isWord_2 : List UInt8 := dkwX1_isWord_2 ++ []
def dkwX1_isWord_1 : List UInt8 := [158, 0, 24, 27, 28, 16, 10, 112, 4, 16, 6, 184, 0, 26, 126, 60, 28, 16, 10, 108, 61, 167, 255, 234]
abbrev dktX1_isWord_1 : List UInt8 := dkwX1_isWord_1 ++ dktX1_isWord_2
def dkwX1_isWord_0 : List UInt8 := [26, 155, 0, 16, 26, 184, 0, 22, 6, 16, 8, 184, 0, 26, 154, 0, 5, 3, 172, 4, 60, 26, 61, 28]
abbrev dktX1_isWord_0 : List UInt8 := dkwX1_isWord_0 ++ dktX1_isWord_1
theorem dksX1_isWord_0 : cX1_isWord.data.toList.drop 0 = dktX1_isWord_0 := by decide +kernel
theorem dksX1_isWord_1 : cX1_isWord.data.toList.drop 24 = dktX1_isWord_1 := dk_seg dksX1_isWord_0 24 rfl rfl
theorem dksX1_isWord_2 : cX1_isWord.data.toList.drop 48 = dktX1_isWord_2 := dk_seg dksX1_isWord_1 24 rfl rfl
theorem dX1_isWord_0 : decode cX1_isWord 0 = .ok (.iload_n 0, 1) := dk_26 (dk_at dksX1_isWord_0 0 rfl rfl)
theorem dX1_isWord_1 : decode cX1_isWord 1 = .ok (.ifCond .lt 16, 3) := dk_155 0 16 (dk_at dksX1_isWord_0 1 rfl rfl)
theorem dX1_isWord_4 : decode cX1_isWord 4 = .ok (.iload_n 0, 1) := dk_26 (dk_at dksX1_isWord_0 4 rfl rfl)
theorem dX1_isWord_5 : decode cX1_isWord 5 = .ok (.invokestatic 22, 3) := dk_184 0 22 (dk_at dksX1_isWord_0 5 rfl rfl)
theorem dX1_isWord_8 : decode cX1_isWord 8 = .ok (.iconst 3, 1) := dk_6 (dk_at dksX1_isWord_0 8 rfl rfl)
theorem dX1_isWord_9 : decode cX1_isWord 9 = .ok (.bipush 8, 2) := dk_16 8 (dk_at dksX1_isWord_0 9 rfl rfl)
theorem dX1_isWord_11 : decode cX1_isWord 11 = .ok (.invokestatic 26, 3) := dk_184 0 26 (dk_at dksX1_isWord_0 11 rfl rfl)
theorem dX1_isWord_14 : decode cX1_isWord 14 = .ok (.ifCond .ne 5, 3) := dk_154 0 5 (dk_at dksX1_isWord_0 14 rfl rfl)
theorem dX1_isWord_17 : decode cX1_isWord 17 = .ok (.iconst 0, 1) := dk_3 (dk_at dksX1_isWord_0 17 rfl rfl)
theorem dX1_isWord_18 : decode cX1_isWord 18 = .ok (.ireturn, 1) := dk_172 (dk_at dksX1_isWord_0 18 rfl rfl)
theorem dX1_isWord_19 : decode cX1_isWord 19 = .ok (.iconst 1, 1) := dk_4 (dk_at dksX1_isWord_0 19 rfl rfl)
theorem dX1_isWord_20 : decode cX1_isWord 20 = .ok (.istore_n 1, 1) := dk_60 (dk_at dksX1_isWord_0 20 rfl rfl)
theorem dX1_isWord_21 : decode cX1_isWord 21 = .ok (.iload_n 0, 1) := dk_26 (dk_at dksX1_isWord_0 21 rfl rfl)
theorem dX1_isWord_22 : decode cX1_isWord 22 = .ok (.istore_n 2, 1) := dk_61 (dk_at dksX1_isWord_0 22 rfl rfl)
theorem dX1_isWord_23 : decode cX1_isWord 23 = .ok (.iload_n 2, 1) := dk_28 (dk_at dksX1_isWord_0 23 rfl rfl)
theorem dX1_isWord_24 : decode cX1_isWord 24 = .ok (.ifCond .le 24, 3) := dk_158 0 24 (dk_at dksX1_isWord_1 0 rfl rfl)
theorem dX1_isWord_27 : decode cX1_isWord 27 = .ok (.iload_n 1, 1) := dk_27 (dk_at dksX1_isWord_1 3 rfl rfl)
theorem dX1_isWord_28 : decode cX1_isWord 28 = .ok (.iload_n 2, 1) := dk_28 (dk_at dksX1_isWord_1 4 rfl rfl)
theorem dX1_isWord_29 : decode cX1_isWord 29 = .ok (.bipush 10, 2) := dk_16 10 (dk_at dksX1_isWord_1 5 rfl rfl)
theorem dX1_isWord_31 : decode cX1_isWord 31 = .ok (.irem, 1) := dk_112 (dk_at dksX1_isWord_1 7 rfl rfl)
theorem dX1_isWord_32 : decode cX1_isWord 32 = .ok (.iconst 1, 1) := dk_4 (dk_at dksX1_isWord_1 8 rfl rfl)
theorem dX1_isWord_33 : decode cX1_isWord 33 = .ok (.bipush 6, 2) := dk_16 6 (dk_at dksX1_isWord_1 9 rfl rfl)
theorem dX1_isWord_35 : decode cX1_isWord 35 = .ok (.invokestatic 26, 3) := dk_184 0 26 (dk_at dksX1_isWord_1 11 rfl rfl)
theorem dX1_isWord_38 : decode cX1_isWord 38 = .ok (.iand, 1) := dk_126 (dk_at dksX1_isWord_1 14 rfl rfl)
theorem dX1_isWord_39 : decode cX1_isWord 39 = .ok (.istore_n 1, 1) := dk_60 (dk_at dksX1_isWord_1 15 rfl rfl)
theorem dX1_isWord_40 : decode cX1_isWord 40 = .ok (.iload_n 2, 1) := dk_28 (dk_at dksX1_isWord_1 16 rfl rfl)
theorem dX1_isWord_41 : decode cX1_isWord 41 = .ok (.bipush 10, 2) := dk_16 10 (dk_at dksX1_isWord_1 17 rfl rfl)
theorem dX1_isWord_43 : decode cX1_isWord 43 = .ok (.idiv, 1) := dk_108 (dk_at dksX1_isWord_1 19 rfl rfl)
theorem dX1_isWord_44 : decode cX1_isWord 44 = .ok (.istore_n 2, 1) := dk_61 (dk_at dksX1_isWord_1 20 rfl rfl)
theorem dX1_isWord_45 : decode cX1_isWord 45 = .ok (.goto (-22), 3) := dk_167 255 234 (dk_at dksX1_isWord_1 21 rfl rfl)
theorem dX1_isWord_48 : decode cX1_isWord 48 = .ok (.iload_n 1, 1) := dk_27 (dk_at dksX1_isWord_2 0 rfl rfl)
theorem dX1_isWord_49 : decode cX1_isWord 49 = .ok (.ireturn, 1) := dk_172 (dk_at dksX1_isWord_2 1 rfl rfl)
abbrev cX1_sizeOf : ByteArray := prog_1_method_5_code
def yX1_sizeOf : MethodName := ⟨RX1, "sizeOf", "(I)I"⟩
def dkwX1_sizeOf_0 : List UInt8 := [3, 60, 26, 61, 28, 158, 0, 14, 132, 1, 1, 28, 16, 10, 108, 61, 167, 255, 244, 27, 172]
abbrev dktX1_sizeOf_0 : List UInt8 := dkwX1_sizeOf_0 ++ []
theorem dksX1_sizeOf_0 : cX1_sizeOf.data.toList.drop 0 = dktX1_sizeOf_0 := by decide +kernel
theorem dX1_sizeOf_0 : decode cX1_sizeOf 0 = .ok (.iconst 0, 1) := dk_3 (dk_at dksX1_sizeOf_0 0 rfl rfl)
theorem dX1_sizeOf_1 : decode cX1_sizeOf 1 = .ok (.istore_n 1, 1) := dk_60 (dk_at dksX1_sizeOf_0 1 rfl rfl)
theorem dX1_sizeOf_2 : decode cX1_sizeOf 2 = .ok (.iload_n 0, 1) := dk_26 (dk_at dksX1_sizeOf_0 2 rfl rfl)
theorem dX1_sizeOf_3 : decode cX1_sizeOf 3 = .ok (.istore_n 2, 1) := dk_61 (dk_at dksX1_sizeOf_0 3 rfl rfl)
theorem dX1_sizeOf_4 : decode cX1_sizeOf 4 = .ok (.iload_n 2, 1) := dk_28 (dk_at dksX1_sizeOf_0 4 rfl rfl)
theorem dX1_sizeOf_5 : decode cX1_sizeOf 5 = .ok (.ifCond .le 14, 3) := dk_158 0 14 (dk_at dksX1_sizeOf_0 5 rfl rfl)
theorem dX1_sizeOf_8 : decode cX1_sizeOf 8 = .ok (.iinc 1 1, 3) := dk_132 1 1 (dk_at dksX1_sizeOf_0 8 rfl rfl)
theorem dX1_sizeOf_11 : decode cX1_sizeOf 11 = .ok (.iload_n 2, 1) := dk_28 (dk_at dksX1_sizeOf_0 11 rfl rfl)
theorem dX1_sizeOf_12 : decode cX1_sizeOf 12 = .ok (.bipush 10, 2) := dk_16 10 (dk_at dksX1_sizeOf_0 12 rfl rfl)
theorem dX1_sizeOf_14 : decode cX1_sizeOf 14 = .ok (.idiv, 1) := dk_108 (dk_at dksX1_sizeOf_0 14 rfl rfl)
theorem dX1_sizeOf_15 : decode cX1_sizeOf 15 = .ok (.istore_n 2, 1) := dk_61 (dk_at dksX1_sizeOf_0 15 rfl rfl)
theorem dX1_sizeOf_16 : decode cX1_sizeOf 16 = .ok (.goto (-12), 3) := dk_167 255 244 (dk_at dksX1_sizeOf_0 16 rfl rfl)
theorem dX1_sizeOf_19 : decode cX1_sizeOf 19 = .ok (.iload_n 1, 1) := dk_27 (dk_at dksX1_sizeOf_0 19 rfl rfl)
theorem dX1_sizeOf_20 : decode cX1_sizeOf 20 = .ok (.ireturn, 1) := dk_172 (dk_at dksX1_sizeOf_0 20 rfl rfl)
abbrev cX1_take : ByteArray := prog_1_method_25_code
def yX1_take : MethodName := ⟨RX1, "take", "(I)I"⟩
def dkwX1_take_0 : List UInt8 := [42, 27, 182, 0, 171, 42, 42, 182, 0, 146, 27, 182, 0, 174, 182, 0, 153, 172]
abbrev dktX1_take_0 : List UInt8 := dkwX1_take_0 ++ []
theorem dksX1_take_0 : cX1_take.data.toList.drop 0 = dktX1_take_0 := by decide +kernel
theorem dX1_take_0 : decode cX1_take 0 = .ok (.aload_n 0, 1) := dk_42 (dk_at dksX1_take_0 0 rfl rfl)
theorem dX1_take_1 : decode cX1_take 1 = .ok (.iload_n 1, 1) := dk_27 (dk_at dksX1_take_0 1 rfl rfl)
theorem dX1_take_2 : decode cX1_take 2 = .ok (.invokevirtual 171, 3) := dk_182 0 171 (dk_at dksX1_take_0 2 rfl rfl)
theorem dX1_take_5 : decode cX1_take 5 = .ok (.aload_n 0, 1) := dk_42 (dk_at dksX1_take_0 5 rfl rfl)
theorem dX1_take_6 : decode cX1_take 6 = .ok (.aload_n 0, 1) := dk_42 (dk_at dksX1_take_0 6 rfl rfl)
theorem dX1_take_7 : decode cX1_take 7 = .ok (.invokevirtual 146, 3) := dk_182 0 146 (dk_at dksX1_take_0 7 rfl rfl)
theorem dX1_take_10 : decode cX1_take 10 = .ok (.iload_n 1, 1) := dk_27 (dk_at dksX1_take_0 10 rfl rfl)
theorem dX1_take_11 : decode cX1_take 11 = .ok (.invokevirtual 174, 3) := dk_182 0 174 (dk_at dksX1_take_0 11 rfl rfl)
theorem dX1_take_14 : decode cX1_take 14 = .ok (.invokevirtual 153, 3) := dk_182 0 153 (dk_at dksX1_take_0 14 rfl rfl)
theorem dX1_take_17 : decode cX1_take 17 = .ok (.ireturn, 1) := dk_172 (dk_at dksX1_take_0 17 rfl rfl)
abbrev cX1_checkSheet : ByteArray := prog_1_method_17_code
def yX1_checkSheet : MethodName := ⟨RX1, "checkSheet", "(I)V"⟩
def dkwX1_checkSheet_0 : List UInt8 := [42, 180, 0, 38, 27, 182, 0, 121, 184, 0, 118, 177]
abbrev dktX1_checkSheet_0 : List UInt8 := dkwX1_checkSheet_0 ++ []
theorem dksX1_checkSheet_0 : cX1_checkSheet.data.toList.drop 0 = dktX1_checkSheet_0 := by decide +kernel
theorem dX1_checkSheet_0 : decode cX1_checkSheet 0 = .ok (.aload_n 0, 1) := dk_42 (dk_at dksX1_checkSheet_0 0 rfl rfl)
theorem dX1_checkSheet_1 : decode cX1_checkSheet 1 = .ok (.getfield 38, 3) := dk_180 0 38 (dk_at dksX1_checkSheet_0 1 rfl rfl)
theorem dX1_checkSheet_4 : decode cX1_checkSheet 4 = .ok (.iload_n 1, 1) := dk_27 (dk_at dksX1_checkSheet_0 4 rfl rfl)
theorem dX1_checkSheet_5 : decode cX1_checkSheet 5 = .ok (.invokevirtual 121, 3) := dk_182 0 121 (dk_at dksX1_checkSheet_0 5 rfl rfl)
theorem dX1_checkSheet_8 : decode cX1_checkSheet 8 = .ok (.invokestatic 118, 3) := dk_184 0 118 (dk_at dksX1_checkSheet_0 8 rfl rfl)
theorem dX1_checkSheet_11 : decode cX1_checkSheet 11 = .ok (.return_, 1) := dk_177 (dk_at dksX1_checkSheet_0 11 rfl rfl)
abbrev cX1_set : ByteArray := prog_1_method_26_code
def yX1_set : MethodName := ⟨RX1, "set", "(IIC)I"⟩
def dkwX1_set_1 : List UInt8 := [29, 16, 97, 100, 4, 96, 182, 0, 181, 182, 0, 153, 172, 58, 4, 42, 25, 4, 182, 0, 156, 191]
abbrev dktX1_set_1 : List UInt8 := dkwX1_set_1 ++ []
def dkwX1_set_0 : List UInt8 := [42, 27, 28, 182, 0, 177, 29, 16, 97, 16, 102, 184, 0, 26, 184, 0, 143, 42, 42, 182, 0, 146, 27, 28]
abbrev dktX1_set_0 : List UInt8 := dkwX1_set_0 ++ dktX1_set_1
theorem dksX1_set_0 : cX1_set.data.toList.drop 0 = dktX1_set_0 := by decide +kernel
theorem dksX1_set_1 : cX1_set.data.toList.drop 24 = dktX1_set_1 := dk_seg dksX1_set_0 24 rfl rfl
theorem dX1_set_0 : decode cX1_set 0 = .ok (.aload_n 0, 1) := dk_42 (dk_at dksX1_set_0 0 rfl rfl)
theorem dX1_set_1 : decode cX1_set 1 = .ok (.iload_n 1, 1) := dk_27 (dk_at dksX1_set_0 1 rfl rfl)
theorem dX1_set_2 : decode cX1_set 2 = .ok (.iload_n 2, 1) := dk_28 (dk_at dksX1_set_0 2 rfl rfl)
theorem dX1_set_3 : decode cX1_set 3 = .ok (.invokevirtual 177, 3) := dk_182 0 177 (dk_at dksX1_set_0 3 rfl rfl)
theorem dX1_set_6 : decode cX1_set 6 = .ok (.iload_n 3, 1) := dk_29 (dk_at dksX1_set_0 6 rfl rfl)
theorem dX1_set_7 : decode cX1_set 7 = .ok (.bipush 97, 2) := dk_16 97 (dk_at dksX1_set_0 7 rfl rfl)
theorem dX1_set_9 : decode cX1_set 9 = .ok (.bipush 102, 2) := dk_16 102 (dk_at dksX1_set_0 9 rfl rfl)
theorem dX1_set_11 : decode cX1_set 11 = .ok (.invokestatic 26, 3) := dk_184 0 26 (dk_at dksX1_set_0 11 rfl rfl)
theorem dX1_set_14 : decode cX1_set 14 = .ok (.invokestatic 143, 3) := dk_184 0 143 (dk_at dksX1_set_0 14 rfl rfl)
theorem dX1_set_17 : decode cX1_set 17 = .ok (.aload_n 0, 1) := dk_42 (dk_at dksX1_set_0 17 rfl rfl)
theorem dX1_set_18 : decode cX1_set 18 = .ok (.aload_n 0, 1) := dk_42 (dk_at dksX1_set_0 18 rfl rfl)
theorem dX1_set_19 : decode cX1_set 19 = .ok (.invokevirtual 146, 3) := dk_182 0 146 (dk_at dksX1_set_0 19 rfl rfl)
theorem dX1_set_22 : decode cX1_set 22 = .ok (.iload_n 1, 1) := dk_27 (dk_at dksX1_set_0 22 rfl rfl)
theorem dX1_set_23 : decode cX1_set 23 = .ok (.iload_n 2, 1) := dk_28 (dk_at dksX1_set_0 23 rfl rfl)
theorem dX1_set_24 : decode cX1_set 24 = .ok (.iload_n 3, 1) := dk_29 (dk_at dksX1_set_1 0 rfl rfl)
theorem dX1_set_25 : decode cX1_set 25 = .ok (.bipush 97, 2) := dk_16 97 (dk_at dksX1_set_1 1 rfl rfl)
theorem dX1_set_27 : decode cX1_set 27 = .ok (.isub, 1) := dk_100 (dk_at dksX1_set_1 3 rfl rfl)
theorem dX1_set_28 : decode cX1_set 28 = .ok (.iconst 1, 1) := dk_4 (dk_at dksX1_set_1 4 rfl rfl)
theorem dX1_set_29 : decode cX1_set 29 = .ok (.iadd, 1) := dk_96 (dk_at dksX1_set_1 5 rfl rfl)
theorem dX1_set_30 : decode cX1_set 30 = .ok (.invokevirtual 181, 3) := dk_182 0 181 (dk_at dksX1_set_1 6 rfl rfl)
theorem dX1_set_33 : decode cX1_set 33 = .ok (.invokevirtual 153, 3) := dk_182 0 153 (dk_at dksX1_set_1 9 rfl rfl)
theorem dX1_set_36 : decode cX1_set 36 = .ok (.ireturn, 1) := dk_172 (dk_at dksX1_set_1 12 rfl rfl)
theorem dX1_set_37 : decode cX1_set 37 = .ok (.astore 4, 2) := dk_58 4 (dk_at dksX1_set_1 13 rfl rfl)
theorem dX1_set_39 : decode cX1_set 39 = .ok (.aload_n 0, 1) := dk_42 (dk_at dksX1_set_1 15 rfl rfl)
theorem dX1_set_40 : decode cX1_set 40 = .ok (.aload 4, 2) := dk_25 4 (dk_at dksX1_set_1 16 rfl rfl)
theorem dX1_set_42 : decode cX1_set 42 = .ok (.invokevirtual 156, 3) := dk_182 0 156 (dk_at dksX1_set_1 18 rfl rfl)
theorem dX1_set_45 : decode cX1_set 45 = .ok (.athrow, 1) := dk_191 (dk_at dksX1_set_1 21 rfl rfl)
abbrev cX1_checkPlace : ByteArray := prog_1_method_18_code
def yX1_checkPlace : MethodName := ⟨RX1, "checkPlace", "(II)V"⟩
def dkwX1_checkPlace_0 : List UInt8 := [42, 180, 0, 38, 27, 28, 182, 0, 124, 184, 0, 118, 177]
abbrev dktX1_checkPlace_0 : List UInt8 := dkwX1_checkPlace_0 ++ []
theorem dksX1_checkPlace_0 : cX1_checkPlace.data.toList.drop 0 = dktX1_checkPlace_0 := by decide +kernel
theorem dX1_checkPlace_0 : decode cX1_checkPlace 0 = .ok (.aload_n 0, 1) := dk_42 (dk_at dksX1_checkPlace_0 0 rfl rfl)
theorem dX1_checkPlace_1 : decode cX1_checkPlace 1 = .ok (.getfield 38, 3) := dk_180 0 38 (dk_at dksX1_checkPlace_0 1 rfl rfl)
theorem dX1_checkPlace_4 : decode cX1_checkPlace 4 = .ok (.iload_n 1, 1) := dk_27 (dk_at dksX1_checkPlace_0 4 rfl rfl)
theorem dX1_checkPlace_5 : decode cX1_checkPlace 5 = .ok (.iload_n 2, 1) := dk_28 (dk_at dksX1_checkPlace_0 5 rfl rfl)
theorem dX1_checkPlace_6 : decode cX1_checkPlace 6 = .ok (.invokevirtual 124, 3) := dk_182 0 124 (dk_at dksX1_checkPlace_0 6 rfl rfl)
theorem dX1_checkPlace_9 : decode cX1_checkPlace 9 = .ok (.invokestatic 118, 3) := dk_184 0 118 (dk_at dksX1_checkPlace_0 9 rfl rfl)
theorem dX1_checkPlace_12 : decode cX1_checkPlace 12 = .ok (.return_, 1) := dk_177 (dk_at dksX1_checkPlace_0 12 rfl rfl)
abbrev cX1_license : ByteArray := prog_1_method_27_code
def yX1_license : MethodName := ⟨RX1, "license", "(II)I"⟩
def dkwX1_license_1 : List UInt8 := [182, 0, 156, 191]
abbrev dktX1_license_1 : List UInt8 := dkwX1_license_1 ++ []
def dkwX1_license_0 : List UInt8 := [42, 27, 28, 182, 0, 177, 42, 42, 182, 0, 146, 27, 28, 182, 0, 185, 182, 0, 153, 172, 78, 42, 45]
abbrev dktX1_license_0 : List UInt8 := dkwX1_license_0 ++ dktX1_license_1
theorem dksX1_license_0 : cX1_license.data.toList.drop 0 = dktX1_license_0 := by decide +kernel
theorem dksX1_license_1 : cX1_license.data.toList.drop 23 = dktX1_license_1 := dk_seg dksX1_license_0 23 rfl rfl
theorem dX1_license_0 : decode cX1_license 0 = .ok (.aload_n 0, 1) := dk_42 (dk_at dksX1_license_0 0 rfl rfl)
theorem dX1_license_1 : decode cX1_license 1 = .ok (.iload_n 1, 1) := dk_27 (dk_at dksX1_license_0 1 rfl rfl)
theorem dX1_license_2 : decode cX1_license 2 = .ok (.iload_n 2, 1) := dk_28 (dk_at dksX1_license_0 2 rfl rfl)
theorem dX1_license_3 : decode cX1_license 3 = .ok (.invokevirtual 177, 3) := dk_182 0 177 (dk_at dksX1_license_0 3 rfl rfl)
theorem dX1_license_6 : decode cX1_license 6 = .ok (.aload_n 0, 1) := dk_42 (dk_at dksX1_license_0 6 rfl rfl)
theorem dX1_license_7 : decode cX1_license 7 = .ok (.aload_n 0, 1) := dk_42 (dk_at dksX1_license_0 7 rfl rfl)
theorem dX1_license_8 : decode cX1_license 8 = .ok (.invokevirtual 146, 3) := dk_182 0 146 (dk_at dksX1_license_0 8 rfl rfl)
theorem dX1_license_11 : decode cX1_license 11 = .ok (.iload_n 1, 1) := dk_27 (dk_at dksX1_license_0 11 rfl rfl)
theorem dX1_license_12 : decode cX1_license 12 = .ok (.iload_n 2, 1) := dk_28 (dk_at dksX1_license_0 12 rfl rfl)
theorem dX1_license_13 : decode cX1_license 13 = .ok (.invokevirtual 185, 3) := dk_182 0 185 (dk_at dksX1_license_0 13 rfl rfl)
theorem dX1_license_16 : decode cX1_license 16 = .ok (.invokevirtual 153, 3) := dk_182 0 153 (dk_at dksX1_license_0 16 rfl rfl)
theorem dX1_license_19 : decode cX1_license 19 = .ok (.ireturn, 1) := dk_172 (dk_at dksX1_license_0 19 rfl rfl)
theorem dX1_license_20 : decode cX1_license 20 = .ok (.astore_n 3, 1) := dk_78 (dk_at dksX1_license_0 20 rfl rfl)
theorem dX1_license_21 : decode cX1_license 21 = .ok (.aload_n 0, 1) := dk_42 (dk_at dksX1_license_0 21 rfl rfl)
theorem dX1_license_22 : decode cX1_license 22 = .ok (.aload_n 3, 1) := dk_45 (dk_at dksX1_license_0 22 rfl rfl)
theorem dX1_license_23 : decode cX1_license 23 = .ok (.invokevirtual 156, 3) := dk_182 0 156 (dk_at dksX1_license_1 0 rfl rfl)
theorem dX1_license_26 : decode cX1_license 26 = .ok (.athrow, 1) := dk_191 (dk_at dksX1_license_1 3 rfl rfl)
abbrev cX1_correct : ByteArray := prog_1_method_28_code
def yX1_correct : MethodName := ⟨RX1, "correct", "(II)I"⟩
def dkwX1_correct_1 : List UInt8 := [182, 0, 156, 191]
abbrev dktX1_correct_1 : List UInt8 := dkwX1_correct_1 ++ []
def dkwX1_correct_0 : List UInt8 := [42, 27, 28, 182, 0, 177, 42, 42, 182, 0, 146, 27, 28, 182, 0, 188, 182, 0, 153, 172, 78, 42, 45]
abbrev dktX1_correct_0 : List UInt8 := dkwX1_correct_0 ++ dktX1_correct_1
theorem dksX1_correct_0 : cX1_correct.data.toList.drop 0 = dktX1_correct_0 := by decide +kernel
theorem dksX1_correct_1 : cX1_correct.data.toList.drop 23 = dktX1_correct_1 := dk_seg dksX1_correct_0 23 rfl rfl
theorem dX1_correct_0 : decode cX1_correct 0 = .ok (.aload_n 0, 1) := dk_42 (dk_at dksX1_correct_0 0 rfl rfl)
theorem dX1_correct_1 : decode cX1_correct 1 = .ok (.iload_n 1, 1) := dk_27 (dk_at dksX1_correct_0 1 rfl rfl)
theorem dX1_correct_2 : decode cX1_correct 2 = .ok (.iload_n 2, 1) := dk_28 (dk_at dksX1_correct_0 2 rfl rfl)
theorem dX1_correct_3 : decode cX1_correct 3 = .ok (.invokevirtual 177, 3) := dk_182 0 177 (dk_at dksX1_correct_0 3 rfl rfl)
theorem dX1_correct_6 : decode cX1_correct 6 = .ok (.aload_n 0, 1) := dk_42 (dk_at dksX1_correct_0 6 rfl rfl)
theorem dX1_correct_7 : decode cX1_correct 7 = .ok (.aload_n 0, 1) := dk_42 (dk_at dksX1_correct_0 7 rfl rfl)
theorem dX1_correct_8 : decode cX1_correct 8 = .ok (.invokevirtual 146, 3) := dk_182 0 146 (dk_at dksX1_correct_0 8 rfl rfl)
theorem dX1_correct_11 : decode cX1_correct 11 = .ok (.iload_n 1, 1) := dk_27 (dk_at dksX1_correct_0 11 rfl rfl)
theorem dX1_correct_12 : decode cX1_correct 12 = .ok (.iload_n 2, 1) := dk_28 (dk_at dksX1_correct_0 12 rfl rfl)
theorem dX1_correct_13 : decode cX1_correct 13 = .ok (.invokevirtual 188, 3) := dk_182 0 188 (dk_at dksX1_correct_0 13 rfl rfl)
theorem dX1_correct_16 : decode cX1_correct 16 = .ok (.invokevirtual 153, 3) := dk_182 0 153 (dk_at dksX1_correct_0 16 rfl rfl)
theorem dX1_correct_19 : decode cX1_correct 19 = .ok (.ireturn, 1) := dk_172 (dk_at dksX1_correct_0 19 rfl rfl)
theorem dX1_correct_20 : decode cX1_correct 20 = .ok (.astore_n 3, 1) := dk_78 (dk_at dksX1_correct_0 20 rfl rfl)
theorem dX1_correct_21 : decode cX1_correct 21 = .ok (.aload_n 0, 1) := dk_42 (dk_at dksX1_correct_0 21 rfl rfl)
theorem dX1_correct_22 : decode cX1_correct 22 = .ok (.aload_n 3, 1) := dk_45 (dk_at dksX1_correct_0 22 rfl rfl)
theorem dX1_correct_23 : decode cX1_correct 23 = .ok (.invokevirtual 156, 3) := dk_182 0 156 (dk_at dksX1_correct_1 0 rfl rfl)
theorem dX1_correct_26 : decode cX1_correct 26 = .ok (.athrow, 1) := dk_191 (dk_at dksX1_correct_1 3 rfl rfl)
abbrev cX1_reader : ByteArray := prog_1_method_29_code
def yX1_reader : MethodName := ⟨RX1, "reader", "(II)I"⟩
def dkwX1_reader_1 : List UInt8 := [45, 182, 0, 156, 191]
abbrev dktX1_reader_1 : List UInt8 := dkwX1_reader_1 ++ []
def dkwX1_reader_0 : List UInt8 := [27, 28, 184, 0, 191, 184, 0, 143, 42, 42, 182, 0, 146, 27, 28, 182, 0, 194, 182, 0, 153, 172, 78, 42]
abbrev dktX1_reader_0 : List UInt8 := dkwX1_reader_0 ++ dktX1_reader_1
theorem dksX1_reader_0 : cX1_reader.data.toList.drop 0 = dktX1_reader_0 := by decide +kernel
theorem dksX1_reader_1 : cX1_reader.data.toList.drop 24 = dktX1_reader_1 := dk_seg dksX1_reader_0 24 rfl rfl
theorem dX1_reader_0 : decode cX1_reader 0 = .ok (.iload_n 1, 1) := dk_27 (dk_at dksX1_reader_0 0 rfl rfl)
theorem dX1_reader_1 : decode cX1_reader 1 = .ok (.iload_n 2, 1) := dk_28 (dk_at dksX1_reader_0 1 rfl rfl)
theorem dX1_reader_2 : decode cX1_reader 2 = .ok (.invokestatic 191, 3) := dk_184 0 191 (dk_at dksX1_reader_0 2 rfl rfl)
theorem dX1_reader_5 : decode cX1_reader 5 = .ok (.invokestatic 143, 3) := dk_184 0 143 (dk_at dksX1_reader_0 5 rfl rfl)
theorem dX1_reader_8 : decode cX1_reader 8 = .ok (.aload_n 0, 1) := dk_42 (dk_at dksX1_reader_0 8 rfl rfl)
theorem dX1_reader_9 : decode cX1_reader 9 = .ok (.aload_n 0, 1) := dk_42 (dk_at dksX1_reader_0 9 rfl rfl)
theorem dX1_reader_10 : decode cX1_reader 10 = .ok (.invokevirtual 146, 3) := dk_182 0 146 (dk_at dksX1_reader_0 10 rfl rfl)
theorem dX1_reader_13 : decode cX1_reader 13 = .ok (.iload_n 1, 1) := dk_27 (dk_at dksX1_reader_0 13 rfl rfl)
theorem dX1_reader_14 : decode cX1_reader 14 = .ok (.iload_n 2, 1) := dk_28 (dk_at dksX1_reader_0 14 rfl rfl)
theorem dX1_reader_15 : decode cX1_reader 15 = .ok (.invokevirtual 194, 3) := dk_182 0 194 (dk_at dksX1_reader_0 15 rfl rfl)
theorem dX1_reader_18 : decode cX1_reader 18 = .ok (.invokevirtual 153, 3) := dk_182 0 153 (dk_at dksX1_reader_0 18 rfl rfl)
theorem dX1_reader_21 : decode cX1_reader 21 = .ok (.ireturn, 1) := dk_172 (dk_at dksX1_reader_0 21 rfl rfl)
theorem dX1_reader_22 : decode cX1_reader 22 = .ok (.astore_n 3, 1) := dk_78 (dk_at dksX1_reader_0 22 rfl rfl)
theorem dX1_reader_23 : decode cX1_reader 23 = .ok (.aload_n 0, 1) := dk_42 (dk_at dksX1_reader_0 23 rfl rfl)
theorem dX1_reader_24 : decode cX1_reader 24 = .ok (.aload_n 3, 1) := dk_45 (dk_at dksX1_reader_1 0 rfl rfl)
theorem dX1_reader_25 : decode cX1_reader 25 = .ok (.invokevirtual 156, 3) := dk_182 0 156 (dk_at dksX1_reader_1 1 rfl rfl)
theorem dX1_reader_28 : decode cX1_reader 28 = .ok (.athrow, 1) := dk_191 (dk_at dksX1_reader_1 4 rfl rfl)
abbrev cX1_isReader : ByteArray := prog_1_method_7_code
def yX1_isReader : MethodName := ⟨RX1, "isReader", "(II)Z"⟩
def dkwX1_isReader_1 : List UInt8 := [172]
abbrev dktX1_isReader_1 : List UInt8 := dkwX1_isReader_1 ++ []
def dkwX1_isReader_0 : List UInt8 := [26, 3, 4, 184, 0, 26, 153, 0, 17, 27, 4, 16, 6, 184, 0, 26, 153, 0, 7, 4, 167, 0, 4, 3]
abbrev dktX1_isReader_0 : List UInt8 := dkwX1_isReader_0 ++ dktX1_isReader_1
theorem dksX1_isReader_0 : cX1_isReader.data.toList.drop 0 = dktX1_isReader_0 := by decide +kernel
theorem dksX1_isReader_1 : cX1_isReader.data.toList.drop 24 = dktX1_isReader_1 := dk_seg dksX1_isReader_0 24 rfl rfl
theorem dX1_isReader_0 : decode cX1_isReader 0 = .ok (.iload_n 0, 1) := dk_26 (dk_at dksX1_isReader_0 0 rfl rfl)
theorem dX1_isReader_1 : decode cX1_isReader 1 = .ok (.iconst 0, 1) := dk_3 (dk_at dksX1_isReader_0 1 rfl rfl)
theorem dX1_isReader_2 : decode cX1_isReader 2 = .ok (.iconst 1, 1) := dk_4 (dk_at dksX1_isReader_0 2 rfl rfl)
theorem dX1_isReader_3 : decode cX1_isReader 3 = .ok (.invokestatic 26, 3) := dk_184 0 26 (dk_at dksX1_isReader_0 3 rfl rfl)
theorem dX1_isReader_6 : decode cX1_isReader 6 = .ok (.ifCond .eq 17, 3) := dk_153 0 17 (dk_at dksX1_isReader_0 6 rfl rfl)
theorem dX1_isReader_9 : decode cX1_isReader 9 = .ok (.iload_n 1, 1) := dk_27 (dk_at dksX1_isReader_0 9 rfl rfl)
theorem dX1_isReader_10 : decode cX1_isReader 10 = .ok (.iconst 1, 1) := dk_4 (dk_at dksX1_isReader_0 10 rfl rfl)
theorem dX1_isReader_11 : decode cX1_isReader 11 = .ok (.bipush 6, 2) := dk_16 6 (dk_at dksX1_isReader_0 11 rfl rfl)
theorem dX1_isReader_13 : decode cX1_isReader 13 = .ok (.invokestatic 26, 3) := dk_184 0 26 (dk_at dksX1_isReader_0 13 rfl rfl)
theorem dX1_isReader_16 : decode cX1_isReader 16 = .ok (.ifCond .eq 7, 3) := dk_153 0 7 (dk_at dksX1_isReader_0 16 rfl rfl)
theorem dX1_isReader_19 : decode cX1_isReader 19 = .ok (.iconst 1, 1) := dk_4 (dk_at dksX1_isReader_0 19 rfl rfl)
theorem dX1_isReader_20 : decode cX1_isReader 20 = .ok (.goto 4, 3) := dk_167 0 4 (dk_at dksX1_isReader_0 20 rfl rfl)
theorem dX1_isReader_23 : decode cX1_isReader 23 = .ok (.iconst 0, 1) := dk_3 (dk_at dksX1_isReader_0 23 rfl rfl)
theorem dX1_isReader_24 : decode cX1_isReader 24 = .ok (.ireturn, 1) := dk_172 (dk_at dksX1_isReader_1 0 rfl rfl)
abbrev cX1_laugh : ByteArray := prog_1_method_4_code
def yX1_laugh : MethodName := ⟨RX1, "laugh", "(II)LErrataPress$Laugh;"⟩
def dkwX1_laugh_0 : List UInt8 := [26, 154, 0, 10, 27, 186, 0, 17, 0, 0, 176, 27, 186, 0, 21, 0, 0, 176]
abbrev dktX1_laugh_0 : List UInt8 := dkwX1_laugh_0 ++ []
theorem dksX1_laugh_0 : cX1_laugh.data.toList.drop 0 = dktX1_laugh_0 := by decide +kernel
theorem dX1_laugh_0 : decode cX1_laugh 0 = .ok (.iload_n 0, 1) := dk_26 (dk_at dksX1_laugh_0 0 rfl rfl)
theorem dX1_laugh_1 : decode cX1_laugh 1 = .ok (.ifCond .ne 10, 3) := dk_154 0 10 (dk_at dksX1_laugh_0 1 rfl rfl)
theorem dX1_laugh_4 : decode cX1_laugh 4 = .ok (.iload_n 1, 1) := dk_27 (dk_at dksX1_laugh_0 4 rfl rfl)
theorem dX1_laugh_5 : decode cX1_laugh 5 = .ok (.invokedynamic 17, 5) := by decide +kernel
theorem dX1_laugh_10 : decode cX1_laugh 10 = .ok (.areturn, 1) := dk_176 (dk_at dksX1_laugh_0 10 rfl rfl)
theorem dX1_laugh_11 : decode cX1_laugh 11 = .ok (.iload_n 1, 1) := dk_27 (dk_at dksX1_laugh_0 11 rfl rfl)
theorem dX1_laugh_12 : decode cX1_laugh 12 = .ok (.invokedynamic 21, 5) := by decide +kernel
theorem dX1_laugh_17 : decode cX1_laugh 17 = .ok (.areturn, 1) := dk_176 (dk_at dksX1_laugh_0 17 rfl rfl)
abbrev cX1_lambda_laugh_3 : ByteArray := prog_1_method_62_code
def yX1_lambda_laugh_3 : MethodName := ⟨RX1, "lambda$laugh$3", "(III)Z"⟩
def dkwX1_lambda_laugh_3_0 : List UInt8 := [27, 26, 160, 0, 7, 4, 167, 0, 4, 3, 172]
abbrev dktX1_lambda_laugh_3_0 : List UInt8 := dkwX1_lambda_laugh_3_0 ++ []
theorem dksX1_lambda_laugh_3_0 : cX1_lambda_laugh_3.data.toList.drop 0 = dktX1_lambda_laugh_3_0 := by decide +kernel
theorem dX1_lambda_laugh_3_0 : decode cX1_lambda_laugh_3 0 = .ok (.iload_n 1, 1) := dk_27 (dk_at dksX1_lambda_laugh_3_0 0 rfl rfl)
theorem dX1_lambda_laugh_3_1 : decode cX1_lambda_laugh_3 1 = .ok (.iload_n 0, 1) := dk_26 (dk_at dksX1_lambda_laugh_3_0 1 rfl rfl)
theorem dX1_lambda_laugh_3_2 : decode cX1_lambda_laugh_3 2 = .ok (.if_icmp .ne 7, 3) := dk_160 0 7 (dk_at dksX1_lambda_laugh_3_0 2 rfl rfl)
theorem dX1_lambda_laugh_3_5 : decode cX1_lambda_laugh_3 5 = .ok (.iconst 1, 1) := dk_4 (dk_at dksX1_lambda_laugh_3_0 5 rfl rfl)
theorem dX1_lambda_laugh_3_6 : decode cX1_lambda_laugh_3 6 = .ok (.goto 4, 3) := dk_167 0 4 (dk_at dksX1_lambda_laugh_3_0 6 rfl rfl)
theorem dX1_lambda_laugh_3_9 : decode cX1_lambda_laugh_3 9 = .ok (.iconst 0, 1) := dk_3 (dk_at dksX1_lambda_laugh_3_0 9 rfl rfl)
theorem dX1_lambda_laugh_3_10 : decode cX1_lambda_laugh_3 10 = .ok (.ireturn, 1) := dk_172 (dk_at dksX1_lambda_laugh_3_0 10 rfl rfl)
abbrev cX1_lambda_laugh_4 : ByteArray := prog_1_method_61_code
def yX1_lambda_laugh_4 : MethodName := ⟨RX1, "lambda$laugh$4", "(III)Z"⟩
def dkwX1_lambda_laugh_4_0 : List UInt8 := [28, 26, 161, 0, 7, 4, 167, 0, 4, 3, 172]
abbrev dktX1_lambda_laugh_4_0 : List UInt8 := dkwX1_lambda_laugh_4_0 ++ []
theorem dksX1_lambda_laugh_4_0 : cX1_lambda_laugh_4.data.toList.drop 0 = dktX1_lambda_laugh_4_0 := by decide +kernel
theorem dX1_lambda_laugh_4_0 : decode cX1_lambda_laugh_4 0 = .ok (.iload_n 2, 1) := dk_28 (dk_at dksX1_lambda_laugh_4_0 0 rfl rfl)
theorem dX1_lambda_laugh_4_1 : decode cX1_lambda_laugh_4 1 = .ok (.iload_n 0, 1) := dk_26 (dk_at dksX1_lambda_laugh_4_0 1 rfl rfl)
theorem dX1_lambda_laugh_4_2 : decode cX1_lambda_laugh_4 2 = .ok (.if_icmp .lt 7, 3) := dk_161 0 7 (dk_at dksX1_lambda_laugh_4_0 2 rfl rfl)
theorem dX1_lambda_laugh_4_5 : decode cX1_lambda_laugh_4 5 = .ok (.iconst 1, 1) := dk_4 (dk_at dksX1_lambda_laugh_4_0 5 rfl rfl)
theorem dX1_lambda_laugh_4_6 : decode cX1_lambda_laugh_4 6 = .ok (.goto 4, 3) := dk_167 0 4 (dk_at dksX1_lambda_laugh_4_0 6 rfl rfl)
theorem dX1_lambda_laugh_4_9 : decode cX1_lambda_laugh_4 9 = .ok (.iconst 0, 1) := dk_3 (dk_at dksX1_lambda_laugh_4_0 9 rfl rfl)
theorem dX1_lambda_laugh_4_10 : decode cX1_lambda_laugh_4 10 = .ok (.ireturn, 1) := dk_172 (dk_at dksX1_lambda_laugh_4_0 10 rfl rfl)
abbrev cX1_edition : ByteArray := prog_1_method_30_code
def yX1_edition : MethodName := ⟨RX1, "edition", "()I"⟩
def dkwX1_edition_0 : List UInt8 := [42, 42, 182, 0, 146, 182, 0, 196, 182, 0, 153, 172, 76, 42, 43, 182, 0, 156, 191]
abbrev dktX1_edition_0 : List UInt8 := dkwX1_edition_0 ++ []
theorem dksX1_edition_0 : cX1_edition.data.toList.drop 0 = dktX1_edition_0 := by decide +kernel
theorem dX1_edition_0 : decode cX1_edition 0 = .ok (.aload_n 0, 1) := dk_42 (dk_at dksX1_edition_0 0 rfl rfl)
theorem dX1_edition_1 : decode cX1_edition 1 = .ok (.aload_n 0, 1) := dk_42 (dk_at dksX1_edition_0 1 rfl rfl)
theorem dX1_edition_2 : decode cX1_edition 2 = .ok (.invokevirtual 146, 3) := dk_182 0 146 (dk_at dksX1_edition_0 2 rfl rfl)
theorem dX1_edition_5 : decode cX1_edition 5 = .ok (.invokevirtual 196, 3) := dk_182 0 196 (dk_at dksX1_edition_0 5 rfl rfl)
theorem dX1_edition_8 : decode cX1_edition 8 = .ok (.invokevirtual 153, 3) := dk_182 0 153 (dk_at dksX1_edition_0 8 rfl rfl)
theorem dX1_edition_11 : decode cX1_edition 11 = .ok (.ireturn, 1) := dk_172 (dk_at dksX1_edition_0 11 rfl rfl)
theorem dX1_edition_12 : decode cX1_edition 12 = .ok (.astore_n 1, 1) := dk_76 (dk_at dksX1_edition_0 12 rfl rfl)
theorem dX1_edition_13 : decode cX1_edition 13 = .ok (.aload_n 0, 1) := dk_42 (dk_at dksX1_edition_0 13 rfl rfl)
theorem dX1_edition_14 : decode cX1_edition 14 = .ok (.aload_n 1, 1) := dk_43 (dk_at dksX1_edition_0 14 rfl rfl)
theorem dX1_edition_15 : decode cX1_edition 15 = .ok (.invokevirtual 156, 3) := dk_182 0 156 (dk_at dksX1_edition_0 15 rfl rfl)
theorem dX1_edition_18 : decode cX1_edition 18 = .ok (.athrow, 1) := dk_191 (dk_at dksX1_edition_0 18 rfl rfl)
abbrev cX1_houseOf : ByteArray := prog_1_method_32_code
def yX1_houseOf : MethodName := ⟨RX1, "houseOf", "(II)I"⟩
def dkwX1_houseOf_4 : List UInt8 := [180, 0, 203, 27, 50, 180, 0, 227, 172]
abbrev dktX1_houseOf_4 : List UInt8 := dkwX1_houseOf_4 ++ []
def dkwX1_houseOf_3 : List UInt8 := [182, 0, 215, 172, 45, 27, 182, 0, 218, 172, 45, 27, 182, 0, 221, 172, 45, 27, 182, 0, 224, 172, 45]
abbrev dktX1_houseOf_3 : List UInt8 := dkwX1_houseOf_3 ++ dktX1_houseOf_4
def dkwX1_houseOf_2 : List UInt8 := [45, 180, 0, 203, 27, 50, 180, 0, 207, 172, 45, 180, 0, 203, 27, 50, 180, 0, 212, 172, 45, 27]
abbrev dktX1_houseOf_2 : List UInt8 := dkwX1_houseOf_2 ++ dktX1_houseOf_3
def dkwX1_houseOf_1 : List UInt8 := [170, 0, 0, 0, 0, 0, 83, 0, 0, 0, 0, 0, 0, 0, 5, 0, 0, 0, 39, 0, 0, 0, 49, 0, 0, 0, 59, 0, 0, 0, 65, 0, 0, 0, 71, 0, 0, 0, 77]
abbrev dktX1_houseOf_1 : List UInt8 := dkwX1_houseOf_1 ++ dktX1_houseOf_2
def dkwX1_houseOf_0 : List UInt8 := [42, 27, 182, 0, 160, 28, 3, 16, 6, 184, 0, 26, 184, 0, 143, 42, 180, 0, 38, 78, 28]
abbrev dktX1_houseOf_0 : List UInt8 := dkwX1_houseOf_0 ++ dktX1_houseOf_1
theorem dksX1_houseOf_0 : cX1_houseOf.data.toList.drop 0 = dktX1_houseOf_0 := by decide +kernel
theorem dksX1_houseOf_1 : cX1_houseOf.data.toList.drop 21 = dktX1_houseOf_1 := dk_seg dksX1_houseOf_0 21 rfl rfl
theorem dksX1_houseOf_2 : cX1_houseOf.data.toList.drop 60 = dktX1_houseOf_2 := dk_seg dksX1_houseOf_1 39 rfl rfl
theorem dksX1_houseOf_3 : cX1_houseOf.data.toList.drop 82 = dktX1_houseOf_3 := dk_seg dksX1_houseOf_2 22 rfl rfl
theorem dksX1_houseOf_4 : cX1_houseOf.data.toList.drop 105 = dktX1_houseOf_4 := dk_seg dksX1_houseOf_3 23 rfl rfl
theorem dX1_houseOf_0 : decode cX1_houseOf 0 = .ok (.aload_n 0, 1) := dk_42 (dk_at dksX1_houseOf_0 0 rfl rfl)
theorem dX1_houseOf_1 : decode cX1_houseOf 1 = .ok (.iload_n 1, 1) := dk_27 (dk_at dksX1_houseOf_0 1 rfl rfl)
theorem dX1_houseOf_2 : decode cX1_houseOf 2 = .ok (.invokevirtual 160, 3) := dk_182 0 160 (dk_at dksX1_houseOf_0 2 rfl rfl)
theorem dX1_houseOf_5 : decode cX1_houseOf 5 = .ok (.iload_n 2, 1) := dk_28 (dk_at dksX1_houseOf_0 5 rfl rfl)
theorem dX1_houseOf_6 : decode cX1_houseOf 6 = .ok (.iconst 0, 1) := dk_3 (dk_at dksX1_houseOf_0 6 rfl rfl)
theorem dX1_houseOf_7 : decode cX1_houseOf 7 = .ok (.bipush 6, 2) := dk_16 6 (dk_at dksX1_houseOf_0 7 rfl rfl)
theorem dX1_houseOf_9 : decode cX1_houseOf 9 = .ok (.invokestatic 26, 3) := dk_184 0 26 (dk_at dksX1_houseOf_0 9 rfl rfl)
theorem dX1_houseOf_12 : decode cX1_houseOf 12 = .ok (.invokestatic 143, 3) := dk_184 0 143 (dk_at dksX1_houseOf_0 12 rfl rfl)
theorem dX1_houseOf_15 : decode cX1_houseOf 15 = .ok (.aload_n 0, 1) := dk_42 (dk_at dksX1_houseOf_0 15 rfl rfl)
theorem dX1_houseOf_16 : decode cX1_houseOf 16 = .ok (.getfield 38, 3) := dk_180 0 38 (dk_at dksX1_houseOf_0 16 rfl rfl)
theorem dX1_houseOf_19 : decode cX1_houseOf 19 = .ok (.astore_n 3, 1) := dk_78 (dk_at dksX1_houseOf_0 19 rfl rfl)
theorem dX1_houseOf_20 : decode cX1_houseOf 20 = .ok (.iload_n 2, 1) := dk_28 (dk_at dksX1_houseOf_0 20 rfl rfl)
theorem dX1_houseOf_21 : decode cX1_houseOf 21 = .ok (.tableswitch 83 0 5 #[39, 49, 59, 65, 71, 77], 39) := by decide +kernel
theorem dX1_houseOf_60 : decode cX1_houseOf 60 = .ok (.aload_n 3, 1) := dk_45 (dk_at dksX1_houseOf_2 0 rfl rfl)
theorem dX1_houseOf_61 : decode cX1_houseOf 61 = .ok (.getfield 203, 3) := dk_180 0 203 (dk_at dksX1_houseOf_2 1 rfl rfl)
theorem dX1_houseOf_64 : decode cX1_houseOf 64 = .ok (.iload_n 1, 1) := dk_27 (dk_at dksX1_houseOf_2 4 rfl rfl)
theorem dX1_houseOf_65 : decode cX1_houseOf 65 = .ok (.aaload, 1) := dk_50 (dk_at dksX1_houseOf_2 5 rfl rfl)
theorem dX1_houseOf_66 : decode cX1_houseOf 66 = .ok (.getfield 207, 3) := dk_180 0 207 (dk_at dksX1_houseOf_2 6 rfl rfl)
theorem dX1_houseOf_69 : decode cX1_houseOf 69 = .ok (.ireturn, 1) := dk_172 (dk_at dksX1_houseOf_2 9 rfl rfl)
theorem dX1_houseOf_70 : decode cX1_houseOf 70 = .ok (.aload_n 3, 1) := dk_45 (dk_at dksX1_houseOf_2 10 rfl rfl)
theorem dX1_houseOf_71 : decode cX1_houseOf 71 = .ok (.getfield 203, 3) := dk_180 0 203 (dk_at dksX1_houseOf_2 11 rfl rfl)
theorem dX1_houseOf_74 : decode cX1_houseOf 74 = .ok (.iload_n 1, 1) := dk_27 (dk_at dksX1_houseOf_2 14 rfl rfl)
theorem dX1_houseOf_75 : decode cX1_houseOf 75 = .ok (.aaload, 1) := dk_50 (dk_at dksX1_houseOf_2 15 rfl rfl)
theorem dX1_houseOf_76 : decode cX1_houseOf 76 = .ok (.getfield 212, 3) := dk_180 0 212 (dk_at dksX1_houseOf_2 16 rfl rfl)
theorem dX1_houseOf_79 : decode cX1_houseOf 79 = .ok (.ireturn, 1) := dk_172 (dk_at dksX1_houseOf_2 19 rfl rfl)
theorem dX1_houseOf_80 : decode cX1_houseOf 80 = .ok (.aload_n 3, 1) := dk_45 (dk_at dksX1_houseOf_2 20 rfl rfl)
theorem dX1_houseOf_81 : decode cX1_houseOf 81 = .ok (.iload_n 1, 1) := dk_27 (dk_at dksX1_houseOf_2 21 rfl rfl)
theorem dX1_houseOf_82 : decode cX1_houseOf 82 = .ok (.invokevirtual 215, 3) := dk_182 0 215 (dk_at dksX1_houseOf_3 0 rfl rfl)
theorem dX1_houseOf_85 : decode cX1_houseOf 85 = .ok (.ireturn, 1) := dk_172 (dk_at dksX1_houseOf_3 3 rfl rfl)
theorem dX1_houseOf_86 : decode cX1_houseOf 86 = .ok (.aload_n 3, 1) := dk_45 (dk_at dksX1_houseOf_3 4 rfl rfl)
theorem dX1_houseOf_87 : decode cX1_houseOf 87 = .ok (.iload_n 1, 1) := dk_27 (dk_at dksX1_houseOf_3 5 rfl rfl)
theorem dX1_houseOf_88 : decode cX1_houseOf 88 = .ok (.invokevirtual 218, 3) := dk_182 0 218 (dk_at dksX1_houseOf_3 6 rfl rfl)
theorem dX1_houseOf_91 : decode cX1_houseOf 91 = .ok (.ireturn, 1) := dk_172 (dk_at dksX1_houseOf_3 9 rfl rfl)
theorem dX1_houseOf_92 : decode cX1_houseOf 92 = .ok (.aload_n 3, 1) := dk_45 (dk_at dksX1_houseOf_3 10 rfl rfl)
theorem dX1_houseOf_93 : decode cX1_houseOf 93 = .ok (.iload_n 1, 1) := dk_27 (dk_at dksX1_houseOf_3 11 rfl rfl)
theorem dX1_houseOf_94 : decode cX1_houseOf 94 = .ok (.invokevirtual 221, 3) := dk_182 0 221 (dk_at dksX1_houseOf_3 12 rfl rfl)
theorem dX1_houseOf_97 : decode cX1_houseOf 97 = .ok (.ireturn, 1) := dk_172 (dk_at dksX1_houseOf_3 15 rfl rfl)
theorem dX1_houseOf_98 : decode cX1_houseOf 98 = .ok (.aload_n 3, 1) := dk_45 (dk_at dksX1_houseOf_3 16 rfl rfl)
theorem dX1_houseOf_99 : decode cX1_houseOf 99 = .ok (.iload_n 1, 1) := dk_27 (dk_at dksX1_houseOf_3 17 rfl rfl)
theorem dX1_houseOf_100 : decode cX1_houseOf 100 = .ok (.invokevirtual 224, 3) := dk_182 0 224 (dk_at dksX1_houseOf_3 18 rfl rfl)
theorem dX1_houseOf_103 : decode cX1_houseOf 103 = .ok (.ireturn, 1) := dk_172 (dk_at dksX1_houseOf_3 21 rfl rfl)
theorem dX1_houseOf_104 : decode cX1_houseOf 104 = .ok (.aload_n 3, 1) := dk_45 (dk_at dksX1_houseOf_3 22 rfl rfl)
theorem dX1_houseOf_105 : decode cX1_houseOf 105 = .ok (.getfield 203, 3) := dk_180 0 203 (dk_at dksX1_houseOf_4 0 rfl rfl)
theorem dX1_houseOf_108 : decode cX1_houseOf 108 = .ok (.iload_n 1, 1) := dk_27 (dk_at dksX1_houseOf_4 3 rfl rfl)
theorem dX1_houseOf_109 : decode cX1_houseOf 109 = .ok (.aaload, 1) := dk_50 (dk_at dksX1_houseOf_4 4 rfl rfl)
theorem dX1_houseOf_110 : decode cX1_houseOf 110 = .ok (.getfield 227, 3) := dk_180 0 227 (dk_at dksX1_houseOf_4 5 rfl rfl)
theorem dX1_houseOf_113 : decode cX1_houseOf 113 = .ok (.ireturn, 1) := dk_172 (dk_at dksX1_houseOf_4 8 rfl rfl)
abbrev cX1_sheetOf : ByteArray := prog_1_method_33_code
def yX1_sheetOf : MethodName := ⟨RX1, "sheetOf", "(II)I"⟩
def dkwX1_sheetOf_4 : List UInt8 := [182, 0, 241, 172, 45, 182, 0, 244, 172]
abbrev dktX1_sheetOf_4 : List UInt8 := dkwX1_sheetOf_4 ++ []
def dkwX1_sheetOf_3 : List UInt8 := [45, 180, 0, 234, 172, 45, 180, 0, 238, 172, 45, 4, 182, 0, 241, 172, 45, 5, 182, 0, 241, 172, 45, 6]
abbrev dktX1_sheetOf_3 : List UInt8 := dkwX1_sheetOf_3 ++ dktX1_sheetOf_4
def dkwX1_sheetOf_2 : List UInt8 := [170, 0, 0, 0, 0, 0, 63, 0, 0, 0, 0, 0, 0, 0, 4, 0, 0, 0, 35, 0, 0, 0, 40, 0, 0, 0, 45, 0, 0, 0, 51, 0, 0, 0, 57]
abbrev dktX1_sheetOf_2 : List UInt8 := dkwX1_sheetOf_2 ++ dktX1_sheetOf_3
def dkwX1_sheetOf_1 : List UInt8 := [28]
abbrev dktX1_sheetOf_1 : List UInt8 := dkwX1_sheetOf_1 ++ dktX1_sheetOf_2
def dkwX1_sheetOf_0 : List UInt8 := [42, 27, 182, 0, 171, 28, 3, 8, 184, 0, 26, 184, 0, 143, 42, 180, 0, 38, 180, 0, 230, 27, 50, 78]
abbrev dktX1_sheetOf_0 : List UInt8 := dkwX1_sheetOf_0 ++ dktX1_sheetOf_1
theorem dksX1_sheetOf_0 : cX1_sheetOf.data.toList.drop 0 = dktX1_sheetOf_0 := by decide +kernel
theorem dksX1_sheetOf_1 : cX1_sheetOf.data.toList.drop 24 = dktX1_sheetOf_1 := dk_seg dksX1_sheetOf_0 24 rfl rfl
theorem dksX1_sheetOf_2 : cX1_sheetOf.data.toList.drop 25 = dktX1_sheetOf_2 := dk_seg dksX1_sheetOf_1 1 rfl rfl
theorem dksX1_sheetOf_3 : cX1_sheetOf.data.toList.drop 60 = dktX1_sheetOf_3 := dk_seg dksX1_sheetOf_2 35 rfl rfl
theorem dksX1_sheetOf_4 : cX1_sheetOf.data.toList.drop 84 = dktX1_sheetOf_4 := dk_seg dksX1_sheetOf_3 24 rfl rfl
theorem dX1_sheetOf_0 : decode cX1_sheetOf 0 = .ok (.aload_n 0, 1) := dk_42 (dk_at dksX1_sheetOf_0 0 rfl rfl)
theorem dX1_sheetOf_1 : decode cX1_sheetOf 1 = .ok (.iload_n 1, 1) := dk_27 (dk_at dksX1_sheetOf_0 1 rfl rfl)
theorem dX1_sheetOf_2 : decode cX1_sheetOf 2 = .ok (.invokevirtual 171, 3) := dk_182 0 171 (dk_at dksX1_sheetOf_0 2 rfl rfl)
theorem dX1_sheetOf_5 : decode cX1_sheetOf 5 = .ok (.iload_n 2, 1) := dk_28 (dk_at dksX1_sheetOf_0 5 rfl rfl)
theorem dX1_sheetOf_6 : decode cX1_sheetOf 6 = .ok (.iconst 0, 1) := dk_3 (dk_at dksX1_sheetOf_0 6 rfl rfl)
theorem dX1_sheetOf_7 : decode cX1_sheetOf 7 = .ok (.iconst 5, 1) := dk_8 (dk_at dksX1_sheetOf_0 7 rfl rfl)
theorem dX1_sheetOf_8 : decode cX1_sheetOf 8 = .ok (.invokestatic 26, 3) := dk_184 0 26 (dk_at dksX1_sheetOf_0 8 rfl rfl)
theorem dX1_sheetOf_11 : decode cX1_sheetOf 11 = .ok (.invokestatic 143, 3) := dk_184 0 143 (dk_at dksX1_sheetOf_0 11 rfl rfl)
theorem dX1_sheetOf_14 : decode cX1_sheetOf 14 = .ok (.aload_n 0, 1) := dk_42 (dk_at dksX1_sheetOf_0 14 rfl rfl)
theorem dX1_sheetOf_15 : decode cX1_sheetOf 15 = .ok (.getfield 38, 3) := dk_180 0 38 (dk_at dksX1_sheetOf_0 15 rfl rfl)
theorem dX1_sheetOf_18 : decode cX1_sheetOf 18 = .ok (.getfield 230, 3) := dk_180 0 230 (dk_at dksX1_sheetOf_0 18 rfl rfl)
theorem dX1_sheetOf_21 : decode cX1_sheetOf 21 = .ok (.iload_n 1, 1) := dk_27 (dk_at dksX1_sheetOf_0 21 rfl rfl)
theorem dX1_sheetOf_22 : decode cX1_sheetOf 22 = .ok (.aaload, 1) := dk_50 (dk_at dksX1_sheetOf_0 22 rfl rfl)
theorem dX1_sheetOf_23 : decode cX1_sheetOf 23 = .ok (.astore_n 3, 1) := dk_78 (dk_at dksX1_sheetOf_0 23 rfl rfl)
theorem dX1_sheetOf_24 : decode cX1_sheetOf 24 = .ok (.iload_n 2, 1) := dk_28 (dk_at dksX1_sheetOf_1 0 rfl rfl)
theorem dX1_sheetOf_25 : decode cX1_sheetOf 25 = .ok (.tableswitch 63 0 4 #[35, 40, 45, 51, 57], 35) := by decide +kernel
theorem dX1_sheetOf_60 : decode cX1_sheetOf 60 = .ok (.aload_n 3, 1) := dk_45 (dk_at dksX1_sheetOf_3 0 rfl rfl)
theorem dX1_sheetOf_61 : decode cX1_sheetOf 61 = .ok (.getfield 234, 3) := dk_180 0 234 (dk_at dksX1_sheetOf_3 1 rfl rfl)
theorem dX1_sheetOf_64 : decode cX1_sheetOf 64 = .ok (.ireturn, 1) := dk_172 (dk_at dksX1_sheetOf_3 4 rfl rfl)
theorem dX1_sheetOf_65 : decode cX1_sheetOf 65 = .ok (.aload_n 3, 1) := dk_45 (dk_at dksX1_sheetOf_3 5 rfl rfl)
theorem dX1_sheetOf_66 : decode cX1_sheetOf 66 = .ok (.getfield 238, 3) := dk_180 0 238 (dk_at dksX1_sheetOf_3 6 rfl rfl)
theorem dX1_sheetOf_69 : decode cX1_sheetOf 69 = .ok (.ireturn, 1) := dk_172 (dk_at dksX1_sheetOf_3 9 rfl rfl)
theorem dX1_sheetOf_70 : decode cX1_sheetOf 70 = .ok (.aload_n 3, 1) := dk_45 (dk_at dksX1_sheetOf_3 10 rfl rfl)
theorem dX1_sheetOf_71 : decode cX1_sheetOf 71 = .ok (.iconst 1, 1) := dk_4 (dk_at dksX1_sheetOf_3 11 rfl rfl)
theorem dX1_sheetOf_72 : decode cX1_sheetOf 72 = .ok (.invokevirtual 241, 3) := dk_182 0 241 (dk_at dksX1_sheetOf_3 12 rfl rfl)
theorem dX1_sheetOf_75 : decode cX1_sheetOf 75 = .ok (.ireturn, 1) := dk_172 (dk_at dksX1_sheetOf_3 15 rfl rfl)
theorem dX1_sheetOf_76 : decode cX1_sheetOf 76 = .ok (.aload_n 3, 1) := dk_45 (dk_at dksX1_sheetOf_3 16 rfl rfl)
theorem dX1_sheetOf_77 : decode cX1_sheetOf 77 = .ok (.iconst 2, 1) := dk_5 (dk_at dksX1_sheetOf_3 17 rfl rfl)
theorem dX1_sheetOf_78 : decode cX1_sheetOf 78 = .ok (.invokevirtual 241, 3) := dk_182 0 241 (dk_at dksX1_sheetOf_3 18 rfl rfl)
theorem dX1_sheetOf_81 : decode cX1_sheetOf 81 = .ok (.ireturn, 1) := dk_172 (dk_at dksX1_sheetOf_3 21 rfl rfl)
theorem dX1_sheetOf_82 : decode cX1_sheetOf 82 = .ok (.aload_n 3, 1) := dk_45 (dk_at dksX1_sheetOf_3 22 rfl rfl)
theorem dX1_sheetOf_83 : decode cX1_sheetOf 83 = .ok (.iconst 3, 1) := dk_6 (dk_at dksX1_sheetOf_3 23 rfl rfl)
theorem dX1_sheetOf_84 : decode cX1_sheetOf 84 = .ok (.invokevirtual 241, 3) := dk_182 0 241 (dk_at dksX1_sheetOf_4 0 rfl rfl)
theorem dX1_sheetOf_87 : decode cX1_sheetOf 87 = .ok (.ireturn, 1) := dk_172 (dk_at dksX1_sheetOf_4 3 rfl rfl)
theorem dX1_sheetOf_88 : decode cX1_sheetOf 88 = .ok (.aload_n 3, 1) := dk_45 (dk_at dksX1_sheetOf_4 4 rfl rfl)
theorem dX1_sheetOf_89 : decode cX1_sheetOf 89 = .ok (.invokevirtual 244, 3) := dk_182 0 244 (dk_at dksX1_sheetOf_4 5 rfl rfl)
theorem dX1_sheetOf_92 : decode cX1_sheetOf 92 = .ok (.ireturn, 1) := dk_172 (dk_at dksX1_sheetOf_4 8 rfl rfl)
abbrev cX1_letterAt : ByteArray := prog_1_method_34_code
def yX1_letterAt : MethodName := ⟨RX1, "letterAt", "(IIZ)C"⟩
def dkwX1_letterAt_1 : List UInt8 := [25, 4, 180, 0, 247, 28, 46, 167, 0, 10, 25, 4, 180, 0, 251, 28, 46, 96, 4, 100, 146, 172]
abbrev dktX1_letterAt_1 : List UInt8 := dkwX1_letterAt_1 ++ []
def dkwX1_letterAt_0 : List UInt8 := [42, 27, 28, 182, 0, 177, 42, 180, 0, 38, 180, 0, 230, 27, 50, 58, 4, 16, 97, 29, 153, 0, 13]
abbrev dktX1_letterAt_0 : List UInt8 := dkwX1_letterAt_0 ++ dktX1_letterAt_1
theorem dksX1_letterAt_0 : cX1_letterAt.data.toList.drop 0 = dktX1_letterAt_0 := by decide +kernel
theorem dksX1_letterAt_1 : cX1_letterAt.data.toList.drop 23 = dktX1_letterAt_1 := dk_seg dksX1_letterAt_0 23 rfl rfl
theorem dX1_letterAt_0 : decode cX1_letterAt 0 = .ok (.aload_n 0, 1) := dk_42 (dk_at dksX1_letterAt_0 0 rfl rfl)
theorem dX1_letterAt_1 : decode cX1_letterAt 1 = .ok (.iload_n 1, 1) := dk_27 (dk_at dksX1_letterAt_0 1 rfl rfl)
theorem dX1_letterAt_2 : decode cX1_letterAt 2 = .ok (.iload_n 2, 1) := dk_28 (dk_at dksX1_letterAt_0 2 rfl rfl)
theorem dX1_letterAt_3 : decode cX1_letterAt 3 = .ok (.invokevirtual 177, 3) := dk_182 0 177 (dk_at dksX1_letterAt_0 3 rfl rfl)
theorem dX1_letterAt_6 : decode cX1_letterAt 6 = .ok (.aload_n 0, 1) := dk_42 (dk_at dksX1_letterAt_0 6 rfl rfl)
theorem dX1_letterAt_7 : decode cX1_letterAt 7 = .ok (.getfield 38, 3) := dk_180 0 38 (dk_at dksX1_letterAt_0 7 rfl rfl)
theorem dX1_letterAt_10 : decode cX1_letterAt 10 = .ok (.getfield 230, 3) := dk_180 0 230 (dk_at dksX1_letterAt_0 10 rfl rfl)
theorem dX1_letterAt_13 : decode cX1_letterAt 13 = .ok (.iload_n 1, 1) := dk_27 (dk_at dksX1_letterAt_0 13 rfl rfl)
theorem dX1_letterAt_14 : decode cX1_letterAt 14 = .ok (.aaload, 1) := dk_50 (dk_at dksX1_letterAt_0 14 rfl rfl)
theorem dX1_letterAt_15 : decode cX1_letterAt 15 = .ok (.astore 4, 2) := dk_58 4 (dk_at dksX1_letterAt_0 15 rfl rfl)
theorem dX1_letterAt_17 : decode cX1_letterAt 17 = .ok (.bipush 97, 2) := dk_16 97 (dk_at dksX1_letterAt_0 17 rfl rfl)
theorem dX1_letterAt_19 : decode cX1_letterAt 19 = .ok (.iload_n 3, 1) := dk_29 (dk_at dksX1_letterAt_0 19 rfl rfl)
theorem dX1_letterAt_20 : decode cX1_letterAt 20 = .ok (.ifCond .eq 13, 3) := dk_153 0 13 (dk_at dksX1_letterAt_0 20 rfl rfl)
theorem dX1_letterAt_23 : decode cX1_letterAt 23 = .ok (.aload 4, 2) := dk_25 4 (dk_at dksX1_letterAt_1 0 rfl rfl)
theorem dX1_letterAt_25 : decode cX1_letterAt 25 = .ok (.getfield 247, 3) := dk_180 0 247 (dk_at dksX1_letterAt_1 2 rfl rfl)
theorem dX1_letterAt_28 : decode cX1_letterAt 28 = .ok (.iload_n 2, 1) := dk_28 (dk_at dksX1_letterAt_1 5 rfl rfl)
theorem dX1_letterAt_29 : decode cX1_letterAt 29 = .ok (.iaload, 1) := dk_46 (dk_at dksX1_letterAt_1 6 rfl rfl)
theorem dX1_letterAt_30 : decode cX1_letterAt 30 = .ok (.goto 10, 3) := dk_167 0 10 (dk_at dksX1_letterAt_1 7 rfl rfl)
theorem dX1_letterAt_33 : decode cX1_letterAt 33 = .ok (.aload 4, 2) := dk_25 4 (dk_at dksX1_letterAt_1 10 rfl rfl)
theorem dX1_letterAt_35 : decode cX1_letterAt 35 = .ok (.getfield 251, 3) := dk_180 0 251 (dk_at dksX1_letterAt_1 12 rfl rfl)
theorem dX1_letterAt_38 : decode cX1_letterAt 38 = .ok (.iload_n 2, 1) := dk_28 (dk_at dksX1_letterAt_1 15 rfl rfl)
theorem dX1_letterAt_39 : decode cX1_letterAt 39 = .ok (.iaload, 1) := dk_46 (dk_at dksX1_letterAt_1 16 rfl rfl)
theorem dX1_letterAt_40 : decode cX1_letterAt 40 = .ok (.iadd, 1) := dk_96 (dk_at dksX1_letterAt_1 17 rfl rfl)
theorem dX1_letterAt_41 : decode cX1_letterAt 41 = .ok (.iconst 1, 1) := dk_4 (dk_at dksX1_letterAt_1 18 rfl rfl)
theorem dX1_letterAt_42 : decode cX1_letterAt 42 = .ok (.isub, 1) := dk_100 (dk_at dksX1_letterAt_1 19 rfl rfl)
theorem dX1_letterAt_43 : decode cX1_letterAt 43 = .ok (.i2c, 1) := dk_146 (dk_at dksX1_letterAt_1 20 rfl rfl)
theorem dX1_letterAt_44 : decode cX1_letterAt 44 = .ok (.ireturn, 1) := dk_172 (dk_at dksX1_letterAt_1 21 rfl rfl)
abbrev cX1_markAt : ByteArray := prog_1_method_35_code
def yX1_markAt : MethodName := ⟨RX1, "markAt", "(II)I"⟩
def dkwX1_markAt_0 : List UInt8 := [42, 27, 28, 182, 0, 177, 42, 180, 0, 38, 180, 0, 230, 27, 50, 180, 0, 253, 28, 46, 172]
abbrev dktX1_markAt_0 : List UInt8 := dkwX1_markAt_0 ++ []
theorem dksX1_markAt_0 : cX1_markAt.data.toList.drop 0 = dktX1_markAt_0 := by decide +kernel
theorem dX1_markAt_0 : decode cX1_markAt 0 = .ok (.aload_n 0, 1) := dk_42 (dk_at dksX1_markAt_0 0 rfl rfl)
theorem dX1_markAt_1 : decode cX1_markAt 1 = .ok (.iload_n 1, 1) := dk_27 (dk_at dksX1_markAt_0 1 rfl rfl)
theorem dX1_markAt_2 : decode cX1_markAt 2 = .ok (.iload_n 2, 1) := dk_28 (dk_at dksX1_markAt_0 2 rfl rfl)
theorem dX1_markAt_3 : decode cX1_markAt 3 = .ok (.invokevirtual 177, 3) := dk_182 0 177 (dk_at dksX1_markAt_0 3 rfl rfl)
theorem dX1_markAt_6 : decode cX1_markAt 6 = .ok (.aload_n 0, 1) := dk_42 (dk_at dksX1_markAt_0 6 rfl rfl)
theorem dX1_markAt_7 : decode cX1_markAt 7 = .ok (.getfield 38, 3) := dk_180 0 38 (dk_at dksX1_markAt_0 7 rfl rfl)
theorem dX1_markAt_10 : decode cX1_markAt 10 = .ok (.getfield 230, 3) := dk_180 0 230 (dk_at dksX1_markAt_0 10 rfl rfl)
theorem dX1_markAt_13 : decode cX1_markAt 13 = .ok (.iload_n 1, 1) := dk_27 (dk_at dksX1_markAt_0 13 rfl rfl)
theorem dX1_markAt_14 : decode cX1_markAt 14 = .ok (.aaload, 1) := dk_50 (dk_at dksX1_markAt_0 14 rfl rfl)
theorem dX1_markAt_15 : decode cX1_markAt 15 = .ok (.getfield 253, 3) := dk_180 0 253 (dk_at dksX1_markAt_0 15 rfl rfl)
theorem dX1_markAt_18 : decode cX1_markAt 18 = .ok (.iload_n 2, 1) := dk_28 (dk_at dksX1_markAt_0 18 rfl rfl)
theorem dX1_markAt_19 : decode cX1_markAt 19 = .ok (.iaload, 1) := dk_46 (dk_at dksX1_markAt_0 19 rfl rfl)
theorem dX1_markAt_20 : decode cX1_markAt 20 = .ok (.ireturn, 1) := dk_172 (dk_at dksX1_markAt_0 20 rfl rfl)
abbrev cX1_fine : ByteArray := prog_1_method_36_code
def yX1_fine : MethodName := ⟨RX1, "fine", "(IIZ)I"⟩
def dkwX1_fine_1 : List UInt8 := [180, 0, 38, 27, 28, 182, 1, 3, 172]
abbrev dktX1_fine_1 : List UInt8 := dkwX1_fine_1 ++ []
def dkwX1_fine_0 : List UInt8 := [42, 27, 28, 182, 0, 177, 29, 153, 0, 15, 42, 180, 0, 38, 27, 28, 182, 1, 0, 167, 0, 12, 42]
abbrev dktX1_fine_0 : List UInt8 := dkwX1_fine_0 ++ dktX1_fine_1
theorem dksX1_fine_0 : cX1_fine.data.toList.drop 0 = dktX1_fine_0 := by decide +kernel
theorem dksX1_fine_1 : cX1_fine.data.toList.drop 23 = dktX1_fine_1 := dk_seg dksX1_fine_0 23 rfl rfl
theorem dX1_fine_0 : decode cX1_fine 0 = .ok (.aload_n 0, 1) := dk_42 (dk_at dksX1_fine_0 0 rfl rfl)
theorem dX1_fine_1 : decode cX1_fine 1 = .ok (.iload_n 1, 1) := dk_27 (dk_at dksX1_fine_0 1 rfl rfl)
theorem dX1_fine_2 : decode cX1_fine 2 = .ok (.iload_n 2, 1) := dk_28 (dk_at dksX1_fine_0 2 rfl rfl)
theorem dX1_fine_3 : decode cX1_fine 3 = .ok (.invokevirtual 177, 3) := dk_182 0 177 (dk_at dksX1_fine_0 3 rfl rfl)
theorem dX1_fine_6 : decode cX1_fine 6 = .ok (.iload_n 3, 1) := dk_29 (dk_at dksX1_fine_0 6 rfl rfl)
theorem dX1_fine_7 : decode cX1_fine 7 = .ok (.ifCond .eq 15, 3) := dk_153 0 15 (dk_at dksX1_fine_0 7 rfl rfl)
theorem dX1_fine_10 : decode cX1_fine 10 = .ok (.aload_n 0, 1) := dk_42 (dk_at dksX1_fine_0 10 rfl rfl)
theorem dX1_fine_11 : decode cX1_fine 11 = .ok (.getfield 38, 3) := dk_180 0 38 (dk_at dksX1_fine_0 11 rfl rfl)
theorem dX1_fine_14 : decode cX1_fine 14 = .ok (.iload_n 1, 1) := dk_27 (dk_at dksX1_fine_0 14 rfl rfl)
theorem dX1_fine_15 : decode cX1_fine 15 = .ok (.iload_n 2, 1) := dk_28 (dk_at dksX1_fine_0 15 rfl rfl)
theorem dX1_fine_16 : decode cX1_fine 16 = .ok (.invokevirtual 256, 3) := dk_182 1 0 (dk_at dksX1_fine_0 16 rfl rfl)
theorem dX1_fine_19 : decode cX1_fine 19 = .ok (.goto 12, 3) := dk_167 0 12 (dk_at dksX1_fine_0 19 rfl rfl)
theorem dX1_fine_22 : decode cX1_fine 22 = .ok (.aload_n 0, 1) := dk_42 (dk_at dksX1_fine_0 22 rfl rfl)
theorem dX1_fine_23 : decode cX1_fine 23 = .ok (.getfield 38, 3) := dk_180 0 38 (dk_at dksX1_fine_1 0 rfl rfl)
theorem dX1_fine_26 : decode cX1_fine 26 = .ok (.iload_n 1, 1) := dk_27 (dk_at dksX1_fine_1 3 rfl rfl)
theorem dX1_fine_27 : decode cX1_fine 27 = .ok (.iload_n 2, 1) := dk_28 (dk_at dksX1_fine_1 4 rfl rfl)
theorem dX1_fine_28 : decode cX1_fine 28 = .ok (.invokevirtual 259, 3) := dk_182 1 3 (dk_at dksX1_fine_1 5 rfl rfl)
theorem dX1_fine_31 : decode cX1_fine 31 = .ok (.ireturn, 1) := dk_172 (dk_at dksX1_fine_1 8 rfl rfl)
abbrev cX1_fines : ByteArray := prog_1_method_37_code
def yX1_fines : MethodName := ⟨RX1, "fines", "(IZ)I"⟩
def dkwX1_fines_1 : List UInt8 := [27, 182, 1, 12, 172]
abbrev dktX1_fines_1 : List UInt8 := dkwX1_fines_1 ++ []
def dkwX1_fines_0 : List UInt8 := [42, 27, 182, 0, 171, 28, 153, 0, 14, 42, 182, 1, 6, 27, 182, 1, 9, 167, 0, 11, 42, 180, 0, 38]
abbrev dktX1_fines_0 : List UInt8 := dkwX1_fines_0 ++ dktX1_fines_1
theorem dksX1_fines_0 : cX1_fines.data.toList.drop 0 = dktX1_fines_0 := by decide +kernel
theorem dksX1_fines_1 : cX1_fines.data.toList.drop 24 = dktX1_fines_1 := dk_seg dksX1_fines_0 24 rfl rfl
theorem dX1_fines_0 : decode cX1_fines 0 = .ok (.aload_n 0, 1) := dk_42 (dk_at dksX1_fines_0 0 rfl rfl)
theorem dX1_fines_1 : decode cX1_fines 1 = .ok (.iload_n 1, 1) := dk_27 (dk_at dksX1_fines_0 1 rfl rfl)
theorem dX1_fines_2 : decode cX1_fines 2 = .ok (.invokevirtual 171, 3) := dk_182 0 171 (dk_at dksX1_fines_0 2 rfl rfl)
theorem dX1_fines_5 : decode cX1_fines 5 = .ok (.iload_n 2, 1) := dk_28 (dk_at dksX1_fines_0 5 rfl rfl)
theorem dX1_fines_6 : decode cX1_fines 6 = .ok (.ifCond .eq 14, 3) := dk_153 0 14 (dk_at dksX1_fines_0 6 rfl rfl)
theorem dX1_fines_9 : decode cX1_fines 9 = .ok (.aload_n 0, 1) := dk_42 (dk_at dksX1_fines_0 9 rfl rfl)
theorem dX1_fines_10 : decode cX1_fines 10 = .ok (.invokevirtual 262, 3) := dk_182 1 6 (dk_at dksX1_fines_0 10 rfl rfl)
theorem dX1_fines_13 : decode cX1_fines 13 = .ok (.iload_n 1, 1) := dk_27 (dk_at dksX1_fines_0 13 rfl rfl)
theorem dX1_fines_14 : decode cX1_fines 14 = .ok (.invokevirtual 265, 3) := dk_182 1 9 (dk_at dksX1_fines_0 14 rfl rfl)
theorem dX1_fines_17 : decode cX1_fines 17 = .ok (.goto 11, 3) := dk_167 0 11 (dk_at dksX1_fines_0 17 rfl rfl)
theorem dX1_fines_20 : decode cX1_fines 20 = .ok (.aload_n 0, 1) := dk_42 (dk_at dksX1_fines_0 20 rfl rfl)
theorem dX1_fines_21 : decode cX1_fines 21 = .ok (.getfield 38, 3) := dk_180 0 38 (dk_at dksX1_fines_0 21 rfl rfl)
theorem dX1_fines_24 : decode cX1_fines 24 = .ok (.iload_n 1, 1) := dk_27 (dk_at dksX1_fines_1 0 rfl rfl)
theorem dX1_fines_25 : decode cX1_fines 25 = .ok (.invokevirtual 268, 3) := dk_182 1 12 (dk_at dksX1_fines_1 1 rfl rfl)
theorem dX1_fines_28 : decode cX1_fines 28 = .ok (.ireturn, 1) := dk_172 (dk_at dksX1_fines_1 4 rfl rfl)
abbrev cX1_canMend : ByteArray := prog_1_method_38_code
def yX1_canMend : MethodName := ⟨RX1, "canMend", "(I)Z"⟩
def dkwX1_canMend_1 : List UInt8 := [161, 0, 7, 4, 167, 0, 4, 3, 172]
abbrev dktX1_canMend_1 : List UInt8 := dkwX1_canMend_1 ++ []
def dkwX1_canMend_0 : List UInt8 := [42, 27, 182, 0, 171, 42, 180, 0, 38, 27, 182, 1, 14, 180, 0, 207, 42, 180, 0, 38, 27, 182, 1, 12]
abbrev dktX1_canMend_0 : List UInt8 := dkwX1_canMend_0 ++ dktX1_canMend_1
theorem dksX1_canMend_0 : cX1_canMend.data.toList.drop 0 = dktX1_canMend_0 := by decide +kernel
theorem dksX1_canMend_1 : cX1_canMend.data.toList.drop 24 = dktX1_canMend_1 := dk_seg dksX1_canMend_0 24 rfl rfl
theorem dX1_canMend_0 : decode cX1_canMend 0 = .ok (.aload_n 0, 1) := dk_42 (dk_at dksX1_canMend_0 0 rfl rfl)
theorem dX1_canMend_1 : decode cX1_canMend 1 = .ok (.iload_n 1, 1) := dk_27 (dk_at dksX1_canMend_0 1 rfl rfl)
theorem dX1_canMend_2 : decode cX1_canMend 2 = .ok (.invokevirtual 171, 3) := dk_182 0 171 (dk_at dksX1_canMend_0 2 rfl rfl)
theorem dX1_canMend_5 : decode cX1_canMend 5 = .ok (.aload_n 0, 1) := dk_42 (dk_at dksX1_canMend_0 5 rfl rfl)
theorem dX1_canMend_6 : decode cX1_canMend 6 = .ok (.getfield 38, 3) := dk_180 0 38 (dk_at dksX1_canMend_0 6 rfl rfl)
theorem dX1_canMend_9 : decode cX1_canMend 9 = .ok (.iload_n 1, 1) := dk_27 (dk_at dksX1_canMend_0 9 rfl rfl)
theorem dX1_canMend_10 : decode cX1_canMend 10 = .ok (.invokevirtual 270, 3) := dk_182 1 14 (dk_at dksX1_canMend_0 10 rfl rfl)
theorem dX1_canMend_13 : decode cX1_canMend 13 = .ok (.getfield 207, 3) := dk_180 0 207 (dk_at dksX1_canMend_0 13 rfl rfl)
theorem dX1_canMend_16 : decode cX1_canMend 16 = .ok (.aload_n 0, 1) := dk_42 (dk_at dksX1_canMend_0 16 rfl rfl)
theorem dX1_canMend_17 : decode cX1_canMend 17 = .ok (.getfield 38, 3) := dk_180 0 38 (dk_at dksX1_canMend_0 17 rfl rfl)
theorem dX1_canMend_20 : decode cX1_canMend 20 = .ok (.iload_n 1, 1) := dk_27 (dk_at dksX1_canMend_0 20 rfl rfl)
theorem dX1_canMend_21 : decode cX1_canMend 21 = .ok (.invokevirtual 268, 3) := dk_182 1 12 (dk_at dksX1_canMend_0 21 rfl rfl)
theorem dX1_canMend_24 : decode cX1_canMend 24 = .ok (.if_icmp .lt 7, 3) := dk_161 0 7 (dk_at dksX1_canMend_1 0 rfl rfl)
theorem dX1_canMend_27 : decode cX1_canMend 27 = .ok (.iconst 1, 1) := dk_4 (dk_at dksX1_canMend_1 3 rfl rfl)
theorem dX1_canMend_28 : decode cX1_canMend 28 = .ok (.goto 4, 3) := dk_167 0 4 (dk_at dksX1_canMend_1 4 rfl rfl)
theorem dX1_canMend_31 : decode cX1_canMend 31 = .ok (.iconst 0, 1) := dk_3 (dk_at dksX1_canMend_1 7 rfl rfl)
theorem dX1_canMend_32 : decode cX1_canMend 32 = .ok (.ireturn, 1) := dk_172 (dk_at dksX1_canMend_1 8 rfl rfl)
abbrev cX1_laughing : ByteArray := prog_1_method_39_code
def yX1_laughing : MethodName := ⟨RX1, "laughing", "(II)I"⟩
def dkwX1_laughing_0 : List UInt8 := [42, 27, 28, 182, 0, 177, 42, 180, 0, 38, 27, 28, 182, 1, 18, 172]
abbrev dktX1_laughing_0 : List UInt8 := dkwX1_laughing_0 ++ []
theorem dksX1_laughing_0 : cX1_laughing.data.toList.drop 0 = dktX1_laughing_0 := by decide +kernel
theorem dX1_laughing_0 : decode cX1_laughing 0 = .ok (.aload_n 0, 1) := dk_42 (dk_at dksX1_laughing_0 0 rfl rfl)
theorem dX1_laughing_1 : decode cX1_laughing 1 = .ok (.iload_n 1, 1) := dk_27 (dk_at dksX1_laughing_0 1 rfl rfl)
theorem dX1_laughing_2 : decode cX1_laughing 2 = .ok (.iload_n 2, 1) := dk_28 (dk_at dksX1_laughing_0 2 rfl rfl)
theorem dX1_laughing_3 : decode cX1_laughing 3 = .ok (.invokevirtual 177, 3) := dk_182 0 177 (dk_at dksX1_laughing_0 3 rfl rfl)
theorem dX1_laughing_6 : decode cX1_laughing 6 = .ok (.aload_n 0, 1) := dk_42 (dk_at dksX1_laughing_0 6 rfl rfl)
theorem dX1_laughing_7 : decode cX1_laughing 7 = .ok (.getfield 38, 3) := dk_180 0 38 (dk_at dksX1_laughing_0 7 rfl rfl)
theorem dX1_laughing_10 : decode cX1_laughing 10 = .ok (.iload_n 1, 1) := dk_27 (dk_at dksX1_laughing_0 10 rfl rfl)
theorem dX1_laughing_11 : decode cX1_laughing 11 = .ok (.iload_n 2, 1) := dk_28 (dk_at dksX1_laughing_0 11 rfl rfl)
theorem dX1_laughing_12 : decode cX1_laughing 12 = .ok (.invokevirtual 274, 3) := dk_182 1 18 (dk_at dksX1_laughing_0 12 rfl rfl)
theorem dX1_laughing_15 : decode cX1_laughing 15 = .ok (.ireturn, 1) := dk_172 (dk_at dksX1_laughing_0 15 rfl rfl)
abbrev cX1_bargain : ByteArray := prog_1_method_40_code
def yX1_bargain : MethodName := ⟨RX1, "bargain", "(Z)I"⟩
def dkwX1_bargain_1 : List UInt8 := [16, 8, 108, 172]
abbrev dktX1_bargain_1 : List UInt8 := dkwX1_bargain_1 ++ []
def dkwX1_bargain_0 : List UInt8 := [42, 180, 0, 38, 182, 1, 21, 184, 1, 24, 61, 27, 153, 0, 10, 28, 16, 8, 112, 167, 0, 7, 28]
abbrev dktX1_bargain_0 : List UInt8 := dkwX1_bargain_0 ++ dktX1_bargain_1
theorem dksX1_bargain_0 : cX1_bargain.data.toList.drop 0 = dktX1_bargain_0 := by decide +kernel
theorem dksX1_bargain_1 : cX1_bargain.data.toList.drop 23 = dktX1_bargain_1 := dk_seg dksX1_bargain_0 23 rfl rfl
theorem dX1_bargain_0 : decode cX1_bargain 0 = .ok (.aload_n 0, 1) := dk_42 (dk_at dksX1_bargain_0 0 rfl rfl)
theorem dX1_bargain_1 : decode cX1_bargain 1 = .ok (.getfield 38, 3) := dk_180 0 38 (dk_at dksX1_bargain_0 1 rfl rfl)
theorem dX1_bargain_4 : decode cX1_bargain 4 = .ok (.invokevirtual 277, 3) := dk_182 1 21 (dk_at dksX1_bargain_0 4 rfl rfl)
theorem dX1_bargain_7 : decode cX1_bargain 7 = .ok (.invokestatic 280, 3) := dk_184 1 24 (dk_at dksX1_bargain_0 7 rfl rfl)
theorem dX1_bargain_10 : decode cX1_bargain 10 = .ok (.istore_n 2, 1) := dk_61 (dk_at dksX1_bargain_0 10 rfl rfl)
theorem dX1_bargain_11 : decode cX1_bargain 11 = .ok (.iload_n 1, 1) := dk_27 (dk_at dksX1_bargain_0 11 rfl rfl)
theorem dX1_bargain_12 : decode cX1_bargain 12 = .ok (.ifCond .eq 10, 3) := dk_153 0 10 (dk_at dksX1_bargain_0 12 rfl rfl)
theorem dX1_bargain_15 : decode cX1_bargain 15 = .ok (.iload_n 2, 1) := dk_28 (dk_at dksX1_bargain_0 15 rfl rfl)
theorem dX1_bargain_16 : decode cX1_bargain 16 = .ok (.bipush 8, 2) := dk_16 8 (dk_at dksX1_bargain_0 16 rfl rfl)
theorem dX1_bargain_18 : decode cX1_bargain 18 = .ok (.irem, 1) := dk_112 (dk_at dksX1_bargain_0 18 rfl rfl)
theorem dX1_bargain_19 : decode cX1_bargain 19 = .ok (.goto 7, 3) := dk_167 0 7 (dk_at dksX1_bargain_0 19 rfl rfl)
theorem dX1_bargain_22 : decode cX1_bargain 22 = .ok (.iload_n 2, 1) := dk_28 (dk_at dksX1_bargain_0 22 rfl rfl)
theorem dX1_bargain_23 : decode cX1_bargain 23 = .ok (.bipush 8, 2) := dk_16 8 (dk_at dksX1_bargain_1 0 rfl rfl)
theorem dX1_bargain_25 : decode cX1_bargain 25 = .ok (.idiv, 1) := dk_108 (dk_at dksX1_bargain_1 2 rfl rfl)
theorem dX1_bargain_26 : decode cX1_bargain 26 = .ok (.ireturn, 1) := dk_172 (dk_at dksX1_bargain_1 3 rfl rfl)
abbrev cX1_element : ByteArray := prog_1_method_14_code
def yX1_element : MethodName := ⟨RX1, "element", "(I)I"⟩
def dkwX1_element_0 : List UInt8 := [26, 2, 159, 0, 7, 4, 167, 0, 4, 3, 184, 0, 103, 26, 172]
abbrev dktX1_element_0 : List UInt8 := dkwX1_element_0 ++ []
theorem dksX1_element_0 : cX1_element.data.toList.drop 0 = dktX1_element_0 := by decide +kernel
theorem dX1_element_0 : decode cX1_element 0 = .ok (.iload_n 0, 1) := dk_26 (dk_at dksX1_element_0 0 rfl rfl)
theorem dX1_element_1 : decode cX1_element 1 = .ok (.iconst (-1), 1) := dk_2 (dk_at dksX1_element_0 1 rfl rfl)
theorem dX1_element_2 : decode cX1_element 2 = .ok (.if_icmp .eq 7, 3) := dk_159 0 7 (dk_at dksX1_element_0 2 rfl rfl)
theorem dX1_element_5 : decode cX1_element 5 = .ok (.iconst 1, 1) := dk_4 (dk_at dksX1_element_0 5 rfl rfl)
theorem dX1_element_6 : decode cX1_element 6 = .ok (.goto 4, 3) := dk_167 0 4 (dk_at dksX1_element_0 6 rfl rfl)
theorem dX1_element_9 : decode cX1_element 9 = .ok (.iconst 0, 1) := dk_3 (dk_at dksX1_element_0 9 rfl rfl)
theorem dX1_element_10 : decode cX1_element 10 = .ok (.invokestatic 103, 3) := dk_184 0 103 (dk_at dksX1_element_0 10 rfl rfl)
theorem dX1_element_13 : decode cX1_element 13 = .ok (.iload_n 0, 1) := dk_26 (dk_at dksX1_element_0 13 rfl rfl)
theorem dX1_element_14 : decode cX1_element 14 = .ok (.ireturn, 1) := dk_172 (dk_at dksX1_element_0 14 rfl rfl)
abbrev cX1_checkElement : ByteArray := prog_1_method_10_code
def yX1_checkElement : MethodName := ⟨RX1, "checkElement", "(Z)V"⟩
def dkwX1_checkElement_0 : List UInt8 := [26, 154, 0, 11, 187, 0, 91, 89, 183, 0, 93, 191, 177]
abbrev dktX1_checkElement_0 : List UInt8 := dkwX1_checkElement_0 ++ []
theorem dksX1_checkElement_0 : cX1_checkElement.data.toList.drop 0 = dktX1_checkElement_0 := by decide +kernel
theorem dX1_checkElement_0 : decode cX1_checkElement 0 = .ok (.iload_n 0, 1) := dk_26 (dk_at dksX1_checkElement_0 0 rfl rfl)
theorem dX1_checkElement_1 : decode cX1_checkElement 1 = .ok (.ifCond .ne 11, 3) := dk_154 0 11 (dk_at dksX1_checkElement_0 1 rfl rfl)
theorem dX1_checkElement_4 : decode cX1_checkElement 4 = .ok (.new 91, 3) := dk_187 0 91 (dk_at dksX1_checkElement_0 4 rfl rfl)
theorem dX1_checkElement_7 : decode cX1_checkElement 7 = .ok (.dup, 1) := dk_89 (dk_at dksX1_checkElement_0 7 rfl rfl)
theorem dX1_checkElement_8 : decode cX1_checkElement 8 = .ok (.invokespecial 93, 3) := dk_183 0 93 (dk_at dksX1_checkElement_0 8 rfl rfl)
theorem dX1_checkElement_11 : decode cX1_checkElement 11 = .ok (.athrow, 1) := dk_191 (dk_at dksX1_checkElement_0 11 rfl rfl)
theorem dX1_checkElement_12 : decode cX1_checkElement 12 = .ok (.return_, 1) := dk_177 (dk_at dksX1_checkElement_0 12 rfl rfl)
abbrev cX1_wouldShame : ByteArray := prog_1_method_41_code
def yX1_wouldShame : MethodName := ⟨RX1, "wouldShame", "(I)I"⟩
def dkwX1_wouldShame_0 : List UInt8 := [42, 27, 182, 0, 160, 42, 180, 0, 38, 27, 182, 1, 27, 172]
abbrev dktX1_wouldShame_0 : List UInt8 := dkwX1_wouldShame_0 ++ []
theorem dksX1_wouldShame_0 : cX1_wouldShame.data.toList.drop 0 = dktX1_wouldShame_0 := by decide +kernel
theorem dX1_wouldShame_0 : decode cX1_wouldShame 0 = .ok (.aload_n 0, 1) := dk_42 (dk_at dksX1_wouldShame_0 0 rfl rfl)
theorem dX1_wouldShame_1 : decode cX1_wouldShame 1 = .ok (.iload_n 1, 1) := dk_27 (dk_at dksX1_wouldShame_0 1 rfl rfl)
theorem dX1_wouldShame_2 : decode cX1_wouldShame 2 = .ok (.invokevirtual 160, 3) := dk_182 0 160 (dk_at dksX1_wouldShame_0 2 rfl rfl)
theorem dX1_wouldShame_5 : decode cX1_wouldShame 5 = .ok (.aload_n 0, 1) := dk_42 (dk_at dksX1_wouldShame_0 5 rfl rfl)
theorem dX1_wouldShame_6 : decode cX1_wouldShame 6 = .ok (.getfield 38, 3) := dk_180 0 38 (dk_at dksX1_wouldShame_0 6 rfl rfl)
theorem dX1_wouldShame_9 : decode cX1_wouldShame 9 = .ok (.iload_n 1, 1) := dk_27 (dk_at dksX1_wouldShame_0 9 rfl rfl)
theorem dX1_wouldShame_10 : decode cX1_wouldShame 10 = .ok (.invokevirtual 283, 3) := dk_182 1 27 (dk_at dksX1_wouldShame_0 10 rfl rfl)
theorem dX1_wouldShame_13 : decode cX1_wouldShame 13 = .ok (.ireturn, 1) := dk_172 (dk_at dksX1_wouldShame_0 13 rfl rfl)
abbrev cX1_nearest : ByteArray := prog_1_method_43_code
def yX1_nearest : MethodName := ⟨RX1, "nearest", "(I)I"⟩
def dkwX1_nearest_0 : List UInt8 := [42, 27, 182, 0, 171, 42, 180, 0, 38, 27, 182, 1, 36, 172]
abbrev dktX1_nearest_0 : List UInt8 := dkwX1_nearest_0 ++ []
theorem dksX1_nearest_0 : cX1_nearest.data.toList.drop 0 = dktX1_nearest_0 := by decide +kernel
theorem dX1_nearest_0 : decode cX1_nearest 0 = .ok (.aload_n 0, 1) := dk_42 (dk_at dksX1_nearest_0 0 rfl rfl)
theorem dX1_nearest_1 : decode cX1_nearest 1 = .ok (.iload_n 1, 1) := dk_27 (dk_at dksX1_nearest_0 1 rfl rfl)
theorem dX1_nearest_2 : decode cX1_nearest 2 = .ok (.invokevirtual 171, 3) := dk_182 0 171 (dk_at dksX1_nearest_0 2 rfl rfl)
theorem dX1_nearest_5 : decode cX1_nearest 5 = .ok (.aload_n 0, 1) := dk_42 (dk_at dksX1_nearest_0 5 rfl rfl)
theorem dX1_nearest_6 : decode cX1_nearest 6 = .ok (.getfield 38, 3) := dk_180 0 38 (dk_at dksX1_nearest_0 6 rfl rfl)
theorem dX1_nearest_9 : decode cX1_nearest 9 = .ok (.iload_n 1, 1) := dk_27 (dk_at dksX1_nearest_0 9 rfl rfl)
theorem dX1_nearest_10 : decode cX1_nearest 10 = .ok (.invokevirtual 292, 3) := dk_182 1 36 (dk_at dksX1_nearest_0 10 rfl rfl)
theorem dX1_nearest_13 : decode cX1_nearest 13 = .ok (.ireturn, 1) := dk_172 (dk_at dksX1_nearest_0 13 rfl rfl)
abbrev cX1_calmIn : ByteArray := prog_1_method_44_code
def yX1_calmIn : MethodName := ⟨RX1, "calmIn", "(I)I"⟩
def dkwX1_calmIn_1 : List UInt8 := [172]
abbrev dktX1_calmIn_1 : List UInt8 := dkwX1_calmIn_1 ++ []
def dkwX1_calmIn_0 : List UInt8 := [42, 27, 182, 0, 160, 3, 42, 180, 0, 38, 180, 0, 203, 27, 50, 180, 0, 212, 16, 20, 100, 184, 1, 39]
abbrev dktX1_calmIn_0 : List UInt8 := dkwX1_calmIn_0 ++ dktX1_calmIn_1
theorem dksX1_calmIn_0 : cX1_calmIn.data.toList.drop 0 = dktX1_calmIn_0 := by decide +kernel
theorem dksX1_calmIn_1 : cX1_calmIn.data.toList.drop 24 = dktX1_calmIn_1 := dk_seg dksX1_calmIn_0 24 rfl rfl
theorem dX1_calmIn_0 : decode cX1_calmIn 0 = .ok (.aload_n 0, 1) := dk_42 (dk_at dksX1_calmIn_0 0 rfl rfl)
theorem dX1_calmIn_1 : decode cX1_calmIn 1 = .ok (.iload_n 1, 1) := dk_27 (dk_at dksX1_calmIn_0 1 rfl rfl)
theorem dX1_calmIn_2 : decode cX1_calmIn 2 = .ok (.invokevirtual 160, 3) := dk_182 0 160 (dk_at dksX1_calmIn_0 2 rfl rfl)
theorem dX1_calmIn_5 : decode cX1_calmIn 5 = .ok (.iconst 0, 1) := dk_3 (dk_at dksX1_calmIn_0 5 rfl rfl)
theorem dX1_calmIn_6 : decode cX1_calmIn 6 = .ok (.aload_n 0, 1) := dk_42 (dk_at dksX1_calmIn_0 6 rfl rfl)
theorem dX1_calmIn_7 : decode cX1_calmIn 7 = .ok (.getfield 38, 3) := dk_180 0 38 (dk_at dksX1_calmIn_0 7 rfl rfl)
theorem dX1_calmIn_10 : decode cX1_calmIn 10 = .ok (.getfield 203, 3) := dk_180 0 203 (dk_at dksX1_calmIn_0 10 rfl rfl)
theorem dX1_calmIn_13 : decode cX1_calmIn 13 = .ok (.iload_n 1, 1) := dk_27 (dk_at dksX1_calmIn_0 13 rfl rfl)
theorem dX1_calmIn_14 : decode cX1_calmIn 14 = .ok (.aaload, 1) := dk_50 (dk_at dksX1_calmIn_0 14 rfl rfl)
theorem dX1_calmIn_15 : decode cX1_calmIn 15 = .ok (.getfield 212, 3) := dk_180 0 212 (dk_at dksX1_calmIn_0 15 rfl rfl)
theorem dX1_calmIn_18 : decode cX1_calmIn 18 = .ok (.bipush 20, 2) := dk_16 20 (dk_at dksX1_calmIn_0 18 rfl rfl)
theorem dX1_calmIn_20 : decode cX1_calmIn 20 = .ok (.isub, 1) := dk_100 (dk_at dksX1_calmIn_0 20 rfl rfl)
theorem dX1_calmIn_21 : decode cX1_calmIn 21 = .ok (.invokestatic 295, 3) := dk_184 1 39 (dk_at dksX1_calmIn_0 21 rfl rfl)
theorem dX1_calmIn_24 : decode cX1_calmIn 24 = .ok (.ireturn, 1) := dk_172 (dk_at dksX1_calmIn_1 0 rfl rfl)
abbrev cX1_ashamed : ByteArray := prog_1_method_45_code
def yX1_ashamed : MethodName := ⟨RX1, "ashamed", "(I)I"⟩
def dkwX1_ashamed_0 : List UInt8 := [42, 180, 0, 38, 27, 182, 1, 44, 184, 1, 24, 172]
abbrev dktX1_ashamed_0 : List UInt8 := dkwX1_ashamed_0 ++ []
theorem dksX1_ashamed_0 : cX1_ashamed.data.toList.drop 0 = dktX1_ashamed_0 := by decide +kernel
theorem dX1_ashamed_0 : decode cX1_ashamed 0 = .ok (.aload_n 0, 1) := dk_42 (dk_at dksX1_ashamed_0 0 rfl rfl)
theorem dX1_ashamed_1 : decode cX1_ashamed 1 = .ok (.getfield 38, 3) := dk_180 0 38 (dk_at dksX1_ashamed_0 1 rfl rfl)
theorem dX1_ashamed_4 : decode cX1_ashamed 4 = .ok (.iload_n 1, 1) := dk_27 (dk_at dksX1_ashamed_0 4 rfl rfl)
theorem dX1_ashamed_5 : decode cX1_ashamed 5 = .ok (.invokevirtual 300, 3) := dk_182 1 44 (dk_at dksX1_ashamed_0 5 rfl rfl)
theorem dX1_ashamed_8 : decode cX1_ashamed 8 = .ok (.invokestatic 280, 3) := dk_184 1 24 (dk_at dksX1_ashamed_0 8 rfl rfl)
theorem dX1_ashamed_11 : decode cX1_ashamed 11 = .ok (.ireturn, 1) := dk_172 (dk_at dksX1_ashamed_0 11 rfl rfl)
abbrev cX1_worst : ByteArray := prog_1_method_46_code
def yX1_worst : MethodName := ⟨RX1, "worst", "(I)I"⟩
def dkwX1_worst_0 : List UInt8 := [42, 180, 0, 38, 27, 182, 1, 47, 184, 1, 24, 172]
abbrev dktX1_worst_0 : List UInt8 := dkwX1_worst_0 ++ []
theorem dksX1_worst_0 : cX1_worst.data.toList.drop 0 = dktX1_worst_0 := by decide +kernel
theorem dX1_worst_0 : decode cX1_worst 0 = .ok (.aload_n 0, 1) := dk_42 (dk_at dksX1_worst_0 0 rfl rfl)
theorem dX1_worst_1 : decode cX1_worst 1 = .ok (.getfield 38, 3) := dk_180 0 38 (dk_at dksX1_worst_0 1 rfl rfl)
theorem dX1_worst_4 : decode cX1_worst 4 = .ok (.iload_n 1, 1) := dk_27 (dk_at dksX1_worst_0 4 rfl rfl)
theorem dX1_worst_5 : decode cX1_worst 5 = .ok (.invokevirtual 303, 3) := dk_182 1 47 (dk_at dksX1_worst_0 5 rfl rfl)
theorem dX1_worst_8 : decode cX1_worst 8 = .ok (.invokestatic 280, 3) := dk_184 1 24 (dk_at dksX1_worst_0 8 rfl rfl)
theorem dX1_worst_11 : decode cX1_worst 11 = .ok (.ireturn, 1) := dk_172 (dk_at dksX1_worst_0 11 rfl rfl)
abbrev cX1_line : ByteArray := prog_1_method_47_code
def yX1_line : MethodName := ⟨RX1, "line", "(I)I"⟩
def dkwX1_line_1 : List UInt8 := [180, 0, 68, 182, 1, 53, 42, 180, 0, 68, 182, 1, 56, 172]
abbrev dktX1_line_1 : List UInt8 := dkwX1_line_1 ++ []
def dkwX1_line_0 : List UInt8 := [42, 27, 182, 0, 171, 42, 180, 0, 68, 3, 182, 1, 50, 42, 180, 0, 38, 180, 0, 230, 27, 50, 42]
abbrev dktX1_line_0 : List UInt8 := dkwX1_line_0 ++ dktX1_line_1
theorem dksX1_line_0 : cX1_line.data.toList.drop 0 = dktX1_line_0 := by decide +kernel
theorem dksX1_line_1 : cX1_line.data.toList.drop 23 = dktX1_line_1 := dk_seg dksX1_line_0 23 rfl rfl
theorem dX1_line_0 : decode cX1_line 0 = .ok (.aload_n 0, 1) := dk_42 (dk_at dksX1_line_0 0 rfl rfl)
theorem dX1_line_1 : decode cX1_line 1 = .ok (.iload_n 1, 1) := dk_27 (dk_at dksX1_line_0 1 rfl rfl)
theorem dX1_line_2 : decode cX1_line 2 = .ok (.invokevirtual 171, 3) := dk_182 0 171 (dk_at dksX1_line_0 2 rfl rfl)
theorem dX1_line_5 : decode cX1_line 5 = .ok (.aload_n 0, 1) := dk_42 (dk_at dksX1_line_0 5 rfl rfl)
theorem dX1_line_6 : decode cX1_line 6 = .ok (.getfield 68, 3) := dk_180 0 68 (dk_at dksX1_line_0 6 rfl rfl)
theorem dX1_line_9 : decode cX1_line 9 = .ok (.iconst 0, 1) := dk_3 (dk_at dksX1_line_0 9 rfl rfl)
theorem dX1_line_10 : decode cX1_line 10 = .ok (.invokevirtual 306, 3) := dk_182 1 50 (dk_at dksX1_line_0 10 rfl rfl)
theorem dX1_line_13 : decode cX1_line 13 = .ok (.aload_n 0, 1) := dk_42 (dk_at dksX1_line_0 13 rfl rfl)
theorem dX1_line_14 : decode cX1_line 14 = .ok (.getfield 38, 3) := dk_180 0 38 (dk_at dksX1_line_0 14 rfl rfl)
theorem dX1_line_17 : decode cX1_line 17 = .ok (.getfield 230, 3) := dk_180 0 230 (dk_at dksX1_line_0 17 rfl rfl)
theorem dX1_line_20 : decode cX1_line 20 = .ok (.iload_n 1, 1) := dk_27 (dk_at dksX1_line_0 20 rfl rfl)
theorem dX1_line_21 : decode cX1_line 21 = .ok (.aaload, 1) := dk_50 (dk_at dksX1_line_0 21 rfl rfl)
theorem dX1_line_22 : decode cX1_line 22 = .ok (.aload_n 0, 1) := dk_42 (dk_at dksX1_line_0 22 rfl rfl)
theorem dX1_line_23 : decode cX1_line 23 = .ok (.getfield 68, 3) := dk_180 0 68 (dk_at dksX1_line_1 0 rfl rfl)
theorem dX1_line_26 : decode cX1_line 26 = .ok (.invokevirtual 309, 3) := dk_182 1 53 (dk_at dksX1_line_1 3 rfl rfl)
theorem dX1_line_29 : decode cX1_line 29 = .ok (.aload_n 0, 1) := dk_42 (dk_at dksX1_line_1 6 rfl rfl)
theorem dX1_line_30 : decode cX1_line 30 = .ok (.getfield 68, 3) := dk_180 0 68 (dk_at dksX1_line_1 7 rfl rfl)
theorem dX1_line_33 : decode cX1_line 33 = .ok (.invokevirtual 312, 3) := dk_182 1 56 (dk_at dksX1_line_1 10 rfl rfl)
theorem dX1_line_36 : decode cX1_line 36 = .ok (.ireturn, 1) := dk_172 (dk_at dksX1_line_1 13 rfl rfl)
abbrev cX1_houseLine : ByteArray := prog_1_method_48_code
def yX1_houseLine : MethodName := ⟨RX1, "houseLine", "(I)I"⟩
def dkwX1_houseLine_1 : List UInt8 := [182, 1, 59, 42, 180, 0, 68, 182, 1, 56, 172]
abbrev dktX1_houseLine_1 : List UInt8 := dkwX1_houseLine_1 ++ []
def dkwX1_houseLine_0 : List UInt8 := [42, 27, 182, 0, 160, 42, 180, 0, 68, 3, 182, 1, 50, 42, 180, 0, 38, 42, 180, 0, 68, 27]
abbrev dktX1_houseLine_0 : List UInt8 := dkwX1_houseLine_0 ++ dktX1_houseLine_1
theorem dksX1_houseLine_0 : cX1_houseLine.data.toList.drop 0 = dktX1_houseLine_0 := by decide +kernel
theorem dksX1_houseLine_1 : cX1_houseLine.data.toList.drop 22 = dktX1_houseLine_1 := dk_seg dksX1_houseLine_0 22 rfl rfl
theorem dX1_houseLine_0 : decode cX1_houseLine 0 = .ok (.aload_n 0, 1) := dk_42 (dk_at dksX1_houseLine_0 0 rfl rfl)
theorem dX1_houseLine_1 : decode cX1_houseLine 1 = .ok (.iload_n 1, 1) := dk_27 (dk_at dksX1_houseLine_0 1 rfl rfl)
theorem dX1_houseLine_2 : decode cX1_houseLine 2 = .ok (.invokevirtual 160, 3) := dk_182 0 160 (dk_at dksX1_houseLine_0 2 rfl rfl)
theorem dX1_houseLine_5 : decode cX1_houseLine 5 = .ok (.aload_n 0, 1) := dk_42 (dk_at dksX1_houseLine_0 5 rfl rfl)
theorem dX1_houseLine_6 : decode cX1_houseLine 6 = .ok (.getfield 68, 3) := dk_180 0 68 (dk_at dksX1_houseLine_0 6 rfl rfl)
theorem dX1_houseLine_9 : decode cX1_houseLine 9 = .ok (.iconst 0, 1) := dk_3 (dk_at dksX1_houseLine_0 9 rfl rfl)
theorem dX1_houseLine_10 : decode cX1_houseLine 10 = .ok (.invokevirtual 306, 3) := dk_182 1 50 (dk_at dksX1_houseLine_0 10 rfl rfl)
theorem dX1_houseLine_13 : decode cX1_houseLine 13 = .ok (.aload_n 0, 1) := dk_42 (dk_at dksX1_houseLine_0 13 rfl rfl)
theorem dX1_houseLine_14 : decode cX1_houseLine 14 = .ok (.getfield 38, 3) := dk_180 0 38 (dk_at dksX1_houseLine_0 14 rfl rfl)
theorem dX1_houseLine_17 : decode cX1_houseLine 17 = .ok (.aload_n 0, 1) := dk_42 (dk_at dksX1_houseLine_0 17 rfl rfl)
theorem dX1_houseLine_18 : decode cX1_houseLine 18 = .ok (.getfield 68, 3) := dk_180 0 68 (dk_at dksX1_houseLine_0 18 rfl rfl)
theorem dX1_houseLine_21 : decode cX1_houseLine 21 = .ok (.iload_n 1, 1) := dk_27 (dk_at dksX1_houseLine_0 21 rfl rfl)
theorem dX1_houseLine_22 : decode cX1_houseLine 22 = .ok (.invokevirtual 315, 3) := dk_182 1 59 (dk_at dksX1_houseLine_1 0 rfl rfl)
theorem dX1_houseLine_25 : decode cX1_houseLine 25 = .ok (.aload_n 0, 1) := dk_42 (dk_at dksX1_houseLine_1 3 rfl rfl)
theorem dX1_houseLine_26 : decode cX1_houseLine 26 = .ok (.getfield 68, 3) := dk_180 0 68 (dk_at dksX1_houseLine_1 4 rfl rfl)
theorem dX1_houseLine_29 : decode cX1_houseLine 29 = .ok (.invokevirtual 312, 3) := dk_182 1 56 (dk_at dksX1_houseLine_1 7 rfl rfl)
theorem dX1_houseLine_32 : decode cX1_houseLine 32 = .ok (.ireturn, 1) := dk_172 (dk_at dksX1_houseLine_1 10 rfl rfl)
abbrev cX1_character : ByteArray := prog_1_method_49_code
def yX1_character : MethodName := ⟨RX1, "character", "(I)C"⟩
def dkwX1_character_1 : List UInt8 := [182, 1, 63, 172]
abbrev dktX1_character_1 : List UInt8 := dkwX1_character_1 ++ []
def dkwX1_character_0 : List UInt8 := [27, 3, 42, 180, 0, 68, 182, 1, 56, 4, 100, 184, 0, 26, 184, 0, 118, 42, 180, 0, 68, 27]
abbrev dktX1_character_0 : List UInt8 := dkwX1_character_0 ++ dktX1_character_1
theorem dksX1_character_0 : cX1_character.data.toList.drop 0 = dktX1_character_0 := by decide +kernel
theorem dksX1_character_1 : cX1_character.data.toList.drop 22 = dktX1_character_1 := dk_seg dksX1_character_0 22 rfl rfl
theorem dX1_character_0 : decode cX1_character 0 = .ok (.iload_n 1, 1) := dk_27 (dk_at dksX1_character_0 0 rfl rfl)
theorem dX1_character_1 : decode cX1_character 1 = .ok (.iconst 0, 1) := dk_3 (dk_at dksX1_character_0 1 rfl rfl)
theorem dX1_character_2 : decode cX1_character 2 = .ok (.aload_n 0, 1) := dk_42 (dk_at dksX1_character_0 2 rfl rfl)
theorem dX1_character_3 : decode cX1_character 3 = .ok (.getfield 68, 3) := dk_180 0 68 (dk_at dksX1_character_0 3 rfl rfl)
theorem dX1_character_6 : decode cX1_character 6 = .ok (.invokevirtual 312, 3) := dk_182 1 56 (dk_at dksX1_character_0 6 rfl rfl)
theorem dX1_character_9 : decode cX1_character 9 = .ok (.iconst 1, 1) := dk_4 (dk_at dksX1_character_0 9 rfl rfl)
theorem dX1_character_10 : decode cX1_character 10 = .ok (.isub, 1) := dk_100 (dk_at dksX1_character_0 10 rfl rfl)
theorem dX1_character_11 : decode cX1_character 11 = .ok (.invokestatic 26, 3) := dk_184 0 26 (dk_at dksX1_character_0 11 rfl rfl)
theorem dX1_character_14 : decode cX1_character 14 = .ok (.invokestatic 118, 3) := dk_184 0 118 (dk_at dksX1_character_0 14 rfl rfl)
theorem dX1_character_17 : decode cX1_character 17 = .ok (.aload_n 0, 1) := dk_42 (dk_at dksX1_character_0 17 rfl rfl)
theorem dX1_character_18 : decode cX1_character 18 = .ok (.getfield 68, 3) := dk_180 0 68 (dk_at dksX1_character_0 18 rfl rfl)
theorem dX1_character_21 : decode cX1_character 21 = .ok (.iload_n 1, 1) := dk_27 (dk_at dksX1_character_0 21 rfl rfl)
theorem dX1_character_22 : decode cX1_character 22 = .ok (.invokevirtual 319, 3) := dk_182 1 63 (dk_at dksX1_character_1 0 rfl rfl)
theorem dX1_character_25 : decode cX1_character 25 = .ok (.ireturn, 1) := dk_172 (dk_at dksX1_character_1 3 rfl rfl)
abbrev cX1_append : ByteArray := prog_1_method_50_code
def yX1_append : MethodName := ⟨RX1, "append", "(C)I"⟩
def dkwX1_append_1 : List UInt8 := [27, 182, 1, 70, 87, 42, 180, 0, 64, 182, 1, 56, 172]
abbrev dktX1_append_1 : List UInt8 := dkwX1_append_1 ++ []
def dkwX1_append_0 : List UInt8 := [42, 180, 0, 64, 182, 1, 56, 16, 60, 162, 0, 7, 4, 167, 0, 4, 3, 184, 1, 67, 42, 180, 0, 64]
abbrev dktX1_append_0 : List UInt8 := dkwX1_append_0 ++ dktX1_append_1
theorem dksX1_append_0 : cX1_append.data.toList.drop 0 = dktX1_append_0 := by decide +kernel
theorem dksX1_append_1 : cX1_append.data.toList.drop 24 = dktX1_append_1 := dk_seg dksX1_append_0 24 rfl rfl
theorem dX1_append_0 : decode cX1_append 0 = .ok (.aload_n 0, 1) := dk_42 (dk_at dksX1_append_0 0 rfl rfl)
theorem dX1_append_1 : decode cX1_append 1 = .ok (.getfield 64, 3) := dk_180 0 64 (dk_at dksX1_append_0 1 rfl rfl)
theorem dX1_append_4 : decode cX1_append 4 = .ok (.invokevirtual 312, 3) := dk_182 1 56 (dk_at dksX1_append_0 4 rfl rfl)
theorem dX1_append_7 : decode cX1_append 7 = .ok (.bipush 60, 2) := dk_16 60 (dk_at dksX1_append_0 7 rfl rfl)
theorem dX1_append_9 : decode cX1_append 9 = .ok (.if_icmp .ge 7, 3) := dk_162 0 7 (dk_at dksX1_append_0 9 rfl rfl)
theorem dX1_append_12 : decode cX1_append 12 = .ok (.iconst 1, 1) := dk_4 (dk_at dksX1_append_0 12 rfl rfl)
theorem dX1_append_13 : decode cX1_append 13 = .ok (.goto 4, 3) := dk_167 0 4 (dk_at dksX1_append_0 13 rfl rfl)
theorem dX1_append_16 : decode cX1_append 16 = .ok (.iconst 0, 1) := dk_3 (dk_at dksX1_append_0 16 rfl rfl)
theorem dX1_append_17 : decode cX1_append 17 = .ok (.invokestatic 323, 3) := dk_184 1 67 (dk_at dksX1_append_0 17 rfl rfl)
theorem dX1_append_20 : decode cX1_append 20 = .ok (.aload_n 0, 1) := dk_42 (dk_at dksX1_append_0 20 rfl rfl)
theorem dX1_append_21 : decode cX1_append 21 = .ok (.getfield 64, 3) := dk_180 0 64 (dk_at dksX1_append_0 21 rfl rfl)
theorem dX1_append_24 : decode cX1_append 24 = .ok (.iload_n 1, 1) := dk_27 (dk_at dksX1_append_1 0 rfl rfl)
theorem dX1_append_25 : decode cX1_append 25 = .ok (.invokevirtual 326, 3) := dk_182 1 70 (dk_at dksX1_append_1 1 rfl rfl)
theorem dX1_append_28 : decode cX1_append 28 = .ok (.pop, 1) := dk_87 (dk_at dksX1_append_1 4 rfl rfl)
theorem dX1_append_29 : decode cX1_append 29 = .ok (.aload_n 0, 1) := dk_42 (dk_at dksX1_append_1 5 rfl rfl)
theorem dX1_append_30 : decode cX1_append 30 = .ok (.getfield 64, 3) := dk_180 0 64 (dk_at dksX1_append_1 6 rfl rfl)
theorem dX1_append_33 : decode cX1_append 33 = .ok (.invokevirtual 312, 3) := dk_182 1 56 (dk_at dksX1_append_1 9 rfl rfl)
theorem dX1_append_36 : decode cX1_append 36 = .ok (.ireturn, 1) := dk_172 (dk_at dksX1_append_1 12 rfl rfl)
abbrev cX1_checkState : ByteArray := prog_1_method_11_code
def yX1_checkState : MethodName := ⟨RX1, "checkState", "(Z)V"⟩
def dkwX1_checkState_0 : List UInt8 := [26, 154, 0, 11, 187, 0, 94, 89, 183, 0, 96, 191, 177]
abbrev dktX1_checkState_0 : List UInt8 := dkwX1_checkState_0 ++ []
theorem dksX1_checkState_0 : cX1_checkState.data.toList.drop 0 = dktX1_checkState_0 := by decide +kernel
theorem dX1_checkState_0 : decode cX1_checkState 0 = .ok (.iload_n 0, 1) := dk_26 (dk_at dksX1_checkState_0 0 rfl rfl)
theorem dX1_checkState_1 : decode cX1_checkState 1 = .ok (.ifCond .ne 11, 3) := dk_154 0 11 (dk_at dksX1_checkState_0 1 rfl rfl)
theorem dX1_checkState_4 : decode cX1_checkState 4 = .ok (.new 94, 3) := dk_187 0 94 (dk_at dksX1_checkState_0 4 rfl rfl)
theorem dX1_checkState_7 : decode cX1_checkState 7 = .ok (.dup, 1) := dk_89 (dk_at dksX1_checkState_0 7 rfl rfl)
theorem dX1_checkState_8 : decode cX1_checkState 8 = .ok (.invokespecial 96, 3) := dk_183 0 96 (dk_at dksX1_checkState_0 8 rfl rfl)
theorem dX1_checkState_11 : decode cX1_checkState 11 = .ok (.athrow, 1) := dk_191 (dk_at dksX1_checkState_0 11 rfl rfl)
theorem dX1_checkState_12 : decode cX1_checkState 12 = .ok (.return_, 1) := dk_177 (dk_at dksX1_checkState_0 12 rfl rfl)
abbrev cX1_run : ByteArray := prog_1_method_51_code
def yX1_run : MethodName := ⟨RX1, "run", "()I"⟩
def dkwX1_run_3 : List UInt8 := [180, 0, 76, 180, 1, 83, 181, 0, 80, 42, 180, 0, 64, 3, 182, 1, 50, 44, 191]
abbrev dktX1_run_3 : List UInt8 := dkwX1_run_3 ++ []
def dkwX1_run_2 : List UInt8 := [182, 1, 50, 27, 172, 76, 187, 0, 88, 89, 183, 0, 90, 191, 76, 42, 43, 182, 0, 156, 191, 77, 42, 42]
abbrev dktX1_run_2 : List UInt8 := dkwX1_run_2 ++ dktX1_run_3
def dkwX1_run_1 : List UInt8 := [180, 1, 80, 182, 0, 153, 60, 42, 42, 180, 0, 76, 180, 1, 83, 181, 0, 80, 42, 180, 0, 64, 3]
abbrev dktX1_run_1 : List UInt8 := dkwX1_run_1 ++ dktX1_run_2
def dkwX1_run_0 : List UInt8 := [42, 180, 0, 76, 182, 1, 74, 42, 180, 0, 76, 42, 182, 0, 146, 182, 1, 77, 42, 42, 180, 0, 76]
abbrev dktX1_run_0 : List UInt8 := dkwX1_run_0 ++ dktX1_run_1
theorem dksX1_run_0 : cX1_run.data.toList.drop 0 = dktX1_run_0 := by decide +kernel
theorem dksX1_run_1 : cX1_run.data.toList.drop 23 = dktX1_run_1 := dk_seg dksX1_run_0 23 rfl rfl
theorem dksX1_run_2 : cX1_run.data.toList.drop 46 = dktX1_run_2 := dk_seg dksX1_run_1 23 rfl rfl
theorem dksX1_run_3 : cX1_run.data.toList.drop 70 = dktX1_run_3 := dk_seg dksX1_run_2 24 rfl rfl
theorem dX1_run_0 : decode cX1_run 0 = .ok (.aload_n 0, 1) := dk_42 (dk_at dksX1_run_0 0 rfl rfl)
theorem dX1_run_1 : decode cX1_run 1 = .ok (.getfield 76, 3) := dk_180 0 76 (dk_at dksX1_run_0 1 rfl rfl)
theorem dX1_run_4 : decode cX1_run 4 = .ok (.invokevirtual 330, 3) := dk_182 1 74 (dk_at dksX1_run_0 4 rfl rfl)
theorem dX1_run_7 : decode cX1_run 7 = .ok (.aload_n 0, 1) := dk_42 (dk_at dksX1_run_0 7 rfl rfl)
theorem dX1_run_8 : decode cX1_run 8 = .ok (.getfield 76, 3) := dk_180 0 76 (dk_at dksX1_run_0 8 rfl rfl)
theorem dX1_run_11 : decode cX1_run 11 = .ok (.aload_n 0, 1) := dk_42 (dk_at dksX1_run_0 11 rfl rfl)
theorem dX1_run_12 : decode cX1_run 12 = .ok (.invokevirtual 146, 3) := dk_182 0 146 (dk_at dksX1_run_0 12 rfl rfl)
theorem dX1_run_15 : decode cX1_run 15 = .ok (.invokevirtual 333, 3) := dk_182 1 77 (dk_at dksX1_run_0 15 rfl rfl)
theorem dX1_run_18 : decode cX1_run 18 = .ok (.aload_n 0, 1) := dk_42 (dk_at dksX1_run_0 18 rfl rfl)
theorem dX1_run_19 : decode cX1_run 19 = .ok (.aload_n 0, 1) := dk_42 (dk_at dksX1_run_0 19 rfl rfl)
theorem dX1_run_20 : decode cX1_run 20 = .ok (.getfield 76, 3) := dk_180 0 76 (dk_at dksX1_run_0 20 rfl rfl)
theorem dX1_run_23 : decode cX1_run 23 = .ok (.getfield 336, 3) := dk_180 1 80 (dk_at dksX1_run_1 0 rfl rfl)
theorem dX1_run_26 : decode cX1_run 26 = .ok (.invokevirtual 153, 3) := dk_182 0 153 (dk_at dksX1_run_1 3 rfl rfl)
theorem dX1_run_29 : decode cX1_run 29 = .ok (.istore_n 1, 1) := dk_60 (dk_at dksX1_run_1 6 rfl rfl)
theorem dX1_run_30 : decode cX1_run 30 = .ok (.aload_n 0, 1) := dk_42 (dk_at dksX1_run_1 7 rfl rfl)
theorem dX1_run_31 : decode cX1_run 31 = .ok (.aload_n 0, 1) := dk_42 (dk_at dksX1_run_1 8 rfl rfl)
theorem dX1_run_32 : decode cX1_run 32 = .ok (.getfield 76, 3) := dk_180 0 76 (dk_at dksX1_run_1 9 rfl rfl)
theorem dX1_run_35 : decode cX1_run 35 = .ok (.getfield 339, 3) := dk_180 1 83 (dk_at dksX1_run_1 12 rfl rfl)
theorem dX1_run_38 : decode cX1_run 38 = .ok (.putfield 80, 3) := dk_181 0 80 (dk_at dksX1_run_1 15 rfl rfl)
theorem dX1_run_41 : decode cX1_run 41 = .ok (.aload_n 0, 1) := dk_42 (dk_at dksX1_run_1 18 rfl rfl)
theorem dX1_run_42 : decode cX1_run 42 = .ok (.getfield 64, 3) := dk_180 0 64 (dk_at dksX1_run_1 19 rfl rfl)
theorem dX1_run_45 : decode cX1_run 45 = .ok (.iconst 0, 1) := dk_3 (dk_at dksX1_run_1 22 rfl rfl)
theorem dX1_run_46 : decode cX1_run 46 = .ok (.invokevirtual 306, 3) := dk_182 1 50 (dk_at dksX1_run_2 0 rfl rfl)
theorem dX1_run_49 : decode cX1_run 49 = .ok (.iload_n 1, 1) := dk_27 (dk_at dksX1_run_2 3 rfl rfl)
theorem dX1_run_50 : decode cX1_run 50 = .ok (.ireturn, 1) := dk_172 (dk_at dksX1_run_2 4 rfl rfl)
theorem dX1_run_51 : decode cX1_run 51 = .ok (.astore_n 1, 1) := dk_76 (dk_at dksX1_run_2 5 rfl rfl)
theorem dX1_run_52 : decode cX1_run 52 = .ok (.new 88, 3) := dk_187 0 88 (dk_at dksX1_run_2 6 rfl rfl)
theorem dX1_run_55 : decode cX1_run 55 = .ok (.dup, 1) := dk_89 (dk_at dksX1_run_2 9 rfl rfl)
theorem dX1_run_56 : decode cX1_run 56 = .ok (.invokespecial 90, 3) := dk_183 0 90 (dk_at dksX1_run_2 10 rfl rfl)
theorem dX1_run_59 : decode cX1_run 59 = .ok (.athrow, 1) := dk_191 (dk_at dksX1_run_2 13 rfl rfl)
theorem dX1_run_60 : decode cX1_run 60 = .ok (.astore_n 1, 1) := dk_76 (dk_at dksX1_run_2 14 rfl rfl)
theorem dX1_run_61 : decode cX1_run 61 = .ok (.aload_n 0, 1) := dk_42 (dk_at dksX1_run_2 15 rfl rfl)
theorem dX1_run_62 : decode cX1_run 62 = .ok (.aload_n 1, 1) := dk_43 (dk_at dksX1_run_2 16 rfl rfl)
theorem dX1_run_63 : decode cX1_run 63 = .ok (.invokevirtual 156, 3) := dk_182 0 156 (dk_at dksX1_run_2 17 rfl rfl)
theorem dX1_run_66 : decode cX1_run 66 = .ok (.athrow, 1) := dk_191 (dk_at dksX1_run_2 20 rfl rfl)
theorem dX1_run_67 : decode cX1_run 67 = .ok (.astore_n 2, 1) := dk_77 (dk_at dksX1_run_2 21 rfl rfl)
theorem dX1_run_68 : decode cX1_run 68 = .ok (.aload_n 0, 1) := dk_42 (dk_at dksX1_run_2 22 rfl rfl)
theorem dX1_run_69 : decode cX1_run 69 = .ok (.aload_n 0, 1) := dk_42 (dk_at dksX1_run_2 23 rfl rfl)
theorem dX1_run_70 : decode cX1_run 70 = .ok (.getfield 76, 3) := dk_180 0 76 (dk_at dksX1_run_3 0 rfl rfl)
theorem dX1_run_73 : decode cX1_run 73 = .ok (.getfield 339, 3) := dk_180 1 83 (dk_at dksX1_run_3 3 rfl rfl)
theorem dX1_run_76 : decode cX1_run 76 = .ok (.putfield 80, 3) := dk_181 0 80 (dk_at dksX1_run_3 6 rfl rfl)
theorem dX1_run_79 : decode cX1_run 79 = .ok (.aload_n 0, 1) := dk_42 (dk_at dksX1_run_3 9 rfl rfl)
theorem dX1_run_80 : decode cX1_run 80 = .ok (.getfield 64, 3) := dk_180 0 64 (dk_at dksX1_run_3 10 rfl rfl)
theorem dX1_run_83 : decode cX1_run 83 = .ok (.iconst 0, 1) := dk_3 (dk_at dksX1_run_3 13 rfl rfl)
theorem dX1_run_84 : decode cX1_run 84 = .ok (.invokevirtual 306, 3) := dk_182 1 50 (dk_at dksX1_run_3 14 rfl rfl)
theorem dX1_run_87 : decode cX1_run 87 = .ok (.aload_n 2, 1) := dk_44 (dk_at dksX1_run_3 17 rfl rfl)
theorem dX1_run_88 : decode cX1_run 88 = .ok (.athrow, 1) := dk_191 (dk_at dksX1_run_3 18 rfl rfl)
abbrev cX1_refusal : ByteArray := prog_1_method_53_code
def yX1_refusal : MethodName := ⟨RX1, "refusal", "(ZZ)I"⟩
def dkwX1_refusal_2 : List UInt8 := [28, 182, 1, 93, 172]
abbrev dktX1_refusal_2 : List UInt8 := dkwX1_refusal_2 ++ []
def dkwX1_refusal_1 : List UInt8 := [180, 1, 90, 167, 0, 7, 42, 180, 0, 107, 78, 45, 198, 0, 7, 4, 167, 0, 4, 3, 184, 0, 103, 45]
abbrev dktX1_refusal_1 : List UInt8 := dkwX1_refusal_1 ++ dktX1_refusal_2
def dkwX1_refusal_0 : List UInt8 := [42, 180, 0, 107, 198, 0, 7, 4, 167, 0, 4, 3, 184, 0, 103, 27, 153, 0, 13, 42, 180, 0, 107]
abbrev dktX1_refusal_0 : List UInt8 := dkwX1_refusal_0 ++ dktX1_refusal_1
theorem dksX1_refusal_0 : cX1_refusal.data.toList.drop 0 = dktX1_refusal_0 := by decide +kernel
theorem dksX1_refusal_1 : cX1_refusal.data.toList.drop 23 = dktX1_refusal_1 := dk_seg dksX1_refusal_0 23 rfl rfl
theorem dksX1_refusal_2 : cX1_refusal.data.toList.drop 47 = dktX1_refusal_2 := dk_seg dksX1_refusal_1 24 rfl rfl
theorem dX1_refusal_0 : decode cX1_refusal 0 = .ok (.aload_n 0, 1) := dk_42 (dk_at dksX1_refusal_0 0 rfl rfl)
theorem dX1_refusal_1 : decode cX1_refusal 1 = .ok (.getfield 107, 3) := dk_180 0 107 (dk_at dksX1_refusal_0 1 rfl rfl)
theorem dX1_refusal_4 : decode cX1_refusal 4 = .ok (.ifnull 7, 3) := dk_198 0 7 (dk_at dksX1_refusal_0 4 rfl rfl)
theorem dX1_refusal_7 : decode cX1_refusal 7 = .ok (.iconst 1, 1) := dk_4 (dk_at dksX1_refusal_0 7 rfl rfl)
theorem dX1_refusal_8 : decode cX1_refusal 8 = .ok (.goto 4, 3) := dk_167 0 4 (dk_at dksX1_refusal_0 8 rfl rfl)
theorem dX1_refusal_11 : decode cX1_refusal 11 = .ok (.iconst 0, 1) := dk_3 (dk_at dksX1_refusal_0 11 rfl rfl)
theorem dX1_refusal_12 : decode cX1_refusal 12 = .ok (.invokestatic 103, 3) := dk_184 0 103 (dk_at dksX1_refusal_0 12 rfl rfl)
theorem dX1_refusal_15 : decode cX1_refusal 15 = .ok (.iload_n 1, 1) := dk_27 (dk_at dksX1_refusal_0 15 rfl rfl)
theorem dX1_refusal_16 : decode cX1_refusal 16 = .ok (.ifCond .eq 13, 3) := dk_153 0 13 (dk_at dksX1_refusal_0 16 rfl rfl)
theorem dX1_refusal_19 : decode cX1_refusal 19 = .ok (.aload_n 0, 1) := dk_42 (dk_at dksX1_refusal_0 19 rfl rfl)
theorem dX1_refusal_20 : decode cX1_refusal 20 = .ok (.getfield 107, 3) := dk_180 0 107 (dk_at dksX1_refusal_0 20 rfl rfl)
theorem dX1_refusal_23 : decode cX1_refusal 23 = .ok (.getfield 346, 3) := dk_180 1 90 (dk_at dksX1_refusal_1 0 rfl rfl)
theorem dX1_refusal_26 : decode cX1_refusal 26 = .ok (.goto 7, 3) := dk_167 0 7 (dk_at dksX1_refusal_1 3 rfl rfl)
theorem dX1_refusal_29 : decode cX1_refusal 29 = .ok (.aload_n 0, 1) := dk_42 (dk_at dksX1_refusal_1 6 rfl rfl)
theorem dX1_refusal_30 : decode cX1_refusal 30 = .ok (.getfield 107, 3) := dk_180 0 107 (dk_at dksX1_refusal_1 7 rfl rfl)
theorem dX1_refusal_33 : decode cX1_refusal 33 = .ok (.astore_n 3, 1) := dk_78 (dk_at dksX1_refusal_1 10 rfl rfl)
theorem dX1_refusal_34 : decode cX1_refusal 34 = .ok (.aload_n 3, 1) := dk_45 (dk_at dksX1_refusal_1 11 rfl rfl)
theorem dX1_refusal_35 : decode cX1_refusal 35 = .ok (.ifnull 7, 3) := dk_198 0 7 (dk_at dksX1_refusal_1 12 rfl rfl)
theorem dX1_refusal_38 : decode cX1_refusal 38 = .ok (.iconst 1, 1) := dk_4 (dk_at dksX1_refusal_1 15 rfl rfl)
theorem dX1_refusal_39 : decode cX1_refusal 39 = .ok (.goto 4, 3) := dk_167 0 4 (dk_at dksX1_refusal_1 16 rfl rfl)
theorem dX1_refusal_42 : decode cX1_refusal 42 = .ok (.iconst 0, 1) := dk_3 (dk_at dksX1_refusal_1 19 rfl rfl)
theorem dX1_refusal_43 : decode cX1_refusal 43 = .ok (.invokestatic 103, 3) := dk_184 0 103 (dk_at dksX1_refusal_1 20 rfl rfl)
theorem dX1_refusal_46 : decode cX1_refusal 46 = .ok (.aload_n 3, 1) := dk_45 (dk_at dksX1_refusal_1 23 rfl rfl)
theorem dX1_refusal_47 : decode cX1_refusal 47 = .ok (.iload_n 2, 1) := dk_28 (dk_at dksX1_refusal_2 0 rfl rfl)
theorem dX1_refusal_48 : decode cX1_refusal 48 = .ok (.invokevirtual 349, 3) := dk_182 1 93 (dk_at dksX1_refusal_2 1 rfl rfl)
theorem dX1_refusal_51 : decode cX1_refusal 51 = .ok (.ireturn, 1) := dk_172 (dk_at dksX1_refusal_2 4 rfl rfl)
abbrev cX1_account : ByteArray := prog_1_method_54_code
def yX1_account : MethodName := ⟨RX1, "account", "(I)I"⟩
def dkwX1_account_5 : List UInt8 := [182, 1, 56, 172, 42, 180, 0, 54, 182, 1, 127, 172]
abbrev dktX1_account_5 : List UInt8 := dkwX1_account_5 ++ []
def dkwX1_account_4 : List UInt8 := [44, 180, 1, 115, 172, 44, 180, 1, 118, 172, 44, 180, 1, 121, 172, 44, 182, 1, 124, 172, 42, 180, 0, 64]
abbrev dktX1_account_4 : List UInt8 := dkwX1_account_4 ++ dktX1_account_5
def dkwX1_account_3 : List UInt8 := [172, 44, 4, 182, 1, 111, 172, 44, 5, 182, 1, 111, 172, 44, 6, 182, 1, 111, 172, 44, 180, 1, 112, 172]
abbrev dktX1_account_3 : List UInt8 := dkwX1_account_3 ++ dktX1_account_4
def dkwX1_account_2 : List UInt8 := [44, 180, 1, 97, 172, 44, 180, 1, 100, 172, 44, 180, 1, 103, 172, 44, 180, 1, 106, 172, 44, 180, 1, 108]
abbrev dktX1_account_2 : List UInt8 := dkwX1_account_2 ++ dktX1_account_3
def dkwX1_account_1 : List UInt8 := [170, 0, 0, 0, 0, 0, 0, 148, 0, 0, 0, 0, 0, 0, 0, 13, 0, 0, 0, 72, 0, 0, 0, 77, 0, 0, 0, 82, 0, 0, 0, 87, 0, 0, 0, 92, 0, 0, 0, 97, 0, 0, 0, 103, 0, 0, 0, 109, 0, 0, 0, 115, 0, 0, 0, 120, 0, 0, 0, 125, 0, 0, 0, 130, 0, 0, 0, 135, 0, 0, 0, 140]
abbrev dktX1_account_1 : List UInt8 := dkwX1_account_1 ++ dktX1_account_2
def dkwX1_account_0 : List UInt8 := [27, 3, 16, 14, 184, 0, 26, 184, 0, 143, 42, 180, 0, 38, 77, 27]
abbrev dktX1_account_0 : List UInt8 := dkwX1_account_0 ++ dktX1_account_1
theorem dksX1_account_0 : cX1_account.data.toList.drop 0 = dktX1_account_0 := by decide +kernel
theorem dksX1_account_1 : cX1_account.data.toList.drop 16 = dktX1_account_1 := dk_seg dksX1_account_0 16 rfl rfl
theorem dksX1_account_2 : cX1_account.data.toList.drop 88 = dktX1_account_2 := dk_seg dksX1_account_1 72 rfl rfl
theorem dksX1_account_3 : cX1_account.data.toList.drop 112 = dktX1_account_3 := dk_seg dksX1_account_2 24 rfl rfl
theorem dksX1_account_4 : cX1_account.data.toList.drop 136 = dktX1_account_4 := dk_seg dksX1_account_3 24 rfl rfl
theorem dksX1_account_5 : cX1_account.data.toList.drop 160 = dktX1_account_5 := dk_seg dksX1_account_4 24 rfl rfl
theorem dX1_account_0 : decode cX1_account 0 = .ok (.iload_n 1, 1) := dk_27 (dk_at dksX1_account_0 0 rfl rfl)
theorem dX1_account_1 : decode cX1_account 1 = .ok (.iconst 0, 1) := dk_3 (dk_at dksX1_account_0 1 rfl rfl)
theorem dX1_account_2 : decode cX1_account 2 = .ok (.bipush 14, 2) := dk_16 14 (dk_at dksX1_account_0 2 rfl rfl)
theorem dX1_account_4 : decode cX1_account 4 = .ok (.invokestatic 26, 3) := dk_184 0 26 (dk_at dksX1_account_0 4 rfl rfl)
theorem dX1_account_7 : decode cX1_account 7 = .ok (.invokestatic 143, 3) := dk_184 0 143 (dk_at dksX1_account_0 7 rfl rfl)
theorem dX1_account_10 : decode cX1_account 10 = .ok (.aload_n 0, 1) := dk_42 (dk_at dksX1_account_0 10 rfl rfl)
theorem dX1_account_11 : decode cX1_account 11 = .ok (.getfield 38, 3) := dk_180 0 38 (dk_at dksX1_account_0 11 rfl rfl)
theorem dX1_account_14 : decode cX1_account 14 = .ok (.astore_n 2, 1) := dk_77 (dk_at dksX1_account_0 14 rfl rfl)
theorem dX1_account_15 : decode cX1_account 15 = .ok (.iload_n 1, 1) := dk_27 (dk_at dksX1_account_0 15 rfl rfl)
theorem dX1_account_16 : decode cX1_account 16 = .ok (.tableswitch 148 0 13 #[72, 77, 82, 87, 92, 97, 103, 109, 115, 120, 125, 130, 135, 140], 72) := by decide +kernel
theorem dX1_account_88 : decode cX1_account 88 = .ok (.aload_n 2, 1) := dk_44 (dk_at dksX1_account_2 0 rfl rfl)
theorem dX1_account_89 : decode cX1_account 89 = .ok (.getfield 353, 3) := dk_180 1 97 (dk_at dksX1_account_2 1 rfl rfl)
theorem dX1_account_92 : decode cX1_account 92 = .ok (.ireturn, 1) := dk_172 (dk_at dksX1_account_2 4 rfl rfl)
theorem dX1_account_93 : decode cX1_account 93 = .ok (.aload_n 2, 1) := dk_44 (dk_at dksX1_account_2 5 rfl rfl)
theorem dX1_account_94 : decode cX1_account 94 = .ok (.getfield 356, 3) := dk_180 1 100 (dk_at dksX1_account_2 6 rfl rfl)
theorem dX1_account_97 : decode cX1_account 97 = .ok (.ireturn, 1) := dk_172 (dk_at dksX1_account_2 9 rfl rfl)
theorem dX1_account_98 : decode cX1_account 98 = .ok (.aload_n 2, 1) := dk_44 (dk_at dksX1_account_2 10 rfl rfl)
theorem dX1_account_99 : decode cX1_account 99 = .ok (.getfield 359, 3) := dk_180 1 103 (dk_at dksX1_account_2 11 rfl rfl)
theorem dX1_account_102 : decode cX1_account 102 = .ok (.ireturn, 1) := dk_172 (dk_at dksX1_account_2 14 rfl rfl)
theorem dX1_account_103 : decode cX1_account 103 = .ok (.aload_n 2, 1) := dk_44 (dk_at dksX1_account_2 15 rfl rfl)
theorem dX1_account_104 : decode cX1_account 104 = .ok (.getfield 362, 3) := dk_180 1 106 (dk_at dksX1_account_2 16 rfl rfl)
theorem dX1_account_107 : decode cX1_account 107 = .ok (.ireturn, 1) := dk_172 (dk_at dksX1_account_2 19 rfl rfl)
theorem dX1_account_108 : decode cX1_account 108 = .ok (.aload_n 2, 1) := dk_44 (dk_at dksX1_account_2 20 rfl rfl)
theorem dX1_account_109 : decode cX1_account 109 = .ok (.getfield 364, 3) := dk_180 1 108 (dk_at dksX1_account_2 21 rfl rfl)
theorem dX1_account_112 : decode cX1_account 112 = .ok (.ireturn, 1) := dk_172 (dk_at dksX1_account_3 0 rfl rfl)
theorem dX1_account_113 : decode cX1_account 113 = .ok (.aload_n 2, 1) := dk_44 (dk_at dksX1_account_3 1 rfl rfl)
theorem dX1_account_114 : decode cX1_account 114 = .ok (.iconst 1, 1) := dk_4 (dk_at dksX1_account_3 2 rfl rfl)
theorem dX1_account_115 : decode cX1_account 115 = .ok (.invokevirtual 367, 3) := dk_182 1 111 (dk_at dksX1_account_3 3 rfl rfl)
theorem dX1_account_118 : decode cX1_account 118 = .ok (.ireturn, 1) := dk_172 (dk_at dksX1_account_3 6 rfl rfl)
theorem dX1_account_119 : decode cX1_account 119 = .ok (.aload_n 2, 1) := dk_44 (dk_at dksX1_account_3 7 rfl rfl)
theorem dX1_account_120 : decode cX1_account 120 = .ok (.iconst 2, 1) := dk_5 (dk_at dksX1_account_3 8 rfl rfl)
theorem dX1_account_121 : decode cX1_account 121 = .ok (.invokevirtual 367, 3) := dk_182 1 111 (dk_at dksX1_account_3 9 rfl rfl)
theorem dX1_account_124 : decode cX1_account 124 = .ok (.ireturn, 1) := dk_172 (dk_at dksX1_account_3 12 rfl rfl)
theorem dX1_account_125 : decode cX1_account 125 = .ok (.aload_n 2, 1) := dk_44 (dk_at dksX1_account_3 13 rfl rfl)
theorem dX1_account_126 : decode cX1_account 126 = .ok (.iconst 3, 1) := dk_6 (dk_at dksX1_account_3 14 rfl rfl)
theorem dX1_account_127 : decode cX1_account 127 = .ok (.invokevirtual 367, 3) := dk_182 1 111 (dk_at dksX1_account_3 15 rfl rfl)
theorem dX1_account_130 : decode cX1_account 130 = .ok (.ireturn, 1) := dk_172 (dk_at dksX1_account_3 18 rfl rfl)
theorem dX1_account_131 : decode cX1_account 131 = .ok (.aload_n 2, 1) := dk_44 (dk_at dksX1_account_3 19 rfl rfl)
theorem dX1_account_132 : decode cX1_account 132 = .ok (.getfield 368, 3) := dk_180 1 112 (dk_at dksX1_account_3 20 rfl rfl)
theorem dX1_account_135 : decode cX1_account 135 = .ok (.ireturn, 1) := dk_172 (dk_at dksX1_account_3 23 rfl rfl)
theorem dX1_account_136 : decode cX1_account 136 = .ok (.aload_n 2, 1) := dk_44 (dk_at dksX1_account_4 0 rfl rfl)
theorem dX1_account_137 : decode cX1_account 137 = .ok (.getfield 371, 3) := dk_180 1 115 (dk_at dksX1_account_4 1 rfl rfl)
theorem dX1_account_140 : decode cX1_account 140 = .ok (.ireturn, 1) := dk_172 (dk_at dksX1_account_4 4 rfl rfl)
theorem dX1_account_141 : decode cX1_account 141 = .ok (.aload_n 2, 1) := dk_44 (dk_at dksX1_account_4 5 rfl rfl)
theorem dX1_account_142 : decode cX1_account 142 = .ok (.getfield 374, 3) := dk_180 1 118 (dk_at dksX1_account_4 6 rfl rfl)
theorem dX1_account_145 : decode cX1_account 145 = .ok (.ireturn, 1) := dk_172 (dk_at dksX1_account_4 9 rfl rfl)
theorem dX1_account_146 : decode cX1_account 146 = .ok (.aload_n 2, 1) := dk_44 (dk_at dksX1_account_4 10 rfl rfl)
theorem dX1_account_147 : decode cX1_account 147 = .ok (.getfield 377, 3) := dk_180 1 121 (dk_at dksX1_account_4 11 rfl rfl)
theorem dX1_account_150 : decode cX1_account 150 = .ok (.ireturn, 1) := dk_172 (dk_at dksX1_account_4 14 rfl rfl)
theorem dX1_account_151 : decode cX1_account 151 = .ok (.aload_n 2, 1) := dk_44 (dk_at dksX1_account_4 15 rfl rfl)
theorem dX1_account_152 : decode cX1_account 152 = .ok (.invokevirtual 380, 3) := dk_182 1 124 (dk_at dksX1_account_4 16 rfl rfl)
theorem dX1_account_155 : decode cX1_account 155 = .ok (.ireturn, 1) := dk_172 (dk_at dksX1_account_4 19 rfl rfl)
theorem dX1_account_156 : decode cX1_account 156 = .ok (.aload_n 0, 1) := dk_42 (dk_at dksX1_account_4 20 rfl rfl)
theorem dX1_account_157 : decode cX1_account 157 = .ok (.getfield 64, 3) := dk_180 0 64 (dk_at dksX1_account_4 21 rfl rfl)
theorem dX1_account_160 : decode cX1_account 160 = .ok (.invokevirtual 312, 3) := dk_182 1 56 (dk_at dksX1_account_5 0 rfl rfl)
theorem dX1_account_163 : decode cX1_account 163 = .ok (.ireturn, 1) := dk_172 (dk_at dksX1_account_5 3 rfl rfl)
theorem dX1_account_164 : decode cX1_account 164 = .ok (.aload_n 0, 1) := dk_42 (dk_at dksX1_account_5 4 rfl rfl)
theorem dX1_account_165 : decode cX1_account 165 = .ok (.getfield 54, 3) := dk_180 0 54 (dk_at dksX1_account_5 5 rfl rfl)
theorem dX1_account_168 : decode cX1_account 168 = .ok (.invokevirtual 383, 3) := dk_182 1 127 (dk_at dksX1_account_5 8 rfl rfl)
theorem dX1_account_171 : decode cX1_account 171 = .ok (.ireturn, 1) := dk_172 (dk_at dksX1_account_5 11 rfl rfl)
abbrev cX1_meanShame : ByteArray := prog_1_method_56_code
def yX1_meanShame : MethodName := ⟨RX1, "meanShame", "()D"⟩
def dkwX1_meanShame_1 : List UInt8 := [182, 1, 135, 135, 42, 180, 0, 38, 180, 1, 97, 135, 111, 175]
abbrev dktX1_meanShame_1 : List UInt8 := dkwX1_meanShame_1 ++ []
def dkwX1_meanShame_0 : List UInt8 := [42, 180, 0, 38, 180, 1, 97, 158, 0, 7, 4, 167, 0, 4, 3, 184, 1, 132, 42, 180, 0, 38]
abbrev dktX1_meanShame_0 : List UInt8 := dkwX1_meanShame_0 ++ dktX1_meanShame_1
theorem dksX1_meanShame_0 : cX1_meanShame.data.toList.drop 0 = dktX1_meanShame_0 := by decide +kernel
theorem dksX1_meanShame_1 : cX1_meanShame.data.toList.drop 22 = dktX1_meanShame_1 := dk_seg dksX1_meanShame_0 22 rfl rfl
theorem dX1_meanShame_0 : decode cX1_meanShame 0 = .ok (.aload_n 0, 1) := dk_42 (dk_at dksX1_meanShame_0 0 rfl rfl)
theorem dX1_meanShame_1 : decode cX1_meanShame 1 = .ok (.getfield 38, 3) := dk_180 0 38 (dk_at dksX1_meanShame_0 1 rfl rfl)
theorem dX1_meanShame_4 : decode cX1_meanShame 4 = .ok (.getfield 353, 3) := dk_180 1 97 (dk_at dksX1_meanShame_0 4 rfl rfl)
theorem dX1_meanShame_7 : decode cX1_meanShame 7 = .ok (.ifCond .le 7, 3) := dk_158 0 7 (dk_at dksX1_meanShame_0 7 rfl rfl)
theorem dX1_meanShame_10 : decode cX1_meanShame 10 = .ok (.iconst 1, 1) := dk_4 (dk_at dksX1_meanShame_0 10 rfl rfl)
theorem dX1_meanShame_11 : decode cX1_meanShame 11 = .ok (.goto 4, 3) := dk_167 0 4 (dk_at dksX1_meanShame_0 11 rfl rfl)
theorem dX1_meanShame_14 : decode cX1_meanShame 14 = .ok (.iconst 0, 1) := dk_3 (dk_at dksX1_meanShame_0 14 rfl rfl)
theorem dX1_meanShame_15 : decode cX1_meanShame 15 = .ok (.invokestatic 388, 3) := dk_184 1 132 (dk_at dksX1_meanShame_0 15 rfl rfl)
theorem dX1_meanShame_18 : decode cX1_meanShame 18 = .ok (.aload_n 0, 1) := dk_42 (dk_at dksX1_meanShame_0 18 rfl rfl)
theorem dX1_meanShame_19 : decode cX1_meanShame 19 = .ok (.getfield 38, 3) := dk_180 0 38 (dk_at dksX1_meanShame_0 19 rfl rfl)
theorem dX1_meanShame_22 : decode cX1_meanShame 22 = .ok (.invokevirtual 391, 3) := dk_182 1 135 (dk_at dksX1_meanShame_1 0 rfl rfl)
theorem dX1_meanShame_25 : decode cX1_meanShame 25 = .ok (.i2d, 1) := dk_135 (dk_at dksX1_meanShame_1 3 rfl rfl)
theorem dX1_meanShame_26 : decode cX1_meanShame 26 = .ok (.aload_n 0, 1) := dk_42 (dk_at dksX1_meanShame_1 4 rfl rfl)
theorem dX1_meanShame_27 : decode cX1_meanShame 27 = .ok (.getfield 38, 3) := dk_180 0 38 (dk_at dksX1_meanShame_1 5 rfl rfl)
theorem dX1_meanShame_30 : decode cX1_meanShame 30 = .ok (.getfield 353, 3) := dk_180 1 97 (dk_at dksX1_meanShame_1 8 rfl rfl)
theorem dX1_meanShame_33 : decode cX1_meanShame 33 = .ok (.i2d, 1) := dk_135 (dk_at dksX1_meanShame_1 11 rfl rfl)
theorem dX1_meanShame_34 : decode cX1_meanShame 34 = .ok (.ddiv, 1) := dk_111 (dk_at dksX1_meanShame_1 12 rfl rfl)
theorem dX1_meanShame_35 : decode cX1_meanShame 35 = .ok (.dreturn, 1) := dk_175 (dk_at dksX1_meanShame_1 13 rfl rfl)
abbrev cX1_checkAny : ByteArray := prog_1_method_13_code
def yX1_checkAny : MethodName := ⟨RX1, "checkAny", "(Z)V"⟩
def dkwX1_checkAny_0 : List UInt8 := [26, 154, 0, 11, 187, 0, 100, 89, 183, 0, 102, 191, 177]
abbrev dktX1_checkAny_0 : List UInt8 := dkwX1_checkAny_0 ++ []
theorem dksX1_checkAny_0 : cX1_checkAny.data.toList.drop 0 = dktX1_checkAny_0 := by decide +kernel
theorem dX1_checkAny_0 : decode cX1_checkAny 0 = .ok (.iload_n 0, 1) := dk_26 (dk_at dksX1_checkAny_0 0 rfl rfl)
theorem dX1_checkAny_1 : decode cX1_checkAny 1 = .ok (.ifCond .ne 11, 3) := dk_154 0 11 (dk_at dksX1_checkAny_0 1 rfl rfl)
theorem dX1_checkAny_4 : decode cX1_checkAny 4 = .ok (.new 100, 3) := dk_187 0 100 (dk_at dksX1_checkAny_0 4 rfl rfl)
theorem dX1_checkAny_7 : decode cX1_checkAny 7 = .ok (.dup, 1) := dk_89 (dk_at dksX1_checkAny_0 7 rfl rfl)
theorem dX1_checkAny_8 : decode cX1_checkAny 8 = .ok (.invokespecial 102, 3) := dk_183 0 102 (dk_at dksX1_checkAny_0 8 rfl rfl)
theorem dX1_checkAny_11 : decode cX1_checkAny 11 = .ok (.athrow, 1) := dk_191 (dk_at dksX1_checkAny_0 11 rfl rfl)
theorem dX1_checkAny_12 : decode cX1_checkAny 12 = .ok (.return_, 1) := dk_177 (dk_at dksX1_checkAny_0 12 rfl rfl)
abbrev cX1_errorShare : ByteArray := prog_1_method_57_code
def yX1_errorShare : MethodName := ⟨RX1, "errorShare", "()F"⟩
def dkwX1_errorShare_1 : List UInt8 := [182, 1, 111, 134, 42, 180, 0, 38, 182, 1, 138, 134, 110, 174]
abbrev dktX1_errorShare_1 : List UInt8 := dkwX1_errorShare_1 ++ []
def dkwX1_errorShare_0 : List UInt8 := [42, 180, 0, 38, 180, 1, 100, 158, 0, 7, 4, 167, 0, 4, 3, 184, 1, 132, 42, 180, 0, 38, 4]
abbrev dktX1_errorShare_0 : List UInt8 := dkwX1_errorShare_0 ++ dktX1_errorShare_1
theorem dksX1_errorShare_0 : cX1_errorShare.data.toList.drop 0 = dktX1_errorShare_0 := by decide +kernel
theorem dksX1_errorShare_1 : cX1_errorShare.data.toList.drop 23 = dktX1_errorShare_1 := dk_seg dksX1_errorShare_0 23 rfl rfl
theorem dX1_errorShare_0 : decode cX1_errorShare 0 = .ok (.aload_n 0, 1) := dk_42 (dk_at dksX1_errorShare_0 0 rfl rfl)
theorem dX1_errorShare_1 : decode cX1_errorShare 1 = .ok (.getfield 38, 3) := dk_180 0 38 (dk_at dksX1_errorShare_0 1 rfl rfl)
theorem dX1_errorShare_4 : decode cX1_errorShare 4 = .ok (.getfield 356, 3) := dk_180 1 100 (dk_at dksX1_errorShare_0 4 rfl rfl)
theorem dX1_errorShare_7 : decode cX1_errorShare 7 = .ok (.ifCond .le 7, 3) := dk_158 0 7 (dk_at dksX1_errorShare_0 7 rfl rfl)
theorem dX1_errorShare_10 : decode cX1_errorShare 10 = .ok (.iconst 1, 1) := dk_4 (dk_at dksX1_errorShare_0 10 rfl rfl)
theorem dX1_errorShare_11 : decode cX1_errorShare 11 = .ok (.goto 4, 3) := dk_167 0 4 (dk_at dksX1_errorShare_0 11 rfl rfl)
theorem dX1_errorShare_14 : decode cX1_errorShare 14 = .ok (.iconst 0, 1) := dk_3 (dk_at dksX1_errorShare_0 14 rfl rfl)
theorem dX1_errorShare_15 : decode cX1_errorShare 15 = .ok (.invokestatic 388, 3) := dk_184 1 132 (dk_at dksX1_errorShare_0 15 rfl rfl)
theorem dX1_errorShare_18 : decode cX1_errorShare 18 = .ok (.aload_n 0, 1) := dk_42 (dk_at dksX1_errorShare_0 18 rfl rfl)
theorem dX1_errorShare_19 : decode cX1_errorShare 19 = .ok (.getfield 38, 3) := dk_180 0 38 (dk_at dksX1_errorShare_0 19 rfl rfl)
theorem dX1_errorShare_22 : decode cX1_errorShare 22 = .ok (.iconst 1, 1) := dk_4 (dk_at dksX1_errorShare_0 22 rfl rfl)
theorem dX1_errorShare_23 : decode cX1_errorShare 23 = .ok (.invokevirtual 367, 3) := dk_182 1 111 (dk_at dksX1_errorShare_1 0 rfl rfl)
theorem dX1_errorShare_26 : decode cX1_errorShare 26 = .ok (.i2f, 1) := dk_134 (dk_at dksX1_errorShare_1 3 rfl rfl)
theorem dX1_errorShare_27 : decode cX1_errorShare 27 = .ok (.aload_n 0, 1) := dk_42 (dk_at dksX1_errorShare_1 4 rfl rfl)
theorem dX1_errorShare_28 : decode cX1_errorShare 28 = .ok (.getfield 38, 3) := dk_180 0 38 (dk_at dksX1_errorShare_1 5 rfl rfl)
theorem dX1_errorShare_31 : decode cX1_errorShare 31 = .ok (.invokevirtual 394, 3) := dk_182 1 138 (dk_at dksX1_errorShare_1 8 rfl rfl)
theorem dX1_errorShare_34 : decode cX1_errorShare 34 = .ok (.i2f, 1) := dk_134 (dk_at dksX1_errorShare_1 11 rfl rfl)
theorem dX1_errorShare_35 : decode cX1_errorShare 35 = .ok (.fdiv, 1) := dk_110 (dk_at dksX1_errorShare_1 12 rfl rfl)
theorem dX1_errorShare_36 : decode cX1_errorShare 36 = .ok (.freturn, 1) := dk_174 (dk_at dksX1_errorShare_1 13 rfl rfl)
abbrev cX1_undo : ByteArray := prog_1_method_58_code
def yX1_undo : MethodName := ⟨RX1, "undo", "()I"⟩
def dkwX1_undo_2 : List UInt8 := [180, 0, 54, 182, 1, 127, 172]
abbrev dktX1_undo_2 : List UInt8 := dkwX1_undo_2 ++ []
def dkwX1_undo_1 : List UInt8 := [182, 1, 141, 192, 0, 35, 76, 42, 180, 0, 38, 43, 182, 0, 136, 42, 180, 0, 58, 43, 182, 0, 84, 42]
abbrev dktX1_undo_1 : List UInt8 := dkwX1_undo_1 ++ dktX1_undo_2
def dkwX1_undo_0 : List UInt8 := [42, 180, 0, 54, 182, 0, 128, 154, 0, 7, 4, 167, 0, 4, 3, 184, 1, 67, 42, 180, 0, 54]
abbrev dktX1_undo_0 : List UInt8 := dkwX1_undo_0 ++ dktX1_undo_1
theorem dksX1_undo_0 : cX1_undo.data.toList.drop 0 = dktX1_undo_0 := by decide +kernel
theorem dksX1_undo_1 : cX1_undo.data.toList.drop 22 = dktX1_undo_1 := dk_seg dksX1_undo_0 22 rfl rfl
theorem dksX1_undo_2 : cX1_undo.data.toList.drop 46 = dktX1_undo_2 := dk_seg dksX1_undo_1 24 rfl rfl
theorem dX1_undo_0 : decode cX1_undo 0 = .ok (.aload_n 0, 1) := dk_42 (dk_at dksX1_undo_0 0 rfl rfl)
theorem dX1_undo_1 : decode cX1_undo 1 = .ok (.getfield 54, 3) := dk_180 0 54 (dk_at dksX1_undo_0 1 rfl rfl)
theorem dX1_undo_4 : decode cX1_undo 4 = .ok (.invokevirtual 128, 3) := dk_182 0 128 (dk_at dksX1_undo_0 4 rfl rfl)
theorem dX1_undo_7 : decode cX1_undo 7 = .ok (.ifCond .ne 7, 3) := dk_154 0 7 (dk_at dksX1_undo_0 7 rfl rfl)
theorem dX1_undo_10 : decode cX1_undo 10 = .ok (.iconst 1, 1) := dk_4 (dk_at dksX1_undo_0 10 rfl rfl)
theorem dX1_undo_11 : decode cX1_undo 11 = .ok (.goto 4, 3) := dk_167 0 4 (dk_at dksX1_undo_0 11 rfl rfl)
theorem dX1_undo_14 : decode cX1_undo 14 = .ok (.iconst 0, 1) := dk_3 (dk_at dksX1_undo_0 14 rfl rfl)
theorem dX1_undo_15 : decode cX1_undo 15 = .ok (.invokestatic 323, 3) := dk_184 1 67 (dk_at dksX1_undo_0 15 rfl rfl)
theorem dX1_undo_18 : decode cX1_undo 18 = .ok (.aload_n 0, 1) := dk_42 (dk_at dksX1_undo_0 18 rfl rfl)
theorem dX1_undo_19 : decode cX1_undo 19 = .ok (.getfield 54, 3) := dk_180 0 54 (dk_at dksX1_undo_0 19 rfl rfl)
theorem dX1_undo_22 : decode cX1_undo 22 = .ok (.invokevirtual 397, 3) := dk_182 1 141 (dk_at dksX1_undo_1 0 rfl rfl)
theorem dX1_undo_25 : decode cX1_undo 25 = .ok (.checkcast 35, 3) := dk_192 0 35 (dk_at dksX1_undo_1 3 rfl rfl)
theorem dX1_undo_28 : decode cX1_undo 28 = .ok (.astore_n 1, 1) := dk_76 (dk_at dksX1_undo_1 6 rfl rfl)
theorem dX1_undo_29 : decode cX1_undo 29 = .ok (.aload_n 0, 1) := dk_42 (dk_at dksX1_undo_1 7 rfl rfl)
theorem dX1_undo_30 : decode cX1_undo 30 = .ok (.getfield 38, 3) := dk_180 0 38 (dk_at dksX1_undo_1 8 rfl rfl)
theorem dX1_undo_33 : decode cX1_undo 33 = .ok (.aload_n 1, 1) := dk_43 (dk_at dksX1_undo_1 11 rfl rfl)
theorem dX1_undo_34 : decode cX1_undo 34 = .ok (.invokevirtual 136, 3) := dk_182 0 136 (dk_at dksX1_undo_1 12 rfl rfl)
theorem dX1_undo_37 : decode cX1_undo 37 = .ok (.aload_n 0, 1) := dk_42 (dk_at dksX1_undo_1 15 rfl rfl)
theorem dX1_undo_38 : decode cX1_undo 38 = .ok (.getfield 58, 3) := dk_180 0 58 (dk_at dksX1_undo_1 16 rfl rfl)
theorem dX1_undo_41 : decode cX1_undo 41 = .ok (.aload_n 1, 1) := dk_43 (dk_at dksX1_undo_1 19 rfl rfl)
theorem dX1_undo_42 : decode cX1_undo 42 = .ok (.invokevirtual 84, 3) := dk_182 0 84 (dk_at dksX1_undo_1 20 rfl rfl)
theorem dX1_undo_45 : decode cX1_undo 45 = .ok (.aload_n 0, 1) := dk_42 (dk_at dksX1_undo_1 23 rfl rfl)
theorem dX1_undo_46 : decode cX1_undo 46 = .ok (.getfield 54, 3) := dk_180 0 54 (dk_at dksX1_undo_2 0 rfl rfl)
theorem dX1_undo_49 : decode cX1_undo 49 = .ok (.invokevirtual 383, 3) := dk_182 1 127 (dk_at dksX1_undo_2 3 rfl rfl)
theorem dX1_undo_52 : decode cX1_undo 52 = .ok (.ireturn, 1) := dk_172 (dk_at dksX1_undo_2 6 rfl rfl)
abbrev cX1_restore : ByteArray := prog_1_method_60_code
def yX1_restore : MethodName := ⟨RX1, "restore", "()I"⟩
def dkwX1_restore_2 : List UInt8 := [167, 255, 229, 42, 180, 0, 38, 180, 1, 100, 172]
abbrev dktX1_restore_2 : List UInt8 := dkwX1_restore_2 ++ []
def dkwX1_restore_1 : List UInt8 := [182, 0, 128, 154, 0, 23, 42, 180, 0, 58, 42, 180, 0, 54, 182, 1, 141, 192, 0, 35, 182, 0, 84]
abbrev dktX1_restore_1 : List UInt8 := dkwX1_restore_1 ++ dktX1_restore_2
def dkwX1_restore_0 : List UInt8 := [42, 180, 1, 144, 184, 1, 67, 42, 180, 0, 38, 42, 180, 0, 45, 182, 0, 136, 42, 180, 0, 54]
abbrev dktX1_restore_0 : List UInt8 := dkwX1_restore_0 ++ dktX1_restore_1
theorem dksX1_restore_0 : cX1_restore.data.toList.drop 0 = dktX1_restore_0 := by decide +kernel
theorem dksX1_restore_1 : cX1_restore.data.toList.drop 22 = dktX1_restore_1 := dk_seg dksX1_restore_0 22 rfl rfl
theorem dksX1_restore_2 : cX1_restore.data.toList.drop 45 = dktX1_restore_2 := dk_seg dksX1_restore_1 23 rfl rfl
theorem dX1_restore_0 : decode cX1_restore 0 = .ok (.aload_n 0, 1) := dk_42 (dk_at dksX1_restore_0 0 rfl rfl)
theorem dX1_restore_1 : decode cX1_restore 1 = .ok (.getfield 400, 3) := dk_180 1 144 (dk_at dksX1_restore_0 1 rfl rfl)
theorem dX1_restore_4 : decode cX1_restore 4 = .ok (.invokestatic 323, 3) := dk_184 1 67 (dk_at dksX1_restore_0 4 rfl rfl)
theorem dX1_restore_7 : decode cX1_restore 7 = .ok (.aload_n 0, 1) := dk_42 (dk_at dksX1_restore_0 7 rfl rfl)
theorem dX1_restore_8 : decode cX1_restore 8 = .ok (.getfield 38, 3) := dk_180 0 38 (dk_at dksX1_restore_0 8 rfl rfl)
theorem dX1_restore_11 : decode cX1_restore 11 = .ok (.aload_n 0, 1) := dk_42 (dk_at dksX1_restore_0 11 rfl rfl)
theorem dX1_restore_12 : decode cX1_restore 12 = .ok (.getfield 45, 3) := dk_180 0 45 (dk_at dksX1_restore_0 12 rfl rfl)
theorem dX1_restore_15 : decode cX1_restore 15 = .ok (.invokevirtual 136, 3) := dk_182 0 136 (dk_at dksX1_restore_0 15 rfl rfl)
theorem dX1_restore_18 : decode cX1_restore 18 = .ok (.aload_n 0, 1) := dk_42 (dk_at dksX1_restore_0 18 rfl rfl)
theorem dX1_restore_19 : decode cX1_restore 19 = .ok (.getfield 54, 3) := dk_180 0 54 (dk_at dksX1_restore_0 19 rfl rfl)
theorem dX1_restore_22 : decode cX1_restore 22 = .ok (.invokevirtual 128, 3) := dk_182 0 128 (dk_at dksX1_restore_1 0 rfl rfl)
theorem dX1_restore_25 : decode cX1_restore 25 = .ok (.ifCond .ne 23, 3) := dk_154 0 23 (dk_at dksX1_restore_1 3 rfl rfl)
theorem dX1_restore_28 : decode cX1_restore 28 = .ok (.aload_n 0, 1) := dk_42 (dk_at dksX1_restore_1 6 rfl rfl)
theorem dX1_restore_29 : decode cX1_restore 29 = .ok (.getfield 58, 3) := dk_180 0 58 (dk_at dksX1_restore_1 7 rfl rfl)
theorem dX1_restore_32 : decode cX1_restore 32 = .ok (.aload_n 0, 1) := dk_42 (dk_at dksX1_restore_1 10 rfl rfl)
theorem dX1_restore_33 : decode cX1_restore 33 = .ok (.getfield 54, 3) := dk_180 0 54 (dk_at dksX1_restore_1 11 rfl rfl)
theorem dX1_restore_36 : decode cX1_restore 36 = .ok (.invokevirtual 397, 3) := dk_182 1 141 (dk_at dksX1_restore_1 14 rfl rfl)
theorem dX1_restore_39 : decode cX1_restore 39 = .ok (.checkcast 35, 3) := dk_192 0 35 (dk_at dksX1_restore_1 17 rfl rfl)
theorem dX1_restore_42 : decode cX1_restore 42 = .ok (.invokevirtual 84, 3) := dk_182 0 84 (dk_at dksX1_restore_1 20 rfl rfl)
theorem dX1_restore_45 : decode cX1_restore 45 = .ok (.goto (-27), 3) := dk_167 255 229 (dk_at dksX1_restore_2 0 rfl rfl)
theorem dX1_restore_48 : decode cX1_restore 48 = .ok (.aload_n 0, 1) := dk_42 (dk_at dksX1_restore_2 3 rfl rfl)
theorem dX1_restore_49 : decode cX1_restore 49 = .ok (.getfield 38, 3) := dk_180 0 38 (dk_at dksX1_restore_2 4 rfl rfl)
theorem dX1_restore_52 : decode cX1_restore 52 = .ok (.getfield 356, 3) := dk_180 1 100 (dk_at dksX1_restore_2 7 rfl rfl)
theorem dX1_restore_55 : decode cX1_restore 55 = .ok (.ireturn, 1) := dk_172 (dk_at dksX1_restore_2 10 rfl rfl)
def fX1 : List ZE := [(38, 0, 0, .object "ErrataPress$Press", 2), (42, 0, 1, .object "ErrataPress$Press", 2), (45, 0, 2, .object "ErrataPress$Press", 2), (48, 0, 3, .object "ErrataPress$Press", 2), (54, 0, 5, .object "java/util/ArrayDeque", 2), (58, 0, 6, .object "java/util/ArrayDeque", 2), (64, 0, 7, .object "java/lang/StringBuilder", 2), (68, 0, 8, .object "java/lang/StringBuilder", 2), (76, 0, 9, .object "ErrataPress$Reader", 2), (80, 0, 10, .int, 0), (107, 0, 11, .object "ErrataPress$Refused", 0), (400, 0, 4, .boolean, 0), (203, 1, 2, .array (.object "ErrataPress$House"), 1), (207, 2, 0, .int, 0), (212, 2, 1, .int, 0), (227, 2, 2, .int, 0), (230, 1, 4, .array (.object "ErrataPress$Sheet"), 1), (234, 3, 0, .int, 0), (238, 3, 1, .int, 0), (247, 3, 2, .array .int, 1), (251, 3, 3, .array .int, 1), (253, 3, 4, .array .int, 1), (336, 4, 3, .int, 0), (339, 4, 2, .int, 0), (346, 6, 2, .object "ErrataPress$Refused", 1), (353, 1, 1, .int, 0), (356, 1, 3, .int, 0), (359, 1, 5, .int, 0), (362, 1, 9, .int, 0), (364, 1, 10, .int, 0), (368, 1, 11, .int, 0), (371, 1, 12, .int, 0), (374, 1, 13, .int, 0), (377, 1, 14, .int, 0)]
theorem fokX1 : zFok RX1 fX1 := List.forall_mem_cons.mpr ⟨⟨by decide, by decide, by decide +kernel, Or.inr q457, by decide, by decide +kernel⟩, List.forall_mem_cons.mpr ⟨⟨by decide, by decide, by decide +kernel, Or.inr q458, by decide, by decide +kernel⟩, List.forall_mem_cons.mpr ⟨⟨by decide, by decide, by decide +kernel, Or.inr q459, by decide, by decide +kernel⟩, List.forall_mem_cons.mpr ⟨⟨by decide, by decide, by decide +kernel, Or.inr q460, by decide, by decide +kernel⟩, List.forall_mem_cons.mpr ⟨⟨by decide, by decide, by decide +kernel, Or.inr q462, by decide, by decide +kernel⟩, List.forall_mem_cons.mpr ⟨⟨by decide, by decide, by decide +kernel, Or.inr q463, by decide, by decide +kernel⟩, List.forall_mem_cons.mpr ⟨⟨by decide, by decide, by decide +kernel, Or.inr q464, by decide, by decide +kernel⟩, List.forall_mem_cons.mpr ⟨⟨by decide, by decide, by decide +kernel, Or.inr q465, by decide, by decide +kernel⟩, List.forall_mem_cons.mpr ⟨⟨by decide, by decide, by decide +kernel, Or.inr q466, by decide, by decide +kernel⟩, List.forall_mem_cons.mpr ⟨⟨by decide, by decide, by decide +kernel, Or.inr q467, by decide, by decide +kernel⟩, List.forall_mem_cons.mpr ⟨⟨by decide, by decide, by decide +kernel, Or.inr q468, by decide, by decide +kernel⟩, List.forall_mem_cons.mpr ⟨⟨by decide, by decide, by decide +kernel, Or.inr q461, by decide, by decide +kernel⟩, List.forall_mem_cons.mpr ⟨⟨by decide, by decide, by decide +kernel, Or.inl ⟨_, q191, by decide⟩, by decide, by decide +kernel⟩, List.forall_mem_cons.mpr ⟨⟨by decide, by decide, by decide +kernel, Or.inl ⟨_, q141, by decide⟩, by decide, by decide +kernel⟩, List.forall_mem_cons.mpr ⟨⟨by decide, by decide, by decide +kernel, Or.inl ⟨_, q144, by decide⟩, by decide, by decide +kernel⟩, List.forall_mem_cons.mpr ⟨⟨by decide, by decide, by decide +kernel, Or.inl ⟨_, q147, by decide⟩, by decide, by decide +kernel⟩, List.forall_mem_cons.mpr ⟨⟨by decide, by decide, by decide +kernel, Or.inl ⟨_, q195, by decide⟩, by decide, by decide +kernel⟩, List.forall_mem_cons.mpr ⟨⟨by decide, by decide, by decide +kernel, Or.inl ⟨_, q163, by decide⟩, by decide, by decide +kernel⟩, List.forall_mem_cons.mpr ⟨⟨by decide, by decide, by decide +kernel, Or.inl ⟨_, q166, by decide⟩, by decide, by decide +kernel⟩, List.forall_mem_cons.mpr ⟨⟨by decide, by decide, by decide +kernel, Or.inl ⟨_, q169, by decide⟩, by decide, by decide +kernel⟩, List.forall_mem_cons.mpr ⟨⟨by decide, by decide, by decide +kernel, Or.inl ⟨_, q172, by decide⟩, by decide, by decide +kernel⟩, List.forall_mem_cons.mpr ⟨⟨by decide, by decide, by decide +kernel, Or.inl ⟨_, q175, by decide⟩, by decide, by decide +kernel⟩, List.forall_mem_cons.mpr ⟨⟨by decide, by decide, by decide +kernel, Or.inl ⟨_, q309, by decide⟩, by decide, by decide +kernel⟩, List.forall_mem_cons.mpr ⟨⟨by decide, by decide, by decide +kernel, Or.inl ⟨_, q307, by decide⟩, by decide, by decide +kernel⟩, List.forall_mem_cons.mpr ⟨⟨by decide, by decide, by decide +kernel, Or.inl ⟨_, q655, by decide⟩, by decide, by decide +kernel⟩, List.forall_mem_cons.mpr ⟨⟨by decide, by decide, by decide +kernel, Or.inl ⟨_, q189, by decide⟩, by decide, by decide +kernel⟩, List.forall_mem_cons.mpr ⟨⟨by decide, by decide, by decide +kernel, Or.inl ⟨_, q193, by decide⟩, by decide, by decide +kernel⟩, List.forall_mem_cons.mpr ⟨⟨by decide, by decide, by decide +kernel, Or.inl ⟨_, q197, by decide⟩, by decide, by decide +kernel⟩, List.forall_mem_cons.mpr ⟨⟨by decide, by decide, by decide +kernel, Or.inl ⟨_, q202, by decide⟩, by decide, by decide +kernel⟩, List.forall_mem_cons.mpr ⟨⟨by decide, by decide, by decide +kernel, Or.inl ⟨_, q204, by decide⟩, by decide, by decide +kernel⟩, List.forall_mem_cons.mpr ⟨⟨by decide, by decide, by decide +kernel, Or.inl ⟨_, q206, by decide⟩, by decide, by decide +kernel⟩, List.forall_mem_cons.mpr ⟨⟨by decide, by decide, by decide +kernel, Or.inl ⟨_, q208, by decide⟩, by decide, by decide +kernel⟩, List.forall_mem_cons.mpr ⟨⟨by decide, by decide, by decide +kernel, Or.inl ⟨_, q210, by decide⟩, by decide, by decide +kernel⟩, List.forall_mem_cons.mpr ⟨⟨by decide, by decide, by decide +kernel, Or.inl ⟨_, q212, by decide⟩, by decide, by decide +kernel⟩, fun _ h => by cases h⟩⟩⟩⟩⟩⟩⟩⟩⟩⟩⟩⟩⟩⟩⟩⟩⟩⟩⟩⟩⟩⟩⟩⟩⟩⟩⟩⟩⟩⟩⟩⟩⟩⟩
abbrev kX1_init : ZK := (RX1, cX1_init, 2, (Option.none : Option Jvm.ClassFile.FieldType), [], true, fX1)
abbrev tX1_init (g : ZG) (args : List Value) (M : ZM) (d c s : Nat) (Q : ZQ) : Prop := Ct g yX1_init (ws_ yX1_init cX1_init 2 (Option.none : Option Jvm.ClassFile.FieldType)) args M d c s Q
abbrev nX1_init : Nat := 12
theorem mX1_init : zMok yX1_init 0 2 := ⟨⟨by decide +kernel, by decide +kernel, by decide +kernel⟩, by decide⟩
theorem eX1_init {g : ZG} {Q : ZQ} {d cN sN : Nat} {M : ZM} {a0 : Nat} (hV : zV g) (h : Z g kX1_init Q d cN sN M 0 [some (.ref a0), none] []) : tX1_init g [.ref a0] M d cN sN Q := Ct.of (K := kX1_init) rfl (by decide +kernel) hV fokX1 rfl (fun h => rfl) (fun v hv => by simp only [List.mem_cons, List.not_mem_nil, or_false] at hv; rcases hv with rfl <;> first | rfl | assumption) (Nat.le_of_ble_eq_true rfl) h
theorem sX1_init_0 {g : ZG} {Q : ZQ} {d cN sN : Nat} {M : ZM} {l0 : Nat} {o1 : Option Value}  (kk : Z g kX1_init Q d cN sN M 1 [some (.ref l0), o1] [.ref l0]) : Z g kX1_init Q d cN sN M 0 [some (.ref l0), o1] [] := by
  refine zi_aload_n dX1_init_0 rfl zrf_r ?_
  exact kk
theorem sX1_init_4 {g : ZG} {Q : ZQ} {d cN sN : Nat} {M : ZM} {l0 : Nat} {o1 : Option Value}  (kk : Z g kX1_init Q d cN sN M 5 [some (.ref l0), o1] [.ref l0]) : Z g kX1_init Q d cN sN M 4 [some (.ref l0), o1] [] := by
  refine zi_aload_n dX1_init_4 rfl zrf_r ?_
  exact kk
theorem sX1_init_8 {g : ZG} {Q : ZQ} {d cN sN : Nat} {M : ZM} {t0 : Nat} {t1 : Nat} {o0 o1 : Option Value}  (kk : Z g kX1_init Q d cN sN M 9 [o0, o1] [.ref t1, .ref t1, .ref t0]) : Z g kX1_init Q d cN sN M 8 [o0, o1] [.ref t1, .ref t0] := by
  refine zi_dup dX1_init_8 rfl ?_
  exact kk
theorem sX1_init_12 {g : ZG} {Q : ZQ} {d cN sN : Nat} {M : ZM} {t0 : Nat} {t1 : Nat} {fs1 : List Value} {l0 : Nat} {o1 : Option Value} (h2 : M.1 t0 = some (.inr (0, fs1))) (h3 : 0 < (fs1).length) (kk : Z g kX1_init Q d cN sN (zup M t0 (.inr (0, (fs1).set 0 (.ref t1)))) 16 [some (.ref l0), o1] [.ref l0]) : Z g kX1_init Q d cN sN M 12 [some (.ref l0), o1] [.ref t1, .ref t0] := by
  refine zi_putfield dX1_init_12 rfl h2 h3 (zfit_r zrf_r) (Or.inr ⟨rfl, rfl⟩) ?_
  refine zi_aload_n dX1_init_15 rfl zrf_r ?_
  exact kk
theorem sX1_init_19 {g : ZG} {Q : ZQ} {d cN sN : Nat} {M : ZM} {t0 : Nat} {t1 : Nat} {o0 o1 : Option Value}  (kk : Z g kX1_init Q d cN sN M 20 [o0, o1] [.ref t1, .ref t1, .ref t0]) : Z g kX1_init Q d cN sN M 19 [o0, o1] [.ref t1, .ref t0] := by
  refine zi_dup dX1_init_19 rfl ?_
  exact kk
theorem sX1_init_23 {g : ZG} {Q : ZQ} {d cN sN : Nat} {M : ZM} {t0 : Nat} {t1 : Nat} {fs1 : List Value} {l0 : Nat} {o1 : Option Value} (h2 : M.1 t0 = some (.inr (0, fs1))) (h3 : 1 < (fs1).length) (kk : Z g kX1_init Q d cN sN (zup M t0 (.inr (0, (fs1).set 1 (.ref t1)))) 27 [some (.ref l0), o1] [.ref l0]) : Z g kX1_init Q d cN sN M 23 [some (.ref l0), o1] [.ref t1, .ref t0] := by
  refine zi_putfield dX1_init_23 rfl h2 h3 (zfit_r zrf_r) (Or.inr ⟨rfl, rfl⟩) ?_
  refine zi_aload_n dX1_init_26 rfl zrf_r ?_
  exact kk
theorem sX1_init_30 {g : ZG} {Q : ZQ} {d cN sN : Nat} {M : ZM} {t0 : Nat} {t1 : Nat} {o0 o1 : Option Value}  (kk : Z g kX1_init Q d cN sN M 31 [o0, o1] [.ref t1, .ref t1, .ref t0]) : Z g kX1_init Q d cN sN M 30 [o0, o1] [.ref t1, .ref t0] := by
  refine zi_dup dX1_init_30 rfl ?_
  exact kk
theorem sX1_init_34 {g : ZG} {Q : ZQ} {d cN sN : Nat} {M : ZM} {t0 : Nat} {t1 : Nat} {fs1 : List Value} {l0 : Nat} {o1 : Option Value} (h2 : M.1 t0 = some (.inr (0, fs1))) (h3 : 2 < (fs1).length) (kk : Z g kX1_init Q d cN sN (zup M t0 (.inr (0, (fs1).set 2 (.ref t1)))) 38 [some (.ref l0), o1] [.ref l0]) : Z g kX1_init Q d cN sN M 34 [some (.ref l0), o1] [.ref t1, .ref t0] := by
  refine zi_putfield dX1_init_34 rfl h2 h3 (zfit_r zrf_r) (Or.inr ⟨rfl, rfl⟩) ?_
  refine zi_aload_n dX1_init_37 rfl zrf_r ?_
  exact kk
theorem sX1_init_41 {g : ZG} {Q : ZQ} {d cN sN : Nat} {M : ZM} {t0 : Nat} {t1 : Nat} {o0 o1 : Option Value}  (kk : Z g kX1_init Q d cN sN M 42 [o0, o1] [.ref t1, .ref t1, .ref t0]) : Z g kX1_init Q d cN sN M 41 [o0, o1] [.ref t1, .ref t0] := by
  refine zi_dup dX1_init_41 rfl ?_
  exact kk
theorem sX1_init_45 {g : ZG} {Q : ZQ} {d cN sN : Nat} {M : ZM} {t0 : Nat} {t1 : Nat} {fs1 : List Value} {l0 : Nat} {o1 : Option Value} (h2 : M.1 t0 = some (.inr (0, fs1))) (h3 : 3 < (fs1).length) (kk : Z g kX1_init Q d cN sN (zup M t0 (.inr (0, (fs1).set 3 (.ref t1)))) 49 [some (.ref l0), o1] [.ref l0]) : Z g kX1_init Q d cN sN M 45 [some (.ref l0), o1] [.ref t1, .ref t0] := by
  refine zi_putfield dX1_init_45 rfl h2 h3 (zfit_r zrf_r) (Or.inr ⟨rfl, rfl⟩) ?_
  refine zi_aload_n dX1_init_48 rfl zrf_r ?_
  exact kk
theorem sX1_init_52 {g : ZG} {Q : ZQ} {d cN sN : Nat} {M : ZM} {t0 : Nat} {t1 : Nat} {o0 o1 : Option Value}  (kk : Z g kX1_init Q d cN sN M 53 [o0, o1] [.ref t1, .ref t1, .ref t0]) : Z g kX1_init Q d cN sN M 52 [o0, o1] [.ref t1, .ref t0] := by
  refine zi_dup dX1_init_52 rfl ?_
  exact kk
theorem sX1_init_56 {g : ZG} {Q : ZQ} {d cN sN : Nat} {M : ZM} {t0 : Nat} {t1 : Nat} {fs1 : List Value} {l0 : Nat} {o1 : Option Value} (h2 : M.1 t0 = some (.inr (0, fs1))) (h3 : 5 < (fs1).length) (kk : Z g kX1_init Q d cN sN (zup M t0 (.inr (0, (fs1).set 5 (.ref t1)))) 60 [some (.ref l0), o1] [.ref l0]) : Z g kX1_init Q d cN sN M 56 [some (.ref l0), o1] [.ref t1, .ref t0] := by
  refine zi_putfield dX1_init_56 rfl h2 h3 (zfit_r zrf_r) (Or.inr ⟨rfl, rfl⟩) ?_
  refine zi_aload_n dX1_init_59 rfl zrf_r ?_
  exact kk
theorem sX1_init_63 {g : ZG} {Q : ZQ} {d cN sN : Nat} {M : ZM} {t0 : Nat} {t1 : Nat} {o0 o1 : Option Value}  (kk : Z g kX1_init Q d cN sN M 64 [o0, o1] [.ref t1, .ref t1, .ref t0]) : Z g kX1_init Q d cN sN M 63 [o0, o1] [.ref t1, .ref t0] := by
  refine zi_dup dX1_init_63 rfl ?_
  exact kk
theorem sX1_init_67 {g : ZG} {Q : ZQ} {d cN sN : Nat} {M : ZM} {t0 : Nat} {t1 : Nat} {fs1 : List Value} {l0 : Nat} {o1 : Option Value} (h2 : M.1 t0 = some (.inr (0, fs1))) (h3 : 6 < (fs1).length) (kk : Z g kX1_init Q d cN sN (zup M t0 (.inr (0, (fs1).set 6 (.ref t1)))) 71 [some (.ref l0), o1] [.ref l0]) : Z g kX1_init Q d cN sN M 67 [some (.ref l0), o1] [.ref t1, .ref t0] := by
  refine zi_putfield dX1_init_67 rfl h2 h3 (zfit_r zrf_r) (Or.inr ⟨rfl, rfl⟩) ?_
  refine zi_aload_n dX1_init_70 rfl zrf_r ?_
  exact kk
theorem sX1_init_74 {g : ZG} {Q : ZQ} {d cN sN : Nat} {M : ZM} {t0 : Nat} {t1 : Nat} {o0 o1 : Option Value}  (kk : Z g kX1_init Q d cN sN M 75 [o0, o1] [.ref t1, .ref t1, .ref t0]) : Z g kX1_init Q d cN sN M 74 [o0, o1] [.ref t1, .ref t0] := by
  refine zi_dup dX1_init_74 rfl ?_
  exact kk
theorem sX1_init_78 {g : ZG} {Q : ZQ} {d cN sN : Nat} {M : ZM} {t0 : Nat} {t1 : Nat} {fs1 : List Value} {l0 : Nat} {o1 : Option Value} (h2 : M.1 t0 = some (.inr (0, fs1))) (h3 : 7 < (fs1).length) (kk : Z g kX1_init Q d cN sN (zup M t0 (.inr (0, (fs1).set 7 (.ref t1)))) 82 [some (.ref l0), o1] [.ref l0]) : Z g kX1_init Q d cN sN M 78 [some (.ref l0), o1] [.ref t1, .ref t0] := by
  refine zi_putfield dX1_init_78 rfl h2 h3 (zfit_r zrf_r) (Or.inr ⟨rfl, rfl⟩) ?_
  refine zi_aload_n dX1_init_81 rfl zrf_r ?_
  exact kk
theorem sX1_init_85 {g : ZG} {Q : ZQ} {d cN sN : Nat} {M : ZM} {t0 : Nat} {t1 : Nat} {o0 o1 : Option Value}  (kk : Z g kX1_init Q d cN sN M 86 [o0, o1] [.ref t1, .ref t1, .ref t0]) : Z g kX1_init Q d cN sN M 85 [o0, o1] [.ref t1, .ref t0] := by
  refine zi_dup dX1_init_85 rfl ?_
  exact kk
theorem sX1_init_89 {g : ZG} {Q : ZQ} {d cN sN : Nat} {M : ZM} {t0 : Nat} {t1 : Nat} {fs1 : List Value} {l0 : Nat} {o1 : Option Value} (h2 : M.1 t0 = some (.inr (0, fs1))) (h3 : 8 < (fs1).length) (kk : Z g kX1_init Q d cN sN (zup M t0 (.inr (0, (fs1).set 8 (.ref t1)))) 93 [some (.ref l0), o1] [.ref l0]) : Z g kX1_init Q d cN sN M 89 [some (.ref l0), o1] [.ref t1, .ref t0] := by
  refine zi_putfield dX1_init_89 rfl h2 h3 (zfit_r zrf_r) (Or.inr ⟨rfl, rfl⟩) ?_
  refine zi_aload_n dX1_init_92 rfl zrf_r ?_
  exact kk
theorem sX1_init_96 {g : ZG} {Q : ZQ} {d cN sN : Nat} {M : ZM} {t0 : Nat} {t1 : Nat} {l0 : Nat} {fs1 : List Value} {r3 : Nat} {o1 : Option Value} (h2 : M.1 l0 = some (.inr (0, fs1))) (h4 : (fs1)[7]? = some (.ref r3)) (kk : Z g kX1_init Q d cN sN M 101 [some (.ref l0), o1] [.ref r3, .ref t1, .ref t1, .ref t0]) : Z g kX1_init Q d cN sN M 96 [some (.ref l0), o1] [.ref t1, .ref t0] := by
  refine zi_dup dX1_init_96 rfl ?_
  refine zi_aload_n dX1_init_97 rfl zrf_r ?_
  refine zi_getfield dX1_init_98 rfl h2 h4 ?_
  exact kk
theorem sX1_init_104 {g : ZG} {Q : ZQ} {d cN sN : Nat} {M : ZM} {t0 : Nat} {t1 : Nat} {fs1 : List Value} {l0 : Nat} {fs4 : List Value} {o1 : Option Value} (h2 : M.1 t0 = some (.inr (0, fs1))) (h3 : 9 < (fs1).length) (h5 : (zup M t0 (.inr (0, (fs1).set 9 (.ref t1)))).1 l0 = some (.inr (0, fs4))) (h6 : 10 < (fs4).length) (kk : Z g kX1_init Q d cN sN (zup (zup M t0 (.inr (0, (fs1).set 9 (.ref t1)))) l0 (.inr (0, (fs4).set 10 (.int ((-1)))))) 114 [some (.ref l0), some (.int 0)] []) : Z g kX1_init Q d cN sN M 104 [some (.ref l0), o1] [.ref t1, .ref t0] := by
  refine zi_putfield dX1_init_104 rfl h2 h3 (zfit_r zrf_r) (Or.inr ⟨rfl, rfl⟩) ?_
  refine zi_aload_n dX1_init_107 rfl zrf_r ?_
  refine zi_iconst dX1_init_108 (by decide +kernel : Int32.ofInt (-1) = (-1 : Int32)) ?_
  refine zi_putfield dX1_init_109 rfl h5 h6 zfit_i (Or.inl rfl) ?_
  refine zi_iconst dX1_init_112 (by decide +kernel : Int32.ofInt (0) = (0 : Int32)) ?_
  refine zi_istore_n dX1_init_113 (Nat.le_of_ble_eq_true rfl) ?_
  exact kk
theorem sX1_init_114 {g : ZG} {Q : ZQ} {d cN sN : Nat} {M : ZM} {l1 : Int32} {o0 : Option Value}  (kt : (8 : Int32) ≤ (l1 : Int32) → Z g kX1_init Q d cN sN M 140 [o0, some (.int l1)] []) (kf : ¬ (8 : Int32) ≤ (l1 : Int32) → Z g kX1_init Q d cN sN M 120 [o0, some (.int l1)] []) : Z g kX1_init Q d cN sN M 114 [o0, some (.int l1)] [] := by
  refine zi_iload_n dX1_init_114 rfl ?_
  refine zi_bipush dX1_init_115 (by decide +kernel : (Int8.ofInt (8)).toInt32 = (8 : Int32)) ?_
  exact zi_icmp_ge (tgt := 140) dX1_init_117 (by decide +kernel) kt kf
theorem sX1_init_120 {g : ZG} {Q : ZQ} {d cN sN : Nat} {M : ZM} {l0 : Nat} {fs1 : List Value} {r3 : Nat} {o1 : Option Value} (h2 : M.1 l0 = some (.inr (0, fs1))) (h4 : (fs1)[6]? = some (.ref r3)) (kk : Z g kX1_init Q d cN sN M 124 [some (.ref l0), o1] [.ref r3]) : Z g kX1_init Q d cN sN M 120 [some (.ref l0), o1] [] := by
  refine zi_aload_n dX1_init_120 rfl zrf_r ?_
  refine zi_getfield dX1_init_121 rfl h2 h4 ?_
  exact kk
theorem sX1_init_127 {g : ZG} {Q : ZQ} {d cN sN : Nat} {M : ZM} {t0 : Nat} {t1 : Nat} {o0 o1 : Option Value}  (kk : Z g kX1_init Q d cN sN M 128 [o0, o1] [.ref t1, .ref t1, .ref t0]) : Z g kX1_init Q d cN sN M 127 [o0, o1] [.ref t1, .ref t0] := by
  refine zi_dup dX1_init_127 rfl ?_
  exact kk
theorem sX1_init_134 {g : ZG} {Q : ZQ} {d cN sN : Nat} {M : ZM} {l1 : Int32} {o0 : Option Value}  (kk : Z g kX1_init Q d cN sN M 114 [o0, some (.int (l1 + 1))] []) : Z g kX1_init Q d cN sN M 134 [o0, some (.int l1)] [] := by
  refine zi_iinc dX1_init_134 rfl (by decide +kernel : Int32.ofInt (1) = 1) (Nat.le_of_ble_eq_true rfl) ?_
  exact zi_goto (tgt := 114) dX1_init_137 (by decide +kernel) kk
theorem sX1_init_140 {g : ZG} {Q : ZQ} {d cN sN : Nat} {M : ZM} {o0 o1 : Option Value}  (kk : Q.1 none M) : Z g kX1_init Q d cN sN M 140 [o0, o1] [] := by
  exact zi_return dX1_init_140 rfl kk
abbrev kX1_rules : ZK := (RX1, cX1_rules, 4, (Option.some (Jvm.ClassFile.FieldType.array (Jvm.ClassFile.FieldType.object "ErrataPress$Rule"))), [], false, fX1)
abbrev tX1_rules (g : ZG) (args : List Value) (M : ZM) (d c s : Nat) (Q : ZQ) : Prop := Ct g yX1_rules (ws_ yX1_rules cX1_rules 4 (Option.some (Jvm.ClassFile.FieldType.array (Jvm.ClassFile.FieldType.object "ErrataPress$Rule")))) args M d c s Q
abbrev nX1_rules : Nat := 1
theorem mX1_rules : zMok yX1_rules 3 4 := ⟨⟨by decide +kernel, by decide +kernel, by decide +kernel⟩, by decide⟩
theorem eX1_rules {g : ZG} {Q : ZQ} {d cN sN : Nat} {M : ZM} {x1 : Int32} {x2 : Int32} {x3 : Int32} (hV : zV g) (h : Z g kX1_rules Q d cN sN M 0 [some (.int x1), some (.int x2), some (.int x3), none] []) : tX1_rules g [.int x1, .int x2, .int x3] M d cN sN Q := Ct.of (K := kX1_rules) rfl (by decide +kernel) hV fokX1 rfl (fun h => by cases h) (fun v hv => by simp only [List.mem_cons, List.not_mem_nil, or_false] at hv; rcases hv with rfl | rfl | rfl <;> first | rfl | assumption) (Nat.le_of_ble_eq_true rfl) h
theorem sX1_rules_0 {g : ZG} {Q : ZQ} {d cN sN : Nat} {M : ZM} {o0 o1 o2 o3 : Option Value}  (kk : Z g kX1_rules Q d cN sN M 1 [o0, o1, o2, o3] [.int 3]) : Z g kX1_rules Q d cN sN M 0 [o0, o1, o2, o3] [] := by
  refine zi_iconst dX1_rules_0 (by decide +kernel : Int32.ofInt (3) = (3 : Int32)) ?_
  exact kk
theorem sX1_rules_4 {g : ZG} {Q : ZQ} {d cN sN : Nat} {M : ZM} {t0 : Nat} {l0 : Int32} {o1 o2 o3 : Option Value}  (kk : Z g kX1_rules Q d cN sN M 8 [some (.int l0), o1, o2, some (.ref t0)] [.int l0, .int 0, .ref t0]) : Z g kX1_rules Q d cN sN M 4 [some (.int l0), o1, o2, o3] [.ref t0] := by
  refine zi_astore_n dX1_rules_4 zrf_r (Nat.le_of_ble_eq_true rfl) ?_
  refine zi_aload_n dX1_rules_5 rfl zrf_r ?_
  refine zi_iconst dX1_rules_6 (by decide +kernel : Int32.ofInt (0) = (0 : Int32)) ?_
  refine zi_iload_n dX1_rules_7 rfl ?_
  exact kk
theorem sX1_rules_14 {g : ZG} {Q : ZQ} {d cN sN : Nat} {M : ZM} {l3 : Nat} {l1 : Int32} {o0 o2 : Option Value}  (kk : Z g kX1_rules Q d cN sN M 17 [o0, some (.int l1), o2, some (.ref l3)] [.int l1, .int 1, .ref l3]) : Z g kX1_rules Q d cN sN M 14 [o0, some (.int l1), o2, some (.ref l3)] [] := by
  refine zi_aload_n dX1_rules_14 rfl zrf_r ?_
  refine zi_iconst dX1_rules_15 (by decide +kernel : Int32.ofInt (1) = (1 : Int32)) ?_
  refine zi_iload_n dX1_rules_16 rfl ?_
  exact kk
theorem sX1_rules_23 {g : ZG} {Q : ZQ} {d cN sN : Nat} {M : ZM} {l3 : Nat} {l2 : Int32} {o0 o1 : Option Value}  (kk : Z g kX1_rules Q d cN sN M 26 [o0, o1, some (.int l2), some (.ref l3)] [.int l2, .int 2, .ref l3]) : Z g kX1_rules Q d cN sN M 23 [o0, o1, some (.int l2), some (.ref l3)] [] := by
  refine zi_aload_n dX1_rules_23 rfl zrf_r ?_
  refine zi_iconst dX1_rules_24 (by decide +kernel : Int32.ofInt (2) = (2 : Int32)) ?_
  refine zi_iload_n dX1_rules_25 rfl ?_
  exact kk
theorem sX1_rules_32 {g : ZG} {Q : ZQ} {d cN sN : Nat} {M : ZM} {l3 : Nat} {o0 o1 o2 : Option Value}  (kk : Q.1 (some (.ref l3)) M) : Z g kX1_rules Q d cN sN M 32 [o0, o1, o2, some (.ref l3)] [] := by
  refine zi_aload_n dX1_rules_32 rfl zrf_r ?_
  exact zi_areturn dX1_rules_33 zrf_r rfl (Or.inr ⟨_, rfl⟩) kk
abbrev kX1_lambda_rules_0 : ZK := (RX1, cX1_lambda_rules_0, 4, (Option.some Jvm.ClassFile.FieldType.int), [], false, fX1)
abbrev tX1_lambda_rules_0 (g : ZG) (args : List Value) (M : ZM) (d c s : Nat) (Q : ZQ) : Prop := Ct g yX1_lambda_rules_0 (ws_ yX1_lambda_rules_0 cX1_lambda_rules_0 4 (Option.some Jvm.ClassFile.FieldType.int)) args M d c s Q
abbrev nX1_lambda_rules_0 : Nat := 1
theorem mX1_lambda_rules_0 : zMok yX1_lambda_rules_0 4 4 := ⟨⟨by decide +kernel, by decide +kernel, by decide +kernel⟩, by decide⟩
theorem eX1_lambda_rules_0 {g : ZG} {Q : ZQ} {d cN sN : Nat} {M : ZM} {x1 : Int32} {x2 : Int32} {x3 : Int32} {x4 : Int32} (hV : zV g) (h : Z g kX1_lambda_rules_0 Q d cN sN M 0 [some (.int x1), some (.int x2), some (.int x3), some (.int x4)] []) : tX1_lambda_rules_0 g [.int x1, .int x2, .int x3, .int x4] M d cN sN Q := Ct.of (K := kX1_lambda_rules_0) rfl (by decide +kernel) hV fokX1 rfl (fun h => by cases h) (fun v hv => by simp only [List.mem_cons, List.not_mem_nil, or_false] at hv; rcases hv with rfl | rfl | rfl | rfl <;> first | rfl | assumption) (Nat.le_of_ble_eq_true rfl) h
theorem sX1_lambda_rules_0_0 {g : ZG} {Q : ZQ} {d cN sN : Nat} {M : ZM} {l1 : Int32} {l2 : Int32} {l0 : Int32} {o3 : Option Value}  (kk : Q.1 (some (.int ((l1 + l2) + l0))) M) : Z g kX1_lambda_rules_0 Q d cN sN M 0 [some (.int l0), some (.int l1), some (.int l2), o3] [] := by
  refine zi_iload_n dX1_lambda_rules_0_0 rfl ?_
  refine zi_iload_n dX1_lambda_rules_0_1 rfl ?_
  refine zi_iadd dX1_lambda_rules_0_2 ?_
  refine zi_iload_n dX1_lambda_rules_0_3 rfl ?_
  refine zi_iadd dX1_lambda_rules_0_4 ?_
  exact zi_ireturn dX1_lambda_rules_0_5 rfl rfl kk
abbrev kX1_lambda_rules_1 : ZK := (RX1, cX1_lambda_rules_1, 4, (Option.some Jvm.ClassFile.FieldType.int), [], false, fX1)
abbrev tX1_lambda_rules_1 (g : ZG) (args : List Value) (M : ZM) (d c s : Nat) (Q : ZQ) : Prop := Ct g yX1_lambda_rules_1 (ws_ yX1_lambda_rules_1 cX1_lambda_rules_1 4 (Option.some Jvm.ClassFile.FieldType.int)) args M d c s Q
abbrev nX1_lambda_rules_1 : Nat := 1
theorem mX1_lambda_rules_1 : zMok yX1_lambda_rules_1 4 4 := ⟨⟨by decide +kernel, by decide +kernel, by decide +kernel⟩, by decide⟩
theorem eX1_lambda_rules_1 {g : ZG} {Q : ZQ} {d cN sN : Nat} {M : ZM} {x1 : Int32} {x2 : Int32} {x3 : Int32} {x4 : Int32} (hV : zV g) (h : Z g kX1_lambda_rules_1 Q d cN sN M 0 [some (.int x1), some (.int x2), some (.int x3), some (.int x4)] []) : tX1_lambda_rules_1 g [.int x1, .int x2, .int x3, .int x4] M d cN sN Q := Ct.of (K := kX1_lambda_rules_1) rfl (by decide +kernel) hV fokX1 rfl (fun h => by cases h) (fun v hv => by simp only [List.mem_cons, List.not_mem_nil, or_false] at hv; rcases hv with rfl | rfl | rfl | rfl <;> first | rfl | assumption) (Nat.le_of_ble_eq_true rfl) h
theorem sX1_lambda_rules_1_0 {g : ZG} {Q : ZQ} {d cN sN : Nat} {M : ZM} {l3 : Int32} {o0 o1 o2 : Option Value}  (kt : (l3 : Int32) < (2 : Int32) → Z g kX1_lambda_rules_1 Q d cN sN M 11 [o0, o1, o2, some (.int l3)] []) (kf : ¬ (l3 : Int32) < (2 : Int32) → Z g kX1_lambda_rules_1 Q d cN sN M 5 [o0, o1, o2, some (.int l3)] []) : Z g kX1_lambda_rules_1 Q d cN sN M 0 [o0, o1, o2, some (.int l3)] [] := by
  refine zi_iload_n dX1_lambda_rules_1_0 rfl ?_
  refine zi_iconst dX1_lambda_rules_1_1 (by decide +kernel : Int32.ofInt (2) = (2 : Int32)) ?_
  exact zi_icmp_lt (tgt := 11) dX1_lambda_rules_1_2 (by decide +kernel) kt kf
theorem sX1_lambda_rules_1_5 {g : ZG} {Q : ZQ} {d cN sN : Nat} {M : ZM} {l1 : Int32} {l0 : Int32} {o2 o3 : Option Value}  (kk : Z g kX1_lambda_rules_1 Q d cN sN M 12 [some (.int l0), some (.int l1), o2, o3] [.int (l1 + l0)]) : Z g kX1_lambda_rules_1 Q d cN sN M 5 [some (.int l0), some (.int l1), o2, o3] [] := by
  refine zi_iload_n dX1_lambda_rules_1_5 rfl ?_
  refine zi_iload_n dX1_lambda_rules_1_6 rfl ?_
  refine zi_iadd dX1_lambda_rules_1_7 ?_
  exact zi_goto (tgt := 12) dX1_lambda_rules_1_8 (by decide +kernel) kk
theorem sX1_lambda_rules_1_11 {g : ZG} {Q : ZQ} {d cN sN : Nat} {M : ZM} {l1 : Int32} {o0 o2 o3 : Option Value}  (kk : Z g kX1_lambda_rules_1 Q d cN sN M 12 [o0, some (.int l1), o2, o3] [.int l1]) : Z g kX1_lambda_rules_1 Q d cN sN M 11 [o0, some (.int l1), o2, o3] [] := by
  refine zi_iload_n dX1_lambda_rules_1_11 rfl ?_
  exact kk
theorem sX1_lambda_rules_1_12 {g : ZG} {Q : ZQ} {d cN sN : Nat} {M : ZM} {t0 : Int32} {o0 o1 o2 o3 : Option Value}  (kk : Q.1 (some (.int t0)) M) : Z g kX1_lambda_rules_1 Q d cN sN M 12 [o0, o1, o2, o3] [.int t0] := by
  exact zi_ireturn dX1_lambda_rules_1_12 rfl rfl kk
abbrev kX1_lambda_rules_2 : ZK := (RX1, cX1_lambda_rules_2, 4, (Option.some Jvm.ClassFile.FieldType.int), [], false, fX1)
abbrev tX1_lambda_rules_2 (g : ZG) (args : List Value) (M : ZM) (d c s : Nat) (Q : ZQ) : Prop := Ct g yX1_lambda_rules_2 (ws_ yX1_lambda_rules_2 cX1_lambda_rules_2 4 (Option.some Jvm.ClassFile.FieldType.int)) args M d c s Q
abbrev nX1_lambda_rules_2 : Nat := 1
theorem mX1_lambda_rules_2 : zMok yX1_lambda_rules_2 4 4 := ⟨⟨by decide +kernel, by decide +kernel, by decide +kernel⟩, by decide⟩
theorem eX1_lambda_rules_2 {g : ZG} {Q : ZQ} {d cN sN : Nat} {M : ZM} {x1 : Int32} {x2 : Int32} {x3 : Int32} {x4 : Int32} (hV : zV g) (h : Z g kX1_lambda_rules_2 Q d cN sN M 0 [some (.int x1), some (.int x2), some (.int x3), some (.int x4)] []) : tX1_lambda_rules_2 g [.int x1, .int x2, .int x3, .int x4] M d cN sN Q := Ct.of (K := kX1_lambda_rules_2) rfl (by decide +kernel) hV fokX1 rfl (fun h => by cases h) (fun v hv => by simp only [List.mem_cons, List.not_mem_nil, or_false] at hv; rcases hv with rfl | rfl | rfl | rfl <;> first | rfl | assumption) (Nat.le_of_ble_eq_true rfl) h
theorem sX1_lambda_rules_2_0 {g : ZG} {Q : ZQ} {d cN sN : Nat} {M : ZM} {l3 : Int32} {o0 o1 o2 : Option Value}  (kt : ¬ (l3 : Int32) = (3 : Int32) → Z g kX1_lambda_rules_2 Q d cN sN M 11 [o0, o1, o2, some (.int l3)] []) (kf : (l3 : Int32) = (3 : Int32) → Z g kX1_lambda_rules_2 Q d cN sN M 5 [o0, o1, o2, some (.int l3)] []) : Z g kX1_lambda_rules_2 Q d cN sN M 0 [o0, o1, o2, some (.int l3)] [] := by
  refine zi_iload_n dX1_lambda_rules_2_0 rfl ?_
  refine zi_iconst dX1_lambda_rules_2_1 (by decide +kernel : Int32.ofInt (3) = (3 : Int32)) ?_
  exact zi_icmp_ne (tgt := 11) dX1_lambda_rules_2_2 (by decide +kernel) kt kf
theorem sX1_lambda_rules_2_5 {g : ZG} {Q : ZQ} {d cN sN : Nat} {M : ZM} {l0 : Int32} {l1 : Int32} {o2 o3 : Option Value}  (kk : Z g kX1_lambda_rules_2 Q d cN sN M 12 [some (.int l0), some (.int l1), o2, o3] [.int (l0 * l1)]) : Z g kX1_lambda_rules_2 Q d cN sN M 5 [some (.int l0), some (.int l1), o2, o3] [] := by
  refine zi_iload_n dX1_lambda_rules_2_5 rfl ?_
  refine zi_iload_n dX1_lambda_rules_2_6 rfl ?_
  refine zi_imul dX1_lambda_rules_2_7 ?_
  exact zi_goto (tgt := 12) dX1_lambda_rules_2_8 (by decide +kernel) kk
theorem sX1_lambda_rules_2_11 {g : ZG} {Q : ZQ} {d cN sN : Nat} {M : ZM} {l1 : Int32} {o0 o2 o3 : Option Value}  (kk : Z g kX1_lambda_rules_2 Q d cN sN M 12 [o0, some (.int l1), o2, o3] [.int l1]) : Z g kX1_lambda_rules_2 Q d cN sN M 11 [o0, some (.int l1), o2, o3] [] := by
  refine zi_iload_n dX1_lambda_rules_2_11 rfl ?_
  exact kk
theorem sX1_lambda_rules_2_12 {g : ZG} {Q : ZQ} {d cN sN : Nat} {M : ZM} {t0 : Int32} {o0 o1 o2 o3 : Option Value}  (kk : Q.1 (some (.int t0)) M) : Z g kX1_lambda_rules_2 Q d cN sN M 12 [o0, o1, o2, o3] [.int t0] := by
  exact zi_ireturn dX1_lambda_rules_2_12 rfl rfl kk
abbrev kX1_day : ZK := (RX1, cX1_day, 1, (Option.some Jvm.ClassFile.FieldType.int), [], false, fX1)
abbrev tX1_day (g : ZG) (args : List Value) (M : ZM) (d c s : Nat) (Q : ZQ) : Prop := Ct g yX1_day (ws_ yX1_day cX1_day 1 (Option.some Jvm.ClassFile.FieldType.int)) args M d c s Q
abbrev nX1_day : Nat := 13
theorem mX1_day : zMok yX1_day 0 1 := ⟨⟨by decide +kernel, by decide +kernel, by decide +kernel⟩, by decide⟩
theorem eX1_day {g : ZG} {Q : ZQ} {d cN sN : Nat} {M : ZM} {a0 : Nat} (hV : zV g) (h : Z g kX1_day Q d cN sN M 0 [some (.ref a0)] []) : tX1_day g [.ref a0] M d cN sN Q := Ct.of (K := kX1_day) rfl (by decide +kernel) hV fokX1 rfl (fun h => by cases h) (fun v hv => by simp only [List.mem_cons, List.not_mem_nil, or_false] at hv; rcases hv with rfl <;> first | rfl | assumption) (Nat.le_of_ble_eq_true rfl) h
theorem sX1_day_0 {g : ZG} {Q : ZQ} {d cN sN : Nat} {M : ZM} {l0 : Nat}  (kk : Z g kX1_day Q d cN sN M 2 [some (.ref l0)] [.ref l0, .ref l0]) : Z g kX1_day Q d cN sN M 0 [some (.ref l0)] [] := by
  refine zi_aload_n dX1_day_0 rfl zrf_r ?_
  refine zi_aload_n dX1_day_1 rfl zrf_r ?_
  exact kk
theorem sX1_day_11 {g : ZG} {Q : ZQ} {d cN sN : Nat} {M : ZM} {t0 : Int32} {o0 : Option Value}  (kk : Q.1 (some (.int t0)) M) : Z g kX1_day Q d cN sN M 11 [o0] [.int t0] := by
  exact zi_ireturn dX1_day_11 rfl rfl kk
abbrev kX1_tryOn : ZK := (RX1, cX1_tryOn, 1, (Option.some (Jvm.ClassFile.FieldType.object "ErrataPress$Press")), [], false, fX1)
abbrev tX1_tryOn (g : ZG) (args : List Value) (M : ZM) (d c s : Nat) (Q : ZQ) : Prop := Ct g yX1_tryOn (ws_ yX1_tryOn cX1_tryOn 1 (Option.some (Jvm.ClassFile.FieldType.object "ErrataPress$Press"))) args M d c s Q
abbrev nX1_tryOn : Nat := 4
theorem mX1_tryOn : zMok yX1_tryOn 0 1 := ⟨⟨by decide +kernel, by decide +kernel, by decide +kernel⟩, by decide⟩
theorem eX1_tryOn {g : ZG} {Q : ZQ} {d cN sN : Nat} {M : ZM} {a0 : Nat} (hV : zV g) (h : Z g kX1_tryOn Q d cN sN M 0 [some (.ref a0)] []) : tX1_tryOn g [.ref a0] M d cN sN Q := Ct.of (K := kX1_tryOn) rfl (by decide +kernel) hV fokX1 rfl (fun h => by cases h) (fun v hv => by simp only [List.mem_cons, List.not_mem_nil, or_false] at hv; rcases hv with rfl <;> first | rfl | assumption) (Nat.le_of_ble_eq_true rfl) h
theorem sX1_tryOn_0 {g : ZG} {Q : ZQ} {d cN sN : Nat} {M : ZM} {l0 : Nat} {fs1 : List Value} {r3 : Nat} {r5 : Nat} (h2 : M.1 l0 = some (.inr (0, fs1))) (h4 : (fs1)[1]? = some (.ref r3)) (h6 : (fs1)[0]? = some (.ref r5)) (kk : Z g kX1_tryOn Q d cN sN M 8 [some (.ref l0)] [.ref r5, .ref r3]) : Z g kX1_tryOn Q d cN sN M 0 [some (.ref l0)] [] := by
  refine zi_aload_n dX1_tryOn_0 rfl zrf_r ?_
  refine zi_getfield dX1_tryOn_1 rfl h2 h4 ?_
  refine zi_aload_n dX1_tryOn_4 rfl zrf_r ?_
  refine zi_getfield dX1_tryOn_5 rfl h2 h6 ?_
  exact kk
theorem sX1_tryOn_11 {g : ZG} {Q : ZQ} {d cN sN : Nat} {M : ZM} {l0 : Nat} {fs1 : List Value} {r3 : Nat} (h2 : M.1 l0 = some (.inr (0, fs1))) (h4 : (fs1)[1]? = some (.ref r3)) (kk : Q.1 (some (.ref r3)) M) : Z g kX1_tryOn Q d cN sN M 11 [some (.ref l0)] [] := by
  refine zi_aload_n dX1_tryOn_11 rfl zrf_r ?_
  refine zi_getfield dX1_tryOn_12 rfl h2 h4 ?_
  exact zi_areturn dX1_tryOn_15 zrf_r rfl (Or.inl ⟨_, rfl⟩) kk
abbrev kX1_becomes : ZK := (RX1, cX1_becomes, 2, (Option.some Jvm.ClassFile.FieldType.int), [], false, fX1)
abbrev tX1_becomes (g : ZG) (args : List Value) (M : ZM) (d c s : Nat) (Q : ZQ) : Prop := Ct g yX1_becomes (ws_ yX1_becomes cX1_becomes 2 (Option.some Jvm.ClassFile.FieldType.int)) args M d c s Q
abbrev nX1_becomes : Nat := 12
theorem mX1_becomes : zMok yX1_becomes 1 2 := ⟨⟨by decide +kernel, by decide +kernel, by decide +kernel⟩, by decide⟩
theorem eX1_becomes {g : ZG} {Q : ZQ} {d cN sN : Nat} {M : ZM} {a0 : Nat} {x1 : Int32} (hV : zV g) (h : Z g kX1_becomes Q d cN sN M 0 [some (.ref a0), some (.int x1)] []) : tX1_becomes g [.ref a0, .int x1] M d cN sN Q := Ct.of (K := kX1_becomes) rfl (by decide +kernel) hV fokX1 rfl (fun h => by cases h) (fun v hv => by simp only [List.mem_cons, List.not_mem_nil, or_false] at hv; rcases hv with rfl | rfl <;> first | rfl | assumption) (Nat.le_of_ble_eq_true rfl) h
theorem sX1_becomes_0 {g : ZG} {Q : ZQ} {d cN sN : Nat} {M : ZM} {l0 : Nat} {o1 : Option Value}  (kk : Z g kX1_becomes Q d cN sN M 1 [some (.ref l0), o1] [.ref l0]) : Z g kX1_becomes Q d cN sN M 0 [some (.ref l0), o1] [] := by
  refine zi_aload_n dX1_becomes_0 rfl zrf_r ?_
  exact kk
theorem sX1_becomes_4 {g : ZG} {Q : ZQ} {d cN sN : Nat} {M : ZM} {l0 : Nat} {fs1 : List Value} {r3 : Nat} {r5 : Nat} {o1 : Option Value} (h2 : M.1 l0 = some (.inr (0, fs1))) (h4 : (fs1)[0]? = some (.ref r3)) (h6 : (fs1)[1]? = some (.ref r5)) (kk : Z g kX1_becomes Q d cN sN M 12 [some (.ref l0), o1] [.ref r5, .ref r3]) : Z g kX1_becomes Q d cN sN M 4 [some (.ref l0), o1] [] := by
  refine zi_aload_n dX1_becomes_4 rfl zrf_r ?_
  refine zi_getfield dX1_becomes_5 rfl h2 h4 ?_
  refine zi_aload_n dX1_becomes_8 rfl zrf_r ?_
  refine zi_getfield dX1_becomes_9 rfl h2 h6 ?_
  exact kk
theorem sX1_becomes_15 {g : ZG} {Q : ZQ} {d cN sN : Nat} {M : ZM} {l1 : Int32} {o0 : Option Value}  (kk : Q.1 (some (.int l1)) M) : Z g kX1_becomes Q d cN sN M 15 [o0, some (.int l1)] [] := by
  refine zi_iload_n dX1_becomes_15 rfl ?_
  exact zi_ireturn dX1_becomes_16 rfl rfl kk
abbrev kX1_keep : ZK := (RX1, cX1_keep, 2, (Option.none : Option Jvm.ClassFile.FieldType), [], false, fX1)
abbrev tX1_keep (g : ZG) (args : List Value) (M : ZM) (d c s : Nat) (Q : ZQ) : Prop := Ct g yX1_keep (ws_ yX1_keep cX1_keep 2 (Option.none : Option Jvm.ClassFile.FieldType)) args M d c s Q
abbrev nX1_keep : Nat := 11
theorem mX1_keep : zMok yX1_keep 0 2 := ⟨⟨by decide +kernel, by decide +kernel, by decide +kernel⟩, by decide⟩
theorem eX1_keep {g : ZG} {Q : ZQ} {d cN sN : Nat} {M : ZM} {a0 : Nat} (hV : zV g) (h : Z g kX1_keep Q d cN sN M 0 [some (.ref a0), none] []) : tX1_keep g [.ref a0] M d cN sN Q := Ct.of (K := kX1_keep) rfl (by decide +kernel) hV fokX1 rfl (fun h => by cases h) (fun v hv => by simp only [List.mem_cons, List.not_mem_nil, or_false] at hv; rcases hv with rfl <;> first | rfl | assumption) (Nat.le_of_ble_eq_true rfl) h
theorem sX1_keep_0 {g : ZG} {Q : ZQ} {d cN sN : Nat} {M : ZM} {l0 : Nat} {fs1 : List Value} {r3 : Nat} {o1 : Option Value} (h2 : M.1 l0 = some (.inr (0, fs1))) (h4 : (fs1)[6]? = some (.ref r3)) (kk : Z g kX1_keep Q d cN sN M 4 [some (.ref l0), o1] [.ref r3]) : Z g kX1_keep Q d cN sN M 0 [some (.ref l0), o1] [] := by
  refine zi_aload_n dX1_keep_0 rfl zrf_r ?_
  refine zi_getfield dX1_keep_1 rfl h2 h4 ?_
  exact kk
theorem sX1_keep_7 {g : ZG} {Q : ZQ} {d cN sN : Nat} {M : ZM} {t0 : Int32} {o0 o1 : Option Value}  (kt : (t0 : Int32) = 0 → Z g kX1_keep Q d cN sN M 23 [o0, o1] []) (kf : ¬ (t0 : Int32) = 0 → Z g kX1_keep Q d cN sN M 10 [o0, o1] []) : Z g kX1_keep Q d cN sN M 7 [o0, o1] [.int t0] := by
  exact zi_if_eq (tgt := 23) dX1_keep_7 (by decide +kernel) kt kf
theorem sX1_keep_10 {g : ZG} {Q : ZQ} {d cN sN : Nat} {M : ZM} {l0 : Nat} {fs1 : List Value} {r3 : Nat} {o1 : Option Value} (h2 : M.1 l0 = some (.inr (0, fs1))) (h4 : (fs1)[5]? = some (.ref r3)) (kk : Z g kX1_keep Q d cN sN M 14 [some (.ref l0), o1] [.ref r3]) : Z g kX1_keep Q d cN sN M 10 [some (.ref l0), o1] [] := by
  refine zi_aload_n dX1_keep_10 rfl zrf_r ?_
  refine zi_getfield dX1_keep_11 rfl h2 h4 ?_
  exact kk
theorem sX1_keep_20 {g : ZG} {Q : ZQ} {d cN sN : Nat} {M : ZM} {t0 : Nat} {o0 o1 : Option Value}  (kk : Z g kX1_keep Q d cN sN M 33 [o0, o1] [.ref t0]) : Z g kX1_keep Q d cN sN M 20 [o0, o1] [.ref t0] := by
  exact zi_goto (tgt := 33) dX1_keep_20 (by decide +kernel) kk
theorem sX1_keep_23 {g : ZG} {Q : ZQ} {d cN sN : Nat} {M : ZM} {l0 : Nat} {fs1 : List Value} {r3 : Nat} {o1 : Option Value} (h2 : M.1 l0 = some (.inr (0, fs1))) (h4 : (fs1)[6]? = some (.ref r3)) (kk : Z g kX1_keep Q d cN sN M 27 [some (.ref l0), o1] [.ref r3]) : Z g kX1_keep Q d cN sN M 23 [some (.ref l0), o1] [] := by
  refine zi_aload_n dX1_keep_23 rfl zrf_r ?_
  refine zi_getfield dX1_keep_24 rfl h2 h4 ?_
  exact kk
theorem sX1_keep_33 {g : ZG} {Q : ZQ} {d cN sN : Nat} {M : ZM} {t0 : Nat} {l0 : Nat} {fs1 : List Value} {r3 : Nat} {o1 : Option Value} (h2 : M.1 l0 = some (.inr (0, fs1))) (h4 : (fs1)[0]? = some (.ref r3)) (kk : Z g kX1_keep Q d cN sN M 39 [some (.ref l0), some (.ref t0)] [.ref r3, .ref t0]) : Z g kX1_keep Q d cN sN M 33 [some (.ref l0), o1] [.ref t0] := by
  refine zi_astore_n dX1_keep_33 zrf_r (Nat.le_of_ble_eq_true rfl) ?_
  refine zi_aload_n dX1_keep_34 rfl zrf_r ?_
  refine zi_aload_n dX1_keep_35 rfl zrf_r ?_
  refine zi_getfield dX1_keep_36 rfl h2 h4 ?_
  exact kk
theorem sX1_keep_42 {g : ZG} {Q : ZQ} {d cN sN : Nat} {M : ZM} {l0 : Nat} {fs1 : List Value} {r3 : Nat} {l1 : Nat} (h2 : M.1 l0 = some (.inr (0, fs1))) (h4 : (fs1)[5]? = some (.ref r3)) (kk : Z g kX1_keep Q d cN sN M 47 [some (.ref l0), some (.ref l1)] [.ref l1, .ref r3]) : Z g kX1_keep Q d cN sN M 42 [some (.ref l0), some (.ref l1)] [] := by
  refine zi_aload_n dX1_keep_42 rfl zrf_r ?_
  refine zi_getfield dX1_keep_43 rfl h2 h4 ?_
  refine zi_aload_n dX1_keep_46 rfl zrf_r ?_
  exact kk
theorem sX1_keep_50 {g : ZG} {Q : ZQ} {d cN sN : Nat} {M : ZM} {o0 o1 : Option Value}  (kk : Q.1 none M) : Z g kX1_keep Q d cN sN M 50 [o0, o1] [] := by
  exact zi_return dX1_keep_50 rfl kk
abbrev kX1_wouldLaugh : ZK := (RX1, cX1_wouldLaugh, 2, (Option.some Jvm.ClassFile.FieldType.int), [], false, fX1)
abbrev tX1_wouldLaugh (g : ZG) (args : List Value) (M : ZM) (d c s : Nat) (Q : ZQ) : Prop := Ct g yX1_wouldLaugh (ws_ yX1_wouldLaugh cX1_wouldLaugh 2 (Option.some Jvm.ClassFile.FieldType.int)) args M d c s Q
abbrev nX1_wouldLaugh : Nat := 7
theorem mX1_wouldLaugh : zMok yX1_wouldLaugh 1 2 := ⟨⟨by decide +kernel, by decide +kernel, by decide +kernel⟩, by decide⟩
theorem eX1_wouldLaugh {g : ZG} {Q : ZQ} {d cN sN : Nat} {M : ZM} {a0 : Nat} {x1 : Int32} (hV : zV g) (h : Z g kX1_wouldLaugh Q d cN sN M 0 [some (.ref a0), some (.int x1)] []) : tX1_wouldLaugh g [.ref a0, .int x1] M d cN sN Q := Ct.of (K := kX1_wouldLaugh) rfl (by decide +kernel) hV fokX1 rfl (fun h => by cases h) (fun v hv => by simp only [List.mem_cons, List.not_mem_nil, or_false] at hv; rcases hv with rfl | rfl <;> first | rfl | assumption) (Nat.le_of_ble_eq_true rfl) h
theorem sX1_wouldLaugh_0 {g : ZG} {Q : ZQ} {d cN sN : Nat} {M : ZM} {l1 : Int32} {o0 : Option Value}  (kt : (l1 : Int32) = 0 → Z g kX1_wouldLaugh Q d cN sN M 14 [o0, some (.int l1)] []) (kf : ¬ (l1 : Int32) = 0 → Z g kX1_wouldLaugh Q d cN sN M 4 [o0, some (.int l1)] []) : Z g kX1_wouldLaugh Q d cN sN M 0 [o0, some (.int l1)] [] := by
  refine zi_iload_n dX1_wouldLaugh_0 rfl ?_
  exact zi_if_eq (tgt := 14) dX1_wouldLaugh_1 (by decide +kernel) kt kf
theorem sX1_wouldLaugh_4 {g : ZG} {Q : ZQ} {d cN sN : Nat} {M : ZM} {l0 : Nat} {fs1 : List Value} {r3 : Nat} {o1 : Option Value} (h2 : M.1 l0 = some (.inr (0, fs1))) (h4 : (fs1)[0]? = some (.ref r3)) (kk : Z g kX1_wouldLaugh Q d cN sN M 8 [some (.ref l0), o1] [.ref r3]) : Z g kX1_wouldLaugh Q d cN sN M 4 [some (.ref l0), o1] [] := by
  refine zi_aload_n dX1_wouldLaugh_4 rfl zrf_r ?_
  refine zi_getfield dX1_wouldLaugh_5 rfl h2 h4 ?_
  exact kk
theorem sX1_wouldLaugh_11 {g : ZG} {Q : ZQ} {d cN sN : Nat} {M : ZM} {t0 : Int32} {o0 o1 : Option Value}  (kk : Z g kX1_wouldLaugh Q d cN sN M 21 [o0, o1] [.int t0]) : Z g kX1_wouldLaugh Q d cN sN M 11 [o0, o1] [.int t0] := by
  exact zi_goto (tgt := 21) dX1_wouldLaugh_11 (by decide +kernel) kk
theorem sX1_wouldLaugh_14 {g : ZG} {Q : ZQ} {d cN sN : Nat} {M : ZM} {l0 : Nat} {fs1 : List Value} {r3 : Nat} {o1 : Option Value} (h2 : M.1 l0 = some (.inr (0, fs1))) (h4 : (fs1)[0]? = some (.ref r3)) (kk : Z g kX1_wouldLaugh Q d cN sN M 18 [some (.ref l0), o1] [.ref r3]) : Z g kX1_wouldLaugh Q d cN sN M 14 [some (.ref l0), o1] [] := by
  refine zi_aload_n dX1_wouldLaugh_14 rfl zrf_r ?_
  refine zi_getfield dX1_wouldLaugh_15 rfl h2 h4 ?_
  exact kk
theorem sX1_wouldLaugh_21 {g : ZG} {Q : ZQ} {d cN sN : Nat} {M : ZM} {t0 : Int32} {o0 o1 : Option Value}  (kk : Q.1 (some (.int t0)) M) : Z g kX1_wouldLaugh Q d cN sN M 21 [o0, o1] [.int t0] := by
  exact zi_ireturn dX1_wouldLaugh_21 rfl rfl kk
abbrev kX1_errorPosition : ZK := (RX1, cX1_errorPosition, 1, (Option.some Jvm.ClassFile.FieldType.int), [], false, fX1)
abbrev tX1_errorPosition (g : ZG) (args : List Value) (M : ZM) (d c s : Nat) (Q : ZQ) : Prop := Ct g yX1_errorPosition (ws_ yX1_errorPosition cX1_errorPosition 1 (Option.some Jvm.ClassFile.FieldType.int)) args M d c s Q
abbrev nX1_errorPosition : Nat := 1
theorem mX1_errorPosition : zMok yX1_errorPosition 0 1 := ⟨⟨by decide +kernel, by decide +kernel, by decide +kernel⟩, by decide⟩
theorem eX1_errorPosition {g : ZG} {Q : ZQ} {d cN sN : Nat} {M : ZM} {a0 : Nat} (hV : zV g) (h : Z g kX1_errorPosition Q d cN sN M 0 [some (.ref a0)] []) : tX1_errorPosition g [.ref a0] M d cN sN Q := Ct.of (K := kX1_errorPosition) rfl (by decide +kernel) hV fokX1 rfl (fun h => by cases h) (fun v hv => by simp only [List.mem_cons, List.not_mem_nil, or_false] at hv; rcases hv with rfl <;> first | rfl | assumption) (Nat.le_of_ble_eq_true rfl) h
theorem sX1_errorPosition_0 {g : ZG} {Q : ZQ} {d cN sN : Nat} {M : ZM} {l0 : Nat} {fs1 : List Value} {y3 : Int32} (h2 : M.1 l0 = some (.inr (0, fs1))) (h4 : (fs1)[10]? = some (.int y3)) (kk : Q.1 (some (.int y3)) M) : Z g kX1_errorPosition Q d cN sN M 0 [some (.ref l0)] [] := by
  refine zi_aload_n dX1_errorPosition_0 rfl zrf_r ?_
  refine zi_getfield dX1_errorPosition_1 rfl h2 h4 ?_
  exact zi_ireturn dX1_errorPosition_4 rfl rfl kk
abbrev kX1_isWell : ZK := (RX1, cX1_isWell, 3, (Option.some Jvm.ClassFile.FieldType.boolean), [], false, fX1)
abbrev tX1_isWell (g : ZG) (args : List Value) (M : ZM) (d c s : Nat) (Q : ZQ) : Prop := Ct g yX1_isWell (ws_ yX1_isWell cX1_isWell 3 (Option.some Jvm.ClassFile.FieldType.boolean)) args M d c s Q
abbrev nX1_isWell : Nat := 11
theorem mX1_isWell : zMok yX1_isWell 0 3 := ⟨⟨by decide +kernel, by decide +kernel, by decide +kernel⟩, by decide⟩
theorem eX1_isWell {g : ZG} {Q : ZQ} {d cN sN : Nat} {M : ZM} {a0 : Nat} (hV : zV g) (h : Z g kX1_isWell Q d cN sN M 0 [some (.ref a0), none, none] []) : tX1_isWell g [.ref a0] M d cN sN Q := Ct.of (K := kX1_isWell) rfl (by decide +kernel) hV fokX1 rfl (fun h => by cases h) (fun v hv => by simp only [List.mem_cons, List.not_mem_nil, or_false] at hv; rcases hv with rfl <;> first | rfl | assumption) (Nat.le_of_ble_eq_true rfl) h
theorem sX1_isWell_0 {g : ZG} {Q : ZQ} {d cN sN : Nat} {M : ZM} {l0 : Nat} {fs1 : List Value} {r3 : Nat} {o1 o2 : Option Value} (h2 : M.1 l0 = some (.inr (0, fs1))) (h4 : (fs1)[0]? = some (.ref r3)) (kk : Z g kX1_isWell Q d cN sN M 4 [some (.ref l0), o1, o2] [.ref r3]) : Z g kX1_isWell Q d cN sN M 0 [some (.ref l0), o1, o2] [] := by
  refine zi_aload_n dX1_isWell_0 rfl zrf_r ?_
  refine zi_getfield dX1_isWell_1 rfl h2 h4 ?_
  exact kk
theorem sX1_isWell_7 {g : ZG} {Q : ZQ} {d cN sN : Nat} {M : ZM} {t0 : Int32} {l0 : Nat} {fs1 : List Value} {r3 : Nat} {o1 o2 : Option Value} (h2 : M.1 l0 = some (.inr (0, fs1))) (h4 : (fs1)[0]? = some (.ref r3)) (kk : Z g kX1_isWell Q d cN sN M 11 [some (.ref l0), o1, o2] [.ref r3, .int t0]) : Z g kX1_isWell Q d cN sN M 7 [some (.ref l0), o1, o2] [.int t0] := by
  refine zi_aload_n dX1_isWell_7 rfl zrf_r ?_
  refine zi_getfield dX1_isWell_8 rfl h2 h4 ?_
  exact kk
theorem sX1_isWell_14 {g : ZG} {Q : ZQ} {d cN sN : Nat} {M : ZM} {t0 : Int32} {t1 : Int32} {o0 o1 o2 : Option Value}  (kt : ¬ (t0 : Int32) = (t1 : Int32) → Z g kX1_isWell Q d cN sN M 21 [o0, o1, o2] []) (kf : (t0 : Int32) = (t1 : Int32) → Z g kX1_isWell Q d cN sN M 17 [o0, o1, o2] []) : Z g kX1_isWell Q d cN sN M 14 [o0, o1, o2] [.int t1, .int t0] := by
  exact zi_icmp_ne (tgt := 21) dX1_isWell_14 (by decide +kernel) kt kf
theorem sX1_isWell_17 {g : ZG} {Q : ZQ} {d cN sN : Nat} {M : ZM} {o0 o1 o2 : Option Value}  (kk : Z g kX1_isWell Q d cN sN M 22 [o0, o1, o2] [.int 1]) : Z g kX1_isWell Q d cN sN M 17 [o0, o1, o2] [] := by
  refine zi_iconst dX1_isWell_17 (by decide +kernel : Int32.ofInt (1) = (1 : Int32)) ?_
  exact zi_goto (tgt := 22) dX1_isWell_18 (by decide +kernel) kk
theorem sX1_isWell_21 {g : ZG} {Q : ZQ} {d cN sN : Nat} {M : ZM} {o0 o1 o2 : Option Value}  (kk : Z g kX1_isWell Q d cN sN M 22 [o0, o1, o2] [.int 0]) : Z g kX1_isWell Q d cN sN M 21 [o0, o1, o2] [] := by
  refine zi_iconst dX1_isWell_21 (by decide +kernel : Int32.ofInt (0) = (0 : Int32)) ?_
  exact kk
theorem sX1_isWell_22 {g : ZG} {Q : ZQ} {d cN sN : Nat} {M : ZM} {t0 : Int32} {o0 o1 o2 : Option Value}  (kk : Z g kX1_isWell Q d cN sN M 25 [o0, some (.int t0), some (.int 0)] []) : Z g kX1_isWell Q d cN sN M 22 [o0, o1, o2] [.int t0] := by
  refine zi_istore_n dX1_isWell_22 (Nat.le_of_ble_eq_true rfl) ?_
  refine zi_iconst dX1_isWell_23 (by decide +kernel : Int32.ofInt (0) = (0 : Int32)) ?_
  refine zi_istore_n dX1_isWell_24 (Nat.le_of_ble_eq_true rfl) ?_
  exact kk
theorem sX1_isWell_25 {g : ZG} {Q : ZQ} {d cN sN : Nat} {M : ZM} {l2 : Int32} {l0 : Nat} {fs1 : List Value} {r3 : Nat} {fs5 : List Value} {y7 : Int32} {o1 : Option Value} (h2 : M.1 l0 = some (.inr (0, fs1))) (h4 : (fs1)[0]? = some (.ref r3)) (h6 : M.1 r3 = some (.inr (1, fs5))) (h8 : (fs5)[3]? = some (.int y7)) (kt : (y7 : Int32) ≤ (l2 : Int32) → Z g kX1_isWell Q d cN sN M 80 [some (.ref l0), o1, some (.int l2)] []) (kf : ¬ (y7 : Int32) ≤ (l2 : Int32) → Z g kX1_isWell Q d cN sN M 36 [some (.ref l0), o1, some (.int l2)] []) : Z g kX1_isWell Q d cN sN M 25 [some (.ref l0), o1, some (.int l2)] [] := by
  refine zi_iload_n dX1_isWell_25 rfl ?_
  refine zi_aload_n dX1_isWell_26 rfl zrf_r ?_
  refine zi_getfield dX1_isWell_27 rfl h2 h4 ?_
  refine zi_getfield dX1_isWell_30 rfl h6 h8 ?_
  exact zi_icmp_ge (tgt := 80) dX1_isWell_33 (by decide +kernel) kt kf
theorem sX1_isWell_36 {g : ZG} {Q : ZQ} {d cN sN : Nat} {M : ZM} {l1 : Int32} {l0 : Nat} {fs1 : List Value} {r3 : Nat} {l2 : Int32} (h2 : M.1 l0 = some (.inr (0, fs1))) (h4 : (fs1)[0]? = some (.ref r3)) (kk : Z g kX1_isWell Q d cN sN M 42 [some (.ref l0), some (.int l1), some (.int l2)] [.int l2, .ref r3, .int l1]) : Z g kX1_isWell Q d cN sN M 36 [some (.ref l0), some (.int l1), some (.int l2)] [] := by
  refine zi_iload_n dX1_isWell_36 rfl ?_
  refine zi_aload_n dX1_isWell_37 rfl zrf_r ?_
  refine zi_getfield dX1_isWell_38 rfl h2 h4 ?_
  refine zi_iload_n dX1_isWell_41 rfl ?_
  exact kk
theorem sX1_isWell_45 {g : ZG} {Q : ZQ} {d cN sN : Nat} {M : ZM} {t0 : Int32} {t1 : Int32} {o0 o1 o2 : Option Value}  (kt : (t1 : Int32) = 0 → Z g kX1_isWell Q d cN sN M 71 [o0, o1, o2] [.int t0]) (kf : ¬ (t1 : Int32) = 0 → Z g kX1_isWell Q d cN sN M 48 [o0, o1, o2] [.int t0]) : Z g kX1_isWell Q d cN sN M 45 [o0, o1, o2] [.int t1, .int t0] := by
  exact zi_if_eq (tgt := 71) dX1_isWell_45 (by decide +kernel) kt kf
theorem sX1_isWell_48 {g : ZG} {Q : ZQ} {d cN sN : Nat} {M : ZM} {t0 : Int32} {l0 : Nat} {fs1 : List Value} {r3 : Nat} {l2 : Int32} {o1 : Option Value} (h2 : M.1 l0 = some (.inr (0, fs1))) (h4 : (fs1)[0]? = some (.ref r3)) (kk : Z g kX1_isWell Q d cN sN M 53 [some (.ref l0), o1, some (.int l2)] [.int l2, .ref r3, .int t0]) : Z g kX1_isWell Q d cN sN M 48 [some (.ref l0), o1, some (.int l2)] [.int t0] := by
  refine zi_aload_n dX1_isWell_48 rfl zrf_r ?_
  refine zi_getfield dX1_isWell_49 rfl h2 h4 ?_
  refine zi_iload_n dX1_isWell_52 rfl ?_
  exact kk
theorem sX1_isWell_56 {g : ZG} {Q : ZQ} {d cN sN : Nat} {M : ZM} {t0 : Int32} {t1 : Int32} {l0 : Nat} {o1 o2 : Option Value}  (kk : Z g kX1_isWell Q d cN sN M 57 [some (.ref l0), o1, o2] [.ref l0, .int t1, .int t0]) : Z g kX1_isWell Q d cN sN M 56 [some (.ref l0), o1, o2] [.int t1, .int t0] := by
  refine zi_aload_n dX1_isWell_56 rfl zrf_r ?_
  exact kk
theorem sX1_isWell_60 {g : ZG} {Q : ZQ} {d cN sN : Nat} {M : ZM} {t0 : Int32} {t1 : Int32} {t2 : Nat} {l2 : Int32} {o0 o1 : Option Value}  (kk : Z g kX1_isWell Q d cN sN M 61 [o0, o1, some (.int l2)] [.int l2, .ref t2, .int t1, .int t0]) : Z g kX1_isWell Q d cN sN M 60 [o0, o1, some (.int l2)] [.ref t2, .int t1, .int t0] := by
  refine zi_iload_n dX1_isWell_60 rfl ?_
  exact kk
theorem sX1_isWell_64 {g : ZG} {Q : ZQ} {d cN sN : Nat} {M : ZM} {t0 : Int32} {t1 : Int32} {t2 : Int32} {o0 o1 o2 : Option Value}  (kt : ¬ (t1 : Int32) = (t2 : Int32) → Z g kX1_isWell Q d cN sN M 71 [o0, o1, o2] [.int t0]) (kf : (t1 : Int32) = (t2 : Int32) → Z g kX1_isWell Q d cN sN M 67 [o0, o1, o2] [.int t0]) : Z g kX1_isWell Q d cN sN M 64 [o0, o1, o2] [.int t2, .int t1, .int t0] := by
  exact zi_icmp_ne (tgt := 71) dX1_isWell_64 (by decide +kernel) kt kf
theorem sX1_isWell_67 {g : ZG} {Q : ZQ} {d cN sN : Nat} {M : ZM} {t0 : Int32} {o0 o1 o2 : Option Value}  (kk : Z g kX1_isWell Q d cN sN M 72 [o0, o1, o2] [.int 1, .int t0]) : Z g kX1_isWell Q d cN sN M 67 [o0, o1, o2] [.int t0] := by
  refine zi_iconst dX1_isWell_67 (by decide +kernel : Int32.ofInt (1) = (1 : Int32)) ?_
  exact zi_goto (tgt := 72) dX1_isWell_68 (by decide +kernel) kk
theorem sX1_isWell_71 {g : ZG} {Q : ZQ} {d cN sN : Nat} {M : ZM} {t0 : Int32} {o0 o1 o2 : Option Value}  (kk : Z g kX1_isWell Q d cN sN M 72 [o0, o1, o2] [.int 0, .int t0]) : Z g kX1_isWell Q d cN sN M 71 [o0, o1, o2] [.int t0] := by
  refine zi_iconst dX1_isWell_71 (by decide +kernel : Int32.ofInt (0) = (0 : Int32)) ?_
  exact kk
theorem sX1_isWell_72 {g : ZG} {Q : ZQ} {d cN sN : Nat} {M : ZM} {t0 : Int32} {t1 : Int32} {l2 : Int32} {o0 o1 : Option Value}  (kk : Z g kX1_isWell Q d cN sN M 25 [o0, some (.int (t0 &&& t1)), some (.int (l2 + 1))] []) : Z g kX1_isWell Q d cN sN M 72 [o0, o1, some (.int l2)] [.int t1, .int t0] := by
  refine zi_iand dX1_isWell_72 ?_
  refine zi_istore_n dX1_isWell_73 (Nat.le_of_ble_eq_true rfl) ?_
  refine zi_iinc dX1_isWell_74 rfl (by decide +kernel : Int32.ofInt (1) = 1) (Nat.le_of_ble_eq_true rfl) ?_
  exact zi_goto (tgt := 25) dX1_isWell_77 (by decide +kernel) kk
theorem sX1_isWell_80 {g : ZG} {Q : ZQ} {d cN sN : Nat} {M : ZM} {l1 : Int32} {o0 o2 : Option Value} (h1 : l1 = 0 ∨ l1 = 1) (kk : Q.1 (some (.int l1)) M) : Z g kX1_isWell Q d cN sN M 80 [o0, some (.int l1), o2] [] := by
  refine zi_iload_n dX1_isWell_80 rfl ?_
  exact zi_ireturn dX1_isWell_81 rfl (znar_z h1) kk
abbrev kX1_thinkOf : ZK := (RX1, cX1_thinkOf, 1, (Option.some (Jvm.ClassFile.FieldType.object "ErrataPress$Press")), [], false, fX1)
abbrev tX1_thinkOf (g : ZG) (args : List Value) (M : ZM) (d c s : Nat) (Q : ZQ) : Prop := Ct g yX1_thinkOf (ws_ yX1_thinkOf cX1_thinkOf 1 (Option.some (Jvm.ClassFile.FieldType.object "ErrataPress$Press"))) args M d c s Q
abbrev nX1_thinkOf : Nat := 4
theorem mX1_thinkOf : zMok yX1_thinkOf 0 1 := ⟨⟨by decide +kernel, by decide +kernel, by decide +kernel⟩, by decide⟩
theorem eX1_thinkOf {g : ZG} {Q : ZQ} {d cN sN : Nat} {M : ZM} {a0 : Nat} (hV : zV g) (h : Z g kX1_thinkOf Q d cN sN M 0 [some (.ref a0)] []) : tX1_thinkOf g [.ref a0] M d cN sN Q := Ct.of (K := kX1_thinkOf) rfl (by decide +kernel) hV fokX1 rfl (fun h => by cases h) (fun v hv => by simp only [List.mem_cons, List.not_mem_nil, or_false] at hv; rcases hv with rfl <;> first | rfl | assumption) (Nat.le_of_ble_eq_true rfl) h
theorem sX1_thinkOf_0 {g : ZG} {Q : ZQ} {d cN sN : Nat} {M : ZM} {l0 : Nat} {fs1 : List Value} {r3 : Nat} {r5 : Nat} (h2 : M.1 l0 = some (.inr (0, fs1))) (h4 : (fs1)[3]? = some (.ref r3)) (h6 : (fs1)[0]? = some (.ref r5)) (kk : Z g kX1_thinkOf Q d cN sN M 8 [some (.ref l0)] [.ref r5, .ref r3]) : Z g kX1_thinkOf Q d cN sN M 0 [some (.ref l0)] [] := by
  refine zi_aload_n dX1_thinkOf_0 rfl zrf_r ?_
  refine zi_getfield dX1_thinkOf_1 rfl h2 h4 ?_
  refine zi_aload_n dX1_thinkOf_4 rfl zrf_r ?_
  refine zi_getfield dX1_thinkOf_5 rfl h2 h6 ?_
  exact kk
theorem sX1_thinkOf_11 {g : ZG} {Q : ZQ} {d cN sN : Nat} {M : ZM} {l0 : Nat} {fs1 : List Value} {r3 : Nat} (h2 : M.1 l0 = some (.inr (0, fs1))) (h4 : (fs1)[3]? = some (.ref r3)) (kk : Q.1 (some (.ref r3)) M) : Z g kX1_thinkOf Q d cN sN M 11 [some (.ref l0)] [] := by
  refine zi_aload_n dX1_thinkOf_11 rfl zrf_r ?_
  refine zi_getfield dX1_thinkOf_12 rfl h2 h4 ?_
  exact zi_areturn dX1_thinkOf_15 zrf_r rfl (Or.inl ⟨_, rfl⟩) kk
abbrev kX1_refuse : ZK := (RX1, cX1_refuse, 3, (Option.none : Option Jvm.ClassFile.FieldType), [], false, fX1)
abbrev tX1_refuse (g : ZG) (args : List Value) (M : ZM) (d c s : Nat) (Q : ZQ) : Prop := Ct g yX1_refuse (ws_ yX1_refuse cX1_refuse 3 (Option.none : Option Jvm.ClassFile.FieldType)) args M d c s Q
abbrev nX1_refuse : Nat := 8
theorem mX1_refuse : zMok yX1_refuse 3 3 := ⟨⟨by decide +kernel, by decide +kernel, by decide +kernel⟩, by decide⟩
theorem eX1_refuse {g : ZG} {Q : ZQ} {d cN sN : Nat} {M : ZM} {x1 : Int32} {x2 : Int32} {x3 : Int32} (hV : zV g) (h : Z g kX1_refuse Q d cN sN M 0 [some (.int x1), some (.int x2), some (.int x3)] []) : tX1_refuse g [.int x1, .int x2, .int x3] M d cN sN Q := Ct.of (K := kX1_refuse) rfl (by decide +kernel) hV fokX1 rfl (fun h => by cases h) (fun v hv => by simp only [List.mem_cons, List.not_mem_nil, or_false] at hv; rcases hv with rfl | rfl | rfl <;> first | rfl | assumption) (Nat.le_of_ble_eq_true rfl) h
theorem sX1_refuse_0 {g : ZG} {Q : ZQ} {d cN sN : Nat} {M : ZM} {l0 : Int32} {o1 o2 : Option Value}  (kt : (l0 : Int32) = 0 → Z g kX1_refuse Q d cN sN M 15 [some (.int l0), o1, o2] []) (kf : ¬ (l0 : Int32) = 0 → Z g kX1_refuse Q d cN sN M 4 [some (.int l0), o1, o2] []) : Z g kX1_refuse Q d cN sN M 0 [some (.int l0), o1, o2] [] := by
  refine zi_iload_n dX1_refuse_0 rfl ?_
  exact zi_if_eq (tgt := 15) dX1_refuse_1 (by decide +kernel) kt kf
theorem sX1_refuse_7 {g : ZG} {Q : ZQ} {d cN sN : Nat} {M : ZM} {t0 : Nat} {l1 : Int32} {l2 : Int32} {o0 : Option Value}  (kk : Z g kX1_refuse Q d cN sN M 11 [o0, some (.int l1), some (.int l2)] [.null, .int l2, .int l1, .ref t0, .ref t0]) : Z g kX1_refuse Q d cN sN M 7 [o0, some (.int l1), some (.int l2)] [.ref t0] := by
  refine zi_dup dX1_refuse_7 rfl ?_
  refine zi_iload_n dX1_refuse_8 rfl ?_
  refine zi_iload_n dX1_refuse_9 rfl ?_
  refine zi_null dX1_refuse_10 ?_
  exact kk
theorem sX1_refuse_15 {g : ZG} {Q : ZQ} {d cN sN : Nat} {M : ZM} {o0 o1 o2 : Option Value}  (kk : Q.1 none M) : Z g kX1_refuse Q d cN sN M 15 [o0, o1, o2] [] := by
  exact zi_return dX1_refuse_15 rfl kk
abbrev kX1_save : ZK := (RX1, cX1_save, 1, (Option.some Jvm.ClassFile.FieldType.int), [], false, fX1)
abbrev tX1_save (g : ZG) (args : List Value) (M : ZM) (d c s : Nat) (Q : ZQ) : Prop := Ct g yX1_save (ws_ yX1_save cX1_save 1 (Option.some Jvm.ClassFile.FieldType.int)) args M d c s Q
abbrev nX1_save : Nat := 4
theorem mX1_save : zMok yX1_save 0 1 := ⟨⟨by decide +kernel, by decide +kernel, by decide +kernel⟩, by decide⟩
theorem eX1_save {g : ZG} {Q : ZQ} {d cN sN : Nat} {M : ZM} {a0 : Nat} (hV : zV g) (h : Z g kX1_save Q d cN sN M 0 [some (.ref a0)] []) : tX1_save g [.ref a0] M d cN sN Q := Ct.of (K := kX1_save) rfl (by decide +kernel) hV fokX1 rfl (fun h => by cases h) (fun v hv => by simp only [List.mem_cons, List.not_mem_nil, or_false] at hv; rcases hv with rfl <;> first | rfl | assumption) (Nat.le_of_ble_eq_true rfl) h
theorem sX1_save_0 {g : ZG} {Q : ZQ} {d cN sN : Nat} {M : ZM} {l0 : Nat} {fs1 : List Value} {r3 : Nat} {r5 : Nat} (h2 : M.1 l0 = some (.inr (0, fs1))) (h4 : (fs1)[2]? = some (.ref r3)) (h6 : (fs1)[0]? = some (.ref r5)) (kk : Z g kX1_save Q d cN sN M 8 [some (.ref l0)] [.ref r5, .ref r3]) : Z g kX1_save Q d cN sN M 0 [some (.ref l0)] [] := by
  refine zi_aload_n dX1_save_0 rfl zrf_r ?_
  refine zi_getfield dX1_save_1 rfl h2 h4 ?_
  refine zi_aload_n dX1_save_4 rfl zrf_r ?_
  refine zi_getfield dX1_save_5 rfl h2 h6 ?_
  exact kk
theorem sX1_save_11 {g : ZG} {Q : ZQ} {d cN sN : Nat} {M : ZM} {l0 : Nat} {fs1 : List Value} {r4 : Nat} {fs6 : List Value} {y8 : Int32} (h2 : M.1 l0 = some (.inr (0, fs1))) (h3 : 4 < (fs1).length) (h5 : (((fs1).set 4 (.int 1)))[0]? = some (.ref r4)) (h7 : (zup M l0 (.inr (0, (fs1).set 4 (.int 1)))).1 r4 = some (.inr (1, fs6))) (h9 : (fs6)[3]? = some (.int y8)) (kk : Q.1 (some (.int y8)) (zup M l0 (.inr (0, (fs1).set 4 (.int 1))))) : Z g kX1_save Q d cN sN M 11 [some (.ref l0)] [] := by
  refine zi_aload_n dX1_save_11 rfl zrf_r ?_
  refine zi_iconst dX1_save_12 (by decide +kernel : Int32.ofInt (1) = (1 : Int32)) ?_
  refine zi_putfield dX1_save_13 rfl h2 h3 (zfit_z (by decide)) (Or.inl rfl) ?_
  refine zi_aload_n dX1_save_16 rfl zrf_r ?_
  refine zi_getfield dX1_save_17 rfl (zup_self _ _ _) h5 ?_
  refine zi_getfield dX1_save_20 rfl h7 h9 ?_
  exact zi_ireturn dX1_save_23 rfl rfl kk
abbrev kX1_house : ZK := (RX1, cX1_house, 3, (Option.some Jvm.ClassFile.FieldType.int), [(10, 22, 23, 1)], false, fX1)
abbrev tX1_house (g : ZG) (args : List Value) (M : ZM) (d c s : Nat) (Q : ZQ) : Prop := Ct g yX1_house (wsW_ yX1_house cX1_house 3 (Option.some Jvm.ClassFile.FieldType.int) [(10, 22, 23, 1)]) args M d c s Q
abbrev nX1_house : Nat := 13
theorem mX1_house : zMok yX1_house 1 3 := ⟨⟨by decide +kernel, by decide +kernel, by decide +kernel⟩, by decide⟩
theorem eX1_house {g : ZG} {Q : ZQ} {d cN sN : Nat} {M : ZM} {a0 : Nat} {x1 : Int32} (hV : zV g) (h : Z g kX1_house Q d cN sN M 0 [some (.ref a0), some (.int x1), none] []) : tX1_house g [.ref a0, .int x1] M d cN sN Q := Ct.ofW (K := kX1_house) rfl (by decide +kernel) hV fokX1 (fun h => by cases h) (fun v hv => by simp only [List.mem_cons, List.not_mem_nil, or_false] at hv; rcases hv with rfl | rfl <;> first | rfl | assumption) (Nat.le_of_ble_eq_true rfl) h
theorem sX1_house_0 {g : ZG} {Q : ZQ} {d cN sN : Nat} {M : ZM} {l1 : Int32} {o0 o2 : Option Value}  (kk : Z g kX1_house Q d cN sN M 4 [o0, some (.int l1), o2] [.int 99, .int 0, .int l1]) : Z g kX1_house Q d cN sN M 0 [o0, some (.int l1), o2] [] := by
  refine zi_iload_n dX1_house_0 rfl ?_
  refine zi_iconst dX1_house_1 (by decide +kernel : Int32.ofInt (0) = (0 : Int32)) ?_
  refine zi_bipush dX1_house_2 (by decide +kernel : (Int8.ofInt (99)).toInt32 = (99 : Int32)) ?_
  exact kk
theorem sX1_house_10 {g : ZG} {Q : ZQ} {d cN sN : Nat} {M : ZM} {l0 : Nat} {o1 o2 : Option Value}  (kk : Z g kX1_house Q d cN sN M 12 [some (.ref l0), o1, o2] [.ref l0, .ref l0]) : Z g kX1_house Q d cN sN M 10 [some (.ref l0), o1, o2] [] := by
  refine zi_aload_n dX1_house_10 rfl zrf_r ?_
  refine zi_aload_n dX1_house_11 rfl zrf_r ?_
  exact kk
theorem sX1_house_15 {g : ZG} {Q : ZQ} {d cN sN : Nat} {M : ZM} {t0 : Nat} {t1 : Nat} {l1 : Int32} {o0 o2 : Option Value}  (kk : Z g kX1_house Q d cN sN M 16 [o0, some (.int l1), o2] [.int l1, .ref t1, .ref t0]) : Z g kX1_house Q d cN sN M 15 [o0, some (.int l1), o2] [.ref t1, .ref t0] := by
  refine zi_iload_n dX1_house_15 rfl ?_
  exact kk
theorem sX1_house_22 {g : ZG} {Q : ZQ} {d cN sN : Nat} {M : ZM} {t0 : Int32} {o0 o1 o2 : Option Value}  (kk : Q.1 (some (.int t0)) M) : Z g kX1_house Q d cN sN M 22 [o0, o1, o2] [.int t0] := by
  exact zi_ireturn dX1_house_22 rfl rfl kk
theorem sX1_house_23 {g : ZG} {Q : ZQ} {d cN sN : Nat} {M : ZM} {t0 : Nat} {l0 : Nat} {o1 o2 : Option Value}  (kk : Z g kX1_house Q d cN sN M 26 [some (.ref l0), o1, some (.ref t0)] [.ref t0, .ref l0]) : Z g kX1_house Q d cN sN M 23 [some (.ref l0), o1, o2] [.ref t0] := by
  refine zi_astore_n dX1_house_23 zrf_r (Nat.le_of_ble_eq_true rfl) ?_
  refine zi_aload_n dX1_house_24 rfl zrf_r ?_
  refine zi_aload_n dX1_house_25 rfl zrf_r ?_
  exact kk
abbrev kX1_in : ZK := (RX1, cX1_in, 3, (Option.some Jvm.ClassFile.FieldType.boolean), [], false, fX1)
abbrev tX1_in (g : ZG) (args : List Value) (M : ZM) (d c s : Nat) (Q : ZQ) : Prop := Ct g yX1_in (ws_ yX1_in cX1_in 3 (Option.some Jvm.ClassFile.FieldType.boolean)) args M d c s Q
abbrev nX1_in : Nat := 1
theorem mX1_in : zMok yX1_in 3 3 := ⟨⟨by decide +kernel, by decide +kernel, by decide +kernel⟩, by decide⟩
theorem eX1_in {g : ZG} {Q : ZQ} {d cN sN : Nat} {M : ZM} {x1 : Int32} {x2 : Int32} {x3 : Int32} (hV : zV g) (h : Z g kX1_in Q d cN sN M 0 [some (.int x1), some (.int x2), some (.int x3)] []) : tX1_in g [.int x1, .int x2, .int x3] M d cN sN Q := Ct.of (K := kX1_in) rfl (by decide +kernel) hV fokX1 rfl (fun h => by cases h) (fun v hv => by simp only [List.mem_cons, List.not_mem_nil, or_false] at hv; rcases hv with rfl | rfl | rfl <;> first | rfl | assumption) (Nat.le_of_ble_eq_true rfl) h
theorem sX1_in_0 {g : ZG} {Q : ZQ} {d cN sN : Nat} {M : ZM} {l0 : Int32} {l1 : Int32} {o2 : Option Value}  (kt : (l0 : Int32) < (l1 : Int32) → Z g kX1_in Q d cN sN M 14 [some (.int l0), some (.int l1), o2] []) (kf : ¬ (l0 : Int32) < (l1 : Int32) → Z g kX1_in Q d cN sN M 5 [some (.int l0), some (.int l1), o2] []) : Z g kX1_in Q d cN sN M 0 [some (.int l0), some (.int l1), o2] [] := by
  refine zi_iload_n dX1_in_0 rfl ?_
  refine zi_iload_n dX1_in_1 rfl ?_
  exact zi_icmp_lt (tgt := 14) dX1_in_2 (by decide +kernel) kt kf
theorem sX1_in_5 {g : ZG} {Q : ZQ} {d cN sN : Nat} {M : ZM} {l0 : Int32} {l2 : Int32} {o1 : Option Value}  (kt : (l2 : Int32) < (l0 : Int32) → Z g kX1_in Q d cN sN M 14 [some (.int l0), o1, some (.int l2)] []) (kf : ¬ (l2 : Int32) < (l0 : Int32) → Z g kX1_in Q d cN sN M 10 [some (.int l0), o1, some (.int l2)] []) : Z g kX1_in Q d cN sN M 5 [some (.int l0), o1, some (.int l2)] [] := by
  refine zi_iload_n dX1_in_5 rfl ?_
  refine zi_iload_n dX1_in_6 rfl ?_
  exact zi_icmp_gt (tgt := 14) dX1_in_7 (by decide +kernel) kt kf
theorem sX1_in_10 {g : ZG} {Q : ZQ} {d cN sN : Nat} {M : ZM} {o0 o1 o2 : Option Value}  (kk : Z g kX1_in Q d cN sN M 15 [o0, o1, o2] [.int 1]) : Z g kX1_in Q d cN sN M 10 [o0, o1, o2] [] := by
  refine zi_iconst dX1_in_10 (by decide +kernel : Int32.ofInt (1) = (1 : Int32)) ?_
  exact zi_goto (tgt := 15) dX1_in_11 (by decide +kernel) kk
theorem sX1_in_14 {g : ZG} {Q : ZQ} {d cN sN : Nat} {M : ZM} {o0 o1 o2 : Option Value}  (kk : Z g kX1_in Q d cN sN M 15 [o0, o1, o2] [.int 0]) : Z g kX1_in Q d cN sN M 14 [o0, o1, o2] [] := by
  refine zi_iconst dX1_in_14 (by decide +kernel : Int32.ofInt (0) = (0 : Int32)) ?_
  exact kk
theorem sX1_in_15 {g : ZG} {Q : ZQ} {d cN sN : Nat} {M : ZM} {t0 : Int32} {o0 o1 o2 : Option Value} (h1 : t0 = 0 ∨ t0 = 1) (kk : Q.1 (some (.int t0)) M) : Z g kX1_in Q d cN sN M 15 [o0, o1, o2] [.int t0] := by
  exact zi_ireturn dX1_in_15 rfl (znar_z h1) kk
abbrev kX1_check : ZK := (RX1, cX1_check, 1, (Option.none : Option Jvm.ClassFile.FieldType), [], false, fX1)
abbrev tX1_check (g : ZG) (args : List Value) (M : ZM) (d c s : Nat) (Q : ZQ) : Prop := Ct g yX1_check (ws_ yX1_check cX1_check 1 (Option.none : Option Jvm.ClassFile.FieldType)) args M d c s Q
abbrev nX1_check : Nat := 8
theorem mX1_check : zMok yX1_check 1 1 := ⟨⟨by decide +kernel, by decide +kernel, by decide +kernel⟩, by decide⟩
theorem eX1_check {g : ZG} {Q : ZQ} {d cN sN : Nat} {M : ZM} {x1 : Int32} (hV : zV g) (h : Z g kX1_check Q d cN sN M 0 [some (.int x1)] []) : tX1_check g [.int x1] M d cN sN Q := Ct.of (K := kX1_check) rfl (by decide +kernel) hV fokX1 rfl (fun h => by cases h) (fun v hv => by simp only [List.mem_cons, List.not_mem_nil, or_false] at hv; rcases hv with rfl <;> first | rfl | assumption) (Nat.le_of_ble_eq_true rfl) h
theorem sX1_check_0 {g : ZG} {Q : ZQ} {d cN sN : Nat} {M : ZM} {l0 : Int32}  (kt : ¬ (l0 : Int32) = 0 → Z g kX1_check Q d cN sN M 12 [some (.int l0)] []) (kf : (l0 : Int32) = 0 → Z g kX1_check Q d cN sN M 4 [some (.int l0)] []) : Z g kX1_check Q d cN sN M 0 [some (.int l0)] [] := by
  refine zi_iload_n dX1_check_0 rfl ?_
  exact zi_if_ne (tgt := 12) dX1_check_1 (by decide +kernel) kt kf
theorem sX1_check_7 {g : ZG} {Q : ZQ} {d cN sN : Nat} {M : ZM} {t0 : Nat} {o0 : Option Value}  (kk : Z g kX1_check Q d cN sN M 8 [o0] [.ref t0, .ref t0]) : Z g kX1_check Q d cN sN M 7 [o0] [.ref t0] := by
  refine zi_dup dX1_check_7 rfl ?_
  exact kk
theorem sX1_check_12 {g : ZG} {Q : ZQ} {d cN sN : Nat} {M : ZM} {o0 : Option Value}  (kk : Q.1 none M) : Z g kX1_check Q d cN sN M 12 [o0] [] := by
  exact zi_return dX1_check_12 rfl kk
abbrev kX1_because : ZK := (RX1, cX1_because, 2, (Option.some (Jvm.ClassFile.FieldType.object "java/lang/UnsupportedOperationException")), [], false, fX1)
abbrev tX1_because (g : ZG) (args : List Value) (M : ZM) (d c s : Nat) (Q : ZQ) : Prop := Ct g yX1_because (ws_ yX1_because cX1_because 2 (Option.some (Jvm.ClassFile.FieldType.object "java/lang/UnsupportedOperationException"))) args M d c s Q
abbrev nX1_because : Nat := 8
theorem mX1_because : zMok yX1_because 1 2 := ⟨⟨by decide +kernel, by decide +kernel, by decide +kernel⟩, by decide⟩
theorem eX1_because {g : ZG} {Q : ZQ} {d cN sN : Nat} {M : ZM} {a0 : Nat} {v1 : Value} (hv1 : v1.category = 1) (hV : zV g) (h : Z g kX1_because Q d cN sN M 0 [some (.ref a0), some (v1)] []) : tX1_because g [.ref a0, v1] M d cN sN Q := Ct.of (K := kX1_because) rfl (by decide +kernel) hV fokX1 rfl (fun h => by cases h) (fun v hv => by simp only [List.mem_cons, List.not_mem_nil, or_false] at hv; rcases hv with rfl | rfl <;> first | rfl | assumption) (Nat.le_of_ble_eq_true rfl) h
theorem sX1_because_0 {g : ZG} {Q : ZQ} {d cN sN : Nat} {M : ZM} {l0 : Nat} {l1 : Nat} {fs1 : List Value} (h2 : M.1 l0 = some (.inr (0, fs1))) (h3 : 11 < (fs1).length) (kk : Z g kX1_because Q d cN sN (zup M l0 (.inr (0, (fs1).set 11 (.ref l1)))) 5 [some (.ref l0), some (.ref l1)] []) : Z g kX1_because Q d cN sN M 0 [some (.ref l0), some (.ref l1)] [] := by
  refine zi_aload_n dX1_because_0 rfl zrf_r ?_
  refine zi_aload_n dX1_because_1 rfl zrf_r ?_
  refine zi_putfield dX1_because_2 rfl h2 h3 (zfit_r zrf_r) (Or.inl rfl) ?_
  exact kk
theorem sX1_because_8 {g : ZG} {Q : ZQ} {d cN sN : Nat} {M : ZM} {t0 : Nat} {o0 o1 : Option Value}  (kk : Z g kX1_because Q d cN sN M 9 [o0, o1] [.ref t0, .ref t0]) : Z g kX1_because Q d cN sN M 8 [o0, o1] [.ref t0] := by
  refine zi_dup dX1_because_8 rfl ?_
  exact kk
theorem sX1_because_12 {g : ZG} {Q : ZQ} {d cN sN : Nat} {M : ZM} {t0 : Nat} {o0 o1 : Option Value}  (kk : Q.1 (some (.ref t0)) M) : Z g kX1_because Q d cN sN M 12 [o0, o1] [.ref t0] := by
  exact zi_areturn dX1_because_12 zrf_r rfl (Or.inl ⟨_, rfl⟩) kk
abbrev kX1_sheet : ZK := (RX1, cX1_sheet, 4, (Option.some Jvm.ClassFile.FieldType.int), [(12, 25, 26, 1)], false, fX1)
abbrev tX1_sheet (g : ZG) (args : List Value) (M : ZM) (d c s : Nat) (Q : ZQ) : Prop := Ct g yX1_sheet (wsW_ yX1_sheet cX1_sheet 4 (Option.some Jvm.ClassFile.FieldType.int) [(12, 25, 26, 1)]) args M d c s Q
abbrev nX1_sheet : Nat := 13
theorem mX1_sheet : zMok yX1_sheet 2 4 := ⟨⟨by decide +kernel, by decide +kernel, by decide +kernel⟩, by decide⟩
theorem eX1_sheet {g : ZG} {Q : ZQ} {d cN sN : Nat} {M : ZM} {a0 : Nat} {x1 : Int32} {x2 : Int32} (hV : zV g) (h : Z g kX1_sheet Q d cN sN M 0 [some (.ref a0), some (.int x1), some (.int x2), none] []) : tX1_sheet g [.ref a0, .int x1, .int x2] M d cN sN Q := Ct.ofW (K := kX1_sheet) rfl (by decide +kernel) hV fokX1 (fun h => by cases h) (fun v hv => by simp only [List.mem_cons, List.not_mem_nil, or_false] at hv; rcases hv with rfl | rfl | rfl <;> first | rfl | assumption) (Nat.le_of_ble_eq_true rfl) h
theorem sX1_sheet_0 {g : ZG} {Q : ZQ} {d cN sN : Nat} {M : ZM} {l0 : Nat} {l1 : Int32} {o2 o3 : Option Value}  (kk : Z g kX1_sheet Q d cN sN M 2 [some (.ref l0), some (.int l1), o2, o3] [.int l1, .ref l0]) : Z g kX1_sheet Q d cN sN M 0 [some (.ref l0), some (.int l1), o2, o3] [] := by
  refine zi_aload_n dX1_sheet_0 rfl zrf_r ?_
  refine zi_iload_n dX1_sheet_1 rfl ?_
  exact kk
theorem sX1_sheet_5 {g : ZG} {Q : ZQ} {d cN sN : Nat} {M : ZM} {l2 : Int32} {o0 o1 o3 : Option Value}  (kk : Z g kX1_sheet Q d cN sN M 6 [o0, o1, some (.int l2), o3] [.int l2]) : Z g kX1_sheet Q d cN sN M 5 [o0, o1, some (.int l2), o3] [] := by
  refine zi_iload_n dX1_sheet_5 rfl ?_
  exact kk
theorem sX1_sheet_12 {g : ZG} {Q : ZQ} {d cN sN : Nat} {M : ZM} {l0 : Nat} {o1 o2 o3 : Option Value}  (kk : Z g kX1_sheet Q d cN sN M 14 [some (.ref l0), o1, o2, o3] [.ref l0, .ref l0]) : Z g kX1_sheet Q d cN sN M 12 [some (.ref l0), o1, o2, o3] [] := by
  refine zi_aload_n dX1_sheet_12 rfl zrf_r ?_
  refine zi_aload_n dX1_sheet_13 rfl zrf_r ?_
  exact kk
theorem sX1_sheet_17 {g : ZG} {Q : ZQ} {d cN sN : Nat} {M : ZM} {t0 : Nat} {t1 : Nat} {l1 : Int32} {l2 : Int32} {o0 o3 : Option Value}  (kk : Z g kX1_sheet Q d cN sN M 19 [o0, some (.int l1), some (.int l2), o3] [.int l2, .int l1, .ref t1, .ref t0]) : Z g kX1_sheet Q d cN sN M 17 [o0, some (.int l1), some (.int l2), o3] [.ref t1, .ref t0] := by
  refine zi_iload_n dX1_sheet_17 rfl ?_
  refine zi_iload_n dX1_sheet_18 rfl ?_
  exact kk
theorem sX1_sheet_25 {g : ZG} {Q : ZQ} {d cN sN : Nat} {M : ZM} {t0 : Int32} {o0 o1 o2 o3 : Option Value}  (kk : Q.1 (some (.int t0)) M) : Z g kX1_sheet Q d cN sN M 25 [o0, o1, o2, o3] [.int t0] := by
  exact zi_ireturn dX1_sheet_25 rfl rfl kk
theorem sX1_sheet_26 {g : ZG} {Q : ZQ} {d cN sN : Nat} {M : ZM} {t0 : Nat} {l0 : Nat} {o1 o2 o3 : Option Value}  (kk : Z g kX1_sheet Q d cN sN M 29 [some (.ref l0), o1, o2, some (.ref t0)] [.ref t0, .ref l0]) : Z g kX1_sheet Q d cN sN M 26 [some (.ref l0), o1, o2, o3] [.ref t0] := by
  refine zi_astore_n dX1_sheet_26 zrf_r (Nat.le_of_ble_eq_true rfl) ?_
  refine zi_aload_n dX1_sheet_27 rfl zrf_r ?_
  refine zi_aload_n dX1_sheet_28 rfl zrf_r ?_
  exact kk
abbrev kX1_checkHouse : ZK := (RX1, cX1_checkHouse, 2, (Option.none : Option Jvm.ClassFile.FieldType), [], false, fX1)
abbrev tX1_checkHouse (g : ZG) (args : List Value) (M : ZM) (d c s : Nat) (Q : ZQ) : Prop := Ct g yX1_checkHouse (ws_ yX1_checkHouse cX1_checkHouse 2 (Option.none : Option Jvm.ClassFile.FieldType)) args M d c s Q
abbrev nX1_checkHouse : Nat := 9
theorem mX1_checkHouse : zMok yX1_checkHouse 1 2 := ⟨⟨by decide +kernel, by decide +kernel, by decide +kernel⟩, by decide⟩
theorem eX1_checkHouse {g : ZG} {Q : ZQ} {d cN sN : Nat} {M : ZM} {a0 : Nat} {x1 : Int32} (hV : zV g) (h : Z g kX1_checkHouse Q d cN sN M 0 [some (.ref a0), some (.int x1)] []) : tX1_checkHouse g [.ref a0, .int x1] M d cN sN Q := Ct.of (K := kX1_checkHouse) rfl (by decide +kernel) hV fokX1 rfl (fun h => by cases h) (fun v hv => by simp only [List.mem_cons, List.not_mem_nil, or_false] at hv; rcases hv with rfl | rfl <;> first | rfl | assumption) (Nat.le_of_ble_eq_true rfl) h
theorem sX1_checkHouse_0 {g : ZG} {Q : ZQ} {d cN sN : Nat} {M : ZM} {l0 : Nat} {fs1 : List Value} {r3 : Nat} {l1 : Int32} (h2 : M.1 l0 = some (.inr (0, fs1))) (h4 : (fs1)[0]? = some (.ref r3)) (kk : Z g kX1_checkHouse Q d cN sN M 5 [some (.ref l0), some (.int l1)] [.int l1, .ref r3]) : Z g kX1_checkHouse Q d cN sN M 0 [some (.ref l0), some (.int l1)] [] := by
  refine zi_aload_n dX1_checkHouse_0 rfl zrf_r ?_
  refine zi_getfield dX1_checkHouse_1 rfl h2 h4 ?_
  refine zi_iload_n dX1_checkHouse_4 rfl ?_
  exact kk
theorem sX1_checkHouse_11 {g : ZG} {Q : ZQ} {d cN sN : Nat} {M : ZM} {o0 o1 : Option Value}  (kk : Q.1 none M) : Z g kX1_checkHouse Q d cN sN M 11 [o0, o1] [] := by
  exact zi_return dX1_checkHouse_11 rfl kk
abbrev kX1_checkIndex : ZK := (RX1, cX1_checkIndex, 1, (Option.none : Option Jvm.ClassFile.FieldType), [], false, fX1)
abbrev tX1_checkIndex (g : ZG) (args : List Value) (M : ZM) (d c s : Nat) (Q : ZQ) : Prop := Ct g yX1_checkIndex (ws_ yX1_checkIndex cX1_checkIndex 1 (Option.none : Option Jvm.ClassFile.FieldType)) args M d c s Q
abbrev nX1_checkIndex : Nat := 8
theorem mX1_checkIndex : zMok yX1_checkIndex 1 1 := ⟨⟨by decide +kernel, by decide +kernel, by decide +kernel⟩, by decide⟩
theorem eX1_checkIndex {g : ZG} {Q : ZQ} {d cN sN : Nat} {M : ZM} {x1 : Int32} (hV : zV g) (h : Z g kX1_checkIndex Q d cN sN M 0 [some (.int x1)] []) : tX1_checkIndex g [.int x1] M d cN sN Q := Ct.of (K := kX1_checkIndex) rfl (by decide +kernel) hV fokX1 rfl (fun h => by cases h) (fun v hv => by simp only [List.mem_cons, List.not_mem_nil, or_false] at hv; rcases hv with rfl <;> first | rfl | assumption) (Nat.le_of_ble_eq_true rfl) h
theorem sX1_checkIndex_0 {g : ZG} {Q : ZQ} {d cN sN : Nat} {M : ZM} {l0 : Int32}  (kt : ¬ (l0 : Int32) = 0 → Z g kX1_checkIndex Q d cN sN M 12 [some (.int l0)] []) (kf : (l0 : Int32) = 0 → Z g kX1_checkIndex Q d cN sN M 4 [some (.int l0)] []) : Z g kX1_checkIndex Q d cN sN M 0 [some (.int l0)] [] := by
  refine zi_iload_n dX1_checkIndex_0 rfl ?_
  exact zi_if_ne (tgt := 12) dX1_checkIndex_1 (by decide +kernel) kt kf
theorem sX1_checkIndex_7 {g : ZG} {Q : ZQ} {d cN sN : Nat} {M : ZM} {t0 : Nat} {o0 : Option Value}  (kk : Z g kX1_checkIndex Q d cN sN M 8 [o0] [.ref t0, .ref t0]) : Z g kX1_checkIndex Q d cN sN M 7 [o0] [.ref t0] := by
  refine zi_dup dX1_checkIndex_7 rfl ?_
  exact kk
theorem sX1_checkIndex_12 {g : ZG} {Q : ZQ} {d cN sN : Nat} {M : ZM} {o0 : Option Value}  (kk : Q.1 none M) : Z g kX1_checkIndex Q d cN sN M 12 [o0] [] := by
  exact zi_return dX1_checkIndex_12 rfl kk
abbrev kX1_isWord : ZK := (RX1, cX1_isWord, 3, (Option.some Jvm.ClassFile.FieldType.boolean), [], false, fX1)
abbrev tX1_isWord (g : ZG) (args : List Value) (M : ZM) (d c s : Nat) (Q : ZQ) : Prop := Ct g yX1_isWord (ws_ yX1_isWord cX1_isWord 3 (Option.some Jvm.ClassFile.FieldType.boolean)) args M d c s Q
abbrev nX1_isWord : Nat := 2
theorem mX1_isWord : zMok yX1_isWord 1 3 := ⟨⟨by decide +kernel, by decide +kernel, by decide +kernel⟩, by decide⟩
theorem eX1_isWord {g : ZG} {Q : ZQ} {d cN sN : Nat} {M : ZM} {x1 : Int32} (hV : zV g) (h : Z g kX1_isWord Q d cN sN M 0 [some (.int x1), none, none] []) : tX1_isWord g [.int x1] M d cN sN Q := Ct.of (K := kX1_isWord) rfl (by decide +kernel) hV fokX1 rfl (fun h => by cases h) (fun v hv => by simp only [List.mem_cons, List.not_mem_nil, or_false] at hv; rcases hv with rfl <;> first | rfl | assumption) (Nat.le_of_ble_eq_true rfl) h
theorem sX1_isWord_0 {g : ZG} {Q : ZQ} {d cN sN : Nat} {M : ZM} {l0 : Int32} {o1 o2 : Option Value}  (kt : (l0 : Int32) < 0 → Z g kX1_isWord Q d cN sN M 17 [some (.int l0), o1, o2] []) (kf : ¬ (l0 : Int32) < 0 → Z g kX1_isWord Q d cN sN M 4 [some (.int l0), o1, o2] []) : Z g kX1_isWord Q d cN sN M 0 [some (.int l0), o1, o2] [] := by
  refine zi_iload_n dX1_isWord_0 rfl ?_
  exact zi_if_lt (tgt := 17) dX1_isWord_1 (by decide +kernel) kt kf
theorem sX1_isWord_4 {g : ZG} {Q : ZQ} {d cN sN : Nat} {M : ZM} {l0 : Int32} {o1 o2 : Option Value}  (kk : Z g kX1_isWord Q d cN sN M 5 [some (.int l0), o1, o2] [.int l0]) : Z g kX1_isWord Q d cN sN M 4 [some (.int l0), o1, o2] [] := by
  refine zi_iload_n dX1_isWord_4 rfl ?_
  exact kk
theorem sX1_isWord_8 {g : ZG} {Q : ZQ} {d cN sN : Nat} {M : ZM} {t0 : Int32} {o0 o1 o2 : Option Value}  (kk : Z g kX1_isWord Q d cN sN M 11 [o0, o1, o2] [.int 8, .int 3, .int t0]) : Z g kX1_isWord Q d cN sN M 8 [o0, o1, o2] [.int t0] := by
  refine zi_iconst dX1_isWord_8 (by decide +kernel : Int32.ofInt (3) = (3 : Int32)) ?_
  refine zi_bipush dX1_isWord_9 (by decide +kernel : (Int8.ofInt (8)).toInt32 = (8 : Int32)) ?_
  exact kk
theorem sX1_isWord_14 {g : ZG} {Q : ZQ} {d cN sN : Nat} {M : ZM} {t0 : Int32} {o0 o1 o2 : Option Value}  (kt : ¬ (t0 : Int32) = 0 → Z g kX1_isWord Q d cN sN M 19 [o0, o1, o2] []) (kf : (t0 : Int32) = 0 → Z g kX1_isWord Q d cN sN M 17 [o0, o1, o2] []) : Z g kX1_isWord Q d cN sN M 14 [o0, o1, o2] [.int t0] := by
  exact zi_if_ne (tgt := 19) dX1_isWord_14 (by decide +kernel) kt kf
theorem sX1_isWord_17 {g : ZG} {Q : ZQ} {d cN sN : Nat} {M : ZM} {o0 o1 o2 : Option Value}  (kk : Q.1 (some (.int 0)) M) : Z g kX1_isWord Q d cN sN M 17 [o0, o1, o2] [] := by
  refine zi_iconst dX1_isWord_17 (by decide +kernel : Int32.ofInt (0) = (0 : Int32)) ?_
  exact zi_ireturn dX1_isWord_18 rfl (znar_z (by decide)) kk
theorem sX1_isWord_19 {g : ZG} {Q : ZQ} {d cN sN : Nat} {M : ZM} {l0 : Int32} {o1 o2 : Option Value}  (kk : Z g kX1_isWord Q d cN sN M 23 [some (.int l0), some (.int 1), some (.int l0)] []) : Z g kX1_isWord Q d cN sN M 19 [some (.int l0), o1, o2] [] := by
  refine zi_iconst dX1_isWord_19 (by decide +kernel : Int32.ofInt (1) = (1 : Int32)) ?_
  refine zi_istore_n dX1_isWord_20 (Nat.le_of_ble_eq_true rfl) ?_
  refine zi_iload_n dX1_isWord_21 rfl ?_
  refine zi_istore_n dX1_isWord_22 (Nat.le_of_ble_eq_true rfl) ?_
  exact kk
theorem sX1_isWord_23 {g : ZG} {Q : ZQ} {d cN sN : Nat} {M : ZM} {l2 : Int32} {o0 o1 : Option Value}  (kt : (l2 : Int32) ≤ 0 → Z g kX1_isWord Q d cN sN M 48 [o0, o1, some (.int l2)] []) (kf : ¬ (l2 : Int32) ≤ 0 → Z g kX1_isWord Q d cN sN M 27 [o0, o1, some (.int l2)] []) : Z g kX1_isWord Q d cN sN M 23 [o0, o1, some (.int l2)] [] := by
  refine zi_iload_n dX1_isWord_23 rfl ?_
  exact zi_if_le (tgt := 48) dX1_isWord_24 (by decide +kernel) kt kf
theorem sX1_isWord_27 {g : ZG} {Q : ZQ} {d cN sN : Nat} {M : ZM} {l1 : Int32} {l2 : Int32} {o0 : Option Value}  (kk : Z g kX1_isWord Q d cN sN M 35 [o0, some (.int l1), some (.int l2)] [.int 6, .int 1, .int (l2 - l2 / 10 * 10), .int l1]) : Z g kX1_isWord Q d cN sN M 27 [o0, some (.int l1), some (.int l2)] [] := by
  refine zi_iload_n dX1_isWord_27 rfl ?_
  refine zi_iload_n dX1_isWord_28 rfl ?_
  refine zi_bipush dX1_isWord_29 (by decide +kernel : (Int8.ofInt (10)).toInt32 = (10 : Int32)) ?_
  refine zi_irem dX1_isWord_31 (by decide +kernel) ?_
  refine zi_iconst dX1_isWord_32 (by decide +kernel : Int32.ofInt (1) = (1 : Int32)) ?_
  refine zi_bipush dX1_isWord_33 (by decide +kernel : (Int8.ofInt (6)).toInt32 = (6 : Int32)) ?_
  exact kk
theorem sX1_isWord_38 {g : ZG} {Q : ZQ} {d cN sN : Nat} {M : ZM} {t0 : Int32} {t1 : Int32} {l2 : Int32} {o0 o1 : Option Value}  (kk : Z g kX1_isWord Q d cN sN M 23 [o0, some (.int (t0 &&& t1)), some (.int (l2 / 10))] []) : Z g kX1_isWord Q d cN sN M 38 [o0, o1, some (.int l2)] [.int t1, .int t0] := by
  refine zi_iand dX1_isWord_38 ?_
  refine zi_istore_n dX1_isWord_39 (Nat.le_of_ble_eq_true rfl) ?_
  refine zi_iload_n dX1_isWord_40 rfl ?_
  refine zi_bipush dX1_isWord_41 (by decide +kernel : (Int8.ofInt (10)).toInt32 = (10 : Int32)) ?_
  refine zi_idiv dX1_isWord_43 (by decide +kernel) ?_
  refine zi_istore_n dX1_isWord_44 (Nat.le_of_ble_eq_true rfl) ?_
  exact zi_goto (tgt := 23) dX1_isWord_45 (by decide +kernel) kk
theorem sX1_isWord_48 {g : ZG} {Q : ZQ} {d cN sN : Nat} {M : ZM} {l1 : Int32} {o0 o2 : Option Value} (h1 : l1 = 0 ∨ l1 = 1) (kk : Q.1 (some (.int l1)) M) : Z g kX1_isWord Q d cN sN M 48 [o0, some (.int l1), o2] [] := by
  refine zi_iload_n dX1_isWord_48 rfl ?_
  exact zi_ireturn dX1_isWord_49 rfl (znar_z h1) kk
abbrev kX1_sizeOf : ZK := (RX1, cX1_sizeOf, 3, (Option.some Jvm.ClassFile.FieldType.int), [], false, fX1)
abbrev tX1_sizeOf (g : ZG) (args : List Value) (M : ZM) (d c s : Nat) (Q : ZQ) : Prop := Ct g yX1_sizeOf (ws_ yX1_sizeOf cX1_sizeOf 3 (Option.some Jvm.ClassFile.FieldType.int)) args M d c s Q
abbrev nX1_sizeOf : Nat := 1
theorem mX1_sizeOf : zMok yX1_sizeOf 1 3 := ⟨⟨by decide +kernel, by decide +kernel, by decide +kernel⟩, by decide⟩
theorem eX1_sizeOf {g : ZG} {Q : ZQ} {d cN sN : Nat} {M : ZM} {x1 : Int32} (hV : zV g) (h : Z g kX1_sizeOf Q d cN sN M 0 [some (.int x1), none, none] []) : tX1_sizeOf g [.int x1] M d cN sN Q := Ct.of (K := kX1_sizeOf) rfl (by decide +kernel) hV fokX1 rfl (fun h => by cases h) (fun v hv => by simp only [List.mem_cons, List.not_mem_nil, or_false] at hv; rcases hv with rfl <;> first | rfl | assumption) (Nat.le_of_ble_eq_true rfl) h
theorem sX1_sizeOf_0 {g : ZG} {Q : ZQ} {d cN sN : Nat} {M : ZM} {l0 : Int32} {o1 o2 : Option Value}  (kk : Z g kX1_sizeOf Q d cN sN M 4 [some (.int l0), some (.int 0), some (.int l0)] []) : Z g kX1_sizeOf Q d cN sN M 0 [some (.int l0), o1, o2] [] := by
  refine zi_iconst dX1_sizeOf_0 (by decide +kernel : Int32.ofInt (0) = (0 : Int32)) ?_
  refine zi_istore_n dX1_sizeOf_1 (Nat.le_of_ble_eq_true rfl) ?_
  refine zi_iload_n dX1_sizeOf_2 rfl ?_
  refine zi_istore_n dX1_sizeOf_3 (Nat.le_of_ble_eq_true rfl) ?_
  exact kk
theorem sX1_sizeOf_4 {g : ZG} {Q : ZQ} {d cN sN : Nat} {M : ZM} {l2 : Int32} {o0 o1 : Option Value}  (kt : (l2 : Int32) ≤ 0 → Z g kX1_sizeOf Q d cN sN M 19 [o0, o1, some (.int l2)] []) (kf : ¬ (l2 : Int32) ≤ 0 → Z g kX1_sizeOf Q d cN sN M 8 [o0, o1, some (.int l2)] []) : Z g kX1_sizeOf Q d cN sN M 4 [o0, o1, some (.int l2)] [] := by
  refine zi_iload_n dX1_sizeOf_4 rfl ?_
  exact zi_if_le (tgt := 19) dX1_sizeOf_5 (by decide +kernel) kt kf
theorem sX1_sizeOf_8 {g : ZG} {Q : ZQ} {d cN sN : Nat} {M : ZM} {l1 : Int32} {l2 : Int32} {o0 : Option Value}  (kk : Z g kX1_sizeOf Q d cN sN M 4 [o0, some (.int (l1 + 1)), some (.int (l2 / 10))] []) : Z g kX1_sizeOf Q d cN sN M 8 [o0, some (.int l1), some (.int l2)] [] := by
  refine zi_iinc dX1_sizeOf_8 rfl (by decide +kernel : Int32.ofInt (1) = 1) (Nat.le_of_ble_eq_true rfl) ?_
  refine zi_iload_n dX1_sizeOf_11 rfl ?_
  refine zi_bipush dX1_sizeOf_12 (by decide +kernel : (Int8.ofInt (10)).toInt32 = (10 : Int32)) ?_
  refine zi_idiv dX1_sizeOf_14 (by decide +kernel) ?_
  refine zi_istore_n dX1_sizeOf_15 (Nat.le_of_ble_eq_true rfl) ?_
  exact zi_goto (tgt := 4) dX1_sizeOf_16 (by decide +kernel) kk
theorem sX1_sizeOf_19 {g : ZG} {Q : ZQ} {d cN sN : Nat} {M : ZM} {l1 : Int32} {o0 o2 : Option Value}  (kk : Q.1 (some (.int l1)) M) : Z g kX1_sizeOf Q d cN sN M 19 [o0, some (.int l1), o2] [] := by
  refine zi_iload_n dX1_sizeOf_19 rfl ?_
  exact zi_ireturn dX1_sizeOf_20 rfl rfl kk
abbrev kX1_take : ZK := (RX1, cX1_take, 2, (Option.some Jvm.ClassFile.FieldType.int), [], false, fX1)
abbrev tX1_take (g : ZG) (args : List Value) (M : ZM) (d c s : Nat) (Q : ZQ) : Prop := Ct g yX1_take (ws_ yX1_take cX1_take 2 (Option.some Jvm.ClassFile.FieldType.int)) args M d c s Q
abbrev nX1_take : Nat := 13
theorem mX1_take : zMok yX1_take 1 2 := ⟨⟨by decide +kernel, by decide +kernel, by decide +kernel⟩, by decide⟩
theorem eX1_take {g : ZG} {Q : ZQ} {d cN sN : Nat} {M : ZM} {a0 : Nat} {x1 : Int32} (hV : zV g) (h : Z g kX1_take Q d cN sN M 0 [some (.ref a0), some (.int x1)] []) : tX1_take g [.ref a0, .int x1] M d cN sN Q := Ct.of (K := kX1_take) rfl (by decide +kernel) hV fokX1 rfl (fun h => by cases h) (fun v hv => by simp only [List.mem_cons, List.not_mem_nil, or_false] at hv; rcases hv with rfl | rfl <;> first | rfl | assumption) (Nat.le_of_ble_eq_true rfl) h
theorem sX1_take_0 {g : ZG} {Q : ZQ} {d cN sN : Nat} {M : ZM} {l0 : Nat} {l1 : Int32}  (kk : Z g kX1_take Q d cN sN M 2 [some (.ref l0), some (.int l1)] [.int l1, .ref l0]) : Z g kX1_take Q d cN sN M 0 [some (.ref l0), some (.int l1)] [] := by
  refine zi_aload_n dX1_take_0 rfl zrf_r ?_
  refine zi_iload_n dX1_take_1 rfl ?_
  exact kk
theorem sX1_take_5 {g : ZG} {Q : ZQ} {d cN sN : Nat} {M : ZM} {l0 : Nat} {o1 : Option Value}  (kk : Z g kX1_take Q d cN sN M 7 [some (.ref l0), o1] [.ref l0, .ref l0]) : Z g kX1_take Q d cN sN M 5 [some (.ref l0), o1] [] := by
  refine zi_aload_n dX1_take_5 rfl zrf_r ?_
  refine zi_aload_n dX1_take_6 rfl zrf_r ?_
  exact kk
theorem sX1_take_10 {g : ZG} {Q : ZQ} {d cN sN : Nat} {M : ZM} {t0 : Nat} {t1 : Nat} {l1 : Int32} {o0 : Option Value}  (kk : Z g kX1_take Q d cN sN M 11 [o0, some (.int l1)] [.int l1, .ref t1, .ref t0]) : Z g kX1_take Q d cN sN M 10 [o0, some (.int l1)] [.ref t1, .ref t0] := by
  refine zi_iload_n dX1_take_10 rfl ?_
  exact kk
theorem sX1_take_17 {g : ZG} {Q : ZQ} {d cN sN : Nat} {M : ZM} {t0 : Int32} {o0 o1 : Option Value}  (kk : Q.1 (some (.int t0)) M) : Z g kX1_take Q d cN sN M 17 [o0, o1] [.int t0] := by
  exact zi_ireturn dX1_take_17 rfl rfl kk
abbrev kX1_checkSheet : ZK := (RX1, cX1_checkSheet, 2, (Option.none : Option Jvm.ClassFile.FieldType), [], false, fX1)
abbrev tX1_checkSheet (g : ZG) (args : List Value) (M : ZM) (d c s : Nat) (Q : ZQ) : Prop := Ct g yX1_checkSheet (ws_ yX1_checkSheet cX1_checkSheet 2 (Option.none : Option Jvm.ClassFile.FieldType)) args M d c s Q
abbrev nX1_checkSheet : Nat := 9
theorem mX1_checkSheet : zMok yX1_checkSheet 1 2 := ⟨⟨by decide +kernel, by decide +kernel, by decide +kernel⟩, by decide⟩
theorem eX1_checkSheet {g : ZG} {Q : ZQ} {d cN sN : Nat} {M : ZM} {a0 : Nat} {x1 : Int32} (hV : zV g) (h : Z g kX1_checkSheet Q d cN sN M 0 [some (.ref a0), some (.int x1)] []) : tX1_checkSheet g [.ref a0, .int x1] M d cN sN Q := Ct.of (K := kX1_checkSheet) rfl (by decide +kernel) hV fokX1 rfl (fun h => by cases h) (fun v hv => by simp only [List.mem_cons, List.not_mem_nil, or_false] at hv; rcases hv with rfl | rfl <;> first | rfl | assumption) (Nat.le_of_ble_eq_true rfl) h
theorem sX1_checkSheet_0 {g : ZG} {Q : ZQ} {d cN sN : Nat} {M : ZM} {l0 : Nat} {fs1 : List Value} {r3 : Nat} {l1 : Int32} (h2 : M.1 l0 = some (.inr (0, fs1))) (h4 : (fs1)[0]? = some (.ref r3)) (kk : Z g kX1_checkSheet Q d cN sN M 5 [some (.ref l0), some (.int l1)] [.int l1, .ref r3]) : Z g kX1_checkSheet Q d cN sN M 0 [some (.ref l0), some (.int l1)] [] := by
  refine zi_aload_n dX1_checkSheet_0 rfl zrf_r ?_
  refine zi_getfield dX1_checkSheet_1 rfl h2 h4 ?_
  refine zi_iload_n dX1_checkSheet_4 rfl ?_
  exact kk
theorem sX1_checkSheet_11 {g : ZG} {Q : ZQ} {d cN sN : Nat} {M : ZM} {o0 o1 : Option Value}  (kk : Q.1 none M) : Z g kX1_checkSheet Q d cN sN M 11 [o0, o1] [] := by
  exact zi_return dX1_checkSheet_11 rfl kk
abbrev kX1_set : ZK := (RX1, cX1_set, 5, (Option.some Jvm.ClassFile.FieldType.int), [(17, 36, 37, 1)], false, fX1)
abbrev tX1_set (g : ZG) (args : List Value) (M : ZM) (d c s : Nat) (Q : ZQ) : Prop := Ct g yX1_set (wsW_ yX1_set cX1_set 5 (Option.some Jvm.ClassFile.FieldType.int) [(17, 36, 37, 1)]) args M d c s Q
abbrev nX1_set : Nat := 13
theorem mX1_set : zMok yX1_set 3 5 := ⟨⟨by decide +kernel, by decide +kernel, by decide +kernel⟩, by decide⟩
theorem eX1_set {g : ZG} {Q : ZQ} {d cN sN : Nat} {M : ZM} {a0 : Nat} {x1 : Int32} {x2 : Int32} {x3 : Int32} (hV : zV g) (h : Z g kX1_set Q d cN sN M 0 [some (.ref a0), some (.int x1), some (.int x2), some (.int x3), none] []) : tX1_set g [.ref a0, .int x1, .int x2, .int x3] M d cN sN Q := Ct.ofW (K := kX1_set) rfl (by decide +kernel) hV fokX1 (fun h => by cases h) (fun v hv => by simp only [List.mem_cons, List.not_mem_nil, or_false] at hv; rcases hv with rfl | rfl | rfl | rfl <;> first | rfl | assumption) (Nat.le_of_ble_eq_true rfl) h
theorem sX1_set_0 {g : ZG} {Q : ZQ} {d cN sN : Nat} {M : ZM} {l0 : Nat} {l1 : Int32} {l2 : Int32} {o3 o4 : Option Value}  (kk : Z g kX1_set Q d cN sN M 3 [some (.ref l0), some (.int l1), some (.int l2), o3, o4] [.int l2, .int l1, .ref l0]) : Z g kX1_set Q d cN sN M 0 [some (.ref l0), some (.int l1), some (.int l2), o3, o4] [] := by
  refine zi_aload_n dX1_set_0 rfl zrf_r ?_
  refine zi_iload_n dX1_set_1 rfl ?_
  refine zi_iload_n dX1_set_2 rfl ?_
  exact kk
theorem sX1_set_6 {g : ZG} {Q : ZQ} {d cN sN : Nat} {M : ZM} {l3 : Int32} {o0 o1 o2 o4 : Option Value}  (kk : Z g kX1_set Q d cN sN M 11 [o0, o1, o2, some (.int l3), o4] [.int 102, .int 97, .int l3]) : Z g kX1_set Q d cN sN M 6 [o0, o1, o2, some (.int l3), o4] [] := by
  refine zi_iload_n dX1_set_6 rfl ?_
  refine zi_bipush dX1_set_7 (by decide +kernel : (Int8.ofInt (97)).toInt32 = (97 : Int32)) ?_
  refine zi_bipush dX1_set_9 (by decide +kernel : (Int8.ofInt (102)).toInt32 = (102 : Int32)) ?_
  exact kk
theorem sX1_set_17 {g : ZG} {Q : ZQ} {d cN sN : Nat} {M : ZM} {l0 : Nat} {o1 o2 o3 o4 : Option Value}  (kk : Z g kX1_set Q d cN sN M 19 [some (.ref l0), o1, o2, o3, o4] [.ref l0, .ref l0]) : Z g kX1_set Q d cN sN M 17 [some (.ref l0), o1, o2, o3, o4] [] := by
  refine zi_aload_n dX1_set_17 rfl zrf_r ?_
  refine zi_aload_n dX1_set_18 rfl zrf_r ?_
  exact kk
theorem sX1_set_22 {g : ZG} {Q : ZQ} {d cN sN : Nat} {M : ZM} {t0 : Nat} {t1 : Nat} {l1 : Int32} {l2 : Int32} {l3 : Int32} {o0 o4 : Option Value}  (kk : Z g kX1_set Q d cN sN M 30 [o0, some (.int l1), some (.int l2), some (.int l3), o4] [.int ((l3 - 97) + 1), .int l2, .int l1, .ref t1, .ref t0]) : Z g kX1_set Q d cN sN M 22 [o0, some (.int l1), some (.int l2), some (.int l3), o4] [.ref t1, .ref t0] := by
  refine zi_iload_n dX1_set_22 rfl ?_
  refine zi_iload_n dX1_set_23 rfl ?_
  refine zi_iload_n dX1_set_24 rfl ?_
  refine zi_bipush dX1_set_25 (by decide +kernel : (Int8.ofInt (97)).toInt32 = (97 : Int32)) ?_
  refine zi_isub dX1_set_27 ?_
  refine zi_iconst dX1_set_28 (by decide +kernel : Int32.ofInt (1) = (1 : Int32)) ?_
  refine zi_iadd dX1_set_29 ?_
  exact kk
theorem sX1_set_36 {g : ZG} {Q : ZQ} {d cN sN : Nat} {M : ZM} {t0 : Int32} {o0 o1 o2 o3 o4 : Option Value}  (kk : Q.1 (some (.int t0)) M) : Z g kX1_set Q d cN sN M 36 [o0, o1, o2, o3, o4] [.int t0] := by
  exact zi_ireturn dX1_set_36 rfl rfl kk
theorem sX1_set_37 {g : ZG} {Q : ZQ} {d cN sN : Nat} {M : ZM} {t0 : Nat} {l0 : Nat} {o1 o2 o3 o4 : Option Value}  (kk : Z g kX1_set Q d cN sN M 42 [some (.ref l0), o1, o2, o3, some (.ref t0)] [.ref t0, .ref l0]) : Z g kX1_set Q d cN sN M 37 [some (.ref l0), o1, o2, o3, o4] [.ref t0] := by
  refine zi_astore dX1_set_37 zrf_r (Nat.le_of_ble_eq_true rfl) ?_
  refine zi_aload_n dX1_set_39 rfl zrf_r ?_
  refine zi_aload dX1_set_40 rfl zrf_r ?_
  exact kk
abbrev kX1_checkPlace : ZK := (RX1, cX1_checkPlace, 3, (Option.none : Option Jvm.ClassFile.FieldType), [], false, fX1)
abbrev tX1_checkPlace (g : ZG) (args : List Value) (M : ZM) (d c s : Nat) (Q : ZQ) : Prop := Ct g yX1_checkPlace (ws_ yX1_checkPlace cX1_checkPlace 3 (Option.none : Option Jvm.ClassFile.FieldType)) args M d c s Q
abbrev nX1_checkPlace : Nat := 9
theorem mX1_checkPlace : zMok yX1_checkPlace 2 3 := ⟨⟨by decide +kernel, by decide +kernel, by decide +kernel⟩, by decide⟩
theorem eX1_checkPlace {g : ZG} {Q : ZQ} {d cN sN : Nat} {M : ZM} {a0 : Nat} {x1 : Int32} {x2 : Int32} (hV : zV g) (h : Z g kX1_checkPlace Q d cN sN M 0 [some (.ref a0), some (.int x1), some (.int x2)] []) : tX1_checkPlace g [.ref a0, .int x1, .int x2] M d cN sN Q := Ct.of (K := kX1_checkPlace) rfl (by decide +kernel) hV fokX1 rfl (fun h => by cases h) (fun v hv => by simp only [List.mem_cons, List.not_mem_nil, or_false] at hv; rcases hv with rfl | rfl | rfl <;> first | rfl | assumption) (Nat.le_of_ble_eq_true rfl) h
theorem sX1_checkPlace_0 {g : ZG} {Q : ZQ} {d cN sN : Nat} {M : ZM} {l0 : Nat} {fs1 : List Value} {r3 : Nat} {l1 : Int32} {l2 : Int32} (h2 : M.1 l0 = some (.inr (0, fs1))) (h4 : (fs1)[0]? = some (.ref r3)) (kk : Z g kX1_checkPlace Q d cN sN M 6 [some (.ref l0), some (.int l1), some (.int l2)] [.int l2, .int l1, .ref r3]) : Z g kX1_checkPlace Q d cN sN M 0 [some (.ref l0), some (.int l1), some (.int l2)] [] := by
  refine zi_aload_n dX1_checkPlace_0 rfl zrf_r ?_
  refine zi_getfield dX1_checkPlace_1 rfl h2 h4 ?_
  refine zi_iload_n dX1_checkPlace_4 rfl ?_
  refine zi_iload_n dX1_checkPlace_5 rfl ?_
  exact kk
theorem sX1_checkPlace_12 {g : ZG} {Q : ZQ} {d cN sN : Nat} {M : ZM} {o0 o1 o2 : Option Value}  (kk : Q.1 none M) : Z g kX1_checkPlace Q d cN sN M 12 [o0, o1, o2] [] := by
  exact zi_return dX1_checkPlace_12 rfl kk
abbrev kX1_license : ZK := (RX1, cX1_license, 4, (Option.some Jvm.ClassFile.FieldType.int), [(6, 19, 20, 1)], false, fX1)
abbrev tX1_license (g : ZG) (args : List Value) (M : ZM) (d c s : Nat) (Q : ZQ) : Prop := Ct g yX1_license (wsW_ yX1_license cX1_license 4 (Option.some Jvm.ClassFile.FieldType.int) [(6, 19, 20, 1)]) args M d c s Q
abbrev nX1_license : Nat := 13
theorem mX1_license : zMok yX1_license 2 4 := ⟨⟨by decide +kernel, by decide +kernel, by decide +kernel⟩, by decide⟩
theorem eX1_license {g : ZG} {Q : ZQ} {d cN sN : Nat} {M : ZM} {a0 : Nat} {x1 : Int32} {x2 : Int32} (hV : zV g) (h : Z g kX1_license Q d cN sN M 0 [some (.ref a0), some (.int x1), some (.int x2), none] []) : tX1_license g [.ref a0, .int x1, .int x2] M d cN sN Q := Ct.ofW (K := kX1_license) rfl (by decide +kernel) hV fokX1 (fun h => by cases h) (fun v hv => by simp only [List.mem_cons, List.not_mem_nil, or_false] at hv; rcases hv with rfl | rfl | rfl <;> first | rfl | assumption) (Nat.le_of_ble_eq_true rfl) h
theorem sX1_license_0 {g : ZG} {Q : ZQ} {d cN sN : Nat} {M : ZM} {l0 : Nat} {l1 : Int32} {l2 : Int32} {o3 : Option Value}  (kk : Z g kX1_license Q d cN sN M 3 [some (.ref l0), some (.int l1), some (.int l2), o3] [.int l2, .int l1, .ref l0]) : Z g kX1_license Q d cN sN M 0 [some (.ref l0), some (.int l1), some (.int l2), o3] [] := by
  refine zi_aload_n dX1_license_0 rfl zrf_r ?_
  refine zi_iload_n dX1_license_1 rfl ?_
  refine zi_iload_n dX1_license_2 rfl ?_
  exact kk
theorem sX1_license_6 {g : ZG} {Q : ZQ} {d cN sN : Nat} {M : ZM} {l0 : Nat} {o1 o2 o3 : Option Value}  (kk : Z g kX1_license Q d cN sN M 8 [some (.ref l0), o1, o2, o3] [.ref l0, .ref l0]) : Z g kX1_license Q d cN sN M 6 [some (.ref l0), o1, o2, o3] [] := by
  refine zi_aload_n dX1_license_6 rfl zrf_r ?_
  refine zi_aload_n dX1_license_7 rfl zrf_r ?_
  exact kk
theorem sX1_license_11 {g : ZG} {Q : ZQ} {d cN sN : Nat} {M : ZM} {t0 : Nat} {t1 : Nat} {l1 : Int32} {l2 : Int32} {o0 o3 : Option Value}  (kk : Z g kX1_license Q d cN sN M 13 [o0, some (.int l1), some (.int l2), o3] [.int l2, .int l1, .ref t1, .ref t0]) : Z g kX1_license Q d cN sN M 11 [o0, some (.int l1), some (.int l2), o3] [.ref t1, .ref t0] := by
  refine zi_iload_n dX1_license_11 rfl ?_
  refine zi_iload_n dX1_license_12 rfl ?_
  exact kk
theorem sX1_license_19 {g : ZG} {Q : ZQ} {d cN sN : Nat} {M : ZM} {t0 : Int32} {o0 o1 o2 o3 : Option Value}  (kk : Q.1 (some (.int t0)) M) : Z g kX1_license Q d cN sN M 19 [o0, o1, o2, o3] [.int t0] := by
  exact zi_ireturn dX1_license_19 rfl rfl kk
theorem sX1_license_20 {g : ZG} {Q : ZQ} {d cN sN : Nat} {M : ZM} {t0 : Nat} {l0 : Nat} {o1 o2 o3 : Option Value}  (kk : Z g kX1_license Q d cN sN M 23 [some (.ref l0), o1, o2, some (.ref t0)] [.ref t0, .ref l0]) : Z g kX1_license Q d cN sN M 20 [some (.ref l0), o1, o2, o3] [.ref t0] := by
  refine zi_astore_n dX1_license_20 zrf_r (Nat.le_of_ble_eq_true rfl) ?_
  refine zi_aload_n dX1_license_21 rfl zrf_r ?_
  refine zi_aload_n dX1_license_22 rfl zrf_r ?_
  exact kk
abbrev kX1_correct : ZK := (RX1, cX1_correct, 4, (Option.some Jvm.ClassFile.FieldType.int), [(6, 19, 20, 1)], false, fX1)
abbrev tX1_correct (g : ZG) (args : List Value) (M : ZM) (d c s : Nat) (Q : ZQ) : Prop := Ct g yX1_correct (wsW_ yX1_correct cX1_correct 4 (Option.some Jvm.ClassFile.FieldType.int) [(6, 19, 20, 1)]) args M d c s Q
abbrev nX1_correct : Nat := 13
theorem mX1_correct : zMok yX1_correct 2 4 := ⟨⟨by decide +kernel, by decide +kernel, by decide +kernel⟩, by decide⟩
theorem eX1_correct {g : ZG} {Q : ZQ} {d cN sN : Nat} {M : ZM} {a0 : Nat} {x1 : Int32} {x2 : Int32} (hV : zV g) (h : Z g kX1_correct Q d cN sN M 0 [some (.ref a0), some (.int x1), some (.int x2), none] []) : tX1_correct g [.ref a0, .int x1, .int x2] M d cN sN Q := Ct.ofW (K := kX1_correct) rfl (by decide +kernel) hV fokX1 (fun h => by cases h) (fun v hv => by simp only [List.mem_cons, List.not_mem_nil, or_false] at hv; rcases hv with rfl | rfl | rfl <;> first | rfl | assumption) (Nat.le_of_ble_eq_true rfl) h
theorem sX1_correct_0 {g : ZG} {Q : ZQ} {d cN sN : Nat} {M : ZM} {l0 : Nat} {l1 : Int32} {l2 : Int32} {o3 : Option Value}  (kk : Z g kX1_correct Q d cN sN M 3 [some (.ref l0), some (.int l1), some (.int l2), o3] [.int l2, .int l1, .ref l0]) : Z g kX1_correct Q d cN sN M 0 [some (.ref l0), some (.int l1), some (.int l2), o3] [] := by
  refine zi_aload_n dX1_correct_0 rfl zrf_r ?_
  refine zi_iload_n dX1_correct_1 rfl ?_
  refine zi_iload_n dX1_correct_2 rfl ?_
  exact kk
theorem sX1_correct_6 {g : ZG} {Q : ZQ} {d cN sN : Nat} {M : ZM} {l0 : Nat} {o1 o2 o3 : Option Value}  (kk : Z g kX1_correct Q d cN sN M 8 [some (.ref l0), o1, o2, o3] [.ref l0, .ref l0]) : Z g kX1_correct Q d cN sN M 6 [some (.ref l0), o1, o2, o3] [] := by
  refine zi_aload_n dX1_correct_6 rfl zrf_r ?_
  refine zi_aload_n dX1_correct_7 rfl zrf_r ?_
  exact kk
theorem sX1_correct_11 {g : ZG} {Q : ZQ} {d cN sN : Nat} {M : ZM} {t0 : Nat} {t1 : Nat} {l1 : Int32} {l2 : Int32} {o0 o3 : Option Value}  (kk : Z g kX1_correct Q d cN sN M 13 [o0, some (.int l1), some (.int l2), o3] [.int l2, .int l1, .ref t1, .ref t0]) : Z g kX1_correct Q d cN sN M 11 [o0, some (.int l1), some (.int l2), o3] [.ref t1, .ref t0] := by
  refine zi_iload_n dX1_correct_11 rfl ?_
  refine zi_iload_n dX1_correct_12 rfl ?_
  exact kk
theorem sX1_correct_19 {g : ZG} {Q : ZQ} {d cN sN : Nat} {M : ZM} {t0 : Int32} {o0 o1 o2 o3 : Option Value}  (kk : Q.1 (some (.int t0)) M) : Z g kX1_correct Q d cN sN M 19 [o0, o1, o2, o3] [.int t0] := by
  exact zi_ireturn dX1_correct_19 rfl rfl kk
theorem sX1_correct_20 {g : ZG} {Q : ZQ} {d cN sN : Nat} {M : ZM} {t0 : Nat} {l0 : Nat} {o1 o2 o3 : Option Value}  (kk : Z g kX1_correct Q d cN sN M 23 [some (.ref l0), o1, o2, some (.ref t0)] [.ref t0, .ref l0]) : Z g kX1_correct Q d cN sN M 20 [some (.ref l0), o1, o2, o3] [.ref t0] := by
  refine zi_astore_n dX1_correct_20 zrf_r (Nat.le_of_ble_eq_true rfl) ?_
  refine zi_aload_n dX1_correct_21 rfl zrf_r ?_
  refine zi_aload_n dX1_correct_22 rfl zrf_r ?_
  exact kk
abbrev kX1_reader : ZK := (RX1, cX1_reader, 4, (Option.some Jvm.ClassFile.FieldType.int), [(8, 21, 22, 1)], false, fX1)
abbrev tX1_reader (g : ZG) (args : List Value) (M : ZM) (d c s : Nat) (Q : ZQ) : Prop := Ct g yX1_reader (wsW_ yX1_reader cX1_reader 4 (Option.some Jvm.ClassFile.FieldType.int) [(8, 21, 22, 1)]) args M d c s Q
abbrev nX1_reader : Nat := 13
theorem mX1_reader : zMok yX1_reader 2 4 := ⟨⟨by decide +kernel, by decide +kernel, by decide +kernel⟩, by decide⟩
theorem eX1_reader {g : ZG} {Q : ZQ} {d cN sN : Nat} {M : ZM} {a0 : Nat} {x1 : Int32} {x2 : Int32} (hV : zV g) (h : Z g kX1_reader Q d cN sN M 0 [some (.ref a0), some (.int x1), some (.int x2), none] []) : tX1_reader g [.ref a0, .int x1, .int x2] M d cN sN Q := Ct.ofW (K := kX1_reader) rfl (by decide +kernel) hV fokX1 (fun h => by cases h) (fun v hv => by simp only [List.mem_cons, List.not_mem_nil, or_false] at hv; rcases hv with rfl | rfl | rfl <;> first | rfl | assumption) (Nat.le_of_ble_eq_true rfl) h
theorem sX1_reader_0 {g : ZG} {Q : ZQ} {d cN sN : Nat} {M : ZM} {l1 : Int32} {l2 : Int32} {o0 o3 : Option Value}  (kk : Z g kX1_reader Q d cN sN M 2 [o0, some (.int l1), some (.int l2), o3] [.int l2, .int l1]) : Z g kX1_reader Q d cN sN M 0 [o0, some (.int l1), some (.int l2), o3] [] := by
  refine zi_iload_n dX1_reader_0 rfl ?_
  refine zi_iload_n dX1_reader_1 rfl ?_
  exact kk
theorem sX1_reader_8 {g : ZG} {Q : ZQ} {d cN sN : Nat} {M : ZM} {l0 : Nat} {o1 o2 o3 : Option Value}  (kk : Z g kX1_reader Q d cN sN M 10 [some (.ref l0), o1, o2, o3] [.ref l0, .ref l0]) : Z g kX1_reader Q d cN sN M 8 [some (.ref l0), o1, o2, o3] [] := by
  refine zi_aload_n dX1_reader_8 rfl zrf_r ?_
  refine zi_aload_n dX1_reader_9 rfl zrf_r ?_
  exact kk
theorem sX1_reader_13 {g : ZG} {Q : ZQ} {d cN sN : Nat} {M : ZM} {t0 : Nat} {t1 : Nat} {l1 : Int32} {l2 : Int32} {o0 o3 : Option Value}  (kk : Z g kX1_reader Q d cN sN M 15 [o0, some (.int l1), some (.int l2), o3] [.int l2, .int l1, .ref t1, .ref t0]) : Z g kX1_reader Q d cN sN M 13 [o0, some (.int l1), some (.int l2), o3] [.ref t1, .ref t0] := by
  refine zi_iload_n dX1_reader_13 rfl ?_
  refine zi_iload_n dX1_reader_14 rfl ?_
  exact kk
theorem sX1_reader_21 {g : ZG} {Q : ZQ} {d cN sN : Nat} {M : ZM} {t0 : Int32} {o0 o1 o2 o3 : Option Value}  (kk : Q.1 (some (.int t0)) M) : Z g kX1_reader Q d cN sN M 21 [o0, o1, o2, o3] [.int t0] := by
  exact zi_ireturn dX1_reader_21 rfl rfl kk
theorem sX1_reader_22 {g : ZG} {Q : ZQ} {d cN sN : Nat} {M : ZM} {t0 : Nat} {l0 : Nat} {o1 o2 o3 : Option Value}  (kk : Z g kX1_reader Q d cN sN M 25 [some (.ref l0), o1, o2, some (.ref t0)] [.ref t0, .ref l0]) : Z g kX1_reader Q d cN sN M 22 [some (.ref l0), o1, o2, o3] [.ref t0] := by
  refine zi_astore_n dX1_reader_22 zrf_r (Nat.le_of_ble_eq_true rfl) ?_
  refine zi_aload_n dX1_reader_23 rfl zrf_r ?_
  refine zi_aload_n dX1_reader_24 rfl zrf_r ?_
  exact kk
abbrev kX1_isReader : ZK := (RX1, cX1_isReader, 2, (Option.some Jvm.ClassFile.FieldType.boolean), [], false, fX1)
abbrev tX1_isReader (g : ZG) (args : List Value) (M : ZM) (d c s : Nat) (Q : ZQ) : Prop := Ct g yX1_isReader (ws_ yX1_isReader cX1_isReader 2 (Option.some Jvm.ClassFile.FieldType.boolean)) args M d c s Q
abbrev nX1_isReader : Nat := 2
theorem mX1_isReader : zMok yX1_isReader 2 2 := ⟨⟨by decide +kernel, by decide +kernel, by decide +kernel⟩, by decide⟩
theorem eX1_isReader {g : ZG} {Q : ZQ} {d cN sN : Nat} {M : ZM} {x1 : Int32} {x2 : Int32} (hV : zV g) (h : Z g kX1_isReader Q d cN sN M 0 [some (.int x1), some (.int x2)] []) : tX1_isReader g [.int x1, .int x2] M d cN sN Q := Ct.of (K := kX1_isReader) rfl (by decide +kernel) hV fokX1 rfl (fun h => by cases h) (fun v hv => by simp only [List.mem_cons, List.not_mem_nil, or_false] at hv; rcases hv with rfl | rfl <;> first | rfl | assumption) (Nat.le_of_ble_eq_true rfl) h
theorem sX1_isReader_0 {g : ZG} {Q : ZQ} {d cN sN : Nat} {M : ZM} {l0 : Int32} {o1 : Option Value}  (kk : Z g kX1_isReader Q d cN sN M 3 [some (.int l0), o1] [.int 1, .int 0, .int l0]) : Z g kX1_isReader Q d cN sN M 0 [some (.int l0), o1] [] := by
  refine zi_iload_n dX1_isReader_0 rfl ?_
  refine zi_iconst dX1_isReader_1 (by decide +kernel : Int32.ofInt (0) = (0 : Int32)) ?_
  refine zi_iconst dX1_isReader_2 (by decide +kernel : Int32.ofInt (1) = (1 : Int32)) ?_
  exact kk
theorem sX1_isReader_6 {g : ZG} {Q : ZQ} {d cN sN : Nat} {M : ZM} {t0 : Int32} {o0 o1 : Option Value}  (kt : (t0 : Int32) = 0 → Z g kX1_isReader Q d cN sN M 23 [o0, o1] []) (kf : ¬ (t0 : Int32) = 0 → Z g kX1_isReader Q d cN sN M 9 [o0, o1] []) : Z g kX1_isReader Q d cN sN M 6 [o0, o1] [.int t0] := by
  exact zi_if_eq (tgt := 23) dX1_isReader_6 (by decide +kernel) kt kf
theorem sX1_isReader_9 {g : ZG} {Q : ZQ} {d cN sN : Nat} {M : ZM} {l1 : Int32} {o0 : Option Value}  (kk : Z g kX1_isReader Q d cN sN M 13 [o0, some (.int l1)] [.int 6, .int 1, .int l1]) : Z g kX1_isReader Q d cN sN M 9 [o0, some (.int l1)] [] := by
  refine zi_iload_n dX1_isReader_9 rfl ?_
  refine zi_iconst dX1_isReader_10 (by decide +kernel : Int32.ofInt (1) = (1 : Int32)) ?_
  refine zi_bipush dX1_isReader_11 (by decide +kernel : (Int8.ofInt (6)).toInt32 = (6 : Int32)) ?_
  exact kk
theorem sX1_isReader_16 {g : ZG} {Q : ZQ} {d cN sN : Nat} {M : ZM} {t0 : Int32} {o0 o1 : Option Value}  (kt : (t0 : Int32) = 0 → Z g kX1_isReader Q d cN sN M 23 [o0, o1] []) (kf : ¬ (t0 : Int32) = 0 → Z g kX1_isReader Q d cN sN M 19 [o0, o1] []) : Z g kX1_isReader Q d cN sN M 16 [o0, o1] [.int t0] := by
  exact zi_if_eq (tgt := 23) dX1_isReader_16 (by decide +kernel) kt kf
theorem sX1_isReader_19 {g : ZG} {Q : ZQ} {d cN sN : Nat} {M : ZM} {o0 o1 : Option Value}  (kk : Z g kX1_isReader Q d cN sN M 24 [o0, o1] [.int 1]) : Z g kX1_isReader Q d cN sN M 19 [o0, o1] [] := by
  refine zi_iconst dX1_isReader_19 (by decide +kernel : Int32.ofInt (1) = (1 : Int32)) ?_
  exact zi_goto (tgt := 24) dX1_isReader_20 (by decide +kernel) kk
theorem sX1_isReader_23 {g : ZG} {Q : ZQ} {d cN sN : Nat} {M : ZM} {o0 o1 : Option Value}  (kk : Z g kX1_isReader Q d cN sN M 24 [o0, o1] [.int 0]) : Z g kX1_isReader Q d cN sN M 23 [o0, o1] [] := by
  refine zi_iconst dX1_isReader_23 (by decide +kernel : Int32.ofInt (0) = (0 : Int32)) ?_
  exact kk
theorem sX1_isReader_24 {g : ZG} {Q : ZQ} {d cN sN : Nat} {M : ZM} {t0 : Int32} {o0 o1 : Option Value} (h1 : t0 = 0 ∨ t0 = 1) (kk : Q.1 (some (.int t0)) M) : Z g kX1_isReader Q d cN sN M 24 [o0, o1] [.int t0] := by
  exact zi_ireturn dX1_isReader_24 rfl (znar_z h1) kk
abbrev kX1_laugh : ZK := (RX1, cX1_laugh, 2, (Option.some (Jvm.ClassFile.FieldType.object "ErrataPress$Laugh")), [], false, fX1)
abbrev tX1_laugh (g : ZG) (args : List Value) (M : ZM) (d c s : Nat) (Q : ZQ) : Prop := Ct g yX1_laugh (ws_ yX1_laugh cX1_laugh 2 (Option.some (Jvm.ClassFile.FieldType.object "ErrataPress$Laugh"))) args M d c s Q
abbrev nX1_laugh : Nat := 1
theorem mX1_laugh : zMok yX1_laugh 2 2 := ⟨⟨by decide +kernel, by decide +kernel, by decide +kernel⟩, by decide⟩
theorem eX1_laugh {g : ZG} {Q : ZQ} {d cN sN : Nat} {M : ZM} {x1 : Int32} {x2 : Int32} (hV : zV g) (h : Z g kX1_laugh Q d cN sN M 0 [some (.int x1), some (.int x2)] []) : tX1_laugh g [.int x1, .int x2] M d cN sN Q := Ct.of (K := kX1_laugh) rfl (by decide +kernel) hV fokX1 rfl (fun h => by cases h) (fun v hv => by simp only [List.mem_cons, List.not_mem_nil, or_false] at hv; rcases hv with rfl | rfl <;> first | rfl | assumption) (Nat.le_of_ble_eq_true rfl) h
theorem sX1_laugh_0 {g : ZG} {Q : ZQ} {d cN sN : Nat} {M : ZM} {l0 : Int32} {o1 : Option Value}  (kt : ¬ (l0 : Int32) = 0 → Z g kX1_laugh Q d cN sN M 11 [some (.int l0), o1] []) (kf : (l0 : Int32) = 0 → Z g kX1_laugh Q d cN sN M 4 [some (.int l0), o1] []) : Z g kX1_laugh Q d cN sN M 0 [some (.int l0), o1] [] := by
  refine zi_iload_n dX1_laugh_0 rfl ?_
  exact zi_if_ne (tgt := 11) dX1_laugh_1 (by decide +kernel) kt kf
theorem sX1_laugh_4 {g : ZG} {Q : ZQ} {d cN sN : Nat} {M : ZM} {l1 : Int32} {o0 : Option Value}  (kk : Z g kX1_laugh Q d cN sN M 5 [o0, some (.int l1)] [.int l1]) : Z g kX1_laugh Q d cN sN M 4 [o0, some (.int l1)] [] := by
  refine zi_iload_n dX1_laugh_4 rfl ?_
  exact kk
theorem sX1_laugh_10 {g : ZG} {Q : ZQ} {d cN sN : Nat} {M : ZM} {t0 : Nat} {o0 o1 : Option Value}  (kk : Q.1 (some (.ref t0)) M) : Z g kX1_laugh Q d cN sN M 10 [o0, o1] [.ref t0] := by
  exact zi_areturn dX1_laugh_10 zrf_r rfl (Or.inl ⟨_, rfl⟩) kk
theorem sX1_laugh_11 {g : ZG} {Q : ZQ} {d cN sN : Nat} {M : ZM} {l1 : Int32} {o0 : Option Value}  (kk : Z g kX1_laugh Q d cN sN M 12 [o0, some (.int l1)] [.int l1]) : Z g kX1_laugh Q d cN sN M 11 [o0, some (.int l1)] [] := by
  refine zi_iload_n dX1_laugh_11 rfl ?_
  exact kk
theorem sX1_laugh_17 {g : ZG} {Q : ZQ} {d cN sN : Nat} {M : ZM} {t0 : Nat} {o0 o1 : Option Value}  (kk : Q.1 (some (.ref t0)) M) : Z g kX1_laugh Q d cN sN M 17 [o0, o1] [.ref t0] := by
  exact zi_areturn dX1_laugh_17 zrf_r rfl (Or.inl ⟨_, rfl⟩) kk
abbrev kX1_lambda_laugh_3 : ZK := (RX1, cX1_lambda_laugh_3, 3, (Option.some Jvm.ClassFile.FieldType.boolean), [], false, fX1)
abbrev tX1_lambda_laugh_3 (g : ZG) (args : List Value) (M : ZM) (d c s : Nat) (Q : ZQ) : Prop := Ct g yX1_lambda_laugh_3 (ws_ yX1_lambda_laugh_3 cX1_lambda_laugh_3 3 (Option.some Jvm.ClassFile.FieldType.boolean)) args M d c s Q
abbrev nX1_lambda_laugh_3 : Nat := 1
theorem mX1_lambda_laugh_3 : zMok yX1_lambda_laugh_3 3 3 := ⟨⟨by decide +kernel, by decide +kernel, by decide +kernel⟩, by decide⟩
theorem eX1_lambda_laugh_3 {g : ZG} {Q : ZQ} {d cN sN : Nat} {M : ZM} {x1 : Int32} {x2 : Int32} {x3 : Int32} (hV : zV g) (h : Z g kX1_lambda_laugh_3 Q d cN sN M 0 [some (.int x1), some (.int x2), some (.int x3)] []) : tX1_lambda_laugh_3 g [.int x1, .int x2, .int x3] M d cN sN Q := Ct.of (K := kX1_lambda_laugh_3) rfl (by decide +kernel) hV fokX1 rfl (fun h => by cases h) (fun v hv => by simp only [List.mem_cons, List.not_mem_nil, or_false] at hv; rcases hv with rfl | rfl | rfl <;> first | rfl | assumption) (Nat.le_of_ble_eq_true rfl) h
theorem sX1_lambda_laugh_3_0 {g : ZG} {Q : ZQ} {d cN sN : Nat} {M : ZM} {l1 : Int32} {l0 : Int32} {o2 : Option Value}  (kt : ¬ (l1 : Int32) = (l0 : Int32) → Z g kX1_lambda_laugh_3 Q d cN sN M 9 [some (.int l0), some (.int l1), o2] []) (kf : (l1 : Int32) = (l0 : Int32) → Z g kX1_lambda_laugh_3 Q d cN sN M 5 [some (.int l0), some (.int l1), o2] []) : Z g kX1_lambda_laugh_3 Q d cN sN M 0 [some (.int l0), some (.int l1), o2] [] := by
  refine zi_iload_n dX1_lambda_laugh_3_0 rfl ?_
  refine zi_iload_n dX1_lambda_laugh_3_1 rfl ?_
  exact zi_icmp_ne (tgt := 9) dX1_lambda_laugh_3_2 (by decide +kernel) kt kf
theorem sX1_lambda_laugh_3_5 {g : ZG} {Q : ZQ} {d cN sN : Nat} {M : ZM} {o0 o1 o2 : Option Value}  (kk : Z g kX1_lambda_laugh_3 Q d cN sN M 10 [o0, o1, o2] [.int 1]) : Z g kX1_lambda_laugh_3 Q d cN sN M 5 [o0, o1, o2] [] := by
  refine zi_iconst dX1_lambda_laugh_3_5 (by decide +kernel : Int32.ofInt (1) = (1 : Int32)) ?_
  exact zi_goto (tgt := 10) dX1_lambda_laugh_3_6 (by decide +kernel) kk
theorem sX1_lambda_laugh_3_9 {g : ZG} {Q : ZQ} {d cN sN : Nat} {M : ZM} {o0 o1 o2 : Option Value}  (kk : Z g kX1_lambda_laugh_3 Q d cN sN M 10 [o0, o1, o2] [.int 0]) : Z g kX1_lambda_laugh_3 Q d cN sN M 9 [o0, o1, o2] [] := by
  refine zi_iconst dX1_lambda_laugh_3_9 (by decide +kernel : Int32.ofInt (0) = (0 : Int32)) ?_
  exact kk
theorem sX1_lambda_laugh_3_10 {g : ZG} {Q : ZQ} {d cN sN : Nat} {M : ZM} {t0 : Int32} {o0 o1 o2 : Option Value} (h1 : t0 = 0 ∨ t0 = 1) (kk : Q.1 (some (.int t0)) M) : Z g kX1_lambda_laugh_3 Q d cN sN M 10 [o0, o1, o2] [.int t0] := by
  exact zi_ireturn dX1_lambda_laugh_3_10 rfl (znar_z h1) kk
abbrev kX1_lambda_laugh_4 : ZK := (RX1, cX1_lambda_laugh_4, 3, (Option.some Jvm.ClassFile.FieldType.boolean), [], false, fX1)
abbrev tX1_lambda_laugh_4 (g : ZG) (args : List Value) (M : ZM) (d c s : Nat) (Q : ZQ) : Prop := Ct g yX1_lambda_laugh_4 (ws_ yX1_lambda_laugh_4 cX1_lambda_laugh_4 3 (Option.some Jvm.ClassFile.FieldType.boolean)) args M d c s Q
abbrev nX1_lambda_laugh_4 : Nat := 1
theorem mX1_lambda_laugh_4 : zMok yX1_lambda_laugh_4 3 3 := ⟨⟨by decide +kernel, by decide +kernel, by decide +kernel⟩, by decide⟩
theorem eX1_lambda_laugh_4 {g : ZG} {Q : ZQ} {d cN sN : Nat} {M : ZM} {x1 : Int32} {x2 : Int32} {x3 : Int32} (hV : zV g) (h : Z g kX1_lambda_laugh_4 Q d cN sN M 0 [some (.int x1), some (.int x2), some (.int x3)] []) : tX1_lambda_laugh_4 g [.int x1, .int x2, .int x3] M d cN sN Q := Ct.of (K := kX1_lambda_laugh_4) rfl (by decide +kernel) hV fokX1 rfl (fun h => by cases h) (fun v hv => by simp only [List.mem_cons, List.not_mem_nil, or_false] at hv; rcases hv with rfl | rfl | rfl <;> first | rfl | assumption) (Nat.le_of_ble_eq_true rfl) h
theorem sX1_lambda_laugh_4_0 {g : ZG} {Q : ZQ} {d cN sN : Nat} {M : ZM} {l2 : Int32} {l0 : Int32} {o1 : Option Value}  (kt : (l2 : Int32) < (l0 : Int32) → Z g kX1_lambda_laugh_4 Q d cN sN M 9 [some (.int l0), o1, some (.int l2)] []) (kf : ¬ (l2 : Int32) < (l0 : Int32) → Z g kX1_lambda_laugh_4 Q d cN sN M 5 [some (.int l0), o1, some (.int l2)] []) : Z g kX1_lambda_laugh_4 Q d cN sN M 0 [some (.int l0), o1, some (.int l2)] [] := by
  refine zi_iload_n dX1_lambda_laugh_4_0 rfl ?_
  refine zi_iload_n dX1_lambda_laugh_4_1 rfl ?_
  exact zi_icmp_lt (tgt := 9) dX1_lambda_laugh_4_2 (by decide +kernel) kt kf
theorem sX1_lambda_laugh_4_5 {g : ZG} {Q : ZQ} {d cN sN : Nat} {M : ZM} {o0 o1 o2 : Option Value}  (kk : Z g kX1_lambda_laugh_4 Q d cN sN M 10 [o0, o1, o2] [.int 1]) : Z g kX1_lambda_laugh_4 Q d cN sN M 5 [o0, o1, o2] [] := by
  refine zi_iconst dX1_lambda_laugh_4_5 (by decide +kernel : Int32.ofInt (1) = (1 : Int32)) ?_
  exact zi_goto (tgt := 10) dX1_lambda_laugh_4_6 (by decide +kernel) kk
theorem sX1_lambda_laugh_4_9 {g : ZG} {Q : ZQ} {d cN sN : Nat} {M : ZM} {o0 o1 o2 : Option Value}  (kk : Z g kX1_lambda_laugh_4 Q d cN sN M 10 [o0, o1, o2] [.int 0]) : Z g kX1_lambda_laugh_4 Q d cN sN M 9 [o0, o1, o2] [] := by
  refine zi_iconst dX1_lambda_laugh_4_9 (by decide +kernel : Int32.ofInt (0) = (0 : Int32)) ?_
  exact kk
theorem sX1_lambda_laugh_4_10 {g : ZG} {Q : ZQ} {d cN sN : Nat} {M : ZM} {t0 : Int32} {o0 o1 o2 : Option Value} (h1 : t0 = 0 ∨ t0 = 1) (kk : Q.1 (some (.int t0)) M) : Z g kX1_lambda_laugh_4 Q d cN sN M 10 [o0, o1, o2] [.int t0] := by
  exact zi_ireturn dX1_lambda_laugh_4_10 rfl (znar_z h1) kk
abbrev kX1_edition : ZK := (RX1, cX1_edition, 2, (Option.some Jvm.ClassFile.FieldType.int), [(0, 11, 12, 1)], false, fX1)
abbrev tX1_edition (g : ZG) (args : List Value) (M : ZM) (d c s : Nat) (Q : ZQ) : Prop := Ct g yX1_edition (wsW_ yX1_edition cX1_edition 2 (Option.some Jvm.ClassFile.FieldType.int) [(0, 11, 12, 1)]) args M d c s Q
abbrev nX1_edition : Nat := 13
theorem mX1_edition : zMok yX1_edition 0 2 := ⟨⟨by decide +kernel, by decide +kernel, by decide +kernel⟩, by decide⟩
theorem eX1_edition {g : ZG} {Q : ZQ} {d cN sN : Nat} {M : ZM} {a0 : Nat} (hV : zV g) (h : Z g kX1_edition Q d cN sN M 0 [some (.ref a0), none] []) : tX1_edition g [.ref a0] M d cN sN Q := Ct.ofW (K := kX1_edition) rfl (by decide +kernel) hV fokX1 (fun h => by cases h) (fun v hv => by simp only [List.mem_cons, List.not_mem_nil, or_false] at hv; rcases hv with rfl <;> first | rfl | assumption) (Nat.le_of_ble_eq_true rfl) h
theorem sX1_edition_0 {g : ZG} {Q : ZQ} {d cN sN : Nat} {M : ZM} {l0 : Nat} {o1 : Option Value}  (kk : Z g kX1_edition Q d cN sN M 2 [some (.ref l0), o1] [.ref l0, .ref l0]) : Z g kX1_edition Q d cN sN M 0 [some (.ref l0), o1] [] := by
  refine zi_aload_n dX1_edition_0 rfl zrf_r ?_
  refine zi_aload_n dX1_edition_1 rfl zrf_r ?_
  exact kk
theorem sX1_edition_11 {g : ZG} {Q : ZQ} {d cN sN : Nat} {M : ZM} {t0 : Int32} {o0 o1 : Option Value}  (kk : Q.1 (some (.int t0)) M) : Z g kX1_edition Q d cN sN M 11 [o0, o1] [.int t0] := by
  exact zi_ireturn dX1_edition_11 rfl rfl kk
theorem sX1_edition_12 {g : ZG} {Q : ZQ} {d cN sN : Nat} {M : ZM} {t0 : Nat} {l0 : Nat} {o1 : Option Value}  (kk : Z g kX1_edition Q d cN sN M 15 [some (.ref l0), some (.ref t0)] [.ref t0, .ref l0]) : Z g kX1_edition Q d cN sN M 12 [some (.ref l0), o1] [.ref t0] := by
  refine zi_astore_n dX1_edition_12 zrf_r (Nat.le_of_ble_eq_true rfl) ?_
  refine zi_aload_n dX1_edition_13 rfl zrf_r ?_
  refine zi_aload_n dX1_edition_14 rfl zrf_r ?_
  exact kk
abbrev kX1_houseOf : ZK := (RX1, cX1_houseOf, 4, (Option.some Jvm.ClassFile.FieldType.int), [], false, fX1)
abbrev tX1_houseOf (g : ZG) (args : List Value) (M : ZM) (d c s : Nat) (Q : ZQ) : Prop := Ct g yX1_houseOf (ws_ yX1_houseOf cX1_houseOf 4 (Option.some Jvm.ClassFile.FieldType.int)) args M d c s Q
abbrev nX1_houseOf : Nat := 10
theorem mX1_houseOf : zMok yX1_houseOf 2 4 := ⟨⟨by decide +kernel, by decide +kernel, by decide +kernel⟩, by decide⟩
theorem eX1_houseOf {g : ZG} {Q : ZQ} {d cN sN : Nat} {M : ZM} {a0 : Nat} {x1 : Int32} {x2 : Int32} (hV : zV g) (h : Z g kX1_houseOf Q d cN sN M 0 [some (.ref a0), some (.int x1), some (.int x2), none] []) : tX1_houseOf g [.ref a0, .int x1, .int x2] M d cN sN Q := Ct.of (K := kX1_houseOf) rfl (by decide +kernel) hV fokX1 rfl (fun h => by cases h) (fun v hv => by simp only [List.mem_cons, List.not_mem_nil, or_false] at hv; rcases hv with rfl | rfl | rfl <;> first | rfl | assumption) (Nat.le_of_ble_eq_true rfl) h
theorem sX1_houseOf_0 {g : ZG} {Q : ZQ} {d cN sN : Nat} {M : ZM} {l0 : Nat} {l1 : Int32} {o2 o3 : Option Value}  (kk : Z g kX1_houseOf Q d cN sN M 2 [some (.ref l0), some (.int l1), o2, o3] [.int l1, .ref l0]) : Z g kX1_houseOf Q d cN sN M 0 [some (.ref l0), some (.int l1), o2, o3] [] := by
  refine zi_aload_n dX1_houseOf_0 rfl zrf_r ?_
  refine zi_iload_n dX1_houseOf_1 rfl ?_
  exact kk
theorem sX1_houseOf_5 {g : ZG} {Q : ZQ} {d cN sN : Nat} {M : ZM} {l2 : Int32} {o0 o1 o3 : Option Value}  (kk : Z g kX1_houseOf Q d cN sN M 9 [o0, o1, some (.int l2), o3] [.int 6, .int 0, .int l2]) : Z g kX1_houseOf Q d cN sN M 5 [o0, o1, some (.int l2), o3] [] := by
  refine zi_iload_n dX1_houseOf_5 rfl ?_
  refine zi_iconst dX1_houseOf_6 (by decide +kernel : Int32.ofInt (0) = (0 : Int32)) ?_
  refine zi_bipush dX1_houseOf_7 (by decide +kernel : (Int8.ofInt (6)).toInt32 = (6 : Int32)) ?_
  exact kk
theorem sX1_houseOf_15 {g : ZG} {Q : ZQ} {d cN sN : Nat} {M : ZM} {l0 : Nat} {fs1 : List Value} {r3 : Nat} {l2 : Int32} {o1 o3 : Option Value} (h2 : M.1 l0 = some (.inr (0, fs1))) (h4 : (fs1)[0]? = some (.ref r3)) (kk : Z g kX1_houseOf Q d cN sN M 21 [some (.ref l0), o1, some (.int l2), some (.ref r3)] [.int l2]) : Z g kX1_houseOf Q d cN sN M 15 [some (.ref l0), o1, some (.int l2), o3] [] := by
  refine zi_aload_n dX1_houseOf_15 rfl zrf_r ?_
  refine zi_getfield dX1_houseOf_16 rfl h2 h4 ?_
  refine zi_astore_n dX1_houseOf_19 zrf_r (Nat.le_of_ble_eq_true rfl) ?_
  refine zi_iload_n dX1_houseOf_20 rfl ?_
  exact kk
theorem sX1_houseOf_60 {g : ZG} {Q : ZQ} {d cN sN : Nat} {M : ZM} {l3 : Nat} {fs1 : List Value} {r3 : Nat} {l1 : Int32} {n5 : Nat} {f6 : Nat → Option Nat} {c7 : ClassId} {r11 : Nat} {fs13 : List Value} {y15 : Int32} {o0 o2 : Option Value} (h2 : M.1 l3 = some (.inr (1, fs1))) (h4 : (fs1)[2]? = some (.ref r3)) (h8 : M.1 r3 = some (.inl (c7, n5, .inr (.inr (.inr (.inr f6)))))) (h9 : zRt g c7) (h10 : vp_in (l1) n5) (h12 : va_rf (f6 ((l1 : Int32).toNatClampNeg)) = .ref r11) (h14 : M.1 r11 = some (.inr (2, fs13))) (h16 : (fs13)[0]? = some (.int y15)) (kk : Q.1 (some (.int y15)) M) : Z g kX1_houseOf Q d cN sN M 60 [o0, some (.int l1), o2, some (.ref l3)] [] := by
  refine zi_aload_n dX1_houseOf_60 rfl zrf_r ?_
  refine zi_getfield dX1_houseOf_61 rfl h2 h4 ?_
  refine zi_iload_n dX1_houseOf_64 rfl ?_
  refine zi_aaload dX1_houseOf_65 h8 h9 h10 h12 ?_
  refine zi_getfield dX1_houseOf_66 rfl h14 h16 ?_
  exact zi_ireturn dX1_houseOf_69 rfl rfl kk
theorem sX1_houseOf_70 {g : ZG} {Q : ZQ} {d cN sN : Nat} {M : ZM} {l3 : Nat} {fs1 : List Value} {r3 : Nat} {l1 : Int32} {n5 : Nat} {f6 : Nat → Option Nat} {c7 : ClassId} {r11 : Nat} {fs13 : List Value} {y15 : Int32} {o0 o2 : Option Value} (h2 : M.1 l3 = some (.inr (1, fs1))) (h4 : (fs1)[2]? = some (.ref r3)) (h8 : M.1 r3 = some (.inl (c7, n5, .inr (.inr (.inr (.inr f6)))))) (h9 : zRt g c7) (h10 : vp_in (l1) n5) (h12 : va_rf (f6 ((l1 : Int32).toNatClampNeg)) = .ref r11) (h14 : M.1 r11 = some (.inr (2, fs13))) (h16 : (fs13)[1]? = some (.int y15)) (kk : Q.1 (some (.int y15)) M) : Z g kX1_houseOf Q d cN sN M 70 [o0, some (.int l1), o2, some (.ref l3)] [] := by
  refine zi_aload_n dX1_houseOf_70 rfl zrf_r ?_
  refine zi_getfield dX1_houseOf_71 rfl h2 h4 ?_
  refine zi_iload_n dX1_houseOf_74 rfl ?_
  refine zi_aaload dX1_houseOf_75 h8 h9 h10 h12 ?_
  refine zi_getfield dX1_houseOf_76 rfl h14 h16 ?_
  exact zi_ireturn dX1_houseOf_79 rfl rfl kk
theorem sX1_houseOf_80 {g : ZG} {Q : ZQ} {d cN sN : Nat} {M : ZM} {l3 : Nat} {l1 : Int32} {o0 o2 : Option Value}  (kk : Z g kX1_houseOf Q d cN sN M 82 [o0, some (.int l1), o2, some (.ref l3)] [.int l1, .ref l3]) : Z g kX1_houseOf Q d cN sN M 80 [o0, some (.int l1), o2, some (.ref l3)] [] := by
  refine zi_aload_n dX1_houseOf_80 rfl zrf_r ?_
  refine zi_iload_n dX1_houseOf_81 rfl ?_
  exact kk
theorem sX1_houseOf_85 {g : ZG} {Q : ZQ} {d cN sN : Nat} {M : ZM} {t0 : Int32} {o0 o1 o2 o3 : Option Value}  (kk : Q.1 (some (.int t0)) M) : Z g kX1_houseOf Q d cN sN M 85 [o0, o1, o2, o3] [.int t0] := by
  exact zi_ireturn dX1_houseOf_85 rfl rfl kk
theorem sX1_houseOf_86 {g : ZG} {Q : ZQ} {d cN sN : Nat} {M : ZM} {l3 : Nat} {l1 : Int32} {o0 o2 : Option Value}  (kk : Z g kX1_houseOf Q d cN sN M 88 [o0, some (.int l1), o2, some (.ref l3)] [.int l1, .ref l3]) : Z g kX1_houseOf Q d cN sN M 86 [o0, some (.int l1), o2, some (.ref l3)] [] := by
  refine zi_aload_n dX1_houseOf_86 rfl zrf_r ?_
  refine zi_iload_n dX1_houseOf_87 rfl ?_
  exact kk
theorem sX1_houseOf_91 {g : ZG} {Q : ZQ} {d cN sN : Nat} {M : ZM} {t0 : Int32} {o0 o1 o2 o3 : Option Value}  (kk : Q.1 (some (.int t0)) M) : Z g kX1_houseOf Q d cN sN M 91 [o0, o1, o2, o3] [.int t0] := by
  exact zi_ireturn dX1_houseOf_91 rfl rfl kk
theorem sX1_houseOf_92 {g : ZG} {Q : ZQ} {d cN sN : Nat} {M : ZM} {l3 : Nat} {l1 : Int32} {o0 o2 : Option Value}  (kk : Z g kX1_houseOf Q d cN sN M 94 [o0, some (.int l1), o2, some (.ref l3)] [.int l1, .ref l3]) : Z g kX1_houseOf Q d cN sN M 92 [o0, some (.int l1), o2, some (.ref l3)] [] := by
  refine zi_aload_n dX1_houseOf_92 rfl zrf_r ?_
  refine zi_iload_n dX1_houseOf_93 rfl ?_
  exact kk
theorem sX1_houseOf_97 {g : ZG} {Q : ZQ} {d cN sN : Nat} {M : ZM} {t0 : Int32} {o0 o1 o2 o3 : Option Value}  (kk : Q.1 (some (.int t0)) M) : Z g kX1_houseOf Q d cN sN M 97 [o0, o1, o2, o3] [.int t0] := by
  exact zi_ireturn dX1_houseOf_97 rfl rfl kk
theorem sX1_houseOf_98 {g : ZG} {Q : ZQ} {d cN sN : Nat} {M : ZM} {l3 : Nat} {l1 : Int32} {o0 o2 : Option Value}  (kk : Z g kX1_houseOf Q d cN sN M 100 [o0, some (.int l1), o2, some (.ref l3)] [.int l1, .ref l3]) : Z g kX1_houseOf Q d cN sN M 98 [o0, some (.int l1), o2, some (.ref l3)] [] := by
  refine zi_aload_n dX1_houseOf_98 rfl zrf_r ?_
  refine zi_iload_n dX1_houseOf_99 rfl ?_
  exact kk
theorem sX1_houseOf_103 {g : ZG} {Q : ZQ} {d cN sN : Nat} {M : ZM} {t0 : Int32} {o0 o1 o2 o3 : Option Value}  (kk : Q.1 (some (.int t0)) M) : Z g kX1_houseOf Q d cN sN M 103 [o0, o1, o2, o3] [.int t0] := by
  exact zi_ireturn dX1_houseOf_103 rfl rfl kk
theorem sX1_houseOf_104 {g : ZG} {Q : ZQ} {d cN sN : Nat} {M : ZM} {l3 : Nat} {fs1 : List Value} {r3 : Nat} {l1 : Int32} {n5 : Nat} {f6 : Nat → Option Nat} {c7 : ClassId} {r11 : Nat} {fs13 : List Value} {y15 : Int32} {o0 o2 : Option Value} (h2 : M.1 l3 = some (.inr (1, fs1))) (h4 : (fs1)[2]? = some (.ref r3)) (h8 : M.1 r3 = some (.inl (c7, n5, .inr (.inr (.inr (.inr f6)))))) (h9 : zRt g c7) (h10 : vp_in (l1) n5) (h12 : va_rf (f6 ((l1 : Int32).toNatClampNeg)) = .ref r11) (h14 : M.1 r11 = some (.inr (2, fs13))) (h16 : (fs13)[2]? = some (.int y15)) (kk : Q.1 (some (.int y15)) M) : Z g kX1_houseOf Q d cN sN M 104 [o0, some (.int l1), o2, some (.ref l3)] [] := by
  refine zi_aload_n dX1_houseOf_104 rfl zrf_r ?_
  refine zi_getfield dX1_houseOf_105 rfl h2 h4 ?_
  refine zi_iload_n dX1_houseOf_108 rfl ?_
  refine zi_aaload dX1_houseOf_109 h8 h9 h10 h12 ?_
  refine zi_getfield dX1_houseOf_110 rfl h14 h16 ?_
  exact zi_ireturn dX1_houseOf_113 rfl rfl kk
abbrev kX1_sheetOf : ZK := (RX1, cX1_sheetOf, 4, (Option.some Jvm.ClassFile.FieldType.int), [], false, fX1)
abbrev tX1_sheetOf (g : ZG) (args : List Value) (M : ZM) (d c s : Nat) (Q : ZQ) : Prop := Ct g yX1_sheetOf (ws_ yX1_sheetOf cX1_sheetOf 4 (Option.some Jvm.ClassFile.FieldType.int)) args M d c s Q
abbrev nX1_sheetOf : Nat := 10
theorem mX1_sheetOf : zMok yX1_sheetOf 2 4 := ⟨⟨by decide +kernel, by decide +kernel, by decide +kernel⟩, by decide⟩
theorem eX1_sheetOf {g : ZG} {Q : ZQ} {d cN sN : Nat} {M : ZM} {a0 : Nat} {x1 : Int32} {x2 : Int32} (hV : zV g) (h : Z g kX1_sheetOf Q d cN sN M 0 [some (.ref a0), some (.int x1), some (.int x2), none] []) : tX1_sheetOf g [.ref a0, .int x1, .int x2] M d cN sN Q := Ct.of (K := kX1_sheetOf) rfl (by decide +kernel) hV fokX1 rfl (fun h => by cases h) (fun v hv => by simp only [List.mem_cons, List.not_mem_nil, or_false] at hv; rcases hv with rfl | rfl | rfl <;> first | rfl | assumption) (Nat.le_of_ble_eq_true rfl) h
theorem sX1_sheetOf_0 {g : ZG} {Q : ZQ} {d cN sN : Nat} {M : ZM} {l0 : Nat} {l1 : Int32} {o2 o3 : Option Value}  (kk : Z g kX1_sheetOf Q d cN sN M 2 [some (.ref l0), some (.int l1), o2, o3] [.int l1, .ref l0]) : Z g kX1_sheetOf Q d cN sN M 0 [some (.ref l0), some (.int l1), o2, o3] [] := by
  refine zi_aload_n dX1_sheetOf_0 rfl zrf_r ?_
  refine zi_iload_n dX1_sheetOf_1 rfl ?_
  exact kk
theorem sX1_sheetOf_5 {g : ZG} {Q : ZQ} {d cN sN : Nat} {M : ZM} {l2 : Int32} {o0 o1 o3 : Option Value}  (kk : Z g kX1_sheetOf Q d cN sN M 8 [o0, o1, some (.int l2), o3] [.int 5, .int 0, .int l2]) : Z g kX1_sheetOf Q d cN sN M 5 [o0, o1, some (.int l2), o3] [] := by
  refine zi_iload_n dX1_sheetOf_5 rfl ?_
  refine zi_iconst dX1_sheetOf_6 (by decide +kernel : Int32.ofInt (0) = (0 : Int32)) ?_
  refine zi_iconst dX1_sheetOf_7 (by decide +kernel : Int32.ofInt (5) = (5 : Int32)) ?_
  exact kk
theorem sX1_sheetOf_14 {g : ZG} {Q : ZQ} {d cN sN : Nat} {M : ZM} {l0 : Nat} {fs1 : List Value} {r3 : Nat} {fs5 : List Value} {r7 : Nat} {l1 : Int32} {n9 : Nat} {f10 : Nat → Option Nat} {c11 : ClassId} {r15 : Nat} {l2 : Int32} {o3 : Option Value} (h2 : M.1 l0 = some (.inr (0, fs1))) (h4 : (fs1)[0]? = some (.ref r3)) (h6 : M.1 r3 = some (.inr (1, fs5))) (h8 : (fs5)[4]? = some (.ref r7)) (h12 : M.1 r7 = some (.inl (c11, n9, .inr (.inr (.inr (.inr f10)))))) (h13 : zRt g c11) (h14 : vp_in (l1) n9) (h16 : va_rf (f10 ((l1 : Int32).toNatClampNeg)) = .ref r15) (kk : Z g kX1_sheetOf Q d cN sN M 25 [some (.ref l0), some (.int l1), some (.int l2), some (.ref r15)] [.int l2]) : Z g kX1_sheetOf Q d cN sN M 14 [some (.ref l0), some (.int l1), some (.int l2), o3] [] := by
  refine zi_aload_n dX1_sheetOf_14 rfl zrf_r ?_
  refine zi_getfield dX1_sheetOf_15 rfl h2 h4 ?_
  refine zi_getfield dX1_sheetOf_18 rfl h6 h8 ?_
  refine zi_iload_n dX1_sheetOf_21 rfl ?_
  refine zi_aaload dX1_sheetOf_22 h12 h13 h14 h16 ?_
  refine zi_astore_n dX1_sheetOf_23 zrf_r (Nat.le_of_ble_eq_true rfl) ?_
  refine zi_iload_n dX1_sheetOf_24 rfl ?_
  exact kk
theorem sX1_sheetOf_60 {g : ZG} {Q : ZQ} {d cN sN : Nat} {M : ZM} {l3 : Nat} {fs1 : List Value} {y3 : Int32} {o0 o1 o2 : Option Value} (h2 : M.1 l3 = some (.inr (3, fs1))) (h4 : (fs1)[0]? = some (.int y3)) (kk : Q.1 (some (.int y3)) M) : Z g kX1_sheetOf Q d cN sN M 60 [o0, o1, o2, some (.ref l3)] [] := by
  refine zi_aload_n dX1_sheetOf_60 rfl zrf_r ?_
  refine zi_getfield dX1_sheetOf_61 rfl h2 h4 ?_
  exact zi_ireturn dX1_sheetOf_64 rfl rfl kk
theorem sX1_sheetOf_65 {g : ZG} {Q : ZQ} {d cN sN : Nat} {M : ZM} {l3 : Nat} {fs1 : List Value} {y3 : Int32} {o0 o1 o2 : Option Value} (h2 : M.1 l3 = some (.inr (3, fs1))) (h4 : (fs1)[1]? = some (.int y3)) (kk : Q.1 (some (.int y3)) M) : Z g kX1_sheetOf Q d cN sN M 65 [o0, o1, o2, some (.ref l3)] [] := by
  refine zi_aload_n dX1_sheetOf_65 rfl zrf_r ?_
  refine zi_getfield dX1_sheetOf_66 rfl h2 h4 ?_
  exact zi_ireturn dX1_sheetOf_69 rfl rfl kk
theorem sX1_sheetOf_70 {g : ZG} {Q : ZQ} {d cN sN : Nat} {M : ZM} {l3 : Nat} {o0 o1 o2 : Option Value}  (kk : Z g kX1_sheetOf Q d cN sN M 72 [o0, o1, o2, some (.ref l3)] [.int 1, .ref l3]) : Z g kX1_sheetOf Q d cN sN M 70 [o0, o1, o2, some (.ref l3)] [] := by
  refine zi_aload_n dX1_sheetOf_70 rfl zrf_r ?_
  refine zi_iconst dX1_sheetOf_71 (by decide +kernel : Int32.ofInt (1) = (1 : Int32)) ?_
  exact kk
theorem sX1_sheetOf_75 {g : ZG} {Q : ZQ} {d cN sN : Nat} {M : ZM} {t0 : Int32} {o0 o1 o2 o3 : Option Value}  (kk : Q.1 (some (.int t0)) M) : Z g kX1_sheetOf Q d cN sN M 75 [o0, o1, o2, o3] [.int t0] := by
  exact zi_ireturn dX1_sheetOf_75 rfl rfl kk
theorem sX1_sheetOf_76 {g : ZG} {Q : ZQ} {d cN sN : Nat} {M : ZM} {l3 : Nat} {o0 o1 o2 : Option Value}  (kk : Z g kX1_sheetOf Q d cN sN M 78 [o0, o1, o2, some (.ref l3)] [.int 2, .ref l3]) : Z g kX1_sheetOf Q d cN sN M 76 [o0, o1, o2, some (.ref l3)] [] := by
  refine zi_aload_n dX1_sheetOf_76 rfl zrf_r ?_
  refine zi_iconst dX1_sheetOf_77 (by decide +kernel : Int32.ofInt (2) = (2 : Int32)) ?_
  exact kk
theorem sX1_sheetOf_81 {g : ZG} {Q : ZQ} {d cN sN : Nat} {M : ZM} {t0 : Int32} {o0 o1 o2 o3 : Option Value}  (kk : Q.1 (some (.int t0)) M) : Z g kX1_sheetOf Q d cN sN M 81 [o0, o1, o2, o3] [.int t0] := by
  exact zi_ireturn dX1_sheetOf_81 rfl rfl kk
theorem sX1_sheetOf_82 {g : ZG} {Q : ZQ} {d cN sN : Nat} {M : ZM} {l3 : Nat} {o0 o1 o2 : Option Value}  (kk : Z g kX1_sheetOf Q d cN sN M 84 [o0, o1, o2, some (.ref l3)] [.int 3, .ref l3]) : Z g kX1_sheetOf Q d cN sN M 82 [o0, o1, o2, some (.ref l3)] [] := by
  refine zi_aload_n dX1_sheetOf_82 rfl zrf_r ?_
  refine zi_iconst dX1_sheetOf_83 (by decide +kernel : Int32.ofInt (3) = (3 : Int32)) ?_
  exact kk
theorem sX1_sheetOf_87 {g : ZG} {Q : ZQ} {d cN sN : Nat} {M : ZM} {t0 : Int32} {o0 o1 o2 o3 : Option Value}  (kk : Q.1 (some (.int t0)) M) : Z g kX1_sheetOf Q d cN sN M 87 [o0, o1, o2, o3] [.int t0] := by
  exact zi_ireturn dX1_sheetOf_87 rfl rfl kk
theorem sX1_sheetOf_88 {g : ZG} {Q : ZQ} {d cN sN : Nat} {M : ZM} {l3 : Nat} {o0 o1 o2 : Option Value}  (kk : Z g kX1_sheetOf Q d cN sN M 89 [o0, o1, o2, some (.ref l3)] [.ref l3]) : Z g kX1_sheetOf Q d cN sN M 88 [o0, o1, o2, some (.ref l3)] [] := by
  refine zi_aload_n dX1_sheetOf_88 rfl zrf_r ?_
  exact kk
theorem sX1_sheetOf_92 {g : ZG} {Q : ZQ} {d cN sN : Nat} {M : ZM} {t0 : Int32} {o0 o1 o2 o3 : Option Value}  (kk : Q.1 (some (.int t0)) M) : Z g kX1_sheetOf Q d cN sN M 92 [o0, o1, o2, o3] [.int t0] := by
  exact zi_ireturn dX1_sheetOf_92 rfl rfl kk
abbrev kX1_letterAt : ZK := (RX1, cX1_letterAt, 5, (Option.some Jvm.ClassFile.FieldType.char), [], false, fX1)
abbrev tX1_letterAt (g : ZG) (args : List Value) (M : ZM) (d c s : Nat) (Q : ZQ) : Prop := Ct g yX1_letterAt (ws_ yX1_letterAt cX1_letterAt 5 (Option.some Jvm.ClassFile.FieldType.char)) args M d c s Q
abbrev nX1_letterAt : Nat := 10
theorem mX1_letterAt : zMok yX1_letterAt 3 5 := ⟨⟨by decide +kernel, by decide +kernel, by decide +kernel⟩, by decide⟩
theorem eX1_letterAt {g : ZG} {Q : ZQ} {d cN sN : Nat} {M : ZM} {a0 : Nat} {x1 : Int32} {x2 : Int32} {x3 : Int32} (hV : zV g) (h : Z g kX1_letterAt Q d cN sN M 0 [some (.ref a0), some (.int x1), some (.int x2), some (.int x3), none] []) : tX1_letterAt g [.ref a0, .int x1, .int x2, .int x3] M d cN sN Q := Ct.of (K := kX1_letterAt) rfl (by decide +kernel) hV fokX1 rfl (fun h => by cases h) (fun v hv => by simp only [List.mem_cons, List.not_mem_nil, or_false] at hv; rcases hv with rfl | rfl | rfl | rfl <;> first | rfl | assumption) (Nat.le_of_ble_eq_true rfl) h
theorem sX1_letterAt_0 {g : ZG} {Q : ZQ} {d cN sN : Nat} {M : ZM} {l0 : Nat} {l1 : Int32} {l2 : Int32} {o3 o4 : Option Value}  (kk : Z g kX1_letterAt Q d cN sN M 3 [some (.ref l0), some (.int l1), some (.int l2), o3, o4] [.int l2, .int l1, .ref l0]) : Z g kX1_letterAt Q d cN sN M 0 [some (.ref l0), some (.int l1), some (.int l2), o3, o4] [] := by
  refine zi_aload_n dX1_letterAt_0 rfl zrf_r ?_
  refine zi_iload_n dX1_letterAt_1 rfl ?_
  refine zi_iload_n dX1_letterAt_2 rfl ?_
  exact kk
theorem sX1_letterAt_6 {g : ZG} {Q : ZQ} {d cN sN : Nat} {M : ZM} {l0 : Nat} {fs1 : List Value} {r3 : Nat} {fs5 : List Value} {r7 : Nat} {l1 : Int32} {n9 : Nat} {f10 : Nat → Option Nat} {c11 : ClassId} {r15 : Nat} {l3 : Int32} {o2 o4 : Option Value} (h2 : M.1 l0 = some (.inr (0, fs1))) (h4 : (fs1)[0]? = some (.ref r3)) (h6 : M.1 r3 = some (.inr (1, fs5))) (h8 : (fs5)[4]? = some (.ref r7)) (h12 : M.1 r7 = some (.inl (c11, n9, .inr (.inr (.inr (.inr f10)))))) (h13 : zRt g c11) (h14 : vp_in (l1) n9) (h16 : va_rf (f10 ((l1 : Int32).toNatClampNeg)) = .ref r15) (kt : (l3 : Int32) = 0 → Z g kX1_letterAt Q d cN sN M 33 [some (.ref l0), some (.int l1), o2, some (.int l3), some (.ref r15)] [.int 97]) (kf : ¬ (l3 : Int32) = 0 → Z g kX1_letterAt Q d cN sN M 23 [some (.ref l0), some (.int l1), o2, some (.int l3), some (.ref r15)] [.int 97]) : Z g kX1_letterAt Q d cN sN M 6 [some (.ref l0), some (.int l1), o2, some (.int l3), o4] [] := by
  refine zi_aload_n dX1_letterAt_6 rfl zrf_r ?_
  refine zi_getfield dX1_letterAt_7 rfl h2 h4 ?_
  refine zi_getfield dX1_letterAt_10 rfl h6 h8 ?_
  refine zi_iload_n dX1_letterAt_13 rfl ?_
  refine zi_aaload dX1_letterAt_14 h12 h13 h14 h16 ?_
  refine zi_astore dX1_letterAt_15 zrf_r (Nat.le_of_ble_eq_true rfl) ?_
  refine zi_bipush dX1_letterAt_17 (by decide +kernel : (Int8.ofInt (97)).toInt32 = (97 : Int32)) ?_
  refine zi_iload_n dX1_letterAt_19 rfl ?_
  exact zi_if_eq (tgt := 33) dX1_letterAt_20 (by decide +kernel) kt kf
theorem sX1_letterAt_23 {g : ZG} {Q : ZQ} {d cN sN : Nat} {M : ZM} {t0 : Int32} {l4 : Nat} {fs1 : List Value} {r3 : Nat} {l2 : Int32} {n5 : Nat} {f6 : Nat → Int32} {o0 o1 o3 : Option Value} (h2 : M.1 l4 = some (.inr (3, fs1))) (h4 : (fs1)[2]? = some (.ref r3)) (h7 : M.1 r3 = some (.inl (zA g 0, n5, .inl f6))) (h8 : vp_in (l2) n5) (kk : Z g kX1_letterAt Q d cN sN M 40 [o0, o1, some (.int l2), o3, some (.ref l4)] [.int (f6 ((l2 : Int32).toNatClampNeg)), .int t0]) : Z g kX1_letterAt Q d cN sN M 23 [o0, o1, some (.int l2), o3, some (.ref l4)] [.int t0] := by
  refine zi_aload dX1_letterAt_23 rfl zrf_r ?_
  refine zi_getfield dX1_letterAt_25 rfl h2 h4 ?_
  refine zi_iload_n dX1_letterAt_28 rfl ?_
  refine zi_iaload dX1_letterAt_29 h7 h8 ?_
  exact zi_goto (tgt := 40) dX1_letterAt_30 (by decide +kernel) kk
theorem sX1_letterAt_33 {g : ZG} {Q : ZQ} {d cN sN : Nat} {M : ZM} {t0 : Int32} {l4 : Nat} {fs1 : List Value} {r3 : Nat} {l2 : Int32} {n5 : Nat} {f6 : Nat → Int32} {o0 o1 o3 : Option Value} (h2 : M.1 l4 = some (.inr (3, fs1))) (h4 : (fs1)[3]? = some (.ref r3)) (h7 : M.1 r3 = some (.inl (zA g 0, n5, .inl f6))) (h8 : vp_in (l2) n5) (kk : Z g kX1_letterAt Q d cN sN M 40 [o0, o1, some (.int l2), o3, some (.ref l4)] [.int (f6 ((l2 : Int32).toNatClampNeg)), .int t0]) : Z g kX1_letterAt Q d cN sN M 33 [o0, o1, some (.int l2), o3, some (.ref l4)] [.int t0] := by
  refine zi_aload dX1_letterAt_33 rfl zrf_r ?_
  refine zi_getfield dX1_letterAt_35 rfl h2 h4 ?_
  refine zi_iload_n dX1_letterAt_38 rfl ?_
  refine zi_iaload dX1_letterAt_39 h7 h8 ?_
  exact kk
theorem sX1_letterAt_40 {g : ZG} {Q : ZQ} {d cN sN : Nat} {M : ZM} {t0 : Int32} {t1 : Int32} {o0 o1 o2 o3 o4 : Option Value} (h1 : narrow .char (.int ((((t0 + t1) - 1 : Int32).toUInt32 % 65536).toInt32)) = .int ((((t0 + t1) - 1 : Int32).toUInt32 % 65536).toInt32)) (kk : Q.1 (some (.int ((((t0 + t1) - 1 : Int32).toUInt32 % 65536).toInt32))) M) : Z g kX1_letterAt Q d cN sN M 40 [o0, o1, o2, o3, o4] [.int t1, .int t0] := by
  refine zi_iadd dX1_letterAt_40 ?_
  refine zi_iconst dX1_letterAt_41 (by decide +kernel : Int32.ofInt (1) = (1 : Int32)) ?_
  refine zi_isub dX1_letterAt_42 ?_
  refine zi_i2c dX1_letterAt_43 ?_
  exact zi_ireturn dX1_letterAt_44 rfl h1 kk
abbrev kX1_markAt : ZK := (RX1, cX1_markAt, 3, (Option.some Jvm.ClassFile.FieldType.int), [], false, fX1)
abbrev tX1_markAt (g : ZG) (args : List Value) (M : ZM) (d c s : Nat) (Q : ZQ) : Prop := Ct g yX1_markAt (ws_ yX1_markAt cX1_markAt 3 (Option.some Jvm.ClassFile.FieldType.int)) args M d c s Q
abbrev nX1_markAt : Nat := 10
theorem mX1_markAt : zMok yX1_markAt 2 3 := ⟨⟨by decide +kernel, by decide +kernel, by decide +kernel⟩, by decide⟩
theorem eX1_markAt {g : ZG} {Q : ZQ} {d cN sN : Nat} {M : ZM} {a0 : Nat} {x1 : Int32} {x2 : Int32} (hV : zV g) (h : Z g kX1_markAt Q d cN sN M 0 [some (.ref a0), some (.int x1), some (.int x2)] []) : tX1_markAt g [.ref a0, .int x1, .int x2] M d cN sN Q := Ct.of (K := kX1_markAt) rfl (by decide +kernel) hV fokX1 rfl (fun h => by cases h) (fun v hv => by simp only [List.mem_cons, List.not_mem_nil, or_false] at hv; rcases hv with rfl | rfl | rfl <;> first | rfl | assumption) (Nat.le_of_ble_eq_true rfl) h
theorem sX1_markAt_0 {g : ZG} {Q : ZQ} {d cN sN : Nat} {M : ZM} {l0 : Nat} {l1 : Int32} {l2 : Int32}  (kk : Z g kX1_markAt Q d cN sN M 3 [some (.ref l0), some (.int l1), some (.int l2)] [.int l2, .int l1, .ref l0]) : Z g kX1_markAt Q d cN sN M 0 [some (.ref l0), some (.int l1), some (.int l2)] [] := by
  refine zi_aload_n dX1_markAt_0 rfl zrf_r ?_
  refine zi_iload_n dX1_markAt_1 rfl ?_
  refine zi_iload_n dX1_markAt_2 rfl ?_
  exact kk
theorem sX1_markAt_6 {g : ZG} {Q : ZQ} {d cN sN : Nat} {M : ZM} {l0 : Nat} {fs1 : List Value} {r3 : Nat} {fs5 : List Value} {r7 : Nat} {l1 : Int32} {n9 : Nat} {f10 : Nat → Option Nat} {c11 : ClassId} {r15 : Nat} {fs17 : List Value} {r19 : Nat} {l2 : Int32} {n21 : Nat} {f22 : Nat → Int32} (h2 : M.1 l0 = some (.inr (0, fs1))) (h4 : (fs1)[0]? = some (.ref r3)) (h6 : M.1 r3 = some (.inr (1, fs5))) (h8 : (fs5)[4]? = some (.ref r7)) (h12 : M.1 r7 = some (.inl (c11, n9, .inr (.inr (.inr (.inr f10)))))) (h13 : zRt g c11) (h14 : vp_in (l1) n9) (h16 : va_rf (f10 ((l1 : Int32).toNatClampNeg)) = .ref r15) (h18 : M.1 r15 = some (.inr (3, fs17))) (h20 : (fs17)[4]? = some (.ref r19)) (h23 : M.1 r19 = some (.inl (zA g 0, n21, .inl f22))) (h24 : vp_in (l2) n21) (kk : Q.1 (some (.int (f22 ((l2 : Int32).toNatClampNeg)))) M) : Z g kX1_markAt Q d cN sN M 6 [some (.ref l0), some (.int l1), some (.int l2)] [] := by
  refine zi_aload_n dX1_markAt_6 rfl zrf_r ?_
  refine zi_getfield dX1_markAt_7 rfl h2 h4 ?_
  refine zi_getfield dX1_markAt_10 rfl h6 h8 ?_
  refine zi_iload_n dX1_markAt_13 rfl ?_
  refine zi_aaload dX1_markAt_14 h12 h13 h14 h16 ?_
  refine zi_getfield dX1_markAt_15 rfl h18 h20 ?_
  refine zi_iload_n dX1_markAt_18 rfl ?_
  refine zi_iaload dX1_markAt_19 h23 h24 ?_
  exact zi_ireturn dX1_markAt_20 rfl rfl kk
abbrev kX1_fine : ZK := (RX1, cX1_fine, 4, (Option.some Jvm.ClassFile.FieldType.int), [], false, fX1)
abbrev tX1_fine (g : ZG) (args : List Value) (M : ZM) (d c s : Nat) (Q : ZQ) : Prop := Ct g yX1_fine (ws_ yX1_fine cX1_fine 4 (Option.some Jvm.ClassFile.FieldType.int)) args M d c s Q
abbrev nX1_fine : Nat := 10
theorem mX1_fine : zMok yX1_fine 3 4 := ⟨⟨by decide +kernel, by decide +kernel, by decide +kernel⟩, by decide⟩
theorem eX1_fine {g : ZG} {Q : ZQ} {d cN sN : Nat} {M : ZM} {a0 : Nat} {x1 : Int32} {x2 : Int32} {x3 : Int32} (hV : zV g) (h : Z g kX1_fine Q d cN sN M 0 [some (.ref a0), some (.int x1), some (.int x2), some (.int x3)] []) : tX1_fine g [.ref a0, .int x1, .int x2, .int x3] M d cN sN Q := Ct.of (K := kX1_fine) rfl (by decide +kernel) hV fokX1 rfl (fun h => by cases h) (fun v hv => by simp only [List.mem_cons, List.not_mem_nil, or_false] at hv; rcases hv with rfl | rfl | rfl | rfl <;> first | rfl | assumption) (Nat.le_of_ble_eq_true rfl) h
theorem sX1_fine_0 {g : ZG} {Q : ZQ} {d cN sN : Nat} {M : ZM} {l0 : Nat} {l1 : Int32} {l2 : Int32} {o3 : Option Value}  (kk : Z g kX1_fine Q d cN sN M 3 [some (.ref l0), some (.int l1), some (.int l2), o3] [.int l2, .int l1, .ref l0]) : Z g kX1_fine Q d cN sN M 0 [some (.ref l0), some (.int l1), some (.int l2), o3] [] := by
  refine zi_aload_n dX1_fine_0 rfl zrf_r ?_
  refine zi_iload_n dX1_fine_1 rfl ?_
  refine zi_iload_n dX1_fine_2 rfl ?_
  exact kk
theorem sX1_fine_6 {g : ZG} {Q : ZQ} {d cN sN : Nat} {M : ZM} {l3 : Int32} {o0 o1 o2 : Option Value}  (kt : (l3 : Int32) = 0 → Z g kX1_fine Q d cN sN M 22 [o0, o1, o2, some (.int l3)] []) (kf : ¬ (l3 : Int32) = 0 → Z g kX1_fine Q d cN sN M 10 [o0, o1, o2, some (.int l3)] []) : Z g kX1_fine Q d cN sN M 6 [o0, o1, o2, some (.int l3)] [] := by
  refine zi_iload_n dX1_fine_6 rfl ?_
  exact zi_if_eq (tgt := 22) dX1_fine_7 (by decide +kernel) kt kf
theorem sX1_fine_10 {g : ZG} {Q : ZQ} {d cN sN : Nat} {M : ZM} {l0 : Nat} {fs1 : List Value} {r3 : Nat} {l1 : Int32} {l2 : Int32} {o3 : Option Value} (h2 : M.1 l0 = some (.inr (0, fs1))) (h4 : (fs1)[0]? = some (.ref r3)) (kk : Z g kX1_fine Q d cN sN M 16 [some (.ref l0), some (.int l1), some (.int l2), o3] [.int l2, .int l1, .ref r3]) : Z g kX1_fine Q d cN sN M 10 [some (.ref l0), some (.int l1), some (.int l2), o3] [] := by
  refine zi_aload_n dX1_fine_10 rfl zrf_r ?_
  refine zi_getfield dX1_fine_11 rfl h2 h4 ?_
  refine zi_iload_n dX1_fine_14 rfl ?_
  refine zi_iload_n dX1_fine_15 rfl ?_
  exact kk
theorem sX1_fine_19 {g : ZG} {Q : ZQ} {d cN sN : Nat} {M : ZM} {t0 : Int32} {o0 o1 o2 o3 : Option Value}  (kk : Z g kX1_fine Q d cN sN M 31 [o0, o1, o2, o3] [.int t0]) : Z g kX1_fine Q d cN sN M 19 [o0, o1, o2, o3] [.int t0] := by
  exact zi_goto (tgt := 31) dX1_fine_19 (by decide +kernel) kk
theorem sX1_fine_22 {g : ZG} {Q : ZQ} {d cN sN : Nat} {M : ZM} {l0 : Nat} {fs1 : List Value} {r3 : Nat} {l1 : Int32} {l2 : Int32} {o3 : Option Value} (h2 : M.1 l0 = some (.inr (0, fs1))) (h4 : (fs1)[0]? = some (.ref r3)) (kk : Z g kX1_fine Q d cN sN M 28 [some (.ref l0), some (.int l1), some (.int l2), o3] [.int l2, .int l1, .ref r3]) : Z g kX1_fine Q d cN sN M 22 [some (.ref l0), some (.int l1), some (.int l2), o3] [] := by
  refine zi_aload_n dX1_fine_22 rfl zrf_r ?_
  refine zi_getfield dX1_fine_23 rfl h2 h4 ?_
  refine zi_iload_n dX1_fine_26 rfl ?_
  refine zi_iload_n dX1_fine_27 rfl ?_
  exact kk
theorem sX1_fine_31 {g : ZG} {Q : ZQ} {d cN sN : Nat} {M : ZM} {t0 : Int32} {o0 o1 o2 o3 : Option Value}  (kk : Q.1 (some (.int t0)) M) : Z g kX1_fine Q d cN sN M 31 [o0, o1, o2, o3] [.int t0] := by
  exact zi_ireturn dX1_fine_31 rfl rfl kk
abbrev kX1_fines : ZK := (RX1, cX1_fines, 3, (Option.some Jvm.ClassFile.FieldType.int), [], false, fX1)
abbrev tX1_fines (g : ZG) (args : List Value) (M : ZM) (d c s : Nat) (Q : ZQ) : Prop := Ct g yX1_fines (ws_ yX1_fines cX1_fines 3 (Option.some Jvm.ClassFile.FieldType.int)) args M d c s Q
abbrev nX1_fines : Nat := 11
theorem mX1_fines : zMok yX1_fines 2 3 := ⟨⟨by decide +kernel, by decide +kernel, by decide +kernel⟩, by decide⟩
theorem eX1_fines {g : ZG} {Q : ZQ} {d cN sN : Nat} {M : ZM} {a0 : Nat} {x1 : Int32} {x2 : Int32} (hV : zV g) (h : Z g kX1_fines Q d cN sN M 0 [some (.ref a0), some (.int x1), some (.int x2)] []) : tX1_fines g [.ref a0, .int x1, .int x2] M d cN sN Q := Ct.of (K := kX1_fines) rfl (by decide +kernel) hV fokX1 rfl (fun h => by cases h) (fun v hv => by simp only [List.mem_cons, List.not_mem_nil, or_false] at hv; rcases hv with rfl | rfl | rfl <;> first | rfl | assumption) (Nat.le_of_ble_eq_true rfl) h
theorem sX1_fines_0 {g : ZG} {Q : ZQ} {d cN sN : Nat} {M : ZM} {l0 : Nat} {l1 : Int32} {o2 : Option Value}  (kk : Z g kX1_fines Q d cN sN M 2 [some (.ref l0), some (.int l1), o2] [.int l1, .ref l0]) : Z g kX1_fines Q d cN sN M 0 [some (.ref l0), some (.int l1), o2] [] := by
  refine zi_aload_n dX1_fines_0 rfl zrf_r ?_
  refine zi_iload_n dX1_fines_1 rfl ?_
  exact kk
theorem sX1_fines_5 {g : ZG} {Q : ZQ} {d cN sN : Nat} {M : ZM} {l2 : Int32} {o0 o1 : Option Value}  (kt : (l2 : Int32) = 0 → Z g kX1_fines Q d cN sN M 20 [o0, o1, some (.int l2)] []) (kf : ¬ (l2 : Int32) = 0 → Z g kX1_fines Q d cN sN M 9 [o0, o1, some (.int l2)] []) : Z g kX1_fines Q d cN sN M 5 [o0, o1, some (.int l2)] [] := by
  refine zi_iload_n dX1_fines_5 rfl ?_
  exact zi_if_eq (tgt := 20) dX1_fines_6 (by decide +kernel) kt kf
theorem sX1_fines_9 {g : ZG} {Q : ZQ} {d cN sN : Nat} {M : ZM} {l0 : Nat} {o1 o2 : Option Value}  (kk : Z g kX1_fines Q d cN sN M 10 [some (.ref l0), o1, o2] [.ref l0]) : Z g kX1_fines Q d cN sN M 9 [some (.ref l0), o1, o2] [] := by
  refine zi_aload_n dX1_fines_9 rfl zrf_r ?_
  exact kk
theorem sX1_fines_13 {g : ZG} {Q : ZQ} {d cN sN : Nat} {M : ZM} {t0 : Nat} {l1 : Int32} {o0 o2 : Option Value}  (kk : Z g kX1_fines Q d cN sN M 14 [o0, some (.int l1), o2] [.int l1, .ref t0]) : Z g kX1_fines Q d cN sN M 13 [o0, some (.int l1), o2] [.ref t0] := by
  refine zi_iload_n dX1_fines_13 rfl ?_
  exact kk
theorem sX1_fines_17 {g : ZG} {Q : ZQ} {d cN sN : Nat} {M : ZM} {t0 : Int32} {o0 o1 o2 : Option Value}  (kk : Z g kX1_fines Q d cN sN M 28 [o0, o1, o2] [.int t0]) : Z g kX1_fines Q d cN sN M 17 [o0, o1, o2] [.int t0] := by
  exact zi_goto (tgt := 28) dX1_fines_17 (by decide +kernel) kk
theorem sX1_fines_20 {g : ZG} {Q : ZQ} {d cN sN : Nat} {M : ZM} {l0 : Nat} {fs1 : List Value} {r3 : Nat} {l1 : Int32} {o2 : Option Value} (h2 : M.1 l0 = some (.inr (0, fs1))) (h4 : (fs1)[0]? = some (.ref r3)) (kk : Z g kX1_fines Q d cN sN M 25 [some (.ref l0), some (.int l1), o2] [.int l1, .ref r3]) : Z g kX1_fines Q d cN sN M 20 [some (.ref l0), some (.int l1), o2] [] := by
  refine zi_aload_n dX1_fines_20 rfl zrf_r ?_
  refine zi_getfield dX1_fines_21 rfl h2 h4 ?_
  refine zi_iload_n dX1_fines_24 rfl ?_
  exact kk
theorem sX1_fines_28 {g : ZG} {Q : ZQ} {d cN sN : Nat} {M : ZM} {t0 : Int32} {o0 o1 o2 : Option Value}  (kk : Q.1 (some (.int t0)) M) : Z g kX1_fines Q d cN sN M 28 [o0, o1, o2] [.int t0] := by
  exact zi_ireturn dX1_fines_28 rfl rfl kk
abbrev kX1_canMend : ZK := (RX1, cX1_canMend, 2, (Option.some Jvm.ClassFile.FieldType.boolean), [], false, fX1)
abbrev tX1_canMend (g : ZG) (args : List Value) (M : ZM) (d c s : Nat) (Q : ZQ) : Prop := Ct g yX1_canMend (ws_ yX1_canMend cX1_canMend 2 (Option.some Jvm.ClassFile.FieldType.boolean)) args M d c s Q
abbrev nX1_canMend : Nat := 10
theorem mX1_canMend : zMok yX1_canMend 1 2 := ⟨⟨by decide +kernel, by decide +kernel, by decide +kernel⟩, by decide⟩
theorem eX1_canMend {g : ZG} {Q : ZQ} {d cN sN : Nat} {M : ZM} {a0 : Nat} {x1 : Int32} (hV : zV g) (h : Z g kX1_canMend Q d cN sN M 0 [some (.ref a0), some (.int x1)] []) : tX1_canMend g [.ref a0, .int x1] M d cN sN Q := Ct.of (K := kX1_canMend) rfl (by decide +kernel) hV fokX1 rfl (fun h => by cases h) (fun v hv => by simp only [List.mem_cons, List.not_mem_nil, or_false] at hv; rcases hv with rfl | rfl <;> first | rfl | assumption) (Nat.le_of_ble_eq_true rfl) h
theorem sX1_canMend_0 {g : ZG} {Q : ZQ} {d cN sN : Nat} {M : ZM} {l0 : Nat} {l1 : Int32}  (kk : Z g kX1_canMend Q d cN sN M 2 [some (.ref l0), some (.int l1)] [.int l1, .ref l0]) : Z g kX1_canMend Q d cN sN M 0 [some (.ref l0), some (.int l1)] [] := by
  refine zi_aload_n dX1_canMend_0 rfl zrf_r ?_
  refine zi_iload_n dX1_canMend_1 rfl ?_
  exact kk
theorem sX1_canMend_5 {g : ZG} {Q : ZQ} {d cN sN : Nat} {M : ZM} {l0 : Nat} {fs1 : List Value} {r3 : Nat} {l1 : Int32} (h2 : M.1 l0 = some (.inr (0, fs1))) (h4 : (fs1)[0]? = some (.ref r3)) (kk : Z g kX1_canMend Q d cN sN M 10 [some (.ref l0), some (.int l1)] [.int l1, .ref r3]) : Z g kX1_canMend Q d cN sN M 5 [some (.ref l0), some (.int l1)] [] := by
  refine zi_aload_n dX1_canMend_5 rfl zrf_r ?_
  refine zi_getfield dX1_canMend_6 rfl h2 h4 ?_
  refine zi_iload_n dX1_canMend_9 rfl ?_
  exact kk
theorem sX1_canMend_13 {g : ZG} {Q : ZQ} {d cN sN : Nat} {M : ZM} {t0 : Nat} {fs1 : List Value} {y3 : Int32} {l0 : Nat} {fs5 : List Value} {r7 : Nat} {l1 : Int32} (h2 : M.1 t0 = some (.inr (2, fs1))) (h4 : (fs1)[0]? = some (.int y3)) (h6 : M.1 l0 = some (.inr (0, fs5))) (h8 : (fs5)[0]? = some (.ref r7)) (kk : Z g kX1_canMend Q d cN sN M 21 [some (.ref l0), some (.int l1)] [.int l1, .ref r7, .int y3]) : Z g kX1_canMend Q d cN sN M 13 [some (.ref l0), some (.int l1)] [.ref t0] := by
  refine zi_getfield dX1_canMend_13 rfl h2 h4 ?_
  refine zi_aload_n dX1_canMend_16 rfl zrf_r ?_
  refine zi_getfield dX1_canMend_17 rfl h6 h8 ?_
  refine zi_iload_n dX1_canMend_20 rfl ?_
  exact kk
theorem sX1_canMend_24 {g : ZG} {Q : ZQ} {d cN sN : Nat} {M : ZM} {t0 : Int32} {t1 : Int32} {o0 o1 : Option Value}  (kt : (t0 : Int32) < (t1 : Int32) → Z g kX1_canMend Q d cN sN M 31 [o0, o1] []) (kf : ¬ (t0 : Int32) < (t1 : Int32) → Z g kX1_canMend Q d cN sN M 27 [o0, o1] []) : Z g kX1_canMend Q d cN sN M 24 [o0, o1] [.int t1, .int t0] := by
  exact zi_icmp_lt (tgt := 31) dX1_canMend_24 (by decide +kernel) kt kf
theorem sX1_canMend_27 {g : ZG} {Q : ZQ} {d cN sN : Nat} {M : ZM} {o0 o1 : Option Value}  (kk : Z g kX1_canMend Q d cN sN M 32 [o0, o1] [.int 1]) : Z g kX1_canMend Q d cN sN M 27 [o0, o1] [] := by
  refine zi_iconst dX1_canMend_27 (by decide +kernel : Int32.ofInt (1) = (1 : Int32)) ?_
  exact zi_goto (tgt := 32) dX1_canMend_28 (by decide +kernel) kk
theorem sX1_canMend_31 {g : ZG} {Q : ZQ} {d cN sN : Nat} {M : ZM} {o0 o1 : Option Value}  (kk : Z g kX1_canMend Q d cN sN M 32 [o0, o1] [.int 0]) : Z g kX1_canMend Q d cN sN M 31 [o0, o1] [] := by
  refine zi_iconst dX1_canMend_31 (by decide +kernel : Int32.ofInt (0) = (0 : Int32)) ?_
  exact kk
theorem sX1_canMend_32 {g : ZG} {Q : ZQ} {d cN sN : Nat} {M : ZM} {t0 : Int32} {o0 o1 : Option Value} (h1 : t0 = 0 ∨ t0 = 1) (kk : Q.1 (some (.int t0)) M) : Z g kX1_canMend Q d cN sN M 32 [o0, o1] [.int t0] := by
  exact zi_ireturn dX1_canMend_32 rfl (znar_z h1) kk
abbrev kX1_laughing : ZK := (RX1, cX1_laughing, 3, (Option.some Jvm.ClassFile.FieldType.int), [], false, fX1)
abbrev tX1_laughing (g : ZG) (args : List Value) (M : ZM) (d c s : Nat) (Q : ZQ) : Prop := Ct g yX1_laughing (ws_ yX1_laughing cX1_laughing 3 (Option.some Jvm.ClassFile.FieldType.int)) args M d c s Q
abbrev nX1_laughing : Nat := 10
theorem mX1_laughing : zMok yX1_laughing 2 3 := ⟨⟨by decide +kernel, by decide +kernel, by decide +kernel⟩, by decide⟩
theorem eX1_laughing {g : ZG} {Q : ZQ} {d cN sN : Nat} {M : ZM} {a0 : Nat} {x1 : Int32} {x2 : Int32} (hV : zV g) (h : Z g kX1_laughing Q d cN sN M 0 [some (.ref a0), some (.int x1), some (.int x2)] []) : tX1_laughing g [.ref a0, .int x1, .int x2] M d cN sN Q := Ct.of (K := kX1_laughing) rfl (by decide +kernel) hV fokX1 rfl (fun h => by cases h) (fun v hv => by simp only [List.mem_cons, List.not_mem_nil, or_false] at hv; rcases hv with rfl | rfl | rfl <;> first | rfl | assumption) (Nat.le_of_ble_eq_true rfl) h
theorem sX1_laughing_0 {g : ZG} {Q : ZQ} {d cN sN : Nat} {M : ZM} {l0 : Nat} {l1 : Int32} {l2 : Int32}  (kk : Z g kX1_laughing Q d cN sN M 3 [some (.ref l0), some (.int l1), some (.int l2)] [.int l2, .int l1, .ref l0]) : Z g kX1_laughing Q d cN sN M 0 [some (.ref l0), some (.int l1), some (.int l2)] [] := by
  refine zi_aload_n dX1_laughing_0 rfl zrf_r ?_
  refine zi_iload_n dX1_laughing_1 rfl ?_
  refine zi_iload_n dX1_laughing_2 rfl ?_
  exact kk
theorem sX1_laughing_6 {g : ZG} {Q : ZQ} {d cN sN : Nat} {M : ZM} {l0 : Nat} {fs1 : List Value} {r3 : Nat} {l1 : Int32} {l2 : Int32} (h2 : M.1 l0 = some (.inr (0, fs1))) (h4 : (fs1)[0]? = some (.ref r3)) (kk : Z g kX1_laughing Q d cN sN M 12 [some (.ref l0), some (.int l1), some (.int l2)] [.int l2, .int l1, .ref r3]) : Z g kX1_laughing Q d cN sN M 6 [some (.ref l0), some (.int l1), some (.int l2)] [] := by
  refine zi_aload_n dX1_laughing_6 rfl zrf_r ?_
  refine zi_getfield dX1_laughing_7 rfl h2 h4 ?_
  refine zi_iload_n dX1_laughing_10 rfl ?_
  refine zi_iload_n dX1_laughing_11 rfl ?_
  exact kk
theorem sX1_laughing_15 {g : ZG} {Q : ZQ} {d cN sN : Nat} {M : ZM} {t0 : Int32} {o0 o1 o2 : Option Value}  (kk : Q.1 (some (.int t0)) M) : Z g kX1_laughing Q d cN sN M 15 [o0, o1, o2] [.int t0] := by
  exact zi_ireturn dX1_laughing_15 rfl rfl kk
abbrev kX1_bargain : ZK := (RX1, cX1_bargain, 3, (Option.some Jvm.ClassFile.FieldType.int), [], false, fX1)
abbrev tX1_bargain (g : ZG) (args : List Value) (M : ZM) (d c s : Nat) (Q : ZQ) : Prop := Ct g yX1_bargain (ws_ yX1_bargain cX1_bargain 3 (Option.some Jvm.ClassFile.FieldType.int)) args M d c s Q
abbrev nX1_bargain : Nat := 10
theorem mX1_bargain : zMok yX1_bargain 1 3 := ⟨⟨by decide +kernel, by decide +kernel, by decide +kernel⟩, by decide⟩
theorem eX1_bargain {g : ZG} {Q : ZQ} {d cN sN : Nat} {M : ZM} {a0 : Nat} {x1 : Int32} (hV : zV g) (h : Z g kX1_bargain Q d cN sN M 0 [some (.ref a0), some (.int x1), none] []) : tX1_bargain g [.ref a0, .int x1] M d cN sN Q := Ct.of (K := kX1_bargain) rfl (by decide +kernel) hV fokX1 rfl (fun h => by cases h) (fun v hv => by simp only [List.mem_cons, List.not_mem_nil, or_false] at hv; rcases hv with rfl | rfl <;> first | rfl | assumption) (Nat.le_of_ble_eq_true rfl) h
theorem sX1_bargain_0 {g : ZG} {Q : ZQ} {d cN sN : Nat} {M : ZM} {l0 : Nat} {fs1 : List Value} {r3 : Nat} {o1 o2 : Option Value} (h2 : M.1 l0 = some (.inr (0, fs1))) (h4 : (fs1)[0]? = some (.ref r3)) (kk : Z g kX1_bargain Q d cN sN M 4 [some (.ref l0), o1, o2] [.ref r3]) : Z g kX1_bargain Q d cN sN M 0 [some (.ref l0), o1, o2] [] := by
  refine zi_aload_n dX1_bargain_0 rfl zrf_r ?_
  refine zi_getfield dX1_bargain_1 rfl h2 h4 ?_
  exact kk
theorem sX1_bargain_10 {g : ZG} {Q : ZQ} {d cN sN : Nat} {M : ZM} {t0 : Int32} {l1 : Int32} {o0 o2 : Option Value}  (kt : (l1 : Int32) = 0 → Z g kX1_bargain Q d cN sN M 22 [o0, some (.int l1), some (.int t0)] []) (kf : ¬ (l1 : Int32) = 0 → Z g kX1_bargain Q d cN sN M 15 [o0, some (.int l1), some (.int t0)] []) : Z g kX1_bargain Q d cN sN M 10 [o0, some (.int l1), o2] [.int t0] := by
  refine zi_istore_n dX1_bargain_10 (Nat.le_of_ble_eq_true rfl) ?_
  refine zi_iload_n dX1_bargain_11 rfl ?_
  exact zi_if_eq (tgt := 22) dX1_bargain_12 (by decide +kernel) kt kf
theorem sX1_bargain_15 {g : ZG} {Q : ZQ} {d cN sN : Nat} {M : ZM} {l2 : Int32} {o0 o1 : Option Value}  (kk : Z g kX1_bargain Q d cN sN M 26 [o0, o1, some (.int l2)] [.int (l2 - l2 / 8 * 8)]) : Z g kX1_bargain Q d cN sN M 15 [o0, o1, some (.int l2)] [] := by
  refine zi_iload_n dX1_bargain_15 rfl ?_
  refine zi_bipush dX1_bargain_16 (by decide +kernel : (Int8.ofInt (8)).toInt32 = (8 : Int32)) ?_
  refine zi_irem dX1_bargain_18 (by decide +kernel) ?_
  exact zi_goto (tgt := 26) dX1_bargain_19 (by decide +kernel) kk
theorem sX1_bargain_22 {g : ZG} {Q : ZQ} {d cN sN : Nat} {M : ZM} {l2 : Int32} {o0 o1 : Option Value}  (kk : Z g kX1_bargain Q d cN sN M 26 [o0, o1, some (.int l2)] [.int (l2 / 8)]) : Z g kX1_bargain Q d cN sN M 22 [o0, o1, some (.int l2)] [] := by
  refine zi_iload_n dX1_bargain_22 rfl ?_
  refine zi_bipush dX1_bargain_23 (by decide +kernel : (Int8.ofInt (8)).toInt32 = (8 : Int32)) ?_
  refine zi_idiv dX1_bargain_25 (by decide +kernel) ?_
  exact kk
theorem sX1_bargain_26 {g : ZG} {Q : ZQ} {d cN sN : Nat} {M : ZM} {t0 : Int32} {o0 o1 o2 : Option Value}  (kk : Q.1 (some (.int t0)) M) : Z g kX1_bargain Q d cN sN M 26 [o0, o1, o2] [.int t0] := by
  exact zi_ireturn dX1_bargain_26 rfl rfl kk
abbrev kX1_element : ZK := (RX1, cX1_element, 1, (Option.some Jvm.ClassFile.FieldType.int), [], false, fX1)
abbrev tX1_element (g : ZG) (args : List Value) (M : ZM) (d c s : Nat) (Q : ZQ) : Prop := Ct g yX1_element (ws_ yX1_element cX1_element 1 (Option.some Jvm.ClassFile.FieldType.int)) args M d c s Q
abbrev nX1_element : Nat := 9
theorem mX1_element : zMok yX1_element 1 1 := ⟨⟨by decide +kernel, by decide +kernel, by decide +kernel⟩, by decide⟩
theorem eX1_element {g : ZG} {Q : ZQ} {d cN sN : Nat} {M : ZM} {x1 : Int32} (hV : zV g) (h : Z g kX1_element Q d cN sN M 0 [some (.int x1)] []) : tX1_element g [.int x1] M d cN sN Q := Ct.of (K := kX1_element) rfl (by decide +kernel) hV fokX1 rfl (fun h => by cases h) (fun v hv => by simp only [List.mem_cons, List.not_mem_nil, or_false] at hv; rcases hv with rfl <;> first | rfl | assumption) (Nat.le_of_ble_eq_true rfl) h
theorem sX1_element_0 {g : ZG} {Q : ZQ} {d cN sN : Nat} {M : ZM} {l0 : Int32}  (kt : (l0 : Int32) = ((-1) : Int32) → Z g kX1_element Q d cN sN M 9 [some (.int l0)] []) (kf : ¬ (l0 : Int32) = ((-1) : Int32) → Z g kX1_element Q d cN sN M 5 [some (.int l0)] []) : Z g kX1_element Q d cN sN M 0 [some (.int l0)] [] := by
  refine zi_iload_n dX1_element_0 rfl ?_
  refine zi_iconst dX1_element_1 (by decide +kernel : Int32.ofInt (-1) = (-1 : Int32)) ?_
  exact zi_icmp_eq (tgt := 9) dX1_element_2 (by decide +kernel) kt kf
theorem sX1_element_5 {g : ZG} {Q : ZQ} {d cN sN : Nat} {M : ZM} {o0 : Option Value}  (kk : Z g kX1_element Q d cN sN M 10 [o0] [.int 1]) : Z g kX1_element Q d cN sN M 5 [o0] [] := by
  refine zi_iconst dX1_element_5 (by decide +kernel : Int32.ofInt (1) = (1 : Int32)) ?_
  exact zi_goto (tgt := 10) dX1_element_6 (by decide +kernel) kk
theorem sX1_element_9 {g : ZG} {Q : ZQ} {d cN sN : Nat} {M : ZM} {o0 : Option Value}  (kk : Z g kX1_element Q d cN sN M 10 [o0] [.int 0]) : Z g kX1_element Q d cN sN M 9 [o0] [] := by
  refine zi_iconst dX1_element_9 (by decide +kernel : Int32.ofInt (0) = (0 : Int32)) ?_
  exact kk
theorem sX1_element_13 {g : ZG} {Q : ZQ} {d cN sN : Nat} {M : ZM} {l0 : Int32}  (kk : Q.1 (some (.int l0)) M) : Z g kX1_element Q d cN sN M 13 [some (.int l0)] [] := by
  refine zi_iload_n dX1_element_13 rfl ?_
  exact zi_ireturn dX1_element_14 rfl rfl kk
abbrev kX1_checkElement : ZK := (RX1, cX1_checkElement, 1, (Option.none : Option Jvm.ClassFile.FieldType), [], false, fX1)
abbrev tX1_checkElement (g : ZG) (args : List Value) (M : ZM) (d c s : Nat) (Q : ZQ) : Prop := Ct g yX1_checkElement (ws_ yX1_checkElement cX1_checkElement 1 (Option.none : Option Jvm.ClassFile.FieldType)) args M d c s Q
abbrev nX1_checkElement : Nat := 8
theorem mX1_checkElement : zMok yX1_checkElement 1 1 := ⟨⟨by decide +kernel, by decide +kernel, by decide +kernel⟩, by decide⟩
theorem eX1_checkElement {g : ZG} {Q : ZQ} {d cN sN : Nat} {M : ZM} {x1 : Int32} (hV : zV g) (h : Z g kX1_checkElement Q d cN sN M 0 [some (.int x1)] []) : tX1_checkElement g [.int x1] M d cN sN Q := Ct.of (K := kX1_checkElement) rfl (by decide +kernel) hV fokX1 rfl (fun h => by cases h) (fun v hv => by simp only [List.mem_cons, List.not_mem_nil, or_false] at hv; rcases hv with rfl <;> first | rfl | assumption) (Nat.le_of_ble_eq_true rfl) h
theorem sX1_checkElement_0 {g : ZG} {Q : ZQ} {d cN sN : Nat} {M : ZM} {l0 : Int32}  (kt : ¬ (l0 : Int32) = 0 → Z g kX1_checkElement Q d cN sN M 12 [some (.int l0)] []) (kf : (l0 : Int32) = 0 → Z g kX1_checkElement Q d cN sN M 4 [some (.int l0)] []) : Z g kX1_checkElement Q d cN sN M 0 [some (.int l0)] [] := by
  refine zi_iload_n dX1_checkElement_0 rfl ?_
  exact zi_if_ne (tgt := 12) dX1_checkElement_1 (by decide +kernel) kt kf
theorem sX1_checkElement_7 {g : ZG} {Q : ZQ} {d cN sN : Nat} {M : ZM} {t0 : Nat} {o0 : Option Value}  (kk : Z g kX1_checkElement Q d cN sN M 8 [o0] [.ref t0, .ref t0]) : Z g kX1_checkElement Q d cN sN M 7 [o0] [.ref t0] := by
  refine zi_dup dX1_checkElement_7 rfl ?_
  exact kk
theorem sX1_checkElement_12 {g : ZG} {Q : ZQ} {d cN sN : Nat} {M : ZM} {o0 : Option Value}  (kk : Q.1 none M) : Z g kX1_checkElement Q d cN sN M 12 [o0] [] := by
  exact zi_return dX1_checkElement_12 rfl kk
abbrev kX1_wouldShame : ZK := (RX1, cX1_wouldShame, 2, (Option.some Jvm.ClassFile.FieldType.int), [], false, fX1)
abbrev tX1_wouldShame (g : ZG) (args : List Value) (M : ZM) (d c s : Nat) (Q : ZQ) : Prop := Ct g yX1_wouldShame (ws_ yX1_wouldShame cX1_wouldShame 2 (Option.some Jvm.ClassFile.FieldType.int)) args M d c s Q
abbrev nX1_wouldShame : Nat := 10
theorem mX1_wouldShame : zMok yX1_wouldShame 1 2 := ⟨⟨by decide +kernel, by decide +kernel, by decide +kernel⟩, by decide⟩
theorem eX1_wouldShame {g : ZG} {Q : ZQ} {d cN sN : Nat} {M : ZM} {a0 : Nat} {x1 : Int32} (hV : zV g) (h : Z g kX1_wouldShame Q d cN sN M 0 [some (.ref a0), some (.int x1)] []) : tX1_wouldShame g [.ref a0, .int x1] M d cN sN Q := Ct.of (K := kX1_wouldShame) rfl (by decide +kernel) hV fokX1 rfl (fun h => by cases h) (fun v hv => by simp only [List.mem_cons, List.not_mem_nil, or_false] at hv; rcases hv with rfl | rfl <;> first | rfl | assumption) (Nat.le_of_ble_eq_true rfl) h
theorem sX1_wouldShame_0 {g : ZG} {Q : ZQ} {d cN sN : Nat} {M : ZM} {l0 : Nat} {l1 : Int32}  (kk : Z g kX1_wouldShame Q d cN sN M 2 [some (.ref l0), some (.int l1)] [.int l1, .ref l0]) : Z g kX1_wouldShame Q d cN sN M 0 [some (.ref l0), some (.int l1)] [] := by
  refine zi_aload_n dX1_wouldShame_0 rfl zrf_r ?_
  refine zi_iload_n dX1_wouldShame_1 rfl ?_
  exact kk
theorem sX1_wouldShame_5 {g : ZG} {Q : ZQ} {d cN sN : Nat} {M : ZM} {l0 : Nat} {fs1 : List Value} {r3 : Nat} {l1 : Int32} (h2 : M.1 l0 = some (.inr (0, fs1))) (h4 : (fs1)[0]? = some (.ref r3)) (kk : Z g kX1_wouldShame Q d cN sN M 10 [some (.ref l0), some (.int l1)] [.int l1, .ref r3]) : Z g kX1_wouldShame Q d cN sN M 5 [some (.ref l0), some (.int l1)] [] := by
  refine zi_aload_n dX1_wouldShame_5 rfl zrf_r ?_
  refine zi_getfield dX1_wouldShame_6 rfl h2 h4 ?_
  refine zi_iload_n dX1_wouldShame_9 rfl ?_
  exact kk
theorem sX1_wouldShame_13 {g : ZG} {Q : ZQ} {d cN sN : Nat} {M : ZM} {t0 : Int32} {o0 o1 : Option Value}  (kk : Q.1 (some (.int t0)) M) : Z g kX1_wouldShame Q d cN sN M 13 [o0, o1] [.int t0] := by
  exact zi_ireturn dX1_wouldShame_13 rfl rfl kk
abbrev kX1_nearest : ZK := (RX1, cX1_nearest, 2, (Option.some Jvm.ClassFile.FieldType.int), [], false, fX1)
abbrev tX1_nearest (g : ZG) (args : List Value) (M : ZM) (d c s : Nat) (Q : ZQ) : Prop := Ct g yX1_nearest (ws_ yX1_nearest cX1_nearest 2 (Option.some Jvm.ClassFile.FieldType.int)) args M d c s Q
abbrev nX1_nearest : Nat := 10
theorem mX1_nearest : zMok yX1_nearest 1 2 := ⟨⟨by decide +kernel, by decide +kernel, by decide +kernel⟩, by decide⟩
theorem eX1_nearest {g : ZG} {Q : ZQ} {d cN sN : Nat} {M : ZM} {a0 : Nat} {x1 : Int32} (hV : zV g) (h : Z g kX1_nearest Q d cN sN M 0 [some (.ref a0), some (.int x1)] []) : tX1_nearest g [.ref a0, .int x1] M d cN sN Q := Ct.of (K := kX1_nearest) rfl (by decide +kernel) hV fokX1 rfl (fun h => by cases h) (fun v hv => by simp only [List.mem_cons, List.not_mem_nil, or_false] at hv; rcases hv with rfl | rfl <;> first | rfl | assumption) (Nat.le_of_ble_eq_true rfl) h
theorem sX1_nearest_0 {g : ZG} {Q : ZQ} {d cN sN : Nat} {M : ZM} {l0 : Nat} {l1 : Int32}  (kk : Z g kX1_nearest Q d cN sN M 2 [some (.ref l0), some (.int l1)] [.int l1, .ref l0]) : Z g kX1_nearest Q d cN sN M 0 [some (.ref l0), some (.int l1)] [] := by
  refine zi_aload_n dX1_nearest_0 rfl zrf_r ?_
  refine zi_iload_n dX1_nearest_1 rfl ?_
  exact kk
theorem sX1_nearest_5 {g : ZG} {Q : ZQ} {d cN sN : Nat} {M : ZM} {l0 : Nat} {fs1 : List Value} {r3 : Nat} {l1 : Int32} (h2 : M.1 l0 = some (.inr (0, fs1))) (h4 : (fs1)[0]? = some (.ref r3)) (kk : Z g kX1_nearest Q d cN sN M 10 [some (.ref l0), some (.int l1)] [.int l1, .ref r3]) : Z g kX1_nearest Q d cN sN M 5 [some (.ref l0), some (.int l1)] [] := by
  refine zi_aload_n dX1_nearest_5 rfl zrf_r ?_
  refine zi_getfield dX1_nearest_6 rfl h2 h4 ?_
  refine zi_iload_n dX1_nearest_9 rfl ?_
  exact kk
theorem sX1_nearest_13 {g : ZG} {Q : ZQ} {d cN sN : Nat} {M : ZM} {t0 : Int32} {o0 o1 : Option Value}  (kk : Q.1 (some (.int t0)) M) : Z g kX1_nearest Q d cN sN M 13 [o0, o1] [.int t0] := by
  exact zi_ireturn dX1_nearest_13 rfl rfl kk
abbrev kX1_calmIn : ZK := (RX1, cX1_calmIn, 2, (Option.some Jvm.ClassFile.FieldType.int), [], false, fX1)
abbrev tX1_calmIn (g : ZG) (args : List Value) (M : ZM) (d c s : Nat) (Q : ZQ) : Prop := Ct g yX1_calmIn (ws_ yX1_calmIn cX1_calmIn 2 (Option.some Jvm.ClassFile.FieldType.int)) args M d c s Q
abbrev nX1_calmIn : Nat := 10
theorem mX1_calmIn : zMok yX1_calmIn 1 2 := ⟨⟨by decide +kernel, by decide +kernel, by decide +kernel⟩, by decide⟩
theorem eX1_calmIn {g : ZG} {Q : ZQ} {d cN sN : Nat} {M : ZM} {a0 : Nat} {x1 : Int32} (hV : zV g) (h : Z g kX1_calmIn Q d cN sN M 0 [some (.ref a0), some (.int x1)] []) : tX1_calmIn g [.ref a0, .int x1] M d cN sN Q := Ct.of (K := kX1_calmIn) rfl (by decide +kernel) hV fokX1 rfl (fun h => by cases h) (fun v hv => by simp only [List.mem_cons, List.not_mem_nil, or_false] at hv; rcases hv with rfl | rfl <;> first | rfl | assumption) (Nat.le_of_ble_eq_true rfl) h
theorem sX1_calmIn_0 {g : ZG} {Q : ZQ} {d cN sN : Nat} {M : ZM} {l0 : Nat} {l1 : Int32}  (kk : Z g kX1_calmIn Q d cN sN M 2 [some (.ref l0), some (.int l1)] [.int l1, .ref l0]) : Z g kX1_calmIn Q d cN sN M 0 [some (.ref l0), some (.int l1)] [] := by
  refine zi_aload_n dX1_calmIn_0 rfl zrf_r ?_
  refine zi_iload_n dX1_calmIn_1 rfl ?_
  exact kk
theorem sX1_calmIn_5 {g : ZG} {Q : ZQ} {d cN sN : Nat} {M : ZM} {l0 : Nat} {fs1 : List Value} {r3 : Nat} {fs5 : List Value} {r7 : Nat} {l1 : Int32} {n9 : Nat} {f10 : Nat → Option Nat} {c11 : ClassId} {r15 : Nat} {fs17 : List Value} {y19 : Int32} (h2 : M.1 l0 = some (.inr (0, fs1))) (h4 : (fs1)[0]? = some (.ref r3)) (h6 : M.1 r3 = some (.inr (1, fs5))) (h8 : (fs5)[2]? = some (.ref r7)) (h12 : M.1 r7 = some (.inl (c11, n9, .inr (.inr (.inr (.inr f10)))))) (h13 : zRt g c11) (h14 : vp_in (l1) n9) (h16 : va_rf (f10 ((l1 : Int32).toNatClampNeg)) = .ref r15) (h18 : M.1 r15 = some (.inr (2, fs17))) (h20 : (fs17)[1]? = some (.int y19)) (kk : Z g kX1_calmIn Q d cN sN M 21 [some (.ref l0), some (.int l1)] [.int (y19 - 20), .int 0]) : Z g kX1_calmIn Q d cN sN M 5 [some (.ref l0), some (.int l1)] [] := by
  refine zi_iconst dX1_calmIn_5 (by decide +kernel : Int32.ofInt (0) = (0 : Int32)) ?_
  refine zi_aload_n dX1_calmIn_6 rfl zrf_r ?_
  refine zi_getfield dX1_calmIn_7 rfl h2 h4 ?_
  refine zi_getfield dX1_calmIn_10 rfl h6 h8 ?_
  refine zi_iload_n dX1_calmIn_13 rfl ?_
  refine zi_aaload dX1_calmIn_14 h12 h13 h14 h16 ?_
  refine zi_getfield dX1_calmIn_15 rfl h18 h20 ?_
  refine zi_bipush dX1_calmIn_18 (by decide +kernel : (Int8.ofInt (20)).toInt32 = (20 : Int32)) ?_
  refine zi_isub dX1_calmIn_20 ?_
  exact kk
theorem sX1_calmIn_24 {g : ZG} {Q : ZQ} {d cN sN : Nat} {M : ZM} {t0 : Int32} {o0 o1 : Option Value}  (kk : Q.1 (some (.int t0)) M) : Z g kX1_calmIn Q d cN sN M 24 [o0, o1] [.int t0] := by
  exact zi_ireturn dX1_calmIn_24 rfl rfl kk
abbrev kX1_ashamed : ZK := (RX1, cX1_ashamed, 2, (Option.some Jvm.ClassFile.FieldType.int), [], false, fX1)
abbrev tX1_ashamed (g : ZG) (args : List Value) (M : ZM) (d c s : Nat) (Q : ZQ) : Prop := Ct g yX1_ashamed (ws_ yX1_ashamed cX1_ashamed 2 (Option.some Jvm.ClassFile.FieldType.int)) args M d c s Q
abbrev nX1_ashamed : Nat := 10
theorem mX1_ashamed : zMok yX1_ashamed 1 2 := ⟨⟨by decide +kernel, by decide +kernel, by decide +kernel⟩, by decide⟩
theorem eX1_ashamed {g : ZG} {Q : ZQ} {d cN sN : Nat} {M : ZM} {a0 : Nat} {x1 : Int32} (hV : zV g) (h : Z g kX1_ashamed Q d cN sN M 0 [some (.ref a0), some (.int x1)] []) : tX1_ashamed g [.ref a0, .int x1] M d cN sN Q := Ct.of (K := kX1_ashamed) rfl (by decide +kernel) hV fokX1 rfl (fun h => by cases h) (fun v hv => by simp only [List.mem_cons, List.not_mem_nil, or_false] at hv; rcases hv with rfl | rfl <;> first | rfl | assumption) (Nat.le_of_ble_eq_true rfl) h
theorem sX1_ashamed_0 {g : ZG} {Q : ZQ} {d cN sN : Nat} {M : ZM} {l0 : Nat} {fs1 : List Value} {r3 : Nat} {l1 : Int32} (h2 : M.1 l0 = some (.inr (0, fs1))) (h4 : (fs1)[0]? = some (.ref r3)) (kk : Z g kX1_ashamed Q d cN sN M 5 [some (.ref l0), some (.int l1)] [.int l1, .ref r3]) : Z g kX1_ashamed Q d cN sN M 0 [some (.ref l0), some (.int l1)] [] := by
  refine zi_aload_n dX1_ashamed_0 rfl zrf_r ?_
  refine zi_getfield dX1_ashamed_1 rfl h2 h4 ?_
  refine zi_iload_n dX1_ashamed_4 rfl ?_
  exact kk
theorem sX1_ashamed_11 {g : ZG} {Q : ZQ} {d cN sN : Nat} {M : ZM} {t0 : Int32} {o0 o1 : Option Value}  (kk : Q.1 (some (.int t0)) M) : Z g kX1_ashamed Q d cN sN M 11 [o0, o1] [.int t0] := by
  exact zi_ireturn dX1_ashamed_11 rfl rfl kk
abbrev kX1_worst : ZK := (RX1, cX1_worst, 2, (Option.some Jvm.ClassFile.FieldType.int), [], false, fX1)
abbrev tX1_worst (g : ZG) (args : List Value) (M : ZM) (d c s : Nat) (Q : ZQ) : Prop := Ct g yX1_worst (ws_ yX1_worst cX1_worst 2 (Option.some Jvm.ClassFile.FieldType.int)) args M d c s Q
abbrev nX1_worst : Nat := 10
theorem mX1_worst : zMok yX1_worst 1 2 := ⟨⟨by decide +kernel, by decide +kernel, by decide +kernel⟩, by decide⟩
theorem eX1_worst {g : ZG} {Q : ZQ} {d cN sN : Nat} {M : ZM} {a0 : Nat} {x1 : Int32} (hV : zV g) (h : Z g kX1_worst Q d cN sN M 0 [some (.ref a0), some (.int x1)] []) : tX1_worst g [.ref a0, .int x1] M d cN sN Q := Ct.of (K := kX1_worst) rfl (by decide +kernel) hV fokX1 rfl (fun h => by cases h) (fun v hv => by simp only [List.mem_cons, List.not_mem_nil, or_false] at hv; rcases hv with rfl | rfl <;> first | rfl | assumption) (Nat.le_of_ble_eq_true rfl) h
theorem sX1_worst_0 {g : ZG} {Q : ZQ} {d cN sN : Nat} {M : ZM} {l0 : Nat} {fs1 : List Value} {r3 : Nat} {l1 : Int32} (h2 : M.1 l0 = some (.inr (0, fs1))) (h4 : (fs1)[0]? = some (.ref r3)) (kk : Z g kX1_worst Q d cN sN M 5 [some (.ref l0), some (.int l1)] [.int l1, .ref r3]) : Z g kX1_worst Q d cN sN M 0 [some (.ref l0), some (.int l1)] [] := by
  refine zi_aload_n dX1_worst_0 rfl zrf_r ?_
  refine zi_getfield dX1_worst_1 rfl h2 h4 ?_
  refine zi_iload_n dX1_worst_4 rfl ?_
  exact kk
theorem sX1_worst_11 {g : ZG} {Q : ZQ} {d cN sN : Nat} {M : ZM} {t0 : Int32} {o0 o1 : Option Value}  (kk : Q.1 (some (.int t0)) M) : Z g kX1_worst Q d cN sN M 11 [o0, o1] [.int t0] := by
  exact zi_ireturn dX1_worst_11 rfl rfl kk
abbrev kX1_line : ZK := (RX1, cX1_line, 2, (Option.some Jvm.ClassFile.FieldType.int), [], false, fX1)
abbrev tX1_line (g : ZG) (args : List Value) (M : ZM) (d c s : Nat) (Q : ZQ) : Prop := Ct g yX1_line (ws_ yX1_line cX1_line 2 (Option.some Jvm.ClassFile.FieldType.int)) args M d c s Q
abbrev nX1_line : Nat := 22
theorem mX1_line : zMok yX1_line 1 2 := ⟨⟨by decide +kernel, by decide +kernel, by decide +kernel⟩, by decide⟩
theorem eX1_line {g : ZG} {Q : ZQ} {d cN sN : Nat} {M : ZM} {a0 : Nat} {x1 : Int32} (hV : zV g) (h : Z g kX1_line Q d cN sN M 0 [some (.ref a0), some (.int x1)] []) : tX1_line g [.ref a0, .int x1] M d cN sN Q := Ct.of (K := kX1_line) rfl (by decide +kernel) hV fokX1 rfl (fun h => by cases h) (fun v hv => by simp only [List.mem_cons, List.not_mem_nil, or_false] at hv; rcases hv with rfl | rfl <;> first | rfl | assumption) (Nat.le_of_ble_eq_true rfl) h
theorem sX1_line_0 {g : ZG} {Q : ZQ} {d cN sN : Nat} {M : ZM} {l0 : Nat} {l1 : Int32}  (kk : Z g kX1_line Q d cN sN M 2 [some (.ref l0), some (.int l1)] [.int l1, .ref l0]) : Z g kX1_line Q d cN sN M 0 [some (.ref l0), some (.int l1)] [] := by
  refine zi_aload_n dX1_line_0 rfl zrf_r ?_
  refine zi_iload_n dX1_line_1 rfl ?_
  exact kk
theorem sX1_line_5 {g : ZG} {Q : ZQ} {d cN sN : Nat} {M : ZM} {l0 : Nat} {fs1 : List Value} {r3 : Nat} {o1 : Option Value} (h2 : M.1 l0 = some (.inr (0, fs1))) (h4 : (fs1)[8]? = some (.ref r3)) (kk : Z g kX1_line Q d cN sN M 10 [some (.ref l0), o1] [.int 0, .ref r3]) : Z g kX1_line Q d cN sN M 5 [some (.ref l0), o1] [] := by
  refine zi_aload_n dX1_line_5 rfl zrf_r ?_
  refine zi_getfield dX1_line_6 rfl h2 h4 ?_
  refine zi_iconst dX1_line_9 (by decide +kernel : Int32.ofInt (0) = (0 : Int32)) ?_
  exact kk
theorem sX1_line_13 {g : ZG} {Q : ZQ} {d cN sN : Nat} {M : ZM} {l0 : Nat} {fs1 : List Value} {r3 : Nat} {fs5 : List Value} {r7 : Nat} {l1 : Int32} {n9 : Nat} {f10 : Nat → Option Nat} {c11 : ClassId} {r15 : Nat} {r17 : Nat} (h2 : M.1 l0 = some (.inr (0, fs1))) (h4 : (fs1)[0]? = some (.ref r3)) (h6 : M.1 r3 = some (.inr (1, fs5))) (h8 : (fs5)[4]? = some (.ref r7)) (h12 : M.1 r7 = some (.inl (c11, n9, .inr (.inr (.inr (.inr f10)))))) (h13 : zRt g c11) (h14 : vp_in (l1) n9) (h16 : va_rf (f10 ((l1 : Int32).toNatClampNeg)) = .ref r15) (h18 : (fs1)[8]? = some (.ref r17)) (kk : Z g kX1_line Q d cN sN M 26 [some (.ref l0), some (.int l1)] [.ref r17, .ref r15]) : Z g kX1_line Q d cN sN M 13 [some (.ref l0), some (.int l1)] [] := by
  refine zi_aload_n dX1_line_13 rfl zrf_r ?_
  refine zi_getfield dX1_line_14 rfl h2 h4 ?_
  refine zi_getfield dX1_line_17 rfl h6 h8 ?_
  refine zi_iload_n dX1_line_20 rfl ?_
  refine zi_aaload dX1_line_21 h12 h13 h14 h16 ?_
  refine zi_aload_n dX1_line_22 rfl zrf_r ?_
  refine zi_getfield dX1_line_23 rfl h2 h18 ?_
  exact kk
theorem sX1_line_29 {g : ZG} {Q : ZQ} {d cN sN : Nat} {M : ZM} {l0 : Nat} {fs1 : List Value} {r3 : Nat} {o1 : Option Value} (h2 : M.1 l0 = some (.inr (0, fs1))) (h4 : (fs1)[8]? = some (.ref r3)) (kk : Z g kX1_line Q d cN sN M 33 [some (.ref l0), o1] [.ref r3]) : Z g kX1_line Q d cN sN M 29 [some (.ref l0), o1] [] := by
  refine zi_aload_n dX1_line_29 rfl zrf_r ?_
  refine zi_getfield dX1_line_30 rfl h2 h4 ?_
  exact kk
theorem sX1_line_36 {g : ZG} {Q : ZQ} {d cN sN : Nat} {M : ZM} {t0 : Int32} {o0 o1 : Option Value}  (kk : Q.1 (some (.int t0)) M) : Z g kX1_line Q d cN sN M 36 [o0, o1] [.int t0] := by
  exact zi_ireturn dX1_line_36 rfl rfl kk
abbrev kX1_houseLine : ZK := (RX1, cX1_houseLine, 2, (Option.some Jvm.ClassFile.FieldType.int), [], false, fX1)
abbrev tX1_houseLine (g : ZG) (args : List Value) (M : ZM) (d c s : Nat) (Q : ZQ) : Prop := Ct g yX1_houseLine (ws_ yX1_houseLine cX1_houseLine 2 (Option.some Jvm.ClassFile.FieldType.int)) args M d c s Q
abbrev nX1_houseLine : Nat := 22
theorem mX1_houseLine : zMok yX1_houseLine 1 2 := ⟨⟨by decide +kernel, by decide +kernel, by decide +kernel⟩, by decide⟩
theorem eX1_houseLine {g : ZG} {Q : ZQ} {d cN sN : Nat} {M : ZM} {a0 : Nat} {x1 : Int32} (hV : zV g) (h : Z g kX1_houseLine Q d cN sN M 0 [some (.ref a0), some (.int x1)] []) : tX1_houseLine g [.ref a0, .int x1] M d cN sN Q := Ct.of (K := kX1_houseLine) rfl (by decide +kernel) hV fokX1 rfl (fun h => by cases h) (fun v hv => by simp only [List.mem_cons, List.not_mem_nil, or_false] at hv; rcases hv with rfl | rfl <;> first | rfl | assumption) (Nat.le_of_ble_eq_true rfl) h
theorem sX1_houseLine_0 {g : ZG} {Q : ZQ} {d cN sN : Nat} {M : ZM} {l0 : Nat} {l1 : Int32}  (kk : Z g kX1_houseLine Q d cN sN M 2 [some (.ref l0), some (.int l1)] [.int l1, .ref l0]) : Z g kX1_houseLine Q d cN sN M 0 [some (.ref l0), some (.int l1)] [] := by
  refine zi_aload_n dX1_houseLine_0 rfl zrf_r ?_
  refine zi_iload_n dX1_houseLine_1 rfl ?_
  exact kk
theorem sX1_houseLine_5 {g : ZG} {Q : ZQ} {d cN sN : Nat} {M : ZM} {l0 : Nat} {fs1 : List Value} {r3 : Nat} {o1 : Option Value} (h2 : M.1 l0 = some (.inr (0, fs1))) (h4 : (fs1)[8]? = some (.ref r3)) (kk : Z g kX1_houseLine Q d cN sN M 10 [some (.ref l0), o1] [.int 0, .ref r3]) : Z g kX1_houseLine Q d cN sN M 5 [some (.ref l0), o1] [] := by
  refine zi_aload_n dX1_houseLine_5 rfl zrf_r ?_
  refine zi_getfield dX1_houseLine_6 rfl h2 h4 ?_
  refine zi_iconst dX1_houseLine_9 (by decide +kernel : Int32.ofInt (0) = (0 : Int32)) ?_
  exact kk
theorem sX1_houseLine_13 {g : ZG} {Q : ZQ} {d cN sN : Nat} {M : ZM} {l0 : Nat} {fs1 : List Value} {r3 : Nat} {r5 : Nat} {l1 : Int32} (h2 : M.1 l0 = some (.inr (0, fs1))) (h4 : (fs1)[0]? = some (.ref r3)) (h6 : (fs1)[8]? = some (.ref r5)) (kk : Z g kX1_houseLine Q d cN sN M 22 [some (.ref l0), some (.int l1)] [.int l1, .ref r5, .ref r3]) : Z g kX1_houseLine Q d cN sN M 13 [some (.ref l0), some (.int l1)] [] := by
  refine zi_aload_n dX1_houseLine_13 rfl zrf_r ?_
  refine zi_getfield dX1_houseLine_14 rfl h2 h4 ?_
  refine zi_aload_n dX1_houseLine_17 rfl zrf_r ?_
  refine zi_getfield dX1_houseLine_18 rfl h2 h6 ?_
  refine zi_iload_n dX1_houseLine_21 rfl ?_
  exact kk
theorem sX1_houseLine_25 {g : ZG} {Q : ZQ} {d cN sN : Nat} {M : ZM} {l0 : Nat} {fs1 : List Value} {r3 : Nat} {o1 : Option Value} (h2 : M.1 l0 = some (.inr (0, fs1))) (h4 : (fs1)[8]? = some (.ref r3)) (kk : Z g kX1_houseLine Q d cN sN M 29 [some (.ref l0), o1] [.ref r3]) : Z g kX1_houseLine Q d cN sN M 25 [some (.ref l0), o1] [] := by
  refine zi_aload_n dX1_houseLine_25 rfl zrf_r ?_
  refine zi_getfield dX1_houseLine_26 rfl h2 h4 ?_
  exact kk
theorem sX1_houseLine_32 {g : ZG} {Q : ZQ} {d cN sN : Nat} {M : ZM} {t0 : Int32} {o0 o1 : Option Value}  (kk : Q.1 (some (.int t0)) M) : Z g kX1_houseLine Q d cN sN M 32 [o0, o1] [.int t0] := by
  exact zi_ireturn dX1_houseLine_32 rfl rfl kk
abbrev kX1_character : ZK := (RX1, cX1_character, 2, (Option.some Jvm.ClassFile.FieldType.char), [], false, fX1)
abbrev tX1_character (g : ZG) (args : List Value) (M : ZM) (d c s : Nat) (Q : ZQ) : Prop := Ct g yX1_character (ws_ yX1_character cX1_character 2 (Option.some Jvm.ClassFile.FieldType.char)) args M d c s Q
abbrev nX1_character : Nat := 11
theorem mX1_character : zMok yX1_character 1 2 := ⟨⟨by decide +kernel, by decide +kernel, by decide +kernel⟩, by decide⟩
theorem eX1_character {g : ZG} {Q : ZQ} {d cN sN : Nat} {M : ZM} {a0 : Nat} {x1 : Int32} (hV : zV g) (h : Z g kX1_character Q d cN sN M 0 [some (.ref a0), some (.int x1)] []) : tX1_character g [.ref a0, .int x1] M d cN sN Q := Ct.of (K := kX1_character) rfl (by decide +kernel) hV fokX1 rfl (fun h => by cases h) (fun v hv => by simp only [List.mem_cons, List.not_mem_nil, or_false] at hv; rcases hv with rfl | rfl <;> first | rfl | assumption) (Nat.le_of_ble_eq_true rfl) h
theorem sX1_character_0 {g : ZG} {Q : ZQ} {d cN sN : Nat} {M : ZM} {l1 : Int32} {l0 : Nat} {fs1 : List Value} {r3 : Nat} (h2 : M.1 l0 = some (.inr (0, fs1))) (h4 : (fs1)[8]? = some (.ref r3)) (kk : Z g kX1_character Q d cN sN M 6 [some (.ref l0), some (.int l1)] [.ref r3, .int 0, .int l1]) : Z g kX1_character Q d cN sN M 0 [some (.ref l0), some (.int l1)] [] := by
  refine zi_iload_n dX1_character_0 rfl ?_
  refine zi_iconst dX1_character_1 (by decide +kernel : Int32.ofInt (0) = (0 : Int32)) ?_
  refine zi_aload_n dX1_character_2 rfl zrf_r ?_
  refine zi_getfield dX1_character_3 rfl h2 h4 ?_
  exact kk
theorem sX1_character_9 {g : ZG} {Q : ZQ} {d cN sN : Nat} {M : ZM} {t0 : Int32} {t1 : Int32} {t2 : Int32} {o0 o1 : Option Value}  (kk : Z g kX1_character Q d cN sN M 11 [o0, o1] [.int (t2 - 1), .int t1, .int t0]) : Z g kX1_character Q d cN sN M 9 [o0, o1] [.int t2, .int t1, .int t0] := by
  refine zi_iconst dX1_character_9 (by decide +kernel : Int32.ofInt (1) = (1 : Int32)) ?_
  refine zi_isub dX1_character_10 ?_
  exact kk
theorem sX1_character_17 {g : ZG} {Q : ZQ} {d cN sN : Nat} {M : ZM} {l0 : Nat} {fs1 : List Value} {r3 : Nat} {l1 : Int32} (h2 : M.1 l0 = some (.inr (0, fs1))) (h4 : (fs1)[8]? = some (.ref r3)) (kk : Z g kX1_character Q d cN sN M 22 [some (.ref l0), some (.int l1)] [.int l1, .ref r3]) : Z g kX1_character Q d cN sN M 17 [some (.ref l0), some (.int l1)] [] := by
  refine zi_aload_n dX1_character_17 rfl zrf_r ?_
  refine zi_getfield dX1_character_18 rfl h2 h4 ?_
  refine zi_iload_n dX1_character_21 rfl ?_
  exact kk
theorem sX1_character_25 {g : ZG} {Q : ZQ} {d cN sN : Nat} {M : ZM} {t0 : Int32} {o0 o1 : Option Value} (h1 : narrow .char (.int (t0)) = .int (t0)) (kk : Q.1 (some (.int t0)) M) : Z g kX1_character Q d cN sN M 25 [o0, o1] [.int t0] := by
  exact zi_ireturn dX1_character_25 rfl h1 kk
abbrev kX1_append : ZK := (RX1, cX1_append, 2, (Option.some Jvm.ClassFile.FieldType.int), [], false, fX1)
abbrev tX1_append (g : ZG) (args : List Value) (M : ZM) (d c s : Nat) (Q : ZQ) : Prop := Ct g yX1_append (ws_ yX1_append cX1_append 2 (Option.some Jvm.ClassFile.FieldType.int)) args M d c s Q
abbrev nX1_append : Nat := 14
theorem mX1_append : zMok yX1_append 1 2 := ⟨⟨by decide +kernel, by decide +kernel, by decide +kernel⟩, by decide⟩
theorem eX1_append {g : ZG} {Q : ZQ} {d cN sN : Nat} {M : ZM} {a0 : Nat} {x1 : Int32} (hV : zV g) (h : Z g kX1_append Q d cN sN M 0 [some (.ref a0), some (.int x1)] []) : tX1_append g [.ref a0, .int x1] M d cN sN Q := Ct.of (K := kX1_append) rfl (by decide +kernel) hV fokX1 rfl (fun h => by cases h) (fun v hv => by simp only [List.mem_cons, List.not_mem_nil, or_false] at hv; rcases hv with rfl | rfl <;> first | rfl | assumption) (Nat.le_of_ble_eq_true rfl) h
theorem sX1_append_0 {g : ZG} {Q : ZQ} {d cN sN : Nat} {M : ZM} {l0 : Nat} {fs1 : List Value} {r3 : Nat} {o1 : Option Value} (h2 : M.1 l0 = some (.inr (0, fs1))) (h4 : (fs1)[7]? = some (.ref r3)) (kk : Z g kX1_append Q d cN sN M 4 [some (.ref l0), o1] [.ref r3]) : Z g kX1_append Q d cN sN M 0 [some (.ref l0), o1] [] := by
  refine zi_aload_n dX1_append_0 rfl zrf_r ?_
  refine zi_getfield dX1_append_1 rfl h2 h4 ?_
  exact kk
theorem sX1_append_7 {g : ZG} {Q : ZQ} {d cN sN : Nat} {M : ZM} {t0 : Int32} {o0 o1 : Option Value}  (kt : (60 : Int32) ≤ (t0 : Int32) → Z g kX1_append Q d cN sN M 16 [o0, o1] []) (kf : ¬ (60 : Int32) ≤ (t0 : Int32) → Z g kX1_append Q d cN sN M 12 [o0, o1] []) : Z g kX1_append Q d cN sN M 7 [o0, o1] [.int t0] := by
  refine zi_bipush dX1_append_7 (by decide +kernel : (Int8.ofInt (60)).toInt32 = (60 : Int32)) ?_
  exact zi_icmp_ge (tgt := 16) dX1_append_9 (by decide +kernel) kt kf
theorem sX1_append_12 {g : ZG} {Q : ZQ} {d cN sN : Nat} {M : ZM} {o0 o1 : Option Value}  (kk : Z g kX1_append Q d cN sN M 17 [o0, o1] [.int 1]) : Z g kX1_append Q d cN sN M 12 [o0, o1] [] := by
  refine zi_iconst dX1_append_12 (by decide +kernel : Int32.ofInt (1) = (1 : Int32)) ?_
  exact zi_goto (tgt := 17) dX1_append_13 (by decide +kernel) kk
theorem sX1_append_16 {g : ZG} {Q : ZQ} {d cN sN : Nat} {M : ZM} {o0 o1 : Option Value}  (kk : Z g kX1_append Q d cN sN M 17 [o0, o1] [.int 0]) : Z g kX1_append Q d cN sN M 16 [o0, o1] [] := by
  refine zi_iconst dX1_append_16 (by decide +kernel : Int32.ofInt (0) = (0 : Int32)) ?_
  exact kk
theorem sX1_append_20 {g : ZG} {Q : ZQ} {d cN sN : Nat} {M : ZM} {l0 : Nat} {fs1 : List Value} {r3 : Nat} {l1 : Int32} (h2 : M.1 l0 = some (.inr (0, fs1))) (h4 : (fs1)[7]? = some (.ref r3)) (kk : Z g kX1_append Q d cN sN M 25 [some (.ref l0), some (.int l1)] [.int l1, .ref r3]) : Z g kX1_append Q d cN sN M 20 [some (.ref l0), some (.int l1)] [] := by
  refine zi_aload_n dX1_append_20 rfl zrf_r ?_
  refine zi_getfield dX1_append_21 rfl h2 h4 ?_
  refine zi_iload_n dX1_append_24 rfl ?_
  exact kk
theorem sX1_append_28 {g : ZG} {Q : ZQ} {d cN sN : Nat} {M : ZM} {t0 : Nat} {l0 : Nat} {fs1 : List Value} {r3 : Nat} {o1 : Option Value} (h2 : M.1 l0 = some (.inr (0, fs1))) (h4 : (fs1)[7]? = some (.ref r3)) (kk : Z g kX1_append Q d cN sN M 33 [some (.ref l0), o1] [.ref r3]) : Z g kX1_append Q d cN sN M 28 [some (.ref l0), o1] [.ref t0] := by
  refine zi_pop dX1_append_28 rfl ?_
  refine zi_aload_n dX1_append_29 rfl zrf_r ?_
  refine zi_getfield dX1_append_30 rfl h2 h4 ?_
  exact kk
theorem sX1_append_36 {g : ZG} {Q : ZQ} {d cN sN : Nat} {M : ZM} {t0 : Int32} {o0 o1 : Option Value}  (kk : Q.1 (some (.int t0)) M) : Z g kX1_append Q d cN sN M 36 [o0, o1] [.int t0] := by
  exact zi_ireturn dX1_append_36 rfl rfl kk
abbrev kX1_checkState : ZK := (RX1, cX1_checkState, 1, (Option.none : Option Jvm.ClassFile.FieldType), [], false, fX1)
abbrev tX1_checkState (g : ZG) (args : List Value) (M : ZM) (d c s : Nat) (Q : ZQ) : Prop := Ct g yX1_checkState (ws_ yX1_checkState cX1_checkState 1 (Option.none : Option Jvm.ClassFile.FieldType)) args M d c s Q
abbrev nX1_checkState : Nat := 8
theorem mX1_checkState : zMok yX1_checkState 1 1 := ⟨⟨by decide +kernel, by decide +kernel, by decide +kernel⟩, by decide⟩
theorem eX1_checkState {g : ZG} {Q : ZQ} {d cN sN : Nat} {M : ZM} {x1 : Int32} (hV : zV g) (h : Z g kX1_checkState Q d cN sN M 0 [some (.int x1)] []) : tX1_checkState g [.int x1] M d cN sN Q := Ct.of (K := kX1_checkState) rfl (by decide +kernel) hV fokX1 rfl (fun h => by cases h) (fun v hv => by simp only [List.mem_cons, List.not_mem_nil, or_false] at hv; rcases hv with rfl <;> first | rfl | assumption) (Nat.le_of_ble_eq_true rfl) h
theorem sX1_checkState_0 {g : ZG} {Q : ZQ} {d cN sN : Nat} {M : ZM} {l0 : Int32}  (kt : ¬ (l0 : Int32) = 0 → Z g kX1_checkState Q d cN sN M 12 [some (.int l0)] []) (kf : (l0 : Int32) = 0 → Z g kX1_checkState Q d cN sN M 4 [some (.int l0)] []) : Z g kX1_checkState Q d cN sN M 0 [some (.int l0)] [] := by
  refine zi_iload_n dX1_checkState_0 rfl ?_
  exact zi_if_ne (tgt := 12) dX1_checkState_1 (by decide +kernel) kt kf
theorem sX1_checkState_7 {g : ZG} {Q : ZQ} {d cN sN : Nat} {M : ZM} {t0 : Nat} {o0 : Option Value}  (kk : Z g kX1_checkState Q d cN sN M 8 [o0] [.ref t0, .ref t0]) : Z g kX1_checkState Q d cN sN M 7 [o0] [.ref t0] := by
  refine zi_dup dX1_checkState_7 rfl ?_
  exact kk
theorem sX1_checkState_12 {g : ZG} {Q : ZQ} {d cN sN : Nat} {M : ZM} {o0 : Option Value}  (kk : Q.1 none M) : Z g kX1_checkState Q d cN sN M 12 [o0] [] := by
  exact zi_return dX1_checkState_12 rfl kk
abbrev kX1_run : ZK := (RX1, cX1_run, 3, (Option.some Jvm.ClassFile.FieldType.int), [(0, 30, 51, 342), (0, 30, 51, 344), (0, 30, 60, 1), (0, 30, 67, 0), (51, 68, 67, 0)], false, fX1)
abbrev tX1_run (g : ZG) (args : List Value) (M : ZM) (d c s : Nat) (Q : ZQ) : Prop := Ct g yX1_run (wsW_ yX1_run cX1_run 3 (Option.some Jvm.ClassFile.FieldType.int) [(0, 30, 51, 342), (0, 30, 51, 344), (0, 30, 60, 1), (0, 30, 67, 0), (51, 68, 67, 0)]) args M d c s Q
abbrev nX1_run : Nat := 22
theorem mX1_run : zMok yX1_run 0 3 := ⟨⟨by decide +kernel, by decide +kernel, by decide +kernel⟩, by decide⟩
theorem eX1_run {g : ZG} {Q : ZQ} {d cN sN : Nat} {M : ZM} {a0 : Nat} (hV : zV g) (h : Z g kX1_run Q d cN sN M 0 [some (.ref a0), none, none] []) : tX1_run g [.ref a0] M d cN sN Q := Ct.ofW (K := kX1_run) rfl (by decide +kernel) hV fokX1 (fun h => by cases h) (fun v hv => by simp only [List.mem_cons, List.not_mem_nil, or_false] at hv; rcases hv with rfl <;> first | rfl | assumption) (Nat.le_of_ble_eq_true rfl) h
theorem sX1_run_0 {g : ZG} {Q : ZQ} {d cN sN : Nat} {M : ZM} {l0 : Nat} {fs1 : List Value} {r3 : Nat} {o1 o2 : Option Value} (h2 : M.1 l0 = some (.inr (0, fs1))) (h4 : (fs1)[9]? = some (.ref r3)) (kk : Z g kX1_run Q d cN sN M 4 [some (.ref l0), o1, o2] [.ref r3]) : Z g kX1_run Q d cN sN M 0 [some (.ref l0), o1, o2] [] := by
  refine zi_aload_n dX1_run_0 rfl zrf_r ?_
  refine zi_getfield dX1_run_1 rfl h2 h4 ?_
  exact kk
theorem sX1_run_7 {g : ZG} {Q : ZQ} {d cN sN : Nat} {M : ZM} {l0 : Nat} {fs1 : List Value} {r3 : Nat} {o1 o2 : Option Value} (h2 : M.1 l0 = some (.inr (0, fs1))) (h4 : (fs1)[9]? = some (.ref r3)) (kk : Z g kX1_run Q d cN sN M 12 [some (.ref l0), o1, o2] [.ref l0, .ref r3]) : Z g kX1_run Q d cN sN M 7 [some (.ref l0), o1, o2] [] := by
  refine zi_aload_n dX1_run_7 rfl zrf_r ?_
  refine zi_getfield dX1_run_8 rfl h2 h4 ?_
  refine zi_aload_n dX1_run_11 rfl zrf_r ?_
  exact kk
theorem sX1_run_18 {g : ZG} {Q : ZQ} {d cN sN : Nat} {M : ZM} {l0 : Nat} {fs1 : List Value} {r3 : Nat} {fs5 : List Value} {y7 : Int32} {o1 o2 : Option Value} (h2 : M.1 l0 = some (.inr (0, fs1))) (h4 : (fs1)[9]? = some (.ref r3)) (h6 : M.1 r3 = some (.inr (4, fs5))) (h8 : (fs5)[3]? = some (.int y7)) (kk : Z g kX1_run Q d cN sN M 26 [some (.ref l0), o1, o2] [.int y7, .ref l0]) : Z g kX1_run Q d cN sN M 18 [some (.ref l0), o1, o2] [] := by
  refine zi_aload_n dX1_run_18 rfl zrf_r ?_
  refine zi_aload_n dX1_run_19 rfl zrf_r ?_
  refine zi_getfield dX1_run_20 rfl h2 h4 ?_
  refine zi_getfield dX1_run_23 rfl h6 h8 ?_
  exact kk
theorem sX1_run_29 {g : ZG} {Q : ZQ} {d cN sN : Nat} {M : ZM} {t0 : Int32} {l0 : Nat} {fs1 : List Value} {r3 : Nat} {fs5 : List Value} {y7 : Int32} {r10 : Nat} {o1 o2 : Option Value} (h2 : M.1 l0 = some (.inr (0, fs1))) (h4 : (fs1)[9]? = some (.ref r3)) (h6 : M.1 r3 = some (.inr (4, fs5))) (h8 : (fs5)[2]? = some (.int y7)) (h9 : 10 < (fs1).length) (h11 : (((fs1).set 10 (.int y7)))[7]? = some (.ref r10)) (kk : Z g kX1_run Q d cN sN (zup M l0 (.inr (0, (fs1).set 10 (.int y7)))) 46 [some (.ref l0), some (.int t0), o2] [.int 0, .ref r10]) : Z g kX1_run Q d cN sN M 29 [some (.ref l0), o1, o2] [.int t0] := by
  refine zi_istore_n dX1_run_29 (Nat.le_of_ble_eq_true rfl) ?_
  refine zi_aload_n dX1_run_30 rfl zrf_r ?_
  refine zi_aload_n dX1_run_31 rfl zrf_r ?_
  refine zi_getfield dX1_run_32 rfl h2 h4 ?_
  refine zi_getfield dX1_run_35 rfl h6 h8 ?_
  refine zi_putfield dX1_run_38 rfl h2 h9 zfit_i (Or.inl rfl) ?_
  refine zi_aload_n dX1_run_41 rfl zrf_r ?_
  refine zi_getfield dX1_run_42 rfl (zup_self _ _ _) h11 ?_
  refine zi_iconst dX1_run_45 (by decide +kernel : Int32.ofInt (0) = (0 : Int32)) ?_
  exact kk
theorem sX1_run_49 {g : ZG} {Q : ZQ} {d cN sN : Nat} {M : ZM} {l1 : Int32} {o0 o2 : Option Value}  (kk : Q.1 (some (.int l1)) M) : Z g kX1_run Q d cN sN M 49 [o0, some (.int l1), o2] [] := by
  refine zi_iload_n dX1_run_49 rfl ?_
  exact zi_ireturn dX1_run_50 rfl rfl kk
theorem sX1_run_51 {g : ZG} {Q : ZQ} {d cN sN : Nat} {M : ZM} {t0 : Nat} {o0 o1 o2 : Option Value}  (kk : Z g kX1_run Q d cN sN M 52 [o0, some (.ref t0), o2] []) : Z g kX1_run Q d cN sN M 51 [o0, o1, o2] [.ref t0] := by
  refine zi_astore_n dX1_run_51 zrf_r (Nat.le_of_ble_eq_true rfl) ?_
  exact kk
theorem sX1_run_55 {g : ZG} {Q : ZQ} {d cN sN : Nat} {M : ZM} {t0 : Nat} {o0 o1 o2 : Option Value}  (kk : Z g kX1_run Q d cN sN M 56 [o0, o1, o2] [.ref t0, .ref t0]) : Z g kX1_run Q d cN sN M 55 [o0, o1, o2] [.ref t0] := by
  refine zi_dup dX1_run_55 rfl ?_
  exact kk
theorem sX1_run_60 {g : ZG} {Q : ZQ} {d cN sN : Nat} {M : ZM} {t0 : Nat} {l0 : Nat} {o1 o2 : Option Value}  (kk : Z g kX1_run Q d cN sN M 63 [some (.ref l0), some (.ref t0), o2] [.ref t0, .ref l0]) : Z g kX1_run Q d cN sN M 60 [some (.ref l0), o1, o2] [.ref t0] := by
  refine zi_astore_n dX1_run_60 zrf_r (Nat.le_of_ble_eq_true rfl) ?_
  refine zi_aload_n dX1_run_61 rfl zrf_r ?_
  refine zi_aload_n dX1_run_62 rfl zrf_r ?_
  exact kk
theorem sX1_run_67 {g : ZG} {Q : ZQ} {d cN sN : Nat} {M : ZM} {t0 : Nat} {l0 : Nat} {fs1 : List Value} {r3 : Nat} {fs5 : List Value} {y7 : Int32} {r10 : Nat} {o1 o2 : Option Value} (h2 : M.1 l0 = some (.inr (0, fs1))) (h4 : (fs1)[9]? = some (.ref r3)) (h6 : M.1 r3 = some (.inr (4, fs5))) (h8 : (fs5)[2]? = some (.int y7)) (h9 : 10 < (fs1).length) (h11 : (((fs1).set 10 (.int y7)))[7]? = some (.ref r10)) (kk : Z g kX1_run Q d cN sN (zup M l0 (.inr (0, (fs1).set 10 (.int y7)))) 84 [some (.ref l0), o1, some (.ref t0)] [.int 0, .ref r10]) : Z g kX1_run Q d cN sN M 67 [some (.ref l0), o1, o2] [.ref t0] := by
  refine zi_astore_n dX1_run_67 zrf_r (Nat.le_of_ble_eq_true rfl) ?_
  refine zi_aload_n dX1_run_68 rfl zrf_r ?_
  refine zi_aload_n dX1_run_69 rfl zrf_r ?_
  refine zi_getfield dX1_run_70 rfl h2 h4 ?_
  refine zi_getfield dX1_run_73 rfl h6 h8 ?_
  refine zi_putfield dX1_run_76 rfl h2 h9 zfit_i (Or.inl rfl) ?_
  refine zi_aload_n dX1_run_79 rfl zrf_r ?_
  refine zi_getfield dX1_run_80 rfl (zup_self _ _ _) h11 ?_
  refine zi_iconst dX1_run_83 (by decide +kernel : Int32.ofInt (0) = (0 : Int32)) ?_
  exact kk
theorem sX1_run_87 {g : ZG} {Q : ZQ} {d cN sN : Nat} {M : ZM} {l2 : Nat} {o0 o1 : Option Value}  (kk : Z g kX1_run Q d cN sN M 88 [o0, o1, some (.ref l2)] [.ref l2]) : Z g kX1_run Q d cN sN M 87 [o0, o1, some (.ref l2)] [] := by
  refine zi_aload_n dX1_run_87 rfl zrf_r ?_
  exact kk
abbrev kX1_refusal : ZK := (RX1, cX1_refusal, 4, (Option.some Jvm.ClassFile.FieldType.int), [], false, fX1)
abbrev tX1_refusal (g : ZG) (args : List Value) (M : ZM) (d c s : Nat) (Q : ZQ) : Prop := Ct g yX1_refusal (ws_ yX1_refusal cX1_refusal 4 (Option.some Jvm.ClassFile.FieldType.int)) args M d c s Q
abbrev nX1_refusal : Nat := 9
theorem mX1_refusal : zMok yX1_refusal 2 4 := ⟨⟨by decide +kernel, by decide +kernel, by decide +kernel⟩, by decide⟩
theorem eX1_refusal {g : ZG} {Q : ZQ} {d cN sN : Nat} {M : ZM} {a0 : Nat} {x1 : Int32} {x2 : Int32} (hV : zV g) (h : Z g kX1_refusal Q d cN sN M 0 [some (.ref a0), some (.int x1), some (.int x2), none] []) : tX1_refusal g [.ref a0, .int x1, .int x2] M d cN sN Q := Ct.of (K := kX1_refusal) rfl (by decide +kernel) hV fokX1 rfl (fun h => by cases h) (fun v hv => by simp only [List.mem_cons, List.not_mem_nil, or_false] at hv; rcases hv with rfl | rfl | rfl <;> first | rfl | assumption) (Nat.le_of_ble_eq_true rfl) h
theorem sX1_refusal_0 {g : ZG} {Q : ZQ} {d cN sN : Nat} {M : ZM} {l0 : Nat} {fs1 : List Value} {r3 : Value} {o1 o2 o3 : Option Value} (h2 : M.1 l0 = some (.inr (0, fs1))) (zr3 : zrf r3) (h4 : (fs1)[11]? = some (r3)) (kt : ((r3 : Value) = .null) → Z g kX1_refusal Q d cN sN M 11 [some (.ref l0), o1, o2, o3] []) (kf : (∃ a, (r3 : Value) = .ref a) → Z g kX1_refusal Q d cN sN M 7 [some (.ref l0), o1, o2, o3] []) : Z g kX1_refusal Q d cN sN M 0 [some (.ref l0), o1, o2, o3] [] := by
  refine zi_aload_n dX1_refusal_0 rfl zrf_r ?_
  refine zi_getfield dX1_refusal_1 rfl h2 h4 ?_
  exact zi_ifnull (tgt := 11) dX1_refusal_4 (by decide +kernel) zr3 kt kf
theorem sX1_refusal_7 {g : ZG} {Q : ZQ} {d cN sN : Nat} {M : ZM} {o0 o1 o2 o3 : Option Value}  (kk : Z g kX1_refusal Q d cN sN M 12 [o0, o1, o2, o3] [.int 1]) : Z g kX1_refusal Q d cN sN M 7 [o0, o1, o2, o3] [] := by
  refine zi_iconst dX1_refusal_7 (by decide +kernel : Int32.ofInt (1) = (1 : Int32)) ?_
  exact zi_goto (tgt := 12) dX1_refusal_8 (by decide +kernel) kk
theorem sX1_refusal_11 {g : ZG} {Q : ZQ} {d cN sN : Nat} {M : ZM} {o0 o1 o2 o3 : Option Value}  (kk : Z g kX1_refusal Q d cN sN M 12 [o0, o1, o2, o3] [.int 0]) : Z g kX1_refusal Q d cN sN M 11 [o0, o1, o2, o3] [] := by
  refine zi_iconst dX1_refusal_11 (by decide +kernel : Int32.ofInt (0) = (0 : Int32)) ?_
  exact kk
theorem sX1_refusal_15 {g : ZG} {Q : ZQ} {d cN sN : Nat} {M : ZM} {l1 : Int32} {o0 o2 o3 : Option Value}  (kt : (l1 : Int32) = 0 → Z g kX1_refusal Q d cN sN M 29 [o0, some (.int l1), o2, o3] []) (kf : ¬ (l1 : Int32) = 0 → Z g kX1_refusal Q d cN sN M 19 [o0, some (.int l1), o2, o3] []) : Z g kX1_refusal Q d cN sN M 15 [o0, some (.int l1), o2, o3] [] := by
  refine zi_iload_n dX1_refusal_15 rfl ?_
  exact zi_if_eq (tgt := 29) dX1_refusal_16 (by decide +kernel) kt kf
theorem sX1_refusal_19 {g : ZG} {Q : ZQ} {d cN sN : Nat} {M : ZM} {l0 : Nat} {fs1 : List Value} {r3 : Nat} {fs5 : List Value} {r7 : Value} {o1 o2 o3 : Option Value} (h2 : M.1 l0 = some (.inr (0, fs1))) (h4 : (fs1)[11]? = some (.ref r3)) (h6 : M.1 r3 = some (.inr (6, fs5))) (zr7 : zrf r7) (h8 : (fs5)[2]? = some (r7)) (kk : Z g kX1_refusal Q d cN sN M 33 [some (.ref l0), o1, o2, o3] [r7]) : Z g kX1_refusal Q d cN sN M 19 [some (.ref l0), o1, o2, o3] [] := by
  refine zi_aload_n dX1_refusal_19 rfl zrf_r ?_
  refine zi_getfield dX1_refusal_20 rfl h2 h4 ?_
  refine zi_getfield dX1_refusal_23 rfl h6 h8 ?_
  exact zi_goto (tgt := 33) dX1_refusal_26 (by decide +kernel) kk
theorem sX1_refusal_29 {g : ZG} {Q : ZQ} {d cN sN : Nat} {M : ZM} {l0 : Nat} {fs1 : List Value} {r3 : Value} {o1 o2 o3 : Option Value} (h2 : M.1 l0 = some (.inr (0, fs1))) (zr3 : zrf r3) (h4 : (fs1)[11]? = some (r3)) (kk : Z g kX1_refusal Q d cN sN M 33 [some (.ref l0), o1, o2, o3] [r3]) : Z g kX1_refusal Q d cN sN M 29 [some (.ref l0), o1, o2, o3] [] := by
  refine zi_aload_n dX1_refusal_29 rfl zrf_r ?_
  refine zi_getfield dX1_refusal_30 rfl h2 h4 ?_
  exact kk
theorem sX1_refusal_33 {g : ZG} {Q : ZQ} {d cN sN : Nat} {M : ZM} {t0 : Value} {o0 o1 o2 o3 : Option Value} (zt0 : zrf t0) (kt : ((t0 : Value) = .null) → Z g kX1_refusal Q d cN sN M 42 [o0, o1, o2, some (t0)] []) (kf : (∃ a, (t0 : Value) = .ref a) → Z g kX1_refusal Q d cN sN M 38 [o0, o1, o2, some (t0)] []) : Z g kX1_refusal Q d cN sN M 33 [o0, o1, o2, o3] [t0] := by
  refine zi_astore_n dX1_refusal_33 zt0 (Nat.le_of_ble_eq_true rfl) ?_
  refine zi_aload_n dX1_refusal_34 rfl zt0 ?_
  exact zi_ifnull (tgt := 42) dX1_refusal_35 (by decide +kernel) zt0 kt kf
theorem sX1_refusal_38 {g : ZG} {Q : ZQ} {d cN sN : Nat} {M : ZM} {o0 o1 o2 o3 : Option Value}  (kk : Z g kX1_refusal Q d cN sN M 43 [o0, o1, o2, o3] [.int 1]) : Z g kX1_refusal Q d cN sN M 38 [o0, o1, o2, o3] [] := by
  refine zi_iconst dX1_refusal_38 (by decide +kernel : Int32.ofInt (1) = (1 : Int32)) ?_
  exact zi_goto (tgt := 43) dX1_refusal_39 (by decide +kernel) kk
theorem sX1_refusal_42 {g : ZG} {Q : ZQ} {d cN sN : Nat} {M : ZM} {o0 o1 o2 o3 : Option Value}  (kk : Z g kX1_refusal Q d cN sN M 43 [o0, o1, o2, o3] [.int 0]) : Z g kX1_refusal Q d cN sN M 42 [o0, o1, o2, o3] [] := by
  refine zi_iconst dX1_refusal_42 (by decide +kernel : Int32.ofInt (0) = (0 : Int32)) ?_
  exact kk
theorem sX1_refusal_46 {g : ZG} {Q : ZQ} {d cN sN : Nat} {M : ZM} {l3 : Value} {l2 : Int32} {o0 o1 : Option Value} (zl3 : zrf l3) (kk : Z g kX1_refusal Q d cN sN M 48 [o0, o1, some (.int l2), some (l3)] [.int l2, l3]) : Z g kX1_refusal Q d cN sN M 46 [o0, o1, some (.int l2), some (l3)] [] := by
  refine zi_aload_n dX1_refusal_46 rfl zl3 ?_
  refine zi_iload_n dX1_refusal_47 rfl ?_
  exact kk
theorem sX1_refusal_51 {g : ZG} {Q : ZQ} {d cN sN : Nat} {M : ZM} {t0 : Int32} {o0 o1 o2 o3 : Option Value}  (kk : Q.1 (some (.int t0)) M) : Z g kX1_refusal Q d cN sN M 51 [o0, o1, o2, o3] [.int t0] := by
  exact zi_ireturn dX1_refusal_51 rfl rfl kk
abbrev kX1_account : ZK := (RX1, cX1_account, 3, (Option.some Jvm.ClassFile.FieldType.int), [], false, fX1)
abbrev tX1_account (g : ZG) (args : List Value) (M : ZM) (d c s : Nat) (Q : ZQ) : Prop := Ct g yX1_account (ws_ yX1_account cX1_account 3 (Option.some Jvm.ClassFile.FieldType.int)) args M d c s Q
abbrev nX1_account : Nat := 9
theorem mX1_account : zMok yX1_account 1 3 := ⟨⟨by decide +kernel, by decide +kernel, by decide +kernel⟩, by decide⟩
theorem eX1_account {g : ZG} {Q : ZQ} {d cN sN : Nat} {M : ZM} {a0 : Nat} {x1 : Int32} (hV : zV g) (h : Z g kX1_account Q d cN sN M 0 [some (.ref a0), some (.int x1), none] []) : tX1_account g [.ref a0, .int x1] M d cN sN Q := Ct.of (K := kX1_account) rfl (by decide +kernel) hV fokX1 rfl (fun h => by cases h) (fun v hv => by simp only [List.mem_cons, List.not_mem_nil, or_false] at hv; rcases hv with rfl | rfl <;> first | rfl | assumption) (Nat.le_of_ble_eq_true rfl) h
theorem sX1_account_0 {g : ZG} {Q : ZQ} {d cN sN : Nat} {M : ZM} {l1 : Int32} {o0 o2 : Option Value}  (kk : Z g kX1_account Q d cN sN M 4 [o0, some (.int l1), o2] [.int 14, .int 0, .int l1]) : Z g kX1_account Q d cN sN M 0 [o0, some (.int l1), o2] [] := by
  refine zi_iload_n dX1_account_0 rfl ?_
  refine zi_iconst dX1_account_1 (by decide +kernel : Int32.ofInt (0) = (0 : Int32)) ?_
  refine zi_bipush dX1_account_2 (by decide +kernel : (Int8.ofInt (14)).toInt32 = (14 : Int32)) ?_
  exact kk
theorem sX1_account_10 {g : ZG} {Q : ZQ} {d cN sN : Nat} {M : ZM} {l0 : Nat} {fs1 : List Value} {r3 : Nat} {l1 : Int32} {o2 : Option Value} (h2 : M.1 l0 = some (.inr (0, fs1))) (h4 : (fs1)[0]? = some (.ref r3)) (kk : Z g kX1_account Q d cN sN M 16 [some (.ref l0), some (.int l1), some (.ref r3)] [.int l1]) : Z g kX1_account Q d cN sN M 10 [some (.ref l0), some (.int l1), o2] [] := by
  refine zi_aload_n dX1_account_10 rfl zrf_r ?_
  refine zi_getfield dX1_account_11 rfl h2 h4 ?_
  refine zi_astore_n dX1_account_14 zrf_r (Nat.le_of_ble_eq_true rfl) ?_
  refine zi_iload_n dX1_account_15 rfl ?_
  exact kk
theorem sX1_account_88 {g : ZG} {Q : ZQ} {d cN sN : Nat} {M : ZM} {l2 : Nat} {fs1 : List Value} {y3 : Int32} {o0 o1 : Option Value} (h2 : M.1 l2 = some (.inr (1, fs1))) (h4 : (fs1)[1]? = some (.int y3)) (kk : Q.1 (some (.int y3)) M) : Z g kX1_account Q d cN sN M 88 [o0, o1, some (.ref l2)] [] := by
  refine zi_aload_n dX1_account_88 rfl zrf_r ?_
  refine zi_getfield dX1_account_89 rfl h2 h4 ?_
  exact zi_ireturn dX1_account_92 rfl rfl kk
theorem sX1_account_93 {g : ZG} {Q : ZQ} {d cN sN : Nat} {M : ZM} {l2 : Nat} {fs1 : List Value} {y3 : Int32} {o0 o1 : Option Value} (h2 : M.1 l2 = some (.inr (1, fs1))) (h4 : (fs1)[3]? = some (.int y3)) (kk : Q.1 (some (.int y3)) M) : Z g kX1_account Q d cN sN M 93 [o0, o1, some (.ref l2)] [] := by
  refine zi_aload_n dX1_account_93 rfl zrf_r ?_
  refine zi_getfield dX1_account_94 rfl h2 h4 ?_
  exact zi_ireturn dX1_account_97 rfl rfl kk
theorem sX1_account_98 {g : ZG} {Q : ZQ} {d cN sN : Nat} {M : ZM} {l2 : Nat} {fs1 : List Value} {y3 : Int32} {o0 o1 : Option Value} (h2 : M.1 l2 = some (.inr (1, fs1))) (h4 : (fs1)[5]? = some (.int y3)) (kk : Q.1 (some (.int y3)) M) : Z g kX1_account Q d cN sN M 98 [o0, o1, some (.ref l2)] [] := by
  refine zi_aload_n dX1_account_98 rfl zrf_r ?_
  refine zi_getfield dX1_account_99 rfl h2 h4 ?_
  exact zi_ireturn dX1_account_102 rfl rfl kk
theorem sX1_account_103 {g : ZG} {Q : ZQ} {d cN sN : Nat} {M : ZM} {l2 : Nat} {fs1 : List Value} {y3 : Int32} {o0 o1 : Option Value} (h2 : M.1 l2 = some (.inr (1, fs1))) (h4 : (fs1)[9]? = some (.int y3)) (kk : Q.1 (some (.int y3)) M) : Z g kX1_account Q d cN sN M 103 [o0, o1, some (.ref l2)] [] := by
  refine zi_aload_n dX1_account_103 rfl zrf_r ?_
  refine zi_getfield dX1_account_104 rfl h2 h4 ?_
  exact zi_ireturn dX1_account_107 rfl rfl kk
theorem sX1_account_108 {g : ZG} {Q : ZQ} {d cN sN : Nat} {M : ZM} {l2 : Nat} {fs1 : List Value} {y3 : Int32} {o0 o1 : Option Value} (h2 : M.1 l2 = some (.inr (1, fs1))) (h4 : (fs1)[10]? = some (.int y3)) (kk : Q.1 (some (.int y3)) M) : Z g kX1_account Q d cN sN M 108 [o0, o1, some (.ref l2)] [] := by
  refine zi_aload_n dX1_account_108 rfl zrf_r ?_
  refine zi_getfield dX1_account_109 rfl h2 h4 ?_
  exact zi_ireturn dX1_account_112 rfl rfl kk
theorem sX1_account_113 {g : ZG} {Q : ZQ} {d cN sN : Nat} {M : ZM} {l2 : Nat} {o0 o1 : Option Value}  (kk : Z g kX1_account Q d cN sN M 115 [o0, o1, some (.ref l2)] [.int 1, .ref l2]) : Z g kX1_account Q d cN sN M 113 [o0, o1, some (.ref l2)] [] := by
  refine zi_aload_n dX1_account_113 rfl zrf_r ?_
  refine zi_iconst dX1_account_114 (by decide +kernel : Int32.ofInt (1) = (1 : Int32)) ?_
  exact kk
theorem sX1_account_118 {g : ZG} {Q : ZQ} {d cN sN : Nat} {M : ZM} {t0 : Int32} {o0 o1 o2 : Option Value}  (kk : Q.1 (some (.int t0)) M) : Z g kX1_account Q d cN sN M 118 [o0, o1, o2] [.int t0] := by
  exact zi_ireturn dX1_account_118 rfl rfl kk
theorem sX1_account_119 {g : ZG} {Q : ZQ} {d cN sN : Nat} {M : ZM} {l2 : Nat} {o0 o1 : Option Value}  (kk : Z g kX1_account Q d cN sN M 121 [o0, o1, some (.ref l2)] [.int 2, .ref l2]) : Z g kX1_account Q d cN sN M 119 [o0, o1, some (.ref l2)] [] := by
  refine zi_aload_n dX1_account_119 rfl zrf_r ?_
  refine zi_iconst dX1_account_120 (by decide +kernel : Int32.ofInt (2) = (2 : Int32)) ?_
  exact kk
theorem sX1_account_124 {g : ZG} {Q : ZQ} {d cN sN : Nat} {M : ZM} {t0 : Int32} {o0 o1 o2 : Option Value}  (kk : Q.1 (some (.int t0)) M) : Z g kX1_account Q d cN sN M 124 [o0, o1, o2] [.int t0] := by
  exact zi_ireturn dX1_account_124 rfl rfl kk
theorem sX1_account_125 {g : ZG} {Q : ZQ} {d cN sN : Nat} {M : ZM} {l2 : Nat} {o0 o1 : Option Value}  (kk : Z g kX1_account Q d cN sN M 127 [o0, o1, some (.ref l2)] [.int 3, .ref l2]) : Z g kX1_account Q d cN sN M 125 [o0, o1, some (.ref l2)] [] := by
  refine zi_aload_n dX1_account_125 rfl zrf_r ?_
  refine zi_iconst dX1_account_126 (by decide +kernel : Int32.ofInt (3) = (3 : Int32)) ?_
  exact kk
theorem sX1_account_130 {g : ZG} {Q : ZQ} {d cN sN : Nat} {M : ZM} {t0 : Int32} {o0 o1 o2 : Option Value}  (kk : Q.1 (some (.int t0)) M) : Z g kX1_account Q d cN sN M 130 [o0, o1, o2] [.int t0] := by
  exact zi_ireturn dX1_account_130 rfl rfl kk
theorem sX1_account_131 {g : ZG} {Q : ZQ} {d cN sN : Nat} {M : ZM} {l2 : Nat} {fs1 : List Value} {y3 : Int32} {o0 o1 : Option Value} (h2 : M.1 l2 = some (.inr (1, fs1))) (h4 : (fs1)[11]? = some (.int y3)) (kk : Q.1 (some (.int y3)) M) : Z g kX1_account Q d cN sN M 131 [o0, o1, some (.ref l2)] [] := by
  refine zi_aload_n dX1_account_131 rfl zrf_r ?_
  refine zi_getfield dX1_account_132 rfl h2 h4 ?_
  exact zi_ireturn dX1_account_135 rfl rfl kk
theorem sX1_account_136 {g : ZG} {Q : ZQ} {d cN sN : Nat} {M : ZM} {l2 : Nat} {fs1 : List Value} {y3 : Int32} {o0 o1 : Option Value} (h2 : M.1 l2 = some (.inr (1, fs1))) (h4 : (fs1)[12]? = some (.int y3)) (kk : Q.1 (some (.int y3)) M) : Z g kX1_account Q d cN sN M 136 [o0, o1, some (.ref l2)] [] := by
  refine zi_aload_n dX1_account_136 rfl zrf_r ?_
  refine zi_getfield dX1_account_137 rfl h2 h4 ?_
  exact zi_ireturn dX1_account_140 rfl rfl kk
theorem sX1_account_141 {g : ZG} {Q : ZQ} {d cN sN : Nat} {M : ZM} {l2 : Nat} {fs1 : List Value} {y3 : Int32} {o0 o1 : Option Value} (h2 : M.1 l2 = some (.inr (1, fs1))) (h4 : (fs1)[13]? = some (.int y3)) (kk : Q.1 (some (.int y3)) M) : Z g kX1_account Q d cN sN M 141 [o0, o1, some (.ref l2)] [] := by
  refine zi_aload_n dX1_account_141 rfl zrf_r ?_
  refine zi_getfield dX1_account_142 rfl h2 h4 ?_
  exact zi_ireturn dX1_account_145 rfl rfl kk
theorem sX1_account_146 {g : ZG} {Q : ZQ} {d cN sN : Nat} {M : ZM} {l2 : Nat} {fs1 : List Value} {y3 : Int32} {o0 o1 : Option Value} (h2 : M.1 l2 = some (.inr (1, fs1))) (h4 : (fs1)[14]? = some (.int y3)) (kk : Q.1 (some (.int y3)) M) : Z g kX1_account Q d cN sN M 146 [o0, o1, some (.ref l2)] [] := by
  refine zi_aload_n dX1_account_146 rfl zrf_r ?_
  refine zi_getfield dX1_account_147 rfl h2 h4 ?_
  exact zi_ireturn dX1_account_150 rfl rfl kk
theorem sX1_account_151 {g : ZG} {Q : ZQ} {d cN sN : Nat} {M : ZM} {l2 : Nat} {o0 o1 : Option Value}  (kk : Z g kX1_account Q d cN sN M 152 [o0, o1, some (.ref l2)] [.ref l2]) : Z g kX1_account Q d cN sN M 151 [o0, o1, some (.ref l2)] [] := by
  refine zi_aload_n dX1_account_151 rfl zrf_r ?_
  exact kk
theorem sX1_account_155 {g : ZG} {Q : ZQ} {d cN sN : Nat} {M : ZM} {t0 : Int32} {o0 o1 o2 : Option Value}  (kk : Q.1 (some (.int t0)) M) : Z g kX1_account Q d cN sN M 155 [o0, o1, o2] [.int t0] := by
  exact zi_ireturn dX1_account_155 rfl rfl kk
theorem sX1_account_156 {g : ZG} {Q : ZQ} {d cN sN : Nat} {M : ZM} {l0 : Nat} {fs1 : List Value} {r3 : Nat} {o1 o2 : Option Value} (h2 : M.1 l0 = some (.inr (0, fs1))) (h4 : (fs1)[7]? = some (.ref r3)) (kk : Z g kX1_account Q d cN sN M 160 [some (.ref l0), o1, o2] [.ref r3]) : Z g kX1_account Q d cN sN M 156 [some (.ref l0), o1, o2] [] := by
  refine zi_aload_n dX1_account_156 rfl zrf_r ?_
  refine zi_getfield dX1_account_157 rfl h2 h4 ?_
  exact kk
theorem sX1_account_163 {g : ZG} {Q : ZQ} {d cN sN : Nat} {M : ZM} {t0 : Int32} {o0 o1 o2 : Option Value}  (kk : Q.1 (some (.int t0)) M) : Z g kX1_account Q d cN sN M 163 [o0, o1, o2] [.int t0] := by
  exact zi_ireturn dX1_account_163 rfl rfl kk
theorem sX1_account_164 {g : ZG} {Q : ZQ} {d cN sN : Nat} {M : ZM} {l0 : Nat} {fs1 : List Value} {r3 : Nat} {o1 o2 : Option Value} (h2 : M.1 l0 = some (.inr (0, fs1))) (h4 : (fs1)[5]? = some (.ref r3)) (kk : Z g kX1_account Q d cN sN M 168 [some (.ref l0), o1, o2] [.ref r3]) : Z g kX1_account Q d cN sN M 164 [some (.ref l0), o1, o2] [] := by
  refine zi_aload_n dX1_account_164 rfl zrf_r ?_
  refine zi_getfield dX1_account_165 rfl h2 h4 ?_
  exact kk
theorem sX1_account_171 {g : ZG} {Q : ZQ} {d cN sN : Nat} {M : ZM} {t0 : Int32} {o0 o1 o2 : Option Value}  (kk : Q.1 (some (.int t0)) M) : Z g kX1_account Q d cN sN M 171 [o0, o1, o2] [.int t0] := by
  exact zi_ireturn dX1_account_171 rfl rfl kk
abbrev kX1_meanShame : ZK := (RX1, cX1_meanShame, 1, (Option.some Jvm.ClassFile.FieldType.double), [], false, fX1)
abbrev tX1_meanShame (g : ZG) (args : List Value) (M : ZM) (d c s : Nat) (Q : ZQ) : Prop := Ct g yX1_meanShame (ws_ yX1_meanShame cX1_meanShame 1 (Option.some Jvm.ClassFile.FieldType.double)) args M d c s Q
abbrev nX1_meanShame : Nat := 9
theorem mX1_meanShame : zMok yX1_meanShame 0 1 := ⟨⟨by decide +kernel, by decide +kernel, by decide +kernel⟩, by decide⟩
theorem eX1_meanShame {g : ZG} {Q : ZQ} {d cN sN : Nat} {M : ZM} {a0 : Nat} (hV : zV g) (h : Z g kX1_meanShame Q d cN sN M 0 [some (.ref a0)] []) : tX1_meanShame g [.ref a0] M d cN sN Q := Ct.of (K := kX1_meanShame) rfl (by decide +kernel) hV fokX1 rfl (fun h => by cases h) (fun v hv => by simp only [List.mem_cons, List.not_mem_nil, or_false] at hv; rcases hv with rfl <;> first | rfl | assumption) (Nat.le_of_ble_eq_true rfl) h
theorem sX1_meanShame_0 {g : ZG} {Q : ZQ} {d cN sN : Nat} {M : ZM} {l0 : Nat} {fs1 : List Value} {r3 : Nat} {fs5 : List Value} {y7 : Int32} (h2 : M.1 l0 = some (.inr (0, fs1))) (h4 : (fs1)[0]? = some (.ref r3)) (h6 : M.1 r3 = some (.inr (1, fs5))) (h8 : (fs5)[1]? = some (.int y7)) (kt : (y7 : Int32) ≤ 0 → Z g kX1_meanShame Q d cN sN M 14 [some (.ref l0)] []) (kf : ¬ (y7 : Int32) ≤ 0 → Z g kX1_meanShame Q d cN sN M 10 [some (.ref l0)] []) : Z g kX1_meanShame Q d cN sN M 0 [some (.ref l0)] [] := by
  refine zi_aload_n dX1_meanShame_0 rfl zrf_r ?_
  refine zi_getfield dX1_meanShame_1 rfl h2 h4 ?_
  refine zi_getfield dX1_meanShame_4 rfl h6 h8 ?_
  exact zi_if_le (tgt := 14) dX1_meanShame_7 (by decide +kernel) kt kf
theorem sX1_meanShame_10 {g : ZG} {Q : ZQ} {d cN sN : Nat} {M : ZM} {o0 : Option Value}  (kk : Z g kX1_meanShame Q d cN sN M 15 [o0] [.int 1]) : Z g kX1_meanShame Q d cN sN M 10 [o0] [] := by
  refine zi_iconst dX1_meanShame_10 (by decide +kernel : Int32.ofInt (1) = (1 : Int32)) ?_
  exact zi_goto (tgt := 15) dX1_meanShame_11 (by decide +kernel) kk
theorem sX1_meanShame_14 {g : ZG} {Q : ZQ} {d cN sN : Nat} {M : ZM} {o0 : Option Value}  (kk : Z g kX1_meanShame Q d cN sN M 15 [o0] [.int 0]) : Z g kX1_meanShame Q d cN sN M 14 [o0] [] := by
  refine zi_iconst dX1_meanShame_14 (by decide +kernel : Int32.ofInt (0) = (0 : Int32)) ?_
  exact kk
theorem sX1_meanShame_18 {g : ZG} {Q : ZQ} {d cN sN : Nat} {M : ZM} {l0 : Nat} {fs1 : List Value} {r3 : Nat} (h2 : M.1 l0 = some (.inr (0, fs1))) (h4 : (fs1)[0]? = some (.ref r3)) (kk : Z g kX1_meanShame Q d cN sN M 22 [some (.ref l0)] [.ref r3]) : Z g kX1_meanShame Q d cN sN M 18 [some (.ref l0)] [] := by
  refine zi_aload_n dX1_meanShame_18 rfl zrf_r ?_
  refine zi_getfield dX1_meanShame_19 rfl h2 h4 ?_
  exact kk
theorem sX1_meanShame_25 {g : ZG} {Q : ZQ} {d cN sN : Nat} {M : ZM} {t0 : Int32} {l0 : Nat} {fs1 : List Value} {r3 : Nat} {fs5 : List Value} {y7 : Int32} (h2 : M.1 l0 = some (.inr (0, fs1))) (h4 : (fs1)[0]? = some (.ref r3)) (h6 : M.1 r3 = some (.inr (1, fs5))) (h8 : (fs5)[1]? = some (.int y7)) (h9 : vf_n64 (FP.ddiv (FP.i2d (t0 : Int32)) (FP.i2d (y7 : Int32)))) (kk : Q.1 (some (.double (FP.ddiv (FP.i2d (t0 : Int32)) (FP.i2d (y7 : Int32))))) M) : Z g kX1_meanShame Q d cN sN M 25 [some (.ref l0)] [.int t0] := by
  refine zi_i2d dX1_meanShame_25 ?_
  refine zi_aload_n dX1_meanShame_26 rfl zrf_r ?_
  refine zi_getfield dX1_meanShame_27 rfl h2 h4 ?_
  refine zi_getfield dX1_meanShame_30 rfl h6 h8 ?_
  refine zi_i2d dX1_meanShame_33 ?_
  refine zi_ddiv dX1_meanShame_34 h9 ?_
  exact zi_dreturn dX1_meanShame_35 rfl kk
abbrev kX1_checkAny : ZK := (RX1, cX1_checkAny, 1, (Option.none : Option Jvm.ClassFile.FieldType), [], false, fX1)
abbrev tX1_checkAny (g : ZG) (args : List Value) (M : ZM) (d c s : Nat) (Q : ZQ) : Prop := Ct g yX1_checkAny (ws_ yX1_checkAny cX1_checkAny 1 (Option.none : Option Jvm.ClassFile.FieldType)) args M d c s Q
abbrev nX1_checkAny : Nat := 8
theorem mX1_checkAny : zMok yX1_checkAny 1 1 := ⟨⟨by decide +kernel, by decide +kernel, by decide +kernel⟩, by decide⟩
theorem eX1_checkAny {g : ZG} {Q : ZQ} {d cN sN : Nat} {M : ZM} {x1 : Int32} (hV : zV g) (h : Z g kX1_checkAny Q d cN sN M 0 [some (.int x1)] []) : tX1_checkAny g [.int x1] M d cN sN Q := Ct.of (K := kX1_checkAny) rfl (by decide +kernel) hV fokX1 rfl (fun h => by cases h) (fun v hv => by simp only [List.mem_cons, List.not_mem_nil, or_false] at hv; rcases hv with rfl <;> first | rfl | assumption) (Nat.le_of_ble_eq_true rfl) h
theorem sX1_checkAny_0 {g : ZG} {Q : ZQ} {d cN sN : Nat} {M : ZM} {l0 : Int32}  (kt : ¬ (l0 : Int32) = 0 → Z g kX1_checkAny Q d cN sN M 12 [some (.int l0)] []) (kf : (l0 : Int32) = 0 → Z g kX1_checkAny Q d cN sN M 4 [some (.int l0)] []) : Z g kX1_checkAny Q d cN sN M 0 [some (.int l0)] [] := by
  refine zi_iload_n dX1_checkAny_0 rfl ?_
  exact zi_if_ne (tgt := 12) dX1_checkAny_1 (by decide +kernel) kt kf
theorem sX1_checkAny_7 {g : ZG} {Q : ZQ} {d cN sN : Nat} {M : ZM} {t0 : Nat} {o0 : Option Value}  (kk : Z g kX1_checkAny Q d cN sN M 8 [o0] [.ref t0, .ref t0]) : Z g kX1_checkAny Q d cN sN M 7 [o0] [.ref t0] := by
  refine zi_dup dX1_checkAny_7 rfl ?_
  exact kk
theorem sX1_checkAny_12 {g : ZG} {Q : ZQ} {d cN sN : Nat} {M : ZM} {o0 : Option Value}  (kk : Q.1 none M) : Z g kX1_checkAny Q d cN sN M 12 [o0] [] := by
  exact zi_return dX1_checkAny_12 rfl kk
abbrev kX1_errorShare : ZK := (RX1, cX1_errorShare, 1, (Option.some Jvm.ClassFile.FieldType.float), [], false, fX1)
abbrev tX1_errorShare (g : ZG) (args : List Value) (M : ZM) (d c s : Nat) (Q : ZQ) : Prop := Ct g yX1_errorShare (ws_ yX1_errorShare cX1_errorShare 1 (Option.some Jvm.ClassFile.FieldType.float)) args M d c s Q
abbrev nX1_errorShare : Nat := 9
theorem mX1_errorShare : zMok yX1_errorShare 0 1 := ⟨⟨by decide +kernel, by decide +kernel, by decide +kernel⟩, by decide⟩
theorem eX1_errorShare {g : ZG} {Q : ZQ} {d cN sN : Nat} {M : ZM} {a0 : Nat} (hV : zV g) (h : Z g kX1_errorShare Q d cN sN M 0 [some (.ref a0)] []) : tX1_errorShare g [.ref a0] M d cN sN Q := Ct.of (K := kX1_errorShare) rfl (by decide +kernel) hV fokX1 rfl (fun h => by cases h) (fun v hv => by simp only [List.mem_cons, List.not_mem_nil, or_false] at hv; rcases hv with rfl <;> first | rfl | assumption) (Nat.le_of_ble_eq_true rfl) h
theorem sX1_errorShare_0 {g : ZG} {Q : ZQ} {d cN sN : Nat} {M : ZM} {l0 : Nat} {fs1 : List Value} {r3 : Nat} {fs5 : List Value} {y7 : Int32} (h2 : M.1 l0 = some (.inr (0, fs1))) (h4 : (fs1)[0]? = some (.ref r3)) (h6 : M.1 r3 = some (.inr (1, fs5))) (h8 : (fs5)[3]? = some (.int y7)) (kt : (y7 : Int32) ≤ 0 → Z g kX1_errorShare Q d cN sN M 14 [some (.ref l0)] []) (kf : ¬ (y7 : Int32) ≤ 0 → Z g kX1_errorShare Q d cN sN M 10 [some (.ref l0)] []) : Z g kX1_errorShare Q d cN sN M 0 [some (.ref l0)] [] := by
  refine zi_aload_n dX1_errorShare_0 rfl zrf_r ?_
  refine zi_getfield dX1_errorShare_1 rfl h2 h4 ?_
  refine zi_getfield dX1_errorShare_4 rfl h6 h8 ?_
  exact zi_if_le (tgt := 14) dX1_errorShare_7 (by decide +kernel) kt kf
theorem sX1_errorShare_10 {g : ZG} {Q : ZQ} {d cN sN : Nat} {M : ZM} {o0 : Option Value}  (kk : Z g kX1_errorShare Q d cN sN M 15 [o0] [.int 1]) : Z g kX1_errorShare Q d cN sN M 10 [o0] [] := by
  refine zi_iconst dX1_errorShare_10 (by decide +kernel : Int32.ofInt (1) = (1 : Int32)) ?_
  exact zi_goto (tgt := 15) dX1_errorShare_11 (by decide +kernel) kk
theorem sX1_errorShare_14 {g : ZG} {Q : ZQ} {d cN sN : Nat} {M : ZM} {o0 : Option Value}  (kk : Z g kX1_errorShare Q d cN sN M 15 [o0] [.int 0]) : Z g kX1_errorShare Q d cN sN M 14 [o0] [] := by
  refine zi_iconst dX1_errorShare_14 (by decide +kernel : Int32.ofInt (0) = (0 : Int32)) ?_
  exact kk
theorem sX1_errorShare_18 {g : ZG} {Q : ZQ} {d cN sN : Nat} {M : ZM} {l0 : Nat} {fs1 : List Value} {r3 : Nat} (h2 : M.1 l0 = some (.inr (0, fs1))) (h4 : (fs1)[0]? = some (.ref r3)) (kk : Z g kX1_errorShare Q d cN sN M 23 [some (.ref l0)] [.int 1, .ref r3]) : Z g kX1_errorShare Q d cN sN M 18 [some (.ref l0)] [] := by
  refine zi_aload_n dX1_errorShare_18 rfl zrf_r ?_
  refine zi_getfield dX1_errorShare_19 rfl h2 h4 ?_
  refine zi_iconst dX1_errorShare_22 (by decide +kernel : Int32.ofInt (1) = (1 : Int32)) ?_
  exact kk
theorem sX1_errorShare_26 {g : ZG} {Q : ZQ} {d cN sN : Nat} {M : ZM} {t0 : Int32} {l0 : Nat} {fs1 : List Value} {r3 : Nat} (h2 : M.1 l0 = some (.inr (0, fs1))) (h4 : (fs1)[0]? = some (.ref r3)) (kk : Z g kX1_errorShare Q d cN sN M 31 [some (.ref l0)] [.ref r3, .float (FP.i2f (t0 : Int32))]) : Z g kX1_errorShare Q d cN sN M 26 [some (.ref l0)] [.int t0] := by
  refine zi_i2f dX1_errorShare_26 ?_
  refine zi_aload_n dX1_errorShare_27 rfl zrf_r ?_
  refine zi_getfield dX1_errorShare_28 rfl h2 h4 ?_
  exact kk
theorem sX1_errorShare_34 {g : ZG} {Q : ZQ} {d cN sN : Nat} {M : ZM} {t0 : UInt32} {t1 : Int32} {o0 : Option Value} (h1 : vf_n32 (FP.fdiv (t0) (FP.i2f (t1 : Int32)))) (kk : Q.1 (some (.float (FP.fdiv (t0) (FP.i2f (t1 : Int32))))) M) : Z g kX1_errorShare Q d cN sN M 34 [o0] [.int t1, .float (t0)] := by
  refine zi_i2f dX1_errorShare_34 ?_
  refine zi_fdiv dX1_errorShare_35 h1 ?_
  exact zi_freturn dX1_errorShare_36 rfl kk
abbrev kX1_undo : ZK := (RX1, cX1_undo, 2, (Option.some Jvm.ClassFile.FieldType.int), [], false, fX1)
abbrev tX1_undo (g : ZG) (args : List Value) (M : ZM) (d c s : Nat) (Q : ZQ) : Prop := Ct g yX1_undo (ws_ yX1_undo cX1_undo 2 (Option.some Jvm.ClassFile.FieldType.int)) args M d c s Q
abbrev nX1_undo : Nat := 11
theorem mX1_undo : zMok yX1_undo 0 2 := ⟨⟨by decide +kernel, by decide +kernel, by decide +kernel⟩, by decide⟩
theorem eX1_undo {g : ZG} {Q : ZQ} {d cN sN : Nat} {M : ZM} {a0 : Nat} (hV : zV g) (h : Z g kX1_undo Q d cN sN M 0 [some (.ref a0), none] []) : tX1_undo g [.ref a0] M d cN sN Q := Ct.of (K := kX1_undo) rfl (by decide +kernel) hV fokX1 rfl (fun h => by cases h) (fun v hv => by simp only [List.mem_cons, List.not_mem_nil, or_false] at hv; rcases hv with rfl <;> first | rfl | assumption) (Nat.le_of_ble_eq_true rfl) h
theorem sX1_undo_0 {g : ZG} {Q : ZQ} {d cN sN : Nat} {M : ZM} {l0 : Nat} {fs1 : List Value} {r3 : Nat} {o1 : Option Value} (h2 : M.1 l0 = some (.inr (0, fs1))) (h4 : (fs1)[5]? = some (.ref r3)) (kk : Z g kX1_undo Q d cN sN M 4 [some (.ref l0), o1] [.ref r3]) : Z g kX1_undo Q d cN sN M 0 [some (.ref l0), o1] [] := by
  refine zi_aload_n dX1_undo_0 rfl zrf_r ?_
  refine zi_getfield dX1_undo_1 rfl h2 h4 ?_
  exact kk
theorem sX1_undo_7 {g : ZG} {Q : ZQ} {d cN sN : Nat} {M : ZM} {t0 : Int32} {o0 o1 : Option Value}  (kt : ¬ (t0 : Int32) = 0 → Z g kX1_undo Q d cN sN M 14 [o0, o1] []) (kf : (t0 : Int32) = 0 → Z g kX1_undo Q d cN sN M 10 [o0, o1] []) : Z g kX1_undo Q d cN sN M 7 [o0, o1] [.int t0] := by
  exact zi_if_ne (tgt := 14) dX1_undo_7 (by decide +kernel) kt kf
theorem sX1_undo_10 {g : ZG} {Q : ZQ} {d cN sN : Nat} {M : ZM} {o0 o1 : Option Value}  (kk : Z g kX1_undo Q d cN sN M 15 [o0, o1] [.int 1]) : Z g kX1_undo Q d cN sN M 10 [o0, o1] [] := by
  refine zi_iconst dX1_undo_10 (by decide +kernel : Int32.ofInt (1) = (1 : Int32)) ?_
  exact zi_goto (tgt := 15) dX1_undo_11 (by decide +kernel) kk
theorem sX1_undo_14 {g : ZG} {Q : ZQ} {d cN sN : Nat} {M : ZM} {o0 o1 : Option Value}  (kk : Z g kX1_undo Q d cN sN M 15 [o0, o1] [.int 0]) : Z g kX1_undo Q d cN sN M 14 [o0, o1] [] := by
  refine zi_iconst dX1_undo_14 (by decide +kernel : Int32.ofInt (0) = (0 : Int32)) ?_
  exact kk
theorem sX1_undo_18 {g : ZG} {Q : ZQ} {d cN sN : Nat} {M : ZM} {l0 : Nat} {fs1 : List Value} {r3 : Nat} {o1 : Option Value} (h2 : M.1 l0 = some (.inr (0, fs1))) (h4 : (fs1)[5]? = some (.ref r3)) (kk : Z g kX1_undo Q d cN sN M 22 [some (.ref l0), o1] [.ref r3]) : Z g kX1_undo Q d cN sN M 18 [some (.ref l0), o1] [] := by
  refine zi_aload_n dX1_undo_18 rfl zrf_r ?_
  refine zi_getfield dX1_undo_19 rfl h2 h4 ?_
  exact kk
theorem sX1_undo_28 {g : ZG} {Q : ZQ} {d cN sN : Nat} {M : ZM} {t0 : Nat} {l0 : Nat} {fs1 : List Value} {r3 : Nat} {o1 : Option Value} (h2 : M.1 l0 = some (.inr (0, fs1))) (h4 : (fs1)[0]? = some (.ref r3)) (kk : Z g kX1_undo Q d cN sN M 34 [some (.ref l0), some (.ref t0)] [.ref t0, .ref r3]) : Z g kX1_undo Q d cN sN M 28 [some (.ref l0), o1] [.ref t0] := by
  refine zi_astore_n dX1_undo_28 zrf_r (Nat.le_of_ble_eq_true rfl) ?_
  refine zi_aload_n dX1_undo_29 rfl zrf_r ?_
  refine zi_getfield dX1_undo_30 rfl h2 h4 ?_
  refine zi_aload_n dX1_undo_33 rfl zrf_r ?_
  exact kk
theorem sX1_undo_37 {g : ZG} {Q : ZQ} {d cN sN : Nat} {M : ZM} {l0 : Nat} {fs1 : List Value} {r3 : Nat} {l1 : Nat} (h2 : M.1 l0 = some (.inr (0, fs1))) (h4 : (fs1)[6]? = some (.ref r3)) (kk : Z g kX1_undo Q d cN sN M 42 [some (.ref l0), some (.ref l1)] [.ref l1, .ref r3]) : Z g kX1_undo Q d cN sN M 37 [some (.ref l0), some (.ref l1)] [] := by
  refine zi_aload_n dX1_undo_37 rfl zrf_r ?_
  refine zi_getfield dX1_undo_38 rfl h2 h4 ?_
  refine zi_aload_n dX1_undo_41 rfl zrf_r ?_
  exact kk
theorem sX1_undo_45 {g : ZG} {Q : ZQ} {d cN sN : Nat} {M : ZM} {l0 : Nat} {fs1 : List Value} {r3 : Nat} {o1 : Option Value} (h2 : M.1 l0 = some (.inr (0, fs1))) (h4 : (fs1)[5]? = some (.ref r3)) (kk : Z g kX1_undo Q d cN sN M 49 [some (.ref l0), o1] [.ref r3]) : Z g kX1_undo Q d cN sN M 45 [some (.ref l0), o1] [] := by
  refine zi_aload_n dX1_undo_45 rfl zrf_r ?_
  refine zi_getfield dX1_undo_46 rfl h2 h4 ?_
  exact kk
theorem sX1_undo_52 {g : ZG} {Q : ZQ} {d cN sN : Nat} {M : ZM} {t0 : Int32} {o0 o1 : Option Value}  (kk : Q.1 (some (.int t0)) M) : Z g kX1_undo Q d cN sN M 52 [o0, o1] [.int t0] := by
  exact zi_ireturn dX1_undo_52 rfl rfl kk
abbrev kX1_restore : ZK := (RX1, cX1_restore, 1, (Option.some Jvm.ClassFile.FieldType.int), [], false, fX1)
abbrev tX1_restore (g : ZG) (args : List Value) (M : ZM) (d c s : Nat) (Q : ZQ) : Prop := Ct g yX1_restore (ws_ yX1_restore cX1_restore 1 (Option.some Jvm.ClassFile.FieldType.int)) args M d c s Q
abbrev nX1_restore : Nat := 11
theorem mX1_restore : zMok yX1_restore 0 1 := ⟨⟨by decide +kernel, by decide +kernel, by decide +kernel⟩, by decide⟩
theorem eX1_restore {g : ZG} {Q : ZQ} {d cN sN : Nat} {M : ZM} {a0 : Nat} (hV : zV g) (h : Z g kX1_restore Q d cN sN M 0 [some (.ref a0)] []) : tX1_restore g [.ref a0] M d cN sN Q := Ct.of (K := kX1_restore) rfl (by decide +kernel) hV fokX1 rfl (fun h => by cases h) (fun v hv => by simp only [List.mem_cons, List.not_mem_nil, or_false] at hv; rcases hv with rfl <;> first | rfl | assumption) (Nat.le_of_ble_eq_true rfl) h
theorem sX1_restore_0 {g : ZG} {Q : ZQ} {d cN sN : Nat} {M : ZM} {l0 : Nat} {fs1 : List Value} {y3 : Int32} (h2 : M.1 l0 = some (.inr (0, fs1))) (h4 : (fs1)[4]? = some (.int y3)) (kk : Z g kX1_restore Q d cN sN M 4 [some (.ref l0)] [.int y3]) : Z g kX1_restore Q d cN sN M 0 [some (.ref l0)] [] := by
  refine zi_aload_n dX1_restore_0 rfl zrf_r ?_
  refine zi_getfield dX1_restore_1 rfl h2 h4 ?_
  exact kk
theorem sX1_restore_7 {g : ZG} {Q : ZQ} {d cN sN : Nat} {M : ZM} {l0 : Nat} {fs1 : List Value} {r3 : Nat} {r5 : Nat} (h2 : M.1 l0 = some (.inr (0, fs1))) (h4 : (fs1)[0]? = some (.ref r3)) (h6 : (fs1)[2]? = some (.ref r5)) (kk : Z g kX1_restore Q d cN sN M 15 [some (.ref l0)] [.ref r5, .ref r3]) : Z g kX1_restore Q d cN sN M 7 [some (.ref l0)] [] := by
  refine zi_aload_n dX1_restore_7 rfl zrf_r ?_
  refine zi_getfield dX1_restore_8 rfl h2 h4 ?_
  refine zi_aload_n dX1_restore_11 rfl zrf_r ?_
  refine zi_getfield dX1_restore_12 rfl h2 h6 ?_
  exact kk
theorem sX1_restore_18 {g : ZG} {Q : ZQ} {d cN sN : Nat} {M : ZM} {l0 : Nat} {fs1 : List Value} {r3 : Nat} (h2 : M.1 l0 = some (.inr (0, fs1))) (h4 : (fs1)[5]? = some (.ref r3)) (kk : Z g kX1_restore Q d cN sN M 22 [some (.ref l0)] [.ref r3]) : Z g kX1_restore Q d cN sN M 18 [some (.ref l0)] [] := by
  refine zi_aload_n dX1_restore_18 rfl zrf_r ?_
  refine zi_getfield dX1_restore_19 rfl h2 h4 ?_
  exact kk
theorem sX1_restore_25 {g : ZG} {Q : ZQ} {d cN sN : Nat} {M : ZM} {t0 : Int32} {o0 : Option Value}  (kt : ¬ (t0 : Int32) = 0 → Z g kX1_restore Q d cN sN M 48 [o0] []) (kf : (t0 : Int32) = 0 → Z g kX1_restore Q d cN sN M 28 [o0] []) : Z g kX1_restore Q d cN sN M 25 [o0] [.int t0] := by
  exact zi_if_ne (tgt := 48) dX1_restore_25 (by decide +kernel) kt kf
theorem sX1_restore_28 {g : ZG} {Q : ZQ} {d cN sN : Nat} {M : ZM} {l0 : Nat} {fs1 : List Value} {r3 : Nat} {r5 : Nat} (h2 : M.1 l0 = some (.inr (0, fs1))) (h4 : (fs1)[6]? = some (.ref r3)) (h6 : (fs1)[5]? = some (.ref r5)) (kk : Z g kX1_restore Q d cN sN M 36 [some (.ref l0)] [.ref r5, .ref r3]) : Z g kX1_restore Q d cN sN M 28 [some (.ref l0)] [] := by
  refine zi_aload_n dX1_restore_28 rfl zrf_r ?_
  refine zi_getfield dX1_restore_29 rfl h2 h4 ?_
  refine zi_aload_n dX1_restore_32 rfl zrf_r ?_
  refine zi_getfield dX1_restore_33 rfl h2 h6 ?_
  exact kk
theorem sX1_restore_45 {g : ZG} {Q : ZQ} {d cN sN : Nat} {M : ZM} {o0 : Option Value}  (kk : Z g kX1_restore Q d cN sN M 18 [o0] []) : Z g kX1_restore Q d cN sN M 45 [o0] [] := by
  exact zi_goto (tgt := 18) dX1_restore_45 (by decide +kernel) kk
theorem sX1_restore_48 {g : ZG} {Q : ZQ} {d cN sN : Nat} {M : ZM} {l0 : Nat} {fs1 : List Value} {r3 : Nat} {fs5 : List Value} {y7 : Int32} (h2 : M.1 l0 = some (.inr (0, fs1))) (h4 : (fs1)[0]? = some (.ref r3)) (h6 : M.1 r3 = some (.inr (1, fs5))) (h8 : (fs5)[3]? = some (.int y7)) (kk : Q.1 (some (.int y7)) M) : Z g kX1_restore Q d cN sN M 48 [some (.ref l0)] [] := by
  refine zi_aload_n dX1_restore_48 rfl zrf_r ?_
  refine zi_getfield dX1_restore_49 rfl h2 h4 ?_
  refine zi_getfield dX1_restore_52 rfl h6 h8 ?_
  exact zi_ireturn dX1_restore_55 rfl rfl kk
/-! ErrataPress$House (printed by gen_m.py) -/
set_option maxRecDepth 100000
abbrev cX3_init : ByteArray := prog_3_method_1_code
def yX3_init : MethodName := ⟨RX3, "<init>", "()V"⟩
theorem dX3_init_0 : decode cX3_init 0 = .ok (.aload_n 0, 1) := by decide +kernel
theorem dX3_init_1 : decode cX3_init 1 = .ok (.invokespecial 3, 3) := by decide +kernel
theorem dX3_init_4 : decode cX3_init 4 = .ok (.return_, 1) := by decide +kernel
abbrev cX3_take : ByteArray := prog_3_method_2_code
def yX3_take : MethodName := ⟨RX3, "take", "(LErrataPress$House;)V"⟩
def dkwX3_take_1 : List UInt8 := [177]
abbrev dktX3_take_1 : List UInt8 := dkwX3_take_1 ++ []
def dkwX3_take_0 : List UInt8 := [42, 43, 180, 0, 9, 181, 0, 9, 42, 43, 180, 0, 15, 181, 0, 15, 42, 43, 180, 0, 18, 181, 0, 18]
abbrev dktX3_take_0 : List UInt8 := dkwX3_take_0 ++ dktX3_take_1
theorem dksX3_take_0 : cX3_take.data.toList.drop 0 = dktX3_take_0 := by decide +kernel
theorem dksX3_take_1 : cX3_take.data.toList.drop 24 = dktX3_take_1 := dk_seg dksX3_take_0 24 rfl rfl
theorem dX3_take_0 : decode cX3_take 0 = .ok (.aload_n 0, 1) := dk_42 (dk_at dksX3_take_0 0 rfl rfl)
theorem dX3_take_1 : decode cX3_take 1 = .ok (.aload_n 1, 1) := dk_43 (dk_at dksX3_take_0 1 rfl rfl)
theorem dX3_take_2 : decode cX3_take 2 = .ok (.getfield 9, 3) := dk_180 0 9 (dk_at dksX3_take_0 2 rfl rfl)
theorem dX3_take_5 : decode cX3_take 5 = .ok (.putfield 9, 3) := dk_181 0 9 (dk_at dksX3_take_0 5 rfl rfl)
theorem dX3_take_8 : decode cX3_take 8 = .ok (.aload_n 0, 1) := dk_42 (dk_at dksX3_take_0 8 rfl rfl)
theorem dX3_take_9 : decode cX3_take 9 = .ok (.aload_n 1, 1) := dk_43 (dk_at dksX3_take_0 9 rfl rfl)
theorem dX3_take_10 : decode cX3_take 10 = .ok (.getfield 15, 3) := dk_180 0 15 (dk_at dksX3_take_0 10 rfl rfl)
theorem dX3_take_13 : decode cX3_take 13 = .ok (.putfield 15, 3) := dk_181 0 15 (dk_at dksX3_take_0 13 rfl rfl)
theorem dX3_take_16 : decode cX3_take 16 = .ok (.aload_n 0, 1) := dk_42 (dk_at dksX3_take_0 16 rfl rfl)
theorem dX3_take_17 : decode cX3_take 17 = .ok (.aload_n 1, 1) := dk_43 (dk_at dksX3_take_0 17 rfl rfl)
theorem dX3_take_18 : decode cX3_take 18 = .ok (.getfield 18, 3) := dk_180 0 18 (dk_at dksX3_take_0 18 rfl rfl)
theorem dX3_take_21 : decode cX3_take 21 = .ok (.putfield 18, 3) := dk_181 0 18 (dk_at dksX3_take_0 21 rfl rfl)
theorem dX3_take_24 : decode cX3_take 24 = .ok (.return_, 1) := dk_177 (dk_at dksX3_take_1 0 rfl rfl)
abbrev cX3_gets : ByteArray := prog_3_method_4_code
def yX3_gets : MethodName := ⟨RX3, "gets", "(I)V"⟩
def dkwX3_gets_0 : List UInt8 := [42, 16, 99, 42, 180, 0, 9, 27, 96, 184, 0, 21, 181, 0, 9, 177]
abbrev dktX3_gets_0 : List UInt8 := dkwX3_gets_0 ++ []
theorem dksX3_gets_0 : cX3_gets.data.toList.drop 0 = dktX3_gets_0 := by decide +kernel
theorem dX3_gets_0 : decode cX3_gets 0 = .ok (.aload_n 0, 1) := dk_42 (dk_at dksX3_gets_0 0 rfl rfl)
theorem dX3_gets_1 : decode cX3_gets 1 = .ok (.bipush 99, 2) := dk_16 99 (dk_at dksX3_gets_0 1 rfl rfl)
theorem dX3_gets_3 : decode cX3_gets 3 = .ok (.aload_n 0, 1) := dk_42 (dk_at dksX3_gets_0 3 rfl rfl)
theorem dX3_gets_4 : decode cX3_gets 4 = .ok (.getfield 9, 3) := dk_180 0 9 (dk_at dksX3_gets_0 4 rfl rfl)
theorem dX3_gets_7 : decode cX3_gets 7 = .ok (.iload_n 1, 1) := dk_27 (dk_at dksX3_gets_0 7 rfl rfl)
theorem dX3_gets_8 : decode cX3_gets 8 = .ok (.iadd, 1) := dk_96 (dk_at dksX3_gets_0 8 rfl rfl)
theorem dX3_gets_9 : decode cX3_gets 9 = .ok (.invokestatic 21, 3) := dk_184 0 21 (dk_at dksX3_gets_0 9 rfl rfl)
theorem dX3_gets_12 : decode cX3_gets 12 = .ok (.putfield 9, 3) := dk_181 0 9 (dk_at dksX3_gets_0 12 rfl rfl)
theorem dX3_gets_15 : decode cX3_gets 15 = .ok (.return_, 1) := dk_177 (dk_at dksX3_gets_0 15 rfl rfl)
abbrev cX3_isAshamed : ByteArray := prog_3_method_3_code
def yX3_isAshamed : MethodName := ⟨RX3, "isAshamed", "()Z"⟩
def dkwX3_isAshamed_0 : List UInt8 := [42, 180, 0, 15, 16, 20, 164, 0, 7, 4, 167, 0, 4, 3, 172]
abbrev dktX3_isAshamed_0 : List UInt8 := dkwX3_isAshamed_0 ++ []
theorem dksX3_isAshamed_0 : cX3_isAshamed.data.toList.drop 0 = dktX3_isAshamed_0 := by decide +kernel
theorem dX3_isAshamed_0 : decode cX3_isAshamed 0 = .ok (.aload_n 0, 1) := dk_42 (dk_at dksX3_isAshamed_0 0 rfl rfl)
theorem dX3_isAshamed_1 : decode cX3_isAshamed 1 = .ok (.getfield 15, 3) := dk_180 0 15 (dk_at dksX3_isAshamed_0 1 rfl rfl)
theorem dX3_isAshamed_4 : decode cX3_isAshamed 4 = .ok (.bipush 20, 2) := dk_16 20 (dk_at dksX3_isAshamed_0 4 rfl rfl)
theorem dX3_isAshamed_6 : decode cX3_isAshamed 6 = .ok (.if_icmp .le 7, 3) := dk_164 0 7 (dk_at dksX3_isAshamed_0 6 rfl rfl)
theorem dX3_isAshamed_9 : decode cX3_isAshamed 9 = .ok (.iconst 1, 1) := dk_4 (dk_at dksX3_isAshamed_0 9 rfl rfl)
theorem dX3_isAshamed_10 : decode cX3_isAshamed 10 = .ok (.goto 4, 3) := dk_167 0 4 (dk_at dksX3_isAshamed_0 10 rfl rfl)
theorem dX3_isAshamed_13 : decode cX3_isAshamed 13 = .ok (.iconst 0, 1) := dk_3 (dk_at dksX3_isAshamed_0 13 rfl rfl)
theorem dX3_isAshamed_14 : decode cX3_isAshamed 14 = .ok (.ireturn, 1) := dk_172 (dk_at dksX3_isAshamed_0 14 rfl rfl)
abbrev cX3_isShamed : ByteArray := prog_3_method_5_code
def yX3_isShamed : MethodName := ⟨RX3, "isShamed", "(I)V"⟩
def dkwX3_isShamed_0 : List UInt8 := [42, 16, 99, 42, 180, 0, 15, 27, 96, 184, 0, 21, 181, 0, 15, 177]
abbrev dktX3_isShamed_0 : List UInt8 := dkwX3_isShamed_0 ++ []
theorem dksX3_isShamed_0 : cX3_isShamed.data.toList.drop 0 = dktX3_isShamed_0 := by decide +kernel
theorem dX3_isShamed_0 : decode cX3_isShamed 0 = .ok (.aload_n 0, 1) := dk_42 (dk_at dksX3_isShamed_0 0 rfl rfl)
theorem dX3_isShamed_1 : decode cX3_isShamed 1 = .ok (.bipush 99, 2) := dk_16 99 (dk_at dksX3_isShamed_0 1 rfl rfl)
theorem dX3_isShamed_3 : decode cX3_isShamed 3 = .ok (.aload_n 0, 1) := dk_42 (dk_at dksX3_isShamed_0 3 rfl rfl)
theorem dX3_isShamed_4 : decode cX3_isShamed 4 = .ok (.getfield 15, 3) := dk_180 0 15 (dk_at dksX3_isShamed_0 4 rfl rfl)
theorem dX3_isShamed_7 : decode cX3_isShamed 7 = .ok (.iload_n 1, 1) := dk_27 (dk_at dksX3_isShamed_0 7 rfl rfl)
theorem dX3_isShamed_8 : decode cX3_isShamed 8 = .ok (.iadd, 1) := dk_96 (dk_at dksX3_isShamed_0 8 rfl rfl)
theorem dX3_isShamed_9 : decode cX3_isShamed 9 = .ok (.invokestatic 21, 3) := dk_184 0 21 (dk_at dksX3_isShamed_0 9 rfl rfl)
theorem dX3_isShamed_12 : decode cX3_isShamed 12 = .ok (.putfield 15, 3) := dk_181 0 15 (dk_at dksX3_isShamed_0 12 rfl rfl)
theorem dX3_isShamed_15 : decode cX3_isShamed 15 = .ok (.return_, 1) := dk_177 (dk_at dksX3_isShamed_0 15 rfl rfl)
def fX3 : List ZE := [(9, 2, 0, .int, 0), (15, 2, 1, .int, 0), (18, 2, 2, .int, 0)]
theorem fokX3 : zFok RX3 fX3 := List.forall_mem_cons.mpr ⟨⟨by decide, by decide, by decide +kernel, Or.inr q139, by decide, by decide +kernel⟩, List.forall_mem_cons.mpr ⟨⟨by decide, by decide, by decide +kernel, Or.inr q142, by decide, by decide +kernel⟩, List.forall_mem_cons.mpr ⟨⟨by decide, by decide, by decide +kernel, Or.inr q145, by decide, by decide +kernel⟩, fun _ h => by cases h⟩⟩⟩
abbrev kX3_init : ZK := (RX3, cX3_init, 1, (Option.none : Option Jvm.ClassFile.FieldType), [], true, fX3)
abbrev tX3_init (g : ZG) (args : List Value) (M : ZM) (d c s : Nat) (Q : ZQ) : Prop := Ct g yX3_init (ws_ yX3_init cX3_init 1 (Option.none : Option Jvm.ClassFile.FieldType)) args M d c s Q
abbrev nX3_init : Nat := 2
theorem mX3_init : zMok yX3_init 0 1 := ⟨⟨by decide +kernel, by decide +kernel, by decide +kernel⟩, by decide⟩
theorem eX3_init {g : ZG} {Q : ZQ} {d cN sN : Nat} {M : ZM} {a0 : Nat} (hV : zV g) (h : Z g kX3_init Q d cN sN M 0 [some (.ref a0)] []) : tX3_init g [.ref a0] M d cN sN Q := Ct.of (K := kX3_init) rfl (by decide +kernel) hV fokX3 rfl (fun h => rfl) (fun v hv => by simp only [List.mem_cons, List.not_mem_nil, or_false] at hv; rcases hv with rfl <;> first | rfl | assumption) (Nat.le_of_ble_eq_true rfl) h
theorem sX3_init_0 {g : ZG} {Q : ZQ} {d cN sN : Nat} {M : ZM} {l0 : Nat}  (kk : Z g kX3_init Q d cN sN M 1 [some (.ref l0)] [.ref l0]) : Z g kX3_init Q d cN sN M 0 [some (.ref l0)] [] := by
  refine zi_aload_n dX3_init_0 rfl zrf_r ?_
  exact kk
theorem sX3_init_4 {g : ZG} {Q : ZQ} {d cN sN : Nat} {M : ZM} {o0 : Option Value}  (kk : Q.1 none M) : Z g kX3_init Q d cN sN M 4 [o0] [] := by
  exact zi_return dX3_init_4 rfl kk
abbrev kX3_take : ZK := (RX3, cX3_take, 2, (Option.none : Option Jvm.ClassFile.FieldType), [], false, fX3)
abbrev tX3_take (g : ZG) (args : List Value) (M : ZM) (d c s : Nat) (Q : ZQ) : Prop := Ct g yX3_take (ws_ yX3_take cX3_take 2 (Option.none : Option Jvm.ClassFile.FieldType)) args M d c s Q
abbrev nX3_take : Nat := 1
theorem mX3_take : zMok yX3_take 1 2 := ⟨⟨by decide +kernel, by decide +kernel, by decide +kernel⟩, by decide⟩
theorem eX3_take {g : ZG} {Q : ZQ} {d cN sN : Nat} {M : ZM} {a0 : Nat} {v1 : Value} (hv1 : v1.category = 1) (hV : zV g) (h : Z g kX3_take Q d cN sN M 0 [some (.ref a0), some (v1)] []) : tX3_take g [.ref a0, v1] M d cN sN Q := Ct.of (K := kX3_take) rfl (by decide +kernel) hV fokX3 rfl (fun h => by cases h) (fun v hv => by simp only [List.mem_cons, List.not_mem_nil, or_false] at hv; rcases hv with rfl | rfl <;> first | rfl | assumption) (Nat.le_of_ble_eq_true rfl) h
theorem sX3_take_0 {g : ZG} {Q : ZQ} {d cN sN : Nat} {M : ZM} {l0 : Nat} {l1 : Nat} {fs1 : List Value} {y3 : Int32} {fs5 : List Value} {fs8 : List Value} {y10 : Int32} {fs13 : List Value} {y15 : Int32} (h2 : M.1 l1 = some (.inr (2, fs1))) (h4 : (fs1)[0]? = some (.int y3)) (h6 : M.1 l0 = some (.inr (2, fs5))) (h7 : 0 < (fs5).length) (h9 : (zup M l0 (.inr (2, (fs5).set 0 (.int y3)))).1 l1 = some (.inr (2, fs8))) (h11 : (fs8)[1]? = some (.int y10)) (h12 : 1 < (((fs5).set 0 (.int y3))).length) (h14 : (zup (zup M l0 (.inr (2, (fs5).set 0 (.int y3)))) l0 (.inr (2, (((fs5).set 0 (.int y3))).set 1 (.int y10)))).1 l1 = some (.inr (2, fs13))) (h16 : (fs13)[2]? = some (.int y15)) (h17 : 2 < (((((fs5).set 0 (.int y3))).set 1 (.int y10))).length) (kk : Q.1 none (zup (zup (zup M l0 (.inr (2, (fs5).set 0 (.int y3)))) l0 (.inr (2, (((fs5).set 0 (.int y3))).set 1 (.int y10)))) l0 (.inr (2, (((((fs5).set 0 (.int y3))).set 1 (.int y10))).set 2 (.int y15))))) : Z g kX3_take Q d cN sN M 0 [some (.ref l0), some (.ref l1)] [] := by
  refine zi_aload_n dX3_take_0 rfl zrf_r ?_
  refine zi_aload_n dX3_take_1 rfl zrf_r ?_
  refine zi_getfield dX3_take_2 rfl h2 h4 ?_
  refine zi_putfield dX3_take_5 rfl h6 h7 zfit_i (Or.inl rfl) ?_
  refine zi_aload_n dX3_take_8 rfl zrf_r ?_
  refine zi_aload_n dX3_take_9 rfl zrf_r ?_
  refine zi_getfield dX3_take_10 rfl h9 h11 ?_
  refine zi_putfield dX3_take_13 rfl (zup_self _ _ _) h12 zfit_i (Or.inl rfl) ?_
  refine zi_aload_n dX3_take_16 rfl zrf_r ?_
  refine zi_aload_n dX3_take_17 rfl zrf_r ?_
  refine zi_getfield dX3_take_18 rfl h14 h16 ?_
  refine zi_putfield dX3_take_21 rfl (zup_self _ _ _) h17 zfit_i (Or.inl rfl) ?_
  exact zi_return dX3_take_24 rfl kk
abbrev kX3_gets : ZK := (RX3, cX3_gets, 2, (Option.none : Option Jvm.ClassFile.FieldType), [], false, fX3)
abbrev tX3_gets (g : ZG) (args : List Value) (M : ZM) (d c s : Nat) (Q : ZQ) : Prop := Ct g yX3_gets (ws_ yX3_gets cX3_gets 2 (Option.none : Option Jvm.ClassFile.FieldType)) args M d c s Q
abbrev nX3_gets : Nat := 2
theorem mX3_gets : zMok yX3_gets 1 2 := ⟨⟨by decide +kernel, by decide +kernel, by decide +kernel⟩, by decide⟩
theorem eX3_gets {g : ZG} {Q : ZQ} {d cN sN : Nat} {M : ZM} {a0 : Nat} {x1 : Int32} (hV : zV g) (h : Z g kX3_gets Q d cN sN M 0 [some (.ref a0), some (.int x1)] []) : tX3_gets g [.ref a0, .int x1] M d cN sN Q := Ct.of (K := kX3_gets) rfl (by decide +kernel) hV fokX3 rfl (fun h => by cases h) (fun v hv => by simp only [List.mem_cons, List.not_mem_nil, or_false] at hv; rcases hv with rfl | rfl <;> first | rfl | assumption) (Nat.le_of_ble_eq_true rfl) h
theorem sX3_gets_0 {g : ZG} {Q : ZQ} {d cN sN : Nat} {M : ZM} {l0 : Nat} {fs1 : List Value} {y3 : Int32} {l1 : Int32} (h2 : M.1 l0 = some (.inr (2, fs1))) (h4 : (fs1)[0]? = some (.int y3)) (kk : Z g kX3_gets Q d cN sN M 9 [some (.ref l0), some (.int l1)] [.int (y3 + l1), .int 99, .ref l0]) : Z g kX3_gets Q d cN sN M 0 [some (.ref l0), some (.int l1)] [] := by
  refine zi_aload_n dX3_gets_0 rfl zrf_r ?_
  refine zi_bipush dX3_gets_1 (by decide +kernel : (Int8.ofInt (99)).toInt32 = (99 : Int32)) ?_
  refine zi_aload_n dX3_gets_3 rfl zrf_r ?_
  refine zi_getfield dX3_gets_4 rfl h2 h4 ?_
  refine zi_iload_n dX3_gets_7 rfl ?_
  refine zi_iadd dX3_gets_8 ?_
  exact kk
theorem sX3_gets_12 {g : ZG} {Q : ZQ} {d cN sN : Nat} {M : ZM} {t0 : Nat} {t1 : Int32} {fs1 : List Value} {o0 o1 : Option Value} (h2 : M.1 t0 = some (.inr (2, fs1))) (h3 : 0 < (fs1).length) (kk : Q.1 none (zup M t0 (.inr (2, (fs1).set 0 (.int t1))))) : Z g kX3_gets Q d cN sN M 12 [o0, o1] [.int t1, .ref t0] := by
  refine zi_putfield dX3_gets_12 rfl h2 h3 zfit_i (Or.inl rfl) ?_
  exact zi_return dX3_gets_15 rfl kk
abbrev kX3_isAshamed : ZK := (RX3, cX3_isAshamed, 1, (Option.some Jvm.ClassFile.FieldType.boolean), [], false, fX3)
abbrev tX3_isAshamed (g : ZG) (args : List Value) (M : ZM) (d c s : Nat) (Q : ZQ) : Prop := Ct g yX3_isAshamed (ws_ yX3_isAshamed cX3_isAshamed 1 (Option.some Jvm.ClassFile.FieldType.boolean)) args M d c s Q
abbrev nX3_isAshamed : Nat := 1
theorem mX3_isAshamed : zMok yX3_isAshamed 0 1 := ⟨⟨by decide +kernel, by decide +kernel, by decide +kernel⟩, by decide⟩
theorem eX3_isAshamed {g : ZG} {Q : ZQ} {d cN sN : Nat} {M : ZM} {a0 : Nat} (hV : zV g) (h : Z g kX3_isAshamed Q d cN sN M 0 [some (.ref a0)] []) : tX3_isAshamed g [.ref a0] M d cN sN Q := Ct.of (K := kX3_isAshamed) rfl (by decide +kernel) hV fokX3 rfl (fun h => by cases h) (fun v hv => by simp only [List.mem_cons, List.not_mem_nil, or_false] at hv; rcases hv with rfl <;> first | rfl | assumption) (Nat.le_of_ble_eq_true rfl) h
theorem sX3_isAshamed_0 {g : ZG} {Q : ZQ} {d cN sN : Nat} {M : ZM} {l0 : Nat} {fs1 : List Value} {y3 : Int32} (h2 : M.1 l0 = some (.inr (2, fs1))) (h4 : (fs1)[1]? = some (.int y3)) (kt : (y3 : Int32) ≤ (20 : Int32) → Z g kX3_isAshamed Q d cN sN M 13 [some (.ref l0)] []) (kf : ¬ (y3 : Int32) ≤ (20 : Int32) → Z g kX3_isAshamed Q d cN sN M 9 [some (.ref l0)] []) : Z g kX3_isAshamed Q d cN sN M 0 [some (.ref l0)] [] := by
  refine zi_aload_n dX3_isAshamed_0 rfl zrf_r ?_
  refine zi_getfield dX3_isAshamed_1 rfl h2 h4 ?_
  refine zi_bipush dX3_isAshamed_4 (by decide +kernel : (Int8.ofInt (20)).toInt32 = (20 : Int32)) ?_
  exact zi_icmp_le (tgt := 13) dX3_isAshamed_6 (by decide +kernel) kt kf
theorem sX3_isAshamed_9 {g : ZG} {Q : ZQ} {d cN sN : Nat} {M : ZM} {o0 : Option Value}  (kk : Z g kX3_isAshamed Q d cN sN M 14 [o0] [.int 1]) : Z g kX3_isAshamed Q d cN sN M 9 [o0] [] := by
  refine zi_iconst dX3_isAshamed_9 (by decide +kernel : Int32.ofInt (1) = (1 : Int32)) ?_
  exact zi_goto (tgt := 14) dX3_isAshamed_10 (by decide +kernel) kk
theorem sX3_isAshamed_13 {g : ZG} {Q : ZQ} {d cN sN : Nat} {M : ZM} {o0 : Option Value}  (kk : Z g kX3_isAshamed Q d cN sN M 14 [o0] [.int 0]) : Z g kX3_isAshamed Q d cN sN M 13 [o0] [] := by
  refine zi_iconst dX3_isAshamed_13 (by decide +kernel : Int32.ofInt (0) = (0 : Int32)) ?_
  exact kk
theorem sX3_isAshamed_14 {g : ZG} {Q : ZQ} {d cN sN : Nat} {M : ZM} {t0 : Int32} {o0 : Option Value} (h1 : t0 = 0 ∨ t0 = 1) (kk : Q.1 (some (.int t0)) M) : Z g kX3_isAshamed Q d cN sN M 14 [o0] [.int t0] := by
  exact zi_ireturn dX3_isAshamed_14 rfl (znar_z h1) kk
abbrev kX3_isShamed : ZK := (RX3, cX3_isShamed, 2, (Option.none : Option Jvm.ClassFile.FieldType), [], false, fX3)
abbrev tX3_isShamed (g : ZG) (args : List Value) (M : ZM) (d c s : Nat) (Q : ZQ) : Prop := Ct g yX3_isShamed (ws_ yX3_isShamed cX3_isShamed 2 (Option.none : Option Jvm.ClassFile.FieldType)) args M d c s Q
abbrev nX3_isShamed : Nat := 2
theorem mX3_isShamed : zMok yX3_isShamed 1 2 := ⟨⟨by decide +kernel, by decide +kernel, by decide +kernel⟩, by decide⟩
theorem eX3_isShamed {g : ZG} {Q : ZQ} {d cN sN : Nat} {M : ZM} {a0 : Nat} {x1 : Int32} (hV : zV g) (h : Z g kX3_isShamed Q d cN sN M 0 [some (.ref a0), some (.int x1)] []) : tX3_isShamed g [.ref a0, .int x1] M d cN sN Q := Ct.of (K := kX3_isShamed) rfl (by decide +kernel) hV fokX3 rfl (fun h => by cases h) (fun v hv => by simp only [List.mem_cons, List.not_mem_nil, or_false] at hv; rcases hv with rfl | rfl <;> first | rfl | assumption) (Nat.le_of_ble_eq_true rfl) h
theorem sX3_isShamed_0 {g : ZG} {Q : ZQ} {d cN sN : Nat} {M : ZM} {l0 : Nat} {fs1 : List Value} {y3 : Int32} {l1 : Int32} (h2 : M.1 l0 = some (.inr (2, fs1))) (h4 : (fs1)[1]? = some (.int y3)) (kk : Z g kX3_isShamed Q d cN sN M 9 [some (.ref l0), some (.int l1)] [.int (y3 + l1), .int 99, .ref l0]) : Z g kX3_isShamed Q d cN sN M 0 [some (.ref l0), some (.int l1)] [] := by
  refine zi_aload_n dX3_isShamed_0 rfl zrf_r ?_
  refine zi_bipush dX3_isShamed_1 (by decide +kernel : (Int8.ofInt (99)).toInt32 = (99 : Int32)) ?_
  refine zi_aload_n dX3_isShamed_3 rfl zrf_r ?_
  refine zi_getfield dX3_isShamed_4 rfl h2 h4 ?_
  refine zi_iload_n dX3_isShamed_7 rfl ?_
  refine zi_iadd dX3_isShamed_8 ?_
  exact kk
theorem sX3_isShamed_12 {g : ZG} {Q : ZQ} {d cN sN : Nat} {M : ZM} {t0 : Nat} {t1 : Int32} {fs1 : List Value} {o0 o1 : Option Value} (h2 : M.1 t0 = some (.inr (2, fs1))) (h3 : 1 < (fs1).length) (kk : Q.1 none (zup M t0 (.inr (2, (fs1).set 1 (.int t1))))) : Z g kX3_isShamed Q d cN sN M 12 [o0, o1] [.int t1, .ref t0] := by
  refine zi_putfield dX3_isShamed_12 rfl h2 h3 zfit_i (Or.inl rfl) ?_
  exact zi_return dX3_isShamed_15 rfl kk
/-! ErrataPress$Sheet (printed by gen_m.py) -/
set_option maxRecDepth 100000
abbrev cX4_init : ByteArray := prog_10_method_1_code
def yX4_init : MethodName := ⟨RX4, "<init>", "()V"⟩
def dkwX4_init_1 : List UInt8 := [188, 10, 181, 0, 18, 177]
abbrev dktX4_init_1 : List UInt8 := dkwX4_init_1 ++ []
def dkwX4_init_0 : List UInt8 := [42, 183, 0, 3, 42, 16, 8, 188, 10, 181, 0, 9, 42, 16, 8, 188, 10, 181, 0, 15, 42, 16, 8]
abbrev dktX4_init_0 : List UInt8 := dkwX4_init_0 ++ dktX4_init_1
theorem dksX4_init_0 : cX4_init.data.toList.drop 0 = dktX4_init_0 := by decide +kernel
theorem dksX4_init_1 : cX4_init.data.toList.drop 23 = dktX4_init_1 := dk_seg dksX4_init_0 23 rfl rfl
theorem dX4_init_0 : decode cX4_init 0 = .ok (.aload_n 0, 1) := dk_42 (dk_at dksX4_init_0 0 rfl rfl)
theorem dX4_init_1 : decode cX4_init 1 = .ok (.invokespecial 3, 3) := dk_183 0 3 (dk_at dksX4_init_0 1 rfl rfl)
theorem dX4_init_4 : decode cX4_init 4 = .ok (.aload_n 0, 1) := dk_42 (dk_at dksX4_init_0 4 rfl rfl)
theorem dX4_init_5 : decode cX4_init 5 = .ok (.bipush 8, 2) := dk_16 8 (dk_at dksX4_init_0 5 rfl rfl)
theorem dX4_init_7 : decode cX4_init 7 = .ok (.newarray .int, 2) := dk_188_10 (dk_at dksX4_init_0 7 rfl rfl)
theorem dX4_init_9 : decode cX4_init 9 = .ok (.putfield 9, 3) := dk_181 0 9 (dk_at dksX4_init_0 9 rfl rfl)
theorem dX4_init_12 : decode cX4_init 12 = .ok (.aload_n 0, 1) := dk_42 (dk_at dksX4_init_0 12 rfl rfl)
theorem dX4_init_13 : decode cX4_init 13 = .ok (.bipush 8, 2) := dk_16 8 (dk_at dksX4_init_0 13 rfl rfl)
theorem dX4_init_15 : decode cX4_init 15 = .ok (.newarray .int, 2) := dk_188_10 (dk_at dksX4_init_0 15 rfl rfl)
theorem dX4_init_17 : decode cX4_init 17 = .ok (.putfield 15, 3) := dk_181 0 15 (dk_at dksX4_init_0 17 rfl rfl)
theorem dX4_init_20 : decode cX4_init 20 = .ok (.aload_n 0, 1) := dk_42 (dk_at dksX4_init_0 20 rfl rfl)
theorem dX4_init_21 : decode cX4_init 21 = .ok (.bipush 8, 2) := dk_16 8 (dk_at dksX4_init_0 21 rfl rfl)
theorem dX4_init_23 : decode cX4_init 23 = .ok (.newarray .int, 2) := dk_188_10 (dk_at dksX4_init_1 0 rfl rfl)
theorem dX4_init_25 : decode cX4_init 25 = .ok (.putfield 18, 3) := dk_181 0 18 (dk_at dksX4_init_1 2 rfl rfl)
theorem dX4_init_28 : decode cX4_init 28 = .ok (.return_, 1) := dk_177 (dk_at dksX4_init_1 5 rfl rfl)
abbrev cX4_take : ByteArray := prog_10_method_2_code
def yX4_take : MethodName := ⟨RX4, "take", "(LErrataPress$Sheet;)V"⟩
def dkwX4_take_2 : List UInt8 := [43, 180, 0, 18, 3, 42, 180, 0, 18, 3, 16, 8, 184, 0, 28, 177]
abbrev dktX4_take_2 : List UInt8 := dkwX4_take_2 ++ []
def dkwX4_take_1 : List UInt8 := [180, 0, 9, 3, 16, 8, 184, 0, 28, 43, 180, 0, 15, 3, 42, 180, 0, 15, 3, 16, 8, 184, 0, 28]
abbrev dktX4_take_1 : List UInt8 := dkwX4_take_1 ++ dktX4_take_2
def dkwX4_take_0 : List UInt8 := [42, 43, 180, 0, 21, 181, 0, 21, 42, 43, 180, 0, 25, 181, 0, 25, 43, 180, 0, 9, 3, 42]
abbrev dktX4_take_0 : List UInt8 := dkwX4_take_0 ++ dktX4_take_1
theorem dksX4_take_0 : cX4_take.data.toList.drop 0 = dktX4_take_0 := by decide +kernel
theorem dksX4_take_1 : cX4_take.data.toList.drop 22 = dktX4_take_1 := dk_seg dksX4_take_0 22 rfl rfl
theorem dksX4_take_2 : cX4_take.data.toList.drop 46 = dktX4_take_2 := dk_seg dksX4_take_1 24 rfl rfl
theorem dX4_take_0 : decode cX4_take 0 = .ok (.aload_n 0, 1) := dk_42 (dk_at dksX4_take_0 0 rfl rfl)
theorem dX4_take_1 : decode cX4_take 1 = .ok (.aload_n 1, 1) := dk_43 (dk_at dksX4_take_0 1 rfl rfl)
theorem dX4_take_2 : decode cX4_take 2 = .ok (.getfield 21, 3) := dk_180 0 21 (dk_at dksX4_take_0 2 rfl rfl)
theorem dX4_take_5 : decode cX4_take 5 = .ok (.putfield 21, 3) := dk_181 0 21 (dk_at dksX4_take_0 5 rfl rfl)
theorem dX4_take_8 : decode cX4_take 8 = .ok (.aload_n 0, 1) := dk_42 (dk_at dksX4_take_0 8 rfl rfl)
theorem dX4_take_9 : decode cX4_take 9 = .ok (.aload_n 1, 1) := dk_43 (dk_at dksX4_take_0 9 rfl rfl)
theorem dX4_take_10 : decode cX4_take 10 = .ok (.getfield 25, 3) := dk_180 0 25 (dk_at dksX4_take_0 10 rfl rfl)
theorem dX4_take_13 : decode cX4_take 13 = .ok (.putfield 25, 3) := dk_181 0 25 (dk_at dksX4_take_0 13 rfl rfl)
theorem dX4_take_16 : decode cX4_take 16 = .ok (.aload_n 1, 1) := dk_43 (dk_at dksX4_take_0 16 rfl rfl)
theorem dX4_take_17 : decode cX4_take 17 = .ok (.getfield 9, 3) := dk_180 0 9 (dk_at dksX4_take_0 17 rfl rfl)
theorem dX4_take_20 : decode cX4_take 20 = .ok (.iconst 0, 1) := dk_3 (dk_at dksX4_take_0 20 rfl rfl)
theorem dX4_take_21 : decode cX4_take 21 = .ok (.aload_n 0, 1) := dk_42 (dk_at dksX4_take_0 21 rfl rfl)
theorem dX4_take_22 : decode cX4_take 22 = .ok (.getfield 9, 3) := dk_180 0 9 (dk_at dksX4_take_1 0 rfl rfl)
theorem dX4_take_25 : decode cX4_take 25 = .ok (.iconst 0, 1) := dk_3 (dk_at dksX4_take_1 3 rfl rfl)
theorem dX4_take_26 : decode cX4_take 26 = .ok (.bipush 8, 2) := dk_16 8 (dk_at dksX4_take_1 4 rfl rfl)
theorem dX4_take_28 : decode cX4_take 28 = .ok (.invokestatic 28, 3) := dk_184 0 28 (dk_at dksX4_take_1 6 rfl rfl)
theorem dX4_take_31 : decode cX4_take 31 = .ok (.aload_n 1, 1) := dk_43 (dk_at dksX4_take_1 9 rfl rfl)
theorem dX4_take_32 : decode cX4_take 32 = .ok (.getfield 15, 3) := dk_180 0 15 (dk_at dksX4_take_1 10 rfl rfl)
theorem dX4_take_35 : decode cX4_take 35 = .ok (.iconst 0, 1) := dk_3 (dk_at dksX4_take_1 13 rfl rfl)
theorem dX4_take_36 : decode cX4_take 36 = .ok (.aload_n 0, 1) := dk_42 (dk_at dksX4_take_1 14 rfl rfl)
theorem dX4_take_37 : decode cX4_take 37 = .ok (.getfield 15, 3) := dk_180 0 15 (dk_at dksX4_take_1 15 rfl rfl)
theorem dX4_take_40 : decode cX4_take 40 = .ok (.iconst 0, 1) := dk_3 (dk_at dksX4_take_1 18 rfl rfl)
theorem dX4_take_41 : decode cX4_take 41 = .ok (.bipush 8, 2) := dk_16 8 (dk_at dksX4_take_1 19 rfl rfl)
theorem dX4_take_43 : decode cX4_take 43 = .ok (.invokestatic 28, 3) := dk_184 0 28 (dk_at dksX4_take_1 21 rfl rfl)
theorem dX4_take_46 : decode cX4_take 46 = .ok (.aload_n 1, 1) := dk_43 (dk_at dksX4_take_2 0 rfl rfl)
theorem dX4_take_47 : decode cX4_take 47 = .ok (.getfield 18, 3) := dk_180 0 18 (dk_at dksX4_take_2 1 rfl rfl)
theorem dX4_take_50 : decode cX4_take 50 = .ok (.iconst 0, 1) := dk_3 (dk_at dksX4_take_2 4 rfl rfl)
theorem dX4_take_51 : decode cX4_take 51 = .ok (.aload_n 0, 1) := dk_42 (dk_at dksX4_take_2 5 rfl rfl)
theorem dX4_take_52 : decode cX4_take 52 = .ok (.getfield 18, 3) := dk_180 0 18 (dk_at dksX4_take_2 6 rfl rfl)
theorem dX4_take_55 : decode cX4_take 55 = .ok (.iconst 0, 1) := dk_3 (dk_at dksX4_take_2 9 rfl rfl)
theorem dX4_take_56 : decode cX4_take 56 = .ok (.bipush 8, 2) := dk_16 8 (dk_at dksX4_take_2 10 rfl rfl)
theorem dX4_take_58 : decode cX4_take 58 = .ok (.invokestatic 28, 3) := dk_184 0 28 (dk_at dksX4_take_2 12 rfl rfl)
theorem dX4_take_61 : decode cX4_take 61 = .ok (.return_, 1) := dk_177 (dk_at dksX4_take_2 15 rfl rfl)
abbrev cX4_bad : ByteArray := prog_10_method_4_code
def yX4_bad : MethodName := ⟨RX4, "bad", "(I)I"⟩
def dkwX4_bad_0 : List UInt8 := [42, 180, 0, 9, 27, 46, 42, 180, 0, 15, 27, 46, 100, 184, 0, 38, 172]
abbrev dktX4_bad_0 : List UInt8 := dkwX4_bad_0 ++ []
theorem dksX4_bad_0 : cX4_bad.data.toList.drop 0 = dktX4_bad_0 := by decide +kernel
theorem dX4_bad_0 : decode cX4_bad 0 = .ok (.aload_n 0, 1) := dk_42 (dk_at dksX4_bad_0 0 rfl rfl)
theorem dX4_bad_1 : decode cX4_bad 1 = .ok (.getfield 9, 3) := dk_180 0 9 (dk_at dksX4_bad_0 1 rfl rfl)
theorem dX4_bad_4 : decode cX4_bad 4 = .ok (.iload_n 1, 1) := dk_27 (dk_at dksX4_bad_0 4 rfl rfl)
theorem dX4_bad_5 : decode cX4_bad 5 = .ok (.iaload, 1) := dk_46 (dk_at dksX4_bad_0 5 rfl rfl)
theorem dX4_bad_6 : decode cX4_bad 6 = .ok (.aload_n 0, 1) := dk_42 (dk_at dksX4_bad_0 6 rfl rfl)
theorem dX4_bad_7 : decode cX4_bad 7 = .ok (.getfield 15, 3) := dk_180 0 15 (dk_at dksX4_bad_0 7 rfl rfl)
theorem dX4_bad_10 : decode cX4_bad 10 = .ok (.iload_n 1, 1) := dk_27 (dk_at dksX4_bad_0 10 rfl rfl)
theorem dX4_bad_11 : decode cX4_bad 11 = .ok (.iaload, 1) := dk_46 (dk_at dksX4_bad_0 11 rfl rfl)
theorem dX4_bad_12 : decode cX4_bad 12 = .ok (.isub, 1) := dk_100 (dk_at dksX4_bad_0 12 rfl rfl)
theorem dX4_bad_13 : decode cX4_bad 13 = .ok (.invokestatic 38, 3) := dk_184 0 38 (dk_at dksX4_bad_0 13 rfl rfl)
theorem dX4_bad_16 : decode cX4_bad 16 = .ok (.ireturn, 1) := dk_172 (dk_at dksX4_bad_0 16 rfl rfl)
abbrev cX4_is : ByteArray := prog_10_method_3_code
def yX4_is : MethodName := ⟨RX4, "is", "(II)V"⟩
def dkwX4_is_3 : List UInt8 := [167, 255, 210, 177]
abbrev dktX4_is_3 : List UInt8 := dkwX4_is_3 ++ []
def dkwX4_is_2 : List UInt8 := [180, 0, 9, 21, 4, 46, 79, 42, 180, 0, 18, 21, 4, 3, 79, 29, 16, 10, 108, 62, 132, 4, 255]
abbrev dktX4_is_2 : List UInt8 := dkwX4_is_2 ++ dktX4_is_3
def dkwX4_is_1 : List UInt8 := [21, 4, 155, 0, 47, 42, 180, 0, 9, 21, 4, 29, 16, 10, 112, 79, 42, 180, 0, 15, 21, 4, 42]
abbrev dktX4_is_1 : List UInt8 := dkwX4_is_1 ++ dktX4_is_2
def dkwX4_is_0 : List UInt8 := [42, 27, 181, 0, 21, 42, 28, 184, 0, 34, 181, 0, 25, 28, 62, 42, 180, 0, 25, 4, 100, 54, 4]
abbrev dktX4_is_0 : List UInt8 := dkwX4_is_0 ++ dktX4_is_1
theorem dksX4_is_0 : cX4_is.data.toList.drop 0 = dktX4_is_0 := by decide +kernel
theorem dksX4_is_1 : cX4_is.data.toList.drop 23 = dktX4_is_1 := dk_seg dksX4_is_0 23 rfl rfl
theorem dksX4_is_2 : cX4_is.data.toList.drop 46 = dktX4_is_2 := dk_seg dksX4_is_1 23 rfl rfl
theorem dksX4_is_3 : cX4_is.data.toList.drop 69 = dktX4_is_3 := dk_seg dksX4_is_2 23 rfl rfl
theorem dX4_is_0 : decode cX4_is 0 = .ok (.aload_n 0, 1) := dk_42 (dk_at dksX4_is_0 0 rfl rfl)
theorem dX4_is_1 : decode cX4_is 1 = .ok (.iload_n 1, 1) := dk_27 (dk_at dksX4_is_0 1 rfl rfl)
theorem dX4_is_2 : decode cX4_is 2 = .ok (.putfield 21, 3) := dk_181 0 21 (dk_at dksX4_is_0 2 rfl rfl)
theorem dX4_is_5 : decode cX4_is 5 = .ok (.aload_n 0, 1) := dk_42 (dk_at dksX4_is_0 5 rfl rfl)
theorem dX4_is_6 : decode cX4_is 6 = .ok (.iload_n 2, 1) := dk_28 (dk_at dksX4_is_0 6 rfl rfl)
theorem dX4_is_7 : decode cX4_is 7 = .ok (.invokestatic 34, 3) := dk_184 0 34 (dk_at dksX4_is_0 7 rfl rfl)
theorem dX4_is_10 : decode cX4_is 10 = .ok (.putfield 25, 3) := dk_181 0 25 (dk_at dksX4_is_0 10 rfl rfl)
theorem dX4_is_13 : decode cX4_is 13 = .ok (.iload_n 2, 1) := dk_28 (dk_at dksX4_is_0 13 rfl rfl)
theorem dX4_is_14 : decode cX4_is 14 = .ok (.istore_n 3, 1) := dk_62 (dk_at dksX4_is_0 14 rfl rfl)
theorem dX4_is_15 : decode cX4_is 15 = .ok (.aload_n 0, 1) := dk_42 (dk_at dksX4_is_0 15 rfl rfl)
theorem dX4_is_16 : decode cX4_is 16 = .ok (.getfield 25, 3) := dk_180 0 25 (dk_at dksX4_is_0 16 rfl rfl)
theorem dX4_is_19 : decode cX4_is 19 = .ok (.iconst 1, 1) := dk_4 (dk_at dksX4_is_0 19 rfl rfl)
theorem dX4_is_20 : decode cX4_is 20 = .ok (.isub, 1) := dk_100 (dk_at dksX4_is_0 20 rfl rfl)
theorem dX4_is_21 : decode cX4_is 21 = .ok (.istore 4, 2) := dk_54 4 (dk_at dksX4_is_0 21 rfl rfl)
theorem dX4_is_23 : decode cX4_is 23 = .ok (.iload 4, 2) := dk_21 4 (dk_at dksX4_is_1 0 rfl rfl)
theorem dX4_is_25 : decode cX4_is 25 = .ok (.ifCond .lt 47, 3) := dk_155 0 47 (dk_at dksX4_is_1 2 rfl rfl)
theorem dX4_is_28 : decode cX4_is 28 = .ok (.aload_n 0, 1) := dk_42 (dk_at dksX4_is_1 5 rfl rfl)
theorem dX4_is_29 : decode cX4_is 29 = .ok (.getfield 9, 3) := dk_180 0 9 (dk_at dksX4_is_1 6 rfl rfl)
theorem dX4_is_32 : decode cX4_is 32 = .ok (.iload 4, 2) := dk_21 4 (dk_at dksX4_is_1 9 rfl rfl)
theorem dX4_is_34 : decode cX4_is 34 = .ok (.iload_n 3, 1) := dk_29 (dk_at dksX4_is_1 11 rfl rfl)
theorem dX4_is_35 : decode cX4_is 35 = .ok (.bipush 10, 2) := dk_16 10 (dk_at dksX4_is_1 12 rfl rfl)
theorem dX4_is_37 : decode cX4_is 37 = .ok (.irem, 1) := dk_112 (dk_at dksX4_is_1 14 rfl rfl)
theorem dX4_is_38 : decode cX4_is 38 = .ok (.iastore, 1) := dk_79 (dk_at dksX4_is_1 15 rfl rfl)
theorem dX4_is_39 : decode cX4_is 39 = .ok (.aload_n 0, 1) := dk_42 (dk_at dksX4_is_1 16 rfl rfl)
theorem dX4_is_40 : decode cX4_is 40 = .ok (.getfield 15, 3) := dk_180 0 15 (dk_at dksX4_is_1 17 rfl rfl)
theorem dX4_is_43 : decode cX4_is 43 = .ok (.iload 4, 2) := dk_21 4 (dk_at dksX4_is_1 20 rfl rfl)
theorem dX4_is_45 : decode cX4_is 45 = .ok (.aload_n 0, 1) := dk_42 (dk_at dksX4_is_1 22 rfl rfl)
theorem dX4_is_46 : decode cX4_is 46 = .ok (.getfield 9, 3) := dk_180 0 9 (dk_at dksX4_is_2 0 rfl rfl)
theorem dX4_is_49 : decode cX4_is 49 = .ok (.iload 4, 2) := dk_21 4 (dk_at dksX4_is_2 3 rfl rfl)
theorem dX4_is_51 : decode cX4_is 51 = .ok (.iaload, 1) := dk_46 (dk_at dksX4_is_2 5 rfl rfl)
theorem dX4_is_52 : decode cX4_is 52 = .ok (.iastore, 1) := dk_79 (dk_at dksX4_is_2 6 rfl rfl)
theorem dX4_is_53 : decode cX4_is 53 = .ok (.aload_n 0, 1) := dk_42 (dk_at dksX4_is_2 7 rfl rfl)
theorem dX4_is_54 : decode cX4_is 54 = .ok (.getfield 18, 3) := dk_180 0 18 (dk_at dksX4_is_2 8 rfl rfl)
theorem dX4_is_57 : decode cX4_is 57 = .ok (.iload 4, 2) := dk_21 4 (dk_at dksX4_is_2 11 rfl rfl)
theorem dX4_is_59 : decode cX4_is 59 = .ok (.iconst 0, 1) := dk_3 (dk_at dksX4_is_2 13 rfl rfl)
theorem dX4_is_60 : decode cX4_is 60 = .ok (.iastore, 1) := dk_79 (dk_at dksX4_is_2 14 rfl rfl)
theorem dX4_is_61 : decode cX4_is 61 = .ok (.iload_n 3, 1) := dk_29 (dk_at dksX4_is_2 15 rfl rfl)
theorem dX4_is_62 : decode cX4_is 62 = .ok (.bipush 10, 2) := dk_16 10 (dk_at dksX4_is_2 16 rfl rfl)
theorem dX4_is_64 : decode cX4_is 64 = .ok (.idiv, 1) := dk_108 (dk_at dksX4_is_2 18 rfl rfl)
theorem dX4_is_65 : decode cX4_is 65 = .ok (.istore_n 3, 1) := dk_62 (dk_at dksX4_is_2 19 rfl rfl)
theorem dX4_is_66 : decode cX4_is 66 = .ok (.iinc 4 (-1), 3) := dk_132 4 255 (dk_at dksX4_is_2 20 rfl rfl)
theorem dX4_is_69 : decode cX4_is 69 = .ok (.goto (-46), 3) := dk_167 255 210 (dk_at dksX4_is_3 0 rfl rfl)
theorem dX4_is_72 : decode cX4_is 72 = .ok (.return_, 1) := dk_177 (dk_at dksX4_is_3 3 rfl rfl)
abbrev cX4_marked : ByteArray := prog_10_method_5_code
def yX4_marked : MethodName := ⟨RX4, "marked", "(I)I"⟩
def dkwX4_marked_1 : List UInt8 := [167, 0, 4, 3, 96, 61, 132, 3, 1, 167, 255, 227, 28, 172]
abbrev dktX4_marked_1 : List UInt8 := dkwX4_marked_1 ++ []
def dkwX4_marked_0 : List UInt8 := [3, 61, 3, 62, 29, 42, 180, 0, 25, 162, 0, 27, 28, 42, 180, 0, 18, 29, 46, 27, 161, 0, 7, 4]
abbrev dktX4_marked_0 : List UInt8 := dkwX4_marked_0 ++ dktX4_marked_1
theorem dksX4_marked_0 : cX4_marked.data.toList.drop 0 = dktX4_marked_0 := by decide +kernel
theorem dksX4_marked_1 : cX4_marked.data.toList.drop 24 = dktX4_marked_1 := dk_seg dksX4_marked_0 24 rfl rfl
theorem dX4_marked_0 : decode cX4_marked 0 = .ok (.iconst 0, 1) := dk_3 (dk_at dksX4_marked_0 0 rfl rfl)
theorem dX4_marked_1 : decode cX4_marked 1 = .ok (.istore_n 2, 1) := dk_61 (dk_at dksX4_marked_0 1 rfl rfl)
theorem dX4_marked_2 : decode cX4_marked 2 = .ok (.iconst 0, 1) := dk_3 (dk_at dksX4_marked_0 2 rfl rfl)
theorem dX4_marked_3 : decode cX4_marked 3 = .ok (.istore_n 3, 1) := dk_62 (dk_at dksX4_marked_0 3 rfl rfl)
theorem dX4_marked_4 : decode cX4_marked 4 = .ok (.iload_n 3, 1) := dk_29 (dk_at dksX4_marked_0 4 rfl rfl)
theorem dX4_marked_5 : decode cX4_marked 5 = .ok (.aload_n 0, 1) := dk_42 (dk_at dksX4_marked_0 5 rfl rfl)
theorem dX4_marked_6 : decode cX4_marked 6 = .ok (.getfield 25, 3) := dk_180 0 25 (dk_at dksX4_marked_0 6 rfl rfl)
theorem dX4_marked_9 : decode cX4_marked 9 = .ok (.if_icmp .ge 27, 3) := dk_162 0 27 (dk_at dksX4_marked_0 9 rfl rfl)
theorem dX4_marked_12 : decode cX4_marked 12 = .ok (.iload_n 2, 1) := dk_28 (dk_at dksX4_marked_0 12 rfl rfl)
theorem dX4_marked_13 : decode cX4_marked 13 = .ok (.aload_n 0, 1) := dk_42 (dk_at dksX4_marked_0 13 rfl rfl)
theorem dX4_marked_14 : decode cX4_marked 14 = .ok (.getfield 18, 3) := dk_180 0 18 (dk_at dksX4_marked_0 14 rfl rfl)
theorem dX4_marked_17 : decode cX4_marked 17 = .ok (.iload_n 3, 1) := dk_29 (dk_at dksX4_marked_0 17 rfl rfl)
theorem dX4_marked_18 : decode cX4_marked 18 = .ok (.iaload, 1) := dk_46 (dk_at dksX4_marked_0 18 rfl rfl)
theorem dX4_marked_19 : decode cX4_marked 19 = .ok (.iload_n 1, 1) := dk_27 (dk_at dksX4_marked_0 19 rfl rfl)
theorem dX4_marked_20 : decode cX4_marked 20 = .ok (.if_icmp .lt 7, 3) := dk_161 0 7 (dk_at dksX4_marked_0 20 rfl rfl)
theorem dX4_marked_23 : decode cX4_marked 23 = .ok (.iconst 1, 1) := dk_4 (dk_at dksX4_marked_0 23 rfl rfl)
theorem dX4_marked_24 : decode cX4_marked 24 = .ok (.goto 4, 3) := dk_167 0 4 (dk_at dksX4_marked_1 0 rfl rfl)
theorem dX4_marked_27 : decode cX4_marked 27 = .ok (.iconst 0, 1) := dk_3 (dk_at dksX4_marked_1 3 rfl rfl)
theorem dX4_marked_28 : decode cX4_marked 28 = .ok (.iadd, 1) := dk_96 (dk_at dksX4_marked_1 4 rfl rfl)
theorem dX4_marked_29 : decode cX4_marked 29 = .ok (.istore_n 2, 1) := dk_61 (dk_at dksX4_marked_1 5 rfl rfl)
theorem dX4_marked_30 : decode cX4_marked 30 = .ok (.iinc 3 1, 3) := dk_132 3 1 (dk_at dksX4_marked_1 6 rfl rfl)
theorem dX4_marked_33 : decode cX4_marked 33 = .ok (.goto (-29), 3) := dk_167 255 227 (dk_at dksX4_marked_1 9 rfl rfl)
theorem dX4_marked_36 : decode cX4_marked 36 = .ok (.iload_n 2, 1) := dk_28 (dk_at dksX4_marked_1 12 rfl rfl)
theorem dX4_marked_37 : decode cX4_marked 37 = .ok (.ireturn, 1) := dk_172 (dk_at dksX4_marked_1 13 rfl rfl)
abbrev cX4_toPrint : ByteArray := prog_10_method_7_code
def yX4_toPrint : MethodName := ⟨RX4, "toPrint", "()I"⟩
def dkwX4_toPrint_1 : List UInt8 := [28, 182, 0, 43, 167, 0, 4, 3, 96, 60, 132, 2, 1, 167, 255, 223, 27, 172]
abbrev dktX4_toPrint_1 : List UInt8 := dkwX4_toPrint_1 ++ []
def dkwX4_toPrint_0 : List UInt8 := [3, 60, 3, 61, 28, 42, 180, 0, 25, 162, 0, 31, 27, 42, 180, 0, 18, 28, 46, 5, 160, 0, 11, 42]
abbrev dktX4_toPrint_0 : List UInt8 := dkwX4_toPrint_0 ++ dktX4_toPrint_1
theorem dksX4_toPrint_0 : cX4_toPrint.data.toList.drop 0 = dktX4_toPrint_0 := by decide +kernel
theorem dksX4_toPrint_1 : cX4_toPrint.data.toList.drop 24 = dktX4_toPrint_1 := dk_seg dksX4_toPrint_0 24 rfl rfl
theorem dX4_toPrint_0 : decode cX4_toPrint 0 = .ok (.iconst 0, 1) := dk_3 (dk_at dksX4_toPrint_0 0 rfl rfl)
theorem dX4_toPrint_1 : decode cX4_toPrint 1 = .ok (.istore_n 1, 1) := dk_60 (dk_at dksX4_toPrint_0 1 rfl rfl)
theorem dX4_toPrint_2 : decode cX4_toPrint 2 = .ok (.iconst 0, 1) := dk_3 (dk_at dksX4_toPrint_0 2 rfl rfl)
theorem dX4_toPrint_3 : decode cX4_toPrint 3 = .ok (.istore_n 2, 1) := dk_61 (dk_at dksX4_toPrint_0 3 rfl rfl)
theorem dX4_toPrint_4 : decode cX4_toPrint 4 = .ok (.iload_n 2, 1) := dk_28 (dk_at dksX4_toPrint_0 4 rfl rfl)
theorem dX4_toPrint_5 : decode cX4_toPrint 5 = .ok (.aload_n 0, 1) := dk_42 (dk_at dksX4_toPrint_0 5 rfl rfl)
theorem dX4_toPrint_6 : decode cX4_toPrint 6 = .ok (.getfield 25, 3) := dk_180 0 25 (dk_at dksX4_toPrint_0 6 rfl rfl)
theorem dX4_toPrint_9 : decode cX4_toPrint 9 = .ok (.if_icmp .ge 31, 3) := dk_162 0 31 (dk_at dksX4_toPrint_0 9 rfl rfl)
theorem dX4_toPrint_12 : decode cX4_toPrint 12 = .ok (.iload_n 1, 1) := dk_27 (dk_at dksX4_toPrint_0 12 rfl rfl)
theorem dX4_toPrint_13 : decode cX4_toPrint 13 = .ok (.aload_n 0, 1) := dk_42 (dk_at dksX4_toPrint_0 13 rfl rfl)
theorem dX4_toPrint_14 : decode cX4_toPrint 14 = .ok (.getfield 18, 3) := dk_180 0 18 (dk_at dksX4_toPrint_0 14 rfl rfl)
theorem dX4_toPrint_17 : decode cX4_toPrint 17 = .ok (.iload_n 2, 1) := dk_28 (dk_at dksX4_toPrint_0 17 rfl rfl)
theorem dX4_toPrint_18 : decode cX4_toPrint 18 = .ok (.iaload, 1) := dk_46 (dk_at dksX4_toPrint_0 18 rfl rfl)
theorem dX4_toPrint_19 : decode cX4_toPrint 19 = .ok (.iconst 2, 1) := dk_5 (dk_at dksX4_toPrint_0 19 rfl rfl)
theorem dX4_toPrint_20 : decode cX4_toPrint 20 = .ok (.if_icmp .ne 11, 3) := dk_160 0 11 (dk_at dksX4_toPrint_0 20 rfl rfl)
theorem dX4_toPrint_23 : decode cX4_toPrint 23 = .ok (.aload_n 0, 1) := dk_42 (dk_at dksX4_toPrint_0 23 rfl rfl)
theorem dX4_toPrint_24 : decode cX4_toPrint 24 = .ok (.iload_n 2, 1) := dk_28 (dk_at dksX4_toPrint_1 0 rfl rfl)
theorem dX4_toPrint_25 : decode cX4_toPrint 25 = .ok (.invokevirtual 43, 3) := dk_182 0 43 (dk_at dksX4_toPrint_1 1 rfl rfl)
theorem dX4_toPrint_28 : decode cX4_toPrint 28 = .ok (.goto 4, 3) := dk_167 0 4 (dk_at dksX4_toPrint_1 4 rfl rfl)
theorem dX4_toPrint_31 : decode cX4_toPrint 31 = .ok (.iconst 0, 1) := dk_3 (dk_at dksX4_toPrint_1 7 rfl rfl)
theorem dX4_toPrint_32 : decode cX4_toPrint 32 = .ok (.iadd, 1) := dk_96 (dk_at dksX4_toPrint_1 8 rfl rfl)
theorem dX4_toPrint_33 : decode cX4_toPrint 33 = .ok (.istore_n 1, 1) := dk_60 (dk_at dksX4_toPrint_1 9 rfl rfl)
theorem dX4_toPrint_34 : decode cX4_toPrint 34 = .ok (.iinc 2 1, 3) := dk_132 2 1 (dk_at dksX4_toPrint_1 10 rfl rfl)
theorem dX4_toPrint_37 : decode cX4_toPrint 37 = .ok (.goto (-33), 3) := dk_167 255 223 (dk_at dksX4_toPrint_1 13 rfl rfl)
theorem dX4_toPrint_40 : decode cX4_toPrint 40 = .ok (.iload_n 1, 1) := dk_27 (dk_at dksX4_toPrint_1 16 rfl rfl)
theorem dX4_toPrint_41 : decode cX4_toPrint 41 = .ok (.ireturn, 1) := dk_172 (dk_at dksX4_toPrint_1 17 rfl rfl)
abbrev cX4_allBad : ByteArray := prog_10_method_6_code
def yX4_allBad : MethodName := ⟨RX4, "allBad", "()I"⟩
def dkwX4_allBad_1 : List UInt8 := [167, 255, 237, 27, 172]
abbrev dktX4_allBad_1 : List UInt8 := dkwX4_allBad_1 ++ []
def dkwX4_allBad_0 : List UInt8 := [3, 60, 3, 61, 28, 42, 180, 0, 25, 162, 0, 17, 27, 42, 28, 182, 0, 43, 96, 60, 132, 2, 1]
abbrev dktX4_allBad_0 : List UInt8 := dkwX4_allBad_0 ++ dktX4_allBad_1
theorem dksX4_allBad_0 : cX4_allBad.data.toList.drop 0 = dktX4_allBad_0 := by decide +kernel
theorem dksX4_allBad_1 : cX4_allBad.data.toList.drop 23 = dktX4_allBad_1 := dk_seg dksX4_allBad_0 23 rfl rfl
theorem dX4_allBad_0 : decode cX4_allBad 0 = .ok (.iconst 0, 1) := dk_3 (dk_at dksX4_allBad_0 0 rfl rfl)
theorem dX4_allBad_1 : decode cX4_allBad 1 = .ok (.istore_n 1, 1) := dk_60 (dk_at dksX4_allBad_0 1 rfl rfl)
theorem dX4_allBad_2 : decode cX4_allBad 2 = .ok (.iconst 0, 1) := dk_3 (dk_at dksX4_allBad_0 2 rfl rfl)
theorem dX4_allBad_3 : decode cX4_allBad 3 = .ok (.istore_n 2, 1) := dk_61 (dk_at dksX4_allBad_0 3 rfl rfl)
theorem dX4_allBad_4 : decode cX4_allBad 4 = .ok (.iload_n 2, 1) := dk_28 (dk_at dksX4_allBad_0 4 rfl rfl)
theorem dX4_allBad_5 : decode cX4_allBad 5 = .ok (.aload_n 0, 1) := dk_42 (dk_at dksX4_allBad_0 5 rfl rfl)
theorem dX4_allBad_6 : decode cX4_allBad 6 = .ok (.getfield 25, 3) := dk_180 0 25 (dk_at dksX4_allBad_0 6 rfl rfl)
theorem dX4_allBad_9 : decode cX4_allBad 9 = .ok (.if_icmp .ge 17, 3) := dk_162 0 17 (dk_at dksX4_allBad_0 9 rfl rfl)
theorem dX4_allBad_12 : decode cX4_allBad 12 = .ok (.iload_n 1, 1) := dk_27 (dk_at dksX4_allBad_0 12 rfl rfl)
theorem dX4_allBad_13 : decode cX4_allBad 13 = .ok (.aload_n 0, 1) := dk_42 (dk_at dksX4_allBad_0 13 rfl rfl)
theorem dX4_allBad_14 : decode cX4_allBad 14 = .ok (.iload_n 2, 1) := dk_28 (dk_at dksX4_allBad_0 14 rfl rfl)
theorem dX4_allBad_15 : decode cX4_allBad 15 = .ok (.invokevirtual 43, 3) := dk_182 0 43 (dk_at dksX4_allBad_0 15 rfl rfl)
theorem dX4_allBad_18 : decode cX4_allBad 18 = .ok (.iadd, 1) := dk_96 (dk_at dksX4_allBad_0 18 rfl rfl)
theorem dX4_allBad_19 : decode cX4_allBad 19 = .ok (.istore_n 1, 1) := dk_60 (dk_at dksX4_allBad_0 19 rfl rfl)
theorem dX4_allBad_20 : decode cX4_allBad 20 = .ok (.iinc 2 1, 3) := dk_132 2 1 (dk_at dksX4_allBad_0 20 rfl rfl)
theorem dX4_allBad_23 : decode cX4_allBad 23 = .ok (.goto (-19), 3) := dk_167 255 237 (dk_at dksX4_allBad_1 0 rfl rfl)
theorem dX4_allBad_26 : decode cX4_allBad 26 = .ok (.iload_n 1, 1) := dk_27 (dk_at dksX4_allBad_1 3 rfl rfl)
theorem dX4_allBad_27 : decode cX4_allBad 27 = .ok (.ireturn, 1) := dk_172 (dk_at dksX4_allBad_1 4 rfl rfl)
abbrev cX4_unlike : ByteArray := prog_10_method_8_code
def yX4_unlike : MethodName := ⟨RX4, "unlike", "(LErrataPress$Sheet;)I"⟩
def dkwX4_unlike_2 : List UInt8 := [167, 0, 4, 4, 96, 61, 132, 3, 1, 167, 255, 214, 28, 172]
abbrev dktX4_unlike_2 : List UInt8 := dkwX4_unlike_2 ++ []
def dkwX4_unlike_1 : List UInt8 := [43, 180, 0, 25, 162, 0, 32, 28, 42, 180, 0, 15, 29, 46, 43, 180, 0, 9, 29, 46, 160, 0, 7, 3]
abbrev dktX4_unlike_1 : List UInt8 := dkwX4_unlike_1 ++ dktX4_unlike_2
def dkwX4_unlike_0 : List UInt8 := [42, 180, 0, 25, 43, 180, 0, 25, 100, 184, 0, 38, 61, 3, 62, 29, 42, 180, 0, 25, 162, 0, 40, 29]
abbrev dktX4_unlike_0 : List UInt8 := dkwX4_unlike_0 ++ dktX4_unlike_1
theorem dksX4_unlike_0 : cX4_unlike.data.toList.drop 0 = dktX4_unlike_0 := by decide +kernel
theorem dksX4_unlike_1 : cX4_unlike.data.toList.drop 24 = dktX4_unlike_1 := dk_seg dksX4_unlike_0 24 rfl rfl
theorem dksX4_unlike_2 : cX4_unlike.data.toList.drop 48 = dktX4_unlike_2 := dk_seg dksX4_unlike_1 24 rfl rfl
theorem dX4_unlike_0 : decode cX4_unlike 0 = .ok (.aload_n 0, 1) := dk_42 (dk_at dksX4_unlike_0 0 rfl rfl)
theorem dX4_unlike_1 : decode cX4_unlike 1 = .ok (.getfield 25, 3) := dk_180 0 25 (dk_at dksX4_unlike_0 1 rfl rfl)
theorem dX4_unlike_4 : decode cX4_unlike 4 = .ok (.aload_n 1, 1) := dk_43 (dk_at dksX4_unlike_0 4 rfl rfl)
theorem dX4_unlike_5 : decode cX4_unlike 5 = .ok (.getfield 25, 3) := dk_180 0 25 (dk_at dksX4_unlike_0 5 rfl rfl)
theorem dX4_unlike_8 : decode cX4_unlike 8 = .ok (.isub, 1) := dk_100 (dk_at dksX4_unlike_0 8 rfl rfl)
theorem dX4_unlike_9 : decode cX4_unlike 9 = .ok (.invokestatic 38, 3) := dk_184 0 38 (dk_at dksX4_unlike_0 9 rfl rfl)
theorem dX4_unlike_12 : decode cX4_unlike 12 = .ok (.istore_n 2, 1) := dk_61 (dk_at dksX4_unlike_0 12 rfl rfl)
theorem dX4_unlike_13 : decode cX4_unlike 13 = .ok (.iconst 0, 1) := dk_3 (dk_at dksX4_unlike_0 13 rfl rfl)
theorem dX4_unlike_14 : decode cX4_unlike 14 = .ok (.istore_n 3, 1) := dk_62 (dk_at dksX4_unlike_0 14 rfl rfl)
theorem dX4_unlike_15 : decode cX4_unlike 15 = .ok (.iload_n 3, 1) := dk_29 (dk_at dksX4_unlike_0 15 rfl rfl)
theorem dX4_unlike_16 : decode cX4_unlike 16 = .ok (.aload_n 0, 1) := dk_42 (dk_at dksX4_unlike_0 16 rfl rfl)
theorem dX4_unlike_17 : decode cX4_unlike 17 = .ok (.getfield 25, 3) := dk_180 0 25 (dk_at dksX4_unlike_0 17 rfl rfl)
theorem dX4_unlike_20 : decode cX4_unlike 20 = .ok (.if_icmp .ge 40, 3) := dk_162 0 40 (dk_at dksX4_unlike_0 20 rfl rfl)
theorem dX4_unlike_23 : decode cX4_unlike 23 = .ok (.iload_n 3, 1) := dk_29 (dk_at dksX4_unlike_0 23 rfl rfl)
theorem dX4_unlike_24 : decode cX4_unlike 24 = .ok (.aload_n 1, 1) := dk_43 (dk_at dksX4_unlike_1 0 rfl rfl)
theorem dX4_unlike_25 : decode cX4_unlike 25 = .ok (.getfield 25, 3) := dk_180 0 25 (dk_at dksX4_unlike_1 1 rfl rfl)
theorem dX4_unlike_28 : decode cX4_unlike 28 = .ok (.if_icmp .ge 32, 3) := dk_162 0 32 (dk_at dksX4_unlike_1 4 rfl rfl)
theorem dX4_unlike_31 : decode cX4_unlike 31 = .ok (.iload_n 2, 1) := dk_28 (dk_at dksX4_unlike_1 7 rfl rfl)
theorem dX4_unlike_32 : decode cX4_unlike 32 = .ok (.aload_n 0, 1) := dk_42 (dk_at dksX4_unlike_1 8 rfl rfl)
theorem dX4_unlike_33 : decode cX4_unlike 33 = .ok (.getfield 15, 3) := dk_180 0 15 (dk_at dksX4_unlike_1 9 rfl rfl)
theorem dX4_unlike_36 : decode cX4_unlike 36 = .ok (.iload_n 3, 1) := dk_29 (dk_at dksX4_unlike_1 12 rfl rfl)
theorem dX4_unlike_37 : decode cX4_unlike 37 = .ok (.iaload, 1) := dk_46 (dk_at dksX4_unlike_1 13 rfl rfl)
theorem dX4_unlike_38 : decode cX4_unlike 38 = .ok (.aload_n 1, 1) := dk_43 (dk_at dksX4_unlike_1 14 rfl rfl)
theorem dX4_unlike_39 : decode cX4_unlike 39 = .ok (.getfield 9, 3) := dk_180 0 9 (dk_at dksX4_unlike_1 15 rfl rfl)
theorem dX4_unlike_42 : decode cX4_unlike 42 = .ok (.iload_n 3, 1) := dk_29 (dk_at dksX4_unlike_1 18 rfl rfl)
theorem dX4_unlike_43 : decode cX4_unlike 43 = .ok (.iaload, 1) := dk_46 (dk_at dksX4_unlike_1 19 rfl rfl)
theorem dX4_unlike_44 : decode cX4_unlike 44 = .ok (.if_icmp .ne 7, 3) := dk_160 0 7 (dk_at dksX4_unlike_1 20 rfl rfl)
theorem dX4_unlike_47 : decode cX4_unlike 47 = .ok (.iconst 0, 1) := dk_3 (dk_at dksX4_unlike_1 23 rfl rfl)
theorem dX4_unlike_48 : decode cX4_unlike 48 = .ok (.goto 4, 3) := dk_167 0 4 (dk_at dksX4_unlike_2 0 rfl rfl)
theorem dX4_unlike_51 : decode cX4_unlike 51 = .ok (.iconst 1, 1) := dk_4 (dk_at dksX4_unlike_2 3 rfl rfl)
theorem dX4_unlike_52 : decode cX4_unlike 52 = .ok (.iadd, 1) := dk_96 (dk_at dksX4_unlike_2 4 rfl rfl)
theorem dX4_unlike_53 : decode cX4_unlike 53 = .ok (.istore_n 2, 1) := dk_61 (dk_at dksX4_unlike_2 5 rfl rfl)
theorem dX4_unlike_54 : decode cX4_unlike 54 = .ok (.iinc 3 1, 3) := dk_132 3 1 (dk_at dksX4_unlike_2 6 rfl rfl)
theorem dX4_unlike_57 : decode cX4_unlike 57 = .ok (.goto (-42), 3) := dk_167 255 214 (dk_at dksX4_unlike_2 9 rfl rfl)
theorem dX4_unlike_60 : decode cX4_unlike 60 = .ok (.iload_n 2, 1) := dk_28 (dk_at dksX4_unlike_2 12 rfl rfl)
theorem dX4_unlike_61 : decode cX4_unlike 61 = .ok (.ireturn, 1) := dk_172 (dk_at dksX4_unlike_2 13 rfl rfl)
abbrev cX4_writes : ByteArray := prog_10_method_9_code
def yX4_writes : MethodName := ⟨RX4, "writes", "(Ljava/lang/StringBuilder;)V"⟩
def dkwX4_writes_3 : List UInt8 := [6, 160, 0, 8, 16, 33, 167, 0, 5, 16, 39, 182, 0, 52, 87, 132, 2, 1, 167, 255, 182, 177]
abbrev dktX4_writes_3 : List UInt8 := dkwX4_writes_3 ++ []
def dkwX4_writes_2 : List UInt8 := [4, 100, 146, 182, 0, 52, 87, 42, 180, 0, 18, 28, 46, 5, 161, 0, 25, 43, 42, 180, 0, 18, 28, 46]
abbrev dktX4_writes_2 : List UInt8 := dkwX4_writes_2 ++ dktX4_writes_3
def dkwX4_writes_1 : List UInt8 := [43, 42, 180, 0, 18, 28, 46, 154, 0, 8, 16, 97, 167, 0, 5, 16, 65, 42, 180, 0, 15, 28, 46, 96]
abbrev dktX4_writes_1 : List UInt8 := dkwX4_writes_1 ++ dktX4_writes_2
def dkwX4_writes_0 : List UInt8 := [43, 42, 180, 0, 21, 182, 0, 46, 16, 58, 182, 0, 52, 87, 3, 61, 28, 42, 180, 0, 25, 162, 0, 72]
abbrev dktX4_writes_0 : List UInt8 := dkwX4_writes_0 ++ dktX4_writes_1
theorem dksX4_writes_0 : cX4_writes.data.toList.drop 0 = dktX4_writes_0 := by decide +kernel
theorem dksX4_writes_1 : cX4_writes.data.toList.drop 24 = dktX4_writes_1 := dk_seg dksX4_writes_0 24 rfl rfl
theorem dksX4_writes_2 : cX4_writes.data.toList.drop 48 = dktX4_writes_2 := dk_seg dksX4_writes_1 24 rfl rfl
theorem dksX4_writes_3 : cX4_writes.data.toList.drop 72 = dktX4_writes_3 := dk_seg dksX4_writes_2 24 rfl rfl
theorem dX4_writes_0 : decode cX4_writes 0 = .ok (.aload_n 1, 1) := dk_43 (dk_at dksX4_writes_0 0 rfl rfl)
theorem dX4_writes_1 : decode cX4_writes 1 = .ok (.aload_n 0, 1) := dk_42 (dk_at dksX4_writes_0 1 rfl rfl)
theorem dX4_writes_2 : decode cX4_writes 2 = .ok (.getfield 21, 3) := dk_180 0 21 (dk_at dksX4_writes_0 2 rfl rfl)
theorem dX4_writes_5 : decode cX4_writes 5 = .ok (.invokevirtual 46, 3) := dk_182 0 46 (dk_at dksX4_writes_0 5 rfl rfl)
theorem dX4_writes_8 : decode cX4_writes 8 = .ok (.bipush 58, 2) := dk_16 58 (dk_at dksX4_writes_0 8 rfl rfl)
theorem dX4_writes_10 : decode cX4_writes 10 = .ok (.invokevirtual 52, 3) := dk_182 0 52 (dk_at dksX4_writes_0 10 rfl rfl)
theorem dX4_writes_13 : decode cX4_writes 13 = .ok (.pop, 1) := dk_87 (dk_at dksX4_writes_0 13 rfl rfl)
theorem dX4_writes_14 : decode cX4_writes 14 = .ok (.iconst 0, 1) := dk_3 (dk_at dksX4_writes_0 14 rfl rfl)
theorem dX4_writes_15 : decode cX4_writes 15 = .ok (.istore_n 2, 1) := dk_61 (dk_at dksX4_writes_0 15 rfl rfl)
theorem dX4_writes_16 : decode cX4_writes 16 = .ok (.iload_n 2, 1) := dk_28 (dk_at dksX4_writes_0 16 rfl rfl)
theorem dX4_writes_17 : decode cX4_writes 17 = .ok (.aload_n 0, 1) := dk_42 (dk_at dksX4_writes_0 17 rfl rfl)
theorem dX4_writes_18 : decode cX4_writes 18 = .ok (.getfield 25, 3) := dk_180 0 25 (dk_at dksX4_writes_0 18 rfl rfl)
theorem dX4_writes_21 : decode cX4_writes 21 = .ok (.if_icmp .ge 72, 3) := dk_162 0 72 (dk_at dksX4_writes_0 21 rfl rfl)
theorem dX4_writes_24 : decode cX4_writes 24 = .ok (.aload_n 1, 1) := dk_43 (dk_at dksX4_writes_1 0 rfl rfl)
theorem dX4_writes_25 : decode cX4_writes 25 = .ok (.aload_n 0, 1) := dk_42 (dk_at dksX4_writes_1 1 rfl rfl)
theorem dX4_writes_26 : decode cX4_writes 26 = .ok (.getfield 18, 3) := dk_180 0 18 (dk_at dksX4_writes_1 2 rfl rfl)
theorem dX4_writes_29 : decode cX4_writes 29 = .ok (.iload_n 2, 1) := dk_28 (dk_at dksX4_writes_1 5 rfl rfl)
theorem dX4_writes_30 : decode cX4_writes 30 = .ok (.iaload, 1) := dk_46 (dk_at dksX4_writes_1 6 rfl rfl)
theorem dX4_writes_31 : decode cX4_writes 31 = .ok (.ifCond .ne 8, 3) := dk_154 0 8 (dk_at dksX4_writes_1 7 rfl rfl)
theorem dX4_writes_34 : decode cX4_writes 34 = .ok (.bipush 97, 2) := dk_16 97 (dk_at dksX4_writes_1 10 rfl rfl)
theorem dX4_writes_36 : decode cX4_writes 36 = .ok (.goto 5, 3) := dk_167 0 5 (dk_at dksX4_writes_1 12 rfl rfl)
theorem dX4_writes_39 : decode cX4_writes 39 = .ok (.bipush 65, 2) := dk_16 65 (dk_at dksX4_writes_1 15 rfl rfl)
theorem dX4_writes_41 : decode cX4_writes 41 = .ok (.aload_n 0, 1) := dk_42 (dk_at dksX4_writes_1 17 rfl rfl)
theorem dX4_writes_42 : decode cX4_writes 42 = .ok (.getfield 15, 3) := dk_180 0 15 (dk_at dksX4_writes_1 18 rfl rfl)
theorem dX4_writes_45 : decode cX4_writes 45 = .ok (.iload_n 2, 1) := dk_28 (dk_at dksX4_writes_1 21 rfl rfl)
theorem dX4_writes_46 : decode cX4_writes 46 = .ok (.iaload, 1) := dk_46 (dk_at dksX4_writes_1 22 rfl rfl)
theorem dX4_writes_47 : decode cX4_writes 47 = .ok (.iadd, 1) := dk_96 (dk_at dksX4_writes_1 23 rfl rfl)
theorem dX4_writes_48 : decode cX4_writes 48 = .ok (.iconst 1, 1) := dk_4 (dk_at dksX4_writes_2 0 rfl rfl)
theorem dX4_writes_49 : decode cX4_writes 49 = .ok (.isub, 1) := dk_100 (dk_at dksX4_writes_2 1 rfl rfl)
theorem dX4_writes_50 : decode cX4_writes 50 = .ok (.i2c, 1) := dk_146 (dk_at dksX4_writes_2 2 rfl rfl)
theorem dX4_writes_51 : decode cX4_writes 51 = .ok (.invokevirtual 52, 3) := dk_182 0 52 (dk_at dksX4_writes_2 3 rfl rfl)
theorem dX4_writes_54 : decode cX4_writes 54 = .ok (.pop, 1) := dk_87 (dk_at dksX4_writes_2 6 rfl rfl)
theorem dX4_writes_55 : decode cX4_writes 55 = .ok (.aload_n 0, 1) := dk_42 (dk_at dksX4_writes_2 7 rfl rfl)
theorem dX4_writes_56 : decode cX4_writes 56 = .ok (.getfield 18, 3) := dk_180 0 18 (dk_at dksX4_writes_2 8 rfl rfl)
theorem dX4_writes_59 : decode cX4_writes 59 = .ok (.iload_n 2, 1) := dk_28 (dk_at dksX4_writes_2 11 rfl rfl)
theorem dX4_writes_60 : decode cX4_writes 60 = .ok (.iaload, 1) := dk_46 (dk_at dksX4_writes_2 12 rfl rfl)
theorem dX4_writes_61 : decode cX4_writes 61 = .ok (.iconst 2, 1) := dk_5 (dk_at dksX4_writes_2 13 rfl rfl)
theorem dX4_writes_62 : decode cX4_writes 62 = .ok (.if_icmp .lt 25, 3) := dk_161 0 25 (dk_at dksX4_writes_2 14 rfl rfl)
theorem dX4_writes_65 : decode cX4_writes 65 = .ok (.aload_n 1, 1) := dk_43 (dk_at dksX4_writes_2 17 rfl rfl)
theorem dX4_writes_66 : decode cX4_writes 66 = .ok (.aload_n 0, 1) := dk_42 (dk_at dksX4_writes_2 18 rfl rfl)
theorem dX4_writes_67 : decode cX4_writes 67 = .ok (.getfield 18, 3) := dk_180 0 18 (dk_at dksX4_writes_2 19 rfl rfl)
theorem dX4_writes_70 : decode cX4_writes 70 = .ok (.iload_n 2, 1) := dk_28 (dk_at dksX4_writes_2 22 rfl rfl)
theorem dX4_writes_71 : decode cX4_writes 71 = .ok (.iaload, 1) := dk_46 (dk_at dksX4_writes_2 23 rfl rfl)
theorem dX4_writes_72 : decode cX4_writes 72 = .ok (.iconst 3, 1) := dk_6 (dk_at dksX4_writes_3 0 rfl rfl)
theorem dX4_writes_73 : decode cX4_writes 73 = .ok (.if_icmp .ne 8, 3) := dk_160 0 8 (dk_at dksX4_writes_3 1 rfl rfl)
theorem dX4_writes_76 : decode cX4_writes 76 = .ok (.bipush 33, 2) := dk_16 33 (dk_at dksX4_writes_3 4 rfl rfl)
theorem dX4_writes_78 : decode cX4_writes 78 = .ok (.goto 5, 3) := dk_167 0 5 (dk_at dksX4_writes_3 6 rfl rfl)
theorem dX4_writes_81 : decode cX4_writes 81 = .ok (.bipush 39, 2) := dk_16 39 (dk_at dksX4_writes_3 9 rfl rfl)
theorem dX4_writes_83 : decode cX4_writes 83 = .ok (.invokevirtual 52, 3) := dk_182 0 52 (dk_at dksX4_writes_3 11 rfl rfl)
theorem dX4_writes_86 : decode cX4_writes 86 = .ok (.pop, 1) := dk_87 (dk_at dksX4_writes_3 14 rfl rfl)
theorem dX4_writes_87 : decode cX4_writes 87 = .ok (.iinc 2 1, 3) := dk_132 2 1 (dk_at dksX4_writes_3 15 rfl rfl)
theorem dX4_writes_90 : decode cX4_writes 90 = .ok (.goto (-74), 3) := dk_167 255 182 (dk_at dksX4_writes_3 18 rfl rfl)
theorem dX4_writes_93 : decode cX4_writes 93 = .ok (.return_, 1) := dk_177 (dk_at dksX4_writes_3 21 rfl rfl)
def fX4 : List ZE := [(9, 3, 2, .array .int, 2), (15, 3, 3, .array .int, 2), (18, 3, 4, .array .int, 2), (21, 3, 0, .int, 0), (25, 3, 1, .int, 0)]
theorem fokX4 : zFok RX4 fX4 := List.forall_mem_cons.mpr ⟨⟨by decide, by decide, by decide +kernel, Or.inr q167, by decide, by decide +kernel⟩, List.forall_mem_cons.mpr ⟨⟨by decide, by decide, by decide +kernel, Or.inr q170, by decide, by decide +kernel⟩, List.forall_mem_cons.mpr ⟨⟨by decide, by decide, by decide +kernel, Or.inr q173, by decide, by decide +kernel⟩, List.forall_mem_cons.mpr ⟨⟨by decide, by decide, by decide +kernel, Or.inr q161, by decide, by decide +kernel⟩, List.forall_mem_cons.mpr ⟨⟨by decide, by decide, by decide +kernel, Or.inr q164, by decide, by decide +kernel⟩, fun _ h => by cases h⟩⟩⟩⟩⟩
abbrev kX4_init : ZK := (RX4, cX4_init, 1, (Option.none : Option Jvm.ClassFile.FieldType), [], true, fX4)
abbrev tX4_init (g : ZG) (args : List Value) (M : ZM) (d c s : Nat) (Q : ZQ) : Prop := Ct g yX4_init (ws_ yX4_init cX4_init 1 (Option.none : Option Jvm.ClassFile.FieldType)) args M d c s Q
abbrev nX4_init : Nat := 2
theorem mX4_init : zMok yX4_init 0 1 := ⟨⟨by decide +kernel, by decide +kernel, by decide +kernel⟩, by decide⟩
theorem eX4_init {g : ZG} {Q : ZQ} {d cN sN : Nat} {M : ZM} {a0 : Nat} (hV : zV g) (h : Z g kX4_init Q d cN sN M 0 [some (.ref a0)] []) : tX4_init g [.ref a0] M d cN sN Q := Ct.of (K := kX4_init) rfl (by decide +kernel) hV fokX4 rfl (fun h => rfl) (fun v hv => by simp only [List.mem_cons, List.not_mem_nil, or_false] at hv; rcases hv with rfl <;> first | rfl | assumption) (Nat.le_of_ble_eq_true rfl) h
theorem sX4_init_0 {g : ZG} {Q : ZQ} {d cN sN : Nat} {M : ZM} {l0 : Nat}  (kk : Z g kX4_init Q d cN sN M 1 [some (.ref l0)] [.ref l0]) : Z g kX4_init Q d cN sN M 0 [some (.ref l0)] [] := by
  refine zi_aload_n dX4_init_0 rfl zrf_r ?_
  exact kk
theorem sX4_init_4 {g : ZG} {Q : ZQ} {d cN sN : Nat} {M : ZM} {l0 : Nat}  (kk : Z g kX4_init Q d cN sN M 7 [some (.ref l0)] [.int 8, .ref l0]) : Z g kX4_init Q d cN sN M 4 [some (.ref l0)] [] := by
  refine zi_aload_n dX4_init_4 rfl zrf_r ?_
  refine zi_bipush dX4_init_5 (by decide +kernel : (Int8.ofInt (8)).toInt32 = (8 : Int32)) ?_
  exact kk
theorem sX4_init_9 {g : ZG} {Q : ZQ} {d cN sN : Nat} {M : ZM} {t0 : Nat} {t1 : Nat} {fs1 : List Value} {l0 : Nat} (h2 : M.1 t0 = some (.inr (3, fs1))) (h3 : 2 < (fs1).length) (kk : Z g kX4_init Q d cN sN (zup M t0 (.inr (3, (fs1).set 2 (.ref t1)))) 15 [some (.ref l0)] [.int 8, .ref l0]) : Z g kX4_init Q d cN sN M 9 [some (.ref l0)] [.ref t1, .ref t0] := by
  refine zi_putfield dX4_init_9 rfl h2 h3 (zfit_a zrf_r) (Or.inr ⟨rfl, rfl⟩) ?_
  refine zi_aload_n dX4_init_12 rfl zrf_r ?_
  refine zi_bipush dX4_init_13 (by decide +kernel : (Int8.ofInt (8)).toInt32 = (8 : Int32)) ?_
  exact kk
theorem sX4_init_17 {g : ZG} {Q : ZQ} {d cN sN : Nat} {M : ZM} {t0 : Nat} {t1 : Nat} {fs1 : List Value} {l0 : Nat} (h2 : M.1 t0 = some (.inr (3, fs1))) (h3 : 3 < (fs1).length) (kk : Z g kX4_init Q d cN sN (zup M t0 (.inr (3, (fs1).set 3 (.ref t1)))) 23 [some (.ref l0)] [.int 8, .ref l0]) : Z g kX4_init Q d cN sN M 17 [some (.ref l0)] [.ref t1, .ref t0] := by
  refine zi_putfield dX4_init_17 rfl h2 h3 (zfit_a zrf_r) (Or.inr ⟨rfl, rfl⟩) ?_
  refine zi_aload_n dX4_init_20 rfl zrf_r ?_
  refine zi_bipush dX4_init_21 (by decide +kernel : (Int8.ofInt (8)).toInt32 = (8 : Int32)) ?_
  exact kk
theorem sX4_init_25 {g : ZG} {Q : ZQ} {d cN sN : Nat} {M : ZM} {t0 : Nat} {t1 : Nat} {fs1 : List Value} {o0 : Option Value} (h2 : M.1 t0 = some (.inr (3, fs1))) (h3 : 4 < (fs1).length) (kk : Q.1 none (zup M t0 (.inr (3, (fs1).set 4 (.ref t1))))) : Z g kX4_init Q d cN sN M 25 [o0] [.ref t1, .ref t0] := by
  refine zi_putfield dX4_init_25 rfl h2 h3 (zfit_a zrf_r) (Or.inr ⟨rfl, rfl⟩) ?_
  exact zi_return dX4_init_28 rfl kk
abbrev kX4_take : ZK := (RX4, cX4_take, 2, (Option.none : Option Jvm.ClassFile.FieldType), [], false, fX4)
abbrev tX4_take (g : ZG) (args : List Value) (M : ZM) (d c s : Nat) (Q : ZQ) : Prop := Ct g yX4_take (ws_ yX4_take cX4_take 2 (Option.none : Option Jvm.ClassFile.FieldType)) args M d c s Q
abbrev nX4_take : Nat := 2
theorem mX4_take : zMok yX4_take 1 2 := ⟨⟨by decide +kernel, by decide +kernel, by decide +kernel⟩, by decide⟩
theorem eX4_take {g : ZG} {Q : ZQ} {d cN sN : Nat} {M : ZM} {a0 : Nat} {v1 : Value} (hv1 : v1.category = 1) (hV : zV g) (h : Z g kX4_take Q d cN sN M 0 [some (.ref a0), some (v1)] []) : tX4_take g [.ref a0, v1] M d cN sN Q := Ct.of (K := kX4_take) rfl (by decide +kernel) hV fokX4 rfl (fun h => by cases h) (fun v hv => by simp only [List.mem_cons, List.not_mem_nil, or_false] at hv; rcases hv with rfl | rfl <;> first | rfl | assumption) (Nat.le_of_ble_eq_true rfl) h
theorem sX4_take_0 {g : ZG} {Q : ZQ} {d cN sN : Nat} {M : ZM} {l0 : Nat} {l1 : Nat} {fs1 : List Value} {y3 : Int32} {fs5 : List Value} {fs8 : List Value} {y10 : Int32} {fs13 : List Value} {r15 : Nat} {r17 : Nat} (h2 : M.1 l1 = some (.inr (3, fs1))) (h4 : (fs1)[0]? = some (.int y3)) (h6 : M.1 l0 = some (.inr (3, fs5))) (h7 : 0 < (fs5).length) (h9 : (zup M l0 (.inr (3, (fs5).set 0 (.int y3)))).1 l1 = some (.inr (3, fs8))) (h11 : (fs8)[1]? = some (.int y10)) (h12 : 1 < (((fs5).set 0 (.int y3))).length) (h14 : (zup (zup M l0 (.inr (3, (fs5).set 0 (.int y3)))) l0 (.inr (3, (((fs5).set 0 (.int y3))).set 1 (.int y10)))).1 l1 = some (.inr (3, fs13))) (h16 : (fs13)[2]? = some (.ref r15)) (h18 : (((((fs5).set 0 (.int y3))).set 1 (.int y10)))[2]? = some (.ref r17)) (kk : Z g kX4_take Q d cN sN (zup (zup M l0 (.inr (3, (fs5).set 0 (.int y3)))) l0 (.inr (3, (((fs5).set 0 (.int y3))).set 1 (.int y10)))) 28 [some (.ref l0), some (.ref l1)] [.int 8, .int 0, .ref r17, .int 0, .ref r15]) : Z g kX4_take Q d cN sN M 0 [some (.ref l0), some (.ref l1)] [] := by
  refine zi_aload_n dX4_take_0 rfl zrf_r ?_
  refine zi_aload_n dX4_take_1 rfl zrf_r ?_
  refine zi_getfield dX4_take_2 rfl h2 h4 ?_
  refine zi_putfield dX4_take_5 rfl h6 h7 zfit_i (Or.inl rfl) ?_
  refine zi_aload_n dX4_take_8 rfl zrf_r ?_
  refine zi_aload_n dX4_take_9 rfl zrf_r ?_
  refine zi_getfield dX4_take_10 rfl h9 h11 ?_
  refine zi_putfield dX4_take_13 rfl (zup_self _ _ _) h12 zfit_i (Or.inl rfl) ?_
  refine zi_aload_n dX4_take_16 rfl zrf_r ?_
  refine zi_getfield dX4_take_17 rfl h14 h16 ?_
  refine zi_iconst dX4_take_20 (by decide +kernel : Int32.ofInt (0) = (0 : Int32)) ?_
  refine zi_aload_n dX4_take_21 rfl zrf_r ?_
  refine zi_getfield dX4_take_22 rfl (zup_self _ _ _) h18 ?_
  refine zi_iconst dX4_take_25 (by decide +kernel : Int32.ofInt (0) = (0 : Int32)) ?_
  refine zi_bipush dX4_take_26 (by decide +kernel : (Int8.ofInt (8)).toInt32 = (8 : Int32)) ?_
  exact kk
theorem sX4_take_31 {g : ZG} {Q : ZQ} {d cN sN : Nat} {M : ZM} {l1 : Nat} {fs1 : List Value} {r3 : Nat} {l0 : Nat} {fs5 : List Value} {r7 : Nat} (h2 : M.1 l1 = some (.inr (3, fs1))) (h4 : (fs1)[3]? = some (.ref r3)) (h6 : M.1 l0 = some (.inr (3, fs5))) (h8 : (fs5)[3]? = some (.ref r7)) (kk : Z g kX4_take Q d cN sN M 43 [some (.ref l0), some (.ref l1)] [.int 8, .int 0, .ref r7, .int 0, .ref r3]) : Z g kX4_take Q d cN sN M 31 [some (.ref l0), some (.ref l1)] [] := by
  refine zi_aload_n dX4_take_31 rfl zrf_r ?_
  refine zi_getfield dX4_take_32 rfl h2 h4 ?_
  refine zi_iconst dX4_take_35 (by decide +kernel : Int32.ofInt (0) = (0 : Int32)) ?_
  refine zi_aload_n dX4_take_36 rfl zrf_r ?_
  refine zi_getfield dX4_take_37 rfl h6 h8 ?_
  refine zi_iconst dX4_take_40 (by decide +kernel : Int32.ofInt (0) = (0 : Int32)) ?_
  refine zi_bipush dX4_take_41 (by decide +kernel : (Int8.ofInt (8)).toInt32 = (8 : Int32)) ?_
  exact kk
theorem sX4_take_46 {g : ZG} {Q : ZQ} {d cN sN : Nat} {M : ZM} {l1 : Nat} {fs1 : List Value} {r3 : Nat} {l0 : Nat} {fs5 : List Value} {r7 : Nat} (h2 : M.1 l1 = some (.inr (3, fs1))) (h4 : (fs1)[4]? = some (.ref r3)) (h6 : M.1 l0 = some (.inr (3, fs5))) (h8 : (fs5)[4]? = some (.ref r7)) (kk : Z g kX4_take Q d cN sN M 58 [some (.ref l0), some (.ref l1)] [.int 8, .int 0, .ref r7, .int 0, .ref r3]) : Z g kX4_take Q d cN sN M 46 [some (.ref l0), some (.ref l1)] [] := by
  refine zi_aload_n dX4_take_46 rfl zrf_r ?_
  refine zi_getfield dX4_take_47 rfl h2 h4 ?_
  refine zi_iconst dX4_take_50 (by decide +kernel : Int32.ofInt (0) = (0 : Int32)) ?_
  refine zi_aload_n dX4_take_51 rfl zrf_r ?_
  refine zi_getfield dX4_take_52 rfl h6 h8 ?_
  refine zi_iconst dX4_take_55 (by decide +kernel : Int32.ofInt (0) = (0 : Int32)) ?_
  refine zi_bipush dX4_take_56 (by decide +kernel : (Int8.ofInt (8)).toInt32 = (8 : Int32)) ?_
  exact kk
theorem sX4_take_61 {g : ZG} {Q : ZQ} {d cN sN : Nat} {M : ZM} {o0 o1 : Option Value}  (kk : Q.1 none M) : Z g kX4_take Q d cN sN M 61 [o0, o1] [] := by
  exact zi_return dX4_take_61 rfl kk
abbrev kX4_bad : ZK := (RX4, cX4_bad, 2, (Option.some Jvm.ClassFile.FieldType.int), [], false, fX4)
abbrev tX4_bad (g : ZG) (args : List Value) (M : ZM) (d c s : Nat) (Q : ZQ) : Prop := Ct g yX4_bad (ws_ yX4_bad cX4_bad 2 (Option.some Jvm.ClassFile.FieldType.int)) args M d c s Q
abbrev nX4_bad : Nat := 2
theorem mX4_bad : zMok yX4_bad 1 2 := ⟨⟨by decide +kernel, by decide +kernel, by decide +kernel⟩, by decide⟩
theorem eX4_bad {g : ZG} {Q : ZQ} {d cN sN : Nat} {M : ZM} {a0 : Nat} {x1 : Int32} (hV : zV g) (h : Z g kX4_bad Q d cN sN M 0 [some (.ref a0), some (.int x1)] []) : tX4_bad g [.ref a0, .int x1] M d cN sN Q := Ct.of (K := kX4_bad) rfl (by decide +kernel) hV fokX4 rfl (fun h => by cases h) (fun v hv => by simp only [List.mem_cons, List.not_mem_nil, or_false] at hv; rcases hv with rfl | rfl <;> first | rfl | assumption) (Nat.le_of_ble_eq_true rfl) h
theorem sX4_bad_0 {g : ZG} {Q : ZQ} {d cN sN : Nat} {M : ZM} {l0 : Nat} {fs1 : List Value} {r3 : Nat} {l1 : Int32} {n5 : Nat} {f6 : Nat → Int32} {r9 : Nat} {n11 : Nat} {f12 : Nat → Int32} (h2 : M.1 l0 = some (.inr (3, fs1))) (h4 : (fs1)[2]? = some (.ref r3)) (h7 : M.1 r3 = some (.inl (zA g 0, n5, .inl f6))) (h8 : vp_in (l1) n5) (h10 : (fs1)[3]? = some (.ref r9)) (h13 : M.1 r9 = some (.inl (zA g 0, n11, .inl f12))) (h14 : vp_in (l1) n11) (kk : Z g kX4_bad Q d cN sN M 13 [some (.ref l0), some (.int l1)] [.int ((f6 ((l1 : Int32).toNatClampNeg)) - (f12 ((l1 : Int32).toNatClampNeg)))]) : Z g kX4_bad Q d cN sN M 0 [some (.ref l0), some (.int l1)] [] := by
  refine zi_aload_n dX4_bad_0 rfl zrf_r ?_
  refine zi_getfield dX4_bad_1 rfl h2 h4 ?_
  refine zi_iload_n dX4_bad_4 rfl ?_
  refine zi_iaload dX4_bad_5 h7 h8 ?_
  refine zi_aload_n dX4_bad_6 rfl zrf_r ?_
  refine zi_getfield dX4_bad_7 rfl h2 h10 ?_
  refine zi_iload_n dX4_bad_10 rfl ?_
  refine zi_iaload dX4_bad_11 h13 h14 ?_
  refine zi_isub dX4_bad_12 ?_
  exact kk
theorem sX4_bad_16 {g : ZG} {Q : ZQ} {d cN sN : Nat} {M : ZM} {t0 : Int32} {o0 o1 : Option Value}  (kk : Q.1 (some (.int t0)) M) : Z g kX4_bad Q d cN sN M 16 [o0, o1] [.int t0] := by
  exact zi_ireturn dX4_bad_16 rfl rfl kk
abbrev kX4_is : ZK := (RX4, cX4_is, 5, (Option.none : Option Jvm.ClassFile.FieldType), [], false, fX4)
abbrev tX4_is (g : ZG) (args : List Value) (M : ZM) (d c s : Nat) (Q : ZQ) : Prop := Ct g yX4_is (ws_ yX4_is cX4_is 5 (Option.none : Option Jvm.ClassFile.FieldType)) args M d c s Q
abbrev nX4_is : Nat := 2
theorem mX4_is : zMok yX4_is 2 5 := ⟨⟨by decide +kernel, by decide +kernel, by decide +kernel⟩, by decide⟩
theorem eX4_is {g : ZG} {Q : ZQ} {d cN sN : Nat} {M : ZM} {a0 : Nat} {x1 : Int32} {x2 : Int32} (hV : zV g) (h : Z g kX4_is Q d cN sN M 0 [some (.ref a0), some (.int x1), some (.int x2), none, none] []) : tX4_is g [.ref a0, .int x1, .int x2] M d cN sN Q := Ct.of (K := kX4_is) rfl (by decide +kernel) hV fokX4 rfl (fun h => by cases h) (fun v hv => by simp only [List.mem_cons, List.not_mem_nil, or_false] at hv; rcases hv with rfl | rfl | rfl <;> first | rfl | assumption) (Nat.le_of_ble_eq_true rfl) h
theorem sX4_is_0 {g : ZG} {Q : ZQ} {d cN sN : Nat} {M : ZM} {l0 : Nat} {l1 : Int32} {fs1 : List Value} {l2 : Int32} {o3 o4 : Option Value} (h2 : M.1 l0 = some (.inr (3, fs1))) (h3 : 0 < (fs1).length) (kk : Z g kX4_is Q d cN sN (zup M l0 (.inr (3, (fs1).set 0 (.int l1)))) 7 [some (.ref l0), some (.int l1), some (.int l2), o3, o4] [.int l2, .ref l0]) : Z g kX4_is Q d cN sN M 0 [some (.ref l0), some (.int l1), some (.int l2), o3, o4] [] := by
  refine zi_aload_n dX4_is_0 rfl zrf_r ?_
  refine zi_iload_n dX4_is_1 rfl ?_
  refine zi_putfield dX4_is_2 rfl h2 h3 zfit_i (Or.inl rfl) ?_
  refine zi_aload_n dX4_is_5 rfl zrf_r ?_
  refine zi_iload_n dX4_is_6 rfl ?_
  exact kk
theorem sX4_is_10 {g : ZG} {Q : ZQ} {d cN sN : Nat} {M : ZM} {t0 : Nat} {t1 : Int32} {fs1 : List Value} {l2 : Int32} {l0 : Nat} {fs4 : List Value} {y6 : Int32} {o1 o3 o4 : Option Value} (h2 : M.1 t0 = some (.inr (3, fs1))) (h3 : 1 < (fs1).length) (h5 : (zup M t0 (.inr (3, (fs1).set 1 (.int t1)))).1 l0 = some (.inr (3, fs4))) (h7 : (fs4)[1]? = some (.int y6)) (kk : Z g kX4_is Q d cN sN (zup M t0 (.inr (3, (fs1).set 1 (.int t1)))) 23 [some (.ref l0), o1, some (.int l2), some (.int l2), some (.int (y6 - 1))] []) : Z g kX4_is Q d cN sN M 10 [some (.ref l0), o1, some (.int l2), o3, o4] [.int t1, .ref t0] := by
  refine zi_putfield dX4_is_10 rfl h2 h3 zfit_i (Or.inl rfl) ?_
  refine zi_iload_n dX4_is_13 rfl ?_
  refine zi_istore_n dX4_is_14 (Nat.le_of_ble_eq_true rfl) ?_
  refine zi_aload_n dX4_is_15 rfl zrf_r ?_
  refine zi_getfield dX4_is_16 rfl h5 h7 ?_
  refine zi_iconst dX4_is_19 (by decide +kernel : Int32.ofInt (1) = (1 : Int32)) ?_
  refine zi_isub dX4_is_20 ?_
  refine zi_istore dX4_is_21 (Nat.le_of_ble_eq_true rfl) ?_
  exact kk
theorem sX4_is_23 {g : ZG} {Q : ZQ} {d cN sN : Nat} {M : ZM} {l4 : Int32} {o0 o1 o2 o3 : Option Value}  (kt : (l4 : Int32) < 0 → Z g kX4_is Q d cN sN M 72 [o0, o1, o2, o3, some (.int l4)] []) (kf : ¬ (l4 : Int32) < 0 → Z g kX4_is Q d cN sN M 28 [o0, o1, o2, o3, some (.int l4)] []) : Z g kX4_is Q d cN sN M 23 [o0, o1, o2, o3, some (.int l4)] [] := by
  refine zi_iload dX4_is_23 rfl ?_
  exact zi_if_lt (tgt := 72) dX4_is_25 (by decide +kernel) kt kf
theorem sX4_is_28 {g : ZG} {Q : ZQ} {d cN sN : Nat} {M : ZM} {l0 : Nat} {fs1 : List Value} {r3 : Nat} {l4 : Int32} {l3 : Int32} {n5 : Nat} {f6 : Nat → Int32} {fs9 : List Value} {r11 : Nat} {r13 : Nat} {n15 : Nat} {f16 : Nat → Int32} {n19 : Nat} {f20 : Nat → Int32} {fs23 : List Value} {r25 : Nat} {n27 : Nat} {f28 : Nat → Int32} {o1 o2 : Option Value} (h2 : M.1 l0 = some (.inr (3, fs1))) (h4 : (fs1)[2]? = some (.ref r3)) (h7 : M.1 r3 = some (.inl (zA g 0, n5, .inl (f6)))) (h8 : vp_in (l4) n5) (h10 : (zup M r3 (.inl (zA g 0, n5, .inl (upd f6 ((l4 : Int32).toNatClampNeg) (l3 - l3 / 10 * 10))))).1 l0 = some (.inr (3, fs9))) (h12 : (fs9)[3]? = some (.ref r11)) (h14 : (fs9)[2]? = some (.ref r13)) (h17 : (zup M r3 (.inl (zA g 0, n5, .inl (upd f6 ((l4 : Int32).toNatClampNeg) (l3 - l3 / 10 * 10))))).1 r13 = some (.inl (zA g 0, n15, .inl f16))) (h18 : vp_in (l4) n15) (h21 : (zup M r3 (.inl (zA g 0, n5, .inl (upd f6 ((l4 : Int32).toNatClampNeg) (l3 - l3 / 10 * 10))))).1 r11 = some (.inl (zA g 0, n19, .inl (f20)))) (h22 : vp_in (l4) n19) (h24 : (zup (zup M r3 (.inl (zA g 0, n5, .inl (upd f6 ((l4 : Int32).toNatClampNeg) (l3 - l3 / 10 * 10))))) r11 (.inl (zA g 0, n19, .inl (upd f20 ((l4 : Int32).toNatClampNeg) (f16 ((l4 : Int32).toNatClampNeg)))))).1 l0 = some (.inr (3, fs23))) (h26 : (fs23)[4]? = some (.ref r25)) (h29 : (zup (zup M r3 (.inl (zA g 0, n5, .inl (upd f6 ((l4 : Int32).toNatClampNeg) (l3 - l3 / 10 * 10))))) r11 (.inl (zA g 0, n19, .inl (upd f20 ((l4 : Int32).toNatClampNeg) (f16 ((l4 : Int32).toNatClampNeg)))))).1 r25 = some (.inl (zA g 0, n27, .inl (f28)))) (h30 : vp_in (l4) n27) (kk : Z g kX4_is Q d cN sN (zup (zup (zup M r3 (.inl (zA g 0, n5, .inl (upd f6 ((l4 : Int32).toNatClampNeg) (l3 - l3 / 10 * 10))))) r11 (.inl (zA g 0, n19, .inl (upd f20 ((l4 : Int32).toNatClampNeg) (f16 ((l4 : Int32).toNatClampNeg)))))) r25 (.inl (zA g 0, n27, .inl (upd f28 ((l4 : Int32).toNatClampNeg) (0))))) 23 [some (.ref l0), o1, o2, some (.int (l3 / 10)), some (.int (l4 + (-1)))] []) : Z g kX4_is Q d cN sN M 28 [some (.ref l0), o1, o2, some (.int l3), some (.int l4)] [] := by
  refine zi_aload_n dX4_is_28 rfl zrf_r ?_
  refine zi_getfield dX4_is_29 rfl h2 h4 ?_
  refine zi_iload dX4_is_32 rfl ?_
  refine zi_iload_n dX4_is_34 rfl ?_
  refine zi_bipush dX4_is_35 (by decide +kernel : (Int8.ofInt (10)).toInt32 = (10 : Int32)) ?_
  refine zi_irem dX4_is_37 (by decide +kernel) ?_
  refine zi_iastore dX4_is_38 h7 h8 ?_
  refine zi_aload_n dX4_is_39 rfl zrf_r ?_
  refine zi_getfield dX4_is_40 rfl h10 h12 ?_
  refine zi_iload dX4_is_43 rfl ?_
  refine zi_aload_n dX4_is_45 rfl zrf_r ?_
  refine zi_getfield dX4_is_46 rfl h10 h14 ?_
  refine zi_iload dX4_is_49 rfl ?_
  refine zi_iaload dX4_is_51 h17 h18 ?_
  refine zi_iastore dX4_is_52 h21 h22 ?_
  refine zi_aload_n dX4_is_53 rfl zrf_r ?_
  refine zi_getfield dX4_is_54 rfl h24 h26 ?_
  refine zi_iload dX4_is_57 rfl ?_
  refine zi_iconst dX4_is_59 (by decide +kernel : Int32.ofInt (0) = (0 : Int32)) ?_
  refine zi_iastore dX4_is_60 h29 h30 ?_
  refine zi_iload_n dX4_is_61 rfl ?_
  refine zi_bipush dX4_is_62 (by decide +kernel : (Int8.ofInt (10)).toInt32 = (10 : Int32)) ?_
  refine zi_idiv dX4_is_64 (by decide +kernel) ?_
  refine zi_istore_n dX4_is_65 (Nat.le_of_ble_eq_true rfl) ?_
  refine zi_iinc dX4_is_66 rfl (by decide +kernel : Int32.ofInt (-1) = -1) (Nat.le_of_ble_eq_true rfl) ?_
  exact zi_goto (tgt := 23) dX4_is_69 (by decide +kernel) kk
theorem sX4_is_72 {g : ZG} {Q : ZQ} {d cN sN : Nat} {M : ZM} {o0 o1 o2 o3 o4 : Option Value}  (kk : Q.1 none M) : Z g kX4_is Q d cN sN M 72 [o0, o1, o2, o3, o4] [] := by
  exact zi_return dX4_is_72 rfl kk
abbrev kX4_marked : ZK := (RX4, cX4_marked, 4, (Option.some Jvm.ClassFile.FieldType.int), [], false, fX4)
abbrev tX4_marked (g : ZG) (args : List Value) (M : ZM) (d c s : Nat) (Q : ZQ) : Prop := Ct g yX4_marked (ws_ yX4_marked cX4_marked 4 (Option.some Jvm.ClassFile.FieldType.int)) args M d c s Q
abbrev nX4_marked : Nat := 1
theorem mX4_marked : zMok yX4_marked 1 4 := ⟨⟨by decide +kernel, by decide +kernel, by decide +kernel⟩, by decide⟩
theorem eX4_marked {g : ZG} {Q : ZQ} {d cN sN : Nat} {M : ZM} {a0 : Nat} {x1 : Int32} (hV : zV g) (h : Z g kX4_marked Q d cN sN M 0 [some (.ref a0), some (.int x1), none, none] []) : tX4_marked g [.ref a0, .int x1] M d cN sN Q := Ct.of (K := kX4_marked) rfl (by decide +kernel) hV fokX4 rfl (fun h => by cases h) (fun v hv => by simp only [List.mem_cons, List.not_mem_nil, or_false] at hv; rcases hv with rfl | rfl <;> first | rfl | assumption) (Nat.le_of_ble_eq_true rfl) h
theorem sX4_marked_0 {g : ZG} {Q : ZQ} {d cN sN : Nat} {M : ZM} {o0 o1 o2 o3 : Option Value}  (kk : Z g kX4_marked Q d cN sN M 4 [o0, o1, some (.int 0), some (.int 0)] []) : Z g kX4_marked Q d cN sN M 0 [o0, o1, o2, o3] [] := by
  refine zi_iconst dX4_marked_0 (by decide +kernel : Int32.ofInt (0) = (0 : Int32)) ?_
  refine zi_istore_n dX4_marked_1 (Nat.le_of_ble_eq_true rfl) ?_
  refine zi_iconst dX4_marked_2 (by decide +kernel : Int32.ofInt (0) = (0 : Int32)) ?_
  refine zi_istore_n dX4_marked_3 (Nat.le_of_ble_eq_true rfl) ?_
  exact kk
theorem sX4_marked_4 {g : ZG} {Q : ZQ} {d cN sN : Nat} {M : ZM} {l3 : Int32} {l0 : Nat} {fs1 : List Value} {y3 : Int32} {o1 o2 : Option Value} (h2 : M.1 l0 = some (.inr (3, fs1))) (h4 : (fs1)[1]? = some (.int y3)) (kt : (y3 : Int32) ≤ (l3 : Int32) → Z g kX4_marked Q d cN sN M 36 [some (.ref l0), o1, o2, some (.int l3)] []) (kf : ¬ (y3 : Int32) ≤ (l3 : Int32) → Z g kX4_marked Q d cN sN M 12 [some (.ref l0), o1, o2, some (.int l3)] []) : Z g kX4_marked Q d cN sN M 4 [some (.ref l0), o1, o2, some (.int l3)] [] := by
  refine zi_iload_n dX4_marked_4 rfl ?_
  refine zi_aload_n dX4_marked_5 rfl zrf_r ?_
  refine zi_getfield dX4_marked_6 rfl h2 h4 ?_
  exact zi_icmp_ge (tgt := 36) dX4_marked_9 (by decide +kernel) kt kf
theorem sX4_marked_12 {g : ZG} {Q : ZQ} {d cN sN : Nat} {M : ZM} {l2 : Int32} {l0 : Nat} {fs1 : List Value} {r3 : Nat} {l3 : Int32} {n5 : Nat} {f6 : Nat → Int32} {l1 : Int32} (h2 : M.1 l0 = some (.inr (3, fs1))) (h4 : (fs1)[4]? = some (.ref r3)) (h7 : M.1 r3 = some (.inl (zA g 0, n5, .inl f6))) (h8 : vp_in (l3) n5) (kt : (f6 ((l3 : Int32).toNatClampNeg) : Int32) < (l1 : Int32) → Z g kX4_marked Q d cN sN M 27 [some (.ref l0), some (.int l1), some (.int l2), some (.int l3)] [.int l2]) (kf : ¬ (f6 ((l3 : Int32).toNatClampNeg) : Int32) < (l1 : Int32) → Z g kX4_marked Q d cN sN M 23 [some (.ref l0), some (.int l1), some (.int l2), some (.int l3)] [.int l2]) : Z g kX4_marked Q d cN sN M 12 [some (.ref l0), some (.int l1), some (.int l2), some (.int l3)] [] := by
  refine zi_iload_n dX4_marked_12 rfl ?_
  refine zi_aload_n dX4_marked_13 rfl zrf_r ?_
  refine zi_getfield dX4_marked_14 rfl h2 h4 ?_
  refine zi_iload_n dX4_marked_17 rfl ?_
  refine zi_iaload dX4_marked_18 h7 h8 ?_
  refine zi_iload_n dX4_marked_19 rfl ?_
  exact zi_icmp_lt (tgt := 27) dX4_marked_20 (by decide +kernel) kt kf
theorem sX4_marked_23 {g : ZG} {Q : ZQ} {d cN sN : Nat} {M : ZM} {t0 : Int32} {o0 o1 o2 o3 : Option Value}  (kk : Z g kX4_marked Q d cN sN M 28 [o0, o1, o2, o3] [.int 1, .int t0]) : Z g kX4_marked Q d cN sN M 23 [o0, o1, o2, o3] [.int t0] := by
  refine zi_iconst dX4_marked_23 (by decide +kernel : Int32.ofInt (1) = (1 : Int32)) ?_
  exact zi_goto (tgt := 28) dX4_marked_24 (by decide +kernel) kk
theorem sX4_marked_27 {g : ZG} {Q : ZQ} {d cN sN : Nat} {M : ZM} {t0 : Int32} {o0 o1 o2 o3 : Option Value}  (kk : Z g kX4_marked Q d cN sN M 28 [o0, o1, o2, o3] [.int 0, .int t0]) : Z g kX4_marked Q d cN sN M 27 [o0, o1, o2, o3] [.int t0] := by
  refine zi_iconst dX4_marked_27 (by decide +kernel : Int32.ofInt (0) = (0 : Int32)) ?_
  exact kk
theorem sX4_marked_28 {g : ZG} {Q : ZQ} {d cN sN : Nat} {M : ZM} {t0 : Int32} {t1 : Int32} {l3 : Int32} {o0 o1 o2 : Option Value}  (kk : Z g kX4_marked Q d cN sN M 4 [o0, o1, some (.int (t0 + t1)), some (.int (l3 + 1))] []) : Z g kX4_marked Q d cN sN M 28 [o0, o1, o2, some (.int l3)] [.int t1, .int t0] := by
  refine zi_iadd dX4_marked_28 ?_
  refine zi_istore_n dX4_marked_29 (Nat.le_of_ble_eq_true rfl) ?_
  refine zi_iinc dX4_marked_30 rfl (by decide +kernel : Int32.ofInt (1) = 1) (Nat.le_of_ble_eq_true rfl) ?_
  exact zi_goto (tgt := 4) dX4_marked_33 (by decide +kernel) kk
theorem sX4_marked_36 {g : ZG} {Q : ZQ} {d cN sN : Nat} {M : ZM} {l2 : Int32} {o0 o1 o3 : Option Value}  (kk : Q.1 (some (.int l2)) M) : Z g kX4_marked Q d cN sN M 36 [o0, o1, some (.int l2), o3] [] := by
  refine zi_iload_n dX4_marked_36 rfl ?_
  exact zi_ireturn dX4_marked_37 rfl rfl kk
abbrev kX4_toPrint : ZK := (RX4, cX4_toPrint, 3, (Option.some Jvm.ClassFile.FieldType.int), [], false, fX4)
abbrev tX4_toPrint (g : ZG) (args : List Value) (M : ZM) (d c s : Nat) (Q : ZQ) : Prop := Ct g yX4_toPrint (ws_ yX4_toPrint cX4_toPrint 3 (Option.some Jvm.ClassFile.FieldType.int)) args M d c s Q
abbrev nX4_toPrint : Nat := 3
theorem mX4_toPrint : zMok yX4_toPrint 0 3 := ⟨⟨by decide +kernel, by decide +kernel, by decide +kernel⟩, by decide⟩
theorem eX4_toPrint {g : ZG} {Q : ZQ} {d cN sN : Nat} {M : ZM} {a0 : Nat} (hV : zV g) (h : Z g kX4_toPrint Q d cN sN M 0 [some (.ref a0), none, none] []) : tX4_toPrint g [.ref a0] M d cN sN Q := Ct.of (K := kX4_toPrint) rfl (by decide +kernel) hV fokX4 rfl (fun h => by cases h) (fun v hv => by simp only [List.mem_cons, List.not_mem_nil, or_false] at hv; rcases hv with rfl <;> first | rfl | assumption) (Nat.le_of_ble_eq_true rfl) h
theorem sX4_toPrint_0 {g : ZG} {Q : ZQ} {d cN sN : Nat} {M : ZM} {o0 o1 o2 : Option Value}  (kk : Z g kX4_toPrint Q d cN sN M 4 [o0, some (.int 0), some (.int 0)] []) : Z g kX4_toPrint Q d cN sN M 0 [o0, o1, o2] [] := by
  refine zi_iconst dX4_toPrint_0 (by decide +kernel : Int32.ofInt (0) = (0 : Int32)) ?_
  refine zi_istore_n dX4_toPrint_1 (Nat.le_of_ble_eq_true rfl) ?_
  refine zi_iconst dX4_toPrint_2 (by decide +kernel : Int32.ofInt (0) = (0 : Int32)) ?_
  refine zi_istore_n dX4_toPrint_3 (Nat.le_of_ble_eq_true rfl) ?_
  exact kk
theorem sX4_toPrint_4 {g : ZG} {Q : ZQ} {d cN sN : Nat} {M : ZM} {l2 : Int32} {l0 : Nat} {fs1 : List Value} {y3 : Int32} {o1 : Option Value} (h2 : M.1 l0 = some (.inr (3, fs1))) (h4 : (fs1)[1]? = some (.int y3)) (kt : (y3 : Int32) ≤ (l2 : Int32) → Z g kX4_toPrint Q d cN sN M 40 [some (.ref l0), o1, some (.int l2)] []) (kf : ¬ (y3 : Int32) ≤ (l2 : Int32) → Z g kX4_toPrint Q d cN sN M 12 [some (.ref l0), o1, some (.int l2)] []) : Z g kX4_toPrint Q d cN sN M 4 [some (.ref l0), o1, some (.int l2)] [] := by
  refine zi_iload_n dX4_toPrint_4 rfl ?_
  refine zi_aload_n dX4_toPrint_5 rfl zrf_r ?_
  refine zi_getfield dX4_toPrint_6 rfl h2 h4 ?_
  exact zi_icmp_ge (tgt := 40) dX4_toPrint_9 (by decide +kernel) kt kf
theorem sX4_toPrint_12 {g : ZG} {Q : ZQ} {d cN sN : Nat} {M : ZM} {l1 : Int32} {l0 : Nat} {fs1 : List Value} {r3 : Nat} {l2 : Int32} {n5 : Nat} {f6 : Nat → Int32} (h2 : M.1 l0 = some (.inr (3, fs1))) (h4 : (fs1)[4]? = some (.ref r3)) (h7 : M.1 r3 = some (.inl (zA g 0, n5, .inl f6))) (h8 : vp_in (l2) n5) (kt : ¬ (f6 ((l2 : Int32).toNatClampNeg) : Int32) = (2 : Int32) → Z g kX4_toPrint Q d cN sN M 31 [some (.ref l0), some (.int l1), some (.int l2)] [.int l1]) (kf : (f6 ((l2 : Int32).toNatClampNeg) : Int32) = (2 : Int32) → Z g kX4_toPrint Q d cN sN M 23 [some (.ref l0), some (.int l1), some (.int l2)] [.int l1]) : Z g kX4_toPrint Q d cN sN M 12 [some (.ref l0), some (.int l1), some (.int l2)] [] := by
  refine zi_iload_n dX4_toPrint_12 rfl ?_
  refine zi_aload_n dX4_toPrint_13 rfl zrf_r ?_
  refine zi_getfield dX4_toPrint_14 rfl h2 h4 ?_
  refine zi_iload_n dX4_toPrint_17 rfl ?_
  refine zi_iaload dX4_toPrint_18 h7 h8 ?_
  refine zi_iconst dX4_toPrint_19 (by decide +kernel : Int32.ofInt (2) = (2 : Int32)) ?_
  exact zi_icmp_ne (tgt := 31) dX4_toPrint_20 (by decide +kernel) kt kf
theorem sX4_toPrint_23 {g : ZG} {Q : ZQ} {d cN sN : Nat} {M : ZM} {t0 : Int32} {l0 : Nat} {l2 : Int32} {o1 : Option Value}  (kk : Z g kX4_toPrint Q d cN sN M 25 [some (.ref l0), o1, some (.int l2)] [.int l2, .ref l0, .int t0]) : Z g kX4_toPrint Q d cN sN M 23 [some (.ref l0), o1, some (.int l2)] [.int t0] := by
  refine zi_aload_n dX4_toPrint_23 rfl zrf_r ?_
  refine zi_iload_n dX4_toPrint_24 rfl ?_
  exact kk
theorem sX4_toPrint_28 {g : ZG} {Q : ZQ} {d cN sN : Nat} {M : ZM} {t0 : Int32} {t1 : Int32} {o0 o1 o2 : Option Value}  (kk : Z g kX4_toPrint Q d cN sN M 32 [o0, o1, o2] [.int t1, .int t0]) : Z g kX4_toPrint Q d cN sN M 28 [o0, o1, o2] [.int t1, .int t0] := by
  exact zi_goto (tgt := 32) dX4_toPrint_28 (by decide +kernel) kk
theorem sX4_toPrint_31 {g : ZG} {Q : ZQ} {d cN sN : Nat} {M : ZM} {t0 : Int32} {o0 o1 o2 : Option Value}  (kk : Z g kX4_toPrint Q d cN sN M 32 [o0, o1, o2] [.int 0, .int t0]) : Z g kX4_toPrint Q d cN sN M 31 [o0, o1, o2] [.int t0] := by
  refine zi_iconst dX4_toPrint_31 (by decide +kernel : Int32.ofInt (0) = (0 : Int32)) ?_
  exact kk
theorem sX4_toPrint_32 {g : ZG} {Q : ZQ} {d cN sN : Nat} {M : ZM} {t0 : Int32} {t1 : Int32} {l2 : Int32} {o0 o1 : Option Value}  (kk : Z g kX4_toPrint Q d cN sN M 4 [o0, some (.int (t0 + t1)), some (.int (l2 + 1))] []) : Z g kX4_toPrint Q d cN sN M 32 [o0, o1, some (.int l2)] [.int t1, .int t0] := by
  refine zi_iadd dX4_toPrint_32 ?_
  refine zi_istore_n dX4_toPrint_33 (Nat.le_of_ble_eq_true rfl) ?_
  refine zi_iinc dX4_toPrint_34 rfl (by decide +kernel : Int32.ofInt (1) = 1) (Nat.le_of_ble_eq_true rfl) ?_
  exact zi_goto (tgt := 4) dX4_toPrint_37 (by decide +kernel) kk
theorem sX4_toPrint_40 {g : ZG} {Q : ZQ} {d cN sN : Nat} {M : ZM} {l1 : Int32} {o0 o2 : Option Value}  (kk : Q.1 (some (.int l1)) M) : Z g kX4_toPrint Q d cN sN M 40 [o0, some (.int l1), o2] [] := by
  refine zi_iload_n dX4_toPrint_40 rfl ?_
  exact zi_ireturn dX4_toPrint_41 rfl rfl kk
abbrev kX4_allBad : ZK := (RX4, cX4_allBad, 3, (Option.some Jvm.ClassFile.FieldType.int), [], false, fX4)
abbrev tX4_allBad (g : ZG) (args : List Value) (M : ZM) (d c s : Nat) (Q : ZQ) : Prop := Ct g yX4_allBad (ws_ yX4_allBad cX4_allBad 3 (Option.some Jvm.ClassFile.FieldType.int)) args M d c s Q
abbrev nX4_allBad : Nat := 3
theorem mX4_allBad : zMok yX4_allBad 0 3 := ⟨⟨by decide +kernel, by decide +kernel, by decide +kernel⟩, by decide⟩
theorem eX4_allBad {g : ZG} {Q : ZQ} {d cN sN : Nat} {M : ZM} {a0 : Nat} (hV : zV g) (h : Z g kX4_allBad Q d cN sN M 0 [some (.ref a0), none, none] []) : tX4_allBad g [.ref a0] M d cN sN Q := Ct.of (K := kX4_allBad) rfl (by decide +kernel) hV fokX4 rfl (fun h => by cases h) (fun v hv => by simp only [List.mem_cons, List.not_mem_nil, or_false] at hv; rcases hv with rfl <;> first | rfl | assumption) (Nat.le_of_ble_eq_true rfl) h
theorem sX4_allBad_0 {g : ZG} {Q : ZQ} {d cN sN : Nat} {M : ZM} {o0 o1 o2 : Option Value}  (kk : Z g kX4_allBad Q d cN sN M 4 [o0, some (.int 0), some (.int 0)] []) : Z g kX4_allBad Q d cN sN M 0 [o0, o1, o2] [] := by
  refine zi_iconst dX4_allBad_0 (by decide +kernel : Int32.ofInt (0) = (0 : Int32)) ?_
  refine zi_istore_n dX4_allBad_1 (Nat.le_of_ble_eq_true rfl) ?_
  refine zi_iconst dX4_allBad_2 (by decide +kernel : Int32.ofInt (0) = (0 : Int32)) ?_
  refine zi_istore_n dX4_allBad_3 (Nat.le_of_ble_eq_true rfl) ?_
  exact kk
theorem sX4_allBad_4 {g : ZG} {Q : ZQ} {d cN sN : Nat} {M : ZM} {l2 : Int32} {l0 : Nat} {fs1 : List Value} {y3 : Int32} {o1 : Option Value} (h2 : M.1 l0 = some (.inr (3, fs1))) (h4 : (fs1)[1]? = some (.int y3)) (kt : (y3 : Int32) ≤ (l2 : Int32) → Z g kX4_allBad Q d cN sN M 26 [some (.ref l0), o1, some (.int l2)] []) (kf : ¬ (y3 : Int32) ≤ (l2 : Int32) → Z g kX4_allBad Q d cN sN M 12 [some (.ref l0), o1, some (.int l2)] []) : Z g kX4_allBad Q d cN sN M 4 [some (.ref l0), o1, some (.int l2)] [] := by
  refine zi_iload_n dX4_allBad_4 rfl ?_
  refine zi_aload_n dX4_allBad_5 rfl zrf_r ?_
  refine zi_getfield dX4_allBad_6 rfl h2 h4 ?_
  exact zi_icmp_ge (tgt := 26) dX4_allBad_9 (by decide +kernel) kt kf
theorem sX4_allBad_12 {g : ZG} {Q : ZQ} {d cN sN : Nat} {M : ZM} {l1 : Int32} {l0 : Nat} {l2 : Int32}  (kk : Z g kX4_allBad Q d cN sN M 15 [some (.ref l0), some (.int l1), some (.int l2)] [.int l2, .ref l0, .int l1]) : Z g kX4_allBad Q d cN sN M 12 [some (.ref l0), some (.int l1), some (.int l2)] [] := by
  refine zi_iload_n dX4_allBad_12 rfl ?_
  refine zi_aload_n dX4_allBad_13 rfl zrf_r ?_
  refine zi_iload_n dX4_allBad_14 rfl ?_
  exact kk
theorem sX4_allBad_18 {g : ZG} {Q : ZQ} {d cN sN : Nat} {M : ZM} {t0 : Int32} {t1 : Int32} {l2 : Int32} {o0 o1 : Option Value}  (kk : Z g kX4_allBad Q d cN sN M 4 [o0, some (.int (t0 + t1)), some (.int (l2 + 1))] []) : Z g kX4_allBad Q d cN sN M 18 [o0, o1, some (.int l2)] [.int t1, .int t0] := by
  refine zi_iadd dX4_allBad_18 ?_
  refine zi_istore_n dX4_allBad_19 (Nat.le_of_ble_eq_true rfl) ?_
  refine zi_iinc dX4_allBad_20 rfl (by decide +kernel : Int32.ofInt (1) = 1) (Nat.le_of_ble_eq_true rfl) ?_
  exact zi_goto (tgt := 4) dX4_allBad_23 (by decide +kernel) kk
theorem sX4_allBad_26 {g : ZG} {Q : ZQ} {d cN sN : Nat} {M : ZM} {l1 : Int32} {o0 o2 : Option Value}  (kk : Q.1 (some (.int l1)) M) : Z g kX4_allBad Q d cN sN M 26 [o0, some (.int l1), o2] [] := by
  refine zi_iload_n dX4_allBad_26 rfl ?_
  exact zi_ireturn dX4_allBad_27 rfl rfl kk
abbrev kX4_unlike : ZK := (RX4, cX4_unlike, 4, (Option.some Jvm.ClassFile.FieldType.int), [], false, fX4)
abbrev tX4_unlike (g : ZG) (args : List Value) (M : ZM) (d c s : Nat) (Q : ZQ) : Prop := Ct g yX4_unlike (ws_ yX4_unlike cX4_unlike 4 (Option.some Jvm.ClassFile.FieldType.int)) args M d c s Q
abbrev nX4_unlike : Nat := 2
theorem mX4_unlike : zMok yX4_unlike 1 4 := ⟨⟨by decide +kernel, by decide +kernel, by decide +kernel⟩, by decide⟩
theorem eX4_unlike {g : ZG} {Q : ZQ} {d cN sN : Nat} {M : ZM} {a0 : Nat} {v1 : Value} (hv1 : v1.category = 1) (hV : zV g) (h : Z g kX4_unlike Q d cN sN M 0 [some (.ref a0), some (v1), none, none] []) : tX4_unlike g [.ref a0, v1] M d cN sN Q := Ct.of (K := kX4_unlike) rfl (by decide +kernel) hV fokX4 rfl (fun h => by cases h) (fun v hv => by simp only [List.mem_cons, List.not_mem_nil, or_false] at hv; rcases hv with rfl | rfl <;> first | rfl | assumption) (Nat.le_of_ble_eq_true rfl) h
theorem sX4_unlike_0 {g : ZG} {Q : ZQ} {d cN sN : Nat} {M : ZM} {l0 : Nat} {fs1 : List Value} {y3 : Int32} {l1 : Nat} {fs5 : List Value} {y7 : Int32} {o2 o3 : Option Value} (h2 : M.1 l0 = some (.inr (3, fs1))) (h4 : (fs1)[1]? = some (.int y3)) (h6 : M.1 l1 = some (.inr (3, fs5))) (h8 : (fs5)[1]? = some (.int y7)) (kk : Z g kX4_unlike Q d cN sN M 9 [some (.ref l0), some (.ref l1), o2, o3] [.int (y3 - y7)]) : Z g kX4_unlike Q d cN sN M 0 [some (.ref l0), some (.ref l1), o2, o3] [] := by
  refine zi_aload_n dX4_unlike_0 rfl zrf_r ?_
  refine zi_getfield dX4_unlike_1 rfl h2 h4 ?_
  refine zi_aload_n dX4_unlike_4 rfl zrf_r ?_
  refine zi_getfield dX4_unlike_5 rfl h6 h8 ?_
  refine zi_isub dX4_unlike_8 ?_
  exact kk
theorem sX4_unlike_12 {g : ZG} {Q : ZQ} {d cN sN : Nat} {M : ZM} {t0 : Int32} {o0 o1 o2 o3 : Option Value}  (kk : Z g kX4_unlike Q d cN sN M 15 [o0, o1, some (.int t0), some (.int 0)] []) : Z g kX4_unlike Q d cN sN M 12 [o0, o1, o2, o3] [.int t0] := by
  refine zi_istore_n dX4_unlike_12 (Nat.le_of_ble_eq_true rfl) ?_
  refine zi_iconst dX4_unlike_13 (by decide +kernel : Int32.ofInt (0) = (0 : Int32)) ?_
  refine zi_istore_n dX4_unlike_14 (Nat.le_of_ble_eq_true rfl) ?_
  exact kk
theorem sX4_unlike_15 {g : ZG} {Q : ZQ} {d cN sN : Nat} {M : ZM} {l3 : Int32} {l0 : Nat} {fs1 : List Value} {y3 : Int32} {o1 o2 : Option Value} (h2 : M.1 l0 = some (.inr (3, fs1))) (h4 : (fs1)[1]? = some (.int y3)) (kt : (y3 : Int32) ≤ (l3 : Int32) → Z g kX4_unlike Q d cN sN M 60 [some (.ref l0), o1, o2, some (.int l3)] []) (kf : ¬ (y3 : Int32) ≤ (l3 : Int32) → Z g kX4_unlike Q d cN sN M 23 [some (.ref l0), o1, o2, some (.int l3)] []) : Z g kX4_unlike Q d cN sN M 15 [some (.ref l0), o1, o2, some (.int l3)] [] := by
  refine zi_iload_n dX4_unlike_15 rfl ?_
  refine zi_aload_n dX4_unlike_16 rfl zrf_r ?_
  refine zi_getfield dX4_unlike_17 rfl h2 h4 ?_
  exact zi_icmp_ge (tgt := 60) dX4_unlike_20 (by decide +kernel) kt kf
theorem sX4_unlike_23 {g : ZG} {Q : ZQ} {d cN sN : Nat} {M : ZM} {l3 : Int32} {l1 : Nat} {fs1 : List Value} {y3 : Int32} {o0 o2 : Option Value} (h2 : M.1 l1 = some (.inr (3, fs1))) (h4 : (fs1)[1]? = some (.int y3)) (kt : (y3 : Int32) ≤ (l3 : Int32) → Z g kX4_unlike Q d cN sN M 60 [o0, some (.ref l1), o2, some (.int l3)] []) (kf : ¬ (y3 : Int32) ≤ (l3 : Int32) → Z g kX4_unlike Q d cN sN M 31 [o0, some (.ref l1), o2, some (.int l3)] []) : Z g kX4_unlike Q d cN sN M 23 [o0, some (.ref l1), o2, some (.int l3)] [] := by
  refine zi_iload_n dX4_unlike_23 rfl ?_
  refine zi_aload_n dX4_unlike_24 rfl zrf_r ?_
  refine zi_getfield dX4_unlike_25 rfl h2 h4 ?_
  exact zi_icmp_ge (tgt := 60) dX4_unlike_28 (by decide +kernel) kt kf
theorem sX4_unlike_31 {g : ZG} {Q : ZQ} {d cN sN : Nat} {M : ZM} {l2 : Int32} {l0 : Nat} {fs1 : List Value} {r3 : Nat} {l3 : Int32} {n5 : Nat} {f6 : Nat → Int32} {l1 : Nat} {fs9 : List Value} {r11 : Nat} {n13 : Nat} {f14 : Nat → Int32} (h2 : M.1 l0 = some (.inr (3, fs1))) (h4 : (fs1)[3]? = some (.ref r3)) (h7 : M.1 r3 = some (.inl (zA g 0, n5, .inl f6))) (h8 : vp_in (l3) n5) (h10 : M.1 l1 = some (.inr (3, fs9))) (h12 : (fs9)[2]? = some (.ref r11)) (h15 : M.1 r11 = some (.inl (zA g 0, n13, .inl f14))) (h16 : vp_in (l3) n13) (kt : ¬ (f6 ((l3 : Int32).toNatClampNeg) : Int32) = (f14 ((l3 : Int32).toNatClampNeg) : Int32) → Z g kX4_unlike Q d cN sN M 51 [some (.ref l0), some (.ref l1), some (.int l2), some (.int l3)] [.int l2]) (kf : (f6 ((l3 : Int32).toNatClampNeg) : Int32) = (f14 ((l3 : Int32).toNatClampNeg) : Int32) → Z g kX4_unlike Q d cN sN M 47 [some (.ref l0), some (.ref l1), some (.int l2), some (.int l3)] [.int l2]) : Z g kX4_unlike Q d cN sN M 31 [some (.ref l0), some (.ref l1), some (.int l2), some (.int l3)] [] := by
  refine zi_iload_n dX4_unlike_31 rfl ?_
  refine zi_aload_n dX4_unlike_32 rfl zrf_r ?_
  refine zi_getfield dX4_unlike_33 rfl h2 h4 ?_
  refine zi_iload_n dX4_unlike_36 rfl ?_
  refine zi_iaload dX4_unlike_37 h7 h8 ?_
  refine zi_aload_n dX4_unlike_38 rfl zrf_r ?_
  refine zi_getfield dX4_unlike_39 rfl h10 h12 ?_
  refine zi_iload_n dX4_unlike_42 rfl ?_
  refine zi_iaload dX4_unlike_43 h15 h16 ?_
  exact zi_icmp_ne (tgt := 51) dX4_unlike_44 (by decide +kernel) kt kf
theorem sX4_unlike_47 {g : ZG} {Q : ZQ} {d cN sN : Nat} {M : ZM} {t0 : Int32} {o0 o1 o2 o3 : Option Value}  (kk : Z g kX4_unlike Q d cN sN M 52 [o0, o1, o2, o3] [.int 0, .int t0]) : Z g kX4_unlike Q d cN sN M 47 [o0, o1, o2, o3] [.int t0] := by
  refine zi_iconst dX4_unlike_47 (by decide +kernel : Int32.ofInt (0) = (0 : Int32)) ?_
  exact zi_goto (tgt := 52) dX4_unlike_48 (by decide +kernel) kk
theorem sX4_unlike_51 {g : ZG} {Q : ZQ} {d cN sN : Nat} {M : ZM} {t0 : Int32} {o0 o1 o2 o3 : Option Value}  (kk : Z g kX4_unlike Q d cN sN M 52 [o0, o1, o2, o3] [.int 1, .int t0]) : Z g kX4_unlike Q d cN sN M 51 [o0, o1, o2, o3] [.int t0] := by
  refine zi_iconst dX4_unlike_51 (by decide +kernel : Int32.ofInt (1) = (1 : Int32)) ?_
  exact kk
theorem sX4_unlike_52 {g : ZG} {Q : ZQ} {d cN sN : Nat} {M : ZM} {t0 : Int32} {t1 : Int32} {l3 : Int32} {o0 o1 o2 : Option Value}  (kk : Z g kX4_unlike Q d cN sN M 15 [o0, o1, some (.int (t0 + t1)), some (.int (l3 + 1))] []) : Z g kX4_unlike Q d cN sN M 52 [o0, o1, o2, some (.int l3)] [.int t1, .int t0] := by
  refine zi_iadd dX4_unlike_52 ?_
  refine zi_istore_n dX4_unlike_53 (Nat.le_of_ble_eq_true rfl) ?_
  refine zi_iinc dX4_unlike_54 rfl (by decide +kernel : Int32.ofInt (1) = 1) (Nat.le_of_ble_eq_true rfl) ?_
  exact zi_goto (tgt := 15) dX4_unlike_57 (by decide +kernel) kk
theorem sX4_unlike_60 {g : ZG} {Q : ZQ} {d cN sN : Nat} {M : ZM} {l2 : Int32} {o0 o1 o3 : Option Value}  (kk : Q.1 (some (.int l2)) M) : Z g kX4_unlike Q d cN sN M 60 [o0, o1, some (.int l2), o3] [] := by
  refine zi_iload_n dX4_unlike_60 rfl ?_
  exact zi_ireturn dX4_unlike_61 rfl rfl kk
abbrev kX4_writes : ZK := (RX4, cX4_writes, 3, (Option.none : Option Jvm.ClassFile.FieldType), [], false, fX4)
abbrev tX4_writes (g : ZG) (args : List Value) (M : ZM) (d c s : Nat) (Q : ZQ) : Prop := Ct g yX4_writes (ws_ yX4_writes cX4_writes 3 (Option.none : Option Jvm.ClassFile.FieldType)) args M d c s Q
abbrev nX4_writes : Nat := 14
theorem mX4_writes : zMok yX4_writes 1 3 := ⟨⟨by decide +kernel, by decide +kernel, by decide +kernel⟩, by decide⟩
theorem eX4_writes {g : ZG} {Q : ZQ} {d cN sN : Nat} {M : ZM} {a0 : Nat} {v1 : Value} (hv1 : v1.category = 1) (hV : zV g) (h : Z g kX4_writes Q d cN sN M 0 [some (.ref a0), some (v1), none] []) : tX4_writes g [.ref a0, v1] M d cN sN Q := Ct.of (K := kX4_writes) rfl (by decide +kernel) hV fokX4 rfl (fun h => by cases h) (fun v hv => by simp only [List.mem_cons, List.not_mem_nil, or_false] at hv; rcases hv with rfl | rfl <;> first | rfl | assumption) (Nat.le_of_ble_eq_true rfl) h
theorem sX4_writes_0 {g : ZG} {Q : ZQ} {d cN sN : Nat} {M : ZM} {l1 : Nat} {l0 : Nat} {fs1 : List Value} {y3 : Int32} {o2 : Option Value} (h2 : M.1 l0 = some (.inr (3, fs1))) (h4 : (fs1)[0]? = some (.int y3)) (kk : Z g kX4_writes Q d cN sN M 5 [some (.ref l0), some (.ref l1), o2] [.int y3, .ref l1]) : Z g kX4_writes Q d cN sN M 0 [some (.ref l0), some (.ref l1), o2] [] := by
  refine zi_aload_n dX4_writes_0 rfl zrf_r ?_
  refine zi_aload_n dX4_writes_1 rfl zrf_r ?_
  refine zi_getfield dX4_writes_2 rfl h2 h4 ?_
  exact kk
theorem sX4_writes_8 {g : ZG} {Q : ZQ} {d cN sN : Nat} {M : ZM} {t0 : Nat} {o0 o1 o2 : Option Value}  (kk : Z g kX4_writes Q d cN sN M 10 [o0, o1, o2] [.int 58, .ref t0]) : Z g kX4_writes Q d cN sN M 8 [o0, o1, o2] [.ref t0] := by
  refine zi_bipush dX4_writes_8 (by decide +kernel : (Int8.ofInt (58)).toInt32 = (58 : Int32)) ?_
  exact kk
theorem sX4_writes_13 {g : ZG} {Q : ZQ} {d cN sN : Nat} {M : ZM} {t0 : Nat} {o0 o1 o2 : Option Value}  (kk : Z g kX4_writes Q d cN sN M 16 [o0, o1, some (.int 0)] []) : Z g kX4_writes Q d cN sN M 13 [o0, o1, o2] [.ref t0] := by
  refine zi_pop dX4_writes_13 rfl ?_
  refine zi_iconst dX4_writes_14 (by decide +kernel : Int32.ofInt (0) = (0 : Int32)) ?_
  refine zi_istore_n dX4_writes_15 (Nat.le_of_ble_eq_true rfl) ?_
  exact kk
theorem sX4_writes_16 {g : ZG} {Q : ZQ} {d cN sN : Nat} {M : ZM} {l2 : Int32} {l0 : Nat} {fs1 : List Value} {y3 : Int32} {o1 : Option Value} (h2 : M.1 l0 = some (.inr (3, fs1))) (h4 : (fs1)[1]? = some (.int y3)) (kt : (y3 : Int32) ≤ (l2 : Int32) → Z g kX4_writes Q d cN sN M 93 [some (.ref l0), o1, some (.int l2)] []) (kf : ¬ (y3 : Int32) ≤ (l2 : Int32) → Z g kX4_writes Q d cN sN M 24 [some (.ref l0), o1, some (.int l2)] []) : Z g kX4_writes Q d cN sN M 16 [some (.ref l0), o1, some (.int l2)] [] := by
  refine zi_iload_n dX4_writes_16 rfl ?_
  refine zi_aload_n dX4_writes_17 rfl zrf_r ?_
  refine zi_getfield dX4_writes_18 rfl h2 h4 ?_
  exact zi_icmp_ge (tgt := 93) dX4_writes_21 (by decide +kernel) kt kf
theorem sX4_writes_24 {g : ZG} {Q : ZQ} {d cN sN : Nat} {M : ZM} {l1 : Nat} {l0 : Nat} {fs1 : List Value} {r3 : Nat} {l2 : Int32} {n5 : Nat} {f6 : Nat → Int32} (h2 : M.1 l0 = some (.inr (3, fs1))) (h4 : (fs1)[4]? = some (.ref r3)) (h7 : M.1 r3 = some (.inl (zA g 0, n5, .inl f6))) (h8 : vp_in (l2) n5) (kt : ¬ (f6 ((l2 : Int32).toNatClampNeg) : Int32) = 0 → Z g kX4_writes Q d cN sN M 39 [some (.ref l0), some (.ref l1), some (.int l2)] [.ref l1]) (kf : (f6 ((l2 : Int32).toNatClampNeg) : Int32) = 0 → Z g kX4_writes Q d cN sN M 34 [some (.ref l0), some (.ref l1), some (.int l2)] [.ref l1]) : Z g kX4_writes Q d cN sN M 24 [some (.ref l0), some (.ref l1), some (.int l2)] [] := by
  refine zi_aload_n dX4_writes_24 rfl zrf_r ?_
  refine zi_aload_n dX4_writes_25 rfl zrf_r ?_
  refine zi_getfield dX4_writes_26 rfl h2 h4 ?_
  refine zi_iload_n dX4_writes_29 rfl ?_
  refine zi_iaload dX4_writes_30 h7 h8 ?_
  exact zi_if_ne (tgt := 39) dX4_writes_31 (by decide +kernel) kt kf
theorem sX4_writes_34 {g : ZG} {Q : ZQ} {d cN sN : Nat} {M : ZM} {t0 : Nat} {o0 o1 o2 : Option Value}  (kk : Z g kX4_writes Q d cN sN M 41 [o0, o1, o2] [.int 97, .ref t0]) : Z g kX4_writes Q d cN sN M 34 [o0, o1, o2] [.ref t0] := by
  refine zi_bipush dX4_writes_34 (by decide +kernel : (Int8.ofInt (97)).toInt32 = (97 : Int32)) ?_
  exact zi_goto (tgt := 41) dX4_writes_36 (by decide +kernel) kk
theorem sX4_writes_39 {g : ZG} {Q : ZQ} {d cN sN : Nat} {M : ZM} {t0 : Nat} {o0 o1 o2 : Option Value}  (kk : Z g kX4_writes Q d cN sN M 41 [o0, o1, o2] [.int 65, .ref t0]) : Z g kX4_writes Q d cN sN M 39 [o0, o1, o2] [.ref t0] := by
  refine zi_bipush dX4_writes_39 (by decide +kernel : (Int8.ofInt (65)).toInt32 = (65 : Int32)) ?_
  exact kk
theorem sX4_writes_41 {g : ZG} {Q : ZQ} {d cN sN : Nat} {M : ZM} {t0 : Nat} {t1 : Int32} {l0 : Nat} {fs1 : List Value} {r3 : Nat} {l2 : Int32} {n5 : Nat} {f6 : Nat → Int32} {o1 : Option Value} (h2 : M.1 l0 = some (.inr (3, fs1))) (h4 : (fs1)[3]? = some (.ref r3)) (h7 : M.1 r3 = some (.inl (zA g 0, n5, .inl f6))) (h8 : vp_in (l2) n5) (kk : Z g kX4_writes Q d cN sN M 51 [some (.ref l0), o1, some (.int l2)] [.int ((((t1 + (f6 ((l2 : Int32).toNatClampNeg))) - 1 : Int32).toUInt32 % 65536).toInt32), .ref t0]) : Z g kX4_writes Q d cN sN M 41 [some (.ref l0), o1, some (.int l2)] [.int t1, .ref t0] := by
  refine zi_aload_n dX4_writes_41 rfl zrf_r ?_
  refine zi_getfield dX4_writes_42 rfl h2 h4 ?_
  refine zi_iload_n dX4_writes_45 rfl ?_
  refine zi_iaload dX4_writes_46 h7 h8 ?_
  refine zi_iadd dX4_writes_47 ?_
  refine zi_iconst dX4_writes_48 (by decide +kernel : Int32.ofInt (1) = (1 : Int32)) ?_
  refine zi_isub dX4_writes_49 ?_
  refine zi_i2c dX4_writes_50 ?_
  exact kk
theorem sX4_writes_54 {g : ZG} {Q : ZQ} {d cN sN : Nat} {M : ZM} {t0 : Nat} {l0 : Nat} {fs1 : List Value} {r3 : Nat} {l2 : Int32} {n5 : Nat} {f6 : Nat → Int32} {o1 : Option Value} (h2 : M.1 l0 = some (.inr (3, fs1))) (h4 : (fs1)[4]? = some (.ref r3)) (h7 : M.1 r3 = some (.inl (zA g 0, n5, .inl f6))) (h8 : vp_in (l2) n5) (kt : (f6 ((l2 : Int32).toNatClampNeg) : Int32) < (2 : Int32) → Z g kX4_writes Q d cN sN M 87 [some (.ref l0), o1, some (.int l2)] []) (kf : ¬ (f6 ((l2 : Int32).toNatClampNeg) : Int32) < (2 : Int32) → Z g kX4_writes Q d cN sN M 65 [some (.ref l0), o1, some (.int l2)] []) : Z g kX4_writes Q d cN sN M 54 [some (.ref l0), o1, some (.int l2)] [.ref t0] := by
  refine zi_pop dX4_writes_54 rfl ?_
  refine zi_aload_n dX4_writes_55 rfl zrf_r ?_
  refine zi_getfield dX4_writes_56 rfl h2 h4 ?_
  refine zi_iload_n dX4_writes_59 rfl ?_
  refine zi_iaload dX4_writes_60 h7 h8 ?_
  refine zi_iconst dX4_writes_61 (by decide +kernel : Int32.ofInt (2) = (2 : Int32)) ?_
  exact zi_icmp_lt (tgt := 87) dX4_writes_62 (by decide +kernel) kt kf
theorem sX4_writes_65 {g : ZG} {Q : ZQ} {d cN sN : Nat} {M : ZM} {l1 : Nat} {l0 : Nat} {fs1 : List Value} {r3 : Nat} {l2 : Int32} {n5 : Nat} {f6 : Nat → Int32} (h2 : M.1 l0 = some (.inr (3, fs1))) (h4 : (fs1)[4]? = some (.ref r3)) (h7 : M.1 r3 = some (.inl (zA g 0, n5, .inl f6))) (h8 : vp_in (l2) n5) (kt : ¬ (f6 ((l2 : Int32).toNatClampNeg) : Int32) = (3 : Int32) → Z g kX4_writes Q d cN sN M 81 [some (.ref l0), some (.ref l1), some (.int l2)] [.ref l1]) (kf : (f6 ((l2 : Int32).toNatClampNeg) : Int32) = (3 : Int32) → Z g kX4_writes Q d cN sN M 76 [some (.ref l0), some (.ref l1), some (.int l2)] [.ref l1]) : Z g kX4_writes Q d cN sN M 65 [some (.ref l0), some (.ref l1), some (.int l2)] [] := by
  refine zi_aload_n dX4_writes_65 rfl zrf_r ?_
  refine zi_aload_n dX4_writes_66 rfl zrf_r ?_
  refine zi_getfield dX4_writes_67 rfl h2 h4 ?_
  refine zi_iload_n dX4_writes_70 rfl ?_
  refine zi_iaload dX4_writes_71 h7 h8 ?_
  refine zi_iconst dX4_writes_72 (by decide +kernel : Int32.ofInt (3) = (3 : Int32)) ?_
  exact zi_icmp_ne (tgt := 81) dX4_writes_73 (by decide +kernel) kt kf
theorem sX4_writes_76 {g : ZG} {Q : ZQ} {d cN sN : Nat} {M : ZM} {t0 : Nat} {o0 o1 o2 : Option Value}  (kk : Z g kX4_writes Q d cN sN M 83 [o0, o1, o2] [.int 33, .ref t0]) : Z g kX4_writes Q d cN sN M 76 [o0, o1, o2] [.ref t0] := by
  refine zi_bipush dX4_writes_76 (by decide +kernel : (Int8.ofInt (33)).toInt32 = (33 : Int32)) ?_
  exact zi_goto (tgt := 83) dX4_writes_78 (by decide +kernel) kk
theorem sX4_writes_81 {g : ZG} {Q : ZQ} {d cN sN : Nat} {M : ZM} {t0 : Nat} {o0 o1 o2 : Option Value}  (kk : Z g kX4_writes Q d cN sN M 83 [o0, o1, o2] [.int 39, .ref t0]) : Z g kX4_writes Q d cN sN M 81 [o0, o1, o2] [.ref t0] := by
  refine zi_bipush dX4_writes_81 (by decide +kernel : (Int8.ofInt (39)).toInt32 = (39 : Int32)) ?_
  exact kk
theorem sX4_writes_86 {g : ZG} {Q : ZQ} {d cN sN : Nat} {M : ZM} {t0 : Nat} {o0 o1 o2 : Option Value}  (kk : Z g kX4_writes Q d cN sN M 87 [o0, o1, o2] []) : Z g kX4_writes Q d cN sN M 86 [o0, o1, o2] [.ref t0] := by
  refine zi_pop dX4_writes_86 rfl ?_
  exact kk
theorem sX4_writes_87 {g : ZG} {Q : ZQ} {d cN sN : Nat} {M : ZM} {l2 : Int32} {o0 o1 : Option Value}  (kk : Z g kX4_writes Q d cN sN M 16 [o0, o1, some (.int (l2 + 1))] []) : Z g kX4_writes Q d cN sN M 87 [o0, o1, some (.int l2)] [] := by
  refine zi_iinc dX4_writes_87 rfl (by decide +kernel : Int32.ofInt (1) = 1) (Nat.le_of_ble_eq_true rfl) ?_
  exact zi_goto (tgt := 16) dX4_writes_90 (by decide +kernel) kk
theorem sX4_writes_93 {g : ZG} {Q : ZQ} {d cN sN : Nat} {M : ZM} {o0 o1 o2 : Option Value}  (kk : Q.1 none M) : Z g kX4_writes Q d cN sN M 93 [o0, o1, o2] [] := by
  exact zi_return dX4_writes_93 rfl kk
/-! ErrataPress$Reader (printed by gen_m.py) -/
set_option maxRecDepth 100000
abbrev cX5_init : ByteArray := prog_7_method_1_code
def yX5_init : MethodName := ⟨RX5, "<init>", "(Ljava/lang/StringBuilder;)V"⟩
def dkwX5_init_1 : List UInt8 := [181, 0, 19, 177]
abbrev dktX5_init_1 : List UInt8 := dkwX5_init_1 ++ []
def dkwX5_init_0 : List UInt8 := [42, 183, 0, 3, 42, 16, 60, 188, 5, 181, 0, 9, 42, 17, 0, 180, 188, 10, 181, 0, 15, 42, 43]
abbrev dktX5_init_0 : List UInt8 := dkwX5_init_0 ++ dktX5_init_1
theorem dksX5_init_0 : cX5_init.data.toList.drop 0 = dktX5_init_0 := by decide +kernel
theorem dksX5_init_1 : cX5_init.data.toList.drop 23 = dktX5_init_1 := dk_seg dksX5_init_0 23 rfl rfl
theorem dX5_init_0 : decode cX5_init 0 = .ok (.aload_n 0, 1) := dk_42 (dk_at dksX5_init_0 0 rfl rfl)
theorem dX5_init_1 : decode cX5_init 1 = .ok (.invokespecial 3, 3) := dk_183 0 3 (dk_at dksX5_init_0 1 rfl rfl)
theorem dX5_init_4 : decode cX5_init 4 = .ok (.aload_n 0, 1) := dk_42 (dk_at dksX5_init_0 4 rfl rfl)
theorem dX5_init_5 : decode cX5_init 5 = .ok (.bipush 60, 2) := dk_16 60 (dk_at dksX5_init_0 5 rfl rfl)
theorem dX5_init_7 : decode cX5_init 7 = .ok (.newarray .char, 2) := dk_188_5 (dk_at dksX5_init_0 7 rfl rfl)
theorem dX5_init_9 : decode cX5_init 9 = .ok (.putfield 9, 3) := dk_181 0 9 (dk_at dksX5_init_0 9 rfl rfl)
theorem dX5_init_12 : decode cX5_init 12 = .ok (.aload_n 0, 1) := dk_42 (dk_at dksX5_init_0 12 rfl rfl)
theorem dX5_init_13 : decode cX5_init 13 = .ok (.sipush 180, 3) := dk_17 0 180 (dk_at dksX5_init_0 13 rfl rfl)
theorem dX5_init_16 : decode cX5_init 16 = .ok (.newarray .int, 2) := dk_188_10 (dk_at dksX5_init_0 16 rfl rfl)
theorem dX5_init_18 : decode cX5_init 18 = .ok (.putfield 15, 3) := dk_181 0 15 (dk_at dksX5_init_0 18 rfl rfl)
theorem dX5_init_21 : decode cX5_init 21 = .ok (.aload_n 0, 1) := dk_42 (dk_at dksX5_init_0 21 rfl rfl)
theorem dX5_init_22 : decode cX5_init 22 = .ok (.aload_n 1, 1) := dk_43 (dk_at dksX5_init_0 22 rfl rfl)
theorem dX5_init_23 : decode cX5_init 23 = .ok (.putfield 19, 3) := dk_181 0 19 (dk_at dksX5_init_1 0 rfl rfl)
theorem dX5_init_26 : decode cX5_init 26 = .ok (.return_, 1) := dk_177 (dk_at dksX5_init_1 3 rfl rfl)
abbrev cX5_read : ByteArray := prog_7_method_13_code
def yX5_read : MethodName := ⟨RX5, "read", "()V"⟩
def dkwX5_read_2 : List UInt8 := [167, 0, 4, 3, 182, 0, 53, 177]
abbrev dktX5_read_2 : List UInt8 := dkwX5_read_2 ++ []
def dkwX5_read_1 : List UInt8 := [182, 0, 79, 154, 255, 246, 42, 42, 180, 0, 23, 42, 180, 0, 19, 182, 0, 27, 160, 0, 7, 4]
abbrev dktX5_read_1 : List UInt8 := dkwX5_read_1 ++ dktX5_read_2
def dkwX5_read_0 : List UInt8 := [42, 3, 181, 0, 23, 42, 2, 181, 0, 40, 42, 3, 181, 0, 46, 42, 182, 0, 86, 42, 16, 59]
abbrev dktX5_read_0 : List UInt8 := dkwX5_read_0 ++ dktX5_read_1
theorem dksX5_read_0 : cX5_read.data.toList.drop 0 = dktX5_read_0 := by decide +kernel
theorem dksX5_read_1 : cX5_read.data.toList.drop 22 = dktX5_read_1 := dk_seg dksX5_read_0 22 rfl rfl
theorem dksX5_read_2 : cX5_read.data.toList.drop 44 = dktX5_read_2 := dk_seg dksX5_read_1 22 rfl rfl
theorem dX5_read_0 : decode cX5_read 0 = .ok (.aload_n 0, 1) := dk_42 (dk_at dksX5_read_0 0 rfl rfl)
theorem dX5_read_1 : decode cX5_read 1 = .ok (.iconst 0, 1) := dk_3 (dk_at dksX5_read_0 1 rfl rfl)
theorem dX5_read_2 : decode cX5_read 2 = .ok (.putfield 23, 3) := dk_181 0 23 (dk_at dksX5_read_0 2 rfl rfl)
theorem dX5_read_5 : decode cX5_read 5 = .ok (.aload_n 0, 1) := dk_42 (dk_at dksX5_read_0 5 rfl rfl)
theorem dX5_read_6 : decode cX5_read 6 = .ok (.iconst (-1), 1) := dk_2 (dk_at dksX5_read_0 6 rfl rfl)
theorem dX5_read_7 : decode cX5_read 7 = .ok (.putfield 40, 3) := dk_181 0 40 (dk_at dksX5_read_0 7 rfl rfl)
theorem dX5_read_10 : decode cX5_read 10 = .ok (.aload_n 0, 1) := dk_42 (dk_at dksX5_read_0 10 rfl rfl)
theorem dX5_read_11 : decode cX5_read 11 = .ok (.iconst 0, 1) := dk_3 (dk_at dksX5_read_0 11 rfl rfl)
theorem dX5_read_12 : decode cX5_read 12 = .ok (.putfield 46, 3) := dk_181 0 46 (dk_at dksX5_read_0 12 rfl rfl)
theorem dX5_read_15 : decode cX5_read 15 = .ok (.aload_n 0, 1) := dk_42 (dk_at dksX5_read_0 15 rfl rfl)
theorem dX5_read_16 : decode cX5_read 16 = .ok (.invokevirtual 86, 3) := dk_182 0 86 (dk_at dksX5_read_0 16 rfl rfl)
theorem dX5_read_19 : decode cX5_read 19 = .ok (.aload_n 0, 1) := dk_42 (dk_at dksX5_read_0 19 rfl rfl)
theorem dX5_read_20 : decode cX5_read 20 = .ok (.bipush 59, 2) := dk_16 59 (dk_at dksX5_read_0 20 rfl rfl)
theorem dX5_read_22 : decode cX5_read 22 = .ok (.invokevirtual 79, 3) := dk_182 0 79 (dk_at dksX5_read_1 0 rfl rfl)
theorem dX5_read_25 : decode cX5_read 25 = .ok (.ifCond .ne (-10), 3) := dk_154 255 246 (dk_at dksX5_read_1 3 rfl rfl)
theorem dX5_read_28 : decode cX5_read 28 = .ok (.aload_n 0, 1) := dk_42 (dk_at dksX5_read_1 6 rfl rfl)
theorem dX5_read_29 : decode cX5_read 29 = .ok (.aload_n 0, 1) := dk_42 (dk_at dksX5_read_1 7 rfl rfl)
theorem dX5_read_30 : decode cX5_read 30 = .ok (.getfield 23, 3) := dk_180 0 23 (dk_at dksX5_read_1 8 rfl rfl)
theorem dX5_read_33 : decode cX5_read 33 = .ok (.aload_n 0, 1) := dk_42 (dk_at dksX5_read_1 11 rfl rfl)
theorem dX5_read_34 : decode cX5_read 34 = .ok (.getfield 19, 3) := dk_180 0 19 (dk_at dksX5_read_1 12 rfl rfl)
theorem dX5_read_37 : decode cX5_read 37 = .ok (.invokevirtual 27, 3) := dk_182 0 27 (dk_at dksX5_read_1 15 rfl rfl)
theorem dX5_read_40 : decode cX5_read 40 = .ok (.if_icmp .ne 7, 3) := dk_160 0 7 (dk_at dksX5_read_1 18 rfl rfl)
theorem dX5_read_43 : decode cX5_read 43 = .ok (.iconst 1, 1) := dk_4 (dk_at dksX5_read_1 21 rfl rfl)
theorem dX5_read_44 : decode cX5_read 44 = .ok (.goto 4, 3) := dk_167 0 4 (dk_at dksX5_read_2 0 rfl rfl)
theorem dX5_read_47 : decode cX5_read 47 = .ok (.iconst 0, 1) := dk_3 (dk_at dksX5_read_2 3 rfl rfl)
theorem dX5_read_48 : decode cX5_read 48 = .ok (.invokevirtual 53, 3) := dk_182 0 53 (dk_at dksX5_read_2 4 rfl rfl)
theorem dX5_read_51 : decode cX5_read 51 = .ok (.return_, 1) := dk_177 (dk_at dksX5_read_2 7 rfl rfl)
abbrev cX5_order : ByteArray := prog_7_method_12_code
def yX5_order : MethodName := ⟨RX5, "order", "()V"⟩
def dkwX5_order_9 : List UInt8 := [153, 0, 7, 4, 167, 0, 4, 3, 182, 0, 53, 42, 89, 180, 0, 46, 4, 96, 181, 0, 46, 177]
abbrev dktX5_order_9 : List UInt8 := dkwX5_order_9 ++ []
def dkwX5_order_8 : List UInt8 := [182, 0, 61, 167, 0, 30, 42, 42, 16, 101, 182, 0, 79, 154, 0, 12, 42, 16, 100, 182, 0, 79]
abbrev dktX5_order_8 : List UInt8 := dkwX5_order_8 ++ dktX5_order_9
def dkwX5_order_7 : List UInt8 := [182, 0, 61, 42, 4, 182, 0, 61, 167, 0, 48, 42, 89, 180, 0, 23, 4, 96, 181, 0, 23, 42, 3]
abbrev dktX5_order_7 : List UInt8 := dkwX5_order_7 ++ dktX5_order_8
def dkwX5_order_6 : List UInt8 := [5, 42, 182, 0, 73, 182, 0, 57, 167, 0, 71, 42, 89, 180, 0, 23, 4, 96, 181, 0, 23, 42, 3]
abbrev dktX5_order_6 : List UInt8 := dkwX5_order_6 ++ dktX5_order_7
def dkwX5_order_5 : List UInt8 := [167, 0, 103, 42, 89, 180, 0, 23, 4, 96, 181, 0, 23, 42, 3, 182, 0, 61, 42, 4, 182, 0, 61, 42]
abbrev dktX5_order_5 : List UInt8 := dkwX5_order_5 ++ dktX5_order_6
def dkwX5_order_4 : List UInt8 := [181, 0, 23, 42, 3, 182, 0, 61, 42, 42, 16, 61, 182, 0, 79, 182, 0, 53, 42, 182, 0, 83]
abbrev dktX5_order_4 : List UInt8 := dkwX5_order_4 ++ dktX5_order_5
def dkwX5_order_3 : List UInt8 := [42, 89, 180, 0, 23, 4, 96, 181, 0, 23, 42, 182, 0, 76, 167, 0, 135, 42, 89, 180, 0, 23, 4, 96]
abbrev dktX5_order_3 : List UInt8 := dkwX5_order_3 ++ dktX5_order_4
def dkwX5_order_2 : List UInt8 := [170, 0, 0, 0, 223, 0, 0, 0, 99, 0, 0, 0, 120, 0, 0, 0, 182, 0, 0, 0, 223, 0, 0, 0, 223, 0, 0, 0, 223, 0, 0, 0, 223, 0, 0, 0, 101, 0, 0, 0, 223, 0, 0, 0, 223, 0, 0, 0, 223, 0, 0, 0, 182, 0, 0, 0, 150, 0, 0, 0, 223, 0, 0, 0, 223, 0, 0, 0, 223, 0, 0, 0, 223, 0, 0, 0, 182, 0, 0, 0, 118, 0, 0, 0, 223, 0, 0, 0, 223, 0, 0, 0, 223, 0, 0, 0, 223, 0, 0, 0, 205]
abbrev dktX5_order_2 : List UInt8 := dkwX5_order_2 ++ dktX5_order_3
def dkwX5_order_1 : List UInt8 := [180, 0, 46, 27, 146, 85, 42, 180, 0, 9, 42, 180, 0, 46, 52]
abbrev dktX5_order_1 : List UInt8 := dkwX5_order_1 ++ dktX5_order_2
def dkwX5_order_0 : List UInt8 := [42, 182, 0, 37, 60, 42, 27, 2, 159, 0, 7, 4, 167, 0, 4, 3, 182, 0, 53, 42, 180, 0, 9, 42]
abbrev dktX5_order_0 : List UInt8 := dkwX5_order_0 ++ dktX5_order_1
theorem dksX5_order_0 : cX5_order.data.toList.drop 0 = dktX5_order_0 := by decide +kernel
theorem dksX5_order_1 : cX5_order.data.toList.drop 24 = dktX5_order_1 := dk_seg dksX5_order_0 24 rfl rfl
theorem dksX5_order_2 : cX5_order.data.toList.drop 39 = dktX5_order_2 := dk_seg dksX5_order_1 15 rfl rfl
theorem dksX5_order_3 : cX5_order.data.toList.drop 140 = dktX5_order_3 := dk_seg dksX5_order_2 101 rfl rfl
theorem dksX5_order_4 : cX5_order.data.toList.drop 164 = dktX5_order_4 := dk_seg dksX5_order_3 24 rfl rfl
theorem dksX5_order_5 : cX5_order.data.toList.drop 186 = dktX5_order_5 := dk_seg dksX5_order_4 22 rfl rfl
theorem dksX5_order_6 : cX5_order.data.toList.drop 210 = dktX5_order_6 := dk_seg dksX5_order_5 24 rfl rfl
theorem dksX5_order_7 : cX5_order.data.toList.drop 233 = dktX5_order_7 := dk_seg dksX5_order_6 23 rfl rfl
theorem dksX5_order_8 : cX5_order.data.toList.drop 256 = dktX5_order_8 := dk_seg dksX5_order_7 23 rfl rfl
theorem dksX5_order_9 : cX5_order.data.toList.drop 278 = dktX5_order_9 := dk_seg dksX5_order_8 22 rfl rfl
theorem dX5_order_0 : decode cX5_order 0 = .ok (.aload_n 0, 1) := dk_42 (dk_at dksX5_order_0 0 rfl rfl)
theorem dX5_order_1 : decode cX5_order 1 = .ok (.invokevirtual 37, 3) := dk_182 0 37 (dk_at dksX5_order_0 1 rfl rfl)
theorem dX5_order_4 : decode cX5_order 4 = .ok (.istore_n 1, 1) := dk_60 (dk_at dksX5_order_0 4 rfl rfl)
theorem dX5_order_5 : decode cX5_order 5 = .ok (.aload_n 0, 1) := dk_42 (dk_at dksX5_order_0 5 rfl rfl)
theorem dX5_order_6 : decode cX5_order 6 = .ok (.iload_n 1, 1) := dk_27 (dk_at dksX5_order_0 6 rfl rfl)
theorem dX5_order_7 : decode cX5_order 7 = .ok (.iconst (-1), 1) := dk_2 (dk_at dksX5_order_0 7 rfl rfl)
theorem dX5_order_8 : decode cX5_order 8 = .ok (.if_icmp .eq 7, 3) := dk_159 0 7 (dk_at dksX5_order_0 8 rfl rfl)
theorem dX5_order_11 : decode cX5_order 11 = .ok (.iconst 1, 1) := dk_4 (dk_at dksX5_order_0 11 rfl rfl)
theorem dX5_order_12 : decode cX5_order 12 = .ok (.goto 4, 3) := dk_167 0 4 (dk_at dksX5_order_0 12 rfl rfl)
theorem dX5_order_15 : decode cX5_order 15 = .ok (.iconst 0, 1) := dk_3 (dk_at dksX5_order_0 15 rfl rfl)
theorem dX5_order_16 : decode cX5_order 16 = .ok (.invokevirtual 53, 3) := dk_182 0 53 (dk_at dksX5_order_0 16 rfl rfl)
theorem dX5_order_19 : decode cX5_order 19 = .ok (.aload_n 0, 1) := dk_42 (dk_at dksX5_order_0 19 rfl rfl)
theorem dX5_order_20 : decode cX5_order 20 = .ok (.getfield 9, 3) := dk_180 0 9 (dk_at dksX5_order_0 20 rfl rfl)
theorem dX5_order_23 : decode cX5_order 23 = .ok (.aload_n 0, 1) := dk_42 (dk_at dksX5_order_0 23 rfl rfl)
theorem dX5_order_24 : decode cX5_order 24 = .ok (.getfield 46, 3) := dk_180 0 46 (dk_at dksX5_order_1 0 rfl rfl)
theorem dX5_order_27 : decode cX5_order 27 = .ok (.iload_n 1, 1) := dk_27 (dk_at dksX5_order_1 3 rfl rfl)
theorem dX5_order_28 : decode cX5_order 28 = .ok (.i2c, 1) := dk_146 (dk_at dksX5_order_1 4 rfl rfl)
theorem dX5_order_29 : decode cX5_order 29 = .ok (.castore, 1) := dk_85 (dk_at dksX5_order_1 5 rfl rfl)
theorem dX5_order_30 : decode cX5_order 30 = .ok (.aload_n 0, 1) := dk_42 (dk_at dksX5_order_1 6 rfl rfl)
theorem dX5_order_31 : decode cX5_order 31 = .ok (.getfield 9, 3) := dk_180 0 9 (dk_at dksX5_order_1 7 rfl rfl)
theorem dX5_order_34 : decode cX5_order 34 = .ok (.aload_n 0, 1) := dk_42 (dk_at dksX5_order_1 10 rfl rfl)
theorem dX5_order_35 : decode cX5_order 35 = .ok (.getfield 46, 3) := dk_180 0 46 (dk_at dksX5_order_1 11 rfl rfl)
theorem dX5_order_38 : decode cX5_order 38 = .ok (.caload, 1) := dk_52 (dk_at dksX5_order_1 14 rfl rfl)
theorem dX5_order_39 : decode cX5_order 39 = .ok (.tableswitch 223 99 120 #[182, 223, 223, 223, 223, 101, 223, 223, 223, 182, 150, 223, 223, 223, 223, 182, 118, 223, 223, 223, 223, 205], 101) := by decide +kernel
theorem dX5_order_140 : decode cX5_order 140 = .ok (.aload_n 0, 1) := dk_42 (dk_at dksX5_order_3 0 rfl rfl)
theorem dX5_order_141 : decode cX5_order 141 = .ok (.dup, 1) := dk_89 (dk_at dksX5_order_3 1 rfl rfl)
theorem dX5_order_142 : decode cX5_order 142 = .ok (.getfield 23, 3) := dk_180 0 23 (dk_at dksX5_order_3 2 rfl rfl)
theorem dX5_order_145 : decode cX5_order 145 = .ok (.iconst 1, 1) := dk_4 (dk_at dksX5_order_3 5 rfl rfl)
theorem dX5_order_146 : decode cX5_order 146 = .ok (.iadd, 1) := dk_96 (dk_at dksX5_order_3 6 rfl rfl)
theorem dX5_order_147 : decode cX5_order 147 = .ok (.putfield 23, 3) := dk_181 0 23 (dk_at dksX5_order_3 7 rfl rfl)
theorem dX5_order_150 : decode cX5_order 150 = .ok (.aload_n 0, 1) := dk_42 (dk_at dksX5_order_3 10 rfl rfl)
theorem dX5_order_151 : decode cX5_order 151 = .ok (.invokevirtual 76, 3) := dk_182 0 76 (dk_at dksX5_order_3 11 rfl rfl)
theorem dX5_order_154 : decode cX5_order 154 = .ok (.goto 135, 3) := dk_167 0 135 (dk_at dksX5_order_3 14 rfl rfl)
theorem dX5_order_157 : decode cX5_order 157 = .ok (.aload_n 0, 1) := dk_42 (dk_at dksX5_order_3 17 rfl rfl)
theorem dX5_order_158 : decode cX5_order 158 = .ok (.dup, 1) := dk_89 (dk_at dksX5_order_3 18 rfl rfl)
theorem dX5_order_159 : decode cX5_order 159 = .ok (.getfield 23, 3) := dk_180 0 23 (dk_at dksX5_order_3 19 rfl rfl)
theorem dX5_order_162 : decode cX5_order 162 = .ok (.iconst 1, 1) := dk_4 (dk_at dksX5_order_3 22 rfl rfl)
theorem dX5_order_163 : decode cX5_order 163 = .ok (.iadd, 1) := dk_96 (dk_at dksX5_order_3 23 rfl rfl)
theorem dX5_order_164 : decode cX5_order 164 = .ok (.putfield 23, 3) := dk_181 0 23 (dk_at dksX5_order_4 0 rfl rfl)
theorem dX5_order_167 : decode cX5_order 167 = .ok (.aload_n 0, 1) := dk_42 (dk_at dksX5_order_4 3 rfl rfl)
theorem dX5_order_168 : decode cX5_order 168 = .ok (.iconst 0, 1) := dk_3 (dk_at dksX5_order_4 4 rfl rfl)
theorem dX5_order_169 : decode cX5_order 169 = .ok (.invokevirtual 61, 3) := dk_182 0 61 (dk_at dksX5_order_4 5 rfl rfl)
theorem dX5_order_172 : decode cX5_order 172 = .ok (.aload_n 0, 1) := dk_42 (dk_at dksX5_order_4 8 rfl rfl)
theorem dX5_order_173 : decode cX5_order 173 = .ok (.aload_n 0, 1) := dk_42 (dk_at dksX5_order_4 9 rfl rfl)
theorem dX5_order_174 : decode cX5_order 174 = .ok (.bipush 61, 2) := dk_16 61 (dk_at dksX5_order_4 10 rfl rfl)
theorem dX5_order_176 : decode cX5_order 176 = .ok (.invokevirtual 79, 3) := dk_182 0 79 (dk_at dksX5_order_4 12 rfl rfl)
theorem dX5_order_179 : decode cX5_order 179 = .ok (.invokevirtual 53, 3) := dk_182 0 53 (dk_at dksX5_order_4 15 rfl rfl)
theorem dX5_order_182 : decode cX5_order 182 = .ok (.aload_n 0, 1) := dk_42 (dk_at dksX5_order_4 18 rfl rfl)
theorem dX5_order_183 : decode cX5_order 183 = .ok (.invokevirtual 83, 3) := dk_182 0 83 (dk_at dksX5_order_4 19 rfl rfl)
theorem dX5_order_186 : decode cX5_order 186 = .ok (.goto 103, 3) := dk_167 0 103 (dk_at dksX5_order_5 0 rfl rfl)
theorem dX5_order_189 : decode cX5_order 189 = .ok (.aload_n 0, 1) := dk_42 (dk_at dksX5_order_5 3 rfl rfl)
theorem dX5_order_190 : decode cX5_order 190 = .ok (.dup, 1) := dk_89 (dk_at dksX5_order_5 4 rfl rfl)
theorem dX5_order_191 : decode cX5_order 191 = .ok (.getfield 23, 3) := dk_180 0 23 (dk_at dksX5_order_5 5 rfl rfl)
theorem dX5_order_194 : decode cX5_order 194 = .ok (.iconst 1, 1) := dk_4 (dk_at dksX5_order_5 8 rfl rfl)
theorem dX5_order_195 : decode cX5_order 195 = .ok (.iadd, 1) := dk_96 (dk_at dksX5_order_5 9 rfl rfl)
theorem dX5_order_196 : decode cX5_order 196 = .ok (.putfield 23, 3) := dk_181 0 23 (dk_at dksX5_order_5 10 rfl rfl)
theorem dX5_order_199 : decode cX5_order 199 = .ok (.aload_n 0, 1) := dk_42 (dk_at dksX5_order_5 13 rfl rfl)
theorem dX5_order_200 : decode cX5_order 200 = .ok (.iconst 0, 1) := dk_3 (dk_at dksX5_order_5 14 rfl rfl)
theorem dX5_order_201 : decode cX5_order 201 = .ok (.invokevirtual 61, 3) := dk_182 0 61 (dk_at dksX5_order_5 15 rfl rfl)
theorem dX5_order_204 : decode cX5_order 204 = .ok (.aload_n 0, 1) := dk_42 (dk_at dksX5_order_5 18 rfl rfl)
theorem dX5_order_205 : decode cX5_order 205 = .ok (.iconst 1, 1) := dk_4 (dk_at dksX5_order_5 19 rfl rfl)
theorem dX5_order_206 : decode cX5_order 206 = .ok (.invokevirtual 61, 3) := dk_182 0 61 (dk_at dksX5_order_5 20 rfl rfl)
theorem dX5_order_209 : decode cX5_order 209 = .ok (.aload_n 0, 1) := dk_42 (dk_at dksX5_order_5 23 rfl rfl)
theorem dX5_order_210 : decode cX5_order 210 = .ok (.iconst 2, 1) := dk_5 (dk_at dksX5_order_6 0 rfl rfl)
theorem dX5_order_211 : decode cX5_order 211 = .ok (.aload_n 0, 1) := dk_42 (dk_at dksX5_order_6 1 rfl rfl)
theorem dX5_order_212 : decode cX5_order 212 = .ok (.invokevirtual 73, 3) := dk_182 0 73 (dk_at dksX5_order_6 2 rfl rfl)
theorem dX5_order_215 : decode cX5_order 215 = .ok (.invokevirtual 57, 3) := dk_182 0 57 (dk_at dksX5_order_6 5 rfl rfl)
theorem dX5_order_218 : decode cX5_order 218 = .ok (.goto 71, 3) := dk_167 0 71 (dk_at dksX5_order_6 8 rfl rfl)
theorem dX5_order_221 : decode cX5_order 221 = .ok (.aload_n 0, 1) := dk_42 (dk_at dksX5_order_6 11 rfl rfl)
theorem dX5_order_222 : decode cX5_order 222 = .ok (.dup, 1) := dk_89 (dk_at dksX5_order_6 12 rfl rfl)
theorem dX5_order_223 : decode cX5_order 223 = .ok (.getfield 23, 3) := dk_180 0 23 (dk_at dksX5_order_6 13 rfl rfl)
theorem dX5_order_226 : decode cX5_order 226 = .ok (.iconst 1, 1) := dk_4 (dk_at dksX5_order_6 16 rfl rfl)
theorem dX5_order_227 : decode cX5_order 227 = .ok (.iadd, 1) := dk_96 (dk_at dksX5_order_6 17 rfl rfl)
theorem dX5_order_228 : decode cX5_order 228 = .ok (.putfield 23, 3) := dk_181 0 23 (dk_at dksX5_order_6 18 rfl rfl)
theorem dX5_order_231 : decode cX5_order 231 = .ok (.aload_n 0, 1) := dk_42 (dk_at dksX5_order_6 21 rfl rfl)
theorem dX5_order_232 : decode cX5_order 232 = .ok (.iconst 0, 1) := dk_3 (dk_at dksX5_order_6 22 rfl rfl)
theorem dX5_order_233 : decode cX5_order 233 = .ok (.invokevirtual 61, 3) := dk_182 0 61 (dk_at dksX5_order_7 0 rfl rfl)
theorem dX5_order_236 : decode cX5_order 236 = .ok (.aload_n 0, 1) := dk_42 (dk_at dksX5_order_7 3 rfl rfl)
theorem dX5_order_237 : decode cX5_order 237 = .ok (.iconst 1, 1) := dk_4 (dk_at dksX5_order_7 4 rfl rfl)
theorem dX5_order_238 : decode cX5_order 238 = .ok (.invokevirtual 61, 3) := dk_182 0 61 (dk_at dksX5_order_7 5 rfl rfl)
theorem dX5_order_241 : decode cX5_order 241 = .ok (.goto 48, 3) := dk_167 0 48 (dk_at dksX5_order_7 8 rfl rfl)
theorem dX5_order_244 : decode cX5_order 244 = .ok (.aload_n 0, 1) := dk_42 (dk_at dksX5_order_7 11 rfl rfl)
theorem dX5_order_245 : decode cX5_order 245 = .ok (.dup, 1) := dk_89 (dk_at dksX5_order_7 12 rfl rfl)
theorem dX5_order_246 : decode cX5_order 246 = .ok (.getfield 23, 3) := dk_180 0 23 (dk_at dksX5_order_7 13 rfl rfl)
theorem dX5_order_249 : decode cX5_order 249 = .ok (.iconst 1, 1) := dk_4 (dk_at dksX5_order_7 16 rfl rfl)
theorem dX5_order_250 : decode cX5_order 250 = .ok (.iadd, 1) := dk_96 (dk_at dksX5_order_7 17 rfl rfl)
theorem dX5_order_251 : decode cX5_order 251 = .ok (.putfield 23, 3) := dk_181 0 23 (dk_at dksX5_order_7 18 rfl rfl)
theorem dX5_order_254 : decode cX5_order 254 = .ok (.aload_n 0, 1) := dk_42 (dk_at dksX5_order_7 21 rfl rfl)
theorem dX5_order_255 : decode cX5_order 255 = .ok (.iconst 0, 1) := dk_3 (dk_at dksX5_order_7 22 rfl rfl)
theorem dX5_order_256 : decode cX5_order 256 = .ok (.invokevirtual 61, 3) := dk_182 0 61 (dk_at dksX5_order_8 0 rfl rfl)
theorem dX5_order_259 : decode cX5_order 259 = .ok (.goto 30, 3) := dk_167 0 30 (dk_at dksX5_order_8 3 rfl rfl)
theorem dX5_order_262 : decode cX5_order 262 = .ok (.aload_n 0, 1) := dk_42 (dk_at dksX5_order_8 6 rfl rfl)
theorem dX5_order_263 : decode cX5_order 263 = .ok (.aload_n 0, 1) := dk_42 (dk_at dksX5_order_8 7 rfl rfl)
theorem dX5_order_264 : decode cX5_order 264 = .ok (.bipush 101, 2) := dk_16 101 (dk_at dksX5_order_8 8 rfl rfl)
theorem dX5_order_266 : decode cX5_order 266 = .ok (.invokevirtual 79, 3) := dk_182 0 79 (dk_at dksX5_order_8 10 rfl rfl)
theorem dX5_order_269 : decode cX5_order 269 = .ok (.ifCond .ne 12, 3) := dk_154 0 12 (dk_at dksX5_order_8 13 rfl rfl)
theorem dX5_order_272 : decode cX5_order 272 = .ok (.aload_n 0, 1) := dk_42 (dk_at dksX5_order_8 16 rfl rfl)
theorem dX5_order_273 : decode cX5_order 273 = .ok (.bipush 100, 2) := dk_16 100 (dk_at dksX5_order_8 17 rfl rfl)
theorem dX5_order_275 : decode cX5_order 275 = .ok (.invokevirtual 79, 3) := dk_182 0 79 (dk_at dksX5_order_8 19 rfl rfl)
theorem dX5_order_278 : decode cX5_order 278 = .ok (.ifCond .eq 7, 3) := dk_153 0 7 (dk_at dksX5_order_9 0 rfl rfl)
theorem dX5_order_281 : decode cX5_order 281 = .ok (.iconst 1, 1) := dk_4 (dk_at dksX5_order_9 3 rfl rfl)
theorem dX5_order_282 : decode cX5_order 282 = .ok (.goto 4, 3) := dk_167 0 4 (dk_at dksX5_order_9 4 rfl rfl)
theorem dX5_order_285 : decode cX5_order 285 = .ok (.iconst 0, 1) := dk_3 (dk_at dksX5_order_9 7 rfl rfl)
theorem dX5_order_286 : decode cX5_order 286 = .ok (.invokevirtual 53, 3) := dk_182 0 53 (dk_at dksX5_order_9 8 rfl rfl)
theorem dX5_order_289 : decode cX5_order 289 = .ok (.aload_n 0, 1) := dk_42 (dk_at dksX5_order_9 11 rfl rfl)
theorem dX5_order_290 : decode cX5_order 290 = .ok (.dup, 1) := dk_89 (dk_at dksX5_order_9 12 rfl rfl)
theorem dX5_order_291 : decode cX5_order 291 = .ok (.getfield 46, 3) := dk_180 0 46 (dk_at dksX5_order_9 13 rfl rfl)
theorem dX5_order_294 : decode cX5_order 294 = .ok (.iconst 1, 1) := dk_4 (dk_at dksX5_order_9 16 rfl rfl)
theorem dX5_order_295 : decode cX5_order 295 = .ok (.iadd, 1) := dk_96 (dk_at dksX5_order_9 17 rfl rfl)
theorem dX5_order_296 : decode cX5_order 296 = .ok (.putfield 46, 3) := dk_181 0 46 (dk_at dksX5_order_9 18 rfl rfl)
theorem dX5_order_299 : decode cX5_order 299 = .ok (.return_, 1) := dk_177 (dk_at dksX5_order_9 21 rfl rfl)
abbrev cX5_here : ByteArray := prog_7_method_2_code
def yX5_here : MethodName := ⟨RX5, "here", "()I"⟩
def dkwX5_here_1 : List UInt8 := [182, 0, 33, 167, 0, 4, 2, 172]
abbrev dktX5_here_1 : List UInt8 := dkwX5_here_1 ++ []
def dkwX5_here_0 : List UInt8 := [42, 180, 0, 23, 42, 180, 0, 19, 182, 0, 27, 162, 0, 17, 42, 180, 0, 19, 42, 180, 0, 23]
abbrev dktX5_here_0 : List UInt8 := dkwX5_here_0 ++ dktX5_here_1
theorem dksX5_here_0 : cX5_here.data.toList.drop 0 = dktX5_here_0 := by decide +kernel
theorem dksX5_here_1 : cX5_here.data.toList.drop 22 = dktX5_here_1 := dk_seg dksX5_here_0 22 rfl rfl
theorem dX5_here_0 : decode cX5_here 0 = .ok (.aload_n 0, 1) := dk_42 (dk_at dksX5_here_0 0 rfl rfl)
theorem dX5_here_1 : decode cX5_here 1 = .ok (.getfield 23, 3) := dk_180 0 23 (dk_at dksX5_here_0 1 rfl rfl)
theorem dX5_here_4 : decode cX5_here 4 = .ok (.aload_n 0, 1) := dk_42 (dk_at dksX5_here_0 4 rfl rfl)
theorem dX5_here_5 : decode cX5_here 5 = .ok (.getfield 19, 3) := dk_180 0 19 (dk_at dksX5_here_0 5 rfl rfl)
theorem dX5_here_8 : decode cX5_here 8 = .ok (.invokevirtual 27, 3) := dk_182 0 27 (dk_at dksX5_here_0 8 rfl rfl)
theorem dX5_here_11 : decode cX5_here 11 = .ok (.if_icmp .ge 17, 3) := dk_162 0 17 (dk_at dksX5_here_0 11 rfl rfl)
theorem dX5_here_14 : decode cX5_here 14 = .ok (.aload_n 0, 1) := dk_42 (dk_at dksX5_here_0 14 rfl rfl)
theorem dX5_here_15 : decode cX5_here 15 = .ok (.getfield 19, 3) := dk_180 0 19 (dk_at dksX5_here_0 15 rfl rfl)
theorem dX5_here_18 : decode cX5_here 18 = .ok (.aload_n 0, 1) := dk_42 (dk_at dksX5_here_0 18 rfl rfl)
theorem dX5_here_19 : decode cX5_here 19 = .ok (.getfield 23, 3) := dk_180 0 23 (dk_at dksX5_here_0 19 rfl rfl)
theorem dX5_here_22 : decode cX5_here 22 = .ok (.invokevirtual 33, 3) := dk_182 0 33 (dk_at dksX5_here_1 0 rfl rfl)
theorem dX5_here_25 : decode cX5_here 25 = .ok (.goto 4, 3) := dk_167 0 4 (dk_at dksX5_here_1 3 rfl rfl)
theorem dX5_here_28 : decode cX5_here 28 = .ok (.iconst (-1), 1) := dk_2 (dk_at dksX5_here_1 6 rfl rfl)
theorem dX5_here_29 : decode cX5_here 29 = .ok (.ireturn, 1) := dk_172 (dk_at dksX5_here_1 7 rfl rfl)
abbrev cX5_must : ByteArray := prog_7_method_4_code
def yX5_must : MethodName := ⟨RX5, "must", "(Z)V"⟩
def dkwX5_must_0 : List UInt8 := [27, 154, 0, 19, 42, 42, 180, 0, 23, 181, 0, 40, 187, 0, 43, 89, 183, 0, 45, 191, 177]
abbrev dktX5_must_0 : List UInt8 := dkwX5_must_0 ++ []
theorem dksX5_must_0 : cX5_must.data.toList.drop 0 = dktX5_must_0 := by decide +kernel
theorem dX5_must_0 : decode cX5_must 0 = .ok (.iload_n 1, 1) := dk_27 (dk_at dksX5_must_0 0 rfl rfl)
theorem dX5_must_1 : decode cX5_must 1 = .ok (.ifCond .ne 19, 3) := dk_154 0 19 (dk_at dksX5_must_0 1 rfl rfl)
theorem dX5_must_4 : decode cX5_must 4 = .ok (.aload_n 0, 1) := dk_42 (dk_at dksX5_must_0 4 rfl rfl)
theorem dX5_must_5 : decode cX5_must 5 = .ok (.aload_n 0, 1) := dk_42 (dk_at dksX5_must_0 5 rfl rfl)
theorem dX5_must_6 : decode cX5_must 6 = .ok (.getfield 23, 3) := dk_180 0 23 (dk_at dksX5_must_0 6 rfl rfl)
theorem dX5_must_9 : decode cX5_must 9 = .ok (.putfield 40, 3) := dk_181 0 40 (dk_at dksX5_must_0 9 rfl rfl)
theorem dX5_must_12 : decode cX5_must 12 = .ok (.new 43, 3) := dk_187 0 43 (dk_at dksX5_must_0 12 rfl rfl)
theorem dX5_must_15 : decode cX5_must 15 = .ok (.dup, 1) := dk_89 (dk_at dksX5_must_0 15 rfl rfl)
theorem dX5_must_16 : decode cX5_must 16 = .ok (.invokespecial 45, 3) := dk_183 0 45 (dk_at dksX5_must_0 16 rfl rfl)
theorem dX5_must_19 : decode cX5_must 19 = .ok (.athrow, 1) := dk_191 (dk_at dksX5_must_0 19 rfl rfl)
theorem dX5_must_20 : decode cX5_must 20 = .ok (.return_, 1) := dk_177 (dk_at dksX5_must_0 20 rfl rfl)
abbrev cX5_coins : ByteArray := prog_7_method_8_code
def yX5_coins : MethodName := ⟨RX5, "coins", "()V"⟩
def dkwX5_coins_2 : List UInt8 := [182, 0, 65, 96, 182, 0, 57, 177]
abbrev dktX5_coins_2 : List UInt8 := dkwX5_coins_2 ++ []
def dkwX5_coins_1 : List UInt8 := [184, 0, 49, 153, 0, 27, 42, 3, 182, 0, 61, 42, 3, 16, 10, 27, 104, 42, 42, 180, 0, 46, 3]
abbrev dktX5_coins_1 : List UInt8 := dkwX5_coins_1 ++ dktX5_coins_2
def dkwX5_coins_0 : List UInt8 := [42, 3, 182, 0, 61, 42, 42, 180, 0, 46, 3, 182, 0, 65, 60, 42, 182, 0, 37, 16, 48, 16, 57]
abbrev dktX5_coins_0 : List UInt8 := dkwX5_coins_0 ++ dktX5_coins_1
theorem dksX5_coins_0 : cX5_coins.data.toList.drop 0 = dktX5_coins_0 := by decide +kernel
theorem dksX5_coins_1 : cX5_coins.data.toList.drop 23 = dktX5_coins_1 := dk_seg dksX5_coins_0 23 rfl rfl
theorem dksX5_coins_2 : cX5_coins.data.toList.drop 46 = dktX5_coins_2 := dk_seg dksX5_coins_1 23 rfl rfl
theorem dX5_coins_0 : decode cX5_coins 0 = .ok (.aload_n 0, 1) := dk_42 (dk_at dksX5_coins_0 0 rfl rfl)
theorem dX5_coins_1 : decode cX5_coins 1 = .ok (.iconst 0, 1) := dk_3 (dk_at dksX5_coins_0 1 rfl rfl)
theorem dX5_coins_2 : decode cX5_coins 2 = .ok (.invokevirtual 61, 3) := dk_182 0 61 (dk_at dksX5_coins_0 2 rfl rfl)
theorem dX5_coins_5 : decode cX5_coins 5 = .ok (.aload_n 0, 1) := dk_42 (dk_at dksX5_coins_0 5 rfl rfl)
theorem dX5_coins_6 : decode cX5_coins 6 = .ok (.aload_n 0, 1) := dk_42 (dk_at dksX5_coins_0 6 rfl rfl)
theorem dX5_coins_7 : decode cX5_coins 7 = .ok (.getfield 46, 3) := dk_180 0 46 (dk_at dksX5_coins_0 7 rfl rfl)
theorem dX5_coins_10 : decode cX5_coins 10 = .ok (.iconst 0, 1) := dk_3 (dk_at dksX5_coins_0 10 rfl rfl)
theorem dX5_coins_11 : decode cX5_coins 11 = .ok (.invokevirtual 65, 3) := dk_182 0 65 (dk_at dksX5_coins_0 11 rfl rfl)
theorem dX5_coins_14 : decode cX5_coins 14 = .ok (.istore_n 1, 1) := dk_60 (dk_at dksX5_coins_0 14 rfl rfl)
theorem dX5_coins_15 : decode cX5_coins 15 = .ok (.aload_n 0, 1) := dk_42 (dk_at dksX5_coins_0 15 rfl rfl)
theorem dX5_coins_16 : decode cX5_coins 16 = .ok (.invokevirtual 37, 3) := dk_182 0 37 (dk_at dksX5_coins_0 16 rfl rfl)
theorem dX5_coins_19 : decode cX5_coins 19 = .ok (.bipush 48, 2) := dk_16 48 (dk_at dksX5_coins_0 19 rfl rfl)
theorem dX5_coins_21 : decode cX5_coins 21 = .ok (.bipush 57, 2) := dk_16 57 (dk_at dksX5_coins_0 21 rfl rfl)
theorem dX5_coins_23 : decode cX5_coins 23 = .ok (.invokestatic 49, 3) := dk_184 0 49 (dk_at dksX5_coins_1 0 rfl rfl)
theorem dX5_coins_26 : decode cX5_coins 26 = .ok (.ifCond .eq 27, 3) := dk_153 0 27 (dk_at dksX5_coins_1 3 rfl rfl)
theorem dX5_coins_29 : decode cX5_coins 29 = .ok (.aload_n 0, 1) := dk_42 (dk_at dksX5_coins_1 6 rfl rfl)
theorem dX5_coins_30 : decode cX5_coins 30 = .ok (.iconst 0, 1) := dk_3 (dk_at dksX5_coins_1 7 rfl rfl)
theorem dX5_coins_31 : decode cX5_coins 31 = .ok (.invokevirtual 61, 3) := dk_182 0 61 (dk_at dksX5_coins_1 8 rfl rfl)
theorem dX5_coins_34 : decode cX5_coins 34 = .ok (.aload_n 0, 1) := dk_42 (dk_at dksX5_coins_1 11 rfl rfl)
theorem dX5_coins_35 : decode cX5_coins 35 = .ok (.iconst 0, 1) := dk_3 (dk_at dksX5_coins_1 12 rfl rfl)
theorem dX5_coins_36 : decode cX5_coins 36 = .ok (.bipush 10, 2) := dk_16 10 (dk_at dksX5_coins_1 13 rfl rfl)
theorem dX5_coins_38 : decode cX5_coins 38 = .ok (.iload_n 1, 1) := dk_27 (dk_at dksX5_coins_1 15 rfl rfl)
theorem dX5_coins_39 : decode cX5_coins 39 = .ok (.imul, 1) := dk_104 (dk_at dksX5_coins_1 16 rfl rfl)
theorem dX5_coins_40 : decode cX5_coins 40 = .ok (.aload_n 0, 1) := dk_42 (dk_at dksX5_coins_1 17 rfl rfl)
theorem dX5_coins_41 : decode cX5_coins 41 = .ok (.aload_n 0, 1) := dk_42 (dk_at dksX5_coins_1 18 rfl rfl)
theorem dX5_coins_42 : decode cX5_coins 42 = .ok (.getfield 46, 3) := dk_180 0 46 (dk_at dksX5_coins_1 19 rfl rfl)
theorem dX5_coins_45 : decode cX5_coins 45 = .ok (.iconst 0, 1) := dk_3 (dk_at dksX5_coins_1 22 rfl rfl)
theorem dX5_coins_46 : decode cX5_coins 46 = .ok (.invokevirtual 65, 3) := dk_182 0 65 (dk_at dksX5_coins_2 0 rfl rfl)
theorem dX5_coins_49 : decode cX5_coins 49 = .ok (.iadd, 1) := dk_96 (dk_at dksX5_coins_2 3 rfl rfl)
theorem dX5_coins_50 : decode cX5_coins 50 = .ok (.invokevirtual 57, 3) := dk_182 0 57 (dk_at dksX5_coins_2 4 rfl rfl)
theorem dX5_coins_53 : decode cX5_coins 53 = .ok (.return_, 1) := dk_177 (dk_at dksX5_coins_2 7 rfl rfl)
abbrev cX5_digit : ByteArray := prog_7_method_7_code
def yX5_digit : MethodName := ⟨RX5, "digit", "(I)V"⟩
def dkwX5_digit_1 : List UInt8 := [180, 0, 23, 182, 0, 33, 16, 48, 100, 182, 0, 57, 42, 89, 180, 0, 23, 4, 96, 181, 0, 23, 177]
abbrev dktX5_digit_1 : List UInt8 := dkwX5_digit_1 ++ []
def dkwX5_digit_0 : List UInt8 := [42, 42, 182, 0, 37, 16, 48, 16, 57, 184, 0, 49, 182, 0, 53, 42, 27, 42, 180, 0, 19, 42]
abbrev dktX5_digit_0 : List UInt8 := dkwX5_digit_0 ++ dktX5_digit_1
theorem dksX5_digit_0 : cX5_digit.data.toList.drop 0 = dktX5_digit_0 := by decide +kernel
theorem dksX5_digit_1 : cX5_digit.data.toList.drop 22 = dktX5_digit_1 := dk_seg dksX5_digit_0 22 rfl rfl
theorem dX5_digit_0 : decode cX5_digit 0 = .ok (.aload_n 0, 1) := dk_42 (dk_at dksX5_digit_0 0 rfl rfl)
theorem dX5_digit_1 : decode cX5_digit 1 = .ok (.aload_n 0, 1) := dk_42 (dk_at dksX5_digit_0 1 rfl rfl)
theorem dX5_digit_2 : decode cX5_digit 2 = .ok (.invokevirtual 37, 3) := dk_182 0 37 (dk_at dksX5_digit_0 2 rfl rfl)
theorem dX5_digit_5 : decode cX5_digit 5 = .ok (.bipush 48, 2) := dk_16 48 (dk_at dksX5_digit_0 5 rfl rfl)
theorem dX5_digit_7 : decode cX5_digit 7 = .ok (.bipush 57, 2) := dk_16 57 (dk_at dksX5_digit_0 7 rfl rfl)
theorem dX5_digit_9 : decode cX5_digit 9 = .ok (.invokestatic 49, 3) := dk_184 0 49 (dk_at dksX5_digit_0 9 rfl rfl)
theorem dX5_digit_12 : decode cX5_digit 12 = .ok (.invokevirtual 53, 3) := dk_182 0 53 (dk_at dksX5_digit_0 12 rfl rfl)
theorem dX5_digit_15 : decode cX5_digit 15 = .ok (.aload_n 0, 1) := dk_42 (dk_at dksX5_digit_0 15 rfl rfl)
theorem dX5_digit_16 : decode cX5_digit 16 = .ok (.iload_n 1, 1) := dk_27 (dk_at dksX5_digit_0 16 rfl rfl)
theorem dX5_digit_17 : decode cX5_digit 17 = .ok (.aload_n 0, 1) := dk_42 (dk_at dksX5_digit_0 17 rfl rfl)
theorem dX5_digit_18 : decode cX5_digit 18 = .ok (.getfield 19, 3) := dk_180 0 19 (dk_at dksX5_digit_0 18 rfl rfl)
theorem dX5_digit_21 : decode cX5_digit 21 = .ok (.aload_n 0, 1) := dk_42 (dk_at dksX5_digit_0 21 rfl rfl)
theorem dX5_digit_22 : decode cX5_digit 22 = .ok (.getfield 23, 3) := dk_180 0 23 (dk_at dksX5_digit_1 0 rfl rfl)
theorem dX5_digit_25 : decode cX5_digit 25 = .ok (.invokevirtual 33, 3) := dk_182 0 33 (dk_at dksX5_digit_1 3 rfl rfl)
theorem dX5_digit_28 : decode cX5_digit 28 = .ok (.bipush 48, 2) := dk_16 48 (dk_at dksX5_digit_1 6 rfl rfl)
theorem dX5_digit_30 : decode cX5_digit 30 = .ok (.isub, 1) := dk_100 (dk_at dksX5_digit_1 8 rfl rfl)
theorem dX5_digit_31 : decode cX5_digit 31 = .ok (.invokevirtual 57, 3) := dk_182 0 57 (dk_at dksX5_digit_1 9 rfl rfl)
theorem dX5_digit_34 : decode cX5_digit 34 = .ok (.aload_n 0, 1) := dk_42 (dk_at dksX5_digit_1 12 rfl rfl)
theorem dX5_digit_35 : decode cX5_digit 35 = .ok (.dup, 1) := dk_89 (dk_at dksX5_digit_1 13 rfl rfl)
theorem dX5_digit_36 : decode cX5_digit 36 = .ok (.getfield 23, 3) := dk_180 0 23 (dk_at dksX5_digit_1 14 rfl rfl)
theorem dX5_digit_39 : decode cX5_digit 39 = .ok (.iconst 1, 1) := dk_4 (dk_at dksX5_digit_1 17 rfl rfl)
theorem dX5_digit_40 : decode cX5_digit 40 = .ok (.iadd, 1) := dk_96 (dk_at dksX5_digit_1 18 rfl rfl)
theorem dX5_digit_41 : decode cX5_digit 41 = .ok (.putfield 23, 3) := dk_181 0 23 (dk_at dksX5_digit_1 19 rfl rfl)
theorem dX5_digit_44 : decode cX5_digit 44 = .ok (.return_, 1) := dk_177 (dk_at dksX5_digit_1 22 rfl rfl)
abbrev cX5_tells : ByteArray := prog_7_method_5_code
def yX5_tells : MethodName := ⟨RX5, "tells", "(II)V"⟩
def dkwX5_tells_0 : List UInt8 := [42, 180, 0, 15, 6, 42, 180, 0, 46, 104, 27, 96, 28, 79, 177]
abbrev dktX5_tells_0 : List UInt8 := dkwX5_tells_0 ++ []
theorem dksX5_tells_0 : cX5_tells.data.toList.drop 0 = dktX5_tells_0 := by decide +kernel
theorem dX5_tells_0 : decode cX5_tells 0 = .ok (.aload_n 0, 1) := dk_42 (dk_at dksX5_tells_0 0 rfl rfl)
theorem dX5_tells_1 : decode cX5_tells 1 = .ok (.getfield 15, 3) := dk_180 0 15 (dk_at dksX5_tells_0 1 rfl rfl)
theorem dX5_tells_4 : decode cX5_tells 4 = .ok (.iconst 3, 1) := dk_6 (dk_at dksX5_tells_0 4 rfl rfl)
theorem dX5_tells_5 : decode cX5_tells 5 = .ok (.aload_n 0, 1) := dk_42 (dk_at dksX5_tells_0 5 rfl rfl)
theorem dX5_tells_6 : decode cX5_tells 6 = .ok (.getfield 46, 3) := dk_180 0 46 (dk_at dksX5_tells_0 6 rfl rfl)
theorem dX5_tells_9 : decode cX5_tells 9 = .ok (.imul, 1) := dk_104 (dk_at dksX5_tells_0 9 rfl rfl)
theorem dX5_tells_10 : decode cX5_tells 10 = .ok (.iload_n 1, 1) := dk_27 (dk_at dksX5_tells_0 10 rfl rfl)
theorem dX5_tells_11 : decode cX5_tells 11 = .ok (.iadd, 1) := dk_96 (dk_at dksX5_tells_0 11 rfl rfl)
theorem dX5_tells_12 : decode cX5_tells 12 = .ok (.iload_n 2, 1) := dk_28 (dk_at dksX5_tells_0 12 rfl rfl)
theorem dX5_tells_13 : decode cX5_tells 13 = .ok (.iastore, 1) := dk_79 (dk_at dksX5_tells_0 13 rfl rfl)
theorem dX5_tells_14 : decode cX5_tells 14 = .ok (.return_, 1) := dk_177 (dk_at dksX5_tells_0 14 rfl rfl)
abbrev cX5_told : ByteArray := prog_7_method_6_code
def yX5_told : MethodName := ⟨RX5, "told", "(II)I"⟩
def dkwX5_told_0 : List UInt8 := [42, 180, 0, 15, 6, 27, 104, 28, 96, 46, 172]
abbrev dktX5_told_0 : List UInt8 := dkwX5_told_0 ++ []
theorem dksX5_told_0 : cX5_told.data.toList.drop 0 = dktX5_told_0 := by decide +kernel
theorem dX5_told_0 : decode cX5_told 0 = .ok (.aload_n 0, 1) := dk_42 (dk_at dksX5_told_0 0 rfl rfl)
theorem dX5_told_1 : decode cX5_told 1 = .ok (.getfield 15, 3) := dk_180 0 15 (dk_at dksX5_told_0 1 rfl rfl)
theorem dX5_told_4 : decode cX5_told 4 = .ok (.iconst 3, 1) := dk_6 (dk_at dksX5_told_0 4 rfl rfl)
theorem dX5_told_5 : decode cX5_told 5 = .ok (.iload_n 1, 1) := dk_27 (dk_at dksX5_told_0 5 rfl rfl)
theorem dX5_told_6 : decode cX5_told 6 = .ok (.imul, 1) := dk_104 (dk_at dksX5_told_0 6 rfl rfl)
theorem dX5_told_7 : decode cX5_told 7 = .ok (.iload_n 2, 1) := dk_28 (dk_at dksX5_told_0 7 rfl rfl)
theorem dX5_told_8 : decode cX5_told 8 = .ok (.iadd, 1) := dk_96 (dk_at dksX5_told_0 8 rfl rfl)
theorem dX5_told_9 : decode cX5_told 9 = .ok (.iaload, 1) := dk_46 (dk_at dksX5_told_0 9 rfl rfl)
theorem dX5_told_10 : decode cX5_told 10 = .ok (.ireturn, 1) := dk_172 (dk_at dksX5_told_0 10 rfl rfl)
abbrev cX5_skip : ByteArray := prog_7_method_3_code
def yX5_skip : MethodName := ⟨RX5, "skip", "(I)Z"⟩
def dkwX5_skip_0 : List UInt8 := [42, 182, 0, 37, 27, 159, 0, 5, 3, 172, 42, 89, 180, 0, 23, 4, 96, 181, 0, 23, 4, 172]
abbrev dktX5_skip_0 : List UInt8 := dkwX5_skip_0 ++ []
theorem dksX5_skip_0 : cX5_skip.data.toList.drop 0 = dktX5_skip_0 := by decide +kernel
theorem dX5_skip_0 : decode cX5_skip 0 = .ok (.aload_n 0, 1) := dk_42 (dk_at dksX5_skip_0 0 rfl rfl)
theorem dX5_skip_1 : decode cX5_skip 1 = .ok (.invokevirtual 37, 3) := dk_182 0 37 (dk_at dksX5_skip_0 1 rfl rfl)
theorem dX5_skip_4 : decode cX5_skip 4 = .ok (.iload_n 1, 1) := dk_27 (dk_at dksX5_skip_0 4 rfl rfl)
theorem dX5_skip_5 : decode cX5_skip 5 = .ok (.if_icmp .eq 5, 3) := dk_159 0 5 (dk_at dksX5_skip_0 5 rfl rfl)
theorem dX5_skip_8 : decode cX5_skip 8 = .ok (.iconst 0, 1) := dk_3 (dk_at dksX5_skip_0 8 rfl rfl)
theorem dX5_skip_9 : decode cX5_skip 9 = .ok (.ireturn, 1) := dk_172 (dk_at dksX5_skip_0 9 rfl rfl)
theorem dX5_skip_10 : decode cX5_skip 10 = .ok (.aload_n 0, 1) := dk_42 (dk_at dksX5_skip_0 10 rfl rfl)
theorem dX5_skip_11 : decode cX5_skip 11 = .ok (.dup, 1) := dk_89 (dk_at dksX5_skip_0 11 rfl rfl)
theorem dX5_skip_12 : decode cX5_skip 12 = .ok (.getfield 23, 3) := dk_180 0 23 (dk_at dksX5_skip_0 12 rfl rfl)
theorem dX5_skip_15 : decode cX5_skip 15 = .ok (.iconst 1, 1) := dk_4 (dk_at dksX5_skip_0 15 rfl rfl)
theorem dX5_skip_16 : decode cX5_skip 16 = .ok (.iadd, 1) := dk_96 (dk_at dksX5_skip_0 16 rfl rfl)
theorem dX5_skip_17 : decode cX5_skip 17 = .ok (.putfield 23, 3) := dk_181 0 23 (dk_at dksX5_skip_0 17 rfl rfl)
theorem dX5_skip_20 : decode cX5_skip 20 = .ok (.iconst 1, 1) := dk_4 (dk_at dksX5_skip_0 20 rfl rfl)
theorem dX5_skip_21 : decode cX5_skip 21 = .ok (.ireturn, 1) := dk_172 (dk_at dksX5_skip_0 21 rfl rfl)
abbrev cX5_word : ByteArray := prog_7_method_11_code
def yX5_word : MethodName := ⟨RX5, "word", "()V"⟩
def dkwX5_word_1 : List UInt8 := [27, 104, 42, 182, 0, 73, 96, 60, 132, 2, 1, 167, 255, 225, 42, 4, 27, 182, 0, 57, 177]
abbrev dktX5_word_1 : List UInt8 := dkwX5_word_1 ++ []
def dkwX5_word_0 : List UInt8 := [3, 60, 3, 61, 28, 16, 8, 162, 0, 31, 28, 6, 161, 0, 10, 42, 182, 0, 69, 153, 0, 19, 16, 10]
abbrev dktX5_word_0 : List UInt8 := dkwX5_word_0 ++ dktX5_word_1
theorem dksX5_word_0 : cX5_word.data.toList.drop 0 = dktX5_word_0 := by decide +kernel
theorem dksX5_word_1 : cX5_word.data.toList.drop 24 = dktX5_word_1 := dk_seg dksX5_word_0 24 rfl rfl
theorem dX5_word_0 : decode cX5_word 0 = .ok (.iconst 0, 1) := dk_3 (dk_at dksX5_word_0 0 rfl rfl)
theorem dX5_word_1 : decode cX5_word 1 = .ok (.istore_n 1, 1) := dk_60 (dk_at dksX5_word_0 1 rfl rfl)
theorem dX5_word_2 : decode cX5_word 2 = .ok (.iconst 0, 1) := dk_3 (dk_at dksX5_word_0 2 rfl rfl)
theorem dX5_word_3 : decode cX5_word 3 = .ok (.istore_n 2, 1) := dk_61 (dk_at dksX5_word_0 3 rfl rfl)
theorem dX5_word_4 : decode cX5_word 4 = .ok (.iload_n 2, 1) := dk_28 (dk_at dksX5_word_0 4 rfl rfl)
theorem dX5_word_5 : decode cX5_word 5 = .ok (.bipush 8, 2) := dk_16 8 (dk_at dksX5_word_0 5 rfl rfl)
theorem dX5_word_7 : decode cX5_word 7 = .ok (.if_icmp .ge 31, 3) := dk_162 0 31 (dk_at dksX5_word_0 7 rfl rfl)
theorem dX5_word_10 : decode cX5_word 10 = .ok (.iload_n 2, 1) := dk_28 (dk_at dksX5_word_0 10 rfl rfl)
theorem dX5_word_11 : decode cX5_word 11 = .ok (.iconst 3, 1) := dk_6 (dk_at dksX5_word_0 11 rfl rfl)
theorem dX5_word_12 : decode cX5_word 12 = .ok (.if_icmp .lt 10, 3) := dk_161 0 10 (dk_at dksX5_word_0 12 rfl rfl)
theorem dX5_word_15 : decode cX5_word 15 = .ok (.aload_n 0, 1) := dk_42 (dk_at dksX5_word_0 15 rfl rfl)
theorem dX5_word_16 : decode cX5_word 16 = .ok (.invokevirtual 69, 3) := dk_182 0 69 (dk_at dksX5_word_0 16 rfl rfl)
theorem dX5_word_19 : decode cX5_word 19 = .ok (.ifCond .eq 19, 3) := dk_153 0 19 (dk_at dksX5_word_0 19 rfl rfl)
theorem dX5_word_22 : decode cX5_word 22 = .ok (.bipush 10, 2) := dk_16 10 (dk_at dksX5_word_0 22 rfl rfl)
theorem dX5_word_24 : decode cX5_word 24 = .ok (.iload_n 1, 1) := dk_27 (dk_at dksX5_word_1 0 rfl rfl)
theorem dX5_word_25 : decode cX5_word 25 = .ok (.imul, 1) := dk_104 (dk_at dksX5_word_1 1 rfl rfl)
theorem dX5_word_26 : decode cX5_word 26 = .ok (.aload_n 0, 1) := dk_42 (dk_at dksX5_word_1 2 rfl rfl)
theorem dX5_word_27 : decode cX5_word 27 = .ok (.invokevirtual 73, 3) := dk_182 0 73 (dk_at dksX5_word_1 3 rfl rfl)
theorem dX5_word_30 : decode cX5_word 30 = .ok (.iadd, 1) := dk_96 (dk_at dksX5_word_1 6 rfl rfl)
theorem dX5_word_31 : decode cX5_word 31 = .ok (.istore_n 1, 1) := dk_60 (dk_at dksX5_word_1 7 rfl rfl)
theorem dX5_word_32 : decode cX5_word 32 = .ok (.iinc 2 1, 3) := dk_132 2 1 (dk_at dksX5_word_1 8 rfl rfl)
theorem dX5_word_35 : decode cX5_word 35 = .ok (.goto (-31), 3) := dk_167 255 225 (dk_at dksX5_word_1 11 rfl rfl)
theorem dX5_word_38 : decode cX5_word 38 = .ok (.aload_n 0, 1) := dk_42 (dk_at dksX5_word_1 14 rfl rfl)
theorem dX5_word_39 : decode cX5_word 39 = .ok (.iconst 1, 1) := dk_4 (dk_at dksX5_word_1 15 rfl rfl)
theorem dX5_word_40 : decode cX5_word 40 = .ok (.iload_n 1, 1) := dk_27 (dk_at dksX5_word_1 16 rfl rfl)
theorem dX5_word_41 : decode cX5_word 41 = .ok (.invokevirtual 57, 3) := dk_182 0 57 (dk_at dksX5_word_1 17 rfl rfl)
theorem dX5_word_44 : decode cX5_word 44 = .ok (.return_, 1) := dk_177 (dk_at dksX5_word_1 20 rfl rfl)
abbrev cX5_isLetter : ByteArray := prog_7_method_9_code
def yX5_isLetter : MethodName := ⟨RX5, "isLetter", "()Z"⟩
def dkwX5_isLetter_0 : List UInt8 := [42, 182, 0, 37, 16, 97, 16, 102, 184, 0, 49, 172]
abbrev dktX5_isLetter_0 : List UInt8 := dkwX5_isLetter_0 ++ []
theorem dksX5_isLetter_0 : cX5_isLetter.data.toList.drop 0 = dktX5_isLetter_0 := by decide +kernel
theorem dX5_isLetter_0 : decode cX5_isLetter 0 = .ok (.aload_n 0, 1) := dk_42 (dk_at dksX5_isLetter_0 0 rfl rfl)
theorem dX5_isLetter_1 : decode cX5_isLetter 1 = .ok (.invokevirtual 37, 3) := dk_182 0 37 (dk_at dksX5_isLetter_0 1 rfl rfl)
theorem dX5_isLetter_4 : decode cX5_isLetter 4 = .ok (.bipush 97, 2) := dk_16 97 (dk_at dksX5_isLetter_0 4 rfl rfl)
theorem dX5_isLetter_6 : decode cX5_isLetter 6 = .ok (.bipush 102, 2) := dk_16 102 (dk_at dksX5_isLetter_0 6 rfl rfl)
theorem dX5_isLetter_8 : decode cX5_isLetter 8 = .ok (.invokestatic 49, 3) := dk_184 0 49 (dk_at dksX5_isLetter_0 8 rfl rfl)
theorem dX5_isLetter_11 : decode cX5_isLetter 11 = .ok (.ireturn, 1) := dk_172 (dk_at dksX5_isLetter_0 11 rfl rfl)
abbrev cX5_letter : ByteArray := prog_7_method_10_code
def yX5_letter : MethodName := ⟨RX5, "letter", "()I"⟩
def dkwX5_letter_1 : List UInt8 := [180, 0, 23, 4, 100, 182, 0, 33, 16, 97, 100, 4, 96, 172]
abbrev dktX5_letter_1 : List UInt8 := dkwX5_letter_1 ++ []
def dkwX5_letter_0 : List UInt8 := [42, 42, 182, 0, 69, 182, 0, 53, 42, 89, 180, 0, 23, 4, 96, 181, 0, 23, 42, 180, 0, 19, 42]
abbrev dktX5_letter_0 : List UInt8 := dkwX5_letter_0 ++ dktX5_letter_1
theorem dksX5_letter_0 : cX5_letter.data.toList.drop 0 = dktX5_letter_0 := by decide +kernel
theorem dksX5_letter_1 : cX5_letter.data.toList.drop 23 = dktX5_letter_1 := dk_seg dksX5_letter_0 23 rfl rfl
theorem dX5_letter_0 : decode cX5_letter 0 = .ok (.aload_n 0, 1) := dk_42 (dk_at dksX5_letter_0 0 rfl rfl)
theorem dX5_letter_1 : decode cX5_letter 1 = .ok (.aload_n 0, 1) := dk_42 (dk_at dksX5_letter_0 1 rfl rfl)
theorem dX5_letter_2 : decode cX5_letter 2 = .ok (.invokevirtual 69, 3) := dk_182 0 69 (dk_at dksX5_letter_0 2 rfl rfl)
theorem dX5_letter_5 : decode cX5_letter 5 = .ok (.invokevirtual 53, 3) := dk_182 0 53 (dk_at dksX5_letter_0 5 rfl rfl)
theorem dX5_letter_8 : decode cX5_letter 8 = .ok (.aload_n 0, 1) := dk_42 (dk_at dksX5_letter_0 8 rfl rfl)
theorem dX5_letter_9 : decode cX5_letter 9 = .ok (.dup, 1) := dk_89 (dk_at dksX5_letter_0 9 rfl rfl)
theorem dX5_letter_10 : decode cX5_letter 10 = .ok (.getfield 23, 3) := dk_180 0 23 (dk_at dksX5_letter_0 10 rfl rfl)
theorem dX5_letter_13 : decode cX5_letter 13 = .ok (.iconst 1, 1) := dk_4 (dk_at dksX5_letter_0 13 rfl rfl)
theorem dX5_letter_14 : decode cX5_letter 14 = .ok (.iadd, 1) := dk_96 (dk_at dksX5_letter_0 14 rfl rfl)
theorem dX5_letter_15 : decode cX5_letter 15 = .ok (.putfield 23, 3) := dk_181 0 23 (dk_at dksX5_letter_0 15 rfl rfl)
theorem dX5_letter_18 : decode cX5_letter 18 = .ok (.aload_n 0, 1) := dk_42 (dk_at dksX5_letter_0 18 rfl rfl)
theorem dX5_letter_19 : decode cX5_letter 19 = .ok (.getfield 19, 3) := dk_180 0 19 (dk_at dksX5_letter_0 19 rfl rfl)
theorem dX5_letter_22 : decode cX5_letter 22 = .ok (.aload_n 0, 1) := dk_42 (dk_at dksX5_letter_0 22 rfl rfl)
theorem dX5_letter_23 : decode cX5_letter 23 = .ok (.getfield 23, 3) := dk_180 0 23 (dk_at dksX5_letter_1 0 rfl rfl)
theorem dX5_letter_26 : decode cX5_letter 26 = .ok (.iconst 1, 1) := dk_4 (dk_at dksX5_letter_1 3 rfl rfl)
theorem dX5_letter_27 : decode cX5_letter 27 = .ok (.isub, 1) := dk_100 (dk_at dksX5_letter_1 4 rfl rfl)
theorem dX5_letter_28 : decode cX5_letter 28 = .ok (.invokevirtual 33, 3) := dk_182 0 33 (dk_at dksX5_letter_1 5 rfl rfl)
theorem dX5_letter_31 : decode cX5_letter 31 = .ok (.bipush 97, 2) := dk_16 97 (dk_at dksX5_letter_1 8 rfl rfl)
theorem dX5_letter_33 : decode cX5_letter 33 = .ok (.isub, 1) := dk_100 (dk_at dksX5_letter_1 10 rfl rfl)
theorem dX5_letter_34 : decode cX5_letter 34 = .ok (.iconst 1, 1) := dk_4 (dk_at dksX5_letter_1 11 rfl rfl)
theorem dX5_letter_35 : decode cX5_letter 35 = .ok (.iadd, 1) := dk_96 (dk_at dksX5_letter_1 12 rfl rfl)
theorem dX5_letter_36 : decode cX5_letter 36 = .ok (.ireturn, 1) := dk_172 (dk_at dksX5_letter_1 13 rfl rfl)
abbrev cX5_doesAll : ByteArray := prog_7_method_16_code
def yX5_doesAll : MethodName := ⟨RX5, "doesAll", "(LErrataPress$Press;)V"⟩
def dkwX5_doesAll_1 : List UInt8 := [167, 0, 16, 78, 187, 0, 144, 89, 16, 9, 28, 45, 183, 0, 146, 191, 177]
abbrev dktX5_doesAll_1 : List UInt8 := dkwX5_doesAll_1 ++ []
def dkwX5_doesAll_0 : List UInt8 := [3, 61, 28, 42, 180, 0, 46, 162, 0, 16, 42, 43, 28, 182, 0, 140, 62, 132, 2, 1, 167, 255, 238]
abbrev dktX5_doesAll_0 : List UInt8 := dkwX5_doesAll_0 ++ dktX5_doesAll_1
theorem dksX5_doesAll_0 : cX5_doesAll.data.toList.drop 0 = dktX5_doesAll_0 := by decide +kernel
theorem dksX5_doesAll_1 : cX5_doesAll.data.toList.drop 23 = dktX5_doesAll_1 := dk_seg dksX5_doesAll_0 23 rfl rfl
theorem dX5_doesAll_0 : decode cX5_doesAll 0 = .ok (.iconst 0, 1) := dk_3 (dk_at dksX5_doesAll_0 0 rfl rfl)
theorem dX5_doesAll_1 : decode cX5_doesAll 1 = .ok (.istore_n 2, 1) := dk_61 (dk_at dksX5_doesAll_0 1 rfl rfl)
theorem dX5_doesAll_2 : decode cX5_doesAll 2 = .ok (.iload_n 2, 1) := dk_28 (dk_at dksX5_doesAll_0 2 rfl rfl)
theorem dX5_doesAll_3 : decode cX5_doesAll 3 = .ok (.aload_n 0, 1) := dk_42 (dk_at dksX5_doesAll_0 3 rfl rfl)
theorem dX5_doesAll_4 : decode cX5_doesAll 4 = .ok (.getfield 46, 3) := dk_180 0 46 (dk_at dksX5_doesAll_0 4 rfl rfl)
theorem dX5_doesAll_7 : decode cX5_doesAll 7 = .ok (.if_icmp .ge 16, 3) := dk_162 0 16 (dk_at dksX5_doesAll_0 7 rfl rfl)
theorem dX5_doesAll_10 : decode cX5_doesAll 10 = .ok (.aload_n 0, 1) := dk_42 (dk_at dksX5_doesAll_0 10 rfl rfl)
theorem dX5_doesAll_11 : decode cX5_doesAll 11 = .ok (.aload_n 1, 1) := dk_43 (dk_at dksX5_doesAll_0 11 rfl rfl)
theorem dX5_doesAll_12 : decode cX5_doesAll 12 = .ok (.iload_n 2, 1) := dk_28 (dk_at dksX5_doesAll_0 12 rfl rfl)
theorem dX5_doesAll_13 : decode cX5_doesAll 13 = .ok (.invokevirtual 140, 3) := dk_182 0 140 (dk_at dksX5_doesAll_0 13 rfl rfl)
theorem dX5_doesAll_16 : decode cX5_doesAll 16 = .ok (.istore_n 3, 1) := dk_62 (dk_at dksX5_doesAll_0 16 rfl rfl)
theorem dX5_doesAll_17 : decode cX5_doesAll 17 = .ok (.iinc 2 1, 3) := dk_132 2 1 (dk_at dksX5_doesAll_0 17 rfl rfl)
theorem dX5_doesAll_20 : decode cX5_doesAll 20 = .ok (.goto (-18), 3) := dk_167 255 238 (dk_at dksX5_doesAll_0 20 rfl rfl)
theorem dX5_doesAll_23 : decode cX5_doesAll 23 = .ok (.goto 16, 3) := dk_167 0 16 (dk_at dksX5_doesAll_1 0 rfl rfl)
theorem dX5_doesAll_26 : decode cX5_doesAll 26 = .ok (.astore_n 3, 1) := dk_78 (dk_at dksX5_doesAll_1 3 rfl rfl)
theorem dX5_doesAll_27 : decode cX5_doesAll 27 = .ok (.new 144, 3) := dk_187 0 144 (dk_at dksX5_doesAll_1 4 rfl rfl)
theorem dX5_doesAll_30 : decode cX5_doesAll 30 = .ok (.dup, 1) := dk_89 (dk_at dksX5_doesAll_1 7 rfl rfl)
theorem dX5_doesAll_31 : decode cX5_doesAll 31 = .ok (.bipush 9, 2) := dk_16 9 (dk_at dksX5_doesAll_1 8 rfl rfl)
theorem dX5_doesAll_33 : decode cX5_doesAll 33 = .ok (.iload_n 2, 1) := dk_28 (dk_at dksX5_doesAll_1 10 rfl rfl)
theorem dX5_doesAll_34 : decode cX5_doesAll 34 = .ok (.aload_n 3, 1) := dk_45 (dk_at dksX5_doesAll_1 11 rfl rfl)
theorem dX5_doesAll_35 : decode cX5_doesAll 35 = .ok (.invokespecial 146, 3) := dk_183 0 146 (dk_at dksX5_doesAll_1 12 rfl rfl)
theorem dX5_doesAll_38 : decode cX5_doesAll 38 = .ok (.athrow, 1) := dk_191 (dk_at dksX5_doesAll_1 15 rfl rfl)
theorem dX5_doesAll_39 : decode cX5_doesAll 39 = .ok (.return_, 1) := dk_177 (dk_at dksX5_doesAll_1 16 rfl rfl)
abbrev cX5_does : ByteArray := prog_7_method_15_code
def yX5_does : MethodName := ⟨RX5, "does", "(LErrataPress$Press;I)I"⟩
def dkwX5_does_5 : List UInt8 := [182, 0, 128, 172, 43, 29, 182, 0, 131, 172, 43, 182, 0, 134, 172, 43, 182, 0, 137, 172]
abbrev dktX5_does_5 : List UInt8 := dkwX5_does_5 ++ []
def dkwX5_does_4 : List UInt8 := [182, 0, 118, 172, 43, 29, 21, 4, 182, 0, 122, 172, 43, 29, 21, 4, 182, 0, 125, 172, 43, 29, 21, 4]
abbrev dktX5_does_4 : List UInt8 := dkwX5_does_4 ++ dktX5_does_5
def dkwX5_does_3 : List UInt8 := [43, 29, 182, 0, 111, 172, 43, 29, 21, 4, 182, 0, 115, 172, 43, 29, 21, 4, 42, 28, 5, 182, 0, 65]
abbrev dktX5_does_3 : List UInt8 := dkwX5_does_3 ++ dktX5_does_4
def dkwX5_does_2 : List UInt8 := [170, 0, 0, 0, 0, 165, 0, 0, 0, 99, 0, 0, 0, 120, 0, 0, 0, 138, 0, 0, 0, 165, 0, 0, 0, 160, 0, 0, 0, 165, 0, 0, 0, 165, 0, 0, 0, 102, 0, 0, 0, 165, 0, 0, 0, 165, 0, 0, 0, 165, 0, 0, 0, 130, 0, 0, 0, 116, 0, 0, 0, 165, 0, 0, 0, 165, 0, 0, 0, 165, 0, 0, 0, 165, 0, 0, 0, 146, 0, 0, 0, 108, 0, 0, 0, 165, 0, 0, 0, 165, 0, 0, 0, 165, 0, 0, 0, 165, 0, 0, 0, 154]
abbrev dktX5_does_2 : List UInt8 := dkwX5_does_2 ++ dktX5_does_3
def dkwX5_does_1 : List UInt8 := [187, 0, 108, 89, 183, 0, 110, 191, 42, 180, 0, 9, 28, 52]
abbrev dktX5_does_1 : List UInt8 := dkwX5_does_1 ++ dktX5_does_2
def dkwX5_does_0 : List UInt8 := [42, 28, 3, 182, 0, 65, 62, 42, 28, 4, 182, 0, 65, 54, 4, 42, 43, 28, 182, 0, 104, 154, 0, 11]
abbrev dktX5_does_0 : List UInt8 := dkwX5_does_0 ++ dktX5_does_1
theorem dksX5_does_0 : cX5_does.data.toList.drop 0 = dktX5_does_0 := by decide +kernel
theorem dksX5_does_1 : cX5_does.data.toList.drop 24 = dktX5_does_1 := dk_seg dksX5_does_0 24 rfl rfl
theorem dksX5_does_2 : cX5_does.data.toList.drop 38 = dktX5_does_2 := dk_seg dksX5_does_1 14 rfl rfl
theorem dksX5_does_3 : cX5_does.data.toList.drop 140 = dktX5_does_3 := dk_seg dksX5_does_2 102 rfl rfl
theorem dksX5_does_4 : cX5_does.data.toList.drop 164 = dktX5_does_4 := dk_seg dksX5_does_3 24 rfl rfl
theorem dksX5_does_5 : cX5_does.data.toList.drop 188 = dktX5_does_5 := dk_seg dksX5_does_4 24 rfl rfl
theorem dX5_does_0 : decode cX5_does 0 = .ok (.aload_n 0, 1) := dk_42 (dk_at dksX5_does_0 0 rfl rfl)
theorem dX5_does_1 : decode cX5_does 1 = .ok (.iload_n 2, 1) := dk_28 (dk_at dksX5_does_0 1 rfl rfl)
theorem dX5_does_2 : decode cX5_does 2 = .ok (.iconst 0, 1) := dk_3 (dk_at dksX5_does_0 2 rfl rfl)
theorem dX5_does_3 : decode cX5_does 3 = .ok (.invokevirtual 65, 3) := dk_182 0 65 (dk_at dksX5_does_0 3 rfl rfl)
theorem dX5_does_6 : decode cX5_does 6 = .ok (.istore_n 3, 1) := dk_62 (dk_at dksX5_does_0 6 rfl rfl)
theorem dX5_does_7 : decode cX5_does 7 = .ok (.aload_n 0, 1) := dk_42 (dk_at dksX5_does_0 7 rfl rfl)
theorem dX5_does_8 : decode cX5_does 8 = .ok (.iload_n 2, 1) := dk_28 (dk_at dksX5_does_0 8 rfl rfl)
theorem dX5_does_9 : decode cX5_does 9 = .ok (.iconst 1, 1) := dk_4 (dk_at dksX5_does_0 9 rfl rfl)
theorem dX5_does_10 : decode cX5_does 10 = .ok (.invokevirtual 65, 3) := dk_182 0 65 (dk_at dksX5_does_0 10 rfl rfl)
theorem dX5_does_13 : decode cX5_does 13 = .ok (.istore 4, 2) := dk_54 4 (dk_at dksX5_does_0 13 rfl rfl)
theorem dX5_does_15 : decode cX5_does 15 = .ok (.aload_n 0, 1) := dk_42 (dk_at dksX5_does_0 15 rfl rfl)
theorem dX5_does_16 : decode cX5_does 16 = .ok (.aload_n 1, 1) := dk_43 (dk_at dksX5_does_0 16 rfl rfl)
theorem dX5_does_17 : decode cX5_does 17 = .ok (.iload_n 2, 1) := dk_28 (dk_at dksX5_does_0 17 rfl rfl)
theorem dX5_does_18 : decode cX5_does 18 = .ok (.invokevirtual 104, 3) := dk_182 0 104 (dk_at dksX5_does_0 18 rfl rfl)
theorem dX5_does_21 : decode cX5_does 21 = .ok (.ifCond .ne 11, 3) := dk_154 0 11 (dk_at dksX5_does_0 21 rfl rfl)
theorem dX5_does_24 : decode cX5_does 24 = .ok (.new 108, 3) := dk_187 0 108 (dk_at dksX5_does_1 0 rfl rfl)
theorem dX5_does_27 : decode cX5_does 27 = .ok (.dup, 1) := dk_89 (dk_at dksX5_does_1 3 rfl rfl)
theorem dX5_does_28 : decode cX5_does 28 = .ok (.invokespecial 110, 3) := dk_183 0 110 (dk_at dksX5_does_1 4 rfl rfl)
theorem dX5_does_31 : decode cX5_does 31 = .ok (.athrow, 1) := dk_191 (dk_at dksX5_does_1 7 rfl rfl)
theorem dX5_does_32 : decode cX5_does 32 = .ok (.aload_n 0, 1) := dk_42 (dk_at dksX5_does_1 8 rfl rfl)
theorem dX5_does_33 : decode cX5_does 33 = .ok (.getfield 9, 3) := dk_180 0 9 (dk_at dksX5_does_1 9 rfl rfl)
theorem dX5_does_36 : decode cX5_does 36 = .ok (.iload_n 2, 1) := dk_28 (dk_at dksX5_does_1 12 rfl rfl)
theorem dX5_does_37 : decode cX5_does 37 = .ok (.caload, 1) := dk_52 (dk_at dksX5_does_1 13 rfl rfl)
theorem dX5_does_38 : decode cX5_does 38 = .ok (.tableswitch 165 99 120 #[138, 165, 160, 165, 165, 102, 165, 165, 165, 130, 116, 165, 165, 165, 165, 146, 108, 165, 165, 165, 165, 154], 102) := by decide +kernel
theorem dX5_does_140 : decode cX5_does 140 = .ok (.aload_n 1, 1) := dk_43 (dk_at dksX5_does_3 0 rfl rfl)
theorem dX5_does_141 : decode cX5_does 141 = .ok (.iload_n 3, 1) := dk_29 (dk_at dksX5_does_3 1 rfl rfl)
theorem dX5_does_142 : decode cX5_does 142 = .ok (.invokevirtual 111, 3) := dk_182 0 111 (dk_at dksX5_does_3 2 rfl rfl)
theorem dX5_does_145 : decode cX5_does 145 = .ok (.ireturn, 1) := dk_172 (dk_at dksX5_does_3 5 rfl rfl)
theorem dX5_does_146 : decode cX5_does 146 = .ok (.aload_n 1, 1) := dk_43 (dk_at dksX5_does_3 6 rfl rfl)
theorem dX5_does_147 : decode cX5_does 147 = .ok (.iload_n 3, 1) := dk_29 (dk_at dksX5_does_3 7 rfl rfl)
theorem dX5_does_148 : decode cX5_does 148 = .ok (.iload 4, 2) := dk_21 4 (dk_at dksX5_does_3 8 rfl rfl)
theorem dX5_does_150 : decode cX5_does 150 = .ok (.invokevirtual 115, 3) := dk_182 0 115 (dk_at dksX5_does_3 10 rfl rfl)
theorem dX5_does_153 : decode cX5_does 153 = .ok (.ireturn, 1) := dk_172 (dk_at dksX5_does_3 13 rfl rfl)
theorem dX5_does_154 : decode cX5_does 154 = .ok (.aload_n 1, 1) := dk_43 (dk_at dksX5_does_3 14 rfl rfl)
theorem dX5_does_155 : decode cX5_does 155 = .ok (.iload_n 3, 1) := dk_29 (dk_at dksX5_does_3 15 rfl rfl)
theorem dX5_does_156 : decode cX5_does 156 = .ok (.iload 4, 2) := dk_21 4 (dk_at dksX5_does_3 16 rfl rfl)
theorem dX5_does_158 : decode cX5_does 158 = .ok (.aload_n 0, 1) := dk_42 (dk_at dksX5_does_3 18 rfl rfl)
theorem dX5_does_159 : decode cX5_does 159 = .ok (.iload_n 2, 1) := dk_28 (dk_at dksX5_does_3 19 rfl rfl)
theorem dX5_does_160 : decode cX5_does 160 = .ok (.iconst 2, 1) := dk_5 (dk_at dksX5_does_3 20 rfl rfl)
theorem dX5_does_161 : decode cX5_does 161 = .ok (.invokevirtual 65, 3) := dk_182 0 65 (dk_at dksX5_does_3 21 rfl rfl)
theorem dX5_does_164 : decode cX5_does 164 = .ok (.invokevirtual 118, 3) := dk_182 0 118 (dk_at dksX5_does_4 0 rfl rfl)
theorem dX5_does_167 : decode cX5_does 167 = .ok (.ireturn, 1) := dk_172 (dk_at dksX5_does_4 3 rfl rfl)
theorem dX5_does_168 : decode cX5_does 168 = .ok (.aload_n 1, 1) := dk_43 (dk_at dksX5_does_4 4 rfl rfl)
theorem dX5_does_169 : decode cX5_does 169 = .ok (.iload_n 3, 1) := dk_29 (dk_at dksX5_does_4 5 rfl rfl)
theorem dX5_does_170 : decode cX5_does 170 = .ok (.iload 4, 2) := dk_21 4 (dk_at dksX5_does_4 6 rfl rfl)
theorem dX5_does_172 : decode cX5_does 172 = .ok (.invokevirtual 122, 3) := dk_182 0 122 (dk_at dksX5_does_4 8 rfl rfl)
theorem dX5_does_175 : decode cX5_does 175 = .ok (.ireturn, 1) := dk_172 (dk_at dksX5_does_4 11 rfl rfl)
theorem dX5_does_176 : decode cX5_does 176 = .ok (.aload_n 1, 1) := dk_43 (dk_at dksX5_does_4 12 rfl rfl)
theorem dX5_does_177 : decode cX5_does 177 = .ok (.iload_n 3, 1) := dk_29 (dk_at dksX5_does_4 13 rfl rfl)
theorem dX5_does_178 : decode cX5_does 178 = .ok (.iload 4, 2) := dk_21 4 (dk_at dksX5_does_4 14 rfl rfl)
theorem dX5_does_180 : decode cX5_does 180 = .ok (.invokevirtual 125, 3) := dk_182 0 125 (dk_at dksX5_does_4 16 rfl rfl)
theorem dX5_does_183 : decode cX5_does 183 = .ok (.ireturn, 1) := dk_172 (dk_at dksX5_does_4 19 rfl rfl)
theorem dX5_does_184 : decode cX5_does 184 = .ok (.aload_n 1, 1) := dk_43 (dk_at dksX5_does_4 20 rfl rfl)
theorem dX5_does_185 : decode cX5_does 185 = .ok (.iload_n 3, 1) := dk_29 (dk_at dksX5_does_4 21 rfl rfl)
theorem dX5_does_186 : decode cX5_does 186 = .ok (.iload 4, 2) := dk_21 4 (dk_at dksX5_does_4 22 rfl rfl)
theorem dX5_does_188 : decode cX5_does 188 = .ok (.invokevirtual 128, 3) := dk_182 0 128 (dk_at dksX5_does_5 0 rfl rfl)
theorem dX5_does_191 : decode cX5_does 191 = .ok (.ireturn, 1) := dk_172 (dk_at dksX5_does_5 3 rfl rfl)
theorem dX5_does_192 : decode cX5_does 192 = .ok (.aload_n 1, 1) := dk_43 (dk_at dksX5_does_5 4 rfl rfl)
theorem dX5_does_193 : decode cX5_does 193 = .ok (.iload_n 3, 1) := dk_29 (dk_at dksX5_does_5 5 rfl rfl)
theorem dX5_does_194 : decode cX5_does 194 = .ok (.invokevirtual 131, 3) := dk_182 0 131 (dk_at dksX5_does_5 6 rfl rfl)
theorem dX5_does_197 : decode cX5_does 197 = .ok (.ireturn, 1) := dk_172 (dk_at dksX5_does_5 9 rfl rfl)
theorem dX5_does_198 : decode cX5_does 198 = .ok (.aload_n 1, 1) := dk_43 (dk_at dksX5_does_5 10 rfl rfl)
theorem dX5_does_199 : decode cX5_does 199 = .ok (.invokevirtual 134, 3) := dk_182 0 134 (dk_at dksX5_does_5 11 rfl rfl)
theorem dX5_does_202 : decode cX5_does 202 = .ok (.ireturn, 1) := dk_172 (dk_at dksX5_does_5 14 rfl rfl)
theorem dX5_does_203 : decode cX5_does 203 = .ok (.aload_n 1, 1) := dk_43 (dk_at dksX5_does_5 15 rfl rfl)
theorem dX5_does_204 : decode cX5_does 204 = .ok (.invokevirtual 137, 3) := dk_182 0 137 (dk_at dksX5_does_5 16 rfl rfl)
theorem dX5_does_207 : decode cX5_does 207 = .ok (.ireturn, 1) := dk_172 (dk_at dksX5_does_5 19 rfl rfl)
abbrev cX5_isRight : ByteArray := prog_7_method_14_code
def yX5_isRight : MethodName := ⟨RX5, "isRight", "(LErrataPress$Press;I)Z"⟩
def dkwX5_isRight_3 : List UInt8 := [182, 0, 101, 172, 4, 172]
abbrev dktX5_isRight_3 : List UInt8 := dkwX5_isRight_3 ++ []
def dkwX5_isRight_2 : List UInt8 := [43, 29, 182, 0, 89, 172, 43, 29, 21, 4, 182, 0, 94, 172, 29, 21, 4, 184, 0, 98, 172, 43, 29]
abbrev dktX5_isRight_2 : List UInt8 := dkwX5_isRight_2 ++ dktX5_isRight_3
def dkwX5_isRight_1 : List UInt8 := [171, 0, 0, 0, 0, 0, 86, 0, 0, 0, 6, 0, 0, 0, 99, 0, 0, 0, 65, 0, 0, 0, 108, 0, 0, 0, 65, 0, 0, 0, 109, 0, 0, 0, 65, 0, 0, 0, 114, 0, 0, 0, 73, 0, 0, 0, 115, 0, 0, 0, 59, 0, 0, 0, 120, 0, 0, 0, 80]
abbrev dktX5_isRight_1 : List UInt8 := dkwX5_isRight_1 ++ dktX5_isRight_2
def dkwX5_isRight_0 : List UInt8 := [42, 28, 3, 182, 0, 65, 62, 42, 28, 4, 182, 0, 65, 54, 4, 42, 180, 0, 9, 28, 52]
abbrev dktX5_isRight_0 : List UInt8 := dkwX5_isRight_0 ++ dktX5_isRight_1
theorem dksX5_isRight_0 : cX5_isRight.data.toList.drop 0 = dktX5_isRight_0 := by decide +kernel
theorem dksX5_isRight_1 : cX5_isRight.data.toList.drop 21 = dktX5_isRight_1 := dk_seg dksX5_isRight_0 21 rfl rfl
theorem dksX5_isRight_2 : cX5_isRight.data.toList.drop 80 = dktX5_isRight_2 := dk_seg dksX5_isRight_1 59 rfl rfl
theorem dksX5_isRight_3 : cX5_isRight.data.toList.drop 103 = dktX5_isRight_3 := dk_seg dksX5_isRight_2 23 rfl rfl
theorem dX5_isRight_0 : decode cX5_isRight 0 = .ok (.aload_n 0, 1) := dk_42 (dk_at dksX5_isRight_0 0 rfl rfl)
theorem dX5_isRight_1 : decode cX5_isRight 1 = .ok (.iload_n 2, 1) := dk_28 (dk_at dksX5_isRight_0 1 rfl rfl)
theorem dX5_isRight_2 : decode cX5_isRight 2 = .ok (.iconst 0, 1) := dk_3 (dk_at dksX5_isRight_0 2 rfl rfl)
theorem dX5_isRight_3 : decode cX5_isRight 3 = .ok (.invokevirtual 65, 3) := dk_182 0 65 (dk_at dksX5_isRight_0 3 rfl rfl)
theorem dX5_isRight_6 : decode cX5_isRight 6 = .ok (.istore_n 3, 1) := dk_62 (dk_at dksX5_isRight_0 6 rfl rfl)
theorem dX5_isRight_7 : decode cX5_isRight 7 = .ok (.aload_n 0, 1) := dk_42 (dk_at dksX5_isRight_0 7 rfl rfl)
theorem dX5_isRight_8 : decode cX5_isRight 8 = .ok (.iload_n 2, 1) := dk_28 (dk_at dksX5_isRight_0 8 rfl rfl)
theorem dX5_isRight_9 : decode cX5_isRight 9 = .ok (.iconst 1, 1) := dk_4 (dk_at dksX5_isRight_0 9 rfl rfl)
theorem dX5_isRight_10 : decode cX5_isRight 10 = .ok (.invokevirtual 65, 3) := dk_182 0 65 (dk_at dksX5_isRight_0 10 rfl rfl)
theorem dX5_isRight_13 : decode cX5_isRight 13 = .ok (.istore 4, 2) := dk_54 4 (dk_at dksX5_isRight_0 13 rfl rfl)
theorem dX5_isRight_15 : decode cX5_isRight 15 = .ok (.aload_n 0, 1) := dk_42 (dk_at dksX5_isRight_0 15 rfl rfl)
theorem dX5_isRight_16 : decode cX5_isRight 16 = .ok (.getfield 9, 3) := dk_180 0 9 (dk_at dksX5_isRight_0 16 rfl rfl)
theorem dX5_isRight_19 : decode cX5_isRight 19 = .ok (.iload_n 2, 1) := dk_28 (dk_at dksX5_isRight_0 19 rfl rfl)
theorem dX5_isRight_20 : decode cX5_isRight 20 = .ok (.caload, 1) := dk_52 (dk_at dksX5_isRight_0 20 rfl rfl)
theorem dX5_isRight_21 : decode cX5_isRight 21 = .ok (.lookupswitch 86 #[(99, 65), (108, 65), (109, 65), (114, 73), (115, 59), (120, 80)], 59) := by decide +kernel
theorem dX5_isRight_80 : decode cX5_isRight 80 = .ok (.aload_n 1, 1) := dk_43 (dk_at dksX5_isRight_2 0 rfl rfl)
theorem dX5_isRight_81 : decode cX5_isRight 81 = .ok (.iload_n 3, 1) := dk_29 (dk_at dksX5_isRight_2 1 rfl rfl)
theorem dX5_isRight_82 : decode cX5_isRight 82 = .ok (.invokevirtual 89, 3) := dk_182 0 89 (dk_at dksX5_isRight_2 2 rfl rfl)
theorem dX5_isRight_85 : decode cX5_isRight 85 = .ok (.ireturn, 1) := dk_172 (dk_at dksX5_isRight_2 5 rfl rfl)
theorem dX5_isRight_86 : decode cX5_isRight 86 = .ok (.aload_n 1, 1) := dk_43 (dk_at dksX5_isRight_2 6 rfl rfl)
theorem dX5_isRight_87 : decode cX5_isRight 87 = .ok (.iload_n 3, 1) := dk_29 (dk_at dksX5_isRight_2 7 rfl rfl)
theorem dX5_isRight_88 : decode cX5_isRight 88 = .ok (.iload 4, 2) := dk_21 4 (dk_at dksX5_isRight_2 8 rfl rfl)
theorem dX5_isRight_90 : decode cX5_isRight 90 = .ok (.invokevirtual 94, 3) := dk_182 0 94 (dk_at dksX5_isRight_2 10 rfl rfl)
theorem dX5_isRight_93 : decode cX5_isRight 93 = .ok (.ireturn, 1) := dk_172 (dk_at dksX5_isRight_2 13 rfl rfl)
theorem dX5_isRight_94 : decode cX5_isRight 94 = .ok (.iload_n 3, 1) := dk_29 (dk_at dksX5_isRight_2 14 rfl rfl)
theorem dX5_isRight_95 : decode cX5_isRight 95 = .ok (.iload 4, 2) := dk_21 4 (dk_at dksX5_isRight_2 15 rfl rfl)
theorem dX5_isRight_97 : decode cX5_isRight 97 = .ok (.invokestatic 98, 3) := dk_184 0 98 (dk_at dksX5_isRight_2 17 rfl rfl)
theorem dX5_isRight_100 : decode cX5_isRight 100 = .ok (.ireturn, 1) := dk_172 (dk_at dksX5_isRight_2 20 rfl rfl)
theorem dX5_isRight_101 : decode cX5_isRight 101 = .ok (.aload_n 1, 1) := dk_43 (dk_at dksX5_isRight_2 21 rfl rfl)
theorem dX5_isRight_102 : decode cX5_isRight 102 = .ok (.iload_n 3, 1) := dk_29 (dk_at dksX5_isRight_2 22 rfl rfl)
theorem dX5_isRight_103 : decode cX5_isRight 103 = .ok (.invokevirtual 101, 3) := dk_182 0 101 (dk_at dksX5_isRight_3 0 rfl rfl)
theorem dX5_isRight_106 : decode cX5_isRight 106 = .ok (.ireturn, 1) := dk_172 (dk_at dksX5_isRight_3 3 rfl rfl)
theorem dX5_isRight_107 : decode cX5_isRight 107 = .ok (.iconst 1, 1) := dk_4 (dk_at dksX5_isRight_3 4 rfl rfl)
theorem dX5_isRight_108 : decode cX5_isRight 108 = .ok (.ireturn, 1) := dk_172 (dk_at dksX5_isRight_3 5 rfl rfl)
def fX5 : List ZE := [(9, 4, 4, .array .char, 2), (15, 4, 5, .array .int, 2), (19, 4, 0, .object "java/lang/StringBuilder", 2), (23, 4, 1, .int, 0), (40, 4, 2, .int, 0), (46, 4, 3, .int, 0)]
theorem fokX5 : zFok RX5 fX5 := List.forall_mem_cons.mpr ⟨⟨by decide, by decide, by decide +kernel, Or.inr q310, by decide, by decide +kernel⟩, List.forall_mem_cons.mpr ⟨⟨by decide, by decide, by decide +kernel, Or.inr q311, by decide, by decide +kernel⟩, List.forall_mem_cons.mpr ⟨⟨by decide, by decide, by decide +kernel, Or.inr q304, by decide, by decide +kernel⟩, List.forall_mem_cons.mpr ⟨⟨by decide, by decide, by decide +kernel, Or.inr q305, by decide, by decide +kernel⟩, List.forall_mem_cons.mpr ⟨⟨by decide, by decide, by decide +kernel, Or.inr q306, by decide, by decide +kernel⟩, List.forall_mem_cons.mpr ⟨⟨by decide, by decide, by decide +kernel, Or.inr q308, by decide, by decide +kernel⟩, fun _ h => by cases h⟩⟩⟩⟩⟩⟩
abbrev kX5_init : ZK := (RX5, cX5_init, 2, (Option.none : Option Jvm.ClassFile.FieldType), [], true, fX5)
abbrev tX5_init (g : ZG) (args : List Value) (M : ZM) (d c s : Nat) (Q : ZQ) : Prop := Ct g yX5_init (ws_ yX5_init cX5_init 2 (Option.none : Option Jvm.ClassFile.FieldType)) args M d c s Q
abbrev nX5_init : Nat := 2
theorem mX5_init : zMok yX5_init 1 2 := ⟨⟨by decide +kernel, by decide +kernel, by decide +kernel⟩, by decide⟩
theorem eX5_init {g : ZG} {Q : ZQ} {d cN sN : Nat} {M : ZM} {a0 : Nat} {v1 : Value} (hv1 : v1.category = 1) (hV : zV g) (h : Z g kX5_init Q d cN sN M 0 [some (.ref a0), some (v1)] []) : tX5_init g [.ref a0, v1] M d cN sN Q := Ct.of (K := kX5_init) rfl (by decide +kernel) hV fokX5 rfl (fun h => rfl) (fun v hv => by simp only [List.mem_cons, List.not_mem_nil, or_false] at hv; rcases hv with rfl | rfl <;> first | rfl | assumption) (Nat.le_of_ble_eq_true rfl) h
theorem sX5_init_0 {g : ZG} {Q : ZQ} {d cN sN : Nat} {M : ZM} {l0 : Nat} {o1 : Option Value}  (kk : Z g kX5_init Q d cN sN M 1 [some (.ref l0), o1] [.ref l0]) : Z g kX5_init Q d cN sN M 0 [some (.ref l0), o1] [] := by
  refine zi_aload_n dX5_init_0 rfl zrf_r ?_
  exact kk
theorem sX5_init_4 {g : ZG} {Q : ZQ} {d cN sN : Nat} {M : ZM} {l0 : Nat} {o1 : Option Value}  (kk : Z g kX5_init Q d cN sN M 7 [some (.ref l0), o1] [.int 60, .ref l0]) : Z g kX5_init Q d cN sN M 4 [some (.ref l0), o1] [] := by
  refine zi_aload_n dX5_init_4 rfl zrf_r ?_
  refine zi_bipush dX5_init_5 (by decide +kernel : (Int8.ofInt (60)).toInt32 = (60 : Int32)) ?_
  exact kk
theorem sX5_init_9 {g : ZG} {Q : ZQ} {d cN sN : Nat} {M : ZM} {t0 : Nat} {t1 : Nat} {fs1 : List Value} {l0 : Nat} {o1 : Option Value} (h2 : M.1 t0 = some (.inr (4, fs1))) (h3 : 4 < (fs1).length) (kk : Z g kX5_init Q d cN sN (zup M t0 (.inr (4, (fs1).set 4 (.ref t1)))) 16 [some (.ref l0), o1] [.int 180, .ref l0]) : Z g kX5_init Q d cN sN M 9 [some (.ref l0), o1] [.ref t1, .ref t0] := by
  refine zi_putfield dX5_init_9 rfl h2 h3 (zfit_a zrf_r) (Or.inr ⟨rfl, rfl⟩) ?_
  refine zi_aload_n dX5_init_12 rfl zrf_r ?_
  refine zi_sipush dX5_init_13 (by decide +kernel : (Int16.ofInt (180)).toInt32 = (180 : Int32)) ?_
  exact kk
theorem sX5_init_18 {g : ZG} {Q : ZQ} {d cN sN : Nat} {M : ZM} {t0 : Nat} {t1 : Nat} {fs1 : List Value} {l0 : Nat} {l1 : Nat} {fs4 : List Value} (h2 : M.1 t0 = some (.inr (4, fs1))) (h3 : 5 < (fs1).length) (h5 : (zup M t0 (.inr (4, (fs1).set 5 (.ref t1)))).1 l0 = some (.inr (4, fs4))) (h6 : 0 < (fs4).length) (kk : Q.1 none (zup (zup M t0 (.inr (4, (fs1).set 5 (.ref t1)))) l0 (.inr (4, (fs4).set 0 (.ref l1))))) : Z g kX5_init Q d cN sN M 18 [some (.ref l0), some (.ref l1)] [.ref t1, .ref t0] := by
  refine zi_putfield dX5_init_18 rfl h2 h3 (zfit_a zrf_r) (Or.inr ⟨rfl, rfl⟩) ?_
  refine zi_aload_n dX5_init_21 rfl zrf_r ?_
  refine zi_aload_n dX5_init_22 rfl zrf_r ?_
  refine zi_putfield dX5_init_23 rfl h5 h6 (zfit_r zrf_r) (Or.inr ⟨rfl, rfl⟩) ?_
  exact zi_return dX5_init_26 rfl kk
abbrev kX5_read : ZK := (RX5, cX5_read, 1, (Option.none : Option Jvm.ClassFile.FieldType), [], false, fX5)
abbrev tX5_read (g : ZG) (args : List Value) (M : ZM) (d c s : Nat) (Q : ZQ) : Prop := Ct g yX5_read (ws_ yX5_read cX5_read 1 (Option.none : Option Jvm.ClassFile.FieldType)) args M d c s Q
abbrev nX5_read : Nat := 16
theorem mX5_read : zMok yX5_read 0 1 := ⟨⟨by decide +kernel, by decide +kernel, by decide +kernel⟩, by decide⟩
theorem eX5_read {g : ZG} {Q : ZQ} {d cN sN : Nat} {M : ZM} {a0 : Nat} (hV : zV g) (h : Z g kX5_read Q d cN sN M 0 [some (.ref a0)] []) : tX5_read g [.ref a0] M d cN sN Q := Ct.of (K := kX5_read) rfl (by decide +kernel) hV fokX5 rfl (fun h => by cases h) (fun v hv => by simp only [List.mem_cons, List.not_mem_nil, or_false] at hv; rcases hv with rfl <;> first | rfl | assumption) (Nat.le_of_ble_eq_true rfl) h
theorem sX5_read_0 {g : ZG} {Q : ZQ} {d cN sN : Nat} {M : ZM} {l0 : Nat} {fs1 : List Value} (h2 : M.1 l0 = some (.inr (4, fs1))) (h3 : 1 < (fs1).length) (h4 : 2 < (((fs1).set 1 (.int 0))).length) (h5 : 3 < (((((fs1).set 1 (.int 0))).set 2 (.int ((-1))))).length) (kk : Z g kX5_read Q d cN sN (zup (zup (zup M l0 (.inr (4, (fs1).set 1 (.int 0)))) l0 (.inr (4, (((fs1).set 1 (.int 0))).set 2 (.int ((-1)))))) l0 (.inr (4, (((((fs1).set 1 (.int 0))).set 2 (.int ((-1))))).set 3 (.int 0)))) 15 [some (.ref l0)] []) : Z g kX5_read Q d cN sN M 0 [some (.ref l0)] [] := by
  refine zi_aload_n dX5_read_0 rfl zrf_r ?_
  refine zi_iconst dX5_read_1 (by decide +kernel : Int32.ofInt (0) = (0 : Int32)) ?_
  refine zi_putfield dX5_read_2 rfl h2 h3 zfit_i (Or.inl rfl) ?_
  refine zi_aload_n dX5_read_5 rfl zrf_r ?_
  refine zi_iconst dX5_read_6 (by decide +kernel : Int32.ofInt (-1) = (-1 : Int32)) ?_
  refine zi_putfield dX5_read_7 rfl (zup_self _ _ _) h4 zfit_i (Or.inl rfl) ?_
  refine zi_aload_n dX5_read_10 rfl zrf_r ?_
  refine zi_iconst dX5_read_11 (by decide +kernel : Int32.ofInt (0) = (0 : Int32)) ?_
  refine zi_putfield dX5_read_12 rfl (zup_self _ _ _) h5 zfit_i (Or.inl rfl) ?_
  exact kk
theorem sX5_read_15 {g : ZG} {Q : ZQ} {d cN sN : Nat} {M : ZM} {l0 : Nat}  (kk : Z g kX5_read Q d cN sN M 16 [some (.ref l0)] [.ref l0]) : Z g kX5_read Q d cN sN M 15 [some (.ref l0)] [] := by
  refine zi_aload_n dX5_read_15 rfl zrf_r ?_
  exact kk
theorem sX5_read_19 {g : ZG} {Q : ZQ} {d cN sN : Nat} {M : ZM} {l0 : Nat}  (kk : Z g kX5_read Q d cN sN M 22 [some (.ref l0)] [.int 59, .ref l0]) : Z g kX5_read Q d cN sN M 19 [some (.ref l0)] [] := by
  refine zi_aload_n dX5_read_19 rfl zrf_r ?_
  refine zi_bipush dX5_read_20 (by decide +kernel : (Int8.ofInt (59)).toInt32 = (59 : Int32)) ?_
  exact kk
theorem sX5_read_25 {g : ZG} {Q : ZQ} {d cN sN : Nat} {M : ZM} {t0 : Int32} {o0 : Option Value}  (kt : ¬ (t0 : Int32) = 0 → Z g kX5_read Q d cN sN M 15 [o0] []) (kf : (t0 : Int32) = 0 → Z g kX5_read Q d cN sN M 28 [o0] []) : Z g kX5_read Q d cN sN M 25 [o0] [.int t0] := by
  exact zi_if_ne (tgt := 15) dX5_read_25 (by decide +kernel) kt kf
theorem sX5_read_28 {g : ZG} {Q : ZQ} {d cN sN : Nat} {M : ZM} {l0 : Nat} {fs1 : List Value} {y3 : Int32} {r5 : Nat} (h2 : M.1 l0 = some (.inr (4, fs1))) (h4 : (fs1)[1]? = some (.int y3)) (h6 : (fs1)[0]? = some (.ref r5)) (kk : Z g kX5_read Q d cN sN M 37 [some (.ref l0)] [.ref r5, .int y3, .ref l0]) : Z g kX5_read Q d cN sN M 28 [some (.ref l0)] [] := by
  refine zi_aload_n dX5_read_28 rfl zrf_r ?_
  refine zi_aload_n dX5_read_29 rfl zrf_r ?_
  refine zi_getfield dX5_read_30 rfl h2 h4 ?_
  refine zi_aload_n dX5_read_33 rfl zrf_r ?_
  refine zi_getfield dX5_read_34 rfl h2 h6 ?_
  exact kk
theorem sX5_read_40 {g : ZG} {Q : ZQ} {d cN sN : Nat} {M : ZM} {t0 : Nat} {t1 : Int32} {t2 : Int32} {o0 : Option Value}  (kt : ¬ (t1 : Int32) = (t2 : Int32) → Z g kX5_read Q d cN sN M 47 [o0] [.ref t0]) (kf : (t1 : Int32) = (t2 : Int32) → Z g kX5_read Q d cN sN M 43 [o0] [.ref t0]) : Z g kX5_read Q d cN sN M 40 [o0] [.int t2, .int t1, .ref t0] := by
  exact zi_icmp_ne (tgt := 47) dX5_read_40 (by decide +kernel) kt kf
theorem sX5_read_43 {g : ZG} {Q : ZQ} {d cN sN : Nat} {M : ZM} {t0 : Nat} {o0 : Option Value}  (kk : Z g kX5_read Q d cN sN M 48 [o0] [.int 1, .ref t0]) : Z g kX5_read Q d cN sN M 43 [o0] [.ref t0] := by
  refine zi_iconst dX5_read_43 (by decide +kernel : Int32.ofInt (1) = (1 : Int32)) ?_
  exact zi_goto (tgt := 48) dX5_read_44 (by decide +kernel) kk
theorem sX5_read_47 {g : ZG} {Q : ZQ} {d cN sN : Nat} {M : ZM} {t0 : Nat} {o0 : Option Value}  (kk : Z g kX5_read Q d cN sN M 48 [o0] [.int 0, .ref t0]) : Z g kX5_read Q d cN sN M 47 [o0] [.ref t0] := by
  refine zi_iconst dX5_read_47 (by decide +kernel : Int32.ofInt (0) = (0 : Int32)) ?_
  exact kk
theorem sX5_read_51 {g : ZG} {Q : ZQ} {d cN sN : Nat} {M : ZM} {o0 : Option Value}  (kk : Q.1 none M) : Z g kX5_read Q d cN sN M 51 [o0] [] := by
  exact zi_return dX5_read_51 rfl kk
abbrev kX5_order : ZK := (RX5, cX5_order, 2, (Option.none : Option Jvm.ClassFile.FieldType), [], false, fX5)
abbrev tX5_order (g : ZG) (args : List Value) (M : ZM) (d c s : Nat) (Q : ZQ) : Prop := Ct g yX5_order (ws_ yX5_order cX5_order 2 (Option.none : Option Jvm.ClassFile.FieldType)) args M d c s Q
abbrev nX5_order : Nat := 15
theorem mX5_order : zMok yX5_order 0 2 := ⟨⟨by decide +kernel, by decide +kernel, by decide +kernel⟩, by decide⟩
theorem eX5_order {g : ZG} {Q : ZQ} {d cN sN : Nat} {M : ZM} {a0 : Nat} (hV : zV g) (h : Z g kX5_order Q d cN sN M 0 [some (.ref a0), none] []) : tX5_order g [.ref a0] M d cN sN Q := Ct.of (K := kX5_order) rfl (by decide +kernel) hV fokX5 rfl (fun h => by cases h) (fun v hv => by simp only [List.mem_cons, List.not_mem_nil, or_false] at hv; rcases hv with rfl <;> first | rfl | assumption) (Nat.le_of_ble_eq_true rfl) h
theorem sX5_order_0 {g : ZG} {Q : ZQ} {d cN sN : Nat} {M : ZM} {l0 : Nat} {o1 : Option Value}  (kk : Z g kX5_order Q d cN sN M 1 [some (.ref l0), o1] [.ref l0]) : Z g kX5_order Q d cN sN M 0 [some (.ref l0), o1] [] := by
  refine zi_aload_n dX5_order_0 rfl zrf_r ?_
  exact kk
theorem sX5_order_4 {g : ZG} {Q : ZQ} {d cN sN : Nat} {M : ZM} {t0 : Int32} {l0 : Nat} {o1 : Option Value}  (kt : (t0 : Int32) = ((-1) : Int32) → Z g kX5_order Q d cN sN M 15 [some (.ref l0), some (.int t0)] [.ref l0]) (kf : ¬ (t0 : Int32) = ((-1) : Int32) → Z g kX5_order Q d cN sN M 11 [some (.ref l0), some (.int t0)] [.ref l0]) : Z g kX5_order Q d cN sN M 4 [some (.ref l0), o1] [.int t0] := by
  refine zi_istore_n dX5_order_4 (Nat.le_of_ble_eq_true rfl) ?_
  refine zi_aload_n dX5_order_5 rfl zrf_r ?_
  refine zi_iload_n dX5_order_6 rfl ?_
  refine zi_iconst dX5_order_7 (by decide +kernel : Int32.ofInt (-1) = (-1 : Int32)) ?_
  exact zi_icmp_eq (tgt := 15) dX5_order_8 (by decide +kernel) kt kf
theorem sX5_order_11 {g : ZG} {Q : ZQ} {d cN sN : Nat} {M : ZM} {t0 : Nat} {o0 o1 : Option Value}  (kk : Z g kX5_order Q d cN sN M 16 [o0, o1] [.int 1, .ref t0]) : Z g kX5_order Q d cN sN M 11 [o0, o1] [.ref t0] := by
  refine zi_iconst dX5_order_11 (by decide +kernel : Int32.ofInt (1) = (1 : Int32)) ?_
  exact zi_goto (tgt := 16) dX5_order_12 (by decide +kernel) kk
theorem sX5_order_15 {g : ZG} {Q : ZQ} {d cN sN : Nat} {M : ZM} {t0 : Nat} {o0 o1 : Option Value}  (kk : Z g kX5_order Q d cN sN M 16 [o0, o1] [.int 0, .ref t0]) : Z g kX5_order Q d cN sN M 15 [o0, o1] [.ref t0] := by
  refine zi_iconst dX5_order_15 (by decide +kernel : Int32.ofInt (0) = (0 : Int32)) ?_
  exact kk
theorem sX5_order_19 {g : ZG} {Q : ZQ} {d cN sN : Nat} {M : ZM} {l0 : Nat} {fs1 : List Value} {r3 : Nat} {y5 : Int32} {l1 : Int32} {n7 : Nat} {f8 : Nat → Int32} {fs11 : List Value} {r13 : Nat} {y15 : Int32} {n17 : Nat} {f18 : Nat → Int32} (h2 : M.1 l0 = some (.inr (4, fs1))) (h4 : (fs1)[4]? = some (.ref r3)) (h6 : (fs1)[3]? = some (.int y5)) (h9 : M.1 r3 = some (.inl (zA g 3, n7, .inl (f8)))) (h10 : vp_in (y5) n7) (h12 : (zup M r3 (.inl (zA g 3, n7, .inl (upd f8 ((y5 : Int32).toNatClampNeg) (vp_nar .char (((l1 : Int32).toUInt32 % 65536).toInt32)))))).1 l0 = some (.inr (4, fs11))) (h14 : (fs11)[4]? = some (.ref r13)) (h16 : (fs11)[3]? = some (.int y15)) (h19 : (zup M r3 (.inl (zA g 3, n7, .inl (upd f8 ((y5 : Int32).toNatClampNeg) (vp_nar .char (((l1 : Int32).toUInt32 % 65536).toInt32)))))).1 r13 = some (.inl (zA g 3, n17, .inl f18))) (h20 : vp_in (y15) n17) (kk : Z g kX5_order Q d cN sN (zup M r3 (.inl (zA g 3, n7, .inl (upd f8 ((y5 : Int32).toNatClampNeg) (vp_nar .char (((l1 : Int32).toUInt32 % 65536).toInt32)))))) 39 [some (.ref l0), some (.int l1)] [.int (f18 ((y15 : Int32).toNatClampNeg))]) : Z g kX5_order Q d cN sN M 19 [some (.ref l0), some (.int l1)] [] := by
  refine zi_aload_n dX5_order_19 rfl zrf_r ?_
  refine zi_getfield dX5_order_20 rfl h2 h4 ?_
  refine zi_aload_n dX5_order_23 rfl zrf_r ?_
  refine zi_getfield dX5_order_24 rfl h2 h6 ?_
  refine zi_iload_n dX5_order_27 rfl ?_
  refine zi_i2c dX5_order_28 ?_
  refine zi_castore dX5_order_29 h9 h10 ?_
  refine zi_aload_n dX5_order_30 rfl zrf_r ?_
  refine zi_getfield dX5_order_31 rfl h12 h14 ?_
  refine zi_aload_n dX5_order_34 rfl zrf_r ?_
  refine zi_getfield dX5_order_35 rfl h12 h16 ?_
  refine zi_caload dX5_order_38 h19 h20 ?_
  exact kk
theorem sX5_order_140 {g : ZG} {Q : ZQ} {d cN sN : Nat} {M : ZM} {l0 : Nat} {fs1 : List Value} {y3 : Int32} {o1 : Option Value} (h2 : M.1 l0 = some (.inr (4, fs1))) (h4 : (fs1)[1]? = some (.int y3)) (h5 : 1 < (fs1).length) (kk : Z g kX5_order Q d cN sN (zup M l0 (.inr (4, (fs1).set 1 (.int (y3 + 1))))) 151 [some (.ref l0), o1] [.ref l0]) : Z g kX5_order Q d cN sN M 140 [some (.ref l0), o1] [] := by
  refine zi_aload_n dX5_order_140 rfl zrf_r ?_
  refine zi_dup dX5_order_141 rfl ?_
  refine zi_getfield dX5_order_142 rfl h2 h4 ?_
  refine zi_iconst dX5_order_145 (by decide +kernel : Int32.ofInt (1) = (1 : Int32)) ?_
  refine zi_iadd dX5_order_146 ?_
  refine zi_putfield dX5_order_147 rfl h2 h5 zfit_i (Or.inl rfl) ?_
  refine zi_aload_n dX5_order_150 rfl zrf_r ?_
  exact kk
theorem sX5_order_154 {g : ZG} {Q : ZQ} {d cN sN : Nat} {M : ZM} {o0 o1 : Option Value}  (kk : Z g kX5_order Q d cN sN M 289 [o0, o1] []) : Z g kX5_order Q d cN sN M 154 [o0, o1] [] := by
  exact zi_goto (tgt := 289) dX5_order_154 (by decide +kernel) kk
theorem sX5_order_157 {g : ZG} {Q : ZQ} {d cN sN : Nat} {M : ZM} {l0 : Nat} {fs1 : List Value} {y3 : Int32} {o1 : Option Value} (h2 : M.1 l0 = some (.inr (4, fs1))) (h4 : (fs1)[1]? = some (.int y3)) (h5 : 1 < (fs1).length) (kk : Z g kX5_order Q d cN sN (zup M l0 (.inr (4, (fs1).set 1 (.int (y3 + 1))))) 169 [some (.ref l0), o1] [.int 0, .ref l0]) : Z g kX5_order Q d cN sN M 157 [some (.ref l0), o1] [] := by
  refine zi_aload_n dX5_order_157 rfl zrf_r ?_
  refine zi_dup dX5_order_158 rfl ?_
  refine zi_getfield dX5_order_159 rfl h2 h4 ?_
  refine zi_iconst dX5_order_162 (by decide +kernel : Int32.ofInt (1) = (1 : Int32)) ?_
  refine zi_iadd dX5_order_163 ?_
  refine zi_putfield dX5_order_164 rfl h2 h5 zfit_i (Or.inl rfl) ?_
  refine zi_aload_n dX5_order_167 rfl zrf_r ?_
  refine zi_iconst dX5_order_168 (by decide +kernel : Int32.ofInt (0) = (0 : Int32)) ?_
  exact kk
theorem sX5_order_172 {g : ZG} {Q : ZQ} {d cN sN : Nat} {M : ZM} {l0 : Nat} {o1 : Option Value}  (kk : Z g kX5_order Q d cN sN M 176 [some (.ref l0), o1] [.int 61, .ref l0, .ref l0]) : Z g kX5_order Q d cN sN M 172 [some (.ref l0), o1] [] := by
  refine zi_aload_n dX5_order_172 rfl zrf_r ?_
  refine zi_aload_n dX5_order_173 rfl zrf_r ?_
  refine zi_bipush dX5_order_174 (by decide +kernel : (Int8.ofInt (61)).toInt32 = (61 : Int32)) ?_
  exact kk
theorem sX5_order_182 {g : ZG} {Q : ZQ} {d cN sN : Nat} {M : ZM} {l0 : Nat} {o1 : Option Value}  (kk : Z g kX5_order Q d cN sN M 183 [some (.ref l0), o1] [.ref l0]) : Z g kX5_order Q d cN sN M 182 [some (.ref l0), o1] [] := by
  refine zi_aload_n dX5_order_182 rfl zrf_r ?_
  exact kk
theorem sX5_order_186 {g : ZG} {Q : ZQ} {d cN sN : Nat} {M : ZM} {o0 o1 : Option Value}  (kk : Z g kX5_order Q d cN sN M 289 [o0, o1] []) : Z g kX5_order Q d cN sN M 186 [o0, o1] [] := by
  exact zi_goto (tgt := 289) dX5_order_186 (by decide +kernel) kk
theorem sX5_order_189 {g : ZG} {Q : ZQ} {d cN sN : Nat} {M : ZM} {l0 : Nat} {fs1 : List Value} {y3 : Int32} {o1 : Option Value} (h2 : M.1 l0 = some (.inr (4, fs1))) (h4 : (fs1)[1]? = some (.int y3)) (h5 : 1 < (fs1).length) (kk : Z g kX5_order Q d cN sN (zup M l0 (.inr (4, (fs1).set 1 (.int (y3 + 1))))) 201 [some (.ref l0), o1] [.int 0, .ref l0]) : Z g kX5_order Q d cN sN M 189 [some (.ref l0), o1] [] := by
  refine zi_aload_n dX5_order_189 rfl zrf_r ?_
  refine zi_dup dX5_order_190 rfl ?_
  refine zi_getfield dX5_order_191 rfl h2 h4 ?_
  refine zi_iconst dX5_order_194 (by decide +kernel : Int32.ofInt (1) = (1 : Int32)) ?_
  refine zi_iadd dX5_order_195 ?_
  refine zi_putfield dX5_order_196 rfl h2 h5 zfit_i (Or.inl rfl) ?_
  refine zi_aload_n dX5_order_199 rfl zrf_r ?_
  refine zi_iconst dX5_order_200 (by decide +kernel : Int32.ofInt (0) = (0 : Int32)) ?_
  exact kk
theorem sX5_order_204 {g : ZG} {Q : ZQ} {d cN sN : Nat} {M : ZM} {l0 : Nat} {o1 : Option Value}  (kk : Z g kX5_order Q d cN sN M 206 [some (.ref l0), o1] [.int 1, .ref l0]) : Z g kX5_order Q d cN sN M 204 [some (.ref l0), o1] [] := by
  refine zi_aload_n dX5_order_204 rfl zrf_r ?_
  refine zi_iconst dX5_order_205 (by decide +kernel : Int32.ofInt (1) = (1 : Int32)) ?_
  exact kk
theorem sX5_order_209 {g : ZG} {Q : ZQ} {d cN sN : Nat} {M : ZM} {l0 : Nat} {o1 : Option Value}  (kk : Z g kX5_order Q d cN sN M 212 [some (.ref l0), o1] [.ref l0, .int 2, .ref l0]) : Z g kX5_order Q d cN sN M 209 [some (.ref l0), o1] [] := by
  refine zi_aload_n dX5_order_209 rfl zrf_r ?_
  refine zi_iconst dX5_order_210 (by decide +kernel : Int32.ofInt (2) = (2 : Int32)) ?_
  refine zi_aload_n dX5_order_211 rfl zrf_r ?_
  exact kk
theorem sX5_order_218 {g : ZG} {Q : ZQ} {d cN sN : Nat} {M : ZM} {o0 o1 : Option Value}  (kk : Z g kX5_order Q d cN sN M 289 [o0, o1] []) : Z g kX5_order Q d cN sN M 218 [o0, o1] [] := by
  exact zi_goto (tgt := 289) dX5_order_218 (by decide +kernel) kk
theorem sX5_order_221 {g : ZG} {Q : ZQ} {d cN sN : Nat} {M : ZM} {l0 : Nat} {fs1 : List Value} {y3 : Int32} {o1 : Option Value} (h2 : M.1 l0 = some (.inr (4, fs1))) (h4 : (fs1)[1]? = some (.int y3)) (h5 : 1 < (fs1).length) (kk : Z g kX5_order Q d cN sN (zup M l0 (.inr (4, (fs1).set 1 (.int (y3 + 1))))) 233 [some (.ref l0), o1] [.int 0, .ref l0]) : Z g kX5_order Q d cN sN M 221 [some (.ref l0), o1] [] := by
  refine zi_aload_n dX5_order_221 rfl zrf_r ?_
  refine zi_dup dX5_order_222 rfl ?_
  refine zi_getfield dX5_order_223 rfl h2 h4 ?_
  refine zi_iconst dX5_order_226 (by decide +kernel : Int32.ofInt (1) = (1 : Int32)) ?_
  refine zi_iadd dX5_order_227 ?_
  refine zi_putfield dX5_order_228 rfl h2 h5 zfit_i (Or.inl rfl) ?_
  refine zi_aload_n dX5_order_231 rfl zrf_r ?_
  refine zi_iconst dX5_order_232 (by decide +kernel : Int32.ofInt (0) = (0 : Int32)) ?_
  exact kk
theorem sX5_order_236 {g : ZG} {Q : ZQ} {d cN sN : Nat} {M : ZM} {l0 : Nat} {o1 : Option Value}  (kk : Z g kX5_order Q d cN sN M 238 [some (.ref l0), o1] [.int 1, .ref l0]) : Z g kX5_order Q d cN sN M 236 [some (.ref l0), o1] [] := by
  refine zi_aload_n dX5_order_236 rfl zrf_r ?_
  refine zi_iconst dX5_order_237 (by decide +kernel : Int32.ofInt (1) = (1 : Int32)) ?_
  exact kk
theorem sX5_order_241 {g : ZG} {Q : ZQ} {d cN sN : Nat} {M : ZM} {o0 o1 : Option Value}  (kk : Z g kX5_order Q d cN sN M 289 [o0, o1] []) : Z g kX5_order Q d cN sN M 241 [o0, o1] [] := by
  exact zi_goto (tgt := 289) dX5_order_241 (by decide +kernel) kk
theorem sX5_order_244 {g : ZG} {Q : ZQ} {d cN sN : Nat} {M : ZM} {l0 : Nat} {fs1 : List Value} {y3 : Int32} {o1 : Option Value} (h2 : M.1 l0 = some (.inr (4, fs1))) (h4 : (fs1)[1]? = some (.int y3)) (h5 : 1 < (fs1).length) (kk : Z g kX5_order Q d cN sN (zup M l0 (.inr (4, (fs1).set 1 (.int (y3 + 1))))) 256 [some (.ref l0), o1] [.int 0, .ref l0]) : Z g kX5_order Q d cN sN M 244 [some (.ref l0), o1] [] := by
  refine zi_aload_n dX5_order_244 rfl zrf_r ?_
  refine zi_dup dX5_order_245 rfl ?_
  refine zi_getfield dX5_order_246 rfl h2 h4 ?_
  refine zi_iconst dX5_order_249 (by decide +kernel : Int32.ofInt (1) = (1 : Int32)) ?_
  refine zi_iadd dX5_order_250 ?_
  refine zi_putfield dX5_order_251 rfl h2 h5 zfit_i (Or.inl rfl) ?_
  refine zi_aload_n dX5_order_254 rfl zrf_r ?_
  refine zi_iconst dX5_order_255 (by decide +kernel : Int32.ofInt (0) = (0 : Int32)) ?_
  exact kk
theorem sX5_order_259 {g : ZG} {Q : ZQ} {d cN sN : Nat} {M : ZM} {o0 o1 : Option Value}  (kk : Z g kX5_order Q d cN sN M 289 [o0, o1] []) : Z g kX5_order Q d cN sN M 259 [o0, o1] [] := by
  exact zi_goto (tgt := 289) dX5_order_259 (by decide +kernel) kk
theorem sX5_order_262 {g : ZG} {Q : ZQ} {d cN sN : Nat} {M : ZM} {l0 : Nat} {o1 : Option Value}  (kk : Z g kX5_order Q d cN sN M 266 [some (.ref l0), o1] [.int 101, .ref l0, .ref l0]) : Z g kX5_order Q d cN sN M 262 [some (.ref l0), o1] [] := by
  refine zi_aload_n dX5_order_262 rfl zrf_r ?_
  refine zi_aload_n dX5_order_263 rfl zrf_r ?_
  refine zi_bipush dX5_order_264 (by decide +kernel : (Int8.ofInt (101)).toInt32 = (101 : Int32)) ?_
  exact kk
theorem sX5_order_269 {g : ZG} {Q : ZQ} {d cN sN : Nat} {M : ZM} {t0 : Nat} {t1 : Int32} {o0 o1 : Option Value}  (kt : ¬ (t1 : Int32) = 0 → Z g kX5_order Q d cN sN M 281 [o0, o1] [.ref t0]) (kf : (t1 : Int32) = 0 → Z g kX5_order Q d cN sN M 272 [o0, o1] [.ref t0]) : Z g kX5_order Q d cN sN M 269 [o0, o1] [.int t1, .ref t0] := by
  exact zi_if_ne (tgt := 281) dX5_order_269 (by decide +kernel) kt kf
theorem sX5_order_272 {g : ZG} {Q : ZQ} {d cN sN : Nat} {M : ZM} {t0 : Nat} {l0 : Nat} {o1 : Option Value}  (kk : Z g kX5_order Q d cN sN M 275 [some (.ref l0), o1] [.int 100, .ref l0, .ref t0]) : Z g kX5_order Q d cN sN M 272 [some (.ref l0), o1] [.ref t0] := by
  refine zi_aload_n dX5_order_272 rfl zrf_r ?_
  refine zi_bipush dX5_order_273 (by decide +kernel : (Int8.ofInt (100)).toInt32 = (100 : Int32)) ?_
  exact kk
theorem sX5_order_278 {g : ZG} {Q : ZQ} {d cN sN : Nat} {M : ZM} {t0 : Nat} {t1 : Int32} {o0 o1 : Option Value}  (kt : (t1 : Int32) = 0 → Z g kX5_order Q d cN sN M 285 [o0, o1] [.ref t0]) (kf : ¬ (t1 : Int32) = 0 → Z g kX5_order Q d cN sN M 281 [o0, o1] [.ref t0]) : Z g kX5_order Q d cN sN M 278 [o0, o1] [.int t1, .ref t0] := by
  exact zi_if_eq (tgt := 285) dX5_order_278 (by decide +kernel) kt kf
theorem sX5_order_281 {g : ZG} {Q : ZQ} {d cN sN : Nat} {M : ZM} {t0 : Nat} {o0 o1 : Option Value}  (kk : Z g kX5_order Q d cN sN M 286 [o0, o1] [.int 1, .ref t0]) : Z g kX5_order Q d cN sN M 281 [o0, o1] [.ref t0] := by
  refine zi_iconst dX5_order_281 (by decide +kernel : Int32.ofInt (1) = (1 : Int32)) ?_
  exact zi_goto (tgt := 286) dX5_order_282 (by decide +kernel) kk
theorem sX5_order_285 {g : ZG} {Q : ZQ} {d cN sN : Nat} {M : ZM} {t0 : Nat} {o0 o1 : Option Value}  (kk : Z g kX5_order Q d cN sN M 286 [o0, o1] [.int 0, .ref t0]) : Z g kX5_order Q d cN sN M 285 [o0, o1] [.ref t0] := by
  refine zi_iconst dX5_order_285 (by decide +kernel : Int32.ofInt (0) = (0 : Int32)) ?_
  exact kk
theorem sX5_order_289 {g : ZG} {Q : ZQ} {d cN sN : Nat} {M : ZM} {l0 : Nat} {fs1 : List Value} {y3 : Int32} {o1 : Option Value} (h2 : M.1 l0 = some (.inr (4, fs1))) (h4 : (fs1)[3]? = some (.int y3)) (h5 : 3 < (fs1).length) (kk : Q.1 none (zup M l0 (.inr (4, (fs1).set 3 (.int (y3 + 1)))))) : Z g kX5_order Q d cN sN M 289 [some (.ref l0), o1] [] := by
  refine zi_aload_n dX5_order_289 rfl zrf_r ?_
  refine zi_dup dX5_order_290 rfl ?_
  refine zi_getfield dX5_order_291 rfl h2 h4 ?_
  refine zi_iconst dX5_order_294 (by decide +kernel : Int32.ofInt (1) = (1 : Int32)) ?_
  refine zi_iadd dX5_order_295 ?_
  refine zi_putfield dX5_order_296 rfl h2 h5 zfit_i (Or.inl rfl) ?_
  exact zi_return dX5_order_299 rfl kk
abbrev kX5_here : ZK := (RX5, cX5_here, 1, (Option.some Jvm.ClassFile.FieldType.int), [], false, fX5)
abbrev tX5_here (g : ZG) (args : List Value) (M : ZM) (d c s : Nat) (Q : ZQ) : Prop := Ct g yX5_here (ws_ yX5_here cX5_here 1 (Option.some Jvm.ClassFile.FieldType.int)) args M d c s Q
abbrev nX5_here : Nat := 11
theorem mX5_here : zMok yX5_here 0 1 := ⟨⟨by decide +kernel, by decide +kernel, by decide +kernel⟩, by decide⟩
theorem eX5_here {g : ZG} {Q : ZQ} {d cN sN : Nat} {M : ZM} {a0 : Nat} (hV : zV g) (h : Z g kX5_here Q d cN sN M 0 [some (.ref a0)] []) : tX5_here g [.ref a0] M d cN sN Q := Ct.of (K := kX5_here) rfl (by decide +kernel) hV fokX5 rfl (fun h => by cases h) (fun v hv => by simp only [List.mem_cons, List.not_mem_nil, or_false] at hv; rcases hv with rfl <;> first | rfl | assumption) (Nat.le_of_ble_eq_true rfl) h
theorem sX5_here_0 {g : ZG} {Q : ZQ} {d cN sN : Nat} {M : ZM} {l0 : Nat} {fs1 : List Value} {y3 : Int32} {r5 : Nat} (h2 : M.1 l0 = some (.inr (4, fs1))) (h4 : (fs1)[1]? = some (.int y3)) (h6 : (fs1)[0]? = some (.ref r5)) (kk : Z g kX5_here Q d cN sN M 8 [some (.ref l0)] [.ref r5, .int y3]) : Z g kX5_here Q d cN sN M 0 [some (.ref l0)] [] := by
  refine zi_aload_n dX5_here_0 rfl zrf_r ?_
  refine zi_getfield dX5_here_1 rfl h2 h4 ?_
  refine zi_aload_n dX5_here_4 rfl zrf_r ?_
  refine zi_getfield dX5_here_5 rfl h2 h6 ?_
  exact kk
theorem sX5_here_11 {g : ZG} {Q : ZQ} {d cN sN : Nat} {M : ZM} {t0 : Int32} {t1 : Int32} {o0 : Option Value}  (kt : (t1 : Int32) ≤ (t0 : Int32) → Z g kX5_here Q d cN sN M 28 [o0] []) (kf : ¬ (t1 : Int32) ≤ (t0 : Int32) → Z g kX5_here Q d cN sN M 14 [o0] []) : Z g kX5_here Q d cN sN M 11 [o0] [.int t1, .int t0] := by
  exact zi_icmp_ge (tgt := 28) dX5_here_11 (by decide +kernel) kt kf
theorem sX5_here_14 {g : ZG} {Q : ZQ} {d cN sN : Nat} {M : ZM} {l0 : Nat} {fs1 : List Value} {r3 : Nat} {y5 : Int32} (h2 : M.1 l0 = some (.inr (4, fs1))) (h4 : (fs1)[0]? = some (.ref r3)) (h6 : (fs1)[1]? = some (.int y5)) (kk : Z g kX5_here Q d cN sN M 22 [some (.ref l0)] [.int y5, .ref r3]) : Z g kX5_here Q d cN sN M 14 [some (.ref l0)] [] := by
  refine zi_aload_n dX5_here_14 rfl zrf_r ?_
  refine zi_getfield dX5_here_15 rfl h2 h4 ?_
  refine zi_aload_n dX5_here_18 rfl zrf_r ?_
  refine zi_getfield dX5_here_19 rfl h2 h6 ?_
  exact kk
theorem sX5_here_25 {g : ZG} {Q : ZQ} {d cN sN : Nat} {M : ZM} {t0 : Int32} {o0 : Option Value}  (kk : Z g kX5_here Q d cN sN M 29 [o0] [.int t0]) : Z g kX5_here Q d cN sN M 25 [o0] [.int t0] := by
  exact zi_goto (tgt := 29) dX5_here_25 (by decide +kernel) kk
theorem sX5_here_28 {g : ZG} {Q : ZQ} {d cN sN : Nat} {M : ZM} {o0 : Option Value}  (kk : Z g kX5_here Q d cN sN M 29 [o0] [.int ((-1))]) : Z g kX5_here Q d cN sN M 28 [o0] [] := by
  refine zi_iconst dX5_here_28 (by decide +kernel : Int32.ofInt (-1) = (-1 : Int32)) ?_
  exact kk
theorem sX5_here_29 {g : ZG} {Q : ZQ} {d cN sN : Nat} {M : ZM} {t0 : Int32} {o0 : Option Value}  (kk : Q.1 (some (.int t0)) M) : Z g kX5_here Q d cN sN M 29 [o0] [.int t0] := by
  exact zi_ireturn dX5_here_29 rfl rfl kk
abbrev kX5_must : ZK := (RX5, cX5_must, 2, (Option.none : Option Jvm.ClassFile.FieldType), [], false, fX5)
abbrev tX5_must (g : ZG) (args : List Value) (M : ZM) (d c s : Nat) (Q : ZQ) : Prop := Ct g yX5_must (ws_ yX5_must cX5_must 2 (Option.none : Option Jvm.ClassFile.FieldType)) args M d c s Q
abbrev nX5_must : Nat := 8
theorem mX5_must : zMok yX5_must 1 2 := ⟨⟨by decide +kernel, by decide +kernel, by decide +kernel⟩, by decide⟩
theorem eX5_must {g : ZG} {Q : ZQ} {d cN sN : Nat} {M : ZM} {a0 : Nat} {x1 : Int32} (hV : zV g) (h : Z g kX5_must Q d cN sN M 0 [some (.ref a0), some (.int x1)] []) : tX5_must g [.ref a0, .int x1] M d cN sN Q := Ct.of (K := kX5_must) rfl (by decide +kernel) hV fokX5 rfl (fun h => by cases h) (fun v hv => by simp only [List.mem_cons, List.not_mem_nil, or_false] at hv; rcases hv with rfl | rfl <;> first | rfl | assumption) (Nat.le_of_ble_eq_true rfl) h
theorem sX5_must_0 {g : ZG} {Q : ZQ} {d cN sN : Nat} {M : ZM} {l1 : Int32} {o0 : Option Value}  (kt : ¬ (l1 : Int32) = 0 → Z g kX5_must Q d cN sN M 20 [o0, some (.int l1)] []) (kf : (l1 : Int32) = 0 → Z g kX5_must Q d cN sN M 4 [o0, some (.int l1)] []) : Z g kX5_must Q d cN sN M 0 [o0, some (.int l1)] [] := by
  refine zi_iload_n dX5_must_0 rfl ?_
  exact zi_if_ne (tgt := 20) dX5_must_1 (by decide +kernel) kt kf
theorem sX5_must_4 {g : ZG} {Q : ZQ} {d cN sN : Nat} {M : ZM} {l0 : Nat} {fs1 : List Value} {y3 : Int32} {o1 : Option Value} (h2 : M.1 l0 = some (.inr (4, fs1))) (h4 : (fs1)[1]? = some (.int y3)) (h5 : 2 < (fs1).length) (kk : Z g kX5_must Q d cN sN (zup M l0 (.inr (4, (fs1).set 2 (.int y3)))) 12 [some (.ref l0), o1] []) : Z g kX5_must Q d cN sN M 4 [some (.ref l0), o1] [] := by
  refine zi_aload_n dX5_must_4 rfl zrf_r ?_
  refine zi_aload_n dX5_must_5 rfl zrf_r ?_
  refine zi_getfield dX5_must_6 rfl h2 h4 ?_
  refine zi_putfield dX5_must_9 rfl h2 h5 zfit_i (Or.inl rfl) ?_
  exact kk
theorem sX5_must_15 {g : ZG} {Q : ZQ} {d cN sN : Nat} {M : ZM} {t0 : Nat} {o0 o1 : Option Value}  (kk : Z g kX5_must Q d cN sN M 16 [o0, o1] [.ref t0, .ref t0]) : Z g kX5_must Q d cN sN M 15 [o0, o1] [.ref t0] := by
  refine zi_dup dX5_must_15 rfl ?_
  exact kk
theorem sX5_must_20 {g : ZG} {Q : ZQ} {d cN sN : Nat} {M : ZM} {o0 o1 : Option Value}  (kk : Q.1 none M) : Z g kX5_must Q d cN sN M 20 [o0, o1] [] := by
  exact zi_return dX5_must_20 rfl kk
abbrev kX5_coins : ZK := (RX5, cX5_coins, 2, (Option.none : Option Jvm.ClassFile.FieldType), [], false, fX5)
abbrev tX5_coins (g : ZG) (args : List Value) (M : ZM) (d c s : Nat) (Q : ZQ) : Prop := Ct g yX5_coins (ws_ yX5_coins cX5_coins 2 (Option.none : Option Jvm.ClassFile.FieldType)) args M d c s Q
abbrev nX5_coins : Nat := 13
theorem mX5_coins : zMok yX5_coins 0 2 := ⟨⟨by decide +kernel, by decide +kernel, by decide +kernel⟩, by decide⟩
theorem eX5_coins {g : ZG} {Q : ZQ} {d cN sN : Nat} {M : ZM} {a0 : Nat} (hV : zV g) (h : Z g kX5_coins Q d cN sN M 0 [some (.ref a0), none] []) : tX5_coins g [.ref a0] M d cN sN Q := Ct.of (K := kX5_coins) rfl (by decide +kernel) hV fokX5 rfl (fun h => by cases h) (fun v hv => by simp only [List.mem_cons, List.not_mem_nil, or_false] at hv; rcases hv with rfl <;> first | rfl | assumption) (Nat.le_of_ble_eq_true rfl) h
theorem sX5_coins_0 {g : ZG} {Q : ZQ} {d cN sN : Nat} {M : ZM} {l0 : Nat} {o1 : Option Value}  (kk : Z g kX5_coins Q d cN sN M 2 [some (.ref l0), o1] [.int 0, .ref l0]) : Z g kX5_coins Q d cN sN M 0 [some (.ref l0), o1] [] := by
  refine zi_aload_n dX5_coins_0 rfl zrf_r ?_
  refine zi_iconst dX5_coins_1 (by decide +kernel : Int32.ofInt (0) = (0 : Int32)) ?_
  exact kk
theorem sX5_coins_5 {g : ZG} {Q : ZQ} {d cN sN : Nat} {M : ZM} {l0 : Nat} {fs1 : List Value} {y3 : Int32} {o1 : Option Value} (h2 : M.1 l0 = some (.inr (4, fs1))) (h4 : (fs1)[3]? = some (.int y3)) (kk : Z g kX5_coins Q d cN sN M 11 [some (.ref l0), o1] [.int 0, .int y3, .ref l0]) : Z g kX5_coins Q d cN sN M 5 [some (.ref l0), o1] [] := by
  refine zi_aload_n dX5_coins_5 rfl zrf_r ?_
  refine zi_aload_n dX5_coins_6 rfl zrf_r ?_
  refine zi_getfield dX5_coins_7 rfl h2 h4 ?_
  refine zi_iconst dX5_coins_10 (by decide +kernel : Int32.ofInt (0) = (0 : Int32)) ?_
  exact kk
theorem sX5_coins_14 {g : ZG} {Q : ZQ} {d cN sN : Nat} {M : ZM} {t0 : Int32} {l0 : Nat} {o1 : Option Value}  (kk : Z g kX5_coins Q d cN sN M 16 [some (.ref l0), some (.int t0)] [.ref l0]) : Z g kX5_coins Q d cN sN M 14 [some (.ref l0), o1] [.int t0] := by
  refine zi_istore_n dX5_coins_14 (Nat.le_of_ble_eq_true rfl) ?_
  refine zi_aload_n dX5_coins_15 rfl zrf_r ?_
  exact kk
theorem sX5_coins_19 {g : ZG} {Q : ZQ} {d cN sN : Nat} {M : ZM} {t0 : Int32} {o0 o1 : Option Value}  (kk : Z g kX5_coins Q d cN sN M 23 [o0, o1] [.int 57, .int 48, .int t0]) : Z g kX5_coins Q d cN sN M 19 [o0, o1] [.int t0] := by
  refine zi_bipush dX5_coins_19 (by decide +kernel : (Int8.ofInt (48)).toInt32 = (48 : Int32)) ?_
  refine zi_bipush dX5_coins_21 (by decide +kernel : (Int8.ofInt (57)).toInt32 = (57 : Int32)) ?_
  exact kk
theorem sX5_coins_26 {g : ZG} {Q : ZQ} {d cN sN : Nat} {M : ZM} {t0 : Int32} {o0 o1 : Option Value}  (kt : (t0 : Int32) = 0 → Z g kX5_coins Q d cN sN M 53 [o0, o1] []) (kf : ¬ (t0 : Int32) = 0 → Z g kX5_coins Q d cN sN M 29 [o0, o1] []) : Z g kX5_coins Q d cN sN M 26 [o0, o1] [.int t0] := by
  exact zi_if_eq (tgt := 53) dX5_coins_26 (by decide +kernel) kt kf
theorem sX5_coins_29 {g : ZG} {Q : ZQ} {d cN sN : Nat} {M : ZM} {l0 : Nat} {o1 : Option Value}  (kk : Z g kX5_coins Q d cN sN M 31 [some (.ref l0), o1] [.int 0, .ref l0]) : Z g kX5_coins Q d cN sN M 29 [some (.ref l0), o1] [] := by
  refine zi_aload_n dX5_coins_29 rfl zrf_r ?_
  refine zi_iconst dX5_coins_30 (by decide +kernel : Int32.ofInt (0) = (0 : Int32)) ?_
  exact kk
theorem sX5_coins_34 {g : ZG} {Q : ZQ} {d cN sN : Nat} {M : ZM} {l0 : Nat} {l1 : Int32} {fs1 : List Value} {y3 : Int32} (h2 : M.1 l0 = some (.inr (4, fs1))) (h4 : (fs1)[3]? = some (.int y3)) (kk : Z g kX5_coins Q d cN sN M 46 [some (.ref l0), some (.int l1)] [.int 0, .int y3, .ref l0, .int (10 * l1), .int 0, .ref l0]) : Z g kX5_coins Q d cN sN M 34 [some (.ref l0), some (.int l1)] [] := by
  refine zi_aload_n dX5_coins_34 rfl zrf_r ?_
  refine zi_iconst dX5_coins_35 (by decide +kernel : Int32.ofInt (0) = (0 : Int32)) ?_
  refine zi_bipush dX5_coins_36 (by decide +kernel : (Int8.ofInt (10)).toInt32 = (10 : Int32)) ?_
  refine zi_iload_n dX5_coins_38 rfl ?_
  refine zi_imul dX5_coins_39 ?_
  refine zi_aload_n dX5_coins_40 rfl zrf_r ?_
  refine zi_aload_n dX5_coins_41 rfl zrf_r ?_
  refine zi_getfield dX5_coins_42 rfl h2 h4 ?_
  refine zi_iconst dX5_coins_45 (by decide +kernel : Int32.ofInt (0) = (0 : Int32)) ?_
  exact kk
theorem sX5_coins_49 {g : ZG} {Q : ZQ} {d cN sN : Nat} {M : ZM} {t0 : Nat} {t1 : Int32} {t2 : Int32} {t3 : Int32} {o0 o1 : Option Value}  (kk : Z g kX5_coins Q d cN sN M 50 [o0, o1] [.int (t2 + t3), .int t1, .ref t0]) : Z g kX5_coins Q d cN sN M 49 [o0, o1] [.int t3, .int t2, .int t1, .ref t0] := by
  refine zi_iadd dX5_coins_49 ?_
  exact kk
theorem sX5_coins_53 {g : ZG} {Q : ZQ} {d cN sN : Nat} {M : ZM} {o0 o1 : Option Value}  (kk : Q.1 none M) : Z g kX5_coins Q d cN sN M 53 [o0, o1] [] := by
  exact zi_return dX5_coins_53 rfl kk
abbrev kX5_digit : ZK := (RX5, cX5_digit, 2, (Option.none : Option Jvm.ClassFile.FieldType), [], false, fX5)
abbrev tX5_digit (g : ZG) (args : List Value) (M : ZM) (d c s : Nat) (Q : ZQ) : Prop := Ct g yX5_digit (ws_ yX5_digit cX5_digit 2 (Option.none : Option Jvm.ClassFile.FieldType)) args M d c s Q
abbrev nX5_digit : Nat := 12
theorem mX5_digit : zMok yX5_digit 1 2 := ⟨⟨by decide +kernel, by decide +kernel, by decide +kernel⟩, by decide⟩
theorem eX5_digit {g : ZG} {Q : ZQ} {d cN sN : Nat} {M : ZM} {a0 : Nat} {x1 : Int32} (hV : zV g) (h : Z g kX5_digit Q d cN sN M 0 [some (.ref a0), some (.int x1)] []) : tX5_digit g [.ref a0, .int x1] M d cN sN Q := Ct.of (K := kX5_digit) rfl (by decide +kernel) hV fokX5 rfl (fun h => by cases h) (fun v hv => by simp only [List.mem_cons, List.not_mem_nil, or_false] at hv; rcases hv with rfl | rfl <;> first | rfl | assumption) (Nat.le_of_ble_eq_true rfl) h
theorem sX5_digit_0 {g : ZG} {Q : ZQ} {d cN sN : Nat} {M : ZM} {l0 : Nat} {o1 : Option Value}  (kk : Z g kX5_digit Q d cN sN M 2 [some (.ref l0), o1] [.ref l0, .ref l0]) : Z g kX5_digit Q d cN sN M 0 [some (.ref l0), o1] [] := by
  refine zi_aload_n dX5_digit_0 rfl zrf_r ?_
  refine zi_aload_n dX5_digit_1 rfl zrf_r ?_
  exact kk
theorem sX5_digit_5 {g : ZG} {Q : ZQ} {d cN sN : Nat} {M : ZM} {t0 : Nat} {t1 : Int32} {o0 o1 : Option Value}  (kk : Z g kX5_digit Q d cN sN M 9 [o0, o1] [.int 57, .int 48, .int t1, .ref t0]) : Z g kX5_digit Q d cN sN M 5 [o0, o1] [.int t1, .ref t0] := by
  refine zi_bipush dX5_digit_5 (by decide +kernel : (Int8.ofInt (48)).toInt32 = (48 : Int32)) ?_
  refine zi_bipush dX5_digit_7 (by decide +kernel : (Int8.ofInt (57)).toInt32 = (57 : Int32)) ?_
  exact kk
theorem sX5_digit_15 {g : ZG} {Q : ZQ} {d cN sN : Nat} {M : ZM} {l0 : Nat} {l1 : Int32} {fs1 : List Value} {r3 : Nat} {y5 : Int32} (h2 : M.1 l0 = some (.inr (4, fs1))) (h4 : (fs1)[0]? = some (.ref r3)) (h6 : (fs1)[1]? = some (.int y5)) (kk : Z g kX5_digit Q d cN sN M 25 [some (.ref l0), some (.int l1)] [.int y5, .ref r3, .int l1, .ref l0]) : Z g kX5_digit Q d cN sN M 15 [some (.ref l0), some (.int l1)] [] := by
  refine zi_aload_n dX5_digit_15 rfl zrf_r ?_
  refine zi_iload_n dX5_digit_16 rfl ?_
  refine zi_aload_n dX5_digit_17 rfl zrf_r ?_
  refine zi_getfield dX5_digit_18 rfl h2 h4 ?_
  refine zi_aload_n dX5_digit_21 rfl zrf_r ?_
  refine zi_getfield dX5_digit_22 rfl h2 h6 ?_
  exact kk
theorem sX5_digit_28 {g : ZG} {Q : ZQ} {d cN sN : Nat} {M : ZM} {t0 : Nat} {t1 : Int32} {t2 : Int32} {o0 o1 : Option Value}  (kk : Z g kX5_digit Q d cN sN M 31 [o0, o1] [.int (t2 - 48), .int t1, .ref t0]) : Z g kX5_digit Q d cN sN M 28 [o0, o1] [.int t2, .int t1, .ref t0] := by
  refine zi_bipush dX5_digit_28 (by decide +kernel : (Int8.ofInt (48)).toInt32 = (48 : Int32)) ?_
  refine zi_isub dX5_digit_30 ?_
  exact kk
theorem sX5_digit_34 {g : ZG} {Q : ZQ} {d cN sN : Nat} {M : ZM} {l0 : Nat} {fs1 : List Value} {y3 : Int32} {o1 : Option Value} (h2 : M.1 l0 = some (.inr (4, fs1))) (h4 : (fs1)[1]? = some (.int y3)) (h5 : 1 < (fs1).length) (kk : Q.1 none (zup M l0 (.inr (4, (fs1).set 1 (.int (y3 + 1)))))) : Z g kX5_digit Q d cN sN M 34 [some (.ref l0), o1] [] := by
  refine zi_aload_n dX5_digit_34 rfl zrf_r ?_
  refine zi_dup dX5_digit_35 rfl ?_
  refine zi_getfield dX5_digit_36 rfl h2 h4 ?_
  refine zi_iconst dX5_digit_39 (by decide +kernel : Int32.ofInt (1) = (1 : Int32)) ?_
  refine zi_iadd dX5_digit_40 ?_
  refine zi_putfield dX5_digit_41 rfl h2 h5 zfit_i (Or.inl rfl) ?_
  exact zi_return dX5_digit_44 rfl kk
abbrev kX5_tells : ZK := (RX5, cX5_tells, 3, (Option.none : Option Jvm.ClassFile.FieldType), [], false, fX5)
abbrev tX5_tells (g : ZG) (args : List Value) (M : ZM) (d c s : Nat) (Q : ZQ) : Prop := Ct g yX5_tells (ws_ yX5_tells cX5_tells 3 (Option.none : Option Jvm.ClassFile.FieldType)) args M d c s Q
abbrev nX5_tells : Nat := 1
theorem mX5_tells : zMok yX5_tells 2 3 := ⟨⟨by decide +kernel, by decide +kernel, by decide +kernel⟩, by decide⟩
theorem eX5_tells {g : ZG} {Q : ZQ} {d cN sN : Nat} {M : ZM} {a0 : Nat} {x1 : Int32} {x2 : Int32} (hV : zV g) (h : Z g kX5_tells Q d cN sN M 0 [some (.ref a0), some (.int x1), some (.int x2)] []) : tX5_tells g [.ref a0, .int x1, .int x2] M d cN sN Q := Ct.of (K := kX5_tells) rfl (by decide +kernel) hV fokX5 rfl (fun h => by cases h) (fun v hv => by simp only [List.mem_cons, List.not_mem_nil, or_false] at hv; rcases hv with rfl | rfl | rfl <;> first | rfl | assumption) (Nat.le_of_ble_eq_true rfl) h
theorem sX5_tells_0 {g : ZG} {Q : ZQ} {d cN sN : Nat} {M : ZM} {l0 : Nat} {fs1 : List Value} {r3 : Nat} {y5 : Int32} {l1 : Int32} {l2 : Int32} {n7 : Nat} {f8 : Nat → Int32} (h2 : M.1 l0 = some (.inr (4, fs1))) (h4 : (fs1)[5]? = some (.ref r3)) (h6 : (fs1)[3]? = some (.int y5)) (h9 : M.1 r3 = some (.inl (zA g 0, n7, .inl (f8)))) (h10 : vp_in ((3 * y5) + l1) n7) (kk : Q.1 none (zup M r3 (.inl (zA g 0, n7, .inl (upd f8 (((3 * y5) + l1 : Int32).toNatClampNeg) (l2)))))) : Z g kX5_tells Q d cN sN M 0 [some (.ref l0), some (.int l1), some (.int l2)] [] := by
  refine zi_aload_n dX5_tells_0 rfl zrf_r ?_
  refine zi_getfield dX5_tells_1 rfl h2 h4 ?_
  refine zi_iconst dX5_tells_4 (by decide +kernel : Int32.ofInt (3) = (3 : Int32)) ?_
  refine zi_aload_n dX5_tells_5 rfl zrf_r ?_
  refine zi_getfield dX5_tells_6 rfl h2 h6 ?_
  refine zi_imul dX5_tells_9 ?_
  refine zi_iload_n dX5_tells_10 rfl ?_
  refine zi_iadd dX5_tells_11 ?_
  refine zi_iload_n dX5_tells_12 rfl ?_
  refine zi_iastore dX5_tells_13 h9 h10 ?_
  exact zi_return dX5_tells_14 rfl kk
abbrev kX5_told : ZK := (RX5, cX5_told, 3, (Option.some Jvm.ClassFile.FieldType.int), [], false, fX5)
abbrev tX5_told (g : ZG) (args : List Value) (M : ZM) (d c s : Nat) (Q : ZQ) : Prop := Ct g yX5_told (ws_ yX5_told cX5_told 3 (Option.some Jvm.ClassFile.FieldType.int)) args M d c s Q
abbrev nX5_told : Nat := 1
theorem mX5_told : zMok yX5_told 2 3 := ⟨⟨by decide +kernel, by decide +kernel, by decide +kernel⟩, by decide⟩
theorem eX5_told {g : ZG} {Q : ZQ} {d cN sN : Nat} {M : ZM} {a0 : Nat} {x1 : Int32} {x2 : Int32} (hV : zV g) (h : Z g kX5_told Q d cN sN M 0 [some (.ref a0), some (.int x1), some (.int x2)] []) : tX5_told g [.ref a0, .int x1, .int x2] M d cN sN Q := Ct.of (K := kX5_told) rfl (by decide +kernel) hV fokX5 rfl (fun h => by cases h) (fun v hv => by simp only [List.mem_cons, List.not_mem_nil, or_false] at hv; rcases hv with rfl | rfl | rfl <;> first | rfl | assumption) (Nat.le_of_ble_eq_true rfl) h
theorem sX5_told_0 {g : ZG} {Q : ZQ} {d cN sN : Nat} {M : ZM} {l0 : Nat} {fs1 : List Value} {r3 : Nat} {l1 : Int32} {l2 : Int32} {n5 : Nat} {f6 : Nat → Int32} (h2 : M.1 l0 = some (.inr (4, fs1))) (h4 : (fs1)[5]? = some (.ref r3)) (h7 : M.1 r3 = some (.inl (zA g 0, n5, .inl f6))) (h8 : vp_in ((3 * l1) + l2) n5) (kk : Q.1 (some (.int (f6 (((3 * l1) + l2 : Int32).toNatClampNeg)))) M) : Z g kX5_told Q d cN sN M 0 [some (.ref l0), some (.int l1), some (.int l2)] [] := by
  refine zi_aload_n dX5_told_0 rfl zrf_r ?_
  refine zi_getfield dX5_told_1 rfl h2 h4 ?_
  refine zi_iconst dX5_told_4 (by decide +kernel : Int32.ofInt (3) = (3 : Int32)) ?_
  refine zi_iload_n dX5_told_5 rfl ?_
  refine zi_imul dX5_told_6 ?_
  refine zi_iload_n dX5_told_7 rfl ?_
  refine zi_iadd dX5_told_8 ?_
  refine zi_iaload dX5_told_9 h7 h8 ?_
  exact zi_ireturn dX5_told_10 rfl rfl kk
abbrev kX5_skip : ZK := (RX5, cX5_skip, 2, (Option.some Jvm.ClassFile.FieldType.boolean), [], false, fX5)
abbrev tX5_skip (g : ZG) (args : List Value) (M : ZM) (d c s : Nat) (Q : ZQ) : Prop := Ct g yX5_skip (ws_ yX5_skip cX5_skip 2 (Option.some Jvm.ClassFile.FieldType.boolean)) args M d c s Q
abbrev nX5_skip : Nat := 12
theorem mX5_skip : zMok yX5_skip 1 2 := ⟨⟨by decide +kernel, by decide +kernel, by decide +kernel⟩, by decide⟩
theorem eX5_skip {g : ZG} {Q : ZQ} {d cN sN : Nat} {M : ZM} {a0 : Nat} {x1 : Int32} (hV : zV g) (h : Z g kX5_skip Q d cN sN M 0 [some (.ref a0), some (.int x1)] []) : tX5_skip g [.ref a0, .int x1] M d cN sN Q := Ct.of (K := kX5_skip) rfl (by decide +kernel) hV fokX5 rfl (fun h => by cases h) (fun v hv => by simp only [List.mem_cons, List.not_mem_nil, or_false] at hv; rcases hv with rfl | rfl <;> first | rfl | assumption) (Nat.le_of_ble_eq_true rfl) h
theorem sX5_skip_0 {g : ZG} {Q : ZQ} {d cN sN : Nat} {M : ZM} {l0 : Nat} {o1 : Option Value}  (kk : Z g kX5_skip Q d cN sN M 1 [some (.ref l0), o1] [.ref l0]) : Z g kX5_skip Q d cN sN M 0 [some (.ref l0), o1] [] := by
  refine zi_aload_n dX5_skip_0 rfl zrf_r ?_
  exact kk
theorem sX5_skip_4 {g : ZG} {Q : ZQ} {d cN sN : Nat} {M : ZM} {t0 : Int32} {l1 : Int32} {o0 : Option Value}  (kt : (t0 : Int32) = (l1 : Int32) → Z g kX5_skip Q d cN sN M 10 [o0, some (.int l1)] []) (kf : ¬ (t0 : Int32) = (l1 : Int32) → Z g kX5_skip Q d cN sN M 8 [o0, some (.int l1)] []) : Z g kX5_skip Q d cN sN M 4 [o0, some (.int l1)] [.int t0] := by
  refine zi_iload_n dX5_skip_4 rfl ?_
  exact zi_icmp_eq (tgt := 10) dX5_skip_5 (by decide +kernel) kt kf
theorem sX5_skip_8 {g : ZG} {Q : ZQ} {d cN sN : Nat} {M : ZM} {o0 o1 : Option Value}  (kk : Q.1 (some (.int 0)) M) : Z g kX5_skip Q d cN sN M 8 [o0, o1] [] := by
  refine zi_iconst dX5_skip_8 (by decide +kernel : Int32.ofInt (0) = (0 : Int32)) ?_
  exact zi_ireturn dX5_skip_9 rfl (znar_z (by decide)) kk
theorem sX5_skip_10 {g : ZG} {Q : ZQ} {d cN sN : Nat} {M : ZM} {l0 : Nat} {fs1 : List Value} {y3 : Int32} {o1 : Option Value} (h2 : M.1 l0 = some (.inr (4, fs1))) (h4 : (fs1)[1]? = some (.int y3)) (h5 : 1 < (fs1).length) (kk : Q.1 (some (.int 1)) (zup M l0 (.inr (4, (fs1).set 1 (.int (y3 + 1)))))) : Z g kX5_skip Q d cN sN M 10 [some (.ref l0), o1] [] := by
  refine zi_aload_n dX5_skip_10 rfl zrf_r ?_
  refine zi_dup dX5_skip_11 rfl ?_
  refine zi_getfield dX5_skip_12 rfl h2 h4 ?_
  refine zi_iconst dX5_skip_15 (by decide +kernel : Int32.ofInt (1) = (1 : Int32)) ?_
  refine zi_iadd dX5_skip_16 ?_
  refine zi_putfield dX5_skip_17 rfl h2 h5 zfit_i (Or.inl rfl) ?_
  refine zi_iconst dX5_skip_20 (by decide +kernel : Int32.ofInt (1) = (1 : Int32)) ?_
  exact zi_ireturn dX5_skip_21 rfl (znar_z (by decide)) kk
abbrev kX5_word : ZK := (RX5, cX5_word, 3, (Option.none : Option Jvm.ClassFile.FieldType), [], false, fX5)
abbrev tX5_word (g : ZG) (args : List Value) (M : ZM) (d c s : Nat) (Q : ZQ) : Prop := Ct g yX5_word (ws_ yX5_word cX5_word 3 (Option.none : Option Jvm.ClassFile.FieldType)) args M d c s Q
abbrev nX5_word : Nat := 14
theorem mX5_word : zMok yX5_word 0 3 := ⟨⟨by decide +kernel, by decide +kernel, by decide +kernel⟩, by decide⟩
theorem eX5_word {g : ZG} {Q : ZQ} {d cN sN : Nat} {M : ZM} {a0 : Nat} (hV : zV g) (h : Z g kX5_word Q d cN sN M 0 [some (.ref a0), none, none] []) : tX5_word g [.ref a0] M d cN sN Q := Ct.of (K := kX5_word) rfl (by decide +kernel) hV fokX5 rfl (fun h => by cases h) (fun v hv => by simp only [List.mem_cons, List.not_mem_nil, or_false] at hv; rcases hv with rfl <;> first | rfl | assumption) (Nat.le_of_ble_eq_true rfl) h
theorem sX5_word_0 {g : ZG} {Q : ZQ} {d cN sN : Nat} {M : ZM} {o0 o1 o2 : Option Value}  (kk : Z g kX5_word Q d cN sN M 4 [o0, some (.int 0), some (.int 0)] []) : Z g kX5_word Q d cN sN M 0 [o0, o1, o2] [] := by
  refine zi_iconst dX5_word_0 (by decide +kernel : Int32.ofInt (0) = (0 : Int32)) ?_
  refine zi_istore_n dX5_word_1 (Nat.le_of_ble_eq_true rfl) ?_
  refine zi_iconst dX5_word_2 (by decide +kernel : Int32.ofInt (0) = (0 : Int32)) ?_
  refine zi_istore_n dX5_word_3 (Nat.le_of_ble_eq_true rfl) ?_
  exact kk
theorem sX5_word_4 {g : ZG} {Q : ZQ} {d cN sN : Nat} {M : ZM} {l2 : Int32} {o0 o1 : Option Value}  (kt : (8 : Int32) ≤ (l2 : Int32) → Z g kX5_word Q d cN sN M 38 [o0, o1, some (.int l2)] []) (kf : ¬ (8 : Int32) ≤ (l2 : Int32) → Z g kX5_word Q d cN sN M 10 [o0, o1, some (.int l2)] []) : Z g kX5_word Q d cN sN M 4 [o0, o1, some (.int l2)] [] := by
  refine zi_iload_n dX5_word_4 rfl ?_
  refine zi_bipush dX5_word_5 (by decide +kernel : (Int8.ofInt (8)).toInt32 = (8 : Int32)) ?_
  exact zi_icmp_ge (tgt := 38) dX5_word_7 (by decide +kernel) kt kf
theorem sX5_word_10 {g : ZG} {Q : ZQ} {d cN sN : Nat} {M : ZM} {l2 : Int32} {o0 o1 : Option Value}  (kt : (l2 : Int32) < (3 : Int32) → Z g kX5_word Q d cN sN M 22 [o0, o1, some (.int l2)] []) (kf : ¬ (l2 : Int32) < (3 : Int32) → Z g kX5_word Q d cN sN M 15 [o0, o1, some (.int l2)] []) : Z g kX5_word Q d cN sN M 10 [o0, o1, some (.int l2)] [] := by
  refine zi_iload_n dX5_word_10 rfl ?_
  refine zi_iconst dX5_word_11 (by decide +kernel : Int32.ofInt (3) = (3 : Int32)) ?_
  exact zi_icmp_lt (tgt := 22) dX5_word_12 (by decide +kernel) kt kf
theorem sX5_word_15 {g : ZG} {Q : ZQ} {d cN sN : Nat} {M : ZM} {l0 : Nat} {o1 o2 : Option Value}  (kk : Z g kX5_word Q d cN sN M 16 [some (.ref l0), o1, o2] [.ref l0]) : Z g kX5_word Q d cN sN M 15 [some (.ref l0), o1, o2] [] := by
  refine zi_aload_n dX5_word_15 rfl zrf_r ?_
  exact kk
theorem sX5_word_19 {g : ZG} {Q : ZQ} {d cN sN : Nat} {M : ZM} {t0 : Int32} {o0 o1 o2 : Option Value}  (kt : (t0 : Int32) = 0 → Z g kX5_word Q d cN sN M 38 [o0, o1, o2] []) (kf : ¬ (t0 : Int32) = 0 → Z g kX5_word Q d cN sN M 22 [o0, o1, o2] []) : Z g kX5_word Q d cN sN M 19 [o0, o1, o2] [.int t0] := by
  exact zi_if_eq (tgt := 38) dX5_word_19 (by decide +kernel) kt kf
theorem sX5_word_22 {g : ZG} {Q : ZQ} {d cN sN : Nat} {M : ZM} {l1 : Int32} {l0 : Nat} {o2 : Option Value}  (kk : Z g kX5_word Q d cN sN M 27 [some (.ref l0), some (.int l1), o2] [.ref l0, .int (10 * l1)]) : Z g kX5_word Q d cN sN M 22 [some (.ref l0), some (.int l1), o2] [] := by
  refine zi_bipush dX5_word_22 (by decide +kernel : (Int8.ofInt (10)).toInt32 = (10 : Int32)) ?_
  refine zi_iload_n dX5_word_24 rfl ?_
  refine zi_imul dX5_word_25 ?_
  refine zi_aload_n dX5_word_26 rfl zrf_r ?_
  exact kk
theorem sX5_word_30 {g : ZG} {Q : ZQ} {d cN sN : Nat} {M : ZM} {t0 : Int32} {t1 : Int32} {l2 : Int32} {o0 o1 : Option Value}  (kk : Z g kX5_word Q d cN sN M 4 [o0, some (.int (t0 + t1)), some (.int (l2 + 1))] []) : Z g kX5_word Q d cN sN M 30 [o0, o1, some (.int l2)] [.int t1, .int t0] := by
  refine zi_iadd dX5_word_30 ?_
  refine zi_istore_n dX5_word_31 (Nat.le_of_ble_eq_true rfl) ?_
  refine zi_iinc dX5_word_32 rfl (by decide +kernel : Int32.ofInt (1) = 1) (Nat.le_of_ble_eq_true rfl) ?_
  exact zi_goto (tgt := 4) dX5_word_35 (by decide +kernel) kk
theorem sX5_word_38 {g : ZG} {Q : ZQ} {d cN sN : Nat} {M : ZM} {l0 : Nat} {l1 : Int32} {o2 : Option Value}  (kk : Z g kX5_word Q d cN sN M 41 [some (.ref l0), some (.int l1), o2] [.int l1, .int 1, .ref l0]) : Z g kX5_word Q d cN sN M 38 [some (.ref l0), some (.int l1), o2] [] := by
  refine zi_aload_n dX5_word_38 rfl zrf_r ?_
  refine zi_iconst dX5_word_39 (by decide +kernel : Int32.ofInt (1) = (1 : Int32)) ?_
  refine zi_iload_n dX5_word_40 rfl ?_
  exact kk
theorem sX5_word_44 {g : ZG} {Q : ZQ} {d cN sN : Nat} {M : ZM} {o0 o1 o2 : Option Value}  (kk : Q.1 none M) : Z g kX5_word Q d cN sN M 44 [o0, o1, o2] [] := by
  exact zi_return dX5_word_44 rfl kk
abbrev kX5_isLetter : ZK := (RX5, cX5_isLetter, 1, (Option.some Jvm.ClassFile.FieldType.boolean), [], false, fX5)
abbrev tX5_isLetter (g : ZG) (args : List Value) (M : ZM) (d c s : Nat) (Q : ZQ) : Prop := Ct g yX5_isLetter (ws_ yX5_isLetter cX5_isLetter 1 (Option.some Jvm.ClassFile.FieldType.boolean)) args M d c s Q
abbrev nX5_isLetter : Nat := 12
theorem mX5_isLetter : zMok yX5_isLetter 0 1 := ⟨⟨by decide +kernel, by decide +kernel, by decide +kernel⟩, by decide⟩
theorem eX5_isLetter {g : ZG} {Q : ZQ} {d cN sN : Nat} {M : ZM} {a0 : Nat} (hV : zV g) (h : Z g kX5_isLetter Q d cN sN M 0 [some (.ref a0)] []) : tX5_isLetter g [.ref a0] M d cN sN Q := Ct.of (K := kX5_isLetter) rfl (by decide +kernel) hV fokX5 rfl (fun h => by cases h) (fun v hv => by simp only [List.mem_cons, List.not_mem_nil, or_false] at hv; rcases hv with rfl <;> first | rfl | assumption) (Nat.le_of_ble_eq_true rfl) h
theorem sX5_isLetter_0 {g : ZG} {Q : ZQ} {d cN sN : Nat} {M : ZM} {l0 : Nat}  (kk : Z g kX5_isLetter Q d cN sN M 1 [some (.ref l0)] [.ref l0]) : Z g kX5_isLetter Q d cN sN M 0 [some (.ref l0)] [] := by
  refine zi_aload_n dX5_isLetter_0 rfl zrf_r ?_
  exact kk
theorem sX5_isLetter_4 {g : ZG} {Q : ZQ} {d cN sN : Nat} {M : ZM} {t0 : Int32} {o0 : Option Value}  (kk : Z g kX5_isLetter Q d cN sN M 8 [o0] [.int 102, .int 97, .int t0]) : Z g kX5_isLetter Q d cN sN M 4 [o0] [.int t0] := by
  refine zi_bipush dX5_isLetter_4 (by decide +kernel : (Int8.ofInt (97)).toInt32 = (97 : Int32)) ?_
  refine zi_bipush dX5_isLetter_6 (by decide +kernel : (Int8.ofInt (102)).toInt32 = (102 : Int32)) ?_
  exact kk
theorem sX5_isLetter_11 {g : ZG} {Q : ZQ} {d cN sN : Nat} {M : ZM} {t0 : Int32} {o0 : Option Value} (h1 : t0 = 0 ∨ t0 = 1) (kk : Q.1 (some (.int t0)) M) : Z g kX5_isLetter Q d cN sN M 11 [o0] [.int t0] := by
  exact zi_ireturn dX5_isLetter_11 rfl (znar_z h1) kk
abbrev kX5_letter : ZK := (RX5, cX5_letter, 1, (Option.some Jvm.ClassFile.FieldType.int), [], false, fX5)
abbrev tX5_letter (g : ZG) (args : List Value) (M : ZM) (d c s : Nat) (Q : ZQ) : Prop := Ct g yX5_letter (ws_ yX5_letter cX5_letter 1 (Option.some Jvm.ClassFile.FieldType.int)) args M d c s Q
abbrev nX5_letter : Nat := 13
theorem mX5_letter : zMok yX5_letter 0 1 := ⟨⟨by decide +kernel, by decide +kernel, by decide +kernel⟩, by decide⟩
theorem eX5_letter {g : ZG} {Q : ZQ} {d cN sN : Nat} {M : ZM} {a0 : Nat} (hV : zV g) (h : Z g kX5_letter Q d cN sN M 0 [some (.ref a0)] []) : tX5_letter g [.ref a0] M d cN sN Q := Ct.of (K := kX5_letter) rfl (by decide +kernel) hV fokX5 rfl (fun h => by cases h) (fun v hv => by simp only [List.mem_cons, List.not_mem_nil, or_false] at hv; rcases hv with rfl <;> first | rfl | assumption) (Nat.le_of_ble_eq_true rfl) h
theorem sX5_letter_0 {g : ZG} {Q : ZQ} {d cN sN : Nat} {M : ZM} {l0 : Nat}  (kk : Z g kX5_letter Q d cN sN M 2 [some (.ref l0)] [.ref l0, .ref l0]) : Z g kX5_letter Q d cN sN M 0 [some (.ref l0)] [] := by
  refine zi_aload_n dX5_letter_0 rfl zrf_r ?_
  refine zi_aload_n dX5_letter_1 rfl zrf_r ?_
  exact kk
theorem sX5_letter_8 {g : ZG} {Q : ZQ} {d cN sN : Nat} {M : ZM} {l0 : Nat} {fs1 : List Value} {y3 : Int32} {r6 : Nat} {y8 : Int32} (h2 : M.1 l0 = some (.inr (4, fs1))) (h4 : (fs1)[1]? = some (.int y3)) (h5 : 1 < (fs1).length) (h7 : (((fs1).set 1 (.int (y3 + 1))))[0]? = some (.ref r6)) (h9 : (((fs1).set 1 (.int (y3 + 1))))[1]? = some (.int y8)) (kk : Z g kX5_letter Q d cN sN (zup M l0 (.inr (4, (fs1).set 1 (.int (y3 + 1))))) 28 [some (.ref l0)] [.int (y8 - 1), .ref r6]) : Z g kX5_letter Q d cN sN M 8 [some (.ref l0)] [] := by
  refine zi_aload_n dX5_letter_8 rfl zrf_r ?_
  refine zi_dup dX5_letter_9 rfl ?_
  refine zi_getfield dX5_letter_10 rfl h2 h4 ?_
  refine zi_iconst dX5_letter_13 (by decide +kernel : Int32.ofInt (1) = (1 : Int32)) ?_
  refine zi_iadd dX5_letter_14 ?_
  refine zi_putfield dX5_letter_15 rfl h2 h5 zfit_i (Or.inl rfl) ?_
  refine zi_aload_n dX5_letter_18 rfl zrf_r ?_
  refine zi_getfield dX5_letter_19 rfl (zup_self _ _ _) h7 ?_
  refine zi_aload_n dX5_letter_22 rfl zrf_r ?_
  refine zi_getfield dX5_letter_23 rfl (zup_self _ _ _) h9 ?_
  refine zi_iconst dX5_letter_26 (by decide +kernel : Int32.ofInt (1) = (1 : Int32)) ?_
  refine zi_isub dX5_letter_27 ?_
  exact kk
theorem sX5_letter_31 {g : ZG} {Q : ZQ} {d cN sN : Nat} {M : ZM} {t0 : Int32} {o0 : Option Value}  (kk : Q.1 (some (.int ((t0 - 97) + 1))) M) : Z g kX5_letter Q d cN sN M 31 [o0] [.int t0] := by
  refine zi_bipush dX5_letter_31 (by decide +kernel : (Int8.ofInt (97)).toInt32 = (97 : Int32)) ?_
  refine zi_isub dX5_letter_33 ?_
  refine zi_iconst dX5_letter_34 (by decide +kernel : Int32.ofInt (1) = (1 : Int32)) ?_
  refine zi_iadd dX5_letter_35 ?_
  exact zi_ireturn dX5_letter_36 rfl rfl kk
abbrev kX5_doesAll : ZK := (RX5, cX5_doesAll, 4, (Option.none : Option Jvm.ClassFile.FieldType), [(2, 23, 26, 144)], false, fX5)
abbrev tX5_doesAll (g : ZG) (args : List Value) (M : ZM) (d c s : Nat) (Q : ZQ) : Prop := Ct g yX5_doesAll (wsW_ yX5_doesAll cX5_doesAll 4 (Option.none : Option Jvm.ClassFile.FieldType) [(2, 23, 26, 144)]) args M d c s Q
abbrev nX5_doesAll : Nat := 11
theorem mX5_doesAll : zMok yX5_doesAll 1 4 := ⟨⟨by decide +kernel, by decide +kernel, by decide +kernel⟩, by decide⟩
theorem eX5_doesAll {g : ZG} {Q : ZQ} {d cN sN : Nat} {M : ZM} {a0 : Nat} {v1 : Value} (hv1 : v1.category = 1) (hV : zV g) (h : Z g kX5_doesAll Q d cN sN M 0 [some (.ref a0), some (v1), none, none] []) : tX5_doesAll g [.ref a0, v1] M d cN sN Q := Ct.ofW (K := kX5_doesAll) rfl (by decide +kernel) hV fokX5 (fun h => by cases h) (fun v hv => by simp only [List.mem_cons, List.not_mem_nil, or_false] at hv; rcases hv with rfl | rfl <;> first | rfl | assumption) (Nat.le_of_ble_eq_true rfl) h
theorem sX5_doesAll_0 {g : ZG} {Q : ZQ} {d cN sN : Nat} {M : ZM} {o0 o1 o2 o3 : Option Value}  (kk : Z g kX5_doesAll Q d cN sN M 2 [o0, o1, some (.int 0), o3] []) : Z g kX5_doesAll Q d cN sN M 0 [o0, o1, o2, o3] [] := by
  refine zi_iconst dX5_doesAll_0 (by decide +kernel : Int32.ofInt (0) = (0 : Int32)) ?_
  refine zi_istore_n dX5_doesAll_1 (Nat.le_of_ble_eq_true rfl) ?_
  exact kk
theorem sX5_doesAll_2 {g : ZG} {Q : ZQ} {d cN sN : Nat} {M : ZM} {l2 : Int32} {l0 : Nat} {fs1 : List Value} {y3 : Int32} {o1 o3 : Option Value} (h2 : M.1 l0 = some (.inr (4, fs1))) (h4 : (fs1)[3]? = some (.int y3)) (kt : (y3 : Int32) ≤ (l2 : Int32) → Z g kX5_doesAll Q d cN sN M 23 [some (.ref l0), o1, some (.int l2), o3] []) (kf : ¬ (y3 : Int32) ≤ (l2 : Int32) → Z g kX5_doesAll Q d cN sN M 10 [some (.ref l0), o1, some (.int l2), o3] []) : Z g kX5_doesAll Q d cN sN M 2 [some (.ref l0), o1, some (.int l2), o3] [] := by
  refine zi_iload_n dX5_doesAll_2 rfl ?_
  refine zi_aload_n dX5_doesAll_3 rfl zrf_r ?_
  refine zi_getfield dX5_doesAll_4 rfl h2 h4 ?_
  exact zi_icmp_ge (tgt := 23) dX5_doesAll_7 (by decide +kernel) kt kf
theorem sX5_doesAll_10 {g : ZG} {Q : ZQ} {d cN sN : Nat} {M : ZM} {l0 : Nat} {l1 : Nat} {l2 : Int32} {o3 : Option Value}  (kk : Z g kX5_doesAll Q d cN sN M 13 [some (.ref l0), some (.ref l1), some (.int l2), o3] [.int l2, .ref l1, .ref l0]) : Z g kX5_doesAll Q d cN sN M 10 [some (.ref l0), some (.ref l1), some (.int l2), o3] [] := by
  refine zi_aload_n dX5_doesAll_10 rfl zrf_r ?_
  refine zi_aload_n dX5_doesAll_11 rfl zrf_r ?_
  refine zi_iload_n dX5_doesAll_12 rfl ?_
  exact kk
theorem sX5_doesAll_16 {g : ZG} {Q : ZQ} {d cN sN : Nat} {M : ZM} {t0 : Int32} {l2 : Int32} {o0 o1 o3 : Option Value}  (kk : Z g kX5_doesAll Q d cN sN M 2 [o0, o1, some (.int (l2 + 1)), some (.int t0)] []) : Z g kX5_doesAll Q d cN sN M 16 [o0, o1, some (.int l2), o3] [.int t0] := by
  refine zi_istore_n dX5_doesAll_16 (Nat.le_of_ble_eq_true rfl) ?_
  refine zi_iinc dX5_doesAll_17 rfl (by decide +kernel : Int32.ofInt (1) = 1) (Nat.le_of_ble_eq_true rfl) ?_
  exact zi_goto (tgt := 2) dX5_doesAll_20 (by decide +kernel) kk
theorem sX5_doesAll_23 {g : ZG} {Q : ZQ} {d cN sN : Nat} {M : ZM} {o0 o1 o2 o3 : Option Value}  (kk : Z g kX5_doesAll Q d cN sN M 39 [o0, o1, o2, o3] []) : Z g kX5_doesAll Q d cN sN M 23 [o0, o1, o2, o3] [] := by
  exact zi_goto (tgt := 39) dX5_doesAll_23 (by decide +kernel) kk
theorem sX5_doesAll_26 {g : ZG} {Q : ZQ} {d cN sN : Nat} {M : ZM} {t0 : Nat} {o0 o1 o2 o3 : Option Value}  (kk : Z g kX5_doesAll Q d cN sN M 27 [o0, o1, o2, some (.ref t0)] []) : Z g kX5_doesAll Q d cN sN M 26 [o0, o1, o2, o3] [.ref t0] := by
  refine zi_astore_n dX5_doesAll_26 zrf_r (Nat.le_of_ble_eq_true rfl) ?_
  exact kk
theorem sX5_doesAll_30 {g : ZG} {Q : ZQ} {d cN sN : Nat} {M : ZM} {t0 : Nat} {l2 : Int32} {l3 : Nat} {o0 o1 : Option Value}  (kk : Z g kX5_doesAll Q d cN sN M 35 [o0, o1, some (.int l2), some (.ref l3)] [.ref l3, .int l2, .int 9, .ref t0, .ref t0]) : Z g kX5_doesAll Q d cN sN M 30 [o0, o1, some (.int l2), some (.ref l3)] [.ref t0] := by
  refine zi_dup dX5_doesAll_30 rfl ?_
  refine zi_bipush dX5_doesAll_31 (by decide +kernel : (Int8.ofInt (9)).toInt32 = (9 : Int32)) ?_
  refine zi_iload_n dX5_doesAll_33 rfl ?_
  refine zi_aload_n dX5_doesAll_34 rfl zrf_r ?_
  exact kk
theorem sX5_doesAll_39 {g : ZG} {Q : ZQ} {d cN sN : Nat} {M : ZM} {o0 o1 o2 o3 : Option Value}  (kk : Q.1 none M) : Z g kX5_doesAll Q d cN sN M 39 [o0, o1, o2, o3] [] := by
  exact zi_return dX5_doesAll_39 rfl kk
abbrev kX5_does : ZK := (RX5, cX5_does, 5, (Option.some Jvm.ClassFile.FieldType.int), [], false, fX5)
abbrev tX5_does (g : ZG) (args : List Value) (M : ZM) (d c s : Nat) (Q : ZQ) : Prop := Ct g yX5_does (ws_ yX5_does cX5_does 5 (Option.some Jvm.ClassFile.FieldType.int)) args M d c s Q
abbrev nX5_does : Nat := 10
theorem mX5_does : zMok yX5_does 2 5 := ⟨⟨by decide +kernel, by decide +kernel, by decide +kernel⟩, by decide⟩
theorem eX5_does {g : ZG} {Q : ZQ} {d cN sN : Nat} {M : ZM} {a0 : Nat} {v1 : Value} (hv1 : v1.category = 1) {x2 : Int32} (hV : zV g) (h : Z g kX5_does Q d cN sN M 0 [some (.ref a0), some (v1), some (.int x2), none, none] []) : tX5_does g [.ref a0, v1, .int x2] M d cN sN Q := Ct.of (K := kX5_does) rfl (by decide +kernel) hV fokX5 rfl (fun h => by cases h) (fun v hv => by simp only [List.mem_cons, List.not_mem_nil, or_false] at hv; rcases hv with rfl | rfl | rfl <;> first | rfl | assumption) (Nat.le_of_ble_eq_true rfl) h
theorem sX5_does_0 {g : ZG} {Q : ZQ} {d cN sN : Nat} {M : ZM} {l0 : Nat} {l2 : Int32} {o1 o3 o4 : Option Value}  (kk : Z g kX5_does Q d cN sN M 3 [some (.ref l0), o1, some (.int l2), o3, o4] [.int 0, .int l2, .ref l0]) : Z g kX5_does Q d cN sN M 0 [some (.ref l0), o1, some (.int l2), o3, o4] [] := by
  refine zi_aload_n dX5_does_0 rfl zrf_r ?_
  refine zi_iload_n dX5_does_1 rfl ?_
  refine zi_iconst dX5_does_2 (by decide +kernel : Int32.ofInt (0) = (0 : Int32)) ?_
  exact kk
theorem sX5_does_6 {g : ZG} {Q : ZQ} {d cN sN : Nat} {M : ZM} {t0 : Int32} {l0 : Nat} {l2 : Int32} {o1 o3 o4 : Option Value}  (kk : Z g kX5_does Q d cN sN M 10 [some (.ref l0), o1, some (.int l2), some (.int t0), o4] [.int 1, .int l2, .ref l0]) : Z g kX5_does Q d cN sN M 6 [some (.ref l0), o1, some (.int l2), o3, o4] [.int t0] := by
  refine zi_istore_n dX5_does_6 (Nat.le_of_ble_eq_true rfl) ?_
  refine zi_aload_n dX5_does_7 rfl zrf_r ?_
  refine zi_iload_n dX5_does_8 rfl ?_
  refine zi_iconst dX5_does_9 (by decide +kernel : Int32.ofInt (1) = (1 : Int32)) ?_
  exact kk
theorem sX5_does_13 {g : ZG} {Q : ZQ} {d cN sN : Nat} {M : ZM} {t0 : Int32} {l0 : Nat} {l1 : Nat} {l2 : Int32} {o3 o4 : Option Value}  (kk : Z g kX5_does Q d cN sN M 18 [some (.ref l0), some (.ref l1), some (.int l2), o3, some (.int t0)] [.int l2, .ref l1, .ref l0]) : Z g kX5_does Q d cN sN M 13 [some (.ref l0), some (.ref l1), some (.int l2), o3, o4] [.int t0] := by
  refine zi_istore dX5_does_13 (Nat.le_of_ble_eq_true rfl) ?_
  refine zi_aload_n dX5_does_15 rfl zrf_r ?_
  refine zi_aload_n dX5_does_16 rfl zrf_r ?_
  refine zi_iload_n dX5_does_17 rfl ?_
  exact kk
theorem sX5_does_21 {g : ZG} {Q : ZQ} {d cN sN : Nat} {M : ZM} {t0 : Int32} {o0 o1 o2 o3 o4 : Option Value}  (kt : ¬ (t0 : Int32) = 0 → Z g kX5_does Q d cN sN M 32 [o0, o1, o2, o3, o4] []) (kf : (t0 : Int32) = 0 → Z g kX5_does Q d cN sN M 24 [o0, o1, o2, o3, o4] []) : Z g kX5_does Q d cN sN M 21 [o0, o1, o2, o3, o4] [.int t0] := by
  exact zi_if_ne (tgt := 32) dX5_does_21 (by decide +kernel) kt kf
theorem sX5_does_27 {g : ZG} {Q : ZQ} {d cN sN : Nat} {M : ZM} {t0 : Nat} {o0 o1 o2 o3 o4 : Option Value}  (kk : Z g kX5_does Q d cN sN M 28 [o0, o1, o2, o3, o4] [.ref t0, .ref t0]) : Z g kX5_does Q d cN sN M 27 [o0, o1, o2, o3, o4] [.ref t0] := by
  refine zi_dup dX5_does_27 rfl ?_
  exact kk
theorem sX5_does_32 {g : ZG} {Q : ZQ} {d cN sN : Nat} {M : ZM} {l0 : Nat} {fs1 : List Value} {r3 : Nat} {l2 : Int32} {n5 : Nat} {f6 : Nat → Int32} {o1 o3 o4 : Option Value} (h2 : M.1 l0 = some (.inr (4, fs1))) (h4 : (fs1)[4]? = some (.ref r3)) (h7 : M.1 r3 = some (.inl (zA g 3, n5, .inl f6))) (h8 : vp_in (l2) n5) (kk : Z g kX5_does Q d cN sN M 38 [some (.ref l0), o1, some (.int l2), o3, o4] [.int (f6 ((l2 : Int32).toNatClampNeg))]) : Z g kX5_does Q d cN sN M 32 [some (.ref l0), o1, some (.int l2), o3, o4] [] := by
  refine zi_aload_n dX5_does_32 rfl zrf_r ?_
  refine zi_getfield dX5_does_33 rfl h2 h4 ?_
  refine zi_iload_n dX5_does_36 rfl ?_
  refine zi_caload dX5_does_37 h7 h8 ?_
  exact kk
theorem sX5_does_140 {g : ZG} {Q : ZQ} {d cN sN : Nat} {M : ZM} {l1 : Nat} {l3 : Int32} {o0 o2 o4 : Option Value}  (kk : Z g kX5_does Q d cN sN M 142 [o0, some (.ref l1), o2, some (.int l3), o4] [.int l3, .ref l1]) : Z g kX5_does Q d cN sN M 140 [o0, some (.ref l1), o2, some (.int l3), o4] [] := by
  refine zi_aload_n dX5_does_140 rfl zrf_r ?_
  refine zi_iload_n dX5_does_141 rfl ?_
  exact kk
theorem sX5_does_145 {g : ZG} {Q : ZQ} {d cN sN : Nat} {M : ZM} {t0 : Int32} {o0 o1 o2 o3 o4 : Option Value}  (kk : Q.1 (some (.int t0)) M) : Z g kX5_does Q d cN sN M 145 [o0, o1, o2, o3, o4] [.int t0] := by
  exact zi_ireturn dX5_does_145 rfl rfl kk
theorem sX5_does_146 {g : ZG} {Q : ZQ} {d cN sN : Nat} {M : ZM} {l1 : Nat} {l3 : Int32} {l4 : Int32} {o0 o2 : Option Value}  (kk : Z g kX5_does Q d cN sN M 150 [o0, some (.ref l1), o2, some (.int l3), some (.int l4)] [.int l4, .int l3, .ref l1]) : Z g kX5_does Q d cN sN M 146 [o0, some (.ref l1), o2, some (.int l3), some (.int l4)] [] := by
  refine zi_aload_n dX5_does_146 rfl zrf_r ?_
  refine zi_iload_n dX5_does_147 rfl ?_
  refine zi_iload dX5_does_148 rfl ?_
  exact kk
theorem sX5_does_153 {g : ZG} {Q : ZQ} {d cN sN : Nat} {M : ZM} {t0 : Int32} {o0 o1 o2 o3 o4 : Option Value}  (kk : Q.1 (some (.int t0)) M) : Z g kX5_does Q d cN sN M 153 [o0, o1, o2, o3, o4] [.int t0] := by
  exact zi_ireturn dX5_does_153 rfl rfl kk
theorem sX5_does_154 {g : ZG} {Q : ZQ} {d cN sN : Nat} {M : ZM} {l1 : Nat} {l3 : Int32} {l4 : Int32} {l0 : Nat} {l2 : Int32}  (kk : Z g kX5_does Q d cN sN M 161 [some (.ref l0), some (.ref l1), some (.int l2), some (.int l3), some (.int l4)] [.int 2, .int l2, .ref l0, .int l4, .int l3, .ref l1]) : Z g kX5_does Q d cN sN M 154 [some (.ref l0), some (.ref l1), some (.int l2), some (.int l3), some (.int l4)] [] := by
  refine zi_aload_n dX5_does_154 rfl zrf_r ?_
  refine zi_iload_n dX5_does_155 rfl ?_
  refine zi_iload dX5_does_156 rfl ?_
  refine zi_aload_n dX5_does_158 rfl zrf_r ?_
  refine zi_iload_n dX5_does_159 rfl ?_
  refine zi_iconst dX5_does_160 (by decide +kernel : Int32.ofInt (2) = (2 : Int32)) ?_
  exact kk
theorem sX5_does_167 {g : ZG} {Q : ZQ} {d cN sN : Nat} {M : ZM} {t0 : Int32} {o0 o1 o2 o3 o4 : Option Value}  (kk : Q.1 (some (.int t0)) M) : Z g kX5_does Q d cN sN M 167 [o0, o1, o2, o3, o4] [.int t0] := by
  exact zi_ireturn dX5_does_167 rfl rfl kk
theorem sX5_does_168 {g : ZG} {Q : ZQ} {d cN sN : Nat} {M : ZM} {l1 : Nat} {l3 : Int32} {l4 : Int32} {o0 o2 : Option Value}  (kk : Z g kX5_does Q d cN sN M 172 [o0, some (.ref l1), o2, some (.int l3), some (.int l4)] [.int l4, .int l3, .ref l1]) : Z g kX5_does Q d cN sN M 168 [o0, some (.ref l1), o2, some (.int l3), some (.int l4)] [] := by
  refine zi_aload_n dX5_does_168 rfl zrf_r ?_
  refine zi_iload_n dX5_does_169 rfl ?_
  refine zi_iload dX5_does_170 rfl ?_
  exact kk
theorem sX5_does_175 {g : ZG} {Q : ZQ} {d cN sN : Nat} {M : ZM} {t0 : Int32} {o0 o1 o2 o3 o4 : Option Value}  (kk : Q.1 (some (.int t0)) M) : Z g kX5_does Q d cN sN M 175 [o0, o1, o2, o3, o4] [.int t0] := by
  exact zi_ireturn dX5_does_175 rfl rfl kk
theorem sX5_does_176 {g : ZG} {Q : ZQ} {d cN sN : Nat} {M : ZM} {l1 : Nat} {l3 : Int32} {l4 : Int32} {o0 o2 : Option Value}  (kk : Z g kX5_does Q d cN sN M 180 [o0, some (.ref l1), o2, some (.int l3), some (.int l4)] [.int l4, .int l3, .ref l1]) : Z g kX5_does Q d cN sN M 176 [o0, some (.ref l1), o2, some (.int l3), some (.int l4)] [] := by
  refine zi_aload_n dX5_does_176 rfl zrf_r ?_
  refine zi_iload_n dX5_does_177 rfl ?_
  refine zi_iload dX5_does_178 rfl ?_
  exact kk
theorem sX5_does_183 {g : ZG} {Q : ZQ} {d cN sN : Nat} {M : ZM} {t0 : Int32} {o0 o1 o2 o3 o4 : Option Value}  (kk : Q.1 (some (.int t0)) M) : Z g kX5_does Q d cN sN M 183 [o0, o1, o2, o3, o4] [.int t0] := by
  exact zi_ireturn dX5_does_183 rfl rfl kk
theorem sX5_does_184 {g : ZG} {Q : ZQ} {d cN sN : Nat} {M : ZM} {l1 : Nat} {l3 : Int32} {l4 : Int32} {o0 o2 : Option Value}  (kk : Z g kX5_does Q d cN sN M 188 [o0, some (.ref l1), o2, some (.int l3), some (.int l4)] [.int l4, .int l3, .ref l1]) : Z g kX5_does Q d cN sN M 184 [o0, some (.ref l1), o2, some (.int l3), some (.int l4)] [] := by
  refine zi_aload_n dX5_does_184 rfl zrf_r ?_
  refine zi_iload_n dX5_does_185 rfl ?_
  refine zi_iload dX5_does_186 rfl ?_
  exact kk
theorem sX5_does_191 {g : ZG} {Q : ZQ} {d cN sN : Nat} {M : ZM} {t0 : Int32} {o0 o1 o2 o3 o4 : Option Value}  (kk : Q.1 (some (.int t0)) M) : Z g kX5_does Q d cN sN M 191 [o0, o1, o2, o3, o4] [.int t0] := by
  exact zi_ireturn dX5_does_191 rfl rfl kk
theorem sX5_does_192 {g : ZG} {Q : ZQ} {d cN sN : Nat} {M : ZM} {l1 : Nat} {l3 : Int32} {o0 o2 o4 : Option Value}  (kk : Z g kX5_does Q d cN sN M 194 [o0, some (.ref l1), o2, some (.int l3), o4] [.int l3, .ref l1]) : Z g kX5_does Q d cN sN M 192 [o0, some (.ref l1), o2, some (.int l3), o4] [] := by
  refine zi_aload_n dX5_does_192 rfl zrf_r ?_
  refine zi_iload_n dX5_does_193 rfl ?_
  exact kk
theorem sX5_does_197 {g : ZG} {Q : ZQ} {d cN sN : Nat} {M : ZM} {t0 : Int32} {o0 o1 o2 o3 o4 : Option Value}  (kk : Q.1 (some (.int t0)) M) : Z g kX5_does Q d cN sN M 197 [o0, o1, o2, o3, o4] [.int t0] := by
  exact zi_ireturn dX5_does_197 rfl rfl kk
theorem sX5_does_198 {g : ZG} {Q : ZQ} {d cN sN : Nat} {M : ZM} {l1 : Nat} {o0 o2 o3 o4 : Option Value}  (kk : Z g kX5_does Q d cN sN M 199 [o0, some (.ref l1), o2, o3, o4] [.ref l1]) : Z g kX5_does Q d cN sN M 198 [o0, some (.ref l1), o2, o3, o4] [] := by
  refine zi_aload_n dX5_does_198 rfl zrf_r ?_
  exact kk
theorem sX5_does_202 {g : ZG} {Q : ZQ} {d cN sN : Nat} {M : ZM} {t0 : Int32} {o0 o1 o2 o3 o4 : Option Value}  (kk : Q.1 (some (.int t0)) M) : Z g kX5_does Q d cN sN M 202 [o0, o1, o2, o3, o4] [.int t0] := by
  exact zi_ireturn dX5_does_202 rfl rfl kk
theorem sX5_does_203 {g : ZG} {Q : ZQ} {d cN sN : Nat} {M : ZM} {l1 : Nat} {o0 o2 o3 o4 : Option Value}  (kk : Z g kX5_does Q d cN sN M 204 [o0, some (.ref l1), o2, o3, o4] [.ref l1]) : Z g kX5_does Q d cN sN M 203 [o0, some (.ref l1), o2, o3, o4] [] := by
  refine zi_aload_n dX5_does_203 rfl zrf_r ?_
  exact kk
theorem sX5_does_207 {g : ZG} {Q : ZQ} {d cN sN : Nat} {M : ZM} {t0 : Int32} {o0 o1 o2 o3 o4 : Option Value}  (kk : Q.1 (some (.int t0)) M) : Z g kX5_does Q d cN sN M 207 [o0, o1, o2, o3, o4] [.int t0] := by
  exact zi_ireturn dX5_does_207 rfl rfl kk
abbrev kX5_isRight : ZK := (RX5, cX5_isRight, 5, (Option.some Jvm.ClassFile.FieldType.boolean), [], false, fX5)
abbrev tX5_isRight (g : ZG) (args : List Value) (M : ZM) (d c s : Nat) (Q : ZQ) : Prop := Ct g yX5_isRight (ws_ yX5_isRight cX5_isRight 5 (Option.some Jvm.ClassFile.FieldType.boolean)) args M d c s Q
abbrev nX5_isRight : Nat := 4
theorem mX5_isRight : zMok yX5_isRight 2 5 := ⟨⟨by decide +kernel, by decide +kernel, by decide +kernel⟩, by decide⟩
theorem eX5_isRight {g : ZG} {Q : ZQ} {d cN sN : Nat} {M : ZM} {a0 : Nat} {v1 : Value} (hv1 : v1.category = 1) {x2 : Int32} (hV : zV g) (h : Z g kX5_isRight Q d cN sN M 0 [some (.ref a0), some (v1), some (.int x2), none, none] []) : tX5_isRight g [.ref a0, v1, .int x2] M d cN sN Q := Ct.of (K := kX5_isRight) rfl (by decide +kernel) hV fokX5 rfl (fun h => by cases h) (fun v hv => by simp only [List.mem_cons, List.not_mem_nil, or_false] at hv; rcases hv with rfl | rfl | rfl <;> first | rfl | assumption) (Nat.le_of_ble_eq_true rfl) h
theorem sX5_isRight_0 {g : ZG} {Q : ZQ} {d cN sN : Nat} {M : ZM} {l0 : Nat} {l2 : Int32} {o1 o3 o4 : Option Value}  (kk : Z g kX5_isRight Q d cN sN M 3 [some (.ref l0), o1, some (.int l2), o3, o4] [.int 0, .int l2, .ref l0]) : Z g kX5_isRight Q d cN sN M 0 [some (.ref l0), o1, some (.int l2), o3, o4] [] := by
  refine zi_aload_n dX5_isRight_0 rfl zrf_r ?_
  refine zi_iload_n dX5_isRight_1 rfl ?_
  refine zi_iconst dX5_isRight_2 (by decide +kernel : Int32.ofInt (0) = (0 : Int32)) ?_
  exact kk
theorem sX5_isRight_6 {g : ZG} {Q : ZQ} {d cN sN : Nat} {M : ZM} {t0 : Int32} {l0 : Nat} {l2 : Int32} {o1 o3 o4 : Option Value}  (kk : Z g kX5_isRight Q d cN sN M 10 [some (.ref l0), o1, some (.int l2), some (.int t0), o4] [.int 1, .int l2, .ref l0]) : Z g kX5_isRight Q d cN sN M 6 [some (.ref l0), o1, some (.int l2), o3, o4] [.int t0] := by
  refine zi_istore_n dX5_isRight_6 (Nat.le_of_ble_eq_true rfl) ?_
  refine zi_aload_n dX5_isRight_7 rfl zrf_r ?_
  refine zi_iload_n dX5_isRight_8 rfl ?_
  refine zi_iconst dX5_isRight_9 (by decide +kernel : Int32.ofInt (1) = (1 : Int32)) ?_
  exact kk
theorem sX5_isRight_13 {g : ZG} {Q : ZQ} {d cN sN : Nat} {M : ZM} {t0 : Int32} {l0 : Nat} {fs1 : List Value} {r3 : Nat} {l2 : Int32} {n5 : Nat} {f6 : Nat → Int32} {o1 o3 o4 : Option Value} (h2 : M.1 l0 = some (.inr (4, fs1))) (h4 : (fs1)[4]? = some (.ref r3)) (h7 : M.1 r3 = some (.inl (zA g 3, n5, .inl f6))) (h8 : vp_in (l2) n5) (kk : Z g kX5_isRight Q d cN sN M 21 [some (.ref l0), o1, some (.int l2), o3, some (.int t0)] [.int (f6 ((l2 : Int32).toNatClampNeg))]) : Z g kX5_isRight Q d cN sN M 13 [some (.ref l0), o1, some (.int l2), o3, o4] [.int t0] := by
  refine zi_istore dX5_isRight_13 (Nat.le_of_ble_eq_true rfl) ?_
  refine zi_aload_n dX5_isRight_15 rfl zrf_r ?_
  refine zi_getfield dX5_isRight_16 rfl h2 h4 ?_
  refine zi_iload_n dX5_isRight_19 rfl ?_
  refine zi_caload dX5_isRight_20 h7 h8 ?_
  exact kk
theorem sX5_isRight_80 {g : ZG} {Q : ZQ} {d cN sN : Nat} {M : ZM} {l1 : Nat} {l3 : Int32} {o0 o2 o4 : Option Value}  (kk : Z g kX5_isRight Q d cN sN M 82 [o0, some (.ref l1), o2, some (.int l3), o4] [.int l3, .ref l1]) : Z g kX5_isRight Q d cN sN M 80 [o0, some (.ref l1), o2, some (.int l3), o4] [] := by
  refine zi_aload_n dX5_isRight_80 rfl zrf_r ?_
  refine zi_iload_n dX5_isRight_81 rfl ?_
  exact kk
theorem sX5_isRight_85 {g : ZG} {Q : ZQ} {d cN sN : Nat} {M : ZM} {t0 : Int32} {o0 o1 o2 o3 o4 : Option Value} (h1 : t0 = 0 ∨ t0 = 1) (kk : Q.1 (some (.int t0)) M) : Z g kX5_isRight Q d cN sN M 85 [o0, o1, o2, o3, o4] [.int t0] := by
  exact zi_ireturn dX5_isRight_85 rfl (znar_z h1) kk
theorem sX5_isRight_86 {g : ZG} {Q : ZQ} {d cN sN : Nat} {M : ZM} {l1 : Nat} {l3 : Int32} {l4 : Int32} {o0 o2 : Option Value}  (kk : Z g kX5_isRight Q d cN sN M 90 [o0, some (.ref l1), o2, some (.int l3), some (.int l4)] [.int l4, .int l3, .ref l1]) : Z g kX5_isRight Q d cN sN M 86 [o0, some (.ref l1), o2, some (.int l3), some (.int l4)] [] := by
  refine zi_aload_n dX5_isRight_86 rfl zrf_r ?_
  refine zi_iload_n dX5_isRight_87 rfl ?_
  refine zi_iload dX5_isRight_88 rfl ?_
  exact kk
theorem sX5_isRight_93 {g : ZG} {Q : ZQ} {d cN sN : Nat} {M : ZM} {t0 : Int32} {o0 o1 o2 o3 o4 : Option Value} (h1 : t0 = 0 ∨ t0 = 1) (kk : Q.1 (some (.int t0)) M) : Z g kX5_isRight Q d cN sN M 93 [o0, o1, o2, o3, o4] [.int t0] := by
  exact zi_ireturn dX5_isRight_93 rfl (znar_z h1) kk
theorem sX5_isRight_94 {g : ZG} {Q : ZQ} {d cN sN : Nat} {M : ZM} {l3 : Int32} {l4 : Int32} {o0 o1 o2 : Option Value}  (kk : Z g kX5_isRight Q d cN sN M 97 [o0, o1, o2, some (.int l3), some (.int l4)] [.int l4, .int l3]) : Z g kX5_isRight Q d cN sN M 94 [o0, o1, o2, some (.int l3), some (.int l4)] [] := by
  refine zi_iload_n dX5_isRight_94 rfl ?_
  refine zi_iload dX5_isRight_95 rfl ?_
  exact kk
theorem sX5_isRight_100 {g : ZG} {Q : ZQ} {d cN sN : Nat} {M : ZM} {t0 : Int32} {o0 o1 o2 o3 o4 : Option Value} (h1 : t0 = 0 ∨ t0 = 1) (kk : Q.1 (some (.int t0)) M) : Z g kX5_isRight Q d cN sN M 100 [o0, o1, o2, o3, o4] [.int t0] := by
  exact zi_ireturn dX5_isRight_100 rfl (znar_z h1) kk
theorem sX5_isRight_101 {g : ZG} {Q : ZQ} {d cN sN : Nat} {M : ZM} {l1 : Nat} {l3 : Int32} {o0 o2 o4 : Option Value}  (kk : Z g kX5_isRight Q d cN sN M 103 [o0, some (.ref l1), o2, some (.int l3), o4] [.int l3, .ref l1]) : Z g kX5_isRight Q d cN sN M 101 [o0, some (.ref l1), o2, some (.int l3), o4] [] := by
  refine zi_aload_n dX5_isRight_101 rfl zrf_r ?_
  refine zi_iload_n dX5_isRight_102 rfl ?_
  exact kk
theorem sX5_isRight_106 {g : ZG} {Q : ZQ} {d cN sN : Nat} {M : ZM} {t0 : Int32} {o0 o1 o2 o3 o4 : Option Value} (h1 : t0 = 0 ∨ t0 = 1) (kk : Q.1 (some (.int t0)) M) : Z g kX5_isRight Q d cN sN M 106 [o0, o1, o2, o3, o4] [.int t0] := by
  exact zi_ireturn dX5_isRight_106 rfl (znar_z h1) kk
theorem sX5_isRight_107 {g : ZG} {Q : ZQ} {d cN sN : Nat} {M : ZM} {o0 o1 o2 o3 o4 : Option Value}  (kk : Q.1 (some (.int 1)) M) : Z g kX5_isRight Q d cN sN M 107 [o0, o1, o2, o3, o4] [] := by
  refine zi_iconst dX5_isRight_107 (by decide +kernel : Int32.ofInt (1) = (1 : Int32)) ?_
  exact zi_ireturn dX5_isRight_108 rfl (znar_z (by decide)) kk
/-! ErrataPress$Refused (printed by gen_m.py) -/
set_option maxRecDepth 100000
abbrev cX7_init : ByteArray := prog_8_method_1_code
def yX7_init : MethodName := ⟨RX7, "<init>", "(IILErrataPress$Refused;)V"⟩
def dkwX7_init_0 : List UInt8 := [42, 183, 0, 1, 42, 27, 181, 0, 7, 42, 28, 181, 0, 13, 42, 45, 181, 0, 16, 177]
abbrev dktX7_init_0 : List UInt8 := dkwX7_init_0 ++ []
theorem dksX7_init_0 : cX7_init.data.toList.drop 0 = dktX7_init_0 := by decide +kernel
theorem dX7_init_0 : decode cX7_init 0 = .ok (.aload_n 0, 1) := dk_42 (dk_at dksX7_init_0 0 rfl rfl)
theorem dX7_init_1 : decode cX7_init 1 = .ok (.invokespecial 1, 3) := dk_183 0 1 (dk_at dksX7_init_0 1 rfl rfl)
theorem dX7_init_4 : decode cX7_init 4 = .ok (.aload_n 0, 1) := dk_42 (dk_at dksX7_init_0 4 rfl rfl)
theorem dX7_init_5 : decode cX7_init 5 = .ok (.iload_n 1, 1) := dk_27 (dk_at dksX7_init_0 5 rfl rfl)
theorem dX7_init_6 : decode cX7_init 6 = .ok (.putfield 7, 3) := dk_181 0 7 (dk_at dksX7_init_0 6 rfl rfl)
theorem dX7_init_9 : decode cX7_init 9 = .ok (.aload_n 0, 1) := dk_42 (dk_at dksX7_init_0 9 rfl rfl)
theorem dX7_init_10 : decode cX7_init 10 = .ok (.iload_n 2, 1) := dk_28 (dk_at dksX7_init_0 10 rfl rfl)
theorem dX7_init_11 : decode cX7_init 11 = .ok (.putfield 13, 3) := dk_181 0 13 (dk_at dksX7_init_0 11 rfl rfl)
theorem dX7_init_14 : decode cX7_init 14 = .ok (.aload_n 0, 1) := dk_42 (dk_at dksX7_init_0 14 rfl rfl)
theorem dX7_init_15 : decode cX7_init 15 = .ok (.aload_n 3, 1) := dk_45 (dk_at dksX7_init_0 15 rfl rfl)
theorem dX7_init_16 : decode cX7_init 16 = .ok (.putfield 16, 3) := dk_181 0 16 (dk_at dksX7_init_0 16 rfl rfl)
theorem dX7_init_19 : decode cX7_init 19 = .ok (.return_, 1) := dk_177 (dk_at dksX7_init_0 19 rfl rfl)
abbrev cX7_told : ByteArray := prog_8_method_2_code
def yX7_told : MethodName := ⟨RX7, "told", "(Z)I"⟩
def dkwX7_told_0 : List UInt8 := [27, 153, 0, 10, 42, 180, 0, 13, 167, 0, 7, 42, 180, 0, 7, 172]
abbrev dktX7_told_0 : List UInt8 := dkwX7_told_0 ++ []
theorem dksX7_told_0 : cX7_told.data.toList.drop 0 = dktX7_told_0 := by decide +kernel
theorem dX7_told_0 : decode cX7_told 0 = .ok (.iload_n 1, 1) := dk_27 (dk_at dksX7_told_0 0 rfl rfl)
theorem dX7_told_1 : decode cX7_told 1 = .ok (.ifCond .eq 10, 3) := dk_153 0 10 (dk_at dksX7_told_0 1 rfl rfl)
theorem dX7_told_4 : decode cX7_told 4 = .ok (.aload_n 0, 1) := dk_42 (dk_at dksX7_told_0 4 rfl rfl)
theorem dX7_told_5 : decode cX7_told 5 = .ok (.getfield 13, 3) := dk_180 0 13 (dk_at dksX7_told_0 5 rfl rfl)
theorem dX7_told_8 : decode cX7_told 8 = .ok (.goto 7, 3) := dk_167 0 7 (dk_at dksX7_told_0 8 rfl rfl)
theorem dX7_told_11 : decode cX7_told 11 = .ok (.aload_n 0, 1) := dk_42 (dk_at dksX7_told_0 11 rfl rfl)
theorem dX7_told_12 : decode cX7_told 12 = .ok (.getfield 7, 3) := dk_180 0 7 (dk_at dksX7_told_0 12 rfl rfl)
theorem dX7_told_15 : decode cX7_told 15 = .ok (.ireturn, 1) := dk_172 (dk_at dksX7_told_0 15 rfl rfl)
def fX7 : List ZE := [(7, 6, 0, .int, 2), (13, 6, 1, .int, 2), (16, 6, 2, .object "ErrataPress$Refused", 2)]
theorem fokX7 : zFok RX7 fX7 := List.forall_mem_cons.mpr ⟨⟨by decide, by decide, by decide +kernel, Or.inr q652, by decide, by decide +kernel⟩, List.forall_mem_cons.mpr ⟨⟨by decide, by decide, by decide +kernel, Or.inr q653, by decide, by decide +kernel⟩, List.forall_mem_cons.mpr ⟨⟨by decide, by decide, by decide +kernel, Or.inr q654, by decide, by decide +kernel⟩, fun _ h => by cases h⟩⟩⟩
abbrev kX7_init : ZK := (RX7, cX7_init, 4, (Option.none : Option Jvm.ClassFile.FieldType), [], true, fX7)
abbrev tX7_init (g : ZG) (args : List Value) (M : ZM) (d c s : Nat) (Q : ZQ) : Prop := Ct g yX7_init (ws_ yX7_init cX7_init 4 (Option.none : Option Jvm.ClassFile.FieldType)) args M d c s Q
abbrev nX7_init : Nat := 4
theorem mX7_init : zMok yX7_init 3 4 := ⟨⟨by decide +kernel, by decide +kernel, by decide +kernel⟩, by decide⟩
theorem eX7_init {g : ZG} {Q : ZQ} {d cN sN : Nat} {M : ZM} {a0 : Nat} {x1 : Int32} {x2 : Int32} {v3 : Value} (hv3 : v3.category = 1) (hV : zV g) (h : Z g kX7_init Q d cN sN M 0 [some (.ref a0), some (.int x1), some (.int x2), some (v3)] []) : tX7_init g [.ref a0, .int x1, .int x2, v3] M d cN sN Q := Ct.of (K := kX7_init) rfl (by decide +kernel) hV fokX7 rfl (fun h => rfl) (fun v hv => by simp only [List.mem_cons, List.not_mem_nil, or_false] at hv; rcases hv with rfl | rfl | rfl | rfl <;> first | rfl | assumption) (Nat.le_of_ble_eq_true rfl) h
theorem sX7_init_0 {g : ZG} {Q : ZQ} {d cN sN : Nat} {M : ZM} {l0 : Value} {o1 o2 o3 : Option Value} (zl0 : zrf l0) (kk : Z g kX7_init Q d cN sN M 1 [some (l0), o1, o2, o3] [l0]) : Z g kX7_init Q d cN sN M 0 [some (l0), o1, o2, o3] [] := by
  refine zi_aload_n dX7_init_0 rfl zl0 ?_
  exact kk
theorem sX7_init_4 {g : ZG} {Q : ZQ} {d cN sN : Nat} {M : ZM} {l0 : Nat} {l1 : Int32} {fs1 : List Value} {l2 : Int32} {l3 : Value} (h2 : M.1 l0 = some (.inr (6, fs1))) (h3 : 0 < (fs1).length) (h4 : 1 < (((fs1).set 0 (.int l1))).length) (zl3 : zrf l3) (h5 : 2 < (((((fs1).set 0 (.int l1))).set 1 (.int l2))).length) (kk : Q.1 none (zup (zup (zup M l0 (.inr (6, (fs1).set 0 (.int l1)))) l0 (.inr (6, (((fs1).set 0 (.int l1))).set 1 (.int l2)))) l0 (.inr (6, (((((fs1).set 0 (.int l1))).set 1 (.int l2))).set 2 (l3))))) : Z g kX7_init Q d cN sN M 4 [some (.ref l0), some (.int l1), some (.int l2), some (l3)] [] := by
  refine zi_aload_n dX7_init_4 rfl zrf_r ?_
  refine zi_iload_n dX7_init_5 rfl ?_
  refine zi_putfield dX7_init_6 rfl h2 h3 zfit_i (Or.inr ⟨rfl, rfl⟩) ?_
  refine zi_aload_n dX7_init_9 rfl zrf_r ?_
  refine zi_iload_n dX7_init_10 rfl ?_
  refine zi_putfield dX7_init_11 rfl (zup_self _ _ _) h4 zfit_i (Or.inr ⟨rfl, rfl⟩) ?_
  refine zi_aload_n dX7_init_14 rfl zrf_r ?_
  refine zi_aload_n dX7_init_15 rfl zl3 ?_
  refine zi_putfield dX7_init_16 rfl (zup_self _ _ _) h5 (zfit_r zl3) (Or.inr ⟨rfl, rfl⟩) ?_
  exact zi_return dX7_init_19 rfl kk
abbrev kX7_told : ZK := (RX7, cX7_told, 2, (Option.some Jvm.ClassFile.FieldType.int), [], false, fX7)
abbrev tX7_told (g : ZG) (args : List Value) (M : ZM) (d c s : Nat) (Q : ZQ) : Prop := Ct g yX7_told (ws_ yX7_told cX7_told 2 (Option.some Jvm.ClassFile.FieldType.int)) args M d c s Q
abbrev nX7_told : Nat := 1
theorem mX7_told : zMok yX7_told 1 2 := ⟨⟨by decide +kernel, by decide +kernel, by decide +kernel⟩, by decide⟩
theorem eX7_told {g : ZG} {Q : ZQ} {d cN sN : Nat} {M : ZM} {a0 : Nat} {x1 : Int32} (hV : zV g) (h : Z g kX7_told Q d cN sN M 0 [some (.ref a0), some (.int x1)] []) : tX7_told g [.ref a0, .int x1] M d cN sN Q := Ct.of (K := kX7_told) rfl (by decide +kernel) hV fokX7 rfl (fun h => by cases h) (fun v hv => by simp only [List.mem_cons, List.not_mem_nil, or_false] at hv; rcases hv with rfl | rfl <;> first | rfl | assumption) (Nat.le_of_ble_eq_true rfl) h
theorem sX7_told_0 {g : ZG} {Q : ZQ} {d cN sN : Nat} {M : ZM} {l1 : Int32} {o0 : Option Value}  (kt : (l1 : Int32) = 0 → Z g kX7_told Q d cN sN M 11 [o0, some (.int l1)] []) (kf : ¬ (l1 : Int32) = 0 → Z g kX7_told Q d cN sN M 4 [o0, some (.int l1)] []) : Z g kX7_told Q d cN sN M 0 [o0, some (.int l1)] [] := by
  refine zi_iload_n dX7_told_0 rfl ?_
  exact zi_if_eq (tgt := 11) dX7_told_1 (by decide +kernel) kt kf
theorem sX7_told_4 {g : ZG} {Q : ZQ} {d cN sN : Nat} {M : ZM} {l0 : Nat} {fs1 : List Value} {y3 : Int32} {o1 : Option Value} (h2 : M.1 l0 = some (.inr (6, fs1))) (h4 : (fs1)[1]? = some (.int y3)) (kk : Z g kX7_told Q d cN sN M 15 [some (.ref l0), o1] [.int y3]) : Z g kX7_told Q d cN sN M 4 [some (.ref l0), o1] [] := by
  refine zi_aload_n dX7_told_4 rfl zrf_r ?_
  refine zi_getfield dX7_told_5 rfl h2 h4 ?_
  exact zi_goto (tgt := 15) dX7_told_8 (by decide +kernel) kk
theorem sX7_told_11 {g : ZG} {Q : ZQ} {d cN sN : Nat} {M : ZM} {l0 : Nat} {fs1 : List Value} {y3 : Int32} {o1 : Option Value} (h2 : M.1 l0 = some (.inr (6, fs1))) (h4 : (fs1)[0]? = some (.int y3)) (kk : Z g kX7_told Q d cN sN M 15 [some (.ref l0), o1] [.int y3]) : Z g kX7_told Q d cN sN M 11 [some (.ref l0), o1] [] := by
  refine zi_aload_n dX7_told_11 rfl zrf_r ?_
  refine zi_getfield dX7_told_12 rfl h2 h4 ?_
  exact kk
theorem sX7_told_15 {g : ZG} {Q : ZQ} {d cN sN : Nat} {M : ZM} {t0 : Int32} {o0 o1 : Option Value}  (kk : Q.1 (some (.int t0)) M) : Z g kX7_told Q d cN sN M 15 [o0, o1] [.int t0] := by
  exact zi_ireturn dX7_told_15 rfl rfl kk
/-! ErrataPress$Fault (printed by gen_m.py) -/
set_option maxRecDepth 100000
abbrev cX8_init : ByteArray := prog_2_method_1_code
def yX8_init : MethodName := ⟨RX8, "<init>", "()V"⟩
theorem dX8_init_0 : decode cX8_init 0 = .ok (.aload_n 0, 1) := by decide +kernel
theorem dX8_init_1 : decode cX8_init 1 = .ok (.invokespecial 1, 3) := by decide +kernel
theorem dX8_init_4 : decode cX8_init 4 = .ok (.return_, 1) := by decide +kernel
def fX8 : List ZE := []
theorem fokX8 : zFok RX8 fX8 := fun _ h => by cases h
abbrev kX8_init : ZK := (RX8, cX8_init, 1, (Option.none : Option Jvm.ClassFile.FieldType), [], true, fX8)
abbrev tX8_init (g : ZG) (args : List Value) (M : ZM) (d c s : Nat) (Q : ZQ) : Prop := Ct g yX8_init (ws_ yX8_init cX8_init 1 (Option.none : Option Jvm.ClassFile.FieldType)) args M d c s Q
abbrev nX8_init : Nat := 4
theorem mX8_init : zMok yX8_init 0 1 := ⟨⟨by decide +kernel, by decide +kernel, by decide +kernel⟩, by decide⟩
theorem eX8_init {g : ZG} {Q : ZQ} {d cN sN : Nat} {M : ZM} {a0 : Nat} (hV : zV g) (h : Z g kX8_init Q d cN sN M 0 [some (.ref a0)] []) : tX8_init g [.ref a0] M d cN sN Q := Ct.of (K := kX8_init) rfl (by decide +kernel) hV fokX8 rfl (fun h => rfl) (fun v hv => by simp only [List.mem_cons, List.not_mem_nil, or_false] at hv; rcases hv with rfl <;> first | rfl | assumption) (Nat.le_of_ble_eq_true rfl) h
theorem sX8_init_0 {g : ZG} {Q : ZQ} {d cN sN : Nat} {M : ZM} {l0 : Nat}  (kk : Z g kX8_init Q d cN sN M 1 [some (.ref l0)] [.ref l0]) : Z g kX8_init Q d cN sN M 0 [some (.ref l0)] [] := by
  refine zi_aload_n dX8_init_0 rfl zrf_r ?_
  exact kk
theorem sX8_init_4 {g : ZG} {Q : ZQ} {d cN sN : Nat} {M : ZM} {o0 : Option Value}  (kk : Q.1 none M) : Z g kX8_init Q d cN sN M 4 [o0] [] := by
  exact zi_return dX8_init_4 rfl kk
/-! ErrataPress$Misfit (printed by gen_m.py) -/
set_option maxRecDepth 100000
abbrev cX9_init : ByteArray := prog_5_method_1_code
def yX9_init : MethodName := ⟨RX9, "<init>", "()V"⟩
theorem dX9_init_0 : decode cX9_init 0 = .ok (.aload_n 0, 1) := by decide +kernel
theorem dX9_init_1 : decode cX9_init 1 = .ok (.invokespecial 1, 3) := by decide +kernel
theorem dX9_init_4 : decode cX9_init 4 = .ok (.return_, 1) := by decide +kernel
def fX9 : List ZE := []
theorem fokX9 : zFok RX9 fX9 := fun _ h => by cases h
abbrev kX9_init : ZK := (RX9, cX9_init, 1, (Option.none : Option Jvm.ClassFile.FieldType), [], true, fX9)
abbrev tX9_init (g : ZG) (args : List Value) (M : ZM) (d c s : Nat) (Q : ZQ) : Prop := Ct g yX9_init (ws_ yX9_init cX9_init 1 (Option.none : Option Jvm.ClassFile.FieldType)) args M d c s Q
abbrev nX9_init : Nat := 4
theorem mX9_init : zMok yX9_init 0 1 := ⟨⟨by decide +kernel, by decide +kernel, by decide +kernel⟩, by decide⟩
theorem eX9_init {g : ZG} {Q : ZQ} {d cN sN : Nat} {M : ZM} {a0 : Nat} (hV : zV g) (h : Z g kX9_init Q d cN sN M 0 [some (.ref a0)] []) : tX9_init g [.ref a0] M d cN sN Q := Ct.of (K := kX9_init) rfl (by decide +kernel) hV fokX9 rfl (fun h => rfl) (fun v hv => by simp only [List.mem_cons, List.not_mem_nil, or_false] at hv; rcases hv with rfl <;> first | rfl | assumption) (Nat.le_of_ble_eq_true rfl) h
theorem sX9_init_0 {g : ZG} {Q : ZQ} {d cN sN : Nat} {M : ZM} {l0 : Nat}  (kk : Z g kX9_init Q d cN sN M 1 [some (.ref l0)] [.ref l0]) : Z g kX9_init Q d cN sN M 0 [some (.ref l0)] [] := by
  refine zi_aload_n dX9_init_0 rfl zrf_r ?_
  exact kk
theorem sX9_init_4 {g : ZG} {Q : ZQ} {d cN sN : Nat} {M : ZM} {o0 : Option Value}  (kk : Q.1 none M) : Z g kX9_init Q d cN sN M 4 [o0] [] := by
  exact zi_return dX9_init_4 rfl kk
