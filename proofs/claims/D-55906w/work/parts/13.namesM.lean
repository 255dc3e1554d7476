/-! ErrataPressModel (printed by gen_m.py) -/
set_option maxRecDepth 100000
abbrev cX6_init : ByteArray := prog_12_method_1_code
def yX6_init : MethodName := ⟨RX6, "<init>", "()V"⟩
def dkwX6_init_3 : List UInt8 := [177]
abbrev dktX6_init_3 : List UInt8 := dkwX6_init_3 ++ []
def dkwX6_init_2 : List UInt8 := [181, 0, 22, 42, 2, 181, 0, 25, 42, 16, 40, 188, 5, 181, 0, 29, 42, 16, 124, 188, 10, 181, 0, 33]
abbrev dktX6_init_2 : List UInt8 := dkwX6_init_2 ++ dktX6_init_3
def dkwX6_init_1 : List UInt8 := [17, 0, 240, 188, 10, 181, 0, 16, 42, 17, 0, 240, 188, 10, 181, 0, 19, 42, 16, 60, 188, 10]
abbrev dktX6_init_1 : List UInt8 := dkwX6_init_1 ++ dktX6_init_2
def dkwX6_init_0 : List UInt8 := [42, 183, 0, 1, 42, 17, 0, 240, 188, 10, 181, 0, 7, 42, 17, 7, 128, 188, 10, 181, 0, 13, 42]
abbrev dktX6_init_0 : List UInt8 := dkwX6_init_0 ++ dktX6_init_1
theorem dksX6_init_0 : cX6_init.data.toList.drop 0 = dktX6_init_0 := by decide +kernel
theorem dksX6_init_1 : cX6_init.data.toList.drop 23 = dktX6_init_1 := dk_seg dksX6_init_0 23 rfl rfl
theorem dksX6_init_2 : cX6_init.data.toList.drop 45 = dktX6_init_2 := dk_seg dksX6_init_1 22 rfl rfl
theorem dksX6_init_3 : cX6_init.data.toList.drop 69 = dktX6_init_3 := dk_seg dksX6_init_2 24 rfl rfl
theorem dX6_init_0 : decode cX6_init 0 = .ok (.aload_n 0, 1) := dk_42 (dk_at dksX6_init_0 0 rfl rfl)
theorem dX6_init_1 : decode cX6_init 1 = .ok (.invokespecial 1, 3) := dk_183 0 1 (dk_at dksX6_init_0 1 rfl rfl)
theorem dX6_init_4 : decode cX6_init 4 = .ok (.aload_n 0, 1) := dk_42 (dk_at dksX6_init_0 4 rfl rfl)
theorem dX6_init_5 : decode cX6_init 5 = .ok (.sipush 240, 3) := dk_17 0 240 (dk_at dksX6_init_0 5 rfl rfl)
theorem dX6_init_8 : decode cX6_init 8 = .ok (.newarray .int, 2) := dk_188_10 (dk_at dksX6_init_0 8 rfl rfl)
theorem dX6_init_10 : decode cX6_init 10 = .ok (.putfield 7, 3) := dk_181 0 7 (dk_at dksX6_init_0 10 rfl rfl)
theorem dX6_init_13 : decode cX6_init 13 = .ok (.aload_n 0, 1) := dk_42 (dk_at dksX6_init_0 13 rfl rfl)
theorem dX6_init_14 : decode cX6_init 14 = .ok (.sipush 1920, 3) := dk_17 7 128 (dk_at dksX6_init_0 14 rfl rfl)
theorem dX6_init_17 : decode cX6_init 17 = .ok (.newarray .int, 2) := dk_188_10 (dk_at dksX6_init_0 17 rfl rfl)
theorem dX6_init_19 : decode cX6_init 19 = .ok (.putfield 13, 3) := dk_181 0 13 (dk_at dksX6_init_0 19 rfl rfl)
theorem dX6_init_22 : decode cX6_init 22 = .ok (.aload_n 0, 1) := dk_42 (dk_at dksX6_init_0 22 rfl rfl)
theorem dX6_init_23 : decode cX6_init 23 = .ok (.sipush 240, 3) := dk_17 0 240 (dk_at dksX6_init_1 0 rfl rfl)
theorem dX6_init_26 : decode cX6_init 26 = .ok (.newarray .int, 2) := dk_188_10 (dk_at dksX6_init_1 3 rfl rfl)
theorem dX6_init_28 : decode cX6_init 28 = .ok (.putfield 16, 3) := dk_181 0 16 (dk_at dksX6_init_1 5 rfl rfl)
theorem dX6_init_31 : decode cX6_init 31 = .ok (.aload_n 0, 1) := dk_42 (dk_at dksX6_init_1 8 rfl rfl)
theorem dX6_init_32 : decode cX6_init 32 = .ok (.sipush 240, 3) := dk_17 0 240 (dk_at dksX6_init_1 9 rfl rfl)
theorem dX6_init_35 : decode cX6_init 35 = .ok (.newarray .int, 2) := dk_188_10 (dk_at dksX6_init_1 12 rfl rfl)
theorem dX6_init_37 : decode cX6_init 37 = .ok (.putfield 19, 3) := dk_181 0 19 (dk_at dksX6_init_1 14 rfl rfl)
theorem dX6_init_40 : decode cX6_init 40 = .ok (.aload_n 0, 1) := dk_42 (dk_at dksX6_init_1 17 rfl rfl)
theorem dX6_init_41 : decode cX6_init 41 = .ok (.bipush 60, 2) := dk_16 60 (dk_at dksX6_init_1 18 rfl rfl)
theorem dX6_init_43 : decode cX6_init 43 = .ok (.newarray .int, 2) := dk_188_10 (dk_at dksX6_init_1 20 rfl rfl)
theorem dX6_init_45 : decode cX6_init 45 = .ok (.putfield 22, 3) := dk_181 0 22 (dk_at dksX6_init_2 0 rfl rfl)
theorem dX6_init_48 : decode cX6_init 48 = .ok (.aload_n 0, 1) := dk_42 (dk_at dksX6_init_2 3 rfl rfl)
theorem dX6_init_49 : decode cX6_init 49 = .ok (.iconst (-1), 1) := dk_2 (dk_at dksX6_init_2 4 rfl rfl)
theorem dX6_init_50 : decode cX6_init 50 = .ok (.putfield 25, 3) := dk_181 0 25 (dk_at dksX6_init_2 5 rfl rfl)
theorem dX6_init_53 : decode cX6_init 53 = .ok (.aload_n 0, 1) := dk_42 (dk_at dksX6_init_2 8 rfl rfl)
theorem dX6_init_54 : decode cX6_init 54 = .ok (.bipush 40, 2) := dk_16 40 (dk_at dksX6_init_2 9 rfl rfl)
theorem dX6_init_56 : decode cX6_init 56 = .ok (.newarray .char, 2) := dk_188_5 (dk_at dksX6_init_2 11 rfl rfl)
theorem dX6_init_58 : decode cX6_init 58 = .ok (.putfield 29, 3) := dk_181 0 29 (dk_at dksX6_init_2 13 rfl rfl)
theorem dX6_init_61 : decode cX6_init 61 = .ok (.aload_n 0, 1) := dk_42 (dk_at dksX6_init_2 16 rfl rfl)
theorem dX6_init_62 : decode cX6_init 62 = .ok (.bipush 124, 2) := dk_16 124 (dk_at dksX6_init_2 17 rfl rfl)
theorem dX6_init_64 : decode cX6_init 64 = .ok (.newarray .int, 2) := dk_188_10 (dk_at dksX6_init_2 19 rfl rfl)
theorem dX6_init_66 : decode cX6_init 66 = .ok (.putfield 33, 3) := dk_181 0 33 (dk_at dksX6_init_2 21 rfl rfl)
theorem dX6_init_69 : decode cX6_init 69 = .ok (.return_, 1) := dk_177 (dk_at dksX6_init_3 0 rfl rfl)
abbrev cX6_thrown : ByteArray := prog_12_method_2_code
def yX6_thrown : MethodName := ⟨RX6, "thrown", "()I"⟩
theorem dX6_thrown_0 : decode cX6_thrown 0 = .ok (.aload_n 0, 1) := by decide +kernel
theorem dX6_thrown_1 : decode cX6_thrown 1 = .ok (.getfield 36, 3) := by decide +kernel
theorem dX6_thrown_4 : decode cX6_thrown 4 = .ok (.ireturn, 1) := by decide +kernel
abbrev cX6_house : ByteArray := prog_12_method_20_code
def yX6_house : MethodName := ⟨RX6, "house", "(I)I"⟩
def dkwX6_house_4 : List UInt8 := [28, 3, 27, 182, 0, 97, 28, 172]
abbrev dktX6_house_4 : List UInt8 := dkwX6_house_4 ++ []
def dkwX6_house_3 : List UInt8 := [162, 0, 23, 42, 180, 0, 7, 16, 10, 6, 28, 104, 96, 29, 96, 3, 79, 132, 3, 1, 167, 255, 234, 42]
abbrev dktX6_house_3 : List UInt8 := dkwX6_house_3 ++ dktX6_house_4
def dkwX6_house_2 : List UInt8 := [182, 0, 93, 42, 180, 0, 7, 3, 46, 61, 42, 180, 0, 7, 3, 92, 46, 4, 96, 79, 3, 62, 29, 6]
abbrev dktX6_house_2 : List UInt8 := dkwX6_house_2 ++ dktX6_house_3
def dkwX6_house_1 : List UInt8 := [42, 180, 0, 7, 3, 46, 7, 160, 0, 11, 42, 5, 4, 7, 182, 0, 89, 172, 42, 42, 180, 0, 7]
abbrev dktX6_house_1 : List UInt8 := dkwX6_house_1 ++ dktX6_house_2
def dkwX6_house_0 : List UInt8 := [42, 27, 3, 16, 99, 184, 0, 72, 153, 0, 7, 3, 167, 0, 4, 4, 182, 0, 86, 153, 0, 5, 3, 172]
abbrev dktX6_house_0 : List UInt8 := dkwX6_house_0 ++ dktX6_house_1
theorem dksX6_house_0 : cX6_house.data.toList.drop 0 = dktX6_house_0 := by decide +kernel
theorem dksX6_house_1 : cX6_house.data.toList.drop 24 = dktX6_house_1 := dk_seg dksX6_house_0 24 rfl rfl
theorem dksX6_house_2 : cX6_house.data.toList.drop 47 = dktX6_house_2 := dk_seg dksX6_house_1 23 rfl rfl
theorem dksX6_house_3 : cX6_house.data.toList.drop 71 = dktX6_house_3 := dk_seg dksX6_house_2 24 rfl rfl
theorem dksX6_house_4 : cX6_house.data.toList.drop 95 = dktX6_house_4 := dk_seg dksX6_house_3 24 rfl rfl
theorem dX6_house_0 : decode cX6_house 0 = .ok (.aload_n 0, 1) := dk_42 (dk_at dksX6_house_0 0 rfl rfl)
theorem dX6_house_1 : decode cX6_house 1 = .ok (.iload_n 1, 1) := dk_27 (dk_at dksX6_house_0 1 rfl rfl)
theorem dX6_house_2 : decode cX6_house 2 = .ok (.iconst 0, 1) := dk_3 (dk_at dksX6_house_0 2 rfl rfl)
theorem dX6_house_3 : decode cX6_house 3 = .ok (.bipush 99, 2) := dk_16 99 (dk_at dksX6_house_0 3 rfl rfl)
theorem dX6_house_5 : decode cX6_house 5 = .ok (.invokestatic 72, 3) := dk_184 0 72 (dk_at dksX6_house_0 5 rfl rfl)
theorem dX6_house_8 : decode cX6_house 8 = .ok (.ifCond .eq 7, 3) := dk_153 0 7 (dk_at dksX6_house_0 8 rfl rfl)
theorem dX6_house_11 : decode cX6_house 11 = .ok (.iconst 0, 1) := dk_3 (dk_at dksX6_house_0 11 rfl rfl)
theorem dX6_house_12 : decode cX6_house 12 = .ok (.goto 4, 3) := dk_167 0 4 (dk_at dksX6_house_0 12 rfl rfl)
theorem dX6_house_15 : decode cX6_house 15 = .ok (.iconst 1, 1) := dk_4 (dk_at dksX6_house_0 15 rfl rfl)
theorem dX6_house_16 : decode cX6_house 16 = .ok (.invokevirtual 86, 3) := dk_182 0 86 (dk_at dksX6_house_0 16 rfl rfl)
theorem dX6_house_19 : decode cX6_house 19 = .ok (.ifCond .eq 5, 3) := dk_153 0 5 (dk_at dksX6_house_0 19 rfl rfl)
theorem dX6_house_22 : decode cX6_house 22 = .ok (.iconst 0, 1) := dk_3 (dk_at dksX6_house_0 22 rfl rfl)
theorem dX6_house_23 : decode cX6_house 23 = .ok (.ireturn, 1) := dk_172 (dk_at dksX6_house_0 23 rfl rfl)
theorem dX6_house_24 : decode cX6_house 24 = .ok (.aload_n 0, 1) := dk_42 (dk_at dksX6_house_1 0 rfl rfl)
theorem dX6_house_25 : decode cX6_house 25 = .ok (.getfield 7, 3) := dk_180 0 7 (dk_at dksX6_house_1 1 rfl rfl)
theorem dX6_house_28 : decode cX6_house 28 = .ok (.iconst 0, 1) := dk_3 (dk_at dksX6_house_1 4 rfl rfl)
theorem dX6_house_29 : decode cX6_house 29 = .ok (.iaload, 1) := dk_46 (dk_at dksX6_house_1 5 rfl rfl)
theorem dX6_house_30 : decode cX6_house 30 = .ok (.iconst 4, 1) := dk_7 (dk_at dksX6_house_1 6 rfl rfl)
theorem dX6_house_31 : decode cX6_house 31 = .ok (.if_icmp .ne 11, 3) := dk_160 0 11 (dk_at dksX6_house_1 7 rfl rfl)
theorem dX6_house_34 : decode cX6_house 34 = .ok (.aload_n 0, 1) := dk_42 (dk_at dksX6_house_1 10 rfl rfl)
theorem dX6_house_35 : decode cX6_house 35 = .ok (.iconst 2, 1) := dk_5 (dk_at dksX6_house_1 11 rfl rfl)
theorem dX6_house_36 : decode cX6_house 36 = .ok (.iconst 1, 1) := dk_4 (dk_at dksX6_house_1 12 rfl rfl)
theorem dX6_house_37 : decode cX6_house 37 = .ok (.iconst 4, 1) := dk_7 (dk_at dksX6_house_1 13 rfl rfl)
theorem dX6_house_38 : decode cX6_house 38 = .ok (.invokevirtual 89, 3) := dk_182 0 89 (dk_at dksX6_house_1 14 rfl rfl)
theorem dX6_house_41 : decode cX6_house 41 = .ok (.ireturn, 1) := dk_172 (dk_at dksX6_house_1 17 rfl rfl)
theorem dX6_house_42 : decode cX6_house 42 = .ok (.aload_n 0, 1) := dk_42 (dk_at dksX6_house_1 18 rfl rfl)
theorem dX6_house_43 : decode cX6_house 43 = .ok (.aload_n 0, 1) := dk_42 (dk_at dksX6_house_1 19 rfl rfl)
theorem dX6_house_44 : decode cX6_house 44 = .ok (.getfield 7, 3) := dk_180 0 7 (dk_at dksX6_house_1 20 rfl rfl)
theorem dX6_house_47 : decode cX6_house 47 = .ok (.invokevirtual 93, 3) := dk_182 0 93 (dk_at dksX6_house_2 0 rfl rfl)
theorem dX6_house_50 : decode cX6_house 50 = .ok (.aload_n 0, 1) := dk_42 (dk_at dksX6_house_2 3 rfl rfl)
theorem dX6_house_51 : decode cX6_house 51 = .ok (.getfield 7, 3) := dk_180 0 7 (dk_at dksX6_house_2 4 rfl rfl)
theorem dX6_house_54 : decode cX6_house 54 = .ok (.iconst 0, 1) := dk_3 (dk_at dksX6_house_2 7 rfl rfl)
theorem dX6_house_55 : decode cX6_house 55 = .ok (.iaload, 1) := dk_46 (dk_at dksX6_house_2 8 rfl rfl)
theorem dX6_house_56 : decode cX6_house 56 = .ok (.istore_n 2, 1) := dk_61 (dk_at dksX6_house_2 9 rfl rfl)
theorem dX6_house_57 : decode cX6_house 57 = .ok (.aload_n 0, 1) := dk_42 (dk_at dksX6_house_2 10 rfl rfl)
theorem dX6_house_58 : decode cX6_house 58 = .ok (.getfield 7, 3) := dk_180 0 7 (dk_at dksX6_house_2 11 rfl rfl)
theorem dX6_house_61 : decode cX6_house 61 = .ok (.iconst 0, 1) := dk_3 (dk_at dksX6_house_2 14 rfl rfl)
theorem dX6_house_62 : decode cX6_house 62 = .ok (.dup2, 1) := dk_92 (dk_at dksX6_house_2 15 rfl rfl)
theorem dX6_house_63 : decode cX6_house 63 = .ok (.iaload, 1) := dk_46 (dk_at dksX6_house_2 16 rfl rfl)
theorem dX6_house_64 : decode cX6_house 64 = .ok (.iconst 1, 1) := dk_4 (dk_at dksX6_house_2 17 rfl rfl)
theorem dX6_house_65 : decode cX6_house 65 = .ok (.iadd, 1) := dk_96 (dk_at dksX6_house_2 18 rfl rfl)
theorem dX6_house_66 : decode cX6_house 66 = .ok (.iastore, 1) := dk_79 (dk_at dksX6_house_2 19 rfl rfl)
theorem dX6_house_67 : decode cX6_house 67 = .ok (.iconst 0, 1) := dk_3 (dk_at dksX6_house_2 20 rfl rfl)
theorem dX6_house_68 : decode cX6_house 68 = .ok (.istore_n 3, 1) := dk_62 (dk_at dksX6_house_2 21 rfl rfl)
theorem dX6_house_69 : decode cX6_house 69 = .ok (.iload_n 3, 1) := dk_29 (dk_at dksX6_house_2 22 rfl rfl)
theorem dX6_house_70 : decode cX6_house 70 = .ok (.iconst 3, 1) := dk_6 (dk_at dksX6_house_2 23 rfl rfl)
theorem dX6_house_71 : decode cX6_house 71 = .ok (.if_icmp .ge 23, 3) := dk_162 0 23 (dk_at dksX6_house_3 0 rfl rfl)
theorem dX6_house_74 : decode cX6_house 74 = .ok (.aload_n 0, 1) := dk_42 (dk_at dksX6_house_3 3 rfl rfl)
theorem dX6_house_75 : decode cX6_house 75 = .ok (.getfield 7, 3) := dk_180 0 7 (dk_at dksX6_house_3 4 rfl rfl)
theorem dX6_house_78 : decode cX6_house 78 = .ok (.bipush 10, 2) := dk_16 10 (dk_at dksX6_house_3 7 rfl rfl)
theorem dX6_house_80 : decode cX6_house 80 = .ok (.iconst 3, 1) := dk_6 (dk_at dksX6_house_3 9 rfl rfl)
theorem dX6_house_81 : decode cX6_house 81 = .ok (.iload_n 2, 1) := dk_28 (dk_at dksX6_house_3 10 rfl rfl)
theorem dX6_house_82 : decode cX6_house 82 = .ok (.imul, 1) := dk_104 (dk_at dksX6_house_3 11 rfl rfl)
theorem dX6_house_83 : decode cX6_house 83 = .ok (.iadd, 1) := dk_96 (dk_at dksX6_house_3 12 rfl rfl)
theorem dX6_house_84 : decode cX6_house 84 = .ok (.iload_n 3, 1) := dk_29 (dk_at dksX6_house_3 13 rfl rfl)
theorem dX6_house_85 : decode cX6_house 85 = .ok (.iadd, 1) := dk_96 (dk_at dksX6_house_3 14 rfl rfl)
theorem dX6_house_86 : decode cX6_house 86 = .ok (.iconst 0, 1) := dk_3 (dk_at dksX6_house_3 15 rfl rfl)
theorem dX6_house_87 : decode cX6_house 87 = .ok (.iastore, 1) := dk_79 (dk_at dksX6_house_3 16 rfl rfl)
theorem dX6_house_88 : decode cX6_house 88 = .ok (.iinc 3 1, 3) := dk_132 3 1 (dk_at dksX6_house_3 17 rfl rfl)
theorem dX6_house_91 : decode cX6_house 91 = .ok (.goto (-22), 3) := dk_167 255 234 (dk_at dksX6_house_3 20 rfl rfl)
theorem dX6_house_94 : decode cX6_house 94 = .ok (.aload_n 0, 1) := dk_42 (dk_at dksX6_house_3 23 rfl rfl)
theorem dX6_house_95 : decode cX6_house 95 = .ok (.iload_n 2, 1) := dk_28 (dk_at dksX6_house_4 0 rfl rfl)
theorem dX6_house_96 : decode cX6_house 96 = .ok (.iconst 0, 1) := dk_3 (dk_at dksX6_house_4 1 rfl rfl)
theorem dX6_house_97 : decode cX6_house 97 = .ok (.iload_n 1, 1) := dk_27 (dk_at dksX6_house_4 2 rfl rfl)
theorem dX6_house_98 : decode cX6_house 98 = .ok (.invokevirtual 97, 3) := dk_182 0 97 (dk_at dksX6_house_4 3 rfl rfl)
theorem dX6_house_101 : decode cX6_house 101 = .ok (.iload_n 2, 1) := dk_28 (dk_at dksX6_house_4 6 rfl rfl)
theorem dX6_house_102 : decode cX6_house 102 = .ok (.ireturn, 1) := dk_172 (dk_at dksX6_house_4 7 rfl rfl)
abbrev cX6_in : ByteArray := prog_12_method_5_code
def yX6_in : MethodName := ⟨RX6, "in", "(III)Z"⟩
def dkwX6_in_0 : List UInt8 := [26, 27, 161, 0, 12, 26, 28, 163, 0, 7, 4, 167, 0, 4, 3, 172]
abbrev dktX6_in_0 : List UInt8 := dkwX6_in_0 ++ []
theorem dksX6_in_0 : cX6_in.data.toList.drop 0 = dktX6_in_0 := by decide +kernel
theorem dX6_in_0 : decode cX6_in 0 = .ok (.iload_n 0, 1) := dk_26 (dk_at dksX6_in_0 0 rfl rfl)
theorem dX6_in_1 : decode cX6_in 1 = .ok (.iload_n 1, 1) := dk_27 (dk_at dksX6_in_0 1 rfl rfl)
theorem dX6_in_2 : decode cX6_in 2 = .ok (.if_icmp .lt 12, 3) := dk_161 0 12 (dk_at dksX6_in_0 2 rfl rfl)
theorem dX6_in_5 : decode cX6_in 5 = .ok (.iload_n 0, 1) := dk_26 (dk_at dksX6_in_0 5 rfl rfl)
theorem dX6_in_6 : decode cX6_in 6 = .ok (.iload_n 2, 1) := dk_28 (dk_at dksX6_in_0 6 rfl rfl)
theorem dX6_in_7 : decode cX6_in 7 = .ok (.if_icmp .gt 7, 3) := dk_163 0 7 (dk_at dksX6_in_0 7 rfl rfl)
theorem dX6_in_10 : decode cX6_in 10 = .ok (.iconst 1, 1) := dk_4 (dk_at dksX6_in_0 10 rfl rfl)
theorem dX6_in_11 : decode cX6_in 11 = .ok (.goto 4, 3) := dk_167 0 4 (dk_at dksX6_in_0 11 rfl rfl)
theorem dX6_in_14 : decode cX6_in 14 = .ok (.iconst 0, 1) := dk_3 (dk_at dksX6_in_0 14 rfl rfl)
theorem dX6_in_15 : decode cX6_in 15 = .ok (.ireturn, 1) := dk_172 (dk_at dksX6_in_0 15 rfl rfl)
abbrev cX6_fails : ByteArray := prog_12_method_3_code
def yX6_fails : MethodName := ⟨RX6, "fails", "(I)Z"⟩
def dkwX6_fails_0 : List UInt8 := [42, 27, 181, 0, 36, 42, 3, 181, 0, 39, 27, 158, 0, 7, 4, 167, 0, 4, 3, 172]
abbrev dktX6_fails_0 : List UInt8 := dkwX6_fails_0 ++ []
theorem dksX6_fails_0 : cX6_fails.data.toList.drop 0 = dktX6_fails_0 := by decide +kernel
theorem dX6_fails_0 : decode cX6_fails 0 = .ok (.aload_n 0, 1) := dk_42 (dk_at dksX6_fails_0 0 rfl rfl)
theorem dX6_fails_1 : decode cX6_fails 1 = .ok (.iload_n 1, 1) := dk_27 (dk_at dksX6_fails_0 1 rfl rfl)
theorem dX6_fails_2 : decode cX6_fails 2 = .ok (.putfield 36, 3) := dk_181 0 36 (dk_at dksX6_fails_0 2 rfl rfl)
theorem dX6_fails_5 : decode cX6_fails 5 = .ok (.aload_n 0, 1) := dk_42 (dk_at dksX6_fails_0 5 rfl rfl)
theorem dX6_fails_6 : decode cX6_fails 6 = .ok (.iconst 0, 1) := dk_3 (dk_at dksX6_fails_0 6 rfl rfl)
theorem dX6_fails_7 : decode cX6_fails 7 = .ok (.putfield 39, 3) := dk_181 0 39 (dk_at dksX6_fails_0 7 rfl rfl)
theorem dX6_fails_10 : decode cX6_fails 10 = .ok (.iload_n 1, 1) := dk_27 (dk_at dksX6_fails_0 10 rfl rfl)
theorem dX6_fails_11 : decode cX6_fails 11 = .ok (.ifCond .le 7, 3) := dk_158 0 7 (dk_at dksX6_fails_0 11 rfl rfl)
theorem dX6_fails_14 : decode cX6_fails 14 = .ok (.iconst 1, 1) := dk_4 (dk_at dksX6_fails_0 14 rfl rfl)
theorem dX6_fails_15 : decode cX6_fails 15 = .ok (.goto 4, 3) := dk_167 0 4 (dk_at dksX6_fails_0 15 rfl rfl)
theorem dX6_fails_18 : decode cX6_fails 18 = .ok (.iconst 0, 1) := dk_3 (dk_at dksX6_fails_0 18 rfl rfl)
theorem dX6_fails_19 : decode cX6_fails 19 = .ok (.ireturn, 1) := dk_172 (dk_at dksX6_fails_0 19 rfl rfl)
abbrev cX6_refuses : ByteArray := prog_12_method_4_code
def yX6_refuses : MethodName := ⟨RX6, "refuses", "(III)I"⟩
def dkwX6_refuses_1 : List UInt8 := [181, 0, 49, 42, 3, 181, 0, 52, 3, 172]
abbrev dktX6_refuses_1 : List UInt8 := dkwX6_refuses_1 ++ []
def dkwX6_refuses_0 : List UInt8 := [42, 27, 181, 0, 36, 42, 4, 181, 0, 39, 42, 28, 181, 0, 43, 42, 29, 181, 0, 46, 42, 3]
abbrev dktX6_refuses_0 : List UInt8 := dkwX6_refuses_0 ++ dktX6_refuses_1
theorem dksX6_refuses_0 : cX6_refuses.data.toList.drop 0 = dktX6_refuses_0 := by decide +kernel
theorem dksX6_refuses_1 : cX6_refuses.data.toList.drop 22 = dktX6_refuses_1 := dk_seg dksX6_refuses_0 22 rfl rfl
theorem dX6_refuses_0 : decode cX6_refuses 0 = .ok (.aload_n 0, 1) := dk_42 (dk_at dksX6_refuses_0 0 rfl rfl)
theorem dX6_refuses_1 : decode cX6_refuses 1 = .ok (.iload_n 1, 1) := dk_27 (dk_at dksX6_refuses_0 1 rfl rfl)
theorem dX6_refuses_2 : decode cX6_refuses 2 = .ok (.putfield 36, 3) := dk_181 0 36 (dk_at dksX6_refuses_0 2 rfl rfl)
theorem dX6_refuses_5 : decode cX6_refuses 5 = .ok (.aload_n 0, 1) := dk_42 (dk_at dksX6_refuses_0 5 rfl rfl)
theorem dX6_refuses_6 : decode cX6_refuses 6 = .ok (.iconst 1, 1) := dk_4 (dk_at dksX6_refuses_0 6 rfl rfl)
theorem dX6_refuses_7 : decode cX6_refuses 7 = .ok (.putfield 39, 3) := dk_181 0 39 (dk_at dksX6_refuses_0 7 rfl rfl)
theorem dX6_refuses_10 : decode cX6_refuses 10 = .ok (.aload_n 0, 1) := dk_42 (dk_at dksX6_refuses_0 10 rfl rfl)
theorem dX6_refuses_11 : decode cX6_refuses 11 = .ok (.iload_n 2, 1) := dk_28 (dk_at dksX6_refuses_0 11 rfl rfl)
theorem dX6_refuses_12 : decode cX6_refuses 12 = .ok (.putfield 43, 3) := dk_181 0 43 (dk_at dksX6_refuses_0 12 rfl rfl)
theorem dX6_refuses_15 : decode cX6_refuses 15 = .ok (.aload_n 0, 1) := dk_42 (dk_at dksX6_refuses_0 15 rfl rfl)
theorem dX6_refuses_16 : decode cX6_refuses 16 = .ok (.iload_n 3, 1) := dk_29 (dk_at dksX6_refuses_0 16 rfl rfl)
theorem dX6_refuses_17 : decode cX6_refuses 17 = .ok (.putfield 46, 3) := dk_181 0 46 (dk_at dksX6_refuses_0 17 rfl rfl)
theorem dX6_refuses_20 : decode cX6_refuses 20 = .ok (.aload_n 0, 1) := dk_42 (dk_at dksX6_refuses_0 20 rfl rfl)
theorem dX6_refuses_21 : decode cX6_refuses 21 = .ok (.iconst 0, 1) := dk_3 (dk_at dksX6_refuses_0 21 rfl rfl)
theorem dX6_refuses_22 : decode cX6_refuses 22 = .ok (.putfield 49, 3) := dk_181 0 49 (dk_at dksX6_refuses_1 0 rfl rfl)
theorem dX6_refuses_25 : decode cX6_refuses 25 = .ok (.aload_n 0, 1) := dk_42 (dk_at dksX6_refuses_1 3 rfl rfl)
theorem dX6_refuses_26 : decode cX6_refuses 26 = .ok (.iconst 0, 1) := dk_3 (dk_at dksX6_refuses_1 4 rfl rfl)
theorem dX6_refuses_27 : decode cX6_refuses 27 = .ok (.putfield 52, 3) := dk_181 0 52 (dk_at dksX6_refuses_1 5 rfl rfl)
theorem dX6_refuses_30 : decode cX6_refuses 30 = .ok (.iconst 0, 1) := dk_3 (dk_at dksX6_refuses_1 8 rfl rfl)
theorem dX6_refuses_31 : decode cX6_refuses 31 = .ok (.ireturn, 1) := dk_172 (dk_at dksX6_refuses_1 9 rfl rfl)
abbrev cX6_keeps : ByteArray := prog_12_method_9_code
def yX6_keeps : MethodName := ⟨RX6, "keeps", "([I)V"⟩
def dkwX6_keeps_3 : List UInt8 := [17, 0, 240, 42, 180, 0, 58, 104, 184, 0, 61, 42, 89, 180, 0, 58, 4, 96, 181, 0, 58, 177]
abbrev dktX6_keeps_3 : List UInt8 := dkwX6_keeps_3 ++ []
def dkwX6_keeps_2 : List UInt8 := [132, 2, 1, 167, 255, 230, 42, 89, 180, 0, 58, 4, 100, 181, 0, 58, 43, 3, 42, 180, 0, 13]
abbrev dktX6_keeps_2 : List UInt8 := dkwX6_keeps_2 ++ dktX6_keeps_3
def dkwX6_keeps_1 : List UInt8 := [28, 17, 6, 144, 162, 0, 25, 42, 180, 0, 13, 28, 42, 180, 0, 13, 28, 17, 0, 240, 96, 46, 79]
abbrev dktX6_keeps_1 : List UInt8 := dkwX6_keeps_1 ++ dktX6_keeps_2
def dkwX6_keeps_0 : List UInt8 := [42, 3, 181, 0, 36, 42, 180, 0, 55, 153, 0, 4, 177, 42, 180, 0, 58, 16, 8, 160, 0, 44, 3, 61]
abbrev dktX6_keeps_0 : List UInt8 := dkwX6_keeps_0 ++ dktX6_keeps_1
theorem dksX6_keeps_0 : cX6_keeps.data.toList.drop 0 = dktX6_keeps_0 := by decide +kernel
theorem dksX6_keeps_1 : cX6_keeps.data.toList.drop 24 = dktX6_keeps_1 := dk_seg dksX6_keeps_0 24 rfl rfl
theorem dksX6_keeps_2 : cX6_keeps.data.toList.drop 47 = dktX6_keeps_2 := dk_seg dksX6_keeps_1 23 rfl rfl
theorem dksX6_keeps_3 : cX6_keeps.data.toList.drop 69 = dktX6_keeps_3 := dk_seg dksX6_keeps_2 22 rfl rfl
theorem dX6_keeps_0 : decode cX6_keeps 0 = .ok (.aload_n 0, 1) := dk_42 (dk_at dksX6_keeps_0 0 rfl rfl)
theorem dX6_keeps_1 : decode cX6_keeps 1 = .ok (.iconst 0, 1) := dk_3 (dk_at dksX6_keeps_0 1 rfl rfl)
theorem dX6_keeps_2 : decode cX6_keeps 2 = .ok (.putfield 36, 3) := dk_181 0 36 (dk_at dksX6_keeps_0 2 rfl rfl)
theorem dX6_keeps_5 : decode cX6_keeps 5 = .ok (.aload_n 0, 1) := dk_42 (dk_at dksX6_keeps_0 5 rfl rfl)
theorem dX6_keeps_6 : decode cX6_keeps 6 = .ok (.getfield 55, 3) := dk_180 0 55 (dk_at dksX6_keeps_0 6 rfl rfl)
theorem dX6_keeps_9 : decode cX6_keeps 9 = .ok (.ifCond .eq 4, 3) := dk_153 0 4 (dk_at dksX6_keeps_0 9 rfl rfl)
theorem dX6_keeps_12 : decode cX6_keeps 12 = .ok (.return_, 1) := dk_177 (dk_at dksX6_keeps_0 12 rfl rfl)
theorem dX6_keeps_13 : decode cX6_keeps 13 = .ok (.aload_n 0, 1) := dk_42 (dk_at dksX6_keeps_0 13 rfl rfl)
theorem dX6_keeps_14 : decode cX6_keeps 14 = .ok (.getfield 58, 3) := dk_180 0 58 (dk_at dksX6_keeps_0 14 rfl rfl)
theorem dX6_keeps_17 : decode cX6_keeps 17 = .ok (.bipush 8, 2) := dk_16 8 (dk_at dksX6_keeps_0 17 rfl rfl)
theorem dX6_keeps_19 : decode cX6_keeps 19 = .ok (.if_icmp .ne 44, 3) := dk_160 0 44 (dk_at dksX6_keeps_0 19 rfl rfl)
theorem dX6_keeps_22 : decode cX6_keeps 22 = .ok (.iconst 0, 1) := dk_3 (dk_at dksX6_keeps_0 22 rfl rfl)
theorem dX6_keeps_23 : decode cX6_keeps 23 = .ok (.istore_n 2, 1) := dk_61 (dk_at dksX6_keeps_0 23 rfl rfl)
theorem dX6_keeps_24 : decode cX6_keeps 24 = .ok (.iload_n 2, 1) := dk_28 (dk_at dksX6_keeps_1 0 rfl rfl)
theorem dX6_keeps_25 : decode cX6_keeps 25 = .ok (.sipush 1680, 3) := dk_17 6 144 (dk_at dksX6_keeps_1 1 rfl rfl)
theorem dX6_keeps_28 : decode cX6_keeps 28 = .ok (.if_icmp .ge 25, 3) := dk_162 0 25 (dk_at dksX6_keeps_1 4 rfl rfl)
theorem dX6_keeps_31 : decode cX6_keeps 31 = .ok (.aload_n 0, 1) := dk_42 (dk_at dksX6_keeps_1 7 rfl rfl)
theorem dX6_keeps_32 : decode cX6_keeps 32 = .ok (.getfield 13, 3) := dk_180 0 13 (dk_at dksX6_keeps_1 8 rfl rfl)
theorem dX6_keeps_35 : decode cX6_keeps 35 = .ok (.iload_n 2, 1) := dk_28 (dk_at dksX6_keeps_1 11 rfl rfl)
theorem dX6_keeps_36 : decode cX6_keeps 36 = .ok (.aload_n 0, 1) := dk_42 (dk_at dksX6_keeps_1 12 rfl rfl)
theorem dX6_keeps_37 : decode cX6_keeps 37 = .ok (.getfield 13, 3) := dk_180 0 13 (dk_at dksX6_keeps_1 13 rfl rfl)
theorem dX6_keeps_40 : decode cX6_keeps 40 = .ok (.iload_n 2, 1) := dk_28 (dk_at dksX6_keeps_1 16 rfl rfl)
theorem dX6_keeps_41 : decode cX6_keeps 41 = .ok (.sipush 240, 3) := dk_17 0 240 (dk_at dksX6_keeps_1 17 rfl rfl)
theorem dX6_keeps_44 : decode cX6_keeps 44 = .ok (.iadd, 1) := dk_96 (dk_at dksX6_keeps_1 20 rfl rfl)
theorem dX6_keeps_45 : decode cX6_keeps 45 = .ok (.iaload, 1) := dk_46 (dk_at dksX6_keeps_1 21 rfl rfl)
theorem dX6_keeps_46 : decode cX6_keeps 46 = .ok (.iastore, 1) := dk_79 (dk_at dksX6_keeps_1 22 rfl rfl)
theorem dX6_keeps_47 : decode cX6_keeps 47 = .ok (.iinc 2 1, 3) := dk_132 2 1 (dk_at dksX6_keeps_2 0 rfl rfl)
theorem dX6_keeps_50 : decode cX6_keeps 50 = .ok (.goto (-26), 3) := dk_167 255 230 (dk_at dksX6_keeps_2 3 rfl rfl)
theorem dX6_keeps_53 : decode cX6_keeps 53 = .ok (.aload_n 0, 1) := dk_42 (dk_at dksX6_keeps_2 6 rfl rfl)
theorem dX6_keeps_54 : decode cX6_keeps 54 = .ok (.dup, 1) := dk_89 (dk_at dksX6_keeps_2 7 rfl rfl)
theorem dX6_keeps_55 : decode cX6_keeps 55 = .ok (.getfield 58, 3) := dk_180 0 58 (dk_at dksX6_keeps_2 8 rfl rfl)
theorem dX6_keeps_58 : decode cX6_keeps 58 = .ok (.iconst 1, 1) := dk_4 (dk_at dksX6_keeps_2 11 rfl rfl)
theorem dX6_keeps_59 : decode cX6_keeps 59 = .ok (.isub, 1) := dk_100 (dk_at dksX6_keeps_2 12 rfl rfl)
theorem dX6_keeps_60 : decode cX6_keeps 60 = .ok (.putfield 58, 3) := dk_181 0 58 (dk_at dksX6_keeps_2 13 rfl rfl)
theorem dX6_keeps_63 : decode cX6_keeps 63 = .ok (.aload_n 1, 1) := dk_43 (dk_at dksX6_keeps_2 16 rfl rfl)
theorem dX6_keeps_64 : decode cX6_keeps 64 = .ok (.iconst 0, 1) := dk_3 (dk_at dksX6_keeps_2 17 rfl rfl)
theorem dX6_keeps_65 : decode cX6_keeps 65 = .ok (.aload_n 0, 1) := dk_42 (dk_at dksX6_keeps_2 18 rfl rfl)
theorem dX6_keeps_66 : decode cX6_keeps 66 = .ok (.getfield 13, 3) := dk_180 0 13 (dk_at dksX6_keeps_2 19 rfl rfl)
theorem dX6_keeps_69 : decode cX6_keeps 69 = .ok (.sipush 240, 3) := dk_17 0 240 (dk_at dksX6_keeps_3 0 rfl rfl)
theorem dX6_keeps_72 : decode cX6_keeps 72 = .ok (.aload_n 0, 1) := dk_42 (dk_at dksX6_keeps_3 3 rfl rfl)
theorem dX6_keeps_73 : decode cX6_keeps 73 = .ok (.getfield 58, 3) := dk_180 0 58 (dk_at dksX6_keeps_3 4 rfl rfl)
theorem dX6_keeps_76 : decode cX6_keeps 76 = .ok (.imul, 1) := dk_104 (dk_at dksX6_keeps_3 7 rfl rfl)
theorem dX6_keeps_77 : decode cX6_keeps 77 = .ok (.invokestatic 61, 3) := dk_184 0 61 (dk_at dksX6_keeps_3 8 rfl rfl)
theorem dX6_keeps_80 : decode cX6_keeps 80 = .ok (.aload_n 0, 1) := dk_42 (dk_at dksX6_keeps_3 11 rfl rfl)
theorem dX6_keeps_81 : decode cX6_keeps 81 = .ok (.dup, 1) := dk_89 (dk_at dksX6_keeps_3 12 rfl rfl)
theorem dX6_keeps_82 : decode cX6_keeps 82 = .ok (.getfield 58, 3) := dk_180 0 58 (dk_at dksX6_keeps_3 13 rfl rfl)
theorem dX6_keeps_85 : decode cX6_keeps 85 = .ok (.iconst 1, 1) := dk_4 (dk_at dksX6_keeps_3 16 rfl rfl)
theorem dX6_keeps_86 : decode cX6_keeps 86 = .ok (.iadd, 1) := dk_96 (dk_at dksX6_keeps_3 17 rfl rfl)
theorem dX6_keeps_87 : decode cX6_keeps 87 = .ok (.putfield 58, 3) := dk_181 0 58 (dk_at dksX6_keeps_3 18 rfl rfl)
theorem dX6_keeps_90 : decode cX6_keeps 90 = .ok (.return_, 1) := dk_177 (dk_at dksX6_keeps_3 21 rfl rfl)
abbrev cX6_copies : ByteArray := prog_12_method_8_code
def yX6_copies : MethodName := ⟨RX6, "copies", "([II[II)V"⟩
def dkwX6_copies_1 : List UInt8 := [132, 4, 1, 167, 255, 233, 177]
abbrev dktX6_copies_1 : List UInt8 := dkwX6_copies_1 ++ []
def dkwX6_copies_0 : List UInt8 := [3, 54, 4, 21, 4, 17, 0, 240, 162, 0, 21, 44, 29, 21, 4, 96, 42, 27, 21, 4, 96, 46, 79]
abbrev dktX6_copies_0 : List UInt8 := dkwX6_copies_0 ++ dktX6_copies_1
theorem dksX6_copies_0 : cX6_copies.data.toList.drop 0 = dktX6_copies_0 := by decide +kernel
theorem dksX6_copies_1 : cX6_copies.data.toList.drop 23 = dktX6_copies_1 := dk_seg dksX6_copies_0 23 rfl rfl
theorem dX6_copies_0 : decode cX6_copies 0 = .ok (.iconst 0, 1) := dk_3 (dk_at dksX6_copies_0 0 rfl rfl)
theorem dX6_copies_1 : decode cX6_copies 1 = .ok (.istore 4, 2) := dk_54 4 (dk_at dksX6_copies_0 1 rfl rfl)
theorem dX6_copies_3 : decode cX6_copies 3 = .ok (.iload 4, 2) := dk_21 4 (dk_at dksX6_copies_0 3 rfl rfl)
theorem dX6_copies_5 : decode cX6_copies 5 = .ok (.sipush 240, 3) := dk_17 0 240 (dk_at dksX6_copies_0 5 rfl rfl)
theorem dX6_copies_8 : decode cX6_copies 8 = .ok (.if_icmp .ge 21, 3) := dk_162 0 21 (dk_at dksX6_copies_0 8 rfl rfl)
theorem dX6_copies_11 : decode cX6_copies 11 = .ok (.aload_n 2, 1) := dk_44 (dk_at dksX6_copies_0 11 rfl rfl)
theorem dX6_copies_12 : decode cX6_copies 12 = .ok (.iload_n 3, 1) := dk_29 (dk_at dksX6_copies_0 12 rfl rfl)
theorem dX6_copies_13 : decode cX6_copies 13 = .ok (.iload 4, 2) := dk_21 4 (dk_at dksX6_copies_0 13 rfl rfl)
theorem dX6_copies_15 : decode cX6_copies 15 = .ok (.iadd, 1) := dk_96 (dk_at dksX6_copies_0 15 rfl rfl)
theorem dX6_copies_16 : decode cX6_copies 16 = .ok (.aload_n 0, 1) := dk_42 (dk_at dksX6_copies_0 16 rfl rfl)
theorem dX6_copies_17 : decode cX6_copies 17 = .ok (.iload_n 1, 1) := dk_27 (dk_at dksX6_copies_0 17 rfl rfl)
theorem dX6_copies_18 : decode cX6_copies 18 = .ok (.iload 4, 2) := dk_21 4 (dk_at dksX6_copies_0 18 rfl rfl)
theorem dX6_copies_20 : decode cX6_copies 20 = .ok (.iadd, 1) := dk_96 (dk_at dksX6_copies_0 20 rfl rfl)
theorem dX6_copies_21 : decode cX6_copies 21 = .ok (.iaload, 1) := dk_46 (dk_at dksX6_copies_0 21 rfl rfl)
theorem dX6_copies_22 : decode cX6_copies 22 = .ok (.iastore, 1) := dk_79 (dk_at dksX6_copies_0 22 rfl rfl)
theorem dX6_copies_23 : decode cX6_copies 23 = .ok (.iinc 4 1, 3) := dk_132 4 1 (dk_at dksX6_copies_1 0 rfl rfl)
theorem dX6_copies_26 : decode cX6_copies 26 = .ok (.goto (-23), 3) := dk_167 255 233 (dk_at dksX6_copies_1 3 rfl rfl)
theorem dX6_copies_29 : decode cX6_copies 29 = .ok (.return_, 1) := dk_177 (dk_at dksX6_copies_1 6 rfl rfl)
abbrev cX6_adds : ByteArray := prog_12_method_11_code
def yX6_adds : MethodName := ⟨RX6, "adds", "(III)V"⟩
def dkwX6_adds_0 : List UInt8 := [42, 180, 0, 7, 16, 10, 6, 27, 104, 96, 28, 96, 92, 46, 29, 96, 79, 177]
abbrev dktX6_adds_0 : List UInt8 := dkwX6_adds_0 ++ []
theorem dksX6_adds_0 : cX6_adds.data.toList.drop 0 = dktX6_adds_0 := by decide +kernel
theorem dX6_adds_0 : decode cX6_adds 0 = .ok (.aload_n 0, 1) := dk_42 (dk_at dksX6_adds_0 0 rfl rfl)
theorem dX6_adds_1 : decode cX6_adds 1 = .ok (.getfield 7, 3) := dk_180 0 7 (dk_at dksX6_adds_0 1 rfl rfl)
theorem dX6_adds_4 : decode cX6_adds 4 = .ok (.bipush 10, 2) := dk_16 10 (dk_at dksX6_adds_0 4 rfl rfl)
theorem dX6_adds_6 : decode cX6_adds 6 = .ok (.iconst 3, 1) := dk_6 (dk_at dksX6_adds_0 6 rfl rfl)
theorem dX6_adds_7 : decode cX6_adds 7 = .ok (.iload_n 1, 1) := dk_27 (dk_at dksX6_adds_0 7 rfl rfl)
theorem dX6_adds_8 : decode cX6_adds 8 = .ok (.imul, 1) := dk_104 (dk_at dksX6_adds_0 8 rfl rfl)
theorem dX6_adds_9 : decode cX6_adds 9 = .ok (.iadd, 1) := dk_96 (dk_at dksX6_adds_0 9 rfl rfl)
theorem dX6_adds_10 : decode cX6_adds 10 = .ok (.iload_n 2, 1) := dk_28 (dk_at dksX6_adds_0 10 rfl rfl)
theorem dX6_adds_11 : decode cX6_adds 11 = .ok (.iadd, 1) := dk_96 (dk_at dksX6_adds_0 11 rfl rfl)
theorem dX6_adds_12 : decode cX6_adds 12 = .ok (.dup2, 1) := dk_92 (dk_at dksX6_adds_0 12 rfl rfl)
theorem dX6_adds_13 : decode cX6_adds 13 = .ok (.iaload, 1) := dk_46 (dk_at dksX6_adds_0 13 rfl rfl)
theorem dX6_adds_14 : decode cX6_adds 14 = .ok (.iload_n 3, 1) := dk_29 (dk_at dksX6_adds_0 14 rfl rfl)
theorem dX6_adds_15 : decode cX6_adds 15 = .ok (.iadd, 1) := dk_96 (dk_at dksX6_adds_0 15 rfl rfl)
theorem dX6_adds_16 : decode cX6_adds 16 = .ok (.iastore, 1) := dk_79 (dk_at dksX6_adds_0 16 rfl rfl)
theorem dX6_adds_17 : decode cX6_adds 17 = .ok (.return_, 1) := dk_177 (dk_at dksX6_adds_0 17 rfl rfl)
abbrev cX6_sheet : ByteArray := prog_12_method_22_code
def yX6_sheet : MethodName := ⟨RX6, "sheet", "(II)I"⟩
def dkwX6_sheet_7 : List UInt8 := [21, 4, 16, 10, 108, 54, 4, 132, 5, 255, 167, 255, 212, 29, 172]
abbrev dktX6_sheet_7 : List UInt8 := dkwX6_sheet_7 ++ []
def dkwX6_sheet_6 : List UInt8 := [96, 21, 4, 16, 10, 112, 182, 0, 108, 42, 29, 16, 10, 21, 5, 96, 21, 4, 16, 10, 112, 182, 0, 108]
abbrev dktX6_sheet_6 : List UInt8 := dkwX6_sheet_6 ++ dktX6_sheet_7
def dkwX6_sheet_5 : List UInt8 := [182, 0, 108, 28, 54, 4, 28, 184, 0, 104, 4, 100, 54, 5, 21, 5, 155, 0, 45, 42, 29, 5, 21, 5]
abbrev dktX6_sheet_5 : List UInt8 := dkwX6_sheet_5 ++ dktX6_sheet_6
def dkwX6_sheet_4 : List UInt8 := [182, 0, 108, 132, 4, 1, 167, 255, 238, 42, 29, 3, 27, 182, 0, 108, 42, 29, 4, 28, 184, 0, 104]
abbrev dktX6_sheet_4 : List UInt8 := dkwX6_sheet_4 ++ dktX6_sheet_5
def dkwX6_sheet_3 : List UInt8 := [180, 0, 7, 4, 92, 46, 4, 96, 79, 3, 54, 4, 21, 4, 16, 26, 162, 0, 17, 42, 29, 21, 4, 3]
abbrev dktX6_sheet_3 : List UInt8 := dkwX6_sheet_3 ++ dktX6_sheet_4
def dkwX6_sheet_2 : List UInt8 := [16, 8, 182, 0, 89, 172, 42, 42, 180, 0, 7, 182, 0, 93, 42, 180, 0, 7, 4, 46, 62, 42]
abbrev dktX6_sheet_2 : List UInt8 := dkwX6_sheet_2 ++ dktX6_sheet_3
def dkwX6_sheet_1 : List UInt8 := [3, 182, 0, 86, 153, 0, 5, 3, 172, 42, 180, 0, 7, 4, 46, 16, 8, 160, 0, 12, 42, 6, 4]
abbrev dktX6_sheet_1 : List UInt8 := dkwX6_sheet_1 ++ dktX6_sheet_2
def dkwX6_sheet_0 : List UInt8 := [42, 42, 27, 182, 0, 101, 154, 0, 7, 4, 167, 0, 15, 28, 184, 0, 104, 154, 0, 7, 5, 167, 0, 4]
abbrev dktX6_sheet_0 : List UInt8 := dkwX6_sheet_0 ++ dktX6_sheet_1
theorem dksX6_sheet_0 : cX6_sheet.data.toList.drop 0 = dktX6_sheet_0 := by decide +kernel
theorem dksX6_sheet_1 : cX6_sheet.data.toList.drop 24 = dktX6_sheet_1 := dk_seg dksX6_sheet_0 24 rfl rfl
theorem dksX6_sheet_2 : cX6_sheet.data.toList.drop 47 = dktX6_sheet_2 := dk_seg dksX6_sheet_1 23 rfl rfl
theorem dksX6_sheet_3 : cX6_sheet.data.toList.drop 69 = dktX6_sheet_3 := dk_seg dksX6_sheet_2 22 rfl rfl
theorem dksX6_sheet_4 : cX6_sheet.data.toList.drop 93 = dktX6_sheet_4 := dk_seg dksX6_sheet_3 24 rfl rfl
theorem dksX6_sheet_5 : cX6_sheet.data.toList.drop 116 = dktX6_sheet_5 := dk_seg dksX6_sheet_4 23 rfl rfl
theorem dksX6_sheet_6 : cX6_sheet.data.toList.drop 140 = dktX6_sheet_6 := dk_seg dksX6_sheet_5 24 rfl rfl
theorem dksX6_sheet_7 : cX6_sheet.data.toList.drop 164 = dktX6_sheet_7 := dk_seg dksX6_sheet_6 24 rfl rfl
theorem dX6_sheet_0 : decode cX6_sheet 0 = .ok (.aload_n 0, 1) := dk_42 (dk_at dksX6_sheet_0 0 rfl rfl)
theorem dX6_sheet_1 : decode cX6_sheet 1 = .ok (.aload_n 0, 1) := dk_42 (dk_at dksX6_sheet_0 1 rfl rfl)
theorem dX6_sheet_2 : decode cX6_sheet 2 = .ok (.iload_n 1, 1) := dk_27 (dk_at dksX6_sheet_0 2 rfl rfl)
theorem dX6_sheet_3 : decode cX6_sheet 3 = .ok (.invokevirtual 101, 3) := dk_182 0 101 (dk_at dksX6_sheet_0 3 rfl rfl)
theorem dX6_sheet_6 : decode cX6_sheet 6 = .ok (.ifCond .ne 7, 3) := dk_154 0 7 (dk_at dksX6_sheet_0 6 rfl rfl)
theorem dX6_sheet_9 : decode cX6_sheet 9 = .ok (.iconst 1, 1) := dk_4 (dk_at dksX6_sheet_0 9 rfl rfl)
theorem dX6_sheet_10 : decode cX6_sheet 10 = .ok (.goto 15, 3) := dk_167 0 15 (dk_at dksX6_sheet_0 10 rfl rfl)
theorem dX6_sheet_13 : decode cX6_sheet 13 = .ok (.iload_n 2, 1) := dk_28 (dk_at dksX6_sheet_0 13 rfl rfl)
theorem dX6_sheet_14 : decode cX6_sheet 14 = .ok (.invokestatic 104, 3) := dk_184 0 104 (dk_at dksX6_sheet_0 14 rfl rfl)
theorem dX6_sheet_17 : decode cX6_sheet 17 = .ok (.ifCond .ne 7, 3) := dk_154 0 7 (dk_at dksX6_sheet_0 17 rfl rfl)
theorem dX6_sheet_20 : decode cX6_sheet 20 = .ok (.iconst 2, 1) := dk_5 (dk_at dksX6_sheet_0 20 rfl rfl)
theorem dX6_sheet_21 : decode cX6_sheet 21 = .ok (.goto 4, 3) := dk_167 0 4 (dk_at dksX6_sheet_0 21 rfl rfl)
theorem dX6_sheet_24 : decode cX6_sheet 24 = .ok (.iconst 0, 1) := dk_3 (dk_at dksX6_sheet_1 0 rfl rfl)
theorem dX6_sheet_25 : decode cX6_sheet 25 = .ok (.invokevirtual 86, 3) := dk_182 0 86 (dk_at dksX6_sheet_1 1 rfl rfl)
theorem dX6_sheet_28 : decode cX6_sheet 28 = .ok (.ifCond .eq 5, 3) := dk_153 0 5 (dk_at dksX6_sheet_1 4 rfl rfl)
theorem dX6_sheet_31 : decode cX6_sheet 31 = .ok (.iconst 0, 1) := dk_3 (dk_at dksX6_sheet_1 7 rfl rfl)
theorem dX6_sheet_32 : decode cX6_sheet 32 = .ok (.ireturn, 1) := dk_172 (dk_at dksX6_sheet_1 8 rfl rfl)
theorem dX6_sheet_33 : decode cX6_sheet 33 = .ok (.aload_n 0, 1) := dk_42 (dk_at dksX6_sheet_1 9 rfl rfl)
theorem dX6_sheet_34 : decode cX6_sheet 34 = .ok (.getfield 7, 3) := dk_180 0 7 (dk_at dksX6_sheet_1 10 rfl rfl)
theorem dX6_sheet_37 : decode cX6_sheet 37 = .ok (.iconst 1, 1) := dk_4 (dk_at dksX6_sheet_1 13 rfl rfl)
theorem dX6_sheet_38 : decode cX6_sheet 38 = .ok (.iaload, 1) := dk_46 (dk_at dksX6_sheet_1 14 rfl rfl)
theorem dX6_sheet_39 : decode cX6_sheet 39 = .ok (.bipush 8, 2) := dk_16 8 (dk_at dksX6_sheet_1 15 rfl rfl)
theorem dX6_sheet_41 : decode cX6_sheet 41 = .ok (.if_icmp .ne 12, 3) := dk_160 0 12 (dk_at dksX6_sheet_1 17 rfl rfl)
theorem dX6_sheet_44 : decode cX6_sheet 44 = .ok (.aload_n 0, 1) := dk_42 (dk_at dksX6_sheet_1 20 rfl rfl)
theorem dX6_sheet_45 : decode cX6_sheet 45 = .ok (.iconst 3, 1) := dk_6 (dk_at dksX6_sheet_1 21 rfl rfl)
theorem dX6_sheet_46 : decode cX6_sheet 46 = .ok (.iconst 1, 1) := dk_4 (dk_at dksX6_sheet_1 22 rfl rfl)
theorem dX6_sheet_47 : decode cX6_sheet 47 = .ok (.bipush 8, 2) := dk_16 8 (dk_at dksX6_sheet_2 0 rfl rfl)
theorem dX6_sheet_49 : decode cX6_sheet 49 = .ok (.invokevirtual 89, 3) := dk_182 0 89 (dk_at dksX6_sheet_2 2 rfl rfl)
theorem dX6_sheet_52 : decode cX6_sheet 52 = .ok (.ireturn, 1) := dk_172 (dk_at dksX6_sheet_2 5 rfl rfl)
theorem dX6_sheet_53 : decode cX6_sheet 53 = .ok (.aload_n 0, 1) := dk_42 (dk_at dksX6_sheet_2 6 rfl rfl)
theorem dX6_sheet_54 : decode cX6_sheet 54 = .ok (.aload_n 0, 1) := dk_42 (dk_at dksX6_sheet_2 7 rfl rfl)
theorem dX6_sheet_55 : decode cX6_sheet 55 = .ok (.getfield 7, 3) := dk_180 0 7 (dk_at dksX6_sheet_2 8 rfl rfl)
theorem dX6_sheet_58 : decode cX6_sheet 58 = .ok (.invokevirtual 93, 3) := dk_182 0 93 (dk_at dksX6_sheet_2 11 rfl rfl)
theorem dX6_sheet_61 : decode cX6_sheet 61 = .ok (.aload_n 0, 1) := dk_42 (dk_at dksX6_sheet_2 14 rfl rfl)
theorem dX6_sheet_62 : decode cX6_sheet 62 = .ok (.getfield 7, 3) := dk_180 0 7 (dk_at dksX6_sheet_2 15 rfl rfl)
theorem dX6_sheet_65 : decode cX6_sheet 65 = .ok (.iconst 1, 1) := dk_4 (dk_at dksX6_sheet_2 18 rfl rfl)
theorem dX6_sheet_66 : decode cX6_sheet 66 = .ok (.iaload, 1) := dk_46 (dk_at dksX6_sheet_2 19 rfl rfl)
theorem dX6_sheet_67 : decode cX6_sheet 67 = .ok (.istore_n 3, 1) := dk_62 (dk_at dksX6_sheet_2 20 rfl rfl)
theorem dX6_sheet_68 : decode cX6_sheet 68 = .ok (.aload_n 0, 1) := dk_42 (dk_at dksX6_sheet_2 21 rfl rfl)
theorem dX6_sheet_69 : decode cX6_sheet 69 = .ok (.getfield 7, 3) := dk_180 0 7 (dk_at dksX6_sheet_3 0 rfl rfl)
theorem dX6_sheet_72 : decode cX6_sheet 72 = .ok (.iconst 1, 1) := dk_4 (dk_at dksX6_sheet_3 3 rfl rfl)
theorem dX6_sheet_73 : decode cX6_sheet 73 = .ok (.dup2, 1) := dk_92 (dk_at dksX6_sheet_3 4 rfl rfl)
theorem dX6_sheet_74 : decode cX6_sheet 74 = .ok (.iaload, 1) := dk_46 (dk_at dksX6_sheet_3 5 rfl rfl)
theorem dX6_sheet_75 : decode cX6_sheet 75 = .ok (.iconst 1, 1) := dk_4 (dk_at dksX6_sheet_3 6 rfl rfl)
theorem dX6_sheet_76 : decode cX6_sheet 76 = .ok (.iadd, 1) := dk_96 (dk_at dksX6_sheet_3 7 rfl rfl)
theorem dX6_sheet_77 : decode cX6_sheet 77 = .ok (.iastore, 1) := dk_79 (dk_at dksX6_sheet_3 8 rfl rfl)
theorem dX6_sheet_78 : decode cX6_sheet 78 = .ok (.iconst 0, 1) := dk_3 (dk_at dksX6_sheet_3 9 rfl rfl)
theorem dX6_sheet_79 : decode cX6_sheet 79 = .ok (.istore 4, 2) := dk_54 4 (dk_at dksX6_sheet_3 10 rfl rfl)
theorem dX6_sheet_81 : decode cX6_sheet 81 = .ok (.iload 4, 2) := dk_21 4 (dk_at dksX6_sheet_3 12 rfl rfl)
theorem dX6_sheet_83 : decode cX6_sheet 83 = .ok (.bipush 26, 2) := dk_16 26 (dk_at dksX6_sheet_3 14 rfl rfl)
theorem dX6_sheet_85 : decode cX6_sheet 85 = .ok (.if_icmp .ge 17, 3) := dk_162 0 17 (dk_at dksX6_sheet_3 16 rfl rfl)
theorem dX6_sheet_88 : decode cX6_sheet 88 = .ok (.aload_n 0, 1) := dk_42 (dk_at dksX6_sheet_3 19 rfl rfl)
theorem dX6_sheet_89 : decode cX6_sheet 89 = .ok (.iload_n 3, 1) := dk_29 (dk_at dksX6_sheet_3 20 rfl rfl)
theorem dX6_sheet_90 : decode cX6_sheet 90 = .ok (.iload 4, 2) := dk_21 4 (dk_at dksX6_sheet_3 21 rfl rfl)
theorem dX6_sheet_92 : decode cX6_sheet 92 = .ok (.iconst 0, 1) := dk_3 (dk_at dksX6_sheet_3 23 rfl rfl)
theorem dX6_sheet_93 : decode cX6_sheet 93 = .ok (.invokevirtual 108, 3) := dk_182 0 108 (dk_at dksX6_sheet_4 0 rfl rfl)
theorem dX6_sheet_96 : decode cX6_sheet 96 = .ok (.iinc 4 1, 3) := dk_132 4 1 (dk_at dksX6_sheet_4 3 rfl rfl)
theorem dX6_sheet_99 : decode cX6_sheet 99 = .ok (.goto (-18), 3) := dk_167 255 238 (dk_at dksX6_sheet_4 6 rfl rfl)
theorem dX6_sheet_102 : decode cX6_sheet 102 = .ok (.aload_n 0, 1) := dk_42 (dk_at dksX6_sheet_4 9 rfl rfl)
theorem dX6_sheet_103 : decode cX6_sheet 103 = .ok (.iload_n 3, 1) := dk_29 (dk_at dksX6_sheet_4 10 rfl rfl)
theorem dX6_sheet_104 : decode cX6_sheet 104 = .ok (.iconst 0, 1) := dk_3 (dk_at dksX6_sheet_4 11 rfl rfl)
theorem dX6_sheet_105 : decode cX6_sheet 105 = .ok (.iload_n 1, 1) := dk_27 (dk_at dksX6_sheet_4 12 rfl rfl)
theorem dX6_sheet_106 : decode cX6_sheet 106 = .ok (.invokevirtual 108, 3) := dk_182 0 108 (dk_at dksX6_sheet_4 13 rfl rfl)
theorem dX6_sheet_109 : decode cX6_sheet 109 = .ok (.aload_n 0, 1) := dk_42 (dk_at dksX6_sheet_4 16 rfl rfl)
theorem dX6_sheet_110 : decode cX6_sheet 110 = .ok (.iload_n 3, 1) := dk_29 (dk_at dksX6_sheet_4 17 rfl rfl)
theorem dX6_sheet_111 : decode cX6_sheet 111 = .ok (.iconst 1, 1) := dk_4 (dk_at dksX6_sheet_4 18 rfl rfl)
theorem dX6_sheet_112 : decode cX6_sheet 112 = .ok (.iload_n 2, 1) := dk_28 (dk_at dksX6_sheet_4 19 rfl rfl)
theorem dX6_sheet_113 : decode cX6_sheet 113 = .ok (.invokestatic 104, 3) := dk_184 0 104 (dk_at dksX6_sheet_4 20 rfl rfl)
theorem dX6_sheet_116 : decode cX6_sheet 116 = .ok (.invokevirtual 108, 3) := dk_182 0 108 (dk_at dksX6_sheet_5 0 rfl rfl)
theorem dX6_sheet_119 : decode cX6_sheet 119 = .ok (.iload_n 2, 1) := dk_28 (dk_at dksX6_sheet_5 3 rfl rfl)
theorem dX6_sheet_120 : decode cX6_sheet 120 = .ok (.istore 4, 2) := dk_54 4 (dk_at dksX6_sheet_5 4 rfl rfl)
theorem dX6_sheet_122 : decode cX6_sheet 122 = .ok (.iload_n 2, 1) := dk_28 (dk_at dksX6_sheet_5 6 rfl rfl)
theorem dX6_sheet_123 : decode cX6_sheet 123 = .ok (.invokestatic 104, 3) := dk_184 0 104 (dk_at dksX6_sheet_5 7 rfl rfl)
theorem dX6_sheet_126 : decode cX6_sheet 126 = .ok (.iconst 1, 1) := dk_4 (dk_at dksX6_sheet_5 10 rfl rfl)
theorem dX6_sheet_127 : decode cX6_sheet 127 = .ok (.isub, 1) := dk_100 (dk_at dksX6_sheet_5 11 rfl rfl)
theorem dX6_sheet_128 : decode cX6_sheet 128 = .ok (.istore 5, 2) := dk_54 5 (dk_at dksX6_sheet_5 12 rfl rfl)
theorem dX6_sheet_130 : decode cX6_sheet 130 = .ok (.iload 5, 2) := dk_21 5 (dk_at dksX6_sheet_5 14 rfl rfl)
theorem dX6_sheet_132 : decode cX6_sheet 132 = .ok (.ifCond .lt 45, 3) := dk_155 0 45 (dk_at dksX6_sheet_5 16 rfl rfl)
theorem dX6_sheet_135 : decode cX6_sheet 135 = .ok (.aload_n 0, 1) := dk_42 (dk_at dksX6_sheet_5 19 rfl rfl)
theorem dX6_sheet_136 : decode cX6_sheet 136 = .ok (.iload_n 3, 1) := dk_29 (dk_at dksX6_sheet_5 20 rfl rfl)
theorem dX6_sheet_137 : decode cX6_sheet 137 = .ok (.iconst 2, 1) := dk_5 (dk_at dksX6_sheet_5 21 rfl rfl)
theorem dX6_sheet_138 : decode cX6_sheet 138 = .ok (.iload 5, 2) := dk_21 5 (dk_at dksX6_sheet_5 22 rfl rfl)
theorem dX6_sheet_140 : decode cX6_sheet 140 = .ok (.iadd, 1) := dk_96 (dk_at dksX6_sheet_6 0 rfl rfl)
theorem dX6_sheet_141 : decode cX6_sheet 141 = .ok (.iload 4, 2) := dk_21 4 (dk_at dksX6_sheet_6 1 rfl rfl)
theorem dX6_sheet_143 : decode cX6_sheet 143 = .ok (.bipush 10, 2) := dk_16 10 (dk_at dksX6_sheet_6 3 rfl rfl)
theorem dX6_sheet_145 : decode cX6_sheet 145 = .ok (.irem, 1) := dk_112 (dk_at dksX6_sheet_6 5 rfl rfl)
theorem dX6_sheet_146 : decode cX6_sheet 146 = .ok (.invokevirtual 108, 3) := dk_182 0 108 (dk_at dksX6_sheet_6 6 rfl rfl)
theorem dX6_sheet_149 : decode cX6_sheet 149 = .ok (.aload_n 0, 1) := dk_42 (dk_at dksX6_sheet_6 9 rfl rfl)
theorem dX6_sheet_150 : decode cX6_sheet 150 = .ok (.iload_n 3, 1) := dk_29 (dk_at dksX6_sheet_6 10 rfl rfl)
theorem dX6_sheet_151 : decode cX6_sheet 151 = .ok (.bipush 10, 2) := dk_16 10 (dk_at dksX6_sheet_6 11 rfl rfl)
theorem dX6_sheet_153 : decode cX6_sheet 153 = .ok (.iload 5, 2) := dk_21 5 (dk_at dksX6_sheet_6 13 rfl rfl)
theorem dX6_sheet_155 : decode cX6_sheet 155 = .ok (.iadd, 1) := dk_96 (dk_at dksX6_sheet_6 15 rfl rfl)
theorem dX6_sheet_156 : decode cX6_sheet 156 = .ok (.iload 4, 2) := dk_21 4 (dk_at dksX6_sheet_6 16 rfl rfl)
theorem dX6_sheet_158 : decode cX6_sheet 158 = .ok (.bipush 10, 2) := dk_16 10 (dk_at dksX6_sheet_6 18 rfl rfl)
theorem dX6_sheet_160 : decode cX6_sheet 160 = .ok (.irem, 1) := dk_112 (dk_at dksX6_sheet_6 20 rfl rfl)
theorem dX6_sheet_161 : decode cX6_sheet 161 = .ok (.invokevirtual 108, 3) := dk_182 0 108 (dk_at dksX6_sheet_6 21 rfl rfl)
theorem dX6_sheet_164 : decode cX6_sheet 164 = .ok (.iload 4, 2) := dk_21 4 (dk_at dksX6_sheet_7 0 rfl rfl)
theorem dX6_sheet_166 : decode cX6_sheet 166 = .ok (.bipush 10, 2) := dk_16 10 (dk_at dksX6_sheet_7 2 rfl rfl)
theorem dX6_sheet_168 : decode cX6_sheet 168 = .ok (.idiv, 1) := dk_108 (dk_at dksX6_sheet_7 4 rfl rfl)
theorem dX6_sheet_169 : decode cX6_sheet 169 = .ok (.istore 4, 2) := dk_54 4 (dk_at dksX6_sheet_7 5 rfl rfl)
theorem dX6_sheet_171 : decode cX6_sheet 171 = .ok (.iinc 5 (-1), 3) := dk_132 5 255 (dk_at dksX6_sheet_7 7 rfl rfl)
theorem dX6_sheet_174 : decode cX6_sheet 174 = .ok (.goto (-44), 3) := dk_167 255 212 (dk_at dksX6_sheet_7 10 rfl rfl)
theorem dX6_sheet_177 : decode cX6_sheet 177 = .ok (.iload_n 3, 1) := dk_29 (dk_at dksX6_sheet_7 13 rfl rfl)
theorem dX6_sheet_178 : decode cX6_sheet 178 = .ok (.ireturn, 1) := dk_172 (dk_at dksX6_sheet_7 14 rfl rfl)
abbrev cX6_isHouse : ByteArray := prog_12_method_15_code
def yX6_isHouse : MethodName := ⟨RX6, "isHouse", "(I)Z"⟩
def dkwX6_isHouse_0 : List UInt8 := [27, 3, 42, 180, 0, 7, 3, 46, 4, 100, 184, 0, 72, 172]
abbrev dktX6_isHouse_0 : List UInt8 := dkwX6_isHouse_0 ++ []
theorem dksX6_isHouse_0 : cX6_isHouse.data.toList.drop 0 = dktX6_isHouse_0 := by decide +kernel
theorem dX6_isHouse_0 : decode cX6_isHouse 0 = .ok (.iload_n 1, 1) := dk_27 (dk_at dksX6_isHouse_0 0 rfl rfl)
theorem dX6_isHouse_1 : decode cX6_isHouse 1 = .ok (.iconst 0, 1) := dk_3 (dk_at dksX6_isHouse_0 1 rfl rfl)
theorem dX6_isHouse_2 : decode cX6_isHouse 2 = .ok (.aload_n 0, 1) := dk_42 (dk_at dksX6_isHouse_0 2 rfl rfl)
theorem dX6_isHouse_3 : decode cX6_isHouse 3 = .ok (.getfield 7, 3) := dk_180 0 7 (dk_at dksX6_isHouse_0 3 rfl rfl)
theorem dX6_isHouse_6 : decode cX6_isHouse 6 = .ok (.iconst 0, 1) := dk_3 (dk_at dksX6_isHouse_0 6 rfl rfl)
theorem dX6_isHouse_7 : decode cX6_isHouse 7 = .ok (.iaload, 1) := dk_46 (dk_at dksX6_isHouse_0 7 rfl rfl)
theorem dX6_isHouse_8 : decode cX6_isHouse 8 = .ok (.iconst 1, 1) := dk_4 (dk_at dksX6_isHouse_0 8 rfl rfl)
theorem dX6_isHouse_9 : decode cX6_isHouse 9 = .ok (.isub, 1) := dk_100 (dk_at dksX6_isHouse_0 9 rfl rfl)
theorem dX6_isHouse_10 : decode cX6_isHouse 10 = .ok (.invokestatic 72, 3) := dk_184 0 72 (dk_at dksX6_isHouse_0 10 rfl rfl)
theorem dX6_isHouse_13 : decode cX6_isHouse 13 = .ok (.ireturn, 1) := dk_172 (dk_at dksX6_isHouse_0 13 rfl rfl)
abbrev cX6_letters : ByteArray := prog_12_method_21_code
def yX6_letters : MethodName := ⟨RX6, "letters", "(I)I"⟩
def dkwX6_letters_2 : List UInt8 := [167, 0, 4, 3, 172]
abbrev dktX6_letters_2 : List UInt8 := dkwX6_letters_2 ++ []
def dkwX6_letters_1 : List UInt8 := [132, 1, 1, 28, 16, 10, 108, 61, 167, 255, 229, 27, 6, 16, 8, 184, 0, 72, 153, 0, 7, 27]
abbrev dktX6_letters_1 : List UInt8 := dkwX6_letters_1 ++ dktX6_letters_2
def dkwX6_letters_0 : List UInt8 := [3, 60, 26, 61, 28, 158, 0, 29, 28, 16, 10, 112, 4, 16, 6, 184, 0, 72, 154, 0, 5, 3, 172]
abbrev dktX6_letters_0 : List UInt8 := dkwX6_letters_0 ++ dktX6_letters_1
theorem dksX6_letters_0 : cX6_letters.data.toList.drop 0 = dktX6_letters_0 := by decide +kernel
theorem dksX6_letters_1 : cX6_letters.data.toList.drop 23 = dktX6_letters_1 := dk_seg dksX6_letters_0 23 rfl rfl
theorem dksX6_letters_2 : cX6_letters.data.toList.drop 45 = dktX6_letters_2 := dk_seg dksX6_letters_1 22 rfl rfl
theorem dX6_letters_0 : decode cX6_letters 0 = .ok (.iconst 0, 1) := dk_3 (dk_at dksX6_letters_0 0 rfl rfl)
theorem dX6_letters_1 : decode cX6_letters 1 = .ok (.istore_n 1, 1) := dk_60 (dk_at dksX6_letters_0 1 rfl rfl)
theorem dX6_letters_2 : decode cX6_letters 2 = .ok (.iload_n 0, 1) := dk_26 (dk_at dksX6_letters_0 2 rfl rfl)
theorem dX6_letters_3 : decode cX6_letters 3 = .ok (.istore_n 2, 1) := dk_61 (dk_at dksX6_letters_0 3 rfl rfl)
theorem dX6_letters_4 : decode cX6_letters 4 = .ok (.iload_n 2, 1) := dk_28 (dk_at dksX6_letters_0 4 rfl rfl)
theorem dX6_letters_5 : decode cX6_letters 5 = .ok (.ifCond .le 29, 3) := dk_158 0 29 (dk_at dksX6_letters_0 5 rfl rfl)
theorem dX6_letters_8 : decode cX6_letters 8 = .ok (.iload_n 2, 1) := dk_28 (dk_at dksX6_letters_0 8 rfl rfl)
theorem dX6_letters_9 : decode cX6_letters 9 = .ok (.bipush 10, 2) := dk_16 10 (dk_at dksX6_letters_0 9 rfl rfl)
theorem dX6_letters_11 : decode cX6_letters 11 = .ok (.irem, 1) := dk_112 (dk_at dksX6_letters_0 11 rfl rfl)
theorem dX6_letters_12 : decode cX6_letters 12 = .ok (.iconst 1, 1) := dk_4 (dk_at dksX6_letters_0 12 rfl rfl)
theorem dX6_letters_13 : decode cX6_letters 13 = .ok (.bipush 6, 2) := dk_16 6 (dk_at dksX6_letters_0 13 rfl rfl)
theorem dX6_letters_15 : decode cX6_letters 15 = .ok (.invokestatic 72, 3) := dk_184 0 72 (dk_at dksX6_letters_0 15 rfl rfl)
theorem dX6_letters_18 : decode cX6_letters 18 = .ok (.ifCond .ne 5, 3) := dk_154 0 5 (dk_at dksX6_letters_0 18 rfl rfl)
theorem dX6_letters_21 : decode cX6_letters 21 = .ok (.iconst 0, 1) := dk_3 (dk_at dksX6_letters_0 21 rfl rfl)
theorem dX6_letters_22 : decode cX6_letters 22 = .ok (.ireturn, 1) := dk_172 (dk_at dksX6_letters_0 22 rfl rfl)
theorem dX6_letters_23 : decode cX6_letters 23 = .ok (.iinc 1 1, 3) := dk_132 1 1 (dk_at dksX6_letters_1 0 rfl rfl)
theorem dX6_letters_26 : decode cX6_letters 26 = .ok (.iload_n 2, 1) := dk_28 (dk_at dksX6_letters_1 3 rfl rfl)
theorem dX6_letters_27 : decode cX6_letters 27 = .ok (.bipush 10, 2) := dk_16 10 (dk_at dksX6_letters_1 4 rfl rfl)
theorem dX6_letters_29 : decode cX6_letters 29 = .ok (.idiv, 1) := dk_108 (dk_at dksX6_letters_1 6 rfl rfl)
theorem dX6_letters_30 : decode cX6_letters 30 = .ok (.istore_n 2, 1) := dk_61 (dk_at dksX6_letters_1 7 rfl rfl)
theorem dX6_letters_31 : decode cX6_letters 31 = .ok (.goto (-27), 3) := dk_167 255 229 (dk_at dksX6_letters_1 8 rfl rfl)
theorem dX6_letters_34 : decode cX6_letters 34 = .ok (.iload_n 1, 1) := dk_27 (dk_at dksX6_letters_1 11 rfl rfl)
theorem dX6_letters_35 : decode cX6_letters 35 = .ok (.iconst 3, 1) := dk_6 (dk_at dksX6_letters_1 12 rfl rfl)
theorem dX6_letters_36 : decode cX6_letters 36 = .ok (.bipush 8, 2) := dk_16 8 (dk_at dksX6_letters_1 13 rfl rfl)
theorem dX6_letters_38 : decode cX6_letters 38 = .ok (.invokestatic 72, 3) := dk_184 0 72 (dk_at dksX6_letters_1 15 rfl rfl)
theorem dX6_letters_41 : decode cX6_letters 41 = .ok (.ifCond .eq 7, 3) := dk_153 0 7 (dk_at dksX6_letters_1 18 rfl rfl)
theorem dX6_letters_44 : decode cX6_letters 44 = .ok (.iload_n 1, 1) := dk_27 (dk_at dksX6_letters_1 21 rfl rfl)
theorem dX6_letters_45 : decode cX6_letters 45 = .ok (.goto 4, 3) := dk_167 0 4 (dk_at dksX6_letters_2 0 rfl rfl)
theorem dX6_letters_48 : decode cX6_letters 48 = .ok (.iconst 0, 1) := dk_3 (dk_at dksX6_letters_2 3 rfl rfl)
theorem dX6_letters_49 : decode cX6_letters 49 = .ok (.ireturn, 1) := dk_172 (dk_at dksX6_letters_2 4 rfl rfl)
abbrev cX6_lays : ByteArray := prog_12_method_14_code
def yX6_lays : MethodName := ⟨RX6, "lays", "(III)V"⟩
def dkwX6_lays_0 : List UInt8 := [42, 180, 0, 7, 16, 22, 16, 26, 27, 104, 96, 28, 96, 29, 79, 177]
abbrev dktX6_lays_0 : List UInt8 := dkwX6_lays_0 ++ []
theorem dksX6_lays_0 : cX6_lays.data.toList.drop 0 = dktX6_lays_0 := by decide +kernel
theorem dX6_lays_0 : decode cX6_lays 0 = .ok (.aload_n 0, 1) := dk_42 (dk_at dksX6_lays_0 0 rfl rfl)
theorem dX6_lays_1 : decode cX6_lays 1 = .ok (.getfield 7, 3) := dk_180 0 7 (dk_at dksX6_lays_0 1 rfl rfl)
theorem dX6_lays_4 : decode cX6_lays 4 = .ok (.bipush 22, 2) := dk_16 22 (dk_at dksX6_lays_0 4 rfl rfl)
theorem dX6_lays_6 : decode cX6_lays 6 = .ok (.bipush 26, 2) := dk_16 26 (dk_at dksX6_lays_0 6 rfl rfl)
theorem dX6_lays_8 : decode cX6_lays 8 = .ok (.iload_n 1, 1) := dk_27 (dk_at dksX6_lays_0 8 rfl rfl)
theorem dX6_lays_9 : decode cX6_lays 9 = .ok (.imul, 1) := dk_104 (dk_at dksX6_lays_0 9 rfl rfl)
theorem dX6_lays_10 : decode cX6_lays 10 = .ok (.iadd, 1) := dk_96 (dk_at dksX6_lays_0 10 rfl rfl)
theorem dX6_lays_11 : decode cX6_lays 11 = .ok (.iload_n 2, 1) := dk_28 (dk_at dksX6_lays_0 11 rfl rfl)
theorem dX6_lays_12 : decode cX6_lays 12 = .ok (.iadd, 1) := dk_96 (dk_at dksX6_lays_0 12 rfl rfl)
theorem dX6_lays_13 : decode cX6_lays 13 = .ok (.iload_n 3, 1) := dk_29 (dk_at dksX6_lays_0 13 rfl rfl)
theorem dX6_lays_14 : decode cX6_lays 14 = .ok (.iastore, 1) := dk_79 (dk_at dksX6_lays_0 14 rfl rfl)
theorem dX6_lays_15 : decode cX6_lays 15 = .ok (.return_, 1) := dk_177 (dk_at dksX6_lays_0 15 rfl rfl)
abbrev cX6_take : ByteArray := prog_12_method_23_code
def yX6_take : MethodName := ⟨RX6, "take", "(I)I"⟩
def dkwX6_take_4 : List UInt8 := [42, 180, 0, 7, 4, 46, 28, 3, 182, 0, 108, 132, 2, 1, 167, 255, 235, 42, 180, 0, 7, 4, 46, 172]
abbrev dktX6_take_4 : List UInt8 := dkwX6_take_4 ++ []
def dkwX6_take_3 : List UInt8 := [180, 0, 7, 28, 16, 26, 96, 46, 79, 132, 2, 1, 167, 255, 222, 3, 61, 28, 16, 26, 162, 0, 21, 42]
abbrev dktX6_take_3 : List UInt8 := dkwX6_take_3 ++ dktX6_take_4
def dkwX6_take_2 : List UInt8 := [28, 16, 22, 16, 26, 42, 180, 0, 7, 4, 46, 104, 96, 162, 0, 24, 42, 180, 0, 7, 28, 42]
abbrev dktX6_take_2 : List UInt8 := dkwX6_take_2 ++ dktX6_take_3
def dkwX6_take_1 : List UInt8 := [180, 0, 7, 182, 0, 93, 42, 180, 0, 7, 4, 92, 46, 4, 100, 79, 16, 22, 16, 26, 27, 104, 96, 61]
abbrev dktX6_take_1 : List UInt8 := dkwX6_take_1 ++ dktX6_take_2
def dkwX6_take_0 : List UInt8 := [42, 42, 27, 182, 0, 76, 153, 0, 7, 3, 167, 0, 4, 4, 182, 0, 86, 153, 0, 5, 3, 172, 42, 42]
abbrev dktX6_take_0 : List UInt8 := dkwX6_take_0 ++ dktX6_take_1
theorem dksX6_take_0 : cX6_take.data.toList.drop 0 = dktX6_take_0 := by decide +kernel
theorem dksX6_take_1 : cX6_take.data.toList.drop 24 = dktX6_take_1 := dk_seg dksX6_take_0 24 rfl rfl
theorem dksX6_take_2 : cX6_take.data.toList.drop 48 = dktX6_take_2 := dk_seg dksX6_take_1 24 rfl rfl
theorem dksX6_take_3 : cX6_take.data.toList.drop 70 = dktX6_take_3 := dk_seg dksX6_take_2 22 rfl rfl
theorem dksX6_take_4 : cX6_take.data.toList.drop 94 = dktX6_take_4 := dk_seg dksX6_take_3 24 rfl rfl
theorem dX6_take_0 : decode cX6_take 0 = .ok (.aload_n 0, 1) := dk_42 (dk_at dksX6_take_0 0 rfl rfl)
theorem dX6_take_1 : decode cX6_take 1 = .ok (.aload_n 0, 1) := dk_42 (dk_at dksX6_take_0 1 rfl rfl)
theorem dX6_take_2 : decode cX6_take 2 = .ok (.iload_n 1, 1) := dk_27 (dk_at dksX6_take_0 2 rfl rfl)
theorem dX6_take_3 : decode cX6_take 3 = .ok (.invokevirtual 76, 3) := dk_182 0 76 (dk_at dksX6_take_0 3 rfl rfl)
theorem dX6_take_6 : decode cX6_take 6 = .ok (.ifCond .eq 7, 3) := dk_153 0 7 (dk_at dksX6_take_0 6 rfl rfl)
theorem dX6_take_9 : decode cX6_take 9 = .ok (.iconst 0, 1) := dk_3 (dk_at dksX6_take_0 9 rfl rfl)
theorem dX6_take_10 : decode cX6_take 10 = .ok (.goto 4, 3) := dk_167 0 4 (dk_at dksX6_take_0 10 rfl rfl)
theorem dX6_take_13 : decode cX6_take 13 = .ok (.iconst 1, 1) := dk_4 (dk_at dksX6_take_0 13 rfl rfl)
theorem dX6_take_14 : decode cX6_take 14 = .ok (.invokevirtual 86, 3) := dk_182 0 86 (dk_at dksX6_take_0 14 rfl rfl)
theorem dX6_take_17 : decode cX6_take 17 = .ok (.ifCond .eq 5, 3) := dk_153 0 5 (dk_at dksX6_take_0 17 rfl rfl)
theorem dX6_take_20 : decode cX6_take 20 = .ok (.iconst 0, 1) := dk_3 (dk_at dksX6_take_0 20 rfl rfl)
theorem dX6_take_21 : decode cX6_take 21 = .ok (.ireturn, 1) := dk_172 (dk_at dksX6_take_0 21 rfl rfl)
theorem dX6_take_22 : decode cX6_take 22 = .ok (.aload_n 0, 1) := dk_42 (dk_at dksX6_take_0 22 rfl rfl)
theorem dX6_take_23 : decode cX6_take 23 = .ok (.aload_n 0, 1) := dk_42 (dk_at dksX6_take_0 23 rfl rfl)
theorem dX6_take_24 : decode cX6_take 24 = .ok (.getfield 7, 3) := dk_180 0 7 (dk_at dksX6_take_1 0 rfl rfl)
theorem dX6_take_27 : decode cX6_take 27 = .ok (.invokevirtual 93, 3) := dk_182 0 93 (dk_at dksX6_take_1 3 rfl rfl)
theorem dX6_take_30 : decode cX6_take 30 = .ok (.aload_n 0, 1) := dk_42 (dk_at dksX6_take_1 6 rfl rfl)
theorem dX6_take_31 : decode cX6_take 31 = .ok (.getfield 7, 3) := dk_180 0 7 (dk_at dksX6_take_1 7 rfl rfl)
theorem dX6_take_34 : decode cX6_take 34 = .ok (.iconst 1, 1) := dk_4 (dk_at dksX6_take_1 10 rfl rfl)
theorem dX6_take_35 : decode cX6_take 35 = .ok (.dup2, 1) := dk_92 (dk_at dksX6_take_1 11 rfl rfl)
theorem dX6_take_36 : decode cX6_take 36 = .ok (.iaload, 1) := dk_46 (dk_at dksX6_take_1 12 rfl rfl)
theorem dX6_take_37 : decode cX6_take 37 = .ok (.iconst 1, 1) := dk_4 (dk_at dksX6_take_1 13 rfl rfl)
theorem dX6_take_38 : decode cX6_take 38 = .ok (.isub, 1) := dk_100 (dk_at dksX6_take_1 14 rfl rfl)
theorem dX6_take_39 : decode cX6_take 39 = .ok (.iastore, 1) := dk_79 (dk_at dksX6_take_1 15 rfl rfl)
theorem dX6_take_40 : decode cX6_take 40 = .ok (.bipush 22, 2) := dk_16 22 (dk_at dksX6_take_1 16 rfl rfl)
theorem dX6_take_42 : decode cX6_take 42 = .ok (.bipush 26, 2) := dk_16 26 (dk_at dksX6_take_1 18 rfl rfl)
theorem dX6_take_44 : decode cX6_take 44 = .ok (.iload_n 1, 1) := dk_27 (dk_at dksX6_take_1 20 rfl rfl)
theorem dX6_take_45 : decode cX6_take 45 = .ok (.imul, 1) := dk_104 (dk_at dksX6_take_1 21 rfl rfl)
theorem dX6_take_46 : decode cX6_take 46 = .ok (.iadd, 1) := dk_96 (dk_at dksX6_take_1 22 rfl rfl)
theorem dX6_take_47 : decode cX6_take 47 = .ok (.istore_n 2, 1) := dk_61 (dk_at dksX6_take_1 23 rfl rfl)
theorem dX6_take_48 : decode cX6_take 48 = .ok (.iload_n 2, 1) := dk_28 (dk_at dksX6_take_2 0 rfl rfl)
theorem dX6_take_49 : decode cX6_take 49 = .ok (.bipush 22, 2) := dk_16 22 (dk_at dksX6_take_2 1 rfl rfl)
theorem dX6_take_51 : decode cX6_take 51 = .ok (.bipush 26, 2) := dk_16 26 (dk_at dksX6_take_2 3 rfl rfl)
theorem dX6_take_53 : decode cX6_take 53 = .ok (.aload_n 0, 1) := dk_42 (dk_at dksX6_take_2 5 rfl rfl)
theorem dX6_take_54 : decode cX6_take 54 = .ok (.getfield 7, 3) := dk_180 0 7 (dk_at dksX6_take_2 6 rfl rfl)
theorem dX6_take_57 : decode cX6_take 57 = .ok (.iconst 1, 1) := dk_4 (dk_at dksX6_take_2 9 rfl rfl)
theorem dX6_take_58 : decode cX6_take 58 = .ok (.iaload, 1) := dk_46 (dk_at dksX6_take_2 10 rfl rfl)
theorem dX6_take_59 : decode cX6_take 59 = .ok (.imul, 1) := dk_104 (dk_at dksX6_take_2 11 rfl rfl)
theorem dX6_take_60 : decode cX6_take 60 = .ok (.iadd, 1) := dk_96 (dk_at dksX6_take_2 12 rfl rfl)
theorem dX6_take_61 : decode cX6_take 61 = .ok (.if_icmp .ge 24, 3) := dk_162 0 24 (dk_at dksX6_take_2 13 rfl rfl)
theorem dX6_take_64 : decode cX6_take 64 = .ok (.aload_n 0, 1) := dk_42 (dk_at dksX6_take_2 16 rfl rfl)
theorem dX6_take_65 : decode cX6_take 65 = .ok (.getfield 7, 3) := dk_180 0 7 (dk_at dksX6_take_2 17 rfl rfl)
theorem dX6_take_68 : decode cX6_take 68 = .ok (.iload_n 2, 1) := dk_28 (dk_at dksX6_take_2 20 rfl rfl)
theorem dX6_take_69 : decode cX6_take 69 = .ok (.aload_n 0, 1) := dk_42 (dk_at dksX6_take_2 21 rfl rfl)
theorem dX6_take_70 : decode cX6_take 70 = .ok (.getfield 7, 3) := dk_180 0 7 (dk_at dksX6_take_3 0 rfl rfl)
theorem dX6_take_73 : decode cX6_take 73 = .ok (.iload_n 2, 1) := dk_28 (dk_at dksX6_take_3 3 rfl rfl)
theorem dX6_take_74 : decode cX6_take 74 = .ok (.bipush 26, 2) := dk_16 26 (dk_at dksX6_take_3 4 rfl rfl)
theorem dX6_take_76 : decode cX6_take 76 = .ok (.iadd, 1) := dk_96 (dk_at dksX6_take_3 6 rfl rfl)
theorem dX6_take_77 : decode cX6_take 77 = .ok (.iaload, 1) := dk_46 (dk_at dksX6_take_3 7 rfl rfl)
theorem dX6_take_78 : decode cX6_take 78 = .ok (.iastore, 1) := dk_79 (dk_at dksX6_take_3 8 rfl rfl)
theorem dX6_take_79 : decode cX6_take 79 = .ok (.iinc 2 1, 3) := dk_132 2 1 (dk_at dksX6_take_3 9 rfl rfl)
theorem dX6_take_82 : decode cX6_take 82 = .ok (.goto (-34), 3) := dk_167 255 222 (dk_at dksX6_take_3 12 rfl rfl)
theorem dX6_take_85 : decode cX6_take 85 = .ok (.iconst 0, 1) := dk_3 (dk_at dksX6_take_3 15 rfl rfl)
theorem dX6_take_86 : decode cX6_take 86 = .ok (.istore_n 2, 1) := dk_61 (dk_at dksX6_take_3 16 rfl rfl)
theorem dX6_take_87 : decode cX6_take 87 = .ok (.iload_n 2, 1) := dk_28 (dk_at dksX6_take_3 17 rfl rfl)
theorem dX6_take_88 : decode cX6_take 88 = .ok (.bipush 26, 2) := dk_16 26 (dk_at dksX6_take_3 18 rfl rfl)
theorem dX6_take_90 : decode cX6_take 90 = .ok (.if_icmp .ge 21, 3) := dk_162 0 21 (dk_at dksX6_take_3 20 rfl rfl)
theorem dX6_take_93 : decode cX6_take 93 = .ok (.aload_n 0, 1) := dk_42 (dk_at dksX6_take_3 23 rfl rfl)
theorem dX6_take_94 : decode cX6_take 94 = .ok (.aload_n 0, 1) := dk_42 (dk_at dksX6_take_4 0 rfl rfl)
theorem dX6_take_95 : decode cX6_take 95 = .ok (.getfield 7, 3) := dk_180 0 7 (dk_at dksX6_take_4 1 rfl rfl)
theorem dX6_take_98 : decode cX6_take 98 = .ok (.iconst 1, 1) := dk_4 (dk_at dksX6_take_4 4 rfl rfl)
theorem dX6_take_99 : decode cX6_take 99 = .ok (.iaload, 1) := dk_46 (dk_at dksX6_take_4 5 rfl rfl)
theorem dX6_take_100 : decode cX6_take 100 = .ok (.iload_n 2, 1) := dk_28 (dk_at dksX6_take_4 6 rfl rfl)
theorem dX6_take_101 : decode cX6_take 101 = .ok (.iconst 0, 1) := dk_3 (dk_at dksX6_take_4 7 rfl rfl)
theorem dX6_take_102 : decode cX6_take 102 = .ok (.invokevirtual 108, 3) := dk_182 0 108 (dk_at dksX6_take_4 8 rfl rfl)
theorem dX6_take_105 : decode cX6_take 105 = .ok (.iinc 2 1, 3) := dk_132 2 1 (dk_at dksX6_take_4 11 rfl rfl)
theorem dX6_take_108 : decode cX6_take 108 = .ok (.goto (-21), 3) := dk_167 255 235 (dk_at dksX6_take_4 14 rfl rfl)
theorem dX6_take_111 : decode cX6_take 111 = .ok (.aload_n 0, 1) := dk_42 (dk_at dksX6_take_4 17 rfl rfl)
theorem dX6_take_112 : decode cX6_take 112 = .ok (.getfield 7, 3) := dk_180 0 7 (dk_at dksX6_take_4 18 rfl rfl)
theorem dX6_take_115 : decode cX6_take 115 = .ok (.iconst 1, 1) := dk_4 (dk_at dksX6_take_4 21 rfl rfl)
theorem dX6_take_116 : decode cX6_take 116 = .ok (.iaload, 1) := dk_46 (dk_at dksX6_take_4 22 rfl rfl)
theorem dX6_take_117 : decode cX6_take 117 = .ok (.ireturn, 1) := dk_172 (dk_at dksX6_take_4 23 rfl rfl)
abbrev cX6_isSheet : ByteArray := prog_12_method_16_code
def yX6_isSheet : MethodName := ⟨RX6, "isSheet", "(I)Z"⟩
def dkwX6_isSheet_0 : List UInt8 := [27, 3, 42, 180, 0, 7, 4, 46, 4, 100, 184, 0, 72, 172]
abbrev dktX6_isSheet_0 : List UInt8 := dkwX6_isSheet_0 ++ []
theorem dksX6_isSheet_0 : cX6_isSheet.data.toList.drop 0 = dktX6_isSheet_0 := by decide +kernel
theorem dX6_isSheet_0 : decode cX6_isSheet 0 = .ok (.iload_n 1, 1) := dk_27 (dk_at dksX6_isSheet_0 0 rfl rfl)
theorem dX6_isSheet_1 : decode cX6_isSheet 1 = .ok (.iconst 0, 1) := dk_3 (dk_at dksX6_isSheet_0 1 rfl rfl)
theorem dX6_isSheet_2 : decode cX6_isSheet 2 = .ok (.aload_n 0, 1) := dk_42 (dk_at dksX6_isSheet_0 2 rfl rfl)
theorem dX6_isSheet_3 : decode cX6_isSheet 3 = .ok (.getfield 7, 3) := dk_180 0 7 (dk_at dksX6_isSheet_0 3 rfl rfl)
theorem dX6_isSheet_6 : decode cX6_isSheet 6 = .ok (.iconst 1, 1) := dk_4 (dk_at dksX6_isSheet_0 6 rfl rfl)
theorem dX6_isSheet_7 : decode cX6_isSheet 7 = .ok (.iaload, 1) := dk_46 (dk_at dksX6_isSheet_0 7 rfl rfl)
theorem dX6_isSheet_8 : decode cX6_isSheet 8 = .ok (.iconst 1, 1) := dk_4 (dk_at dksX6_isSheet_0 8 rfl rfl)
theorem dX6_isSheet_9 : decode cX6_isSheet 9 = .ok (.isub, 1) := dk_100 (dk_at dksX6_isSheet_0 9 rfl rfl)
theorem dX6_isSheet_10 : decode cX6_isSheet 10 = .ok (.invokestatic 72, 3) := dk_184 0 72 (dk_at dksX6_isSheet_0 10 rfl rfl)
theorem dX6_isSheet_13 : decode cX6_isSheet 13 = .ok (.ireturn, 1) := dk_172 (dk_at dksX6_isSheet_0 13 rfl rfl)
abbrev cX6_set : ByteArray := prog_12_method_25_code
def yX6_set : MethodName := ⟨RX6, "set", "(IIC)I"⟩
def dkwX6_set_5 : List UInt8 := [42, 27, 4, 182, 0, 118, 172]
abbrev dktX6_set_5 : List UInt8 := dkwX6_set_5 ++ []
def dkwX6_set_4 : List UInt8 := [182, 0, 93, 42, 27, 16, 10, 28, 96, 21, 4, 182, 0, 108, 42, 27, 16, 18, 28, 96, 4, 182, 0, 108]
abbrev dktX6_set_4 : List UInt8 := dkwX6_set_4 ++ dktX6_set_5
def dkwX6_set_3 : List UInt8 := [5, 28, 96, 182, 0, 80, 21, 4, 160, 0, 11, 42, 6, 6, 28, 182, 0, 89, 172, 42, 42, 180, 0, 7]
abbrev dktX6_set_3 : List UInt8 := dkwX6_set_3 ++ dktX6_set_4
def dkwX6_set_2 : List UInt8 := [42, 27, 16, 10, 28, 96, 182, 0, 80, 21, 4, 160, 0, 11, 42, 6, 5, 28, 182, 0, 89, 172, 42, 27]
abbrev dktX6_set_2 : List UInt8 := dkwX6_set_2 ++ dktX6_set_3
def dkwX6_set_1 : List UInt8 := [153, 0, 7, 3, 167, 0, 4, 5, 182, 0, 86, 153, 0, 5, 3, 172, 29, 16, 97, 100, 4, 96, 54, 4]
abbrev dktX6_set_1 : List UInt8 := dkwX6_set_1 ++ dktX6_set_2
def dkwX6_set_0 : List UInt8 := [42, 42, 27, 28, 182, 0, 114, 154, 0, 7, 4, 167, 0, 19, 29, 16, 97, 16, 102, 184, 0, 72]
abbrev dktX6_set_0 : List UInt8 := dkwX6_set_0 ++ dktX6_set_1
theorem dksX6_set_0 : cX6_set.data.toList.drop 0 = dktX6_set_0 := by decide +kernel
theorem dksX6_set_1 : cX6_set.data.toList.drop 22 = dktX6_set_1 := dk_seg dksX6_set_0 22 rfl rfl
theorem dksX6_set_2 : cX6_set.data.toList.drop 46 = dktX6_set_2 := dk_seg dksX6_set_1 24 rfl rfl
theorem dksX6_set_3 : cX6_set.data.toList.drop 70 = dktX6_set_3 := dk_seg dksX6_set_2 24 rfl rfl
theorem dksX6_set_4 : cX6_set.data.toList.drop 94 = dktX6_set_4 := dk_seg dksX6_set_3 24 rfl rfl
theorem dksX6_set_5 : cX6_set.data.toList.drop 118 = dktX6_set_5 := dk_seg dksX6_set_4 24 rfl rfl
theorem dX6_set_0 : decode cX6_set 0 = .ok (.aload_n 0, 1) := dk_42 (dk_at dksX6_set_0 0 rfl rfl)
theorem dX6_set_1 : decode cX6_set 1 = .ok (.aload_n 0, 1) := dk_42 (dk_at dksX6_set_0 1 rfl rfl)
theorem dX6_set_2 : decode cX6_set 2 = .ok (.iload_n 1, 1) := dk_27 (dk_at dksX6_set_0 2 rfl rfl)
theorem dX6_set_3 : decode cX6_set 3 = .ok (.iload_n 2, 1) := dk_28 (dk_at dksX6_set_0 3 rfl rfl)
theorem dX6_set_4 : decode cX6_set 4 = .ok (.invokevirtual 114, 3) := dk_182 0 114 (dk_at dksX6_set_0 4 rfl rfl)
theorem dX6_set_7 : decode cX6_set 7 = .ok (.ifCond .ne 7, 3) := dk_154 0 7 (dk_at dksX6_set_0 7 rfl rfl)
theorem dX6_set_10 : decode cX6_set 10 = .ok (.iconst 1, 1) := dk_4 (dk_at dksX6_set_0 10 rfl rfl)
theorem dX6_set_11 : decode cX6_set 11 = .ok (.goto 19, 3) := dk_167 0 19 (dk_at dksX6_set_0 11 rfl rfl)
theorem dX6_set_14 : decode cX6_set 14 = .ok (.iload_n 3, 1) := dk_29 (dk_at dksX6_set_0 14 rfl rfl)
theorem dX6_set_15 : decode cX6_set 15 = .ok (.bipush 97, 2) := dk_16 97 (dk_at dksX6_set_0 15 rfl rfl)
theorem dX6_set_17 : decode cX6_set 17 = .ok (.bipush 102, 2) := dk_16 102 (dk_at dksX6_set_0 17 rfl rfl)
theorem dX6_set_19 : decode cX6_set 19 = .ok (.invokestatic 72, 3) := dk_184 0 72 (dk_at dksX6_set_0 19 rfl rfl)
theorem dX6_set_22 : decode cX6_set 22 = .ok (.ifCond .eq 7, 3) := dk_153 0 7 (dk_at dksX6_set_1 0 rfl rfl)
theorem dX6_set_25 : decode cX6_set 25 = .ok (.iconst 0, 1) := dk_3 (dk_at dksX6_set_1 3 rfl rfl)
theorem dX6_set_26 : decode cX6_set 26 = .ok (.goto 4, 3) := dk_167 0 4 (dk_at dksX6_set_1 4 rfl rfl)
theorem dX6_set_29 : decode cX6_set 29 = .ok (.iconst 2, 1) := dk_5 (dk_at dksX6_set_1 7 rfl rfl)
theorem dX6_set_30 : decode cX6_set 30 = .ok (.invokevirtual 86, 3) := dk_182 0 86 (dk_at dksX6_set_1 8 rfl rfl)
theorem dX6_set_33 : decode cX6_set 33 = .ok (.ifCond .eq 5, 3) := dk_153 0 5 (dk_at dksX6_set_1 11 rfl rfl)
theorem dX6_set_36 : decode cX6_set 36 = .ok (.iconst 0, 1) := dk_3 (dk_at dksX6_set_1 14 rfl rfl)
theorem dX6_set_37 : decode cX6_set 37 = .ok (.ireturn, 1) := dk_172 (dk_at dksX6_set_1 15 rfl rfl)
theorem dX6_set_38 : decode cX6_set 38 = .ok (.iload_n 3, 1) := dk_29 (dk_at dksX6_set_1 16 rfl rfl)
theorem dX6_set_39 : decode cX6_set 39 = .ok (.bipush 97, 2) := dk_16 97 (dk_at dksX6_set_1 17 rfl rfl)
theorem dX6_set_41 : decode cX6_set 41 = .ok (.isub, 1) := dk_100 (dk_at dksX6_set_1 19 rfl rfl)
theorem dX6_set_42 : decode cX6_set 42 = .ok (.iconst 1, 1) := dk_4 (dk_at dksX6_set_1 20 rfl rfl)
theorem dX6_set_43 : decode cX6_set 43 = .ok (.iadd, 1) := dk_96 (dk_at dksX6_set_1 21 rfl rfl)
theorem dX6_set_44 : decode cX6_set 44 = .ok (.istore 4, 2) := dk_54 4 (dk_at dksX6_set_1 22 rfl rfl)
theorem dX6_set_46 : decode cX6_set 46 = .ok (.aload_n 0, 1) := dk_42 (dk_at dksX6_set_2 0 rfl rfl)
theorem dX6_set_47 : decode cX6_set 47 = .ok (.iload_n 1, 1) := dk_27 (dk_at dksX6_set_2 1 rfl rfl)
theorem dX6_set_48 : decode cX6_set 48 = .ok (.bipush 10, 2) := dk_16 10 (dk_at dksX6_set_2 2 rfl rfl)
theorem dX6_set_50 : decode cX6_set 50 = .ok (.iload_n 2, 1) := dk_28 (dk_at dksX6_set_2 4 rfl rfl)
theorem dX6_set_51 : decode cX6_set 51 = .ok (.iadd, 1) := dk_96 (dk_at dksX6_set_2 5 rfl rfl)
theorem dX6_set_52 : decode cX6_set 52 = .ok (.invokevirtual 80, 3) := dk_182 0 80 (dk_at dksX6_set_2 6 rfl rfl)
theorem dX6_set_55 : decode cX6_set 55 = .ok (.iload 4, 2) := dk_21 4 (dk_at dksX6_set_2 9 rfl rfl)
theorem dX6_set_57 : decode cX6_set 57 = .ok (.if_icmp .ne 11, 3) := dk_160 0 11 (dk_at dksX6_set_2 11 rfl rfl)
theorem dX6_set_60 : decode cX6_set 60 = .ok (.aload_n 0, 1) := dk_42 (dk_at dksX6_set_2 14 rfl rfl)
theorem dX6_set_61 : decode cX6_set 61 = .ok (.iconst 3, 1) := dk_6 (dk_at dksX6_set_2 15 rfl rfl)
theorem dX6_set_62 : decode cX6_set 62 = .ok (.iconst 2, 1) := dk_5 (dk_at dksX6_set_2 16 rfl rfl)
theorem dX6_set_63 : decode cX6_set 63 = .ok (.iload_n 2, 1) := dk_28 (dk_at dksX6_set_2 17 rfl rfl)
theorem dX6_set_64 : decode cX6_set 64 = .ok (.invokevirtual 89, 3) := dk_182 0 89 (dk_at dksX6_set_2 18 rfl rfl)
theorem dX6_set_67 : decode cX6_set 67 = .ok (.ireturn, 1) := dk_172 (dk_at dksX6_set_2 21 rfl rfl)
theorem dX6_set_68 : decode cX6_set 68 = .ok (.aload_n 0, 1) := dk_42 (dk_at dksX6_set_2 22 rfl rfl)
theorem dX6_set_69 : decode cX6_set 69 = .ok (.iload_n 1, 1) := dk_27 (dk_at dksX6_set_2 23 rfl rfl)
theorem dX6_set_70 : decode cX6_set 70 = .ok (.iconst 2, 1) := dk_5 (dk_at dksX6_set_3 0 rfl rfl)
theorem dX6_set_71 : decode cX6_set 71 = .ok (.iload_n 2, 1) := dk_28 (dk_at dksX6_set_3 1 rfl rfl)
theorem dX6_set_72 : decode cX6_set 72 = .ok (.iadd, 1) := dk_96 (dk_at dksX6_set_3 2 rfl rfl)
theorem dX6_set_73 : decode cX6_set 73 = .ok (.invokevirtual 80, 3) := dk_182 0 80 (dk_at dksX6_set_3 3 rfl rfl)
theorem dX6_set_76 : decode cX6_set 76 = .ok (.iload 4, 2) := dk_21 4 (dk_at dksX6_set_3 6 rfl rfl)
theorem dX6_set_78 : decode cX6_set 78 = .ok (.if_icmp .ne 11, 3) := dk_160 0 11 (dk_at dksX6_set_3 8 rfl rfl)
theorem dX6_set_81 : decode cX6_set 81 = .ok (.aload_n 0, 1) := dk_42 (dk_at dksX6_set_3 11 rfl rfl)
theorem dX6_set_82 : decode cX6_set 82 = .ok (.iconst 3, 1) := dk_6 (dk_at dksX6_set_3 12 rfl rfl)
theorem dX6_set_83 : decode cX6_set 83 = .ok (.iconst 3, 1) := dk_6 (dk_at dksX6_set_3 13 rfl rfl)
theorem dX6_set_84 : decode cX6_set 84 = .ok (.iload_n 2, 1) := dk_28 (dk_at dksX6_set_3 14 rfl rfl)
theorem dX6_set_85 : decode cX6_set 85 = .ok (.invokevirtual 89, 3) := dk_182 0 89 (dk_at dksX6_set_3 15 rfl rfl)
theorem dX6_set_88 : decode cX6_set 88 = .ok (.ireturn, 1) := dk_172 (dk_at dksX6_set_3 18 rfl rfl)
theorem dX6_set_89 : decode cX6_set 89 = .ok (.aload_n 0, 1) := dk_42 (dk_at dksX6_set_3 19 rfl rfl)
theorem dX6_set_90 : decode cX6_set 90 = .ok (.aload_n 0, 1) := dk_42 (dk_at dksX6_set_3 20 rfl rfl)
theorem dX6_set_91 : decode cX6_set 91 = .ok (.getfield 7, 3) := dk_180 0 7 (dk_at dksX6_set_3 21 rfl rfl)
theorem dX6_set_94 : decode cX6_set 94 = .ok (.invokevirtual 93, 3) := dk_182 0 93 (dk_at dksX6_set_4 0 rfl rfl)
theorem dX6_set_97 : decode cX6_set 97 = .ok (.aload_n 0, 1) := dk_42 (dk_at dksX6_set_4 3 rfl rfl)
theorem dX6_set_98 : decode cX6_set 98 = .ok (.iload_n 1, 1) := dk_27 (dk_at dksX6_set_4 4 rfl rfl)
theorem dX6_set_99 : decode cX6_set 99 = .ok (.bipush 10, 2) := dk_16 10 (dk_at dksX6_set_4 5 rfl rfl)
theorem dX6_set_101 : decode cX6_set 101 = .ok (.iload_n 2, 1) := dk_28 (dk_at dksX6_set_4 7 rfl rfl)
theorem dX6_set_102 : decode cX6_set 102 = .ok (.iadd, 1) := dk_96 (dk_at dksX6_set_4 8 rfl rfl)
theorem dX6_set_103 : decode cX6_set 103 = .ok (.iload 4, 2) := dk_21 4 (dk_at dksX6_set_4 9 rfl rfl)
theorem dX6_set_105 : decode cX6_set 105 = .ok (.invokevirtual 108, 3) := dk_182 0 108 (dk_at dksX6_set_4 11 rfl rfl)
theorem dX6_set_108 : decode cX6_set 108 = .ok (.aload_n 0, 1) := dk_42 (dk_at dksX6_set_4 14 rfl rfl)
theorem dX6_set_109 : decode cX6_set 109 = .ok (.iload_n 1, 1) := dk_27 (dk_at dksX6_set_4 15 rfl rfl)
theorem dX6_set_110 : decode cX6_set 110 = .ok (.bipush 18, 2) := dk_16 18 (dk_at dksX6_set_4 16 rfl rfl)
theorem dX6_set_112 : decode cX6_set 112 = .ok (.iload_n 2, 1) := dk_28 (dk_at dksX6_set_4 18 rfl rfl)
theorem dX6_set_113 : decode cX6_set 113 = .ok (.iadd, 1) := dk_96 (dk_at dksX6_set_4 19 rfl rfl)
theorem dX6_set_114 : decode cX6_set 114 = .ok (.iconst 1, 1) := dk_4 (dk_at dksX6_set_4 20 rfl rfl)
theorem dX6_set_115 : decode cX6_set 115 = .ok (.invokevirtual 108, 3) := dk_182 0 108 (dk_at dksX6_set_4 21 rfl rfl)
theorem dX6_set_118 : decode cX6_set 118 = .ok (.aload_n 0, 1) := dk_42 (dk_at dksX6_set_5 0 rfl rfl)
theorem dX6_set_119 : decode cX6_set 119 = .ok (.iload_n 1, 1) := dk_27 (dk_at dksX6_set_5 1 rfl rfl)
theorem dX6_set_120 : decode cX6_set 120 = .ok (.iconst 1, 1) := dk_4 (dk_at dksX6_set_5 2 rfl rfl)
theorem dX6_set_121 : decode cX6_set 121 = .ok (.invokevirtual 118, 3) := dk_182 0 118 (dk_at dksX6_set_5 3 rfl rfl)
theorem dX6_set_124 : decode cX6_set 124 = .ok (.ireturn, 1) := dk_172 (dk_at dksX6_set_5 6 rfl rfl)
abbrev cX6_isPlace : ByteArray := prog_12_method_17_code
def yX6_isPlace : MethodName := ⟨RX6, "isPlace", "(II)Z"⟩
def dkwX6_isPlace_1 : List UInt8 := [4, 167, 0, 4, 3, 172]
abbrev dktX6_isPlace_1 : List UInt8 := dkwX6_isPlace_1 ++ []
def dkwX6_isPlace_0 : List UInt8 := [42, 27, 182, 0, 76, 153, 0, 23, 28, 3, 42, 27, 4, 182, 0, 80, 4, 100, 184, 0, 72, 153, 0, 7]
abbrev dktX6_isPlace_0 : List UInt8 := dkwX6_isPlace_0 ++ dktX6_isPlace_1
theorem dksX6_isPlace_0 : cX6_isPlace.data.toList.drop 0 = dktX6_isPlace_0 := by decide +kernel
theorem dksX6_isPlace_1 : cX6_isPlace.data.toList.drop 24 = dktX6_isPlace_1 := dk_seg dksX6_isPlace_0 24 rfl rfl
theorem dX6_isPlace_0 : decode cX6_isPlace 0 = .ok (.aload_n 0, 1) := dk_42 (dk_at dksX6_isPlace_0 0 rfl rfl)
theorem dX6_isPlace_1 : decode cX6_isPlace 1 = .ok (.iload_n 1, 1) := dk_27 (dk_at dksX6_isPlace_0 1 rfl rfl)
theorem dX6_isPlace_2 : decode cX6_isPlace 2 = .ok (.invokevirtual 76, 3) := dk_182 0 76 (dk_at dksX6_isPlace_0 2 rfl rfl)
theorem dX6_isPlace_5 : decode cX6_isPlace 5 = .ok (.ifCond .eq 23, 3) := dk_153 0 23 (dk_at dksX6_isPlace_0 5 rfl rfl)
theorem dX6_isPlace_8 : decode cX6_isPlace 8 = .ok (.iload_n 2, 1) := dk_28 (dk_at dksX6_isPlace_0 8 rfl rfl)
theorem dX6_isPlace_9 : decode cX6_isPlace 9 = .ok (.iconst 0, 1) := dk_3 (dk_at dksX6_isPlace_0 9 rfl rfl)
theorem dX6_isPlace_10 : decode cX6_isPlace 10 = .ok (.aload_n 0, 1) := dk_42 (dk_at dksX6_isPlace_0 10 rfl rfl)
theorem dX6_isPlace_11 : decode cX6_isPlace 11 = .ok (.iload_n 1, 1) := dk_27 (dk_at dksX6_isPlace_0 11 rfl rfl)
theorem dX6_isPlace_12 : decode cX6_isPlace 12 = .ok (.iconst 1, 1) := dk_4 (dk_at dksX6_isPlace_0 12 rfl rfl)
theorem dX6_isPlace_13 : decode cX6_isPlace 13 = .ok (.invokevirtual 80, 3) := dk_182 0 80 (dk_at dksX6_isPlace_0 13 rfl rfl)
theorem dX6_isPlace_16 : decode cX6_isPlace 16 = .ok (.iconst 1, 1) := dk_4 (dk_at dksX6_isPlace_0 16 rfl rfl)
theorem dX6_isPlace_17 : decode cX6_isPlace 17 = .ok (.isub, 1) := dk_100 (dk_at dksX6_isPlace_0 17 rfl rfl)
theorem dX6_isPlace_18 : decode cX6_isPlace 18 = .ok (.invokestatic 72, 3) := dk_184 0 72 (dk_at dksX6_isPlace_0 18 rfl rfl)
theorem dX6_isPlace_21 : decode cX6_isPlace 21 = .ok (.ifCond .eq 7, 3) := dk_153 0 7 (dk_at dksX6_isPlace_0 21 rfl rfl)
theorem dX6_isPlace_24 : decode cX6_isPlace 24 = .ok (.iconst 1, 1) := dk_4 (dk_at dksX6_isPlace_1 0 rfl rfl)
theorem dX6_isPlace_25 : decode cX6_isPlace 25 = .ok (.goto 4, 3) := dk_167 0 4 (dk_at dksX6_isPlace_1 1 rfl rfl)
theorem dX6_isPlace_28 : decode cX6_isPlace 28 = .ok (.iconst 0, 1) := dk_3 (dk_at dksX6_isPlace_1 4 rfl rfl)
theorem dX6_isPlace_29 : decode cX6_isPlace 29 = .ok (.ireturn, 1) := dk_172 (dk_at dksX6_isPlace_1 5 rfl rfl)
abbrev cX6_of : ByteArray := prog_12_method_13_code
def yX6_of : MethodName := ⟨RX6, "of", "(II)I"⟩
def dkwX6_of_0 : List UInt8 := [42, 180, 0, 7, 16, 22, 16, 26, 27, 104, 96, 28, 96, 46, 172]
abbrev dktX6_of_0 : List UInt8 := dkwX6_of_0 ++ []
theorem dksX6_of_0 : cX6_of.data.toList.drop 0 = dktX6_of_0 := by decide +kernel
theorem dX6_of_0 : decode cX6_of 0 = .ok (.aload_n 0, 1) := dk_42 (dk_at dksX6_of_0 0 rfl rfl)
theorem dX6_of_1 : decode cX6_of 1 = .ok (.getfield 7, 3) := dk_180 0 7 (dk_at dksX6_of_0 1 rfl rfl)
theorem dX6_of_4 : decode cX6_of 4 = .ok (.bipush 22, 2) := dk_16 22 (dk_at dksX6_of_0 4 rfl rfl)
theorem dX6_of_6 : decode cX6_of 6 = .ok (.bipush 26, 2) := dk_16 26 (dk_at dksX6_of_0 6 rfl rfl)
theorem dX6_of_8 : decode cX6_of 8 = .ok (.iload_n 1, 1) := dk_27 (dk_at dksX6_of_0 8 rfl rfl)
theorem dX6_of_9 : decode cX6_of 9 = .ok (.imul, 1) := dk_104 (dk_at dksX6_of_0 9 rfl rfl)
theorem dX6_of_10 : decode cX6_of 10 = .ok (.iadd, 1) := dk_96 (dk_at dksX6_of_0 10 rfl rfl)
theorem dX6_of_11 : decode cX6_of 11 = .ok (.iload_n 2, 1) := dk_28 (dk_at dksX6_of_0 11 rfl rfl)
theorem dX6_of_12 : decode cX6_of 12 = .ok (.iadd, 1) := dk_96 (dk_at dksX6_of_0 12 rfl rfl)
theorem dX6_of_13 : decode cX6_of 13 = .ok (.iaload, 1) := dk_46 (dk_at dksX6_of_0 13 rfl rfl)
theorem dX6_of_14 : decode cX6_of 14 = .ok (.ireturn, 1) := dk_172 (dk_at dksX6_of_0 14 rfl rfl)
abbrev cX6_misprints : ByteArray := prog_12_method_24_code
def yX6_misprints : MethodName := ⟨RX6, "misprints", "(II)I"⟩
def dkwX6_misprints_1 : List UInt8 := [28, 161, 0, 7, 4, 167, 0, 4, 3, 96, 62, 132, 4, 1, 167, 255, 223, 29, 172]
abbrev dktX6_misprints_1 : List UInt8 := dkwX6_misprints_1 ++ []
def dkwX6_misprints_0 : List UInt8 := [3, 62, 3, 54, 4, 21, 4, 42, 27, 4, 182, 0, 80, 162, 0, 28, 29, 42, 27, 21, 4, 182, 0, 111]
abbrev dktX6_misprints_0 : List UInt8 := dkwX6_misprints_0 ++ dktX6_misprints_1
theorem dksX6_misprints_0 : cX6_misprints.data.toList.drop 0 = dktX6_misprints_0 := by decide +kernel
theorem dksX6_misprints_1 : cX6_misprints.data.toList.drop 24 = dktX6_misprints_1 := dk_seg dksX6_misprints_0 24 rfl rfl
theorem dX6_misprints_0 : decode cX6_misprints 0 = .ok (.iconst 0, 1) := dk_3 (dk_at dksX6_misprints_0 0 rfl rfl)
theorem dX6_misprints_1 : decode cX6_misprints 1 = .ok (.istore_n 3, 1) := dk_62 (dk_at dksX6_misprints_0 1 rfl rfl)
theorem dX6_misprints_2 : decode cX6_misprints 2 = .ok (.iconst 0, 1) := dk_3 (dk_at dksX6_misprints_0 2 rfl rfl)
theorem dX6_misprints_3 : decode cX6_misprints 3 = .ok (.istore 4, 2) := dk_54 4 (dk_at dksX6_misprints_0 3 rfl rfl)
theorem dX6_misprints_5 : decode cX6_misprints 5 = .ok (.iload 4, 2) := dk_21 4 (dk_at dksX6_misprints_0 5 rfl rfl)
theorem dX6_misprints_7 : decode cX6_misprints 7 = .ok (.aload_n 0, 1) := dk_42 (dk_at dksX6_misprints_0 7 rfl rfl)
theorem dX6_misprints_8 : decode cX6_misprints 8 = .ok (.iload_n 1, 1) := dk_27 (dk_at dksX6_misprints_0 8 rfl rfl)
theorem dX6_misprints_9 : decode cX6_misprints 9 = .ok (.iconst 1, 1) := dk_4 (dk_at dksX6_misprints_0 9 rfl rfl)
theorem dX6_misprints_10 : decode cX6_misprints 10 = .ok (.invokevirtual 80, 3) := dk_182 0 80 (dk_at dksX6_misprints_0 10 rfl rfl)
theorem dX6_misprints_13 : decode cX6_misprints 13 = .ok (.if_icmp .ge 28, 3) := dk_162 0 28 (dk_at dksX6_misprints_0 13 rfl rfl)
theorem dX6_misprints_16 : decode cX6_misprints 16 = .ok (.iload_n 3, 1) := dk_29 (dk_at dksX6_misprints_0 16 rfl rfl)
theorem dX6_misprints_17 : decode cX6_misprints 17 = .ok (.aload_n 0, 1) := dk_42 (dk_at dksX6_misprints_0 17 rfl rfl)
theorem dX6_misprints_18 : decode cX6_misprints 18 = .ok (.iload_n 1, 1) := dk_27 (dk_at dksX6_misprints_0 18 rfl rfl)
theorem dX6_misprints_19 : decode cX6_misprints 19 = .ok (.iload 4, 2) := dk_21 4 (dk_at dksX6_misprints_0 19 rfl rfl)
theorem dX6_misprints_21 : decode cX6_misprints 21 = .ok (.invokevirtual 111, 3) := dk_182 0 111 (dk_at dksX6_misprints_0 21 rfl rfl)
theorem dX6_misprints_24 : decode cX6_misprints 24 = .ok (.iload_n 2, 1) := dk_28 (dk_at dksX6_misprints_1 0 rfl rfl)
theorem dX6_misprints_25 : decode cX6_misprints 25 = .ok (.if_icmp .lt 7, 3) := dk_161 0 7 (dk_at dksX6_misprints_1 1 rfl rfl)
theorem dX6_misprints_28 : decode cX6_misprints 28 = .ok (.iconst 1, 1) := dk_4 (dk_at dksX6_misprints_1 4 rfl rfl)
theorem dX6_misprints_29 : decode cX6_misprints 29 = .ok (.goto 4, 3) := dk_167 0 4 (dk_at dksX6_misprints_1 5 rfl rfl)
theorem dX6_misprints_32 : decode cX6_misprints 32 = .ok (.iconst 0, 1) := dk_3 (dk_at dksX6_misprints_1 8 rfl rfl)
theorem dX6_misprints_33 : decode cX6_misprints 33 = .ok (.iadd, 1) := dk_96 (dk_at dksX6_misprints_1 9 rfl rfl)
theorem dX6_misprints_34 : decode cX6_misprints 34 = .ok (.istore_n 3, 1) := dk_62 (dk_at dksX6_misprints_1 10 rfl rfl)
theorem dX6_misprints_35 : decode cX6_misprints 35 = .ok (.iinc 4 1, 3) := dk_132 4 1 (dk_at dksX6_misprints_1 11 rfl rfl)
theorem dX6_misprints_38 : decode cX6_misprints 38 = .ok (.goto (-33), 3) := dk_167 255 223 (dk_at dksX6_misprints_1 14 rfl rfl)
theorem dX6_misprints_41 : decode cX6_misprints 41 = .ok (.iload_n 3, 1) := dk_29 (dk_at dksX6_misprints_1 17 rfl rfl)
theorem dX6_misprints_42 : decode cX6_misprints 42 = .ok (.ireturn, 1) := dk_172 (dk_at dksX6_misprints_1 18 rfl rfl)
abbrev cX6_mark : ByteArray := prog_12_method_18_code
def yX6_mark : MethodName := ⟨RX6, "mark", "(II)I"⟩
def dkwX6_mark_0 : List UInt8 := [42, 27, 16, 18, 28, 96, 182, 0, 80, 172]
abbrev dktX6_mark_0 : List UInt8 := dkwX6_mark_0 ++ []
theorem dksX6_mark_0 : cX6_mark.data.toList.drop 0 = dktX6_mark_0 := by decide +kernel
theorem dX6_mark_0 : decode cX6_mark 0 = .ok (.aload_n 0, 1) := dk_42 (dk_at dksX6_mark_0 0 rfl rfl)
theorem dX6_mark_1 : decode cX6_mark 1 = .ok (.iload_n 1, 1) := dk_27 (dk_at dksX6_mark_0 1 rfl rfl)
theorem dX6_mark_2 : decode cX6_mark 2 = .ok (.bipush 18, 2) := dk_16 18 (dk_at dksX6_mark_0 2 rfl rfl)
theorem dX6_mark_4 : decode cX6_mark 4 = .ok (.iload_n 2, 1) := dk_28 (dk_at dksX6_mark_0 4 rfl rfl)
theorem dX6_mark_5 : decode cX6_mark 5 = .ok (.iadd, 1) := dk_96 (dk_at dksX6_mark_0 5 rfl rfl)
theorem dX6_mark_6 : decode cX6_mark 6 = .ok (.invokevirtual 80, 3) := dk_182 0 80 (dk_at dksX6_mark_0 6 rfl rfl)
theorem dX6_mark_9 : decode cX6_mark 9 = .ok (.ireturn, 1) := dk_172 (dk_at dksX6_mark_0 9 rfl rfl)
abbrev cX6_license : ByteArray := prog_12_method_29_code
def yX6_license : MethodName := ⟨RX6, "license", "(II)I"⟩
def dkwX6_license_6 : List UInt8 := [92, 46, 21, 4, 96, 79, 42, 27, 16, 18, 28, 96, 5, 182, 0, 108, 21, 4, 172]
abbrev dktX6_license_6 : List UInt8 := dkwX6_license_6 ++ []
def dkwX6_license_5 : List UInt8 := [172, 42, 42, 180, 0, 7, 182, 0, 93, 42, 29, 3, 21, 4, 116, 182, 0, 97, 42, 180, 0, 7, 16, 7]
abbrev dktX6_license_5 : List UInt8 := dkwX6_license_5 ++ dktX6_license_6
def dkwX6_license_4 : List UInt8 := [42, 29, 3, 182, 0, 65, 21, 4, 162, 0, 17, 42, 5, 16, 7, 42, 29, 3, 182, 0, 65, 182, 0, 89]
abbrev dktX6_license_4 : List UInt8 := dkwX6_license_4 ++ dktX6_license_5
def dkwX6_license_3 : List UInt8 := [153, 0, 17, 42, 5, 16, 6, 42, 29, 4, 182, 0, 65, 182, 0, 89, 172, 42, 29, 182, 0, 127, 54, 4]
abbrev dktX6_license_3 : List UInt8 := dkwX6_license_3 ++ dktX6_license_4
def dkwX6_license_2 : List UInt8 := [27, 28, 182, 0, 111, 4, 164, 0, 11, 42, 5, 8, 28, 182, 0, 89, 172, 42, 29, 182, 0, 124]
abbrev dktX6_license_2 : List UInt8 := dkwX6_license_2 ++ dktX6_license_3
def dkwX6_license_1 : List UInt8 := [27, 3, 182, 0, 80, 62, 42, 27, 28, 182, 0, 111, 154, 0, 11, 42, 5, 7, 28, 182, 0, 89, 172, 42]
abbrev dktX6_license_1 : List UInt8 := dkwX6_license_1 ++ dktX6_license_2
def dkwX6_license_0 : List UInt8 := [42, 42, 27, 28, 182, 0, 114, 153, 0, 7, 3, 167, 0, 4, 4, 182, 0, 86, 153, 0, 5, 3, 172, 42]
abbrev dktX6_license_0 : List UInt8 := dkwX6_license_0 ++ dktX6_license_1
theorem dksX6_license_0 : cX6_license.data.toList.drop 0 = dktX6_license_0 := by decide +kernel
theorem dksX6_license_1 : cX6_license.data.toList.drop 24 = dktX6_license_1 := dk_seg dksX6_license_0 24 rfl rfl
theorem dksX6_license_2 : cX6_license.data.toList.drop 48 = dktX6_license_2 := dk_seg dksX6_license_1 24 rfl rfl
theorem dksX6_license_3 : cX6_license.data.toList.drop 70 = dktX6_license_3 := dk_seg dksX6_license_2 22 rfl rfl
theorem dksX6_license_4 : cX6_license.data.toList.drop 94 = dktX6_license_4 := dk_seg dksX6_license_3 24 rfl rfl
theorem dksX6_license_5 : cX6_license.data.toList.drop 118 = dktX6_license_5 := dk_seg dksX6_license_4 24 rfl rfl
theorem dksX6_license_6 : cX6_license.data.toList.drop 142 = dktX6_license_6 := dk_seg dksX6_license_5 24 rfl rfl
theorem dX6_license_0 : decode cX6_license 0 = .ok (.aload_n 0, 1) := dk_42 (dk_at dksX6_license_0 0 rfl rfl)
theorem dX6_license_1 : decode cX6_license 1 = .ok (.aload_n 0, 1) := dk_42 (dk_at dksX6_license_0 1 rfl rfl)
theorem dX6_license_2 : decode cX6_license 2 = .ok (.iload_n 1, 1) := dk_27 (dk_at dksX6_license_0 2 rfl rfl)
theorem dX6_license_3 : decode cX6_license 3 = .ok (.iload_n 2, 1) := dk_28 (dk_at dksX6_license_0 3 rfl rfl)
theorem dX6_license_4 : decode cX6_license 4 = .ok (.invokevirtual 114, 3) := dk_182 0 114 (dk_at dksX6_license_0 4 rfl rfl)
theorem dX6_license_7 : decode cX6_license 7 = .ok (.ifCond .eq 7, 3) := dk_153 0 7 (dk_at dksX6_license_0 7 rfl rfl)
theorem dX6_license_10 : decode cX6_license 10 = .ok (.iconst 0, 1) := dk_3 (dk_at dksX6_license_0 10 rfl rfl)
theorem dX6_license_11 : decode cX6_license 11 = .ok (.goto 4, 3) := dk_167 0 4 (dk_at dksX6_license_0 11 rfl rfl)
theorem dX6_license_14 : decode cX6_license 14 = .ok (.iconst 1, 1) := dk_4 (dk_at dksX6_license_0 14 rfl rfl)
theorem dX6_license_15 : decode cX6_license 15 = .ok (.invokevirtual 86, 3) := dk_182 0 86 (dk_at dksX6_license_0 15 rfl rfl)
theorem dX6_license_18 : decode cX6_license 18 = .ok (.ifCond .eq 5, 3) := dk_153 0 5 (dk_at dksX6_license_0 18 rfl rfl)
theorem dX6_license_21 : decode cX6_license 21 = .ok (.iconst 0, 1) := dk_3 (dk_at dksX6_license_0 21 rfl rfl)
theorem dX6_license_22 : decode cX6_license 22 = .ok (.ireturn, 1) := dk_172 (dk_at dksX6_license_0 22 rfl rfl)
theorem dX6_license_23 : decode cX6_license 23 = .ok (.aload_n 0, 1) := dk_42 (dk_at dksX6_license_0 23 rfl rfl)
theorem dX6_license_24 : decode cX6_license 24 = .ok (.iload_n 1, 1) := dk_27 (dk_at dksX6_license_1 0 rfl rfl)
theorem dX6_license_25 : decode cX6_license 25 = .ok (.iconst 0, 1) := dk_3 (dk_at dksX6_license_1 1 rfl rfl)
theorem dX6_license_26 : decode cX6_license 26 = .ok (.invokevirtual 80, 3) := dk_182 0 80 (dk_at dksX6_license_1 2 rfl rfl)
theorem dX6_license_29 : decode cX6_license 29 = .ok (.istore_n 3, 1) := dk_62 (dk_at dksX6_license_1 5 rfl rfl)
theorem dX6_license_30 : decode cX6_license 30 = .ok (.aload_n 0, 1) := dk_42 (dk_at dksX6_license_1 6 rfl rfl)
theorem dX6_license_31 : decode cX6_license 31 = .ok (.iload_n 1, 1) := dk_27 (dk_at dksX6_license_1 7 rfl rfl)
theorem dX6_license_32 : decode cX6_license 32 = .ok (.iload_n 2, 1) := dk_28 (dk_at dksX6_license_1 8 rfl rfl)
theorem dX6_license_33 : decode cX6_license 33 = .ok (.invokevirtual 111, 3) := dk_182 0 111 (dk_at dksX6_license_1 9 rfl rfl)
theorem dX6_license_36 : decode cX6_license 36 = .ok (.ifCond .ne 11, 3) := dk_154 0 11 (dk_at dksX6_license_1 12 rfl rfl)
theorem dX6_license_39 : decode cX6_license 39 = .ok (.aload_n 0, 1) := dk_42 (dk_at dksX6_license_1 15 rfl rfl)
theorem dX6_license_40 : decode cX6_license 40 = .ok (.iconst 2, 1) := dk_5 (dk_at dksX6_license_1 16 rfl rfl)
theorem dX6_license_41 : decode cX6_license 41 = .ok (.iconst 4, 1) := dk_7 (dk_at dksX6_license_1 17 rfl rfl)
theorem dX6_license_42 : decode cX6_license 42 = .ok (.iload_n 2, 1) := dk_28 (dk_at dksX6_license_1 18 rfl rfl)
theorem dX6_license_43 : decode cX6_license 43 = .ok (.invokevirtual 89, 3) := dk_182 0 89 (dk_at dksX6_license_1 19 rfl rfl)
theorem dX6_license_46 : decode cX6_license 46 = .ok (.ireturn, 1) := dk_172 (dk_at dksX6_license_1 22 rfl rfl)
theorem dX6_license_47 : decode cX6_license 47 = .ok (.aload_n 0, 1) := dk_42 (dk_at dksX6_license_1 23 rfl rfl)
theorem dX6_license_48 : decode cX6_license 48 = .ok (.iload_n 1, 1) := dk_27 (dk_at dksX6_license_2 0 rfl rfl)
theorem dX6_license_49 : decode cX6_license 49 = .ok (.iload_n 2, 1) := dk_28 (dk_at dksX6_license_2 1 rfl rfl)
theorem dX6_license_50 : decode cX6_license 50 = .ok (.invokevirtual 111, 3) := dk_182 0 111 (dk_at dksX6_license_2 2 rfl rfl)
theorem dX6_license_53 : decode cX6_license 53 = .ok (.iconst 1, 1) := dk_4 (dk_at dksX6_license_2 5 rfl rfl)
theorem dX6_license_54 : decode cX6_license 54 = .ok (.if_icmp .le 11, 3) := dk_164 0 11 (dk_at dksX6_license_2 6 rfl rfl)
theorem dX6_license_57 : decode cX6_license 57 = .ok (.aload_n 0, 1) := dk_42 (dk_at dksX6_license_2 9 rfl rfl)
theorem dX6_license_58 : decode cX6_license 58 = .ok (.iconst 2, 1) := dk_5 (dk_at dksX6_license_2 10 rfl rfl)
theorem dX6_license_59 : decode cX6_license 59 = .ok (.iconst 5, 1) := dk_8 (dk_at dksX6_license_2 11 rfl rfl)
theorem dX6_license_60 : decode cX6_license 60 = .ok (.iload_n 2, 1) := dk_28 (dk_at dksX6_license_2 12 rfl rfl)
theorem dX6_license_61 : decode cX6_license 61 = .ok (.invokevirtual 89, 3) := dk_182 0 89 (dk_at dksX6_license_2 13 rfl rfl)
theorem dX6_license_64 : decode cX6_license 64 = .ok (.ireturn, 1) := dk_172 (dk_at dksX6_license_2 16 rfl rfl)
theorem dX6_license_65 : decode cX6_license 65 = .ok (.aload_n 0, 1) := dk_42 (dk_at dksX6_license_2 17 rfl rfl)
theorem dX6_license_66 : decode cX6_license 66 = .ok (.iload_n 3, 1) := dk_29 (dk_at dksX6_license_2 18 rfl rfl)
theorem dX6_license_67 : decode cX6_license 67 = .ok (.invokevirtual 124, 3) := dk_182 0 124 (dk_at dksX6_license_2 19 rfl rfl)
theorem dX6_license_70 : decode cX6_license 70 = .ok (.ifCond .eq 17, 3) := dk_153 0 17 (dk_at dksX6_license_3 0 rfl rfl)
theorem dX6_license_73 : decode cX6_license 73 = .ok (.aload_n 0, 1) := dk_42 (dk_at dksX6_license_3 3 rfl rfl)
theorem dX6_license_74 : decode cX6_license 74 = .ok (.iconst 2, 1) := dk_5 (dk_at dksX6_license_3 4 rfl rfl)
theorem dX6_license_75 : decode cX6_license 75 = .ok (.bipush 6, 2) := dk_16 6 (dk_at dksX6_license_3 5 rfl rfl)
theorem dX6_license_77 : decode cX6_license 77 = .ok (.aload_n 0, 1) := dk_42 (dk_at dksX6_license_3 7 rfl rfl)
theorem dX6_license_78 : decode cX6_license 78 = .ok (.iload_n 3, 1) := dk_29 (dk_at dksX6_license_3 8 rfl rfl)
theorem dX6_license_79 : decode cX6_license 79 = .ok (.iconst 1, 1) := dk_4 (dk_at dksX6_license_3 9 rfl rfl)
theorem dX6_license_80 : decode cX6_license 80 = .ok (.invokevirtual 65, 3) := dk_182 0 65 (dk_at dksX6_license_3 10 rfl rfl)
theorem dX6_license_83 : decode cX6_license 83 = .ok (.invokevirtual 89, 3) := dk_182 0 89 (dk_at dksX6_license_3 13 rfl rfl)
theorem dX6_license_86 : decode cX6_license 86 = .ok (.ireturn, 1) := dk_172 (dk_at dksX6_license_3 16 rfl rfl)
theorem dX6_license_87 : decode cX6_license 87 = .ok (.aload_n 0, 1) := dk_42 (dk_at dksX6_license_3 17 rfl rfl)
theorem dX6_license_88 : decode cX6_license 88 = .ok (.iload_n 3, 1) := dk_29 (dk_at dksX6_license_3 18 rfl rfl)
theorem dX6_license_89 : decode cX6_license 89 = .ok (.invokevirtual 127, 3) := dk_182 0 127 (dk_at dksX6_license_3 19 rfl rfl)
theorem dX6_license_92 : decode cX6_license 92 = .ok (.istore 4, 2) := dk_54 4 (dk_at dksX6_license_3 22 rfl rfl)
theorem dX6_license_94 : decode cX6_license 94 = .ok (.aload_n 0, 1) := dk_42 (dk_at dksX6_license_4 0 rfl rfl)
theorem dX6_license_95 : decode cX6_license 95 = .ok (.iload_n 3, 1) := dk_29 (dk_at dksX6_license_4 1 rfl rfl)
theorem dX6_license_96 : decode cX6_license 96 = .ok (.iconst 0, 1) := dk_3 (dk_at dksX6_license_4 2 rfl rfl)
theorem dX6_license_97 : decode cX6_license 97 = .ok (.invokevirtual 65, 3) := dk_182 0 65 (dk_at dksX6_license_4 3 rfl rfl)
theorem dX6_license_100 : decode cX6_license 100 = .ok (.iload 4, 2) := dk_21 4 (dk_at dksX6_license_4 6 rfl rfl)
theorem dX6_license_102 : decode cX6_license 102 = .ok (.if_icmp .ge 17, 3) := dk_162 0 17 (dk_at dksX6_license_4 8 rfl rfl)
theorem dX6_license_105 : decode cX6_license 105 = .ok (.aload_n 0, 1) := dk_42 (dk_at dksX6_license_4 11 rfl rfl)
theorem dX6_license_106 : decode cX6_license 106 = .ok (.iconst 2, 1) := dk_5 (dk_at dksX6_license_4 12 rfl rfl)
theorem dX6_license_107 : decode cX6_license 107 = .ok (.bipush 7, 2) := dk_16 7 (dk_at dksX6_license_4 13 rfl rfl)
theorem dX6_license_109 : decode cX6_license 109 = .ok (.aload_n 0, 1) := dk_42 (dk_at dksX6_license_4 15 rfl rfl)
theorem dX6_license_110 : decode cX6_license 110 = .ok (.iload_n 3, 1) := dk_29 (dk_at dksX6_license_4 16 rfl rfl)
theorem dX6_license_111 : decode cX6_license 111 = .ok (.iconst 0, 1) := dk_3 (dk_at dksX6_license_4 17 rfl rfl)
theorem dX6_license_112 : decode cX6_license 112 = .ok (.invokevirtual 65, 3) := dk_182 0 65 (dk_at dksX6_license_4 18 rfl rfl)
theorem dX6_license_115 : decode cX6_license 115 = .ok (.invokevirtual 89, 3) := dk_182 0 89 (dk_at dksX6_license_4 21 rfl rfl)
theorem dX6_license_118 : decode cX6_license 118 = .ok (.ireturn, 1) := dk_172 (dk_at dksX6_license_5 0 rfl rfl)
theorem dX6_license_119 : decode cX6_license 119 = .ok (.aload_n 0, 1) := dk_42 (dk_at dksX6_license_5 1 rfl rfl)
theorem dX6_license_120 : decode cX6_license 120 = .ok (.aload_n 0, 1) := dk_42 (dk_at dksX6_license_5 2 rfl rfl)
theorem dX6_license_121 : decode cX6_license 121 = .ok (.getfield 7, 3) := dk_180 0 7 (dk_at dksX6_license_5 3 rfl rfl)
theorem dX6_license_124 : decode cX6_license 124 = .ok (.invokevirtual 93, 3) := dk_182 0 93 (dk_at dksX6_license_5 6 rfl rfl)
theorem dX6_license_127 : decode cX6_license 127 = .ok (.aload_n 0, 1) := dk_42 (dk_at dksX6_license_5 9 rfl rfl)
theorem dX6_license_128 : decode cX6_license 128 = .ok (.iload_n 3, 1) := dk_29 (dk_at dksX6_license_5 10 rfl rfl)
theorem dX6_license_129 : decode cX6_license 129 = .ok (.iconst 0, 1) := dk_3 (dk_at dksX6_license_5 11 rfl rfl)
theorem dX6_license_130 : decode cX6_license 130 = .ok (.iload 4, 2) := dk_21 4 (dk_at dksX6_license_5 12 rfl rfl)
theorem dX6_license_132 : decode cX6_license 132 = .ok (.ineg, 1) := dk_116 (dk_at dksX6_license_5 14 rfl rfl)
theorem dX6_license_133 : decode cX6_license 133 = .ok (.invokevirtual 97, 3) := dk_182 0 97 (dk_at dksX6_license_5 15 rfl rfl)
theorem dX6_license_136 : decode cX6_license 136 = .ok (.aload_n 0, 1) := dk_42 (dk_at dksX6_license_5 18 rfl rfl)
theorem dX6_license_137 : decode cX6_license 137 = .ok (.getfield 7, 3) := dk_180 0 7 (dk_at dksX6_license_5 19 rfl rfl)
theorem dX6_license_140 : decode cX6_license 140 = .ok (.bipush 7, 2) := dk_16 7 (dk_at dksX6_license_5 22 rfl rfl)
theorem dX6_license_142 : decode cX6_license 142 = .ok (.dup2, 1) := dk_92 (dk_at dksX6_license_6 0 rfl rfl)
theorem dX6_license_143 : decode cX6_license 143 = .ok (.iaload, 1) := dk_46 (dk_at dksX6_license_6 1 rfl rfl)
theorem dX6_license_144 : decode cX6_license 144 = .ok (.iload 4, 2) := dk_21 4 (dk_at dksX6_license_6 2 rfl rfl)
theorem dX6_license_146 : decode cX6_license 146 = .ok (.iadd, 1) := dk_96 (dk_at dksX6_license_6 4 rfl rfl)
theorem dX6_license_147 : decode cX6_license 147 = .ok (.iastore, 1) := dk_79 (dk_at dksX6_license_6 5 rfl rfl)
theorem dX6_license_148 : decode cX6_license 148 = .ok (.aload_n 0, 1) := dk_42 (dk_at dksX6_license_6 6 rfl rfl)
theorem dX6_license_149 : decode cX6_license 149 = .ok (.iload_n 1, 1) := dk_27 (dk_at dksX6_license_6 7 rfl rfl)
theorem dX6_license_150 : decode cX6_license 150 = .ok (.bipush 18, 2) := dk_16 18 (dk_at dksX6_license_6 8 rfl rfl)
theorem dX6_license_152 : decode cX6_license 152 = .ok (.iload_n 2, 1) := dk_28 (dk_at dksX6_license_6 10 rfl rfl)
theorem dX6_license_153 : decode cX6_license 153 = .ok (.iadd, 1) := dk_96 (dk_at dksX6_license_6 11 rfl rfl)
theorem dX6_license_154 : decode cX6_license 154 = .ok (.iconst 2, 1) := dk_5 (dk_at dksX6_license_6 12 rfl rfl)
theorem dX6_license_155 : decode cX6_license 155 = .ok (.invokevirtual 108, 3) := dk_182 0 108 (dk_at dksX6_license_6 13 rfl rfl)
theorem dX6_license_158 : decode cX6_license 158 = .ok (.iload 4, 2) := dk_21 4 (dk_at dksX6_license_6 16 rfl rfl)
theorem dX6_license_160 : decode cX6_license 160 = .ok (.ireturn, 1) := dk_172 (dk_at dksX6_license_6 18 rfl rfl)
abbrev cX6_isAshamed : ByteArray := prog_12_method_28_code
def yX6_isAshamed : MethodName := ⟨RX6, "isAshamed", "(I)Z"⟩
def dkwX6_isAshamed_0 : List UInt8 := [42, 27, 4, 182, 0, 65, 16, 20, 164, 0, 7, 4, 167, 0, 4, 3, 172]
abbrev dktX6_isAshamed_0 : List UInt8 := dkwX6_isAshamed_0 ++ []
theorem dksX6_isAshamed_0 : cX6_isAshamed.data.toList.drop 0 = dktX6_isAshamed_0 := by decide +kernel
theorem dX6_isAshamed_0 : decode cX6_isAshamed 0 = .ok (.aload_n 0, 1) := dk_42 (dk_at dksX6_isAshamed_0 0 rfl rfl)
theorem dX6_isAshamed_1 : decode cX6_isAshamed 1 = .ok (.iload_n 1, 1) := dk_27 (dk_at dksX6_isAshamed_0 1 rfl rfl)
theorem dX6_isAshamed_2 : decode cX6_isAshamed 2 = .ok (.iconst 1, 1) := dk_4 (dk_at dksX6_isAshamed_0 2 rfl rfl)
theorem dX6_isAshamed_3 : decode cX6_isAshamed 3 = .ok (.invokevirtual 65, 3) := dk_182 0 65 (dk_at dksX6_isAshamed_0 3 rfl rfl)
theorem dX6_isAshamed_6 : decode cX6_isAshamed 6 = .ok (.bipush 20, 2) := dk_16 20 (dk_at dksX6_isAshamed_0 6 rfl rfl)
theorem dX6_isAshamed_8 : decode cX6_isAshamed 8 = .ok (.if_icmp .le 7, 3) := dk_164 0 7 (dk_at dksX6_isAshamed_0 8 rfl rfl)
theorem dX6_isAshamed_11 : decode cX6_isAshamed 11 = .ok (.iconst 1, 1) := dk_4 (dk_at dksX6_isAshamed_0 11 rfl rfl)
theorem dX6_isAshamed_12 : decode cX6_isAshamed 12 = .ok (.goto 4, 3) := dk_167 0 4 (dk_at dksX6_isAshamed_0 12 rfl rfl)
theorem dX6_isAshamed_15 : decode cX6_isAshamed 15 = .ok (.iconst 0, 1) := dk_3 (dk_at dksX6_isAshamed_0 15 rfl rfl)
theorem dX6_isAshamed_16 : decode cX6_isAshamed 16 = .ok (.ireturn, 1) := dk_172 (dk_at dksX6_isAshamed_0 16 rfl rfl)
abbrev cX6_by : ByteArray := prog_12_method_10_code
def yX6_by : MethodName := ⟨RX6, "by", "(II)I"⟩
def dkwX6_by_0 : List UInt8 := [42, 180, 0, 7, 16, 10, 6, 27, 104, 96, 28, 96, 46, 172]
abbrev dktX6_by_0 : List UInt8 := dkwX6_by_0 ++ []
theorem dksX6_by_0 : cX6_by.data.toList.drop 0 = dktX6_by_0 := by decide +kernel
theorem dX6_by_0 : decode cX6_by 0 = .ok (.aload_n 0, 1) := dk_42 (dk_at dksX6_by_0 0 rfl rfl)
theorem dX6_by_1 : decode cX6_by 1 = .ok (.getfield 7, 3) := dk_180 0 7 (dk_at dksX6_by_0 1 rfl rfl)
theorem dX6_by_4 : decode cX6_by 4 = .ok (.bipush 10, 2) := dk_16 10 (dk_at dksX6_by_0 4 rfl rfl)
theorem dX6_by_6 : decode cX6_by 6 = .ok (.iconst 3, 1) := dk_6 (dk_at dksX6_by_0 6 rfl rfl)
theorem dX6_by_7 : decode cX6_by 7 = .ok (.iload_n 1, 1) := dk_27 (dk_at dksX6_by_0 7 rfl rfl)
theorem dX6_by_8 : decode cX6_by 8 = .ok (.imul, 1) := dk_104 (dk_at dksX6_by_0 8 rfl rfl)
theorem dX6_by_9 : decode cX6_by 9 = .ok (.iadd, 1) := dk_96 (dk_at dksX6_by_0 9 rfl rfl)
theorem dX6_by_10 : decode cX6_by 10 = .ok (.iload_n 2, 1) := dk_28 (dk_at dksX6_by_0 10 rfl rfl)
theorem dX6_by_11 : decode cX6_by 11 = .ok (.iadd, 1) := dk_96 (dk_at dksX6_by_0 11 rfl rfl)
theorem dX6_by_12 : decode cX6_by 12 = .ok (.iaload, 1) := dk_46 (dk_at dksX6_by_0 12 rfl rfl)
theorem dX6_by_13 : decode cX6_by 13 = .ok (.ireturn, 1) := dk_172 (dk_at dksX6_by_0 13 rfl rfl)
abbrev cX6_price : ByteArray := prog_12_method_27_code
def yX6_price : MethodName := ⟨RX6, "price", "(I)I"⟩
def dkwX6_price_0 : List UInt8 := [5, 42, 27, 5, 182, 0, 121, 96, 172]
abbrev dktX6_price_0 : List UInt8 := dkwX6_price_0 ++ []
theorem dksX6_price_0 : cX6_price.data.toList.drop 0 = dktX6_price_0 := by decide +kernel
theorem dX6_price_0 : decode cX6_price 0 = .ok (.iconst 2, 1) := dk_5 (dk_at dksX6_price_0 0 rfl rfl)
theorem dX6_price_1 : decode cX6_price 1 = .ok (.aload_n 0, 1) := dk_42 (dk_at dksX6_price_0 1 rfl rfl)
theorem dX6_price_2 : decode cX6_price 2 = .ok (.iload_n 1, 1) := dk_27 (dk_at dksX6_price_0 2 rfl rfl)
theorem dX6_price_3 : decode cX6_price 3 = .ok (.iconst 2, 1) := dk_5 (dk_at dksX6_price_0 3 rfl rfl)
theorem dX6_price_4 : decode cX6_price 4 = .ok (.invokevirtual 121, 3) := dk_182 0 121 (dk_at dksX6_price_0 4 rfl rfl)
theorem dX6_price_7 : decode cX6_price 7 = .ok (.iadd, 1) := dk_96 (dk_at dksX6_price_0 7 rfl rfl)
theorem dX6_price_8 : decode cX6_price 8 = .ok (.ireturn, 1) := dk_172 (dk_at dksX6_price_0 8 rfl rfl)
abbrev cX6_ofHouse : ByteArray := prog_12_method_26_code
def yX6_ofHouse : MethodName := ⟨RX6, "ofHouse", "(II)I"⟩
def dkwX6_ofHouse_2 : List UInt8 := [172]
abbrev dktX6_ofHouse_2 : List UInt8 := dkwX6_ofHouse_2 ++ []
def dkwX6_ofHouse_1 : List UInt8 := [27, 160, 0, 13, 42, 21, 4, 28, 182, 0, 118, 167, 0, 4, 3, 96, 62, 132, 4, 1, 167, 255, 217, 29]
abbrev dktX6_ofHouse_1 : List UInt8 := dkwX6_ofHouse_1 ++ dktX6_ofHouse_2
def dkwX6_ofHouse_0 : List UInt8 := [3, 62, 3, 54, 4, 21, 4, 42, 180, 0, 7, 4, 46, 162, 0, 34, 29, 42, 21, 4, 3, 182, 0, 80]
abbrev dktX6_ofHouse_0 : List UInt8 := dkwX6_ofHouse_0 ++ dktX6_ofHouse_1
theorem dksX6_ofHouse_0 : cX6_ofHouse.data.toList.drop 0 = dktX6_ofHouse_0 := by decide +kernel
theorem dksX6_ofHouse_1 : cX6_ofHouse.data.toList.drop 24 = dktX6_ofHouse_1 := dk_seg dksX6_ofHouse_0 24 rfl rfl
theorem dksX6_ofHouse_2 : cX6_ofHouse.data.toList.drop 48 = dktX6_ofHouse_2 := dk_seg dksX6_ofHouse_1 24 rfl rfl
theorem dX6_ofHouse_0 : decode cX6_ofHouse 0 = .ok (.iconst 0, 1) := dk_3 (dk_at dksX6_ofHouse_0 0 rfl rfl)
theorem dX6_ofHouse_1 : decode cX6_ofHouse 1 = .ok (.istore_n 3, 1) := dk_62 (dk_at dksX6_ofHouse_0 1 rfl rfl)
theorem dX6_ofHouse_2 : decode cX6_ofHouse 2 = .ok (.iconst 0, 1) := dk_3 (dk_at dksX6_ofHouse_0 2 rfl rfl)
theorem dX6_ofHouse_3 : decode cX6_ofHouse 3 = .ok (.istore 4, 2) := dk_54 4 (dk_at dksX6_ofHouse_0 3 rfl rfl)
theorem dX6_ofHouse_5 : decode cX6_ofHouse 5 = .ok (.iload 4, 2) := dk_21 4 (dk_at dksX6_ofHouse_0 5 rfl rfl)
theorem dX6_ofHouse_7 : decode cX6_ofHouse 7 = .ok (.aload_n 0, 1) := dk_42 (dk_at dksX6_ofHouse_0 7 rfl rfl)
theorem dX6_ofHouse_8 : decode cX6_ofHouse 8 = .ok (.getfield 7, 3) := dk_180 0 7 (dk_at dksX6_ofHouse_0 8 rfl rfl)
theorem dX6_ofHouse_11 : decode cX6_ofHouse 11 = .ok (.iconst 1, 1) := dk_4 (dk_at dksX6_ofHouse_0 11 rfl rfl)
theorem dX6_ofHouse_12 : decode cX6_ofHouse 12 = .ok (.iaload, 1) := dk_46 (dk_at dksX6_ofHouse_0 12 rfl rfl)
theorem dX6_ofHouse_13 : decode cX6_ofHouse 13 = .ok (.if_icmp .ge 34, 3) := dk_162 0 34 (dk_at dksX6_ofHouse_0 13 rfl rfl)
theorem dX6_ofHouse_16 : decode cX6_ofHouse 16 = .ok (.iload_n 3, 1) := dk_29 (dk_at dksX6_ofHouse_0 16 rfl rfl)
theorem dX6_ofHouse_17 : decode cX6_ofHouse 17 = .ok (.aload_n 0, 1) := dk_42 (dk_at dksX6_ofHouse_0 17 rfl rfl)
theorem dX6_ofHouse_18 : decode cX6_ofHouse 18 = .ok (.iload 4, 2) := dk_21 4 (dk_at dksX6_ofHouse_0 18 rfl rfl)
theorem dX6_ofHouse_20 : decode cX6_ofHouse 20 = .ok (.iconst 0, 1) := dk_3 (dk_at dksX6_ofHouse_0 20 rfl rfl)
theorem dX6_ofHouse_21 : decode cX6_ofHouse 21 = .ok (.invokevirtual 80, 3) := dk_182 0 80 (dk_at dksX6_ofHouse_0 21 rfl rfl)
theorem dX6_ofHouse_24 : decode cX6_ofHouse 24 = .ok (.iload_n 1, 1) := dk_27 (dk_at dksX6_ofHouse_1 0 rfl rfl)
theorem dX6_ofHouse_25 : decode cX6_ofHouse 25 = .ok (.if_icmp .ne 13, 3) := dk_160 0 13 (dk_at dksX6_ofHouse_1 1 rfl rfl)
theorem dX6_ofHouse_28 : decode cX6_ofHouse 28 = .ok (.aload_n 0, 1) := dk_42 (dk_at dksX6_ofHouse_1 4 rfl rfl)
theorem dX6_ofHouse_29 : decode cX6_ofHouse 29 = .ok (.iload 4, 2) := dk_21 4 (dk_at dksX6_ofHouse_1 5 rfl rfl)
theorem dX6_ofHouse_31 : decode cX6_ofHouse 31 = .ok (.iload_n 2, 1) := dk_28 (dk_at dksX6_ofHouse_1 7 rfl rfl)
theorem dX6_ofHouse_32 : decode cX6_ofHouse 32 = .ok (.invokevirtual 118, 3) := dk_182 0 118 (dk_at dksX6_ofHouse_1 8 rfl rfl)
theorem dX6_ofHouse_35 : decode cX6_ofHouse 35 = .ok (.goto 4, 3) := dk_167 0 4 (dk_at dksX6_ofHouse_1 11 rfl rfl)
theorem dX6_ofHouse_38 : decode cX6_ofHouse 38 = .ok (.iconst 0, 1) := dk_3 (dk_at dksX6_ofHouse_1 14 rfl rfl)
theorem dX6_ofHouse_39 : decode cX6_ofHouse 39 = .ok (.iadd, 1) := dk_96 (dk_at dksX6_ofHouse_1 15 rfl rfl)
theorem dX6_ofHouse_40 : decode cX6_ofHouse 40 = .ok (.istore_n 3, 1) := dk_62 (dk_at dksX6_ofHouse_1 16 rfl rfl)
theorem dX6_ofHouse_41 : decode cX6_ofHouse 41 = .ok (.iinc 4 1, 3) := dk_132 4 1 (dk_at dksX6_ofHouse_1 17 rfl rfl)
theorem dX6_ofHouse_44 : decode cX6_ofHouse 44 = .ok (.goto (-39), 3) := dk_167 255 217 (dk_at dksX6_ofHouse_1 20 rfl rfl)
theorem dX6_ofHouse_47 : decode cX6_ofHouse 47 = .ok (.iload_n 3, 1) := dk_29 (dk_at dksX6_ofHouse_1 23 rfl rfl)
theorem dX6_ofHouse_48 : decode cX6_ofHouse 48 = .ok (.ireturn, 1) := dk_172 (dk_at dksX6_ofHouse_2 0 rfl rfl)
abbrev cX6_correct : ByteArray := prog_12_method_31_code
def yX6_correct : MethodName := ⟨RX6, "correct", "(II)I"⟩
def dkwX6_correct_6 : List UInt8 := [21, 4, 172]
abbrev dktX6_correct_6 : List UInt8 := dkwX6_correct_6 ++ []
def dkwX6_correct_5 : List UInt8 := [28, 96, 42, 27, 5, 28, 96, 182, 0, 80, 182, 0, 108, 42, 27, 16, 18, 28, 96, 3, 182, 0, 108]
abbrev dktX6_correct_5 : List UInt8 := dkwX6_correct_5 ++ dktX6_correct_6
def dkwX6_correct_4 : List UInt8 := [42, 29, 5, 21, 4, 182, 0, 97, 42, 180, 0, 7, 16, 8, 92, 46, 21, 4, 96, 79, 42, 27, 16, 10]
abbrev dktX6_correct_4 : List UInt8 := dkwX6_correct_4 ++ dktX6_correct_5
def dkwX6_correct_3 : List UInt8 := [182, 0, 65, 182, 0, 89, 172, 42, 42, 180, 0, 7, 182, 0, 93, 42, 29, 3, 21, 4, 116, 182, 0, 97]
abbrev dktX6_correct_3 : List UInt8 := dkwX6_correct_3 ++ dktX6_correct_4
def dkwX6_correct_2 : List UInt8 := [182, 0, 89, 172, 42, 29, 3, 182, 0, 65, 21, 4, 162, 0, 17, 42, 5, 16, 7, 42, 29, 3]
abbrev dktX6_correct_2 : List UInt8 := dkwX6_correct_2 ++ dktX6_correct_3
def dkwX6_correct_1 : List UInt8 := [27, 3, 182, 0, 80, 62, 42, 27, 28, 182, 0, 133, 54, 4, 21, 4, 154, 0, 11, 42, 5, 7, 28]
abbrev dktX6_correct_1 : List UInt8 := dkwX6_correct_1 ++ dktX6_correct_2
def dkwX6_correct_0 : List UInt8 := [42, 42, 27, 28, 182, 0, 114, 153, 0, 7, 3, 167, 0, 4, 4, 182, 0, 86, 153, 0, 5, 3, 172, 42]
abbrev dktX6_correct_0 : List UInt8 := dkwX6_correct_0 ++ dktX6_correct_1
theorem dksX6_correct_0 : cX6_correct.data.toList.drop 0 = dktX6_correct_0 := by decide +kernel
theorem dksX6_correct_1 : cX6_correct.data.toList.drop 24 = dktX6_correct_1 := dk_seg dksX6_correct_0 24 rfl rfl
theorem dksX6_correct_2 : cX6_correct.data.toList.drop 47 = dktX6_correct_2 := dk_seg dksX6_correct_1 23 rfl rfl
theorem dksX6_correct_3 : cX6_correct.data.toList.drop 69 = dktX6_correct_3 := dk_seg dksX6_correct_2 22 rfl rfl
theorem dksX6_correct_4 : cX6_correct.data.toList.drop 93 = dktX6_correct_4 := dk_seg dksX6_correct_3 24 rfl rfl
theorem dksX6_correct_5 : cX6_correct.data.toList.drop 117 = dktX6_correct_5 := dk_seg dksX6_correct_4 24 rfl rfl
theorem dksX6_correct_6 : cX6_correct.data.toList.drop 140 = dktX6_correct_6 := dk_seg dksX6_correct_5 23 rfl rfl
theorem dX6_correct_0 : decode cX6_correct 0 = .ok (.aload_n 0, 1) := dk_42 (dk_at dksX6_correct_0 0 rfl rfl)
theorem dX6_correct_1 : decode cX6_correct 1 = .ok (.aload_n 0, 1) := dk_42 (dk_at dksX6_correct_0 1 rfl rfl)
theorem dX6_correct_2 : decode cX6_correct 2 = .ok (.iload_n 1, 1) := dk_27 (dk_at dksX6_correct_0 2 rfl rfl)
theorem dX6_correct_3 : decode cX6_correct 3 = .ok (.iload_n 2, 1) := dk_28 (dk_at dksX6_correct_0 3 rfl rfl)
theorem dX6_correct_4 : decode cX6_correct 4 = .ok (.invokevirtual 114, 3) := dk_182 0 114 (dk_at dksX6_correct_0 4 rfl rfl)
theorem dX6_correct_7 : decode cX6_correct 7 = .ok (.ifCond .eq 7, 3) := dk_153 0 7 (dk_at dksX6_correct_0 7 rfl rfl)
theorem dX6_correct_10 : decode cX6_correct 10 = .ok (.iconst 0, 1) := dk_3 (dk_at dksX6_correct_0 10 rfl rfl)
theorem dX6_correct_11 : decode cX6_correct 11 = .ok (.goto 4, 3) := dk_167 0 4 (dk_at dksX6_correct_0 11 rfl rfl)
theorem dX6_correct_14 : decode cX6_correct 14 = .ok (.iconst 1, 1) := dk_4 (dk_at dksX6_correct_0 14 rfl rfl)
theorem dX6_correct_15 : decode cX6_correct 15 = .ok (.invokevirtual 86, 3) := dk_182 0 86 (dk_at dksX6_correct_0 15 rfl rfl)
theorem dX6_correct_18 : decode cX6_correct 18 = .ok (.ifCond .eq 5, 3) := dk_153 0 5 (dk_at dksX6_correct_0 18 rfl rfl)
theorem dX6_correct_21 : decode cX6_correct 21 = .ok (.iconst 0, 1) := dk_3 (dk_at dksX6_correct_0 21 rfl rfl)
theorem dX6_correct_22 : decode cX6_correct 22 = .ok (.ireturn, 1) := dk_172 (dk_at dksX6_correct_0 22 rfl rfl)
theorem dX6_correct_23 : decode cX6_correct 23 = .ok (.aload_n 0, 1) := dk_42 (dk_at dksX6_correct_0 23 rfl rfl)
theorem dX6_correct_24 : decode cX6_correct 24 = .ok (.iload_n 1, 1) := dk_27 (dk_at dksX6_correct_1 0 rfl rfl)
theorem dX6_correct_25 : decode cX6_correct 25 = .ok (.iconst 0, 1) := dk_3 (dk_at dksX6_correct_1 1 rfl rfl)
theorem dX6_correct_26 : decode cX6_correct 26 = .ok (.invokevirtual 80, 3) := dk_182 0 80 (dk_at dksX6_correct_1 2 rfl rfl)
theorem dX6_correct_29 : decode cX6_correct 29 = .ok (.istore_n 3, 1) := dk_62 (dk_at dksX6_correct_1 5 rfl rfl)
theorem dX6_correct_30 : decode cX6_correct 30 = .ok (.aload_n 0, 1) := dk_42 (dk_at dksX6_correct_1 6 rfl rfl)
theorem dX6_correct_31 : decode cX6_correct 31 = .ok (.iload_n 1, 1) := dk_27 (dk_at dksX6_correct_1 7 rfl rfl)
theorem dX6_correct_32 : decode cX6_correct 32 = .ok (.iload_n 2, 1) := dk_28 (dk_at dksX6_correct_1 8 rfl rfl)
theorem dX6_correct_33 : decode cX6_correct 33 = .ok (.invokevirtual 133, 3) := dk_182 0 133 (dk_at dksX6_correct_1 9 rfl rfl)
theorem dX6_correct_36 : decode cX6_correct 36 = .ok (.istore 4, 2) := dk_54 4 (dk_at dksX6_correct_1 12 rfl rfl)
theorem dX6_correct_38 : decode cX6_correct 38 = .ok (.iload 4, 2) := dk_21 4 (dk_at dksX6_correct_1 14 rfl rfl)
theorem dX6_correct_40 : decode cX6_correct 40 = .ok (.ifCond .ne 11, 3) := dk_154 0 11 (dk_at dksX6_correct_1 16 rfl rfl)
theorem dX6_correct_43 : decode cX6_correct 43 = .ok (.aload_n 0, 1) := dk_42 (dk_at dksX6_correct_1 19 rfl rfl)
theorem dX6_correct_44 : decode cX6_correct 44 = .ok (.iconst 2, 1) := dk_5 (dk_at dksX6_correct_1 20 rfl rfl)
theorem dX6_correct_45 : decode cX6_correct 45 = .ok (.iconst 4, 1) := dk_7 (dk_at dksX6_correct_1 21 rfl rfl)
theorem dX6_correct_46 : decode cX6_correct 46 = .ok (.iload_n 2, 1) := dk_28 (dk_at dksX6_correct_1 22 rfl rfl)
theorem dX6_correct_47 : decode cX6_correct 47 = .ok (.invokevirtual 89, 3) := dk_182 0 89 (dk_at dksX6_correct_2 0 rfl rfl)
theorem dX6_correct_50 : decode cX6_correct 50 = .ok (.ireturn, 1) := dk_172 (dk_at dksX6_correct_2 3 rfl rfl)
theorem dX6_correct_51 : decode cX6_correct 51 = .ok (.aload_n 0, 1) := dk_42 (dk_at dksX6_correct_2 4 rfl rfl)
theorem dX6_correct_52 : decode cX6_correct 52 = .ok (.iload_n 3, 1) := dk_29 (dk_at dksX6_correct_2 5 rfl rfl)
theorem dX6_correct_53 : decode cX6_correct 53 = .ok (.iconst 0, 1) := dk_3 (dk_at dksX6_correct_2 6 rfl rfl)
theorem dX6_correct_54 : decode cX6_correct 54 = .ok (.invokevirtual 65, 3) := dk_182 0 65 (dk_at dksX6_correct_2 7 rfl rfl)
theorem dX6_correct_57 : decode cX6_correct 57 = .ok (.iload 4, 2) := dk_21 4 (dk_at dksX6_correct_2 10 rfl rfl)
theorem dX6_correct_59 : decode cX6_correct 59 = .ok (.if_icmp .ge 17, 3) := dk_162 0 17 (dk_at dksX6_correct_2 12 rfl rfl)
theorem dX6_correct_62 : decode cX6_correct 62 = .ok (.aload_n 0, 1) := dk_42 (dk_at dksX6_correct_2 15 rfl rfl)
theorem dX6_correct_63 : decode cX6_correct 63 = .ok (.iconst 2, 1) := dk_5 (dk_at dksX6_correct_2 16 rfl rfl)
theorem dX6_correct_64 : decode cX6_correct 64 = .ok (.bipush 7, 2) := dk_16 7 (dk_at dksX6_correct_2 17 rfl rfl)
theorem dX6_correct_66 : decode cX6_correct 66 = .ok (.aload_n 0, 1) := dk_42 (dk_at dksX6_correct_2 19 rfl rfl)
theorem dX6_correct_67 : decode cX6_correct 67 = .ok (.iload_n 3, 1) := dk_29 (dk_at dksX6_correct_2 20 rfl rfl)
theorem dX6_correct_68 : decode cX6_correct 68 = .ok (.iconst 0, 1) := dk_3 (dk_at dksX6_correct_2 21 rfl rfl)
theorem dX6_correct_69 : decode cX6_correct 69 = .ok (.invokevirtual 65, 3) := dk_182 0 65 (dk_at dksX6_correct_3 0 rfl rfl)
theorem dX6_correct_72 : decode cX6_correct 72 = .ok (.invokevirtual 89, 3) := dk_182 0 89 (dk_at dksX6_correct_3 3 rfl rfl)
theorem dX6_correct_75 : decode cX6_correct 75 = .ok (.ireturn, 1) := dk_172 (dk_at dksX6_correct_3 6 rfl rfl)
theorem dX6_correct_76 : decode cX6_correct 76 = .ok (.aload_n 0, 1) := dk_42 (dk_at dksX6_correct_3 7 rfl rfl)
theorem dX6_correct_77 : decode cX6_correct 77 = .ok (.aload_n 0, 1) := dk_42 (dk_at dksX6_correct_3 8 rfl rfl)
theorem dX6_correct_78 : decode cX6_correct 78 = .ok (.getfield 7, 3) := dk_180 0 7 (dk_at dksX6_correct_3 9 rfl rfl)
theorem dX6_correct_81 : decode cX6_correct 81 = .ok (.invokevirtual 93, 3) := dk_182 0 93 (dk_at dksX6_correct_3 12 rfl rfl)
theorem dX6_correct_84 : decode cX6_correct 84 = .ok (.aload_n 0, 1) := dk_42 (dk_at dksX6_correct_3 15 rfl rfl)
theorem dX6_correct_85 : decode cX6_correct 85 = .ok (.iload_n 3, 1) := dk_29 (dk_at dksX6_correct_3 16 rfl rfl)
theorem dX6_correct_86 : decode cX6_correct 86 = .ok (.iconst 0, 1) := dk_3 (dk_at dksX6_correct_3 17 rfl rfl)
theorem dX6_correct_87 : decode cX6_correct 87 = .ok (.iload 4, 2) := dk_21 4 (dk_at dksX6_correct_3 18 rfl rfl)
theorem dX6_correct_89 : decode cX6_correct 89 = .ok (.ineg, 1) := dk_116 (dk_at dksX6_correct_3 20 rfl rfl)
theorem dX6_correct_90 : decode cX6_correct 90 = .ok (.invokevirtual 97, 3) := dk_182 0 97 (dk_at dksX6_correct_3 21 rfl rfl)
theorem dX6_correct_93 : decode cX6_correct 93 = .ok (.aload_n 0, 1) := dk_42 (dk_at dksX6_correct_4 0 rfl rfl)
theorem dX6_correct_94 : decode cX6_correct 94 = .ok (.iload_n 3, 1) := dk_29 (dk_at dksX6_correct_4 1 rfl rfl)
theorem dX6_correct_95 : decode cX6_correct 95 = .ok (.iconst 2, 1) := dk_5 (dk_at dksX6_correct_4 2 rfl rfl)
theorem dX6_correct_96 : decode cX6_correct 96 = .ok (.iload 4, 2) := dk_21 4 (dk_at dksX6_correct_4 3 rfl rfl)
theorem dX6_correct_98 : decode cX6_correct 98 = .ok (.invokevirtual 97, 3) := dk_182 0 97 (dk_at dksX6_correct_4 5 rfl rfl)
theorem dX6_correct_101 : decode cX6_correct 101 = .ok (.aload_n 0, 1) := dk_42 (dk_at dksX6_correct_4 8 rfl rfl)
theorem dX6_correct_102 : decode cX6_correct 102 = .ok (.getfield 7, 3) := dk_180 0 7 (dk_at dksX6_correct_4 9 rfl rfl)
theorem dX6_correct_105 : decode cX6_correct 105 = .ok (.bipush 8, 2) := dk_16 8 (dk_at dksX6_correct_4 12 rfl rfl)
theorem dX6_correct_107 : decode cX6_correct 107 = .ok (.dup2, 1) := dk_92 (dk_at dksX6_correct_4 14 rfl rfl)
theorem dX6_correct_108 : decode cX6_correct 108 = .ok (.iaload, 1) := dk_46 (dk_at dksX6_correct_4 15 rfl rfl)
theorem dX6_correct_109 : decode cX6_correct 109 = .ok (.iload 4, 2) := dk_21 4 (dk_at dksX6_correct_4 16 rfl rfl)
theorem dX6_correct_111 : decode cX6_correct 111 = .ok (.iadd, 1) := dk_96 (dk_at dksX6_correct_4 18 rfl rfl)
theorem dX6_correct_112 : decode cX6_correct 112 = .ok (.iastore, 1) := dk_79 (dk_at dksX6_correct_4 19 rfl rfl)
theorem dX6_correct_113 : decode cX6_correct 113 = .ok (.aload_n 0, 1) := dk_42 (dk_at dksX6_correct_4 20 rfl rfl)
theorem dX6_correct_114 : decode cX6_correct 114 = .ok (.iload_n 1, 1) := dk_27 (dk_at dksX6_correct_4 21 rfl rfl)
theorem dX6_correct_115 : decode cX6_correct 115 = .ok (.bipush 10, 2) := dk_16 10 (dk_at dksX6_correct_4 22 rfl rfl)
theorem dX6_correct_117 : decode cX6_correct 117 = .ok (.iload_n 2, 1) := dk_28 (dk_at dksX6_correct_5 0 rfl rfl)
theorem dX6_correct_118 : decode cX6_correct 118 = .ok (.iadd, 1) := dk_96 (dk_at dksX6_correct_5 1 rfl rfl)
theorem dX6_correct_119 : decode cX6_correct 119 = .ok (.aload_n 0, 1) := dk_42 (dk_at dksX6_correct_5 2 rfl rfl)
theorem dX6_correct_120 : decode cX6_correct 120 = .ok (.iload_n 1, 1) := dk_27 (dk_at dksX6_correct_5 3 rfl rfl)
theorem dX6_correct_121 : decode cX6_correct 121 = .ok (.iconst 2, 1) := dk_5 (dk_at dksX6_correct_5 4 rfl rfl)
theorem dX6_correct_122 : decode cX6_correct 122 = .ok (.iload_n 2, 1) := dk_28 (dk_at dksX6_correct_5 5 rfl rfl)
theorem dX6_correct_123 : decode cX6_correct 123 = .ok (.iadd, 1) := dk_96 (dk_at dksX6_correct_5 6 rfl rfl)
theorem dX6_correct_124 : decode cX6_correct 124 = .ok (.invokevirtual 80, 3) := dk_182 0 80 (dk_at dksX6_correct_5 7 rfl rfl)
theorem dX6_correct_127 : decode cX6_correct 127 = .ok (.invokevirtual 108, 3) := dk_182 0 108 (dk_at dksX6_correct_5 10 rfl rfl)
theorem dX6_correct_130 : decode cX6_correct 130 = .ok (.aload_n 0, 1) := dk_42 (dk_at dksX6_correct_5 13 rfl rfl)
theorem dX6_correct_131 : decode cX6_correct 131 = .ok (.iload_n 1, 1) := dk_27 (dk_at dksX6_correct_5 14 rfl rfl)
theorem dX6_correct_132 : decode cX6_correct 132 = .ok (.bipush 18, 2) := dk_16 18 (dk_at dksX6_correct_5 15 rfl rfl)
theorem dX6_correct_134 : decode cX6_correct 134 = .ok (.iload_n 2, 1) := dk_28 (dk_at dksX6_correct_5 17 rfl rfl)
theorem dX6_correct_135 : decode cX6_correct 135 = .ok (.iadd, 1) := dk_96 (dk_at dksX6_correct_5 18 rfl rfl)
theorem dX6_correct_136 : decode cX6_correct 136 = .ok (.iconst 0, 1) := dk_3 (dk_at dksX6_correct_5 19 rfl rfl)
theorem dX6_correct_137 : decode cX6_correct 137 = .ok (.invokevirtual 108, 3) := dk_182 0 108 (dk_at dksX6_correct_5 20 rfl rfl)
theorem dX6_correct_140 : decode cX6_correct 140 = .ok (.iload 4, 2) := dk_21 4 (dk_at dksX6_correct_6 0 rfl rfl)
theorem dX6_correct_142 : decode cX6_correct 142 = .ok (.ireturn, 1) := dk_172 (dk_at dksX6_correct_6 2 rfl rfl)
abbrev cX6_fineAt : ByteArray := prog_12_method_30_code
def yX6_fineAt : MethodName := ⟨RX6, "fineAt", "(II)I"⟩
def dkwX6_fineAt_1 : List UInt8 := [4, 164, 0, 7, 5, 167, 0, 4, 3, 96, 29, 6, 160, 0, 7, 5, 167, 0, 4, 4, 104, 172]
abbrev dktX6_fineAt_1 : List UInt8 := dkwX6_fineAt_1 ++ []
def dkwX6_fineAt_0 : List UInt8 := [42, 27, 28, 182, 0, 111, 62, 29, 154, 0, 7, 3, 167, 0, 33, 4, 42, 27, 28, 182, 0, 130, 96, 29]
abbrev dktX6_fineAt_0 : List UInt8 := dkwX6_fineAt_0 ++ dktX6_fineAt_1
theorem dksX6_fineAt_0 : cX6_fineAt.data.toList.drop 0 = dktX6_fineAt_0 := by decide +kernel
theorem dksX6_fineAt_1 : cX6_fineAt.data.toList.drop 24 = dktX6_fineAt_1 := dk_seg dksX6_fineAt_0 24 rfl rfl
theorem dX6_fineAt_0 : decode cX6_fineAt 0 = .ok (.aload_n 0, 1) := dk_42 (dk_at dksX6_fineAt_0 0 rfl rfl)
theorem dX6_fineAt_1 : decode cX6_fineAt 1 = .ok (.iload_n 1, 1) := dk_27 (dk_at dksX6_fineAt_0 1 rfl rfl)
theorem dX6_fineAt_2 : decode cX6_fineAt 2 = .ok (.iload_n 2, 1) := dk_28 (dk_at dksX6_fineAt_0 2 rfl rfl)
theorem dX6_fineAt_3 : decode cX6_fineAt 3 = .ok (.invokevirtual 111, 3) := dk_182 0 111 (dk_at dksX6_fineAt_0 3 rfl rfl)
theorem dX6_fineAt_6 : decode cX6_fineAt 6 = .ok (.istore_n 3, 1) := dk_62 (dk_at dksX6_fineAt_0 6 rfl rfl)
theorem dX6_fineAt_7 : decode cX6_fineAt 7 = .ok (.iload_n 3, 1) := dk_29 (dk_at dksX6_fineAt_0 7 rfl rfl)
theorem dX6_fineAt_8 : decode cX6_fineAt 8 = .ok (.ifCond .ne 7, 3) := dk_154 0 7 (dk_at dksX6_fineAt_0 8 rfl rfl)
theorem dX6_fineAt_11 : decode cX6_fineAt 11 = .ok (.iconst 0, 1) := dk_3 (dk_at dksX6_fineAt_0 11 rfl rfl)
theorem dX6_fineAt_12 : decode cX6_fineAt 12 = .ok (.goto 33, 3) := dk_167 0 33 (dk_at dksX6_fineAt_0 12 rfl rfl)
theorem dX6_fineAt_15 : decode cX6_fineAt 15 = .ok (.iconst 1, 1) := dk_4 (dk_at dksX6_fineAt_0 15 rfl rfl)
theorem dX6_fineAt_16 : decode cX6_fineAt 16 = .ok (.aload_n 0, 1) := dk_42 (dk_at dksX6_fineAt_0 16 rfl rfl)
theorem dX6_fineAt_17 : decode cX6_fineAt 17 = .ok (.iload_n 1, 1) := dk_27 (dk_at dksX6_fineAt_0 17 rfl rfl)
theorem dX6_fineAt_18 : decode cX6_fineAt 18 = .ok (.iload_n 2, 1) := dk_28 (dk_at dksX6_fineAt_0 18 rfl rfl)
theorem dX6_fineAt_19 : decode cX6_fineAt 19 = .ok (.invokevirtual 130, 3) := dk_182 0 130 (dk_at dksX6_fineAt_0 19 rfl rfl)
theorem dX6_fineAt_22 : decode cX6_fineAt 22 = .ok (.iadd, 1) := dk_96 (dk_at dksX6_fineAt_0 22 rfl rfl)
theorem dX6_fineAt_23 : decode cX6_fineAt 23 = .ok (.iload_n 3, 1) := dk_29 (dk_at dksX6_fineAt_0 23 rfl rfl)
theorem dX6_fineAt_24 : decode cX6_fineAt 24 = .ok (.iconst 1, 1) := dk_4 (dk_at dksX6_fineAt_1 0 rfl rfl)
theorem dX6_fineAt_25 : decode cX6_fineAt 25 = .ok (.if_icmp .le 7, 3) := dk_164 0 7 (dk_at dksX6_fineAt_1 1 rfl rfl)
theorem dX6_fineAt_28 : decode cX6_fineAt 28 = .ok (.iconst 2, 1) := dk_5 (dk_at dksX6_fineAt_1 4 rfl rfl)
theorem dX6_fineAt_29 : decode cX6_fineAt 29 = .ok (.goto 4, 3) := dk_167 0 4 (dk_at dksX6_fineAt_1 5 rfl rfl)
theorem dX6_fineAt_32 : decode cX6_fineAt 32 = .ok (.iconst 0, 1) := dk_3 (dk_at dksX6_fineAt_1 8 rfl rfl)
theorem dX6_fineAt_33 : decode cX6_fineAt 33 = .ok (.iadd, 1) := dk_96 (dk_at dksX6_fineAt_1 9 rfl rfl)
theorem dX6_fineAt_34 : decode cX6_fineAt 34 = .ok (.iload_n 3, 1) := dk_29 (dk_at dksX6_fineAt_1 10 rfl rfl)
theorem dX6_fineAt_35 : decode cX6_fineAt 35 = .ok (.iconst 3, 1) := dk_6 (dk_at dksX6_fineAt_1 11 rfl rfl)
theorem dX6_fineAt_36 : decode cX6_fineAt 36 = .ok (.if_icmp .ne 7, 3) := dk_160 0 7 (dk_at dksX6_fineAt_1 12 rfl rfl)
theorem dX6_fineAt_39 : decode cX6_fineAt 39 = .ok (.iconst 2, 1) := dk_5 (dk_at dksX6_fineAt_1 15 rfl rfl)
theorem dX6_fineAt_40 : decode cX6_fineAt 40 = .ok (.goto 4, 3) := dk_167 0 4 (dk_at dksX6_fineAt_1 16 rfl rfl)
theorem dX6_fineAt_43 : decode cX6_fineAt 43 = .ok (.iconst 1, 1) := dk_4 (dk_at dksX6_fineAt_1 19 rfl rfl)
theorem dX6_fineAt_44 : decode cX6_fineAt 44 = .ok (.imul, 1) := dk_104 (dk_at dksX6_fineAt_1 20 rfl rfl)
theorem dX6_fineAt_45 : decode cX6_fineAt 45 = .ok (.ireturn, 1) := dk_172 (dk_at dksX6_fineAt_1 21 rfl rfl)
abbrev cX6_bad : ByteArray := prog_12_method_19_code
def yX6_bad : MethodName := ⟨RX6, "bad", "(II)I"⟩
def dkwX6_bad_0 : List UInt8 := [42, 27, 16, 10, 28, 96, 182, 0, 80, 42, 27, 5, 28, 96, 182, 0, 80, 184, 0, 83, 172]
abbrev dktX6_bad_0 : List UInt8 := dkwX6_bad_0 ++ []
theorem dksX6_bad_0 : cX6_bad.data.toList.drop 0 = dktX6_bad_0 := by decide +kernel
theorem dX6_bad_0 : decode cX6_bad 0 = .ok (.aload_n 0, 1) := dk_42 (dk_at dksX6_bad_0 0 rfl rfl)
theorem dX6_bad_1 : decode cX6_bad 1 = .ok (.iload_n 1, 1) := dk_27 (dk_at dksX6_bad_0 1 rfl rfl)
theorem dX6_bad_2 : decode cX6_bad 2 = .ok (.bipush 10, 2) := dk_16 10 (dk_at dksX6_bad_0 2 rfl rfl)
theorem dX6_bad_4 : decode cX6_bad 4 = .ok (.iload_n 2, 1) := dk_28 (dk_at dksX6_bad_0 4 rfl rfl)
theorem dX6_bad_5 : decode cX6_bad 5 = .ok (.iadd, 1) := dk_96 (dk_at dksX6_bad_0 5 rfl rfl)
theorem dX6_bad_6 : decode cX6_bad 6 = .ok (.invokevirtual 80, 3) := dk_182 0 80 (dk_at dksX6_bad_0 6 rfl rfl)
theorem dX6_bad_9 : decode cX6_bad 9 = .ok (.aload_n 0, 1) := dk_42 (dk_at dksX6_bad_0 9 rfl rfl)
theorem dX6_bad_10 : decode cX6_bad 10 = .ok (.iload_n 1, 1) := dk_27 (dk_at dksX6_bad_0 10 rfl rfl)
theorem dX6_bad_11 : decode cX6_bad 11 = .ok (.iconst 2, 1) := dk_5 (dk_at dksX6_bad_0 11 rfl rfl)
theorem dX6_bad_12 : decode cX6_bad 12 = .ok (.iload_n 2, 1) := dk_28 (dk_at dksX6_bad_0 12 rfl rfl)
theorem dX6_bad_13 : decode cX6_bad 13 = .ok (.iadd, 1) := dk_96 (dk_at dksX6_bad_0 13 rfl rfl)
theorem dX6_bad_14 : decode cX6_bad 14 = .ok (.invokevirtual 80, 3) := dk_182 0 80 (dk_at dksX6_bad_0 14 rfl rfl)
theorem dX6_bad_17 : decode cX6_bad 17 = .ok (.invokestatic 83, 3) := dk_184 0 83 (dk_at dksX6_bad_0 17 rfl rfl)
theorem dX6_bad_20 : decode cX6_bad 20 = .ok (.ireturn, 1) := dk_172 (dk_at dksX6_bad_0 20 rfl rfl)
abbrev cX6_apart : ByteArray := prog_12_method_7_code
def yX6_apart : MethodName := ⟨RX6, "apart", "(II)I"⟩
def dkwX6_apart_0 : List UInt8 := [26, 27, 162, 0, 9, 27, 26, 100, 167, 0, 6, 26, 27, 100, 172]
abbrev dktX6_apart_0 : List UInt8 := dkwX6_apart_0 ++ []
theorem dksX6_apart_0 : cX6_apart.data.toList.drop 0 = dktX6_apart_0 := by decide +kernel
theorem dX6_apart_0 : decode cX6_apart 0 = .ok (.iload_n 0, 1) := dk_26 (dk_at dksX6_apart_0 0 rfl rfl)
theorem dX6_apart_1 : decode cX6_apart 1 = .ok (.iload_n 1, 1) := dk_27 (dk_at dksX6_apart_0 1 rfl rfl)
theorem dX6_apart_2 : decode cX6_apart 2 = .ok (.if_icmp .ge 9, 3) := dk_162 0 9 (dk_at dksX6_apart_0 2 rfl rfl)
theorem dX6_apart_5 : decode cX6_apart 5 = .ok (.iload_n 1, 1) := dk_27 (dk_at dksX6_apart_0 5 rfl rfl)
theorem dX6_apart_6 : decode cX6_apart 6 = .ok (.iload_n 0, 1) := dk_26 (dk_at dksX6_apart_0 6 rfl rfl)
theorem dX6_apart_7 : decode cX6_apart 7 = .ok (.isub, 1) := dk_100 (dk_at dksX6_apart_0 7 rfl rfl)
theorem dX6_apart_8 : decode cX6_apart 8 = .ok (.goto 6, 3) := dk_167 0 6 (dk_at dksX6_apart_0 8 rfl rfl)
theorem dX6_apart_11 : decode cX6_apart 11 = .ok (.iload_n 0, 1) := dk_26 (dk_at dksX6_apart_0 11 rfl rfl)
theorem dX6_apart_12 : decode cX6_apart 12 = .ok (.iload_n 1, 1) := dk_27 (dk_at dksX6_apart_0 12 rfl rfl)
theorem dX6_apart_13 : decode cX6_apart 13 = .ok (.isub, 1) := dk_100 (dk_at dksX6_apart_0 13 rfl rfl)
theorem dX6_apart_14 : decode cX6_apart 14 = .ok (.ireturn, 1) := dk_172 (dk_at dksX6_apart_0 14 rfl rfl)
abbrev cX6_reader : ByteArray := prog_12_method_32_code
def yX6_reader : MethodName := ⟨RX6, "reader", "(II)I"⟩
def dkwX6_reader_4 : List UInt8 := [28, 79, 42, 180, 0, 7, 5, 92, 46, 4, 96, 79, 42, 180, 0, 7, 5, 46, 4, 100, 172]
abbrev dktX6_reader_4 : List UInt8 := dkwX6_reader_4 ++ []
def dkwX6_reader_3 : List UInt8 := [5, 46, 104, 96, 27, 79, 42, 180, 0, 7, 17, 0, 230, 5, 42, 180, 0, 7, 5, 46, 104, 96, 4, 96]
abbrev dktX6_reader_3 : List UInt8 := dkwX6_reader_3 ++ dktX6_reader_4
def dkwX6_reader_2 : List UInt8 := [182, 0, 89, 172, 42, 42, 180, 0, 7, 182, 0, 93, 42, 180, 0, 7, 17, 0, 230, 5, 42, 180, 0, 7]
abbrev dktX6_reader_2 : List UInt8 := dkwX6_reader_2 ++ dktX6_reader_3
def dkwX6_reader_1 : List UInt8 := [4, 182, 0, 86, 153, 0, 5, 3, 172, 42, 180, 0, 7, 5, 46, 8, 160, 0, 11, 42, 5, 4, 8]
abbrev dktX6_reader_1 : List UInt8 := dkwX6_reader_1 ++ dktX6_reader_2
def dkwX6_reader_0 : List UInt8 := [42, 27, 3, 4, 184, 0, 72, 153, 0, 17, 28, 4, 16, 6, 184, 0, 72, 153, 0, 7, 3, 167, 0, 4]
abbrev dktX6_reader_0 : List UInt8 := dkwX6_reader_0 ++ dktX6_reader_1
theorem dksX6_reader_0 : cX6_reader.data.toList.drop 0 = dktX6_reader_0 := by decide +kernel
theorem dksX6_reader_1 : cX6_reader.data.toList.drop 24 = dktX6_reader_1 := dk_seg dksX6_reader_0 24 rfl rfl
theorem dksX6_reader_2 : cX6_reader.data.toList.drop 47 = dktX6_reader_2 := dk_seg dksX6_reader_1 23 rfl rfl
theorem dksX6_reader_3 : cX6_reader.data.toList.drop 71 = dktX6_reader_3 := dk_seg dksX6_reader_2 24 rfl rfl
theorem dksX6_reader_4 : cX6_reader.data.toList.drop 95 = dktX6_reader_4 := dk_seg dksX6_reader_3 24 rfl rfl
theorem dX6_reader_0 : decode cX6_reader 0 = .ok (.aload_n 0, 1) := dk_42 (dk_at dksX6_reader_0 0 rfl rfl)
theorem dX6_reader_1 : decode cX6_reader 1 = .ok (.iload_n 1, 1) := dk_27 (dk_at dksX6_reader_0 1 rfl rfl)
theorem dX6_reader_2 : decode cX6_reader 2 = .ok (.iconst 0, 1) := dk_3 (dk_at dksX6_reader_0 2 rfl rfl)
theorem dX6_reader_3 : decode cX6_reader 3 = .ok (.iconst 1, 1) := dk_4 (dk_at dksX6_reader_0 3 rfl rfl)
theorem dX6_reader_4 : decode cX6_reader 4 = .ok (.invokestatic 72, 3) := dk_184 0 72 (dk_at dksX6_reader_0 4 rfl rfl)
theorem dX6_reader_7 : decode cX6_reader 7 = .ok (.ifCond .eq 17, 3) := dk_153 0 17 (dk_at dksX6_reader_0 7 rfl rfl)
theorem dX6_reader_10 : decode cX6_reader 10 = .ok (.iload_n 2, 1) := dk_28 (dk_at dksX6_reader_0 10 rfl rfl)
theorem dX6_reader_11 : decode cX6_reader 11 = .ok (.iconst 1, 1) := dk_4 (dk_at dksX6_reader_0 11 rfl rfl)
theorem dX6_reader_12 : decode cX6_reader 12 = .ok (.bipush 6, 2) := dk_16 6 (dk_at dksX6_reader_0 12 rfl rfl)
theorem dX6_reader_14 : decode cX6_reader 14 = .ok (.invokestatic 72, 3) := dk_184 0 72 (dk_at dksX6_reader_0 14 rfl rfl)
theorem dX6_reader_17 : decode cX6_reader 17 = .ok (.ifCond .eq 7, 3) := dk_153 0 7 (dk_at dksX6_reader_0 17 rfl rfl)
theorem dX6_reader_20 : decode cX6_reader 20 = .ok (.iconst 0, 1) := dk_3 (dk_at dksX6_reader_0 20 rfl rfl)
theorem dX6_reader_21 : decode cX6_reader 21 = .ok (.goto 4, 3) := dk_167 0 4 (dk_at dksX6_reader_0 21 rfl rfl)
theorem dX6_reader_24 : decode cX6_reader 24 = .ok (.iconst 1, 1) := dk_4 (dk_at dksX6_reader_1 0 rfl rfl)
theorem dX6_reader_25 : decode cX6_reader 25 = .ok (.invokevirtual 86, 3) := dk_182 0 86 (dk_at dksX6_reader_1 1 rfl rfl)
theorem dX6_reader_28 : decode cX6_reader 28 = .ok (.ifCond .eq 5, 3) := dk_153 0 5 (dk_at dksX6_reader_1 4 rfl rfl)
theorem dX6_reader_31 : decode cX6_reader 31 = .ok (.iconst 0, 1) := dk_3 (dk_at dksX6_reader_1 7 rfl rfl)
theorem dX6_reader_32 : decode cX6_reader 32 = .ok (.ireturn, 1) := dk_172 (dk_at dksX6_reader_1 8 rfl rfl)
theorem dX6_reader_33 : decode cX6_reader 33 = .ok (.aload_n 0, 1) := dk_42 (dk_at dksX6_reader_1 9 rfl rfl)
theorem dX6_reader_34 : decode cX6_reader 34 = .ok (.getfield 7, 3) := dk_180 0 7 (dk_at dksX6_reader_1 10 rfl rfl)
theorem dX6_reader_37 : decode cX6_reader 37 = .ok (.iconst 2, 1) := dk_5 (dk_at dksX6_reader_1 13 rfl rfl)
theorem dX6_reader_38 : decode cX6_reader 38 = .ok (.iaload, 1) := dk_46 (dk_at dksX6_reader_1 14 rfl rfl)
theorem dX6_reader_39 : decode cX6_reader 39 = .ok (.iconst 5, 1) := dk_8 (dk_at dksX6_reader_1 15 rfl rfl)
theorem dX6_reader_40 : decode cX6_reader 40 = .ok (.if_icmp .ne 11, 3) := dk_160 0 11 (dk_at dksX6_reader_1 16 rfl rfl)
theorem dX6_reader_43 : decode cX6_reader 43 = .ok (.aload_n 0, 1) := dk_42 (dk_at dksX6_reader_1 19 rfl rfl)
theorem dX6_reader_44 : decode cX6_reader 44 = .ok (.iconst 2, 1) := dk_5 (dk_at dksX6_reader_1 20 rfl rfl)
theorem dX6_reader_45 : decode cX6_reader 45 = .ok (.iconst 1, 1) := dk_4 (dk_at dksX6_reader_1 21 rfl rfl)
theorem dX6_reader_46 : decode cX6_reader 46 = .ok (.iconst 5, 1) := dk_8 (dk_at dksX6_reader_1 22 rfl rfl)
theorem dX6_reader_47 : decode cX6_reader 47 = .ok (.invokevirtual 89, 3) := dk_182 0 89 (dk_at dksX6_reader_2 0 rfl rfl)
theorem dX6_reader_50 : decode cX6_reader 50 = .ok (.ireturn, 1) := dk_172 (dk_at dksX6_reader_2 3 rfl rfl)
theorem dX6_reader_51 : decode cX6_reader 51 = .ok (.aload_n 0, 1) := dk_42 (dk_at dksX6_reader_2 4 rfl rfl)
theorem dX6_reader_52 : decode cX6_reader 52 = .ok (.aload_n 0, 1) := dk_42 (dk_at dksX6_reader_2 5 rfl rfl)
theorem dX6_reader_53 : decode cX6_reader 53 = .ok (.getfield 7, 3) := dk_180 0 7 (dk_at dksX6_reader_2 6 rfl rfl)
theorem dX6_reader_56 : decode cX6_reader 56 = .ok (.invokevirtual 93, 3) := dk_182 0 93 (dk_at dksX6_reader_2 9 rfl rfl)
theorem dX6_reader_59 : decode cX6_reader 59 = .ok (.aload_n 0, 1) := dk_42 (dk_at dksX6_reader_2 12 rfl rfl)
theorem dX6_reader_60 : decode cX6_reader 60 = .ok (.getfield 7, 3) := dk_180 0 7 (dk_at dksX6_reader_2 13 rfl rfl)
theorem dX6_reader_63 : decode cX6_reader 63 = .ok (.sipush 230, 3) := dk_17 0 230 (dk_at dksX6_reader_2 16 rfl rfl)
theorem dX6_reader_66 : decode cX6_reader 66 = .ok (.iconst 2, 1) := dk_5 (dk_at dksX6_reader_2 19 rfl rfl)
theorem dX6_reader_67 : decode cX6_reader 67 = .ok (.aload_n 0, 1) := dk_42 (dk_at dksX6_reader_2 20 rfl rfl)
theorem dX6_reader_68 : decode cX6_reader 68 = .ok (.getfield 7, 3) := dk_180 0 7 (dk_at dksX6_reader_2 21 rfl rfl)
theorem dX6_reader_71 : decode cX6_reader 71 = .ok (.iconst 2, 1) := dk_5 (dk_at dksX6_reader_3 0 rfl rfl)
theorem dX6_reader_72 : decode cX6_reader 72 = .ok (.iaload, 1) := dk_46 (dk_at dksX6_reader_3 1 rfl rfl)
theorem dX6_reader_73 : decode cX6_reader 73 = .ok (.imul, 1) := dk_104 (dk_at dksX6_reader_3 2 rfl rfl)
theorem dX6_reader_74 : decode cX6_reader 74 = .ok (.iadd, 1) := dk_96 (dk_at dksX6_reader_3 3 rfl rfl)
theorem dX6_reader_75 : decode cX6_reader 75 = .ok (.iload_n 1, 1) := dk_27 (dk_at dksX6_reader_3 4 rfl rfl)
theorem dX6_reader_76 : decode cX6_reader 76 = .ok (.iastore, 1) := dk_79 (dk_at dksX6_reader_3 5 rfl rfl)
theorem dX6_reader_77 : decode cX6_reader 77 = .ok (.aload_n 0, 1) := dk_42 (dk_at dksX6_reader_3 6 rfl rfl)
theorem dX6_reader_78 : decode cX6_reader 78 = .ok (.getfield 7, 3) := dk_180 0 7 (dk_at dksX6_reader_3 7 rfl rfl)
theorem dX6_reader_81 : decode cX6_reader 81 = .ok (.sipush 230, 3) := dk_17 0 230 (dk_at dksX6_reader_3 10 rfl rfl)
theorem dX6_reader_84 : decode cX6_reader 84 = .ok (.iconst 2, 1) := dk_5 (dk_at dksX6_reader_3 13 rfl rfl)
theorem dX6_reader_85 : decode cX6_reader 85 = .ok (.aload_n 0, 1) := dk_42 (dk_at dksX6_reader_3 14 rfl rfl)
theorem dX6_reader_86 : decode cX6_reader 86 = .ok (.getfield 7, 3) := dk_180 0 7 (dk_at dksX6_reader_3 15 rfl rfl)
theorem dX6_reader_89 : decode cX6_reader 89 = .ok (.iconst 2, 1) := dk_5 (dk_at dksX6_reader_3 18 rfl rfl)
theorem dX6_reader_90 : decode cX6_reader 90 = .ok (.iaload, 1) := dk_46 (dk_at dksX6_reader_3 19 rfl rfl)
theorem dX6_reader_91 : decode cX6_reader 91 = .ok (.imul, 1) := dk_104 (dk_at dksX6_reader_3 20 rfl rfl)
theorem dX6_reader_92 : decode cX6_reader 92 = .ok (.iadd, 1) := dk_96 (dk_at dksX6_reader_3 21 rfl rfl)
theorem dX6_reader_93 : decode cX6_reader 93 = .ok (.iconst 1, 1) := dk_4 (dk_at dksX6_reader_3 22 rfl rfl)
theorem dX6_reader_94 : decode cX6_reader 94 = .ok (.iadd, 1) := dk_96 (dk_at dksX6_reader_3 23 rfl rfl)
theorem dX6_reader_95 : decode cX6_reader 95 = .ok (.iload_n 2, 1) := dk_28 (dk_at dksX6_reader_4 0 rfl rfl)
theorem dX6_reader_96 : decode cX6_reader 96 = .ok (.iastore, 1) := dk_79 (dk_at dksX6_reader_4 1 rfl rfl)
theorem dX6_reader_97 : decode cX6_reader 97 = .ok (.aload_n 0, 1) := dk_42 (dk_at dksX6_reader_4 2 rfl rfl)
theorem dX6_reader_98 : decode cX6_reader 98 = .ok (.getfield 7, 3) := dk_180 0 7 (dk_at dksX6_reader_4 3 rfl rfl)
theorem dX6_reader_101 : decode cX6_reader 101 = .ok (.iconst 2, 1) := dk_5 (dk_at dksX6_reader_4 6 rfl rfl)
theorem dX6_reader_102 : decode cX6_reader 102 = .ok (.dup2, 1) := dk_92 (dk_at dksX6_reader_4 7 rfl rfl)
theorem dX6_reader_103 : decode cX6_reader 103 = .ok (.iaload, 1) := dk_46 (dk_at dksX6_reader_4 8 rfl rfl)
theorem dX6_reader_104 : decode cX6_reader 104 = .ok (.iconst 1, 1) := dk_4 (dk_at dksX6_reader_4 9 rfl rfl)
theorem dX6_reader_105 : decode cX6_reader 105 = .ok (.iadd, 1) := dk_96 (dk_at dksX6_reader_4 10 rfl rfl)
theorem dX6_reader_106 : decode cX6_reader 106 = .ok (.iastore, 1) := dk_79 (dk_at dksX6_reader_4 11 rfl rfl)
theorem dX6_reader_107 : decode cX6_reader 107 = .ok (.aload_n 0, 1) := dk_42 (dk_at dksX6_reader_4 12 rfl rfl)
theorem dX6_reader_108 : decode cX6_reader 108 = .ok (.getfield 7, 3) := dk_180 0 7 (dk_at dksX6_reader_4 13 rfl rfl)
theorem dX6_reader_111 : decode cX6_reader 111 = .ok (.iconst 2, 1) := dk_5 (dk_at dksX6_reader_4 16 rfl rfl)
theorem dX6_reader_112 : decode cX6_reader 112 = .ok (.iaload, 1) := dk_46 (dk_at dksX6_reader_4 17 rfl rfl)
theorem dX6_reader_113 : decode cX6_reader 113 = .ok (.iconst 1, 1) := dk_4 (dk_at dksX6_reader_4 18 rfl rfl)
theorem dX6_reader_114 : decode cX6_reader 114 = .ok (.isub, 1) := dk_100 (dk_at dksX6_reader_4 19 rfl rfl)
theorem dX6_reader_115 : decode cX6_reader 115 = .ok (.ireturn, 1) := dk_172 (dk_at dksX6_reader_4 20 rfl rfl)
abbrev cX6_edition : ByteArray := prog_12_method_36_code
def yX6_edition : MethodName := ⟨RX6, "edition", "()I"⟩
def dkwX6_edition_7 : List UInt8 := [27, 172]
abbrev dktX6_edition_7 : List UInt8 := dkwX6_edition_7 ++ []
def dkwX6_edition_6 : List UInt8 := [167, 255, 149, 42, 180, 0, 7, 16, 6, 92, 46, 27, 96, 79, 42, 180, 0, 7, 7, 92, 46, 4, 96, 79]
abbrev dktX6_edition_6 : List UInt8 := dkwX6_edition_6 ++ dktX6_edition_7
def dkwX6_edition_5 : List UInt8 := [182, 0, 108, 42, 180, 0, 7, 8, 92, 46, 4, 96, 79, 132, 3, 1, 167, 255, 167, 132, 2, 1]
abbrev dktX6_edition_5 : List UInt8 := dkwX6_edition_5 ++ dktX6_edition_6
def dkwX6_edition_4 : List UInt8 := [29, 182, 0, 146, 182, 0, 143, 27, 42, 28, 29, 182, 0, 146, 96, 60, 42, 28, 16, 18, 29, 96, 6]
abbrev dktX6_edition_4 : List UInt8 := dkwX6_edition_4 ++ dktX6_edition_5
def dkwX6_edition_3 : List UInt8 := [3, 182, 0, 80, 4, 42, 28, 29, 182, 0, 130, 182, 0, 143, 42, 42, 28, 3, 182, 0, 80, 3, 42, 28]
abbrev dktX6_edition_3 : List UInt8 := dkwX6_edition_3 ++ dktX6_edition_4
def dkwX6_edition_2 : List UInt8 := [28, 4, 182, 0, 80, 162, 0, 85, 42, 28, 29, 182, 0, 111, 5, 159, 0, 6, 167, 0, 66, 42, 42, 28]
abbrev dktX6_edition_2 : List UInt8 := dkwX6_edition_2 ++ dktX6_edition_3
def dkwX6_edition_1 : List UInt8 := [180, 0, 7, 182, 0, 93, 3, 60, 3, 61, 28, 42, 180, 0, 7, 4, 46, 162, 0, 103, 3, 62, 29, 42]
abbrev dktX6_edition_1 : List UInt8 := dkwX6_edition_1 ++ dktX6_edition_2
def dkwX6_edition_0 : List UInt8 := [42, 182, 0, 139, 154, 0, 17, 42, 4, 16, 8, 42, 180, 0, 7, 7, 46, 182, 0, 89, 172, 42, 42]
abbrev dktX6_edition_0 : List UInt8 := dkwX6_edition_0 ++ dktX6_edition_1
theorem dksX6_edition_0 : cX6_edition.data.toList.drop 0 = dktX6_edition_0 := by decide +kernel
theorem dksX6_edition_1 : cX6_edition.data.toList.drop 23 = dktX6_edition_1 := dk_seg dksX6_edition_0 23 rfl rfl
theorem dksX6_edition_2 : cX6_edition.data.toList.drop 47 = dktX6_edition_2 := dk_seg dksX6_edition_1 24 rfl rfl
theorem dksX6_edition_3 : cX6_edition.data.toList.drop 71 = dktX6_edition_3 := dk_seg dksX6_edition_2 24 rfl rfl
theorem dksX6_edition_4 : cX6_edition.data.toList.drop 95 = dktX6_edition_4 := dk_seg dksX6_edition_3 24 rfl rfl
theorem dksX6_edition_5 : cX6_edition.data.toList.drop 118 = dktX6_edition_5 := dk_seg dksX6_edition_4 23 rfl rfl
theorem dksX6_edition_6 : cX6_edition.data.toList.drop 140 = dktX6_edition_6 := dk_seg dksX6_edition_5 22 rfl rfl
theorem dksX6_edition_7 : cX6_edition.data.toList.drop 164 = dktX6_edition_7 := dk_seg dksX6_edition_6 24 rfl rfl
theorem dX6_edition_0 : decode cX6_edition 0 = .ok (.aload_n 0, 1) := dk_42 (dk_at dksX6_edition_0 0 rfl rfl)
theorem dX6_edition_1 : decode cX6_edition 1 = .ok (.invokevirtual 139, 3) := dk_182 0 139 (dk_at dksX6_edition_0 1 rfl rfl)
theorem dX6_edition_4 : decode cX6_edition 4 = .ok (.ifCond .ne 17, 3) := dk_154 0 17 (dk_at dksX6_edition_0 4 rfl rfl)
theorem dX6_edition_7 : decode cX6_edition 7 = .ok (.aload_n 0, 1) := dk_42 (dk_at dksX6_edition_0 7 rfl rfl)
theorem dX6_edition_8 : decode cX6_edition 8 = .ok (.iconst 1, 1) := dk_4 (dk_at dksX6_edition_0 8 rfl rfl)
theorem dX6_edition_9 : decode cX6_edition 9 = .ok (.bipush 8, 2) := dk_16 8 (dk_at dksX6_edition_0 9 rfl rfl)
theorem dX6_edition_11 : decode cX6_edition 11 = .ok (.aload_n 0, 1) := dk_42 (dk_at dksX6_edition_0 11 rfl rfl)
theorem dX6_edition_12 : decode cX6_edition 12 = .ok (.getfield 7, 3) := dk_180 0 7 (dk_at dksX6_edition_0 12 rfl rfl)
theorem dX6_edition_15 : decode cX6_edition 15 = .ok (.iconst 4, 1) := dk_7 (dk_at dksX6_edition_0 15 rfl rfl)
theorem dX6_edition_16 : decode cX6_edition 16 = .ok (.iaload, 1) := dk_46 (dk_at dksX6_edition_0 16 rfl rfl)
theorem dX6_edition_17 : decode cX6_edition 17 = .ok (.invokevirtual 89, 3) := dk_182 0 89 (dk_at dksX6_edition_0 17 rfl rfl)
theorem dX6_edition_20 : decode cX6_edition 20 = .ok (.ireturn, 1) := dk_172 (dk_at dksX6_edition_0 20 rfl rfl)
theorem dX6_edition_21 : decode cX6_edition 21 = .ok (.aload_n 0, 1) := dk_42 (dk_at dksX6_edition_0 21 rfl rfl)
theorem dX6_edition_22 : decode cX6_edition 22 = .ok (.aload_n 0, 1) := dk_42 (dk_at dksX6_edition_0 22 rfl rfl)
theorem dX6_edition_23 : decode cX6_edition 23 = .ok (.getfield 7, 3) := dk_180 0 7 (dk_at dksX6_edition_1 0 rfl rfl)
theorem dX6_edition_26 : decode cX6_edition 26 = .ok (.invokevirtual 93, 3) := dk_182 0 93 (dk_at dksX6_edition_1 3 rfl rfl)
theorem dX6_edition_29 : decode cX6_edition 29 = .ok (.iconst 0, 1) := dk_3 (dk_at dksX6_edition_1 6 rfl rfl)
theorem dX6_edition_30 : decode cX6_edition 30 = .ok (.istore_n 1, 1) := dk_60 (dk_at dksX6_edition_1 7 rfl rfl)
theorem dX6_edition_31 : decode cX6_edition 31 = .ok (.iconst 0, 1) := dk_3 (dk_at dksX6_edition_1 8 rfl rfl)
theorem dX6_edition_32 : decode cX6_edition 32 = .ok (.istore_n 2, 1) := dk_61 (dk_at dksX6_edition_1 9 rfl rfl)
theorem dX6_edition_33 : decode cX6_edition 33 = .ok (.iload_n 2, 1) := dk_28 (dk_at dksX6_edition_1 10 rfl rfl)
theorem dX6_edition_34 : decode cX6_edition 34 = .ok (.aload_n 0, 1) := dk_42 (dk_at dksX6_edition_1 11 rfl rfl)
theorem dX6_edition_35 : decode cX6_edition 35 = .ok (.getfield 7, 3) := dk_180 0 7 (dk_at dksX6_edition_1 12 rfl rfl)
theorem dX6_edition_38 : decode cX6_edition 38 = .ok (.iconst 1, 1) := dk_4 (dk_at dksX6_edition_1 15 rfl rfl)
theorem dX6_edition_39 : decode cX6_edition 39 = .ok (.iaload, 1) := dk_46 (dk_at dksX6_edition_1 16 rfl rfl)
theorem dX6_edition_40 : decode cX6_edition 40 = .ok (.if_icmp .ge 103, 3) := dk_162 0 103 (dk_at dksX6_edition_1 17 rfl rfl)
theorem dX6_edition_43 : decode cX6_edition 43 = .ok (.iconst 0, 1) := dk_3 (dk_at dksX6_edition_1 20 rfl rfl)
theorem dX6_edition_44 : decode cX6_edition 44 = .ok (.istore_n 3, 1) := dk_62 (dk_at dksX6_edition_1 21 rfl rfl)
theorem dX6_edition_45 : decode cX6_edition 45 = .ok (.iload_n 3, 1) := dk_29 (dk_at dksX6_edition_1 22 rfl rfl)
theorem dX6_edition_46 : decode cX6_edition 46 = .ok (.aload_n 0, 1) := dk_42 (dk_at dksX6_edition_1 23 rfl rfl)
theorem dX6_edition_47 : decode cX6_edition 47 = .ok (.iload_n 2, 1) := dk_28 (dk_at dksX6_edition_2 0 rfl rfl)
theorem dX6_edition_48 : decode cX6_edition 48 = .ok (.iconst 1, 1) := dk_4 (dk_at dksX6_edition_2 1 rfl rfl)
theorem dX6_edition_49 : decode cX6_edition 49 = .ok (.invokevirtual 80, 3) := dk_182 0 80 (dk_at dksX6_edition_2 2 rfl rfl)
theorem dX6_edition_52 : decode cX6_edition 52 = .ok (.if_icmp .ge 85, 3) := dk_162 0 85 (dk_at dksX6_edition_2 5 rfl rfl)
theorem dX6_edition_55 : decode cX6_edition 55 = .ok (.aload_n 0, 1) := dk_42 (dk_at dksX6_edition_2 8 rfl rfl)
theorem dX6_edition_56 : decode cX6_edition 56 = .ok (.iload_n 2, 1) := dk_28 (dk_at dksX6_edition_2 9 rfl rfl)
theorem dX6_edition_57 : decode cX6_edition 57 = .ok (.iload_n 3, 1) := dk_29 (dk_at dksX6_edition_2 10 rfl rfl)
theorem dX6_edition_58 : decode cX6_edition 58 = .ok (.invokevirtual 111, 3) := dk_182 0 111 (dk_at dksX6_edition_2 11 rfl rfl)
theorem dX6_edition_61 : decode cX6_edition 61 = .ok (.iconst 2, 1) := dk_5 (dk_at dksX6_edition_2 14 rfl rfl)
theorem dX6_edition_62 : decode cX6_edition 62 = .ok (.if_icmp .eq 6, 3) := dk_159 0 6 (dk_at dksX6_edition_2 15 rfl rfl)
theorem dX6_edition_65 : decode cX6_edition 65 = .ok (.goto 66, 3) := dk_167 0 66 (dk_at dksX6_edition_2 18 rfl rfl)
theorem dX6_edition_68 : decode cX6_edition 68 = .ok (.aload_n 0, 1) := dk_42 (dk_at dksX6_edition_2 21 rfl rfl)
theorem dX6_edition_69 : decode cX6_edition 69 = .ok (.aload_n 0, 1) := dk_42 (dk_at dksX6_edition_2 22 rfl rfl)
theorem dX6_edition_70 : decode cX6_edition 70 = .ok (.iload_n 2, 1) := dk_28 (dk_at dksX6_edition_2 23 rfl rfl)
theorem dX6_edition_71 : decode cX6_edition 71 = .ok (.iconst 0, 1) := dk_3 (dk_at dksX6_edition_3 0 rfl rfl)
theorem dX6_edition_72 : decode cX6_edition 72 = .ok (.invokevirtual 80, 3) := dk_182 0 80 (dk_at dksX6_edition_3 1 rfl rfl)
theorem dX6_edition_75 : decode cX6_edition 75 = .ok (.iconst 1, 1) := dk_4 (dk_at dksX6_edition_3 4 rfl rfl)
theorem dX6_edition_76 : decode cX6_edition 76 = .ok (.aload_n 0, 1) := dk_42 (dk_at dksX6_edition_3 5 rfl rfl)
theorem dX6_edition_77 : decode cX6_edition 77 = .ok (.iload_n 2, 1) := dk_28 (dk_at dksX6_edition_3 6 rfl rfl)
theorem dX6_edition_78 : decode cX6_edition 78 = .ok (.iload_n 3, 1) := dk_29 (dk_at dksX6_edition_3 7 rfl rfl)
theorem dX6_edition_79 : decode cX6_edition 79 = .ok (.invokevirtual 130, 3) := dk_182 0 130 (dk_at dksX6_edition_3 8 rfl rfl)
theorem dX6_edition_82 : decode cX6_edition 82 = .ok (.invokevirtual 143, 3) := dk_182 0 143 (dk_at dksX6_edition_3 11 rfl rfl)
theorem dX6_edition_85 : decode cX6_edition 85 = .ok (.aload_n 0, 1) := dk_42 (dk_at dksX6_edition_3 14 rfl rfl)
theorem dX6_edition_86 : decode cX6_edition 86 = .ok (.aload_n 0, 1) := dk_42 (dk_at dksX6_edition_3 15 rfl rfl)
theorem dX6_edition_87 : decode cX6_edition 87 = .ok (.iload_n 2, 1) := dk_28 (dk_at dksX6_edition_3 16 rfl rfl)
theorem dX6_edition_88 : decode cX6_edition 88 = .ok (.iconst 0, 1) := dk_3 (dk_at dksX6_edition_3 17 rfl rfl)
theorem dX6_edition_89 : decode cX6_edition 89 = .ok (.invokevirtual 80, 3) := dk_182 0 80 (dk_at dksX6_edition_3 18 rfl rfl)
theorem dX6_edition_92 : decode cX6_edition 92 = .ok (.iconst 0, 1) := dk_3 (dk_at dksX6_edition_3 21 rfl rfl)
theorem dX6_edition_93 : decode cX6_edition 93 = .ok (.aload_n 0, 1) := dk_42 (dk_at dksX6_edition_3 22 rfl rfl)
theorem dX6_edition_94 : decode cX6_edition 94 = .ok (.iload_n 2, 1) := dk_28 (dk_at dksX6_edition_3 23 rfl rfl)
theorem dX6_edition_95 : decode cX6_edition 95 = .ok (.iload_n 3, 1) := dk_29 (dk_at dksX6_edition_4 0 rfl rfl)
theorem dX6_edition_96 : decode cX6_edition 96 = .ok (.invokevirtual 146, 3) := dk_182 0 146 (dk_at dksX6_edition_4 1 rfl rfl)
theorem dX6_edition_99 : decode cX6_edition 99 = .ok (.invokevirtual 143, 3) := dk_182 0 143 (dk_at dksX6_edition_4 4 rfl rfl)
theorem dX6_edition_102 : decode cX6_edition 102 = .ok (.iload_n 1, 1) := dk_27 (dk_at dksX6_edition_4 7 rfl rfl)
theorem dX6_edition_103 : decode cX6_edition 103 = .ok (.aload_n 0, 1) := dk_42 (dk_at dksX6_edition_4 8 rfl rfl)
theorem dX6_edition_104 : decode cX6_edition 104 = .ok (.iload_n 2, 1) := dk_28 (dk_at dksX6_edition_4 9 rfl rfl)
theorem dX6_edition_105 : decode cX6_edition 105 = .ok (.iload_n 3, 1) := dk_29 (dk_at dksX6_edition_4 10 rfl rfl)
theorem dX6_edition_106 : decode cX6_edition 106 = .ok (.invokevirtual 146, 3) := dk_182 0 146 (dk_at dksX6_edition_4 11 rfl rfl)
theorem dX6_edition_109 : decode cX6_edition 109 = .ok (.iadd, 1) := dk_96 (dk_at dksX6_edition_4 14 rfl rfl)
theorem dX6_edition_110 : decode cX6_edition 110 = .ok (.istore_n 1, 1) := dk_60 (dk_at dksX6_edition_4 15 rfl rfl)
theorem dX6_edition_111 : decode cX6_edition 111 = .ok (.aload_n 0, 1) := dk_42 (dk_at dksX6_edition_4 16 rfl rfl)
theorem dX6_edition_112 : decode cX6_edition 112 = .ok (.iload_n 2, 1) := dk_28 (dk_at dksX6_edition_4 17 rfl rfl)
theorem dX6_edition_113 : decode cX6_edition 113 = .ok (.bipush 18, 2) := dk_16 18 (dk_at dksX6_edition_4 18 rfl rfl)
theorem dX6_edition_115 : decode cX6_edition 115 = .ok (.iload_n 3, 1) := dk_29 (dk_at dksX6_edition_4 20 rfl rfl)
theorem dX6_edition_116 : decode cX6_edition 116 = .ok (.iadd, 1) := dk_96 (dk_at dksX6_edition_4 21 rfl rfl)
theorem dX6_edition_117 : decode cX6_edition 117 = .ok (.iconst 3, 1) := dk_6 (dk_at dksX6_edition_4 22 rfl rfl)
theorem dX6_edition_118 : decode cX6_edition 118 = .ok (.invokevirtual 108, 3) := dk_182 0 108 (dk_at dksX6_edition_5 0 rfl rfl)
theorem dX6_edition_121 : decode cX6_edition 121 = .ok (.aload_n 0, 1) := dk_42 (dk_at dksX6_edition_5 3 rfl rfl)
theorem dX6_edition_122 : decode cX6_edition 122 = .ok (.getfield 7, 3) := dk_180 0 7 (dk_at dksX6_edition_5 4 rfl rfl)
theorem dX6_edition_125 : decode cX6_edition 125 = .ok (.iconst 5, 1) := dk_8 (dk_at dksX6_edition_5 7 rfl rfl)
theorem dX6_edition_126 : decode cX6_edition 126 = .ok (.dup2, 1) := dk_92 (dk_at dksX6_edition_5 8 rfl rfl)
theorem dX6_edition_127 : decode cX6_edition 127 = .ok (.iaload, 1) := dk_46 (dk_at dksX6_edition_5 9 rfl rfl)
theorem dX6_edition_128 : decode cX6_edition 128 = .ok (.iconst 1, 1) := dk_4 (dk_at dksX6_edition_5 10 rfl rfl)
theorem dX6_edition_129 : decode cX6_edition 129 = .ok (.iadd, 1) := dk_96 (dk_at dksX6_edition_5 11 rfl rfl)
theorem dX6_edition_130 : decode cX6_edition 130 = .ok (.iastore, 1) := dk_79 (dk_at dksX6_edition_5 12 rfl rfl)
theorem dX6_edition_131 : decode cX6_edition 131 = .ok (.iinc 3 1, 3) := dk_132 3 1 (dk_at dksX6_edition_5 13 rfl rfl)
theorem dX6_edition_134 : decode cX6_edition 134 = .ok (.goto (-89), 3) := dk_167 255 167 (dk_at dksX6_edition_5 16 rfl rfl)
theorem dX6_edition_137 : decode cX6_edition 137 = .ok (.iinc 2 1, 3) := dk_132 2 1 (dk_at dksX6_edition_5 19 rfl rfl)
theorem dX6_edition_140 : decode cX6_edition 140 = .ok (.goto (-107), 3) := dk_167 255 149 (dk_at dksX6_edition_6 0 rfl rfl)
theorem dX6_edition_143 : decode cX6_edition 143 = .ok (.aload_n 0, 1) := dk_42 (dk_at dksX6_edition_6 3 rfl rfl)
theorem dX6_edition_144 : decode cX6_edition 144 = .ok (.getfield 7, 3) := dk_180 0 7 (dk_at dksX6_edition_6 4 rfl rfl)
theorem dX6_edition_147 : decode cX6_edition 147 = .ok (.bipush 6, 2) := dk_16 6 (dk_at dksX6_edition_6 7 rfl rfl)
theorem dX6_edition_149 : decode cX6_edition 149 = .ok (.dup2, 1) := dk_92 (dk_at dksX6_edition_6 9 rfl rfl)
theorem dX6_edition_150 : decode cX6_edition 150 = .ok (.iaload, 1) := dk_46 (dk_at dksX6_edition_6 10 rfl rfl)
theorem dX6_edition_151 : decode cX6_edition 151 = .ok (.iload_n 1, 1) := dk_27 (dk_at dksX6_edition_6 11 rfl rfl)
theorem dX6_edition_152 : decode cX6_edition 152 = .ok (.iadd, 1) := dk_96 (dk_at dksX6_edition_6 12 rfl rfl)
theorem dX6_edition_153 : decode cX6_edition 153 = .ok (.iastore, 1) := dk_79 (dk_at dksX6_edition_6 13 rfl rfl)
theorem dX6_edition_154 : decode cX6_edition 154 = .ok (.aload_n 0, 1) := dk_42 (dk_at dksX6_edition_6 14 rfl rfl)
theorem dX6_edition_155 : decode cX6_edition 155 = .ok (.getfield 7, 3) := dk_180 0 7 (dk_at dksX6_edition_6 15 rfl rfl)
theorem dX6_edition_158 : decode cX6_edition 158 = .ok (.iconst 4, 1) := dk_7 (dk_at dksX6_edition_6 18 rfl rfl)
theorem dX6_edition_159 : decode cX6_edition 159 = .ok (.dup2, 1) := dk_92 (dk_at dksX6_edition_6 19 rfl rfl)
theorem dX6_edition_160 : decode cX6_edition 160 = .ok (.iaload, 1) := dk_46 (dk_at dksX6_edition_6 20 rfl rfl)
theorem dX6_edition_161 : decode cX6_edition 161 = .ok (.iconst 1, 1) := dk_4 (dk_at dksX6_edition_6 21 rfl rfl)
theorem dX6_edition_162 : decode cX6_edition 162 = .ok (.iadd, 1) := dk_96 (dk_at dksX6_edition_6 22 rfl rfl)
theorem dX6_edition_163 : decode cX6_edition 163 = .ok (.iastore, 1) := dk_79 (dk_at dksX6_edition_6 23 rfl rfl)
theorem dX6_edition_164 : decode cX6_edition 164 = .ok (.iload_n 1, 1) := dk_27 (dk_at dksX6_edition_7 0 rfl rfl)
theorem dX6_edition_165 : decode cX6_edition 165 = .ok (.ireturn, 1) := dk_172 (dk_at dksX6_edition_7 1 rfl rfl)
abbrev cX6_printable : ByteArray := prog_12_method_35_code
def yX6_printable : MethodName := ⟨RX6, "printable", "()I"⟩
def dkwX6_printable_1 : List UInt8 := [182, 0, 118, 100, 96, 60, 132, 2, 1, 167, 255, 227, 27, 172]
abbrev dktX6_printable_1 : List UInt8 := dkwX6_printable_1 ++ []
def dkwX6_printable_0 : List UInt8 := [3, 60, 3, 61, 28, 42, 180, 0, 7, 4, 46, 162, 0, 25, 27, 42, 28, 5, 182, 0, 118, 42, 28, 6]
abbrev dktX6_printable_0 : List UInt8 := dkwX6_printable_0 ++ dktX6_printable_1
theorem dksX6_printable_0 : cX6_printable.data.toList.drop 0 = dktX6_printable_0 := by decide +kernel
theorem dksX6_printable_1 : cX6_printable.data.toList.drop 24 = dktX6_printable_1 := dk_seg dksX6_printable_0 24 rfl rfl
theorem dX6_printable_0 : decode cX6_printable 0 = .ok (.iconst 0, 1) := dk_3 (dk_at dksX6_printable_0 0 rfl rfl)
theorem dX6_printable_1 : decode cX6_printable 1 = .ok (.istore_n 1, 1) := dk_60 (dk_at dksX6_printable_0 1 rfl rfl)
theorem dX6_printable_2 : decode cX6_printable 2 = .ok (.iconst 0, 1) := dk_3 (dk_at dksX6_printable_0 2 rfl rfl)
theorem dX6_printable_3 : decode cX6_printable 3 = .ok (.istore_n 2, 1) := dk_61 (dk_at dksX6_printable_0 3 rfl rfl)
theorem dX6_printable_4 : decode cX6_printable 4 = .ok (.iload_n 2, 1) := dk_28 (dk_at dksX6_printable_0 4 rfl rfl)
theorem dX6_printable_5 : decode cX6_printable 5 = .ok (.aload_n 0, 1) := dk_42 (dk_at dksX6_printable_0 5 rfl rfl)
theorem dX6_printable_6 : decode cX6_printable 6 = .ok (.getfield 7, 3) := dk_180 0 7 (dk_at dksX6_printable_0 6 rfl rfl)
theorem dX6_printable_9 : decode cX6_printable 9 = .ok (.iconst 1, 1) := dk_4 (dk_at dksX6_printable_0 9 rfl rfl)
theorem dX6_printable_10 : decode cX6_printable 10 = .ok (.iaload, 1) := dk_46 (dk_at dksX6_printable_0 10 rfl rfl)
theorem dX6_printable_11 : decode cX6_printable 11 = .ok (.if_icmp .ge 25, 3) := dk_162 0 25 (dk_at dksX6_printable_0 11 rfl rfl)
theorem dX6_printable_14 : decode cX6_printable 14 = .ok (.iload_n 1, 1) := dk_27 (dk_at dksX6_printable_0 14 rfl rfl)
theorem dX6_printable_15 : decode cX6_printable 15 = .ok (.aload_n 0, 1) := dk_42 (dk_at dksX6_printable_0 15 rfl rfl)
theorem dX6_printable_16 : decode cX6_printable 16 = .ok (.iload_n 2, 1) := dk_28 (dk_at dksX6_printable_0 16 rfl rfl)
theorem dX6_printable_17 : decode cX6_printable 17 = .ok (.iconst 2, 1) := dk_5 (dk_at dksX6_printable_0 17 rfl rfl)
theorem dX6_printable_18 : decode cX6_printable 18 = .ok (.invokevirtual 118, 3) := dk_182 0 118 (dk_at dksX6_printable_0 18 rfl rfl)
theorem dX6_printable_21 : decode cX6_printable 21 = .ok (.aload_n 0, 1) := dk_42 (dk_at dksX6_printable_0 21 rfl rfl)
theorem dX6_printable_22 : decode cX6_printable 22 = .ok (.iload_n 2, 1) := dk_28 (dk_at dksX6_printable_0 22 rfl rfl)
theorem dX6_printable_23 : decode cX6_printable 23 = .ok (.iconst 3, 1) := dk_6 (dk_at dksX6_printable_0 23 rfl rfl)
theorem dX6_printable_24 : decode cX6_printable 24 = .ok (.invokevirtual 118, 3) := dk_182 0 118 (dk_at dksX6_printable_1 0 rfl rfl)
theorem dX6_printable_27 : decode cX6_printable 27 = .ok (.isub, 1) := dk_100 (dk_at dksX6_printable_1 3 rfl rfl)
theorem dX6_printable_28 : decode cX6_printable 28 = .ok (.iadd, 1) := dk_96 (dk_at dksX6_printable_1 4 rfl rfl)
theorem dX6_printable_29 : decode cX6_printable 29 = .ok (.istore_n 1, 1) := dk_60 (dk_at dksX6_printable_1 5 rfl rfl)
theorem dX6_printable_30 : decode cX6_printable 30 = .ok (.iinc 2 1, 3) := dk_132 2 1 (dk_at dksX6_printable_1 6 rfl rfl)
theorem dX6_printable_33 : decode cX6_printable 33 = .ok (.goto (-29), 3) := dk_167 255 227 (dk_at dksX6_printable_1 9 rfl rfl)
theorem dX6_printable_36 : decode cX6_printable 36 = .ok (.iload_n 1, 1) := dk_27 (dk_at dksX6_printable_1 12 rfl rfl)
theorem dX6_printable_37 : decode cX6_printable 37 = .ok (.ireturn, 1) := dk_172 (dk_at dksX6_printable_1 13 rfl rfl)
abbrev cX6_gets : ByteArray := prog_12_method_12_code
def yX6_gets : MethodName := ⟨RX6, "gets", "(III)V"⟩
def dkwX6_gets_1 : List UInt8 := [184, 0, 69, 79, 177]
abbrev dktX6_gets_1 : List UInt8 := dkwX6_gets_1 ++ []
def dkwX6_gets_0 : List UInt8 := [42, 180, 0, 7, 16, 10, 6, 27, 104, 96, 28, 96, 42, 27, 28, 182, 0, 65, 29, 96, 16, 99]
abbrev dktX6_gets_0 : List UInt8 := dkwX6_gets_0 ++ dktX6_gets_1
theorem dksX6_gets_0 : cX6_gets.data.toList.drop 0 = dktX6_gets_0 := by decide +kernel
theorem dksX6_gets_1 : cX6_gets.data.toList.drop 22 = dktX6_gets_1 := dk_seg dksX6_gets_0 22 rfl rfl
theorem dX6_gets_0 : decode cX6_gets 0 = .ok (.aload_n 0, 1) := dk_42 (dk_at dksX6_gets_0 0 rfl rfl)
theorem dX6_gets_1 : decode cX6_gets 1 = .ok (.getfield 7, 3) := dk_180 0 7 (dk_at dksX6_gets_0 1 rfl rfl)
theorem dX6_gets_4 : decode cX6_gets 4 = .ok (.bipush 10, 2) := dk_16 10 (dk_at dksX6_gets_0 4 rfl rfl)
theorem dX6_gets_6 : decode cX6_gets 6 = .ok (.iconst 3, 1) := dk_6 (dk_at dksX6_gets_0 6 rfl rfl)
theorem dX6_gets_7 : decode cX6_gets 7 = .ok (.iload_n 1, 1) := dk_27 (dk_at dksX6_gets_0 7 rfl rfl)
theorem dX6_gets_8 : decode cX6_gets 8 = .ok (.imul, 1) := dk_104 (dk_at dksX6_gets_0 8 rfl rfl)
theorem dX6_gets_9 : decode cX6_gets 9 = .ok (.iadd, 1) := dk_96 (dk_at dksX6_gets_0 9 rfl rfl)
theorem dX6_gets_10 : decode cX6_gets 10 = .ok (.iload_n 2, 1) := dk_28 (dk_at dksX6_gets_0 10 rfl rfl)
theorem dX6_gets_11 : decode cX6_gets 11 = .ok (.iadd, 1) := dk_96 (dk_at dksX6_gets_0 11 rfl rfl)
theorem dX6_gets_12 : decode cX6_gets 12 = .ok (.aload_n 0, 1) := dk_42 (dk_at dksX6_gets_0 12 rfl rfl)
theorem dX6_gets_13 : decode cX6_gets 13 = .ok (.iload_n 1, 1) := dk_27 (dk_at dksX6_gets_0 13 rfl rfl)
theorem dX6_gets_14 : decode cX6_gets 14 = .ok (.iload_n 2, 1) := dk_28 (dk_at dksX6_gets_0 14 rfl rfl)
theorem dX6_gets_15 : decode cX6_gets 15 = .ok (.invokevirtual 65, 3) := dk_182 0 65 (dk_at dksX6_gets_0 15 rfl rfl)
theorem dX6_gets_18 : decode cX6_gets 18 = .ok (.iload_n 3, 1) := dk_29 (dk_at dksX6_gets_0 18 rfl rfl)
theorem dX6_gets_19 : decode cX6_gets 19 = .ok (.iadd, 1) := dk_96 (dk_at dksX6_gets_0 19 rfl rfl)
theorem dX6_gets_20 : decode cX6_gets 20 = .ok (.bipush 99, 2) := dk_16 99 (dk_at dksX6_gets_0 20 rfl rfl)
theorem dX6_gets_22 : decode cX6_gets 22 = .ok (.invokestatic 69, 3) := dk_184 0 69 (dk_at dksX6_gets_1 0 rfl rfl)
theorem dX6_gets_25 : decode cX6_gets 25 = .ok (.iastore, 1) := dk_79 (dk_at dksX6_gets_1 3 rfl rfl)
theorem dX6_gets_26 : decode cX6_gets 26 = .ok (.return_, 1) := dk_177 (dk_at dksX6_gets_1 4 rfl rfl)
abbrev cX6_atMost : ByteArray := prog_12_method_6_code
def yX6_atMost : MethodName := ⟨RX6, "atMost", "(II)I"⟩
def dkwX6_atMost_0 : List UInt8 := [26, 27, 162, 0, 7, 26, 167, 0, 4, 27, 172]
abbrev dktX6_atMost_0 : List UInt8 := dkwX6_atMost_0 ++ []
theorem dksX6_atMost_0 : cX6_atMost.data.toList.drop 0 = dktX6_atMost_0 := by decide +kernel
theorem dX6_atMost_0 : decode cX6_atMost 0 = .ok (.iload_n 0, 1) := dk_26 (dk_at dksX6_atMost_0 0 rfl rfl)
theorem dX6_atMost_1 : decode cX6_atMost 1 = .ok (.iload_n 1, 1) := dk_27 (dk_at dksX6_atMost_0 1 rfl rfl)
theorem dX6_atMost_2 : decode cX6_atMost 2 = .ok (.if_icmp .ge 7, 3) := dk_162 0 7 (dk_at dksX6_atMost_0 2 rfl rfl)
theorem dX6_atMost_5 : decode cX6_atMost 5 = .ok (.iload_n 0, 1) := dk_26 (dk_at dksX6_atMost_0 5 rfl rfl)
theorem dX6_atMost_6 : decode cX6_atMost 6 = .ok (.goto 4, 3) := dk_167 0 4 (dk_at dksX6_atMost_0 6 rfl rfl)
theorem dX6_atMost_9 : decode cX6_atMost 9 = .ok (.iload_n 1, 1) := dk_27 (dk_at dksX6_atMost_0 9 rfl rfl)
theorem dX6_atMost_10 : decode cX6_atMost 10 = .ok (.ireturn, 1) := dk_172 (dk_at dksX6_atMost_0 10 rfl rfl)
abbrev cX6_laughs : ByteArray := prog_12_method_34_code
def yX6_laughs : MethodName := ⟨RX6, "laughs", "(II)I"⟩
def dkwX6_laughs_1 : List UInt8 := [62, 132, 4, 1, 167, 255, 233, 29, 172]
abbrev dktX6_laughs_1 : List UInt8 := dkwX6_laughs_1 ++ []
def dkwX6_laughs_0 : List UInt8 := [3, 62, 3, 54, 4, 21, 4, 8, 162, 0, 23, 29, 42, 27, 28, 182, 0, 136, 21, 4, 122, 4, 126, 96]
abbrev dktX6_laughs_0 : List UInt8 := dkwX6_laughs_0 ++ dktX6_laughs_1
theorem dksX6_laughs_0 : cX6_laughs.data.toList.drop 0 = dktX6_laughs_0 := by decide +kernel
theorem dksX6_laughs_1 : cX6_laughs.data.toList.drop 24 = dktX6_laughs_1 := dk_seg dksX6_laughs_0 24 rfl rfl
theorem dX6_laughs_0 : decode cX6_laughs 0 = .ok (.iconst 0, 1) := dk_3 (dk_at dksX6_laughs_0 0 rfl rfl)
theorem dX6_laughs_1 : decode cX6_laughs 1 = .ok (.istore_n 3, 1) := dk_62 (dk_at dksX6_laughs_0 1 rfl rfl)
theorem dX6_laughs_2 : decode cX6_laughs 2 = .ok (.iconst 0, 1) := dk_3 (dk_at dksX6_laughs_0 2 rfl rfl)
theorem dX6_laughs_3 : decode cX6_laughs 3 = .ok (.istore 4, 2) := dk_54 4 (dk_at dksX6_laughs_0 3 rfl rfl)
theorem dX6_laughs_5 : decode cX6_laughs 5 = .ok (.iload 4, 2) := dk_21 4 (dk_at dksX6_laughs_0 5 rfl rfl)
theorem dX6_laughs_7 : decode cX6_laughs 7 = .ok (.iconst 5, 1) := dk_8 (dk_at dksX6_laughs_0 7 rfl rfl)
theorem dX6_laughs_8 : decode cX6_laughs 8 = .ok (.if_icmp .ge 23, 3) := dk_162 0 23 (dk_at dksX6_laughs_0 8 rfl rfl)
theorem dX6_laughs_11 : decode cX6_laughs 11 = .ok (.iload_n 3, 1) := dk_29 (dk_at dksX6_laughs_0 11 rfl rfl)
theorem dX6_laughs_12 : decode cX6_laughs 12 = .ok (.aload_n 0, 1) := dk_42 (dk_at dksX6_laughs_0 12 rfl rfl)
theorem dX6_laughs_13 : decode cX6_laughs 13 = .ok (.iload_n 1, 1) := dk_27 (dk_at dksX6_laughs_0 13 rfl rfl)
theorem dX6_laughs_14 : decode cX6_laughs 14 = .ok (.iload_n 2, 1) := dk_28 (dk_at dksX6_laughs_0 14 rfl rfl)
theorem dX6_laughs_15 : decode cX6_laughs 15 = .ok (.invokevirtual 136, 3) := dk_182 0 136 (dk_at dksX6_laughs_0 15 rfl rfl)
theorem dX6_laughs_18 : decode cX6_laughs 18 = .ok (.iload 4, 2) := dk_21 4 (dk_at dksX6_laughs_0 18 rfl rfl)
theorem dX6_laughs_20 : decode cX6_laughs 20 = .ok (.ishr, 1) := dk_122 (dk_at dksX6_laughs_0 20 rfl rfl)
theorem dX6_laughs_21 : decode cX6_laughs 21 = .ok (.iconst 1, 1) := dk_4 (dk_at dksX6_laughs_0 21 rfl rfl)
theorem dX6_laughs_22 : decode cX6_laughs 22 = .ok (.iand, 1) := dk_126 (dk_at dksX6_laughs_0 22 rfl rfl)
theorem dX6_laughs_23 : decode cX6_laughs 23 = .ok (.iadd, 1) := dk_96 (dk_at dksX6_laughs_0 23 rfl rfl)
theorem dX6_laughs_24 : decode cX6_laughs 24 = .ok (.istore_n 3, 1) := dk_62 (dk_at dksX6_laughs_1 0 rfl rfl)
theorem dX6_laughs_25 : decode cX6_laughs 25 = .ok (.iinc 4 1, 3) := dk_132 4 1 (dk_at dksX6_laughs_1 1 rfl rfl)
theorem dX6_laughs_28 : decode cX6_laughs 28 = .ok (.goto (-23), 3) := dk_167 255 233 (dk_at dksX6_laughs_1 4 rfl rfl)
theorem dX6_laughs_31 : decode cX6_laughs 31 = .ok (.iload_n 3, 1) := dk_29 (dk_at dksX6_laughs_1 7 rfl rfl)
theorem dX6_laughs_32 : decode cX6_laughs 32 = .ok (.ireturn, 1) := dk_172 (dk_at dksX6_laughs_1 8 rfl rfl)
abbrev cX6_laughers : ByteArray := prog_12_method_33_code
def yX6_laughers : MethodName := ⟨RX6, "laughers", "(II)I"⟩
def dkwX6_laughers_5 : List UInt8 := [132, 4, 1, 167, 255, 144, 29, 172]
abbrev dktX6_laughers_5 : List UInt8 := dkwX6_laughers_5 ++ []
def dkwX6_laughers_4 : List UInt8 := [167, 0, 4, 3, 54, 6, 29, 21, 6, 153, 0, 10, 4, 21, 4, 120, 167, 0, 4, 3, 128, 62]
abbrev dktX6_laughers_4 : List UInt8 := dkwX6_laughers_4 ++ dktX6_laughers_5
def dkwX6_laughers_3 : List UInt8 := [160, 0, 7, 4, 167, 0, 23, 3, 167, 0, 19, 42, 27, 28, 182, 0, 130, 21, 5, 161, 0, 7, 4]
abbrev dktX6_laughers_3 : List UInt8 := dkwX6_laughers_3 ++ dktX6_laughers_4
def dkwX6_laughers_2 : List UInt8 := [17, 0, 230, 5, 21, 4, 104, 96, 46, 154, 0, 25, 42, 27, 16, 10, 28, 96, 182, 0, 80, 21, 5]
abbrev dktX6_laughers_2 : List UInt8 := dkwX6_laughers_2 ++ dktX6_laughers_3
def dkwX6_laughers_1 : List UInt8 := [158, 0, 98, 42, 180, 0, 7, 17, 0, 230, 5, 21, 4, 104, 96, 4, 96, 46, 54, 5, 42, 180, 0, 7]
abbrev dktX6_laughers_1 : List UInt8 := dkwX6_laughers_1 ++ dktX6_laughers_2
def dkwX6_laughers_0 : List UInt8 := [3, 62, 3, 54, 4, 21, 4, 42, 180, 0, 7, 5, 46, 162, 0, 107, 42, 27, 28, 182, 0, 111]
abbrev dktX6_laughers_0 : List UInt8 := dkwX6_laughers_0 ++ dktX6_laughers_1
theorem dksX6_laughers_0 : cX6_laughers.data.toList.drop 0 = dktX6_laughers_0 := by decide +kernel
theorem dksX6_laughers_1 : cX6_laughers.data.toList.drop 22 = dktX6_laughers_1 := dk_seg dksX6_laughers_0 22 rfl rfl
theorem dksX6_laughers_2 : cX6_laughers.data.toList.drop 46 = dktX6_laughers_2 := dk_seg dksX6_laughers_1 24 rfl rfl
theorem dksX6_laughers_3 : cX6_laughers.data.toList.drop 69 = dktX6_laughers_3 := dk_seg dksX6_laughers_2 23 rfl rfl
theorem dksX6_laughers_4 : cX6_laughers.data.toList.drop 92 = dktX6_laughers_4 := dk_seg dksX6_laughers_3 23 rfl rfl
theorem dksX6_laughers_5 : cX6_laughers.data.toList.drop 114 = dktX6_laughers_5 := dk_seg dksX6_laughers_4 22 rfl rfl
theorem dX6_laughers_0 : decode cX6_laughers 0 = .ok (.iconst 0, 1) := dk_3 (dk_at dksX6_laughers_0 0 rfl rfl)
theorem dX6_laughers_1 : decode cX6_laughers 1 = .ok (.istore_n 3, 1) := dk_62 (dk_at dksX6_laughers_0 1 rfl rfl)
theorem dX6_laughers_2 : decode cX6_laughers 2 = .ok (.iconst 0, 1) := dk_3 (dk_at dksX6_laughers_0 2 rfl rfl)
theorem dX6_laughers_3 : decode cX6_laughers 3 = .ok (.istore 4, 2) := dk_54 4 (dk_at dksX6_laughers_0 3 rfl rfl)
theorem dX6_laughers_5 : decode cX6_laughers 5 = .ok (.iload 4, 2) := dk_21 4 (dk_at dksX6_laughers_0 5 rfl rfl)
theorem dX6_laughers_7 : decode cX6_laughers 7 = .ok (.aload_n 0, 1) := dk_42 (dk_at dksX6_laughers_0 7 rfl rfl)
theorem dX6_laughers_8 : decode cX6_laughers 8 = .ok (.getfield 7, 3) := dk_180 0 7 (dk_at dksX6_laughers_0 8 rfl rfl)
theorem dX6_laughers_11 : decode cX6_laughers 11 = .ok (.iconst 2, 1) := dk_5 (dk_at dksX6_laughers_0 11 rfl rfl)
theorem dX6_laughers_12 : decode cX6_laughers 12 = .ok (.iaload, 1) := dk_46 (dk_at dksX6_laughers_0 12 rfl rfl)
theorem dX6_laughers_13 : decode cX6_laughers 13 = .ok (.if_icmp .ge 107, 3) := dk_162 0 107 (dk_at dksX6_laughers_0 13 rfl rfl)
theorem dX6_laughers_16 : decode cX6_laughers 16 = .ok (.aload_n 0, 1) := dk_42 (dk_at dksX6_laughers_0 16 rfl rfl)
theorem dX6_laughers_17 : decode cX6_laughers 17 = .ok (.iload_n 1, 1) := dk_27 (dk_at dksX6_laughers_0 17 rfl rfl)
theorem dX6_laughers_18 : decode cX6_laughers 18 = .ok (.iload_n 2, 1) := dk_28 (dk_at dksX6_laughers_0 18 rfl rfl)
theorem dX6_laughers_19 : decode cX6_laughers 19 = .ok (.invokevirtual 111, 3) := dk_182 0 111 (dk_at dksX6_laughers_0 19 rfl rfl)
theorem dX6_laughers_22 : decode cX6_laughers 22 = .ok (.ifCond .le 98, 3) := dk_158 0 98 (dk_at dksX6_laughers_1 0 rfl rfl)
theorem dX6_laughers_25 : decode cX6_laughers 25 = .ok (.aload_n 0, 1) := dk_42 (dk_at dksX6_laughers_1 3 rfl rfl)
theorem dX6_laughers_26 : decode cX6_laughers 26 = .ok (.getfield 7, 3) := dk_180 0 7 (dk_at dksX6_laughers_1 4 rfl rfl)
theorem dX6_laughers_29 : decode cX6_laughers 29 = .ok (.sipush 230, 3) := dk_17 0 230 (dk_at dksX6_laughers_1 7 rfl rfl)
theorem dX6_laughers_32 : decode cX6_laughers 32 = .ok (.iconst 2, 1) := dk_5 (dk_at dksX6_laughers_1 10 rfl rfl)
theorem dX6_laughers_33 : decode cX6_laughers 33 = .ok (.iload 4, 2) := dk_21 4 (dk_at dksX6_laughers_1 11 rfl rfl)
theorem dX6_laughers_35 : decode cX6_laughers 35 = .ok (.imul, 1) := dk_104 (dk_at dksX6_laughers_1 13 rfl rfl)
theorem dX6_laughers_36 : decode cX6_laughers 36 = .ok (.iadd, 1) := dk_96 (dk_at dksX6_laughers_1 14 rfl rfl)
theorem dX6_laughers_37 : decode cX6_laughers 37 = .ok (.iconst 1, 1) := dk_4 (dk_at dksX6_laughers_1 15 rfl rfl)
theorem dX6_laughers_38 : decode cX6_laughers 38 = .ok (.iadd, 1) := dk_96 (dk_at dksX6_laughers_1 16 rfl rfl)
theorem dX6_laughers_39 : decode cX6_laughers 39 = .ok (.iaload, 1) := dk_46 (dk_at dksX6_laughers_1 17 rfl rfl)
theorem dX6_laughers_40 : decode cX6_laughers 40 = .ok (.istore 5, 2) := dk_54 5 (dk_at dksX6_laughers_1 18 rfl rfl)
theorem dX6_laughers_42 : decode cX6_laughers 42 = .ok (.aload_n 0, 1) := dk_42 (dk_at dksX6_laughers_1 20 rfl rfl)
theorem dX6_laughers_43 : decode cX6_laughers 43 = .ok (.getfield 7, 3) := dk_180 0 7 (dk_at dksX6_laughers_1 21 rfl rfl)
theorem dX6_laughers_46 : decode cX6_laughers 46 = .ok (.sipush 230, 3) := dk_17 0 230 (dk_at dksX6_laughers_2 0 rfl rfl)
theorem dX6_laughers_49 : decode cX6_laughers 49 = .ok (.iconst 2, 1) := dk_5 (dk_at dksX6_laughers_2 3 rfl rfl)
theorem dX6_laughers_50 : decode cX6_laughers 50 = .ok (.iload 4, 2) := dk_21 4 (dk_at dksX6_laughers_2 4 rfl rfl)
theorem dX6_laughers_52 : decode cX6_laughers 52 = .ok (.imul, 1) := dk_104 (dk_at dksX6_laughers_2 6 rfl rfl)
theorem dX6_laughers_53 : decode cX6_laughers 53 = .ok (.iadd, 1) := dk_96 (dk_at dksX6_laughers_2 7 rfl rfl)
theorem dX6_laughers_54 : decode cX6_laughers 54 = .ok (.iaload, 1) := dk_46 (dk_at dksX6_laughers_2 8 rfl rfl)
theorem dX6_laughers_55 : decode cX6_laughers 55 = .ok (.ifCond .ne 25, 3) := dk_154 0 25 (dk_at dksX6_laughers_2 9 rfl rfl)
theorem dX6_laughers_58 : decode cX6_laughers 58 = .ok (.aload_n 0, 1) := dk_42 (dk_at dksX6_laughers_2 12 rfl rfl)
theorem dX6_laughers_59 : decode cX6_laughers 59 = .ok (.iload_n 1, 1) := dk_27 (dk_at dksX6_laughers_2 13 rfl rfl)
theorem dX6_laughers_60 : decode cX6_laughers 60 = .ok (.bipush 10, 2) := dk_16 10 (dk_at dksX6_laughers_2 14 rfl rfl)
theorem dX6_laughers_62 : decode cX6_laughers 62 = .ok (.iload_n 2, 1) := dk_28 (dk_at dksX6_laughers_2 16 rfl rfl)
theorem dX6_laughers_63 : decode cX6_laughers 63 = .ok (.iadd, 1) := dk_96 (dk_at dksX6_laughers_2 17 rfl rfl)
theorem dX6_laughers_64 : decode cX6_laughers 64 = .ok (.invokevirtual 80, 3) := dk_182 0 80 (dk_at dksX6_laughers_2 18 rfl rfl)
theorem dX6_laughers_67 : decode cX6_laughers 67 = .ok (.iload 5, 2) := dk_21 5 (dk_at dksX6_laughers_2 21 rfl rfl)
theorem dX6_laughers_69 : decode cX6_laughers 69 = .ok (.if_icmp .ne 7, 3) := dk_160 0 7 (dk_at dksX6_laughers_3 0 rfl rfl)
theorem dX6_laughers_72 : decode cX6_laughers 72 = .ok (.iconst 1, 1) := dk_4 (dk_at dksX6_laughers_3 3 rfl rfl)
theorem dX6_laughers_73 : decode cX6_laughers 73 = .ok (.goto 23, 3) := dk_167 0 23 (dk_at dksX6_laughers_3 4 rfl rfl)
theorem dX6_laughers_76 : decode cX6_laughers 76 = .ok (.iconst 0, 1) := dk_3 (dk_at dksX6_laughers_3 7 rfl rfl)
theorem dX6_laughers_77 : decode cX6_laughers 77 = .ok (.goto 19, 3) := dk_167 0 19 (dk_at dksX6_laughers_3 8 rfl rfl)
theorem dX6_laughers_80 : decode cX6_laughers 80 = .ok (.aload_n 0, 1) := dk_42 (dk_at dksX6_laughers_3 11 rfl rfl)
theorem dX6_laughers_81 : decode cX6_laughers 81 = .ok (.iload_n 1, 1) := dk_27 (dk_at dksX6_laughers_3 12 rfl rfl)
theorem dX6_laughers_82 : decode cX6_laughers 82 = .ok (.iload_n 2, 1) := dk_28 (dk_at dksX6_laughers_3 13 rfl rfl)
theorem dX6_laughers_83 : decode cX6_laughers 83 = .ok (.invokevirtual 130, 3) := dk_182 0 130 (dk_at dksX6_laughers_3 14 rfl rfl)
theorem dX6_laughers_86 : decode cX6_laughers 86 = .ok (.iload 5, 2) := dk_21 5 (dk_at dksX6_laughers_3 17 rfl rfl)
theorem dX6_laughers_88 : decode cX6_laughers 88 = .ok (.if_icmp .lt 7, 3) := dk_161 0 7 (dk_at dksX6_laughers_3 19 rfl rfl)
theorem dX6_laughers_91 : decode cX6_laughers 91 = .ok (.iconst 1, 1) := dk_4 (dk_at dksX6_laughers_3 22 rfl rfl)
theorem dX6_laughers_92 : decode cX6_laughers 92 = .ok (.goto 4, 3) := dk_167 0 4 (dk_at dksX6_laughers_4 0 rfl rfl)
theorem dX6_laughers_95 : decode cX6_laughers 95 = .ok (.iconst 0, 1) := dk_3 (dk_at dksX6_laughers_4 3 rfl rfl)
theorem dX6_laughers_96 : decode cX6_laughers 96 = .ok (.istore 6, 2) := dk_54 6 (dk_at dksX6_laughers_4 4 rfl rfl)
theorem dX6_laughers_98 : decode cX6_laughers 98 = .ok (.iload_n 3, 1) := dk_29 (dk_at dksX6_laughers_4 6 rfl rfl)
theorem dX6_laughers_99 : decode cX6_laughers 99 = .ok (.iload 6, 2) := dk_21 6 (dk_at dksX6_laughers_4 7 rfl rfl)
theorem dX6_laughers_101 : decode cX6_laughers 101 = .ok (.ifCond .eq 10, 3) := dk_153 0 10 (dk_at dksX6_laughers_4 9 rfl rfl)
theorem dX6_laughers_104 : decode cX6_laughers 104 = .ok (.iconst 1, 1) := dk_4 (dk_at dksX6_laughers_4 12 rfl rfl)
theorem dX6_laughers_105 : decode cX6_laughers 105 = .ok (.iload 4, 2) := dk_21 4 (dk_at dksX6_laughers_4 13 rfl rfl)
theorem dX6_laughers_107 : decode cX6_laughers 107 = .ok (.ishl, 1) := dk_120 (dk_at dksX6_laughers_4 15 rfl rfl)
theorem dX6_laughers_108 : decode cX6_laughers 108 = .ok (.goto 4, 3) := dk_167 0 4 (dk_at dksX6_laughers_4 16 rfl rfl)
theorem dX6_laughers_111 : decode cX6_laughers 111 = .ok (.iconst 0, 1) := dk_3 (dk_at dksX6_laughers_4 19 rfl rfl)
theorem dX6_laughers_112 : decode cX6_laughers 112 = .ok (.ior, 1) := dk_128 (dk_at dksX6_laughers_4 20 rfl rfl)
theorem dX6_laughers_113 : decode cX6_laughers 113 = .ok (.istore_n 3, 1) := dk_62 (dk_at dksX6_laughers_4 21 rfl rfl)
theorem dX6_laughers_114 : decode cX6_laughers 114 = .ok (.iinc 4 1, 3) := dk_132 4 1 (dk_at dksX6_laughers_5 0 rfl rfl)
theorem dX6_laughers_117 : decode cX6_laughers 117 = .ok (.goto (-112), 3) := dk_167 255 144 (dk_at dksX6_laughers_5 3 rfl rfl)
theorem dX6_laughers_120 : decode cX6_laughers 120 = .ok (.iload_n 3, 1) := dk_29 (dk_at dksX6_laughers_5 6 rfl rfl)
theorem dX6_laughers_121 : decode cX6_laughers 121 = .ok (.ireturn, 1) := dk_172 (dk_at dksX6_laughers_5 7 rfl rfl)
abbrev cX6_day : ByteArray := prog_12_method_37_code
def yX6_day : MethodName := ⟨RX6, "day", "()I"⟩
def dkwX6_day_3 : List UInt8 := [92, 46, 4, 96, 79, 27, 172]
abbrev dktX6_day_3 : List UInt8 := dkwX6_day_3 ++ []
def dkwX6_day_2 : List UInt8 := [182, 0, 124, 153, 0, 7, 4, 167, 0, 4, 3, 96, 60, 132, 2, 1, 167, 255, 204, 42, 180, 0, 7, 6]
abbrev dktX6_day_2 : List UInt8 := dkwX6_day_2 ++ dktX6_day_3
def dkwX6_day_1 : List UInt8 := [4, 182, 0, 65, 158, 0, 10, 42, 28, 4, 2, 182, 0, 97, 42, 28, 3, 4, 182, 0, 143, 27, 42, 28]
abbrev dktX6_day_1 : List UInt8 := dkwX6_day_1 ++ dktX6_day_2
def dkwX6_day_0 : List UInt8 := [42, 42, 180, 0, 7, 182, 0, 93, 3, 60, 3, 61, 28, 42, 180, 0, 7, 3, 46, 162, 0, 48, 42, 28]
abbrev dktX6_day_0 : List UInt8 := dkwX6_day_0 ++ dktX6_day_1
theorem dksX6_day_0 : cX6_day.data.toList.drop 0 = dktX6_day_0 := by decide +kernel
theorem dksX6_day_1 : cX6_day.data.toList.drop 24 = dktX6_day_1 := dk_seg dksX6_day_0 24 rfl rfl
theorem dksX6_day_2 : cX6_day.data.toList.drop 48 = dktX6_day_2 := dk_seg dksX6_day_1 24 rfl rfl
theorem dksX6_day_3 : cX6_day.data.toList.drop 72 = dktX6_day_3 := dk_seg dksX6_day_2 24 rfl rfl
theorem dX6_day_0 : decode cX6_day 0 = .ok (.aload_n 0, 1) := dk_42 (dk_at dksX6_day_0 0 rfl rfl)
theorem dX6_day_1 : decode cX6_day 1 = .ok (.aload_n 0, 1) := dk_42 (dk_at dksX6_day_0 1 rfl rfl)
theorem dX6_day_2 : decode cX6_day 2 = .ok (.getfield 7, 3) := dk_180 0 7 (dk_at dksX6_day_0 2 rfl rfl)
theorem dX6_day_5 : decode cX6_day 5 = .ok (.invokevirtual 93, 3) := dk_182 0 93 (dk_at dksX6_day_0 5 rfl rfl)
theorem dX6_day_8 : decode cX6_day 8 = .ok (.iconst 0, 1) := dk_3 (dk_at dksX6_day_0 8 rfl rfl)
theorem dX6_day_9 : decode cX6_day 9 = .ok (.istore_n 1, 1) := dk_60 (dk_at dksX6_day_0 9 rfl rfl)
theorem dX6_day_10 : decode cX6_day 10 = .ok (.iconst 0, 1) := dk_3 (dk_at dksX6_day_0 10 rfl rfl)
theorem dX6_day_11 : decode cX6_day 11 = .ok (.istore_n 2, 1) := dk_61 (dk_at dksX6_day_0 11 rfl rfl)
theorem dX6_day_12 : decode cX6_day 12 = .ok (.iload_n 2, 1) := dk_28 (dk_at dksX6_day_0 12 rfl rfl)
theorem dX6_day_13 : decode cX6_day 13 = .ok (.aload_n 0, 1) := dk_42 (dk_at dksX6_day_0 13 rfl rfl)
theorem dX6_day_14 : decode cX6_day 14 = .ok (.getfield 7, 3) := dk_180 0 7 (dk_at dksX6_day_0 14 rfl rfl)
theorem dX6_day_17 : decode cX6_day 17 = .ok (.iconst 0, 1) := dk_3 (dk_at dksX6_day_0 17 rfl rfl)
theorem dX6_day_18 : decode cX6_day 18 = .ok (.iaload, 1) := dk_46 (dk_at dksX6_day_0 18 rfl rfl)
theorem dX6_day_19 : decode cX6_day 19 = .ok (.if_icmp .ge 48, 3) := dk_162 0 48 (dk_at dksX6_day_0 19 rfl rfl)
theorem dX6_day_22 : decode cX6_day 22 = .ok (.aload_n 0, 1) := dk_42 (dk_at dksX6_day_0 22 rfl rfl)
theorem dX6_day_23 : decode cX6_day 23 = .ok (.iload_n 2, 1) := dk_28 (dk_at dksX6_day_0 23 rfl rfl)
theorem dX6_day_24 : decode cX6_day 24 = .ok (.iconst 1, 1) := dk_4 (dk_at dksX6_day_1 0 rfl rfl)
theorem dX6_day_25 : decode cX6_day 25 = .ok (.invokevirtual 65, 3) := dk_182 0 65 (dk_at dksX6_day_1 1 rfl rfl)
theorem dX6_day_28 : decode cX6_day 28 = .ok (.ifCond .le 10, 3) := dk_158 0 10 (dk_at dksX6_day_1 4 rfl rfl)
theorem dX6_day_31 : decode cX6_day 31 = .ok (.aload_n 0, 1) := dk_42 (dk_at dksX6_day_1 7 rfl rfl)
theorem dX6_day_32 : decode cX6_day 32 = .ok (.iload_n 2, 1) := dk_28 (dk_at dksX6_day_1 8 rfl rfl)
theorem dX6_day_33 : decode cX6_day 33 = .ok (.iconst 1, 1) := dk_4 (dk_at dksX6_day_1 9 rfl rfl)
theorem dX6_day_34 : decode cX6_day 34 = .ok (.iconst (-1), 1) := dk_2 (dk_at dksX6_day_1 10 rfl rfl)
theorem dX6_day_35 : decode cX6_day 35 = .ok (.invokevirtual 97, 3) := dk_182 0 97 (dk_at dksX6_day_1 11 rfl rfl)
theorem dX6_day_38 : decode cX6_day 38 = .ok (.aload_n 0, 1) := dk_42 (dk_at dksX6_day_1 14 rfl rfl)
theorem dX6_day_39 : decode cX6_day 39 = .ok (.iload_n 2, 1) := dk_28 (dk_at dksX6_day_1 15 rfl rfl)
theorem dX6_day_40 : decode cX6_day 40 = .ok (.iconst 0, 1) := dk_3 (dk_at dksX6_day_1 16 rfl rfl)
theorem dX6_day_41 : decode cX6_day 41 = .ok (.iconst 1, 1) := dk_4 (dk_at dksX6_day_1 17 rfl rfl)
theorem dX6_day_42 : decode cX6_day 42 = .ok (.invokevirtual 143, 3) := dk_182 0 143 (dk_at dksX6_day_1 18 rfl rfl)
theorem dX6_day_45 : decode cX6_day 45 = .ok (.iload_n 1, 1) := dk_27 (dk_at dksX6_day_1 21 rfl rfl)
theorem dX6_day_46 : decode cX6_day 46 = .ok (.aload_n 0, 1) := dk_42 (dk_at dksX6_day_1 22 rfl rfl)
theorem dX6_day_47 : decode cX6_day 47 = .ok (.iload_n 2, 1) := dk_28 (dk_at dksX6_day_1 23 rfl rfl)
theorem dX6_day_48 : decode cX6_day 48 = .ok (.invokevirtual 124, 3) := dk_182 0 124 (dk_at dksX6_day_2 0 rfl rfl)
theorem dX6_day_51 : decode cX6_day 51 = .ok (.ifCond .eq 7, 3) := dk_153 0 7 (dk_at dksX6_day_2 3 rfl rfl)
theorem dX6_day_54 : decode cX6_day 54 = .ok (.iconst 1, 1) := dk_4 (dk_at dksX6_day_2 6 rfl rfl)
theorem dX6_day_55 : decode cX6_day 55 = .ok (.goto 4, 3) := dk_167 0 4 (dk_at dksX6_day_2 7 rfl rfl)
theorem dX6_day_58 : decode cX6_day 58 = .ok (.iconst 0, 1) := dk_3 (dk_at dksX6_day_2 10 rfl rfl)
theorem dX6_day_59 : decode cX6_day 59 = .ok (.iadd, 1) := dk_96 (dk_at dksX6_day_2 11 rfl rfl)
theorem dX6_day_60 : decode cX6_day 60 = .ok (.istore_n 1, 1) := dk_60 (dk_at dksX6_day_2 12 rfl rfl)
theorem dX6_day_61 : decode cX6_day 61 = .ok (.iinc 2 1, 3) := dk_132 2 1 (dk_at dksX6_day_2 13 rfl rfl)
theorem dX6_day_64 : decode cX6_day 64 = .ok (.goto (-52), 3) := dk_167 255 204 (dk_at dksX6_day_2 16 rfl rfl)
theorem dX6_day_67 : decode cX6_day 67 = .ok (.aload_n 0, 1) := dk_42 (dk_at dksX6_day_2 19 rfl rfl)
theorem dX6_day_68 : decode cX6_day 68 = .ok (.getfield 7, 3) := dk_180 0 7 (dk_at dksX6_day_2 20 rfl rfl)
theorem dX6_day_71 : decode cX6_day 71 = .ok (.iconst 3, 1) := dk_6 (dk_at dksX6_day_2 23 rfl rfl)
theorem dX6_day_72 : decode cX6_day 72 = .ok (.dup2, 1) := dk_92 (dk_at dksX6_day_3 0 rfl rfl)
theorem dX6_day_73 : decode cX6_day 73 = .ok (.iaload, 1) := dk_46 (dk_at dksX6_day_3 1 rfl rfl)
theorem dX6_day_74 : decode cX6_day 74 = .ok (.iconst 1, 1) := dk_4 (dk_at dksX6_day_3 2 rfl rfl)
theorem dX6_day_75 : decode cX6_day 75 = .ok (.iadd, 1) := dk_96 (dk_at dksX6_day_3 3 rfl rfl)
theorem dX6_day_76 : decode cX6_day 76 = .ok (.iastore, 1) := dk_79 (dk_at dksX6_day_3 4 rfl rfl)
theorem dX6_day_77 : decode cX6_day 77 = .ok (.iload_n 1, 1) := dk_27 (dk_at dksX6_day_3 5 rfl rfl)
theorem dX6_day_78 : decode cX6_day 78 = .ok (.ireturn, 1) := dk_172 (dk_at dksX6_day_3 6 rfl rfl)
abbrev cX6_houseOf : ByteArray := prog_12_method_39_code
def yX6_houseOf : MethodName := ⟨RX6, "houseOf", "(II)I"⟩
def dkwX6_houseOf_4 : List UInt8 := [182, 0, 121, 172, 42, 27, 182, 0, 127, 172, 42, 27, 5, 182, 0, 65, 172]
abbrev dktX6_houseOf_4 : List UInt8 := dkwX6_houseOf_4 ++ []
def dkwX6_houseOf_3 : List UInt8 := [42, 27, 28, 182, 0, 65, 172, 42, 27, 182, 0, 149, 172, 42, 27, 4, 182, 0, 121, 172, 42, 27, 5]
abbrev dktX6_houseOf_3 : List UInt8 := dkwX6_houseOf_3 ++ dktX6_houseOf_4
def dkwX6_houseOf_2 : List UInt8 := [170, 0, 0, 0, 0, 0, 72, 0, 0, 0, 0, 0, 0, 0, 5, 0, 0, 0, 39, 0, 0, 0, 39, 0, 0, 0, 46, 0, 0, 0, 52, 0, 0, 0, 59, 0, 0, 0, 66]
abbrev dktX6_houseOf_2 : List UInt8 := dkwX6_houseOf_2 ++ dktX6_houseOf_3
def dkwX6_houseOf_1 : List UInt8 := [167, 0, 4, 5, 182, 0, 86, 153, 0, 5, 3, 172, 28]
abbrev dktX6_houseOf_1 : List UInt8 := dkwX6_houseOf_1 ++ dktX6_houseOf_2
def dkwX6_houseOf_0 : List UInt8 := [42, 42, 27, 182, 0, 101, 154, 0, 7, 4, 167, 0, 18, 28, 3, 16, 6, 184, 0, 72, 153, 0, 7, 3]
abbrev dktX6_houseOf_0 : List UInt8 := dkwX6_houseOf_0 ++ dktX6_houseOf_1
theorem dksX6_houseOf_0 : cX6_houseOf.data.toList.drop 0 = dktX6_houseOf_0 := by decide +kernel
theorem dksX6_houseOf_1 : cX6_houseOf.data.toList.drop 24 = dktX6_houseOf_1 := dk_seg dksX6_houseOf_0 24 rfl rfl
theorem dksX6_houseOf_2 : cX6_houseOf.data.toList.drop 37 = dktX6_houseOf_2 := dk_seg dksX6_houseOf_1 13 rfl rfl
theorem dksX6_houseOf_3 : cX6_houseOf.data.toList.drop 76 = dktX6_houseOf_3 := dk_seg dksX6_houseOf_2 39 rfl rfl
theorem dksX6_houseOf_4 : cX6_houseOf.data.toList.drop 99 = dktX6_houseOf_4 := dk_seg dksX6_houseOf_3 23 rfl rfl
theorem dX6_houseOf_0 : decode cX6_houseOf 0 = .ok (.aload_n 0, 1) := dk_42 (dk_at dksX6_houseOf_0 0 rfl rfl)
theorem dX6_houseOf_1 : decode cX6_houseOf 1 = .ok (.aload_n 0, 1) := dk_42 (dk_at dksX6_houseOf_0 1 rfl rfl)
theorem dX6_houseOf_2 : decode cX6_houseOf 2 = .ok (.iload_n 1, 1) := dk_27 (dk_at dksX6_houseOf_0 2 rfl rfl)
theorem dX6_houseOf_3 : decode cX6_houseOf 3 = .ok (.invokevirtual 101, 3) := dk_182 0 101 (dk_at dksX6_houseOf_0 3 rfl rfl)
theorem dX6_houseOf_6 : decode cX6_houseOf 6 = .ok (.ifCond .ne 7, 3) := dk_154 0 7 (dk_at dksX6_houseOf_0 6 rfl rfl)
theorem dX6_houseOf_9 : decode cX6_houseOf 9 = .ok (.iconst 1, 1) := dk_4 (dk_at dksX6_houseOf_0 9 rfl rfl)
theorem dX6_houseOf_10 : decode cX6_houseOf 10 = .ok (.goto 18, 3) := dk_167 0 18 (dk_at dksX6_houseOf_0 10 rfl rfl)
theorem dX6_houseOf_13 : decode cX6_houseOf 13 = .ok (.iload_n 2, 1) := dk_28 (dk_at dksX6_houseOf_0 13 rfl rfl)
theorem dX6_houseOf_14 : decode cX6_houseOf 14 = .ok (.iconst 0, 1) := dk_3 (dk_at dksX6_houseOf_0 14 rfl rfl)
theorem dX6_houseOf_15 : decode cX6_houseOf 15 = .ok (.bipush 6, 2) := dk_16 6 (dk_at dksX6_houseOf_0 15 rfl rfl)
theorem dX6_houseOf_17 : decode cX6_houseOf 17 = .ok (.invokestatic 72, 3) := dk_184 0 72 (dk_at dksX6_houseOf_0 17 rfl rfl)
theorem dX6_houseOf_20 : decode cX6_houseOf 20 = .ok (.ifCond .eq 7, 3) := dk_153 0 7 (dk_at dksX6_houseOf_0 20 rfl rfl)
theorem dX6_houseOf_23 : decode cX6_houseOf 23 = .ok (.iconst 0, 1) := dk_3 (dk_at dksX6_houseOf_0 23 rfl rfl)
theorem dX6_houseOf_24 : decode cX6_houseOf 24 = .ok (.goto 4, 3) := dk_167 0 4 (dk_at dksX6_houseOf_1 0 rfl rfl)
theorem dX6_houseOf_27 : decode cX6_houseOf 27 = .ok (.iconst 2, 1) := dk_5 (dk_at dksX6_houseOf_1 3 rfl rfl)
theorem dX6_houseOf_28 : decode cX6_houseOf 28 = .ok (.invokevirtual 86, 3) := dk_182 0 86 (dk_at dksX6_houseOf_1 4 rfl rfl)
theorem dX6_houseOf_31 : decode cX6_houseOf 31 = .ok (.ifCond .eq 5, 3) := dk_153 0 5 (dk_at dksX6_houseOf_1 7 rfl rfl)
theorem dX6_houseOf_34 : decode cX6_houseOf 34 = .ok (.iconst 0, 1) := dk_3 (dk_at dksX6_houseOf_1 10 rfl rfl)
theorem dX6_houseOf_35 : decode cX6_houseOf 35 = .ok (.ireturn, 1) := dk_172 (dk_at dksX6_houseOf_1 11 rfl rfl)
theorem dX6_houseOf_36 : decode cX6_houseOf 36 = .ok (.iload_n 2, 1) := dk_28 (dk_at dksX6_houseOf_1 12 rfl rfl)
theorem dX6_houseOf_37 : decode cX6_houseOf 37 = .ok (.tableswitch 72 0 5 #[39, 39, 46, 52, 59, 66], 39) := by decide +kernel
theorem dX6_houseOf_76 : decode cX6_houseOf 76 = .ok (.aload_n 0, 1) := dk_42 (dk_at dksX6_houseOf_3 0 rfl rfl)
theorem dX6_houseOf_77 : decode cX6_houseOf 77 = .ok (.iload_n 1, 1) := dk_27 (dk_at dksX6_houseOf_3 1 rfl rfl)
theorem dX6_houseOf_78 : decode cX6_houseOf 78 = .ok (.iload_n 2, 1) := dk_28 (dk_at dksX6_houseOf_3 2 rfl rfl)
theorem dX6_houseOf_79 : decode cX6_houseOf 79 = .ok (.invokevirtual 65, 3) := dk_182 0 65 (dk_at dksX6_houseOf_3 3 rfl rfl)
theorem dX6_houseOf_82 : decode cX6_houseOf 82 = .ok (.ireturn, 1) := dk_172 (dk_at dksX6_houseOf_3 6 rfl rfl)
theorem dX6_houseOf_83 : decode cX6_houseOf 83 = .ok (.aload_n 0, 1) := dk_42 (dk_at dksX6_houseOf_3 7 rfl rfl)
theorem dX6_houseOf_84 : decode cX6_houseOf 84 = .ok (.iload_n 1, 1) := dk_27 (dk_at dksX6_houseOf_3 8 rfl rfl)
theorem dX6_houseOf_85 : decode cX6_houseOf 85 = .ok (.invokevirtual 149, 3) := dk_182 0 149 (dk_at dksX6_houseOf_3 9 rfl rfl)
theorem dX6_houseOf_88 : decode cX6_houseOf 88 = .ok (.ireturn, 1) := dk_172 (dk_at dksX6_houseOf_3 12 rfl rfl)
theorem dX6_houseOf_89 : decode cX6_houseOf 89 = .ok (.aload_n 0, 1) := dk_42 (dk_at dksX6_houseOf_3 13 rfl rfl)
theorem dX6_houseOf_90 : decode cX6_houseOf 90 = .ok (.iload_n 1, 1) := dk_27 (dk_at dksX6_houseOf_3 14 rfl rfl)
theorem dX6_houseOf_91 : decode cX6_houseOf 91 = .ok (.iconst 1, 1) := dk_4 (dk_at dksX6_houseOf_3 15 rfl rfl)
theorem dX6_houseOf_92 : decode cX6_houseOf 92 = .ok (.invokevirtual 121, 3) := dk_182 0 121 (dk_at dksX6_houseOf_3 16 rfl rfl)
theorem dX6_houseOf_95 : decode cX6_houseOf 95 = .ok (.ireturn, 1) := dk_172 (dk_at dksX6_houseOf_3 19 rfl rfl)
theorem dX6_houseOf_96 : decode cX6_houseOf 96 = .ok (.aload_n 0, 1) := dk_42 (dk_at dksX6_houseOf_3 20 rfl rfl)
theorem dX6_houseOf_97 : decode cX6_houseOf 97 = .ok (.iload_n 1, 1) := dk_27 (dk_at dksX6_houseOf_3 21 rfl rfl)
theorem dX6_houseOf_98 : decode cX6_houseOf 98 = .ok (.iconst 2, 1) := dk_5 (dk_at dksX6_houseOf_3 22 rfl rfl)
theorem dX6_houseOf_99 : decode cX6_houseOf 99 = .ok (.invokevirtual 121, 3) := dk_182 0 121 (dk_at dksX6_houseOf_4 0 rfl rfl)
theorem dX6_houseOf_102 : decode cX6_houseOf 102 = .ok (.ireturn, 1) := dk_172 (dk_at dksX6_houseOf_4 3 rfl rfl)
theorem dX6_houseOf_103 : decode cX6_houseOf 103 = .ok (.aload_n 0, 1) := dk_42 (dk_at dksX6_houseOf_4 4 rfl rfl)
theorem dX6_houseOf_104 : decode cX6_houseOf 104 = .ok (.iload_n 1, 1) := dk_27 (dk_at dksX6_houseOf_4 5 rfl rfl)
theorem dX6_houseOf_105 : decode cX6_houseOf 105 = .ok (.invokevirtual 127, 3) := dk_182 0 127 (dk_at dksX6_houseOf_4 6 rfl rfl)
theorem dX6_houseOf_108 : decode cX6_houseOf 108 = .ok (.ireturn, 1) := dk_172 (dk_at dksX6_houseOf_4 9 rfl rfl)
theorem dX6_houseOf_109 : decode cX6_houseOf 109 = .ok (.aload_n 0, 1) := dk_42 (dk_at dksX6_houseOf_4 10 rfl rfl)
theorem dX6_houseOf_110 : decode cX6_houseOf 110 = .ok (.iload_n 1, 1) := dk_27 (dk_at dksX6_houseOf_4 11 rfl rfl)
theorem dX6_houseOf_111 : decode cX6_houseOf 111 = .ok (.iconst 2, 1) := dk_5 (dk_at dksX6_houseOf_4 12 rfl rfl)
theorem dX6_houseOf_112 : decode cX6_houseOf 112 = .ok (.invokevirtual 65, 3) := dk_182 0 65 (dk_at dksX6_houseOf_4 13 rfl rfl)
theorem dX6_houseOf_115 : decode cX6_houseOf 115 = .ok (.ireturn, 1) := dk_172 (dk_at dksX6_houseOf_4 16 rfl rfl)
abbrev cX6_sheetsOf : ByteArray := prog_12_method_38_code
def yX6_sheetsOf : MethodName := ⟨RX6, "sheetsOf", "(I)I"⟩
def dkwX6_sheetsOf_1 : List UInt8 := [160, 0, 7, 4, 167, 0, 4, 3, 96, 61, 132, 3, 1, 167, 255, 225, 28, 172]
abbrev dktX6_sheetsOf_1 : List UInt8 := dkwX6_sheetsOf_1 ++ []
def dkwX6_sheetsOf_0 : List UInt8 := [3, 61, 3, 62, 29, 42, 180, 0, 7, 4, 46, 162, 0, 27, 28, 42, 29, 3, 182, 0, 80, 27]
abbrev dktX6_sheetsOf_0 : List UInt8 := dkwX6_sheetsOf_0 ++ dktX6_sheetsOf_1
theorem dksX6_sheetsOf_0 : cX6_sheetsOf.data.toList.drop 0 = dktX6_sheetsOf_0 := by decide +kernel
theorem dksX6_sheetsOf_1 : cX6_sheetsOf.data.toList.drop 22 = dktX6_sheetsOf_1 := dk_seg dksX6_sheetsOf_0 22 rfl rfl
theorem dX6_sheetsOf_0 : decode cX6_sheetsOf 0 = .ok (.iconst 0, 1) := dk_3 (dk_at dksX6_sheetsOf_0 0 rfl rfl)
theorem dX6_sheetsOf_1 : decode cX6_sheetsOf 1 = .ok (.istore_n 2, 1) := dk_61 (dk_at dksX6_sheetsOf_0 1 rfl rfl)
theorem dX6_sheetsOf_2 : decode cX6_sheetsOf 2 = .ok (.iconst 0, 1) := dk_3 (dk_at dksX6_sheetsOf_0 2 rfl rfl)
theorem dX6_sheetsOf_3 : decode cX6_sheetsOf 3 = .ok (.istore_n 3, 1) := dk_62 (dk_at dksX6_sheetsOf_0 3 rfl rfl)
theorem dX6_sheetsOf_4 : decode cX6_sheetsOf 4 = .ok (.iload_n 3, 1) := dk_29 (dk_at dksX6_sheetsOf_0 4 rfl rfl)
theorem dX6_sheetsOf_5 : decode cX6_sheetsOf 5 = .ok (.aload_n 0, 1) := dk_42 (dk_at dksX6_sheetsOf_0 5 rfl rfl)
theorem dX6_sheetsOf_6 : decode cX6_sheetsOf 6 = .ok (.getfield 7, 3) := dk_180 0 7 (dk_at dksX6_sheetsOf_0 6 rfl rfl)
theorem dX6_sheetsOf_9 : decode cX6_sheetsOf 9 = .ok (.iconst 1, 1) := dk_4 (dk_at dksX6_sheetsOf_0 9 rfl rfl)
theorem dX6_sheetsOf_10 : decode cX6_sheetsOf 10 = .ok (.iaload, 1) := dk_46 (dk_at dksX6_sheetsOf_0 10 rfl rfl)
theorem dX6_sheetsOf_11 : decode cX6_sheetsOf 11 = .ok (.if_icmp .ge 27, 3) := dk_162 0 27 (dk_at dksX6_sheetsOf_0 11 rfl rfl)
theorem dX6_sheetsOf_14 : decode cX6_sheetsOf 14 = .ok (.iload_n 2, 1) := dk_28 (dk_at dksX6_sheetsOf_0 14 rfl rfl)
theorem dX6_sheetsOf_15 : decode cX6_sheetsOf 15 = .ok (.aload_n 0, 1) := dk_42 (dk_at dksX6_sheetsOf_0 15 rfl rfl)
theorem dX6_sheetsOf_16 : decode cX6_sheetsOf 16 = .ok (.iload_n 3, 1) := dk_29 (dk_at dksX6_sheetsOf_0 16 rfl rfl)
theorem dX6_sheetsOf_17 : decode cX6_sheetsOf 17 = .ok (.iconst 0, 1) := dk_3 (dk_at dksX6_sheetsOf_0 17 rfl rfl)
theorem dX6_sheetsOf_18 : decode cX6_sheetsOf 18 = .ok (.invokevirtual 80, 3) := dk_182 0 80 (dk_at dksX6_sheetsOf_0 18 rfl rfl)
theorem dX6_sheetsOf_21 : decode cX6_sheetsOf 21 = .ok (.iload_n 1, 1) := dk_27 (dk_at dksX6_sheetsOf_0 21 rfl rfl)
theorem dX6_sheetsOf_22 : decode cX6_sheetsOf 22 = .ok (.if_icmp .ne 7, 3) := dk_160 0 7 (dk_at dksX6_sheetsOf_1 0 rfl rfl)
theorem dX6_sheetsOf_25 : decode cX6_sheetsOf 25 = .ok (.iconst 1, 1) := dk_4 (dk_at dksX6_sheetsOf_1 3 rfl rfl)
theorem dX6_sheetsOf_26 : decode cX6_sheetsOf 26 = .ok (.goto 4, 3) := dk_167 0 4 (dk_at dksX6_sheetsOf_1 4 rfl rfl)
theorem dX6_sheetsOf_29 : decode cX6_sheetsOf 29 = .ok (.iconst 0, 1) := dk_3 (dk_at dksX6_sheetsOf_1 7 rfl rfl)
theorem dX6_sheetsOf_30 : decode cX6_sheetsOf 30 = .ok (.iadd, 1) := dk_96 (dk_at dksX6_sheetsOf_1 8 rfl rfl)
theorem dX6_sheetsOf_31 : decode cX6_sheetsOf 31 = .ok (.istore_n 2, 1) := dk_61 (dk_at dksX6_sheetsOf_1 9 rfl rfl)
theorem dX6_sheetsOf_32 : decode cX6_sheetsOf 32 = .ok (.iinc 3 1, 3) := dk_132 3 1 (dk_at dksX6_sheetsOf_1 10 rfl rfl)
theorem dX6_sheetsOf_35 : decode cX6_sheetsOf 35 = .ok (.goto (-31), 3) := dk_167 255 225 (dk_at dksX6_sheetsOf_1 13 rfl rfl)
theorem dX6_sheetsOf_38 : decode cX6_sheetsOf 38 = .ok (.iload_n 2, 1) := dk_28 (dk_at dksX6_sheetsOf_1 16 rfl rfl)
theorem dX6_sheetsOf_39 : decode cX6_sheetsOf 39 = .ok (.ireturn, 1) := dk_172 (dk_at dksX6_sheetsOf_1 17 rfl rfl)
abbrev cX6_sheetOf : ByteArray := prog_12_method_41_code
def yX6_sheetOf : MethodName := ⟨RX6, "sheetOf", "(II)I"⟩
def dkwX6_sheetOf_3 : List UInt8 := [172]
abbrev dktX6_sheetOf_3 : List UInt8 := dkwX6_sheetOf_3 ++ []
def dkwX6_sheetOf_2 : List UInt8 := [167, 0, 24, 28, 8, 160, 0, 11, 42, 27, 182, 0, 152, 167, 0, 11, 42, 27, 28, 4, 100, 182, 0, 118]
abbrev dktX6_sheetOf_2 : List UInt8 := dkwX6_sheetOf_2 ++ dktX6_sheetOf_3
def dkwX6_sheetOf_1 : List UInt8 := [167, 0, 4, 5, 182, 0, 86, 153, 0, 5, 3, 172, 28, 5, 162, 0, 12, 42, 27, 28, 182, 0, 80]
abbrev dktX6_sheetOf_1 : List UInt8 := dkwX6_sheetOf_1 ++ dktX6_sheetOf_2
def dkwX6_sheetOf_0 : List UInt8 := [42, 42, 27, 182, 0, 76, 154, 0, 7, 4, 167, 0, 17, 28, 3, 8, 184, 0, 72, 153, 0, 7, 3]
abbrev dktX6_sheetOf_0 : List UInt8 := dkwX6_sheetOf_0 ++ dktX6_sheetOf_1
theorem dksX6_sheetOf_0 : cX6_sheetOf.data.toList.drop 0 = dktX6_sheetOf_0 := by decide +kernel
theorem dksX6_sheetOf_1 : cX6_sheetOf.data.toList.drop 23 = dktX6_sheetOf_1 := dk_seg dksX6_sheetOf_0 23 rfl rfl
theorem dksX6_sheetOf_2 : cX6_sheetOf.data.toList.drop 46 = dktX6_sheetOf_2 := dk_seg dksX6_sheetOf_1 23 rfl rfl
theorem dksX6_sheetOf_3 : cX6_sheetOf.data.toList.drop 70 = dktX6_sheetOf_3 := dk_seg dksX6_sheetOf_2 24 rfl rfl
theorem dX6_sheetOf_0 : decode cX6_sheetOf 0 = .ok (.aload_n 0, 1) := dk_42 (dk_at dksX6_sheetOf_0 0 rfl rfl)
theorem dX6_sheetOf_1 : decode cX6_sheetOf 1 = .ok (.aload_n 0, 1) := dk_42 (dk_at dksX6_sheetOf_0 1 rfl rfl)
theorem dX6_sheetOf_2 : decode cX6_sheetOf 2 = .ok (.iload_n 1, 1) := dk_27 (dk_at dksX6_sheetOf_0 2 rfl rfl)
theorem dX6_sheetOf_3 : decode cX6_sheetOf 3 = .ok (.invokevirtual 76, 3) := dk_182 0 76 (dk_at dksX6_sheetOf_0 3 rfl rfl)
theorem dX6_sheetOf_6 : decode cX6_sheetOf 6 = .ok (.ifCond .ne 7, 3) := dk_154 0 7 (dk_at dksX6_sheetOf_0 6 rfl rfl)
theorem dX6_sheetOf_9 : decode cX6_sheetOf 9 = .ok (.iconst 1, 1) := dk_4 (dk_at dksX6_sheetOf_0 9 rfl rfl)
theorem dX6_sheetOf_10 : decode cX6_sheetOf 10 = .ok (.goto 17, 3) := dk_167 0 17 (dk_at dksX6_sheetOf_0 10 rfl rfl)
theorem dX6_sheetOf_13 : decode cX6_sheetOf 13 = .ok (.iload_n 2, 1) := dk_28 (dk_at dksX6_sheetOf_0 13 rfl rfl)
theorem dX6_sheetOf_14 : decode cX6_sheetOf 14 = .ok (.iconst 0, 1) := dk_3 (dk_at dksX6_sheetOf_0 14 rfl rfl)
theorem dX6_sheetOf_15 : decode cX6_sheetOf 15 = .ok (.iconst 5, 1) := dk_8 (dk_at dksX6_sheetOf_0 15 rfl rfl)
theorem dX6_sheetOf_16 : decode cX6_sheetOf 16 = .ok (.invokestatic 72, 3) := dk_184 0 72 (dk_at dksX6_sheetOf_0 16 rfl rfl)
theorem dX6_sheetOf_19 : decode cX6_sheetOf 19 = .ok (.ifCond .eq 7, 3) := dk_153 0 7 (dk_at dksX6_sheetOf_0 19 rfl rfl)
theorem dX6_sheetOf_22 : decode cX6_sheetOf 22 = .ok (.iconst 0, 1) := dk_3 (dk_at dksX6_sheetOf_0 22 rfl rfl)
theorem dX6_sheetOf_23 : decode cX6_sheetOf 23 = .ok (.goto 4, 3) := dk_167 0 4 (dk_at dksX6_sheetOf_1 0 rfl rfl)
theorem dX6_sheetOf_26 : decode cX6_sheetOf 26 = .ok (.iconst 2, 1) := dk_5 (dk_at dksX6_sheetOf_1 3 rfl rfl)
theorem dX6_sheetOf_27 : decode cX6_sheetOf 27 = .ok (.invokevirtual 86, 3) := dk_182 0 86 (dk_at dksX6_sheetOf_1 4 rfl rfl)
theorem dX6_sheetOf_30 : decode cX6_sheetOf 30 = .ok (.ifCond .eq 5, 3) := dk_153 0 5 (dk_at dksX6_sheetOf_1 7 rfl rfl)
theorem dX6_sheetOf_33 : decode cX6_sheetOf 33 = .ok (.iconst 0, 1) := dk_3 (dk_at dksX6_sheetOf_1 10 rfl rfl)
theorem dX6_sheetOf_34 : decode cX6_sheetOf 34 = .ok (.ireturn, 1) := dk_172 (dk_at dksX6_sheetOf_1 11 rfl rfl)
theorem dX6_sheetOf_35 : decode cX6_sheetOf 35 = .ok (.iload_n 2, 1) := dk_28 (dk_at dksX6_sheetOf_1 12 rfl rfl)
theorem dX6_sheetOf_36 : decode cX6_sheetOf 36 = .ok (.iconst 2, 1) := dk_5 (dk_at dksX6_sheetOf_1 13 rfl rfl)
theorem dX6_sheetOf_37 : decode cX6_sheetOf 37 = .ok (.if_icmp .ge 12, 3) := dk_162 0 12 (dk_at dksX6_sheetOf_1 14 rfl rfl)
theorem dX6_sheetOf_40 : decode cX6_sheetOf 40 = .ok (.aload_n 0, 1) := dk_42 (dk_at dksX6_sheetOf_1 17 rfl rfl)
theorem dX6_sheetOf_41 : decode cX6_sheetOf 41 = .ok (.iload_n 1, 1) := dk_27 (dk_at dksX6_sheetOf_1 18 rfl rfl)
theorem dX6_sheetOf_42 : decode cX6_sheetOf 42 = .ok (.iload_n 2, 1) := dk_28 (dk_at dksX6_sheetOf_1 19 rfl rfl)
theorem dX6_sheetOf_43 : decode cX6_sheetOf 43 = .ok (.invokevirtual 80, 3) := dk_182 0 80 (dk_at dksX6_sheetOf_1 20 rfl rfl)
theorem dX6_sheetOf_46 : decode cX6_sheetOf 46 = .ok (.goto 24, 3) := dk_167 0 24 (dk_at dksX6_sheetOf_2 0 rfl rfl)
theorem dX6_sheetOf_49 : decode cX6_sheetOf 49 = .ok (.iload_n 2, 1) := dk_28 (dk_at dksX6_sheetOf_2 3 rfl rfl)
theorem dX6_sheetOf_50 : decode cX6_sheetOf 50 = .ok (.iconst 5, 1) := dk_8 (dk_at dksX6_sheetOf_2 4 rfl rfl)
theorem dX6_sheetOf_51 : decode cX6_sheetOf 51 = .ok (.if_icmp .ne 11, 3) := dk_160 0 11 (dk_at dksX6_sheetOf_2 5 rfl rfl)
theorem dX6_sheetOf_54 : decode cX6_sheetOf 54 = .ok (.aload_n 0, 1) := dk_42 (dk_at dksX6_sheetOf_2 8 rfl rfl)
theorem dX6_sheetOf_55 : decode cX6_sheetOf 55 = .ok (.iload_n 1, 1) := dk_27 (dk_at dksX6_sheetOf_2 9 rfl rfl)
theorem dX6_sheetOf_56 : decode cX6_sheetOf 56 = .ok (.invokevirtual 152, 3) := dk_182 0 152 (dk_at dksX6_sheetOf_2 10 rfl rfl)
theorem dX6_sheetOf_59 : decode cX6_sheetOf 59 = .ok (.goto 11, 3) := dk_167 0 11 (dk_at dksX6_sheetOf_2 13 rfl rfl)
theorem dX6_sheetOf_62 : decode cX6_sheetOf 62 = .ok (.aload_n 0, 1) := dk_42 (dk_at dksX6_sheetOf_2 16 rfl rfl)
theorem dX6_sheetOf_63 : decode cX6_sheetOf 63 = .ok (.iload_n 1, 1) := dk_27 (dk_at dksX6_sheetOf_2 17 rfl rfl)
theorem dX6_sheetOf_64 : decode cX6_sheetOf 64 = .ok (.iload_n 2, 1) := dk_28 (dk_at dksX6_sheetOf_2 18 rfl rfl)
theorem dX6_sheetOf_65 : decode cX6_sheetOf 65 = .ok (.iconst 1, 1) := dk_4 (dk_at dksX6_sheetOf_2 19 rfl rfl)
theorem dX6_sheetOf_66 : decode cX6_sheetOf 66 = .ok (.isub, 1) := dk_100 (dk_at dksX6_sheetOf_2 20 rfl rfl)
theorem dX6_sheetOf_67 : decode cX6_sheetOf 67 = .ok (.invokevirtual 118, 3) := dk_182 0 118 (dk_at dksX6_sheetOf_2 21 rfl rfl)
theorem dX6_sheetOf_70 : decode cX6_sheetOf 70 = .ok (.ireturn, 1) := dk_172 (dk_at dksX6_sheetOf_3 0 rfl rfl)
abbrev cX6_badOf : ByteArray := prog_12_method_40_code
def yX6_badOf : MethodName := ⟨RX6, "badOf", "(I)I"⟩
def dkwX6_badOf_1 : List UInt8 := [132, 3, 1, 167, 255, 234, 28, 172]
abbrev dktX6_badOf_1 : List UInt8 := dkwX6_badOf_1 ++ []
def dkwX6_badOf_0 : List UInt8 := [3, 61, 3, 62, 29, 42, 27, 4, 182, 0, 80, 162, 0, 18, 28, 42, 27, 29, 182, 0, 130, 96, 61]
abbrev dktX6_badOf_0 : List UInt8 := dkwX6_badOf_0 ++ dktX6_badOf_1
theorem dksX6_badOf_0 : cX6_badOf.data.toList.drop 0 = dktX6_badOf_0 := by decide +kernel
theorem dksX6_badOf_1 : cX6_badOf.data.toList.drop 23 = dktX6_badOf_1 := dk_seg dksX6_badOf_0 23 rfl rfl
theorem dX6_badOf_0 : decode cX6_badOf 0 = .ok (.iconst 0, 1) := dk_3 (dk_at dksX6_badOf_0 0 rfl rfl)
theorem dX6_badOf_1 : decode cX6_badOf 1 = .ok (.istore_n 2, 1) := dk_61 (dk_at dksX6_badOf_0 1 rfl rfl)
theorem dX6_badOf_2 : decode cX6_badOf 2 = .ok (.iconst 0, 1) := dk_3 (dk_at dksX6_badOf_0 2 rfl rfl)
theorem dX6_badOf_3 : decode cX6_badOf 3 = .ok (.istore_n 3, 1) := dk_62 (dk_at dksX6_badOf_0 3 rfl rfl)
theorem dX6_badOf_4 : decode cX6_badOf 4 = .ok (.iload_n 3, 1) := dk_29 (dk_at dksX6_badOf_0 4 rfl rfl)
theorem dX6_badOf_5 : decode cX6_badOf 5 = .ok (.aload_n 0, 1) := dk_42 (dk_at dksX6_badOf_0 5 rfl rfl)
theorem dX6_badOf_6 : decode cX6_badOf 6 = .ok (.iload_n 1, 1) := dk_27 (dk_at dksX6_badOf_0 6 rfl rfl)
theorem dX6_badOf_7 : decode cX6_badOf 7 = .ok (.iconst 1, 1) := dk_4 (dk_at dksX6_badOf_0 7 rfl rfl)
theorem dX6_badOf_8 : decode cX6_badOf 8 = .ok (.invokevirtual 80, 3) := dk_182 0 80 (dk_at dksX6_badOf_0 8 rfl rfl)
theorem dX6_badOf_11 : decode cX6_badOf 11 = .ok (.if_icmp .ge 18, 3) := dk_162 0 18 (dk_at dksX6_badOf_0 11 rfl rfl)
theorem dX6_badOf_14 : decode cX6_badOf 14 = .ok (.iload_n 2, 1) := dk_28 (dk_at dksX6_badOf_0 14 rfl rfl)
theorem dX6_badOf_15 : decode cX6_badOf 15 = .ok (.aload_n 0, 1) := dk_42 (dk_at dksX6_badOf_0 15 rfl rfl)
theorem dX6_badOf_16 : decode cX6_badOf 16 = .ok (.iload_n 1, 1) := dk_27 (dk_at dksX6_badOf_0 16 rfl rfl)
theorem dX6_badOf_17 : decode cX6_badOf 17 = .ok (.iload_n 3, 1) := dk_29 (dk_at dksX6_badOf_0 17 rfl rfl)
theorem dX6_badOf_18 : decode cX6_badOf 18 = .ok (.invokevirtual 130, 3) := dk_182 0 130 (dk_at dksX6_badOf_0 18 rfl rfl)
theorem dX6_badOf_21 : decode cX6_badOf 21 = .ok (.iadd, 1) := dk_96 (dk_at dksX6_badOf_0 21 rfl rfl)
theorem dX6_badOf_22 : decode cX6_badOf 22 = .ok (.istore_n 2, 1) := dk_61 (dk_at dksX6_badOf_0 22 rfl rfl)
theorem dX6_badOf_23 : decode cX6_badOf 23 = .ok (.iinc 3 1, 3) := dk_132 3 1 (dk_at dksX6_badOf_1 0 rfl rfl)
theorem dX6_badOf_26 : decode cX6_badOf 26 = .ok (.goto (-22), 3) := dk_167 255 234 (dk_at dksX6_badOf_1 3 rfl rfl)
theorem dX6_badOf_29 : decode cX6_badOf 29 = .ok (.iload_n 2, 1) := dk_28 (dk_at dksX6_badOf_1 6 rfl rfl)
theorem dX6_badOf_30 : decode cX6_badOf 30 = .ok (.ireturn, 1) := dk_172 (dk_at dksX6_badOf_1 7 rfl rfl)
abbrev cX6_letterAt : ByteArray := prog_12_method_43_code
def yX6_letterAt : MethodName := ⟨RX6, "letterAt", "(IIZ)C"⟩
def dkwX6_letterAt_1 : List UInt8 := [167, 0, 5, 16, 10, 28, 96, 182, 0, 80, 96, 146, 172]
abbrev dktX6_letterAt_1 : List UInt8 := dkwX6_letterAt_1 ++ []
def dkwX6_letterAt_0 : List UInt8 := [42, 27, 28, 182, 0, 155, 153, 0, 8, 16, 32, 167, 0, 24, 16, 96, 42, 27, 29, 153, 0, 7, 5]
abbrev dktX6_letterAt_0 : List UInt8 := dkwX6_letterAt_0 ++ dktX6_letterAt_1
theorem dksX6_letterAt_0 : cX6_letterAt.data.toList.drop 0 = dktX6_letterAt_0 := by decide +kernel
theorem dksX6_letterAt_1 : cX6_letterAt.data.toList.drop 23 = dktX6_letterAt_1 := dk_seg dksX6_letterAt_0 23 rfl rfl
theorem dX6_letterAt_0 : decode cX6_letterAt 0 = .ok (.aload_n 0, 1) := dk_42 (dk_at dksX6_letterAt_0 0 rfl rfl)
theorem dX6_letterAt_1 : decode cX6_letterAt 1 = .ok (.iload_n 1, 1) := dk_27 (dk_at dksX6_letterAt_0 1 rfl rfl)
theorem dX6_letterAt_2 : decode cX6_letterAt 2 = .ok (.iload_n 2, 1) := dk_28 (dk_at dksX6_letterAt_0 2 rfl rfl)
theorem dX6_letterAt_3 : decode cX6_letterAt 3 = .ok (.invokevirtual 155, 3) := dk_182 0 155 (dk_at dksX6_letterAt_0 3 rfl rfl)
theorem dX6_letterAt_6 : decode cX6_letterAt 6 = .ok (.ifCond .eq 8, 3) := dk_153 0 8 (dk_at dksX6_letterAt_0 6 rfl rfl)
theorem dX6_letterAt_9 : decode cX6_letterAt 9 = .ok (.bipush 32, 2) := dk_16 32 (dk_at dksX6_letterAt_0 9 rfl rfl)
theorem dX6_letterAt_11 : decode cX6_letterAt 11 = .ok (.goto 24, 3) := dk_167 0 24 (dk_at dksX6_letterAt_0 11 rfl rfl)
theorem dX6_letterAt_14 : decode cX6_letterAt 14 = .ok (.bipush 96, 2) := dk_16 96 (dk_at dksX6_letterAt_0 14 rfl rfl)
theorem dX6_letterAt_16 : decode cX6_letterAt 16 = .ok (.aload_n 0, 1) := dk_42 (dk_at dksX6_letterAt_0 16 rfl rfl)
theorem dX6_letterAt_17 : decode cX6_letterAt 17 = .ok (.iload_n 1, 1) := dk_27 (dk_at dksX6_letterAt_0 17 rfl rfl)
theorem dX6_letterAt_18 : decode cX6_letterAt 18 = .ok (.iload_n 3, 1) := dk_29 (dk_at dksX6_letterAt_0 18 rfl rfl)
theorem dX6_letterAt_19 : decode cX6_letterAt 19 = .ok (.ifCond .eq 7, 3) := dk_153 0 7 (dk_at dksX6_letterAt_0 19 rfl rfl)
theorem dX6_letterAt_22 : decode cX6_letterAt 22 = .ok (.iconst 2, 1) := dk_5 (dk_at dksX6_letterAt_0 22 rfl rfl)
theorem dX6_letterAt_23 : decode cX6_letterAt 23 = .ok (.goto 5, 3) := dk_167 0 5 (dk_at dksX6_letterAt_1 0 rfl rfl)
theorem dX6_letterAt_26 : decode cX6_letterAt 26 = .ok (.bipush 10, 2) := dk_16 10 (dk_at dksX6_letterAt_1 3 rfl rfl)
theorem dX6_letterAt_28 : decode cX6_letterAt 28 = .ok (.iload_n 2, 1) := dk_28 (dk_at dksX6_letterAt_1 5 rfl rfl)
theorem dX6_letterAt_29 : decode cX6_letterAt 29 = .ok (.iadd, 1) := dk_96 (dk_at dksX6_letterAt_1 6 rfl rfl)
theorem dX6_letterAt_30 : decode cX6_letterAt 30 = .ok (.invokevirtual 80, 3) := dk_182 0 80 (dk_at dksX6_letterAt_1 7 rfl rfl)
theorem dX6_letterAt_33 : decode cX6_letterAt 33 = .ok (.iadd, 1) := dk_96 (dk_at dksX6_letterAt_1 10 rfl rfl)
theorem dX6_letterAt_34 : decode cX6_letterAt 34 = .ok (.i2c, 1) := dk_146 (dk_at dksX6_letterAt_1 11 rfl rfl)
theorem dX6_letterAt_35 : decode cX6_letterAt 35 = .ok (.ireturn, 1) := dk_172 (dk_at dksX6_letterAt_1 12 rfl rfl)
abbrev cX6_isNowhere : ByteArray := prog_12_method_42_code
def yX6_isNowhere : MethodName := ⟨RX6, "isNowhere", "(II)Z"⟩
def dkwX6_isNowhere_0 : List UInt8 := [42, 42, 27, 28, 182, 0, 114, 153, 0, 7, 3, 167, 0, 4, 4, 182, 0, 86, 172]
abbrev dktX6_isNowhere_0 : List UInt8 := dkwX6_isNowhere_0 ++ []
theorem dksX6_isNowhere_0 : cX6_isNowhere.data.toList.drop 0 = dktX6_isNowhere_0 := by decide +kernel
theorem dX6_isNowhere_0 : decode cX6_isNowhere 0 = .ok (.aload_n 0, 1) := dk_42 (dk_at dksX6_isNowhere_0 0 rfl rfl)
theorem dX6_isNowhere_1 : decode cX6_isNowhere 1 = .ok (.aload_n 0, 1) := dk_42 (dk_at dksX6_isNowhere_0 1 rfl rfl)
theorem dX6_isNowhere_2 : decode cX6_isNowhere 2 = .ok (.iload_n 1, 1) := dk_27 (dk_at dksX6_isNowhere_0 2 rfl rfl)
theorem dX6_isNowhere_3 : decode cX6_isNowhere 3 = .ok (.iload_n 2, 1) := dk_28 (dk_at dksX6_isNowhere_0 3 rfl rfl)
theorem dX6_isNowhere_4 : decode cX6_isNowhere 4 = .ok (.invokevirtual 114, 3) := dk_182 0 114 (dk_at dksX6_isNowhere_0 4 rfl rfl)
theorem dX6_isNowhere_7 : decode cX6_isNowhere 7 = .ok (.ifCond .eq 7, 3) := dk_153 0 7 (dk_at dksX6_isNowhere_0 7 rfl rfl)
theorem dX6_isNowhere_10 : decode cX6_isNowhere 10 = .ok (.iconst 0, 1) := dk_3 (dk_at dksX6_isNowhere_0 10 rfl rfl)
theorem dX6_isNowhere_11 : decode cX6_isNowhere 11 = .ok (.goto 4, 3) := dk_167 0 4 (dk_at dksX6_isNowhere_0 11 rfl rfl)
theorem dX6_isNowhere_14 : decode cX6_isNowhere 14 = .ok (.iconst 1, 1) := dk_4 (dk_at dksX6_isNowhere_0 14 rfl rfl)
theorem dX6_isNowhere_15 : decode cX6_isNowhere 15 = .ok (.invokevirtual 86, 3) := dk_182 0 86 (dk_at dksX6_isNowhere_0 15 rfl rfl)
theorem dX6_isNowhere_18 : decode cX6_isNowhere 18 = .ok (.ireturn, 1) := dk_172 (dk_at dksX6_isNowhere_0 18 rfl rfl)
abbrev cX6_markAt : ByteArray := prog_12_method_44_code
def yX6_markAt : MethodName := ⟨RX6, "markAt", "(II)I"⟩
def dkwX6_markAt_0 : List UInt8 := [42, 27, 28, 182, 0, 155, 153, 0, 7, 3, 167, 0, 9, 42, 27, 28, 182, 0, 111, 172]
abbrev dktX6_markAt_0 : List UInt8 := dkwX6_markAt_0 ++ []
theorem dksX6_markAt_0 : cX6_markAt.data.toList.drop 0 = dktX6_markAt_0 := by decide +kernel
theorem dX6_markAt_0 : decode cX6_markAt 0 = .ok (.aload_n 0, 1) := dk_42 (dk_at dksX6_markAt_0 0 rfl rfl)
theorem dX6_markAt_1 : decode cX6_markAt 1 = .ok (.iload_n 1, 1) := dk_27 (dk_at dksX6_markAt_0 1 rfl rfl)
theorem dX6_markAt_2 : decode cX6_markAt 2 = .ok (.iload_n 2, 1) := dk_28 (dk_at dksX6_markAt_0 2 rfl rfl)
theorem dX6_markAt_3 : decode cX6_markAt 3 = .ok (.invokevirtual 155, 3) := dk_182 0 155 (dk_at dksX6_markAt_0 3 rfl rfl)
theorem dX6_markAt_6 : decode cX6_markAt 6 = .ok (.ifCond .eq 7, 3) := dk_153 0 7 (dk_at dksX6_markAt_0 6 rfl rfl)
theorem dX6_markAt_9 : decode cX6_markAt 9 = .ok (.iconst 0, 1) := dk_3 (dk_at dksX6_markAt_0 9 rfl rfl)
theorem dX6_markAt_10 : decode cX6_markAt 10 = .ok (.goto 9, 3) := dk_167 0 9 (dk_at dksX6_markAt_0 10 rfl rfl)
theorem dX6_markAt_13 : decode cX6_markAt 13 = .ok (.aload_n 0, 1) := dk_42 (dk_at dksX6_markAt_0 13 rfl rfl)
theorem dX6_markAt_14 : decode cX6_markAt 14 = .ok (.iload_n 1, 1) := dk_27 (dk_at dksX6_markAt_0 14 rfl rfl)
theorem dX6_markAt_15 : decode cX6_markAt 15 = .ok (.iload_n 2, 1) := dk_28 (dk_at dksX6_markAt_0 15 rfl rfl)
theorem dX6_markAt_16 : decode cX6_markAt 16 = .ok (.invokevirtual 111, 3) := dk_182 0 111 (dk_at dksX6_markAt_0 16 rfl rfl)
theorem dX6_markAt_19 : decode cX6_markAt 19 = .ok (.ireturn, 1) := dk_172 (dk_at dksX6_markAt_0 19 rfl rfl)
abbrev cX6_fine : ByteArray := prog_12_method_45_code
def yX6_fine : MethodName := ⟨RX6, "fine", "(IIZ)I"⟩
def dkwX6_fine_0 : List UInt8 := [42, 27, 28, 182, 0, 155, 153, 0, 7, 3, 167, 0, 9, 42, 27, 28, 182, 0, 133, 172]
abbrev dktX6_fine_0 : List UInt8 := dkwX6_fine_0 ++ []
theorem dksX6_fine_0 : cX6_fine.data.toList.drop 0 = dktX6_fine_0 := by decide +kernel
theorem dX6_fine_0 : decode cX6_fine 0 = .ok (.aload_n 0, 1) := dk_42 (dk_at dksX6_fine_0 0 rfl rfl)
theorem dX6_fine_1 : decode cX6_fine 1 = .ok (.iload_n 1, 1) := dk_27 (dk_at dksX6_fine_0 1 rfl rfl)
theorem dX6_fine_2 : decode cX6_fine 2 = .ok (.iload_n 2, 1) := dk_28 (dk_at dksX6_fine_0 2 rfl rfl)
theorem dX6_fine_3 : decode cX6_fine 3 = .ok (.invokevirtual 155, 3) := dk_182 0 155 (dk_at dksX6_fine_0 3 rfl rfl)
theorem dX6_fine_6 : decode cX6_fine 6 = .ok (.ifCond .eq 7, 3) := dk_153 0 7 (dk_at dksX6_fine_0 6 rfl rfl)
theorem dX6_fine_9 : decode cX6_fine 9 = .ok (.iconst 0, 1) := dk_3 (dk_at dksX6_fine_0 9 rfl rfl)
theorem dX6_fine_10 : decode cX6_fine 10 = .ok (.goto 9, 3) := dk_167 0 9 (dk_at dksX6_fine_0 10 rfl rfl)
theorem dX6_fine_13 : decode cX6_fine 13 = .ok (.aload_n 0, 1) := dk_42 (dk_at dksX6_fine_0 13 rfl rfl)
theorem dX6_fine_14 : decode cX6_fine 14 = .ok (.iload_n 1, 1) := dk_27 (dk_at dksX6_fine_0 14 rfl rfl)
theorem dX6_fine_15 : decode cX6_fine 15 = .ok (.iload_n 2, 1) := dk_28 (dk_at dksX6_fine_0 15 rfl rfl)
theorem dX6_fine_16 : decode cX6_fine 16 = .ok (.invokevirtual 133, 3) := dk_182 0 133 (dk_at dksX6_fine_0 16 rfl rfl)
theorem dX6_fine_19 : decode cX6_fine 19 = .ok (.ireturn, 1) := dk_172 (dk_at dksX6_fine_0 19 rfl rfl)
abbrev cX6_fines : ByteArray := prog_12_method_47_code
def yX6_fines : MethodName := ⟨RX6, "fines", "(IZ)I"⟩
def dkwX6_fines_1 : List UInt8 := [42, 27, 182, 0, 158, 172]
abbrev dktX6_fines_1 : List UInt8 := dkwX6_fines_1 ++ []
def dkwX6_fines_0 : List UInt8 := [42, 42, 27, 182, 0, 76, 153, 0, 7, 3, 167, 0, 4, 4, 182, 0, 86, 153, 0, 7, 3, 167, 0, 8]
abbrev dktX6_fines_0 : List UInt8 := dkwX6_fines_0 ++ dktX6_fines_1
theorem dksX6_fines_0 : cX6_fines.data.toList.drop 0 = dktX6_fines_0 := by decide +kernel
theorem dksX6_fines_1 : cX6_fines.data.toList.drop 24 = dktX6_fines_1 := dk_seg dksX6_fines_0 24 rfl rfl
theorem dX6_fines_0 : decode cX6_fines 0 = .ok (.aload_n 0, 1) := dk_42 (dk_at dksX6_fines_0 0 rfl rfl)
theorem dX6_fines_1 : decode cX6_fines 1 = .ok (.aload_n 0, 1) := dk_42 (dk_at dksX6_fines_0 1 rfl rfl)
theorem dX6_fines_2 : decode cX6_fines 2 = .ok (.iload_n 1, 1) := dk_27 (dk_at dksX6_fines_0 2 rfl rfl)
theorem dX6_fines_3 : decode cX6_fines 3 = .ok (.invokevirtual 76, 3) := dk_182 0 76 (dk_at dksX6_fines_0 3 rfl rfl)
theorem dX6_fines_6 : decode cX6_fines 6 = .ok (.ifCond .eq 7, 3) := dk_153 0 7 (dk_at dksX6_fines_0 6 rfl rfl)
theorem dX6_fines_9 : decode cX6_fines 9 = .ok (.iconst 0, 1) := dk_3 (dk_at dksX6_fines_0 9 rfl rfl)
theorem dX6_fines_10 : decode cX6_fines 10 = .ok (.goto 4, 3) := dk_167 0 4 (dk_at dksX6_fines_0 10 rfl rfl)
theorem dX6_fines_13 : decode cX6_fines 13 = .ok (.iconst 1, 1) := dk_4 (dk_at dksX6_fines_0 13 rfl rfl)
theorem dX6_fines_14 : decode cX6_fines 14 = .ok (.invokevirtual 86, 3) := dk_182 0 86 (dk_at dksX6_fines_0 14 rfl rfl)
theorem dX6_fines_17 : decode cX6_fines 17 = .ok (.ifCond .eq 7, 3) := dk_153 0 7 (dk_at dksX6_fines_0 17 rfl rfl)
theorem dX6_fines_20 : decode cX6_fines 20 = .ok (.iconst 0, 1) := dk_3 (dk_at dksX6_fines_0 20 rfl rfl)
theorem dX6_fines_21 : decode cX6_fines 21 = .ok (.goto 8, 3) := dk_167 0 8 (dk_at dksX6_fines_0 21 rfl rfl)
theorem dX6_fines_24 : decode cX6_fines 24 = .ok (.aload_n 0, 1) := dk_42 (dk_at dksX6_fines_1 0 rfl rfl)
theorem dX6_fines_25 : decode cX6_fines 25 = .ok (.iload_n 1, 1) := dk_27 (dk_at dksX6_fines_1 1 rfl rfl)
theorem dX6_fines_26 : decode cX6_fines 26 = .ok (.invokevirtual 158, 3) := dk_182 0 158 (dk_at dksX6_fines_1 2 rfl rfl)
theorem dX6_fines_29 : decode cX6_fines 29 = .ok (.ireturn, 1) := dk_172 (dk_at dksX6_fines_1 5 rfl rfl)
abbrev cX6_finesOf : ByteArray := prog_12_method_46_code
def yX6_finesOf : MethodName := ⟨RX6, "finesOf", "(I)I"⟩
def dkwX6_finesOf_1 : List UInt8 := [132, 3, 1, 167, 255, 234, 28, 172]
abbrev dktX6_finesOf_1 : List UInt8 := dkwX6_finesOf_1 ++ []
def dkwX6_finesOf_0 : List UInt8 := [3, 61, 3, 62, 29, 42, 27, 4, 182, 0, 80, 162, 0, 18, 28, 42, 27, 29, 182, 0, 133, 96, 61]
abbrev dktX6_finesOf_0 : List UInt8 := dkwX6_finesOf_0 ++ dktX6_finesOf_1
theorem dksX6_finesOf_0 : cX6_finesOf.data.toList.drop 0 = dktX6_finesOf_0 := by decide +kernel
theorem dksX6_finesOf_1 : cX6_finesOf.data.toList.drop 23 = dktX6_finesOf_1 := dk_seg dksX6_finesOf_0 23 rfl rfl
theorem dX6_finesOf_0 : decode cX6_finesOf 0 = .ok (.iconst 0, 1) := dk_3 (dk_at dksX6_finesOf_0 0 rfl rfl)
theorem dX6_finesOf_1 : decode cX6_finesOf 1 = .ok (.istore_n 2, 1) := dk_61 (dk_at dksX6_finesOf_0 1 rfl rfl)
theorem dX6_finesOf_2 : decode cX6_finesOf 2 = .ok (.iconst 0, 1) := dk_3 (dk_at dksX6_finesOf_0 2 rfl rfl)
theorem dX6_finesOf_3 : decode cX6_finesOf 3 = .ok (.istore_n 3, 1) := dk_62 (dk_at dksX6_finesOf_0 3 rfl rfl)
theorem dX6_finesOf_4 : decode cX6_finesOf 4 = .ok (.iload_n 3, 1) := dk_29 (dk_at dksX6_finesOf_0 4 rfl rfl)
theorem dX6_finesOf_5 : decode cX6_finesOf 5 = .ok (.aload_n 0, 1) := dk_42 (dk_at dksX6_finesOf_0 5 rfl rfl)
theorem dX6_finesOf_6 : decode cX6_finesOf 6 = .ok (.iload_n 1, 1) := dk_27 (dk_at dksX6_finesOf_0 6 rfl rfl)
theorem dX6_finesOf_7 : decode cX6_finesOf 7 = .ok (.iconst 1, 1) := dk_4 (dk_at dksX6_finesOf_0 7 rfl rfl)
theorem dX6_finesOf_8 : decode cX6_finesOf 8 = .ok (.invokevirtual 80, 3) := dk_182 0 80 (dk_at dksX6_finesOf_0 8 rfl rfl)
theorem dX6_finesOf_11 : decode cX6_finesOf 11 = .ok (.if_icmp .ge 18, 3) := dk_162 0 18 (dk_at dksX6_finesOf_0 11 rfl rfl)
theorem dX6_finesOf_14 : decode cX6_finesOf 14 = .ok (.iload_n 2, 1) := dk_28 (dk_at dksX6_finesOf_0 14 rfl rfl)
theorem dX6_finesOf_15 : decode cX6_finesOf 15 = .ok (.aload_n 0, 1) := dk_42 (dk_at dksX6_finesOf_0 15 rfl rfl)
theorem dX6_finesOf_16 : decode cX6_finesOf 16 = .ok (.iload_n 1, 1) := dk_27 (dk_at dksX6_finesOf_0 16 rfl rfl)
theorem dX6_finesOf_17 : decode cX6_finesOf 17 = .ok (.iload_n 3, 1) := dk_29 (dk_at dksX6_finesOf_0 17 rfl rfl)
theorem dX6_finesOf_18 : decode cX6_finesOf 18 = .ok (.invokevirtual 133, 3) := dk_182 0 133 (dk_at dksX6_finesOf_0 18 rfl rfl)
theorem dX6_finesOf_21 : decode cX6_finesOf 21 = .ok (.iadd, 1) := dk_96 (dk_at dksX6_finesOf_0 21 rfl rfl)
theorem dX6_finesOf_22 : decode cX6_finesOf 22 = .ok (.istore_n 2, 1) := dk_61 (dk_at dksX6_finesOf_0 22 rfl rfl)
theorem dX6_finesOf_23 : decode cX6_finesOf 23 = .ok (.iinc 3 1, 3) := dk_132 3 1 (dk_at dksX6_finesOf_1 0 rfl rfl)
theorem dX6_finesOf_26 : decode cX6_finesOf 26 = .ok (.goto (-22), 3) := dk_167 255 234 (dk_at dksX6_finesOf_1 3 rfl rfl)
theorem dX6_finesOf_29 : decode cX6_finesOf 29 = .ok (.iload_n 2, 1) := dk_28 (dk_at dksX6_finesOf_1 6 rfl rfl)
theorem dX6_finesOf_30 : decode cX6_finesOf 30 = .ok (.ireturn, 1) := dk_172 (dk_at dksX6_finesOf_1 7 rfl rfl)
abbrev cX6_canMend : ByteArray := prog_12_method_48_code
def yX6_canMend : MethodName := ⟨RX6, "canMend", "(I)Z"⟩
def dkwX6_canMend_1 : List UInt8 := [182, 0, 80, 3, 182, 0, 65, 42, 27, 182, 0, 158, 161, 0, 7, 4, 167, 0, 4, 3, 172]
abbrev dktX6_canMend_1 : List UInt8 := dkwX6_canMend_1 ++ []
def dkwX6_canMend_0 : List UInt8 := [42, 42, 27, 182, 0, 76, 153, 0, 7, 3, 167, 0, 4, 4, 182, 0, 86, 154, 0, 26, 42, 42, 27, 3]
abbrev dktX6_canMend_0 : List UInt8 := dkwX6_canMend_0 ++ dktX6_canMend_1
theorem dksX6_canMend_0 : cX6_canMend.data.toList.drop 0 = dktX6_canMend_0 := by decide +kernel
theorem dksX6_canMend_1 : cX6_canMend.data.toList.drop 24 = dktX6_canMend_1 := dk_seg dksX6_canMend_0 24 rfl rfl
theorem dX6_canMend_0 : decode cX6_canMend 0 = .ok (.aload_n 0, 1) := dk_42 (dk_at dksX6_canMend_0 0 rfl rfl)
theorem dX6_canMend_1 : decode cX6_canMend 1 = .ok (.aload_n 0, 1) := dk_42 (dk_at dksX6_canMend_0 1 rfl rfl)
theorem dX6_canMend_2 : decode cX6_canMend 2 = .ok (.iload_n 1, 1) := dk_27 (dk_at dksX6_canMend_0 2 rfl rfl)
theorem dX6_canMend_3 : decode cX6_canMend 3 = .ok (.invokevirtual 76, 3) := dk_182 0 76 (dk_at dksX6_canMend_0 3 rfl rfl)
theorem dX6_canMend_6 : decode cX6_canMend 6 = .ok (.ifCond .eq 7, 3) := dk_153 0 7 (dk_at dksX6_canMend_0 6 rfl rfl)
theorem dX6_canMend_9 : decode cX6_canMend 9 = .ok (.iconst 0, 1) := dk_3 (dk_at dksX6_canMend_0 9 rfl rfl)
theorem dX6_canMend_10 : decode cX6_canMend 10 = .ok (.goto 4, 3) := dk_167 0 4 (dk_at dksX6_canMend_0 10 rfl rfl)
theorem dX6_canMend_13 : decode cX6_canMend 13 = .ok (.iconst 1, 1) := dk_4 (dk_at dksX6_canMend_0 13 rfl rfl)
theorem dX6_canMend_14 : decode cX6_canMend 14 = .ok (.invokevirtual 86, 3) := dk_182 0 86 (dk_at dksX6_canMend_0 14 rfl rfl)
theorem dX6_canMend_17 : decode cX6_canMend 17 = .ok (.ifCond .ne 26, 3) := dk_154 0 26 (dk_at dksX6_canMend_0 17 rfl rfl)
theorem dX6_canMend_20 : decode cX6_canMend 20 = .ok (.aload_n 0, 1) := dk_42 (dk_at dksX6_canMend_0 20 rfl rfl)
theorem dX6_canMend_21 : decode cX6_canMend 21 = .ok (.aload_n 0, 1) := dk_42 (dk_at dksX6_canMend_0 21 rfl rfl)
theorem dX6_canMend_22 : decode cX6_canMend 22 = .ok (.iload_n 1, 1) := dk_27 (dk_at dksX6_canMend_0 22 rfl rfl)
theorem dX6_canMend_23 : decode cX6_canMend 23 = .ok (.iconst 0, 1) := dk_3 (dk_at dksX6_canMend_0 23 rfl rfl)
theorem dX6_canMend_24 : decode cX6_canMend 24 = .ok (.invokevirtual 80, 3) := dk_182 0 80 (dk_at dksX6_canMend_1 0 rfl rfl)
theorem dX6_canMend_27 : decode cX6_canMend 27 = .ok (.iconst 0, 1) := dk_3 (dk_at dksX6_canMend_1 3 rfl rfl)
theorem dX6_canMend_28 : decode cX6_canMend 28 = .ok (.invokevirtual 65, 3) := dk_182 0 65 (dk_at dksX6_canMend_1 4 rfl rfl)
theorem dX6_canMend_31 : decode cX6_canMend 31 = .ok (.aload_n 0, 1) := dk_42 (dk_at dksX6_canMend_1 7 rfl rfl)
theorem dX6_canMend_32 : decode cX6_canMend 32 = .ok (.iload_n 1, 1) := dk_27 (dk_at dksX6_canMend_1 8 rfl rfl)
theorem dX6_canMend_33 : decode cX6_canMend 33 = .ok (.invokevirtual 158, 3) := dk_182 0 158 (dk_at dksX6_canMend_1 9 rfl rfl)
theorem dX6_canMend_36 : decode cX6_canMend 36 = .ok (.if_icmp .lt 7, 3) := dk_161 0 7 (dk_at dksX6_canMend_1 12 rfl rfl)
theorem dX6_canMend_39 : decode cX6_canMend 39 = .ok (.iconst 1, 1) := dk_4 (dk_at dksX6_canMend_1 15 rfl rfl)
theorem dX6_canMend_40 : decode cX6_canMend 40 = .ok (.goto 4, 3) := dk_167 0 4 (dk_at dksX6_canMend_1 16 rfl rfl)
theorem dX6_canMend_43 : decode cX6_canMend 43 = .ok (.iconst 0, 1) := dk_3 (dk_at dksX6_canMend_1 19 rfl rfl)
theorem dX6_canMend_44 : decode cX6_canMend 44 = .ok (.ireturn, 1) := dk_172 (dk_at dksX6_canMend_1 20 rfl rfl)
abbrev cX6_laughing : ByteArray := prog_12_method_49_code
def yX6_laughing : MethodName := ⟨RX6, "laughing", "(II)I"⟩
def dkwX6_laughing_0 : List UInt8 := [42, 27, 28, 182, 0, 155, 153, 0, 7, 3, 167, 0, 9, 42, 27, 28, 182, 0, 136, 172]
abbrev dktX6_laughing_0 : List UInt8 := dkwX6_laughing_0 ++ []
theorem dksX6_laughing_0 : cX6_laughing.data.toList.drop 0 = dktX6_laughing_0 := by decide +kernel
theorem dX6_laughing_0 : decode cX6_laughing 0 = .ok (.aload_n 0, 1) := dk_42 (dk_at dksX6_laughing_0 0 rfl rfl)
theorem dX6_laughing_1 : decode cX6_laughing 1 = .ok (.iload_n 1, 1) := dk_27 (dk_at dksX6_laughing_0 1 rfl rfl)
theorem dX6_laughing_2 : decode cX6_laughing 2 = .ok (.iload_n 2, 1) := dk_28 (dk_at dksX6_laughing_0 2 rfl rfl)
theorem dX6_laughing_3 : decode cX6_laughing 3 = .ok (.invokevirtual 155, 3) := dk_182 0 155 (dk_at dksX6_laughing_0 3 rfl rfl)
theorem dX6_laughing_6 : decode cX6_laughing 6 = .ok (.ifCond .eq 7, 3) := dk_153 0 7 (dk_at dksX6_laughing_0 6 rfl rfl)
theorem dX6_laughing_9 : decode cX6_laughing 9 = .ok (.iconst 0, 1) := dk_3 (dk_at dksX6_laughing_0 9 rfl rfl)
theorem dX6_laughing_10 : decode cX6_laughing 10 = .ok (.goto 9, 3) := dk_167 0 9 (dk_at dksX6_laughing_0 10 rfl rfl)
theorem dX6_laughing_13 : decode cX6_laughing 13 = .ok (.aload_n 0, 1) := dk_42 (dk_at dksX6_laughing_0 13 rfl rfl)
theorem dX6_laughing_14 : decode cX6_laughing 14 = .ok (.iload_n 1, 1) := dk_27 (dk_at dksX6_laughing_0 14 rfl rfl)
theorem dX6_laughing_15 : decode cX6_laughing 15 = .ok (.iload_n 2, 1) := dk_28 (dk_at dksX6_laughing_0 15 rfl rfl)
theorem dX6_laughing_16 : decode cX6_laughing 16 = .ok (.invokevirtual 136, 3) := dk_182 0 136 (dk_at dksX6_laughing_0 16 rfl rfl)
theorem dX6_laughing_19 : decode cX6_laughing 19 = .ok (.ireturn, 1) := dk_172 (dk_at dksX6_laughing_0 19 rfl rfl)
abbrev cX6_bargain : ByteArray := prog_12_method_51_code
def yX6_bargain : MethodName := ⟨RX6, "bargain", "(Z)I"⟩
def dkwX6_bargain_6 : List UInt8 := [167, 0, 7, 28, 16, 8, 108, 172]
abbrev dktX6_bargain_6 : List UInt8 := dkwX6_bargain_6 ++ []
def dkwX6_bargain_5 : List UInt8 := [167, 0, 4, 3, 182, 0, 86, 153, 0, 7, 3, 167, 0, 18, 27, 153, 0, 10, 28, 16, 8, 112]
abbrev dktX6_bargain_5 : List UInt8 := dkwX6_bargain_5 ++ dktX6_bargain_6
def dkwX6_bargain_4 : List UInt8 := [163, 0, 6, 167, 0, 9, 21, 4, 61, 21, 5, 62, 132, 4, 1, 167, 255, 152, 42, 28, 156, 0, 7, 4]
abbrev dktX6_bargain_4 : List UInt8 := dkwX6_bargain_4 ++ dktX6_bargain_5
def dkwX6_bargain_3 : List UInt8 := [42, 42, 21, 4, 16, 8, 108, 3, 182, 0, 80, 182, 0, 127, 100, 54, 5, 28, 155, 0, 12, 21, 5, 29]
abbrev dktX6_bargain_3 : List UInt8 := dkwX6_bargain_3 ++ dktX6_bargain_4
def dkwX6_bargain_2 : List UInt8 := [112, 182, 0, 161, 154, 0, 6, 167, 0, 53, 42, 21, 4, 16, 8, 108, 21, 4, 16, 8, 112, 182, 0, 146]
abbrev dktX6_bargain_2 : List UInt8 := dkwX6_bargain_2 ++ dktX6_bargain_3
def dkwX6_bargain_1 : List UInt8 := [16, 8, 108, 21, 4, 16, 8, 112, 182, 0, 114, 153, 0, 73, 42, 21, 4, 16, 8, 108, 21, 4, 16, 8]
abbrev dktX6_bargain_1 : List UInt8 := dkwX6_bargain_1 ++ dktX6_bargain_2
def dkwX6_bargain_0 : List UInt8 := [2, 61, 3, 62, 3, 54, 4, 21, 4, 16, 8, 42, 180, 0, 7, 4, 46, 104, 162, 0, 96, 42, 21, 4]
abbrev dktX6_bargain_0 : List UInt8 := dkwX6_bargain_0 ++ dktX6_bargain_1
theorem dksX6_bargain_0 : cX6_bargain.data.toList.drop 0 = dktX6_bargain_0 := by decide +kernel
theorem dksX6_bargain_1 : cX6_bargain.data.toList.drop 24 = dktX6_bargain_1 := dk_seg dksX6_bargain_0 24 rfl rfl
theorem dksX6_bargain_2 : cX6_bargain.data.toList.drop 48 = dktX6_bargain_2 := dk_seg dksX6_bargain_1 24 rfl rfl
theorem dksX6_bargain_3 : cX6_bargain.data.toList.drop 72 = dktX6_bargain_3 := dk_seg dksX6_bargain_2 24 rfl rfl
theorem dksX6_bargain_4 : cX6_bargain.data.toList.drop 96 = dktX6_bargain_4 := dk_seg dksX6_bargain_3 24 rfl rfl
theorem dksX6_bargain_5 : cX6_bargain.data.toList.drop 120 = dktX6_bargain_5 := dk_seg dksX6_bargain_4 24 rfl rfl
theorem dksX6_bargain_6 : cX6_bargain.data.toList.drop 142 = dktX6_bargain_6 := dk_seg dksX6_bargain_5 22 rfl rfl
theorem dX6_bargain_0 : decode cX6_bargain 0 = .ok (.iconst (-1), 1) := dk_2 (dk_at dksX6_bargain_0 0 rfl rfl)
theorem dX6_bargain_1 : decode cX6_bargain 1 = .ok (.istore_n 2, 1) := dk_61 (dk_at dksX6_bargain_0 1 rfl rfl)
theorem dX6_bargain_2 : decode cX6_bargain 2 = .ok (.iconst 0, 1) := dk_3 (dk_at dksX6_bargain_0 2 rfl rfl)
theorem dX6_bargain_3 : decode cX6_bargain 3 = .ok (.istore_n 3, 1) := dk_62 (dk_at dksX6_bargain_0 3 rfl rfl)
theorem dX6_bargain_4 : decode cX6_bargain 4 = .ok (.iconst 0, 1) := dk_3 (dk_at dksX6_bargain_0 4 rfl rfl)
theorem dX6_bargain_5 : decode cX6_bargain 5 = .ok (.istore 4, 2) := dk_54 4 (dk_at dksX6_bargain_0 5 rfl rfl)
theorem dX6_bargain_7 : decode cX6_bargain 7 = .ok (.iload 4, 2) := dk_21 4 (dk_at dksX6_bargain_0 7 rfl rfl)
theorem dX6_bargain_9 : decode cX6_bargain 9 = .ok (.bipush 8, 2) := dk_16 8 (dk_at dksX6_bargain_0 9 rfl rfl)
theorem dX6_bargain_11 : decode cX6_bargain 11 = .ok (.aload_n 0, 1) := dk_42 (dk_at dksX6_bargain_0 11 rfl rfl)
theorem dX6_bargain_12 : decode cX6_bargain 12 = .ok (.getfield 7, 3) := dk_180 0 7 (dk_at dksX6_bargain_0 12 rfl rfl)
theorem dX6_bargain_15 : decode cX6_bargain 15 = .ok (.iconst 1, 1) := dk_4 (dk_at dksX6_bargain_0 15 rfl rfl)
theorem dX6_bargain_16 : decode cX6_bargain 16 = .ok (.iaload, 1) := dk_46 (dk_at dksX6_bargain_0 16 rfl rfl)
theorem dX6_bargain_17 : decode cX6_bargain 17 = .ok (.imul, 1) := dk_104 (dk_at dksX6_bargain_0 17 rfl rfl)
theorem dX6_bargain_18 : decode cX6_bargain 18 = .ok (.if_icmp .ge 96, 3) := dk_162 0 96 (dk_at dksX6_bargain_0 18 rfl rfl)
theorem dX6_bargain_21 : decode cX6_bargain 21 = .ok (.aload_n 0, 1) := dk_42 (dk_at dksX6_bargain_0 21 rfl rfl)
theorem dX6_bargain_22 : decode cX6_bargain 22 = .ok (.iload 4, 2) := dk_21 4 (dk_at dksX6_bargain_0 22 rfl rfl)
theorem dX6_bargain_24 : decode cX6_bargain 24 = .ok (.bipush 8, 2) := dk_16 8 (dk_at dksX6_bargain_1 0 rfl rfl)
theorem dX6_bargain_26 : decode cX6_bargain 26 = .ok (.idiv, 1) := dk_108 (dk_at dksX6_bargain_1 2 rfl rfl)
theorem dX6_bargain_27 : decode cX6_bargain 27 = .ok (.iload 4, 2) := dk_21 4 (dk_at dksX6_bargain_1 3 rfl rfl)
theorem dX6_bargain_29 : decode cX6_bargain 29 = .ok (.bipush 8, 2) := dk_16 8 (dk_at dksX6_bargain_1 5 rfl rfl)
theorem dX6_bargain_31 : decode cX6_bargain 31 = .ok (.irem, 1) := dk_112 (dk_at dksX6_bargain_1 7 rfl rfl)
theorem dX6_bargain_32 : decode cX6_bargain 32 = .ok (.invokevirtual 114, 3) := dk_182 0 114 (dk_at dksX6_bargain_1 8 rfl rfl)
theorem dX6_bargain_35 : decode cX6_bargain 35 = .ok (.ifCond .eq 73, 3) := dk_153 0 73 (dk_at dksX6_bargain_1 11 rfl rfl)
theorem dX6_bargain_38 : decode cX6_bargain 38 = .ok (.aload_n 0, 1) := dk_42 (dk_at dksX6_bargain_1 14 rfl rfl)
theorem dX6_bargain_39 : decode cX6_bargain 39 = .ok (.iload 4, 2) := dk_21 4 (dk_at dksX6_bargain_1 15 rfl rfl)
theorem dX6_bargain_41 : decode cX6_bargain 41 = .ok (.bipush 8, 2) := dk_16 8 (dk_at dksX6_bargain_1 17 rfl rfl)
theorem dX6_bargain_43 : decode cX6_bargain 43 = .ok (.idiv, 1) := dk_108 (dk_at dksX6_bargain_1 19 rfl rfl)
theorem dX6_bargain_44 : decode cX6_bargain 44 = .ok (.iload 4, 2) := dk_21 4 (dk_at dksX6_bargain_1 20 rfl rfl)
theorem dX6_bargain_46 : decode cX6_bargain 46 = .ok (.bipush 8, 2) := dk_16 8 (dk_at dksX6_bargain_1 22 rfl rfl)
theorem dX6_bargain_48 : decode cX6_bargain 48 = .ok (.irem, 1) := dk_112 (dk_at dksX6_bargain_2 0 rfl rfl)
theorem dX6_bargain_49 : decode cX6_bargain 49 = .ok (.invokevirtual 161, 3) := dk_182 0 161 (dk_at dksX6_bargain_2 1 rfl rfl)
theorem dX6_bargain_52 : decode cX6_bargain 52 = .ok (.ifCond .ne 6, 3) := dk_154 0 6 (dk_at dksX6_bargain_2 4 rfl rfl)
theorem dX6_bargain_55 : decode cX6_bargain 55 = .ok (.goto 53, 3) := dk_167 0 53 (dk_at dksX6_bargain_2 7 rfl rfl)
theorem dX6_bargain_58 : decode cX6_bargain 58 = .ok (.aload_n 0, 1) := dk_42 (dk_at dksX6_bargain_2 10 rfl rfl)
theorem dX6_bargain_59 : decode cX6_bargain 59 = .ok (.iload 4, 2) := dk_21 4 (dk_at dksX6_bargain_2 11 rfl rfl)
theorem dX6_bargain_61 : decode cX6_bargain 61 = .ok (.bipush 8, 2) := dk_16 8 (dk_at dksX6_bargain_2 13 rfl rfl)
theorem dX6_bargain_63 : decode cX6_bargain 63 = .ok (.idiv, 1) := dk_108 (dk_at dksX6_bargain_2 15 rfl rfl)
theorem dX6_bargain_64 : decode cX6_bargain 64 = .ok (.iload 4, 2) := dk_21 4 (dk_at dksX6_bargain_2 16 rfl rfl)
theorem dX6_bargain_66 : decode cX6_bargain 66 = .ok (.bipush 8, 2) := dk_16 8 (dk_at dksX6_bargain_2 18 rfl rfl)
theorem dX6_bargain_68 : decode cX6_bargain 68 = .ok (.irem, 1) := dk_112 (dk_at dksX6_bargain_2 20 rfl rfl)
theorem dX6_bargain_69 : decode cX6_bargain 69 = .ok (.invokevirtual 146, 3) := dk_182 0 146 (dk_at dksX6_bargain_2 21 rfl rfl)
theorem dX6_bargain_72 : decode cX6_bargain 72 = .ok (.aload_n 0, 1) := dk_42 (dk_at dksX6_bargain_3 0 rfl rfl)
theorem dX6_bargain_73 : decode cX6_bargain 73 = .ok (.aload_n 0, 1) := dk_42 (dk_at dksX6_bargain_3 1 rfl rfl)
theorem dX6_bargain_74 : decode cX6_bargain 74 = .ok (.iload 4, 2) := dk_21 4 (dk_at dksX6_bargain_3 2 rfl rfl)
theorem dX6_bargain_76 : decode cX6_bargain 76 = .ok (.bipush 8, 2) := dk_16 8 (dk_at dksX6_bargain_3 4 rfl rfl)
theorem dX6_bargain_78 : decode cX6_bargain 78 = .ok (.idiv, 1) := dk_108 (dk_at dksX6_bargain_3 6 rfl rfl)
theorem dX6_bargain_79 : decode cX6_bargain 79 = .ok (.iconst 0, 1) := dk_3 (dk_at dksX6_bargain_3 7 rfl rfl)
theorem dX6_bargain_80 : decode cX6_bargain 80 = .ok (.invokevirtual 80, 3) := dk_182 0 80 (dk_at dksX6_bargain_3 8 rfl rfl)
theorem dX6_bargain_83 : decode cX6_bargain 83 = .ok (.invokevirtual 127, 3) := dk_182 0 127 (dk_at dksX6_bargain_3 11 rfl rfl)
theorem dX6_bargain_86 : decode cX6_bargain 86 = .ok (.isub, 1) := dk_100 (dk_at dksX6_bargain_3 14 rfl rfl)
theorem dX6_bargain_87 : decode cX6_bargain 87 = .ok (.istore 5, 2) := dk_54 5 (dk_at dksX6_bargain_3 15 rfl rfl)
theorem dX6_bargain_89 : decode cX6_bargain 89 = .ok (.iload_n 2, 1) := dk_28 (dk_at dksX6_bargain_3 17 rfl rfl)
theorem dX6_bargain_90 : decode cX6_bargain 90 = .ok (.ifCond .lt 12, 3) := dk_155 0 12 (dk_at dksX6_bargain_3 18 rfl rfl)
theorem dX6_bargain_93 : decode cX6_bargain 93 = .ok (.iload 5, 2) := dk_21 5 (dk_at dksX6_bargain_3 21 rfl rfl)
theorem dX6_bargain_95 : decode cX6_bargain 95 = .ok (.iload_n 3, 1) := dk_29 (dk_at dksX6_bargain_3 23 rfl rfl)
theorem dX6_bargain_96 : decode cX6_bargain 96 = .ok (.if_icmp .gt 6, 3) := dk_163 0 6 (dk_at dksX6_bargain_4 0 rfl rfl)
theorem dX6_bargain_99 : decode cX6_bargain 99 = .ok (.goto 9, 3) := dk_167 0 9 (dk_at dksX6_bargain_4 3 rfl rfl)
theorem dX6_bargain_102 : decode cX6_bargain 102 = .ok (.iload 4, 2) := dk_21 4 (dk_at dksX6_bargain_4 6 rfl rfl)
theorem dX6_bargain_104 : decode cX6_bargain 104 = .ok (.istore_n 2, 1) := dk_61 (dk_at dksX6_bargain_4 8 rfl rfl)
theorem dX6_bargain_105 : decode cX6_bargain 105 = .ok (.iload 5, 2) := dk_21 5 (dk_at dksX6_bargain_4 9 rfl rfl)
theorem dX6_bargain_107 : decode cX6_bargain 107 = .ok (.istore_n 3, 1) := dk_62 (dk_at dksX6_bargain_4 11 rfl rfl)
theorem dX6_bargain_108 : decode cX6_bargain 108 = .ok (.iinc 4 1, 3) := dk_132 4 1 (dk_at dksX6_bargain_4 12 rfl rfl)
theorem dX6_bargain_111 : decode cX6_bargain 111 = .ok (.goto (-104), 3) := dk_167 255 152 (dk_at dksX6_bargain_4 15 rfl rfl)
theorem dX6_bargain_114 : decode cX6_bargain 114 = .ok (.aload_n 0, 1) := dk_42 (dk_at dksX6_bargain_4 18 rfl rfl)
theorem dX6_bargain_115 : decode cX6_bargain 115 = .ok (.iload_n 2, 1) := dk_28 (dk_at dksX6_bargain_4 19 rfl rfl)
theorem dX6_bargain_116 : decode cX6_bargain 116 = .ok (.ifCond .ge 7, 3) := dk_156 0 7 (dk_at dksX6_bargain_4 20 rfl rfl)
theorem dX6_bargain_119 : decode cX6_bargain 119 = .ok (.iconst 1, 1) := dk_4 (dk_at dksX6_bargain_4 23 rfl rfl)
theorem dX6_bargain_120 : decode cX6_bargain 120 = .ok (.goto 4, 3) := dk_167 0 4 (dk_at dksX6_bargain_5 0 rfl rfl)
theorem dX6_bargain_123 : decode cX6_bargain 123 = .ok (.iconst 0, 1) := dk_3 (dk_at dksX6_bargain_5 3 rfl rfl)
theorem dX6_bargain_124 : decode cX6_bargain 124 = .ok (.invokevirtual 86, 3) := dk_182 0 86 (dk_at dksX6_bargain_5 4 rfl rfl)
theorem dX6_bargain_127 : decode cX6_bargain 127 = .ok (.ifCond .eq 7, 3) := dk_153 0 7 (dk_at dksX6_bargain_5 7 rfl rfl)
theorem dX6_bargain_130 : decode cX6_bargain 130 = .ok (.iconst 0, 1) := dk_3 (dk_at dksX6_bargain_5 10 rfl rfl)
theorem dX6_bargain_131 : decode cX6_bargain 131 = .ok (.goto 18, 3) := dk_167 0 18 (dk_at dksX6_bargain_5 11 rfl rfl)
theorem dX6_bargain_134 : decode cX6_bargain 134 = .ok (.iload_n 1, 1) := dk_27 (dk_at dksX6_bargain_5 14 rfl rfl)
theorem dX6_bargain_135 : decode cX6_bargain 135 = .ok (.ifCond .eq 10, 3) := dk_153 0 10 (dk_at dksX6_bargain_5 15 rfl rfl)
theorem dX6_bargain_138 : decode cX6_bargain 138 = .ok (.iload_n 2, 1) := dk_28 (dk_at dksX6_bargain_5 18 rfl rfl)
theorem dX6_bargain_139 : decode cX6_bargain 139 = .ok (.bipush 8, 2) := dk_16 8 (dk_at dksX6_bargain_5 19 rfl rfl)
theorem dX6_bargain_141 : decode cX6_bargain 141 = .ok (.irem, 1) := dk_112 (dk_at dksX6_bargain_5 21 rfl rfl)
theorem dX6_bargain_142 : decode cX6_bargain 142 = .ok (.goto 7, 3) := dk_167 0 7 (dk_at dksX6_bargain_6 0 rfl rfl)
theorem dX6_bargain_145 : decode cX6_bargain 145 = .ok (.iload_n 2, 1) := dk_28 (dk_at dksX6_bargain_6 3 rfl rfl)
theorem dX6_bargain_146 : decode cX6_bargain 146 = .ok (.bipush 8, 2) := dk_16 8 (dk_at dksX6_bargain_6 4 rfl rfl)
theorem dX6_bargain_148 : decode cX6_bargain 148 = .ok (.idiv, 1) := dk_108 (dk_at dksX6_bargain_6 6 rfl rfl)
theorem dX6_bargain_149 : decode cX6_bargain 149 = .ok (.ireturn, 1) := dk_172 (dk_at dksX6_bargain_6 7 rfl rfl)
abbrev cX6_canLicense : ByteArray := prog_12_method_50_code
def yX6_canLicense : MethodName := ⟨RX6, "canLicense", "(II)Z"⟩
def dkwX6_canLicense_1 : List UInt8 := [154, 0, 21, 42, 29, 3, 182, 0, 65, 42, 29, 182, 0, 127, 161, 0, 7, 4, 167, 0, 4, 3, 172]
abbrev dktX6_canLicense_1 : List UInt8 := dkwX6_canLicense_1 ++ []
def dkwX6_canLicense_0 : List UInt8 := [42, 27, 3, 182, 0, 80, 62, 42, 27, 28, 182, 0, 111, 4, 160, 0, 29, 42, 29, 182, 0, 124]
abbrev dktX6_canLicense_0 : List UInt8 := dkwX6_canLicense_0 ++ dktX6_canLicense_1
theorem dksX6_canLicense_0 : cX6_canLicense.data.toList.drop 0 = dktX6_canLicense_0 := by decide +kernel
theorem dksX6_canLicense_1 : cX6_canLicense.data.toList.drop 22 = dktX6_canLicense_1 := dk_seg dksX6_canLicense_0 22 rfl rfl
theorem dX6_canLicense_0 : decode cX6_canLicense 0 = .ok (.aload_n 0, 1) := dk_42 (dk_at dksX6_canLicense_0 0 rfl rfl)
theorem dX6_canLicense_1 : decode cX6_canLicense 1 = .ok (.iload_n 1, 1) := dk_27 (dk_at dksX6_canLicense_0 1 rfl rfl)
theorem dX6_canLicense_2 : decode cX6_canLicense 2 = .ok (.iconst 0, 1) := dk_3 (dk_at dksX6_canLicense_0 2 rfl rfl)
theorem dX6_canLicense_3 : decode cX6_canLicense 3 = .ok (.invokevirtual 80, 3) := dk_182 0 80 (dk_at dksX6_canLicense_0 3 rfl rfl)
theorem dX6_canLicense_6 : decode cX6_canLicense 6 = .ok (.istore_n 3, 1) := dk_62 (dk_at dksX6_canLicense_0 6 rfl rfl)
theorem dX6_canLicense_7 : decode cX6_canLicense 7 = .ok (.aload_n 0, 1) := dk_42 (dk_at dksX6_canLicense_0 7 rfl rfl)
theorem dX6_canLicense_8 : decode cX6_canLicense 8 = .ok (.iload_n 1, 1) := dk_27 (dk_at dksX6_canLicense_0 8 rfl rfl)
theorem dX6_canLicense_9 : decode cX6_canLicense 9 = .ok (.iload_n 2, 1) := dk_28 (dk_at dksX6_canLicense_0 9 rfl rfl)
theorem dX6_canLicense_10 : decode cX6_canLicense 10 = .ok (.invokevirtual 111, 3) := dk_182 0 111 (dk_at dksX6_canLicense_0 10 rfl rfl)
theorem dX6_canLicense_13 : decode cX6_canLicense 13 = .ok (.iconst 1, 1) := dk_4 (dk_at dksX6_canLicense_0 13 rfl rfl)
theorem dX6_canLicense_14 : decode cX6_canLicense 14 = .ok (.if_icmp .ne 29, 3) := dk_160 0 29 (dk_at dksX6_canLicense_0 14 rfl rfl)
theorem dX6_canLicense_17 : decode cX6_canLicense 17 = .ok (.aload_n 0, 1) := dk_42 (dk_at dksX6_canLicense_0 17 rfl rfl)
theorem dX6_canLicense_18 : decode cX6_canLicense 18 = .ok (.iload_n 3, 1) := dk_29 (dk_at dksX6_canLicense_0 18 rfl rfl)
theorem dX6_canLicense_19 : decode cX6_canLicense 19 = .ok (.invokevirtual 124, 3) := dk_182 0 124 (dk_at dksX6_canLicense_0 19 rfl rfl)
theorem dX6_canLicense_22 : decode cX6_canLicense 22 = .ok (.ifCond .ne 21, 3) := dk_154 0 21 (dk_at dksX6_canLicense_1 0 rfl rfl)
theorem dX6_canLicense_25 : decode cX6_canLicense 25 = .ok (.aload_n 0, 1) := dk_42 (dk_at dksX6_canLicense_1 3 rfl rfl)
theorem dX6_canLicense_26 : decode cX6_canLicense 26 = .ok (.iload_n 3, 1) := dk_29 (dk_at dksX6_canLicense_1 4 rfl rfl)
theorem dX6_canLicense_27 : decode cX6_canLicense 27 = .ok (.iconst 0, 1) := dk_3 (dk_at dksX6_canLicense_1 5 rfl rfl)
theorem dX6_canLicense_28 : decode cX6_canLicense 28 = .ok (.invokevirtual 65, 3) := dk_182 0 65 (dk_at dksX6_canLicense_1 6 rfl rfl)
theorem dX6_canLicense_31 : decode cX6_canLicense 31 = .ok (.aload_n 0, 1) := dk_42 (dk_at dksX6_canLicense_1 9 rfl rfl)
theorem dX6_canLicense_32 : decode cX6_canLicense 32 = .ok (.iload_n 3, 1) := dk_29 (dk_at dksX6_canLicense_1 10 rfl rfl)
theorem dX6_canLicense_33 : decode cX6_canLicense 33 = .ok (.invokevirtual 127, 3) := dk_182 0 127 (dk_at dksX6_canLicense_1 11 rfl rfl)
theorem dX6_canLicense_36 : decode cX6_canLicense 36 = .ok (.if_icmp .lt 7, 3) := dk_161 0 7 (dk_at dksX6_canLicense_1 14 rfl rfl)
theorem dX6_canLicense_39 : decode cX6_canLicense 39 = .ok (.iconst 1, 1) := dk_4 (dk_at dksX6_canLicense_1 17 rfl rfl)
theorem dX6_canLicense_40 : decode cX6_canLicense 40 = .ok (.goto 4, 3) := dk_167 0 4 (dk_at dksX6_canLicense_1 18 rfl rfl)
theorem dX6_canLicense_43 : decode cX6_canLicense 43 = .ok (.iconst 0, 1) := dk_3 (dk_at dksX6_canLicense_1 21 rfl rfl)
theorem dX6_canLicense_44 : decode cX6_canLicense 44 = .ok (.ireturn, 1) := dk_172 (dk_at dksX6_canLicense_1 22 rfl rfl)
abbrev cX6_wouldShame : ByteArray := prog_12_method_52_code
def yX6_wouldShame : MethodName := ⟨RX6, "wouldShame", "(I)I"⟩
def dkwX6_wouldShame_4 : List UInt8 := [167, 255, 207, 132, 3, 1, 167, 255, 188, 28, 16, 99, 184, 0, 69, 172]
abbrev dktX6_wouldShame_4 : List UInt8 := dkwX6_wouldShame_4 ++ []
def dkwX6_wouldShame_3 : List UInt8 := [182, 0, 111, 5, 160, 0, 13, 42, 29, 21, 4, 182, 0, 130, 167, 0, 4, 3, 96, 61, 132, 4, 1]
abbrev dktX6_wouldShame_3 : List UInt8 := dkwX6_wouldShame_3 ++ dktX6_wouldShame_4
def dkwX6_wouldShame_2 : List UInt8 := [4, 182, 0, 80, 162, 0, 44, 42, 29, 3, 182, 0, 80, 27, 160, 0, 34, 28, 42, 29, 21, 4]
abbrev dktX6_wouldShame_2 : List UInt8 := dkwX6_wouldShame_2 ++ dktX6_wouldShame_3
def dkwX6_wouldShame_1 : List UInt8 := [4, 182, 0, 65, 61, 3, 62, 29, 42, 180, 0, 7, 4, 46, 162, 0, 64, 3, 54, 4, 21, 4, 42, 29]
abbrev dktX6_wouldShame_1 : List UInt8 := dkwX6_wouldShame_1 ++ dktX6_wouldShame_2
def dkwX6_wouldShame_0 : List UInt8 := [42, 42, 27, 182, 0, 101, 153, 0, 7, 3, 167, 0, 4, 4, 182, 0, 86, 153, 0, 5, 3, 172, 42, 27]
abbrev dktX6_wouldShame_0 : List UInt8 := dkwX6_wouldShame_0 ++ dktX6_wouldShame_1
theorem dksX6_wouldShame_0 : cX6_wouldShame.data.toList.drop 0 = dktX6_wouldShame_0 := by decide +kernel
theorem dksX6_wouldShame_1 : cX6_wouldShame.data.toList.drop 24 = dktX6_wouldShame_1 := dk_seg dksX6_wouldShame_0 24 rfl rfl
theorem dksX6_wouldShame_2 : cX6_wouldShame.data.toList.drop 48 = dktX6_wouldShame_2 := dk_seg dksX6_wouldShame_1 24 rfl rfl
theorem dksX6_wouldShame_3 : cX6_wouldShame.data.toList.drop 70 = dktX6_wouldShame_3 := dk_seg dksX6_wouldShame_2 22 rfl rfl
theorem dksX6_wouldShame_4 : cX6_wouldShame.data.toList.drop 93 = dktX6_wouldShame_4 := dk_seg dksX6_wouldShame_3 23 rfl rfl
theorem dX6_wouldShame_0 : decode cX6_wouldShame 0 = .ok (.aload_n 0, 1) := dk_42 (dk_at dksX6_wouldShame_0 0 rfl rfl)
theorem dX6_wouldShame_1 : decode cX6_wouldShame 1 = .ok (.aload_n 0, 1) := dk_42 (dk_at dksX6_wouldShame_0 1 rfl rfl)
theorem dX6_wouldShame_2 : decode cX6_wouldShame 2 = .ok (.iload_n 1, 1) := dk_27 (dk_at dksX6_wouldShame_0 2 rfl rfl)
theorem dX6_wouldShame_3 : decode cX6_wouldShame 3 = .ok (.invokevirtual 101, 3) := dk_182 0 101 (dk_at dksX6_wouldShame_0 3 rfl rfl)
theorem dX6_wouldShame_6 : decode cX6_wouldShame 6 = .ok (.ifCond .eq 7, 3) := dk_153 0 7 (dk_at dksX6_wouldShame_0 6 rfl rfl)
theorem dX6_wouldShame_9 : decode cX6_wouldShame 9 = .ok (.iconst 0, 1) := dk_3 (dk_at dksX6_wouldShame_0 9 rfl rfl)
theorem dX6_wouldShame_10 : decode cX6_wouldShame 10 = .ok (.goto 4, 3) := dk_167 0 4 (dk_at dksX6_wouldShame_0 10 rfl rfl)
theorem dX6_wouldShame_13 : decode cX6_wouldShame 13 = .ok (.iconst 1, 1) := dk_4 (dk_at dksX6_wouldShame_0 13 rfl rfl)
theorem dX6_wouldShame_14 : decode cX6_wouldShame 14 = .ok (.invokevirtual 86, 3) := dk_182 0 86 (dk_at dksX6_wouldShame_0 14 rfl rfl)
theorem dX6_wouldShame_17 : decode cX6_wouldShame 17 = .ok (.ifCond .eq 5, 3) := dk_153 0 5 (dk_at dksX6_wouldShame_0 17 rfl rfl)
theorem dX6_wouldShame_20 : decode cX6_wouldShame 20 = .ok (.iconst 0, 1) := dk_3 (dk_at dksX6_wouldShame_0 20 rfl rfl)
theorem dX6_wouldShame_21 : decode cX6_wouldShame 21 = .ok (.ireturn, 1) := dk_172 (dk_at dksX6_wouldShame_0 21 rfl rfl)
theorem dX6_wouldShame_22 : decode cX6_wouldShame 22 = .ok (.aload_n 0, 1) := dk_42 (dk_at dksX6_wouldShame_0 22 rfl rfl)
theorem dX6_wouldShame_23 : decode cX6_wouldShame 23 = .ok (.iload_n 1, 1) := dk_27 (dk_at dksX6_wouldShame_0 23 rfl rfl)
theorem dX6_wouldShame_24 : decode cX6_wouldShame 24 = .ok (.iconst 1, 1) := dk_4 (dk_at dksX6_wouldShame_1 0 rfl rfl)
theorem dX6_wouldShame_25 : decode cX6_wouldShame 25 = .ok (.invokevirtual 65, 3) := dk_182 0 65 (dk_at dksX6_wouldShame_1 1 rfl rfl)
theorem dX6_wouldShame_28 : decode cX6_wouldShame 28 = .ok (.istore_n 2, 1) := dk_61 (dk_at dksX6_wouldShame_1 4 rfl rfl)
theorem dX6_wouldShame_29 : decode cX6_wouldShame 29 = .ok (.iconst 0, 1) := dk_3 (dk_at dksX6_wouldShame_1 5 rfl rfl)
theorem dX6_wouldShame_30 : decode cX6_wouldShame 30 = .ok (.istore_n 3, 1) := dk_62 (dk_at dksX6_wouldShame_1 6 rfl rfl)
theorem dX6_wouldShame_31 : decode cX6_wouldShame 31 = .ok (.iload_n 3, 1) := dk_29 (dk_at dksX6_wouldShame_1 7 rfl rfl)
theorem dX6_wouldShame_32 : decode cX6_wouldShame 32 = .ok (.aload_n 0, 1) := dk_42 (dk_at dksX6_wouldShame_1 8 rfl rfl)
theorem dX6_wouldShame_33 : decode cX6_wouldShame 33 = .ok (.getfield 7, 3) := dk_180 0 7 (dk_at dksX6_wouldShame_1 9 rfl rfl)
theorem dX6_wouldShame_36 : decode cX6_wouldShame 36 = .ok (.iconst 1, 1) := dk_4 (dk_at dksX6_wouldShame_1 12 rfl rfl)
theorem dX6_wouldShame_37 : decode cX6_wouldShame 37 = .ok (.iaload, 1) := dk_46 (dk_at dksX6_wouldShame_1 13 rfl rfl)
theorem dX6_wouldShame_38 : decode cX6_wouldShame 38 = .ok (.if_icmp .ge 64, 3) := dk_162 0 64 (dk_at dksX6_wouldShame_1 14 rfl rfl)
theorem dX6_wouldShame_41 : decode cX6_wouldShame 41 = .ok (.iconst 0, 1) := dk_3 (dk_at dksX6_wouldShame_1 17 rfl rfl)
theorem dX6_wouldShame_42 : decode cX6_wouldShame 42 = .ok (.istore 4, 2) := dk_54 4 (dk_at dksX6_wouldShame_1 18 rfl rfl)
theorem dX6_wouldShame_44 : decode cX6_wouldShame 44 = .ok (.iload 4, 2) := dk_21 4 (dk_at dksX6_wouldShame_1 20 rfl rfl)
theorem dX6_wouldShame_46 : decode cX6_wouldShame 46 = .ok (.aload_n 0, 1) := dk_42 (dk_at dksX6_wouldShame_1 22 rfl rfl)
theorem dX6_wouldShame_47 : decode cX6_wouldShame 47 = .ok (.iload_n 3, 1) := dk_29 (dk_at dksX6_wouldShame_1 23 rfl rfl)
theorem dX6_wouldShame_48 : decode cX6_wouldShame 48 = .ok (.iconst 1, 1) := dk_4 (dk_at dksX6_wouldShame_2 0 rfl rfl)
theorem dX6_wouldShame_49 : decode cX6_wouldShame 49 = .ok (.invokevirtual 80, 3) := dk_182 0 80 (dk_at dksX6_wouldShame_2 1 rfl rfl)
theorem dX6_wouldShame_52 : decode cX6_wouldShame 52 = .ok (.if_icmp .ge 44, 3) := dk_162 0 44 (dk_at dksX6_wouldShame_2 4 rfl rfl)
theorem dX6_wouldShame_55 : decode cX6_wouldShame 55 = .ok (.aload_n 0, 1) := dk_42 (dk_at dksX6_wouldShame_2 7 rfl rfl)
theorem dX6_wouldShame_56 : decode cX6_wouldShame 56 = .ok (.iload_n 3, 1) := dk_29 (dk_at dksX6_wouldShame_2 8 rfl rfl)
theorem dX6_wouldShame_57 : decode cX6_wouldShame 57 = .ok (.iconst 0, 1) := dk_3 (dk_at dksX6_wouldShame_2 9 rfl rfl)
theorem dX6_wouldShame_58 : decode cX6_wouldShame 58 = .ok (.invokevirtual 80, 3) := dk_182 0 80 (dk_at dksX6_wouldShame_2 10 rfl rfl)
theorem dX6_wouldShame_61 : decode cX6_wouldShame 61 = .ok (.iload_n 1, 1) := dk_27 (dk_at dksX6_wouldShame_2 13 rfl rfl)
theorem dX6_wouldShame_62 : decode cX6_wouldShame 62 = .ok (.if_icmp .ne 34, 3) := dk_160 0 34 (dk_at dksX6_wouldShame_2 14 rfl rfl)
theorem dX6_wouldShame_65 : decode cX6_wouldShame 65 = .ok (.iload_n 2, 1) := dk_28 (dk_at dksX6_wouldShame_2 17 rfl rfl)
theorem dX6_wouldShame_66 : decode cX6_wouldShame 66 = .ok (.aload_n 0, 1) := dk_42 (dk_at dksX6_wouldShame_2 18 rfl rfl)
theorem dX6_wouldShame_67 : decode cX6_wouldShame 67 = .ok (.iload_n 3, 1) := dk_29 (dk_at dksX6_wouldShame_2 19 rfl rfl)
theorem dX6_wouldShame_68 : decode cX6_wouldShame 68 = .ok (.iload 4, 2) := dk_21 4 (dk_at dksX6_wouldShame_2 20 rfl rfl)
theorem dX6_wouldShame_70 : decode cX6_wouldShame 70 = .ok (.invokevirtual 111, 3) := dk_182 0 111 (dk_at dksX6_wouldShame_3 0 rfl rfl)
theorem dX6_wouldShame_73 : decode cX6_wouldShame 73 = .ok (.iconst 2, 1) := dk_5 (dk_at dksX6_wouldShame_3 3 rfl rfl)
theorem dX6_wouldShame_74 : decode cX6_wouldShame 74 = .ok (.if_icmp .ne 13, 3) := dk_160 0 13 (dk_at dksX6_wouldShame_3 4 rfl rfl)
theorem dX6_wouldShame_77 : decode cX6_wouldShame 77 = .ok (.aload_n 0, 1) := dk_42 (dk_at dksX6_wouldShame_3 7 rfl rfl)
theorem dX6_wouldShame_78 : decode cX6_wouldShame 78 = .ok (.iload_n 3, 1) := dk_29 (dk_at dksX6_wouldShame_3 8 rfl rfl)
theorem dX6_wouldShame_79 : decode cX6_wouldShame 79 = .ok (.iload 4, 2) := dk_21 4 (dk_at dksX6_wouldShame_3 9 rfl rfl)
theorem dX6_wouldShame_81 : decode cX6_wouldShame 81 = .ok (.invokevirtual 130, 3) := dk_182 0 130 (dk_at dksX6_wouldShame_3 11 rfl rfl)
theorem dX6_wouldShame_84 : decode cX6_wouldShame 84 = .ok (.goto 4, 3) := dk_167 0 4 (dk_at dksX6_wouldShame_3 14 rfl rfl)
theorem dX6_wouldShame_87 : decode cX6_wouldShame 87 = .ok (.iconst 0, 1) := dk_3 (dk_at dksX6_wouldShame_3 17 rfl rfl)
theorem dX6_wouldShame_88 : decode cX6_wouldShame 88 = .ok (.iadd, 1) := dk_96 (dk_at dksX6_wouldShame_3 18 rfl rfl)
theorem dX6_wouldShame_89 : decode cX6_wouldShame 89 = .ok (.istore_n 2, 1) := dk_61 (dk_at dksX6_wouldShame_3 19 rfl rfl)
theorem dX6_wouldShame_90 : decode cX6_wouldShame 90 = .ok (.iinc 4 1, 3) := dk_132 4 1 (dk_at dksX6_wouldShame_3 20 rfl rfl)
theorem dX6_wouldShame_93 : decode cX6_wouldShame 93 = .ok (.goto (-49), 3) := dk_167 255 207 (dk_at dksX6_wouldShame_4 0 rfl rfl)
theorem dX6_wouldShame_96 : decode cX6_wouldShame 96 = .ok (.iinc 3 1, 3) := dk_132 3 1 (dk_at dksX6_wouldShame_4 3 rfl rfl)
theorem dX6_wouldShame_99 : decode cX6_wouldShame 99 = .ok (.goto (-68), 3) := dk_167 255 188 (dk_at dksX6_wouldShame_4 6 rfl rfl)
theorem dX6_wouldShame_102 : decode cX6_wouldShame 102 = .ok (.iload_n 2, 1) := dk_28 (dk_at dksX6_wouldShame_4 9 rfl rfl)
theorem dX6_wouldShame_103 : decode cX6_wouldShame 103 = .ok (.bipush 99, 2) := dk_16 99 (dk_at dksX6_wouldShame_4 10 rfl rfl)
theorem dX6_wouldShame_105 : decode cX6_wouldShame 105 = .ok (.invokestatic 69, 3) := dk_184 0 69 (dk_at dksX6_wouldShame_4 12 rfl rfl)
theorem dX6_wouldShame_108 : decode cX6_wouldShame 108 = .ok (.ireturn, 1) := dk_172 (dk_at dksX6_wouldShame_4 15 rfl rfl)
abbrev cX6_wouldLaugh : ByteArray := prog_12_method_53_code
def yX6_wouldLaugh : MethodName := ⟨RX6, "wouldLaugh", "(Z)I"⟩
def dkwX6_wouldLaugh_3 : List UInt8 := [172]
abbrev dktX6_wouldLaugh_3 : List UInt8 := dkwX6_wouldLaugh_3 ++ []
def dkwX6_wouldLaugh_2 : List UInt8 := [21, 4, 182, 0, 146, 167, 0, 4, 3, 96, 61, 132, 4, 1, 167, 255, 217, 132, 3, 1, 167, 255, 198, 28]
abbrev dktX6_wouldLaugh_2 : List UInt8 := dkwX6_wouldLaugh_2 ++ dktX6_wouldLaugh_3
def dkwX6_wouldLaugh_1 : List UInt8 := [42, 29, 4, 182, 0, 80, 162, 0, 34, 28, 42, 29, 21, 4, 182, 0, 111, 5, 160, 0, 13, 42, 29]
abbrev dktX6_wouldLaugh_1 : List UInt8 := dkwX6_wouldLaugh_1 ++ dktX6_wouldLaugh_2
def dkwX6_wouldLaugh_0 : List UInt8 := [42, 3, 181, 0, 36, 3, 61, 3, 62, 29, 42, 180, 0, 7, 4, 46, 162, 0, 54, 3, 54, 4, 21, 4]
abbrev dktX6_wouldLaugh_0 : List UInt8 := dkwX6_wouldLaugh_0 ++ dktX6_wouldLaugh_1
theorem dksX6_wouldLaugh_0 : cX6_wouldLaugh.data.toList.drop 0 = dktX6_wouldLaugh_0 := by decide +kernel
theorem dksX6_wouldLaugh_1 : cX6_wouldLaugh.data.toList.drop 24 = dktX6_wouldLaugh_1 := dk_seg dksX6_wouldLaugh_0 24 rfl rfl
theorem dksX6_wouldLaugh_2 : cX6_wouldLaugh.data.toList.drop 47 = dktX6_wouldLaugh_2 := dk_seg dksX6_wouldLaugh_1 23 rfl rfl
theorem dksX6_wouldLaugh_3 : cX6_wouldLaugh.data.toList.drop 71 = dktX6_wouldLaugh_3 := dk_seg dksX6_wouldLaugh_2 24 rfl rfl
theorem dX6_wouldLaugh_0 : decode cX6_wouldLaugh 0 = .ok (.aload_n 0, 1) := dk_42 (dk_at dksX6_wouldLaugh_0 0 rfl rfl)
theorem dX6_wouldLaugh_1 : decode cX6_wouldLaugh 1 = .ok (.iconst 0, 1) := dk_3 (dk_at dksX6_wouldLaugh_0 1 rfl rfl)
theorem dX6_wouldLaugh_2 : decode cX6_wouldLaugh 2 = .ok (.putfield 36, 3) := dk_181 0 36 (dk_at dksX6_wouldLaugh_0 2 rfl rfl)
theorem dX6_wouldLaugh_5 : decode cX6_wouldLaugh 5 = .ok (.iconst 0, 1) := dk_3 (dk_at dksX6_wouldLaugh_0 5 rfl rfl)
theorem dX6_wouldLaugh_6 : decode cX6_wouldLaugh 6 = .ok (.istore_n 2, 1) := dk_61 (dk_at dksX6_wouldLaugh_0 6 rfl rfl)
theorem dX6_wouldLaugh_7 : decode cX6_wouldLaugh 7 = .ok (.iconst 0, 1) := dk_3 (dk_at dksX6_wouldLaugh_0 7 rfl rfl)
theorem dX6_wouldLaugh_8 : decode cX6_wouldLaugh 8 = .ok (.istore_n 3, 1) := dk_62 (dk_at dksX6_wouldLaugh_0 8 rfl rfl)
theorem dX6_wouldLaugh_9 : decode cX6_wouldLaugh 9 = .ok (.iload_n 3, 1) := dk_29 (dk_at dksX6_wouldLaugh_0 9 rfl rfl)
theorem dX6_wouldLaugh_10 : decode cX6_wouldLaugh 10 = .ok (.aload_n 0, 1) := dk_42 (dk_at dksX6_wouldLaugh_0 10 rfl rfl)
theorem dX6_wouldLaugh_11 : decode cX6_wouldLaugh 11 = .ok (.getfield 7, 3) := dk_180 0 7 (dk_at dksX6_wouldLaugh_0 11 rfl rfl)
theorem dX6_wouldLaugh_14 : decode cX6_wouldLaugh 14 = .ok (.iconst 1, 1) := dk_4 (dk_at dksX6_wouldLaugh_0 14 rfl rfl)
theorem dX6_wouldLaugh_15 : decode cX6_wouldLaugh 15 = .ok (.iaload, 1) := dk_46 (dk_at dksX6_wouldLaugh_0 15 rfl rfl)
theorem dX6_wouldLaugh_16 : decode cX6_wouldLaugh 16 = .ok (.if_icmp .ge 54, 3) := dk_162 0 54 (dk_at dksX6_wouldLaugh_0 16 rfl rfl)
theorem dX6_wouldLaugh_19 : decode cX6_wouldLaugh 19 = .ok (.iconst 0, 1) := dk_3 (dk_at dksX6_wouldLaugh_0 19 rfl rfl)
theorem dX6_wouldLaugh_20 : decode cX6_wouldLaugh 20 = .ok (.istore 4, 2) := dk_54 4 (dk_at dksX6_wouldLaugh_0 20 rfl rfl)
theorem dX6_wouldLaugh_22 : decode cX6_wouldLaugh 22 = .ok (.iload 4, 2) := dk_21 4 (dk_at dksX6_wouldLaugh_0 22 rfl rfl)
theorem dX6_wouldLaugh_24 : decode cX6_wouldLaugh 24 = .ok (.aload_n 0, 1) := dk_42 (dk_at dksX6_wouldLaugh_1 0 rfl rfl)
theorem dX6_wouldLaugh_25 : decode cX6_wouldLaugh 25 = .ok (.iload_n 3, 1) := dk_29 (dk_at dksX6_wouldLaugh_1 1 rfl rfl)
theorem dX6_wouldLaugh_26 : decode cX6_wouldLaugh 26 = .ok (.iconst 1, 1) := dk_4 (dk_at dksX6_wouldLaugh_1 2 rfl rfl)
theorem dX6_wouldLaugh_27 : decode cX6_wouldLaugh 27 = .ok (.invokevirtual 80, 3) := dk_182 0 80 (dk_at dksX6_wouldLaugh_1 3 rfl rfl)
theorem dX6_wouldLaugh_30 : decode cX6_wouldLaugh 30 = .ok (.if_icmp .ge 34, 3) := dk_162 0 34 (dk_at dksX6_wouldLaugh_1 6 rfl rfl)
theorem dX6_wouldLaugh_33 : decode cX6_wouldLaugh 33 = .ok (.iload_n 2, 1) := dk_28 (dk_at dksX6_wouldLaugh_1 9 rfl rfl)
theorem dX6_wouldLaugh_34 : decode cX6_wouldLaugh 34 = .ok (.aload_n 0, 1) := dk_42 (dk_at dksX6_wouldLaugh_1 10 rfl rfl)
theorem dX6_wouldLaugh_35 : decode cX6_wouldLaugh 35 = .ok (.iload_n 3, 1) := dk_29 (dk_at dksX6_wouldLaugh_1 11 rfl rfl)
theorem dX6_wouldLaugh_36 : decode cX6_wouldLaugh 36 = .ok (.iload 4, 2) := dk_21 4 (dk_at dksX6_wouldLaugh_1 12 rfl rfl)
theorem dX6_wouldLaugh_38 : decode cX6_wouldLaugh 38 = .ok (.invokevirtual 111, 3) := dk_182 0 111 (dk_at dksX6_wouldLaugh_1 14 rfl rfl)
theorem dX6_wouldLaugh_41 : decode cX6_wouldLaugh 41 = .ok (.iconst 2, 1) := dk_5 (dk_at dksX6_wouldLaugh_1 17 rfl rfl)
theorem dX6_wouldLaugh_42 : decode cX6_wouldLaugh 42 = .ok (.if_icmp .ne 13, 3) := dk_160 0 13 (dk_at dksX6_wouldLaugh_1 18 rfl rfl)
theorem dX6_wouldLaugh_45 : decode cX6_wouldLaugh 45 = .ok (.aload_n 0, 1) := dk_42 (dk_at dksX6_wouldLaugh_1 21 rfl rfl)
theorem dX6_wouldLaugh_46 : decode cX6_wouldLaugh 46 = .ok (.iload_n 3, 1) := dk_29 (dk_at dksX6_wouldLaugh_1 22 rfl rfl)
theorem dX6_wouldLaugh_47 : decode cX6_wouldLaugh 47 = .ok (.iload 4, 2) := dk_21 4 (dk_at dksX6_wouldLaugh_2 0 rfl rfl)
theorem dX6_wouldLaugh_49 : decode cX6_wouldLaugh 49 = .ok (.invokevirtual 146, 3) := dk_182 0 146 (dk_at dksX6_wouldLaugh_2 2 rfl rfl)
theorem dX6_wouldLaugh_52 : decode cX6_wouldLaugh 52 = .ok (.goto 4, 3) := dk_167 0 4 (dk_at dksX6_wouldLaugh_2 5 rfl rfl)
theorem dX6_wouldLaugh_55 : decode cX6_wouldLaugh 55 = .ok (.iconst 0, 1) := dk_3 (dk_at dksX6_wouldLaugh_2 8 rfl rfl)
theorem dX6_wouldLaugh_56 : decode cX6_wouldLaugh 56 = .ok (.iadd, 1) := dk_96 (dk_at dksX6_wouldLaugh_2 9 rfl rfl)
theorem dX6_wouldLaugh_57 : decode cX6_wouldLaugh 57 = .ok (.istore_n 2, 1) := dk_61 (dk_at dksX6_wouldLaugh_2 10 rfl rfl)
theorem dX6_wouldLaugh_58 : decode cX6_wouldLaugh 58 = .ok (.iinc 4 1, 3) := dk_132 4 1 (dk_at dksX6_wouldLaugh_2 11 rfl rfl)
theorem dX6_wouldLaugh_61 : decode cX6_wouldLaugh 61 = .ok (.goto (-39), 3) := dk_167 255 217 (dk_at dksX6_wouldLaugh_2 14 rfl rfl)
theorem dX6_wouldLaugh_64 : decode cX6_wouldLaugh 64 = .ok (.iinc 3 1, 3) := dk_132 3 1 (dk_at dksX6_wouldLaugh_2 17 rfl rfl)
theorem dX6_wouldLaugh_67 : decode cX6_wouldLaugh 67 = .ok (.goto (-58), 3) := dk_167 255 198 (dk_at dksX6_wouldLaugh_2 20 rfl rfl)
theorem dX6_wouldLaugh_70 : decode cX6_wouldLaugh 70 = .ok (.iload_n 2, 1) := dk_28 (dk_at dksX6_wouldLaugh_2 23 rfl rfl)
theorem dX6_wouldLaugh_71 : decode cX6_wouldLaugh 71 = .ok (.ireturn, 1) := dk_172 (dk_at dksX6_wouldLaugh_3 0 rfl rfl)
abbrev cX6_nearest : ByteArray := prog_12_method_55_code
def yX6_nearest : MethodName := ⟨RX6, "nearest", "(I)I"⟩
def dkwX6_nearest_2 : List UInt8 := [162, 0, 5, 29, 61, 132, 3, 1, 167, 255, 226, 28, 172]
abbrev dktX6_nearest_2 : List UInt8 := dkwX6_nearest_2 ++ []
def dkwX6_nearest_1 : List UInt8 := [4, 62, 29, 42, 180, 0, 7, 4, 46, 162, 0, 26, 42, 27, 29, 182, 0, 164, 42, 27, 28, 182, 0, 164]
abbrev dktX6_nearest_1 : List UInt8 := dkwX6_nearest_1 ++ dktX6_nearest_2
def dkwX6_nearest_0 : List UInt8 := [42, 42, 27, 182, 0, 76, 153, 0, 7, 3, 167, 0, 4, 4, 182, 0, 86, 153, 0, 5, 3, 172, 3, 61]
abbrev dktX6_nearest_0 : List UInt8 := dkwX6_nearest_0 ++ dktX6_nearest_1
theorem dksX6_nearest_0 : cX6_nearest.data.toList.drop 0 = dktX6_nearest_0 := by decide +kernel
theorem dksX6_nearest_1 : cX6_nearest.data.toList.drop 24 = dktX6_nearest_1 := dk_seg dksX6_nearest_0 24 rfl rfl
theorem dksX6_nearest_2 : cX6_nearest.data.toList.drop 48 = dktX6_nearest_2 := dk_seg dksX6_nearest_1 24 rfl rfl
theorem dX6_nearest_0 : decode cX6_nearest 0 = .ok (.aload_n 0, 1) := dk_42 (dk_at dksX6_nearest_0 0 rfl rfl)
theorem dX6_nearest_1 : decode cX6_nearest 1 = .ok (.aload_n 0, 1) := dk_42 (dk_at dksX6_nearest_0 1 rfl rfl)
theorem dX6_nearest_2 : decode cX6_nearest 2 = .ok (.iload_n 1, 1) := dk_27 (dk_at dksX6_nearest_0 2 rfl rfl)
theorem dX6_nearest_3 : decode cX6_nearest 3 = .ok (.invokevirtual 76, 3) := dk_182 0 76 (dk_at dksX6_nearest_0 3 rfl rfl)
theorem dX6_nearest_6 : decode cX6_nearest 6 = .ok (.ifCond .eq 7, 3) := dk_153 0 7 (dk_at dksX6_nearest_0 6 rfl rfl)
theorem dX6_nearest_9 : decode cX6_nearest 9 = .ok (.iconst 0, 1) := dk_3 (dk_at dksX6_nearest_0 9 rfl rfl)
theorem dX6_nearest_10 : decode cX6_nearest 10 = .ok (.goto 4, 3) := dk_167 0 4 (dk_at dksX6_nearest_0 10 rfl rfl)
theorem dX6_nearest_13 : decode cX6_nearest 13 = .ok (.iconst 1, 1) := dk_4 (dk_at dksX6_nearest_0 13 rfl rfl)
theorem dX6_nearest_14 : decode cX6_nearest 14 = .ok (.invokevirtual 86, 3) := dk_182 0 86 (dk_at dksX6_nearest_0 14 rfl rfl)
theorem dX6_nearest_17 : decode cX6_nearest 17 = .ok (.ifCond .eq 5, 3) := dk_153 0 5 (dk_at dksX6_nearest_0 17 rfl rfl)
theorem dX6_nearest_20 : decode cX6_nearest 20 = .ok (.iconst 0, 1) := dk_3 (dk_at dksX6_nearest_0 20 rfl rfl)
theorem dX6_nearest_21 : decode cX6_nearest 21 = .ok (.ireturn, 1) := dk_172 (dk_at dksX6_nearest_0 21 rfl rfl)
theorem dX6_nearest_22 : decode cX6_nearest 22 = .ok (.iconst 0, 1) := dk_3 (dk_at dksX6_nearest_0 22 rfl rfl)
theorem dX6_nearest_23 : decode cX6_nearest 23 = .ok (.istore_n 2, 1) := dk_61 (dk_at dksX6_nearest_0 23 rfl rfl)
theorem dX6_nearest_24 : decode cX6_nearest 24 = .ok (.iconst 1, 1) := dk_4 (dk_at dksX6_nearest_1 0 rfl rfl)
theorem dX6_nearest_25 : decode cX6_nearest 25 = .ok (.istore_n 3, 1) := dk_62 (dk_at dksX6_nearest_1 1 rfl rfl)
theorem dX6_nearest_26 : decode cX6_nearest 26 = .ok (.iload_n 3, 1) := dk_29 (dk_at dksX6_nearest_1 2 rfl rfl)
theorem dX6_nearest_27 : decode cX6_nearest 27 = .ok (.aload_n 0, 1) := dk_42 (dk_at dksX6_nearest_1 3 rfl rfl)
theorem dX6_nearest_28 : decode cX6_nearest 28 = .ok (.getfield 7, 3) := dk_180 0 7 (dk_at dksX6_nearest_1 4 rfl rfl)
theorem dX6_nearest_31 : decode cX6_nearest 31 = .ok (.iconst 1, 1) := dk_4 (dk_at dksX6_nearest_1 7 rfl rfl)
theorem dX6_nearest_32 : decode cX6_nearest 32 = .ok (.iaload, 1) := dk_46 (dk_at dksX6_nearest_1 8 rfl rfl)
theorem dX6_nearest_33 : decode cX6_nearest 33 = .ok (.if_icmp .ge 26, 3) := dk_162 0 26 (dk_at dksX6_nearest_1 9 rfl rfl)
theorem dX6_nearest_36 : decode cX6_nearest 36 = .ok (.aload_n 0, 1) := dk_42 (dk_at dksX6_nearest_1 12 rfl rfl)
theorem dX6_nearest_37 : decode cX6_nearest 37 = .ok (.iload_n 1, 1) := dk_27 (dk_at dksX6_nearest_1 13 rfl rfl)
theorem dX6_nearest_38 : decode cX6_nearest 38 = .ok (.iload_n 3, 1) := dk_29 (dk_at dksX6_nearest_1 14 rfl rfl)
theorem dX6_nearest_39 : decode cX6_nearest 39 = .ok (.invokevirtual 164, 3) := dk_182 0 164 (dk_at dksX6_nearest_1 15 rfl rfl)
theorem dX6_nearest_42 : decode cX6_nearest 42 = .ok (.aload_n 0, 1) := dk_42 (dk_at dksX6_nearest_1 18 rfl rfl)
theorem dX6_nearest_43 : decode cX6_nearest 43 = .ok (.iload_n 1, 1) := dk_27 (dk_at dksX6_nearest_1 19 rfl rfl)
theorem dX6_nearest_44 : decode cX6_nearest 44 = .ok (.iload_n 2, 1) := dk_28 (dk_at dksX6_nearest_1 20 rfl rfl)
theorem dX6_nearest_45 : decode cX6_nearest 45 = .ok (.invokevirtual 164, 3) := dk_182 0 164 (dk_at dksX6_nearest_1 21 rfl rfl)
theorem dX6_nearest_48 : decode cX6_nearest 48 = .ok (.if_icmp .ge 5, 3) := dk_162 0 5 (dk_at dksX6_nearest_2 0 rfl rfl)
theorem dX6_nearest_51 : decode cX6_nearest 51 = .ok (.iload_n 3, 1) := dk_29 (dk_at dksX6_nearest_2 3 rfl rfl)
theorem dX6_nearest_52 : decode cX6_nearest 52 = .ok (.istore_n 2, 1) := dk_61 (dk_at dksX6_nearest_2 4 rfl rfl)
theorem dX6_nearest_53 : decode cX6_nearest 53 = .ok (.iinc 3 1, 3) := dk_132 3 1 (dk_at dksX6_nearest_2 5 rfl rfl)
theorem dX6_nearest_56 : decode cX6_nearest 56 = .ok (.goto (-30), 3) := dk_167 255 226 (dk_at dksX6_nearest_2 8 rfl rfl)
theorem dX6_nearest_59 : decode cX6_nearest 59 = .ok (.iload_n 2, 1) := dk_28 (dk_at dksX6_nearest_2 11 rfl rfl)
theorem dX6_nearest_60 : decode cX6_nearest 60 = .ok (.ireturn, 1) := dk_172 (dk_at dksX6_nearest_2 12 rfl rfl)
abbrev cX6_far : ByteArray := prog_12_method_54_code
def yX6_far : MethodName := ⟨RX6, "far", "(II)I"⟩
def dkwX6_far_2 : List UInt8 := [29, 172]
abbrev dktX6_far_2 : List UInt8 := dkwX6_far_2 ++ []
def dkwX6_far_1 : List UInt8 := [28, 5, 21, 4, 96, 182, 0, 80, 160, 0, 7, 3, 167, 0, 4, 4, 96, 62, 132, 4, 1, 167, 255, 216]
abbrev dktX6_far_1 : List UInt8 := dkwX6_far_1 ++ dktX6_far_2
def dkwX6_far_0 : List UInt8 := [3, 62, 3, 54, 4, 21, 4, 16, 8, 162, 0, 39, 29, 42, 27, 16, 10, 21, 4, 96, 182, 0, 80, 42]
abbrev dktX6_far_0 : List UInt8 := dkwX6_far_0 ++ dktX6_far_1
theorem dksX6_far_0 : cX6_far.data.toList.drop 0 = dktX6_far_0 := by decide +kernel
theorem dksX6_far_1 : cX6_far.data.toList.drop 24 = dktX6_far_1 := dk_seg dksX6_far_0 24 rfl rfl
theorem dksX6_far_2 : cX6_far.data.toList.drop 48 = dktX6_far_2 := dk_seg dksX6_far_1 24 rfl rfl
theorem dX6_far_0 : decode cX6_far 0 = .ok (.iconst 0, 1) := dk_3 (dk_at dksX6_far_0 0 rfl rfl)
theorem dX6_far_1 : decode cX6_far 1 = .ok (.istore_n 3, 1) := dk_62 (dk_at dksX6_far_0 1 rfl rfl)
theorem dX6_far_2 : decode cX6_far 2 = .ok (.iconst 0, 1) := dk_3 (dk_at dksX6_far_0 2 rfl rfl)
theorem dX6_far_3 : decode cX6_far 3 = .ok (.istore 4, 2) := dk_54 4 (dk_at dksX6_far_0 3 rfl rfl)
theorem dX6_far_5 : decode cX6_far 5 = .ok (.iload 4, 2) := dk_21 4 (dk_at dksX6_far_0 5 rfl rfl)
theorem dX6_far_7 : decode cX6_far 7 = .ok (.bipush 8, 2) := dk_16 8 (dk_at dksX6_far_0 7 rfl rfl)
theorem dX6_far_9 : decode cX6_far 9 = .ok (.if_icmp .ge 39, 3) := dk_162 0 39 (dk_at dksX6_far_0 9 rfl rfl)
theorem dX6_far_12 : decode cX6_far 12 = .ok (.iload_n 3, 1) := dk_29 (dk_at dksX6_far_0 12 rfl rfl)
theorem dX6_far_13 : decode cX6_far 13 = .ok (.aload_n 0, 1) := dk_42 (dk_at dksX6_far_0 13 rfl rfl)
theorem dX6_far_14 : decode cX6_far 14 = .ok (.iload_n 1, 1) := dk_27 (dk_at dksX6_far_0 14 rfl rfl)
theorem dX6_far_15 : decode cX6_far 15 = .ok (.bipush 10, 2) := dk_16 10 (dk_at dksX6_far_0 15 rfl rfl)
theorem dX6_far_17 : decode cX6_far 17 = .ok (.iload 4, 2) := dk_21 4 (dk_at dksX6_far_0 17 rfl rfl)
theorem dX6_far_19 : decode cX6_far 19 = .ok (.iadd, 1) := dk_96 (dk_at dksX6_far_0 19 rfl rfl)
theorem dX6_far_20 : decode cX6_far 20 = .ok (.invokevirtual 80, 3) := dk_182 0 80 (dk_at dksX6_far_0 20 rfl rfl)
theorem dX6_far_23 : decode cX6_far 23 = .ok (.aload_n 0, 1) := dk_42 (dk_at dksX6_far_0 23 rfl rfl)
theorem dX6_far_24 : decode cX6_far 24 = .ok (.iload_n 2, 1) := dk_28 (dk_at dksX6_far_1 0 rfl rfl)
theorem dX6_far_25 : decode cX6_far 25 = .ok (.iconst 2, 1) := dk_5 (dk_at dksX6_far_1 1 rfl rfl)
theorem dX6_far_26 : decode cX6_far 26 = .ok (.iload 4, 2) := dk_21 4 (dk_at dksX6_far_1 2 rfl rfl)
theorem dX6_far_28 : decode cX6_far 28 = .ok (.iadd, 1) := dk_96 (dk_at dksX6_far_1 4 rfl rfl)
theorem dX6_far_29 : decode cX6_far 29 = .ok (.invokevirtual 80, 3) := dk_182 0 80 (dk_at dksX6_far_1 5 rfl rfl)
theorem dX6_far_32 : decode cX6_far 32 = .ok (.if_icmp .ne 7, 3) := dk_160 0 7 (dk_at dksX6_far_1 8 rfl rfl)
theorem dX6_far_35 : decode cX6_far 35 = .ok (.iconst 0, 1) := dk_3 (dk_at dksX6_far_1 11 rfl rfl)
theorem dX6_far_36 : decode cX6_far 36 = .ok (.goto 4, 3) := dk_167 0 4 (dk_at dksX6_far_1 12 rfl rfl)
theorem dX6_far_39 : decode cX6_far 39 = .ok (.iconst 1, 1) := dk_4 (dk_at dksX6_far_1 15 rfl rfl)
theorem dX6_far_40 : decode cX6_far 40 = .ok (.iadd, 1) := dk_96 (dk_at dksX6_far_1 16 rfl rfl)
theorem dX6_far_41 : decode cX6_far 41 = .ok (.istore_n 3, 1) := dk_62 (dk_at dksX6_far_1 17 rfl rfl)
theorem dX6_far_42 : decode cX6_far 42 = .ok (.iinc 4 1, 3) := dk_132 4 1 (dk_at dksX6_far_1 18 rfl rfl)
theorem dX6_far_45 : decode cX6_far 45 = .ok (.goto (-40), 3) := dk_167 255 216 (dk_at dksX6_far_1 21 rfl rfl)
theorem dX6_far_48 : decode cX6_far 48 = .ok (.iload_n 3, 1) := dk_29 (dk_at dksX6_far_2 0 rfl rfl)
theorem dX6_far_49 : decode cX6_far 49 = .ok (.ireturn, 1) := dk_172 (dk_at dksX6_far_2 1 rfl rfl)
abbrev cX6_calmIn : ByteArray := prog_12_method_56_code
def yX6_calmIn : MethodName := ⟨RX6, "calmIn", "(I)I"⟩
def dkwX6_calmIn_1 : List UInt8 := [182, 0, 124, 154, 0, 7, 3, 167, 0, 12, 42, 27, 4, 182, 0, 65, 16, 20, 100, 172]
abbrev dktX6_calmIn_1 : List UInt8 := dkwX6_calmIn_1 ++ []
def dkwX6_calmIn_0 : List UInt8 := [42, 42, 27, 182, 0, 101, 153, 0, 7, 3, 167, 0, 4, 4, 182, 0, 86, 154, 0, 11, 42, 27]
abbrev dktX6_calmIn_0 : List UInt8 := dkwX6_calmIn_0 ++ dktX6_calmIn_1
theorem dksX6_calmIn_0 : cX6_calmIn.data.toList.drop 0 = dktX6_calmIn_0 := by decide +kernel
theorem dksX6_calmIn_1 : cX6_calmIn.data.toList.drop 22 = dktX6_calmIn_1 := dk_seg dksX6_calmIn_0 22 rfl rfl
theorem dX6_calmIn_0 : decode cX6_calmIn 0 = .ok (.aload_n 0, 1) := dk_42 (dk_at dksX6_calmIn_0 0 rfl rfl)
theorem dX6_calmIn_1 : decode cX6_calmIn 1 = .ok (.aload_n 0, 1) := dk_42 (dk_at dksX6_calmIn_0 1 rfl rfl)
theorem dX6_calmIn_2 : decode cX6_calmIn 2 = .ok (.iload_n 1, 1) := dk_27 (dk_at dksX6_calmIn_0 2 rfl rfl)
theorem dX6_calmIn_3 : decode cX6_calmIn 3 = .ok (.invokevirtual 101, 3) := dk_182 0 101 (dk_at dksX6_calmIn_0 3 rfl rfl)
theorem dX6_calmIn_6 : decode cX6_calmIn 6 = .ok (.ifCond .eq 7, 3) := dk_153 0 7 (dk_at dksX6_calmIn_0 6 rfl rfl)
theorem dX6_calmIn_9 : decode cX6_calmIn 9 = .ok (.iconst 0, 1) := dk_3 (dk_at dksX6_calmIn_0 9 rfl rfl)
theorem dX6_calmIn_10 : decode cX6_calmIn 10 = .ok (.goto 4, 3) := dk_167 0 4 (dk_at dksX6_calmIn_0 10 rfl rfl)
theorem dX6_calmIn_13 : decode cX6_calmIn 13 = .ok (.iconst 1, 1) := dk_4 (dk_at dksX6_calmIn_0 13 rfl rfl)
theorem dX6_calmIn_14 : decode cX6_calmIn 14 = .ok (.invokevirtual 86, 3) := dk_182 0 86 (dk_at dksX6_calmIn_0 14 rfl rfl)
theorem dX6_calmIn_17 : decode cX6_calmIn 17 = .ok (.ifCond .ne 11, 3) := dk_154 0 11 (dk_at dksX6_calmIn_0 17 rfl rfl)
theorem dX6_calmIn_20 : decode cX6_calmIn 20 = .ok (.aload_n 0, 1) := dk_42 (dk_at dksX6_calmIn_0 20 rfl rfl)
theorem dX6_calmIn_21 : decode cX6_calmIn 21 = .ok (.iload_n 1, 1) := dk_27 (dk_at dksX6_calmIn_0 21 rfl rfl)
theorem dX6_calmIn_22 : decode cX6_calmIn 22 = .ok (.invokevirtual 124, 3) := dk_182 0 124 (dk_at dksX6_calmIn_1 0 rfl rfl)
theorem dX6_calmIn_25 : decode cX6_calmIn 25 = .ok (.ifCond .ne 7, 3) := dk_154 0 7 (dk_at dksX6_calmIn_1 3 rfl rfl)
theorem dX6_calmIn_28 : decode cX6_calmIn 28 = .ok (.iconst 0, 1) := dk_3 (dk_at dksX6_calmIn_1 6 rfl rfl)
theorem dX6_calmIn_29 : decode cX6_calmIn 29 = .ok (.goto 12, 3) := dk_167 0 12 (dk_at dksX6_calmIn_1 7 rfl rfl)
theorem dX6_calmIn_32 : decode cX6_calmIn 32 = .ok (.aload_n 0, 1) := dk_42 (dk_at dksX6_calmIn_1 10 rfl rfl)
theorem dX6_calmIn_33 : decode cX6_calmIn 33 = .ok (.iload_n 1, 1) := dk_27 (dk_at dksX6_calmIn_1 11 rfl rfl)
theorem dX6_calmIn_34 : decode cX6_calmIn 34 = .ok (.iconst 1, 1) := dk_4 (dk_at dksX6_calmIn_1 12 rfl rfl)
theorem dX6_calmIn_35 : decode cX6_calmIn 35 = .ok (.invokevirtual 65, 3) := dk_182 0 65 (dk_at dksX6_calmIn_1 13 rfl rfl)
theorem dX6_calmIn_38 : decode cX6_calmIn 38 = .ok (.bipush 20, 2) := dk_16 20 (dk_at dksX6_calmIn_1 16 rfl rfl)
theorem dX6_calmIn_40 : decode cX6_calmIn 40 = .ok (.isub, 1) := dk_100 (dk_at dksX6_calmIn_1 18 rfl rfl)
theorem dX6_calmIn_41 : decode cX6_calmIn 41 = .ok (.ireturn, 1) := dk_172 (dk_at dksX6_calmIn_1 19 rfl rfl)
abbrev cX6_ashamed : ByteArray := prog_12_method_58_code
def yX6_ashamed : MethodName := ⟨RX6, "ashamed", "(I)I"⟩
def dkwX6_ashamed_3 : List UInt8 := [167, 255, 188, 42, 4, 181, 0, 36, 3, 172]
abbrev dktX6_ashamed_3 : List UInt8 := dkwX6_ashamed_3 ++ []
def dkwX6_ashamed_2 : List UInt8 := [132, 4, 1, 167, 255, 224, 29, 27, 159, 0, 6, 167, 0, 10, 42, 3, 181, 0, 36, 28, 172, 132, 2, 1]
abbrev dktX6_ashamed_2 : List UInt8 := dkwX6_ashamed_2 ++ dktX6_ashamed_3
def dkwX6_ashamed_1 : List UInt8 := [46, 162, 0, 27, 29, 42, 21, 4, 28, 182, 0, 167, 153, 0, 7, 4, 167, 0, 4, 3, 96, 62]
abbrev dktX6_ashamed_1 : List UInt8 := dkwX6_ashamed_1 ++ dktX6_ashamed_2
def dkwX6_ashamed_0 : List UInt8 := [3, 61, 28, 42, 180, 0, 7, 3, 46, 162, 0, 64, 3, 62, 3, 54, 4, 21, 4, 42, 180, 0, 7, 3]
abbrev dktX6_ashamed_0 : List UInt8 := dkwX6_ashamed_0 ++ dktX6_ashamed_1
theorem dksX6_ashamed_0 : cX6_ashamed.data.toList.drop 0 = dktX6_ashamed_0 := by decide +kernel
theorem dksX6_ashamed_1 : cX6_ashamed.data.toList.drop 24 = dktX6_ashamed_1 := dk_seg dksX6_ashamed_0 24 rfl rfl
theorem dksX6_ashamed_2 : cX6_ashamed.data.toList.drop 46 = dktX6_ashamed_2 := dk_seg dksX6_ashamed_1 22 rfl rfl
theorem dksX6_ashamed_3 : cX6_ashamed.data.toList.drop 70 = dktX6_ashamed_3 := dk_seg dksX6_ashamed_2 24 rfl rfl
theorem dX6_ashamed_0 : decode cX6_ashamed 0 = .ok (.iconst 0, 1) := dk_3 (dk_at dksX6_ashamed_0 0 rfl rfl)
theorem dX6_ashamed_1 : decode cX6_ashamed 1 = .ok (.istore_n 2, 1) := dk_61 (dk_at dksX6_ashamed_0 1 rfl rfl)
theorem dX6_ashamed_2 : decode cX6_ashamed 2 = .ok (.iload_n 2, 1) := dk_28 (dk_at dksX6_ashamed_0 2 rfl rfl)
theorem dX6_ashamed_3 : decode cX6_ashamed 3 = .ok (.aload_n 0, 1) := dk_42 (dk_at dksX6_ashamed_0 3 rfl rfl)
theorem dX6_ashamed_4 : decode cX6_ashamed 4 = .ok (.getfield 7, 3) := dk_180 0 7 (dk_at dksX6_ashamed_0 4 rfl rfl)
theorem dX6_ashamed_7 : decode cX6_ashamed 7 = .ok (.iconst 0, 1) := dk_3 (dk_at dksX6_ashamed_0 7 rfl rfl)
theorem dX6_ashamed_8 : decode cX6_ashamed 8 = .ok (.iaload, 1) := dk_46 (dk_at dksX6_ashamed_0 8 rfl rfl)
theorem dX6_ashamed_9 : decode cX6_ashamed 9 = .ok (.if_icmp .ge 64, 3) := dk_162 0 64 (dk_at dksX6_ashamed_0 9 rfl rfl)
theorem dX6_ashamed_12 : decode cX6_ashamed 12 = .ok (.iconst 0, 1) := dk_3 (dk_at dksX6_ashamed_0 12 rfl rfl)
theorem dX6_ashamed_13 : decode cX6_ashamed 13 = .ok (.istore_n 3, 1) := dk_62 (dk_at dksX6_ashamed_0 13 rfl rfl)
theorem dX6_ashamed_14 : decode cX6_ashamed 14 = .ok (.iconst 0, 1) := dk_3 (dk_at dksX6_ashamed_0 14 rfl rfl)
theorem dX6_ashamed_15 : decode cX6_ashamed 15 = .ok (.istore 4, 2) := dk_54 4 (dk_at dksX6_ashamed_0 15 rfl rfl)
theorem dX6_ashamed_17 : decode cX6_ashamed 17 = .ok (.iload 4, 2) := dk_21 4 (dk_at dksX6_ashamed_0 17 rfl rfl)
theorem dX6_ashamed_19 : decode cX6_ashamed 19 = .ok (.aload_n 0, 1) := dk_42 (dk_at dksX6_ashamed_0 19 rfl rfl)
theorem dX6_ashamed_20 : decode cX6_ashamed 20 = .ok (.getfield 7, 3) := dk_180 0 7 (dk_at dksX6_ashamed_0 20 rfl rfl)
theorem dX6_ashamed_23 : decode cX6_ashamed 23 = .ok (.iconst 0, 1) := dk_3 (dk_at dksX6_ashamed_0 23 rfl rfl)
theorem dX6_ashamed_24 : decode cX6_ashamed 24 = .ok (.iaload, 1) := dk_46 (dk_at dksX6_ashamed_1 0 rfl rfl)
theorem dX6_ashamed_25 : decode cX6_ashamed 25 = .ok (.if_icmp .ge 27, 3) := dk_162 0 27 (dk_at dksX6_ashamed_1 1 rfl rfl)
theorem dX6_ashamed_28 : decode cX6_ashamed 28 = .ok (.iload_n 3, 1) := dk_29 (dk_at dksX6_ashamed_1 4 rfl rfl)
theorem dX6_ashamed_29 : decode cX6_ashamed 29 = .ok (.aload_n 0, 1) := dk_42 (dk_at dksX6_ashamed_1 5 rfl rfl)
theorem dX6_ashamed_30 : decode cX6_ashamed 30 = .ok (.iload 4, 2) := dk_21 4 (dk_at dksX6_ashamed_1 6 rfl rfl)
theorem dX6_ashamed_32 : decode cX6_ashamed 32 = .ok (.iload_n 2, 1) := dk_28 (dk_at dksX6_ashamed_1 8 rfl rfl)
theorem dX6_ashamed_33 : decode cX6_ashamed 33 = .ok (.invokevirtual 167, 3) := dk_182 0 167 (dk_at dksX6_ashamed_1 9 rfl rfl)
theorem dX6_ashamed_36 : decode cX6_ashamed 36 = .ok (.ifCond .eq 7, 3) := dk_153 0 7 (dk_at dksX6_ashamed_1 12 rfl rfl)
theorem dX6_ashamed_39 : decode cX6_ashamed 39 = .ok (.iconst 1, 1) := dk_4 (dk_at dksX6_ashamed_1 15 rfl rfl)
theorem dX6_ashamed_40 : decode cX6_ashamed 40 = .ok (.goto 4, 3) := dk_167 0 4 (dk_at dksX6_ashamed_1 16 rfl rfl)
theorem dX6_ashamed_43 : decode cX6_ashamed 43 = .ok (.iconst 0, 1) := dk_3 (dk_at dksX6_ashamed_1 19 rfl rfl)
theorem dX6_ashamed_44 : decode cX6_ashamed 44 = .ok (.iadd, 1) := dk_96 (dk_at dksX6_ashamed_1 20 rfl rfl)
theorem dX6_ashamed_45 : decode cX6_ashamed 45 = .ok (.istore_n 3, 1) := dk_62 (dk_at dksX6_ashamed_1 21 rfl rfl)
theorem dX6_ashamed_46 : decode cX6_ashamed 46 = .ok (.iinc 4 1, 3) := dk_132 4 1 (dk_at dksX6_ashamed_2 0 rfl rfl)
theorem dX6_ashamed_49 : decode cX6_ashamed 49 = .ok (.goto (-32), 3) := dk_167 255 224 (dk_at dksX6_ashamed_2 3 rfl rfl)
theorem dX6_ashamed_52 : decode cX6_ashamed 52 = .ok (.iload_n 3, 1) := dk_29 (dk_at dksX6_ashamed_2 6 rfl rfl)
theorem dX6_ashamed_53 : decode cX6_ashamed 53 = .ok (.iload_n 1, 1) := dk_27 (dk_at dksX6_ashamed_2 7 rfl rfl)
theorem dX6_ashamed_54 : decode cX6_ashamed 54 = .ok (.if_icmp .eq 6, 3) := dk_159 0 6 (dk_at dksX6_ashamed_2 8 rfl rfl)
theorem dX6_ashamed_57 : decode cX6_ashamed 57 = .ok (.goto 10, 3) := dk_167 0 10 (dk_at dksX6_ashamed_2 11 rfl rfl)
theorem dX6_ashamed_60 : decode cX6_ashamed 60 = .ok (.aload_n 0, 1) := dk_42 (dk_at dksX6_ashamed_2 14 rfl rfl)
theorem dX6_ashamed_61 : decode cX6_ashamed 61 = .ok (.iconst 0, 1) := dk_3 (dk_at dksX6_ashamed_2 15 rfl rfl)
theorem dX6_ashamed_62 : decode cX6_ashamed 62 = .ok (.putfield 36, 3) := dk_181 0 36 (dk_at dksX6_ashamed_2 16 rfl rfl)
theorem dX6_ashamed_65 : decode cX6_ashamed 65 = .ok (.iload_n 2, 1) := dk_28 (dk_at dksX6_ashamed_2 19 rfl rfl)
theorem dX6_ashamed_66 : decode cX6_ashamed 66 = .ok (.ireturn, 1) := dk_172 (dk_at dksX6_ashamed_2 20 rfl rfl)
theorem dX6_ashamed_67 : decode cX6_ashamed 67 = .ok (.iinc 2 1, 3) := dk_132 2 1 (dk_at dksX6_ashamed_2 21 rfl rfl)
theorem dX6_ashamed_70 : decode cX6_ashamed 70 = .ok (.goto (-68), 3) := dk_167 255 188 (dk_at dksX6_ashamed_3 0 rfl rfl)
theorem dX6_ashamed_73 : decode cX6_ashamed 73 = .ok (.aload_n 0, 1) := dk_42 (dk_at dksX6_ashamed_3 3 rfl rfl)
theorem dX6_ashamed_74 : decode cX6_ashamed 74 = .ok (.iconst 1, 1) := dk_4 (dk_at dksX6_ashamed_3 4 rfl rfl)
theorem dX6_ashamed_75 : decode cX6_ashamed 75 = .ok (.putfield 36, 3) := dk_181 0 36 (dk_at dksX6_ashamed_3 5 rfl rfl)
theorem dX6_ashamed_78 : decode cX6_ashamed 78 = .ok (.iconst 0, 1) := dk_3 (dk_at dksX6_ashamed_3 8 rfl rfl)
theorem dX6_ashamed_79 : decode cX6_ashamed 79 = .ok (.ireturn, 1) := dk_172 (dk_at dksX6_ashamed_3 9 rfl rfl)
abbrev cX6_isMoreAshamed : ByteArray := prog_12_method_57_code
def yX6_isMoreAshamed : MethodName := ⟨RX6, "isMoreAshamed", "(II)Z"⟩
def dkwX6_isMoreAshamed_2 : List UInt8 := [155, 0, 13, 21, 4, 154, 0, 12, 27, 28, 162, 0, 7, 4, 167, 0, 4, 3, 172]
abbrev dktX6_isMoreAshamed_2 : List UInt8 := dkwX6_isMoreAshamed_2 ++ []
def dkwX6_isMoreAshamed_1 : List UInt8 := [167, 0, 4, 3, 172, 42, 27, 3, 182, 0, 65, 42, 28, 3, 182, 0, 65, 100, 54, 4, 21, 4]
abbrev dktX6_isMoreAshamed_1 : List UInt8 := dkwX6_isMoreAshamed_1 ++ dktX6_isMoreAshamed_2
def dkwX6_isMoreAshamed_0 : List UInt8 := [42, 27, 4, 182, 0, 65, 42, 28, 4, 182, 0, 65, 100, 62, 29, 153, 0, 13, 29, 158, 0, 7, 4]
abbrev dktX6_isMoreAshamed_0 : List UInt8 := dkwX6_isMoreAshamed_0 ++ dktX6_isMoreAshamed_1
theorem dksX6_isMoreAshamed_0 : cX6_isMoreAshamed.data.toList.drop 0 = dktX6_isMoreAshamed_0 := by decide +kernel
theorem dksX6_isMoreAshamed_1 : cX6_isMoreAshamed.data.toList.drop 23 = dktX6_isMoreAshamed_1 := dk_seg dksX6_isMoreAshamed_0 23 rfl rfl
theorem dksX6_isMoreAshamed_2 : cX6_isMoreAshamed.data.toList.drop 45 = dktX6_isMoreAshamed_2 := dk_seg dksX6_isMoreAshamed_1 22 rfl rfl
theorem dX6_isMoreAshamed_0 : decode cX6_isMoreAshamed 0 = .ok (.aload_n 0, 1) := dk_42 (dk_at dksX6_isMoreAshamed_0 0 rfl rfl)
theorem dX6_isMoreAshamed_1 : decode cX6_isMoreAshamed 1 = .ok (.iload_n 1, 1) := dk_27 (dk_at dksX6_isMoreAshamed_0 1 rfl rfl)
theorem dX6_isMoreAshamed_2 : decode cX6_isMoreAshamed 2 = .ok (.iconst 1, 1) := dk_4 (dk_at dksX6_isMoreAshamed_0 2 rfl rfl)
theorem dX6_isMoreAshamed_3 : decode cX6_isMoreAshamed 3 = .ok (.invokevirtual 65, 3) := dk_182 0 65 (dk_at dksX6_isMoreAshamed_0 3 rfl rfl)
theorem dX6_isMoreAshamed_6 : decode cX6_isMoreAshamed 6 = .ok (.aload_n 0, 1) := dk_42 (dk_at dksX6_isMoreAshamed_0 6 rfl rfl)
theorem dX6_isMoreAshamed_7 : decode cX6_isMoreAshamed 7 = .ok (.iload_n 2, 1) := dk_28 (dk_at dksX6_isMoreAshamed_0 7 rfl rfl)
theorem dX6_isMoreAshamed_8 : decode cX6_isMoreAshamed 8 = .ok (.iconst 1, 1) := dk_4 (dk_at dksX6_isMoreAshamed_0 8 rfl rfl)
theorem dX6_isMoreAshamed_9 : decode cX6_isMoreAshamed 9 = .ok (.invokevirtual 65, 3) := dk_182 0 65 (dk_at dksX6_isMoreAshamed_0 9 rfl rfl)
theorem dX6_isMoreAshamed_12 : decode cX6_isMoreAshamed 12 = .ok (.isub, 1) := dk_100 (dk_at dksX6_isMoreAshamed_0 12 rfl rfl)
theorem dX6_isMoreAshamed_13 : decode cX6_isMoreAshamed 13 = .ok (.istore_n 3, 1) := dk_62 (dk_at dksX6_isMoreAshamed_0 13 rfl rfl)
theorem dX6_isMoreAshamed_14 : decode cX6_isMoreAshamed 14 = .ok (.iload_n 3, 1) := dk_29 (dk_at dksX6_isMoreAshamed_0 14 rfl rfl)
theorem dX6_isMoreAshamed_15 : decode cX6_isMoreAshamed 15 = .ok (.ifCond .eq 13, 3) := dk_153 0 13 (dk_at dksX6_isMoreAshamed_0 15 rfl rfl)
theorem dX6_isMoreAshamed_18 : decode cX6_isMoreAshamed 18 = .ok (.iload_n 3, 1) := dk_29 (dk_at dksX6_isMoreAshamed_0 18 rfl rfl)
theorem dX6_isMoreAshamed_19 : decode cX6_isMoreAshamed 19 = .ok (.ifCond .le 7, 3) := dk_158 0 7 (dk_at dksX6_isMoreAshamed_0 19 rfl rfl)
theorem dX6_isMoreAshamed_22 : decode cX6_isMoreAshamed 22 = .ok (.iconst 1, 1) := dk_4 (dk_at dksX6_isMoreAshamed_0 22 rfl rfl)
theorem dX6_isMoreAshamed_23 : decode cX6_isMoreAshamed 23 = .ok (.goto 4, 3) := dk_167 0 4 (dk_at dksX6_isMoreAshamed_1 0 rfl rfl)
theorem dX6_isMoreAshamed_26 : decode cX6_isMoreAshamed 26 = .ok (.iconst 0, 1) := dk_3 (dk_at dksX6_isMoreAshamed_1 3 rfl rfl)
theorem dX6_isMoreAshamed_27 : decode cX6_isMoreAshamed 27 = .ok (.ireturn, 1) := dk_172 (dk_at dksX6_isMoreAshamed_1 4 rfl rfl)
theorem dX6_isMoreAshamed_28 : decode cX6_isMoreAshamed 28 = .ok (.aload_n 0, 1) := dk_42 (dk_at dksX6_isMoreAshamed_1 5 rfl rfl)
theorem dX6_isMoreAshamed_29 : decode cX6_isMoreAshamed 29 = .ok (.iload_n 1, 1) := dk_27 (dk_at dksX6_isMoreAshamed_1 6 rfl rfl)
theorem dX6_isMoreAshamed_30 : decode cX6_isMoreAshamed 30 = .ok (.iconst 0, 1) := dk_3 (dk_at dksX6_isMoreAshamed_1 7 rfl rfl)
theorem dX6_isMoreAshamed_31 : decode cX6_isMoreAshamed 31 = .ok (.invokevirtual 65, 3) := dk_182 0 65 (dk_at dksX6_isMoreAshamed_1 8 rfl rfl)
theorem dX6_isMoreAshamed_34 : decode cX6_isMoreAshamed 34 = .ok (.aload_n 0, 1) := dk_42 (dk_at dksX6_isMoreAshamed_1 11 rfl rfl)
theorem dX6_isMoreAshamed_35 : decode cX6_isMoreAshamed 35 = .ok (.iload_n 2, 1) := dk_28 (dk_at dksX6_isMoreAshamed_1 12 rfl rfl)
theorem dX6_isMoreAshamed_36 : decode cX6_isMoreAshamed 36 = .ok (.iconst 0, 1) := dk_3 (dk_at dksX6_isMoreAshamed_1 13 rfl rfl)
theorem dX6_isMoreAshamed_37 : decode cX6_isMoreAshamed 37 = .ok (.invokevirtual 65, 3) := dk_182 0 65 (dk_at dksX6_isMoreAshamed_1 14 rfl rfl)
theorem dX6_isMoreAshamed_40 : decode cX6_isMoreAshamed 40 = .ok (.isub, 1) := dk_100 (dk_at dksX6_isMoreAshamed_1 17 rfl rfl)
theorem dX6_isMoreAshamed_41 : decode cX6_isMoreAshamed 41 = .ok (.istore 4, 2) := dk_54 4 (dk_at dksX6_isMoreAshamed_1 18 rfl rfl)
theorem dX6_isMoreAshamed_43 : decode cX6_isMoreAshamed 43 = .ok (.iload 4, 2) := dk_21 4 (dk_at dksX6_isMoreAshamed_1 20 rfl rfl)
theorem dX6_isMoreAshamed_45 : decode cX6_isMoreAshamed 45 = .ok (.ifCond .lt 13, 3) := dk_155 0 13 (dk_at dksX6_isMoreAshamed_2 0 rfl rfl)
theorem dX6_isMoreAshamed_48 : decode cX6_isMoreAshamed 48 = .ok (.iload 4, 2) := dk_21 4 (dk_at dksX6_isMoreAshamed_2 3 rfl rfl)
theorem dX6_isMoreAshamed_50 : decode cX6_isMoreAshamed 50 = .ok (.ifCond .ne 12, 3) := dk_154 0 12 (dk_at dksX6_isMoreAshamed_2 5 rfl rfl)
theorem dX6_isMoreAshamed_53 : decode cX6_isMoreAshamed 53 = .ok (.iload_n 1, 1) := dk_27 (dk_at dksX6_isMoreAshamed_2 8 rfl rfl)
theorem dX6_isMoreAshamed_54 : decode cX6_isMoreAshamed 54 = .ok (.iload_n 2, 1) := dk_28 (dk_at dksX6_isMoreAshamed_2 9 rfl rfl)
theorem dX6_isMoreAshamed_55 : decode cX6_isMoreAshamed 55 = .ok (.if_icmp .ge 7, 3) := dk_162 0 7 (dk_at dksX6_isMoreAshamed_2 10 rfl rfl)
theorem dX6_isMoreAshamed_58 : decode cX6_isMoreAshamed 58 = .ok (.iconst 1, 1) := dk_4 (dk_at dksX6_isMoreAshamed_2 13 rfl rfl)
theorem dX6_isMoreAshamed_59 : decode cX6_isMoreAshamed 59 = .ok (.goto 4, 3) := dk_167 0 4 (dk_at dksX6_isMoreAshamed_2 14 rfl rfl)
theorem dX6_isMoreAshamed_62 : decode cX6_isMoreAshamed 62 = .ok (.iconst 0, 1) := dk_3 (dk_at dksX6_isMoreAshamed_2 17 rfl rfl)
theorem dX6_isMoreAshamed_63 : decode cX6_isMoreAshamed 63 = .ok (.ireturn, 1) := dk_172 (dk_at dksX6_isMoreAshamed_2 18 rfl rfl)
abbrev cX6_worst : ByteArray := prog_12_method_60_code
def yX6_worst : MethodName := ⟨RX6, "worst", "(I)I"⟩
def dkwX6_worst_3 : List UInt8 := [167, 255, 188, 42, 4, 181, 0, 36, 3, 172]
abbrev dktX6_worst_3 : List UInt8 := dkwX6_worst_3 ++ []
def dkwX6_worst_2 : List UInt8 := [132, 4, 1, 167, 255, 224, 29, 27, 159, 0, 6, 167, 0, 10, 42, 3, 181, 0, 36, 28, 172, 132, 2, 1]
abbrev dktX6_worst_2 : List UInt8 := dkwX6_worst_2 ++ dktX6_worst_3
def dkwX6_worst_1 : List UInt8 := [46, 162, 0, 27, 29, 42, 21, 4, 28, 182, 0, 170, 153, 0, 7, 4, 167, 0, 4, 3, 96, 62]
abbrev dktX6_worst_1 : List UInt8 := dkwX6_worst_1 ++ dktX6_worst_2
def dkwX6_worst_0 : List UInt8 := [3, 61, 28, 42, 180, 0, 7, 4, 46, 162, 0, 64, 3, 62, 3, 54, 4, 21, 4, 42, 180, 0, 7, 4]
abbrev dktX6_worst_0 : List UInt8 := dkwX6_worst_0 ++ dktX6_worst_1
theorem dksX6_worst_0 : cX6_worst.data.toList.drop 0 = dktX6_worst_0 := by decide +kernel
theorem dksX6_worst_1 : cX6_worst.data.toList.drop 24 = dktX6_worst_1 := dk_seg dksX6_worst_0 24 rfl rfl
theorem dksX6_worst_2 : cX6_worst.data.toList.drop 46 = dktX6_worst_2 := dk_seg dksX6_worst_1 22 rfl rfl
theorem dksX6_worst_3 : cX6_worst.data.toList.drop 70 = dktX6_worst_3 := dk_seg dksX6_worst_2 24 rfl rfl
theorem dX6_worst_0 : decode cX6_worst 0 = .ok (.iconst 0, 1) := dk_3 (dk_at dksX6_worst_0 0 rfl rfl)
theorem dX6_worst_1 : decode cX6_worst 1 = .ok (.istore_n 2, 1) := dk_61 (dk_at dksX6_worst_0 1 rfl rfl)
theorem dX6_worst_2 : decode cX6_worst 2 = .ok (.iload_n 2, 1) := dk_28 (dk_at dksX6_worst_0 2 rfl rfl)
theorem dX6_worst_3 : decode cX6_worst 3 = .ok (.aload_n 0, 1) := dk_42 (dk_at dksX6_worst_0 3 rfl rfl)
theorem dX6_worst_4 : decode cX6_worst 4 = .ok (.getfield 7, 3) := dk_180 0 7 (dk_at dksX6_worst_0 4 rfl rfl)
theorem dX6_worst_7 : decode cX6_worst 7 = .ok (.iconst 1, 1) := dk_4 (dk_at dksX6_worst_0 7 rfl rfl)
theorem dX6_worst_8 : decode cX6_worst 8 = .ok (.iaload, 1) := dk_46 (dk_at dksX6_worst_0 8 rfl rfl)
theorem dX6_worst_9 : decode cX6_worst 9 = .ok (.if_icmp .ge 64, 3) := dk_162 0 64 (dk_at dksX6_worst_0 9 rfl rfl)
theorem dX6_worst_12 : decode cX6_worst 12 = .ok (.iconst 0, 1) := dk_3 (dk_at dksX6_worst_0 12 rfl rfl)
theorem dX6_worst_13 : decode cX6_worst 13 = .ok (.istore_n 3, 1) := dk_62 (dk_at dksX6_worst_0 13 rfl rfl)
theorem dX6_worst_14 : decode cX6_worst 14 = .ok (.iconst 0, 1) := dk_3 (dk_at dksX6_worst_0 14 rfl rfl)
theorem dX6_worst_15 : decode cX6_worst 15 = .ok (.istore 4, 2) := dk_54 4 (dk_at dksX6_worst_0 15 rfl rfl)
theorem dX6_worst_17 : decode cX6_worst 17 = .ok (.iload 4, 2) := dk_21 4 (dk_at dksX6_worst_0 17 rfl rfl)
theorem dX6_worst_19 : decode cX6_worst 19 = .ok (.aload_n 0, 1) := dk_42 (dk_at dksX6_worst_0 19 rfl rfl)
theorem dX6_worst_20 : decode cX6_worst 20 = .ok (.getfield 7, 3) := dk_180 0 7 (dk_at dksX6_worst_0 20 rfl rfl)
theorem dX6_worst_23 : decode cX6_worst 23 = .ok (.iconst 1, 1) := dk_4 (dk_at dksX6_worst_0 23 rfl rfl)
theorem dX6_worst_24 : decode cX6_worst 24 = .ok (.iaload, 1) := dk_46 (dk_at dksX6_worst_1 0 rfl rfl)
theorem dX6_worst_25 : decode cX6_worst 25 = .ok (.if_icmp .ge 27, 3) := dk_162 0 27 (dk_at dksX6_worst_1 1 rfl rfl)
theorem dX6_worst_28 : decode cX6_worst 28 = .ok (.iload_n 3, 1) := dk_29 (dk_at dksX6_worst_1 4 rfl rfl)
theorem dX6_worst_29 : decode cX6_worst 29 = .ok (.aload_n 0, 1) := dk_42 (dk_at dksX6_worst_1 5 rfl rfl)
theorem dX6_worst_30 : decode cX6_worst 30 = .ok (.iload 4, 2) := dk_21 4 (dk_at dksX6_worst_1 6 rfl rfl)
theorem dX6_worst_32 : decode cX6_worst 32 = .ok (.iload_n 2, 1) := dk_28 (dk_at dksX6_worst_1 8 rfl rfl)
theorem dX6_worst_33 : decode cX6_worst 33 = .ok (.invokevirtual 170, 3) := dk_182 0 170 (dk_at dksX6_worst_1 9 rfl rfl)
theorem dX6_worst_36 : decode cX6_worst 36 = .ok (.ifCond .eq 7, 3) := dk_153 0 7 (dk_at dksX6_worst_1 12 rfl rfl)
theorem dX6_worst_39 : decode cX6_worst 39 = .ok (.iconst 1, 1) := dk_4 (dk_at dksX6_worst_1 15 rfl rfl)
theorem dX6_worst_40 : decode cX6_worst 40 = .ok (.goto 4, 3) := dk_167 0 4 (dk_at dksX6_worst_1 16 rfl rfl)
theorem dX6_worst_43 : decode cX6_worst 43 = .ok (.iconst 0, 1) := dk_3 (dk_at dksX6_worst_1 19 rfl rfl)
theorem dX6_worst_44 : decode cX6_worst 44 = .ok (.iadd, 1) := dk_96 (dk_at dksX6_worst_1 20 rfl rfl)
theorem dX6_worst_45 : decode cX6_worst 45 = .ok (.istore_n 3, 1) := dk_62 (dk_at dksX6_worst_1 21 rfl rfl)
theorem dX6_worst_46 : decode cX6_worst 46 = .ok (.iinc 4 1, 3) := dk_132 4 1 (dk_at dksX6_worst_2 0 rfl rfl)
theorem dX6_worst_49 : decode cX6_worst 49 = .ok (.goto (-32), 3) := dk_167 255 224 (dk_at dksX6_worst_2 3 rfl rfl)
theorem dX6_worst_52 : decode cX6_worst 52 = .ok (.iload_n 3, 1) := dk_29 (dk_at dksX6_worst_2 6 rfl rfl)
theorem dX6_worst_53 : decode cX6_worst 53 = .ok (.iload_n 1, 1) := dk_27 (dk_at dksX6_worst_2 7 rfl rfl)
theorem dX6_worst_54 : decode cX6_worst 54 = .ok (.if_icmp .eq 6, 3) := dk_159 0 6 (dk_at dksX6_worst_2 8 rfl rfl)
theorem dX6_worst_57 : decode cX6_worst 57 = .ok (.goto 10, 3) := dk_167 0 10 (dk_at dksX6_worst_2 11 rfl rfl)
theorem dX6_worst_60 : decode cX6_worst 60 = .ok (.aload_n 0, 1) := dk_42 (dk_at dksX6_worst_2 14 rfl rfl)
theorem dX6_worst_61 : decode cX6_worst 61 = .ok (.iconst 0, 1) := dk_3 (dk_at dksX6_worst_2 15 rfl rfl)
theorem dX6_worst_62 : decode cX6_worst 62 = .ok (.putfield 36, 3) := dk_181 0 36 (dk_at dksX6_worst_2 16 rfl rfl)
theorem dX6_worst_65 : decode cX6_worst 65 = .ok (.iload_n 2, 1) := dk_28 (dk_at dksX6_worst_2 19 rfl rfl)
theorem dX6_worst_66 : decode cX6_worst 66 = .ok (.ireturn, 1) := dk_172 (dk_at dksX6_worst_2 20 rfl rfl)
theorem dX6_worst_67 : decode cX6_worst 67 = .ok (.iinc 2 1, 3) := dk_132 2 1 (dk_at dksX6_worst_2 21 rfl rfl)
theorem dX6_worst_70 : decode cX6_worst 70 = .ok (.goto (-68), 3) := dk_167 255 188 (dk_at dksX6_worst_3 0 rfl rfl)
theorem dX6_worst_73 : decode cX6_worst 73 = .ok (.aload_n 0, 1) := dk_42 (dk_at dksX6_worst_3 3 rfl rfl)
theorem dX6_worst_74 : decode cX6_worst 74 = .ok (.iconst 1, 1) := dk_4 (dk_at dksX6_worst_3 4 rfl rfl)
theorem dX6_worst_75 : decode cX6_worst 75 = .ok (.putfield 36, 3) := dk_181 0 36 (dk_at dksX6_worst_3 5 rfl rfl)
theorem dX6_worst_78 : decode cX6_worst 78 = .ok (.iconst 0, 1) := dk_3 (dk_at dksX6_worst_3 8 rfl rfl)
theorem dX6_worst_79 : decode cX6_worst 79 = .ok (.ireturn, 1) := dk_172 (dk_at dksX6_worst_3 9 rfl rfl)
abbrev cX6_isWorse : ByteArray := prog_12_method_59_code
def yX6_isWorse : MethodName := ⟨RX6, "isWorse", "(II)Z"⟩
def dkwX6_isWorse_2 : List UInt8 := [154, 0, 12, 27, 28, 162, 0, 7, 4, 167, 0, 4, 3, 172]
abbrev dktX6_isWorse_2 : List UInt8 := dkwX6_isWorse_2 ++ []
def dkwX6_isWorse_1 : List UInt8 := [3, 172, 42, 27, 4, 182, 0, 118, 42, 28, 4, 182, 0, 118, 100, 54, 4, 21, 4, 157, 0, 13, 21, 4]
abbrev dktX6_isWorse_1 : List UInt8 := dkwX6_isWorse_1 ++ dktX6_isWorse_2
def dkwX6_isWorse_0 : List UInt8 := [42, 27, 182, 0, 152, 42, 28, 182, 0, 152, 100, 62, 29, 153, 0, 13, 29, 158, 0, 7, 4, 167, 0, 4]
abbrev dktX6_isWorse_0 : List UInt8 := dkwX6_isWorse_0 ++ dktX6_isWorse_1
theorem dksX6_isWorse_0 : cX6_isWorse.data.toList.drop 0 = dktX6_isWorse_0 := by decide +kernel
theorem dksX6_isWorse_1 : cX6_isWorse.data.toList.drop 24 = dktX6_isWorse_1 := dk_seg dksX6_isWorse_0 24 rfl rfl
theorem dksX6_isWorse_2 : cX6_isWorse.data.toList.drop 48 = dktX6_isWorse_2 := dk_seg dksX6_isWorse_1 24 rfl rfl
theorem dX6_isWorse_0 : decode cX6_isWorse 0 = .ok (.aload_n 0, 1) := dk_42 (dk_at dksX6_isWorse_0 0 rfl rfl)
theorem dX6_isWorse_1 : decode cX6_isWorse 1 = .ok (.iload_n 1, 1) := dk_27 (dk_at dksX6_isWorse_0 1 rfl rfl)
theorem dX6_isWorse_2 : decode cX6_isWorse 2 = .ok (.invokevirtual 152, 3) := dk_182 0 152 (dk_at dksX6_isWorse_0 2 rfl rfl)
theorem dX6_isWorse_5 : decode cX6_isWorse 5 = .ok (.aload_n 0, 1) := dk_42 (dk_at dksX6_isWorse_0 5 rfl rfl)
theorem dX6_isWorse_6 : decode cX6_isWorse 6 = .ok (.iload_n 2, 1) := dk_28 (dk_at dksX6_isWorse_0 6 rfl rfl)
theorem dX6_isWorse_7 : decode cX6_isWorse 7 = .ok (.invokevirtual 152, 3) := dk_182 0 152 (dk_at dksX6_isWorse_0 7 rfl rfl)
theorem dX6_isWorse_10 : decode cX6_isWorse 10 = .ok (.isub, 1) := dk_100 (dk_at dksX6_isWorse_0 10 rfl rfl)
theorem dX6_isWorse_11 : decode cX6_isWorse 11 = .ok (.istore_n 3, 1) := dk_62 (dk_at dksX6_isWorse_0 11 rfl rfl)
theorem dX6_isWorse_12 : decode cX6_isWorse 12 = .ok (.iload_n 3, 1) := dk_29 (dk_at dksX6_isWorse_0 12 rfl rfl)
theorem dX6_isWorse_13 : decode cX6_isWorse 13 = .ok (.ifCond .eq 13, 3) := dk_153 0 13 (dk_at dksX6_isWorse_0 13 rfl rfl)
theorem dX6_isWorse_16 : decode cX6_isWorse 16 = .ok (.iload_n 3, 1) := dk_29 (dk_at dksX6_isWorse_0 16 rfl rfl)
theorem dX6_isWorse_17 : decode cX6_isWorse 17 = .ok (.ifCond .le 7, 3) := dk_158 0 7 (dk_at dksX6_isWorse_0 17 rfl rfl)
theorem dX6_isWorse_20 : decode cX6_isWorse 20 = .ok (.iconst 1, 1) := dk_4 (dk_at dksX6_isWorse_0 20 rfl rfl)
theorem dX6_isWorse_21 : decode cX6_isWorse 21 = .ok (.goto 4, 3) := dk_167 0 4 (dk_at dksX6_isWorse_0 21 rfl rfl)
theorem dX6_isWorse_24 : decode cX6_isWorse 24 = .ok (.iconst 0, 1) := dk_3 (dk_at dksX6_isWorse_1 0 rfl rfl)
theorem dX6_isWorse_25 : decode cX6_isWorse 25 = .ok (.ireturn, 1) := dk_172 (dk_at dksX6_isWorse_1 1 rfl rfl)
theorem dX6_isWorse_26 : decode cX6_isWorse 26 = .ok (.aload_n 0, 1) := dk_42 (dk_at dksX6_isWorse_1 2 rfl rfl)
theorem dX6_isWorse_27 : decode cX6_isWorse 27 = .ok (.iload_n 1, 1) := dk_27 (dk_at dksX6_isWorse_1 3 rfl rfl)
theorem dX6_isWorse_28 : decode cX6_isWorse 28 = .ok (.iconst 1, 1) := dk_4 (dk_at dksX6_isWorse_1 4 rfl rfl)
theorem dX6_isWorse_29 : decode cX6_isWorse 29 = .ok (.invokevirtual 118, 3) := dk_182 0 118 (dk_at dksX6_isWorse_1 5 rfl rfl)
theorem dX6_isWorse_32 : decode cX6_isWorse 32 = .ok (.aload_n 0, 1) := dk_42 (dk_at dksX6_isWorse_1 8 rfl rfl)
theorem dX6_isWorse_33 : decode cX6_isWorse 33 = .ok (.iload_n 2, 1) := dk_28 (dk_at dksX6_isWorse_1 9 rfl rfl)
theorem dX6_isWorse_34 : decode cX6_isWorse 34 = .ok (.iconst 1, 1) := dk_4 (dk_at dksX6_isWorse_1 10 rfl rfl)
theorem dX6_isWorse_35 : decode cX6_isWorse 35 = .ok (.invokevirtual 118, 3) := dk_182 0 118 (dk_at dksX6_isWorse_1 11 rfl rfl)
theorem dX6_isWorse_38 : decode cX6_isWorse 38 = .ok (.isub, 1) := dk_100 (dk_at dksX6_isWorse_1 14 rfl rfl)
theorem dX6_isWorse_39 : decode cX6_isWorse 39 = .ok (.istore 4, 2) := dk_54 4 (dk_at dksX6_isWorse_1 15 rfl rfl)
theorem dX6_isWorse_41 : decode cX6_isWorse 41 = .ok (.iload 4, 2) := dk_21 4 (dk_at dksX6_isWorse_1 17 rfl rfl)
theorem dX6_isWorse_43 : decode cX6_isWorse 43 = .ok (.ifCond .gt 13, 3) := dk_157 0 13 (dk_at dksX6_isWorse_1 19 rfl rfl)
theorem dX6_isWorse_46 : decode cX6_isWorse 46 = .ok (.iload 4, 2) := dk_21 4 (dk_at dksX6_isWorse_1 22 rfl rfl)
theorem dX6_isWorse_48 : decode cX6_isWorse 48 = .ok (.ifCond .ne 12, 3) := dk_154 0 12 (dk_at dksX6_isWorse_2 0 rfl rfl)
theorem dX6_isWorse_51 : decode cX6_isWorse 51 = .ok (.iload_n 1, 1) := dk_27 (dk_at dksX6_isWorse_2 3 rfl rfl)
theorem dX6_isWorse_52 : decode cX6_isWorse 52 = .ok (.iload_n 2, 1) := dk_28 (dk_at dksX6_isWorse_2 4 rfl rfl)
theorem dX6_isWorse_53 : decode cX6_isWorse 53 = .ok (.if_icmp .ge 7, 3) := dk_162 0 7 (dk_at dksX6_isWorse_2 5 rfl rfl)
theorem dX6_isWorse_56 : decode cX6_isWorse 56 = .ok (.iconst 1, 1) := dk_4 (dk_at dksX6_isWorse_2 8 rfl rfl)
theorem dX6_isWorse_57 : decode cX6_isWorse 57 = .ok (.goto 4, 3) := dk_167 0 4 (dk_at dksX6_isWorse_2 9 rfl rfl)
theorem dX6_isWorse_60 : decode cX6_isWorse 60 = .ok (.iconst 0, 1) := dk_3 (dk_at dksX6_isWorse_2 12 rfl rfl)
theorem dX6_isWorse_61 : decode cX6_isWorse 61 = .ok (.ireturn, 1) := dk_172 (dk_at dksX6_isWorse_2 13 rfl rfl)
abbrev cX6_line : ByteArray := prog_12_method_63_code
def yX6_line : MethodName := ⟨RX6, "line", "(I)I"⟩
def dkwX6_line_5 : List UInt8 := [172]
abbrev dktX6_line_5 : List UInt8 := dkwX6_line_5 ++ []
def dkwX6_line_4 : List UInt8 := [5, 160, 0, 8, 16, 39, 167, 0, 5, 16, 33, 182, 0, 176, 132, 2, 1, 167, 255, 188, 42, 180, 0, 173]
abbrev dktX6_line_4 : List UInt8 := dkwX6_line_4 ++ dktX6_line_5
def dkwX6_line_3 : List UInt8 := [16, 65, 4, 100, 42, 27, 16, 10, 28, 96, 182, 0, 80, 96, 182, 0, 176, 29, 4, 164, 0, 19, 42, 29]
abbrev dktX6_line_3 : List UInt8 := dkwX6_line_3 ++ dktX6_line_4
def dkwX6_line_2 : List UInt8 := [4, 182, 0, 80, 162, 0, 64, 42, 27, 28, 182, 0, 111, 62, 42, 29, 154, 0, 8, 16, 97, 167, 0, 5]
abbrev dktX6_line_2 : List UInt8 := dkwX6_line_2 ++ dktX6_line_3
def dkwX6_line_1 : List UInt8 := [181, 0, 173, 42, 42, 27, 3, 182, 0, 80, 182, 0, 180, 42, 16, 58, 182, 0, 176, 3, 61, 28, 42, 27]
abbrev dktX6_line_1 : List UInt8 := dkwX6_line_1 ++ dktX6_line_2
def dkwX6_line_0 : List UInt8 := [42, 42, 27, 182, 0, 76, 153, 0, 7, 3, 167, 0, 4, 4, 182, 0, 86, 153, 0, 5, 3, 172, 42, 3]
abbrev dktX6_line_0 : List UInt8 := dkwX6_line_0 ++ dktX6_line_1
theorem dksX6_line_0 : cX6_line.data.toList.drop 0 = dktX6_line_0 := by decide +kernel
theorem dksX6_line_1 : cX6_line.data.toList.drop 24 = dktX6_line_1 := dk_seg dksX6_line_0 24 rfl rfl
theorem dksX6_line_2 : cX6_line.data.toList.drop 48 = dktX6_line_2 := dk_seg dksX6_line_1 24 rfl rfl
theorem dksX6_line_3 : cX6_line.data.toList.drop 72 = dktX6_line_3 := dk_seg dksX6_line_2 24 rfl rfl
theorem dksX6_line_4 : cX6_line.data.toList.drop 96 = dktX6_line_4 := dk_seg dksX6_line_3 24 rfl rfl
theorem dksX6_line_5 : cX6_line.data.toList.drop 120 = dktX6_line_5 := dk_seg dksX6_line_4 24 rfl rfl
theorem dX6_line_0 : decode cX6_line 0 = .ok (.aload_n 0, 1) := dk_42 (dk_at dksX6_line_0 0 rfl rfl)
theorem dX6_line_1 : decode cX6_line 1 = .ok (.aload_n 0, 1) := dk_42 (dk_at dksX6_line_0 1 rfl rfl)
theorem dX6_line_2 : decode cX6_line 2 = .ok (.iload_n 1, 1) := dk_27 (dk_at dksX6_line_0 2 rfl rfl)
theorem dX6_line_3 : decode cX6_line 3 = .ok (.invokevirtual 76, 3) := dk_182 0 76 (dk_at dksX6_line_0 3 rfl rfl)
theorem dX6_line_6 : decode cX6_line 6 = .ok (.ifCond .eq 7, 3) := dk_153 0 7 (dk_at dksX6_line_0 6 rfl rfl)
theorem dX6_line_9 : decode cX6_line 9 = .ok (.iconst 0, 1) := dk_3 (dk_at dksX6_line_0 9 rfl rfl)
theorem dX6_line_10 : decode cX6_line 10 = .ok (.goto 4, 3) := dk_167 0 4 (dk_at dksX6_line_0 10 rfl rfl)
theorem dX6_line_13 : decode cX6_line 13 = .ok (.iconst 1, 1) := dk_4 (dk_at dksX6_line_0 13 rfl rfl)
theorem dX6_line_14 : decode cX6_line 14 = .ok (.invokevirtual 86, 3) := dk_182 0 86 (dk_at dksX6_line_0 14 rfl rfl)
theorem dX6_line_17 : decode cX6_line 17 = .ok (.ifCond .eq 5, 3) := dk_153 0 5 (dk_at dksX6_line_0 17 rfl rfl)
theorem dX6_line_20 : decode cX6_line 20 = .ok (.iconst 0, 1) := dk_3 (dk_at dksX6_line_0 20 rfl rfl)
theorem dX6_line_21 : decode cX6_line 21 = .ok (.ireturn, 1) := dk_172 (dk_at dksX6_line_0 21 rfl rfl)
theorem dX6_line_22 : decode cX6_line 22 = .ok (.aload_n 0, 1) := dk_42 (dk_at dksX6_line_0 22 rfl rfl)
theorem dX6_line_23 : decode cX6_line 23 = .ok (.iconst 0, 1) := dk_3 (dk_at dksX6_line_0 23 rfl rfl)
theorem dX6_line_24 : decode cX6_line 24 = .ok (.putfield 173, 3) := dk_181 0 173 (dk_at dksX6_line_1 0 rfl rfl)
theorem dX6_line_27 : decode cX6_line 27 = .ok (.aload_n 0, 1) := dk_42 (dk_at dksX6_line_1 3 rfl rfl)
theorem dX6_line_28 : decode cX6_line 28 = .ok (.aload_n 0, 1) := dk_42 (dk_at dksX6_line_1 4 rfl rfl)
theorem dX6_line_29 : decode cX6_line 29 = .ok (.iload_n 1, 1) := dk_27 (dk_at dksX6_line_1 5 rfl rfl)
theorem dX6_line_30 : decode cX6_line 30 = .ok (.iconst 0, 1) := dk_3 (dk_at dksX6_line_1 6 rfl rfl)
theorem dX6_line_31 : decode cX6_line 31 = .ok (.invokevirtual 80, 3) := dk_182 0 80 (dk_at dksX6_line_1 7 rfl rfl)
theorem dX6_line_34 : decode cX6_line 34 = .ok (.invokevirtual 180, 3) := dk_182 0 180 (dk_at dksX6_line_1 10 rfl rfl)
theorem dX6_line_37 : decode cX6_line 37 = .ok (.aload_n 0, 1) := dk_42 (dk_at dksX6_line_1 13 rfl rfl)
theorem dX6_line_38 : decode cX6_line 38 = .ok (.bipush 58, 2) := dk_16 58 (dk_at dksX6_line_1 14 rfl rfl)
theorem dX6_line_40 : decode cX6_line 40 = .ok (.invokevirtual 176, 3) := dk_182 0 176 (dk_at dksX6_line_1 16 rfl rfl)
theorem dX6_line_43 : decode cX6_line 43 = .ok (.iconst 0, 1) := dk_3 (dk_at dksX6_line_1 19 rfl rfl)
theorem dX6_line_44 : decode cX6_line 44 = .ok (.istore_n 2, 1) := dk_61 (dk_at dksX6_line_1 20 rfl rfl)
theorem dX6_line_45 : decode cX6_line 45 = .ok (.iload_n 2, 1) := dk_28 (dk_at dksX6_line_1 21 rfl rfl)
theorem dX6_line_46 : decode cX6_line 46 = .ok (.aload_n 0, 1) := dk_42 (dk_at dksX6_line_1 22 rfl rfl)
theorem dX6_line_47 : decode cX6_line 47 = .ok (.iload_n 1, 1) := dk_27 (dk_at dksX6_line_1 23 rfl rfl)
theorem dX6_line_48 : decode cX6_line 48 = .ok (.iconst 1, 1) := dk_4 (dk_at dksX6_line_2 0 rfl rfl)
theorem dX6_line_49 : decode cX6_line 49 = .ok (.invokevirtual 80, 3) := dk_182 0 80 (dk_at dksX6_line_2 1 rfl rfl)
theorem dX6_line_52 : decode cX6_line 52 = .ok (.if_icmp .ge 64, 3) := dk_162 0 64 (dk_at dksX6_line_2 4 rfl rfl)
theorem dX6_line_55 : decode cX6_line 55 = .ok (.aload_n 0, 1) := dk_42 (dk_at dksX6_line_2 7 rfl rfl)
theorem dX6_line_56 : decode cX6_line 56 = .ok (.iload_n 1, 1) := dk_27 (dk_at dksX6_line_2 8 rfl rfl)
theorem dX6_line_57 : decode cX6_line 57 = .ok (.iload_n 2, 1) := dk_28 (dk_at dksX6_line_2 9 rfl rfl)
theorem dX6_line_58 : decode cX6_line 58 = .ok (.invokevirtual 111, 3) := dk_182 0 111 (dk_at dksX6_line_2 10 rfl rfl)
theorem dX6_line_61 : decode cX6_line 61 = .ok (.istore_n 3, 1) := dk_62 (dk_at dksX6_line_2 13 rfl rfl)
theorem dX6_line_62 : decode cX6_line 62 = .ok (.aload_n 0, 1) := dk_42 (dk_at dksX6_line_2 14 rfl rfl)
theorem dX6_line_63 : decode cX6_line 63 = .ok (.iload_n 3, 1) := dk_29 (dk_at dksX6_line_2 15 rfl rfl)
theorem dX6_line_64 : decode cX6_line 64 = .ok (.ifCond .ne 8, 3) := dk_154 0 8 (dk_at dksX6_line_2 16 rfl rfl)
theorem dX6_line_67 : decode cX6_line 67 = .ok (.bipush 97, 2) := dk_16 97 (dk_at dksX6_line_2 19 rfl rfl)
theorem dX6_line_69 : decode cX6_line 69 = .ok (.goto 5, 3) := dk_167 0 5 (dk_at dksX6_line_2 21 rfl rfl)
theorem dX6_line_72 : decode cX6_line 72 = .ok (.bipush 65, 2) := dk_16 65 (dk_at dksX6_line_3 0 rfl rfl)
theorem dX6_line_74 : decode cX6_line 74 = .ok (.iconst 1, 1) := dk_4 (dk_at dksX6_line_3 2 rfl rfl)
theorem dX6_line_75 : decode cX6_line 75 = .ok (.isub, 1) := dk_100 (dk_at dksX6_line_3 3 rfl rfl)
theorem dX6_line_76 : decode cX6_line 76 = .ok (.aload_n 0, 1) := dk_42 (dk_at dksX6_line_3 4 rfl rfl)
theorem dX6_line_77 : decode cX6_line 77 = .ok (.iload_n 1, 1) := dk_27 (dk_at dksX6_line_3 5 rfl rfl)
theorem dX6_line_78 : decode cX6_line 78 = .ok (.bipush 10, 2) := dk_16 10 (dk_at dksX6_line_3 6 rfl rfl)
theorem dX6_line_80 : decode cX6_line 80 = .ok (.iload_n 2, 1) := dk_28 (dk_at dksX6_line_3 8 rfl rfl)
theorem dX6_line_81 : decode cX6_line 81 = .ok (.iadd, 1) := dk_96 (dk_at dksX6_line_3 9 rfl rfl)
theorem dX6_line_82 : decode cX6_line 82 = .ok (.invokevirtual 80, 3) := dk_182 0 80 (dk_at dksX6_line_3 10 rfl rfl)
theorem dX6_line_85 : decode cX6_line 85 = .ok (.iadd, 1) := dk_96 (dk_at dksX6_line_3 13 rfl rfl)
theorem dX6_line_86 : decode cX6_line 86 = .ok (.invokevirtual 176, 3) := dk_182 0 176 (dk_at dksX6_line_3 14 rfl rfl)
theorem dX6_line_89 : decode cX6_line 89 = .ok (.iload_n 3, 1) := dk_29 (dk_at dksX6_line_3 17 rfl rfl)
theorem dX6_line_90 : decode cX6_line 90 = .ok (.iconst 1, 1) := dk_4 (dk_at dksX6_line_3 18 rfl rfl)
theorem dX6_line_91 : decode cX6_line 91 = .ok (.if_icmp .le 19, 3) := dk_164 0 19 (dk_at dksX6_line_3 19 rfl rfl)
theorem dX6_line_94 : decode cX6_line 94 = .ok (.aload_n 0, 1) := dk_42 (dk_at dksX6_line_3 22 rfl rfl)
theorem dX6_line_95 : decode cX6_line 95 = .ok (.iload_n 3, 1) := dk_29 (dk_at dksX6_line_3 23 rfl rfl)
theorem dX6_line_96 : decode cX6_line 96 = .ok (.iconst 2, 1) := dk_5 (dk_at dksX6_line_4 0 rfl rfl)
theorem dX6_line_97 : decode cX6_line 97 = .ok (.if_icmp .ne 8, 3) := dk_160 0 8 (dk_at dksX6_line_4 1 rfl rfl)
theorem dX6_line_100 : decode cX6_line 100 = .ok (.bipush 39, 2) := dk_16 39 (dk_at dksX6_line_4 4 rfl rfl)
theorem dX6_line_102 : decode cX6_line 102 = .ok (.goto 5, 3) := dk_167 0 5 (dk_at dksX6_line_4 6 rfl rfl)
theorem dX6_line_105 : decode cX6_line 105 = .ok (.bipush 33, 2) := dk_16 33 (dk_at dksX6_line_4 9 rfl rfl)
theorem dX6_line_107 : decode cX6_line 107 = .ok (.invokevirtual 176, 3) := dk_182 0 176 (dk_at dksX6_line_4 11 rfl rfl)
theorem dX6_line_110 : decode cX6_line 110 = .ok (.iinc 2 1, 3) := dk_132 2 1 (dk_at dksX6_line_4 14 rfl rfl)
theorem dX6_line_113 : decode cX6_line 113 = .ok (.goto (-68), 3) := dk_167 255 188 (dk_at dksX6_line_4 17 rfl rfl)
theorem dX6_line_116 : decode cX6_line 116 = .ok (.aload_n 0, 1) := dk_42 (dk_at dksX6_line_4 20 rfl rfl)
theorem dX6_line_117 : decode cX6_line 117 = .ok (.getfield 173, 3) := dk_180 0 173 (dk_at dksX6_line_4 21 rfl rfl)
theorem dX6_line_120 : decode cX6_line 120 = .ok (.ireturn, 1) := dk_172 (dk_at dksX6_line_5 0 rfl rfl)
abbrev cX6_writesNumber : ByteArray := prog_12_method_62_code
def yX6_writesNumber : MethodName := ⟨RX6, "writesNumber", "(I)V"⟩
def dkwX6_writesNumber_1 : List UInt8 := [96, 182, 0, 176, 177]
abbrev dktX6_writesNumber_1 : List UInt8 := dkwX6_writesNumber_1 ++ []
def dkwX6_writesNumber_0 : List UInt8 := [27, 16, 9, 164, 0, 14, 42, 16, 48, 27, 16, 10, 108, 96, 182, 0, 176, 42, 16, 48, 27, 16, 10, 112]
abbrev dktX6_writesNumber_0 : List UInt8 := dkwX6_writesNumber_0 ++ dktX6_writesNumber_1
theorem dksX6_writesNumber_0 : cX6_writesNumber.data.toList.drop 0 = dktX6_writesNumber_0 := by decide +kernel
theorem dksX6_writesNumber_1 : cX6_writesNumber.data.toList.drop 24 = dktX6_writesNumber_1 := dk_seg dksX6_writesNumber_0 24 rfl rfl
theorem dX6_writesNumber_0 : decode cX6_writesNumber 0 = .ok (.iload_n 1, 1) := dk_27 (dk_at dksX6_writesNumber_0 0 rfl rfl)
theorem dX6_writesNumber_1 : decode cX6_writesNumber 1 = .ok (.bipush 9, 2) := dk_16 9 (dk_at dksX6_writesNumber_0 1 rfl rfl)
theorem dX6_writesNumber_3 : decode cX6_writesNumber 3 = .ok (.if_icmp .le 14, 3) := dk_164 0 14 (dk_at dksX6_writesNumber_0 3 rfl rfl)
theorem dX6_writesNumber_6 : decode cX6_writesNumber 6 = .ok (.aload_n 0, 1) := dk_42 (dk_at dksX6_writesNumber_0 6 rfl rfl)
theorem dX6_writesNumber_7 : decode cX6_writesNumber 7 = .ok (.bipush 48, 2) := dk_16 48 (dk_at dksX6_writesNumber_0 7 rfl rfl)
theorem dX6_writesNumber_9 : decode cX6_writesNumber 9 = .ok (.iload_n 1, 1) := dk_27 (dk_at dksX6_writesNumber_0 9 rfl rfl)
theorem dX6_writesNumber_10 : decode cX6_writesNumber 10 = .ok (.bipush 10, 2) := dk_16 10 (dk_at dksX6_writesNumber_0 10 rfl rfl)
theorem dX6_writesNumber_12 : decode cX6_writesNumber 12 = .ok (.idiv, 1) := dk_108 (dk_at dksX6_writesNumber_0 12 rfl rfl)
theorem dX6_writesNumber_13 : decode cX6_writesNumber 13 = .ok (.iadd, 1) := dk_96 (dk_at dksX6_writesNumber_0 13 rfl rfl)
theorem dX6_writesNumber_14 : decode cX6_writesNumber 14 = .ok (.invokevirtual 176, 3) := dk_182 0 176 (dk_at dksX6_writesNumber_0 14 rfl rfl)
theorem dX6_writesNumber_17 : decode cX6_writesNumber 17 = .ok (.aload_n 0, 1) := dk_42 (dk_at dksX6_writesNumber_0 17 rfl rfl)
theorem dX6_writesNumber_18 : decode cX6_writesNumber 18 = .ok (.bipush 48, 2) := dk_16 48 (dk_at dksX6_writesNumber_0 18 rfl rfl)
theorem dX6_writesNumber_20 : decode cX6_writesNumber 20 = .ok (.iload_n 1, 1) := dk_27 (dk_at dksX6_writesNumber_0 20 rfl rfl)
theorem dX6_writesNumber_21 : decode cX6_writesNumber 21 = .ok (.bipush 10, 2) := dk_16 10 (dk_at dksX6_writesNumber_0 21 rfl rfl)
theorem dX6_writesNumber_23 : decode cX6_writesNumber 23 = .ok (.irem, 1) := dk_112 (dk_at dksX6_writesNumber_0 23 rfl rfl)
theorem dX6_writesNumber_24 : decode cX6_writesNumber 24 = .ok (.iadd, 1) := dk_96 (dk_at dksX6_writesNumber_1 0 rfl rfl)
theorem dX6_writesNumber_25 : decode cX6_writesNumber 25 = .ok (.invokevirtual 176, 3) := dk_182 0 176 (dk_at dksX6_writesNumber_1 1 rfl rfl)
theorem dX6_writesNumber_28 : decode cX6_writesNumber 28 = .ok (.return_, 1) := dk_177 (dk_at dksX6_writesNumber_1 4 rfl rfl)
abbrev cX6_writes : ByteArray := prog_12_method_61_code
def yX6_writes : MethodName := ⟨RX6, "writes", "(I)V"⟩
def dkwX6_writes_0 : List UInt8 := [42, 180, 0, 29, 42, 180, 0, 173, 27, 146, 85, 42, 89, 180, 0, 173, 4, 96, 181, 0, 173, 177]
abbrev dktX6_writes_0 : List UInt8 := dkwX6_writes_0 ++ []
theorem dksX6_writes_0 : cX6_writes.data.toList.drop 0 = dktX6_writes_0 := by decide +kernel
theorem dX6_writes_0 : decode cX6_writes 0 = .ok (.aload_n 0, 1) := dk_42 (dk_at dksX6_writes_0 0 rfl rfl)
theorem dX6_writes_1 : decode cX6_writes 1 = .ok (.getfield 29, 3) := dk_180 0 29 (dk_at dksX6_writes_0 1 rfl rfl)
theorem dX6_writes_4 : decode cX6_writes 4 = .ok (.aload_n 0, 1) := dk_42 (dk_at dksX6_writes_0 4 rfl rfl)
theorem dX6_writes_5 : decode cX6_writes 5 = .ok (.getfield 173, 3) := dk_180 0 173 (dk_at dksX6_writes_0 5 rfl rfl)
theorem dX6_writes_8 : decode cX6_writes 8 = .ok (.iload_n 1, 1) := dk_27 (dk_at dksX6_writes_0 8 rfl rfl)
theorem dX6_writes_9 : decode cX6_writes 9 = .ok (.i2c, 1) := dk_146 (dk_at dksX6_writes_0 9 rfl rfl)
theorem dX6_writes_10 : decode cX6_writes 10 = .ok (.castore, 1) := dk_85 (dk_at dksX6_writes_0 10 rfl rfl)
theorem dX6_writes_11 : decode cX6_writes 11 = .ok (.aload_n 0, 1) := dk_42 (dk_at dksX6_writes_0 11 rfl rfl)
theorem dX6_writes_12 : decode cX6_writes 12 = .ok (.dup, 1) := dk_89 (dk_at dksX6_writes_0 12 rfl rfl)
theorem dX6_writes_13 : decode cX6_writes 13 = .ok (.getfield 173, 3) := dk_180 0 173 (dk_at dksX6_writes_0 13 rfl rfl)
theorem dX6_writes_16 : decode cX6_writes 16 = .ok (.iconst 1, 1) := dk_4 (dk_at dksX6_writes_0 16 rfl rfl)
theorem dX6_writes_17 : decode cX6_writes 17 = .ok (.iadd, 1) := dk_96 (dk_at dksX6_writes_0 17 rfl rfl)
theorem dX6_writes_18 : decode cX6_writes 18 = .ok (.putfield 173, 3) := dk_181 0 173 (dk_at dksX6_writes_0 18 rfl rfl)
theorem dX6_writes_21 : decode cX6_writes 21 = .ok (.return_, 1) := dk_177 (dk_at dksX6_writes_0 21 rfl rfl)
abbrev cX6_houseLine : ByteArray := prog_12_method_64_code
def yX6_houseLine : MethodName := ⟨RX6, "houseLine", "(I)I"⟩
def dkwX6_houseLine_3 : List UInt8 := [42, 16, 42, 182, 0, 176, 42, 180, 0, 173, 172]
abbrev dktX6_houseLine_3 : List UInt8 := dkwX6_houseLine_3 ++ []
def dkwX6_houseLine_2 : List UInt8 := [42, 16, 126, 182, 0, 176, 42, 42, 27, 4, 182, 0, 65, 182, 0, 180, 42, 27, 182, 0, 124, 153, 0, 9]
abbrev dktX6_houseLine_2 : List UInt8 := dkwX6_houseLine_2 ++ dktX6_houseLine_3
def dkwX6_houseLine_1 : List UInt8 := [181, 0, 173, 42, 27, 182, 0, 180, 42, 16, 36, 182, 0, 176, 42, 42, 27, 3, 182, 0, 65, 182, 0, 180]
abbrev dktX6_houseLine_1 : List UInt8 := dkwX6_houseLine_1 ++ dktX6_houseLine_2
def dkwX6_houseLine_0 : List UInt8 := [42, 42, 27, 182, 0, 101, 153, 0, 7, 3, 167, 0, 4, 4, 182, 0, 86, 153, 0, 5, 3, 172, 42, 3]
abbrev dktX6_houseLine_0 : List UInt8 := dkwX6_houseLine_0 ++ dktX6_houseLine_1
theorem dksX6_houseLine_0 : cX6_houseLine.data.toList.drop 0 = dktX6_houseLine_0 := by decide +kernel
theorem dksX6_houseLine_1 : cX6_houseLine.data.toList.drop 24 = dktX6_houseLine_1 := dk_seg dksX6_houseLine_0 24 rfl rfl
theorem dksX6_houseLine_2 : cX6_houseLine.data.toList.drop 48 = dktX6_houseLine_2 := dk_seg dksX6_houseLine_1 24 rfl rfl
theorem dksX6_houseLine_3 : cX6_houseLine.data.toList.drop 72 = dktX6_houseLine_3 := dk_seg dksX6_houseLine_2 24 rfl rfl
theorem dX6_houseLine_0 : decode cX6_houseLine 0 = .ok (.aload_n 0, 1) := dk_42 (dk_at dksX6_houseLine_0 0 rfl rfl)
theorem dX6_houseLine_1 : decode cX6_houseLine 1 = .ok (.aload_n 0, 1) := dk_42 (dk_at dksX6_houseLine_0 1 rfl rfl)
theorem dX6_houseLine_2 : decode cX6_houseLine 2 = .ok (.iload_n 1, 1) := dk_27 (dk_at dksX6_houseLine_0 2 rfl rfl)
theorem dX6_houseLine_3 : decode cX6_houseLine 3 = .ok (.invokevirtual 101, 3) := dk_182 0 101 (dk_at dksX6_houseLine_0 3 rfl rfl)
theorem dX6_houseLine_6 : decode cX6_houseLine 6 = .ok (.ifCond .eq 7, 3) := dk_153 0 7 (dk_at dksX6_houseLine_0 6 rfl rfl)
theorem dX6_houseLine_9 : decode cX6_houseLine 9 = .ok (.iconst 0, 1) := dk_3 (dk_at dksX6_houseLine_0 9 rfl rfl)
theorem dX6_houseLine_10 : decode cX6_houseLine 10 = .ok (.goto 4, 3) := dk_167 0 4 (dk_at dksX6_houseLine_0 10 rfl rfl)
theorem dX6_houseLine_13 : decode cX6_houseLine 13 = .ok (.iconst 1, 1) := dk_4 (dk_at dksX6_houseLine_0 13 rfl rfl)
theorem dX6_houseLine_14 : decode cX6_houseLine 14 = .ok (.invokevirtual 86, 3) := dk_182 0 86 (dk_at dksX6_houseLine_0 14 rfl rfl)
theorem dX6_houseLine_17 : decode cX6_houseLine 17 = .ok (.ifCond .eq 5, 3) := dk_153 0 5 (dk_at dksX6_houseLine_0 17 rfl rfl)
theorem dX6_houseLine_20 : decode cX6_houseLine 20 = .ok (.iconst 0, 1) := dk_3 (dk_at dksX6_houseLine_0 20 rfl rfl)
theorem dX6_houseLine_21 : decode cX6_houseLine 21 = .ok (.ireturn, 1) := dk_172 (dk_at dksX6_houseLine_0 21 rfl rfl)
theorem dX6_houseLine_22 : decode cX6_houseLine 22 = .ok (.aload_n 0, 1) := dk_42 (dk_at dksX6_houseLine_0 22 rfl rfl)
theorem dX6_houseLine_23 : decode cX6_houseLine 23 = .ok (.iconst 0, 1) := dk_3 (dk_at dksX6_houseLine_0 23 rfl rfl)
theorem dX6_houseLine_24 : decode cX6_houseLine 24 = .ok (.putfield 173, 3) := dk_181 0 173 (dk_at dksX6_houseLine_1 0 rfl rfl)
theorem dX6_houseLine_27 : decode cX6_houseLine 27 = .ok (.aload_n 0, 1) := dk_42 (dk_at dksX6_houseLine_1 3 rfl rfl)
theorem dX6_houseLine_28 : decode cX6_houseLine 28 = .ok (.iload_n 1, 1) := dk_27 (dk_at dksX6_houseLine_1 4 rfl rfl)
theorem dX6_houseLine_29 : decode cX6_houseLine 29 = .ok (.invokevirtual 180, 3) := dk_182 0 180 (dk_at dksX6_houseLine_1 5 rfl rfl)
theorem dX6_houseLine_32 : decode cX6_houseLine 32 = .ok (.aload_n 0, 1) := dk_42 (dk_at dksX6_houseLine_1 8 rfl rfl)
theorem dX6_houseLine_33 : decode cX6_houseLine 33 = .ok (.bipush 36, 2) := dk_16 36 (dk_at dksX6_houseLine_1 9 rfl rfl)
theorem dX6_houseLine_35 : decode cX6_houseLine 35 = .ok (.invokevirtual 176, 3) := dk_182 0 176 (dk_at dksX6_houseLine_1 11 rfl rfl)
theorem dX6_houseLine_38 : decode cX6_houseLine 38 = .ok (.aload_n 0, 1) := dk_42 (dk_at dksX6_houseLine_1 14 rfl rfl)
theorem dX6_houseLine_39 : decode cX6_houseLine 39 = .ok (.aload_n 0, 1) := dk_42 (dk_at dksX6_houseLine_1 15 rfl rfl)
theorem dX6_houseLine_40 : decode cX6_houseLine 40 = .ok (.iload_n 1, 1) := dk_27 (dk_at dksX6_houseLine_1 16 rfl rfl)
theorem dX6_houseLine_41 : decode cX6_houseLine 41 = .ok (.iconst 0, 1) := dk_3 (dk_at dksX6_houseLine_1 17 rfl rfl)
theorem dX6_houseLine_42 : decode cX6_houseLine 42 = .ok (.invokevirtual 65, 3) := dk_182 0 65 (dk_at dksX6_houseLine_1 18 rfl rfl)
theorem dX6_houseLine_45 : decode cX6_houseLine 45 = .ok (.invokevirtual 180, 3) := dk_182 0 180 (dk_at dksX6_houseLine_1 21 rfl rfl)
theorem dX6_houseLine_48 : decode cX6_houseLine 48 = .ok (.aload_n 0, 1) := dk_42 (dk_at dksX6_houseLine_2 0 rfl rfl)
theorem dX6_houseLine_49 : decode cX6_houseLine 49 = .ok (.bipush 126, 2) := dk_16 126 (dk_at dksX6_houseLine_2 1 rfl rfl)
theorem dX6_houseLine_51 : decode cX6_houseLine 51 = .ok (.invokevirtual 176, 3) := dk_182 0 176 (dk_at dksX6_houseLine_2 3 rfl rfl)
theorem dX6_houseLine_54 : decode cX6_houseLine 54 = .ok (.aload_n 0, 1) := dk_42 (dk_at dksX6_houseLine_2 6 rfl rfl)
theorem dX6_houseLine_55 : decode cX6_houseLine 55 = .ok (.aload_n 0, 1) := dk_42 (dk_at dksX6_houseLine_2 7 rfl rfl)
theorem dX6_houseLine_56 : decode cX6_houseLine 56 = .ok (.iload_n 1, 1) := dk_27 (dk_at dksX6_houseLine_2 8 rfl rfl)
theorem dX6_houseLine_57 : decode cX6_houseLine 57 = .ok (.iconst 1, 1) := dk_4 (dk_at dksX6_houseLine_2 9 rfl rfl)
theorem dX6_houseLine_58 : decode cX6_houseLine 58 = .ok (.invokevirtual 65, 3) := dk_182 0 65 (dk_at dksX6_houseLine_2 10 rfl rfl)
theorem dX6_houseLine_61 : decode cX6_houseLine 61 = .ok (.invokevirtual 180, 3) := dk_182 0 180 (dk_at dksX6_houseLine_2 13 rfl rfl)
theorem dX6_houseLine_64 : decode cX6_houseLine 64 = .ok (.aload_n 0, 1) := dk_42 (dk_at dksX6_houseLine_2 16 rfl rfl)
theorem dX6_houseLine_65 : decode cX6_houseLine 65 = .ok (.iload_n 1, 1) := dk_27 (dk_at dksX6_houseLine_2 17 rfl rfl)
theorem dX6_houseLine_66 : decode cX6_houseLine 66 = .ok (.invokevirtual 124, 3) := dk_182 0 124 (dk_at dksX6_houseLine_2 18 rfl rfl)
theorem dX6_houseLine_69 : decode cX6_houseLine 69 = .ok (.ifCond .eq 9, 3) := dk_153 0 9 (dk_at dksX6_houseLine_2 21 rfl rfl)
theorem dX6_houseLine_72 : decode cX6_houseLine 72 = .ok (.aload_n 0, 1) := dk_42 (dk_at dksX6_houseLine_3 0 rfl rfl)
theorem dX6_houseLine_73 : decode cX6_houseLine 73 = .ok (.bipush 42, 2) := dk_16 42 (dk_at dksX6_houseLine_3 1 rfl rfl)
theorem dX6_houseLine_75 : decode cX6_houseLine 75 = .ok (.invokevirtual 176, 3) := dk_182 0 176 (dk_at dksX6_houseLine_3 3 rfl rfl)
theorem dX6_houseLine_78 : decode cX6_houseLine 78 = .ok (.aload_n 0, 1) := dk_42 (dk_at dksX6_houseLine_3 6 rfl rfl)
theorem dX6_houseLine_79 : decode cX6_houseLine 79 = .ok (.getfield 173, 3) := dk_180 0 173 (dk_at dksX6_houseLine_3 7 rfl rfl)
theorem dX6_houseLine_82 : decode cX6_houseLine 82 = .ok (.ireturn, 1) := dk_172 (dk_at dksX6_houseLine_3 10 rfl rfl)
abbrev cX6_character : ByteArray := prog_12_method_65_code
def yX6_character : MethodName := ⟨RX6, "character", "(I)C"⟩
def dkwX6_character_1 : List UInt8 := [153, 0, 8, 16, 32, 167, 0, 9, 42, 180, 0, 29, 27, 52, 172]
abbrev dktX6_character_1 : List UInt8 := dkwX6_character_1 ++ []
def dkwX6_character_0 : List UInt8 := [42, 27, 3, 42, 180, 0, 173, 4, 100, 184, 0, 72, 153, 0, 7, 3, 167, 0, 4, 4, 182, 0, 86]
abbrev dktX6_character_0 : List UInt8 := dkwX6_character_0 ++ dktX6_character_1
theorem dksX6_character_0 : cX6_character.data.toList.drop 0 = dktX6_character_0 := by decide +kernel
theorem dksX6_character_1 : cX6_character.data.toList.drop 23 = dktX6_character_1 := dk_seg dksX6_character_0 23 rfl rfl
theorem dX6_character_0 : decode cX6_character 0 = .ok (.aload_n 0, 1) := dk_42 (dk_at dksX6_character_0 0 rfl rfl)
theorem dX6_character_1 : decode cX6_character 1 = .ok (.iload_n 1, 1) := dk_27 (dk_at dksX6_character_0 1 rfl rfl)
theorem dX6_character_2 : decode cX6_character 2 = .ok (.iconst 0, 1) := dk_3 (dk_at dksX6_character_0 2 rfl rfl)
theorem dX6_character_3 : decode cX6_character 3 = .ok (.aload_n 0, 1) := dk_42 (dk_at dksX6_character_0 3 rfl rfl)
theorem dX6_character_4 : decode cX6_character 4 = .ok (.getfield 173, 3) := dk_180 0 173 (dk_at dksX6_character_0 4 rfl rfl)
theorem dX6_character_7 : decode cX6_character 7 = .ok (.iconst 1, 1) := dk_4 (dk_at dksX6_character_0 7 rfl rfl)
theorem dX6_character_8 : decode cX6_character 8 = .ok (.isub, 1) := dk_100 (dk_at dksX6_character_0 8 rfl rfl)
theorem dX6_character_9 : decode cX6_character 9 = .ok (.invokestatic 72, 3) := dk_184 0 72 (dk_at dksX6_character_0 9 rfl rfl)
theorem dX6_character_12 : decode cX6_character 12 = .ok (.ifCond .eq 7, 3) := dk_153 0 7 (dk_at dksX6_character_0 12 rfl rfl)
theorem dX6_character_15 : decode cX6_character 15 = .ok (.iconst 0, 1) := dk_3 (dk_at dksX6_character_0 15 rfl rfl)
theorem dX6_character_16 : decode cX6_character 16 = .ok (.goto 4, 3) := dk_167 0 4 (dk_at dksX6_character_0 16 rfl rfl)
theorem dX6_character_19 : decode cX6_character 19 = .ok (.iconst 1, 1) := dk_4 (dk_at dksX6_character_0 19 rfl rfl)
theorem dX6_character_20 : decode cX6_character 20 = .ok (.invokevirtual 86, 3) := dk_182 0 86 (dk_at dksX6_character_0 20 rfl rfl)
theorem dX6_character_23 : decode cX6_character 23 = .ok (.ifCond .eq 8, 3) := dk_153 0 8 (dk_at dksX6_character_1 0 rfl rfl)
theorem dX6_character_26 : decode cX6_character 26 = .ok (.bipush 32, 2) := dk_16 32 (dk_at dksX6_character_1 3 rfl rfl)
theorem dX6_character_28 : decode cX6_character 28 = .ok (.goto 9, 3) := dk_167 0 9 (dk_at dksX6_character_1 5 rfl rfl)
theorem dX6_character_31 : decode cX6_character 31 = .ok (.aload_n 0, 1) := dk_42 (dk_at dksX6_character_1 8 rfl rfl)
theorem dX6_character_32 : decode cX6_character 32 = .ok (.getfield 29, 3) := dk_180 0 29 (dk_at dksX6_character_1 9 rfl rfl)
theorem dX6_character_35 : decode cX6_character 35 = .ok (.iload_n 1, 1) := dk_27 (dk_at dksX6_character_1 12 rfl rfl)
theorem dX6_character_36 : decode cX6_character 36 = .ok (.caload, 1) := dk_52 (dk_at dksX6_character_1 13 rfl rfl)
theorem dX6_character_37 : decode cX6_character 37 = .ok (.ireturn, 1) := dk_172 (dk_at dksX6_character_1 14 rfl rfl)
abbrev cX6_append : ByteArray := prog_12_method_66_code
def yX6_append : MethodName := ⟨RX6, "append", "(C)I"⟩
def dkwX6_append_1 : List UInt8 := [180, 0, 22, 42, 180, 0, 183, 27, 79, 42, 89, 180, 0, 183, 4, 96, 181, 0, 183, 42, 180, 0, 183, 172]
abbrev dktX6_append_1 : List UInt8 := dkwX6_append_1 ++ []
def dkwX6_append_0 : List UInt8 := [42, 42, 180, 0, 183, 16, 60, 160, 0, 7, 4, 167, 0, 4, 3, 182, 0, 86, 153, 0, 5, 3, 172, 42]
abbrev dktX6_append_0 : List UInt8 := dkwX6_append_0 ++ dktX6_append_1
theorem dksX6_append_0 : cX6_append.data.toList.drop 0 = dktX6_append_0 := by decide +kernel
theorem dksX6_append_1 : cX6_append.data.toList.drop 24 = dktX6_append_1 := dk_seg dksX6_append_0 24 rfl rfl
theorem dX6_append_0 : decode cX6_append 0 = .ok (.aload_n 0, 1) := dk_42 (dk_at dksX6_append_0 0 rfl rfl)
theorem dX6_append_1 : decode cX6_append 1 = .ok (.aload_n 0, 1) := dk_42 (dk_at dksX6_append_0 1 rfl rfl)
theorem dX6_append_2 : decode cX6_append 2 = .ok (.getfield 183, 3) := dk_180 0 183 (dk_at dksX6_append_0 2 rfl rfl)
theorem dX6_append_5 : decode cX6_append 5 = .ok (.bipush 60, 2) := dk_16 60 (dk_at dksX6_append_0 5 rfl rfl)
theorem dX6_append_7 : decode cX6_append 7 = .ok (.if_icmp .ne 7, 3) := dk_160 0 7 (dk_at dksX6_append_0 7 rfl rfl)
theorem dX6_append_10 : decode cX6_append 10 = .ok (.iconst 1, 1) := dk_4 (dk_at dksX6_append_0 10 rfl rfl)
theorem dX6_append_11 : decode cX6_append 11 = .ok (.goto 4, 3) := dk_167 0 4 (dk_at dksX6_append_0 11 rfl rfl)
theorem dX6_append_14 : decode cX6_append 14 = .ok (.iconst 0, 1) := dk_3 (dk_at dksX6_append_0 14 rfl rfl)
theorem dX6_append_15 : decode cX6_append 15 = .ok (.invokevirtual 86, 3) := dk_182 0 86 (dk_at dksX6_append_0 15 rfl rfl)
theorem dX6_append_18 : decode cX6_append 18 = .ok (.ifCond .eq 5, 3) := dk_153 0 5 (dk_at dksX6_append_0 18 rfl rfl)
theorem dX6_append_21 : decode cX6_append 21 = .ok (.iconst 0, 1) := dk_3 (dk_at dksX6_append_0 21 rfl rfl)
theorem dX6_append_22 : decode cX6_append 22 = .ok (.ireturn, 1) := dk_172 (dk_at dksX6_append_0 22 rfl rfl)
theorem dX6_append_23 : decode cX6_append 23 = .ok (.aload_n 0, 1) := dk_42 (dk_at dksX6_append_0 23 rfl rfl)
theorem dX6_append_24 : decode cX6_append 24 = .ok (.getfield 22, 3) := dk_180 0 22 (dk_at dksX6_append_1 0 rfl rfl)
theorem dX6_append_27 : decode cX6_append 27 = .ok (.aload_n 0, 1) := dk_42 (dk_at dksX6_append_1 3 rfl rfl)
theorem dX6_append_28 : decode cX6_append 28 = .ok (.getfield 183, 3) := dk_180 0 183 (dk_at dksX6_append_1 4 rfl rfl)
theorem dX6_append_31 : decode cX6_append 31 = .ok (.iload_n 1, 1) := dk_27 (dk_at dksX6_append_1 7 rfl rfl)
theorem dX6_append_32 : decode cX6_append 32 = .ok (.iastore, 1) := dk_79 (dk_at dksX6_append_1 8 rfl rfl)
theorem dX6_append_33 : decode cX6_append 33 = .ok (.aload_n 0, 1) := dk_42 (dk_at dksX6_append_1 9 rfl rfl)
theorem dX6_append_34 : decode cX6_append 34 = .ok (.dup, 1) := dk_89 (dk_at dksX6_append_1 10 rfl rfl)
theorem dX6_append_35 : decode cX6_append 35 = .ok (.getfield 183, 3) := dk_180 0 183 (dk_at dksX6_append_1 11 rfl rfl)
theorem dX6_append_38 : decode cX6_append 38 = .ok (.iconst 1, 1) := dk_4 (dk_at dksX6_append_1 14 rfl rfl)
theorem dX6_append_39 : decode cX6_append 39 = .ok (.iadd, 1) := dk_96 (dk_at dksX6_append_1 15 rfl rfl)
theorem dX6_append_40 : decode cX6_append 40 = .ok (.putfield 183, 3) := dk_181 0 183 (dk_at dksX6_append_1 16 rfl rfl)
theorem dX6_append_43 : decode cX6_append 43 = .ok (.aload_n 0, 1) := dk_42 (dk_at dksX6_append_1 19 rfl rfl)
theorem dX6_append_44 : decode cX6_append 44 = .ok (.getfield 183, 3) := dk_180 0 183 (dk_at dksX6_append_1 20 rfl rfl)
theorem dX6_append_47 : decode cX6_append 47 = .ok (.ireturn, 1) := dk_172 (dk_at dksX6_append_1 23 rfl rfl)
abbrev cX6_run : ByteArray := prog_12_method_75_code
def yX6_run : MethodName := ⟨RX6, "run", "()I"⟩
def dkwX6_run_7 : List UInt8 := [182, 0, 93, 42, 180, 0, 192, 172]
abbrev dktX6_run_7 : List UInt8 := dkwX6_run_7 ++ []
def dkwX6_run_6 : List UInt8 := [182, 0, 242, 172, 42, 4, 181, 0, 36, 29, 158, 0, 7, 3, 167, 0, 4, 29, 172, 42, 42, 180, 0, 19]
abbrev dktX6_run_6 : List UInt8 := dkwX6_run_6 ++ dktX6_run_7
def dkwX6_run_5 : List UInt8 := [42, 180, 0, 19, 3, 42, 180, 0, 7, 3, 184, 0, 61, 42, 180, 0, 39, 153, 0, 9, 42, 28]
abbrev dktX6_run_5 : List UInt8 := dkwX6_run_5 ++ dktX6_run_6
def dkwX6_run_4 : List UInt8 := [180, 0, 36, 154, 255, 229, 132, 2, 1, 167, 255, 223, 42, 3, 181, 0, 55, 42, 180, 0, 36, 158, 0, 44]
abbrev dktX6_run_4 : List UInt8 := dkwX6_run_4 ++ dktX6_run_5
def dkwX6_run_3 : List UInt8 := [180, 0, 192, 162, 0, 31, 42, 180, 0, 36, 154, 0, 24, 42, 7, 28, 104, 182, 0, 239, 62, 42]
abbrev dktX6_run_3 : List UInt8 := dkwX6_run_3 ++ dktX6_run_4
def dkwX6_run_2 : List UInt8 := [180, 0, 7, 3, 42, 180, 0, 19, 3, 184, 0, 61, 42, 4, 181, 0, 55, 3, 61, 3, 62, 28, 42]
abbrev dktX6_run_2 : List UInt8 := dkwX6_run_2 ++ dktX6_run_3
def dkwX6_run_1 : List UInt8 := [181, 0, 183, 42, 27, 153, 0, 7, 3, 167, 0, 4, 4, 182, 0, 86, 153, 0, 5, 3, 172, 42]
abbrev dktX6_run_1 : List UInt8 := dkwX6_run_1 ++ dktX6_run_2
def dkwX6_run_0 : List UInt8 := [42, 182, 0, 236, 60, 42, 27, 153, 0, 7, 2, 167, 0, 7, 42, 180, 0, 186, 181, 0, 25, 42, 3]
abbrev dktX6_run_0 : List UInt8 := dkwX6_run_0 ++ dktX6_run_1
theorem dksX6_run_0 : cX6_run.data.toList.drop 0 = dktX6_run_0 := by decide +kernel
theorem dksX6_run_1 : cX6_run.data.toList.drop 23 = dktX6_run_1 := dk_seg dksX6_run_0 23 rfl rfl
theorem dksX6_run_2 : cX6_run.data.toList.drop 45 = dktX6_run_2 := dk_seg dksX6_run_1 22 rfl rfl
theorem dksX6_run_3 : cX6_run.data.toList.drop 68 = dktX6_run_3 := dk_seg dksX6_run_2 23 rfl rfl
theorem dksX6_run_4 : cX6_run.data.toList.drop 90 = dktX6_run_4 := dk_seg dksX6_run_3 22 rfl rfl
theorem dksX6_run_5 : cX6_run.data.toList.drop 114 = dktX6_run_5 := dk_seg dksX6_run_4 24 rfl rfl
theorem dksX6_run_6 : cX6_run.data.toList.drop 136 = dktX6_run_6 := dk_seg dksX6_run_5 22 rfl rfl
theorem dksX6_run_7 : cX6_run.data.toList.drop 160 = dktX6_run_7 := dk_seg dksX6_run_6 24 rfl rfl
theorem dX6_run_0 : decode cX6_run 0 = .ok (.aload_n 0, 1) := dk_42 (dk_at dksX6_run_0 0 rfl rfl)
theorem dX6_run_1 : decode cX6_run 1 = .ok (.invokevirtual 236, 3) := dk_182 0 236 (dk_at dksX6_run_0 1 rfl rfl)
theorem dX6_run_4 : decode cX6_run 4 = .ok (.istore_n 1, 1) := dk_60 (dk_at dksX6_run_0 4 rfl rfl)
theorem dX6_run_5 : decode cX6_run 5 = .ok (.aload_n 0, 1) := dk_42 (dk_at dksX6_run_0 5 rfl rfl)
theorem dX6_run_6 : decode cX6_run 6 = .ok (.iload_n 1, 1) := dk_27 (dk_at dksX6_run_0 6 rfl rfl)
theorem dX6_run_7 : decode cX6_run 7 = .ok (.ifCond .eq 7, 3) := dk_153 0 7 (dk_at dksX6_run_0 7 rfl rfl)
theorem dX6_run_10 : decode cX6_run 10 = .ok (.iconst (-1), 1) := dk_2 (dk_at dksX6_run_0 10 rfl rfl)
theorem dX6_run_11 : decode cX6_run 11 = .ok (.goto 7, 3) := dk_167 0 7 (dk_at dksX6_run_0 11 rfl rfl)
theorem dX6_run_14 : decode cX6_run 14 = .ok (.aload_n 0, 1) := dk_42 (dk_at dksX6_run_0 14 rfl rfl)
theorem dX6_run_15 : decode cX6_run 15 = .ok (.getfield 186, 3) := dk_180 0 186 (dk_at dksX6_run_0 15 rfl rfl)
theorem dX6_run_18 : decode cX6_run 18 = .ok (.putfield 25, 3) := dk_181 0 25 (dk_at dksX6_run_0 18 rfl rfl)
theorem dX6_run_21 : decode cX6_run 21 = .ok (.aload_n 0, 1) := dk_42 (dk_at dksX6_run_0 21 rfl rfl)
theorem dX6_run_22 : decode cX6_run 22 = .ok (.iconst 0, 1) := dk_3 (dk_at dksX6_run_0 22 rfl rfl)
theorem dX6_run_23 : decode cX6_run 23 = .ok (.putfield 183, 3) := dk_181 0 183 (dk_at dksX6_run_1 0 rfl rfl)
theorem dX6_run_26 : decode cX6_run 26 = .ok (.aload_n 0, 1) := dk_42 (dk_at dksX6_run_1 3 rfl rfl)
theorem dX6_run_27 : decode cX6_run 27 = .ok (.iload_n 1, 1) := dk_27 (dk_at dksX6_run_1 4 rfl rfl)
theorem dX6_run_28 : decode cX6_run 28 = .ok (.ifCond .eq 7, 3) := dk_153 0 7 (dk_at dksX6_run_1 5 rfl rfl)
theorem dX6_run_31 : decode cX6_run 31 = .ok (.iconst 0, 1) := dk_3 (dk_at dksX6_run_1 8 rfl rfl)
theorem dX6_run_32 : decode cX6_run 32 = .ok (.goto 4, 3) := dk_167 0 4 (dk_at dksX6_run_1 9 rfl rfl)
theorem dX6_run_35 : decode cX6_run 35 = .ok (.iconst 1, 1) := dk_4 (dk_at dksX6_run_1 12 rfl rfl)
theorem dX6_run_36 : decode cX6_run 36 = .ok (.invokevirtual 86, 3) := dk_182 0 86 (dk_at dksX6_run_1 13 rfl rfl)
theorem dX6_run_39 : decode cX6_run 39 = .ok (.ifCond .eq 5, 3) := dk_153 0 5 (dk_at dksX6_run_1 16 rfl rfl)
theorem dX6_run_42 : decode cX6_run 42 = .ok (.iconst 0, 1) := dk_3 (dk_at dksX6_run_1 19 rfl rfl)
theorem dX6_run_43 : decode cX6_run 43 = .ok (.ireturn, 1) := dk_172 (dk_at dksX6_run_1 20 rfl rfl)
theorem dX6_run_44 : decode cX6_run 44 = .ok (.aload_n 0, 1) := dk_42 (dk_at dksX6_run_1 21 rfl rfl)
theorem dX6_run_45 : decode cX6_run 45 = .ok (.getfield 7, 3) := dk_180 0 7 (dk_at dksX6_run_2 0 rfl rfl)
theorem dX6_run_48 : decode cX6_run 48 = .ok (.iconst 0, 1) := dk_3 (dk_at dksX6_run_2 3 rfl rfl)
theorem dX6_run_49 : decode cX6_run 49 = .ok (.aload_n 0, 1) := dk_42 (dk_at dksX6_run_2 4 rfl rfl)
theorem dX6_run_50 : decode cX6_run 50 = .ok (.getfield 19, 3) := dk_180 0 19 (dk_at dksX6_run_2 5 rfl rfl)
theorem dX6_run_53 : decode cX6_run 53 = .ok (.iconst 0, 1) := dk_3 (dk_at dksX6_run_2 8 rfl rfl)
theorem dX6_run_54 : decode cX6_run 54 = .ok (.invokestatic 61, 3) := dk_184 0 61 (dk_at dksX6_run_2 9 rfl rfl)
theorem dX6_run_57 : decode cX6_run 57 = .ok (.aload_n 0, 1) := dk_42 (dk_at dksX6_run_2 12 rfl rfl)
theorem dX6_run_58 : decode cX6_run 58 = .ok (.iconst 1, 1) := dk_4 (dk_at dksX6_run_2 13 rfl rfl)
theorem dX6_run_59 : decode cX6_run 59 = .ok (.putfield 55, 3) := dk_181 0 55 (dk_at dksX6_run_2 14 rfl rfl)
theorem dX6_run_62 : decode cX6_run 62 = .ok (.iconst 0, 1) := dk_3 (dk_at dksX6_run_2 17 rfl rfl)
theorem dX6_run_63 : decode cX6_run 63 = .ok (.istore_n 2, 1) := dk_61 (dk_at dksX6_run_2 18 rfl rfl)
theorem dX6_run_64 : decode cX6_run 64 = .ok (.iconst 0, 1) := dk_3 (dk_at dksX6_run_2 19 rfl rfl)
theorem dX6_run_65 : decode cX6_run 65 = .ok (.istore_n 3, 1) := dk_62 (dk_at dksX6_run_2 20 rfl rfl)
theorem dX6_run_66 : decode cX6_run 66 = .ok (.iload_n 2, 1) := dk_28 (dk_at dksX6_run_2 21 rfl rfl)
theorem dX6_run_67 : decode cX6_run 67 = .ok (.aload_n 0, 1) := dk_42 (dk_at dksX6_run_2 22 rfl rfl)
theorem dX6_run_68 : decode cX6_run 68 = .ok (.getfield 192, 3) := dk_180 0 192 (dk_at dksX6_run_3 0 rfl rfl)
theorem dX6_run_71 : decode cX6_run 71 = .ok (.if_icmp .ge 31, 3) := dk_162 0 31 (dk_at dksX6_run_3 3 rfl rfl)
theorem dX6_run_74 : decode cX6_run 74 = .ok (.aload_n 0, 1) := dk_42 (dk_at dksX6_run_3 6 rfl rfl)
theorem dX6_run_75 : decode cX6_run 75 = .ok (.getfield 36, 3) := dk_180 0 36 (dk_at dksX6_run_3 7 rfl rfl)
theorem dX6_run_78 : decode cX6_run 78 = .ok (.ifCond .ne 24, 3) := dk_154 0 24 (dk_at dksX6_run_3 10 rfl rfl)
theorem dX6_run_81 : decode cX6_run 81 = .ok (.aload_n 0, 1) := dk_42 (dk_at dksX6_run_3 13 rfl rfl)
theorem dX6_run_82 : decode cX6_run 82 = .ok (.iconst 4, 1) := dk_7 (dk_at dksX6_run_3 14 rfl rfl)
theorem dX6_run_83 : decode cX6_run 83 = .ok (.iload_n 2, 1) := dk_28 (dk_at dksX6_run_3 15 rfl rfl)
theorem dX6_run_84 : decode cX6_run 84 = .ok (.imul, 1) := dk_104 (dk_at dksX6_run_3 16 rfl rfl)
theorem dX6_run_85 : decode cX6_run 85 = .ok (.invokevirtual 239, 3) := dk_182 0 239 (dk_at dksX6_run_3 17 rfl rfl)
theorem dX6_run_88 : decode cX6_run 88 = .ok (.istore_n 3, 1) := dk_62 (dk_at dksX6_run_3 20 rfl rfl)
theorem dX6_run_89 : decode cX6_run 89 = .ok (.aload_n 0, 1) := dk_42 (dk_at dksX6_run_3 21 rfl rfl)
theorem dX6_run_90 : decode cX6_run 90 = .ok (.getfield 36, 3) := dk_180 0 36 (dk_at dksX6_run_4 0 rfl rfl)
theorem dX6_run_93 : decode cX6_run 93 = .ok (.ifCond .ne (-27), 3) := dk_154 255 229 (dk_at dksX6_run_4 3 rfl rfl)
theorem dX6_run_96 : decode cX6_run 96 = .ok (.iinc 2 1, 3) := dk_132 2 1 (dk_at dksX6_run_4 6 rfl rfl)
theorem dX6_run_99 : decode cX6_run 99 = .ok (.goto (-33), 3) := dk_167 255 223 (dk_at dksX6_run_4 9 rfl rfl)
theorem dX6_run_102 : decode cX6_run 102 = .ok (.aload_n 0, 1) := dk_42 (dk_at dksX6_run_4 12 rfl rfl)
theorem dX6_run_103 : decode cX6_run 103 = .ok (.iconst 0, 1) := dk_3 (dk_at dksX6_run_4 13 rfl rfl)
theorem dX6_run_104 : decode cX6_run 104 = .ok (.putfield 55, 3) := dk_181 0 55 (dk_at dksX6_run_4 14 rfl rfl)
theorem dX6_run_107 : decode cX6_run 107 = .ok (.aload_n 0, 1) := dk_42 (dk_at dksX6_run_4 17 rfl rfl)
theorem dX6_run_108 : decode cX6_run 108 = .ok (.getfield 36, 3) := dk_180 0 36 (dk_at dksX6_run_4 18 rfl rfl)
theorem dX6_run_111 : decode cX6_run 111 = .ok (.ifCond .le 44, 3) := dk_158 0 44 (dk_at dksX6_run_4 21 rfl rfl)
theorem dX6_run_114 : decode cX6_run 114 = .ok (.aload_n 0, 1) := dk_42 (dk_at dksX6_run_5 0 rfl rfl)
theorem dX6_run_115 : decode cX6_run 115 = .ok (.getfield 19, 3) := dk_180 0 19 (dk_at dksX6_run_5 1 rfl rfl)
theorem dX6_run_118 : decode cX6_run 118 = .ok (.iconst 0, 1) := dk_3 (dk_at dksX6_run_5 4 rfl rfl)
theorem dX6_run_119 : decode cX6_run 119 = .ok (.aload_n 0, 1) := dk_42 (dk_at dksX6_run_5 5 rfl rfl)
theorem dX6_run_120 : decode cX6_run 120 = .ok (.getfield 7, 3) := dk_180 0 7 (dk_at dksX6_run_5 6 rfl rfl)
theorem dX6_run_123 : decode cX6_run 123 = .ok (.iconst 0, 1) := dk_3 (dk_at dksX6_run_5 9 rfl rfl)
theorem dX6_run_124 : decode cX6_run 124 = .ok (.invokestatic 61, 3) := dk_184 0 61 (dk_at dksX6_run_5 10 rfl rfl)
theorem dX6_run_127 : decode cX6_run 127 = .ok (.aload_n 0, 1) := dk_42 (dk_at dksX6_run_5 13 rfl rfl)
theorem dX6_run_128 : decode cX6_run 128 = .ok (.getfield 39, 3) := dk_180 0 39 (dk_at dksX6_run_5 14 rfl rfl)
theorem dX6_run_131 : decode cX6_run 131 = .ok (.ifCond .eq 9, 3) := dk_153 0 9 (dk_at dksX6_run_5 17 rfl rfl)
theorem dX6_run_134 : decode cX6_run 134 = .ok (.aload_n 0, 1) := dk_42 (dk_at dksX6_run_5 20 rfl rfl)
theorem dX6_run_135 : decode cX6_run 135 = .ok (.iload_n 2, 1) := dk_28 (dk_at dksX6_run_5 21 rfl rfl)
theorem dX6_run_136 : decode cX6_run 136 = .ok (.invokevirtual 242, 3) := dk_182 0 242 (dk_at dksX6_run_6 0 rfl rfl)
theorem dX6_run_139 : decode cX6_run 139 = .ok (.ireturn, 1) := dk_172 (dk_at dksX6_run_6 3 rfl rfl)
theorem dX6_run_140 : decode cX6_run 140 = .ok (.aload_n 0, 1) := dk_42 (dk_at dksX6_run_6 4 rfl rfl)
theorem dX6_run_141 : decode cX6_run 141 = .ok (.iconst 1, 1) := dk_4 (dk_at dksX6_run_6 5 rfl rfl)
theorem dX6_run_142 : decode cX6_run 142 = .ok (.putfield 36, 3) := dk_181 0 36 (dk_at dksX6_run_6 6 rfl rfl)
theorem dX6_run_145 : decode cX6_run 145 = .ok (.iload_n 3, 1) := dk_29 (dk_at dksX6_run_6 9 rfl rfl)
theorem dX6_run_146 : decode cX6_run 146 = .ok (.ifCond .le 7, 3) := dk_158 0 7 (dk_at dksX6_run_6 10 rfl rfl)
theorem dX6_run_149 : decode cX6_run 149 = .ok (.iconst 0, 1) := dk_3 (dk_at dksX6_run_6 13 rfl rfl)
theorem dX6_run_150 : decode cX6_run 150 = .ok (.goto 4, 3) := dk_167 0 4 (dk_at dksX6_run_6 14 rfl rfl)
theorem dX6_run_153 : decode cX6_run 153 = .ok (.iload_n 3, 1) := dk_29 (dk_at dksX6_run_6 17 rfl rfl)
theorem dX6_run_154 : decode cX6_run 154 = .ok (.ireturn, 1) := dk_172 (dk_at dksX6_run_6 18 rfl rfl)
theorem dX6_run_155 : decode cX6_run 155 = .ok (.aload_n 0, 1) := dk_42 (dk_at dksX6_run_6 19 rfl rfl)
theorem dX6_run_156 : decode cX6_run 156 = .ok (.aload_n 0, 1) := dk_42 (dk_at dksX6_run_6 20 rfl rfl)
theorem dX6_run_157 : decode cX6_run 157 = .ok (.getfield 19, 3) := dk_180 0 19 (dk_at dksX6_run_6 21 rfl rfl)
theorem dX6_run_160 : decode cX6_run 160 = .ok (.invokevirtual 93, 3) := dk_182 0 93 (dk_at dksX6_run_7 0 rfl rfl)
theorem dX6_run_163 : decode cX6_run 163 = .ok (.aload_n 0, 1) := dk_42 (dk_at dksX6_run_7 3 rfl rfl)
theorem dX6_run_164 : decode cX6_run 164 = .ok (.getfield 192, 3) := dk_180 0 192 (dk_at dksX6_run_7 4 rfl rfl)
theorem dX6_run_167 : decode cX6_run 167 = .ok (.ireturn, 1) := dk_172 (dk_at dksX6_run_7 7 rfl rfl)
abbrev cX6_isText : ByteArray := prog_12_method_72_code
def yX6_isText : MethodName := ⟨RX6, "isText", "()Z"⟩
def dkwX6_isText_2 : List UInt8 := [160, 0, 7, 4, 167, 0, 4, 3, 172]
abbrev dktX6_isText_2 : List UInt8 := dkwX6_isText_2 ++ []
def dkwX6_isText_1 : List UInt8 := [4, 96, 181, 0, 192, 42, 16, 59, 182, 0, 195, 154, 255, 231, 42, 180, 0, 186, 42, 180, 0, 183]
abbrev dktX6_isText_1 : List UInt8 := dkwX6_isText_1 ++ dktX6_isText_2
def dkwX6_isText_0 : List UInt8 := [42, 3, 181, 0, 186, 42, 3, 181, 0, 192, 42, 182, 0, 204, 154, 0, 5, 3, 172, 42, 89, 180, 0, 192]
abbrev dktX6_isText_0 : List UInt8 := dkwX6_isText_0 ++ dktX6_isText_1
theorem dksX6_isText_0 : cX6_isText.data.toList.drop 0 = dktX6_isText_0 := by decide +kernel
theorem dksX6_isText_1 : cX6_isText.data.toList.drop 24 = dktX6_isText_1 := dk_seg dksX6_isText_0 24 rfl rfl
theorem dksX6_isText_2 : cX6_isText.data.toList.drop 46 = dktX6_isText_2 := dk_seg dksX6_isText_1 22 rfl rfl
theorem dX6_isText_0 : decode cX6_isText 0 = .ok (.aload_n 0, 1) := dk_42 (dk_at dksX6_isText_0 0 rfl rfl)
theorem dX6_isText_1 : decode cX6_isText 1 = .ok (.iconst 0, 1) := dk_3 (dk_at dksX6_isText_0 1 rfl rfl)
theorem dX6_isText_2 : decode cX6_isText 2 = .ok (.putfield 186, 3) := dk_181 0 186 (dk_at dksX6_isText_0 2 rfl rfl)
theorem dX6_isText_5 : decode cX6_isText 5 = .ok (.aload_n 0, 1) := dk_42 (dk_at dksX6_isText_0 5 rfl rfl)
theorem dX6_isText_6 : decode cX6_isText 6 = .ok (.iconst 0, 1) := dk_3 (dk_at dksX6_isText_0 6 rfl rfl)
theorem dX6_isText_7 : decode cX6_isText 7 = .ok (.putfield 192, 3) := dk_181 0 192 (dk_at dksX6_isText_0 7 rfl rfl)
theorem dX6_isText_10 : decode cX6_isText 10 = .ok (.aload_n 0, 1) := dk_42 (dk_at dksX6_isText_0 10 rfl rfl)
theorem dX6_isText_11 : decode cX6_isText 11 = .ok (.invokevirtual 204, 3) := dk_182 0 204 (dk_at dksX6_isText_0 11 rfl rfl)
theorem dX6_isText_14 : decode cX6_isText 14 = .ok (.ifCond .ne 5, 3) := dk_154 0 5 (dk_at dksX6_isText_0 14 rfl rfl)
theorem dX6_isText_17 : decode cX6_isText 17 = .ok (.iconst 0, 1) := dk_3 (dk_at dksX6_isText_0 17 rfl rfl)
theorem dX6_isText_18 : decode cX6_isText 18 = .ok (.ireturn, 1) := dk_172 (dk_at dksX6_isText_0 18 rfl rfl)
theorem dX6_isText_19 : decode cX6_isText 19 = .ok (.aload_n 0, 1) := dk_42 (dk_at dksX6_isText_0 19 rfl rfl)
theorem dX6_isText_20 : decode cX6_isText 20 = .ok (.dup, 1) := dk_89 (dk_at dksX6_isText_0 20 rfl rfl)
theorem dX6_isText_21 : decode cX6_isText 21 = .ok (.getfield 192, 3) := dk_180 0 192 (dk_at dksX6_isText_0 21 rfl rfl)
theorem dX6_isText_24 : decode cX6_isText 24 = .ok (.iconst 1, 1) := dk_4 (dk_at dksX6_isText_1 0 rfl rfl)
theorem dX6_isText_25 : decode cX6_isText 25 = .ok (.iadd, 1) := dk_96 (dk_at dksX6_isText_1 1 rfl rfl)
theorem dX6_isText_26 : decode cX6_isText 26 = .ok (.putfield 192, 3) := dk_181 0 192 (dk_at dksX6_isText_1 2 rfl rfl)
theorem dX6_isText_29 : decode cX6_isText 29 = .ok (.aload_n 0, 1) := dk_42 (dk_at dksX6_isText_1 5 rfl rfl)
theorem dX6_isText_30 : decode cX6_isText 30 = .ok (.bipush 59, 2) := dk_16 59 (dk_at dksX6_isText_1 6 rfl rfl)
theorem dX6_isText_32 : decode cX6_isText 32 = .ok (.invokevirtual 195, 3) := dk_182 0 195 (dk_at dksX6_isText_1 8 rfl rfl)
theorem dX6_isText_35 : decode cX6_isText 35 = .ok (.ifCond .ne (-25), 3) := dk_154 255 231 (dk_at dksX6_isText_1 11 rfl rfl)
theorem dX6_isText_38 : decode cX6_isText 38 = .ok (.aload_n 0, 1) := dk_42 (dk_at dksX6_isText_1 14 rfl rfl)
theorem dX6_isText_39 : decode cX6_isText 39 = .ok (.getfield 186, 3) := dk_180 0 186 (dk_at dksX6_isText_1 15 rfl rfl)
theorem dX6_isText_42 : decode cX6_isText 42 = .ok (.aload_n 0, 1) := dk_42 (dk_at dksX6_isText_1 18 rfl rfl)
theorem dX6_isText_43 : decode cX6_isText 43 = .ok (.getfield 183, 3) := dk_180 0 183 (dk_at dksX6_isText_1 19 rfl rfl)
theorem dX6_isText_46 : decode cX6_isText 46 = .ok (.if_icmp .ne 7, 3) := dk_160 0 7 (dk_at dksX6_isText_2 0 rfl rfl)
theorem dX6_isText_49 : decode cX6_isText 49 = .ok (.iconst 1, 1) := dk_4 (dk_at dksX6_isText_2 3 rfl rfl)
theorem dX6_isText_50 : decode cX6_isText 50 = .ok (.goto 4, 3) := dk_167 0 4 (dk_at dksX6_isText_2 4 rfl rfl)
theorem dX6_isText_53 : decode cX6_isText 53 = .ok (.iconst 0, 1) := dk_3 (dk_at dksX6_isText_2 7 rfl rfl)
theorem dX6_isText_54 : decode cX6_isText 54 = .ok (.ireturn, 1) := dk_172 (dk_at dksX6_isText_2 8 rfl rfl)
abbrev cX6_orderHere : ByteArray := prog_12_method_71_code
def yX6_orderHere : MethodName := ⟨RX6, "orderHere", "()Z"⟩
def dkwX6_orderHere_10 : List UInt8 := [172]
abbrev dktX6_orderHere_10 : List UInt8 := dkwX6_orderHere_10 ++ []
def dkwX6_orderHere_9 : List UInt8 := [16, 120, 182, 0, 195, 153, 0, 18, 42, 27, 4, 96, 4, 182, 0, 198, 153, 0, 7, 4, 167, 0, 4, 3]
abbrev dktX6_orderHere_9 : List UInt8 := dkwX6_orderHere_9 ++ dktX6_orderHere_10
def dkwX6_orderHere_8 : List UInt8 := [182, 0, 198, 153, 0, 18, 42, 27, 5, 96, 4, 182, 0, 198, 153, 0, 7, 4, 167, 0, 4, 3, 172, 42]
abbrev dktX6_orderHere_8 : List UInt8 := dkwX6_orderHere_8 ++ dktX6_orderHere_9
def dkwX6_orderHere_7 : List UInt8 := [16, 99, 182, 0, 195, 154, 0, 12, 42, 16, 114, 182, 0, 195, 153, 0, 31, 42, 27, 4, 96, 4]
abbrev dktX6_orderHere_7 : List UInt8 := dkwX6_orderHere_7 ++ dktX6_orderHere_8
def dkwX6_orderHere_6 : List UInt8 := [4, 182, 0, 201, 153, 0, 7, 4, 167, 0, 4, 3, 172, 42, 16, 108, 182, 0, 195, 154, 0, 21, 42]
abbrev dktX6_orderHere_6 : List UInt8 := dkwX6_orderHere_6 ++ dktX6_orderHere_7
def dkwX6_orderHere_5 : List UInt8 := [96, 4, 182, 0, 198, 153, 0, 30, 42, 27, 5, 96, 4, 182, 0, 198, 153, 0, 19, 42, 27, 6, 96, 4]
abbrev dktX6_orderHere_5 : List UInt8 := dkwX6_orderHere_5 ++ dktX6_orderHere_6
def dkwX6_orderHere_4 : List UInt8 := [182, 0, 201, 153, 0, 7, 4, 167, 0, 4, 3, 172, 42, 16, 109, 182, 0, 195, 153, 0, 43, 42, 27, 4]
abbrev dktX6_orderHere_4 : List UInt8 := dkwX6_orderHere_4 ++ dktX6_orderHere_5
def dkwX6_orderHere_3 : List UInt8 := [182, 0, 198, 153, 0, 29, 42, 16, 61, 182, 0, 195, 153, 0, 20, 42, 27, 5, 96, 6, 16, 8]
abbrev dktX6_orderHere_3 : List UInt8 := dkwX6_orderHere_3 ++ dktX6_orderHere_4
def dkwX6_orderHere_2 : List UInt8 := [27, 4, 96, 5, 182, 0, 198, 172, 42, 16, 115, 182, 0, 195, 153, 0, 42, 42, 27, 4, 96, 4]
abbrev dktX6_orderHere_2 : List UInt8 := dkwX6_orderHere_2 ++ dktX6_orderHere_3
def dkwX6_orderHere_1 : List UInt8 := [154, 0, 12, 42, 16, 100, 182, 0, 195, 153, 0, 5, 4, 172, 42, 16, 104, 182, 0, 195, 153, 0, 12, 42]
abbrev dktX6_orderHere_1 : List UInt8 := dkwX6_orderHere_1 ++ dktX6_orderHere_2
def dkwX6_orderHere_0 : List UInt8 := [7, 42, 180, 0, 192, 104, 60, 42, 180, 0, 33, 27, 42, 182, 0, 189, 79, 42, 16, 101, 182, 0, 195]
abbrev dktX6_orderHere_0 : List UInt8 := dkwX6_orderHere_0 ++ dktX6_orderHere_1
theorem dksX6_orderHere_0 : cX6_orderHere.data.toList.drop 0 = dktX6_orderHere_0 := by decide +kernel
theorem dksX6_orderHere_1 : cX6_orderHere.data.toList.drop 23 = dktX6_orderHere_1 := dk_seg dksX6_orderHere_0 23 rfl rfl
theorem dksX6_orderHere_2 : cX6_orderHere.data.toList.drop 47 = dktX6_orderHere_2 := dk_seg dksX6_orderHere_1 24 rfl rfl
theorem dksX6_orderHere_3 : cX6_orderHere.data.toList.drop 69 = dktX6_orderHere_3 := dk_seg dksX6_orderHere_2 22 rfl rfl
theorem dksX6_orderHere_4 : cX6_orderHere.data.toList.drop 91 = dktX6_orderHere_4 := dk_seg dksX6_orderHere_3 22 rfl rfl
theorem dksX6_orderHere_5 : cX6_orderHere.data.toList.drop 115 = dktX6_orderHere_5 := dk_seg dksX6_orderHere_4 24 rfl rfl
theorem dksX6_orderHere_6 : cX6_orderHere.data.toList.drop 139 = dktX6_orderHere_6 := dk_seg dksX6_orderHere_5 24 rfl rfl
theorem dksX6_orderHere_7 : cX6_orderHere.data.toList.drop 162 = dktX6_orderHere_7 := dk_seg dksX6_orderHere_6 23 rfl rfl
theorem dksX6_orderHere_8 : cX6_orderHere.data.toList.drop 184 = dktX6_orderHere_8 := dk_seg dksX6_orderHere_7 22 rfl rfl
theorem dksX6_orderHere_9 : cX6_orderHere.data.toList.drop 208 = dktX6_orderHere_9 := dk_seg dksX6_orderHere_8 24 rfl rfl
theorem dksX6_orderHere_10 : cX6_orderHere.data.toList.drop 232 = dktX6_orderHere_10 := dk_seg dksX6_orderHere_9 24 rfl rfl
theorem dX6_orderHere_0 : decode cX6_orderHere 0 = .ok (.iconst 4, 1) := dk_7 (dk_at dksX6_orderHere_0 0 rfl rfl)
theorem dX6_orderHere_1 : decode cX6_orderHere 1 = .ok (.aload_n 0, 1) := dk_42 (dk_at dksX6_orderHere_0 1 rfl rfl)
theorem dX6_orderHere_2 : decode cX6_orderHere 2 = .ok (.getfield 192, 3) := dk_180 0 192 (dk_at dksX6_orderHere_0 2 rfl rfl)
theorem dX6_orderHere_5 : decode cX6_orderHere 5 = .ok (.imul, 1) := dk_104 (dk_at dksX6_orderHere_0 5 rfl rfl)
theorem dX6_orderHere_6 : decode cX6_orderHere 6 = .ok (.istore_n 1, 1) := dk_60 (dk_at dksX6_orderHere_0 6 rfl rfl)
theorem dX6_orderHere_7 : decode cX6_orderHere 7 = .ok (.aload_n 0, 1) := dk_42 (dk_at dksX6_orderHere_0 7 rfl rfl)
theorem dX6_orderHere_8 : decode cX6_orderHere 8 = .ok (.getfield 33, 3) := dk_180 0 33 (dk_at dksX6_orderHere_0 8 rfl rfl)
theorem dX6_orderHere_11 : decode cX6_orderHere 11 = .ok (.iload_n 1, 1) := dk_27 (dk_at dksX6_orderHere_0 11 rfl rfl)
theorem dX6_orderHere_12 : decode cX6_orderHere 12 = .ok (.aload_n 0, 1) := dk_42 (dk_at dksX6_orderHere_0 12 rfl rfl)
theorem dX6_orderHere_13 : decode cX6_orderHere 13 = .ok (.invokevirtual 189, 3) := dk_182 0 189 (dk_at dksX6_orderHere_0 13 rfl rfl)
theorem dX6_orderHere_16 : decode cX6_orderHere 16 = .ok (.iastore, 1) := dk_79 (dk_at dksX6_orderHere_0 16 rfl rfl)
theorem dX6_orderHere_17 : decode cX6_orderHere 17 = .ok (.aload_n 0, 1) := dk_42 (dk_at dksX6_orderHere_0 17 rfl rfl)
theorem dX6_orderHere_18 : decode cX6_orderHere 18 = .ok (.bipush 101, 2) := dk_16 101 (dk_at dksX6_orderHere_0 18 rfl rfl)
theorem dX6_orderHere_20 : decode cX6_orderHere 20 = .ok (.invokevirtual 195, 3) := dk_182 0 195 (dk_at dksX6_orderHere_0 20 rfl rfl)
theorem dX6_orderHere_23 : decode cX6_orderHere 23 = .ok (.ifCond .ne 12, 3) := dk_154 0 12 (dk_at dksX6_orderHere_1 0 rfl rfl)
theorem dX6_orderHere_26 : decode cX6_orderHere 26 = .ok (.aload_n 0, 1) := dk_42 (dk_at dksX6_orderHere_1 3 rfl rfl)
theorem dX6_orderHere_27 : decode cX6_orderHere 27 = .ok (.bipush 100, 2) := dk_16 100 (dk_at dksX6_orderHere_1 4 rfl rfl)
theorem dX6_orderHere_29 : decode cX6_orderHere 29 = .ok (.invokevirtual 195, 3) := dk_182 0 195 (dk_at dksX6_orderHere_1 6 rfl rfl)
theorem dX6_orderHere_32 : decode cX6_orderHere 32 = .ok (.ifCond .eq 5, 3) := dk_153 0 5 (dk_at dksX6_orderHere_1 9 rfl rfl)
theorem dX6_orderHere_35 : decode cX6_orderHere 35 = .ok (.iconst 1, 1) := dk_4 (dk_at dksX6_orderHere_1 12 rfl rfl)
theorem dX6_orderHere_36 : decode cX6_orderHere 36 = .ok (.ireturn, 1) := dk_172 (dk_at dksX6_orderHere_1 13 rfl rfl)
theorem dX6_orderHere_37 : decode cX6_orderHere 37 = .ok (.aload_n 0, 1) := dk_42 (dk_at dksX6_orderHere_1 14 rfl rfl)
theorem dX6_orderHere_38 : decode cX6_orderHere 38 = .ok (.bipush 104, 2) := dk_16 104 (dk_at dksX6_orderHere_1 15 rfl rfl)
theorem dX6_orderHere_40 : decode cX6_orderHere 40 = .ok (.invokevirtual 195, 3) := dk_182 0 195 (dk_at dksX6_orderHere_1 17 rfl rfl)
theorem dX6_orderHere_43 : decode cX6_orderHere 43 = .ok (.ifCond .eq 12, 3) := dk_153 0 12 (dk_at dksX6_orderHere_1 20 rfl rfl)
theorem dX6_orderHere_46 : decode cX6_orderHere 46 = .ok (.aload_n 0, 1) := dk_42 (dk_at dksX6_orderHere_1 23 rfl rfl)
theorem dX6_orderHere_47 : decode cX6_orderHere 47 = .ok (.iload_n 1, 1) := dk_27 (dk_at dksX6_orderHere_2 0 rfl rfl)
theorem dX6_orderHere_48 : decode cX6_orderHere 48 = .ok (.iconst 1, 1) := dk_4 (dk_at dksX6_orderHere_2 1 rfl rfl)
theorem dX6_orderHere_49 : decode cX6_orderHere 49 = .ok (.iadd, 1) := dk_96 (dk_at dksX6_orderHere_2 2 rfl rfl)
theorem dX6_orderHere_50 : decode cX6_orderHere 50 = .ok (.iconst 2, 1) := dk_5 (dk_at dksX6_orderHere_2 3 rfl rfl)
theorem dX6_orderHere_51 : decode cX6_orderHere 51 = .ok (.invokevirtual 198, 3) := dk_182 0 198 (dk_at dksX6_orderHere_2 4 rfl rfl)
theorem dX6_orderHere_54 : decode cX6_orderHere 54 = .ok (.ireturn, 1) := dk_172 (dk_at dksX6_orderHere_2 7 rfl rfl)
theorem dX6_orderHere_55 : decode cX6_orderHere 55 = .ok (.aload_n 0, 1) := dk_42 (dk_at dksX6_orderHere_2 8 rfl rfl)
theorem dX6_orderHere_56 : decode cX6_orderHere 56 = .ok (.bipush 115, 2) := dk_16 115 (dk_at dksX6_orderHere_2 9 rfl rfl)
theorem dX6_orderHere_58 : decode cX6_orderHere 58 = .ok (.invokevirtual 195, 3) := dk_182 0 195 (dk_at dksX6_orderHere_2 11 rfl rfl)
theorem dX6_orderHere_61 : decode cX6_orderHere 61 = .ok (.ifCond .eq 42, 3) := dk_153 0 42 (dk_at dksX6_orderHere_2 14 rfl rfl)
theorem dX6_orderHere_64 : decode cX6_orderHere 64 = .ok (.aload_n 0, 1) := dk_42 (dk_at dksX6_orderHere_2 17 rfl rfl)
theorem dX6_orderHere_65 : decode cX6_orderHere 65 = .ok (.iload_n 1, 1) := dk_27 (dk_at dksX6_orderHere_2 18 rfl rfl)
theorem dX6_orderHere_66 : decode cX6_orderHere 66 = .ok (.iconst 1, 1) := dk_4 (dk_at dksX6_orderHere_2 19 rfl rfl)
theorem dX6_orderHere_67 : decode cX6_orderHere 67 = .ok (.iadd, 1) := dk_96 (dk_at dksX6_orderHere_2 20 rfl rfl)
theorem dX6_orderHere_68 : decode cX6_orderHere 68 = .ok (.iconst 1, 1) := dk_4 (dk_at dksX6_orderHere_2 21 rfl rfl)
theorem dX6_orderHere_69 : decode cX6_orderHere 69 = .ok (.invokevirtual 198, 3) := dk_182 0 198 (dk_at dksX6_orderHere_3 0 rfl rfl)
theorem dX6_orderHere_72 : decode cX6_orderHere 72 = .ok (.ifCond .eq 29, 3) := dk_153 0 29 (dk_at dksX6_orderHere_3 3 rfl rfl)
theorem dX6_orderHere_75 : decode cX6_orderHere 75 = .ok (.aload_n 0, 1) := dk_42 (dk_at dksX6_orderHere_3 6 rfl rfl)
theorem dX6_orderHere_76 : decode cX6_orderHere 76 = .ok (.bipush 61, 2) := dk_16 61 (dk_at dksX6_orderHere_3 7 rfl rfl)
theorem dX6_orderHere_78 : decode cX6_orderHere 78 = .ok (.invokevirtual 195, 3) := dk_182 0 195 (dk_at dksX6_orderHere_3 9 rfl rfl)
theorem dX6_orderHere_81 : decode cX6_orderHere 81 = .ok (.ifCond .eq 20, 3) := dk_153 0 20 (dk_at dksX6_orderHere_3 12 rfl rfl)
theorem dX6_orderHere_84 : decode cX6_orderHere 84 = .ok (.aload_n 0, 1) := dk_42 (dk_at dksX6_orderHere_3 15 rfl rfl)
theorem dX6_orderHere_85 : decode cX6_orderHere 85 = .ok (.iload_n 1, 1) := dk_27 (dk_at dksX6_orderHere_3 16 rfl rfl)
theorem dX6_orderHere_86 : decode cX6_orderHere 86 = .ok (.iconst 2, 1) := dk_5 (dk_at dksX6_orderHere_3 17 rfl rfl)
theorem dX6_orderHere_87 : decode cX6_orderHere 87 = .ok (.iadd, 1) := dk_96 (dk_at dksX6_orderHere_3 18 rfl rfl)
theorem dX6_orderHere_88 : decode cX6_orderHere 88 = .ok (.iconst 3, 1) := dk_6 (dk_at dksX6_orderHere_3 19 rfl rfl)
theorem dX6_orderHere_89 : decode cX6_orderHere 89 = .ok (.bipush 8, 2) := dk_16 8 (dk_at dksX6_orderHere_3 20 rfl rfl)
theorem dX6_orderHere_91 : decode cX6_orderHere 91 = .ok (.invokevirtual 201, 3) := dk_182 0 201 (dk_at dksX6_orderHere_4 0 rfl rfl)
theorem dX6_orderHere_94 : decode cX6_orderHere 94 = .ok (.ifCond .eq 7, 3) := dk_153 0 7 (dk_at dksX6_orderHere_4 3 rfl rfl)
theorem dX6_orderHere_97 : decode cX6_orderHere 97 = .ok (.iconst 1, 1) := dk_4 (dk_at dksX6_orderHere_4 6 rfl rfl)
theorem dX6_orderHere_98 : decode cX6_orderHere 98 = .ok (.goto 4, 3) := dk_167 0 4 (dk_at dksX6_orderHere_4 7 rfl rfl)
theorem dX6_orderHere_101 : decode cX6_orderHere 101 = .ok (.iconst 0, 1) := dk_3 (dk_at dksX6_orderHere_4 10 rfl rfl)
theorem dX6_orderHere_102 : decode cX6_orderHere 102 = .ok (.ireturn, 1) := dk_172 (dk_at dksX6_orderHere_4 11 rfl rfl)
theorem dX6_orderHere_103 : decode cX6_orderHere 103 = .ok (.aload_n 0, 1) := dk_42 (dk_at dksX6_orderHere_4 12 rfl rfl)
theorem dX6_orderHere_104 : decode cX6_orderHere 104 = .ok (.bipush 109, 2) := dk_16 109 (dk_at dksX6_orderHere_4 13 rfl rfl)
theorem dX6_orderHere_106 : decode cX6_orderHere 106 = .ok (.invokevirtual 195, 3) := dk_182 0 195 (dk_at dksX6_orderHere_4 15 rfl rfl)
theorem dX6_orderHere_109 : decode cX6_orderHere 109 = .ok (.ifCond .eq 43, 3) := dk_153 0 43 (dk_at dksX6_orderHere_4 18 rfl rfl)
theorem dX6_orderHere_112 : decode cX6_orderHere 112 = .ok (.aload_n 0, 1) := dk_42 (dk_at dksX6_orderHere_4 21 rfl rfl)
theorem dX6_orderHere_113 : decode cX6_orderHere 113 = .ok (.iload_n 1, 1) := dk_27 (dk_at dksX6_orderHere_4 22 rfl rfl)
theorem dX6_orderHere_114 : decode cX6_orderHere 114 = .ok (.iconst 1, 1) := dk_4 (dk_at dksX6_orderHere_4 23 rfl rfl)
theorem dX6_orderHere_115 : decode cX6_orderHere 115 = .ok (.iadd, 1) := dk_96 (dk_at dksX6_orderHere_5 0 rfl rfl)
theorem dX6_orderHere_116 : decode cX6_orderHere 116 = .ok (.iconst 1, 1) := dk_4 (dk_at dksX6_orderHere_5 1 rfl rfl)
theorem dX6_orderHere_117 : decode cX6_orderHere 117 = .ok (.invokevirtual 198, 3) := dk_182 0 198 (dk_at dksX6_orderHere_5 2 rfl rfl)
theorem dX6_orderHere_120 : decode cX6_orderHere 120 = .ok (.ifCond .eq 30, 3) := dk_153 0 30 (dk_at dksX6_orderHere_5 5 rfl rfl)
theorem dX6_orderHere_123 : decode cX6_orderHere 123 = .ok (.aload_n 0, 1) := dk_42 (dk_at dksX6_orderHere_5 8 rfl rfl)
theorem dX6_orderHere_124 : decode cX6_orderHere 124 = .ok (.iload_n 1, 1) := dk_27 (dk_at dksX6_orderHere_5 9 rfl rfl)
theorem dX6_orderHere_125 : decode cX6_orderHere 125 = .ok (.iconst 2, 1) := dk_5 (dk_at dksX6_orderHere_5 10 rfl rfl)
theorem dX6_orderHere_126 : decode cX6_orderHere 126 = .ok (.iadd, 1) := dk_96 (dk_at dksX6_orderHere_5 11 rfl rfl)
theorem dX6_orderHere_127 : decode cX6_orderHere 127 = .ok (.iconst 1, 1) := dk_4 (dk_at dksX6_orderHere_5 12 rfl rfl)
theorem dX6_orderHere_128 : decode cX6_orderHere 128 = .ok (.invokevirtual 198, 3) := dk_182 0 198 (dk_at dksX6_orderHere_5 13 rfl rfl)
theorem dX6_orderHere_131 : decode cX6_orderHere 131 = .ok (.ifCond .eq 19, 3) := dk_153 0 19 (dk_at dksX6_orderHere_5 16 rfl rfl)
theorem dX6_orderHere_134 : decode cX6_orderHere 134 = .ok (.aload_n 0, 1) := dk_42 (dk_at dksX6_orderHere_5 19 rfl rfl)
theorem dX6_orderHere_135 : decode cX6_orderHere 135 = .ok (.iload_n 1, 1) := dk_27 (dk_at dksX6_orderHere_5 20 rfl rfl)
theorem dX6_orderHere_136 : decode cX6_orderHere 136 = .ok (.iconst 3, 1) := dk_6 (dk_at dksX6_orderHere_5 21 rfl rfl)
theorem dX6_orderHere_137 : decode cX6_orderHere 137 = .ok (.iadd, 1) := dk_96 (dk_at dksX6_orderHere_5 22 rfl rfl)
theorem dX6_orderHere_138 : decode cX6_orderHere 138 = .ok (.iconst 1, 1) := dk_4 (dk_at dksX6_orderHere_5 23 rfl rfl)
theorem dX6_orderHere_139 : decode cX6_orderHere 139 = .ok (.iconst 1, 1) := dk_4 (dk_at dksX6_orderHere_6 0 rfl rfl)
theorem dX6_orderHere_140 : decode cX6_orderHere 140 = .ok (.invokevirtual 201, 3) := dk_182 0 201 (dk_at dksX6_orderHere_6 1 rfl rfl)
theorem dX6_orderHere_143 : decode cX6_orderHere 143 = .ok (.ifCond .eq 7, 3) := dk_153 0 7 (dk_at dksX6_orderHere_6 4 rfl rfl)
theorem dX6_orderHere_146 : decode cX6_orderHere 146 = .ok (.iconst 1, 1) := dk_4 (dk_at dksX6_orderHere_6 7 rfl rfl)
theorem dX6_orderHere_147 : decode cX6_orderHere 147 = .ok (.goto 4, 3) := dk_167 0 4 (dk_at dksX6_orderHere_6 8 rfl rfl)
theorem dX6_orderHere_150 : decode cX6_orderHere 150 = .ok (.iconst 0, 1) := dk_3 (dk_at dksX6_orderHere_6 11 rfl rfl)
theorem dX6_orderHere_151 : decode cX6_orderHere 151 = .ok (.ireturn, 1) := dk_172 (dk_at dksX6_orderHere_6 12 rfl rfl)
theorem dX6_orderHere_152 : decode cX6_orderHere 152 = .ok (.aload_n 0, 1) := dk_42 (dk_at dksX6_orderHere_6 13 rfl rfl)
theorem dX6_orderHere_153 : decode cX6_orderHere 153 = .ok (.bipush 108, 2) := dk_16 108 (dk_at dksX6_orderHere_6 14 rfl rfl)
theorem dX6_orderHere_155 : decode cX6_orderHere 155 = .ok (.invokevirtual 195, 3) := dk_182 0 195 (dk_at dksX6_orderHere_6 16 rfl rfl)
theorem dX6_orderHere_158 : decode cX6_orderHere 158 = .ok (.ifCond .ne 21, 3) := dk_154 0 21 (dk_at dksX6_orderHere_6 19 rfl rfl)
theorem dX6_orderHere_161 : decode cX6_orderHere 161 = .ok (.aload_n 0, 1) := dk_42 (dk_at dksX6_orderHere_6 22 rfl rfl)
theorem dX6_orderHere_162 : decode cX6_orderHere 162 = .ok (.bipush 99, 2) := dk_16 99 (dk_at dksX6_orderHere_7 0 rfl rfl)
theorem dX6_orderHere_164 : decode cX6_orderHere 164 = .ok (.invokevirtual 195, 3) := dk_182 0 195 (dk_at dksX6_orderHere_7 2 rfl rfl)
theorem dX6_orderHere_167 : decode cX6_orderHere 167 = .ok (.ifCond .ne 12, 3) := dk_154 0 12 (dk_at dksX6_orderHere_7 5 rfl rfl)
theorem dX6_orderHere_170 : decode cX6_orderHere 170 = .ok (.aload_n 0, 1) := dk_42 (dk_at dksX6_orderHere_7 8 rfl rfl)
theorem dX6_orderHere_171 : decode cX6_orderHere 171 = .ok (.bipush 114, 2) := dk_16 114 (dk_at dksX6_orderHere_7 9 rfl rfl)
theorem dX6_orderHere_173 : decode cX6_orderHere 173 = .ok (.invokevirtual 195, 3) := dk_182 0 195 (dk_at dksX6_orderHere_7 11 rfl rfl)
theorem dX6_orderHere_176 : decode cX6_orderHere 176 = .ok (.ifCond .eq 31, 3) := dk_153 0 31 (dk_at dksX6_orderHere_7 14 rfl rfl)
theorem dX6_orderHere_179 : decode cX6_orderHere 179 = .ok (.aload_n 0, 1) := dk_42 (dk_at dksX6_orderHere_7 17 rfl rfl)
theorem dX6_orderHere_180 : decode cX6_orderHere 180 = .ok (.iload_n 1, 1) := dk_27 (dk_at dksX6_orderHere_7 18 rfl rfl)
theorem dX6_orderHere_181 : decode cX6_orderHere 181 = .ok (.iconst 1, 1) := dk_4 (dk_at dksX6_orderHere_7 19 rfl rfl)
theorem dX6_orderHere_182 : decode cX6_orderHere 182 = .ok (.iadd, 1) := dk_96 (dk_at dksX6_orderHere_7 20 rfl rfl)
theorem dX6_orderHere_183 : decode cX6_orderHere 183 = .ok (.iconst 1, 1) := dk_4 (dk_at dksX6_orderHere_7 21 rfl rfl)
theorem dX6_orderHere_184 : decode cX6_orderHere 184 = .ok (.invokevirtual 198, 3) := dk_182 0 198 (dk_at dksX6_orderHere_8 0 rfl rfl)
theorem dX6_orderHere_187 : decode cX6_orderHere 187 = .ok (.ifCond .eq 18, 3) := dk_153 0 18 (dk_at dksX6_orderHere_8 3 rfl rfl)
theorem dX6_orderHere_190 : decode cX6_orderHere 190 = .ok (.aload_n 0, 1) := dk_42 (dk_at dksX6_orderHere_8 6 rfl rfl)
theorem dX6_orderHere_191 : decode cX6_orderHere 191 = .ok (.iload_n 1, 1) := dk_27 (dk_at dksX6_orderHere_8 7 rfl rfl)
theorem dX6_orderHere_192 : decode cX6_orderHere 192 = .ok (.iconst 2, 1) := dk_5 (dk_at dksX6_orderHere_8 8 rfl rfl)
theorem dX6_orderHere_193 : decode cX6_orderHere 193 = .ok (.iadd, 1) := dk_96 (dk_at dksX6_orderHere_8 9 rfl rfl)
theorem dX6_orderHere_194 : decode cX6_orderHere 194 = .ok (.iconst 1, 1) := dk_4 (dk_at dksX6_orderHere_8 10 rfl rfl)
theorem dX6_orderHere_195 : decode cX6_orderHere 195 = .ok (.invokevirtual 198, 3) := dk_182 0 198 (dk_at dksX6_orderHere_8 11 rfl rfl)
theorem dX6_orderHere_198 : decode cX6_orderHere 198 = .ok (.ifCond .eq 7, 3) := dk_153 0 7 (dk_at dksX6_orderHere_8 14 rfl rfl)
theorem dX6_orderHere_201 : decode cX6_orderHere 201 = .ok (.iconst 1, 1) := dk_4 (dk_at dksX6_orderHere_8 17 rfl rfl)
theorem dX6_orderHere_202 : decode cX6_orderHere 202 = .ok (.goto 4, 3) := dk_167 0 4 (dk_at dksX6_orderHere_8 18 rfl rfl)
theorem dX6_orderHere_205 : decode cX6_orderHere 205 = .ok (.iconst 0, 1) := dk_3 (dk_at dksX6_orderHere_8 21 rfl rfl)
theorem dX6_orderHere_206 : decode cX6_orderHere 206 = .ok (.ireturn, 1) := dk_172 (dk_at dksX6_orderHere_8 22 rfl rfl)
theorem dX6_orderHere_207 : decode cX6_orderHere 207 = .ok (.aload_n 0, 1) := dk_42 (dk_at dksX6_orderHere_8 23 rfl rfl)
theorem dX6_orderHere_208 : decode cX6_orderHere 208 = .ok (.bipush 120, 2) := dk_16 120 (dk_at dksX6_orderHere_9 0 rfl rfl)
theorem dX6_orderHere_210 : decode cX6_orderHere 210 = .ok (.invokevirtual 195, 3) := dk_182 0 195 (dk_at dksX6_orderHere_9 2 rfl rfl)
theorem dX6_orderHere_213 : decode cX6_orderHere 213 = .ok (.ifCond .eq 18, 3) := dk_153 0 18 (dk_at dksX6_orderHere_9 5 rfl rfl)
theorem dX6_orderHere_216 : decode cX6_orderHere 216 = .ok (.aload_n 0, 1) := dk_42 (dk_at dksX6_orderHere_9 8 rfl rfl)
theorem dX6_orderHere_217 : decode cX6_orderHere 217 = .ok (.iload_n 1, 1) := dk_27 (dk_at dksX6_orderHere_9 9 rfl rfl)
theorem dX6_orderHere_218 : decode cX6_orderHere 218 = .ok (.iconst 1, 1) := dk_4 (dk_at dksX6_orderHere_9 10 rfl rfl)
theorem dX6_orderHere_219 : decode cX6_orderHere 219 = .ok (.iadd, 1) := dk_96 (dk_at dksX6_orderHere_9 11 rfl rfl)
theorem dX6_orderHere_220 : decode cX6_orderHere 220 = .ok (.iconst 1, 1) := dk_4 (dk_at dksX6_orderHere_9 12 rfl rfl)
theorem dX6_orderHere_221 : decode cX6_orderHere 221 = .ok (.invokevirtual 198, 3) := dk_182 0 198 (dk_at dksX6_orderHere_9 13 rfl rfl)
theorem dX6_orderHere_224 : decode cX6_orderHere 224 = .ok (.ifCond .eq 7, 3) := dk_153 0 7 (dk_at dksX6_orderHere_9 16 rfl rfl)
theorem dX6_orderHere_227 : decode cX6_orderHere 227 = .ok (.iconst 1, 1) := dk_4 (dk_at dksX6_orderHere_9 19 rfl rfl)
theorem dX6_orderHere_228 : decode cX6_orderHere 228 = .ok (.goto 4, 3) := dk_167 0 4 (dk_at dksX6_orderHere_9 20 rfl rfl)
theorem dX6_orderHere_231 : decode cX6_orderHere 231 = .ok (.iconst 0, 1) := dk_3 (dk_at dksX6_orderHere_9 23 rfl rfl)
theorem dX6_orderHere_232 : decode cX6_orderHere 232 = .ok (.ireturn, 1) := dk_172 (dk_at dksX6_orderHere_10 0 rfl rfl)
abbrev cX6_here : ByteArray := prog_12_method_67_code
def yX6_here : MethodName := ⟨RX6, "here", "()I"⟩
def dkwX6_here_1 : List UInt8 := [172]
abbrev dktX6_here_1 : List UInt8 := dkwX6_here_1 ++ []
def dkwX6_here_0 : List UInt8 := [42, 180, 0, 186, 42, 180, 0, 183, 162, 0, 15, 42, 180, 0, 22, 42, 180, 0, 186, 46, 167, 0, 4, 2]
abbrev dktX6_here_0 : List UInt8 := dkwX6_here_0 ++ dktX6_here_1
theorem dksX6_here_0 : cX6_here.data.toList.drop 0 = dktX6_here_0 := by decide +kernel
theorem dksX6_here_1 : cX6_here.data.toList.drop 24 = dktX6_here_1 := dk_seg dksX6_here_0 24 rfl rfl
theorem dX6_here_0 : decode cX6_here 0 = .ok (.aload_n 0, 1) := dk_42 (dk_at dksX6_here_0 0 rfl rfl)
theorem dX6_here_1 : decode cX6_here 1 = .ok (.getfield 186, 3) := dk_180 0 186 (dk_at dksX6_here_0 1 rfl rfl)
theorem dX6_here_4 : decode cX6_here 4 = .ok (.aload_n 0, 1) := dk_42 (dk_at dksX6_here_0 4 rfl rfl)
theorem dX6_here_5 : decode cX6_here 5 = .ok (.getfield 183, 3) := dk_180 0 183 (dk_at dksX6_here_0 5 rfl rfl)
theorem dX6_here_8 : decode cX6_here 8 = .ok (.if_icmp .ge 15, 3) := dk_162 0 15 (dk_at dksX6_here_0 8 rfl rfl)
theorem dX6_here_11 : decode cX6_here 11 = .ok (.aload_n 0, 1) := dk_42 (dk_at dksX6_here_0 11 rfl rfl)
theorem dX6_here_12 : decode cX6_here 12 = .ok (.getfield 22, 3) := dk_180 0 22 (dk_at dksX6_here_0 12 rfl rfl)
theorem dX6_here_15 : decode cX6_here 15 = .ok (.aload_n 0, 1) := dk_42 (dk_at dksX6_here_0 15 rfl rfl)
theorem dX6_here_16 : decode cX6_here 16 = .ok (.getfield 186, 3) := dk_180 0 186 (dk_at dksX6_here_0 16 rfl rfl)
theorem dX6_here_19 : decode cX6_here 19 = .ok (.iaload, 1) := dk_46 (dk_at dksX6_here_0 19 rfl rfl)
theorem dX6_here_20 : decode cX6_here 20 = .ok (.goto 4, 3) := dk_167 0 4 (dk_at dksX6_here_0 20 rfl rfl)
theorem dX6_here_23 : decode cX6_here 23 = .ok (.iconst (-1), 1) := dk_2 (dk_at dksX6_here_0 23 rfl rfl)
theorem dX6_here_24 : decode cX6_here 24 = .ok (.ireturn, 1) := dk_172 (dk_at dksX6_here_1 0 rfl rfl)
abbrev cX6_skips : ByteArray := prog_12_method_68_code
def yX6_skips : MethodName := ⟨RX6, "skips", "(I)Z"⟩
def dkwX6_skips_0 : List UInt8 := [42, 182, 0, 189, 27, 159, 0, 5, 3, 172, 42, 89, 180, 0, 186, 4, 96, 181, 0, 186, 4, 172]
abbrev dktX6_skips_0 : List UInt8 := dkwX6_skips_0 ++ []
theorem dksX6_skips_0 : cX6_skips.data.toList.drop 0 = dktX6_skips_0 := by decide +kernel
theorem dX6_skips_0 : decode cX6_skips 0 = .ok (.aload_n 0, 1) := dk_42 (dk_at dksX6_skips_0 0 rfl rfl)
theorem dX6_skips_1 : decode cX6_skips 1 = .ok (.invokevirtual 189, 3) := dk_182 0 189 (dk_at dksX6_skips_0 1 rfl rfl)
theorem dX6_skips_4 : decode cX6_skips 4 = .ok (.iload_n 1, 1) := dk_27 (dk_at dksX6_skips_0 4 rfl rfl)
theorem dX6_skips_5 : decode cX6_skips 5 = .ok (.if_icmp .eq 5, 3) := dk_159 0 5 (dk_at dksX6_skips_0 5 rfl rfl)
theorem dX6_skips_8 : decode cX6_skips 8 = .ok (.iconst 0, 1) := dk_3 (dk_at dksX6_skips_0 8 rfl rfl)
theorem dX6_skips_9 : decode cX6_skips 9 = .ok (.ireturn, 1) := dk_172 (dk_at dksX6_skips_0 9 rfl rfl)
theorem dX6_skips_10 : decode cX6_skips 10 = .ok (.aload_n 0, 1) := dk_42 (dk_at dksX6_skips_0 10 rfl rfl)
theorem dX6_skips_11 : decode cX6_skips 11 = .ok (.dup, 1) := dk_89 (dk_at dksX6_skips_0 11 rfl rfl)
theorem dX6_skips_12 : decode cX6_skips 12 = .ok (.getfield 186, 3) := dk_180 0 186 (dk_at dksX6_skips_0 12 rfl rfl)
theorem dX6_skips_15 : decode cX6_skips 15 = .ok (.iconst 1, 1) := dk_4 (dk_at dksX6_skips_0 15 rfl rfl)
theorem dX6_skips_16 : decode cX6_skips 16 = .ok (.iadd, 1) := dk_96 (dk_at dksX6_skips_0 16 rfl rfl)
theorem dX6_skips_17 : decode cX6_skips 17 = .ok (.putfield 186, 3) := dk_181 0 186 (dk_at dksX6_skips_0 17 rfl rfl)
theorem dX6_skips_20 : decode cX6_skips 20 = .ok (.iconst 1, 1) := dk_4 (dk_at dksX6_skips_0 20 rfl rfl)
theorem dX6_skips_21 : decode cX6_skips 21 = .ok (.ireturn, 1) := dk_172 (dk_at dksX6_skips_0 21 rfl rfl)
abbrev cX6_figures : ByteArray := prog_12_method_69_code
def yX6_figures : MethodName := ⟨RX6, "figures", "(II)Z"⟩
def dkwX6_figures_3 : List UInt8 := [4, 96, 181, 0, 186, 132, 3, 1, 167, 255, 201, 4, 172]
abbrev dktX6_figures_3 : List UInt8 := dkwX6_figures_3 ++ []
def dkwX6_figures_2 : List UInt8 := [27, 16, 10, 42, 180, 0, 33, 27, 46, 104, 42, 182, 0, 189, 96, 16, 48, 100, 79, 42, 89, 180, 0, 186]
abbrev dktX6_figures_2 : List UInt8 := dkwX6_figures_2 ++ dktX6_figures_3
def dkwX6_figures_1 : List UInt8 := [62, 29, 28, 162, 0, 56, 42, 182, 0, 189, 16, 48, 16, 57, 184, 0, 72, 153, 0, 42, 42, 180, 0, 33]
abbrev dktX6_figures_1 : List UInt8 := dkwX6_figures_1 ++ dktX6_figures_2
def dkwX6_figures_0 : List UInt8 := [42, 182, 0, 189, 16, 48, 16, 57, 184, 0, 72, 154, 0, 5, 3, 172, 42, 180, 0, 33, 27, 3, 79, 3]
abbrev dktX6_figures_0 : List UInt8 := dkwX6_figures_0 ++ dktX6_figures_1
theorem dksX6_figures_0 : cX6_figures.data.toList.drop 0 = dktX6_figures_0 := by decide +kernel
theorem dksX6_figures_1 : cX6_figures.data.toList.drop 24 = dktX6_figures_1 := dk_seg dksX6_figures_0 24 rfl rfl
theorem dksX6_figures_2 : cX6_figures.data.toList.drop 48 = dktX6_figures_2 := dk_seg dksX6_figures_1 24 rfl rfl
theorem dksX6_figures_3 : cX6_figures.data.toList.drop 72 = dktX6_figures_3 := dk_seg dksX6_figures_2 24 rfl rfl
theorem dX6_figures_0 : decode cX6_figures 0 = .ok (.aload_n 0, 1) := dk_42 (dk_at dksX6_figures_0 0 rfl rfl)
theorem dX6_figures_1 : decode cX6_figures 1 = .ok (.invokevirtual 189, 3) := dk_182 0 189 (dk_at dksX6_figures_0 1 rfl rfl)
theorem dX6_figures_4 : decode cX6_figures 4 = .ok (.bipush 48, 2) := dk_16 48 (dk_at dksX6_figures_0 4 rfl rfl)
theorem dX6_figures_6 : decode cX6_figures 6 = .ok (.bipush 57, 2) := dk_16 57 (dk_at dksX6_figures_0 6 rfl rfl)
theorem dX6_figures_8 : decode cX6_figures 8 = .ok (.invokestatic 72, 3) := dk_184 0 72 (dk_at dksX6_figures_0 8 rfl rfl)
theorem dX6_figures_11 : decode cX6_figures 11 = .ok (.ifCond .ne 5, 3) := dk_154 0 5 (dk_at dksX6_figures_0 11 rfl rfl)
theorem dX6_figures_14 : decode cX6_figures 14 = .ok (.iconst 0, 1) := dk_3 (dk_at dksX6_figures_0 14 rfl rfl)
theorem dX6_figures_15 : decode cX6_figures 15 = .ok (.ireturn, 1) := dk_172 (dk_at dksX6_figures_0 15 rfl rfl)
theorem dX6_figures_16 : decode cX6_figures 16 = .ok (.aload_n 0, 1) := dk_42 (dk_at dksX6_figures_0 16 rfl rfl)
theorem dX6_figures_17 : decode cX6_figures 17 = .ok (.getfield 33, 3) := dk_180 0 33 (dk_at dksX6_figures_0 17 rfl rfl)
theorem dX6_figures_20 : decode cX6_figures 20 = .ok (.iload_n 1, 1) := dk_27 (dk_at dksX6_figures_0 20 rfl rfl)
theorem dX6_figures_21 : decode cX6_figures 21 = .ok (.iconst 0, 1) := dk_3 (dk_at dksX6_figures_0 21 rfl rfl)
theorem dX6_figures_22 : decode cX6_figures 22 = .ok (.iastore, 1) := dk_79 (dk_at dksX6_figures_0 22 rfl rfl)
theorem dX6_figures_23 : decode cX6_figures 23 = .ok (.iconst 0, 1) := dk_3 (dk_at dksX6_figures_0 23 rfl rfl)
theorem dX6_figures_24 : decode cX6_figures 24 = .ok (.istore_n 3, 1) := dk_62 (dk_at dksX6_figures_1 0 rfl rfl)
theorem dX6_figures_25 : decode cX6_figures 25 = .ok (.iload_n 3, 1) := dk_29 (dk_at dksX6_figures_1 1 rfl rfl)
theorem dX6_figures_26 : decode cX6_figures 26 = .ok (.iload_n 2, 1) := dk_28 (dk_at dksX6_figures_1 2 rfl rfl)
theorem dX6_figures_27 : decode cX6_figures 27 = .ok (.if_icmp .ge 56, 3) := dk_162 0 56 (dk_at dksX6_figures_1 3 rfl rfl)
theorem dX6_figures_30 : decode cX6_figures 30 = .ok (.aload_n 0, 1) := dk_42 (dk_at dksX6_figures_1 6 rfl rfl)
theorem dX6_figures_31 : decode cX6_figures 31 = .ok (.invokevirtual 189, 3) := dk_182 0 189 (dk_at dksX6_figures_1 7 rfl rfl)
theorem dX6_figures_34 : decode cX6_figures 34 = .ok (.bipush 48, 2) := dk_16 48 (dk_at dksX6_figures_1 10 rfl rfl)
theorem dX6_figures_36 : decode cX6_figures 36 = .ok (.bipush 57, 2) := dk_16 57 (dk_at dksX6_figures_1 12 rfl rfl)
theorem dX6_figures_38 : decode cX6_figures 38 = .ok (.invokestatic 72, 3) := dk_184 0 72 (dk_at dksX6_figures_1 14 rfl rfl)
theorem dX6_figures_41 : decode cX6_figures 41 = .ok (.ifCond .eq 42, 3) := dk_153 0 42 (dk_at dksX6_figures_1 17 rfl rfl)
theorem dX6_figures_44 : decode cX6_figures 44 = .ok (.aload_n 0, 1) := dk_42 (dk_at dksX6_figures_1 20 rfl rfl)
theorem dX6_figures_45 : decode cX6_figures 45 = .ok (.getfield 33, 3) := dk_180 0 33 (dk_at dksX6_figures_1 21 rfl rfl)
theorem dX6_figures_48 : decode cX6_figures 48 = .ok (.iload_n 1, 1) := dk_27 (dk_at dksX6_figures_2 0 rfl rfl)
theorem dX6_figures_49 : decode cX6_figures 49 = .ok (.bipush 10, 2) := dk_16 10 (dk_at dksX6_figures_2 1 rfl rfl)
theorem dX6_figures_51 : decode cX6_figures 51 = .ok (.aload_n 0, 1) := dk_42 (dk_at dksX6_figures_2 3 rfl rfl)
theorem dX6_figures_52 : decode cX6_figures 52 = .ok (.getfield 33, 3) := dk_180 0 33 (dk_at dksX6_figures_2 4 rfl rfl)
theorem dX6_figures_55 : decode cX6_figures 55 = .ok (.iload_n 1, 1) := dk_27 (dk_at dksX6_figures_2 7 rfl rfl)
theorem dX6_figures_56 : decode cX6_figures 56 = .ok (.iaload, 1) := dk_46 (dk_at dksX6_figures_2 8 rfl rfl)
theorem dX6_figures_57 : decode cX6_figures 57 = .ok (.imul, 1) := dk_104 (dk_at dksX6_figures_2 9 rfl rfl)
theorem dX6_figures_58 : decode cX6_figures 58 = .ok (.aload_n 0, 1) := dk_42 (dk_at dksX6_figures_2 10 rfl rfl)
theorem dX6_figures_59 : decode cX6_figures 59 = .ok (.invokevirtual 189, 3) := dk_182 0 189 (dk_at dksX6_figures_2 11 rfl rfl)
theorem dX6_figures_62 : decode cX6_figures 62 = .ok (.iadd, 1) := dk_96 (dk_at dksX6_figures_2 14 rfl rfl)
theorem dX6_figures_63 : decode cX6_figures 63 = .ok (.bipush 48, 2) := dk_16 48 (dk_at dksX6_figures_2 15 rfl rfl)
theorem dX6_figures_65 : decode cX6_figures 65 = .ok (.isub, 1) := dk_100 (dk_at dksX6_figures_2 17 rfl rfl)
theorem dX6_figures_66 : decode cX6_figures 66 = .ok (.iastore, 1) := dk_79 (dk_at dksX6_figures_2 18 rfl rfl)
theorem dX6_figures_67 : decode cX6_figures 67 = .ok (.aload_n 0, 1) := dk_42 (dk_at dksX6_figures_2 19 rfl rfl)
theorem dX6_figures_68 : decode cX6_figures 68 = .ok (.dup, 1) := dk_89 (dk_at dksX6_figures_2 20 rfl rfl)
theorem dX6_figures_69 : decode cX6_figures 69 = .ok (.getfield 186, 3) := dk_180 0 186 (dk_at dksX6_figures_2 21 rfl rfl)
theorem dX6_figures_72 : decode cX6_figures 72 = .ok (.iconst 1, 1) := dk_4 (dk_at dksX6_figures_3 0 rfl rfl)
theorem dX6_figures_73 : decode cX6_figures 73 = .ok (.iadd, 1) := dk_96 (dk_at dksX6_figures_3 1 rfl rfl)
theorem dX6_figures_74 : decode cX6_figures 74 = .ok (.putfield 186, 3) := dk_181 0 186 (dk_at dksX6_figures_3 2 rfl rfl)
theorem dX6_figures_77 : decode cX6_figures 77 = .ok (.iinc 3 1, 3) := dk_132 3 1 (dk_at dksX6_figures_3 5 rfl rfl)
theorem dX6_figures_80 : decode cX6_figures 80 = .ok (.goto (-55), 3) := dk_167 255 201 (dk_at dksX6_figures_3 8 rfl rfl)
theorem dX6_figures_83 : decode cX6_figures 83 = .ok (.iconst 1, 1) := dk_4 (dk_at dksX6_figures_3 11 rfl rfl)
theorem dX6_figures_84 : decode cX6_figures 84 = .ok (.ireturn, 1) := dk_172 (dk_at dksX6_figures_3 12 rfl rfl)
abbrev cX6_wordHere : ByteArray := prog_12_method_70_code
def yX6_wordHere : MethodName := ⟨RX6, "wordHere", "(III)Z"⟩
def dkwX6_wordHere_3 : List UInt8 := [21, 4, 28, 161, 0, 7, 4, 167, 0, 4, 3, 172]
abbrev dktX6_wordHere_3 : List UInt8 := dkwX6_wordHere_3 ++ []
def dkwX6_wordHere_2 : List UInt8 := [96, 16, 97, 100, 4, 96, 79, 42, 89, 180, 0, 186, 4, 96, 181, 0, 186, 132, 4, 1, 167, 255, 198]
abbrev dktX6_wordHere_2 : List UInt8 := dkwX6_wordHere_2 ++ dktX6_wordHere_3
def dkwX6_wordHere_1 : List UInt8 := [184, 0, 72, 153, 0, 44, 42, 180, 0, 33, 27, 16, 10, 42, 180, 0, 33, 27, 46, 104, 42, 182, 0, 189]
abbrev dktX6_wordHere_1 : List UInt8 := dkwX6_wordHere_1 ++ dktX6_wordHere_2
def dkwX6_wordHere_0 : List UInt8 := [3, 54, 4, 42, 180, 0, 33, 27, 3, 79, 21, 4, 29, 162, 0, 58, 42, 182, 0, 189, 16, 97, 16, 102]
abbrev dktX6_wordHere_0 : List UInt8 := dkwX6_wordHere_0 ++ dktX6_wordHere_1
theorem dksX6_wordHere_0 : cX6_wordHere.data.toList.drop 0 = dktX6_wordHere_0 := by decide +kernel
theorem dksX6_wordHere_1 : cX6_wordHere.data.toList.drop 24 = dktX6_wordHere_1 := dk_seg dksX6_wordHere_0 24 rfl rfl
theorem dksX6_wordHere_2 : cX6_wordHere.data.toList.drop 48 = dktX6_wordHere_2 := dk_seg dksX6_wordHere_1 24 rfl rfl
theorem dksX6_wordHere_3 : cX6_wordHere.data.toList.drop 71 = dktX6_wordHere_3 := dk_seg dksX6_wordHere_2 23 rfl rfl
theorem dX6_wordHere_0 : decode cX6_wordHere 0 = .ok (.iconst 0, 1) := dk_3 (dk_at dksX6_wordHere_0 0 rfl rfl)
theorem dX6_wordHere_1 : decode cX6_wordHere 1 = .ok (.istore 4, 2) := dk_54 4 (dk_at dksX6_wordHere_0 1 rfl rfl)
theorem dX6_wordHere_3 : decode cX6_wordHere 3 = .ok (.aload_n 0, 1) := dk_42 (dk_at dksX6_wordHere_0 3 rfl rfl)
theorem dX6_wordHere_4 : decode cX6_wordHere 4 = .ok (.getfield 33, 3) := dk_180 0 33 (dk_at dksX6_wordHere_0 4 rfl rfl)
theorem dX6_wordHere_7 : decode cX6_wordHere 7 = .ok (.iload_n 1, 1) := dk_27 (dk_at dksX6_wordHere_0 7 rfl rfl)
theorem dX6_wordHere_8 : decode cX6_wordHere 8 = .ok (.iconst 0, 1) := dk_3 (dk_at dksX6_wordHere_0 8 rfl rfl)
theorem dX6_wordHere_9 : decode cX6_wordHere 9 = .ok (.iastore, 1) := dk_79 (dk_at dksX6_wordHere_0 9 rfl rfl)
theorem dX6_wordHere_10 : decode cX6_wordHere 10 = .ok (.iload 4, 2) := dk_21 4 (dk_at dksX6_wordHere_0 10 rfl rfl)
theorem dX6_wordHere_12 : decode cX6_wordHere 12 = .ok (.iload_n 3, 1) := dk_29 (dk_at dksX6_wordHere_0 12 rfl rfl)
theorem dX6_wordHere_13 : decode cX6_wordHere 13 = .ok (.if_icmp .ge 58, 3) := dk_162 0 58 (dk_at dksX6_wordHere_0 13 rfl rfl)
theorem dX6_wordHere_16 : decode cX6_wordHere 16 = .ok (.aload_n 0, 1) := dk_42 (dk_at dksX6_wordHere_0 16 rfl rfl)
theorem dX6_wordHere_17 : decode cX6_wordHere 17 = .ok (.invokevirtual 189, 3) := dk_182 0 189 (dk_at dksX6_wordHere_0 17 rfl rfl)
theorem dX6_wordHere_20 : decode cX6_wordHere 20 = .ok (.bipush 97, 2) := dk_16 97 (dk_at dksX6_wordHere_0 20 rfl rfl)
theorem dX6_wordHere_22 : decode cX6_wordHere 22 = .ok (.bipush 102, 2) := dk_16 102 (dk_at dksX6_wordHere_0 22 rfl rfl)
theorem dX6_wordHere_24 : decode cX6_wordHere 24 = .ok (.invokestatic 72, 3) := dk_184 0 72 (dk_at dksX6_wordHere_1 0 rfl rfl)
theorem dX6_wordHere_27 : decode cX6_wordHere 27 = .ok (.ifCond .eq 44, 3) := dk_153 0 44 (dk_at dksX6_wordHere_1 3 rfl rfl)
theorem dX6_wordHere_30 : decode cX6_wordHere 30 = .ok (.aload_n 0, 1) := dk_42 (dk_at dksX6_wordHere_1 6 rfl rfl)
theorem dX6_wordHere_31 : decode cX6_wordHere 31 = .ok (.getfield 33, 3) := dk_180 0 33 (dk_at dksX6_wordHere_1 7 rfl rfl)
theorem dX6_wordHere_34 : decode cX6_wordHere 34 = .ok (.iload_n 1, 1) := dk_27 (dk_at dksX6_wordHere_1 10 rfl rfl)
theorem dX6_wordHere_35 : decode cX6_wordHere 35 = .ok (.bipush 10, 2) := dk_16 10 (dk_at dksX6_wordHere_1 11 rfl rfl)
theorem dX6_wordHere_37 : decode cX6_wordHere 37 = .ok (.aload_n 0, 1) := dk_42 (dk_at dksX6_wordHere_1 13 rfl rfl)
theorem dX6_wordHere_38 : decode cX6_wordHere 38 = .ok (.getfield 33, 3) := dk_180 0 33 (dk_at dksX6_wordHere_1 14 rfl rfl)
theorem dX6_wordHere_41 : decode cX6_wordHere 41 = .ok (.iload_n 1, 1) := dk_27 (dk_at dksX6_wordHere_1 17 rfl rfl)
theorem dX6_wordHere_42 : decode cX6_wordHere 42 = .ok (.iaload, 1) := dk_46 (dk_at dksX6_wordHere_1 18 rfl rfl)
theorem dX6_wordHere_43 : decode cX6_wordHere 43 = .ok (.imul, 1) := dk_104 (dk_at dksX6_wordHere_1 19 rfl rfl)
theorem dX6_wordHere_44 : decode cX6_wordHere 44 = .ok (.aload_n 0, 1) := dk_42 (dk_at dksX6_wordHere_1 20 rfl rfl)
theorem dX6_wordHere_45 : decode cX6_wordHere 45 = .ok (.invokevirtual 189, 3) := dk_182 0 189 (dk_at dksX6_wordHere_1 21 rfl rfl)
theorem dX6_wordHere_48 : decode cX6_wordHere 48 = .ok (.iadd, 1) := dk_96 (dk_at dksX6_wordHere_2 0 rfl rfl)
theorem dX6_wordHere_49 : decode cX6_wordHere 49 = .ok (.bipush 97, 2) := dk_16 97 (dk_at dksX6_wordHere_2 1 rfl rfl)
theorem dX6_wordHere_51 : decode cX6_wordHere 51 = .ok (.isub, 1) := dk_100 (dk_at dksX6_wordHere_2 3 rfl rfl)
theorem dX6_wordHere_52 : decode cX6_wordHere 52 = .ok (.iconst 1, 1) := dk_4 (dk_at dksX6_wordHere_2 4 rfl rfl)
theorem dX6_wordHere_53 : decode cX6_wordHere 53 = .ok (.iadd, 1) := dk_96 (dk_at dksX6_wordHere_2 5 rfl rfl)
theorem dX6_wordHere_54 : decode cX6_wordHere 54 = .ok (.iastore, 1) := dk_79 (dk_at dksX6_wordHere_2 6 rfl rfl)
theorem dX6_wordHere_55 : decode cX6_wordHere 55 = .ok (.aload_n 0, 1) := dk_42 (dk_at dksX6_wordHere_2 7 rfl rfl)
theorem dX6_wordHere_56 : decode cX6_wordHere 56 = .ok (.dup, 1) := dk_89 (dk_at dksX6_wordHere_2 8 rfl rfl)
theorem dX6_wordHere_57 : decode cX6_wordHere 57 = .ok (.getfield 186, 3) := dk_180 0 186 (dk_at dksX6_wordHere_2 9 rfl rfl)
theorem dX6_wordHere_60 : decode cX6_wordHere 60 = .ok (.iconst 1, 1) := dk_4 (dk_at dksX6_wordHere_2 12 rfl rfl)
theorem dX6_wordHere_61 : decode cX6_wordHere 61 = .ok (.iadd, 1) := dk_96 (dk_at dksX6_wordHere_2 13 rfl rfl)
theorem dX6_wordHere_62 : decode cX6_wordHere 62 = .ok (.putfield 186, 3) := dk_181 0 186 (dk_at dksX6_wordHere_2 14 rfl rfl)
theorem dX6_wordHere_65 : decode cX6_wordHere 65 = .ok (.iinc 4 1, 3) := dk_132 4 1 (dk_at dksX6_wordHere_2 17 rfl rfl)
theorem dX6_wordHere_68 : decode cX6_wordHere 68 = .ok (.goto (-58), 3) := dk_167 255 198 (dk_at dksX6_wordHere_2 20 rfl rfl)
theorem dX6_wordHere_71 : decode cX6_wordHere 71 = .ok (.iload 4, 2) := dk_21 4 (dk_at dksX6_wordHere_3 0 rfl rfl)
theorem dX6_wordHere_73 : decode cX6_wordHere 73 = .ok (.iload_n 2, 1) := dk_28 (dk_at dksX6_wordHere_3 2 rfl rfl)
theorem dX6_wordHere_74 : decode cX6_wordHere 74 = .ok (.if_icmp .lt 7, 3) := dk_161 0 7 (dk_at dksX6_wordHere_3 3 rfl rfl)
theorem dX6_wordHere_77 : decode cX6_wordHere 77 = .ok (.iconst 1, 1) := dk_4 (dk_at dksX6_wordHere_3 6 rfl rfl)
theorem dX6_wordHere_78 : decode cX6_wordHere 78 = .ok (.goto 4, 3) := dk_167 0 4 (dk_at dksX6_wordHere_3 7 rfl rfl)
theorem dX6_wordHere_81 : decode cX6_wordHere 81 = .ok (.iconst 0, 1) := dk_3 (dk_at dksX6_wordHere_3 10 rfl rfl)
theorem dX6_wordHere_82 : decode cX6_wordHere 82 = .ok (.ireturn, 1) := dk_172 (dk_at dksX6_wordHere_3 11 rfl rfl)
abbrev cX6_carries : ByteArray := prog_12_method_73_code
def yX6_carries : MethodName := ⟨RX6, "carries", "(I)I"⟩
def dkwX6_carries_4 : List UInt8 := [29, 182, 0, 224, 172, 42, 28, 182, 0, 227, 172, 42, 182, 0, 230, 172, 42, 182, 0, 233, 172]
abbrev dktX6_carries_4 : List UInt8 := dkwX6_carries_4 ++ []
def dkwX6_carries_3 : List UInt8 := [96, 46, 96, 146, 182, 0, 214, 172, 42, 28, 29, 182, 0, 218, 172, 42, 28, 29, 182, 0, 221, 172, 42, 28]
abbrev dktX6_carries_3 : List UInt8 := dkwX6_carries_3 ++ dktX6_carries_4
def dkwX6_carries_2 : List UInt8 := [42, 28, 182, 0, 208, 172, 42, 28, 29, 182, 0, 211, 172, 42, 28, 29, 16, 96, 42, 180, 0, 33, 27, 6]
abbrev dktX6_carries_2 : List UInt8 := dkwX6_carries_2 ++ dktX6_carries_3
def dkwX6_carries_1 : List UInt8 := [170, 0, 0, 0, 0, 0, 0, 168, 0, 0, 0, 99, 0, 0, 0, 120, 0, 0, 0, 143, 0, 0, 0, 168, 0, 0, 0, 163, 0, 0, 0, 168, 0, 0, 0, 168, 0, 0, 0, 104, 0, 0, 0, 168, 0, 0, 0, 168, 0, 0, 0, 168, 0, 0, 0, 136, 0, 0, 0, 117, 0, 0, 0, 168, 0, 0, 0, 168, 0, 0, 0, 168, 0, 0, 0, 168, 0, 0, 0, 150, 0, 0, 0, 110, 0, 0, 0, 168, 0, 0, 0, 168, 0, 0, 0, 168, 0, 0, 0, 168, 0, 0, 0, 157]
abbrev dktX6_carries_1 : List UInt8 := dkwX6_carries_1 ++ dktX6_carries_2
def dkwX6_carries_0 : List UInt8 := [42, 180, 0, 33, 27, 4, 96, 46, 61, 42, 180, 0, 33, 27, 5, 96, 46, 62, 42, 180, 0, 33, 27, 46]
abbrev dktX6_carries_0 : List UInt8 := dkwX6_carries_0 ++ dktX6_carries_1
theorem dksX6_carries_0 : cX6_carries.data.toList.drop 0 = dktX6_carries_0 := by decide +kernel
theorem dksX6_carries_1 : cX6_carries.data.toList.drop 24 = dktX6_carries_1 := dk_seg dksX6_carries_0 24 rfl rfl
theorem dksX6_carries_2 : cX6_carries.data.toList.drop 128 = dktX6_carries_2 := dk_seg dksX6_carries_1 104 rfl rfl
theorem dksX6_carries_3 : cX6_carries.data.toList.drop 152 = dktX6_carries_3 := dk_seg dksX6_carries_2 24 rfl rfl
theorem dksX6_carries_4 : cX6_carries.data.toList.drop 176 = dktX6_carries_4 := dk_seg dksX6_carries_3 24 rfl rfl
theorem dX6_carries_0 : decode cX6_carries 0 = .ok (.aload_n 0, 1) := dk_42 (dk_at dksX6_carries_0 0 rfl rfl)
theorem dX6_carries_1 : decode cX6_carries 1 = .ok (.getfield 33, 3) := dk_180 0 33 (dk_at dksX6_carries_0 1 rfl rfl)
theorem dX6_carries_4 : decode cX6_carries 4 = .ok (.iload_n 1, 1) := dk_27 (dk_at dksX6_carries_0 4 rfl rfl)
theorem dX6_carries_5 : decode cX6_carries 5 = .ok (.iconst 1, 1) := dk_4 (dk_at dksX6_carries_0 5 rfl rfl)
theorem dX6_carries_6 : decode cX6_carries 6 = .ok (.iadd, 1) := dk_96 (dk_at dksX6_carries_0 6 rfl rfl)
theorem dX6_carries_7 : decode cX6_carries 7 = .ok (.iaload, 1) := dk_46 (dk_at dksX6_carries_0 7 rfl rfl)
theorem dX6_carries_8 : decode cX6_carries 8 = .ok (.istore_n 2, 1) := dk_61 (dk_at dksX6_carries_0 8 rfl rfl)
theorem dX6_carries_9 : decode cX6_carries 9 = .ok (.aload_n 0, 1) := dk_42 (dk_at dksX6_carries_0 9 rfl rfl)
theorem dX6_carries_10 : decode cX6_carries 10 = .ok (.getfield 33, 3) := dk_180 0 33 (dk_at dksX6_carries_0 10 rfl rfl)
theorem dX6_carries_13 : decode cX6_carries 13 = .ok (.iload_n 1, 1) := dk_27 (dk_at dksX6_carries_0 13 rfl rfl)
theorem dX6_carries_14 : decode cX6_carries 14 = .ok (.iconst 2, 1) := dk_5 (dk_at dksX6_carries_0 14 rfl rfl)
theorem dX6_carries_15 : decode cX6_carries 15 = .ok (.iadd, 1) := dk_96 (dk_at dksX6_carries_0 15 rfl rfl)
theorem dX6_carries_16 : decode cX6_carries 16 = .ok (.iaload, 1) := dk_46 (dk_at dksX6_carries_0 16 rfl rfl)
theorem dX6_carries_17 : decode cX6_carries 17 = .ok (.istore_n 3, 1) := dk_62 (dk_at dksX6_carries_0 17 rfl rfl)
theorem dX6_carries_18 : decode cX6_carries 18 = .ok (.aload_n 0, 1) := dk_42 (dk_at dksX6_carries_0 18 rfl rfl)
theorem dX6_carries_19 : decode cX6_carries 19 = .ok (.getfield 33, 3) := dk_180 0 33 (dk_at dksX6_carries_0 19 rfl rfl)
theorem dX6_carries_22 : decode cX6_carries 22 = .ok (.iload_n 1, 1) := dk_27 (dk_at dksX6_carries_0 22 rfl rfl)
theorem dX6_carries_23 : decode cX6_carries 23 = .ok (.iaload, 1) := dk_46 (dk_at dksX6_carries_0 23 rfl rfl)
theorem dX6_carries_24 : decode cX6_carries 24 = .ok (.tableswitch 168 99 120 #[143, 168, 163, 168, 168, 104, 168, 168, 168, 136, 117, 168, 168, 168, 168, 150, 110, 168, 168, 168, 168, 157], 104) := by decide +kernel
theorem dX6_carries_128 : decode cX6_carries 128 = .ok (.aload_n 0, 1) := dk_42 (dk_at dksX6_carries_2 0 rfl rfl)
theorem dX6_carries_129 : decode cX6_carries 129 = .ok (.iload_n 2, 1) := dk_28 (dk_at dksX6_carries_2 1 rfl rfl)
theorem dX6_carries_130 : decode cX6_carries 130 = .ok (.invokevirtual 208, 3) := dk_182 0 208 (dk_at dksX6_carries_2 2 rfl rfl)
theorem dX6_carries_133 : decode cX6_carries 133 = .ok (.ireturn, 1) := dk_172 (dk_at dksX6_carries_2 5 rfl rfl)
theorem dX6_carries_134 : decode cX6_carries 134 = .ok (.aload_n 0, 1) := dk_42 (dk_at dksX6_carries_2 6 rfl rfl)
theorem dX6_carries_135 : decode cX6_carries 135 = .ok (.iload_n 2, 1) := dk_28 (dk_at dksX6_carries_2 7 rfl rfl)
theorem dX6_carries_136 : decode cX6_carries 136 = .ok (.iload_n 3, 1) := dk_29 (dk_at dksX6_carries_2 8 rfl rfl)
theorem dX6_carries_137 : decode cX6_carries 137 = .ok (.invokevirtual 211, 3) := dk_182 0 211 (dk_at dksX6_carries_2 9 rfl rfl)
theorem dX6_carries_140 : decode cX6_carries 140 = .ok (.ireturn, 1) := dk_172 (dk_at dksX6_carries_2 12 rfl rfl)
theorem dX6_carries_141 : decode cX6_carries 141 = .ok (.aload_n 0, 1) := dk_42 (dk_at dksX6_carries_2 13 rfl rfl)
theorem dX6_carries_142 : decode cX6_carries 142 = .ok (.iload_n 2, 1) := dk_28 (dk_at dksX6_carries_2 14 rfl rfl)
theorem dX6_carries_143 : decode cX6_carries 143 = .ok (.iload_n 3, 1) := dk_29 (dk_at dksX6_carries_2 15 rfl rfl)
theorem dX6_carries_144 : decode cX6_carries 144 = .ok (.bipush 96, 2) := dk_16 96 (dk_at dksX6_carries_2 16 rfl rfl)
theorem dX6_carries_146 : decode cX6_carries 146 = .ok (.aload_n 0, 1) := dk_42 (dk_at dksX6_carries_2 18 rfl rfl)
theorem dX6_carries_147 : decode cX6_carries 147 = .ok (.getfield 33, 3) := dk_180 0 33 (dk_at dksX6_carries_2 19 rfl rfl)
theorem dX6_carries_150 : decode cX6_carries 150 = .ok (.iload_n 1, 1) := dk_27 (dk_at dksX6_carries_2 22 rfl rfl)
theorem dX6_carries_151 : decode cX6_carries 151 = .ok (.iconst 3, 1) := dk_6 (dk_at dksX6_carries_2 23 rfl rfl)
theorem dX6_carries_152 : decode cX6_carries 152 = .ok (.iadd, 1) := dk_96 (dk_at dksX6_carries_3 0 rfl rfl)
theorem dX6_carries_153 : decode cX6_carries 153 = .ok (.iaload, 1) := dk_46 (dk_at dksX6_carries_3 1 rfl rfl)
theorem dX6_carries_154 : decode cX6_carries 154 = .ok (.iadd, 1) := dk_96 (dk_at dksX6_carries_3 2 rfl rfl)
theorem dX6_carries_155 : decode cX6_carries 155 = .ok (.i2c, 1) := dk_146 (dk_at dksX6_carries_3 3 rfl rfl)
theorem dX6_carries_156 : decode cX6_carries 156 = .ok (.invokevirtual 214, 3) := dk_182 0 214 (dk_at dksX6_carries_3 4 rfl rfl)
theorem dX6_carries_159 : decode cX6_carries 159 = .ok (.ireturn, 1) := dk_172 (dk_at dksX6_carries_3 7 rfl rfl)
theorem dX6_carries_160 : decode cX6_carries 160 = .ok (.aload_n 0, 1) := dk_42 (dk_at dksX6_carries_3 8 rfl rfl)
theorem dX6_carries_161 : decode cX6_carries 161 = .ok (.iload_n 2, 1) := dk_28 (dk_at dksX6_carries_3 9 rfl rfl)
theorem dX6_carries_162 : decode cX6_carries 162 = .ok (.iload_n 3, 1) := dk_29 (dk_at dksX6_carries_3 10 rfl rfl)
theorem dX6_carries_163 : decode cX6_carries 163 = .ok (.invokevirtual 218, 3) := dk_182 0 218 (dk_at dksX6_carries_3 11 rfl rfl)
theorem dX6_carries_166 : decode cX6_carries 166 = .ok (.ireturn, 1) := dk_172 (dk_at dksX6_carries_3 14 rfl rfl)
theorem dX6_carries_167 : decode cX6_carries 167 = .ok (.aload_n 0, 1) := dk_42 (dk_at dksX6_carries_3 15 rfl rfl)
theorem dX6_carries_168 : decode cX6_carries 168 = .ok (.iload_n 2, 1) := dk_28 (dk_at dksX6_carries_3 16 rfl rfl)
theorem dX6_carries_169 : decode cX6_carries 169 = .ok (.iload_n 3, 1) := dk_29 (dk_at dksX6_carries_3 17 rfl rfl)
theorem dX6_carries_170 : decode cX6_carries 170 = .ok (.invokevirtual 221, 3) := dk_182 0 221 (dk_at dksX6_carries_3 18 rfl rfl)
theorem dX6_carries_173 : decode cX6_carries 173 = .ok (.ireturn, 1) := dk_172 (dk_at dksX6_carries_3 21 rfl rfl)
theorem dX6_carries_174 : decode cX6_carries 174 = .ok (.aload_n 0, 1) := dk_42 (dk_at dksX6_carries_3 22 rfl rfl)
theorem dX6_carries_175 : decode cX6_carries 175 = .ok (.iload_n 2, 1) := dk_28 (dk_at dksX6_carries_3 23 rfl rfl)
theorem dX6_carries_176 : decode cX6_carries 176 = .ok (.iload_n 3, 1) := dk_29 (dk_at dksX6_carries_4 0 rfl rfl)
theorem dX6_carries_177 : decode cX6_carries 177 = .ok (.invokevirtual 224, 3) := dk_182 0 224 (dk_at dksX6_carries_4 1 rfl rfl)
theorem dX6_carries_180 : decode cX6_carries 180 = .ok (.ireturn, 1) := dk_172 (dk_at dksX6_carries_4 4 rfl rfl)
theorem dX6_carries_181 : decode cX6_carries 181 = .ok (.aload_n 0, 1) := dk_42 (dk_at dksX6_carries_4 5 rfl rfl)
theorem dX6_carries_182 : decode cX6_carries 182 = .ok (.iload_n 2, 1) := dk_28 (dk_at dksX6_carries_4 6 rfl rfl)
theorem dX6_carries_183 : decode cX6_carries 183 = .ok (.invokevirtual 227, 3) := dk_182 0 227 (dk_at dksX6_carries_4 7 rfl rfl)
theorem dX6_carries_186 : decode cX6_carries 186 = .ok (.ireturn, 1) := dk_172 (dk_at dksX6_carries_4 10 rfl rfl)
theorem dX6_carries_187 : decode cX6_carries 187 = .ok (.aload_n 0, 1) := dk_42 (dk_at dksX6_carries_4 11 rfl rfl)
theorem dX6_carries_188 : decode cX6_carries 188 = .ok (.invokevirtual 230, 3) := dk_182 0 230 (dk_at dksX6_carries_4 12 rfl rfl)
theorem dX6_carries_191 : decode cX6_carries 191 = .ok (.ireturn, 1) := dk_172 (dk_at dksX6_carries_4 15 rfl rfl)
theorem dX6_carries_192 : decode cX6_carries 192 = .ok (.aload_n 0, 1) := dk_42 (dk_at dksX6_carries_4 16 rfl rfl)
theorem dX6_carries_193 : decode cX6_carries 193 = .ok (.invokevirtual 233, 3) := dk_182 0 233 (dk_at dksX6_carries_4 17 rfl rfl)
theorem dX6_carries_196 : decode cX6_carries 196 = .ok (.ireturn, 1) := dk_172 (dk_at dksX6_carries_4 20 rfl rfl)
abbrev cX6_refusesRun : ByteArray := prog_12_method_74_code
def yX6_refusesRun : MethodName := ⟨RX6, "refusesRun", "(I)I"⟩
def dkwX6_refusesRun_1 : List UInt8 := [42, 29, 181, 0, 52, 3, 172]
abbrev dktX6_refusesRun_1 : List UInt8 := dkwX6_refusesRun_1 ++ []
def dkwX6_refusesRun_0 : List UInt8 := [42, 180, 0, 43, 61, 42, 180, 0, 46, 62, 42, 5, 16, 9, 27, 182, 0, 89, 87, 42, 28, 181, 0, 49]
abbrev dktX6_refusesRun_0 : List UInt8 := dkwX6_refusesRun_0 ++ dktX6_refusesRun_1
theorem dksX6_refusesRun_0 : cX6_refusesRun.data.toList.drop 0 = dktX6_refusesRun_0 := by decide +kernel
theorem dksX6_refusesRun_1 : cX6_refusesRun.data.toList.drop 24 = dktX6_refusesRun_1 := dk_seg dksX6_refusesRun_0 24 rfl rfl
theorem dX6_refusesRun_0 : decode cX6_refusesRun 0 = .ok (.aload_n 0, 1) := dk_42 (dk_at dksX6_refusesRun_0 0 rfl rfl)
theorem dX6_refusesRun_1 : decode cX6_refusesRun 1 = .ok (.getfield 43, 3) := dk_180 0 43 (dk_at dksX6_refusesRun_0 1 rfl rfl)
theorem dX6_refusesRun_4 : decode cX6_refusesRun 4 = .ok (.istore_n 2, 1) := dk_61 (dk_at dksX6_refusesRun_0 4 rfl rfl)
theorem dX6_refusesRun_5 : decode cX6_refusesRun 5 = .ok (.aload_n 0, 1) := dk_42 (dk_at dksX6_refusesRun_0 5 rfl rfl)
theorem dX6_refusesRun_6 : decode cX6_refusesRun 6 = .ok (.getfield 46, 3) := dk_180 0 46 (dk_at dksX6_refusesRun_0 6 rfl rfl)
theorem dX6_refusesRun_9 : decode cX6_refusesRun 9 = .ok (.istore_n 3, 1) := dk_62 (dk_at dksX6_refusesRun_0 9 rfl rfl)
theorem dX6_refusesRun_10 : decode cX6_refusesRun 10 = .ok (.aload_n 0, 1) := dk_42 (dk_at dksX6_refusesRun_0 10 rfl rfl)
theorem dX6_refusesRun_11 : decode cX6_refusesRun 11 = .ok (.iconst 2, 1) := dk_5 (dk_at dksX6_refusesRun_0 11 rfl rfl)
theorem dX6_refusesRun_12 : decode cX6_refusesRun 12 = .ok (.bipush 9, 2) := dk_16 9 (dk_at dksX6_refusesRun_0 12 rfl rfl)
theorem dX6_refusesRun_14 : decode cX6_refusesRun 14 = .ok (.iload_n 1, 1) := dk_27 (dk_at dksX6_refusesRun_0 14 rfl rfl)
theorem dX6_refusesRun_15 : decode cX6_refusesRun 15 = .ok (.invokevirtual 89, 3) := dk_182 0 89 (dk_at dksX6_refusesRun_0 15 rfl rfl)
theorem dX6_refusesRun_18 : decode cX6_refusesRun 18 = .ok (.pop, 1) := dk_87 (dk_at dksX6_refusesRun_0 18 rfl rfl)
theorem dX6_refusesRun_19 : decode cX6_refusesRun 19 = .ok (.aload_n 0, 1) := dk_42 (dk_at dksX6_refusesRun_0 19 rfl rfl)
theorem dX6_refusesRun_20 : decode cX6_refusesRun 20 = .ok (.iload_n 2, 1) := dk_28 (dk_at dksX6_refusesRun_0 20 rfl rfl)
theorem dX6_refusesRun_21 : decode cX6_refusesRun 21 = .ok (.putfield 49, 3) := dk_181 0 49 (dk_at dksX6_refusesRun_0 21 rfl rfl)
theorem dX6_refusesRun_24 : decode cX6_refusesRun 24 = .ok (.aload_n 0, 1) := dk_42 (dk_at dksX6_refusesRun_1 0 rfl rfl)
theorem dX6_refusesRun_25 : decode cX6_refusesRun 25 = .ok (.iload_n 3, 1) := dk_29 (dk_at dksX6_refusesRun_1 1 rfl rfl)
theorem dX6_refusesRun_26 : decode cX6_refusesRun 26 = .ok (.putfield 52, 3) := dk_181 0 52 (dk_at dksX6_refusesRun_1 2 rfl rfl)
theorem dX6_refusesRun_29 : decode cX6_refusesRun 29 = .ok (.iconst 0, 1) := dk_3 (dk_at dksX6_refusesRun_1 5 rfl rfl)
theorem dX6_refusesRun_30 : decode cX6_refusesRun 30 = .ok (.ireturn, 1) := dk_172 (dk_at dksX6_refusesRun_1 6 rfl rfl)
abbrev cX6_errorPosition : ByteArray := prog_12_method_76_code
def yX6_errorPosition : MethodName := ⟨RX6, "errorPosition", "()I"⟩
def dkwX6_errorPosition_0 : List UInt8 := [42, 3, 181, 0, 36, 42, 180, 0, 25, 172]
abbrev dktX6_errorPosition_0 : List UInt8 := dkwX6_errorPosition_0 ++ []
theorem dksX6_errorPosition_0 : cX6_errorPosition.data.toList.drop 0 = dktX6_errorPosition_0 := by decide +kernel
theorem dX6_errorPosition_0 : decode cX6_errorPosition 0 = .ok (.aload_n 0, 1) := dk_42 (dk_at dksX6_errorPosition_0 0 rfl rfl)
theorem dX6_errorPosition_1 : decode cX6_errorPosition 1 = .ok (.iconst 0, 1) := dk_3 (dk_at dksX6_errorPosition_0 1 rfl rfl)
theorem dX6_errorPosition_2 : decode cX6_errorPosition 2 = .ok (.putfield 36, 3) := dk_181 0 36 (dk_at dksX6_errorPosition_0 2 rfl rfl)
theorem dX6_errorPosition_5 : decode cX6_errorPosition 5 = .ok (.aload_n 0, 1) := dk_42 (dk_at dksX6_errorPosition_0 5 rfl rfl)
theorem dX6_errorPosition_6 : decode cX6_errorPosition 6 = .ok (.getfield 25, 3) := dk_180 0 25 (dk_at dksX6_errorPosition_0 6 rfl rfl)
theorem dX6_errorPosition_9 : decode cX6_errorPosition 9 = .ok (.ireturn, 1) := dk_172 (dk_at dksX6_errorPosition_0 9 rfl rfl)
abbrev cX6_refusal : ByteArray := prog_12_method_77_code
def yX6_refusal : MethodName := ⟨RX6, "refusal", "(ZZ)I"⟩
def dkwX6_refusal_2 : List UInt8 := [180, 0, 49, 167, 0, 18, 28, 153, 0, 10, 42, 180, 0, 46, 167, 0, 7, 42, 180, 0, 43, 172]
abbrev dktX6_refusal_2 : List UInt8 := dkwX6_refusal_2 ++ []
def dkwX6_refusal_1 : List UInt8 := [182, 0, 86, 153, 0, 5, 3, 172, 27, 153, 0, 21, 28, 153, 0, 10, 42, 180, 0, 52, 167, 0, 25, 42]
abbrev dktX6_refusal_1 : List UInt8 := dkwX6_refusal_1 ++ dktX6_refusal_2
def dkwX6_refusal_0 : List UInt8 := [42, 27, 153, 0, 10, 42, 180, 0, 49, 167, 0, 7, 42, 180, 0, 43, 154, 0, 7, 4, 167, 0, 4, 3]
abbrev dktX6_refusal_0 : List UInt8 := dkwX6_refusal_0 ++ dktX6_refusal_1
theorem dksX6_refusal_0 : cX6_refusal.data.toList.drop 0 = dktX6_refusal_0 := by decide +kernel
theorem dksX6_refusal_1 : cX6_refusal.data.toList.drop 24 = dktX6_refusal_1 := dk_seg dksX6_refusal_0 24 rfl rfl
theorem dksX6_refusal_2 : cX6_refusal.data.toList.drop 48 = dktX6_refusal_2 := dk_seg dksX6_refusal_1 24 rfl rfl
theorem dX6_refusal_0 : decode cX6_refusal 0 = .ok (.aload_n 0, 1) := dk_42 (dk_at dksX6_refusal_0 0 rfl rfl)
theorem dX6_refusal_1 : decode cX6_refusal 1 = .ok (.iload_n 1, 1) := dk_27 (dk_at dksX6_refusal_0 1 rfl rfl)
theorem dX6_refusal_2 : decode cX6_refusal 2 = .ok (.ifCond .eq 10, 3) := dk_153 0 10 (dk_at dksX6_refusal_0 2 rfl rfl)
theorem dX6_refusal_5 : decode cX6_refusal 5 = .ok (.aload_n 0, 1) := dk_42 (dk_at dksX6_refusal_0 5 rfl rfl)
theorem dX6_refusal_6 : decode cX6_refusal 6 = .ok (.getfield 49, 3) := dk_180 0 49 (dk_at dksX6_refusal_0 6 rfl rfl)
theorem dX6_refusal_9 : decode cX6_refusal 9 = .ok (.goto 7, 3) := dk_167 0 7 (dk_at dksX6_refusal_0 9 rfl rfl)
theorem dX6_refusal_12 : decode cX6_refusal 12 = .ok (.aload_n 0, 1) := dk_42 (dk_at dksX6_refusal_0 12 rfl rfl)
theorem dX6_refusal_13 : decode cX6_refusal 13 = .ok (.getfield 43, 3) := dk_180 0 43 (dk_at dksX6_refusal_0 13 rfl rfl)
theorem dX6_refusal_16 : decode cX6_refusal 16 = .ok (.ifCond .ne 7, 3) := dk_154 0 7 (dk_at dksX6_refusal_0 16 rfl rfl)
theorem dX6_refusal_19 : decode cX6_refusal 19 = .ok (.iconst 1, 1) := dk_4 (dk_at dksX6_refusal_0 19 rfl rfl)
theorem dX6_refusal_20 : decode cX6_refusal 20 = .ok (.goto 4, 3) := dk_167 0 4 (dk_at dksX6_refusal_0 20 rfl rfl)
theorem dX6_refusal_23 : decode cX6_refusal 23 = .ok (.iconst 0, 1) := dk_3 (dk_at dksX6_refusal_0 23 rfl rfl)
theorem dX6_refusal_24 : decode cX6_refusal 24 = .ok (.invokevirtual 86, 3) := dk_182 0 86 (dk_at dksX6_refusal_1 0 rfl rfl)
theorem dX6_refusal_27 : decode cX6_refusal 27 = .ok (.ifCond .eq 5, 3) := dk_153 0 5 (dk_at dksX6_refusal_1 3 rfl rfl)
theorem dX6_refusal_30 : decode cX6_refusal 30 = .ok (.iconst 0, 1) := dk_3 (dk_at dksX6_refusal_1 6 rfl rfl)
theorem dX6_refusal_31 : decode cX6_refusal 31 = .ok (.ireturn, 1) := dk_172 (dk_at dksX6_refusal_1 7 rfl rfl)
theorem dX6_refusal_32 : decode cX6_refusal 32 = .ok (.iload_n 1, 1) := dk_27 (dk_at dksX6_refusal_1 8 rfl rfl)
theorem dX6_refusal_33 : decode cX6_refusal 33 = .ok (.ifCond .eq 21, 3) := dk_153 0 21 (dk_at dksX6_refusal_1 9 rfl rfl)
theorem dX6_refusal_36 : decode cX6_refusal 36 = .ok (.iload_n 2, 1) := dk_28 (dk_at dksX6_refusal_1 12 rfl rfl)
theorem dX6_refusal_37 : decode cX6_refusal 37 = .ok (.ifCond .eq 10, 3) := dk_153 0 10 (dk_at dksX6_refusal_1 13 rfl rfl)
theorem dX6_refusal_40 : decode cX6_refusal 40 = .ok (.aload_n 0, 1) := dk_42 (dk_at dksX6_refusal_1 16 rfl rfl)
theorem dX6_refusal_41 : decode cX6_refusal 41 = .ok (.getfield 52, 3) := dk_180 0 52 (dk_at dksX6_refusal_1 17 rfl rfl)
theorem dX6_refusal_44 : decode cX6_refusal 44 = .ok (.goto 25, 3) := dk_167 0 25 (dk_at dksX6_refusal_1 20 rfl rfl)
theorem dX6_refusal_47 : decode cX6_refusal 47 = .ok (.aload_n 0, 1) := dk_42 (dk_at dksX6_refusal_1 23 rfl rfl)
theorem dX6_refusal_48 : decode cX6_refusal 48 = .ok (.getfield 49, 3) := dk_180 0 49 (dk_at dksX6_refusal_2 0 rfl rfl)
theorem dX6_refusal_51 : decode cX6_refusal 51 = .ok (.goto 18, 3) := dk_167 0 18 (dk_at dksX6_refusal_2 3 rfl rfl)
theorem dX6_refusal_54 : decode cX6_refusal 54 = .ok (.iload_n 2, 1) := dk_28 (dk_at dksX6_refusal_2 6 rfl rfl)
theorem dX6_refusal_55 : decode cX6_refusal 55 = .ok (.ifCond .eq 10, 3) := dk_153 0 10 (dk_at dksX6_refusal_2 7 rfl rfl)
theorem dX6_refusal_58 : decode cX6_refusal 58 = .ok (.aload_n 0, 1) := dk_42 (dk_at dksX6_refusal_2 10 rfl rfl)
theorem dX6_refusal_59 : decode cX6_refusal 59 = .ok (.getfield 46, 3) := dk_180 0 46 (dk_at dksX6_refusal_2 11 rfl rfl)
theorem dX6_refusal_62 : decode cX6_refusal 62 = .ok (.goto 7, 3) := dk_167 0 7 (dk_at dksX6_refusal_2 14 rfl rfl)
theorem dX6_refusal_65 : decode cX6_refusal 65 = .ok (.aload_n 0, 1) := dk_42 (dk_at dksX6_refusal_2 17 rfl rfl)
theorem dX6_refusal_66 : decode cX6_refusal 66 = .ok (.getfield 43, 3) := dk_180 0 43 (dk_at dksX6_refusal_2 18 rfl rfl)
theorem dX6_refusal_69 : decode cX6_refusal 69 = .ok (.ireturn, 1) := dk_172 (dk_at dksX6_refusal_2 21 rfl rfl)
abbrev cX6_account : ByteArray := prog_12_method_80_code
def yX6_account : MethodName := ⟨RX6, "account", "(I)I"⟩
def dkwX6_account_5 : List UInt8 := [180, 0, 183, 172, 42, 180, 0, 58, 172, 42, 180, 0, 7, 27, 46, 172]
abbrev dktX6_account_5 : List UInt8 := dkwX6_account_5 ++ []
def dkwX6_account_4 : List UInt8 := [180, 0, 7, 16, 7, 46, 172, 42, 180, 0, 7, 16, 8, 46, 172, 42, 3, 182, 0, 248, 172, 42]
abbrev dktX6_account_4 : List UInt8 := dkwX6_account_4 ++ dktX6_account_5
def dkwX6_account_3 : List UInt8 := [42, 27, 7, 100, 182, 0, 245, 172, 42, 180, 0, 7, 8, 46, 172, 42, 180, 0, 7, 16, 6, 46, 172, 42]
abbrev dktX6_account_3 : List UInt8 := dkwX6_account_3 ++ dktX6_account_4
def dkwX6_account_2 : List UInt8 := [170, 0, 0, 0, 0, 0, 110, 0, 0, 0, 5, 0, 0, 0, 14, 0, 0, 0, 55, 0, 0, 0, 55, 0, 0, 0, 55, 0, 0, 0, 63, 0, 0, 0, 70, 0, 0, 0, 78, 0, 0, 0, 86, 0, 0, 0, 94, 0, 0, 0, 100, 0, 0, 0, 105]
abbrev dktX6_account_2 : List UInt8 := dkwX6_account_2 ++ dktX6_account_3
def dkwX6_account_1 : List UInt8 := [27]
abbrev dktX6_account_1 : List UInt8 := dkwX6_account_1 ++ dktX6_account_2
def dkwX6_account_0 : List UInt8 := [42, 27, 3, 16, 14, 184, 0, 72, 153, 0, 7, 3, 167, 0, 4, 4, 182, 0, 86, 153, 0, 5, 3, 172]
abbrev dktX6_account_0 : List UInt8 := dkwX6_account_0 ++ dktX6_account_1
theorem dksX6_account_0 : cX6_account.data.toList.drop 0 = dktX6_account_0 := by decide +kernel
theorem dksX6_account_1 : cX6_account.data.toList.drop 24 = dktX6_account_1 := dk_seg dksX6_account_0 24 rfl rfl
theorem dksX6_account_2 : cX6_account.data.toList.drop 25 = dktX6_account_2 := dk_seg dksX6_account_1 1 rfl rfl
theorem dksX6_account_3 : cX6_account.data.toList.drop 80 = dktX6_account_3 := dk_seg dksX6_account_2 55 rfl rfl
theorem dksX6_account_4 : cX6_account.data.toList.drop 104 = dktX6_account_4 := dk_seg dksX6_account_3 24 rfl rfl
theorem dksX6_account_5 : cX6_account.data.toList.drop 126 = dktX6_account_5 := dk_seg dksX6_account_4 22 rfl rfl
theorem dX6_account_0 : decode cX6_account 0 = .ok (.aload_n 0, 1) := dk_42 (dk_at dksX6_account_0 0 rfl rfl)
theorem dX6_account_1 : decode cX6_account 1 = .ok (.iload_n 1, 1) := dk_27 (dk_at dksX6_account_0 1 rfl rfl)
theorem dX6_account_2 : decode cX6_account 2 = .ok (.iconst 0, 1) := dk_3 (dk_at dksX6_account_0 2 rfl rfl)
theorem dX6_account_3 : decode cX6_account 3 = .ok (.bipush 14, 2) := dk_16 14 (dk_at dksX6_account_0 3 rfl rfl)
theorem dX6_account_5 : decode cX6_account 5 = .ok (.invokestatic 72, 3) := dk_184 0 72 (dk_at dksX6_account_0 5 rfl rfl)
theorem dX6_account_8 : decode cX6_account 8 = .ok (.ifCond .eq 7, 3) := dk_153 0 7 (dk_at dksX6_account_0 8 rfl rfl)
theorem dX6_account_11 : decode cX6_account 11 = .ok (.iconst 0, 1) := dk_3 (dk_at dksX6_account_0 11 rfl rfl)
theorem dX6_account_12 : decode cX6_account 12 = .ok (.goto 4, 3) := dk_167 0 4 (dk_at dksX6_account_0 12 rfl rfl)
theorem dX6_account_15 : decode cX6_account 15 = .ok (.iconst 1, 1) := dk_4 (dk_at dksX6_account_0 15 rfl rfl)
theorem dX6_account_16 : decode cX6_account 16 = .ok (.invokevirtual 86, 3) := dk_182 0 86 (dk_at dksX6_account_0 16 rfl rfl)
theorem dX6_account_19 : decode cX6_account 19 = .ok (.ifCond .eq 5, 3) := dk_153 0 5 (dk_at dksX6_account_0 19 rfl rfl)
theorem dX6_account_22 : decode cX6_account 22 = .ok (.iconst 0, 1) := dk_3 (dk_at dksX6_account_0 22 rfl rfl)
theorem dX6_account_23 : decode cX6_account 23 = .ok (.ireturn, 1) := dk_172 (dk_at dksX6_account_0 23 rfl rfl)
theorem dX6_account_24 : decode cX6_account 24 = .ok (.iload_n 1, 1) := dk_27 (dk_at dksX6_account_1 0 rfl rfl)
theorem dX6_account_25 : decode cX6_account 25 = .ok (.tableswitch 110 5 14 #[55, 55, 55, 63, 70, 78, 86, 94, 100, 105], 55) := by decide +kernel
theorem dX6_account_80 : decode cX6_account 80 = .ok (.aload_n 0, 1) := dk_42 (dk_at dksX6_account_3 0 rfl rfl)
theorem dX6_account_81 : decode cX6_account 81 = .ok (.iload_n 1, 1) := dk_27 (dk_at dksX6_account_3 1 rfl rfl)
theorem dX6_account_82 : decode cX6_account 82 = .ok (.iconst 4, 1) := dk_7 (dk_at dksX6_account_3 2 rfl rfl)
theorem dX6_account_83 : decode cX6_account 83 = .ok (.isub, 1) := dk_100 (dk_at dksX6_account_3 3 rfl rfl)
theorem dX6_account_84 : decode cX6_account 84 = .ok (.invokevirtual 245, 3) := dk_182 0 245 (dk_at dksX6_account_3 4 rfl rfl)
theorem dX6_account_87 : decode cX6_account 87 = .ok (.ireturn, 1) := dk_172 (dk_at dksX6_account_3 7 rfl rfl)
theorem dX6_account_88 : decode cX6_account 88 = .ok (.aload_n 0, 1) := dk_42 (dk_at dksX6_account_3 8 rfl rfl)
theorem dX6_account_89 : decode cX6_account 89 = .ok (.getfield 7, 3) := dk_180 0 7 (dk_at dksX6_account_3 9 rfl rfl)
theorem dX6_account_92 : decode cX6_account 92 = .ok (.iconst 5, 1) := dk_8 (dk_at dksX6_account_3 12 rfl rfl)
theorem dX6_account_93 : decode cX6_account 93 = .ok (.iaload, 1) := dk_46 (dk_at dksX6_account_3 13 rfl rfl)
theorem dX6_account_94 : decode cX6_account 94 = .ok (.ireturn, 1) := dk_172 (dk_at dksX6_account_3 14 rfl rfl)
theorem dX6_account_95 : decode cX6_account 95 = .ok (.aload_n 0, 1) := dk_42 (dk_at dksX6_account_3 15 rfl rfl)
theorem dX6_account_96 : decode cX6_account 96 = .ok (.getfield 7, 3) := dk_180 0 7 (dk_at dksX6_account_3 16 rfl rfl)
theorem dX6_account_99 : decode cX6_account 99 = .ok (.bipush 6, 2) := dk_16 6 (dk_at dksX6_account_3 19 rfl rfl)
theorem dX6_account_101 : decode cX6_account 101 = .ok (.iaload, 1) := dk_46 (dk_at dksX6_account_3 21 rfl rfl)
theorem dX6_account_102 : decode cX6_account 102 = .ok (.ireturn, 1) := dk_172 (dk_at dksX6_account_3 22 rfl rfl)
theorem dX6_account_103 : decode cX6_account 103 = .ok (.aload_n 0, 1) := dk_42 (dk_at dksX6_account_3 23 rfl rfl)
theorem dX6_account_104 : decode cX6_account 104 = .ok (.getfield 7, 3) := dk_180 0 7 (dk_at dksX6_account_4 0 rfl rfl)
theorem dX6_account_107 : decode cX6_account 107 = .ok (.bipush 7, 2) := dk_16 7 (dk_at dksX6_account_4 3 rfl rfl)
theorem dX6_account_109 : decode cX6_account 109 = .ok (.iaload, 1) := dk_46 (dk_at dksX6_account_4 5 rfl rfl)
theorem dX6_account_110 : decode cX6_account 110 = .ok (.ireturn, 1) := dk_172 (dk_at dksX6_account_4 6 rfl rfl)
theorem dX6_account_111 : decode cX6_account 111 = .ok (.aload_n 0, 1) := dk_42 (dk_at dksX6_account_4 7 rfl rfl)
theorem dX6_account_112 : decode cX6_account 112 = .ok (.getfield 7, 3) := dk_180 0 7 (dk_at dksX6_account_4 8 rfl rfl)
theorem dX6_account_115 : decode cX6_account 115 = .ok (.bipush 8, 2) := dk_16 8 (dk_at dksX6_account_4 11 rfl rfl)
theorem dX6_account_117 : decode cX6_account 117 = .ok (.iaload, 1) := dk_46 (dk_at dksX6_account_4 13 rfl rfl)
theorem dX6_account_118 : decode cX6_account 118 = .ok (.ireturn, 1) := dk_172 (dk_at dksX6_account_4 14 rfl rfl)
theorem dX6_account_119 : decode cX6_account 119 = .ok (.aload_n 0, 1) := dk_42 (dk_at dksX6_account_4 15 rfl rfl)
theorem dX6_account_120 : decode cX6_account 120 = .ok (.iconst 0, 1) := dk_3 (dk_at dksX6_account_4 16 rfl rfl)
theorem dX6_account_121 : decode cX6_account 121 = .ok (.invokevirtual 248, 3) := dk_182 0 248 (dk_at dksX6_account_4 17 rfl rfl)
theorem dX6_account_124 : decode cX6_account 124 = .ok (.ireturn, 1) := dk_172 (dk_at dksX6_account_4 20 rfl rfl)
theorem dX6_account_125 : decode cX6_account 125 = .ok (.aload_n 0, 1) := dk_42 (dk_at dksX6_account_4 21 rfl rfl)
theorem dX6_account_126 : decode cX6_account 126 = .ok (.getfield 183, 3) := dk_180 0 183 (dk_at dksX6_account_5 0 rfl rfl)
theorem dX6_account_129 : decode cX6_account 129 = .ok (.ireturn, 1) := dk_172 (dk_at dksX6_account_5 3 rfl rfl)
theorem dX6_account_130 : decode cX6_account 130 = .ok (.aload_n 0, 1) := dk_42 (dk_at dksX6_account_5 4 rfl rfl)
theorem dX6_account_131 : decode cX6_account 131 = .ok (.getfield 58, 3) := dk_180 0 58 (dk_at dksX6_account_5 5 rfl rfl)
theorem dX6_account_134 : decode cX6_account 134 = .ok (.ireturn, 1) := dk_172 (dk_at dksX6_account_5 8 rfl rfl)
theorem dX6_account_135 : decode cX6_account 135 = .ok (.aload_n 0, 1) := dk_42 (dk_at dksX6_account_5 9 rfl rfl)
theorem dX6_account_136 : decode cX6_account 136 = .ok (.getfield 7, 3) := dk_180 0 7 (dk_at dksX6_account_5 10 rfl rfl)
theorem dX6_account_139 : decode cX6_account 139 = .ok (.iload_n 1, 1) := dk_27 (dk_at dksX6_account_5 13 rfl rfl)
theorem dX6_account_140 : decode cX6_account 140 = .ok (.iaload, 1) := dk_46 (dk_at dksX6_account_5 14 rfl rfl)
theorem dX6_account_141 : decode cX6_account 141 = .ok (.ireturn, 1) := dk_172 (dk_at dksX6_account_5 15 rfl rfl)
abbrev cX6_all : ByteArray := prog_12_method_78_code
def yX6_all : MethodName := ⟨RX6, "all", "(I)I"⟩
def dkwX6_all_1 : List UInt8 := [132, 3, 1, 167, 255, 234, 28, 172]
abbrev dktX6_all_1 : List UInt8 := dkwX6_all_1 ++ []
def dkwX6_all_0 : List UInt8 := [3, 61, 3, 62, 29, 42, 180, 0, 7, 4, 46, 162, 0, 18, 28, 42, 29, 27, 182, 0, 118, 96, 61]
abbrev dktX6_all_0 : List UInt8 := dkwX6_all_0 ++ dktX6_all_1
theorem dksX6_all_0 : cX6_all.data.toList.drop 0 = dktX6_all_0 := by decide +kernel
theorem dksX6_all_1 : cX6_all.data.toList.drop 23 = dktX6_all_1 := dk_seg dksX6_all_0 23 rfl rfl
theorem dX6_all_0 : decode cX6_all 0 = .ok (.iconst 0, 1) := dk_3 (dk_at dksX6_all_0 0 rfl rfl)
theorem dX6_all_1 : decode cX6_all 1 = .ok (.istore_n 2, 1) := dk_61 (dk_at dksX6_all_0 1 rfl rfl)
theorem dX6_all_2 : decode cX6_all 2 = .ok (.iconst 0, 1) := dk_3 (dk_at dksX6_all_0 2 rfl rfl)
theorem dX6_all_3 : decode cX6_all 3 = .ok (.istore_n 3, 1) := dk_62 (dk_at dksX6_all_0 3 rfl rfl)
theorem dX6_all_4 : decode cX6_all 4 = .ok (.iload_n 3, 1) := dk_29 (dk_at dksX6_all_0 4 rfl rfl)
theorem dX6_all_5 : decode cX6_all 5 = .ok (.aload_n 0, 1) := dk_42 (dk_at dksX6_all_0 5 rfl rfl)
theorem dX6_all_6 : decode cX6_all 6 = .ok (.getfield 7, 3) := dk_180 0 7 (dk_at dksX6_all_0 6 rfl rfl)
theorem dX6_all_9 : decode cX6_all 9 = .ok (.iconst 1, 1) := dk_4 (dk_at dksX6_all_0 9 rfl rfl)
theorem dX6_all_10 : decode cX6_all 10 = .ok (.iaload, 1) := dk_46 (dk_at dksX6_all_0 10 rfl rfl)
theorem dX6_all_11 : decode cX6_all 11 = .ok (.if_icmp .ge 18, 3) := dk_162 0 18 (dk_at dksX6_all_0 11 rfl rfl)
theorem dX6_all_14 : decode cX6_all 14 = .ok (.iload_n 2, 1) := dk_28 (dk_at dksX6_all_0 14 rfl rfl)
theorem dX6_all_15 : decode cX6_all 15 = .ok (.aload_n 0, 1) := dk_42 (dk_at dksX6_all_0 15 rfl rfl)
theorem dX6_all_16 : decode cX6_all 16 = .ok (.iload_n 3, 1) := dk_29 (dk_at dksX6_all_0 16 rfl rfl)
theorem dX6_all_17 : decode cX6_all 17 = .ok (.iload_n 1, 1) := dk_27 (dk_at dksX6_all_0 17 rfl rfl)
theorem dX6_all_18 : decode cX6_all 18 = .ok (.invokevirtual 118, 3) := dk_182 0 118 (dk_at dksX6_all_0 18 rfl rfl)
theorem dX6_all_21 : decode cX6_all 21 = .ok (.iadd, 1) := dk_96 (dk_at dksX6_all_0 21 rfl rfl)
theorem dX6_all_22 : decode cX6_all 22 = .ok (.istore_n 2, 1) := dk_61 (dk_at dksX6_all_0 22 rfl rfl)
theorem dX6_all_23 : decode cX6_all 23 = .ok (.iinc 3 1, 3) := dk_132 3 1 (dk_at dksX6_all_1 0 rfl rfl)
theorem dX6_all_26 : decode cX6_all 26 = .ok (.goto (-22), 3) := dk_167 255 234 (dk_at dksX6_all_1 3 rfl rfl)
theorem dX6_all_29 : decode cX6_all 29 = .ok (.iload_n 2, 1) := dk_28 (dk_at dksX6_all_1 6 rfl rfl)
theorem dX6_all_30 : decode cX6_all 30 = .ok (.ireturn, 1) := dk_172 (dk_at dksX6_all_1 7 rfl rfl)
abbrev cX6_summed : ByteArray := prog_12_method_79_code
def yX6_summed : MethodName := ⟨RX6, "summed", "(I)I"⟩
def dkwX6_summed_1 : List UInt8 := [132, 3, 1, 167, 255, 234, 28, 172]
abbrev dktX6_summed_1 : List UInt8 := dkwX6_summed_1 ++ []
def dkwX6_summed_0 : List UInt8 := [3, 61, 3, 62, 29, 42, 180, 0, 7, 3, 46, 162, 0, 18, 28, 42, 29, 27, 182, 0, 65, 96, 61]
abbrev dktX6_summed_0 : List UInt8 := dkwX6_summed_0 ++ dktX6_summed_1
theorem dksX6_summed_0 : cX6_summed.data.toList.drop 0 = dktX6_summed_0 := by decide +kernel
theorem dksX6_summed_1 : cX6_summed.data.toList.drop 23 = dktX6_summed_1 := dk_seg dksX6_summed_0 23 rfl rfl
theorem dX6_summed_0 : decode cX6_summed 0 = .ok (.iconst 0, 1) := dk_3 (dk_at dksX6_summed_0 0 rfl rfl)
theorem dX6_summed_1 : decode cX6_summed 1 = .ok (.istore_n 2, 1) := dk_61 (dk_at dksX6_summed_0 1 rfl rfl)
theorem dX6_summed_2 : decode cX6_summed 2 = .ok (.iconst 0, 1) := dk_3 (dk_at dksX6_summed_0 2 rfl rfl)
theorem dX6_summed_3 : decode cX6_summed 3 = .ok (.istore_n 3, 1) := dk_62 (dk_at dksX6_summed_0 3 rfl rfl)
theorem dX6_summed_4 : decode cX6_summed 4 = .ok (.iload_n 3, 1) := dk_29 (dk_at dksX6_summed_0 4 rfl rfl)
theorem dX6_summed_5 : decode cX6_summed 5 = .ok (.aload_n 0, 1) := dk_42 (dk_at dksX6_summed_0 5 rfl rfl)
theorem dX6_summed_6 : decode cX6_summed 6 = .ok (.getfield 7, 3) := dk_180 0 7 (dk_at dksX6_summed_0 6 rfl rfl)
theorem dX6_summed_9 : decode cX6_summed 9 = .ok (.iconst 0, 1) := dk_3 (dk_at dksX6_summed_0 9 rfl rfl)
theorem dX6_summed_10 : decode cX6_summed 10 = .ok (.iaload, 1) := dk_46 (dk_at dksX6_summed_0 10 rfl rfl)
theorem dX6_summed_11 : decode cX6_summed 11 = .ok (.if_icmp .ge 18, 3) := dk_162 0 18 (dk_at dksX6_summed_0 11 rfl rfl)
theorem dX6_summed_14 : decode cX6_summed 14 = .ok (.iload_n 2, 1) := dk_28 (dk_at dksX6_summed_0 14 rfl rfl)
theorem dX6_summed_15 : decode cX6_summed 15 = .ok (.aload_n 0, 1) := dk_42 (dk_at dksX6_summed_0 15 rfl rfl)
theorem dX6_summed_16 : decode cX6_summed 16 = .ok (.iload_n 3, 1) := dk_29 (dk_at dksX6_summed_0 16 rfl rfl)
theorem dX6_summed_17 : decode cX6_summed 17 = .ok (.iload_n 1, 1) := dk_27 (dk_at dksX6_summed_0 17 rfl rfl)
theorem dX6_summed_18 : decode cX6_summed 18 = .ok (.invokevirtual 65, 3) := dk_182 0 65 (dk_at dksX6_summed_0 18 rfl rfl)
theorem dX6_summed_21 : decode cX6_summed 21 = .ok (.iadd, 1) := dk_96 (dk_at dksX6_summed_0 21 rfl rfl)
theorem dX6_summed_22 : decode cX6_summed 22 = .ok (.istore_n 2, 1) := dk_61 (dk_at dksX6_summed_0 22 rfl rfl)
theorem dX6_summed_23 : decode cX6_summed 23 = .ok (.iinc 3 1, 3) := dk_132 3 1 (dk_at dksX6_summed_1 0 rfl rfl)
theorem dX6_summed_26 : decode cX6_summed 26 = .ok (.goto (-22), 3) := dk_167 255 234 (dk_at dksX6_summed_1 3 rfl rfl)
theorem dX6_summed_29 : decode cX6_summed 29 = .ok (.iload_n 2, 1) := dk_28 (dk_at dksX6_summed_1 6 rfl rfl)
theorem dX6_summed_30 : decode cX6_summed 30 = .ok (.ireturn, 1) := dk_172 (dk_at dksX6_summed_1 7 rfl rfl)
abbrev cX6_isWell : ByteArray := prog_12_method_81_code
def yX6_isWell : MethodName := ⟨RX6, "isWell", "()Z"⟩
def dkwX6_isWell_3 : List UInt8 := [132, 1, 1, 167, 255, 192, 4, 172]
abbrev dktX6_isWell_3 : List UInt8 := dkwX6_isWell_3 ++ []
def dkwX6_isWell_2 : List UInt8 := [182, 0, 130, 158, 0, 7, 4, 167, 0, 4, 3, 159, 0, 5, 3, 172, 132, 2, 1, 167, 255, 210]
abbrev dktX6_isWell_2 : List UInt8 := dkwX6_isWell_2 ++ dktX6_isWell_3
def dkwX6_isWell_1 : List UInt8 := [182, 0, 80, 162, 0, 42, 42, 27, 28, 182, 0, 111, 158, 0, 7, 4, 167, 0, 4, 3, 42, 27, 28]
abbrev dktX6_isWell_1 : List UInt8 := dkwX6_isWell_1 ++ dktX6_isWell_2
def dkwX6_isWell_0 : List UInt8 := [42, 3, 181, 0, 36, 3, 60, 27, 42, 180, 0, 7, 4, 46, 162, 0, 60, 3, 61, 28, 42, 27, 4]
abbrev dktX6_isWell_0 : List UInt8 := dkwX6_isWell_0 ++ dktX6_isWell_1
theorem dksX6_isWell_0 : cX6_isWell.data.toList.drop 0 = dktX6_isWell_0 := by decide +kernel
theorem dksX6_isWell_1 : cX6_isWell.data.toList.drop 23 = dktX6_isWell_1 := dk_seg dksX6_isWell_0 23 rfl rfl
theorem dksX6_isWell_2 : cX6_isWell.data.toList.drop 46 = dktX6_isWell_2 := dk_seg dksX6_isWell_1 23 rfl rfl
theorem dksX6_isWell_3 : cX6_isWell.data.toList.drop 68 = dktX6_isWell_3 := dk_seg dksX6_isWell_2 22 rfl rfl
theorem dX6_isWell_0 : decode cX6_isWell 0 = .ok (.aload_n 0, 1) := dk_42 (dk_at dksX6_isWell_0 0 rfl rfl)
theorem dX6_isWell_1 : decode cX6_isWell 1 = .ok (.iconst 0, 1) := dk_3 (dk_at dksX6_isWell_0 1 rfl rfl)
theorem dX6_isWell_2 : decode cX6_isWell 2 = .ok (.putfield 36, 3) := dk_181 0 36 (dk_at dksX6_isWell_0 2 rfl rfl)
theorem dX6_isWell_5 : decode cX6_isWell 5 = .ok (.iconst 0, 1) := dk_3 (dk_at dksX6_isWell_0 5 rfl rfl)
theorem dX6_isWell_6 : decode cX6_isWell 6 = .ok (.istore_n 1, 1) := dk_60 (dk_at dksX6_isWell_0 6 rfl rfl)
theorem dX6_isWell_7 : decode cX6_isWell 7 = .ok (.iload_n 1, 1) := dk_27 (dk_at dksX6_isWell_0 7 rfl rfl)
theorem dX6_isWell_8 : decode cX6_isWell 8 = .ok (.aload_n 0, 1) := dk_42 (dk_at dksX6_isWell_0 8 rfl rfl)
theorem dX6_isWell_9 : decode cX6_isWell 9 = .ok (.getfield 7, 3) := dk_180 0 7 (dk_at dksX6_isWell_0 9 rfl rfl)
theorem dX6_isWell_12 : decode cX6_isWell 12 = .ok (.iconst 1, 1) := dk_4 (dk_at dksX6_isWell_0 12 rfl rfl)
theorem dX6_isWell_13 : decode cX6_isWell 13 = .ok (.iaload, 1) := dk_46 (dk_at dksX6_isWell_0 13 rfl rfl)
theorem dX6_isWell_14 : decode cX6_isWell 14 = .ok (.if_icmp .ge 60, 3) := dk_162 0 60 (dk_at dksX6_isWell_0 14 rfl rfl)
theorem dX6_isWell_17 : decode cX6_isWell 17 = .ok (.iconst 0, 1) := dk_3 (dk_at dksX6_isWell_0 17 rfl rfl)
theorem dX6_isWell_18 : decode cX6_isWell 18 = .ok (.istore_n 2, 1) := dk_61 (dk_at dksX6_isWell_0 18 rfl rfl)
theorem dX6_isWell_19 : decode cX6_isWell 19 = .ok (.iload_n 2, 1) := dk_28 (dk_at dksX6_isWell_0 19 rfl rfl)
theorem dX6_isWell_20 : decode cX6_isWell 20 = .ok (.aload_n 0, 1) := dk_42 (dk_at dksX6_isWell_0 20 rfl rfl)
theorem dX6_isWell_21 : decode cX6_isWell 21 = .ok (.iload_n 1, 1) := dk_27 (dk_at dksX6_isWell_0 21 rfl rfl)
theorem dX6_isWell_22 : decode cX6_isWell 22 = .ok (.iconst 1, 1) := dk_4 (dk_at dksX6_isWell_0 22 rfl rfl)
theorem dX6_isWell_23 : decode cX6_isWell 23 = .ok (.invokevirtual 80, 3) := dk_182 0 80 (dk_at dksX6_isWell_1 0 rfl rfl)
theorem dX6_isWell_26 : decode cX6_isWell 26 = .ok (.if_icmp .ge 42, 3) := dk_162 0 42 (dk_at dksX6_isWell_1 3 rfl rfl)
theorem dX6_isWell_29 : decode cX6_isWell 29 = .ok (.aload_n 0, 1) := dk_42 (dk_at dksX6_isWell_1 6 rfl rfl)
theorem dX6_isWell_30 : decode cX6_isWell 30 = .ok (.iload_n 1, 1) := dk_27 (dk_at dksX6_isWell_1 7 rfl rfl)
theorem dX6_isWell_31 : decode cX6_isWell 31 = .ok (.iload_n 2, 1) := dk_28 (dk_at dksX6_isWell_1 8 rfl rfl)
theorem dX6_isWell_32 : decode cX6_isWell 32 = .ok (.invokevirtual 111, 3) := dk_182 0 111 (dk_at dksX6_isWell_1 9 rfl rfl)
theorem dX6_isWell_35 : decode cX6_isWell 35 = .ok (.ifCond .le 7, 3) := dk_158 0 7 (dk_at dksX6_isWell_1 12 rfl rfl)
theorem dX6_isWell_38 : decode cX6_isWell 38 = .ok (.iconst 1, 1) := dk_4 (dk_at dksX6_isWell_1 15 rfl rfl)
theorem dX6_isWell_39 : decode cX6_isWell 39 = .ok (.goto 4, 3) := dk_167 0 4 (dk_at dksX6_isWell_1 16 rfl rfl)
theorem dX6_isWell_42 : decode cX6_isWell 42 = .ok (.iconst 0, 1) := dk_3 (dk_at dksX6_isWell_1 19 rfl rfl)
theorem dX6_isWell_43 : decode cX6_isWell 43 = .ok (.aload_n 0, 1) := dk_42 (dk_at dksX6_isWell_1 20 rfl rfl)
theorem dX6_isWell_44 : decode cX6_isWell 44 = .ok (.iload_n 1, 1) := dk_27 (dk_at dksX6_isWell_1 21 rfl rfl)
theorem dX6_isWell_45 : decode cX6_isWell 45 = .ok (.iload_n 2, 1) := dk_28 (dk_at dksX6_isWell_1 22 rfl rfl)
theorem dX6_isWell_46 : decode cX6_isWell 46 = .ok (.invokevirtual 130, 3) := dk_182 0 130 (dk_at dksX6_isWell_2 0 rfl rfl)
theorem dX6_isWell_49 : decode cX6_isWell 49 = .ok (.ifCond .le 7, 3) := dk_158 0 7 (dk_at dksX6_isWell_2 3 rfl rfl)
theorem dX6_isWell_52 : decode cX6_isWell 52 = .ok (.iconst 1, 1) := dk_4 (dk_at dksX6_isWell_2 6 rfl rfl)
theorem dX6_isWell_53 : decode cX6_isWell 53 = .ok (.goto 4, 3) := dk_167 0 4 (dk_at dksX6_isWell_2 7 rfl rfl)
theorem dX6_isWell_56 : decode cX6_isWell 56 = .ok (.iconst 0, 1) := dk_3 (dk_at dksX6_isWell_2 10 rfl rfl)
theorem dX6_isWell_57 : decode cX6_isWell 57 = .ok (.if_icmp .eq 5, 3) := dk_159 0 5 (dk_at dksX6_isWell_2 11 rfl rfl)
theorem dX6_isWell_60 : decode cX6_isWell 60 = .ok (.iconst 0, 1) := dk_3 (dk_at dksX6_isWell_2 14 rfl rfl)
theorem dX6_isWell_61 : decode cX6_isWell 61 = .ok (.ireturn, 1) := dk_172 (dk_at dksX6_isWell_2 15 rfl rfl)
theorem dX6_isWell_62 : decode cX6_isWell 62 = .ok (.iinc 2 1, 3) := dk_132 2 1 (dk_at dksX6_isWell_2 16 rfl rfl)
theorem dX6_isWell_65 : decode cX6_isWell 65 = .ok (.goto (-46), 3) := dk_167 255 210 (dk_at dksX6_isWell_2 19 rfl rfl)
theorem dX6_isWell_68 : decode cX6_isWell 68 = .ok (.iinc 1 1, 3) := dk_132 1 1 (dk_at dksX6_isWell_3 0 rfl rfl)
theorem dX6_isWell_71 : decode cX6_isWell 71 = .ok (.goto (-64), 3) := dk_167 255 192 (dk_at dksX6_isWell_3 3 rfl rfl)
theorem dX6_isWell_74 : decode cX6_isWell 74 = .ok (.iconst 1, 1) := dk_4 (dk_at dksX6_isWell_3 6 rfl rfl)
theorem dX6_isWell_75 : decode cX6_isWell 75 = .ok (.ireturn, 1) := dk_172 (dk_at dksX6_isWell_3 7 rfl rfl)
abbrev cX6_meanShame : ByteArray := prog_12_method_82_code
def yX6_meanShame : MethodName := ⟨RX6, "meanShame", "()D"⟩
def dkwX6_meanShame_1 : List UInt8 := [167, 0, 17, 42, 4, 182, 0, 248, 135, 42, 180, 0, 7, 3, 46, 135, 111, 175]
abbrev dktX6_meanShame_1 : List UInt8 := dkwX6_meanShame_1 ++ []
def dkwX6_meanShame_0 : List UInt8 := [42, 42, 180, 0, 7, 3, 46, 154, 0, 7, 4, 167, 0, 4, 3, 182, 0, 86, 153, 0, 7, 14]
abbrev dktX6_meanShame_0 : List UInt8 := dkwX6_meanShame_0 ++ dktX6_meanShame_1
theorem dksX6_meanShame_0 : cX6_meanShame.data.toList.drop 0 = dktX6_meanShame_0 := by decide +kernel
theorem dksX6_meanShame_1 : cX6_meanShame.data.toList.drop 22 = dktX6_meanShame_1 := dk_seg dksX6_meanShame_0 22 rfl rfl
theorem dX6_meanShame_0 : decode cX6_meanShame 0 = .ok (.aload_n 0, 1) := dk_42 (dk_at dksX6_meanShame_0 0 rfl rfl)
theorem dX6_meanShame_1 : decode cX6_meanShame 1 = .ok (.aload_n 0, 1) := dk_42 (dk_at dksX6_meanShame_0 1 rfl rfl)
theorem dX6_meanShame_2 : decode cX6_meanShame 2 = .ok (.getfield 7, 3) := dk_180 0 7 (dk_at dksX6_meanShame_0 2 rfl rfl)
theorem dX6_meanShame_5 : decode cX6_meanShame 5 = .ok (.iconst 0, 1) := dk_3 (dk_at dksX6_meanShame_0 5 rfl rfl)
theorem dX6_meanShame_6 : decode cX6_meanShame 6 = .ok (.iaload, 1) := dk_46 (dk_at dksX6_meanShame_0 6 rfl rfl)
theorem dX6_meanShame_7 : decode cX6_meanShame 7 = .ok (.ifCond .ne 7, 3) := dk_154 0 7 (dk_at dksX6_meanShame_0 7 rfl rfl)
theorem dX6_meanShame_10 : decode cX6_meanShame 10 = .ok (.iconst 1, 1) := dk_4 (dk_at dksX6_meanShame_0 10 rfl rfl)
theorem dX6_meanShame_11 : decode cX6_meanShame 11 = .ok (.goto 4, 3) := dk_167 0 4 (dk_at dksX6_meanShame_0 11 rfl rfl)
theorem dX6_meanShame_14 : decode cX6_meanShame 14 = .ok (.iconst 0, 1) := dk_3 (dk_at dksX6_meanShame_0 14 rfl rfl)
theorem dX6_meanShame_15 : decode cX6_meanShame 15 = .ok (.invokevirtual 86, 3) := dk_182 0 86 (dk_at dksX6_meanShame_0 15 rfl rfl)
theorem dX6_meanShame_18 : decode cX6_meanShame 18 = .ok (.ifCond .eq 7, 3) := dk_153 0 7 (dk_at dksX6_meanShame_0 18 rfl rfl)
theorem dX6_meanShame_21 : decode cX6_meanShame 21 = .ok (.dconst 0, 1) := dk_14 (dk_at dksX6_meanShame_0 21 rfl rfl)
theorem dX6_meanShame_22 : decode cX6_meanShame 22 = .ok (.goto 17, 3) := dk_167 0 17 (dk_at dksX6_meanShame_1 0 rfl rfl)
theorem dX6_meanShame_25 : decode cX6_meanShame 25 = .ok (.aload_n 0, 1) := dk_42 (dk_at dksX6_meanShame_1 3 rfl rfl)
theorem dX6_meanShame_26 : decode cX6_meanShame 26 = .ok (.iconst 1, 1) := dk_4 (dk_at dksX6_meanShame_1 4 rfl rfl)
theorem dX6_meanShame_27 : decode cX6_meanShame 27 = .ok (.invokevirtual 248, 3) := dk_182 0 248 (dk_at dksX6_meanShame_1 5 rfl rfl)
theorem dX6_meanShame_30 : decode cX6_meanShame 30 = .ok (.i2d, 1) := dk_135 (dk_at dksX6_meanShame_1 8 rfl rfl)
theorem dX6_meanShame_31 : decode cX6_meanShame 31 = .ok (.aload_n 0, 1) := dk_42 (dk_at dksX6_meanShame_1 9 rfl rfl)
theorem dX6_meanShame_32 : decode cX6_meanShame 32 = .ok (.getfield 7, 3) := dk_180 0 7 (dk_at dksX6_meanShame_1 10 rfl rfl)
theorem dX6_meanShame_35 : decode cX6_meanShame 35 = .ok (.iconst 0, 1) := dk_3 (dk_at dksX6_meanShame_1 13 rfl rfl)
theorem dX6_meanShame_36 : decode cX6_meanShame 36 = .ok (.iaload, 1) := dk_46 (dk_at dksX6_meanShame_1 14 rfl rfl)
theorem dX6_meanShame_37 : decode cX6_meanShame 37 = .ok (.i2d, 1) := dk_135 (dk_at dksX6_meanShame_1 15 rfl rfl)
theorem dX6_meanShame_38 : decode cX6_meanShame 38 = .ok (.ddiv, 1) := dk_111 (dk_at dksX6_meanShame_1 16 rfl rfl)
theorem dX6_meanShame_39 : decode cX6_meanShame 39 = .ok (.dreturn, 1) := dk_175 (dk_at dksX6_meanShame_1 17 rfl rfl)
abbrev cX6_errorShare : ByteArray := prog_12_method_83_code
def yX6_errorShare : MethodName := ⟨RX6, "errorShare", "()F"⟩
def dkwX6_errorShare_2 : List UInt8 := [132, 2, 1, 167, 255, 234, 42, 4, 182, 0, 245, 134, 27, 134, 110, 174]
abbrev dktX6_errorShare_2 : List UInt8 := dkwX6_errorShare_2 ++ []
def dkwX6_errorShare_1 : List UInt8 := [60, 3, 61, 28, 42, 180, 0, 7, 4, 46, 162, 0, 18, 27, 42, 28, 4, 182, 0, 80, 96, 60]
abbrev dktX6_errorShare_1 : List UInt8 := dkwX6_errorShare_1 ++ dktX6_errorShare_2
def dkwX6_errorShare_0 : List UInt8 := [42, 42, 180, 0, 7, 4, 46, 154, 0, 7, 4, 167, 0, 4, 3, 182, 0, 86, 153, 0, 5, 11, 174, 3]
abbrev dktX6_errorShare_0 : List UInt8 := dkwX6_errorShare_0 ++ dktX6_errorShare_1
theorem dksX6_errorShare_0 : cX6_errorShare.data.toList.drop 0 = dktX6_errorShare_0 := by decide +kernel
theorem dksX6_errorShare_1 : cX6_errorShare.data.toList.drop 24 = dktX6_errorShare_1 := dk_seg dksX6_errorShare_0 24 rfl rfl
theorem dksX6_errorShare_2 : cX6_errorShare.data.toList.drop 46 = dktX6_errorShare_2 := dk_seg dksX6_errorShare_1 22 rfl rfl
theorem dX6_errorShare_0 : decode cX6_errorShare 0 = .ok (.aload_n 0, 1) := dk_42 (dk_at dksX6_errorShare_0 0 rfl rfl)
theorem dX6_errorShare_1 : decode cX6_errorShare 1 = .ok (.aload_n 0, 1) := dk_42 (dk_at dksX6_errorShare_0 1 rfl rfl)
theorem dX6_errorShare_2 : decode cX6_errorShare 2 = .ok (.getfield 7, 3) := dk_180 0 7 (dk_at dksX6_errorShare_0 2 rfl rfl)
theorem dX6_errorShare_5 : decode cX6_errorShare 5 = .ok (.iconst 1, 1) := dk_4 (dk_at dksX6_errorShare_0 5 rfl rfl)
theorem dX6_errorShare_6 : decode cX6_errorShare 6 = .ok (.iaload, 1) := dk_46 (dk_at dksX6_errorShare_0 6 rfl rfl)
theorem dX6_errorShare_7 : decode cX6_errorShare 7 = .ok (.ifCond .ne 7, 3) := dk_154 0 7 (dk_at dksX6_errorShare_0 7 rfl rfl)
theorem dX6_errorShare_10 : decode cX6_errorShare 10 = .ok (.iconst 1, 1) := dk_4 (dk_at dksX6_errorShare_0 10 rfl rfl)
theorem dX6_errorShare_11 : decode cX6_errorShare 11 = .ok (.goto 4, 3) := dk_167 0 4 (dk_at dksX6_errorShare_0 11 rfl rfl)
theorem dX6_errorShare_14 : decode cX6_errorShare 14 = .ok (.iconst 0, 1) := dk_3 (dk_at dksX6_errorShare_0 14 rfl rfl)
theorem dX6_errorShare_15 : decode cX6_errorShare 15 = .ok (.invokevirtual 86, 3) := dk_182 0 86 (dk_at dksX6_errorShare_0 15 rfl rfl)
theorem dX6_errorShare_18 : decode cX6_errorShare 18 = .ok (.ifCond .eq 5, 3) := dk_153 0 5 (dk_at dksX6_errorShare_0 18 rfl rfl)
theorem dX6_errorShare_21 : decode cX6_errorShare 21 = .ok (.fconst 0, 1) := dk_11 (dk_at dksX6_errorShare_0 21 rfl rfl)
theorem dX6_errorShare_22 : decode cX6_errorShare 22 = .ok (.freturn, 1) := dk_174 (dk_at dksX6_errorShare_0 22 rfl rfl)
theorem dX6_errorShare_23 : decode cX6_errorShare 23 = .ok (.iconst 0, 1) := dk_3 (dk_at dksX6_errorShare_0 23 rfl rfl)
theorem dX6_errorShare_24 : decode cX6_errorShare 24 = .ok (.istore_n 1, 1) := dk_60 (dk_at dksX6_errorShare_1 0 rfl rfl)
theorem dX6_errorShare_25 : decode cX6_errorShare 25 = .ok (.iconst 0, 1) := dk_3 (dk_at dksX6_errorShare_1 1 rfl rfl)
theorem dX6_errorShare_26 : decode cX6_errorShare 26 = .ok (.istore_n 2, 1) := dk_61 (dk_at dksX6_errorShare_1 2 rfl rfl)
theorem dX6_errorShare_27 : decode cX6_errorShare 27 = .ok (.iload_n 2, 1) := dk_28 (dk_at dksX6_errorShare_1 3 rfl rfl)
theorem dX6_errorShare_28 : decode cX6_errorShare 28 = .ok (.aload_n 0, 1) := dk_42 (dk_at dksX6_errorShare_1 4 rfl rfl)
theorem dX6_errorShare_29 : decode cX6_errorShare 29 = .ok (.getfield 7, 3) := dk_180 0 7 (dk_at dksX6_errorShare_1 5 rfl rfl)
theorem dX6_errorShare_32 : decode cX6_errorShare 32 = .ok (.iconst 1, 1) := dk_4 (dk_at dksX6_errorShare_1 8 rfl rfl)
theorem dX6_errorShare_33 : decode cX6_errorShare 33 = .ok (.iaload, 1) := dk_46 (dk_at dksX6_errorShare_1 9 rfl rfl)
theorem dX6_errorShare_34 : decode cX6_errorShare 34 = .ok (.if_icmp .ge 18, 3) := dk_162 0 18 (dk_at dksX6_errorShare_1 10 rfl rfl)
theorem dX6_errorShare_37 : decode cX6_errorShare 37 = .ok (.iload_n 1, 1) := dk_27 (dk_at dksX6_errorShare_1 13 rfl rfl)
theorem dX6_errorShare_38 : decode cX6_errorShare 38 = .ok (.aload_n 0, 1) := dk_42 (dk_at dksX6_errorShare_1 14 rfl rfl)
theorem dX6_errorShare_39 : decode cX6_errorShare 39 = .ok (.iload_n 2, 1) := dk_28 (dk_at dksX6_errorShare_1 15 rfl rfl)
theorem dX6_errorShare_40 : decode cX6_errorShare 40 = .ok (.iconst 1, 1) := dk_4 (dk_at dksX6_errorShare_1 16 rfl rfl)
theorem dX6_errorShare_41 : decode cX6_errorShare 41 = .ok (.invokevirtual 80, 3) := dk_182 0 80 (dk_at dksX6_errorShare_1 17 rfl rfl)
theorem dX6_errorShare_44 : decode cX6_errorShare 44 = .ok (.iadd, 1) := dk_96 (dk_at dksX6_errorShare_1 20 rfl rfl)
theorem dX6_errorShare_45 : decode cX6_errorShare 45 = .ok (.istore_n 1, 1) := dk_60 (dk_at dksX6_errorShare_1 21 rfl rfl)
theorem dX6_errorShare_46 : decode cX6_errorShare 46 = .ok (.iinc 2 1, 3) := dk_132 2 1 (dk_at dksX6_errorShare_2 0 rfl rfl)
theorem dX6_errorShare_49 : decode cX6_errorShare 49 = .ok (.goto (-22), 3) := dk_167 255 234 (dk_at dksX6_errorShare_2 3 rfl rfl)
theorem dX6_errorShare_52 : decode cX6_errorShare 52 = .ok (.aload_n 0, 1) := dk_42 (dk_at dksX6_errorShare_2 6 rfl rfl)
theorem dX6_errorShare_53 : decode cX6_errorShare 53 = .ok (.iconst 1, 1) := dk_4 (dk_at dksX6_errorShare_2 7 rfl rfl)
theorem dX6_errorShare_54 : decode cX6_errorShare 54 = .ok (.invokevirtual 245, 3) := dk_182 0 245 (dk_at dksX6_errorShare_2 8 rfl rfl)
theorem dX6_errorShare_57 : decode cX6_errorShare 57 = .ok (.i2f, 1) := dk_134 (dk_at dksX6_errorShare_2 11 rfl rfl)
theorem dX6_errorShare_58 : decode cX6_errorShare 58 = .ok (.iload_n 1, 1) := dk_27 (dk_at dksX6_errorShare_2 12 rfl rfl)
theorem dX6_errorShare_59 : decode cX6_errorShare 59 = .ok (.i2f, 1) := dk_134 (dk_at dksX6_errorShare_2 13 rfl rfl)
theorem dX6_errorShare_60 : decode cX6_errorShare 60 = .ok (.fdiv, 1) := dk_110 (dk_at dksX6_errorShare_2 14 rfl rfl)
theorem dX6_errorShare_61 : decode cX6_errorShare 61 = .ok (.freturn, 1) := dk_174 (dk_at dksX6_errorShare_2 15 rfl rfl)
abbrev cX6_undo : ByteArray := prog_12_method_84_code
def yX6_undo : MethodName := ⟨RX6, "undo", "()I"⟩
def dkwX6_undo_2 : List UInt8 := [3, 184, 0, 61, 42, 180, 0, 58, 172]
abbrev dktX6_undo_2 : List UInt8 := dkwX6_undo_2 ++ []
def dkwX6_undo_1 : List UInt8 := [180, 0, 58, 4, 100, 181, 0, 58, 42, 180, 0, 13, 17, 0, 240, 42, 180, 0, 58, 104, 42, 180, 0, 7]
abbrev dktX6_undo_1 : List UInt8 := dkwX6_undo_1 ++ dktX6_undo_2
def dkwX6_undo_0 : List UInt8 := [42, 42, 180, 0, 58, 154, 0, 7, 4, 167, 0, 4, 3, 182, 0, 86, 153, 0, 5, 3, 172, 42, 89]
abbrev dktX6_undo_0 : List UInt8 := dkwX6_undo_0 ++ dktX6_undo_1
theorem dksX6_undo_0 : cX6_undo.data.toList.drop 0 = dktX6_undo_0 := by decide +kernel
theorem dksX6_undo_1 : cX6_undo.data.toList.drop 23 = dktX6_undo_1 := dk_seg dksX6_undo_0 23 rfl rfl
theorem dksX6_undo_2 : cX6_undo.data.toList.drop 47 = dktX6_undo_2 := dk_seg dksX6_undo_1 24 rfl rfl
theorem dX6_undo_0 : decode cX6_undo 0 = .ok (.aload_n 0, 1) := dk_42 (dk_at dksX6_undo_0 0 rfl rfl)
theorem dX6_undo_1 : decode cX6_undo 1 = .ok (.aload_n 0, 1) := dk_42 (dk_at dksX6_undo_0 1 rfl rfl)
theorem dX6_undo_2 : decode cX6_undo 2 = .ok (.getfield 58, 3) := dk_180 0 58 (dk_at dksX6_undo_0 2 rfl rfl)
theorem dX6_undo_5 : decode cX6_undo 5 = .ok (.ifCond .ne 7, 3) := dk_154 0 7 (dk_at dksX6_undo_0 5 rfl rfl)
theorem dX6_undo_8 : decode cX6_undo 8 = .ok (.iconst 1, 1) := dk_4 (dk_at dksX6_undo_0 8 rfl rfl)
theorem dX6_undo_9 : decode cX6_undo 9 = .ok (.goto 4, 3) := dk_167 0 4 (dk_at dksX6_undo_0 9 rfl rfl)
theorem dX6_undo_12 : decode cX6_undo 12 = .ok (.iconst 0, 1) := dk_3 (dk_at dksX6_undo_0 12 rfl rfl)
theorem dX6_undo_13 : decode cX6_undo 13 = .ok (.invokevirtual 86, 3) := dk_182 0 86 (dk_at dksX6_undo_0 13 rfl rfl)
theorem dX6_undo_16 : decode cX6_undo 16 = .ok (.ifCond .eq 5, 3) := dk_153 0 5 (dk_at dksX6_undo_0 16 rfl rfl)
theorem dX6_undo_19 : decode cX6_undo 19 = .ok (.iconst 0, 1) := dk_3 (dk_at dksX6_undo_0 19 rfl rfl)
theorem dX6_undo_20 : decode cX6_undo 20 = .ok (.ireturn, 1) := dk_172 (dk_at dksX6_undo_0 20 rfl rfl)
theorem dX6_undo_21 : decode cX6_undo 21 = .ok (.aload_n 0, 1) := dk_42 (dk_at dksX6_undo_0 21 rfl rfl)
theorem dX6_undo_22 : decode cX6_undo 22 = .ok (.dup, 1) := dk_89 (dk_at dksX6_undo_0 22 rfl rfl)
theorem dX6_undo_23 : decode cX6_undo 23 = .ok (.getfield 58, 3) := dk_180 0 58 (dk_at dksX6_undo_1 0 rfl rfl)
theorem dX6_undo_26 : decode cX6_undo 26 = .ok (.iconst 1, 1) := dk_4 (dk_at dksX6_undo_1 3 rfl rfl)
theorem dX6_undo_27 : decode cX6_undo 27 = .ok (.isub, 1) := dk_100 (dk_at dksX6_undo_1 4 rfl rfl)
theorem dX6_undo_28 : decode cX6_undo 28 = .ok (.putfield 58, 3) := dk_181 0 58 (dk_at dksX6_undo_1 5 rfl rfl)
theorem dX6_undo_31 : decode cX6_undo 31 = .ok (.aload_n 0, 1) := dk_42 (dk_at dksX6_undo_1 8 rfl rfl)
theorem dX6_undo_32 : decode cX6_undo 32 = .ok (.getfield 13, 3) := dk_180 0 13 (dk_at dksX6_undo_1 9 rfl rfl)
theorem dX6_undo_35 : decode cX6_undo 35 = .ok (.sipush 240, 3) := dk_17 0 240 (dk_at dksX6_undo_1 12 rfl rfl)
theorem dX6_undo_38 : decode cX6_undo 38 = .ok (.aload_n 0, 1) := dk_42 (dk_at dksX6_undo_1 15 rfl rfl)
theorem dX6_undo_39 : decode cX6_undo 39 = .ok (.getfield 58, 3) := dk_180 0 58 (dk_at dksX6_undo_1 16 rfl rfl)
theorem dX6_undo_42 : decode cX6_undo 42 = .ok (.imul, 1) := dk_104 (dk_at dksX6_undo_1 19 rfl rfl)
theorem dX6_undo_43 : decode cX6_undo 43 = .ok (.aload_n 0, 1) := dk_42 (dk_at dksX6_undo_1 20 rfl rfl)
theorem dX6_undo_44 : decode cX6_undo 44 = .ok (.getfield 7, 3) := dk_180 0 7 (dk_at dksX6_undo_1 21 rfl rfl)
theorem dX6_undo_47 : decode cX6_undo 47 = .ok (.iconst 0, 1) := dk_3 (dk_at dksX6_undo_2 0 rfl rfl)
theorem dX6_undo_48 : decode cX6_undo 48 = .ok (.invokestatic 61, 3) := dk_184 0 61 (dk_at dksX6_undo_2 1 rfl rfl)
theorem dX6_undo_51 : decode cX6_undo 51 = .ok (.aload_n 0, 1) := dk_42 (dk_at dksX6_undo_2 4 rfl rfl)
theorem dX6_undo_52 : decode cX6_undo 52 = .ok (.getfield 58, 3) := dk_180 0 58 (dk_at dksX6_undo_2 5 rfl rfl)
theorem dX6_undo_55 : decode cX6_undo 55 = .ok (.ireturn, 1) := dk_172 (dk_at dksX6_undo_2 8 rfl rfl)
abbrev cX6_save : ByteArray := prog_12_method_85_code
def yX6_save : MethodName := ⟨RX6, "save", "()I"⟩
def dkwX6_save_1 : List UInt8 := [180, 0, 7, 4, 46, 172]
abbrev dktX6_save_1 : List UInt8 := dkwX6_save_1 ++ []
def dkwX6_save_0 : List UInt8 := [42, 3, 181, 0, 36, 42, 4, 181, 0, 251, 42, 180, 0, 7, 3, 42, 180, 0, 16, 3, 184, 0, 61, 42]
abbrev dktX6_save_0 : List UInt8 := dkwX6_save_0 ++ dktX6_save_1
theorem dksX6_save_0 : cX6_save.data.toList.drop 0 = dktX6_save_0 := by decide +kernel
theorem dksX6_save_1 : cX6_save.data.toList.drop 24 = dktX6_save_1 := dk_seg dksX6_save_0 24 rfl rfl
theorem dX6_save_0 : decode cX6_save 0 = .ok (.aload_n 0, 1) := dk_42 (dk_at dksX6_save_0 0 rfl rfl)
theorem dX6_save_1 : decode cX6_save 1 = .ok (.iconst 0, 1) := dk_3 (dk_at dksX6_save_0 1 rfl rfl)
theorem dX6_save_2 : decode cX6_save 2 = .ok (.putfield 36, 3) := dk_181 0 36 (dk_at dksX6_save_0 2 rfl rfl)
theorem dX6_save_5 : decode cX6_save 5 = .ok (.aload_n 0, 1) := dk_42 (dk_at dksX6_save_0 5 rfl rfl)
theorem dX6_save_6 : decode cX6_save 6 = .ok (.iconst 1, 1) := dk_4 (dk_at dksX6_save_0 6 rfl rfl)
theorem dX6_save_7 : decode cX6_save 7 = .ok (.putfield 251, 3) := dk_181 0 251 (dk_at dksX6_save_0 7 rfl rfl)
theorem dX6_save_10 : decode cX6_save 10 = .ok (.aload_n 0, 1) := dk_42 (dk_at dksX6_save_0 10 rfl rfl)
theorem dX6_save_11 : decode cX6_save 11 = .ok (.getfield 7, 3) := dk_180 0 7 (dk_at dksX6_save_0 11 rfl rfl)
theorem dX6_save_14 : decode cX6_save 14 = .ok (.iconst 0, 1) := dk_3 (dk_at dksX6_save_0 14 rfl rfl)
theorem dX6_save_15 : decode cX6_save 15 = .ok (.aload_n 0, 1) := dk_42 (dk_at dksX6_save_0 15 rfl rfl)
theorem dX6_save_16 : decode cX6_save 16 = .ok (.getfield 16, 3) := dk_180 0 16 (dk_at dksX6_save_0 16 rfl rfl)
theorem dX6_save_19 : decode cX6_save 19 = .ok (.iconst 0, 1) := dk_3 (dk_at dksX6_save_0 19 rfl rfl)
theorem dX6_save_20 : decode cX6_save 20 = .ok (.invokestatic 61, 3) := dk_184 0 61 (dk_at dksX6_save_0 20 rfl rfl)
theorem dX6_save_23 : decode cX6_save 23 = .ok (.aload_n 0, 1) := dk_42 (dk_at dksX6_save_0 23 rfl rfl)
theorem dX6_save_24 : decode cX6_save 24 = .ok (.getfield 7, 3) := dk_180 0 7 (dk_at dksX6_save_1 0 rfl rfl)
theorem dX6_save_27 : decode cX6_save 27 = .ok (.iconst 1, 1) := dk_4 (dk_at dksX6_save_1 3 rfl rfl)
theorem dX6_save_28 : decode cX6_save 28 = .ok (.iaload, 1) := dk_46 (dk_at dksX6_save_1 4 rfl rfl)
theorem dX6_save_29 : decode cX6_save 29 = .ok (.ireturn, 1) := dk_172 (dk_at dksX6_save_1 5 rfl rfl)
abbrev cX6_restore : ByteArray := prog_12_method_86_code
def yX6_restore : MethodName := ⟨RX6, "restore", "()I"⟩
def dkwX6_restore_1 : List UInt8 := [180, 0, 16, 3, 42, 180, 0, 7, 3, 184, 0, 61, 42, 3, 181, 0, 58, 42, 180, 0, 7, 4, 46, 172]
abbrev dktX6_restore_1 : List UInt8 := dkwX6_restore_1 ++ []
def dkwX6_restore_0 : List UInt8 := [42, 42, 180, 0, 251, 153, 0, 7, 3, 167, 0, 4, 4, 182, 0, 86, 153, 0, 5, 3, 172, 42]
abbrev dktX6_restore_0 : List UInt8 := dkwX6_restore_0 ++ dktX6_restore_1
theorem dksX6_restore_0 : cX6_restore.data.toList.drop 0 = dktX6_restore_0 := by decide +kernel
theorem dksX6_restore_1 : cX6_restore.data.toList.drop 22 = dktX6_restore_1 := dk_seg dksX6_restore_0 22 rfl rfl
theorem dX6_restore_0 : decode cX6_restore 0 = .ok (.aload_n 0, 1) := dk_42 (dk_at dksX6_restore_0 0 rfl rfl)
theorem dX6_restore_1 : decode cX6_restore 1 = .ok (.aload_n 0, 1) := dk_42 (dk_at dksX6_restore_0 1 rfl rfl)
theorem dX6_restore_2 : decode cX6_restore 2 = .ok (.getfield 251, 3) := dk_180 0 251 (dk_at dksX6_restore_0 2 rfl rfl)
theorem dX6_restore_5 : decode cX6_restore 5 = .ok (.ifCond .eq 7, 3) := dk_153 0 7 (dk_at dksX6_restore_0 5 rfl rfl)
theorem dX6_restore_8 : decode cX6_restore 8 = .ok (.iconst 0, 1) := dk_3 (dk_at dksX6_restore_0 8 rfl rfl)
theorem dX6_restore_9 : decode cX6_restore 9 = .ok (.goto 4, 3) := dk_167 0 4 (dk_at dksX6_restore_0 9 rfl rfl)
theorem dX6_restore_12 : decode cX6_restore 12 = .ok (.iconst 1, 1) := dk_4 (dk_at dksX6_restore_0 12 rfl rfl)
theorem dX6_restore_13 : decode cX6_restore 13 = .ok (.invokevirtual 86, 3) := dk_182 0 86 (dk_at dksX6_restore_0 13 rfl rfl)
theorem dX6_restore_16 : decode cX6_restore 16 = .ok (.ifCond .eq 5, 3) := dk_153 0 5 (dk_at dksX6_restore_0 16 rfl rfl)
theorem dX6_restore_19 : decode cX6_restore 19 = .ok (.iconst 0, 1) := dk_3 (dk_at dksX6_restore_0 19 rfl rfl)
theorem dX6_restore_20 : decode cX6_restore 20 = .ok (.ireturn, 1) := dk_172 (dk_at dksX6_restore_0 20 rfl rfl)
theorem dX6_restore_21 : decode cX6_restore 21 = .ok (.aload_n 0, 1) := dk_42 (dk_at dksX6_restore_0 21 rfl rfl)
theorem dX6_restore_22 : decode cX6_restore 22 = .ok (.getfield 16, 3) := dk_180 0 16 (dk_at dksX6_restore_1 0 rfl rfl)
theorem dX6_restore_25 : decode cX6_restore 25 = .ok (.iconst 0, 1) := dk_3 (dk_at dksX6_restore_1 3 rfl rfl)
theorem dX6_restore_26 : decode cX6_restore 26 = .ok (.aload_n 0, 1) := dk_42 (dk_at dksX6_restore_1 4 rfl rfl)
theorem dX6_restore_27 : decode cX6_restore 27 = .ok (.getfield 7, 3) := dk_180 0 7 (dk_at dksX6_restore_1 5 rfl rfl)
theorem dX6_restore_30 : decode cX6_restore 30 = .ok (.iconst 0, 1) := dk_3 (dk_at dksX6_restore_1 8 rfl rfl)
theorem dX6_restore_31 : decode cX6_restore 31 = .ok (.invokestatic 61, 3) := dk_184 0 61 (dk_at dksX6_restore_1 9 rfl rfl)
theorem dX6_restore_34 : decode cX6_restore 34 = .ok (.aload_n 0, 1) := dk_42 (dk_at dksX6_restore_1 12 rfl rfl)
theorem dX6_restore_35 : decode cX6_restore 35 = .ok (.iconst 0, 1) := dk_3 (dk_at dksX6_restore_1 13 rfl rfl)
theorem dX6_restore_36 : decode cX6_restore 36 = .ok (.putfield 58, 3) := dk_181 0 58 (dk_at dksX6_restore_1 14 rfl rfl)
theorem dX6_restore_39 : decode cX6_restore 39 = .ok (.aload_n 0, 1) := dk_42 (dk_at dksX6_restore_1 17 rfl rfl)
theorem dX6_restore_40 : decode cX6_restore 40 = .ok (.getfield 7, 3) := dk_180 0 7 (dk_at dksX6_restore_1 18 rfl rfl)
theorem dX6_restore_43 : decode cX6_restore 43 = .ok (.iconst 1, 1) := dk_4 (dk_at dksX6_restore_1 21 rfl rfl)
theorem dX6_restore_44 : decode cX6_restore 44 = .ok (.iaload, 1) := dk_46 (dk_at dksX6_restore_1 22 rfl rfl)
theorem dX6_restore_45 : decode cX6_restore 45 = .ok (.ireturn, 1) := dk_172 (dk_at dksX6_restore_1 23 rfl rfl)
def fX6 : List ZE := [(7, 5, 0, .array .int, 2), (13, 5, 1, .array .int, 2), (16, 5, 2, .array .int, 2), (19, 5, 3, .array .int, 2), (22, 5, 13, .array .int, 2), (25, 5, 15, .int, 0), (29, 5, 16, .array .char, 2), (33, 5, 19, .array .int, 2), (36, 5, 8, .int, 0), (39, 5, 7, .boolean, 0), (43, 5, 9, .int, 0), (46, 5, 10, .int, 0), (49, 5, 11, .int, 0), (52, 5, 12, .int, 0), (55, 5, 6, .boolean, 0), (58, 5, 5, .int, 0), (173, 5, 17, .int, 0), (183, 5, 14, .int, 0), (186, 5, 18, .int, 0), (192, 5, 20, .int, 0), (251, 5, 4, .boolean, 0)]
theorem fokX6 : zFok RX6 fX6 := List.forall_mem_cons.mpr ⟨⟨by decide, by decide, by decide +kernel, Or.inr q1642, by decide, by decide +kernel⟩, List.forall_mem_cons.mpr ⟨⟨by decide, by decide, by decide +kernel, Or.inr q1643, by decide, by decide +kernel⟩, List.forall_mem_cons.mpr ⟨⟨by decide, by decide, by decide +kernel, Or.inr q1644, by decide, by decide +kernel⟩, List.forall_mem_cons.mpr ⟨⟨by decide, by decide, by decide +kernel, Or.inr q1645, by decide, by decide +kernel⟩, List.forall_mem_cons.mpr ⟨⟨by decide, by decide, by decide +kernel, Or.inr q1655, by decide, by decide +kernel⟩, List.forall_mem_cons.mpr ⟨⟨by decide, by decide, by decide +kernel, Or.inr q1657, by decide, by decide +kernel⟩, List.forall_mem_cons.mpr ⟨⟨by decide, by decide, by decide +kernel, Or.inr q1658, by decide, by decide +kernel⟩, List.forall_mem_cons.mpr ⟨⟨by decide, by decide, by decide +kernel, Or.inr q1661, by decide, by decide +kernel⟩, List.forall_mem_cons.mpr ⟨⟨by decide, by decide, by decide +kernel, Or.inr q1650, by decide, by decide +kernel⟩, List.forall_mem_cons.mpr ⟨⟨by decide, by decide, by decide +kernel, Or.inr q1649, by decide, by decide +kernel⟩, List.forall_mem_cons.mpr ⟨⟨by decide, by decide, by decide +kernel, Or.inr q1651, by decide, by decide +kernel⟩, List.forall_mem_cons.mpr ⟨⟨by decide, by decide, by decide +kernel, Or.inr q1652, by decide, by decide +kernel⟩, List.forall_mem_cons.mpr ⟨⟨by decide, by decide, by decide +kernel, Or.inr q1653, by decide, by decide +kernel⟩, List.forall_mem_cons.mpr ⟨⟨by decide, by decide, by decide +kernel, Or.inr q1654, by decide, by decide +kernel⟩, List.forall_mem_cons.mpr ⟨⟨by decide, by decide, by decide +kernel, Or.inr q1648, by decide, by decide +kernel⟩, List.forall_mem_cons.mpr ⟨⟨by decide, by decide, by decide +kernel, Or.inr q1647, by decide, by decide +kernel⟩, List.forall_mem_cons.mpr ⟨⟨by decide, by decide, by decide +kernel, Or.inr q1659, by decide, by decide +kernel⟩, List.forall_mem_cons.mpr ⟨⟨by decide, by decide, by decide +kernel, Or.inr q1656, by decide, by decide +kernel⟩, List.forall_mem_cons.mpr ⟨⟨by decide, by decide, by decide +kernel, Or.inr q1660, by decide, by decide +kernel⟩, List.forall_mem_cons.mpr ⟨⟨by decide, by decide, by decide +kernel, Or.inr q1662, by decide, by decide +kernel⟩, List.forall_mem_cons.mpr ⟨⟨by decide, by decide, by decide +kernel, Or.inr q1646, by decide, by decide +kernel⟩, fun _ h => by cases h⟩⟩⟩⟩⟩⟩⟩⟩⟩⟩⟩⟩⟩⟩⟩⟩⟩⟩⟩⟩⟩
abbrev kX6_init : ZK := (RX6, cX6_init, 1, (Option.none : Option Jvm.ClassFile.FieldType), [], true, fX6)
abbrev tX6_init (g : ZG) (args : List Value) (M : ZM) (d c s : Nat) (Q : ZQ) : Prop := Ct g yX6_init (ws_ yX6_init cX6_init 1 (Option.none : Option Jvm.ClassFile.FieldType)) args M d c s Q
abbrev nX6_init : Nat := 2
theorem mX6_init : zMok yX6_init 0 1 := ⟨⟨by decide +kernel, by decide +kernel, by decide +kernel⟩, by decide⟩
theorem eX6_init {g : ZG} {Q : ZQ} {d cN sN : Nat} {M : ZM} {a0 : Nat} (hV : zV g) (h : Z g kX6_init Q d cN sN M 0 [some (.ref a0)] []) : tX6_init g [.ref a0] M d cN sN Q := Ct.of (K := kX6_init) rfl (by decide +kernel) hV fokX6 rfl (fun h => rfl) (fun v hv => by simp only [List.mem_cons, List.not_mem_nil, or_false] at hv; rcases hv with rfl <;> first | rfl | assumption) (Nat.le_of_ble_eq_true rfl) h
theorem sX6_init_0 {g : ZG} {Q : ZQ} {d cN sN : Nat} {M : ZM} {l0 : Nat}  (kk : Z g kX6_init Q d cN sN M 1 [some (.ref l0)] [.ref l0]) : Z g kX6_init Q d cN sN M 0 [some (.ref l0)] [] := by
  refine zi_aload_n dX6_init_0 rfl zrf_r ?_
  exact kk
theorem sX6_init_4 {g : ZG} {Q : ZQ} {d cN sN : Nat} {M : ZM} {l0 : Nat}  (kk : Z g kX6_init Q d cN sN M 8 [some (.ref l0)] [.int 240, .ref l0]) : Z g kX6_init Q d cN sN M 4 [some (.ref l0)] [] := by
  refine zi_aload_n dX6_init_4 rfl zrf_r ?_
  refine zi_sipush dX6_init_5 (by decide +kernel : (Int16.ofInt (240)).toInt32 = (240 : Int32)) ?_
  exact kk
theorem sX6_init_10 {g : ZG} {Q : ZQ} {d cN sN : Nat} {M : ZM} {t0 : Nat} {t1 : Nat} {fs1 : List Value} {l0 : Nat} (h2 : M.1 t0 = some (.inr (5, fs1))) (h3 : 0 < (fs1).length) (kk : Z g kX6_init Q d cN sN (zup M t0 (.inr (5, (fs1).set 0 (.ref t1)))) 17 [some (.ref l0)] [.int 1920, .ref l0]) : Z g kX6_init Q d cN sN M 10 [some (.ref l0)] [.ref t1, .ref t0] := by
  refine zi_putfield dX6_init_10 rfl h2 h3 (zfit_a zrf_r) (Or.inr ⟨rfl, rfl⟩) ?_
  refine zi_aload_n dX6_init_13 rfl zrf_r ?_
  refine zi_sipush dX6_init_14 (by decide +kernel : (Int16.ofInt (1920)).toInt32 = (1920 : Int32)) ?_
  exact kk
theorem sX6_init_19 {g : ZG} {Q : ZQ} {d cN sN : Nat} {M : ZM} {t0 : Nat} {t1 : Nat} {fs1 : List Value} {l0 : Nat} (h2 : M.1 t0 = some (.inr (5, fs1))) (h3 : 1 < (fs1).length) (kk : Z g kX6_init Q d cN sN (zup M t0 (.inr (5, (fs1).set 1 (.ref t1)))) 26 [some (.ref l0)] [.int 240, .ref l0]) : Z g kX6_init Q d cN sN M 19 [some (.ref l0)] [.ref t1, .ref t0] := by
  refine zi_putfield dX6_init_19 rfl h2 h3 (zfit_a zrf_r) (Or.inr ⟨rfl, rfl⟩) ?_
  refine zi_aload_n dX6_init_22 rfl zrf_r ?_
  refine zi_sipush dX6_init_23 (by decide +kernel : (Int16.ofInt (240)).toInt32 = (240 : Int32)) ?_
  exact kk
theorem sX6_init_28 {g : ZG} {Q : ZQ} {d cN sN : Nat} {M : ZM} {t0 : Nat} {t1 : Nat} {fs1 : List Value} {l0 : Nat} (h2 : M.1 t0 = some (.inr (5, fs1))) (h3 : 2 < (fs1).length) (kk : Z g kX6_init Q d cN sN (zup M t0 (.inr (5, (fs1).set 2 (.ref t1)))) 35 [some (.ref l0)] [.int 240, .ref l0]) : Z g kX6_init Q d cN sN M 28 [some (.ref l0)] [.ref t1, .ref t0] := by
  refine zi_putfield dX6_init_28 rfl h2 h3 (zfit_a zrf_r) (Or.inr ⟨rfl, rfl⟩) ?_
  refine zi_aload_n dX6_init_31 rfl zrf_r ?_
  refine zi_sipush dX6_init_32 (by decide +kernel : (Int16.ofInt (240)).toInt32 = (240 : Int32)) ?_
  exact kk
theorem sX6_init_37 {g : ZG} {Q : ZQ} {d cN sN : Nat} {M : ZM} {t0 : Nat} {t1 : Nat} {fs1 : List Value} {l0 : Nat} (h2 : M.1 t0 = some (.inr (5, fs1))) (h3 : 3 < (fs1).length) (kk : Z g kX6_init Q d cN sN (zup M t0 (.inr (5, (fs1).set 3 (.ref t1)))) 43 [some (.ref l0)] [.int 60, .ref l0]) : Z g kX6_init Q d cN sN M 37 [some (.ref l0)] [.ref t1, .ref t0] := by
  refine zi_putfield dX6_init_37 rfl h2 h3 (zfit_a zrf_r) (Or.inr ⟨rfl, rfl⟩) ?_
  refine zi_aload_n dX6_init_40 rfl zrf_r ?_
  refine zi_bipush dX6_init_41 (by decide +kernel : (Int8.ofInt (60)).toInt32 = (60 : Int32)) ?_
  exact kk
theorem sX6_init_45 {g : ZG} {Q : ZQ} {d cN sN : Nat} {M : ZM} {t0 : Nat} {t1 : Nat} {fs1 : List Value} {l0 : Nat} {fs4 : List Value} (h2 : M.1 t0 = some (.inr (5, fs1))) (h3 : 13 < (fs1).length) (h5 : (zup M t0 (.inr (5, (fs1).set 13 (.ref t1)))).1 l0 = some (.inr (5, fs4))) (h6 : 15 < (fs4).length) (kk : Z g kX6_init Q d cN sN (zup (zup M t0 (.inr (5, (fs1).set 13 (.ref t1)))) l0 (.inr (5, (fs4).set 15 (.int ((-1)))))) 56 [some (.ref l0)] [.int 40, .ref l0]) : Z g kX6_init Q d cN sN M 45 [some (.ref l0)] [.ref t1, .ref t0] := by
  refine zi_putfield dX6_init_45 rfl h2 h3 (zfit_a zrf_r) (Or.inr ⟨rfl, rfl⟩) ?_
  refine zi_aload_n dX6_init_48 rfl zrf_r ?_
  refine zi_iconst dX6_init_49 (by decide +kernel : Int32.ofInt (-1) = (-1 : Int32)) ?_
  refine zi_putfield dX6_init_50 rfl h5 h6 zfit_i (Or.inl rfl) ?_
  refine zi_aload_n dX6_init_53 rfl zrf_r ?_
  refine zi_bipush dX6_init_54 (by decide +kernel : (Int8.ofInt (40)).toInt32 = (40 : Int32)) ?_
  exact kk
theorem sX6_init_58 {g : ZG} {Q : ZQ} {d cN sN : Nat} {M : ZM} {t0 : Nat} {t1 : Nat} {fs1 : List Value} {l0 : Nat} (h2 : M.1 t0 = some (.inr (5, fs1))) (h3 : 16 < (fs1).length) (kk : Z g kX6_init Q d cN sN (zup M t0 (.inr (5, (fs1).set 16 (.ref t1)))) 64 [some (.ref l0)] [.int 124, .ref l0]) : Z g kX6_init Q d cN sN M 58 [some (.ref l0)] [.ref t1, .ref t0] := by
  refine zi_putfield dX6_init_58 rfl h2 h3 (zfit_a zrf_r) (Or.inr ⟨rfl, rfl⟩) ?_
  refine zi_aload_n dX6_init_61 rfl zrf_r ?_
  refine zi_bipush dX6_init_62 (by decide +kernel : (Int8.ofInt (124)).toInt32 = (124 : Int32)) ?_
  exact kk
theorem sX6_init_66 {g : ZG} {Q : ZQ} {d cN sN : Nat} {M : ZM} {t0 : Nat} {t1 : Nat} {fs1 : List Value} {o0 : Option Value} (h2 : M.1 t0 = some (.inr (5, fs1))) (h3 : 19 < (fs1).length) (kk : Q.1 none (zup M t0 (.inr (5, (fs1).set 19 (.ref t1))))) : Z g kX6_init Q d cN sN M 66 [o0] [.ref t1, .ref t0] := by
  refine zi_putfield dX6_init_66 rfl h2 h3 (zfit_a zrf_r) (Or.inr ⟨rfl, rfl⟩) ?_
  exact zi_return dX6_init_69 rfl kk
abbrev kX6_thrown : ZK := (RX6, cX6_thrown, 1, (Option.some Jvm.ClassFile.FieldType.int), [], false, fX6)
abbrev tX6_thrown (g : ZG) (args : List Value) (M : ZM) (d c s : Nat) (Q : ZQ) : Prop := Ct g yX6_thrown (ws_ yX6_thrown cX6_thrown 1 (Option.some Jvm.ClassFile.FieldType.int)) args M d c s Q
abbrev nX6_thrown : Nat := 1
theorem mX6_thrown : zMok yX6_thrown 0 1 := ⟨⟨by decide +kernel, by decide +kernel, by decide +kernel⟩, by decide⟩
theorem eX6_thrown {g : ZG} {Q : ZQ} {d cN sN : Nat} {M : ZM} {a0 : Nat} (hV : zV g) (h : Z g kX6_thrown Q d cN sN M 0 [some (.ref a0)] []) : tX6_thrown g [.ref a0] M d cN sN Q := Ct.of (K := kX6_thrown) rfl (by decide +kernel) hV fokX6 rfl (fun h => by cases h) (fun v hv => by simp only [List.mem_cons, List.not_mem_nil, or_false] at hv; rcases hv with rfl <;> first | rfl | assumption) (Nat.le_of_ble_eq_true rfl) h
theorem sX6_thrown_0 {g : ZG} {Q : ZQ} {d cN sN : Nat} {M : ZM} {l0 : Nat} {fs1 : List Value} {y3 : Int32} (h2 : M.1 l0 = some (.inr (5, fs1))) (h4 : (fs1)[8]? = some (.int y3)) (kk : Q.1 (some (.int y3)) M) : Z g kX6_thrown Q d cN sN M 0 [some (.ref l0)] [] := by
  refine zi_aload_n dX6_thrown_0 rfl zrf_r ?_
  refine zi_getfield dX6_thrown_1 rfl h2 h4 ?_
  exact zi_ireturn dX6_thrown_4 rfl rfl kk
abbrev kX6_house : ZK := (RX6, cX6_house, 4, (Option.some Jvm.ClassFile.FieldType.int), [], false, fX6)
abbrev tX6_house (g : ZG) (args : List Value) (M : ZM) (d c s : Nat) (Q : ZQ) : Prop := Ct g yX6_house (ws_ yX6_house cX6_house 4 (Option.some Jvm.ClassFile.FieldType.int)) args M d c s Q
abbrev nX6_house : Nat := 3
theorem mX6_house : zMok yX6_house 1 4 := ⟨⟨by decide +kernel, by decide +kernel, by decide +kernel⟩, by decide⟩
theorem eX6_house {g : ZG} {Q : ZQ} {d cN sN : Nat} {M : ZM} {a0 : Nat} {x1 : Int32} (hV : zV g) (h : Z g kX6_house Q d cN sN M 0 [some (.ref a0), some (.int x1), none, none] []) : tX6_house g [.ref a0, .int x1] M d cN sN Q := Ct.of (K := kX6_house) rfl (by decide +kernel) hV fokX6 rfl (fun h => by cases h) (fun v hv => by simp only [List.mem_cons, List.not_mem_nil, or_false] at hv; rcases hv with rfl | rfl <;> first | rfl | assumption) (Nat.le_of_ble_eq_true rfl) h
theorem sX6_house_0 {g : ZG} {Q : ZQ} {d cN sN : Nat} {M : ZM} {l0 : Nat} {l1 : Int32} {o2 o3 : Option Value}  (kk : Z g kX6_house Q d cN sN M 5 [some (.ref l0), some (.int l1), o2, o3] [.int 99, .int 0, .int l1, .ref l0]) : Z g kX6_house Q d cN sN M 0 [some (.ref l0), some (.int l1), o2, o3] [] := by
  refine zi_aload_n dX6_house_0 rfl zrf_r ?_
  refine zi_iload_n dX6_house_1 rfl ?_
  refine zi_iconst dX6_house_2 (by decide +kernel : Int32.ofInt (0) = (0 : Int32)) ?_
  refine zi_bipush dX6_house_3 (by decide +kernel : (Int8.ofInt (99)).toInt32 = (99 : Int32)) ?_
  exact kk
theorem sX6_house_8 {g : ZG} {Q : ZQ} {d cN sN : Nat} {M : ZM} {t0 : Nat} {t1 : Int32} {o0 o1 o2 o3 : Option Value}  (kt : (t1 : Int32) = 0 → Z g kX6_house Q d cN sN M 15 [o0, o1, o2, o3] [.ref t0]) (kf : ¬ (t1 : Int32) = 0 → Z g kX6_house Q d cN sN M 11 [o0, o1, o2, o3] [.ref t0]) : Z g kX6_house Q d cN sN M 8 [o0, o1, o2, o3] [.int t1, .ref t0] := by
  exact zi_if_eq (tgt := 15) dX6_house_8 (by decide +kernel) kt kf
theorem sX6_house_11 {g : ZG} {Q : ZQ} {d cN sN : Nat} {M : ZM} {t0 : Nat} {o0 o1 o2 o3 : Option Value}  (kk : Z g kX6_house Q d cN sN M 16 [o0, o1, o2, o3] [.int 0, .ref t0]) : Z g kX6_house Q d cN sN M 11 [o0, o1, o2, o3] [.ref t0] := by
  refine zi_iconst dX6_house_11 (by decide +kernel : Int32.ofInt (0) = (0 : Int32)) ?_
  exact zi_goto (tgt := 16) dX6_house_12 (by decide +kernel) kk
theorem sX6_house_15 {g : ZG} {Q : ZQ} {d cN sN : Nat} {M : ZM} {t0 : Nat} {o0 o1 o2 o3 : Option Value}  (kk : Z g kX6_house Q d cN sN M 16 [o0, o1, o2, o3] [.int 1, .ref t0]) : Z g kX6_house Q d cN sN M 15 [o0, o1, o2, o3] [.ref t0] := by
  refine zi_iconst dX6_house_15 (by decide +kernel : Int32.ofInt (1) = (1 : Int32)) ?_
  exact kk
theorem sX6_house_19 {g : ZG} {Q : ZQ} {d cN sN : Nat} {M : ZM} {t0 : Int32} {o0 o1 o2 o3 : Option Value}  (kt : (t0 : Int32) = 0 → Z g kX6_house Q d cN sN M 24 [o0, o1, o2, o3] []) (kf : ¬ (t0 : Int32) = 0 → Z g kX6_house Q d cN sN M 22 [o0, o1, o2, o3] []) : Z g kX6_house Q d cN sN M 19 [o0, o1, o2, o3] [.int t0] := by
  exact zi_if_eq (tgt := 24) dX6_house_19 (by decide +kernel) kt kf
theorem sX6_house_22 {g : ZG} {Q : ZQ} {d cN sN : Nat} {M : ZM} {o0 o1 o2 o3 : Option Value}  (kk : Q.1 (some (.int 0)) M) : Z g kX6_house Q d cN sN M 22 [o0, o1, o2, o3] [] := by
  refine zi_iconst dX6_house_22 (by decide +kernel : Int32.ofInt (0) = (0 : Int32)) ?_
  exact zi_ireturn dX6_house_23 rfl rfl kk
theorem sX6_house_24 {g : ZG} {Q : ZQ} {d cN sN : Nat} {M : ZM} {l0 : Nat} {fs1 : List Value} {r3 : Nat} {n5 : Nat} {f6 : Nat → Int32} {o1 o2 o3 : Option Value} (h2 : M.1 l0 = some (.inr (5, fs1))) (h4 : (fs1)[0]? = some (.ref r3)) (h7 : M.1 r3 = some (.inl (zA g 0, n5, .inl f6))) (h8 : vp_in (0) n5) (kt : ¬ (f6 ((0 : Int32).toNatClampNeg) : Int32) = (4 : Int32) → Z g kX6_house Q d cN sN M 42 [some (.ref l0), o1, o2, o3] []) (kf : (f6 ((0 : Int32).toNatClampNeg) : Int32) = (4 : Int32) → Z g kX6_house Q d cN sN M 34 [some (.ref l0), o1, o2, o3] []) : Z g kX6_house Q d cN sN M 24 [some (.ref l0), o1, o2, o3] [] := by
  refine zi_aload_n dX6_house_24 rfl zrf_r ?_
  refine zi_getfield dX6_house_25 rfl h2 h4 ?_
  refine zi_iconst dX6_house_28 (by decide +kernel : Int32.ofInt (0) = (0 : Int32)) ?_
  refine zi_iaload dX6_house_29 h7 h8 ?_
  refine zi_iconst dX6_house_30 (by decide +kernel : Int32.ofInt (4) = (4 : Int32)) ?_
  exact zi_icmp_ne (tgt := 42) dX6_house_31 (by decide +kernel) kt kf
theorem sX6_house_34 {g : ZG} {Q : ZQ} {d cN sN : Nat} {M : ZM} {l0 : Nat} {o1 o2 o3 : Option Value}  (kk : Z g kX6_house Q d cN sN M 38 [some (.ref l0), o1, o2, o3] [.int 4, .int 1, .int 2, .ref l0]) : Z g kX6_house Q d cN sN M 34 [some (.ref l0), o1, o2, o3] [] := by
  refine zi_aload_n dX6_house_34 rfl zrf_r ?_
  refine zi_iconst dX6_house_35 (by decide +kernel : Int32.ofInt (2) = (2 : Int32)) ?_
  refine zi_iconst dX6_house_36 (by decide +kernel : Int32.ofInt (1) = (1 : Int32)) ?_
  refine zi_iconst dX6_house_37 (by decide +kernel : Int32.ofInt (4) = (4 : Int32)) ?_
  exact kk
theorem sX6_house_41 {g : ZG} {Q : ZQ} {d cN sN : Nat} {M : ZM} {t0 : Int32} {o0 o1 o2 o3 : Option Value}  (kk : Q.1 (some (.int t0)) M) : Z g kX6_house Q d cN sN M 41 [o0, o1, o2, o3] [.int t0] := by
  exact zi_ireturn dX6_house_41 rfl rfl kk
theorem sX6_house_42 {g : ZG} {Q : ZQ} {d cN sN : Nat} {M : ZM} {l0 : Nat} {fs1 : List Value} {r3 : Nat} {o1 o2 o3 : Option Value} (h2 : M.1 l0 = some (.inr (5, fs1))) (h4 : (fs1)[0]? = some (.ref r3)) (kk : Z g kX6_house Q d cN sN M 47 [some (.ref l0), o1, o2, o3] [.ref r3, .ref l0]) : Z g kX6_house Q d cN sN M 42 [some (.ref l0), o1, o2, o3] [] := by
  refine zi_aload_n dX6_house_42 rfl zrf_r ?_
  refine zi_aload_n dX6_house_43 rfl zrf_r ?_
  refine zi_getfield dX6_house_44 rfl h2 h4 ?_
  exact kk
theorem sX6_house_50 {g : ZG} {Q : ZQ} {d cN sN : Nat} {M : ZM} {l0 : Nat} {fs1 : List Value} {r3 : Nat} {n5 : Nat} {f6 : Nat → Int32} {o1 o2 o3 : Option Value} (h2 : M.1 l0 = some (.inr (5, fs1))) (h4 : (fs1)[0]? = some (.ref r3)) (h7 : M.1 r3 = some (.inl (zA g 0, n5, .inl f6))) (h8 : vp_in (0) n5) (kk : Z g kX6_house Q d cN sN (zup M r3 (.inl (zA g 0, n5, .inl (upd f6 ((0 : Int32).toNatClampNeg) ((f6 ((0 : Int32).toNatClampNeg)) + 1))))) 69 [some (.ref l0), o1, some (.int (f6 ((0 : Int32).toNatClampNeg))), some (.int 0)] []) : Z g kX6_house Q d cN sN M 50 [some (.ref l0), o1, o2, o3] [] := by
  refine zi_aload_n dX6_house_50 rfl zrf_r ?_
  refine zi_getfield dX6_house_51 rfl h2 h4 ?_
  refine zi_iconst dX6_house_54 (by decide +kernel : Int32.ofInt (0) = (0 : Int32)) ?_
  refine zi_iaload dX6_house_55 h7 h8 ?_
  refine zi_istore_n dX6_house_56 (Nat.le_of_ble_eq_true rfl) ?_
  refine zi_aload_n dX6_house_57 rfl zrf_r ?_
  refine zi_getfield dX6_house_58 rfl h2 h4 ?_
  refine zi_iconst dX6_house_61 (by decide +kernel : Int32.ofInt (0) = (0 : Int32)) ?_
  refine zi_dup2 dX6_house_62 rfl rfl ?_
  refine zi_iaload dX6_house_63 h7 h8 ?_
  refine zi_iconst dX6_house_64 (by decide +kernel : Int32.ofInt (1) = (1 : Int32)) ?_
  refine zi_iadd dX6_house_65 ?_
  refine zi_iastore dX6_house_66 h7 h8 ?_
  refine zi_iconst dX6_house_67 (by decide +kernel : Int32.ofInt (0) = (0 : Int32)) ?_
  refine zi_istore_n dX6_house_68 (Nat.le_of_ble_eq_true rfl) ?_
  exact kk
theorem sX6_house_69 {g : ZG} {Q : ZQ} {d cN sN : Nat} {M : ZM} {l3 : Int32} {o0 o1 o2 : Option Value}  (kt : (3 : Int32) ≤ (l3 : Int32) → Z g kX6_house Q d cN sN M 94 [o0, o1, o2, some (.int l3)] []) (kf : ¬ (3 : Int32) ≤ (l3 : Int32) → Z g kX6_house Q d cN sN M 74 [o0, o1, o2, some (.int l3)] []) : Z g kX6_house Q d cN sN M 69 [o0, o1, o2, some (.int l3)] [] := by
  refine zi_iload_n dX6_house_69 rfl ?_
  refine zi_iconst dX6_house_70 (by decide +kernel : Int32.ofInt (3) = (3 : Int32)) ?_
  exact zi_icmp_ge (tgt := 94) dX6_house_71 (by decide +kernel) kt kf
theorem sX6_house_74 {g : ZG} {Q : ZQ} {d cN sN : Nat} {M : ZM} {l0 : Nat} {fs1 : List Value} {r3 : Nat} {l2 : Int32} {l3 : Int32} {n5 : Nat} {f6 : Nat → Int32} {o1 : Option Value} (h2 : M.1 l0 = some (.inr (5, fs1))) (h4 : (fs1)[0]? = some (.ref r3)) (h7 : M.1 r3 = some (.inl (zA g 0, n5, .inl (f6)))) (h8 : vp_in ((10 + (3 * l2)) + l3) n5) (kk : Z g kX6_house Q d cN sN (zup M r3 (.inl (zA g 0, n5, .inl (upd f6 (((10 + (3 * l2)) + l3 : Int32).toNatClampNeg) (0))))) 69 [some (.ref l0), o1, some (.int l2), some (.int (l3 + 1))] []) : Z g kX6_house Q d cN sN M 74 [some (.ref l0), o1, some (.int l2), some (.int l3)] [] := by
  refine zi_aload_n dX6_house_74 rfl zrf_r ?_
  refine zi_getfield dX6_house_75 rfl h2 h4 ?_
  refine zi_bipush dX6_house_78 (by decide +kernel : (Int8.ofInt (10)).toInt32 = (10 : Int32)) ?_
  refine zi_iconst dX6_house_80 (by decide +kernel : Int32.ofInt (3) = (3 : Int32)) ?_
  refine zi_iload_n dX6_house_81 rfl ?_
  refine zi_imul dX6_house_82 ?_
  refine zi_iadd dX6_house_83 ?_
  refine zi_iload_n dX6_house_84 rfl ?_
  refine zi_iadd dX6_house_85 ?_
  refine zi_iconst dX6_house_86 (by decide +kernel : Int32.ofInt (0) = (0 : Int32)) ?_
  refine zi_iastore dX6_house_87 h7 h8 ?_
  refine zi_iinc dX6_house_88 rfl (by decide +kernel : Int32.ofInt (1) = 1) (Nat.le_of_ble_eq_true rfl) ?_
  exact zi_goto (tgt := 69) dX6_house_91 (by decide +kernel) kk
theorem sX6_house_94 {g : ZG} {Q : ZQ} {d cN sN : Nat} {M : ZM} {l0 : Nat} {l2 : Int32} {l1 : Int32} {o3 : Option Value}  (kk : Z g kX6_house Q d cN sN M 98 [some (.ref l0), some (.int l1), some (.int l2), o3] [.int l1, .int 0, .int l2, .ref l0]) : Z g kX6_house Q d cN sN M 94 [some (.ref l0), some (.int l1), some (.int l2), o3] [] := by
  refine zi_aload_n dX6_house_94 rfl zrf_r ?_
  refine zi_iload_n dX6_house_95 rfl ?_
  refine zi_iconst dX6_house_96 (by decide +kernel : Int32.ofInt (0) = (0 : Int32)) ?_
  refine zi_iload_n dX6_house_97 rfl ?_
  exact kk
theorem sX6_house_101 {g : ZG} {Q : ZQ} {d cN sN : Nat} {M : ZM} {l2 : Int32} {o0 o1 o3 : Option Value}  (kk : Q.1 (some (.int l2)) M) : Z g kX6_house Q d cN sN M 101 [o0, o1, some (.int l2), o3] [] := by
  refine zi_iload_n dX6_house_101 rfl ?_
  exact zi_ireturn dX6_house_102 rfl rfl kk
abbrev kX6_in : ZK := (RX6, cX6_in, 3, (Option.some Jvm.ClassFile.FieldType.boolean), [], false, fX6)
abbrev tX6_in (g : ZG) (args : List Value) (M : ZM) (d c s : Nat) (Q : ZQ) : Prop := Ct g yX6_in (ws_ yX6_in cX6_in 3 (Option.some Jvm.ClassFile.FieldType.boolean)) args M d c s Q
abbrev nX6_in : Nat := 1
theorem mX6_in : zMok yX6_in 3 3 := ⟨⟨by decide +kernel, by decide +kernel, by decide +kernel⟩, by decide⟩
theorem eX6_in {g : ZG} {Q : ZQ} {d cN sN : Nat} {M : ZM} {x1 : Int32} {x2 : Int32} {x3 : Int32} (hV : zV g) (h : Z g kX6_in Q d cN sN M 0 [some (.int x1), some (.int x2), some (.int x3)] []) : tX6_in g [.int x1, .int x2, .int x3] M d cN sN Q := Ct.of (K := kX6_in) rfl (by decide +kernel) hV fokX6 rfl (fun h => by cases h) (fun v hv => by simp only [List.mem_cons, List.not_mem_nil, or_false] at hv; rcases hv with rfl | rfl | rfl <;> first | rfl | assumption) (Nat.le_of_ble_eq_true rfl) h
theorem sX6_in_0 {g : ZG} {Q : ZQ} {d cN sN : Nat} {M : ZM} {l0 : Int32} {l1 : Int32} {o2 : Option Value}  (kt : (l0 : Int32) < (l1 : Int32) → Z g kX6_in Q d cN sN M 14 [some (.int l0), some (.int l1), o2] []) (kf : ¬ (l0 : Int32) < (l1 : Int32) → Z g kX6_in Q d cN sN M 5 [some (.int l0), some (.int l1), o2] []) : Z g kX6_in Q d cN sN M 0 [some (.int l0), some (.int l1), o2] [] := by
  refine zi_iload_n dX6_in_0 rfl ?_
  refine zi_iload_n dX6_in_1 rfl ?_
  exact zi_icmp_lt (tgt := 14) dX6_in_2 (by decide +kernel) kt kf
theorem sX6_in_5 {g : ZG} {Q : ZQ} {d cN sN : Nat} {M : ZM} {l0 : Int32} {l2 : Int32} {o1 : Option Value}  (kt : (l2 : Int32) < (l0 : Int32) → Z g kX6_in Q d cN sN M 14 [some (.int l0), o1, some (.int l2)] []) (kf : ¬ (l2 : Int32) < (l0 : Int32) → Z g kX6_in Q d cN sN M 10 [some (.int l0), o1, some (.int l2)] []) : Z g kX6_in Q d cN sN M 5 [some (.int l0), o1, some (.int l2)] [] := by
  refine zi_iload_n dX6_in_5 rfl ?_
  refine zi_iload_n dX6_in_6 rfl ?_
  exact zi_icmp_gt (tgt := 14) dX6_in_7 (by decide +kernel) kt kf
theorem sX6_in_10 {g : ZG} {Q : ZQ} {d cN sN : Nat} {M : ZM} {o0 o1 o2 : Option Value}  (kk : Z g kX6_in Q d cN sN M 15 [o0, o1, o2] [.int 1]) : Z g kX6_in Q d cN sN M 10 [o0, o1, o2] [] := by
  refine zi_iconst dX6_in_10 (by decide +kernel : Int32.ofInt (1) = (1 : Int32)) ?_
  exact zi_goto (tgt := 15) dX6_in_11 (by decide +kernel) kk
theorem sX6_in_14 {g : ZG} {Q : ZQ} {d cN sN : Nat} {M : ZM} {o0 o1 o2 : Option Value}  (kk : Z g kX6_in Q d cN sN M 15 [o0, o1, o2] [.int 0]) : Z g kX6_in Q d cN sN M 14 [o0, o1, o2] [] := by
  refine zi_iconst dX6_in_14 (by decide +kernel : Int32.ofInt (0) = (0 : Int32)) ?_
  exact kk
theorem sX6_in_15 {g : ZG} {Q : ZQ} {d cN sN : Nat} {M : ZM} {t0 : Int32} {o0 o1 o2 : Option Value} (h1 : t0 = 0 ∨ t0 = 1) (kk : Q.1 (some (.int t0)) M) : Z g kX6_in Q d cN sN M 15 [o0, o1, o2] [.int t0] := by
  exact zi_ireturn dX6_in_15 rfl (znar_z h1) kk
abbrev kX6_fails : ZK := (RX6, cX6_fails, 2, (Option.some Jvm.ClassFile.FieldType.boolean), [], false, fX6)
abbrev tX6_fails (g : ZG) (args : List Value) (M : ZM) (d c s : Nat) (Q : ZQ) : Prop := Ct g yX6_fails (ws_ yX6_fails cX6_fails 2 (Option.some Jvm.ClassFile.FieldType.boolean)) args M d c s Q
abbrev nX6_fails : Nat := 1
theorem mX6_fails : zMok yX6_fails 1 2 := ⟨⟨by decide +kernel, by decide +kernel, by decide +kernel⟩, by decide⟩
theorem eX6_fails {g : ZG} {Q : ZQ} {d cN sN : Nat} {M : ZM} {a0 : Nat} {x1 : Int32} (hV : zV g) (h : Z g kX6_fails Q d cN sN M 0 [some (.ref a0), some (.int x1)] []) : tX6_fails g [.ref a0, .int x1] M d cN sN Q := Ct.of (K := kX6_fails) rfl (by decide +kernel) hV fokX6 rfl (fun h => by cases h) (fun v hv => by simp only [List.mem_cons, List.not_mem_nil, or_false] at hv; rcases hv with rfl | rfl <;> first | rfl | assumption) (Nat.le_of_ble_eq_true rfl) h
theorem sX6_fails_0 {g : ZG} {Q : ZQ} {d cN sN : Nat} {M : ZM} {l0 : Nat} {l1 : Int32} {fs1 : List Value} (h2 : M.1 l0 = some (.inr (5, fs1))) (h3 : 8 < (fs1).length) (h4 : 7 < (((fs1).set 8 (.int l1))).length) (kt : (l1 : Int32) ≤ 0 → Z g kX6_fails Q d cN sN (zup (zup M l0 (.inr (5, (fs1).set 8 (.int l1)))) l0 (.inr (5, (((fs1).set 8 (.int l1))).set 7 (.int 0)))) 18 [some (.ref l0), some (.int l1)] []) (kf : ¬ (l1 : Int32) ≤ 0 → Z g kX6_fails Q d cN sN (zup (zup M l0 (.inr (5, (fs1).set 8 (.int l1)))) l0 (.inr (5, (((fs1).set 8 (.int l1))).set 7 (.int 0)))) 14 [some (.ref l0), some (.int l1)] []) : Z g kX6_fails Q d cN sN M 0 [some (.ref l0), some (.int l1)] [] := by
  refine zi_aload_n dX6_fails_0 rfl zrf_r ?_
  refine zi_iload_n dX6_fails_1 rfl ?_
  refine zi_putfield dX6_fails_2 rfl h2 h3 zfit_i (Or.inl rfl) ?_
  refine zi_aload_n dX6_fails_5 rfl zrf_r ?_
  refine zi_iconst dX6_fails_6 (by decide +kernel : Int32.ofInt (0) = (0 : Int32)) ?_
  refine zi_putfield dX6_fails_7 rfl (zup_self _ _ _) h4 (zfit_z (by decide)) (Or.inl rfl) ?_
  refine zi_iload_n dX6_fails_10 rfl ?_
  exact zi_if_le (tgt := 18) dX6_fails_11 (by decide +kernel) kt kf
theorem sX6_fails_14 {g : ZG} {Q : ZQ} {d cN sN : Nat} {M : ZM} {o0 o1 : Option Value}  (kk : Z g kX6_fails Q d cN sN M 19 [o0, o1] [.int 1]) : Z g kX6_fails Q d cN sN M 14 [o0, o1] [] := by
  refine zi_iconst dX6_fails_14 (by decide +kernel : Int32.ofInt (1) = (1 : Int32)) ?_
  exact zi_goto (tgt := 19) dX6_fails_15 (by decide +kernel) kk
theorem sX6_fails_18 {g : ZG} {Q : ZQ} {d cN sN : Nat} {M : ZM} {o0 o1 : Option Value}  (kk : Z g kX6_fails Q d cN sN M 19 [o0, o1] [.int 0]) : Z g kX6_fails Q d cN sN M 18 [o0, o1] [] := by
  refine zi_iconst dX6_fails_18 (by decide +kernel : Int32.ofInt (0) = (0 : Int32)) ?_
  exact kk
theorem sX6_fails_19 {g : ZG} {Q : ZQ} {d cN sN : Nat} {M : ZM} {t0 : Int32} {o0 o1 : Option Value} (h1 : t0 = 0 ∨ t0 = 1) (kk : Q.1 (some (.int t0)) M) : Z g kX6_fails Q d cN sN M 19 [o0, o1] [.int t0] := by
  exact zi_ireturn dX6_fails_19 rfl (znar_z h1) kk
abbrev kX6_refuses : ZK := (RX6, cX6_refuses, 4, (Option.some Jvm.ClassFile.FieldType.int), [], false, fX6)
abbrev tX6_refuses (g : ZG) (args : List Value) (M : ZM) (d c s : Nat) (Q : ZQ) : Prop := Ct g yX6_refuses (ws_ yX6_refuses cX6_refuses 4 (Option.some Jvm.ClassFile.FieldType.int)) args M d c s Q
abbrev nX6_refuses : Nat := 1
theorem mX6_refuses : zMok yX6_refuses 3 4 := ⟨⟨by decide +kernel, by decide +kernel, by decide +kernel⟩, by decide⟩
theorem eX6_refuses {g : ZG} {Q : ZQ} {d cN sN : Nat} {M : ZM} {a0 : Nat} {x1 : Int32} {x2 : Int32} {x3 : Int32} (hV : zV g) (h : Z g kX6_refuses Q d cN sN M 0 [some (.ref a0), some (.int x1), some (.int x2), some (.int x3)] []) : tX6_refuses g [.ref a0, .int x1, .int x2, .int x3] M d cN sN Q := Ct.of (K := kX6_refuses) rfl (by decide +kernel) hV fokX6 rfl (fun h => by cases h) (fun v hv => by simp only [List.mem_cons, List.not_mem_nil, or_false] at hv; rcases hv with rfl | rfl | rfl | rfl <;> first | rfl | assumption) (Nat.le_of_ble_eq_true rfl) h
theorem sX6_refuses_0 {g : ZG} {Q : ZQ} {d cN sN : Nat} {M : ZM} {l0 : Nat} {l1 : Int32} {fs1 : List Value} {l2 : Int32} {l3 : Int32} (h2 : M.1 l0 = some (.inr (5, fs1))) (h3 : 8 < (fs1).length) (h4 : 7 < (((fs1).set 8 (.int l1))).length) (h5 : 9 < (((((fs1).set 8 (.int l1))).set 7 (.int 1))).length) (h6 : 10 < (((((((fs1).set 8 (.int l1))).set 7 (.int 1))).set 9 (.int l2))).length) (h7 : 11 < (((((((((fs1).set 8 (.int l1))).set 7 (.int 1))).set 9 (.int l2))).set 10 (.int l3))).length) (h8 : 12 < (((((((((((fs1).set 8 (.int l1))).set 7 (.int 1))).set 9 (.int l2))).set 10 (.int l3))).set 11 (.int 0))).length) (kk : Q.1 (some (.int 0)) (zup (zup (zup (zup (zup (zup M l0 (.inr (5, (fs1).set 8 (.int l1)))) l0 (.inr (5, (((fs1).set 8 (.int l1))).set 7 (.int 1)))) l0 (.inr (5, (((((fs1).set 8 (.int l1))).set 7 (.int 1))).set 9 (.int l2)))) l0 (.inr (5, (((((((fs1).set 8 (.int l1))).set 7 (.int 1))).set 9 (.int l2))).set 10 (.int l3)))) l0 (.inr (5, (((((((((fs1).set 8 (.int l1))).set 7 (.int 1))).set 9 (.int l2))).set 10 (.int l3))).set 11 (.int 0)))) l0 (.inr (5, (((((((((((fs1).set 8 (.int l1))).set 7 (.int 1))).set 9 (.int l2))).set 10 (.int l3))).set 11 (.int 0))).set 12 (.int 0))))) : Z g kX6_refuses Q d cN sN M 0 [some (.ref l0), some (.int l1), some (.int l2), some (.int l3)] [] := by
  refine zi_aload_n dX6_refuses_0 rfl zrf_r ?_
  refine zi_iload_n dX6_refuses_1 rfl ?_
  refine zi_putfield dX6_refuses_2 rfl h2 h3 zfit_i (Or.inl rfl) ?_
  refine zi_aload_n dX6_refuses_5 rfl zrf_r ?_
  refine zi_iconst dX6_refuses_6 (by decide +kernel : Int32.ofInt (1) = (1 : Int32)) ?_
  refine zi_putfield dX6_refuses_7 rfl (zup_self _ _ _) h4 (zfit_z (by decide)) (Or.inl rfl) ?_
  refine zi_aload_n dX6_refuses_10 rfl zrf_r ?_
  refine zi_iload_n dX6_refuses_11 rfl ?_
  refine zi_putfield dX6_refuses_12 rfl (zup_self _ _ _) h5 zfit_i (Or.inl rfl) ?_
  refine zi_aload_n dX6_refuses_15 rfl zrf_r ?_
  refine zi_iload_n dX6_refuses_16 rfl ?_
  refine zi_putfield dX6_refuses_17 rfl (zup_self _ _ _) h6 zfit_i (Or.inl rfl) ?_
  refine zi_aload_n dX6_refuses_20 rfl zrf_r ?_
  refine zi_iconst dX6_refuses_21 (by decide +kernel : Int32.ofInt (0) = (0 : Int32)) ?_
  refine zi_putfield dX6_refuses_22 rfl (zup_self _ _ _) h7 zfit_i (Or.inl rfl) ?_
  refine zi_aload_n dX6_refuses_25 rfl zrf_r ?_
  refine zi_iconst dX6_refuses_26 (by decide +kernel : Int32.ofInt (0) = (0 : Int32)) ?_
  refine zi_putfield dX6_refuses_27 rfl (zup_self _ _ _) h8 zfit_i (Or.inl rfl) ?_
  refine zi_iconst dX6_refuses_30 (by decide +kernel : Int32.ofInt (0) = (0 : Int32)) ?_
  exact zi_ireturn dX6_refuses_31 rfl rfl kk
abbrev kX6_keeps : ZK := (RX6, cX6_keeps, 3, (Option.none : Option Jvm.ClassFile.FieldType), [], false, fX6)
abbrev tX6_keeps (g : ZG) (args : List Value) (M : ZM) (d c s : Nat) (Q : ZQ) : Prop := Ct g yX6_keeps (ws_ yX6_keeps cX6_keeps 3 (Option.none : Option Jvm.ClassFile.FieldType)) args M d c s Q
abbrev nX6_keeps : Nat := 2
theorem mX6_keeps : zMok yX6_keeps 1 3 := ⟨⟨by decide +kernel, by decide +kernel, by decide +kernel⟩, by decide⟩
theorem eX6_keeps {g : ZG} {Q : ZQ} {d cN sN : Nat} {M : ZM} {a0 : Nat} {v1 : Value} (hv1 : v1.category = 1) (hV : zV g) (h : Z g kX6_keeps Q d cN sN M 0 [some (.ref a0), some (v1), none] []) : tX6_keeps g [.ref a0, v1] M d cN sN Q := Ct.of (K := kX6_keeps) rfl (by decide +kernel) hV fokX6 rfl (fun h => by cases h) (fun v hv => by simp only [List.mem_cons, List.not_mem_nil, or_false] at hv; rcases hv with rfl | rfl <;> first | rfl | assumption) (Nat.le_of_ble_eq_true rfl) h
theorem sX6_keeps_0 {g : ZG} {Q : ZQ} {d cN sN : Nat} {M : ZM} {l0 : Nat} {fs1 : List Value} {y4 : Int32} {o1 o2 : Option Value} (h2 : M.1 l0 = some (.inr (5, fs1))) (h3 : 8 < (fs1).length) (h5 : (((fs1).set 8 (.int 0)))[6]? = some (.int y4)) (kt : (y4 : Int32) = 0 → Z g kX6_keeps Q d cN sN (zup M l0 (.inr (5, (fs1).set 8 (.int 0)))) 13 [some (.ref l0), o1, o2] []) (kf : ¬ (y4 : Int32) = 0 → Z g kX6_keeps Q d cN sN (zup M l0 (.inr (5, (fs1).set 8 (.int 0)))) 12 [some (.ref l0), o1, o2] []) : Z g kX6_keeps Q d cN sN M 0 [some (.ref l0), o1, o2] [] := by
  refine zi_aload_n dX6_keeps_0 rfl zrf_r ?_
  refine zi_iconst dX6_keeps_1 (by decide +kernel : Int32.ofInt (0) = (0 : Int32)) ?_
  refine zi_putfield dX6_keeps_2 rfl h2 h3 zfit_i (Or.inl rfl) ?_
  refine zi_aload_n dX6_keeps_5 rfl zrf_r ?_
  refine zi_getfield dX6_keeps_6 rfl (zup_self _ _ _) h5 ?_
  exact zi_if_eq (tgt := 13) dX6_keeps_9 (by decide +kernel) kt kf
theorem sX6_keeps_12 {g : ZG} {Q : ZQ} {d cN sN : Nat} {M : ZM} {o0 o1 o2 : Option Value}  (kk : Q.1 none M) : Z g kX6_keeps Q d cN sN M 12 [o0, o1, o2] [] := by
  exact zi_return dX6_keeps_12 rfl kk
theorem sX6_keeps_13 {g : ZG} {Q : ZQ} {d cN sN : Nat} {M : ZM} {l0 : Nat} {fs1 : List Value} {y3 : Int32} {o1 o2 : Option Value} (h2 : M.1 l0 = some (.inr (5, fs1))) (h4 : (fs1)[5]? = some (.int y3)) (kt : ¬ (y3 : Int32) = (8 : Int32) → Z g kX6_keeps Q d cN sN M 63 [some (.ref l0), o1, o2] []) (kf : (y3 : Int32) = (8 : Int32) → Z g kX6_keeps Q d cN sN M 22 [some (.ref l0), o1, o2] []) : Z g kX6_keeps Q d cN sN M 13 [some (.ref l0), o1, o2] [] := by
  refine zi_aload_n dX6_keeps_13 rfl zrf_r ?_
  refine zi_getfield dX6_keeps_14 rfl h2 h4 ?_
  refine zi_bipush dX6_keeps_17 (by decide +kernel : (Int8.ofInt (8)).toInt32 = (8 : Int32)) ?_
  exact zi_icmp_ne (tgt := 63) dX6_keeps_19 (by decide +kernel) kt kf
theorem sX6_keeps_22 {g : ZG} {Q : ZQ} {d cN sN : Nat} {M : ZM} {o0 o1 o2 : Option Value}  (kk : Z g kX6_keeps Q d cN sN M 24 [o0, o1, some (.int 0)] []) : Z g kX6_keeps Q d cN sN M 22 [o0, o1, o2] [] := by
  refine zi_iconst dX6_keeps_22 (by decide +kernel : Int32.ofInt (0) = (0 : Int32)) ?_
  refine zi_istore_n dX6_keeps_23 (Nat.le_of_ble_eq_true rfl) ?_
  exact kk
theorem sX6_keeps_24 {g : ZG} {Q : ZQ} {d cN sN : Nat} {M : ZM} {l2 : Int32} {o0 o1 : Option Value}  (kt : (1680 : Int32) ≤ (l2 : Int32) → Z g kX6_keeps Q d cN sN M 53 [o0, o1, some (.int l2)] []) (kf : ¬ (1680 : Int32) ≤ (l2 : Int32) → Z g kX6_keeps Q d cN sN M 31 [o0, o1, some (.int l2)] []) : Z g kX6_keeps Q d cN sN M 24 [o0, o1, some (.int l2)] [] := by
  refine zi_iload_n dX6_keeps_24 rfl ?_
  refine zi_sipush dX6_keeps_25 (by decide +kernel : (Int16.ofInt (1680)).toInt32 = (1680 : Int32)) ?_
  exact zi_icmp_ge (tgt := 53) dX6_keeps_28 (by decide +kernel) kt kf
theorem sX6_keeps_31 {g : ZG} {Q : ZQ} {d cN sN : Nat} {M : ZM} {l0 : Nat} {fs1 : List Value} {r3 : Nat} {l2 : Int32} {n5 : Nat} {f6 : Nat → Int32} {o1 : Option Value} (h2 : M.1 l0 = some (.inr (5, fs1))) (h4 : (fs1)[1]? = some (.ref r3)) (h7 : M.1 r3 = some (.inl (zA g 0, n5, .inl f6))) (h8 : vp_in (l2 + 240) n5) (h9 : vp_in (l2) n5) (kk : Z g kX6_keeps Q d cN sN (zup M r3 (.inl (zA g 0, n5, .inl (upd f6 ((l2 : Int32).toNatClampNeg) (f6 ((l2 + 240 : Int32).toNatClampNeg)))))) 24 [some (.ref l0), o1, some (.int (l2 + 1))] []) : Z g kX6_keeps Q d cN sN M 31 [some (.ref l0), o1, some (.int l2)] [] := by
  refine zi_aload_n dX6_keeps_31 rfl zrf_r ?_
  refine zi_getfield dX6_keeps_32 rfl h2 h4 ?_
  refine zi_iload_n dX6_keeps_35 rfl ?_
  refine zi_aload_n dX6_keeps_36 rfl zrf_r ?_
  refine zi_getfield dX6_keeps_37 rfl h2 h4 ?_
  refine zi_iload_n dX6_keeps_40 rfl ?_
  refine zi_sipush dX6_keeps_41 (by decide +kernel : (Int16.ofInt (240)).toInt32 = (240 : Int32)) ?_
  refine zi_iadd dX6_keeps_44 ?_
  refine zi_iaload dX6_keeps_45 h7 h8 ?_
  refine zi_iastore dX6_keeps_46 h7 h9 ?_
  refine zi_iinc dX6_keeps_47 rfl (by decide +kernel : Int32.ofInt (1) = 1) (Nat.le_of_ble_eq_true rfl) ?_
  exact zi_goto (tgt := 24) dX6_keeps_50 (by decide +kernel) kk
theorem sX6_keeps_53 {g : ZG} {Q : ZQ} {d cN sN : Nat} {M : ZM} {l0 : Nat} {fs1 : List Value} {y3 : Int32} {o1 o2 : Option Value} (h2 : M.1 l0 = some (.inr (5, fs1))) (h4 : (fs1)[5]? = some (.int y3)) (h5 : 5 < (fs1).length) (kk : Z g kX6_keeps Q d cN sN (zup M l0 (.inr (5, (fs1).set 5 (.int (y3 - 1))))) 63 [some (.ref l0), o1, o2] []) : Z g kX6_keeps Q d cN sN M 53 [some (.ref l0), o1, o2] [] := by
  refine zi_aload_n dX6_keeps_53 rfl zrf_r ?_
  refine zi_dup dX6_keeps_54 rfl ?_
  refine zi_getfield dX6_keeps_55 rfl h2 h4 ?_
  refine zi_iconst dX6_keeps_58 (by decide +kernel : Int32.ofInt (1) = (1 : Int32)) ?_
  refine zi_isub dX6_keeps_59 ?_
  refine zi_putfield dX6_keeps_60 rfl h2 h5 zfit_i (Or.inl rfl) ?_
  exact kk
theorem sX6_keeps_63 {g : ZG} {Q : ZQ} {d cN sN : Nat} {M : ZM} {l1 : Nat} {l0 : Nat} {fs1 : List Value} {r3 : Nat} {y5 : Int32} {o2 : Option Value} (h2 : M.1 l0 = some (.inr (5, fs1))) (h4 : (fs1)[1]? = some (.ref r3)) (h6 : (fs1)[5]? = some (.int y5)) (kk : Z g kX6_keeps Q d cN sN M 77 [some (.ref l0), some (.ref l1), o2] [.int (240 * y5), .ref r3, .int 0, .ref l1]) : Z g kX6_keeps Q d cN sN M 63 [some (.ref l0), some (.ref l1), o2] [] := by
  refine zi_aload_n dX6_keeps_63 rfl zrf_r ?_
  refine zi_iconst dX6_keeps_64 (by decide +kernel : Int32.ofInt (0) = (0 : Int32)) ?_
  refine zi_aload_n dX6_keeps_65 rfl zrf_r ?_
  refine zi_getfield dX6_keeps_66 rfl h2 h4 ?_
  refine zi_sipush dX6_keeps_69 (by decide +kernel : (Int16.ofInt (240)).toInt32 = (240 : Int32)) ?_
  refine zi_aload_n dX6_keeps_72 rfl zrf_r ?_
  refine zi_getfield dX6_keeps_73 rfl h2 h6 ?_
  refine zi_imul dX6_keeps_76 ?_
  exact kk
theorem sX6_keeps_80 {g : ZG} {Q : ZQ} {d cN sN : Nat} {M : ZM} {l0 : Nat} {fs1 : List Value} {y3 : Int32} {o1 o2 : Option Value} (h2 : M.1 l0 = some (.inr (5, fs1))) (h4 : (fs1)[5]? = some (.int y3)) (h5 : 5 < (fs1).length) (kk : Q.1 none (zup M l0 (.inr (5, (fs1).set 5 (.int (y3 + 1)))))) : Z g kX6_keeps Q d cN sN M 80 [some (.ref l0), o1, o2] [] := by
  refine zi_aload_n dX6_keeps_80 rfl zrf_r ?_
  refine zi_dup dX6_keeps_81 rfl ?_
  refine zi_getfield dX6_keeps_82 rfl h2 h4 ?_
  refine zi_iconst dX6_keeps_85 (by decide +kernel : Int32.ofInt (1) = (1 : Int32)) ?_
  refine zi_iadd dX6_keeps_86 ?_
  refine zi_putfield dX6_keeps_87 rfl h2 h5 zfit_i (Or.inl rfl) ?_
  exact zi_return dX6_keeps_90 rfl kk
abbrev kX6_copies : ZK := (RX6, cX6_copies, 5, (Option.none : Option Jvm.ClassFile.FieldType), [], false, fX6)
abbrev tX6_copies (g : ZG) (args : List Value) (M : ZM) (d c s : Nat) (Q : ZQ) : Prop := Ct g yX6_copies (ws_ yX6_copies cX6_copies 5 (Option.none : Option Jvm.ClassFile.FieldType)) args M d c s Q
abbrev nX6_copies : Nat := 1
theorem mX6_copies : zMok yX6_copies 4 5 := ⟨⟨by decide +kernel, by decide +kernel, by decide +kernel⟩, by decide⟩
theorem eX6_copies {g : ZG} {Q : ZQ} {d cN sN : Nat} {M : ZM} {v1 : Value} (hv1 : v1.category = 1) {x2 : Int32} {v3 : Value} (hv3 : v3.category = 1) {x4 : Int32} (hV : zV g) (h : Z g kX6_copies Q d cN sN M 0 [some (v1), some (.int x2), some (v3), some (.int x4), none] []) : tX6_copies g [v1, .int x2, v3, .int x4] M d cN sN Q := Ct.of (K := kX6_copies) rfl (by decide +kernel) hV fokX6 rfl (fun h => by cases h) (fun v hv => by simp only [List.mem_cons, List.not_mem_nil, or_false] at hv; rcases hv with rfl | rfl | rfl | rfl <;> first | rfl | assumption) (Nat.le_of_ble_eq_true rfl) h
theorem sX6_copies_0 {g : ZG} {Q : ZQ} {d cN sN : Nat} {M : ZM} {o0 o1 o2 o3 o4 : Option Value}  (kk : Z g kX6_copies Q d cN sN M 3 [o0, o1, o2, o3, some (.int 0)] []) : Z g kX6_copies Q d cN sN M 0 [o0, o1, o2, o3, o4] [] := by
  refine zi_iconst dX6_copies_0 (by decide +kernel : Int32.ofInt (0) = (0 : Int32)) ?_
  refine zi_istore dX6_copies_1 (Nat.le_of_ble_eq_true rfl) ?_
  exact kk
theorem sX6_copies_3 {g : ZG} {Q : ZQ} {d cN sN : Nat} {M : ZM} {l4 : Int32} {o0 o1 o2 o3 : Option Value}  (kt : (240 : Int32) ≤ (l4 : Int32) → Z g kX6_copies Q d cN sN M 29 [o0, o1, o2, o3, some (.int l4)] []) (kf : ¬ (240 : Int32) ≤ (l4 : Int32) → Z g kX6_copies Q d cN sN M 11 [o0, o1, o2, o3, some (.int l4)] []) : Z g kX6_copies Q d cN sN M 3 [o0, o1, o2, o3, some (.int l4)] [] := by
  refine zi_iload dX6_copies_3 rfl ?_
  refine zi_sipush dX6_copies_5 (by decide +kernel : (Int16.ofInt (240)).toInt32 = (240 : Int32)) ?_
  exact zi_icmp_ge (tgt := 29) dX6_copies_8 (by decide +kernel) kt kf
theorem sX6_copies_11 {g : ZG} {Q : ZQ} {d cN sN : Nat} {M : ZM} {l2 : Nat} {l3 : Int32} {l4 : Int32} {l0 : Nat} {l1 : Int32} {n1 : Nat} {f2 : Nat → Int32} {n5 : Nat} {f6 : Nat → Int32} (h3 : M.1 l0 = some (.inl (zA g 0, n1, .inl f2))) (h4 : vp_in (l1 + l4) n1) (h7 : M.1 l2 = some (.inl (zA g 0, n5, .inl (f6)))) (h8 : vp_in (l3 + l4) n5) (kk : Z g kX6_copies Q d cN sN (zup M l2 (.inl (zA g 0, n5, .inl (upd f6 ((l3 + l4 : Int32).toNatClampNeg) (f2 ((l1 + l4 : Int32).toNatClampNeg)))))) 3 [some (.ref l0), some (.int l1), some (.ref l2), some (.int l3), some (.int (l4 + 1))] []) : Z g kX6_copies Q d cN sN M 11 [some (.ref l0), some (.int l1), some (.ref l2), some (.int l3), some (.int l4)] [] := by
  refine zi_aload_n dX6_copies_11 rfl zrf_r ?_
  refine zi_iload_n dX6_copies_12 rfl ?_
  refine zi_iload dX6_copies_13 rfl ?_
  refine zi_iadd dX6_copies_15 ?_
  refine zi_aload_n dX6_copies_16 rfl zrf_r ?_
  refine zi_iload_n dX6_copies_17 rfl ?_
  refine zi_iload dX6_copies_18 rfl ?_
  refine zi_iadd dX6_copies_20 ?_
  refine zi_iaload dX6_copies_21 h3 h4 ?_
  refine zi_iastore dX6_copies_22 h7 h8 ?_
  refine zi_iinc dX6_copies_23 rfl (by decide +kernel : Int32.ofInt (1) = 1) (Nat.le_of_ble_eq_true rfl) ?_
  exact zi_goto (tgt := 3) dX6_copies_26 (by decide +kernel) kk
theorem sX6_copies_29 {g : ZG} {Q : ZQ} {d cN sN : Nat} {M : ZM} {o0 o1 o2 o3 o4 : Option Value}  (kk : Q.1 none M) : Z g kX6_copies Q d cN sN M 29 [o0, o1, o2, o3, o4] [] := by
  exact zi_return dX6_copies_29 rfl kk
abbrev kX6_adds : ZK := (RX6, cX6_adds, 4, (Option.none : Option Jvm.ClassFile.FieldType), [], false, fX6)
abbrev tX6_adds (g : ZG) (args : List Value) (M : ZM) (d c s : Nat) (Q : ZQ) : Prop := Ct g yX6_adds (ws_ yX6_adds cX6_adds 4 (Option.none : Option Jvm.ClassFile.FieldType)) args M d c s Q
abbrev nX6_adds : Nat := 1
theorem mX6_adds : zMok yX6_adds 3 4 := ⟨⟨by decide +kernel, by decide +kernel, by decide +kernel⟩, by decide⟩
theorem eX6_adds {g : ZG} {Q : ZQ} {d cN sN : Nat} {M : ZM} {a0 : Nat} {x1 : Int32} {x2 : Int32} {x3 : Int32} (hV : zV g) (h : Z g kX6_adds Q d cN sN M 0 [some (.ref a0), some (.int x1), some (.int x2), some (.int x3)] []) : tX6_adds g [.ref a0, .int x1, .int x2, .int x3] M d cN sN Q := Ct.of (K := kX6_adds) rfl (by decide +kernel) hV fokX6 rfl (fun h => by cases h) (fun v hv => by simp only [List.mem_cons, List.not_mem_nil, or_false] at hv; rcases hv with rfl | rfl | rfl | rfl <;> first | rfl | assumption) (Nat.le_of_ble_eq_true rfl) h
theorem sX6_adds_0 {g : ZG} {Q : ZQ} {d cN sN : Nat} {M : ZM} {l0 : Nat} {fs1 : List Value} {r3 : Nat} {l1 : Int32} {l2 : Int32} {n5 : Nat} {f6 : Nat → Int32} {l3 : Int32} (h2 : M.1 l0 = some (.inr (5, fs1))) (h4 : (fs1)[0]? = some (.ref r3)) (h7 : M.1 r3 = some (.inl (zA g 0, n5, .inl f6))) (h8 : vp_in ((10 + (3 * l1)) + l2) n5) (kk : Q.1 none (zup M r3 (.inl (zA g 0, n5, .inl (upd f6 (((10 + (3 * l1)) + l2 : Int32).toNatClampNeg) ((f6 (((10 + (3 * l1)) + l2 : Int32).toNatClampNeg)) + l3)))))) : Z g kX6_adds Q d cN sN M 0 [some (.ref l0), some (.int l1), some (.int l2), some (.int l3)] [] := by
  refine zi_aload_n dX6_adds_0 rfl zrf_r ?_
  refine zi_getfield dX6_adds_1 rfl h2 h4 ?_
  refine zi_bipush dX6_adds_4 (by decide +kernel : (Int8.ofInt (10)).toInt32 = (10 : Int32)) ?_
  refine zi_iconst dX6_adds_6 (by decide +kernel : Int32.ofInt (3) = (3 : Int32)) ?_
  refine zi_iload_n dX6_adds_7 rfl ?_
  refine zi_imul dX6_adds_8 ?_
  refine zi_iadd dX6_adds_9 ?_
  refine zi_iload_n dX6_adds_10 rfl ?_
  refine zi_iadd dX6_adds_11 ?_
  refine zi_dup2 dX6_adds_12 rfl rfl ?_
  refine zi_iaload dX6_adds_13 h7 h8 ?_
  refine zi_iload_n dX6_adds_14 rfl ?_
  refine zi_iadd dX6_adds_15 ?_
  refine zi_iastore dX6_adds_16 h7 h8 ?_
  exact zi_return dX6_adds_17 rfl kk
abbrev kX6_sheet : ZK := (RX6, cX6_sheet, 6, (Option.some Jvm.ClassFile.FieldType.int), [], false, fX6)
abbrev tX6_sheet (g : ZG) (args : List Value) (M : ZM) (d c s : Nat) (Q : ZQ) : Prop := Ct g yX6_sheet (ws_ yX6_sheet cX6_sheet 6 (Option.some Jvm.ClassFile.FieldType.int)) args M d c s Q
abbrev nX6_sheet : Nat := 3
theorem mX6_sheet : zMok yX6_sheet 2 6 := ⟨⟨by decide +kernel, by decide +kernel, by decide +kernel⟩, by decide⟩
theorem eX6_sheet {g : ZG} {Q : ZQ} {d cN sN : Nat} {M : ZM} {a0 : Nat} {x1 : Int32} {x2 : Int32} (hV : zV g) (h : Z g kX6_sheet Q d cN sN M 0 [some (.ref a0), some (.int x1), some (.int x2), none, none, none] []) : tX6_sheet g [.ref a0, .int x1, .int x2] M d cN sN Q := Ct.of (K := kX6_sheet) rfl (by decide +kernel) hV fokX6 rfl (fun h => by cases h) (fun v hv => by simp only [List.mem_cons, List.not_mem_nil, or_false] at hv; rcases hv with rfl | rfl | rfl <;> first | rfl | assumption) (Nat.le_of_ble_eq_true rfl) h
theorem sX6_sheet_0 {g : ZG} {Q : ZQ} {d cN sN : Nat} {M : ZM} {l0 : Nat} {l1 : Int32} {o2 o3 o4 o5 : Option Value}  (kk : Z g kX6_sheet Q d cN sN M 3 [some (.ref l0), some (.int l1), o2, o3, o4, o5] [.int l1, .ref l0, .ref l0]) : Z g kX6_sheet Q d cN sN M 0 [some (.ref l0), some (.int l1), o2, o3, o4, o5] [] := by
  refine zi_aload_n dX6_sheet_0 rfl zrf_r ?_
  refine zi_aload_n dX6_sheet_1 rfl zrf_r ?_
  refine zi_iload_n dX6_sheet_2 rfl ?_
  exact kk
theorem sX6_sheet_6 {g : ZG} {Q : ZQ} {d cN sN : Nat} {M : ZM} {t0 : Nat} {t1 : Int32} {o0 o1 o2 o3 o4 o5 : Option Value}  (kt : ¬ (t1 : Int32) = 0 → Z g kX6_sheet Q d cN sN M 13 [o0, o1, o2, o3, o4, o5] [.ref t0]) (kf : (t1 : Int32) = 0 → Z g kX6_sheet Q d cN sN M 9 [o0, o1, o2, o3, o4, o5] [.ref t0]) : Z g kX6_sheet Q d cN sN M 6 [o0, o1, o2, o3, o4, o5] [.int t1, .ref t0] := by
  exact zi_if_ne (tgt := 13) dX6_sheet_6 (by decide +kernel) kt kf
theorem sX6_sheet_9 {g : ZG} {Q : ZQ} {d cN sN : Nat} {M : ZM} {t0 : Nat} {o0 o1 o2 o3 o4 o5 : Option Value}  (kk : Z g kX6_sheet Q d cN sN M 25 [o0, o1, o2, o3, o4, o5] [.int 1, .ref t0]) : Z g kX6_sheet Q d cN sN M 9 [o0, o1, o2, o3, o4, o5] [.ref t0] := by
  refine zi_iconst dX6_sheet_9 (by decide +kernel : Int32.ofInt (1) = (1 : Int32)) ?_
  exact zi_goto (tgt := 25) dX6_sheet_10 (by decide +kernel) kk
theorem sX6_sheet_13 {g : ZG} {Q : ZQ} {d cN sN : Nat} {M : ZM} {t0 : Nat} {l2 : Int32} {o0 o1 o3 o4 o5 : Option Value}  (kk : Z g kX6_sheet Q d cN sN M 14 [o0, o1, some (.int l2), o3, o4, o5] [.int l2, .ref t0]) : Z g kX6_sheet Q d cN sN M 13 [o0, o1, some (.int l2), o3, o4, o5] [.ref t0] := by
  refine zi_iload_n dX6_sheet_13 rfl ?_
  exact kk
theorem sX6_sheet_17 {g : ZG} {Q : ZQ} {d cN sN : Nat} {M : ZM} {t0 : Nat} {t1 : Int32} {o0 o1 o2 o3 o4 o5 : Option Value}  (kt : ¬ (t1 : Int32) = 0 → Z g kX6_sheet Q d cN sN M 24 [o0, o1, o2, o3, o4, o5] [.ref t0]) (kf : (t1 : Int32) = 0 → Z g kX6_sheet Q d cN sN M 20 [o0, o1, o2, o3, o4, o5] [.ref t0]) : Z g kX6_sheet Q d cN sN M 17 [o0, o1, o2, o3, o4, o5] [.int t1, .ref t0] := by
  exact zi_if_ne (tgt := 24) dX6_sheet_17 (by decide +kernel) kt kf
theorem sX6_sheet_20 {g : ZG} {Q : ZQ} {d cN sN : Nat} {M : ZM} {t0 : Nat} {o0 o1 o2 o3 o4 o5 : Option Value}  (kk : Z g kX6_sheet Q d cN sN M 25 [o0, o1, o2, o3, o4, o5] [.int 2, .ref t0]) : Z g kX6_sheet Q d cN sN M 20 [o0, o1, o2, o3, o4, o5] [.ref t0] := by
  refine zi_iconst dX6_sheet_20 (by decide +kernel : Int32.ofInt (2) = (2 : Int32)) ?_
  exact zi_goto (tgt := 25) dX6_sheet_21 (by decide +kernel) kk
theorem sX6_sheet_24 {g : ZG} {Q : ZQ} {d cN sN : Nat} {M : ZM} {t0 : Nat} {o0 o1 o2 o3 o4 o5 : Option Value}  (kk : Z g kX6_sheet Q d cN sN M 25 [o0, o1, o2, o3, o4, o5] [.int 0, .ref t0]) : Z g kX6_sheet Q d cN sN M 24 [o0, o1, o2, o3, o4, o5] [.ref t0] := by
  refine zi_iconst dX6_sheet_24 (by decide +kernel : Int32.ofInt (0) = (0 : Int32)) ?_
  exact kk
theorem sX6_sheet_28 {g : ZG} {Q : ZQ} {d cN sN : Nat} {M : ZM} {t0 : Int32} {o0 o1 o2 o3 o4 o5 : Option Value}  (kt : (t0 : Int32) = 0 → Z g kX6_sheet Q d cN sN M 33 [o0, o1, o2, o3, o4, o5] []) (kf : ¬ (t0 : Int32) = 0 → Z g kX6_sheet Q d cN sN M 31 [o0, o1, o2, o3, o4, o5] []) : Z g kX6_sheet Q d cN sN M 28 [o0, o1, o2, o3, o4, o5] [.int t0] := by
  exact zi_if_eq (tgt := 33) dX6_sheet_28 (by decide +kernel) kt kf
theorem sX6_sheet_31 {g : ZG} {Q : ZQ} {d cN sN : Nat} {M : ZM} {o0 o1 o2 o3 o4 o5 : Option Value}  (kk : Q.1 (some (.int 0)) M) : Z g kX6_sheet Q d cN sN M 31 [o0, o1, o2, o3, o4, o5] [] := by
  refine zi_iconst dX6_sheet_31 (by decide +kernel : Int32.ofInt (0) = (0 : Int32)) ?_
  exact zi_ireturn dX6_sheet_32 rfl rfl kk
theorem sX6_sheet_33 {g : ZG} {Q : ZQ} {d cN sN : Nat} {M : ZM} {l0 : Nat} {fs1 : List Value} {r3 : Nat} {n5 : Nat} {f6 : Nat → Int32} {o1 o2 o3 o4 o5 : Option Value} (h2 : M.1 l0 = some (.inr (5, fs1))) (h4 : (fs1)[0]? = some (.ref r3)) (h7 : M.1 r3 = some (.inl (zA g 0, n5, .inl f6))) (h8 : vp_in (1) n5) (kt : ¬ (f6 ((1 : Int32).toNatClampNeg) : Int32) = (8 : Int32) → Z g kX6_sheet Q d cN sN M 53 [some (.ref l0), o1, o2, o3, o4, o5] []) (kf : (f6 ((1 : Int32).toNatClampNeg) : Int32) = (8 : Int32) → Z g kX6_sheet Q d cN sN M 44 [some (.ref l0), o1, o2, o3, o4, o5] []) : Z g kX6_sheet Q d cN sN M 33 [some (.ref l0), o1, o2, o3, o4, o5] [] := by
  refine zi_aload_n dX6_sheet_33 rfl zrf_r ?_
  refine zi_getfield dX6_sheet_34 rfl h2 h4 ?_
  refine zi_iconst dX6_sheet_37 (by decide +kernel : Int32.ofInt (1) = (1 : Int32)) ?_
  refine zi_iaload dX6_sheet_38 h7 h8 ?_
  refine zi_bipush dX6_sheet_39 (by decide +kernel : (Int8.ofInt (8)).toInt32 = (8 : Int32)) ?_
  exact zi_icmp_ne (tgt := 53) dX6_sheet_41 (by decide +kernel) kt kf
theorem sX6_sheet_44 {g : ZG} {Q : ZQ} {d cN sN : Nat} {M : ZM} {l0 : Nat} {o1 o2 o3 o4 o5 : Option Value}  (kk : Z g kX6_sheet Q d cN sN M 49 [some (.ref l0), o1, o2, o3, o4, o5] [.int 8, .int 1, .int 3, .ref l0]) : Z g kX6_sheet Q d cN sN M 44 [some (.ref l0), o1, o2, o3, o4, o5] [] := by
  refine zi_aload_n dX6_sheet_44 rfl zrf_r ?_
  refine zi_iconst dX6_sheet_45 (by decide +kernel : Int32.ofInt (3) = (3 : Int32)) ?_
  refine zi_iconst dX6_sheet_46 (by decide +kernel : Int32.ofInt (1) = (1 : Int32)) ?_
  refine zi_bipush dX6_sheet_47 (by decide +kernel : (Int8.ofInt (8)).toInt32 = (8 : Int32)) ?_
  exact kk
theorem sX6_sheet_52 {g : ZG} {Q : ZQ} {d cN sN : Nat} {M : ZM} {t0 : Int32} {o0 o1 o2 o3 o4 o5 : Option Value}  (kk : Q.1 (some (.int t0)) M) : Z g kX6_sheet Q d cN sN M 52 [o0, o1, o2, o3, o4, o5] [.int t0] := by
  exact zi_ireturn dX6_sheet_52 rfl rfl kk
theorem sX6_sheet_53 {g : ZG} {Q : ZQ} {d cN sN : Nat} {M : ZM} {l0 : Nat} {fs1 : List Value} {r3 : Nat} {o1 o2 o3 o4 o5 : Option Value} (h2 : M.1 l0 = some (.inr (5, fs1))) (h4 : (fs1)[0]? = some (.ref r3)) (kk : Z g kX6_sheet Q d cN sN M 58 [some (.ref l0), o1, o2, o3, o4, o5] [.ref r3, .ref l0]) : Z g kX6_sheet Q d cN sN M 53 [some (.ref l0), o1, o2, o3, o4, o5] [] := by
  refine zi_aload_n dX6_sheet_53 rfl zrf_r ?_
  refine zi_aload_n dX6_sheet_54 rfl zrf_r ?_
  refine zi_getfield dX6_sheet_55 rfl h2 h4 ?_
  exact kk
theorem sX6_sheet_61 {g : ZG} {Q : ZQ} {d cN sN : Nat} {M : ZM} {l0 : Nat} {fs1 : List Value} {r3 : Nat} {n5 : Nat} {f6 : Nat → Int32} {o1 o2 o3 o4 o5 : Option Value} (h2 : M.1 l0 = some (.inr (5, fs1))) (h4 : (fs1)[0]? = some (.ref r3)) (h7 : M.1 r3 = some (.inl (zA g 0, n5, .inl f6))) (h8 : vp_in (1) n5) (kk : Z g kX6_sheet Q d cN sN (zup M r3 (.inl (zA g 0, n5, .inl (upd f6 ((1 : Int32).toNatClampNeg) ((f6 ((1 : Int32).toNatClampNeg)) + 1))))) 81 [some (.ref l0), o1, o2, some (.int (f6 ((1 : Int32).toNatClampNeg))), some (.int 0), o5] []) : Z g kX6_sheet Q d cN sN M 61 [some (.ref l0), o1, o2, o3, o4, o5] [] := by
  refine zi_aload_n dX6_sheet_61 rfl zrf_r ?_
  refine zi_getfield dX6_sheet_62 rfl h2 h4 ?_
  refine zi_iconst dX6_sheet_65 (by decide +kernel : Int32.ofInt (1) = (1 : Int32)) ?_
  refine zi_iaload dX6_sheet_66 h7 h8 ?_
  refine zi_istore_n dX6_sheet_67 (Nat.le_of_ble_eq_true rfl) ?_
  refine zi_aload_n dX6_sheet_68 rfl zrf_r ?_
  refine zi_getfield dX6_sheet_69 rfl h2 h4 ?_
  refine zi_iconst dX6_sheet_72 (by decide +kernel : Int32.ofInt (1) = (1 : Int32)) ?_
  refine zi_dup2 dX6_sheet_73 rfl rfl ?_
  refine zi_iaload dX6_sheet_74 h7 h8 ?_
  refine zi_iconst dX6_sheet_75 (by decide +kernel : Int32.ofInt (1) = (1 : Int32)) ?_
  refine zi_iadd dX6_sheet_76 ?_
  refine zi_iastore dX6_sheet_77 h7 h8 ?_
  refine zi_iconst dX6_sheet_78 (by decide +kernel : Int32.ofInt (0) = (0 : Int32)) ?_
  refine zi_istore dX6_sheet_79 (Nat.le_of_ble_eq_true rfl) ?_
  exact kk
theorem sX6_sheet_81 {g : ZG} {Q : ZQ} {d cN sN : Nat} {M : ZM} {l4 : Int32} {o0 o1 o2 o3 o5 : Option Value}  (kt : (26 : Int32) ≤ (l4 : Int32) → Z g kX6_sheet Q d cN sN M 102 [o0, o1, o2, o3, some (.int l4), o5] []) (kf : ¬ (26 : Int32) ≤ (l4 : Int32) → Z g kX6_sheet Q d cN sN M 88 [o0, o1, o2, o3, some (.int l4), o5] []) : Z g kX6_sheet Q d cN sN M 81 [o0, o1, o2, o3, some (.int l4), o5] [] := by
  refine zi_iload dX6_sheet_81 rfl ?_
  refine zi_bipush dX6_sheet_83 (by decide +kernel : (Int8.ofInt (26)).toInt32 = (26 : Int32)) ?_
  exact zi_icmp_ge (tgt := 102) dX6_sheet_85 (by decide +kernel) kt kf
theorem sX6_sheet_88 {g : ZG} {Q : ZQ} {d cN sN : Nat} {M : ZM} {l0 : Nat} {l3 : Int32} {l4 : Int32} {o1 o2 o5 : Option Value}  (kk : Z g kX6_sheet Q d cN sN M 93 [some (.ref l0), o1, o2, some (.int l3), some (.int l4), o5] [.int 0, .int l4, .int l3, .ref l0]) : Z g kX6_sheet Q d cN sN M 88 [some (.ref l0), o1, o2, some (.int l3), some (.int l4), o5] [] := by
  refine zi_aload_n dX6_sheet_88 rfl zrf_r ?_
  refine zi_iload_n dX6_sheet_89 rfl ?_
  refine zi_iload dX6_sheet_90 rfl ?_
  refine zi_iconst dX6_sheet_92 (by decide +kernel : Int32.ofInt (0) = (0 : Int32)) ?_
  exact kk
theorem sX6_sheet_96 {g : ZG} {Q : ZQ} {d cN sN : Nat} {M : ZM} {l4 : Int32} {o0 o1 o2 o3 o5 : Option Value}  (kk : Z g kX6_sheet Q d cN sN M 81 [o0, o1, o2, o3, some (.int (l4 + 1)), o5] []) : Z g kX6_sheet Q d cN sN M 96 [o0, o1, o2, o3, some (.int l4), o5] [] := by
  refine zi_iinc dX6_sheet_96 rfl (by decide +kernel : Int32.ofInt (1) = 1) (Nat.le_of_ble_eq_true rfl) ?_
  exact zi_goto (tgt := 81) dX6_sheet_99 (by decide +kernel) kk
theorem sX6_sheet_102 {g : ZG} {Q : ZQ} {d cN sN : Nat} {M : ZM} {l0 : Nat} {l3 : Int32} {l1 : Int32} {o2 o4 o5 : Option Value}  (kk : Z g kX6_sheet Q d cN sN M 106 [some (.ref l0), some (.int l1), o2, some (.int l3), o4, o5] [.int l1, .int 0, .int l3, .ref l0]) : Z g kX6_sheet Q d cN sN M 102 [some (.ref l0), some (.int l1), o2, some (.int l3), o4, o5] [] := by
  refine zi_aload_n dX6_sheet_102 rfl zrf_r ?_
  refine zi_iload_n dX6_sheet_103 rfl ?_
  refine zi_iconst dX6_sheet_104 (by decide +kernel : Int32.ofInt (0) = (0 : Int32)) ?_
  refine zi_iload_n dX6_sheet_105 rfl ?_
  exact kk
theorem sX6_sheet_109 {g : ZG} {Q : ZQ} {d cN sN : Nat} {M : ZM} {l0 : Nat} {l3 : Int32} {l2 : Int32} {o1 o4 o5 : Option Value}  (kk : Z g kX6_sheet Q d cN sN M 113 [some (.ref l0), o1, some (.int l2), some (.int l3), o4, o5] [.int l2, .int 1, .int l3, .ref l0]) : Z g kX6_sheet Q d cN sN M 109 [some (.ref l0), o1, some (.int l2), some (.int l3), o4, o5] [] := by
  refine zi_aload_n dX6_sheet_109 rfl zrf_r ?_
  refine zi_iload_n dX6_sheet_110 rfl ?_
  refine zi_iconst dX6_sheet_111 (by decide +kernel : Int32.ofInt (1) = (1 : Int32)) ?_
  refine zi_iload_n dX6_sheet_112 rfl ?_
  exact kk
theorem sX6_sheet_119 {g : ZG} {Q : ZQ} {d cN sN : Nat} {M : ZM} {l2 : Int32} {o0 o1 o3 o4 o5 : Option Value}  (kk : Z g kX6_sheet Q d cN sN M 123 [o0, o1, some (.int l2), o3, some (.int l2), o5] [.int l2]) : Z g kX6_sheet Q d cN sN M 119 [o0, o1, some (.int l2), o3, o4, o5] [] := by
  refine zi_iload_n dX6_sheet_119 rfl ?_
  refine zi_istore dX6_sheet_120 (Nat.le_of_ble_eq_true rfl) ?_
  refine zi_iload_n dX6_sheet_122 rfl ?_
  exact kk
theorem sX6_sheet_126 {g : ZG} {Q : ZQ} {d cN sN : Nat} {M : ZM} {t0 : Int32} {o0 o1 o2 o3 o4 o5 : Option Value}  (kk : Z g kX6_sheet Q d cN sN M 130 [o0, o1, o2, o3, o4, some (.int (t0 - 1))] []) : Z g kX6_sheet Q d cN sN M 126 [o0, o1, o2, o3, o4, o5] [.int t0] := by
  refine zi_iconst dX6_sheet_126 (by decide +kernel : Int32.ofInt (1) = (1 : Int32)) ?_
  refine zi_isub dX6_sheet_127 ?_
  refine zi_istore dX6_sheet_128 (Nat.le_of_ble_eq_true rfl) ?_
  exact kk
theorem sX6_sheet_130 {g : ZG} {Q : ZQ} {d cN sN : Nat} {M : ZM} {l5 : Int32} {o0 o1 o2 o3 o4 : Option Value}  (kt : (l5 : Int32) < 0 → Z g kX6_sheet Q d cN sN M 177 [o0, o1, o2, o3, o4, some (.int l5)] []) (kf : ¬ (l5 : Int32) < 0 → Z g kX6_sheet Q d cN sN M 135 [o0, o1, o2, o3, o4, some (.int l5)] []) : Z g kX6_sheet Q d cN sN M 130 [o0, o1, o2, o3, o4, some (.int l5)] [] := by
  refine zi_iload dX6_sheet_130 rfl ?_
  exact zi_if_lt (tgt := 177) dX6_sheet_132 (by decide +kernel) kt kf
theorem sX6_sheet_135 {g : ZG} {Q : ZQ} {d cN sN : Nat} {M : ZM} {l0 : Nat} {l3 : Int32} {l5 : Int32} {l4 : Int32} {o1 o2 : Option Value}  (kk : Z g kX6_sheet Q d cN sN M 146 [some (.ref l0), o1, o2, some (.int l3), some (.int l4), some (.int l5)] [.int (l4 - l4 / 10 * 10), .int (2 + l5), .int l3, .ref l0]) : Z g kX6_sheet Q d cN sN M 135 [some (.ref l0), o1, o2, some (.int l3), some (.int l4), some (.int l5)] [] := by
  refine zi_aload_n dX6_sheet_135 rfl zrf_r ?_
  refine zi_iload_n dX6_sheet_136 rfl ?_
  refine zi_iconst dX6_sheet_137 (by decide +kernel : Int32.ofInt (2) = (2 : Int32)) ?_
  refine zi_iload dX6_sheet_138 rfl ?_
  refine zi_iadd dX6_sheet_140 ?_
  refine zi_iload dX6_sheet_141 rfl ?_
  refine zi_bipush dX6_sheet_143 (by decide +kernel : (Int8.ofInt (10)).toInt32 = (10 : Int32)) ?_
  refine zi_irem dX6_sheet_145 (by decide +kernel) ?_
  exact kk
theorem sX6_sheet_149 {g : ZG} {Q : ZQ} {d cN sN : Nat} {M : ZM} {l0 : Nat} {l3 : Int32} {l5 : Int32} {l4 : Int32} {o1 o2 : Option Value}  (kk : Z g kX6_sheet Q d cN sN M 161 [some (.ref l0), o1, o2, some (.int l3), some (.int l4), some (.int l5)] [.int (l4 - l4 / 10 * 10), .int (10 + l5), .int l3, .ref l0]) : Z g kX6_sheet Q d cN sN M 149 [some (.ref l0), o1, o2, some (.int l3), some (.int l4), some (.int l5)] [] := by
  refine zi_aload_n dX6_sheet_149 rfl zrf_r ?_
  refine zi_iload_n dX6_sheet_150 rfl ?_
  refine zi_bipush dX6_sheet_151 (by decide +kernel : (Int8.ofInt (10)).toInt32 = (10 : Int32)) ?_
  refine zi_iload dX6_sheet_153 rfl ?_
  refine zi_iadd dX6_sheet_155 ?_
  refine zi_iload dX6_sheet_156 rfl ?_
  refine zi_bipush dX6_sheet_158 (by decide +kernel : (Int8.ofInt (10)).toInt32 = (10 : Int32)) ?_
  refine zi_irem dX6_sheet_160 (by decide +kernel) ?_
  exact kk
theorem sX6_sheet_164 {g : ZG} {Q : ZQ} {d cN sN : Nat} {M : ZM} {l4 : Int32} {l5 : Int32} {o0 o1 o2 o3 : Option Value}  (kk : Z g kX6_sheet Q d cN sN M 130 [o0, o1, o2, o3, some (.int (l4 / 10)), some (.int (l5 + (-1)))] []) : Z g kX6_sheet Q d cN sN M 164 [o0, o1, o2, o3, some (.int l4), some (.int l5)] [] := by
  refine zi_iload dX6_sheet_164 rfl ?_
  refine zi_bipush dX6_sheet_166 (by decide +kernel : (Int8.ofInt (10)).toInt32 = (10 : Int32)) ?_
  refine zi_idiv dX6_sheet_168 (by decide +kernel) ?_
  refine zi_istore dX6_sheet_169 (Nat.le_of_ble_eq_true rfl) ?_
  refine zi_iinc dX6_sheet_171 rfl (by decide +kernel : Int32.ofInt (-1) = -1) (Nat.le_of_ble_eq_true rfl) ?_
  exact zi_goto (tgt := 130) dX6_sheet_174 (by decide +kernel) kk
theorem sX6_sheet_177 {g : ZG} {Q : ZQ} {d cN sN : Nat} {M : ZM} {l3 : Int32} {o0 o1 o2 o4 o5 : Option Value}  (kk : Q.1 (some (.int l3)) M) : Z g kX6_sheet Q d cN sN M 177 [o0, o1, o2, some (.int l3), o4, o5] [] := by
  refine zi_iload_n dX6_sheet_177 rfl ?_
  exact zi_ireturn dX6_sheet_178 rfl rfl kk
abbrev kX6_isHouse : ZK := (RX6, cX6_isHouse, 2, (Option.some Jvm.ClassFile.FieldType.boolean), [], false, fX6)
abbrev tX6_isHouse (g : ZG) (args : List Value) (M : ZM) (d c s : Nat) (Q : ZQ) : Prop := Ct g yX6_isHouse (ws_ yX6_isHouse cX6_isHouse 2 (Option.some Jvm.ClassFile.FieldType.boolean)) args M d c s Q
abbrev nX6_isHouse : Nat := 2
theorem mX6_isHouse : zMok yX6_isHouse 1 2 := ⟨⟨by decide +kernel, by decide +kernel, by decide +kernel⟩, by decide⟩
theorem eX6_isHouse {g : ZG} {Q : ZQ} {d cN sN : Nat} {M : ZM} {a0 : Nat} {x1 : Int32} (hV : zV g) (h : Z g kX6_isHouse Q d cN sN M 0 [some (.ref a0), some (.int x1)] []) : tX6_isHouse g [.ref a0, .int x1] M d cN sN Q := Ct.of (K := kX6_isHouse) rfl (by decide +kernel) hV fokX6 rfl (fun h => by cases h) (fun v hv => by simp only [List.mem_cons, List.not_mem_nil, or_false] at hv; rcases hv with rfl | rfl <;> first | rfl | assumption) (Nat.le_of_ble_eq_true rfl) h
theorem sX6_isHouse_0 {g : ZG} {Q : ZQ} {d cN sN : Nat} {M : ZM} {l1 : Int32} {l0 : Nat} {fs1 : List Value} {r3 : Nat} {n5 : Nat} {f6 : Nat → Int32} (h2 : M.1 l0 = some (.inr (5, fs1))) (h4 : (fs1)[0]? = some (.ref r3)) (h7 : M.1 r3 = some (.inl (zA g 0, n5, .inl f6))) (h8 : vp_in (0) n5) (kk : Z g kX6_isHouse Q d cN sN M 10 [some (.ref l0), some (.int l1)] [.int ((f6 ((0 : Int32).toNatClampNeg)) - 1), .int 0, .int l1]) : Z g kX6_isHouse Q d cN sN M 0 [some (.ref l0), some (.int l1)] [] := by
  refine zi_iload_n dX6_isHouse_0 rfl ?_
  refine zi_iconst dX6_isHouse_1 (by decide +kernel : Int32.ofInt (0) = (0 : Int32)) ?_
  refine zi_aload_n dX6_isHouse_2 rfl zrf_r ?_
  refine zi_getfield dX6_isHouse_3 rfl h2 h4 ?_
  refine zi_iconst dX6_isHouse_6 (by decide +kernel : Int32.ofInt (0) = (0 : Int32)) ?_
  refine zi_iaload dX6_isHouse_7 h7 h8 ?_
  refine zi_iconst dX6_isHouse_8 (by decide +kernel : Int32.ofInt (1) = (1 : Int32)) ?_
  refine zi_isub dX6_isHouse_9 ?_
  exact kk
theorem sX6_isHouse_13 {g : ZG} {Q : ZQ} {d cN sN : Nat} {M : ZM} {t0 : Int32} {o0 o1 : Option Value} (h1 : t0 = 0 ∨ t0 = 1) (kk : Q.1 (some (.int t0)) M) : Z g kX6_isHouse Q d cN sN M 13 [o0, o1] [.int t0] := by
  exact zi_ireturn dX6_isHouse_13 rfl (znar_z h1) kk
abbrev kX6_letters : ZK := (RX6, cX6_letters, 3, (Option.some Jvm.ClassFile.FieldType.int), [], false, fX6)
abbrev tX6_letters (g : ZG) (args : List Value) (M : ZM) (d c s : Nat) (Q : ZQ) : Prop := Ct g yX6_letters (ws_ yX6_letters cX6_letters 3 (Option.some Jvm.ClassFile.FieldType.int)) args M d c s Q
abbrev nX6_letters : Nat := 2
theorem mX6_letters : zMok yX6_letters 1 3 := ⟨⟨by decide +kernel, by decide +kernel, by decide +kernel⟩, by decide⟩
theorem eX6_letters {g : ZG} {Q : ZQ} {d cN sN : Nat} {M : ZM} {x1 : Int32} (hV : zV g) (h : Z g kX6_letters Q d cN sN M 0 [some (.int x1), none, none] []) : tX6_letters g [.int x1] M d cN sN Q := Ct.of (K := kX6_letters) rfl (by decide +kernel) hV fokX6 rfl (fun h => by cases h) (fun v hv => by simp only [List.mem_cons, List.not_mem_nil, or_false] at hv; rcases hv with rfl <;> first | rfl | assumption) (Nat.le_of_ble_eq_true rfl) h
theorem sX6_letters_0 {g : ZG} {Q : ZQ} {d cN sN : Nat} {M : ZM} {l0 : Int32} {o1 o2 : Option Value}  (kk : Z g kX6_letters Q d cN sN M 4 [some (.int l0), some (.int 0), some (.int l0)] []) : Z g kX6_letters Q d cN sN M 0 [some (.int l0), o1, o2] [] := by
  refine zi_iconst dX6_letters_0 (by decide +kernel : Int32.ofInt (0) = (0 : Int32)) ?_
  refine zi_istore_n dX6_letters_1 (Nat.le_of_ble_eq_true rfl) ?_
  refine zi_iload_n dX6_letters_2 rfl ?_
  refine zi_istore_n dX6_letters_3 (Nat.le_of_ble_eq_true rfl) ?_
  exact kk
theorem sX6_letters_4 {g : ZG} {Q : ZQ} {d cN sN : Nat} {M : ZM} {l2 : Int32} {o0 o1 : Option Value}  (kt : (l2 : Int32) ≤ 0 → Z g kX6_letters Q d cN sN M 34 [o0, o1, some (.int l2)] []) (kf : ¬ (l2 : Int32) ≤ 0 → Z g kX6_letters Q d cN sN M 8 [o0, o1, some (.int l2)] []) : Z g kX6_letters Q d cN sN M 4 [o0, o1, some (.int l2)] [] := by
  refine zi_iload_n dX6_letters_4 rfl ?_
  exact zi_if_le (tgt := 34) dX6_letters_5 (by decide +kernel) kt kf
theorem sX6_letters_8 {g : ZG} {Q : ZQ} {d cN sN : Nat} {M : ZM} {l2 : Int32} {o0 o1 : Option Value}  (kk : Z g kX6_letters Q d cN sN M 15 [o0, o1, some (.int l2)] [.int 6, .int 1, .int (l2 - l2 / 10 * 10)]) : Z g kX6_letters Q d cN sN M 8 [o0, o1, some (.int l2)] [] := by
  refine zi_iload_n dX6_letters_8 rfl ?_
  refine zi_bipush dX6_letters_9 (by decide +kernel : (Int8.ofInt (10)).toInt32 = (10 : Int32)) ?_
  refine zi_irem dX6_letters_11 (by decide +kernel) ?_
  refine zi_iconst dX6_letters_12 (by decide +kernel : Int32.ofInt (1) = (1 : Int32)) ?_
  refine zi_bipush dX6_letters_13 (by decide +kernel : (Int8.ofInt (6)).toInt32 = (6 : Int32)) ?_
  exact kk
theorem sX6_letters_18 {g : ZG} {Q : ZQ} {d cN sN : Nat} {M : ZM} {t0 : Int32} {o0 o1 o2 : Option Value}  (kt : ¬ (t0 : Int32) = 0 → Z g kX6_letters Q d cN sN M 23 [o0, o1, o2] []) (kf : (t0 : Int32) = 0 → Z g kX6_letters Q d cN sN M 21 [o0, o1, o2] []) : Z g kX6_letters Q d cN sN M 18 [o0, o1, o2] [.int t0] := by
  exact zi_if_ne (tgt := 23) dX6_letters_18 (by decide +kernel) kt kf
theorem sX6_letters_21 {g : ZG} {Q : ZQ} {d cN sN : Nat} {M : ZM} {o0 o1 o2 : Option Value}  (kk : Q.1 (some (.int 0)) M) : Z g kX6_letters Q d cN sN M 21 [o0, o1, o2] [] := by
  refine zi_iconst dX6_letters_21 (by decide +kernel : Int32.ofInt (0) = (0 : Int32)) ?_
  exact zi_ireturn dX6_letters_22 rfl rfl kk
theorem sX6_letters_23 {g : ZG} {Q : ZQ} {d cN sN : Nat} {M : ZM} {l1 : Int32} {l2 : Int32} {o0 : Option Value}  (kk : Z g kX6_letters Q d cN sN M 4 [o0, some (.int (l1 + 1)), some (.int (l2 / 10))] []) : Z g kX6_letters Q d cN sN M 23 [o0, some (.int l1), some (.int l2)] [] := by
  refine zi_iinc dX6_letters_23 rfl (by decide +kernel : Int32.ofInt (1) = 1) (Nat.le_of_ble_eq_true rfl) ?_
  refine zi_iload_n dX6_letters_26 rfl ?_
  refine zi_bipush dX6_letters_27 (by decide +kernel : (Int8.ofInt (10)).toInt32 = (10 : Int32)) ?_
  refine zi_idiv dX6_letters_29 (by decide +kernel) ?_
  refine zi_istore_n dX6_letters_30 (Nat.le_of_ble_eq_true rfl) ?_
  exact zi_goto (tgt := 4) dX6_letters_31 (by decide +kernel) kk
theorem sX6_letters_34 {g : ZG} {Q : ZQ} {d cN sN : Nat} {M : ZM} {l1 : Int32} {o0 o2 : Option Value}  (kk : Z g kX6_letters Q d cN sN M 38 [o0, some (.int l1), o2] [.int 8, .int 3, .int l1]) : Z g kX6_letters Q d cN sN M 34 [o0, some (.int l1), o2] [] := by
  refine zi_iload_n dX6_letters_34 rfl ?_
  refine zi_iconst dX6_letters_35 (by decide +kernel : Int32.ofInt (3) = (3 : Int32)) ?_
  refine zi_bipush dX6_letters_36 (by decide +kernel : (Int8.ofInt (8)).toInt32 = (8 : Int32)) ?_
  exact kk
theorem sX6_letters_41 {g : ZG} {Q : ZQ} {d cN sN : Nat} {M : ZM} {t0 : Int32} {o0 o1 o2 : Option Value}  (kt : (t0 : Int32) = 0 → Z g kX6_letters Q d cN sN M 48 [o0, o1, o2] []) (kf : ¬ (t0 : Int32) = 0 → Z g kX6_letters Q d cN sN M 44 [o0, o1, o2] []) : Z g kX6_letters Q d cN sN M 41 [o0, o1, o2] [.int t0] := by
  exact zi_if_eq (tgt := 48) dX6_letters_41 (by decide +kernel) kt kf
theorem sX6_letters_44 {g : ZG} {Q : ZQ} {d cN sN : Nat} {M : ZM} {l1 : Int32} {o0 o2 : Option Value}  (kk : Z g kX6_letters Q d cN sN M 49 [o0, some (.int l1), o2] [.int l1]) : Z g kX6_letters Q d cN sN M 44 [o0, some (.int l1), o2] [] := by
  refine zi_iload_n dX6_letters_44 rfl ?_
  exact zi_goto (tgt := 49) dX6_letters_45 (by decide +kernel) kk
theorem sX6_letters_48 {g : ZG} {Q : ZQ} {d cN sN : Nat} {M : ZM} {o0 o1 o2 : Option Value}  (kk : Z g kX6_letters Q d cN sN M 49 [o0, o1, o2] [.int 0]) : Z g kX6_letters Q d cN sN M 48 [o0, o1, o2] [] := by
  refine zi_iconst dX6_letters_48 (by decide +kernel : Int32.ofInt (0) = (0 : Int32)) ?_
  exact kk
theorem sX6_letters_49 {g : ZG} {Q : ZQ} {d cN sN : Nat} {M : ZM} {t0 : Int32} {o0 o1 o2 : Option Value}  (kk : Q.1 (some (.int t0)) M) : Z g kX6_letters Q d cN sN M 49 [o0, o1, o2] [.int t0] := by
  exact zi_ireturn dX6_letters_49 rfl rfl kk
abbrev kX6_lays : ZK := (RX6, cX6_lays, 4, (Option.none : Option Jvm.ClassFile.FieldType), [], false, fX6)
abbrev tX6_lays (g : ZG) (args : List Value) (M : ZM) (d c s : Nat) (Q : ZQ) : Prop := Ct g yX6_lays (ws_ yX6_lays cX6_lays 4 (Option.none : Option Jvm.ClassFile.FieldType)) args M d c s Q
abbrev nX6_lays : Nat := 1
theorem mX6_lays : zMok yX6_lays 3 4 := ⟨⟨by decide +kernel, by decide +kernel, by decide +kernel⟩, by decide⟩
theorem eX6_lays {g : ZG} {Q : ZQ} {d cN sN : Nat} {M : ZM} {a0 : Nat} {x1 : Int32} {x2 : Int32} {x3 : Int32} (hV : zV g) (h : Z g kX6_lays Q d cN sN M 0 [some (.ref a0), some (.int x1), some (.int x2), some (.int x3)] []) : tX6_lays g [.ref a0, .int x1, .int x2, .int x3] M d cN sN Q := Ct.of (K := kX6_lays) rfl (by decide +kernel) hV fokX6 rfl (fun h => by cases h) (fun v hv => by simp only [List.mem_cons, List.not_mem_nil, or_false] at hv; rcases hv with rfl | rfl | rfl | rfl <;> first | rfl | assumption) (Nat.le_of_ble_eq_true rfl) h
theorem sX6_lays_0 {g : ZG} {Q : ZQ} {d cN sN : Nat} {M : ZM} {l0 : Nat} {fs1 : List Value} {r3 : Nat} {l1 : Int32} {l2 : Int32} {l3 : Int32} {n5 : Nat} {f6 : Nat → Int32} (h2 : M.1 l0 = some (.inr (5, fs1))) (h4 : (fs1)[0]? = some (.ref r3)) (h7 : M.1 r3 = some (.inl (zA g 0, n5, .inl (f6)))) (h8 : vp_in ((22 + (26 * l1)) + l2) n5) (kk : Q.1 none (zup M r3 (.inl (zA g 0, n5, .inl (upd f6 (((22 + (26 * l1)) + l2 : Int32).toNatClampNeg) (l3)))))) : Z g kX6_lays Q d cN sN M 0 [some (.ref l0), some (.int l1), some (.int l2), some (.int l3)] [] := by
  refine zi_aload_n dX6_lays_0 rfl zrf_r ?_
  refine zi_getfield dX6_lays_1 rfl h2 h4 ?_
  refine zi_bipush dX6_lays_4 (by decide +kernel : (Int8.ofInt (22)).toInt32 = (22 : Int32)) ?_
  refine zi_bipush dX6_lays_6 (by decide +kernel : (Int8.ofInt (26)).toInt32 = (26 : Int32)) ?_
  refine zi_iload_n dX6_lays_8 rfl ?_
  refine zi_imul dX6_lays_9 ?_
  refine zi_iadd dX6_lays_10 ?_
  refine zi_iload_n dX6_lays_11 rfl ?_
  refine zi_iadd dX6_lays_12 ?_
  refine zi_iload_n dX6_lays_13 rfl ?_
  refine zi_iastore dX6_lays_14 h7 h8 ?_
  exact zi_return dX6_lays_15 rfl kk
abbrev kX6_take : ZK := (RX6, cX6_take, 3, (Option.some Jvm.ClassFile.FieldType.int), [], false, fX6)
abbrev tX6_take (g : ZG) (args : List Value) (M : ZM) (d c s : Nat) (Q : ZQ) : Prop := Ct g yX6_take (ws_ yX6_take cX6_take 3 (Option.some Jvm.ClassFile.FieldType.int)) args M d c s Q
abbrev nX6_take : Nat := 3
theorem mX6_take : zMok yX6_take 1 3 := ⟨⟨by decide +kernel, by decide +kernel, by decide +kernel⟩, by decide⟩
theorem eX6_take {g : ZG} {Q : ZQ} {d cN sN : Nat} {M : ZM} {a0 : Nat} {x1 : Int32} (hV : zV g) (h : Z g kX6_take Q d cN sN M 0 [some (.ref a0), some (.int x1), none] []) : tX6_take g [.ref a0, .int x1] M d cN sN Q := Ct.of (K := kX6_take) rfl (by decide +kernel) hV fokX6 rfl (fun h => by cases h) (fun v hv => by simp only [List.mem_cons, List.not_mem_nil, or_false] at hv; rcases hv with rfl | rfl <;> first | rfl | assumption) (Nat.le_of_ble_eq_true rfl) h
theorem sX6_take_0 {g : ZG} {Q : ZQ} {d cN sN : Nat} {M : ZM} {l0 : Nat} {l1 : Int32} {o2 : Option Value}  (kk : Z g kX6_take Q d cN sN M 3 [some (.ref l0), some (.int l1), o2] [.int l1, .ref l0, .ref l0]) : Z g kX6_take Q d cN sN M 0 [some (.ref l0), some (.int l1), o2] [] := by
  refine zi_aload_n dX6_take_0 rfl zrf_r ?_
  refine zi_aload_n dX6_take_1 rfl zrf_r ?_
  refine zi_iload_n dX6_take_2 rfl ?_
  exact kk
theorem sX6_take_6 {g : ZG} {Q : ZQ} {d cN sN : Nat} {M : ZM} {t0 : Nat} {t1 : Int32} {o0 o1 o2 : Option Value}  (kt : (t1 : Int32) = 0 → Z g kX6_take Q d cN sN M 13 [o0, o1, o2] [.ref t0]) (kf : ¬ (t1 : Int32) = 0 → Z g kX6_take Q d cN sN M 9 [o0, o1, o2] [.ref t0]) : Z g kX6_take Q d cN sN M 6 [o0, o1, o2] [.int t1, .ref t0] := by
  exact zi_if_eq (tgt := 13) dX6_take_6 (by decide +kernel) kt kf
theorem sX6_take_9 {g : ZG} {Q : ZQ} {d cN sN : Nat} {M : ZM} {t0 : Nat} {o0 o1 o2 : Option Value}  (kk : Z g kX6_take Q d cN sN M 14 [o0, o1, o2] [.int 0, .ref t0]) : Z g kX6_take Q d cN sN M 9 [o0, o1, o2] [.ref t0] := by
  refine zi_iconst dX6_take_9 (by decide +kernel : Int32.ofInt (0) = (0 : Int32)) ?_
  exact zi_goto (tgt := 14) dX6_take_10 (by decide +kernel) kk
theorem sX6_take_13 {g : ZG} {Q : ZQ} {d cN sN : Nat} {M : ZM} {t0 : Nat} {o0 o1 o2 : Option Value}  (kk : Z g kX6_take Q d cN sN M 14 [o0, o1, o2] [.int 1, .ref t0]) : Z g kX6_take Q d cN sN M 13 [o0, o1, o2] [.ref t0] := by
  refine zi_iconst dX6_take_13 (by decide +kernel : Int32.ofInt (1) = (1 : Int32)) ?_
  exact kk
theorem sX6_take_17 {g : ZG} {Q : ZQ} {d cN sN : Nat} {M : ZM} {t0 : Int32} {o0 o1 o2 : Option Value}  (kt : (t0 : Int32) = 0 → Z g kX6_take Q d cN sN M 22 [o0, o1, o2] []) (kf : ¬ (t0 : Int32) = 0 → Z g kX6_take Q d cN sN M 20 [o0, o1, o2] []) : Z g kX6_take Q d cN sN M 17 [o0, o1, o2] [.int t0] := by
  exact zi_if_eq (tgt := 22) dX6_take_17 (by decide +kernel) kt kf
theorem sX6_take_20 {g : ZG} {Q : ZQ} {d cN sN : Nat} {M : ZM} {o0 o1 o2 : Option Value}  (kk : Q.1 (some (.int 0)) M) : Z g kX6_take Q d cN sN M 20 [o0, o1, o2] [] := by
  refine zi_iconst dX6_take_20 (by decide +kernel : Int32.ofInt (0) = (0 : Int32)) ?_
  exact zi_ireturn dX6_take_21 rfl rfl kk
theorem sX6_take_22 {g : ZG} {Q : ZQ} {d cN sN : Nat} {M : ZM} {l0 : Nat} {fs1 : List Value} {r3 : Nat} {o1 o2 : Option Value} (h2 : M.1 l0 = some (.inr (5, fs1))) (h4 : (fs1)[0]? = some (.ref r3)) (kk : Z g kX6_take Q d cN sN M 27 [some (.ref l0), o1, o2] [.ref r3, .ref l0]) : Z g kX6_take Q d cN sN M 22 [some (.ref l0), o1, o2] [] := by
  refine zi_aload_n dX6_take_22 rfl zrf_r ?_
  refine zi_aload_n dX6_take_23 rfl zrf_r ?_
  refine zi_getfield dX6_take_24 rfl h2 h4 ?_
  exact kk
theorem sX6_take_30 {g : ZG} {Q : ZQ} {d cN sN : Nat} {M : ZM} {l0 : Nat} {fs1 : List Value} {r3 : Nat} {n5 : Nat} {f6 : Nat → Int32} {l1 : Int32} {o2 : Option Value} (h2 : M.1 l0 = some (.inr (5, fs1))) (h4 : (fs1)[0]? = some (.ref r3)) (h7 : M.1 r3 = some (.inl (zA g 0, n5, .inl f6))) (h8 : vp_in (1) n5) (kk : Z g kX6_take Q d cN sN (zup M r3 (.inl (zA g 0, n5, .inl (upd f6 ((1 : Int32).toNatClampNeg) ((f6 ((1 : Int32).toNatClampNeg)) - 1))))) 48 [some (.ref l0), some (.int l1), some (.int (22 + (26 * l1)))] []) : Z g kX6_take Q d cN sN M 30 [some (.ref l0), some (.int l1), o2] [] := by
  refine zi_aload_n dX6_take_30 rfl zrf_r ?_
  refine zi_getfield dX6_take_31 rfl h2 h4 ?_
  refine zi_iconst dX6_take_34 (by decide +kernel : Int32.ofInt (1) = (1 : Int32)) ?_
  refine zi_dup2 dX6_take_35 rfl rfl ?_
  refine zi_iaload dX6_take_36 h7 h8 ?_
  refine zi_iconst dX6_take_37 (by decide +kernel : Int32.ofInt (1) = (1 : Int32)) ?_
  refine zi_isub dX6_take_38 ?_
  refine zi_iastore dX6_take_39 h7 h8 ?_
  refine zi_bipush dX6_take_40 (by decide +kernel : (Int8.ofInt (22)).toInt32 = (22 : Int32)) ?_
  refine zi_bipush dX6_take_42 (by decide +kernel : (Int8.ofInt (26)).toInt32 = (26 : Int32)) ?_
  refine zi_iload_n dX6_take_44 rfl ?_
  refine zi_imul dX6_take_45 ?_
  refine zi_iadd dX6_take_46 ?_
  refine zi_istore_n dX6_take_47 (Nat.le_of_ble_eq_true rfl) ?_
  exact kk
theorem sX6_take_48 {g : ZG} {Q : ZQ} {d cN sN : Nat} {M : ZM} {l2 : Int32} {l0 : Nat} {fs1 : List Value} {r3 : Nat} {n5 : Nat} {f6 : Nat → Int32} {o1 : Option Value} (h2 : M.1 l0 = some (.inr (5, fs1))) (h4 : (fs1)[0]? = some (.ref r3)) (h7 : M.1 r3 = some (.inl (zA g 0, n5, .inl f6))) (h8 : vp_in (1) n5) (kt : (22 + (26 * (f6 ((1 : Int32).toNatClampNeg))) : Int32) ≤ (l2 : Int32) → Z g kX6_take Q d cN sN M 85 [some (.ref l0), o1, some (.int l2)] []) (kf : ¬ (22 + (26 * (f6 ((1 : Int32).toNatClampNeg))) : Int32) ≤ (l2 : Int32) → Z g kX6_take Q d cN sN M 64 [some (.ref l0), o1, some (.int l2)] []) : Z g kX6_take Q d cN sN M 48 [some (.ref l0), o1, some (.int l2)] [] := by
  refine zi_iload_n dX6_take_48 rfl ?_
  refine zi_bipush dX6_take_49 (by decide +kernel : (Int8.ofInt (22)).toInt32 = (22 : Int32)) ?_
  refine zi_bipush dX6_take_51 (by decide +kernel : (Int8.ofInt (26)).toInt32 = (26 : Int32)) ?_
  refine zi_aload_n dX6_take_53 rfl zrf_r ?_
  refine zi_getfield dX6_take_54 rfl h2 h4 ?_
  refine zi_iconst dX6_take_57 (by decide +kernel : Int32.ofInt (1) = (1 : Int32)) ?_
  refine zi_iaload dX6_take_58 h7 h8 ?_
  refine zi_imul dX6_take_59 ?_
  refine zi_iadd dX6_take_60 ?_
  exact zi_icmp_ge (tgt := 85) dX6_take_61 (by decide +kernel) kt kf
theorem sX6_take_64 {g : ZG} {Q : ZQ} {d cN sN : Nat} {M : ZM} {l0 : Nat} {fs1 : List Value} {r3 : Nat} {l2 : Int32} {n5 : Nat} {f6 : Nat → Int32} {o1 : Option Value} (h2 : M.1 l0 = some (.inr (5, fs1))) (h4 : (fs1)[0]? = some (.ref r3)) (h7 : M.1 r3 = some (.inl (zA g 0, n5, .inl f6))) (h8 : vp_in (l2 + 26) n5) (h9 : vp_in (l2) n5) (kk : Z g kX6_take Q d cN sN (zup M r3 (.inl (zA g 0, n5, .inl (upd f6 ((l2 : Int32).toNatClampNeg) (f6 ((l2 + 26 : Int32).toNatClampNeg)))))) 48 [some (.ref l0), o1, some (.int (l2 + 1))] []) : Z g kX6_take Q d cN sN M 64 [some (.ref l0), o1, some (.int l2)] [] := by
  refine zi_aload_n dX6_take_64 rfl zrf_r ?_
  refine zi_getfield dX6_take_65 rfl h2 h4 ?_
  refine zi_iload_n dX6_take_68 rfl ?_
  refine zi_aload_n dX6_take_69 rfl zrf_r ?_
  refine zi_getfield dX6_take_70 rfl h2 h4 ?_
  refine zi_iload_n dX6_take_73 rfl ?_
  refine zi_bipush dX6_take_74 (by decide +kernel : (Int8.ofInt (26)).toInt32 = (26 : Int32)) ?_
  refine zi_iadd dX6_take_76 ?_
  refine zi_iaload dX6_take_77 h7 h8 ?_
  refine zi_iastore dX6_take_78 h7 h9 ?_
  refine zi_iinc dX6_take_79 rfl (by decide +kernel : Int32.ofInt (1) = 1) (Nat.le_of_ble_eq_true rfl) ?_
  exact zi_goto (tgt := 48) dX6_take_82 (by decide +kernel) kk
theorem sX6_take_85 {g : ZG} {Q : ZQ} {d cN sN : Nat} {M : ZM} {o0 o1 o2 : Option Value}  (kk : Z g kX6_take Q d cN sN M 87 [o0, o1, some (.int 0)] []) : Z g kX6_take Q d cN sN M 85 [o0, o1, o2] [] := by
  refine zi_iconst dX6_take_85 (by decide +kernel : Int32.ofInt (0) = (0 : Int32)) ?_
  refine zi_istore_n dX6_take_86 (Nat.le_of_ble_eq_true rfl) ?_
  exact kk
theorem sX6_take_87 {g : ZG} {Q : ZQ} {d cN sN : Nat} {M : ZM} {l2 : Int32} {o0 o1 : Option Value}  (kt : (26 : Int32) ≤ (l2 : Int32) → Z g kX6_take Q d cN sN M 111 [o0, o1, some (.int l2)] []) (kf : ¬ (26 : Int32) ≤ (l2 : Int32) → Z g kX6_take Q d cN sN M 93 [o0, o1, some (.int l2)] []) : Z g kX6_take Q d cN sN M 87 [o0, o1, some (.int l2)] [] := by
  refine zi_iload_n dX6_take_87 rfl ?_
  refine zi_bipush dX6_take_88 (by decide +kernel : (Int8.ofInt (26)).toInt32 = (26 : Int32)) ?_
  exact zi_icmp_ge (tgt := 111) dX6_take_90 (by decide +kernel) kt kf
theorem sX6_take_93 {g : ZG} {Q : ZQ} {d cN sN : Nat} {M : ZM} {l0 : Nat} {fs1 : List Value} {r3 : Nat} {n5 : Nat} {f6 : Nat → Int32} {l2 : Int32} {o1 : Option Value} (h2 : M.1 l0 = some (.inr (5, fs1))) (h4 : (fs1)[0]? = some (.ref r3)) (h7 : M.1 r3 = some (.inl (zA g 0, n5, .inl f6))) (h8 : vp_in (1) n5) (kk : Z g kX6_take Q d cN sN M 102 [some (.ref l0), o1, some (.int l2)] [.int 0, .int l2, .int (f6 ((1 : Int32).toNatClampNeg)), .ref l0]) : Z g kX6_take Q d cN sN M 93 [some (.ref l0), o1, some (.int l2)] [] := by
  refine zi_aload_n dX6_take_93 rfl zrf_r ?_
  refine zi_aload_n dX6_take_94 rfl zrf_r ?_
  refine zi_getfield dX6_take_95 rfl h2 h4 ?_
  refine zi_iconst dX6_take_98 (by decide +kernel : Int32.ofInt (1) = (1 : Int32)) ?_
  refine zi_iaload dX6_take_99 h7 h8 ?_
  refine zi_iload_n dX6_take_100 rfl ?_
  refine zi_iconst dX6_take_101 (by decide +kernel : Int32.ofInt (0) = (0 : Int32)) ?_
  exact kk
theorem sX6_take_105 {g : ZG} {Q : ZQ} {d cN sN : Nat} {M : ZM} {l2 : Int32} {o0 o1 : Option Value}  (kk : Z g kX6_take Q d cN sN M 87 [o0, o1, some (.int (l2 + 1))] []) : Z g kX6_take Q d cN sN M 105 [o0, o1, some (.int l2)] [] := by
  refine zi_iinc dX6_take_105 rfl (by decide +kernel : Int32.ofInt (1) = 1) (Nat.le_of_ble_eq_true rfl) ?_
  exact zi_goto (tgt := 87) dX6_take_108 (by decide +kernel) kk
theorem sX6_take_111 {g : ZG} {Q : ZQ} {d cN sN : Nat} {M : ZM} {l0 : Nat} {fs1 : List Value} {r3 : Nat} {n5 : Nat} {f6 : Nat → Int32} {o1 o2 : Option Value} (h2 : M.1 l0 = some (.inr (5, fs1))) (h4 : (fs1)[0]? = some (.ref r3)) (h7 : M.1 r3 = some (.inl (zA g 0, n5, .inl f6))) (h8 : vp_in (1) n5) (kk : Q.1 (some (.int (f6 ((1 : Int32).toNatClampNeg)))) M) : Z g kX6_take Q d cN sN M 111 [some (.ref l0), o1, o2] [] := by
  refine zi_aload_n dX6_take_111 rfl zrf_r ?_
  refine zi_getfield dX6_take_112 rfl h2 h4 ?_
  refine zi_iconst dX6_take_115 (by decide +kernel : Int32.ofInt (1) = (1 : Int32)) ?_
  refine zi_iaload dX6_take_116 h7 h8 ?_
  exact zi_ireturn dX6_take_117 rfl rfl kk
abbrev kX6_isSheet : ZK := (RX6, cX6_isSheet, 2, (Option.some Jvm.ClassFile.FieldType.boolean), [], false, fX6)
abbrev tX6_isSheet (g : ZG) (args : List Value) (M : ZM) (d c s : Nat) (Q : ZQ) : Prop := Ct g yX6_isSheet (ws_ yX6_isSheet cX6_isSheet 2 (Option.some Jvm.ClassFile.FieldType.boolean)) args M d c s Q
abbrev nX6_isSheet : Nat := 2
theorem mX6_isSheet : zMok yX6_isSheet 1 2 := ⟨⟨by decide +kernel, by decide +kernel, by decide +kernel⟩, by decide⟩
theorem eX6_isSheet {g : ZG} {Q : ZQ} {d cN sN : Nat} {M : ZM} {a0 : Nat} {x1 : Int32} (hV : zV g) (h : Z g kX6_isSheet Q d cN sN M 0 [some (.ref a0), some (.int x1)] []) : tX6_isSheet g [.ref a0, .int x1] M d cN sN Q := Ct.of (K := kX6_isSheet) rfl (by decide +kernel) hV fokX6 rfl (fun h => by cases h) (fun v hv => by simp only [List.mem_cons, List.not_mem_nil, or_false] at hv; rcases hv with rfl | rfl <;> first | rfl | assumption) (Nat.le_of_ble_eq_true rfl) h
theorem sX6_isSheet_0 {g : ZG} {Q : ZQ} {d cN sN : Nat} {M : ZM} {l1 : Int32} {l0 : Nat} {fs1 : List Value} {r3 : Nat} {n5 : Nat} {f6 : Nat → Int32} (h2 : M.1 l0 = some (.inr (5, fs1))) (h4 : (fs1)[0]? = some (.ref r3)) (h7 : M.1 r3 = some (.inl (zA g 0, n5, .inl f6))) (h8 : vp_in (1) n5) (kk : Z g kX6_isSheet Q d cN sN M 10 [some (.ref l0), some (.int l1)] [.int ((f6 ((1 : Int32).toNatClampNeg)) - 1), .int 0, .int l1]) : Z g kX6_isSheet Q d cN sN M 0 [some (.ref l0), some (.int l1)] [] := by
  refine zi_iload_n dX6_isSheet_0 rfl ?_
  refine zi_iconst dX6_isSheet_1 (by decide +kernel : Int32.ofInt (0) = (0 : Int32)) ?_
  refine zi_aload_n dX6_isSheet_2 rfl zrf_r ?_
  refine zi_getfield dX6_isSheet_3 rfl h2 h4 ?_
  refine zi_iconst dX6_isSheet_6 (by decide +kernel : Int32.ofInt (1) = (1 : Int32)) ?_
  refine zi_iaload dX6_isSheet_7 h7 h8 ?_
  refine zi_iconst dX6_isSheet_8 (by decide +kernel : Int32.ofInt (1) = (1 : Int32)) ?_
  refine zi_isub dX6_isSheet_9 ?_
  exact kk
theorem sX6_isSheet_13 {g : ZG} {Q : ZQ} {d cN sN : Nat} {M : ZM} {t0 : Int32} {o0 o1 : Option Value} (h1 : t0 = 0 ∨ t0 = 1) (kk : Q.1 (some (.int t0)) M) : Z g kX6_isSheet Q d cN sN M 13 [o0, o1] [.int t0] := by
  exact zi_ireturn dX6_isSheet_13 rfl (znar_z h1) kk
abbrev kX6_set : ZK := (RX6, cX6_set, 5, (Option.some Jvm.ClassFile.FieldType.int), [], false, fX6)
abbrev tX6_set (g : ZG) (args : List Value) (M : ZM) (d c s : Nat) (Q : ZQ) : Prop := Ct g yX6_set (ws_ yX6_set cX6_set 5 (Option.some Jvm.ClassFile.FieldType.int)) args M d c s Q
abbrev nX6_set : Nat := 4
theorem mX6_set : zMok yX6_set 3 5 := ⟨⟨by decide +kernel, by decide +kernel, by decide +kernel⟩, by decide⟩
theorem eX6_set {g : ZG} {Q : ZQ} {d cN sN : Nat} {M : ZM} {a0 : Nat} {x1 : Int32} {x2 : Int32} {x3 : Int32} (hV : zV g) (h : Z g kX6_set Q d cN sN M 0 [some (.ref a0), some (.int x1), some (.int x2), some (.int x3), none] []) : tX6_set g [.ref a0, .int x1, .int x2, .int x3] M d cN sN Q := Ct.of (K := kX6_set) rfl (by decide +kernel) hV fokX6 rfl (fun h => by cases h) (fun v hv => by simp only [List.mem_cons, List.not_mem_nil, or_false] at hv; rcases hv with rfl | rfl | rfl | rfl <;> first | rfl | assumption) (Nat.le_of_ble_eq_true rfl) h
theorem sX6_set_0 {g : ZG} {Q : ZQ} {d cN sN : Nat} {M : ZM} {l0 : Nat} {l1 : Int32} {l2 : Int32} {o3 o4 : Option Value}  (kk : Z g kX6_set Q d cN sN M 4 [some (.ref l0), some (.int l1), some (.int l2), o3, o4] [.int l2, .int l1, .ref l0, .ref l0]) : Z g kX6_set Q d cN sN M 0 [some (.ref l0), some (.int l1), some (.int l2), o3, o4] [] := by
  refine zi_aload_n dX6_set_0 rfl zrf_r ?_
  refine zi_aload_n dX6_set_1 rfl zrf_r ?_
  refine zi_iload_n dX6_set_2 rfl ?_
  refine zi_iload_n dX6_set_3 rfl ?_
  exact kk
theorem sX6_set_7 {g : ZG} {Q : ZQ} {d cN sN : Nat} {M : ZM} {t0 : Nat} {t1 : Int32} {o0 o1 o2 o3 o4 : Option Value}  (kt : ¬ (t1 : Int32) = 0 → Z g kX6_set Q d cN sN M 14 [o0, o1, o2, o3, o4] [.ref t0]) (kf : (t1 : Int32) = 0 → Z g kX6_set Q d cN sN M 10 [o0, o1, o2, o3, o4] [.ref t0]) : Z g kX6_set Q d cN sN M 7 [o0, o1, o2, o3, o4] [.int t1, .ref t0] := by
  exact zi_if_ne (tgt := 14) dX6_set_7 (by decide +kernel) kt kf
theorem sX6_set_10 {g : ZG} {Q : ZQ} {d cN sN : Nat} {M : ZM} {t0 : Nat} {o0 o1 o2 o3 o4 : Option Value}  (kk : Z g kX6_set Q d cN sN M 30 [o0, o1, o2, o3, o4] [.int 1, .ref t0]) : Z g kX6_set Q d cN sN M 10 [o0, o1, o2, o3, o4] [.ref t0] := by
  refine zi_iconst dX6_set_10 (by decide +kernel : Int32.ofInt (1) = (1 : Int32)) ?_
  exact zi_goto (tgt := 30) dX6_set_11 (by decide +kernel) kk
theorem sX6_set_14 {g : ZG} {Q : ZQ} {d cN sN : Nat} {M : ZM} {t0 : Nat} {l3 : Int32} {o0 o1 o2 o4 : Option Value}  (kk : Z g kX6_set Q d cN sN M 19 [o0, o1, o2, some (.int l3), o4] [.int 102, .int 97, .int l3, .ref t0]) : Z g kX6_set Q d cN sN M 14 [o0, o1, o2, some (.int l3), o4] [.ref t0] := by
  refine zi_iload_n dX6_set_14 rfl ?_
  refine zi_bipush dX6_set_15 (by decide +kernel : (Int8.ofInt (97)).toInt32 = (97 : Int32)) ?_
  refine zi_bipush dX6_set_17 (by decide +kernel : (Int8.ofInt (102)).toInt32 = (102 : Int32)) ?_
  exact kk
theorem sX6_set_22 {g : ZG} {Q : ZQ} {d cN sN : Nat} {M : ZM} {t0 : Nat} {t1 : Int32} {o0 o1 o2 o3 o4 : Option Value}  (kt : (t1 : Int32) = 0 → Z g kX6_set Q d cN sN M 29 [o0, o1, o2, o3, o4] [.ref t0]) (kf : ¬ (t1 : Int32) = 0 → Z g kX6_set Q d cN sN M 25 [o0, o1, o2, o3, o4] [.ref t0]) : Z g kX6_set Q d cN sN M 22 [o0, o1, o2, o3, o4] [.int t1, .ref t0] := by
  exact zi_if_eq (tgt := 29) dX6_set_22 (by decide +kernel) kt kf
theorem sX6_set_25 {g : ZG} {Q : ZQ} {d cN sN : Nat} {M : ZM} {t0 : Nat} {o0 o1 o2 o3 o4 : Option Value}  (kk : Z g kX6_set Q d cN sN M 30 [o0, o1, o2, o3, o4] [.int 0, .ref t0]) : Z g kX6_set Q d cN sN M 25 [o0, o1, o2, o3, o4] [.ref t0] := by
  refine zi_iconst dX6_set_25 (by decide +kernel : Int32.ofInt (0) = (0 : Int32)) ?_
  exact zi_goto (tgt := 30) dX6_set_26 (by decide +kernel) kk
theorem sX6_set_29 {g : ZG} {Q : ZQ} {d cN sN : Nat} {M : ZM} {t0 : Nat} {o0 o1 o2 o3 o4 : Option Value}  (kk : Z g kX6_set Q d cN sN M 30 [o0, o1, o2, o3, o4] [.int 2, .ref t0]) : Z g kX6_set Q d cN sN M 29 [o0, o1, o2, o3, o4] [.ref t0] := by
  refine zi_iconst dX6_set_29 (by decide +kernel : Int32.ofInt (2) = (2 : Int32)) ?_
  exact kk
theorem sX6_set_33 {g : ZG} {Q : ZQ} {d cN sN : Nat} {M : ZM} {t0 : Int32} {o0 o1 o2 o3 o4 : Option Value}  (kt : (t0 : Int32) = 0 → Z g kX6_set Q d cN sN M 38 [o0, o1, o2, o3, o4] []) (kf : ¬ (t0 : Int32) = 0 → Z g kX6_set Q d cN sN M 36 [o0, o1, o2, o3, o4] []) : Z g kX6_set Q d cN sN M 33 [o0, o1, o2, o3, o4] [.int t0] := by
  exact zi_if_eq (tgt := 38) dX6_set_33 (by decide +kernel) kt kf
theorem sX6_set_36 {g : ZG} {Q : ZQ} {d cN sN : Nat} {M : ZM} {o0 o1 o2 o3 o4 : Option Value}  (kk : Q.1 (some (.int 0)) M) : Z g kX6_set Q d cN sN M 36 [o0, o1, o2, o3, o4] [] := by
  refine zi_iconst dX6_set_36 (by decide +kernel : Int32.ofInt (0) = (0 : Int32)) ?_
  exact zi_ireturn dX6_set_37 rfl rfl kk
theorem sX6_set_38 {g : ZG} {Q : ZQ} {d cN sN : Nat} {M : ZM} {l3 : Int32} {l0 : Nat} {l1 : Int32} {l2 : Int32} {o4 : Option Value}  (kk : Z g kX6_set Q d cN sN M 52 [some (.ref l0), some (.int l1), some (.int l2), some (.int l3), some (.int ((l3 - 97) + 1))] [.int (10 + l2), .int l1, .ref l0]) : Z g kX6_set Q d cN sN M 38 [some (.ref l0), some (.int l1), some (.int l2), some (.int l3), o4] [] := by
  refine zi_iload_n dX6_set_38 rfl ?_
  refine zi_bipush dX6_set_39 (by decide +kernel : (Int8.ofInt (97)).toInt32 = (97 : Int32)) ?_
  refine zi_isub dX6_set_41 ?_
  refine zi_iconst dX6_set_42 (by decide +kernel : Int32.ofInt (1) = (1 : Int32)) ?_
  refine zi_iadd dX6_set_43 ?_
  refine zi_istore dX6_set_44 (Nat.le_of_ble_eq_true rfl) ?_
  refine zi_aload_n dX6_set_46 rfl zrf_r ?_
  refine zi_iload_n dX6_set_47 rfl ?_
  refine zi_bipush dX6_set_48 (by decide +kernel : (Int8.ofInt (10)).toInt32 = (10 : Int32)) ?_
  refine zi_iload_n dX6_set_50 rfl ?_
  refine zi_iadd dX6_set_51 ?_
  exact kk
theorem sX6_set_55 {g : ZG} {Q : ZQ} {d cN sN : Nat} {M : ZM} {t0 : Int32} {l4 : Int32} {o0 o1 o2 o3 : Option Value}  (kt : ¬ (t0 : Int32) = (l4 : Int32) → Z g kX6_set Q d cN sN M 68 [o0, o1, o2, o3, some (.int l4)] []) (kf : (t0 : Int32) = (l4 : Int32) → Z g kX6_set Q d cN sN M 60 [o0, o1, o2, o3, some (.int l4)] []) : Z g kX6_set Q d cN sN M 55 [o0, o1, o2, o3, some (.int l4)] [.int t0] := by
  refine zi_iload dX6_set_55 rfl ?_
  exact zi_icmp_ne (tgt := 68) dX6_set_57 (by decide +kernel) kt kf
theorem sX6_set_60 {g : ZG} {Q : ZQ} {d cN sN : Nat} {M : ZM} {l0 : Nat} {l2 : Int32} {o1 o3 o4 : Option Value}  (kk : Z g kX6_set Q d cN sN M 64 [some (.ref l0), o1, some (.int l2), o3, o4] [.int l2, .int 2, .int 3, .ref l0]) : Z g kX6_set Q d cN sN M 60 [some (.ref l0), o1, some (.int l2), o3, o4] [] := by
  refine zi_aload_n dX6_set_60 rfl zrf_r ?_
  refine zi_iconst dX6_set_61 (by decide +kernel : Int32.ofInt (3) = (3 : Int32)) ?_
  refine zi_iconst dX6_set_62 (by decide +kernel : Int32.ofInt (2) = (2 : Int32)) ?_
  refine zi_iload_n dX6_set_63 rfl ?_
  exact kk
theorem sX6_set_67 {g : ZG} {Q : ZQ} {d cN sN : Nat} {M : ZM} {t0 : Int32} {o0 o1 o2 o3 o4 : Option Value}  (kk : Q.1 (some (.int t0)) M) : Z g kX6_set Q d cN sN M 67 [o0, o1, o2, o3, o4] [.int t0] := by
  exact zi_ireturn dX6_set_67 rfl rfl kk
theorem sX6_set_68 {g : ZG} {Q : ZQ} {d cN sN : Nat} {M : ZM} {l0 : Nat} {l1 : Int32} {l2 : Int32} {o3 o4 : Option Value}  (kk : Z g kX6_set Q d cN sN M 73 [some (.ref l0), some (.int l1), some (.int l2), o3, o4] [.int (2 + l2), .int l1, .ref l0]) : Z g kX6_set Q d cN sN M 68 [some (.ref l0), some (.int l1), some (.int l2), o3, o4] [] := by
  refine zi_aload_n dX6_set_68 rfl zrf_r ?_
  refine zi_iload_n dX6_set_69 rfl ?_
  refine zi_iconst dX6_set_70 (by decide +kernel : Int32.ofInt (2) = (2 : Int32)) ?_
  refine zi_iload_n dX6_set_71 rfl ?_
  refine zi_iadd dX6_set_72 ?_
  exact kk
theorem sX6_set_76 {g : ZG} {Q : ZQ} {d cN sN : Nat} {M : ZM} {t0 : Int32} {l4 : Int32} {o0 o1 o2 o3 : Option Value}  (kt : ¬ (t0 : Int32) = (l4 : Int32) → Z g kX6_set Q d cN sN M 89 [o0, o1, o2, o3, some (.int l4)] []) (kf : (t0 : Int32) = (l4 : Int32) → Z g kX6_set Q d cN sN M 81 [o0, o1, o2, o3, some (.int l4)] []) : Z g kX6_set Q d cN sN M 76 [o0, o1, o2, o3, some (.int l4)] [.int t0] := by
  refine zi_iload dX6_set_76 rfl ?_
  exact zi_icmp_ne (tgt := 89) dX6_set_78 (by decide +kernel) kt kf
theorem sX6_set_81 {g : ZG} {Q : ZQ} {d cN sN : Nat} {M : ZM} {l0 : Nat} {l2 : Int32} {o1 o3 o4 : Option Value}  (kk : Z g kX6_set Q d cN sN M 85 [some (.ref l0), o1, some (.int l2), o3, o4] [.int l2, .int 3, .int 3, .ref l0]) : Z g kX6_set Q d cN sN M 81 [some (.ref l0), o1, some (.int l2), o3, o4] [] := by
  refine zi_aload_n dX6_set_81 rfl zrf_r ?_
  refine zi_iconst dX6_set_82 (by decide +kernel : Int32.ofInt (3) = (3 : Int32)) ?_
  refine zi_iconst dX6_set_83 (by decide +kernel : Int32.ofInt (3) = (3 : Int32)) ?_
  refine zi_iload_n dX6_set_84 rfl ?_
  exact kk
theorem sX6_set_88 {g : ZG} {Q : ZQ} {d cN sN : Nat} {M : ZM} {t0 : Int32} {o0 o1 o2 o3 o4 : Option Value}  (kk : Q.1 (some (.int t0)) M) : Z g kX6_set Q d cN sN M 88 [o0, o1, o2, o3, o4] [.int t0] := by
  exact zi_ireturn dX6_set_88 rfl rfl kk
theorem sX6_set_89 {g : ZG} {Q : ZQ} {d cN sN : Nat} {M : ZM} {l0 : Nat} {fs1 : List Value} {r3 : Nat} {o1 o2 o3 o4 : Option Value} (h2 : M.1 l0 = some (.inr (5, fs1))) (h4 : (fs1)[0]? = some (.ref r3)) (kk : Z g kX6_set Q d cN sN M 94 [some (.ref l0), o1, o2, o3, o4] [.ref r3, .ref l0]) : Z g kX6_set Q d cN sN M 89 [some (.ref l0), o1, o2, o3, o4] [] := by
  refine zi_aload_n dX6_set_89 rfl zrf_r ?_
  refine zi_aload_n dX6_set_90 rfl zrf_r ?_
  refine zi_getfield dX6_set_91 rfl h2 h4 ?_
  exact kk
theorem sX6_set_97 {g : ZG} {Q : ZQ} {d cN sN : Nat} {M : ZM} {l0 : Nat} {l1 : Int32} {l2 : Int32} {l4 : Int32} {o3 : Option Value}  (kk : Z g kX6_set Q d cN sN M 105 [some (.ref l0), some (.int l1), some (.int l2), o3, some (.int l4)] [.int l4, .int (10 + l2), .int l1, .ref l0]) : Z g kX6_set Q d cN sN M 97 [some (.ref l0), some (.int l1), some (.int l2), o3, some (.int l4)] [] := by
  refine zi_aload_n dX6_set_97 rfl zrf_r ?_
  refine zi_iload_n dX6_set_98 rfl ?_
  refine zi_bipush dX6_set_99 (by decide +kernel : (Int8.ofInt (10)).toInt32 = (10 : Int32)) ?_
  refine zi_iload_n dX6_set_101 rfl ?_
  refine zi_iadd dX6_set_102 ?_
  refine zi_iload dX6_set_103 rfl ?_
  exact kk
theorem sX6_set_108 {g : ZG} {Q : ZQ} {d cN sN : Nat} {M : ZM} {l0 : Nat} {l1 : Int32} {l2 : Int32} {o3 o4 : Option Value}  (kk : Z g kX6_set Q d cN sN M 115 [some (.ref l0), some (.int l1), some (.int l2), o3, o4] [.int 1, .int (18 + l2), .int l1, .ref l0]) : Z g kX6_set Q d cN sN M 108 [some (.ref l0), some (.int l1), some (.int l2), o3, o4] [] := by
  refine zi_aload_n dX6_set_108 rfl zrf_r ?_
  refine zi_iload_n dX6_set_109 rfl ?_
  refine zi_bipush dX6_set_110 (by decide +kernel : (Int8.ofInt (18)).toInt32 = (18 : Int32)) ?_
  refine zi_iload_n dX6_set_112 rfl ?_
  refine zi_iadd dX6_set_113 ?_
  refine zi_iconst dX6_set_114 (by decide +kernel : Int32.ofInt (1) = (1 : Int32)) ?_
  exact kk
theorem sX6_set_118 {g : ZG} {Q : ZQ} {d cN sN : Nat} {M : ZM} {l0 : Nat} {l1 : Int32} {o2 o3 o4 : Option Value}  (kk : Z g kX6_set Q d cN sN M 121 [some (.ref l0), some (.int l1), o2, o3, o4] [.int 1, .int l1, .ref l0]) : Z g kX6_set Q d cN sN M 118 [some (.ref l0), some (.int l1), o2, o3, o4] [] := by
  refine zi_aload_n dX6_set_118 rfl zrf_r ?_
  refine zi_iload_n dX6_set_119 rfl ?_
  refine zi_iconst dX6_set_120 (by decide +kernel : Int32.ofInt (1) = (1 : Int32)) ?_
  exact kk
theorem sX6_set_124 {g : ZG} {Q : ZQ} {d cN sN : Nat} {M : ZM} {t0 : Int32} {o0 o1 o2 o3 o4 : Option Value}  (kk : Q.1 (some (.int t0)) M) : Z g kX6_set Q d cN sN M 124 [o0, o1, o2, o3, o4] [.int t0] := by
  exact zi_ireturn dX6_set_124 rfl rfl kk
abbrev kX6_isPlace : ZK := (RX6, cX6_isPlace, 3, (Option.some Jvm.ClassFile.FieldType.boolean), [], false, fX6)
abbrev tX6_isPlace (g : ZG) (args : List Value) (M : ZM) (d c s : Nat) (Q : ZQ) : Prop := Ct g yX6_isPlace (ws_ yX6_isPlace cX6_isPlace 3 (Option.some Jvm.ClassFile.FieldType.boolean)) args M d c s Q
abbrev nX6_isPlace : Nat := 3
theorem mX6_isPlace : zMok yX6_isPlace 2 3 := ⟨⟨by decide +kernel, by decide +kernel, by decide +kernel⟩, by decide⟩
theorem eX6_isPlace {g : ZG} {Q : ZQ} {d cN sN : Nat} {M : ZM} {a0 : Nat} {x1 : Int32} {x2 : Int32} (hV : zV g) (h : Z g kX6_isPlace Q d cN sN M 0 [some (.ref a0), some (.int x1), some (.int x2)] []) : tX6_isPlace g [.ref a0, .int x1, .int x2] M d cN sN Q := Ct.of (K := kX6_isPlace) rfl (by decide +kernel) hV fokX6 rfl (fun h => by cases h) (fun v hv => by simp only [List.mem_cons, List.not_mem_nil, or_false] at hv; rcases hv with rfl | rfl | rfl <;> first | rfl | assumption) (Nat.le_of_ble_eq_true rfl) h
theorem sX6_isPlace_0 {g : ZG} {Q : ZQ} {d cN sN : Nat} {M : ZM} {l0 : Nat} {l1 : Int32} {o2 : Option Value}  (kk : Z g kX6_isPlace Q d cN sN M 2 [some (.ref l0), some (.int l1), o2] [.int l1, .ref l0]) : Z g kX6_isPlace Q d cN sN M 0 [some (.ref l0), some (.int l1), o2] [] := by
  refine zi_aload_n dX6_isPlace_0 rfl zrf_r ?_
  refine zi_iload_n dX6_isPlace_1 rfl ?_
  exact kk
theorem sX6_isPlace_5 {g : ZG} {Q : ZQ} {d cN sN : Nat} {M : ZM} {t0 : Int32} {o0 o1 o2 : Option Value}  (kt : (t0 : Int32) = 0 → Z g kX6_isPlace Q d cN sN M 28 [o0, o1, o2] []) (kf : ¬ (t0 : Int32) = 0 → Z g kX6_isPlace Q d cN sN M 8 [o0, o1, o2] []) : Z g kX6_isPlace Q d cN sN M 5 [o0, o1, o2] [.int t0] := by
  exact zi_if_eq (tgt := 28) dX6_isPlace_5 (by decide +kernel) kt kf
theorem sX6_isPlace_8 {g : ZG} {Q : ZQ} {d cN sN : Nat} {M : ZM} {l2 : Int32} {l0 : Nat} {l1 : Int32}  (kk : Z g kX6_isPlace Q d cN sN M 13 [some (.ref l0), some (.int l1), some (.int l2)] [.int 1, .int l1, .ref l0, .int 0, .int l2]) : Z g kX6_isPlace Q d cN sN M 8 [some (.ref l0), some (.int l1), some (.int l2)] [] := by
  refine zi_iload_n dX6_isPlace_8 rfl ?_
  refine zi_iconst dX6_isPlace_9 (by decide +kernel : Int32.ofInt (0) = (0 : Int32)) ?_
  refine zi_aload_n dX6_isPlace_10 rfl zrf_r ?_
  refine zi_iload_n dX6_isPlace_11 rfl ?_
  refine zi_iconst dX6_isPlace_12 (by decide +kernel : Int32.ofInt (1) = (1 : Int32)) ?_
  exact kk
theorem sX6_isPlace_16 {g : ZG} {Q : ZQ} {d cN sN : Nat} {M : ZM} {t0 : Int32} {t1 : Int32} {t2 : Int32} {o0 o1 o2 : Option Value}  (kk : Z g kX6_isPlace Q d cN sN M 18 [o0, o1, o2] [.int (t2 - 1), .int t1, .int t0]) : Z g kX6_isPlace Q d cN sN M 16 [o0, o1, o2] [.int t2, .int t1, .int t0] := by
  refine zi_iconst dX6_isPlace_16 (by decide +kernel : Int32.ofInt (1) = (1 : Int32)) ?_
  refine zi_isub dX6_isPlace_17 ?_
  exact kk
theorem sX6_isPlace_21 {g : ZG} {Q : ZQ} {d cN sN : Nat} {M : ZM} {t0 : Int32} {o0 o1 o2 : Option Value}  (kt : (t0 : Int32) = 0 → Z g kX6_isPlace Q d cN sN M 28 [o0, o1, o2] []) (kf : ¬ (t0 : Int32) = 0 → Z g kX6_isPlace Q d cN sN M 24 [o0, o1, o2] []) : Z g kX6_isPlace Q d cN sN M 21 [o0, o1, o2] [.int t0] := by
  exact zi_if_eq (tgt := 28) dX6_isPlace_21 (by decide +kernel) kt kf
theorem sX6_isPlace_24 {g : ZG} {Q : ZQ} {d cN sN : Nat} {M : ZM} {o0 o1 o2 : Option Value}  (kk : Z g kX6_isPlace Q d cN sN M 29 [o0, o1, o2] [.int 1]) : Z g kX6_isPlace Q d cN sN M 24 [o0, o1, o2] [] := by
  refine zi_iconst dX6_isPlace_24 (by decide +kernel : Int32.ofInt (1) = (1 : Int32)) ?_
  exact zi_goto (tgt := 29) dX6_isPlace_25 (by decide +kernel) kk
theorem sX6_isPlace_28 {g : ZG} {Q : ZQ} {d cN sN : Nat} {M : ZM} {o0 o1 o2 : Option Value}  (kk : Z g kX6_isPlace Q d cN sN M 29 [o0, o1, o2] [.int 0]) : Z g kX6_isPlace Q d cN sN M 28 [o0, o1, o2] [] := by
  refine zi_iconst dX6_isPlace_28 (by decide +kernel : Int32.ofInt (0) = (0 : Int32)) ?_
  exact kk
theorem sX6_isPlace_29 {g : ZG} {Q : ZQ} {d cN sN : Nat} {M : ZM} {t0 : Int32} {o0 o1 o2 : Option Value} (h1 : t0 = 0 ∨ t0 = 1) (kk : Q.1 (some (.int t0)) M) : Z g kX6_isPlace Q d cN sN M 29 [o0, o1, o2] [.int t0] := by
  exact zi_ireturn dX6_isPlace_29 rfl (znar_z h1) kk
abbrev kX6_of : ZK := (RX6, cX6_of, 3, (Option.some Jvm.ClassFile.FieldType.int), [], false, fX6)
abbrev tX6_of (g : ZG) (args : List Value) (M : ZM) (d c s : Nat) (Q : ZQ) : Prop := Ct g yX6_of (ws_ yX6_of cX6_of 3 (Option.some Jvm.ClassFile.FieldType.int)) args M d c s Q
abbrev nX6_of : Nat := 1
theorem mX6_of : zMok yX6_of 2 3 := ⟨⟨by decide +kernel, by decide +kernel, by decide +kernel⟩, by decide⟩
theorem eX6_of {g : ZG} {Q : ZQ} {d cN sN : Nat} {M : ZM} {a0 : Nat} {x1 : Int32} {x2 : Int32} (hV : zV g) (h : Z g kX6_of Q d cN sN M 0 [some (.ref a0), some (.int x1), some (.int x2)] []) : tX6_of g [.ref a0, .int x1, .int x2] M d cN sN Q := Ct.of (K := kX6_of) rfl (by decide +kernel) hV fokX6 rfl (fun h => by cases h) (fun v hv => by simp only [List.mem_cons, List.not_mem_nil, or_false] at hv; rcases hv with rfl | rfl | rfl <;> first | rfl | assumption) (Nat.le_of_ble_eq_true rfl) h
theorem sX6_of_0 {g : ZG} {Q : ZQ} {d cN sN : Nat} {M : ZM} {l0 : Nat} {fs1 : List Value} {r3 : Nat} {l1 : Int32} {l2 : Int32} {n5 : Nat} {f6 : Nat → Int32} (h2 : M.1 l0 = some (.inr (5, fs1))) (h4 : (fs1)[0]? = some (.ref r3)) (h7 : M.1 r3 = some (.inl (zA g 0, n5, .inl f6))) (h8 : vp_in ((22 + (26 * l1)) + l2) n5) (kk : Q.1 (some (.int (f6 (((22 + (26 * l1)) + l2 : Int32).toNatClampNeg)))) M) : Z g kX6_of Q d cN sN M 0 [some (.ref l0), some (.int l1), some (.int l2)] [] := by
  refine zi_aload_n dX6_of_0 rfl zrf_r ?_
  refine zi_getfield dX6_of_1 rfl h2 h4 ?_
  refine zi_bipush dX6_of_4 (by decide +kernel : (Int8.ofInt (22)).toInt32 = (22 : Int32)) ?_
  refine zi_bipush dX6_of_6 (by decide +kernel : (Int8.ofInt (26)).toInt32 = (26 : Int32)) ?_
  refine zi_iload_n dX6_of_8 rfl ?_
  refine zi_imul dX6_of_9 ?_
  refine zi_iadd dX6_of_10 ?_
  refine zi_iload_n dX6_of_11 rfl ?_
  refine zi_iadd dX6_of_12 ?_
  refine zi_iaload dX6_of_13 h7 h8 ?_
  exact zi_ireturn dX6_of_14 rfl rfl kk
abbrev kX6_misprints : ZK := (RX6, cX6_misprints, 5, (Option.some Jvm.ClassFile.FieldType.int), [], false, fX6)
abbrev tX6_misprints (g : ZG) (args : List Value) (M : ZM) (d c s : Nat) (Q : ZQ) : Prop := Ct g yX6_misprints (ws_ yX6_misprints cX6_misprints 5 (Option.some Jvm.ClassFile.FieldType.int)) args M d c s Q
abbrev nX6_misprints : Nat := 3
theorem mX6_misprints : zMok yX6_misprints 2 5 := ⟨⟨by decide +kernel, by decide +kernel, by decide +kernel⟩, by decide⟩
theorem eX6_misprints {g : ZG} {Q : ZQ} {d cN sN : Nat} {M : ZM} {a0 : Nat} {x1 : Int32} {x2 : Int32} (hV : zV g) (h : Z g kX6_misprints Q d cN sN M 0 [some (.ref a0), some (.int x1), some (.int x2), none, none] []) : tX6_misprints g [.ref a0, .int x1, .int x2] M d cN sN Q := Ct.of (K := kX6_misprints) rfl (by decide +kernel) hV fokX6 rfl (fun h => by cases h) (fun v hv => by simp only [List.mem_cons, List.not_mem_nil, or_false] at hv; rcases hv with rfl | rfl | rfl <;> first | rfl | assumption) (Nat.le_of_ble_eq_true rfl) h
theorem sX6_misprints_0 {g : ZG} {Q : ZQ} {d cN sN : Nat} {M : ZM} {o0 o1 o2 o3 o4 : Option Value}  (kk : Z g kX6_misprints Q d cN sN M 5 [o0, o1, o2, some (.int 0), some (.int 0)] []) : Z g kX6_misprints Q d cN sN M 0 [o0, o1, o2, o3, o4] [] := by
  refine zi_iconst dX6_misprints_0 (by decide +kernel : Int32.ofInt (0) = (0 : Int32)) ?_
  refine zi_istore_n dX6_misprints_1 (Nat.le_of_ble_eq_true rfl) ?_
  refine zi_iconst dX6_misprints_2 (by decide +kernel : Int32.ofInt (0) = (0 : Int32)) ?_
  refine zi_istore dX6_misprints_3 (Nat.le_of_ble_eq_true rfl) ?_
  exact kk
theorem sX6_misprints_5 {g : ZG} {Q : ZQ} {d cN sN : Nat} {M : ZM} {l4 : Int32} {l0 : Nat} {l1 : Int32} {o2 o3 : Option Value}  (kk : Z g kX6_misprints Q d cN sN M 10 [some (.ref l0), some (.int l1), o2, o3, some (.int l4)] [.int 1, .int l1, .ref l0, .int l4]) : Z g kX6_misprints Q d cN sN M 5 [some (.ref l0), some (.int l1), o2, o3, some (.int l4)] [] := by
  refine zi_iload dX6_misprints_5 rfl ?_
  refine zi_aload_n dX6_misprints_7 rfl zrf_r ?_
  refine zi_iload_n dX6_misprints_8 rfl ?_
  refine zi_iconst dX6_misprints_9 (by decide +kernel : Int32.ofInt (1) = (1 : Int32)) ?_
  exact kk
theorem sX6_misprints_13 {g : ZG} {Q : ZQ} {d cN sN : Nat} {M : ZM} {t0 : Int32} {t1 : Int32} {o0 o1 o2 o3 o4 : Option Value}  (kt : (t1 : Int32) ≤ (t0 : Int32) → Z g kX6_misprints Q d cN sN M 41 [o0, o1, o2, o3, o4] []) (kf : ¬ (t1 : Int32) ≤ (t0 : Int32) → Z g kX6_misprints Q d cN sN M 16 [o0, o1, o2, o3, o4] []) : Z g kX6_misprints Q d cN sN M 13 [o0, o1, o2, o3, o4] [.int t1, .int t0] := by
  exact zi_icmp_ge (tgt := 41) dX6_misprints_13 (by decide +kernel) kt kf
theorem sX6_misprints_16 {g : ZG} {Q : ZQ} {d cN sN : Nat} {M : ZM} {l3 : Int32} {l0 : Nat} {l1 : Int32} {l4 : Int32} {o2 : Option Value}  (kk : Z g kX6_misprints Q d cN sN M 21 [some (.ref l0), some (.int l1), o2, some (.int l3), some (.int l4)] [.int l4, .int l1, .ref l0, .int l3]) : Z g kX6_misprints Q d cN sN M 16 [some (.ref l0), some (.int l1), o2, some (.int l3), some (.int l4)] [] := by
  refine zi_iload_n dX6_misprints_16 rfl ?_
  refine zi_aload_n dX6_misprints_17 rfl zrf_r ?_
  refine zi_iload_n dX6_misprints_18 rfl ?_
  refine zi_iload dX6_misprints_19 rfl ?_
  exact kk
theorem sX6_misprints_24 {g : ZG} {Q : ZQ} {d cN sN : Nat} {M : ZM} {t0 : Int32} {t1 : Int32} {l2 : Int32} {o0 o1 o3 o4 : Option Value}  (kt : (t1 : Int32) < (l2 : Int32) → Z g kX6_misprints Q d cN sN M 32 [o0, o1, some (.int l2), o3, o4] [.int t0]) (kf : ¬ (t1 : Int32) < (l2 : Int32) → Z g kX6_misprints Q d cN sN M 28 [o0, o1, some (.int l2), o3, o4] [.int t0]) : Z g kX6_misprints Q d cN sN M 24 [o0, o1, some (.int l2), o3, o4] [.int t1, .int t0] := by
  refine zi_iload_n dX6_misprints_24 rfl ?_
  exact zi_icmp_lt (tgt := 32) dX6_misprints_25 (by decide +kernel) kt kf
theorem sX6_misprints_28 {g : ZG} {Q : ZQ} {d cN sN : Nat} {M : ZM} {t0 : Int32} {o0 o1 o2 o3 o4 : Option Value}  (kk : Z g kX6_misprints Q d cN sN M 33 [o0, o1, o2, o3, o4] [.int 1, .int t0]) : Z g kX6_misprints Q d cN sN M 28 [o0, o1, o2, o3, o4] [.int t0] := by
  refine zi_iconst dX6_misprints_28 (by decide +kernel : Int32.ofInt (1) = (1 : Int32)) ?_
  exact zi_goto (tgt := 33) dX6_misprints_29 (by decide +kernel) kk
theorem sX6_misprints_32 {g : ZG} {Q : ZQ} {d cN sN : Nat} {M : ZM} {t0 : Int32} {o0 o1 o2 o3 o4 : Option Value}  (kk : Z g kX6_misprints Q d cN sN M 33 [o0, o1, o2, o3, o4] [.int 0, .int t0]) : Z g kX6_misprints Q d cN sN M 32 [o0, o1, o2, o3, o4] [.int t0] := by
  refine zi_iconst dX6_misprints_32 (by decide +kernel : Int32.ofInt (0) = (0 : Int32)) ?_
  exact kk
theorem sX6_misprints_33 {g : ZG} {Q : ZQ} {d cN sN : Nat} {M : ZM} {t0 : Int32} {t1 : Int32} {l4 : Int32} {o0 o1 o2 o3 : Option Value}  (kk : Z g kX6_misprints Q d cN sN M 5 [o0, o1, o2, some (.int (t0 + t1)), some (.int (l4 + 1))] []) : Z g kX6_misprints Q d cN sN M 33 [o0, o1, o2, o3, some (.int l4)] [.int t1, .int t0] := by
  refine zi_iadd dX6_misprints_33 ?_
  refine zi_istore_n dX6_misprints_34 (Nat.le_of_ble_eq_true rfl) ?_
  refine zi_iinc dX6_misprints_35 rfl (by decide +kernel : Int32.ofInt (1) = 1) (Nat.le_of_ble_eq_true rfl) ?_
  exact zi_goto (tgt := 5) dX6_misprints_38 (by decide +kernel) kk
theorem sX6_misprints_41 {g : ZG} {Q : ZQ} {d cN sN : Nat} {M : ZM} {l3 : Int32} {o0 o1 o2 o4 : Option Value}  (kk : Q.1 (some (.int l3)) M) : Z g kX6_misprints Q d cN sN M 41 [o0, o1, o2, some (.int l3), o4] [] := by
  refine zi_iload_n dX6_misprints_41 rfl ?_
  exact zi_ireturn dX6_misprints_42 rfl rfl kk
abbrev kX6_mark : ZK := (RX6, cX6_mark, 3, (Option.some Jvm.ClassFile.FieldType.int), [], false, fX6)
abbrev tX6_mark (g : ZG) (args : List Value) (M : ZM) (d c s : Nat) (Q : ZQ) : Prop := Ct g yX6_mark (ws_ yX6_mark cX6_mark 3 (Option.some Jvm.ClassFile.FieldType.int)) args M d c s Q
abbrev nX6_mark : Nat := 2
theorem mX6_mark : zMok yX6_mark 2 3 := ⟨⟨by decide +kernel, by decide +kernel, by decide +kernel⟩, by decide⟩
theorem eX6_mark {g : ZG} {Q : ZQ} {d cN sN : Nat} {M : ZM} {a0 : Nat} {x1 : Int32} {x2 : Int32} (hV : zV g) (h : Z g kX6_mark Q d cN sN M 0 [some (.ref a0), some (.int x1), some (.int x2)] []) : tX6_mark g [.ref a0, .int x1, .int x2] M d cN sN Q := Ct.of (K := kX6_mark) rfl (by decide +kernel) hV fokX6 rfl (fun h => by cases h) (fun v hv => by simp only [List.mem_cons, List.not_mem_nil, or_false] at hv; rcases hv with rfl | rfl | rfl <;> first | rfl | assumption) (Nat.le_of_ble_eq_true rfl) h
theorem sX6_mark_0 {g : ZG} {Q : ZQ} {d cN sN : Nat} {M : ZM} {l0 : Nat} {l1 : Int32} {l2 : Int32}  (kk : Z g kX6_mark Q d cN sN M 6 [some (.ref l0), some (.int l1), some (.int l2)] [.int (18 + l2), .int l1, .ref l0]) : Z g kX6_mark Q d cN sN M 0 [some (.ref l0), some (.int l1), some (.int l2)] [] := by
  refine zi_aload_n dX6_mark_0 rfl zrf_r ?_
  refine zi_iload_n dX6_mark_1 rfl ?_
  refine zi_bipush dX6_mark_2 (by decide +kernel : (Int8.ofInt (18)).toInt32 = (18 : Int32)) ?_
  refine zi_iload_n dX6_mark_4 rfl ?_
  refine zi_iadd dX6_mark_5 ?_
  exact kk
theorem sX6_mark_9 {g : ZG} {Q : ZQ} {d cN sN : Nat} {M : ZM} {t0 : Int32} {o0 o1 o2 : Option Value}  (kk : Q.1 (some (.int t0)) M) : Z g kX6_mark Q d cN sN M 9 [o0, o1, o2] [.int t0] := by
  exact zi_ireturn dX6_mark_9 rfl rfl kk
abbrev kX6_license : ZK := (RX6, cX6_license, 5, (Option.some Jvm.ClassFile.FieldType.int), [], false, fX6)
abbrev tX6_license (g : ZG) (args : List Value) (M : ZM) (d c s : Nat) (Q : ZQ) : Prop := Ct g yX6_license (ws_ yX6_license cX6_license 5 (Option.some Jvm.ClassFile.FieldType.int)) args M d c s Q
abbrev nX6_license : Nat := 6
theorem mX6_license : zMok yX6_license 2 5 := ⟨⟨by decide +kernel, by decide +kernel, by decide +kernel⟩, by decide⟩
theorem eX6_license {g : ZG} {Q : ZQ} {d cN sN : Nat} {M : ZM} {a0 : Nat} {x1 : Int32} {x2 : Int32} (hV : zV g) (h : Z g kX6_license Q d cN sN M 0 [some (.ref a0), some (.int x1), some (.int x2), none, none] []) : tX6_license g [.ref a0, .int x1, .int x2] M d cN sN Q := Ct.of (K := kX6_license) rfl (by decide +kernel) hV fokX6 rfl (fun h => by cases h) (fun v hv => by simp only [List.mem_cons, List.not_mem_nil, or_false] at hv; rcases hv with rfl | rfl | rfl <;> first | rfl | assumption) (Nat.le_of_ble_eq_true rfl) h
theorem sX6_license_0 {g : ZG} {Q : ZQ} {d cN sN : Nat} {M : ZM} {l0 : Nat} {l1 : Int32} {l2 : Int32} {o3 o4 : Option Value}  (kk : Z g kX6_license Q d cN sN M 4 [some (.ref l0), some (.int l1), some (.int l2), o3, o4] [.int l2, .int l1, .ref l0, .ref l0]) : Z g kX6_license Q d cN sN M 0 [some (.ref l0), some (.int l1), some (.int l2), o3, o4] [] := by
  refine zi_aload_n dX6_license_0 rfl zrf_r ?_
  refine zi_aload_n dX6_license_1 rfl zrf_r ?_
  refine zi_iload_n dX6_license_2 rfl ?_
  refine zi_iload_n dX6_license_3 rfl ?_
  exact kk
theorem sX6_license_7 {g : ZG} {Q : ZQ} {d cN sN : Nat} {M : ZM} {t0 : Nat} {t1 : Int32} {o0 o1 o2 o3 o4 : Option Value}  (kt : (t1 : Int32) = 0 → Z g kX6_license Q d cN sN M 14 [o0, o1, o2, o3, o4] [.ref t0]) (kf : ¬ (t1 : Int32) = 0 → Z g kX6_license Q d cN sN M 10 [o0, o1, o2, o3, o4] [.ref t0]) : Z g kX6_license Q d cN sN M 7 [o0, o1, o2, o3, o4] [.int t1, .ref t0] := by
  exact zi_if_eq (tgt := 14) dX6_license_7 (by decide +kernel) kt kf
theorem sX6_license_10 {g : ZG} {Q : ZQ} {d cN sN : Nat} {M : ZM} {t0 : Nat} {o0 o1 o2 o3 o4 : Option Value}  (kk : Z g kX6_license Q d cN sN M 15 [o0, o1, o2, o3, o4] [.int 0, .ref t0]) : Z g kX6_license Q d cN sN M 10 [o0, o1, o2, o3, o4] [.ref t0] := by
  refine zi_iconst dX6_license_10 (by decide +kernel : Int32.ofInt (0) = (0 : Int32)) ?_
  exact zi_goto (tgt := 15) dX6_license_11 (by decide +kernel) kk
theorem sX6_license_14 {g : ZG} {Q : ZQ} {d cN sN : Nat} {M : ZM} {t0 : Nat} {o0 o1 o2 o3 o4 : Option Value}  (kk : Z g kX6_license Q d cN sN M 15 [o0, o1, o2, o3, o4] [.int 1, .ref t0]) : Z g kX6_license Q d cN sN M 14 [o0, o1, o2, o3, o4] [.ref t0] := by
  refine zi_iconst dX6_license_14 (by decide +kernel : Int32.ofInt (1) = (1 : Int32)) ?_
  exact kk
theorem sX6_license_18 {g : ZG} {Q : ZQ} {d cN sN : Nat} {M : ZM} {t0 : Int32} {o0 o1 o2 o3 o4 : Option Value}  (kt : (t0 : Int32) = 0 → Z g kX6_license Q d cN sN M 23 [o0, o1, o2, o3, o4] []) (kf : ¬ (t0 : Int32) = 0 → Z g kX6_license Q d cN sN M 21 [o0, o1, o2, o3, o4] []) : Z g kX6_license Q d cN sN M 18 [o0, o1, o2, o3, o4] [.int t0] := by
  exact zi_if_eq (tgt := 23) dX6_license_18 (by decide +kernel) kt kf
theorem sX6_license_21 {g : ZG} {Q : ZQ} {d cN sN : Nat} {M : ZM} {o0 o1 o2 o3 o4 : Option Value}  (kk : Q.1 (some (.int 0)) M) : Z g kX6_license Q d cN sN M 21 [o0, o1, o2, o3, o4] [] := by
  refine zi_iconst dX6_license_21 (by decide +kernel : Int32.ofInt (0) = (0 : Int32)) ?_
  exact zi_ireturn dX6_license_22 rfl rfl kk
theorem sX6_license_23 {g : ZG} {Q : ZQ} {d cN sN : Nat} {M : ZM} {l0 : Nat} {l1 : Int32} {o2 o3 o4 : Option Value}  (kk : Z g kX6_license Q d cN sN M 26 [some (.ref l0), some (.int l1), o2, o3, o4] [.int 0, .int l1, .ref l0]) : Z g kX6_license Q d cN sN M 23 [some (.ref l0), some (.int l1), o2, o3, o4] [] := by
  refine zi_aload_n dX6_license_23 rfl zrf_r ?_
  refine zi_iload_n dX6_license_24 rfl ?_
  refine zi_iconst dX6_license_25 (by decide +kernel : Int32.ofInt (0) = (0 : Int32)) ?_
  exact kk
theorem sX6_license_29 {g : ZG} {Q : ZQ} {d cN sN : Nat} {M : ZM} {t0 : Int32} {l0 : Nat} {l1 : Int32} {l2 : Int32} {o3 o4 : Option Value}  (kk : Z g kX6_license Q d cN sN M 33 [some (.ref l0), some (.int l1), some (.int l2), some (.int t0), o4] [.int l2, .int l1, .ref l0]) : Z g kX6_license Q d cN sN M 29 [some (.ref l0), some (.int l1), some (.int l2), o3, o4] [.int t0] := by
  refine zi_istore_n dX6_license_29 (Nat.le_of_ble_eq_true rfl) ?_
  refine zi_aload_n dX6_license_30 rfl zrf_r ?_
  refine zi_iload_n dX6_license_31 rfl ?_
  refine zi_iload_n dX6_license_32 rfl ?_
  exact kk
theorem sX6_license_36 {g : ZG} {Q : ZQ} {d cN sN : Nat} {M : ZM} {t0 : Int32} {o0 o1 o2 o3 o4 : Option Value}  (kt : ¬ (t0 : Int32) = 0 → Z g kX6_license Q d cN sN M 47 [o0, o1, o2, o3, o4] []) (kf : (t0 : Int32) = 0 → Z g kX6_license Q d cN sN M 39 [o0, o1, o2, o3, o4] []) : Z g kX6_license Q d cN sN M 36 [o0, o1, o2, o3, o4] [.int t0] := by
  exact zi_if_ne (tgt := 47) dX6_license_36 (by decide +kernel) kt kf
theorem sX6_license_39 {g : ZG} {Q : ZQ} {d cN sN : Nat} {M : ZM} {l0 : Nat} {l2 : Int32} {o1 o3 o4 : Option Value}  (kk : Z g kX6_license Q d cN sN M 43 [some (.ref l0), o1, some (.int l2), o3, o4] [.int l2, .int 4, .int 2, .ref l0]) : Z g kX6_license Q d cN sN M 39 [some (.ref l0), o1, some (.int l2), o3, o4] [] := by
  refine zi_aload_n dX6_license_39 rfl zrf_r ?_
  refine zi_iconst dX6_license_40 (by decide +kernel : Int32.ofInt (2) = (2 : Int32)) ?_
  refine zi_iconst dX6_license_41 (by decide +kernel : Int32.ofInt (4) = (4 : Int32)) ?_
  refine zi_iload_n dX6_license_42 rfl ?_
  exact kk
theorem sX6_license_46 {g : ZG} {Q : ZQ} {d cN sN : Nat} {M : ZM} {t0 : Int32} {o0 o1 o2 o3 o4 : Option Value}  (kk : Q.1 (some (.int t0)) M) : Z g kX6_license Q d cN sN M 46 [o0, o1, o2, o3, o4] [.int t0] := by
  exact zi_ireturn dX6_license_46 rfl rfl kk
theorem sX6_license_47 {g : ZG} {Q : ZQ} {d cN sN : Nat} {M : ZM} {l0 : Nat} {l1 : Int32} {l2 : Int32} {o3 o4 : Option Value}  (kk : Z g kX6_license Q d cN sN M 50 [some (.ref l0), some (.int l1), some (.int l2), o3, o4] [.int l2, .int l1, .ref l0]) : Z g kX6_license Q d cN sN M 47 [some (.ref l0), some (.int l1), some (.int l2), o3, o4] [] := by
  refine zi_aload_n dX6_license_47 rfl zrf_r ?_
  refine zi_iload_n dX6_license_48 rfl ?_
  refine zi_iload_n dX6_license_49 rfl ?_
  exact kk
theorem sX6_license_53 {g : ZG} {Q : ZQ} {d cN sN : Nat} {M : ZM} {t0 : Int32} {o0 o1 o2 o3 o4 : Option Value}  (kt : (t0 : Int32) ≤ (1 : Int32) → Z g kX6_license Q d cN sN M 65 [o0, o1, o2, o3, o4] []) (kf : ¬ (t0 : Int32) ≤ (1 : Int32) → Z g kX6_license Q d cN sN M 57 [o0, o1, o2, o3, o4] []) : Z g kX6_license Q d cN sN M 53 [o0, o1, o2, o3, o4] [.int t0] := by
  refine zi_iconst dX6_license_53 (by decide +kernel : Int32.ofInt (1) = (1 : Int32)) ?_
  exact zi_icmp_le (tgt := 65) dX6_license_54 (by decide +kernel) kt kf
theorem sX6_license_57 {g : ZG} {Q : ZQ} {d cN sN : Nat} {M : ZM} {l0 : Nat} {l2 : Int32} {o1 o3 o4 : Option Value}  (kk : Z g kX6_license Q d cN sN M 61 [some (.ref l0), o1, some (.int l2), o3, o4] [.int l2, .int 5, .int 2, .ref l0]) : Z g kX6_license Q d cN sN M 57 [some (.ref l0), o1, some (.int l2), o3, o4] [] := by
  refine zi_aload_n dX6_license_57 rfl zrf_r ?_
  refine zi_iconst dX6_license_58 (by decide +kernel : Int32.ofInt (2) = (2 : Int32)) ?_
  refine zi_iconst dX6_license_59 (by decide +kernel : Int32.ofInt (5) = (5 : Int32)) ?_
  refine zi_iload_n dX6_license_60 rfl ?_
  exact kk
theorem sX6_license_64 {g : ZG} {Q : ZQ} {d cN sN : Nat} {M : ZM} {t0 : Int32} {o0 o1 o2 o3 o4 : Option Value}  (kk : Q.1 (some (.int t0)) M) : Z g kX6_license Q d cN sN M 64 [o0, o1, o2, o3, o4] [.int t0] := by
  exact zi_ireturn dX6_license_64 rfl rfl kk
theorem sX6_license_65 {g : ZG} {Q : ZQ} {d cN sN : Nat} {M : ZM} {l0 : Nat} {l3 : Int32} {o1 o2 o4 : Option Value}  (kk : Z g kX6_license Q d cN sN M 67 [some (.ref l0), o1, o2, some (.int l3), o4] [.int l3, .ref l0]) : Z g kX6_license Q d cN sN M 65 [some (.ref l0), o1, o2, some (.int l3), o4] [] := by
  refine zi_aload_n dX6_license_65 rfl zrf_r ?_
  refine zi_iload_n dX6_license_66 rfl ?_
  exact kk
theorem sX6_license_70 {g : ZG} {Q : ZQ} {d cN sN : Nat} {M : ZM} {t0 : Int32} {o0 o1 o2 o3 o4 : Option Value}  (kt : (t0 : Int32) = 0 → Z g kX6_license Q d cN sN M 87 [o0, o1, o2, o3, o4] []) (kf : ¬ (t0 : Int32) = 0 → Z g kX6_license Q d cN sN M 73 [o0, o1, o2, o3, o4] []) : Z g kX6_license Q d cN sN M 70 [o0, o1, o2, o3, o4] [.int t0] := by
  exact zi_if_eq (tgt := 87) dX6_license_70 (by decide +kernel) kt kf
theorem sX6_license_73 {g : ZG} {Q : ZQ} {d cN sN : Nat} {M : ZM} {l0 : Nat} {l3 : Int32} {o1 o2 o4 : Option Value}  (kk : Z g kX6_license Q d cN sN M 80 [some (.ref l0), o1, o2, some (.int l3), o4] [.int 1, .int l3, .ref l0, .int 6, .int 2, .ref l0]) : Z g kX6_license Q d cN sN M 73 [some (.ref l0), o1, o2, some (.int l3), o4] [] := by
  refine zi_aload_n dX6_license_73 rfl zrf_r ?_
  refine zi_iconst dX6_license_74 (by decide +kernel : Int32.ofInt (2) = (2 : Int32)) ?_
  refine zi_bipush dX6_license_75 (by decide +kernel : (Int8.ofInt (6)).toInt32 = (6 : Int32)) ?_
  refine zi_aload_n dX6_license_77 rfl zrf_r ?_
  refine zi_iload_n dX6_license_78 rfl ?_
  refine zi_iconst dX6_license_79 (by decide +kernel : Int32.ofInt (1) = (1 : Int32)) ?_
  exact kk
theorem sX6_license_86 {g : ZG} {Q : ZQ} {d cN sN : Nat} {M : ZM} {t0 : Int32} {o0 o1 o2 o3 o4 : Option Value}  (kk : Q.1 (some (.int t0)) M) : Z g kX6_license Q d cN sN M 86 [o0, o1, o2, o3, o4] [.int t0] := by
  exact zi_ireturn dX6_license_86 rfl rfl kk
theorem sX6_license_87 {g : ZG} {Q : ZQ} {d cN sN : Nat} {M : ZM} {l0 : Nat} {l3 : Int32} {o1 o2 o4 : Option Value}  (kk : Z g kX6_license Q d cN sN M 89 [some (.ref l0), o1, o2, some (.int l3), o4] [.int l3, .ref l0]) : Z g kX6_license Q d cN sN M 87 [some (.ref l0), o1, o2, some (.int l3), o4] [] := by
  refine zi_aload_n dX6_license_87 rfl zrf_r ?_
  refine zi_iload_n dX6_license_88 rfl ?_
  exact kk
theorem sX6_license_92 {g : ZG} {Q : ZQ} {d cN sN : Nat} {M : ZM} {t0 : Int32} {l0 : Nat} {l3 : Int32} {o1 o2 o4 : Option Value}  (kk : Z g kX6_license Q d cN sN M 97 [some (.ref l0), o1, o2, some (.int l3), some (.int t0)] [.int 0, .int l3, .ref l0]) : Z g kX6_license Q d cN sN M 92 [some (.ref l0), o1, o2, some (.int l3), o4] [.int t0] := by
  refine zi_istore dX6_license_92 (Nat.le_of_ble_eq_true rfl) ?_
  refine zi_aload_n dX6_license_94 rfl zrf_r ?_
  refine zi_iload_n dX6_license_95 rfl ?_
  refine zi_iconst dX6_license_96 (by decide +kernel : Int32.ofInt (0) = (0 : Int32)) ?_
  exact kk
theorem sX6_license_100 {g : ZG} {Q : ZQ} {d cN sN : Nat} {M : ZM} {t0 : Int32} {l4 : Int32} {o0 o1 o2 o3 : Option Value}  (kt : (l4 : Int32) ≤ (t0 : Int32) → Z g kX6_license Q d cN sN M 119 [o0, o1, o2, o3, some (.int l4)] []) (kf : ¬ (l4 : Int32) ≤ (t0 : Int32) → Z g kX6_license Q d cN sN M 105 [o0, o1, o2, o3, some (.int l4)] []) : Z g kX6_license Q d cN sN M 100 [o0, o1, o2, o3, some (.int l4)] [.int t0] := by
  refine zi_iload dX6_license_100 rfl ?_
  exact zi_icmp_ge (tgt := 119) dX6_license_102 (by decide +kernel) kt kf
theorem sX6_license_105 {g : ZG} {Q : ZQ} {d cN sN : Nat} {M : ZM} {l0 : Nat} {l3 : Int32} {o1 o2 o4 : Option Value}  (kk : Z g kX6_license Q d cN sN M 112 [some (.ref l0), o1, o2, some (.int l3), o4] [.int 0, .int l3, .ref l0, .int 7, .int 2, .ref l0]) : Z g kX6_license Q d cN sN M 105 [some (.ref l0), o1, o2, some (.int l3), o4] [] := by
  refine zi_aload_n dX6_license_105 rfl zrf_r ?_
  refine zi_iconst dX6_license_106 (by decide +kernel : Int32.ofInt (2) = (2 : Int32)) ?_
  refine zi_bipush dX6_license_107 (by decide +kernel : (Int8.ofInt (7)).toInt32 = (7 : Int32)) ?_
  refine zi_aload_n dX6_license_109 rfl zrf_r ?_
  refine zi_iload_n dX6_license_110 rfl ?_
  refine zi_iconst dX6_license_111 (by decide +kernel : Int32.ofInt (0) = (0 : Int32)) ?_
  exact kk
theorem sX6_license_118 {g : ZG} {Q : ZQ} {d cN sN : Nat} {M : ZM} {t0 : Int32} {o0 o1 o2 o3 o4 : Option Value}  (kk : Q.1 (some (.int t0)) M) : Z g kX6_license Q d cN sN M 118 [o0, o1, o2, o3, o4] [.int t0] := by
  exact zi_ireturn dX6_license_118 rfl rfl kk
theorem sX6_license_119 {g : ZG} {Q : ZQ} {d cN sN : Nat} {M : ZM} {l0 : Nat} {fs1 : List Value} {r3 : Nat} {o1 o2 o3 o4 : Option Value} (h2 : M.1 l0 = some (.inr (5, fs1))) (h4 : (fs1)[0]? = some (.ref r3)) (kk : Z g kX6_license Q d cN sN M 124 [some (.ref l0), o1, o2, o3, o4] [.ref r3, .ref l0]) : Z g kX6_license Q d cN sN M 119 [some (.ref l0), o1, o2, o3, o4] [] := by
  refine zi_aload_n dX6_license_119 rfl zrf_r ?_
  refine zi_aload_n dX6_license_120 rfl zrf_r ?_
  refine zi_getfield dX6_license_121 rfl h2 h4 ?_
  exact kk
theorem sX6_license_127 {g : ZG} {Q : ZQ} {d cN sN : Nat} {M : ZM} {l0 : Nat} {l3 : Int32} {l4 : Int32} {o1 o2 : Option Value}  (kk : Z g kX6_license Q d cN sN M 133 [some (.ref l0), o1, o2, some (.int l3), some (.int l4)] [.int (-l4), .int 0, .int l3, .ref l0]) : Z g kX6_license Q d cN sN M 127 [some (.ref l0), o1, o2, some (.int l3), some (.int l4)] [] := by
  refine zi_aload_n dX6_license_127 rfl zrf_r ?_
  refine zi_iload_n dX6_license_128 rfl ?_
  refine zi_iconst dX6_license_129 (by decide +kernel : Int32.ofInt (0) = (0 : Int32)) ?_
  refine zi_iload dX6_license_130 rfl ?_
  refine zi_ineg dX6_license_132 ?_
  exact kk
theorem sX6_license_136 {g : ZG} {Q : ZQ} {d cN sN : Nat} {M : ZM} {l0 : Nat} {fs1 : List Value} {r3 : Nat} {n5 : Nat} {f6 : Nat → Int32} {l4 : Int32} {l1 : Int32} {l2 : Int32} {o3 : Option Value} (h2 : M.1 l0 = some (.inr (5, fs1))) (h4 : (fs1)[0]? = some (.ref r3)) (h7 : M.1 r3 = some (.inl (zA g 0, n5, .inl f6))) (h8 : vp_in (7) n5) (kk : Z g kX6_license Q d cN sN (zup M r3 (.inl (zA g 0, n5, .inl (upd f6 ((7 : Int32).toNatClampNeg) ((f6 ((7 : Int32).toNatClampNeg)) + l4))))) 155 [some (.ref l0), some (.int l1), some (.int l2), o3, some (.int l4)] [.int 2, .int (18 + l2), .int l1, .ref l0]) : Z g kX6_license Q d cN sN M 136 [some (.ref l0), some (.int l1), some (.int l2), o3, some (.int l4)] [] := by
  refine zi_aload_n dX6_license_136 rfl zrf_r ?_
  refine zi_getfield dX6_license_137 rfl h2 h4 ?_
  refine zi_bipush dX6_license_140 (by decide +kernel : (Int8.ofInt (7)).toInt32 = (7 : Int32)) ?_
  refine zi_dup2 dX6_license_142 rfl rfl ?_
  refine zi_iaload dX6_license_143 h7 h8 ?_
  refine zi_iload dX6_license_144 rfl ?_
  refine zi_iadd dX6_license_146 ?_
  refine zi_iastore dX6_license_147 h7 h8 ?_
  refine zi_aload_n dX6_license_148 rfl zrf_r ?_
  refine zi_iload_n dX6_license_149 rfl ?_
  refine zi_bipush dX6_license_150 (by decide +kernel : (Int8.ofInt (18)).toInt32 = (18 : Int32)) ?_
  refine zi_iload_n dX6_license_152 rfl ?_
  refine zi_iadd dX6_license_153 ?_
  refine zi_iconst dX6_license_154 (by decide +kernel : Int32.ofInt (2) = (2 : Int32)) ?_
  exact kk
theorem sX6_license_158 {g : ZG} {Q : ZQ} {d cN sN : Nat} {M : ZM} {l4 : Int32} {o0 o1 o2 o3 : Option Value}  (kk : Q.1 (some (.int l4)) M) : Z g kX6_license Q d cN sN M 158 [o0, o1, o2, o3, some (.int l4)] [] := by
  refine zi_iload dX6_license_158 rfl ?_
  exact zi_ireturn dX6_license_160 rfl rfl kk
abbrev kX6_isAshamed : ZK := (RX6, cX6_isAshamed, 2, (Option.some Jvm.ClassFile.FieldType.boolean), [], false, fX6)
abbrev tX6_isAshamed (g : ZG) (args : List Value) (M : ZM) (d c s : Nat) (Q : ZQ) : Prop := Ct g yX6_isAshamed (ws_ yX6_isAshamed cX6_isAshamed 2 (Option.some Jvm.ClassFile.FieldType.boolean)) args M d c s Q
abbrev nX6_isAshamed : Nat := 2
theorem mX6_isAshamed : zMok yX6_isAshamed 1 2 := ⟨⟨by decide +kernel, by decide +kernel, by decide +kernel⟩, by decide⟩
theorem eX6_isAshamed {g : ZG} {Q : ZQ} {d cN sN : Nat} {M : ZM} {a0 : Nat} {x1 : Int32} (hV : zV g) (h : Z g kX6_isAshamed Q d cN sN M 0 [some (.ref a0), some (.int x1)] []) : tX6_isAshamed g [.ref a0, .int x1] M d cN sN Q := Ct.of (K := kX6_isAshamed) rfl (by decide +kernel) hV fokX6 rfl (fun h => by cases h) (fun v hv => by simp only [List.mem_cons, List.not_mem_nil, or_false] at hv; rcases hv with rfl | rfl <;> first | rfl | assumption) (Nat.le_of_ble_eq_true rfl) h
theorem sX6_isAshamed_0 {g : ZG} {Q : ZQ} {d cN sN : Nat} {M : ZM} {l0 : Nat} {l1 : Int32}  (kk : Z g kX6_isAshamed Q d cN sN M 3 [some (.ref l0), some (.int l1)] [.int 1, .int l1, .ref l0]) : Z g kX6_isAshamed Q d cN sN M 0 [some (.ref l0), some (.int l1)] [] := by
  refine zi_aload_n dX6_isAshamed_0 rfl zrf_r ?_
  refine zi_iload_n dX6_isAshamed_1 rfl ?_
  refine zi_iconst dX6_isAshamed_2 (by decide +kernel : Int32.ofInt (1) = (1 : Int32)) ?_
  exact kk
theorem sX6_isAshamed_6 {g : ZG} {Q : ZQ} {d cN sN : Nat} {M : ZM} {t0 : Int32} {o0 o1 : Option Value}  (kt : (t0 : Int32) ≤ (20 : Int32) → Z g kX6_isAshamed Q d cN sN M 15 [o0, o1] []) (kf : ¬ (t0 : Int32) ≤ (20 : Int32) → Z g kX6_isAshamed Q d cN sN M 11 [o0, o1] []) : Z g kX6_isAshamed Q d cN sN M 6 [o0, o1] [.int t0] := by
  refine zi_bipush dX6_isAshamed_6 (by decide +kernel : (Int8.ofInt (20)).toInt32 = (20 : Int32)) ?_
  exact zi_icmp_le (tgt := 15) dX6_isAshamed_8 (by decide +kernel) kt kf
theorem sX6_isAshamed_11 {g : ZG} {Q : ZQ} {d cN sN : Nat} {M : ZM} {o0 o1 : Option Value}  (kk : Z g kX6_isAshamed Q d cN sN M 16 [o0, o1] [.int 1]) : Z g kX6_isAshamed Q d cN sN M 11 [o0, o1] [] := by
  refine zi_iconst dX6_isAshamed_11 (by decide +kernel : Int32.ofInt (1) = (1 : Int32)) ?_
  exact zi_goto (tgt := 16) dX6_isAshamed_12 (by decide +kernel) kk
theorem sX6_isAshamed_15 {g : ZG} {Q : ZQ} {d cN sN : Nat} {M : ZM} {o0 o1 : Option Value}  (kk : Z g kX6_isAshamed Q d cN sN M 16 [o0, o1] [.int 0]) : Z g kX6_isAshamed Q d cN sN M 15 [o0, o1] [] := by
  refine zi_iconst dX6_isAshamed_15 (by decide +kernel : Int32.ofInt (0) = (0 : Int32)) ?_
  exact kk
theorem sX6_isAshamed_16 {g : ZG} {Q : ZQ} {d cN sN : Nat} {M : ZM} {t0 : Int32} {o0 o1 : Option Value} (h1 : t0 = 0 ∨ t0 = 1) (kk : Q.1 (some (.int t0)) M) : Z g kX6_isAshamed Q d cN sN M 16 [o0, o1] [.int t0] := by
  exact zi_ireturn dX6_isAshamed_16 rfl (znar_z h1) kk
abbrev kX6_by : ZK := (RX6, cX6_by, 3, (Option.some Jvm.ClassFile.FieldType.int), [], false, fX6)
abbrev tX6_by (g : ZG) (args : List Value) (M : ZM) (d c s : Nat) (Q : ZQ) : Prop := Ct g yX6_by (ws_ yX6_by cX6_by 3 (Option.some Jvm.ClassFile.FieldType.int)) args M d c s Q
abbrev nX6_by : Nat := 1
theorem mX6_by : zMok yX6_by 2 3 := ⟨⟨by decide +kernel, by decide +kernel, by decide +kernel⟩, by decide⟩
theorem eX6_by {g : ZG} {Q : ZQ} {d cN sN : Nat} {M : ZM} {a0 : Nat} {x1 : Int32} {x2 : Int32} (hV : zV g) (h : Z g kX6_by Q d cN sN M 0 [some (.ref a0), some (.int x1), some (.int x2)] []) : tX6_by g [.ref a0, .int x1, .int x2] M d cN sN Q := Ct.of (K := kX6_by) rfl (by decide +kernel) hV fokX6 rfl (fun h => by cases h) (fun v hv => by simp only [List.mem_cons, List.not_mem_nil, or_false] at hv; rcases hv with rfl | rfl | rfl <;> first | rfl | assumption) (Nat.le_of_ble_eq_true rfl) h
theorem sX6_by_0 {g : ZG} {Q : ZQ} {d cN sN : Nat} {M : ZM} {l0 : Nat} {fs1 : List Value} {r3 : Nat} {l1 : Int32} {l2 : Int32} {n5 : Nat} {f6 : Nat → Int32} (h2 : M.1 l0 = some (.inr (5, fs1))) (h4 : (fs1)[0]? = some (.ref r3)) (h7 : M.1 r3 = some (.inl (zA g 0, n5, .inl f6))) (h8 : vp_in ((10 + (3 * l1)) + l2) n5) (kk : Q.1 (some (.int (f6 (((10 + (3 * l1)) + l2 : Int32).toNatClampNeg)))) M) : Z g kX6_by Q d cN sN M 0 [some (.ref l0), some (.int l1), some (.int l2)] [] := by
  refine zi_aload_n dX6_by_0 rfl zrf_r ?_
  refine zi_getfield dX6_by_1 rfl h2 h4 ?_
  refine zi_bipush dX6_by_4 (by decide +kernel : (Int8.ofInt (10)).toInt32 = (10 : Int32)) ?_
  refine zi_iconst dX6_by_6 (by decide +kernel : Int32.ofInt (3) = (3 : Int32)) ?_
  refine zi_iload_n dX6_by_7 rfl ?_
  refine zi_imul dX6_by_8 ?_
  refine zi_iadd dX6_by_9 ?_
  refine zi_iload_n dX6_by_10 rfl ?_
  refine zi_iadd dX6_by_11 ?_
  refine zi_iaload dX6_by_12 h7 h8 ?_
  exact zi_ireturn dX6_by_13 rfl rfl kk
abbrev kX6_price : ZK := (RX6, cX6_price, 2, (Option.some Jvm.ClassFile.FieldType.int), [], false, fX6)
abbrev tX6_price (g : ZG) (args : List Value) (M : ZM) (d c s : Nat) (Q : ZQ) : Prop := Ct g yX6_price (ws_ yX6_price cX6_price 2 (Option.some Jvm.ClassFile.FieldType.int)) args M d c s Q
abbrev nX6_price : Nat := 5
theorem mX6_price : zMok yX6_price 1 2 := ⟨⟨by decide +kernel, by decide +kernel, by decide +kernel⟩, by decide⟩
theorem eX6_price {g : ZG} {Q : ZQ} {d cN sN : Nat} {M : ZM} {a0 : Nat} {x1 : Int32} (hV : zV g) (h : Z g kX6_price Q d cN sN M 0 [some (.ref a0), some (.int x1)] []) : tX6_price g [.ref a0, .int x1] M d cN sN Q := Ct.of (K := kX6_price) rfl (by decide +kernel) hV fokX6 rfl (fun h => by cases h) (fun v hv => by simp only [List.mem_cons, List.not_mem_nil, or_false] at hv; rcases hv with rfl | rfl <;> first | rfl | assumption) (Nat.le_of_ble_eq_true rfl) h
theorem sX6_price_0 {g : ZG} {Q : ZQ} {d cN sN : Nat} {M : ZM} {l0 : Nat} {l1 : Int32}  (kk : Z g kX6_price Q d cN sN M 4 [some (.ref l0), some (.int l1)] [.int 2, .int l1, .ref l0, .int 2]) : Z g kX6_price Q d cN sN M 0 [some (.ref l0), some (.int l1)] [] := by
  refine zi_iconst dX6_price_0 (by decide +kernel : Int32.ofInt (2) = (2 : Int32)) ?_
  refine zi_aload_n dX6_price_1 rfl zrf_r ?_
  refine zi_iload_n dX6_price_2 rfl ?_
  refine zi_iconst dX6_price_3 (by decide +kernel : Int32.ofInt (2) = (2 : Int32)) ?_
  exact kk
theorem sX6_price_7 {g : ZG} {Q : ZQ} {d cN sN : Nat} {M : ZM} {t0 : Int32} {t1 : Int32} {o0 o1 : Option Value}  (kk : Q.1 (some (.int (t0 + t1))) M) : Z g kX6_price Q d cN sN M 7 [o0, o1] [.int t1, .int t0] := by
  refine zi_iadd dX6_price_7 ?_
  exact zi_ireturn dX6_price_8 rfl rfl kk
abbrev kX6_ofHouse : ZK := (RX6, cX6_ofHouse, 5, (Option.some Jvm.ClassFile.FieldType.int), [], false, fX6)
abbrev tX6_ofHouse (g : ZG) (args : List Value) (M : ZM) (d c s : Nat) (Q : ZQ) : Prop := Ct g yX6_ofHouse (ws_ yX6_ofHouse cX6_ofHouse 5 (Option.some Jvm.ClassFile.FieldType.int)) args M d c s Q
abbrev nX6_ofHouse : Nat := 4
theorem mX6_ofHouse : zMok yX6_ofHouse 2 5 := ⟨⟨by decide +kernel, by decide +kernel, by decide +kernel⟩, by decide⟩
theorem eX6_ofHouse {g : ZG} {Q : ZQ} {d cN sN : Nat} {M : ZM} {a0 : Nat} {x1 : Int32} {x2 : Int32} (hV : zV g) (h : Z g kX6_ofHouse Q d cN sN M 0 [some (.ref a0), some (.int x1), some (.int x2), none, none] []) : tX6_ofHouse g [.ref a0, .int x1, .int x2] M d cN sN Q := Ct.of (K := kX6_ofHouse) rfl (by decide +kernel) hV fokX6 rfl (fun h => by cases h) (fun v hv => by simp only [List.mem_cons, List.not_mem_nil, or_false] at hv; rcases hv with rfl | rfl | rfl <;> first | rfl | assumption) (Nat.le_of_ble_eq_true rfl) h
theorem sX6_ofHouse_0 {g : ZG} {Q : ZQ} {d cN sN : Nat} {M : ZM} {o0 o1 o2 o3 o4 : Option Value}  (kk : Z g kX6_ofHouse Q d cN sN M 5 [o0, o1, o2, some (.int 0), some (.int 0)] []) : Z g kX6_ofHouse Q d cN sN M 0 [o0, o1, o2, o3, o4] [] := by
  refine zi_iconst dX6_ofHouse_0 (by decide +kernel : Int32.ofInt (0) = (0 : Int32)) ?_
  refine zi_istore_n dX6_ofHouse_1 (Nat.le_of_ble_eq_true rfl) ?_
  refine zi_iconst dX6_ofHouse_2 (by decide +kernel : Int32.ofInt (0) = (0 : Int32)) ?_
  refine zi_istore dX6_ofHouse_3 (Nat.le_of_ble_eq_true rfl) ?_
  exact kk
theorem sX6_ofHouse_5 {g : ZG} {Q : ZQ} {d cN sN : Nat} {M : ZM} {l4 : Int32} {l0 : Nat} {fs1 : List Value} {r3 : Nat} {n5 : Nat} {f6 : Nat → Int32} {o1 o2 o3 : Option Value} (h2 : M.1 l0 = some (.inr (5, fs1))) (h4 : (fs1)[0]? = some (.ref r3)) (h7 : M.1 r3 = some (.inl (zA g 0, n5, .inl f6))) (h8 : vp_in (1) n5) (kt : (f6 ((1 : Int32).toNatClampNeg) : Int32) ≤ (l4 : Int32) → Z g kX6_ofHouse Q d cN sN M 47 [some (.ref l0), o1, o2, o3, some (.int l4)] []) (kf : ¬ (f6 ((1 : Int32).toNatClampNeg) : Int32) ≤ (l4 : Int32) → Z g kX6_ofHouse Q d cN sN M 16 [some (.ref l0), o1, o2, o3, some (.int l4)] []) : Z g kX6_ofHouse Q d cN sN M 5 [some (.ref l0), o1, o2, o3, some (.int l4)] [] := by
  refine zi_iload dX6_ofHouse_5 rfl ?_
  refine zi_aload_n dX6_ofHouse_7 rfl zrf_r ?_
  refine zi_getfield dX6_ofHouse_8 rfl h2 h4 ?_
  refine zi_iconst dX6_ofHouse_11 (by decide +kernel : Int32.ofInt (1) = (1 : Int32)) ?_
  refine zi_iaload dX6_ofHouse_12 h7 h8 ?_
  exact zi_icmp_ge (tgt := 47) dX6_ofHouse_13 (by decide +kernel) kt kf
theorem sX6_ofHouse_16 {g : ZG} {Q : ZQ} {d cN sN : Nat} {M : ZM} {l3 : Int32} {l0 : Nat} {l4 : Int32} {o1 o2 : Option Value}  (kk : Z g kX6_ofHouse Q d cN sN M 21 [some (.ref l0), o1, o2, some (.int l3), some (.int l4)] [.int 0, .int l4, .ref l0, .int l3]) : Z g kX6_ofHouse Q d cN sN M 16 [some (.ref l0), o1, o2, some (.int l3), some (.int l4)] [] := by
  refine zi_iload_n dX6_ofHouse_16 rfl ?_
  refine zi_aload_n dX6_ofHouse_17 rfl zrf_r ?_
  refine zi_iload dX6_ofHouse_18 rfl ?_
  refine zi_iconst dX6_ofHouse_20 (by decide +kernel : Int32.ofInt (0) = (0 : Int32)) ?_
  exact kk
theorem sX6_ofHouse_24 {g : ZG} {Q : ZQ} {d cN sN : Nat} {M : ZM} {t0 : Int32} {t1 : Int32} {l1 : Int32} {o0 o2 o3 o4 : Option Value}  (kt : ¬ (t1 : Int32) = (l1 : Int32) → Z g kX6_ofHouse Q d cN sN M 38 [o0, some (.int l1), o2, o3, o4] [.int t0]) (kf : (t1 : Int32) = (l1 : Int32) → Z g kX6_ofHouse Q d cN sN M 28 [o0, some (.int l1), o2, o3, o4] [.int t0]) : Z g kX6_ofHouse Q d cN sN M 24 [o0, some (.int l1), o2, o3, o4] [.int t1, .int t0] := by
  refine zi_iload_n dX6_ofHouse_24 rfl ?_
  exact zi_icmp_ne (tgt := 38) dX6_ofHouse_25 (by decide +kernel) kt kf
theorem sX6_ofHouse_28 {g : ZG} {Q : ZQ} {d cN sN : Nat} {M : ZM} {t0 : Int32} {l0 : Nat} {l4 : Int32} {l2 : Int32} {o1 o3 : Option Value}  (kk : Z g kX6_ofHouse Q d cN sN M 32 [some (.ref l0), o1, some (.int l2), o3, some (.int l4)] [.int l2, .int l4, .ref l0, .int t0]) : Z g kX6_ofHouse Q d cN sN M 28 [some (.ref l0), o1, some (.int l2), o3, some (.int l4)] [.int t0] := by
  refine zi_aload_n dX6_ofHouse_28 rfl zrf_r ?_
  refine zi_iload dX6_ofHouse_29 rfl ?_
  refine zi_iload_n dX6_ofHouse_31 rfl ?_
  exact kk
theorem sX6_ofHouse_35 {g : ZG} {Q : ZQ} {d cN sN : Nat} {M : ZM} {t0 : Int32} {t1 : Int32} {o0 o1 o2 o3 o4 : Option Value}  (kk : Z g kX6_ofHouse Q d cN sN M 39 [o0, o1, o2, o3, o4] [.int t1, .int t0]) : Z g kX6_ofHouse Q d cN sN M 35 [o0, o1, o2, o3, o4] [.int t1, .int t0] := by
  exact zi_goto (tgt := 39) dX6_ofHouse_35 (by decide +kernel) kk
theorem sX6_ofHouse_38 {g : ZG} {Q : ZQ} {d cN sN : Nat} {M : ZM} {t0 : Int32} {o0 o1 o2 o3 o4 : Option Value}  (kk : Z g kX6_ofHouse Q d cN sN M 39 [o0, o1, o2, o3, o4] [.int 0, .int t0]) : Z g kX6_ofHouse Q d cN sN M 38 [o0, o1, o2, o3, o4] [.int t0] := by
  refine zi_iconst dX6_ofHouse_38 (by decide +kernel : Int32.ofInt (0) = (0 : Int32)) ?_
  exact kk
theorem sX6_ofHouse_39 {g : ZG} {Q : ZQ} {d cN sN : Nat} {M : ZM} {t0 : Int32} {t1 : Int32} {l4 : Int32} {o0 o1 o2 o3 : Option Value}  (kk : Z g kX6_ofHouse Q d cN sN M 5 [o0, o1, o2, some (.int (t0 + t1)), some (.int (l4 + 1))] []) : Z g kX6_ofHouse Q d cN sN M 39 [o0, o1, o2, o3, some (.int l4)] [.int t1, .int t0] := by
  refine zi_iadd dX6_ofHouse_39 ?_
  refine zi_istore_n dX6_ofHouse_40 (Nat.le_of_ble_eq_true rfl) ?_
  refine zi_iinc dX6_ofHouse_41 rfl (by decide +kernel : Int32.ofInt (1) = 1) (Nat.le_of_ble_eq_true rfl) ?_
  exact zi_goto (tgt := 5) dX6_ofHouse_44 (by decide +kernel) kk
theorem sX6_ofHouse_47 {g : ZG} {Q : ZQ} {d cN sN : Nat} {M : ZM} {l3 : Int32} {o0 o1 o2 o4 : Option Value}  (kk : Q.1 (some (.int l3)) M) : Z g kX6_ofHouse Q d cN sN M 47 [o0, o1, o2, some (.int l3), o4] [] := by
  refine zi_iload_n dX6_ofHouse_47 rfl ?_
  exact zi_ireturn dX6_ofHouse_48 rfl rfl kk
abbrev kX6_correct : ZK := (RX6, cX6_correct, 5, (Option.some Jvm.ClassFile.FieldType.int), [], false, fX6)
abbrev tX6_correct (g : ZG) (args : List Value) (M : ZM) (d c s : Nat) (Q : ZQ) : Prop := Ct g yX6_correct (ws_ yX6_correct cX6_correct 5 (Option.some Jvm.ClassFile.FieldType.int)) args M d c s Q
abbrev nX6_correct : Nat := 4
theorem mX6_correct : zMok yX6_correct 2 5 := ⟨⟨by decide +kernel, by decide +kernel, by decide +kernel⟩, by decide⟩
theorem eX6_correct {g : ZG} {Q : ZQ} {d cN sN : Nat} {M : ZM} {a0 : Nat} {x1 : Int32} {x2 : Int32} (hV : zV g) (h : Z g kX6_correct Q d cN sN M 0 [some (.ref a0), some (.int x1), some (.int x2), none, none] []) : tX6_correct g [.ref a0, .int x1, .int x2] M d cN sN Q := Ct.of (K := kX6_correct) rfl (by decide +kernel) hV fokX6 rfl (fun h => by cases h) (fun v hv => by simp only [List.mem_cons, List.not_mem_nil, or_false] at hv; rcases hv with rfl | rfl | rfl <;> first | rfl | assumption) (Nat.le_of_ble_eq_true rfl) h
theorem sX6_correct_0 {g : ZG} {Q : ZQ} {d cN sN : Nat} {M : ZM} {l0 : Nat} {l1 : Int32} {l2 : Int32} {o3 o4 : Option Value}  (kk : Z g kX6_correct Q d cN sN M 4 [some (.ref l0), some (.int l1), some (.int l2), o3, o4] [.int l2, .int l1, .ref l0, .ref l0]) : Z g kX6_correct Q d cN sN M 0 [some (.ref l0), some (.int l1), some (.int l2), o3, o4] [] := by
  refine zi_aload_n dX6_correct_0 rfl zrf_r ?_
  refine zi_aload_n dX6_correct_1 rfl zrf_r ?_
  refine zi_iload_n dX6_correct_2 rfl ?_
  refine zi_iload_n dX6_correct_3 rfl ?_
  exact kk
theorem sX6_correct_7 {g : ZG} {Q : ZQ} {d cN sN : Nat} {M : ZM} {t0 : Nat} {t1 : Int32} {o0 o1 o2 o3 o4 : Option Value}  (kt : (t1 : Int32) = 0 → Z g kX6_correct Q d cN sN M 14 [o0, o1, o2, o3, o4] [.ref t0]) (kf : ¬ (t1 : Int32) = 0 → Z g kX6_correct Q d cN sN M 10 [o0, o1, o2, o3, o4] [.ref t0]) : Z g kX6_correct Q d cN sN M 7 [o0, o1, o2, o3, o4] [.int t1, .ref t0] := by
  exact zi_if_eq (tgt := 14) dX6_correct_7 (by decide +kernel) kt kf
theorem sX6_correct_10 {g : ZG} {Q : ZQ} {d cN sN : Nat} {M : ZM} {t0 : Nat} {o0 o1 o2 o3 o4 : Option Value}  (kk : Z g kX6_correct Q d cN sN M 15 [o0, o1, o2, o3, o4] [.int 0, .ref t0]) : Z g kX6_correct Q d cN sN M 10 [o0, o1, o2, o3, o4] [.ref t0] := by
  refine zi_iconst dX6_correct_10 (by decide +kernel : Int32.ofInt (0) = (0 : Int32)) ?_
  exact zi_goto (tgt := 15) dX6_correct_11 (by decide +kernel) kk
theorem sX6_correct_14 {g : ZG} {Q : ZQ} {d cN sN : Nat} {M : ZM} {t0 : Nat} {o0 o1 o2 o3 o4 : Option Value}  (kk : Z g kX6_correct Q d cN sN M 15 [o0, o1, o2, o3, o4] [.int 1, .ref t0]) : Z g kX6_correct Q d cN sN M 14 [o0, o1, o2, o3, o4] [.ref t0] := by
  refine zi_iconst dX6_correct_14 (by decide +kernel : Int32.ofInt (1) = (1 : Int32)) ?_
  exact kk
theorem sX6_correct_18 {g : ZG} {Q : ZQ} {d cN sN : Nat} {M : ZM} {t0 : Int32} {o0 o1 o2 o3 o4 : Option Value}  (kt : (t0 : Int32) = 0 → Z g kX6_correct Q d cN sN M 23 [o0, o1, o2, o3, o4] []) (kf : ¬ (t0 : Int32) = 0 → Z g kX6_correct Q d cN sN M 21 [o0, o1, o2, o3, o4] []) : Z g kX6_correct Q d cN sN M 18 [o0, o1, o2, o3, o4] [.int t0] := by
  exact zi_if_eq (tgt := 23) dX6_correct_18 (by decide +kernel) kt kf
theorem sX6_correct_21 {g : ZG} {Q : ZQ} {d cN sN : Nat} {M : ZM} {o0 o1 o2 o3 o4 : Option Value}  (kk : Q.1 (some (.int 0)) M) : Z g kX6_correct Q d cN sN M 21 [o0, o1, o2, o3, o4] [] := by
  refine zi_iconst dX6_correct_21 (by decide +kernel : Int32.ofInt (0) = (0 : Int32)) ?_
  exact zi_ireturn dX6_correct_22 rfl rfl kk
theorem sX6_correct_23 {g : ZG} {Q : ZQ} {d cN sN : Nat} {M : ZM} {l0 : Nat} {l1 : Int32} {o2 o3 o4 : Option Value}  (kk : Z g kX6_correct Q d cN sN M 26 [some (.ref l0), some (.int l1), o2, o3, o4] [.int 0, .int l1, .ref l0]) : Z g kX6_correct Q d cN sN M 23 [some (.ref l0), some (.int l1), o2, o3, o4] [] := by
  refine zi_aload_n dX6_correct_23 rfl zrf_r ?_
  refine zi_iload_n dX6_correct_24 rfl ?_
  refine zi_iconst dX6_correct_25 (by decide +kernel : Int32.ofInt (0) = (0 : Int32)) ?_
  exact kk
theorem sX6_correct_29 {g : ZG} {Q : ZQ} {d cN sN : Nat} {M : ZM} {t0 : Int32} {l0 : Nat} {l1 : Int32} {l2 : Int32} {o3 o4 : Option Value}  (kk : Z g kX6_correct Q d cN sN M 33 [some (.ref l0), some (.int l1), some (.int l2), some (.int t0), o4] [.int l2, .int l1, .ref l0]) : Z g kX6_correct Q d cN sN M 29 [some (.ref l0), some (.int l1), some (.int l2), o3, o4] [.int t0] := by
  refine zi_istore_n dX6_correct_29 (Nat.le_of_ble_eq_true rfl) ?_
  refine zi_aload_n dX6_correct_30 rfl zrf_r ?_
  refine zi_iload_n dX6_correct_31 rfl ?_
  refine zi_iload_n dX6_correct_32 rfl ?_
  exact kk
theorem sX6_correct_36 {g : ZG} {Q : ZQ} {d cN sN : Nat} {M : ZM} {t0 : Int32} {o0 o1 o2 o3 o4 : Option Value}  (kt : ¬ (t0 : Int32) = 0 → Z g kX6_correct Q d cN sN M 51 [o0, o1, o2, o3, some (.int t0)] []) (kf : (t0 : Int32) = 0 → Z g kX6_correct Q d cN sN M 43 [o0, o1, o2, o3, some (.int t0)] []) : Z g kX6_correct Q d cN sN M 36 [o0, o1, o2, o3, o4] [.int t0] := by
  refine zi_istore dX6_correct_36 (Nat.le_of_ble_eq_true rfl) ?_
  refine zi_iload dX6_correct_38 rfl ?_
  exact zi_if_ne (tgt := 51) dX6_correct_40 (by decide +kernel) kt kf
theorem sX6_correct_43 {g : ZG} {Q : ZQ} {d cN sN : Nat} {M : ZM} {l0 : Nat} {l2 : Int32} {o1 o3 o4 : Option Value}  (kk : Z g kX6_correct Q d cN sN M 47 [some (.ref l0), o1, some (.int l2), o3, o4] [.int l2, .int 4, .int 2, .ref l0]) : Z g kX6_correct Q d cN sN M 43 [some (.ref l0), o1, some (.int l2), o3, o4] [] := by
  refine zi_aload_n dX6_correct_43 rfl zrf_r ?_
  refine zi_iconst dX6_correct_44 (by decide +kernel : Int32.ofInt (2) = (2 : Int32)) ?_
  refine zi_iconst dX6_correct_45 (by decide +kernel : Int32.ofInt (4) = (4 : Int32)) ?_
  refine zi_iload_n dX6_correct_46 rfl ?_
  exact kk
theorem sX6_correct_50 {g : ZG} {Q : ZQ} {d cN sN : Nat} {M : ZM} {t0 : Int32} {o0 o1 o2 o3 o4 : Option Value}  (kk : Q.1 (some (.int t0)) M) : Z g kX6_correct Q d cN sN M 50 [o0, o1, o2, o3, o4] [.int t0] := by
  exact zi_ireturn dX6_correct_50 rfl rfl kk
theorem sX6_correct_51 {g : ZG} {Q : ZQ} {d cN sN : Nat} {M : ZM} {l0 : Nat} {l3 : Int32} {o1 o2 o4 : Option Value}  (kk : Z g kX6_correct Q d cN sN M 54 [some (.ref l0), o1, o2, some (.int l3), o4] [.int 0, .int l3, .ref l0]) : Z g kX6_correct Q d cN sN M 51 [some (.ref l0), o1, o2, some (.int l3), o4] [] := by
  refine zi_aload_n dX6_correct_51 rfl zrf_r ?_
  refine zi_iload_n dX6_correct_52 rfl ?_
  refine zi_iconst dX6_correct_53 (by decide +kernel : Int32.ofInt (0) = (0 : Int32)) ?_
  exact kk
theorem sX6_correct_57 {g : ZG} {Q : ZQ} {d cN sN : Nat} {M : ZM} {t0 : Int32} {l4 : Int32} {o0 o1 o2 o3 : Option Value}  (kt : (l4 : Int32) ≤ (t0 : Int32) → Z g kX6_correct Q d cN sN M 76 [o0, o1, o2, o3, some (.int l4)] []) (kf : ¬ (l4 : Int32) ≤ (t0 : Int32) → Z g kX6_correct Q d cN sN M 62 [o0, o1, o2, o3, some (.int l4)] []) : Z g kX6_correct Q d cN sN M 57 [o0, o1, o2, o3, some (.int l4)] [.int t0] := by
  refine zi_iload dX6_correct_57 rfl ?_
  exact zi_icmp_ge (tgt := 76) dX6_correct_59 (by decide +kernel) kt kf
theorem sX6_correct_62 {g : ZG} {Q : ZQ} {d cN sN : Nat} {M : ZM} {l0 : Nat} {l3 : Int32} {o1 o2 o4 : Option Value}  (kk : Z g kX6_correct Q d cN sN M 69 [some (.ref l0), o1, o2, some (.int l3), o4] [.int 0, .int l3, .ref l0, .int 7, .int 2, .ref l0]) : Z g kX6_correct Q d cN sN M 62 [some (.ref l0), o1, o2, some (.int l3), o4] [] := by
  refine zi_aload_n dX6_correct_62 rfl zrf_r ?_
  refine zi_iconst dX6_correct_63 (by decide +kernel : Int32.ofInt (2) = (2 : Int32)) ?_
  refine zi_bipush dX6_correct_64 (by decide +kernel : (Int8.ofInt (7)).toInt32 = (7 : Int32)) ?_
  refine zi_aload_n dX6_correct_66 rfl zrf_r ?_
  refine zi_iload_n dX6_correct_67 rfl ?_
  refine zi_iconst dX6_correct_68 (by decide +kernel : Int32.ofInt (0) = (0 : Int32)) ?_
  exact kk
theorem sX6_correct_75 {g : ZG} {Q : ZQ} {d cN sN : Nat} {M : ZM} {t0 : Int32} {o0 o1 o2 o3 o4 : Option Value}  (kk : Q.1 (some (.int t0)) M) : Z g kX6_correct Q d cN sN M 75 [o0, o1, o2, o3, o4] [.int t0] := by
  exact zi_ireturn dX6_correct_75 rfl rfl kk
theorem sX6_correct_76 {g : ZG} {Q : ZQ} {d cN sN : Nat} {M : ZM} {l0 : Nat} {fs1 : List Value} {r3 : Nat} {o1 o2 o3 o4 : Option Value} (h2 : M.1 l0 = some (.inr (5, fs1))) (h4 : (fs1)[0]? = some (.ref r3)) (kk : Z g kX6_correct Q d cN sN M 81 [some (.ref l0), o1, o2, o3, o4] [.ref r3, .ref l0]) : Z g kX6_correct Q d cN sN M 76 [some (.ref l0), o1, o2, o3, o4] [] := by
  refine zi_aload_n dX6_correct_76 rfl zrf_r ?_
  refine zi_aload_n dX6_correct_77 rfl zrf_r ?_
  refine zi_getfield dX6_correct_78 rfl h2 h4 ?_
  exact kk
theorem sX6_correct_84 {g : ZG} {Q : ZQ} {d cN sN : Nat} {M : ZM} {l0 : Nat} {l3 : Int32} {l4 : Int32} {o1 o2 : Option Value}  (kk : Z g kX6_correct Q d cN sN M 90 [some (.ref l0), o1, o2, some (.int l3), some (.int l4)] [.int (-l4), .int 0, .int l3, .ref l0]) : Z g kX6_correct Q d cN sN M 84 [some (.ref l0), o1, o2, some (.int l3), some (.int l4)] [] := by
  refine zi_aload_n dX6_correct_84 rfl zrf_r ?_
  refine zi_iload_n dX6_correct_85 rfl ?_
  refine zi_iconst dX6_correct_86 (by decide +kernel : Int32.ofInt (0) = (0 : Int32)) ?_
  refine zi_iload dX6_correct_87 rfl ?_
  refine zi_ineg dX6_correct_89 ?_
  exact kk
theorem sX6_correct_93 {g : ZG} {Q : ZQ} {d cN sN : Nat} {M : ZM} {l0 : Nat} {l3 : Int32} {l4 : Int32} {o1 o2 : Option Value}  (kk : Z g kX6_correct Q d cN sN M 98 [some (.ref l0), o1, o2, some (.int l3), some (.int l4)] [.int l4, .int 2, .int l3, .ref l0]) : Z g kX6_correct Q d cN sN M 93 [some (.ref l0), o1, o2, some (.int l3), some (.int l4)] [] := by
  refine zi_aload_n dX6_correct_93 rfl zrf_r ?_
  refine zi_iload_n dX6_correct_94 rfl ?_
  refine zi_iconst dX6_correct_95 (by decide +kernel : Int32.ofInt (2) = (2 : Int32)) ?_
  refine zi_iload dX6_correct_96 rfl ?_
  exact kk
theorem sX6_correct_101 {g : ZG} {Q : ZQ} {d cN sN : Nat} {M : ZM} {l0 : Nat} {fs1 : List Value} {r3 : Nat} {n5 : Nat} {f6 : Nat → Int32} {l4 : Int32} {l1 : Int32} {l2 : Int32} {o3 : Option Value} (h2 : M.1 l0 = some (.inr (5, fs1))) (h4 : (fs1)[0]? = some (.ref r3)) (h7 : M.1 r3 = some (.inl (zA g 0, n5, .inl f6))) (h8 : vp_in (8) n5) (kk : Z g kX6_correct Q d cN sN (zup M r3 (.inl (zA g 0, n5, .inl (upd f6 ((8 : Int32).toNatClampNeg) ((f6 ((8 : Int32).toNatClampNeg)) + l4))))) 124 [some (.ref l0), some (.int l1), some (.int l2), o3, some (.int l4)] [.int (2 + l2), .int l1, .ref l0, .int (10 + l2), .int l1, .ref l0]) : Z g kX6_correct Q d cN sN M 101 [some (.ref l0), some (.int l1), some (.int l2), o3, some (.int l4)] [] := by
  refine zi_aload_n dX6_correct_101 rfl zrf_r ?_
  refine zi_getfield dX6_correct_102 rfl h2 h4 ?_
  refine zi_bipush dX6_correct_105 (by decide +kernel : (Int8.ofInt (8)).toInt32 = (8 : Int32)) ?_
  refine zi_dup2 dX6_correct_107 rfl rfl ?_
  refine zi_iaload dX6_correct_108 h7 h8 ?_
  refine zi_iload dX6_correct_109 rfl ?_
  refine zi_iadd dX6_correct_111 ?_
  refine zi_iastore dX6_correct_112 h7 h8 ?_
  refine zi_aload_n dX6_correct_113 rfl zrf_r ?_
  refine zi_iload_n dX6_correct_114 rfl ?_
  refine zi_bipush dX6_correct_115 (by decide +kernel : (Int8.ofInt (10)).toInt32 = (10 : Int32)) ?_
  refine zi_iload_n dX6_correct_117 rfl ?_
  refine zi_iadd dX6_correct_118 ?_
  refine zi_aload_n dX6_correct_119 rfl zrf_r ?_
  refine zi_iload_n dX6_correct_120 rfl ?_
  refine zi_iconst dX6_correct_121 (by decide +kernel : Int32.ofInt (2) = (2 : Int32)) ?_
  refine zi_iload_n dX6_correct_122 rfl ?_
  refine zi_iadd dX6_correct_123 ?_
  exact kk
theorem sX6_correct_130 {g : ZG} {Q : ZQ} {d cN sN : Nat} {M : ZM} {l0 : Nat} {l1 : Int32} {l2 : Int32} {o3 o4 : Option Value}  (kk : Z g kX6_correct Q d cN sN M 137 [some (.ref l0), some (.int l1), some (.int l2), o3, o4] [.int 0, .int (18 + l2), .int l1, .ref l0]) : Z g kX6_correct Q d cN sN M 130 [some (.ref l0), some (.int l1), some (.int l2), o3, o4] [] := by
  refine zi_aload_n dX6_correct_130 rfl zrf_r ?_
  refine zi_iload_n dX6_correct_131 rfl ?_
  refine zi_bipush dX6_correct_132 (by decide +kernel : (Int8.ofInt (18)).toInt32 = (18 : Int32)) ?_
  refine zi_iload_n dX6_correct_134 rfl ?_
  refine zi_iadd dX6_correct_135 ?_
  refine zi_iconst dX6_correct_136 (by decide +kernel : Int32.ofInt (0) = (0 : Int32)) ?_
  exact kk
theorem sX6_correct_140 {g : ZG} {Q : ZQ} {d cN sN : Nat} {M : ZM} {l4 : Int32} {o0 o1 o2 o3 : Option Value}  (kk : Q.1 (some (.int l4)) M) : Z g kX6_correct Q d cN sN M 140 [o0, o1, o2, o3, some (.int l4)] [] := by
  refine zi_iload dX6_correct_140 rfl ?_
  exact zi_ireturn dX6_correct_142 rfl rfl kk
abbrev kX6_fineAt : ZK := (RX6, cX6_fineAt, 4, (Option.some Jvm.ClassFile.FieldType.int), [], false, fX6)
abbrev tX6_fineAt (g : ZG) (args : List Value) (M : ZM) (d c s : Nat) (Q : ZQ) : Prop := Ct g yX6_fineAt (ws_ yX6_fineAt cX6_fineAt 4 (Option.some Jvm.ClassFile.FieldType.int)) args M d c s Q
abbrev nX6_fineAt : Nat := 3
theorem mX6_fineAt : zMok yX6_fineAt 2 4 := ⟨⟨by decide +kernel, by decide +kernel, by decide +kernel⟩, by decide⟩
theorem eX6_fineAt {g : ZG} {Q : ZQ} {d cN sN : Nat} {M : ZM} {a0 : Nat} {x1 : Int32} {x2 : Int32} (hV : zV g) (h : Z g kX6_fineAt Q d cN sN M 0 [some (.ref a0), some (.int x1), some (.int x2), none] []) : tX6_fineAt g [.ref a0, .int x1, .int x2] M d cN sN Q := Ct.of (K := kX6_fineAt) rfl (by decide +kernel) hV fokX6 rfl (fun h => by cases h) (fun v hv => by simp only [List.mem_cons, List.not_mem_nil, or_false] at hv; rcases hv with rfl | rfl | rfl <;> first | rfl | assumption) (Nat.le_of_ble_eq_true rfl) h
theorem sX6_fineAt_0 {g : ZG} {Q : ZQ} {d cN sN : Nat} {M : ZM} {l0 : Nat} {l1 : Int32} {l2 : Int32} {o3 : Option Value}  (kk : Z g kX6_fineAt Q d cN sN M 3 [some (.ref l0), some (.int l1), some (.int l2), o3] [.int l2, .int l1, .ref l0]) : Z g kX6_fineAt Q d cN sN M 0 [some (.ref l0), some (.int l1), some (.int l2), o3] [] := by
  refine zi_aload_n dX6_fineAt_0 rfl zrf_r ?_
  refine zi_iload_n dX6_fineAt_1 rfl ?_
  refine zi_iload_n dX6_fineAt_2 rfl ?_
  exact kk
theorem sX6_fineAt_6 {g : ZG} {Q : ZQ} {d cN sN : Nat} {M : ZM} {t0 : Int32} {o0 o1 o2 o3 : Option Value}  (kt : ¬ (t0 : Int32) = 0 → Z g kX6_fineAt Q d cN sN M 15 [o0, o1, o2, some (.int t0)] []) (kf : (t0 : Int32) = 0 → Z g kX6_fineAt Q d cN sN M 11 [o0, o1, o2, some (.int t0)] []) : Z g kX6_fineAt Q d cN sN M 6 [o0, o1, o2, o3] [.int t0] := by
  refine zi_istore_n dX6_fineAt_6 (Nat.le_of_ble_eq_true rfl) ?_
  refine zi_iload_n dX6_fineAt_7 rfl ?_
  exact zi_if_ne (tgt := 15) dX6_fineAt_8 (by decide +kernel) kt kf
theorem sX6_fineAt_11 {g : ZG} {Q : ZQ} {d cN sN : Nat} {M : ZM} {o0 o1 o2 o3 : Option Value}  (kk : Z g kX6_fineAt Q d cN sN M 45 [o0, o1, o2, o3] [.int 0]) : Z g kX6_fineAt Q d cN sN M 11 [o0, o1, o2, o3] [] := by
  refine zi_iconst dX6_fineAt_11 (by decide +kernel : Int32.ofInt (0) = (0 : Int32)) ?_
  exact zi_goto (tgt := 45) dX6_fineAt_12 (by decide +kernel) kk
theorem sX6_fineAt_15 {g : ZG} {Q : ZQ} {d cN sN : Nat} {M : ZM} {l0 : Nat} {l1 : Int32} {l2 : Int32} {o3 : Option Value}  (kk : Z g kX6_fineAt Q d cN sN M 19 [some (.ref l0), some (.int l1), some (.int l2), o3] [.int l2, .int l1, .ref l0, .int 1]) : Z g kX6_fineAt Q d cN sN M 15 [some (.ref l0), some (.int l1), some (.int l2), o3] [] := by
  refine zi_iconst dX6_fineAt_15 (by decide +kernel : Int32.ofInt (1) = (1 : Int32)) ?_
  refine zi_aload_n dX6_fineAt_16 rfl zrf_r ?_
  refine zi_iload_n dX6_fineAt_17 rfl ?_
  refine zi_iload_n dX6_fineAt_18 rfl ?_
  exact kk
theorem sX6_fineAt_22 {g : ZG} {Q : ZQ} {d cN sN : Nat} {M : ZM} {t0 : Int32} {t1 : Int32} {l3 : Int32} {o0 o1 o2 : Option Value}  (kt : (l3 : Int32) ≤ (1 : Int32) → Z g kX6_fineAt Q d cN sN M 32 [o0, o1, o2, some (.int l3)] [.int (t0 + t1)]) (kf : ¬ (l3 : Int32) ≤ (1 : Int32) → Z g kX6_fineAt Q d cN sN M 28 [o0, o1, o2, some (.int l3)] [.int (t0 + t1)]) : Z g kX6_fineAt Q d cN sN M 22 [o0, o1, o2, some (.int l3)] [.int t1, .int t0] := by
  refine zi_iadd dX6_fineAt_22 ?_
  refine zi_iload_n dX6_fineAt_23 rfl ?_
  refine zi_iconst dX6_fineAt_24 (by decide +kernel : Int32.ofInt (1) = (1 : Int32)) ?_
  exact zi_icmp_le (tgt := 32) dX6_fineAt_25 (by decide +kernel) kt kf
theorem sX6_fineAt_28 {g : ZG} {Q : ZQ} {d cN sN : Nat} {M : ZM} {t0 : Int32} {o0 o1 o2 o3 : Option Value}  (kk : Z g kX6_fineAt Q d cN sN M 33 [o0, o1, o2, o3] [.int 2, .int t0]) : Z g kX6_fineAt Q d cN sN M 28 [o0, o1, o2, o3] [.int t0] := by
  refine zi_iconst dX6_fineAt_28 (by decide +kernel : Int32.ofInt (2) = (2 : Int32)) ?_
  exact zi_goto (tgt := 33) dX6_fineAt_29 (by decide +kernel) kk
theorem sX6_fineAt_32 {g : ZG} {Q : ZQ} {d cN sN : Nat} {M : ZM} {t0 : Int32} {o0 o1 o2 o3 : Option Value}  (kk : Z g kX6_fineAt Q d cN sN M 33 [o0, o1, o2, o3] [.int 0, .int t0]) : Z g kX6_fineAt Q d cN sN M 32 [o0, o1, o2, o3] [.int t0] := by
  refine zi_iconst dX6_fineAt_32 (by decide +kernel : Int32.ofInt (0) = (0 : Int32)) ?_
  exact kk
theorem sX6_fineAt_33 {g : ZG} {Q : ZQ} {d cN sN : Nat} {M : ZM} {t0 : Int32} {t1 : Int32} {l3 : Int32} {o0 o1 o2 : Option Value}  (kt : ¬ (l3 : Int32) = (3 : Int32) → Z g kX6_fineAt Q d cN sN M 43 [o0, o1, o2, some (.int l3)] [.int (t0 + t1)]) (kf : (l3 : Int32) = (3 : Int32) → Z g kX6_fineAt Q d cN sN M 39 [o0, o1, o2, some (.int l3)] [.int (t0 + t1)]) : Z g kX6_fineAt Q d cN sN M 33 [o0, o1, o2, some (.int l3)] [.int t1, .int t0] := by
  refine zi_iadd dX6_fineAt_33 ?_
  refine zi_iload_n dX6_fineAt_34 rfl ?_
  refine zi_iconst dX6_fineAt_35 (by decide +kernel : Int32.ofInt (3) = (3 : Int32)) ?_
  exact zi_icmp_ne (tgt := 43) dX6_fineAt_36 (by decide +kernel) kt kf
theorem sX6_fineAt_39 {g : ZG} {Q : ZQ} {d cN sN : Nat} {M : ZM} {t0 : Int32} {o0 o1 o2 o3 : Option Value}  (kk : Z g kX6_fineAt Q d cN sN M 44 [o0, o1, o2, o3] [.int 2, .int t0]) : Z g kX6_fineAt Q d cN sN M 39 [o0, o1, o2, o3] [.int t0] := by
  refine zi_iconst dX6_fineAt_39 (by decide +kernel : Int32.ofInt (2) = (2 : Int32)) ?_
  exact zi_goto (tgt := 44) dX6_fineAt_40 (by decide +kernel) kk
theorem sX6_fineAt_43 {g : ZG} {Q : ZQ} {d cN sN : Nat} {M : ZM} {t0 : Int32} {o0 o1 o2 o3 : Option Value}  (kk : Z g kX6_fineAt Q d cN sN M 44 [o0, o1, o2, o3] [.int 1, .int t0]) : Z g kX6_fineAt Q d cN sN M 43 [o0, o1, o2, o3] [.int t0] := by
  refine zi_iconst dX6_fineAt_43 (by decide +kernel : Int32.ofInt (1) = (1 : Int32)) ?_
  exact kk
theorem sX6_fineAt_44 {g : ZG} {Q : ZQ} {d cN sN : Nat} {M : ZM} {t0 : Int32} {t1 : Int32} {o0 o1 o2 o3 : Option Value}  (kk : Z g kX6_fineAt Q d cN sN M 45 [o0, o1, o2, o3] [.int (t0 * t1)]) : Z g kX6_fineAt Q d cN sN M 44 [o0, o1, o2, o3] [.int t1, .int t0] := by
  refine zi_imul dX6_fineAt_44 ?_
  exact kk
theorem sX6_fineAt_45 {g : ZG} {Q : ZQ} {d cN sN : Nat} {M : ZM} {t0 : Int32} {o0 o1 o2 o3 : Option Value}  (kk : Q.1 (some (.int t0)) M) : Z g kX6_fineAt Q d cN sN M 45 [o0, o1, o2, o3] [.int t0] := by
  exact zi_ireturn dX6_fineAt_45 rfl rfl kk
abbrev kX6_bad : ZK := (RX6, cX6_bad, 3, (Option.some Jvm.ClassFile.FieldType.int), [], false, fX6)
abbrev tX6_bad (g : ZG) (args : List Value) (M : ZM) (d c s : Nat) (Q : ZQ) : Prop := Ct g yX6_bad (ws_ yX6_bad cX6_bad 3 (Option.some Jvm.ClassFile.FieldType.int)) args M d c s Q
abbrev nX6_bad : Nat := 2
theorem mX6_bad : zMok yX6_bad 2 3 := ⟨⟨by decide +kernel, by decide +kernel, by decide +kernel⟩, by decide⟩
theorem eX6_bad {g : ZG} {Q : ZQ} {d cN sN : Nat} {M : ZM} {a0 : Nat} {x1 : Int32} {x2 : Int32} (hV : zV g) (h : Z g kX6_bad Q d cN sN M 0 [some (.ref a0), some (.int x1), some (.int x2)] []) : tX6_bad g [.ref a0, .int x1, .int x2] M d cN sN Q := Ct.of (K := kX6_bad) rfl (by decide +kernel) hV fokX6 rfl (fun h => by cases h) (fun v hv => by simp only [List.mem_cons, List.not_mem_nil, or_false] at hv; rcases hv with rfl | rfl | rfl <;> first | rfl | assumption) (Nat.le_of_ble_eq_true rfl) h
theorem sX6_bad_0 {g : ZG} {Q : ZQ} {d cN sN : Nat} {M : ZM} {l0 : Nat} {l1 : Int32} {l2 : Int32}  (kk : Z g kX6_bad Q d cN sN M 6 [some (.ref l0), some (.int l1), some (.int l2)] [.int (10 + l2), .int l1, .ref l0]) : Z g kX6_bad Q d cN sN M 0 [some (.ref l0), some (.int l1), some (.int l2)] [] := by
  refine zi_aload_n dX6_bad_0 rfl zrf_r ?_
  refine zi_iload_n dX6_bad_1 rfl ?_
  refine zi_bipush dX6_bad_2 (by decide +kernel : (Int8.ofInt (10)).toInt32 = (10 : Int32)) ?_
  refine zi_iload_n dX6_bad_4 rfl ?_
  refine zi_iadd dX6_bad_5 ?_
  exact kk
theorem sX6_bad_9 {g : ZG} {Q : ZQ} {d cN sN : Nat} {M : ZM} {t0 : Int32} {l0 : Nat} {l1 : Int32} {l2 : Int32}  (kk : Z g kX6_bad Q d cN sN M 14 [some (.ref l0), some (.int l1), some (.int l2)] [.int (2 + l2), .int l1, .ref l0, .int t0]) : Z g kX6_bad Q d cN sN M 9 [some (.ref l0), some (.int l1), some (.int l2)] [.int t0] := by
  refine zi_aload_n dX6_bad_9 rfl zrf_r ?_
  refine zi_iload_n dX6_bad_10 rfl ?_
  refine zi_iconst dX6_bad_11 (by decide +kernel : Int32.ofInt (2) = (2 : Int32)) ?_
  refine zi_iload_n dX6_bad_12 rfl ?_
  refine zi_iadd dX6_bad_13 ?_
  exact kk
theorem sX6_bad_20 {g : ZG} {Q : ZQ} {d cN sN : Nat} {M : ZM} {t0 : Int32} {o0 o1 o2 : Option Value}  (kk : Q.1 (some (.int t0)) M) : Z g kX6_bad Q d cN sN M 20 [o0, o1, o2] [.int t0] := by
  exact zi_ireturn dX6_bad_20 rfl rfl kk
abbrev kX6_apart : ZK := (RX6, cX6_apart, 2, (Option.some Jvm.ClassFile.FieldType.int), [], false, fX6)
abbrev tX6_apart (g : ZG) (args : List Value) (M : ZM) (d c s : Nat) (Q : ZQ) : Prop := Ct g yX6_apart (ws_ yX6_apart cX6_apart 2 (Option.some Jvm.ClassFile.FieldType.int)) args M d c s Q
abbrev nX6_apart : Nat := 1
theorem mX6_apart : zMok yX6_apart 2 2 := ⟨⟨by decide +kernel, by decide +kernel, by decide +kernel⟩, by decide⟩
theorem eX6_apart {g : ZG} {Q : ZQ} {d cN sN : Nat} {M : ZM} {x1 : Int32} {x2 : Int32} (hV : zV g) (h : Z g kX6_apart Q d cN sN M 0 [some (.int x1), some (.int x2)] []) : tX6_apart g [.int x1, .int x2] M d cN sN Q := Ct.of (K := kX6_apart) rfl (by decide +kernel) hV fokX6 rfl (fun h => by cases h) (fun v hv => by simp only [List.mem_cons, List.not_mem_nil, or_false] at hv; rcases hv with rfl | rfl <;> first | rfl | assumption) (Nat.le_of_ble_eq_true rfl) h
theorem sX6_apart_0 {g : ZG} {Q : ZQ} {d cN sN : Nat} {M : ZM} {l0 : Int32} {l1 : Int32}  (kt : (l1 : Int32) ≤ (l0 : Int32) → Z g kX6_apart Q d cN sN M 11 [some (.int l0), some (.int l1)] []) (kf : ¬ (l1 : Int32) ≤ (l0 : Int32) → Z g kX6_apart Q d cN sN M 5 [some (.int l0), some (.int l1)] []) : Z g kX6_apart Q d cN sN M 0 [some (.int l0), some (.int l1)] [] := by
  refine zi_iload_n dX6_apart_0 rfl ?_
  refine zi_iload_n dX6_apart_1 rfl ?_
  exact zi_icmp_ge (tgt := 11) dX6_apart_2 (by decide +kernel) kt kf
theorem sX6_apart_5 {g : ZG} {Q : ZQ} {d cN sN : Nat} {M : ZM} {l1 : Int32} {l0 : Int32}  (kk : Z g kX6_apart Q d cN sN M 14 [some (.int l0), some (.int l1)] [.int (l1 - l0)]) : Z g kX6_apart Q d cN sN M 5 [some (.int l0), some (.int l1)] [] := by
  refine zi_iload_n dX6_apart_5 rfl ?_
  refine zi_iload_n dX6_apart_6 rfl ?_
  refine zi_isub dX6_apart_7 ?_
  exact zi_goto (tgt := 14) dX6_apart_8 (by decide +kernel) kk
theorem sX6_apart_11 {g : ZG} {Q : ZQ} {d cN sN : Nat} {M : ZM} {l0 : Int32} {l1 : Int32}  (kk : Z g kX6_apart Q d cN sN M 14 [some (.int l0), some (.int l1)] [.int (l0 - l1)]) : Z g kX6_apart Q d cN sN M 11 [some (.int l0), some (.int l1)] [] := by
  refine zi_iload_n dX6_apart_11 rfl ?_
  refine zi_iload_n dX6_apart_12 rfl ?_
  refine zi_isub dX6_apart_13 ?_
  exact kk
theorem sX6_apart_14 {g : ZG} {Q : ZQ} {d cN sN : Nat} {M : ZM} {t0 : Int32} {o0 o1 : Option Value}  (kk : Q.1 (some (.int t0)) M) : Z g kX6_apart Q d cN sN M 14 [o0, o1] [.int t0] := by
  exact zi_ireturn dX6_apart_14 rfl rfl kk
abbrev kX6_reader : ZK := (RX6, cX6_reader, 3, (Option.some Jvm.ClassFile.FieldType.int), [], false, fX6)
abbrev tX6_reader (g : ZG) (args : List Value) (M : ZM) (d c s : Nat) (Q : ZQ) : Prop := Ct g yX6_reader (ws_ yX6_reader cX6_reader 3 (Option.some Jvm.ClassFile.FieldType.int)) args M d c s Q
abbrev nX6_reader : Nat := 3
theorem mX6_reader : zMok yX6_reader 2 3 := ⟨⟨by decide +kernel, by decide +kernel, by decide +kernel⟩, by decide⟩
theorem eX6_reader {g : ZG} {Q : ZQ} {d cN sN : Nat} {M : ZM} {a0 : Nat} {x1 : Int32} {x2 : Int32} (hV : zV g) (h : Z g kX6_reader Q d cN sN M 0 [some (.ref a0), some (.int x1), some (.int x2)] []) : tX6_reader g [.ref a0, .int x1, .int x2] M d cN sN Q := Ct.of (K := kX6_reader) rfl (by decide +kernel) hV fokX6 rfl (fun h => by cases h) (fun v hv => by simp only [List.mem_cons, List.not_mem_nil, or_false] at hv; rcases hv with rfl | rfl | rfl <;> first | rfl | assumption) (Nat.le_of_ble_eq_true rfl) h
theorem sX6_reader_0 {g : ZG} {Q : ZQ} {d cN sN : Nat} {M : ZM} {l0 : Nat} {l1 : Int32} {o2 : Option Value}  (kk : Z g kX6_reader Q d cN sN M 4 [some (.ref l0), some (.int l1), o2] [.int 1, .int 0, .int l1, .ref l0]) : Z g kX6_reader Q d cN sN M 0 [some (.ref l0), some (.int l1), o2] [] := by
  refine zi_aload_n dX6_reader_0 rfl zrf_r ?_
  refine zi_iload_n dX6_reader_1 rfl ?_
  refine zi_iconst dX6_reader_2 (by decide +kernel : Int32.ofInt (0) = (0 : Int32)) ?_
  refine zi_iconst dX6_reader_3 (by decide +kernel : Int32.ofInt (1) = (1 : Int32)) ?_
  exact kk
theorem sX6_reader_7 {g : ZG} {Q : ZQ} {d cN sN : Nat} {M : ZM} {t0 : Nat} {t1 : Int32} {o0 o1 o2 : Option Value}  (kt : (t1 : Int32) = 0 → Z g kX6_reader Q d cN sN M 24 [o0, o1, o2] [.ref t0]) (kf : ¬ (t1 : Int32) = 0 → Z g kX6_reader Q d cN sN M 10 [o0, o1, o2] [.ref t0]) : Z g kX6_reader Q d cN sN M 7 [o0, o1, o2] [.int t1, .ref t0] := by
  exact zi_if_eq (tgt := 24) dX6_reader_7 (by decide +kernel) kt kf
theorem sX6_reader_10 {g : ZG} {Q : ZQ} {d cN sN : Nat} {M : ZM} {t0 : Nat} {l2 : Int32} {o0 o1 : Option Value}  (kk : Z g kX6_reader Q d cN sN M 14 [o0, o1, some (.int l2)] [.int 6, .int 1, .int l2, .ref t0]) : Z g kX6_reader Q d cN sN M 10 [o0, o1, some (.int l2)] [.ref t0] := by
  refine zi_iload_n dX6_reader_10 rfl ?_
  refine zi_iconst dX6_reader_11 (by decide +kernel : Int32.ofInt (1) = (1 : Int32)) ?_
  refine zi_bipush dX6_reader_12 (by decide +kernel : (Int8.ofInt (6)).toInt32 = (6 : Int32)) ?_
  exact kk
theorem sX6_reader_17 {g : ZG} {Q : ZQ} {d cN sN : Nat} {M : ZM} {t0 : Nat} {t1 : Int32} {o0 o1 o2 : Option Value}  (kt : (t1 : Int32) = 0 → Z g kX6_reader Q d cN sN M 24 [o0, o1, o2] [.ref t0]) (kf : ¬ (t1 : Int32) = 0 → Z g kX6_reader Q d cN sN M 20 [o0, o1, o2] [.ref t0]) : Z g kX6_reader Q d cN sN M 17 [o0, o1, o2] [.int t1, .ref t0] := by
  exact zi_if_eq (tgt := 24) dX6_reader_17 (by decide +kernel) kt kf
theorem sX6_reader_20 {g : ZG} {Q : ZQ} {d cN sN : Nat} {M : ZM} {t0 : Nat} {o0 o1 o2 : Option Value}  (kk : Z g kX6_reader Q d cN sN M 25 [o0, o1, o2] [.int 0, .ref t0]) : Z g kX6_reader Q d cN sN M 20 [o0, o1, o2] [.ref t0] := by
  refine zi_iconst dX6_reader_20 (by decide +kernel : Int32.ofInt (0) = (0 : Int32)) ?_
  exact zi_goto (tgt := 25) dX6_reader_21 (by decide +kernel) kk
theorem sX6_reader_24 {g : ZG} {Q : ZQ} {d cN sN : Nat} {M : ZM} {t0 : Nat} {o0 o1 o2 : Option Value}  (kk : Z g kX6_reader Q d cN sN M 25 [o0, o1, o2] [.int 1, .ref t0]) : Z g kX6_reader Q d cN sN M 24 [o0, o1, o2] [.ref t0] := by
  refine zi_iconst dX6_reader_24 (by decide +kernel : Int32.ofInt (1) = (1 : Int32)) ?_
  exact kk
theorem sX6_reader_28 {g : ZG} {Q : ZQ} {d cN sN : Nat} {M : ZM} {t0 : Int32} {o0 o1 o2 : Option Value}  (kt : (t0 : Int32) = 0 → Z g kX6_reader Q d cN sN M 33 [o0, o1, o2] []) (kf : ¬ (t0 : Int32) = 0 → Z g kX6_reader Q d cN sN M 31 [o0, o1, o2] []) : Z g kX6_reader Q d cN sN M 28 [o0, o1, o2] [.int t0] := by
  exact zi_if_eq (tgt := 33) dX6_reader_28 (by decide +kernel) kt kf
theorem sX6_reader_31 {g : ZG} {Q : ZQ} {d cN sN : Nat} {M : ZM} {o0 o1 o2 : Option Value}  (kk : Q.1 (some (.int 0)) M) : Z g kX6_reader Q d cN sN M 31 [o0, o1, o2] [] := by
  refine zi_iconst dX6_reader_31 (by decide +kernel : Int32.ofInt (0) = (0 : Int32)) ?_
  exact zi_ireturn dX6_reader_32 rfl rfl kk
theorem sX6_reader_33 {g : ZG} {Q : ZQ} {d cN sN : Nat} {M : ZM} {l0 : Nat} {fs1 : List Value} {r3 : Nat} {n5 : Nat} {f6 : Nat → Int32} {o1 o2 : Option Value} (h2 : M.1 l0 = some (.inr (5, fs1))) (h4 : (fs1)[0]? = some (.ref r3)) (h7 : M.1 r3 = some (.inl (zA g 0, n5, .inl f6))) (h8 : vp_in (2) n5) (kt : ¬ (f6 ((2 : Int32).toNatClampNeg) : Int32) = (5 : Int32) → Z g kX6_reader Q d cN sN M 51 [some (.ref l0), o1, o2] []) (kf : (f6 ((2 : Int32).toNatClampNeg) : Int32) = (5 : Int32) → Z g kX6_reader Q d cN sN M 43 [some (.ref l0), o1, o2] []) : Z g kX6_reader Q d cN sN M 33 [some (.ref l0), o1, o2] [] := by
  refine zi_aload_n dX6_reader_33 rfl zrf_r ?_
  refine zi_getfield dX6_reader_34 rfl h2 h4 ?_
  refine zi_iconst dX6_reader_37 (by decide +kernel : Int32.ofInt (2) = (2 : Int32)) ?_
  refine zi_iaload dX6_reader_38 h7 h8 ?_
  refine zi_iconst dX6_reader_39 (by decide +kernel : Int32.ofInt (5) = (5 : Int32)) ?_
  exact zi_icmp_ne (tgt := 51) dX6_reader_40 (by decide +kernel) kt kf
theorem sX6_reader_43 {g : ZG} {Q : ZQ} {d cN sN : Nat} {M : ZM} {l0 : Nat} {o1 o2 : Option Value}  (kk : Z g kX6_reader Q d cN sN M 47 [some (.ref l0), o1, o2] [.int 5, .int 1, .int 2, .ref l0]) : Z g kX6_reader Q d cN sN M 43 [some (.ref l0), o1, o2] [] := by
  refine zi_aload_n dX6_reader_43 rfl zrf_r ?_
  refine zi_iconst dX6_reader_44 (by decide +kernel : Int32.ofInt (2) = (2 : Int32)) ?_
  refine zi_iconst dX6_reader_45 (by decide +kernel : Int32.ofInt (1) = (1 : Int32)) ?_
  refine zi_iconst dX6_reader_46 (by decide +kernel : Int32.ofInt (5) = (5 : Int32)) ?_
  exact kk
theorem sX6_reader_50 {g : ZG} {Q : ZQ} {d cN sN : Nat} {M : ZM} {t0 : Int32} {o0 o1 o2 : Option Value}  (kk : Q.1 (some (.int t0)) M) : Z g kX6_reader Q d cN sN M 50 [o0, o1, o2] [.int t0] := by
  exact zi_ireturn dX6_reader_50 rfl rfl kk
theorem sX6_reader_51 {g : ZG} {Q : ZQ} {d cN sN : Nat} {M : ZM} {l0 : Nat} {fs1 : List Value} {r3 : Nat} {o1 o2 : Option Value} (h2 : M.1 l0 = some (.inr (5, fs1))) (h4 : (fs1)[0]? = some (.ref r3)) (kk : Z g kX6_reader Q d cN sN M 56 [some (.ref l0), o1, o2] [.ref r3, .ref l0]) : Z g kX6_reader Q d cN sN M 51 [some (.ref l0), o1, o2] [] := by
  refine zi_aload_n dX6_reader_51 rfl zrf_r ?_
  refine zi_aload_n dX6_reader_52 rfl zrf_r ?_
  refine zi_getfield dX6_reader_53 rfl h2 h4 ?_
  exact kk
theorem sX6_reader_59 {g : ZG} {Q : ZQ} {d cN sN : Nat} {M : ZM} {l0 : Nat} {fs1 : List Value} {r3 : Nat} {n5 : Nat} {f6 : Nat → Int32} {l1 : Int32} {fs10 : List Value} {r12 : Nat} {n14 : Nat} {f15 : Nat → Int32} {l2 : Int32} {fs19 : List Value} {r21 : Nat} {n23 : Nat} {f24 : Nat → Int32} {fs27 : List Value} {r29 : Nat} {n31 : Nat} {f32 : Nat → Int32} (h2 : M.1 l0 = some (.inr (5, fs1))) (h4 : (fs1)[0]? = some (.ref r3)) (h7 : M.1 r3 = some (.inl (zA g 0, n5, .inl f6))) (h8 : vp_in (2) n5) (h9 : vp_in (230 + (2 * (f6 ((2 : Int32).toNatClampNeg)))) n5) (h11 : (zup M r3 (.inl (zA g 0, n5, .inl (upd f6 ((230 + (2 * (f6 ((2 : Int32).toNatClampNeg))) : Int32).toNatClampNeg) (l1))))).1 l0 = some (.inr (5, fs10))) (h13 : (fs10)[0]? = some (.ref r12)) (h16 : (zup M r3 (.inl (zA g 0, n5, .inl (upd f6 ((230 + (2 * (f6 ((2 : Int32).toNatClampNeg))) : Int32).toNatClampNeg) (l1))))).1 r12 = some (.inl (zA g 0, n14, .inl f15))) (h17 : vp_in (2) n14) (h18 : vp_in ((230 + (2 * (f15 ((2 : Int32).toNatClampNeg)))) + 1) n14) (h20 : (zup (zup M r3 (.inl (zA g 0, n5, .inl (upd f6 ((230 + (2 * (f6 ((2 : Int32).toNatClampNeg))) : Int32).toNatClampNeg) (l1))))) r12 (.inl (zA g 0, n14, .inl (upd f15 (((230 + (2 * (f15 ((2 : Int32).toNatClampNeg)))) + 1 : Int32).toNatClampNeg) (l2))))).1 l0 = some (.inr (5, fs19))) (h22 : (fs19)[0]? = some (.ref r21)) (h25 : (zup (zup M r3 (.inl (zA g 0, n5, .inl (upd f6 ((230 + (2 * (f6 ((2 : Int32).toNatClampNeg))) : Int32).toNatClampNeg) (l1))))) r12 (.inl (zA g 0, n14, .inl (upd f15 (((230 + (2 * (f15 ((2 : Int32).toNatClampNeg)))) + 1 : Int32).toNatClampNeg) (l2))))).1 r21 = some (.inl (zA g 0, n23, .inl f24))) (h26 : vp_in (2) n23) (h28 : (zup (zup (zup M r3 (.inl (zA g 0, n5, .inl (upd f6 ((230 + (2 * (f6 ((2 : Int32).toNatClampNeg))) : Int32).toNatClampNeg) (l1))))) r12 (.inl (zA g 0, n14, .inl (upd f15 (((230 + (2 * (f15 ((2 : Int32).toNatClampNeg)))) + 1 : Int32).toNatClampNeg) (l2))))) r21 (.inl (zA g 0, n23, .inl (upd f24 ((2 : Int32).toNatClampNeg) ((f24 ((2 : Int32).toNatClampNeg)) + 1))))).1 l0 = some (.inr (5, fs27))) (h30 : (fs27)[0]? = some (.ref r29)) (h33 : (zup (zup (zup M r3 (.inl (zA g 0, n5, .inl (upd f6 ((230 + (2 * (f6 ((2 : Int32).toNatClampNeg))) : Int32).toNatClampNeg) (l1))))) r12 (.inl (zA g 0, n14, .inl (upd f15 (((230 + (2 * (f15 ((2 : Int32).toNatClampNeg)))) + 1 : Int32).toNatClampNeg) (l2))))) r21 (.inl (zA g 0, n23, .inl (upd f24 ((2 : Int32).toNatClampNeg) ((f24 ((2 : Int32).toNatClampNeg)) + 1))))).1 r29 = some (.inl (zA g 0, n31, .inl f32))) (h34 : vp_in (2) n31) (kk : Q.1 (some (.int ((f32 ((2 : Int32).toNatClampNeg)) - 1))) (zup (zup (zup M r3 (.inl (zA g 0, n5, .inl (upd f6 ((230 + (2 * (f6 ((2 : Int32).toNatClampNeg))) : Int32).toNatClampNeg) (l1))))) r12 (.inl (zA g 0, n14, .inl (upd f15 (((230 + (2 * (f15 ((2 : Int32).toNatClampNeg)))) + 1 : Int32).toNatClampNeg) (l2))))) r21 (.inl (zA g 0, n23, .inl (upd f24 ((2 : Int32).toNatClampNeg) ((f24 ((2 : Int32).toNatClampNeg)) + 1)))))) : Z g kX6_reader Q d cN sN M 59 [some (.ref l0), some (.int l1), some (.int l2)] [] := by
  refine zi_aload_n dX6_reader_59 rfl zrf_r ?_
  refine zi_getfield dX6_reader_60 rfl h2 h4 ?_
  refine zi_sipush dX6_reader_63 (by decide +kernel : (Int16.ofInt (230)).toInt32 = (230 : Int32)) ?_
  refine zi_iconst dX6_reader_66 (by decide +kernel : Int32.ofInt (2) = (2 : Int32)) ?_
  refine zi_aload_n dX6_reader_67 rfl zrf_r ?_
  refine zi_getfield dX6_reader_68 rfl h2 h4 ?_
  refine zi_iconst dX6_reader_71 (by decide +kernel : Int32.ofInt (2) = (2 : Int32)) ?_
  refine zi_iaload dX6_reader_72 h7 h8 ?_
  refine zi_imul dX6_reader_73 ?_
  refine zi_iadd dX6_reader_74 ?_
  refine zi_iload_n dX6_reader_75 rfl ?_
  refine zi_iastore dX6_reader_76 h7 h9 ?_
  refine zi_aload_n dX6_reader_77 rfl zrf_r ?_
  refine zi_getfield dX6_reader_78 rfl h11 h13 ?_
  refine zi_sipush dX6_reader_81 (by decide +kernel : (Int16.ofInt (230)).toInt32 = (230 : Int32)) ?_
  refine zi_iconst dX6_reader_84 (by decide +kernel : Int32.ofInt (2) = (2 : Int32)) ?_
  refine zi_aload_n dX6_reader_85 rfl zrf_r ?_
  refine zi_getfield dX6_reader_86 rfl h11 h13 ?_
  refine zi_iconst dX6_reader_89 (by decide +kernel : Int32.ofInt (2) = (2 : Int32)) ?_
  refine zi_iaload dX6_reader_90 h16 h17 ?_
  refine zi_imul dX6_reader_91 ?_
  refine zi_iadd dX6_reader_92 ?_
  refine zi_iconst dX6_reader_93 (by decide +kernel : Int32.ofInt (1) = (1 : Int32)) ?_
  refine zi_iadd dX6_reader_94 ?_
  refine zi_iload_n dX6_reader_95 rfl ?_
  refine zi_iastore dX6_reader_96 h16 h18 ?_
  refine zi_aload_n dX6_reader_97 rfl zrf_r ?_
  refine zi_getfield dX6_reader_98 rfl h20 h22 ?_
  refine zi_iconst dX6_reader_101 (by decide +kernel : Int32.ofInt (2) = (2 : Int32)) ?_
  refine zi_dup2 dX6_reader_102 rfl rfl ?_
  refine zi_iaload dX6_reader_103 h25 h26 ?_
  refine zi_iconst dX6_reader_104 (by decide +kernel : Int32.ofInt (1) = (1 : Int32)) ?_
  refine zi_iadd dX6_reader_105 ?_
  refine zi_iastore dX6_reader_106 h25 h26 ?_
  refine zi_aload_n dX6_reader_107 rfl zrf_r ?_
  refine zi_getfield dX6_reader_108 rfl h28 h30 ?_
  refine zi_iconst dX6_reader_111 (by decide +kernel : Int32.ofInt (2) = (2 : Int32)) ?_
  refine zi_iaload dX6_reader_112 h33 h34 ?_
  refine zi_iconst dX6_reader_113 (by decide +kernel : Int32.ofInt (1) = (1 : Int32)) ?_
  refine zi_isub dX6_reader_114 ?_
  exact zi_ireturn dX6_reader_115 rfl rfl kk
abbrev kX6_edition : ZK := (RX6, cX6_edition, 4, (Option.some Jvm.ClassFile.FieldType.int), [], false, fX6)
abbrev tX6_edition (g : ZG) (args : List Value) (M : ZM) (d c s : Nat) (Q : ZQ) : Prop := Ct g yX6_edition (ws_ yX6_edition cX6_edition 4 (Option.some Jvm.ClassFile.FieldType.int)) args M d c s Q
abbrev nX6_edition : Nat := 5
theorem mX6_edition : zMok yX6_edition 0 4 := ⟨⟨by decide +kernel, by decide +kernel, by decide +kernel⟩, by decide⟩
theorem eX6_edition {g : ZG} {Q : ZQ} {d cN sN : Nat} {M : ZM} {a0 : Nat} (hV : zV g) (h : Z g kX6_edition Q d cN sN M 0 [some (.ref a0), none, none, none] []) : tX6_edition g [.ref a0] M d cN sN Q := Ct.of (K := kX6_edition) rfl (by decide +kernel) hV fokX6 rfl (fun h => by cases h) (fun v hv => by simp only [List.mem_cons, List.not_mem_nil, or_false] at hv; rcases hv with rfl <;> first | rfl | assumption) (Nat.le_of_ble_eq_true rfl) h
theorem sX6_edition_0 {g : ZG} {Q : ZQ} {d cN sN : Nat} {M : ZM} {l0 : Nat} {o1 o2 o3 : Option Value}  (kk : Z g kX6_edition Q d cN sN M 1 [some (.ref l0), o1, o2, o3] [.ref l0]) : Z g kX6_edition Q d cN sN M 0 [some (.ref l0), o1, o2, o3] [] := by
  refine zi_aload_n dX6_edition_0 rfl zrf_r ?_
  exact kk
theorem sX6_edition_4 {g : ZG} {Q : ZQ} {d cN sN : Nat} {M : ZM} {t0 : Int32} {o0 o1 o2 o3 : Option Value}  (kt : ¬ (t0 : Int32) = 0 → Z g kX6_edition Q d cN sN M 21 [o0, o1, o2, o3] []) (kf : (t0 : Int32) = 0 → Z g kX6_edition Q d cN sN M 7 [o0, o1, o2, o3] []) : Z g kX6_edition Q d cN sN M 4 [o0, o1, o2, o3] [.int t0] := by
  exact zi_if_ne (tgt := 21) dX6_edition_4 (by decide +kernel) kt kf
theorem sX6_edition_7 {g : ZG} {Q : ZQ} {d cN sN : Nat} {M : ZM} {l0 : Nat} {fs1 : List Value} {r3 : Nat} {n5 : Nat} {f6 : Nat → Int32} {o1 o2 o3 : Option Value} (h2 : M.1 l0 = some (.inr (5, fs1))) (h4 : (fs1)[0]? = some (.ref r3)) (h7 : M.1 r3 = some (.inl (zA g 0, n5, .inl f6))) (h8 : vp_in (4) n5) (kk : Z g kX6_edition Q d cN sN M 17 [some (.ref l0), o1, o2, o3] [.int (f6 ((4 : Int32).toNatClampNeg)), .int 8, .int 1, .ref l0]) : Z g kX6_edition Q d cN sN M 7 [some (.ref l0), o1, o2, o3] [] := by
  refine zi_aload_n dX6_edition_7 rfl zrf_r ?_
  refine zi_iconst dX6_edition_8 (by decide +kernel : Int32.ofInt (1) = (1 : Int32)) ?_
  refine zi_bipush dX6_edition_9 (by decide +kernel : (Int8.ofInt (8)).toInt32 = (8 : Int32)) ?_
  refine zi_aload_n dX6_edition_11 rfl zrf_r ?_
  refine zi_getfield dX6_edition_12 rfl h2 h4 ?_
  refine zi_iconst dX6_edition_15 (by decide +kernel : Int32.ofInt (4) = (4 : Int32)) ?_
  refine zi_iaload dX6_edition_16 h7 h8 ?_
  exact kk
theorem sX6_edition_20 {g : ZG} {Q : ZQ} {d cN sN : Nat} {M : ZM} {t0 : Int32} {o0 o1 o2 o3 : Option Value}  (kk : Q.1 (some (.int t0)) M) : Z g kX6_edition Q d cN sN M 20 [o0, o1, o2, o3] [.int t0] := by
  exact zi_ireturn dX6_edition_20 rfl rfl kk
theorem sX6_edition_21 {g : ZG} {Q : ZQ} {d cN sN : Nat} {M : ZM} {l0 : Nat} {fs1 : List Value} {r3 : Nat} {o1 o2 o3 : Option Value} (h2 : M.1 l0 = some (.inr (5, fs1))) (h4 : (fs1)[0]? = some (.ref r3)) (kk : Z g kX6_edition Q d cN sN M 26 [some (.ref l0), o1, o2, o3] [.ref r3, .ref l0]) : Z g kX6_edition Q d cN sN M 21 [some (.ref l0), o1, o2, o3] [] := by
  refine zi_aload_n dX6_edition_21 rfl zrf_r ?_
  refine zi_aload_n dX6_edition_22 rfl zrf_r ?_
  refine zi_getfield dX6_edition_23 rfl h2 h4 ?_
  exact kk
theorem sX6_edition_29 {g : ZG} {Q : ZQ} {d cN sN : Nat} {M : ZM} {o0 o1 o2 o3 : Option Value}  (kk : Z g kX6_edition Q d cN sN M 33 [o0, some (.int 0), some (.int 0), o3] []) : Z g kX6_edition Q d cN sN M 29 [o0, o1, o2, o3] [] := by
  refine zi_iconst dX6_edition_29 (by decide +kernel : Int32.ofInt (0) = (0 : Int32)) ?_
  refine zi_istore_n dX6_edition_30 (Nat.le_of_ble_eq_true rfl) ?_
  refine zi_iconst dX6_edition_31 (by decide +kernel : Int32.ofInt (0) = (0 : Int32)) ?_
  refine zi_istore_n dX6_edition_32 (Nat.le_of_ble_eq_true rfl) ?_
  exact kk
theorem sX6_edition_33 {g : ZG} {Q : ZQ} {d cN sN : Nat} {M : ZM} {l2 : Int32} {l0 : Nat} {fs1 : List Value} {r3 : Nat} {n5 : Nat} {f6 : Nat → Int32} {o1 o3 : Option Value} (h2 : M.1 l0 = some (.inr (5, fs1))) (h4 : (fs1)[0]? = some (.ref r3)) (h7 : M.1 r3 = some (.inl (zA g 0, n5, .inl f6))) (h8 : vp_in (1) n5) (kt : (f6 ((1 : Int32).toNatClampNeg) : Int32) ≤ (l2 : Int32) → Z g kX6_edition Q d cN sN M 143 [some (.ref l0), o1, some (.int l2), o3] []) (kf : ¬ (f6 ((1 : Int32).toNatClampNeg) : Int32) ≤ (l2 : Int32) → Z g kX6_edition Q d cN sN M 43 [some (.ref l0), o1, some (.int l2), o3] []) : Z g kX6_edition Q d cN sN M 33 [some (.ref l0), o1, some (.int l2), o3] [] := by
  refine zi_iload_n dX6_edition_33 rfl ?_
  refine zi_aload_n dX6_edition_34 rfl zrf_r ?_
  refine zi_getfield dX6_edition_35 rfl h2 h4 ?_
  refine zi_iconst dX6_edition_38 (by decide +kernel : Int32.ofInt (1) = (1 : Int32)) ?_
  refine zi_iaload dX6_edition_39 h7 h8 ?_
  exact zi_icmp_ge (tgt := 143) dX6_edition_40 (by decide +kernel) kt kf
theorem sX6_edition_43 {g : ZG} {Q : ZQ} {d cN sN : Nat} {M : ZM} {o0 o1 o2 o3 : Option Value}  (kk : Z g kX6_edition Q d cN sN M 45 [o0, o1, o2, some (.int 0)] []) : Z g kX6_edition Q d cN sN M 43 [o0, o1, o2, o3] [] := by
  refine zi_iconst dX6_edition_43 (by decide +kernel : Int32.ofInt (0) = (0 : Int32)) ?_
  refine zi_istore_n dX6_edition_44 (Nat.le_of_ble_eq_true rfl) ?_
  exact kk
theorem sX6_edition_45 {g : ZG} {Q : ZQ} {d cN sN : Nat} {M : ZM} {l3 : Int32} {l0 : Nat} {l2 : Int32} {o1 : Option Value}  (kk : Z g kX6_edition Q d cN sN M 49 [some (.ref l0), o1, some (.int l2), some (.int l3)] [.int 1, .int l2, .ref l0, .int l3]) : Z g kX6_edition Q d cN sN M 45 [some (.ref l0), o1, some (.int l2), some (.int l3)] [] := by
  refine zi_iload_n dX6_edition_45 rfl ?_
  refine zi_aload_n dX6_edition_46 rfl zrf_r ?_
  refine zi_iload_n dX6_edition_47 rfl ?_
  refine zi_iconst dX6_edition_48 (by decide +kernel : Int32.ofInt (1) = (1 : Int32)) ?_
  exact kk
theorem sX6_edition_52 {g : ZG} {Q : ZQ} {d cN sN : Nat} {M : ZM} {t0 : Int32} {t1 : Int32} {o0 o1 o2 o3 : Option Value}  (kt : (t1 : Int32) ≤ (t0 : Int32) → Z g kX6_edition Q d cN sN M 137 [o0, o1, o2, o3] []) (kf : ¬ (t1 : Int32) ≤ (t0 : Int32) → Z g kX6_edition Q d cN sN M 55 [o0, o1, o2, o3] []) : Z g kX6_edition Q d cN sN M 52 [o0, o1, o2, o3] [.int t1, .int t0] := by
  exact zi_icmp_ge (tgt := 137) dX6_edition_52 (by decide +kernel) kt kf
theorem sX6_edition_55 {g : ZG} {Q : ZQ} {d cN sN : Nat} {M : ZM} {l0 : Nat} {l2 : Int32} {l3 : Int32} {o1 : Option Value}  (kk : Z g kX6_edition Q d cN sN M 58 [some (.ref l0), o1, some (.int l2), some (.int l3)] [.int l3, .int l2, .ref l0]) : Z g kX6_edition Q d cN sN M 55 [some (.ref l0), o1, some (.int l2), some (.int l3)] [] := by
  refine zi_aload_n dX6_edition_55 rfl zrf_r ?_
  refine zi_iload_n dX6_edition_56 rfl ?_
  refine zi_iload_n dX6_edition_57 rfl ?_
  exact kk
theorem sX6_edition_61 {g : ZG} {Q : ZQ} {d cN sN : Nat} {M : ZM} {t0 : Int32} {o0 o1 o2 o3 : Option Value}  (kt : (t0 : Int32) = (2 : Int32) → Z g kX6_edition Q d cN sN M 68 [o0, o1, o2, o3] []) (kf : ¬ (t0 : Int32) = (2 : Int32) → Z g kX6_edition Q d cN sN M 65 [o0, o1, o2, o3] []) : Z g kX6_edition Q d cN sN M 61 [o0, o1, o2, o3] [.int t0] := by
  refine zi_iconst dX6_edition_61 (by decide +kernel : Int32.ofInt (2) = (2 : Int32)) ?_
  exact zi_icmp_eq (tgt := 68) dX6_edition_62 (by decide +kernel) kt kf
theorem sX6_edition_65 {g : ZG} {Q : ZQ} {d cN sN : Nat} {M : ZM} {o0 o1 o2 o3 : Option Value}  (kk : Z g kX6_edition Q d cN sN M 131 [o0, o1, o2, o3] []) : Z g kX6_edition Q d cN sN M 65 [o0, o1, o2, o3] [] := by
  exact zi_goto (tgt := 131) dX6_edition_65 (by decide +kernel) kk
theorem sX6_edition_68 {g : ZG} {Q : ZQ} {d cN sN : Nat} {M : ZM} {l0 : Nat} {l2 : Int32} {o1 o3 : Option Value}  (kk : Z g kX6_edition Q d cN sN M 72 [some (.ref l0), o1, some (.int l2), o3] [.int 0, .int l2, .ref l0, .ref l0]) : Z g kX6_edition Q d cN sN M 68 [some (.ref l0), o1, some (.int l2), o3] [] := by
  refine zi_aload_n dX6_edition_68 rfl zrf_r ?_
  refine zi_aload_n dX6_edition_69 rfl zrf_r ?_
  refine zi_iload_n dX6_edition_70 rfl ?_
  refine zi_iconst dX6_edition_71 (by decide +kernel : Int32.ofInt (0) = (0 : Int32)) ?_
  exact kk
theorem sX6_edition_75 {g : ZG} {Q : ZQ} {d cN sN : Nat} {M : ZM} {t0 : Nat} {t1 : Int32} {l0 : Nat} {l2 : Int32} {l3 : Int32} {o1 : Option Value}  (kk : Z g kX6_edition Q d cN sN M 79 [some (.ref l0), o1, some (.int l2), some (.int l3)] [.int l3, .int l2, .ref l0, .int 1, .int t1, .ref t0]) : Z g kX6_edition Q d cN sN M 75 [some (.ref l0), o1, some (.int l2), some (.int l3)] [.int t1, .ref t0] := by
  refine zi_iconst dX6_edition_75 (by decide +kernel : Int32.ofInt (1) = (1 : Int32)) ?_
  refine zi_aload_n dX6_edition_76 rfl zrf_r ?_
  refine zi_iload_n dX6_edition_77 rfl ?_
  refine zi_iload_n dX6_edition_78 rfl ?_
  exact kk
theorem sX6_edition_85 {g : ZG} {Q : ZQ} {d cN sN : Nat} {M : ZM} {l0 : Nat} {l2 : Int32} {o1 o3 : Option Value}  (kk : Z g kX6_edition Q d cN sN M 89 [some (.ref l0), o1, some (.int l2), o3] [.int 0, .int l2, .ref l0, .ref l0]) : Z g kX6_edition Q d cN sN M 85 [some (.ref l0), o1, some (.int l2), o3] [] := by
  refine zi_aload_n dX6_edition_85 rfl zrf_r ?_
  refine zi_aload_n dX6_edition_86 rfl zrf_r ?_
  refine zi_iload_n dX6_edition_87 rfl ?_
  refine zi_iconst dX6_edition_88 (by decide +kernel : Int32.ofInt (0) = (0 : Int32)) ?_
  exact kk
theorem sX6_edition_92 {g : ZG} {Q : ZQ} {d cN sN : Nat} {M : ZM} {t0 : Nat} {t1 : Int32} {l0 : Nat} {l2 : Int32} {l3 : Int32} {o1 : Option Value}  (kk : Z g kX6_edition Q d cN sN M 96 [some (.ref l0), o1, some (.int l2), some (.int l3)] [.int l3, .int l2, .ref l0, .int 0, .int t1, .ref t0]) : Z g kX6_edition Q d cN sN M 92 [some (.ref l0), o1, some (.int l2), some (.int l3)] [.int t1, .ref t0] := by
  refine zi_iconst dX6_edition_92 (by decide +kernel : Int32.ofInt (0) = (0 : Int32)) ?_
  refine zi_aload_n dX6_edition_93 rfl zrf_r ?_
  refine zi_iload_n dX6_edition_94 rfl ?_
  refine zi_iload_n dX6_edition_95 rfl ?_
  exact kk
theorem sX6_edition_102 {g : ZG} {Q : ZQ} {d cN sN : Nat} {M : ZM} {l1 : Int32} {l0 : Nat} {l2 : Int32} {l3 : Int32}  (kk : Z g kX6_edition Q d cN sN M 106 [some (.ref l0), some (.int l1), some (.int l2), some (.int l3)] [.int l3, .int l2, .ref l0, .int l1]) : Z g kX6_edition Q d cN sN M 102 [some (.ref l0), some (.int l1), some (.int l2), some (.int l3)] [] := by
  refine zi_iload_n dX6_edition_102 rfl ?_
  refine zi_aload_n dX6_edition_103 rfl zrf_r ?_
  refine zi_iload_n dX6_edition_104 rfl ?_
  refine zi_iload_n dX6_edition_105 rfl ?_
  exact kk
theorem sX6_edition_109 {g : ZG} {Q : ZQ} {d cN sN : Nat} {M : ZM} {t0 : Int32} {t1 : Int32} {l0 : Nat} {l2 : Int32} {l3 : Int32} {o1 : Option Value}  (kk : Z g kX6_edition Q d cN sN M 118 [some (.ref l0), some (.int (t0 + t1)), some (.int l2), some (.int l3)] [.int 3, .int (18 + l3), .int l2, .ref l0]) : Z g kX6_edition Q d cN sN M 109 [some (.ref l0), o1, some (.int l2), some (.int l3)] [.int t1, .int t0] := by
  refine zi_iadd dX6_edition_109 ?_
  refine zi_istore_n dX6_edition_110 (Nat.le_of_ble_eq_true rfl) ?_
  refine zi_aload_n dX6_edition_111 rfl zrf_r ?_
  refine zi_iload_n dX6_edition_112 rfl ?_
  refine zi_bipush dX6_edition_113 (by decide +kernel : (Int8.ofInt (18)).toInt32 = (18 : Int32)) ?_
  refine zi_iload_n dX6_edition_115 rfl ?_
  refine zi_iadd dX6_edition_116 ?_
  refine zi_iconst dX6_edition_117 (by decide +kernel : Int32.ofInt (3) = (3 : Int32)) ?_
  exact kk
theorem sX6_edition_121 {g : ZG} {Q : ZQ} {d cN sN : Nat} {M : ZM} {l0 : Nat} {fs1 : List Value} {r3 : Nat} {n5 : Nat} {f6 : Nat → Int32} {o1 o2 o3 : Option Value} (h2 : M.1 l0 = some (.inr (5, fs1))) (h4 : (fs1)[0]? = some (.ref r3)) (h7 : M.1 r3 = some (.inl (zA g 0, n5, .inl f6))) (h8 : vp_in (5) n5) (kk : Z g kX6_edition Q d cN sN (zup M r3 (.inl (zA g 0, n5, .inl (upd f6 ((5 : Int32).toNatClampNeg) ((f6 ((5 : Int32).toNatClampNeg)) + 1))))) 131 [some (.ref l0), o1, o2, o3] []) : Z g kX6_edition Q d cN sN M 121 [some (.ref l0), o1, o2, o3] [] := by
  refine zi_aload_n dX6_edition_121 rfl zrf_r ?_
  refine zi_getfield dX6_edition_122 rfl h2 h4 ?_
  refine zi_iconst dX6_edition_125 (by decide +kernel : Int32.ofInt (5) = (5 : Int32)) ?_
  refine zi_dup2 dX6_edition_126 rfl rfl ?_
  refine zi_iaload dX6_edition_127 h7 h8 ?_
  refine zi_iconst dX6_edition_128 (by decide +kernel : Int32.ofInt (1) = (1 : Int32)) ?_
  refine zi_iadd dX6_edition_129 ?_
  refine zi_iastore dX6_edition_130 h7 h8 ?_
  exact kk
theorem sX6_edition_131 {g : ZG} {Q : ZQ} {d cN sN : Nat} {M : ZM} {l3 : Int32} {o0 o1 o2 : Option Value}  (kk : Z g kX6_edition Q d cN sN M 45 [o0, o1, o2, some (.int (l3 + 1))] []) : Z g kX6_edition Q d cN sN M 131 [o0, o1, o2, some (.int l3)] [] := by
  refine zi_iinc dX6_edition_131 rfl (by decide +kernel : Int32.ofInt (1) = 1) (Nat.le_of_ble_eq_true rfl) ?_
  exact zi_goto (tgt := 45) dX6_edition_134 (by decide +kernel) kk
theorem sX6_edition_137 {g : ZG} {Q : ZQ} {d cN sN : Nat} {M : ZM} {l2 : Int32} {o0 o1 o3 : Option Value}  (kk : Z g kX6_edition Q d cN sN M 33 [o0, o1, some (.int (l2 + 1)), o3] []) : Z g kX6_edition Q d cN sN M 137 [o0, o1, some (.int l2), o3] [] := by
  refine zi_iinc dX6_edition_137 rfl (by decide +kernel : Int32.ofInt (1) = 1) (Nat.le_of_ble_eq_true rfl) ?_
  exact zi_goto (tgt := 33) dX6_edition_140 (by decide +kernel) kk
theorem sX6_edition_143 {g : ZG} {Q : ZQ} {d cN sN : Nat} {M : ZM} {l0 : Nat} {fs1 : List Value} {r3 : Nat} {n5 : Nat} {f6 : Nat → Int32} {l1 : Int32} {fs9 : List Value} {r11 : Nat} {n13 : Nat} {f14 : Nat → Int32} {o2 o3 : Option Value} (h2 : M.1 l0 = some (.inr (5, fs1))) (h4 : (fs1)[0]? = some (.ref r3)) (h7 : M.1 r3 = some (.inl (zA g 0, n5, .inl f6))) (h8 : vp_in (6) n5) (h10 : (zup M r3 (.inl (zA g 0, n5, .inl (upd f6 ((6 : Int32).toNatClampNeg) ((f6 ((6 : Int32).toNatClampNeg)) + l1))))).1 l0 = some (.inr (5, fs9))) (h12 : (fs9)[0]? = some (.ref r11)) (h15 : (zup M r3 (.inl (zA g 0, n5, .inl (upd f6 ((6 : Int32).toNatClampNeg) ((f6 ((6 : Int32).toNatClampNeg)) + l1))))).1 r11 = some (.inl (zA g 0, n13, .inl f14))) (h16 : vp_in (4) n13) (kk : Q.1 (some (.int l1)) (zup (zup M r3 (.inl (zA g 0, n5, .inl (upd f6 ((6 : Int32).toNatClampNeg) ((f6 ((6 : Int32).toNatClampNeg)) + l1))))) r11 (.inl (zA g 0, n13, .inl (upd f14 ((4 : Int32).toNatClampNeg) ((f14 ((4 : Int32).toNatClampNeg)) + 1)))))) : Z g kX6_edition Q d cN sN M 143 [some (.ref l0), some (.int l1), o2, o3] [] := by
  refine zi_aload_n dX6_edition_143 rfl zrf_r ?_
  refine zi_getfield dX6_edition_144 rfl h2 h4 ?_
  refine zi_bipush dX6_edition_147 (by decide +kernel : (Int8.ofInt (6)).toInt32 = (6 : Int32)) ?_
  refine zi_dup2 dX6_edition_149 rfl rfl ?_
  refine zi_iaload dX6_edition_150 h7 h8 ?_
  refine zi_iload_n dX6_edition_151 rfl ?_
  refine zi_iadd dX6_edition_152 ?_
  refine zi_iastore dX6_edition_153 h7 h8 ?_
  refine zi_aload_n dX6_edition_154 rfl zrf_r ?_
  refine zi_getfield dX6_edition_155 rfl h10 h12 ?_
  refine zi_iconst dX6_edition_158 (by decide +kernel : Int32.ofInt (4) = (4 : Int32)) ?_
  refine zi_dup2 dX6_edition_159 rfl rfl ?_
  refine zi_iaload dX6_edition_160 h15 h16 ?_
  refine zi_iconst dX6_edition_161 (by decide +kernel : Int32.ofInt (1) = (1 : Int32)) ?_
  refine zi_iadd dX6_edition_162 ?_
  refine zi_iastore dX6_edition_163 h15 h16 ?_
  refine zi_iload_n dX6_edition_164 rfl ?_
  exact zi_ireturn dX6_edition_165 rfl rfl kk
abbrev kX6_printable : ZK := (RX6, cX6_printable, 3, (Option.some Jvm.ClassFile.FieldType.int), [], false, fX6)
abbrev tX6_printable (g : ZG) (args : List Value) (M : ZM) (d c s : Nat) (Q : ZQ) : Prop := Ct g yX6_printable (ws_ yX6_printable cX6_printable 3 (Option.some Jvm.ClassFile.FieldType.int)) args M d c s Q
abbrev nX6_printable : Nat := 4
theorem mX6_printable : zMok yX6_printable 0 3 := ⟨⟨by decide +kernel, by decide +kernel, by decide +kernel⟩, by decide⟩
theorem eX6_printable {g : ZG} {Q : ZQ} {d cN sN : Nat} {M : ZM} {a0 : Nat} (hV : zV g) (h : Z g kX6_printable Q d cN sN M 0 [some (.ref a0), none, none] []) : tX6_printable g [.ref a0] M d cN sN Q := Ct.of (K := kX6_printable) rfl (by decide +kernel) hV fokX6 rfl (fun h => by cases h) (fun v hv => by simp only [List.mem_cons, List.not_mem_nil, or_false] at hv; rcases hv with rfl <;> first | rfl | assumption) (Nat.le_of_ble_eq_true rfl) h
theorem sX6_printable_0 {g : ZG} {Q : ZQ} {d cN sN : Nat} {M : ZM} {o0 o1 o2 : Option Value}  (kk : Z g kX6_printable Q d cN sN M 4 [o0, some (.int 0), some (.int 0)] []) : Z g kX6_printable Q d cN sN M 0 [o0, o1, o2] [] := by
  refine zi_iconst dX6_printable_0 (by decide +kernel : Int32.ofInt (0) = (0 : Int32)) ?_
  refine zi_istore_n dX6_printable_1 (Nat.le_of_ble_eq_true rfl) ?_
  refine zi_iconst dX6_printable_2 (by decide +kernel : Int32.ofInt (0) = (0 : Int32)) ?_
  refine zi_istore_n dX6_printable_3 (Nat.le_of_ble_eq_true rfl) ?_
  exact kk
theorem sX6_printable_4 {g : ZG} {Q : ZQ} {d cN sN : Nat} {M : ZM} {l2 : Int32} {l0 : Nat} {fs1 : List Value} {r3 : Nat} {n5 : Nat} {f6 : Nat → Int32} {o1 : Option Value} (h2 : M.1 l0 = some (.inr (5, fs1))) (h4 : (fs1)[0]? = some (.ref r3)) (h7 : M.1 r3 = some (.inl (zA g 0, n5, .inl f6))) (h8 : vp_in (1) n5) (kt : (f6 ((1 : Int32).toNatClampNeg) : Int32) ≤ (l2 : Int32) → Z g kX6_printable Q d cN sN M 36 [some (.ref l0), o1, some (.int l2)] []) (kf : ¬ (f6 ((1 : Int32).toNatClampNeg) : Int32) ≤ (l2 : Int32) → Z g kX6_printable Q d cN sN M 14 [some (.ref l0), o1, some (.int l2)] []) : Z g kX6_printable Q d cN sN M 4 [some (.ref l0), o1, some (.int l2)] [] := by
  refine zi_iload_n dX6_printable_4 rfl ?_
  refine zi_aload_n dX6_printable_5 rfl zrf_r ?_
  refine zi_getfield dX6_printable_6 rfl h2 h4 ?_
  refine zi_iconst dX6_printable_9 (by decide +kernel : Int32.ofInt (1) = (1 : Int32)) ?_
  refine zi_iaload dX6_printable_10 h7 h8 ?_
  exact zi_icmp_ge (tgt := 36) dX6_printable_11 (by decide +kernel) kt kf
theorem sX6_printable_14 {g : ZG} {Q : ZQ} {d cN sN : Nat} {M : ZM} {l1 : Int32} {l0 : Nat} {l2 : Int32}  (kk : Z g kX6_printable Q d cN sN M 18 [some (.ref l0), some (.int l1), some (.int l2)] [.int 2, .int l2, .ref l0, .int l1]) : Z g kX6_printable Q d cN sN M 14 [some (.ref l0), some (.int l1), some (.int l2)] [] := by
  refine zi_iload_n dX6_printable_14 rfl ?_
  refine zi_aload_n dX6_printable_15 rfl zrf_r ?_
  refine zi_iload_n dX6_printable_16 rfl ?_
  refine zi_iconst dX6_printable_17 (by decide +kernel : Int32.ofInt (2) = (2 : Int32)) ?_
  exact kk
theorem sX6_printable_21 {g : ZG} {Q : ZQ} {d cN sN : Nat} {M : ZM} {t0 : Int32} {t1 : Int32} {l0 : Nat} {l2 : Int32} {o1 : Option Value}  (kk : Z g kX6_printable Q d cN sN M 24 [some (.ref l0), o1, some (.int l2)] [.int 3, .int l2, .ref l0, .int t1, .int t0]) : Z g kX6_printable Q d cN sN M 21 [some (.ref l0), o1, some (.int l2)] [.int t1, .int t0] := by
  refine zi_aload_n dX6_printable_21 rfl zrf_r ?_
  refine zi_iload_n dX6_printable_22 rfl ?_
  refine zi_iconst dX6_printable_23 (by decide +kernel : Int32.ofInt (3) = (3 : Int32)) ?_
  exact kk
theorem sX6_printable_27 {g : ZG} {Q : ZQ} {d cN sN : Nat} {M : ZM} {t0 : Int32} {t1 : Int32} {t2 : Int32} {l2 : Int32} {o0 o1 : Option Value}  (kk : Z g kX6_printable Q d cN sN M 4 [o0, some (.int (t0 + (t1 - t2))), some (.int (l2 + 1))] []) : Z g kX6_printable Q d cN sN M 27 [o0, o1, some (.int l2)] [.int t2, .int t1, .int t0] := by
  refine zi_isub dX6_printable_27 ?_
  refine zi_iadd dX6_printable_28 ?_
  refine zi_istore_n dX6_printable_29 (Nat.le_of_ble_eq_true rfl) ?_
  refine zi_iinc dX6_printable_30 rfl (by decide +kernel : Int32.ofInt (1) = 1) (Nat.le_of_ble_eq_true rfl) ?_
  exact zi_goto (tgt := 4) dX6_printable_33 (by decide +kernel) kk
theorem sX6_printable_36 {g : ZG} {Q : ZQ} {d cN sN : Nat} {M : ZM} {l1 : Int32} {o0 o2 : Option Value}  (kk : Q.1 (some (.int l1)) M) : Z g kX6_printable Q d cN sN M 36 [o0, some (.int l1), o2] [] := by
  refine zi_iload_n dX6_printable_36 rfl ?_
  exact zi_ireturn dX6_printable_37 rfl rfl kk
abbrev kX6_gets : ZK := (RX6, cX6_gets, 4, (Option.none : Option Jvm.ClassFile.FieldType), [], false, fX6)
abbrev tX6_gets (g : ZG) (args : List Value) (M : ZM) (d c s : Nat) (Q : ZQ) : Prop := Ct g yX6_gets (ws_ yX6_gets cX6_gets 4 (Option.none : Option Jvm.ClassFile.FieldType)) args M d c s Q
abbrev nX6_gets : Nat := 2
theorem mX6_gets : zMok yX6_gets 3 4 := ⟨⟨by decide +kernel, by decide +kernel, by decide +kernel⟩, by decide⟩
theorem eX6_gets {g : ZG} {Q : ZQ} {d cN sN : Nat} {M : ZM} {a0 : Nat} {x1 : Int32} {x2 : Int32} {x3 : Int32} (hV : zV g) (h : Z g kX6_gets Q d cN sN M 0 [some (.ref a0), some (.int x1), some (.int x2), some (.int x3)] []) : tX6_gets g [.ref a0, .int x1, .int x2, .int x3] M d cN sN Q := Ct.of (K := kX6_gets) rfl (by decide +kernel) hV fokX6 rfl (fun h => by cases h) (fun v hv => by simp only [List.mem_cons, List.not_mem_nil, or_false] at hv; rcases hv with rfl | rfl | rfl | rfl <;> first | rfl | assumption) (Nat.le_of_ble_eq_true rfl) h
theorem sX6_gets_0 {g : ZG} {Q : ZQ} {d cN sN : Nat} {M : ZM} {l0 : Nat} {fs1 : List Value} {r3 : Nat} {l1 : Int32} {l2 : Int32} {o3 : Option Value} (h2 : M.1 l0 = some (.inr (5, fs1))) (h4 : (fs1)[0]? = some (.ref r3)) (kk : Z g kX6_gets Q d cN sN M 15 [some (.ref l0), some (.int l1), some (.int l2), o3] [.int l2, .int l1, .ref l0, .int ((10 + (3 * l1)) + l2), .ref r3]) : Z g kX6_gets Q d cN sN M 0 [some (.ref l0), some (.int l1), some (.int l2), o3] [] := by
  refine zi_aload_n dX6_gets_0 rfl zrf_r ?_
  refine zi_getfield dX6_gets_1 rfl h2 h4 ?_
  refine zi_bipush dX6_gets_4 (by decide +kernel : (Int8.ofInt (10)).toInt32 = (10 : Int32)) ?_
  refine zi_iconst dX6_gets_6 (by decide +kernel : Int32.ofInt (3) = (3 : Int32)) ?_
  refine zi_iload_n dX6_gets_7 rfl ?_
  refine zi_imul dX6_gets_8 ?_
  refine zi_iadd dX6_gets_9 ?_
  refine zi_iload_n dX6_gets_10 rfl ?_
  refine zi_iadd dX6_gets_11 ?_
  refine zi_aload_n dX6_gets_12 rfl zrf_r ?_
  refine zi_iload_n dX6_gets_13 rfl ?_
  refine zi_iload_n dX6_gets_14 rfl ?_
  exact kk
theorem sX6_gets_18 {g : ZG} {Q : ZQ} {d cN sN : Nat} {M : ZM} {t0 : Nat} {t1 : Int32} {t2 : Int32} {l3 : Int32} {o0 o1 o2 : Option Value}  (kk : Z g kX6_gets Q d cN sN M 22 [o0, o1, o2, some (.int l3)] [.int 99, .int (t2 + l3), .int t1, .ref t0]) : Z g kX6_gets Q d cN sN M 18 [o0, o1, o2, some (.int l3)] [.int t2, .int t1, .ref t0] := by
  refine zi_iload_n dX6_gets_18 rfl ?_
  refine zi_iadd dX6_gets_19 ?_
  refine zi_bipush dX6_gets_20 (by decide +kernel : (Int8.ofInt (99)).toInt32 = (99 : Int32)) ?_
  exact kk
theorem sX6_gets_25 {g : ZG} {Q : ZQ} {d cN sN : Nat} {M : ZM} {t0 : Nat} {t1 : Int32} {t2 : Int32} {n1 : Nat} {f2 : Nat → Int32} {o0 o1 o2 o3 : Option Value} (h3 : M.1 t0 = some (.inl (zA g 0, n1, .inl (f2)))) (h4 : vp_in (t1) n1) (kk : Q.1 none (zup M t0 (.inl (zA g 0, n1, .inl (upd f2 ((t1 : Int32).toNatClampNeg) (t2)))))) : Z g kX6_gets Q d cN sN M 25 [o0, o1, o2, o3] [.int t2, .int t1, .ref t0] := by
  refine zi_iastore dX6_gets_25 h3 h4 ?_
  exact zi_return dX6_gets_26 rfl kk
abbrev kX6_atMost : ZK := (RX6, cX6_atMost, 2, (Option.some Jvm.ClassFile.FieldType.int), [], false, fX6)
abbrev tX6_atMost (g : ZG) (args : List Value) (M : ZM) (d c s : Nat) (Q : ZQ) : Prop := Ct g yX6_atMost (ws_ yX6_atMost cX6_atMost 2 (Option.some Jvm.ClassFile.FieldType.int)) args M d c s Q
abbrev nX6_atMost : Nat := 1
theorem mX6_atMost : zMok yX6_atMost 2 2 := ⟨⟨by decide +kernel, by decide +kernel, by decide +kernel⟩, by decide⟩
theorem eX6_atMost {g : ZG} {Q : ZQ} {d cN sN : Nat} {M : ZM} {x1 : Int32} {x2 : Int32} (hV : zV g) (h : Z g kX6_atMost Q d cN sN M 0 [some (.int x1), some (.int x2)] []) : tX6_atMost g [.int x1, .int x2] M d cN sN Q := Ct.of (K := kX6_atMost) rfl (by decide +kernel) hV fokX6 rfl (fun h => by cases h) (fun v hv => by simp only [List.mem_cons, List.not_mem_nil, or_false] at hv; rcases hv with rfl | rfl <;> first | rfl | assumption) (Nat.le_of_ble_eq_true rfl) h
theorem sX6_atMost_0 {g : ZG} {Q : ZQ} {d cN sN : Nat} {M : ZM} {l0 : Int32} {l1 : Int32}  (kt : (l1 : Int32) ≤ (l0 : Int32) → Z g kX6_atMost Q d cN sN M 9 [some (.int l0), some (.int l1)] []) (kf : ¬ (l1 : Int32) ≤ (l0 : Int32) → Z g kX6_atMost Q d cN sN M 5 [some (.int l0), some (.int l1)] []) : Z g kX6_atMost Q d cN sN M 0 [some (.int l0), some (.int l1)] [] := by
  refine zi_iload_n dX6_atMost_0 rfl ?_
  refine zi_iload_n dX6_atMost_1 rfl ?_
  exact zi_icmp_ge (tgt := 9) dX6_atMost_2 (by decide +kernel) kt kf
theorem sX6_atMost_5 {g : ZG} {Q : ZQ} {d cN sN : Nat} {M : ZM} {l0 : Int32} {o1 : Option Value}  (kk : Z g kX6_atMost Q d cN sN M 10 [some (.int l0), o1] [.int l0]) : Z g kX6_atMost Q d cN sN M 5 [some (.int l0), o1] [] := by
  refine zi_iload_n dX6_atMost_5 rfl ?_
  exact zi_goto (tgt := 10) dX6_atMost_6 (by decide +kernel) kk
theorem sX6_atMost_9 {g : ZG} {Q : ZQ} {d cN sN : Nat} {M : ZM} {l1 : Int32} {o0 : Option Value}  (kk : Z g kX6_atMost Q d cN sN M 10 [o0, some (.int l1)] [.int l1]) : Z g kX6_atMost Q d cN sN M 9 [o0, some (.int l1)] [] := by
  refine zi_iload_n dX6_atMost_9 rfl ?_
  exact kk
theorem sX6_atMost_10 {g : ZG} {Q : ZQ} {d cN sN : Nat} {M : ZM} {t0 : Int32} {o0 o1 : Option Value}  (kk : Q.1 (some (.int t0)) M) : Z g kX6_atMost Q d cN sN M 10 [o0, o1] [.int t0] := by
  exact zi_ireturn dX6_atMost_10 rfl rfl kk
abbrev kX6_laughs : ZK := (RX6, cX6_laughs, 5, (Option.some Jvm.ClassFile.FieldType.int), [], false, fX6)
abbrev tX6_laughs (g : ZG) (args : List Value) (M : ZM) (d c s : Nat) (Q : ZQ) : Prop := Ct g yX6_laughs (ws_ yX6_laughs cX6_laughs 5 (Option.some Jvm.ClassFile.FieldType.int)) args M d c s Q
abbrev nX6_laughs : Nat := 4
theorem mX6_laughs : zMok yX6_laughs 2 5 := ⟨⟨by decide +kernel, by decide +kernel, by decide +kernel⟩, by decide⟩
theorem eX6_laughs {g : ZG} {Q : ZQ} {d cN sN : Nat} {M : ZM} {a0 : Nat} {x1 : Int32} {x2 : Int32} (hV : zV g) (h : Z g kX6_laughs Q d cN sN M 0 [some (.ref a0), some (.int x1), some (.int x2), none, none] []) : tX6_laughs g [.ref a0, .int x1, .int x2] M d cN sN Q := Ct.of (K := kX6_laughs) rfl (by decide +kernel) hV fokX6 rfl (fun h => by cases h) (fun v hv => by simp only [List.mem_cons, List.not_mem_nil, or_false] at hv; rcases hv with rfl | rfl | rfl <;> first | rfl | assumption) (Nat.le_of_ble_eq_true rfl) h
theorem sX6_laughs_0 {g : ZG} {Q : ZQ} {d cN sN : Nat} {M : ZM} {o0 o1 o2 o3 o4 : Option Value}  (kk : Z g kX6_laughs Q d cN sN M 5 [o0, o1, o2, some (.int 0), some (.int 0)] []) : Z g kX6_laughs Q d cN sN M 0 [o0, o1, o2, o3, o4] [] := by
  refine zi_iconst dX6_laughs_0 (by decide +kernel : Int32.ofInt (0) = (0 : Int32)) ?_
  refine zi_istore_n dX6_laughs_1 (Nat.le_of_ble_eq_true rfl) ?_
  refine zi_iconst dX6_laughs_2 (by decide +kernel : Int32.ofInt (0) = (0 : Int32)) ?_
  refine zi_istore dX6_laughs_3 (Nat.le_of_ble_eq_true rfl) ?_
  exact kk
theorem sX6_laughs_5 {g : ZG} {Q : ZQ} {d cN sN : Nat} {M : ZM} {l4 : Int32} {o0 o1 o2 o3 : Option Value}  (kt : (5 : Int32) ≤ (l4 : Int32) → Z g kX6_laughs Q d cN sN M 31 [o0, o1, o2, o3, some (.int l4)] []) (kf : ¬ (5 : Int32) ≤ (l4 : Int32) → Z g kX6_laughs Q d cN sN M 11 [o0, o1, o2, o3, some (.int l4)] []) : Z g kX6_laughs Q d cN sN M 5 [o0, o1, o2, o3, some (.int l4)] [] := by
  refine zi_iload dX6_laughs_5 rfl ?_
  refine zi_iconst dX6_laughs_7 (by decide +kernel : Int32.ofInt (5) = (5 : Int32)) ?_
  exact zi_icmp_ge (tgt := 31) dX6_laughs_8 (by decide +kernel) kt kf
theorem sX6_laughs_11 {g : ZG} {Q : ZQ} {d cN sN : Nat} {M : ZM} {l3 : Int32} {l0 : Nat} {l1 : Int32} {l2 : Int32} {o4 : Option Value}  (kk : Z g kX6_laughs Q d cN sN M 15 [some (.ref l0), some (.int l1), some (.int l2), some (.int l3), o4] [.int l2, .int l1, .ref l0, .int l3]) : Z g kX6_laughs Q d cN sN M 11 [some (.ref l0), some (.int l1), some (.int l2), some (.int l3), o4] [] := by
  refine zi_iload_n dX6_laughs_11 rfl ?_
  refine zi_aload_n dX6_laughs_12 rfl zrf_r ?_
  refine zi_iload_n dX6_laughs_13 rfl ?_
  refine zi_iload_n dX6_laughs_14 rfl ?_
  exact kk
theorem sX6_laughs_18 {g : ZG} {Q : ZQ} {d cN sN : Nat} {M : ZM} {t0 : Int32} {t1 : Int32} {l4 : Int32} {o0 o1 o2 o3 : Option Value}  (kk : Z g kX6_laughs Q d cN sN M 5 [o0, o1, o2, some (.int (t0 + ((t1 >>> (l4 &&& 31)) &&& 1))), some (.int (l4 + 1))] []) : Z g kX6_laughs Q d cN sN M 18 [o0, o1, o2, o3, some (.int l4)] [.int t1, .int t0] := by
  refine zi_iload dX6_laughs_18 rfl ?_
  refine zi_ishr dX6_laughs_20 ?_
  refine zi_iconst dX6_laughs_21 (by decide +kernel : Int32.ofInt (1) = (1 : Int32)) ?_
  refine zi_iand dX6_laughs_22 ?_
  refine zi_iadd dX6_laughs_23 ?_
  refine zi_istore_n dX6_laughs_24 (Nat.le_of_ble_eq_true rfl) ?_
  refine zi_iinc dX6_laughs_25 rfl (by decide +kernel : Int32.ofInt (1) = 1) (Nat.le_of_ble_eq_true rfl) ?_
  exact zi_goto (tgt := 5) dX6_laughs_28 (by decide +kernel) kk
theorem sX6_laughs_31 {g : ZG} {Q : ZQ} {d cN sN : Nat} {M : ZM} {l3 : Int32} {o0 o1 o2 o4 : Option Value}  (kk : Q.1 (some (.int l3)) M) : Z g kX6_laughs Q d cN sN M 31 [o0, o1, o2, some (.int l3), o4] [] := by
  refine zi_iload_n dX6_laughs_31 rfl ?_
  exact zi_ireturn dX6_laughs_32 rfl rfl kk
abbrev kX6_laughers : ZK := (RX6, cX6_laughers, 7, (Option.some Jvm.ClassFile.FieldType.int), [], false, fX6)
abbrev tX6_laughers (g : ZG) (args : List Value) (M : ZM) (d c s : Nat) (Q : ZQ) : Prop := Ct g yX6_laughers (ws_ yX6_laughers cX6_laughers 7 (Option.some Jvm.ClassFile.FieldType.int)) args M d c s Q
abbrev nX6_laughers : Nat := 3
theorem mX6_laughers : zMok yX6_laughers 2 7 := ⟨⟨by decide +kernel, by decide +kernel, by decide +kernel⟩, by decide⟩
theorem eX6_laughers {g : ZG} {Q : ZQ} {d cN sN : Nat} {M : ZM} {a0 : Nat} {x1 : Int32} {x2 : Int32} (hV : zV g) (h : Z g kX6_laughers Q d cN sN M 0 [some (.ref a0), some (.int x1), some (.int x2), none, none, none, none] []) : tX6_laughers g [.ref a0, .int x1, .int x2] M d cN sN Q := Ct.of (K := kX6_laughers) rfl (by decide +kernel) hV fokX6 rfl (fun h => by cases h) (fun v hv => by simp only [List.mem_cons, List.not_mem_nil, or_false] at hv; rcases hv with rfl | rfl | rfl <;> first | rfl | assumption) (Nat.le_of_ble_eq_true rfl) h
theorem sX6_laughers_0 {g : ZG} {Q : ZQ} {d cN sN : Nat} {M : ZM} {o0 o1 o2 o3 o4 o5 o6 : Option Value}  (kk : Z g kX6_laughers Q d cN sN M 5 [o0, o1, o2, some (.int 0), some (.int 0), o5, o6] []) : Z g kX6_laughers Q d cN sN M 0 [o0, o1, o2, o3, o4, o5, o6] [] := by
  refine zi_iconst dX6_laughers_0 (by decide +kernel : Int32.ofInt (0) = (0 : Int32)) ?_
  refine zi_istore_n dX6_laughers_1 (Nat.le_of_ble_eq_true rfl) ?_
  refine zi_iconst dX6_laughers_2 (by decide +kernel : Int32.ofInt (0) = (0 : Int32)) ?_
  refine zi_istore dX6_laughers_3 (Nat.le_of_ble_eq_true rfl) ?_
  exact kk
theorem sX6_laughers_5 {g : ZG} {Q : ZQ} {d cN sN : Nat} {M : ZM} {l4 : Int32} {l0 : Nat} {fs1 : List Value} {r3 : Nat} {n5 : Nat} {f6 : Nat → Int32} {o1 o2 o3 o5 o6 : Option Value} (h2 : M.1 l0 = some (.inr (5, fs1))) (h4 : (fs1)[0]? = some (.ref r3)) (h7 : M.1 r3 = some (.inl (zA g 0, n5, .inl f6))) (h8 : vp_in (2) n5) (kt : (f6 ((2 : Int32).toNatClampNeg) : Int32) ≤ (l4 : Int32) → Z g kX6_laughers Q d cN sN M 120 [some (.ref l0), o1, o2, o3, some (.int l4), o5, o6] []) (kf : ¬ (f6 ((2 : Int32).toNatClampNeg) : Int32) ≤ (l4 : Int32) → Z g kX6_laughers Q d cN sN M 16 [some (.ref l0), o1, o2, o3, some (.int l4), o5, o6] []) : Z g kX6_laughers Q d cN sN M 5 [some (.ref l0), o1, o2, o3, some (.int l4), o5, o6] [] := by
  refine zi_iload dX6_laughers_5 rfl ?_
  refine zi_aload_n dX6_laughers_7 rfl zrf_r ?_
  refine zi_getfield dX6_laughers_8 rfl h2 h4 ?_
  refine zi_iconst dX6_laughers_11 (by decide +kernel : Int32.ofInt (2) = (2 : Int32)) ?_
  refine zi_iaload dX6_laughers_12 h7 h8 ?_
  exact zi_icmp_ge (tgt := 120) dX6_laughers_13 (by decide +kernel) kt kf
theorem sX6_laughers_16 {g : ZG} {Q : ZQ} {d cN sN : Nat} {M : ZM} {l0 : Nat} {l1 : Int32} {l2 : Int32} {o3 o4 o5 o6 : Option Value}  (kk : Z g kX6_laughers Q d cN sN M 19 [some (.ref l0), some (.int l1), some (.int l2), o3, o4, o5, o6] [.int l2, .int l1, .ref l0]) : Z g kX6_laughers Q d cN sN M 16 [some (.ref l0), some (.int l1), some (.int l2), o3, o4, o5, o6] [] := by
  refine zi_aload_n dX6_laughers_16 rfl zrf_r ?_
  refine zi_iload_n dX6_laughers_17 rfl ?_
  refine zi_iload_n dX6_laughers_18 rfl ?_
  exact kk
theorem sX6_laughers_22 {g : ZG} {Q : ZQ} {d cN sN : Nat} {M : ZM} {t0 : Int32} {o0 o1 o2 o3 o4 o5 o6 : Option Value}  (kt : (t0 : Int32) ≤ 0 → Z g kX6_laughers Q d cN sN M 120 [o0, o1, o2, o3, o4, o5, o6] []) (kf : ¬ (t0 : Int32) ≤ 0 → Z g kX6_laughers Q d cN sN M 25 [o0, o1, o2, o3, o4, o5, o6] []) : Z g kX6_laughers Q d cN sN M 22 [o0, o1, o2, o3, o4, o5, o6] [.int t0] := by
  exact zi_if_le (tgt := 120) dX6_laughers_22 (by decide +kernel) kt kf
theorem sX6_laughers_25 {g : ZG} {Q : ZQ} {d cN sN : Nat} {M : ZM} {l0 : Nat} {fs1 : List Value} {r3 : Nat} {l4 : Int32} {n5 : Nat} {f6 : Nat → Int32} {o1 o2 o3 o5 o6 : Option Value} (h2 : M.1 l0 = some (.inr (5, fs1))) (h4 : (fs1)[0]? = some (.ref r3)) (h7 : M.1 r3 = some (.inl (zA g 0, n5, .inl f6))) (h8 : vp_in ((230 + (2 * l4)) + 1) n5) (h9 : vp_in (230 + (2 * l4)) n5) (kt : ¬ (f6 ((230 + (2 * l4) : Int32).toNatClampNeg) : Int32) = 0 → Z g kX6_laughers Q d cN sN M 80 [some (.ref l0), o1, o2, o3, some (.int l4), some (.int (f6 (((230 + (2 * l4)) + 1 : Int32).toNatClampNeg))), o6] []) (kf : (f6 ((230 + (2 * l4) : Int32).toNatClampNeg) : Int32) = 0 → Z g kX6_laughers Q d cN sN M 58 [some (.ref l0), o1, o2, o3, some (.int l4), some (.int (f6 (((230 + (2 * l4)) + 1 : Int32).toNatClampNeg))), o6] []) : Z g kX6_laughers Q d cN sN M 25 [some (.ref l0), o1, o2, o3, some (.int l4), o5, o6] [] := by
  refine zi_aload_n dX6_laughers_25 rfl zrf_r ?_
  refine zi_getfield dX6_laughers_26 rfl h2 h4 ?_
  refine zi_sipush dX6_laughers_29 (by decide +kernel : (Int16.ofInt (230)).toInt32 = (230 : Int32)) ?_
  refine zi_iconst dX6_laughers_32 (by decide +kernel : Int32.ofInt (2) = (2 : Int32)) ?_
  refine zi_iload dX6_laughers_33 rfl ?_
  refine zi_imul dX6_laughers_35 ?_
  refine zi_iadd dX6_laughers_36 ?_
  refine zi_iconst dX6_laughers_37 (by decide +kernel : Int32.ofInt (1) = (1 : Int32)) ?_
  refine zi_iadd dX6_laughers_38 ?_
  refine zi_iaload dX6_laughers_39 h7 h8 ?_
  refine zi_istore dX6_laughers_40 (Nat.le_of_ble_eq_true rfl) ?_
  refine zi_aload_n dX6_laughers_42 rfl zrf_r ?_
  refine zi_getfield dX6_laughers_43 rfl h2 h4 ?_
  refine zi_sipush dX6_laughers_46 (by decide +kernel : (Int16.ofInt (230)).toInt32 = (230 : Int32)) ?_
  refine zi_iconst dX6_laughers_49 (by decide +kernel : Int32.ofInt (2) = (2 : Int32)) ?_
  refine zi_iload dX6_laughers_50 rfl ?_
  refine zi_imul dX6_laughers_52 ?_
  refine zi_iadd dX6_laughers_53 ?_
  refine zi_iaload dX6_laughers_54 h7 h9 ?_
  exact zi_if_ne (tgt := 80) dX6_laughers_55 (by decide +kernel) kt kf
theorem sX6_laughers_58 {g : ZG} {Q : ZQ} {d cN sN : Nat} {M : ZM} {l0 : Nat} {l1 : Int32} {l2 : Int32} {o3 o4 o5 o6 : Option Value}  (kk : Z g kX6_laughers Q d cN sN M 64 [some (.ref l0), some (.int l1), some (.int l2), o3, o4, o5, o6] [.int (10 + l2), .int l1, .ref l0]) : Z g kX6_laughers Q d cN sN M 58 [some (.ref l0), some (.int l1), some (.int l2), o3, o4, o5, o6] [] := by
  refine zi_aload_n dX6_laughers_58 rfl zrf_r ?_
  refine zi_iload_n dX6_laughers_59 rfl ?_
  refine zi_bipush dX6_laughers_60 (by decide +kernel : (Int8.ofInt (10)).toInt32 = (10 : Int32)) ?_
  refine zi_iload_n dX6_laughers_62 rfl ?_
  refine zi_iadd dX6_laughers_63 ?_
  exact kk
theorem sX6_laughers_67 {g : ZG} {Q : ZQ} {d cN sN : Nat} {M : ZM} {t0 : Int32} {l5 : Int32} {o0 o1 o2 o3 o4 o6 : Option Value}  (kt : ¬ (t0 : Int32) = (l5 : Int32) → Z g kX6_laughers Q d cN sN M 76 [o0, o1, o2, o3, o4, some (.int l5), o6] []) (kf : (t0 : Int32) = (l5 : Int32) → Z g kX6_laughers Q d cN sN M 72 [o0, o1, o2, o3, o4, some (.int l5), o6] []) : Z g kX6_laughers Q d cN sN M 67 [o0, o1, o2, o3, o4, some (.int l5), o6] [.int t0] := by
  refine zi_iload dX6_laughers_67 rfl ?_
  exact zi_icmp_ne (tgt := 76) dX6_laughers_69 (by decide +kernel) kt kf
theorem sX6_laughers_72 {g : ZG} {Q : ZQ} {d cN sN : Nat} {M : ZM} {o0 o1 o2 o3 o4 o5 o6 : Option Value}  (kk : Z g kX6_laughers Q d cN sN M 96 [o0, o1, o2, o3, o4, o5, o6] [.int 1]) : Z g kX6_laughers Q d cN sN M 72 [o0, o1, o2, o3, o4, o5, o6] [] := by
  refine zi_iconst dX6_laughers_72 (by decide +kernel : Int32.ofInt (1) = (1 : Int32)) ?_
  exact zi_goto (tgt := 96) dX6_laughers_73 (by decide +kernel) kk
theorem sX6_laughers_76 {g : ZG} {Q : ZQ} {d cN sN : Nat} {M : ZM} {o0 o1 o2 o3 o4 o5 o6 : Option Value}  (kk : Z g kX6_laughers Q d cN sN M 96 [o0, o1, o2, o3, o4, o5, o6] [.int 0]) : Z g kX6_laughers Q d cN sN M 76 [o0, o1, o2, o3, o4, o5, o6] [] := by
  refine zi_iconst dX6_laughers_76 (by decide +kernel : Int32.ofInt (0) = (0 : Int32)) ?_
  exact zi_goto (tgt := 96) dX6_laughers_77 (by decide +kernel) kk
theorem sX6_laughers_80 {g : ZG} {Q : ZQ} {d cN sN : Nat} {M : ZM} {l0 : Nat} {l1 : Int32} {l2 : Int32} {o3 o4 o5 o6 : Option Value}  (kk : Z g kX6_laughers Q d cN sN M 83 [some (.ref l0), some (.int l1), some (.int l2), o3, o4, o5, o6] [.int l2, .int l1, .ref l0]) : Z g kX6_laughers Q d cN sN M 80 [some (.ref l0), some (.int l1), some (.int l2), o3, o4, o5, o6] [] := by
  refine zi_aload_n dX6_laughers_80 rfl zrf_r ?_
  refine zi_iload_n dX6_laughers_81 rfl ?_
  refine zi_iload_n dX6_laughers_82 rfl ?_
  exact kk
theorem sX6_laughers_86 {g : ZG} {Q : ZQ} {d cN sN : Nat} {M : ZM} {t0 : Int32} {l5 : Int32} {o0 o1 o2 o3 o4 o6 : Option Value}  (kt : (t0 : Int32) < (l5 : Int32) → Z g kX6_laughers Q d cN sN M 95 [o0, o1, o2, o3, o4, some (.int l5), o6] []) (kf : ¬ (t0 : Int32) < (l5 : Int32) → Z g kX6_laughers Q d cN sN M 91 [o0, o1, o2, o3, o4, some (.int l5), o6] []) : Z g kX6_laughers Q d cN sN M 86 [o0, o1, o2, o3, o4, some (.int l5), o6] [.int t0] := by
  refine zi_iload dX6_laughers_86 rfl ?_
  exact zi_icmp_lt (tgt := 95) dX6_laughers_88 (by decide +kernel) kt kf
theorem sX6_laughers_91 {g : ZG} {Q : ZQ} {d cN sN : Nat} {M : ZM} {o0 o1 o2 o3 o4 o5 o6 : Option Value}  (kk : Z g kX6_laughers Q d cN sN M 96 [o0, o1, o2, o3, o4, o5, o6] [.int 1]) : Z g kX6_laughers Q d cN sN M 91 [o0, o1, o2, o3, o4, o5, o6] [] := by
  refine zi_iconst dX6_laughers_91 (by decide +kernel : Int32.ofInt (1) = (1 : Int32)) ?_
  exact zi_goto (tgt := 96) dX6_laughers_92 (by decide +kernel) kk
theorem sX6_laughers_95 {g : ZG} {Q : ZQ} {d cN sN : Nat} {M : ZM} {o0 o1 o2 o3 o4 o5 o6 : Option Value}  (kk : Z g kX6_laughers Q d cN sN M 96 [o0, o1, o2, o3, o4, o5, o6] [.int 0]) : Z g kX6_laughers Q d cN sN M 95 [o0, o1, o2, o3, o4, o5, o6] [] := by
  refine zi_iconst dX6_laughers_95 (by decide +kernel : Int32.ofInt (0) = (0 : Int32)) ?_
  exact kk
theorem sX6_laughers_96 {g : ZG} {Q : ZQ} {d cN sN : Nat} {M : ZM} {t0 : Int32} {l3 : Int32} {o0 o1 o2 o4 o5 o6 : Option Value}  (kt : (t0 : Int32) = 0 → Z g kX6_laughers Q d cN sN M 111 [o0, o1, o2, some (.int l3), o4, o5, some (.int t0)] [.int l3]) (kf : ¬ (t0 : Int32) = 0 → Z g kX6_laughers Q d cN sN M 104 [o0, o1, o2, some (.int l3), o4, o5, some (.int t0)] [.int l3]) : Z g kX6_laughers Q d cN sN M 96 [o0, o1, o2, some (.int l3), o4, o5, o6] [.int t0] := by
  refine zi_istore dX6_laughers_96 (Nat.le_of_ble_eq_true rfl) ?_
  refine zi_iload_n dX6_laughers_98 rfl ?_
  refine zi_iload dX6_laughers_99 rfl ?_
  exact zi_if_eq (tgt := 111) dX6_laughers_101 (by decide +kernel) kt kf
theorem sX6_laughers_104 {g : ZG} {Q : ZQ} {d cN sN : Nat} {M : ZM} {t0 : Int32} {l4 : Int32} {o0 o1 o2 o3 o5 o6 : Option Value}  (kk : Z g kX6_laughers Q d cN sN M 112 [o0, o1, o2, o3, some (.int l4), o5, o6] [.int (1 <<< (l4 &&& 31)), .int t0]) : Z g kX6_laughers Q d cN sN M 104 [o0, o1, o2, o3, some (.int l4), o5, o6] [.int t0] := by
  refine zi_iconst dX6_laughers_104 (by decide +kernel : Int32.ofInt (1) = (1 : Int32)) ?_
  refine zi_iload dX6_laughers_105 rfl ?_
  refine zi_ishl dX6_laughers_107 ?_
  exact zi_goto (tgt := 112) dX6_laughers_108 (by decide +kernel) kk
theorem sX6_laughers_111 {g : ZG} {Q : ZQ} {d cN sN : Nat} {M : ZM} {t0 : Int32} {o0 o1 o2 o3 o4 o5 o6 : Option Value}  (kk : Z g kX6_laughers Q d cN sN M 112 [o0, o1, o2, o3, o4, o5, o6] [.int 0, .int t0]) : Z g kX6_laughers Q d cN sN M 111 [o0, o1, o2, o3, o4, o5, o6] [.int t0] := by
  refine zi_iconst dX6_laughers_111 (by decide +kernel : Int32.ofInt (0) = (0 : Int32)) ?_
  exact kk
theorem sX6_laughers_112 {g : ZG} {Q : ZQ} {d cN sN : Nat} {M : ZM} {t0 : Int32} {t1 : Int32} {l4 : Int32} {o0 o1 o2 o3 o5 o6 : Option Value}  (kk : Z g kX6_laughers Q d cN sN M 5 [o0, o1, o2, some (.int (t0 ||| t1)), some (.int (l4 + 1)), o5, o6] []) : Z g kX6_laughers Q d cN sN M 112 [o0, o1, o2, o3, some (.int l4), o5, o6] [.int t1, .int t0] := by
  refine zi_ior dX6_laughers_112 ?_
  refine zi_istore_n dX6_laughers_113 (Nat.le_of_ble_eq_true rfl) ?_
  refine zi_iinc dX6_laughers_114 rfl (by decide +kernel : Int32.ofInt (1) = 1) (Nat.le_of_ble_eq_true rfl) ?_
  exact zi_goto (tgt := 5) dX6_laughers_117 (by decide +kernel) kk
theorem sX6_laughers_120 {g : ZG} {Q : ZQ} {d cN sN : Nat} {M : ZM} {l3 : Int32} {o0 o1 o2 o4 o5 o6 : Option Value}  (kk : Q.1 (some (.int l3)) M) : Z g kX6_laughers Q d cN sN M 120 [o0, o1, o2, some (.int l3), o4, o5, o6] [] := by
  refine zi_iload_n dX6_laughers_120 rfl ?_
  exact zi_ireturn dX6_laughers_121 rfl rfl kk
abbrev kX6_day : ZK := (RX6, cX6_day, 3, (Option.some Jvm.ClassFile.FieldType.int), [], false, fX6)
abbrev tX6_day (g : ZG) (args : List Value) (M : ZM) (d c s : Nat) (Q : ZQ) : Prop := Ct g yX6_day (ws_ yX6_day cX6_day 3 (Option.some Jvm.ClassFile.FieldType.int)) args M d c s Q
abbrev nX6_day : Nat := 3
theorem mX6_day : zMok yX6_day 0 3 := ⟨⟨by decide +kernel, by decide +kernel, by decide +kernel⟩, by decide⟩
theorem eX6_day {g : ZG} {Q : ZQ} {d cN sN : Nat} {M : ZM} {a0 : Nat} (hV : zV g) (h : Z g kX6_day Q d cN sN M 0 [some (.ref a0), none, none] []) : tX6_day g [.ref a0] M d cN sN Q := Ct.of (K := kX6_day) rfl (by decide +kernel) hV fokX6 rfl (fun h => by cases h) (fun v hv => by simp only [List.mem_cons, List.not_mem_nil, or_false] at hv; rcases hv with rfl <;> first | rfl | assumption) (Nat.le_of_ble_eq_true rfl) h
theorem sX6_day_0 {g : ZG} {Q : ZQ} {d cN sN : Nat} {M : ZM} {l0 : Nat} {fs1 : List Value} {r3 : Nat} {o1 o2 : Option Value} (h2 : M.1 l0 = some (.inr (5, fs1))) (h4 : (fs1)[0]? = some (.ref r3)) (kk : Z g kX6_day Q d cN sN M 5 [some (.ref l0), o1, o2] [.ref r3, .ref l0]) : Z g kX6_day Q d cN sN M 0 [some (.ref l0), o1, o2] [] := by
  refine zi_aload_n dX6_day_0 rfl zrf_r ?_
  refine zi_aload_n dX6_day_1 rfl zrf_r ?_
  refine zi_getfield dX6_day_2 rfl h2 h4 ?_
  exact kk
theorem sX6_day_8 {g : ZG} {Q : ZQ} {d cN sN : Nat} {M : ZM} {o0 o1 o2 : Option Value}  (kk : Z g kX6_day Q d cN sN M 12 [o0, some (.int 0), some (.int 0)] []) : Z g kX6_day Q d cN sN M 8 [o0, o1, o2] [] := by
  refine zi_iconst dX6_day_8 (by decide +kernel : Int32.ofInt (0) = (0 : Int32)) ?_
  refine zi_istore_n dX6_day_9 (Nat.le_of_ble_eq_true rfl) ?_
  refine zi_iconst dX6_day_10 (by decide +kernel : Int32.ofInt (0) = (0 : Int32)) ?_
  refine zi_istore_n dX6_day_11 (Nat.le_of_ble_eq_true rfl) ?_
  exact kk
theorem sX6_day_12 {g : ZG} {Q : ZQ} {d cN sN : Nat} {M : ZM} {l2 : Int32} {l0 : Nat} {fs1 : List Value} {r3 : Nat} {n5 : Nat} {f6 : Nat → Int32} {o1 : Option Value} (h2 : M.1 l0 = some (.inr (5, fs1))) (h4 : (fs1)[0]? = some (.ref r3)) (h7 : M.1 r3 = some (.inl (zA g 0, n5, .inl f6))) (h8 : vp_in (0) n5) (kt : (f6 ((0 : Int32).toNatClampNeg) : Int32) ≤ (l2 : Int32) → Z g kX6_day Q d cN sN M 67 [some (.ref l0), o1, some (.int l2)] []) (kf : ¬ (f6 ((0 : Int32).toNatClampNeg) : Int32) ≤ (l2 : Int32) → Z g kX6_day Q d cN sN M 22 [some (.ref l0), o1, some (.int l2)] []) : Z g kX6_day Q d cN sN M 12 [some (.ref l0), o1, some (.int l2)] [] := by
  refine zi_iload_n dX6_day_12 rfl ?_
  refine zi_aload_n dX6_day_13 rfl zrf_r ?_
  refine zi_getfield dX6_day_14 rfl h2 h4 ?_
  refine zi_iconst dX6_day_17 (by decide +kernel : Int32.ofInt (0) = (0 : Int32)) ?_
  refine zi_iaload dX6_day_18 h7 h8 ?_
  exact zi_icmp_ge (tgt := 67) dX6_day_19 (by decide +kernel) kt kf
theorem sX6_day_22 {g : ZG} {Q : ZQ} {d cN sN : Nat} {M : ZM} {l0 : Nat} {l2 : Int32} {o1 : Option Value}  (kk : Z g kX6_day Q d cN sN M 25 [some (.ref l0), o1, some (.int l2)] [.int 1, .int l2, .ref l0]) : Z g kX6_day Q d cN sN M 22 [some (.ref l0), o1, some (.int l2)] [] := by
  refine zi_aload_n dX6_day_22 rfl zrf_r ?_
  refine zi_iload_n dX6_day_23 rfl ?_
  refine zi_iconst dX6_day_24 (by decide +kernel : Int32.ofInt (1) = (1 : Int32)) ?_
  exact kk
theorem sX6_day_28 {g : ZG} {Q : ZQ} {d cN sN : Nat} {M : ZM} {t0 : Int32} {o0 o1 o2 : Option Value}  (kt : (t0 : Int32) ≤ 0 → Z g kX6_day Q d cN sN M 38 [o0, o1, o2] []) (kf : ¬ (t0 : Int32) ≤ 0 → Z g kX6_day Q d cN sN M 31 [o0, o1, o2] []) : Z g kX6_day Q d cN sN M 28 [o0, o1, o2] [.int t0] := by
  exact zi_if_le (tgt := 38) dX6_day_28 (by decide +kernel) kt kf
theorem sX6_day_31 {g : ZG} {Q : ZQ} {d cN sN : Nat} {M : ZM} {l0 : Nat} {l2 : Int32} {o1 : Option Value}  (kk : Z g kX6_day Q d cN sN M 35 [some (.ref l0), o1, some (.int l2)] [.int ((-1)), .int 1, .int l2, .ref l0]) : Z g kX6_day Q d cN sN M 31 [some (.ref l0), o1, some (.int l2)] [] := by
  refine zi_aload_n dX6_day_31 rfl zrf_r ?_
  refine zi_iload_n dX6_day_32 rfl ?_
  refine zi_iconst dX6_day_33 (by decide +kernel : Int32.ofInt (1) = (1 : Int32)) ?_
  refine zi_iconst dX6_day_34 (by decide +kernel : Int32.ofInt (-1) = (-1 : Int32)) ?_
  exact kk
theorem sX6_day_38 {g : ZG} {Q : ZQ} {d cN sN : Nat} {M : ZM} {l0 : Nat} {l2 : Int32} {o1 : Option Value}  (kk : Z g kX6_day Q d cN sN M 42 [some (.ref l0), o1, some (.int l2)] [.int 1, .int 0, .int l2, .ref l0]) : Z g kX6_day Q d cN sN M 38 [some (.ref l0), o1, some (.int l2)] [] := by
  refine zi_aload_n dX6_day_38 rfl zrf_r ?_
  refine zi_iload_n dX6_day_39 rfl ?_
  refine zi_iconst dX6_day_40 (by decide +kernel : Int32.ofInt (0) = (0 : Int32)) ?_
  refine zi_iconst dX6_day_41 (by decide +kernel : Int32.ofInt (1) = (1 : Int32)) ?_
  exact kk
theorem sX6_day_45 {g : ZG} {Q : ZQ} {d cN sN : Nat} {M : ZM} {l1 : Int32} {l0 : Nat} {l2 : Int32}  (kk : Z g kX6_day Q d cN sN M 48 [some (.ref l0), some (.int l1), some (.int l2)] [.int l2, .ref l0, .int l1]) : Z g kX6_day Q d cN sN M 45 [some (.ref l0), some (.int l1), some (.int l2)] [] := by
  refine zi_iload_n dX6_day_45 rfl ?_
  refine zi_aload_n dX6_day_46 rfl zrf_r ?_
  refine zi_iload_n dX6_day_47 rfl ?_
  exact kk
theorem sX6_day_51 {g : ZG} {Q : ZQ} {d cN sN : Nat} {M : ZM} {t0 : Int32} {t1 : Int32} {o0 o1 o2 : Option Value}  (kt : (t1 : Int32) = 0 → Z g kX6_day Q d cN sN M 58 [o0, o1, o2] [.int t0]) (kf : ¬ (t1 : Int32) = 0 → Z g kX6_day Q d cN sN M 54 [o0, o1, o2] [.int t0]) : Z g kX6_day Q d cN sN M 51 [o0, o1, o2] [.int t1, .int t0] := by
  exact zi_if_eq (tgt := 58) dX6_day_51 (by decide +kernel) kt kf
theorem sX6_day_54 {g : ZG} {Q : ZQ} {d cN sN : Nat} {M : ZM} {t0 : Int32} {o0 o1 o2 : Option Value}  (kk : Z g kX6_day Q d cN sN M 59 [o0, o1, o2] [.int 1, .int t0]) : Z g kX6_day Q d cN sN M 54 [o0, o1, o2] [.int t0] := by
  refine zi_iconst dX6_day_54 (by decide +kernel : Int32.ofInt (1) = (1 : Int32)) ?_
  exact zi_goto (tgt := 59) dX6_day_55 (by decide +kernel) kk
theorem sX6_day_58 {g : ZG} {Q : ZQ} {d cN sN : Nat} {M : ZM} {t0 : Int32} {o0 o1 o2 : Option Value}  (kk : Z g kX6_day Q d cN sN M 59 [o0, o1, o2] [.int 0, .int t0]) : Z g kX6_day Q d cN sN M 58 [o0, o1, o2] [.int t0] := by
  refine zi_iconst dX6_day_58 (by decide +kernel : Int32.ofInt (0) = (0 : Int32)) ?_
  exact kk
theorem sX6_day_59 {g : ZG} {Q : ZQ} {d cN sN : Nat} {M : ZM} {t0 : Int32} {t1 : Int32} {l2 : Int32} {o0 o1 : Option Value}  (kk : Z g kX6_day Q d cN sN M 12 [o0, some (.int (t0 + t1)), some (.int (l2 + 1))] []) : Z g kX6_day Q d cN sN M 59 [o0, o1, some (.int l2)] [.int t1, .int t0] := by
  refine zi_iadd dX6_day_59 ?_
  refine zi_istore_n dX6_day_60 (Nat.le_of_ble_eq_true rfl) ?_
  refine zi_iinc dX6_day_61 rfl (by decide +kernel : Int32.ofInt (1) = 1) (Nat.le_of_ble_eq_true rfl) ?_
  exact zi_goto (tgt := 12) dX6_day_64 (by decide +kernel) kk
theorem sX6_day_67 {g : ZG} {Q : ZQ} {d cN sN : Nat} {M : ZM} {l0 : Nat} {fs1 : List Value} {r3 : Nat} {n5 : Nat} {f6 : Nat → Int32} {l1 : Int32} {o2 : Option Value} (h2 : M.1 l0 = some (.inr (5, fs1))) (h4 : (fs1)[0]? = some (.ref r3)) (h7 : M.1 r3 = some (.inl (zA g 0, n5, .inl f6))) (h8 : vp_in (3) n5) (kk : Q.1 (some (.int l1)) (zup M r3 (.inl (zA g 0, n5, .inl (upd f6 ((3 : Int32).toNatClampNeg) ((f6 ((3 : Int32).toNatClampNeg)) + 1)))))) : Z g kX6_day Q d cN sN M 67 [some (.ref l0), some (.int l1), o2] [] := by
  refine zi_aload_n dX6_day_67 rfl zrf_r ?_
  refine zi_getfield dX6_day_68 rfl h2 h4 ?_
  refine zi_iconst dX6_day_71 (by decide +kernel : Int32.ofInt (3) = (3 : Int32)) ?_
  refine zi_dup2 dX6_day_72 rfl rfl ?_
  refine zi_iaload dX6_day_73 h7 h8 ?_
  refine zi_iconst dX6_day_74 (by decide +kernel : Int32.ofInt (1) = (1 : Int32)) ?_
  refine zi_iadd dX6_day_75 ?_
  refine zi_iastore dX6_day_76 h7 h8 ?_
  refine zi_iload_n dX6_day_77 rfl ?_
  exact zi_ireturn dX6_day_78 rfl rfl kk
abbrev kX6_houseOf : ZK := (RX6, cX6_houseOf, 3, (Option.some Jvm.ClassFile.FieldType.int), [], false, fX6)
abbrev tX6_houseOf (g : ZG) (args : List Value) (M : ZM) (d c s : Nat) (Q : ZQ) : Prop := Ct g yX6_houseOf (ws_ yX6_houseOf cX6_houseOf 3 (Option.some Jvm.ClassFile.FieldType.int)) args M d c s Q
abbrev nX6_houseOf : Nat := 6
theorem mX6_houseOf : zMok yX6_houseOf 2 3 := ⟨⟨by decide +kernel, by decide +kernel, by decide +kernel⟩, by decide⟩
theorem eX6_houseOf {g : ZG} {Q : ZQ} {d cN sN : Nat} {M : ZM} {a0 : Nat} {x1 : Int32} {x2 : Int32} (hV : zV g) (h : Z g kX6_houseOf Q d cN sN M 0 [some (.ref a0), some (.int x1), some (.int x2)] []) : tX6_houseOf g [.ref a0, .int x1, .int x2] M d cN sN Q := Ct.of (K := kX6_houseOf) rfl (by decide +kernel) hV fokX6 rfl (fun h => by cases h) (fun v hv => by simp only [List.mem_cons, List.not_mem_nil, or_false] at hv; rcases hv with rfl | rfl | rfl <;> first | rfl | assumption) (Nat.le_of_ble_eq_true rfl) h
theorem sX6_houseOf_0 {g : ZG} {Q : ZQ} {d cN sN : Nat} {M : ZM} {l0 : Nat} {l1 : Int32} {o2 : Option Value}  (kk : Z g kX6_houseOf Q d cN sN M 3 [some (.ref l0), some (.int l1), o2] [.int l1, .ref l0, .ref l0]) : Z g kX6_houseOf Q d cN sN M 0 [some (.ref l0), some (.int l1), o2] [] := by
  refine zi_aload_n dX6_houseOf_0 rfl zrf_r ?_
  refine zi_aload_n dX6_houseOf_1 rfl zrf_r ?_
  refine zi_iload_n dX6_houseOf_2 rfl ?_
  exact kk
theorem sX6_houseOf_6 {g : ZG} {Q : ZQ} {d cN sN : Nat} {M : ZM} {t0 : Nat} {t1 : Int32} {o0 o1 o2 : Option Value}  (kt : ¬ (t1 : Int32) = 0 → Z g kX6_houseOf Q d cN sN M 13 [o0, o1, o2] [.ref t0]) (kf : (t1 : Int32) = 0 → Z g kX6_houseOf Q d cN sN M 9 [o0, o1, o2] [.ref t0]) : Z g kX6_houseOf Q d cN sN M 6 [o0, o1, o2] [.int t1, .ref t0] := by
  exact zi_if_ne (tgt := 13) dX6_houseOf_6 (by decide +kernel) kt kf
theorem sX6_houseOf_9 {g : ZG} {Q : ZQ} {d cN sN : Nat} {M : ZM} {t0 : Nat} {o0 o1 o2 : Option Value}  (kk : Z g kX6_houseOf Q d cN sN M 28 [o0, o1, o2] [.int 1, .ref t0]) : Z g kX6_houseOf Q d cN sN M 9 [o0, o1, o2] [.ref t0] := by
  refine zi_iconst dX6_houseOf_9 (by decide +kernel : Int32.ofInt (1) = (1 : Int32)) ?_
  exact zi_goto (tgt := 28) dX6_houseOf_10 (by decide +kernel) kk
theorem sX6_houseOf_13 {g : ZG} {Q : ZQ} {d cN sN : Nat} {M : ZM} {t0 : Nat} {l2 : Int32} {o0 o1 : Option Value}  (kk : Z g kX6_houseOf Q d cN sN M 17 [o0, o1, some (.int l2)] [.int 6, .int 0, .int l2, .ref t0]) : Z g kX6_houseOf Q d cN sN M 13 [o0, o1, some (.int l2)] [.ref t0] := by
  refine zi_iload_n dX6_houseOf_13 rfl ?_
  refine zi_iconst dX6_houseOf_14 (by decide +kernel : Int32.ofInt (0) = (0 : Int32)) ?_
  refine zi_bipush dX6_houseOf_15 (by decide +kernel : (Int8.ofInt (6)).toInt32 = (6 : Int32)) ?_
  exact kk
theorem sX6_houseOf_20 {g : ZG} {Q : ZQ} {d cN sN : Nat} {M : ZM} {t0 : Nat} {t1 : Int32} {o0 o1 o2 : Option Value}  (kt : (t1 : Int32) = 0 → Z g kX6_houseOf Q d cN sN M 27 [o0, o1, o2] [.ref t0]) (kf : ¬ (t1 : Int32) = 0 → Z g kX6_houseOf Q d cN sN M 23 [o0, o1, o2] [.ref t0]) : Z g kX6_houseOf Q d cN sN M 20 [o0, o1, o2] [.int t1, .ref t0] := by
  exact zi_if_eq (tgt := 27) dX6_houseOf_20 (by decide +kernel) kt kf
theorem sX6_houseOf_23 {g : ZG} {Q : ZQ} {d cN sN : Nat} {M : ZM} {t0 : Nat} {o0 o1 o2 : Option Value}  (kk : Z g kX6_houseOf Q d cN sN M 28 [o0, o1, o2] [.int 0, .ref t0]) : Z g kX6_houseOf Q d cN sN M 23 [o0, o1, o2] [.ref t0] := by
  refine zi_iconst dX6_houseOf_23 (by decide +kernel : Int32.ofInt (0) = (0 : Int32)) ?_
  exact zi_goto (tgt := 28) dX6_houseOf_24 (by decide +kernel) kk
theorem sX6_houseOf_27 {g : ZG} {Q : ZQ} {d cN sN : Nat} {M : ZM} {t0 : Nat} {o0 o1 o2 : Option Value}  (kk : Z g kX6_houseOf Q d cN sN M 28 [o0, o1, o2] [.int 2, .ref t0]) : Z g kX6_houseOf Q d cN sN M 27 [o0, o1, o2] [.ref t0] := by
  refine zi_iconst dX6_houseOf_27 (by decide +kernel : Int32.ofInt (2) = (2 : Int32)) ?_
  exact kk
theorem sX6_houseOf_31 {g : ZG} {Q : ZQ} {d cN sN : Nat} {M : ZM} {t0 : Int32} {o0 o1 o2 : Option Value}  (kt : (t0 : Int32) = 0 → Z g kX6_houseOf Q d cN sN M 36 [o0, o1, o2] []) (kf : ¬ (t0 : Int32) = 0 → Z g kX6_houseOf Q d cN sN M 34 [o0, o1, o2] []) : Z g kX6_houseOf Q d cN sN M 31 [o0, o1, o2] [.int t0] := by
  exact zi_if_eq (tgt := 36) dX6_houseOf_31 (by decide +kernel) kt kf
theorem sX6_houseOf_34 {g : ZG} {Q : ZQ} {d cN sN : Nat} {M : ZM} {o0 o1 o2 : Option Value}  (kk : Q.1 (some (.int 0)) M) : Z g kX6_houseOf Q d cN sN M 34 [o0, o1, o2] [] := by
  refine zi_iconst dX6_houseOf_34 (by decide +kernel : Int32.ofInt (0) = (0 : Int32)) ?_
  exact zi_ireturn dX6_houseOf_35 rfl rfl kk
theorem sX6_houseOf_36 {g : ZG} {Q : ZQ} {d cN sN : Nat} {M : ZM} {l2 : Int32} {o0 o1 : Option Value}  (kk : Z g kX6_houseOf Q d cN sN M 37 [o0, o1, some (.int l2)] [.int l2]) : Z g kX6_houseOf Q d cN sN M 36 [o0, o1, some (.int l2)] [] := by
  refine zi_iload_n dX6_houseOf_36 rfl ?_
  exact kk
theorem sX6_houseOf_76 {g : ZG} {Q : ZQ} {d cN sN : Nat} {M : ZM} {l0 : Nat} {l1 : Int32} {l2 : Int32}  (kk : Z g kX6_houseOf Q d cN sN M 79 [some (.ref l0), some (.int l1), some (.int l2)] [.int l2, .int l1, .ref l0]) : Z g kX6_houseOf Q d cN sN M 76 [some (.ref l0), some (.int l1), some (.int l2)] [] := by
  refine zi_aload_n dX6_houseOf_76 rfl zrf_r ?_
  refine zi_iload_n dX6_houseOf_77 rfl ?_
  refine zi_iload_n dX6_houseOf_78 rfl ?_
  exact kk
theorem sX6_houseOf_82 {g : ZG} {Q : ZQ} {d cN sN : Nat} {M : ZM} {t0 : Int32} {o0 o1 o2 : Option Value}  (kk : Q.1 (some (.int t0)) M) : Z g kX6_houseOf Q d cN sN M 82 [o0, o1, o2] [.int t0] := by
  exact zi_ireturn dX6_houseOf_82 rfl rfl kk
theorem sX6_houseOf_83 {g : ZG} {Q : ZQ} {d cN sN : Nat} {M : ZM} {l0 : Nat} {l1 : Int32} {o2 : Option Value}  (kk : Z g kX6_houseOf Q d cN sN M 85 [some (.ref l0), some (.int l1), o2] [.int l1, .ref l0]) : Z g kX6_houseOf Q d cN sN M 83 [some (.ref l0), some (.int l1), o2] [] := by
  refine zi_aload_n dX6_houseOf_83 rfl zrf_r ?_
  refine zi_iload_n dX6_houseOf_84 rfl ?_
  exact kk
theorem sX6_houseOf_88 {g : ZG} {Q : ZQ} {d cN sN : Nat} {M : ZM} {t0 : Int32} {o0 o1 o2 : Option Value}  (kk : Q.1 (some (.int t0)) M) : Z g kX6_houseOf Q d cN sN M 88 [o0, o1, o2] [.int t0] := by
  exact zi_ireturn dX6_houseOf_88 rfl rfl kk
theorem sX6_houseOf_89 {g : ZG} {Q : ZQ} {d cN sN : Nat} {M : ZM} {l0 : Nat} {l1 : Int32} {o2 : Option Value}  (kk : Z g kX6_houseOf Q d cN sN M 92 [some (.ref l0), some (.int l1), o2] [.int 1, .int l1, .ref l0]) : Z g kX6_houseOf Q d cN sN M 89 [some (.ref l0), some (.int l1), o2] [] := by
  refine zi_aload_n dX6_houseOf_89 rfl zrf_r ?_
  refine zi_iload_n dX6_houseOf_90 rfl ?_
  refine zi_iconst dX6_houseOf_91 (by decide +kernel : Int32.ofInt (1) = (1 : Int32)) ?_
  exact kk
theorem sX6_houseOf_95 {g : ZG} {Q : ZQ} {d cN sN : Nat} {M : ZM} {t0 : Int32} {o0 o1 o2 : Option Value}  (kk : Q.1 (some (.int t0)) M) : Z g kX6_houseOf Q d cN sN M 95 [o0, o1, o2] [.int t0] := by
  exact zi_ireturn dX6_houseOf_95 rfl rfl kk
theorem sX6_houseOf_96 {g : ZG} {Q : ZQ} {d cN sN : Nat} {M : ZM} {l0 : Nat} {l1 : Int32} {o2 : Option Value}  (kk : Z g kX6_houseOf Q d cN sN M 99 [some (.ref l0), some (.int l1), o2] [.int 2, .int l1, .ref l0]) : Z g kX6_houseOf Q d cN sN M 96 [some (.ref l0), some (.int l1), o2] [] := by
  refine zi_aload_n dX6_houseOf_96 rfl zrf_r ?_
  refine zi_iload_n dX6_houseOf_97 rfl ?_
  refine zi_iconst dX6_houseOf_98 (by decide +kernel : Int32.ofInt (2) = (2 : Int32)) ?_
  exact kk
theorem sX6_houseOf_102 {g : ZG} {Q : ZQ} {d cN sN : Nat} {M : ZM} {t0 : Int32} {o0 o1 o2 : Option Value}  (kk : Q.1 (some (.int t0)) M) : Z g kX6_houseOf Q d cN sN M 102 [o0, o1, o2] [.int t0] := by
  exact zi_ireturn dX6_houseOf_102 rfl rfl kk
theorem sX6_houseOf_103 {g : ZG} {Q : ZQ} {d cN sN : Nat} {M : ZM} {l0 : Nat} {l1 : Int32} {o2 : Option Value}  (kk : Z g kX6_houseOf Q d cN sN M 105 [some (.ref l0), some (.int l1), o2] [.int l1, .ref l0]) : Z g kX6_houseOf Q d cN sN M 103 [some (.ref l0), some (.int l1), o2] [] := by
  refine zi_aload_n dX6_houseOf_103 rfl zrf_r ?_
  refine zi_iload_n dX6_houseOf_104 rfl ?_
  exact kk
theorem sX6_houseOf_108 {g : ZG} {Q : ZQ} {d cN sN : Nat} {M : ZM} {t0 : Int32} {o0 o1 o2 : Option Value}  (kk : Q.1 (some (.int t0)) M) : Z g kX6_houseOf Q d cN sN M 108 [o0, o1, o2] [.int t0] := by
  exact zi_ireturn dX6_houseOf_108 rfl rfl kk
theorem sX6_houseOf_109 {g : ZG} {Q : ZQ} {d cN sN : Nat} {M : ZM} {l0 : Nat} {l1 : Int32} {o2 : Option Value}  (kk : Z g kX6_houseOf Q d cN sN M 112 [some (.ref l0), some (.int l1), o2] [.int 2, .int l1, .ref l0]) : Z g kX6_houseOf Q d cN sN M 109 [some (.ref l0), some (.int l1), o2] [] := by
  refine zi_aload_n dX6_houseOf_109 rfl zrf_r ?_
  refine zi_iload_n dX6_houseOf_110 rfl ?_
  refine zi_iconst dX6_houseOf_111 (by decide +kernel : Int32.ofInt (2) = (2 : Int32)) ?_
  exact kk
theorem sX6_houseOf_115 {g : ZG} {Q : ZQ} {d cN sN : Nat} {M : ZM} {t0 : Int32} {o0 o1 o2 : Option Value}  (kk : Q.1 (some (.int t0)) M) : Z g kX6_houseOf Q d cN sN M 115 [o0, o1, o2] [.int t0] := by
  exact zi_ireturn dX6_houseOf_115 rfl rfl kk
abbrev kX6_sheetsOf : ZK := (RX6, cX6_sheetsOf, 4, (Option.some Jvm.ClassFile.FieldType.int), [], false, fX6)
abbrev tX6_sheetsOf (g : ZG) (args : List Value) (M : ZM) (d c s : Nat) (Q : ZQ) : Prop := Ct g yX6_sheetsOf (ws_ yX6_sheetsOf cX6_sheetsOf 4 (Option.some Jvm.ClassFile.FieldType.int)) args M d c s Q
abbrev nX6_sheetsOf : Nat := 2
theorem mX6_sheetsOf : zMok yX6_sheetsOf 1 4 := ⟨⟨by decide +kernel, by decide +kernel, by decide +kernel⟩, by decide⟩
theorem eX6_sheetsOf {g : ZG} {Q : ZQ} {d cN sN : Nat} {M : ZM} {a0 : Nat} {x1 : Int32} (hV : zV g) (h : Z g kX6_sheetsOf Q d cN sN M 0 [some (.ref a0), some (.int x1), none, none] []) : tX6_sheetsOf g [.ref a0, .int x1] M d cN sN Q := Ct.of (K := kX6_sheetsOf) rfl (by decide +kernel) hV fokX6 rfl (fun h => by cases h) (fun v hv => by simp only [List.mem_cons, List.not_mem_nil, or_false] at hv; rcases hv with rfl | rfl <;> first | rfl | assumption) (Nat.le_of_ble_eq_true rfl) h
theorem sX6_sheetsOf_0 {g : ZG} {Q : ZQ} {d cN sN : Nat} {M : ZM} {o0 o1 o2 o3 : Option Value}  (kk : Z g kX6_sheetsOf Q d cN sN M 4 [o0, o1, some (.int 0), some (.int 0)] []) : Z g kX6_sheetsOf Q d cN sN M 0 [o0, o1, o2, o3] [] := by
  refine zi_iconst dX6_sheetsOf_0 (by decide +kernel : Int32.ofInt (0) = (0 : Int32)) ?_
  refine zi_istore_n dX6_sheetsOf_1 (Nat.le_of_ble_eq_true rfl) ?_
  refine zi_iconst dX6_sheetsOf_2 (by decide +kernel : Int32.ofInt (0) = (0 : Int32)) ?_
  refine zi_istore_n dX6_sheetsOf_3 (Nat.le_of_ble_eq_true rfl) ?_
  exact kk
theorem sX6_sheetsOf_4 {g : ZG} {Q : ZQ} {d cN sN : Nat} {M : ZM} {l3 : Int32} {l0 : Nat} {fs1 : List Value} {r3 : Nat} {n5 : Nat} {f6 : Nat → Int32} {o1 o2 : Option Value} (h2 : M.1 l0 = some (.inr (5, fs1))) (h4 : (fs1)[0]? = some (.ref r3)) (h7 : M.1 r3 = some (.inl (zA g 0, n5, .inl f6))) (h8 : vp_in (1) n5) (kt : (f6 ((1 : Int32).toNatClampNeg) : Int32) ≤ (l3 : Int32) → Z g kX6_sheetsOf Q d cN sN M 38 [some (.ref l0), o1, o2, some (.int l3)] []) (kf : ¬ (f6 ((1 : Int32).toNatClampNeg) : Int32) ≤ (l3 : Int32) → Z g kX6_sheetsOf Q d cN sN M 14 [some (.ref l0), o1, o2, some (.int l3)] []) : Z g kX6_sheetsOf Q d cN sN M 4 [some (.ref l0), o1, o2, some (.int l3)] [] := by
  refine zi_iload_n dX6_sheetsOf_4 rfl ?_
  refine zi_aload_n dX6_sheetsOf_5 rfl zrf_r ?_
  refine zi_getfield dX6_sheetsOf_6 rfl h2 h4 ?_
  refine zi_iconst dX6_sheetsOf_9 (by decide +kernel : Int32.ofInt (1) = (1 : Int32)) ?_
  refine zi_iaload dX6_sheetsOf_10 h7 h8 ?_
  exact zi_icmp_ge (tgt := 38) dX6_sheetsOf_11 (by decide +kernel) kt kf
theorem sX6_sheetsOf_14 {g : ZG} {Q : ZQ} {d cN sN : Nat} {M : ZM} {l2 : Int32} {l0 : Nat} {l3 : Int32} {o1 : Option Value}  (kk : Z g kX6_sheetsOf Q d cN sN M 18 [some (.ref l0), o1, some (.int l2), some (.int l3)] [.int 0, .int l3, .ref l0, .int l2]) : Z g kX6_sheetsOf Q d cN sN M 14 [some (.ref l0), o1, some (.int l2), some (.int l3)] [] := by
  refine zi_iload_n dX6_sheetsOf_14 rfl ?_
  refine zi_aload_n dX6_sheetsOf_15 rfl zrf_r ?_
  refine zi_iload_n dX6_sheetsOf_16 rfl ?_
  refine zi_iconst dX6_sheetsOf_17 (by decide +kernel : Int32.ofInt (0) = (0 : Int32)) ?_
  exact kk
theorem sX6_sheetsOf_21 {g : ZG} {Q : ZQ} {d cN sN : Nat} {M : ZM} {t0 : Int32} {t1 : Int32} {l1 : Int32} {o0 o2 o3 : Option Value}  (kt : ¬ (t1 : Int32) = (l1 : Int32) → Z g kX6_sheetsOf Q d cN sN M 29 [o0, some (.int l1), o2, o3] [.int t0]) (kf : (t1 : Int32) = (l1 : Int32) → Z g kX6_sheetsOf Q d cN sN M 25 [o0, some (.int l1), o2, o3] [.int t0]) : Z g kX6_sheetsOf Q d cN sN M 21 [o0, some (.int l1), o2, o3] [.int t1, .int t0] := by
  refine zi_iload_n dX6_sheetsOf_21 rfl ?_
  exact zi_icmp_ne (tgt := 29) dX6_sheetsOf_22 (by decide +kernel) kt kf
theorem sX6_sheetsOf_25 {g : ZG} {Q : ZQ} {d cN sN : Nat} {M : ZM} {t0 : Int32} {o0 o1 o2 o3 : Option Value}  (kk : Z g kX6_sheetsOf Q d cN sN M 30 [o0, o1, o2, o3] [.int 1, .int t0]) : Z g kX6_sheetsOf Q d cN sN M 25 [o0, o1, o2, o3] [.int t0] := by
  refine zi_iconst dX6_sheetsOf_25 (by decide +kernel : Int32.ofInt (1) = (1 : Int32)) ?_
  exact zi_goto (tgt := 30) dX6_sheetsOf_26 (by decide +kernel) kk
theorem sX6_sheetsOf_29 {g : ZG} {Q : ZQ} {d cN sN : Nat} {M : ZM} {t0 : Int32} {o0 o1 o2 o3 : Option Value}  (kk : Z g kX6_sheetsOf Q d cN sN M 30 [o0, o1, o2, o3] [.int 0, .int t0]) : Z g kX6_sheetsOf Q d cN sN M 29 [o0, o1, o2, o3] [.int t0] := by
  refine zi_iconst dX6_sheetsOf_29 (by decide +kernel : Int32.ofInt (0) = (0 : Int32)) ?_
  exact kk
theorem sX6_sheetsOf_30 {g : ZG} {Q : ZQ} {d cN sN : Nat} {M : ZM} {t0 : Int32} {t1 : Int32} {l3 : Int32} {o0 o1 o2 : Option Value}  (kk : Z g kX6_sheetsOf Q d cN sN M 4 [o0, o1, some (.int (t0 + t1)), some (.int (l3 + 1))] []) : Z g kX6_sheetsOf Q d cN sN M 30 [o0, o1, o2, some (.int l3)] [.int t1, .int t0] := by
  refine zi_iadd dX6_sheetsOf_30 ?_
  refine zi_istore_n dX6_sheetsOf_31 (Nat.le_of_ble_eq_true rfl) ?_
  refine zi_iinc dX6_sheetsOf_32 rfl (by decide +kernel : Int32.ofInt (1) = 1) (Nat.le_of_ble_eq_true rfl) ?_
  exact zi_goto (tgt := 4) dX6_sheetsOf_35 (by decide +kernel) kk
theorem sX6_sheetsOf_38 {g : ZG} {Q : ZQ} {d cN sN : Nat} {M : ZM} {l2 : Int32} {o0 o1 o3 : Option Value}  (kk : Q.1 (some (.int l2)) M) : Z g kX6_sheetsOf Q d cN sN M 38 [o0, o1, some (.int l2), o3] [] := by
  refine zi_iload_n dX6_sheetsOf_38 rfl ?_
  exact zi_ireturn dX6_sheetsOf_39 rfl rfl kk
abbrev kX6_sheetOf : ZK := (RX6, cX6_sheetOf, 3, (Option.some Jvm.ClassFile.FieldType.int), [], false, fX6)
abbrev tX6_sheetOf (g : ZG) (args : List Value) (M : ZM) (d c s : Nat) (Q : ZQ) : Prop := Ct g yX6_sheetOf (ws_ yX6_sheetOf cX6_sheetOf 3 (Option.some Jvm.ClassFile.FieldType.int)) args M d c s Q
abbrev nX6_sheetOf : Nat := 4
theorem mX6_sheetOf : zMok yX6_sheetOf 2 3 := ⟨⟨by decide +kernel, by decide +kernel, by decide +kernel⟩, by decide⟩
theorem eX6_sheetOf {g : ZG} {Q : ZQ} {d cN sN : Nat} {M : ZM} {a0 : Nat} {x1 : Int32} {x2 : Int32} (hV : zV g) (h : Z g kX6_sheetOf Q d cN sN M 0 [some (.ref a0), some (.int x1), some (.int x2)] []) : tX6_sheetOf g [.ref a0, .int x1, .int x2] M d cN sN Q := Ct.of (K := kX6_sheetOf) rfl (by decide +kernel) hV fokX6 rfl (fun h => by cases h) (fun v hv => by simp only [List.mem_cons, List.not_mem_nil, or_false] at hv; rcases hv with rfl | rfl | rfl <;> first | rfl | assumption) (Nat.le_of_ble_eq_true rfl) h
theorem sX6_sheetOf_0 {g : ZG} {Q : ZQ} {d cN sN : Nat} {M : ZM} {l0 : Nat} {l1 : Int32} {o2 : Option Value}  (kk : Z g kX6_sheetOf Q d cN sN M 3 [some (.ref l0), some (.int l1), o2] [.int l1, .ref l0, .ref l0]) : Z g kX6_sheetOf Q d cN sN M 0 [some (.ref l0), some (.int l1), o2] [] := by
  refine zi_aload_n dX6_sheetOf_0 rfl zrf_r ?_
  refine zi_aload_n dX6_sheetOf_1 rfl zrf_r ?_
  refine zi_iload_n dX6_sheetOf_2 rfl ?_
  exact kk
theorem sX6_sheetOf_6 {g : ZG} {Q : ZQ} {d cN sN : Nat} {M : ZM} {t0 : Nat} {t1 : Int32} {o0 o1 o2 : Option Value}  (kt : ¬ (t1 : Int32) = 0 → Z g kX6_sheetOf Q d cN sN M 13 [o0, o1, o2] [.ref t0]) (kf : (t1 : Int32) = 0 → Z g kX6_sheetOf Q d cN sN M 9 [o0, o1, o2] [.ref t0]) : Z g kX6_sheetOf Q d cN sN M 6 [o0, o1, o2] [.int t1, .ref t0] := by
  exact zi_if_ne (tgt := 13) dX6_sheetOf_6 (by decide +kernel) kt kf
theorem sX6_sheetOf_9 {g : ZG} {Q : ZQ} {d cN sN : Nat} {M : ZM} {t0 : Nat} {o0 o1 o2 : Option Value}  (kk : Z g kX6_sheetOf Q d cN sN M 27 [o0, o1, o2] [.int 1, .ref t0]) : Z g kX6_sheetOf Q d cN sN M 9 [o0, o1, o2] [.ref t0] := by
  refine zi_iconst dX6_sheetOf_9 (by decide +kernel : Int32.ofInt (1) = (1 : Int32)) ?_
  exact zi_goto (tgt := 27) dX6_sheetOf_10 (by decide +kernel) kk
theorem sX6_sheetOf_13 {g : ZG} {Q : ZQ} {d cN sN : Nat} {M : ZM} {t0 : Nat} {l2 : Int32} {o0 o1 : Option Value}  (kk : Z g kX6_sheetOf Q d cN sN M 16 [o0, o1, some (.int l2)] [.int 5, .int 0, .int l2, .ref t0]) : Z g kX6_sheetOf Q d cN sN M 13 [o0, o1, some (.int l2)] [.ref t0] := by
  refine zi_iload_n dX6_sheetOf_13 rfl ?_
  refine zi_iconst dX6_sheetOf_14 (by decide +kernel : Int32.ofInt (0) = (0 : Int32)) ?_
  refine zi_iconst dX6_sheetOf_15 (by decide +kernel : Int32.ofInt (5) = (5 : Int32)) ?_
  exact kk
theorem sX6_sheetOf_19 {g : ZG} {Q : ZQ} {d cN sN : Nat} {M : ZM} {t0 : Nat} {t1 : Int32} {o0 o1 o2 : Option Value}  (kt : (t1 : Int32) = 0 → Z g kX6_sheetOf Q d cN sN M 26 [o0, o1, o2] [.ref t0]) (kf : ¬ (t1 : Int32) = 0 → Z g kX6_sheetOf Q d cN sN M 22 [o0, o1, o2] [.ref t0]) : Z g kX6_sheetOf Q d cN sN M 19 [o0, o1, o2] [.int t1, .ref t0] := by
  exact zi_if_eq (tgt := 26) dX6_sheetOf_19 (by decide +kernel) kt kf
theorem sX6_sheetOf_22 {g : ZG} {Q : ZQ} {d cN sN : Nat} {M : ZM} {t0 : Nat} {o0 o1 o2 : Option Value}  (kk : Z g kX6_sheetOf Q d cN sN M 27 [o0, o1, o2] [.int 0, .ref t0]) : Z g kX6_sheetOf Q d cN sN M 22 [o0, o1, o2] [.ref t0] := by
  refine zi_iconst dX6_sheetOf_22 (by decide +kernel : Int32.ofInt (0) = (0 : Int32)) ?_
  exact zi_goto (tgt := 27) dX6_sheetOf_23 (by decide +kernel) kk
theorem sX6_sheetOf_26 {g : ZG} {Q : ZQ} {d cN sN : Nat} {M : ZM} {t0 : Nat} {o0 o1 o2 : Option Value}  (kk : Z g kX6_sheetOf Q d cN sN M 27 [o0, o1, o2] [.int 2, .ref t0]) : Z g kX6_sheetOf Q d cN sN M 26 [o0, o1, o2] [.ref t0] := by
  refine zi_iconst dX6_sheetOf_26 (by decide +kernel : Int32.ofInt (2) = (2 : Int32)) ?_
  exact kk
theorem sX6_sheetOf_30 {g : ZG} {Q : ZQ} {d cN sN : Nat} {M : ZM} {t0 : Int32} {o0 o1 o2 : Option Value}  (kt : (t0 : Int32) = 0 → Z g kX6_sheetOf Q d cN sN M 35 [o0, o1, o2] []) (kf : ¬ (t0 : Int32) = 0 → Z g kX6_sheetOf Q d cN sN M 33 [o0, o1, o2] []) : Z g kX6_sheetOf Q d cN sN M 30 [o0, o1, o2] [.int t0] := by
  exact zi_if_eq (tgt := 35) dX6_sheetOf_30 (by decide +kernel) kt kf
theorem sX6_sheetOf_33 {g : ZG} {Q : ZQ} {d cN sN : Nat} {M : ZM} {o0 o1 o2 : Option Value}  (kk : Q.1 (some (.int 0)) M) : Z g kX6_sheetOf Q d cN sN M 33 [o0, o1, o2] [] := by
  refine zi_iconst dX6_sheetOf_33 (by decide +kernel : Int32.ofInt (0) = (0 : Int32)) ?_
  exact zi_ireturn dX6_sheetOf_34 rfl rfl kk
theorem sX6_sheetOf_35 {g : ZG} {Q : ZQ} {d cN sN : Nat} {M : ZM} {l2 : Int32} {o0 o1 : Option Value}  (kt : (2 : Int32) ≤ (l2 : Int32) → Z g kX6_sheetOf Q d cN sN M 49 [o0, o1, some (.int l2)] []) (kf : ¬ (2 : Int32) ≤ (l2 : Int32) → Z g kX6_sheetOf Q d cN sN M 40 [o0, o1, some (.int l2)] []) : Z g kX6_sheetOf Q d cN sN M 35 [o0, o1, some (.int l2)] [] := by
  refine zi_iload_n dX6_sheetOf_35 rfl ?_
  refine zi_iconst dX6_sheetOf_36 (by decide +kernel : Int32.ofInt (2) = (2 : Int32)) ?_
  exact zi_icmp_ge (tgt := 49) dX6_sheetOf_37 (by decide +kernel) kt kf
theorem sX6_sheetOf_40 {g : ZG} {Q : ZQ} {d cN sN : Nat} {M : ZM} {l0 : Nat} {l1 : Int32} {l2 : Int32}  (kk : Z g kX6_sheetOf Q d cN sN M 43 [some (.ref l0), some (.int l1), some (.int l2)] [.int l2, .int l1, .ref l0]) : Z g kX6_sheetOf Q d cN sN M 40 [some (.ref l0), some (.int l1), some (.int l2)] [] := by
  refine zi_aload_n dX6_sheetOf_40 rfl zrf_r ?_
  refine zi_iload_n dX6_sheetOf_41 rfl ?_
  refine zi_iload_n dX6_sheetOf_42 rfl ?_
  exact kk
theorem sX6_sheetOf_46 {g : ZG} {Q : ZQ} {d cN sN : Nat} {M : ZM} {t0 : Int32} {o0 o1 o2 : Option Value}  (kk : Z g kX6_sheetOf Q d cN sN M 70 [o0, o1, o2] [.int t0]) : Z g kX6_sheetOf Q d cN sN M 46 [o0, o1, o2] [.int t0] := by
  exact zi_goto (tgt := 70) dX6_sheetOf_46 (by decide +kernel) kk
theorem sX6_sheetOf_49 {g : ZG} {Q : ZQ} {d cN sN : Nat} {M : ZM} {l2 : Int32} {o0 o1 : Option Value}  (kt : ¬ (l2 : Int32) = (5 : Int32) → Z g kX6_sheetOf Q d cN sN M 62 [o0, o1, some (.int l2)] []) (kf : (l2 : Int32) = (5 : Int32) → Z g kX6_sheetOf Q d cN sN M 54 [o0, o1, some (.int l2)] []) : Z g kX6_sheetOf Q d cN sN M 49 [o0, o1, some (.int l2)] [] := by
  refine zi_iload_n dX6_sheetOf_49 rfl ?_
  refine zi_iconst dX6_sheetOf_50 (by decide +kernel : Int32.ofInt (5) = (5 : Int32)) ?_
  exact zi_icmp_ne (tgt := 62) dX6_sheetOf_51 (by decide +kernel) kt kf
theorem sX6_sheetOf_54 {g : ZG} {Q : ZQ} {d cN sN : Nat} {M : ZM} {l0 : Nat} {l1 : Int32} {o2 : Option Value}  (kk : Z g kX6_sheetOf Q d cN sN M 56 [some (.ref l0), some (.int l1), o2] [.int l1, .ref l0]) : Z g kX6_sheetOf Q d cN sN M 54 [some (.ref l0), some (.int l1), o2] [] := by
  refine zi_aload_n dX6_sheetOf_54 rfl zrf_r ?_
  refine zi_iload_n dX6_sheetOf_55 rfl ?_
  exact kk
theorem sX6_sheetOf_59 {g : ZG} {Q : ZQ} {d cN sN : Nat} {M : ZM} {t0 : Int32} {o0 o1 o2 : Option Value}  (kk : Z g kX6_sheetOf Q d cN sN M 70 [o0, o1, o2] [.int t0]) : Z g kX6_sheetOf Q d cN sN M 59 [o0, o1, o2] [.int t0] := by
  exact zi_goto (tgt := 70) dX6_sheetOf_59 (by decide +kernel) kk
theorem sX6_sheetOf_62 {g : ZG} {Q : ZQ} {d cN sN : Nat} {M : ZM} {l0 : Nat} {l1 : Int32} {l2 : Int32}  (kk : Z g kX6_sheetOf Q d cN sN M 67 [some (.ref l0), some (.int l1), some (.int l2)] [.int (l2 - 1), .int l1, .ref l0]) : Z g kX6_sheetOf Q d cN sN M 62 [some (.ref l0), some (.int l1), some (.int l2)] [] := by
  refine zi_aload_n dX6_sheetOf_62 rfl zrf_r ?_
  refine zi_iload_n dX6_sheetOf_63 rfl ?_
  refine zi_iload_n dX6_sheetOf_64 rfl ?_
  refine zi_iconst dX6_sheetOf_65 (by decide +kernel : Int32.ofInt (1) = (1 : Int32)) ?_
  refine zi_isub dX6_sheetOf_66 ?_
  exact kk
theorem sX6_sheetOf_70 {g : ZG} {Q : ZQ} {d cN sN : Nat} {M : ZM} {t0 : Int32} {o0 o1 o2 : Option Value}  (kk : Q.1 (some (.int t0)) M) : Z g kX6_sheetOf Q d cN sN M 70 [o0, o1, o2] [.int t0] := by
  exact zi_ireturn dX6_sheetOf_70 rfl rfl kk
abbrev kX6_badOf : ZK := (RX6, cX6_badOf, 4, (Option.some Jvm.ClassFile.FieldType.int), [], false, fX6)
abbrev tX6_badOf (g : ZG) (args : List Value) (M : ZM) (d c s : Nat) (Q : ZQ) : Prop := Ct g yX6_badOf (ws_ yX6_badOf cX6_badOf 4 (Option.some Jvm.ClassFile.FieldType.int)) args M d c s Q
abbrev nX6_badOf : Nat := 3
theorem mX6_badOf : zMok yX6_badOf 1 4 := ⟨⟨by decide +kernel, by decide +kernel, by decide +kernel⟩, by decide⟩
theorem eX6_badOf {g : ZG} {Q : ZQ} {d cN sN : Nat} {M : ZM} {a0 : Nat} {x1 : Int32} (hV : zV g) (h : Z g kX6_badOf Q d cN sN M 0 [some (.ref a0), some (.int x1), none, none] []) : tX6_badOf g [.ref a0, .int x1] M d cN sN Q := Ct.of (K := kX6_badOf) rfl (by decide +kernel) hV fokX6 rfl (fun h => by cases h) (fun v hv => by simp only [List.mem_cons, List.not_mem_nil, or_false] at hv; rcases hv with rfl | rfl <;> first | rfl | assumption) (Nat.le_of_ble_eq_true rfl) h
theorem sX6_badOf_0 {g : ZG} {Q : ZQ} {d cN sN : Nat} {M : ZM} {o0 o1 o2 o3 : Option Value}  (kk : Z g kX6_badOf Q d cN sN M 4 [o0, o1, some (.int 0), some (.int 0)] []) : Z g kX6_badOf Q d cN sN M 0 [o0, o1, o2, o3] [] := by
  refine zi_iconst dX6_badOf_0 (by decide +kernel : Int32.ofInt (0) = (0 : Int32)) ?_
  refine zi_istore_n dX6_badOf_1 (Nat.le_of_ble_eq_true rfl) ?_
  refine zi_iconst dX6_badOf_2 (by decide +kernel : Int32.ofInt (0) = (0 : Int32)) ?_
  refine zi_istore_n dX6_badOf_3 (Nat.le_of_ble_eq_true rfl) ?_
  exact kk
theorem sX6_badOf_4 {g : ZG} {Q : ZQ} {d cN sN : Nat} {M : ZM} {l3 : Int32} {l0 : Nat} {l1 : Int32} {o2 : Option Value}  (kk : Z g kX6_badOf Q d cN sN M 8 [some (.ref l0), some (.int l1), o2, some (.int l3)] [.int 1, .int l1, .ref l0, .int l3]) : Z g kX6_badOf Q d cN sN M 4 [some (.ref l0), some (.int l1), o2, some (.int l3)] [] := by
  refine zi_iload_n dX6_badOf_4 rfl ?_
  refine zi_aload_n dX6_badOf_5 rfl zrf_r ?_
  refine zi_iload_n dX6_badOf_6 rfl ?_
  refine zi_iconst dX6_badOf_7 (by decide +kernel : Int32.ofInt (1) = (1 : Int32)) ?_
  exact kk
theorem sX6_badOf_11 {g : ZG} {Q : ZQ} {d cN sN : Nat} {M : ZM} {t0 : Int32} {t1 : Int32} {o0 o1 o2 o3 : Option Value}  (kt : (t1 : Int32) ≤ (t0 : Int32) → Z g kX6_badOf Q d cN sN M 29 [o0, o1, o2, o3] []) (kf : ¬ (t1 : Int32) ≤ (t0 : Int32) → Z g kX6_badOf Q d cN sN M 14 [o0, o1, o2, o3] []) : Z g kX6_badOf Q d cN sN M 11 [o0, o1, o2, o3] [.int t1, .int t0] := by
  exact zi_icmp_ge (tgt := 29) dX6_badOf_11 (by decide +kernel) kt kf
theorem sX6_badOf_14 {g : ZG} {Q : ZQ} {d cN sN : Nat} {M : ZM} {l2 : Int32} {l0 : Nat} {l1 : Int32} {l3 : Int32}  (kk : Z g kX6_badOf Q d cN sN M 18 [some (.ref l0), some (.int l1), some (.int l2), some (.int l3)] [.int l3, .int l1, .ref l0, .int l2]) : Z g kX6_badOf Q d cN sN M 14 [some (.ref l0), some (.int l1), some (.int l2), some (.int l3)] [] := by
  refine zi_iload_n dX6_badOf_14 rfl ?_
  refine zi_aload_n dX6_badOf_15 rfl zrf_r ?_
  refine zi_iload_n dX6_badOf_16 rfl ?_
  refine zi_iload_n dX6_badOf_17 rfl ?_
  exact kk
theorem sX6_badOf_21 {g : ZG} {Q : ZQ} {d cN sN : Nat} {M : ZM} {t0 : Int32} {t1 : Int32} {l3 : Int32} {o0 o1 o2 : Option Value}  (kk : Z g kX6_badOf Q d cN sN M 4 [o0, o1, some (.int (t0 + t1)), some (.int (l3 + 1))] []) : Z g kX6_badOf Q d cN sN M 21 [o0, o1, o2, some (.int l3)] [.int t1, .int t0] := by
  refine zi_iadd dX6_badOf_21 ?_
  refine zi_istore_n dX6_badOf_22 (Nat.le_of_ble_eq_true rfl) ?_
  refine zi_iinc dX6_badOf_23 rfl (by decide +kernel : Int32.ofInt (1) = 1) (Nat.le_of_ble_eq_true rfl) ?_
  exact zi_goto (tgt := 4) dX6_badOf_26 (by decide +kernel) kk
theorem sX6_badOf_29 {g : ZG} {Q : ZQ} {d cN sN : Nat} {M : ZM} {l2 : Int32} {o0 o1 o3 : Option Value}  (kk : Q.1 (some (.int l2)) M) : Z g kX6_badOf Q d cN sN M 29 [o0, o1, some (.int l2), o3] [] := by
  refine zi_iload_n dX6_badOf_29 rfl ?_
  exact zi_ireturn dX6_badOf_30 rfl rfl kk
abbrev kX6_letterAt : ZK := (RX6, cX6_letterAt, 4, (Option.some Jvm.ClassFile.FieldType.char), [], false, fX6)
abbrev tX6_letterAt (g : ZG) (args : List Value) (M : ZM) (d c s : Nat) (Q : ZQ) : Prop := Ct g yX6_letterAt (ws_ yX6_letterAt cX6_letterAt 4 (Option.some Jvm.ClassFile.FieldType.char)) args M d c s Q
abbrev nX6_letterAt : Nat := 5
theorem mX6_letterAt : zMok yX6_letterAt 3 4 := ⟨⟨by decide +kernel, by decide +kernel, by decide +kernel⟩, by decide⟩
theorem eX6_letterAt {g : ZG} {Q : ZQ} {d cN sN : Nat} {M : ZM} {a0 : Nat} {x1 : Int32} {x2 : Int32} {x3 : Int32} (hV : zV g) (h : Z g kX6_letterAt Q d cN sN M 0 [some (.ref a0), some (.int x1), some (.int x2), some (.int x3)] []) : tX6_letterAt g [.ref a0, .int x1, .int x2, .int x3] M d cN sN Q := Ct.of (K := kX6_letterAt) rfl (by decide +kernel) hV fokX6 rfl (fun h => by cases h) (fun v hv => by simp only [List.mem_cons, List.not_mem_nil, or_false] at hv; rcases hv with rfl | rfl | rfl | rfl <;> first | rfl | assumption) (Nat.le_of_ble_eq_true rfl) h
theorem sX6_letterAt_0 {g : ZG} {Q : ZQ} {d cN sN : Nat} {M : ZM} {l0 : Nat} {l1 : Int32} {l2 : Int32} {o3 : Option Value}  (kk : Z g kX6_letterAt Q d cN sN M 3 [some (.ref l0), some (.int l1), some (.int l2), o3] [.int l2, .int l1, .ref l0]) : Z g kX6_letterAt Q d cN sN M 0 [some (.ref l0), some (.int l1), some (.int l2), o3] [] := by
  refine zi_aload_n dX6_letterAt_0 rfl zrf_r ?_
  refine zi_iload_n dX6_letterAt_1 rfl ?_
  refine zi_iload_n dX6_letterAt_2 rfl ?_
  exact kk
theorem sX6_letterAt_6 {g : ZG} {Q : ZQ} {d cN sN : Nat} {M : ZM} {t0 : Int32} {o0 o1 o2 o3 : Option Value}  (kt : (t0 : Int32) = 0 → Z g kX6_letterAt Q d cN sN M 14 [o0, o1, o2, o3] []) (kf : ¬ (t0 : Int32) = 0 → Z g kX6_letterAt Q d cN sN M 9 [o0, o1, o2, o3] []) : Z g kX6_letterAt Q d cN sN M 6 [o0, o1, o2, o3] [.int t0] := by
  exact zi_if_eq (tgt := 14) dX6_letterAt_6 (by decide +kernel) kt kf
theorem sX6_letterAt_9 {g : ZG} {Q : ZQ} {d cN sN : Nat} {M : ZM} {o0 o1 o2 o3 : Option Value}  (kk : Z g kX6_letterAt Q d cN sN M 35 [o0, o1, o2, o3] [.int 32]) : Z g kX6_letterAt Q d cN sN M 9 [o0, o1, o2, o3] [] := by
  refine zi_bipush dX6_letterAt_9 (by decide +kernel : (Int8.ofInt (32)).toInt32 = (32 : Int32)) ?_
  exact zi_goto (tgt := 35) dX6_letterAt_11 (by decide +kernel) kk
theorem sX6_letterAt_14 {g : ZG} {Q : ZQ} {d cN sN : Nat} {M : ZM} {l0 : Nat} {l1 : Int32} {l3 : Int32} {o2 : Option Value}  (kt : (l3 : Int32) = 0 → Z g kX6_letterAt Q d cN sN M 26 [some (.ref l0), some (.int l1), o2, some (.int l3)] [.int l1, .ref l0, .int 96]) (kf : ¬ (l3 : Int32) = 0 → Z g kX6_letterAt Q d cN sN M 22 [some (.ref l0), some (.int l1), o2, some (.int l3)] [.int l1, .ref l0, .int 96]) : Z g kX6_letterAt Q d cN sN M 14 [some (.ref l0), some (.int l1), o2, some (.int l3)] [] := by
  refine zi_bipush dX6_letterAt_14 (by decide +kernel : (Int8.ofInt (96)).toInt32 = (96 : Int32)) ?_
  refine zi_aload_n dX6_letterAt_16 rfl zrf_r ?_
  refine zi_iload_n dX6_letterAt_17 rfl ?_
  refine zi_iload_n dX6_letterAt_18 rfl ?_
  exact zi_if_eq (tgt := 26) dX6_letterAt_19 (by decide +kernel) kt kf
theorem sX6_letterAt_22 {g : ZG} {Q : ZQ} {d cN sN : Nat} {M : ZM} {t0 : Int32} {t1 : Nat} {t2 : Int32} {o0 o1 o2 o3 : Option Value}  (kk : Z g kX6_letterAt Q d cN sN M 28 [o0, o1, o2, o3] [.int 2, .int t2, .ref t1, .int t0]) : Z g kX6_letterAt Q d cN sN M 22 [o0, o1, o2, o3] [.int t2, .ref t1, .int t0] := by
  refine zi_iconst dX6_letterAt_22 (by decide +kernel : Int32.ofInt (2) = (2 : Int32)) ?_
  exact zi_goto (tgt := 28) dX6_letterAt_23 (by decide +kernel) kk
theorem sX6_letterAt_26 {g : ZG} {Q : ZQ} {d cN sN : Nat} {M : ZM} {t0 : Int32} {t1 : Nat} {t2 : Int32} {o0 o1 o2 o3 : Option Value}  (kk : Z g kX6_letterAt Q d cN sN M 28 [o0, o1, o2, o3] [.int 10, .int t2, .ref t1, .int t0]) : Z g kX6_letterAt Q d cN sN M 26 [o0, o1, o2, o3] [.int t2, .ref t1, .int t0] := by
  refine zi_bipush dX6_letterAt_26 (by decide +kernel : (Int8.ofInt (10)).toInt32 = (10 : Int32)) ?_
  exact kk
theorem sX6_letterAt_28 {g : ZG} {Q : ZQ} {d cN sN : Nat} {M : ZM} {t0 : Int32} {t1 : Nat} {t2 : Int32} {t3 : Int32} {l2 : Int32} {o0 o1 o3 : Option Value}  (kk : Z g kX6_letterAt Q d cN sN M 30 [o0, o1, some (.int l2), o3] [.int (t3 + l2), .int t2, .ref t1, .int t0]) : Z g kX6_letterAt Q d cN sN M 28 [o0, o1, some (.int l2), o3] [.int t3, .int t2, .ref t1, .int t0] := by
  refine zi_iload_n dX6_letterAt_28 rfl ?_
  refine zi_iadd dX6_letterAt_29 ?_
  exact kk
theorem sX6_letterAt_33 {g : ZG} {Q : ZQ} {d cN sN : Nat} {M : ZM} {t0 : Int32} {t1 : Int32} {o0 o1 o2 o3 : Option Value}  (kk : Z g kX6_letterAt Q d cN sN M 35 [o0, o1, o2, o3] [.int (((t0 + t1 : Int32).toUInt32 % 65536).toInt32)]) : Z g kX6_letterAt Q d cN sN M 33 [o0, o1, o2, o3] [.int t1, .int t0] := by
  refine zi_iadd dX6_letterAt_33 ?_
  refine zi_i2c dX6_letterAt_34 ?_
  exact kk
theorem sX6_letterAt_35 {g : ZG} {Q : ZQ} {d cN sN : Nat} {M : ZM} {t0 : Int32} {o0 o1 o2 o3 : Option Value} (h1 : narrow .char (.int (t0)) = .int (t0)) (kk : Q.1 (some (.int t0)) M) : Z g kX6_letterAt Q d cN sN M 35 [o0, o1, o2, o3] [.int t0] := by
  exact zi_ireturn dX6_letterAt_35 rfl h1 kk
abbrev kX6_isNowhere : ZK := (RX6, cX6_isNowhere, 3, (Option.some Jvm.ClassFile.FieldType.boolean), [], false, fX6)
abbrev tX6_isNowhere (g : ZG) (args : List Value) (M : ZM) (d c s : Nat) (Q : ZQ) : Prop := Ct g yX6_isNowhere (ws_ yX6_isNowhere cX6_isNowhere 3 (Option.some Jvm.ClassFile.FieldType.boolean)) args M d c s Q
abbrev nX6_isNowhere : Nat := 4
theorem mX6_isNowhere : zMok yX6_isNowhere 2 3 := ⟨⟨by decide +kernel, by decide +kernel, by decide +kernel⟩, by decide⟩
theorem eX6_isNowhere {g : ZG} {Q : ZQ} {d cN sN : Nat} {M : ZM} {a0 : Nat} {x1 : Int32} {x2 : Int32} (hV : zV g) (h : Z g kX6_isNowhere Q d cN sN M 0 [some (.ref a0), some (.int x1), some (.int x2)] []) : tX6_isNowhere g [.ref a0, .int x1, .int x2] M d cN sN Q := Ct.of (K := kX6_isNowhere) rfl (by decide +kernel) hV fokX6 rfl (fun h => by cases h) (fun v hv => by simp only [List.mem_cons, List.not_mem_nil, or_false] at hv; rcases hv with rfl | rfl | rfl <;> first | rfl | assumption) (Nat.le_of_ble_eq_true rfl) h
theorem sX6_isNowhere_0 {g : ZG} {Q : ZQ} {d cN sN : Nat} {M : ZM} {l0 : Nat} {l1 : Int32} {l2 : Int32}  (kk : Z g kX6_isNowhere Q d cN sN M 4 [some (.ref l0), some (.int l1), some (.int l2)] [.int l2, .int l1, .ref l0, .ref l0]) : Z g kX6_isNowhere Q d cN sN M 0 [some (.ref l0), some (.int l1), some (.int l2)] [] := by
  refine zi_aload_n dX6_isNowhere_0 rfl zrf_r ?_
  refine zi_aload_n dX6_isNowhere_1 rfl zrf_r ?_
  refine zi_iload_n dX6_isNowhere_2 rfl ?_
  refine zi_iload_n dX6_isNowhere_3 rfl ?_
  exact kk
theorem sX6_isNowhere_7 {g : ZG} {Q : ZQ} {d cN sN : Nat} {M : ZM} {t0 : Nat} {t1 : Int32} {o0 o1 o2 : Option Value}  (kt : (t1 : Int32) = 0 → Z g kX6_isNowhere Q d cN sN M 14 [o0, o1, o2] [.ref t0]) (kf : ¬ (t1 : Int32) = 0 → Z g kX6_isNowhere Q d cN sN M 10 [o0, o1, o2] [.ref t0]) : Z g kX6_isNowhere Q d cN sN M 7 [o0, o1, o2] [.int t1, .ref t0] := by
  exact zi_if_eq (tgt := 14) dX6_isNowhere_7 (by decide +kernel) kt kf
theorem sX6_isNowhere_10 {g : ZG} {Q : ZQ} {d cN sN : Nat} {M : ZM} {t0 : Nat} {o0 o1 o2 : Option Value}  (kk : Z g kX6_isNowhere Q d cN sN M 15 [o0, o1, o2] [.int 0, .ref t0]) : Z g kX6_isNowhere Q d cN sN M 10 [o0, o1, o2] [.ref t0] := by
  refine zi_iconst dX6_isNowhere_10 (by decide +kernel : Int32.ofInt (0) = (0 : Int32)) ?_
  exact zi_goto (tgt := 15) dX6_isNowhere_11 (by decide +kernel) kk
theorem sX6_isNowhere_14 {g : ZG} {Q : ZQ} {d cN sN : Nat} {M : ZM} {t0 : Nat} {o0 o1 o2 : Option Value}  (kk : Z g kX6_isNowhere Q d cN sN M 15 [o0, o1, o2] [.int 1, .ref t0]) : Z g kX6_isNowhere Q d cN sN M 14 [o0, o1, o2] [.ref t0] := by
  refine zi_iconst dX6_isNowhere_14 (by decide +kernel : Int32.ofInt (1) = (1 : Int32)) ?_
  exact kk
theorem sX6_isNowhere_18 {g : ZG} {Q : ZQ} {d cN sN : Nat} {M : ZM} {t0 : Int32} {o0 o1 o2 : Option Value} (h1 : t0 = 0 ∨ t0 = 1) (kk : Q.1 (some (.int t0)) M) : Z g kX6_isNowhere Q d cN sN M 18 [o0, o1, o2] [.int t0] := by
  exact zi_ireturn dX6_isNowhere_18 rfl (znar_z h1) kk
abbrev kX6_markAt : ZK := (RX6, cX6_markAt, 3, (Option.some Jvm.ClassFile.FieldType.int), [], false, fX6)
abbrev tX6_markAt (g : ZG) (args : List Value) (M : ZM) (d c s : Nat) (Q : ZQ) : Prop := Ct g yX6_markAt (ws_ yX6_markAt cX6_markAt 3 (Option.some Jvm.ClassFile.FieldType.int)) args M d c s Q
abbrev nX6_markAt : Nat := 5
theorem mX6_markAt : zMok yX6_markAt 2 3 := ⟨⟨by decide +kernel, by decide +kernel, by decide +kernel⟩, by decide⟩
theorem eX6_markAt {g : ZG} {Q : ZQ} {d cN sN : Nat} {M : ZM} {a0 : Nat} {x1 : Int32} {x2 : Int32} (hV : zV g) (h : Z g kX6_markAt Q d cN sN M 0 [some (.ref a0), some (.int x1), some (.int x2)] []) : tX6_markAt g [.ref a0, .int x1, .int x2] M d cN sN Q := Ct.of (K := kX6_markAt) rfl (by decide +kernel) hV fokX6 rfl (fun h => by cases h) (fun v hv => by simp only [List.mem_cons, List.not_mem_nil, or_false] at hv; rcases hv with rfl | rfl | rfl <;> first | rfl | assumption) (Nat.le_of_ble_eq_true rfl) h
theorem sX6_markAt_0 {g : ZG} {Q : ZQ} {d cN sN : Nat} {M : ZM} {l0 : Nat} {l1 : Int32} {l2 : Int32}  (kk : Z g kX6_markAt Q d cN sN M 3 [some (.ref l0), some (.int l1), some (.int l2)] [.int l2, .int l1, .ref l0]) : Z g kX6_markAt Q d cN sN M 0 [some (.ref l0), some (.int l1), some (.int l2)] [] := by
  refine zi_aload_n dX6_markAt_0 rfl zrf_r ?_
  refine zi_iload_n dX6_markAt_1 rfl ?_
  refine zi_iload_n dX6_markAt_2 rfl ?_
  exact kk
theorem sX6_markAt_6 {g : ZG} {Q : ZQ} {d cN sN : Nat} {M : ZM} {t0 : Int32} {o0 o1 o2 : Option Value}  (kt : (t0 : Int32) = 0 → Z g kX6_markAt Q d cN sN M 13 [o0, o1, o2] []) (kf : ¬ (t0 : Int32) = 0 → Z g kX6_markAt Q d cN sN M 9 [o0, o1, o2] []) : Z g kX6_markAt Q d cN sN M 6 [o0, o1, o2] [.int t0] := by
  exact zi_if_eq (tgt := 13) dX6_markAt_6 (by decide +kernel) kt kf
theorem sX6_markAt_9 {g : ZG} {Q : ZQ} {d cN sN : Nat} {M : ZM} {o0 o1 o2 : Option Value}  (kk : Z g kX6_markAt Q d cN sN M 19 [o0, o1, o2] [.int 0]) : Z g kX6_markAt Q d cN sN M 9 [o0, o1, o2] [] := by
  refine zi_iconst dX6_markAt_9 (by decide +kernel : Int32.ofInt (0) = (0 : Int32)) ?_
  exact zi_goto (tgt := 19) dX6_markAt_10 (by decide +kernel) kk
theorem sX6_markAt_13 {g : ZG} {Q : ZQ} {d cN sN : Nat} {M : ZM} {l0 : Nat} {l1 : Int32} {l2 : Int32}  (kk : Z g kX6_markAt Q d cN sN M 16 [some (.ref l0), some (.int l1), some (.int l2)] [.int l2, .int l1, .ref l0]) : Z g kX6_markAt Q d cN sN M 13 [some (.ref l0), some (.int l1), some (.int l2)] [] := by
  refine zi_aload_n dX6_markAt_13 rfl zrf_r ?_
  refine zi_iload_n dX6_markAt_14 rfl ?_
  refine zi_iload_n dX6_markAt_15 rfl ?_
  exact kk
theorem sX6_markAt_19 {g : ZG} {Q : ZQ} {d cN sN : Nat} {M : ZM} {t0 : Int32} {o0 o1 o2 : Option Value}  (kk : Q.1 (some (.int t0)) M) : Z g kX6_markAt Q d cN sN M 19 [o0, o1, o2] [.int t0] := by
  exact zi_ireturn dX6_markAt_19 rfl rfl kk
abbrev kX6_fine : ZK := (RX6, cX6_fine, 4, (Option.some Jvm.ClassFile.FieldType.int), [], false, fX6)
abbrev tX6_fine (g : ZG) (args : List Value) (M : ZM) (d c s : Nat) (Q : ZQ) : Prop := Ct g yX6_fine (ws_ yX6_fine cX6_fine 4 (Option.some Jvm.ClassFile.FieldType.int)) args M d c s Q
abbrev nX6_fine : Nat := 5
theorem mX6_fine : zMok yX6_fine 3 4 := ⟨⟨by decide +kernel, by decide +kernel, by decide +kernel⟩, by decide⟩
theorem eX6_fine {g : ZG} {Q : ZQ} {d cN sN : Nat} {M : ZM} {a0 : Nat} {x1 : Int32} {x2 : Int32} {x3 : Int32} (hV : zV g) (h : Z g kX6_fine Q d cN sN M 0 [some (.ref a0), some (.int x1), some (.int x2), some (.int x3)] []) : tX6_fine g [.ref a0, .int x1, .int x2, .int x3] M d cN sN Q := Ct.of (K := kX6_fine) rfl (by decide +kernel) hV fokX6 rfl (fun h => by cases h) (fun v hv => by simp only [List.mem_cons, List.not_mem_nil, or_false] at hv; rcases hv with rfl | rfl | rfl | rfl <;> first | rfl | assumption) (Nat.le_of_ble_eq_true rfl) h
theorem sX6_fine_0 {g : ZG} {Q : ZQ} {d cN sN : Nat} {M : ZM} {l0 : Nat} {l1 : Int32} {l2 : Int32} {o3 : Option Value}  (kk : Z g kX6_fine Q d cN sN M 3 [some (.ref l0), some (.int l1), some (.int l2), o3] [.int l2, .int l1, .ref l0]) : Z g kX6_fine Q d cN sN M 0 [some (.ref l0), some (.int l1), some (.int l2), o3] [] := by
  refine zi_aload_n dX6_fine_0 rfl zrf_r ?_
  refine zi_iload_n dX6_fine_1 rfl ?_
  refine zi_iload_n dX6_fine_2 rfl ?_
  exact kk
theorem sX6_fine_6 {g : ZG} {Q : ZQ} {d cN sN : Nat} {M : ZM} {t0 : Int32} {o0 o1 o2 o3 : Option Value}  (kt : (t0 : Int32) = 0 → Z g kX6_fine Q d cN sN M 13 [o0, o1, o2, o3] []) (kf : ¬ (t0 : Int32) = 0 → Z g kX6_fine Q d cN sN M 9 [o0, o1, o2, o3] []) : Z g kX6_fine Q d cN sN M 6 [o0, o1, o2, o3] [.int t0] := by
  exact zi_if_eq (tgt := 13) dX6_fine_6 (by decide +kernel) kt kf
theorem sX6_fine_9 {g : ZG} {Q : ZQ} {d cN sN : Nat} {M : ZM} {o0 o1 o2 o3 : Option Value}  (kk : Z g kX6_fine Q d cN sN M 19 [o0, o1, o2, o3] [.int 0]) : Z g kX6_fine Q d cN sN M 9 [o0, o1, o2, o3] [] := by
  refine zi_iconst dX6_fine_9 (by decide +kernel : Int32.ofInt (0) = (0 : Int32)) ?_
  exact zi_goto (tgt := 19) dX6_fine_10 (by decide +kernel) kk
theorem sX6_fine_13 {g : ZG} {Q : ZQ} {d cN sN : Nat} {M : ZM} {l0 : Nat} {l1 : Int32} {l2 : Int32} {o3 : Option Value}  (kk : Z g kX6_fine Q d cN sN M 16 [some (.ref l0), some (.int l1), some (.int l2), o3] [.int l2, .int l1, .ref l0]) : Z g kX6_fine Q d cN sN M 13 [some (.ref l0), some (.int l1), some (.int l2), o3] [] := by
  refine zi_aload_n dX6_fine_13 rfl zrf_r ?_
  refine zi_iload_n dX6_fine_14 rfl ?_
  refine zi_iload_n dX6_fine_15 rfl ?_
  exact kk
theorem sX6_fine_19 {g : ZG} {Q : ZQ} {d cN sN : Nat} {M : ZM} {t0 : Int32} {o0 o1 o2 o3 : Option Value}  (kk : Q.1 (some (.int t0)) M) : Z g kX6_fine Q d cN sN M 19 [o0, o1, o2, o3] [.int t0] := by
  exact zi_ireturn dX6_fine_19 rfl rfl kk
abbrev kX6_fines : ZK := (RX6, cX6_fines, 3, (Option.some Jvm.ClassFile.FieldType.int), [], false, fX6)
abbrev tX6_fines (g : ZG) (args : List Value) (M : ZM) (d c s : Nat) (Q : ZQ) : Prop := Ct g yX6_fines (ws_ yX6_fines cX6_fines 3 (Option.some Jvm.ClassFile.FieldType.int)) args M d c s Q
abbrev nX6_fines : Nat := 5
theorem mX6_fines : zMok yX6_fines 2 3 := ⟨⟨by decide +kernel, by decide +kernel, by decide +kernel⟩, by decide⟩
theorem eX6_fines {g : ZG} {Q : ZQ} {d cN sN : Nat} {M : ZM} {a0 : Nat} {x1 : Int32} {x2 : Int32} (hV : zV g) (h : Z g kX6_fines Q d cN sN M 0 [some (.ref a0), some (.int x1), some (.int x2)] []) : tX6_fines g [.ref a0, .int x1, .int x2] M d cN sN Q := Ct.of (K := kX6_fines) rfl (by decide +kernel) hV fokX6 rfl (fun h => by cases h) (fun v hv => by simp only [List.mem_cons, List.not_mem_nil, or_false] at hv; rcases hv with rfl | rfl | rfl <;> first | rfl | assumption) (Nat.le_of_ble_eq_true rfl) h
theorem sX6_fines_0 {g : ZG} {Q : ZQ} {d cN sN : Nat} {M : ZM} {l0 : Nat} {l1 : Int32} {o2 : Option Value}  (kk : Z g kX6_fines Q d cN sN M 3 [some (.ref l0), some (.int l1), o2] [.int l1, .ref l0, .ref l0]) : Z g kX6_fines Q d cN sN M 0 [some (.ref l0), some (.int l1), o2] [] := by
  refine zi_aload_n dX6_fines_0 rfl zrf_r ?_
  refine zi_aload_n dX6_fines_1 rfl zrf_r ?_
  refine zi_iload_n dX6_fines_2 rfl ?_
  exact kk
theorem sX6_fines_6 {g : ZG} {Q : ZQ} {d cN sN : Nat} {M : ZM} {t0 : Nat} {t1 : Int32} {o0 o1 o2 : Option Value}  (kt : (t1 : Int32) = 0 → Z g kX6_fines Q d cN sN M 13 [o0, o1, o2] [.ref t0]) (kf : ¬ (t1 : Int32) = 0 → Z g kX6_fines Q d cN sN M 9 [o0, o1, o2] [.ref t0]) : Z g kX6_fines Q d cN sN M 6 [o0, o1, o2] [.int t1, .ref t0] := by
  exact zi_if_eq (tgt := 13) dX6_fines_6 (by decide +kernel) kt kf
theorem sX6_fines_9 {g : ZG} {Q : ZQ} {d cN sN : Nat} {M : ZM} {t0 : Nat} {o0 o1 o2 : Option Value}  (kk : Z g kX6_fines Q d cN sN M 14 [o0, o1, o2] [.int 0, .ref t0]) : Z g kX6_fines Q d cN sN M 9 [o0, o1, o2] [.ref t0] := by
  refine zi_iconst dX6_fines_9 (by decide +kernel : Int32.ofInt (0) = (0 : Int32)) ?_
  exact zi_goto (tgt := 14) dX6_fines_10 (by decide +kernel) kk
theorem sX6_fines_13 {g : ZG} {Q : ZQ} {d cN sN : Nat} {M : ZM} {t0 : Nat} {o0 o1 o2 : Option Value}  (kk : Z g kX6_fines Q d cN sN M 14 [o0, o1, o2] [.int 1, .ref t0]) : Z g kX6_fines Q d cN sN M 13 [o0, o1, o2] [.ref t0] := by
  refine zi_iconst dX6_fines_13 (by decide +kernel : Int32.ofInt (1) = (1 : Int32)) ?_
  exact kk
theorem sX6_fines_17 {g : ZG} {Q : ZQ} {d cN sN : Nat} {M : ZM} {t0 : Int32} {o0 o1 o2 : Option Value}  (kt : (t0 : Int32) = 0 → Z g kX6_fines Q d cN sN M 24 [o0, o1, o2] []) (kf : ¬ (t0 : Int32) = 0 → Z g kX6_fines Q d cN sN M 20 [o0, o1, o2] []) : Z g kX6_fines Q d cN sN M 17 [o0, o1, o2] [.int t0] := by
  exact zi_if_eq (tgt := 24) dX6_fines_17 (by decide +kernel) kt kf
theorem sX6_fines_20 {g : ZG} {Q : ZQ} {d cN sN : Nat} {M : ZM} {o0 o1 o2 : Option Value}  (kk : Z g kX6_fines Q d cN sN M 29 [o0, o1, o2] [.int 0]) : Z g kX6_fines Q d cN sN M 20 [o0, o1, o2] [] := by
  refine zi_iconst dX6_fines_20 (by decide +kernel : Int32.ofInt (0) = (0 : Int32)) ?_
  exact zi_goto (tgt := 29) dX6_fines_21 (by decide +kernel) kk
theorem sX6_fines_24 {g : ZG} {Q : ZQ} {d cN sN : Nat} {M : ZM} {l0 : Nat} {l1 : Int32} {o2 : Option Value}  (kk : Z g kX6_fines Q d cN sN M 26 [some (.ref l0), some (.int l1), o2] [.int l1, .ref l0]) : Z g kX6_fines Q d cN sN M 24 [some (.ref l0), some (.int l1), o2] [] := by
  refine zi_aload_n dX6_fines_24 rfl zrf_r ?_
  refine zi_iload_n dX6_fines_25 rfl ?_
  exact kk
theorem sX6_fines_29 {g : ZG} {Q : ZQ} {d cN sN : Nat} {M : ZM} {t0 : Int32} {o0 o1 o2 : Option Value}  (kk : Q.1 (some (.int t0)) M) : Z g kX6_fines Q d cN sN M 29 [o0, o1, o2] [.int t0] := by
  exact zi_ireturn dX6_fines_29 rfl rfl kk
abbrev kX6_finesOf : ZK := (RX6, cX6_finesOf, 4, (Option.some Jvm.ClassFile.FieldType.int), [], false, fX6)
abbrev tX6_finesOf (g : ZG) (args : List Value) (M : ZM) (d c s : Nat) (Q : ZQ) : Prop := Ct g yX6_finesOf (ws_ yX6_finesOf cX6_finesOf 4 (Option.some Jvm.ClassFile.FieldType.int)) args M d c s Q
abbrev nX6_finesOf : Nat := 4
theorem mX6_finesOf : zMok yX6_finesOf 1 4 := ⟨⟨by decide +kernel, by decide +kernel, by decide +kernel⟩, by decide⟩
theorem eX6_finesOf {g : ZG} {Q : ZQ} {d cN sN : Nat} {M : ZM} {a0 : Nat} {x1 : Int32} (hV : zV g) (h : Z g kX6_finesOf Q d cN sN M 0 [some (.ref a0), some (.int x1), none, none] []) : tX6_finesOf g [.ref a0, .int x1] M d cN sN Q := Ct.of (K := kX6_finesOf) rfl (by decide +kernel) hV fokX6 rfl (fun h => by cases h) (fun v hv => by simp only [List.mem_cons, List.not_mem_nil, or_false] at hv; rcases hv with rfl | rfl <;> first | rfl | assumption) (Nat.le_of_ble_eq_true rfl) h
theorem sX6_finesOf_0 {g : ZG} {Q : ZQ} {d cN sN : Nat} {M : ZM} {o0 o1 o2 o3 : Option Value}  (kk : Z g kX6_finesOf Q d cN sN M 4 [o0, o1, some (.int 0), some (.int 0)] []) : Z g kX6_finesOf Q d cN sN M 0 [o0, o1, o2, o3] [] := by
  refine zi_iconst dX6_finesOf_0 (by decide +kernel : Int32.ofInt (0) = (0 : Int32)) ?_
  refine zi_istore_n dX6_finesOf_1 (Nat.le_of_ble_eq_true rfl) ?_
  refine zi_iconst dX6_finesOf_2 (by decide +kernel : Int32.ofInt (0) = (0 : Int32)) ?_
  refine zi_istore_n dX6_finesOf_3 (Nat.le_of_ble_eq_true rfl) ?_
  exact kk
theorem sX6_finesOf_4 {g : ZG} {Q : ZQ} {d cN sN : Nat} {M : ZM} {l3 : Int32} {l0 : Nat} {l1 : Int32} {o2 : Option Value}  (kk : Z g kX6_finesOf Q d cN sN M 8 [some (.ref l0), some (.int l1), o2, some (.int l3)] [.int 1, .int l1, .ref l0, .int l3]) : Z g kX6_finesOf Q d cN sN M 4 [some (.ref l0), some (.int l1), o2, some (.int l3)] [] := by
  refine zi_iload_n dX6_finesOf_4 rfl ?_
  refine zi_aload_n dX6_finesOf_5 rfl zrf_r ?_
  refine zi_iload_n dX6_finesOf_6 rfl ?_
  refine zi_iconst dX6_finesOf_7 (by decide +kernel : Int32.ofInt (1) = (1 : Int32)) ?_
  exact kk
theorem sX6_finesOf_11 {g : ZG} {Q : ZQ} {d cN sN : Nat} {M : ZM} {t0 : Int32} {t1 : Int32} {o0 o1 o2 o3 : Option Value}  (kt : (t1 : Int32) ≤ (t0 : Int32) → Z g kX6_finesOf Q d cN sN M 29 [o0, o1, o2, o3] []) (kf : ¬ (t1 : Int32) ≤ (t0 : Int32) → Z g kX6_finesOf Q d cN sN M 14 [o0, o1, o2, o3] []) : Z g kX6_finesOf Q d cN sN M 11 [o0, o1, o2, o3] [.int t1, .int t0] := by
  exact zi_icmp_ge (tgt := 29) dX6_finesOf_11 (by decide +kernel) kt kf
theorem sX6_finesOf_14 {g : ZG} {Q : ZQ} {d cN sN : Nat} {M : ZM} {l2 : Int32} {l0 : Nat} {l1 : Int32} {l3 : Int32}  (kk : Z g kX6_finesOf Q d cN sN M 18 [some (.ref l0), some (.int l1), some (.int l2), some (.int l3)] [.int l3, .int l1, .ref l0, .int l2]) : Z g kX6_finesOf Q d cN sN M 14 [some (.ref l0), some (.int l1), some (.int l2), some (.int l3)] [] := by
  refine zi_iload_n dX6_finesOf_14 rfl ?_
  refine zi_aload_n dX6_finesOf_15 rfl zrf_r ?_
  refine zi_iload_n dX6_finesOf_16 rfl ?_
  refine zi_iload_n dX6_finesOf_17 rfl ?_
  exact kk
theorem sX6_finesOf_21 {g : ZG} {Q : ZQ} {d cN sN : Nat} {M : ZM} {t0 : Int32} {t1 : Int32} {l3 : Int32} {o0 o1 o2 : Option Value}  (kk : Z g kX6_finesOf Q d cN sN M 4 [o0, o1, some (.int (t0 + t1)), some (.int (l3 + 1))] []) : Z g kX6_finesOf Q d cN sN M 21 [o0, o1, o2, some (.int l3)] [.int t1, .int t0] := by
  refine zi_iadd dX6_finesOf_21 ?_
  refine zi_istore_n dX6_finesOf_22 (Nat.le_of_ble_eq_true rfl) ?_
  refine zi_iinc dX6_finesOf_23 rfl (by decide +kernel : Int32.ofInt (1) = 1) (Nat.le_of_ble_eq_true rfl) ?_
  exact zi_goto (tgt := 4) dX6_finesOf_26 (by decide +kernel) kk
theorem sX6_finesOf_29 {g : ZG} {Q : ZQ} {d cN sN : Nat} {M : ZM} {l2 : Int32} {o0 o1 o3 : Option Value}  (kk : Q.1 (some (.int l2)) M) : Z g kX6_finesOf Q d cN sN M 29 [o0, o1, some (.int l2), o3] [] := by
  refine zi_iload_n dX6_finesOf_29 rfl ?_
  exact zi_ireturn dX6_finesOf_30 rfl rfl kk
abbrev kX6_canMend : ZK := (RX6, cX6_canMend, 2, (Option.some Jvm.ClassFile.FieldType.boolean), [], false, fX6)
abbrev tX6_canMend (g : ZG) (args : List Value) (M : ZM) (d c s : Nat) (Q : ZQ) : Prop := Ct g yX6_canMend (ws_ yX6_canMend cX6_canMend 2 (Option.some Jvm.ClassFile.FieldType.boolean)) args M d c s Q
abbrev nX6_canMend : Nat := 5
theorem mX6_canMend : zMok yX6_canMend 1 2 := ⟨⟨by decide +kernel, by decide +kernel, by decide +kernel⟩, by decide⟩
theorem eX6_canMend {g : ZG} {Q : ZQ} {d cN sN : Nat} {M : ZM} {a0 : Nat} {x1 : Int32} (hV : zV g) (h : Z g kX6_canMend Q d cN sN M 0 [some (.ref a0), some (.int x1)] []) : tX6_canMend g [.ref a0, .int x1] M d cN sN Q := Ct.of (K := kX6_canMend) rfl (by decide +kernel) hV fokX6 rfl (fun h => by cases h) (fun v hv => by simp only [List.mem_cons, List.not_mem_nil, or_false] at hv; rcases hv with rfl | rfl <;> first | rfl | assumption) (Nat.le_of_ble_eq_true rfl) h
theorem sX6_canMend_0 {g : ZG} {Q : ZQ} {d cN sN : Nat} {M : ZM} {l0 : Nat} {l1 : Int32}  (kk : Z g kX6_canMend Q d cN sN M 3 [some (.ref l0), some (.int l1)] [.int l1, .ref l0, .ref l0]) : Z g kX6_canMend Q d cN sN M 0 [some (.ref l0), some (.int l1)] [] := by
  refine zi_aload_n dX6_canMend_0 rfl zrf_r ?_
  refine zi_aload_n dX6_canMend_1 rfl zrf_r ?_
  refine zi_iload_n dX6_canMend_2 rfl ?_
  exact kk
theorem sX6_canMend_6 {g : ZG} {Q : ZQ} {d cN sN : Nat} {M : ZM} {t0 : Nat} {t1 : Int32} {o0 o1 : Option Value}  (kt : (t1 : Int32) = 0 → Z g kX6_canMend Q d cN sN M 13 [o0, o1] [.ref t0]) (kf : ¬ (t1 : Int32) = 0 → Z g kX6_canMend Q d cN sN M 9 [o0, o1] [.ref t0]) : Z g kX6_canMend Q d cN sN M 6 [o0, o1] [.int t1, .ref t0] := by
  exact zi_if_eq (tgt := 13) dX6_canMend_6 (by decide +kernel) kt kf
theorem sX6_canMend_9 {g : ZG} {Q : ZQ} {d cN sN : Nat} {M : ZM} {t0 : Nat} {o0 o1 : Option Value}  (kk : Z g kX6_canMend Q d cN sN M 14 [o0, o1] [.int 0, .ref t0]) : Z g kX6_canMend Q d cN sN M 9 [o0, o1] [.ref t0] := by
  refine zi_iconst dX6_canMend_9 (by decide +kernel : Int32.ofInt (0) = (0 : Int32)) ?_
  exact zi_goto (tgt := 14) dX6_canMend_10 (by decide +kernel) kk
theorem sX6_canMend_13 {g : ZG} {Q : ZQ} {d cN sN : Nat} {M : ZM} {t0 : Nat} {o0 o1 : Option Value}  (kk : Z g kX6_canMend Q d cN sN M 14 [o0, o1] [.int 1, .ref t0]) : Z g kX6_canMend Q d cN sN M 13 [o0, o1] [.ref t0] := by
  refine zi_iconst dX6_canMend_13 (by decide +kernel : Int32.ofInt (1) = (1 : Int32)) ?_
  exact kk
theorem sX6_canMend_17 {g : ZG} {Q : ZQ} {d cN sN : Nat} {M : ZM} {t0 : Int32} {o0 o1 : Option Value}  (kt : ¬ (t0 : Int32) = 0 → Z g kX6_canMend Q d cN sN M 43 [o0, o1] []) (kf : (t0 : Int32) = 0 → Z g kX6_canMend Q d cN sN M 20 [o0, o1] []) : Z g kX6_canMend Q d cN sN M 17 [o0, o1] [.int t0] := by
  exact zi_if_ne (tgt := 43) dX6_canMend_17 (by decide +kernel) kt kf
theorem sX6_canMend_20 {g : ZG} {Q : ZQ} {d cN sN : Nat} {M : ZM} {l0 : Nat} {l1 : Int32}  (kk : Z g kX6_canMend Q d cN sN M 24 [some (.ref l0), some (.int l1)] [.int 0, .int l1, .ref l0, .ref l0]) : Z g kX6_canMend Q d cN sN M 20 [some (.ref l0), some (.int l1)] [] := by
  refine zi_aload_n dX6_canMend_20 rfl zrf_r ?_
  refine zi_aload_n dX6_canMend_21 rfl zrf_r ?_
  refine zi_iload_n dX6_canMend_22 rfl ?_
  refine zi_iconst dX6_canMend_23 (by decide +kernel : Int32.ofInt (0) = (0 : Int32)) ?_
  exact kk
theorem sX6_canMend_27 {g : ZG} {Q : ZQ} {d cN sN : Nat} {M : ZM} {t0 : Nat} {t1 : Int32} {o0 o1 : Option Value}  (kk : Z g kX6_canMend Q d cN sN M 28 [o0, o1] [.int 0, .int t1, .ref t0]) : Z g kX6_canMend Q d cN sN M 27 [o0, o1] [.int t1, .ref t0] := by
  refine zi_iconst dX6_canMend_27 (by decide +kernel : Int32.ofInt (0) = (0 : Int32)) ?_
  exact kk
theorem sX6_canMend_31 {g : ZG} {Q : ZQ} {d cN sN : Nat} {M : ZM} {t0 : Int32} {l0 : Nat} {l1 : Int32}  (kk : Z g kX6_canMend Q d cN sN M 33 [some (.ref l0), some (.int l1)] [.int l1, .ref l0, .int t0]) : Z g kX6_canMend Q d cN sN M 31 [some (.ref l0), some (.int l1)] [.int t0] := by
  refine zi_aload_n dX6_canMend_31 rfl zrf_r ?_
  refine zi_iload_n dX6_canMend_32 rfl ?_
  exact kk
theorem sX6_canMend_36 {g : ZG} {Q : ZQ} {d cN sN : Nat} {M : ZM} {t0 : Int32} {t1 : Int32} {o0 o1 : Option Value}  (kt : (t0 : Int32) < (t1 : Int32) → Z g kX6_canMend Q d cN sN M 43 [o0, o1] []) (kf : ¬ (t0 : Int32) < (t1 : Int32) → Z g kX6_canMend Q d cN sN M 39 [o0, o1] []) : Z g kX6_canMend Q d cN sN M 36 [o0, o1] [.int t1, .int t0] := by
  exact zi_icmp_lt (tgt := 43) dX6_canMend_36 (by decide +kernel) kt kf
theorem sX6_canMend_39 {g : ZG} {Q : ZQ} {d cN sN : Nat} {M : ZM} {o0 o1 : Option Value}  (kk : Z g kX6_canMend Q d cN sN M 44 [o0, o1] [.int 1]) : Z g kX6_canMend Q d cN sN M 39 [o0, o1] [] := by
  refine zi_iconst dX6_canMend_39 (by decide +kernel : Int32.ofInt (1) = (1 : Int32)) ?_
  exact zi_goto (tgt := 44) dX6_canMend_40 (by decide +kernel) kk
theorem sX6_canMend_43 {g : ZG} {Q : ZQ} {d cN sN : Nat} {M : ZM} {o0 o1 : Option Value}  (kk : Z g kX6_canMend Q d cN sN M 44 [o0, o1] [.int 0]) : Z g kX6_canMend Q d cN sN M 43 [o0, o1] [] := by
  refine zi_iconst dX6_canMend_43 (by decide +kernel : Int32.ofInt (0) = (0 : Int32)) ?_
  exact kk
theorem sX6_canMend_44 {g : ZG} {Q : ZQ} {d cN sN : Nat} {M : ZM} {t0 : Int32} {o0 o1 : Option Value} (h1 : t0 = 0 ∨ t0 = 1) (kk : Q.1 (some (.int t0)) M) : Z g kX6_canMend Q d cN sN M 44 [o0, o1] [.int t0] := by
  exact zi_ireturn dX6_canMend_44 rfl (znar_z h1) kk
abbrev kX6_laughing : ZK := (RX6, cX6_laughing, 3, (Option.some Jvm.ClassFile.FieldType.int), [], false, fX6)
abbrev tX6_laughing (g : ZG) (args : List Value) (M : ZM) (d c s : Nat) (Q : ZQ) : Prop := Ct g yX6_laughing (ws_ yX6_laughing cX6_laughing 3 (Option.some Jvm.ClassFile.FieldType.int)) args M d c s Q
abbrev nX6_laughing : Nat := 5
theorem mX6_laughing : zMok yX6_laughing 2 3 := ⟨⟨by decide +kernel, by decide +kernel, by decide +kernel⟩, by decide⟩
theorem eX6_laughing {g : ZG} {Q : ZQ} {d cN sN : Nat} {M : ZM} {a0 : Nat} {x1 : Int32} {x2 : Int32} (hV : zV g) (h : Z g kX6_laughing Q d cN sN M 0 [some (.ref a0), some (.int x1), some (.int x2)] []) : tX6_laughing g [.ref a0, .int x1, .int x2] M d cN sN Q := Ct.of (K := kX6_laughing) rfl (by decide +kernel) hV fokX6 rfl (fun h => by cases h) (fun v hv => by simp only [List.mem_cons, List.not_mem_nil, or_false] at hv; rcases hv with rfl | rfl | rfl <;> first | rfl | assumption) (Nat.le_of_ble_eq_true rfl) h
theorem sX6_laughing_0 {g : ZG} {Q : ZQ} {d cN sN : Nat} {M : ZM} {l0 : Nat} {l1 : Int32} {l2 : Int32}  (kk : Z g kX6_laughing Q d cN sN M 3 [some (.ref l0), some (.int l1), some (.int l2)] [.int l2, .int l1, .ref l0]) : Z g kX6_laughing Q d cN sN M 0 [some (.ref l0), some (.int l1), some (.int l2)] [] := by
  refine zi_aload_n dX6_laughing_0 rfl zrf_r ?_
  refine zi_iload_n dX6_laughing_1 rfl ?_
  refine zi_iload_n dX6_laughing_2 rfl ?_
  exact kk
theorem sX6_laughing_6 {g : ZG} {Q : ZQ} {d cN sN : Nat} {M : ZM} {t0 : Int32} {o0 o1 o2 : Option Value}  (kt : (t0 : Int32) = 0 → Z g kX6_laughing Q d cN sN M 13 [o0, o1, o2] []) (kf : ¬ (t0 : Int32) = 0 → Z g kX6_laughing Q d cN sN M 9 [o0, o1, o2] []) : Z g kX6_laughing Q d cN sN M 6 [o0, o1, o2] [.int t0] := by
  exact zi_if_eq (tgt := 13) dX6_laughing_6 (by decide +kernel) kt kf
theorem sX6_laughing_9 {g : ZG} {Q : ZQ} {d cN sN : Nat} {M : ZM} {o0 o1 o2 : Option Value}  (kk : Z g kX6_laughing Q d cN sN M 19 [o0, o1, o2] [.int 0]) : Z g kX6_laughing Q d cN sN M 9 [o0, o1, o2] [] := by
  refine zi_iconst dX6_laughing_9 (by decide +kernel : Int32.ofInt (0) = (0 : Int32)) ?_
  exact zi_goto (tgt := 19) dX6_laughing_10 (by decide +kernel) kk
theorem sX6_laughing_13 {g : ZG} {Q : ZQ} {d cN sN : Nat} {M : ZM} {l0 : Nat} {l1 : Int32} {l2 : Int32}  (kk : Z g kX6_laughing Q d cN sN M 16 [some (.ref l0), some (.int l1), some (.int l2)] [.int l2, .int l1, .ref l0]) : Z g kX6_laughing Q d cN sN M 13 [some (.ref l0), some (.int l1), some (.int l2)] [] := by
  refine zi_aload_n dX6_laughing_13 rfl zrf_r ?_
  refine zi_iload_n dX6_laughing_14 rfl ?_
  refine zi_iload_n dX6_laughing_15 rfl ?_
  exact kk
theorem sX6_laughing_19 {g : ZG} {Q : ZQ} {d cN sN : Nat} {M : ZM} {t0 : Int32} {o0 o1 o2 : Option Value}  (kk : Q.1 (some (.int t0)) M) : Z g kX6_laughing Q d cN sN M 19 [o0, o1, o2] [.int t0] := by
  exact zi_ireturn dX6_laughing_19 rfl rfl kk
abbrev kX6_bargain : ZK := (RX6, cX6_bargain, 6, (Option.some Jvm.ClassFile.FieldType.int), [], false, fX6)
abbrev tX6_bargain (g : ZG) (args : List Value) (M : ZM) (d c s : Nat) (Q : ZQ) : Prop := Ct g yX6_bargain (ws_ yX6_bargain cX6_bargain 6 (Option.some Jvm.ClassFile.FieldType.int)) args M d c s Q
abbrev nX6_bargain : Nat := 7
theorem mX6_bargain : zMok yX6_bargain 1 6 := ⟨⟨by decide +kernel, by decide +kernel, by decide +kernel⟩, by decide⟩
theorem eX6_bargain {g : ZG} {Q : ZQ} {d cN sN : Nat} {M : ZM} {a0 : Nat} {x1 : Int32} (hV : zV g) (h : Z g kX6_bargain Q d cN sN M 0 [some (.ref a0), some (.int x1), none, none, none, none] []) : tX6_bargain g [.ref a0, .int x1] M d cN sN Q := Ct.of (K := kX6_bargain) rfl (by decide +kernel) hV fokX6 rfl (fun h => by cases h) (fun v hv => by simp only [List.mem_cons, List.not_mem_nil, or_false] at hv; rcases hv with rfl | rfl <;> first | rfl | assumption) (Nat.le_of_ble_eq_true rfl) h
theorem sX6_bargain_0 {g : ZG} {Q : ZQ} {d cN sN : Nat} {M : ZM} {o0 o1 o2 o3 o4 o5 : Option Value}  (kk : Z g kX6_bargain Q d cN sN M 7 [o0, o1, some (.int ((-1))), some (.int 0), some (.int 0), o5] []) : Z g kX6_bargain Q d cN sN M 0 [o0, o1, o2, o3, o4, o5] [] := by
  refine zi_iconst dX6_bargain_0 (by decide +kernel : Int32.ofInt (-1) = (-1 : Int32)) ?_
  refine zi_istore_n dX6_bargain_1 (Nat.le_of_ble_eq_true rfl) ?_
  refine zi_iconst dX6_bargain_2 (by decide +kernel : Int32.ofInt (0) = (0 : Int32)) ?_
  refine zi_istore_n dX6_bargain_3 (Nat.le_of_ble_eq_true rfl) ?_
  refine zi_iconst dX6_bargain_4 (by decide +kernel : Int32.ofInt (0) = (0 : Int32)) ?_
  refine zi_istore dX6_bargain_5 (Nat.le_of_ble_eq_true rfl) ?_
  exact kk
theorem sX6_bargain_7 {g : ZG} {Q : ZQ} {d cN sN : Nat} {M : ZM} {l4 : Int32} {l0 : Nat} {fs1 : List Value} {r3 : Nat} {n5 : Nat} {f6 : Nat → Int32} {o1 o2 o3 o5 : Option Value} (h2 : M.1 l0 = some (.inr (5, fs1))) (h4 : (fs1)[0]? = some (.ref r3)) (h7 : M.1 r3 = some (.inl (zA g 0, n5, .inl f6))) (h8 : vp_in (1) n5) (kt : (8 * (f6 ((1 : Int32).toNatClampNeg)) : Int32) ≤ (l4 : Int32) → Z g kX6_bargain Q d cN sN M 114 [some (.ref l0), o1, o2, o3, some (.int l4), o5] []) (kf : ¬ (8 * (f6 ((1 : Int32).toNatClampNeg)) : Int32) ≤ (l4 : Int32) → Z g kX6_bargain Q d cN sN M 21 [some (.ref l0), o1, o2, o3, some (.int l4), o5] []) : Z g kX6_bargain Q d cN sN M 7 [some (.ref l0), o1, o2, o3, some (.int l4), o5] [] := by
  refine zi_iload dX6_bargain_7 rfl ?_
  refine zi_bipush dX6_bargain_9 (by decide +kernel : (Int8.ofInt (8)).toInt32 = (8 : Int32)) ?_
  refine zi_aload_n dX6_bargain_11 rfl zrf_r ?_
  refine zi_getfield dX6_bargain_12 rfl h2 h4 ?_
  refine zi_iconst dX6_bargain_15 (by decide +kernel : Int32.ofInt (1) = (1 : Int32)) ?_
  refine zi_iaload dX6_bargain_16 h7 h8 ?_
  refine zi_imul dX6_bargain_17 ?_
  exact zi_icmp_ge (tgt := 114) dX6_bargain_18 (by decide +kernel) kt kf
theorem sX6_bargain_21 {g : ZG} {Q : ZQ} {d cN sN : Nat} {M : ZM} {l0 : Nat} {l4 : Int32} {o1 o2 o3 o5 : Option Value}  (kk : Z g kX6_bargain Q d cN sN M 32 [some (.ref l0), o1, o2, o3, some (.int l4), o5] [.int (l4 - l4 / 8 * 8), .int (l4 / 8), .ref l0]) : Z g kX6_bargain Q d cN sN M 21 [some (.ref l0), o1, o2, o3, some (.int l4), o5] [] := by
  refine zi_aload_n dX6_bargain_21 rfl zrf_r ?_
  refine zi_iload dX6_bargain_22 rfl ?_
  refine zi_bipush dX6_bargain_24 (by decide +kernel : (Int8.ofInt (8)).toInt32 = (8 : Int32)) ?_
  refine zi_idiv dX6_bargain_26 (by decide +kernel) ?_
  refine zi_iload dX6_bargain_27 rfl ?_
  refine zi_bipush dX6_bargain_29 (by decide +kernel : (Int8.ofInt (8)).toInt32 = (8 : Int32)) ?_
  refine zi_irem dX6_bargain_31 (by decide +kernel) ?_
  exact kk
theorem sX6_bargain_35 {g : ZG} {Q : ZQ} {d cN sN : Nat} {M : ZM} {t0 : Int32} {o0 o1 o2 o3 o4 o5 : Option Value}  (kt : (t0 : Int32) = 0 → Z g kX6_bargain Q d cN sN M 108 [o0, o1, o2, o3, o4, o5] []) (kf : ¬ (t0 : Int32) = 0 → Z g kX6_bargain Q d cN sN M 38 [o0, o1, o2, o3, o4, o5] []) : Z g kX6_bargain Q d cN sN M 35 [o0, o1, o2, o3, o4, o5] [.int t0] := by
  exact zi_if_eq (tgt := 108) dX6_bargain_35 (by decide +kernel) kt kf
theorem sX6_bargain_38 {g : ZG} {Q : ZQ} {d cN sN : Nat} {M : ZM} {l0 : Nat} {l4 : Int32} {o1 o2 o3 o5 : Option Value}  (kk : Z g kX6_bargain Q d cN sN M 49 [some (.ref l0), o1, o2, o3, some (.int l4), o5] [.int (l4 - l4 / 8 * 8), .int (l4 / 8), .ref l0]) : Z g kX6_bargain Q d cN sN M 38 [some (.ref l0), o1, o2, o3, some (.int l4), o5] [] := by
  refine zi_aload_n dX6_bargain_38 rfl zrf_r ?_
  refine zi_iload dX6_bargain_39 rfl ?_
  refine zi_bipush dX6_bargain_41 (by decide +kernel : (Int8.ofInt (8)).toInt32 = (8 : Int32)) ?_
  refine zi_idiv dX6_bargain_43 (by decide +kernel) ?_
  refine zi_iload dX6_bargain_44 rfl ?_
  refine zi_bipush dX6_bargain_46 (by decide +kernel : (Int8.ofInt (8)).toInt32 = (8 : Int32)) ?_
  refine zi_irem dX6_bargain_48 (by decide +kernel) ?_
  exact kk
theorem sX6_bargain_52 {g : ZG} {Q : ZQ} {d cN sN : Nat} {M : ZM} {t0 : Int32} {o0 o1 o2 o3 o4 o5 : Option Value}  (kt : ¬ (t0 : Int32) = 0 → Z g kX6_bargain Q d cN sN M 58 [o0, o1, o2, o3, o4, o5] []) (kf : (t0 : Int32) = 0 → Z g kX6_bargain Q d cN sN M 55 [o0, o1, o2, o3, o4, o5] []) : Z g kX6_bargain Q d cN sN M 52 [o0, o1, o2, o3, o4, o5] [.int t0] := by
  exact zi_if_ne (tgt := 58) dX6_bargain_52 (by decide +kernel) kt kf
theorem sX6_bargain_55 {g : ZG} {Q : ZQ} {d cN sN : Nat} {M : ZM} {o0 o1 o2 o3 o4 o5 : Option Value}  (kk : Z g kX6_bargain Q d cN sN M 108 [o0, o1, o2, o3, o4, o5] []) : Z g kX6_bargain Q d cN sN M 55 [o0, o1, o2, o3, o4, o5] [] := by
  exact zi_goto (tgt := 108) dX6_bargain_55 (by decide +kernel) kk
theorem sX6_bargain_58 {g : ZG} {Q : ZQ} {d cN sN : Nat} {M : ZM} {l0 : Nat} {l4 : Int32} {o1 o2 o3 o5 : Option Value}  (kk : Z g kX6_bargain Q d cN sN M 69 [some (.ref l0), o1, o2, o3, some (.int l4), o5] [.int (l4 - l4 / 8 * 8), .int (l4 / 8), .ref l0]) : Z g kX6_bargain Q d cN sN M 58 [some (.ref l0), o1, o2, o3, some (.int l4), o5] [] := by
  refine zi_aload_n dX6_bargain_58 rfl zrf_r ?_
  refine zi_iload dX6_bargain_59 rfl ?_
  refine zi_bipush dX6_bargain_61 (by decide +kernel : (Int8.ofInt (8)).toInt32 = (8 : Int32)) ?_
  refine zi_idiv dX6_bargain_63 (by decide +kernel) ?_
  refine zi_iload dX6_bargain_64 rfl ?_
  refine zi_bipush dX6_bargain_66 (by decide +kernel : (Int8.ofInt (8)).toInt32 = (8 : Int32)) ?_
  refine zi_irem dX6_bargain_68 (by decide +kernel) ?_
  exact kk
theorem sX6_bargain_72 {g : ZG} {Q : ZQ} {d cN sN : Nat} {M : ZM} {t0 : Int32} {l0 : Nat} {l4 : Int32} {o1 o2 o3 o5 : Option Value}  (kk : Z g kX6_bargain Q d cN sN M 80 [some (.ref l0), o1, o2, o3, some (.int l4), o5] [.int 0, .int (l4 / 8), .ref l0, .ref l0, .int t0]) : Z g kX6_bargain Q d cN sN M 72 [some (.ref l0), o1, o2, o3, some (.int l4), o5] [.int t0] := by
  refine zi_aload_n dX6_bargain_72 rfl zrf_r ?_
  refine zi_aload_n dX6_bargain_73 rfl zrf_r ?_
  refine zi_iload dX6_bargain_74 rfl ?_
  refine zi_bipush dX6_bargain_76 (by decide +kernel : (Int8.ofInt (8)).toInt32 = (8 : Int32)) ?_
  refine zi_idiv dX6_bargain_78 (by decide +kernel) ?_
  refine zi_iconst dX6_bargain_79 (by decide +kernel : Int32.ofInt (0) = (0 : Int32)) ?_
  exact kk
theorem sX6_bargain_86 {g : ZG} {Q : ZQ} {d cN sN : Nat} {M : ZM} {t0 : Int32} {t1 : Int32} {l2 : Int32} {o0 o1 o3 o4 o5 : Option Value}  (kt : (l2 : Int32) < 0 → Z g kX6_bargain Q d cN sN M 102 [o0, o1, some (.int l2), o3, o4, some (.int (t0 - t1))] []) (kf : ¬ (l2 : Int32) < 0 → Z g kX6_bargain Q d cN sN M 93 [o0, o1, some (.int l2), o3, o4, some (.int (t0 - t1))] []) : Z g kX6_bargain Q d cN sN M 86 [o0, o1, some (.int l2), o3, o4, o5] [.int t1, .int t0] := by
  refine zi_isub dX6_bargain_86 ?_
  refine zi_istore dX6_bargain_87 (Nat.le_of_ble_eq_true rfl) ?_
  refine zi_iload_n dX6_bargain_89 rfl ?_
  exact zi_if_lt (tgt := 102) dX6_bargain_90 (by decide +kernel) kt kf
theorem sX6_bargain_93 {g : ZG} {Q : ZQ} {d cN sN : Nat} {M : ZM} {l5 : Int32} {l3 : Int32} {o0 o1 o2 o4 : Option Value}  (kt : (l3 : Int32) < (l5 : Int32) → Z g kX6_bargain Q d cN sN M 102 [o0, o1, o2, some (.int l3), o4, some (.int l5)] []) (kf : ¬ (l3 : Int32) < (l5 : Int32) → Z g kX6_bargain Q d cN sN M 99 [o0, o1, o2, some (.int l3), o4, some (.int l5)] []) : Z g kX6_bargain Q d cN sN M 93 [o0, o1, o2, some (.int l3), o4, some (.int l5)] [] := by
  refine zi_iload dX6_bargain_93 rfl ?_
  refine zi_iload_n dX6_bargain_95 rfl ?_
  exact zi_icmp_gt (tgt := 102) dX6_bargain_96 (by decide +kernel) kt kf
theorem sX6_bargain_99 {g : ZG} {Q : ZQ} {d cN sN : Nat} {M : ZM} {o0 o1 o2 o3 o4 o5 : Option Value}  (kk : Z g kX6_bargain Q d cN sN M 108 [o0, o1, o2, o3, o4, o5] []) : Z g kX6_bargain Q d cN sN M 99 [o0, o1, o2, o3, o4, o5] [] := by
  exact zi_goto (tgt := 108) dX6_bargain_99 (by decide +kernel) kk
theorem sX6_bargain_102 {g : ZG} {Q : ZQ} {d cN sN : Nat} {M : ZM} {l4 : Int32} {l5 : Int32} {o0 o1 o2 o3 : Option Value}  (kk : Z g kX6_bargain Q d cN sN M 108 [o0, o1, some (.int l4), some (.int l5), some (.int l4), some (.int l5)] []) : Z g kX6_bargain Q d cN sN M 102 [o0, o1, o2, o3, some (.int l4), some (.int l5)] [] := by
  refine zi_iload dX6_bargain_102 rfl ?_
  refine zi_istore_n dX6_bargain_104 (Nat.le_of_ble_eq_true rfl) ?_
  refine zi_iload dX6_bargain_105 rfl ?_
  refine zi_istore_n dX6_bargain_107 (Nat.le_of_ble_eq_true rfl) ?_
  exact kk
theorem sX6_bargain_108 {g : ZG} {Q : ZQ} {d cN sN : Nat} {M : ZM} {l4 : Int32} {o0 o1 o2 o3 o5 : Option Value}  (kk : Z g kX6_bargain Q d cN sN M 7 [o0, o1, o2, o3, some (.int (l4 + 1)), o5] []) : Z g kX6_bargain Q d cN sN M 108 [o0, o1, o2, o3, some (.int l4), o5] [] := by
  refine zi_iinc dX6_bargain_108 rfl (by decide +kernel : Int32.ofInt (1) = 1) (Nat.le_of_ble_eq_true rfl) ?_
  exact zi_goto (tgt := 7) dX6_bargain_111 (by decide +kernel) kk
theorem sX6_bargain_114 {g : ZG} {Q : ZQ} {d cN sN : Nat} {M : ZM} {l0 : Nat} {l2 : Int32} {o1 o3 o4 o5 : Option Value}  (kt : 0 ≤ (l2 : Int32) → Z g kX6_bargain Q d cN sN M 123 [some (.ref l0), o1, some (.int l2), o3, o4, o5] [.ref l0]) (kf : ¬ 0 ≤ (l2 : Int32) → Z g kX6_bargain Q d cN sN M 119 [some (.ref l0), o1, some (.int l2), o3, o4, o5] [.ref l0]) : Z g kX6_bargain Q d cN sN M 114 [some (.ref l0), o1, some (.int l2), o3, o4, o5] [] := by
  refine zi_aload_n dX6_bargain_114 rfl zrf_r ?_
  refine zi_iload_n dX6_bargain_115 rfl ?_
  exact zi_if_ge (tgt := 123) dX6_bargain_116 (by decide +kernel) kt kf
theorem sX6_bargain_119 {g : ZG} {Q : ZQ} {d cN sN : Nat} {M : ZM} {t0 : Nat} {o0 o1 o2 o3 o4 o5 : Option Value}  (kk : Z g kX6_bargain Q d cN sN M 124 [o0, o1, o2, o3, o4, o5] [.int 1, .ref t0]) : Z g kX6_bargain Q d cN sN M 119 [o0, o1, o2, o3, o4, o5] [.ref t0] := by
  refine zi_iconst dX6_bargain_119 (by decide +kernel : Int32.ofInt (1) = (1 : Int32)) ?_
  exact zi_goto (tgt := 124) dX6_bargain_120 (by decide +kernel) kk
theorem sX6_bargain_123 {g : ZG} {Q : ZQ} {d cN sN : Nat} {M : ZM} {t0 : Nat} {o0 o1 o2 o3 o4 o5 : Option Value}  (kk : Z g kX6_bargain Q d cN sN M 124 [o0, o1, o2, o3, o4, o5] [.int 0, .ref t0]) : Z g kX6_bargain Q d cN sN M 123 [o0, o1, o2, o3, o4, o5] [.ref t0] := by
  refine zi_iconst dX6_bargain_123 (by decide +kernel : Int32.ofInt (0) = (0 : Int32)) ?_
  exact kk
theorem sX6_bargain_127 {g : ZG} {Q : ZQ} {d cN sN : Nat} {M : ZM} {t0 : Int32} {o0 o1 o2 o3 o4 o5 : Option Value}  (kt : (t0 : Int32) = 0 → Z g kX6_bargain Q d cN sN M 134 [o0, o1, o2, o3, o4, o5] []) (kf : ¬ (t0 : Int32) = 0 → Z g kX6_bargain Q d cN sN M 130 [o0, o1, o2, o3, o4, o5] []) : Z g kX6_bargain Q d cN sN M 127 [o0, o1, o2, o3, o4, o5] [.int t0] := by
  exact zi_if_eq (tgt := 134) dX6_bargain_127 (by decide +kernel) kt kf
theorem sX6_bargain_130 {g : ZG} {Q : ZQ} {d cN sN : Nat} {M : ZM} {o0 o1 o2 o3 o4 o5 : Option Value}  (kk : Z g kX6_bargain Q d cN sN M 149 [o0, o1, o2, o3, o4, o5] [.int 0]) : Z g kX6_bargain Q d cN sN M 130 [o0, o1, o2, o3, o4, o5] [] := by
  refine zi_iconst dX6_bargain_130 (by decide +kernel : Int32.ofInt (0) = (0 : Int32)) ?_
  exact zi_goto (tgt := 149) dX6_bargain_131 (by decide +kernel) kk
theorem sX6_bargain_134 {g : ZG} {Q : ZQ} {d cN sN : Nat} {M : ZM} {l1 : Int32} {o0 o2 o3 o4 o5 : Option Value}  (kt : (l1 : Int32) = 0 → Z g kX6_bargain Q d cN sN M 145 [o0, some (.int l1), o2, o3, o4, o5] []) (kf : ¬ (l1 : Int32) = 0 → Z g kX6_bargain Q d cN sN M 138 [o0, some (.int l1), o2, o3, o4, o5] []) : Z g kX6_bargain Q d cN sN M 134 [o0, some (.int l1), o2, o3, o4, o5] [] := by
  refine zi_iload_n dX6_bargain_134 rfl ?_
  exact zi_if_eq (tgt := 145) dX6_bargain_135 (by decide +kernel) kt kf
theorem sX6_bargain_138 {g : ZG} {Q : ZQ} {d cN sN : Nat} {M : ZM} {l2 : Int32} {o0 o1 o3 o4 o5 : Option Value}  (kk : Z g kX6_bargain Q d cN sN M 149 [o0, o1, some (.int l2), o3, o4, o5] [.int (l2 - l2 / 8 * 8)]) : Z g kX6_bargain Q d cN sN M 138 [o0, o1, some (.int l2), o3, o4, o5] [] := by
  refine zi_iload_n dX6_bargain_138 rfl ?_
  refine zi_bipush dX6_bargain_139 (by decide +kernel : (Int8.ofInt (8)).toInt32 = (8 : Int32)) ?_
  refine zi_irem dX6_bargain_141 (by decide +kernel) ?_
  exact zi_goto (tgt := 149) dX6_bargain_142 (by decide +kernel) kk
theorem sX6_bargain_145 {g : ZG} {Q : ZQ} {d cN sN : Nat} {M : ZM} {l2 : Int32} {o0 o1 o3 o4 o5 : Option Value}  (kk : Z g kX6_bargain Q d cN sN M 149 [o0, o1, some (.int l2), o3, o4, o5] [.int (l2 / 8)]) : Z g kX6_bargain Q d cN sN M 145 [o0, o1, some (.int l2), o3, o4, o5] [] := by
  refine zi_iload_n dX6_bargain_145 rfl ?_
  refine zi_bipush dX6_bargain_146 (by decide +kernel : (Int8.ofInt (8)).toInt32 = (8 : Int32)) ?_
  refine zi_idiv dX6_bargain_148 (by decide +kernel) ?_
  exact kk
theorem sX6_bargain_149 {g : ZG} {Q : ZQ} {d cN sN : Nat} {M : ZM} {t0 : Int32} {o0 o1 o2 o3 o4 o5 : Option Value}  (kk : Q.1 (some (.int t0)) M) : Z g kX6_bargain Q d cN sN M 149 [o0, o1, o2, o3, o4, o5] [.int t0] := by
  exact zi_ireturn dX6_bargain_149 rfl rfl kk
abbrev kX6_canLicense : ZK := (RX6, cX6_canLicense, 4, (Option.some Jvm.ClassFile.FieldType.boolean), [], false, fX6)
abbrev tX6_canLicense (g : ZG) (args : List Value) (M : ZM) (d c s : Nat) (Q : ZQ) : Prop := Ct g yX6_canLicense (ws_ yX6_canLicense cX6_canLicense 4 (Option.some Jvm.ClassFile.FieldType.boolean)) args M d c s Q
abbrev nX6_canLicense : Nat := 6
theorem mX6_canLicense : zMok yX6_canLicense 2 4 := ⟨⟨by decide +kernel, by decide +kernel, by decide +kernel⟩, by decide⟩
theorem eX6_canLicense {g : ZG} {Q : ZQ} {d cN sN : Nat} {M : ZM} {a0 : Nat} {x1 : Int32} {x2 : Int32} (hV : zV g) (h : Z g kX6_canLicense Q d cN sN M 0 [some (.ref a0), some (.int x1), some (.int x2), none] []) : tX6_canLicense g [.ref a0, .int x1, .int x2] M d cN sN Q := Ct.of (K := kX6_canLicense) rfl (by decide +kernel) hV fokX6 rfl (fun h => by cases h) (fun v hv => by simp only [List.mem_cons, List.not_mem_nil, or_false] at hv; rcases hv with rfl | rfl | rfl <;> first | rfl | assumption) (Nat.le_of_ble_eq_true rfl) h
theorem sX6_canLicense_0 {g : ZG} {Q : ZQ} {d cN sN : Nat} {M : ZM} {l0 : Nat} {l1 : Int32} {o2 o3 : Option Value}  (kk : Z g kX6_canLicense Q d cN sN M 3 [some (.ref l0), some (.int l1), o2, o3] [.int 0, .int l1, .ref l0]) : Z g kX6_canLicense Q d cN sN M 0 [some (.ref l0), some (.int l1), o2, o3] [] := by
  refine zi_aload_n dX6_canLicense_0 rfl zrf_r ?_
  refine zi_iload_n dX6_canLicense_1 rfl ?_
  refine zi_iconst dX6_canLicense_2 (by decide +kernel : Int32.ofInt (0) = (0 : Int32)) ?_
  exact kk
theorem sX6_canLicense_6 {g : ZG} {Q : ZQ} {d cN sN : Nat} {M : ZM} {t0 : Int32} {l0 : Nat} {l1 : Int32} {l2 : Int32} {o3 : Option Value}  (kk : Z g kX6_canLicense Q d cN sN M 10 [some (.ref l0), some (.int l1), some (.int l2), some (.int t0)] [.int l2, .int l1, .ref l0]) : Z g kX6_canLicense Q d cN sN M 6 [some (.ref l0), some (.int l1), some (.int l2), o3] [.int t0] := by
  refine zi_istore_n dX6_canLicense_6 (Nat.le_of_ble_eq_true rfl) ?_
  refine zi_aload_n dX6_canLicense_7 rfl zrf_r ?_
  refine zi_iload_n dX6_canLicense_8 rfl ?_
  refine zi_iload_n dX6_canLicense_9 rfl ?_
  exact kk
theorem sX6_canLicense_13 {g : ZG} {Q : ZQ} {d cN sN : Nat} {M : ZM} {t0 : Int32} {o0 o1 o2 o3 : Option Value}  (kt : ¬ (t0 : Int32) = (1 : Int32) → Z g kX6_canLicense Q d cN sN M 43 [o0, o1, o2, o3] []) (kf : (t0 : Int32) = (1 : Int32) → Z g kX6_canLicense Q d cN sN M 17 [o0, o1, o2, o3] []) : Z g kX6_canLicense Q d cN sN M 13 [o0, o1, o2, o3] [.int t0] := by
  refine zi_iconst dX6_canLicense_13 (by decide +kernel : Int32.ofInt (1) = (1 : Int32)) ?_
  exact zi_icmp_ne (tgt := 43) dX6_canLicense_14 (by decide +kernel) kt kf
theorem sX6_canLicense_17 {g : ZG} {Q : ZQ} {d cN sN : Nat} {M : ZM} {l0 : Nat} {l3 : Int32} {o1 o2 : Option Value}  (kk : Z g kX6_canLicense Q d cN sN M 19 [some (.ref l0), o1, o2, some (.int l3)] [.int l3, .ref l0]) : Z g kX6_canLicense Q d cN sN M 17 [some (.ref l0), o1, o2, some (.int l3)] [] := by
  refine zi_aload_n dX6_canLicense_17 rfl zrf_r ?_
  refine zi_iload_n dX6_canLicense_18 rfl ?_
  exact kk
theorem sX6_canLicense_22 {g : ZG} {Q : ZQ} {d cN sN : Nat} {M : ZM} {t0 : Int32} {o0 o1 o2 o3 : Option Value}  (kt : ¬ (t0 : Int32) = 0 → Z g kX6_canLicense Q d cN sN M 43 [o0, o1, o2, o3] []) (kf : (t0 : Int32) = 0 → Z g kX6_canLicense Q d cN sN M 25 [o0, o1, o2, o3] []) : Z g kX6_canLicense Q d cN sN M 22 [o0, o1, o2, o3] [.int t0] := by
  exact zi_if_ne (tgt := 43) dX6_canLicense_22 (by decide +kernel) kt kf
theorem sX6_canLicense_25 {g : ZG} {Q : ZQ} {d cN sN : Nat} {M : ZM} {l0 : Nat} {l3 : Int32} {o1 o2 : Option Value}  (kk : Z g kX6_canLicense Q d cN sN M 28 [some (.ref l0), o1, o2, some (.int l3)] [.int 0, .int l3, .ref l0]) : Z g kX6_canLicense Q d cN sN M 25 [some (.ref l0), o1, o2, some (.int l3)] [] := by
  refine zi_aload_n dX6_canLicense_25 rfl zrf_r ?_
  refine zi_iload_n dX6_canLicense_26 rfl ?_
  refine zi_iconst dX6_canLicense_27 (by decide +kernel : Int32.ofInt (0) = (0 : Int32)) ?_
  exact kk
theorem sX6_canLicense_31 {g : ZG} {Q : ZQ} {d cN sN : Nat} {M : ZM} {t0 : Int32} {l0 : Nat} {l3 : Int32} {o1 o2 : Option Value}  (kk : Z g kX6_canLicense Q d cN sN M 33 [some (.ref l0), o1, o2, some (.int l3)] [.int l3, .ref l0, .int t0]) : Z g kX6_canLicense Q d cN sN M 31 [some (.ref l0), o1, o2, some (.int l3)] [.int t0] := by
  refine zi_aload_n dX6_canLicense_31 rfl zrf_r ?_
  refine zi_iload_n dX6_canLicense_32 rfl ?_
  exact kk
theorem sX6_canLicense_36 {g : ZG} {Q : ZQ} {d cN sN : Nat} {M : ZM} {t0 : Int32} {t1 : Int32} {o0 o1 o2 o3 : Option Value}  (kt : (t0 : Int32) < (t1 : Int32) → Z g kX6_canLicense Q d cN sN M 43 [o0, o1, o2, o3] []) (kf : ¬ (t0 : Int32) < (t1 : Int32) → Z g kX6_canLicense Q d cN sN M 39 [o0, o1, o2, o3] []) : Z g kX6_canLicense Q d cN sN M 36 [o0, o1, o2, o3] [.int t1, .int t0] := by
  exact zi_icmp_lt (tgt := 43) dX6_canLicense_36 (by decide +kernel) kt kf
theorem sX6_canLicense_39 {g : ZG} {Q : ZQ} {d cN sN : Nat} {M : ZM} {o0 o1 o2 o3 : Option Value}  (kk : Z g kX6_canLicense Q d cN sN M 44 [o0, o1, o2, o3] [.int 1]) : Z g kX6_canLicense Q d cN sN M 39 [o0, o1, o2, o3] [] := by
  refine zi_iconst dX6_canLicense_39 (by decide +kernel : Int32.ofInt (1) = (1 : Int32)) ?_
  exact zi_goto (tgt := 44) dX6_canLicense_40 (by decide +kernel) kk
theorem sX6_canLicense_43 {g : ZG} {Q : ZQ} {d cN sN : Nat} {M : ZM} {o0 o1 o2 o3 : Option Value}  (kk : Z g kX6_canLicense Q d cN sN M 44 [o0, o1, o2, o3] [.int 0]) : Z g kX6_canLicense Q d cN sN M 43 [o0, o1, o2, o3] [] := by
  refine zi_iconst dX6_canLicense_43 (by decide +kernel : Int32.ofInt (0) = (0 : Int32)) ?_
  exact kk
theorem sX6_canLicense_44 {g : ZG} {Q : ZQ} {d cN sN : Nat} {M : ZM} {t0 : Int32} {o0 o1 o2 o3 : Option Value} (h1 : t0 = 0 ∨ t0 = 1) (kk : Q.1 (some (.int t0)) M) : Z g kX6_canLicense Q d cN sN M 44 [o0, o1, o2, o3] [.int t0] := by
  exact zi_ireturn dX6_canLicense_44 rfl (znar_z h1) kk
abbrev kX6_wouldShame : ZK := (RX6, cX6_wouldShame, 5, (Option.some Jvm.ClassFile.FieldType.int), [], false, fX6)
abbrev tX6_wouldShame (g : ZG) (args : List Value) (M : ZM) (d c s : Nat) (Q : ZQ) : Prop := Ct g yX6_wouldShame (ws_ yX6_wouldShame cX6_wouldShame 5 (Option.some Jvm.ClassFile.FieldType.int)) args M d c s Q
abbrev nX6_wouldShame : Nat := 3
theorem mX6_wouldShame : zMok yX6_wouldShame 1 5 := ⟨⟨by decide +kernel, by decide +kernel, by decide +kernel⟩, by decide⟩
theorem eX6_wouldShame {g : ZG} {Q : ZQ} {d cN sN : Nat} {M : ZM} {a0 : Nat} {x1 : Int32} (hV : zV g) (h : Z g kX6_wouldShame Q d cN sN M 0 [some (.ref a0), some (.int x1), none, none, none] []) : tX6_wouldShame g [.ref a0, .int x1] M d cN sN Q := Ct.of (K := kX6_wouldShame) rfl (by decide +kernel) hV fokX6 rfl (fun h => by cases h) (fun v hv => by simp only [List.mem_cons, List.not_mem_nil, or_false] at hv; rcases hv with rfl | rfl <;> first | rfl | assumption) (Nat.le_of_ble_eq_true rfl) h
theorem sX6_wouldShame_0 {g : ZG} {Q : ZQ} {d cN sN : Nat} {M : ZM} {l0 : Nat} {l1 : Int32} {o2 o3 o4 : Option Value}  (kk : Z g kX6_wouldShame Q d cN sN M 3 [some (.ref l0), some (.int l1), o2, o3, o4] [.int l1, .ref l0, .ref l0]) : Z g kX6_wouldShame Q d cN sN M 0 [some (.ref l0), some (.int l1), o2, o3, o4] [] := by
  refine zi_aload_n dX6_wouldShame_0 rfl zrf_r ?_
  refine zi_aload_n dX6_wouldShame_1 rfl zrf_r ?_
  refine zi_iload_n dX6_wouldShame_2 rfl ?_
  exact kk
theorem sX6_wouldShame_6 {g : ZG} {Q : ZQ} {d cN sN : Nat} {M : ZM} {t0 : Nat} {t1 : Int32} {o0 o1 o2 o3 o4 : Option Value}  (kt : (t1 : Int32) = 0 → Z g kX6_wouldShame Q d cN sN M 13 [o0, o1, o2, o3, o4] [.ref t0]) (kf : ¬ (t1 : Int32) = 0 → Z g kX6_wouldShame Q d cN sN M 9 [o0, o1, o2, o3, o4] [.ref t0]) : Z g kX6_wouldShame Q d cN sN M 6 [o0, o1, o2, o3, o4] [.int t1, .ref t0] := by
  exact zi_if_eq (tgt := 13) dX6_wouldShame_6 (by decide +kernel) kt kf
theorem sX6_wouldShame_9 {g : ZG} {Q : ZQ} {d cN sN : Nat} {M : ZM} {t0 : Nat} {o0 o1 o2 o3 o4 : Option Value}  (kk : Z g kX6_wouldShame Q d cN sN M 14 [o0, o1, o2, o3, o4] [.int 0, .ref t0]) : Z g kX6_wouldShame Q d cN sN M 9 [o0, o1, o2, o3, o4] [.ref t0] := by
  refine zi_iconst dX6_wouldShame_9 (by decide +kernel : Int32.ofInt (0) = (0 : Int32)) ?_
  exact zi_goto (tgt := 14) dX6_wouldShame_10 (by decide +kernel) kk
theorem sX6_wouldShame_13 {g : ZG} {Q : ZQ} {d cN sN : Nat} {M : ZM} {t0 : Nat} {o0 o1 o2 o3 o4 : Option Value}  (kk : Z g kX6_wouldShame Q d cN sN M 14 [o0, o1, o2, o3, o4] [.int 1, .ref t0]) : Z g kX6_wouldShame Q d cN sN M 13 [o0, o1, o2, o3, o4] [.ref t0] := by
  refine zi_iconst dX6_wouldShame_13 (by decide +kernel : Int32.ofInt (1) = (1 : Int32)) ?_
  exact kk
theorem sX6_wouldShame_17 {g : ZG} {Q : ZQ} {d cN sN : Nat} {M : ZM} {t0 : Int32} {o0 o1 o2 o3 o4 : Option Value}  (kt : (t0 : Int32) = 0 → Z g kX6_wouldShame Q d cN sN M 22 [o0, o1, o2, o3, o4] []) (kf : ¬ (t0 : Int32) = 0 → Z g kX6_wouldShame Q d cN sN M 20 [o0, o1, o2, o3, o4] []) : Z g kX6_wouldShame Q d cN sN M 17 [o0, o1, o2, o3, o4] [.int t0] := by
  exact zi_if_eq (tgt := 22) dX6_wouldShame_17 (by decide +kernel) kt kf
theorem sX6_wouldShame_20 {g : ZG} {Q : ZQ} {d cN sN : Nat} {M : ZM} {o0 o1 o2 o3 o4 : Option Value}  (kk : Q.1 (some (.int 0)) M) : Z g kX6_wouldShame Q d cN sN M 20 [o0, o1, o2, o3, o4] [] := by
  refine zi_iconst dX6_wouldShame_20 (by decide +kernel : Int32.ofInt (0) = (0 : Int32)) ?_
  exact zi_ireturn dX6_wouldShame_21 rfl rfl kk
theorem sX6_wouldShame_22 {g : ZG} {Q : ZQ} {d cN sN : Nat} {M : ZM} {l0 : Nat} {l1 : Int32} {o2 o3 o4 : Option Value}  (kk : Z g kX6_wouldShame Q d cN sN M 25 [some (.ref l0), some (.int l1), o2, o3, o4] [.int 1, .int l1, .ref l0]) : Z g kX6_wouldShame Q d cN sN M 22 [some (.ref l0), some (.int l1), o2, o3, o4] [] := by
  refine zi_aload_n dX6_wouldShame_22 rfl zrf_r ?_
  refine zi_iload_n dX6_wouldShame_23 rfl ?_
  refine zi_iconst dX6_wouldShame_24 (by decide +kernel : Int32.ofInt (1) = (1 : Int32)) ?_
  exact kk
theorem sX6_wouldShame_28 {g : ZG} {Q : ZQ} {d cN sN : Nat} {M : ZM} {t0 : Int32} {o0 o1 o2 o3 o4 : Option Value}  (kk : Z g kX6_wouldShame Q d cN sN M 31 [o0, o1, some (.int t0), some (.int 0), o4] []) : Z g kX6_wouldShame Q d cN sN M 28 [o0, o1, o2, o3, o4] [.int t0] := by
  refine zi_istore_n dX6_wouldShame_28 (Nat.le_of_ble_eq_true rfl) ?_
  refine zi_iconst dX6_wouldShame_29 (by decide +kernel : Int32.ofInt (0) = (0 : Int32)) ?_
  refine zi_istore_n dX6_wouldShame_30 (Nat.le_of_ble_eq_true rfl) ?_
  exact kk
theorem sX6_wouldShame_31 {g : ZG} {Q : ZQ} {d cN sN : Nat} {M : ZM} {l3 : Int32} {l0 : Nat} {fs1 : List Value} {r3 : Nat} {n5 : Nat} {f6 : Nat → Int32} {o1 o2 o4 : Option Value} (h2 : M.1 l0 = some (.inr (5, fs1))) (h4 : (fs1)[0]? = some (.ref r3)) (h7 : M.1 r3 = some (.inl (zA g 0, n5, .inl f6))) (h8 : vp_in (1) n5) (kt : (f6 ((1 : Int32).toNatClampNeg) : Int32) ≤ (l3 : Int32) → Z g kX6_wouldShame Q d cN sN M 102 [some (.ref l0), o1, o2, some (.int l3), o4] []) (kf : ¬ (f6 ((1 : Int32).toNatClampNeg) : Int32) ≤ (l3 : Int32) → Z g kX6_wouldShame Q d cN sN M 41 [some (.ref l0), o1, o2, some (.int l3), o4] []) : Z g kX6_wouldShame Q d cN sN M 31 [some (.ref l0), o1, o2, some (.int l3), o4] [] := by
  refine zi_iload_n dX6_wouldShame_31 rfl ?_
  refine zi_aload_n dX6_wouldShame_32 rfl zrf_r ?_
  refine zi_getfield dX6_wouldShame_33 rfl h2 h4 ?_
  refine zi_iconst dX6_wouldShame_36 (by decide +kernel : Int32.ofInt (1) = (1 : Int32)) ?_
  refine zi_iaload dX6_wouldShame_37 h7 h8 ?_
  exact zi_icmp_ge (tgt := 102) dX6_wouldShame_38 (by decide +kernel) kt kf
theorem sX6_wouldShame_41 {g : ZG} {Q : ZQ} {d cN sN : Nat} {M : ZM} {o0 o1 o2 o3 o4 : Option Value}  (kk : Z g kX6_wouldShame Q d cN sN M 44 [o0, o1, o2, o3, some (.int 0)] []) : Z g kX6_wouldShame Q d cN sN M 41 [o0, o1, o2, o3, o4] [] := by
  refine zi_iconst dX6_wouldShame_41 (by decide +kernel : Int32.ofInt (0) = (0 : Int32)) ?_
  refine zi_istore dX6_wouldShame_42 (Nat.le_of_ble_eq_true rfl) ?_
  exact kk
theorem sX6_wouldShame_44 {g : ZG} {Q : ZQ} {d cN sN : Nat} {M : ZM} {l4 : Int32} {l0 : Nat} {l3 : Int32} {o1 o2 : Option Value}  (kk : Z g kX6_wouldShame Q d cN sN M 49 [some (.ref l0), o1, o2, some (.int l3), some (.int l4)] [.int 1, .int l3, .ref l0, .int l4]) : Z g kX6_wouldShame Q d cN sN M 44 [some (.ref l0), o1, o2, some (.int l3), some (.int l4)] [] := by
  refine zi_iload dX6_wouldShame_44 rfl ?_
  refine zi_aload_n dX6_wouldShame_46 rfl zrf_r ?_
  refine zi_iload_n dX6_wouldShame_47 rfl ?_
  refine zi_iconst dX6_wouldShame_48 (by decide +kernel : Int32.ofInt (1) = (1 : Int32)) ?_
  exact kk
theorem sX6_wouldShame_52 {g : ZG} {Q : ZQ} {d cN sN : Nat} {M : ZM} {t0 : Int32} {t1 : Int32} {o0 o1 o2 o3 o4 : Option Value}  (kt : (t1 : Int32) ≤ (t0 : Int32) → Z g kX6_wouldShame Q d cN sN M 96 [o0, o1, o2, o3, o4] []) (kf : ¬ (t1 : Int32) ≤ (t0 : Int32) → Z g kX6_wouldShame Q d cN sN M 55 [o0, o1, o2, o3, o4] []) : Z g kX6_wouldShame Q d cN sN M 52 [o0, o1, o2, o3, o4] [.int t1, .int t0] := by
  exact zi_icmp_ge (tgt := 96) dX6_wouldShame_52 (by decide +kernel) kt kf
theorem sX6_wouldShame_55 {g : ZG} {Q : ZQ} {d cN sN : Nat} {M : ZM} {l0 : Nat} {l3 : Int32} {o1 o2 o4 : Option Value}  (kk : Z g kX6_wouldShame Q d cN sN M 58 [some (.ref l0), o1, o2, some (.int l3), o4] [.int 0, .int l3, .ref l0]) : Z g kX6_wouldShame Q d cN sN M 55 [some (.ref l0), o1, o2, some (.int l3), o4] [] := by
  refine zi_aload_n dX6_wouldShame_55 rfl zrf_r ?_
  refine zi_iload_n dX6_wouldShame_56 rfl ?_
  refine zi_iconst dX6_wouldShame_57 (by decide +kernel : Int32.ofInt (0) = (0 : Int32)) ?_
  exact kk
theorem sX6_wouldShame_61 {g : ZG} {Q : ZQ} {d cN sN : Nat} {M : ZM} {t0 : Int32} {l1 : Int32} {o0 o2 o3 o4 : Option Value}  (kt : ¬ (t0 : Int32) = (l1 : Int32) → Z g kX6_wouldShame Q d cN sN M 96 [o0, some (.int l1), o2, o3, o4] []) (kf : (t0 : Int32) = (l1 : Int32) → Z g kX6_wouldShame Q d cN sN M 65 [o0, some (.int l1), o2, o3, o4] []) : Z g kX6_wouldShame Q d cN sN M 61 [o0, some (.int l1), o2, o3, o4] [.int t0] := by
  refine zi_iload_n dX6_wouldShame_61 rfl ?_
  exact zi_icmp_ne (tgt := 96) dX6_wouldShame_62 (by decide +kernel) kt kf
theorem sX6_wouldShame_65 {g : ZG} {Q : ZQ} {d cN sN : Nat} {M : ZM} {l2 : Int32} {l0 : Nat} {l3 : Int32} {l4 : Int32} {o1 : Option Value}  (kk : Z g kX6_wouldShame Q d cN sN M 70 [some (.ref l0), o1, some (.int l2), some (.int l3), some (.int l4)] [.int l4, .int l3, .ref l0, .int l2]) : Z g kX6_wouldShame Q d cN sN M 65 [some (.ref l0), o1, some (.int l2), some (.int l3), some (.int l4)] [] := by
  refine zi_iload_n dX6_wouldShame_65 rfl ?_
  refine zi_aload_n dX6_wouldShame_66 rfl zrf_r ?_
  refine zi_iload_n dX6_wouldShame_67 rfl ?_
  refine zi_iload dX6_wouldShame_68 rfl ?_
  exact kk
theorem sX6_wouldShame_73 {g : ZG} {Q : ZQ} {d cN sN : Nat} {M : ZM} {t0 : Int32} {t1 : Int32} {o0 o1 o2 o3 o4 : Option Value}  (kt : ¬ (t1 : Int32) = (2 : Int32) → Z g kX6_wouldShame Q d cN sN M 87 [o0, o1, o2, o3, o4] [.int t0]) (kf : (t1 : Int32) = (2 : Int32) → Z g kX6_wouldShame Q d cN sN M 77 [o0, o1, o2, o3, o4] [.int t0]) : Z g kX6_wouldShame Q d cN sN M 73 [o0, o1, o2, o3, o4] [.int t1, .int t0] := by
  refine zi_iconst dX6_wouldShame_73 (by decide +kernel : Int32.ofInt (2) = (2 : Int32)) ?_
  exact zi_icmp_ne (tgt := 87) dX6_wouldShame_74 (by decide +kernel) kt kf
theorem sX6_wouldShame_77 {g : ZG} {Q : ZQ} {d cN sN : Nat} {M : ZM} {t0 : Int32} {l0 : Nat} {l3 : Int32} {l4 : Int32} {o1 o2 : Option Value}  (kk : Z g kX6_wouldShame Q d cN sN M 81 [some (.ref l0), o1, o2, some (.int l3), some (.int l4)] [.int l4, .int l3, .ref l0, .int t0]) : Z g kX6_wouldShame Q d cN sN M 77 [some (.ref l0), o1, o2, some (.int l3), some (.int l4)] [.int t0] := by
  refine zi_aload_n dX6_wouldShame_77 rfl zrf_r ?_
  refine zi_iload_n dX6_wouldShame_78 rfl ?_
  refine zi_iload dX6_wouldShame_79 rfl ?_
  exact kk
theorem sX6_wouldShame_84 {g : ZG} {Q : ZQ} {d cN sN : Nat} {M : ZM} {t0 : Int32} {t1 : Int32} {o0 o1 o2 o3 o4 : Option Value}  (kk : Z g kX6_wouldShame Q d cN sN M 88 [o0, o1, o2, o3, o4] [.int t1, .int t0]) : Z g kX6_wouldShame Q d cN sN M 84 [o0, o1, o2, o3, o4] [.int t1, .int t0] := by
  exact zi_goto (tgt := 88) dX6_wouldShame_84 (by decide +kernel) kk
theorem sX6_wouldShame_87 {g : ZG} {Q : ZQ} {d cN sN : Nat} {M : ZM} {t0 : Int32} {o0 o1 o2 o3 o4 : Option Value}  (kk : Z g kX6_wouldShame Q d cN sN M 88 [o0, o1, o2, o3, o4] [.int 0, .int t0]) : Z g kX6_wouldShame Q d cN sN M 87 [o0, o1, o2, o3, o4] [.int t0] := by
  refine zi_iconst dX6_wouldShame_87 (by decide +kernel : Int32.ofInt (0) = (0 : Int32)) ?_
  exact kk
theorem sX6_wouldShame_88 {g : ZG} {Q : ZQ} {d cN sN : Nat} {M : ZM} {t0 : Int32} {t1 : Int32} {l4 : Int32} {o0 o1 o2 o3 : Option Value}  (kk : Z g kX6_wouldShame Q d cN sN M 44 [o0, o1, some (.int (t0 + t1)), o3, some (.int (l4 + 1))] []) : Z g kX6_wouldShame Q d cN sN M 88 [o0, o1, o2, o3, some (.int l4)] [.int t1, .int t0] := by
  refine zi_iadd dX6_wouldShame_88 ?_
  refine zi_istore_n dX6_wouldShame_89 (Nat.le_of_ble_eq_true rfl) ?_
  refine zi_iinc dX6_wouldShame_90 rfl (by decide +kernel : Int32.ofInt (1) = 1) (Nat.le_of_ble_eq_true rfl) ?_
  exact zi_goto (tgt := 44) dX6_wouldShame_93 (by decide +kernel) kk
theorem sX6_wouldShame_96 {g : ZG} {Q : ZQ} {d cN sN : Nat} {M : ZM} {l3 : Int32} {o0 o1 o2 o4 : Option Value}  (kk : Z g kX6_wouldShame Q d cN sN M 31 [o0, o1, o2, some (.int (l3 + 1)), o4] []) : Z g kX6_wouldShame Q d cN sN M 96 [o0, o1, o2, some (.int l3), o4] [] := by
  refine zi_iinc dX6_wouldShame_96 rfl (by decide +kernel : Int32.ofInt (1) = 1) (Nat.le_of_ble_eq_true rfl) ?_
  exact zi_goto (tgt := 31) dX6_wouldShame_99 (by decide +kernel) kk
theorem sX6_wouldShame_102 {g : ZG} {Q : ZQ} {d cN sN : Nat} {M : ZM} {l2 : Int32} {o0 o1 o3 o4 : Option Value}  (kk : Z g kX6_wouldShame Q d cN sN M 105 [o0, o1, some (.int l2), o3, o4] [.int 99, .int l2]) : Z g kX6_wouldShame Q d cN sN M 102 [o0, o1, some (.int l2), o3, o4] [] := by
  refine zi_iload_n dX6_wouldShame_102 rfl ?_
  refine zi_bipush dX6_wouldShame_103 (by decide +kernel : (Int8.ofInt (99)).toInt32 = (99 : Int32)) ?_
  exact kk
theorem sX6_wouldShame_108 {g : ZG} {Q : ZQ} {d cN sN : Nat} {M : ZM} {t0 : Int32} {o0 o1 o2 o3 o4 : Option Value}  (kk : Q.1 (some (.int t0)) M) : Z g kX6_wouldShame Q d cN sN M 108 [o0, o1, o2, o3, o4] [.int t0] := by
  exact zi_ireturn dX6_wouldShame_108 rfl rfl kk
abbrev kX6_wouldLaugh : ZK := (RX6, cX6_wouldLaugh, 5, (Option.some Jvm.ClassFile.FieldType.int), [], false, fX6)
abbrev tX6_wouldLaugh (g : ZG) (args : List Value) (M : ZM) (d c s : Nat) (Q : ZQ) : Prop := Ct g yX6_wouldLaugh (ws_ yX6_wouldLaugh cX6_wouldLaugh 5 (Option.some Jvm.ClassFile.FieldType.int)) args M d c s Q
abbrev nX6_wouldLaugh : Nat := 5
theorem mX6_wouldLaugh : zMok yX6_wouldLaugh 1 5 := ⟨⟨by decide +kernel, by decide +kernel, by decide +kernel⟩, by decide⟩
theorem eX6_wouldLaugh {g : ZG} {Q : ZQ} {d cN sN : Nat} {M : ZM} {a0 : Nat} {x1 : Int32} (hV : zV g) (h : Z g kX6_wouldLaugh Q d cN sN M 0 [some (.ref a0), some (.int x1), none, none, none] []) : tX6_wouldLaugh g [.ref a0, .int x1] M d cN sN Q := Ct.of (K := kX6_wouldLaugh) rfl (by decide +kernel) hV fokX6 rfl (fun h => by cases h) (fun v hv => by simp only [List.mem_cons, List.not_mem_nil, or_false] at hv; rcases hv with rfl | rfl <;> first | rfl | assumption) (Nat.le_of_ble_eq_true rfl) h
theorem sX6_wouldLaugh_0 {g : ZG} {Q : ZQ} {d cN sN : Nat} {M : ZM} {l0 : Nat} {fs1 : List Value} {o1 o2 o3 o4 : Option Value} (h2 : M.1 l0 = some (.inr (5, fs1))) (h3 : 8 < (fs1).length) (kk : Z g kX6_wouldLaugh Q d cN sN (zup M l0 (.inr (5, (fs1).set 8 (.int 0)))) 9 [some (.ref l0), o1, some (.int 0), some (.int 0), o4] []) : Z g kX6_wouldLaugh Q d cN sN M 0 [some (.ref l0), o1, o2, o3, o4] [] := by
  refine zi_aload_n dX6_wouldLaugh_0 rfl zrf_r ?_
  refine zi_iconst dX6_wouldLaugh_1 (by decide +kernel : Int32.ofInt (0) = (0 : Int32)) ?_
  refine zi_putfield dX6_wouldLaugh_2 rfl h2 h3 zfit_i (Or.inl rfl) ?_
  refine zi_iconst dX6_wouldLaugh_5 (by decide +kernel : Int32.ofInt (0) = (0 : Int32)) ?_
  refine zi_istore_n dX6_wouldLaugh_6 (Nat.le_of_ble_eq_true rfl) ?_
  refine zi_iconst dX6_wouldLaugh_7 (by decide +kernel : Int32.ofInt (0) = (0 : Int32)) ?_
  refine zi_istore_n dX6_wouldLaugh_8 (Nat.le_of_ble_eq_true rfl) ?_
  exact kk
theorem sX6_wouldLaugh_9 {g : ZG} {Q : ZQ} {d cN sN : Nat} {M : ZM} {l3 : Int32} {l0 : Nat} {fs1 : List Value} {r3 : Nat} {n5 : Nat} {f6 : Nat → Int32} {o1 o2 o4 : Option Value} (h2 : M.1 l0 = some (.inr (5, fs1))) (h4 : (fs1)[0]? = some (.ref r3)) (h7 : M.1 r3 = some (.inl (zA g 0, n5, .inl f6))) (h8 : vp_in (1) n5) (kt : (f6 ((1 : Int32).toNatClampNeg) : Int32) ≤ (l3 : Int32) → Z g kX6_wouldLaugh Q d cN sN M 70 [some (.ref l0), o1, o2, some (.int l3), o4] []) (kf : ¬ (f6 ((1 : Int32).toNatClampNeg) : Int32) ≤ (l3 : Int32) → Z g kX6_wouldLaugh Q d cN sN M 19 [some (.ref l0), o1, o2, some (.int l3), o4] []) : Z g kX6_wouldLaugh Q d cN sN M 9 [some (.ref l0), o1, o2, some (.int l3), o4] [] := by
  refine zi_iload_n dX6_wouldLaugh_9 rfl ?_
  refine zi_aload_n dX6_wouldLaugh_10 rfl zrf_r ?_
  refine zi_getfield dX6_wouldLaugh_11 rfl h2 h4 ?_
  refine zi_iconst dX6_wouldLaugh_14 (by decide +kernel : Int32.ofInt (1) = (1 : Int32)) ?_
  refine zi_iaload dX6_wouldLaugh_15 h7 h8 ?_
  exact zi_icmp_ge (tgt := 70) dX6_wouldLaugh_16 (by decide +kernel) kt kf
theorem sX6_wouldLaugh_19 {g : ZG} {Q : ZQ} {d cN sN : Nat} {M : ZM} {o0 o1 o2 o3 o4 : Option Value}  (kk : Z g kX6_wouldLaugh Q d cN sN M 22 [o0, o1, o2, o3, some (.int 0)] []) : Z g kX6_wouldLaugh Q d cN sN M 19 [o0, o1, o2, o3, o4] [] := by
  refine zi_iconst dX6_wouldLaugh_19 (by decide +kernel : Int32.ofInt (0) = (0 : Int32)) ?_
  refine zi_istore dX6_wouldLaugh_20 (Nat.le_of_ble_eq_true rfl) ?_
  exact kk
theorem sX6_wouldLaugh_22 {g : ZG} {Q : ZQ} {d cN sN : Nat} {M : ZM} {l4 : Int32} {l0 : Nat} {l3 : Int32} {o1 o2 : Option Value}  (kk : Z g kX6_wouldLaugh Q d cN sN M 27 [some (.ref l0), o1, o2, some (.int l3), some (.int l4)] [.int 1, .int l3, .ref l0, .int l4]) : Z g kX6_wouldLaugh Q d cN sN M 22 [some (.ref l0), o1, o2, some (.int l3), some (.int l4)] [] := by
  refine zi_iload dX6_wouldLaugh_22 rfl ?_
  refine zi_aload_n dX6_wouldLaugh_24 rfl zrf_r ?_
  refine zi_iload_n dX6_wouldLaugh_25 rfl ?_
  refine zi_iconst dX6_wouldLaugh_26 (by decide +kernel : Int32.ofInt (1) = (1 : Int32)) ?_
  exact kk
theorem sX6_wouldLaugh_30 {g : ZG} {Q : ZQ} {d cN sN : Nat} {M : ZM} {t0 : Int32} {t1 : Int32} {o0 o1 o2 o3 o4 : Option Value}  (kt : (t1 : Int32) ≤ (t0 : Int32) → Z g kX6_wouldLaugh Q d cN sN M 64 [o0, o1, o2, o3, o4] []) (kf : ¬ (t1 : Int32) ≤ (t0 : Int32) → Z g kX6_wouldLaugh Q d cN sN M 33 [o0, o1, o2, o3, o4] []) : Z g kX6_wouldLaugh Q d cN sN M 30 [o0, o1, o2, o3, o4] [.int t1, .int t0] := by
  exact zi_icmp_ge (tgt := 64) dX6_wouldLaugh_30 (by decide +kernel) kt kf
theorem sX6_wouldLaugh_33 {g : ZG} {Q : ZQ} {d cN sN : Nat} {M : ZM} {l2 : Int32} {l0 : Nat} {l3 : Int32} {l4 : Int32} {o1 : Option Value}  (kk : Z g kX6_wouldLaugh Q d cN sN M 38 [some (.ref l0), o1, some (.int l2), some (.int l3), some (.int l4)] [.int l4, .int l3, .ref l0, .int l2]) : Z g kX6_wouldLaugh Q d cN sN M 33 [some (.ref l0), o1, some (.int l2), some (.int l3), some (.int l4)] [] := by
  refine zi_iload_n dX6_wouldLaugh_33 rfl ?_
  refine zi_aload_n dX6_wouldLaugh_34 rfl zrf_r ?_
  refine zi_iload_n dX6_wouldLaugh_35 rfl ?_
  refine zi_iload dX6_wouldLaugh_36 rfl ?_
  exact kk
theorem sX6_wouldLaugh_41 {g : ZG} {Q : ZQ} {d cN sN : Nat} {M : ZM} {t0 : Int32} {t1 : Int32} {o0 o1 o2 o3 o4 : Option Value}  (kt : ¬ (t1 : Int32) = (2 : Int32) → Z g kX6_wouldLaugh Q d cN sN M 55 [o0, o1, o2, o3, o4] [.int t0]) (kf : (t1 : Int32) = (2 : Int32) → Z g kX6_wouldLaugh Q d cN sN M 45 [o0, o1, o2, o3, o4] [.int t0]) : Z g kX6_wouldLaugh Q d cN sN M 41 [o0, o1, o2, o3, o4] [.int t1, .int t0] := by
  refine zi_iconst dX6_wouldLaugh_41 (by decide +kernel : Int32.ofInt (2) = (2 : Int32)) ?_
  exact zi_icmp_ne (tgt := 55) dX6_wouldLaugh_42 (by decide +kernel) kt kf
theorem sX6_wouldLaugh_45 {g : ZG} {Q : ZQ} {d cN sN : Nat} {M : ZM} {t0 : Int32} {l0 : Nat} {l3 : Int32} {l4 : Int32} {o1 o2 : Option Value}  (kk : Z g kX6_wouldLaugh Q d cN sN M 49 [some (.ref l0), o1, o2, some (.int l3), some (.int l4)] [.int l4, .int l3, .ref l0, .int t0]) : Z g kX6_wouldLaugh Q d cN sN M 45 [some (.ref l0), o1, o2, some (.int l3), some (.int l4)] [.int t0] := by
  refine zi_aload_n dX6_wouldLaugh_45 rfl zrf_r ?_
  refine zi_iload_n dX6_wouldLaugh_46 rfl ?_
  refine zi_iload dX6_wouldLaugh_47 rfl ?_
  exact kk
theorem sX6_wouldLaugh_52 {g : ZG} {Q : ZQ} {d cN sN : Nat} {M : ZM} {t0 : Int32} {t1 : Int32} {o0 o1 o2 o3 o4 : Option Value}  (kk : Z g kX6_wouldLaugh Q d cN sN M 56 [o0, o1, o2, o3, o4] [.int t1, .int t0]) : Z g kX6_wouldLaugh Q d cN sN M 52 [o0, o1, o2, o3, o4] [.int t1, .int t0] := by
  exact zi_goto (tgt := 56) dX6_wouldLaugh_52 (by decide +kernel) kk
theorem sX6_wouldLaugh_55 {g : ZG} {Q : ZQ} {d cN sN : Nat} {M : ZM} {t0 : Int32} {o0 o1 o2 o3 o4 : Option Value}  (kk : Z g kX6_wouldLaugh Q d cN sN M 56 [o0, o1, o2, o3, o4] [.int 0, .int t0]) : Z g kX6_wouldLaugh Q d cN sN M 55 [o0, o1, o2, o3, o4] [.int t0] := by
  refine zi_iconst dX6_wouldLaugh_55 (by decide +kernel : Int32.ofInt (0) = (0 : Int32)) ?_
  exact kk
theorem sX6_wouldLaugh_56 {g : ZG} {Q : ZQ} {d cN sN : Nat} {M : ZM} {t0 : Int32} {t1 : Int32} {l4 : Int32} {o0 o1 o2 o3 : Option Value}  (kk : Z g kX6_wouldLaugh Q d cN sN M 22 [o0, o1, some (.int (t0 + t1)), o3, some (.int (l4 + 1))] []) : Z g kX6_wouldLaugh Q d cN sN M 56 [o0, o1, o2, o3, some (.int l4)] [.int t1, .int t0] := by
  refine zi_iadd dX6_wouldLaugh_56 ?_
  refine zi_istore_n dX6_wouldLaugh_57 (Nat.le_of_ble_eq_true rfl) ?_
  refine zi_iinc dX6_wouldLaugh_58 rfl (by decide +kernel : Int32.ofInt (1) = 1) (Nat.le_of_ble_eq_true rfl) ?_
  exact zi_goto (tgt := 22) dX6_wouldLaugh_61 (by decide +kernel) kk
theorem sX6_wouldLaugh_64 {g : ZG} {Q : ZQ} {d cN sN : Nat} {M : ZM} {l3 : Int32} {o0 o1 o2 o4 : Option Value}  (kk : Z g kX6_wouldLaugh Q d cN sN M 9 [o0, o1, o2, some (.int (l3 + 1)), o4] []) : Z g kX6_wouldLaugh Q d cN sN M 64 [o0, o1, o2, some (.int l3), o4] [] := by
  refine zi_iinc dX6_wouldLaugh_64 rfl (by decide +kernel : Int32.ofInt (1) = 1) (Nat.le_of_ble_eq_true rfl) ?_
  exact zi_goto (tgt := 9) dX6_wouldLaugh_67 (by decide +kernel) kk
theorem sX6_wouldLaugh_70 {g : ZG} {Q : ZQ} {d cN sN : Nat} {M : ZM} {l2 : Int32} {o0 o1 o3 o4 : Option Value}  (kk : Q.1 (some (.int l2)) M) : Z g kX6_wouldLaugh Q d cN sN M 70 [o0, o1, some (.int l2), o3, o4] [] := by
  refine zi_iload_n dX6_wouldLaugh_70 rfl ?_
  exact zi_ireturn dX6_wouldLaugh_71 rfl rfl kk
abbrev kX6_nearest : ZK := (RX6, cX6_nearest, 4, (Option.some Jvm.ClassFile.FieldType.int), [], false, fX6)
abbrev tX6_nearest (g : ZG) (args : List Value) (M : ZM) (d c s : Nat) (Q : ZQ) : Prop := Ct g yX6_nearest (ws_ yX6_nearest cX6_nearest 4 (Option.some Jvm.ClassFile.FieldType.int)) args M d c s Q
abbrev nX6_nearest : Nat := 3
theorem mX6_nearest : zMok yX6_nearest 1 4 := ⟨⟨by decide +kernel, by decide +kernel, by decide +kernel⟩, by decide⟩
theorem eX6_nearest {g : ZG} {Q : ZQ} {d cN sN : Nat} {M : ZM} {a0 : Nat} {x1 : Int32} (hV : zV g) (h : Z g kX6_nearest Q d cN sN M 0 [some (.ref a0), some (.int x1), none, none] []) : tX6_nearest g [.ref a0, .int x1] M d cN sN Q := Ct.of (K := kX6_nearest) rfl (by decide +kernel) hV fokX6 rfl (fun h => by cases h) (fun v hv => by simp only [List.mem_cons, List.not_mem_nil, or_false] at hv; rcases hv with rfl | rfl <;> first | rfl | assumption) (Nat.le_of_ble_eq_true rfl) h
theorem sX6_nearest_0 {g : ZG} {Q : ZQ} {d cN sN : Nat} {M : ZM} {l0 : Nat} {l1 : Int32} {o2 o3 : Option Value}  (kk : Z g kX6_nearest Q d cN sN M 3 [some (.ref l0), some (.int l1), o2, o3] [.int l1, .ref l0, .ref l0]) : Z g kX6_nearest Q d cN sN M 0 [some (.ref l0), some (.int l1), o2, o3] [] := by
  refine zi_aload_n dX6_nearest_0 rfl zrf_r ?_
  refine zi_aload_n dX6_nearest_1 rfl zrf_r ?_
  refine zi_iload_n dX6_nearest_2 rfl ?_
  exact kk
theorem sX6_nearest_6 {g : ZG} {Q : ZQ} {d cN sN : Nat} {M : ZM} {t0 : Nat} {t1 : Int32} {o0 o1 o2 o3 : Option Value}  (kt : (t1 : Int32) = 0 → Z g kX6_nearest Q d cN sN M 13 [o0, o1, o2, o3] [.ref t0]) (kf : ¬ (t1 : Int32) = 0 → Z g kX6_nearest Q d cN sN M 9 [o0, o1, o2, o3] [.ref t0]) : Z g kX6_nearest Q d cN sN M 6 [o0, o1, o2, o3] [.int t1, .ref t0] := by
  exact zi_if_eq (tgt := 13) dX6_nearest_6 (by decide +kernel) kt kf
theorem sX6_nearest_9 {g : ZG} {Q : ZQ} {d cN sN : Nat} {M : ZM} {t0 : Nat} {o0 o1 o2 o3 : Option Value}  (kk : Z g kX6_nearest Q d cN sN M 14 [o0, o1, o2, o3] [.int 0, .ref t0]) : Z g kX6_nearest Q d cN sN M 9 [o0, o1, o2, o3] [.ref t0] := by
  refine zi_iconst dX6_nearest_9 (by decide +kernel : Int32.ofInt (0) = (0 : Int32)) ?_
  exact zi_goto (tgt := 14) dX6_nearest_10 (by decide +kernel) kk
theorem sX6_nearest_13 {g : ZG} {Q : ZQ} {d cN sN : Nat} {M : ZM} {t0 : Nat} {o0 o1 o2 o3 : Option Value}  (kk : Z g kX6_nearest Q d cN sN M 14 [o0, o1, o2, o3] [.int 1, .ref t0]) : Z g kX6_nearest Q d cN sN M 13 [o0, o1, o2, o3] [.ref t0] := by
  refine zi_iconst dX6_nearest_13 (by decide +kernel : Int32.ofInt (1) = (1 : Int32)) ?_
  exact kk
theorem sX6_nearest_17 {g : ZG} {Q : ZQ} {d cN sN : Nat} {M : ZM} {t0 : Int32} {o0 o1 o2 o3 : Option Value}  (kt : (t0 : Int32) = 0 → Z g kX6_nearest Q d cN sN M 22 [o0, o1, o2, o3] []) (kf : ¬ (t0 : Int32) = 0 → Z g kX6_nearest Q d cN sN M 20 [o0, o1, o2, o3] []) : Z g kX6_nearest Q d cN sN M 17 [o0, o1, o2, o3] [.int t0] := by
  exact zi_if_eq (tgt := 22) dX6_nearest_17 (by decide +kernel) kt kf
theorem sX6_nearest_20 {g : ZG} {Q : ZQ} {d cN sN : Nat} {M : ZM} {o0 o1 o2 o3 : Option Value}  (kk : Q.1 (some (.int 0)) M) : Z g kX6_nearest Q d cN sN M 20 [o0, o1, o2, o3] [] := by
  refine zi_iconst dX6_nearest_20 (by decide +kernel : Int32.ofInt (0) = (0 : Int32)) ?_
  exact zi_ireturn dX6_nearest_21 rfl rfl kk
theorem sX6_nearest_22 {g : ZG} {Q : ZQ} {d cN sN : Nat} {M : ZM} {o0 o1 o2 o3 : Option Value}  (kk : Z g kX6_nearest Q d cN sN M 26 [o0, o1, some (.int 0), some (.int 1)] []) : Z g kX6_nearest Q d cN sN M 22 [o0, o1, o2, o3] [] := by
  refine zi_iconst dX6_nearest_22 (by decide +kernel : Int32.ofInt (0) = (0 : Int32)) ?_
  refine zi_istore_n dX6_nearest_23 (Nat.le_of_ble_eq_true rfl) ?_
  refine zi_iconst dX6_nearest_24 (by decide +kernel : Int32.ofInt (1) = (1 : Int32)) ?_
  refine zi_istore_n dX6_nearest_25 (Nat.le_of_ble_eq_true rfl) ?_
  exact kk
theorem sX6_nearest_26 {g : ZG} {Q : ZQ} {d cN sN : Nat} {M : ZM} {l3 : Int32} {l0 : Nat} {fs1 : List Value} {r3 : Nat} {n5 : Nat} {f6 : Nat → Int32} {o1 o2 : Option Value} (h2 : M.1 l0 = some (.inr (5, fs1))) (h4 : (fs1)[0]? = some (.ref r3)) (h7 : M.1 r3 = some (.inl (zA g 0, n5, .inl f6))) (h8 : vp_in (1) n5) (kt : (f6 ((1 : Int32).toNatClampNeg) : Int32) ≤ (l3 : Int32) → Z g kX6_nearest Q d cN sN M 59 [some (.ref l0), o1, o2, some (.int l3)] []) (kf : ¬ (f6 ((1 : Int32).toNatClampNeg) : Int32) ≤ (l3 : Int32) → Z g kX6_nearest Q d cN sN M 36 [some (.ref l0), o1, o2, some (.int l3)] []) : Z g kX6_nearest Q d cN sN M 26 [some (.ref l0), o1, o2, some (.int l3)] [] := by
  refine zi_iload_n dX6_nearest_26 rfl ?_
  refine zi_aload_n dX6_nearest_27 rfl zrf_r ?_
  refine zi_getfield dX6_nearest_28 rfl h2 h4 ?_
  refine zi_iconst dX6_nearest_31 (by decide +kernel : Int32.ofInt (1) = (1 : Int32)) ?_
  refine zi_iaload dX6_nearest_32 h7 h8 ?_
  exact zi_icmp_ge (tgt := 59) dX6_nearest_33 (by decide +kernel) kt kf
theorem sX6_nearest_36 {g : ZG} {Q : ZQ} {d cN sN : Nat} {M : ZM} {l0 : Nat} {l1 : Int32} {l3 : Int32} {o2 : Option Value}  (kk : Z g kX6_nearest Q d cN sN M 39 [some (.ref l0), some (.int l1), o2, some (.int l3)] [.int l3, .int l1, .ref l0]) : Z g kX6_nearest Q d cN sN M 36 [some (.ref l0), some (.int l1), o2, some (.int l3)] [] := by
  refine zi_aload_n dX6_nearest_36 rfl zrf_r ?_
  refine zi_iload_n dX6_nearest_37 rfl ?_
  refine zi_iload_n dX6_nearest_38 rfl ?_
  exact kk
theorem sX6_nearest_42 {g : ZG} {Q : ZQ} {d cN sN : Nat} {M : ZM} {t0 : Int32} {l0 : Nat} {l1 : Int32} {l2 : Int32} {o3 : Option Value}  (kk : Z g kX6_nearest Q d cN sN M 45 [some (.ref l0), some (.int l1), some (.int l2), o3] [.int l2, .int l1, .ref l0, .int t0]) : Z g kX6_nearest Q d cN sN M 42 [some (.ref l0), some (.int l1), some (.int l2), o3] [.int t0] := by
  refine zi_aload_n dX6_nearest_42 rfl zrf_r ?_
  refine zi_iload_n dX6_nearest_43 rfl ?_
  refine zi_iload_n dX6_nearest_44 rfl ?_
  exact kk
theorem sX6_nearest_48 {g : ZG} {Q : ZQ} {d cN sN : Nat} {M : ZM} {t0 : Int32} {t1 : Int32} {o0 o1 o2 o3 : Option Value}  (kt : (t1 : Int32) ≤ (t0 : Int32) → Z g kX6_nearest Q d cN sN M 53 [o0, o1, o2, o3] []) (kf : ¬ (t1 : Int32) ≤ (t0 : Int32) → Z g kX6_nearest Q d cN sN M 51 [o0, o1, o2, o3] []) : Z g kX6_nearest Q d cN sN M 48 [o0, o1, o2, o3] [.int t1, .int t0] := by
  exact zi_icmp_ge (tgt := 53) dX6_nearest_48 (by decide +kernel) kt kf
theorem sX6_nearest_51 {g : ZG} {Q : ZQ} {d cN sN : Nat} {M : ZM} {l3 : Int32} {o0 o1 o2 : Option Value}  (kk : Z g kX6_nearest Q d cN sN M 53 [o0, o1, some (.int l3), some (.int l3)] []) : Z g kX6_nearest Q d cN sN M 51 [o0, o1, o2, some (.int l3)] [] := by
  refine zi_iload_n dX6_nearest_51 rfl ?_
  refine zi_istore_n dX6_nearest_52 (Nat.le_of_ble_eq_true rfl) ?_
  exact kk
theorem sX6_nearest_53 {g : ZG} {Q : ZQ} {d cN sN : Nat} {M : ZM} {l3 : Int32} {o0 o1 o2 : Option Value}  (kk : Z g kX6_nearest Q d cN sN M 26 [o0, o1, o2, some (.int (l3 + 1))] []) : Z g kX6_nearest Q d cN sN M 53 [o0, o1, o2, some (.int l3)] [] := by
  refine zi_iinc dX6_nearest_53 rfl (by decide +kernel : Int32.ofInt (1) = 1) (Nat.le_of_ble_eq_true rfl) ?_
  exact zi_goto (tgt := 26) dX6_nearest_56 (by decide +kernel) kk
theorem sX6_nearest_59 {g : ZG} {Q : ZQ} {d cN sN : Nat} {M : ZM} {l2 : Int32} {o0 o1 o3 : Option Value}  (kk : Q.1 (some (.int l2)) M) : Z g kX6_nearest Q d cN sN M 59 [o0, o1, some (.int l2), o3] [] := by
  refine zi_iload_n dX6_nearest_59 rfl ?_
  exact zi_ireturn dX6_nearest_60 rfl rfl kk
abbrev kX6_far : ZK := (RX6, cX6_far, 5, (Option.some Jvm.ClassFile.FieldType.int), [], false, fX6)
abbrev tX6_far (g : ZG) (args : List Value) (M : ZM) (d c s : Nat) (Q : ZQ) : Prop := Ct g yX6_far (ws_ yX6_far cX6_far 5 (Option.some Jvm.ClassFile.FieldType.int)) args M d c s Q
abbrev nX6_far : Nat := 2
theorem mX6_far : zMok yX6_far 2 5 := ⟨⟨by decide +kernel, by decide +kernel, by decide +kernel⟩, by decide⟩
theorem eX6_far {g : ZG} {Q : ZQ} {d cN sN : Nat} {M : ZM} {a0 : Nat} {x1 : Int32} {x2 : Int32} (hV : zV g) (h : Z g kX6_far Q d cN sN M 0 [some (.ref a0), some (.int x1), some (.int x2), none, none] []) : tX6_far g [.ref a0, .int x1, .int x2] M d cN sN Q := Ct.of (K := kX6_far) rfl (by decide +kernel) hV fokX6 rfl (fun h => by cases h) (fun v hv => by simp only [List.mem_cons, List.not_mem_nil, or_false] at hv; rcases hv with rfl | rfl | rfl <;> first | rfl | assumption) (Nat.le_of_ble_eq_true rfl) h
theorem sX6_far_0 {g : ZG} {Q : ZQ} {d cN sN : Nat} {M : ZM} {o0 o1 o2 o3 o4 : Option Value}  (kk : Z g kX6_far Q d cN sN M 5 [o0, o1, o2, some (.int 0), some (.int 0)] []) : Z g kX6_far Q d cN sN M 0 [o0, o1, o2, o3, o4] [] := by
  refine zi_iconst dX6_far_0 (by decide +kernel : Int32.ofInt (0) = (0 : Int32)) ?_
  refine zi_istore_n dX6_far_1 (Nat.le_of_ble_eq_true rfl) ?_
  refine zi_iconst dX6_far_2 (by decide +kernel : Int32.ofInt (0) = (0 : Int32)) ?_
  refine zi_istore dX6_far_3 (Nat.le_of_ble_eq_true rfl) ?_
  exact kk
theorem sX6_far_5 {g : ZG} {Q : ZQ} {d cN sN : Nat} {M : ZM} {l4 : Int32} {o0 o1 o2 o3 : Option Value}  (kt : (8 : Int32) ≤ (l4 : Int32) → Z g kX6_far Q d cN sN M 48 [o0, o1, o2, o3, some (.int l4)] []) (kf : ¬ (8 : Int32) ≤ (l4 : Int32) → Z g kX6_far Q d cN sN M 12 [o0, o1, o2, o3, some (.int l4)] []) : Z g kX6_far Q d cN sN M 5 [o0, o1, o2, o3, some (.int l4)] [] := by
  refine zi_iload dX6_far_5 rfl ?_
  refine zi_bipush dX6_far_7 (by decide +kernel : (Int8.ofInt (8)).toInt32 = (8 : Int32)) ?_
  exact zi_icmp_ge (tgt := 48) dX6_far_9 (by decide +kernel) kt kf
theorem sX6_far_12 {g : ZG} {Q : ZQ} {d cN sN : Nat} {M : ZM} {l3 : Int32} {l0 : Nat} {l1 : Int32} {l4 : Int32} {o2 : Option Value}  (kk : Z g kX6_far Q d cN sN M 20 [some (.ref l0), some (.int l1), o2, some (.int l3), some (.int l4)] [.int (10 + l4), .int l1, .ref l0, .int l3]) : Z g kX6_far Q d cN sN M 12 [some (.ref l0), some (.int l1), o2, some (.int l3), some (.int l4)] [] := by
  refine zi_iload_n dX6_far_12 rfl ?_
  refine zi_aload_n dX6_far_13 rfl zrf_r ?_
  refine zi_iload_n dX6_far_14 rfl ?_
  refine zi_bipush dX6_far_15 (by decide +kernel : (Int8.ofInt (10)).toInt32 = (10 : Int32)) ?_
  refine zi_iload dX6_far_17 rfl ?_
  refine zi_iadd dX6_far_19 ?_
  exact kk
theorem sX6_far_23 {g : ZG} {Q : ZQ} {d cN sN : Nat} {M : ZM} {t0 : Int32} {t1 : Int32} {l0 : Nat} {l2 : Int32} {l4 : Int32} {o1 o3 : Option Value}  (kk : Z g kX6_far Q d cN sN M 29 [some (.ref l0), o1, some (.int l2), o3, some (.int l4)] [.int (2 + l4), .int l2, .ref l0, .int t1, .int t0]) : Z g kX6_far Q d cN sN M 23 [some (.ref l0), o1, some (.int l2), o3, some (.int l4)] [.int t1, .int t0] := by
  refine zi_aload_n dX6_far_23 rfl zrf_r ?_
  refine zi_iload_n dX6_far_24 rfl ?_
  refine zi_iconst dX6_far_25 (by decide +kernel : Int32.ofInt (2) = (2 : Int32)) ?_
  refine zi_iload dX6_far_26 rfl ?_
  refine zi_iadd dX6_far_28 ?_
  exact kk
theorem sX6_far_32 {g : ZG} {Q : ZQ} {d cN sN : Nat} {M : ZM} {t0 : Int32} {t1 : Int32} {t2 : Int32} {o0 o1 o2 o3 o4 : Option Value}  (kt : ¬ (t1 : Int32) = (t2 : Int32) → Z g kX6_far Q d cN sN M 39 [o0, o1, o2, o3, o4] [.int t0]) (kf : (t1 : Int32) = (t2 : Int32) → Z g kX6_far Q d cN sN M 35 [o0, o1, o2, o3, o4] [.int t0]) : Z g kX6_far Q d cN sN M 32 [o0, o1, o2, o3, o4] [.int t2, .int t1, .int t0] := by
  exact zi_icmp_ne (tgt := 39) dX6_far_32 (by decide +kernel) kt kf
theorem sX6_far_35 {g : ZG} {Q : ZQ} {d cN sN : Nat} {M : ZM} {t0 : Int32} {o0 o1 o2 o3 o4 : Option Value}  (kk : Z g kX6_far Q d cN sN M 40 [o0, o1, o2, o3, o4] [.int 0, .int t0]) : Z g kX6_far Q d cN sN M 35 [o0, o1, o2, o3, o4] [.int t0] := by
  refine zi_iconst dX6_far_35 (by decide +kernel : Int32.ofInt (0) = (0 : Int32)) ?_
  exact zi_goto (tgt := 40) dX6_far_36 (by decide +kernel) kk
theorem sX6_far_39 {g : ZG} {Q : ZQ} {d cN sN : Nat} {M : ZM} {t0 : Int32} {o0 o1 o2 o3 o4 : Option Value}  (kk : Z g kX6_far Q d cN sN M 40 [o0, o1, o2, o3, o4] [.int 1, .int t0]) : Z g kX6_far Q d cN sN M 39 [o0, o1, o2, o3, o4] [.int t0] := by
  refine zi_iconst dX6_far_39 (by decide +kernel : Int32.ofInt (1) = (1 : Int32)) ?_
  exact kk
theorem sX6_far_40 {g : ZG} {Q : ZQ} {d cN sN : Nat} {M : ZM} {t0 : Int32} {t1 : Int32} {l4 : Int32} {o0 o1 o2 o3 : Option Value}  (kk : Z g kX6_far Q d cN sN M 5 [o0, o1, o2, some (.int (t0 + t1)), some (.int (l4 + 1))] []) : Z g kX6_far Q d cN sN M 40 [o0, o1, o2, o3, some (.int l4)] [.int t1, .int t0] := by
  refine zi_iadd dX6_far_40 ?_
  refine zi_istore_n dX6_far_41 (Nat.le_of_ble_eq_true rfl) ?_
  refine zi_iinc dX6_far_42 rfl (by decide +kernel : Int32.ofInt (1) = 1) (Nat.le_of_ble_eq_true rfl) ?_
  exact zi_goto (tgt := 5) dX6_far_45 (by decide +kernel) kk
theorem sX6_far_48 {g : ZG} {Q : ZQ} {d cN sN : Nat} {M : ZM} {l3 : Int32} {o0 o1 o2 o4 : Option Value}  (kk : Q.1 (some (.int l3)) M) : Z g kX6_far Q d cN sN M 48 [o0, o1, o2, some (.int l3), o4] [] := by
  refine zi_iload_n dX6_far_48 rfl ?_
  exact zi_ireturn dX6_far_49 rfl rfl kk
abbrev kX6_calmIn : ZK := (RX6, cX6_calmIn, 2, (Option.some Jvm.ClassFile.FieldType.int), [], false, fX6)
abbrev tX6_calmIn (g : ZG) (args : List Value) (M : ZM) (d c s : Nat) (Q : ZQ) : Prop := Ct g yX6_calmIn (ws_ yX6_calmIn cX6_calmIn 2 (Option.some Jvm.ClassFile.FieldType.int)) args M d c s Q
abbrev nX6_calmIn : Nat := 3
theorem mX6_calmIn : zMok yX6_calmIn 1 2 := ⟨⟨by decide +kernel, by decide +kernel, by decide +kernel⟩, by decide⟩
theorem eX6_calmIn {g : ZG} {Q : ZQ} {d cN sN : Nat} {M : ZM} {a0 : Nat} {x1 : Int32} (hV : zV g) (h : Z g kX6_calmIn Q d cN sN M 0 [some (.ref a0), some (.int x1)] []) : tX6_calmIn g [.ref a0, .int x1] M d cN sN Q := Ct.of (K := kX6_calmIn) rfl (by decide +kernel) hV fokX6 rfl (fun h => by cases h) (fun v hv => by simp only [List.mem_cons, List.not_mem_nil, or_false] at hv; rcases hv with rfl | rfl <;> first | rfl | assumption) (Nat.le_of_ble_eq_true rfl) h
theorem sX6_calmIn_0 {g : ZG} {Q : ZQ} {d cN sN : Nat} {M : ZM} {l0 : Nat} {l1 : Int32}  (kk : Z g kX6_calmIn Q d cN sN M 3 [some (.ref l0), some (.int l1)] [.int l1, .ref l0, .ref l0]) : Z g kX6_calmIn Q d cN sN M 0 [some (.ref l0), some (.int l1)] [] := by
  refine zi_aload_n dX6_calmIn_0 rfl zrf_r ?_
  refine zi_aload_n dX6_calmIn_1 rfl zrf_r ?_
  refine zi_iload_n dX6_calmIn_2 rfl ?_
  exact kk
theorem sX6_calmIn_6 {g : ZG} {Q : ZQ} {d cN sN : Nat} {M : ZM} {t0 : Nat} {t1 : Int32} {o0 o1 : Option Value}  (kt : (t1 : Int32) = 0 → Z g kX6_calmIn Q d cN sN M 13 [o0, o1] [.ref t0]) (kf : ¬ (t1 : Int32) = 0 → Z g kX6_calmIn Q d cN sN M 9 [o0, o1] [.ref t0]) : Z g kX6_calmIn Q d cN sN M 6 [o0, o1] [.int t1, .ref t0] := by
  exact zi_if_eq (tgt := 13) dX6_calmIn_6 (by decide +kernel) kt kf
theorem sX6_calmIn_9 {g : ZG} {Q : ZQ} {d cN sN : Nat} {M : ZM} {t0 : Nat} {o0 o1 : Option Value}  (kk : Z g kX6_calmIn Q d cN sN M 14 [o0, o1] [.int 0, .ref t0]) : Z g kX6_calmIn Q d cN sN M 9 [o0, o1] [.ref t0] := by
  refine zi_iconst dX6_calmIn_9 (by decide +kernel : Int32.ofInt (0) = (0 : Int32)) ?_
  exact zi_goto (tgt := 14) dX6_calmIn_10 (by decide +kernel) kk
theorem sX6_calmIn_13 {g : ZG} {Q : ZQ} {d cN sN : Nat} {M : ZM} {t0 : Nat} {o0 o1 : Option Value}  (kk : Z g kX6_calmIn Q d cN sN M 14 [o0, o1] [.int 1, .ref t0]) : Z g kX6_calmIn Q d cN sN M 13 [o0, o1] [.ref t0] := by
  refine zi_iconst dX6_calmIn_13 (by decide +kernel : Int32.ofInt (1) = (1 : Int32)) ?_
  exact kk
theorem sX6_calmIn_17 {g : ZG} {Q : ZQ} {d cN sN : Nat} {M : ZM} {t0 : Int32} {o0 o1 : Option Value}  (kt : ¬ (t0 : Int32) = 0 → Z g kX6_calmIn Q d cN sN M 28 [o0, o1] []) (kf : (t0 : Int32) = 0 → Z g kX6_calmIn Q d cN sN M 20 [o0, o1] []) : Z g kX6_calmIn Q d cN sN M 17 [o0, o1] [.int t0] := by
  exact zi_if_ne (tgt := 28) dX6_calmIn_17 (by decide +kernel) kt kf
theorem sX6_calmIn_20 {g : ZG} {Q : ZQ} {d cN sN : Nat} {M : ZM} {l0 : Nat} {l1 : Int32}  (kk : Z g kX6_calmIn Q d cN sN M 22 [some (.ref l0), some (.int l1)] [.int l1, .ref l0]) : Z g kX6_calmIn Q d cN sN M 20 [some (.ref l0), some (.int l1)] [] := by
  refine zi_aload_n dX6_calmIn_20 rfl zrf_r ?_
  refine zi_iload_n dX6_calmIn_21 rfl ?_
  exact kk
theorem sX6_calmIn_25 {g : ZG} {Q : ZQ} {d cN sN : Nat} {M : ZM} {t0 : Int32} {o0 o1 : Option Value}  (kt : ¬ (t0 : Int32) = 0 → Z g kX6_calmIn Q d cN sN M 32 [o0, o1] []) (kf : (t0 : Int32) = 0 → Z g kX6_calmIn Q d cN sN M 28 [o0, o1] []) : Z g kX6_calmIn Q d cN sN M 25 [o0, o1] [.int t0] := by
  exact zi_if_ne (tgt := 32) dX6_calmIn_25 (by decide +kernel) kt kf
theorem sX6_calmIn_28 {g : ZG} {Q : ZQ} {d cN sN : Nat} {M : ZM} {o0 o1 : Option Value}  (kk : Z g kX6_calmIn Q d cN sN M 41 [o0, o1] [.int 0]) : Z g kX6_calmIn Q d cN sN M 28 [o0, o1] [] := by
  refine zi_iconst dX6_calmIn_28 (by decide +kernel : Int32.ofInt (0) = (0 : Int32)) ?_
  exact zi_goto (tgt := 41) dX6_calmIn_29 (by decide +kernel) kk
theorem sX6_calmIn_32 {g : ZG} {Q : ZQ} {d cN sN : Nat} {M : ZM} {l0 : Nat} {l1 : Int32}  (kk : Z g kX6_calmIn Q d cN sN M 35 [some (.ref l0), some (.int l1)] [.int 1, .int l1, .ref l0]) : Z g kX6_calmIn Q d cN sN M 32 [some (.ref l0), some (.int l1)] [] := by
  refine zi_aload_n dX6_calmIn_32 rfl zrf_r ?_
  refine zi_iload_n dX6_calmIn_33 rfl ?_
  refine zi_iconst dX6_calmIn_34 (by decide +kernel : Int32.ofInt (1) = (1 : Int32)) ?_
  exact kk
theorem sX6_calmIn_38 {g : ZG} {Q : ZQ} {d cN sN : Nat} {M : ZM} {t0 : Int32} {o0 o1 : Option Value}  (kk : Z g kX6_calmIn Q d cN sN M 41 [o0, o1] [.int (t0 - 20)]) : Z g kX6_calmIn Q d cN sN M 38 [o0, o1] [.int t0] := by
  refine zi_bipush dX6_calmIn_38 (by decide +kernel : (Int8.ofInt (20)).toInt32 = (20 : Int32)) ?_
  refine zi_isub dX6_calmIn_40 ?_
  exact kk
theorem sX6_calmIn_41 {g : ZG} {Q : ZQ} {d cN sN : Nat} {M : ZM} {t0 : Int32} {o0 o1 : Option Value}  (kk : Q.1 (some (.int t0)) M) : Z g kX6_calmIn Q d cN sN M 41 [o0, o1] [.int t0] := by
  exact zi_ireturn dX6_calmIn_41 rfl rfl kk
abbrev kX6_ashamed : ZK := (RX6, cX6_ashamed, 5, (Option.some Jvm.ClassFile.FieldType.int), [], false, fX6)
abbrev tX6_ashamed (g : ZG) (args : List Value) (M : ZM) (d c s : Nat) (Q : ZQ) : Prop := Ct g yX6_ashamed (ws_ yX6_ashamed cX6_ashamed 5 (Option.some Jvm.ClassFile.FieldType.int)) args M d c s Q
abbrev nX6_ashamed : Nat := 3
theorem mX6_ashamed : zMok yX6_ashamed 1 5 := ⟨⟨by decide +kernel, by decide +kernel, by decide +kernel⟩, by decide⟩
theorem eX6_ashamed {g : ZG} {Q : ZQ} {d cN sN : Nat} {M : ZM} {a0 : Nat} {x1 : Int32} (hV : zV g) (h : Z g kX6_ashamed Q d cN sN M 0 [some (.ref a0), some (.int x1), none, none, none] []) : tX6_ashamed g [.ref a0, .int x1] M d cN sN Q := Ct.of (K := kX6_ashamed) rfl (by decide +kernel) hV fokX6 rfl (fun h => by cases h) (fun v hv => by simp only [List.mem_cons, List.not_mem_nil, or_false] at hv; rcases hv with rfl | rfl <;> first | rfl | assumption) (Nat.le_of_ble_eq_true rfl) h
theorem sX6_ashamed_0 {g : ZG} {Q : ZQ} {d cN sN : Nat} {M : ZM} {o0 o1 o2 o3 o4 : Option Value}  (kk : Z g kX6_ashamed Q d cN sN M 2 [o0, o1, some (.int 0), o3, o4] []) : Z g kX6_ashamed Q d cN sN M 0 [o0, o1, o2, o3, o4] [] := by
  refine zi_iconst dX6_ashamed_0 (by decide +kernel : Int32.ofInt (0) = (0 : Int32)) ?_
  refine zi_istore_n dX6_ashamed_1 (Nat.le_of_ble_eq_true rfl) ?_
  exact kk
theorem sX6_ashamed_2 {g : ZG} {Q : ZQ} {d cN sN : Nat} {M : ZM} {l2 : Int32} {l0 : Nat} {fs1 : List Value} {r3 : Nat} {n5 : Nat} {f6 : Nat → Int32} {o1 o3 o4 : Option Value} (h2 : M.1 l0 = some (.inr (5, fs1))) (h4 : (fs1)[0]? = some (.ref r3)) (h7 : M.1 r3 = some (.inl (zA g 0, n5, .inl f6))) (h8 : vp_in (0) n5) (kt : (f6 ((0 : Int32).toNatClampNeg) : Int32) ≤ (l2 : Int32) → Z g kX6_ashamed Q d cN sN M 73 [some (.ref l0), o1, some (.int l2), o3, o4] []) (kf : ¬ (f6 ((0 : Int32).toNatClampNeg) : Int32) ≤ (l2 : Int32) → Z g kX6_ashamed Q d cN sN M 12 [some (.ref l0), o1, some (.int l2), o3, o4] []) : Z g kX6_ashamed Q d cN sN M 2 [some (.ref l0), o1, some (.int l2), o3, o4] [] := by
  refine zi_iload_n dX6_ashamed_2 rfl ?_
  refine zi_aload_n dX6_ashamed_3 rfl zrf_r ?_
  refine zi_getfield dX6_ashamed_4 rfl h2 h4 ?_
  refine zi_iconst dX6_ashamed_7 (by decide +kernel : Int32.ofInt (0) = (0 : Int32)) ?_
  refine zi_iaload dX6_ashamed_8 h7 h8 ?_
  exact zi_icmp_ge (tgt := 73) dX6_ashamed_9 (by decide +kernel) kt kf
theorem sX6_ashamed_12 {g : ZG} {Q : ZQ} {d cN sN : Nat} {M : ZM} {o0 o1 o2 o3 o4 : Option Value}  (kk : Z g kX6_ashamed Q d cN sN M 17 [o0, o1, o2, some (.int 0), some (.int 0)] []) : Z g kX6_ashamed Q d cN sN M 12 [o0, o1, o2, o3, o4] [] := by
  refine zi_iconst dX6_ashamed_12 (by decide +kernel : Int32.ofInt (0) = (0 : Int32)) ?_
  refine zi_istore_n dX6_ashamed_13 (Nat.le_of_ble_eq_true rfl) ?_
  refine zi_iconst dX6_ashamed_14 (by decide +kernel : Int32.ofInt (0) = (0 : Int32)) ?_
  refine zi_istore dX6_ashamed_15 (Nat.le_of_ble_eq_true rfl) ?_
  exact kk
theorem sX6_ashamed_17 {g : ZG} {Q : ZQ} {d cN sN : Nat} {M : ZM} {l4 : Int32} {l0 : Nat} {fs1 : List Value} {r3 : Nat} {n5 : Nat} {f6 : Nat → Int32} {o1 o2 o3 : Option Value} (h2 : M.1 l0 = some (.inr (5, fs1))) (h4 : (fs1)[0]? = some (.ref r3)) (h7 : M.1 r3 = some (.inl (zA g 0, n5, .inl f6))) (h8 : vp_in (0) n5) (kt : (f6 ((0 : Int32).toNatClampNeg) : Int32) ≤ (l4 : Int32) → Z g kX6_ashamed Q d cN sN M 52 [some (.ref l0), o1, o2, o3, some (.int l4)] []) (kf : ¬ (f6 ((0 : Int32).toNatClampNeg) : Int32) ≤ (l4 : Int32) → Z g kX6_ashamed Q d cN sN M 28 [some (.ref l0), o1, o2, o3, some (.int l4)] []) : Z g kX6_ashamed Q d cN sN M 17 [some (.ref l0), o1, o2, o3, some (.int l4)] [] := by
  refine zi_iload dX6_ashamed_17 rfl ?_
  refine zi_aload_n dX6_ashamed_19 rfl zrf_r ?_
  refine zi_getfield dX6_ashamed_20 rfl h2 h4 ?_
  refine zi_iconst dX6_ashamed_23 (by decide +kernel : Int32.ofInt (0) = (0 : Int32)) ?_
  refine zi_iaload dX6_ashamed_24 h7 h8 ?_
  exact zi_icmp_ge (tgt := 52) dX6_ashamed_25 (by decide +kernel) kt kf
theorem sX6_ashamed_28 {g : ZG} {Q : ZQ} {d cN sN : Nat} {M : ZM} {l3 : Int32} {l0 : Nat} {l4 : Int32} {l2 : Int32} {o1 : Option Value}  (kk : Z g kX6_ashamed Q d cN sN M 33 [some (.ref l0), o1, some (.int l2), some (.int l3), some (.int l4)] [.int l2, .int l4, .ref l0, .int l3]) : Z g kX6_ashamed Q d cN sN M 28 [some (.ref l0), o1, some (.int l2), some (.int l3), some (.int l4)] [] := by
  refine zi_iload_n dX6_ashamed_28 rfl ?_
  refine zi_aload_n dX6_ashamed_29 rfl zrf_r ?_
  refine zi_iload dX6_ashamed_30 rfl ?_
  refine zi_iload_n dX6_ashamed_32 rfl ?_
  exact kk
theorem sX6_ashamed_36 {g : ZG} {Q : ZQ} {d cN sN : Nat} {M : ZM} {t0 : Int32} {t1 : Int32} {o0 o1 o2 o3 o4 : Option Value}  (kt : (t1 : Int32) = 0 → Z g kX6_ashamed Q d cN sN M 43 [o0, o1, o2, o3, o4] [.int t0]) (kf : ¬ (t1 : Int32) = 0 → Z g kX6_ashamed Q d cN sN M 39 [o0, o1, o2, o3, o4] [.int t0]) : Z g kX6_ashamed Q d cN sN M 36 [o0, o1, o2, o3, o4] [.int t1, .int t0] := by
  exact zi_if_eq (tgt := 43) dX6_ashamed_36 (by decide +kernel) kt kf
theorem sX6_ashamed_39 {g : ZG} {Q : ZQ} {d cN sN : Nat} {M : ZM} {t0 : Int32} {o0 o1 o2 o3 o4 : Option Value}  (kk : Z g kX6_ashamed Q d cN sN M 44 [o0, o1, o2, o3, o4] [.int 1, .int t0]) : Z g kX6_ashamed Q d cN sN M 39 [o0, o1, o2, o3, o4] [.int t0] := by
  refine zi_iconst dX6_ashamed_39 (by decide +kernel : Int32.ofInt (1) = (1 : Int32)) ?_
  exact zi_goto (tgt := 44) dX6_ashamed_40 (by decide +kernel) kk
theorem sX6_ashamed_43 {g : ZG} {Q : ZQ} {d cN sN : Nat} {M : ZM} {t0 : Int32} {o0 o1 o2 o3 o4 : Option Value}  (kk : Z g kX6_ashamed Q d cN sN M 44 [o0, o1, o2, o3, o4] [.int 0, .int t0]) : Z g kX6_ashamed Q d cN sN M 43 [o0, o1, o2, o3, o4] [.int t0] := by
  refine zi_iconst dX6_ashamed_43 (by decide +kernel : Int32.ofInt (0) = (0 : Int32)) ?_
  exact kk
theorem sX6_ashamed_44 {g : ZG} {Q : ZQ} {d cN sN : Nat} {M : ZM} {t0 : Int32} {t1 : Int32} {l4 : Int32} {o0 o1 o2 o3 : Option Value}  (kk : Z g kX6_ashamed Q d cN sN M 17 [o0, o1, o2, some (.int (t0 + t1)), some (.int (l4 + 1))] []) : Z g kX6_ashamed Q d cN sN M 44 [o0, o1, o2, o3, some (.int l4)] [.int t1, .int t0] := by
  refine zi_iadd dX6_ashamed_44 ?_
  refine zi_istore_n dX6_ashamed_45 (Nat.le_of_ble_eq_true rfl) ?_
  refine zi_iinc dX6_ashamed_46 rfl (by decide +kernel : Int32.ofInt (1) = 1) (Nat.le_of_ble_eq_true rfl) ?_
  exact zi_goto (tgt := 17) dX6_ashamed_49 (by decide +kernel) kk
theorem sX6_ashamed_52 {g : ZG} {Q : ZQ} {d cN sN : Nat} {M : ZM} {l3 : Int32} {l1 : Int32} {o0 o2 o4 : Option Value}  (kt : (l3 : Int32) = (l1 : Int32) → Z g kX6_ashamed Q d cN sN M 60 [o0, some (.int l1), o2, some (.int l3), o4] []) (kf : ¬ (l3 : Int32) = (l1 : Int32) → Z g kX6_ashamed Q d cN sN M 57 [o0, some (.int l1), o2, some (.int l3), o4] []) : Z g kX6_ashamed Q d cN sN M 52 [o0, some (.int l1), o2, some (.int l3), o4] [] := by
  refine zi_iload_n dX6_ashamed_52 rfl ?_
  refine zi_iload_n dX6_ashamed_53 rfl ?_
  exact zi_icmp_eq (tgt := 60) dX6_ashamed_54 (by decide +kernel) kt kf
theorem sX6_ashamed_57 {g : ZG} {Q : ZQ} {d cN sN : Nat} {M : ZM} {o0 o1 o2 o3 o4 : Option Value}  (kk : Z g kX6_ashamed Q d cN sN M 67 [o0, o1, o2, o3, o4] []) : Z g kX6_ashamed Q d cN sN M 57 [o0, o1, o2, o3, o4] [] := by
  exact zi_goto (tgt := 67) dX6_ashamed_57 (by decide +kernel) kk
theorem sX6_ashamed_60 {g : ZG} {Q : ZQ} {d cN sN : Nat} {M : ZM} {l0 : Nat} {fs1 : List Value} {l2 : Int32} {o1 o3 o4 : Option Value} (h2 : M.1 l0 = some (.inr (5, fs1))) (h3 : 8 < (fs1).length) (kk : Q.1 (some (.int l2)) (zup M l0 (.inr (5, (fs1).set 8 (.int 0))))) : Z g kX6_ashamed Q d cN sN M 60 [some (.ref l0), o1, some (.int l2), o3, o4] [] := by
  refine zi_aload_n dX6_ashamed_60 rfl zrf_r ?_
  refine zi_iconst dX6_ashamed_61 (by decide +kernel : Int32.ofInt (0) = (0 : Int32)) ?_
  refine zi_putfield dX6_ashamed_62 rfl h2 h3 zfit_i (Or.inl rfl) ?_
  refine zi_iload_n dX6_ashamed_65 rfl ?_
  exact zi_ireturn dX6_ashamed_66 rfl rfl kk
theorem sX6_ashamed_67 {g : ZG} {Q : ZQ} {d cN sN : Nat} {M : ZM} {l2 : Int32} {o0 o1 o3 o4 : Option Value}  (kk : Z g kX6_ashamed Q d cN sN M 2 [o0, o1, some (.int (l2 + 1)), o3, o4] []) : Z g kX6_ashamed Q d cN sN M 67 [o0, o1, some (.int l2), o3, o4] [] := by
  refine zi_iinc dX6_ashamed_67 rfl (by decide +kernel : Int32.ofInt (1) = 1) (Nat.le_of_ble_eq_true rfl) ?_
  exact zi_goto (tgt := 2) dX6_ashamed_70 (by decide +kernel) kk
theorem sX6_ashamed_73 {g : ZG} {Q : ZQ} {d cN sN : Nat} {M : ZM} {l0 : Nat} {fs1 : List Value} {o1 o2 o3 o4 : Option Value} (h2 : M.1 l0 = some (.inr (5, fs1))) (h3 : 8 < (fs1).length) (kk : Q.1 (some (.int 0)) (zup M l0 (.inr (5, (fs1).set 8 (.int 1))))) : Z g kX6_ashamed Q d cN sN M 73 [some (.ref l0), o1, o2, o3, o4] [] := by
  refine zi_aload_n dX6_ashamed_73 rfl zrf_r ?_
  refine zi_iconst dX6_ashamed_74 (by decide +kernel : Int32.ofInt (1) = (1 : Int32)) ?_
  refine zi_putfield dX6_ashamed_75 rfl h2 h3 zfit_i (Or.inl rfl) ?_
  refine zi_iconst dX6_ashamed_78 (by decide +kernel : Int32.ofInt (0) = (0 : Int32)) ?_
  exact zi_ireturn dX6_ashamed_79 rfl rfl kk
abbrev kX6_isMoreAshamed : ZK := (RX6, cX6_isMoreAshamed, 5, (Option.some Jvm.ClassFile.FieldType.boolean), [], false, fX6)
abbrev tX6_isMoreAshamed (g : ZG) (args : List Value) (M : ZM) (d c s : Nat) (Q : ZQ) : Prop := Ct g yX6_isMoreAshamed (ws_ yX6_isMoreAshamed cX6_isMoreAshamed 5 (Option.some Jvm.ClassFile.FieldType.boolean)) args M d c s Q
abbrev nX6_isMoreAshamed : Nat := 2
theorem mX6_isMoreAshamed : zMok yX6_isMoreAshamed 2 5 := ⟨⟨by decide +kernel, by decide +kernel, by decide +kernel⟩, by decide⟩
theorem eX6_isMoreAshamed {g : ZG} {Q : ZQ} {d cN sN : Nat} {M : ZM} {a0 : Nat} {x1 : Int32} {x2 : Int32} (hV : zV g) (h : Z g kX6_isMoreAshamed Q d cN sN M 0 [some (.ref a0), some (.int x1), some (.int x2), none, none] []) : tX6_isMoreAshamed g [.ref a0, .int x1, .int x2] M d cN sN Q := Ct.of (K := kX6_isMoreAshamed) rfl (by decide +kernel) hV fokX6 rfl (fun h => by cases h) (fun v hv => by simp only [List.mem_cons, List.not_mem_nil, or_false] at hv; rcases hv with rfl | rfl | rfl <;> first | rfl | assumption) (Nat.le_of_ble_eq_true rfl) h
theorem sX6_isMoreAshamed_0 {g : ZG} {Q : ZQ} {d cN sN : Nat} {M : ZM} {l0 : Nat} {l1 : Int32} {o2 o3 o4 : Option Value}  (kk : Z g kX6_isMoreAshamed Q d cN sN M 3 [some (.ref l0), some (.int l1), o2, o3, o4] [.int 1, .int l1, .ref l0]) : Z g kX6_isMoreAshamed Q d cN sN M 0 [some (.ref l0), some (.int l1), o2, o3, o4] [] := by
  refine zi_aload_n dX6_isMoreAshamed_0 rfl zrf_r ?_
  refine zi_iload_n dX6_isMoreAshamed_1 rfl ?_
  refine zi_iconst dX6_isMoreAshamed_2 (by decide +kernel : Int32.ofInt (1) = (1 : Int32)) ?_
  exact kk
theorem sX6_isMoreAshamed_6 {g : ZG} {Q : ZQ} {d cN sN : Nat} {M : ZM} {t0 : Int32} {l0 : Nat} {l2 : Int32} {o1 o3 o4 : Option Value}  (kk : Z g kX6_isMoreAshamed Q d cN sN M 9 [some (.ref l0), o1, some (.int l2), o3, o4] [.int 1, .int l2, .ref l0, .int t0]) : Z g kX6_isMoreAshamed Q d cN sN M 6 [some (.ref l0), o1, some (.int l2), o3, o4] [.int t0] := by
  refine zi_aload_n dX6_isMoreAshamed_6 rfl zrf_r ?_
  refine zi_iload_n dX6_isMoreAshamed_7 rfl ?_
  refine zi_iconst dX6_isMoreAshamed_8 (by decide +kernel : Int32.ofInt (1) = (1 : Int32)) ?_
  exact kk
theorem sX6_isMoreAshamed_12 {g : ZG} {Q : ZQ} {d cN sN : Nat} {M : ZM} {t0 : Int32} {t1 : Int32} {o0 o1 o2 o3 o4 : Option Value}  (kt : (t0 - t1 : Int32) = 0 → Z g kX6_isMoreAshamed Q d cN sN M 28 [o0, o1, o2, some (.int (t0 - t1)), o4] []) (kf : ¬ (t0 - t1 : Int32) = 0 → Z g kX6_isMoreAshamed Q d cN sN M 18 [o0, o1, o2, some (.int (t0 - t1)), o4] []) : Z g kX6_isMoreAshamed Q d cN sN M 12 [o0, o1, o2, o3, o4] [.int t1, .int t0] := by
  refine zi_isub dX6_isMoreAshamed_12 ?_
  refine zi_istore_n dX6_isMoreAshamed_13 (Nat.le_of_ble_eq_true rfl) ?_
  refine zi_iload_n dX6_isMoreAshamed_14 rfl ?_
  exact zi_if_eq (tgt := 28) dX6_isMoreAshamed_15 (by decide +kernel) kt kf
theorem sX6_isMoreAshamed_18 {g : ZG} {Q : ZQ} {d cN sN : Nat} {M : ZM} {l3 : Int32} {o0 o1 o2 o4 : Option Value}  (kt : (l3 : Int32) ≤ 0 → Z g kX6_isMoreAshamed Q d cN sN M 26 [o0, o1, o2, some (.int l3), o4] []) (kf : ¬ (l3 : Int32) ≤ 0 → Z g kX6_isMoreAshamed Q d cN sN M 22 [o0, o1, o2, some (.int l3), o4] []) : Z g kX6_isMoreAshamed Q d cN sN M 18 [o0, o1, o2, some (.int l3), o4] [] := by
  refine zi_iload_n dX6_isMoreAshamed_18 rfl ?_
  exact zi_if_le (tgt := 26) dX6_isMoreAshamed_19 (by decide +kernel) kt kf
theorem sX6_isMoreAshamed_22 {g : ZG} {Q : ZQ} {d cN sN : Nat} {M : ZM} {o0 o1 o2 o3 o4 : Option Value}  (kk : Z g kX6_isMoreAshamed Q d cN sN M 27 [o0, o1, o2, o3, o4] [.int 1]) : Z g kX6_isMoreAshamed Q d cN sN M 22 [o0, o1, o2, o3, o4] [] := by
  refine zi_iconst dX6_isMoreAshamed_22 (by decide +kernel : Int32.ofInt (1) = (1 : Int32)) ?_
  exact zi_goto (tgt := 27) dX6_isMoreAshamed_23 (by decide +kernel) kk
theorem sX6_isMoreAshamed_26 {g : ZG} {Q : ZQ} {d cN sN : Nat} {M : ZM} {o0 o1 o2 o3 o4 : Option Value}  (kk : Z g kX6_isMoreAshamed Q d cN sN M 27 [o0, o1, o2, o3, o4] [.int 0]) : Z g kX6_isMoreAshamed Q d cN sN M 26 [o0, o1, o2, o3, o4] [] := by
  refine zi_iconst dX6_isMoreAshamed_26 (by decide +kernel : Int32.ofInt (0) = (0 : Int32)) ?_
  exact kk
theorem sX6_isMoreAshamed_27 {g : ZG} {Q : ZQ} {d cN sN : Nat} {M : ZM} {t0 : Int32} {o0 o1 o2 o3 o4 : Option Value} (h1 : t0 = 0 ∨ t0 = 1) (kk : Q.1 (some (.int t0)) M) : Z g kX6_isMoreAshamed Q d cN sN M 27 [o0, o1, o2, o3, o4] [.int t0] := by
  exact zi_ireturn dX6_isMoreAshamed_27 rfl (znar_z h1) kk
theorem sX6_isMoreAshamed_28 {g : ZG} {Q : ZQ} {d cN sN : Nat} {M : ZM} {l0 : Nat} {l1 : Int32} {o2 o3 o4 : Option Value}  (kk : Z g kX6_isMoreAshamed Q d cN sN M 31 [some (.ref l0), some (.int l1), o2, o3, o4] [.int 0, .int l1, .ref l0]) : Z g kX6_isMoreAshamed Q d cN sN M 28 [some (.ref l0), some (.int l1), o2, o3, o4] [] := by
  refine zi_aload_n dX6_isMoreAshamed_28 rfl zrf_r ?_
  refine zi_iload_n dX6_isMoreAshamed_29 rfl ?_
  refine zi_iconst dX6_isMoreAshamed_30 (by decide +kernel : Int32.ofInt (0) = (0 : Int32)) ?_
  exact kk
theorem sX6_isMoreAshamed_34 {g : ZG} {Q : ZQ} {d cN sN : Nat} {M : ZM} {t0 : Int32} {l0 : Nat} {l2 : Int32} {o1 o3 o4 : Option Value}  (kk : Z g kX6_isMoreAshamed Q d cN sN M 37 [some (.ref l0), o1, some (.int l2), o3, o4] [.int 0, .int l2, .ref l0, .int t0]) : Z g kX6_isMoreAshamed Q d cN sN M 34 [some (.ref l0), o1, some (.int l2), o3, o4] [.int t0] := by
  refine zi_aload_n dX6_isMoreAshamed_34 rfl zrf_r ?_
  refine zi_iload_n dX6_isMoreAshamed_35 rfl ?_
  refine zi_iconst dX6_isMoreAshamed_36 (by decide +kernel : Int32.ofInt (0) = (0 : Int32)) ?_
  exact kk
theorem sX6_isMoreAshamed_40 {g : ZG} {Q : ZQ} {d cN sN : Nat} {M : ZM} {t0 : Int32} {t1 : Int32} {o0 o1 o2 o3 o4 : Option Value}  (kt : (t0 - t1 : Int32) < 0 → Z g kX6_isMoreAshamed Q d cN sN M 58 [o0, o1, o2, o3, some (.int (t0 - t1))] []) (kf : ¬ (t0 - t1 : Int32) < 0 → Z g kX6_isMoreAshamed Q d cN sN M 48 [o0, o1, o2, o3, some (.int (t0 - t1))] []) : Z g kX6_isMoreAshamed Q d cN sN M 40 [o0, o1, o2, o3, o4] [.int t1, .int t0] := by
  refine zi_isub dX6_isMoreAshamed_40 ?_
  refine zi_istore dX6_isMoreAshamed_41 (Nat.le_of_ble_eq_true rfl) ?_
  refine zi_iload dX6_isMoreAshamed_43 rfl ?_
  exact zi_if_lt (tgt := 58) dX6_isMoreAshamed_45 (by decide +kernel) kt kf
theorem sX6_isMoreAshamed_48 {g : ZG} {Q : ZQ} {d cN sN : Nat} {M : ZM} {l4 : Int32} {o0 o1 o2 o3 : Option Value}  (kt : ¬ (l4 : Int32) = 0 → Z g kX6_isMoreAshamed Q d cN sN M 62 [o0, o1, o2, o3, some (.int l4)] []) (kf : (l4 : Int32) = 0 → Z g kX6_isMoreAshamed Q d cN sN M 53 [o0, o1, o2, o3, some (.int l4)] []) : Z g kX6_isMoreAshamed Q d cN sN M 48 [o0, o1, o2, o3, some (.int l4)] [] := by
  refine zi_iload dX6_isMoreAshamed_48 rfl ?_
  exact zi_if_ne (tgt := 62) dX6_isMoreAshamed_50 (by decide +kernel) kt kf
theorem sX6_isMoreAshamed_53 {g : ZG} {Q : ZQ} {d cN sN : Nat} {M : ZM} {l1 : Int32} {l2 : Int32} {o0 o3 o4 : Option Value}  (kt : (l2 : Int32) ≤ (l1 : Int32) → Z g kX6_isMoreAshamed Q d cN sN M 62 [o0, some (.int l1), some (.int l2), o3, o4] []) (kf : ¬ (l2 : Int32) ≤ (l1 : Int32) → Z g kX6_isMoreAshamed Q d cN sN M 58 [o0, some (.int l1), some (.int l2), o3, o4] []) : Z g kX6_isMoreAshamed Q d cN sN M 53 [o0, some (.int l1), some (.int l2), o3, o4] [] := by
  refine zi_iload_n dX6_isMoreAshamed_53 rfl ?_
  refine zi_iload_n dX6_isMoreAshamed_54 rfl ?_
  exact zi_icmp_ge (tgt := 62) dX6_isMoreAshamed_55 (by decide +kernel) kt kf
theorem sX6_isMoreAshamed_58 {g : ZG} {Q : ZQ} {d cN sN : Nat} {M : ZM} {o0 o1 o2 o3 o4 : Option Value}  (kk : Z g kX6_isMoreAshamed Q d cN sN M 63 [o0, o1, o2, o3, o4] [.int 1]) : Z g kX6_isMoreAshamed Q d cN sN M 58 [o0, o1, o2, o3, o4] [] := by
  refine zi_iconst dX6_isMoreAshamed_58 (by decide +kernel : Int32.ofInt (1) = (1 : Int32)) ?_
  exact zi_goto (tgt := 63) dX6_isMoreAshamed_59 (by decide +kernel) kk
theorem sX6_isMoreAshamed_62 {g : ZG} {Q : ZQ} {d cN sN : Nat} {M : ZM} {o0 o1 o2 o3 o4 : Option Value}  (kk : Z g kX6_isMoreAshamed Q d cN sN M 63 [o0, o1, o2, o3, o4] [.int 0]) : Z g kX6_isMoreAshamed Q d cN sN M 62 [o0, o1, o2, o3, o4] [] := by
  refine zi_iconst dX6_isMoreAshamed_62 (by decide +kernel : Int32.ofInt (0) = (0 : Int32)) ?_
  exact kk
theorem sX6_isMoreAshamed_63 {g : ZG} {Q : ZQ} {d cN sN : Nat} {M : ZM} {t0 : Int32} {o0 o1 o2 o3 o4 : Option Value} (h1 : t0 = 0 ∨ t0 = 1) (kk : Q.1 (some (.int t0)) M) : Z g kX6_isMoreAshamed Q d cN sN M 63 [o0, o1, o2, o3, o4] [.int t0] := by
  exact zi_ireturn dX6_isMoreAshamed_63 rfl (znar_z h1) kk
abbrev kX6_worst : ZK := (RX6, cX6_worst, 5, (Option.some Jvm.ClassFile.FieldType.int), [], false, fX6)
abbrev tX6_worst (g : ZG) (args : List Value) (M : ZM) (d c s : Nat) (Q : ZQ) : Prop := Ct g yX6_worst (ws_ yX6_worst cX6_worst 5 (Option.some Jvm.ClassFile.FieldType.int)) args M d c s Q
abbrev nX6_worst : Nat := 5
theorem mX6_worst : zMok yX6_worst 1 5 := ⟨⟨by decide +kernel, by decide +kernel, by decide +kernel⟩, by decide⟩
theorem eX6_worst {g : ZG} {Q : ZQ} {d cN sN : Nat} {M : ZM} {a0 : Nat} {x1 : Int32} (hV : zV g) (h : Z g kX6_worst Q d cN sN M 0 [some (.ref a0), some (.int x1), none, none, none] []) : tX6_worst g [.ref a0, .int x1] M d cN sN Q := Ct.of (K := kX6_worst) rfl (by decide +kernel) hV fokX6 rfl (fun h => by cases h) (fun v hv => by simp only [List.mem_cons, List.not_mem_nil, or_false] at hv; rcases hv with rfl | rfl <;> first | rfl | assumption) (Nat.le_of_ble_eq_true rfl) h
theorem sX6_worst_0 {g : ZG} {Q : ZQ} {d cN sN : Nat} {M : ZM} {o0 o1 o2 o3 o4 : Option Value}  (kk : Z g kX6_worst Q d cN sN M 2 [o0, o1, some (.int 0), o3, o4] []) : Z g kX6_worst Q d cN sN M 0 [o0, o1, o2, o3, o4] [] := by
  refine zi_iconst dX6_worst_0 (by decide +kernel : Int32.ofInt (0) = (0 : Int32)) ?_
  refine zi_istore_n dX6_worst_1 (Nat.le_of_ble_eq_true rfl) ?_
  exact kk
theorem sX6_worst_2 {g : ZG} {Q : ZQ} {d cN sN : Nat} {M : ZM} {l2 : Int32} {l0 : Nat} {fs1 : List Value} {r3 : Nat} {n5 : Nat} {f6 : Nat → Int32} {o1 o3 o4 : Option Value} (h2 : M.1 l0 = some (.inr (5, fs1))) (h4 : (fs1)[0]? = some (.ref r3)) (h7 : M.1 r3 = some (.inl (zA g 0, n5, .inl f6))) (h8 : vp_in (1) n5) (kt : (f6 ((1 : Int32).toNatClampNeg) : Int32) ≤ (l2 : Int32) → Z g kX6_worst Q d cN sN M 73 [some (.ref l0), o1, some (.int l2), o3, o4] []) (kf : ¬ (f6 ((1 : Int32).toNatClampNeg) : Int32) ≤ (l2 : Int32) → Z g kX6_worst Q d cN sN M 12 [some (.ref l0), o1, some (.int l2), o3, o4] []) : Z g kX6_worst Q d cN sN M 2 [some (.ref l0), o1, some (.int l2), o3, o4] [] := by
  refine zi_iload_n dX6_worst_2 rfl ?_
  refine zi_aload_n dX6_worst_3 rfl zrf_r ?_
  refine zi_getfield dX6_worst_4 rfl h2 h4 ?_
  refine zi_iconst dX6_worst_7 (by decide +kernel : Int32.ofInt (1) = (1 : Int32)) ?_
  refine zi_iaload dX6_worst_8 h7 h8 ?_
  exact zi_icmp_ge (tgt := 73) dX6_worst_9 (by decide +kernel) kt kf
theorem sX6_worst_12 {g : ZG} {Q : ZQ} {d cN sN : Nat} {M : ZM} {o0 o1 o2 o3 o4 : Option Value}  (kk : Z g kX6_worst Q d cN sN M 17 [o0, o1, o2, some (.int 0), some (.int 0)] []) : Z g kX6_worst Q d cN sN M 12 [o0, o1, o2, o3, o4] [] := by
  refine zi_iconst dX6_worst_12 (by decide +kernel : Int32.ofInt (0) = (0 : Int32)) ?_
  refine zi_istore_n dX6_worst_13 (Nat.le_of_ble_eq_true rfl) ?_
  refine zi_iconst dX6_worst_14 (by decide +kernel : Int32.ofInt (0) = (0 : Int32)) ?_
  refine zi_istore dX6_worst_15 (Nat.le_of_ble_eq_true rfl) ?_
  exact kk
theorem sX6_worst_17 {g : ZG} {Q : ZQ} {d cN sN : Nat} {M : ZM} {l4 : Int32} {l0 : Nat} {fs1 : List Value} {r3 : Nat} {n5 : Nat} {f6 : Nat → Int32} {o1 o2 o3 : Option Value} (h2 : M.1 l0 = some (.inr (5, fs1))) (h4 : (fs1)[0]? = some (.ref r3)) (h7 : M.1 r3 = some (.inl (zA g 0, n5, .inl f6))) (h8 : vp_in (1) n5) (kt : (f6 ((1 : Int32).toNatClampNeg) : Int32) ≤ (l4 : Int32) → Z g kX6_worst Q d cN sN M 52 [some (.ref l0), o1, o2, o3, some (.int l4)] []) (kf : ¬ (f6 ((1 : Int32).toNatClampNeg) : Int32) ≤ (l4 : Int32) → Z g kX6_worst Q d cN sN M 28 [some (.ref l0), o1, o2, o3, some (.int l4)] []) : Z g kX6_worst Q d cN sN M 17 [some (.ref l0), o1, o2, o3, some (.int l4)] [] := by
  refine zi_iload dX6_worst_17 rfl ?_
  refine zi_aload_n dX6_worst_19 rfl zrf_r ?_
  refine zi_getfield dX6_worst_20 rfl h2 h4 ?_
  refine zi_iconst dX6_worst_23 (by decide +kernel : Int32.ofInt (1) = (1 : Int32)) ?_
  refine zi_iaload dX6_worst_24 h7 h8 ?_
  exact zi_icmp_ge (tgt := 52) dX6_worst_25 (by decide +kernel) kt kf
theorem sX6_worst_28 {g : ZG} {Q : ZQ} {d cN sN : Nat} {M : ZM} {l3 : Int32} {l0 : Nat} {l4 : Int32} {l2 : Int32} {o1 : Option Value}  (kk : Z g kX6_worst Q d cN sN M 33 [some (.ref l0), o1, some (.int l2), some (.int l3), some (.int l4)] [.int l2, .int l4, .ref l0, .int l3]) : Z g kX6_worst Q d cN sN M 28 [some (.ref l0), o1, some (.int l2), some (.int l3), some (.int l4)] [] := by
  refine zi_iload_n dX6_worst_28 rfl ?_
  refine zi_aload_n dX6_worst_29 rfl zrf_r ?_
  refine zi_iload dX6_worst_30 rfl ?_
  refine zi_iload_n dX6_worst_32 rfl ?_
  exact kk
theorem sX6_worst_36 {g : ZG} {Q : ZQ} {d cN sN : Nat} {M : ZM} {t0 : Int32} {t1 : Int32} {o0 o1 o2 o3 o4 : Option Value}  (kt : (t1 : Int32) = 0 → Z g kX6_worst Q d cN sN M 43 [o0, o1, o2, o3, o4] [.int t0]) (kf : ¬ (t1 : Int32) = 0 → Z g kX6_worst Q d cN sN M 39 [o0, o1, o2, o3, o4] [.int t0]) : Z g kX6_worst Q d cN sN M 36 [o0, o1, o2, o3, o4] [.int t1, .int t0] := by
  exact zi_if_eq (tgt := 43) dX6_worst_36 (by decide +kernel) kt kf
theorem sX6_worst_39 {g : ZG} {Q : ZQ} {d cN sN : Nat} {M : ZM} {t0 : Int32} {o0 o1 o2 o3 o4 : Option Value}  (kk : Z g kX6_worst Q d cN sN M 44 [o0, o1, o2, o3, o4] [.int 1, .int t0]) : Z g kX6_worst Q d cN sN M 39 [o0, o1, o2, o3, o4] [.int t0] := by
  refine zi_iconst dX6_worst_39 (by decide +kernel : Int32.ofInt (1) = (1 : Int32)) ?_
  exact zi_goto (tgt := 44) dX6_worst_40 (by decide +kernel) kk
theorem sX6_worst_43 {g : ZG} {Q : ZQ} {d cN sN : Nat} {M : ZM} {t0 : Int32} {o0 o1 o2 o3 o4 : Option Value}  (kk : Z g kX6_worst Q d cN sN M 44 [o0, o1, o2, o3, o4] [.int 0, .int t0]) : Z g kX6_worst Q d cN sN M 43 [o0, o1, o2, o3, o4] [.int t0] := by
  refine zi_iconst dX6_worst_43 (by decide +kernel : Int32.ofInt (0) = (0 : Int32)) ?_
  exact kk
theorem sX6_worst_44 {g : ZG} {Q : ZQ} {d cN sN : Nat} {M : ZM} {t0 : Int32} {t1 : Int32} {l4 : Int32} {o0 o1 o2 o3 : Option Value}  (kk : Z g kX6_worst Q d cN sN M 17 [o0, o1, o2, some (.int (t0 + t1)), some (.int (l4 + 1))] []) : Z g kX6_worst Q d cN sN M 44 [o0, o1, o2, o3, some (.int l4)] [.int t1, .int t0] := by
  refine zi_iadd dX6_worst_44 ?_
  refine zi_istore_n dX6_worst_45 (Nat.le_of_ble_eq_true rfl) ?_
  refine zi_iinc dX6_worst_46 rfl (by decide +kernel : Int32.ofInt (1) = 1) (Nat.le_of_ble_eq_true rfl) ?_
  exact zi_goto (tgt := 17) dX6_worst_49 (by decide +kernel) kk
theorem sX6_worst_52 {g : ZG} {Q : ZQ} {d cN sN : Nat} {M : ZM} {l3 : Int32} {l1 : Int32} {o0 o2 o4 : Option Value}  (kt : (l3 : Int32) = (l1 : Int32) → Z g kX6_worst Q d cN sN M 60 [o0, some (.int l1), o2, some (.int l3), o4] []) (kf : ¬ (l3 : Int32) = (l1 : Int32) → Z g kX6_worst Q d cN sN M 57 [o0, some (.int l1), o2, some (.int l3), o4] []) : Z g kX6_worst Q d cN sN M 52 [o0, some (.int l1), o2, some (.int l3), o4] [] := by
  refine zi_iload_n dX6_worst_52 rfl ?_
  refine zi_iload_n dX6_worst_53 rfl ?_
  exact zi_icmp_eq (tgt := 60) dX6_worst_54 (by decide +kernel) kt kf
theorem sX6_worst_57 {g : ZG} {Q : ZQ} {d cN sN : Nat} {M : ZM} {o0 o1 o2 o3 o4 : Option Value}  (kk : Z g kX6_worst Q d cN sN M 67 [o0, o1, o2, o3, o4] []) : Z g kX6_worst Q d cN sN M 57 [o0, o1, o2, o3, o4] [] := by
  exact zi_goto (tgt := 67) dX6_worst_57 (by decide +kernel) kk
theorem sX6_worst_60 {g : ZG} {Q : ZQ} {d cN sN : Nat} {M : ZM} {l0 : Nat} {fs1 : List Value} {l2 : Int32} {o1 o3 o4 : Option Value} (h2 : M.1 l0 = some (.inr (5, fs1))) (h3 : 8 < (fs1).length) (kk : Q.1 (some (.int l2)) (zup M l0 (.inr (5, (fs1).set 8 (.int 0))))) : Z g kX6_worst Q d cN sN M 60 [some (.ref l0), o1, some (.int l2), o3, o4] [] := by
  refine zi_aload_n dX6_worst_60 rfl zrf_r ?_
  refine zi_iconst dX6_worst_61 (by decide +kernel : Int32.ofInt (0) = (0 : Int32)) ?_
  refine zi_putfield dX6_worst_62 rfl h2 h3 zfit_i (Or.inl rfl) ?_
  refine zi_iload_n dX6_worst_65 rfl ?_
  exact zi_ireturn dX6_worst_66 rfl rfl kk
theorem sX6_worst_67 {g : ZG} {Q : ZQ} {d cN sN : Nat} {M : ZM} {l2 : Int32} {o0 o1 o3 o4 : Option Value}  (kk : Z g kX6_worst Q d cN sN M 2 [o0, o1, some (.int (l2 + 1)), o3, o4] []) : Z g kX6_worst Q d cN sN M 67 [o0, o1, some (.int l2), o3, o4] [] := by
  refine zi_iinc dX6_worst_67 rfl (by decide +kernel : Int32.ofInt (1) = 1) (Nat.le_of_ble_eq_true rfl) ?_
  exact zi_goto (tgt := 2) dX6_worst_70 (by decide +kernel) kk
theorem sX6_worst_73 {g : ZG} {Q : ZQ} {d cN sN : Nat} {M : ZM} {l0 : Nat} {fs1 : List Value} {o1 o2 o3 o4 : Option Value} (h2 : M.1 l0 = some (.inr (5, fs1))) (h3 : 8 < (fs1).length) (kk : Q.1 (some (.int 0)) (zup M l0 (.inr (5, (fs1).set 8 (.int 1))))) : Z g kX6_worst Q d cN sN M 73 [some (.ref l0), o1, o2, o3, o4] [] := by
  refine zi_aload_n dX6_worst_73 rfl zrf_r ?_
  refine zi_iconst dX6_worst_74 (by decide +kernel : Int32.ofInt (1) = (1 : Int32)) ?_
  refine zi_putfield dX6_worst_75 rfl h2 h3 zfit_i (Or.inl rfl) ?_
  refine zi_iconst dX6_worst_78 (by decide +kernel : Int32.ofInt (0) = (0 : Int32)) ?_
  exact zi_ireturn dX6_worst_79 rfl rfl kk
abbrev kX6_isWorse : ZK := (RX6, cX6_isWorse, 5, (Option.some Jvm.ClassFile.FieldType.boolean), [], false, fX6)
abbrev tX6_isWorse (g : ZG) (args : List Value) (M : ZM) (d c s : Nat) (Q : ZQ) : Prop := Ct g yX6_isWorse (ws_ yX6_isWorse cX6_isWorse 5 (Option.some Jvm.ClassFile.FieldType.boolean)) args M d c s Q
abbrev nX6_isWorse : Nat := 4
theorem mX6_isWorse : zMok yX6_isWorse 2 5 := ⟨⟨by decide +kernel, by decide +kernel, by decide +kernel⟩, by decide⟩
theorem eX6_isWorse {g : ZG} {Q : ZQ} {d cN sN : Nat} {M : ZM} {a0 : Nat} {x1 : Int32} {x2 : Int32} (hV : zV g) (h : Z g kX6_isWorse Q d cN sN M 0 [some (.ref a0), some (.int x1), some (.int x2), none, none] []) : tX6_isWorse g [.ref a0, .int x1, .int x2] M d cN sN Q := Ct.of (K := kX6_isWorse) rfl (by decide +kernel) hV fokX6 rfl (fun h => by cases h) (fun v hv => by simp only [List.mem_cons, List.not_mem_nil, or_false] at hv; rcases hv with rfl | rfl | rfl <;> first | rfl | assumption) (Nat.le_of_ble_eq_true rfl) h
theorem sX6_isWorse_0 {g : ZG} {Q : ZQ} {d cN sN : Nat} {M : ZM} {l0 : Nat} {l1 : Int32} {o2 o3 o4 : Option Value}  (kk : Z g kX6_isWorse Q d cN sN M 2 [some (.ref l0), some (.int l1), o2, o3, o4] [.int l1, .ref l0]) : Z g kX6_isWorse Q d cN sN M 0 [some (.ref l0), some (.int l1), o2, o3, o4] [] := by
  refine zi_aload_n dX6_isWorse_0 rfl zrf_r ?_
  refine zi_iload_n dX6_isWorse_1 rfl ?_
  exact kk
theorem sX6_isWorse_5 {g : ZG} {Q : ZQ} {d cN sN : Nat} {M : ZM} {t0 : Int32} {l0 : Nat} {l2 : Int32} {o1 o3 o4 : Option Value}  (kk : Z g kX6_isWorse Q d cN sN M 7 [some (.ref l0), o1, some (.int l2), o3, o4] [.int l2, .ref l0, .int t0]) : Z g kX6_isWorse Q d cN sN M 5 [some (.ref l0), o1, some (.int l2), o3, o4] [.int t0] := by
  refine zi_aload_n dX6_isWorse_5 rfl zrf_r ?_
  refine zi_iload_n dX6_isWorse_6 rfl ?_
  exact kk
theorem sX6_isWorse_10 {g : ZG} {Q : ZQ} {d cN sN : Nat} {M : ZM} {t0 : Int32} {t1 : Int32} {o0 o1 o2 o3 o4 : Option Value}  (kt : (t0 - t1 : Int32) = 0 → Z g kX6_isWorse Q d cN sN M 26 [o0, o1, o2, some (.int (t0 - t1)), o4] []) (kf : ¬ (t0 - t1 : Int32) = 0 → Z g kX6_isWorse Q d cN sN M 16 [o0, o1, o2, some (.int (t0 - t1)), o4] []) : Z g kX6_isWorse Q d cN sN M 10 [o0, o1, o2, o3, o4] [.int t1, .int t0] := by
  refine zi_isub dX6_isWorse_10 ?_
  refine zi_istore_n dX6_isWorse_11 (Nat.le_of_ble_eq_true rfl) ?_
  refine zi_iload_n dX6_isWorse_12 rfl ?_
  exact zi_if_eq (tgt := 26) dX6_isWorse_13 (by decide +kernel) kt kf
theorem sX6_isWorse_16 {g : ZG} {Q : ZQ} {d cN sN : Nat} {M : ZM} {l3 : Int32} {o0 o1 o2 o4 : Option Value}  (kt : (l3 : Int32) ≤ 0 → Z g kX6_isWorse Q d cN sN M 24 [o0, o1, o2, some (.int l3), o4] []) (kf : ¬ (l3 : Int32) ≤ 0 → Z g kX6_isWorse Q d cN sN M 20 [o0, o1, o2, some (.int l3), o4] []) : Z g kX6_isWorse Q d cN sN M 16 [o0, o1, o2, some (.int l3), o4] [] := by
  refine zi_iload_n dX6_isWorse_16 rfl ?_
  exact zi_if_le (tgt := 24) dX6_isWorse_17 (by decide +kernel) kt kf
theorem sX6_isWorse_20 {g : ZG} {Q : ZQ} {d cN sN : Nat} {M : ZM} {o0 o1 o2 o3 o4 : Option Value}  (kk : Z g kX6_isWorse Q d cN sN M 25 [o0, o1, o2, o3, o4] [.int 1]) : Z g kX6_isWorse Q d cN sN M 20 [o0, o1, o2, o3, o4] [] := by
  refine zi_iconst dX6_isWorse_20 (by decide +kernel : Int32.ofInt (1) = (1 : Int32)) ?_
  exact zi_goto (tgt := 25) dX6_isWorse_21 (by decide +kernel) kk
theorem sX6_isWorse_24 {g : ZG} {Q : ZQ} {d cN sN : Nat} {M : ZM} {o0 o1 o2 o3 o4 : Option Value}  (kk : Z g kX6_isWorse Q d cN sN M 25 [o0, o1, o2, o3, o4] [.int 0]) : Z g kX6_isWorse Q d cN sN M 24 [o0, o1, o2, o3, o4] [] := by
  refine zi_iconst dX6_isWorse_24 (by decide +kernel : Int32.ofInt (0) = (0 : Int32)) ?_
  exact kk
theorem sX6_isWorse_25 {g : ZG} {Q : ZQ} {d cN sN : Nat} {M : ZM} {t0 : Int32} {o0 o1 o2 o3 o4 : Option Value} (h1 : t0 = 0 ∨ t0 = 1) (kk : Q.1 (some (.int t0)) M) : Z g kX6_isWorse Q d cN sN M 25 [o0, o1, o2, o3, o4] [.int t0] := by
  exact zi_ireturn dX6_isWorse_25 rfl (znar_z h1) kk
theorem sX6_isWorse_26 {g : ZG} {Q : ZQ} {d cN sN : Nat} {M : ZM} {l0 : Nat} {l1 : Int32} {o2 o3 o4 : Option Value}  (kk : Z g kX6_isWorse Q d cN sN M 29 [some (.ref l0), some (.int l1), o2, o3, o4] [.int 1, .int l1, .ref l0]) : Z g kX6_isWorse Q d cN sN M 26 [some (.ref l0), some (.int l1), o2, o3, o4] [] := by
  refine zi_aload_n dX6_isWorse_26 rfl zrf_r ?_
  refine zi_iload_n dX6_isWorse_27 rfl ?_
  refine zi_iconst dX6_isWorse_28 (by decide +kernel : Int32.ofInt (1) = (1 : Int32)) ?_
  exact kk
theorem sX6_isWorse_32 {g : ZG} {Q : ZQ} {d cN sN : Nat} {M : ZM} {t0 : Int32} {l0 : Nat} {l2 : Int32} {o1 o3 o4 : Option Value}  (kk : Z g kX6_isWorse Q d cN sN M 35 [some (.ref l0), o1, some (.int l2), o3, o4] [.int 1, .int l2, .ref l0, .int t0]) : Z g kX6_isWorse Q d cN sN M 32 [some (.ref l0), o1, some (.int l2), o3, o4] [.int t0] := by
  refine zi_aload_n dX6_isWorse_32 rfl zrf_r ?_
  refine zi_iload_n dX6_isWorse_33 rfl ?_
  refine zi_iconst dX6_isWorse_34 (by decide +kernel : Int32.ofInt (1) = (1 : Int32)) ?_
  exact kk
theorem sX6_isWorse_38 {g : ZG} {Q : ZQ} {d cN sN : Nat} {M : ZM} {t0 : Int32} {t1 : Int32} {o0 o1 o2 o3 o4 : Option Value}  (kt : 0 < (t0 - t1 : Int32) → Z g kX6_isWorse Q d cN sN M 56 [o0, o1, o2, o3, some (.int (t0 - t1))] []) (kf : ¬ 0 < (t0 - t1 : Int32) → Z g kX6_isWorse Q d cN sN M 46 [o0, o1, o2, o3, some (.int (t0 - t1))] []) : Z g kX6_isWorse Q d cN sN M 38 [o0, o1, o2, o3, o4] [.int t1, .int t0] := by
  refine zi_isub dX6_isWorse_38 ?_
  refine zi_istore dX6_isWorse_39 (Nat.le_of_ble_eq_true rfl) ?_
  refine zi_iload dX6_isWorse_41 rfl ?_
  exact zi_if_gt (tgt := 56) dX6_isWorse_43 (by decide +kernel) kt kf
theorem sX6_isWorse_46 {g : ZG} {Q : ZQ} {d cN sN : Nat} {M : ZM} {l4 : Int32} {o0 o1 o2 o3 : Option Value}  (kt : ¬ (l4 : Int32) = 0 → Z g kX6_isWorse Q d cN sN M 60 [o0, o1, o2, o3, some (.int l4)] []) (kf : (l4 : Int32) = 0 → Z g kX6_isWorse Q d cN sN M 51 [o0, o1, o2, o3, some (.int l4)] []) : Z g kX6_isWorse Q d cN sN M 46 [o0, o1, o2, o3, some (.int l4)] [] := by
  refine zi_iload dX6_isWorse_46 rfl ?_
  exact zi_if_ne (tgt := 60) dX6_isWorse_48 (by decide +kernel) kt kf
theorem sX6_isWorse_51 {g : ZG} {Q : ZQ} {d cN sN : Nat} {M : ZM} {l1 : Int32} {l2 : Int32} {o0 o3 o4 : Option Value}  (kt : (l2 : Int32) ≤ (l1 : Int32) → Z g kX6_isWorse Q d cN sN M 60 [o0, some (.int l1), some (.int l2), o3, o4] []) (kf : ¬ (l2 : Int32) ≤ (l1 : Int32) → Z g kX6_isWorse Q d cN sN M 56 [o0, some (.int l1), some (.int l2), o3, o4] []) : Z g kX6_isWorse Q d cN sN M 51 [o0, some (.int l1), some (.int l2), o3, o4] [] := by
  refine zi_iload_n dX6_isWorse_51 rfl ?_
  refine zi_iload_n dX6_isWorse_52 rfl ?_
  exact zi_icmp_ge (tgt := 60) dX6_isWorse_53 (by decide +kernel) kt kf
theorem sX6_isWorse_56 {g : ZG} {Q : ZQ} {d cN sN : Nat} {M : ZM} {o0 o1 o2 o3 o4 : Option Value}  (kk : Z g kX6_isWorse Q d cN sN M 61 [o0, o1, o2, o3, o4] [.int 1]) : Z g kX6_isWorse Q d cN sN M 56 [o0, o1, o2, o3, o4] [] := by
  refine zi_iconst dX6_isWorse_56 (by decide +kernel : Int32.ofInt (1) = (1 : Int32)) ?_
  exact zi_goto (tgt := 61) dX6_isWorse_57 (by decide +kernel) kk
theorem sX6_isWorse_60 {g : ZG} {Q : ZQ} {d cN sN : Nat} {M : ZM} {o0 o1 o2 o3 o4 : Option Value}  (kk : Z g kX6_isWorse Q d cN sN M 61 [o0, o1, o2, o3, o4] [.int 0]) : Z g kX6_isWorse Q d cN sN M 60 [o0, o1, o2, o3, o4] [] := by
  refine zi_iconst dX6_isWorse_60 (by decide +kernel : Int32.ofInt (0) = (0 : Int32)) ?_
  exact kk
theorem sX6_isWorse_61 {g : ZG} {Q : ZQ} {d cN sN : Nat} {M : ZM} {t0 : Int32} {o0 o1 o2 o3 o4 : Option Value} (h1 : t0 = 0 ∨ t0 = 1) (kk : Q.1 (some (.int t0)) M) : Z g kX6_isWorse Q d cN sN M 61 [o0, o1, o2, o3, o4] [.int t0] := by
  exact zi_ireturn dX6_isWorse_61 rfl (znar_z h1) kk
abbrev kX6_line : ZK := (RX6, cX6_line, 4, (Option.some Jvm.ClassFile.FieldType.int), [], false, fX6)
abbrev tX6_line (g : ZG) (args : List Value) (M : ZM) (d c s : Nat) (Q : ZQ) : Prop := Ct g yX6_line (ws_ yX6_line cX6_line 4 (Option.some Jvm.ClassFile.FieldType.int)) args M d c s Q
abbrev nX6_line : Nat := 3
theorem mX6_line : zMok yX6_line 1 4 := ⟨⟨by decide +kernel, by decide +kernel, by decide +kernel⟩, by decide⟩
theorem eX6_line {g : ZG} {Q : ZQ} {d cN sN : Nat} {M : ZM} {a0 : Nat} {x1 : Int32} (hV : zV g) (h : Z g kX6_line Q d cN sN M 0 [some (.ref a0), some (.int x1), none, none] []) : tX6_line g [.ref a0, .int x1] M d cN sN Q := Ct.of (K := kX6_line) rfl (by decide +kernel) hV fokX6 rfl (fun h => by cases h) (fun v hv => by simp only [List.mem_cons, List.not_mem_nil, or_false] at hv; rcases hv with rfl | rfl <;> first | rfl | assumption) (Nat.le_of_ble_eq_true rfl) h
theorem sX6_line_0 {g : ZG} {Q : ZQ} {d cN sN : Nat} {M : ZM} {l0 : Nat} {l1 : Int32} {o2 o3 : Option Value}  (kk : Z g kX6_line Q d cN sN M 3 [some (.ref l0), some (.int l1), o2, o3] [.int l1, .ref l0, .ref l0]) : Z g kX6_line Q d cN sN M 0 [some (.ref l0), some (.int l1), o2, o3] [] := by
  refine zi_aload_n dX6_line_0 rfl zrf_r ?_
  refine zi_aload_n dX6_line_1 rfl zrf_r ?_
  refine zi_iload_n dX6_line_2 rfl ?_
  exact kk
theorem sX6_line_6 {g : ZG} {Q : ZQ} {d cN sN : Nat} {M : ZM} {t0 : Nat} {t1 : Int32} {o0 o1 o2 o3 : Option Value}  (kt : (t1 : Int32) = 0 → Z g kX6_line Q d cN sN M 13 [o0, o1, o2, o3] [.ref t0]) (kf : ¬ (t1 : Int32) = 0 → Z g kX6_line Q d cN sN M 9 [o0, o1, o2, o3] [.ref t0]) : Z g kX6_line Q d cN sN M 6 [o0, o1, o2, o3] [.int t1, .ref t0] := by
  exact zi_if_eq (tgt := 13) dX6_line_6 (by decide +kernel) kt kf
theorem sX6_line_9 {g : ZG} {Q : ZQ} {d cN sN : Nat} {M : ZM} {t0 : Nat} {o0 o1 o2 o3 : Option Value}  (kk : Z g kX6_line Q d cN sN M 14 [o0, o1, o2, o3] [.int 0, .ref t0]) : Z g kX6_line Q d cN sN M 9 [o0, o1, o2, o3] [.ref t0] := by
  refine zi_iconst dX6_line_9 (by decide +kernel : Int32.ofInt (0) = (0 : Int32)) ?_
  exact zi_goto (tgt := 14) dX6_line_10 (by decide +kernel) kk
theorem sX6_line_13 {g : ZG} {Q : ZQ} {d cN sN : Nat} {M : ZM} {t0 : Nat} {o0 o1 o2 o3 : Option Value}  (kk : Z g kX6_line Q d cN sN M 14 [o0, o1, o2, o3] [.int 1, .ref t0]) : Z g kX6_line Q d cN sN M 13 [o0, o1, o2, o3] [.ref t0] := by
  refine zi_iconst dX6_line_13 (by decide +kernel : Int32.ofInt (1) = (1 : Int32)) ?_
  exact kk
theorem sX6_line_17 {g : ZG} {Q : ZQ} {d cN sN : Nat} {M : ZM} {t0 : Int32} {o0 o1 o2 o3 : Option Value}  (kt : (t0 : Int32) = 0 → Z g kX6_line Q d cN sN M 22 [o0, o1, o2, o3] []) (kf : ¬ (t0 : Int32) = 0 → Z g kX6_line Q d cN sN M 20 [o0, o1, o2, o3] []) : Z g kX6_line Q d cN sN M 17 [o0, o1, o2, o3] [.int t0] := by
  exact zi_if_eq (tgt := 22) dX6_line_17 (by decide +kernel) kt kf
theorem sX6_line_20 {g : ZG} {Q : ZQ} {d cN sN : Nat} {M : ZM} {o0 o1 o2 o3 : Option Value}  (kk : Q.1 (some (.int 0)) M) : Z g kX6_line Q d cN sN M 20 [o0, o1, o2, o3] [] := by
  refine zi_iconst dX6_line_20 (by decide +kernel : Int32.ofInt (0) = (0 : Int32)) ?_
  exact zi_ireturn dX6_line_21 rfl rfl kk
theorem sX6_line_22 {g : ZG} {Q : ZQ} {d cN sN : Nat} {M : ZM} {l0 : Nat} {fs1 : List Value} {l1 : Int32} {o2 o3 : Option Value} (h2 : M.1 l0 = some (.inr (5, fs1))) (h3 : 17 < (fs1).length) (kk : Z g kX6_line Q d cN sN (zup M l0 (.inr (5, (fs1).set 17 (.int 0)))) 31 [some (.ref l0), some (.int l1), o2, o3] [.int 0, .int l1, .ref l0, .ref l0]) : Z g kX6_line Q d cN sN M 22 [some (.ref l0), some (.int l1), o2, o3] [] := by
  refine zi_aload_n dX6_line_22 rfl zrf_r ?_
  refine zi_iconst dX6_line_23 (by decide +kernel : Int32.ofInt (0) = (0 : Int32)) ?_
  refine zi_putfield dX6_line_24 rfl h2 h3 zfit_i (Or.inl rfl) ?_
  refine zi_aload_n dX6_line_27 rfl zrf_r ?_
  refine zi_aload_n dX6_line_28 rfl zrf_r ?_
  refine zi_iload_n dX6_line_29 rfl ?_
  refine zi_iconst dX6_line_30 (by decide +kernel : Int32.ofInt (0) = (0 : Int32)) ?_
  exact kk
theorem sX6_line_37 {g : ZG} {Q : ZQ} {d cN sN : Nat} {M : ZM} {l0 : Nat} {o1 o2 o3 : Option Value}  (kk : Z g kX6_line Q d cN sN M 40 [some (.ref l0), o1, o2, o3] [.int 58, .ref l0]) : Z g kX6_line Q d cN sN M 37 [some (.ref l0), o1, o2, o3] [] := by
  refine zi_aload_n dX6_line_37 rfl zrf_r ?_
  refine zi_bipush dX6_line_38 (by decide +kernel : (Int8.ofInt (58)).toInt32 = (58 : Int32)) ?_
  exact kk
theorem sX6_line_43 {g : ZG} {Q : ZQ} {d cN sN : Nat} {M : ZM} {o0 o1 o2 o3 : Option Value}  (kk : Z g kX6_line Q d cN sN M 45 [o0, o1, some (.int 0), o3] []) : Z g kX6_line Q d cN sN M 43 [o0, o1, o2, o3] [] := by
  refine zi_iconst dX6_line_43 (by decide +kernel : Int32.ofInt (0) = (0 : Int32)) ?_
  refine zi_istore_n dX6_line_44 (Nat.le_of_ble_eq_true rfl) ?_
  exact kk
theorem sX6_line_45 {g : ZG} {Q : ZQ} {d cN sN : Nat} {M : ZM} {l2 : Int32} {l0 : Nat} {l1 : Int32} {o3 : Option Value}  (kk : Z g kX6_line Q d cN sN M 49 [some (.ref l0), some (.int l1), some (.int l2), o3] [.int 1, .int l1, .ref l0, .int l2]) : Z g kX6_line Q d cN sN M 45 [some (.ref l0), some (.int l1), some (.int l2), o3] [] := by
  refine zi_iload_n dX6_line_45 rfl ?_
  refine zi_aload_n dX6_line_46 rfl zrf_r ?_
  refine zi_iload_n dX6_line_47 rfl ?_
  refine zi_iconst dX6_line_48 (by decide +kernel : Int32.ofInt (1) = (1 : Int32)) ?_
  exact kk
theorem sX6_line_52 {g : ZG} {Q : ZQ} {d cN sN : Nat} {M : ZM} {t0 : Int32} {t1 : Int32} {o0 o1 o2 o3 : Option Value}  (kt : (t1 : Int32) ≤ (t0 : Int32) → Z g kX6_line Q d cN sN M 116 [o0, o1, o2, o3] []) (kf : ¬ (t1 : Int32) ≤ (t0 : Int32) → Z g kX6_line Q d cN sN M 55 [o0, o1, o2, o3] []) : Z g kX6_line Q d cN sN M 52 [o0, o1, o2, o3] [.int t1, .int t0] := by
  exact zi_icmp_ge (tgt := 116) dX6_line_52 (by decide +kernel) kt kf
theorem sX6_line_55 {g : ZG} {Q : ZQ} {d cN sN : Nat} {M : ZM} {l0 : Nat} {l1 : Int32} {l2 : Int32} {o3 : Option Value}  (kk : Z g kX6_line Q d cN sN M 58 [some (.ref l0), some (.int l1), some (.int l2), o3] [.int l2, .int l1, .ref l0]) : Z g kX6_line Q d cN sN M 55 [some (.ref l0), some (.int l1), some (.int l2), o3] [] := by
  refine zi_aload_n dX6_line_55 rfl zrf_r ?_
  refine zi_iload_n dX6_line_56 rfl ?_
  refine zi_iload_n dX6_line_57 rfl ?_
  exact kk
theorem sX6_line_61 {g : ZG} {Q : ZQ} {d cN sN : Nat} {M : ZM} {t0 : Int32} {l0 : Nat} {o1 o2 o3 : Option Value}  (kt : ¬ (t0 : Int32) = 0 → Z g kX6_line Q d cN sN M 72 [some (.ref l0), o1, o2, some (.int t0)] [.ref l0]) (kf : (t0 : Int32) = 0 → Z g kX6_line Q d cN sN M 67 [some (.ref l0), o1, o2, some (.int t0)] [.ref l0]) : Z g kX6_line Q d cN sN M 61 [some (.ref l0), o1, o2, o3] [.int t0] := by
  refine zi_istore_n dX6_line_61 (Nat.le_of_ble_eq_true rfl) ?_
  refine zi_aload_n dX6_line_62 rfl zrf_r ?_
  refine zi_iload_n dX6_line_63 rfl ?_
  exact zi_if_ne (tgt := 72) dX6_line_64 (by decide +kernel) kt kf
theorem sX6_line_67 {g : ZG} {Q : ZQ} {d cN sN : Nat} {M : ZM} {t0 : Nat} {o0 o1 o2 o3 : Option Value}  (kk : Z g kX6_line Q d cN sN M 74 [o0, o1, o2, o3] [.int 97, .ref t0]) : Z g kX6_line Q d cN sN M 67 [o0, o1, o2, o3] [.ref t0] := by
  refine zi_bipush dX6_line_67 (by decide +kernel : (Int8.ofInt (97)).toInt32 = (97 : Int32)) ?_
  exact zi_goto (tgt := 74) dX6_line_69 (by decide +kernel) kk
theorem sX6_line_72 {g : ZG} {Q : ZQ} {d cN sN : Nat} {M : ZM} {t0 : Nat} {o0 o1 o2 o3 : Option Value}  (kk : Z g kX6_line Q d cN sN M 74 [o0, o1, o2, o3] [.int 65, .ref t0]) : Z g kX6_line Q d cN sN M 72 [o0, o1, o2, o3] [.ref t0] := by
  refine zi_bipush dX6_line_72 (by decide +kernel : (Int8.ofInt (65)).toInt32 = (65 : Int32)) ?_
  exact kk
theorem sX6_line_74 {g : ZG} {Q : ZQ} {d cN sN : Nat} {M : ZM} {t0 : Nat} {t1 : Int32} {l0 : Nat} {l1 : Int32} {l2 : Int32} {o3 : Option Value}  (kk : Z g kX6_line Q d cN sN M 82 [some (.ref l0), some (.int l1), some (.int l2), o3] [.int (10 + l2), .int l1, .ref l0, .int (t1 - 1), .ref t0]) : Z g kX6_line Q d cN sN M 74 [some (.ref l0), some (.int l1), some (.int l2), o3] [.int t1, .ref t0] := by
  refine zi_iconst dX6_line_74 (by decide +kernel : Int32.ofInt (1) = (1 : Int32)) ?_
  refine zi_isub dX6_line_75 ?_
  refine zi_aload_n dX6_line_76 rfl zrf_r ?_
  refine zi_iload_n dX6_line_77 rfl ?_
  refine zi_bipush dX6_line_78 (by decide +kernel : (Int8.ofInt (10)).toInt32 = (10 : Int32)) ?_
  refine zi_iload_n dX6_line_80 rfl ?_
  refine zi_iadd dX6_line_81 ?_
  exact kk
theorem sX6_line_85 {g : ZG} {Q : ZQ} {d cN sN : Nat} {M : ZM} {t0 : Nat} {t1 : Int32} {t2 : Int32} {o0 o1 o2 o3 : Option Value}  (kk : Z g kX6_line Q d cN sN M 86 [o0, o1, o2, o3] [.int (t1 + t2), .ref t0]) : Z g kX6_line Q d cN sN M 85 [o0, o1, o2, o3] [.int t2, .int t1, .ref t0] := by
  refine zi_iadd dX6_line_85 ?_
  exact kk
theorem sX6_line_89 {g : ZG} {Q : ZQ} {d cN sN : Nat} {M : ZM} {l3 : Int32} {o0 o1 o2 : Option Value}  (kt : (l3 : Int32) ≤ (1 : Int32) → Z g kX6_line Q d cN sN M 110 [o0, o1, o2, some (.int l3)] []) (kf : ¬ (l3 : Int32) ≤ (1 : Int32) → Z g kX6_line Q d cN sN M 94 [o0, o1, o2, some (.int l3)] []) : Z g kX6_line Q d cN sN M 89 [o0, o1, o2, some (.int l3)] [] := by
  refine zi_iload_n dX6_line_89 rfl ?_
  refine zi_iconst dX6_line_90 (by decide +kernel : Int32.ofInt (1) = (1 : Int32)) ?_
  exact zi_icmp_le (tgt := 110) dX6_line_91 (by decide +kernel) kt kf
theorem sX6_line_94 {g : ZG} {Q : ZQ} {d cN sN : Nat} {M : ZM} {l0 : Nat} {l3 : Int32} {o1 o2 : Option Value}  (kt : ¬ (l3 : Int32) = (2 : Int32) → Z g kX6_line Q d cN sN M 105 [some (.ref l0), o1, o2, some (.int l3)] [.ref l0]) (kf : (l3 : Int32) = (2 : Int32) → Z g kX6_line Q d cN sN M 100 [some (.ref l0), o1, o2, some (.int l3)] [.ref l0]) : Z g kX6_line Q d cN sN M 94 [some (.ref l0), o1, o2, some (.int l3)] [] := by
  refine zi_aload_n dX6_line_94 rfl zrf_r ?_
  refine zi_iload_n dX6_line_95 rfl ?_
  refine zi_iconst dX6_line_96 (by decide +kernel : Int32.ofInt (2) = (2 : Int32)) ?_
  exact zi_icmp_ne (tgt := 105) dX6_line_97 (by decide +kernel) kt kf
theorem sX6_line_100 {g : ZG} {Q : ZQ} {d cN sN : Nat} {M : ZM} {t0 : Nat} {o0 o1 o2 o3 : Option Value}  (kk : Z g kX6_line Q d cN sN M 107 [o0, o1, o2, o3] [.int 39, .ref t0]) : Z g kX6_line Q d cN sN M 100 [o0, o1, o2, o3] [.ref t0] := by
  refine zi_bipush dX6_line_100 (by decide +kernel : (Int8.ofInt (39)).toInt32 = (39 : Int32)) ?_
  exact zi_goto (tgt := 107) dX6_line_102 (by decide +kernel) kk
theorem sX6_line_105 {g : ZG} {Q : ZQ} {d cN sN : Nat} {M : ZM} {t0 : Nat} {o0 o1 o2 o3 : Option Value}  (kk : Z g kX6_line Q d cN sN M 107 [o0, o1, o2, o3] [.int 33, .ref t0]) : Z g kX6_line Q d cN sN M 105 [o0, o1, o2, o3] [.ref t0] := by
  refine zi_bipush dX6_line_105 (by decide +kernel : (Int8.ofInt (33)).toInt32 = (33 : Int32)) ?_
  exact kk
theorem sX6_line_110 {g : ZG} {Q : ZQ} {d cN sN : Nat} {M : ZM} {l2 : Int32} {o0 o1 o3 : Option Value}  (kk : Z g kX6_line Q d cN sN M 45 [o0, o1, some (.int (l2 + 1)), o3] []) : Z g kX6_line Q d cN sN M 110 [o0, o1, some (.int l2), o3] [] := by
  refine zi_iinc dX6_line_110 rfl (by decide +kernel : Int32.ofInt (1) = 1) (Nat.le_of_ble_eq_true rfl) ?_
  exact zi_goto (tgt := 45) dX6_line_113 (by decide +kernel) kk
theorem sX6_line_116 {g : ZG} {Q : ZQ} {d cN sN : Nat} {M : ZM} {l0 : Nat} {fs1 : List Value} {y3 : Int32} {o1 o2 o3 : Option Value} (h2 : M.1 l0 = some (.inr (5, fs1))) (h4 : (fs1)[17]? = some (.int y3)) (kk : Q.1 (some (.int y3)) M) : Z g kX6_line Q d cN sN M 116 [some (.ref l0), o1, o2, o3] [] := by
  refine zi_aload_n dX6_line_116 rfl zrf_r ?_
  refine zi_getfield dX6_line_117 rfl h2 h4 ?_
  exact zi_ireturn dX6_line_120 rfl rfl kk
abbrev kX6_writesNumber : ZK := (RX6, cX6_writesNumber, 2, (Option.none : Option Jvm.ClassFile.FieldType), [], false, fX6)
abbrev tX6_writesNumber (g : ZG) (args : List Value) (M : ZM) (d c s : Nat) (Q : ZQ) : Prop := Ct g yX6_writesNumber (ws_ yX6_writesNumber cX6_writesNumber 2 (Option.none : Option Jvm.ClassFile.FieldType)) args M d c s Q
abbrev nX6_writesNumber : Nat := 2
theorem mX6_writesNumber : zMok yX6_writesNumber 1 2 := ⟨⟨by decide +kernel, by decide +kernel, by decide +kernel⟩, by decide⟩
theorem eX6_writesNumber {g : ZG} {Q : ZQ} {d cN sN : Nat} {M : ZM} {a0 : Nat} {x1 : Int32} (hV : zV g) (h : Z g kX6_writesNumber Q d cN sN M 0 [some (.ref a0), some (.int x1)] []) : tX6_writesNumber g [.ref a0, .int x1] M d cN sN Q := Ct.of (K := kX6_writesNumber) rfl (by decide +kernel) hV fokX6 rfl (fun h => by cases h) (fun v hv => by simp only [List.mem_cons, List.not_mem_nil, or_false] at hv; rcases hv with rfl | rfl <;> first | rfl | assumption) (Nat.le_of_ble_eq_true rfl) h
theorem sX6_writesNumber_0 {g : ZG} {Q : ZQ} {d cN sN : Nat} {M : ZM} {l1 : Int32} {o0 : Option Value}  (kt : (l1 : Int32) ≤ (9 : Int32) → Z g kX6_writesNumber Q d cN sN M 17 [o0, some (.int l1)] []) (kf : ¬ (l1 : Int32) ≤ (9 : Int32) → Z g kX6_writesNumber Q d cN sN M 6 [o0, some (.int l1)] []) : Z g kX6_writesNumber Q d cN sN M 0 [o0, some (.int l1)] [] := by
  refine zi_iload_n dX6_writesNumber_0 rfl ?_
  refine zi_bipush dX6_writesNumber_1 (by decide +kernel : (Int8.ofInt (9)).toInt32 = (9 : Int32)) ?_
  exact zi_icmp_le (tgt := 17) dX6_writesNumber_3 (by decide +kernel) kt kf
theorem sX6_writesNumber_6 {g : ZG} {Q : ZQ} {d cN sN : Nat} {M : ZM} {l0 : Nat} {l1 : Int32}  (kk : Z g kX6_writesNumber Q d cN sN M 14 [some (.ref l0), some (.int l1)] [.int (48 + (l1 / 10)), .ref l0]) : Z g kX6_writesNumber Q d cN sN M 6 [some (.ref l0), some (.int l1)] [] := by
  refine zi_aload_n dX6_writesNumber_6 rfl zrf_r ?_
  refine zi_bipush dX6_writesNumber_7 (by decide +kernel : (Int8.ofInt (48)).toInt32 = (48 : Int32)) ?_
  refine zi_iload_n dX6_writesNumber_9 rfl ?_
  refine zi_bipush dX6_writesNumber_10 (by decide +kernel : (Int8.ofInt (10)).toInt32 = (10 : Int32)) ?_
  refine zi_idiv dX6_writesNumber_12 (by decide +kernel) ?_
  refine zi_iadd dX6_writesNumber_13 ?_
  exact kk
theorem sX6_writesNumber_17 {g : ZG} {Q : ZQ} {d cN sN : Nat} {M : ZM} {l0 : Nat} {l1 : Int32}  (kk : Z g kX6_writesNumber Q d cN sN M 25 [some (.ref l0), some (.int l1)] [.int (48 + (l1 - l1 / 10 * 10)), .ref l0]) : Z g kX6_writesNumber Q d cN sN M 17 [some (.ref l0), some (.int l1)] [] := by
  refine zi_aload_n dX6_writesNumber_17 rfl zrf_r ?_
  refine zi_bipush dX6_writesNumber_18 (by decide +kernel : (Int8.ofInt (48)).toInt32 = (48 : Int32)) ?_
  refine zi_iload_n dX6_writesNumber_20 rfl ?_
  refine zi_bipush dX6_writesNumber_21 (by decide +kernel : (Int8.ofInt (10)).toInt32 = (10 : Int32)) ?_
  refine zi_irem dX6_writesNumber_23 (by decide +kernel) ?_
  refine zi_iadd dX6_writesNumber_24 ?_
  exact kk
theorem sX6_writesNumber_28 {g : ZG} {Q : ZQ} {d cN sN : Nat} {M : ZM} {o0 o1 : Option Value}  (kk : Q.1 none M) : Z g kX6_writesNumber Q d cN sN M 28 [o0, o1] [] := by
  exact zi_return dX6_writesNumber_28 rfl kk
abbrev kX6_writes : ZK := (RX6, cX6_writes, 2, (Option.none : Option Jvm.ClassFile.FieldType), [], false, fX6)
abbrev tX6_writes (g : ZG) (args : List Value) (M : ZM) (d c s : Nat) (Q : ZQ) : Prop := Ct g yX6_writes (ws_ yX6_writes cX6_writes 2 (Option.none : Option Jvm.ClassFile.FieldType)) args M d c s Q
abbrev nX6_writes : Nat := 1
theorem mX6_writes : zMok yX6_writes 1 2 := ⟨⟨by decide +kernel, by decide +kernel, by decide +kernel⟩, by decide⟩
theorem eX6_writes {g : ZG} {Q : ZQ} {d cN sN : Nat} {M : ZM} {a0 : Nat} {x1 : Int32} (hV : zV g) (h : Z g kX6_writes Q d cN sN M 0 [some (.ref a0), some (.int x1)] []) : tX6_writes g [.ref a0, .int x1] M d cN sN Q := Ct.of (K := kX6_writes) rfl (by decide +kernel) hV fokX6 rfl (fun h => by cases h) (fun v hv => by simp only [List.mem_cons, List.not_mem_nil, or_false] at hv; rcases hv with rfl | rfl <;> first | rfl | assumption) (Nat.le_of_ble_eq_true rfl) h
theorem sX6_writes_0 {g : ZG} {Q : ZQ} {d cN sN : Nat} {M : ZM} {l0 : Nat} {fs1 : List Value} {r3 : Nat} {y5 : Int32} {l1 : Int32} {n7 : Nat} {f8 : Nat → Int32} {fs11 : List Value} {y13 : Int32} (h2 : M.1 l0 = some (.inr (5, fs1))) (h4 : (fs1)[16]? = some (.ref r3)) (h6 : (fs1)[17]? = some (.int y5)) (h9 : M.1 r3 = some (.inl (zA g 3, n7, .inl (f8)))) (h10 : vp_in (y5) n7) (h12 : (zup M r3 (.inl (zA g 3, n7, .inl (upd f8 ((y5 : Int32).toNatClampNeg) (vp_nar .char (((l1 : Int32).toUInt32 % 65536).toInt32)))))).1 l0 = some (.inr (5, fs11))) (h14 : (fs11)[17]? = some (.int y13)) (h15 : 17 < (fs11).length) (kk : Q.1 none (zup (zup M r3 (.inl (zA g 3, n7, .inl (upd f8 ((y5 : Int32).toNatClampNeg) (vp_nar .char (((l1 : Int32).toUInt32 % 65536).toInt32)))))) l0 (.inr (5, (fs11).set 17 (.int (y13 + 1)))))) : Z g kX6_writes Q d cN sN M 0 [some (.ref l0), some (.int l1)] [] := by
  refine zi_aload_n dX6_writes_0 rfl zrf_r ?_
  refine zi_getfield dX6_writes_1 rfl h2 h4 ?_
  refine zi_aload_n dX6_writes_4 rfl zrf_r ?_
  refine zi_getfield dX6_writes_5 rfl h2 h6 ?_
  refine zi_iload_n dX6_writes_8 rfl ?_
  refine zi_i2c dX6_writes_9 ?_
  refine zi_castore dX6_writes_10 h9 h10 ?_
  refine zi_aload_n dX6_writes_11 rfl zrf_r ?_
  refine zi_dup dX6_writes_12 rfl ?_
  refine zi_getfield dX6_writes_13 rfl h12 h14 ?_
  refine zi_iconst dX6_writes_16 (by decide +kernel : Int32.ofInt (1) = (1 : Int32)) ?_
  refine zi_iadd dX6_writes_17 ?_
  refine zi_putfield dX6_writes_18 rfl h12 h15 zfit_i (Or.inl rfl) ?_
  exact zi_return dX6_writes_21 rfl kk
abbrev kX6_houseLine : ZK := (RX6, cX6_houseLine, 2, (Option.some Jvm.ClassFile.FieldType.int), [], false, fX6)
abbrev tX6_houseLine (g : ZG) (args : List Value) (M : ZM) (d c s : Nat) (Q : ZQ) : Prop := Ct g yX6_houseLine (ws_ yX6_houseLine cX6_houseLine 2 (Option.some Jvm.ClassFile.FieldType.int)) args M d c s Q
abbrev nX6_houseLine : Nat := 3
theorem mX6_houseLine : zMok yX6_houseLine 1 2 := ⟨⟨by decide +kernel, by decide +kernel, by decide +kernel⟩, by decide⟩
theorem eX6_houseLine {g : ZG} {Q : ZQ} {d cN sN : Nat} {M : ZM} {a0 : Nat} {x1 : Int32} (hV : zV g) (h : Z g kX6_houseLine Q d cN sN M 0 [some (.ref a0), some (.int x1)] []) : tX6_houseLine g [.ref a0, .int x1] M d cN sN Q := Ct.of (K := kX6_houseLine) rfl (by decide +kernel) hV fokX6 rfl (fun h => by cases h) (fun v hv => by simp only [List.mem_cons, List.not_mem_nil, or_false] at hv; rcases hv with rfl | rfl <;> first | rfl | assumption) (Nat.le_of_ble_eq_true rfl) h
theorem sX6_houseLine_0 {g : ZG} {Q : ZQ} {d cN sN : Nat} {M : ZM} {l0 : Nat} {l1 : Int32}  (kk : Z g kX6_houseLine Q d cN sN M 3 [some (.ref l0), some (.int l1)] [.int l1, .ref l0, .ref l0]) : Z g kX6_houseLine Q d cN sN M 0 [some (.ref l0), some (.int l1)] [] := by
  refine zi_aload_n dX6_houseLine_0 rfl zrf_r ?_
  refine zi_aload_n dX6_houseLine_1 rfl zrf_r ?_
  refine zi_iload_n dX6_houseLine_2 rfl ?_
  exact kk
theorem sX6_houseLine_6 {g : ZG} {Q : ZQ} {d cN sN : Nat} {M : ZM} {t0 : Nat} {t1 : Int32} {o0 o1 : Option Value}  (kt : (t1 : Int32) = 0 → Z g kX6_houseLine Q d cN sN M 13 [o0, o1] [.ref t0]) (kf : ¬ (t1 : Int32) = 0 → Z g kX6_houseLine Q d cN sN M 9 [o0, o1] [.ref t0]) : Z g kX6_houseLine Q d cN sN M 6 [o0, o1] [.int t1, .ref t0] := by
  exact zi_if_eq (tgt := 13) dX6_houseLine_6 (by decide +kernel) kt kf
theorem sX6_houseLine_9 {g : ZG} {Q : ZQ} {d cN sN : Nat} {M : ZM} {t0 : Nat} {o0 o1 : Option Value}  (kk : Z g kX6_houseLine Q d cN sN M 14 [o0, o1] [.int 0, .ref t0]) : Z g kX6_houseLine Q d cN sN M 9 [o0, o1] [.ref t0] := by
  refine zi_iconst dX6_houseLine_9 (by decide +kernel : Int32.ofInt (0) = (0 : Int32)) ?_
  exact zi_goto (tgt := 14) dX6_houseLine_10 (by decide +kernel) kk
theorem sX6_houseLine_13 {g : ZG} {Q : ZQ} {d cN sN : Nat} {M : ZM} {t0 : Nat} {o0 o1 : Option Value}  (kk : Z g kX6_houseLine Q d cN sN M 14 [o0, o1] [.int 1, .ref t0]) : Z g kX6_houseLine Q d cN sN M 13 [o0, o1] [.ref t0] := by
  refine zi_iconst dX6_houseLine_13 (by decide +kernel : Int32.ofInt (1) = (1 : Int32)) ?_
  exact kk
theorem sX6_houseLine_17 {g : ZG} {Q : ZQ} {d cN sN : Nat} {M : ZM} {t0 : Int32} {o0 o1 : Option Value}  (kt : (t0 : Int32) = 0 → Z g kX6_houseLine Q d cN sN M 22 [o0, o1] []) (kf : ¬ (t0 : Int32) = 0 → Z g kX6_houseLine Q d cN sN M 20 [o0, o1] []) : Z g kX6_houseLine Q d cN sN M 17 [o0, o1] [.int t0] := by
  exact zi_if_eq (tgt := 22) dX6_houseLine_17 (by decide +kernel) kt kf
theorem sX6_houseLine_20 {g : ZG} {Q : ZQ} {d cN sN : Nat} {M : ZM} {o0 o1 : Option Value}  (kk : Q.1 (some (.int 0)) M) : Z g kX6_houseLine Q d cN sN M 20 [o0, o1] [] := by
  refine zi_iconst dX6_houseLine_20 (by decide +kernel : Int32.ofInt (0) = (0 : Int32)) ?_
  exact zi_ireturn dX6_houseLine_21 rfl rfl kk
theorem sX6_houseLine_22 {g : ZG} {Q : ZQ} {d cN sN : Nat} {M : ZM} {l0 : Nat} {fs1 : List Value} {l1 : Int32} (h2 : M.1 l0 = some (.inr (5, fs1))) (h3 : 17 < (fs1).length) (kk : Z g kX6_houseLine Q d cN sN (zup M l0 (.inr (5, (fs1).set 17 (.int 0)))) 29 [some (.ref l0), some (.int l1)] [.int l1, .ref l0]) : Z g kX6_houseLine Q d cN sN M 22 [some (.ref l0), some (.int l1)] [] := by
  refine zi_aload_n dX6_houseLine_22 rfl zrf_r ?_
  refine zi_iconst dX6_houseLine_23 (by decide +kernel : Int32.ofInt (0) = (0 : Int32)) ?_
  refine zi_putfield dX6_houseLine_24 rfl h2 h3 zfit_i (Or.inl rfl) ?_
  refine zi_aload_n dX6_houseLine_27 rfl zrf_r ?_
  refine zi_iload_n dX6_houseLine_28 rfl ?_
  exact kk
theorem sX6_houseLine_32 {g : ZG} {Q : ZQ} {d cN sN : Nat} {M : ZM} {l0 : Nat} {o1 : Option Value}  (kk : Z g kX6_houseLine Q d cN sN M 35 [some (.ref l0), o1] [.int 36, .ref l0]) : Z g kX6_houseLine Q d cN sN M 32 [some (.ref l0), o1] [] := by
  refine zi_aload_n dX6_houseLine_32 rfl zrf_r ?_
  refine zi_bipush dX6_houseLine_33 (by decide +kernel : (Int8.ofInt (36)).toInt32 = (36 : Int32)) ?_
  exact kk
theorem sX6_houseLine_38 {g : ZG} {Q : ZQ} {d cN sN : Nat} {M : ZM} {l0 : Nat} {l1 : Int32}  (kk : Z g kX6_houseLine Q d cN sN M 42 [some (.ref l0), some (.int l1)] [.int 0, .int l1, .ref l0, .ref l0]) : Z g kX6_houseLine Q d cN sN M 38 [some (.ref l0), some (.int l1)] [] := by
  refine zi_aload_n dX6_houseLine_38 rfl zrf_r ?_
  refine zi_aload_n dX6_houseLine_39 rfl zrf_r ?_
  refine zi_iload_n dX6_houseLine_40 rfl ?_
  refine zi_iconst dX6_houseLine_41 (by decide +kernel : Int32.ofInt (0) = (0 : Int32)) ?_
  exact kk
theorem sX6_houseLine_48 {g : ZG} {Q : ZQ} {d cN sN : Nat} {M : ZM} {l0 : Nat} {o1 : Option Value}  (kk : Z g kX6_houseLine Q d cN sN M 51 [some (.ref l0), o1] [.int 126, .ref l0]) : Z g kX6_houseLine Q d cN sN M 48 [some (.ref l0), o1] [] := by
  refine zi_aload_n dX6_houseLine_48 rfl zrf_r ?_
  refine zi_bipush dX6_houseLine_49 (by decide +kernel : (Int8.ofInt (126)).toInt32 = (126 : Int32)) ?_
  exact kk
theorem sX6_houseLine_54 {g : ZG} {Q : ZQ} {d cN sN : Nat} {M : ZM} {l0 : Nat} {l1 : Int32}  (kk : Z g kX6_houseLine Q d cN sN M 58 [some (.ref l0), some (.int l1)] [.int 1, .int l1, .ref l0, .ref l0]) : Z g kX6_houseLine Q d cN sN M 54 [some (.ref l0), some (.int l1)] [] := by
  refine zi_aload_n dX6_houseLine_54 rfl zrf_r ?_
  refine zi_aload_n dX6_houseLine_55 rfl zrf_r ?_
  refine zi_iload_n dX6_houseLine_56 rfl ?_
  refine zi_iconst dX6_houseLine_57 (by decide +kernel : Int32.ofInt (1) = (1 : Int32)) ?_
  exact kk
theorem sX6_houseLine_64 {g : ZG} {Q : ZQ} {d cN sN : Nat} {M : ZM} {l0 : Nat} {l1 : Int32}  (kk : Z g kX6_houseLine Q d cN sN M 66 [some (.ref l0), some (.int l1)] [.int l1, .ref l0]) : Z g kX6_houseLine Q d cN sN M 64 [some (.ref l0), some (.int l1)] [] := by
  refine zi_aload_n dX6_houseLine_64 rfl zrf_r ?_
  refine zi_iload_n dX6_houseLine_65 rfl ?_
  exact kk
theorem sX6_houseLine_69 {g : ZG} {Q : ZQ} {d cN sN : Nat} {M : ZM} {t0 : Int32} {o0 o1 : Option Value}  (kt : (t0 : Int32) = 0 → Z g kX6_houseLine Q d cN sN M 78 [o0, o1] []) (kf : ¬ (t0 : Int32) = 0 → Z g kX6_houseLine Q d cN sN M 72 [o0, o1] []) : Z g kX6_houseLine Q d cN sN M 69 [o0, o1] [.int t0] := by
  exact zi_if_eq (tgt := 78) dX6_houseLine_69 (by decide +kernel) kt kf
theorem sX6_houseLine_72 {g : ZG} {Q : ZQ} {d cN sN : Nat} {M : ZM} {l0 : Nat} {o1 : Option Value}  (kk : Z g kX6_houseLine Q d cN sN M 75 [some (.ref l0), o1] [.int 42, .ref l0]) : Z g kX6_houseLine Q d cN sN M 72 [some (.ref l0), o1] [] := by
  refine zi_aload_n dX6_houseLine_72 rfl zrf_r ?_
  refine zi_bipush dX6_houseLine_73 (by decide +kernel : (Int8.ofInt (42)).toInt32 = (42 : Int32)) ?_
  exact kk
theorem sX6_houseLine_78 {g : ZG} {Q : ZQ} {d cN sN : Nat} {M : ZM} {l0 : Nat} {fs1 : List Value} {y3 : Int32} {o1 : Option Value} (h2 : M.1 l0 = some (.inr (5, fs1))) (h4 : (fs1)[17]? = some (.int y3)) (kk : Q.1 (some (.int y3)) M) : Z g kX6_houseLine Q d cN sN M 78 [some (.ref l0), o1] [] := by
  refine zi_aload_n dX6_houseLine_78 rfl zrf_r ?_
  refine zi_getfield dX6_houseLine_79 rfl h2 h4 ?_
  exact zi_ireturn dX6_houseLine_82 rfl rfl kk
abbrev kX6_character : ZK := (RX6, cX6_character, 2, (Option.some Jvm.ClassFile.FieldType.char), [], false, fX6)
abbrev tX6_character (g : ZG) (args : List Value) (M : ZM) (d c s : Nat) (Q : ZQ) : Prop := Ct g yX6_character (ws_ yX6_character cX6_character 2 (Option.some Jvm.ClassFile.FieldType.char)) args M d c s Q
abbrev nX6_character : Nat := 2
theorem mX6_character : zMok yX6_character 1 2 := ⟨⟨by decide +kernel, by decide +kernel, by decide +kernel⟩, by decide⟩
theorem eX6_character {g : ZG} {Q : ZQ} {d cN sN : Nat} {M : ZM} {a0 : Nat} {x1 : Int32} (hV : zV g) (h : Z g kX6_character Q d cN sN M 0 [some (.ref a0), some (.int x1)] []) : tX6_character g [.ref a0, .int x1] M d cN sN Q := Ct.of (K := kX6_character) rfl (by decide +kernel) hV fokX6 rfl (fun h => by cases h) (fun v hv => by simp only [List.mem_cons, List.not_mem_nil, or_false] at hv; rcases hv with rfl | rfl <;> first | rfl | assumption) (Nat.le_of_ble_eq_true rfl) h
theorem sX6_character_0 {g : ZG} {Q : ZQ} {d cN sN : Nat} {M : ZM} {l0 : Nat} {l1 : Int32} {fs1 : List Value} {y3 : Int32} (h2 : M.1 l0 = some (.inr (5, fs1))) (h4 : (fs1)[17]? = some (.int y3)) (kk : Z g kX6_character Q d cN sN M 9 [some (.ref l0), some (.int l1)] [.int (y3 - 1), .int 0, .int l1, .ref l0]) : Z g kX6_character Q d cN sN M 0 [some (.ref l0), some (.int l1)] [] := by
  refine zi_aload_n dX6_character_0 rfl zrf_r ?_
  refine zi_iload_n dX6_character_1 rfl ?_
  refine zi_iconst dX6_character_2 (by decide +kernel : Int32.ofInt (0) = (0 : Int32)) ?_
  refine zi_aload_n dX6_character_3 rfl zrf_r ?_
  refine zi_getfield dX6_character_4 rfl h2 h4 ?_
  refine zi_iconst dX6_character_7 (by decide +kernel : Int32.ofInt (1) = (1 : Int32)) ?_
  refine zi_isub dX6_character_8 ?_
  exact kk
theorem sX6_character_12 {g : ZG} {Q : ZQ} {d cN sN : Nat} {M : ZM} {t0 : Nat} {t1 : Int32} {o0 o1 : Option Value}  (kt : (t1 : Int32) = 0 → Z g kX6_character Q d cN sN M 19 [o0, o1] [.ref t0]) (kf : ¬ (t1 : Int32) = 0 → Z g kX6_character Q d cN sN M 15 [o0, o1] [.ref t0]) : Z g kX6_character Q d cN sN M 12 [o0, o1] [.int t1, .ref t0] := by
  exact zi_if_eq (tgt := 19) dX6_character_12 (by decide +kernel) kt kf
theorem sX6_character_15 {g : ZG} {Q : ZQ} {d cN sN : Nat} {M : ZM} {t0 : Nat} {o0 o1 : Option Value}  (kk : Z g kX6_character Q d cN sN M 20 [o0, o1] [.int 0, .ref t0]) : Z g kX6_character Q d cN sN M 15 [o0, o1] [.ref t0] := by
  refine zi_iconst dX6_character_15 (by decide +kernel : Int32.ofInt (0) = (0 : Int32)) ?_
  exact zi_goto (tgt := 20) dX6_character_16 (by decide +kernel) kk
theorem sX6_character_19 {g : ZG} {Q : ZQ} {d cN sN : Nat} {M : ZM} {t0 : Nat} {o0 o1 : Option Value}  (kk : Z g kX6_character Q d cN sN M 20 [o0, o1] [.int 1, .ref t0]) : Z g kX6_character Q d cN sN M 19 [o0, o1] [.ref t0] := by
  refine zi_iconst dX6_character_19 (by decide +kernel : Int32.ofInt (1) = (1 : Int32)) ?_
  exact kk
theorem sX6_character_23 {g : ZG} {Q : ZQ} {d cN sN : Nat} {M : ZM} {t0 : Int32} {o0 o1 : Option Value}  (kt : (t0 : Int32) = 0 → Z g kX6_character Q d cN sN M 31 [o0, o1] []) (kf : ¬ (t0 : Int32) = 0 → Z g kX6_character Q d cN sN M 26 [o0, o1] []) : Z g kX6_character Q d cN sN M 23 [o0, o1] [.int t0] := by
  exact zi_if_eq (tgt := 31) dX6_character_23 (by decide +kernel) kt kf
theorem sX6_character_26 {g : ZG} {Q : ZQ} {d cN sN : Nat} {M : ZM} {o0 o1 : Option Value}  (kk : Z g kX6_character Q d cN sN M 37 [o0, o1] [.int 32]) : Z g kX6_character Q d cN sN M 26 [o0, o1] [] := by
  refine zi_bipush dX6_character_26 (by decide +kernel : (Int8.ofInt (32)).toInt32 = (32 : Int32)) ?_
  exact zi_goto (tgt := 37) dX6_character_28 (by decide +kernel) kk
theorem sX6_character_31 {g : ZG} {Q : ZQ} {d cN sN : Nat} {M : ZM} {l0 : Nat} {fs1 : List Value} {r3 : Nat} {l1 : Int32} {n5 : Nat} {f6 : Nat → Int32} (h2 : M.1 l0 = some (.inr (5, fs1))) (h4 : (fs1)[16]? = some (.ref r3)) (h7 : M.1 r3 = some (.inl (zA g 3, n5, .inl f6))) (h8 : vp_in (l1) n5) (kk : Z g kX6_character Q d cN sN M 37 [some (.ref l0), some (.int l1)] [.int (f6 ((l1 : Int32).toNatClampNeg))]) : Z g kX6_character Q d cN sN M 31 [some (.ref l0), some (.int l1)] [] := by
  refine zi_aload_n dX6_character_31 rfl zrf_r ?_
  refine zi_getfield dX6_character_32 rfl h2 h4 ?_
  refine zi_iload_n dX6_character_35 rfl ?_
  refine zi_caload dX6_character_36 h7 h8 ?_
  exact kk
theorem sX6_character_37 {g : ZG} {Q : ZQ} {d cN sN : Nat} {M : ZM} {t0 : Int32} {o0 o1 : Option Value} (h1 : narrow .char (.int (t0)) = .int (t0)) (kk : Q.1 (some (.int t0)) M) : Z g kX6_character Q d cN sN M 37 [o0, o1] [.int t0] := by
  exact zi_ireturn dX6_character_37 rfl h1 kk
abbrev kX6_append : ZK := (RX6, cX6_append, 2, (Option.some Jvm.ClassFile.FieldType.int), [], false, fX6)
abbrev tX6_append (g : ZG) (args : List Value) (M : ZM) (d c s : Nat) (Q : ZQ) : Prop := Ct g yX6_append (ws_ yX6_append cX6_append 2 (Option.some Jvm.ClassFile.FieldType.int)) args M d c s Q
abbrev nX6_append : Nat := 2
theorem mX6_append : zMok yX6_append 1 2 := ⟨⟨by decide +kernel, by decide +kernel, by decide +kernel⟩, by decide⟩
theorem eX6_append {g : ZG} {Q : ZQ} {d cN sN : Nat} {M : ZM} {a0 : Nat} {x1 : Int32} (hV : zV g) (h : Z g kX6_append Q d cN sN M 0 [some (.ref a0), some (.int x1)] []) : tX6_append g [.ref a0, .int x1] M d cN sN Q := Ct.of (K := kX6_append) rfl (by decide +kernel) hV fokX6 rfl (fun h => by cases h) (fun v hv => by simp only [List.mem_cons, List.not_mem_nil, or_false] at hv; rcases hv with rfl | rfl <;> first | rfl | assumption) (Nat.le_of_ble_eq_true rfl) h
theorem sX6_append_0 {g : ZG} {Q : ZQ} {d cN sN : Nat} {M : ZM} {l0 : Nat} {fs1 : List Value} {y3 : Int32} {o1 : Option Value} (h2 : M.1 l0 = some (.inr (5, fs1))) (h4 : (fs1)[14]? = some (.int y3)) (kt : ¬ (y3 : Int32) = (60 : Int32) → Z g kX6_append Q d cN sN M 14 [some (.ref l0), o1] [.ref l0]) (kf : (y3 : Int32) = (60 : Int32) → Z g kX6_append Q d cN sN M 10 [some (.ref l0), o1] [.ref l0]) : Z g kX6_append Q d cN sN M 0 [some (.ref l0), o1] [] := by
  refine zi_aload_n dX6_append_0 rfl zrf_r ?_
  refine zi_aload_n dX6_append_1 rfl zrf_r ?_
  refine zi_getfield dX6_append_2 rfl h2 h4 ?_
  refine zi_bipush dX6_append_5 (by decide +kernel : (Int8.ofInt (60)).toInt32 = (60 : Int32)) ?_
  exact zi_icmp_ne (tgt := 14) dX6_append_7 (by decide +kernel) kt kf
theorem sX6_append_10 {g : ZG} {Q : ZQ} {d cN sN : Nat} {M : ZM} {t0 : Nat} {o0 o1 : Option Value}  (kk : Z g kX6_append Q d cN sN M 15 [o0, o1] [.int 1, .ref t0]) : Z g kX6_append Q d cN sN M 10 [o0, o1] [.ref t0] := by
  refine zi_iconst dX6_append_10 (by decide +kernel : Int32.ofInt (1) = (1 : Int32)) ?_
  exact zi_goto (tgt := 15) dX6_append_11 (by decide +kernel) kk
theorem sX6_append_14 {g : ZG} {Q : ZQ} {d cN sN : Nat} {M : ZM} {t0 : Nat} {o0 o1 : Option Value}  (kk : Z g kX6_append Q d cN sN M 15 [o0, o1] [.int 0, .ref t0]) : Z g kX6_append Q d cN sN M 14 [o0, o1] [.ref t0] := by
  refine zi_iconst dX6_append_14 (by decide +kernel : Int32.ofInt (0) = (0 : Int32)) ?_
  exact kk
theorem sX6_append_18 {g : ZG} {Q : ZQ} {d cN sN : Nat} {M : ZM} {t0 : Int32} {o0 o1 : Option Value}  (kt : (t0 : Int32) = 0 → Z g kX6_append Q d cN sN M 23 [o0, o1] []) (kf : ¬ (t0 : Int32) = 0 → Z g kX6_append Q d cN sN M 21 [o0, o1] []) : Z g kX6_append Q d cN sN M 18 [o0, o1] [.int t0] := by
  exact zi_if_eq (tgt := 23) dX6_append_18 (by decide +kernel) kt kf
theorem sX6_append_21 {g : ZG} {Q : ZQ} {d cN sN : Nat} {M : ZM} {o0 o1 : Option Value}  (kk : Q.1 (some (.int 0)) M) : Z g kX6_append Q d cN sN M 21 [o0, o1] [] := by
  refine zi_iconst dX6_append_21 (by decide +kernel : Int32.ofInt (0) = (0 : Int32)) ?_
  exact zi_ireturn dX6_append_22 rfl rfl kk
theorem sX6_append_23 {g : ZG} {Q : ZQ} {d cN sN : Nat} {M : ZM} {l0 : Nat} {fs1 : List Value} {r3 : Nat} {y5 : Int32} {l1 : Int32} {n7 : Nat} {f8 : Nat → Int32} {fs11 : List Value} {y13 : Int32} {y16 : Int32} (h2 : M.1 l0 = some (.inr (5, fs1))) (h4 : (fs1)[13]? = some (.ref r3)) (h6 : (fs1)[14]? = some (.int y5)) (h9 : M.1 r3 = some (.inl (zA g 0, n7, .inl (f8)))) (h10 : vp_in (y5) n7) (h12 : (zup M r3 (.inl (zA g 0, n7, .inl (upd f8 ((y5 : Int32).toNatClampNeg) (l1))))).1 l0 = some (.inr (5, fs11))) (h14 : (fs11)[14]? = some (.int y13)) (h15 : 14 < (fs11).length) (h17 : (((fs11).set 14 (.int (y13 + 1))))[14]? = some (.int y16)) (kk : Q.1 (some (.int y16)) (zup (zup M r3 (.inl (zA g 0, n7, .inl (upd f8 ((y5 : Int32).toNatClampNeg) (l1))))) l0 (.inr (5, (fs11).set 14 (.int (y13 + 1)))))) : Z g kX6_append Q d cN sN M 23 [some (.ref l0), some (.int l1)] [] := by
  refine zi_aload_n dX6_append_23 rfl zrf_r ?_
  refine zi_getfield dX6_append_24 rfl h2 h4 ?_
  refine zi_aload_n dX6_append_27 rfl zrf_r ?_
  refine zi_getfield dX6_append_28 rfl h2 h6 ?_
  refine zi_iload_n dX6_append_31 rfl ?_
  refine zi_iastore dX6_append_32 h9 h10 ?_
  refine zi_aload_n dX6_append_33 rfl zrf_r ?_
  refine zi_dup dX6_append_34 rfl ?_
  refine zi_getfield dX6_append_35 rfl h12 h14 ?_
  refine zi_iconst dX6_append_38 (by decide +kernel : Int32.ofInt (1) = (1 : Int32)) ?_
  refine zi_iadd dX6_append_39 ?_
  refine zi_putfield dX6_append_40 rfl h12 h15 zfit_i (Or.inl rfl) ?_
  refine zi_aload_n dX6_append_43 rfl zrf_r ?_
  refine zi_getfield dX6_append_44 rfl (zup_self _ _ _) h17 ?_
  exact zi_ireturn dX6_append_47 rfl rfl kk
abbrev kX6_run : ZK := (RX6, cX6_run, 4, (Option.some Jvm.ClassFile.FieldType.int), [], false, fX6)
abbrev tX6_run (g : ZG) (args : List Value) (M : ZM) (d c s : Nat) (Q : ZQ) : Prop := Ct g yX6_run (ws_ yX6_run cX6_run 4 (Option.some Jvm.ClassFile.FieldType.int)) args M d c s Q
abbrev nX6_run : Nat := 8
theorem mX6_run : zMok yX6_run 0 4 := ⟨⟨by decide +kernel, by decide +kernel, by decide +kernel⟩, by decide⟩
theorem eX6_run {g : ZG} {Q : ZQ} {d cN sN : Nat} {M : ZM} {a0 : Nat} (hV : zV g) (h : Z g kX6_run Q d cN sN M 0 [some (.ref a0), none, none, none] []) : tX6_run g [.ref a0] M d cN sN Q := Ct.of (K := kX6_run) rfl (by decide +kernel) hV fokX6 rfl (fun h => by cases h) (fun v hv => by simp only [List.mem_cons, List.not_mem_nil, or_false] at hv; rcases hv with rfl <;> first | rfl | assumption) (Nat.le_of_ble_eq_true rfl) h
theorem sX6_run_0 {g : ZG} {Q : ZQ} {d cN sN : Nat} {M : ZM} {l0 : Nat} {o1 o2 o3 : Option Value}  (kk : Z g kX6_run Q d cN sN M 1 [some (.ref l0), o1, o2, o3] [.ref l0]) : Z g kX6_run Q d cN sN M 0 [some (.ref l0), o1, o2, o3] [] := by
  refine zi_aload_n dX6_run_0 rfl zrf_r ?_
  exact kk
theorem sX6_run_4 {g : ZG} {Q : ZQ} {d cN sN : Nat} {M : ZM} {t0 : Int32} {l0 : Nat} {o1 o2 o3 : Option Value}  (kt : (t0 : Int32) = 0 → Z g kX6_run Q d cN sN M 14 [some (.ref l0), some (.int t0), o2, o3] [.ref l0]) (kf : ¬ (t0 : Int32) = 0 → Z g kX6_run Q d cN sN M 10 [some (.ref l0), some (.int t0), o2, o3] [.ref l0]) : Z g kX6_run Q d cN sN M 4 [some (.ref l0), o1, o2, o3] [.int t0] := by
  refine zi_istore_n dX6_run_4 (Nat.le_of_ble_eq_true rfl) ?_
  refine zi_aload_n dX6_run_5 rfl zrf_r ?_
  refine zi_iload_n dX6_run_6 rfl ?_
  exact zi_if_eq (tgt := 14) dX6_run_7 (by decide +kernel) kt kf
theorem sX6_run_10 {g : ZG} {Q : ZQ} {d cN sN : Nat} {M : ZM} {t0 : Nat} {o0 o1 o2 o3 : Option Value}  (kk : Z g kX6_run Q d cN sN M 18 [o0, o1, o2, o3] [.int ((-1)), .ref t0]) : Z g kX6_run Q d cN sN M 10 [o0, o1, o2, o3] [.ref t0] := by
  refine zi_iconst dX6_run_10 (by decide +kernel : Int32.ofInt (-1) = (-1 : Int32)) ?_
  exact zi_goto (tgt := 18) dX6_run_11 (by decide +kernel) kk
theorem sX6_run_14 {g : ZG} {Q : ZQ} {d cN sN : Nat} {M : ZM} {t0 : Nat} {l0 : Nat} {fs1 : List Value} {y3 : Int32} {o1 o2 o3 : Option Value} (h2 : M.1 l0 = some (.inr (5, fs1))) (h4 : (fs1)[18]? = some (.int y3)) (kk : Z g kX6_run Q d cN sN M 18 [some (.ref l0), o1, o2, o3] [.int y3, .ref t0]) : Z g kX6_run Q d cN sN M 14 [some (.ref l0), o1, o2, o3] [.ref t0] := by
  refine zi_aload_n dX6_run_14 rfl zrf_r ?_
  refine zi_getfield dX6_run_15 rfl h2 h4 ?_
  exact kk
theorem sX6_run_18 {g : ZG} {Q : ZQ} {d cN sN : Nat} {M : ZM} {t0 : Nat} {t1 : Int32} {fs1 : List Value} {l0 : Nat} {fs4 : List Value} {l1 : Int32} {o2 o3 : Option Value} (h2 : M.1 t0 = some (.inr (5, fs1))) (h3 : 15 < (fs1).length) (h5 : (zup M t0 (.inr (5, (fs1).set 15 (.int t1)))).1 l0 = some (.inr (5, fs4))) (h6 : 14 < (fs4).length) (kt : (l1 : Int32) = 0 → Z g kX6_run Q d cN sN (zup (zup M t0 (.inr (5, (fs1).set 15 (.int t1)))) l0 (.inr (5, (fs4).set 14 (.int 0)))) 35 [some (.ref l0), some (.int l1), o2, o3] [.ref l0]) (kf : ¬ (l1 : Int32) = 0 → Z g kX6_run Q d cN sN (zup (zup M t0 (.inr (5, (fs1).set 15 (.int t1)))) l0 (.inr (5, (fs4).set 14 (.int 0)))) 31 [some (.ref l0), some (.int l1), o2, o3] [.ref l0]) : Z g kX6_run Q d cN sN M 18 [some (.ref l0), some (.int l1), o2, o3] [.int t1, .ref t0] := by
  refine zi_putfield dX6_run_18 rfl h2 h3 zfit_i (Or.inl rfl) ?_
  refine zi_aload_n dX6_run_21 rfl zrf_r ?_
  refine zi_iconst dX6_run_22 (by decide +kernel : Int32.ofInt (0) = (0 : Int32)) ?_
  refine zi_putfield dX6_run_23 rfl h5 h6 zfit_i (Or.inl rfl) ?_
  refine zi_aload_n dX6_run_26 rfl zrf_r ?_
  refine zi_iload_n dX6_run_27 rfl ?_
  exact zi_if_eq (tgt := 35) dX6_run_28 (by decide +kernel) kt kf
theorem sX6_run_31 {g : ZG} {Q : ZQ} {d cN sN : Nat} {M : ZM} {t0 : Nat} {o0 o1 o2 o3 : Option Value}  (kk : Z g kX6_run Q d cN sN M 36 [o0, o1, o2, o3] [.int 0, .ref t0]) : Z g kX6_run Q d cN sN M 31 [o0, o1, o2, o3] [.ref t0] := by
  refine zi_iconst dX6_run_31 (by decide +kernel : Int32.ofInt (0) = (0 : Int32)) ?_
  exact zi_goto (tgt := 36) dX6_run_32 (by decide +kernel) kk
theorem sX6_run_35 {g : ZG} {Q : ZQ} {d cN sN : Nat} {M : ZM} {t0 : Nat} {o0 o1 o2 o3 : Option Value}  (kk : Z g kX6_run Q d cN sN M 36 [o0, o1, o2, o3] [.int 1, .ref t0]) : Z g kX6_run Q d cN sN M 35 [o0, o1, o2, o3] [.ref t0] := by
  refine zi_iconst dX6_run_35 (by decide +kernel : Int32.ofInt (1) = (1 : Int32)) ?_
  exact kk
theorem sX6_run_39 {g : ZG} {Q : ZQ} {d cN sN : Nat} {M : ZM} {t0 : Int32} {o0 o1 o2 o3 : Option Value}  (kt : (t0 : Int32) = 0 → Z g kX6_run Q d cN sN M 44 [o0, o1, o2, o3] []) (kf : ¬ (t0 : Int32) = 0 → Z g kX6_run Q d cN sN M 42 [o0, o1, o2, o3] []) : Z g kX6_run Q d cN sN M 39 [o0, o1, o2, o3] [.int t0] := by
  exact zi_if_eq (tgt := 44) dX6_run_39 (by decide +kernel) kt kf
theorem sX6_run_42 {g : ZG} {Q : ZQ} {d cN sN : Nat} {M : ZM} {o0 o1 o2 o3 : Option Value}  (kk : Q.1 (some (.int 0)) M) : Z g kX6_run Q d cN sN M 42 [o0, o1, o2, o3] [] := by
  refine zi_iconst dX6_run_42 (by decide +kernel : Int32.ofInt (0) = (0 : Int32)) ?_
  exact zi_ireturn dX6_run_43 rfl rfl kk
theorem sX6_run_44 {g : ZG} {Q : ZQ} {d cN sN : Nat} {M : ZM} {l0 : Nat} {fs1 : List Value} {r3 : Nat} {r5 : Nat} {o1 o2 o3 : Option Value} (h2 : M.1 l0 = some (.inr (5, fs1))) (h4 : (fs1)[0]? = some (.ref r3)) (h6 : (fs1)[3]? = some (.ref r5)) (kk : Z g kX6_run Q d cN sN M 54 [some (.ref l0), o1, o2, o3] [.int 0, .ref r5, .int 0, .ref r3]) : Z g kX6_run Q d cN sN M 44 [some (.ref l0), o1, o2, o3] [] := by
  refine zi_aload_n dX6_run_44 rfl zrf_r ?_
  refine zi_getfield dX6_run_45 rfl h2 h4 ?_
  refine zi_iconst dX6_run_48 (by decide +kernel : Int32.ofInt (0) = (0 : Int32)) ?_
  refine zi_aload_n dX6_run_49 rfl zrf_r ?_
  refine zi_getfield dX6_run_50 rfl h2 h6 ?_
  refine zi_iconst dX6_run_53 (by decide +kernel : Int32.ofInt (0) = (0 : Int32)) ?_
  exact kk
theorem sX6_run_57 {g : ZG} {Q : ZQ} {d cN sN : Nat} {M : ZM} {l0 : Nat} {fs1 : List Value} {o1 o2 o3 : Option Value} (h2 : M.1 l0 = some (.inr (5, fs1))) (h3 : 6 < (fs1).length) (kk : Z g kX6_run Q d cN sN (zup M l0 (.inr (5, (fs1).set 6 (.int 1)))) 66 [some (.ref l0), o1, some (.int 0), some (.int 0)] []) : Z g kX6_run Q d cN sN M 57 [some (.ref l0), o1, o2, o3] [] := by
  refine zi_aload_n dX6_run_57 rfl zrf_r ?_
  refine zi_iconst dX6_run_58 (by decide +kernel : Int32.ofInt (1) = (1 : Int32)) ?_
  refine zi_putfield dX6_run_59 rfl h2 h3 (zfit_z (by decide)) (Or.inl rfl) ?_
  refine zi_iconst dX6_run_62 (by decide +kernel : Int32.ofInt (0) = (0 : Int32)) ?_
  refine zi_istore_n dX6_run_63 (Nat.le_of_ble_eq_true rfl) ?_
  refine zi_iconst dX6_run_64 (by decide +kernel : Int32.ofInt (0) = (0 : Int32)) ?_
  refine zi_istore_n dX6_run_65 (Nat.le_of_ble_eq_true rfl) ?_
  exact kk
theorem sX6_run_66 {g : ZG} {Q : ZQ} {d cN sN : Nat} {M : ZM} {l2 : Int32} {l0 : Nat} {fs1 : List Value} {y3 : Int32} {o1 o3 : Option Value} (h2 : M.1 l0 = some (.inr (5, fs1))) (h4 : (fs1)[20]? = some (.int y3)) (kt : (y3 : Int32) ≤ (l2 : Int32) → Z g kX6_run Q d cN sN M 102 [some (.ref l0), o1, some (.int l2), o3] []) (kf : ¬ (y3 : Int32) ≤ (l2 : Int32) → Z g kX6_run Q d cN sN M 74 [some (.ref l0), o1, some (.int l2), o3] []) : Z g kX6_run Q d cN sN M 66 [some (.ref l0), o1, some (.int l2), o3] [] := by
  refine zi_iload_n dX6_run_66 rfl ?_
  refine zi_aload_n dX6_run_67 rfl zrf_r ?_
  refine zi_getfield dX6_run_68 rfl h2 h4 ?_
  exact zi_icmp_ge (tgt := 102) dX6_run_71 (by decide +kernel) kt kf
theorem sX6_run_74 {g : ZG} {Q : ZQ} {d cN sN : Nat} {M : ZM} {l0 : Nat} {fs1 : List Value} {y3 : Int32} {o1 o2 o3 : Option Value} (h2 : M.1 l0 = some (.inr (5, fs1))) (h4 : (fs1)[8]? = some (.int y3)) (kt : ¬ (y3 : Int32) = 0 → Z g kX6_run Q d cN sN M 102 [some (.ref l0), o1, o2, o3] []) (kf : (y3 : Int32) = 0 → Z g kX6_run Q d cN sN M 81 [some (.ref l0), o1, o2, o3] []) : Z g kX6_run Q d cN sN M 74 [some (.ref l0), o1, o2, o3] [] := by
  refine zi_aload_n dX6_run_74 rfl zrf_r ?_
  refine zi_getfield dX6_run_75 rfl h2 h4 ?_
  exact zi_if_ne (tgt := 102) dX6_run_78 (by decide +kernel) kt kf
theorem sX6_run_81 {g : ZG} {Q : ZQ} {d cN sN : Nat} {M : ZM} {l0 : Nat} {l2 : Int32} {o1 o3 : Option Value}  (kk : Z g kX6_run Q d cN sN M 85 [some (.ref l0), o1, some (.int l2), o3] [.int (4 * l2), .ref l0]) : Z g kX6_run Q d cN sN M 81 [some (.ref l0), o1, some (.int l2), o3] [] := by
  refine zi_aload_n dX6_run_81 rfl zrf_r ?_
  refine zi_iconst dX6_run_82 (by decide +kernel : Int32.ofInt (4) = (4 : Int32)) ?_
  refine zi_iload_n dX6_run_83 rfl ?_
  refine zi_imul dX6_run_84 ?_
  exact kk
theorem sX6_run_88 {g : ZG} {Q : ZQ} {d cN sN : Nat} {M : ZM} {t0 : Int32} {l0 : Nat} {fs1 : List Value} {y3 : Int32} {o1 o2 o3 : Option Value} (h2 : M.1 l0 = some (.inr (5, fs1))) (h4 : (fs1)[8]? = some (.int y3)) (kt : ¬ (y3 : Int32) = 0 → Z g kX6_run Q d cN sN M 66 [some (.ref l0), o1, o2, some (.int t0)] []) (kf : (y3 : Int32) = 0 → Z g kX6_run Q d cN sN M 96 [some (.ref l0), o1, o2, some (.int t0)] []) : Z g kX6_run Q d cN sN M 88 [some (.ref l0), o1, o2, o3] [.int t0] := by
  refine zi_istore_n dX6_run_88 (Nat.le_of_ble_eq_true rfl) ?_
  refine zi_aload_n dX6_run_89 rfl zrf_r ?_
  refine zi_getfield dX6_run_90 rfl h2 h4 ?_
  exact zi_if_ne (tgt := 66) dX6_run_93 (by decide +kernel) kt kf
theorem sX6_run_96 {g : ZG} {Q : ZQ} {d cN sN : Nat} {M : ZM} {l2 : Int32} {o0 o1 o3 : Option Value}  (kk : Z g kX6_run Q d cN sN M 66 [o0, o1, some (.int (l2 + 1)), o3] []) : Z g kX6_run Q d cN sN M 96 [o0, o1, some (.int l2), o3] [] := by
  refine zi_iinc dX6_run_96 rfl (by decide +kernel : Int32.ofInt (1) = 1) (Nat.le_of_ble_eq_true rfl) ?_
  exact zi_goto (tgt := 66) dX6_run_99 (by decide +kernel) kk
theorem sX6_run_102 {g : ZG} {Q : ZQ} {d cN sN : Nat} {M : ZM} {l0 : Nat} {fs1 : List Value} {y4 : Int32} {o1 o2 o3 : Option Value} (h2 : M.1 l0 = some (.inr (5, fs1))) (h3 : 6 < (fs1).length) (h5 : (((fs1).set 6 (.int 0)))[8]? = some (.int y4)) (kt : (y4 : Int32) ≤ 0 → Z g kX6_run Q d cN sN (zup M l0 (.inr (5, (fs1).set 6 (.int 0)))) 155 [some (.ref l0), o1, o2, o3] []) (kf : ¬ (y4 : Int32) ≤ 0 → Z g kX6_run Q d cN sN (zup M l0 (.inr (5, (fs1).set 6 (.int 0)))) 114 [some (.ref l0), o1, o2, o3] []) : Z g kX6_run Q d cN sN M 102 [some (.ref l0), o1, o2, o3] [] := by
  refine zi_aload_n dX6_run_102 rfl zrf_r ?_
  refine zi_iconst dX6_run_103 (by decide +kernel : Int32.ofInt (0) = (0 : Int32)) ?_
  refine zi_putfield dX6_run_104 rfl h2 h3 (zfit_z (by decide)) (Or.inl rfl) ?_
  refine zi_aload_n dX6_run_107 rfl zrf_r ?_
  refine zi_getfield dX6_run_108 rfl (zup_self _ _ _) h5 ?_
  exact zi_if_le (tgt := 155) dX6_run_111 (by decide +kernel) kt kf
theorem sX6_run_114 {g : ZG} {Q : ZQ} {d cN sN : Nat} {M : ZM} {l0 : Nat} {fs1 : List Value} {r3 : Nat} {r5 : Nat} {o1 o2 o3 : Option Value} (h2 : M.1 l0 = some (.inr (5, fs1))) (h4 : (fs1)[3]? = some (.ref r3)) (h6 : (fs1)[0]? = some (.ref r5)) (kk : Z g kX6_run Q d cN sN M 124 [some (.ref l0), o1, o2, o3] [.int 0, .ref r5, .int 0, .ref r3]) : Z g kX6_run Q d cN sN M 114 [some (.ref l0), o1, o2, o3] [] := by
  refine zi_aload_n dX6_run_114 rfl zrf_r ?_
  refine zi_getfield dX6_run_115 rfl h2 h4 ?_
  refine zi_iconst dX6_run_118 (by decide +kernel : Int32.ofInt (0) = (0 : Int32)) ?_
  refine zi_aload_n dX6_run_119 rfl zrf_r ?_
  refine zi_getfield dX6_run_120 rfl h2 h6 ?_
  refine zi_iconst dX6_run_123 (by decide +kernel : Int32.ofInt (0) = (0 : Int32)) ?_
  exact kk
theorem sX6_run_127 {g : ZG} {Q : ZQ} {d cN sN : Nat} {M : ZM} {l0 : Nat} {fs1 : List Value} {y3 : Int32} {o1 o2 o3 : Option Value} (h2 : M.1 l0 = some (.inr (5, fs1))) (h4 : (fs1)[7]? = some (.int y3)) (kt : (y3 : Int32) = 0 → Z g kX6_run Q d cN sN M 140 [some (.ref l0), o1, o2, o3] []) (kf : ¬ (y3 : Int32) = 0 → Z g kX6_run Q d cN sN M 134 [some (.ref l0), o1, o2, o3] []) : Z g kX6_run Q d cN sN M 127 [some (.ref l0), o1, o2, o3] [] := by
  refine zi_aload_n dX6_run_127 rfl zrf_r ?_
  refine zi_getfield dX6_run_128 rfl h2 h4 ?_
  exact zi_if_eq (tgt := 140) dX6_run_131 (by decide +kernel) kt kf
theorem sX6_run_134 {g : ZG} {Q : ZQ} {d cN sN : Nat} {M : ZM} {l0 : Nat} {l2 : Int32} {o1 o3 : Option Value}  (kk : Z g kX6_run Q d cN sN M 136 [some (.ref l0), o1, some (.int l2), o3] [.int l2, .ref l0]) : Z g kX6_run Q d cN sN M 134 [some (.ref l0), o1, some (.int l2), o3] [] := by
  refine zi_aload_n dX6_run_134 rfl zrf_r ?_
  refine zi_iload_n dX6_run_135 rfl ?_
  exact kk
theorem sX6_run_139 {g : ZG} {Q : ZQ} {d cN sN : Nat} {M : ZM} {t0 : Int32} {o0 o1 o2 o3 : Option Value}  (kk : Q.1 (some (.int t0)) M) : Z g kX6_run Q d cN sN M 139 [o0, o1, o2, o3] [.int t0] := by
  exact zi_ireturn dX6_run_139 rfl rfl kk
theorem sX6_run_140 {g : ZG} {Q : ZQ} {d cN sN : Nat} {M : ZM} {l0 : Nat} {fs1 : List Value} {l3 : Int32} {o1 o2 : Option Value} (h2 : M.1 l0 = some (.inr (5, fs1))) (h3 : 8 < (fs1).length) (kt : (l3 : Int32) ≤ 0 → Z g kX6_run Q d cN sN (zup M l0 (.inr (5, (fs1).set 8 (.int 1)))) 153 [some (.ref l0), o1, o2, some (.int l3)] []) (kf : ¬ (l3 : Int32) ≤ 0 → Z g kX6_run Q d cN sN (zup M l0 (.inr (5, (fs1).set 8 (.int 1)))) 149 [some (.ref l0), o1, o2, some (.int l3)] []) : Z g kX6_run Q d cN sN M 140 [some (.ref l0), o1, o2, some (.int l3)] [] := by
  refine zi_aload_n dX6_run_140 rfl zrf_r ?_
  refine zi_iconst dX6_run_141 (by decide +kernel : Int32.ofInt (1) = (1 : Int32)) ?_
  refine zi_putfield dX6_run_142 rfl h2 h3 zfit_i (Or.inl rfl) ?_
  refine zi_iload_n dX6_run_145 rfl ?_
  exact zi_if_le (tgt := 153) dX6_run_146 (by decide +kernel) kt kf
theorem sX6_run_149 {g : ZG} {Q : ZQ} {d cN sN : Nat} {M : ZM} {o0 o1 o2 o3 : Option Value}  (kk : Z g kX6_run Q d cN sN M 154 [o0, o1, o2, o3] [.int 0]) : Z g kX6_run Q d cN sN M 149 [o0, o1, o2, o3] [] := by
  refine zi_iconst dX6_run_149 (by decide +kernel : Int32.ofInt (0) = (0 : Int32)) ?_
  exact zi_goto (tgt := 154) dX6_run_150 (by decide +kernel) kk
theorem sX6_run_153 {g : ZG} {Q : ZQ} {d cN sN : Nat} {M : ZM} {l3 : Int32} {o0 o1 o2 : Option Value}  (kk : Z g kX6_run Q d cN sN M 154 [o0, o1, o2, some (.int l3)] [.int l3]) : Z g kX6_run Q d cN sN M 153 [o0, o1, o2, some (.int l3)] [] := by
  refine zi_iload_n dX6_run_153 rfl ?_
  exact kk
theorem sX6_run_154 {g : ZG} {Q : ZQ} {d cN sN : Nat} {M : ZM} {t0 : Int32} {o0 o1 o2 o3 : Option Value}  (kk : Q.1 (some (.int t0)) M) : Z g kX6_run Q d cN sN M 154 [o0, o1, o2, o3] [.int t0] := by
  exact zi_ireturn dX6_run_154 rfl rfl kk
theorem sX6_run_155 {g : ZG} {Q : ZQ} {d cN sN : Nat} {M : ZM} {l0 : Nat} {fs1 : List Value} {r3 : Nat} {o1 o2 o3 : Option Value} (h2 : M.1 l0 = some (.inr (5, fs1))) (h4 : (fs1)[3]? = some (.ref r3)) (kk : Z g kX6_run Q d cN sN M 160 [some (.ref l0), o1, o2, o3] [.ref r3, .ref l0]) : Z g kX6_run Q d cN sN M 155 [some (.ref l0), o1, o2, o3] [] := by
  refine zi_aload_n dX6_run_155 rfl zrf_r ?_
  refine zi_aload_n dX6_run_156 rfl zrf_r ?_
  refine zi_getfield dX6_run_157 rfl h2 h4 ?_
  exact kk
theorem sX6_run_163 {g : ZG} {Q : ZQ} {d cN sN : Nat} {M : ZM} {l0 : Nat} {fs1 : List Value} {y3 : Int32} {o1 o2 o3 : Option Value} (h2 : M.1 l0 = some (.inr (5, fs1))) (h4 : (fs1)[20]? = some (.int y3)) (kk : Q.1 (some (.int y3)) M) : Z g kX6_run Q d cN sN M 163 [some (.ref l0), o1, o2, o3] [] := by
  refine zi_aload_n dX6_run_163 rfl zrf_r ?_
  refine zi_getfield dX6_run_164 rfl h2 h4 ?_
  exact zi_ireturn dX6_run_167 rfl rfl kk
abbrev kX6_isText : ZK := (RX6, cX6_isText, 1, (Option.some Jvm.ClassFile.FieldType.boolean), [], false, fX6)
abbrev tX6_isText (g : ZG) (args : List Value) (M : ZM) (d c s : Nat) (Q : ZQ) : Prop := Ct g yX6_isText (ws_ yX6_isText cX6_isText 1 (Option.some Jvm.ClassFile.FieldType.boolean)) args M d c s Q
abbrev nX6_isText : Nat := 4
theorem mX6_isText : zMok yX6_isText 0 1 := ⟨⟨by decide +kernel, by decide +kernel, by decide +kernel⟩, by decide⟩
theorem eX6_isText {g : ZG} {Q : ZQ} {d cN sN : Nat} {M : ZM} {a0 : Nat} (hV : zV g) (h : Z g kX6_isText Q d cN sN M 0 [some (.ref a0)] []) : tX6_isText g [.ref a0] M d cN sN Q := Ct.of (K := kX6_isText) rfl (by decide +kernel) hV fokX6 rfl (fun h => by cases h) (fun v hv => by simp only [List.mem_cons, List.not_mem_nil, or_false] at hv; rcases hv with rfl <;> first | rfl | assumption) (Nat.le_of_ble_eq_true rfl) h
theorem sX6_isText_0 {g : ZG} {Q : ZQ} {d cN sN : Nat} {M : ZM} {l0 : Nat} {fs1 : List Value} (h2 : M.1 l0 = some (.inr (5, fs1))) (h3 : 18 < (fs1).length) (h4 : 20 < (((fs1).set 18 (.int 0))).length) (kk : Z g kX6_isText Q d cN sN (zup (zup M l0 (.inr (5, (fs1).set 18 (.int 0)))) l0 (.inr (5, (((fs1).set 18 (.int 0))).set 20 (.int 0)))) 10 [some (.ref l0)] []) : Z g kX6_isText Q d cN sN M 0 [some (.ref l0)] [] := by
  refine zi_aload_n dX6_isText_0 rfl zrf_r ?_
  refine zi_iconst dX6_isText_1 (by decide +kernel : Int32.ofInt (0) = (0 : Int32)) ?_
  refine zi_putfield dX6_isText_2 rfl h2 h3 zfit_i (Or.inl rfl) ?_
  refine zi_aload_n dX6_isText_5 rfl zrf_r ?_
  refine zi_iconst dX6_isText_6 (by decide +kernel : Int32.ofInt (0) = (0 : Int32)) ?_
  refine zi_putfield dX6_isText_7 rfl (zup_self _ _ _) h4 zfit_i (Or.inl rfl) ?_
  exact kk
theorem sX6_isText_10 {g : ZG} {Q : ZQ} {d cN sN : Nat} {M : ZM} {l0 : Nat}  (kk : Z g kX6_isText Q d cN sN M 11 [some (.ref l0)] [.ref l0]) : Z g kX6_isText Q d cN sN M 10 [some (.ref l0)] [] := by
  refine zi_aload_n dX6_isText_10 rfl zrf_r ?_
  exact kk
theorem sX6_isText_14 {g : ZG} {Q : ZQ} {d cN sN : Nat} {M : ZM} {t0 : Int32} {o0 : Option Value}  (kt : ¬ (t0 : Int32) = 0 → Z g kX6_isText Q d cN sN M 19 [o0] []) (kf : (t0 : Int32) = 0 → Z g kX6_isText Q d cN sN M 17 [o0] []) : Z g kX6_isText Q d cN sN M 14 [o0] [.int t0] := by
  exact zi_if_ne (tgt := 19) dX6_isText_14 (by decide +kernel) kt kf
theorem sX6_isText_17 {g : ZG} {Q : ZQ} {d cN sN : Nat} {M : ZM} {o0 : Option Value}  (kk : Q.1 (some (.int 0)) M) : Z g kX6_isText Q d cN sN M 17 [o0] [] := by
  refine zi_iconst dX6_isText_17 (by decide +kernel : Int32.ofInt (0) = (0 : Int32)) ?_
  exact zi_ireturn dX6_isText_18 rfl (znar_z (by decide)) kk
theorem sX6_isText_19 {g : ZG} {Q : ZQ} {d cN sN : Nat} {M : ZM} {l0 : Nat} {fs1 : List Value} {y3 : Int32} (h2 : M.1 l0 = some (.inr (5, fs1))) (h4 : (fs1)[20]? = some (.int y3)) (h5 : 20 < (fs1).length) (kk : Z g kX6_isText Q d cN sN (zup M l0 (.inr (5, (fs1).set 20 (.int (y3 + 1))))) 32 [some (.ref l0)] [.int 59, .ref l0]) : Z g kX6_isText Q d cN sN M 19 [some (.ref l0)] [] := by
  refine zi_aload_n dX6_isText_19 rfl zrf_r ?_
  refine zi_dup dX6_isText_20 rfl ?_
  refine zi_getfield dX6_isText_21 rfl h2 h4 ?_
  refine zi_iconst dX6_isText_24 (by decide +kernel : Int32.ofInt (1) = (1 : Int32)) ?_
  refine zi_iadd dX6_isText_25 ?_
  refine zi_putfield dX6_isText_26 rfl h2 h5 zfit_i (Or.inl rfl) ?_
  refine zi_aload_n dX6_isText_29 rfl zrf_r ?_
  refine zi_bipush dX6_isText_30 (by decide +kernel : (Int8.ofInt (59)).toInt32 = (59 : Int32)) ?_
  exact kk
theorem sX6_isText_35 {g : ZG} {Q : ZQ} {d cN sN : Nat} {M : ZM} {t0 : Int32} {o0 : Option Value}  (kt : ¬ (t0 : Int32) = 0 → Z g kX6_isText Q d cN sN M 10 [o0] []) (kf : (t0 : Int32) = 0 → Z g kX6_isText Q d cN sN M 38 [o0] []) : Z g kX6_isText Q d cN sN M 35 [o0] [.int t0] := by
  exact zi_if_ne (tgt := 10) dX6_isText_35 (by decide +kernel) kt kf
theorem sX6_isText_38 {g : ZG} {Q : ZQ} {d cN sN : Nat} {M : ZM} {l0 : Nat} {fs1 : List Value} {y3 : Int32} {y5 : Int32} (h2 : M.1 l0 = some (.inr (5, fs1))) (h4 : (fs1)[18]? = some (.int y3)) (h6 : (fs1)[14]? = some (.int y5)) (kt : ¬ (y3 : Int32) = (y5 : Int32) → Z g kX6_isText Q d cN sN M 53 [some (.ref l0)] []) (kf : (y3 : Int32) = (y5 : Int32) → Z g kX6_isText Q d cN sN M 49 [some (.ref l0)] []) : Z g kX6_isText Q d cN sN M 38 [some (.ref l0)] [] := by
  refine zi_aload_n dX6_isText_38 rfl zrf_r ?_
  refine zi_getfield dX6_isText_39 rfl h2 h4 ?_
  refine zi_aload_n dX6_isText_42 rfl zrf_r ?_
  refine zi_getfield dX6_isText_43 rfl h2 h6 ?_
  exact zi_icmp_ne (tgt := 53) dX6_isText_46 (by decide +kernel) kt kf
theorem sX6_isText_49 {g : ZG} {Q : ZQ} {d cN sN : Nat} {M : ZM} {o0 : Option Value}  (kk : Z g kX6_isText Q d cN sN M 54 [o0] [.int 1]) : Z g kX6_isText Q d cN sN M 49 [o0] [] := by
  refine zi_iconst dX6_isText_49 (by decide +kernel : Int32.ofInt (1) = (1 : Int32)) ?_
  exact zi_goto (tgt := 54) dX6_isText_50 (by decide +kernel) kk
theorem sX6_isText_53 {g : ZG} {Q : ZQ} {d cN sN : Nat} {M : ZM} {o0 : Option Value}  (kk : Z g kX6_isText Q d cN sN M 54 [o0] [.int 0]) : Z g kX6_isText Q d cN sN M 53 [o0] [] := by
  refine zi_iconst dX6_isText_53 (by decide +kernel : Int32.ofInt (0) = (0 : Int32)) ?_
  exact kk
theorem sX6_isText_54 {g : ZG} {Q : ZQ} {d cN sN : Nat} {M : ZM} {t0 : Int32} {o0 : Option Value} (h1 : t0 = 0 ∨ t0 = 1) (kk : Q.1 (some (.int t0)) M) : Z g kX6_isText Q d cN sN M 54 [o0] [.int t0] := by
  exact zi_ireturn dX6_isText_54 rfl (znar_z h1) kk
abbrev kX6_orderHere : ZK := (RX6, cX6_orderHere, 2, (Option.some Jvm.ClassFile.FieldType.boolean), [], false, fX6)
abbrev tX6_orderHere (g : ZG) (args : List Value) (M : ZM) (d c s : Nat) (Q : ZQ) : Prop := Ct g yX6_orderHere (ws_ yX6_orderHere cX6_orderHere 2 (Option.some Jvm.ClassFile.FieldType.boolean)) args M d c s Q
abbrev nX6_orderHere : Nat := 3
theorem mX6_orderHere : zMok yX6_orderHere 0 2 := ⟨⟨by decide +kernel, by decide +kernel, by decide +kernel⟩, by decide⟩
theorem eX6_orderHere {g : ZG} {Q : ZQ} {d cN sN : Nat} {M : ZM} {a0 : Nat} (hV : zV g) (h : Z g kX6_orderHere Q d cN sN M 0 [some (.ref a0), none] []) : tX6_orderHere g [.ref a0] M d cN sN Q := Ct.of (K := kX6_orderHere) rfl (by decide +kernel) hV fokX6 rfl (fun h => by cases h) (fun v hv => by simp only [List.mem_cons, List.not_mem_nil, or_false] at hv; rcases hv with rfl <;> first | rfl | assumption) (Nat.le_of_ble_eq_true rfl) h
theorem sX6_orderHere_0 {g : ZG} {Q : ZQ} {d cN sN : Nat} {M : ZM} {l0 : Nat} {fs1 : List Value} {y3 : Int32} {r5 : Nat} {o1 : Option Value} (h2 : M.1 l0 = some (.inr (5, fs1))) (h4 : (fs1)[20]? = some (.int y3)) (h6 : (fs1)[19]? = some (.ref r5)) (kk : Z g kX6_orderHere Q d cN sN M 13 [some (.ref l0), some (.int (4 * y3))] [.ref l0, .int (4 * y3), .ref r5]) : Z g kX6_orderHere Q d cN sN M 0 [some (.ref l0), o1] [] := by
  refine zi_iconst dX6_orderHere_0 (by decide +kernel : Int32.ofInt (4) = (4 : Int32)) ?_
  refine zi_aload_n dX6_orderHere_1 rfl zrf_r ?_
  refine zi_getfield dX6_orderHere_2 rfl h2 h4 ?_
  refine zi_imul dX6_orderHere_5 ?_
  refine zi_istore_n dX6_orderHere_6 (Nat.le_of_ble_eq_true rfl) ?_
  refine zi_aload_n dX6_orderHere_7 rfl zrf_r ?_
  refine zi_getfield dX6_orderHere_8 rfl h2 h6 ?_
  refine zi_iload_n dX6_orderHere_11 rfl ?_
  refine zi_aload_n dX6_orderHere_12 rfl zrf_r ?_
  exact kk
theorem sX6_orderHere_16 {g : ZG} {Q : ZQ} {d cN sN : Nat} {M : ZM} {t0 : Nat} {t1 : Int32} {t2 : Int32} {n1 : Nat} {f2 : Nat → Int32} {l0 : Nat} {o1 : Option Value} (h3 : M.1 t0 = some (.inl (zA g 0, n1, .inl (f2)))) (h4 : vp_in (t1) n1) (kk : Z g kX6_orderHere Q d cN sN (zup M t0 (.inl (zA g 0, n1, .inl (upd f2 ((t1 : Int32).toNatClampNeg) (t2))))) 20 [some (.ref l0), o1] [.int 101, .ref l0]) : Z g kX6_orderHere Q d cN sN M 16 [some (.ref l0), o1] [.int t2, .int t1, .ref t0] := by
  refine zi_iastore dX6_orderHere_16 h3 h4 ?_
  refine zi_aload_n dX6_orderHere_17 rfl zrf_r ?_
  refine zi_bipush dX6_orderHere_18 (by decide +kernel : (Int8.ofInt (101)).toInt32 = (101 : Int32)) ?_
  exact kk
theorem sX6_orderHere_23 {g : ZG} {Q : ZQ} {d cN sN : Nat} {M : ZM} {t0 : Int32} {o0 o1 : Option Value}  (kt : ¬ (t0 : Int32) = 0 → Z g kX6_orderHere Q d cN sN M 35 [o0, o1] []) (kf : (t0 : Int32) = 0 → Z g kX6_orderHere Q d cN sN M 26 [o0, o1] []) : Z g kX6_orderHere Q d cN sN M 23 [o0, o1] [.int t0] := by
  exact zi_if_ne (tgt := 35) dX6_orderHere_23 (by decide +kernel) kt kf
theorem sX6_orderHere_26 {g : ZG} {Q : ZQ} {d cN sN : Nat} {M : ZM} {l0 : Nat} {o1 : Option Value}  (kk : Z g kX6_orderHere Q d cN sN M 29 [some (.ref l0), o1] [.int 100, .ref l0]) : Z g kX6_orderHere Q d cN sN M 26 [some (.ref l0), o1] [] := by
  refine zi_aload_n dX6_orderHere_26 rfl zrf_r ?_
  refine zi_bipush dX6_orderHere_27 (by decide +kernel : (Int8.ofInt (100)).toInt32 = (100 : Int32)) ?_
  exact kk
theorem sX6_orderHere_32 {g : ZG} {Q : ZQ} {d cN sN : Nat} {M : ZM} {t0 : Int32} {o0 o1 : Option Value}  (kt : (t0 : Int32) = 0 → Z g kX6_orderHere Q d cN sN M 37 [o0, o1] []) (kf : ¬ (t0 : Int32) = 0 → Z g kX6_orderHere Q d cN sN M 35 [o0, o1] []) : Z g kX6_orderHere Q d cN sN M 32 [o0, o1] [.int t0] := by
  exact zi_if_eq (tgt := 37) dX6_orderHere_32 (by decide +kernel) kt kf
theorem sX6_orderHere_35 {g : ZG} {Q : ZQ} {d cN sN : Nat} {M : ZM} {o0 o1 : Option Value}  (kk : Q.1 (some (.int 1)) M) : Z g kX6_orderHere Q d cN sN M 35 [o0, o1] [] := by
  refine zi_iconst dX6_orderHere_35 (by decide +kernel : Int32.ofInt (1) = (1 : Int32)) ?_
  exact zi_ireturn dX6_orderHere_36 rfl (znar_z (by decide)) kk
theorem sX6_orderHere_37 {g : ZG} {Q : ZQ} {d cN sN : Nat} {M : ZM} {l0 : Nat} {o1 : Option Value}  (kk : Z g kX6_orderHere Q d cN sN M 40 [some (.ref l0), o1] [.int 104, .ref l0]) : Z g kX6_orderHere Q d cN sN M 37 [some (.ref l0), o1] [] := by
  refine zi_aload_n dX6_orderHere_37 rfl zrf_r ?_
  refine zi_bipush dX6_orderHere_38 (by decide +kernel : (Int8.ofInt (104)).toInt32 = (104 : Int32)) ?_
  exact kk
theorem sX6_orderHere_43 {g : ZG} {Q : ZQ} {d cN sN : Nat} {M : ZM} {t0 : Int32} {o0 o1 : Option Value}  (kt : (t0 : Int32) = 0 → Z g kX6_orderHere Q d cN sN M 55 [o0, o1] []) (kf : ¬ (t0 : Int32) = 0 → Z g kX6_orderHere Q d cN sN M 46 [o0, o1] []) : Z g kX6_orderHere Q d cN sN M 43 [o0, o1] [.int t0] := by
  exact zi_if_eq (tgt := 55) dX6_orderHere_43 (by decide +kernel) kt kf
theorem sX6_orderHere_46 {g : ZG} {Q : ZQ} {d cN sN : Nat} {M : ZM} {l0 : Nat} {l1 : Int32}  (kk : Z g kX6_orderHere Q d cN sN M 51 [some (.ref l0), some (.int l1)] [.int 2, .int (l1 + 1), .ref l0]) : Z g kX6_orderHere Q d cN sN M 46 [some (.ref l0), some (.int l1)] [] := by
  refine zi_aload_n dX6_orderHere_46 rfl zrf_r ?_
  refine zi_iload_n dX6_orderHere_47 rfl ?_
  refine zi_iconst dX6_orderHere_48 (by decide +kernel : Int32.ofInt (1) = (1 : Int32)) ?_
  refine zi_iadd dX6_orderHere_49 ?_
  refine zi_iconst dX6_orderHere_50 (by decide +kernel : Int32.ofInt (2) = (2 : Int32)) ?_
  exact kk
theorem sX6_orderHere_54 {g : ZG} {Q : ZQ} {d cN sN : Nat} {M : ZM} {t0 : Int32} {o0 o1 : Option Value} (h1 : t0 = 0 ∨ t0 = 1) (kk : Q.1 (some (.int t0)) M) : Z g kX6_orderHere Q d cN sN M 54 [o0, o1] [.int t0] := by
  exact zi_ireturn dX6_orderHere_54 rfl (znar_z h1) kk
theorem sX6_orderHere_55 {g : ZG} {Q : ZQ} {d cN sN : Nat} {M : ZM} {l0 : Nat} {o1 : Option Value}  (kk : Z g kX6_orderHere Q d cN sN M 58 [some (.ref l0), o1] [.int 115, .ref l0]) : Z g kX6_orderHere Q d cN sN M 55 [some (.ref l0), o1] [] := by
  refine zi_aload_n dX6_orderHere_55 rfl zrf_r ?_
  refine zi_bipush dX6_orderHere_56 (by decide +kernel : (Int8.ofInt (115)).toInt32 = (115 : Int32)) ?_
  exact kk
theorem sX6_orderHere_61 {g : ZG} {Q : ZQ} {d cN sN : Nat} {M : ZM} {t0 : Int32} {o0 o1 : Option Value}  (kt : (t0 : Int32) = 0 → Z g kX6_orderHere Q d cN sN M 103 [o0, o1] []) (kf : ¬ (t0 : Int32) = 0 → Z g kX6_orderHere Q d cN sN M 64 [o0, o1] []) : Z g kX6_orderHere Q d cN sN M 61 [o0, o1] [.int t0] := by
  exact zi_if_eq (tgt := 103) dX6_orderHere_61 (by decide +kernel) kt kf
theorem sX6_orderHere_64 {g : ZG} {Q : ZQ} {d cN sN : Nat} {M : ZM} {l0 : Nat} {l1 : Int32}  (kk : Z g kX6_orderHere Q d cN sN M 69 [some (.ref l0), some (.int l1)] [.int 1, .int (l1 + 1), .ref l0]) : Z g kX6_orderHere Q d cN sN M 64 [some (.ref l0), some (.int l1)] [] := by
  refine zi_aload_n dX6_orderHere_64 rfl zrf_r ?_
  refine zi_iload_n dX6_orderHere_65 rfl ?_
  refine zi_iconst dX6_orderHere_66 (by decide +kernel : Int32.ofInt (1) = (1 : Int32)) ?_
  refine zi_iadd dX6_orderHere_67 ?_
  refine zi_iconst dX6_orderHere_68 (by decide +kernel : Int32.ofInt (1) = (1 : Int32)) ?_
  exact kk
theorem sX6_orderHere_72 {g : ZG} {Q : ZQ} {d cN sN : Nat} {M : ZM} {t0 : Int32} {o0 o1 : Option Value}  (kt : (t0 : Int32) = 0 → Z g kX6_orderHere Q d cN sN M 101 [o0, o1] []) (kf : ¬ (t0 : Int32) = 0 → Z g kX6_orderHere Q d cN sN M 75 [o0, o1] []) : Z g kX6_orderHere Q d cN sN M 72 [o0, o1] [.int t0] := by
  exact zi_if_eq (tgt := 101) dX6_orderHere_72 (by decide +kernel) kt kf
theorem sX6_orderHere_75 {g : ZG} {Q : ZQ} {d cN sN : Nat} {M : ZM} {l0 : Nat} {o1 : Option Value}  (kk : Z g kX6_orderHere Q d cN sN M 78 [some (.ref l0), o1] [.int 61, .ref l0]) : Z g kX6_orderHere Q d cN sN M 75 [some (.ref l0), o1] [] := by
  refine zi_aload_n dX6_orderHere_75 rfl zrf_r ?_
  refine zi_bipush dX6_orderHere_76 (by decide +kernel : (Int8.ofInt (61)).toInt32 = (61 : Int32)) ?_
  exact kk
theorem sX6_orderHere_81 {g : ZG} {Q : ZQ} {d cN sN : Nat} {M : ZM} {t0 : Int32} {o0 o1 : Option Value}  (kt : (t0 : Int32) = 0 → Z g kX6_orderHere Q d cN sN M 101 [o0, o1] []) (kf : ¬ (t0 : Int32) = 0 → Z g kX6_orderHere Q d cN sN M 84 [o0, o1] []) : Z g kX6_orderHere Q d cN sN M 81 [o0, o1] [.int t0] := by
  exact zi_if_eq (tgt := 101) dX6_orderHere_81 (by decide +kernel) kt kf
theorem sX6_orderHere_84 {g : ZG} {Q : ZQ} {d cN sN : Nat} {M : ZM} {l0 : Nat} {l1 : Int32}  (kk : Z g kX6_orderHere Q d cN sN M 91 [some (.ref l0), some (.int l1)] [.int 8, .int 3, .int (l1 + 2), .ref l0]) : Z g kX6_orderHere Q d cN sN M 84 [some (.ref l0), some (.int l1)] [] := by
  refine zi_aload_n dX6_orderHere_84 rfl zrf_r ?_
  refine zi_iload_n dX6_orderHere_85 rfl ?_
  refine zi_iconst dX6_orderHere_86 (by decide +kernel : Int32.ofInt (2) = (2 : Int32)) ?_
  refine zi_iadd dX6_orderHere_87 ?_
  refine zi_iconst dX6_orderHere_88 (by decide +kernel : Int32.ofInt (3) = (3 : Int32)) ?_
  refine zi_bipush dX6_orderHere_89 (by decide +kernel : (Int8.ofInt (8)).toInt32 = (8 : Int32)) ?_
  exact kk
theorem sX6_orderHere_94 {g : ZG} {Q : ZQ} {d cN sN : Nat} {M : ZM} {t0 : Int32} {o0 o1 : Option Value}  (kt : (t0 : Int32) = 0 → Z g kX6_orderHere Q d cN sN M 101 [o0, o1] []) (kf : ¬ (t0 : Int32) = 0 → Z g kX6_orderHere Q d cN sN M 97 [o0, o1] []) : Z g kX6_orderHere Q d cN sN M 94 [o0, o1] [.int t0] := by
  exact zi_if_eq (tgt := 101) dX6_orderHere_94 (by decide +kernel) kt kf
theorem sX6_orderHere_97 {g : ZG} {Q : ZQ} {d cN sN : Nat} {M : ZM} {o0 o1 : Option Value}  (kk : Z g kX6_orderHere Q d cN sN M 102 [o0, o1] [.int 1]) : Z g kX6_orderHere Q d cN sN M 97 [o0, o1] [] := by
  refine zi_iconst dX6_orderHere_97 (by decide +kernel : Int32.ofInt (1) = (1 : Int32)) ?_
  exact zi_goto (tgt := 102) dX6_orderHere_98 (by decide +kernel) kk
theorem sX6_orderHere_101 {g : ZG} {Q : ZQ} {d cN sN : Nat} {M : ZM} {o0 o1 : Option Value}  (kk : Z g kX6_orderHere Q d cN sN M 102 [o0, o1] [.int 0]) : Z g kX6_orderHere Q d cN sN M 101 [o0, o1] [] := by
  refine zi_iconst dX6_orderHere_101 (by decide +kernel : Int32.ofInt (0) = (0 : Int32)) ?_
  exact kk
theorem sX6_orderHere_102 {g : ZG} {Q : ZQ} {d cN sN : Nat} {M : ZM} {t0 : Int32} {o0 o1 : Option Value} (h1 : t0 = 0 ∨ t0 = 1) (kk : Q.1 (some (.int t0)) M) : Z g kX6_orderHere Q d cN sN M 102 [o0, o1] [.int t0] := by
  exact zi_ireturn dX6_orderHere_102 rfl (znar_z h1) kk
theorem sX6_orderHere_103 {g : ZG} {Q : ZQ} {d cN sN : Nat} {M : ZM} {l0 : Nat} {o1 : Option Value}  (kk : Z g kX6_orderHere Q d cN sN M 106 [some (.ref l0), o1] [.int 109, .ref l0]) : Z g kX6_orderHere Q d cN sN M 103 [some (.ref l0), o1] [] := by
  refine zi_aload_n dX6_orderHere_103 rfl zrf_r ?_
  refine zi_bipush dX6_orderHere_104 (by decide +kernel : (Int8.ofInt (109)).toInt32 = (109 : Int32)) ?_
  exact kk
theorem sX6_orderHere_109 {g : ZG} {Q : ZQ} {d cN sN : Nat} {M : ZM} {t0 : Int32} {o0 o1 : Option Value}  (kt : (t0 : Int32) = 0 → Z g kX6_orderHere Q d cN sN M 152 [o0, o1] []) (kf : ¬ (t0 : Int32) = 0 → Z g kX6_orderHere Q d cN sN M 112 [o0, o1] []) : Z g kX6_orderHere Q d cN sN M 109 [o0, o1] [.int t0] := by
  exact zi_if_eq (tgt := 152) dX6_orderHere_109 (by decide +kernel) kt kf
theorem sX6_orderHere_112 {g : ZG} {Q : ZQ} {d cN sN : Nat} {M : ZM} {l0 : Nat} {l1 : Int32}  (kk : Z g kX6_orderHere Q d cN sN M 117 [some (.ref l0), some (.int l1)] [.int 1, .int (l1 + 1), .ref l0]) : Z g kX6_orderHere Q d cN sN M 112 [some (.ref l0), some (.int l1)] [] := by
  refine zi_aload_n dX6_orderHere_112 rfl zrf_r ?_
  refine zi_iload_n dX6_orderHere_113 rfl ?_
  refine zi_iconst dX6_orderHere_114 (by decide +kernel : Int32.ofInt (1) = (1 : Int32)) ?_
  refine zi_iadd dX6_orderHere_115 ?_
  refine zi_iconst dX6_orderHere_116 (by decide +kernel : Int32.ofInt (1) = (1 : Int32)) ?_
  exact kk
theorem sX6_orderHere_120 {g : ZG} {Q : ZQ} {d cN sN : Nat} {M : ZM} {t0 : Int32} {o0 o1 : Option Value}  (kt : (t0 : Int32) = 0 → Z g kX6_orderHere Q d cN sN M 150 [o0, o1] []) (kf : ¬ (t0 : Int32) = 0 → Z g kX6_orderHere Q d cN sN M 123 [o0, o1] []) : Z g kX6_orderHere Q d cN sN M 120 [o0, o1] [.int t0] := by
  exact zi_if_eq (tgt := 150) dX6_orderHere_120 (by decide +kernel) kt kf
theorem sX6_orderHere_123 {g : ZG} {Q : ZQ} {d cN sN : Nat} {M : ZM} {l0 : Nat} {l1 : Int32}  (kk : Z g kX6_orderHere Q d cN sN M 128 [some (.ref l0), some (.int l1)] [.int 1, .int (l1 + 2), .ref l0]) : Z g kX6_orderHere Q d cN sN M 123 [some (.ref l0), some (.int l1)] [] := by
  refine zi_aload_n dX6_orderHere_123 rfl zrf_r ?_
  refine zi_iload_n dX6_orderHere_124 rfl ?_
  refine zi_iconst dX6_orderHere_125 (by decide +kernel : Int32.ofInt (2) = (2 : Int32)) ?_
  refine zi_iadd dX6_orderHere_126 ?_
  refine zi_iconst dX6_orderHere_127 (by decide +kernel : Int32.ofInt (1) = (1 : Int32)) ?_
  exact kk
theorem sX6_orderHere_131 {g : ZG} {Q : ZQ} {d cN sN : Nat} {M : ZM} {t0 : Int32} {o0 o1 : Option Value}  (kt : (t0 : Int32) = 0 → Z g kX6_orderHere Q d cN sN M 150 [o0, o1] []) (kf : ¬ (t0 : Int32) = 0 → Z g kX6_orderHere Q d cN sN M 134 [o0, o1] []) : Z g kX6_orderHere Q d cN sN M 131 [o0, o1] [.int t0] := by
  exact zi_if_eq (tgt := 150) dX6_orderHere_131 (by decide +kernel) kt kf
theorem sX6_orderHere_134 {g : ZG} {Q : ZQ} {d cN sN : Nat} {M : ZM} {l0 : Nat} {l1 : Int32}  (kk : Z g kX6_orderHere Q d cN sN M 140 [some (.ref l0), some (.int l1)] [.int 1, .int 1, .int (l1 + 3), .ref l0]) : Z g kX6_orderHere Q d cN sN M 134 [some (.ref l0), some (.int l1)] [] := by
  refine zi_aload_n dX6_orderHere_134 rfl zrf_r ?_
  refine zi_iload_n dX6_orderHere_135 rfl ?_
  refine zi_iconst dX6_orderHere_136 (by decide +kernel : Int32.ofInt (3) = (3 : Int32)) ?_
  refine zi_iadd dX6_orderHere_137 ?_
  refine zi_iconst dX6_orderHere_138 (by decide +kernel : Int32.ofInt (1) = (1 : Int32)) ?_
  refine zi_iconst dX6_orderHere_139 (by decide +kernel : Int32.ofInt (1) = (1 : Int32)) ?_
  exact kk
theorem sX6_orderHere_143 {g : ZG} {Q : ZQ} {d cN sN : Nat} {M : ZM} {t0 : Int32} {o0 o1 : Option Value}  (kt : (t0 : Int32) = 0 → Z g kX6_orderHere Q d cN sN M 150 [o0, o1] []) (kf : ¬ (t0 : Int32) = 0 → Z g kX6_orderHere Q d cN sN M 146 [o0, o1] []) : Z g kX6_orderHere Q d cN sN M 143 [o0, o1] [.int t0] := by
  exact zi_if_eq (tgt := 150) dX6_orderHere_143 (by decide +kernel) kt kf
theorem sX6_orderHere_146 {g : ZG} {Q : ZQ} {d cN sN : Nat} {M : ZM} {o0 o1 : Option Value}  (kk : Z g kX6_orderHere Q d cN sN M 151 [o0, o1] [.int 1]) : Z g kX6_orderHere Q d cN sN M 146 [o0, o1] [] := by
  refine zi_iconst dX6_orderHere_146 (by decide +kernel : Int32.ofInt (1) = (1 : Int32)) ?_
  exact zi_goto (tgt := 151) dX6_orderHere_147 (by decide +kernel) kk
theorem sX6_orderHere_150 {g : ZG} {Q : ZQ} {d cN sN : Nat} {M : ZM} {o0 o1 : Option Value}  (kk : Z g kX6_orderHere Q d cN sN M 151 [o0, o1] [.int 0]) : Z g kX6_orderHere Q d cN sN M 150 [o0, o1] [] := by
  refine zi_iconst dX6_orderHere_150 (by decide +kernel : Int32.ofInt (0) = (0 : Int32)) ?_
  exact kk
theorem sX6_orderHere_151 {g : ZG} {Q : ZQ} {d cN sN : Nat} {M : ZM} {t0 : Int32} {o0 o1 : Option Value} (h1 : t0 = 0 ∨ t0 = 1) (kk : Q.1 (some (.int t0)) M) : Z g kX6_orderHere Q d cN sN M 151 [o0, o1] [.int t0] := by
  exact zi_ireturn dX6_orderHere_151 rfl (znar_z h1) kk
theorem sX6_orderHere_152 {g : ZG} {Q : ZQ} {d cN sN : Nat} {M : ZM} {l0 : Nat} {o1 : Option Value}  (kk : Z g kX6_orderHere Q d cN sN M 155 [some (.ref l0), o1] [.int 108, .ref l0]) : Z g kX6_orderHere Q d cN sN M 152 [some (.ref l0), o1] [] := by
  refine zi_aload_n dX6_orderHere_152 rfl zrf_r ?_
  refine zi_bipush dX6_orderHere_153 (by decide +kernel : (Int8.ofInt (108)).toInt32 = (108 : Int32)) ?_
  exact kk
theorem sX6_orderHere_158 {g : ZG} {Q : ZQ} {d cN sN : Nat} {M : ZM} {t0 : Int32} {o0 o1 : Option Value}  (kt : ¬ (t0 : Int32) = 0 → Z g kX6_orderHere Q d cN sN M 179 [o0, o1] []) (kf : (t0 : Int32) = 0 → Z g kX6_orderHere Q d cN sN M 161 [o0, o1] []) : Z g kX6_orderHere Q d cN sN M 158 [o0, o1] [.int t0] := by
  exact zi_if_ne (tgt := 179) dX6_orderHere_158 (by decide +kernel) kt kf
theorem sX6_orderHere_161 {g : ZG} {Q : ZQ} {d cN sN : Nat} {M : ZM} {l0 : Nat} {o1 : Option Value}  (kk : Z g kX6_orderHere Q d cN sN M 164 [some (.ref l0), o1] [.int 99, .ref l0]) : Z g kX6_orderHere Q d cN sN M 161 [some (.ref l0), o1] [] := by
  refine zi_aload_n dX6_orderHere_161 rfl zrf_r ?_
  refine zi_bipush dX6_orderHere_162 (by decide +kernel : (Int8.ofInt (99)).toInt32 = (99 : Int32)) ?_
  exact kk
theorem sX6_orderHere_167 {g : ZG} {Q : ZQ} {d cN sN : Nat} {M : ZM} {t0 : Int32} {o0 o1 : Option Value}  (kt : ¬ (t0 : Int32) = 0 → Z g kX6_orderHere Q d cN sN M 179 [o0, o1] []) (kf : (t0 : Int32) = 0 → Z g kX6_orderHere Q d cN sN M 170 [o0, o1] []) : Z g kX6_orderHere Q d cN sN M 167 [o0, o1] [.int t0] := by
  exact zi_if_ne (tgt := 179) dX6_orderHere_167 (by decide +kernel) kt kf
theorem sX6_orderHere_170 {g : ZG} {Q : ZQ} {d cN sN : Nat} {M : ZM} {l0 : Nat} {o1 : Option Value}  (kk : Z g kX6_orderHere Q d cN sN M 173 [some (.ref l0), o1] [.int 114, .ref l0]) : Z g kX6_orderHere Q d cN sN M 170 [some (.ref l0), o1] [] := by
  refine zi_aload_n dX6_orderHere_170 rfl zrf_r ?_
  refine zi_bipush dX6_orderHere_171 (by decide +kernel : (Int8.ofInt (114)).toInt32 = (114 : Int32)) ?_
  exact kk
theorem sX6_orderHere_176 {g : ZG} {Q : ZQ} {d cN sN : Nat} {M : ZM} {t0 : Int32} {o0 o1 : Option Value}  (kt : (t0 : Int32) = 0 → Z g kX6_orderHere Q d cN sN M 207 [o0, o1] []) (kf : ¬ (t0 : Int32) = 0 → Z g kX6_orderHere Q d cN sN M 179 [o0, o1] []) : Z g kX6_orderHere Q d cN sN M 176 [o0, o1] [.int t0] := by
  exact zi_if_eq (tgt := 207) dX6_orderHere_176 (by decide +kernel) kt kf
theorem sX6_orderHere_179 {g : ZG} {Q : ZQ} {d cN sN : Nat} {M : ZM} {l0 : Nat} {l1 : Int32}  (kk : Z g kX6_orderHere Q d cN sN M 184 [some (.ref l0), some (.int l1)] [.int 1, .int (l1 + 1), .ref l0]) : Z g kX6_orderHere Q d cN sN M 179 [some (.ref l0), some (.int l1)] [] := by
  refine zi_aload_n dX6_orderHere_179 rfl zrf_r ?_
  refine zi_iload_n dX6_orderHere_180 rfl ?_
  refine zi_iconst dX6_orderHere_181 (by decide +kernel : Int32.ofInt (1) = (1 : Int32)) ?_
  refine zi_iadd dX6_orderHere_182 ?_
  refine zi_iconst dX6_orderHere_183 (by decide +kernel : Int32.ofInt (1) = (1 : Int32)) ?_
  exact kk
theorem sX6_orderHere_187 {g : ZG} {Q : ZQ} {d cN sN : Nat} {M : ZM} {t0 : Int32} {o0 o1 : Option Value}  (kt : (t0 : Int32) = 0 → Z g kX6_orderHere Q d cN sN M 205 [o0, o1] []) (kf : ¬ (t0 : Int32) = 0 → Z g kX6_orderHere Q d cN sN M 190 [o0, o1] []) : Z g kX6_orderHere Q d cN sN M 187 [o0, o1] [.int t0] := by
  exact zi_if_eq (tgt := 205) dX6_orderHere_187 (by decide +kernel) kt kf
theorem sX6_orderHere_190 {g : ZG} {Q : ZQ} {d cN sN : Nat} {M : ZM} {l0 : Nat} {l1 : Int32}  (kk : Z g kX6_orderHere Q d cN sN M 195 [some (.ref l0), some (.int l1)] [.int 1, .int (l1 + 2), .ref l0]) : Z g kX6_orderHere Q d cN sN M 190 [some (.ref l0), some (.int l1)] [] := by
  refine zi_aload_n dX6_orderHere_190 rfl zrf_r ?_
  refine zi_iload_n dX6_orderHere_191 rfl ?_
  refine zi_iconst dX6_orderHere_192 (by decide +kernel : Int32.ofInt (2) = (2 : Int32)) ?_
  refine zi_iadd dX6_orderHere_193 ?_
  refine zi_iconst dX6_orderHere_194 (by decide +kernel : Int32.ofInt (1) = (1 : Int32)) ?_
  exact kk
theorem sX6_orderHere_198 {g : ZG} {Q : ZQ} {d cN sN : Nat} {M : ZM} {t0 : Int32} {o0 o1 : Option Value}  (kt : (t0 : Int32) = 0 → Z g kX6_orderHere Q d cN sN M 205 [o0, o1] []) (kf : ¬ (t0 : Int32) = 0 → Z g kX6_orderHere Q d cN sN M 201 [o0, o1] []) : Z g kX6_orderHere Q d cN sN M 198 [o0, o1] [.int t0] := by
  exact zi_if_eq (tgt := 205) dX6_orderHere_198 (by decide +kernel) kt kf
theorem sX6_orderHere_201 {g : ZG} {Q : ZQ} {d cN sN : Nat} {M : ZM} {o0 o1 : Option Value}  (kk : Z g kX6_orderHere Q d cN sN M 206 [o0, o1] [.int 1]) : Z g kX6_orderHere Q d cN sN M 201 [o0, o1] [] := by
  refine zi_iconst dX6_orderHere_201 (by decide +kernel : Int32.ofInt (1) = (1 : Int32)) ?_
  exact zi_goto (tgt := 206) dX6_orderHere_202 (by decide +kernel) kk
theorem sX6_orderHere_205 {g : ZG} {Q : ZQ} {d cN sN : Nat} {M : ZM} {o0 o1 : Option Value}  (kk : Z g kX6_orderHere Q d cN sN M 206 [o0, o1] [.int 0]) : Z g kX6_orderHere Q d cN sN M 205 [o0, o1] [] := by
  refine zi_iconst dX6_orderHere_205 (by decide +kernel : Int32.ofInt (0) = (0 : Int32)) ?_
  exact kk
theorem sX6_orderHere_206 {g : ZG} {Q : ZQ} {d cN sN : Nat} {M : ZM} {t0 : Int32} {o0 o1 : Option Value} (h1 : t0 = 0 ∨ t0 = 1) (kk : Q.1 (some (.int t0)) M) : Z g kX6_orderHere Q d cN sN M 206 [o0, o1] [.int t0] := by
  exact zi_ireturn dX6_orderHere_206 rfl (znar_z h1) kk
theorem sX6_orderHere_207 {g : ZG} {Q : ZQ} {d cN sN : Nat} {M : ZM} {l0 : Nat} {o1 : Option Value}  (kk : Z g kX6_orderHere Q d cN sN M 210 [some (.ref l0), o1] [.int 120, .ref l0]) : Z g kX6_orderHere Q d cN sN M 207 [some (.ref l0), o1] [] := by
  refine zi_aload_n dX6_orderHere_207 rfl zrf_r ?_
  refine zi_bipush dX6_orderHere_208 (by decide +kernel : (Int8.ofInt (120)).toInt32 = (120 : Int32)) ?_
  exact kk
theorem sX6_orderHere_213 {g : ZG} {Q : ZQ} {d cN sN : Nat} {M : ZM} {t0 : Int32} {o0 o1 : Option Value}  (kt : (t0 : Int32) = 0 → Z g kX6_orderHere Q d cN sN M 231 [o0, o1] []) (kf : ¬ (t0 : Int32) = 0 → Z g kX6_orderHere Q d cN sN M 216 [o0, o1] []) : Z g kX6_orderHere Q d cN sN M 213 [o0, o1] [.int t0] := by
  exact zi_if_eq (tgt := 231) dX6_orderHere_213 (by decide +kernel) kt kf
theorem sX6_orderHere_216 {g : ZG} {Q : ZQ} {d cN sN : Nat} {M : ZM} {l0 : Nat} {l1 : Int32}  (kk : Z g kX6_orderHere Q d cN sN M 221 [some (.ref l0), some (.int l1)] [.int 1, .int (l1 + 1), .ref l0]) : Z g kX6_orderHere Q d cN sN M 216 [some (.ref l0), some (.int l1)] [] := by
  refine zi_aload_n dX6_orderHere_216 rfl zrf_r ?_
  refine zi_iload_n dX6_orderHere_217 rfl ?_
  refine zi_iconst dX6_orderHere_218 (by decide +kernel : Int32.ofInt (1) = (1 : Int32)) ?_
  refine zi_iadd dX6_orderHere_219 ?_
  refine zi_iconst dX6_orderHere_220 (by decide +kernel : Int32.ofInt (1) = (1 : Int32)) ?_
  exact kk
theorem sX6_orderHere_224 {g : ZG} {Q : ZQ} {d cN sN : Nat} {M : ZM} {t0 : Int32} {o0 o1 : Option Value}  (kt : (t0 : Int32) = 0 → Z g kX6_orderHere Q d cN sN M 231 [o0, o1] []) (kf : ¬ (t0 : Int32) = 0 → Z g kX6_orderHere Q d cN sN M 227 [o0, o1] []) : Z g kX6_orderHere Q d cN sN M 224 [o0, o1] [.int t0] := by
  exact zi_if_eq (tgt := 231) dX6_orderHere_224 (by decide +kernel) kt kf
theorem sX6_orderHere_227 {g : ZG} {Q : ZQ} {d cN sN : Nat} {M : ZM} {o0 o1 : Option Value}  (kk : Z g kX6_orderHere Q d cN sN M 232 [o0, o1] [.int 1]) : Z g kX6_orderHere Q d cN sN M 227 [o0, o1] [] := by
  refine zi_iconst dX6_orderHere_227 (by decide +kernel : Int32.ofInt (1) = (1 : Int32)) ?_
  exact zi_goto (tgt := 232) dX6_orderHere_228 (by decide +kernel) kk
theorem sX6_orderHere_231 {g : ZG} {Q : ZQ} {d cN sN : Nat} {M : ZM} {o0 o1 : Option Value}  (kk : Z g kX6_orderHere Q d cN sN M 232 [o0, o1] [.int 0]) : Z g kX6_orderHere Q d cN sN M 231 [o0, o1] [] := by
  refine zi_iconst dX6_orderHere_231 (by decide +kernel : Int32.ofInt (0) = (0 : Int32)) ?_
  exact kk
theorem sX6_orderHere_232 {g : ZG} {Q : ZQ} {d cN sN : Nat} {M : ZM} {t0 : Int32} {o0 o1 : Option Value} (h1 : t0 = 0 ∨ t0 = 1) (kk : Q.1 (some (.int t0)) M) : Z g kX6_orderHere Q d cN sN M 232 [o0, o1] [.int t0] := by
  exact zi_ireturn dX6_orderHere_232 rfl (znar_z h1) kk
abbrev kX6_here : ZK := (RX6, cX6_here, 1, (Option.some Jvm.ClassFile.FieldType.int), [], false, fX6)
abbrev tX6_here (g : ZG) (args : List Value) (M : ZM) (d c s : Nat) (Q : ZQ) : Prop := Ct g yX6_here (ws_ yX6_here cX6_here 1 (Option.some Jvm.ClassFile.FieldType.int)) args M d c s Q
abbrev nX6_here : Nat := 1
theorem mX6_here : zMok yX6_here 0 1 := ⟨⟨by decide +kernel, by decide +kernel, by decide +kernel⟩, by decide⟩
theorem eX6_here {g : ZG} {Q : ZQ} {d cN sN : Nat} {M : ZM} {a0 : Nat} (hV : zV g) (h : Z g kX6_here Q d cN sN M 0 [some (.ref a0)] []) : tX6_here g [.ref a0] M d cN sN Q := Ct.of (K := kX6_here) rfl (by decide +kernel) hV fokX6 rfl (fun h => by cases h) (fun v hv => by simp only [List.mem_cons, List.not_mem_nil, or_false] at hv; rcases hv with rfl <;> first | rfl | assumption) (Nat.le_of_ble_eq_true rfl) h
theorem sX6_here_0 {g : ZG} {Q : ZQ} {d cN sN : Nat} {M : ZM} {l0 : Nat} {fs1 : List Value} {y3 : Int32} {y5 : Int32} (h2 : M.1 l0 = some (.inr (5, fs1))) (h4 : (fs1)[18]? = some (.int y3)) (h6 : (fs1)[14]? = some (.int y5)) (kt : (y5 : Int32) ≤ (y3 : Int32) → Z g kX6_here Q d cN sN M 23 [some (.ref l0)] []) (kf : ¬ (y5 : Int32) ≤ (y3 : Int32) → Z g kX6_here Q d cN sN M 11 [some (.ref l0)] []) : Z g kX6_here Q d cN sN M 0 [some (.ref l0)] [] := by
  refine zi_aload_n dX6_here_0 rfl zrf_r ?_
  refine zi_getfield dX6_here_1 rfl h2 h4 ?_
  refine zi_aload_n dX6_here_4 rfl zrf_r ?_
  refine zi_getfield dX6_here_5 rfl h2 h6 ?_
  exact zi_icmp_ge (tgt := 23) dX6_here_8 (by decide +kernel) kt kf
theorem sX6_here_11 {g : ZG} {Q : ZQ} {d cN sN : Nat} {M : ZM} {l0 : Nat} {fs1 : List Value} {r3 : Nat} {y5 : Int32} {n7 : Nat} {f8 : Nat → Int32} (h2 : M.1 l0 = some (.inr (5, fs1))) (h4 : (fs1)[13]? = some (.ref r3)) (h6 : (fs1)[18]? = some (.int y5)) (h9 : M.1 r3 = some (.inl (zA g 0, n7, .inl f8))) (h10 : vp_in (y5) n7) (kk : Z g kX6_here Q d cN sN M 24 [some (.ref l0)] [.int (f8 ((y5 : Int32).toNatClampNeg))]) : Z g kX6_here Q d cN sN M 11 [some (.ref l0)] [] := by
  refine zi_aload_n dX6_here_11 rfl zrf_r ?_
  refine zi_getfield dX6_here_12 rfl h2 h4 ?_
  refine zi_aload_n dX6_here_15 rfl zrf_r ?_
  refine zi_getfield dX6_here_16 rfl h2 h6 ?_
  refine zi_iaload dX6_here_19 h9 h10 ?_
  exact zi_goto (tgt := 24) dX6_here_20 (by decide +kernel) kk
theorem sX6_here_23 {g : ZG} {Q : ZQ} {d cN sN : Nat} {M : ZM} {o0 : Option Value}  (kk : Z g kX6_here Q d cN sN M 24 [o0] [.int ((-1))]) : Z g kX6_here Q d cN sN M 23 [o0] [] := by
  refine zi_iconst dX6_here_23 (by decide +kernel : Int32.ofInt (-1) = (-1 : Int32)) ?_
  exact kk
theorem sX6_here_24 {g : ZG} {Q : ZQ} {d cN sN : Nat} {M : ZM} {t0 : Int32} {o0 : Option Value}  (kk : Q.1 (some (.int t0)) M) : Z g kX6_here Q d cN sN M 24 [o0] [.int t0] := by
  exact zi_ireturn dX6_here_24 rfl rfl kk
abbrev kX6_skips : ZK := (RX6, cX6_skips, 2, (Option.some Jvm.ClassFile.FieldType.boolean), [], false, fX6)
abbrev tX6_skips (g : ZG) (args : List Value) (M : ZM) (d c s : Nat) (Q : ZQ) : Prop := Ct g yX6_skips (ws_ yX6_skips cX6_skips 2 (Option.some Jvm.ClassFile.FieldType.boolean)) args M d c s Q
abbrev nX6_skips : Nat := 2
theorem mX6_skips : zMok yX6_skips 1 2 := ⟨⟨by decide +kernel, by decide +kernel, by decide +kernel⟩, by decide⟩
theorem eX6_skips {g : ZG} {Q : ZQ} {d cN sN : Nat} {M : ZM} {a0 : Nat} {x1 : Int32} (hV : zV g) (h : Z g kX6_skips Q d cN sN M 0 [some (.ref a0), some (.int x1)] []) : tX6_skips g [.ref a0, .int x1] M d cN sN Q := Ct.of (K := kX6_skips) rfl (by decide +kernel) hV fokX6 rfl (fun h => by cases h) (fun v hv => by simp only [List.mem_cons, List.not_mem_nil, or_false] at hv; rcases hv with rfl | rfl <;> first | rfl | assumption) (Nat.le_of_ble_eq_true rfl) h
theorem sX6_skips_0 {g : ZG} {Q : ZQ} {d cN sN : Nat} {M : ZM} {l0 : Nat} {o1 : Option Value}  (kk : Z g kX6_skips Q d cN sN M 1 [some (.ref l0), o1] [.ref l0]) : Z g kX6_skips Q d cN sN M 0 [some (.ref l0), o1] [] := by
  refine zi_aload_n dX6_skips_0 rfl zrf_r ?_
  exact kk
theorem sX6_skips_4 {g : ZG} {Q : ZQ} {d cN sN : Nat} {M : ZM} {t0 : Int32} {l1 : Int32} {o0 : Option Value}  (kt : (t0 : Int32) = (l1 : Int32) → Z g kX6_skips Q d cN sN M 10 [o0, some (.int l1)] []) (kf : ¬ (t0 : Int32) = (l1 : Int32) → Z g kX6_skips Q d cN sN M 8 [o0, some (.int l1)] []) : Z g kX6_skips Q d cN sN M 4 [o0, some (.int l1)] [.int t0] := by
  refine zi_iload_n dX6_skips_4 rfl ?_
  exact zi_icmp_eq (tgt := 10) dX6_skips_5 (by decide +kernel) kt kf
theorem sX6_skips_8 {g : ZG} {Q : ZQ} {d cN sN : Nat} {M : ZM} {o0 o1 : Option Value}  (kk : Q.1 (some (.int 0)) M) : Z g kX6_skips Q d cN sN M 8 [o0, o1] [] := by
  refine zi_iconst dX6_skips_8 (by decide +kernel : Int32.ofInt (0) = (0 : Int32)) ?_
  exact zi_ireturn dX6_skips_9 rfl (znar_z (by decide)) kk
theorem sX6_skips_10 {g : ZG} {Q : ZQ} {d cN sN : Nat} {M : ZM} {l0 : Nat} {fs1 : List Value} {y3 : Int32} {o1 : Option Value} (h2 : M.1 l0 = some (.inr (5, fs1))) (h4 : (fs1)[18]? = some (.int y3)) (h5 : 18 < (fs1).length) (kk : Q.1 (some (.int 1)) (zup M l0 (.inr (5, (fs1).set 18 (.int (y3 + 1)))))) : Z g kX6_skips Q d cN sN M 10 [some (.ref l0), o1] [] := by
  refine zi_aload_n dX6_skips_10 rfl zrf_r ?_
  refine zi_dup dX6_skips_11 rfl ?_
  refine zi_getfield dX6_skips_12 rfl h2 h4 ?_
  refine zi_iconst dX6_skips_15 (by decide +kernel : Int32.ofInt (1) = (1 : Int32)) ?_
  refine zi_iadd dX6_skips_16 ?_
  refine zi_putfield dX6_skips_17 rfl h2 h5 zfit_i (Or.inl rfl) ?_
  refine zi_iconst dX6_skips_20 (by decide +kernel : Int32.ofInt (1) = (1 : Int32)) ?_
  exact zi_ireturn dX6_skips_21 rfl (znar_z (by decide)) kk
abbrev kX6_figures : ZK := (RX6, cX6_figures, 4, (Option.some Jvm.ClassFile.FieldType.boolean), [], false, fX6)
abbrev tX6_figures (g : ZG) (args : List Value) (M : ZM) (d c s : Nat) (Q : ZQ) : Prop := Ct g yX6_figures (ws_ yX6_figures cX6_figures 4 (Option.some Jvm.ClassFile.FieldType.boolean)) args M d c s Q
abbrev nX6_figures : Nat := 2
theorem mX6_figures : zMok yX6_figures 2 4 := ⟨⟨by decide +kernel, by decide +kernel, by decide +kernel⟩, by decide⟩
theorem eX6_figures {g : ZG} {Q : ZQ} {d cN sN : Nat} {M : ZM} {a0 : Nat} {x1 : Int32} {x2 : Int32} (hV : zV g) (h : Z g kX6_figures Q d cN sN M 0 [some (.ref a0), some (.int x1), some (.int x2), none] []) : tX6_figures g [.ref a0, .int x1, .int x2] M d cN sN Q := Ct.of (K := kX6_figures) rfl (by decide +kernel) hV fokX6 rfl (fun h => by cases h) (fun v hv => by simp only [List.mem_cons, List.not_mem_nil, or_false] at hv; rcases hv with rfl | rfl | rfl <;> first | rfl | assumption) (Nat.le_of_ble_eq_true rfl) h
theorem sX6_figures_0 {g : ZG} {Q : ZQ} {d cN sN : Nat} {M : ZM} {l0 : Nat} {o1 o2 o3 : Option Value}  (kk : Z g kX6_figures Q d cN sN M 1 [some (.ref l0), o1, o2, o3] [.ref l0]) : Z g kX6_figures Q d cN sN M 0 [some (.ref l0), o1, o2, o3] [] := by
  refine zi_aload_n dX6_figures_0 rfl zrf_r ?_
  exact kk
theorem sX6_figures_4 {g : ZG} {Q : ZQ} {d cN sN : Nat} {M : ZM} {t0 : Int32} {o0 o1 o2 o3 : Option Value}  (kk : Z g kX6_figures Q d cN sN M 8 [o0, o1, o2, o3] [.int 57, .int 48, .int t0]) : Z g kX6_figures Q d cN sN M 4 [o0, o1, o2, o3] [.int t0] := by
  refine zi_bipush dX6_figures_4 (by decide +kernel : (Int8.ofInt (48)).toInt32 = (48 : Int32)) ?_
  refine zi_bipush dX6_figures_6 (by decide +kernel : (Int8.ofInt (57)).toInt32 = (57 : Int32)) ?_
  exact kk
theorem sX6_figures_11 {g : ZG} {Q : ZQ} {d cN sN : Nat} {M : ZM} {t0 : Int32} {o0 o1 o2 o3 : Option Value}  (kt : ¬ (t0 : Int32) = 0 → Z g kX6_figures Q d cN sN M 16 [o0, o1, o2, o3] []) (kf : (t0 : Int32) = 0 → Z g kX6_figures Q d cN sN M 14 [o0, o1, o2, o3] []) : Z g kX6_figures Q d cN sN M 11 [o0, o1, o2, o3] [.int t0] := by
  exact zi_if_ne (tgt := 16) dX6_figures_11 (by decide +kernel) kt kf
theorem sX6_figures_14 {g : ZG} {Q : ZQ} {d cN sN : Nat} {M : ZM} {o0 o1 o2 o3 : Option Value}  (kk : Q.1 (some (.int 0)) M) : Z g kX6_figures Q d cN sN M 14 [o0, o1, o2, o3] [] := by
  refine zi_iconst dX6_figures_14 (by decide +kernel : Int32.ofInt (0) = (0 : Int32)) ?_
  exact zi_ireturn dX6_figures_15 rfl (znar_z (by decide)) kk
theorem sX6_figures_16 {g : ZG} {Q : ZQ} {d cN sN : Nat} {M : ZM} {l0 : Nat} {fs1 : List Value} {r3 : Nat} {l1 : Int32} {n5 : Nat} {f6 : Nat → Int32} {o2 o3 : Option Value} (h2 : M.1 l0 = some (.inr (5, fs1))) (h4 : (fs1)[19]? = some (.ref r3)) (h7 : M.1 r3 = some (.inl (zA g 0, n5, .inl (f6)))) (h8 : vp_in (l1) n5) (kk : Z g kX6_figures Q d cN sN (zup M r3 (.inl (zA g 0, n5, .inl (upd f6 ((l1 : Int32).toNatClampNeg) (0))))) 25 [some (.ref l0), some (.int l1), o2, some (.int 0)] []) : Z g kX6_figures Q d cN sN M 16 [some (.ref l0), some (.int l1), o2, o3] [] := by
  refine zi_aload_n dX6_figures_16 rfl zrf_r ?_
  refine zi_getfield dX6_figures_17 rfl h2 h4 ?_
  refine zi_iload_n dX6_figures_20 rfl ?_
  refine zi_iconst dX6_figures_21 (by decide +kernel : Int32.ofInt (0) = (0 : Int32)) ?_
  refine zi_iastore dX6_figures_22 h7 h8 ?_
  refine zi_iconst dX6_figures_23 (by decide +kernel : Int32.ofInt (0) = (0 : Int32)) ?_
  refine zi_istore_n dX6_figures_24 (Nat.le_of_ble_eq_true rfl) ?_
  exact kk
theorem sX6_figures_25 {g : ZG} {Q : ZQ} {d cN sN : Nat} {M : ZM} {l3 : Int32} {l2 : Int32} {o0 o1 : Option Value}  (kt : (l2 : Int32) ≤ (l3 : Int32) → Z g kX6_figures Q d cN sN M 83 [o0, o1, some (.int l2), some (.int l3)] []) (kf : ¬ (l2 : Int32) ≤ (l3 : Int32) → Z g kX6_figures Q d cN sN M 30 [o0, o1, some (.int l2), some (.int l3)] []) : Z g kX6_figures Q d cN sN M 25 [o0, o1, some (.int l2), some (.int l3)] [] := by
  refine zi_iload_n dX6_figures_25 rfl ?_
  refine zi_iload_n dX6_figures_26 rfl ?_
  exact zi_icmp_ge (tgt := 83) dX6_figures_27 (by decide +kernel) kt kf
theorem sX6_figures_30 {g : ZG} {Q : ZQ} {d cN sN : Nat} {M : ZM} {l0 : Nat} {o1 o2 o3 : Option Value}  (kk : Z g kX6_figures Q d cN sN M 31 [some (.ref l0), o1, o2, o3] [.ref l0]) : Z g kX6_figures Q d cN sN M 30 [some (.ref l0), o1, o2, o3] [] := by
  refine zi_aload_n dX6_figures_30 rfl zrf_r ?_
  exact kk
theorem sX6_figures_34 {g : ZG} {Q : ZQ} {d cN sN : Nat} {M : ZM} {t0 : Int32} {o0 o1 o2 o3 : Option Value}  (kk : Z g kX6_figures Q d cN sN M 38 [o0, o1, o2, o3] [.int 57, .int 48, .int t0]) : Z g kX6_figures Q d cN sN M 34 [o0, o1, o2, o3] [.int t0] := by
  refine zi_bipush dX6_figures_34 (by decide +kernel : (Int8.ofInt (48)).toInt32 = (48 : Int32)) ?_
  refine zi_bipush dX6_figures_36 (by decide +kernel : (Int8.ofInt (57)).toInt32 = (57 : Int32)) ?_
  exact kk
theorem sX6_figures_41 {g : ZG} {Q : ZQ} {d cN sN : Nat} {M : ZM} {t0 : Int32} {o0 o1 o2 o3 : Option Value}  (kt : (t0 : Int32) = 0 → Z g kX6_figures Q d cN sN M 83 [o0, o1, o2, o3] []) (kf : ¬ (t0 : Int32) = 0 → Z g kX6_figures Q d cN sN M 44 [o0, o1, o2, o3] []) : Z g kX6_figures Q d cN sN M 41 [o0, o1, o2, o3] [.int t0] := by
  exact zi_if_eq (tgt := 83) dX6_figures_41 (by decide +kernel) kt kf
theorem sX6_figures_44 {g : ZG} {Q : ZQ} {d cN sN : Nat} {M : ZM} {l0 : Nat} {fs1 : List Value} {r3 : Nat} {l1 : Int32} {n5 : Nat} {f6 : Nat → Int32} {o2 o3 : Option Value} (h2 : M.1 l0 = some (.inr (5, fs1))) (h4 : (fs1)[19]? = some (.ref r3)) (h7 : M.1 r3 = some (.inl (zA g 0, n5, .inl f6))) (h8 : vp_in (l1) n5) (kk : Z g kX6_figures Q d cN sN M 59 [some (.ref l0), some (.int l1), o2, o3] [.ref l0, .int (10 * (f6 ((l1 : Int32).toNatClampNeg))), .int l1, .ref r3]) : Z g kX6_figures Q d cN sN M 44 [some (.ref l0), some (.int l1), o2, o3] [] := by
  refine zi_aload_n dX6_figures_44 rfl zrf_r ?_
  refine zi_getfield dX6_figures_45 rfl h2 h4 ?_
  refine zi_iload_n dX6_figures_48 rfl ?_
  refine zi_bipush dX6_figures_49 (by decide +kernel : (Int8.ofInt (10)).toInt32 = (10 : Int32)) ?_
  refine zi_aload_n dX6_figures_51 rfl zrf_r ?_
  refine zi_getfield dX6_figures_52 rfl h2 h4 ?_
  refine zi_iload_n dX6_figures_55 rfl ?_
  refine zi_iaload dX6_figures_56 h7 h8 ?_
  refine zi_imul dX6_figures_57 ?_
  refine zi_aload_n dX6_figures_58 rfl zrf_r ?_
  exact kk
theorem sX6_figures_62 {g : ZG} {Q : ZQ} {d cN sN : Nat} {M : ZM} {t0 : Nat} {t1 : Int32} {t2 : Int32} {t3 : Int32} {n1 : Nat} {f2 : Nat → Int32} {l0 : Nat} {fs5 : List Value} {y7 : Int32} {l3 : Int32} {o1 o2 : Option Value} (h3 : M.1 t0 = some (.inl (zA g 0, n1, .inl (f2)))) (h4 : vp_in (t1) n1) (h6 : (zup M t0 (.inl (zA g 0, n1, .inl (upd f2 ((t1 : Int32).toNatClampNeg) ((t2 + t3) - 48))))).1 l0 = some (.inr (5, fs5))) (h8 : (fs5)[18]? = some (.int y7)) (h9 : 18 < (fs5).length) (kk : Z g kX6_figures Q d cN sN (zup (zup M t0 (.inl (zA g 0, n1, .inl (upd f2 ((t1 : Int32).toNatClampNeg) ((t2 + t3) - 48))))) l0 (.inr (5, (fs5).set 18 (.int (y7 + 1))))) 25 [some (.ref l0), o1, o2, some (.int (l3 + 1))] []) : Z g kX6_figures Q d cN sN M 62 [some (.ref l0), o1, o2, some (.int l3)] [.int t3, .int t2, .int t1, .ref t0] := by
  refine zi_iadd dX6_figures_62 ?_
  refine zi_bipush dX6_figures_63 (by decide +kernel : (Int8.ofInt (48)).toInt32 = (48 : Int32)) ?_
  refine zi_isub dX6_figures_65 ?_
  refine zi_iastore dX6_figures_66 h3 h4 ?_
  refine zi_aload_n dX6_figures_67 rfl zrf_r ?_
  refine zi_dup dX6_figures_68 rfl ?_
  refine zi_getfield dX6_figures_69 rfl h6 h8 ?_
  refine zi_iconst dX6_figures_72 (by decide +kernel : Int32.ofInt (1) = (1 : Int32)) ?_
  refine zi_iadd dX6_figures_73 ?_
  refine zi_putfield dX6_figures_74 rfl h6 h9 zfit_i (Or.inl rfl) ?_
  refine zi_iinc dX6_figures_77 rfl (by decide +kernel : Int32.ofInt (1) = 1) (Nat.le_of_ble_eq_true rfl) ?_
  exact zi_goto (tgt := 25) dX6_figures_80 (by decide +kernel) kk
theorem sX6_figures_83 {g : ZG} {Q : ZQ} {d cN sN : Nat} {M : ZM} {o0 o1 o2 o3 : Option Value}  (kk : Q.1 (some (.int 1)) M) : Z g kX6_figures Q d cN sN M 83 [o0, o1, o2, o3] [] := by
  refine zi_iconst dX6_figures_83 (by decide +kernel : Int32.ofInt (1) = (1 : Int32)) ?_
  exact zi_ireturn dX6_figures_84 rfl (znar_z (by decide)) kk
abbrev kX6_wordHere : ZK := (RX6, cX6_wordHere, 5, (Option.some Jvm.ClassFile.FieldType.boolean), [], false, fX6)
abbrev tX6_wordHere (g : ZG) (args : List Value) (M : ZM) (d c s : Nat) (Q : ZQ) : Prop := Ct g yX6_wordHere (ws_ yX6_wordHere cX6_wordHere 5 (Option.some Jvm.ClassFile.FieldType.boolean)) args M d c s Q
abbrev nX6_wordHere : Nat := 2
theorem mX6_wordHere : zMok yX6_wordHere 3 5 := ⟨⟨by decide +kernel, by decide +kernel, by decide +kernel⟩, by decide⟩
theorem eX6_wordHere {g : ZG} {Q : ZQ} {d cN sN : Nat} {M : ZM} {a0 : Nat} {x1 : Int32} {x2 : Int32} {x3 : Int32} (hV : zV g) (h : Z g kX6_wordHere Q d cN sN M 0 [some (.ref a0), some (.int x1), some (.int x2), some (.int x3), none] []) : tX6_wordHere g [.ref a0, .int x1, .int x2, .int x3] M d cN sN Q := Ct.of (K := kX6_wordHere) rfl (by decide +kernel) hV fokX6 rfl (fun h => by cases h) (fun v hv => by simp only [List.mem_cons, List.not_mem_nil, or_false] at hv; rcases hv with rfl | rfl | rfl | rfl <;> first | rfl | assumption) (Nat.le_of_ble_eq_true rfl) h
theorem sX6_wordHere_0 {g : ZG} {Q : ZQ} {d cN sN : Nat} {M : ZM} {l0 : Nat} {fs1 : List Value} {r3 : Nat} {l1 : Int32} {n5 : Nat} {f6 : Nat → Int32} {o2 o3 o4 : Option Value} (h2 : M.1 l0 = some (.inr (5, fs1))) (h4 : (fs1)[19]? = some (.ref r3)) (h7 : M.1 r3 = some (.inl (zA g 0, n5, .inl (f6)))) (h8 : vp_in (l1) n5) (kk : Z g kX6_wordHere Q d cN sN (zup M r3 (.inl (zA g 0, n5, .inl (upd f6 ((l1 : Int32).toNatClampNeg) (0))))) 10 [some (.ref l0), some (.int l1), o2, o3, some (.int 0)] []) : Z g kX6_wordHere Q d cN sN M 0 [some (.ref l0), some (.int l1), o2, o3, o4] [] := by
  refine zi_iconst dX6_wordHere_0 (by decide +kernel : Int32.ofInt (0) = (0 : Int32)) ?_
  refine zi_istore dX6_wordHere_1 (Nat.le_of_ble_eq_true rfl) ?_
  refine zi_aload_n dX6_wordHere_3 rfl zrf_r ?_
  refine zi_getfield dX6_wordHere_4 rfl h2 h4 ?_
  refine zi_iload_n dX6_wordHere_7 rfl ?_
  refine zi_iconst dX6_wordHere_8 (by decide +kernel : Int32.ofInt (0) = (0 : Int32)) ?_
  refine zi_iastore dX6_wordHere_9 h7 h8 ?_
  exact kk
theorem sX6_wordHere_10 {g : ZG} {Q : ZQ} {d cN sN : Nat} {M : ZM} {l4 : Int32} {l3 : Int32} {o0 o1 o2 : Option Value}  (kt : (l3 : Int32) ≤ (l4 : Int32) → Z g kX6_wordHere Q d cN sN M 71 [o0, o1, o2, some (.int l3), some (.int l4)] []) (kf : ¬ (l3 : Int32) ≤ (l4 : Int32) → Z g kX6_wordHere Q d cN sN M 16 [o0, o1, o2, some (.int l3), some (.int l4)] []) : Z g kX6_wordHere Q d cN sN M 10 [o0, o1, o2, some (.int l3), some (.int l4)] [] := by
  refine zi_iload dX6_wordHere_10 rfl ?_
  refine zi_iload_n dX6_wordHere_12 rfl ?_
  exact zi_icmp_ge (tgt := 71) dX6_wordHere_13 (by decide +kernel) kt kf
theorem sX6_wordHere_16 {g : ZG} {Q : ZQ} {d cN sN : Nat} {M : ZM} {l0 : Nat} {o1 o2 o3 o4 : Option Value}  (kk : Z g kX6_wordHere Q d cN sN M 17 [some (.ref l0), o1, o2, o3, o4] [.ref l0]) : Z g kX6_wordHere Q d cN sN M 16 [some (.ref l0), o1, o2, o3, o4] [] := by
  refine zi_aload_n dX6_wordHere_16 rfl zrf_r ?_
  exact kk
theorem sX6_wordHere_20 {g : ZG} {Q : ZQ} {d cN sN : Nat} {M : ZM} {t0 : Int32} {o0 o1 o2 o3 o4 : Option Value}  (kk : Z g kX6_wordHere Q d cN sN M 24 [o0, o1, o2, o3, o4] [.int 102, .int 97, .int t0]) : Z g kX6_wordHere Q d cN sN M 20 [o0, o1, o2, o3, o4] [.int t0] := by
  refine zi_bipush dX6_wordHere_20 (by decide +kernel : (Int8.ofInt (97)).toInt32 = (97 : Int32)) ?_
  refine zi_bipush dX6_wordHere_22 (by decide +kernel : (Int8.ofInt (102)).toInt32 = (102 : Int32)) ?_
  exact kk
theorem sX6_wordHere_27 {g : ZG} {Q : ZQ} {d cN sN : Nat} {M : ZM} {t0 : Int32} {o0 o1 o2 o3 o4 : Option Value}  (kt : (t0 : Int32) = 0 → Z g kX6_wordHere Q d cN sN M 71 [o0, o1, o2, o3, o4] []) (kf : ¬ (t0 : Int32) = 0 → Z g kX6_wordHere Q d cN sN M 30 [o0, o1, o2, o3, o4] []) : Z g kX6_wordHere Q d cN sN M 27 [o0, o1, o2, o3, o4] [.int t0] := by
  exact zi_if_eq (tgt := 71) dX6_wordHere_27 (by decide +kernel) kt kf
theorem sX6_wordHere_30 {g : ZG} {Q : ZQ} {d cN sN : Nat} {M : ZM} {l0 : Nat} {fs1 : List Value} {r3 : Nat} {l1 : Int32} {n5 : Nat} {f6 : Nat → Int32} {o2 o3 o4 : Option Value} (h2 : M.1 l0 = some (.inr (5, fs1))) (h4 : (fs1)[19]? = some (.ref r3)) (h7 : M.1 r3 = some (.inl (zA g 0, n5, .inl f6))) (h8 : vp_in (l1) n5) (kk : Z g kX6_wordHere Q d cN sN M 45 [some (.ref l0), some (.int l1), o2, o3, o4] [.ref l0, .int (10 * (f6 ((l1 : Int32).toNatClampNeg))), .int l1, .ref r3]) : Z g kX6_wordHere Q d cN sN M 30 [some (.ref l0), some (.int l1), o2, o3, o4] [] := by
  refine zi_aload_n dX6_wordHere_30 rfl zrf_r ?_
  refine zi_getfield dX6_wordHere_31 rfl h2 h4 ?_
  refine zi_iload_n dX6_wordHere_34 rfl ?_
  refine zi_bipush dX6_wordHere_35 (by decide +kernel : (Int8.ofInt (10)).toInt32 = (10 : Int32)) ?_
  refine zi_aload_n dX6_wordHere_37 rfl zrf_r ?_
  refine zi_getfield dX6_wordHere_38 rfl h2 h4 ?_
  refine zi_iload_n dX6_wordHere_41 rfl ?_
  refine zi_iaload dX6_wordHere_42 h7 h8 ?_
  refine zi_imul dX6_wordHere_43 ?_
  refine zi_aload_n dX6_wordHere_44 rfl zrf_r ?_
  exact kk
theorem sX6_wordHere_48 {g : ZG} {Q : ZQ} {d cN sN : Nat} {M : ZM} {t0 : Nat} {t1 : Int32} {t2 : Int32} {t3 : Int32} {n1 : Nat} {f2 : Nat → Int32} {l0 : Nat} {fs5 : List Value} {y7 : Int32} {l4 : Int32} {o1 o2 o3 : Option Value} (h3 : M.1 t0 = some (.inl (zA g 0, n1, .inl (f2)))) (h4 : vp_in (t1) n1) (h6 : (zup M t0 (.inl (zA g 0, n1, .inl (upd f2 ((t1 : Int32).toNatClampNeg) (((t2 + t3) - 97) + 1))))).1 l0 = some (.inr (5, fs5))) (h8 : (fs5)[18]? = some (.int y7)) (h9 : 18 < (fs5).length) (kk : Z g kX6_wordHere Q d cN sN (zup (zup M t0 (.inl (zA g 0, n1, .inl (upd f2 ((t1 : Int32).toNatClampNeg) (((t2 + t3) - 97) + 1))))) l0 (.inr (5, (fs5).set 18 (.int (y7 + 1))))) 10 [some (.ref l0), o1, o2, o3, some (.int (l4 + 1))] []) : Z g kX6_wordHere Q d cN sN M 48 [some (.ref l0), o1, o2, o3, some (.int l4)] [.int t3, .int t2, .int t1, .ref t0] := by
  refine zi_iadd dX6_wordHere_48 ?_
  refine zi_bipush dX6_wordHere_49 (by decide +kernel : (Int8.ofInt (97)).toInt32 = (97 : Int32)) ?_
  refine zi_isub dX6_wordHere_51 ?_
  refine zi_iconst dX6_wordHere_52 (by decide +kernel : Int32.ofInt (1) = (1 : Int32)) ?_
  refine zi_iadd dX6_wordHere_53 ?_
  refine zi_iastore dX6_wordHere_54 h3 h4 ?_
  refine zi_aload_n dX6_wordHere_55 rfl zrf_r ?_
  refine zi_dup dX6_wordHere_56 rfl ?_
  refine zi_getfield dX6_wordHere_57 rfl h6 h8 ?_
  refine zi_iconst dX6_wordHere_60 (by decide +kernel : Int32.ofInt (1) = (1 : Int32)) ?_
  refine zi_iadd dX6_wordHere_61 ?_
  refine zi_putfield dX6_wordHere_62 rfl h6 h9 zfit_i (Or.inl rfl) ?_
  refine zi_iinc dX6_wordHere_65 rfl (by decide +kernel : Int32.ofInt (1) = 1) (Nat.le_of_ble_eq_true rfl) ?_
  exact zi_goto (tgt := 10) dX6_wordHere_68 (by decide +kernel) kk
theorem sX6_wordHere_71 {g : ZG} {Q : ZQ} {d cN sN : Nat} {M : ZM} {l4 : Int32} {l2 : Int32} {o0 o1 o3 : Option Value}  (kt : (l4 : Int32) < (l2 : Int32) → Z g kX6_wordHere Q d cN sN M 81 [o0, o1, some (.int l2), o3, some (.int l4)] []) (kf : ¬ (l4 : Int32) < (l2 : Int32) → Z g kX6_wordHere Q d cN sN M 77 [o0, o1, some (.int l2), o3, some (.int l4)] []) : Z g kX6_wordHere Q d cN sN M 71 [o0, o1, some (.int l2), o3, some (.int l4)] [] := by
  refine zi_iload dX6_wordHere_71 rfl ?_
  refine zi_iload_n dX6_wordHere_73 rfl ?_
  exact zi_icmp_lt (tgt := 81) dX6_wordHere_74 (by decide +kernel) kt kf
theorem sX6_wordHere_77 {g : ZG} {Q : ZQ} {d cN sN : Nat} {M : ZM} {o0 o1 o2 o3 o4 : Option Value}  (kk : Z g kX6_wordHere Q d cN sN M 82 [o0, o1, o2, o3, o4] [.int 1]) : Z g kX6_wordHere Q d cN sN M 77 [o0, o1, o2, o3, o4] [] := by
  refine zi_iconst dX6_wordHere_77 (by decide +kernel : Int32.ofInt (1) = (1 : Int32)) ?_
  exact zi_goto (tgt := 82) dX6_wordHere_78 (by decide +kernel) kk
theorem sX6_wordHere_81 {g : ZG} {Q : ZQ} {d cN sN : Nat} {M : ZM} {o0 o1 o2 o3 o4 : Option Value}  (kk : Z g kX6_wordHere Q d cN sN M 82 [o0, o1, o2, o3, o4] [.int 0]) : Z g kX6_wordHere Q d cN sN M 81 [o0, o1, o2, o3, o4] [] := by
  refine zi_iconst dX6_wordHere_81 (by decide +kernel : Int32.ofInt (0) = (0 : Int32)) ?_
  exact kk
theorem sX6_wordHere_82 {g : ZG} {Q : ZQ} {d cN sN : Nat} {M : ZM} {t0 : Int32} {o0 o1 o2 o3 o4 : Option Value} (h1 : t0 = 0 ∨ t0 = 1) (kk : Q.1 (some (.int t0)) M) : Z g kX6_wordHere Q d cN sN M 82 [o0, o1, o2, o3, o4] [.int t0] := by
  exact zi_ireturn dX6_wordHere_82 rfl (znar_z h1) kk
abbrev kX6_carries : ZK := (RX6, cX6_carries, 4, (Option.some Jvm.ClassFile.FieldType.int), [], false, fX6)
abbrev tX6_carries (g : ZG) (args : List Value) (M : ZM) (d c s : Nat) (Q : ZQ) : Prop := Ct g yX6_carries (ws_ yX6_carries cX6_carries 4 (Option.some Jvm.ClassFile.FieldType.int)) args M d c s Q
abbrev nX6_carries : Nat := 7
theorem mX6_carries : zMok yX6_carries 1 4 := ⟨⟨by decide +kernel, by decide +kernel, by decide +kernel⟩, by decide⟩
theorem eX6_carries {g : ZG} {Q : ZQ} {d cN sN : Nat} {M : ZM} {a0 : Nat} {x1 : Int32} (hV : zV g) (h : Z g kX6_carries Q d cN sN M 0 [some (.ref a0), some (.int x1), none, none] []) : tX6_carries g [.ref a0, .int x1] M d cN sN Q := Ct.of (K := kX6_carries) rfl (by decide +kernel) hV fokX6 rfl (fun h => by cases h) (fun v hv => by simp only [List.mem_cons, List.not_mem_nil, or_false] at hv; rcases hv with rfl | rfl <;> first | rfl | assumption) (Nat.le_of_ble_eq_true rfl) h
theorem sX6_carries_0 {g : ZG} {Q : ZQ} {d cN sN : Nat} {M : ZM} {l0 : Nat} {fs1 : List Value} {r3 : Nat} {l1 : Int32} {n5 : Nat} {f6 : Nat → Int32} {o2 o3 : Option Value} (h2 : M.1 l0 = some (.inr (5, fs1))) (h4 : (fs1)[19]? = some (.ref r3)) (h7 : M.1 r3 = some (.inl (zA g 0, n5, .inl f6))) (h8 : vp_in (l1 + 1) n5) (h9 : vp_in (l1 + 2) n5) (h10 : vp_in (l1) n5) (kk : Z g kX6_carries Q d cN sN M 24 [some (.ref l0), some (.int l1), some (.int (f6 ((l1 + 1 : Int32).toNatClampNeg))), some (.int (f6 ((l1 + 2 : Int32).toNatClampNeg)))] [.int (f6 ((l1 : Int32).toNatClampNeg))]) : Z g kX6_carries Q d cN sN M 0 [some (.ref l0), some (.int l1), o2, o3] [] := by
  refine zi_aload_n dX6_carries_0 rfl zrf_r ?_
  refine zi_getfield dX6_carries_1 rfl h2 h4 ?_
  refine zi_iload_n dX6_carries_4 rfl ?_
  refine zi_iconst dX6_carries_5 (by decide +kernel : Int32.ofInt (1) = (1 : Int32)) ?_
  refine zi_iadd dX6_carries_6 ?_
  refine zi_iaload dX6_carries_7 h7 h8 ?_
  refine zi_istore_n dX6_carries_8 (Nat.le_of_ble_eq_true rfl) ?_
  refine zi_aload_n dX6_carries_9 rfl zrf_r ?_
  refine zi_getfield dX6_carries_10 rfl h2 h4 ?_
  refine zi_iload_n dX6_carries_13 rfl ?_
  refine zi_iconst dX6_carries_14 (by decide +kernel : Int32.ofInt (2) = (2 : Int32)) ?_
  refine zi_iadd dX6_carries_15 ?_
  refine zi_iaload dX6_carries_16 h7 h9 ?_
  refine zi_istore_n dX6_carries_17 (Nat.le_of_ble_eq_true rfl) ?_
  refine zi_aload_n dX6_carries_18 rfl zrf_r ?_
  refine zi_getfield dX6_carries_19 rfl h2 h4 ?_
  refine zi_iload_n dX6_carries_22 rfl ?_
  refine zi_iaload dX6_carries_23 h7 h10 ?_
  exact kk
theorem sX6_carries_128 {g : ZG} {Q : ZQ} {d cN sN : Nat} {M : ZM} {l0 : Nat} {l2 : Int32} {o1 o3 : Option Value}  (kk : Z g kX6_carries Q d cN sN M 130 [some (.ref l0), o1, some (.int l2), o3] [.int l2, .ref l0]) : Z g kX6_carries Q d cN sN M 128 [some (.ref l0), o1, some (.int l2), o3] [] := by
  refine zi_aload_n dX6_carries_128 rfl zrf_r ?_
  refine zi_iload_n dX6_carries_129 rfl ?_
  exact kk
theorem sX6_carries_133 {g : ZG} {Q : ZQ} {d cN sN : Nat} {M : ZM} {t0 : Int32} {o0 o1 o2 o3 : Option Value}  (kk : Q.1 (some (.int t0)) M) : Z g kX6_carries Q d cN sN M 133 [o0, o1, o2, o3] [.int t0] := by
  exact zi_ireturn dX6_carries_133 rfl rfl kk
theorem sX6_carries_134 {g : ZG} {Q : ZQ} {d cN sN : Nat} {M : ZM} {l0 : Nat} {l2 : Int32} {l3 : Int32} {o1 : Option Value}  (kk : Z g kX6_carries Q d cN sN M 137 [some (.ref l0), o1, some (.int l2), some (.int l3)] [.int l3, .int l2, .ref l0]) : Z g kX6_carries Q d cN sN M 134 [some (.ref l0), o1, some (.int l2), some (.int l3)] [] := by
  refine zi_aload_n dX6_carries_134 rfl zrf_r ?_
  refine zi_iload_n dX6_carries_135 rfl ?_
  refine zi_iload_n dX6_carries_136 rfl ?_
  exact kk
theorem sX6_carries_140 {g : ZG} {Q : ZQ} {d cN sN : Nat} {M : ZM} {t0 : Int32} {o0 o1 o2 o3 : Option Value}  (kk : Q.1 (some (.int t0)) M) : Z g kX6_carries Q d cN sN M 140 [o0, o1, o2, o3] [.int t0] := by
  exact zi_ireturn dX6_carries_140 rfl rfl kk
theorem sX6_carries_141 {g : ZG} {Q : ZQ} {d cN sN : Nat} {M : ZM} {l0 : Nat} {l2 : Int32} {l3 : Int32} {fs1 : List Value} {r3 : Nat} {l1 : Int32} {n5 : Nat} {f6 : Nat → Int32} (h2 : M.1 l0 = some (.inr (5, fs1))) (h4 : (fs1)[19]? = some (.ref r3)) (h7 : M.1 r3 = some (.inl (zA g 0, n5, .inl f6))) (h8 : vp_in (l1 + 3) n5) (kk : Z g kX6_carries Q d cN sN M 156 [some (.ref l0), some (.int l1), some (.int l2), some (.int l3)] [.int (((96 + (f6 ((l1 + 3 : Int32).toNatClampNeg)) : Int32).toUInt32 % 65536).toInt32), .int l3, .int l2, .ref l0]) : Z g kX6_carries Q d cN sN M 141 [some (.ref l0), some (.int l1), some (.int l2), some (.int l3)] [] := by
  refine zi_aload_n dX6_carries_141 rfl zrf_r ?_
  refine zi_iload_n dX6_carries_142 rfl ?_
  refine zi_iload_n dX6_carries_143 rfl ?_
  refine zi_bipush dX6_carries_144 (by decide +kernel : (Int8.ofInt (96)).toInt32 = (96 : Int32)) ?_
  refine zi_aload_n dX6_carries_146 rfl zrf_r ?_
  refine zi_getfield dX6_carries_147 rfl h2 h4 ?_
  refine zi_iload_n dX6_carries_150 rfl ?_
  refine zi_iconst dX6_carries_151 (by decide +kernel : Int32.ofInt (3) = (3 : Int32)) ?_
  refine zi_iadd dX6_carries_152 ?_
  refine zi_iaload dX6_carries_153 h7 h8 ?_
  refine zi_iadd dX6_carries_154 ?_
  refine zi_i2c dX6_carries_155 ?_
  exact kk
theorem sX6_carries_159 {g : ZG} {Q : ZQ} {d cN sN : Nat} {M : ZM} {t0 : Int32} {o0 o1 o2 o3 : Option Value}  (kk : Q.1 (some (.int t0)) M) : Z g kX6_carries Q d cN sN M 159 [o0, o1, o2, o3] [.int t0] := by
  exact zi_ireturn dX6_carries_159 rfl rfl kk
theorem sX6_carries_160 {g : ZG} {Q : ZQ} {d cN sN : Nat} {M : ZM} {l0 : Nat} {l2 : Int32} {l3 : Int32} {o1 : Option Value}  (kk : Z g kX6_carries Q d cN sN M 163 [some (.ref l0), o1, some (.int l2), some (.int l3)] [.int l3, .int l2, .ref l0]) : Z g kX6_carries Q d cN sN M 160 [some (.ref l0), o1, some (.int l2), some (.int l3)] [] := by
  refine zi_aload_n dX6_carries_160 rfl zrf_r ?_
  refine zi_iload_n dX6_carries_161 rfl ?_
  refine zi_iload_n dX6_carries_162 rfl ?_
  exact kk
theorem sX6_carries_166 {g : ZG} {Q : ZQ} {d cN sN : Nat} {M : ZM} {t0 : Int32} {o0 o1 o2 o3 : Option Value}  (kk : Q.1 (some (.int t0)) M) : Z g kX6_carries Q d cN sN M 166 [o0, o1, o2, o3] [.int t0] := by
  exact zi_ireturn dX6_carries_166 rfl rfl kk
theorem sX6_carries_167 {g : ZG} {Q : ZQ} {d cN sN : Nat} {M : ZM} {l0 : Nat} {l2 : Int32} {l3 : Int32} {o1 : Option Value}  (kk : Z g kX6_carries Q d cN sN M 170 [some (.ref l0), o1, some (.int l2), some (.int l3)] [.int l3, .int l2, .ref l0]) : Z g kX6_carries Q d cN sN M 167 [some (.ref l0), o1, some (.int l2), some (.int l3)] [] := by
  refine zi_aload_n dX6_carries_167 rfl zrf_r ?_
  refine zi_iload_n dX6_carries_168 rfl ?_
  refine zi_iload_n dX6_carries_169 rfl ?_
  exact kk
theorem sX6_carries_173 {g : ZG} {Q : ZQ} {d cN sN : Nat} {M : ZM} {t0 : Int32} {o0 o1 o2 o3 : Option Value}  (kk : Q.1 (some (.int t0)) M) : Z g kX6_carries Q d cN sN M 173 [o0, o1, o2, o3] [.int t0] := by
  exact zi_ireturn dX6_carries_173 rfl rfl kk
theorem sX6_carries_174 {g : ZG} {Q : ZQ} {d cN sN : Nat} {M : ZM} {l0 : Nat} {l2 : Int32} {l3 : Int32} {o1 : Option Value}  (kk : Z g kX6_carries Q d cN sN M 177 [some (.ref l0), o1, some (.int l2), some (.int l3)] [.int l3, .int l2, .ref l0]) : Z g kX6_carries Q d cN sN M 174 [some (.ref l0), o1, some (.int l2), some (.int l3)] [] := by
  refine zi_aload_n dX6_carries_174 rfl zrf_r ?_
  refine zi_iload_n dX6_carries_175 rfl ?_
  refine zi_iload_n dX6_carries_176 rfl ?_
  exact kk
theorem sX6_carries_180 {g : ZG} {Q : ZQ} {d cN sN : Nat} {M : ZM} {t0 : Int32} {o0 o1 o2 o3 : Option Value}  (kk : Q.1 (some (.int t0)) M) : Z g kX6_carries Q d cN sN M 180 [o0, o1, o2, o3] [.int t0] := by
  exact zi_ireturn dX6_carries_180 rfl rfl kk
theorem sX6_carries_181 {g : ZG} {Q : ZQ} {d cN sN : Nat} {M : ZM} {l0 : Nat} {l2 : Int32} {o1 o3 : Option Value}  (kk : Z g kX6_carries Q d cN sN M 183 [some (.ref l0), o1, some (.int l2), o3] [.int l2, .ref l0]) : Z g kX6_carries Q d cN sN M 181 [some (.ref l0), o1, some (.int l2), o3] [] := by
  refine zi_aload_n dX6_carries_181 rfl zrf_r ?_
  refine zi_iload_n dX6_carries_182 rfl ?_
  exact kk
theorem sX6_carries_186 {g : ZG} {Q : ZQ} {d cN sN : Nat} {M : ZM} {t0 : Int32} {o0 o1 o2 o3 : Option Value}  (kk : Q.1 (some (.int t0)) M) : Z g kX6_carries Q d cN sN M 186 [o0, o1, o2, o3] [.int t0] := by
  exact zi_ireturn dX6_carries_186 rfl rfl kk
theorem sX6_carries_187 {g : ZG} {Q : ZQ} {d cN sN : Nat} {M : ZM} {l0 : Nat} {o1 o2 o3 : Option Value}  (kk : Z g kX6_carries Q d cN sN M 188 [some (.ref l0), o1, o2, o3] [.ref l0]) : Z g kX6_carries Q d cN sN M 187 [some (.ref l0), o1, o2, o3] [] := by
  refine zi_aload_n dX6_carries_187 rfl zrf_r ?_
  exact kk
theorem sX6_carries_191 {g : ZG} {Q : ZQ} {d cN sN : Nat} {M : ZM} {t0 : Int32} {o0 o1 o2 o3 : Option Value}  (kk : Q.1 (some (.int t0)) M) : Z g kX6_carries Q d cN sN M 191 [o0, o1, o2, o3] [.int t0] := by
  exact zi_ireturn dX6_carries_191 rfl rfl kk
theorem sX6_carries_192 {g : ZG} {Q : ZQ} {d cN sN : Nat} {M : ZM} {l0 : Nat} {o1 o2 o3 : Option Value}  (kk : Z g kX6_carries Q d cN sN M 193 [some (.ref l0), o1, o2, o3] [.ref l0]) : Z g kX6_carries Q d cN sN M 192 [some (.ref l0), o1, o2, o3] [] := by
  refine zi_aload_n dX6_carries_192 rfl zrf_r ?_
  exact kk
theorem sX6_carries_196 {g : ZG} {Q : ZQ} {d cN sN : Nat} {M : ZM} {t0 : Int32} {o0 o1 o2 o3 : Option Value}  (kk : Q.1 (some (.int t0)) M) : Z g kX6_carries Q d cN sN M 196 [o0, o1, o2, o3] [.int t0] := by
  exact zi_ireturn dX6_carries_196 rfl rfl kk
abbrev kX6_refusesRun : ZK := (RX6, cX6_refusesRun, 4, (Option.some Jvm.ClassFile.FieldType.int), [], false, fX6)
abbrev tX6_refusesRun (g : ZG) (args : List Value) (M : ZM) (d c s : Nat) (Q : ZQ) : Prop := Ct g yX6_refusesRun (ws_ yX6_refusesRun cX6_refusesRun 4 (Option.some Jvm.ClassFile.FieldType.int)) args M d c s Q
abbrev nX6_refusesRun : Nat := 2
theorem mX6_refusesRun : zMok yX6_refusesRun 1 4 := ⟨⟨by decide +kernel, by decide +kernel, by decide +kernel⟩, by decide⟩
theorem eX6_refusesRun {g : ZG} {Q : ZQ} {d cN sN : Nat} {M : ZM} {a0 : Nat} {x1 : Int32} (hV : zV g) (h : Z g kX6_refusesRun Q d cN sN M 0 [some (.ref a0), some (.int x1), none, none] []) : tX6_refusesRun g [.ref a0, .int x1] M d cN sN Q := Ct.of (K := kX6_refusesRun) rfl (by decide +kernel) hV fokX6 rfl (fun h => by cases h) (fun v hv => by simp only [List.mem_cons, List.not_mem_nil, or_false] at hv; rcases hv with rfl | rfl <;> first | rfl | assumption) (Nat.le_of_ble_eq_true rfl) h
theorem sX6_refusesRun_0 {g : ZG} {Q : ZQ} {d cN sN : Nat} {M : ZM} {l0 : Nat} {fs1 : List Value} {y3 : Int32} {y5 : Int32} {l1 : Int32} {o2 o3 : Option Value} (h2 : M.1 l0 = some (.inr (5, fs1))) (h4 : (fs1)[9]? = some (.int y3)) (h6 : (fs1)[10]? = some (.int y5)) (kk : Z g kX6_refusesRun Q d cN sN M 15 [some (.ref l0), some (.int l1), some (.int y3), some (.int y5)] [.int l1, .int 9, .int 2, .ref l0]) : Z g kX6_refusesRun Q d cN sN M 0 [some (.ref l0), some (.int l1), o2, o3] [] := by
  refine zi_aload_n dX6_refusesRun_0 rfl zrf_r ?_
  refine zi_getfield dX6_refusesRun_1 rfl h2 h4 ?_
  refine zi_istore_n dX6_refusesRun_4 (Nat.le_of_ble_eq_true rfl) ?_
  refine zi_aload_n dX6_refusesRun_5 rfl zrf_r ?_
  refine zi_getfield dX6_refusesRun_6 rfl h2 h6 ?_
  refine zi_istore_n dX6_refusesRun_9 (Nat.le_of_ble_eq_true rfl) ?_
  refine zi_aload_n dX6_refusesRun_10 rfl zrf_r ?_
  refine zi_iconst dX6_refusesRun_11 (by decide +kernel : Int32.ofInt (2) = (2 : Int32)) ?_
  refine zi_bipush dX6_refusesRun_12 (by decide +kernel : (Int8.ofInt (9)).toInt32 = (9 : Int32)) ?_
  refine zi_iload_n dX6_refusesRun_14 rfl ?_
  exact kk
theorem sX6_refusesRun_18 {g : ZG} {Q : ZQ} {d cN sN : Nat} {M : ZM} {t0 : Int32} {l0 : Nat} {l2 : Int32} {fs1 : List Value} {l3 : Int32} {o1 : Option Value} (h2 : M.1 l0 = some (.inr (5, fs1))) (h3 : 11 < (fs1).length) (h4 : 12 < (((fs1).set 11 (.int l2))).length) (kk : Q.1 (some (.int 0)) (zup (zup M l0 (.inr (5, (fs1).set 11 (.int l2)))) l0 (.inr (5, (((fs1).set 11 (.int l2))).set 12 (.int l3))))) : Z g kX6_refusesRun Q d cN sN M 18 [some (.ref l0), o1, some (.int l2), some (.int l3)] [.int t0] := by
  refine zi_pop dX6_refusesRun_18 rfl ?_
  refine zi_aload_n dX6_refusesRun_19 rfl zrf_r ?_
  refine zi_iload_n dX6_refusesRun_20 rfl ?_
  refine zi_putfield dX6_refusesRun_21 rfl h2 h3 zfit_i (Or.inl rfl) ?_
  refine zi_aload_n dX6_refusesRun_24 rfl zrf_r ?_
  refine zi_iload_n dX6_refusesRun_25 rfl ?_
  refine zi_putfield dX6_refusesRun_26 rfl (zup_self _ _ _) h4 zfit_i (Or.inl rfl) ?_
  refine zi_iconst dX6_refusesRun_29 (by decide +kernel : Int32.ofInt (0) = (0 : Int32)) ?_
  exact zi_ireturn dX6_refusesRun_30 rfl rfl kk
abbrev kX6_errorPosition : ZK := (RX6, cX6_errorPosition, 1, (Option.some Jvm.ClassFile.FieldType.int), [], false, fX6)
abbrev tX6_errorPosition (g : ZG) (args : List Value) (M : ZM) (d c s : Nat) (Q : ZQ) : Prop := Ct g yX6_errorPosition (ws_ yX6_errorPosition cX6_errorPosition 1 (Option.some Jvm.ClassFile.FieldType.int)) args M d c s Q
abbrev nX6_errorPosition : Nat := 1
theorem mX6_errorPosition : zMok yX6_errorPosition 0 1 := ⟨⟨by decide +kernel, by decide +kernel, by decide +kernel⟩, by decide⟩
theorem eX6_errorPosition {g : ZG} {Q : ZQ} {d cN sN : Nat} {M : ZM} {a0 : Nat} (hV : zV g) (h : Z g kX6_errorPosition Q d cN sN M 0 [some (.ref a0)] []) : tX6_errorPosition g [.ref a0] M d cN sN Q := Ct.of (K := kX6_errorPosition) rfl (by decide +kernel) hV fokX6 rfl (fun h => by cases h) (fun v hv => by simp only [List.mem_cons, List.not_mem_nil, or_false] at hv; rcases hv with rfl <;> first | rfl | assumption) (Nat.le_of_ble_eq_true rfl) h
theorem sX6_errorPosition_0 {g : ZG} {Q : ZQ} {d cN sN : Nat} {M : ZM} {l0 : Nat} {fs1 : List Value} {y4 : Int32} (h2 : M.1 l0 = some (.inr (5, fs1))) (h3 : 8 < (fs1).length) (h5 : (((fs1).set 8 (.int 0)))[15]? = some (.int y4)) (kk : Q.1 (some (.int y4)) (zup M l0 (.inr (5, (fs1).set 8 (.int 0))))) : Z g kX6_errorPosition Q d cN sN M 0 [some (.ref l0)] [] := by
  refine zi_aload_n dX6_errorPosition_0 rfl zrf_r ?_
  refine zi_iconst dX6_errorPosition_1 (by decide +kernel : Int32.ofInt (0) = (0 : Int32)) ?_
  refine zi_putfield dX6_errorPosition_2 rfl h2 h3 zfit_i (Or.inl rfl) ?_
  refine zi_aload_n dX6_errorPosition_5 rfl zrf_r ?_
  refine zi_getfield dX6_errorPosition_6 rfl (zup_self _ _ _) h5 ?_
  exact zi_ireturn dX6_errorPosition_9 rfl rfl kk
abbrev kX6_refusal : ZK := (RX6, cX6_refusal, 3, (Option.some Jvm.ClassFile.FieldType.int), [], false, fX6)
abbrev tX6_refusal (g : ZG) (args : List Value) (M : ZM) (d c s : Nat) (Q : ZQ) : Prop := Ct g yX6_refusal (ws_ yX6_refusal cX6_refusal 3 (Option.some Jvm.ClassFile.FieldType.int)) args M d c s Q
abbrev nX6_refusal : Nat := 2
theorem mX6_refusal : zMok yX6_refusal 2 3 := ⟨⟨by decide +kernel, by decide +kernel, by decide +kernel⟩, by decide⟩
theorem eX6_refusal {g : ZG} {Q : ZQ} {d cN sN : Nat} {M : ZM} {a0 : Nat} {x1 : Int32} {x2 : Int32} (hV : zV g) (h : Z g kX6_refusal Q d cN sN M 0 [some (.ref a0), some (.int x1), some (.int x2)] []) : tX6_refusal g [.ref a0, .int x1, .int x2] M d cN sN Q := Ct.of (K := kX6_refusal) rfl (by decide +kernel) hV fokX6 rfl (fun h => by cases h) (fun v hv => by simp only [List.mem_cons, List.not_mem_nil, or_false] at hv; rcases hv with rfl | rfl | rfl <;> first | rfl | assumption) (Nat.le_of_ble_eq_true rfl) h
theorem sX6_refusal_0 {g : ZG} {Q : ZQ} {d cN sN : Nat} {M : ZM} {l0 : Nat} {l1 : Int32} {o2 : Option Value}  (kt : (l1 : Int32) = 0 → Z g kX6_refusal Q d cN sN M 12 [some (.ref l0), some (.int l1), o2] [.ref l0]) (kf : ¬ (l1 : Int32) = 0 → Z g kX6_refusal Q d cN sN M 5 [some (.ref l0), some (.int l1), o2] [.ref l0]) : Z g kX6_refusal Q d cN sN M 0 [some (.ref l0), some (.int l1), o2] [] := by
  refine zi_aload_n dX6_refusal_0 rfl zrf_r ?_
  refine zi_iload_n dX6_refusal_1 rfl ?_
  exact zi_if_eq (tgt := 12) dX6_refusal_2 (by decide +kernel) kt kf
theorem sX6_refusal_5 {g : ZG} {Q : ZQ} {d cN sN : Nat} {M : ZM} {t0 : Nat} {l0 : Nat} {fs1 : List Value} {y3 : Int32} {o1 o2 : Option Value} (h2 : M.1 l0 = some (.inr (5, fs1))) (h4 : (fs1)[11]? = some (.int y3)) (kk : Z g kX6_refusal Q d cN sN M 16 [some (.ref l0), o1, o2] [.int y3, .ref t0]) : Z g kX6_refusal Q d cN sN M 5 [some (.ref l0), o1, o2] [.ref t0] := by
  refine zi_aload_n dX6_refusal_5 rfl zrf_r ?_
  refine zi_getfield dX6_refusal_6 rfl h2 h4 ?_
  exact zi_goto (tgt := 16) dX6_refusal_9 (by decide +kernel) kk
theorem sX6_refusal_12 {g : ZG} {Q : ZQ} {d cN sN : Nat} {M : ZM} {t0 : Nat} {l0 : Nat} {fs1 : List Value} {y3 : Int32} {o1 o2 : Option Value} (h2 : M.1 l0 = some (.inr (5, fs1))) (h4 : (fs1)[9]? = some (.int y3)) (kk : Z g kX6_refusal Q d cN sN M 16 [some (.ref l0), o1, o2] [.int y3, .ref t0]) : Z g kX6_refusal Q d cN sN M 12 [some (.ref l0), o1, o2] [.ref t0] := by
  refine zi_aload_n dX6_refusal_12 rfl zrf_r ?_
  refine zi_getfield dX6_refusal_13 rfl h2 h4 ?_
  exact kk
theorem sX6_refusal_16 {g : ZG} {Q : ZQ} {d cN sN : Nat} {M : ZM} {t0 : Nat} {t1 : Int32} {o0 o1 o2 : Option Value}  (kt : ¬ (t1 : Int32) = 0 → Z g kX6_refusal Q d cN sN M 23 [o0, o1, o2] [.ref t0]) (kf : (t1 : Int32) = 0 → Z g kX6_refusal Q d cN sN M 19 [o0, o1, o2] [.ref t0]) : Z g kX6_refusal Q d cN sN M 16 [o0, o1, o2] [.int t1, .ref t0] := by
  exact zi_if_ne (tgt := 23) dX6_refusal_16 (by decide +kernel) kt kf
theorem sX6_refusal_19 {g : ZG} {Q : ZQ} {d cN sN : Nat} {M : ZM} {t0 : Nat} {o0 o1 o2 : Option Value}  (kk : Z g kX6_refusal Q d cN sN M 24 [o0, o1, o2] [.int 1, .ref t0]) : Z g kX6_refusal Q d cN sN M 19 [o0, o1, o2] [.ref t0] := by
  refine zi_iconst dX6_refusal_19 (by decide +kernel : Int32.ofInt (1) = (1 : Int32)) ?_
  exact zi_goto (tgt := 24) dX6_refusal_20 (by decide +kernel) kk
theorem sX6_refusal_23 {g : ZG} {Q : ZQ} {d cN sN : Nat} {M : ZM} {t0 : Nat} {o0 o1 o2 : Option Value}  (kk : Z g kX6_refusal Q d cN sN M 24 [o0, o1, o2] [.int 0, .ref t0]) : Z g kX6_refusal Q d cN sN M 23 [o0, o1, o2] [.ref t0] := by
  refine zi_iconst dX6_refusal_23 (by decide +kernel : Int32.ofInt (0) = (0 : Int32)) ?_
  exact kk
theorem sX6_refusal_27 {g : ZG} {Q : ZQ} {d cN sN : Nat} {M : ZM} {t0 : Int32} {o0 o1 o2 : Option Value}  (kt : (t0 : Int32) = 0 → Z g kX6_refusal Q d cN sN M 32 [o0, o1, o2] []) (kf : ¬ (t0 : Int32) = 0 → Z g kX6_refusal Q d cN sN M 30 [o0, o1, o2] []) : Z g kX6_refusal Q d cN sN M 27 [o0, o1, o2] [.int t0] := by
  exact zi_if_eq (tgt := 32) dX6_refusal_27 (by decide +kernel) kt kf
theorem sX6_refusal_30 {g : ZG} {Q : ZQ} {d cN sN : Nat} {M : ZM} {o0 o1 o2 : Option Value}  (kk : Q.1 (some (.int 0)) M) : Z g kX6_refusal Q d cN sN M 30 [o0, o1, o2] [] := by
  refine zi_iconst dX6_refusal_30 (by decide +kernel : Int32.ofInt (0) = (0 : Int32)) ?_
  exact zi_ireturn dX6_refusal_31 rfl rfl kk
theorem sX6_refusal_32 {g : ZG} {Q : ZQ} {d cN sN : Nat} {M : ZM} {l1 : Int32} {o0 o2 : Option Value}  (kt : (l1 : Int32) = 0 → Z g kX6_refusal Q d cN sN M 54 [o0, some (.int l1), o2] []) (kf : ¬ (l1 : Int32) = 0 → Z g kX6_refusal Q d cN sN M 36 [o0, some (.int l1), o2] []) : Z g kX6_refusal Q d cN sN M 32 [o0, some (.int l1), o2] [] := by
  refine zi_iload_n dX6_refusal_32 rfl ?_
  exact zi_if_eq (tgt := 54) dX6_refusal_33 (by decide +kernel) kt kf
theorem sX6_refusal_36 {g : ZG} {Q : ZQ} {d cN sN : Nat} {M : ZM} {l2 : Int32} {o0 o1 : Option Value}  (kt : (l2 : Int32) = 0 → Z g kX6_refusal Q d cN sN M 47 [o0, o1, some (.int l2)] []) (kf : ¬ (l2 : Int32) = 0 → Z g kX6_refusal Q d cN sN M 40 [o0, o1, some (.int l2)] []) : Z g kX6_refusal Q d cN sN M 36 [o0, o1, some (.int l2)] [] := by
  refine zi_iload_n dX6_refusal_36 rfl ?_
  exact zi_if_eq (tgt := 47) dX6_refusal_37 (by decide +kernel) kt kf
theorem sX6_refusal_40 {g : ZG} {Q : ZQ} {d cN sN : Nat} {M : ZM} {l0 : Nat} {fs1 : List Value} {y3 : Int32} {o1 o2 : Option Value} (h2 : M.1 l0 = some (.inr (5, fs1))) (h4 : (fs1)[12]? = some (.int y3)) (kk : Z g kX6_refusal Q d cN sN M 69 [some (.ref l0), o1, o2] [.int y3]) : Z g kX6_refusal Q d cN sN M 40 [some (.ref l0), o1, o2] [] := by
  refine zi_aload_n dX6_refusal_40 rfl zrf_r ?_
  refine zi_getfield dX6_refusal_41 rfl h2 h4 ?_
  exact zi_goto (tgt := 69) dX6_refusal_44 (by decide +kernel) kk
theorem sX6_refusal_47 {g : ZG} {Q : ZQ} {d cN sN : Nat} {M : ZM} {l0 : Nat} {fs1 : List Value} {y3 : Int32} {o1 o2 : Option Value} (h2 : M.1 l0 = some (.inr (5, fs1))) (h4 : (fs1)[11]? = some (.int y3)) (kk : Z g kX6_refusal Q d cN sN M 69 [some (.ref l0), o1, o2] [.int y3]) : Z g kX6_refusal Q d cN sN M 47 [some (.ref l0), o1, o2] [] := by
  refine zi_aload_n dX6_refusal_47 rfl zrf_r ?_
  refine zi_getfield dX6_refusal_48 rfl h2 h4 ?_
  exact zi_goto (tgt := 69) dX6_refusal_51 (by decide +kernel) kk
theorem sX6_refusal_54 {g : ZG} {Q : ZQ} {d cN sN : Nat} {M : ZM} {l2 : Int32} {o0 o1 : Option Value}  (kt : (l2 : Int32) = 0 → Z g kX6_refusal Q d cN sN M 65 [o0, o1, some (.int l2)] []) (kf : ¬ (l2 : Int32) = 0 → Z g kX6_refusal Q d cN sN M 58 [o0, o1, some (.int l2)] []) : Z g kX6_refusal Q d cN sN M 54 [o0, o1, some (.int l2)] [] := by
  refine zi_iload_n dX6_refusal_54 rfl ?_
  exact zi_if_eq (tgt := 65) dX6_refusal_55 (by decide +kernel) kt kf
theorem sX6_refusal_58 {g : ZG} {Q : ZQ} {d cN sN : Nat} {M : ZM} {l0 : Nat} {fs1 : List Value} {y3 : Int32} {o1 o2 : Option Value} (h2 : M.1 l0 = some (.inr (5, fs1))) (h4 : (fs1)[10]? = some (.int y3)) (kk : Z g kX6_refusal Q d cN sN M 69 [some (.ref l0), o1, o2] [.int y3]) : Z g kX6_refusal Q d cN sN M 58 [some (.ref l0), o1, o2] [] := by
  refine zi_aload_n dX6_refusal_58 rfl zrf_r ?_
  refine zi_getfield dX6_refusal_59 rfl h2 h4 ?_
  exact zi_goto (tgt := 69) dX6_refusal_62 (by decide +kernel) kk
theorem sX6_refusal_65 {g : ZG} {Q : ZQ} {d cN sN : Nat} {M : ZM} {l0 : Nat} {fs1 : List Value} {y3 : Int32} {o1 o2 : Option Value} (h2 : M.1 l0 = some (.inr (5, fs1))) (h4 : (fs1)[9]? = some (.int y3)) (kk : Z g kX6_refusal Q d cN sN M 69 [some (.ref l0), o1, o2] [.int y3]) : Z g kX6_refusal Q d cN sN M 65 [some (.ref l0), o1, o2] [] := by
  refine zi_aload_n dX6_refusal_65 rfl zrf_r ?_
  refine zi_getfield dX6_refusal_66 rfl h2 h4 ?_
  exact kk
theorem sX6_refusal_69 {g : ZG} {Q : ZQ} {d cN sN : Nat} {M : ZM} {t0 : Int32} {o0 o1 o2 : Option Value}  (kk : Q.1 (some (.int t0)) M) : Z g kX6_refusal Q d cN sN M 69 [o0, o1, o2] [.int t0] := by
  exact zi_ireturn dX6_refusal_69 rfl rfl kk
abbrev kX6_account : ZK := (RX6, cX6_account, 2, (Option.some Jvm.ClassFile.FieldType.int), [], false, fX6)
abbrev tX6_account (g : ZG) (args : List Value) (M : ZM) (d c s : Nat) (Q : ZQ) : Prop := Ct g yX6_account (ws_ yX6_account cX6_account 2 (Option.some Jvm.ClassFile.FieldType.int)) args M d c s Q
abbrev nX6_account : Nat := 5
theorem mX6_account : zMok yX6_account 1 2 := ⟨⟨by decide +kernel, by decide +kernel, by decide +kernel⟩, by decide⟩
theorem eX6_account {g : ZG} {Q : ZQ} {d cN sN : Nat} {M : ZM} {a0 : Nat} {x1 : Int32} (hV : zV g) (h : Z g kX6_account Q d cN sN M 0 [some (.ref a0), some (.int x1)] []) : tX6_account g [.ref a0, .int x1] M d cN sN Q := Ct.of (K := kX6_account) rfl (by decide +kernel) hV fokX6 rfl (fun h => by cases h) (fun v hv => by simp only [List.mem_cons, List.not_mem_nil, or_false] at hv; rcases hv with rfl | rfl <;> first | rfl | assumption) (Nat.le_of_ble_eq_true rfl) h
theorem sX6_account_0 {g : ZG} {Q : ZQ} {d cN sN : Nat} {M : ZM} {l0 : Nat} {l1 : Int32}  (kk : Z g kX6_account Q d cN sN M 5 [some (.ref l0), some (.int l1)] [.int 14, .int 0, .int l1, .ref l0]) : Z g kX6_account Q d cN sN M 0 [some (.ref l0), some (.int l1)] [] := by
  refine zi_aload_n dX6_account_0 rfl zrf_r ?_
  refine zi_iload_n dX6_account_1 rfl ?_
  refine zi_iconst dX6_account_2 (by decide +kernel : Int32.ofInt (0) = (0 : Int32)) ?_
  refine zi_bipush dX6_account_3 (by decide +kernel : (Int8.ofInt (14)).toInt32 = (14 : Int32)) ?_
  exact kk
theorem sX6_account_8 {g : ZG} {Q : ZQ} {d cN sN : Nat} {M : ZM} {t0 : Nat} {t1 : Int32} {o0 o1 : Option Value}  (kt : (t1 : Int32) = 0 → Z g kX6_account Q d cN sN M 15 [o0, o1] [.ref t0]) (kf : ¬ (t1 : Int32) = 0 → Z g kX6_account Q d cN sN M 11 [o0, o1] [.ref t0]) : Z g kX6_account Q d cN sN M 8 [o0, o1] [.int t1, .ref t0] := by
  exact zi_if_eq (tgt := 15) dX6_account_8 (by decide +kernel) kt kf
theorem sX6_account_11 {g : ZG} {Q : ZQ} {d cN sN : Nat} {M : ZM} {t0 : Nat} {o0 o1 : Option Value}  (kk : Z g kX6_account Q d cN sN M 16 [o0, o1] [.int 0, .ref t0]) : Z g kX6_account Q d cN sN M 11 [o0, o1] [.ref t0] := by
  refine zi_iconst dX6_account_11 (by decide +kernel : Int32.ofInt (0) = (0 : Int32)) ?_
  exact zi_goto (tgt := 16) dX6_account_12 (by decide +kernel) kk
theorem sX6_account_15 {g : ZG} {Q : ZQ} {d cN sN : Nat} {M : ZM} {t0 : Nat} {o0 o1 : Option Value}  (kk : Z g kX6_account Q d cN sN M 16 [o0, o1] [.int 1, .ref t0]) : Z g kX6_account Q d cN sN M 15 [o0, o1] [.ref t0] := by
  refine zi_iconst dX6_account_15 (by decide +kernel : Int32.ofInt (1) = (1 : Int32)) ?_
  exact kk
theorem sX6_account_19 {g : ZG} {Q : ZQ} {d cN sN : Nat} {M : ZM} {t0 : Int32} {o0 o1 : Option Value}  (kt : (t0 : Int32) = 0 → Z g kX6_account Q d cN sN M 24 [o0, o1] []) (kf : ¬ (t0 : Int32) = 0 → Z g kX6_account Q d cN sN M 22 [o0, o1] []) : Z g kX6_account Q d cN sN M 19 [o0, o1] [.int t0] := by
  exact zi_if_eq (tgt := 24) dX6_account_19 (by decide +kernel) kt kf
theorem sX6_account_22 {g : ZG} {Q : ZQ} {d cN sN : Nat} {M : ZM} {o0 o1 : Option Value}  (kk : Q.1 (some (.int 0)) M) : Z g kX6_account Q d cN sN M 22 [o0, o1] [] := by
  refine zi_iconst dX6_account_22 (by decide +kernel : Int32.ofInt (0) = (0 : Int32)) ?_
  exact zi_ireturn dX6_account_23 rfl rfl kk
theorem sX6_account_24 {g : ZG} {Q : ZQ} {d cN sN : Nat} {M : ZM} {l1 : Int32} {o0 : Option Value}  (kk : Z g kX6_account Q d cN sN M 25 [o0, some (.int l1)] [.int l1]) : Z g kX6_account Q d cN sN M 24 [o0, some (.int l1)] [] := by
  refine zi_iload_n dX6_account_24 rfl ?_
  exact kk
theorem sX6_account_80 {g : ZG} {Q : ZQ} {d cN sN : Nat} {M : ZM} {l0 : Nat} {l1 : Int32}  (kk : Z g kX6_account Q d cN sN M 84 [some (.ref l0), some (.int l1)] [.int (l1 - 4), .ref l0]) : Z g kX6_account Q d cN sN M 80 [some (.ref l0), some (.int l1)] [] := by
  refine zi_aload_n dX6_account_80 rfl zrf_r ?_
  refine zi_iload_n dX6_account_81 rfl ?_
  refine zi_iconst dX6_account_82 (by decide +kernel : Int32.ofInt (4) = (4 : Int32)) ?_
  refine zi_isub dX6_account_83 ?_
  exact kk
theorem sX6_account_87 {g : ZG} {Q : ZQ} {d cN sN : Nat} {M : ZM} {t0 : Int32} {o0 o1 : Option Value}  (kk : Q.1 (some (.int t0)) M) : Z g kX6_account Q d cN sN M 87 [o0, o1] [.int t0] := by
  exact zi_ireturn dX6_account_87 rfl rfl kk
theorem sX6_account_88 {g : ZG} {Q : ZQ} {d cN sN : Nat} {M : ZM} {l0 : Nat} {fs1 : List Value} {r3 : Nat} {n5 : Nat} {f6 : Nat → Int32} {o1 : Option Value} (h2 : M.1 l0 = some (.inr (5, fs1))) (h4 : (fs1)[0]? = some (.ref r3)) (h7 : M.1 r3 = some (.inl (zA g 0, n5, .inl f6))) (h8 : vp_in (5) n5) (kk : Q.1 (some (.int (f6 ((5 : Int32).toNatClampNeg)))) M) : Z g kX6_account Q d cN sN M 88 [some (.ref l0), o1] [] := by
  refine zi_aload_n dX6_account_88 rfl zrf_r ?_
  refine zi_getfield dX6_account_89 rfl h2 h4 ?_
  refine zi_iconst dX6_account_92 (by decide +kernel : Int32.ofInt (5) = (5 : Int32)) ?_
  refine zi_iaload dX6_account_93 h7 h8 ?_
  exact zi_ireturn dX6_account_94 rfl rfl kk
theorem sX6_account_95 {g : ZG} {Q : ZQ} {d cN sN : Nat} {M : ZM} {l0 : Nat} {fs1 : List Value} {r3 : Nat} {n5 : Nat} {f6 : Nat → Int32} {o1 : Option Value} (h2 : M.1 l0 = some (.inr (5, fs1))) (h4 : (fs1)[0]? = some (.ref r3)) (h7 : M.1 r3 = some (.inl (zA g 0, n5, .inl f6))) (h8 : vp_in (6) n5) (kk : Q.1 (some (.int (f6 ((6 : Int32).toNatClampNeg)))) M) : Z g kX6_account Q d cN sN M 95 [some (.ref l0), o1] [] := by
  refine zi_aload_n dX6_account_95 rfl zrf_r ?_
  refine zi_getfield dX6_account_96 rfl h2 h4 ?_
  refine zi_bipush dX6_account_99 (by decide +kernel : (Int8.ofInt (6)).toInt32 = (6 : Int32)) ?_
  refine zi_iaload dX6_account_101 h7 h8 ?_
  exact zi_ireturn dX6_account_102 rfl rfl kk
theorem sX6_account_103 {g : ZG} {Q : ZQ} {d cN sN : Nat} {M : ZM} {l0 : Nat} {fs1 : List Value} {r3 : Nat} {n5 : Nat} {f6 : Nat → Int32} {o1 : Option Value} (h2 : M.1 l0 = some (.inr (5, fs1))) (h4 : (fs1)[0]? = some (.ref r3)) (h7 : M.1 r3 = some (.inl (zA g 0, n5, .inl f6))) (h8 : vp_in (7) n5) (kk : Q.1 (some (.int (f6 ((7 : Int32).toNatClampNeg)))) M) : Z g kX6_account Q d cN sN M 103 [some (.ref l0), o1] [] := by
  refine zi_aload_n dX6_account_103 rfl zrf_r ?_
  refine zi_getfield dX6_account_104 rfl h2 h4 ?_
  refine zi_bipush dX6_account_107 (by decide +kernel : (Int8.ofInt (7)).toInt32 = (7 : Int32)) ?_
  refine zi_iaload dX6_account_109 h7 h8 ?_
  exact zi_ireturn dX6_account_110 rfl rfl kk
theorem sX6_account_111 {g : ZG} {Q : ZQ} {d cN sN : Nat} {M : ZM} {l0 : Nat} {fs1 : List Value} {r3 : Nat} {n5 : Nat} {f6 : Nat → Int32} {o1 : Option Value} (h2 : M.1 l0 = some (.inr (5, fs1))) (h4 : (fs1)[0]? = some (.ref r3)) (h7 : M.1 r3 = some (.inl (zA g 0, n5, .inl f6))) (h8 : vp_in (8) n5) (kk : Q.1 (some (.int (f6 ((8 : Int32).toNatClampNeg)))) M) : Z g kX6_account Q d cN sN M 111 [some (.ref l0), o1] [] := by
  refine zi_aload_n dX6_account_111 rfl zrf_r ?_
  refine zi_getfield dX6_account_112 rfl h2 h4 ?_
  refine zi_bipush dX6_account_115 (by decide +kernel : (Int8.ofInt (8)).toInt32 = (8 : Int32)) ?_
  refine zi_iaload dX6_account_117 h7 h8 ?_
  exact zi_ireturn dX6_account_118 rfl rfl kk
theorem sX6_account_119 {g : ZG} {Q : ZQ} {d cN sN : Nat} {M : ZM} {l0 : Nat} {o1 : Option Value}  (kk : Z g kX6_account Q d cN sN M 121 [some (.ref l0), o1] [.int 0, .ref l0]) : Z g kX6_account Q d cN sN M 119 [some (.ref l0), o1] [] := by
  refine zi_aload_n dX6_account_119 rfl zrf_r ?_
  refine zi_iconst dX6_account_120 (by decide +kernel : Int32.ofInt (0) = (0 : Int32)) ?_
  exact kk
theorem sX6_account_124 {g : ZG} {Q : ZQ} {d cN sN : Nat} {M : ZM} {t0 : Int32} {o0 o1 : Option Value}  (kk : Q.1 (some (.int t0)) M) : Z g kX6_account Q d cN sN M 124 [o0, o1] [.int t0] := by
  exact zi_ireturn dX6_account_124 rfl rfl kk
theorem sX6_account_125 {g : ZG} {Q : ZQ} {d cN sN : Nat} {M : ZM} {l0 : Nat} {fs1 : List Value} {y3 : Int32} {o1 : Option Value} (h2 : M.1 l0 = some (.inr (5, fs1))) (h4 : (fs1)[14]? = some (.int y3)) (kk : Q.1 (some (.int y3)) M) : Z g kX6_account Q d cN sN M 125 [some (.ref l0), o1] [] := by
  refine zi_aload_n dX6_account_125 rfl zrf_r ?_
  refine zi_getfield dX6_account_126 rfl h2 h4 ?_
  exact zi_ireturn dX6_account_129 rfl rfl kk
theorem sX6_account_130 {g : ZG} {Q : ZQ} {d cN sN : Nat} {M : ZM} {l0 : Nat} {fs1 : List Value} {y3 : Int32} {o1 : Option Value} (h2 : M.1 l0 = some (.inr (5, fs1))) (h4 : (fs1)[5]? = some (.int y3)) (kk : Q.1 (some (.int y3)) M) : Z g kX6_account Q d cN sN M 130 [some (.ref l0), o1] [] := by
  refine zi_aload_n dX6_account_130 rfl zrf_r ?_
  refine zi_getfield dX6_account_131 rfl h2 h4 ?_
  exact zi_ireturn dX6_account_134 rfl rfl kk
theorem sX6_account_135 {g : ZG} {Q : ZQ} {d cN sN : Nat} {M : ZM} {l0 : Nat} {fs1 : List Value} {r3 : Nat} {l1 : Int32} {n5 : Nat} {f6 : Nat → Int32} (h2 : M.1 l0 = some (.inr (5, fs1))) (h4 : (fs1)[0]? = some (.ref r3)) (h7 : M.1 r3 = some (.inl (zA g 0, n5, .inl f6))) (h8 : vp_in (l1) n5) (kk : Q.1 (some (.int (f6 ((l1 : Int32).toNatClampNeg)))) M) : Z g kX6_account Q d cN sN M 135 [some (.ref l0), some (.int l1)] [] := by
  refine zi_aload_n dX6_account_135 rfl zrf_r ?_
  refine zi_getfield dX6_account_136 rfl h2 h4 ?_
  refine zi_iload_n dX6_account_139 rfl ?_
  refine zi_iaload dX6_account_140 h7 h8 ?_
  exact zi_ireturn dX6_account_141 rfl rfl kk
abbrev kX6_all : ZK := (RX6, cX6_all, 4, (Option.some Jvm.ClassFile.FieldType.int), [], false, fX6)
abbrev tX6_all (g : ZG) (args : List Value) (M : ZM) (d c s : Nat) (Q : ZQ) : Prop := Ct g yX6_all (ws_ yX6_all cX6_all 4 (Option.some Jvm.ClassFile.FieldType.int)) args M d c s Q
abbrev nX6_all : Nat := 4
theorem mX6_all : zMok yX6_all 1 4 := ⟨⟨by decide +kernel, by decide +kernel, by decide +kernel⟩, by decide⟩
theorem eX6_all {g : ZG} {Q : ZQ} {d cN sN : Nat} {M : ZM} {a0 : Nat} {x1 : Int32} (hV : zV g) (h : Z g kX6_all Q d cN sN M 0 [some (.ref a0), some (.int x1), none, none] []) : tX6_all g [.ref a0, .int x1] M d cN sN Q := Ct.of (K := kX6_all) rfl (by decide +kernel) hV fokX6 rfl (fun h => by cases h) (fun v hv => by simp only [List.mem_cons, List.not_mem_nil, or_false] at hv; rcases hv with rfl | rfl <;> first | rfl | assumption) (Nat.le_of_ble_eq_true rfl) h
theorem sX6_all_0 {g : ZG} {Q : ZQ} {d cN sN : Nat} {M : ZM} {o0 o1 o2 o3 : Option Value}  (kk : Z g kX6_all Q d cN sN M 4 [o0, o1, some (.int 0), some (.int 0)] []) : Z g kX6_all Q d cN sN M 0 [o0, o1, o2, o3] [] := by
  refine zi_iconst dX6_all_0 (by decide +kernel : Int32.ofInt (0) = (0 : Int32)) ?_
  refine zi_istore_n dX6_all_1 (Nat.le_of_ble_eq_true rfl) ?_
  refine zi_iconst dX6_all_2 (by decide +kernel : Int32.ofInt (0) = (0 : Int32)) ?_
  refine zi_istore_n dX6_all_3 (Nat.le_of_ble_eq_true rfl) ?_
  exact kk
theorem sX6_all_4 {g : ZG} {Q : ZQ} {d cN sN : Nat} {M : ZM} {l3 : Int32} {l0 : Nat} {fs1 : List Value} {r3 : Nat} {n5 : Nat} {f6 : Nat → Int32} {o1 o2 : Option Value} (h2 : M.1 l0 = some (.inr (5, fs1))) (h4 : (fs1)[0]? = some (.ref r3)) (h7 : M.1 r3 = some (.inl (zA g 0, n5, .inl f6))) (h8 : vp_in (1) n5) (kt : (f6 ((1 : Int32).toNatClampNeg) : Int32) ≤ (l3 : Int32) → Z g kX6_all Q d cN sN M 29 [some (.ref l0), o1, o2, some (.int l3)] []) (kf : ¬ (f6 ((1 : Int32).toNatClampNeg) : Int32) ≤ (l3 : Int32) → Z g kX6_all Q d cN sN M 14 [some (.ref l0), o1, o2, some (.int l3)] []) : Z g kX6_all Q d cN sN M 4 [some (.ref l0), o1, o2, some (.int l3)] [] := by
  refine zi_iload_n dX6_all_4 rfl ?_
  refine zi_aload_n dX6_all_5 rfl zrf_r ?_
  refine zi_getfield dX6_all_6 rfl h2 h4 ?_
  refine zi_iconst dX6_all_9 (by decide +kernel : Int32.ofInt (1) = (1 : Int32)) ?_
  refine zi_iaload dX6_all_10 h7 h8 ?_
  exact zi_icmp_ge (tgt := 29) dX6_all_11 (by decide +kernel) kt kf
theorem sX6_all_14 {g : ZG} {Q : ZQ} {d cN sN : Nat} {M : ZM} {l2 : Int32} {l0 : Nat} {l3 : Int32} {l1 : Int32}  (kk : Z g kX6_all Q d cN sN M 18 [some (.ref l0), some (.int l1), some (.int l2), some (.int l3)] [.int l1, .int l3, .ref l0, .int l2]) : Z g kX6_all Q d cN sN M 14 [some (.ref l0), some (.int l1), some (.int l2), some (.int l3)] [] := by
  refine zi_iload_n dX6_all_14 rfl ?_
  refine zi_aload_n dX6_all_15 rfl zrf_r ?_
  refine zi_iload_n dX6_all_16 rfl ?_
  refine zi_iload_n dX6_all_17 rfl ?_
  exact kk
theorem sX6_all_21 {g : ZG} {Q : ZQ} {d cN sN : Nat} {M : ZM} {t0 : Int32} {t1 : Int32} {l3 : Int32} {o0 o1 o2 : Option Value}  (kk : Z g kX6_all Q d cN sN M 4 [o0, o1, some (.int (t0 + t1)), some (.int (l3 + 1))] []) : Z g kX6_all Q d cN sN M 21 [o0, o1, o2, some (.int l3)] [.int t1, .int t0] := by
  refine zi_iadd dX6_all_21 ?_
  refine zi_istore_n dX6_all_22 (Nat.le_of_ble_eq_true rfl) ?_
  refine zi_iinc dX6_all_23 rfl (by decide +kernel : Int32.ofInt (1) = 1) (Nat.le_of_ble_eq_true rfl) ?_
  exact zi_goto (tgt := 4) dX6_all_26 (by decide +kernel) kk
theorem sX6_all_29 {g : ZG} {Q : ZQ} {d cN sN : Nat} {M : ZM} {l2 : Int32} {o0 o1 o3 : Option Value}  (kk : Q.1 (some (.int l2)) M) : Z g kX6_all Q d cN sN M 29 [o0, o1, some (.int l2), o3] [] := by
  refine zi_iload_n dX6_all_29 rfl ?_
  exact zi_ireturn dX6_all_30 rfl rfl kk
abbrev kX6_summed : ZK := (RX6, cX6_summed, 4, (Option.some Jvm.ClassFile.FieldType.int), [], false, fX6)
abbrev tX6_summed (g : ZG) (args : List Value) (M : ZM) (d c s : Nat) (Q : ZQ) : Prop := Ct g yX6_summed (ws_ yX6_summed cX6_summed 4 (Option.some Jvm.ClassFile.FieldType.int)) args M d c s Q
abbrev nX6_summed : Nat := 2
theorem mX6_summed : zMok yX6_summed 1 4 := ⟨⟨by decide +kernel, by decide +kernel, by decide +kernel⟩, by decide⟩
theorem eX6_summed {g : ZG} {Q : ZQ} {d cN sN : Nat} {M : ZM} {a0 : Nat} {x1 : Int32} (hV : zV g) (h : Z g kX6_summed Q d cN sN M 0 [some (.ref a0), some (.int x1), none, none] []) : tX6_summed g [.ref a0, .int x1] M d cN sN Q := Ct.of (K := kX6_summed) rfl (by decide +kernel) hV fokX6 rfl (fun h => by cases h) (fun v hv => by simp only [List.mem_cons, List.not_mem_nil, or_false] at hv; rcases hv with rfl | rfl <;> first | rfl | assumption) (Nat.le_of_ble_eq_true rfl) h
theorem sX6_summed_0 {g : ZG} {Q : ZQ} {d cN sN : Nat} {M : ZM} {o0 o1 o2 o3 : Option Value}  (kk : Z g kX6_summed Q d cN sN M 4 [o0, o1, some (.int 0), some (.int 0)] []) : Z g kX6_summed Q d cN sN M 0 [o0, o1, o2, o3] [] := by
  refine zi_iconst dX6_summed_0 (by decide +kernel : Int32.ofInt (0) = (0 : Int32)) ?_
  refine zi_istore_n dX6_summed_1 (Nat.le_of_ble_eq_true rfl) ?_
  refine zi_iconst dX6_summed_2 (by decide +kernel : Int32.ofInt (0) = (0 : Int32)) ?_
  refine zi_istore_n dX6_summed_3 (Nat.le_of_ble_eq_true rfl) ?_
  exact kk
theorem sX6_summed_4 {g : ZG} {Q : ZQ} {d cN sN : Nat} {M : ZM} {l3 : Int32} {l0 : Nat} {fs1 : List Value} {r3 : Nat} {n5 : Nat} {f6 : Nat → Int32} {o1 o2 : Option Value} (h2 : M.1 l0 = some (.inr (5, fs1))) (h4 : (fs1)[0]? = some (.ref r3)) (h7 : M.1 r3 = some (.inl (zA g 0, n5, .inl f6))) (h8 : vp_in (0) n5) (kt : (f6 ((0 : Int32).toNatClampNeg) : Int32) ≤ (l3 : Int32) → Z g kX6_summed Q d cN sN M 29 [some (.ref l0), o1, o2, some (.int l3)] []) (kf : ¬ (f6 ((0 : Int32).toNatClampNeg) : Int32) ≤ (l3 : Int32) → Z g kX6_summed Q d cN sN M 14 [some (.ref l0), o1, o2, some (.int l3)] []) : Z g kX6_summed Q d cN sN M 4 [some (.ref l0), o1, o2, some (.int l3)] [] := by
  refine zi_iload_n dX6_summed_4 rfl ?_
  refine zi_aload_n dX6_summed_5 rfl zrf_r ?_
  refine zi_getfield dX6_summed_6 rfl h2 h4 ?_
  refine zi_iconst dX6_summed_9 (by decide +kernel : Int32.ofInt (0) = (0 : Int32)) ?_
  refine zi_iaload dX6_summed_10 h7 h8 ?_
  exact zi_icmp_ge (tgt := 29) dX6_summed_11 (by decide +kernel) kt kf
theorem sX6_summed_14 {g : ZG} {Q : ZQ} {d cN sN : Nat} {M : ZM} {l2 : Int32} {l0 : Nat} {l3 : Int32} {l1 : Int32}  (kk : Z g kX6_summed Q d cN sN M 18 [some (.ref l0), some (.int l1), some (.int l2), some (.int l3)] [.int l1, .int l3, .ref l0, .int l2]) : Z g kX6_summed Q d cN sN M 14 [some (.ref l0), some (.int l1), some (.int l2), some (.int l3)] [] := by
  refine zi_iload_n dX6_summed_14 rfl ?_
  refine zi_aload_n dX6_summed_15 rfl zrf_r ?_
  refine zi_iload_n dX6_summed_16 rfl ?_
  refine zi_iload_n dX6_summed_17 rfl ?_
  exact kk
theorem sX6_summed_21 {g : ZG} {Q : ZQ} {d cN sN : Nat} {M : ZM} {t0 : Int32} {t1 : Int32} {l3 : Int32} {o0 o1 o2 : Option Value}  (kk : Z g kX6_summed Q d cN sN M 4 [o0, o1, some (.int (t0 + t1)), some (.int (l3 + 1))] []) : Z g kX6_summed Q d cN sN M 21 [o0, o1, o2, some (.int l3)] [.int t1, .int t0] := by
  refine zi_iadd dX6_summed_21 ?_
  refine zi_istore_n dX6_summed_22 (Nat.le_of_ble_eq_true rfl) ?_
  refine zi_iinc dX6_summed_23 rfl (by decide +kernel : Int32.ofInt (1) = 1) (Nat.le_of_ble_eq_true rfl) ?_
  exact zi_goto (tgt := 4) dX6_summed_26 (by decide +kernel) kk
theorem sX6_summed_29 {g : ZG} {Q : ZQ} {d cN sN : Nat} {M : ZM} {l2 : Int32} {o0 o1 o3 : Option Value}  (kk : Q.1 (some (.int l2)) M) : Z g kX6_summed Q d cN sN M 29 [o0, o1, some (.int l2), o3] [] := by
  refine zi_iload_n dX6_summed_29 rfl ?_
  exact zi_ireturn dX6_summed_30 rfl rfl kk
abbrev kX6_isWell : ZK := (RX6, cX6_isWell, 3, (Option.some Jvm.ClassFile.FieldType.boolean), [], false, fX6)
abbrev tX6_isWell (g : ZG) (args : List Value) (M : ZM) (d c s : Nat) (Q : ZQ) : Prop := Ct g yX6_isWell (ws_ yX6_isWell cX6_isWell 3 (Option.some Jvm.ClassFile.FieldType.boolean)) args M d c s Q
abbrev nX6_isWell : Nat := 3
theorem mX6_isWell : zMok yX6_isWell 0 3 := ⟨⟨by decide +kernel, by decide +kernel, by decide +kernel⟩, by decide⟩
theorem eX6_isWell {g : ZG} {Q : ZQ} {d cN sN : Nat} {M : ZM} {a0 : Nat} (hV : zV g) (h : Z g kX6_isWell Q d cN sN M 0 [some (.ref a0), none, none] []) : tX6_isWell g [.ref a0] M d cN sN Q := Ct.of (K := kX6_isWell) rfl (by decide +kernel) hV fokX6 rfl (fun h => by cases h) (fun v hv => by simp only [List.mem_cons, List.not_mem_nil, or_false] at hv; rcases hv with rfl <;> first | rfl | assumption) (Nat.le_of_ble_eq_true rfl) h
theorem sX6_isWell_0 {g : ZG} {Q : ZQ} {d cN sN : Nat} {M : ZM} {l0 : Nat} {fs1 : List Value} {o1 o2 : Option Value} (h2 : M.1 l0 = some (.inr (5, fs1))) (h3 : 8 < (fs1).length) (kk : Z g kX6_isWell Q d cN sN (zup M l0 (.inr (5, (fs1).set 8 (.int 0)))) 7 [some (.ref l0), some (.int 0), o2] []) : Z g kX6_isWell Q d cN sN M 0 [some (.ref l0), o1, o2] [] := by
  refine zi_aload_n dX6_isWell_0 rfl zrf_r ?_
  refine zi_iconst dX6_isWell_1 (by decide +kernel : Int32.ofInt (0) = (0 : Int32)) ?_
  refine zi_putfield dX6_isWell_2 rfl h2 h3 zfit_i (Or.inl rfl) ?_
  refine zi_iconst dX6_isWell_5 (by decide +kernel : Int32.ofInt (0) = (0 : Int32)) ?_
  refine zi_istore_n dX6_isWell_6 (Nat.le_of_ble_eq_true rfl) ?_
  exact kk
theorem sX6_isWell_7 {g : ZG} {Q : ZQ} {d cN sN : Nat} {M : ZM} {l1 : Int32} {l0 : Nat} {fs1 : List Value} {r3 : Nat} {n5 : Nat} {f6 : Nat → Int32} {o2 : Option Value} (h2 : M.1 l0 = some (.inr (5, fs1))) (h4 : (fs1)[0]? = some (.ref r3)) (h7 : M.1 r3 = some (.inl (zA g 0, n5, .inl f6))) (h8 : vp_in (1) n5) (kt : (f6 ((1 : Int32).toNatClampNeg) : Int32) ≤ (l1 : Int32) → Z g kX6_isWell Q d cN sN M 74 [some (.ref l0), some (.int l1), o2] []) (kf : ¬ (f6 ((1 : Int32).toNatClampNeg) : Int32) ≤ (l1 : Int32) → Z g kX6_isWell Q d cN sN M 17 [some (.ref l0), some (.int l1), o2] []) : Z g kX6_isWell Q d cN sN M 7 [some (.ref l0), some (.int l1), o2] [] := by
  refine zi_iload_n dX6_isWell_7 rfl ?_
  refine zi_aload_n dX6_isWell_8 rfl zrf_r ?_
  refine zi_getfield dX6_isWell_9 rfl h2 h4 ?_
  refine zi_iconst dX6_isWell_12 (by decide +kernel : Int32.ofInt (1) = (1 : Int32)) ?_
  refine zi_iaload dX6_isWell_13 h7 h8 ?_
  exact zi_icmp_ge (tgt := 74) dX6_isWell_14 (by decide +kernel) kt kf
theorem sX6_isWell_17 {g : ZG} {Q : ZQ} {d cN sN : Nat} {M : ZM} {o0 o1 o2 : Option Value}  (kk : Z g kX6_isWell Q d cN sN M 19 [o0, o1, some (.int 0)] []) : Z g kX6_isWell Q d cN sN M 17 [o0, o1, o2] [] := by
  refine zi_iconst dX6_isWell_17 (by decide +kernel : Int32.ofInt (0) = (0 : Int32)) ?_
  refine zi_istore_n dX6_isWell_18 (Nat.le_of_ble_eq_true rfl) ?_
  exact kk
theorem sX6_isWell_19 {g : ZG} {Q : ZQ} {d cN sN : Nat} {M : ZM} {l2 : Int32} {l0 : Nat} {l1 : Int32}  (kk : Z g kX6_isWell Q d cN sN M 23 [some (.ref l0), some (.int l1), some (.int l2)] [.int 1, .int l1, .ref l0, .int l2]) : Z g kX6_isWell Q d cN sN M 19 [some (.ref l0), some (.int l1), some (.int l2)] [] := by
  refine zi_iload_n dX6_isWell_19 rfl ?_
  refine zi_aload_n dX6_isWell_20 rfl zrf_r ?_
  refine zi_iload_n dX6_isWell_21 rfl ?_
  refine zi_iconst dX6_isWell_22 (by decide +kernel : Int32.ofInt (1) = (1 : Int32)) ?_
  exact kk
theorem sX6_isWell_26 {g : ZG} {Q : ZQ} {d cN sN : Nat} {M : ZM} {t0 : Int32} {t1 : Int32} {o0 o1 o2 : Option Value}  (kt : (t1 : Int32) ≤ (t0 : Int32) → Z g kX6_isWell Q d cN sN M 68 [o0, o1, o2] []) (kf : ¬ (t1 : Int32) ≤ (t0 : Int32) → Z g kX6_isWell Q d cN sN M 29 [o0, o1, o2] []) : Z g kX6_isWell Q d cN sN M 26 [o0, o1, o2] [.int t1, .int t0] := by
  exact zi_icmp_ge (tgt := 68) dX6_isWell_26 (by decide +kernel) kt kf
theorem sX6_isWell_29 {g : ZG} {Q : ZQ} {d cN sN : Nat} {M : ZM} {l0 : Nat} {l1 : Int32} {l2 : Int32}  (kk : Z g kX6_isWell Q d cN sN M 32 [some (.ref l0), some (.int l1), some (.int l2)] [.int l2, .int l1, .ref l0]) : Z g kX6_isWell Q d cN sN M 29 [some (.ref l0), some (.int l1), some (.int l2)] [] := by
  refine zi_aload_n dX6_isWell_29 rfl zrf_r ?_
  refine zi_iload_n dX6_isWell_30 rfl ?_
  refine zi_iload_n dX6_isWell_31 rfl ?_
  exact kk
theorem sX6_isWell_35 {g : ZG} {Q : ZQ} {d cN sN : Nat} {M : ZM} {t0 : Int32} {o0 o1 o2 : Option Value}  (kt : (t0 : Int32) ≤ 0 → Z g kX6_isWell Q d cN sN M 42 [o0, o1, o2] []) (kf : ¬ (t0 : Int32) ≤ 0 → Z g kX6_isWell Q d cN sN M 38 [o0, o1, o2] []) : Z g kX6_isWell Q d cN sN M 35 [o0, o1, o2] [.int t0] := by
  exact zi_if_le (tgt := 42) dX6_isWell_35 (by decide +kernel) kt kf
theorem sX6_isWell_38 {g : ZG} {Q : ZQ} {d cN sN : Nat} {M : ZM} {o0 o1 o2 : Option Value}  (kk : Z g kX6_isWell Q d cN sN M 43 [o0, o1, o2] [.int 1]) : Z g kX6_isWell Q d cN sN M 38 [o0, o1, o2] [] := by
  refine zi_iconst dX6_isWell_38 (by decide +kernel : Int32.ofInt (1) = (1 : Int32)) ?_
  exact zi_goto (tgt := 43) dX6_isWell_39 (by decide +kernel) kk
theorem sX6_isWell_42 {g : ZG} {Q : ZQ} {d cN sN : Nat} {M : ZM} {o0 o1 o2 : Option Value}  (kk : Z g kX6_isWell Q d cN sN M 43 [o0, o1, o2] [.int 0]) : Z g kX6_isWell Q d cN sN M 42 [o0, o1, o2] [] := by
  refine zi_iconst dX6_isWell_42 (by decide +kernel : Int32.ofInt (0) = (0 : Int32)) ?_
  exact kk
theorem sX6_isWell_43 {g : ZG} {Q : ZQ} {d cN sN : Nat} {M : ZM} {t0 : Int32} {l0 : Nat} {l1 : Int32} {l2 : Int32}  (kk : Z g kX6_isWell Q d cN sN M 46 [some (.ref l0), some (.int l1), some (.int l2)] [.int l2, .int l1, .ref l0, .int t0]) : Z g kX6_isWell Q d cN sN M 43 [some (.ref l0), some (.int l1), some (.int l2)] [.int t0] := by
  refine zi_aload_n dX6_isWell_43 rfl zrf_r ?_
  refine zi_iload_n dX6_isWell_44 rfl ?_
  refine zi_iload_n dX6_isWell_45 rfl ?_
  exact kk
theorem sX6_isWell_49 {g : ZG} {Q : ZQ} {d cN sN : Nat} {M : ZM} {t0 : Int32} {t1 : Int32} {o0 o1 o2 : Option Value}  (kt : (t1 : Int32) ≤ 0 → Z g kX6_isWell Q d cN sN M 56 [o0, o1, o2] [.int t0]) (kf : ¬ (t1 : Int32) ≤ 0 → Z g kX6_isWell Q d cN sN M 52 [o0, o1, o2] [.int t0]) : Z g kX6_isWell Q d cN sN M 49 [o0, o1, o2] [.int t1, .int t0] := by
  exact zi_if_le (tgt := 56) dX6_isWell_49 (by decide +kernel) kt kf
theorem sX6_isWell_52 {g : ZG} {Q : ZQ} {d cN sN : Nat} {M : ZM} {t0 : Int32} {o0 o1 o2 : Option Value}  (kk : Z g kX6_isWell Q d cN sN M 57 [o0, o1, o2] [.int 1, .int t0]) : Z g kX6_isWell Q d cN sN M 52 [o0, o1, o2] [.int t0] := by
  refine zi_iconst dX6_isWell_52 (by decide +kernel : Int32.ofInt (1) = (1 : Int32)) ?_
  exact zi_goto (tgt := 57) dX6_isWell_53 (by decide +kernel) kk
theorem sX6_isWell_56 {g : ZG} {Q : ZQ} {d cN sN : Nat} {M : ZM} {t0 : Int32} {o0 o1 o2 : Option Value}  (kk : Z g kX6_isWell Q d cN sN M 57 [o0, o1, o2] [.int 0, .int t0]) : Z g kX6_isWell Q d cN sN M 56 [o0, o1, o2] [.int t0] := by
  refine zi_iconst dX6_isWell_56 (by decide +kernel : Int32.ofInt (0) = (0 : Int32)) ?_
  exact kk
theorem sX6_isWell_57 {g : ZG} {Q : ZQ} {d cN sN : Nat} {M : ZM} {t0 : Int32} {t1 : Int32} {o0 o1 o2 : Option Value}  (kt : (t0 : Int32) = (t1 : Int32) → Z g kX6_isWell Q d cN sN M 62 [o0, o1, o2] []) (kf : ¬ (t0 : Int32) = (t1 : Int32) → Z g kX6_isWell Q d cN sN M 60 [o0, o1, o2] []) : Z g kX6_isWell Q d cN sN M 57 [o0, o1, o2] [.int t1, .int t0] := by
  exact zi_icmp_eq (tgt := 62) dX6_isWell_57 (by decide +kernel) kt kf
theorem sX6_isWell_60 {g : ZG} {Q : ZQ} {d cN sN : Nat} {M : ZM} {o0 o1 o2 : Option Value}  (kk : Q.1 (some (.int 0)) M) : Z g kX6_isWell Q d cN sN M 60 [o0, o1, o2] [] := by
  refine zi_iconst dX6_isWell_60 (by decide +kernel : Int32.ofInt (0) = (0 : Int32)) ?_
  exact zi_ireturn dX6_isWell_61 rfl (znar_z (by decide)) kk
theorem sX6_isWell_62 {g : ZG} {Q : ZQ} {d cN sN : Nat} {M : ZM} {l2 : Int32} {o0 o1 : Option Value}  (kk : Z g kX6_isWell Q d cN sN M 19 [o0, o1, some (.int (l2 + 1))] []) : Z g kX6_isWell Q d cN sN M 62 [o0, o1, some (.int l2)] [] := by
  refine zi_iinc dX6_isWell_62 rfl (by decide +kernel : Int32.ofInt (1) = 1) (Nat.le_of_ble_eq_true rfl) ?_
  exact zi_goto (tgt := 19) dX6_isWell_65 (by decide +kernel) kk
theorem sX6_isWell_68 {g : ZG} {Q : ZQ} {d cN sN : Nat} {M : ZM} {l1 : Int32} {o0 o2 : Option Value}  (kk : Z g kX6_isWell Q d cN sN M 7 [o0, some (.int (l1 + 1)), o2] []) : Z g kX6_isWell Q d cN sN M 68 [o0, some (.int l1), o2] [] := by
  refine zi_iinc dX6_isWell_68 rfl (by decide +kernel : Int32.ofInt (1) = 1) (Nat.le_of_ble_eq_true rfl) ?_
  exact zi_goto (tgt := 7) dX6_isWell_71 (by decide +kernel) kk
theorem sX6_isWell_74 {g : ZG} {Q : ZQ} {d cN sN : Nat} {M : ZM} {o0 o1 o2 : Option Value}  (kk : Q.1 (some (.int 1)) M) : Z g kX6_isWell Q d cN sN M 74 [o0, o1, o2] [] := by
  refine zi_iconst dX6_isWell_74 (by decide +kernel : Int32.ofInt (1) = (1 : Int32)) ?_
  exact zi_ireturn dX6_isWell_75 rfl (znar_z (by decide)) kk
abbrev kX6_meanShame : ZK := (RX6, cX6_meanShame, 1, (Option.some Jvm.ClassFile.FieldType.double), [], false, fX6)
abbrev tX6_meanShame (g : ZG) (args : List Value) (M : ZM) (d c s : Nat) (Q : ZQ) : Prop := Ct g yX6_meanShame (ws_ yX6_meanShame cX6_meanShame 1 (Option.some Jvm.ClassFile.FieldType.double)) args M d c s Q
abbrev nX6_meanShame : Nat := 3
theorem mX6_meanShame : zMok yX6_meanShame 0 1 := ⟨⟨by decide +kernel, by decide +kernel, by decide +kernel⟩, by decide⟩
theorem eX6_meanShame {g : ZG} {Q : ZQ} {d cN sN : Nat} {M : ZM} {a0 : Nat} (hV : zV g) (h : Z g kX6_meanShame Q d cN sN M 0 [some (.ref a0)] []) : tX6_meanShame g [.ref a0] M d cN sN Q := Ct.of (K := kX6_meanShame) rfl (by decide +kernel) hV fokX6 rfl (fun h => by cases h) (fun v hv => by simp only [List.mem_cons, List.not_mem_nil, or_false] at hv; rcases hv with rfl <;> first | rfl | assumption) (Nat.le_of_ble_eq_true rfl) h
theorem sX6_meanShame_0 {g : ZG} {Q : ZQ} {d cN sN : Nat} {M : ZM} {l0 : Nat} {fs1 : List Value} {r3 : Nat} {n5 : Nat} {f6 : Nat → Int32} (h2 : M.1 l0 = some (.inr (5, fs1))) (h4 : (fs1)[0]? = some (.ref r3)) (h7 : M.1 r3 = some (.inl (zA g 0, n5, .inl f6))) (h8 : vp_in (0) n5) (kt : ¬ (f6 ((0 : Int32).toNatClampNeg) : Int32) = 0 → Z g kX6_meanShame Q d cN sN M 14 [some (.ref l0)] [.ref l0]) (kf : (f6 ((0 : Int32).toNatClampNeg) : Int32) = 0 → Z g kX6_meanShame Q d cN sN M 10 [some (.ref l0)] [.ref l0]) : Z g kX6_meanShame Q d cN sN M 0 [some (.ref l0)] [] := by
  refine zi_aload_n dX6_meanShame_0 rfl zrf_r ?_
  refine zi_aload_n dX6_meanShame_1 rfl zrf_r ?_
  refine zi_getfield dX6_meanShame_2 rfl h2 h4 ?_
  refine zi_iconst dX6_meanShame_5 (by decide +kernel : Int32.ofInt (0) = (0 : Int32)) ?_
  refine zi_iaload dX6_meanShame_6 h7 h8 ?_
  exact zi_if_ne (tgt := 14) dX6_meanShame_7 (by decide +kernel) kt kf
theorem sX6_meanShame_10 {g : ZG} {Q : ZQ} {d cN sN : Nat} {M : ZM} {t0 : Nat} {o0 : Option Value}  (kk : Z g kX6_meanShame Q d cN sN M 15 [o0] [.int 1, .ref t0]) : Z g kX6_meanShame Q d cN sN M 10 [o0] [.ref t0] := by
  refine zi_iconst dX6_meanShame_10 (by decide +kernel : Int32.ofInt (1) = (1 : Int32)) ?_
  exact zi_goto (tgt := 15) dX6_meanShame_11 (by decide +kernel) kk
theorem sX6_meanShame_14 {g : ZG} {Q : ZQ} {d cN sN : Nat} {M : ZM} {t0 : Nat} {o0 : Option Value}  (kk : Z g kX6_meanShame Q d cN sN M 15 [o0] [.int 0, .ref t0]) : Z g kX6_meanShame Q d cN sN M 14 [o0] [.ref t0] := by
  refine zi_iconst dX6_meanShame_14 (by decide +kernel : Int32.ofInt (0) = (0 : Int32)) ?_
  exact kk
theorem sX6_meanShame_18 {g : ZG} {Q : ZQ} {d cN sN : Nat} {M : ZM} {t0 : Int32} {o0 : Option Value}  (kt : (t0 : Int32) = 0 → Z g kX6_meanShame Q d cN sN M 25 [o0] []) (kf : ¬ (t0 : Int32) = 0 → Z g kX6_meanShame Q d cN sN M 21 [o0] []) : Z g kX6_meanShame Q d cN sN M 18 [o0] [.int t0] := by
  exact zi_if_eq (tgt := 25) dX6_meanShame_18 (by decide +kernel) kt kf
theorem sX6_meanShame_21 {g : ZG} {Q : ZQ} {d cN sN : Nat} {M : ZM} {o0 : Option Value}  (kk : Z g kX6_meanShame Q d cN sN M 39 [o0] [.double (FP.dconst0)]) : Z g kX6_meanShame Q d cN sN M 21 [o0] [] := by
  refine zi_dconst dX6_meanShame_21 ?_
  exact zi_goto (tgt := 39) dX6_meanShame_22 (by decide +kernel) kk
theorem sX6_meanShame_25 {g : ZG} {Q : ZQ} {d cN sN : Nat} {M : ZM} {l0 : Nat}  (kk : Z g kX6_meanShame Q d cN sN M 27 [some (.ref l0)] [.int 1, .ref l0]) : Z g kX6_meanShame Q d cN sN M 25 [some (.ref l0)] [] := by
  refine zi_aload_n dX6_meanShame_25 rfl zrf_r ?_
  refine zi_iconst dX6_meanShame_26 (by decide +kernel : Int32.ofInt (1) = (1 : Int32)) ?_
  exact kk
theorem sX6_meanShame_30 {g : ZG} {Q : ZQ} {d cN sN : Nat} {M : ZM} {t0 : Int32} {l0 : Nat} {fs1 : List Value} {r3 : Nat} {n5 : Nat} {f6 : Nat → Int32} (h2 : M.1 l0 = some (.inr (5, fs1))) (h4 : (fs1)[0]? = some (.ref r3)) (h7 : M.1 r3 = some (.inl (zA g 0, n5, .inl f6))) (h8 : vp_in (0) n5) (h9 : vf_n64 (FP.ddiv (FP.i2d (t0 : Int32)) (FP.i2d (f6 ((0 : Int32).toNatClampNeg) : Int32)))) (kk : Z g kX6_meanShame Q d cN sN M 39 [some (.ref l0)] [.double (FP.ddiv (FP.i2d (t0 : Int32)) (FP.i2d (f6 ((0 : Int32).toNatClampNeg) : Int32)))]) : Z g kX6_meanShame Q d cN sN M 30 [some (.ref l0)] [.int t0] := by
  refine zi_i2d dX6_meanShame_30 ?_
  refine zi_aload_n dX6_meanShame_31 rfl zrf_r ?_
  refine zi_getfield dX6_meanShame_32 rfl h2 h4 ?_
  refine zi_iconst dX6_meanShame_35 (by decide +kernel : Int32.ofInt (0) = (0 : Int32)) ?_
  refine zi_iaload dX6_meanShame_36 h7 h8 ?_
  refine zi_i2d dX6_meanShame_37 ?_
  refine zi_ddiv dX6_meanShame_38 h9 ?_
  exact kk
theorem sX6_meanShame_39 {g : ZG} {Q : ZQ} {d cN sN : Nat} {M : ZM} {t0 : UInt64} {o0 : Option Value}  (kk : Q.1 (some (.double (t0))) M) : Z g kX6_meanShame Q d cN sN M 39 [o0] [.double (t0)] := by
  exact zi_dreturn dX6_meanShame_39 rfl kk
abbrev kX6_errorShare : ZK := (RX6, cX6_errorShare, 3, (Option.some Jvm.ClassFile.FieldType.float), [], false, fX6)
abbrev tX6_errorShare (g : ZG) (args : List Value) (M : ZM) (d c s : Nat) (Q : ZQ) : Prop := Ct g yX6_errorShare (ws_ yX6_errorShare cX6_errorShare 3 (Option.some Jvm.ClassFile.FieldType.float)) args M d c s Q
abbrev nX6_errorShare : Nat := 5
theorem mX6_errorShare : zMok yX6_errorShare 0 3 := ⟨⟨by decide +kernel, by decide +kernel, by decide +kernel⟩, by decide⟩
theorem eX6_errorShare {g : ZG} {Q : ZQ} {d cN sN : Nat} {M : ZM} {a0 : Nat} (hV : zV g) (h : Z g kX6_errorShare Q d cN sN M 0 [some (.ref a0), none, none] []) : tX6_errorShare g [.ref a0] M d cN sN Q := Ct.of (K := kX6_errorShare) rfl (by decide +kernel) hV fokX6 rfl (fun h => by cases h) (fun v hv => by simp only [List.mem_cons, List.not_mem_nil, or_false] at hv; rcases hv with rfl <;> first | rfl | assumption) (Nat.le_of_ble_eq_true rfl) h
theorem sX6_errorShare_0 {g : ZG} {Q : ZQ} {d cN sN : Nat} {M : ZM} {l0 : Nat} {fs1 : List Value} {r3 : Nat} {n5 : Nat} {f6 : Nat → Int32} {o1 o2 : Option Value} (h2 : M.1 l0 = some (.inr (5, fs1))) (h4 : (fs1)[0]? = some (.ref r3)) (h7 : M.1 r3 = some (.inl (zA g 0, n5, .inl f6))) (h8 : vp_in (1) n5) (kt : ¬ (f6 ((1 : Int32).toNatClampNeg) : Int32) = 0 → Z g kX6_errorShare Q d cN sN M 14 [some (.ref l0), o1, o2] [.ref l0]) (kf : (f6 ((1 : Int32).toNatClampNeg) : Int32) = 0 → Z g kX6_errorShare Q d cN sN M 10 [some (.ref l0), o1, o2] [.ref l0]) : Z g kX6_errorShare Q d cN sN M 0 [some (.ref l0), o1, o2] [] := by
  refine zi_aload_n dX6_errorShare_0 rfl zrf_r ?_
  refine zi_aload_n dX6_errorShare_1 rfl zrf_r ?_
  refine zi_getfield dX6_errorShare_2 rfl h2 h4 ?_
  refine zi_iconst dX6_errorShare_5 (by decide +kernel : Int32.ofInt (1) = (1 : Int32)) ?_
  refine zi_iaload dX6_errorShare_6 h7 h8 ?_
  exact zi_if_ne (tgt := 14) dX6_errorShare_7 (by decide +kernel) kt kf
theorem sX6_errorShare_10 {g : ZG} {Q : ZQ} {d cN sN : Nat} {M : ZM} {t0 : Nat} {o0 o1 o2 : Option Value}  (kk : Z g kX6_errorShare Q d cN sN M 15 [o0, o1, o2] [.int 1, .ref t0]) : Z g kX6_errorShare Q d cN sN M 10 [o0, o1, o2] [.ref t0] := by
  refine zi_iconst dX6_errorShare_10 (by decide +kernel : Int32.ofInt (1) = (1 : Int32)) ?_
  exact zi_goto (tgt := 15) dX6_errorShare_11 (by decide +kernel) kk
theorem sX6_errorShare_14 {g : ZG} {Q : ZQ} {d cN sN : Nat} {M : ZM} {t0 : Nat} {o0 o1 o2 : Option Value}  (kk : Z g kX6_errorShare Q d cN sN M 15 [o0, o1, o2] [.int 0, .ref t0]) : Z g kX6_errorShare Q d cN sN M 14 [o0, o1, o2] [.ref t0] := by
  refine zi_iconst dX6_errorShare_14 (by decide +kernel : Int32.ofInt (0) = (0 : Int32)) ?_
  exact kk
theorem sX6_errorShare_18 {g : ZG} {Q : ZQ} {d cN sN : Nat} {M : ZM} {t0 : Int32} {o0 o1 o2 : Option Value}  (kt : (t0 : Int32) = 0 → Z g kX6_errorShare Q d cN sN M 23 [o0, o1, o2] []) (kf : ¬ (t0 : Int32) = 0 → Z g kX6_errorShare Q d cN sN M 21 [o0, o1, o2] []) : Z g kX6_errorShare Q d cN sN M 18 [o0, o1, o2] [.int t0] := by
  exact zi_if_eq (tgt := 23) dX6_errorShare_18 (by decide +kernel) kt kf
theorem sX6_errorShare_21 {g : ZG} {Q : ZQ} {d cN sN : Nat} {M : ZM} {o0 o1 o2 : Option Value}  (kk : Q.1 (some (.float (FP.fconst0))) M) : Z g kX6_errorShare Q d cN sN M 21 [o0, o1, o2] [] := by
  refine zi_fconst dX6_errorShare_21 ?_
  exact zi_freturn dX6_errorShare_22 rfl kk
theorem sX6_errorShare_23 {g : ZG} {Q : ZQ} {d cN sN : Nat} {M : ZM} {o0 o1 o2 : Option Value}  (kk : Z g kX6_errorShare Q d cN sN M 27 [o0, some (.int 0), some (.int 0)] []) : Z g kX6_errorShare Q d cN sN M 23 [o0, o1, o2] [] := by
  refine zi_iconst dX6_errorShare_23 (by decide +kernel : Int32.ofInt (0) = (0 : Int32)) ?_
  refine zi_istore_n dX6_errorShare_24 (Nat.le_of_ble_eq_true rfl) ?_
  refine zi_iconst dX6_errorShare_25 (by decide +kernel : Int32.ofInt (0) = (0 : Int32)) ?_
  refine zi_istore_n dX6_errorShare_26 (Nat.le_of_ble_eq_true rfl) ?_
  exact kk
theorem sX6_errorShare_27 {g : ZG} {Q : ZQ} {d cN sN : Nat} {M : ZM} {l2 : Int32} {l0 : Nat} {fs1 : List Value} {r3 : Nat} {n5 : Nat} {f6 : Nat → Int32} {o1 : Option Value} (h2 : M.1 l0 = some (.inr (5, fs1))) (h4 : (fs1)[0]? = some (.ref r3)) (h7 : M.1 r3 = some (.inl (zA g 0, n5, .inl f6))) (h8 : vp_in (1) n5) (kt : (f6 ((1 : Int32).toNatClampNeg) : Int32) ≤ (l2 : Int32) → Z g kX6_errorShare Q d cN sN M 52 [some (.ref l0), o1, some (.int l2)] []) (kf : ¬ (f6 ((1 : Int32).toNatClampNeg) : Int32) ≤ (l2 : Int32) → Z g kX6_errorShare Q d cN sN M 37 [some (.ref l0), o1, some (.int l2)] []) : Z g kX6_errorShare Q d cN sN M 27 [some (.ref l0), o1, some (.int l2)] [] := by
  refine zi_iload_n dX6_errorShare_27 rfl ?_
  refine zi_aload_n dX6_errorShare_28 rfl zrf_r ?_
  refine zi_getfield dX6_errorShare_29 rfl h2 h4 ?_
  refine zi_iconst dX6_errorShare_32 (by decide +kernel : Int32.ofInt (1) = (1 : Int32)) ?_
  refine zi_iaload dX6_errorShare_33 h7 h8 ?_
  exact zi_icmp_ge (tgt := 52) dX6_errorShare_34 (by decide +kernel) kt kf
theorem sX6_errorShare_37 {g : ZG} {Q : ZQ} {d cN sN : Nat} {M : ZM} {l1 : Int32} {l0 : Nat} {l2 : Int32}  (kk : Z g kX6_errorShare Q d cN sN M 41 [some (.ref l0), some (.int l1), some (.int l2)] [.int 1, .int l2, .ref l0, .int l1]) : Z g kX6_errorShare Q d cN sN M 37 [some (.ref l0), some (.int l1), some (.int l2)] [] := by
  refine zi_iload_n dX6_errorShare_37 rfl ?_
  refine zi_aload_n dX6_errorShare_38 rfl zrf_r ?_
  refine zi_iload_n dX6_errorShare_39 rfl ?_
  refine zi_iconst dX6_errorShare_40 (by decide +kernel : Int32.ofInt (1) = (1 : Int32)) ?_
  exact kk
theorem sX6_errorShare_44 {g : ZG} {Q : ZQ} {d cN sN : Nat} {M : ZM} {t0 : Int32} {t1 : Int32} {l2 : Int32} {o0 o1 : Option Value}  (kk : Z g kX6_errorShare Q d cN sN M 27 [o0, some (.int (t0 + t1)), some (.int (l2 + 1))] []) : Z g kX6_errorShare Q d cN sN M 44 [o0, o1, some (.int l2)] [.int t1, .int t0] := by
  refine zi_iadd dX6_errorShare_44 ?_
  refine zi_istore_n dX6_errorShare_45 (Nat.le_of_ble_eq_true rfl) ?_
  refine zi_iinc dX6_errorShare_46 rfl (by decide +kernel : Int32.ofInt (1) = 1) (Nat.le_of_ble_eq_true rfl) ?_
  exact zi_goto (tgt := 27) dX6_errorShare_49 (by decide +kernel) kk
theorem sX6_errorShare_52 {g : ZG} {Q : ZQ} {d cN sN : Nat} {M : ZM} {l0 : Nat} {o1 o2 : Option Value}  (kk : Z g kX6_errorShare Q d cN sN M 54 [some (.ref l0), o1, o2] [.int 1, .ref l0]) : Z g kX6_errorShare Q d cN sN M 52 [some (.ref l0), o1, o2] [] := by
  refine zi_aload_n dX6_errorShare_52 rfl zrf_r ?_
  refine zi_iconst dX6_errorShare_53 (by decide +kernel : Int32.ofInt (1) = (1 : Int32)) ?_
  exact kk
theorem sX6_errorShare_57 {g : ZG} {Q : ZQ} {d cN sN : Nat} {M : ZM} {t0 : Int32} {l1 : Int32} {o0 o2 : Option Value} (h1 : vf_n32 (FP.fdiv (FP.i2f (t0 : Int32)) (FP.i2f (l1 : Int32)))) (kk : Q.1 (some (.float (FP.fdiv (FP.i2f (t0 : Int32)) (FP.i2f (l1 : Int32))))) M) : Z g kX6_errorShare Q d cN sN M 57 [o0, some (.int l1), o2] [.int t0] := by
  refine zi_i2f dX6_errorShare_57 ?_
  refine zi_iload_n dX6_errorShare_58 rfl ?_
  refine zi_i2f dX6_errorShare_59 ?_
  refine zi_fdiv dX6_errorShare_60 h1 ?_
  exact zi_freturn dX6_errorShare_61 rfl kk
abbrev kX6_undo : ZK := (RX6, cX6_undo, 1, (Option.some Jvm.ClassFile.FieldType.int), [], false, fX6)
abbrev tX6_undo (g : ZG) (args : List Value) (M : ZM) (d c s : Nat) (Q : ZQ) : Prop := Ct g yX6_undo (ws_ yX6_undo cX6_undo 1 (Option.some Jvm.ClassFile.FieldType.int)) args M d c s Q
abbrev nX6_undo : Nat := 2
theorem mX6_undo : zMok yX6_undo 0 1 := ⟨⟨by decide +kernel, by decide +kernel, by decide +kernel⟩, by decide⟩
theorem eX6_undo {g : ZG} {Q : ZQ} {d cN sN : Nat} {M : ZM} {a0 : Nat} (hV : zV g) (h : Z g kX6_undo Q d cN sN M 0 [some (.ref a0)] []) : tX6_undo g [.ref a0] M d cN sN Q := Ct.of (K := kX6_undo) rfl (by decide +kernel) hV fokX6 rfl (fun h => by cases h) (fun v hv => by simp only [List.mem_cons, List.not_mem_nil, or_false] at hv; rcases hv with rfl <;> first | rfl | assumption) (Nat.le_of_ble_eq_true rfl) h
theorem sX6_undo_0 {g : ZG} {Q : ZQ} {d cN sN : Nat} {M : ZM} {l0 : Nat} {fs1 : List Value} {y3 : Int32} (h2 : M.1 l0 = some (.inr (5, fs1))) (h4 : (fs1)[5]? = some (.int y3)) (kt : ¬ (y3 : Int32) = 0 → Z g kX6_undo Q d cN sN M 12 [some (.ref l0)] [.ref l0]) (kf : (y3 : Int32) = 0 → Z g kX6_undo Q d cN sN M 8 [some (.ref l0)] [.ref l0]) : Z g kX6_undo Q d cN sN M 0 [some (.ref l0)] [] := by
  refine zi_aload_n dX6_undo_0 rfl zrf_r ?_
  refine zi_aload_n dX6_undo_1 rfl zrf_r ?_
  refine zi_getfield dX6_undo_2 rfl h2 h4 ?_
  exact zi_if_ne (tgt := 12) dX6_undo_5 (by decide +kernel) kt kf
theorem sX6_undo_8 {g : ZG} {Q : ZQ} {d cN sN : Nat} {M : ZM} {t0 : Nat} {o0 : Option Value}  (kk : Z g kX6_undo Q d cN sN M 13 [o0] [.int 1, .ref t0]) : Z g kX6_undo Q d cN sN M 8 [o0] [.ref t0] := by
  refine zi_iconst dX6_undo_8 (by decide +kernel : Int32.ofInt (1) = (1 : Int32)) ?_
  exact zi_goto (tgt := 13) dX6_undo_9 (by decide +kernel) kk
theorem sX6_undo_12 {g : ZG} {Q : ZQ} {d cN sN : Nat} {M : ZM} {t0 : Nat} {o0 : Option Value}  (kk : Z g kX6_undo Q d cN sN M 13 [o0] [.int 0, .ref t0]) : Z g kX6_undo Q d cN sN M 12 [o0] [.ref t0] := by
  refine zi_iconst dX6_undo_12 (by decide +kernel : Int32.ofInt (0) = (0 : Int32)) ?_
  exact kk
theorem sX6_undo_16 {g : ZG} {Q : ZQ} {d cN sN : Nat} {M : ZM} {t0 : Int32} {o0 : Option Value}  (kt : (t0 : Int32) = 0 → Z g kX6_undo Q d cN sN M 21 [o0] []) (kf : ¬ (t0 : Int32) = 0 → Z g kX6_undo Q d cN sN M 19 [o0] []) : Z g kX6_undo Q d cN sN M 16 [o0] [.int t0] := by
  exact zi_if_eq (tgt := 21) dX6_undo_16 (by decide +kernel) kt kf
theorem sX6_undo_19 {g : ZG} {Q : ZQ} {d cN sN : Nat} {M : ZM} {o0 : Option Value}  (kk : Q.1 (some (.int 0)) M) : Z g kX6_undo Q d cN sN M 19 [o0] [] := by
  refine zi_iconst dX6_undo_19 (by decide +kernel : Int32.ofInt (0) = (0 : Int32)) ?_
  exact zi_ireturn dX6_undo_20 rfl rfl kk
theorem sX6_undo_21 {g : ZG} {Q : ZQ} {d cN sN : Nat} {M : ZM} {l0 : Nat} {fs1 : List Value} {y3 : Int32} {r6 : Nat} {y8 : Int32} {r10 : Nat} (h2 : M.1 l0 = some (.inr (5, fs1))) (h4 : (fs1)[5]? = some (.int y3)) (h5 : 5 < (fs1).length) (h7 : (((fs1).set 5 (.int (y3 - 1))))[1]? = some (.ref r6)) (h9 : (((fs1).set 5 (.int (y3 - 1))))[5]? = some (.int y8)) (h11 : (((fs1).set 5 (.int (y3 - 1))))[0]? = some (.ref r10)) (kk : Z g kX6_undo Q d cN sN (zup M l0 (.inr (5, (fs1).set 5 (.int (y3 - 1))))) 48 [some (.ref l0)] [.int 0, .ref r10, .int (240 * y8), .ref r6]) : Z g kX6_undo Q d cN sN M 21 [some (.ref l0)] [] := by
  refine zi_aload_n dX6_undo_21 rfl zrf_r ?_
  refine zi_dup dX6_undo_22 rfl ?_
  refine zi_getfield dX6_undo_23 rfl h2 h4 ?_
  refine zi_iconst dX6_undo_26 (by decide +kernel : Int32.ofInt (1) = (1 : Int32)) ?_
  refine zi_isub dX6_undo_27 ?_
  refine zi_putfield dX6_undo_28 rfl h2 h5 zfit_i (Or.inl rfl) ?_
  refine zi_aload_n dX6_undo_31 rfl zrf_r ?_
  refine zi_getfield dX6_undo_32 rfl (zup_self _ _ _) h7 ?_
  refine zi_sipush dX6_undo_35 (by decide +kernel : (Int16.ofInt (240)).toInt32 = (240 : Int32)) ?_
  refine zi_aload_n dX6_undo_38 rfl zrf_r ?_
  refine zi_getfield dX6_undo_39 rfl (zup_self _ _ _) h9 ?_
  refine zi_imul dX6_undo_42 ?_
  refine zi_aload_n dX6_undo_43 rfl zrf_r ?_
  refine zi_getfield dX6_undo_44 rfl (zup_self _ _ _) h11 ?_
  refine zi_iconst dX6_undo_47 (by decide +kernel : Int32.ofInt (0) = (0 : Int32)) ?_
  exact kk
theorem sX6_undo_51 {g : ZG} {Q : ZQ} {d cN sN : Nat} {M : ZM} {l0 : Nat} {fs1 : List Value} {y3 : Int32} (h2 : M.1 l0 = some (.inr (5, fs1))) (h4 : (fs1)[5]? = some (.int y3)) (kk : Q.1 (some (.int y3)) M) : Z g kX6_undo Q d cN sN M 51 [some (.ref l0)] [] := by
  refine zi_aload_n dX6_undo_51 rfl zrf_r ?_
  refine zi_getfield dX6_undo_52 rfl h2 h4 ?_
  exact zi_ireturn dX6_undo_55 rfl rfl kk
abbrev kX6_save : ZK := (RX6, cX6_save, 1, (Option.some Jvm.ClassFile.FieldType.int), [], false, fX6)
abbrev tX6_save (g : ZG) (args : List Value) (M : ZM) (d c s : Nat) (Q : ZQ) : Prop := Ct g yX6_save (ws_ yX6_save cX6_save 1 (Option.some Jvm.ClassFile.FieldType.int)) args M d c s Q
abbrev nX6_save : Nat := 2
theorem mX6_save : zMok yX6_save 0 1 := ⟨⟨by decide +kernel, by decide +kernel, by decide +kernel⟩, by decide⟩
theorem eX6_save {g : ZG} {Q : ZQ} {d cN sN : Nat} {M : ZM} {a0 : Nat} (hV : zV g) (h : Z g kX6_save Q d cN sN M 0 [some (.ref a0)] []) : tX6_save g [.ref a0] M d cN sN Q := Ct.of (K := kX6_save) rfl (by decide +kernel) hV fokX6 rfl (fun h => by cases h) (fun v hv => by simp only [List.mem_cons, List.not_mem_nil, or_false] at hv; rcases hv with rfl <;> first | rfl | assumption) (Nat.le_of_ble_eq_true rfl) h
theorem sX6_save_0 {g : ZG} {Q : ZQ} {d cN sN : Nat} {M : ZM} {l0 : Nat} {fs1 : List Value} {r5 : Nat} {r7 : Nat} (h2 : M.1 l0 = some (.inr (5, fs1))) (h3 : 8 < (fs1).length) (h4 : 4 < (((fs1).set 8 (.int 0))).length) (h6 : (((((fs1).set 8 (.int 0))).set 4 (.int 1)))[0]? = some (.ref r5)) (h8 : (((((fs1).set 8 (.int 0))).set 4 (.int 1)))[2]? = some (.ref r7)) (kk : Z g kX6_save Q d cN sN (zup (zup M l0 (.inr (5, (fs1).set 8 (.int 0)))) l0 (.inr (5, (((fs1).set 8 (.int 0))).set 4 (.int 1)))) 20 [some (.ref l0)] [.int 0, .ref r7, .int 0, .ref r5]) : Z g kX6_save Q d cN sN M 0 [some (.ref l0)] [] := by
  refine zi_aload_n dX6_save_0 rfl zrf_r ?_
  refine zi_iconst dX6_save_1 (by decide +kernel : Int32.ofInt (0) = (0 : Int32)) ?_
  refine zi_putfield dX6_save_2 rfl h2 h3 zfit_i (Or.inl rfl) ?_
  refine zi_aload_n dX6_save_5 rfl zrf_r ?_
  refine zi_iconst dX6_save_6 (by decide +kernel : Int32.ofInt (1) = (1 : Int32)) ?_
  refine zi_putfield dX6_save_7 rfl (zup_self _ _ _) h4 (zfit_z (by decide)) (Or.inl rfl) ?_
  refine zi_aload_n dX6_save_10 rfl zrf_r ?_
  refine zi_getfield dX6_save_11 rfl (zup_self _ _ _) h6 ?_
  refine zi_iconst dX6_save_14 (by decide +kernel : Int32.ofInt (0) = (0 : Int32)) ?_
  refine zi_aload_n dX6_save_15 rfl zrf_r ?_
  refine zi_getfield dX6_save_16 rfl (zup_self _ _ _) h8 ?_
  refine zi_iconst dX6_save_19 (by decide +kernel : Int32.ofInt (0) = (0 : Int32)) ?_
  exact kk
theorem sX6_save_23 {g : ZG} {Q : ZQ} {d cN sN : Nat} {M : ZM} {l0 : Nat} {fs1 : List Value} {r3 : Nat} {n5 : Nat} {f6 : Nat → Int32} (h2 : M.1 l0 = some (.inr (5, fs1))) (h4 : (fs1)[0]? = some (.ref r3)) (h7 : M.1 r3 = some (.inl (zA g 0, n5, .inl f6))) (h8 : vp_in (1) n5) (kk : Q.1 (some (.int (f6 ((1 : Int32).toNatClampNeg)))) M) : Z g kX6_save Q d cN sN M 23 [some (.ref l0)] [] := by
  refine zi_aload_n dX6_save_23 rfl zrf_r ?_
  refine zi_getfield dX6_save_24 rfl h2 h4 ?_
  refine zi_iconst dX6_save_27 (by decide +kernel : Int32.ofInt (1) = (1 : Int32)) ?_
  refine zi_iaload dX6_save_28 h7 h8 ?_
  exact zi_ireturn dX6_save_29 rfl rfl kk
abbrev kX6_restore : ZK := (RX6, cX6_restore, 1, (Option.some Jvm.ClassFile.FieldType.int), [], false, fX6)
abbrev tX6_restore (g : ZG) (args : List Value) (M : ZM) (d c s : Nat) (Q : ZQ) : Prop := Ct g yX6_restore (ws_ yX6_restore cX6_restore 1 (Option.some Jvm.ClassFile.FieldType.int)) args M d c s Q
abbrev nX6_restore : Nat := 2
theorem mX6_restore : zMok yX6_restore 0 1 := ⟨⟨by decide +kernel, by decide +kernel, by decide +kernel⟩, by decide⟩
theorem eX6_restore {g : ZG} {Q : ZQ} {d cN sN : Nat} {M : ZM} {a0 : Nat} (hV : zV g) (h : Z g kX6_restore Q d cN sN M 0 [some (.ref a0)] []) : tX6_restore g [.ref a0] M d cN sN Q := Ct.of (K := kX6_restore) rfl (by decide +kernel) hV fokX6 rfl (fun h => by cases h) (fun v hv => by simp only [List.mem_cons, List.not_mem_nil, or_false] at hv; rcases hv with rfl <;> first | rfl | assumption) (Nat.le_of_ble_eq_true rfl) h
theorem sX6_restore_0 {g : ZG} {Q : ZQ} {d cN sN : Nat} {M : ZM} {l0 : Nat} {fs1 : List Value} {y3 : Int32} (h2 : M.1 l0 = some (.inr (5, fs1))) (h4 : (fs1)[4]? = some (.int y3)) (kt : (y3 : Int32) = 0 → Z g kX6_restore Q d cN sN M 12 [some (.ref l0)] [.ref l0]) (kf : ¬ (y3 : Int32) = 0 → Z g kX6_restore Q d cN sN M 8 [some (.ref l0)] [.ref l0]) : Z g kX6_restore Q d cN sN M 0 [some (.ref l0)] [] := by
  refine zi_aload_n dX6_restore_0 rfl zrf_r ?_
  refine zi_aload_n dX6_restore_1 rfl zrf_r ?_
  refine zi_getfield dX6_restore_2 rfl h2 h4 ?_
  exact zi_if_eq (tgt := 12) dX6_restore_5 (by decide +kernel) kt kf
theorem sX6_restore_8 {g : ZG} {Q : ZQ} {d cN sN : Nat} {M : ZM} {t0 : Nat} {o0 : Option Value}  (kk : Z g kX6_restore Q d cN sN M 13 [o0] [.int 0, .ref t0]) : Z g kX6_restore Q d cN sN M 8 [o0] [.ref t0] := by
  refine zi_iconst dX6_restore_8 (by decide +kernel : Int32.ofInt (0) = (0 : Int32)) ?_
  exact zi_goto (tgt := 13) dX6_restore_9 (by decide +kernel) kk
theorem sX6_restore_12 {g : ZG} {Q : ZQ} {d cN sN : Nat} {M : ZM} {t0 : Nat} {o0 : Option Value}  (kk : Z g kX6_restore Q d cN sN M 13 [o0] [.int 1, .ref t0]) : Z g kX6_restore Q d cN sN M 12 [o0] [.ref t0] := by
  refine zi_iconst dX6_restore_12 (by decide +kernel : Int32.ofInt (1) = (1 : Int32)) ?_
  exact kk
theorem sX6_restore_16 {g : ZG} {Q : ZQ} {d cN sN : Nat} {M : ZM} {t0 : Int32} {o0 : Option Value}  (kt : (t0 : Int32) = 0 → Z g kX6_restore Q d cN sN M 21 [o0] []) (kf : ¬ (t0 : Int32) = 0 → Z g kX6_restore Q d cN sN M 19 [o0] []) : Z g kX6_restore Q d cN sN M 16 [o0] [.int t0] := by
  exact zi_if_eq (tgt := 21) dX6_restore_16 (by decide +kernel) kt kf
theorem sX6_restore_19 {g : ZG} {Q : ZQ} {d cN sN : Nat} {M : ZM} {o0 : Option Value}  (kk : Q.1 (some (.int 0)) M) : Z g kX6_restore Q d cN sN M 19 [o0] [] := by
  refine zi_iconst dX6_restore_19 (by decide +kernel : Int32.ofInt (0) = (0 : Int32)) ?_
  exact zi_ireturn dX6_restore_20 rfl rfl kk
theorem sX6_restore_21 {g : ZG} {Q : ZQ} {d cN sN : Nat} {M : ZM} {l0 : Nat} {fs1 : List Value} {r3 : Nat} {r5 : Nat} (h2 : M.1 l0 = some (.inr (5, fs1))) (h4 : (fs1)[2]? = some (.ref r3)) (h6 : (fs1)[0]? = some (.ref r5)) (kk : Z g kX6_restore Q d cN sN M 31 [some (.ref l0)] [.int 0, .ref r5, .int 0, .ref r3]) : Z g kX6_restore Q d cN sN M 21 [some (.ref l0)] [] := by
  refine zi_aload_n dX6_restore_21 rfl zrf_r ?_
  refine zi_getfield dX6_restore_22 rfl h2 h4 ?_
  refine zi_iconst dX6_restore_25 (by decide +kernel : Int32.ofInt (0) = (0 : Int32)) ?_
  refine zi_aload_n dX6_restore_26 rfl zrf_r ?_
  refine zi_getfield dX6_restore_27 rfl h2 h6 ?_
  refine zi_iconst dX6_restore_30 (by decide +kernel : Int32.ofInt (0) = (0 : Int32)) ?_
  exact kk
theorem sX6_restore_34 {g : ZG} {Q : ZQ} {d cN sN : Nat} {M : ZM} {l0 : Nat} {fs1 : List Value} {r4 : Nat} {n6 : Nat} {f7 : Nat → Int32} (h2 : M.1 l0 = some (.inr (5, fs1))) (h3 : 5 < (fs1).length) (h5 : (((fs1).set 5 (.int 0)))[0]? = some (.ref r4)) (h8 : (zup M l0 (.inr (5, (fs1).set 5 (.int 0)))).1 r4 = some (.inl (zA g 0, n6, .inl f7))) (h9 : vp_in (1) n6) (kk : Q.1 (some (.int (f7 ((1 : Int32).toNatClampNeg)))) (zup M l0 (.inr (5, (fs1).set 5 (.int 0))))) : Z g kX6_restore Q d cN sN M 34 [some (.ref l0)] [] := by
  refine zi_aload_n dX6_restore_34 rfl zrf_r ?_
  refine zi_iconst dX6_restore_35 (by decide +kernel : Int32.ofInt (0) = (0 : Int32)) ?_
  refine zi_putfield dX6_restore_36 rfl h2 h3 zfit_i (Or.inl rfl) ?_
  refine zi_aload_n dX6_restore_39 rfl zrf_r ?_
  refine zi_getfield dX6_restore_40 rfl (zup_self _ _ _) h5 ?_
  refine zi_iconst dX6_restore_43 (by decide +kernel : Int32.ofInt (1) = (1 : Int32)) ?_
  refine zi_iaload dX6_restore_44 h8 h9 ?_
  exact zi_ireturn dX6_restore_45 rfl rfl kk
