/-! ErrataPress$Press (printed by gen_m.py) -/
set_option maxRecDepth 100000
abbrev cX2_init : ByteArray := prog_6_method_1_code
def yX2_init : MethodName := ⟨RX2, "<init>", "()V"⟩
def dkwX2_init_4 : List UInt8 := [187, 0, 24, 89, 183, 0, 44, 83, 132, 1, 1, 167, 255, 234, 177]
abbrev dktX2_init_4 : List UInt8 := dkwX2_init_4 ++ []
def dkwX2_init_3 : List UInt8 := [183, 0, 43, 83, 132, 1, 1, 167, 255, 235, 3, 60, 27, 16, 8, 162, 0, 22, 42, 180, 0, 26, 27]
abbrev dktX2_init_3 : List UInt8 := dkwX2_init_3 ++ dktX2_init_4
def dkwX2_init_2 : List UInt8 := [189, 0, 37, 181, 0, 39, 3, 60, 27, 7, 162, 0, 22, 42, 180, 0, 20, 27, 187, 0, 18, 89]
abbrev dktX2_init_2 : List UInt8 := dkwX2_init_2 ++ dktX2_init_3
def dkwX2_init_1 : List UInt8 := [16, 8, 189, 0, 24, 181, 0, 26, 42, 8, 188, 10, 181, 0, 30, 42, 8, 188, 10, 181, 0, 34, 42, 8]
abbrev dktX2_init_1 : List UInt8 := dkwX2_init_1 ++ dktX2_init_2
def dkwX2_init_0 : List UInt8 := [42, 183, 0, 3, 42, 4, 5, 5, 184, 0, 9, 181, 0, 13, 42, 7, 189, 0, 18, 181, 0, 20, 42]
abbrev dktX2_init_0 : List UInt8 := dkwX2_init_0 ++ dktX2_init_1
theorem dksX2_init_0 : cX2_init.data.toList.drop 0 = dktX2_init_0 := by decide +kernel
theorem dksX2_init_1 : cX2_init.data.toList.drop 23 = dktX2_init_1 := dk_seg dksX2_init_0 23 rfl rfl
theorem dksX2_init_2 : cX2_init.data.toList.drop 47 = dktX2_init_2 := dk_seg dksX2_init_1 24 rfl rfl
theorem dksX2_init_3 : cX2_init.data.toList.drop 69 = dktX2_init_3 := dk_seg dksX2_init_2 22 rfl rfl
theorem dksX2_init_4 : cX2_init.data.toList.drop 92 = dktX2_init_4 := dk_seg dksX2_init_3 23 rfl rfl
theorem dX2_init_0 : decode cX2_init 0 = .ok (.aload_n 0, 1) := dk_42 (dk_at dksX2_init_0 0 rfl rfl)
theorem dX2_init_1 : decode cX2_init 1 = .ok (.invokespecial 3, 3) := dk_183 0 3 (dk_at dksX2_init_0 1 rfl rfl)
theorem dX2_init_4 : decode cX2_init 4 = .ok (.aload_n 0, 1) := dk_42 (dk_at dksX2_init_0 4 rfl rfl)
theorem dX2_init_5 : decode cX2_init 5 = .ok (.iconst 1, 1) := dk_4 (dk_at dksX2_init_0 5 rfl rfl)
theorem dX2_init_6 : decode cX2_init 6 = .ok (.iconst 2, 1) := dk_5 (dk_at dksX2_init_0 6 rfl rfl)
theorem dX2_init_7 : decode cX2_init 7 = .ok (.iconst 2, 1) := dk_5 (dk_at dksX2_init_0 7 rfl rfl)
theorem dX2_init_8 : decode cX2_init 8 = .ok (.invokestatic 9, 3) := dk_184 0 9 (dk_at dksX2_init_0 8 rfl rfl)
theorem dX2_init_11 : decode cX2_init 11 = .ok (.putfield 13, 3) := dk_181 0 13 (dk_at dksX2_init_0 11 rfl rfl)
theorem dX2_init_14 : decode cX2_init 14 = .ok (.aload_n 0, 1) := dk_42 (dk_at dksX2_init_0 14 rfl rfl)
theorem dX2_init_15 : decode cX2_init 15 = .ok (.iconst 4, 1) := dk_7 (dk_at dksX2_init_0 15 rfl rfl)
theorem dX2_init_16 : decode cX2_init 16 = .ok (.anewarray 18, 3) := dk_189 0 18 (dk_at dksX2_init_0 16 rfl rfl)
theorem dX2_init_19 : decode cX2_init 19 = .ok (.putfield 20, 3) := dk_181 0 20 (dk_at dksX2_init_0 19 rfl rfl)
theorem dX2_init_22 : decode cX2_init 22 = .ok (.aload_n 0, 1) := dk_42 (dk_at dksX2_init_0 22 rfl rfl)
theorem dX2_init_23 : decode cX2_init 23 = .ok (.bipush 8, 2) := dk_16 8 (dk_at dksX2_init_1 0 rfl rfl)
theorem dX2_init_25 : decode cX2_init 25 = .ok (.anewarray 24, 3) := dk_189 0 24 (dk_at dksX2_init_1 2 rfl rfl)
theorem dX2_init_28 : decode cX2_init 28 = .ok (.putfield 26, 3) := dk_181 0 26 (dk_at dksX2_init_1 5 rfl rfl)
theorem dX2_init_31 : decode cX2_init 31 = .ok (.aload_n 0, 1) := dk_42 (dk_at dksX2_init_1 8 rfl rfl)
theorem dX2_init_32 : decode cX2_init 32 = .ok (.iconst 5, 1) := dk_8 (dk_at dksX2_init_1 9 rfl rfl)
theorem dX2_init_33 : decode cX2_init 33 = .ok (.newarray .int, 2) := dk_188_10 (dk_at dksX2_init_1 10 rfl rfl)
theorem dX2_init_35 : decode cX2_init 35 = .ok (.putfield 30, 3) := dk_181 0 30 (dk_at dksX2_init_1 12 rfl rfl)
theorem dX2_init_38 : decode cX2_init 38 = .ok (.aload_n 0, 1) := dk_42 (dk_at dksX2_init_1 15 rfl rfl)
theorem dX2_init_39 : decode cX2_init 39 = .ok (.iconst 5, 1) := dk_8 (dk_at dksX2_init_1 16 rfl rfl)
theorem dX2_init_40 : decode cX2_init 40 = .ok (.newarray .int, 2) := dk_188_10 (dk_at dksX2_init_1 17 rfl rfl)
theorem dX2_init_42 : decode cX2_init 42 = .ok (.putfield 34, 3) := dk_181 0 34 (dk_at dksX2_init_1 19 rfl rfl)
theorem dX2_init_45 : decode cX2_init 45 = .ok (.aload_n 0, 1) := dk_42 (dk_at dksX2_init_1 22 rfl rfl)
theorem dX2_init_46 : decode cX2_init 46 = .ok (.iconst 5, 1) := dk_8 (dk_at dksX2_init_1 23 rfl rfl)
theorem dX2_init_47 : decode cX2_init 47 = .ok (.anewarray 37, 3) := dk_189 0 37 (dk_at dksX2_init_2 0 rfl rfl)
theorem dX2_init_50 : decode cX2_init 50 = .ok (.putfield 39, 3) := dk_181 0 39 (dk_at dksX2_init_2 3 rfl rfl)
theorem dX2_init_53 : decode cX2_init 53 = .ok (.iconst 0, 1) := dk_3 (dk_at dksX2_init_2 6 rfl rfl)
theorem dX2_init_54 : decode cX2_init 54 = .ok (.istore_n 1, 1) := dk_60 (dk_at dksX2_init_2 7 rfl rfl)
theorem dX2_init_55 : decode cX2_init 55 = .ok (.iload_n 1, 1) := dk_27 (dk_at dksX2_init_2 8 rfl rfl)
theorem dX2_init_56 : decode cX2_init 56 = .ok (.iconst 4, 1) := dk_7 (dk_at dksX2_init_2 9 rfl rfl)
theorem dX2_init_57 : decode cX2_init 57 = .ok (.if_icmp .ge 22, 3) := dk_162 0 22 (dk_at dksX2_init_2 10 rfl rfl)
theorem dX2_init_60 : decode cX2_init 60 = .ok (.aload_n 0, 1) := dk_42 (dk_at dksX2_init_2 13 rfl rfl)
theorem dX2_init_61 : decode cX2_init 61 = .ok (.getfield 20, 3) := dk_180 0 20 (dk_at dksX2_init_2 14 rfl rfl)
theorem dX2_init_64 : decode cX2_init 64 = .ok (.iload_n 1, 1) := dk_27 (dk_at dksX2_init_2 17 rfl rfl)
theorem dX2_init_65 : decode cX2_init 65 = .ok (.new 18, 3) := dk_187 0 18 (dk_at dksX2_init_2 18 rfl rfl)
theorem dX2_init_68 : decode cX2_init 68 = .ok (.dup, 1) := dk_89 (dk_at dksX2_init_2 21 rfl rfl)
theorem dX2_init_69 : decode cX2_init 69 = .ok (.invokespecial 43, 3) := dk_183 0 43 (dk_at dksX2_init_3 0 rfl rfl)
theorem dX2_init_72 : decode cX2_init 72 = .ok (.aastore, 1) := dk_83 (dk_at dksX2_init_3 3 rfl rfl)
theorem dX2_init_73 : decode cX2_init 73 = .ok (.iinc 1 1, 3) := dk_132 1 1 (dk_at dksX2_init_3 4 rfl rfl)
theorem dX2_init_76 : decode cX2_init 76 = .ok (.goto (-21), 3) := dk_167 255 235 (dk_at dksX2_init_3 7 rfl rfl)
theorem dX2_init_79 : decode cX2_init 79 = .ok (.iconst 0, 1) := dk_3 (dk_at dksX2_init_3 10 rfl rfl)
theorem dX2_init_80 : decode cX2_init 80 = .ok (.istore_n 1, 1) := dk_60 (dk_at dksX2_init_3 11 rfl rfl)
theorem dX2_init_81 : decode cX2_init 81 = .ok (.iload_n 1, 1) := dk_27 (dk_at dksX2_init_3 12 rfl rfl)
theorem dX2_init_82 : decode cX2_init 82 = .ok (.bipush 8, 2) := dk_16 8 (dk_at dksX2_init_3 13 rfl rfl)
theorem dX2_init_84 : decode cX2_init 84 = .ok (.if_icmp .ge 22, 3) := dk_162 0 22 (dk_at dksX2_init_3 15 rfl rfl)
theorem dX2_init_87 : decode cX2_init 87 = .ok (.aload_n 0, 1) := dk_42 (dk_at dksX2_init_3 18 rfl rfl)
theorem dX2_init_88 : decode cX2_init 88 = .ok (.getfield 26, 3) := dk_180 0 26 (dk_at dksX2_init_3 19 rfl rfl)
theorem dX2_init_91 : decode cX2_init 91 = .ok (.iload_n 1, 1) := dk_27 (dk_at dksX2_init_3 22 rfl rfl)
theorem dX2_init_92 : decode cX2_init 92 = .ok (.new 24, 3) := dk_187 0 24 (dk_at dksX2_init_4 0 rfl rfl)
theorem dX2_init_95 : decode cX2_init 95 = .ok (.dup, 1) := dk_89 (dk_at dksX2_init_4 3 rfl rfl)
theorem dX2_init_96 : decode cX2_init 96 = .ok (.invokespecial 44, 3) := dk_183 0 44 (dk_at dksX2_init_4 4 rfl rfl)
theorem dX2_init_99 : decode cX2_init 99 = .ok (.aastore, 1) := dk_83 (dk_at dksX2_init_4 7 rfl rfl)
theorem dX2_init_100 : decode cX2_init 100 = .ok (.iinc 1 1, 3) := dk_132 1 1 (dk_at dksX2_init_4 8 rfl rfl)
theorem dX2_init_103 : decode cX2_init 103 = .ok (.goto (-22), 3) := dk_167 255 234 (dk_at dksX2_init_4 11 rfl rfl)
theorem dX2_init_106 : decode cX2_init 106 = .ok (.return_, 1) := dk_177 (dk_at dksX2_init_4 14 rfl rfl)
abbrev cX2_take : ByteArray := prog_6_method_2_code
def yX2_take : MethodName := ⟨RX2, "take", "(LErrataPress$Press;)V"⟩
def dkwX2_take_7 : List UInt8 := [181, 0, 71, 42, 43, 180, 0, 74, 181, 0, 74, 42, 43, 180, 0, 77, 181, 0, 77, 177]
abbrev dktX2_take_7 : List UInt8 := dkwX2_take_7 ++ []
def dkwX2_take_6 : List UInt8 := [181, 0, 62, 42, 43, 180, 0, 65, 181, 0, 65, 42, 43, 180, 0, 68, 181, 0, 68, 42, 43, 180, 0, 71]
abbrev dktX2_take_6 : List UInt8 := dkwX2_take_6 ++ dktX2_take_7
def dkwX2_take_5 : List UInt8 := [42, 180, 0, 39, 28, 43, 180, 0, 39, 28, 50, 83, 132, 2, 1, 167, 255, 209, 42, 43, 180, 0, 62]
abbrev dktX2_take_5 : List UInt8 := dkwX2_take_5 ++ dktX2_take_6
def dkwX2_take_4 : List UInt8 := [42, 180, 0, 30, 28, 43, 180, 0, 30, 28, 46, 79, 42, 180, 0, 34, 28, 43, 180, 0, 34, 28, 46, 79]
abbrev dktX2_take_4 : List UInt8 := dkwX2_take_4 ++ dktX2_take_5
def dkwX2_take_3 : List UInt8 := [132, 2, 1, 167, 255, 230, 42, 43, 180, 0, 59, 181, 0, 59, 3, 61, 28, 42, 180, 0, 59, 162, 0, 45]
abbrev dktX2_take_3 : List UInt8 := dkwX2_take_3 ++ dktX2_take_4
def dkwX2_take_2 : List UInt8 := [61, 28, 42, 180, 0, 53, 162, 0, 24, 42, 180, 0, 26, 28, 50, 43, 180, 0, 26, 28, 50, 182, 0, 56]
abbrev dktX2_take_2 : List UInt8 := dkwX2_take_2 ++ dktX2_take_3
def dkwX2_take_1 : List UInt8 := [43, 180, 0, 20, 28, 50, 182, 0, 49, 132, 2, 1, 167, 255, 230, 42, 43, 180, 0, 53, 181, 0, 53, 3]
abbrev dktX2_take_1 : List UInt8 := dkwX2_take_1 ++ dktX2_take_2
def dkwX2_take_0 : List UInt8 := [42, 43, 180, 0, 45, 181, 0, 45, 3, 61, 28, 42, 180, 0, 45, 162, 0, 24, 42, 180, 0, 20, 28, 50]
abbrev dktX2_take_0 : List UInt8 := dkwX2_take_0 ++ dktX2_take_1
theorem dksX2_take_0 : cX2_take.data.toList.drop 0 = dktX2_take_0 := by decide +kernel
theorem dksX2_take_1 : cX2_take.data.toList.drop 24 = dktX2_take_1 := dk_seg dksX2_take_0 24 rfl rfl
theorem dksX2_take_2 : cX2_take.data.toList.drop 48 = dktX2_take_2 := dk_seg dksX2_take_1 24 rfl rfl
theorem dksX2_take_3 : cX2_take.data.toList.drop 72 = dktX2_take_3 := dk_seg dksX2_take_2 24 rfl rfl
theorem dksX2_take_4 : cX2_take.data.toList.drop 96 = dktX2_take_4 := dk_seg dksX2_take_3 24 rfl rfl
theorem dksX2_take_5 : cX2_take.data.toList.drop 120 = dktX2_take_5 := dk_seg dksX2_take_4 24 rfl rfl
theorem dksX2_take_6 : cX2_take.data.toList.drop 143 = dktX2_take_6 := dk_seg dksX2_take_5 23 rfl rfl
theorem dksX2_take_7 : cX2_take.data.toList.drop 167 = dktX2_take_7 := dk_seg dksX2_take_6 24 rfl rfl
theorem dX2_take_0 : decode cX2_take 0 = .ok (.aload_n 0, 1) := dk_42 (dk_at dksX2_take_0 0 rfl rfl)
theorem dX2_take_1 : decode cX2_take 1 = .ok (.aload_n 1, 1) := dk_43 (dk_at dksX2_take_0 1 rfl rfl)
theorem dX2_take_2 : decode cX2_take 2 = .ok (.getfield 45, 3) := dk_180 0 45 (dk_at dksX2_take_0 2 rfl rfl)
theorem dX2_take_5 : decode cX2_take 5 = .ok (.putfield 45, 3) := dk_181 0 45 (dk_at dksX2_take_0 5 rfl rfl)
theorem dX2_take_8 : decode cX2_take 8 = .ok (.iconst 0, 1) := dk_3 (dk_at dksX2_take_0 8 rfl rfl)
theorem dX2_take_9 : decode cX2_take 9 = .ok (.istore_n 2, 1) := dk_61 (dk_at dksX2_take_0 9 rfl rfl)
theorem dX2_take_10 : decode cX2_take 10 = .ok (.iload_n 2, 1) := dk_28 (dk_at dksX2_take_0 10 rfl rfl)
theorem dX2_take_11 : decode cX2_take 11 = .ok (.aload_n 0, 1) := dk_42 (dk_at dksX2_take_0 11 rfl rfl)
theorem dX2_take_12 : decode cX2_take 12 = .ok (.getfield 45, 3) := dk_180 0 45 (dk_at dksX2_take_0 12 rfl rfl)
theorem dX2_take_15 : decode cX2_take 15 = .ok (.if_icmp .ge 24, 3) := dk_162 0 24 (dk_at dksX2_take_0 15 rfl rfl)
theorem dX2_take_18 : decode cX2_take 18 = .ok (.aload_n 0, 1) := dk_42 (dk_at dksX2_take_0 18 rfl rfl)
theorem dX2_take_19 : decode cX2_take 19 = .ok (.getfield 20, 3) := dk_180 0 20 (dk_at dksX2_take_0 19 rfl rfl)
theorem dX2_take_22 : decode cX2_take 22 = .ok (.iload_n 2, 1) := dk_28 (dk_at dksX2_take_0 22 rfl rfl)
theorem dX2_take_23 : decode cX2_take 23 = .ok (.aaload, 1) := dk_50 (dk_at dksX2_take_0 23 rfl rfl)
theorem dX2_take_24 : decode cX2_take 24 = .ok (.aload_n 1, 1) := dk_43 (dk_at dksX2_take_1 0 rfl rfl)
theorem dX2_take_25 : decode cX2_take 25 = .ok (.getfield 20, 3) := dk_180 0 20 (dk_at dksX2_take_1 1 rfl rfl)
theorem dX2_take_28 : decode cX2_take 28 = .ok (.iload_n 2, 1) := dk_28 (dk_at dksX2_take_1 4 rfl rfl)
theorem dX2_take_29 : decode cX2_take 29 = .ok (.aaload, 1) := dk_50 (dk_at dksX2_take_1 5 rfl rfl)
theorem dX2_take_30 : decode cX2_take 30 = .ok (.invokevirtual 49, 3) := dk_182 0 49 (dk_at dksX2_take_1 6 rfl rfl)
theorem dX2_take_33 : decode cX2_take 33 = .ok (.iinc 2 1, 3) := dk_132 2 1 (dk_at dksX2_take_1 9 rfl rfl)
theorem dX2_take_36 : decode cX2_take 36 = .ok (.goto (-26), 3) := dk_167 255 230 (dk_at dksX2_take_1 12 rfl rfl)
theorem dX2_take_39 : decode cX2_take 39 = .ok (.aload_n 0, 1) := dk_42 (dk_at dksX2_take_1 15 rfl rfl)
theorem dX2_take_40 : decode cX2_take 40 = .ok (.aload_n 1, 1) := dk_43 (dk_at dksX2_take_1 16 rfl rfl)
theorem dX2_take_41 : decode cX2_take 41 = .ok (.getfield 53, 3) := dk_180 0 53 (dk_at dksX2_take_1 17 rfl rfl)
theorem dX2_take_44 : decode cX2_take 44 = .ok (.putfield 53, 3) := dk_181 0 53 (dk_at dksX2_take_1 20 rfl rfl)
theorem dX2_take_47 : decode cX2_take 47 = .ok (.iconst 0, 1) := dk_3 (dk_at dksX2_take_1 23 rfl rfl)
theorem dX2_take_48 : decode cX2_take 48 = .ok (.istore_n 2, 1) := dk_61 (dk_at dksX2_take_2 0 rfl rfl)
theorem dX2_take_49 : decode cX2_take 49 = .ok (.iload_n 2, 1) := dk_28 (dk_at dksX2_take_2 1 rfl rfl)
theorem dX2_take_50 : decode cX2_take 50 = .ok (.aload_n 0, 1) := dk_42 (dk_at dksX2_take_2 2 rfl rfl)
theorem dX2_take_51 : decode cX2_take 51 = .ok (.getfield 53, 3) := dk_180 0 53 (dk_at dksX2_take_2 3 rfl rfl)
theorem dX2_take_54 : decode cX2_take 54 = .ok (.if_icmp .ge 24, 3) := dk_162 0 24 (dk_at dksX2_take_2 6 rfl rfl)
theorem dX2_take_57 : decode cX2_take 57 = .ok (.aload_n 0, 1) := dk_42 (dk_at dksX2_take_2 9 rfl rfl)
theorem dX2_take_58 : decode cX2_take 58 = .ok (.getfield 26, 3) := dk_180 0 26 (dk_at dksX2_take_2 10 rfl rfl)
theorem dX2_take_61 : decode cX2_take 61 = .ok (.iload_n 2, 1) := dk_28 (dk_at dksX2_take_2 13 rfl rfl)
theorem dX2_take_62 : decode cX2_take 62 = .ok (.aaload, 1) := dk_50 (dk_at dksX2_take_2 14 rfl rfl)
theorem dX2_take_63 : decode cX2_take 63 = .ok (.aload_n 1, 1) := dk_43 (dk_at dksX2_take_2 15 rfl rfl)
theorem dX2_take_64 : decode cX2_take 64 = .ok (.getfield 26, 3) := dk_180 0 26 (dk_at dksX2_take_2 16 rfl rfl)
theorem dX2_take_67 : decode cX2_take 67 = .ok (.iload_n 2, 1) := dk_28 (dk_at dksX2_take_2 19 rfl rfl)
theorem dX2_take_68 : decode cX2_take 68 = .ok (.aaload, 1) := dk_50 (dk_at dksX2_take_2 20 rfl rfl)
theorem dX2_take_69 : decode cX2_take 69 = .ok (.invokevirtual 56, 3) := dk_182 0 56 (dk_at dksX2_take_2 21 rfl rfl)
theorem dX2_take_72 : decode cX2_take 72 = .ok (.iinc 2 1, 3) := dk_132 2 1 (dk_at dksX2_take_3 0 rfl rfl)
theorem dX2_take_75 : decode cX2_take 75 = .ok (.goto (-26), 3) := dk_167 255 230 (dk_at dksX2_take_3 3 rfl rfl)
theorem dX2_take_78 : decode cX2_take 78 = .ok (.aload_n 0, 1) := dk_42 (dk_at dksX2_take_3 6 rfl rfl)
theorem dX2_take_79 : decode cX2_take 79 = .ok (.aload_n 1, 1) := dk_43 (dk_at dksX2_take_3 7 rfl rfl)
theorem dX2_take_80 : decode cX2_take 80 = .ok (.getfield 59, 3) := dk_180 0 59 (dk_at dksX2_take_3 8 rfl rfl)
theorem dX2_take_83 : decode cX2_take 83 = .ok (.putfield 59, 3) := dk_181 0 59 (dk_at dksX2_take_3 11 rfl rfl)
theorem dX2_take_86 : decode cX2_take 86 = .ok (.iconst 0, 1) := dk_3 (dk_at dksX2_take_3 14 rfl rfl)
theorem dX2_take_87 : decode cX2_take 87 = .ok (.istore_n 2, 1) := dk_61 (dk_at dksX2_take_3 15 rfl rfl)
theorem dX2_take_88 : decode cX2_take 88 = .ok (.iload_n 2, 1) := dk_28 (dk_at dksX2_take_3 16 rfl rfl)
theorem dX2_take_89 : decode cX2_take 89 = .ok (.aload_n 0, 1) := dk_42 (dk_at dksX2_take_3 17 rfl rfl)
theorem dX2_take_90 : decode cX2_take 90 = .ok (.getfield 59, 3) := dk_180 0 59 (dk_at dksX2_take_3 18 rfl rfl)
theorem dX2_take_93 : decode cX2_take 93 = .ok (.if_icmp .ge 45, 3) := dk_162 0 45 (dk_at dksX2_take_3 21 rfl rfl)
theorem dX2_take_96 : decode cX2_take 96 = .ok (.aload_n 0, 1) := dk_42 (dk_at dksX2_take_4 0 rfl rfl)
theorem dX2_take_97 : decode cX2_take 97 = .ok (.getfield 30, 3) := dk_180 0 30 (dk_at dksX2_take_4 1 rfl rfl)
theorem dX2_take_100 : decode cX2_take 100 = .ok (.iload_n 2, 1) := dk_28 (dk_at dksX2_take_4 4 rfl rfl)
theorem dX2_take_101 : decode cX2_take 101 = .ok (.aload_n 1, 1) := dk_43 (dk_at dksX2_take_4 5 rfl rfl)
theorem dX2_take_102 : decode cX2_take 102 = .ok (.getfield 30, 3) := dk_180 0 30 (dk_at dksX2_take_4 6 rfl rfl)
theorem dX2_take_105 : decode cX2_take 105 = .ok (.iload_n 2, 1) := dk_28 (dk_at dksX2_take_4 9 rfl rfl)
theorem dX2_take_106 : decode cX2_take 106 = .ok (.iaload, 1) := dk_46 (dk_at dksX2_take_4 10 rfl rfl)
theorem dX2_take_107 : decode cX2_take 107 = .ok (.iastore, 1) := dk_79 (dk_at dksX2_take_4 11 rfl rfl)
theorem dX2_take_108 : decode cX2_take 108 = .ok (.aload_n 0, 1) := dk_42 (dk_at dksX2_take_4 12 rfl rfl)
theorem dX2_take_109 : decode cX2_take 109 = .ok (.getfield 34, 3) := dk_180 0 34 (dk_at dksX2_take_4 13 rfl rfl)
theorem dX2_take_112 : decode cX2_take 112 = .ok (.iload_n 2, 1) := dk_28 (dk_at dksX2_take_4 16 rfl rfl)
theorem dX2_take_113 : decode cX2_take 113 = .ok (.aload_n 1, 1) := dk_43 (dk_at dksX2_take_4 17 rfl rfl)
theorem dX2_take_114 : decode cX2_take 114 = .ok (.getfield 34, 3) := dk_180 0 34 (dk_at dksX2_take_4 18 rfl rfl)
theorem dX2_take_117 : decode cX2_take 117 = .ok (.iload_n 2, 1) := dk_28 (dk_at dksX2_take_4 21 rfl rfl)
theorem dX2_take_118 : decode cX2_take 118 = .ok (.iaload, 1) := dk_46 (dk_at dksX2_take_4 22 rfl rfl)
theorem dX2_take_119 : decode cX2_take 119 = .ok (.iastore, 1) := dk_79 (dk_at dksX2_take_4 23 rfl rfl)
theorem dX2_take_120 : decode cX2_take 120 = .ok (.aload_n 0, 1) := dk_42 (dk_at dksX2_take_5 0 rfl rfl)
theorem dX2_take_121 : decode cX2_take 121 = .ok (.getfield 39, 3) := dk_180 0 39 (dk_at dksX2_take_5 1 rfl rfl)
theorem dX2_take_124 : decode cX2_take 124 = .ok (.iload_n 2, 1) := dk_28 (dk_at dksX2_take_5 4 rfl rfl)
theorem dX2_take_125 : decode cX2_take 125 = .ok (.aload_n 1, 1) := dk_43 (dk_at dksX2_take_5 5 rfl rfl)
theorem dX2_take_126 : decode cX2_take 126 = .ok (.getfield 39, 3) := dk_180 0 39 (dk_at dksX2_take_5 6 rfl rfl)
theorem dX2_take_129 : decode cX2_take 129 = .ok (.iload_n 2, 1) := dk_28 (dk_at dksX2_take_5 9 rfl rfl)
theorem dX2_take_130 : decode cX2_take 130 = .ok (.aaload, 1) := dk_50 (dk_at dksX2_take_5 10 rfl rfl)
theorem dX2_take_131 : decode cX2_take 131 = .ok (.aastore, 1) := dk_83 (dk_at dksX2_take_5 11 rfl rfl)
theorem dX2_take_132 : decode cX2_take 132 = .ok (.iinc 2 1, 3) := dk_132 2 1 (dk_at dksX2_take_5 12 rfl rfl)
theorem dX2_take_135 : decode cX2_take 135 = .ok (.goto (-47), 3) := dk_167 255 209 (dk_at dksX2_take_5 15 rfl rfl)
theorem dX2_take_138 : decode cX2_take 138 = .ok (.aload_n 0, 1) := dk_42 (dk_at dksX2_take_5 18 rfl rfl)
theorem dX2_take_139 : decode cX2_take 139 = .ok (.aload_n 1, 1) := dk_43 (dk_at dksX2_take_5 19 rfl rfl)
theorem dX2_take_140 : decode cX2_take 140 = .ok (.getfield 62, 3) := dk_180 0 62 (dk_at dksX2_take_5 20 rfl rfl)
theorem dX2_take_143 : decode cX2_take 143 = .ok (.putfield 62, 3) := dk_181 0 62 (dk_at dksX2_take_6 0 rfl rfl)
theorem dX2_take_146 : decode cX2_take 146 = .ok (.aload_n 0, 1) := dk_42 (dk_at dksX2_take_6 3 rfl rfl)
theorem dX2_take_147 : decode cX2_take 147 = .ok (.aload_n 1, 1) := dk_43 (dk_at dksX2_take_6 4 rfl rfl)
theorem dX2_take_148 : decode cX2_take 148 = .ok (.getfield 65, 3) := dk_180 0 65 (dk_at dksX2_take_6 5 rfl rfl)
theorem dX2_take_151 : decode cX2_take 151 = .ok (.putfield 65, 3) := dk_181 0 65 (dk_at dksX2_take_6 8 rfl rfl)
theorem dX2_take_154 : decode cX2_take 154 = .ok (.aload_n 0, 1) := dk_42 (dk_at dksX2_take_6 11 rfl rfl)
theorem dX2_take_155 : decode cX2_take 155 = .ok (.aload_n 1, 1) := dk_43 (dk_at dksX2_take_6 12 rfl rfl)
theorem dX2_take_156 : decode cX2_take 156 = .ok (.getfield 68, 3) := dk_180 0 68 (dk_at dksX2_take_6 13 rfl rfl)
theorem dX2_take_159 : decode cX2_take 159 = .ok (.putfield 68, 3) := dk_181 0 68 (dk_at dksX2_take_6 16 rfl rfl)
theorem dX2_take_162 : decode cX2_take 162 = .ok (.aload_n 0, 1) := dk_42 (dk_at dksX2_take_6 19 rfl rfl)
theorem dX2_take_163 : decode cX2_take 163 = .ok (.aload_n 1, 1) := dk_43 (dk_at dksX2_take_6 20 rfl rfl)
theorem dX2_take_164 : decode cX2_take 164 = .ok (.getfield 71, 3) := dk_180 0 71 (dk_at dksX2_take_6 21 rfl rfl)
theorem dX2_take_167 : decode cX2_take 167 = .ok (.putfield 71, 3) := dk_181 0 71 (dk_at dksX2_take_7 0 rfl rfl)
theorem dX2_take_170 : decode cX2_take 170 = .ok (.aload_n 0, 1) := dk_42 (dk_at dksX2_take_7 3 rfl rfl)
theorem dX2_take_171 : decode cX2_take 171 = .ok (.aload_n 1, 1) := dk_43 (dk_at dksX2_take_7 4 rfl rfl)
theorem dX2_take_172 : decode cX2_take 172 = .ok (.getfield 74, 3) := dk_180 0 74 (dk_at dksX2_take_7 5 rfl rfl)
theorem dX2_take_175 : decode cX2_take 175 = .ok (.putfield 74, 3) := dk_181 0 74 (dk_at dksX2_take_7 8 rfl rfl)
theorem dX2_take_178 : decode cX2_take 178 = .ok (.aload_n 0, 1) := dk_42 (dk_at dksX2_take_7 11 rfl rfl)
theorem dX2_take_179 : decode cX2_take 179 = .ok (.aload_n 1, 1) := dk_43 (dk_at dksX2_take_7 12 rfl rfl)
theorem dX2_take_180 : decode cX2_take 180 = .ok (.getfield 77, 3) := dk_180 0 77 (dk_at dksX2_take_7 13 rfl rfl)
theorem dX2_take_183 : decode cX2_take 183 = .ok (.putfield 77, 3) := dk_181 0 77 (dk_at dksX2_take_7 16 rfl rfl)
theorem dX2_take_186 : decode cX2_take 186 = .ok (.return_, 1) := dk_177 (dk_at dksX2_take_7 19 rfl rfl)
abbrev cX2_day : ByteArray := prog_6_method_27_code
def yX2_day : MethodName := ⟨RX2, "day", "()I"⟩
def dkwX2_day_3 : List UInt8 := [172]
abbrev dktX2_day_3 : List UInt8 := dkwX2_day_3 ++ []
def dkwX2_day_2 : List UInt8 := [4, 167, 0, 4, 3, 96, 60, 132, 2, 1, 167, 255, 204, 42, 89, 180, 0, 62, 4, 96, 181, 0, 62, 27]
abbrev dktX2_day_2 : List UInt8 := dkwX2_day_2 ++ dktX2_day_3
def dkwX2_day_1 : List UInt8 := [180, 0, 152, 4, 100, 184, 0, 193, 181, 0, 152, 45, 4, 182, 0, 180, 27, 45, 182, 0, 168, 153, 0, 7]
abbrev dktX2_day_1 : List UInt8 := dkwX2_day_1 ++ dktX2_day_2
def dkwX2_day_0 : List UInt8 := [3, 60, 3, 61, 28, 42, 180, 0, 45, 162, 0, 50, 42, 180, 0, 20, 28, 50, 78, 45, 3, 45]
abbrev dktX2_day_0 : List UInt8 := dkwX2_day_0 ++ dktX2_day_1
theorem dksX2_day_0 : cX2_day.data.toList.drop 0 = dktX2_day_0 := by decide +kernel
theorem dksX2_day_1 : cX2_day.data.toList.drop 22 = dktX2_day_1 := dk_seg dksX2_day_0 22 rfl rfl
theorem dksX2_day_2 : cX2_day.data.toList.drop 46 = dktX2_day_2 := dk_seg dksX2_day_1 24 rfl rfl
theorem dksX2_day_3 : cX2_day.data.toList.drop 70 = dktX2_day_3 := dk_seg dksX2_day_2 24 rfl rfl
theorem dX2_day_0 : decode cX2_day 0 = .ok (.iconst 0, 1) := dk_3 (dk_at dksX2_day_0 0 rfl rfl)
theorem dX2_day_1 : decode cX2_day 1 = .ok (.istore_n 1, 1) := dk_60 (dk_at dksX2_day_0 1 rfl rfl)
theorem dX2_day_2 : decode cX2_day 2 = .ok (.iconst 0, 1) := dk_3 (dk_at dksX2_day_0 2 rfl rfl)
theorem dX2_day_3 : decode cX2_day 3 = .ok (.istore_n 2, 1) := dk_61 (dk_at dksX2_day_0 3 rfl rfl)
theorem dX2_day_4 : decode cX2_day 4 = .ok (.iload_n 2, 1) := dk_28 (dk_at dksX2_day_0 4 rfl rfl)
theorem dX2_day_5 : decode cX2_day 5 = .ok (.aload_n 0, 1) := dk_42 (dk_at dksX2_day_0 5 rfl rfl)
theorem dX2_day_6 : decode cX2_day 6 = .ok (.getfield 45, 3) := dk_180 0 45 (dk_at dksX2_day_0 6 rfl rfl)
theorem dX2_day_9 : decode cX2_day 9 = .ok (.if_icmp .ge 50, 3) := dk_162 0 50 (dk_at dksX2_day_0 9 rfl rfl)
theorem dX2_day_12 : decode cX2_day 12 = .ok (.aload_n 0, 1) := dk_42 (dk_at dksX2_day_0 12 rfl rfl)
theorem dX2_day_13 : decode cX2_day 13 = .ok (.getfield 20, 3) := dk_180 0 20 (dk_at dksX2_day_0 13 rfl rfl)
theorem dX2_day_16 : decode cX2_day 16 = .ok (.iload_n 2, 1) := dk_28 (dk_at dksX2_day_0 16 rfl rfl)
theorem dX2_day_17 : decode cX2_day 17 = .ok (.aaload, 1) := dk_50 (dk_at dksX2_day_0 17 rfl rfl)
theorem dX2_day_18 : decode cX2_day 18 = .ok (.astore_n 3, 1) := dk_78 (dk_at dksX2_day_0 18 rfl rfl)
theorem dX2_day_19 : decode cX2_day 19 = .ok (.aload_n 3, 1) := dk_45 (dk_at dksX2_day_0 19 rfl rfl)
theorem dX2_day_20 : decode cX2_day 20 = .ok (.iconst 0, 1) := dk_3 (dk_at dksX2_day_0 20 rfl rfl)
theorem dX2_day_21 : decode cX2_day 21 = .ok (.aload_n 3, 1) := dk_45 (dk_at dksX2_day_0 21 rfl rfl)
theorem dX2_day_22 : decode cX2_day 22 = .ok (.getfield 152, 3) := dk_180 0 152 (dk_at dksX2_day_1 0 rfl rfl)
theorem dX2_day_25 : decode cX2_day 25 = .ok (.iconst 1, 1) := dk_4 (dk_at dksX2_day_1 3 rfl rfl)
theorem dX2_day_26 : decode cX2_day 26 = .ok (.isub, 1) := dk_100 (dk_at dksX2_day_1 4 rfl rfl)
theorem dX2_day_27 : decode cX2_day 27 = .ok (.invokestatic 193, 3) := dk_184 0 193 (dk_at dksX2_day_1 5 rfl rfl)
theorem dX2_day_30 : decode cX2_day 30 = .ok (.putfield 152, 3) := dk_181 0 152 (dk_at dksX2_day_1 8 rfl rfl)
theorem dX2_day_33 : decode cX2_day 33 = .ok (.aload_n 3, 1) := dk_45 (dk_at dksX2_day_1 11 rfl rfl)
theorem dX2_day_34 : decode cX2_day 34 = .ok (.iconst 1, 1) := dk_4 (dk_at dksX2_day_1 12 rfl rfl)
theorem dX2_day_35 : decode cX2_day 35 = .ok (.invokevirtual 180, 3) := dk_182 0 180 (dk_at dksX2_day_1 13 rfl rfl)
theorem dX2_day_38 : decode cX2_day 38 = .ok (.iload_n 1, 1) := dk_27 (dk_at dksX2_day_1 16 rfl rfl)
theorem dX2_day_39 : decode cX2_day 39 = .ok (.aload_n 3, 1) := dk_45 (dk_at dksX2_day_1 17 rfl rfl)
theorem dX2_day_40 : decode cX2_day 40 = .ok (.invokevirtual 168, 3) := dk_182 0 168 (dk_at dksX2_day_1 18 rfl rfl)
theorem dX2_day_43 : decode cX2_day 43 = .ok (.ifCond .eq 7, 3) := dk_153 0 7 (dk_at dksX2_day_1 21 rfl rfl)
theorem dX2_day_46 : decode cX2_day 46 = .ok (.iconst 1, 1) := dk_4 (dk_at dksX2_day_2 0 rfl rfl)
theorem dX2_day_47 : decode cX2_day 47 = .ok (.goto 4, 3) := dk_167 0 4 (dk_at dksX2_day_2 1 rfl rfl)
theorem dX2_day_50 : decode cX2_day 50 = .ok (.iconst 0, 1) := dk_3 (dk_at dksX2_day_2 4 rfl rfl)
theorem dX2_day_51 : decode cX2_day 51 = .ok (.iadd, 1) := dk_96 (dk_at dksX2_day_2 5 rfl rfl)
theorem dX2_day_52 : decode cX2_day 52 = .ok (.istore_n 1, 1) := dk_60 (dk_at dksX2_day_2 6 rfl rfl)
theorem dX2_day_53 : decode cX2_day 53 = .ok (.iinc 2 1, 3) := dk_132 2 1 (dk_at dksX2_day_2 7 rfl rfl)
theorem dX2_day_56 : decode cX2_day 56 = .ok (.goto (-52), 3) := dk_167 255 204 (dk_at dksX2_day_2 10 rfl rfl)
theorem dX2_day_59 : decode cX2_day 59 = .ok (.aload_n 0, 1) := dk_42 (dk_at dksX2_day_2 13 rfl rfl)
theorem dX2_day_60 : decode cX2_day 60 = .ok (.dup, 1) := dk_89 (dk_at dksX2_day_2 14 rfl rfl)
theorem dX2_day_61 : decode cX2_day 61 = .ok (.getfield 62, 3) := dk_180 0 62 (dk_at dksX2_day_2 15 rfl rfl)
theorem dX2_day_64 : decode cX2_day 64 = .ok (.iconst 1, 1) := dk_4 (dk_at dksX2_day_2 18 rfl rfl)
theorem dX2_day_65 : decode cX2_day 65 = .ok (.iadd, 1) := dk_96 (dk_at dksX2_day_2 19 rfl rfl)
theorem dX2_day_66 : decode cX2_day 66 = .ok (.putfield 62, 3) := dk_181 0 62 (dk_at dksX2_day_2 20 rfl rfl)
theorem dX2_day_69 : decode cX2_day 69 = .ok (.iload_n 1, 1) := dk_27 (dk_at dksX2_day_2 23 rfl rfl)
theorem dX2_day_70 : decode cX2_day 70 = .ok (.ireturn, 1) := dk_172 (dk_at dksX2_day_3 0 rfl rfl)
abbrev cX2_wouldLaughAgain : ByteArray := prog_6_method_15_code
def yX2_wouldLaughAgain : MethodName := ⟨RX2, "wouldLaughAgain", "()I"⟩
def dkwX2_wouldLaughAgain_1 : List UInt8 := [167, 255, 237, 27, 172]
abbrev dktX2_wouldLaughAgain_1 : List UInt8 := dkwX2_wouldLaughAgain_1 ++ []
def dkwX2_wouldLaughAgain_0 : List UInt8 := [3, 60, 3, 61, 28, 42, 180, 0, 59, 162, 0, 17, 27, 42, 28, 182, 0, 142, 96, 60, 132, 2, 1]
abbrev dktX2_wouldLaughAgain_0 : List UInt8 := dkwX2_wouldLaughAgain_0 ++ dktX2_wouldLaughAgain_1
theorem dksX2_wouldLaughAgain_0 : cX2_wouldLaughAgain.data.toList.drop 0 = dktX2_wouldLaughAgain_0 := by decide +kernel
theorem dksX2_wouldLaughAgain_1 : cX2_wouldLaughAgain.data.toList.drop 23 = dktX2_wouldLaughAgain_1 := dk_seg dksX2_wouldLaughAgain_0 23 rfl rfl
theorem dX2_wouldLaughAgain_0 : decode cX2_wouldLaughAgain 0 = .ok (.iconst 0, 1) := dk_3 (dk_at dksX2_wouldLaughAgain_0 0 rfl rfl)
theorem dX2_wouldLaughAgain_1 : decode cX2_wouldLaughAgain 1 = .ok (.istore_n 1, 1) := dk_60 (dk_at dksX2_wouldLaughAgain_0 1 rfl rfl)
theorem dX2_wouldLaughAgain_2 : decode cX2_wouldLaughAgain 2 = .ok (.iconst 0, 1) := dk_3 (dk_at dksX2_wouldLaughAgain_0 2 rfl rfl)
theorem dX2_wouldLaughAgain_3 : decode cX2_wouldLaughAgain 3 = .ok (.istore_n 2, 1) := dk_61 (dk_at dksX2_wouldLaughAgain_0 3 rfl rfl)
theorem dX2_wouldLaughAgain_4 : decode cX2_wouldLaughAgain 4 = .ok (.iload_n 2, 1) := dk_28 (dk_at dksX2_wouldLaughAgain_0 4 rfl rfl)
theorem dX2_wouldLaughAgain_5 : decode cX2_wouldLaughAgain 5 = .ok (.aload_n 0, 1) := dk_42 (dk_at dksX2_wouldLaughAgain_0 5 rfl rfl)
theorem dX2_wouldLaughAgain_6 : decode cX2_wouldLaughAgain 6 = .ok (.getfield 59, 3) := dk_180 0 59 (dk_at dksX2_wouldLaughAgain_0 6 rfl rfl)
theorem dX2_wouldLaughAgain_9 : decode cX2_wouldLaughAgain 9 = .ok (.if_icmp .ge 17, 3) := dk_162 0 17 (dk_at dksX2_wouldLaughAgain_0 9 rfl rfl)
theorem dX2_wouldLaughAgain_12 : decode cX2_wouldLaughAgain 12 = .ok (.iload_n 1, 1) := dk_27 (dk_at dksX2_wouldLaughAgain_0 12 rfl rfl)
theorem dX2_wouldLaughAgain_13 : decode cX2_wouldLaughAgain 13 = .ok (.aload_n 0, 1) := dk_42 (dk_at dksX2_wouldLaughAgain_0 13 rfl rfl)
theorem dX2_wouldLaughAgain_14 : decode cX2_wouldLaughAgain 14 = .ok (.iload_n 2, 1) := dk_28 (dk_at dksX2_wouldLaughAgain_0 14 rfl rfl)
theorem dX2_wouldLaughAgain_15 : decode cX2_wouldLaughAgain 15 = .ok (.invokevirtual 142, 3) := dk_182 0 142 (dk_at dksX2_wouldLaughAgain_0 15 rfl rfl)
theorem dX2_wouldLaughAgain_18 : decode cX2_wouldLaughAgain 18 = .ok (.iadd, 1) := dk_96 (dk_at dksX2_wouldLaughAgain_0 18 rfl rfl)
theorem dX2_wouldLaughAgain_19 : decode cX2_wouldLaughAgain 19 = .ok (.istore_n 1, 1) := dk_60 (dk_at dksX2_wouldLaughAgain_0 19 rfl rfl)
theorem dX2_wouldLaughAgain_20 : decode cX2_wouldLaughAgain 20 = .ok (.iinc 2 1, 3) := dk_132 2 1 (dk_at dksX2_wouldLaughAgain_0 20 rfl rfl)
theorem dX2_wouldLaughAgain_23 : decode cX2_wouldLaughAgain 23 = .ok (.goto (-19), 3) := dk_167 255 237 (dk_at dksX2_wouldLaughAgain_1 0 rfl rfl)
theorem dX2_wouldLaughAgain_26 : decode cX2_wouldLaughAgain 26 = .ok (.iload_n 1, 1) := dk_27 (dk_at dksX2_wouldLaughAgain_1 3 rfl rfl)
theorem dX2_wouldLaughAgain_27 : decode cX2_wouldLaughAgain 27 = .ok (.ireturn, 1) := dk_172 (dk_at dksX2_wouldLaughAgain_1 4 rfl rfl)
abbrev cX2_laughsOf : ByteArray := prog_6_method_14_code
def yX2_laughsOf : MethodName := ⟨RX2, "laughsOf", "(I)I"⟩
def dkwX2_laughsOf_3 : List UInt8 := [132, 3, 1, 167, 255, 188, 28, 172]
abbrev dktX2_laughsOf_3 : List UInt8 := dkwX2_laughsOf_3 ++ []
def dkwX2_laughsOf_2 : List UInt8 := [29, 21, 4, 182, 0, 139, 27, 122, 4, 126, 167, 0, 4, 3, 96, 61, 132, 4, 1, 167, 255, 205]
abbrev dktX2_laughsOf_2 : List UInt8 := dkwX2_laughsOf_2 ++ dktX2_laughsOf_3
def dkwX2_laughsOf_1 : List UInt8 := [180, 0, 88, 162, 0, 43, 28, 42, 180, 0, 26, 29, 50, 180, 0, 101, 21, 4, 46, 5, 160, 0, 17, 42]
abbrev dktX2_laughsOf_1 : List UInt8 := dkwX2_laughsOf_1 ++ dktX2_laughsOf_2
def dkwX2_laughsOf_0 : List UInt8 := [3, 61, 3, 62, 29, 42, 180, 0, 53, 162, 0, 66, 3, 54, 4, 21, 4, 42, 180, 0, 26, 29, 50]
abbrev dktX2_laughsOf_0 : List UInt8 := dkwX2_laughsOf_0 ++ dktX2_laughsOf_1
theorem dksX2_laughsOf_0 : cX2_laughsOf.data.toList.drop 0 = dktX2_laughsOf_0 := by decide +kernel
theorem dksX2_laughsOf_1 : cX2_laughsOf.data.toList.drop 23 = dktX2_laughsOf_1 := dk_seg dksX2_laughsOf_0 23 rfl rfl
theorem dksX2_laughsOf_2 : cX2_laughsOf.data.toList.drop 47 = dktX2_laughsOf_2 := dk_seg dksX2_laughsOf_1 24 rfl rfl
theorem dksX2_laughsOf_3 : cX2_laughsOf.data.toList.drop 69 = dktX2_laughsOf_3 := dk_seg dksX2_laughsOf_2 22 rfl rfl
theorem dX2_laughsOf_0 : decode cX2_laughsOf 0 = .ok (.iconst 0, 1) := dk_3 (dk_at dksX2_laughsOf_0 0 rfl rfl)
theorem dX2_laughsOf_1 : decode cX2_laughsOf 1 = .ok (.istore_n 2, 1) := dk_61 (dk_at dksX2_laughsOf_0 1 rfl rfl)
theorem dX2_laughsOf_2 : decode cX2_laughsOf 2 = .ok (.iconst 0, 1) := dk_3 (dk_at dksX2_laughsOf_0 2 rfl rfl)
theorem dX2_laughsOf_3 : decode cX2_laughsOf 3 = .ok (.istore_n 3, 1) := dk_62 (dk_at dksX2_laughsOf_0 3 rfl rfl)
theorem dX2_laughsOf_4 : decode cX2_laughsOf 4 = .ok (.iload_n 3, 1) := dk_29 (dk_at dksX2_laughsOf_0 4 rfl rfl)
theorem dX2_laughsOf_5 : decode cX2_laughsOf 5 = .ok (.aload_n 0, 1) := dk_42 (dk_at dksX2_laughsOf_0 5 rfl rfl)
theorem dX2_laughsOf_6 : decode cX2_laughsOf 6 = .ok (.getfield 53, 3) := dk_180 0 53 (dk_at dksX2_laughsOf_0 6 rfl rfl)
theorem dX2_laughsOf_9 : decode cX2_laughsOf 9 = .ok (.if_icmp .ge 66, 3) := dk_162 0 66 (dk_at dksX2_laughsOf_0 9 rfl rfl)
theorem dX2_laughsOf_12 : decode cX2_laughsOf 12 = .ok (.iconst 0, 1) := dk_3 (dk_at dksX2_laughsOf_0 12 rfl rfl)
theorem dX2_laughsOf_13 : decode cX2_laughsOf 13 = .ok (.istore 4, 2) := dk_54 4 (dk_at dksX2_laughsOf_0 13 rfl rfl)
theorem dX2_laughsOf_15 : decode cX2_laughsOf 15 = .ok (.iload 4, 2) := dk_21 4 (dk_at dksX2_laughsOf_0 15 rfl rfl)
theorem dX2_laughsOf_17 : decode cX2_laughsOf 17 = .ok (.aload_n 0, 1) := dk_42 (dk_at dksX2_laughsOf_0 17 rfl rfl)
theorem dX2_laughsOf_18 : decode cX2_laughsOf 18 = .ok (.getfield 26, 3) := dk_180 0 26 (dk_at dksX2_laughsOf_0 18 rfl rfl)
theorem dX2_laughsOf_21 : decode cX2_laughsOf 21 = .ok (.iload_n 3, 1) := dk_29 (dk_at dksX2_laughsOf_0 21 rfl rfl)
theorem dX2_laughsOf_22 : decode cX2_laughsOf 22 = .ok (.aaload, 1) := dk_50 (dk_at dksX2_laughsOf_0 22 rfl rfl)
theorem dX2_laughsOf_23 : decode cX2_laughsOf 23 = .ok (.getfield 88, 3) := dk_180 0 88 (dk_at dksX2_laughsOf_1 0 rfl rfl)
theorem dX2_laughsOf_26 : decode cX2_laughsOf 26 = .ok (.if_icmp .ge 43, 3) := dk_162 0 43 (dk_at dksX2_laughsOf_1 3 rfl rfl)
theorem dX2_laughsOf_29 : decode cX2_laughsOf 29 = .ok (.iload_n 2, 1) := dk_28 (dk_at dksX2_laughsOf_1 6 rfl rfl)
theorem dX2_laughsOf_30 : decode cX2_laughsOf 30 = .ok (.aload_n 0, 1) := dk_42 (dk_at dksX2_laughsOf_1 7 rfl rfl)
theorem dX2_laughsOf_31 : decode cX2_laughsOf 31 = .ok (.getfield 26, 3) := dk_180 0 26 (dk_at dksX2_laughsOf_1 8 rfl rfl)
theorem dX2_laughsOf_34 : decode cX2_laughsOf 34 = .ok (.iload_n 3, 1) := dk_29 (dk_at dksX2_laughsOf_1 11 rfl rfl)
theorem dX2_laughsOf_35 : decode cX2_laughsOf 35 = .ok (.aaload, 1) := dk_50 (dk_at dksX2_laughsOf_1 12 rfl rfl)
theorem dX2_laughsOf_36 : decode cX2_laughsOf 36 = .ok (.getfield 101, 3) := dk_180 0 101 (dk_at dksX2_laughsOf_1 13 rfl rfl)
theorem dX2_laughsOf_39 : decode cX2_laughsOf 39 = .ok (.iload 4, 2) := dk_21 4 (dk_at dksX2_laughsOf_1 16 rfl rfl)
theorem dX2_laughsOf_41 : decode cX2_laughsOf 41 = .ok (.iaload, 1) := dk_46 (dk_at dksX2_laughsOf_1 18 rfl rfl)
theorem dX2_laughsOf_42 : decode cX2_laughsOf 42 = .ok (.iconst 2, 1) := dk_5 (dk_at dksX2_laughsOf_1 19 rfl rfl)
theorem dX2_laughsOf_43 : decode cX2_laughsOf 43 = .ok (.if_icmp .ne 17, 3) := dk_160 0 17 (dk_at dksX2_laughsOf_1 20 rfl rfl)
theorem dX2_laughsOf_46 : decode cX2_laughsOf 46 = .ok (.aload_n 0, 1) := dk_42 (dk_at dksX2_laughsOf_1 23 rfl rfl)
theorem dX2_laughsOf_47 : decode cX2_laughsOf 47 = .ok (.iload_n 3, 1) := dk_29 (dk_at dksX2_laughsOf_2 0 rfl rfl)
theorem dX2_laughsOf_48 : decode cX2_laughsOf 48 = .ok (.iload 4, 2) := dk_21 4 (dk_at dksX2_laughsOf_2 1 rfl rfl)
theorem dX2_laughsOf_50 : decode cX2_laughsOf 50 = .ok (.invokevirtual 139, 3) := dk_182 0 139 (dk_at dksX2_laughsOf_2 3 rfl rfl)
theorem dX2_laughsOf_53 : decode cX2_laughsOf 53 = .ok (.iload_n 1, 1) := dk_27 (dk_at dksX2_laughsOf_2 6 rfl rfl)
theorem dX2_laughsOf_54 : decode cX2_laughsOf 54 = .ok (.ishr, 1) := dk_122 (dk_at dksX2_laughsOf_2 7 rfl rfl)
theorem dX2_laughsOf_55 : decode cX2_laughsOf 55 = .ok (.iconst 1, 1) := dk_4 (dk_at dksX2_laughsOf_2 8 rfl rfl)
theorem dX2_laughsOf_56 : decode cX2_laughsOf 56 = .ok (.iand, 1) := dk_126 (dk_at dksX2_laughsOf_2 9 rfl rfl)
theorem dX2_laughsOf_57 : decode cX2_laughsOf 57 = .ok (.goto 4, 3) := dk_167 0 4 (dk_at dksX2_laughsOf_2 10 rfl rfl)
theorem dX2_laughsOf_60 : decode cX2_laughsOf 60 = .ok (.iconst 0, 1) := dk_3 (dk_at dksX2_laughsOf_2 13 rfl rfl)
theorem dX2_laughsOf_61 : decode cX2_laughsOf 61 = .ok (.iadd, 1) := dk_96 (dk_at dksX2_laughsOf_2 14 rfl rfl)
theorem dX2_laughsOf_62 : decode cX2_laughsOf 62 = .ok (.istore_n 2, 1) := dk_61 (dk_at dksX2_laughsOf_2 15 rfl rfl)
theorem dX2_laughsOf_63 : decode cX2_laughsOf 63 = .ok (.iinc 4 1, 3) := dk_132 4 1 (dk_at dksX2_laughsOf_2 16 rfl rfl)
theorem dX2_laughsOf_66 : decode cX2_laughsOf 66 = .ok (.goto (-51), 3) := dk_167 255 205 (dk_at dksX2_laughsOf_2 19 rfl rfl)
theorem dX2_laughsOf_69 : decode cX2_laughsOf 69 = .ok (.iinc 3 1, 3) := dk_132 3 1 (dk_at dksX2_laughsOf_3 0 rfl rfl)
theorem dX2_laughsOf_72 : decode cX2_laughsOf 72 = .ok (.goto (-68), 3) := dk_167 255 188 (dk_at dksX2_laughsOf_3 3 rfl rfl)
theorem dX2_laughsOf_75 : decode cX2_laughsOf 75 = .ok (.iload_n 2, 1) := dk_28 (dk_at dksX2_laughsOf_3 6 rfl rfl)
theorem dX2_laughsOf_76 : decode cX2_laughsOf 76 = .ok (.ireturn, 1) := dk_172 (dk_at dksX2_laughsOf_3 7 rfl rfl)
abbrev cX2_laughing : ByteArray := prog_6_method_13_code
def yX2_laughing : MethodName := ⟨RX2, "laughing", "(II)I"⟩
def dkwX2_laughing_3 : List UInt8 := [132, 5, 1, 167, 255, 196, 21, 4, 172]
abbrev dktX2_laughing_3 : List UInt8 := dkwX2_laughing_3 ++ []
def dkwX2_laughing_2 : List UInt8 := [28, 182, 0, 104, 185, 0, 135, 3, 0, 153, 0, 10, 4, 21, 5, 120, 167, 0, 4, 3, 128, 54, 4]
abbrev dktX2_laughing_2 : List UInt8 := dkwX2_laughing_2 ++ dktX2_laughing_3
def dkwX2_laughing_1 : List UInt8 := [180, 0, 101, 28, 46, 153, 0, 48, 21, 4, 42, 180, 0, 39, 21, 5, 50, 45, 180, 0, 132, 28, 46, 45]
abbrev dktX2_laughing_1 : List UInt8 := dkwX2_laughing_1 ++ dktX2_laughing_2
def dkwX2_laughing_0 : List UInt8 := [42, 180, 0, 26, 27, 50, 78, 3, 54, 4, 3, 54, 5, 21, 5, 42, 180, 0, 59, 162, 0, 57, 45]
abbrev dktX2_laughing_0 : List UInt8 := dkwX2_laughing_0 ++ dktX2_laughing_1
theorem dksX2_laughing_0 : cX2_laughing.data.toList.drop 0 = dktX2_laughing_0 := by decide +kernel
theorem dksX2_laughing_1 : cX2_laughing.data.toList.drop 23 = dktX2_laughing_1 := dk_seg dksX2_laughing_0 23 rfl rfl
theorem dksX2_laughing_2 : cX2_laughing.data.toList.drop 47 = dktX2_laughing_2 := dk_seg dksX2_laughing_1 24 rfl rfl
theorem dksX2_laughing_3 : cX2_laughing.data.toList.drop 70 = dktX2_laughing_3 := dk_seg dksX2_laughing_2 23 rfl rfl
theorem dX2_laughing_0 : decode cX2_laughing 0 = .ok (.aload_n 0, 1) := dk_42 (dk_at dksX2_laughing_0 0 rfl rfl)
theorem dX2_laughing_1 : decode cX2_laughing 1 = .ok (.getfield 26, 3) := dk_180 0 26 (dk_at dksX2_laughing_0 1 rfl rfl)
theorem dX2_laughing_4 : decode cX2_laughing 4 = .ok (.iload_n 1, 1) := dk_27 (dk_at dksX2_laughing_0 4 rfl rfl)
theorem dX2_laughing_5 : decode cX2_laughing 5 = .ok (.aaload, 1) := dk_50 (dk_at dksX2_laughing_0 5 rfl rfl)
theorem dX2_laughing_6 : decode cX2_laughing 6 = .ok (.astore_n 3, 1) := dk_78 (dk_at dksX2_laughing_0 6 rfl rfl)
theorem dX2_laughing_7 : decode cX2_laughing 7 = .ok (.iconst 0, 1) := dk_3 (dk_at dksX2_laughing_0 7 rfl rfl)
theorem dX2_laughing_8 : decode cX2_laughing 8 = .ok (.istore 4, 2) := dk_54 4 (dk_at dksX2_laughing_0 8 rfl rfl)
theorem dX2_laughing_10 : decode cX2_laughing 10 = .ok (.iconst 0, 1) := dk_3 (dk_at dksX2_laughing_0 10 rfl rfl)
theorem dX2_laughing_11 : decode cX2_laughing 11 = .ok (.istore 5, 2) := dk_54 5 (dk_at dksX2_laughing_0 11 rfl rfl)
theorem dX2_laughing_13 : decode cX2_laughing 13 = .ok (.iload 5, 2) := dk_21 5 (dk_at dksX2_laughing_0 13 rfl rfl)
theorem dX2_laughing_15 : decode cX2_laughing 15 = .ok (.aload_n 0, 1) := dk_42 (dk_at dksX2_laughing_0 15 rfl rfl)
theorem dX2_laughing_16 : decode cX2_laughing 16 = .ok (.getfield 59, 3) := dk_180 0 59 (dk_at dksX2_laughing_0 16 rfl rfl)
theorem dX2_laughing_19 : decode cX2_laughing 19 = .ok (.if_icmp .ge 57, 3) := dk_162 0 57 (dk_at dksX2_laughing_0 19 rfl rfl)
theorem dX2_laughing_22 : decode cX2_laughing 22 = .ok (.aload_n 3, 1) := dk_45 (dk_at dksX2_laughing_0 22 rfl rfl)
theorem dX2_laughing_23 : decode cX2_laughing 23 = .ok (.getfield 101, 3) := dk_180 0 101 (dk_at dksX2_laughing_1 0 rfl rfl)
theorem dX2_laughing_26 : decode cX2_laughing 26 = .ok (.iload_n 2, 1) := dk_28 (dk_at dksX2_laughing_1 3 rfl rfl)
theorem dX2_laughing_27 : decode cX2_laughing 27 = .ok (.iaload, 1) := dk_46 (dk_at dksX2_laughing_1 4 rfl rfl)
theorem dX2_laughing_28 : decode cX2_laughing 28 = .ok (.ifCond .eq 48, 3) := dk_153 0 48 (dk_at dksX2_laughing_1 5 rfl rfl)
theorem dX2_laughing_31 : decode cX2_laughing 31 = .ok (.iload 4, 2) := dk_21 4 (dk_at dksX2_laughing_1 8 rfl rfl)
theorem dX2_laughing_33 : decode cX2_laughing 33 = .ok (.aload_n 0, 1) := dk_42 (dk_at dksX2_laughing_1 10 rfl rfl)
theorem dX2_laughing_34 : decode cX2_laughing 34 = .ok (.getfield 39, 3) := dk_180 0 39 (dk_at dksX2_laughing_1 11 rfl rfl)
theorem dX2_laughing_37 : decode cX2_laughing 37 = .ok (.iload 5, 2) := dk_21 5 (dk_at dksX2_laughing_1 14 rfl rfl)
theorem dX2_laughing_39 : decode cX2_laughing 39 = .ok (.aaload, 1) := dk_50 (dk_at dksX2_laughing_1 16 rfl rfl)
theorem dX2_laughing_40 : decode cX2_laughing 40 = .ok (.aload_n 3, 1) := dk_45 (dk_at dksX2_laughing_1 17 rfl rfl)
theorem dX2_laughing_41 : decode cX2_laughing 41 = .ok (.getfield 132, 3) := dk_180 0 132 (dk_at dksX2_laughing_1 18 rfl rfl)
theorem dX2_laughing_44 : decode cX2_laughing 44 = .ok (.iload_n 2, 1) := dk_28 (dk_at dksX2_laughing_1 21 rfl rfl)
theorem dX2_laughing_45 : decode cX2_laughing 45 = .ok (.iaload, 1) := dk_46 (dk_at dksX2_laughing_1 22 rfl rfl)
theorem dX2_laughing_46 : decode cX2_laughing 46 = .ok (.aload_n 3, 1) := dk_45 (dk_at dksX2_laughing_1 23 rfl rfl)
theorem dX2_laughing_47 : decode cX2_laughing 47 = .ok (.iload_n 2, 1) := dk_28 (dk_at dksX2_laughing_2 0 rfl rfl)
theorem dX2_laughing_48 : decode cX2_laughing 48 = .ok (.invokevirtual 104, 3) := dk_182 0 104 (dk_at dksX2_laughing_2 1 rfl rfl)
theorem dX2_laughing_51 : decode cX2_laughing 51 = .ok (.invokeinterface 135 3, 5) := by decide +kernel
theorem dX2_laughing_56 : decode cX2_laughing 56 = .ok (.ifCond .eq 10, 3) := dk_153 0 10 (dk_at dksX2_laughing_2 9 rfl rfl)
theorem dX2_laughing_59 : decode cX2_laughing 59 = .ok (.iconst 1, 1) := dk_4 (dk_at dksX2_laughing_2 12 rfl rfl)
theorem dX2_laughing_60 : decode cX2_laughing 60 = .ok (.iload 5, 2) := dk_21 5 (dk_at dksX2_laughing_2 13 rfl rfl)
theorem dX2_laughing_62 : decode cX2_laughing 62 = .ok (.ishl, 1) := dk_120 (dk_at dksX2_laughing_2 15 rfl rfl)
theorem dX2_laughing_63 : decode cX2_laughing 63 = .ok (.goto 4, 3) := dk_167 0 4 (dk_at dksX2_laughing_2 16 rfl rfl)
theorem dX2_laughing_66 : decode cX2_laughing 66 = .ok (.iconst 0, 1) := dk_3 (dk_at dksX2_laughing_2 19 rfl rfl)
theorem dX2_laughing_67 : decode cX2_laughing 67 = .ok (.ior, 1) := dk_128 (dk_at dksX2_laughing_2 20 rfl rfl)
theorem dX2_laughing_68 : decode cX2_laughing 68 = .ok (.istore 4, 2) := dk_54 4 (dk_at dksX2_laughing_2 21 rfl rfl)
theorem dX2_laughing_70 : decode cX2_laughing 70 = .ok (.iinc 5 1, 3) := dk_132 5 1 (dk_at dksX2_laughing_3 0 rfl rfl)
theorem dX2_laughing_73 : decode cX2_laughing 73 = .ok (.goto (-60), 3) := dk_167 255 196 (dk_at dksX2_laughing_3 3 rfl rfl)
theorem dX2_laughing_76 : decode cX2_laughing 76 = .ok (.iload 4, 2) := dk_21 4 (dk_at dksX2_laughing_3 6 rfl rfl)
theorem dX2_laughing_78 : decode cX2_laughing 78 = .ok (.ireturn, 1) := dk_172 (dk_at dksX2_laughing_3 8 rfl rfl)
abbrev cX2_wouldLaugh : ByteArray := prog_6_method_16_code
def yX2_wouldLaugh : MethodName := ⟨RX2, "wouldLaugh", "()I"⟩
def dkwX2_wouldLaugh_3 : List UInt8 := [27, 172]
abbrev dktX2_wouldLaugh_3 : List UInt8 := dkwX2_wouldLaugh_3 ++ []
def dkwX2_wouldLaugh_2 : List UInt8 := [182, 0, 139, 184, 0, 145, 167, 0, 4, 3, 96, 60, 132, 3, 1, 167, 255, 209, 132, 2, 1, 167, 255, 193]
abbrev dktX2_wouldLaugh_2 : List UInt8 := dkwX2_wouldLaugh_2 ++ dktX2_wouldLaugh_3
def dkwX2_wouldLaugh_1 : List UInt8 := [162, 0, 40, 27, 42, 180, 0, 26, 28, 50, 180, 0, 101, 29, 46, 5, 160, 0, 15, 42, 28, 29]
abbrev dktX2_wouldLaugh_1 : List UInt8 := dkwX2_wouldLaugh_1 ++ dktX2_wouldLaugh_2
def dkwX2_wouldLaugh_0 : List UInt8 := [3, 60, 3, 61, 28, 42, 180, 0, 53, 162, 0, 61, 3, 62, 29, 42, 180, 0, 26, 28, 50, 180, 0, 88]
abbrev dktX2_wouldLaugh_0 : List UInt8 := dkwX2_wouldLaugh_0 ++ dktX2_wouldLaugh_1
theorem dksX2_wouldLaugh_0 : cX2_wouldLaugh.data.toList.drop 0 = dktX2_wouldLaugh_0 := by decide +kernel
theorem dksX2_wouldLaugh_1 : cX2_wouldLaugh.data.toList.drop 24 = dktX2_wouldLaugh_1 := dk_seg dksX2_wouldLaugh_0 24 rfl rfl
theorem dksX2_wouldLaugh_2 : cX2_wouldLaugh.data.toList.drop 46 = dktX2_wouldLaugh_2 := dk_seg dksX2_wouldLaugh_1 22 rfl rfl
theorem dksX2_wouldLaugh_3 : cX2_wouldLaugh.data.toList.drop 70 = dktX2_wouldLaugh_3 := dk_seg dksX2_wouldLaugh_2 24 rfl rfl
theorem dX2_wouldLaugh_0 : decode cX2_wouldLaugh 0 = .ok (.iconst 0, 1) := dk_3 (dk_at dksX2_wouldLaugh_0 0 rfl rfl)
theorem dX2_wouldLaugh_1 : decode cX2_wouldLaugh 1 = .ok (.istore_n 1, 1) := dk_60 (dk_at dksX2_wouldLaugh_0 1 rfl rfl)
theorem dX2_wouldLaugh_2 : decode cX2_wouldLaugh 2 = .ok (.iconst 0, 1) := dk_3 (dk_at dksX2_wouldLaugh_0 2 rfl rfl)
theorem dX2_wouldLaugh_3 : decode cX2_wouldLaugh 3 = .ok (.istore_n 2, 1) := dk_61 (dk_at dksX2_wouldLaugh_0 3 rfl rfl)
theorem dX2_wouldLaugh_4 : decode cX2_wouldLaugh 4 = .ok (.iload_n 2, 1) := dk_28 (dk_at dksX2_wouldLaugh_0 4 rfl rfl)
theorem dX2_wouldLaugh_5 : decode cX2_wouldLaugh 5 = .ok (.aload_n 0, 1) := dk_42 (dk_at dksX2_wouldLaugh_0 5 rfl rfl)
theorem dX2_wouldLaugh_6 : decode cX2_wouldLaugh 6 = .ok (.getfield 53, 3) := dk_180 0 53 (dk_at dksX2_wouldLaugh_0 6 rfl rfl)
theorem dX2_wouldLaugh_9 : decode cX2_wouldLaugh 9 = .ok (.if_icmp .ge 61, 3) := dk_162 0 61 (dk_at dksX2_wouldLaugh_0 9 rfl rfl)
theorem dX2_wouldLaugh_12 : decode cX2_wouldLaugh 12 = .ok (.iconst 0, 1) := dk_3 (dk_at dksX2_wouldLaugh_0 12 rfl rfl)
theorem dX2_wouldLaugh_13 : decode cX2_wouldLaugh 13 = .ok (.istore_n 3, 1) := dk_62 (dk_at dksX2_wouldLaugh_0 13 rfl rfl)
theorem dX2_wouldLaugh_14 : decode cX2_wouldLaugh 14 = .ok (.iload_n 3, 1) := dk_29 (dk_at dksX2_wouldLaugh_0 14 rfl rfl)
theorem dX2_wouldLaugh_15 : decode cX2_wouldLaugh 15 = .ok (.aload_n 0, 1) := dk_42 (dk_at dksX2_wouldLaugh_0 15 rfl rfl)
theorem dX2_wouldLaugh_16 : decode cX2_wouldLaugh 16 = .ok (.getfield 26, 3) := dk_180 0 26 (dk_at dksX2_wouldLaugh_0 16 rfl rfl)
theorem dX2_wouldLaugh_19 : decode cX2_wouldLaugh 19 = .ok (.iload_n 2, 1) := dk_28 (dk_at dksX2_wouldLaugh_0 19 rfl rfl)
theorem dX2_wouldLaugh_20 : decode cX2_wouldLaugh 20 = .ok (.aaload, 1) := dk_50 (dk_at dksX2_wouldLaugh_0 20 rfl rfl)
theorem dX2_wouldLaugh_21 : decode cX2_wouldLaugh 21 = .ok (.getfield 88, 3) := dk_180 0 88 (dk_at dksX2_wouldLaugh_0 21 rfl rfl)
theorem dX2_wouldLaugh_24 : decode cX2_wouldLaugh 24 = .ok (.if_icmp .ge 40, 3) := dk_162 0 40 (dk_at dksX2_wouldLaugh_1 0 rfl rfl)
theorem dX2_wouldLaugh_27 : decode cX2_wouldLaugh 27 = .ok (.iload_n 1, 1) := dk_27 (dk_at dksX2_wouldLaugh_1 3 rfl rfl)
theorem dX2_wouldLaugh_28 : decode cX2_wouldLaugh 28 = .ok (.aload_n 0, 1) := dk_42 (dk_at dksX2_wouldLaugh_1 4 rfl rfl)
theorem dX2_wouldLaugh_29 : decode cX2_wouldLaugh 29 = .ok (.getfield 26, 3) := dk_180 0 26 (dk_at dksX2_wouldLaugh_1 5 rfl rfl)
theorem dX2_wouldLaugh_32 : decode cX2_wouldLaugh 32 = .ok (.iload_n 2, 1) := dk_28 (dk_at dksX2_wouldLaugh_1 8 rfl rfl)
theorem dX2_wouldLaugh_33 : decode cX2_wouldLaugh 33 = .ok (.aaload, 1) := dk_50 (dk_at dksX2_wouldLaugh_1 9 rfl rfl)
theorem dX2_wouldLaugh_34 : decode cX2_wouldLaugh 34 = .ok (.getfield 101, 3) := dk_180 0 101 (dk_at dksX2_wouldLaugh_1 10 rfl rfl)
theorem dX2_wouldLaugh_37 : decode cX2_wouldLaugh 37 = .ok (.iload_n 3, 1) := dk_29 (dk_at dksX2_wouldLaugh_1 13 rfl rfl)
theorem dX2_wouldLaugh_38 : decode cX2_wouldLaugh 38 = .ok (.iaload, 1) := dk_46 (dk_at dksX2_wouldLaugh_1 14 rfl rfl)
theorem dX2_wouldLaugh_39 : decode cX2_wouldLaugh 39 = .ok (.iconst 2, 1) := dk_5 (dk_at dksX2_wouldLaugh_1 15 rfl rfl)
theorem dX2_wouldLaugh_40 : decode cX2_wouldLaugh 40 = .ok (.if_icmp .ne 15, 3) := dk_160 0 15 (dk_at dksX2_wouldLaugh_1 16 rfl rfl)
theorem dX2_wouldLaugh_43 : decode cX2_wouldLaugh 43 = .ok (.aload_n 0, 1) := dk_42 (dk_at dksX2_wouldLaugh_1 19 rfl rfl)
theorem dX2_wouldLaugh_44 : decode cX2_wouldLaugh 44 = .ok (.iload_n 2, 1) := dk_28 (dk_at dksX2_wouldLaugh_1 20 rfl rfl)
theorem dX2_wouldLaugh_45 : decode cX2_wouldLaugh 45 = .ok (.iload_n 3, 1) := dk_29 (dk_at dksX2_wouldLaugh_1 21 rfl rfl)
theorem dX2_wouldLaugh_46 : decode cX2_wouldLaugh 46 = .ok (.invokevirtual 139, 3) := dk_182 0 139 (dk_at dksX2_wouldLaugh_2 0 rfl rfl)
theorem dX2_wouldLaugh_49 : decode cX2_wouldLaugh 49 = .ok (.invokestatic 145, 3) := dk_184 0 145 (dk_at dksX2_wouldLaugh_2 3 rfl rfl)
theorem dX2_wouldLaugh_52 : decode cX2_wouldLaugh 52 = .ok (.goto 4, 3) := dk_167 0 4 (dk_at dksX2_wouldLaugh_2 6 rfl rfl)
theorem dX2_wouldLaugh_55 : decode cX2_wouldLaugh 55 = .ok (.iconst 0, 1) := dk_3 (dk_at dksX2_wouldLaugh_2 9 rfl rfl)
theorem dX2_wouldLaugh_56 : decode cX2_wouldLaugh 56 = .ok (.iadd, 1) := dk_96 (dk_at dksX2_wouldLaugh_2 10 rfl rfl)
theorem dX2_wouldLaugh_57 : decode cX2_wouldLaugh 57 = .ok (.istore_n 1, 1) := dk_60 (dk_at dksX2_wouldLaugh_2 11 rfl rfl)
theorem dX2_wouldLaugh_58 : decode cX2_wouldLaugh 58 = .ok (.iinc 3 1, 3) := dk_132 3 1 (dk_at dksX2_wouldLaugh_2 12 rfl rfl)
theorem dX2_wouldLaugh_61 : decode cX2_wouldLaugh 61 = .ok (.goto (-47), 3) := dk_167 255 209 (dk_at dksX2_wouldLaugh_2 15 rfl rfl)
theorem dX2_wouldLaugh_64 : decode cX2_wouldLaugh 64 = .ok (.iinc 2 1, 3) := dk_132 2 1 (dk_at dksX2_wouldLaugh_2 18 rfl rfl)
theorem dX2_wouldLaugh_67 : decode cX2_wouldLaugh 67 = .ok (.goto (-63), 3) := dk_167 255 193 (dk_at dksX2_wouldLaugh_2 21 rfl rfl)
theorem dX2_wouldLaugh_70 : decode cX2_wouldLaugh 70 = .ok (.iload_n 1, 1) := dk_27 (dk_at dksX2_wouldLaugh_3 0 rfl rfl)
theorem dX2_wouldLaugh_71 : decode cX2_wouldLaugh 71 = .ok (.ireturn, 1) := dk_172 (dk_at dksX2_wouldLaugh_3 1 rfl rfl)
abbrev cX2_areFinesAlike : ByteArray := prog_6_method_40_code
def yX2_areFinesAlike : MethodName := ⟨RX2, "areFinesAlike", "(I)Z"⟩
def dkwX2_areFinesAlike_3 : List UInt8 := [160, 0, 7, 4, 167, 0, 4, 3, 126, 61, 132, 3, 1, 167, 255, 177, 28, 172]
abbrev dktX2_areFinesAlike_3 : List UInt8 := dkwX2_areFinesAlike_3 ++ []
def dkwX2_areFinesAlike_2 : List UInt8 := [167, 0, 4, 3, 42, 180, 0, 26, 27, 50, 29, 182, 0, 104, 158, 0, 7, 4, 167, 0, 4, 3]
abbrev dktX2_areFinesAlike_2 : List UInt8 := dkwX2_areFinesAlike_2 ++ dktX2_areFinesAlike_3
def dkwX2_areFinesAlike_1 : List UInt8 := [42, 27, 29, 182, 0, 212, 160, 0, 47, 42, 180, 0, 26, 27, 50, 180, 0, 101, 29, 46, 158, 0, 7, 4]
abbrev dktX2_areFinesAlike_1 : List UInt8 := dkwX2_areFinesAlike_1 ++ dktX2_areFinesAlike_2
def dkwX2_areFinesAlike_0 : List UInt8 := [4, 61, 3, 62, 29, 42, 180, 0, 26, 27, 50, 180, 0, 88, 162, 0, 72, 28, 42, 27, 29, 182, 0, 113]
abbrev dktX2_areFinesAlike_0 : List UInt8 := dkwX2_areFinesAlike_0 ++ dktX2_areFinesAlike_1
theorem dksX2_areFinesAlike_0 : cX2_areFinesAlike.data.toList.drop 0 = dktX2_areFinesAlike_0 := by decide +kernel
theorem dksX2_areFinesAlike_1 : cX2_areFinesAlike.data.toList.drop 24 = dktX2_areFinesAlike_1 := dk_seg dksX2_areFinesAlike_0 24 rfl rfl
theorem dksX2_areFinesAlike_2 : cX2_areFinesAlike.data.toList.drop 48 = dktX2_areFinesAlike_2 := dk_seg dksX2_areFinesAlike_1 24 rfl rfl
theorem dksX2_areFinesAlike_3 : cX2_areFinesAlike.data.toList.drop 70 = dktX2_areFinesAlike_3 := dk_seg dksX2_areFinesAlike_2 22 rfl rfl
theorem dX2_areFinesAlike_0 : decode cX2_areFinesAlike 0 = .ok (.iconst 1, 1) := dk_4 (dk_at dksX2_areFinesAlike_0 0 rfl rfl)
theorem dX2_areFinesAlike_1 : decode cX2_areFinesAlike 1 = .ok (.istore_n 2, 1) := dk_61 (dk_at dksX2_areFinesAlike_0 1 rfl rfl)
theorem dX2_areFinesAlike_2 : decode cX2_areFinesAlike 2 = .ok (.iconst 0, 1) := dk_3 (dk_at dksX2_areFinesAlike_0 2 rfl rfl)
theorem dX2_areFinesAlike_3 : decode cX2_areFinesAlike 3 = .ok (.istore_n 3, 1) := dk_62 (dk_at dksX2_areFinesAlike_0 3 rfl rfl)
theorem dX2_areFinesAlike_4 : decode cX2_areFinesAlike 4 = .ok (.iload_n 3, 1) := dk_29 (dk_at dksX2_areFinesAlike_0 4 rfl rfl)
theorem dX2_areFinesAlike_5 : decode cX2_areFinesAlike 5 = .ok (.aload_n 0, 1) := dk_42 (dk_at dksX2_areFinesAlike_0 5 rfl rfl)
theorem dX2_areFinesAlike_6 : decode cX2_areFinesAlike 6 = .ok (.getfield 26, 3) := dk_180 0 26 (dk_at dksX2_areFinesAlike_0 6 rfl rfl)
theorem dX2_areFinesAlike_9 : decode cX2_areFinesAlike 9 = .ok (.iload_n 1, 1) := dk_27 (dk_at dksX2_areFinesAlike_0 9 rfl rfl)
theorem dX2_areFinesAlike_10 : decode cX2_areFinesAlike 10 = .ok (.aaload, 1) := dk_50 (dk_at dksX2_areFinesAlike_0 10 rfl rfl)
theorem dX2_areFinesAlike_11 : decode cX2_areFinesAlike 11 = .ok (.getfield 88, 3) := dk_180 0 88 (dk_at dksX2_areFinesAlike_0 11 rfl rfl)
theorem dX2_areFinesAlike_14 : decode cX2_areFinesAlike 14 = .ok (.if_icmp .ge 72, 3) := dk_162 0 72 (dk_at dksX2_areFinesAlike_0 14 rfl rfl)
theorem dX2_areFinesAlike_17 : decode cX2_areFinesAlike 17 = .ok (.iload_n 2, 1) := dk_28 (dk_at dksX2_areFinesAlike_0 17 rfl rfl)
theorem dX2_areFinesAlike_18 : decode cX2_areFinesAlike 18 = .ok (.aload_n 0, 1) := dk_42 (dk_at dksX2_areFinesAlike_0 18 rfl rfl)
theorem dX2_areFinesAlike_19 : decode cX2_areFinesAlike 19 = .ok (.iload_n 1, 1) := dk_27 (dk_at dksX2_areFinesAlike_0 19 rfl rfl)
theorem dX2_areFinesAlike_20 : decode cX2_areFinesAlike 20 = .ok (.iload_n 3, 1) := dk_29 (dk_at dksX2_areFinesAlike_0 20 rfl rfl)
theorem dX2_areFinesAlike_21 : decode cX2_areFinesAlike 21 = .ok (.invokevirtual 113, 3) := dk_182 0 113 (dk_at dksX2_areFinesAlike_0 21 rfl rfl)
theorem dX2_areFinesAlike_24 : decode cX2_areFinesAlike 24 = .ok (.aload_n 0, 1) := dk_42 (dk_at dksX2_areFinesAlike_1 0 rfl rfl)
theorem dX2_areFinesAlike_25 : decode cX2_areFinesAlike 25 = .ok (.iload_n 1, 1) := dk_27 (dk_at dksX2_areFinesAlike_1 1 rfl rfl)
theorem dX2_areFinesAlike_26 : decode cX2_areFinesAlike 26 = .ok (.iload_n 3, 1) := dk_29 (dk_at dksX2_areFinesAlike_1 2 rfl rfl)
theorem dX2_areFinesAlike_27 : decode cX2_areFinesAlike 27 = .ok (.invokevirtual 212, 3) := dk_182 0 212 (dk_at dksX2_areFinesAlike_1 3 rfl rfl)
theorem dX2_areFinesAlike_30 : decode cX2_areFinesAlike 30 = .ok (.if_icmp .ne 47, 3) := dk_160 0 47 (dk_at dksX2_areFinesAlike_1 6 rfl rfl)
theorem dX2_areFinesAlike_33 : decode cX2_areFinesAlike 33 = .ok (.aload_n 0, 1) := dk_42 (dk_at dksX2_areFinesAlike_1 9 rfl rfl)
theorem dX2_areFinesAlike_34 : decode cX2_areFinesAlike 34 = .ok (.getfield 26, 3) := dk_180 0 26 (dk_at dksX2_areFinesAlike_1 10 rfl rfl)
theorem dX2_areFinesAlike_37 : decode cX2_areFinesAlike 37 = .ok (.iload_n 1, 1) := dk_27 (dk_at dksX2_areFinesAlike_1 13 rfl rfl)
theorem dX2_areFinesAlike_38 : decode cX2_areFinesAlike 38 = .ok (.aaload, 1) := dk_50 (dk_at dksX2_areFinesAlike_1 14 rfl rfl)
theorem dX2_areFinesAlike_39 : decode cX2_areFinesAlike 39 = .ok (.getfield 101, 3) := dk_180 0 101 (dk_at dksX2_areFinesAlike_1 15 rfl rfl)
theorem dX2_areFinesAlike_42 : decode cX2_areFinesAlike 42 = .ok (.iload_n 3, 1) := dk_29 (dk_at dksX2_areFinesAlike_1 18 rfl rfl)
theorem dX2_areFinesAlike_43 : decode cX2_areFinesAlike 43 = .ok (.iaload, 1) := dk_46 (dk_at dksX2_areFinesAlike_1 19 rfl rfl)
theorem dX2_areFinesAlike_44 : decode cX2_areFinesAlike 44 = .ok (.ifCond .le 7, 3) := dk_158 0 7 (dk_at dksX2_areFinesAlike_1 20 rfl rfl)
theorem dX2_areFinesAlike_47 : decode cX2_areFinesAlike 47 = .ok (.iconst 1, 1) := dk_4 (dk_at dksX2_areFinesAlike_1 23 rfl rfl)
theorem dX2_areFinesAlike_48 : decode cX2_areFinesAlike 48 = .ok (.goto 4, 3) := dk_167 0 4 (dk_at dksX2_areFinesAlike_2 0 rfl rfl)
theorem dX2_areFinesAlike_51 : decode cX2_areFinesAlike 51 = .ok (.iconst 0, 1) := dk_3 (dk_at dksX2_areFinesAlike_2 3 rfl rfl)
theorem dX2_areFinesAlike_52 : decode cX2_areFinesAlike 52 = .ok (.aload_n 0, 1) := dk_42 (dk_at dksX2_areFinesAlike_2 4 rfl rfl)
theorem dX2_areFinesAlike_53 : decode cX2_areFinesAlike 53 = .ok (.getfield 26, 3) := dk_180 0 26 (dk_at dksX2_areFinesAlike_2 5 rfl rfl)
theorem dX2_areFinesAlike_56 : decode cX2_areFinesAlike 56 = .ok (.iload_n 1, 1) := dk_27 (dk_at dksX2_areFinesAlike_2 8 rfl rfl)
theorem dX2_areFinesAlike_57 : decode cX2_areFinesAlike 57 = .ok (.aaload, 1) := dk_50 (dk_at dksX2_areFinesAlike_2 9 rfl rfl)
theorem dX2_areFinesAlike_58 : decode cX2_areFinesAlike 58 = .ok (.iload_n 3, 1) := dk_29 (dk_at dksX2_areFinesAlike_2 10 rfl rfl)
theorem dX2_areFinesAlike_59 : decode cX2_areFinesAlike 59 = .ok (.invokevirtual 104, 3) := dk_182 0 104 (dk_at dksX2_areFinesAlike_2 11 rfl rfl)
theorem dX2_areFinesAlike_62 : decode cX2_areFinesAlike 62 = .ok (.ifCond .le 7, 3) := dk_158 0 7 (dk_at dksX2_areFinesAlike_2 14 rfl rfl)
theorem dX2_areFinesAlike_65 : decode cX2_areFinesAlike 65 = .ok (.iconst 1, 1) := dk_4 (dk_at dksX2_areFinesAlike_2 17 rfl rfl)
theorem dX2_areFinesAlike_66 : decode cX2_areFinesAlike 66 = .ok (.goto 4, 3) := dk_167 0 4 (dk_at dksX2_areFinesAlike_2 18 rfl rfl)
theorem dX2_areFinesAlike_69 : decode cX2_areFinesAlike 69 = .ok (.iconst 0, 1) := dk_3 (dk_at dksX2_areFinesAlike_2 21 rfl rfl)
theorem dX2_areFinesAlike_70 : decode cX2_areFinesAlike 70 = .ok (.if_icmp .ne 7, 3) := dk_160 0 7 (dk_at dksX2_areFinesAlike_3 0 rfl rfl)
theorem dX2_areFinesAlike_73 : decode cX2_areFinesAlike 73 = .ok (.iconst 1, 1) := dk_4 (dk_at dksX2_areFinesAlike_3 3 rfl rfl)
theorem dX2_areFinesAlike_74 : decode cX2_areFinesAlike 74 = .ok (.goto 4, 3) := dk_167 0 4 (dk_at dksX2_areFinesAlike_3 4 rfl rfl)
theorem dX2_areFinesAlike_77 : decode cX2_areFinesAlike 77 = .ok (.iconst 0, 1) := dk_3 (dk_at dksX2_areFinesAlike_3 7 rfl rfl)
theorem dX2_areFinesAlike_78 : decode cX2_areFinesAlike 78 = .ok (.iand, 1) := dk_126 (dk_at dksX2_areFinesAlike_3 8 rfl rfl)
theorem dX2_areFinesAlike_79 : decode cX2_areFinesAlike 79 = .ok (.istore_n 2, 1) := dk_61 (dk_at dksX2_areFinesAlike_3 9 rfl rfl)
theorem dX2_areFinesAlike_80 : decode cX2_areFinesAlike 80 = .ok (.iinc 3 1, 3) := dk_132 3 1 (dk_at dksX2_areFinesAlike_3 10 rfl rfl)
theorem dX2_areFinesAlike_83 : decode cX2_areFinesAlike 83 = .ok (.goto (-79), 3) := dk_167 255 177 (dk_at dksX2_areFinesAlike_3 13 rfl rfl)
theorem dX2_areFinesAlike_86 : decode cX2_areFinesAlike 86 = .ok (.iload_n 2, 1) := dk_28 (dk_at dksX2_areFinesAlike_3 16 rfl rfl)
theorem dX2_areFinesAlike_87 : decode cX2_areFinesAlike 87 = .ok (.ireturn, 1) := dk_172 (dk_at dksX2_areFinesAlike_3 17 rfl rfl)
abbrev cX2_fine : ByteArray := prog_6_method_9_code
def yX2_fine : MethodName := ⟨RX2, "fine", "(II)I"⟩
def dkwX2_fine_3 : List UInt8 := [54, 4, 132, 7, 1, 167, 255, 217, 21, 4, 172]
abbrev dktX2_fine_3 : List UInt8 := dkwX2_fine_3 ++ []
def dkwX2_fine_2 : List UInt8 := [50, 58, 8, 25, 8, 21, 4, 45, 28, 182, 0, 104, 45, 180, 0, 101, 28, 46, 185, 0, 107, 4, 0]
abbrev dktX2_fine_2 : List UInt8 := dkwX2_fine_2 ++ dktX2_fine_3
def dkwX2_fine_1 : List UInt8 := [180, 0, 13, 58, 5, 25, 5, 190, 54, 6, 3, 54, 7, 21, 7, 21, 6, 162, 0, 38, 25, 5, 21, 7]
abbrev dktX2_fine_1 : List UInt8 := dkwX2_fine_1 ++ dktX2_fine_2
def dkwX2_fine_0 : List UInt8 := [42, 180, 0, 26, 27, 50, 78, 45, 180, 0, 101, 28, 46, 154, 0, 5, 3, 172, 3, 54, 4, 42]
abbrev dktX2_fine_0 : List UInt8 := dkwX2_fine_0 ++ dktX2_fine_1
theorem dksX2_fine_0 : cX2_fine.data.toList.drop 0 = dktX2_fine_0 := by decide +kernel
theorem dksX2_fine_1 : cX2_fine.data.toList.drop 22 = dktX2_fine_1 := dk_seg dksX2_fine_0 22 rfl rfl
theorem dksX2_fine_2 : cX2_fine.data.toList.drop 46 = dktX2_fine_2 := dk_seg dksX2_fine_1 24 rfl rfl
theorem dksX2_fine_3 : cX2_fine.data.toList.drop 69 = dktX2_fine_3 := dk_seg dksX2_fine_2 23 rfl rfl
theorem dX2_fine_0 : decode cX2_fine 0 = .ok (.aload_n 0, 1) := dk_42 (dk_at dksX2_fine_0 0 rfl rfl)
theorem dX2_fine_1 : decode cX2_fine 1 = .ok (.getfield 26, 3) := dk_180 0 26 (dk_at dksX2_fine_0 1 rfl rfl)
theorem dX2_fine_4 : decode cX2_fine 4 = .ok (.iload_n 1, 1) := dk_27 (dk_at dksX2_fine_0 4 rfl rfl)
theorem dX2_fine_5 : decode cX2_fine 5 = .ok (.aaload, 1) := dk_50 (dk_at dksX2_fine_0 5 rfl rfl)
theorem dX2_fine_6 : decode cX2_fine 6 = .ok (.astore_n 3, 1) := dk_78 (dk_at dksX2_fine_0 6 rfl rfl)
theorem dX2_fine_7 : decode cX2_fine 7 = .ok (.aload_n 3, 1) := dk_45 (dk_at dksX2_fine_0 7 rfl rfl)
theorem dX2_fine_8 : decode cX2_fine 8 = .ok (.getfield 101, 3) := dk_180 0 101 (dk_at dksX2_fine_0 8 rfl rfl)
theorem dX2_fine_11 : decode cX2_fine 11 = .ok (.iload_n 2, 1) := dk_28 (dk_at dksX2_fine_0 11 rfl rfl)
theorem dX2_fine_12 : decode cX2_fine 12 = .ok (.iaload, 1) := dk_46 (dk_at dksX2_fine_0 12 rfl rfl)
theorem dX2_fine_13 : decode cX2_fine 13 = .ok (.ifCond .ne 5, 3) := dk_154 0 5 (dk_at dksX2_fine_0 13 rfl rfl)
theorem dX2_fine_16 : decode cX2_fine 16 = .ok (.iconst 0, 1) := dk_3 (dk_at dksX2_fine_0 16 rfl rfl)
theorem dX2_fine_17 : decode cX2_fine 17 = .ok (.ireturn, 1) := dk_172 (dk_at dksX2_fine_0 17 rfl rfl)
theorem dX2_fine_18 : decode cX2_fine 18 = .ok (.iconst 0, 1) := dk_3 (dk_at dksX2_fine_0 18 rfl rfl)
theorem dX2_fine_19 : decode cX2_fine 19 = .ok (.istore 4, 2) := dk_54 4 (dk_at dksX2_fine_0 19 rfl rfl)
theorem dX2_fine_21 : decode cX2_fine 21 = .ok (.aload_n 0, 1) := dk_42 (dk_at dksX2_fine_0 21 rfl rfl)
theorem dX2_fine_22 : decode cX2_fine 22 = .ok (.getfield 13, 3) := dk_180 0 13 (dk_at dksX2_fine_1 0 rfl rfl)
theorem dX2_fine_25 : decode cX2_fine 25 = .ok (.astore 5, 2) := dk_58 5 (dk_at dksX2_fine_1 3 rfl rfl)
theorem dX2_fine_27 : decode cX2_fine 27 = .ok (.aload 5, 2) := dk_25 5 (dk_at dksX2_fine_1 5 rfl rfl)
theorem dX2_fine_29 : decode cX2_fine 29 = .ok (.arraylength, 1) := dk_190 (dk_at dksX2_fine_1 7 rfl rfl)
theorem dX2_fine_30 : decode cX2_fine 30 = .ok (.istore 6, 2) := dk_54 6 (dk_at dksX2_fine_1 8 rfl rfl)
theorem dX2_fine_32 : decode cX2_fine 32 = .ok (.iconst 0, 1) := dk_3 (dk_at dksX2_fine_1 10 rfl rfl)
theorem dX2_fine_33 : decode cX2_fine 33 = .ok (.istore 7, 2) := dk_54 7 (dk_at dksX2_fine_1 11 rfl rfl)
theorem dX2_fine_35 : decode cX2_fine 35 = .ok (.iload 7, 2) := dk_21 7 (dk_at dksX2_fine_1 13 rfl rfl)
theorem dX2_fine_37 : decode cX2_fine 37 = .ok (.iload 6, 2) := dk_21 6 (dk_at dksX2_fine_1 15 rfl rfl)
theorem dX2_fine_39 : decode cX2_fine 39 = .ok (.if_icmp .ge 38, 3) := dk_162 0 38 (dk_at dksX2_fine_1 17 rfl rfl)
theorem dX2_fine_42 : decode cX2_fine 42 = .ok (.aload 5, 2) := dk_25 5 (dk_at dksX2_fine_1 20 rfl rfl)
theorem dX2_fine_44 : decode cX2_fine 44 = .ok (.iload 7, 2) := dk_21 7 (dk_at dksX2_fine_1 22 rfl rfl)
theorem dX2_fine_46 : decode cX2_fine 46 = .ok (.aaload, 1) := dk_50 (dk_at dksX2_fine_2 0 rfl rfl)
theorem dX2_fine_47 : decode cX2_fine 47 = .ok (.astore 8, 2) := dk_58 8 (dk_at dksX2_fine_2 1 rfl rfl)
theorem dX2_fine_49 : decode cX2_fine 49 = .ok (.aload 8, 2) := dk_25 8 (dk_at dksX2_fine_2 3 rfl rfl)
theorem dX2_fine_51 : decode cX2_fine 51 = .ok (.iload 4, 2) := dk_21 4 (dk_at dksX2_fine_2 5 rfl rfl)
theorem dX2_fine_53 : decode cX2_fine 53 = .ok (.aload_n 3, 1) := dk_45 (dk_at dksX2_fine_2 7 rfl rfl)
theorem dX2_fine_54 : decode cX2_fine 54 = .ok (.iload_n 2, 1) := dk_28 (dk_at dksX2_fine_2 8 rfl rfl)
theorem dX2_fine_55 : decode cX2_fine 55 = .ok (.invokevirtual 104, 3) := dk_182 0 104 (dk_at dksX2_fine_2 9 rfl rfl)
theorem dX2_fine_58 : decode cX2_fine 58 = .ok (.aload_n 3, 1) := dk_45 (dk_at dksX2_fine_2 12 rfl rfl)
theorem dX2_fine_59 : decode cX2_fine 59 = .ok (.getfield 101, 3) := dk_180 0 101 (dk_at dksX2_fine_2 13 rfl rfl)
theorem dX2_fine_62 : decode cX2_fine 62 = .ok (.iload_n 2, 1) := dk_28 (dk_at dksX2_fine_2 16 rfl rfl)
theorem dX2_fine_63 : decode cX2_fine 63 = .ok (.iaload, 1) := dk_46 (dk_at dksX2_fine_2 17 rfl rfl)
theorem dX2_fine_64 : decode cX2_fine 64 = .ok (.invokeinterface 107 4, 5) := by decide +kernel
theorem dX2_fine_69 : decode cX2_fine 69 = .ok (.istore 4, 2) := dk_54 4 (dk_at dksX2_fine_3 0 rfl rfl)
theorem dX2_fine_71 : decode cX2_fine 71 = .ok (.iinc 7 1, 3) := dk_132 7 1 (dk_at dksX2_fine_3 2 rfl rfl)
theorem dX2_fine_74 : decode cX2_fine 74 = .ok (.goto (-39), 3) := dk_167 255 217 (dk_at dksX2_fine_3 5 rfl rfl)
theorem dX2_fine_77 : decode cX2_fine 77 = .ok (.iload 4, 2) := dk_21 4 (dk_at dksX2_fine_3 8 rfl rfl)
theorem dX2_fine_79 : decode cX2_fine 79 = .ok (.ireturn, 1) := dk_172 (dk_at dksX2_fine_3 10 rfl rfl)
abbrev cX2_fineAgain : ByteArray := prog_6_method_10_code
def yX2_fineAgain : MethodName := ⟨RX2, "fineAgain", "(II)I"⟩
def dkwX2_fineAgain_2 : List UInt8 := [3, 172, 4, 21, 4, 96, 172, 6, 21, 4, 96, 172, 16, 6, 5, 21, 4, 104, 96, 172]
abbrev dktX2_fineAgain_2 : List UInt8 := dkwX2_fineAgain_2 ++ []
def dkwX2_fineAgain_1 : List UInt8 := [170, 0, 0, 0, 0, 0, 0, 40, 0, 0, 0, 0, 0, 0, 0, 2, 0, 0, 0, 28, 0, 0, 0, 30, 0, 0, 0, 35]
abbrev dktX2_fineAgain_1 : List UInt8 := dkwX2_fineAgain_1 ++ dktX2_fineAgain_2
def dkwX2_fineAgain_0 : List UInt8 := [42, 180, 0, 26, 27, 50, 78, 45, 28, 182, 0, 104, 54, 4, 45, 180, 0, 101, 28, 46]
abbrev dktX2_fineAgain_0 : List UInt8 := dkwX2_fineAgain_0 ++ dktX2_fineAgain_1
theorem dksX2_fineAgain_0 : cX2_fineAgain.data.toList.drop 0 = dktX2_fineAgain_0 := by decide +kernel
theorem dksX2_fineAgain_1 : cX2_fineAgain.data.toList.drop 20 = dktX2_fineAgain_1 := dk_seg dksX2_fineAgain_0 20 rfl rfl
theorem dksX2_fineAgain_2 : cX2_fineAgain.data.toList.drop 48 = dktX2_fineAgain_2 := dk_seg dksX2_fineAgain_1 28 rfl rfl
theorem dX2_fineAgain_0 : decode cX2_fineAgain 0 = .ok (.aload_n 0, 1) := dk_42 (dk_at dksX2_fineAgain_0 0 rfl rfl)
theorem dX2_fineAgain_1 : decode cX2_fineAgain 1 = .ok (.getfield 26, 3) := dk_180 0 26 (dk_at dksX2_fineAgain_0 1 rfl rfl)
theorem dX2_fineAgain_4 : decode cX2_fineAgain 4 = .ok (.iload_n 1, 1) := dk_27 (dk_at dksX2_fineAgain_0 4 rfl rfl)
theorem dX2_fineAgain_5 : decode cX2_fineAgain 5 = .ok (.aaload, 1) := dk_50 (dk_at dksX2_fineAgain_0 5 rfl rfl)
theorem dX2_fineAgain_6 : decode cX2_fineAgain 6 = .ok (.astore_n 3, 1) := dk_78 (dk_at dksX2_fineAgain_0 6 rfl rfl)
theorem dX2_fineAgain_7 : decode cX2_fineAgain 7 = .ok (.aload_n 3, 1) := dk_45 (dk_at dksX2_fineAgain_0 7 rfl rfl)
theorem dX2_fineAgain_8 : decode cX2_fineAgain 8 = .ok (.iload_n 2, 1) := dk_28 (dk_at dksX2_fineAgain_0 8 rfl rfl)
theorem dX2_fineAgain_9 : decode cX2_fineAgain 9 = .ok (.invokevirtual 104, 3) := dk_182 0 104 (dk_at dksX2_fineAgain_0 9 rfl rfl)
theorem dX2_fineAgain_12 : decode cX2_fineAgain 12 = .ok (.istore 4, 2) := dk_54 4 (dk_at dksX2_fineAgain_0 12 rfl rfl)
theorem dX2_fineAgain_14 : decode cX2_fineAgain 14 = .ok (.aload_n 3, 1) := dk_45 (dk_at dksX2_fineAgain_0 14 rfl rfl)
theorem dX2_fineAgain_15 : decode cX2_fineAgain 15 = .ok (.getfield 101, 3) := dk_180 0 101 (dk_at dksX2_fineAgain_0 15 rfl rfl)
theorem dX2_fineAgain_18 : decode cX2_fineAgain 18 = .ok (.iload_n 2, 1) := dk_28 (dk_at dksX2_fineAgain_0 18 rfl rfl)
theorem dX2_fineAgain_19 : decode cX2_fineAgain 19 = .ok (.iaload, 1) := dk_46 (dk_at dksX2_fineAgain_0 19 rfl rfl)
theorem dX2_fineAgain_20 : decode cX2_fineAgain 20 = .ok (.tableswitch 40 0 2 #[28, 30, 35], 28) := by decide +kernel
theorem dX2_fineAgain_48 : decode cX2_fineAgain 48 = .ok (.iconst 0, 1) := dk_3 (dk_at dksX2_fineAgain_2 0 rfl rfl)
theorem dX2_fineAgain_49 : decode cX2_fineAgain 49 = .ok (.ireturn, 1) := dk_172 (dk_at dksX2_fineAgain_2 1 rfl rfl)
theorem dX2_fineAgain_50 : decode cX2_fineAgain 50 = .ok (.iconst 1, 1) := dk_4 (dk_at dksX2_fineAgain_2 2 rfl rfl)
theorem dX2_fineAgain_51 : decode cX2_fineAgain 51 = .ok (.iload 4, 2) := dk_21 4 (dk_at dksX2_fineAgain_2 3 rfl rfl)
theorem dX2_fineAgain_53 : decode cX2_fineAgain 53 = .ok (.iadd, 1) := dk_96 (dk_at dksX2_fineAgain_2 5 rfl rfl)
theorem dX2_fineAgain_54 : decode cX2_fineAgain 54 = .ok (.ireturn, 1) := dk_172 (dk_at dksX2_fineAgain_2 6 rfl rfl)
theorem dX2_fineAgain_55 : decode cX2_fineAgain 55 = .ok (.iconst 3, 1) := dk_6 (dk_at dksX2_fineAgain_2 7 rfl rfl)
theorem dX2_fineAgain_56 : decode cX2_fineAgain 56 = .ok (.iload 4, 2) := dk_21 4 (dk_at dksX2_fineAgain_2 8 rfl rfl)
theorem dX2_fineAgain_58 : decode cX2_fineAgain 58 = .ok (.iadd, 1) := dk_96 (dk_at dksX2_fineAgain_2 10 rfl rfl)
theorem dX2_fineAgain_59 : decode cX2_fineAgain 59 = .ok (.ireturn, 1) := dk_172 (dk_at dksX2_fineAgain_2 11 rfl rfl)
theorem dX2_fineAgain_60 : decode cX2_fineAgain 60 = .ok (.bipush 6, 2) := dk_16 6 (dk_at dksX2_fineAgain_2 12 rfl rfl)
theorem dX2_fineAgain_62 : decode cX2_fineAgain 62 = .ok (.iconst 2, 1) := dk_5 (dk_at dksX2_fineAgain_2 14 rfl rfl)
theorem dX2_fineAgain_63 : decode cX2_fineAgain 63 = .ok (.iload 4, 2) := dk_21 4 (dk_at dksX2_fineAgain_2 15 rfl rfl)
theorem dX2_fineAgain_65 : decode cX2_fineAgain 65 = .ok (.imul, 1) := dk_104 (dk_at dksX2_fineAgain_2 17 rfl rfl)
theorem dX2_fineAgain_66 : decode cX2_fineAgain 66 = .ok (.iadd, 1) := dk_96 (dk_at dksX2_fineAgain_2 18 rfl rfl)
theorem dX2_fineAgain_67 : decode cX2_fineAgain 67 = .ok (.ireturn, 1) := dk_172 (dk_at dksX2_fineAgain_2 19 rfl rfl)
abbrev cX2_fines : ByteArray := prog_6_method_11_code
def yX2_fines : MethodName := ⟨RX2, "fines", "(I)I"⟩
def dkwX2_fines_1 : List UInt8 := [96, 61, 132, 3, 1, 167, 255, 231, 28, 172]
abbrev dktX2_fines_1 : List UInt8 := dkwX2_fines_1 ++ []
def dkwX2_fines_0 : List UInt8 := [3, 61, 3, 62, 29, 42, 180, 0, 26, 27, 50, 180, 0, 88, 162, 0, 18, 28, 42, 27, 29, 182, 0, 113]
abbrev dktX2_fines_0 : List UInt8 := dkwX2_fines_0 ++ dktX2_fines_1
theorem dksX2_fines_0 : cX2_fines.data.toList.drop 0 = dktX2_fines_0 := by decide +kernel
theorem dksX2_fines_1 : cX2_fines.data.toList.drop 24 = dktX2_fines_1 := dk_seg dksX2_fines_0 24 rfl rfl
theorem dX2_fines_0 : decode cX2_fines 0 = .ok (.iconst 0, 1) := dk_3 (dk_at dksX2_fines_0 0 rfl rfl)
theorem dX2_fines_1 : decode cX2_fines 1 = .ok (.istore_n 2, 1) := dk_61 (dk_at dksX2_fines_0 1 rfl rfl)
theorem dX2_fines_2 : decode cX2_fines 2 = .ok (.iconst 0, 1) := dk_3 (dk_at dksX2_fines_0 2 rfl rfl)
theorem dX2_fines_3 : decode cX2_fines 3 = .ok (.istore_n 3, 1) := dk_62 (dk_at dksX2_fines_0 3 rfl rfl)
theorem dX2_fines_4 : decode cX2_fines 4 = .ok (.iload_n 3, 1) := dk_29 (dk_at dksX2_fines_0 4 rfl rfl)
theorem dX2_fines_5 : decode cX2_fines 5 = .ok (.aload_n 0, 1) := dk_42 (dk_at dksX2_fines_0 5 rfl rfl)
theorem dX2_fines_6 : decode cX2_fines 6 = .ok (.getfield 26, 3) := dk_180 0 26 (dk_at dksX2_fines_0 6 rfl rfl)
theorem dX2_fines_9 : decode cX2_fines 9 = .ok (.iload_n 1, 1) := dk_27 (dk_at dksX2_fines_0 9 rfl rfl)
theorem dX2_fines_10 : decode cX2_fines 10 = .ok (.aaload, 1) := dk_50 (dk_at dksX2_fines_0 10 rfl rfl)
theorem dX2_fines_11 : decode cX2_fines 11 = .ok (.getfield 88, 3) := dk_180 0 88 (dk_at dksX2_fines_0 11 rfl rfl)
theorem dX2_fines_14 : decode cX2_fines 14 = .ok (.if_icmp .ge 18, 3) := dk_162 0 18 (dk_at dksX2_fines_0 14 rfl rfl)
theorem dX2_fines_17 : decode cX2_fines 17 = .ok (.iload_n 2, 1) := dk_28 (dk_at dksX2_fines_0 17 rfl rfl)
theorem dX2_fines_18 : decode cX2_fines 18 = .ok (.aload_n 0, 1) := dk_42 (dk_at dksX2_fines_0 18 rfl rfl)
theorem dX2_fines_19 : decode cX2_fines 19 = .ok (.iload_n 1, 1) := dk_27 (dk_at dksX2_fines_0 19 rfl rfl)
theorem dX2_fines_20 : decode cX2_fines 20 = .ok (.iload_n 3, 1) := dk_29 (dk_at dksX2_fines_0 20 rfl rfl)
theorem dX2_fines_21 : decode cX2_fines 21 = .ok (.invokevirtual 113, 3) := dk_182 0 113 (dk_at dksX2_fines_0 21 rfl rfl)
theorem dX2_fines_24 : decode cX2_fines 24 = .ok (.iadd, 1) := dk_96 (dk_at dksX2_fines_1 0 rfl rfl)
theorem dX2_fines_25 : decode cX2_fines 25 = .ok (.istore_n 2, 1) := dk_61 (dk_at dksX2_fines_1 1 rfl rfl)
theorem dX2_fines_26 : decode cX2_fines 26 = .ok (.iinc 3 1, 3) := dk_132 3 1 (dk_at dksX2_fines_1 2 rfl rfl)
theorem dX2_fines_29 : decode cX2_fines 29 = .ok (.goto (-25), 3) := dk_167 255 231 (dk_at dksX2_fines_1 5 rfl rfl)
theorem dX2_fines_32 : decode cX2_fines 32 = .ok (.iload_n 2, 1) := dk_28 (dk_at dksX2_fines_1 8 rfl rfl)
theorem dX2_fines_33 : decode cX2_fines 33 = .ok (.ireturn, 1) := dk_172 (dk_at dksX2_fines_1 9 rfl rfl)
abbrev cX2_finesAgain : ByteArray := prog_6_method_12_code
def yX2_finesAgain : MethodName := ⟨RX2, "finesAgain", "(I)I"⟩
def dkwX2_finesAgain_2 : List UInt8 := [167, 255, 213, 28, 172]
abbrev dktX2_finesAgain_2 : List UInt8 := dkwX2_finesAgain_2 ++ []
def dkwX2_finesAgain_1 : List UInt8 := [181, 0, 124, 28, 42, 27, 29, 182, 0, 127, 96, 61, 167, 0, 8, 58, 4, 132, 2, 0, 132, 3, 1]
abbrev dktX2_finesAgain_1 : List UInt8 := dkwX2_finesAgain_1 ++ dktX2_finesAgain_2
def dkwX2_finesAgain_0 : List UInt8 := [3, 61, 3, 62, 29, 42, 180, 0, 26, 27, 50, 180, 0, 88, 162, 0, 36, 42, 27, 182, 0, 117, 18, 123]
abbrev dktX2_finesAgain_0 : List UInt8 := dkwX2_finesAgain_0 ++ dktX2_finesAgain_1
theorem dksX2_finesAgain_0 : cX2_finesAgain.data.toList.drop 0 = dktX2_finesAgain_0 := by decide +kernel
theorem dksX2_finesAgain_1 : cX2_finesAgain.data.toList.drop 24 = dktX2_finesAgain_1 := dk_seg dksX2_finesAgain_0 24 rfl rfl
theorem dksX2_finesAgain_2 : cX2_finesAgain.data.toList.drop 47 = dktX2_finesAgain_2 := dk_seg dksX2_finesAgain_1 23 rfl rfl
theorem dX2_finesAgain_0 : decode cX2_finesAgain 0 = .ok (.iconst 0, 1) := dk_3 (dk_at dksX2_finesAgain_0 0 rfl rfl)
theorem dX2_finesAgain_1 : decode cX2_finesAgain 1 = .ok (.istore_n 2, 1) := dk_61 (dk_at dksX2_finesAgain_0 1 rfl rfl)
theorem dX2_finesAgain_2 : decode cX2_finesAgain 2 = .ok (.iconst 0, 1) := dk_3 (dk_at dksX2_finesAgain_0 2 rfl rfl)
theorem dX2_finesAgain_3 : decode cX2_finesAgain 3 = .ok (.istore_n 3, 1) := dk_62 (dk_at dksX2_finesAgain_0 3 rfl rfl)
theorem dX2_finesAgain_4 : decode cX2_finesAgain 4 = .ok (.iload_n 3, 1) := dk_29 (dk_at dksX2_finesAgain_0 4 rfl rfl)
theorem dX2_finesAgain_5 : decode cX2_finesAgain 5 = .ok (.aload_n 0, 1) := dk_42 (dk_at dksX2_finesAgain_0 5 rfl rfl)
theorem dX2_finesAgain_6 : decode cX2_finesAgain 6 = .ok (.getfield 26, 3) := dk_180 0 26 (dk_at dksX2_finesAgain_0 6 rfl rfl)
theorem dX2_finesAgain_9 : decode cX2_finesAgain 9 = .ok (.iload_n 1, 1) := dk_27 (dk_at dksX2_finesAgain_0 9 rfl rfl)
theorem dX2_finesAgain_10 : decode cX2_finesAgain 10 = .ok (.aaload, 1) := dk_50 (dk_at dksX2_finesAgain_0 10 rfl rfl)
theorem dX2_finesAgain_11 : decode cX2_finesAgain 11 = .ok (.getfield 88, 3) := dk_180 0 88 (dk_at dksX2_finesAgain_0 11 rfl rfl)
theorem dX2_finesAgain_14 : decode cX2_finesAgain 14 = .ok (.if_icmp .ge 36, 3) := dk_162 0 36 (dk_at dksX2_finesAgain_0 14 rfl rfl)
theorem dX2_finesAgain_17 : decode cX2_finesAgain 17 = .ok (.aload_n 0, 1) := dk_42 (dk_at dksX2_finesAgain_0 17 rfl rfl)
theorem dX2_finesAgain_18 : decode cX2_finesAgain 18 = .ok (.iload_n 1, 1) := dk_27 (dk_at dksX2_finesAgain_0 18 rfl rfl)
theorem dX2_finesAgain_19 : decode cX2_finesAgain 19 = .ok (.invokevirtual 117, 3) := dk_182 0 117 (dk_at dksX2_finesAgain_0 19 rfl rfl)
theorem dX2_finesAgain_22 : decode cX2_finesAgain 22 = .ok (.ldc 123, 2) := dk_18 123 (dk_at dksX2_finesAgain_0 22 rfl rfl)
theorem dX2_finesAgain_24 : decode cX2_finesAgain 24 = .ok (.putfield 124, 3) := dk_181 0 124 (dk_at dksX2_finesAgain_1 0 rfl rfl)
theorem dX2_finesAgain_27 : decode cX2_finesAgain 27 = .ok (.iload_n 2, 1) := dk_28 (dk_at dksX2_finesAgain_1 3 rfl rfl)
theorem dX2_finesAgain_28 : decode cX2_finesAgain 28 = .ok (.aload_n 0, 1) := dk_42 (dk_at dksX2_finesAgain_1 4 rfl rfl)
theorem dX2_finesAgain_29 : decode cX2_finesAgain 29 = .ok (.iload_n 1, 1) := dk_27 (dk_at dksX2_finesAgain_1 5 rfl rfl)
theorem dX2_finesAgain_30 : decode cX2_finesAgain 30 = .ok (.iload_n 3, 1) := dk_29 (dk_at dksX2_finesAgain_1 6 rfl rfl)
theorem dX2_finesAgain_31 : decode cX2_finesAgain 31 = .ok (.invokevirtual 127, 3) := dk_182 0 127 (dk_at dksX2_finesAgain_1 7 rfl rfl)
theorem dX2_finesAgain_34 : decode cX2_finesAgain 34 = .ok (.iadd, 1) := dk_96 (dk_at dksX2_finesAgain_1 10 rfl rfl)
theorem dX2_finesAgain_35 : decode cX2_finesAgain 35 = .ok (.istore_n 2, 1) := dk_61 (dk_at dksX2_finesAgain_1 11 rfl rfl)
theorem dX2_finesAgain_36 : decode cX2_finesAgain 36 = .ok (.goto 8, 3) := dk_167 0 8 (dk_at dksX2_finesAgain_1 12 rfl rfl)
theorem dX2_finesAgain_39 : decode cX2_finesAgain 39 = .ok (.astore 4, 2) := dk_58 4 (dk_at dksX2_finesAgain_1 15 rfl rfl)
theorem dX2_finesAgain_41 : decode cX2_finesAgain 41 = .ok (.iinc 2 0, 3) := dk_132 2 0 (dk_at dksX2_finesAgain_1 17 rfl rfl)
theorem dX2_finesAgain_44 : decode cX2_finesAgain 44 = .ok (.iinc 3 1, 3) := dk_132 3 1 (dk_at dksX2_finesAgain_1 20 rfl rfl)
theorem dX2_finesAgain_47 : decode cX2_finesAgain 47 = .ok (.goto (-43), 3) := dk_167 255 213 (dk_at dksX2_finesAgain_2 0 rfl rfl)
theorem dX2_finesAgain_50 : decode cX2_finesAgain 50 = .ok (.iload_n 2, 1) := dk_28 (dk_at dksX2_finesAgain_2 3 rfl rfl)
theorem dX2_finesAgain_51 : decode cX2_finesAgain 51 = .ok (.ireturn, 1) := dk_172 (dk_at dksX2_finesAgain_2 4 rfl rfl)
abbrev cX2_of : ByteArray := prog_6_method_6_code
def yX2_of : MethodName := ⟨RX2, "of", "(I)LErrataPress$House;"⟩
def dkwX2_of_0 : List UInt8 := [42, 180, 0, 20, 42, 180, 0, 26, 27, 50, 180, 0, 91, 50, 176]
abbrev dktX2_of_0 : List UInt8 := dkwX2_of_0 ++ []
theorem dksX2_of_0 : cX2_of.data.toList.drop 0 = dktX2_of_0 := by decide +kernel
theorem dX2_of_0 : decode cX2_of 0 = .ok (.aload_n 0, 1) := dk_42 (dk_at dksX2_of_0 0 rfl rfl)
theorem dX2_of_1 : decode cX2_of 1 = .ok (.getfield 20, 3) := dk_180 0 20 (dk_at dksX2_of_0 1 rfl rfl)
theorem dX2_of_4 : decode cX2_of 4 = .ok (.aload_n 0, 1) := dk_42 (dk_at dksX2_of_0 4 rfl rfl)
theorem dX2_of_5 : decode cX2_of 5 = .ok (.getfield 26, 3) := dk_180 0 26 (dk_at dksX2_of_0 5 rfl rfl)
theorem dX2_of_8 : decode cX2_of 8 = .ok (.iload_n 1, 1) := dk_27 (dk_at dksX2_of_0 8 rfl rfl)
theorem dX2_of_9 : decode cX2_of 9 = .ok (.aaload, 1) := dk_50 (dk_at dksX2_of_0 9 rfl rfl)
theorem dX2_of_10 : decode cX2_of 10 = .ok (.getfield 91, 3) := dk_180 0 91 (dk_at dksX2_of_0 10 rfl rfl)
theorem dX2_of_13 : decode cX2_of 13 = .ok (.aaload, 1) := dk_50 (dk_at dksX2_of_0 13 rfl rfl)
theorem dX2_of_14 : decode cX2_of 14 = .ok (.areturn, 1) := dk_176 (dk_at dksX2_of_0 14 rfl rfl)
abbrev cX2_correct : ByteArray := prog_6_method_22_code
def yX2_correct : MethodName := ⟨RX2, "correct", "(II)I"⟩
def dkwX2_correct_5 : List UInt8 := [180, 0, 101, 28, 3, 79, 21, 5, 172]
abbrev dktX2_correct_5 : List UInt8 := dkwX2_correct_5 ++ []
def dkwX2_correct_4 : List UInt8 := [180, 0, 77, 21, 5, 96, 181, 0, 77, 45, 180, 0, 132, 28, 45, 180, 0, 162, 28, 46, 79, 45]
abbrev dktX2_correct_4 : List UInt8 := dkwX2_correct_4 ++ dktX2_correct_5
def dkwX2_correct_3 : List UInt8 := [180, 0, 124, 21, 5, 100, 181, 0, 124, 25, 4, 89, 180, 0, 155, 21, 5, 96, 181, 0, 155, 42, 89]
abbrev dktX2_correct_3 : List UInt8 := dkwX2_correct_3 ++ dktX2_correct_4
def dkwX2_correct_2 : List UInt8 := [21, 5, 162, 0, 7, 4, 167, 0, 4, 3, 16, 7, 25, 4, 180, 0, 124, 184, 0, 148, 25, 4, 89]
abbrev dktX2_correct_2 : List UInt8 := dkwX2_correct_2 ++ dktX2_correct_3
def dkwX2_correct_1 : List UInt8 := [180, 0, 101, 28, 46, 154, 0, 7, 4, 167, 0, 4, 3, 7, 28, 184, 0, 148, 25, 4, 180, 0, 124]
abbrev dktX2_correct_1 : List UInt8 := dkwX2_correct_1 ++ dktX2_correct_2
def dkwX2_correct_0 : List UInt8 := [42, 180, 0, 26, 27, 50, 78, 42, 27, 182, 0, 117, 58, 4, 42, 27, 28, 182, 0, 113, 54, 5, 45]
abbrev dktX2_correct_0 : List UInt8 := dkwX2_correct_0 ++ dktX2_correct_1
theorem dksX2_correct_0 : cX2_correct.data.toList.drop 0 = dktX2_correct_0 := by decide +kernel
theorem dksX2_correct_1 : cX2_correct.data.toList.drop 23 = dktX2_correct_1 := dk_seg dksX2_correct_0 23 rfl rfl
theorem dksX2_correct_2 : cX2_correct.data.toList.drop 46 = dktX2_correct_2 := dk_seg dksX2_correct_1 23 rfl rfl
theorem dksX2_correct_3 : cX2_correct.data.toList.drop 69 = dktX2_correct_3 := dk_seg dksX2_correct_2 23 rfl rfl
theorem dksX2_correct_4 : cX2_correct.data.toList.drop 92 = dktX2_correct_4 := dk_seg dksX2_correct_3 23 rfl rfl
theorem dksX2_correct_5 : cX2_correct.data.toList.drop 114 = dktX2_correct_5 := dk_seg dksX2_correct_4 22 rfl rfl
theorem dX2_correct_0 : decode cX2_correct 0 = .ok (.aload_n 0, 1) := dk_42 (dk_at dksX2_correct_0 0 rfl rfl)
theorem dX2_correct_1 : decode cX2_correct 1 = .ok (.getfield 26, 3) := dk_180 0 26 (dk_at dksX2_correct_0 1 rfl rfl)
theorem dX2_correct_4 : decode cX2_correct 4 = .ok (.iload_n 1, 1) := dk_27 (dk_at dksX2_correct_0 4 rfl rfl)
theorem dX2_correct_5 : decode cX2_correct 5 = .ok (.aaload, 1) := dk_50 (dk_at dksX2_correct_0 5 rfl rfl)
theorem dX2_correct_6 : decode cX2_correct 6 = .ok (.astore_n 3, 1) := dk_78 (dk_at dksX2_correct_0 6 rfl rfl)
theorem dX2_correct_7 : decode cX2_correct 7 = .ok (.aload_n 0, 1) := dk_42 (dk_at dksX2_correct_0 7 rfl rfl)
theorem dX2_correct_8 : decode cX2_correct 8 = .ok (.iload_n 1, 1) := dk_27 (dk_at dksX2_correct_0 8 rfl rfl)
theorem dX2_correct_9 : decode cX2_correct 9 = .ok (.invokevirtual 117, 3) := dk_182 0 117 (dk_at dksX2_correct_0 9 rfl rfl)
theorem dX2_correct_12 : decode cX2_correct 12 = .ok (.astore 4, 2) := dk_58 4 (dk_at dksX2_correct_0 12 rfl rfl)
theorem dX2_correct_14 : decode cX2_correct 14 = .ok (.aload_n 0, 1) := dk_42 (dk_at dksX2_correct_0 14 rfl rfl)
theorem dX2_correct_15 : decode cX2_correct 15 = .ok (.iload_n 1, 1) := dk_27 (dk_at dksX2_correct_0 15 rfl rfl)
theorem dX2_correct_16 : decode cX2_correct 16 = .ok (.iload_n 2, 1) := dk_28 (dk_at dksX2_correct_0 16 rfl rfl)
theorem dX2_correct_17 : decode cX2_correct 17 = .ok (.invokevirtual 113, 3) := dk_182 0 113 (dk_at dksX2_correct_0 17 rfl rfl)
theorem dX2_correct_20 : decode cX2_correct 20 = .ok (.istore 5, 2) := dk_54 5 (dk_at dksX2_correct_0 20 rfl rfl)
theorem dX2_correct_22 : decode cX2_correct 22 = .ok (.aload_n 3, 1) := dk_45 (dk_at dksX2_correct_0 22 rfl rfl)
theorem dX2_correct_23 : decode cX2_correct 23 = .ok (.getfield 101, 3) := dk_180 0 101 (dk_at dksX2_correct_1 0 rfl rfl)
theorem dX2_correct_26 : decode cX2_correct 26 = .ok (.iload_n 2, 1) := dk_28 (dk_at dksX2_correct_1 3 rfl rfl)
theorem dX2_correct_27 : decode cX2_correct 27 = .ok (.iaload, 1) := dk_46 (dk_at dksX2_correct_1 4 rfl rfl)
theorem dX2_correct_28 : decode cX2_correct 28 = .ok (.ifCond .ne 7, 3) := dk_154 0 7 (dk_at dksX2_correct_1 5 rfl rfl)
theorem dX2_correct_31 : decode cX2_correct 31 = .ok (.iconst 1, 1) := dk_4 (dk_at dksX2_correct_1 8 rfl rfl)
theorem dX2_correct_32 : decode cX2_correct 32 = .ok (.goto 4, 3) := dk_167 0 4 (dk_at dksX2_correct_1 9 rfl rfl)
theorem dX2_correct_35 : decode cX2_correct 35 = .ok (.iconst 0, 1) := dk_3 (dk_at dksX2_correct_1 12 rfl rfl)
theorem dX2_correct_36 : decode cX2_correct 36 = .ok (.iconst 4, 1) := dk_7 (dk_at dksX2_correct_1 13 rfl rfl)
theorem dX2_correct_37 : decode cX2_correct 37 = .ok (.iload_n 2, 1) := dk_28 (dk_at dksX2_correct_1 14 rfl rfl)
theorem dX2_correct_38 : decode cX2_correct 38 = .ok (.invokestatic 148, 3) := dk_184 0 148 (dk_at dksX2_correct_1 15 rfl rfl)
theorem dX2_correct_41 : decode cX2_correct 41 = .ok (.aload 4, 2) := dk_25 4 (dk_at dksX2_correct_1 18 rfl rfl)
theorem dX2_correct_43 : decode cX2_correct 43 = .ok (.getfield 124, 3) := dk_180 0 124 (dk_at dksX2_correct_1 20 rfl rfl)
theorem dX2_correct_46 : decode cX2_correct 46 = .ok (.iload 5, 2) := dk_21 5 (dk_at dksX2_correct_2 0 rfl rfl)
theorem dX2_correct_48 : decode cX2_correct 48 = .ok (.if_icmp .ge 7, 3) := dk_162 0 7 (dk_at dksX2_correct_2 2 rfl rfl)
theorem dX2_correct_51 : decode cX2_correct 51 = .ok (.iconst 1, 1) := dk_4 (dk_at dksX2_correct_2 5 rfl rfl)
theorem dX2_correct_52 : decode cX2_correct 52 = .ok (.goto 4, 3) := dk_167 0 4 (dk_at dksX2_correct_2 6 rfl rfl)
theorem dX2_correct_55 : decode cX2_correct 55 = .ok (.iconst 0, 1) := dk_3 (dk_at dksX2_correct_2 9 rfl rfl)
theorem dX2_correct_56 : decode cX2_correct 56 = .ok (.bipush 7, 2) := dk_16 7 (dk_at dksX2_correct_2 10 rfl rfl)
theorem dX2_correct_58 : decode cX2_correct 58 = .ok (.aload 4, 2) := dk_25 4 (dk_at dksX2_correct_2 12 rfl rfl)
theorem dX2_correct_60 : decode cX2_correct 60 = .ok (.getfield 124, 3) := dk_180 0 124 (dk_at dksX2_correct_2 14 rfl rfl)
theorem dX2_correct_63 : decode cX2_correct 63 = .ok (.invokestatic 148, 3) := dk_184 0 148 (dk_at dksX2_correct_2 17 rfl rfl)
theorem dX2_correct_66 : decode cX2_correct 66 = .ok (.aload 4, 2) := dk_25 4 (dk_at dksX2_correct_2 20 rfl rfl)
theorem dX2_correct_68 : decode cX2_correct 68 = .ok (.dup, 1) := dk_89 (dk_at dksX2_correct_2 22 rfl rfl)
theorem dX2_correct_69 : decode cX2_correct 69 = .ok (.getfield 124, 3) := dk_180 0 124 (dk_at dksX2_correct_3 0 rfl rfl)
theorem dX2_correct_72 : decode cX2_correct 72 = .ok (.iload 5, 2) := dk_21 5 (dk_at dksX2_correct_3 3 rfl rfl)
theorem dX2_correct_74 : decode cX2_correct 74 = .ok (.isub, 1) := dk_100 (dk_at dksX2_correct_3 5 rfl rfl)
theorem dX2_correct_75 : decode cX2_correct 75 = .ok (.putfield 124, 3) := dk_181 0 124 (dk_at dksX2_correct_3 6 rfl rfl)
theorem dX2_correct_78 : decode cX2_correct 78 = .ok (.aload 4, 2) := dk_25 4 (dk_at dksX2_correct_3 9 rfl rfl)
theorem dX2_correct_80 : decode cX2_correct 80 = .ok (.dup, 1) := dk_89 (dk_at dksX2_correct_3 11 rfl rfl)
theorem dX2_correct_81 : decode cX2_correct 81 = .ok (.getfield 155, 3) := dk_180 0 155 (dk_at dksX2_correct_3 12 rfl rfl)
theorem dX2_correct_84 : decode cX2_correct 84 = .ok (.iload 5, 2) := dk_21 5 (dk_at dksX2_correct_3 15 rfl rfl)
theorem dX2_correct_86 : decode cX2_correct 86 = .ok (.iadd, 1) := dk_96 (dk_at dksX2_correct_3 17 rfl rfl)
theorem dX2_correct_87 : decode cX2_correct 87 = .ok (.putfield 155, 3) := dk_181 0 155 (dk_at dksX2_correct_3 18 rfl rfl)
theorem dX2_correct_90 : decode cX2_correct 90 = .ok (.aload_n 0, 1) := dk_42 (dk_at dksX2_correct_3 21 rfl rfl)
theorem dX2_correct_91 : decode cX2_correct 91 = .ok (.dup, 1) := dk_89 (dk_at dksX2_correct_3 22 rfl rfl)
theorem dX2_correct_92 : decode cX2_correct 92 = .ok (.getfield 77, 3) := dk_180 0 77 (dk_at dksX2_correct_4 0 rfl rfl)
theorem dX2_correct_95 : decode cX2_correct 95 = .ok (.iload 5, 2) := dk_21 5 (dk_at dksX2_correct_4 3 rfl rfl)
theorem dX2_correct_97 : decode cX2_correct 97 = .ok (.iadd, 1) := dk_96 (dk_at dksX2_correct_4 5 rfl rfl)
theorem dX2_correct_98 : decode cX2_correct 98 = .ok (.putfield 77, 3) := dk_181 0 77 (dk_at dksX2_correct_4 6 rfl rfl)
theorem dX2_correct_101 : decode cX2_correct 101 = .ok (.aload_n 3, 1) := dk_45 (dk_at dksX2_correct_4 9 rfl rfl)
theorem dX2_correct_102 : decode cX2_correct 102 = .ok (.getfield 132, 3) := dk_180 0 132 (dk_at dksX2_correct_4 10 rfl rfl)
theorem dX2_correct_105 : decode cX2_correct 105 = .ok (.iload_n 2, 1) := dk_28 (dk_at dksX2_correct_4 13 rfl rfl)
theorem dX2_correct_106 : decode cX2_correct 106 = .ok (.aload_n 3, 1) := dk_45 (dk_at dksX2_correct_4 14 rfl rfl)
theorem dX2_correct_107 : decode cX2_correct 107 = .ok (.getfield 162, 3) := dk_180 0 162 (dk_at dksX2_correct_4 15 rfl rfl)
theorem dX2_correct_110 : decode cX2_correct 110 = .ok (.iload_n 2, 1) := dk_28 (dk_at dksX2_correct_4 18 rfl rfl)
theorem dX2_correct_111 : decode cX2_correct 111 = .ok (.iaload, 1) := dk_46 (dk_at dksX2_correct_4 19 rfl rfl)
theorem dX2_correct_112 : decode cX2_correct 112 = .ok (.iastore, 1) := dk_79 (dk_at dksX2_correct_4 20 rfl rfl)
theorem dX2_correct_113 : decode cX2_correct 113 = .ok (.aload_n 3, 1) := dk_45 (dk_at dksX2_correct_4 21 rfl rfl)
theorem dX2_correct_114 : decode cX2_correct 114 = .ok (.getfield 101, 3) := dk_180 0 101 (dk_at dksX2_correct_5 0 rfl rfl)
theorem dX2_correct_117 : decode cX2_correct 117 = .ok (.iload_n 2, 1) := dk_28 (dk_at dksX2_correct_5 3 rfl rfl)
theorem dX2_correct_118 : decode cX2_correct 118 = .ok (.iconst 0, 1) := dk_3 (dk_at dksX2_correct_5 4 rfl rfl)
theorem dX2_correct_119 : decode cX2_correct 119 = .ok (.iastore, 1) := dk_79 (dk_at dksX2_correct_5 5 rfl rfl)
theorem dX2_correct_120 : decode cX2_correct 120 = .ok (.iload 5, 2) := dk_21 5 (dk_at dksX2_correct_5 6 rfl rfl)
theorem dX2_correct_122 : decode cX2_correct 122 = .ok (.ireturn, 1) := dk_172 (dk_at dksX2_correct_5 8 rfl rfl)
abbrev cX2_house : ByteArray := prog_6_method_17_code
def yX2_house : MethodName := ⟨RX2, "house", "(I)I"⟩
def dkwX2_house_2 : List UInt8 := [180, 0, 45, 4, 96, 181, 0, 45, 42, 180, 0, 45, 4, 100, 172]
abbrev dktX2_house_2 : List UInt8 := dkwX2_house_2 ++ []
def dkwX2_house_1 : List UInt8 := [180, 0, 45, 50, 77, 44, 27, 181, 0, 124, 44, 3, 181, 0, 152, 44, 3, 181, 0, 155, 42, 89]
abbrev dktX2_house_1 : List UInt8 := dkwX2_house_1 ++ dktX2_house_2
def dkwX2_house_0 : List UInt8 := [42, 180, 0, 45, 7, 160, 0, 7, 4, 167, 0, 4, 3, 4, 7, 184, 0, 148, 42, 180, 0, 20, 42]
abbrev dktX2_house_0 : List UInt8 := dkwX2_house_0 ++ dktX2_house_1
theorem dksX2_house_0 : cX2_house.data.toList.drop 0 = dktX2_house_0 := by decide +kernel
theorem dksX2_house_1 : cX2_house.data.toList.drop 23 = dktX2_house_1 := dk_seg dksX2_house_0 23 rfl rfl
theorem dksX2_house_2 : cX2_house.data.toList.drop 45 = dktX2_house_2 := dk_seg dksX2_house_1 22 rfl rfl
theorem dX2_house_0 : decode cX2_house 0 = .ok (.aload_n 0, 1) := dk_42 (dk_at dksX2_house_0 0 rfl rfl)
theorem dX2_house_1 : decode cX2_house 1 = .ok (.getfield 45, 3) := dk_180 0 45 (dk_at dksX2_house_0 1 rfl rfl)
theorem dX2_house_4 : decode cX2_house 4 = .ok (.iconst 4, 1) := dk_7 (dk_at dksX2_house_0 4 rfl rfl)
theorem dX2_house_5 : decode cX2_house 5 = .ok (.if_icmp .ne 7, 3) := dk_160 0 7 (dk_at dksX2_house_0 5 rfl rfl)
theorem dX2_house_8 : decode cX2_house 8 = .ok (.iconst 1, 1) := dk_4 (dk_at dksX2_house_0 8 rfl rfl)
theorem dX2_house_9 : decode cX2_house 9 = .ok (.goto 4, 3) := dk_167 0 4 (dk_at dksX2_house_0 9 rfl rfl)
theorem dX2_house_12 : decode cX2_house 12 = .ok (.iconst 0, 1) := dk_3 (dk_at dksX2_house_0 12 rfl rfl)
theorem dX2_house_13 : decode cX2_house 13 = .ok (.iconst 1, 1) := dk_4 (dk_at dksX2_house_0 13 rfl rfl)
theorem dX2_house_14 : decode cX2_house 14 = .ok (.iconst 4, 1) := dk_7 (dk_at dksX2_house_0 14 rfl rfl)
theorem dX2_house_15 : decode cX2_house 15 = .ok (.invokestatic 148, 3) := dk_184 0 148 (dk_at dksX2_house_0 15 rfl rfl)
theorem dX2_house_18 : decode cX2_house 18 = .ok (.aload_n 0, 1) := dk_42 (dk_at dksX2_house_0 18 rfl rfl)
theorem dX2_house_19 : decode cX2_house 19 = .ok (.getfield 20, 3) := dk_180 0 20 (dk_at dksX2_house_0 19 rfl rfl)
theorem dX2_house_22 : decode cX2_house 22 = .ok (.aload_n 0, 1) := dk_42 (dk_at dksX2_house_0 22 rfl rfl)
theorem dX2_house_23 : decode cX2_house 23 = .ok (.getfield 45, 3) := dk_180 0 45 (dk_at dksX2_house_1 0 rfl rfl)
theorem dX2_house_26 : decode cX2_house 26 = .ok (.aaload, 1) := dk_50 (dk_at dksX2_house_1 3 rfl rfl)
theorem dX2_house_27 : decode cX2_house 27 = .ok (.astore_n 2, 1) := dk_77 (dk_at dksX2_house_1 4 rfl rfl)
theorem dX2_house_28 : decode cX2_house 28 = .ok (.aload_n 2, 1) := dk_44 (dk_at dksX2_house_1 5 rfl rfl)
theorem dX2_house_29 : decode cX2_house 29 = .ok (.iload_n 1, 1) := dk_27 (dk_at dksX2_house_1 6 rfl rfl)
theorem dX2_house_30 : decode cX2_house 30 = .ok (.putfield 124, 3) := dk_181 0 124 (dk_at dksX2_house_1 7 rfl rfl)
theorem dX2_house_33 : decode cX2_house 33 = .ok (.aload_n 2, 1) := dk_44 (dk_at dksX2_house_1 10 rfl rfl)
theorem dX2_house_34 : decode cX2_house 34 = .ok (.iconst 0, 1) := dk_3 (dk_at dksX2_house_1 11 rfl rfl)
theorem dX2_house_35 : decode cX2_house 35 = .ok (.putfield 152, 3) := dk_181 0 152 (dk_at dksX2_house_1 12 rfl rfl)
theorem dX2_house_38 : decode cX2_house 38 = .ok (.aload_n 2, 1) := dk_44 (dk_at dksX2_house_1 15 rfl rfl)
theorem dX2_house_39 : decode cX2_house 39 = .ok (.iconst 0, 1) := dk_3 (dk_at dksX2_house_1 16 rfl rfl)
theorem dX2_house_40 : decode cX2_house 40 = .ok (.putfield 155, 3) := dk_181 0 155 (dk_at dksX2_house_1 17 rfl rfl)
theorem dX2_house_43 : decode cX2_house 43 = .ok (.aload_n 0, 1) := dk_42 (dk_at dksX2_house_1 20 rfl rfl)
theorem dX2_house_44 : decode cX2_house 44 = .ok (.dup, 1) := dk_89 (dk_at dksX2_house_1 21 rfl rfl)
theorem dX2_house_45 : decode cX2_house 45 = .ok (.getfield 45, 3) := dk_180 0 45 (dk_at dksX2_house_2 0 rfl rfl)
theorem dX2_house_48 : decode cX2_house 48 = .ok (.iconst 1, 1) := dk_4 (dk_at dksX2_house_2 3 rfl rfl)
theorem dX2_house_49 : decode cX2_house 49 = .ok (.iadd, 1) := dk_96 (dk_at dksX2_house_2 4 rfl rfl)
theorem dX2_house_50 : decode cX2_house 50 = .ok (.putfield 45, 3) := dk_181 0 45 (dk_at dksX2_house_2 5 rfl rfl)
theorem dX2_house_53 : decode cX2_house 53 = .ok (.aload_n 0, 1) := dk_42 (dk_at dksX2_house_2 8 rfl rfl)
theorem dX2_house_54 : decode cX2_house 54 = .ok (.getfield 45, 3) := dk_180 0 45 (dk_at dksX2_house_2 9 rfl rfl)
theorem dX2_house_57 : decode cX2_house 57 = .ok (.iconst 1, 1) := dk_4 (dk_at dksX2_house_2 12 rfl rfl)
theorem dX2_house_58 : decode cX2_house 58 = .ok (.isub, 1) := dk_100 (dk_at dksX2_house_2 13 rfl rfl)
theorem dX2_house_59 : decode cX2_house 59 = .ok (.ireturn, 1) := dk_172 (dk_at dksX2_house_2 14 rfl rfl)
abbrev cX2_isHouse : ByteArray := prog_6_method_3_code
def yX2_isHouse : MethodName := ⟨RX2, "isHouse", "(I)Z"⟩
def dkwX2_isHouse_0 : List UInt8 := [27, 3, 42, 180, 0, 45, 4, 100, 184, 0, 80, 172]
abbrev dktX2_isHouse_0 : List UInt8 := dkwX2_isHouse_0 ++ []
theorem dksX2_isHouse_0 : cX2_isHouse.data.toList.drop 0 = dktX2_isHouse_0 := by decide +kernel
theorem dX2_isHouse_0 : decode cX2_isHouse 0 = .ok (.iload_n 1, 1) := dk_27 (dk_at dksX2_isHouse_0 0 rfl rfl)
theorem dX2_isHouse_1 : decode cX2_isHouse 1 = .ok (.iconst 0, 1) := dk_3 (dk_at dksX2_isHouse_0 1 rfl rfl)
theorem dX2_isHouse_2 : decode cX2_isHouse 2 = .ok (.aload_n 0, 1) := dk_42 (dk_at dksX2_isHouse_0 2 rfl rfl)
theorem dX2_isHouse_3 : decode cX2_isHouse 3 = .ok (.getfield 45, 3) := dk_180 0 45 (dk_at dksX2_isHouse_0 3 rfl rfl)
theorem dX2_isHouse_6 : decode cX2_isHouse 6 = .ok (.iconst 1, 1) := dk_4 (dk_at dksX2_isHouse_0 6 rfl rfl)
theorem dX2_isHouse_7 : decode cX2_isHouse 7 = .ok (.isub, 1) := dk_100 (dk_at dksX2_isHouse_0 7 rfl rfl)
theorem dX2_isHouse_8 : decode cX2_isHouse 8 = .ok (.invokestatic 80, 3) := dk_184 0 80 (dk_at dksX2_isHouse_0 8 rfl rfl)
theorem dX2_isHouse_11 : decode cX2_isHouse 11 = .ok (.ireturn, 1) := dk_172 (dk_at dksX2_isHouse_0 11 rfl rfl)
abbrev cX2_sheet : ByteArray := prog_6_method_18_code
def yX2_sheet : MethodName := ⟨RX2, "sheet", "(II)I"⟩
def dkwX2_sheet_2 : List UInt8 := [4, 100, 172]
abbrev dktX2_sheet_2 : List UInt8 := dkwX2_sheet_2 ++ []
def dkwX2_sheet_1 : List UInt8 := [42, 180, 0, 53, 50, 27, 28, 182, 0, 158, 42, 89, 180, 0, 53, 4, 96, 181, 0, 53, 42, 180, 0, 53]
abbrev dktX2_sheet_1 : List UInt8 := dkwX2_sheet_1 ++ dktX2_sheet_2
def dkwX2_sheet_0 : List UInt8 := [42, 180, 0, 53, 16, 8, 160, 0, 7, 4, 167, 0, 4, 3, 4, 16, 8, 184, 0, 148, 42, 180, 0, 26]
abbrev dktX2_sheet_0 : List UInt8 := dkwX2_sheet_0 ++ dktX2_sheet_1
theorem dksX2_sheet_0 : cX2_sheet.data.toList.drop 0 = dktX2_sheet_0 := by decide +kernel
theorem dksX2_sheet_1 : cX2_sheet.data.toList.drop 24 = dktX2_sheet_1 := dk_seg dksX2_sheet_0 24 rfl rfl
theorem dksX2_sheet_2 : cX2_sheet.data.toList.drop 48 = dktX2_sheet_2 := dk_seg dksX2_sheet_1 24 rfl rfl
theorem dX2_sheet_0 : decode cX2_sheet 0 = .ok (.aload_n 0, 1) := dk_42 (dk_at dksX2_sheet_0 0 rfl rfl)
theorem dX2_sheet_1 : decode cX2_sheet 1 = .ok (.getfield 53, 3) := dk_180 0 53 (dk_at dksX2_sheet_0 1 rfl rfl)
theorem dX2_sheet_4 : decode cX2_sheet 4 = .ok (.bipush 8, 2) := dk_16 8 (dk_at dksX2_sheet_0 4 rfl rfl)
theorem dX2_sheet_6 : decode cX2_sheet 6 = .ok (.if_icmp .ne 7, 3) := dk_160 0 7 (dk_at dksX2_sheet_0 6 rfl rfl)
theorem dX2_sheet_9 : decode cX2_sheet 9 = .ok (.iconst 1, 1) := dk_4 (dk_at dksX2_sheet_0 9 rfl rfl)
theorem dX2_sheet_10 : decode cX2_sheet 10 = .ok (.goto 4, 3) := dk_167 0 4 (dk_at dksX2_sheet_0 10 rfl rfl)
theorem dX2_sheet_13 : decode cX2_sheet 13 = .ok (.iconst 0, 1) := dk_3 (dk_at dksX2_sheet_0 13 rfl rfl)
theorem dX2_sheet_14 : decode cX2_sheet 14 = .ok (.iconst 1, 1) := dk_4 (dk_at dksX2_sheet_0 14 rfl rfl)
theorem dX2_sheet_15 : decode cX2_sheet 15 = .ok (.bipush 8, 2) := dk_16 8 (dk_at dksX2_sheet_0 15 rfl rfl)
theorem dX2_sheet_17 : decode cX2_sheet 17 = .ok (.invokestatic 148, 3) := dk_184 0 148 (dk_at dksX2_sheet_0 17 rfl rfl)
theorem dX2_sheet_20 : decode cX2_sheet 20 = .ok (.aload_n 0, 1) := dk_42 (dk_at dksX2_sheet_0 20 rfl rfl)
theorem dX2_sheet_21 : decode cX2_sheet 21 = .ok (.getfield 26, 3) := dk_180 0 26 (dk_at dksX2_sheet_0 21 rfl rfl)
theorem dX2_sheet_24 : decode cX2_sheet 24 = .ok (.aload_n 0, 1) := dk_42 (dk_at dksX2_sheet_1 0 rfl rfl)
theorem dX2_sheet_25 : decode cX2_sheet 25 = .ok (.getfield 53, 3) := dk_180 0 53 (dk_at dksX2_sheet_1 1 rfl rfl)
theorem dX2_sheet_28 : decode cX2_sheet 28 = .ok (.aaload, 1) := dk_50 (dk_at dksX2_sheet_1 4 rfl rfl)
theorem dX2_sheet_29 : decode cX2_sheet 29 = .ok (.iload_n 1, 1) := dk_27 (dk_at dksX2_sheet_1 5 rfl rfl)
theorem dX2_sheet_30 : decode cX2_sheet 30 = .ok (.iload_n 2, 1) := dk_28 (dk_at dksX2_sheet_1 6 rfl rfl)
theorem dX2_sheet_31 : decode cX2_sheet 31 = .ok (.invokevirtual 158, 3) := dk_182 0 158 (dk_at dksX2_sheet_1 7 rfl rfl)
theorem dX2_sheet_34 : decode cX2_sheet 34 = .ok (.aload_n 0, 1) := dk_42 (dk_at dksX2_sheet_1 10 rfl rfl)
theorem dX2_sheet_35 : decode cX2_sheet 35 = .ok (.dup, 1) := dk_89 (dk_at dksX2_sheet_1 11 rfl rfl)
theorem dX2_sheet_36 : decode cX2_sheet 36 = .ok (.getfield 53, 3) := dk_180 0 53 (dk_at dksX2_sheet_1 12 rfl rfl)
theorem dX2_sheet_39 : decode cX2_sheet 39 = .ok (.iconst 1, 1) := dk_4 (dk_at dksX2_sheet_1 15 rfl rfl)
theorem dX2_sheet_40 : decode cX2_sheet 40 = .ok (.iadd, 1) := dk_96 (dk_at dksX2_sheet_1 16 rfl rfl)
theorem dX2_sheet_41 : decode cX2_sheet 41 = .ok (.putfield 53, 3) := dk_181 0 53 (dk_at dksX2_sheet_1 17 rfl rfl)
theorem dX2_sheet_44 : decode cX2_sheet 44 = .ok (.aload_n 0, 1) := dk_42 (dk_at dksX2_sheet_1 20 rfl rfl)
theorem dX2_sheet_45 : decode cX2_sheet 45 = .ok (.getfield 53, 3) := dk_180 0 53 (dk_at dksX2_sheet_1 21 rfl rfl)
theorem dX2_sheet_48 : decode cX2_sheet 48 = .ok (.iconst 1, 1) := dk_4 (dk_at dksX2_sheet_2 0 rfl rfl)
theorem dX2_sheet_49 : decode cX2_sheet 49 = .ok (.isub, 1) := dk_100 (dk_at dksX2_sheet_2 1 rfl rfl)
theorem dX2_sheet_50 : decode cX2_sheet 50 = .ok (.ireturn, 1) := dk_172 (dk_at dksX2_sheet_2 2 rfl rfl)
abbrev cX2_isSheet : ByteArray := prog_6_method_4_code
def yX2_isSheet : MethodName := ⟨RX2, "isSheet", "(I)Z"⟩
def dkwX2_isSheet_0 : List UInt8 := [27, 3, 42, 180, 0, 53, 4, 100, 184, 0, 80, 172]
abbrev dktX2_isSheet_0 : List UInt8 := dkwX2_isSheet_0 ++ []
theorem dksX2_isSheet_0 : cX2_isSheet.data.toList.drop 0 = dktX2_isSheet_0 := by decide +kernel
theorem dX2_isSheet_0 : decode cX2_isSheet 0 = .ok (.iload_n 1, 1) := dk_27 (dk_at dksX2_isSheet_0 0 rfl rfl)
theorem dX2_isSheet_1 : decode cX2_isSheet 1 = .ok (.iconst 0, 1) := dk_3 (dk_at dksX2_isSheet_0 1 rfl rfl)
theorem dX2_isSheet_2 : decode cX2_isSheet 2 = .ok (.aload_n 0, 1) := dk_42 (dk_at dksX2_isSheet_0 2 rfl rfl)
theorem dX2_isSheet_3 : decode cX2_isSheet 3 = .ok (.getfield 53, 3) := dk_180 0 53 (dk_at dksX2_isSheet_0 3 rfl rfl)
theorem dX2_isSheet_6 : decode cX2_isSheet 6 = .ok (.iconst 1, 1) := dk_4 (dk_at dksX2_isSheet_0 6 rfl rfl)
theorem dX2_isSheet_7 : decode cX2_isSheet 7 = .ok (.isub, 1) := dk_100 (dk_at dksX2_isSheet_0 7 rfl rfl)
theorem dX2_isSheet_8 : decode cX2_isSheet 8 = .ok (.invokestatic 80, 3) := dk_184 0 80 (dk_at dksX2_isSheet_0 8 rfl rfl)
theorem dX2_isSheet_11 : decode cX2_isSheet 11 = .ok (.ireturn, 1) := dk_172 (dk_at dksX2_isSheet_0 11 rfl rfl)
abbrev cX2_goes : ByteArray := prog_6_method_19_code
def yX2_goes : MethodName := ⟨RX2, "goes", "(I)I"⟩
def dkwX2_goes_1 : List UInt8 := [28, 50, 42, 180, 0, 26, 28, 4, 96, 50, 182, 0, 56, 132, 2, 1, 167, 255, 228, 42, 180, 0, 53, 172]
abbrev dktX2_goes_1 : List UInt8 := dkwX2_goes_1 ++ []
def dkwX2_goes_0 : List UInt8 := [42, 89, 180, 0, 53, 4, 100, 181, 0, 53, 27, 61, 28, 42, 180, 0, 53, 162, 0, 26, 42, 180, 0, 26]
abbrev dktX2_goes_0 : List UInt8 := dkwX2_goes_0 ++ dktX2_goes_1
theorem dksX2_goes_0 : cX2_goes.data.toList.drop 0 = dktX2_goes_0 := by decide +kernel
theorem dksX2_goes_1 : cX2_goes.data.toList.drop 24 = dktX2_goes_1 := dk_seg dksX2_goes_0 24 rfl rfl
theorem dX2_goes_0 : decode cX2_goes 0 = .ok (.aload_n 0, 1) := dk_42 (dk_at dksX2_goes_0 0 rfl rfl)
theorem dX2_goes_1 : decode cX2_goes 1 = .ok (.dup, 1) := dk_89 (dk_at dksX2_goes_0 1 rfl rfl)
theorem dX2_goes_2 : decode cX2_goes 2 = .ok (.getfield 53, 3) := dk_180 0 53 (dk_at dksX2_goes_0 2 rfl rfl)
theorem dX2_goes_5 : decode cX2_goes 5 = .ok (.iconst 1, 1) := dk_4 (dk_at dksX2_goes_0 5 rfl rfl)
theorem dX2_goes_6 : decode cX2_goes 6 = .ok (.isub, 1) := dk_100 (dk_at dksX2_goes_0 6 rfl rfl)
theorem dX2_goes_7 : decode cX2_goes 7 = .ok (.putfield 53, 3) := dk_181 0 53 (dk_at dksX2_goes_0 7 rfl rfl)
theorem dX2_goes_10 : decode cX2_goes 10 = .ok (.iload_n 1, 1) := dk_27 (dk_at dksX2_goes_0 10 rfl rfl)
theorem dX2_goes_11 : decode cX2_goes 11 = .ok (.istore_n 2, 1) := dk_61 (dk_at dksX2_goes_0 11 rfl rfl)
theorem dX2_goes_12 : decode cX2_goes 12 = .ok (.iload_n 2, 1) := dk_28 (dk_at dksX2_goes_0 12 rfl rfl)
theorem dX2_goes_13 : decode cX2_goes 13 = .ok (.aload_n 0, 1) := dk_42 (dk_at dksX2_goes_0 13 rfl rfl)
theorem dX2_goes_14 : decode cX2_goes 14 = .ok (.getfield 53, 3) := dk_180 0 53 (dk_at dksX2_goes_0 14 rfl rfl)
theorem dX2_goes_17 : decode cX2_goes 17 = .ok (.if_icmp .ge 26, 3) := dk_162 0 26 (dk_at dksX2_goes_0 17 rfl rfl)
theorem dX2_goes_20 : decode cX2_goes 20 = .ok (.aload_n 0, 1) := dk_42 (dk_at dksX2_goes_0 20 rfl rfl)
theorem dX2_goes_21 : decode cX2_goes 21 = .ok (.getfield 26, 3) := dk_180 0 26 (dk_at dksX2_goes_0 21 rfl rfl)
theorem dX2_goes_24 : decode cX2_goes 24 = .ok (.iload_n 2, 1) := dk_28 (dk_at dksX2_goes_1 0 rfl rfl)
theorem dX2_goes_25 : decode cX2_goes 25 = .ok (.aaload, 1) := dk_50 (dk_at dksX2_goes_1 1 rfl rfl)
theorem dX2_goes_26 : decode cX2_goes 26 = .ok (.aload_n 0, 1) := dk_42 (dk_at dksX2_goes_1 2 rfl rfl)
theorem dX2_goes_27 : decode cX2_goes 27 = .ok (.getfield 26, 3) := dk_180 0 26 (dk_at dksX2_goes_1 3 rfl rfl)
theorem dX2_goes_30 : decode cX2_goes 30 = .ok (.iload_n 2, 1) := dk_28 (dk_at dksX2_goes_1 6 rfl rfl)
theorem dX2_goes_31 : decode cX2_goes 31 = .ok (.iconst 1, 1) := dk_4 (dk_at dksX2_goes_1 7 rfl rfl)
theorem dX2_goes_32 : decode cX2_goes 32 = .ok (.iadd, 1) := dk_96 (dk_at dksX2_goes_1 8 rfl rfl)
theorem dX2_goes_33 : decode cX2_goes 33 = .ok (.aaload, 1) := dk_50 (dk_at dksX2_goes_1 9 rfl rfl)
theorem dX2_goes_34 : decode cX2_goes 34 = .ok (.invokevirtual 56, 3) := dk_182 0 56 (dk_at dksX2_goes_1 10 rfl rfl)
theorem dX2_goes_37 : decode cX2_goes 37 = .ok (.iinc 2 1, 3) := dk_132 2 1 (dk_at dksX2_goes_1 13 rfl rfl)
theorem dX2_goes_40 : decode cX2_goes 40 = .ok (.goto (-28), 3) := dk_167 255 228 (dk_at dksX2_goes_1 16 rfl rfl)
theorem dX2_goes_43 : decode cX2_goes 43 = .ok (.aload_n 0, 1) := dk_42 (dk_at dksX2_goes_1 19 rfl rfl)
theorem dX2_goes_44 : decode cX2_goes 44 = .ok (.getfield 53, 3) := dk_180 0 53 (dk_at dksX2_goes_1 20 rfl rfl)
theorem dX2_goes_47 : decode cX2_goes 47 = .ok (.ireturn, 1) := dk_172 (dk_at dksX2_goes_1 23 rfl rfl)
abbrev cX2_isPlace : ByteArray := prog_6_method_5_code
def yX2_isPlace : MethodName := ⟨RX2, "isPlace", "(II)Z"⟩
def dkwX2_isPlace_1 : List UInt8 := [153, 0, 7, 4, 167, 0, 4, 3, 172]
abbrev dktX2_isPlace_1 : List UInt8 := dkwX2_isPlace_1 ++ []
def dkwX2_isPlace_0 : List UInt8 := [42, 27, 182, 0, 84, 153, 0, 26, 28, 3, 42, 180, 0, 26, 27, 50, 180, 0, 88, 4, 100, 184, 0, 80]
abbrev dktX2_isPlace_0 : List UInt8 := dkwX2_isPlace_0 ++ dktX2_isPlace_1
theorem dksX2_isPlace_0 : cX2_isPlace.data.toList.drop 0 = dktX2_isPlace_0 := by decide +kernel
theorem dksX2_isPlace_1 : cX2_isPlace.data.toList.drop 24 = dktX2_isPlace_1 := dk_seg dksX2_isPlace_0 24 rfl rfl
theorem dX2_isPlace_0 : decode cX2_isPlace 0 = .ok (.aload_n 0, 1) := dk_42 (dk_at dksX2_isPlace_0 0 rfl rfl)
theorem dX2_isPlace_1 : decode cX2_isPlace 1 = .ok (.iload_n 1, 1) := dk_27 (dk_at dksX2_isPlace_0 1 rfl rfl)
theorem dX2_isPlace_2 : decode cX2_isPlace 2 = .ok (.invokevirtual 84, 3) := dk_182 0 84 (dk_at dksX2_isPlace_0 2 rfl rfl)
theorem dX2_isPlace_5 : decode cX2_isPlace 5 = .ok (.ifCond .eq 26, 3) := dk_153 0 26 (dk_at dksX2_isPlace_0 5 rfl rfl)
theorem dX2_isPlace_8 : decode cX2_isPlace 8 = .ok (.iload_n 2, 1) := dk_28 (dk_at dksX2_isPlace_0 8 rfl rfl)
theorem dX2_isPlace_9 : decode cX2_isPlace 9 = .ok (.iconst 0, 1) := dk_3 (dk_at dksX2_isPlace_0 9 rfl rfl)
theorem dX2_isPlace_10 : decode cX2_isPlace 10 = .ok (.aload_n 0, 1) := dk_42 (dk_at dksX2_isPlace_0 10 rfl rfl)
theorem dX2_isPlace_11 : decode cX2_isPlace 11 = .ok (.getfield 26, 3) := dk_180 0 26 (dk_at dksX2_isPlace_0 11 rfl rfl)
theorem dX2_isPlace_14 : decode cX2_isPlace 14 = .ok (.iload_n 1, 1) := dk_27 (dk_at dksX2_isPlace_0 14 rfl rfl)
theorem dX2_isPlace_15 : decode cX2_isPlace 15 = .ok (.aaload, 1) := dk_50 (dk_at dksX2_isPlace_0 15 rfl rfl)
theorem dX2_isPlace_16 : decode cX2_isPlace 16 = .ok (.getfield 88, 3) := dk_180 0 88 (dk_at dksX2_isPlace_0 16 rfl rfl)
theorem dX2_isPlace_19 : decode cX2_isPlace 19 = .ok (.iconst 1, 1) := dk_4 (dk_at dksX2_isPlace_0 19 rfl rfl)
theorem dX2_isPlace_20 : decode cX2_isPlace 20 = .ok (.isub, 1) := dk_100 (dk_at dksX2_isPlace_0 20 rfl rfl)
theorem dX2_isPlace_21 : decode cX2_isPlace 21 = .ok (.invokestatic 80, 3) := dk_184 0 80 (dk_at dksX2_isPlace_0 21 rfl rfl)
theorem dX2_isPlace_24 : decode cX2_isPlace 24 = .ok (.ifCond .eq 7, 3) := dk_153 0 7 (dk_at dksX2_isPlace_1 0 rfl rfl)
theorem dX2_isPlace_27 : decode cX2_isPlace 27 = .ok (.iconst 1, 1) := dk_4 (dk_at dksX2_isPlace_1 3 rfl rfl)
theorem dX2_isPlace_28 : decode cX2_isPlace 28 = .ok (.goto 4, 3) := dk_167 0 4 (dk_at dksX2_isPlace_1 4 rfl rfl)
theorem dX2_isPlace_31 : decode cX2_isPlace 31 = .ok (.iconst 0, 1) := dk_3 (dk_at dksX2_isPlace_1 7 rfl rfl)
theorem dX2_isPlace_32 : decode cX2_isPlace 32 = .ok (.ireturn, 1) := dk_172 (dk_at dksX2_isPlace_1 8 rfl rfl)
abbrev cX2_set : ByteArray := prog_6_method_20_code
def yX2_set : MethodName := ⟨RX2, "set", "(III)I"⟩
def dkwX2_set_3 : List UInt8 := [182, 0, 94, 172]
abbrev dktX2_set_3 : List UInt8 := dkwX2_set_3 ++ []
def dkwX2_set_2 : List UInt8 := [184, 0, 148, 25, 4, 180, 0, 132, 28, 29, 79, 25, 4, 180, 0, 101, 28, 4, 79, 25, 4, 4]
abbrev dktX2_set_2 : List UInt8 := dkwX2_set_2 ++ dktX2_set_3
def dkwX2_set_1 : List UInt8 := [5, 28, 184, 0, 148, 25, 4, 180, 0, 162, 28, 46, 29, 160, 0, 7, 4, 167, 0, 4, 3, 6, 28]
abbrev dktX2_set_1 : List UInt8 := dkwX2_set_1 ++ dktX2_set_2
def dkwX2_set_0 : List UInt8 := [42, 180, 0, 26, 27, 50, 58, 4, 25, 4, 180, 0, 132, 28, 46, 29, 160, 0, 7, 4, 167, 0, 4, 3]
abbrev dktX2_set_0 : List UInt8 := dkwX2_set_0 ++ dktX2_set_1
theorem dksX2_set_0 : cX2_set.data.toList.drop 0 = dktX2_set_0 := by decide +kernel
theorem dksX2_set_1 : cX2_set.data.toList.drop 24 = dktX2_set_1 := dk_seg dksX2_set_0 24 rfl rfl
theorem dksX2_set_2 : cX2_set.data.toList.drop 47 = dktX2_set_2 := dk_seg dksX2_set_1 23 rfl rfl
theorem dksX2_set_3 : cX2_set.data.toList.drop 69 = dktX2_set_3 := dk_seg dksX2_set_2 22 rfl rfl
theorem dX2_set_0 : decode cX2_set 0 = .ok (.aload_n 0, 1) := dk_42 (dk_at dksX2_set_0 0 rfl rfl)
theorem dX2_set_1 : decode cX2_set 1 = .ok (.getfield 26, 3) := dk_180 0 26 (dk_at dksX2_set_0 1 rfl rfl)
theorem dX2_set_4 : decode cX2_set 4 = .ok (.iload_n 1, 1) := dk_27 (dk_at dksX2_set_0 4 rfl rfl)
theorem dX2_set_5 : decode cX2_set 5 = .ok (.aaload, 1) := dk_50 (dk_at dksX2_set_0 5 rfl rfl)
theorem dX2_set_6 : decode cX2_set 6 = .ok (.astore 4, 2) := dk_58 4 (dk_at dksX2_set_0 6 rfl rfl)
theorem dX2_set_8 : decode cX2_set 8 = .ok (.aload 4, 2) := dk_25 4 (dk_at dksX2_set_0 8 rfl rfl)
theorem dX2_set_10 : decode cX2_set 10 = .ok (.getfield 132, 3) := dk_180 0 132 (dk_at dksX2_set_0 10 rfl rfl)
theorem dX2_set_13 : decode cX2_set 13 = .ok (.iload_n 2, 1) := dk_28 (dk_at dksX2_set_0 13 rfl rfl)
theorem dX2_set_14 : decode cX2_set 14 = .ok (.iaload, 1) := dk_46 (dk_at dksX2_set_0 14 rfl rfl)
theorem dX2_set_15 : decode cX2_set 15 = .ok (.iload_n 3, 1) := dk_29 (dk_at dksX2_set_0 15 rfl rfl)
theorem dX2_set_16 : decode cX2_set 16 = .ok (.if_icmp .ne 7, 3) := dk_160 0 7 (dk_at dksX2_set_0 16 rfl rfl)
theorem dX2_set_19 : decode cX2_set 19 = .ok (.iconst 1, 1) := dk_4 (dk_at dksX2_set_0 19 rfl rfl)
theorem dX2_set_20 : decode cX2_set 20 = .ok (.goto 4, 3) := dk_167 0 4 (dk_at dksX2_set_0 20 rfl rfl)
theorem dX2_set_23 : decode cX2_set 23 = .ok (.iconst 0, 1) := dk_3 (dk_at dksX2_set_0 23 rfl rfl)
theorem dX2_set_24 : decode cX2_set 24 = .ok (.iconst 2, 1) := dk_5 (dk_at dksX2_set_1 0 rfl rfl)
theorem dX2_set_25 : decode cX2_set 25 = .ok (.iload_n 2, 1) := dk_28 (dk_at dksX2_set_1 1 rfl rfl)
theorem dX2_set_26 : decode cX2_set 26 = .ok (.invokestatic 148, 3) := dk_184 0 148 (dk_at dksX2_set_1 2 rfl rfl)
theorem dX2_set_29 : decode cX2_set 29 = .ok (.aload 4, 2) := dk_25 4 (dk_at dksX2_set_1 5 rfl rfl)
theorem dX2_set_31 : decode cX2_set 31 = .ok (.getfield 162, 3) := dk_180 0 162 (dk_at dksX2_set_1 7 rfl rfl)
theorem dX2_set_34 : decode cX2_set 34 = .ok (.iload_n 2, 1) := dk_28 (dk_at dksX2_set_1 10 rfl rfl)
theorem dX2_set_35 : decode cX2_set 35 = .ok (.iaload, 1) := dk_46 (dk_at dksX2_set_1 11 rfl rfl)
theorem dX2_set_36 : decode cX2_set 36 = .ok (.iload_n 3, 1) := dk_29 (dk_at dksX2_set_1 12 rfl rfl)
theorem dX2_set_37 : decode cX2_set 37 = .ok (.if_icmp .ne 7, 3) := dk_160 0 7 (dk_at dksX2_set_1 13 rfl rfl)
theorem dX2_set_40 : decode cX2_set 40 = .ok (.iconst 1, 1) := dk_4 (dk_at dksX2_set_1 16 rfl rfl)
theorem dX2_set_41 : decode cX2_set 41 = .ok (.goto 4, 3) := dk_167 0 4 (dk_at dksX2_set_1 17 rfl rfl)
theorem dX2_set_44 : decode cX2_set 44 = .ok (.iconst 0, 1) := dk_3 (dk_at dksX2_set_1 20 rfl rfl)
theorem dX2_set_45 : decode cX2_set 45 = .ok (.iconst 3, 1) := dk_6 (dk_at dksX2_set_1 21 rfl rfl)
theorem dX2_set_46 : decode cX2_set 46 = .ok (.iload_n 2, 1) := dk_28 (dk_at dksX2_set_1 22 rfl rfl)
theorem dX2_set_47 : decode cX2_set 47 = .ok (.invokestatic 148, 3) := dk_184 0 148 (dk_at dksX2_set_2 0 rfl rfl)
theorem dX2_set_50 : decode cX2_set 50 = .ok (.aload 4, 2) := dk_25 4 (dk_at dksX2_set_2 3 rfl rfl)
theorem dX2_set_52 : decode cX2_set 52 = .ok (.getfield 132, 3) := dk_180 0 132 (dk_at dksX2_set_2 5 rfl rfl)
theorem dX2_set_55 : decode cX2_set 55 = .ok (.iload_n 2, 1) := dk_28 (dk_at dksX2_set_2 8 rfl rfl)
theorem dX2_set_56 : decode cX2_set 56 = .ok (.iload_n 3, 1) := dk_29 (dk_at dksX2_set_2 9 rfl rfl)
theorem dX2_set_57 : decode cX2_set 57 = .ok (.iastore, 1) := dk_79 (dk_at dksX2_set_2 10 rfl rfl)
theorem dX2_set_58 : decode cX2_set 58 = .ok (.aload 4, 2) := dk_25 4 (dk_at dksX2_set_2 11 rfl rfl)
theorem dX2_set_60 : decode cX2_set 60 = .ok (.getfield 101, 3) := dk_180 0 101 (dk_at dksX2_set_2 13 rfl rfl)
theorem dX2_set_63 : decode cX2_set 63 = .ok (.iload_n 2, 1) := dk_28 (dk_at dksX2_set_2 16 rfl rfl)
theorem dX2_set_64 : decode cX2_set 64 = .ok (.iconst 1, 1) := dk_4 (dk_at dksX2_set_2 17 rfl rfl)
theorem dX2_set_65 : decode cX2_set 65 = .ok (.iastore, 1) := dk_79 (dk_at dksX2_set_2 18 rfl rfl)
theorem dX2_set_66 : decode cX2_set 66 = .ok (.aload 4, 2) := dk_25 4 (dk_at dksX2_set_2 19 rfl rfl)
theorem dX2_set_68 : decode cX2_set 68 = .ok (.iconst 1, 1) := dk_4 (dk_at dksX2_set_2 21 rfl rfl)
theorem dX2_set_69 : decode cX2_set 69 = .ok (.invokevirtual 94, 3) := dk_182 0 94 (dk_at dksX2_set_3 0 rfl rfl)
theorem dX2_set_72 : decode cX2_set 72 = .ok (.ireturn, 1) := dk_172 (dk_at dksX2_set_3 3 rfl rfl)
abbrev cX2_license : ByteArray := prog_6_method_21_code
def yX2_license : MethodName := ⟨RX2, "license", "(II)I"⟩
def dkwX2_license_5 : List UInt8 := [180, 0, 74, 21, 5, 96, 181, 0, 74, 45, 180, 0, 101, 28, 5, 79, 21, 5, 172]
abbrev dktX2_license_5 : List UInt8 := dkwX2_license_5 ++ []
def dkwX2_license_4 : List UInt8 := [25, 4, 180, 0, 124, 184, 0, 148, 25, 4, 89, 180, 0, 124, 21, 5, 100, 181, 0, 124, 42, 89]
abbrev dktX2_license_4 : List UInt8 := dkwX2_license_4 ++ dktX2_license_5
def dkwX2_license_3 : List UInt8 := [180, 0, 152, 184, 0, 148, 25, 4, 180, 0, 124, 21, 5, 162, 0, 7, 4, 167, 0, 4, 3, 16, 7]
abbrev dktX2_license_3 : List UInt8 := dkwX2_license_3 ++ dktX2_license_4
def dkwX2_license_2 : List UInt8 := [46, 5, 161, 0, 7, 4, 167, 0, 4, 3, 8, 28, 184, 0, 148, 25, 4, 182, 0, 168, 16, 6, 25, 4]
abbrev dktX2_license_2 : List UInt8 := dkwX2_license_2 ++ dktX2_license_3
def dkwX2_license_1 : List UInt8 := [45, 180, 0, 101, 28, 46, 154, 0, 7, 4, 167, 0, 4, 3, 7, 28, 184, 0, 148, 45, 180, 0, 101, 28]
abbrev dktX2_license_1 : List UInt8 := dkwX2_license_1 ++ dktX2_license_2
def dkwX2_license_0 : List UInt8 := [42, 180, 0, 26, 27, 50, 78, 42, 27, 182, 0, 117, 58, 4, 42, 45, 180, 0, 91, 182, 0, 165, 54, 5]
abbrev dktX2_license_0 : List UInt8 := dkwX2_license_0 ++ dktX2_license_1
theorem dksX2_license_0 : cX2_license.data.toList.drop 0 = dktX2_license_0 := by decide +kernel
theorem dksX2_license_1 : cX2_license.data.toList.drop 24 = dktX2_license_1 := dk_seg dksX2_license_0 24 rfl rfl
theorem dksX2_license_2 : cX2_license.data.toList.drop 48 = dktX2_license_2 := dk_seg dksX2_license_1 24 rfl rfl
theorem dksX2_license_3 : cX2_license.data.toList.drop 72 = dktX2_license_3 := dk_seg dksX2_license_2 24 rfl rfl
theorem dksX2_license_4 : cX2_license.data.toList.drop 95 = dktX2_license_4 := dk_seg dksX2_license_3 23 rfl rfl
theorem dksX2_license_5 : cX2_license.data.toList.drop 117 = dktX2_license_5 := dk_seg dksX2_license_4 22 rfl rfl
theorem dX2_license_0 : decode cX2_license 0 = .ok (.aload_n 0, 1) := dk_42 (dk_at dksX2_license_0 0 rfl rfl)
theorem dX2_license_1 : decode cX2_license 1 = .ok (.getfield 26, 3) := dk_180 0 26 (dk_at dksX2_license_0 1 rfl rfl)
theorem dX2_license_4 : decode cX2_license 4 = .ok (.iload_n 1, 1) := dk_27 (dk_at dksX2_license_0 4 rfl rfl)
theorem dX2_license_5 : decode cX2_license 5 = .ok (.aaload, 1) := dk_50 (dk_at dksX2_license_0 5 rfl rfl)
theorem dX2_license_6 : decode cX2_license 6 = .ok (.astore_n 3, 1) := dk_78 (dk_at dksX2_license_0 6 rfl rfl)
theorem dX2_license_7 : decode cX2_license 7 = .ok (.aload_n 0, 1) := dk_42 (dk_at dksX2_license_0 7 rfl rfl)
theorem dX2_license_8 : decode cX2_license 8 = .ok (.iload_n 1, 1) := dk_27 (dk_at dksX2_license_0 8 rfl rfl)
theorem dX2_license_9 : decode cX2_license 9 = .ok (.invokevirtual 117, 3) := dk_182 0 117 (dk_at dksX2_license_0 9 rfl rfl)
theorem dX2_license_12 : decode cX2_license 12 = .ok (.astore 4, 2) := dk_58 4 (dk_at dksX2_license_0 12 rfl rfl)
theorem dX2_license_14 : decode cX2_license 14 = .ok (.aload_n 0, 1) := dk_42 (dk_at dksX2_license_0 14 rfl rfl)
theorem dX2_license_15 : decode cX2_license 15 = .ok (.aload_n 3, 1) := dk_45 (dk_at dksX2_license_0 15 rfl rfl)
theorem dX2_license_16 : decode cX2_license 16 = .ok (.getfield 91, 3) := dk_180 0 91 (dk_at dksX2_license_0 16 rfl rfl)
theorem dX2_license_19 : decode cX2_license 19 = .ok (.invokevirtual 165, 3) := dk_182 0 165 (dk_at dksX2_license_0 19 rfl rfl)
theorem dX2_license_22 : decode cX2_license 22 = .ok (.istore 5, 2) := dk_54 5 (dk_at dksX2_license_0 22 rfl rfl)
theorem dX2_license_24 : decode cX2_license 24 = .ok (.aload_n 3, 1) := dk_45 (dk_at dksX2_license_1 0 rfl rfl)
theorem dX2_license_25 : decode cX2_license 25 = .ok (.getfield 101, 3) := dk_180 0 101 (dk_at dksX2_license_1 1 rfl rfl)
theorem dX2_license_28 : decode cX2_license 28 = .ok (.iload_n 2, 1) := dk_28 (dk_at dksX2_license_1 4 rfl rfl)
theorem dX2_license_29 : decode cX2_license 29 = .ok (.iaload, 1) := dk_46 (dk_at dksX2_license_1 5 rfl rfl)
theorem dX2_license_30 : decode cX2_license 30 = .ok (.ifCond .ne 7, 3) := dk_154 0 7 (dk_at dksX2_license_1 6 rfl rfl)
theorem dX2_license_33 : decode cX2_license 33 = .ok (.iconst 1, 1) := dk_4 (dk_at dksX2_license_1 9 rfl rfl)
theorem dX2_license_34 : decode cX2_license 34 = .ok (.goto 4, 3) := dk_167 0 4 (dk_at dksX2_license_1 10 rfl rfl)
theorem dX2_license_37 : decode cX2_license 37 = .ok (.iconst 0, 1) := dk_3 (dk_at dksX2_license_1 13 rfl rfl)
theorem dX2_license_38 : decode cX2_license 38 = .ok (.iconst 4, 1) := dk_7 (dk_at dksX2_license_1 14 rfl rfl)
theorem dX2_license_39 : decode cX2_license 39 = .ok (.iload_n 2, 1) := dk_28 (dk_at dksX2_license_1 15 rfl rfl)
theorem dX2_license_40 : decode cX2_license 40 = .ok (.invokestatic 148, 3) := dk_184 0 148 (dk_at dksX2_license_1 16 rfl rfl)
theorem dX2_license_43 : decode cX2_license 43 = .ok (.aload_n 3, 1) := dk_45 (dk_at dksX2_license_1 19 rfl rfl)
theorem dX2_license_44 : decode cX2_license 44 = .ok (.getfield 101, 3) := dk_180 0 101 (dk_at dksX2_license_1 20 rfl rfl)
theorem dX2_license_47 : decode cX2_license 47 = .ok (.iload_n 2, 1) := dk_28 (dk_at dksX2_license_1 23 rfl rfl)
theorem dX2_license_48 : decode cX2_license 48 = .ok (.iaload, 1) := dk_46 (dk_at dksX2_license_2 0 rfl rfl)
theorem dX2_license_49 : decode cX2_license 49 = .ok (.iconst 2, 1) := dk_5 (dk_at dksX2_license_2 1 rfl rfl)
theorem dX2_license_50 : decode cX2_license 50 = .ok (.if_icmp .lt 7, 3) := dk_161 0 7 (dk_at dksX2_license_2 2 rfl rfl)
theorem dX2_license_53 : decode cX2_license 53 = .ok (.iconst 1, 1) := dk_4 (dk_at dksX2_license_2 5 rfl rfl)
theorem dX2_license_54 : decode cX2_license 54 = .ok (.goto 4, 3) := dk_167 0 4 (dk_at dksX2_license_2 6 rfl rfl)
theorem dX2_license_57 : decode cX2_license 57 = .ok (.iconst 0, 1) := dk_3 (dk_at dksX2_license_2 9 rfl rfl)
theorem dX2_license_58 : decode cX2_license 58 = .ok (.iconst 5, 1) := dk_8 (dk_at dksX2_license_2 10 rfl rfl)
theorem dX2_license_59 : decode cX2_license 59 = .ok (.iload_n 2, 1) := dk_28 (dk_at dksX2_license_2 11 rfl rfl)
theorem dX2_license_60 : decode cX2_license 60 = .ok (.invokestatic 148, 3) := dk_184 0 148 (dk_at dksX2_license_2 12 rfl rfl)
theorem dX2_license_63 : decode cX2_license 63 = .ok (.aload 4, 2) := dk_25 4 (dk_at dksX2_license_2 15 rfl rfl)
theorem dX2_license_65 : decode cX2_license 65 = .ok (.invokevirtual 168, 3) := dk_182 0 168 (dk_at dksX2_license_2 17 rfl rfl)
theorem dX2_license_68 : decode cX2_license 68 = .ok (.bipush 6, 2) := dk_16 6 (dk_at dksX2_license_2 20 rfl rfl)
theorem dX2_license_70 : decode cX2_license 70 = .ok (.aload 4, 2) := dk_25 4 (dk_at dksX2_license_2 22 rfl rfl)
theorem dX2_license_72 : decode cX2_license 72 = .ok (.getfield 152, 3) := dk_180 0 152 (dk_at dksX2_license_3 0 rfl rfl)
theorem dX2_license_75 : decode cX2_license 75 = .ok (.invokestatic 148, 3) := dk_184 0 148 (dk_at dksX2_license_3 3 rfl rfl)
theorem dX2_license_78 : decode cX2_license 78 = .ok (.aload 4, 2) := dk_25 4 (dk_at dksX2_license_3 6 rfl rfl)
theorem dX2_license_80 : decode cX2_license 80 = .ok (.getfield 124, 3) := dk_180 0 124 (dk_at dksX2_license_3 8 rfl rfl)
theorem dX2_license_83 : decode cX2_license 83 = .ok (.iload 5, 2) := dk_21 5 (dk_at dksX2_license_3 11 rfl rfl)
theorem dX2_license_85 : decode cX2_license 85 = .ok (.if_icmp .ge 7, 3) := dk_162 0 7 (dk_at dksX2_license_3 13 rfl rfl)
theorem dX2_license_88 : decode cX2_license 88 = .ok (.iconst 1, 1) := dk_4 (dk_at dksX2_license_3 16 rfl rfl)
theorem dX2_license_89 : decode cX2_license 89 = .ok (.goto 4, 3) := dk_167 0 4 (dk_at dksX2_license_3 17 rfl rfl)
theorem dX2_license_92 : decode cX2_license 92 = .ok (.iconst 0, 1) := dk_3 (dk_at dksX2_license_3 20 rfl rfl)
theorem dX2_license_93 : decode cX2_license 93 = .ok (.bipush 7, 2) := dk_16 7 (dk_at dksX2_license_3 21 rfl rfl)
theorem dX2_license_95 : decode cX2_license 95 = .ok (.aload 4, 2) := dk_25 4 (dk_at dksX2_license_4 0 rfl rfl)
theorem dX2_license_97 : decode cX2_license 97 = .ok (.getfield 124, 3) := dk_180 0 124 (dk_at dksX2_license_4 2 rfl rfl)
theorem dX2_license_100 : decode cX2_license 100 = .ok (.invokestatic 148, 3) := dk_184 0 148 (dk_at dksX2_license_4 5 rfl rfl)
theorem dX2_license_103 : decode cX2_license 103 = .ok (.aload 4, 2) := dk_25 4 (dk_at dksX2_license_4 8 rfl rfl)
theorem dX2_license_105 : decode cX2_license 105 = .ok (.dup, 1) := dk_89 (dk_at dksX2_license_4 10 rfl rfl)
theorem dX2_license_106 : decode cX2_license 106 = .ok (.getfield 124, 3) := dk_180 0 124 (dk_at dksX2_license_4 11 rfl rfl)
theorem dX2_license_109 : decode cX2_license 109 = .ok (.iload 5, 2) := dk_21 5 (dk_at dksX2_license_4 14 rfl rfl)
theorem dX2_license_111 : decode cX2_license 111 = .ok (.isub, 1) := dk_100 (dk_at dksX2_license_4 16 rfl rfl)
theorem dX2_license_112 : decode cX2_license 112 = .ok (.putfield 124, 3) := dk_181 0 124 (dk_at dksX2_license_4 17 rfl rfl)
theorem dX2_license_115 : decode cX2_license 115 = .ok (.aload_n 0, 1) := dk_42 (dk_at dksX2_license_4 20 rfl rfl)
theorem dX2_license_116 : decode cX2_license 116 = .ok (.dup, 1) := dk_89 (dk_at dksX2_license_4 21 rfl rfl)
theorem dX2_license_117 : decode cX2_license 117 = .ok (.getfield 74, 3) := dk_180 0 74 (dk_at dksX2_license_5 0 rfl rfl)
theorem dX2_license_120 : decode cX2_license 120 = .ok (.iload 5, 2) := dk_21 5 (dk_at dksX2_license_5 3 rfl rfl)
theorem dX2_license_122 : decode cX2_license 122 = .ok (.iadd, 1) := dk_96 (dk_at dksX2_license_5 5 rfl rfl)
theorem dX2_license_123 : decode cX2_license 123 = .ok (.putfield 74, 3) := dk_181 0 74 (dk_at dksX2_license_5 6 rfl rfl)
theorem dX2_license_126 : decode cX2_license 126 = .ok (.aload_n 3, 1) := dk_45 (dk_at dksX2_license_5 9 rfl rfl)
theorem dX2_license_127 : decode cX2_license 127 = .ok (.getfield 101, 3) := dk_180 0 101 (dk_at dksX2_license_5 10 rfl rfl)
theorem dX2_license_130 : decode cX2_license 130 = .ok (.iload_n 2, 1) := dk_28 (dk_at dksX2_license_5 13 rfl rfl)
theorem dX2_license_131 : decode cX2_license 131 = .ok (.iconst 2, 1) := dk_5 (dk_at dksX2_license_5 14 rfl rfl)
theorem dX2_license_132 : decode cX2_license 132 = .ok (.iastore, 1) := dk_79 (dk_at dksX2_license_5 15 rfl rfl)
theorem dX2_license_133 : decode cX2_license 133 = .ok (.iload 5, 2) := dk_21 5 (dk_at dksX2_license_5 16 rfl rfl)
theorem dX2_license_135 : decode cX2_license 135 = .ok (.ireturn, 1) := dk_172 (dk_at dksX2_license_5 18 rfl rfl)
abbrev cX2_price : ByteArray := prog_6_method_8_code
def yX2_price : MethodName := ⟨RX2, "price", "(I)I"⟩
def dkwX2_price_0 : List UInt8 := [5, 42, 27, 182, 0, 98, 96, 172]
abbrev dktX2_price_0 : List UInt8 := dkwX2_price_0 ++ []
theorem dksX2_price_0 : cX2_price.data.toList.drop 0 = dktX2_price_0 := by decide +kernel
theorem dX2_price_0 : decode cX2_price 0 = .ok (.iconst 2, 1) := dk_5 (dk_at dksX2_price_0 0 rfl rfl)
theorem dX2_price_1 : decode cX2_price 1 = .ok (.aload_n 0, 1) := dk_42 (dk_at dksX2_price_0 1 rfl rfl)
theorem dX2_price_2 : decode cX2_price 2 = .ok (.iload_n 1, 1) := dk_27 (dk_at dksX2_price_0 2 rfl rfl)
theorem dX2_price_3 : decode cX2_price 3 = .ok (.invokevirtual 98, 3) := dk_182 0 98 (dk_at dksX2_price_0 3 rfl rfl)
theorem dX2_price_6 : decode cX2_price 6 = .ok (.iadd, 1) := dk_96 (dk_at dksX2_price_0 6 rfl rfl)
theorem dX2_price_7 : decode cX2_price 7 = .ok (.ireturn, 1) := dk_172 (dk_at dksX2_price_0 7 rfl rfl)
abbrev cX2_licensed : ByteArray := prog_6_method_7_code
def yX2_licensed : MethodName := ⟨RX2, "licensed", "(I)I"⟩
def dkwX2_licensed_2 : List UInt8 := [167, 255, 215, 28, 172]
abbrev dktX2_licensed_2 : List UInt8 := dkwX2_licensed_2 ++ []
def dkwX2_licensed_1 : List UInt8 := [160, 0, 16, 42, 180, 0, 26, 29, 50, 5, 182, 0, 94, 167, 0, 4, 3, 96, 61, 132, 3, 1]
abbrev dktX2_licensed_1 : List UInt8 := dkwX2_licensed_1 ++ dktX2_licensed_2
def dkwX2_licensed_0 : List UInt8 := [3, 61, 3, 62, 29, 42, 180, 0, 53, 162, 0, 39, 28, 42, 180, 0, 26, 29, 50, 180, 0, 91, 27]
abbrev dktX2_licensed_0 : List UInt8 := dkwX2_licensed_0 ++ dktX2_licensed_1
theorem dksX2_licensed_0 : cX2_licensed.data.toList.drop 0 = dktX2_licensed_0 := by decide +kernel
theorem dksX2_licensed_1 : cX2_licensed.data.toList.drop 23 = dktX2_licensed_1 := dk_seg dksX2_licensed_0 23 rfl rfl
theorem dksX2_licensed_2 : cX2_licensed.data.toList.drop 45 = dktX2_licensed_2 := dk_seg dksX2_licensed_1 22 rfl rfl
theorem dX2_licensed_0 : decode cX2_licensed 0 = .ok (.iconst 0, 1) := dk_3 (dk_at dksX2_licensed_0 0 rfl rfl)
theorem dX2_licensed_1 : decode cX2_licensed 1 = .ok (.istore_n 2, 1) := dk_61 (dk_at dksX2_licensed_0 1 rfl rfl)
theorem dX2_licensed_2 : decode cX2_licensed 2 = .ok (.iconst 0, 1) := dk_3 (dk_at dksX2_licensed_0 2 rfl rfl)
theorem dX2_licensed_3 : decode cX2_licensed 3 = .ok (.istore_n 3, 1) := dk_62 (dk_at dksX2_licensed_0 3 rfl rfl)
theorem dX2_licensed_4 : decode cX2_licensed 4 = .ok (.iload_n 3, 1) := dk_29 (dk_at dksX2_licensed_0 4 rfl rfl)
theorem dX2_licensed_5 : decode cX2_licensed 5 = .ok (.aload_n 0, 1) := dk_42 (dk_at dksX2_licensed_0 5 rfl rfl)
theorem dX2_licensed_6 : decode cX2_licensed 6 = .ok (.getfield 53, 3) := dk_180 0 53 (dk_at dksX2_licensed_0 6 rfl rfl)
theorem dX2_licensed_9 : decode cX2_licensed 9 = .ok (.if_icmp .ge 39, 3) := dk_162 0 39 (dk_at dksX2_licensed_0 9 rfl rfl)
theorem dX2_licensed_12 : decode cX2_licensed 12 = .ok (.iload_n 2, 1) := dk_28 (dk_at dksX2_licensed_0 12 rfl rfl)
theorem dX2_licensed_13 : decode cX2_licensed 13 = .ok (.aload_n 0, 1) := dk_42 (dk_at dksX2_licensed_0 13 rfl rfl)
theorem dX2_licensed_14 : decode cX2_licensed 14 = .ok (.getfield 26, 3) := dk_180 0 26 (dk_at dksX2_licensed_0 14 rfl rfl)
theorem dX2_licensed_17 : decode cX2_licensed 17 = .ok (.iload_n 3, 1) := dk_29 (dk_at dksX2_licensed_0 17 rfl rfl)
theorem dX2_licensed_18 : decode cX2_licensed 18 = .ok (.aaload, 1) := dk_50 (dk_at dksX2_licensed_0 18 rfl rfl)
theorem dX2_licensed_19 : decode cX2_licensed 19 = .ok (.getfield 91, 3) := dk_180 0 91 (dk_at dksX2_licensed_0 19 rfl rfl)
theorem dX2_licensed_22 : decode cX2_licensed 22 = .ok (.iload_n 1, 1) := dk_27 (dk_at dksX2_licensed_0 22 rfl rfl)
theorem dX2_licensed_23 : decode cX2_licensed 23 = .ok (.if_icmp .ne 16, 3) := dk_160 0 16 (dk_at dksX2_licensed_1 0 rfl rfl)
theorem dX2_licensed_26 : decode cX2_licensed 26 = .ok (.aload_n 0, 1) := dk_42 (dk_at dksX2_licensed_1 3 rfl rfl)
theorem dX2_licensed_27 : decode cX2_licensed 27 = .ok (.getfield 26, 3) := dk_180 0 26 (dk_at dksX2_licensed_1 4 rfl rfl)
theorem dX2_licensed_30 : decode cX2_licensed 30 = .ok (.iload_n 3, 1) := dk_29 (dk_at dksX2_licensed_1 7 rfl rfl)
theorem dX2_licensed_31 : decode cX2_licensed 31 = .ok (.aaload, 1) := dk_50 (dk_at dksX2_licensed_1 8 rfl rfl)
theorem dX2_licensed_32 : decode cX2_licensed 32 = .ok (.iconst 2, 1) := dk_5 (dk_at dksX2_licensed_1 9 rfl rfl)
theorem dX2_licensed_33 : decode cX2_licensed 33 = .ok (.invokevirtual 94, 3) := dk_182 0 94 (dk_at dksX2_licensed_1 10 rfl rfl)
theorem dX2_licensed_36 : decode cX2_licensed 36 = .ok (.goto 4, 3) := dk_167 0 4 (dk_at dksX2_licensed_1 13 rfl rfl)
theorem dX2_licensed_39 : decode cX2_licensed 39 = .ok (.iconst 0, 1) := dk_3 (dk_at dksX2_licensed_1 16 rfl rfl)
theorem dX2_licensed_40 : decode cX2_licensed 40 = .ok (.iadd, 1) := dk_96 (dk_at dksX2_licensed_1 17 rfl rfl)
theorem dX2_licensed_41 : decode cX2_licensed 41 = .ok (.istore_n 2, 1) := dk_61 (dk_at dksX2_licensed_1 18 rfl rfl)
theorem dX2_licensed_42 : decode cX2_licensed 42 = .ok (.iinc 3 1, 3) := dk_132 3 1 (dk_at dksX2_licensed_1 19 rfl rfl)
theorem dX2_licensed_45 : decode cX2_licensed 45 = .ok (.goto (-41), 3) := dk_167 255 215 (dk_at dksX2_licensed_2 0 rfl rfl)
theorem dX2_licensed_48 : decode cX2_licensed 48 = .ok (.iload_n 2, 1) := dk_28 (dk_at dksX2_licensed_2 3 rfl rfl)
theorem dX2_licensed_49 : decode cX2_licensed 49 = .ok (.ireturn, 1) := dk_172 (dk_at dksX2_licensed_2 4 rfl rfl)
abbrev cX2_reader : ByteArray := prog_6_method_23_code
def yX2_reader : MethodName := ⟨RX2, "reader", "(II)I"⟩
def dkwX2_reader_2 : List UInt8 := [28, 184, 0, 172, 83, 42, 89, 180, 0, 59, 4, 96, 181, 0, 59, 42, 180, 0, 59, 4, 100, 172]
abbrev dktX2_reader_2 : List UInt8 := dkwX2_reader_2 ++ []
def dkwX2_reader_1 : List UInt8 := [180, 0, 59, 27, 79, 42, 180, 0, 34, 42, 180, 0, 59, 28, 79, 42, 180, 0, 39, 42, 180, 0, 59, 27]
abbrev dktX2_reader_1 : List UInt8 := dkwX2_reader_1 ++ dktX2_reader_2
def dkwX2_reader_0 : List UInt8 := [42, 180, 0, 59, 8, 160, 0, 7, 4, 167, 0, 4, 3, 4, 8, 184, 0, 148, 42, 180, 0, 30, 42]
abbrev dktX2_reader_0 : List UInt8 := dkwX2_reader_0 ++ dktX2_reader_1
theorem dksX2_reader_0 : cX2_reader.data.toList.drop 0 = dktX2_reader_0 := by decide +kernel
theorem dksX2_reader_1 : cX2_reader.data.toList.drop 23 = dktX2_reader_1 := dk_seg dksX2_reader_0 23 rfl rfl
theorem dksX2_reader_2 : cX2_reader.data.toList.drop 47 = dktX2_reader_2 := dk_seg dksX2_reader_1 24 rfl rfl
theorem dX2_reader_0 : decode cX2_reader 0 = .ok (.aload_n 0, 1) := dk_42 (dk_at dksX2_reader_0 0 rfl rfl)
theorem dX2_reader_1 : decode cX2_reader 1 = .ok (.getfield 59, 3) := dk_180 0 59 (dk_at dksX2_reader_0 1 rfl rfl)
theorem dX2_reader_4 : decode cX2_reader 4 = .ok (.iconst 5, 1) := dk_8 (dk_at dksX2_reader_0 4 rfl rfl)
theorem dX2_reader_5 : decode cX2_reader 5 = .ok (.if_icmp .ne 7, 3) := dk_160 0 7 (dk_at dksX2_reader_0 5 rfl rfl)
theorem dX2_reader_8 : decode cX2_reader 8 = .ok (.iconst 1, 1) := dk_4 (dk_at dksX2_reader_0 8 rfl rfl)
theorem dX2_reader_9 : decode cX2_reader 9 = .ok (.goto 4, 3) := dk_167 0 4 (dk_at dksX2_reader_0 9 rfl rfl)
theorem dX2_reader_12 : decode cX2_reader 12 = .ok (.iconst 0, 1) := dk_3 (dk_at dksX2_reader_0 12 rfl rfl)
theorem dX2_reader_13 : decode cX2_reader 13 = .ok (.iconst 1, 1) := dk_4 (dk_at dksX2_reader_0 13 rfl rfl)
theorem dX2_reader_14 : decode cX2_reader 14 = .ok (.iconst 5, 1) := dk_8 (dk_at dksX2_reader_0 14 rfl rfl)
theorem dX2_reader_15 : decode cX2_reader 15 = .ok (.invokestatic 148, 3) := dk_184 0 148 (dk_at dksX2_reader_0 15 rfl rfl)
theorem dX2_reader_18 : decode cX2_reader 18 = .ok (.aload_n 0, 1) := dk_42 (dk_at dksX2_reader_0 18 rfl rfl)
theorem dX2_reader_19 : decode cX2_reader 19 = .ok (.getfield 30, 3) := dk_180 0 30 (dk_at dksX2_reader_0 19 rfl rfl)
theorem dX2_reader_22 : decode cX2_reader 22 = .ok (.aload_n 0, 1) := dk_42 (dk_at dksX2_reader_0 22 rfl rfl)
theorem dX2_reader_23 : decode cX2_reader 23 = .ok (.getfield 59, 3) := dk_180 0 59 (dk_at dksX2_reader_1 0 rfl rfl)
theorem dX2_reader_26 : decode cX2_reader 26 = .ok (.iload_n 1, 1) := dk_27 (dk_at dksX2_reader_1 3 rfl rfl)
theorem dX2_reader_27 : decode cX2_reader 27 = .ok (.iastore, 1) := dk_79 (dk_at dksX2_reader_1 4 rfl rfl)
theorem dX2_reader_28 : decode cX2_reader 28 = .ok (.aload_n 0, 1) := dk_42 (dk_at dksX2_reader_1 5 rfl rfl)
theorem dX2_reader_29 : decode cX2_reader 29 = .ok (.getfield 34, 3) := dk_180 0 34 (dk_at dksX2_reader_1 6 rfl rfl)
theorem dX2_reader_32 : decode cX2_reader 32 = .ok (.aload_n 0, 1) := dk_42 (dk_at dksX2_reader_1 9 rfl rfl)
theorem dX2_reader_33 : decode cX2_reader 33 = .ok (.getfield 59, 3) := dk_180 0 59 (dk_at dksX2_reader_1 10 rfl rfl)
theorem dX2_reader_36 : decode cX2_reader 36 = .ok (.iload_n 2, 1) := dk_28 (dk_at dksX2_reader_1 13 rfl rfl)
theorem dX2_reader_37 : decode cX2_reader 37 = .ok (.iastore, 1) := dk_79 (dk_at dksX2_reader_1 14 rfl rfl)
theorem dX2_reader_38 : decode cX2_reader 38 = .ok (.aload_n 0, 1) := dk_42 (dk_at dksX2_reader_1 15 rfl rfl)
theorem dX2_reader_39 : decode cX2_reader 39 = .ok (.getfield 39, 3) := dk_180 0 39 (dk_at dksX2_reader_1 16 rfl rfl)
theorem dX2_reader_42 : decode cX2_reader 42 = .ok (.aload_n 0, 1) := dk_42 (dk_at dksX2_reader_1 19 rfl rfl)
theorem dX2_reader_43 : decode cX2_reader 43 = .ok (.getfield 59, 3) := dk_180 0 59 (dk_at dksX2_reader_1 20 rfl rfl)
theorem dX2_reader_46 : decode cX2_reader 46 = .ok (.iload_n 1, 1) := dk_27 (dk_at dksX2_reader_1 23 rfl rfl)
theorem dX2_reader_47 : decode cX2_reader 47 = .ok (.iload_n 2, 1) := dk_28 (dk_at dksX2_reader_2 0 rfl rfl)
theorem dX2_reader_48 : decode cX2_reader 48 = .ok (.invokestatic 172, 3) := dk_184 0 172 (dk_at dksX2_reader_2 1 rfl rfl)
theorem dX2_reader_51 : decode cX2_reader 51 = .ok (.aastore, 1) := dk_83 (dk_at dksX2_reader_2 4 rfl rfl)
theorem dX2_reader_52 : decode cX2_reader 52 = .ok (.aload_n 0, 1) := dk_42 (dk_at dksX2_reader_2 5 rfl rfl)
theorem dX2_reader_53 : decode cX2_reader 53 = .ok (.dup, 1) := dk_89 (dk_at dksX2_reader_2 6 rfl rfl)
theorem dX2_reader_54 : decode cX2_reader 54 = .ok (.getfield 59, 3) := dk_180 0 59 (dk_at dksX2_reader_2 7 rfl rfl)
theorem dX2_reader_57 : decode cX2_reader 57 = .ok (.iconst 1, 1) := dk_4 (dk_at dksX2_reader_2 10 rfl rfl)
theorem dX2_reader_58 : decode cX2_reader 58 = .ok (.iadd, 1) := dk_96 (dk_at dksX2_reader_2 11 rfl rfl)
theorem dX2_reader_59 : decode cX2_reader 59 = .ok (.putfield 59, 3) := dk_181 0 59 (dk_at dksX2_reader_2 12 rfl rfl)
theorem dX2_reader_62 : decode cX2_reader 62 = .ok (.aload_n 0, 1) := dk_42 (dk_at dksX2_reader_2 15 rfl rfl)
theorem dX2_reader_63 : decode cX2_reader 63 = .ok (.getfield 59, 3) := dk_180 0 59 (dk_at dksX2_reader_2 16 rfl rfl)
theorem dX2_reader_66 : decode cX2_reader 66 = .ok (.iconst 1, 1) := dk_4 (dk_at dksX2_reader_2 19 rfl rfl)
theorem dX2_reader_67 : decode cX2_reader 67 = .ok (.isub, 1) := dk_100 (dk_at dksX2_reader_2 20 rfl rfl)
theorem dX2_reader_68 : decode cX2_reader 68 = .ok (.ireturn, 1) := dk_172 (dk_at dksX2_reader_2 21 rfl rfl)
abbrev cX2_edition : ByteArray := prog_6_method_26_code
def yX2_edition : MethodName := ⟨RX2, "edition", "()I"⟩
def dkwX2_edition_4 : List UInt8 := [180, 0, 71, 27, 96, 181, 0, 71, 27, 172]
abbrev dktX2_edition_4 : List UInt8 := dkwX2_edition_4 ++ []
def dkwX2_edition_3 : List UInt8 := [132, 3, 1, 167, 255, 212, 132, 2, 1, 167, 255, 196, 42, 89, 180, 0, 65, 4, 96, 181, 0, 65, 42, 89]
abbrev dktX2_edition_3 : List UInt8 := dkwX2_edition_3 ++ dktX2_edition_4
def dkwX2_edition_2 : List UInt8 := [50, 180, 0, 101, 29, 46, 5, 160, 0, 12, 42, 28, 29, 182, 0, 190, 167, 0, 4, 3, 96, 60]
abbrev dktX2_edition_2 : List UInt8 := dkwX2_edition_2 ++ dktX2_edition_3
def dkwX2_edition_1 : List UInt8 := [162, 0, 58, 3, 62, 29, 42, 180, 0, 26, 28, 50, 180, 0, 88, 162, 0, 37, 27, 42, 180, 0, 26, 28]
abbrev dktX2_edition_1 : List UInt8 := dkwX2_edition_1 ++ dktX2_edition_2
def dkwX2_edition_0 : List UInt8 := [42, 182, 0, 187, 16, 8, 42, 180, 0, 65, 184, 0, 148, 3, 60, 3, 61, 28, 42, 180, 0, 53]
abbrev dktX2_edition_0 : List UInt8 := dkwX2_edition_0 ++ dktX2_edition_1
theorem dksX2_edition_0 : cX2_edition.data.toList.drop 0 = dktX2_edition_0 := by decide +kernel
theorem dksX2_edition_1 : cX2_edition.data.toList.drop 22 = dktX2_edition_1 := dk_seg dksX2_edition_0 22 rfl rfl
theorem dksX2_edition_2 : cX2_edition.data.toList.drop 46 = dktX2_edition_2 := dk_seg dksX2_edition_1 24 rfl rfl
theorem dksX2_edition_3 : cX2_edition.data.toList.drop 68 = dktX2_edition_3 := dk_seg dksX2_edition_2 22 rfl rfl
theorem dksX2_edition_4 : cX2_edition.data.toList.drop 92 = dktX2_edition_4 := dk_seg dksX2_edition_3 24 rfl rfl
theorem dX2_edition_0 : decode cX2_edition 0 = .ok (.aload_n 0, 1) := dk_42 (dk_at dksX2_edition_0 0 rfl rfl)
theorem dX2_edition_1 : decode cX2_edition 1 = .ok (.invokevirtual 187, 3) := dk_182 0 187 (dk_at dksX2_edition_0 1 rfl rfl)
theorem dX2_edition_4 : decode cX2_edition 4 = .ok (.bipush 8, 2) := dk_16 8 (dk_at dksX2_edition_0 4 rfl rfl)
theorem dX2_edition_6 : decode cX2_edition 6 = .ok (.aload_n 0, 1) := dk_42 (dk_at dksX2_edition_0 6 rfl rfl)
theorem dX2_edition_7 : decode cX2_edition 7 = .ok (.getfield 65, 3) := dk_180 0 65 (dk_at dksX2_edition_0 7 rfl rfl)
theorem dX2_edition_10 : decode cX2_edition 10 = .ok (.invokestatic 148, 3) := dk_184 0 148 (dk_at dksX2_edition_0 10 rfl rfl)
theorem dX2_edition_13 : decode cX2_edition 13 = .ok (.iconst 0, 1) := dk_3 (dk_at dksX2_edition_0 13 rfl rfl)
theorem dX2_edition_14 : decode cX2_edition 14 = .ok (.istore_n 1, 1) := dk_60 (dk_at dksX2_edition_0 14 rfl rfl)
theorem dX2_edition_15 : decode cX2_edition 15 = .ok (.iconst 0, 1) := dk_3 (dk_at dksX2_edition_0 15 rfl rfl)
theorem dX2_edition_16 : decode cX2_edition 16 = .ok (.istore_n 2, 1) := dk_61 (dk_at dksX2_edition_0 16 rfl rfl)
theorem dX2_edition_17 : decode cX2_edition 17 = .ok (.iload_n 2, 1) := dk_28 (dk_at dksX2_edition_0 17 rfl rfl)
theorem dX2_edition_18 : decode cX2_edition 18 = .ok (.aload_n 0, 1) := dk_42 (dk_at dksX2_edition_0 18 rfl rfl)
theorem dX2_edition_19 : decode cX2_edition 19 = .ok (.getfield 53, 3) := dk_180 0 53 (dk_at dksX2_edition_0 19 rfl rfl)
theorem dX2_edition_22 : decode cX2_edition 22 = .ok (.if_icmp .ge 58, 3) := dk_162 0 58 (dk_at dksX2_edition_1 0 rfl rfl)
theorem dX2_edition_25 : decode cX2_edition 25 = .ok (.iconst 0, 1) := dk_3 (dk_at dksX2_edition_1 3 rfl rfl)
theorem dX2_edition_26 : decode cX2_edition 26 = .ok (.istore_n 3, 1) := dk_62 (dk_at dksX2_edition_1 4 rfl rfl)
theorem dX2_edition_27 : decode cX2_edition 27 = .ok (.iload_n 3, 1) := dk_29 (dk_at dksX2_edition_1 5 rfl rfl)
theorem dX2_edition_28 : decode cX2_edition 28 = .ok (.aload_n 0, 1) := dk_42 (dk_at dksX2_edition_1 6 rfl rfl)
theorem dX2_edition_29 : decode cX2_edition 29 = .ok (.getfield 26, 3) := dk_180 0 26 (dk_at dksX2_edition_1 7 rfl rfl)
theorem dX2_edition_32 : decode cX2_edition 32 = .ok (.iload_n 2, 1) := dk_28 (dk_at dksX2_edition_1 10 rfl rfl)
theorem dX2_edition_33 : decode cX2_edition 33 = .ok (.aaload, 1) := dk_50 (dk_at dksX2_edition_1 11 rfl rfl)
theorem dX2_edition_34 : decode cX2_edition 34 = .ok (.getfield 88, 3) := dk_180 0 88 (dk_at dksX2_edition_1 12 rfl rfl)
theorem dX2_edition_37 : decode cX2_edition 37 = .ok (.if_icmp .ge 37, 3) := dk_162 0 37 (dk_at dksX2_edition_1 15 rfl rfl)
theorem dX2_edition_40 : decode cX2_edition 40 = .ok (.iload_n 1, 1) := dk_27 (dk_at dksX2_edition_1 18 rfl rfl)
theorem dX2_edition_41 : decode cX2_edition 41 = .ok (.aload_n 0, 1) := dk_42 (dk_at dksX2_edition_1 19 rfl rfl)
theorem dX2_edition_42 : decode cX2_edition 42 = .ok (.getfield 26, 3) := dk_180 0 26 (dk_at dksX2_edition_1 20 rfl rfl)
theorem dX2_edition_45 : decode cX2_edition 45 = .ok (.iload_n 2, 1) := dk_28 (dk_at dksX2_edition_1 23 rfl rfl)
theorem dX2_edition_46 : decode cX2_edition 46 = .ok (.aaload, 1) := dk_50 (dk_at dksX2_edition_2 0 rfl rfl)
theorem dX2_edition_47 : decode cX2_edition 47 = .ok (.getfield 101, 3) := dk_180 0 101 (dk_at dksX2_edition_2 1 rfl rfl)
theorem dX2_edition_50 : decode cX2_edition 50 = .ok (.iload_n 3, 1) := dk_29 (dk_at dksX2_edition_2 4 rfl rfl)
theorem dX2_edition_51 : decode cX2_edition 51 = .ok (.iaload, 1) := dk_46 (dk_at dksX2_edition_2 5 rfl rfl)
theorem dX2_edition_52 : decode cX2_edition 52 = .ok (.iconst 2, 1) := dk_5 (dk_at dksX2_edition_2 6 rfl rfl)
theorem dX2_edition_53 : decode cX2_edition 53 = .ok (.if_icmp .ne 12, 3) := dk_160 0 12 (dk_at dksX2_edition_2 7 rfl rfl)
theorem dX2_edition_56 : decode cX2_edition 56 = .ok (.aload_n 0, 1) := dk_42 (dk_at dksX2_edition_2 10 rfl rfl)
theorem dX2_edition_57 : decode cX2_edition 57 = .ok (.iload_n 2, 1) := dk_28 (dk_at dksX2_edition_2 11 rfl rfl)
theorem dX2_edition_58 : decode cX2_edition 58 = .ok (.iload_n 3, 1) := dk_29 (dk_at dksX2_edition_2 12 rfl rfl)
theorem dX2_edition_59 : decode cX2_edition 59 = .ok (.invokevirtual 190, 3) := dk_182 0 190 (dk_at dksX2_edition_2 13 rfl rfl)
theorem dX2_edition_62 : decode cX2_edition 62 = .ok (.goto 4, 3) := dk_167 0 4 (dk_at dksX2_edition_2 16 rfl rfl)
theorem dX2_edition_65 : decode cX2_edition 65 = .ok (.iconst 0, 1) := dk_3 (dk_at dksX2_edition_2 19 rfl rfl)
theorem dX2_edition_66 : decode cX2_edition 66 = .ok (.iadd, 1) := dk_96 (dk_at dksX2_edition_2 20 rfl rfl)
theorem dX2_edition_67 : decode cX2_edition 67 = .ok (.istore_n 1, 1) := dk_60 (dk_at dksX2_edition_2 21 rfl rfl)
theorem dX2_edition_68 : decode cX2_edition 68 = .ok (.iinc 3 1, 3) := dk_132 3 1 (dk_at dksX2_edition_3 0 rfl rfl)
theorem dX2_edition_71 : decode cX2_edition 71 = .ok (.goto (-44), 3) := dk_167 255 212 (dk_at dksX2_edition_3 3 rfl rfl)
theorem dX2_edition_74 : decode cX2_edition 74 = .ok (.iinc 2 1, 3) := dk_132 2 1 (dk_at dksX2_edition_3 6 rfl rfl)
theorem dX2_edition_77 : decode cX2_edition 77 = .ok (.goto (-60), 3) := dk_167 255 196 (dk_at dksX2_edition_3 9 rfl rfl)
theorem dX2_edition_80 : decode cX2_edition 80 = .ok (.aload_n 0, 1) := dk_42 (dk_at dksX2_edition_3 12 rfl rfl)
theorem dX2_edition_81 : decode cX2_edition 81 = .ok (.dup, 1) := dk_89 (dk_at dksX2_edition_3 13 rfl rfl)
theorem dX2_edition_82 : decode cX2_edition 82 = .ok (.getfield 65, 3) := dk_180 0 65 (dk_at dksX2_edition_3 14 rfl rfl)
theorem dX2_edition_85 : decode cX2_edition 85 = .ok (.iconst 1, 1) := dk_4 (dk_at dksX2_edition_3 17 rfl rfl)
theorem dX2_edition_86 : decode cX2_edition 86 = .ok (.iadd, 1) := dk_96 (dk_at dksX2_edition_3 18 rfl rfl)
theorem dX2_edition_87 : decode cX2_edition 87 = .ok (.putfield 65, 3) := dk_181 0 65 (dk_at dksX2_edition_3 19 rfl rfl)
theorem dX2_edition_90 : decode cX2_edition 90 = .ok (.aload_n 0, 1) := dk_42 (dk_at dksX2_edition_3 22 rfl rfl)
theorem dX2_edition_91 : decode cX2_edition 91 = .ok (.dup, 1) := dk_89 (dk_at dksX2_edition_3 23 rfl rfl)
theorem dX2_edition_92 : decode cX2_edition 92 = .ok (.getfield 71, 3) := dk_180 0 71 (dk_at dksX2_edition_4 0 rfl rfl)
theorem dX2_edition_95 : decode cX2_edition 95 = .ok (.iload_n 1, 1) := dk_27 (dk_at dksX2_edition_4 3 rfl rfl)
theorem dX2_edition_96 : decode cX2_edition 96 = .ok (.iadd, 1) := dk_96 (dk_at dksX2_edition_4 4 rfl rfl)
theorem dX2_edition_97 : decode cX2_edition 97 = .ok (.putfield 71, 3) := dk_181 0 71 (dk_at dksX2_edition_4 5 rfl rfl)
theorem dX2_edition_100 : decode cX2_edition 100 = .ok (.iload_n 1, 1) := dk_27 (dk_at dksX2_edition_4 8 rfl rfl)
theorem dX2_edition_101 : decode cX2_edition 101 = .ok (.ireturn, 1) := dk_172 (dk_at dksX2_edition_4 9 rfl rfl)
abbrev cX2_isNothing : ByteArray := prog_6_method_25_code
def yX2_isNothing : MethodName := ⟨RX2, "isNothing", "()Z"⟩
def dkwX2_isNothing_1 : List UInt8 := [132, 1, 1, 167, 255, 231, 4, 172]
abbrev dktX2_isNothing_1 : List UInt8 := dkwX2_isNothing_1 ++ []
def dkwX2_isNothing_0 : List UInt8 := [3, 60, 27, 42, 180, 0, 53, 162, 0, 23, 42, 180, 0, 26, 27, 50, 182, 0, 183, 158, 0, 5, 3, 172]
abbrev dktX2_isNothing_0 : List UInt8 := dkwX2_isNothing_0 ++ dktX2_isNothing_1
theorem dksX2_isNothing_0 : cX2_isNothing.data.toList.drop 0 = dktX2_isNothing_0 := by decide +kernel
theorem dksX2_isNothing_1 : cX2_isNothing.data.toList.drop 24 = dktX2_isNothing_1 := dk_seg dksX2_isNothing_0 24 rfl rfl
theorem dX2_isNothing_0 : decode cX2_isNothing 0 = .ok (.iconst 0, 1) := dk_3 (dk_at dksX2_isNothing_0 0 rfl rfl)
theorem dX2_isNothing_1 : decode cX2_isNothing 1 = .ok (.istore_n 1, 1) := dk_60 (dk_at dksX2_isNothing_0 1 rfl rfl)
theorem dX2_isNothing_2 : decode cX2_isNothing 2 = .ok (.iload_n 1, 1) := dk_27 (dk_at dksX2_isNothing_0 2 rfl rfl)
theorem dX2_isNothing_3 : decode cX2_isNothing 3 = .ok (.aload_n 0, 1) := dk_42 (dk_at dksX2_isNothing_0 3 rfl rfl)
theorem dX2_isNothing_4 : decode cX2_isNothing 4 = .ok (.getfield 53, 3) := dk_180 0 53 (dk_at dksX2_isNothing_0 4 rfl rfl)
theorem dX2_isNothing_7 : decode cX2_isNothing 7 = .ok (.if_icmp .ge 23, 3) := dk_162 0 23 (dk_at dksX2_isNothing_0 7 rfl rfl)
theorem dX2_isNothing_10 : decode cX2_isNothing 10 = .ok (.aload_n 0, 1) := dk_42 (dk_at dksX2_isNothing_0 10 rfl rfl)
theorem dX2_isNothing_11 : decode cX2_isNothing 11 = .ok (.getfield 26, 3) := dk_180 0 26 (dk_at dksX2_isNothing_0 11 rfl rfl)
theorem dX2_isNothing_14 : decode cX2_isNothing 14 = .ok (.iload_n 1, 1) := dk_27 (dk_at dksX2_isNothing_0 14 rfl rfl)
theorem dX2_isNothing_15 : decode cX2_isNothing 15 = .ok (.aaload, 1) := dk_50 (dk_at dksX2_isNothing_0 15 rfl rfl)
theorem dX2_isNothing_16 : decode cX2_isNothing 16 = .ok (.invokevirtual 183, 3) := dk_182 0 183 (dk_at dksX2_isNothing_0 16 rfl rfl)
theorem dX2_isNothing_19 : decode cX2_isNothing 19 = .ok (.ifCond .le 5, 3) := dk_158 0 5 (dk_at dksX2_isNothing_0 19 rfl rfl)
theorem dX2_isNothing_22 : decode cX2_isNothing 22 = .ok (.iconst 0, 1) := dk_3 (dk_at dksX2_isNothing_0 22 rfl rfl)
theorem dX2_isNothing_23 : decode cX2_isNothing 23 = .ok (.ireturn, 1) := dk_172 (dk_at dksX2_isNothing_0 23 rfl rfl)
theorem dX2_isNothing_24 : decode cX2_isNothing 24 = .ok (.iinc 1 1, 3) := dk_132 1 1 (dk_at dksX2_isNothing_1 0 rfl rfl)
theorem dX2_isNothing_27 : decode cX2_isNothing 27 = .ok (.goto (-25), 3) := dk_167 255 231 (dk_at dksX2_isNothing_1 3 rfl rfl)
theorem dX2_isNothing_30 : decode cX2_isNothing 30 = .ok (.iconst 1, 1) := dk_4 (dk_at dksX2_isNothing_1 6 rfl rfl)
theorem dX2_isNothing_31 : decode cX2_isNothing 31 = .ok (.ireturn, 1) := dk_172 (dk_at dksX2_isNothing_1 7 rfl rfl)
abbrev cX2_prints : ByteArray := prog_6_method_24_code
def yX2_prints : MethodName := ⟨RX2, "prints", "(II)I"⟩
def dkwX2_prints_2 : List UInt8 := [6, 79, 42, 89, 180, 0, 68, 4, 96, 181, 0, 68, 21, 4, 172]
abbrev dktX2_prints_2 : List UInt8 := dkwX2_prints_2 ++ []
def dkwX2_prints_1 : List UInt8 := [58, 5, 25, 5, 45, 28, 182, 0, 104, 182, 0, 176, 25, 5, 21, 4, 182, 0, 180, 45, 180, 0, 101, 28]
abbrev dktX2_prints_1 : List UInt8 := dkwX2_prints_1 ++ dktX2_prints_2
def dkwX2_prints_0 : List UInt8 := [42, 180, 0, 26, 27, 50, 78, 42, 27, 28, 182, 0, 139, 184, 0, 145, 54, 4, 42, 27, 182, 0, 117]
abbrev dktX2_prints_0 : List UInt8 := dkwX2_prints_0 ++ dktX2_prints_1
theorem dksX2_prints_0 : cX2_prints.data.toList.drop 0 = dktX2_prints_0 := by decide +kernel
theorem dksX2_prints_1 : cX2_prints.data.toList.drop 23 = dktX2_prints_1 := dk_seg dksX2_prints_0 23 rfl rfl
theorem dksX2_prints_2 : cX2_prints.data.toList.drop 47 = dktX2_prints_2 := dk_seg dksX2_prints_1 24 rfl rfl
theorem dX2_prints_0 : decode cX2_prints 0 = .ok (.aload_n 0, 1) := dk_42 (dk_at dksX2_prints_0 0 rfl rfl)
theorem dX2_prints_1 : decode cX2_prints 1 = .ok (.getfield 26, 3) := dk_180 0 26 (dk_at dksX2_prints_0 1 rfl rfl)
theorem dX2_prints_4 : decode cX2_prints 4 = .ok (.iload_n 1, 1) := dk_27 (dk_at dksX2_prints_0 4 rfl rfl)
theorem dX2_prints_5 : decode cX2_prints 5 = .ok (.aaload, 1) := dk_50 (dk_at dksX2_prints_0 5 rfl rfl)
theorem dX2_prints_6 : decode cX2_prints 6 = .ok (.astore_n 3, 1) := dk_78 (dk_at dksX2_prints_0 6 rfl rfl)
theorem dX2_prints_7 : decode cX2_prints 7 = .ok (.aload_n 0, 1) := dk_42 (dk_at dksX2_prints_0 7 rfl rfl)
theorem dX2_prints_8 : decode cX2_prints 8 = .ok (.iload_n 1, 1) := dk_27 (dk_at dksX2_prints_0 8 rfl rfl)
theorem dX2_prints_9 : decode cX2_prints 9 = .ok (.iload_n 2, 1) := dk_28 (dk_at dksX2_prints_0 9 rfl rfl)
theorem dX2_prints_10 : decode cX2_prints 10 = .ok (.invokevirtual 139, 3) := dk_182 0 139 (dk_at dksX2_prints_0 10 rfl rfl)
theorem dX2_prints_13 : decode cX2_prints 13 = .ok (.invokestatic 145, 3) := dk_184 0 145 (dk_at dksX2_prints_0 13 rfl rfl)
theorem dX2_prints_16 : decode cX2_prints 16 = .ok (.istore 4, 2) := dk_54 4 (dk_at dksX2_prints_0 16 rfl rfl)
theorem dX2_prints_18 : decode cX2_prints 18 = .ok (.aload_n 0, 1) := dk_42 (dk_at dksX2_prints_0 18 rfl rfl)
theorem dX2_prints_19 : decode cX2_prints 19 = .ok (.iload_n 1, 1) := dk_27 (dk_at dksX2_prints_0 19 rfl rfl)
theorem dX2_prints_20 : decode cX2_prints 20 = .ok (.invokevirtual 117, 3) := dk_182 0 117 (dk_at dksX2_prints_0 20 rfl rfl)
theorem dX2_prints_23 : decode cX2_prints 23 = .ok (.astore 5, 2) := dk_58 5 (dk_at dksX2_prints_1 0 rfl rfl)
theorem dX2_prints_25 : decode cX2_prints 25 = .ok (.aload 5, 2) := dk_25 5 (dk_at dksX2_prints_1 2 rfl rfl)
theorem dX2_prints_27 : decode cX2_prints 27 = .ok (.aload_n 3, 1) := dk_45 (dk_at dksX2_prints_1 4 rfl rfl)
theorem dX2_prints_28 : decode cX2_prints 28 = .ok (.iload_n 2, 1) := dk_28 (dk_at dksX2_prints_1 5 rfl rfl)
theorem dX2_prints_29 : decode cX2_prints 29 = .ok (.invokevirtual 104, 3) := dk_182 0 104 (dk_at dksX2_prints_1 6 rfl rfl)
theorem dX2_prints_32 : decode cX2_prints 32 = .ok (.invokevirtual 176, 3) := dk_182 0 176 (dk_at dksX2_prints_1 9 rfl rfl)
theorem dX2_prints_35 : decode cX2_prints 35 = .ok (.aload 5, 2) := dk_25 5 (dk_at dksX2_prints_1 12 rfl rfl)
theorem dX2_prints_37 : decode cX2_prints 37 = .ok (.iload 4, 2) := dk_21 4 (dk_at dksX2_prints_1 14 rfl rfl)
theorem dX2_prints_39 : decode cX2_prints 39 = .ok (.invokevirtual 180, 3) := dk_182 0 180 (dk_at dksX2_prints_1 16 rfl rfl)
theorem dX2_prints_42 : decode cX2_prints 42 = .ok (.aload_n 3, 1) := dk_45 (dk_at dksX2_prints_1 19 rfl rfl)
theorem dX2_prints_43 : decode cX2_prints 43 = .ok (.getfield 101, 3) := dk_180 0 101 (dk_at dksX2_prints_1 20 rfl rfl)
theorem dX2_prints_46 : decode cX2_prints 46 = .ok (.iload_n 2, 1) := dk_28 (dk_at dksX2_prints_1 23 rfl rfl)
theorem dX2_prints_47 : decode cX2_prints 47 = .ok (.iconst 3, 1) := dk_6 (dk_at dksX2_prints_2 0 rfl rfl)
theorem dX2_prints_48 : decode cX2_prints 48 = .ok (.iastore, 1) := dk_79 (dk_at dksX2_prints_2 1 rfl rfl)
theorem dX2_prints_49 : decode cX2_prints 49 = .ok (.aload_n 0, 1) := dk_42 (dk_at dksX2_prints_2 2 rfl rfl)
theorem dX2_prints_50 : decode cX2_prints 50 = .ok (.dup, 1) := dk_89 (dk_at dksX2_prints_2 3 rfl rfl)
theorem dX2_prints_51 : decode cX2_prints 51 = .ok (.getfield 68, 3) := dk_180 0 68 (dk_at dksX2_prints_2 4 rfl rfl)
theorem dX2_prints_54 : decode cX2_prints 54 = .ok (.iconst 1, 1) := dk_4 (dk_at dksX2_prints_2 7 rfl rfl)
theorem dX2_prints_55 : decode cX2_prints 55 = .ok (.iadd, 1) := dk_96 (dk_at dksX2_prints_2 8 rfl rfl)
theorem dX2_prints_56 : decode cX2_prints 56 = .ok (.putfield 68, 3) := dk_181 0 68 (dk_at dksX2_prints_2 9 rfl rfl)
theorem dX2_prints_59 : decode cX2_prints 59 = .ok (.iload 4, 2) := dk_21 4 (dk_at dksX2_prints_2 12 rfl rfl)
theorem dX2_prints_61 : decode cX2_prints 61 = .ok (.ireturn, 1) := dk_172 (dk_at dksX2_prints_2 14 rfl rfl)
abbrev cX2_sheetsOf : ByteArray := prog_6_method_28_code
def yX2_sheetsOf : MethodName := ⟨RX2, "sheetsOf", "(I)I"⟩
def dkwX2_sheetsOf_1 : List UInt8 := [160, 0, 7, 4, 167, 0, 4, 3, 96, 61, 132, 3, 1, 167, 255, 224, 28, 172]
abbrev dktX2_sheetsOf_1 : List UInt8 := dkwX2_sheetsOf_1 ++ []
def dkwX2_sheetsOf_0 : List UInt8 := [3, 61, 3, 62, 29, 42, 180, 0, 53, 162, 0, 30, 28, 42, 180, 0, 26, 29, 50, 180, 0, 91, 27]
abbrev dktX2_sheetsOf_0 : List UInt8 := dkwX2_sheetsOf_0 ++ dktX2_sheetsOf_1
theorem dksX2_sheetsOf_0 : cX2_sheetsOf.data.toList.drop 0 = dktX2_sheetsOf_0 := by decide +kernel
theorem dksX2_sheetsOf_1 : cX2_sheetsOf.data.toList.drop 23 = dktX2_sheetsOf_1 := dk_seg dksX2_sheetsOf_0 23 rfl rfl
theorem dX2_sheetsOf_0 : decode cX2_sheetsOf 0 = .ok (.iconst 0, 1) := dk_3 (dk_at dksX2_sheetsOf_0 0 rfl rfl)
theorem dX2_sheetsOf_1 : decode cX2_sheetsOf 1 = .ok (.istore_n 2, 1) := dk_61 (dk_at dksX2_sheetsOf_0 1 rfl rfl)
theorem dX2_sheetsOf_2 : decode cX2_sheetsOf 2 = .ok (.iconst 0, 1) := dk_3 (dk_at dksX2_sheetsOf_0 2 rfl rfl)
theorem dX2_sheetsOf_3 : decode cX2_sheetsOf 3 = .ok (.istore_n 3, 1) := dk_62 (dk_at dksX2_sheetsOf_0 3 rfl rfl)
theorem dX2_sheetsOf_4 : decode cX2_sheetsOf 4 = .ok (.iload_n 3, 1) := dk_29 (dk_at dksX2_sheetsOf_0 4 rfl rfl)
theorem dX2_sheetsOf_5 : decode cX2_sheetsOf 5 = .ok (.aload_n 0, 1) := dk_42 (dk_at dksX2_sheetsOf_0 5 rfl rfl)
theorem dX2_sheetsOf_6 : decode cX2_sheetsOf 6 = .ok (.getfield 53, 3) := dk_180 0 53 (dk_at dksX2_sheetsOf_0 6 rfl rfl)
theorem dX2_sheetsOf_9 : decode cX2_sheetsOf 9 = .ok (.if_icmp .ge 30, 3) := dk_162 0 30 (dk_at dksX2_sheetsOf_0 9 rfl rfl)
theorem dX2_sheetsOf_12 : decode cX2_sheetsOf 12 = .ok (.iload_n 2, 1) := dk_28 (dk_at dksX2_sheetsOf_0 12 rfl rfl)
theorem dX2_sheetsOf_13 : decode cX2_sheetsOf 13 = .ok (.aload_n 0, 1) := dk_42 (dk_at dksX2_sheetsOf_0 13 rfl rfl)
theorem dX2_sheetsOf_14 : decode cX2_sheetsOf 14 = .ok (.getfield 26, 3) := dk_180 0 26 (dk_at dksX2_sheetsOf_0 14 rfl rfl)
theorem dX2_sheetsOf_17 : decode cX2_sheetsOf 17 = .ok (.iload_n 3, 1) := dk_29 (dk_at dksX2_sheetsOf_0 17 rfl rfl)
theorem dX2_sheetsOf_18 : decode cX2_sheetsOf 18 = .ok (.aaload, 1) := dk_50 (dk_at dksX2_sheetsOf_0 18 rfl rfl)
theorem dX2_sheetsOf_19 : decode cX2_sheetsOf 19 = .ok (.getfield 91, 3) := dk_180 0 91 (dk_at dksX2_sheetsOf_0 19 rfl rfl)
theorem dX2_sheetsOf_22 : decode cX2_sheetsOf 22 = .ok (.iload_n 1, 1) := dk_27 (dk_at dksX2_sheetsOf_0 22 rfl rfl)
theorem dX2_sheetsOf_23 : decode cX2_sheetsOf 23 = .ok (.if_icmp .ne 7, 3) := dk_160 0 7 (dk_at dksX2_sheetsOf_1 0 rfl rfl)
theorem dX2_sheetsOf_26 : decode cX2_sheetsOf 26 = .ok (.iconst 1, 1) := dk_4 (dk_at dksX2_sheetsOf_1 3 rfl rfl)
theorem dX2_sheetsOf_27 : decode cX2_sheetsOf 27 = .ok (.goto 4, 3) := dk_167 0 4 (dk_at dksX2_sheetsOf_1 4 rfl rfl)
theorem dX2_sheetsOf_30 : decode cX2_sheetsOf 30 = .ok (.iconst 0, 1) := dk_3 (dk_at dksX2_sheetsOf_1 7 rfl rfl)
theorem dX2_sheetsOf_31 : decode cX2_sheetsOf 31 = .ok (.iadd, 1) := dk_96 (dk_at dksX2_sheetsOf_1 8 rfl rfl)
theorem dX2_sheetsOf_32 : decode cX2_sheetsOf 32 = .ok (.istore_n 2, 1) := dk_61 (dk_at dksX2_sheetsOf_1 9 rfl rfl)
theorem dX2_sheetsOf_33 : decode cX2_sheetsOf 33 = .ok (.iinc 3 1, 3) := dk_132 3 1 (dk_at dksX2_sheetsOf_1 10 rfl rfl)
theorem dX2_sheetsOf_36 : decode cX2_sheetsOf 36 = .ok (.goto (-32), 3) := dk_167 255 224 (dk_at dksX2_sheetsOf_1 13 rfl rfl)
theorem dX2_sheetsOf_39 : decode cX2_sheetsOf 39 = .ok (.iload_n 2, 1) := dk_28 (dk_at dksX2_sheetsOf_1 16 rfl rfl)
theorem dX2_sheetsOf_40 : decode cX2_sheetsOf 40 = .ok (.ireturn, 1) := dk_172 (dk_at dksX2_sheetsOf_1 17 rfl rfl)
abbrev cX2_misprintsOf : ByteArray := prog_6_method_29_code
def yX2_misprintsOf : MethodName := ⟨RX2, "misprintsOf", "(I)I"⟩
def dkwX2_misprintsOf_2 : List UInt8 := [167, 255, 215, 28, 172]
abbrev dktX2_misprintsOf_2 : List UInt8 := dkwX2_misprintsOf_2 ++ []
def dkwX2_misprintsOf_1 : List UInt8 := [160, 0, 16, 42, 180, 0, 26, 29, 50, 4, 182, 0, 94, 167, 0, 4, 3, 96, 61, 132, 3, 1]
abbrev dktX2_misprintsOf_1 : List UInt8 := dkwX2_misprintsOf_1 ++ dktX2_misprintsOf_2
def dkwX2_misprintsOf_0 : List UInt8 := [3, 61, 3, 62, 29, 42, 180, 0, 53, 162, 0, 39, 28, 42, 180, 0, 26, 29, 50, 180, 0, 91, 27]
abbrev dktX2_misprintsOf_0 : List UInt8 := dkwX2_misprintsOf_0 ++ dktX2_misprintsOf_1
theorem dksX2_misprintsOf_0 : cX2_misprintsOf.data.toList.drop 0 = dktX2_misprintsOf_0 := by decide +kernel
theorem dksX2_misprintsOf_1 : cX2_misprintsOf.data.toList.drop 23 = dktX2_misprintsOf_1 := dk_seg dksX2_misprintsOf_0 23 rfl rfl
theorem dksX2_misprintsOf_2 : cX2_misprintsOf.data.toList.drop 45 = dktX2_misprintsOf_2 := dk_seg dksX2_misprintsOf_1 22 rfl rfl
theorem dX2_misprintsOf_0 : decode cX2_misprintsOf 0 = .ok (.iconst 0, 1) := dk_3 (dk_at dksX2_misprintsOf_0 0 rfl rfl)
theorem dX2_misprintsOf_1 : decode cX2_misprintsOf 1 = .ok (.istore_n 2, 1) := dk_61 (dk_at dksX2_misprintsOf_0 1 rfl rfl)
theorem dX2_misprintsOf_2 : decode cX2_misprintsOf 2 = .ok (.iconst 0, 1) := dk_3 (dk_at dksX2_misprintsOf_0 2 rfl rfl)
theorem dX2_misprintsOf_3 : decode cX2_misprintsOf 3 = .ok (.istore_n 3, 1) := dk_62 (dk_at dksX2_misprintsOf_0 3 rfl rfl)
theorem dX2_misprintsOf_4 : decode cX2_misprintsOf 4 = .ok (.iload_n 3, 1) := dk_29 (dk_at dksX2_misprintsOf_0 4 rfl rfl)
theorem dX2_misprintsOf_5 : decode cX2_misprintsOf 5 = .ok (.aload_n 0, 1) := dk_42 (dk_at dksX2_misprintsOf_0 5 rfl rfl)
theorem dX2_misprintsOf_6 : decode cX2_misprintsOf 6 = .ok (.getfield 53, 3) := dk_180 0 53 (dk_at dksX2_misprintsOf_0 6 rfl rfl)
theorem dX2_misprintsOf_9 : decode cX2_misprintsOf 9 = .ok (.if_icmp .ge 39, 3) := dk_162 0 39 (dk_at dksX2_misprintsOf_0 9 rfl rfl)
theorem dX2_misprintsOf_12 : decode cX2_misprintsOf 12 = .ok (.iload_n 2, 1) := dk_28 (dk_at dksX2_misprintsOf_0 12 rfl rfl)
theorem dX2_misprintsOf_13 : decode cX2_misprintsOf 13 = .ok (.aload_n 0, 1) := dk_42 (dk_at dksX2_misprintsOf_0 13 rfl rfl)
theorem dX2_misprintsOf_14 : decode cX2_misprintsOf 14 = .ok (.getfield 26, 3) := dk_180 0 26 (dk_at dksX2_misprintsOf_0 14 rfl rfl)
theorem dX2_misprintsOf_17 : decode cX2_misprintsOf 17 = .ok (.iload_n 3, 1) := dk_29 (dk_at dksX2_misprintsOf_0 17 rfl rfl)
theorem dX2_misprintsOf_18 : decode cX2_misprintsOf 18 = .ok (.aaload, 1) := dk_50 (dk_at dksX2_misprintsOf_0 18 rfl rfl)
theorem dX2_misprintsOf_19 : decode cX2_misprintsOf 19 = .ok (.getfield 91, 3) := dk_180 0 91 (dk_at dksX2_misprintsOf_0 19 rfl rfl)
theorem dX2_misprintsOf_22 : decode cX2_misprintsOf 22 = .ok (.iload_n 1, 1) := dk_27 (dk_at dksX2_misprintsOf_0 22 rfl rfl)
theorem dX2_misprintsOf_23 : decode cX2_misprintsOf 23 = .ok (.if_icmp .ne 16, 3) := dk_160 0 16 (dk_at dksX2_misprintsOf_1 0 rfl rfl)
theorem dX2_misprintsOf_26 : decode cX2_misprintsOf 26 = .ok (.aload_n 0, 1) := dk_42 (dk_at dksX2_misprintsOf_1 3 rfl rfl)
theorem dX2_misprintsOf_27 : decode cX2_misprintsOf 27 = .ok (.getfield 26, 3) := dk_180 0 26 (dk_at dksX2_misprintsOf_1 4 rfl rfl)
theorem dX2_misprintsOf_30 : decode cX2_misprintsOf 30 = .ok (.iload_n 3, 1) := dk_29 (dk_at dksX2_misprintsOf_1 7 rfl rfl)
theorem dX2_misprintsOf_31 : decode cX2_misprintsOf 31 = .ok (.aaload, 1) := dk_50 (dk_at dksX2_misprintsOf_1 8 rfl rfl)
theorem dX2_misprintsOf_32 : decode cX2_misprintsOf 32 = .ok (.iconst 1, 1) := dk_4 (dk_at dksX2_misprintsOf_1 9 rfl rfl)
theorem dX2_misprintsOf_33 : decode cX2_misprintsOf 33 = .ok (.invokevirtual 94, 3) := dk_182 0 94 (dk_at dksX2_misprintsOf_1 10 rfl rfl)
theorem dX2_misprintsOf_36 : decode cX2_misprintsOf 36 = .ok (.goto 4, 3) := dk_167 0 4 (dk_at dksX2_misprintsOf_1 13 rfl rfl)
theorem dX2_misprintsOf_39 : decode cX2_misprintsOf 39 = .ok (.iconst 0, 1) := dk_3 (dk_at dksX2_misprintsOf_1 16 rfl rfl)
theorem dX2_misprintsOf_40 : decode cX2_misprintsOf 40 = .ok (.iadd, 1) := dk_96 (dk_at dksX2_misprintsOf_1 17 rfl rfl)
theorem dX2_misprintsOf_41 : decode cX2_misprintsOf 41 = .ok (.istore_n 2, 1) := dk_61 (dk_at dksX2_misprintsOf_1 18 rfl rfl)
theorem dX2_misprintsOf_42 : decode cX2_misprintsOf 42 = .ok (.iinc 3 1, 3) := dk_132 3 1 (dk_at dksX2_misprintsOf_1 19 rfl rfl)
theorem dX2_misprintsOf_45 : decode cX2_misprintsOf 45 = .ok (.goto (-41), 3) := dk_167 255 215 (dk_at dksX2_misprintsOf_2 0 rfl rfl)
theorem dX2_misprintsOf_48 : decode cX2_misprintsOf 48 = .ok (.iload_n 2, 1) := dk_28 (dk_at dksX2_misprintsOf_2 3 rfl rfl)
theorem dX2_misprintsOf_49 : decode cX2_misprintsOf 49 = .ok (.ireturn, 1) := dk_172 (dk_at dksX2_misprintsOf_2 4 rfl rfl)
abbrev cX2_bargain : ByteArray := prog_6_method_32_code
def yX2_bargain : MethodName := ⟨RX2, "bargain", "()I"⟩
def dkwX2_bargain_4 : List UInt8 := [167, 255, 169, 27, 172]
abbrev dktX2_bargain_4 : List UInt8 := dkwX2_bargain_4 ++ []
def dkwX2_bargain_3 : List UInt8 := [164, 0, 14, 16, 8, 29, 104, 21, 4, 96, 60, 21, 5, 61, 132, 4, 1, 167, 255, 186, 132, 3, 1]
abbrev dktX2_bargain_3 : List UInt8 := dkwX2_bargain_3 ++ dktX2_bargain_4
def dkwX2_bargain_2 : List UInt8 := [50, 180, 0, 91, 182, 0, 165, 100, 54, 5, 42, 29, 21, 4, 182, 0, 199, 153, 0, 20, 21, 5, 28]
abbrev dktX2_bargain_2 : List UInt8 := dkwX2_bargain_2 ++ dktX2_bargain_3
def dkwX2_bargain_1 : List UInt8 := [29, 50, 180, 0, 88, 162, 0, 62, 42, 29, 21, 4, 182, 0, 139, 184, 0, 145, 42, 42, 180, 0, 26, 29]
abbrev dktX2_bargain_1 : List UInt8 := dkwX2_bargain_1 ++ dktX2_bargain_2
def dkwX2_bargain_0 : List UInt8 := [2, 60, 18, 198, 61, 3, 62, 29, 42, 180, 0, 53, 162, 0, 85, 3, 54, 4, 21, 4, 42, 180, 0, 26]
abbrev dktX2_bargain_0 : List UInt8 := dkwX2_bargain_0 ++ dktX2_bargain_1
theorem dksX2_bargain_0 : cX2_bargain.data.toList.drop 0 = dktX2_bargain_0 := by decide +kernel
theorem dksX2_bargain_1 : cX2_bargain.data.toList.drop 24 = dktX2_bargain_1 := dk_seg dksX2_bargain_0 24 rfl rfl
theorem dksX2_bargain_2 : cX2_bargain.data.toList.drop 48 = dktX2_bargain_2 := dk_seg dksX2_bargain_1 24 rfl rfl
theorem dksX2_bargain_3 : cX2_bargain.data.toList.drop 71 = dktX2_bargain_3 := dk_seg dksX2_bargain_2 23 rfl rfl
theorem dksX2_bargain_4 : cX2_bargain.data.toList.drop 94 = dktX2_bargain_4 := dk_seg dksX2_bargain_3 23 rfl rfl
theorem dX2_bargain_0 : decode cX2_bargain 0 = .ok (.iconst (-1), 1) := dk_2 (dk_at dksX2_bargain_0 0 rfl rfl)
theorem dX2_bargain_1 : decode cX2_bargain 1 = .ok (.istore_n 1, 1) := dk_60 (dk_at dksX2_bargain_0 1 rfl rfl)
theorem dX2_bargain_2 : decode cX2_bargain 2 = .ok (.ldc 198, 2) := dk_18 198 (dk_at dksX2_bargain_0 2 rfl rfl)
theorem dX2_bargain_4 : decode cX2_bargain 4 = .ok (.istore_n 2, 1) := dk_61 (dk_at dksX2_bargain_0 4 rfl rfl)
theorem dX2_bargain_5 : decode cX2_bargain 5 = .ok (.iconst 0, 1) := dk_3 (dk_at dksX2_bargain_0 5 rfl rfl)
theorem dX2_bargain_6 : decode cX2_bargain 6 = .ok (.istore_n 3, 1) := dk_62 (dk_at dksX2_bargain_0 6 rfl rfl)
theorem dX2_bargain_7 : decode cX2_bargain 7 = .ok (.iload_n 3, 1) := dk_29 (dk_at dksX2_bargain_0 7 rfl rfl)
theorem dX2_bargain_8 : decode cX2_bargain 8 = .ok (.aload_n 0, 1) := dk_42 (dk_at dksX2_bargain_0 8 rfl rfl)
theorem dX2_bargain_9 : decode cX2_bargain 9 = .ok (.getfield 53, 3) := dk_180 0 53 (dk_at dksX2_bargain_0 9 rfl rfl)
theorem dX2_bargain_12 : decode cX2_bargain 12 = .ok (.if_icmp .ge 85, 3) := dk_162 0 85 (dk_at dksX2_bargain_0 12 rfl rfl)
theorem dX2_bargain_15 : decode cX2_bargain 15 = .ok (.iconst 0, 1) := dk_3 (dk_at dksX2_bargain_0 15 rfl rfl)
theorem dX2_bargain_16 : decode cX2_bargain 16 = .ok (.istore 4, 2) := dk_54 4 (dk_at dksX2_bargain_0 16 rfl rfl)
theorem dX2_bargain_18 : decode cX2_bargain 18 = .ok (.iload 4, 2) := dk_21 4 (dk_at dksX2_bargain_0 18 rfl rfl)
theorem dX2_bargain_20 : decode cX2_bargain 20 = .ok (.aload_n 0, 1) := dk_42 (dk_at dksX2_bargain_0 20 rfl rfl)
theorem dX2_bargain_21 : decode cX2_bargain 21 = .ok (.getfield 26, 3) := dk_180 0 26 (dk_at dksX2_bargain_0 21 rfl rfl)
theorem dX2_bargain_24 : decode cX2_bargain 24 = .ok (.iload_n 3, 1) := dk_29 (dk_at dksX2_bargain_1 0 rfl rfl)
theorem dX2_bargain_25 : decode cX2_bargain 25 = .ok (.aaload, 1) := dk_50 (dk_at dksX2_bargain_1 1 rfl rfl)
theorem dX2_bargain_26 : decode cX2_bargain 26 = .ok (.getfield 88, 3) := dk_180 0 88 (dk_at dksX2_bargain_1 2 rfl rfl)
theorem dX2_bargain_29 : decode cX2_bargain 29 = .ok (.if_icmp .ge 62, 3) := dk_162 0 62 (dk_at dksX2_bargain_1 5 rfl rfl)
theorem dX2_bargain_32 : decode cX2_bargain 32 = .ok (.aload_n 0, 1) := dk_42 (dk_at dksX2_bargain_1 8 rfl rfl)
theorem dX2_bargain_33 : decode cX2_bargain 33 = .ok (.iload_n 3, 1) := dk_29 (dk_at dksX2_bargain_1 9 rfl rfl)
theorem dX2_bargain_34 : decode cX2_bargain 34 = .ok (.iload 4, 2) := dk_21 4 (dk_at dksX2_bargain_1 10 rfl rfl)
theorem dX2_bargain_36 : decode cX2_bargain 36 = .ok (.invokevirtual 139, 3) := dk_182 0 139 (dk_at dksX2_bargain_1 12 rfl rfl)
theorem dX2_bargain_39 : decode cX2_bargain 39 = .ok (.invokestatic 145, 3) := dk_184 0 145 (dk_at dksX2_bargain_1 15 rfl rfl)
theorem dX2_bargain_42 : decode cX2_bargain 42 = .ok (.aload_n 0, 1) := dk_42 (dk_at dksX2_bargain_1 18 rfl rfl)
theorem dX2_bargain_43 : decode cX2_bargain 43 = .ok (.aload_n 0, 1) := dk_42 (dk_at dksX2_bargain_1 19 rfl rfl)
theorem dX2_bargain_44 : decode cX2_bargain 44 = .ok (.getfield 26, 3) := dk_180 0 26 (dk_at dksX2_bargain_1 20 rfl rfl)
theorem dX2_bargain_47 : decode cX2_bargain 47 = .ok (.iload_n 3, 1) := dk_29 (dk_at dksX2_bargain_1 23 rfl rfl)
theorem dX2_bargain_48 : decode cX2_bargain 48 = .ok (.aaload, 1) := dk_50 (dk_at dksX2_bargain_2 0 rfl rfl)
theorem dX2_bargain_49 : decode cX2_bargain 49 = .ok (.getfield 91, 3) := dk_180 0 91 (dk_at dksX2_bargain_2 1 rfl rfl)
theorem dX2_bargain_52 : decode cX2_bargain 52 = .ok (.invokevirtual 165, 3) := dk_182 0 165 (dk_at dksX2_bargain_2 4 rfl rfl)
theorem dX2_bargain_55 : decode cX2_bargain 55 = .ok (.isub, 1) := dk_100 (dk_at dksX2_bargain_2 7 rfl rfl)
theorem dX2_bargain_56 : decode cX2_bargain 56 = .ok (.istore 5, 2) := dk_54 5 (dk_at dksX2_bargain_2 8 rfl rfl)
theorem dX2_bargain_58 : decode cX2_bargain 58 = .ok (.aload_n 0, 1) := dk_42 (dk_at dksX2_bargain_2 10 rfl rfl)
theorem dX2_bargain_59 : decode cX2_bargain 59 = .ok (.iload_n 3, 1) := dk_29 (dk_at dksX2_bargain_2 11 rfl rfl)
theorem dX2_bargain_60 : decode cX2_bargain 60 = .ok (.iload 4, 2) := dk_21 4 (dk_at dksX2_bargain_2 12 rfl rfl)
theorem dX2_bargain_62 : decode cX2_bargain 62 = .ok (.invokevirtual 199, 3) := dk_182 0 199 (dk_at dksX2_bargain_2 14 rfl rfl)
theorem dX2_bargain_65 : decode cX2_bargain 65 = .ok (.ifCond .eq 20, 3) := dk_153 0 20 (dk_at dksX2_bargain_2 17 rfl rfl)
theorem dX2_bargain_68 : decode cX2_bargain 68 = .ok (.iload 5, 2) := dk_21 5 (dk_at dksX2_bargain_2 20 rfl rfl)
theorem dX2_bargain_70 : decode cX2_bargain 70 = .ok (.iload_n 2, 1) := dk_28 (dk_at dksX2_bargain_2 22 rfl rfl)
theorem dX2_bargain_71 : decode cX2_bargain 71 = .ok (.if_icmp .le 14, 3) := dk_164 0 14 (dk_at dksX2_bargain_3 0 rfl rfl)
theorem dX2_bargain_74 : decode cX2_bargain 74 = .ok (.bipush 8, 2) := dk_16 8 (dk_at dksX2_bargain_3 3 rfl rfl)
theorem dX2_bargain_76 : decode cX2_bargain 76 = .ok (.iload_n 3, 1) := dk_29 (dk_at dksX2_bargain_3 5 rfl rfl)
theorem dX2_bargain_77 : decode cX2_bargain 77 = .ok (.imul, 1) := dk_104 (dk_at dksX2_bargain_3 6 rfl rfl)
theorem dX2_bargain_78 : decode cX2_bargain 78 = .ok (.iload 4, 2) := dk_21 4 (dk_at dksX2_bargain_3 7 rfl rfl)
theorem dX2_bargain_80 : decode cX2_bargain 80 = .ok (.iadd, 1) := dk_96 (dk_at dksX2_bargain_3 9 rfl rfl)
theorem dX2_bargain_81 : decode cX2_bargain 81 = .ok (.istore_n 1, 1) := dk_60 (dk_at dksX2_bargain_3 10 rfl rfl)
theorem dX2_bargain_82 : decode cX2_bargain 82 = .ok (.iload 5, 2) := dk_21 5 (dk_at dksX2_bargain_3 11 rfl rfl)
theorem dX2_bargain_84 : decode cX2_bargain 84 = .ok (.istore_n 2, 1) := dk_61 (dk_at dksX2_bargain_3 13 rfl rfl)
theorem dX2_bargain_85 : decode cX2_bargain 85 = .ok (.iinc 4 1, 3) := dk_132 4 1 (dk_at dksX2_bargain_3 14 rfl rfl)
theorem dX2_bargain_88 : decode cX2_bargain 88 = .ok (.goto (-70), 3) := dk_167 255 186 (dk_at dksX2_bargain_3 17 rfl rfl)
theorem dX2_bargain_91 : decode cX2_bargain 91 = .ok (.iinc 3 1, 3) := dk_132 3 1 (dk_at dksX2_bargain_3 20 rfl rfl)
theorem dX2_bargain_94 : decode cX2_bargain 94 = .ok (.goto (-87), 3) := dk_167 255 169 (dk_at dksX2_bargain_4 0 rfl rfl)
theorem dX2_bargain_97 : decode cX2_bargain 97 = .ok (.iload_n 1, 1) := dk_27 (dk_at dksX2_bargain_4 3 rfl rfl)
theorem dX2_bargain_98 : decode cX2_bargain 98 = .ok (.ireturn, 1) := dk_172 (dk_at dksX2_bargain_4 4 rfl rfl)
abbrev cX2_couldLicense : ByteArray := prog_6_method_31_code
def yX2_couldLicense : MethodName := ⟨RX2, "couldLicense", "(II)Z"⟩
def dkwX2_couldLicense_2 : List UInt8 := [161, 0, 7, 4, 167, 0, 4, 3, 172]
abbrev dktX2_couldLicense_2 : List UInt8 := dkwX2_couldLicense_2 ++ []
def dkwX2_couldLicense_1 : List UInt8 := [182, 0, 168, 154, 0, 27, 45, 180, 0, 124, 42, 42, 180, 0, 26, 27, 50, 180, 0, 91, 182, 0, 165]
abbrev dktX2_couldLicense_1 : List UInt8 := dkwX2_couldLicense_1 ++ dktX2_couldLicense_2
def dkwX2_couldLicense_0 : List UInt8 := [42, 27, 182, 0, 117, 78, 42, 180, 0, 26, 27, 50, 180, 0, 101, 28, 46, 4, 160, 0, 34, 45]
abbrev dktX2_couldLicense_0 : List UInt8 := dkwX2_couldLicense_0 ++ dktX2_couldLicense_1
theorem dksX2_couldLicense_0 : cX2_couldLicense.data.toList.drop 0 = dktX2_couldLicense_0 := by decide +kernel
theorem dksX2_couldLicense_1 : cX2_couldLicense.data.toList.drop 22 = dktX2_couldLicense_1 := dk_seg dksX2_couldLicense_0 22 rfl rfl
theorem dksX2_couldLicense_2 : cX2_couldLicense.data.toList.drop 45 = dktX2_couldLicense_2 := dk_seg dksX2_couldLicense_1 23 rfl rfl
theorem dX2_couldLicense_0 : decode cX2_couldLicense 0 = .ok (.aload_n 0, 1) := dk_42 (dk_at dksX2_couldLicense_0 0 rfl rfl)
theorem dX2_couldLicense_1 : decode cX2_couldLicense 1 = .ok (.iload_n 1, 1) := dk_27 (dk_at dksX2_couldLicense_0 1 rfl rfl)
theorem dX2_couldLicense_2 : decode cX2_couldLicense 2 = .ok (.invokevirtual 117, 3) := dk_182 0 117 (dk_at dksX2_couldLicense_0 2 rfl rfl)
theorem dX2_couldLicense_5 : decode cX2_couldLicense 5 = .ok (.astore_n 3, 1) := dk_78 (dk_at dksX2_couldLicense_0 5 rfl rfl)
theorem dX2_couldLicense_6 : decode cX2_couldLicense 6 = .ok (.aload_n 0, 1) := dk_42 (dk_at dksX2_couldLicense_0 6 rfl rfl)
theorem dX2_couldLicense_7 : decode cX2_couldLicense 7 = .ok (.getfield 26, 3) := dk_180 0 26 (dk_at dksX2_couldLicense_0 7 rfl rfl)
theorem dX2_couldLicense_10 : decode cX2_couldLicense 10 = .ok (.iload_n 1, 1) := dk_27 (dk_at dksX2_couldLicense_0 10 rfl rfl)
theorem dX2_couldLicense_11 : decode cX2_couldLicense 11 = .ok (.aaload, 1) := dk_50 (dk_at dksX2_couldLicense_0 11 rfl rfl)
theorem dX2_couldLicense_12 : decode cX2_couldLicense 12 = .ok (.getfield 101, 3) := dk_180 0 101 (dk_at dksX2_couldLicense_0 12 rfl rfl)
theorem dX2_couldLicense_15 : decode cX2_couldLicense 15 = .ok (.iload_n 2, 1) := dk_28 (dk_at dksX2_couldLicense_0 15 rfl rfl)
theorem dX2_couldLicense_16 : decode cX2_couldLicense 16 = .ok (.iaload, 1) := dk_46 (dk_at dksX2_couldLicense_0 16 rfl rfl)
theorem dX2_couldLicense_17 : decode cX2_couldLicense 17 = .ok (.iconst 1, 1) := dk_4 (dk_at dksX2_couldLicense_0 17 rfl rfl)
theorem dX2_couldLicense_18 : decode cX2_couldLicense 18 = .ok (.if_icmp .ne 34, 3) := dk_160 0 34 (dk_at dksX2_couldLicense_0 18 rfl rfl)
theorem dX2_couldLicense_21 : decode cX2_couldLicense 21 = .ok (.aload_n 3, 1) := dk_45 (dk_at dksX2_couldLicense_0 21 rfl rfl)
theorem dX2_couldLicense_22 : decode cX2_couldLicense 22 = .ok (.invokevirtual 168, 3) := dk_182 0 168 (dk_at dksX2_couldLicense_1 0 rfl rfl)
theorem dX2_couldLicense_25 : decode cX2_couldLicense 25 = .ok (.ifCond .ne 27, 3) := dk_154 0 27 (dk_at dksX2_couldLicense_1 3 rfl rfl)
theorem dX2_couldLicense_28 : decode cX2_couldLicense 28 = .ok (.aload_n 3, 1) := dk_45 (dk_at dksX2_couldLicense_1 6 rfl rfl)
theorem dX2_couldLicense_29 : decode cX2_couldLicense 29 = .ok (.getfield 124, 3) := dk_180 0 124 (dk_at dksX2_couldLicense_1 7 rfl rfl)
theorem dX2_couldLicense_32 : decode cX2_couldLicense 32 = .ok (.aload_n 0, 1) := dk_42 (dk_at dksX2_couldLicense_1 10 rfl rfl)
theorem dX2_couldLicense_33 : decode cX2_couldLicense 33 = .ok (.aload_n 0, 1) := dk_42 (dk_at dksX2_couldLicense_1 11 rfl rfl)
theorem dX2_couldLicense_34 : decode cX2_couldLicense 34 = .ok (.getfield 26, 3) := dk_180 0 26 (dk_at dksX2_couldLicense_1 12 rfl rfl)
theorem dX2_couldLicense_37 : decode cX2_couldLicense 37 = .ok (.iload_n 1, 1) := dk_27 (dk_at dksX2_couldLicense_1 15 rfl rfl)
theorem dX2_couldLicense_38 : decode cX2_couldLicense 38 = .ok (.aaload, 1) := dk_50 (dk_at dksX2_couldLicense_1 16 rfl rfl)
theorem dX2_couldLicense_39 : decode cX2_couldLicense 39 = .ok (.getfield 91, 3) := dk_180 0 91 (dk_at dksX2_couldLicense_1 17 rfl rfl)
theorem dX2_couldLicense_42 : decode cX2_couldLicense 42 = .ok (.invokevirtual 165, 3) := dk_182 0 165 (dk_at dksX2_couldLicense_1 20 rfl rfl)
theorem dX2_couldLicense_45 : decode cX2_couldLicense 45 = .ok (.if_icmp .lt 7, 3) := dk_161 0 7 (dk_at dksX2_couldLicense_2 0 rfl rfl)
theorem dX2_couldLicense_48 : decode cX2_couldLicense 48 = .ok (.iconst 1, 1) := dk_4 (dk_at dksX2_couldLicense_2 3 rfl rfl)
theorem dX2_couldLicense_49 : decode cX2_couldLicense 49 = .ok (.goto 4, 3) := dk_167 0 4 (dk_at dksX2_couldLicense_2 4 rfl rfl)
theorem dX2_couldLicense_52 : decode cX2_couldLicense 52 = .ok (.iconst 0, 1) := dk_3 (dk_at dksX2_couldLicense_2 7 rfl rfl)
theorem dX2_couldLicense_53 : decode cX2_couldLicense 53 = .ok (.ireturn, 1) := dk_172 (dk_at dksX2_couldLicense_2 8 rfl rfl)
abbrev cX2_wouldShame : ByteArray := prog_6_method_33_code
def yX2_wouldShame : MethodName := ⟨RX2, "wouldShame", "(I)I"⟩
def dkwX2_wouldShame_2 : List UInt8 := [16, 99, 42, 180, 0, 20, 27, 50, 180, 0, 152, 28, 96, 184, 0, 202, 172]
abbrev dktX2_wouldShame_2 : List UInt8 := dkwX2_wouldShame_2 ++ []
def dkwX2_wouldShame_1 : List UInt8 := [160, 0, 15, 42, 180, 0, 26, 29, 50, 182, 0, 183, 167, 0, 4, 3, 96, 61, 132, 3, 1, 167, 255, 216]
abbrev dktX2_wouldShame_1 : List UInt8 := dkwX2_wouldShame_1 ++ dktX2_wouldShame_2
def dkwX2_wouldShame_0 : List UInt8 := [3, 61, 3, 62, 29, 42, 180, 0, 53, 162, 0, 38, 28, 42, 180, 0, 26, 29, 50, 180, 0, 91, 27]
abbrev dktX2_wouldShame_0 : List UInt8 := dkwX2_wouldShame_0 ++ dktX2_wouldShame_1
theorem dksX2_wouldShame_0 : cX2_wouldShame.data.toList.drop 0 = dktX2_wouldShame_0 := by decide +kernel
theorem dksX2_wouldShame_1 : cX2_wouldShame.data.toList.drop 23 = dktX2_wouldShame_1 := dk_seg dksX2_wouldShame_0 23 rfl rfl
theorem dksX2_wouldShame_2 : cX2_wouldShame.data.toList.drop 47 = dktX2_wouldShame_2 := dk_seg dksX2_wouldShame_1 24 rfl rfl
theorem dX2_wouldShame_0 : decode cX2_wouldShame 0 = .ok (.iconst 0, 1) := dk_3 (dk_at dksX2_wouldShame_0 0 rfl rfl)
theorem dX2_wouldShame_1 : decode cX2_wouldShame 1 = .ok (.istore_n 2, 1) := dk_61 (dk_at dksX2_wouldShame_0 1 rfl rfl)
theorem dX2_wouldShame_2 : decode cX2_wouldShame 2 = .ok (.iconst 0, 1) := dk_3 (dk_at dksX2_wouldShame_0 2 rfl rfl)
theorem dX2_wouldShame_3 : decode cX2_wouldShame 3 = .ok (.istore_n 3, 1) := dk_62 (dk_at dksX2_wouldShame_0 3 rfl rfl)
theorem dX2_wouldShame_4 : decode cX2_wouldShame 4 = .ok (.iload_n 3, 1) := dk_29 (dk_at dksX2_wouldShame_0 4 rfl rfl)
theorem dX2_wouldShame_5 : decode cX2_wouldShame 5 = .ok (.aload_n 0, 1) := dk_42 (dk_at dksX2_wouldShame_0 5 rfl rfl)
theorem dX2_wouldShame_6 : decode cX2_wouldShame 6 = .ok (.getfield 53, 3) := dk_180 0 53 (dk_at dksX2_wouldShame_0 6 rfl rfl)
theorem dX2_wouldShame_9 : decode cX2_wouldShame 9 = .ok (.if_icmp .ge 38, 3) := dk_162 0 38 (dk_at dksX2_wouldShame_0 9 rfl rfl)
theorem dX2_wouldShame_12 : decode cX2_wouldShame 12 = .ok (.iload_n 2, 1) := dk_28 (dk_at dksX2_wouldShame_0 12 rfl rfl)
theorem dX2_wouldShame_13 : decode cX2_wouldShame 13 = .ok (.aload_n 0, 1) := dk_42 (dk_at dksX2_wouldShame_0 13 rfl rfl)
theorem dX2_wouldShame_14 : decode cX2_wouldShame 14 = .ok (.getfield 26, 3) := dk_180 0 26 (dk_at dksX2_wouldShame_0 14 rfl rfl)
theorem dX2_wouldShame_17 : decode cX2_wouldShame 17 = .ok (.iload_n 3, 1) := dk_29 (dk_at dksX2_wouldShame_0 17 rfl rfl)
theorem dX2_wouldShame_18 : decode cX2_wouldShame 18 = .ok (.aaload, 1) := dk_50 (dk_at dksX2_wouldShame_0 18 rfl rfl)
theorem dX2_wouldShame_19 : decode cX2_wouldShame 19 = .ok (.getfield 91, 3) := dk_180 0 91 (dk_at dksX2_wouldShame_0 19 rfl rfl)
theorem dX2_wouldShame_22 : decode cX2_wouldShame 22 = .ok (.iload_n 1, 1) := dk_27 (dk_at dksX2_wouldShame_0 22 rfl rfl)
theorem dX2_wouldShame_23 : decode cX2_wouldShame 23 = .ok (.if_icmp .ne 15, 3) := dk_160 0 15 (dk_at dksX2_wouldShame_1 0 rfl rfl)
theorem dX2_wouldShame_26 : decode cX2_wouldShame 26 = .ok (.aload_n 0, 1) := dk_42 (dk_at dksX2_wouldShame_1 3 rfl rfl)
theorem dX2_wouldShame_27 : decode cX2_wouldShame 27 = .ok (.getfield 26, 3) := dk_180 0 26 (dk_at dksX2_wouldShame_1 4 rfl rfl)
theorem dX2_wouldShame_30 : decode cX2_wouldShame 30 = .ok (.iload_n 3, 1) := dk_29 (dk_at dksX2_wouldShame_1 7 rfl rfl)
theorem dX2_wouldShame_31 : decode cX2_wouldShame 31 = .ok (.aaload, 1) := dk_50 (dk_at dksX2_wouldShame_1 8 rfl rfl)
theorem dX2_wouldShame_32 : decode cX2_wouldShame 32 = .ok (.invokevirtual 183, 3) := dk_182 0 183 (dk_at dksX2_wouldShame_1 9 rfl rfl)
theorem dX2_wouldShame_35 : decode cX2_wouldShame 35 = .ok (.goto 4, 3) := dk_167 0 4 (dk_at dksX2_wouldShame_1 12 rfl rfl)
theorem dX2_wouldShame_38 : decode cX2_wouldShame 38 = .ok (.iconst 0, 1) := dk_3 (dk_at dksX2_wouldShame_1 15 rfl rfl)
theorem dX2_wouldShame_39 : decode cX2_wouldShame 39 = .ok (.iadd, 1) := dk_96 (dk_at dksX2_wouldShame_1 16 rfl rfl)
theorem dX2_wouldShame_40 : decode cX2_wouldShame 40 = .ok (.istore_n 2, 1) := dk_61 (dk_at dksX2_wouldShame_1 17 rfl rfl)
theorem dX2_wouldShame_41 : decode cX2_wouldShame 41 = .ok (.iinc 3 1, 3) := dk_132 3 1 (dk_at dksX2_wouldShame_1 18 rfl rfl)
theorem dX2_wouldShame_44 : decode cX2_wouldShame 44 = .ok (.goto (-40), 3) := dk_167 255 216 (dk_at dksX2_wouldShame_1 21 rfl rfl)
theorem dX2_wouldShame_47 : decode cX2_wouldShame 47 = .ok (.bipush 99, 2) := dk_16 99 (dk_at dksX2_wouldShame_2 0 rfl rfl)
theorem dX2_wouldShame_49 : decode cX2_wouldShame 49 = .ok (.aload_n 0, 1) := dk_42 (dk_at dksX2_wouldShame_2 2 rfl rfl)
theorem dX2_wouldShame_50 : decode cX2_wouldShame 50 = .ok (.getfield 20, 3) := dk_180 0 20 (dk_at dksX2_wouldShame_2 3 rfl rfl)
theorem dX2_wouldShame_53 : decode cX2_wouldShame 53 = .ok (.iload_n 1, 1) := dk_27 (dk_at dksX2_wouldShame_2 6 rfl rfl)
theorem dX2_wouldShame_54 : decode cX2_wouldShame 54 = .ok (.aaload, 1) := dk_50 (dk_at dksX2_wouldShame_2 7 rfl rfl)
theorem dX2_wouldShame_55 : decode cX2_wouldShame 55 = .ok (.getfield 152, 3) := dk_180 0 152 (dk_at dksX2_wouldShame_2 8 rfl rfl)
theorem dX2_wouldShame_58 : decode cX2_wouldShame 58 = .ok (.iload_n 2, 1) := dk_28 (dk_at dksX2_wouldShame_2 11 rfl rfl)
theorem dX2_wouldShame_59 : decode cX2_wouldShame 59 = .ok (.iadd, 1) := dk_96 (dk_at dksX2_wouldShame_2 12 rfl rfl)
theorem dX2_wouldShame_60 : decode cX2_wouldShame 60 = .ok (.invokestatic 202, 3) := dk_184 0 202 (dk_at dksX2_wouldShame_2 13 rfl rfl)
theorem dX2_wouldShame_63 : decode cX2_wouldShame 63 = .ok (.ireturn, 1) := dk_172 (dk_at dksX2_wouldShame_2 16 rfl rfl)
abbrev cX2_nearest : ByteArray := prog_6_method_34_code
def yX2_nearest : MethodName := ⟨RX2, "nearest", "(I)I"⟩
def dkwX2_nearest_2 : List UInt8 := [167, 0, 4, 28, 61, 132, 3, 1, 167, 255, 206, 28, 172]
abbrev dktX2_nearest_2 : List UInt8 := dkwX2_nearest_2 ++ []
def dkwX2_nearest_1 : List UInt8 := [182, 0, 205, 42, 180, 0, 26, 27, 50, 42, 180, 0, 26, 28, 50, 182, 0, 205, 162, 0, 7, 29]
abbrev dktX2_nearest_1 : List UInt8 := dkwX2_nearest_1 ++ dktX2_nearest_2
def dkwX2_nearest_0 : List UInt8 := [3, 61, 4, 62, 29, 42, 180, 0, 53, 162, 0, 48, 42, 180, 0, 26, 27, 50, 42, 180, 0, 26, 29, 50]
abbrev dktX2_nearest_0 : List UInt8 := dkwX2_nearest_0 ++ dktX2_nearest_1
theorem dksX2_nearest_0 : cX2_nearest.data.toList.drop 0 = dktX2_nearest_0 := by decide +kernel
theorem dksX2_nearest_1 : cX2_nearest.data.toList.drop 24 = dktX2_nearest_1 := dk_seg dksX2_nearest_0 24 rfl rfl
theorem dksX2_nearest_2 : cX2_nearest.data.toList.drop 46 = dktX2_nearest_2 := dk_seg dksX2_nearest_1 22 rfl rfl
theorem dX2_nearest_0 : decode cX2_nearest 0 = .ok (.iconst 0, 1) := dk_3 (dk_at dksX2_nearest_0 0 rfl rfl)
theorem dX2_nearest_1 : decode cX2_nearest 1 = .ok (.istore_n 2, 1) := dk_61 (dk_at dksX2_nearest_0 1 rfl rfl)
theorem dX2_nearest_2 : decode cX2_nearest 2 = .ok (.iconst 1, 1) := dk_4 (dk_at dksX2_nearest_0 2 rfl rfl)
theorem dX2_nearest_3 : decode cX2_nearest 3 = .ok (.istore_n 3, 1) := dk_62 (dk_at dksX2_nearest_0 3 rfl rfl)
theorem dX2_nearest_4 : decode cX2_nearest 4 = .ok (.iload_n 3, 1) := dk_29 (dk_at dksX2_nearest_0 4 rfl rfl)
theorem dX2_nearest_5 : decode cX2_nearest 5 = .ok (.aload_n 0, 1) := dk_42 (dk_at dksX2_nearest_0 5 rfl rfl)
theorem dX2_nearest_6 : decode cX2_nearest 6 = .ok (.getfield 53, 3) := dk_180 0 53 (dk_at dksX2_nearest_0 6 rfl rfl)
theorem dX2_nearest_9 : decode cX2_nearest 9 = .ok (.if_icmp .ge 48, 3) := dk_162 0 48 (dk_at dksX2_nearest_0 9 rfl rfl)
theorem dX2_nearest_12 : decode cX2_nearest 12 = .ok (.aload_n 0, 1) := dk_42 (dk_at dksX2_nearest_0 12 rfl rfl)
theorem dX2_nearest_13 : decode cX2_nearest 13 = .ok (.getfield 26, 3) := dk_180 0 26 (dk_at dksX2_nearest_0 13 rfl rfl)
theorem dX2_nearest_16 : decode cX2_nearest 16 = .ok (.iload_n 1, 1) := dk_27 (dk_at dksX2_nearest_0 16 rfl rfl)
theorem dX2_nearest_17 : decode cX2_nearest 17 = .ok (.aaload, 1) := dk_50 (dk_at dksX2_nearest_0 17 rfl rfl)
theorem dX2_nearest_18 : decode cX2_nearest 18 = .ok (.aload_n 0, 1) := dk_42 (dk_at dksX2_nearest_0 18 rfl rfl)
theorem dX2_nearest_19 : decode cX2_nearest 19 = .ok (.getfield 26, 3) := dk_180 0 26 (dk_at dksX2_nearest_0 19 rfl rfl)
theorem dX2_nearest_22 : decode cX2_nearest 22 = .ok (.iload_n 3, 1) := dk_29 (dk_at dksX2_nearest_0 22 rfl rfl)
theorem dX2_nearest_23 : decode cX2_nearest 23 = .ok (.aaload, 1) := dk_50 (dk_at dksX2_nearest_0 23 rfl rfl)
theorem dX2_nearest_24 : decode cX2_nearest 24 = .ok (.invokevirtual 205, 3) := dk_182 0 205 (dk_at dksX2_nearest_1 0 rfl rfl)
theorem dX2_nearest_27 : decode cX2_nearest 27 = .ok (.aload_n 0, 1) := dk_42 (dk_at dksX2_nearest_1 3 rfl rfl)
theorem dX2_nearest_28 : decode cX2_nearest 28 = .ok (.getfield 26, 3) := dk_180 0 26 (dk_at dksX2_nearest_1 4 rfl rfl)
theorem dX2_nearest_31 : decode cX2_nearest 31 = .ok (.iload_n 1, 1) := dk_27 (dk_at dksX2_nearest_1 7 rfl rfl)
theorem dX2_nearest_32 : decode cX2_nearest 32 = .ok (.aaload, 1) := dk_50 (dk_at dksX2_nearest_1 8 rfl rfl)
theorem dX2_nearest_33 : decode cX2_nearest 33 = .ok (.aload_n 0, 1) := dk_42 (dk_at dksX2_nearest_1 9 rfl rfl)
theorem dX2_nearest_34 : decode cX2_nearest 34 = .ok (.getfield 26, 3) := dk_180 0 26 (dk_at dksX2_nearest_1 10 rfl rfl)
theorem dX2_nearest_37 : decode cX2_nearest 37 = .ok (.iload_n 2, 1) := dk_28 (dk_at dksX2_nearest_1 13 rfl rfl)
theorem dX2_nearest_38 : decode cX2_nearest 38 = .ok (.aaload, 1) := dk_50 (dk_at dksX2_nearest_1 14 rfl rfl)
theorem dX2_nearest_39 : decode cX2_nearest 39 = .ok (.invokevirtual 205, 3) := dk_182 0 205 (dk_at dksX2_nearest_1 15 rfl rfl)
theorem dX2_nearest_42 : decode cX2_nearest 42 = .ok (.if_icmp .ge 7, 3) := dk_162 0 7 (dk_at dksX2_nearest_1 18 rfl rfl)
theorem dX2_nearest_45 : decode cX2_nearest 45 = .ok (.iload_n 3, 1) := dk_29 (dk_at dksX2_nearest_1 21 rfl rfl)
theorem dX2_nearest_46 : decode cX2_nearest 46 = .ok (.goto 4, 3) := dk_167 0 4 (dk_at dksX2_nearest_2 0 rfl rfl)
theorem dX2_nearest_49 : decode cX2_nearest 49 = .ok (.iload_n 2, 1) := dk_28 (dk_at dksX2_nearest_2 3 rfl rfl)
theorem dX2_nearest_50 : decode cX2_nearest 50 = .ok (.istore_n 2, 1) := dk_61 (dk_at dksX2_nearest_2 4 rfl rfl)
theorem dX2_nearest_51 : decode cX2_nearest 51 = .ok (.iinc 3 1, 3) := dk_132 3 1 (dk_at dksX2_nearest_2 5 rfl rfl)
theorem dX2_nearest_54 : decode cX2_nearest 54 = .ok (.goto (-50), 3) := dk_167 255 206 (dk_at dksX2_nearest_2 8 rfl rfl)
theorem dX2_nearest_57 : decode cX2_nearest 57 = .ok (.iload_n 2, 1) := dk_28 (dk_at dksX2_nearest_2 11 rfl rfl)
theorem dX2_nearest_58 : decode cX2_nearest 58 = .ok (.ireturn, 1) := dk_172 (dk_at dksX2_nearest_2 12 rfl rfl)
abbrev cX2_ashamed : ByteArray := prog_6_method_35_code
def yX2_ashamed : MethodName := ⟨RX2, "ashamed", "(I)I"⟩
def dkwX2_ashamed_5 : List UInt8 := [167, 255, 153, 29, 27, 160, 0, 5, 28, 172, 132, 2, 1, 167, 255, 127, 2, 172]
abbrev dktX2_ashamed_5 : List UInt8 := dkwX2_ashamed_5 ++ []
def dkwX2_ashamed_4 : List UInt8 := [157, 0, 14, 21, 5, 154, 0, 13, 21, 4, 28, 162, 0, 7, 4, 167, 0, 4, 3, 96, 62, 132, 4, 1]
abbrev dktX2_ashamed_4 : List UInt8 := dkwX2_ashamed_4 ++ dktX2_ashamed_5
def dkwX2_ashamed_3 : List UInt8 := [180, 0, 20, 28, 50, 180, 0, 124, 42, 180, 0, 20, 21, 4, 50, 180, 0, 124, 100, 54, 5, 29, 21, 5]
abbrev dktX2_ashamed_3 : List UInt8 := dkwX2_ashamed_3 ++ dktX2_ashamed_4
def dkwX2_ashamed_2 : List UInt8 := [180, 0, 20, 21, 4, 50, 180, 0, 152, 42, 180, 0, 20, 28, 50, 180, 0, 152, 100, 167, 0, 23, 42]
abbrev dktX2_ashamed_2 : List UInt8 := dkwX2_ashamed_2 ++ dktX2_ashamed_3
def dkwX2_ashamed_1 : List UInt8 := [42, 180, 0, 20, 21, 4, 50, 180, 0, 152, 42, 180, 0, 20, 28, 50, 180, 0, 152, 159, 0, 26, 42]
abbrev dktX2_ashamed_1 : List UInt8 := dkwX2_ashamed_1 ++ dktX2_ashamed_2
def dkwX2_ashamed_0 : List UInt8 := [3, 61, 28, 42, 180, 0, 45, 162, 0, 127, 3, 62, 3, 54, 4, 21, 4, 42, 180, 0, 45, 162, 0, 100]
abbrev dktX2_ashamed_0 : List UInt8 := dkwX2_ashamed_0 ++ dktX2_ashamed_1
theorem dksX2_ashamed_0 : cX2_ashamed.data.toList.drop 0 = dktX2_ashamed_0 := by decide +kernel
theorem dksX2_ashamed_1 : cX2_ashamed.data.toList.drop 24 = dktX2_ashamed_1 := dk_seg dksX2_ashamed_0 24 rfl rfl
theorem dksX2_ashamed_2 : cX2_ashamed.data.toList.drop 47 = dktX2_ashamed_2 := dk_seg dksX2_ashamed_1 23 rfl rfl
theorem dksX2_ashamed_3 : cX2_ashamed.data.toList.drop 70 = dktX2_ashamed_3 := dk_seg dksX2_ashamed_2 23 rfl rfl
theorem dksX2_ashamed_4 : cX2_ashamed.data.toList.drop 94 = dktX2_ashamed_4 := dk_seg dksX2_ashamed_3 24 rfl rfl
theorem dksX2_ashamed_5 : cX2_ashamed.data.toList.drop 118 = dktX2_ashamed_5 := dk_seg dksX2_ashamed_4 24 rfl rfl
theorem dX2_ashamed_0 : decode cX2_ashamed 0 = .ok (.iconst 0, 1) := dk_3 (dk_at dksX2_ashamed_0 0 rfl rfl)
theorem dX2_ashamed_1 : decode cX2_ashamed 1 = .ok (.istore_n 2, 1) := dk_61 (dk_at dksX2_ashamed_0 1 rfl rfl)
theorem dX2_ashamed_2 : decode cX2_ashamed 2 = .ok (.iload_n 2, 1) := dk_28 (dk_at dksX2_ashamed_0 2 rfl rfl)
theorem dX2_ashamed_3 : decode cX2_ashamed 3 = .ok (.aload_n 0, 1) := dk_42 (dk_at dksX2_ashamed_0 3 rfl rfl)
theorem dX2_ashamed_4 : decode cX2_ashamed 4 = .ok (.getfield 45, 3) := dk_180 0 45 (dk_at dksX2_ashamed_0 4 rfl rfl)
theorem dX2_ashamed_7 : decode cX2_ashamed 7 = .ok (.if_icmp .ge 127, 3) := dk_162 0 127 (dk_at dksX2_ashamed_0 7 rfl rfl)
theorem dX2_ashamed_10 : decode cX2_ashamed 10 = .ok (.iconst 0, 1) := dk_3 (dk_at dksX2_ashamed_0 10 rfl rfl)
theorem dX2_ashamed_11 : decode cX2_ashamed 11 = .ok (.istore_n 3, 1) := dk_62 (dk_at dksX2_ashamed_0 11 rfl rfl)
theorem dX2_ashamed_12 : decode cX2_ashamed 12 = .ok (.iconst 0, 1) := dk_3 (dk_at dksX2_ashamed_0 12 rfl rfl)
theorem dX2_ashamed_13 : decode cX2_ashamed 13 = .ok (.istore 4, 2) := dk_54 4 (dk_at dksX2_ashamed_0 13 rfl rfl)
theorem dX2_ashamed_15 : decode cX2_ashamed 15 = .ok (.iload 4, 2) := dk_21 4 (dk_at dksX2_ashamed_0 15 rfl rfl)
theorem dX2_ashamed_17 : decode cX2_ashamed 17 = .ok (.aload_n 0, 1) := dk_42 (dk_at dksX2_ashamed_0 17 rfl rfl)
theorem dX2_ashamed_18 : decode cX2_ashamed 18 = .ok (.getfield 45, 3) := dk_180 0 45 (dk_at dksX2_ashamed_0 18 rfl rfl)
theorem dX2_ashamed_21 : decode cX2_ashamed 21 = .ok (.if_icmp .ge 100, 3) := dk_162 0 100 (dk_at dksX2_ashamed_0 21 rfl rfl)
theorem dX2_ashamed_24 : decode cX2_ashamed 24 = .ok (.aload_n 0, 1) := dk_42 (dk_at dksX2_ashamed_1 0 rfl rfl)
theorem dX2_ashamed_25 : decode cX2_ashamed 25 = .ok (.getfield 20, 3) := dk_180 0 20 (dk_at dksX2_ashamed_1 1 rfl rfl)
theorem dX2_ashamed_28 : decode cX2_ashamed 28 = .ok (.iload 4, 2) := dk_21 4 (dk_at dksX2_ashamed_1 4 rfl rfl)
theorem dX2_ashamed_30 : decode cX2_ashamed 30 = .ok (.aaload, 1) := dk_50 (dk_at dksX2_ashamed_1 6 rfl rfl)
theorem dX2_ashamed_31 : decode cX2_ashamed 31 = .ok (.getfield 152, 3) := dk_180 0 152 (dk_at dksX2_ashamed_1 7 rfl rfl)
theorem dX2_ashamed_34 : decode cX2_ashamed 34 = .ok (.aload_n 0, 1) := dk_42 (dk_at dksX2_ashamed_1 10 rfl rfl)
theorem dX2_ashamed_35 : decode cX2_ashamed 35 = .ok (.getfield 20, 3) := dk_180 0 20 (dk_at dksX2_ashamed_1 11 rfl rfl)
theorem dX2_ashamed_38 : decode cX2_ashamed 38 = .ok (.iload_n 2, 1) := dk_28 (dk_at dksX2_ashamed_1 14 rfl rfl)
theorem dX2_ashamed_39 : decode cX2_ashamed 39 = .ok (.aaload, 1) := dk_50 (dk_at dksX2_ashamed_1 15 rfl rfl)
theorem dX2_ashamed_40 : decode cX2_ashamed 40 = .ok (.getfield 152, 3) := dk_180 0 152 (dk_at dksX2_ashamed_1 16 rfl rfl)
theorem dX2_ashamed_43 : decode cX2_ashamed 43 = .ok (.if_icmp .eq 26, 3) := dk_159 0 26 (dk_at dksX2_ashamed_1 19 rfl rfl)
theorem dX2_ashamed_46 : decode cX2_ashamed 46 = .ok (.aload_n 0, 1) := dk_42 (dk_at dksX2_ashamed_1 22 rfl rfl)
theorem dX2_ashamed_47 : decode cX2_ashamed 47 = .ok (.getfield 20, 3) := dk_180 0 20 (dk_at dksX2_ashamed_2 0 rfl rfl)
theorem dX2_ashamed_50 : decode cX2_ashamed 50 = .ok (.iload 4, 2) := dk_21 4 (dk_at dksX2_ashamed_2 3 rfl rfl)
theorem dX2_ashamed_52 : decode cX2_ashamed 52 = .ok (.aaload, 1) := dk_50 (dk_at dksX2_ashamed_2 5 rfl rfl)
theorem dX2_ashamed_53 : decode cX2_ashamed 53 = .ok (.getfield 152, 3) := dk_180 0 152 (dk_at dksX2_ashamed_2 6 rfl rfl)
theorem dX2_ashamed_56 : decode cX2_ashamed 56 = .ok (.aload_n 0, 1) := dk_42 (dk_at dksX2_ashamed_2 9 rfl rfl)
theorem dX2_ashamed_57 : decode cX2_ashamed 57 = .ok (.getfield 20, 3) := dk_180 0 20 (dk_at dksX2_ashamed_2 10 rfl rfl)
theorem dX2_ashamed_60 : decode cX2_ashamed 60 = .ok (.iload_n 2, 1) := dk_28 (dk_at dksX2_ashamed_2 13 rfl rfl)
theorem dX2_ashamed_61 : decode cX2_ashamed 61 = .ok (.aaload, 1) := dk_50 (dk_at dksX2_ashamed_2 14 rfl rfl)
theorem dX2_ashamed_62 : decode cX2_ashamed 62 = .ok (.getfield 152, 3) := dk_180 0 152 (dk_at dksX2_ashamed_2 15 rfl rfl)
theorem dX2_ashamed_65 : decode cX2_ashamed 65 = .ok (.isub, 1) := dk_100 (dk_at dksX2_ashamed_2 18 rfl rfl)
theorem dX2_ashamed_66 : decode cX2_ashamed 66 = .ok (.goto 23, 3) := dk_167 0 23 (dk_at dksX2_ashamed_2 19 rfl rfl)
theorem dX2_ashamed_69 : decode cX2_ashamed 69 = .ok (.aload_n 0, 1) := dk_42 (dk_at dksX2_ashamed_2 22 rfl rfl)
theorem dX2_ashamed_70 : decode cX2_ashamed 70 = .ok (.getfield 20, 3) := dk_180 0 20 (dk_at dksX2_ashamed_3 0 rfl rfl)
theorem dX2_ashamed_73 : decode cX2_ashamed 73 = .ok (.iload_n 2, 1) := dk_28 (dk_at dksX2_ashamed_3 3 rfl rfl)
theorem dX2_ashamed_74 : decode cX2_ashamed 74 = .ok (.aaload, 1) := dk_50 (dk_at dksX2_ashamed_3 4 rfl rfl)
theorem dX2_ashamed_75 : decode cX2_ashamed 75 = .ok (.getfield 124, 3) := dk_180 0 124 (dk_at dksX2_ashamed_3 5 rfl rfl)
theorem dX2_ashamed_78 : decode cX2_ashamed 78 = .ok (.aload_n 0, 1) := dk_42 (dk_at dksX2_ashamed_3 8 rfl rfl)
theorem dX2_ashamed_79 : decode cX2_ashamed 79 = .ok (.getfield 20, 3) := dk_180 0 20 (dk_at dksX2_ashamed_3 9 rfl rfl)
theorem dX2_ashamed_82 : decode cX2_ashamed 82 = .ok (.iload 4, 2) := dk_21 4 (dk_at dksX2_ashamed_3 12 rfl rfl)
theorem dX2_ashamed_84 : decode cX2_ashamed 84 = .ok (.aaload, 1) := dk_50 (dk_at dksX2_ashamed_3 14 rfl rfl)
theorem dX2_ashamed_85 : decode cX2_ashamed 85 = .ok (.getfield 124, 3) := dk_180 0 124 (dk_at dksX2_ashamed_3 15 rfl rfl)
theorem dX2_ashamed_88 : decode cX2_ashamed 88 = .ok (.isub, 1) := dk_100 (dk_at dksX2_ashamed_3 18 rfl rfl)
theorem dX2_ashamed_89 : decode cX2_ashamed 89 = .ok (.istore 5, 2) := dk_54 5 (dk_at dksX2_ashamed_3 19 rfl rfl)
theorem dX2_ashamed_91 : decode cX2_ashamed 91 = .ok (.iload_n 3, 1) := dk_29 (dk_at dksX2_ashamed_3 21 rfl rfl)
theorem dX2_ashamed_92 : decode cX2_ashamed 92 = .ok (.iload 5, 2) := dk_21 5 (dk_at dksX2_ashamed_3 22 rfl rfl)
theorem dX2_ashamed_94 : decode cX2_ashamed 94 = .ok (.ifCond .gt 14, 3) := dk_157 0 14 (dk_at dksX2_ashamed_4 0 rfl rfl)
theorem dX2_ashamed_97 : decode cX2_ashamed 97 = .ok (.iload 5, 2) := dk_21 5 (dk_at dksX2_ashamed_4 3 rfl rfl)
theorem dX2_ashamed_99 : decode cX2_ashamed 99 = .ok (.ifCond .ne 13, 3) := dk_154 0 13 (dk_at dksX2_ashamed_4 5 rfl rfl)
theorem dX2_ashamed_102 : decode cX2_ashamed 102 = .ok (.iload 4, 2) := dk_21 4 (dk_at dksX2_ashamed_4 8 rfl rfl)
theorem dX2_ashamed_104 : decode cX2_ashamed 104 = .ok (.iload_n 2, 1) := dk_28 (dk_at dksX2_ashamed_4 10 rfl rfl)
theorem dX2_ashamed_105 : decode cX2_ashamed 105 = .ok (.if_icmp .ge 7, 3) := dk_162 0 7 (dk_at dksX2_ashamed_4 11 rfl rfl)
theorem dX2_ashamed_108 : decode cX2_ashamed 108 = .ok (.iconst 1, 1) := dk_4 (dk_at dksX2_ashamed_4 14 rfl rfl)
theorem dX2_ashamed_109 : decode cX2_ashamed 109 = .ok (.goto 4, 3) := dk_167 0 4 (dk_at dksX2_ashamed_4 15 rfl rfl)
theorem dX2_ashamed_112 : decode cX2_ashamed 112 = .ok (.iconst 0, 1) := dk_3 (dk_at dksX2_ashamed_4 18 rfl rfl)
theorem dX2_ashamed_113 : decode cX2_ashamed 113 = .ok (.iadd, 1) := dk_96 (dk_at dksX2_ashamed_4 19 rfl rfl)
theorem dX2_ashamed_114 : decode cX2_ashamed 114 = .ok (.istore_n 3, 1) := dk_62 (dk_at dksX2_ashamed_4 20 rfl rfl)
theorem dX2_ashamed_115 : decode cX2_ashamed 115 = .ok (.iinc 4 1, 3) := dk_132 4 1 (dk_at dksX2_ashamed_4 21 rfl rfl)
theorem dX2_ashamed_118 : decode cX2_ashamed 118 = .ok (.goto (-103), 3) := dk_167 255 153 (dk_at dksX2_ashamed_5 0 rfl rfl)
theorem dX2_ashamed_121 : decode cX2_ashamed 121 = .ok (.iload_n 3, 1) := dk_29 (dk_at dksX2_ashamed_5 3 rfl rfl)
theorem dX2_ashamed_122 : decode cX2_ashamed 122 = .ok (.iload_n 1, 1) := dk_27 (dk_at dksX2_ashamed_5 4 rfl rfl)
theorem dX2_ashamed_123 : decode cX2_ashamed 123 = .ok (.if_icmp .ne 5, 3) := dk_160 0 5 (dk_at dksX2_ashamed_5 5 rfl rfl)
theorem dX2_ashamed_126 : decode cX2_ashamed 126 = .ok (.iload_n 2, 1) := dk_28 (dk_at dksX2_ashamed_5 8 rfl rfl)
theorem dX2_ashamed_127 : decode cX2_ashamed 127 = .ok (.ireturn, 1) := dk_172 (dk_at dksX2_ashamed_5 9 rfl rfl)
theorem dX2_ashamed_128 : decode cX2_ashamed 128 = .ok (.iinc 2 1, 3) := dk_132 2 1 (dk_at dksX2_ashamed_5 10 rfl rfl)
theorem dX2_ashamed_131 : decode cX2_ashamed 131 = .ok (.goto (-129), 3) := dk_167 255 127 (dk_at dksX2_ashamed_5 13 rfl rfl)
theorem dX2_ashamed_134 : decode cX2_ashamed 134 = .ok (.iconst (-1), 1) := dk_2 (dk_at dksX2_ashamed_5 16 rfl rfl)
theorem dX2_ashamed_135 : decode cX2_ashamed 135 = .ok (.ireturn, 1) := dk_172 (dk_at dksX2_ashamed_5 17 rfl rfl)
abbrev cX2_worst : ByteArray := prog_6_method_36_code
def yX2_worst : MethodName := ⟨RX2, "worst", "(I)I"⟩
def dkwX2_worst_5 : List UInt8 := [132, 2, 1, 167, 255, 138, 2, 172]
abbrev dktX2_worst_5 : List UInt8 := dkwX2_worst_5 ++ []
def dkwX2_worst_4 : List UInt8 := [162, 0, 7, 4, 167, 0, 4, 3, 96, 62, 132, 4, 1, 167, 255, 164, 29, 27, 160, 0, 5, 28, 172]
abbrev dktX2_worst_4 : List UInt8 := dkwX2_worst_4 ++ dktX2_worst_5
def dkwX2_worst_3 : List UInt8 := [100, 167, 0, 5, 21, 5, 54, 5, 29, 21, 5, 157, 0, 14, 21, 5, 154, 0, 13, 21, 4, 28]
abbrev dktX2_worst_3 : List UInt8 := dkwX2_worst_3 ++ dktX2_worst_4
def dkwX2_worst_2 : List UInt8 := [154, 0, 28, 42, 180, 0, 26, 21, 4, 50, 4, 182, 0, 94, 42, 180, 0, 26, 28, 50, 4, 182, 0, 94]
abbrev dktX2_worst_2 : List UInt8 := dkwX2_worst_2 ++ dktX2_worst_3
def dkwX2_worst_1 : List UInt8 := [42, 180, 0, 26, 21, 4, 50, 182, 0, 209, 42, 180, 0, 26, 28, 50, 182, 0, 209, 100, 54, 5, 21, 5]
abbrev dktX2_worst_1 : List UInt8 := dkwX2_worst_1 ++ dktX2_worst_2
def dkwX2_worst_0 : List UInt8 := [3, 61, 28, 42, 180, 0, 53, 162, 0, 116, 3, 62, 3, 54, 4, 21, 4, 42, 180, 0, 53, 162, 0, 89]
abbrev dktX2_worst_0 : List UInt8 := dkwX2_worst_0 ++ dktX2_worst_1
theorem dksX2_worst_0 : cX2_worst.data.toList.drop 0 = dktX2_worst_0 := by decide +kernel
theorem dksX2_worst_1 : cX2_worst.data.toList.drop 24 = dktX2_worst_1 := dk_seg dksX2_worst_0 24 rfl rfl
theorem dksX2_worst_2 : cX2_worst.data.toList.drop 48 = dktX2_worst_2 := dk_seg dksX2_worst_1 24 rfl rfl
theorem dksX2_worst_3 : cX2_worst.data.toList.drop 72 = dktX2_worst_3 := dk_seg dksX2_worst_2 24 rfl rfl
theorem dksX2_worst_4 : cX2_worst.data.toList.drop 94 = dktX2_worst_4 := dk_seg dksX2_worst_3 22 rfl rfl
theorem dksX2_worst_5 : cX2_worst.data.toList.drop 117 = dktX2_worst_5 := dk_seg dksX2_worst_4 23 rfl rfl
theorem dX2_worst_0 : decode cX2_worst 0 = .ok (.iconst 0, 1) := dk_3 (dk_at dksX2_worst_0 0 rfl rfl)
theorem dX2_worst_1 : decode cX2_worst 1 = .ok (.istore_n 2, 1) := dk_61 (dk_at dksX2_worst_0 1 rfl rfl)
theorem dX2_worst_2 : decode cX2_worst 2 = .ok (.iload_n 2, 1) := dk_28 (dk_at dksX2_worst_0 2 rfl rfl)
theorem dX2_worst_3 : decode cX2_worst 3 = .ok (.aload_n 0, 1) := dk_42 (dk_at dksX2_worst_0 3 rfl rfl)
theorem dX2_worst_4 : decode cX2_worst 4 = .ok (.getfield 53, 3) := dk_180 0 53 (dk_at dksX2_worst_0 4 rfl rfl)
theorem dX2_worst_7 : decode cX2_worst 7 = .ok (.if_icmp .ge 116, 3) := dk_162 0 116 (dk_at dksX2_worst_0 7 rfl rfl)
theorem dX2_worst_10 : decode cX2_worst 10 = .ok (.iconst 0, 1) := dk_3 (dk_at dksX2_worst_0 10 rfl rfl)
theorem dX2_worst_11 : decode cX2_worst 11 = .ok (.istore_n 3, 1) := dk_62 (dk_at dksX2_worst_0 11 rfl rfl)
theorem dX2_worst_12 : decode cX2_worst 12 = .ok (.iconst 0, 1) := dk_3 (dk_at dksX2_worst_0 12 rfl rfl)
theorem dX2_worst_13 : decode cX2_worst 13 = .ok (.istore 4, 2) := dk_54 4 (dk_at dksX2_worst_0 13 rfl rfl)
theorem dX2_worst_15 : decode cX2_worst 15 = .ok (.iload 4, 2) := dk_21 4 (dk_at dksX2_worst_0 15 rfl rfl)
theorem dX2_worst_17 : decode cX2_worst 17 = .ok (.aload_n 0, 1) := dk_42 (dk_at dksX2_worst_0 17 rfl rfl)
theorem dX2_worst_18 : decode cX2_worst 18 = .ok (.getfield 53, 3) := dk_180 0 53 (dk_at dksX2_worst_0 18 rfl rfl)
theorem dX2_worst_21 : decode cX2_worst 21 = .ok (.if_icmp .ge 89, 3) := dk_162 0 89 (dk_at dksX2_worst_0 21 rfl rfl)
theorem dX2_worst_24 : decode cX2_worst 24 = .ok (.aload_n 0, 1) := dk_42 (dk_at dksX2_worst_1 0 rfl rfl)
theorem dX2_worst_25 : decode cX2_worst 25 = .ok (.getfield 26, 3) := dk_180 0 26 (dk_at dksX2_worst_1 1 rfl rfl)
theorem dX2_worst_28 : decode cX2_worst 28 = .ok (.iload 4, 2) := dk_21 4 (dk_at dksX2_worst_1 4 rfl rfl)
theorem dX2_worst_30 : decode cX2_worst 30 = .ok (.aaload, 1) := dk_50 (dk_at dksX2_worst_1 6 rfl rfl)
theorem dX2_worst_31 : decode cX2_worst 31 = .ok (.invokevirtual 209, 3) := dk_182 0 209 (dk_at dksX2_worst_1 7 rfl rfl)
theorem dX2_worst_34 : decode cX2_worst 34 = .ok (.aload_n 0, 1) := dk_42 (dk_at dksX2_worst_1 10 rfl rfl)
theorem dX2_worst_35 : decode cX2_worst 35 = .ok (.getfield 26, 3) := dk_180 0 26 (dk_at dksX2_worst_1 11 rfl rfl)
theorem dX2_worst_38 : decode cX2_worst 38 = .ok (.iload_n 2, 1) := dk_28 (dk_at dksX2_worst_1 14 rfl rfl)
theorem dX2_worst_39 : decode cX2_worst 39 = .ok (.aaload, 1) := dk_50 (dk_at dksX2_worst_1 15 rfl rfl)
theorem dX2_worst_40 : decode cX2_worst 40 = .ok (.invokevirtual 209, 3) := dk_182 0 209 (dk_at dksX2_worst_1 16 rfl rfl)
theorem dX2_worst_43 : decode cX2_worst 43 = .ok (.isub, 1) := dk_100 (dk_at dksX2_worst_1 19 rfl rfl)
theorem dX2_worst_44 : decode cX2_worst 44 = .ok (.istore 5, 2) := dk_54 5 (dk_at dksX2_worst_1 20 rfl rfl)
theorem dX2_worst_46 : decode cX2_worst 46 = .ok (.iload 5, 2) := dk_21 5 (dk_at dksX2_worst_1 22 rfl rfl)
theorem dX2_worst_48 : decode cX2_worst 48 = .ok (.ifCond .ne 28, 3) := dk_154 0 28 (dk_at dksX2_worst_2 0 rfl rfl)
theorem dX2_worst_51 : decode cX2_worst 51 = .ok (.aload_n 0, 1) := dk_42 (dk_at dksX2_worst_2 3 rfl rfl)
theorem dX2_worst_52 : decode cX2_worst 52 = .ok (.getfield 26, 3) := dk_180 0 26 (dk_at dksX2_worst_2 4 rfl rfl)
theorem dX2_worst_55 : decode cX2_worst 55 = .ok (.iload 4, 2) := dk_21 4 (dk_at dksX2_worst_2 7 rfl rfl)
theorem dX2_worst_57 : decode cX2_worst 57 = .ok (.aaload, 1) := dk_50 (dk_at dksX2_worst_2 9 rfl rfl)
theorem dX2_worst_58 : decode cX2_worst 58 = .ok (.iconst 1, 1) := dk_4 (dk_at dksX2_worst_2 10 rfl rfl)
theorem dX2_worst_59 : decode cX2_worst 59 = .ok (.invokevirtual 94, 3) := dk_182 0 94 (dk_at dksX2_worst_2 11 rfl rfl)
theorem dX2_worst_62 : decode cX2_worst 62 = .ok (.aload_n 0, 1) := dk_42 (dk_at dksX2_worst_2 14 rfl rfl)
theorem dX2_worst_63 : decode cX2_worst 63 = .ok (.getfield 26, 3) := dk_180 0 26 (dk_at dksX2_worst_2 15 rfl rfl)
theorem dX2_worst_66 : decode cX2_worst 66 = .ok (.iload_n 2, 1) := dk_28 (dk_at dksX2_worst_2 18 rfl rfl)
theorem dX2_worst_67 : decode cX2_worst 67 = .ok (.aaload, 1) := dk_50 (dk_at dksX2_worst_2 19 rfl rfl)
theorem dX2_worst_68 : decode cX2_worst 68 = .ok (.iconst 1, 1) := dk_4 (dk_at dksX2_worst_2 20 rfl rfl)
theorem dX2_worst_69 : decode cX2_worst 69 = .ok (.invokevirtual 94, 3) := dk_182 0 94 (dk_at dksX2_worst_2 21 rfl rfl)
theorem dX2_worst_72 : decode cX2_worst 72 = .ok (.isub, 1) := dk_100 (dk_at dksX2_worst_3 0 rfl rfl)
theorem dX2_worst_73 : decode cX2_worst 73 = .ok (.goto 5, 3) := dk_167 0 5 (dk_at dksX2_worst_3 1 rfl rfl)
theorem dX2_worst_76 : decode cX2_worst 76 = .ok (.iload 5, 2) := dk_21 5 (dk_at dksX2_worst_3 4 rfl rfl)
theorem dX2_worst_78 : decode cX2_worst 78 = .ok (.istore 5, 2) := dk_54 5 (dk_at dksX2_worst_3 6 rfl rfl)
theorem dX2_worst_80 : decode cX2_worst 80 = .ok (.iload_n 3, 1) := dk_29 (dk_at dksX2_worst_3 8 rfl rfl)
theorem dX2_worst_81 : decode cX2_worst 81 = .ok (.iload 5, 2) := dk_21 5 (dk_at dksX2_worst_3 9 rfl rfl)
theorem dX2_worst_83 : decode cX2_worst 83 = .ok (.ifCond .gt 14, 3) := dk_157 0 14 (dk_at dksX2_worst_3 11 rfl rfl)
theorem dX2_worst_86 : decode cX2_worst 86 = .ok (.iload 5, 2) := dk_21 5 (dk_at dksX2_worst_3 14 rfl rfl)
theorem dX2_worst_88 : decode cX2_worst 88 = .ok (.ifCond .ne 13, 3) := dk_154 0 13 (dk_at dksX2_worst_3 16 rfl rfl)
theorem dX2_worst_91 : decode cX2_worst 91 = .ok (.iload 4, 2) := dk_21 4 (dk_at dksX2_worst_3 19 rfl rfl)
theorem dX2_worst_93 : decode cX2_worst 93 = .ok (.iload_n 2, 1) := dk_28 (dk_at dksX2_worst_3 21 rfl rfl)
theorem dX2_worst_94 : decode cX2_worst 94 = .ok (.if_icmp .ge 7, 3) := dk_162 0 7 (dk_at dksX2_worst_4 0 rfl rfl)
theorem dX2_worst_97 : decode cX2_worst 97 = .ok (.iconst 1, 1) := dk_4 (dk_at dksX2_worst_4 3 rfl rfl)
theorem dX2_worst_98 : decode cX2_worst 98 = .ok (.goto 4, 3) := dk_167 0 4 (dk_at dksX2_worst_4 4 rfl rfl)
theorem dX2_worst_101 : decode cX2_worst 101 = .ok (.iconst 0, 1) := dk_3 (dk_at dksX2_worst_4 7 rfl rfl)
theorem dX2_worst_102 : decode cX2_worst 102 = .ok (.iadd, 1) := dk_96 (dk_at dksX2_worst_4 8 rfl rfl)
theorem dX2_worst_103 : decode cX2_worst 103 = .ok (.istore_n 3, 1) := dk_62 (dk_at dksX2_worst_4 9 rfl rfl)
theorem dX2_worst_104 : decode cX2_worst 104 = .ok (.iinc 4 1, 3) := dk_132 4 1 (dk_at dksX2_worst_4 10 rfl rfl)
theorem dX2_worst_107 : decode cX2_worst 107 = .ok (.goto (-92), 3) := dk_167 255 164 (dk_at dksX2_worst_4 13 rfl rfl)
theorem dX2_worst_110 : decode cX2_worst 110 = .ok (.iload_n 3, 1) := dk_29 (dk_at dksX2_worst_4 16 rfl rfl)
theorem dX2_worst_111 : decode cX2_worst 111 = .ok (.iload_n 1, 1) := dk_27 (dk_at dksX2_worst_4 17 rfl rfl)
theorem dX2_worst_112 : decode cX2_worst 112 = .ok (.if_icmp .ne 5, 3) := dk_160 0 5 (dk_at dksX2_worst_4 18 rfl rfl)
theorem dX2_worst_115 : decode cX2_worst 115 = .ok (.iload_n 2, 1) := dk_28 (dk_at dksX2_worst_4 21 rfl rfl)
theorem dX2_worst_116 : decode cX2_worst 116 = .ok (.ireturn, 1) := dk_172 (dk_at dksX2_worst_4 22 rfl rfl)
theorem dX2_worst_117 : decode cX2_worst 117 = .ok (.iinc 2 1, 3) := dk_132 2 1 (dk_at dksX2_worst_5 0 rfl rfl)
theorem dX2_worst_120 : decode cX2_worst 120 = .ok (.goto (-118), 3) := dk_167 255 138 (dk_at dksX2_worst_5 3 rfl rfl)
theorem dX2_worst_123 : decode cX2_worst 123 = .ok (.iconst (-1), 1) := dk_2 (dk_at dksX2_worst_5 6 rfl rfl)
theorem dX2_worst_124 : decode cX2_worst 124 = .ok (.ireturn, 1) := dk_172 (dk_at dksX2_worst_5 7 rfl rfl)
abbrev cX2_writesHouse : ByteArray := prog_6_method_41_code
def yX2_writesHouse : MethodName := ⟨RX2, "writesHouse", "(Ljava/lang/StringBuilder;I)V"⟩
def dkwX2_writesHouse_2 : List UInt8 := [182, 0, 168, 153, 0, 10, 43, 16, 42, 182, 0, 221, 87, 177]
abbrev dktX2_writesHouse_2 : List UInt8 := dkwX2_writesHouse_2 ++ []
def dkwX2_writesHouse_1 : List UInt8 := [182, 0, 221, 42, 180, 0, 20, 28, 50, 180, 0, 152, 182, 0, 215, 87, 42, 180, 0, 20, 28, 50]
abbrev dktX2_writesHouse_1 : List UInt8 := dkwX2_writesHouse_1 ++ dktX2_writesHouse_2
def dkwX2_writesHouse_0 : List UInt8 := [43, 28, 182, 0, 215, 16, 36, 182, 0, 221, 42, 180, 0, 20, 28, 50, 180, 0, 124, 182, 0, 215, 16, 126]
abbrev dktX2_writesHouse_0 : List UInt8 := dkwX2_writesHouse_0 ++ dktX2_writesHouse_1
theorem dksX2_writesHouse_0 : cX2_writesHouse.data.toList.drop 0 = dktX2_writesHouse_0 := by decide +kernel
theorem dksX2_writesHouse_1 : cX2_writesHouse.data.toList.drop 24 = dktX2_writesHouse_1 := dk_seg dksX2_writesHouse_0 24 rfl rfl
theorem dksX2_writesHouse_2 : cX2_writesHouse.data.toList.drop 46 = dktX2_writesHouse_2 := dk_seg dksX2_writesHouse_1 22 rfl rfl
theorem dX2_writesHouse_0 : decode cX2_writesHouse 0 = .ok (.aload_n 1, 1) := dk_43 (dk_at dksX2_writesHouse_0 0 rfl rfl)
theorem dX2_writesHouse_1 : decode cX2_writesHouse 1 = .ok (.iload_n 2, 1) := dk_28 (dk_at dksX2_writesHouse_0 1 rfl rfl)
theorem dX2_writesHouse_2 : decode cX2_writesHouse 2 = .ok (.invokevirtual 215, 3) := dk_182 0 215 (dk_at dksX2_writesHouse_0 2 rfl rfl)
theorem dX2_writesHouse_5 : decode cX2_writesHouse 5 = .ok (.bipush 36, 2) := dk_16 36 (dk_at dksX2_writesHouse_0 5 rfl rfl)
theorem dX2_writesHouse_7 : decode cX2_writesHouse 7 = .ok (.invokevirtual 221, 3) := dk_182 0 221 (dk_at dksX2_writesHouse_0 7 rfl rfl)
theorem dX2_writesHouse_10 : decode cX2_writesHouse 10 = .ok (.aload_n 0, 1) := dk_42 (dk_at dksX2_writesHouse_0 10 rfl rfl)
theorem dX2_writesHouse_11 : decode cX2_writesHouse 11 = .ok (.getfield 20, 3) := dk_180 0 20 (dk_at dksX2_writesHouse_0 11 rfl rfl)
theorem dX2_writesHouse_14 : decode cX2_writesHouse 14 = .ok (.iload_n 2, 1) := dk_28 (dk_at dksX2_writesHouse_0 14 rfl rfl)
theorem dX2_writesHouse_15 : decode cX2_writesHouse 15 = .ok (.aaload, 1) := dk_50 (dk_at dksX2_writesHouse_0 15 rfl rfl)
theorem dX2_writesHouse_16 : decode cX2_writesHouse 16 = .ok (.getfield 124, 3) := dk_180 0 124 (dk_at dksX2_writesHouse_0 16 rfl rfl)
theorem dX2_writesHouse_19 : decode cX2_writesHouse 19 = .ok (.invokevirtual 215, 3) := dk_182 0 215 (dk_at dksX2_writesHouse_0 19 rfl rfl)
theorem dX2_writesHouse_22 : decode cX2_writesHouse 22 = .ok (.bipush 126, 2) := dk_16 126 (dk_at dksX2_writesHouse_0 22 rfl rfl)
theorem dX2_writesHouse_24 : decode cX2_writesHouse 24 = .ok (.invokevirtual 221, 3) := dk_182 0 221 (dk_at dksX2_writesHouse_1 0 rfl rfl)
theorem dX2_writesHouse_27 : decode cX2_writesHouse 27 = .ok (.aload_n 0, 1) := dk_42 (dk_at dksX2_writesHouse_1 3 rfl rfl)
theorem dX2_writesHouse_28 : decode cX2_writesHouse 28 = .ok (.getfield 20, 3) := dk_180 0 20 (dk_at dksX2_writesHouse_1 4 rfl rfl)
theorem dX2_writesHouse_31 : decode cX2_writesHouse 31 = .ok (.iload_n 2, 1) := dk_28 (dk_at dksX2_writesHouse_1 7 rfl rfl)
theorem dX2_writesHouse_32 : decode cX2_writesHouse 32 = .ok (.aaload, 1) := dk_50 (dk_at dksX2_writesHouse_1 8 rfl rfl)
theorem dX2_writesHouse_33 : decode cX2_writesHouse 33 = .ok (.getfield 152, 3) := dk_180 0 152 (dk_at dksX2_writesHouse_1 9 rfl rfl)
theorem dX2_writesHouse_36 : decode cX2_writesHouse 36 = .ok (.invokevirtual 215, 3) := dk_182 0 215 (dk_at dksX2_writesHouse_1 12 rfl rfl)
theorem dX2_writesHouse_39 : decode cX2_writesHouse 39 = .ok (.pop, 1) := dk_87 (dk_at dksX2_writesHouse_1 15 rfl rfl)
theorem dX2_writesHouse_40 : decode cX2_writesHouse 40 = .ok (.aload_n 0, 1) := dk_42 (dk_at dksX2_writesHouse_1 16 rfl rfl)
theorem dX2_writesHouse_41 : decode cX2_writesHouse 41 = .ok (.getfield 20, 3) := dk_180 0 20 (dk_at dksX2_writesHouse_1 17 rfl rfl)
theorem dX2_writesHouse_44 : decode cX2_writesHouse 44 = .ok (.iload_n 2, 1) := dk_28 (dk_at dksX2_writesHouse_1 20 rfl rfl)
theorem dX2_writesHouse_45 : decode cX2_writesHouse 45 = .ok (.aaload, 1) := dk_50 (dk_at dksX2_writesHouse_1 21 rfl rfl)
theorem dX2_writesHouse_46 : decode cX2_writesHouse 46 = .ok (.invokevirtual 168, 3) := dk_182 0 168 (dk_at dksX2_writesHouse_2 0 rfl rfl)
theorem dX2_writesHouse_49 : decode cX2_writesHouse 49 = .ok (.ifCond .eq 10, 3) := dk_153 0 10 (dk_at dksX2_writesHouse_2 3 rfl rfl)
theorem dX2_writesHouse_52 : decode cX2_writesHouse 52 = .ok (.aload_n 1, 1) := dk_43 (dk_at dksX2_writesHouse_2 6 rfl rfl)
theorem dX2_writesHouse_53 : decode cX2_writesHouse 53 = .ok (.bipush 42, 2) := dk_16 42 (dk_at dksX2_writesHouse_2 7 rfl rfl)
theorem dX2_writesHouse_55 : decode cX2_writesHouse 55 = .ok (.invokevirtual 221, 3) := dk_182 0 221 (dk_at dksX2_writesHouse_2 9 rfl rfl)
theorem dX2_writesHouse_58 : decode cX2_writesHouse 58 = .ok (.pop, 1) := dk_87 (dk_at dksX2_writesHouse_2 12 rfl rfl)
theorem dX2_writesHouse_59 : decode cX2_writesHouse 59 = .ok (.return_, 1) := dk_177 (dk_at dksX2_writesHouse_2 13 rfl rfl)
abbrev cX2_marked : ByteArray := prog_6_method_30_code
def yX2_marked : MethodName := ⟨RX2, "marked", "(I)I"⟩
def dkwX2_marked_1 : List UInt8 := [61, 132, 3, 1, 167, 255, 232, 28, 172]
abbrev dktX2_marked_1 : List UInt8 := dkwX2_marked_1 ++ []
def dkwX2_marked_0 : List UInt8 := [3, 61, 3, 62, 29, 42, 180, 0, 53, 162, 0, 22, 28, 42, 180, 0, 26, 29, 50, 27, 182, 0, 94, 96]
abbrev dktX2_marked_0 : List UInt8 := dkwX2_marked_0 ++ dktX2_marked_1
theorem dksX2_marked_0 : cX2_marked.data.toList.drop 0 = dktX2_marked_0 := by decide +kernel
theorem dksX2_marked_1 : cX2_marked.data.toList.drop 24 = dktX2_marked_1 := dk_seg dksX2_marked_0 24 rfl rfl
theorem dX2_marked_0 : decode cX2_marked 0 = .ok (.iconst 0, 1) := dk_3 (dk_at dksX2_marked_0 0 rfl rfl)
theorem dX2_marked_1 : decode cX2_marked 1 = .ok (.istore_n 2, 1) := dk_61 (dk_at dksX2_marked_0 1 rfl rfl)
theorem dX2_marked_2 : decode cX2_marked 2 = .ok (.iconst 0, 1) := dk_3 (dk_at dksX2_marked_0 2 rfl rfl)
theorem dX2_marked_3 : decode cX2_marked 3 = .ok (.istore_n 3, 1) := dk_62 (dk_at dksX2_marked_0 3 rfl rfl)
theorem dX2_marked_4 : decode cX2_marked 4 = .ok (.iload_n 3, 1) := dk_29 (dk_at dksX2_marked_0 4 rfl rfl)
theorem dX2_marked_5 : decode cX2_marked 5 = .ok (.aload_n 0, 1) := dk_42 (dk_at dksX2_marked_0 5 rfl rfl)
theorem dX2_marked_6 : decode cX2_marked 6 = .ok (.getfield 53, 3) := dk_180 0 53 (dk_at dksX2_marked_0 6 rfl rfl)
theorem dX2_marked_9 : decode cX2_marked 9 = .ok (.if_icmp .ge 22, 3) := dk_162 0 22 (dk_at dksX2_marked_0 9 rfl rfl)
theorem dX2_marked_12 : decode cX2_marked 12 = .ok (.iload_n 2, 1) := dk_28 (dk_at dksX2_marked_0 12 rfl rfl)
theorem dX2_marked_13 : decode cX2_marked 13 = .ok (.aload_n 0, 1) := dk_42 (dk_at dksX2_marked_0 13 rfl rfl)
theorem dX2_marked_14 : decode cX2_marked 14 = .ok (.getfield 26, 3) := dk_180 0 26 (dk_at dksX2_marked_0 14 rfl rfl)
theorem dX2_marked_17 : decode cX2_marked 17 = .ok (.iload_n 3, 1) := dk_29 (dk_at dksX2_marked_0 17 rfl rfl)
theorem dX2_marked_18 : decode cX2_marked 18 = .ok (.aaload, 1) := dk_50 (dk_at dksX2_marked_0 18 rfl rfl)
theorem dX2_marked_19 : decode cX2_marked 19 = .ok (.iload_n 1, 1) := dk_27 (dk_at dksX2_marked_0 19 rfl rfl)
theorem dX2_marked_20 : decode cX2_marked 20 = .ok (.invokevirtual 94, 3) := dk_182 0 94 (dk_at dksX2_marked_0 20 rfl rfl)
theorem dX2_marked_23 : decode cX2_marked 23 = .ok (.iadd, 1) := dk_96 (dk_at dksX2_marked_0 23 rfl rfl)
theorem dX2_marked_24 : decode cX2_marked 24 = .ok (.istore_n 2, 1) := dk_61 (dk_at dksX2_marked_1 0 rfl rfl)
theorem dX2_marked_25 : decode cX2_marked 25 = .ok (.iinc 3 1, 3) := dk_132 3 1 (dk_at dksX2_marked_1 1 rfl rfl)
theorem dX2_marked_28 : decode cX2_marked 28 = .ok (.goto (-24), 3) := dk_167 255 232 (dk_at dksX2_marked_1 4 rfl rfl)
theorem dX2_marked_31 : decode cX2_marked 31 = .ok (.iload_n 2, 1) := dk_28 (dk_at dksX2_marked_1 7 rfl rfl)
theorem dX2_marked_32 : decode cX2_marked 32 = .ok (.ireturn, 1) := dk_172 (dk_at dksX2_marked_1 8 rfl rfl)
abbrev cX2_allCoins : ByteArray := prog_6_method_37_code
def yX2_allCoins : MethodName := ⟨RX2, "allCoins", "()I"⟩
def dkwX2_allCoins_1 : List UInt8 := [132, 2, 1, 167, 255, 233, 27, 172]
abbrev dktX2_allCoins_1 : List UInt8 := dkwX2_allCoins_1 ++ []
def dkwX2_allCoins_0 : List UInt8 := [3, 60, 3, 61, 28, 42, 180, 0, 45, 162, 0, 21, 27, 42, 180, 0, 20, 28, 50, 180, 0, 124, 96, 60]
abbrev dktX2_allCoins_0 : List UInt8 := dkwX2_allCoins_0 ++ dktX2_allCoins_1
theorem dksX2_allCoins_0 : cX2_allCoins.data.toList.drop 0 = dktX2_allCoins_0 := by decide +kernel
theorem dksX2_allCoins_1 : cX2_allCoins.data.toList.drop 24 = dktX2_allCoins_1 := dk_seg dksX2_allCoins_0 24 rfl rfl
theorem dX2_allCoins_0 : decode cX2_allCoins 0 = .ok (.iconst 0, 1) := dk_3 (dk_at dksX2_allCoins_0 0 rfl rfl)
theorem dX2_allCoins_1 : decode cX2_allCoins 1 = .ok (.istore_n 1, 1) := dk_60 (dk_at dksX2_allCoins_0 1 rfl rfl)
theorem dX2_allCoins_2 : decode cX2_allCoins 2 = .ok (.iconst 0, 1) := dk_3 (dk_at dksX2_allCoins_0 2 rfl rfl)
theorem dX2_allCoins_3 : decode cX2_allCoins 3 = .ok (.istore_n 2, 1) := dk_61 (dk_at dksX2_allCoins_0 3 rfl rfl)
theorem dX2_allCoins_4 : decode cX2_allCoins 4 = .ok (.iload_n 2, 1) := dk_28 (dk_at dksX2_allCoins_0 4 rfl rfl)
theorem dX2_allCoins_5 : decode cX2_allCoins 5 = .ok (.aload_n 0, 1) := dk_42 (dk_at dksX2_allCoins_0 5 rfl rfl)
theorem dX2_allCoins_6 : decode cX2_allCoins 6 = .ok (.getfield 45, 3) := dk_180 0 45 (dk_at dksX2_allCoins_0 6 rfl rfl)
theorem dX2_allCoins_9 : decode cX2_allCoins 9 = .ok (.if_icmp .ge 21, 3) := dk_162 0 21 (dk_at dksX2_allCoins_0 9 rfl rfl)
theorem dX2_allCoins_12 : decode cX2_allCoins 12 = .ok (.iload_n 1, 1) := dk_27 (dk_at dksX2_allCoins_0 12 rfl rfl)
theorem dX2_allCoins_13 : decode cX2_allCoins 13 = .ok (.aload_n 0, 1) := dk_42 (dk_at dksX2_allCoins_0 13 rfl rfl)
theorem dX2_allCoins_14 : decode cX2_allCoins 14 = .ok (.getfield 20, 3) := dk_180 0 20 (dk_at dksX2_allCoins_0 14 rfl rfl)
theorem dX2_allCoins_17 : decode cX2_allCoins 17 = .ok (.iload_n 2, 1) := dk_28 (dk_at dksX2_allCoins_0 17 rfl rfl)
theorem dX2_allCoins_18 : decode cX2_allCoins 18 = .ok (.aaload, 1) := dk_50 (dk_at dksX2_allCoins_0 18 rfl rfl)
theorem dX2_allCoins_19 : decode cX2_allCoins 19 = .ok (.getfield 124, 3) := dk_180 0 124 (dk_at dksX2_allCoins_0 19 rfl rfl)
theorem dX2_allCoins_22 : decode cX2_allCoins 22 = .ok (.iadd, 1) := dk_96 (dk_at dksX2_allCoins_0 22 rfl rfl)
theorem dX2_allCoins_23 : decode cX2_allCoins 23 = .ok (.istore_n 1, 1) := dk_60 (dk_at dksX2_allCoins_0 23 rfl rfl)
theorem dX2_allCoins_24 : decode cX2_allCoins 24 = .ok (.iinc 2 1, 3) := dk_132 2 1 (dk_at dksX2_allCoins_1 0 rfl rfl)
theorem dX2_allCoins_27 : decode cX2_allCoins 27 = .ok (.goto (-23), 3) := dk_167 255 233 (dk_at dksX2_allCoins_1 3 rfl rfl)
theorem dX2_allCoins_30 : decode cX2_allCoins 30 = .ok (.iload_n 1, 1) := dk_27 (dk_at dksX2_allCoins_1 6 rfl rfl)
theorem dX2_allCoins_31 : decode cX2_allCoins 31 = .ok (.ireturn, 1) := dk_172 (dk_at dksX2_allCoins_1 7 rfl rfl)
abbrev cX2_allShame : ByteArray := prog_6_method_38_code
def yX2_allShame : MethodName := ⟨RX2, "allShame", "()I"⟩
def dkwX2_allShame_1 : List UInt8 := [132, 2, 1, 167, 255, 233, 27, 172]
abbrev dktX2_allShame_1 : List UInt8 := dkwX2_allShame_1 ++ []
def dkwX2_allShame_0 : List UInt8 := [3, 60, 3, 61, 28, 42, 180, 0, 45, 162, 0, 21, 27, 42, 180, 0, 20, 28, 50, 180, 0, 152, 96, 60]
abbrev dktX2_allShame_0 : List UInt8 := dkwX2_allShame_0 ++ dktX2_allShame_1
theorem dksX2_allShame_0 : cX2_allShame.data.toList.drop 0 = dktX2_allShame_0 := by decide +kernel
theorem dksX2_allShame_1 : cX2_allShame.data.toList.drop 24 = dktX2_allShame_1 := dk_seg dksX2_allShame_0 24 rfl rfl
theorem dX2_allShame_0 : decode cX2_allShame 0 = .ok (.iconst 0, 1) := dk_3 (dk_at dksX2_allShame_0 0 rfl rfl)
theorem dX2_allShame_1 : decode cX2_allShame 1 = .ok (.istore_n 1, 1) := dk_60 (dk_at dksX2_allShame_0 1 rfl rfl)
theorem dX2_allShame_2 : decode cX2_allShame 2 = .ok (.iconst 0, 1) := dk_3 (dk_at dksX2_allShame_0 2 rfl rfl)
theorem dX2_allShame_3 : decode cX2_allShame 3 = .ok (.istore_n 2, 1) := dk_61 (dk_at dksX2_allShame_0 3 rfl rfl)
theorem dX2_allShame_4 : decode cX2_allShame 4 = .ok (.iload_n 2, 1) := dk_28 (dk_at dksX2_allShame_0 4 rfl rfl)
theorem dX2_allShame_5 : decode cX2_allShame 5 = .ok (.aload_n 0, 1) := dk_42 (dk_at dksX2_allShame_0 5 rfl rfl)
theorem dX2_allShame_6 : decode cX2_allShame 6 = .ok (.getfield 45, 3) := dk_180 0 45 (dk_at dksX2_allShame_0 6 rfl rfl)
theorem dX2_allShame_9 : decode cX2_allShame 9 = .ok (.if_icmp .ge 21, 3) := dk_162 0 21 (dk_at dksX2_allShame_0 9 rfl rfl)
theorem dX2_allShame_12 : decode cX2_allShame 12 = .ok (.iload_n 1, 1) := dk_27 (dk_at dksX2_allShame_0 12 rfl rfl)
theorem dX2_allShame_13 : decode cX2_allShame 13 = .ok (.aload_n 0, 1) := dk_42 (dk_at dksX2_allShame_0 13 rfl rfl)
theorem dX2_allShame_14 : decode cX2_allShame 14 = .ok (.getfield 20, 3) := dk_180 0 20 (dk_at dksX2_allShame_0 14 rfl rfl)
theorem dX2_allShame_17 : decode cX2_allShame 17 = .ok (.iload_n 2, 1) := dk_28 (dk_at dksX2_allShame_0 17 rfl rfl)
theorem dX2_allShame_18 : decode cX2_allShame 18 = .ok (.aaload, 1) := dk_50 (dk_at dksX2_allShame_0 18 rfl rfl)
theorem dX2_allShame_19 : decode cX2_allShame 19 = .ok (.getfield 152, 3) := dk_180 0 152 (dk_at dksX2_allShame_0 19 rfl rfl)
theorem dX2_allShame_22 : decode cX2_allShame 22 = .ok (.iadd, 1) := dk_96 (dk_at dksX2_allShame_0 22 rfl rfl)
theorem dX2_allShame_23 : decode cX2_allShame 23 = .ok (.istore_n 1, 1) := dk_60 (dk_at dksX2_allShame_0 23 rfl rfl)
theorem dX2_allShame_24 : decode cX2_allShame 24 = .ok (.iinc 2 1, 3) := dk_132 2 1 (dk_at dksX2_allShame_1 0 rfl rfl)
theorem dX2_allShame_27 : decode cX2_allShame 27 = .ok (.goto (-23), 3) := dk_167 255 233 (dk_at dksX2_allShame_1 3 rfl rfl)
theorem dX2_allShame_30 : decode cX2_allShame 30 = .ok (.iload_n 1, 1) := dk_27 (dk_at dksX2_allShame_1 6 rfl rfl)
theorem dX2_allShame_31 : decode cX2_allShame 31 = .ok (.ireturn, 1) := dk_172 (dk_at dksX2_allShame_1 7 rfl rfl)
abbrev cX2_allLetters : ByteArray := prog_6_method_39_code
def yX2_allLetters : MethodName := ⟨RX2, "allLetters", "()I"⟩
def dkwX2_allLetters_1 : List UInt8 := [132, 2, 1, 167, 255, 233, 27, 172]
abbrev dktX2_allLetters_1 : List UInt8 := dkwX2_allLetters_1 ++ []
def dkwX2_allLetters_0 : List UInt8 := [3, 60, 3, 61, 28, 42, 180, 0, 53, 162, 0, 21, 27, 42, 180, 0, 26, 28, 50, 180, 0, 88, 96, 60]
abbrev dktX2_allLetters_0 : List UInt8 := dkwX2_allLetters_0 ++ dktX2_allLetters_1
theorem dksX2_allLetters_0 : cX2_allLetters.data.toList.drop 0 = dktX2_allLetters_0 := by decide +kernel
theorem dksX2_allLetters_1 : cX2_allLetters.data.toList.drop 24 = dktX2_allLetters_1 := dk_seg dksX2_allLetters_0 24 rfl rfl
theorem dX2_allLetters_0 : decode cX2_allLetters 0 = .ok (.iconst 0, 1) := dk_3 (dk_at dksX2_allLetters_0 0 rfl rfl)
theorem dX2_allLetters_1 : decode cX2_allLetters 1 = .ok (.istore_n 1, 1) := dk_60 (dk_at dksX2_allLetters_0 1 rfl rfl)
theorem dX2_allLetters_2 : decode cX2_allLetters 2 = .ok (.iconst 0, 1) := dk_3 (dk_at dksX2_allLetters_0 2 rfl rfl)
theorem dX2_allLetters_3 : decode cX2_allLetters 3 = .ok (.istore_n 2, 1) := dk_61 (dk_at dksX2_allLetters_0 3 rfl rfl)
theorem dX2_allLetters_4 : decode cX2_allLetters 4 = .ok (.iload_n 2, 1) := dk_28 (dk_at dksX2_allLetters_0 4 rfl rfl)
theorem dX2_allLetters_5 : decode cX2_allLetters 5 = .ok (.aload_n 0, 1) := dk_42 (dk_at dksX2_allLetters_0 5 rfl rfl)
theorem dX2_allLetters_6 : decode cX2_allLetters 6 = .ok (.getfield 53, 3) := dk_180 0 53 (dk_at dksX2_allLetters_0 6 rfl rfl)
theorem dX2_allLetters_9 : decode cX2_allLetters 9 = .ok (.if_icmp .ge 21, 3) := dk_162 0 21 (dk_at dksX2_allLetters_0 9 rfl rfl)
theorem dX2_allLetters_12 : decode cX2_allLetters 12 = .ok (.iload_n 1, 1) := dk_27 (dk_at dksX2_allLetters_0 12 rfl rfl)
theorem dX2_allLetters_13 : decode cX2_allLetters 13 = .ok (.aload_n 0, 1) := dk_42 (dk_at dksX2_allLetters_0 13 rfl rfl)
theorem dX2_allLetters_14 : decode cX2_allLetters 14 = .ok (.getfield 26, 3) := dk_180 0 26 (dk_at dksX2_allLetters_0 14 rfl rfl)
theorem dX2_allLetters_17 : decode cX2_allLetters 17 = .ok (.iload_n 2, 1) := dk_28 (dk_at dksX2_allLetters_0 17 rfl rfl)
theorem dX2_allLetters_18 : decode cX2_allLetters 18 = .ok (.aaload, 1) := dk_50 (dk_at dksX2_allLetters_0 18 rfl rfl)
theorem dX2_allLetters_19 : decode cX2_allLetters 19 = .ok (.getfield 88, 3) := dk_180 0 88 (dk_at dksX2_allLetters_0 19 rfl rfl)
theorem dX2_allLetters_22 : decode cX2_allLetters 22 = .ok (.iadd, 1) := dk_96 (dk_at dksX2_allLetters_0 22 rfl rfl)
theorem dX2_allLetters_23 : decode cX2_allLetters 23 = .ok (.istore_n 1, 1) := dk_60 (dk_at dksX2_allLetters_0 23 rfl rfl)
theorem dX2_allLetters_24 : decode cX2_allLetters 24 = .ok (.iinc 2 1, 3) := dk_132 2 1 (dk_at dksX2_allLetters_1 0 rfl rfl)
theorem dX2_allLetters_27 : decode cX2_allLetters 27 = .ok (.goto (-23), 3) := dk_167 255 233 (dk_at dksX2_allLetters_1 3 rfl rfl)
theorem dX2_allLetters_30 : decode cX2_allLetters 30 = .ok (.iload_n 1, 1) := dk_27 (dk_at dksX2_allLetters_1 6 rfl rfl)
theorem dX2_allLetters_31 : decode cX2_allLetters 31 = .ok (.ireturn, 1) := dk_172 (dk_at dksX2_allLetters_1 7 rfl rfl)
def fX2 : List ZE := [(13, 1, 0, .array (.object "ErrataPress$Rule"), 2), (20, 1, 2, .array (.object "ErrataPress$House"), 2), (26, 1, 4, .array (.object "ErrataPress$Sheet"), 2), (30, 1, 6, .array .int, 2), (34, 1, 7, .array .int, 2), (39, 1, 8, .array (.object "ErrataPress$Laugh"), 2), (45, 1, 1, .int, 0), (53, 1, 3, .int, 0), (59, 1, 5, .int, 0), (62, 1, 9, .int, 0), (65, 1, 10, .int, 0), (68, 1, 11, .int, 0), (71, 1, 12, .int, 0), (74, 1, 13, .int, 0), (77, 1, 14, .int, 0), (88, 3, 1, .int, 0), (91, 3, 0, .int, 0), (101, 3, 4, .array .int, 1), (124, 2, 0, .int, 0), (132, 3, 3, .array .int, 1), (152, 2, 1, .int, 0), (155, 2, 2, .int, 0), (162, 3, 2, .array .int, 1)]
theorem fokX2 : zFok RX2 fX2 := List.forall_mem_cons.mpr ⟨⟨by decide, by decide, by decide +kernel, Or.inr q187, by decide, by decide +kernel⟩, List.forall_mem_cons.mpr ⟨⟨by decide, by decide, by decide +kernel, Or.inr q190, by decide, by decide +kernel⟩, List.forall_mem_cons.mpr ⟨⟨by decide, by decide, by decide +kernel, Or.inr q194, by decide, by decide +kernel⟩, List.forall_mem_cons.mpr ⟨⟨by decide, by decide, by decide +kernel, Or.inr q198, by decide, by decide +kernel⟩, List.forall_mem_cons.mpr ⟨⟨by decide, by decide, by decide +kernel, Or.inr q199, by decide, by decide +kernel⟩, List.forall_mem_cons.mpr ⟨⟨by decide, by decide, by decide +kernel, Or.inr q200, by decide, by decide +kernel⟩, List.forall_mem_cons.mpr ⟨⟨by decide, by decide, by decide +kernel, Or.inr q188, by decide, by decide +kernel⟩, List.forall_mem_cons.mpr ⟨⟨by decide, by decide, by decide +kernel, Or.inr q192, by decide, by decide +kernel⟩, List.forall_mem_cons.mpr ⟨⟨by decide, by decide, by decide +kernel, Or.inr q196, by decide, by decide +kernel⟩, List.forall_mem_cons.mpr ⟨⟨by decide, by decide, by decide +kernel, Or.inr q201, by decide, by decide +kernel⟩, List.forall_mem_cons.mpr ⟨⟨by decide, by decide, by decide +kernel, Or.inr q203, by decide, by decide +kernel⟩, List.forall_mem_cons.mpr ⟨⟨by decide, by decide, by decide +kernel, Or.inr q205, by decide, by decide +kernel⟩, List.forall_mem_cons.mpr ⟨⟨by decide, by decide, by decide +kernel, Or.inr q207, by decide, by decide +kernel⟩, List.forall_mem_cons.mpr ⟨⟨by decide, by decide, by decide +kernel, Or.inr q209, by decide, by decide +kernel⟩, List.forall_mem_cons.mpr ⟨⟨by decide, by decide, by decide +kernel, Or.inr q211, by decide, by decide +kernel⟩, List.forall_mem_cons.mpr ⟨⟨by decide, by decide, by decide +kernel, Or.inl ⟨_, q165, by decide⟩, by decide, by decide +kernel⟩, List.forall_mem_cons.mpr ⟨⟨by decide, by decide, by decide +kernel, Or.inl ⟨_, q162, by decide⟩, by decide, by decide +kernel⟩, List.forall_mem_cons.mpr ⟨⟨by decide, by decide, by decide +kernel, Or.inl ⟨_, q174, by decide⟩, by decide, by decide +kernel⟩, List.forall_mem_cons.mpr ⟨⟨by decide, by decide, by decide +kernel, Or.inl ⟨_, q140, by decide⟩, by decide, by decide +kernel⟩, List.forall_mem_cons.mpr ⟨⟨by decide, by decide, by decide +kernel, Or.inl ⟨_, q171, by decide⟩, by decide, by decide +kernel⟩, List.forall_mem_cons.mpr ⟨⟨by decide, by decide, by decide +kernel, Or.inl ⟨_, q143, by decide⟩, by decide, by decide +kernel⟩, List.forall_mem_cons.mpr ⟨⟨by decide, by decide, by decide +kernel, Or.inl ⟨_, q146, by decide⟩, by decide, by decide +kernel⟩, List.forall_mem_cons.mpr ⟨⟨by decide, by decide, by decide +kernel, Or.inl ⟨_, q168, by decide⟩, by decide, by decide +kernel⟩, fun _ h => by cases h⟩⟩⟩⟩⟩⟩⟩⟩⟩⟩⟩⟩⟩⟩⟩⟩⟩⟩⟩⟩⟩⟩⟩
abbrev kX2_init : ZK := (RX2, cX2_init, 2, (Option.none : Option Jvm.ClassFile.FieldType), [], true, fX2)
abbrev tX2_init (g : ZG) (args : List Value) (M : ZM) (d c s : Nat) (Q : ZQ) : Prop := Ct g yX2_init (ws_ yX2_init cX2_init 2 (Option.none : Option Jvm.ClassFile.FieldType)) args M d c s Q
abbrev nX2_init : Nat := 8
theorem mX2_init : zMok yX2_init 0 2 := ⟨⟨by decide +kernel, by decide +kernel, by decide +kernel⟩, by decide⟩
theorem eX2_init {g : ZG} {Q : ZQ} {d cN sN : Nat} {M : ZM} {a0 : Nat} (hV : zV g) (h : Z g kX2_init Q d cN sN M 0 [some (.ref a0), none] []) : tX2_init g [.ref a0] M d cN sN Q := Ct.of (K := kX2_init) rfl (by decide +kernel) hV fokX2 rfl (fun h => rfl) (fun v hv => by simp only [List.mem_cons, List.not_mem_nil, or_false] at hv; rcases hv with rfl <;> first | rfl | assumption) (Nat.le_of_ble_eq_true rfl) h
theorem sX2_init_0 {g : ZG} {Q : ZQ} {d cN sN : Nat} {M : ZM} {l0 : Nat} {o1 : Option Value}  (kk : Z g kX2_init Q d cN sN M 1 [some (.ref l0), o1] [.ref l0]) : Z g kX2_init Q d cN sN M 0 [some (.ref l0), o1] [] := by
  refine zi_aload_n dX2_init_0 rfl zrf_r ?_
  exact kk
theorem sX2_init_4 {g : ZG} {Q : ZQ} {d cN sN : Nat} {M : ZM} {l0 : Nat} {o1 : Option Value}  (kk : Z g kX2_init Q d cN sN M 8 [some (.ref l0), o1] [.int 2, .int 2, .int 1, .ref l0]) : Z g kX2_init Q d cN sN M 4 [some (.ref l0), o1] [] := by
  refine zi_aload_n dX2_init_4 rfl zrf_r ?_
  refine zi_iconst dX2_init_5 (by decide +kernel : Int32.ofInt (1) = (1 : Int32)) ?_
  refine zi_iconst dX2_init_6 (by decide +kernel : Int32.ofInt (2) = (2 : Int32)) ?_
  refine zi_iconst dX2_init_7 (by decide +kernel : Int32.ofInt (2) = (2 : Int32)) ?_
  exact kk
theorem sX2_init_11 {g : ZG} {Q : ZQ} {d cN sN : Nat} {M : ZM} {t0 : Nat} {t1 : Nat} {fs1 : List Value} {l0 : Nat} {o1 : Option Value} (h2 : M.1 t0 = some (.inr (1, fs1))) (h3 : 0 < (fs1).length) (kk : Z g kX2_init Q d cN sN (zup M t0 (.inr (1, (fs1).set 0 (.ref t1)))) 16 [some (.ref l0), o1] [.int 4, .ref l0]) : Z g kX2_init Q d cN sN M 11 [some (.ref l0), o1] [.ref t1, .ref t0] := by
  refine zi_putfield dX2_init_11 rfl h2 h3 (zfit_a zrf_r) (Or.inr ⟨rfl, rfl⟩) ?_
  refine zi_aload_n dX2_init_14 rfl zrf_r ?_
  refine zi_iconst dX2_init_15 (by decide +kernel : Int32.ofInt (4) = (4 : Int32)) ?_
  exact kk
theorem sX2_init_19 {g : ZG} {Q : ZQ} {d cN sN : Nat} {M : ZM} {t0 : Nat} {t1 : Nat} {fs1 : List Value} {l0 : Nat} {o1 : Option Value} (h2 : M.1 t0 = some (.inr (1, fs1))) (h3 : 2 < (fs1).length) (kk : Z g kX2_init Q d cN sN (zup M t0 (.inr (1, (fs1).set 2 (.ref t1)))) 25 [some (.ref l0), o1] [.int 8, .ref l0]) : Z g kX2_init Q d cN sN M 19 [some (.ref l0), o1] [.ref t1, .ref t0] := by
  refine zi_putfield dX2_init_19 rfl h2 h3 (zfit_a zrf_r) (Or.inr ⟨rfl, rfl⟩) ?_
  refine zi_aload_n dX2_init_22 rfl zrf_r ?_
  refine zi_bipush dX2_init_23 (by decide +kernel : (Int8.ofInt (8)).toInt32 = (8 : Int32)) ?_
  exact kk
theorem sX2_init_28 {g : ZG} {Q : ZQ} {d cN sN : Nat} {M : ZM} {t0 : Nat} {t1 : Nat} {fs1 : List Value} {l0 : Nat} {o1 : Option Value} (h2 : M.1 t0 = some (.inr (1, fs1))) (h3 : 4 < (fs1).length) (kk : Z g kX2_init Q d cN sN (zup M t0 (.inr (1, (fs1).set 4 (.ref t1)))) 33 [some (.ref l0), o1] [.int 5, .ref l0]) : Z g kX2_init Q d cN sN M 28 [some (.ref l0), o1] [.ref t1, .ref t0] := by
  refine zi_putfield dX2_init_28 rfl h2 h3 (zfit_a zrf_r) (Or.inr ⟨rfl, rfl⟩) ?_
  refine zi_aload_n dX2_init_31 rfl zrf_r ?_
  refine zi_iconst dX2_init_32 (by decide +kernel : Int32.ofInt (5) = (5 : Int32)) ?_
  exact kk
theorem sX2_init_35 {g : ZG} {Q : ZQ} {d cN sN : Nat} {M : ZM} {t0 : Nat} {t1 : Nat} {fs1 : List Value} {l0 : Nat} {o1 : Option Value} (h2 : M.1 t0 = some (.inr (1, fs1))) (h3 : 6 < (fs1).length) (kk : Z g kX2_init Q d cN sN (zup M t0 (.inr (1, (fs1).set 6 (.ref t1)))) 40 [some (.ref l0), o1] [.int 5, .ref l0]) : Z g kX2_init Q d cN sN M 35 [some (.ref l0), o1] [.ref t1, .ref t0] := by
  refine zi_putfield dX2_init_35 rfl h2 h3 (zfit_a zrf_r) (Or.inr ⟨rfl, rfl⟩) ?_
  refine zi_aload_n dX2_init_38 rfl zrf_r ?_
  refine zi_iconst dX2_init_39 (by decide +kernel : Int32.ofInt (5) = (5 : Int32)) ?_
  exact kk
theorem sX2_init_42 {g : ZG} {Q : ZQ} {d cN sN : Nat} {M : ZM} {t0 : Nat} {t1 : Nat} {fs1 : List Value} {l0 : Nat} {o1 : Option Value} (h2 : M.1 t0 = some (.inr (1, fs1))) (h3 : 7 < (fs1).length) (kk : Z g kX2_init Q d cN sN (zup M t0 (.inr (1, (fs1).set 7 (.ref t1)))) 47 [some (.ref l0), o1] [.int 5, .ref l0]) : Z g kX2_init Q d cN sN M 42 [some (.ref l0), o1] [.ref t1, .ref t0] := by
  refine zi_putfield dX2_init_42 rfl h2 h3 (zfit_a zrf_r) (Or.inr ⟨rfl, rfl⟩) ?_
  refine zi_aload_n dX2_init_45 rfl zrf_r ?_
  refine zi_iconst dX2_init_46 (by decide +kernel : Int32.ofInt (5) = (5 : Int32)) ?_
  exact kk
theorem sX2_init_50 {g : ZG} {Q : ZQ} {d cN sN : Nat} {M : ZM} {t0 : Nat} {t1 : Nat} {fs1 : List Value} {o0 o1 : Option Value} (h2 : M.1 t0 = some (.inr (1, fs1))) (h3 : 8 < (fs1).length) (kk : Z g kX2_init Q d cN sN (zup M t0 (.inr (1, (fs1).set 8 (.ref t1)))) 55 [o0, some (.int 0)] []) : Z g kX2_init Q d cN sN M 50 [o0, o1] [.ref t1, .ref t0] := by
  refine zi_putfield dX2_init_50 rfl h2 h3 (zfit_a zrf_r) (Or.inr ⟨rfl, rfl⟩) ?_
  refine zi_iconst dX2_init_53 (by decide +kernel : Int32.ofInt (0) = (0 : Int32)) ?_
  refine zi_istore_n dX2_init_54 (Nat.le_of_ble_eq_true rfl) ?_
  exact kk
theorem sX2_init_55 {g : ZG} {Q : ZQ} {d cN sN : Nat} {M : ZM} {l1 : Int32} {o0 : Option Value}  (kt : (4 : Int32) ≤ (l1 : Int32) → Z g kX2_init Q d cN sN M 79 [o0, some (.int l1)] []) (kf : ¬ (4 : Int32) ≤ (l1 : Int32) → Z g kX2_init Q d cN sN M 60 [o0, some (.int l1)] []) : Z g kX2_init Q d cN sN M 55 [o0, some (.int l1)] [] := by
  refine zi_iload_n dX2_init_55 rfl ?_
  refine zi_iconst dX2_init_56 (by decide +kernel : Int32.ofInt (4) = (4 : Int32)) ?_
  exact zi_icmp_ge (tgt := 79) dX2_init_57 (by decide +kernel) kt kf
theorem sX2_init_60 {g : ZG} {Q : ZQ} {d cN sN : Nat} {M : ZM} {l0 : Nat} {fs1 : List Value} {r3 : Nat} {l1 : Int32} (h2 : M.1 l0 = some (.inr (1, fs1))) (h4 : (fs1)[2]? = some (.ref r3)) (kk : Z g kX2_init Q d cN sN M 65 [some (.ref l0), some (.int l1)] [.int l1, .ref r3]) : Z g kX2_init Q d cN sN M 60 [some (.ref l0), some (.int l1)] [] := by
  refine zi_aload_n dX2_init_60 rfl zrf_r ?_
  refine zi_getfield dX2_init_61 rfl h2 h4 ?_
  refine zi_iload_n dX2_init_64 rfl ?_
  exact kk
theorem sX2_init_68 {g : ZG} {Q : ZQ} {d cN sN : Nat} {M : ZM} {t0 : Nat} {t1 : Int32} {t2 : Nat} {o0 o1 : Option Value}  (kk : Z g kX2_init Q d cN sN M 69 [o0, o1] [.ref t2, .ref t2, .int t1, .ref t0]) : Z g kX2_init Q d cN sN M 68 [o0, o1] [.ref t2, .int t1, .ref t0] := by
  refine zi_dup dX2_init_68 rfl ?_
  exact kk
theorem sX2_init_73 {g : ZG} {Q : ZQ} {d cN sN : Nat} {M : ZM} {l1 : Int32} {o0 : Option Value}  (kk : Z g kX2_init Q d cN sN M 55 [o0, some (.int (l1 + 1))] []) : Z g kX2_init Q d cN sN M 73 [o0, some (.int l1)] [] := by
  refine zi_iinc dX2_init_73 rfl (by decide +kernel : Int32.ofInt (1) = 1) (Nat.le_of_ble_eq_true rfl) ?_
  exact zi_goto (tgt := 55) dX2_init_76 (by decide +kernel) kk
theorem sX2_init_79 {g : ZG} {Q : ZQ} {d cN sN : Nat} {M : ZM} {o0 o1 : Option Value}  (kk : Z g kX2_init Q d cN sN M 81 [o0, some (.int 0)] []) : Z g kX2_init Q d cN sN M 79 [o0, o1] [] := by
  refine zi_iconst dX2_init_79 (by decide +kernel : Int32.ofInt (0) = (0 : Int32)) ?_
  refine zi_istore_n dX2_init_80 (Nat.le_of_ble_eq_true rfl) ?_
  exact kk
theorem sX2_init_81 {g : ZG} {Q : ZQ} {d cN sN : Nat} {M : ZM} {l1 : Int32} {o0 : Option Value}  (kt : (8 : Int32) ≤ (l1 : Int32) → Z g kX2_init Q d cN sN M 106 [o0, some (.int l1)] []) (kf : ¬ (8 : Int32) ≤ (l1 : Int32) → Z g kX2_init Q d cN sN M 87 [o0, some (.int l1)] []) : Z g kX2_init Q d cN sN M 81 [o0, some (.int l1)] [] := by
  refine zi_iload_n dX2_init_81 rfl ?_
  refine zi_bipush dX2_init_82 (by decide +kernel : (Int8.ofInt (8)).toInt32 = (8 : Int32)) ?_
  exact zi_icmp_ge (tgt := 106) dX2_init_84 (by decide +kernel) kt kf
theorem sX2_init_87 {g : ZG} {Q : ZQ} {d cN sN : Nat} {M : ZM} {l0 : Nat} {fs1 : List Value} {r3 : Nat} {l1 : Int32} (h2 : M.1 l0 = some (.inr (1, fs1))) (h4 : (fs1)[4]? = some (.ref r3)) (kk : Z g kX2_init Q d cN sN M 92 [some (.ref l0), some (.int l1)] [.int l1, .ref r3]) : Z g kX2_init Q d cN sN M 87 [some (.ref l0), some (.int l1)] [] := by
  refine zi_aload_n dX2_init_87 rfl zrf_r ?_
  refine zi_getfield dX2_init_88 rfl h2 h4 ?_
  refine zi_iload_n dX2_init_91 rfl ?_
  exact kk
theorem sX2_init_95 {g : ZG} {Q : ZQ} {d cN sN : Nat} {M : ZM} {t0 : Nat} {t1 : Int32} {t2 : Nat} {o0 o1 : Option Value}  (kk : Z g kX2_init Q d cN sN M 96 [o0, o1] [.ref t2, .ref t2, .int t1, .ref t0]) : Z g kX2_init Q d cN sN M 95 [o0, o1] [.ref t2, .int t1, .ref t0] := by
  refine zi_dup dX2_init_95 rfl ?_
  exact kk
theorem sX2_init_100 {g : ZG} {Q : ZQ} {d cN sN : Nat} {M : ZM} {l1 : Int32} {o0 : Option Value}  (kk : Z g kX2_init Q d cN sN M 81 [o0, some (.int (l1 + 1))] []) : Z g kX2_init Q d cN sN M 100 [o0, some (.int l1)] [] := by
  refine zi_iinc dX2_init_100 rfl (by decide +kernel : Int32.ofInt (1) = 1) (Nat.le_of_ble_eq_true rfl) ?_
  exact zi_goto (tgt := 81) dX2_init_103 (by decide +kernel) kk
theorem sX2_init_106 {g : ZG} {Q : ZQ} {d cN sN : Nat} {M : ZM} {o0 o1 : Option Value}  (kk : Q.1 none M) : Z g kX2_init Q d cN sN M 106 [o0, o1] [] := by
  exact zi_return dX2_init_106 rfl kk
abbrev kX2_take : ZK := (RX2, cX2_take, 3, (Option.none : Option Jvm.ClassFile.FieldType), [], false, fX2)
abbrev tX2_take (g : ZG) (args : List Value) (M : ZM) (d c s : Nat) (Q : ZQ) : Prop := Ct g yX2_take (ws_ yX2_take cX2_take 3 (Option.none : Option Jvm.ClassFile.FieldType)) args M d c s Q
abbrev nX2_take : Nat := 3
theorem mX2_take : zMok yX2_take 1 3 := ⟨⟨by decide +kernel, by decide +kernel, by decide +kernel⟩, by decide⟩
theorem eX2_take {g : ZG} {Q : ZQ} {d cN sN : Nat} {M : ZM} {a0 : Nat} {v1 : Value} (hv1 : v1.category = 1) (hV : zV g) (h : Z g kX2_take Q d cN sN M 0 [some (.ref a0), some (v1), none] []) : tX2_take g [.ref a0, v1] M d cN sN Q := Ct.of (K := kX2_take) rfl (by decide +kernel) hV fokX2 rfl (fun h => by cases h) (fun v hv => by simp only [List.mem_cons, List.not_mem_nil, or_false] at hv; rcases hv with rfl | rfl <;> first | rfl | assumption) (Nat.le_of_ble_eq_true rfl) h
theorem sX2_take_0 {g : ZG} {Q : ZQ} {d cN sN : Nat} {M : ZM} {l0 : Nat} {l1 : Nat} {fs1 : List Value} {y3 : Int32} {fs5 : List Value} {o2 : Option Value} (h2 : M.1 l1 = some (.inr (1, fs1))) (h4 : (fs1)[1]? = some (.int y3)) (h6 : M.1 l0 = some (.inr (1, fs5))) (h7 : 1 < (fs5).length) (kk : Z g kX2_take Q d cN sN (zup M l0 (.inr (1, (fs5).set 1 (.int y3)))) 10 [some (.ref l0), some (.ref l1), some (.int 0)] []) : Z g kX2_take Q d cN sN M 0 [some (.ref l0), some (.ref l1), o2] [] := by
  refine zi_aload_n dX2_take_0 rfl zrf_r ?_
  refine zi_aload_n dX2_take_1 rfl zrf_r ?_
  refine zi_getfield dX2_take_2 rfl h2 h4 ?_
  refine zi_putfield dX2_take_5 rfl h6 h7 zfit_i (Or.inl rfl) ?_
  refine zi_iconst dX2_take_8 (by decide +kernel : Int32.ofInt (0) = (0 : Int32)) ?_
  refine zi_istore_n dX2_take_9 (Nat.le_of_ble_eq_true rfl) ?_
  exact kk
theorem sX2_take_10 {g : ZG} {Q : ZQ} {d cN sN : Nat} {M : ZM} {l2 : Int32} {l0 : Nat} {fs1 : List Value} {y3 : Int32} {o1 : Option Value} (h2 : M.1 l0 = some (.inr (1, fs1))) (h4 : (fs1)[1]? = some (.int y3)) (kt : (y3 : Int32) ≤ (l2 : Int32) → Z g kX2_take Q d cN sN M 39 [some (.ref l0), o1, some (.int l2)] []) (kf : ¬ (y3 : Int32) ≤ (l2 : Int32) → Z g kX2_take Q d cN sN M 18 [some (.ref l0), o1, some (.int l2)] []) : Z g kX2_take Q d cN sN M 10 [some (.ref l0), o1, some (.int l2)] [] := by
  refine zi_iload_n dX2_take_10 rfl ?_
  refine zi_aload_n dX2_take_11 rfl zrf_r ?_
  refine zi_getfield dX2_take_12 rfl h2 h4 ?_
  exact zi_icmp_ge (tgt := 39) dX2_take_15 (by decide +kernel) kt kf
theorem sX2_take_18 {g : ZG} {Q : ZQ} {d cN sN : Nat} {M : ZM} {l0 : Nat} {fs1 : List Value} {r3 : Nat} {l2 : Int32} {n5 : Nat} {f6 : Nat → Option Nat} {c7 : ClassId} {r11 : Nat} {l1 : Nat} {fs13 : List Value} {r15 : Nat} {n17 : Nat} {f18 : Nat → Option Nat} {c19 : ClassId} {r23 : Nat} (h2 : M.1 l0 = some (.inr (1, fs1))) (h4 : (fs1)[2]? = some (.ref r3)) (h8 : M.1 r3 = some (.inl (c7, n5, .inr (.inr (.inr (.inr f6)))))) (h9 : zRt g c7) (h10 : vp_in (l2) n5) (h12 : va_rf (f6 ((l2 : Int32).toNatClampNeg)) = .ref r11) (h14 : M.1 l1 = some (.inr (1, fs13))) (h16 : (fs13)[2]? = some (.ref r15)) (h20 : M.1 r15 = some (.inl (c19, n17, .inr (.inr (.inr (.inr f18)))))) (h21 : zRt g c19) (h22 : vp_in (l2) n17) (h24 : va_rf (f18 ((l2 : Int32).toNatClampNeg)) = .ref r23) (kk : Z g kX2_take Q d cN sN M 30 [some (.ref l0), some (.ref l1), some (.int l2)] [.ref r23, .ref r11]) : Z g kX2_take Q d cN sN M 18 [some (.ref l0), some (.ref l1), some (.int l2)] [] := by
  refine zi_aload_n dX2_take_18 rfl zrf_r ?_
  refine zi_getfield dX2_take_19 rfl h2 h4 ?_
  refine zi_iload_n dX2_take_22 rfl ?_
  refine zi_aaload dX2_take_23 h8 h9 h10 h12 ?_
  refine zi_aload_n dX2_take_24 rfl zrf_r ?_
  refine zi_getfield dX2_take_25 rfl h14 h16 ?_
  refine zi_iload_n dX2_take_28 rfl ?_
  refine zi_aaload dX2_take_29 h20 h21 h22 h24 ?_
  exact kk
theorem sX2_take_33 {g : ZG} {Q : ZQ} {d cN sN : Nat} {M : ZM} {l2 : Int32} {o0 o1 : Option Value}  (kk : Z g kX2_take Q d cN sN M 10 [o0, o1, some (.int (l2 + 1))] []) : Z g kX2_take Q d cN sN M 33 [o0, o1, some (.int l2)] [] := by
  refine zi_iinc dX2_take_33 rfl (by decide +kernel : Int32.ofInt (1) = 1) (Nat.le_of_ble_eq_true rfl) ?_
  exact zi_goto (tgt := 10) dX2_take_36 (by decide +kernel) kk
theorem sX2_take_39 {g : ZG} {Q : ZQ} {d cN sN : Nat} {M : ZM} {l0 : Nat} {l1 : Nat} {fs1 : List Value} {y3 : Int32} {fs5 : List Value} {o2 : Option Value} (h2 : M.1 l1 = some (.inr (1, fs1))) (h4 : (fs1)[3]? = some (.int y3)) (h6 : M.1 l0 = some (.inr (1, fs5))) (h7 : 3 < (fs5).length) (kk : Z g kX2_take Q d cN sN (zup M l0 (.inr (1, (fs5).set 3 (.int y3)))) 49 [some (.ref l0), some (.ref l1), some (.int 0)] []) : Z g kX2_take Q d cN sN M 39 [some (.ref l0), some (.ref l1), o2] [] := by
  refine zi_aload_n dX2_take_39 rfl zrf_r ?_
  refine zi_aload_n dX2_take_40 rfl zrf_r ?_
  refine zi_getfield dX2_take_41 rfl h2 h4 ?_
  refine zi_putfield dX2_take_44 rfl h6 h7 zfit_i (Or.inl rfl) ?_
  refine zi_iconst dX2_take_47 (by decide +kernel : Int32.ofInt (0) = (0 : Int32)) ?_
  refine zi_istore_n dX2_take_48 (Nat.le_of_ble_eq_true rfl) ?_
  exact kk
theorem sX2_take_49 {g : ZG} {Q : ZQ} {d cN sN : Nat} {M : ZM} {l2 : Int32} {l0 : Nat} {fs1 : List Value} {y3 : Int32} {o1 : Option Value} (h2 : M.1 l0 = some (.inr (1, fs1))) (h4 : (fs1)[3]? = some (.int y3)) (kt : (y3 : Int32) ≤ (l2 : Int32) → Z g kX2_take Q d cN sN M 78 [some (.ref l0), o1, some (.int l2)] []) (kf : ¬ (y3 : Int32) ≤ (l2 : Int32) → Z g kX2_take Q d cN sN M 57 [some (.ref l0), o1, some (.int l2)] []) : Z g kX2_take Q d cN sN M 49 [some (.ref l0), o1, some (.int l2)] [] := by
  refine zi_iload_n dX2_take_49 rfl ?_
  refine zi_aload_n dX2_take_50 rfl zrf_r ?_
  refine zi_getfield dX2_take_51 rfl h2 h4 ?_
  exact zi_icmp_ge (tgt := 78) dX2_take_54 (by decide +kernel) kt kf
theorem sX2_take_57 {g : ZG} {Q : ZQ} {d cN sN : Nat} {M : ZM} {l0 : Nat} {fs1 : List Value} {r3 : Nat} {l2 : Int32} {n5 : Nat} {f6 : Nat → Option Nat} {c7 : ClassId} {r11 : Nat} {l1 : Nat} {fs13 : List Value} {r15 : Nat} {n17 : Nat} {f18 : Nat → Option Nat} {c19 : ClassId} {r23 : Nat} (h2 : M.1 l0 = some (.inr (1, fs1))) (h4 : (fs1)[4]? = some (.ref r3)) (h8 : M.1 r3 = some (.inl (c7, n5, .inr (.inr (.inr (.inr f6)))))) (h9 : zRt g c7) (h10 : vp_in (l2) n5) (h12 : va_rf (f6 ((l2 : Int32).toNatClampNeg)) = .ref r11) (h14 : M.1 l1 = some (.inr (1, fs13))) (h16 : (fs13)[4]? = some (.ref r15)) (h20 : M.1 r15 = some (.inl (c19, n17, .inr (.inr (.inr (.inr f18)))))) (h21 : zRt g c19) (h22 : vp_in (l2) n17) (h24 : va_rf (f18 ((l2 : Int32).toNatClampNeg)) = .ref r23) (kk : Z g kX2_take Q d cN sN M 69 [some (.ref l0), some (.ref l1), some (.int l2)] [.ref r23, .ref r11]) : Z g kX2_take Q d cN sN M 57 [some (.ref l0), some (.ref l1), some (.int l2)] [] := by
  refine zi_aload_n dX2_take_57 rfl zrf_r ?_
  refine zi_getfield dX2_take_58 rfl h2 h4 ?_
  refine zi_iload_n dX2_take_61 rfl ?_
  refine zi_aaload dX2_take_62 h8 h9 h10 h12 ?_
  refine zi_aload_n dX2_take_63 rfl zrf_r ?_
  refine zi_getfield dX2_take_64 rfl h14 h16 ?_
  refine zi_iload_n dX2_take_67 rfl ?_
  refine zi_aaload dX2_take_68 h20 h21 h22 h24 ?_
  exact kk
theorem sX2_take_72 {g : ZG} {Q : ZQ} {d cN sN : Nat} {M : ZM} {l2 : Int32} {o0 o1 : Option Value}  (kk : Z g kX2_take Q d cN sN M 49 [o0, o1, some (.int (l2 + 1))] []) : Z g kX2_take Q d cN sN M 72 [o0, o1, some (.int l2)] [] := by
  refine zi_iinc dX2_take_72 rfl (by decide +kernel : Int32.ofInt (1) = 1) (Nat.le_of_ble_eq_true rfl) ?_
  exact zi_goto (tgt := 49) dX2_take_75 (by decide +kernel) kk
theorem sX2_take_78 {g : ZG} {Q : ZQ} {d cN sN : Nat} {M : ZM} {l0 : Nat} {l1 : Nat} {fs1 : List Value} {y3 : Int32} {fs5 : List Value} {o2 : Option Value} (h2 : M.1 l1 = some (.inr (1, fs1))) (h4 : (fs1)[5]? = some (.int y3)) (h6 : M.1 l0 = some (.inr (1, fs5))) (h7 : 5 < (fs5).length) (kk : Z g kX2_take Q d cN sN (zup M l0 (.inr (1, (fs5).set 5 (.int y3)))) 88 [some (.ref l0), some (.ref l1), some (.int 0)] []) : Z g kX2_take Q d cN sN M 78 [some (.ref l0), some (.ref l1), o2] [] := by
  refine zi_aload_n dX2_take_78 rfl zrf_r ?_
  refine zi_aload_n dX2_take_79 rfl zrf_r ?_
  refine zi_getfield dX2_take_80 rfl h2 h4 ?_
  refine zi_putfield dX2_take_83 rfl h6 h7 zfit_i (Or.inl rfl) ?_
  refine zi_iconst dX2_take_86 (by decide +kernel : Int32.ofInt (0) = (0 : Int32)) ?_
  refine zi_istore_n dX2_take_87 (Nat.le_of_ble_eq_true rfl) ?_
  exact kk
theorem sX2_take_88 {g : ZG} {Q : ZQ} {d cN sN : Nat} {M : ZM} {l2 : Int32} {l0 : Nat} {fs1 : List Value} {y3 : Int32} {o1 : Option Value} (h2 : M.1 l0 = some (.inr (1, fs1))) (h4 : (fs1)[5]? = some (.int y3)) (kt : (y3 : Int32) ≤ (l2 : Int32) → Z g kX2_take Q d cN sN M 138 [some (.ref l0), o1, some (.int l2)] []) (kf : ¬ (y3 : Int32) ≤ (l2 : Int32) → Z g kX2_take Q d cN sN M 96 [some (.ref l0), o1, some (.int l2)] []) : Z g kX2_take Q d cN sN M 88 [some (.ref l0), o1, some (.int l2)] [] := by
  refine zi_iload_n dX2_take_88 rfl ?_
  refine zi_aload_n dX2_take_89 rfl zrf_r ?_
  refine zi_getfield dX2_take_90 rfl h2 h4 ?_
  exact zi_icmp_ge (tgt := 138) dX2_take_93 (by decide +kernel) kt kf
theorem sX2_take_96 {g : ZG} {Q : ZQ} {d cN sN : Nat} {M : ZM} {l0 : Nat} {fs1 : List Value} {r3 : Nat} {l2 : Int32} {l1 : Nat} {fs5 : List Value} {r7 : Nat} {n9 : Nat} {f10 : Nat → Int32} {n13 : Nat} {f14 : Nat → Int32} {fs17 : List Value} {r19 : Nat} {fs21 : List Value} {r23 : Nat} {n25 : Nat} {f26 : Nat → Int32} {n29 : Nat} {f30 : Nat → Int32} {fs33 : List Value} {r35 : Nat} {fs37 : List Value} {r39 : Nat} {n41 : Nat} {f42 : Nat → Option Nat} {c43 : ClassId} {r47 : Nat} (h2 : M.1 l0 = some (.inr (1, fs1))) (h4 : (fs1)[6]? = some (.ref r3)) (h6 : M.1 l1 = some (.inr (1, fs5))) (h8 : (fs5)[6]? = some (.ref r7)) (h11 : M.1 r7 = some (.inl (zA g 0, n9, .inl f10))) (h12 : vp_in (l2) n9) (h15 : M.1 r3 = some (.inl (zA g 0, n13, .inl (f14)))) (h16 : vp_in (l2) n13) (h18 : (zup M r3 (.inl (zA g 0, n13, .inl (upd f14 ((l2 : Int32).toNatClampNeg) (f10 ((l2 : Int32).toNatClampNeg)))))).1 l0 = some (.inr (1, fs17))) (h20 : (fs17)[7]? = some (.ref r19)) (h22 : (zup M r3 (.inl (zA g 0, n13, .inl (upd f14 ((l2 : Int32).toNatClampNeg) (f10 ((l2 : Int32).toNatClampNeg)))))).1 l1 = some (.inr (1, fs21))) (h24 : (fs21)[7]? = some (.ref r23)) (h27 : (zup M r3 (.inl (zA g 0, n13, .inl (upd f14 ((l2 : Int32).toNatClampNeg) (f10 ((l2 : Int32).toNatClampNeg)))))).1 r23 = some (.inl (zA g 0, n25, .inl f26))) (h28 : vp_in (l2) n25) (h31 : (zup M r3 (.inl (zA g 0, n13, .inl (upd f14 ((l2 : Int32).toNatClampNeg) (f10 ((l2 : Int32).toNatClampNeg)))))).1 r19 = some (.inl (zA g 0, n29, .inl (f30)))) (h32 : vp_in (l2) n29) (h34 : (zup (zup M r3 (.inl (zA g 0, n13, .inl (upd f14 ((l2 : Int32).toNatClampNeg) (f10 ((l2 : Int32).toNatClampNeg)))))) r19 (.inl (zA g 0, n29, .inl (upd f30 ((l2 : Int32).toNatClampNeg) (f26 ((l2 : Int32).toNatClampNeg)))))).1 l0 = some (.inr (1, fs33))) (h36 : (fs33)[8]? = some (.ref r35)) (h38 : (zup (zup M r3 (.inl (zA g 0, n13, .inl (upd f14 ((l2 : Int32).toNatClampNeg) (f10 ((l2 : Int32).toNatClampNeg)))))) r19 (.inl (zA g 0, n29, .inl (upd f30 ((l2 : Int32).toNatClampNeg) (f26 ((l2 : Int32).toNatClampNeg)))))).1 l1 = some (.inr (1, fs37))) (h40 : (fs37)[8]? = some (.ref r39)) (h44 : (zup (zup M r3 (.inl (zA g 0, n13, .inl (upd f14 ((l2 : Int32).toNatClampNeg) (f10 ((l2 : Int32).toNatClampNeg)))))) r19 (.inl (zA g 0, n29, .inl (upd f30 ((l2 : Int32).toNatClampNeg) (f26 ((l2 : Int32).toNatClampNeg)))))).1 r39 = some (.inl (c43, n41, .inr (.inr (.inr (.inr f42)))))) (h45 : zRt g c43) (h46 : vp_in (l2) n41) (h48 : va_rf (f42 ((l2 : Int32).toNatClampNeg)) = .ref r47) (kk : Z g kX2_take Q d cN sN (zup (zup M r3 (.inl (zA g 0, n13, .inl (upd f14 ((l2 : Int32).toNatClampNeg) (f10 ((l2 : Int32).toNatClampNeg)))))) r19 (.inl (zA g 0, n29, .inl (upd f30 ((l2 : Int32).toNatClampNeg) (f26 ((l2 : Int32).toNatClampNeg)))))) 131 [some (.ref l0), some (.ref l1), some (.int l2)] [.ref r47, .int l2, .ref r35]) : Z g kX2_take Q d cN sN M 96 [some (.ref l0), some (.ref l1), some (.int l2)] [] := by
  refine zi_aload_n dX2_take_96 rfl zrf_r ?_
  refine zi_getfield dX2_take_97 rfl h2 h4 ?_
  refine zi_iload_n dX2_take_100 rfl ?_
  refine zi_aload_n dX2_take_101 rfl zrf_r ?_
  refine zi_getfield dX2_take_102 rfl h6 h8 ?_
  refine zi_iload_n dX2_take_105 rfl ?_
  refine zi_iaload dX2_take_106 h11 h12 ?_
  refine zi_iastore dX2_take_107 h15 h16 ?_
  refine zi_aload_n dX2_take_108 rfl zrf_r ?_
  refine zi_getfield dX2_take_109 rfl h18 h20 ?_
  refine zi_iload_n dX2_take_112 rfl ?_
  refine zi_aload_n dX2_take_113 rfl zrf_r ?_
  refine zi_getfield dX2_take_114 rfl h22 h24 ?_
  refine zi_iload_n dX2_take_117 rfl ?_
  refine zi_iaload dX2_take_118 h27 h28 ?_
  refine zi_iastore dX2_take_119 h31 h32 ?_
  refine zi_aload_n dX2_take_120 rfl zrf_r ?_
  refine zi_getfield dX2_take_121 rfl h34 h36 ?_
  refine zi_iload_n dX2_take_124 rfl ?_
  refine zi_aload_n dX2_take_125 rfl zrf_r ?_
  refine zi_getfield dX2_take_126 rfl h38 h40 ?_
  refine zi_iload_n dX2_take_129 rfl ?_
  refine zi_aaload dX2_take_130 h44 h45 h46 h48 ?_
  exact kk
theorem sX2_take_132 {g : ZG} {Q : ZQ} {d cN sN : Nat} {M : ZM} {l2 : Int32} {o0 o1 : Option Value}  (kk : Z g kX2_take Q d cN sN M 88 [o0, o1, some (.int (l2 + 1))] []) : Z g kX2_take Q d cN sN M 132 [o0, o1, some (.int l2)] [] := by
  refine zi_iinc dX2_take_132 rfl (by decide +kernel : Int32.ofInt (1) = 1) (Nat.le_of_ble_eq_true rfl) ?_
  exact zi_goto (tgt := 88) dX2_take_135 (by decide +kernel) kk
theorem sX2_take_138 {g : ZG} {Q : ZQ} {d cN sN : Nat} {M : ZM} {l0 : Nat} {l1 : Nat} {fs1 : List Value} {y3 : Int32} {fs5 : List Value} {fs8 : List Value} {y10 : Int32} {fs13 : List Value} {y15 : Int32} {fs18 : List Value} {y20 : Int32} {fs23 : List Value} {y25 : Int32} {fs28 : List Value} {y30 : Int32} {o2 : Option Value} (h2 : M.1 l1 = some (.inr (1, fs1))) (h4 : (fs1)[9]? = some (.int y3)) (h6 : M.1 l0 = some (.inr (1, fs5))) (h7 : 9 < (fs5).length) (h9 : (zup M l0 (.inr (1, (fs5).set 9 (.int y3)))).1 l1 = some (.inr (1, fs8))) (h11 : (fs8)[10]? = some (.int y10)) (h12 : 10 < (((fs5).set 9 (.int y3))).length) (h14 : (zup (zup M l0 (.inr (1, (fs5).set 9 (.int y3)))) l0 (.inr (1, (((fs5).set 9 (.int y3))).set 10 (.int y10)))).1 l1 = some (.inr (1, fs13))) (h16 : (fs13)[11]? = some (.int y15)) (h17 : 11 < (((((fs5).set 9 (.int y3))).set 10 (.int y10))).length) (h19 : (zup (zup (zup M l0 (.inr (1, (fs5).set 9 (.int y3)))) l0 (.inr (1, (((fs5).set 9 (.int y3))).set 10 (.int y10)))) l0 (.inr (1, (((((fs5).set 9 (.int y3))).set 10 (.int y10))).set 11 (.int y15)))).1 l1 = some (.inr (1, fs18))) (h21 : (fs18)[12]? = some (.int y20)) (h22 : 12 < (((((((fs5).set 9 (.int y3))).set 10 (.int y10))).set 11 (.int y15))).length) (h24 : (zup (zup (zup (zup M l0 (.inr (1, (fs5).set 9 (.int y3)))) l0 (.inr (1, (((fs5).set 9 (.int y3))).set 10 (.int y10)))) l0 (.inr (1, (((((fs5).set 9 (.int y3))).set 10 (.int y10))).set 11 (.int y15)))) l0 (.inr (1, (((((((fs5).set 9 (.int y3))).set 10 (.int y10))).set 11 (.int y15))).set 12 (.int y20)))).1 l1 = some (.inr (1, fs23))) (h26 : (fs23)[13]? = some (.int y25)) (h27 : 13 < (((((((((fs5).set 9 (.int y3))).set 10 (.int y10))).set 11 (.int y15))).set 12 (.int y20))).length) (h29 : (zup (zup (zup (zup (zup M l0 (.inr (1, (fs5).set 9 (.int y3)))) l0 (.inr (1, (((fs5).set 9 (.int y3))).set 10 (.int y10)))) l0 (.inr (1, (((((fs5).set 9 (.int y3))).set 10 (.int y10))).set 11 (.int y15)))) l0 (.inr (1, (((((((fs5).set 9 (.int y3))).set 10 (.int y10))).set 11 (.int y15))).set 12 (.int y20)))) l0 (.inr (1, (((((((((fs5).set 9 (.int y3))).set 10 (.int y10))).set 11 (.int y15))).set 12 (.int y20))).set 13 (.int y25)))).1 l1 = some (.inr (1, fs28))) (h31 : (fs28)[14]? = some (.int y30)) (h32 : 14 < (((((((((((fs5).set 9 (.int y3))).set 10 (.int y10))).set 11 (.int y15))).set 12 (.int y20))).set 13 (.int y25))).length) (kk : Q.1 none (zup (zup (zup (zup (zup (zup M l0 (.inr (1, (fs5).set 9 (.int y3)))) l0 (.inr (1, (((fs5).set 9 (.int y3))).set 10 (.int y10)))) l0 (.inr (1, (((((fs5).set 9 (.int y3))).set 10 (.int y10))).set 11 (.int y15)))) l0 (.inr (1, (((((((fs5).set 9 (.int y3))).set 10 (.int y10))).set 11 (.int y15))).set 12 (.int y20)))) l0 (.inr (1, (((((((((fs5).set 9 (.int y3))).set 10 (.int y10))).set 11 (.int y15))).set 12 (.int y20))).set 13 (.int y25)))) l0 (.inr (1, (((((((((((fs5).set 9 (.int y3))).set 10 (.int y10))).set 11 (.int y15))).set 12 (.int y20))).set 13 (.int y25))).set 14 (.int y30))))) : Z g kX2_take Q d cN sN M 138 [some (.ref l0), some (.ref l1), o2] [] := by
  refine zi_aload_n dX2_take_138 rfl zrf_r ?_
  refine zi_aload_n dX2_take_139 rfl zrf_r ?_
  refine zi_getfield dX2_take_140 rfl h2 h4 ?_
  refine zi_putfield dX2_take_143 rfl h6 h7 zfit_i (Or.inl rfl) ?_
  refine zi_aload_n dX2_take_146 rfl zrf_r ?_
  refine zi_aload_n dX2_take_147 rfl zrf_r ?_
  refine zi_getfield dX2_take_148 rfl h9 h11 ?_
  refine zi_putfield dX2_take_151 rfl (zup_self _ _ _) h12 zfit_i (Or.inl rfl) ?_
  refine zi_aload_n dX2_take_154 rfl zrf_r ?_
  refine zi_aload_n dX2_take_155 rfl zrf_r ?_
  refine zi_getfield dX2_take_156 rfl h14 h16 ?_
  refine zi_putfield dX2_take_159 rfl (zup_self _ _ _) h17 zfit_i (Or.inl rfl) ?_
  refine zi_aload_n dX2_take_162 rfl zrf_r ?_
  refine zi_aload_n dX2_take_163 rfl zrf_r ?_
  refine zi_getfield dX2_take_164 rfl h19 h21 ?_
  refine zi_putfield dX2_take_167 rfl (zup_self _ _ _) h22 zfit_i (Or.inl rfl) ?_
  refine zi_aload_n dX2_take_170 rfl zrf_r ?_
  refine zi_aload_n dX2_take_171 rfl zrf_r ?_
  refine zi_getfield dX2_take_172 rfl h24 h26 ?_
  refine zi_putfield dX2_take_175 rfl (zup_self _ _ _) h27 zfit_i (Or.inl rfl) ?_
  refine zi_aload_n dX2_take_178 rfl zrf_r ?_
  refine zi_aload_n dX2_take_179 rfl zrf_r ?_
  refine zi_getfield dX2_take_180 rfl h29 h31 ?_
  refine zi_putfield dX2_take_183 rfl (zup_self _ _ _) h32 zfit_i (Or.inl rfl) ?_
  exact zi_return dX2_take_186 rfl kk
abbrev kX2_day : ZK := (RX2, cX2_day, 4, (Option.some Jvm.ClassFile.FieldType.int), [], false, fX2)
abbrev tX2_day (g : ZG) (args : List Value) (M : ZM) (d c s : Nat) (Q : ZQ) : Prop := Ct g yX2_day (ws_ yX2_day cX2_day 4 (Option.some Jvm.ClassFile.FieldType.int)) args M d c s Q
abbrev nX2_day : Nat := 3
theorem mX2_day : zMok yX2_day 0 4 := ⟨⟨by decide +kernel, by decide +kernel, by decide +kernel⟩, by decide⟩
theorem eX2_day {g : ZG} {Q : ZQ} {d cN sN : Nat} {M : ZM} {a0 : Nat} (hV : zV g) (h : Z g kX2_day Q d cN sN M 0 [some (.ref a0), none, none, none] []) : tX2_day g [.ref a0] M d cN sN Q := Ct.of (K := kX2_day) rfl (by decide +kernel) hV fokX2 rfl (fun h => by cases h) (fun v hv => by simp only [List.mem_cons, List.not_mem_nil, or_false] at hv; rcases hv with rfl <;> first | rfl | assumption) (Nat.le_of_ble_eq_true rfl) h
theorem sX2_day_0 {g : ZG} {Q : ZQ} {d cN sN : Nat} {M : ZM} {o0 o1 o2 o3 : Option Value}  (kk : Z g kX2_day Q d cN sN M 4 [o0, some (.int 0), some (.int 0), o3] []) : Z g kX2_day Q d cN sN M 0 [o0, o1, o2, o3] [] := by
  refine zi_iconst dX2_day_0 (by decide +kernel : Int32.ofInt (0) = (0 : Int32)) ?_
  refine zi_istore_n dX2_day_1 (Nat.le_of_ble_eq_true rfl) ?_
  refine zi_iconst dX2_day_2 (by decide +kernel : Int32.ofInt (0) = (0 : Int32)) ?_
  refine zi_istore_n dX2_day_3 (Nat.le_of_ble_eq_true rfl) ?_
  exact kk
theorem sX2_day_4 {g : ZG} {Q : ZQ} {d cN sN : Nat} {M : ZM} {l2 : Int32} {l0 : Nat} {fs1 : List Value} {y3 : Int32} {o1 o3 : Option Value} (h2 : M.1 l0 = some (.inr (1, fs1))) (h4 : (fs1)[1]? = some (.int y3)) (kt : (y3 : Int32) ≤ (l2 : Int32) → Z g kX2_day Q d cN sN M 59 [some (.ref l0), o1, some (.int l2), o3] []) (kf : ¬ (y3 : Int32) ≤ (l2 : Int32) → Z g kX2_day Q d cN sN M 12 [some (.ref l0), o1, some (.int l2), o3] []) : Z g kX2_day Q d cN sN M 4 [some (.ref l0), o1, some (.int l2), o3] [] := by
  refine zi_iload_n dX2_day_4 rfl ?_
  refine zi_aload_n dX2_day_5 rfl zrf_r ?_
  refine zi_getfield dX2_day_6 rfl h2 h4 ?_
  exact zi_icmp_ge (tgt := 59) dX2_day_9 (by decide +kernel) kt kf
theorem sX2_day_12 {g : ZG} {Q : ZQ} {d cN sN : Nat} {M : ZM} {l0 : Nat} {fs1 : List Value} {r3 : Nat} {l2 : Int32} {n5 : Nat} {f6 : Nat → Option Nat} {c7 : ClassId} {r11 : Nat} {fs13 : List Value} {y15 : Int32} {o1 o3 : Option Value} (h2 : M.1 l0 = some (.inr (1, fs1))) (h4 : (fs1)[2]? = some (.ref r3)) (h8 : M.1 r3 = some (.inl (c7, n5, .inr (.inr (.inr (.inr f6)))))) (h9 : zRt g c7) (h10 : vp_in (l2) n5) (h12 : va_rf (f6 ((l2 : Int32).toNatClampNeg)) = .ref r11) (h14 : M.1 r11 = some (.inr (2, fs13))) (h16 : (fs13)[1]? = some (.int y15)) (kk : Z g kX2_day Q d cN sN M 27 [some (.ref l0), o1, some (.int l2), some (.ref r11)] [.int (y15 - 1), .int 0, .ref r11]) : Z g kX2_day Q d cN sN M 12 [some (.ref l0), o1, some (.int l2), o3] [] := by
  refine zi_aload_n dX2_day_12 rfl zrf_r ?_
  refine zi_getfield dX2_day_13 rfl h2 h4 ?_
  refine zi_iload_n dX2_day_16 rfl ?_
  refine zi_aaload dX2_day_17 h8 h9 h10 h12 ?_
  refine zi_astore_n dX2_day_18 zrf_r (Nat.le_of_ble_eq_true rfl) ?_
  refine zi_aload_n dX2_day_19 rfl zrf_r ?_
  refine zi_iconst dX2_day_20 (by decide +kernel : Int32.ofInt (0) = (0 : Int32)) ?_
  refine zi_aload_n dX2_day_21 rfl zrf_r ?_
  refine zi_getfield dX2_day_22 rfl h14 h16 ?_
  refine zi_iconst dX2_day_25 (by decide +kernel : Int32.ofInt (1) = (1 : Int32)) ?_
  refine zi_isub dX2_day_26 ?_
  exact kk
theorem sX2_day_30 {g : ZG} {Q : ZQ} {d cN sN : Nat} {M : ZM} {t0 : Nat} {t1 : Int32} {fs1 : List Value} {l3 : Nat} {o0 o1 o2 : Option Value} (h2 : M.1 t0 = some (.inr (2, fs1))) (h3 : 1 < (fs1).length) (kk : Z g kX2_day Q d cN sN (zup M t0 (.inr (2, (fs1).set 1 (.int t1)))) 35 [o0, o1, o2, some (.ref l3)] [.int 1, .ref l3]) : Z g kX2_day Q d cN sN M 30 [o0, o1, o2, some (.ref l3)] [.int t1, .ref t0] := by
  refine zi_putfield dX2_day_30 rfl h2 h3 zfit_i (Or.inl rfl) ?_
  refine zi_aload_n dX2_day_33 rfl zrf_r ?_
  refine zi_iconst dX2_day_34 (by decide +kernel : Int32.ofInt (1) = (1 : Int32)) ?_
  exact kk
theorem sX2_day_38 {g : ZG} {Q : ZQ} {d cN sN : Nat} {M : ZM} {l1 : Int32} {l3 : Nat} {o0 o2 : Option Value}  (kk : Z g kX2_day Q d cN sN M 40 [o0, some (.int l1), o2, some (.ref l3)] [.ref l3, .int l1]) : Z g kX2_day Q d cN sN M 38 [o0, some (.int l1), o2, some (.ref l3)] [] := by
  refine zi_iload_n dX2_day_38 rfl ?_
  refine zi_aload_n dX2_day_39 rfl zrf_r ?_
  exact kk
theorem sX2_day_43 {g : ZG} {Q : ZQ} {d cN sN : Nat} {M : ZM} {t0 : Int32} {t1 : Int32} {o0 o1 o2 o3 : Option Value}  (kt : (t1 : Int32) = 0 → Z g kX2_day Q d cN sN M 50 [o0, o1, o2, o3] [.int t0]) (kf : ¬ (t1 : Int32) = 0 → Z g kX2_day Q d cN sN M 46 [o0, o1, o2, o3] [.int t0]) : Z g kX2_day Q d cN sN M 43 [o0, o1, o2, o3] [.int t1, .int t0] := by
  exact zi_if_eq (tgt := 50) dX2_day_43 (by decide +kernel) kt kf
theorem sX2_day_46 {g : ZG} {Q : ZQ} {d cN sN : Nat} {M : ZM} {t0 : Int32} {o0 o1 o2 o3 : Option Value}  (kk : Z g kX2_day Q d cN sN M 51 [o0, o1, o2, o3] [.int 1, .int t0]) : Z g kX2_day Q d cN sN M 46 [o0, o1, o2, o3] [.int t0] := by
  refine zi_iconst dX2_day_46 (by decide +kernel : Int32.ofInt (1) = (1 : Int32)) ?_
  exact zi_goto (tgt := 51) dX2_day_47 (by decide +kernel) kk
theorem sX2_day_50 {g : ZG} {Q : ZQ} {d cN sN : Nat} {M : ZM} {t0 : Int32} {o0 o1 o2 o3 : Option Value}  (kk : Z g kX2_day Q d cN sN M 51 [o0, o1, o2, o3] [.int 0, .int t0]) : Z g kX2_day Q d cN sN M 50 [o0, o1, o2, o3] [.int t0] := by
  refine zi_iconst dX2_day_50 (by decide +kernel : Int32.ofInt (0) = (0 : Int32)) ?_
  exact kk
theorem sX2_day_51 {g : ZG} {Q : ZQ} {d cN sN : Nat} {M : ZM} {t0 : Int32} {t1 : Int32} {l2 : Int32} {o0 o1 o3 : Option Value}  (kk : Z g kX2_day Q d cN sN M 4 [o0, some (.int (t0 + t1)), some (.int (l2 + 1)), o3] []) : Z g kX2_day Q d cN sN M 51 [o0, o1, some (.int l2), o3] [.int t1, .int t0] := by
  refine zi_iadd dX2_day_51 ?_
  refine zi_istore_n dX2_day_52 (Nat.le_of_ble_eq_true rfl) ?_
  refine zi_iinc dX2_day_53 rfl (by decide +kernel : Int32.ofInt (1) = 1) (Nat.le_of_ble_eq_true rfl) ?_
  exact zi_goto (tgt := 4) dX2_day_56 (by decide +kernel) kk
theorem sX2_day_59 {g : ZG} {Q : ZQ} {d cN sN : Nat} {M : ZM} {l0 : Nat} {fs1 : List Value} {y3 : Int32} {l1 : Int32} {o2 o3 : Option Value} (h2 : M.1 l0 = some (.inr (1, fs1))) (h4 : (fs1)[9]? = some (.int y3)) (h5 : 9 < (fs1).length) (kk : Q.1 (some (.int l1)) (zup M l0 (.inr (1, (fs1).set 9 (.int (y3 + 1)))))) : Z g kX2_day Q d cN sN M 59 [some (.ref l0), some (.int l1), o2, o3] [] := by
  refine zi_aload_n dX2_day_59 rfl zrf_r ?_
  refine zi_dup dX2_day_60 rfl ?_
  refine zi_getfield dX2_day_61 rfl h2 h4 ?_
  refine zi_iconst dX2_day_64 (by decide +kernel : Int32.ofInt (1) = (1 : Int32)) ?_
  refine zi_iadd dX2_day_65 ?_
  refine zi_putfield dX2_day_66 rfl h2 h5 zfit_i (Or.inl rfl) ?_
  refine zi_iload_n dX2_day_69 rfl ?_
  exact zi_ireturn dX2_day_70 rfl rfl kk
abbrev kX2_wouldLaughAgain : ZK := (RX2, cX2_wouldLaughAgain, 3, (Option.some Jvm.ClassFile.FieldType.int), [], false, fX2)
abbrev tX2_wouldLaughAgain (g : ZG) (args : List Value) (M : ZM) (d c s : Nat) (Q : ZQ) : Prop := Ct g yX2_wouldLaughAgain (ws_ yX2_wouldLaughAgain cX2_wouldLaughAgain 3 (Option.some Jvm.ClassFile.FieldType.int)) args M d c s Q
abbrev nX2_wouldLaughAgain : Nat := 6
theorem mX2_wouldLaughAgain : zMok yX2_wouldLaughAgain 0 3 := ⟨⟨by decide +kernel, by decide +kernel, by decide +kernel⟩, by decide⟩
theorem eX2_wouldLaughAgain {g : ZG} {Q : ZQ} {d cN sN : Nat} {M : ZM} {a0 : Nat} (hV : zV g) (h : Z g kX2_wouldLaughAgain Q d cN sN M 0 [some (.ref a0), none, none] []) : tX2_wouldLaughAgain g [.ref a0] M d cN sN Q := Ct.of (K := kX2_wouldLaughAgain) rfl (by decide +kernel) hV fokX2 rfl (fun h => by cases h) (fun v hv => by simp only [List.mem_cons, List.not_mem_nil, or_false] at hv; rcases hv with rfl <;> first | rfl | assumption) (Nat.le_of_ble_eq_true rfl) h
theorem sX2_wouldLaughAgain_0 {g : ZG} {Q : ZQ} {d cN sN : Nat} {M : ZM} {o0 o1 o2 : Option Value}  (kk : Z g kX2_wouldLaughAgain Q d cN sN M 4 [o0, some (.int 0), some (.int 0)] []) : Z g kX2_wouldLaughAgain Q d cN sN M 0 [o0, o1, o2] [] := by
  refine zi_iconst dX2_wouldLaughAgain_0 (by decide +kernel : Int32.ofInt (0) = (0 : Int32)) ?_
  refine zi_istore_n dX2_wouldLaughAgain_1 (Nat.le_of_ble_eq_true rfl) ?_
  refine zi_iconst dX2_wouldLaughAgain_2 (by decide +kernel : Int32.ofInt (0) = (0 : Int32)) ?_
  refine zi_istore_n dX2_wouldLaughAgain_3 (Nat.le_of_ble_eq_true rfl) ?_
  exact kk
theorem sX2_wouldLaughAgain_4 {g : ZG} {Q : ZQ} {d cN sN : Nat} {M : ZM} {l2 : Int32} {l0 : Nat} {fs1 : List Value} {y3 : Int32} {o1 : Option Value} (h2 : M.1 l0 = some (.inr (1, fs1))) (h4 : (fs1)[5]? = some (.int y3)) (kt : (y3 : Int32) ≤ (l2 : Int32) → Z g kX2_wouldLaughAgain Q d cN sN M 26 [some (.ref l0), o1, some (.int l2)] []) (kf : ¬ (y3 : Int32) ≤ (l2 : Int32) → Z g kX2_wouldLaughAgain Q d cN sN M 12 [some (.ref l0), o1, some (.int l2)] []) : Z g kX2_wouldLaughAgain Q d cN sN M 4 [some (.ref l0), o1, some (.int l2)] [] := by
  refine zi_iload_n dX2_wouldLaughAgain_4 rfl ?_
  refine zi_aload_n dX2_wouldLaughAgain_5 rfl zrf_r ?_
  refine zi_getfield dX2_wouldLaughAgain_6 rfl h2 h4 ?_
  exact zi_icmp_ge (tgt := 26) dX2_wouldLaughAgain_9 (by decide +kernel) kt kf
theorem sX2_wouldLaughAgain_12 {g : ZG} {Q : ZQ} {d cN sN : Nat} {M : ZM} {l1 : Int32} {l0 : Nat} {l2 : Int32}  (kk : Z g kX2_wouldLaughAgain Q d cN sN M 15 [some (.ref l0), some (.int l1), some (.int l2)] [.int l2, .ref l0, .int l1]) : Z g kX2_wouldLaughAgain Q d cN sN M 12 [some (.ref l0), some (.int l1), some (.int l2)] [] := by
  refine zi_iload_n dX2_wouldLaughAgain_12 rfl ?_
  refine zi_aload_n dX2_wouldLaughAgain_13 rfl zrf_r ?_
  refine zi_iload_n dX2_wouldLaughAgain_14 rfl ?_
  exact kk
theorem sX2_wouldLaughAgain_18 {g : ZG} {Q : ZQ} {d cN sN : Nat} {M : ZM} {t0 : Int32} {t1 : Int32} {l2 : Int32} {o0 o1 : Option Value}  (kk : Z g kX2_wouldLaughAgain Q d cN sN M 4 [o0, some (.int (t0 + t1)), some (.int (l2 + 1))] []) : Z g kX2_wouldLaughAgain Q d cN sN M 18 [o0, o1, some (.int l2)] [.int t1, .int t0] := by
  refine zi_iadd dX2_wouldLaughAgain_18 ?_
  refine zi_istore_n dX2_wouldLaughAgain_19 (Nat.le_of_ble_eq_true rfl) ?_
  refine zi_iinc dX2_wouldLaughAgain_20 rfl (by decide +kernel : Int32.ofInt (1) = 1) (Nat.le_of_ble_eq_true rfl) ?_
  exact zi_goto (tgt := 4) dX2_wouldLaughAgain_23 (by decide +kernel) kk
theorem sX2_wouldLaughAgain_26 {g : ZG} {Q : ZQ} {d cN sN : Nat} {M : ZM} {l1 : Int32} {o0 o2 : Option Value}  (kk : Q.1 (some (.int l1)) M) : Z g kX2_wouldLaughAgain Q d cN sN M 26 [o0, some (.int l1), o2] [] := by
  refine zi_iload_n dX2_wouldLaughAgain_26 rfl ?_
  exact zi_ireturn dX2_wouldLaughAgain_27 rfl rfl kk
abbrev kX2_laughsOf : ZK := (RX2, cX2_laughsOf, 5, (Option.some Jvm.ClassFile.FieldType.int), [], false, fX2)
abbrev tX2_laughsOf (g : ZG) (args : List Value) (M : ZM) (d c s : Nat) (Q : ZQ) : Prop := Ct g yX2_laughsOf (ws_ yX2_laughsOf cX2_laughsOf 5 (Option.some Jvm.ClassFile.FieldType.int)) args M d c s Q
abbrev nX2_laughsOf : Nat := 5
theorem mX2_laughsOf : zMok yX2_laughsOf 1 5 := ⟨⟨by decide +kernel, by decide +kernel, by decide +kernel⟩, by decide⟩
theorem eX2_laughsOf {g : ZG} {Q : ZQ} {d cN sN : Nat} {M : ZM} {a0 : Nat} {x1 : Int32} (hV : zV g) (h : Z g kX2_laughsOf Q d cN sN M 0 [some (.ref a0), some (.int x1), none, none, none] []) : tX2_laughsOf g [.ref a0, .int x1] M d cN sN Q := Ct.of (K := kX2_laughsOf) rfl (by decide +kernel) hV fokX2 rfl (fun h => by cases h) (fun v hv => by simp only [List.mem_cons, List.not_mem_nil, or_false] at hv; rcases hv with rfl | rfl <;> first | rfl | assumption) (Nat.le_of_ble_eq_true rfl) h
theorem sX2_laughsOf_0 {g : ZG} {Q : ZQ} {d cN sN : Nat} {M : ZM} {o0 o1 o2 o3 o4 : Option Value}  (kk : Z g kX2_laughsOf Q d cN sN M 4 [o0, o1, some (.int 0), some (.int 0), o4] []) : Z g kX2_laughsOf Q d cN sN M 0 [o0, o1, o2, o3, o4] [] := by
  refine zi_iconst dX2_laughsOf_0 (by decide +kernel : Int32.ofInt (0) = (0 : Int32)) ?_
  refine zi_istore_n dX2_laughsOf_1 (Nat.le_of_ble_eq_true rfl) ?_
  refine zi_iconst dX2_laughsOf_2 (by decide +kernel : Int32.ofInt (0) = (0 : Int32)) ?_
  refine zi_istore_n dX2_laughsOf_3 (Nat.le_of_ble_eq_true rfl) ?_
  exact kk
theorem sX2_laughsOf_4 {g : ZG} {Q : ZQ} {d cN sN : Nat} {M : ZM} {l3 : Int32} {l0 : Nat} {fs1 : List Value} {y3 : Int32} {o1 o2 o4 : Option Value} (h2 : M.1 l0 = some (.inr (1, fs1))) (h4 : (fs1)[3]? = some (.int y3)) (kt : (y3 : Int32) ≤ (l3 : Int32) → Z g kX2_laughsOf Q d cN sN M 75 [some (.ref l0), o1, o2, some (.int l3), o4] []) (kf : ¬ (y3 : Int32) ≤ (l3 : Int32) → Z g kX2_laughsOf Q d cN sN M 12 [some (.ref l0), o1, o2, some (.int l3), o4] []) : Z g kX2_laughsOf Q d cN sN M 4 [some (.ref l0), o1, o2, some (.int l3), o4] [] := by
  refine zi_iload_n dX2_laughsOf_4 rfl ?_
  refine zi_aload_n dX2_laughsOf_5 rfl zrf_r ?_
  refine zi_getfield dX2_laughsOf_6 rfl h2 h4 ?_
  exact zi_icmp_ge (tgt := 75) dX2_laughsOf_9 (by decide +kernel) kt kf
theorem sX2_laughsOf_12 {g : ZG} {Q : ZQ} {d cN sN : Nat} {M : ZM} {o0 o1 o2 o3 o4 : Option Value}  (kk : Z g kX2_laughsOf Q d cN sN M 15 [o0, o1, o2, o3, some (.int 0)] []) : Z g kX2_laughsOf Q d cN sN M 12 [o0, o1, o2, o3, o4] [] := by
  refine zi_iconst dX2_laughsOf_12 (by decide +kernel : Int32.ofInt (0) = (0 : Int32)) ?_
  refine zi_istore dX2_laughsOf_13 (Nat.le_of_ble_eq_true rfl) ?_
  exact kk
theorem sX2_laughsOf_15 {g : ZG} {Q : ZQ} {d cN sN : Nat} {M : ZM} {l4 : Int32} {l0 : Nat} {fs1 : List Value} {r3 : Nat} {l3 : Int32} {n5 : Nat} {f6 : Nat → Option Nat} {c7 : ClassId} {r11 : Nat} {fs13 : List Value} {y15 : Int32} {o1 o2 : Option Value} (h2 : M.1 l0 = some (.inr (1, fs1))) (h4 : (fs1)[4]? = some (.ref r3)) (h8 : M.1 r3 = some (.inl (c7, n5, .inr (.inr (.inr (.inr f6)))))) (h9 : zRt g c7) (h10 : vp_in (l3) n5) (h12 : va_rf (f6 ((l3 : Int32).toNatClampNeg)) = .ref r11) (h14 : M.1 r11 = some (.inr (3, fs13))) (h16 : (fs13)[1]? = some (.int y15)) (kt : (y15 : Int32) ≤ (l4 : Int32) → Z g kX2_laughsOf Q d cN sN M 69 [some (.ref l0), o1, o2, some (.int l3), some (.int l4)] []) (kf : ¬ (y15 : Int32) ≤ (l4 : Int32) → Z g kX2_laughsOf Q d cN sN M 29 [some (.ref l0), o1, o2, some (.int l3), some (.int l4)] []) : Z g kX2_laughsOf Q d cN sN M 15 [some (.ref l0), o1, o2, some (.int l3), some (.int l4)] [] := by
  refine zi_iload dX2_laughsOf_15 rfl ?_
  refine zi_aload_n dX2_laughsOf_17 rfl zrf_r ?_
  refine zi_getfield dX2_laughsOf_18 rfl h2 h4 ?_
  refine zi_iload_n dX2_laughsOf_21 rfl ?_
  refine zi_aaload dX2_laughsOf_22 h8 h9 h10 h12 ?_
  refine zi_getfield dX2_laughsOf_23 rfl h14 h16 ?_
  exact zi_icmp_ge (tgt := 69) dX2_laughsOf_26 (by decide +kernel) kt kf
theorem sX2_laughsOf_29 {g : ZG} {Q : ZQ} {d cN sN : Nat} {M : ZM} {l2 : Int32} {l0 : Nat} {fs1 : List Value} {r3 : Nat} {l3 : Int32} {n5 : Nat} {f6 : Nat → Option Nat} {c7 : ClassId} {r11 : Nat} {fs13 : List Value} {r15 : Nat} {l4 : Int32} {n17 : Nat} {f18 : Nat → Int32} {o1 : Option Value} (h2 : M.1 l0 = some (.inr (1, fs1))) (h4 : (fs1)[4]? = some (.ref r3)) (h8 : M.1 r3 = some (.inl (c7, n5, .inr (.inr (.inr (.inr f6)))))) (h9 : zRt g c7) (h10 : vp_in (l3) n5) (h12 : va_rf (f6 ((l3 : Int32).toNatClampNeg)) = .ref r11) (h14 : M.1 r11 = some (.inr (3, fs13))) (h16 : (fs13)[4]? = some (.ref r15)) (h19 : M.1 r15 = some (.inl (zA g 0, n17, .inl f18))) (h20 : vp_in (l4) n17) (kt : ¬ (f18 ((l4 : Int32).toNatClampNeg) : Int32) = (2 : Int32) → Z g kX2_laughsOf Q d cN sN M 60 [some (.ref l0), o1, some (.int l2), some (.int l3), some (.int l4)] [.int l2]) (kf : (f18 ((l4 : Int32).toNatClampNeg) : Int32) = (2 : Int32) → Z g kX2_laughsOf Q d cN sN M 46 [some (.ref l0), o1, some (.int l2), some (.int l3), some (.int l4)] [.int l2]) : Z g kX2_laughsOf Q d cN sN M 29 [some (.ref l0), o1, some (.int l2), some (.int l3), some (.int l4)] [] := by
  refine zi_iload_n dX2_laughsOf_29 rfl ?_
  refine zi_aload_n dX2_laughsOf_30 rfl zrf_r ?_
  refine zi_getfield dX2_laughsOf_31 rfl h2 h4 ?_
  refine zi_iload_n dX2_laughsOf_34 rfl ?_
  refine zi_aaload dX2_laughsOf_35 h8 h9 h10 h12 ?_
  refine zi_getfield dX2_laughsOf_36 rfl h14 h16 ?_
  refine zi_iload dX2_laughsOf_39 rfl ?_
  refine zi_iaload dX2_laughsOf_41 h19 h20 ?_
  refine zi_iconst dX2_laughsOf_42 (by decide +kernel : Int32.ofInt (2) = (2 : Int32)) ?_
  exact zi_icmp_ne (tgt := 60) dX2_laughsOf_43 (by decide +kernel) kt kf
theorem sX2_laughsOf_46 {g : ZG} {Q : ZQ} {d cN sN : Nat} {M : ZM} {t0 : Int32} {l0 : Nat} {l3 : Int32} {l4 : Int32} {o1 o2 : Option Value}  (kk : Z g kX2_laughsOf Q d cN sN M 50 [some (.ref l0), o1, o2, some (.int l3), some (.int l4)] [.int l4, .int l3, .ref l0, .int t0]) : Z g kX2_laughsOf Q d cN sN M 46 [some (.ref l0), o1, o2, some (.int l3), some (.int l4)] [.int t0] := by
  refine zi_aload_n dX2_laughsOf_46 rfl zrf_r ?_
  refine zi_iload_n dX2_laughsOf_47 rfl ?_
  refine zi_iload dX2_laughsOf_48 rfl ?_
  exact kk
theorem sX2_laughsOf_53 {g : ZG} {Q : ZQ} {d cN sN : Nat} {M : ZM} {t0 : Int32} {t1 : Int32} {l1 : Int32} {o0 o2 o3 o4 : Option Value}  (kk : Z g kX2_laughsOf Q d cN sN M 61 [o0, some (.int l1), o2, o3, o4] [.int ((t1 >>> (l1 &&& 31)) &&& 1), .int t0]) : Z g kX2_laughsOf Q d cN sN M 53 [o0, some (.int l1), o2, o3, o4] [.int t1, .int t0] := by
  refine zi_iload_n dX2_laughsOf_53 rfl ?_
  refine zi_ishr dX2_laughsOf_54 ?_
  refine zi_iconst dX2_laughsOf_55 (by decide +kernel : Int32.ofInt (1) = (1 : Int32)) ?_
  refine zi_iand dX2_laughsOf_56 ?_
  exact zi_goto (tgt := 61) dX2_laughsOf_57 (by decide +kernel) kk
theorem sX2_laughsOf_60 {g : ZG} {Q : ZQ} {d cN sN : Nat} {M : ZM} {t0 : Int32} {o0 o1 o2 o3 o4 : Option Value}  (kk : Z g kX2_laughsOf Q d cN sN M 61 [o0, o1, o2, o3, o4] [.int 0, .int t0]) : Z g kX2_laughsOf Q d cN sN M 60 [o0, o1, o2, o3, o4] [.int t0] := by
  refine zi_iconst dX2_laughsOf_60 (by decide +kernel : Int32.ofInt (0) = (0 : Int32)) ?_
  exact kk
theorem sX2_laughsOf_61 {g : ZG} {Q : ZQ} {d cN sN : Nat} {M : ZM} {t0 : Int32} {t1 : Int32} {l4 : Int32} {o0 o1 o2 o3 : Option Value}  (kk : Z g kX2_laughsOf Q d cN sN M 15 [o0, o1, some (.int (t0 + t1)), o3, some (.int (l4 + 1))] []) : Z g kX2_laughsOf Q d cN sN M 61 [o0, o1, o2, o3, some (.int l4)] [.int t1, .int t0] := by
  refine zi_iadd dX2_laughsOf_61 ?_
  refine zi_istore_n dX2_laughsOf_62 (Nat.le_of_ble_eq_true rfl) ?_
  refine zi_iinc dX2_laughsOf_63 rfl (by decide +kernel : Int32.ofInt (1) = 1) (Nat.le_of_ble_eq_true rfl) ?_
  exact zi_goto (tgt := 15) dX2_laughsOf_66 (by decide +kernel) kk
theorem sX2_laughsOf_69 {g : ZG} {Q : ZQ} {d cN sN : Nat} {M : ZM} {l3 : Int32} {o0 o1 o2 o4 : Option Value}  (kk : Z g kX2_laughsOf Q d cN sN M 4 [o0, o1, o2, some (.int (l3 + 1)), o4] []) : Z g kX2_laughsOf Q d cN sN M 69 [o0, o1, o2, some (.int l3), o4] [] := by
  refine zi_iinc dX2_laughsOf_69 rfl (by decide +kernel : Int32.ofInt (1) = 1) (Nat.le_of_ble_eq_true rfl) ?_
  exact zi_goto (tgt := 4) dX2_laughsOf_72 (by decide +kernel) kk
theorem sX2_laughsOf_75 {g : ZG} {Q : ZQ} {d cN sN : Nat} {M : ZM} {l2 : Int32} {o0 o1 o3 o4 : Option Value}  (kk : Q.1 (some (.int l2)) M) : Z g kX2_laughsOf Q d cN sN M 75 [o0, o1, some (.int l2), o3, o4] [] := by
  refine zi_iload_n dX2_laughsOf_75 rfl ?_
  exact zi_ireturn dX2_laughsOf_76 rfl rfl kk
abbrev kX2_laughing : ZK := (RX2, cX2_laughing, 6, (Option.some Jvm.ClassFile.FieldType.int), [], false, fX2)
abbrev tX2_laughing (g : ZG) (args : List Value) (M : ZM) (d c s : Nat) (Q : ZQ) : Prop := Ct g yX2_laughing (ws_ yX2_laughing cX2_laughing 6 (Option.some Jvm.ClassFile.FieldType.int)) args M d c s Q
abbrev nX2_laughing : Nat := 4
theorem mX2_laughing : zMok yX2_laughing 2 6 := ⟨⟨by decide +kernel, by decide +kernel, by decide +kernel⟩, by decide⟩
theorem eX2_laughing {g : ZG} {Q : ZQ} {d cN sN : Nat} {M : ZM} {a0 : Nat} {x1 : Int32} {x2 : Int32} (hV : zV g) (h : Z g kX2_laughing Q d cN sN M 0 [some (.ref a0), some (.int x1), some (.int x2), none, none, none] []) : tX2_laughing g [.ref a0, .int x1, .int x2] M d cN sN Q := Ct.of (K := kX2_laughing) rfl (by decide +kernel) hV fokX2 rfl (fun h => by cases h) (fun v hv => by simp only [List.mem_cons, List.not_mem_nil, or_false] at hv; rcases hv with rfl | rfl | rfl <;> first | rfl | assumption) (Nat.le_of_ble_eq_true rfl) h
theorem sX2_laughing_0 {g : ZG} {Q : ZQ} {d cN sN : Nat} {M : ZM} {l0 : Nat} {fs1 : List Value} {r3 : Nat} {l1 : Int32} {n5 : Nat} {f6 : Nat → Option Nat} {c7 : ClassId} {r11 : Nat} {o2 o3 o4 o5 : Option Value} (h2 : M.1 l0 = some (.inr (1, fs1))) (h4 : (fs1)[4]? = some (.ref r3)) (h8 : M.1 r3 = some (.inl (c7, n5, .inr (.inr (.inr (.inr f6)))))) (h9 : zRt g c7) (h10 : vp_in (l1) n5) (h12 : va_rf (f6 ((l1 : Int32).toNatClampNeg)) = .ref r11) (kk : Z g kX2_laughing Q d cN sN M 13 [some (.ref l0), some (.int l1), o2, some (.ref r11), some (.int 0), some (.int 0)] []) : Z g kX2_laughing Q d cN sN M 0 [some (.ref l0), some (.int l1), o2, o3, o4, o5] [] := by
  refine zi_aload_n dX2_laughing_0 rfl zrf_r ?_
  refine zi_getfield dX2_laughing_1 rfl h2 h4 ?_
  refine zi_iload_n dX2_laughing_4 rfl ?_
  refine zi_aaload dX2_laughing_5 h8 h9 h10 h12 ?_
  refine zi_astore_n dX2_laughing_6 zrf_r (Nat.le_of_ble_eq_true rfl) ?_
  refine zi_iconst dX2_laughing_7 (by decide +kernel : Int32.ofInt (0) = (0 : Int32)) ?_
  refine zi_istore dX2_laughing_8 (Nat.le_of_ble_eq_true rfl) ?_
  refine zi_iconst dX2_laughing_10 (by decide +kernel : Int32.ofInt (0) = (0 : Int32)) ?_
  refine zi_istore dX2_laughing_11 (Nat.le_of_ble_eq_true rfl) ?_
  exact kk
theorem sX2_laughing_13 {g : ZG} {Q : ZQ} {d cN sN : Nat} {M : ZM} {l5 : Int32} {l0 : Nat} {fs1 : List Value} {y3 : Int32} {o1 o2 o3 o4 : Option Value} (h2 : M.1 l0 = some (.inr (1, fs1))) (h4 : (fs1)[5]? = some (.int y3)) (kt : (y3 : Int32) ≤ (l5 : Int32) → Z g kX2_laughing Q d cN sN M 76 [some (.ref l0), o1, o2, o3, o4, some (.int l5)] []) (kf : ¬ (y3 : Int32) ≤ (l5 : Int32) → Z g kX2_laughing Q d cN sN M 22 [some (.ref l0), o1, o2, o3, o4, some (.int l5)] []) : Z g kX2_laughing Q d cN sN M 13 [some (.ref l0), o1, o2, o3, o4, some (.int l5)] [] := by
  refine zi_iload dX2_laughing_13 rfl ?_
  refine zi_aload_n dX2_laughing_15 rfl zrf_r ?_
  refine zi_getfield dX2_laughing_16 rfl h2 h4 ?_
  exact zi_icmp_ge (tgt := 76) dX2_laughing_19 (by decide +kernel) kt kf
theorem sX2_laughing_22 {g : ZG} {Q : ZQ} {d cN sN : Nat} {M : ZM} {l3 : Nat} {fs1 : List Value} {r3 : Nat} {l2 : Int32} {n5 : Nat} {f6 : Nat → Int32} {o0 o1 o4 o5 : Option Value} (h2 : M.1 l3 = some (.inr (3, fs1))) (h4 : (fs1)[4]? = some (.ref r3)) (h7 : M.1 r3 = some (.inl (zA g 0, n5, .inl f6))) (h8 : vp_in (l2) n5) (kt : (f6 ((l2 : Int32).toNatClampNeg) : Int32) = 0 → Z g kX2_laughing Q d cN sN M 76 [o0, o1, some (.int l2), some (.ref l3), o4, o5] []) (kf : ¬ (f6 ((l2 : Int32).toNatClampNeg) : Int32) = 0 → Z g kX2_laughing Q d cN sN M 31 [o0, o1, some (.int l2), some (.ref l3), o4, o5] []) : Z g kX2_laughing Q d cN sN M 22 [o0, o1, some (.int l2), some (.ref l3), o4, o5] [] := by
  refine zi_aload_n dX2_laughing_22 rfl zrf_r ?_
  refine zi_getfield dX2_laughing_23 rfl h2 h4 ?_
  refine zi_iload_n dX2_laughing_26 rfl ?_
  refine zi_iaload dX2_laughing_27 h7 h8 ?_
  exact zi_if_eq (tgt := 76) dX2_laughing_28 (by decide +kernel) kt kf
theorem sX2_laughing_31 {g : ZG} {Q : ZQ} {d cN sN : Nat} {M : ZM} {l4 : Int32} {l0 : Nat} {fs1 : List Value} {r3 : Nat} {l5 : Int32} {n5 : Nat} {f6 : Nat → Option Nat} {c7 : ClassId} {r11 : Nat} {l3 : Nat} {fs13 : List Value} {r15 : Nat} {l2 : Int32} {n17 : Nat} {f18 : Nat → Int32} {o1 : Option Value} (h2 : M.1 l0 = some (.inr (1, fs1))) (h4 : (fs1)[8]? = some (.ref r3)) (h8 : M.1 r3 = some (.inl (c7, n5, .inr (.inr (.inr (.inr f6)))))) (h9 : zRt g c7) (h10 : vp_in (l5) n5) (h12 : va_rf (f6 ((l5 : Int32).toNatClampNeg)) = .ref r11) (h14 : M.1 l3 = some (.inr (3, fs13))) (h16 : (fs13)[3]? = some (.ref r15)) (h19 : M.1 r15 = some (.inl (zA g 0, n17, .inl f18))) (h20 : vp_in (l2) n17) (kk : Z g kX2_laughing Q d cN sN M 48 [some (.ref l0), o1, some (.int l2), some (.ref l3), some (.int l4), some (.int l5)] [.int l2, .ref l3, .int (f18 ((l2 : Int32).toNatClampNeg)), .ref r11, .int l4]) : Z g kX2_laughing Q d cN sN M 31 [some (.ref l0), o1, some (.int l2), some (.ref l3), some (.int l4), some (.int l5)] [] := by
  refine zi_iload dX2_laughing_31 rfl ?_
  refine zi_aload_n dX2_laughing_33 rfl zrf_r ?_
  refine zi_getfield dX2_laughing_34 rfl h2 h4 ?_
  refine zi_iload dX2_laughing_37 rfl ?_
  refine zi_aaload dX2_laughing_39 h8 h9 h10 h12 ?_
  refine zi_aload_n dX2_laughing_40 rfl zrf_r ?_
  refine zi_getfield dX2_laughing_41 rfl h14 h16 ?_
  refine zi_iload_n dX2_laughing_44 rfl ?_
  refine zi_iaload dX2_laughing_45 h19 h20 ?_
  refine zi_aload_n dX2_laughing_46 rfl zrf_r ?_
  refine zi_iload_n dX2_laughing_47 rfl ?_
  exact kk
theorem sX2_laughing_56 {g : ZG} {Q : ZQ} {d cN sN : Nat} {M : ZM} {t0 : Int32} {t1 : Int32} {o0 o1 o2 o3 o4 o5 : Option Value}  (kt : (t1 : Int32) = 0 → Z g kX2_laughing Q d cN sN M 66 [o0, o1, o2, o3, o4, o5] [.int t0]) (kf : ¬ (t1 : Int32) = 0 → Z g kX2_laughing Q d cN sN M 59 [o0, o1, o2, o3, o4, o5] [.int t0]) : Z g kX2_laughing Q d cN sN M 56 [o0, o1, o2, o3, o4, o5] [.int t1, .int t0] := by
  exact zi_if_eq (tgt := 66) dX2_laughing_56 (by decide +kernel) kt kf
theorem sX2_laughing_59 {g : ZG} {Q : ZQ} {d cN sN : Nat} {M : ZM} {t0 : Int32} {l5 : Int32} {o0 o1 o2 o3 o4 : Option Value}  (kk : Z g kX2_laughing Q d cN sN M 67 [o0, o1, o2, o3, o4, some (.int l5)] [.int (1 <<< (l5 &&& 31)), .int t0]) : Z g kX2_laughing Q d cN sN M 59 [o0, o1, o2, o3, o4, some (.int l5)] [.int t0] := by
  refine zi_iconst dX2_laughing_59 (by decide +kernel : Int32.ofInt (1) = (1 : Int32)) ?_
  refine zi_iload dX2_laughing_60 rfl ?_
  refine zi_ishl dX2_laughing_62 ?_
  exact zi_goto (tgt := 67) dX2_laughing_63 (by decide +kernel) kk
theorem sX2_laughing_66 {g : ZG} {Q : ZQ} {d cN sN : Nat} {M : ZM} {t0 : Int32} {o0 o1 o2 o3 o4 o5 : Option Value}  (kk : Z g kX2_laughing Q d cN sN M 67 [o0, o1, o2, o3, o4, o5] [.int 0, .int t0]) : Z g kX2_laughing Q d cN sN M 66 [o0, o1, o2, o3, o4, o5] [.int t0] := by
  refine zi_iconst dX2_laughing_66 (by decide +kernel : Int32.ofInt (0) = (0 : Int32)) ?_
  exact kk
theorem sX2_laughing_67 {g : ZG} {Q : ZQ} {d cN sN : Nat} {M : ZM} {t0 : Int32} {t1 : Int32} {l5 : Int32} {o0 o1 o2 o3 o4 : Option Value}  (kk : Z g kX2_laughing Q d cN sN M 13 [o0, o1, o2, o3, some (.int (t0 ||| t1)), some (.int (l5 + 1))] []) : Z g kX2_laughing Q d cN sN M 67 [o0, o1, o2, o3, o4, some (.int l5)] [.int t1, .int t0] := by
  refine zi_ior dX2_laughing_67 ?_
  refine zi_istore dX2_laughing_68 (Nat.le_of_ble_eq_true rfl) ?_
  refine zi_iinc dX2_laughing_70 rfl (by decide +kernel : Int32.ofInt (1) = 1) (Nat.le_of_ble_eq_true rfl) ?_
  exact zi_goto (tgt := 13) dX2_laughing_73 (by decide +kernel) kk
theorem sX2_laughing_76 {g : ZG} {Q : ZQ} {d cN sN : Nat} {M : ZM} {l4 : Int32} {o0 o1 o2 o3 o5 : Option Value}  (kk : Q.1 (some (.int l4)) M) : Z g kX2_laughing Q d cN sN M 76 [o0, o1, o2, o3, some (.int l4), o5] [] := by
  refine zi_iload dX2_laughing_76 rfl ?_
  exact zi_ireturn dX2_laughing_78 rfl rfl kk
abbrev kX2_wouldLaugh : ZK := (RX2, cX2_wouldLaugh, 4, (Option.some Jvm.ClassFile.FieldType.int), [], false, fX2)
abbrev tX2_wouldLaugh (g : ZG) (args : List Value) (M : ZM) (d c s : Nat) (Q : ZQ) : Prop := Ct g yX2_wouldLaugh (ws_ yX2_wouldLaugh cX2_wouldLaugh 4 (Option.some Jvm.ClassFile.FieldType.int)) args M d c s Q
abbrev nX2_wouldLaugh : Nat := 5
theorem mX2_wouldLaugh : zMok yX2_wouldLaugh 0 4 := ⟨⟨by decide +kernel, by decide +kernel, by decide +kernel⟩, by decide⟩
theorem eX2_wouldLaugh {g : ZG} {Q : ZQ} {d cN sN : Nat} {M : ZM} {a0 : Nat} (hV : zV g) (h : Z g kX2_wouldLaugh Q d cN sN M 0 [some (.ref a0), none, none, none] []) : tX2_wouldLaugh g [.ref a0] M d cN sN Q := Ct.of (K := kX2_wouldLaugh) rfl (by decide +kernel) hV fokX2 rfl (fun h => by cases h) (fun v hv => by simp only [List.mem_cons, List.not_mem_nil, or_false] at hv; rcases hv with rfl <;> first | rfl | assumption) (Nat.le_of_ble_eq_true rfl) h
theorem sX2_wouldLaugh_0 {g : ZG} {Q : ZQ} {d cN sN : Nat} {M : ZM} {o0 o1 o2 o3 : Option Value}  (kk : Z g kX2_wouldLaugh Q d cN sN M 4 [o0, some (.int 0), some (.int 0), o3] []) : Z g kX2_wouldLaugh Q d cN sN M 0 [o0, o1, o2, o3] [] := by
  refine zi_iconst dX2_wouldLaugh_0 (by decide +kernel : Int32.ofInt (0) = (0 : Int32)) ?_
  refine zi_istore_n dX2_wouldLaugh_1 (Nat.le_of_ble_eq_true rfl) ?_
  refine zi_iconst dX2_wouldLaugh_2 (by decide +kernel : Int32.ofInt (0) = (0 : Int32)) ?_
  refine zi_istore_n dX2_wouldLaugh_3 (Nat.le_of_ble_eq_true rfl) ?_
  exact kk
theorem sX2_wouldLaugh_4 {g : ZG} {Q : ZQ} {d cN sN : Nat} {M : ZM} {l2 : Int32} {l0 : Nat} {fs1 : List Value} {y3 : Int32} {o1 o3 : Option Value} (h2 : M.1 l0 = some (.inr (1, fs1))) (h4 : (fs1)[3]? = some (.int y3)) (kt : (y3 : Int32) ≤ (l2 : Int32) → Z g kX2_wouldLaugh Q d cN sN M 70 [some (.ref l0), o1, some (.int l2), o3] []) (kf : ¬ (y3 : Int32) ≤ (l2 : Int32) → Z g kX2_wouldLaugh Q d cN sN M 12 [some (.ref l0), o1, some (.int l2), o3] []) : Z g kX2_wouldLaugh Q d cN sN M 4 [some (.ref l0), o1, some (.int l2), o3] [] := by
  refine zi_iload_n dX2_wouldLaugh_4 rfl ?_
  refine zi_aload_n dX2_wouldLaugh_5 rfl zrf_r ?_
  refine zi_getfield dX2_wouldLaugh_6 rfl h2 h4 ?_
  exact zi_icmp_ge (tgt := 70) dX2_wouldLaugh_9 (by decide +kernel) kt kf
theorem sX2_wouldLaugh_12 {g : ZG} {Q : ZQ} {d cN sN : Nat} {M : ZM} {o0 o1 o2 o3 : Option Value}  (kk : Z g kX2_wouldLaugh Q d cN sN M 14 [o0, o1, o2, some (.int 0)] []) : Z g kX2_wouldLaugh Q d cN sN M 12 [o0, o1, o2, o3] [] := by
  refine zi_iconst dX2_wouldLaugh_12 (by decide +kernel : Int32.ofInt (0) = (0 : Int32)) ?_
  refine zi_istore_n dX2_wouldLaugh_13 (Nat.le_of_ble_eq_true rfl) ?_
  exact kk
theorem sX2_wouldLaugh_14 {g : ZG} {Q : ZQ} {d cN sN : Nat} {M : ZM} {l3 : Int32} {l0 : Nat} {fs1 : List Value} {r3 : Nat} {l2 : Int32} {n5 : Nat} {f6 : Nat → Option Nat} {c7 : ClassId} {r11 : Nat} {fs13 : List Value} {y15 : Int32} {o1 : Option Value} (h2 : M.1 l0 = some (.inr (1, fs1))) (h4 : (fs1)[4]? = some (.ref r3)) (h8 : M.1 r3 = some (.inl (c7, n5, .inr (.inr (.inr (.inr f6)))))) (h9 : zRt g c7) (h10 : vp_in (l2) n5) (h12 : va_rf (f6 ((l2 : Int32).toNatClampNeg)) = .ref r11) (h14 : M.1 r11 = some (.inr (3, fs13))) (h16 : (fs13)[1]? = some (.int y15)) (kt : (y15 : Int32) ≤ (l3 : Int32) → Z g kX2_wouldLaugh Q d cN sN M 64 [some (.ref l0), o1, some (.int l2), some (.int l3)] []) (kf : ¬ (y15 : Int32) ≤ (l3 : Int32) → Z g kX2_wouldLaugh Q d cN sN M 27 [some (.ref l0), o1, some (.int l2), some (.int l3)] []) : Z g kX2_wouldLaugh Q d cN sN M 14 [some (.ref l0), o1, some (.int l2), some (.int l3)] [] := by
  refine zi_iload_n dX2_wouldLaugh_14 rfl ?_
  refine zi_aload_n dX2_wouldLaugh_15 rfl zrf_r ?_
  refine zi_getfield dX2_wouldLaugh_16 rfl h2 h4 ?_
  refine zi_iload_n dX2_wouldLaugh_19 rfl ?_
  refine zi_aaload dX2_wouldLaugh_20 h8 h9 h10 h12 ?_
  refine zi_getfield dX2_wouldLaugh_21 rfl h14 h16 ?_
  exact zi_icmp_ge (tgt := 64) dX2_wouldLaugh_24 (by decide +kernel) kt kf
theorem sX2_wouldLaugh_27 {g : ZG} {Q : ZQ} {d cN sN : Nat} {M : ZM} {l1 : Int32} {l0 : Nat} {fs1 : List Value} {r3 : Nat} {l2 : Int32} {n5 : Nat} {f6 : Nat → Option Nat} {c7 : ClassId} {r11 : Nat} {fs13 : List Value} {r15 : Nat} {l3 : Int32} {n17 : Nat} {f18 : Nat → Int32} (h2 : M.1 l0 = some (.inr (1, fs1))) (h4 : (fs1)[4]? = some (.ref r3)) (h8 : M.1 r3 = some (.inl (c7, n5, .inr (.inr (.inr (.inr f6)))))) (h9 : zRt g c7) (h10 : vp_in (l2) n5) (h12 : va_rf (f6 ((l2 : Int32).toNatClampNeg)) = .ref r11) (h14 : M.1 r11 = some (.inr (3, fs13))) (h16 : (fs13)[4]? = some (.ref r15)) (h19 : M.1 r15 = some (.inl (zA g 0, n17, .inl f18))) (h20 : vp_in (l3) n17) (kt : ¬ (f18 ((l3 : Int32).toNatClampNeg) : Int32) = (2 : Int32) → Z g kX2_wouldLaugh Q d cN sN M 55 [some (.ref l0), some (.int l1), some (.int l2), some (.int l3)] [.int l1]) (kf : (f18 ((l3 : Int32).toNatClampNeg) : Int32) = (2 : Int32) → Z g kX2_wouldLaugh Q d cN sN M 43 [some (.ref l0), some (.int l1), some (.int l2), some (.int l3)] [.int l1]) : Z g kX2_wouldLaugh Q d cN sN M 27 [some (.ref l0), some (.int l1), some (.int l2), some (.int l3)] [] := by
  refine zi_iload_n dX2_wouldLaugh_27 rfl ?_
  refine zi_aload_n dX2_wouldLaugh_28 rfl zrf_r ?_
  refine zi_getfield dX2_wouldLaugh_29 rfl h2 h4 ?_
  refine zi_iload_n dX2_wouldLaugh_32 rfl ?_
  refine zi_aaload dX2_wouldLaugh_33 h8 h9 h10 h12 ?_
  refine zi_getfield dX2_wouldLaugh_34 rfl h14 h16 ?_
  refine zi_iload_n dX2_wouldLaugh_37 rfl ?_
  refine zi_iaload dX2_wouldLaugh_38 h19 h20 ?_
  refine zi_iconst dX2_wouldLaugh_39 (by decide +kernel : Int32.ofInt (2) = (2 : Int32)) ?_
  exact zi_icmp_ne (tgt := 55) dX2_wouldLaugh_40 (by decide +kernel) kt kf
theorem sX2_wouldLaugh_43 {g : ZG} {Q : ZQ} {d cN sN : Nat} {M : ZM} {t0 : Int32} {l0 : Nat} {l2 : Int32} {l3 : Int32} {o1 : Option Value}  (kk : Z g kX2_wouldLaugh Q d cN sN M 46 [some (.ref l0), o1, some (.int l2), some (.int l3)] [.int l3, .int l2, .ref l0, .int t0]) : Z g kX2_wouldLaugh Q d cN sN M 43 [some (.ref l0), o1, some (.int l2), some (.int l3)] [.int t0] := by
  refine zi_aload_n dX2_wouldLaugh_43 rfl zrf_r ?_
  refine zi_iload_n dX2_wouldLaugh_44 rfl ?_
  refine zi_iload_n dX2_wouldLaugh_45 rfl ?_
  exact kk
theorem sX2_wouldLaugh_52 {g : ZG} {Q : ZQ} {d cN sN : Nat} {M : ZM} {t0 : Int32} {t1 : Int32} {o0 o1 o2 o3 : Option Value}  (kk : Z g kX2_wouldLaugh Q d cN sN M 56 [o0, o1, o2, o3] [.int t1, .int t0]) : Z g kX2_wouldLaugh Q d cN sN M 52 [o0, o1, o2, o3] [.int t1, .int t0] := by
  exact zi_goto (tgt := 56) dX2_wouldLaugh_52 (by decide +kernel) kk
theorem sX2_wouldLaugh_55 {g : ZG} {Q : ZQ} {d cN sN : Nat} {M : ZM} {t0 : Int32} {o0 o1 o2 o3 : Option Value}  (kk : Z g kX2_wouldLaugh Q d cN sN M 56 [o0, o1, o2, o3] [.int 0, .int t0]) : Z g kX2_wouldLaugh Q d cN sN M 55 [o0, o1, o2, o3] [.int t0] := by
  refine zi_iconst dX2_wouldLaugh_55 (by decide +kernel : Int32.ofInt (0) = (0 : Int32)) ?_
  exact kk
theorem sX2_wouldLaugh_56 {g : ZG} {Q : ZQ} {d cN sN : Nat} {M : ZM} {t0 : Int32} {t1 : Int32} {l3 : Int32} {o0 o1 o2 : Option Value}  (kk : Z g kX2_wouldLaugh Q d cN sN M 14 [o0, some (.int (t0 + t1)), o2, some (.int (l3 + 1))] []) : Z g kX2_wouldLaugh Q d cN sN M 56 [o0, o1, o2, some (.int l3)] [.int t1, .int t0] := by
  refine zi_iadd dX2_wouldLaugh_56 ?_
  refine zi_istore_n dX2_wouldLaugh_57 (Nat.le_of_ble_eq_true rfl) ?_
  refine zi_iinc dX2_wouldLaugh_58 rfl (by decide +kernel : Int32.ofInt (1) = 1) (Nat.le_of_ble_eq_true rfl) ?_
  exact zi_goto (tgt := 14) dX2_wouldLaugh_61 (by decide +kernel) kk
theorem sX2_wouldLaugh_64 {g : ZG} {Q : ZQ} {d cN sN : Nat} {M : ZM} {l2 : Int32} {o0 o1 o3 : Option Value}  (kk : Z g kX2_wouldLaugh Q d cN sN M 4 [o0, o1, some (.int (l2 + 1)), o3] []) : Z g kX2_wouldLaugh Q d cN sN M 64 [o0, o1, some (.int l2), o3] [] := by
  refine zi_iinc dX2_wouldLaugh_64 rfl (by decide +kernel : Int32.ofInt (1) = 1) (Nat.le_of_ble_eq_true rfl) ?_
  exact zi_goto (tgt := 4) dX2_wouldLaugh_67 (by decide +kernel) kk
theorem sX2_wouldLaugh_70 {g : ZG} {Q : ZQ} {d cN sN : Nat} {M : ZM} {l1 : Int32} {o0 o2 o3 : Option Value}  (kk : Q.1 (some (.int l1)) M) : Z g kX2_wouldLaugh Q d cN sN M 70 [o0, some (.int l1), o2, o3] [] := by
  refine zi_iload_n dX2_wouldLaugh_70 rfl ?_
  exact zi_ireturn dX2_wouldLaugh_71 rfl rfl kk
abbrev kX2_areFinesAlike : ZK := (RX2, cX2_areFinesAlike, 4, (Option.some Jvm.ClassFile.FieldType.boolean), [], false, fX2)
abbrev tX2_areFinesAlike (g : ZG) (args : List Value) (M : ZM) (d c s : Nat) (Q : ZQ) : Prop := Ct g yX2_areFinesAlike (ws_ yX2_areFinesAlike cX2_areFinesAlike 4 (Option.some Jvm.ClassFile.FieldType.boolean)) args M d c s Q
abbrev nX2_areFinesAlike : Nat := 5
theorem mX2_areFinesAlike : zMok yX2_areFinesAlike 1 4 := ⟨⟨by decide +kernel, by decide +kernel, by decide +kernel⟩, by decide⟩
theorem eX2_areFinesAlike {g : ZG} {Q : ZQ} {d cN sN : Nat} {M : ZM} {a0 : Nat} {x1 : Int32} (hV : zV g) (h : Z g kX2_areFinesAlike Q d cN sN M 0 [some (.ref a0), some (.int x1), none, none] []) : tX2_areFinesAlike g [.ref a0, .int x1] M d cN sN Q := Ct.of (K := kX2_areFinesAlike) rfl (by decide +kernel) hV fokX2 rfl (fun h => by cases h) (fun v hv => by simp only [List.mem_cons, List.not_mem_nil, or_false] at hv; rcases hv with rfl | rfl <;> first | rfl | assumption) (Nat.le_of_ble_eq_true rfl) h
theorem sX2_areFinesAlike_0 {g : ZG} {Q : ZQ} {d cN sN : Nat} {M : ZM} {o0 o1 o2 o3 : Option Value}  (kk : Z g kX2_areFinesAlike Q d cN sN M 4 [o0, o1, some (.int 1), some (.int 0)] []) : Z g kX2_areFinesAlike Q d cN sN M 0 [o0, o1, o2, o3] [] := by
  refine zi_iconst dX2_areFinesAlike_0 (by decide +kernel : Int32.ofInt (1) = (1 : Int32)) ?_
  refine zi_istore_n dX2_areFinesAlike_1 (Nat.le_of_ble_eq_true rfl) ?_
  refine zi_iconst dX2_areFinesAlike_2 (by decide +kernel : Int32.ofInt (0) = (0 : Int32)) ?_
  refine zi_istore_n dX2_areFinesAlike_3 (Nat.le_of_ble_eq_true rfl) ?_
  exact kk
theorem sX2_areFinesAlike_4 {g : ZG} {Q : ZQ} {d cN sN : Nat} {M : ZM} {l3 : Int32} {l0 : Nat} {fs1 : List Value} {r3 : Nat} {l1 : Int32} {n5 : Nat} {f6 : Nat → Option Nat} {c7 : ClassId} {r11 : Nat} {fs13 : List Value} {y15 : Int32} {o2 : Option Value} (h2 : M.1 l0 = some (.inr (1, fs1))) (h4 : (fs1)[4]? = some (.ref r3)) (h8 : M.1 r3 = some (.inl (c7, n5, .inr (.inr (.inr (.inr f6)))))) (h9 : zRt g c7) (h10 : vp_in (l1) n5) (h12 : va_rf (f6 ((l1 : Int32).toNatClampNeg)) = .ref r11) (h14 : M.1 r11 = some (.inr (3, fs13))) (h16 : (fs13)[1]? = some (.int y15)) (kt : (y15 : Int32) ≤ (l3 : Int32) → Z g kX2_areFinesAlike Q d cN sN M 86 [some (.ref l0), some (.int l1), o2, some (.int l3)] []) (kf : ¬ (y15 : Int32) ≤ (l3 : Int32) → Z g kX2_areFinesAlike Q d cN sN M 17 [some (.ref l0), some (.int l1), o2, some (.int l3)] []) : Z g kX2_areFinesAlike Q d cN sN M 4 [some (.ref l0), some (.int l1), o2, some (.int l3)] [] := by
  refine zi_iload_n dX2_areFinesAlike_4 rfl ?_
  refine zi_aload_n dX2_areFinesAlike_5 rfl zrf_r ?_
  refine zi_getfield dX2_areFinesAlike_6 rfl h2 h4 ?_
  refine zi_iload_n dX2_areFinesAlike_9 rfl ?_
  refine zi_aaload dX2_areFinesAlike_10 h8 h9 h10 h12 ?_
  refine zi_getfield dX2_areFinesAlike_11 rfl h14 h16 ?_
  exact zi_icmp_ge (tgt := 86) dX2_areFinesAlike_14 (by decide +kernel) kt kf
theorem sX2_areFinesAlike_17 {g : ZG} {Q : ZQ} {d cN sN : Nat} {M : ZM} {l2 : Int32} {l0 : Nat} {l1 : Int32} {l3 : Int32}  (kk : Z g kX2_areFinesAlike Q d cN sN M 21 [some (.ref l0), some (.int l1), some (.int l2), some (.int l3)] [.int l3, .int l1, .ref l0, .int l2]) : Z g kX2_areFinesAlike Q d cN sN M 17 [some (.ref l0), some (.int l1), some (.int l2), some (.int l3)] [] := by
  refine zi_iload_n dX2_areFinesAlike_17 rfl ?_
  refine zi_aload_n dX2_areFinesAlike_18 rfl zrf_r ?_
  refine zi_iload_n dX2_areFinesAlike_19 rfl ?_
  refine zi_iload_n dX2_areFinesAlike_20 rfl ?_
  exact kk
theorem sX2_areFinesAlike_24 {g : ZG} {Q : ZQ} {d cN sN : Nat} {M : ZM} {t0 : Int32} {t1 : Int32} {l0 : Nat} {l1 : Int32} {l3 : Int32} {o2 : Option Value}  (kk : Z g kX2_areFinesAlike Q d cN sN M 27 [some (.ref l0), some (.int l1), o2, some (.int l3)] [.int l3, .int l1, .ref l0, .int t1, .int t0]) : Z g kX2_areFinesAlike Q d cN sN M 24 [some (.ref l0), some (.int l1), o2, some (.int l3)] [.int t1, .int t0] := by
  refine zi_aload_n dX2_areFinesAlike_24 rfl zrf_r ?_
  refine zi_iload_n dX2_areFinesAlike_25 rfl ?_
  refine zi_iload_n dX2_areFinesAlike_26 rfl ?_
  exact kk
theorem sX2_areFinesAlike_30 {g : ZG} {Q : ZQ} {d cN sN : Nat} {M : ZM} {t0 : Int32} {t1 : Int32} {t2 : Int32} {o0 o1 o2 o3 : Option Value}  (kt : ¬ (t1 : Int32) = (t2 : Int32) → Z g kX2_areFinesAlike Q d cN sN M 77 [o0, o1, o2, o3] [.int t0]) (kf : (t1 : Int32) = (t2 : Int32) → Z g kX2_areFinesAlike Q d cN sN M 33 [o0, o1, o2, o3] [.int t0]) : Z g kX2_areFinesAlike Q d cN sN M 30 [o0, o1, o2, o3] [.int t2, .int t1, .int t0] := by
  exact zi_icmp_ne (tgt := 77) dX2_areFinesAlike_30 (by decide +kernel) kt kf
theorem sX2_areFinesAlike_33 {g : ZG} {Q : ZQ} {d cN sN : Nat} {M : ZM} {t0 : Int32} {l0 : Nat} {fs1 : List Value} {r3 : Nat} {l1 : Int32} {n5 : Nat} {f6 : Nat → Option Nat} {c7 : ClassId} {r11 : Nat} {fs13 : List Value} {r15 : Nat} {l3 : Int32} {n17 : Nat} {f18 : Nat → Int32} {o2 : Option Value} (h2 : M.1 l0 = some (.inr (1, fs1))) (h4 : (fs1)[4]? = some (.ref r3)) (h8 : M.1 r3 = some (.inl (c7, n5, .inr (.inr (.inr (.inr f6)))))) (h9 : zRt g c7) (h10 : vp_in (l1) n5) (h12 : va_rf (f6 ((l1 : Int32).toNatClampNeg)) = .ref r11) (h14 : M.1 r11 = some (.inr (3, fs13))) (h16 : (fs13)[4]? = some (.ref r15)) (h19 : M.1 r15 = some (.inl (zA g 0, n17, .inl f18))) (h20 : vp_in (l3) n17) (kt : (f18 ((l3 : Int32).toNatClampNeg) : Int32) ≤ 0 → Z g kX2_areFinesAlike Q d cN sN M 51 [some (.ref l0), some (.int l1), o2, some (.int l3)] [.int t0]) (kf : ¬ (f18 ((l3 : Int32).toNatClampNeg) : Int32) ≤ 0 → Z g kX2_areFinesAlike Q d cN sN M 47 [some (.ref l0), some (.int l1), o2, some (.int l3)] [.int t0]) : Z g kX2_areFinesAlike Q d cN sN M 33 [some (.ref l0), some (.int l1), o2, some (.int l3)] [.int t0] := by
  refine zi_aload_n dX2_areFinesAlike_33 rfl zrf_r ?_
  refine zi_getfield dX2_areFinesAlike_34 rfl h2 h4 ?_
  refine zi_iload_n dX2_areFinesAlike_37 rfl ?_
  refine zi_aaload dX2_areFinesAlike_38 h8 h9 h10 h12 ?_
  refine zi_getfield dX2_areFinesAlike_39 rfl h14 h16 ?_
  refine zi_iload_n dX2_areFinesAlike_42 rfl ?_
  refine zi_iaload dX2_areFinesAlike_43 h19 h20 ?_
  exact zi_if_le (tgt := 51) dX2_areFinesAlike_44 (by decide +kernel) kt kf
theorem sX2_areFinesAlike_47 {g : ZG} {Q : ZQ} {d cN sN : Nat} {M : ZM} {t0 : Int32} {o0 o1 o2 o3 : Option Value}  (kk : Z g kX2_areFinesAlike Q d cN sN M 52 [o0, o1, o2, o3] [.int 1, .int t0]) : Z g kX2_areFinesAlike Q d cN sN M 47 [o0, o1, o2, o3] [.int t0] := by
  refine zi_iconst dX2_areFinesAlike_47 (by decide +kernel : Int32.ofInt (1) = (1 : Int32)) ?_
  exact zi_goto (tgt := 52) dX2_areFinesAlike_48 (by decide +kernel) kk
theorem sX2_areFinesAlike_51 {g : ZG} {Q : ZQ} {d cN sN : Nat} {M : ZM} {t0 : Int32} {o0 o1 o2 o3 : Option Value}  (kk : Z g kX2_areFinesAlike Q d cN sN M 52 [o0, o1, o2, o3] [.int 0, .int t0]) : Z g kX2_areFinesAlike Q d cN sN M 51 [o0, o1, o2, o3] [.int t0] := by
  refine zi_iconst dX2_areFinesAlike_51 (by decide +kernel : Int32.ofInt (0) = (0 : Int32)) ?_
  exact kk
theorem sX2_areFinesAlike_52 {g : ZG} {Q : ZQ} {d cN sN : Nat} {M : ZM} {t0 : Int32} {t1 : Int32} {l0 : Nat} {fs1 : List Value} {r3 : Nat} {l1 : Int32} {n5 : Nat} {f6 : Nat → Option Nat} {c7 : ClassId} {r11 : Nat} {l3 : Int32} {o2 : Option Value} (h2 : M.1 l0 = some (.inr (1, fs1))) (h4 : (fs1)[4]? = some (.ref r3)) (h8 : M.1 r3 = some (.inl (c7, n5, .inr (.inr (.inr (.inr f6)))))) (h9 : zRt g c7) (h10 : vp_in (l1) n5) (h12 : va_rf (f6 ((l1 : Int32).toNatClampNeg)) = .ref r11) (kk : Z g kX2_areFinesAlike Q d cN sN M 59 [some (.ref l0), some (.int l1), o2, some (.int l3)] [.int l3, .ref r11, .int t1, .int t0]) : Z g kX2_areFinesAlike Q d cN sN M 52 [some (.ref l0), some (.int l1), o2, some (.int l3)] [.int t1, .int t0] := by
  refine zi_aload_n dX2_areFinesAlike_52 rfl zrf_r ?_
  refine zi_getfield dX2_areFinesAlike_53 rfl h2 h4 ?_
  refine zi_iload_n dX2_areFinesAlike_56 rfl ?_
  refine zi_aaload dX2_areFinesAlike_57 h8 h9 h10 h12 ?_
  refine zi_iload_n dX2_areFinesAlike_58 rfl ?_
  exact kk
theorem sX2_areFinesAlike_62 {g : ZG} {Q : ZQ} {d cN sN : Nat} {M : ZM} {t0 : Int32} {t1 : Int32} {t2 : Int32} {o0 o1 o2 o3 : Option Value}  (kt : (t2 : Int32) ≤ 0 → Z g kX2_areFinesAlike Q d cN sN M 69 [o0, o1, o2, o3] [.int t1, .int t0]) (kf : ¬ (t2 : Int32) ≤ 0 → Z g kX2_areFinesAlike Q d cN sN M 65 [o0, o1, o2, o3] [.int t1, .int t0]) : Z g kX2_areFinesAlike Q d cN sN M 62 [o0, o1, o2, o3] [.int t2, .int t1, .int t0] := by
  exact zi_if_le (tgt := 69) dX2_areFinesAlike_62 (by decide +kernel) kt kf
theorem sX2_areFinesAlike_65 {g : ZG} {Q : ZQ} {d cN sN : Nat} {M : ZM} {t0 : Int32} {t1 : Int32} {o0 o1 o2 o3 : Option Value}  (kk : Z g kX2_areFinesAlike Q d cN sN M 70 [o0, o1, o2, o3] [.int 1, .int t1, .int t0]) : Z g kX2_areFinesAlike Q d cN sN M 65 [o0, o1, o2, o3] [.int t1, .int t0] := by
  refine zi_iconst dX2_areFinesAlike_65 (by decide +kernel : Int32.ofInt (1) = (1 : Int32)) ?_
  exact zi_goto (tgt := 70) dX2_areFinesAlike_66 (by decide +kernel) kk
theorem sX2_areFinesAlike_69 {g : ZG} {Q : ZQ} {d cN sN : Nat} {M : ZM} {t0 : Int32} {t1 : Int32} {o0 o1 o2 o3 : Option Value}  (kk : Z g kX2_areFinesAlike Q d cN sN M 70 [o0, o1, o2, o3] [.int 0, .int t1, .int t0]) : Z g kX2_areFinesAlike Q d cN sN M 69 [o0, o1, o2, o3] [.int t1, .int t0] := by
  refine zi_iconst dX2_areFinesAlike_69 (by decide +kernel : Int32.ofInt (0) = (0 : Int32)) ?_
  exact kk
theorem sX2_areFinesAlike_70 {g : ZG} {Q : ZQ} {d cN sN : Nat} {M : ZM} {t0 : Int32} {t1 : Int32} {t2 : Int32} {o0 o1 o2 o3 : Option Value}  (kt : ¬ (t1 : Int32) = (t2 : Int32) → Z g kX2_areFinesAlike Q d cN sN M 77 [o0, o1, o2, o3] [.int t0]) (kf : (t1 : Int32) = (t2 : Int32) → Z g kX2_areFinesAlike Q d cN sN M 73 [o0, o1, o2, o3] [.int t0]) : Z g kX2_areFinesAlike Q d cN sN M 70 [o0, o1, o2, o3] [.int t2, .int t1, .int t0] := by
  exact zi_icmp_ne (tgt := 77) dX2_areFinesAlike_70 (by decide +kernel) kt kf
theorem sX2_areFinesAlike_73 {g : ZG} {Q : ZQ} {d cN sN : Nat} {M : ZM} {t0 : Int32} {o0 o1 o2 o3 : Option Value}  (kk : Z g kX2_areFinesAlike Q d cN sN M 78 [o0, o1, o2, o3] [.int 1, .int t0]) : Z g kX2_areFinesAlike Q d cN sN M 73 [o0, o1, o2, o3] [.int t0] := by
  refine zi_iconst dX2_areFinesAlike_73 (by decide +kernel : Int32.ofInt (1) = (1 : Int32)) ?_
  exact zi_goto (tgt := 78) dX2_areFinesAlike_74 (by decide +kernel) kk
theorem sX2_areFinesAlike_77 {g : ZG} {Q : ZQ} {d cN sN : Nat} {M : ZM} {t0 : Int32} {o0 o1 o2 o3 : Option Value}  (kk : Z g kX2_areFinesAlike Q d cN sN M 78 [o0, o1, o2, o3] [.int 0, .int t0]) : Z g kX2_areFinesAlike Q d cN sN M 77 [o0, o1, o2, o3] [.int t0] := by
  refine zi_iconst dX2_areFinesAlike_77 (by decide +kernel : Int32.ofInt (0) = (0 : Int32)) ?_
  exact kk
theorem sX2_areFinesAlike_78 {g : ZG} {Q : ZQ} {d cN sN : Nat} {M : ZM} {t0 : Int32} {t1 : Int32} {l3 : Int32} {o0 o1 o2 : Option Value}  (kk : Z g kX2_areFinesAlike Q d cN sN M 4 [o0, o1, some (.int (t0 &&& t1)), some (.int (l3 + 1))] []) : Z g kX2_areFinesAlike Q d cN sN M 78 [o0, o1, o2, some (.int l3)] [.int t1, .int t0] := by
  refine zi_iand dX2_areFinesAlike_78 ?_
  refine zi_istore_n dX2_areFinesAlike_79 (Nat.le_of_ble_eq_true rfl) ?_
  refine zi_iinc dX2_areFinesAlike_80 rfl (by decide +kernel : Int32.ofInt (1) = 1) (Nat.le_of_ble_eq_true rfl) ?_
  exact zi_goto (tgt := 4) dX2_areFinesAlike_83 (by decide +kernel) kk
theorem sX2_areFinesAlike_86 {g : ZG} {Q : ZQ} {d cN sN : Nat} {M : ZM} {l2 : Int32} {o0 o1 o3 : Option Value} (h1 : l2 = 0 ∨ l2 = 1) (kk : Q.1 (some (.int l2)) M) : Z g kX2_areFinesAlike Q d cN sN M 86 [o0, o1, some (.int l2), o3] [] := by
  refine zi_iload_n dX2_areFinesAlike_86 rfl ?_
  exact zi_ireturn dX2_areFinesAlike_87 rfl (znar_z h1) kk
abbrev kX2_fine : ZK := (RX2, cX2_fine, 9, (Option.some Jvm.ClassFile.FieldType.int), [], false, fX2)
abbrev tX2_fine (g : ZG) (args : List Value) (M : ZM) (d c s : Nat) (Q : ZQ) : Prop := Ct g yX2_fine (ws_ yX2_fine cX2_fine 9 (Option.some Jvm.ClassFile.FieldType.int)) args M d c s Q
abbrev nX2_fine : Nat := 4
theorem mX2_fine : zMok yX2_fine 2 9 := ⟨⟨by decide +kernel, by decide +kernel, by decide +kernel⟩, by decide⟩
theorem eX2_fine {g : ZG} {Q : ZQ} {d cN sN : Nat} {M : ZM} {a0 : Nat} {x1 : Int32} {x2 : Int32} (hV : zV g) (h : Z g kX2_fine Q d cN sN M 0 [some (.ref a0), some (.int x1), some (.int x2), none, none, none, none, none, none] []) : tX2_fine g [.ref a0, .int x1, .int x2] M d cN sN Q := Ct.of (K := kX2_fine) rfl (by decide +kernel) hV fokX2 rfl (fun h => by cases h) (fun v hv => by simp only [List.mem_cons, List.not_mem_nil, or_false] at hv; rcases hv with rfl | rfl | rfl <;> first | rfl | assumption) (Nat.le_of_ble_eq_true rfl) h
theorem sX2_fine_0 {g : ZG} {Q : ZQ} {d cN sN : Nat} {M : ZM} {l0 : Nat} {fs1 : List Value} {r3 : Nat} {l1 : Int32} {n5 : Nat} {f6 : Nat → Option Nat} {c7 : ClassId} {r11 : Nat} {fs13 : List Value} {r15 : Nat} {l2 : Int32} {n17 : Nat} {f18 : Nat → Int32} {o3 o4 o5 o6 o7 o8 : Option Value} (h2 : M.1 l0 = some (.inr (1, fs1))) (h4 : (fs1)[4]? = some (.ref r3)) (h8 : M.1 r3 = some (.inl (c7, n5, .inr (.inr (.inr (.inr f6)))))) (h9 : zRt g c7) (h10 : vp_in (l1) n5) (h12 : va_rf (f6 ((l1 : Int32).toNatClampNeg)) = .ref r11) (h14 : M.1 r11 = some (.inr (3, fs13))) (h16 : (fs13)[4]? = some (.ref r15)) (h19 : M.1 r15 = some (.inl (zA g 0, n17, .inl f18))) (h20 : vp_in (l2) n17) (kt : ¬ (f18 ((l2 : Int32).toNatClampNeg) : Int32) = 0 → Z g kX2_fine Q d cN sN M 18 [some (.ref l0), some (.int l1), some (.int l2), some (.ref r11), o4, o5, o6, o7, o8] []) (kf : (f18 ((l2 : Int32).toNatClampNeg) : Int32) = 0 → Z g kX2_fine Q d cN sN M 16 [some (.ref l0), some (.int l1), some (.int l2), some (.ref r11), o4, o5, o6, o7, o8] []) : Z g kX2_fine Q d cN sN M 0 [some (.ref l0), some (.int l1), some (.int l2), o3, o4, o5, o6, o7, o8] [] := by
  refine zi_aload_n dX2_fine_0 rfl zrf_r ?_
  refine zi_getfield dX2_fine_1 rfl h2 h4 ?_
  refine zi_iload_n dX2_fine_4 rfl ?_
  refine zi_aaload dX2_fine_5 h8 h9 h10 h12 ?_
  refine zi_astore_n dX2_fine_6 zrf_r (Nat.le_of_ble_eq_true rfl) ?_
  refine zi_aload_n dX2_fine_7 rfl zrf_r ?_
  refine zi_getfield dX2_fine_8 rfl h14 h16 ?_
  refine zi_iload_n dX2_fine_11 rfl ?_
  refine zi_iaload dX2_fine_12 h19 h20 ?_
  exact zi_if_ne (tgt := 18) dX2_fine_13 (by decide +kernel) kt kf
theorem sX2_fine_16 {g : ZG} {Q : ZQ} {d cN sN : Nat} {M : ZM} {o0 o1 o2 o3 o4 o5 o6 o7 o8 : Option Value}  (kk : Q.1 (some (.int 0)) M) : Z g kX2_fine Q d cN sN M 16 [o0, o1, o2, o3, o4, o5, o6, o7, o8] [] := by
  refine zi_iconst dX2_fine_16 (by decide +kernel : Int32.ofInt (0) = (0 : Int32)) ?_
  exact zi_ireturn dX2_fine_17 rfl rfl kk
theorem sX2_fine_18 {g : ZG} {Q : ZQ} {d cN sN : Nat} {M : ZM} {l0 : Nat} {fs1 : List Value} {r3 : Nat} {u5 : vp_A} {c6 : ClassId} {k7 : Nat} {ty8 : FieldType} {o1 o2 o3 o4 o5 o6 o7 o8 : Option Value} (h2 : M.1 l0 = some (.inr (1, fs1))) (h4 : (fs1)[0]? = some (.ref r3)) (h9 : M.1 r3 = some (.inl (c6, u5))) (h10 : (ztys g)[k7]? = some (c6, ty8)) (kk : Z g kX2_fine Q d cN sN M 35 [some (.ref l0), o1, o2, o3, some (.int 0), some (.ref r3), some (.int (Int32.ofNat u5.1)), some (.int 0), o8] []) : Z g kX2_fine Q d cN sN M 18 [some (.ref l0), o1, o2, o3, o4, o5, o6, o7, o8] [] := by
  refine zi_iconst dX2_fine_18 (by decide +kernel : Int32.ofInt (0) = (0 : Int32)) ?_
  refine zi_istore dX2_fine_19 (Nat.le_of_ble_eq_true rfl) ?_
  refine zi_aload_n dX2_fine_21 rfl zrf_r ?_
  refine zi_getfield dX2_fine_22 rfl h2 h4 ?_
  refine zi_astore dX2_fine_25 zrf_r (Nat.le_of_ble_eq_true rfl) ?_
  refine zi_aload dX2_fine_27 rfl zrf_r ?_
  refine zi_arraylength dX2_fine_29 h9 h10 ?_
  refine zi_istore dX2_fine_30 (Nat.le_of_ble_eq_true rfl) ?_
  refine zi_iconst dX2_fine_32 (by decide +kernel : Int32.ofInt (0) = (0 : Int32)) ?_
  refine zi_istore dX2_fine_33 (Nat.le_of_ble_eq_true rfl) ?_
  exact kk
theorem sX2_fine_35 {g : ZG} {Q : ZQ} {d cN sN : Nat} {M : ZM} {l7 : Int32} {l6 : Int32} {o0 o1 o2 o3 o4 o5 o8 : Option Value}  (kt : (l6 : Int32) ≤ (l7 : Int32) → Z g kX2_fine Q d cN sN M 77 [o0, o1, o2, o3, o4, o5, some (.int l6), some (.int l7), o8] []) (kf : ¬ (l6 : Int32) ≤ (l7 : Int32) → Z g kX2_fine Q d cN sN M 42 [o0, o1, o2, o3, o4, o5, some (.int l6), some (.int l7), o8] []) : Z g kX2_fine Q d cN sN M 35 [o0, o1, o2, o3, o4, o5, some (.int l6), some (.int l7), o8] [] := by
  refine zi_iload dX2_fine_35 rfl ?_
  refine zi_iload dX2_fine_37 rfl ?_
  exact zi_icmp_ge (tgt := 77) dX2_fine_39 (by decide +kernel) kt kf
theorem sX2_fine_42 {g : ZG} {Q : ZQ} {d cN sN : Nat} {M : ZM} {l5 : Nat} {l7 : Int32} {n1 : Nat} {f2 : Nat → Option Nat} {c3 : ClassId} {r7 : Nat} {l4 : Int32} {l3 : Nat} {l2 : Int32} {o0 o1 o6 o8 : Option Value} (h4 : M.1 l5 = some (.inl (c3, n1, .inr (.inr (.inr (.inr f2)))))) (h5 : zRt g c3) (h6 : vp_in (l7) n1) (h8 : va_rf (f2 ((l7 : Int32).toNatClampNeg)) = .ref r7) (kk : Z g kX2_fine Q d cN sN M 55 [o0, o1, some (.int l2), some (.ref l3), some (.int l4), some (.ref l5), o6, some (.int l7), some (.ref r7)] [.int l2, .ref l3, .int l4, .ref r7]) : Z g kX2_fine Q d cN sN M 42 [o0, o1, some (.int l2), some (.ref l3), some (.int l4), some (.ref l5), o6, some (.int l7), o8] [] := by
  refine zi_aload dX2_fine_42 rfl zrf_r ?_
  refine zi_iload dX2_fine_44 rfl ?_
  refine zi_aaload dX2_fine_46 h4 h5 h6 h8 ?_
  refine zi_astore dX2_fine_47 zrf_r (Nat.le_of_ble_eq_true rfl) ?_
  refine zi_aload dX2_fine_49 rfl zrf_r ?_
  refine zi_iload dX2_fine_51 rfl ?_
  refine zi_aload_n dX2_fine_53 rfl zrf_r ?_
  refine zi_iload_n dX2_fine_54 rfl ?_
  exact kk
theorem sX2_fine_58 {g : ZG} {Q : ZQ} {d cN sN : Nat} {M : ZM} {t0 : Nat} {t1 : Int32} {t2 : Int32} {l3 : Nat} {fs1 : List Value} {r3 : Nat} {l2 : Int32} {n5 : Nat} {f6 : Nat → Int32} {o0 o1 o4 o5 o6 o7 o8 : Option Value} (h2 : M.1 l3 = some (.inr (3, fs1))) (h4 : (fs1)[4]? = some (.ref r3)) (h7 : M.1 r3 = some (.inl (zA g 0, n5, .inl f6))) (h8 : vp_in (l2) n5) (kk : Z g kX2_fine Q d cN sN M 64 [o0, o1, some (.int l2), some (.ref l3), o4, o5, o6, o7, o8] [.int (f6 ((l2 : Int32).toNatClampNeg)), .int t2, .int t1, .ref t0]) : Z g kX2_fine Q d cN sN M 58 [o0, o1, some (.int l2), some (.ref l3), o4, o5, o6, o7, o8] [.int t2, .int t1, .ref t0] := by
  refine zi_aload_n dX2_fine_58 rfl zrf_r ?_
  refine zi_getfield dX2_fine_59 rfl h2 h4 ?_
  refine zi_iload_n dX2_fine_62 rfl ?_
  refine zi_iaload dX2_fine_63 h7 h8 ?_
  exact kk
theorem sX2_fine_69 {g : ZG} {Q : ZQ} {d cN sN : Nat} {M : ZM} {t0 : Int32} {l7 : Int32} {o0 o1 o2 o3 o4 o5 o6 o8 : Option Value}  (kk : Z g kX2_fine Q d cN sN M 35 [o0, o1, o2, o3, some (.int t0), o5, o6, some (.int (l7 + 1)), o8] []) : Z g kX2_fine Q d cN sN M 69 [o0, o1, o2, o3, o4, o5, o6, some (.int l7), o8] [.int t0] := by
  refine zi_istore dX2_fine_69 (Nat.le_of_ble_eq_true rfl) ?_
  refine zi_iinc dX2_fine_71 rfl (by decide +kernel : Int32.ofInt (1) = 1) (Nat.le_of_ble_eq_true rfl) ?_
  exact zi_goto (tgt := 35) dX2_fine_74 (by decide +kernel) kk
theorem sX2_fine_77 {g : ZG} {Q : ZQ} {d cN sN : Nat} {M : ZM} {l4 : Int32} {o0 o1 o2 o3 o5 o6 o7 o8 : Option Value}  (kk : Q.1 (some (.int l4)) M) : Z g kX2_fine Q d cN sN M 77 [o0, o1, o2, o3, some (.int l4), o5, o6, o7, o8] [] := by
  refine zi_iload dX2_fine_77 rfl ?_
  exact zi_ireturn dX2_fine_79 rfl rfl kk
abbrev kX2_fineAgain : ZK := (RX2, cX2_fineAgain, 5, (Option.some Jvm.ClassFile.FieldType.int), [], false, fX2)
abbrev tX2_fineAgain (g : ZG) (args : List Value) (M : ZM) (d c s : Nat) (Q : ZQ) : Prop := Ct g yX2_fineAgain (ws_ yX2_fineAgain cX2_fineAgain 5 (Option.some Jvm.ClassFile.FieldType.int)) args M d c s Q
abbrev nX2_fineAgain : Nat := 3
theorem mX2_fineAgain : zMok yX2_fineAgain 2 5 := ⟨⟨by decide +kernel, by decide +kernel, by decide +kernel⟩, by decide⟩
theorem eX2_fineAgain {g : ZG} {Q : ZQ} {d cN sN : Nat} {M : ZM} {a0 : Nat} {x1 : Int32} {x2 : Int32} (hV : zV g) (h : Z g kX2_fineAgain Q d cN sN M 0 [some (.ref a0), some (.int x1), some (.int x2), none, none] []) : tX2_fineAgain g [.ref a0, .int x1, .int x2] M d cN sN Q := Ct.of (K := kX2_fineAgain) rfl (by decide +kernel) hV fokX2 rfl (fun h => by cases h) (fun v hv => by simp only [List.mem_cons, List.not_mem_nil, or_false] at hv; rcases hv with rfl | rfl | rfl <;> first | rfl | assumption) (Nat.le_of_ble_eq_true rfl) h
theorem sX2_fineAgain_0 {g : ZG} {Q : ZQ} {d cN sN : Nat} {M : ZM} {l0 : Nat} {fs1 : List Value} {r3 : Nat} {l1 : Int32} {n5 : Nat} {f6 : Nat → Option Nat} {c7 : ClassId} {r11 : Nat} {l2 : Int32} {o3 o4 : Option Value} (h2 : M.1 l0 = some (.inr (1, fs1))) (h4 : (fs1)[4]? = some (.ref r3)) (h8 : M.1 r3 = some (.inl (c7, n5, .inr (.inr (.inr (.inr f6)))))) (h9 : zRt g c7) (h10 : vp_in (l1) n5) (h12 : va_rf (f6 ((l1 : Int32).toNatClampNeg)) = .ref r11) (kk : Z g kX2_fineAgain Q d cN sN M 9 [some (.ref l0), some (.int l1), some (.int l2), some (.ref r11), o4] [.int l2, .ref r11]) : Z g kX2_fineAgain Q d cN sN M 0 [some (.ref l0), some (.int l1), some (.int l2), o3, o4] [] := by
  refine zi_aload_n dX2_fineAgain_0 rfl zrf_r ?_
  refine zi_getfield dX2_fineAgain_1 rfl h2 h4 ?_
  refine zi_iload_n dX2_fineAgain_4 rfl ?_
  refine zi_aaload dX2_fineAgain_5 h8 h9 h10 h12 ?_
  refine zi_astore_n dX2_fineAgain_6 zrf_r (Nat.le_of_ble_eq_true rfl) ?_
  refine zi_aload_n dX2_fineAgain_7 rfl zrf_r ?_
  refine zi_iload_n dX2_fineAgain_8 rfl ?_
  exact kk
theorem sX2_fineAgain_12 {g : ZG} {Q : ZQ} {d cN sN : Nat} {M : ZM} {t0 : Int32} {l3 : Nat} {fs1 : List Value} {r3 : Nat} {l2 : Int32} {n5 : Nat} {f6 : Nat → Int32} {o0 o1 o4 : Option Value} (h2 : M.1 l3 = some (.inr (3, fs1))) (h4 : (fs1)[4]? = some (.ref r3)) (h7 : M.1 r3 = some (.inl (zA g 0, n5, .inl f6))) (h8 : vp_in (l2) n5) (kk : Z g kX2_fineAgain Q d cN sN M 20 [o0, o1, some (.int l2), some (.ref l3), some (.int t0)] [.int (f6 ((l2 : Int32).toNatClampNeg))]) : Z g kX2_fineAgain Q d cN sN M 12 [o0, o1, some (.int l2), some (.ref l3), o4] [.int t0] := by
  refine zi_istore dX2_fineAgain_12 (Nat.le_of_ble_eq_true rfl) ?_
  refine zi_aload_n dX2_fineAgain_14 rfl zrf_r ?_
  refine zi_getfield dX2_fineAgain_15 rfl h2 h4 ?_
  refine zi_iload_n dX2_fineAgain_18 rfl ?_
  refine zi_iaload dX2_fineAgain_19 h7 h8 ?_
  exact kk
theorem sX2_fineAgain_48 {g : ZG} {Q : ZQ} {d cN sN : Nat} {M : ZM} {o0 o1 o2 o3 o4 : Option Value}  (kk : Q.1 (some (.int 0)) M) : Z g kX2_fineAgain Q d cN sN M 48 [o0, o1, o2, o3, o4] [] := by
  refine zi_iconst dX2_fineAgain_48 (by decide +kernel : Int32.ofInt (0) = (0 : Int32)) ?_
  exact zi_ireturn dX2_fineAgain_49 rfl rfl kk
theorem sX2_fineAgain_50 {g : ZG} {Q : ZQ} {d cN sN : Nat} {M : ZM} {l4 : Int32} {o0 o1 o2 o3 : Option Value}  (kk : Q.1 (some (.int (1 + l4))) M) : Z g kX2_fineAgain Q d cN sN M 50 [o0, o1, o2, o3, some (.int l4)] [] := by
  refine zi_iconst dX2_fineAgain_50 (by decide +kernel : Int32.ofInt (1) = (1 : Int32)) ?_
  refine zi_iload dX2_fineAgain_51 rfl ?_
  refine zi_iadd dX2_fineAgain_53 ?_
  exact zi_ireturn dX2_fineAgain_54 rfl rfl kk
theorem sX2_fineAgain_55 {g : ZG} {Q : ZQ} {d cN sN : Nat} {M : ZM} {l4 : Int32} {o0 o1 o2 o3 : Option Value}  (kk : Q.1 (some (.int (3 + l4))) M) : Z g kX2_fineAgain Q d cN sN M 55 [o0, o1, o2, o3, some (.int l4)] [] := by
  refine zi_iconst dX2_fineAgain_55 (by decide +kernel : Int32.ofInt (3) = (3 : Int32)) ?_
  refine zi_iload dX2_fineAgain_56 rfl ?_
  refine zi_iadd dX2_fineAgain_58 ?_
  exact zi_ireturn dX2_fineAgain_59 rfl rfl kk
theorem sX2_fineAgain_60 {g : ZG} {Q : ZQ} {d cN sN : Nat} {M : ZM} {l4 : Int32} {o0 o1 o2 o3 : Option Value}  (kk : Q.1 (some (.int (6 + (2 * l4)))) M) : Z g kX2_fineAgain Q d cN sN M 60 [o0, o1, o2, o3, some (.int l4)] [] := by
  refine zi_bipush dX2_fineAgain_60 (by decide +kernel : (Int8.ofInt (6)).toInt32 = (6 : Int32)) ?_
  refine zi_iconst dX2_fineAgain_62 (by decide +kernel : Int32.ofInt (2) = (2 : Int32)) ?_
  refine zi_iload dX2_fineAgain_63 rfl ?_
  refine zi_imul dX2_fineAgain_65 ?_
  refine zi_iadd dX2_fineAgain_66 ?_
  exact zi_ireturn dX2_fineAgain_67 rfl rfl kk
abbrev kX2_fines : ZK := (RX2, cX2_fines, 4, (Option.some Jvm.ClassFile.FieldType.int), [], false, fX2)
abbrev tX2_fines (g : ZG) (args : List Value) (M : ZM) (d c s : Nat) (Q : ZQ) : Prop := Ct g yX2_fines (ws_ yX2_fines cX2_fines 4 (Option.some Jvm.ClassFile.FieldType.int)) args M d c s Q
abbrev nX2_fines : Nat := 5
theorem mX2_fines : zMok yX2_fines 1 4 := ⟨⟨by decide +kernel, by decide +kernel, by decide +kernel⟩, by decide⟩
theorem eX2_fines {g : ZG} {Q : ZQ} {d cN sN : Nat} {M : ZM} {a0 : Nat} {x1 : Int32} (hV : zV g) (h : Z g kX2_fines Q d cN sN M 0 [some (.ref a0), some (.int x1), none, none] []) : tX2_fines g [.ref a0, .int x1] M d cN sN Q := Ct.of (K := kX2_fines) rfl (by decide +kernel) hV fokX2 rfl (fun h => by cases h) (fun v hv => by simp only [List.mem_cons, List.not_mem_nil, or_false] at hv; rcases hv with rfl | rfl <;> first | rfl | assumption) (Nat.le_of_ble_eq_true rfl) h
theorem sX2_fines_0 {g : ZG} {Q : ZQ} {d cN sN : Nat} {M : ZM} {o0 o1 o2 o3 : Option Value}  (kk : Z g kX2_fines Q d cN sN M 4 [o0, o1, some (.int 0), some (.int 0)] []) : Z g kX2_fines Q d cN sN M 0 [o0, o1, o2, o3] [] := by
  refine zi_iconst dX2_fines_0 (by decide +kernel : Int32.ofInt (0) = (0 : Int32)) ?_
  refine zi_istore_n dX2_fines_1 (Nat.le_of_ble_eq_true rfl) ?_
  refine zi_iconst dX2_fines_2 (by decide +kernel : Int32.ofInt (0) = (0 : Int32)) ?_
  refine zi_istore_n dX2_fines_3 (Nat.le_of_ble_eq_true rfl) ?_
  exact kk
theorem sX2_fines_4 {g : ZG} {Q : ZQ} {d cN sN : Nat} {M : ZM} {l3 : Int32} {l0 : Nat} {fs1 : List Value} {r3 : Nat} {l1 : Int32} {n5 : Nat} {f6 : Nat → Option Nat} {c7 : ClassId} {r11 : Nat} {fs13 : List Value} {y15 : Int32} {o2 : Option Value} (h2 : M.1 l0 = some (.inr (1, fs1))) (h4 : (fs1)[4]? = some (.ref r3)) (h8 : M.1 r3 = some (.inl (c7, n5, .inr (.inr (.inr (.inr f6)))))) (h9 : zRt g c7) (h10 : vp_in (l1) n5) (h12 : va_rf (f6 ((l1 : Int32).toNatClampNeg)) = .ref r11) (h14 : M.1 r11 = some (.inr (3, fs13))) (h16 : (fs13)[1]? = some (.int y15)) (kt : (y15 : Int32) ≤ (l3 : Int32) → Z g kX2_fines Q d cN sN M 32 [some (.ref l0), some (.int l1), o2, some (.int l3)] []) (kf : ¬ (y15 : Int32) ≤ (l3 : Int32) → Z g kX2_fines Q d cN sN M 17 [some (.ref l0), some (.int l1), o2, some (.int l3)] []) : Z g kX2_fines Q d cN sN M 4 [some (.ref l0), some (.int l1), o2, some (.int l3)] [] := by
  refine zi_iload_n dX2_fines_4 rfl ?_
  refine zi_aload_n dX2_fines_5 rfl zrf_r ?_
  refine zi_getfield dX2_fines_6 rfl h2 h4 ?_
  refine zi_iload_n dX2_fines_9 rfl ?_
  refine zi_aaload dX2_fines_10 h8 h9 h10 h12 ?_
  refine zi_getfield dX2_fines_11 rfl h14 h16 ?_
  exact zi_icmp_ge (tgt := 32) dX2_fines_14 (by decide +kernel) kt kf
theorem sX2_fines_17 {g : ZG} {Q : ZQ} {d cN sN : Nat} {M : ZM} {l2 : Int32} {l0 : Nat} {l1 : Int32} {l3 : Int32}  (kk : Z g kX2_fines Q d cN sN M 21 [some (.ref l0), some (.int l1), some (.int l2), some (.int l3)] [.int l3, .int l1, .ref l0, .int l2]) : Z g kX2_fines Q d cN sN M 17 [some (.ref l0), some (.int l1), some (.int l2), some (.int l3)] [] := by
  refine zi_iload_n dX2_fines_17 rfl ?_
  refine zi_aload_n dX2_fines_18 rfl zrf_r ?_
  refine zi_iload_n dX2_fines_19 rfl ?_
  refine zi_iload_n dX2_fines_20 rfl ?_
  exact kk
theorem sX2_fines_24 {g : ZG} {Q : ZQ} {d cN sN : Nat} {M : ZM} {t0 : Int32} {t1 : Int32} {l3 : Int32} {o0 o1 o2 : Option Value}  (kk : Z g kX2_fines Q d cN sN M 4 [o0, o1, some (.int (t0 + t1)), some (.int (l3 + 1))] []) : Z g kX2_fines Q d cN sN M 24 [o0, o1, o2, some (.int l3)] [.int t1, .int t0] := by
  refine zi_iadd dX2_fines_24 ?_
  refine zi_istore_n dX2_fines_25 (Nat.le_of_ble_eq_true rfl) ?_
  refine zi_iinc dX2_fines_26 rfl (by decide +kernel : Int32.ofInt (1) = 1) (Nat.le_of_ble_eq_true rfl) ?_
  exact zi_goto (tgt := 4) dX2_fines_29 (by decide +kernel) kk
theorem sX2_fines_32 {g : ZG} {Q : ZQ} {d cN sN : Nat} {M : ZM} {l2 : Int32} {o0 o1 o3 : Option Value}  (kk : Q.1 (some (.int l2)) M) : Z g kX2_fines Q d cN sN M 32 [o0, o1, some (.int l2), o3] [] := by
  refine zi_iload_n dX2_fines_32 rfl ?_
  exact zi_ireturn dX2_fines_33 rfl rfl kk
abbrev kX2_finesAgain : ZK := (RX2, cX2_finesAgain, 5, (Option.some Jvm.ClassFile.FieldType.int), [(27, 36, 39, 130)], false, fX2)
abbrev tX2_finesAgain (g : ZG) (args : List Value) (M : ZM) (d c s : Nat) (Q : ZQ) : Prop := Ct g yX2_finesAgain (wsW_ yX2_finesAgain cX2_finesAgain 5 (Option.some Jvm.ClassFile.FieldType.int) [(27, 36, 39, 130)]) args M d c s Q
abbrev nX2_finesAgain : Nat := 10
theorem mX2_finesAgain : zMok yX2_finesAgain 1 5 := ⟨⟨by decide +kernel, by decide +kernel, by decide +kernel⟩, by decide⟩
theorem eX2_finesAgain {g : ZG} {Q : ZQ} {d cN sN : Nat} {M : ZM} {a0 : Nat} {x1 : Int32} (hV : zV g) (h : Z g kX2_finesAgain Q d cN sN M 0 [some (.ref a0), some (.int x1), none, none, none] []) : tX2_finesAgain g [.ref a0, .int x1] M d cN sN Q := Ct.ofW (K := kX2_finesAgain) rfl (by decide +kernel) hV fokX2 (fun h => by cases h) (fun v hv => by simp only [List.mem_cons, List.not_mem_nil, or_false] at hv; rcases hv with rfl | rfl <;> first | rfl | assumption) (Nat.le_of_ble_eq_true rfl) h
theorem sX2_finesAgain_0 {g : ZG} {Q : ZQ} {d cN sN : Nat} {M : ZM} {o0 o1 o2 o3 o4 : Option Value}  (kk : Z g kX2_finesAgain Q d cN sN M 4 [o0, o1, some (.int 0), some (.int 0), o4] []) : Z g kX2_finesAgain Q d cN sN M 0 [o0, o1, o2, o3, o4] [] := by
  refine zi_iconst dX2_finesAgain_0 (by decide +kernel : Int32.ofInt (0) = (0 : Int32)) ?_
  refine zi_istore_n dX2_finesAgain_1 (Nat.le_of_ble_eq_true rfl) ?_
  refine zi_iconst dX2_finesAgain_2 (by decide +kernel : Int32.ofInt (0) = (0 : Int32)) ?_
  refine zi_istore_n dX2_finesAgain_3 (Nat.le_of_ble_eq_true rfl) ?_
  exact kk
theorem sX2_finesAgain_4 {g : ZG} {Q : ZQ} {d cN sN : Nat} {M : ZM} {l3 : Int32} {l0 : Nat} {fs1 : List Value} {r3 : Nat} {l1 : Int32} {n5 : Nat} {f6 : Nat → Option Nat} {c7 : ClassId} {r11 : Nat} {fs13 : List Value} {y15 : Int32} {o2 o4 : Option Value} (h2 : M.1 l0 = some (.inr (1, fs1))) (h4 : (fs1)[4]? = some (.ref r3)) (h8 : M.1 r3 = some (.inl (c7, n5, .inr (.inr (.inr (.inr f6)))))) (h9 : zRt g c7) (h10 : vp_in (l1) n5) (h12 : va_rf (f6 ((l1 : Int32).toNatClampNeg)) = .ref r11) (h14 : M.1 r11 = some (.inr (3, fs13))) (h16 : (fs13)[1]? = some (.int y15)) (kt : (y15 : Int32) ≤ (l3 : Int32) → Z g kX2_finesAgain Q d cN sN M 50 [some (.ref l0), some (.int l1), o2, some (.int l3), o4] []) (kf : ¬ (y15 : Int32) ≤ (l3 : Int32) → Z g kX2_finesAgain Q d cN sN M 17 [some (.ref l0), some (.int l1), o2, some (.int l3), o4] []) : Z g kX2_finesAgain Q d cN sN M 4 [some (.ref l0), some (.int l1), o2, some (.int l3), o4] [] := by
  refine zi_iload_n dX2_finesAgain_4 rfl ?_
  refine zi_aload_n dX2_finesAgain_5 rfl zrf_r ?_
  refine zi_getfield dX2_finesAgain_6 rfl h2 h4 ?_
  refine zi_iload_n dX2_finesAgain_9 rfl ?_
  refine zi_aaload dX2_finesAgain_10 h8 h9 h10 h12 ?_
  refine zi_getfield dX2_finesAgain_11 rfl h14 h16 ?_
  exact zi_icmp_ge (tgt := 50) dX2_finesAgain_14 (by decide +kernel) kt kf
theorem sX2_finesAgain_17 {g : ZG} {Q : ZQ} {d cN sN : Nat} {M : ZM} {l0 : Nat} {l1 : Int32} {o2 o3 o4 : Option Value}  (kk : Z g kX2_finesAgain Q d cN sN M 19 [some (.ref l0), some (.int l1), o2, o3, o4] [.int l1, .ref l0]) : Z g kX2_finesAgain Q d cN sN M 17 [some (.ref l0), some (.int l1), o2, o3, o4] [] := by
  refine zi_aload_n dX2_finesAgain_17 rfl zrf_r ?_
  refine zi_iload_n dX2_finesAgain_18 rfl ?_
  exact kk
theorem sX2_finesAgain_24 {g : ZG} {Q : ZQ} {d cN sN : Nat} {M : ZM} {t0 : Nat} {t1 : Int32} {fs1 : List Value} {l2 : Int32} {l0 : Nat} {l1 : Int32} {l3 : Int32} {o4 : Option Value} (h2 : M.1 t0 = some (.inr (2, fs1))) (h3 : 0 < (fs1).length) (kk : Z g kX2_finesAgain Q d cN sN (zup M t0 (.inr (2, (fs1).set 0 (.int t1)))) 31 [some (.ref l0), some (.int l1), some (.int l2), some (.int l3), o4] [.int l3, .int l1, .ref l0, .int l2]) : Z g kX2_finesAgain Q d cN sN M 24 [some (.ref l0), some (.int l1), some (.int l2), some (.int l3), o4] [.int t1, .ref t0] := by
  refine zi_putfield dX2_finesAgain_24 rfl h2 h3 zfit_i (Or.inl rfl) ?_
  refine zi_iload_n dX2_finesAgain_27 rfl ?_
  refine zi_aload_n dX2_finesAgain_28 rfl zrf_r ?_
  refine zi_iload_n dX2_finesAgain_29 rfl ?_
  refine zi_iload_n dX2_finesAgain_30 rfl ?_
  exact kk
theorem sX2_finesAgain_34 {g : ZG} {Q : ZQ} {d cN sN : Nat} {M : ZM} {t0 : Int32} {t1 : Int32} {o0 o1 o2 o3 o4 : Option Value}  (kk : Z g kX2_finesAgain Q d cN sN M 44 [o0, o1, some (.int (t0 + t1)), o3, o4] []) : Z g kX2_finesAgain Q d cN sN M 34 [o0, o1, o2, o3, o4] [.int t1, .int t0] := by
  refine zi_iadd dX2_finesAgain_34 ?_
  refine zi_istore_n dX2_finesAgain_35 (Nat.le_of_ble_eq_true rfl) ?_
  exact zi_goto (tgt := 44) dX2_finesAgain_36 (by decide +kernel) kk
theorem sX2_finesAgain_39 {g : ZG} {Q : ZQ} {d cN sN : Nat} {M : ZM} {t0 : Nat} {l2 : Int32} {o0 o1 o3 o4 : Option Value}  (kk : Z g kX2_finesAgain Q d cN sN M 44 [o0, o1, some (.int (l2 + 0)), o3, some (.ref t0)] []) : Z g kX2_finesAgain Q d cN sN M 39 [o0, o1, some (.int l2), o3, o4] [.ref t0] := by
  refine zi_astore dX2_finesAgain_39 zrf_r (Nat.le_of_ble_eq_true rfl) ?_
  refine zi_iinc dX2_finesAgain_41 rfl (by decide +kernel : Int32.ofInt (0) = 0) (Nat.le_of_ble_eq_true rfl) ?_
  exact kk
theorem sX2_finesAgain_44 {g : ZG} {Q : ZQ} {d cN sN : Nat} {M : ZM} {l3 : Int32} {o0 o1 o2 o4 : Option Value}  (kk : Z g kX2_finesAgain Q d cN sN M 4 [o0, o1, o2, some (.int (l3 + 1)), o4] []) : Z g kX2_finesAgain Q d cN sN M 44 [o0, o1, o2, some (.int l3), o4] [] := by
  refine zi_iinc dX2_finesAgain_44 rfl (by decide +kernel : Int32.ofInt (1) = 1) (Nat.le_of_ble_eq_true rfl) ?_
  exact zi_goto (tgt := 4) dX2_finesAgain_47 (by decide +kernel) kk
theorem sX2_finesAgain_50 {g : ZG} {Q : ZQ} {d cN sN : Nat} {M : ZM} {l2 : Int32} {o0 o1 o3 o4 : Option Value}  (kk : Q.1 (some (.int l2)) M) : Z g kX2_finesAgain Q d cN sN M 50 [o0, o1, some (.int l2), o3, o4] [] := by
  refine zi_iload_n dX2_finesAgain_50 rfl ?_
  exact zi_ireturn dX2_finesAgain_51 rfl rfl kk
abbrev kX2_of : ZK := (RX2, cX2_of, 2, (Option.some (Jvm.ClassFile.FieldType.object "ErrataPress$House")), [], false, fX2)
abbrev tX2_of (g : ZG) (args : List Value) (M : ZM) (d c s : Nat) (Q : ZQ) : Prop := Ct g yX2_of (ws_ yX2_of cX2_of 2 (Option.some (Jvm.ClassFile.FieldType.object "ErrataPress$House"))) args M d c s Q
abbrev nX2_of : Nat := 1
theorem mX2_of : zMok yX2_of 1 2 := ⟨⟨by decide +kernel, by decide +kernel, by decide +kernel⟩, by decide⟩
theorem eX2_of {g : ZG} {Q : ZQ} {d cN sN : Nat} {M : ZM} {a0 : Nat} {x1 : Int32} (hV : zV g) (h : Z g kX2_of Q d cN sN M 0 [some (.ref a0), some (.int x1)] []) : tX2_of g [.ref a0, .int x1] M d cN sN Q := Ct.of (K := kX2_of) rfl (by decide +kernel) hV fokX2 rfl (fun h => by cases h) (fun v hv => by simp only [List.mem_cons, List.not_mem_nil, or_false] at hv; rcases hv with rfl | rfl <;> first | rfl | assumption) (Nat.le_of_ble_eq_true rfl) h
theorem sX2_of_0 {g : ZG} {Q : ZQ} {d cN sN : Nat} {M : ZM} {l0 : Nat} {fs1 : List Value} {r3 : Nat} {r5 : Nat} {l1 : Int32} {n7 : Nat} {f8 : Nat → Option Nat} {c9 : ClassId} {r13 : Nat} {fs15 : List Value} {y17 : Int32} {n19 : Nat} {f20 : Nat → Option Nat} {c21 : ClassId} {r25 : Nat} (h2 : M.1 l0 = some (.inr (1, fs1))) (h4 : (fs1)[2]? = some (.ref r3)) (h6 : (fs1)[4]? = some (.ref r5)) (h10 : M.1 r5 = some (.inl (c9, n7, .inr (.inr (.inr (.inr f8)))))) (h11 : zRt g c9) (h12 : vp_in (l1) n7) (h14 : va_rf (f8 ((l1 : Int32).toNatClampNeg)) = .ref r13) (h16 : M.1 r13 = some (.inr (3, fs15))) (h18 : (fs15)[0]? = some (.int y17)) (h22 : M.1 r3 = some (.inl (c21, n19, .inr (.inr (.inr (.inr f20)))))) (h23 : zRt g c21) (h24 : vp_in (y17) n19) (h26 : va_rf (f20 ((y17 : Int32).toNatClampNeg)) = .ref r25) (kk : Q.1 (some (.ref r25)) M) : Z g kX2_of Q d cN sN M 0 [some (.ref l0), some (.int l1)] [] := by
  refine zi_aload_n dX2_of_0 rfl zrf_r ?_
  refine zi_getfield dX2_of_1 rfl h2 h4 ?_
  refine zi_aload_n dX2_of_4 rfl zrf_r ?_
  refine zi_getfield dX2_of_5 rfl h2 h6 ?_
  refine zi_iload_n dX2_of_8 rfl ?_
  refine zi_aaload dX2_of_9 h10 h11 h12 h14 ?_
  refine zi_getfield dX2_of_10 rfl h16 h18 ?_
  refine zi_aaload dX2_of_13 h22 h23 h24 h26 ?_
  exact zi_areturn dX2_of_14 zrf_r rfl (Or.inl ⟨_, rfl⟩) kk
abbrev kX2_correct : ZK := (RX2, cX2_correct, 6, (Option.some Jvm.ClassFile.FieldType.int), [], false, fX2)
abbrev tX2_correct (g : ZG) (args : List Value) (M : ZM) (d c s : Nat) (Q : ZQ) : Prop := Ct g yX2_correct (ws_ yX2_correct cX2_correct 6 (Option.some Jvm.ClassFile.FieldType.int)) args M d c s Q
abbrev nX2_correct : Nat := 9
theorem mX2_correct : zMok yX2_correct 2 6 := ⟨⟨by decide +kernel, by decide +kernel, by decide +kernel⟩, by decide⟩
theorem eX2_correct {g : ZG} {Q : ZQ} {d cN sN : Nat} {M : ZM} {a0 : Nat} {x1 : Int32} {x2 : Int32} (hV : zV g) (h : Z g kX2_correct Q d cN sN M 0 [some (.ref a0), some (.int x1), some (.int x2), none, none, none] []) : tX2_correct g [.ref a0, .int x1, .int x2] M d cN sN Q := Ct.of (K := kX2_correct) rfl (by decide +kernel) hV fokX2 rfl (fun h => by cases h) (fun v hv => by simp only [List.mem_cons, List.not_mem_nil, or_false] at hv; rcases hv with rfl | rfl | rfl <;> first | rfl | assumption) (Nat.le_of_ble_eq_true rfl) h
theorem sX2_correct_0 {g : ZG} {Q : ZQ} {d cN sN : Nat} {M : ZM} {l0 : Nat} {fs1 : List Value} {r3 : Nat} {l1 : Int32} {n5 : Nat} {f6 : Nat → Option Nat} {c7 : ClassId} {r11 : Nat} {o2 o3 o4 o5 : Option Value} (h2 : M.1 l0 = some (.inr (1, fs1))) (h4 : (fs1)[4]? = some (.ref r3)) (h8 : M.1 r3 = some (.inl (c7, n5, .inr (.inr (.inr (.inr f6)))))) (h9 : zRt g c7) (h10 : vp_in (l1) n5) (h12 : va_rf (f6 ((l1 : Int32).toNatClampNeg)) = .ref r11) (kk : Z g kX2_correct Q d cN sN M 9 [some (.ref l0), some (.int l1), o2, some (.ref r11), o4, o5] [.int l1, .ref l0]) : Z g kX2_correct Q d cN sN M 0 [some (.ref l0), some (.int l1), o2, o3, o4, o5] [] := by
  refine zi_aload_n dX2_correct_0 rfl zrf_r ?_
  refine zi_getfield dX2_correct_1 rfl h2 h4 ?_
  refine zi_iload_n dX2_correct_4 rfl ?_
  refine zi_aaload dX2_correct_5 h8 h9 h10 h12 ?_
  refine zi_astore_n dX2_correct_6 zrf_r (Nat.le_of_ble_eq_true rfl) ?_
  refine zi_aload_n dX2_correct_7 rfl zrf_r ?_
  refine zi_iload_n dX2_correct_8 rfl ?_
  exact kk
theorem sX2_correct_12 {g : ZG} {Q : ZQ} {d cN sN : Nat} {M : ZM} {t0 : Nat} {l0 : Nat} {l1 : Int32} {l2 : Int32} {o3 o4 o5 : Option Value}  (kk : Z g kX2_correct Q d cN sN M 17 [some (.ref l0), some (.int l1), some (.int l2), o3, some (.ref t0), o5] [.int l2, .int l1, .ref l0]) : Z g kX2_correct Q d cN sN M 12 [some (.ref l0), some (.int l1), some (.int l2), o3, o4, o5] [.ref t0] := by
  refine zi_astore dX2_correct_12 zrf_r (Nat.le_of_ble_eq_true rfl) ?_
  refine zi_aload_n dX2_correct_14 rfl zrf_r ?_
  refine zi_iload_n dX2_correct_15 rfl ?_
  refine zi_iload_n dX2_correct_16 rfl ?_
  exact kk
theorem sX2_correct_20 {g : ZG} {Q : ZQ} {d cN sN : Nat} {M : ZM} {t0 : Int32} {l3 : Nat} {fs1 : List Value} {r3 : Nat} {l2 : Int32} {n5 : Nat} {f6 : Nat → Int32} {o0 o1 o4 o5 : Option Value} (h2 : M.1 l3 = some (.inr (3, fs1))) (h4 : (fs1)[4]? = some (.ref r3)) (h7 : M.1 r3 = some (.inl (zA g 0, n5, .inl f6))) (h8 : vp_in (l2) n5) (kt : ¬ (f6 ((l2 : Int32).toNatClampNeg) : Int32) = 0 → Z g kX2_correct Q d cN sN M 35 [o0, o1, some (.int l2), some (.ref l3), o4, some (.int t0)] []) (kf : (f6 ((l2 : Int32).toNatClampNeg) : Int32) = 0 → Z g kX2_correct Q d cN sN M 31 [o0, o1, some (.int l2), some (.ref l3), o4, some (.int t0)] []) : Z g kX2_correct Q d cN sN M 20 [o0, o1, some (.int l2), some (.ref l3), o4, o5] [.int t0] := by
  refine zi_istore dX2_correct_20 (Nat.le_of_ble_eq_true rfl) ?_
  refine zi_aload_n dX2_correct_22 rfl zrf_r ?_
  refine zi_getfield dX2_correct_23 rfl h2 h4 ?_
  refine zi_iload_n dX2_correct_26 rfl ?_
  refine zi_iaload dX2_correct_27 h7 h8 ?_
  exact zi_if_ne (tgt := 35) dX2_correct_28 (by decide +kernel) kt kf
theorem sX2_correct_31 {g : ZG} {Q : ZQ} {d cN sN : Nat} {M : ZM} {o0 o1 o2 o3 o4 o5 : Option Value}  (kk : Z g kX2_correct Q d cN sN M 36 [o0, o1, o2, o3, o4, o5] [.int 1]) : Z g kX2_correct Q d cN sN M 31 [o0, o1, o2, o3, o4, o5] [] := by
  refine zi_iconst dX2_correct_31 (by decide +kernel : Int32.ofInt (1) = (1 : Int32)) ?_
  exact zi_goto (tgt := 36) dX2_correct_32 (by decide +kernel) kk
theorem sX2_correct_35 {g : ZG} {Q : ZQ} {d cN sN : Nat} {M : ZM} {o0 o1 o2 o3 o4 o5 : Option Value}  (kk : Z g kX2_correct Q d cN sN M 36 [o0, o1, o2, o3, o4, o5] [.int 0]) : Z g kX2_correct Q d cN sN M 35 [o0, o1, o2, o3, o4, o5] [] := by
  refine zi_iconst dX2_correct_35 (by decide +kernel : Int32.ofInt (0) = (0 : Int32)) ?_
  exact kk
theorem sX2_correct_36 {g : ZG} {Q : ZQ} {d cN sN : Nat} {M : ZM} {t0 : Int32} {l2 : Int32} {o0 o1 o3 o4 o5 : Option Value}  (kk : Z g kX2_correct Q d cN sN M 38 [o0, o1, some (.int l2), o3, o4, o5] [.int l2, .int 4, .int t0]) : Z g kX2_correct Q d cN sN M 36 [o0, o1, some (.int l2), o3, o4, o5] [.int t0] := by
  refine zi_iconst dX2_correct_36 (by decide +kernel : Int32.ofInt (4) = (4 : Int32)) ?_
  refine zi_iload_n dX2_correct_37 rfl ?_
  exact kk
theorem sX2_correct_41 {g : ZG} {Q : ZQ} {d cN sN : Nat} {M : ZM} {l4 : Nat} {fs1 : List Value} {y3 : Int32} {l5 : Int32} {o0 o1 o2 o3 : Option Value} (h2 : M.1 l4 = some (.inr (2, fs1))) (h4 : (fs1)[0]? = some (.int y3)) (kt : (l5 : Int32) ≤ (y3 : Int32) → Z g kX2_correct Q d cN sN M 55 [o0, o1, o2, o3, some (.ref l4), some (.int l5)] []) (kf : ¬ (l5 : Int32) ≤ (y3 : Int32) → Z g kX2_correct Q d cN sN M 51 [o0, o1, o2, o3, some (.ref l4), some (.int l5)] []) : Z g kX2_correct Q d cN sN M 41 [o0, o1, o2, o3, some (.ref l4), some (.int l5)] [] := by
  refine zi_aload dX2_correct_41 rfl zrf_r ?_
  refine zi_getfield dX2_correct_43 rfl h2 h4 ?_
  refine zi_iload dX2_correct_46 rfl ?_
  exact zi_icmp_ge (tgt := 55) dX2_correct_48 (by decide +kernel) kt kf
theorem sX2_correct_51 {g : ZG} {Q : ZQ} {d cN sN : Nat} {M : ZM} {o0 o1 o2 o3 o4 o5 : Option Value}  (kk : Z g kX2_correct Q d cN sN M 56 [o0, o1, o2, o3, o4, o5] [.int 1]) : Z g kX2_correct Q d cN sN M 51 [o0, o1, o2, o3, o4, o5] [] := by
  refine zi_iconst dX2_correct_51 (by decide +kernel : Int32.ofInt (1) = (1 : Int32)) ?_
  exact zi_goto (tgt := 56) dX2_correct_52 (by decide +kernel) kk
theorem sX2_correct_55 {g : ZG} {Q : ZQ} {d cN sN : Nat} {M : ZM} {o0 o1 o2 o3 o4 o5 : Option Value}  (kk : Z g kX2_correct Q d cN sN M 56 [o0, o1, o2, o3, o4, o5] [.int 0]) : Z g kX2_correct Q d cN sN M 55 [o0, o1, o2, o3, o4, o5] [] := by
  refine zi_iconst dX2_correct_55 (by decide +kernel : Int32.ofInt (0) = (0 : Int32)) ?_
  exact kk
theorem sX2_correct_56 {g : ZG} {Q : ZQ} {d cN sN : Nat} {M : ZM} {t0 : Int32} {l4 : Nat} {fs1 : List Value} {y3 : Int32} {o0 o1 o2 o3 o5 : Option Value} (h2 : M.1 l4 = some (.inr (2, fs1))) (h4 : (fs1)[0]? = some (.int y3)) (kk : Z g kX2_correct Q d cN sN M 63 [o0, o1, o2, o3, some (.ref l4), o5] [.int y3, .int 7, .int t0]) : Z g kX2_correct Q d cN sN M 56 [o0, o1, o2, o3, some (.ref l4), o5] [.int t0] := by
  refine zi_bipush dX2_correct_56 (by decide +kernel : (Int8.ofInt (7)).toInt32 = (7 : Int32)) ?_
  refine zi_aload dX2_correct_58 rfl zrf_r ?_
  refine zi_getfield dX2_correct_60 rfl h2 h4 ?_
  exact kk
theorem sX2_correct_66 {g : ZG} {Q : ZQ} {d cN sN : Nat} {M : ZM} {l4 : Nat} {fs1 : List Value} {y3 : Int32} {l5 : Int32} {y6 : Int32} {l0 : Nat} {fs9 : List Value} {y11 : Int32} {l3 : Nat} {fs14 : List Value} {r16 : Nat} {l2 : Int32} {r18 : Nat} {n20 : Nat} {f21 : Nat → Int32} {n24 : Nat} {f25 : Nat → Int32} {fs28 : List Value} {r30 : Nat} {n32 : Nat} {f33 : Nat → Int32} {o1 : Option Value} (h2 : M.1 l4 = some (.inr (2, fs1))) (h4 : (fs1)[0]? = some (.int y3)) (h5 : 0 < (fs1).length) (h7 : (((fs1).set 0 (.int (y3 - l5))))[2]? = some (.int y6)) (h8 : 2 < (((fs1).set 0 (.int (y3 - l5)))).length) (h10 : (zup (zup M l4 (.inr (2, (fs1).set 0 (.int (y3 - l5))))) l4 (.inr (2, (((fs1).set 0 (.int (y3 - l5)))).set 2 (.int (y6 + l5))))).1 l0 = some (.inr (1, fs9))) (h12 : (fs9)[14]? = some (.int y11)) (h13 : 14 < (fs9).length) (h15 : (zup (zup (zup M l4 (.inr (2, (fs1).set 0 (.int (y3 - l5))))) l4 (.inr (2, (((fs1).set 0 (.int (y3 - l5)))).set 2 (.int (y6 + l5))))) l0 (.inr (1, (fs9).set 14 (.int (y11 + l5))))).1 l3 = some (.inr (3, fs14))) (h17 : (fs14)[3]? = some (.ref r16)) (h19 : (fs14)[2]? = some (.ref r18)) (h22 : (zup (zup (zup M l4 (.inr (2, (fs1).set 0 (.int (y3 - l5))))) l4 (.inr (2, (((fs1).set 0 (.int (y3 - l5)))).set 2 (.int (y6 + l5))))) l0 (.inr (1, (fs9).set 14 (.int (y11 + l5))))).1 r18 = some (.inl (zA g 0, n20, .inl f21))) (h23 : vp_in (l2) n20) (h26 : (zup (zup (zup M l4 (.inr (2, (fs1).set 0 (.int (y3 - l5))))) l4 (.inr (2, (((fs1).set 0 (.int (y3 - l5)))).set 2 (.int (y6 + l5))))) l0 (.inr (1, (fs9).set 14 (.int (y11 + l5))))).1 r16 = some (.inl (zA g 0, n24, .inl (f25)))) (h27 : vp_in (l2) n24) (h29 : (zup (zup (zup (zup M l4 (.inr (2, (fs1).set 0 (.int (y3 - l5))))) l4 (.inr (2, (((fs1).set 0 (.int (y3 - l5)))).set 2 (.int (y6 + l5))))) l0 (.inr (1, (fs9).set 14 (.int (y11 + l5))))) r16 (.inl (zA g 0, n24, .inl (upd f25 ((l2 : Int32).toNatClampNeg) (f21 ((l2 : Int32).toNatClampNeg)))))).1 l3 = some (.inr (3, fs28))) (h31 : (fs28)[4]? = some (.ref r30)) (h34 : (zup (zup (zup (zup M l4 (.inr (2, (fs1).set 0 (.int (y3 - l5))))) l4 (.inr (2, (((fs1).set 0 (.int (y3 - l5)))).set 2 (.int (y6 + l5))))) l0 (.inr (1, (fs9).set 14 (.int (y11 + l5))))) r16 (.inl (zA g 0, n24, .inl (upd f25 ((l2 : Int32).toNatClampNeg) (f21 ((l2 : Int32).toNatClampNeg)))))).1 r30 = some (.inl (zA g 0, n32, .inl (f33)))) (h35 : vp_in (l2) n32) (kk : Q.1 (some (.int l5)) (zup (zup (zup (zup (zup M l4 (.inr (2, (fs1).set 0 (.int (y3 - l5))))) l4 (.inr (2, (((fs1).set 0 (.int (y3 - l5)))).set 2 (.int (y6 + l5))))) l0 (.inr (1, (fs9).set 14 (.int (y11 + l5))))) r16 (.inl (zA g 0, n24, .inl (upd f25 ((l2 : Int32).toNatClampNeg) (f21 ((l2 : Int32).toNatClampNeg)))))) r30 (.inl (zA g 0, n32, .inl (upd f33 ((l2 : Int32).toNatClampNeg) (0)))))) : Z g kX2_correct Q d cN sN M 66 [some (.ref l0), o1, some (.int l2), some (.ref l3), some (.ref l4), some (.int l5)] [] := by
  refine zi_aload dX2_correct_66 rfl zrf_r ?_
  refine zi_dup dX2_correct_68 rfl ?_
  refine zi_getfield dX2_correct_69 rfl h2 h4 ?_
  refine zi_iload dX2_correct_72 rfl ?_
  refine zi_isub dX2_correct_74 ?_
  refine zi_putfield dX2_correct_75 rfl h2 h5 zfit_i (Or.inl rfl) ?_
  refine zi_aload dX2_correct_78 rfl zrf_r ?_
  refine zi_dup dX2_correct_80 rfl ?_
  refine zi_getfield dX2_correct_81 rfl (zup_self _ _ _) h7 ?_
  refine zi_iload dX2_correct_84 rfl ?_
  refine zi_iadd dX2_correct_86 ?_
  refine zi_putfield dX2_correct_87 rfl (zup_self _ _ _) h8 zfit_i (Or.inl rfl) ?_
  refine zi_aload_n dX2_correct_90 rfl zrf_r ?_
  refine zi_dup dX2_correct_91 rfl ?_
  refine zi_getfield dX2_correct_92 rfl h10 h12 ?_
  refine zi_iload dX2_correct_95 rfl ?_
  refine zi_iadd dX2_correct_97 ?_
  refine zi_putfield dX2_correct_98 rfl h10 h13 zfit_i (Or.inl rfl) ?_
  refine zi_aload_n dX2_correct_101 rfl zrf_r ?_
  refine zi_getfield dX2_correct_102 rfl h15 h17 ?_
  refine zi_iload_n dX2_correct_105 rfl ?_
  refine zi_aload_n dX2_correct_106 rfl zrf_r ?_
  refine zi_getfield dX2_correct_107 rfl h15 h19 ?_
  refine zi_iload_n dX2_correct_110 rfl ?_
  refine zi_iaload dX2_correct_111 h22 h23 ?_
  refine zi_iastore dX2_correct_112 h26 h27 ?_
  refine zi_aload_n dX2_correct_113 rfl zrf_r ?_
  refine zi_getfield dX2_correct_114 rfl h29 h31 ?_
  refine zi_iload_n dX2_correct_117 rfl ?_
  refine zi_iconst dX2_correct_118 (by decide +kernel : Int32.ofInt (0) = (0 : Int32)) ?_
  refine zi_iastore dX2_correct_119 h34 h35 ?_
  refine zi_iload dX2_correct_120 rfl ?_
  exact zi_ireturn dX2_correct_122 rfl rfl kk
abbrev kX2_house : ZK := (RX2, cX2_house, 3, (Option.some Jvm.ClassFile.FieldType.int), [], false, fX2)
abbrev tX2_house (g : ZG) (args : List Value) (M : ZM) (d c s : Nat) (Q : ZQ) : Prop := Ct g yX2_house (ws_ yX2_house cX2_house 3 (Option.some Jvm.ClassFile.FieldType.int)) args M d c s Q
abbrev nX2_house : Nat := 9
theorem mX2_house : zMok yX2_house 1 3 := ⟨⟨by decide +kernel, by decide +kernel, by decide +kernel⟩, by decide⟩
theorem eX2_house {g : ZG} {Q : ZQ} {d cN sN : Nat} {M : ZM} {a0 : Nat} {x1 : Int32} (hV : zV g) (h : Z g kX2_house Q d cN sN M 0 [some (.ref a0), some (.int x1), none] []) : tX2_house g [.ref a0, .int x1] M d cN sN Q := Ct.of (K := kX2_house) rfl (by decide +kernel) hV fokX2 rfl (fun h => by cases h) (fun v hv => by simp only [List.mem_cons, List.not_mem_nil, or_false] at hv; rcases hv with rfl | rfl <;> first | rfl | assumption) (Nat.le_of_ble_eq_true rfl) h
theorem sX2_house_0 {g : ZG} {Q : ZQ} {d cN sN : Nat} {M : ZM} {l0 : Nat} {fs1 : List Value} {y3 : Int32} {o1 o2 : Option Value} (h2 : M.1 l0 = some (.inr (1, fs1))) (h4 : (fs1)[1]? = some (.int y3)) (kt : ¬ (y3 : Int32) = (4 : Int32) → Z g kX2_house Q d cN sN M 12 [some (.ref l0), o1, o2] []) (kf : (y3 : Int32) = (4 : Int32) → Z g kX2_house Q d cN sN M 8 [some (.ref l0), o1, o2] []) : Z g kX2_house Q d cN sN M 0 [some (.ref l0), o1, o2] [] := by
  refine zi_aload_n dX2_house_0 rfl zrf_r ?_
  refine zi_getfield dX2_house_1 rfl h2 h4 ?_
  refine zi_iconst dX2_house_4 (by decide +kernel : Int32.ofInt (4) = (4 : Int32)) ?_
  exact zi_icmp_ne (tgt := 12) dX2_house_5 (by decide +kernel) kt kf
theorem sX2_house_8 {g : ZG} {Q : ZQ} {d cN sN : Nat} {M : ZM} {o0 o1 o2 : Option Value}  (kk : Z g kX2_house Q d cN sN M 13 [o0, o1, o2] [.int 1]) : Z g kX2_house Q d cN sN M 8 [o0, o1, o2] [] := by
  refine zi_iconst dX2_house_8 (by decide +kernel : Int32.ofInt (1) = (1 : Int32)) ?_
  exact zi_goto (tgt := 13) dX2_house_9 (by decide +kernel) kk
theorem sX2_house_12 {g : ZG} {Q : ZQ} {d cN sN : Nat} {M : ZM} {o0 o1 o2 : Option Value}  (kk : Z g kX2_house Q d cN sN M 13 [o0, o1, o2] [.int 0]) : Z g kX2_house Q d cN sN M 12 [o0, o1, o2] [] := by
  refine zi_iconst dX2_house_12 (by decide +kernel : Int32.ofInt (0) = (0 : Int32)) ?_
  exact kk
theorem sX2_house_13 {g : ZG} {Q : ZQ} {d cN sN : Nat} {M : ZM} {t0 : Int32} {o0 o1 o2 : Option Value}  (kk : Z g kX2_house Q d cN sN M 15 [o0, o1, o2] [.int 4, .int 1, .int t0]) : Z g kX2_house Q d cN sN M 13 [o0, o1, o2] [.int t0] := by
  refine zi_iconst dX2_house_13 (by decide +kernel : Int32.ofInt (1) = (1 : Int32)) ?_
  refine zi_iconst dX2_house_14 (by decide +kernel : Int32.ofInt (4) = (4 : Int32)) ?_
  exact kk
theorem sX2_house_18 {g : ZG} {Q : ZQ} {d cN sN : Nat} {M : ZM} {l0 : Nat} {fs1 : List Value} {r3 : Nat} {y5 : Int32} {n7 : Nat} {f8 : Nat → Option Nat} {c9 : ClassId} {r13 : Nat} {l1 : Int32} {fs15 : List Value} {fs20 : List Value} {y22 : Int32} {y25 : Int32} {o2 : Option Value} (h2 : M.1 l0 = some (.inr (1, fs1))) (h4 : (fs1)[2]? = some (.ref r3)) (h6 : (fs1)[1]? = some (.int y5)) (h10 : M.1 r3 = some (.inl (c9, n7, .inr (.inr (.inr (.inr f8)))))) (h11 : zRt g c9) (h12 : vp_in (y5) n7) (h14 : va_rf (f8 ((y5 : Int32).toNatClampNeg)) = .ref r13) (h16 : M.1 r13 = some (.inr (2, fs15))) (h17 : 0 < (fs15).length) (h18 : 1 < (((fs15).set 0 (.int l1))).length) (h19 : 2 < (((((fs15).set 0 (.int l1))).set 1 (.int 0))).length) (h21 : (zup (zup (zup M r13 (.inr (2, (fs15).set 0 (.int l1)))) r13 (.inr (2, (((fs15).set 0 (.int l1))).set 1 (.int 0)))) r13 (.inr (2, (((((fs15).set 0 (.int l1))).set 1 (.int 0))).set 2 (.int 0)))).1 l0 = some (.inr (1, fs20))) (h23 : (fs20)[1]? = some (.int y22)) (h24 : 1 < (fs20).length) (h26 : (((fs20).set 1 (.int (y22 + 1))))[1]? = some (.int y25)) (kk : Q.1 (some (.int (y25 - 1))) (zup (zup (zup (zup M r13 (.inr (2, (fs15).set 0 (.int l1)))) r13 (.inr (2, (((fs15).set 0 (.int l1))).set 1 (.int 0)))) r13 (.inr (2, (((((fs15).set 0 (.int l1))).set 1 (.int 0))).set 2 (.int 0)))) l0 (.inr (1, (fs20).set 1 (.int (y22 + 1)))))) : Z g kX2_house Q d cN sN M 18 [some (.ref l0), some (.int l1), o2] [] := by
  refine zi_aload_n dX2_house_18 rfl zrf_r ?_
  refine zi_getfield dX2_house_19 rfl h2 h4 ?_
  refine zi_aload_n dX2_house_22 rfl zrf_r ?_
  refine zi_getfield dX2_house_23 rfl h2 h6 ?_
  refine zi_aaload dX2_house_26 h10 h11 h12 h14 ?_
  refine zi_astore_n dX2_house_27 zrf_r (Nat.le_of_ble_eq_true rfl) ?_
  refine zi_aload_n dX2_house_28 rfl zrf_r ?_
  refine zi_iload_n dX2_house_29 rfl ?_
  refine zi_putfield dX2_house_30 rfl h16 h17 zfit_i (Or.inl rfl) ?_
  refine zi_aload_n dX2_house_33 rfl zrf_r ?_
  refine zi_iconst dX2_house_34 (by decide +kernel : Int32.ofInt (0) = (0 : Int32)) ?_
  refine zi_putfield dX2_house_35 rfl (zup_self _ _ _) h18 zfit_i (Or.inl rfl) ?_
  refine zi_aload_n dX2_house_38 rfl zrf_r ?_
  refine zi_iconst dX2_house_39 (by decide +kernel : Int32.ofInt (0) = (0 : Int32)) ?_
  refine zi_putfield dX2_house_40 rfl (zup_self _ _ _) h19 zfit_i (Or.inl rfl) ?_
  refine zi_aload_n dX2_house_43 rfl zrf_r ?_
  refine zi_dup dX2_house_44 rfl ?_
  refine zi_getfield dX2_house_45 rfl h21 h23 ?_
  refine zi_iconst dX2_house_48 (by decide +kernel : Int32.ofInt (1) = (1 : Int32)) ?_
  refine zi_iadd dX2_house_49 ?_
  refine zi_putfield dX2_house_50 rfl h21 h24 zfit_i (Or.inl rfl) ?_
  refine zi_aload_n dX2_house_53 rfl zrf_r ?_
  refine zi_getfield dX2_house_54 rfl (zup_self _ _ _) h26 ?_
  refine zi_iconst dX2_house_57 (by decide +kernel : Int32.ofInt (1) = (1 : Int32)) ?_
  refine zi_isub dX2_house_58 ?_
  exact zi_ireturn dX2_house_59 rfl rfl kk
abbrev kX2_isHouse : ZK := (RX2, cX2_isHouse, 2, (Option.some Jvm.ClassFile.FieldType.boolean), [], false, fX2)
abbrev tX2_isHouse (g : ZG) (args : List Value) (M : ZM) (d c s : Nat) (Q : ZQ) : Prop := Ct g yX2_isHouse (ws_ yX2_isHouse cX2_isHouse 2 (Option.some Jvm.ClassFile.FieldType.boolean)) args M d c s Q
abbrev nX2_isHouse : Nat := 2
theorem mX2_isHouse : zMok yX2_isHouse 1 2 := ⟨⟨by decide +kernel, by decide +kernel, by decide +kernel⟩, by decide⟩
theorem eX2_isHouse {g : ZG} {Q : ZQ} {d cN sN : Nat} {M : ZM} {a0 : Nat} {x1 : Int32} (hV : zV g) (h : Z g kX2_isHouse Q d cN sN M 0 [some (.ref a0), some (.int x1)] []) : tX2_isHouse g [.ref a0, .int x1] M d cN sN Q := Ct.of (K := kX2_isHouse) rfl (by decide +kernel) hV fokX2 rfl (fun h => by cases h) (fun v hv => by simp only [List.mem_cons, List.not_mem_nil, or_false] at hv; rcases hv with rfl | rfl <;> first | rfl | assumption) (Nat.le_of_ble_eq_true rfl) h
theorem sX2_isHouse_0 {g : ZG} {Q : ZQ} {d cN sN : Nat} {M : ZM} {l1 : Int32} {l0 : Nat} {fs1 : List Value} {y3 : Int32} (h2 : M.1 l0 = some (.inr (1, fs1))) (h4 : (fs1)[1]? = some (.int y3)) (kk : Z g kX2_isHouse Q d cN sN M 8 [some (.ref l0), some (.int l1)] [.int (y3 - 1), .int 0, .int l1]) : Z g kX2_isHouse Q d cN sN M 0 [some (.ref l0), some (.int l1)] [] := by
  refine zi_iload_n dX2_isHouse_0 rfl ?_
  refine zi_iconst dX2_isHouse_1 (by decide +kernel : Int32.ofInt (0) = (0 : Int32)) ?_
  refine zi_aload_n dX2_isHouse_2 rfl zrf_r ?_
  refine zi_getfield dX2_isHouse_3 rfl h2 h4 ?_
  refine zi_iconst dX2_isHouse_6 (by decide +kernel : Int32.ofInt (1) = (1 : Int32)) ?_
  refine zi_isub dX2_isHouse_7 ?_
  exact kk
theorem sX2_isHouse_11 {g : ZG} {Q : ZQ} {d cN sN : Nat} {M : ZM} {t0 : Int32} {o0 o1 : Option Value} (h1 : t0 = 0 ∨ t0 = 1) (kk : Q.1 (some (.int t0)) M) : Z g kX2_isHouse Q d cN sN M 11 [o0, o1] [.int t0] := by
  exact zi_ireturn dX2_isHouse_11 rfl (znar_z h1) kk
abbrev kX2_sheet : ZK := (RX2, cX2_sheet, 3, (Option.some Jvm.ClassFile.FieldType.int), [], false, fX2)
abbrev tX2_sheet (g : ZG) (args : List Value) (M : ZM) (d c s : Nat) (Q : ZQ) : Prop := Ct g yX2_sheet (ws_ yX2_sheet cX2_sheet 3 (Option.some Jvm.ClassFile.FieldType.int)) args M d c s Q
abbrev nX2_sheet : Nat := 9
theorem mX2_sheet : zMok yX2_sheet 2 3 := ⟨⟨by decide +kernel, by decide +kernel, by decide +kernel⟩, by decide⟩
theorem eX2_sheet {g : ZG} {Q : ZQ} {d cN sN : Nat} {M : ZM} {a0 : Nat} {x1 : Int32} {x2 : Int32} (hV : zV g) (h : Z g kX2_sheet Q d cN sN M 0 [some (.ref a0), some (.int x1), some (.int x2)] []) : tX2_sheet g [.ref a0, .int x1, .int x2] M d cN sN Q := Ct.of (K := kX2_sheet) rfl (by decide +kernel) hV fokX2 rfl (fun h => by cases h) (fun v hv => by simp only [List.mem_cons, List.not_mem_nil, or_false] at hv; rcases hv with rfl | rfl | rfl <;> first | rfl | assumption) (Nat.le_of_ble_eq_true rfl) h
theorem sX2_sheet_0 {g : ZG} {Q : ZQ} {d cN sN : Nat} {M : ZM} {l0 : Nat} {fs1 : List Value} {y3 : Int32} {o1 o2 : Option Value} (h2 : M.1 l0 = some (.inr (1, fs1))) (h4 : (fs1)[3]? = some (.int y3)) (kt : ¬ (y3 : Int32) = (8 : Int32) → Z g kX2_sheet Q d cN sN M 13 [some (.ref l0), o1, o2] []) (kf : (y3 : Int32) = (8 : Int32) → Z g kX2_sheet Q d cN sN M 9 [some (.ref l0), o1, o2] []) : Z g kX2_sheet Q d cN sN M 0 [some (.ref l0), o1, o2] [] := by
  refine zi_aload_n dX2_sheet_0 rfl zrf_r ?_
  refine zi_getfield dX2_sheet_1 rfl h2 h4 ?_
  refine zi_bipush dX2_sheet_4 (by decide +kernel : (Int8.ofInt (8)).toInt32 = (8 : Int32)) ?_
  exact zi_icmp_ne (tgt := 13) dX2_sheet_6 (by decide +kernel) kt kf
theorem sX2_sheet_9 {g : ZG} {Q : ZQ} {d cN sN : Nat} {M : ZM} {o0 o1 o2 : Option Value}  (kk : Z g kX2_sheet Q d cN sN M 14 [o0, o1, o2] [.int 1]) : Z g kX2_sheet Q d cN sN M 9 [o0, o1, o2] [] := by
  refine zi_iconst dX2_sheet_9 (by decide +kernel : Int32.ofInt (1) = (1 : Int32)) ?_
  exact zi_goto (tgt := 14) dX2_sheet_10 (by decide +kernel) kk
theorem sX2_sheet_13 {g : ZG} {Q : ZQ} {d cN sN : Nat} {M : ZM} {o0 o1 o2 : Option Value}  (kk : Z g kX2_sheet Q d cN sN M 14 [o0, o1, o2] [.int 0]) : Z g kX2_sheet Q d cN sN M 13 [o0, o1, o2] [] := by
  refine zi_iconst dX2_sheet_13 (by decide +kernel : Int32.ofInt (0) = (0 : Int32)) ?_
  exact kk
theorem sX2_sheet_14 {g : ZG} {Q : ZQ} {d cN sN : Nat} {M : ZM} {t0 : Int32} {o0 o1 o2 : Option Value}  (kk : Z g kX2_sheet Q d cN sN M 17 [o0, o1, o2] [.int 8, .int 1, .int t0]) : Z g kX2_sheet Q d cN sN M 14 [o0, o1, o2] [.int t0] := by
  refine zi_iconst dX2_sheet_14 (by decide +kernel : Int32.ofInt (1) = (1 : Int32)) ?_
  refine zi_bipush dX2_sheet_15 (by decide +kernel : (Int8.ofInt (8)).toInt32 = (8 : Int32)) ?_
  exact kk
theorem sX2_sheet_20 {g : ZG} {Q : ZQ} {d cN sN : Nat} {M : ZM} {l0 : Nat} {fs1 : List Value} {r3 : Nat} {y5 : Int32} {n7 : Nat} {f8 : Nat → Option Nat} {c9 : ClassId} {r13 : Nat} {l1 : Int32} {l2 : Int32} (h2 : M.1 l0 = some (.inr (1, fs1))) (h4 : (fs1)[4]? = some (.ref r3)) (h6 : (fs1)[3]? = some (.int y5)) (h10 : M.1 r3 = some (.inl (c9, n7, .inr (.inr (.inr (.inr f8)))))) (h11 : zRt g c9) (h12 : vp_in (y5) n7) (h14 : va_rf (f8 ((y5 : Int32).toNatClampNeg)) = .ref r13) (kk : Z g kX2_sheet Q d cN sN M 31 [some (.ref l0), some (.int l1), some (.int l2)] [.int l2, .int l1, .ref r13]) : Z g kX2_sheet Q d cN sN M 20 [some (.ref l0), some (.int l1), some (.int l2)] [] := by
  refine zi_aload_n dX2_sheet_20 rfl zrf_r ?_
  refine zi_getfield dX2_sheet_21 rfl h2 h4 ?_
  refine zi_aload_n dX2_sheet_24 rfl zrf_r ?_
  refine zi_getfield dX2_sheet_25 rfl h2 h6 ?_
  refine zi_aaload dX2_sheet_28 h10 h11 h12 h14 ?_
  refine zi_iload_n dX2_sheet_29 rfl ?_
  refine zi_iload_n dX2_sheet_30 rfl ?_
  exact kk
theorem sX2_sheet_34 {g : ZG} {Q : ZQ} {d cN sN : Nat} {M : ZM} {l0 : Nat} {fs1 : List Value} {y3 : Int32} {y6 : Int32} {o1 o2 : Option Value} (h2 : M.1 l0 = some (.inr (1, fs1))) (h4 : (fs1)[3]? = some (.int y3)) (h5 : 3 < (fs1).length) (h7 : (((fs1).set 3 (.int (y3 + 1))))[3]? = some (.int y6)) (kk : Q.1 (some (.int (y6 - 1))) (zup M l0 (.inr (1, (fs1).set 3 (.int (y3 + 1)))))) : Z g kX2_sheet Q d cN sN M 34 [some (.ref l0), o1, o2] [] := by
  refine zi_aload_n dX2_sheet_34 rfl zrf_r ?_
  refine zi_dup dX2_sheet_35 rfl ?_
  refine zi_getfield dX2_sheet_36 rfl h2 h4 ?_
  refine zi_iconst dX2_sheet_39 (by decide +kernel : Int32.ofInt (1) = (1 : Int32)) ?_
  refine zi_iadd dX2_sheet_40 ?_
  refine zi_putfield dX2_sheet_41 rfl h2 h5 zfit_i (Or.inl rfl) ?_
  refine zi_aload_n dX2_sheet_44 rfl zrf_r ?_
  refine zi_getfield dX2_sheet_45 rfl (zup_self _ _ _) h7 ?_
  refine zi_iconst dX2_sheet_48 (by decide +kernel : Int32.ofInt (1) = (1 : Int32)) ?_
  refine zi_isub dX2_sheet_49 ?_
  exact zi_ireturn dX2_sheet_50 rfl rfl kk
abbrev kX2_isSheet : ZK := (RX2, cX2_isSheet, 2, (Option.some Jvm.ClassFile.FieldType.boolean), [], false, fX2)
abbrev tX2_isSheet (g : ZG) (args : List Value) (M : ZM) (d c s : Nat) (Q : ZQ) : Prop := Ct g yX2_isSheet (ws_ yX2_isSheet cX2_isSheet 2 (Option.some Jvm.ClassFile.FieldType.boolean)) args M d c s Q
abbrev nX2_isSheet : Nat := 2
theorem mX2_isSheet : zMok yX2_isSheet 1 2 := ⟨⟨by decide +kernel, by decide +kernel, by decide +kernel⟩, by decide⟩
theorem eX2_isSheet {g : ZG} {Q : ZQ} {d cN sN : Nat} {M : ZM} {a0 : Nat} {x1 : Int32} (hV : zV g) (h : Z g kX2_isSheet Q d cN sN M 0 [some (.ref a0), some (.int x1)] []) : tX2_isSheet g [.ref a0, .int x1] M d cN sN Q := Ct.of (K := kX2_isSheet) rfl (by decide +kernel) hV fokX2 rfl (fun h => by cases h) (fun v hv => by simp only [List.mem_cons, List.not_mem_nil, or_false] at hv; rcases hv with rfl | rfl <;> first | rfl | assumption) (Nat.le_of_ble_eq_true rfl) h
theorem sX2_isSheet_0 {g : ZG} {Q : ZQ} {d cN sN : Nat} {M : ZM} {l1 : Int32} {l0 : Nat} {fs1 : List Value} {y3 : Int32} (h2 : M.1 l0 = some (.inr (1, fs1))) (h4 : (fs1)[3]? = some (.int y3)) (kk : Z g kX2_isSheet Q d cN sN M 8 [some (.ref l0), some (.int l1)] [.int (y3 - 1), .int 0, .int l1]) : Z g kX2_isSheet Q d cN sN M 0 [some (.ref l0), some (.int l1)] [] := by
  refine zi_iload_n dX2_isSheet_0 rfl ?_
  refine zi_iconst dX2_isSheet_1 (by decide +kernel : Int32.ofInt (0) = (0 : Int32)) ?_
  refine zi_aload_n dX2_isSheet_2 rfl zrf_r ?_
  refine zi_getfield dX2_isSheet_3 rfl h2 h4 ?_
  refine zi_iconst dX2_isSheet_6 (by decide +kernel : Int32.ofInt (1) = (1 : Int32)) ?_
  refine zi_isub dX2_isSheet_7 ?_
  exact kk
theorem sX2_isSheet_11 {g : ZG} {Q : ZQ} {d cN sN : Nat} {M : ZM} {t0 : Int32} {o0 o1 : Option Value} (h1 : t0 = 0 ∨ t0 = 1) (kk : Q.1 (some (.int t0)) M) : Z g kX2_isSheet Q d cN sN M 11 [o0, o1] [.int t0] := by
  exact zi_ireturn dX2_isSheet_11 rfl (znar_z h1) kk
abbrev kX2_goes : ZK := (RX2, cX2_goes, 3, (Option.some Jvm.ClassFile.FieldType.int), [], false, fX2)
abbrev tX2_goes (g : ZG) (args : List Value) (M : ZM) (d c s : Nat) (Q : ZQ) : Prop := Ct g yX2_goes (ws_ yX2_goes cX2_goes 3 (Option.some Jvm.ClassFile.FieldType.int)) args M d c s Q
abbrev nX2_goes : Nat := 3
theorem mX2_goes : zMok yX2_goes 1 3 := ⟨⟨by decide +kernel, by decide +kernel, by decide +kernel⟩, by decide⟩
theorem eX2_goes {g : ZG} {Q : ZQ} {d cN sN : Nat} {M : ZM} {a0 : Nat} {x1 : Int32} (hV : zV g) (h : Z g kX2_goes Q d cN sN M 0 [some (.ref a0), some (.int x1), none] []) : tX2_goes g [.ref a0, .int x1] M d cN sN Q := Ct.of (K := kX2_goes) rfl (by decide +kernel) hV fokX2 rfl (fun h => by cases h) (fun v hv => by simp only [List.mem_cons, List.not_mem_nil, or_false] at hv; rcases hv with rfl | rfl <;> first | rfl | assumption) (Nat.le_of_ble_eq_true rfl) h
theorem sX2_goes_0 {g : ZG} {Q : ZQ} {d cN sN : Nat} {M : ZM} {l0 : Nat} {fs1 : List Value} {y3 : Int32} {l1 : Int32} {o2 : Option Value} (h2 : M.1 l0 = some (.inr (1, fs1))) (h4 : (fs1)[3]? = some (.int y3)) (h5 : 3 < (fs1).length) (kk : Z g kX2_goes Q d cN sN (zup M l0 (.inr (1, (fs1).set 3 (.int (y3 - 1))))) 12 [some (.ref l0), some (.int l1), some (.int l1)] []) : Z g kX2_goes Q d cN sN M 0 [some (.ref l0), some (.int l1), o2] [] := by
  refine zi_aload_n dX2_goes_0 rfl zrf_r ?_
  refine zi_dup dX2_goes_1 rfl ?_
  refine zi_getfield dX2_goes_2 rfl h2 h4 ?_
  refine zi_iconst dX2_goes_5 (by decide +kernel : Int32.ofInt (1) = (1 : Int32)) ?_
  refine zi_isub dX2_goes_6 ?_
  refine zi_putfield dX2_goes_7 rfl h2 h5 zfit_i (Or.inl rfl) ?_
  refine zi_iload_n dX2_goes_10 rfl ?_
  refine zi_istore_n dX2_goes_11 (Nat.le_of_ble_eq_true rfl) ?_
  exact kk
theorem sX2_goes_12 {g : ZG} {Q : ZQ} {d cN sN : Nat} {M : ZM} {l2 : Int32} {l0 : Nat} {fs1 : List Value} {y3 : Int32} {o1 : Option Value} (h2 : M.1 l0 = some (.inr (1, fs1))) (h4 : (fs1)[3]? = some (.int y3)) (kt : (y3 : Int32) ≤ (l2 : Int32) → Z g kX2_goes Q d cN sN M 43 [some (.ref l0), o1, some (.int l2)] []) (kf : ¬ (y3 : Int32) ≤ (l2 : Int32) → Z g kX2_goes Q d cN sN M 20 [some (.ref l0), o1, some (.int l2)] []) : Z g kX2_goes Q d cN sN M 12 [some (.ref l0), o1, some (.int l2)] [] := by
  refine zi_iload_n dX2_goes_12 rfl ?_
  refine zi_aload_n dX2_goes_13 rfl zrf_r ?_
  refine zi_getfield dX2_goes_14 rfl h2 h4 ?_
  exact zi_icmp_ge (tgt := 43) dX2_goes_17 (by decide +kernel) kt kf
theorem sX2_goes_20 {g : ZG} {Q : ZQ} {d cN sN : Nat} {M : ZM} {l0 : Nat} {fs1 : List Value} {r3 : Nat} {l2 : Int32} {n5 : Nat} {f6 : Nat → Option Nat} {c7 : ClassId} {r11 : Nat} {r14 : Nat} {o1 : Option Value} (h2 : M.1 l0 = some (.inr (1, fs1))) (h4 : (fs1)[4]? = some (.ref r3)) (h8 : M.1 r3 = some (.inl (c7, n5, .inr (.inr (.inr (.inr f6)))))) (h9 : zRt g c7) (h10 : vp_in (l2) n5) (h12 : va_rf (f6 ((l2 : Int32).toNatClampNeg)) = .ref r11) (h13 : vp_in (l2 + 1) n5) (h15 : va_rf (f6 ((l2 + 1 : Int32).toNatClampNeg)) = .ref r14) (kk : Z g kX2_goes Q d cN sN M 34 [some (.ref l0), o1, some (.int l2)] [.ref r14, .ref r11]) : Z g kX2_goes Q d cN sN M 20 [some (.ref l0), o1, some (.int l2)] [] := by
  refine zi_aload_n dX2_goes_20 rfl zrf_r ?_
  refine zi_getfield dX2_goes_21 rfl h2 h4 ?_
  refine zi_iload_n dX2_goes_24 rfl ?_
  refine zi_aaload dX2_goes_25 h8 h9 h10 h12 ?_
  refine zi_aload_n dX2_goes_26 rfl zrf_r ?_
  refine zi_getfield dX2_goes_27 rfl h2 h4 ?_
  refine zi_iload_n dX2_goes_30 rfl ?_
  refine zi_iconst dX2_goes_31 (by decide +kernel : Int32.ofInt (1) = (1 : Int32)) ?_
  refine zi_iadd dX2_goes_32 ?_
  refine zi_aaload dX2_goes_33 h8 h9 h13 h15 ?_
  exact kk
theorem sX2_goes_37 {g : ZG} {Q : ZQ} {d cN sN : Nat} {M : ZM} {l2 : Int32} {o0 o1 : Option Value}  (kk : Z g kX2_goes Q d cN sN M 12 [o0, o1, some (.int (l2 + 1))] []) : Z g kX2_goes Q d cN sN M 37 [o0, o1, some (.int l2)] [] := by
  refine zi_iinc dX2_goes_37 rfl (by decide +kernel : Int32.ofInt (1) = 1) (Nat.le_of_ble_eq_true rfl) ?_
  exact zi_goto (tgt := 12) dX2_goes_40 (by decide +kernel) kk
theorem sX2_goes_43 {g : ZG} {Q : ZQ} {d cN sN : Nat} {M : ZM} {l0 : Nat} {fs1 : List Value} {y3 : Int32} {o1 o2 : Option Value} (h2 : M.1 l0 = some (.inr (1, fs1))) (h4 : (fs1)[3]? = some (.int y3)) (kk : Q.1 (some (.int y3)) M) : Z g kX2_goes Q d cN sN M 43 [some (.ref l0), o1, o2] [] := by
  refine zi_aload_n dX2_goes_43 rfl zrf_r ?_
  refine zi_getfield dX2_goes_44 rfl h2 h4 ?_
  exact zi_ireturn dX2_goes_47 rfl rfl kk
abbrev kX2_isPlace : ZK := (RX2, cX2_isPlace, 3, (Option.some Jvm.ClassFile.FieldType.boolean), [], false, fX2)
abbrev tX2_isPlace (g : ZG) (args : List Value) (M : ZM) (d c s : Nat) (Q : ZQ) : Prop := Ct g yX2_isPlace (ws_ yX2_isPlace cX2_isPlace 3 (Option.some Jvm.ClassFile.FieldType.boolean)) args M d c s Q
abbrev nX2_isPlace : Nat := 3
theorem mX2_isPlace : zMok yX2_isPlace 2 3 := ⟨⟨by decide +kernel, by decide +kernel, by decide +kernel⟩, by decide⟩
theorem eX2_isPlace {g : ZG} {Q : ZQ} {d cN sN : Nat} {M : ZM} {a0 : Nat} {x1 : Int32} {x2 : Int32} (hV : zV g) (h : Z g kX2_isPlace Q d cN sN M 0 [some (.ref a0), some (.int x1), some (.int x2)] []) : tX2_isPlace g [.ref a0, .int x1, .int x2] M d cN sN Q := Ct.of (K := kX2_isPlace) rfl (by decide +kernel) hV fokX2 rfl (fun h => by cases h) (fun v hv => by simp only [List.mem_cons, List.not_mem_nil, or_false] at hv; rcases hv with rfl | rfl | rfl <;> first | rfl | assumption) (Nat.le_of_ble_eq_true rfl) h
theorem sX2_isPlace_0 {g : ZG} {Q : ZQ} {d cN sN : Nat} {M : ZM} {l0 : Nat} {l1 : Int32} {o2 : Option Value}  (kk : Z g kX2_isPlace Q d cN sN M 2 [some (.ref l0), some (.int l1), o2] [.int l1, .ref l0]) : Z g kX2_isPlace Q d cN sN M 0 [some (.ref l0), some (.int l1), o2] [] := by
  refine zi_aload_n dX2_isPlace_0 rfl zrf_r ?_
  refine zi_iload_n dX2_isPlace_1 rfl ?_
  exact kk
theorem sX2_isPlace_5 {g : ZG} {Q : ZQ} {d cN sN : Nat} {M : ZM} {t0 : Int32} {o0 o1 o2 : Option Value}  (kt : (t0 : Int32) = 0 → Z g kX2_isPlace Q d cN sN M 31 [o0, o1, o2] []) (kf : ¬ (t0 : Int32) = 0 → Z g kX2_isPlace Q d cN sN M 8 [o0, o1, o2] []) : Z g kX2_isPlace Q d cN sN M 5 [o0, o1, o2] [.int t0] := by
  exact zi_if_eq (tgt := 31) dX2_isPlace_5 (by decide +kernel) kt kf
theorem sX2_isPlace_8 {g : ZG} {Q : ZQ} {d cN sN : Nat} {M : ZM} {l2 : Int32} {l0 : Nat} {fs1 : List Value} {r3 : Nat} {l1 : Int32} {n5 : Nat} {f6 : Nat → Option Nat} {c7 : ClassId} {r11 : Nat} {fs13 : List Value} {y15 : Int32} (h2 : M.1 l0 = some (.inr (1, fs1))) (h4 : (fs1)[4]? = some (.ref r3)) (h8 : M.1 r3 = some (.inl (c7, n5, .inr (.inr (.inr (.inr f6)))))) (h9 : zRt g c7) (h10 : vp_in (l1) n5) (h12 : va_rf (f6 ((l1 : Int32).toNatClampNeg)) = .ref r11) (h14 : M.1 r11 = some (.inr (3, fs13))) (h16 : (fs13)[1]? = some (.int y15)) (kk : Z g kX2_isPlace Q d cN sN M 21 [some (.ref l0), some (.int l1), some (.int l2)] [.int (y15 - 1), .int 0, .int l2]) : Z g kX2_isPlace Q d cN sN M 8 [some (.ref l0), some (.int l1), some (.int l2)] [] := by
  refine zi_iload_n dX2_isPlace_8 rfl ?_
  refine zi_iconst dX2_isPlace_9 (by decide +kernel : Int32.ofInt (0) = (0 : Int32)) ?_
  refine zi_aload_n dX2_isPlace_10 rfl zrf_r ?_
  refine zi_getfield dX2_isPlace_11 rfl h2 h4 ?_
  refine zi_iload_n dX2_isPlace_14 rfl ?_
  refine zi_aaload dX2_isPlace_15 h8 h9 h10 h12 ?_
  refine zi_getfield dX2_isPlace_16 rfl h14 h16 ?_
  refine zi_iconst dX2_isPlace_19 (by decide +kernel : Int32.ofInt (1) = (1 : Int32)) ?_
  refine zi_isub dX2_isPlace_20 ?_
  exact kk
theorem sX2_isPlace_24 {g : ZG} {Q : ZQ} {d cN sN : Nat} {M : ZM} {t0 : Int32} {o0 o1 o2 : Option Value}  (kt : (t0 : Int32) = 0 → Z g kX2_isPlace Q d cN sN M 31 [o0, o1, o2] []) (kf : ¬ (t0 : Int32) = 0 → Z g kX2_isPlace Q d cN sN M 27 [o0, o1, o2] []) : Z g kX2_isPlace Q d cN sN M 24 [o0, o1, o2] [.int t0] := by
  exact zi_if_eq (tgt := 31) dX2_isPlace_24 (by decide +kernel) kt kf
theorem sX2_isPlace_27 {g : ZG} {Q : ZQ} {d cN sN : Nat} {M : ZM} {o0 o1 o2 : Option Value}  (kk : Z g kX2_isPlace Q d cN sN M 32 [o0, o1, o2] [.int 1]) : Z g kX2_isPlace Q d cN sN M 27 [o0, o1, o2] [] := by
  refine zi_iconst dX2_isPlace_27 (by decide +kernel : Int32.ofInt (1) = (1 : Int32)) ?_
  exact zi_goto (tgt := 32) dX2_isPlace_28 (by decide +kernel) kk
theorem sX2_isPlace_31 {g : ZG} {Q : ZQ} {d cN sN : Nat} {M : ZM} {o0 o1 o2 : Option Value}  (kk : Z g kX2_isPlace Q d cN sN M 32 [o0, o1, o2] [.int 0]) : Z g kX2_isPlace Q d cN sN M 31 [o0, o1, o2] [] := by
  refine zi_iconst dX2_isPlace_31 (by decide +kernel : Int32.ofInt (0) = (0 : Int32)) ?_
  exact kk
theorem sX2_isPlace_32 {g : ZG} {Q : ZQ} {d cN sN : Nat} {M : ZM} {t0 : Int32} {o0 o1 o2 : Option Value} (h1 : t0 = 0 ∨ t0 = 1) (kk : Q.1 (some (.int t0)) M) : Z g kX2_isPlace Q d cN sN M 32 [o0, o1, o2] [.int t0] := by
  exact zi_ireturn dX2_isPlace_32 rfl (znar_z h1) kk
abbrev kX2_set : ZK := (RX2, cX2_set, 5, (Option.some Jvm.ClassFile.FieldType.int), [], false, fX2)
abbrev tX2_set (g : ZG) (args : List Value) (M : ZM) (d c s : Nat) (Q : ZQ) : Prop := Ct g yX2_set (ws_ yX2_set cX2_set 5 (Option.some Jvm.ClassFile.FieldType.int)) args M d c s Q
abbrev nX2_set : Nat := 9
theorem mX2_set : zMok yX2_set 3 5 := ⟨⟨by decide +kernel, by decide +kernel, by decide +kernel⟩, by decide⟩
theorem eX2_set {g : ZG} {Q : ZQ} {d cN sN : Nat} {M : ZM} {a0 : Nat} {x1 : Int32} {x2 : Int32} {x3 : Int32} (hV : zV g) (h : Z g kX2_set Q d cN sN M 0 [some (.ref a0), some (.int x1), some (.int x2), some (.int x3), none] []) : tX2_set g [.ref a0, .int x1, .int x2, .int x3] M d cN sN Q := Ct.of (K := kX2_set) rfl (by decide +kernel) hV fokX2 rfl (fun h => by cases h) (fun v hv => by simp only [List.mem_cons, List.not_mem_nil, or_false] at hv; rcases hv with rfl | rfl | rfl | rfl <;> first | rfl | assumption) (Nat.le_of_ble_eq_true rfl) h
theorem sX2_set_0 {g : ZG} {Q : ZQ} {d cN sN : Nat} {M : ZM} {l0 : Nat} {fs1 : List Value} {r3 : Nat} {l1 : Int32} {n5 : Nat} {f6 : Nat → Option Nat} {c7 : ClassId} {r11 : Nat} {fs13 : List Value} {r15 : Nat} {l2 : Int32} {n17 : Nat} {f18 : Nat → Int32} {l3 : Int32} {o4 : Option Value} (h2 : M.1 l0 = some (.inr (1, fs1))) (h4 : (fs1)[4]? = some (.ref r3)) (h8 : M.1 r3 = some (.inl (c7, n5, .inr (.inr (.inr (.inr f6)))))) (h9 : zRt g c7) (h10 : vp_in (l1) n5) (h12 : va_rf (f6 ((l1 : Int32).toNatClampNeg)) = .ref r11) (h14 : M.1 r11 = some (.inr (3, fs13))) (h16 : (fs13)[3]? = some (.ref r15)) (h19 : M.1 r15 = some (.inl (zA g 0, n17, .inl f18))) (h20 : vp_in (l2) n17) (kt : ¬ (f18 ((l2 : Int32).toNatClampNeg) : Int32) = (l3 : Int32) → Z g kX2_set Q d cN sN M 23 [some (.ref l0), some (.int l1), some (.int l2), some (.int l3), some (.ref r11)] []) (kf : (f18 ((l2 : Int32).toNatClampNeg) : Int32) = (l3 : Int32) → Z g kX2_set Q d cN sN M 19 [some (.ref l0), some (.int l1), some (.int l2), some (.int l3), some (.ref r11)] []) : Z g kX2_set Q d cN sN M 0 [some (.ref l0), some (.int l1), some (.int l2), some (.int l3), o4] [] := by
  refine zi_aload_n dX2_set_0 rfl zrf_r ?_
  refine zi_getfield dX2_set_1 rfl h2 h4 ?_
  refine zi_iload_n dX2_set_4 rfl ?_
  refine zi_aaload dX2_set_5 h8 h9 h10 h12 ?_
  refine zi_astore dX2_set_6 zrf_r (Nat.le_of_ble_eq_true rfl) ?_
  refine zi_aload dX2_set_8 rfl zrf_r ?_
  refine zi_getfield dX2_set_10 rfl h14 h16 ?_
  refine zi_iload_n dX2_set_13 rfl ?_
  refine zi_iaload dX2_set_14 h19 h20 ?_
  refine zi_iload_n dX2_set_15 rfl ?_
  exact zi_icmp_ne (tgt := 23) dX2_set_16 (by decide +kernel) kt kf
theorem sX2_set_19 {g : ZG} {Q : ZQ} {d cN sN : Nat} {M : ZM} {o0 o1 o2 o3 o4 : Option Value}  (kk : Z g kX2_set Q d cN sN M 24 [o0, o1, o2, o3, o4] [.int 1]) : Z g kX2_set Q d cN sN M 19 [o0, o1, o2, o3, o4] [] := by
  refine zi_iconst dX2_set_19 (by decide +kernel : Int32.ofInt (1) = (1 : Int32)) ?_
  exact zi_goto (tgt := 24) dX2_set_20 (by decide +kernel) kk
theorem sX2_set_23 {g : ZG} {Q : ZQ} {d cN sN : Nat} {M : ZM} {o0 o1 o2 o3 o4 : Option Value}  (kk : Z g kX2_set Q d cN sN M 24 [o0, o1, o2, o3, o4] [.int 0]) : Z g kX2_set Q d cN sN M 23 [o0, o1, o2, o3, o4] [] := by
  refine zi_iconst dX2_set_23 (by decide +kernel : Int32.ofInt (0) = (0 : Int32)) ?_
  exact kk
theorem sX2_set_24 {g : ZG} {Q : ZQ} {d cN sN : Nat} {M : ZM} {t0 : Int32} {l2 : Int32} {o0 o1 o3 o4 : Option Value}  (kk : Z g kX2_set Q d cN sN M 26 [o0, o1, some (.int l2), o3, o4] [.int l2, .int 2, .int t0]) : Z g kX2_set Q d cN sN M 24 [o0, o1, some (.int l2), o3, o4] [.int t0] := by
  refine zi_iconst dX2_set_24 (by decide +kernel : Int32.ofInt (2) = (2 : Int32)) ?_
  refine zi_iload_n dX2_set_25 rfl ?_
  exact kk
theorem sX2_set_29 {g : ZG} {Q : ZQ} {d cN sN : Nat} {M : ZM} {l4 : Nat} {fs1 : List Value} {r3 : Nat} {l2 : Int32} {n5 : Nat} {f6 : Nat → Int32} {l3 : Int32} {o0 o1 : Option Value} (h2 : M.1 l4 = some (.inr (3, fs1))) (h4 : (fs1)[2]? = some (.ref r3)) (h7 : M.1 r3 = some (.inl (zA g 0, n5, .inl f6))) (h8 : vp_in (l2) n5) (kt : ¬ (f6 ((l2 : Int32).toNatClampNeg) : Int32) = (l3 : Int32) → Z g kX2_set Q d cN sN M 44 [o0, o1, some (.int l2), some (.int l3), some (.ref l4)] []) (kf : (f6 ((l2 : Int32).toNatClampNeg) : Int32) = (l3 : Int32) → Z g kX2_set Q d cN sN M 40 [o0, o1, some (.int l2), some (.int l3), some (.ref l4)] []) : Z g kX2_set Q d cN sN M 29 [o0, o1, some (.int l2), some (.int l3), some (.ref l4)] [] := by
  refine zi_aload dX2_set_29 rfl zrf_r ?_
  refine zi_getfield dX2_set_31 rfl h2 h4 ?_
  refine zi_iload_n dX2_set_34 rfl ?_
  refine zi_iaload dX2_set_35 h7 h8 ?_
  refine zi_iload_n dX2_set_36 rfl ?_
  exact zi_icmp_ne (tgt := 44) dX2_set_37 (by decide +kernel) kt kf
theorem sX2_set_40 {g : ZG} {Q : ZQ} {d cN sN : Nat} {M : ZM} {o0 o1 o2 o3 o4 : Option Value}  (kk : Z g kX2_set Q d cN sN M 45 [o0, o1, o2, o3, o4] [.int 1]) : Z g kX2_set Q d cN sN M 40 [o0, o1, o2, o3, o4] [] := by
  refine zi_iconst dX2_set_40 (by decide +kernel : Int32.ofInt (1) = (1 : Int32)) ?_
  exact zi_goto (tgt := 45) dX2_set_41 (by decide +kernel) kk
theorem sX2_set_44 {g : ZG} {Q : ZQ} {d cN sN : Nat} {M : ZM} {o0 o1 o2 o3 o4 : Option Value}  (kk : Z g kX2_set Q d cN sN M 45 [o0, o1, o2, o3, o4] [.int 0]) : Z g kX2_set Q d cN sN M 44 [o0, o1, o2, o3, o4] [] := by
  refine zi_iconst dX2_set_44 (by decide +kernel : Int32.ofInt (0) = (0 : Int32)) ?_
  exact kk
theorem sX2_set_45 {g : ZG} {Q : ZQ} {d cN sN : Nat} {M : ZM} {t0 : Int32} {l2 : Int32} {o0 o1 o3 o4 : Option Value}  (kk : Z g kX2_set Q d cN sN M 47 [o0, o1, some (.int l2), o3, o4] [.int l2, .int 3, .int t0]) : Z g kX2_set Q d cN sN M 45 [o0, o1, some (.int l2), o3, o4] [.int t0] := by
  refine zi_iconst dX2_set_45 (by decide +kernel : Int32.ofInt (3) = (3 : Int32)) ?_
  refine zi_iload_n dX2_set_46 rfl ?_
  exact kk
theorem sX2_set_50 {g : ZG} {Q : ZQ} {d cN sN : Nat} {M : ZM} {l4 : Nat} {fs1 : List Value} {r3 : Nat} {l2 : Int32} {l3 : Int32} {n5 : Nat} {f6 : Nat → Int32} {fs9 : List Value} {r11 : Nat} {n13 : Nat} {f14 : Nat → Int32} {o0 o1 : Option Value} (h2 : M.1 l4 = some (.inr (3, fs1))) (h4 : (fs1)[3]? = some (.ref r3)) (h7 : M.1 r3 = some (.inl (zA g 0, n5, .inl (f6)))) (h8 : vp_in (l2) n5) (h10 : (zup M r3 (.inl (zA g 0, n5, .inl (upd f6 ((l2 : Int32).toNatClampNeg) (l3))))).1 l4 = some (.inr (3, fs9))) (h12 : (fs9)[4]? = some (.ref r11)) (h15 : (zup M r3 (.inl (zA g 0, n5, .inl (upd f6 ((l2 : Int32).toNatClampNeg) (l3))))).1 r11 = some (.inl (zA g 0, n13, .inl (f14)))) (h16 : vp_in (l2) n13) (kk : Z g kX2_set Q d cN sN (zup (zup M r3 (.inl (zA g 0, n5, .inl (upd f6 ((l2 : Int32).toNatClampNeg) (l3))))) r11 (.inl (zA g 0, n13, .inl (upd f14 ((l2 : Int32).toNatClampNeg) (1))))) 69 [o0, o1, some (.int l2), some (.int l3), some (.ref l4)] [.int 1, .ref l4]) : Z g kX2_set Q d cN sN M 50 [o0, o1, some (.int l2), some (.int l3), some (.ref l4)] [] := by
  refine zi_aload dX2_set_50 rfl zrf_r ?_
  refine zi_getfield dX2_set_52 rfl h2 h4 ?_
  refine zi_iload_n dX2_set_55 rfl ?_
  refine zi_iload_n dX2_set_56 rfl ?_
  refine zi_iastore dX2_set_57 h7 h8 ?_
  refine zi_aload dX2_set_58 rfl zrf_r ?_
  refine zi_getfield dX2_set_60 rfl h10 h12 ?_
  refine zi_iload_n dX2_set_63 rfl ?_
  refine zi_iconst dX2_set_64 (by decide +kernel : Int32.ofInt (1) = (1 : Int32)) ?_
  refine zi_iastore dX2_set_65 h15 h16 ?_
  refine zi_aload dX2_set_66 rfl zrf_r ?_
  refine zi_iconst dX2_set_68 (by decide +kernel : Int32.ofInt (1) = (1 : Int32)) ?_
  exact kk
theorem sX2_set_72 {g : ZG} {Q : ZQ} {d cN sN : Nat} {M : ZM} {t0 : Int32} {o0 o1 o2 o3 o4 : Option Value}  (kk : Q.1 (some (.int t0)) M) : Z g kX2_set Q d cN sN M 72 [o0, o1, o2, o3, o4] [.int t0] := by
  exact zi_ireturn dX2_set_72 rfl rfl kk
abbrev kX2_license : ZK := (RX2, cX2_license, 6, (Option.some Jvm.ClassFile.FieldType.int), [], false, fX2)
abbrev tX2_license (g : ZG) (args : List Value) (M : ZM) (d c s : Nat) (Q : ZQ) : Prop := Ct g yX2_license (ws_ yX2_license cX2_license 6 (Option.some Jvm.ClassFile.FieldType.int)) args M d c s Q
abbrev nX2_license : Nat := 9
theorem mX2_license : zMok yX2_license 2 6 := ⟨⟨by decide +kernel, by decide +kernel, by decide +kernel⟩, by decide⟩
theorem eX2_license {g : ZG} {Q : ZQ} {d cN sN : Nat} {M : ZM} {a0 : Nat} {x1 : Int32} {x2 : Int32} (hV : zV g) (h : Z g kX2_license Q d cN sN M 0 [some (.ref a0), some (.int x1), some (.int x2), none, none, none] []) : tX2_license g [.ref a0, .int x1, .int x2] M d cN sN Q := Ct.of (K := kX2_license) rfl (by decide +kernel) hV fokX2 rfl (fun h => by cases h) (fun v hv => by simp only [List.mem_cons, List.not_mem_nil, or_false] at hv; rcases hv with rfl | rfl | rfl <;> first | rfl | assumption) (Nat.le_of_ble_eq_true rfl) h
theorem sX2_license_0 {g : ZG} {Q : ZQ} {d cN sN : Nat} {M : ZM} {l0 : Nat} {fs1 : List Value} {r3 : Nat} {l1 : Int32} {n5 : Nat} {f6 : Nat → Option Nat} {c7 : ClassId} {r11 : Nat} {o2 o3 o4 o5 : Option Value} (h2 : M.1 l0 = some (.inr (1, fs1))) (h4 : (fs1)[4]? = some (.ref r3)) (h8 : M.1 r3 = some (.inl (c7, n5, .inr (.inr (.inr (.inr f6)))))) (h9 : zRt g c7) (h10 : vp_in (l1) n5) (h12 : va_rf (f6 ((l1 : Int32).toNatClampNeg)) = .ref r11) (kk : Z g kX2_license Q d cN sN M 9 [some (.ref l0), some (.int l1), o2, some (.ref r11), o4, o5] [.int l1, .ref l0]) : Z g kX2_license Q d cN sN M 0 [some (.ref l0), some (.int l1), o2, o3, o4, o5] [] := by
  refine zi_aload_n dX2_license_0 rfl zrf_r ?_
  refine zi_getfield dX2_license_1 rfl h2 h4 ?_
  refine zi_iload_n dX2_license_4 rfl ?_
  refine zi_aaload dX2_license_5 h8 h9 h10 h12 ?_
  refine zi_astore_n dX2_license_6 zrf_r (Nat.le_of_ble_eq_true rfl) ?_
  refine zi_aload_n dX2_license_7 rfl zrf_r ?_
  refine zi_iload_n dX2_license_8 rfl ?_
  exact kk
theorem sX2_license_12 {g : ZG} {Q : ZQ} {d cN sN : Nat} {M : ZM} {t0 : Nat} {l0 : Nat} {l3 : Nat} {fs1 : List Value} {y3 : Int32} {o1 o2 o4 o5 : Option Value} (h2 : M.1 l3 = some (.inr (3, fs1))) (h4 : (fs1)[0]? = some (.int y3)) (kk : Z g kX2_license Q d cN sN M 19 [some (.ref l0), o1, o2, some (.ref l3), some (.ref t0), o5] [.int y3, .ref l0]) : Z g kX2_license Q d cN sN M 12 [some (.ref l0), o1, o2, some (.ref l3), o4, o5] [.ref t0] := by
  refine zi_astore dX2_license_12 zrf_r (Nat.le_of_ble_eq_true rfl) ?_
  refine zi_aload_n dX2_license_14 rfl zrf_r ?_
  refine zi_aload_n dX2_license_15 rfl zrf_r ?_
  refine zi_getfield dX2_license_16 rfl h2 h4 ?_
  exact kk
theorem sX2_license_22 {g : ZG} {Q : ZQ} {d cN sN : Nat} {M : ZM} {t0 : Int32} {l3 : Nat} {fs1 : List Value} {r3 : Nat} {l2 : Int32} {n5 : Nat} {f6 : Nat → Int32} {o0 o1 o4 o5 : Option Value} (h2 : M.1 l3 = some (.inr (3, fs1))) (h4 : (fs1)[4]? = some (.ref r3)) (h7 : M.1 r3 = some (.inl (zA g 0, n5, .inl f6))) (h8 : vp_in (l2) n5) (kt : ¬ (f6 ((l2 : Int32).toNatClampNeg) : Int32) = 0 → Z g kX2_license Q d cN sN M 37 [o0, o1, some (.int l2), some (.ref l3), o4, some (.int t0)] []) (kf : (f6 ((l2 : Int32).toNatClampNeg) : Int32) = 0 → Z g kX2_license Q d cN sN M 33 [o0, o1, some (.int l2), some (.ref l3), o4, some (.int t0)] []) : Z g kX2_license Q d cN sN M 22 [o0, o1, some (.int l2), some (.ref l3), o4, o5] [.int t0] := by
  refine zi_istore dX2_license_22 (Nat.le_of_ble_eq_true rfl) ?_
  refine zi_aload_n dX2_license_24 rfl zrf_r ?_
  refine zi_getfield dX2_license_25 rfl h2 h4 ?_
  refine zi_iload_n dX2_license_28 rfl ?_
  refine zi_iaload dX2_license_29 h7 h8 ?_
  exact zi_if_ne (tgt := 37) dX2_license_30 (by decide +kernel) kt kf
theorem sX2_license_33 {g : ZG} {Q : ZQ} {d cN sN : Nat} {M : ZM} {o0 o1 o2 o3 o4 o5 : Option Value}  (kk : Z g kX2_license Q d cN sN M 38 [o0, o1, o2, o3, o4, o5] [.int 1]) : Z g kX2_license Q d cN sN M 33 [o0, o1, o2, o3, o4, o5] [] := by
  refine zi_iconst dX2_license_33 (by decide +kernel : Int32.ofInt (1) = (1 : Int32)) ?_
  exact zi_goto (tgt := 38) dX2_license_34 (by decide +kernel) kk
theorem sX2_license_37 {g : ZG} {Q : ZQ} {d cN sN : Nat} {M : ZM} {o0 o1 o2 o3 o4 o5 : Option Value}  (kk : Z g kX2_license Q d cN sN M 38 [o0, o1, o2, o3, o4, o5] [.int 0]) : Z g kX2_license Q d cN sN M 37 [o0, o1, o2, o3, o4, o5] [] := by
  refine zi_iconst dX2_license_37 (by decide +kernel : Int32.ofInt (0) = (0 : Int32)) ?_
  exact kk
theorem sX2_license_38 {g : ZG} {Q : ZQ} {d cN sN : Nat} {M : ZM} {t0 : Int32} {l2 : Int32} {o0 o1 o3 o4 o5 : Option Value}  (kk : Z g kX2_license Q d cN sN M 40 [o0, o1, some (.int l2), o3, o4, o5] [.int l2, .int 4, .int t0]) : Z g kX2_license Q d cN sN M 38 [o0, o1, some (.int l2), o3, o4, o5] [.int t0] := by
  refine zi_iconst dX2_license_38 (by decide +kernel : Int32.ofInt (4) = (4 : Int32)) ?_
  refine zi_iload_n dX2_license_39 rfl ?_
  exact kk
theorem sX2_license_43 {g : ZG} {Q : ZQ} {d cN sN : Nat} {M : ZM} {l3 : Nat} {fs1 : List Value} {r3 : Nat} {l2 : Int32} {n5 : Nat} {f6 : Nat → Int32} {o0 o1 o4 o5 : Option Value} (h2 : M.1 l3 = some (.inr (3, fs1))) (h4 : (fs1)[4]? = some (.ref r3)) (h7 : M.1 r3 = some (.inl (zA g 0, n5, .inl f6))) (h8 : vp_in (l2) n5) (kt : (f6 ((l2 : Int32).toNatClampNeg) : Int32) < (2 : Int32) → Z g kX2_license Q d cN sN M 57 [o0, o1, some (.int l2), some (.ref l3), o4, o5] []) (kf : ¬ (f6 ((l2 : Int32).toNatClampNeg) : Int32) < (2 : Int32) → Z g kX2_license Q d cN sN M 53 [o0, o1, some (.int l2), some (.ref l3), o4, o5] []) : Z g kX2_license Q d cN sN M 43 [o0, o1, some (.int l2), some (.ref l3), o4, o5] [] := by
  refine zi_aload_n dX2_license_43 rfl zrf_r ?_
  refine zi_getfield dX2_license_44 rfl h2 h4 ?_
  refine zi_iload_n dX2_license_47 rfl ?_
  refine zi_iaload dX2_license_48 h7 h8 ?_
  refine zi_iconst dX2_license_49 (by decide +kernel : Int32.ofInt (2) = (2 : Int32)) ?_
  exact zi_icmp_lt (tgt := 57) dX2_license_50 (by decide +kernel) kt kf
theorem sX2_license_53 {g : ZG} {Q : ZQ} {d cN sN : Nat} {M : ZM} {o0 o1 o2 o3 o4 o5 : Option Value}  (kk : Z g kX2_license Q d cN sN M 58 [o0, o1, o2, o3, o4, o5] [.int 1]) : Z g kX2_license Q d cN sN M 53 [o0, o1, o2, o3, o4, o5] [] := by
  refine zi_iconst dX2_license_53 (by decide +kernel : Int32.ofInt (1) = (1 : Int32)) ?_
  exact zi_goto (tgt := 58) dX2_license_54 (by decide +kernel) kk
theorem sX2_license_57 {g : ZG} {Q : ZQ} {d cN sN : Nat} {M : ZM} {o0 o1 o2 o3 o4 o5 : Option Value}  (kk : Z g kX2_license Q d cN sN M 58 [o0, o1, o2, o3, o4, o5] [.int 0]) : Z g kX2_license Q d cN sN M 57 [o0, o1, o2, o3, o4, o5] [] := by
  refine zi_iconst dX2_license_57 (by decide +kernel : Int32.ofInt (0) = (0 : Int32)) ?_
  exact kk
theorem sX2_license_58 {g : ZG} {Q : ZQ} {d cN sN : Nat} {M : ZM} {t0 : Int32} {l2 : Int32} {o0 o1 o3 o4 o5 : Option Value}  (kk : Z g kX2_license Q d cN sN M 60 [o0, o1, some (.int l2), o3, o4, o5] [.int l2, .int 5, .int t0]) : Z g kX2_license Q d cN sN M 58 [o0, o1, some (.int l2), o3, o4, o5] [.int t0] := by
  refine zi_iconst dX2_license_58 (by decide +kernel : Int32.ofInt (5) = (5 : Int32)) ?_
  refine zi_iload_n dX2_license_59 rfl ?_
  exact kk
theorem sX2_license_63 {g : ZG} {Q : ZQ} {d cN sN : Nat} {M : ZM} {l4 : Nat} {o0 o1 o2 o3 o5 : Option Value}  (kk : Z g kX2_license Q d cN sN M 65 [o0, o1, o2, o3, some (.ref l4), o5] [.ref l4]) : Z g kX2_license Q d cN sN M 63 [o0, o1, o2, o3, some (.ref l4), o5] [] := by
  refine zi_aload dX2_license_63 rfl zrf_r ?_
  exact kk
theorem sX2_license_68 {g : ZG} {Q : ZQ} {d cN sN : Nat} {M : ZM} {t0 : Int32} {l4 : Nat} {fs1 : List Value} {y3 : Int32} {o0 o1 o2 o3 o5 : Option Value} (h2 : M.1 l4 = some (.inr (2, fs1))) (h4 : (fs1)[1]? = some (.int y3)) (kk : Z g kX2_license Q d cN sN M 75 [o0, o1, o2, o3, some (.ref l4), o5] [.int y3, .int 6, .int t0]) : Z g kX2_license Q d cN sN M 68 [o0, o1, o2, o3, some (.ref l4), o5] [.int t0] := by
  refine zi_bipush dX2_license_68 (by decide +kernel : (Int8.ofInt (6)).toInt32 = (6 : Int32)) ?_
  refine zi_aload dX2_license_70 rfl zrf_r ?_
  refine zi_getfield dX2_license_72 rfl h2 h4 ?_
  exact kk
theorem sX2_license_78 {g : ZG} {Q : ZQ} {d cN sN : Nat} {M : ZM} {l4 : Nat} {fs1 : List Value} {y3 : Int32} {l5 : Int32} {o0 o1 o2 o3 : Option Value} (h2 : M.1 l4 = some (.inr (2, fs1))) (h4 : (fs1)[0]? = some (.int y3)) (kt : (l5 : Int32) ≤ (y3 : Int32) → Z g kX2_license Q d cN sN M 92 [o0, o1, o2, o3, some (.ref l4), some (.int l5)] []) (kf : ¬ (l5 : Int32) ≤ (y3 : Int32) → Z g kX2_license Q d cN sN M 88 [o0, o1, o2, o3, some (.ref l4), some (.int l5)] []) : Z g kX2_license Q d cN sN M 78 [o0, o1, o2, o3, some (.ref l4), some (.int l5)] [] := by
  refine zi_aload dX2_license_78 rfl zrf_r ?_
  refine zi_getfield dX2_license_80 rfl h2 h4 ?_
  refine zi_iload dX2_license_83 rfl ?_
  exact zi_icmp_ge (tgt := 92) dX2_license_85 (by decide +kernel) kt kf
theorem sX2_license_88 {g : ZG} {Q : ZQ} {d cN sN : Nat} {M : ZM} {o0 o1 o2 o3 o4 o5 : Option Value}  (kk : Z g kX2_license Q d cN sN M 93 [o0, o1, o2, o3, o4, o5] [.int 1]) : Z g kX2_license Q d cN sN M 88 [o0, o1, o2, o3, o4, o5] [] := by
  refine zi_iconst dX2_license_88 (by decide +kernel : Int32.ofInt (1) = (1 : Int32)) ?_
  exact zi_goto (tgt := 93) dX2_license_89 (by decide +kernel) kk
theorem sX2_license_92 {g : ZG} {Q : ZQ} {d cN sN : Nat} {M : ZM} {o0 o1 o2 o3 o4 o5 : Option Value}  (kk : Z g kX2_license Q d cN sN M 93 [o0, o1, o2, o3, o4, o5] [.int 0]) : Z g kX2_license Q d cN sN M 92 [o0, o1, o2, o3, o4, o5] [] := by
  refine zi_iconst dX2_license_92 (by decide +kernel : Int32.ofInt (0) = (0 : Int32)) ?_
  exact kk
theorem sX2_license_93 {g : ZG} {Q : ZQ} {d cN sN : Nat} {M : ZM} {t0 : Int32} {l4 : Nat} {fs1 : List Value} {y3 : Int32} {o0 o1 o2 o3 o5 : Option Value} (h2 : M.1 l4 = some (.inr (2, fs1))) (h4 : (fs1)[0]? = some (.int y3)) (kk : Z g kX2_license Q d cN sN M 100 [o0, o1, o2, o3, some (.ref l4), o5] [.int y3, .int 7, .int t0]) : Z g kX2_license Q d cN sN M 93 [o0, o1, o2, o3, some (.ref l4), o5] [.int t0] := by
  refine zi_bipush dX2_license_93 (by decide +kernel : (Int8.ofInt (7)).toInt32 = (7 : Int32)) ?_
  refine zi_aload dX2_license_95 rfl zrf_r ?_
  refine zi_getfield dX2_license_97 rfl h2 h4 ?_
  exact kk
theorem sX2_license_103 {g : ZG} {Q : ZQ} {d cN sN : Nat} {M : ZM} {l4 : Nat} {fs1 : List Value} {y3 : Int32} {l5 : Int32} {l0 : Nat} {fs6 : List Value} {y8 : Int32} {l3 : Nat} {fs11 : List Value} {r13 : Nat} {l2 : Int32} {n15 : Nat} {f16 : Nat → Int32} {o1 : Option Value} (h2 : M.1 l4 = some (.inr (2, fs1))) (h4 : (fs1)[0]? = some (.int y3)) (h5 : 0 < (fs1).length) (h7 : (zup M l4 (.inr (2, (fs1).set 0 (.int (y3 - l5))))).1 l0 = some (.inr (1, fs6))) (h9 : (fs6)[13]? = some (.int y8)) (h10 : 13 < (fs6).length) (h12 : (zup (zup M l4 (.inr (2, (fs1).set 0 (.int (y3 - l5))))) l0 (.inr (1, (fs6).set 13 (.int (y8 + l5))))).1 l3 = some (.inr (3, fs11))) (h14 : (fs11)[4]? = some (.ref r13)) (h17 : (zup (zup M l4 (.inr (2, (fs1).set 0 (.int (y3 - l5))))) l0 (.inr (1, (fs6).set 13 (.int (y8 + l5))))).1 r13 = some (.inl (zA g 0, n15, .inl (f16)))) (h18 : vp_in (l2) n15) (kk : Q.1 (some (.int l5)) (zup (zup (zup M l4 (.inr (2, (fs1).set 0 (.int (y3 - l5))))) l0 (.inr (1, (fs6).set 13 (.int (y8 + l5))))) r13 (.inl (zA g 0, n15, .inl (upd f16 ((l2 : Int32).toNatClampNeg) (2)))))) : Z g kX2_license Q d cN sN M 103 [some (.ref l0), o1, some (.int l2), some (.ref l3), some (.ref l4), some (.int l5)] [] := by
  refine zi_aload dX2_license_103 rfl zrf_r ?_
  refine zi_dup dX2_license_105 rfl ?_
  refine zi_getfield dX2_license_106 rfl h2 h4 ?_
  refine zi_iload dX2_license_109 rfl ?_
  refine zi_isub dX2_license_111 ?_
  refine zi_putfield dX2_license_112 rfl h2 h5 zfit_i (Or.inl rfl) ?_
  refine zi_aload_n dX2_license_115 rfl zrf_r ?_
  refine zi_dup dX2_license_116 rfl ?_
  refine zi_getfield dX2_license_117 rfl h7 h9 ?_
  refine zi_iload dX2_license_120 rfl ?_
  refine zi_iadd dX2_license_122 ?_
  refine zi_putfield dX2_license_123 rfl h7 h10 zfit_i (Or.inl rfl) ?_
  refine zi_aload_n dX2_license_126 rfl zrf_r ?_
  refine zi_getfield dX2_license_127 rfl h12 h14 ?_
  refine zi_iload_n dX2_license_130 rfl ?_
  refine zi_iconst dX2_license_131 (by decide +kernel : Int32.ofInt (2) = (2 : Int32)) ?_
  refine zi_iastore dX2_license_132 h17 h18 ?_
  refine zi_iload dX2_license_133 rfl ?_
  exact zi_ireturn dX2_license_135 rfl rfl kk
abbrev kX2_price : ZK := (RX2, cX2_price, 2, (Option.some Jvm.ClassFile.FieldType.int), [], false, fX2)
abbrev tX2_price (g : ZG) (args : List Value) (M : ZM) (d c s : Nat) (Q : ZQ) : Prop := Ct g yX2_price (ws_ yX2_price cX2_price 2 (Option.some Jvm.ClassFile.FieldType.int)) args M d c s Q
abbrev nX2_price : Nat := 3
theorem mX2_price : zMok yX2_price 1 2 := ⟨⟨by decide +kernel, by decide +kernel, by decide +kernel⟩, by decide⟩
theorem eX2_price {g : ZG} {Q : ZQ} {d cN sN : Nat} {M : ZM} {a0 : Nat} {x1 : Int32} (hV : zV g) (h : Z g kX2_price Q d cN sN M 0 [some (.ref a0), some (.int x1)] []) : tX2_price g [.ref a0, .int x1] M d cN sN Q := Ct.of (K := kX2_price) rfl (by decide +kernel) hV fokX2 rfl (fun h => by cases h) (fun v hv => by simp only [List.mem_cons, List.not_mem_nil, or_false] at hv; rcases hv with rfl | rfl <;> first | rfl | assumption) (Nat.le_of_ble_eq_true rfl) h
theorem sX2_price_0 {g : ZG} {Q : ZQ} {d cN sN : Nat} {M : ZM} {l0 : Nat} {l1 : Int32}  (kk : Z g kX2_price Q d cN sN M 3 [some (.ref l0), some (.int l1)] [.int l1, .ref l0, .int 2]) : Z g kX2_price Q d cN sN M 0 [some (.ref l0), some (.int l1)] [] := by
  refine zi_iconst dX2_price_0 (by decide +kernel : Int32.ofInt (2) = (2 : Int32)) ?_
  refine zi_aload_n dX2_price_1 rfl zrf_r ?_
  refine zi_iload_n dX2_price_2 rfl ?_
  exact kk
theorem sX2_price_6 {g : ZG} {Q : ZQ} {d cN sN : Nat} {M : ZM} {t0 : Int32} {t1 : Int32} {o0 o1 : Option Value}  (kk : Q.1 (some (.int (t0 + t1))) M) : Z g kX2_price Q d cN sN M 6 [o0, o1] [.int t1, .int t0] := by
  refine zi_iadd dX2_price_6 ?_
  exact zi_ireturn dX2_price_7 rfl rfl kk
abbrev kX2_licensed : ZK := (RX2, cX2_licensed, 4, (Option.some Jvm.ClassFile.FieldType.int), [], false, fX2)
abbrev tX2_licensed (g : ZG) (args : List Value) (M : ZM) (d c s : Nat) (Q : ZQ) : Prop := Ct g yX2_licensed (ws_ yX2_licensed cX2_licensed 4 (Option.some Jvm.ClassFile.FieldType.int)) args M d c s Q
abbrev nX2_licensed : Nat := 2
theorem mX2_licensed : zMok yX2_licensed 1 4 := ⟨⟨by decide +kernel, by decide +kernel, by decide +kernel⟩, by decide⟩
theorem eX2_licensed {g : ZG} {Q : ZQ} {d cN sN : Nat} {M : ZM} {a0 : Nat} {x1 : Int32} (hV : zV g) (h : Z g kX2_licensed Q d cN sN M 0 [some (.ref a0), some (.int x1), none, none] []) : tX2_licensed g [.ref a0, .int x1] M d cN sN Q := Ct.of (K := kX2_licensed) rfl (by decide +kernel) hV fokX2 rfl (fun h => by cases h) (fun v hv => by simp only [List.mem_cons, List.not_mem_nil, or_false] at hv; rcases hv with rfl | rfl <;> first | rfl | assumption) (Nat.le_of_ble_eq_true rfl) h
theorem sX2_licensed_0 {g : ZG} {Q : ZQ} {d cN sN : Nat} {M : ZM} {o0 o1 o2 o3 : Option Value}  (kk : Z g kX2_licensed Q d cN sN M 4 [o0, o1, some (.int 0), some (.int 0)] []) : Z g kX2_licensed Q d cN sN M 0 [o0, o1, o2, o3] [] := by
  refine zi_iconst dX2_licensed_0 (by decide +kernel : Int32.ofInt (0) = (0 : Int32)) ?_
  refine zi_istore_n dX2_licensed_1 (Nat.le_of_ble_eq_true rfl) ?_
  refine zi_iconst dX2_licensed_2 (by decide +kernel : Int32.ofInt (0) = (0 : Int32)) ?_
  refine zi_istore_n dX2_licensed_3 (Nat.le_of_ble_eq_true rfl) ?_
  exact kk
theorem sX2_licensed_4 {g : ZG} {Q : ZQ} {d cN sN : Nat} {M : ZM} {l3 : Int32} {l0 : Nat} {fs1 : List Value} {y3 : Int32} {o1 o2 : Option Value} (h2 : M.1 l0 = some (.inr (1, fs1))) (h4 : (fs1)[3]? = some (.int y3)) (kt : (y3 : Int32) ≤ (l3 : Int32) → Z g kX2_licensed Q d cN sN M 48 [some (.ref l0), o1, o2, some (.int l3)] []) (kf : ¬ (y3 : Int32) ≤ (l3 : Int32) → Z g kX2_licensed Q d cN sN M 12 [some (.ref l0), o1, o2, some (.int l3)] []) : Z g kX2_licensed Q d cN sN M 4 [some (.ref l0), o1, o2, some (.int l3)] [] := by
  refine zi_iload_n dX2_licensed_4 rfl ?_
  refine zi_aload_n dX2_licensed_5 rfl zrf_r ?_
  refine zi_getfield dX2_licensed_6 rfl h2 h4 ?_
  exact zi_icmp_ge (tgt := 48) dX2_licensed_9 (by decide +kernel) kt kf
theorem sX2_licensed_12 {g : ZG} {Q : ZQ} {d cN sN : Nat} {M : ZM} {l2 : Int32} {l0 : Nat} {fs1 : List Value} {r3 : Nat} {l3 : Int32} {n5 : Nat} {f6 : Nat → Option Nat} {c7 : ClassId} {r11 : Nat} {fs13 : List Value} {y15 : Int32} {l1 : Int32} (h2 : M.1 l0 = some (.inr (1, fs1))) (h4 : (fs1)[4]? = some (.ref r3)) (h8 : M.1 r3 = some (.inl (c7, n5, .inr (.inr (.inr (.inr f6)))))) (h9 : zRt g c7) (h10 : vp_in (l3) n5) (h12 : va_rf (f6 ((l3 : Int32).toNatClampNeg)) = .ref r11) (h14 : M.1 r11 = some (.inr (3, fs13))) (h16 : (fs13)[0]? = some (.int y15)) (kt : ¬ (y15 : Int32) = (l1 : Int32) → Z g kX2_licensed Q d cN sN M 39 [some (.ref l0), some (.int l1), some (.int l2), some (.int l3)] [.int l2]) (kf : (y15 : Int32) = (l1 : Int32) → Z g kX2_licensed Q d cN sN M 26 [some (.ref l0), some (.int l1), some (.int l2), some (.int l3)] [.int l2]) : Z g kX2_licensed Q d cN sN M 12 [some (.ref l0), some (.int l1), some (.int l2), some (.int l3)] [] := by
  refine zi_iload_n dX2_licensed_12 rfl ?_
  refine zi_aload_n dX2_licensed_13 rfl zrf_r ?_
  refine zi_getfield dX2_licensed_14 rfl h2 h4 ?_
  refine zi_iload_n dX2_licensed_17 rfl ?_
  refine zi_aaload dX2_licensed_18 h8 h9 h10 h12 ?_
  refine zi_getfield dX2_licensed_19 rfl h14 h16 ?_
  refine zi_iload_n dX2_licensed_22 rfl ?_
  exact zi_icmp_ne (tgt := 39) dX2_licensed_23 (by decide +kernel) kt kf
theorem sX2_licensed_26 {g : ZG} {Q : ZQ} {d cN sN : Nat} {M : ZM} {t0 : Int32} {l0 : Nat} {fs1 : List Value} {r3 : Nat} {l3 : Int32} {n5 : Nat} {f6 : Nat → Option Nat} {c7 : ClassId} {r11 : Nat} {o1 o2 : Option Value} (h2 : M.1 l0 = some (.inr (1, fs1))) (h4 : (fs1)[4]? = some (.ref r3)) (h8 : M.1 r3 = some (.inl (c7, n5, .inr (.inr (.inr (.inr f6)))))) (h9 : zRt g c7) (h10 : vp_in (l3) n5) (h12 : va_rf (f6 ((l3 : Int32).toNatClampNeg)) = .ref r11) (kk : Z g kX2_licensed Q d cN sN M 33 [some (.ref l0), o1, o2, some (.int l3)] [.int 2, .ref r11, .int t0]) : Z g kX2_licensed Q d cN sN M 26 [some (.ref l0), o1, o2, some (.int l3)] [.int t0] := by
  refine zi_aload_n dX2_licensed_26 rfl zrf_r ?_
  refine zi_getfield dX2_licensed_27 rfl h2 h4 ?_
  refine zi_iload_n dX2_licensed_30 rfl ?_
  refine zi_aaload dX2_licensed_31 h8 h9 h10 h12 ?_
  refine zi_iconst dX2_licensed_32 (by decide +kernel : Int32.ofInt (2) = (2 : Int32)) ?_
  exact kk
theorem sX2_licensed_36 {g : ZG} {Q : ZQ} {d cN sN : Nat} {M : ZM} {t0 : Int32} {t1 : Int32} {o0 o1 o2 o3 : Option Value}  (kk : Z g kX2_licensed Q d cN sN M 40 [o0, o1, o2, o3] [.int t1, .int t0]) : Z g kX2_licensed Q d cN sN M 36 [o0, o1, o2, o3] [.int t1, .int t0] := by
  exact zi_goto (tgt := 40) dX2_licensed_36 (by decide +kernel) kk
theorem sX2_licensed_39 {g : ZG} {Q : ZQ} {d cN sN : Nat} {M : ZM} {t0 : Int32} {o0 o1 o2 o3 : Option Value}  (kk : Z g kX2_licensed Q d cN sN M 40 [o0, o1, o2, o3] [.int 0, .int t0]) : Z g kX2_licensed Q d cN sN M 39 [o0, o1, o2, o3] [.int t0] := by
  refine zi_iconst dX2_licensed_39 (by decide +kernel : Int32.ofInt (0) = (0 : Int32)) ?_
  exact kk
theorem sX2_licensed_40 {g : ZG} {Q : ZQ} {d cN sN : Nat} {M : ZM} {t0 : Int32} {t1 : Int32} {l3 : Int32} {o0 o1 o2 : Option Value}  (kk : Z g kX2_licensed Q d cN sN M 4 [o0, o1, some (.int (t0 + t1)), some (.int (l3 + 1))] []) : Z g kX2_licensed Q d cN sN M 40 [o0, o1, o2, some (.int l3)] [.int t1, .int t0] := by
  refine zi_iadd dX2_licensed_40 ?_
  refine zi_istore_n dX2_licensed_41 (Nat.le_of_ble_eq_true rfl) ?_
  refine zi_iinc dX2_licensed_42 rfl (by decide +kernel : Int32.ofInt (1) = 1) (Nat.le_of_ble_eq_true rfl) ?_
  exact zi_goto (tgt := 4) dX2_licensed_45 (by decide +kernel) kk
theorem sX2_licensed_48 {g : ZG} {Q : ZQ} {d cN sN : Nat} {M : ZM} {l2 : Int32} {o0 o1 o3 : Option Value}  (kk : Q.1 (some (.int l2)) M) : Z g kX2_licensed Q d cN sN M 48 [o0, o1, some (.int l2), o3] [] := by
  refine zi_iload_n dX2_licensed_48 rfl ?_
  exact zi_ireturn dX2_licensed_49 rfl rfl kk
abbrev kX2_reader : ZK := (RX2, cX2_reader, 3, (Option.some Jvm.ClassFile.FieldType.int), [], false, fX2)
abbrev tX2_reader (g : ZG) (args : List Value) (M : ZM) (d c s : Nat) (Q : ZQ) : Prop := Ct g yX2_reader (ws_ yX2_reader cX2_reader 3 (Option.some Jvm.ClassFile.FieldType.int)) args M d c s Q
abbrev nX2_reader : Nat := 9
theorem mX2_reader : zMok yX2_reader 2 3 := ⟨⟨by decide +kernel, by decide +kernel, by decide +kernel⟩, by decide⟩
theorem eX2_reader {g : ZG} {Q : ZQ} {d cN sN : Nat} {M : ZM} {a0 : Nat} {x1 : Int32} {x2 : Int32} (hV : zV g) (h : Z g kX2_reader Q d cN sN M 0 [some (.ref a0), some (.int x1), some (.int x2)] []) : tX2_reader g [.ref a0, .int x1, .int x2] M d cN sN Q := Ct.of (K := kX2_reader) rfl (by decide +kernel) hV fokX2 rfl (fun h => by cases h) (fun v hv => by simp only [List.mem_cons, List.not_mem_nil, or_false] at hv; rcases hv with rfl | rfl | rfl <;> first | rfl | assumption) (Nat.le_of_ble_eq_true rfl) h
theorem sX2_reader_0 {g : ZG} {Q : ZQ} {d cN sN : Nat} {M : ZM} {l0 : Nat} {fs1 : List Value} {y3 : Int32} {o1 o2 : Option Value} (h2 : M.1 l0 = some (.inr (1, fs1))) (h4 : (fs1)[5]? = some (.int y3)) (kt : ¬ (y3 : Int32) = (5 : Int32) → Z g kX2_reader Q d cN sN M 12 [some (.ref l0), o1, o2] []) (kf : (y3 : Int32) = (5 : Int32) → Z g kX2_reader Q d cN sN M 8 [some (.ref l0), o1, o2] []) : Z g kX2_reader Q d cN sN M 0 [some (.ref l0), o1, o2] [] := by
  refine zi_aload_n dX2_reader_0 rfl zrf_r ?_
  refine zi_getfield dX2_reader_1 rfl h2 h4 ?_
  refine zi_iconst dX2_reader_4 (by decide +kernel : Int32.ofInt (5) = (5 : Int32)) ?_
  exact zi_icmp_ne (tgt := 12) dX2_reader_5 (by decide +kernel) kt kf
theorem sX2_reader_8 {g : ZG} {Q : ZQ} {d cN sN : Nat} {M : ZM} {o0 o1 o2 : Option Value}  (kk : Z g kX2_reader Q d cN sN M 13 [o0, o1, o2] [.int 1]) : Z g kX2_reader Q d cN sN M 8 [o0, o1, o2] [] := by
  refine zi_iconst dX2_reader_8 (by decide +kernel : Int32.ofInt (1) = (1 : Int32)) ?_
  exact zi_goto (tgt := 13) dX2_reader_9 (by decide +kernel) kk
theorem sX2_reader_12 {g : ZG} {Q : ZQ} {d cN sN : Nat} {M : ZM} {o0 o1 o2 : Option Value}  (kk : Z g kX2_reader Q d cN sN M 13 [o0, o1, o2] [.int 0]) : Z g kX2_reader Q d cN sN M 12 [o0, o1, o2] [] := by
  refine zi_iconst dX2_reader_12 (by decide +kernel : Int32.ofInt (0) = (0 : Int32)) ?_
  exact kk
theorem sX2_reader_13 {g : ZG} {Q : ZQ} {d cN sN : Nat} {M : ZM} {t0 : Int32} {o0 o1 o2 : Option Value}  (kk : Z g kX2_reader Q d cN sN M 15 [o0, o1, o2] [.int 5, .int 1, .int t0]) : Z g kX2_reader Q d cN sN M 13 [o0, o1, o2] [.int t0] := by
  refine zi_iconst dX2_reader_13 (by decide +kernel : Int32.ofInt (1) = (1 : Int32)) ?_
  refine zi_iconst dX2_reader_14 (by decide +kernel : Int32.ofInt (5) = (5 : Int32)) ?_
  exact kk
theorem sX2_reader_18 {g : ZG} {Q : ZQ} {d cN sN : Nat} {M : ZM} {l0 : Nat} {fs1 : List Value} {r3 : Nat} {y5 : Int32} {l1 : Int32} {n7 : Nat} {f8 : Nat → Int32} {fs11 : List Value} {r13 : Nat} {y15 : Int32} {l2 : Int32} {n17 : Nat} {f18 : Nat → Int32} {fs21 : List Value} {r23 : Nat} {y25 : Int32} (h2 : M.1 l0 = some (.inr (1, fs1))) (h4 : (fs1)[6]? = some (.ref r3)) (h6 : (fs1)[5]? = some (.int y5)) (h9 : M.1 r3 = some (.inl (zA g 0, n7, .inl (f8)))) (h10 : vp_in (y5) n7) (h12 : (zup M r3 (.inl (zA g 0, n7, .inl (upd f8 ((y5 : Int32).toNatClampNeg) (l1))))).1 l0 = some (.inr (1, fs11))) (h14 : (fs11)[7]? = some (.ref r13)) (h16 : (fs11)[5]? = some (.int y15)) (h19 : (zup M r3 (.inl (zA g 0, n7, .inl (upd f8 ((y5 : Int32).toNatClampNeg) (l1))))).1 r13 = some (.inl (zA g 0, n17, .inl (f18)))) (h20 : vp_in (y15) n17) (h22 : (zup (zup M r3 (.inl (zA g 0, n7, .inl (upd f8 ((y5 : Int32).toNatClampNeg) (l1))))) r13 (.inl (zA g 0, n17, .inl (upd f18 ((y15 : Int32).toNatClampNeg) (l2))))).1 l0 = some (.inr (1, fs21))) (h24 : (fs21)[8]? = some (.ref r23)) (h26 : (fs21)[5]? = some (.int y25)) (kk : Z g kX2_reader Q d cN sN (zup (zup M r3 (.inl (zA g 0, n7, .inl (upd f8 ((y5 : Int32).toNatClampNeg) (l1))))) r13 (.inl (zA g 0, n17, .inl (upd f18 ((y15 : Int32).toNatClampNeg) (l2))))) 48 [some (.ref l0), some (.int l1), some (.int l2)] [.int l2, .int l1, .int y25, .ref r23]) : Z g kX2_reader Q d cN sN M 18 [some (.ref l0), some (.int l1), some (.int l2)] [] := by
  refine zi_aload_n dX2_reader_18 rfl zrf_r ?_
  refine zi_getfield dX2_reader_19 rfl h2 h4 ?_
  refine zi_aload_n dX2_reader_22 rfl zrf_r ?_
  refine zi_getfield dX2_reader_23 rfl h2 h6 ?_
  refine zi_iload_n dX2_reader_26 rfl ?_
  refine zi_iastore dX2_reader_27 h9 h10 ?_
  refine zi_aload_n dX2_reader_28 rfl zrf_r ?_
  refine zi_getfield dX2_reader_29 rfl h12 h14 ?_
  refine zi_aload_n dX2_reader_32 rfl zrf_r ?_
  refine zi_getfield dX2_reader_33 rfl h12 h16 ?_
  refine zi_iload_n dX2_reader_36 rfl ?_
  refine zi_iastore dX2_reader_37 h19 h20 ?_
  refine zi_aload_n dX2_reader_38 rfl zrf_r ?_
  refine zi_getfield dX2_reader_39 rfl h22 h24 ?_
  refine zi_aload_n dX2_reader_42 rfl zrf_r ?_
  refine zi_getfield dX2_reader_43 rfl h22 h26 ?_
  refine zi_iload_n dX2_reader_46 rfl ?_
  refine zi_iload_n dX2_reader_47 rfl ?_
  exact kk
theorem sX2_reader_52 {g : ZG} {Q : ZQ} {d cN sN : Nat} {M : ZM} {l0 : Nat} {fs1 : List Value} {y3 : Int32} {y6 : Int32} {o1 o2 : Option Value} (h2 : M.1 l0 = some (.inr (1, fs1))) (h4 : (fs1)[5]? = some (.int y3)) (h5 : 5 < (fs1).length) (h7 : (((fs1).set 5 (.int (y3 + 1))))[5]? = some (.int y6)) (kk : Q.1 (some (.int (y6 - 1))) (zup M l0 (.inr (1, (fs1).set 5 (.int (y3 + 1)))))) : Z g kX2_reader Q d cN sN M 52 [some (.ref l0), o1, o2] [] := by
  refine zi_aload_n dX2_reader_52 rfl zrf_r ?_
  refine zi_dup dX2_reader_53 rfl ?_
  refine zi_getfield dX2_reader_54 rfl h2 h4 ?_
  refine zi_iconst dX2_reader_57 (by decide +kernel : Int32.ofInt (1) = (1 : Int32)) ?_
  refine zi_iadd dX2_reader_58 ?_
  refine zi_putfield dX2_reader_59 rfl h2 h5 zfit_i (Or.inl rfl) ?_
  refine zi_aload_n dX2_reader_62 rfl zrf_r ?_
  refine zi_getfield dX2_reader_63 rfl (zup_self _ _ _) h7 ?_
  refine zi_iconst dX2_reader_66 (by decide +kernel : Int32.ofInt (1) = (1 : Int32)) ?_
  refine zi_isub dX2_reader_67 ?_
  exact zi_ireturn dX2_reader_68 rfl rfl kk
abbrev kX2_edition : ZK := (RX2, cX2_edition, 4, (Option.some Jvm.ClassFile.FieldType.int), [], false, fX2)
abbrev tX2_edition (g : ZG) (args : List Value) (M : ZM) (d c s : Nat) (Q : ZQ) : Prop := Ct g yX2_edition (ws_ yX2_edition cX2_edition 4 (Option.some Jvm.ClassFile.FieldType.int)) args M d c s Q
abbrev nX2_edition : Nat := 9
theorem mX2_edition : zMok yX2_edition 0 4 := ⟨⟨by decide +kernel, by decide +kernel, by decide +kernel⟩, by decide⟩
theorem eX2_edition {g : ZG} {Q : ZQ} {d cN sN : Nat} {M : ZM} {a0 : Nat} (hV : zV g) (h : Z g kX2_edition Q d cN sN M 0 [some (.ref a0), none, none, none] []) : tX2_edition g [.ref a0] M d cN sN Q := Ct.of (K := kX2_edition) rfl (by decide +kernel) hV fokX2 rfl (fun h => by cases h) (fun v hv => by simp only [List.mem_cons, List.not_mem_nil, or_false] at hv; rcases hv with rfl <;> first | rfl | assumption) (Nat.le_of_ble_eq_true rfl) h
theorem sX2_edition_0 {g : ZG} {Q : ZQ} {d cN sN : Nat} {M : ZM} {l0 : Nat} {o1 o2 o3 : Option Value}  (kk : Z g kX2_edition Q d cN sN M 1 [some (.ref l0), o1, o2, o3] [.ref l0]) : Z g kX2_edition Q d cN sN M 0 [some (.ref l0), o1, o2, o3] [] := by
  refine zi_aload_n dX2_edition_0 rfl zrf_r ?_
  exact kk
theorem sX2_edition_4 {g : ZG} {Q : ZQ} {d cN sN : Nat} {M : ZM} {t0 : Int32} {l0 : Nat} {fs1 : List Value} {y3 : Int32} {o1 o2 o3 : Option Value} (h2 : M.1 l0 = some (.inr (1, fs1))) (h4 : (fs1)[10]? = some (.int y3)) (kk : Z g kX2_edition Q d cN sN M 10 [some (.ref l0), o1, o2, o3] [.int y3, .int 8, .int t0]) : Z g kX2_edition Q d cN sN M 4 [some (.ref l0), o1, o2, o3] [.int t0] := by
  refine zi_bipush dX2_edition_4 (by decide +kernel : (Int8.ofInt (8)).toInt32 = (8 : Int32)) ?_
  refine zi_aload_n dX2_edition_6 rfl zrf_r ?_
  refine zi_getfield dX2_edition_7 rfl h2 h4 ?_
  exact kk
theorem sX2_edition_13 {g : ZG} {Q : ZQ} {d cN sN : Nat} {M : ZM} {o0 o1 o2 o3 : Option Value}  (kk : Z g kX2_edition Q d cN sN M 17 [o0, some (.int 0), some (.int 0), o3] []) : Z g kX2_edition Q d cN sN M 13 [o0, o1, o2, o3] [] := by
  refine zi_iconst dX2_edition_13 (by decide +kernel : Int32.ofInt (0) = (0 : Int32)) ?_
  refine zi_istore_n dX2_edition_14 (Nat.le_of_ble_eq_true rfl) ?_
  refine zi_iconst dX2_edition_15 (by decide +kernel : Int32.ofInt (0) = (0 : Int32)) ?_
  refine zi_istore_n dX2_edition_16 (Nat.le_of_ble_eq_true rfl) ?_
  exact kk
theorem sX2_edition_17 {g : ZG} {Q : ZQ} {d cN sN : Nat} {M : ZM} {l2 : Int32} {l0 : Nat} {fs1 : List Value} {y3 : Int32} {o1 o3 : Option Value} (h2 : M.1 l0 = some (.inr (1, fs1))) (h4 : (fs1)[3]? = some (.int y3)) (kt : (y3 : Int32) ≤ (l2 : Int32) → Z g kX2_edition Q d cN sN M 80 [some (.ref l0), o1, some (.int l2), o3] []) (kf : ¬ (y3 : Int32) ≤ (l2 : Int32) → Z g kX2_edition Q d cN sN M 25 [some (.ref l0), o1, some (.int l2), o3] []) : Z g kX2_edition Q d cN sN M 17 [some (.ref l0), o1, some (.int l2), o3] [] := by
  refine zi_iload_n dX2_edition_17 rfl ?_
  refine zi_aload_n dX2_edition_18 rfl zrf_r ?_
  refine zi_getfield dX2_edition_19 rfl h2 h4 ?_
  exact zi_icmp_ge (tgt := 80) dX2_edition_22 (by decide +kernel) kt kf
theorem sX2_edition_25 {g : ZG} {Q : ZQ} {d cN sN : Nat} {M : ZM} {o0 o1 o2 o3 : Option Value}  (kk : Z g kX2_edition Q d cN sN M 27 [o0, o1, o2, some (.int 0)] []) : Z g kX2_edition Q d cN sN M 25 [o0, o1, o2, o3] [] := by
  refine zi_iconst dX2_edition_25 (by decide +kernel : Int32.ofInt (0) = (0 : Int32)) ?_
  refine zi_istore_n dX2_edition_26 (Nat.le_of_ble_eq_true rfl) ?_
  exact kk
theorem sX2_edition_27 {g : ZG} {Q : ZQ} {d cN sN : Nat} {M : ZM} {l3 : Int32} {l0 : Nat} {fs1 : List Value} {r3 : Nat} {l2 : Int32} {n5 : Nat} {f6 : Nat → Option Nat} {c7 : ClassId} {r11 : Nat} {fs13 : List Value} {y15 : Int32} {o1 : Option Value} (h2 : M.1 l0 = some (.inr (1, fs1))) (h4 : (fs1)[4]? = some (.ref r3)) (h8 : M.1 r3 = some (.inl (c7, n5, .inr (.inr (.inr (.inr f6)))))) (h9 : zRt g c7) (h10 : vp_in (l2) n5) (h12 : va_rf (f6 ((l2 : Int32).toNatClampNeg)) = .ref r11) (h14 : M.1 r11 = some (.inr (3, fs13))) (h16 : (fs13)[1]? = some (.int y15)) (kt : (y15 : Int32) ≤ (l3 : Int32) → Z g kX2_edition Q d cN sN M 74 [some (.ref l0), o1, some (.int l2), some (.int l3)] []) (kf : ¬ (y15 : Int32) ≤ (l3 : Int32) → Z g kX2_edition Q d cN sN M 40 [some (.ref l0), o1, some (.int l2), some (.int l3)] []) : Z g kX2_edition Q d cN sN M 27 [some (.ref l0), o1, some (.int l2), some (.int l3)] [] := by
  refine zi_iload_n dX2_edition_27 rfl ?_
  refine zi_aload_n dX2_edition_28 rfl zrf_r ?_
  refine zi_getfield dX2_edition_29 rfl h2 h4 ?_
  refine zi_iload_n dX2_edition_32 rfl ?_
  refine zi_aaload dX2_edition_33 h8 h9 h10 h12 ?_
  refine zi_getfield dX2_edition_34 rfl h14 h16 ?_
  exact zi_icmp_ge (tgt := 74) dX2_edition_37 (by decide +kernel) kt kf
theorem sX2_edition_40 {g : ZG} {Q : ZQ} {d cN sN : Nat} {M : ZM} {l1 : Int32} {l0 : Nat} {fs1 : List Value} {r3 : Nat} {l2 : Int32} {n5 : Nat} {f6 : Nat → Option Nat} {c7 : ClassId} {r11 : Nat} {fs13 : List Value} {r15 : Nat} {l3 : Int32} {n17 : Nat} {f18 : Nat → Int32} (h2 : M.1 l0 = some (.inr (1, fs1))) (h4 : (fs1)[4]? = some (.ref r3)) (h8 : M.1 r3 = some (.inl (c7, n5, .inr (.inr (.inr (.inr f6)))))) (h9 : zRt g c7) (h10 : vp_in (l2) n5) (h12 : va_rf (f6 ((l2 : Int32).toNatClampNeg)) = .ref r11) (h14 : M.1 r11 = some (.inr (3, fs13))) (h16 : (fs13)[4]? = some (.ref r15)) (h19 : M.1 r15 = some (.inl (zA g 0, n17, .inl f18))) (h20 : vp_in (l3) n17) (kt : ¬ (f18 ((l3 : Int32).toNatClampNeg) : Int32) = (2 : Int32) → Z g kX2_edition Q d cN sN M 65 [some (.ref l0), some (.int l1), some (.int l2), some (.int l3)] [.int l1]) (kf : (f18 ((l3 : Int32).toNatClampNeg) : Int32) = (2 : Int32) → Z g kX2_edition Q d cN sN M 56 [some (.ref l0), some (.int l1), some (.int l2), some (.int l3)] [.int l1]) : Z g kX2_edition Q d cN sN M 40 [some (.ref l0), some (.int l1), some (.int l2), some (.int l3)] [] := by
  refine zi_iload_n dX2_edition_40 rfl ?_
  refine zi_aload_n dX2_edition_41 rfl zrf_r ?_
  refine zi_getfield dX2_edition_42 rfl h2 h4 ?_
  refine zi_iload_n dX2_edition_45 rfl ?_
  refine zi_aaload dX2_edition_46 h8 h9 h10 h12 ?_
  refine zi_getfield dX2_edition_47 rfl h14 h16 ?_
  refine zi_iload_n dX2_edition_50 rfl ?_
  refine zi_iaload dX2_edition_51 h19 h20 ?_
  refine zi_iconst dX2_edition_52 (by decide +kernel : Int32.ofInt (2) = (2 : Int32)) ?_
  exact zi_icmp_ne (tgt := 65) dX2_edition_53 (by decide +kernel) kt kf
theorem sX2_edition_56 {g : ZG} {Q : ZQ} {d cN sN : Nat} {M : ZM} {t0 : Int32} {l0 : Nat} {l2 : Int32} {l3 : Int32} {o1 : Option Value}  (kk : Z g kX2_edition Q d cN sN M 59 [some (.ref l0), o1, some (.int l2), some (.int l3)] [.int l3, .int l2, .ref l0, .int t0]) : Z g kX2_edition Q d cN sN M 56 [some (.ref l0), o1, some (.int l2), some (.int l3)] [.int t0] := by
  refine zi_aload_n dX2_edition_56 rfl zrf_r ?_
  refine zi_iload_n dX2_edition_57 rfl ?_
  refine zi_iload_n dX2_edition_58 rfl ?_
  exact kk
theorem sX2_edition_62 {g : ZG} {Q : ZQ} {d cN sN : Nat} {M : ZM} {t0 : Int32} {t1 : Int32} {o0 o1 o2 o3 : Option Value}  (kk : Z g kX2_edition Q d cN sN M 66 [o0, o1, o2, o3] [.int t1, .int t0]) : Z g kX2_edition Q d cN sN M 62 [o0, o1, o2, o3] [.int t1, .int t0] := by
  exact zi_goto (tgt := 66) dX2_edition_62 (by decide +kernel) kk
theorem sX2_edition_65 {g : ZG} {Q : ZQ} {d cN sN : Nat} {M : ZM} {t0 : Int32} {o0 o1 o2 o3 : Option Value}  (kk : Z g kX2_edition Q d cN sN M 66 [o0, o1, o2, o3] [.int 0, .int t0]) : Z g kX2_edition Q d cN sN M 65 [o0, o1, o2, o3] [.int t0] := by
  refine zi_iconst dX2_edition_65 (by decide +kernel : Int32.ofInt (0) = (0 : Int32)) ?_
  exact kk
theorem sX2_edition_66 {g : ZG} {Q : ZQ} {d cN sN : Nat} {M : ZM} {t0 : Int32} {t1 : Int32} {l3 : Int32} {o0 o1 o2 : Option Value}  (kk : Z g kX2_edition Q d cN sN M 27 [o0, some (.int (t0 + t1)), o2, some (.int (l3 + 1))] []) : Z g kX2_edition Q d cN sN M 66 [o0, o1, o2, some (.int l3)] [.int t1, .int t0] := by
  refine zi_iadd dX2_edition_66 ?_
  refine zi_istore_n dX2_edition_67 (Nat.le_of_ble_eq_true rfl) ?_
  refine zi_iinc dX2_edition_68 rfl (by decide +kernel : Int32.ofInt (1) = 1) (Nat.le_of_ble_eq_true rfl) ?_
  exact zi_goto (tgt := 27) dX2_edition_71 (by decide +kernel) kk
theorem sX2_edition_74 {g : ZG} {Q : ZQ} {d cN sN : Nat} {M : ZM} {l2 : Int32} {o0 o1 o3 : Option Value}  (kk : Z g kX2_edition Q d cN sN M 17 [o0, o1, some (.int (l2 + 1)), o3] []) : Z g kX2_edition Q d cN sN M 74 [o0, o1, some (.int l2), o3] [] := by
  refine zi_iinc dX2_edition_74 rfl (by decide +kernel : Int32.ofInt (1) = 1) (Nat.le_of_ble_eq_true rfl) ?_
  exact zi_goto (tgt := 17) dX2_edition_77 (by decide +kernel) kk
theorem sX2_edition_80 {g : ZG} {Q : ZQ} {d cN sN : Nat} {M : ZM} {l0 : Nat} {fs1 : List Value} {y3 : Int32} {y6 : Int32} {l1 : Int32} {o2 o3 : Option Value} (h2 : M.1 l0 = some (.inr (1, fs1))) (h4 : (fs1)[10]? = some (.int y3)) (h5 : 10 < (fs1).length) (h7 : (((fs1).set 10 (.int (y3 + 1))))[12]? = some (.int y6)) (h8 : 12 < (((fs1).set 10 (.int (y3 + 1)))).length) (kk : Q.1 (some (.int l1)) (zup (zup M l0 (.inr (1, (fs1).set 10 (.int (y3 + 1))))) l0 (.inr (1, (((fs1).set 10 (.int (y3 + 1)))).set 12 (.int (y6 + l1)))))) : Z g kX2_edition Q d cN sN M 80 [some (.ref l0), some (.int l1), o2, o3] [] := by
  refine zi_aload_n dX2_edition_80 rfl zrf_r ?_
  refine zi_dup dX2_edition_81 rfl ?_
  refine zi_getfield dX2_edition_82 rfl h2 h4 ?_
  refine zi_iconst dX2_edition_85 (by decide +kernel : Int32.ofInt (1) = (1 : Int32)) ?_
  refine zi_iadd dX2_edition_86 ?_
  refine zi_putfield dX2_edition_87 rfl h2 h5 zfit_i (Or.inl rfl) ?_
  refine zi_aload_n dX2_edition_90 rfl zrf_r ?_
  refine zi_dup dX2_edition_91 rfl ?_
  refine zi_getfield dX2_edition_92 rfl (zup_self _ _ _) h7 ?_
  refine zi_iload_n dX2_edition_95 rfl ?_
  refine zi_iadd dX2_edition_96 ?_
  refine zi_putfield dX2_edition_97 rfl (zup_self _ _ _) h8 zfit_i (Or.inl rfl) ?_
  refine zi_iload_n dX2_edition_100 rfl ?_
  exact zi_ireturn dX2_edition_101 rfl rfl kk
abbrev kX2_isNothing : ZK := (RX2, cX2_isNothing, 2, (Option.some Jvm.ClassFile.FieldType.boolean), [], false, fX2)
abbrev tX2_isNothing (g : ZG) (args : List Value) (M : ZM) (d c s : Nat) (Q : ZQ) : Prop := Ct g yX2_isNothing (ws_ yX2_isNothing cX2_isNothing 2 (Option.some Jvm.ClassFile.FieldType.boolean)) args M d c s Q
abbrev nX2_isNothing : Nat := 4
theorem mX2_isNothing : zMok yX2_isNothing 0 2 := ⟨⟨by decide +kernel, by decide +kernel, by decide +kernel⟩, by decide⟩
theorem eX2_isNothing {g : ZG} {Q : ZQ} {d cN sN : Nat} {M : ZM} {a0 : Nat} (hV : zV g) (h : Z g kX2_isNothing Q d cN sN M 0 [some (.ref a0), none] []) : tX2_isNothing g [.ref a0] M d cN sN Q := Ct.of (K := kX2_isNothing) rfl (by decide +kernel) hV fokX2 rfl (fun h => by cases h) (fun v hv => by simp only [List.mem_cons, List.not_mem_nil, or_false] at hv; rcases hv with rfl <;> first | rfl | assumption) (Nat.le_of_ble_eq_true rfl) h
theorem sX2_isNothing_0 {g : ZG} {Q : ZQ} {d cN sN : Nat} {M : ZM} {o0 o1 : Option Value}  (kk : Z g kX2_isNothing Q d cN sN M 2 [o0, some (.int 0)] []) : Z g kX2_isNothing Q d cN sN M 0 [o0, o1] [] := by
  refine zi_iconst dX2_isNothing_0 (by decide +kernel : Int32.ofInt (0) = (0 : Int32)) ?_
  refine zi_istore_n dX2_isNothing_1 (Nat.le_of_ble_eq_true rfl) ?_
  exact kk
theorem sX2_isNothing_2 {g : ZG} {Q : ZQ} {d cN sN : Nat} {M : ZM} {l1 : Int32} {l0 : Nat} {fs1 : List Value} {y3 : Int32} (h2 : M.1 l0 = some (.inr (1, fs1))) (h4 : (fs1)[3]? = some (.int y3)) (kt : (y3 : Int32) ≤ (l1 : Int32) → Z g kX2_isNothing Q d cN sN M 30 [some (.ref l0), some (.int l1)] []) (kf : ¬ (y3 : Int32) ≤ (l1 : Int32) → Z g kX2_isNothing Q d cN sN M 10 [some (.ref l0), some (.int l1)] []) : Z g kX2_isNothing Q d cN sN M 2 [some (.ref l0), some (.int l1)] [] := by
  refine zi_iload_n dX2_isNothing_2 rfl ?_
  refine zi_aload_n dX2_isNothing_3 rfl zrf_r ?_
  refine zi_getfield dX2_isNothing_4 rfl h2 h4 ?_
  exact zi_icmp_ge (tgt := 30) dX2_isNothing_7 (by decide +kernel) kt kf
theorem sX2_isNothing_10 {g : ZG} {Q : ZQ} {d cN sN : Nat} {M : ZM} {l0 : Nat} {fs1 : List Value} {r3 : Nat} {l1 : Int32} {n5 : Nat} {f6 : Nat → Option Nat} {c7 : ClassId} {r11 : Nat} (h2 : M.1 l0 = some (.inr (1, fs1))) (h4 : (fs1)[4]? = some (.ref r3)) (h8 : M.1 r3 = some (.inl (c7, n5, .inr (.inr (.inr (.inr f6)))))) (h9 : zRt g c7) (h10 : vp_in (l1) n5) (h12 : va_rf (f6 ((l1 : Int32).toNatClampNeg)) = .ref r11) (kk : Z g kX2_isNothing Q d cN sN M 16 [some (.ref l0), some (.int l1)] [.ref r11]) : Z g kX2_isNothing Q d cN sN M 10 [some (.ref l0), some (.int l1)] [] := by
  refine zi_aload_n dX2_isNothing_10 rfl zrf_r ?_
  refine zi_getfield dX2_isNothing_11 rfl h2 h4 ?_
  refine zi_iload_n dX2_isNothing_14 rfl ?_
  refine zi_aaload dX2_isNothing_15 h8 h9 h10 h12 ?_
  exact kk
theorem sX2_isNothing_19 {g : ZG} {Q : ZQ} {d cN sN : Nat} {M : ZM} {t0 : Int32} {o0 o1 : Option Value}  (kt : (t0 : Int32) ≤ 0 → Z g kX2_isNothing Q d cN sN M 24 [o0, o1] []) (kf : ¬ (t0 : Int32) ≤ 0 → Z g kX2_isNothing Q d cN sN M 22 [o0, o1] []) : Z g kX2_isNothing Q d cN sN M 19 [o0, o1] [.int t0] := by
  exact zi_if_le (tgt := 24) dX2_isNothing_19 (by decide +kernel) kt kf
theorem sX2_isNothing_22 {g : ZG} {Q : ZQ} {d cN sN : Nat} {M : ZM} {o0 o1 : Option Value}  (kk : Q.1 (some (.int 0)) M) : Z g kX2_isNothing Q d cN sN M 22 [o0, o1] [] := by
  refine zi_iconst dX2_isNothing_22 (by decide +kernel : Int32.ofInt (0) = (0 : Int32)) ?_
  exact zi_ireturn dX2_isNothing_23 rfl (znar_z (by decide)) kk
theorem sX2_isNothing_24 {g : ZG} {Q : ZQ} {d cN sN : Nat} {M : ZM} {l1 : Int32} {o0 : Option Value}  (kk : Z g kX2_isNothing Q d cN sN M 2 [o0, some (.int (l1 + 1))] []) : Z g kX2_isNothing Q d cN sN M 24 [o0, some (.int l1)] [] := by
  refine zi_iinc dX2_isNothing_24 rfl (by decide +kernel : Int32.ofInt (1) = 1) (Nat.le_of_ble_eq_true rfl) ?_
  exact zi_goto (tgt := 2) dX2_isNothing_27 (by decide +kernel) kk
theorem sX2_isNothing_30 {g : ZG} {Q : ZQ} {d cN sN : Nat} {M : ZM} {o0 o1 : Option Value}  (kk : Q.1 (some (.int 1)) M) : Z g kX2_isNothing Q d cN sN M 30 [o0, o1] [] := by
  refine zi_iconst dX2_isNothing_30 (by decide +kernel : Int32.ofInt (1) = (1 : Int32)) ?_
  exact zi_ireturn dX2_isNothing_31 rfl (znar_z (by decide)) kk
abbrev kX2_prints : ZK := (RX2, cX2_prints, 6, (Option.some Jvm.ClassFile.FieldType.int), [], false, fX2)
abbrev tX2_prints (g : ZG) (args : List Value) (M : ZM) (d c s : Nat) (Q : ZQ) : Prop := Ct g yX2_prints (ws_ yX2_prints cX2_prints 6 (Option.some Jvm.ClassFile.FieldType.int)) args M d c s Q
abbrev nX2_prints : Nat := 5
theorem mX2_prints : zMok yX2_prints 2 6 := ⟨⟨by decide +kernel, by decide +kernel, by decide +kernel⟩, by decide⟩
theorem eX2_prints {g : ZG} {Q : ZQ} {d cN sN : Nat} {M : ZM} {a0 : Nat} {x1 : Int32} {x2 : Int32} (hV : zV g) (h : Z g kX2_prints Q d cN sN M 0 [some (.ref a0), some (.int x1), some (.int x2), none, none, none] []) : tX2_prints g [.ref a0, .int x1, .int x2] M d cN sN Q := Ct.of (K := kX2_prints) rfl (by decide +kernel) hV fokX2 rfl (fun h => by cases h) (fun v hv => by simp only [List.mem_cons, List.not_mem_nil, or_false] at hv; rcases hv with rfl | rfl | rfl <;> first | rfl | assumption) (Nat.le_of_ble_eq_true rfl) h
theorem sX2_prints_0 {g : ZG} {Q : ZQ} {d cN sN : Nat} {M : ZM} {l0 : Nat} {fs1 : List Value} {r3 : Nat} {l1 : Int32} {n5 : Nat} {f6 : Nat → Option Nat} {c7 : ClassId} {r11 : Nat} {l2 : Int32} {o3 o4 o5 : Option Value} (h2 : M.1 l0 = some (.inr (1, fs1))) (h4 : (fs1)[4]? = some (.ref r3)) (h8 : M.1 r3 = some (.inl (c7, n5, .inr (.inr (.inr (.inr f6)))))) (h9 : zRt g c7) (h10 : vp_in (l1) n5) (h12 : va_rf (f6 ((l1 : Int32).toNatClampNeg)) = .ref r11) (kk : Z g kX2_prints Q d cN sN M 10 [some (.ref l0), some (.int l1), some (.int l2), some (.ref r11), o4, o5] [.int l2, .int l1, .ref l0]) : Z g kX2_prints Q d cN sN M 0 [some (.ref l0), some (.int l1), some (.int l2), o3, o4, o5] [] := by
  refine zi_aload_n dX2_prints_0 rfl zrf_r ?_
  refine zi_getfield dX2_prints_1 rfl h2 h4 ?_
  refine zi_iload_n dX2_prints_4 rfl ?_
  refine zi_aaload dX2_prints_5 h8 h9 h10 h12 ?_
  refine zi_astore_n dX2_prints_6 zrf_r (Nat.le_of_ble_eq_true rfl) ?_
  refine zi_aload_n dX2_prints_7 rfl zrf_r ?_
  refine zi_iload_n dX2_prints_8 rfl ?_
  refine zi_iload_n dX2_prints_9 rfl ?_
  exact kk
theorem sX2_prints_16 {g : ZG} {Q : ZQ} {d cN sN : Nat} {M : ZM} {t0 : Int32} {l0 : Nat} {l1 : Int32} {o2 o3 o4 o5 : Option Value}  (kk : Z g kX2_prints Q d cN sN M 20 [some (.ref l0), some (.int l1), o2, o3, some (.int t0), o5] [.int l1, .ref l0]) : Z g kX2_prints Q d cN sN M 16 [some (.ref l0), some (.int l1), o2, o3, o4, o5] [.int t0] := by
  refine zi_istore dX2_prints_16 (Nat.le_of_ble_eq_true rfl) ?_
  refine zi_aload_n dX2_prints_18 rfl zrf_r ?_
  refine zi_iload_n dX2_prints_19 rfl ?_
  exact kk
theorem sX2_prints_23 {g : ZG} {Q : ZQ} {d cN sN : Nat} {M : ZM} {t0 : Nat} {l3 : Nat} {l2 : Int32} {o0 o1 o4 o5 : Option Value}  (kk : Z g kX2_prints Q d cN sN M 29 [o0, o1, some (.int l2), some (.ref l3), o4, some (.ref t0)] [.int l2, .ref l3, .ref t0]) : Z g kX2_prints Q d cN sN M 23 [o0, o1, some (.int l2), some (.ref l3), o4, o5] [.ref t0] := by
  refine zi_astore dX2_prints_23 zrf_r (Nat.le_of_ble_eq_true rfl) ?_
  refine zi_aload dX2_prints_25 rfl zrf_r ?_
  refine zi_aload_n dX2_prints_27 rfl zrf_r ?_
  refine zi_iload_n dX2_prints_28 rfl ?_
  exact kk
theorem sX2_prints_35 {g : ZG} {Q : ZQ} {d cN sN : Nat} {M : ZM} {l5 : Nat} {l4 : Int32} {o0 o1 o2 o3 : Option Value}  (kk : Z g kX2_prints Q d cN sN M 39 [o0, o1, o2, o3, some (.int l4), some (.ref l5)] [.int l4, .ref l5]) : Z g kX2_prints Q d cN sN M 35 [o0, o1, o2, o3, some (.int l4), some (.ref l5)] [] := by
  refine zi_aload dX2_prints_35 rfl zrf_r ?_
  refine zi_iload dX2_prints_37 rfl ?_
  exact kk
theorem sX2_prints_42 {g : ZG} {Q : ZQ} {d cN sN : Nat} {M : ZM} {l3 : Nat} {fs1 : List Value} {r3 : Nat} {l2 : Int32} {n5 : Nat} {f6 : Nat → Int32} {l0 : Nat} {fs9 : List Value} {y11 : Int32} {l4 : Int32} {o1 o5 : Option Value} (h2 : M.1 l3 = some (.inr (3, fs1))) (h4 : (fs1)[4]? = some (.ref r3)) (h7 : M.1 r3 = some (.inl (zA g 0, n5, .inl (f6)))) (h8 : vp_in (l2) n5) (h10 : (zup M r3 (.inl (zA g 0, n5, .inl (upd f6 ((l2 : Int32).toNatClampNeg) (3))))).1 l0 = some (.inr (1, fs9))) (h12 : (fs9)[11]? = some (.int y11)) (h13 : 11 < (fs9).length) (kk : Q.1 (some (.int l4)) (zup (zup M r3 (.inl (zA g 0, n5, .inl (upd f6 ((l2 : Int32).toNatClampNeg) (3))))) l0 (.inr (1, (fs9).set 11 (.int (y11 + 1)))))) : Z g kX2_prints Q d cN sN M 42 [some (.ref l0), o1, some (.int l2), some (.ref l3), some (.int l4), o5] [] := by
  refine zi_aload_n dX2_prints_42 rfl zrf_r ?_
  refine zi_getfield dX2_prints_43 rfl h2 h4 ?_
  refine zi_iload_n dX2_prints_46 rfl ?_
  refine zi_iconst dX2_prints_47 (by decide +kernel : Int32.ofInt (3) = (3 : Int32)) ?_
  refine zi_iastore dX2_prints_48 h7 h8 ?_
  refine zi_aload_n dX2_prints_49 rfl zrf_r ?_
  refine zi_dup dX2_prints_50 rfl ?_
  refine zi_getfield dX2_prints_51 rfl h10 h12 ?_
  refine zi_iconst dX2_prints_54 (by decide +kernel : Int32.ofInt (1) = (1 : Int32)) ?_
  refine zi_iadd dX2_prints_55 ?_
  refine zi_putfield dX2_prints_56 rfl h10 h13 zfit_i (Or.inl rfl) ?_
  refine zi_iload dX2_prints_59 rfl ?_
  exact zi_ireturn dX2_prints_61 rfl rfl kk
abbrev kX2_sheetsOf : ZK := (RX2, cX2_sheetsOf, 4, (Option.some Jvm.ClassFile.FieldType.int), [], false, fX2)
abbrev tX2_sheetsOf (g : ZG) (args : List Value) (M : ZM) (d c s : Nat) (Q : ZQ) : Prop := Ct g yX2_sheetsOf (ws_ yX2_sheetsOf cX2_sheetsOf 4 (Option.some Jvm.ClassFile.FieldType.int)) args M d c s Q
abbrev nX2_sheetsOf : Nat := 1
theorem mX2_sheetsOf : zMok yX2_sheetsOf 1 4 := ⟨⟨by decide +kernel, by decide +kernel, by decide +kernel⟩, by decide⟩
theorem eX2_sheetsOf {g : ZG} {Q : ZQ} {d cN sN : Nat} {M : ZM} {a0 : Nat} {x1 : Int32} (hV : zV g) (h : Z g kX2_sheetsOf Q d cN sN M 0 [some (.ref a0), some (.int x1), none, none] []) : tX2_sheetsOf g [.ref a0, .int x1] M d cN sN Q := Ct.of (K := kX2_sheetsOf) rfl (by decide +kernel) hV fokX2 rfl (fun h => by cases h) (fun v hv => by simp only [List.mem_cons, List.not_mem_nil, or_false] at hv; rcases hv with rfl | rfl <;> first | rfl | assumption) (Nat.le_of_ble_eq_true rfl) h
theorem sX2_sheetsOf_0 {g : ZG} {Q : ZQ} {d cN sN : Nat} {M : ZM} {o0 o1 o2 o3 : Option Value}  (kk : Z g kX2_sheetsOf Q d cN sN M 4 [o0, o1, some (.int 0), some (.int 0)] []) : Z g kX2_sheetsOf Q d cN sN M 0 [o0, o1, o2, o3] [] := by
  refine zi_iconst dX2_sheetsOf_0 (by decide +kernel : Int32.ofInt (0) = (0 : Int32)) ?_
  refine zi_istore_n dX2_sheetsOf_1 (Nat.le_of_ble_eq_true rfl) ?_
  refine zi_iconst dX2_sheetsOf_2 (by decide +kernel : Int32.ofInt (0) = (0 : Int32)) ?_
  refine zi_istore_n dX2_sheetsOf_3 (Nat.le_of_ble_eq_true rfl) ?_
  exact kk
theorem sX2_sheetsOf_4 {g : ZG} {Q : ZQ} {d cN sN : Nat} {M : ZM} {l3 : Int32} {l0 : Nat} {fs1 : List Value} {y3 : Int32} {o1 o2 : Option Value} (h2 : M.1 l0 = some (.inr (1, fs1))) (h4 : (fs1)[3]? = some (.int y3)) (kt : (y3 : Int32) ≤ (l3 : Int32) → Z g kX2_sheetsOf Q d cN sN M 39 [some (.ref l0), o1, o2, some (.int l3)] []) (kf : ¬ (y3 : Int32) ≤ (l3 : Int32) → Z g kX2_sheetsOf Q d cN sN M 12 [some (.ref l0), o1, o2, some (.int l3)] []) : Z g kX2_sheetsOf Q d cN sN M 4 [some (.ref l0), o1, o2, some (.int l3)] [] := by
  refine zi_iload_n dX2_sheetsOf_4 rfl ?_
  refine zi_aload_n dX2_sheetsOf_5 rfl zrf_r ?_
  refine zi_getfield dX2_sheetsOf_6 rfl h2 h4 ?_
  exact zi_icmp_ge (tgt := 39) dX2_sheetsOf_9 (by decide +kernel) kt kf
theorem sX2_sheetsOf_12 {g : ZG} {Q : ZQ} {d cN sN : Nat} {M : ZM} {l2 : Int32} {l0 : Nat} {fs1 : List Value} {r3 : Nat} {l3 : Int32} {n5 : Nat} {f6 : Nat → Option Nat} {c7 : ClassId} {r11 : Nat} {fs13 : List Value} {y15 : Int32} {l1 : Int32} (h2 : M.1 l0 = some (.inr (1, fs1))) (h4 : (fs1)[4]? = some (.ref r3)) (h8 : M.1 r3 = some (.inl (c7, n5, .inr (.inr (.inr (.inr f6)))))) (h9 : zRt g c7) (h10 : vp_in (l3) n5) (h12 : va_rf (f6 ((l3 : Int32).toNatClampNeg)) = .ref r11) (h14 : M.1 r11 = some (.inr (3, fs13))) (h16 : (fs13)[0]? = some (.int y15)) (kt : ¬ (y15 : Int32) = (l1 : Int32) → Z g kX2_sheetsOf Q d cN sN M 30 [some (.ref l0), some (.int l1), some (.int l2), some (.int l3)] [.int l2]) (kf : (y15 : Int32) = (l1 : Int32) → Z g kX2_sheetsOf Q d cN sN M 26 [some (.ref l0), some (.int l1), some (.int l2), some (.int l3)] [.int l2]) : Z g kX2_sheetsOf Q d cN sN M 12 [some (.ref l0), some (.int l1), some (.int l2), some (.int l3)] [] := by
  refine zi_iload_n dX2_sheetsOf_12 rfl ?_
  refine zi_aload_n dX2_sheetsOf_13 rfl zrf_r ?_
  refine zi_getfield dX2_sheetsOf_14 rfl h2 h4 ?_
  refine zi_iload_n dX2_sheetsOf_17 rfl ?_
  refine zi_aaload dX2_sheetsOf_18 h8 h9 h10 h12 ?_
  refine zi_getfield dX2_sheetsOf_19 rfl h14 h16 ?_
  refine zi_iload_n dX2_sheetsOf_22 rfl ?_
  exact zi_icmp_ne (tgt := 30) dX2_sheetsOf_23 (by decide +kernel) kt kf
theorem sX2_sheetsOf_26 {g : ZG} {Q : ZQ} {d cN sN : Nat} {M : ZM} {t0 : Int32} {o0 o1 o2 o3 : Option Value}  (kk : Z g kX2_sheetsOf Q d cN sN M 31 [o0, o1, o2, o3] [.int 1, .int t0]) : Z g kX2_sheetsOf Q d cN sN M 26 [o0, o1, o2, o3] [.int t0] := by
  refine zi_iconst dX2_sheetsOf_26 (by decide +kernel : Int32.ofInt (1) = (1 : Int32)) ?_
  exact zi_goto (tgt := 31) dX2_sheetsOf_27 (by decide +kernel) kk
theorem sX2_sheetsOf_30 {g : ZG} {Q : ZQ} {d cN sN : Nat} {M : ZM} {t0 : Int32} {o0 o1 o2 o3 : Option Value}  (kk : Z g kX2_sheetsOf Q d cN sN M 31 [o0, o1, o2, o3] [.int 0, .int t0]) : Z g kX2_sheetsOf Q d cN sN M 30 [o0, o1, o2, o3] [.int t0] := by
  refine zi_iconst dX2_sheetsOf_30 (by decide +kernel : Int32.ofInt (0) = (0 : Int32)) ?_
  exact kk
theorem sX2_sheetsOf_31 {g : ZG} {Q : ZQ} {d cN sN : Nat} {M : ZM} {t0 : Int32} {t1 : Int32} {l3 : Int32} {o0 o1 o2 : Option Value}  (kk : Z g kX2_sheetsOf Q d cN sN M 4 [o0, o1, some (.int (t0 + t1)), some (.int (l3 + 1))] []) : Z g kX2_sheetsOf Q d cN sN M 31 [o0, o1, o2, some (.int l3)] [.int t1, .int t0] := by
  refine zi_iadd dX2_sheetsOf_31 ?_
  refine zi_istore_n dX2_sheetsOf_32 (Nat.le_of_ble_eq_true rfl) ?_
  refine zi_iinc dX2_sheetsOf_33 rfl (by decide +kernel : Int32.ofInt (1) = 1) (Nat.le_of_ble_eq_true rfl) ?_
  exact zi_goto (tgt := 4) dX2_sheetsOf_36 (by decide +kernel) kk
theorem sX2_sheetsOf_39 {g : ZG} {Q : ZQ} {d cN sN : Nat} {M : ZM} {l2 : Int32} {o0 o1 o3 : Option Value}  (kk : Q.1 (some (.int l2)) M) : Z g kX2_sheetsOf Q d cN sN M 39 [o0, o1, some (.int l2), o3] [] := by
  refine zi_iload_n dX2_sheetsOf_39 rfl ?_
  exact zi_ireturn dX2_sheetsOf_40 rfl rfl kk
abbrev kX2_misprintsOf : ZK := (RX2, cX2_misprintsOf, 4, (Option.some Jvm.ClassFile.FieldType.int), [], false, fX2)
abbrev tX2_misprintsOf (g : ZG) (args : List Value) (M : ZM) (d c s : Nat) (Q : ZQ) : Prop := Ct g yX2_misprintsOf (ws_ yX2_misprintsOf cX2_misprintsOf 4 (Option.some Jvm.ClassFile.FieldType.int)) args M d c s Q
abbrev nX2_misprintsOf : Nat := 2
theorem mX2_misprintsOf : zMok yX2_misprintsOf 1 4 := ⟨⟨by decide +kernel, by decide +kernel, by decide +kernel⟩, by decide⟩
theorem eX2_misprintsOf {g : ZG} {Q : ZQ} {d cN sN : Nat} {M : ZM} {a0 : Nat} {x1 : Int32} (hV : zV g) (h : Z g kX2_misprintsOf Q d cN sN M 0 [some (.ref a0), some (.int x1), none, none] []) : tX2_misprintsOf g [.ref a0, .int x1] M d cN sN Q := Ct.of (K := kX2_misprintsOf) rfl (by decide +kernel) hV fokX2 rfl (fun h => by cases h) (fun v hv => by simp only [List.mem_cons, List.not_mem_nil, or_false] at hv; rcases hv with rfl | rfl <;> first | rfl | assumption) (Nat.le_of_ble_eq_true rfl) h
theorem sX2_misprintsOf_0 {g : ZG} {Q : ZQ} {d cN sN : Nat} {M : ZM} {o0 o1 o2 o3 : Option Value}  (kk : Z g kX2_misprintsOf Q d cN sN M 4 [o0, o1, some (.int 0), some (.int 0)] []) : Z g kX2_misprintsOf Q d cN sN M 0 [o0, o1, o2, o3] [] := by
  refine zi_iconst dX2_misprintsOf_0 (by decide +kernel : Int32.ofInt (0) = (0 : Int32)) ?_
  refine zi_istore_n dX2_misprintsOf_1 (Nat.le_of_ble_eq_true rfl) ?_
  refine zi_iconst dX2_misprintsOf_2 (by decide +kernel : Int32.ofInt (0) = (0 : Int32)) ?_
  refine zi_istore_n dX2_misprintsOf_3 (Nat.le_of_ble_eq_true rfl) ?_
  exact kk
theorem sX2_misprintsOf_4 {g : ZG} {Q : ZQ} {d cN sN : Nat} {M : ZM} {l3 : Int32} {l0 : Nat} {fs1 : List Value} {y3 : Int32} {o1 o2 : Option Value} (h2 : M.1 l0 = some (.inr (1, fs1))) (h4 : (fs1)[3]? = some (.int y3)) (kt : (y3 : Int32) ≤ (l3 : Int32) → Z g kX2_misprintsOf Q d cN sN M 48 [some (.ref l0), o1, o2, some (.int l3)] []) (kf : ¬ (y3 : Int32) ≤ (l3 : Int32) → Z g kX2_misprintsOf Q d cN sN M 12 [some (.ref l0), o1, o2, some (.int l3)] []) : Z g kX2_misprintsOf Q d cN sN M 4 [some (.ref l0), o1, o2, some (.int l3)] [] := by
  refine zi_iload_n dX2_misprintsOf_4 rfl ?_
  refine zi_aload_n dX2_misprintsOf_5 rfl zrf_r ?_
  refine zi_getfield dX2_misprintsOf_6 rfl h2 h4 ?_
  exact zi_icmp_ge (tgt := 48) dX2_misprintsOf_9 (by decide +kernel) kt kf
theorem sX2_misprintsOf_12 {g : ZG} {Q : ZQ} {d cN sN : Nat} {M : ZM} {l2 : Int32} {l0 : Nat} {fs1 : List Value} {r3 : Nat} {l3 : Int32} {n5 : Nat} {f6 : Nat → Option Nat} {c7 : ClassId} {r11 : Nat} {fs13 : List Value} {y15 : Int32} {l1 : Int32} (h2 : M.1 l0 = some (.inr (1, fs1))) (h4 : (fs1)[4]? = some (.ref r3)) (h8 : M.1 r3 = some (.inl (c7, n5, .inr (.inr (.inr (.inr f6)))))) (h9 : zRt g c7) (h10 : vp_in (l3) n5) (h12 : va_rf (f6 ((l3 : Int32).toNatClampNeg)) = .ref r11) (h14 : M.1 r11 = some (.inr (3, fs13))) (h16 : (fs13)[0]? = some (.int y15)) (kt : ¬ (y15 : Int32) = (l1 : Int32) → Z g kX2_misprintsOf Q d cN sN M 39 [some (.ref l0), some (.int l1), some (.int l2), some (.int l3)] [.int l2]) (kf : (y15 : Int32) = (l1 : Int32) → Z g kX2_misprintsOf Q d cN sN M 26 [some (.ref l0), some (.int l1), some (.int l2), some (.int l3)] [.int l2]) : Z g kX2_misprintsOf Q d cN sN M 12 [some (.ref l0), some (.int l1), some (.int l2), some (.int l3)] [] := by
  refine zi_iload_n dX2_misprintsOf_12 rfl ?_
  refine zi_aload_n dX2_misprintsOf_13 rfl zrf_r ?_
  refine zi_getfield dX2_misprintsOf_14 rfl h2 h4 ?_
  refine zi_iload_n dX2_misprintsOf_17 rfl ?_
  refine zi_aaload dX2_misprintsOf_18 h8 h9 h10 h12 ?_
  refine zi_getfield dX2_misprintsOf_19 rfl h14 h16 ?_
  refine zi_iload_n dX2_misprintsOf_22 rfl ?_
  exact zi_icmp_ne (tgt := 39) dX2_misprintsOf_23 (by decide +kernel) kt kf
theorem sX2_misprintsOf_26 {g : ZG} {Q : ZQ} {d cN sN : Nat} {M : ZM} {t0 : Int32} {l0 : Nat} {fs1 : List Value} {r3 : Nat} {l3 : Int32} {n5 : Nat} {f6 : Nat → Option Nat} {c7 : ClassId} {r11 : Nat} {o1 o2 : Option Value} (h2 : M.1 l0 = some (.inr (1, fs1))) (h4 : (fs1)[4]? = some (.ref r3)) (h8 : M.1 r3 = some (.inl (c7, n5, .inr (.inr (.inr (.inr f6)))))) (h9 : zRt g c7) (h10 : vp_in (l3) n5) (h12 : va_rf (f6 ((l3 : Int32).toNatClampNeg)) = .ref r11) (kk : Z g kX2_misprintsOf Q d cN sN M 33 [some (.ref l0), o1, o2, some (.int l3)] [.int 1, .ref r11, .int t0]) : Z g kX2_misprintsOf Q d cN sN M 26 [some (.ref l0), o1, o2, some (.int l3)] [.int t0] := by
  refine zi_aload_n dX2_misprintsOf_26 rfl zrf_r ?_
  refine zi_getfield dX2_misprintsOf_27 rfl h2 h4 ?_
  refine zi_iload_n dX2_misprintsOf_30 rfl ?_
  refine zi_aaload dX2_misprintsOf_31 h8 h9 h10 h12 ?_
  refine zi_iconst dX2_misprintsOf_32 (by decide +kernel : Int32.ofInt (1) = (1 : Int32)) ?_
  exact kk
theorem sX2_misprintsOf_36 {g : ZG} {Q : ZQ} {d cN sN : Nat} {M : ZM} {t0 : Int32} {t1 : Int32} {o0 o1 o2 o3 : Option Value}  (kk : Z g kX2_misprintsOf Q d cN sN M 40 [o0, o1, o2, o3] [.int t1, .int t0]) : Z g kX2_misprintsOf Q d cN sN M 36 [o0, o1, o2, o3] [.int t1, .int t0] := by
  exact zi_goto (tgt := 40) dX2_misprintsOf_36 (by decide +kernel) kk
theorem sX2_misprintsOf_39 {g : ZG} {Q : ZQ} {d cN sN : Nat} {M : ZM} {t0 : Int32} {o0 o1 o2 o3 : Option Value}  (kk : Z g kX2_misprintsOf Q d cN sN M 40 [o0, o1, o2, o3] [.int 0, .int t0]) : Z g kX2_misprintsOf Q d cN sN M 39 [o0, o1, o2, o3] [.int t0] := by
  refine zi_iconst dX2_misprintsOf_39 (by decide +kernel : Int32.ofInt (0) = (0 : Int32)) ?_
  exact kk
theorem sX2_misprintsOf_40 {g : ZG} {Q : ZQ} {d cN sN : Nat} {M : ZM} {t0 : Int32} {t1 : Int32} {l3 : Int32} {o0 o1 o2 : Option Value}  (kk : Z g kX2_misprintsOf Q d cN sN M 4 [o0, o1, some (.int (t0 + t1)), some (.int (l3 + 1))] []) : Z g kX2_misprintsOf Q d cN sN M 40 [o0, o1, o2, some (.int l3)] [.int t1, .int t0] := by
  refine zi_iadd dX2_misprintsOf_40 ?_
  refine zi_istore_n dX2_misprintsOf_41 (Nat.le_of_ble_eq_true rfl) ?_
  refine zi_iinc dX2_misprintsOf_42 rfl (by decide +kernel : Int32.ofInt (1) = 1) (Nat.le_of_ble_eq_true rfl) ?_
  exact zi_goto (tgt := 4) dX2_misprintsOf_45 (by decide +kernel) kk
theorem sX2_misprintsOf_48 {g : ZG} {Q : ZQ} {d cN sN : Nat} {M : ZM} {l2 : Int32} {o0 o1 o3 : Option Value}  (kk : Q.1 (some (.int l2)) M) : Z g kX2_misprintsOf Q d cN sN M 48 [o0, o1, some (.int l2), o3] [] := by
  refine zi_iload_n dX2_misprintsOf_48 rfl ?_
  exact zi_ireturn dX2_misprintsOf_49 rfl rfl kk
abbrev kX2_bargain : ZK := (RX2, cX2_bargain, 6, (Option.some Jvm.ClassFile.FieldType.int), [], false, fX2)
abbrev tX2_bargain (g : ZG) (args : List Value) (M : ZM) (d c s : Nat) (Q : ZQ) : Prop := Ct g yX2_bargain (ws_ yX2_bargain cX2_bargain 6 (Option.some Jvm.ClassFile.FieldType.int)) args M d c s Q
abbrev nX2_bargain : Nat := 5
theorem mX2_bargain : zMok yX2_bargain 0 6 := ⟨⟨by decide +kernel, by decide +kernel, by decide +kernel⟩, by decide⟩
theorem eX2_bargain {g : ZG} {Q : ZQ} {d cN sN : Nat} {M : ZM} {a0 : Nat} (hV : zV g) (h : Z g kX2_bargain Q d cN sN M 0 [some (.ref a0), none, none, none, none, none] []) : tX2_bargain g [.ref a0] M d cN sN Q := Ct.of (K := kX2_bargain) rfl (by decide +kernel) hV fokX2 rfl (fun h => by cases h) (fun v hv => by simp only [List.mem_cons, List.not_mem_nil, or_false] at hv; rcases hv with rfl <;> first | rfl | assumption) (Nat.le_of_ble_eq_true rfl) h
theorem sX2_bargain_0 {g : ZG} {Q : ZQ} {d cN sN : Nat} {M : ZM} {o0 o1 o2 o3 o4 o5 : Option Value}  (kk : Z g kX2_bargain Q d cN sN M 2 [o0, some (.int ((-1))), o2, o3, o4, o5] []) : Z g kX2_bargain Q d cN sN M 0 [o0, o1, o2, o3, o4, o5] [] := by
  refine zi_iconst dX2_bargain_0 (by decide +kernel : Int32.ofInt (-1) = (-1 : Int32)) ?_
  refine zi_istore_n dX2_bargain_1 (Nat.le_of_ble_eq_true rfl) ?_
  exact kk
theorem sX2_bargain_4 {g : ZG} {Q : ZQ} {d cN sN : Nat} {M : ZM} {t0 : Int32} {o0 o1 o2 o3 o4 o5 : Option Value}  (kk : Z g kX2_bargain Q d cN sN M 7 [o0, o1, some (.int t0), some (.int 0), o4, o5] []) : Z g kX2_bargain Q d cN sN M 4 [o0, o1, o2, o3, o4, o5] [.int t0] := by
  refine zi_istore_n dX2_bargain_4 (Nat.le_of_ble_eq_true rfl) ?_
  refine zi_iconst dX2_bargain_5 (by decide +kernel : Int32.ofInt (0) = (0 : Int32)) ?_
  refine zi_istore_n dX2_bargain_6 (Nat.le_of_ble_eq_true rfl) ?_
  exact kk
theorem sX2_bargain_7 {g : ZG} {Q : ZQ} {d cN sN : Nat} {M : ZM} {l3 : Int32} {l0 : Nat} {fs1 : List Value} {y3 : Int32} {o1 o2 o4 o5 : Option Value} (h2 : M.1 l0 = some (.inr (1, fs1))) (h4 : (fs1)[3]? = some (.int y3)) (kt : (y3 : Int32) ≤ (l3 : Int32) → Z g kX2_bargain Q d cN sN M 97 [some (.ref l0), o1, o2, some (.int l3), o4, o5] []) (kf : ¬ (y3 : Int32) ≤ (l3 : Int32) → Z g kX2_bargain Q d cN sN M 15 [some (.ref l0), o1, o2, some (.int l3), o4, o5] []) : Z g kX2_bargain Q d cN sN M 7 [some (.ref l0), o1, o2, some (.int l3), o4, o5] [] := by
  refine zi_iload_n dX2_bargain_7 rfl ?_
  refine zi_aload_n dX2_bargain_8 rfl zrf_r ?_
  refine zi_getfield dX2_bargain_9 rfl h2 h4 ?_
  exact zi_icmp_ge (tgt := 97) dX2_bargain_12 (by decide +kernel) kt kf
theorem sX2_bargain_15 {g : ZG} {Q : ZQ} {d cN sN : Nat} {M : ZM} {o0 o1 o2 o3 o4 o5 : Option Value}  (kk : Z g kX2_bargain Q d cN sN M 18 [o0, o1, o2, o3, some (.int 0), o5] []) : Z g kX2_bargain Q d cN sN M 15 [o0, o1, o2, o3, o4, o5] [] := by
  refine zi_iconst dX2_bargain_15 (by decide +kernel : Int32.ofInt (0) = (0 : Int32)) ?_
  refine zi_istore dX2_bargain_16 (Nat.le_of_ble_eq_true rfl) ?_
  exact kk
theorem sX2_bargain_18 {g : ZG} {Q : ZQ} {d cN sN : Nat} {M : ZM} {l4 : Int32} {l0 : Nat} {fs1 : List Value} {r3 : Nat} {l3 : Int32} {n5 : Nat} {f6 : Nat → Option Nat} {c7 : ClassId} {r11 : Nat} {fs13 : List Value} {y15 : Int32} {o1 o2 o5 : Option Value} (h2 : M.1 l0 = some (.inr (1, fs1))) (h4 : (fs1)[4]? = some (.ref r3)) (h8 : M.1 r3 = some (.inl (c7, n5, .inr (.inr (.inr (.inr f6)))))) (h9 : zRt g c7) (h10 : vp_in (l3) n5) (h12 : va_rf (f6 ((l3 : Int32).toNatClampNeg)) = .ref r11) (h14 : M.1 r11 = some (.inr (3, fs13))) (h16 : (fs13)[1]? = some (.int y15)) (kt : (y15 : Int32) ≤ (l4 : Int32) → Z g kX2_bargain Q d cN sN M 91 [some (.ref l0), o1, o2, some (.int l3), some (.int l4), o5] []) (kf : ¬ (y15 : Int32) ≤ (l4 : Int32) → Z g kX2_bargain Q d cN sN M 32 [some (.ref l0), o1, o2, some (.int l3), some (.int l4), o5] []) : Z g kX2_bargain Q d cN sN M 18 [some (.ref l0), o1, o2, some (.int l3), some (.int l4), o5] [] := by
  refine zi_iload dX2_bargain_18 rfl ?_
  refine zi_aload_n dX2_bargain_20 rfl zrf_r ?_
  refine zi_getfield dX2_bargain_21 rfl h2 h4 ?_
  refine zi_iload_n dX2_bargain_24 rfl ?_
  refine zi_aaload dX2_bargain_25 h8 h9 h10 h12 ?_
  refine zi_getfield dX2_bargain_26 rfl h14 h16 ?_
  exact zi_icmp_ge (tgt := 91) dX2_bargain_29 (by decide +kernel) kt kf
theorem sX2_bargain_32 {g : ZG} {Q : ZQ} {d cN sN : Nat} {M : ZM} {l0 : Nat} {l3 : Int32} {l4 : Int32} {o1 o2 o5 : Option Value}  (kk : Z g kX2_bargain Q d cN sN M 36 [some (.ref l0), o1, o2, some (.int l3), some (.int l4), o5] [.int l4, .int l3, .ref l0]) : Z g kX2_bargain Q d cN sN M 32 [some (.ref l0), o1, o2, some (.int l3), some (.int l4), o5] [] := by
  refine zi_aload_n dX2_bargain_32 rfl zrf_r ?_
  refine zi_iload_n dX2_bargain_33 rfl ?_
  refine zi_iload dX2_bargain_34 rfl ?_
  exact kk
theorem sX2_bargain_42 {g : ZG} {Q : ZQ} {d cN sN : Nat} {M : ZM} {t0 : Int32} {l0 : Nat} {fs1 : List Value} {r3 : Nat} {l3 : Int32} {n5 : Nat} {f6 : Nat → Option Nat} {c7 : ClassId} {r11 : Nat} {fs13 : List Value} {y15 : Int32} {o1 o2 o4 o5 : Option Value} (h2 : M.1 l0 = some (.inr (1, fs1))) (h4 : (fs1)[4]? = some (.ref r3)) (h8 : M.1 r3 = some (.inl (c7, n5, .inr (.inr (.inr (.inr f6)))))) (h9 : zRt g c7) (h10 : vp_in (l3) n5) (h12 : va_rf (f6 ((l3 : Int32).toNatClampNeg)) = .ref r11) (h14 : M.1 r11 = some (.inr (3, fs13))) (h16 : (fs13)[0]? = some (.int y15)) (kk : Z g kX2_bargain Q d cN sN M 52 [some (.ref l0), o1, o2, some (.int l3), o4, o5] [.int y15, .ref l0, .int t0]) : Z g kX2_bargain Q d cN sN M 42 [some (.ref l0), o1, o2, some (.int l3), o4, o5] [.int t0] := by
  refine zi_aload_n dX2_bargain_42 rfl zrf_r ?_
  refine zi_aload_n dX2_bargain_43 rfl zrf_r ?_
  refine zi_getfield dX2_bargain_44 rfl h2 h4 ?_
  refine zi_iload_n dX2_bargain_47 rfl ?_
  refine zi_aaload dX2_bargain_48 h8 h9 h10 h12 ?_
  refine zi_getfield dX2_bargain_49 rfl h14 h16 ?_
  exact kk
theorem sX2_bargain_55 {g : ZG} {Q : ZQ} {d cN sN : Nat} {M : ZM} {t0 : Int32} {t1 : Int32} {l0 : Nat} {l3 : Int32} {l4 : Int32} {o1 o2 o5 : Option Value}  (kk : Z g kX2_bargain Q d cN sN M 62 [some (.ref l0), o1, o2, some (.int l3), some (.int l4), some (.int (t0 - t1))] [.int l4, .int l3, .ref l0]) : Z g kX2_bargain Q d cN sN M 55 [some (.ref l0), o1, o2, some (.int l3), some (.int l4), o5] [.int t1, .int t0] := by
  refine zi_isub dX2_bargain_55 ?_
  refine zi_istore dX2_bargain_56 (Nat.le_of_ble_eq_true rfl) ?_
  refine zi_aload_n dX2_bargain_58 rfl zrf_r ?_
  refine zi_iload_n dX2_bargain_59 rfl ?_
  refine zi_iload dX2_bargain_60 rfl ?_
  exact kk
theorem sX2_bargain_65 {g : ZG} {Q : ZQ} {d cN sN : Nat} {M : ZM} {t0 : Int32} {o0 o1 o2 o3 o4 o5 : Option Value}  (kt : (t0 : Int32) = 0 → Z g kX2_bargain Q d cN sN M 85 [o0, o1, o2, o3, o4, o5] []) (kf : ¬ (t0 : Int32) = 0 → Z g kX2_bargain Q d cN sN M 68 [o0, o1, o2, o3, o4, o5] []) : Z g kX2_bargain Q d cN sN M 65 [o0, o1, o2, o3, o4, o5] [.int t0] := by
  exact zi_if_eq (tgt := 85) dX2_bargain_65 (by decide +kernel) kt kf
theorem sX2_bargain_68 {g : ZG} {Q : ZQ} {d cN sN : Nat} {M : ZM} {l5 : Int32} {l2 : Int32} {o0 o1 o3 o4 : Option Value}  (kt : (l5 : Int32) ≤ (l2 : Int32) → Z g kX2_bargain Q d cN sN M 85 [o0, o1, some (.int l2), o3, o4, some (.int l5)] []) (kf : ¬ (l5 : Int32) ≤ (l2 : Int32) → Z g kX2_bargain Q d cN sN M 74 [o0, o1, some (.int l2), o3, o4, some (.int l5)] []) : Z g kX2_bargain Q d cN sN M 68 [o0, o1, some (.int l2), o3, o4, some (.int l5)] [] := by
  refine zi_iload dX2_bargain_68 rfl ?_
  refine zi_iload_n dX2_bargain_70 rfl ?_
  exact zi_icmp_le (tgt := 85) dX2_bargain_71 (by decide +kernel) kt kf
theorem sX2_bargain_74 {g : ZG} {Q : ZQ} {d cN sN : Nat} {M : ZM} {l3 : Int32} {l4 : Int32} {l5 : Int32} {o0 o1 o2 : Option Value}  (kk : Z g kX2_bargain Q d cN sN M 85 [o0, some (.int ((8 * l3) + l4)), some (.int l5), some (.int l3), some (.int l4), some (.int l5)] []) : Z g kX2_bargain Q d cN sN M 74 [o0, o1, o2, some (.int l3), some (.int l4), some (.int l5)] [] := by
  refine zi_bipush dX2_bargain_74 (by decide +kernel : (Int8.ofInt (8)).toInt32 = (8 : Int32)) ?_
  refine zi_iload_n dX2_bargain_76 rfl ?_
  refine zi_imul dX2_bargain_77 ?_
  refine zi_iload dX2_bargain_78 rfl ?_
  refine zi_iadd dX2_bargain_80 ?_
  refine zi_istore_n dX2_bargain_81 (Nat.le_of_ble_eq_true rfl) ?_
  refine zi_iload dX2_bargain_82 rfl ?_
  refine zi_istore_n dX2_bargain_84 (Nat.le_of_ble_eq_true rfl) ?_
  exact kk
theorem sX2_bargain_85 {g : ZG} {Q : ZQ} {d cN sN : Nat} {M : ZM} {l4 : Int32} {o0 o1 o2 o3 o5 : Option Value}  (kk : Z g kX2_bargain Q d cN sN M 18 [o0, o1, o2, o3, some (.int (l4 + 1)), o5] []) : Z g kX2_bargain Q d cN sN M 85 [o0, o1, o2, o3, some (.int l4), o5] [] := by
  refine zi_iinc dX2_bargain_85 rfl (by decide +kernel : Int32.ofInt (1) = 1) (Nat.le_of_ble_eq_true rfl) ?_
  exact zi_goto (tgt := 18) dX2_bargain_88 (by decide +kernel) kk
theorem sX2_bargain_91 {g : ZG} {Q : ZQ} {d cN sN : Nat} {M : ZM} {l3 : Int32} {o0 o1 o2 o4 o5 : Option Value}  (kk : Z g kX2_bargain Q d cN sN M 7 [o0, o1, o2, some (.int (l3 + 1)), o4, o5] []) : Z g kX2_bargain Q d cN sN M 91 [o0, o1, o2, some (.int l3), o4, o5] [] := by
  refine zi_iinc dX2_bargain_91 rfl (by decide +kernel : Int32.ofInt (1) = 1) (Nat.le_of_ble_eq_true rfl) ?_
  exact zi_goto (tgt := 7) dX2_bargain_94 (by decide +kernel) kk
theorem sX2_bargain_97 {g : ZG} {Q : ZQ} {d cN sN : Nat} {M : ZM} {l1 : Int32} {o0 o2 o3 o4 o5 : Option Value}  (kk : Q.1 (some (.int l1)) M) : Z g kX2_bargain Q d cN sN M 97 [o0, some (.int l1), o2, o3, o4, o5] [] := by
  refine zi_iload_n dX2_bargain_97 rfl ?_
  exact zi_ireturn dX2_bargain_98 rfl rfl kk
abbrev kX2_couldLicense : ZK := (RX2, cX2_couldLicense, 4, (Option.some Jvm.ClassFile.FieldType.boolean), [], false, fX2)
abbrev tX2_couldLicense (g : ZG) (args : List Value) (M : ZM) (d c s : Nat) (Q : ZQ) : Prop := Ct g yX2_couldLicense (ws_ yX2_couldLicense cX2_couldLicense 4 (Option.some Jvm.ClassFile.FieldType.boolean)) args M d c s Q
abbrev nX2_couldLicense : Nat := 4
theorem mX2_couldLicense : zMok yX2_couldLicense 2 4 := ⟨⟨by decide +kernel, by decide +kernel, by decide +kernel⟩, by decide⟩
theorem eX2_couldLicense {g : ZG} {Q : ZQ} {d cN sN : Nat} {M : ZM} {a0 : Nat} {x1 : Int32} {x2 : Int32} (hV : zV g) (h : Z g kX2_couldLicense Q d cN sN M 0 [some (.ref a0), some (.int x1), some (.int x2), none] []) : tX2_couldLicense g [.ref a0, .int x1, .int x2] M d cN sN Q := Ct.of (K := kX2_couldLicense) rfl (by decide +kernel) hV fokX2 rfl (fun h => by cases h) (fun v hv => by simp only [List.mem_cons, List.not_mem_nil, or_false] at hv; rcases hv with rfl | rfl | rfl <;> first | rfl | assumption) (Nat.le_of_ble_eq_true rfl) h
theorem sX2_couldLicense_0 {g : ZG} {Q : ZQ} {d cN sN : Nat} {M : ZM} {l0 : Nat} {l1 : Int32} {o2 o3 : Option Value}  (kk : Z g kX2_couldLicense Q d cN sN M 2 [some (.ref l0), some (.int l1), o2, o3] [.int l1, .ref l0]) : Z g kX2_couldLicense Q d cN sN M 0 [some (.ref l0), some (.int l1), o2, o3] [] := by
  refine zi_aload_n dX2_couldLicense_0 rfl zrf_r ?_
  refine zi_iload_n dX2_couldLicense_1 rfl ?_
  exact kk
theorem sX2_couldLicense_5 {g : ZG} {Q : ZQ} {d cN sN : Nat} {M : ZM} {t0 : Nat} {l0 : Nat} {fs1 : List Value} {r3 : Nat} {l1 : Int32} {n5 : Nat} {f6 : Nat → Option Nat} {c7 : ClassId} {r11 : Nat} {fs13 : List Value} {r15 : Nat} {l2 : Int32} {n17 : Nat} {f18 : Nat → Int32} {o3 : Option Value} (h2 : M.1 l0 = some (.inr (1, fs1))) (h4 : (fs1)[4]? = some (.ref r3)) (h8 : M.1 r3 = some (.inl (c7, n5, .inr (.inr (.inr (.inr f6)))))) (h9 : zRt g c7) (h10 : vp_in (l1) n5) (h12 : va_rf (f6 ((l1 : Int32).toNatClampNeg)) = .ref r11) (h14 : M.1 r11 = some (.inr (3, fs13))) (h16 : (fs13)[4]? = some (.ref r15)) (h19 : M.1 r15 = some (.inl (zA g 0, n17, .inl f18))) (h20 : vp_in (l2) n17) (kt : ¬ (f18 ((l2 : Int32).toNatClampNeg) : Int32) = (1 : Int32) → Z g kX2_couldLicense Q d cN sN M 52 [some (.ref l0), some (.int l1), some (.int l2), some (.ref t0)] []) (kf : (f18 ((l2 : Int32).toNatClampNeg) : Int32) = (1 : Int32) → Z g kX2_couldLicense Q d cN sN M 21 [some (.ref l0), some (.int l1), some (.int l2), some (.ref t0)] []) : Z g kX2_couldLicense Q d cN sN M 5 [some (.ref l0), some (.int l1), some (.int l2), o3] [.ref t0] := by
  refine zi_astore_n dX2_couldLicense_5 zrf_r (Nat.le_of_ble_eq_true rfl) ?_
  refine zi_aload_n dX2_couldLicense_6 rfl zrf_r ?_
  refine zi_getfield dX2_couldLicense_7 rfl h2 h4 ?_
  refine zi_iload_n dX2_couldLicense_10 rfl ?_
  refine zi_aaload dX2_couldLicense_11 h8 h9 h10 h12 ?_
  refine zi_getfield dX2_couldLicense_12 rfl h14 h16 ?_
  refine zi_iload_n dX2_couldLicense_15 rfl ?_
  refine zi_iaload dX2_couldLicense_16 h19 h20 ?_
  refine zi_iconst dX2_couldLicense_17 (by decide +kernel : Int32.ofInt (1) = (1 : Int32)) ?_
  exact zi_icmp_ne (tgt := 52) dX2_couldLicense_18 (by decide +kernel) kt kf
theorem sX2_couldLicense_21 {g : ZG} {Q : ZQ} {d cN sN : Nat} {M : ZM} {l3 : Nat} {o0 o1 o2 : Option Value}  (kk : Z g kX2_couldLicense Q d cN sN M 22 [o0, o1, o2, some (.ref l3)] [.ref l3]) : Z g kX2_couldLicense Q d cN sN M 21 [o0, o1, o2, some (.ref l3)] [] := by
  refine zi_aload_n dX2_couldLicense_21 rfl zrf_r ?_
  exact kk
theorem sX2_couldLicense_25 {g : ZG} {Q : ZQ} {d cN sN : Nat} {M : ZM} {t0 : Int32} {o0 o1 o2 o3 : Option Value}  (kt : ¬ (t0 : Int32) = 0 → Z g kX2_couldLicense Q d cN sN M 52 [o0, o1, o2, o3] []) (kf : (t0 : Int32) = 0 → Z g kX2_couldLicense Q d cN sN M 28 [o0, o1, o2, o3] []) : Z g kX2_couldLicense Q d cN sN M 25 [o0, o1, o2, o3] [.int t0] := by
  exact zi_if_ne (tgt := 52) dX2_couldLicense_25 (by decide +kernel) kt kf
theorem sX2_couldLicense_28 {g : ZG} {Q : ZQ} {d cN sN : Nat} {M : ZM} {l3 : Nat} {fs1 : List Value} {y3 : Int32} {l0 : Nat} {fs5 : List Value} {r7 : Nat} {l1 : Int32} {n9 : Nat} {f10 : Nat → Option Nat} {c11 : ClassId} {r15 : Nat} {fs17 : List Value} {y19 : Int32} {o2 : Option Value} (h2 : M.1 l3 = some (.inr (2, fs1))) (h4 : (fs1)[0]? = some (.int y3)) (h6 : M.1 l0 = some (.inr (1, fs5))) (h8 : (fs5)[4]? = some (.ref r7)) (h12 : M.1 r7 = some (.inl (c11, n9, .inr (.inr (.inr (.inr f10)))))) (h13 : zRt g c11) (h14 : vp_in (l1) n9) (h16 : va_rf (f10 ((l1 : Int32).toNatClampNeg)) = .ref r15) (h18 : M.1 r15 = some (.inr (3, fs17))) (h20 : (fs17)[0]? = some (.int y19)) (kk : Z g kX2_couldLicense Q d cN sN M 42 [some (.ref l0), some (.int l1), o2, some (.ref l3)] [.int y19, .ref l0, .int y3]) : Z g kX2_couldLicense Q d cN sN M 28 [some (.ref l0), some (.int l1), o2, some (.ref l3)] [] := by
  refine zi_aload_n dX2_couldLicense_28 rfl zrf_r ?_
  refine zi_getfield dX2_couldLicense_29 rfl h2 h4 ?_
  refine zi_aload_n dX2_couldLicense_32 rfl zrf_r ?_
  refine zi_aload_n dX2_couldLicense_33 rfl zrf_r ?_
  refine zi_getfield dX2_couldLicense_34 rfl h6 h8 ?_
  refine zi_iload_n dX2_couldLicense_37 rfl ?_
  refine zi_aaload dX2_couldLicense_38 h12 h13 h14 h16 ?_
  refine zi_getfield dX2_couldLicense_39 rfl h18 h20 ?_
  exact kk
theorem sX2_couldLicense_45 {g : ZG} {Q : ZQ} {d cN sN : Nat} {M : ZM} {t0 : Int32} {t1 : Int32} {o0 o1 o2 o3 : Option Value}  (kt : (t0 : Int32) < (t1 : Int32) → Z g kX2_couldLicense Q d cN sN M 52 [o0, o1, o2, o3] []) (kf : ¬ (t0 : Int32) < (t1 : Int32) → Z g kX2_couldLicense Q d cN sN M 48 [o0, o1, o2, o3] []) : Z g kX2_couldLicense Q d cN sN M 45 [o0, o1, o2, o3] [.int t1, .int t0] := by
  exact zi_icmp_lt (tgt := 52) dX2_couldLicense_45 (by decide +kernel) kt kf
theorem sX2_couldLicense_48 {g : ZG} {Q : ZQ} {d cN sN : Nat} {M : ZM} {o0 o1 o2 o3 : Option Value}  (kk : Z g kX2_couldLicense Q d cN sN M 53 [o0, o1, o2, o3] [.int 1]) : Z g kX2_couldLicense Q d cN sN M 48 [o0, o1, o2, o3] [] := by
  refine zi_iconst dX2_couldLicense_48 (by decide +kernel : Int32.ofInt (1) = (1 : Int32)) ?_
  exact zi_goto (tgt := 53) dX2_couldLicense_49 (by decide +kernel) kk
theorem sX2_couldLicense_52 {g : ZG} {Q : ZQ} {d cN sN : Nat} {M : ZM} {o0 o1 o2 o3 : Option Value}  (kk : Z g kX2_couldLicense Q d cN sN M 53 [o0, o1, o2, o3] [.int 0]) : Z g kX2_couldLicense Q d cN sN M 52 [o0, o1, o2, o3] [] := by
  refine zi_iconst dX2_couldLicense_52 (by decide +kernel : Int32.ofInt (0) = (0 : Int32)) ?_
  exact kk
theorem sX2_couldLicense_53 {g : ZG} {Q : ZQ} {d cN sN : Nat} {M : ZM} {t0 : Int32} {o0 o1 o2 o3 : Option Value} (h1 : t0 = 0 ∨ t0 = 1) (kk : Q.1 (some (.int t0)) M) : Z g kX2_couldLicense Q d cN sN M 53 [o0, o1, o2, o3] [.int t0] := by
  exact zi_ireturn dX2_couldLicense_53 rfl (znar_z h1) kk
abbrev kX2_wouldShame : ZK := (RX2, cX2_wouldShame, 4, (Option.some Jvm.ClassFile.FieldType.int), [], false, fX2)
abbrev tX2_wouldShame (g : ZG) (args : List Value) (M : ZM) (d c s : Nat) (Q : ZQ) : Prop := Ct g yX2_wouldShame (ws_ yX2_wouldShame cX2_wouldShame 4 (Option.some Jvm.ClassFile.FieldType.int)) args M d c s Q
abbrev nX2_wouldShame : Nat := 4
theorem mX2_wouldShame : zMok yX2_wouldShame 1 4 := ⟨⟨by decide +kernel, by decide +kernel, by decide +kernel⟩, by decide⟩
theorem eX2_wouldShame {g : ZG} {Q : ZQ} {d cN sN : Nat} {M : ZM} {a0 : Nat} {x1 : Int32} (hV : zV g) (h : Z g kX2_wouldShame Q d cN sN M 0 [some (.ref a0), some (.int x1), none, none] []) : tX2_wouldShame g [.ref a0, .int x1] M d cN sN Q := Ct.of (K := kX2_wouldShame) rfl (by decide +kernel) hV fokX2 rfl (fun h => by cases h) (fun v hv => by simp only [List.mem_cons, List.not_mem_nil, or_false] at hv; rcases hv with rfl | rfl <;> first | rfl | assumption) (Nat.le_of_ble_eq_true rfl) h
theorem sX2_wouldShame_0 {g : ZG} {Q : ZQ} {d cN sN : Nat} {M : ZM} {o0 o1 o2 o3 : Option Value}  (kk : Z g kX2_wouldShame Q d cN sN M 4 [o0, o1, some (.int 0), some (.int 0)] []) : Z g kX2_wouldShame Q d cN sN M 0 [o0, o1, o2, o3] [] := by
  refine zi_iconst dX2_wouldShame_0 (by decide +kernel : Int32.ofInt (0) = (0 : Int32)) ?_
  refine zi_istore_n dX2_wouldShame_1 (Nat.le_of_ble_eq_true rfl) ?_
  refine zi_iconst dX2_wouldShame_2 (by decide +kernel : Int32.ofInt (0) = (0 : Int32)) ?_
  refine zi_istore_n dX2_wouldShame_3 (Nat.le_of_ble_eq_true rfl) ?_
  exact kk
theorem sX2_wouldShame_4 {g : ZG} {Q : ZQ} {d cN sN : Nat} {M : ZM} {l3 : Int32} {l0 : Nat} {fs1 : List Value} {y3 : Int32} {o1 o2 : Option Value} (h2 : M.1 l0 = some (.inr (1, fs1))) (h4 : (fs1)[3]? = some (.int y3)) (kt : (y3 : Int32) ≤ (l3 : Int32) → Z g kX2_wouldShame Q d cN sN M 47 [some (.ref l0), o1, o2, some (.int l3)] []) (kf : ¬ (y3 : Int32) ≤ (l3 : Int32) → Z g kX2_wouldShame Q d cN sN M 12 [some (.ref l0), o1, o2, some (.int l3)] []) : Z g kX2_wouldShame Q d cN sN M 4 [some (.ref l0), o1, o2, some (.int l3)] [] := by
  refine zi_iload_n dX2_wouldShame_4 rfl ?_
  refine zi_aload_n dX2_wouldShame_5 rfl zrf_r ?_
  refine zi_getfield dX2_wouldShame_6 rfl h2 h4 ?_
  exact zi_icmp_ge (tgt := 47) dX2_wouldShame_9 (by decide +kernel) kt kf
theorem sX2_wouldShame_12 {g : ZG} {Q : ZQ} {d cN sN : Nat} {M : ZM} {l2 : Int32} {l0 : Nat} {fs1 : List Value} {r3 : Nat} {l3 : Int32} {n5 : Nat} {f6 : Nat → Option Nat} {c7 : ClassId} {r11 : Nat} {fs13 : List Value} {y15 : Int32} {l1 : Int32} (h2 : M.1 l0 = some (.inr (1, fs1))) (h4 : (fs1)[4]? = some (.ref r3)) (h8 : M.1 r3 = some (.inl (c7, n5, .inr (.inr (.inr (.inr f6)))))) (h9 : zRt g c7) (h10 : vp_in (l3) n5) (h12 : va_rf (f6 ((l3 : Int32).toNatClampNeg)) = .ref r11) (h14 : M.1 r11 = some (.inr (3, fs13))) (h16 : (fs13)[0]? = some (.int y15)) (kt : ¬ (y15 : Int32) = (l1 : Int32) → Z g kX2_wouldShame Q d cN sN M 38 [some (.ref l0), some (.int l1), some (.int l2), some (.int l3)] [.int l2]) (kf : (y15 : Int32) = (l1 : Int32) → Z g kX2_wouldShame Q d cN sN M 26 [some (.ref l0), some (.int l1), some (.int l2), some (.int l3)] [.int l2]) : Z g kX2_wouldShame Q d cN sN M 12 [some (.ref l0), some (.int l1), some (.int l2), some (.int l3)] [] := by
  refine zi_iload_n dX2_wouldShame_12 rfl ?_
  refine zi_aload_n dX2_wouldShame_13 rfl zrf_r ?_
  refine zi_getfield dX2_wouldShame_14 rfl h2 h4 ?_
  refine zi_iload_n dX2_wouldShame_17 rfl ?_
  refine zi_aaload dX2_wouldShame_18 h8 h9 h10 h12 ?_
  refine zi_getfield dX2_wouldShame_19 rfl h14 h16 ?_
  refine zi_iload_n dX2_wouldShame_22 rfl ?_
  exact zi_icmp_ne (tgt := 38) dX2_wouldShame_23 (by decide +kernel) kt kf
theorem sX2_wouldShame_26 {g : ZG} {Q : ZQ} {d cN sN : Nat} {M : ZM} {t0 : Int32} {l0 : Nat} {fs1 : List Value} {r3 : Nat} {l3 : Int32} {n5 : Nat} {f6 : Nat → Option Nat} {c7 : ClassId} {r11 : Nat} {o1 o2 : Option Value} (h2 : M.1 l0 = some (.inr (1, fs1))) (h4 : (fs1)[4]? = some (.ref r3)) (h8 : M.1 r3 = some (.inl (c7, n5, .inr (.inr (.inr (.inr f6)))))) (h9 : zRt g c7) (h10 : vp_in (l3) n5) (h12 : va_rf (f6 ((l3 : Int32).toNatClampNeg)) = .ref r11) (kk : Z g kX2_wouldShame Q d cN sN M 32 [some (.ref l0), o1, o2, some (.int l3)] [.ref r11, .int t0]) : Z g kX2_wouldShame Q d cN sN M 26 [some (.ref l0), o1, o2, some (.int l3)] [.int t0] := by
  refine zi_aload_n dX2_wouldShame_26 rfl zrf_r ?_
  refine zi_getfield dX2_wouldShame_27 rfl h2 h4 ?_
  refine zi_iload_n dX2_wouldShame_30 rfl ?_
  refine zi_aaload dX2_wouldShame_31 h8 h9 h10 h12 ?_
  exact kk
theorem sX2_wouldShame_35 {g : ZG} {Q : ZQ} {d cN sN : Nat} {M : ZM} {t0 : Int32} {t1 : Int32} {o0 o1 o2 o3 : Option Value}  (kk : Z g kX2_wouldShame Q d cN sN M 39 [o0, o1, o2, o3] [.int t1, .int t0]) : Z g kX2_wouldShame Q d cN sN M 35 [o0, o1, o2, o3] [.int t1, .int t0] := by
  exact zi_goto (tgt := 39) dX2_wouldShame_35 (by decide +kernel) kk
theorem sX2_wouldShame_38 {g : ZG} {Q : ZQ} {d cN sN : Nat} {M : ZM} {t0 : Int32} {o0 o1 o2 o3 : Option Value}  (kk : Z g kX2_wouldShame Q d cN sN M 39 [o0, o1, o2, o3] [.int 0, .int t0]) : Z g kX2_wouldShame Q d cN sN M 38 [o0, o1, o2, o3] [.int t0] := by
  refine zi_iconst dX2_wouldShame_38 (by decide +kernel : Int32.ofInt (0) = (0 : Int32)) ?_
  exact kk
theorem sX2_wouldShame_39 {g : ZG} {Q : ZQ} {d cN sN : Nat} {M : ZM} {t0 : Int32} {t1 : Int32} {l3 : Int32} {o0 o1 o2 : Option Value}  (kk : Z g kX2_wouldShame Q d cN sN M 4 [o0, o1, some (.int (t0 + t1)), some (.int (l3 + 1))] []) : Z g kX2_wouldShame Q d cN sN M 39 [o0, o1, o2, some (.int l3)] [.int t1, .int t0] := by
  refine zi_iadd dX2_wouldShame_39 ?_
  refine zi_istore_n dX2_wouldShame_40 (Nat.le_of_ble_eq_true rfl) ?_
  refine zi_iinc dX2_wouldShame_41 rfl (by decide +kernel : Int32.ofInt (1) = 1) (Nat.le_of_ble_eq_true rfl) ?_
  exact zi_goto (tgt := 4) dX2_wouldShame_44 (by decide +kernel) kk
theorem sX2_wouldShame_47 {g : ZG} {Q : ZQ} {d cN sN : Nat} {M : ZM} {l0 : Nat} {fs1 : List Value} {r3 : Nat} {l1 : Int32} {n5 : Nat} {f6 : Nat → Option Nat} {c7 : ClassId} {r11 : Nat} {fs13 : List Value} {y15 : Int32} {l2 : Int32} {o3 : Option Value} (h2 : M.1 l0 = some (.inr (1, fs1))) (h4 : (fs1)[2]? = some (.ref r3)) (h8 : M.1 r3 = some (.inl (c7, n5, .inr (.inr (.inr (.inr f6)))))) (h9 : zRt g c7) (h10 : vp_in (l1) n5) (h12 : va_rf (f6 ((l1 : Int32).toNatClampNeg)) = .ref r11) (h14 : M.1 r11 = some (.inr (2, fs13))) (h16 : (fs13)[1]? = some (.int y15)) (kk : Z g kX2_wouldShame Q d cN sN M 60 [some (.ref l0), some (.int l1), some (.int l2), o3] [.int (y15 + l2), .int 99]) : Z g kX2_wouldShame Q d cN sN M 47 [some (.ref l0), some (.int l1), some (.int l2), o3] [] := by
  refine zi_bipush dX2_wouldShame_47 (by decide +kernel : (Int8.ofInt (99)).toInt32 = (99 : Int32)) ?_
  refine zi_aload_n dX2_wouldShame_49 rfl zrf_r ?_
  refine zi_getfield dX2_wouldShame_50 rfl h2 h4 ?_
  refine zi_iload_n dX2_wouldShame_53 rfl ?_
  refine zi_aaload dX2_wouldShame_54 h8 h9 h10 h12 ?_
  refine zi_getfield dX2_wouldShame_55 rfl h14 h16 ?_
  refine zi_iload_n dX2_wouldShame_58 rfl ?_
  refine zi_iadd dX2_wouldShame_59 ?_
  exact kk
theorem sX2_wouldShame_63 {g : ZG} {Q : ZQ} {d cN sN : Nat} {M : ZM} {t0 : Int32} {o0 o1 o2 o3 : Option Value}  (kk : Q.1 (some (.int t0)) M) : Z g kX2_wouldShame Q d cN sN M 63 [o0, o1, o2, o3] [.int t0] := by
  exact zi_ireturn dX2_wouldShame_63 rfl rfl kk
abbrev kX2_nearest : ZK := (RX2, cX2_nearest, 4, (Option.some Jvm.ClassFile.FieldType.int), [], false, fX2)
abbrev tX2_nearest (g : ZG) (args : List Value) (M : ZM) (d c s : Nat) (Q : ZQ) : Prop := Ct g yX2_nearest (ws_ yX2_nearest cX2_nearest 4 (Option.some Jvm.ClassFile.FieldType.int)) args M d c s Q
abbrev nX2_nearest : Nat := 3
theorem mX2_nearest : zMok yX2_nearest 1 4 := ⟨⟨by decide +kernel, by decide +kernel, by decide +kernel⟩, by decide⟩
theorem eX2_nearest {g : ZG} {Q : ZQ} {d cN sN : Nat} {M : ZM} {a0 : Nat} {x1 : Int32} (hV : zV g) (h : Z g kX2_nearest Q d cN sN M 0 [some (.ref a0), some (.int x1), none, none] []) : tX2_nearest g [.ref a0, .int x1] M d cN sN Q := Ct.of (K := kX2_nearest) rfl (by decide +kernel) hV fokX2 rfl (fun h => by cases h) (fun v hv => by simp only [List.mem_cons, List.not_mem_nil, or_false] at hv; rcases hv with rfl | rfl <;> first | rfl | assumption) (Nat.le_of_ble_eq_true rfl) h
theorem sX2_nearest_0 {g : ZG} {Q : ZQ} {d cN sN : Nat} {M : ZM} {o0 o1 o2 o3 : Option Value}  (kk : Z g kX2_nearest Q d cN sN M 4 [o0, o1, some (.int 0), some (.int 1)] []) : Z g kX2_nearest Q d cN sN M 0 [o0, o1, o2, o3] [] := by
  refine zi_iconst dX2_nearest_0 (by decide +kernel : Int32.ofInt (0) = (0 : Int32)) ?_
  refine zi_istore_n dX2_nearest_1 (Nat.le_of_ble_eq_true rfl) ?_
  refine zi_iconst dX2_nearest_2 (by decide +kernel : Int32.ofInt (1) = (1 : Int32)) ?_
  refine zi_istore_n dX2_nearest_3 (Nat.le_of_ble_eq_true rfl) ?_
  exact kk
theorem sX2_nearest_4 {g : ZG} {Q : ZQ} {d cN sN : Nat} {M : ZM} {l3 : Int32} {l0 : Nat} {fs1 : List Value} {y3 : Int32} {o1 o2 : Option Value} (h2 : M.1 l0 = some (.inr (1, fs1))) (h4 : (fs1)[3]? = some (.int y3)) (kt : (y3 : Int32) ≤ (l3 : Int32) → Z g kX2_nearest Q d cN sN M 57 [some (.ref l0), o1, o2, some (.int l3)] []) (kf : ¬ (y3 : Int32) ≤ (l3 : Int32) → Z g kX2_nearest Q d cN sN M 12 [some (.ref l0), o1, o2, some (.int l3)] []) : Z g kX2_nearest Q d cN sN M 4 [some (.ref l0), o1, o2, some (.int l3)] [] := by
  refine zi_iload_n dX2_nearest_4 rfl ?_
  refine zi_aload_n dX2_nearest_5 rfl zrf_r ?_
  refine zi_getfield dX2_nearest_6 rfl h2 h4 ?_
  exact zi_icmp_ge (tgt := 57) dX2_nearest_9 (by decide +kernel) kt kf
theorem sX2_nearest_12 {g : ZG} {Q : ZQ} {d cN sN : Nat} {M : ZM} {l0 : Nat} {fs1 : List Value} {r3 : Nat} {l1 : Int32} {n5 : Nat} {f6 : Nat → Option Nat} {c7 : ClassId} {r11 : Nat} {l3 : Int32} {r14 : Nat} {o2 : Option Value} (h2 : M.1 l0 = some (.inr (1, fs1))) (h4 : (fs1)[4]? = some (.ref r3)) (h8 : M.1 r3 = some (.inl (c7, n5, .inr (.inr (.inr (.inr f6)))))) (h9 : zRt g c7) (h10 : vp_in (l1) n5) (h12 : va_rf (f6 ((l1 : Int32).toNatClampNeg)) = .ref r11) (h13 : vp_in (l3) n5) (h15 : va_rf (f6 ((l3 : Int32).toNatClampNeg)) = .ref r14) (kk : Z g kX2_nearest Q d cN sN M 24 [some (.ref l0), some (.int l1), o2, some (.int l3)] [.ref r14, .ref r11]) : Z g kX2_nearest Q d cN sN M 12 [some (.ref l0), some (.int l1), o2, some (.int l3)] [] := by
  refine zi_aload_n dX2_nearest_12 rfl zrf_r ?_
  refine zi_getfield dX2_nearest_13 rfl h2 h4 ?_
  refine zi_iload_n dX2_nearest_16 rfl ?_
  refine zi_aaload dX2_nearest_17 h8 h9 h10 h12 ?_
  refine zi_aload_n dX2_nearest_18 rfl zrf_r ?_
  refine zi_getfield dX2_nearest_19 rfl h2 h4 ?_
  refine zi_iload_n dX2_nearest_22 rfl ?_
  refine zi_aaload dX2_nearest_23 h8 h9 h13 h15 ?_
  exact kk
theorem sX2_nearest_27 {g : ZG} {Q : ZQ} {d cN sN : Nat} {M : ZM} {t0 : Int32} {l0 : Nat} {fs1 : List Value} {r3 : Nat} {l1 : Int32} {n5 : Nat} {f6 : Nat → Option Nat} {c7 : ClassId} {r11 : Nat} {l2 : Int32} {r14 : Nat} {o3 : Option Value} (h2 : M.1 l0 = some (.inr (1, fs1))) (h4 : (fs1)[4]? = some (.ref r3)) (h8 : M.1 r3 = some (.inl (c7, n5, .inr (.inr (.inr (.inr f6)))))) (h9 : zRt g c7) (h10 : vp_in (l1) n5) (h12 : va_rf (f6 ((l1 : Int32).toNatClampNeg)) = .ref r11) (h13 : vp_in (l2) n5) (h15 : va_rf (f6 ((l2 : Int32).toNatClampNeg)) = .ref r14) (kk : Z g kX2_nearest Q d cN sN M 39 [some (.ref l0), some (.int l1), some (.int l2), o3] [.ref r14, .ref r11, .int t0]) : Z g kX2_nearest Q d cN sN M 27 [some (.ref l0), some (.int l1), some (.int l2), o3] [.int t0] := by
  refine zi_aload_n dX2_nearest_27 rfl zrf_r ?_
  refine zi_getfield dX2_nearest_28 rfl h2 h4 ?_
  refine zi_iload_n dX2_nearest_31 rfl ?_
  refine zi_aaload dX2_nearest_32 h8 h9 h10 h12 ?_
  refine zi_aload_n dX2_nearest_33 rfl zrf_r ?_
  refine zi_getfield dX2_nearest_34 rfl h2 h4 ?_
  refine zi_iload_n dX2_nearest_37 rfl ?_
  refine zi_aaload dX2_nearest_38 h8 h9 h13 h15 ?_
  exact kk
theorem sX2_nearest_42 {g : ZG} {Q : ZQ} {d cN sN : Nat} {M : ZM} {t0 : Int32} {t1 : Int32} {o0 o1 o2 o3 : Option Value}  (kt : (t1 : Int32) ≤ (t0 : Int32) → Z g kX2_nearest Q d cN sN M 49 [o0, o1, o2, o3] []) (kf : ¬ (t1 : Int32) ≤ (t0 : Int32) → Z g kX2_nearest Q d cN sN M 45 [o0, o1, o2, o3] []) : Z g kX2_nearest Q d cN sN M 42 [o0, o1, o2, o3] [.int t1, .int t0] := by
  exact zi_icmp_ge (tgt := 49) dX2_nearest_42 (by decide +kernel) kt kf
theorem sX2_nearest_45 {g : ZG} {Q : ZQ} {d cN sN : Nat} {M : ZM} {l3 : Int32} {o0 o1 o2 : Option Value}  (kk : Z g kX2_nearest Q d cN sN M 50 [o0, o1, o2, some (.int l3)] [.int l3]) : Z g kX2_nearest Q d cN sN M 45 [o0, o1, o2, some (.int l3)] [] := by
  refine zi_iload_n dX2_nearest_45 rfl ?_
  exact zi_goto (tgt := 50) dX2_nearest_46 (by decide +kernel) kk
theorem sX2_nearest_49 {g : ZG} {Q : ZQ} {d cN sN : Nat} {M : ZM} {l2 : Int32} {o0 o1 o3 : Option Value}  (kk : Z g kX2_nearest Q d cN sN M 50 [o0, o1, some (.int l2), o3] [.int l2]) : Z g kX2_nearest Q d cN sN M 49 [o0, o1, some (.int l2), o3] [] := by
  refine zi_iload_n dX2_nearest_49 rfl ?_
  exact kk
theorem sX2_nearest_50 {g : ZG} {Q : ZQ} {d cN sN : Nat} {M : ZM} {t0 : Int32} {l3 : Int32} {o0 o1 o2 : Option Value}  (kk : Z g kX2_nearest Q d cN sN M 4 [o0, o1, some (.int t0), some (.int (l3 + 1))] []) : Z g kX2_nearest Q d cN sN M 50 [o0, o1, o2, some (.int l3)] [.int t0] := by
  refine zi_istore_n dX2_nearest_50 (Nat.le_of_ble_eq_true rfl) ?_
  refine zi_iinc dX2_nearest_51 rfl (by decide +kernel : Int32.ofInt (1) = 1) (Nat.le_of_ble_eq_true rfl) ?_
  exact zi_goto (tgt := 4) dX2_nearest_54 (by decide +kernel) kk
theorem sX2_nearest_57 {g : ZG} {Q : ZQ} {d cN sN : Nat} {M : ZM} {l2 : Int32} {o0 o1 o3 : Option Value}  (kk : Q.1 (some (.int l2)) M) : Z g kX2_nearest Q d cN sN M 57 [o0, o1, some (.int l2), o3] [] := by
  refine zi_iload_n dX2_nearest_57 rfl ?_
  exact zi_ireturn dX2_nearest_58 rfl rfl kk
abbrev kX2_ashamed : ZK := (RX2, cX2_ashamed, 6, (Option.some Jvm.ClassFile.FieldType.int), [], false, fX2)
abbrev tX2_ashamed (g : ZG) (args : List Value) (M : ZM) (d c s : Nat) (Q : ZQ) : Prop := Ct g yX2_ashamed (ws_ yX2_ashamed cX2_ashamed 6 (Option.some Jvm.ClassFile.FieldType.int)) args M d c s Q
abbrev nX2_ashamed : Nat := 1
theorem mX2_ashamed : zMok yX2_ashamed 1 6 := ⟨⟨by decide +kernel, by decide +kernel, by decide +kernel⟩, by decide⟩
theorem eX2_ashamed {g : ZG} {Q : ZQ} {d cN sN : Nat} {M : ZM} {a0 : Nat} {x1 : Int32} (hV : zV g) (h : Z g kX2_ashamed Q d cN sN M 0 [some (.ref a0), some (.int x1), none, none, none, none] []) : tX2_ashamed g [.ref a0, .int x1] M d cN sN Q := Ct.of (K := kX2_ashamed) rfl (by decide +kernel) hV fokX2 rfl (fun h => by cases h) (fun v hv => by simp only [List.mem_cons, List.not_mem_nil, or_false] at hv; rcases hv with rfl | rfl <;> first | rfl | assumption) (Nat.le_of_ble_eq_true rfl) h
theorem sX2_ashamed_0 {g : ZG} {Q : ZQ} {d cN sN : Nat} {M : ZM} {o0 o1 o2 o3 o4 o5 : Option Value}  (kk : Z g kX2_ashamed Q d cN sN M 2 [o0, o1, some (.int 0), o3, o4, o5] []) : Z g kX2_ashamed Q d cN sN M 0 [o0, o1, o2, o3, o4, o5] [] := by
  refine zi_iconst dX2_ashamed_0 (by decide +kernel : Int32.ofInt (0) = (0 : Int32)) ?_
  refine zi_istore_n dX2_ashamed_1 (Nat.le_of_ble_eq_true rfl) ?_
  exact kk
theorem sX2_ashamed_2 {g : ZG} {Q : ZQ} {d cN sN : Nat} {M : ZM} {l2 : Int32} {l0 : Nat} {fs1 : List Value} {y3 : Int32} {o1 o3 o4 o5 : Option Value} (h2 : M.1 l0 = some (.inr (1, fs1))) (h4 : (fs1)[1]? = some (.int y3)) (kt : (y3 : Int32) ≤ (l2 : Int32) → Z g kX2_ashamed Q d cN sN M 134 [some (.ref l0), o1, some (.int l2), o3, o4, o5] []) (kf : ¬ (y3 : Int32) ≤ (l2 : Int32) → Z g kX2_ashamed Q d cN sN M 10 [some (.ref l0), o1, some (.int l2), o3, o4, o5] []) : Z g kX2_ashamed Q d cN sN M 2 [some (.ref l0), o1, some (.int l2), o3, o4, o5] [] := by
  refine zi_iload_n dX2_ashamed_2 rfl ?_
  refine zi_aload_n dX2_ashamed_3 rfl zrf_r ?_
  refine zi_getfield dX2_ashamed_4 rfl h2 h4 ?_
  exact zi_icmp_ge (tgt := 134) dX2_ashamed_7 (by decide +kernel) kt kf
theorem sX2_ashamed_10 {g : ZG} {Q : ZQ} {d cN sN : Nat} {M : ZM} {o0 o1 o2 o3 o4 o5 : Option Value}  (kk : Z g kX2_ashamed Q d cN sN M 15 [o0, o1, o2, some (.int 0), some (.int 0), o5] []) : Z g kX2_ashamed Q d cN sN M 10 [o0, o1, o2, o3, o4, o5] [] := by
  refine zi_iconst dX2_ashamed_10 (by decide +kernel : Int32.ofInt (0) = (0 : Int32)) ?_
  refine zi_istore_n dX2_ashamed_11 (Nat.le_of_ble_eq_true rfl) ?_
  refine zi_iconst dX2_ashamed_12 (by decide +kernel : Int32.ofInt (0) = (0 : Int32)) ?_
  refine zi_istore dX2_ashamed_13 (Nat.le_of_ble_eq_true rfl) ?_
  exact kk
theorem sX2_ashamed_15 {g : ZG} {Q : ZQ} {d cN sN : Nat} {M : ZM} {l4 : Int32} {l0 : Nat} {fs1 : List Value} {y3 : Int32} {o1 o2 o3 o5 : Option Value} (h2 : M.1 l0 = some (.inr (1, fs1))) (h4 : (fs1)[1]? = some (.int y3)) (kt : (y3 : Int32) ≤ (l4 : Int32) → Z g kX2_ashamed Q d cN sN M 121 [some (.ref l0), o1, o2, o3, some (.int l4), o5] []) (kf : ¬ (y3 : Int32) ≤ (l4 : Int32) → Z g kX2_ashamed Q d cN sN M 24 [some (.ref l0), o1, o2, o3, some (.int l4), o5] []) : Z g kX2_ashamed Q d cN sN M 15 [some (.ref l0), o1, o2, o3, some (.int l4), o5] [] := by
  refine zi_iload dX2_ashamed_15 rfl ?_
  refine zi_aload_n dX2_ashamed_17 rfl zrf_r ?_
  refine zi_getfield dX2_ashamed_18 rfl h2 h4 ?_
  exact zi_icmp_ge (tgt := 121) dX2_ashamed_21 (by decide +kernel) kt kf
theorem sX2_ashamed_24 {g : ZG} {Q : ZQ} {d cN sN : Nat} {M : ZM} {l0 : Nat} {fs1 : List Value} {r3 : Nat} {l4 : Int32} {n5 : Nat} {f6 : Nat → Option Nat} {c7 : ClassId} {r11 : Nat} {fs13 : List Value} {y15 : Int32} {l2 : Int32} {r18 : Nat} {fs20 : List Value} {y22 : Int32} {o1 o3 o5 : Option Value} (h2 : M.1 l0 = some (.inr (1, fs1))) (h4 : (fs1)[2]? = some (.ref r3)) (h8 : M.1 r3 = some (.inl (c7, n5, .inr (.inr (.inr (.inr f6)))))) (h9 : zRt g c7) (h10 : vp_in (l4) n5) (h12 : va_rf (f6 ((l4 : Int32).toNatClampNeg)) = .ref r11) (h14 : M.1 r11 = some (.inr (2, fs13))) (h16 : (fs13)[1]? = some (.int y15)) (h17 : vp_in (l2) n5) (h19 : va_rf (f6 ((l2 : Int32).toNatClampNeg)) = .ref r18) (h21 : M.1 r18 = some (.inr (2, fs20))) (h23 : (fs20)[1]? = some (.int y22)) (kt : (y15 : Int32) = (y22 : Int32) → Z g kX2_ashamed Q d cN sN M 69 [some (.ref l0), o1, some (.int l2), o3, some (.int l4), o5] []) (kf : ¬ (y15 : Int32) = (y22 : Int32) → Z g kX2_ashamed Q d cN sN M 46 [some (.ref l0), o1, some (.int l2), o3, some (.int l4), o5] []) : Z g kX2_ashamed Q d cN sN M 24 [some (.ref l0), o1, some (.int l2), o3, some (.int l4), o5] [] := by
  refine zi_aload_n dX2_ashamed_24 rfl zrf_r ?_
  refine zi_getfield dX2_ashamed_25 rfl h2 h4 ?_
  refine zi_iload dX2_ashamed_28 rfl ?_
  refine zi_aaload dX2_ashamed_30 h8 h9 h10 h12 ?_
  refine zi_getfield dX2_ashamed_31 rfl h14 h16 ?_
  refine zi_aload_n dX2_ashamed_34 rfl zrf_r ?_
  refine zi_getfield dX2_ashamed_35 rfl h2 h4 ?_
  refine zi_iload_n dX2_ashamed_38 rfl ?_
  refine zi_aaload dX2_ashamed_39 h8 h9 h17 h19 ?_
  refine zi_getfield dX2_ashamed_40 rfl h21 h23 ?_
  exact zi_icmp_eq (tgt := 69) dX2_ashamed_43 (by decide +kernel) kt kf
theorem sX2_ashamed_46 {g : ZG} {Q : ZQ} {d cN sN : Nat} {M : ZM} {l0 : Nat} {fs1 : List Value} {r3 : Nat} {l4 : Int32} {n5 : Nat} {f6 : Nat → Option Nat} {c7 : ClassId} {r11 : Nat} {fs13 : List Value} {y15 : Int32} {l2 : Int32} {r18 : Nat} {fs20 : List Value} {y22 : Int32} {o1 o3 o5 : Option Value} (h2 : M.1 l0 = some (.inr (1, fs1))) (h4 : (fs1)[2]? = some (.ref r3)) (h8 : M.1 r3 = some (.inl (c7, n5, .inr (.inr (.inr (.inr f6)))))) (h9 : zRt g c7) (h10 : vp_in (l4) n5) (h12 : va_rf (f6 ((l4 : Int32).toNatClampNeg)) = .ref r11) (h14 : M.1 r11 = some (.inr (2, fs13))) (h16 : (fs13)[1]? = some (.int y15)) (h17 : vp_in (l2) n5) (h19 : va_rf (f6 ((l2 : Int32).toNatClampNeg)) = .ref r18) (h21 : M.1 r18 = some (.inr (2, fs20))) (h23 : (fs20)[1]? = some (.int y22)) (kk : Z g kX2_ashamed Q d cN sN M 89 [some (.ref l0), o1, some (.int l2), o3, some (.int l4), o5] [.int (y15 - y22)]) : Z g kX2_ashamed Q d cN sN M 46 [some (.ref l0), o1, some (.int l2), o3, some (.int l4), o5] [] := by
  refine zi_aload_n dX2_ashamed_46 rfl zrf_r ?_
  refine zi_getfield dX2_ashamed_47 rfl h2 h4 ?_
  refine zi_iload dX2_ashamed_50 rfl ?_
  refine zi_aaload dX2_ashamed_52 h8 h9 h10 h12 ?_
  refine zi_getfield dX2_ashamed_53 rfl h14 h16 ?_
  refine zi_aload_n dX2_ashamed_56 rfl zrf_r ?_
  refine zi_getfield dX2_ashamed_57 rfl h2 h4 ?_
  refine zi_iload_n dX2_ashamed_60 rfl ?_
  refine zi_aaload dX2_ashamed_61 h8 h9 h17 h19 ?_
  refine zi_getfield dX2_ashamed_62 rfl h21 h23 ?_
  refine zi_isub dX2_ashamed_65 ?_
  exact zi_goto (tgt := 89) dX2_ashamed_66 (by decide +kernel) kk
theorem sX2_ashamed_69 {g : ZG} {Q : ZQ} {d cN sN : Nat} {M : ZM} {l0 : Nat} {fs1 : List Value} {r3 : Nat} {l2 : Int32} {n5 : Nat} {f6 : Nat → Option Nat} {c7 : ClassId} {r11 : Nat} {fs13 : List Value} {y15 : Int32} {l4 : Int32} {r18 : Nat} {fs20 : List Value} {y22 : Int32} {o1 o3 o5 : Option Value} (h2 : M.1 l0 = some (.inr (1, fs1))) (h4 : (fs1)[2]? = some (.ref r3)) (h8 : M.1 r3 = some (.inl (c7, n5, .inr (.inr (.inr (.inr f6)))))) (h9 : zRt g c7) (h10 : vp_in (l2) n5) (h12 : va_rf (f6 ((l2 : Int32).toNatClampNeg)) = .ref r11) (h14 : M.1 r11 = some (.inr (2, fs13))) (h16 : (fs13)[0]? = some (.int y15)) (h17 : vp_in (l4) n5) (h19 : va_rf (f6 ((l4 : Int32).toNatClampNeg)) = .ref r18) (h21 : M.1 r18 = some (.inr (2, fs20))) (h23 : (fs20)[0]? = some (.int y22)) (kk : Z g kX2_ashamed Q d cN sN M 89 [some (.ref l0), o1, some (.int l2), o3, some (.int l4), o5] [.int (y15 - y22)]) : Z g kX2_ashamed Q d cN sN M 69 [some (.ref l0), o1, some (.int l2), o3, some (.int l4), o5] [] := by
  refine zi_aload_n dX2_ashamed_69 rfl zrf_r ?_
  refine zi_getfield dX2_ashamed_70 rfl h2 h4 ?_
  refine zi_iload_n dX2_ashamed_73 rfl ?_
  refine zi_aaload dX2_ashamed_74 h8 h9 h10 h12 ?_
  refine zi_getfield dX2_ashamed_75 rfl h14 h16 ?_
  refine zi_aload_n dX2_ashamed_78 rfl zrf_r ?_
  refine zi_getfield dX2_ashamed_79 rfl h2 h4 ?_
  refine zi_iload dX2_ashamed_82 rfl ?_
  refine zi_aaload dX2_ashamed_84 h8 h9 h17 h19 ?_
  refine zi_getfield dX2_ashamed_85 rfl h21 h23 ?_
  refine zi_isub dX2_ashamed_88 ?_
  exact kk
theorem sX2_ashamed_89 {g : ZG} {Q : ZQ} {d cN sN : Nat} {M : ZM} {t0 : Int32} {l3 : Int32} {o0 o1 o2 o4 o5 : Option Value}  (kt : 0 < (t0 : Int32) → Z g kX2_ashamed Q d cN sN M 108 [o0, o1, o2, some (.int l3), o4, some (.int t0)] [.int l3]) (kf : ¬ 0 < (t0 : Int32) → Z g kX2_ashamed Q d cN sN M 97 [o0, o1, o2, some (.int l3), o4, some (.int t0)] [.int l3]) : Z g kX2_ashamed Q d cN sN M 89 [o0, o1, o2, some (.int l3), o4, o5] [.int t0] := by
  refine zi_istore dX2_ashamed_89 (Nat.le_of_ble_eq_true rfl) ?_
  refine zi_iload_n dX2_ashamed_91 rfl ?_
  refine zi_iload dX2_ashamed_92 rfl ?_
  exact zi_if_gt (tgt := 108) dX2_ashamed_94 (by decide +kernel) kt kf
theorem sX2_ashamed_97 {g : ZG} {Q : ZQ} {d cN sN : Nat} {M : ZM} {t0 : Int32} {l5 : Int32} {o0 o1 o2 o3 o4 : Option Value}  (kt : ¬ (l5 : Int32) = 0 → Z g kX2_ashamed Q d cN sN M 112 [o0, o1, o2, o3, o4, some (.int l5)] [.int t0]) (kf : (l5 : Int32) = 0 → Z g kX2_ashamed Q d cN sN M 102 [o0, o1, o2, o3, o4, some (.int l5)] [.int t0]) : Z g kX2_ashamed Q d cN sN M 97 [o0, o1, o2, o3, o4, some (.int l5)] [.int t0] := by
  refine zi_iload dX2_ashamed_97 rfl ?_
  exact zi_if_ne (tgt := 112) dX2_ashamed_99 (by decide +kernel) kt kf
theorem sX2_ashamed_102 {g : ZG} {Q : ZQ} {d cN sN : Nat} {M : ZM} {t0 : Int32} {l4 : Int32} {l2 : Int32} {o0 o1 o3 o5 : Option Value}  (kt : (l2 : Int32) ≤ (l4 : Int32) → Z g kX2_ashamed Q d cN sN M 112 [o0, o1, some (.int l2), o3, some (.int l4), o5] [.int t0]) (kf : ¬ (l2 : Int32) ≤ (l4 : Int32) → Z g kX2_ashamed Q d cN sN M 108 [o0, o1, some (.int l2), o3, some (.int l4), o5] [.int t0]) : Z g kX2_ashamed Q d cN sN M 102 [o0, o1, some (.int l2), o3, some (.int l4), o5] [.int t0] := by
  refine zi_iload dX2_ashamed_102 rfl ?_
  refine zi_iload_n dX2_ashamed_104 rfl ?_
  exact zi_icmp_ge (tgt := 112) dX2_ashamed_105 (by decide +kernel) kt kf
theorem sX2_ashamed_108 {g : ZG} {Q : ZQ} {d cN sN : Nat} {M : ZM} {t0 : Int32} {o0 o1 o2 o3 o4 o5 : Option Value}  (kk : Z g kX2_ashamed Q d cN sN M 113 [o0, o1, o2, o3, o4, o5] [.int 1, .int t0]) : Z g kX2_ashamed Q d cN sN M 108 [o0, o1, o2, o3, o4, o5] [.int t0] := by
  refine zi_iconst dX2_ashamed_108 (by decide +kernel : Int32.ofInt (1) = (1 : Int32)) ?_
  exact zi_goto (tgt := 113) dX2_ashamed_109 (by decide +kernel) kk
theorem sX2_ashamed_112 {g : ZG} {Q : ZQ} {d cN sN : Nat} {M : ZM} {t0 : Int32} {o0 o1 o2 o3 o4 o5 : Option Value}  (kk : Z g kX2_ashamed Q d cN sN M 113 [o0, o1, o2, o3, o4, o5] [.int 0, .int t0]) : Z g kX2_ashamed Q d cN sN M 112 [o0, o1, o2, o3, o4, o5] [.int t0] := by
  refine zi_iconst dX2_ashamed_112 (by decide +kernel : Int32.ofInt (0) = (0 : Int32)) ?_
  exact kk
theorem sX2_ashamed_113 {g : ZG} {Q : ZQ} {d cN sN : Nat} {M : ZM} {t0 : Int32} {t1 : Int32} {l4 : Int32} {o0 o1 o2 o3 o5 : Option Value}  (kk : Z g kX2_ashamed Q d cN sN M 15 [o0, o1, o2, some (.int (t0 + t1)), some (.int (l4 + 1)), o5] []) : Z g kX2_ashamed Q d cN sN M 113 [o0, o1, o2, o3, some (.int l4), o5] [.int t1, .int t0] := by
  refine zi_iadd dX2_ashamed_113 ?_
  refine zi_istore_n dX2_ashamed_114 (Nat.le_of_ble_eq_true rfl) ?_
  refine zi_iinc dX2_ashamed_115 rfl (by decide +kernel : Int32.ofInt (1) = 1) (Nat.le_of_ble_eq_true rfl) ?_
  exact zi_goto (tgt := 15) dX2_ashamed_118 (by decide +kernel) kk
theorem sX2_ashamed_121 {g : ZG} {Q : ZQ} {d cN sN : Nat} {M : ZM} {l3 : Int32} {l1 : Int32} {o0 o2 o4 o5 : Option Value}  (kt : ¬ (l3 : Int32) = (l1 : Int32) → Z g kX2_ashamed Q d cN sN M 128 [o0, some (.int l1), o2, some (.int l3), o4, o5] []) (kf : (l3 : Int32) = (l1 : Int32) → Z g kX2_ashamed Q d cN sN M 126 [o0, some (.int l1), o2, some (.int l3), o4, o5] []) : Z g kX2_ashamed Q d cN sN M 121 [o0, some (.int l1), o2, some (.int l3), o4, o5] [] := by
  refine zi_iload_n dX2_ashamed_121 rfl ?_
  refine zi_iload_n dX2_ashamed_122 rfl ?_
  exact zi_icmp_ne (tgt := 128) dX2_ashamed_123 (by decide +kernel) kt kf
theorem sX2_ashamed_126 {g : ZG} {Q : ZQ} {d cN sN : Nat} {M : ZM} {l2 : Int32} {o0 o1 o3 o4 o5 : Option Value}  (kk : Q.1 (some (.int l2)) M) : Z g kX2_ashamed Q d cN sN M 126 [o0, o1, some (.int l2), o3, o4, o5] [] := by
  refine zi_iload_n dX2_ashamed_126 rfl ?_
  exact zi_ireturn dX2_ashamed_127 rfl rfl kk
theorem sX2_ashamed_128 {g : ZG} {Q : ZQ} {d cN sN : Nat} {M : ZM} {l2 : Int32} {o0 o1 o3 o4 o5 : Option Value}  (kk : Z g kX2_ashamed Q d cN sN M 2 [o0, o1, some (.int (l2 + 1)), o3, o4, o5] []) : Z g kX2_ashamed Q d cN sN M 128 [o0, o1, some (.int l2), o3, o4, o5] [] := by
  refine zi_iinc dX2_ashamed_128 rfl (by decide +kernel : Int32.ofInt (1) = 1) (Nat.le_of_ble_eq_true rfl) ?_
  exact zi_goto (tgt := 2) dX2_ashamed_131 (by decide +kernel) kk
theorem sX2_ashamed_134 {g : ZG} {Q : ZQ} {d cN sN : Nat} {M : ZM} {o0 o1 o2 o3 o4 o5 : Option Value}  (kk : Q.1 (some (.int ((-1)))) M) : Z g kX2_ashamed Q d cN sN M 134 [o0, o1, o2, o3, o4, o5] [] := by
  refine zi_iconst dX2_ashamed_134 (by decide +kernel : Int32.ofInt (-1) = (-1 : Int32)) ?_
  exact zi_ireturn dX2_ashamed_135 rfl rfl kk
abbrev kX2_worst : ZK := (RX2, cX2_worst, 6, (Option.some Jvm.ClassFile.FieldType.int), [], false, fX2)
abbrev tX2_worst (g : ZG) (args : List Value) (M : ZM) (d c s : Nat) (Q : ZQ) : Prop := Ct g yX2_worst (ws_ yX2_worst cX2_worst 6 (Option.some Jvm.ClassFile.FieldType.int)) args M d c s Q
abbrev nX2_worst : Nat := 4
theorem mX2_worst : zMok yX2_worst 1 6 := ⟨⟨by decide +kernel, by decide +kernel, by decide +kernel⟩, by decide⟩
theorem eX2_worst {g : ZG} {Q : ZQ} {d cN sN : Nat} {M : ZM} {a0 : Nat} {x1 : Int32} (hV : zV g) (h : Z g kX2_worst Q d cN sN M 0 [some (.ref a0), some (.int x1), none, none, none, none] []) : tX2_worst g [.ref a0, .int x1] M d cN sN Q := Ct.of (K := kX2_worst) rfl (by decide +kernel) hV fokX2 rfl (fun h => by cases h) (fun v hv => by simp only [List.mem_cons, List.not_mem_nil, or_false] at hv; rcases hv with rfl | rfl <;> first | rfl | assumption) (Nat.le_of_ble_eq_true rfl) h
theorem sX2_worst_0 {g : ZG} {Q : ZQ} {d cN sN : Nat} {M : ZM} {o0 o1 o2 o3 o4 o5 : Option Value}  (kk : Z g kX2_worst Q d cN sN M 2 [o0, o1, some (.int 0), o3, o4, o5] []) : Z g kX2_worst Q d cN sN M 0 [o0, o1, o2, o3, o4, o5] [] := by
  refine zi_iconst dX2_worst_0 (by decide +kernel : Int32.ofInt (0) = (0 : Int32)) ?_
  refine zi_istore_n dX2_worst_1 (Nat.le_of_ble_eq_true rfl) ?_
  exact kk
theorem sX2_worst_2 {g : ZG} {Q : ZQ} {d cN sN : Nat} {M : ZM} {l2 : Int32} {l0 : Nat} {fs1 : List Value} {y3 : Int32} {o1 o3 o4 o5 : Option Value} (h2 : M.1 l0 = some (.inr (1, fs1))) (h4 : (fs1)[3]? = some (.int y3)) (kt : (y3 : Int32) ≤ (l2 : Int32) → Z g kX2_worst Q d cN sN M 123 [some (.ref l0), o1, some (.int l2), o3, o4, o5] []) (kf : ¬ (y3 : Int32) ≤ (l2 : Int32) → Z g kX2_worst Q d cN sN M 10 [some (.ref l0), o1, some (.int l2), o3, o4, o5] []) : Z g kX2_worst Q d cN sN M 2 [some (.ref l0), o1, some (.int l2), o3, o4, o5] [] := by
  refine zi_iload_n dX2_worst_2 rfl ?_
  refine zi_aload_n dX2_worst_3 rfl zrf_r ?_
  refine zi_getfield dX2_worst_4 rfl h2 h4 ?_
  exact zi_icmp_ge (tgt := 123) dX2_worst_7 (by decide +kernel) kt kf
theorem sX2_worst_10 {g : ZG} {Q : ZQ} {d cN sN : Nat} {M : ZM} {o0 o1 o2 o3 o4 o5 : Option Value}  (kk : Z g kX2_worst Q d cN sN M 15 [o0, o1, o2, some (.int 0), some (.int 0), o5] []) : Z g kX2_worst Q d cN sN M 10 [o0, o1, o2, o3, o4, o5] [] := by
  refine zi_iconst dX2_worst_10 (by decide +kernel : Int32.ofInt (0) = (0 : Int32)) ?_
  refine zi_istore_n dX2_worst_11 (Nat.le_of_ble_eq_true rfl) ?_
  refine zi_iconst dX2_worst_12 (by decide +kernel : Int32.ofInt (0) = (0 : Int32)) ?_
  refine zi_istore dX2_worst_13 (Nat.le_of_ble_eq_true rfl) ?_
  exact kk
theorem sX2_worst_15 {g : ZG} {Q : ZQ} {d cN sN : Nat} {M : ZM} {l4 : Int32} {l0 : Nat} {fs1 : List Value} {y3 : Int32} {o1 o2 o3 o5 : Option Value} (h2 : M.1 l0 = some (.inr (1, fs1))) (h4 : (fs1)[3]? = some (.int y3)) (kt : (y3 : Int32) ≤ (l4 : Int32) → Z g kX2_worst Q d cN sN M 110 [some (.ref l0), o1, o2, o3, some (.int l4), o5] []) (kf : ¬ (y3 : Int32) ≤ (l4 : Int32) → Z g kX2_worst Q d cN sN M 24 [some (.ref l0), o1, o2, o3, some (.int l4), o5] []) : Z g kX2_worst Q d cN sN M 15 [some (.ref l0), o1, o2, o3, some (.int l4), o5] [] := by
  refine zi_iload dX2_worst_15 rfl ?_
  refine zi_aload_n dX2_worst_17 rfl zrf_r ?_
  refine zi_getfield dX2_worst_18 rfl h2 h4 ?_
  exact zi_icmp_ge (tgt := 110) dX2_worst_21 (by decide +kernel) kt kf
theorem sX2_worst_24 {g : ZG} {Q : ZQ} {d cN sN : Nat} {M : ZM} {l0 : Nat} {fs1 : List Value} {r3 : Nat} {l4 : Int32} {n5 : Nat} {f6 : Nat → Option Nat} {c7 : ClassId} {r11 : Nat} {o1 o2 o3 o5 : Option Value} (h2 : M.1 l0 = some (.inr (1, fs1))) (h4 : (fs1)[4]? = some (.ref r3)) (h8 : M.1 r3 = some (.inl (c7, n5, .inr (.inr (.inr (.inr f6)))))) (h9 : zRt g c7) (h10 : vp_in (l4) n5) (h12 : va_rf (f6 ((l4 : Int32).toNatClampNeg)) = .ref r11) (kk : Z g kX2_worst Q d cN sN M 31 [some (.ref l0), o1, o2, o3, some (.int l4), o5] [.ref r11]) : Z g kX2_worst Q d cN sN M 24 [some (.ref l0), o1, o2, o3, some (.int l4), o5] [] := by
  refine zi_aload_n dX2_worst_24 rfl zrf_r ?_
  refine zi_getfield dX2_worst_25 rfl h2 h4 ?_
  refine zi_iload dX2_worst_28 rfl ?_
  refine zi_aaload dX2_worst_30 h8 h9 h10 h12 ?_
  exact kk
theorem sX2_worst_34 {g : ZG} {Q : ZQ} {d cN sN : Nat} {M : ZM} {t0 : Int32} {l0 : Nat} {fs1 : List Value} {r3 : Nat} {l2 : Int32} {n5 : Nat} {f6 : Nat → Option Nat} {c7 : ClassId} {r11 : Nat} {o1 o3 o4 o5 : Option Value} (h2 : M.1 l0 = some (.inr (1, fs1))) (h4 : (fs1)[4]? = some (.ref r3)) (h8 : M.1 r3 = some (.inl (c7, n5, .inr (.inr (.inr (.inr f6)))))) (h9 : zRt g c7) (h10 : vp_in (l2) n5) (h12 : va_rf (f6 ((l2 : Int32).toNatClampNeg)) = .ref r11) (kk : Z g kX2_worst Q d cN sN M 40 [some (.ref l0), o1, some (.int l2), o3, o4, o5] [.ref r11, .int t0]) : Z g kX2_worst Q d cN sN M 34 [some (.ref l0), o1, some (.int l2), o3, o4, o5] [.int t0] := by
  refine zi_aload_n dX2_worst_34 rfl zrf_r ?_
  refine zi_getfield dX2_worst_35 rfl h2 h4 ?_
  refine zi_iload_n dX2_worst_38 rfl ?_
  refine zi_aaload dX2_worst_39 h8 h9 h10 h12 ?_
  exact kk
theorem sX2_worst_43 {g : ZG} {Q : ZQ} {d cN sN : Nat} {M : ZM} {t0 : Int32} {t1 : Int32} {o0 o1 o2 o3 o4 o5 : Option Value}  (kt : ¬ (t0 - t1 : Int32) = 0 → Z g kX2_worst Q d cN sN M 76 [o0, o1, o2, o3, o4, some (.int (t0 - t1))] []) (kf : (t0 - t1 : Int32) = 0 → Z g kX2_worst Q d cN sN M 51 [o0, o1, o2, o3, o4, some (.int (t0 - t1))] []) : Z g kX2_worst Q d cN sN M 43 [o0, o1, o2, o3, o4, o5] [.int t1, .int t0] := by
  refine zi_isub dX2_worst_43 ?_
  refine zi_istore dX2_worst_44 (Nat.le_of_ble_eq_true rfl) ?_
  refine zi_iload dX2_worst_46 rfl ?_
  exact zi_if_ne (tgt := 76) dX2_worst_48 (by decide +kernel) kt kf
theorem sX2_worst_51 {g : ZG} {Q : ZQ} {d cN sN : Nat} {M : ZM} {l0 : Nat} {fs1 : List Value} {r3 : Nat} {l4 : Int32} {n5 : Nat} {f6 : Nat → Option Nat} {c7 : ClassId} {r11 : Nat} {o1 o2 o3 o5 : Option Value} (h2 : M.1 l0 = some (.inr (1, fs1))) (h4 : (fs1)[4]? = some (.ref r3)) (h8 : M.1 r3 = some (.inl (c7, n5, .inr (.inr (.inr (.inr f6)))))) (h9 : zRt g c7) (h10 : vp_in (l4) n5) (h12 : va_rf (f6 ((l4 : Int32).toNatClampNeg)) = .ref r11) (kk : Z g kX2_worst Q d cN sN M 59 [some (.ref l0), o1, o2, o3, some (.int l4), o5] [.int 1, .ref r11]) : Z g kX2_worst Q d cN sN M 51 [some (.ref l0), o1, o2, o3, some (.int l4), o5] [] := by
  refine zi_aload_n dX2_worst_51 rfl zrf_r ?_
  refine zi_getfield dX2_worst_52 rfl h2 h4 ?_
  refine zi_iload dX2_worst_55 rfl ?_
  refine zi_aaload dX2_worst_57 h8 h9 h10 h12 ?_
  refine zi_iconst dX2_worst_58 (by decide +kernel : Int32.ofInt (1) = (1 : Int32)) ?_
  exact kk
theorem sX2_worst_62 {g : ZG} {Q : ZQ} {d cN sN : Nat} {M : ZM} {t0 : Int32} {l0 : Nat} {fs1 : List Value} {r3 : Nat} {l2 : Int32} {n5 : Nat} {f6 : Nat → Option Nat} {c7 : ClassId} {r11 : Nat} {o1 o3 o4 o5 : Option Value} (h2 : M.1 l0 = some (.inr (1, fs1))) (h4 : (fs1)[4]? = some (.ref r3)) (h8 : M.1 r3 = some (.inl (c7, n5, .inr (.inr (.inr (.inr f6)))))) (h9 : zRt g c7) (h10 : vp_in (l2) n5) (h12 : va_rf (f6 ((l2 : Int32).toNatClampNeg)) = .ref r11) (kk : Z g kX2_worst Q d cN sN M 69 [some (.ref l0), o1, some (.int l2), o3, o4, o5] [.int 1, .ref r11, .int t0]) : Z g kX2_worst Q d cN sN M 62 [some (.ref l0), o1, some (.int l2), o3, o4, o5] [.int t0] := by
  refine zi_aload_n dX2_worst_62 rfl zrf_r ?_
  refine zi_getfield dX2_worst_63 rfl h2 h4 ?_
  refine zi_iload_n dX2_worst_66 rfl ?_
  refine zi_aaload dX2_worst_67 h8 h9 h10 h12 ?_
  refine zi_iconst dX2_worst_68 (by decide +kernel : Int32.ofInt (1) = (1 : Int32)) ?_
  exact kk
theorem sX2_worst_72 {g : ZG} {Q : ZQ} {d cN sN : Nat} {M : ZM} {t0 : Int32} {t1 : Int32} {o0 o1 o2 o3 o4 o5 : Option Value}  (kk : Z g kX2_worst Q d cN sN M 78 [o0, o1, o2, o3, o4, o5] [.int (t0 - t1)]) : Z g kX2_worst Q d cN sN M 72 [o0, o1, o2, o3, o4, o5] [.int t1, .int t0] := by
  refine zi_isub dX2_worst_72 ?_
  exact zi_goto (tgt := 78) dX2_worst_73 (by decide +kernel) kk
theorem sX2_worst_76 {g : ZG} {Q : ZQ} {d cN sN : Nat} {M : ZM} {l5 : Int32} {o0 o1 o2 o3 o4 : Option Value}  (kk : Z g kX2_worst Q d cN sN M 78 [o0, o1, o2, o3, o4, some (.int l5)] [.int l5]) : Z g kX2_worst Q d cN sN M 76 [o0, o1, o2, o3, o4, some (.int l5)] [] := by
  refine zi_iload dX2_worst_76 rfl ?_
  exact kk
theorem sX2_worst_78 {g : ZG} {Q : ZQ} {d cN sN : Nat} {M : ZM} {t0 : Int32} {l3 : Int32} {o0 o1 o2 o4 o5 : Option Value}  (kt : 0 < (t0 : Int32) → Z g kX2_worst Q d cN sN M 97 [o0, o1, o2, some (.int l3), o4, some (.int t0)] [.int l3]) (kf : ¬ 0 < (t0 : Int32) → Z g kX2_worst Q d cN sN M 86 [o0, o1, o2, some (.int l3), o4, some (.int t0)] [.int l3]) : Z g kX2_worst Q d cN sN M 78 [o0, o1, o2, some (.int l3), o4, o5] [.int t0] := by
  refine zi_istore dX2_worst_78 (Nat.le_of_ble_eq_true rfl) ?_
  refine zi_iload_n dX2_worst_80 rfl ?_
  refine zi_iload dX2_worst_81 rfl ?_
  exact zi_if_gt (tgt := 97) dX2_worst_83 (by decide +kernel) kt kf
theorem sX2_worst_86 {g : ZG} {Q : ZQ} {d cN sN : Nat} {M : ZM} {t0 : Int32} {l5 : Int32} {o0 o1 o2 o3 o4 : Option Value}  (kt : ¬ (l5 : Int32) = 0 → Z g kX2_worst Q d cN sN M 101 [o0, o1, o2, o3, o4, some (.int l5)] [.int t0]) (kf : (l5 : Int32) = 0 → Z g kX2_worst Q d cN sN M 91 [o0, o1, o2, o3, o4, some (.int l5)] [.int t0]) : Z g kX2_worst Q d cN sN M 86 [o0, o1, o2, o3, o4, some (.int l5)] [.int t0] := by
  refine zi_iload dX2_worst_86 rfl ?_
  exact zi_if_ne (tgt := 101) dX2_worst_88 (by decide +kernel) kt kf
theorem sX2_worst_91 {g : ZG} {Q : ZQ} {d cN sN : Nat} {M : ZM} {t0 : Int32} {l4 : Int32} {l2 : Int32} {o0 o1 o3 o5 : Option Value}  (kt : (l2 : Int32) ≤ (l4 : Int32) → Z g kX2_worst Q d cN sN M 101 [o0, o1, some (.int l2), o3, some (.int l4), o5] [.int t0]) (kf : ¬ (l2 : Int32) ≤ (l4 : Int32) → Z g kX2_worst Q d cN sN M 97 [o0, o1, some (.int l2), o3, some (.int l4), o5] [.int t0]) : Z g kX2_worst Q d cN sN M 91 [o0, o1, some (.int l2), o3, some (.int l4), o5] [.int t0] := by
  refine zi_iload dX2_worst_91 rfl ?_
  refine zi_iload_n dX2_worst_93 rfl ?_
  exact zi_icmp_ge (tgt := 101) dX2_worst_94 (by decide +kernel) kt kf
theorem sX2_worst_97 {g : ZG} {Q : ZQ} {d cN sN : Nat} {M : ZM} {t0 : Int32} {o0 o1 o2 o3 o4 o5 : Option Value}  (kk : Z g kX2_worst Q d cN sN M 102 [o0, o1, o2, o3, o4, o5] [.int 1, .int t0]) : Z g kX2_worst Q d cN sN M 97 [o0, o1, o2, o3, o4, o5] [.int t0] := by
  refine zi_iconst dX2_worst_97 (by decide +kernel : Int32.ofInt (1) = (1 : Int32)) ?_
  exact zi_goto (tgt := 102) dX2_worst_98 (by decide +kernel) kk
theorem sX2_worst_101 {g : ZG} {Q : ZQ} {d cN sN : Nat} {M : ZM} {t0 : Int32} {o0 o1 o2 o3 o4 o5 : Option Value}  (kk : Z g kX2_worst Q d cN sN M 102 [o0, o1, o2, o3, o4, o5] [.int 0, .int t0]) : Z g kX2_worst Q d cN sN M 101 [o0, o1, o2, o3, o4, o5] [.int t0] := by
  refine zi_iconst dX2_worst_101 (by decide +kernel : Int32.ofInt (0) = (0 : Int32)) ?_
  exact kk
theorem sX2_worst_102 {g : ZG} {Q : ZQ} {d cN sN : Nat} {M : ZM} {t0 : Int32} {t1 : Int32} {l4 : Int32} {o0 o1 o2 o3 o5 : Option Value}  (kk : Z g kX2_worst Q d cN sN M 15 [o0, o1, o2, some (.int (t0 + t1)), some (.int (l4 + 1)), o5] []) : Z g kX2_worst Q d cN sN M 102 [o0, o1, o2, o3, some (.int l4), o5] [.int t1, .int t0] := by
  refine zi_iadd dX2_worst_102 ?_
  refine zi_istore_n dX2_worst_103 (Nat.le_of_ble_eq_true rfl) ?_
  refine zi_iinc dX2_worst_104 rfl (by decide +kernel : Int32.ofInt (1) = 1) (Nat.le_of_ble_eq_true rfl) ?_
  exact zi_goto (tgt := 15) dX2_worst_107 (by decide +kernel) kk
theorem sX2_worst_110 {g : ZG} {Q : ZQ} {d cN sN : Nat} {M : ZM} {l3 : Int32} {l1 : Int32} {o0 o2 o4 o5 : Option Value}  (kt : ¬ (l3 : Int32) = (l1 : Int32) → Z g kX2_worst Q d cN sN M 117 [o0, some (.int l1), o2, some (.int l3), o4, o5] []) (kf : (l3 : Int32) = (l1 : Int32) → Z g kX2_worst Q d cN sN M 115 [o0, some (.int l1), o2, some (.int l3), o4, o5] []) : Z g kX2_worst Q d cN sN M 110 [o0, some (.int l1), o2, some (.int l3), o4, o5] [] := by
  refine zi_iload_n dX2_worst_110 rfl ?_
  refine zi_iload_n dX2_worst_111 rfl ?_
  exact zi_icmp_ne (tgt := 117) dX2_worst_112 (by decide +kernel) kt kf
theorem sX2_worst_115 {g : ZG} {Q : ZQ} {d cN sN : Nat} {M : ZM} {l2 : Int32} {o0 o1 o3 o4 o5 : Option Value}  (kk : Q.1 (some (.int l2)) M) : Z g kX2_worst Q d cN sN M 115 [o0, o1, some (.int l2), o3, o4, o5] [] := by
  refine zi_iload_n dX2_worst_115 rfl ?_
  exact zi_ireturn dX2_worst_116 rfl rfl kk
theorem sX2_worst_117 {g : ZG} {Q : ZQ} {d cN sN : Nat} {M : ZM} {l2 : Int32} {o0 o1 o3 o4 o5 : Option Value}  (kk : Z g kX2_worst Q d cN sN M 2 [o0, o1, some (.int (l2 + 1)), o3, o4, o5] []) : Z g kX2_worst Q d cN sN M 117 [o0, o1, some (.int l2), o3, o4, o5] [] := by
  refine zi_iinc dX2_worst_117 rfl (by decide +kernel : Int32.ofInt (1) = 1) (Nat.le_of_ble_eq_true rfl) ?_
  exact zi_goto (tgt := 2) dX2_worst_120 (by decide +kernel) kk
theorem sX2_worst_123 {g : ZG} {Q : ZQ} {d cN sN : Nat} {M : ZM} {o0 o1 o2 o3 o4 o5 : Option Value}  (kk : Q.1 (some (.int ((-1)))) M) : Z g kX2_worst Q d cN sN M 123 [o0, o1, o2, o3, o4, o5] [] := by
  refine zi_iconst dX2_worst_123 (by decide +kernel : Int32.ofInt (-1) = (-1 : Int32)) ?_
  exact zi_ireturn dX2_worst_124 rfl rfl kk
abbrev kX2_writesHouse : ZK := (RX2, cX2_writesHouse, 3, (Option.none : Option Jvm.ClassFile.FieldType), [], false, fX2)
abbrev tX2_writesHouse (g : ZG) (args : List Value) (M : ZM) (d c s : Nat) (Q : ZQ) : Prop := Ct g yX2_writesHouse (ws_ yX2_writesHouse cX2_writesHouse 3 (Option.none : Option Jvm.ClassFile.FieldType)) args M d c s Q
abbrev nX2_writesHouse : Nat := 14
theorem mX2_writesHouse : zMok yX2_writesHouse 2 3 := ⟨⟨by decide +kernel, by decide +kernel, by decide +kernel⟩, by decide⟩
theorem eX2_writesHouse {g : ZG} {Q : ZQ} {d cN sN : Nat} {M : ZM} {a0 : Nat} {v1 : Value} (hv1 : v1.category = 1) {x2 : Int32} (hV : zV g) (h : Z g kX2_writesHouse Q d cN sN M 0 [some (.ref a0), some (v1), some (.int x2)] []) : tX2_writesHouse g [.ref a0, v1, .int x2] M d cN sN Q := Ct.of (K := kX2_writesHouse) rfl (by decide +kernel) hV fokX2 rfl (fun h => by cases h) (fun v hv => by simp only [List.mem_cons, List.not_mem_nil, or_false] at hv; rcases hv with rfl | rfl | rfl <;> first | rfl | assumption) (Nat.le_of_ble_eq_true rfl) h
theorem sX2_writesHouse_0 {g : ZG} {Q : ZQ} {d cN sN : Nat} {M : ZM} {l1 : Nat} {l2 : Int32} {o0 : Option Value}  (kk : Z g kX2_writesHouse Q d cN sN M 2 [o0, some (.ref l1), some (.int l2)] [.int l2, .ref l1]) : Z g kX2_writesHouse Q d cN sN M 0 [o0, some (.ref l1), some (.int l2)] [] := by
  refine zi_aload_n dX2_writesHouse_0 rfl zrf_r ?_
  refine zi_iload_n dX2_writesHouse_1 rfl ?_
  exact kk
theorem sX2_writesHouse_5 {g : ZG} {Q : ZQ} {d cN sN : Nat} {M : ZM} {t0 : Nat} {o0 o1 o2 : Option Value}  (kk : Z g kX2_writesHouse Q d cN sN M 7 [o0, o1, o2] [.int 36, .ref t0]) : Z g kX2_writesHouse Q d cN sN M 5 [o0, o1, o2] [.ref t0] := by
  refine zi_bipush dX2_writesHouse_5 (by decide +kernel : (Int8.ofInt (36)).toInt32 = (36 : Int32)) ?_
  exact kk
theorem sX2_writesHouse_10 {g : ZG} {Q : ZQ} {d cN sN : Nat} {M : ZM} {t0 : Nat} {l0 : Nat} {fs1 : List Value} {r3 : Nat} {l2 : Int32} {n5 : Nat} {f6 : Nat → Option Nat} {c7 : ClassId} {r11 : Nat} {fs13 : List Value} {y15 : Int32} {o1 : Option Value} (h2 : M.1 l0 = some (.inr (1, fs1))) (h4 : (fs1)[2]? = some (.ref r3)) (h8 : M.1 r3 = some (.inl (c7, n5, .inr (.inr (.inr (.inr f6)))))) (h9 : zRt g c7) (h10 : vp_in (l2) n5) (h12 : va_rf (f6 ((l2 : Int32).toNatClampNeg)) = .ref r11) (h14 : M.1 r11 = some (.inr (2, fs13))) (h16 : (fs13)[0]? = some (.int y15)) (kk : Z g kX2_writesHouse Q d cN sN M 19 [some (.ref l0), o1, some (.int l2)] [.int y15, .ref t0]) : Z g kX2_writesHouse Q d cN sN M 10 [some (.ref l0), o1, some (.int l2)] [.ref t0] := by
  refine zi_aload_n dX2_writesHouse_10 rfl zrf_r ?_
  refine zi_getfield dX2_writesHouse_11 rfl h2 h4 ?_
  refine zi_iload_n dX2_writesHouse_14 rfl ?_
  refine zi_aaload dX2_writesHouse_15 h8 h9 h10 h12 ?_
  refine zi_getfield dX2_writesHouse_16 rfl h14 h16 ?_
  exact kk
theorem sX2_writesHouse_22 {g : ZG} {Q : ZQ} {d cN sN : Nat} {M : ZM} {t0 : Nat} {o0 o1 o2 : Option Value}  (kk : Z g kX2_writesHouse Q d cN sN M 24 [o0, o1, o2] [.int 126, .ref t0]) : Z g kX2_writesHouse Q d cN sN M 22 [o0, o1, o2] [.ref t0] := by
  refine zi_bipush dX2_writesHouse_22 (by decide +kernel : (Int8.ofInt (126)).toInt32 = (126 : Int32)) ?_
  exact kk
theorem sX2_writesHouse_27 {g : ZG} {Q : ZQ} {d cN sN : Nat} {M : ZM} {t0 : Nat} {l0 : Nat} {fs1 : List Value} {r3 : Nat} {l2 : Int32} {n5 : Nat} {f6 : Nat → Option Nat} {c7 : ClassId} {r11 : Nat} {fs13 : List Value} {y15 : Int32} {o1 : Option Value} (h2 : M.1 l0 = some (.inr (1, fs1))) (h4 : (fs1)[2]? = some (.ref r3)) (h8 : M.1 r3 = some (.inl (c7, n5, .inr (.inr (.inr (.inr f6)))))) (h9 : zRt g c7) (h10 : vp_in (l2) n5) (h12 : va_rf (f6 ((l2 : Int32).toNatClampNeg)) = .ref r11) (h14 : M.1 r11 = some (.inr (2, fs13))) (h16 : (fs13)[1]? = some (.int y15)) (kk : Z g kX2_writesHouse Q d cN sN M 36 [some (.ref l0), o1, some (.int l2)] [.int y15, .ref t0]) : Z g kX2_writesHouse Q d cN sN M 27 [some (.ref l0), o1, some (.int l2)] [.ref t0] := by
  refine zi_aload_n dX2_writesHouse_27 rfl zrf_r ?_
  refine zi_getfield dX2_writesHouse_28 rfl h2 h4 ?_
  refine zi_iload_n dX2_writesHouse_31 rfl ?_
  refine zi_aaload dX2_writesHouse_32 h8 h9 h10 h12 ?_
  refine zi_getfield dX2_writesHouse_33 rfl h14 h16 ?_
  exact kk
theorem sX2_writesHouse_39 {g : ZG} {Q : ZQ} {d cN sN : Nat} {M : ZM} {t0 : Nat} {l0 : Nat} {fs1 : List Value} {r3 : Nat} {l2 : Int32} {n5 : Nat} {f6 : Nat → Option Nat} {c7 : ClassId} {r11 : Nat} {o1 : Option Value} (h2 : M.1 l0 = some (.inr (1, fs1))) (h4 : (fs1)[2]? = some (.ref r3)) (h8 : M.1 r3 = some (.inl (c7, n5, .inr (.inr (.inr (.inr f6)))))) (h9 : zRt g c7) (h10 : vp_in (l2) n5) (h12 : va_rf (f6 ((l2 : Int32).toNatClampNeg)) = .ref r11) (kk : Z g kX2_writesHouse Q d cN sN M 46 [some (.ref l0), o1, some (.int l2)] [.ref r11]) : Z g kX2_writesHouse Q d cN sN M 39 [some (.ref l0), o1, some (.int l2)] [.ref t0] := by
  refine zi_pop dX2_writesHouse_39 rfl ?_
  refine zi_aload_n dX2_writesHouse_40 rfl zrf_r ?_
  refine zi_getfield dX2_writesHouse_41 rfl h2 h4 ?_
  refine zi_iload_n dX2_writesHouse_44 rfl ?_
  refine zi_aaload dX2_writesHouse_45 h8 h9 h10 h12 ?_
  exact kk
theorem sX2_writesHouse_49 {g : ZG} {Q : ZQ} {d cN sN : Nat} {M : ZM} {t0 : Int32} {o0 o1 o2 : Option Value}  (kt : (t0 : Int32) = 0 → Z g kX2_writesHouse Q d cN sN M 59 [o0, o1, o2] []) (kf : ¬ (t0 : Int32) = 0 → Z g kX2_writesHouse Q d cN sN M 52 [o0, o1, o2] []) : Z g kX2_writesHouse Q d cN sN M 49 [o0, o1, o2] [.int t0] := by
  exact zi_if_eq (tgt := 59) dX2_writesHouse_49 (by decide +kernel) kt kf
theorem sX2_writesHouse_52 {g : ZG} {Q : ZQ} {d cN sN : Nat} {M : ZM} {l1 : Nat} {o0 o2 : Option Value}  (kk : Z g kX2_writesHouse Q d cN sN M 55 [o0, some (.ref l1), o2] [.int 42, .ref l1]) : Z g kX2_writesHouse Q d cN sN M 52 [o0, some (.ref l1), o2] [] := by
  refine zi_aload_n dX2_writesHouse_52 rfl zrf_r ?_
  refine zi_bipush dX2_writesHouse_53 (by decide +kernel : (Int8.ofInt (42)).toInt32 = (42 : Int32)) ?_
  exact kk
theorem sX2_writesHouse_58 {g : ZG} {Q : ZQ} {d cN sN : Nat} {M : ZM} {t0 : Nat} {o0 o1 o2 : Option Value}  (kk : Z g kX2_writesHouse Q d cN sN M 59 [o0, o1, o2] []) : Z g kX2_writesHouse Q d cN sN M 58 [o0, o1, o2] [.ref t0] := by
  refine zi_pop dX2_writesHouse_58 rfl ?_
  exact kk
theorem sX2_writesHouse_59 {g : ZG} {Q : ZQ} {d cN sN : Nat} {M : ZM} {o0 o1 o2 : Option Value}  (kk : Q.1 none M) : Z g kX2_writesHouse Q d cN sN M 59 [o0, o1, o2] [] := by
  exact zi_return dX2_writesHouse_59 rfl kk
abbrev kX2_marked : ZK := (RX2, cX2_marked, 4, (Option.some Jvm.ClassFile.FieldType.int), [], false, fX2)
abbrev tX2_marked (g : ZG) (args : List Value) (M : ZM) (d c s : Nat) (Q : ZQ) : Prop := Ct g yX2_marked (ws_ yX2_marked cX2_marked 4 (Option.some Jvm.ClassFile.FieldType.int)) args M d c s Q
abbrev nX2_marked : Nat := 2
theorem mX2_marked : zMok yX2_marked 1 4 := ⟨⟨by decide +kernel, by decide +kernel, by decide +kernel⟩, by decide⟩
theorem eX2_marked {g : ZG} {Q : ZQ} {d cN sN : Nat} {M : ZM} {a0 : Nat} {x1 : Int32} (hV : zV g) (h : Z g kX2_marked Q d cN sN M 0 [some (.ref a0), some (.int x1), none, none] []) : tX2_marked g [.ref a0, .int x1] M d cN sN Q := Ct.of (K := kX2_marked) rfl (by decide +kernel) hV fokX2 rfl (fun h => by cases h) (fun v hv => by simp only [List.mem_cons, List.not_mem_nil, or_false] at hv; rcases hv with rfl | rfl <;> first | rfl | assumption) (Nat.le_of_ble_eq_true rfl) h
theorem sX2_marked_0 {g : ZG} {Q : ZQ} {d cN sN : Nat} {M : ZM} {o0 o1 o2 o3 : Option Value}  (kk : Z g kX2_marked Q d cN sN M 4 [o0, o1, some (.int 0), some (.int 0)] []) : Z g kX2_marked Q d cN sN M 0 [o0, o1, o2, o3] [] := by
  refine zi_iconst dX2_marked_0 (by decide +kernel : Int32.ofInt (0) = (0 : Int32)) ?_
  refine zi_istore_n dX2_marked_1 (Nat.le_of_ble_eq_true rfl) ?_
  refine zi_iconst dX2_marked_2 (by decide +kernel : Int32.ofInt (0) = (0 : Int32)) ?_
  refine zi_istore_n dX2_marked_3 (Nat.le_of_ble_eq_true rfl) ?_
  exact kk
theorem sX2_marked_4 {g : ZG} {Q : ZQ} {d cN sN : Nat} {M : ZM} {l3 : Int32} {l0 : Nat} {fs1 : List Value} {y3 : Int32} {o1 o2 : Option Value} (h2 : M.1 l0 = some (.inr (1, fs1))) (h4 : (fs1)[3]? = some (.int y3)) (kt : (y3 : Int32) ≤ (l3 : Int32) → Z g kX2_marked Q d cN sN M 31 [some (.ref l0), o1, o2, some (.int l3)] []) (kf : ¬ (y3 : Int32) ≤ (l3 : Int32) → Z g kX2_marked Q d cN sN M 12 [some (.ref l0), o1, o2, some (.int l3)] []) : Z g kX2_marked Q d cN sN M 4 [some (.ref l0), o1, o2, some (.int l3)] [] := by
  refine zi_iload_n dX2_marked_4 rfl ?_
  refine zi_aload_n dX2_marked_5 rfl zrf_r ?_
  refine zi_getfield dX2_marked_6 rfl h2 h4 ?_
  exact zi_icmp_ge (tgt := 31) dX2_marked_9 (by decide +kernel) kt kf
theorem sX2_marked_12 {g : ZG} {Q : ZQ} {d cN sN : Nat} {M : ZM} {l2 : Int32} {l0 : Nat} {fs1 : List Value} {r3 : Nat} {l3 : Int32} {n5 : Nat} {f6 : Nat → Option Nat} {c7 : ClassId} {r11 : Nat} {l1 : Int32} (h2 : M.1 l0 = some (.inr (1, fs1))) (h4 : (fs1)[4]? = some (.ref r3)) (h8 : M.1 r3 = some (.inl (c7, n5, .inr (.inr (.inr (.inr f6)))))) (h9 : zRt g c7) (h10 : vp_in (l3) n5) (h12 : va_rf (f6 ((l3 : Int32).toNatClampNeg)) = .ref r11) (kk : Z g kX2_marked Q d cN sN M 20 [some (.ref l0), some (.int l1), some (.int l2), some (.int l3)] [.int l1, .ref r11, .int l2]) : Z g kX2_marked Q d cN sN M 12 [some (.ref l0), some (.int l1), some (.int l2), some (.int l3)] [] := by
  refine zi_iload_n dX2_marked_12 rfl ?_
  refine zi_aload_n dX2_marked_13 rfl zrf_r ?_
  refine zi_getfield dX2_marked_14 rfl h2 h4 ?_
  refine zi_iload_n dX2_marked_17 rfl ?_
  refine zi_aaload dX2_marked_18 h8 h9 h10 h12 ?_
  refine zi_iload_n dX2_marked_19 rfl ?_
  exact kk
theorem sX2_marked_23 {g : ZG} {Q : ZQ} {d cN sN : Nat} {M : ZM} {t0 : Int32} {t1 : Int32} {l3 : Int32} {o0 o1 o2 : Option Value}  (kk : Z g kX2_marked Q d cN sN M 4 [o0, o1, some (.int (t0 + t1)), some (.int (l3 + 1))] []) : Z g kX2_marked Q d cN sN M 23 [o0, o1, o2, some (.int l3)] [.int t1, .int t0] := by
  refine zi_iadd dX2_marked_23 ?_
  refine zi_istore_n dX2_marked_24 (Nat.le_of_ble_eq_true rfl) ?_
  refine zi_iinc dX2_marked_25 rfl (by decide +kernel : Int32.ofInt (1) = 1) (Nat.le_of_ble_eq_true rfl) ?_
  exact zi_goto (tgt := 4) dX2_marked_28 (by decide +kernel) kk
theorem sX2_marked_31 {g : ZG} {Q : ZQ} {d cN sN : Nat} {M : ZM} {l2 : Int32} {o0 o1 o3 : Option Value}  (kk : Q.1 (some (.int l2)) M) : Z g kX2_marked Q d cN sN M 31 [o0, o1, some (.int l2), o3] [] := by
  refine zi_iload_n dX2_marked_31 rfl ?_
  exact zi_ireturn dX2_marked_32 rfl rfl kk
abbrev kX2_allCoins : ZK := (RX2, cX2_allCoins, 3, (Option.some Jvm.ClassFile.FieldType.int), [], false, fX2)
abbrev tX2_allCoins (g : ZG) (args : List Value) (M : ZM) (d c s : Nat) (Q : ZQ) : Prop := Ct g yX2_allCoins (ws_ yX2_allCoins cX2_allCoins 3 (Option.some Jvm.ClassFile.FieldType.int)) args M d c s Q
abbrev nX2_allCoins : Nat := 1
theorem mX2_allCoins : zMok yX2_allCoins 0 3 := ⟨⟨by decide +kernel, by decide +kernel, by decide +kernel⟩, by decide⟩
theorem eX2_allCoins {g : ZG} {Q : ZQ} {d cN sN : Nat} {M : ZM} {a0 : Nat} (hV : zV g) (h : Z g kX2_allCoins Q d cN sN M 0 [some (.ref a0), none, none] []) : tX2_allCoins g [.ref a0] M d cN sN Q := Ct.of (K := kX2_allCoins) rfl (by decide +kernel) hV fokX2 rfl (fun h => by cases h) (fun v hv => by simp only [List.mem_cons, List.not_mem_nil, or_false] at hv; rcases hv with rfl <;> first | rfl | assumption) (Nat.le_of_ble_eq_true rfl) h
theorem sX2_allCoins_0 {g : ZG} {Q : ZQ} {d cN sN : Nat} {M : ZM} {o0 o1 o2 : Option Value}  (kk : Z g kX2_allCoins Q d cN sN M 4 [o0, some (.int 0), some (.int 0)] []) : Z g kX2_allCoins Q d cN sN M 0 [o0, o1, o2] [] := by
  refine zi_iconst dX2_allCoins_0 (by decide +kernel : Int32.ofInt (0) = (0 : Int32)) ?_
  refine zi_istore_n dX2_allCoins_1 (Nat.le_of_ble_eq_true rfl) ?_
  refine zi_iconst dX2_allCoins_2 (by decide +kernel : Int32.ofInt (0) = (0 : Int32)) ?_
  refine zi_istore_n dX2_allCoins_3 (Nat.le_of_ble_eq_true rfl) ?_
  exact kk
theorem sX2_allCoins_4 {g : ZG} {Q : ZQ} {d cN sN : Nat} {M : ZM} {l2 : Int32} {l0 : Nat} {fs1 : List Value} {y3 : Int32} {o1 : Option Value} (h2 : M.1 l0 = some (.inr (1, fs1))) (h4 : (fs1)[1]? = some (.int y3)) (kt : (y3 : Int32) ≤ (l2 : Int32) → Z g kX2_allCoins Q d cN sN M 30 [some (.ref l0), o1, some (.int l2)] []) (kf : ¬ (y3 : Int32) ≤ (l2 : Int32) → Z g kX2_allCoins Q d cN sN M 12 [some (.ref l0), o1, some (.int l2)] []) : Z g kX2_allCoins Q d cN sN M 4 [some (.ref l0), o1, some (.int l2)] [] := by
  refine zi_iload_n dX2_allCoins_4 rfl ?_
  refine zi_aload_n dX2_allCoins_5 rfl zrf_r ?_
  refine zi_getfield dX2_allCoins_6 rfl h2 h4 ?_
  exact zi_icmp_ge (tgt := 30) dX2_allCoins_9 (by decide +kernel) kt kf
theorem sX2_allCoins_12 {g : ZG} {Q : ZQ} {d cN sN : Nat} {M : ZM} {l1 : Int32} {l0 : Nat} {fs1 : List Value} {r3 : Nat} {l2 : Int32} {n5 : Nat} {f6 : Nat → Option Nat} {c7 : ClassId} {r11 : Nat} {fs13 : List Value} {y15 : Int32} (h2 : M.1 l0 = some (.inr (1, fs1))) (h4 : (fs1)[2]? = some (.ref r3)) (h8 : M.1 r3 = some (.inl (c7, n5, .inr (.inr (.inr (.inr f6)))))) (h9 : zRt g c7) (h10 : vp_in (l2) n5) (h12 : va_rf (f6 ((l2 : Int32).toNatClampNeg)) = .ref r11) (h14 : M.1 r11 = some (.inr (2, fs13))) (h16 : (fs13)[0]? = some (.int y15)) (kk : Z g kX2_allCoins Q d cN sN M 4 [some (.ref l0), some (.int (l1 + y15)), some (.int (l2 + 1))] []) : Z g kX2_allCoins Q d cN sN M 12 [some (.ref l0), some (.int l1), some (.int l2)] [] := by
  refine zi_iload_n dX2_allCoins_12 rfl ?_
  refine zi_aload_n dX2_allCoins_13 rfl zrf_r ?_
  refine zi_getfield dX2_allCoins_14 rfl h2 h4 ?_
  refine zi_iload_n dX2_allCoins_17 rfl ?_
  refine zi_aaload dX2_allCoins_18 h8 h9 h10 h12 ?_
  refine zi_getfield dX2_allCoins_19 rfl h14 h16 ?_
  refine zi_iadd dX2_allCoins_22 ?_
  refine zi_istore_n dX2_allCoins_23 (Nat.le_of_ble_eq_true rfl) ?_
  refine zi_iinc dX2_allCoins_24 rfl (by decide +kernel : Int32.ofInt (1) = 1) (Nat.le_of_ble_eq_true rfl) ?_
  exact zi_goto (tgt := 4) dX2_allCoins_27 (by decide +kernel) kk
theorem sX2_allCoins_30 {g : ZG} {Q : ZQ} {d cN sN : Nat} {M : ZM} {l1 : Int32} {o0 o2 : Option Value}  (kk : Q.1 (some (.int l1)) M) : Z g kX2_allCoins Q d cN sN M 30 [o0, some (.int l1), o2] [] := by
  refine zi_iload_n dX2_allCoins_30 rfl ?_
  exact zi_ireturn dX2_allCoins_31 rfl rfl kk
abbrev kX2_allShame : ZK := (RX2, cX2_allShame, 3, (Option.some Jvm.ClassFile.FieldType.int), [], false, fX2)
abbrev tX2_allShame (g : ZG) (args : List Value) (M : ZM) (d c s : Nat) (Q : ZQ) : Prop := Ct g yX2_allShame (ws_ yX2_allShame cX2_allShame 3 (Option.some Jvm.ClassFile.FieldType.int)) args M d c s Q
abbrev nX2_allShame : Nat := 1
theorem mX2_allShame : zMok yX2_allShame 0 3 := ⟨⟨by decide +kernel, by decide +kernel, by decide +kernel⟩, by decide⟩
theorem eX2_allShame {g : ZG} {Q : ZQ} {d cN sN : Nat} {M : ZM} {a0 : Nat} (hV : zV g) (h : Z g kX2_allShame Q d cN sN M 0 [some (.ref a0), none, none] []) : tX2_allShame g [.ref a0] M d cN sN Q := Ct.of (K := kX2_allShame) rfl (by decide +kernel) hV fokX2 rfl (fun h => by cases h) (fun v hv => by simp only [List.mem_cons, List.not_mem_nil, or_false] at hv; rcases hv with rfl <;> first | rfl | assumption) (Nat.le_of_ble_eq_true rfl) h
theorem sX2_allShame_0 {g : ZG} {Q : ZQ} {d cN sN : Nat} {M : ZM} {o0 o1 o2 : Option Value}  (kk : Z g kX2_allShame Q d cN sN M 4 [o0, some (.int 0), some (.int 0)] []) : Z g kX2_allShame Q d cN sN M 0 [o0, o1, o2] [] := by
  refine zi_iconst dX2_allShame_0 (by decide +kernel : Int32.ofInt (0) = (0 : Int32)) ?_
  refine zi_istore_n dX2_allShame_1 (Nat.le_of_ble_eq_true rfl) ?_
  refine zi_iconst dX2_allShame_2 (by decide +kernel : Int32.ofInt (0) = (0 : Int32)) ?_
  refine zi_istore_n dX2_allShame_3 (Nat.le_of_ble_eq_true rfl) ?_
  exact kk
theorem sX2_allShame_4 {g : ZG} {Q : ZQ} {d cN sN : Nat} {M : ZM} {l2 : Int32} {l0 : Nat} {fs1 : List Value} {y3 : Int32} {o1 : Option Value} (h2 : M.1 l0 = some (.inr (1, fs1))) (h4 : (fs1)[1]? = some (.int y3)) (kt : (y3 : Int32) ≤ (l2 : Int32) → Z g kX2_allShame Q d cN sN M 30 [some (.ref l0), o1, some (.int l2)] []) (kf : ¬ (y3 : Int32) ≤ (l2 : Int32) → Z g kX2_allShame Q d cN sN M 12 [some (.ref l0), o1, some (.int l2)] []) : Z g kX2_allShame Q d cN sN M 4 [some (.ref l0), o1, some (.int l2)] [] := by
  refine zi_iload_n dX2_allShame_4 rfl ?_
  refine zi_aload_n dX2_allShame_5 rfl zrf_r ?_
  refine zi_getfield dX2_allShame_6 rfl h2 h4 ?_
  exact zi_icmp_ge (tgt := 30) dX2_allShame_9 (by decide +kernel) kt kf
theorem sX2_allShame_12 {g : ZG} {Q : ZQ} {d cN sN : Nat} {M : ZM} {l1 : Int32} {l0 : Nat} {fs1 : List Value} {r3 : Nat} {l2 : Int32} {n5 : Nat} {f6 : Nat → Option Nat} {c7 : ClassId} {r11 : Nat} {fs13 : List Value} {y15 : Int32} (h2 : M.1 l0 = some (.inr (1, fs1))) (h4 : (fs1)[2]? = some (.ref r3)) (h8 : M.1 r3 = some (.inl (c7, n5, .inr (.inr (.inr (.inr f6)))))) (h9 : zRt g c7) (h10 : vp_in (l2) n5) (h12 : va_rf (f6 ((l2 : Int32).toNatClampNeg)) = .ref r11) (h14 : M.1 r11 = some (.inr (2, fs13))) (h16 : (fs13)[1]? = some (.int y15)) (kk : Z g kX2_allShame Q d cN sN M 4 [some (.ref l0), some (.int (l1 + y15)), some (.int (l2 + 1))] []) : Z g kX2_allShame Q d cN sN M 12 [some (.ref l0), some (.int l1), some (.int l2)] [] := by
  refine zi_iload_n dX2_allShame_12 rfl ?_
  refine zi_aload_n dX2_allShame_13 rfl zrf_r ?_
  refine zi_getfield dX2_allShame_14 rfl h2 h4 ?_
  refine zi_iload_n dX2_allShame_17 rfl ?_
  refine zi_aaload dX2_allShame_18 h8 h9 h10 h12 ?_
  refine zi_getfield dX2_allShame_19 rfl h14 h16 ?_
  refine zi_iadd dX2_allShame_22 ?_
  refine zi_istore_n dX2_allShame_23 (Nat.le_of_ble_eq_true rfl) ?_
  refine zi_iinc dX2_allShame_24 rfl (by decide +kernel : Int32.ofInt (1) = 1) (Nat.le_of_ble_eq_true rfl) ?_
  exact zi_goto (tgt := 4) dX2_allShame_27 (by decide +kernel) kk
theorem sX2_allShame_30 {g : ZG} {Q : ZQ} {d cN sN : Nat} {M : ZM} {l1 : Int32} {o0 o2 : Option Value}  (kk : Q.1 (some (.int l1)) M) : Z g kX2_allShame Q d cN sN M 30 [o0, some (.int l1), o2] [] := by
  refine zi_iload_n dX2_allShame_30 rfl ?_
  exact zi_ireturn dX2_allShame_31 rfl rfl kk
abbrev kX2_allLetters : ZK := (RX2, cX2_allLetters, 3, (Option.some Jvm.ClassFile.FieldType.int), [], false, fX2)
abbrev tX2_allLetters (g : ZG) (args : List Value) (M : ZM) (d c s : Nat) (Q : ZQ) : Prop := Ct g yX2_allLetters (ws_ yX2_allLetters cX2_allLetters 3 (Option.some Jvm.ClassFile.FieldType.int)) args M d c s Q
abbrev nX2_allLetters : Nat := 1
theorem mX2_allLetters : zMok yX2_allLetters 0 3 := ⟨⟨by decide +kernel, by decide +kernel, by decide +kernel⟩, by decide⟩
theorem eX2_allLetters {g : ZG} {Q : ZQ} {d cN sN : Nat} {M : ZM} {a0 : Nat} (hV : zV g) (h : Z g kX2_allLetters Q d cN sN M 0 [some (.ref a0), none, none] []) : tX2_allLetters g [.ref a0] M d cN sN Q := Ct.of (K := kX2_allLetters) rfl (by decide +kernel) hV fokX2 rfl (fun h => by cases h) (fun v hv => by simp only [List.mem_cons, List.not_mem_nil, or_false] at hv; rcases hv with rfl <;> first | rfl | assumption) (Nat.le_of_ble_eq_true rfl) h
theorem sX2_allLetters_0 {g : ZG} {Q : ZQ} {d cN sN : Nat} {M : ZM} {o0 o1 o2 : Option Value}  (kk : Z g kX2_allLetters Q d cN sN M 4 [o0, some (.int 0), some (.int 0)] []) : Z g kX2_allLetters Q d cN sN M 0 [o0, o1, o2] [] := by
  refine zi_iconst dX2_allLetters_0 (by decide +kernel : Int32.ofInt (0) = (0 : Int32)) ?_
  refine zi_istore_n dX2_allLetters_1 (Nat.le_of_ble_eq_true rfl) ?_
  refine zi_iconst dX2_allLetters_2 (by decide +kernel : Int32.ofInt (0) = (0 : Int32)) ?_
  refine zi_istore_n dX2_allLetters_3 (Nat.le_of_ble_eq_true rfl) ?_
  exact kk
theorem sX2_allLetters_4 {g : ZG} {Q : ZQ} {d cN sN : Nat} {M : ZM} {l2 : Int32} {l0 : Nat} {fs1 : List Value} {y3 : Int32} {o1 : Option Value} (h2 : M.1 l0 = some (.inr (1, fs1))) (h4 : (fs1)[3]? = some (.int y3)) (kt : (y3 : Int32) ≤ (l2 : Int32) → Z g kX2_allLetters Q d cN sN M 30 [some (.ref l0), o1, some (.int l2)] []) (kf : ¬ (y3 : Int32) ≤ (l2 : Int32) → Z g kX2_allLetters Q d cN sN M 12 [some (.ref l0), o1, some (.int l2)] []) : Z g kX2_allLetters Q d cN sN M 4 [some (.ref l0), o1, some (.int l2)] [] := by
  refine zi_iload_n dX2_allLetters_4 rfl ?_
  refine zi_aload_n dX2_allLetters_5 rfl zrf_r ?_
  refine zi_getfield dX2_allLetters_6 rfl h2 h4 ?_
  exact zi_icmp_ge (tgt := 30) dX2_allLetters_9 (by decide +kernel) kt kf
theorem sX2_allLetters_12 {g : ZG} {Q : ZQ} {d cN sN : Nat} {M : ZM} {l1 : Int32} {l0 : Nat} {fs1 : List Value} {r3 : Nat} {l2 : Int32} {n5 : Nat} {f6 : Nat → Option Nat} {c7 : ClassId} {r11 : Nat} {fs13 : List Value} {y15 : Int32} (h2 : M.1 l0 = some (.inr (1, fs1))) (h4 : (fs1)[4]? = some (.ref r3)) (h8 : M.1 r3 = some (.inl (c7, n5, .inr (.inr (.inr (.inr f6)))))) (h9 : zRt g c7) (h10 : vp_in (l2) n5) (h12 : va_rf (f6 ((l2 : Int32).toNatClampNeg)) = .ref r11) (h14 : M.1 r11 = some (.inr (3, fs13))) (h16 : (fs13)[1]? = some (.int y15)) (kk : Z g kX2_allLetters Q d cN sN M 4 [some (.ref l0), some (.int (l1 + y15)), some (.int (l2 + 1))] []) : Z g kX2_allLetters Q d cN sN M 12 [some (.ref l0), some (.int l1), some (.int l2)] [] := by
  refine zi_iload_n dX2_allLetters_12 rfl ?_
  refine zi_aload_n dX2_allLetters_13 rfl zrf_r ?_
  refine zi_getfield dX2_allLetters_14 rfl h2 h4 ?_
  refine zi_iload_n dX2_allLetters_17 rfl ?_
  refine zi_aaload dX2_allLetters_18 h8 h9 h10 h12 ?_
  refine zi_getfield dX2_allLetters_19 rfl h14 h16 ?_
  refine zi_iadd dX2_allLetters_22 ?_
  refine zi_istore_n dX2_allLetters_23 (Nat.le_of_ble_eq_true rfl) ?_
  refine zi_iinc dX2_allLetters_24 rfl (by decide +kernel : Int32.ofInt (1) = 1) (Nat.le_of_ble_eq_true rfl) ?_
  exact zi_goto (tgt := 4) dX2_allLetters_27 (by decide +kernel) kk
theorem sX2_allLetters_30 {g : ZG} {Q : ZQ} {d cN sN : Nat} {M : ZM} {l1 : Int32} {o0 o2 : Option Value}  (kk : Q.1 (some (.int l1)) M) : Z g kX2_allLetters Q d cN sN M 30 [o0, some (.int l1), o2] [] := by
  refine zi_iload_n dX2_allLetters_30 rfl ?_
  exact zi_ireturn dX2_allLetters_31 rfl rfl kk
