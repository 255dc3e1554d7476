/-! java/util/AbstractCollection (printed by gen_m.py) -/
set_option maxRecDepth 100000
abbrev cJ0_init : ByteArray := prog_40_method_1_code
def yJ0_init : MethodName := ⟨RJ0, "<init>", "()V"⟩
theorem dJ0_init_0 : decode cJ0_init 0 = .ok (.aload_n 0, 1) := by decide +kernel
theorem dJ0_init_1 : decode cJ0_init 1 = .ok (.invokespecial 1, 3) := by decide +kernel
theorem dJ0_init_4 : decode cJ0_init 4 = .ok (.return_, 1) := by decide +kernel
def fJ0 : List ZE := []
theorem fokJ0 : zFok RJ0 fJ0 := fun _ h => by cases h
abbrev kJ0_init : ZK := (RJ0, cJ0_init, 1, (Option.none : Option Jvm.ClassFile.FieldType), [], true, fJ0)
abbrev tJ0_init (g : ZG) (args : List Value) (M : ZM) (d c s : Nat) (Q : ZQ) : Prop := Ct g yJ0_init (ws_ yJ0_init cJ0_init 1 (Option.none : Option Jvm.ClassFile.FieldType)) args M d c s Q
abbrev nJ0_init : Nat := 2
theorem mJ0_init : zMok yJ0_init 0 1 := ⟨⟨by decide +kernel, by decide +kernel, by decide +kernel⟩, by decide⟩
theorem eJ0_init {g : ZG} {Q : ZQ} {d cN sN : Nat} {M : ZM} {a0 : Nat} (hV : zV g) (h : Z g kJ0_init Q d cN sN M 0 [some (.ref a0)] []) : tJ0_init g [.ref a0] M d cN sN Q := Ct.of (K := kJ0_init) rfl (by decide +kernel) hV fokJ0 rfl (fun h => rfl) (fun v hv => by simp only [List.mem_cons, List.not_mem_nil, or_false] at hv; rcases hv with rfl <;> first | rfl | assumption) (Nat.le_of_ble_eq_true rfl) h
theorem sJ0_init_0 {g : ZG} {Q : ZQ} {d cN sN : Nat} {M : ZM} {l0 : Nat}  (kk : Z g kJ0_init Q d cN sN M 1 [some (.ref l0)] [.ref l0]) : Z g kJ0_init Q d cN sN M 0 [some (.ref l0)] [] := by
  refine zi_aload_n dJ0_init_0 rfl zrf_r ?_
  exact kk
theorem sJ0_init_4 {g : ZG} {Q : ZQ} {d cN sN : Nat} {M : ZM} {o0 : Option Value}  (kk : Q.1 none M) : Z g kJ0_init Q d cN sN M 4 [o0] [] := by
  exact zi_return dJ0_init_4 rfl kk
/-! java/util/ArrayDeque (printed by gen_m.py) -/
set_option maxRecDepth 100000
abbrev cJ1_init : ByteArray := prog_41_method_3_code
def yJ1_init : MethodName := ⟨RJ1, "<init>", "()V"⟩
def dkwJ1_init_0 : List UInt8 := [42, 183, 0, 42, 42, 16, 17, 189, 0, 47, 181, 0, 3, 177]
abbrev dktJ1_init_0 : List UInt8 := dkwJ1_init_0 ++ []
theorem dksJ1_init_0 : cJ1_init.data.toList.drop 0 = dktJ1_init_0 := by decide +kernel
theorem dJ1_init_0 : decode cJ1_init 0 = .ok (.aload_n 0, 1) := dk_42 (dk_at dksJ1_init_0 0 rfl rfl)
theorem dJ1_init_1 : decode cJ1_init 1 = .ok (.invokespecial 42, 3) := dk_183 0 42 (dk_at dksJ1_init_0 1 rfl rfl)
theorem dJ1_init_4 : decode cJ1_init 4 = .ok (.aload_n 0, 1) := dk_42 (dk_at dksJ1_init_0 4 rfl rfl)
theorem dJ1_init_5 : decode cJ1_init 5 = .ok (.bipush 17, 2) := dk_16 17 (dk_at dksJ1_init_0 5 rfl rfl)
theorem dJ1_init_7 : decode cJ1_init 7 = .ok (.anewarray 47, 3) := dk_189 0 47 (dk_at dksJ1_init_0 7 rfl rfl)
theorem dJ1_init_10 : decode cJ1_init 10 = .ok (.putfield 3, 3) := dk_181 0 3 (dk_at dksJ1_init_0 10 rfl rfl)
theorem dJ1_init_13 : decode cJ1_init 13 = .ok (.return_, 1) := dk_177 (dk_at dksJ1_init_0 13 rfl rfl)
abbrev cJ1_addLast : ByteArray := prog_41_method_13_code
def yJ1_addLast : MethodName := ⟨RJ1, "addLast", "(Ljava/lang/Object;)V"⟩
def dkwJ1_addLast_2 : List UInt8 := [182, 0, 71, 177]
abbrev dktJ1_addLast_2 : List UInt8 := dkwJ1_addLast_2 ++ []
def dkwJ1_addLast_1 : List UInt8 := [42, 180, 0, 24, 42, 42, 180, 0, 20, 44, 190, 184, 0, 74, 90, 181, 0, 20, 160, 0, 8, 42, 4]
abbrev dktJ1_addLast_1 : List UInt8 := dkwJ1_addLast_1 ++ dktJ1_addLast_2
def dkwJ1_addLast_0 : List UInt8 := [43, 199, 0, 11, 187, 0, 65, 89, 183, 0, 67, 191, 42, 180, 0, 3, 77, 44, 42, 180, 0, 20, 43, 83]
abbrev dktJ1_addLast_0 : List UInt8 := dkwJ1_addLast_0 ++ dktJ1_addLast_1
theorem dksJ1_addLast_0 : cJ1_addLast.data.toList.drop 0 = dktJ1_addLast_0 := by decide +kernel
theorem dksJ1_addLast_1 : cJ1_addLast.data.toList.drop 24 = dktJ1_addLast_1 := dk_seg dksJ1_addLast_0 24 rfl rfl
theorem dksJ1_addLast_2 : cJ1_addLast.data.toList.drop 47 = dktJ1_addLast_2 := dk_seg dksJ1_addLast_1 23 rfl rfl
theorem dJ1_addLast_0 : decode cJ1_addLast 0 = .ok (.aload_n 1, 1) := dk_43 (dk_at dksJ1_addLast_0 0 rfl rfl)
theorem dJ1_addLast_1 : decode cJ1_addLast 1 = .ok (.ifnonnull 11, 3) := dk_199 0 11 (dk_at dksJ1_addLast_0 1 rfl rfl)
theorem dJ1_addLast_4 : decode cJ1_addLast 4 = .ok (.new 65, 3) := dk_187 0 65 (dk_at dksJ1_addLast_0 4 rfl rfl)
theorem dJ1_addLast_7 : decode cJ1_addLast 7 = .ok (.dup, 1) := dk_89 (dk_at dksJ1_addLast_0 7 rfl rfl)
theorem dJ1_addLast_8 : decode cJ1_addLast 8 = .ok (.invokespecial 67, 3) := dk_183 0 67 (dk_at dksJ1_addLast_0 8 rfl rfl)
theorem dJ1_addLast_11 : decode cJ1_addLast 11 = .ok (.athrow, 1) := dk_191 (dk_at dksJ1_addLast_0 11 rfl rfl)
theorem dJ1_addLast_12 : decode cJ1_addLast 12 = .ok (.aload_n 0, 1) := dk_42 (dk_at dksJ1_addLast_0 12 rfl rfl)
theorem dJ1_addLast_13 : decode cJ1_addLast 13 = .ok (.getfield 3, 3) := dk_180 0 3 (dk_at dksJ1_addLast_0 13 rfl rfl)
theorem dJ1_addLast_16 : decode cJ1_addLast 16 = .ok (.astore_n 2, 1) := dk_77 (dk_at dksJ1_addLast_0 16 rfl rfl)
theorem dJ1_addLast_17 : decode cJ1_addLast 17 = .ok (.aload_n 2, 1) := dk_44 (dk_at dksJ1_addLast_0 17 rfl rfl)
theorem dJ1_addLast_18 : decode cJ1_addLast 18 = .ok (.aload_n 0, 1) := dk_42 (dk_at dksJ1_addLast_0 18 rfl rfl)
theorem dJ1_addLast_19 : decode cJ1_addLast 19 = .ok (.getfield 20, 3) := dk_180 0 20 (dk_at dksJ1_addLast_0 19 rfl rfl)
theorem dJ1_addLast_22 : decode cJ1_addLast 22 = .ok (.aload_n 1, 1) := dk_43 (dk_at dksJ1_addLast_0 22 rfl rfl)
theorem dJ1_addLast_23 : decode cJ1_addLast 23 = .ok (.aastore, 1) := dk_83 (dk_at dksJ1_addLast_0 23 rfl rfl)
theorem dJ1_addLast_24 : decode cJ1_addLast 24 = .ok (.aload_n 0, 1) := dk_42 (dk_at dksJ1_addLast_1 0 rfl rfl)
theorem dJ1_addLast_25 : decode cJ1_addLast 25 = .ok (.getfield 24, 3) := dk_180 0 24 (dk_at dksJ1_addLast_1 1 rfl rfl)
theorem dJ1_addLast_28 : decode cJ1_addLast 28 = .ok (.aload_n 0, 1) := dk_42 (dk_at dksJ1_addLast_1 4 rfl rfl)
theorem dJ1_addLast_29 : decode cJ1_addLast 29 = .ok (.aload_n 0, 1) := dk_42 (dk_at dksJ1_addLast_1 5 rfl rfl)
theorem dJ1_addLast_30 : decode cJ1_addLast 30 = .ok (.getfield 20, 3) := dk_180 0 20 (dk_at dksJ1_addLast_1 6 rfl rfl)
theorem dJ1_addLast_33 : decode cJ1_addLast 33 = .ok (.aload_n 2, 1) := dk_44 (dk_at dksJ1_addLast_1 9 rfl rfl)
theorem dJ1_addLast_34 : decode cJ1_addLast 34 = .ok (.arraylength, 1) := dk_190 (dk_at dksJ1_addLast_1 10 rfl rfl)
theorem dJ1_addLast_35 : decode cJ1_addLast 35 = .ok (.invokestatic 74, 3) := dk_184 0 74 (dk_at dksJ1_addLast_1 11 rfl rfl)
theorem dJ1_addLast_38 : decode cJ1_addLast 38 = .ok (.dup_x1, 1) := dk_90 (dk_at dksJ1_addLast_1 14 rfl rfl)
theorem dJ1_addLast_39 : decode cJ1_addLast 39 = .ok (.putfield 20, 3) := dk_181 0 20 (dk_at dksJ1_addLast_1 15 rfl rfl)
theorem dJ1_addLast_42 : decode cJ1_addLast 42 = .ok (.if_icmp .ne 8, 3) := dk_160 0 8 (dk_at dksJ1_addLast_1 18 rfl rfl)
theorem dJ1_addLast_45 : decode cJ1_addLast 45 = .ok (.aload_n 0, 1) := dk_42 (dk_at dksJ1_addLast_1 21 rfl rfl)
theorem dJ1_addLast_46 : decode cJ1_addLast 46 = .ok (.iconst 1, 1) := dk_4 (dk_at dksJ1_addLast_1 22 rfl rfl)
theorem dJ1_addLast_47 : decode cJ1_addLast 47 = .ok (.invokevirtual 71, 3) := dk_182 0 71 (dk_at dksJ1_addLast_2 0 rfl rfl)
theorem dJ1_addLast_50 : decode cJ1_addLast 50 = .ok (.return_, 1) := dk_177 (dk_at dksJ1_addLast_2 3 rfl rfl)
abbrev cJ1_inc : ByteArray := prog_41_method_6_code
def yJ1_inc : MethodName := ⟨RJ1, "inc", "(II)I"⟩
def dkwJ1_inc_0 : List UInt8 := [132, 0, 1, 26, 27, 161, 0, 5, 3, 59, 26, 172]
abbrev dktJ1_inc_0 : List UInt8 := dkwJ1_inc_0 ++ []
theorem dksJ1_inc_0 : cJ1_inc.data.toList.drop 0 = dktJ1_inc_0 := by decide +kernel
theorem dJ1_inc_0 : decode cJ1_inc 0 = .ok (.iinc 0 1, 3) := dk_132 0 1 (dk_at dksJ1_inc_0 0 rfl rfl)
theorem dJ1_inc_3 : decode cJ1_inc 3 = .ok (.iload_n 0, 1) := dk_26 (dk_at dksJ1_inc_0 3 rfl rfl)
theorem dJ1_inc_4 : decode cJ1_inc 4 = .ok (.iload_n 1, 1) := dk_27 (dk_at dksJ1_inc_0 4 rfl rfl)
theorem dJ1_inc_5 : decode cJ1_inc 5 = .ok (.if_icmp .lt 5, 3) := dk_161 0 5 (dk_at dksJ1_inc_0 5 rfl rfl)
theorem dJ1_inc_8 : decode cJ1_inc 8 = .ok (.iconst 0, 1) := dk_3 (dk_at dksJ1_inc_0 8 rfl rfl)
theorem dJ1_inc_9 : decode cJ1_inc 9 = .ok (.istore_n 0, 1) := dk_59 (dk_at dksJ1_inc_0 9 rfl rfl)
theorem dJ1_inc_10 : decode cJ1_inc 10 = .ok (.iload_n 0, 1) := dk_26 (dk_at dksJ1_inc_0 10 rfl rfl)
theorem dJ1_inc_11 : decode cJ1_inc 11 = .ok (.ireturn, 1) := dk_172 (dk_at dksJ1_inc_0 11 rfl rfl)
abbrev cJ1_grow : ByteArray := prog_41_method_1_code
def yJ1_grow : MethodName := ⟨RJ1, "grow", "(I)V"⟩
def dkwJ1_grow_7 : List UInt8 := [177]
abbrev dktJ1_grow_7 : List UInt8 := dkwJ1_grow_7 ++ []
def dkwJ1_grow_6 : List UInt8 := [181, 0, 24, 54, 8, 21, 7, 21, 8, 162, 0, 15, 25, 5, 21, 7, 1, 83, 132, 7, 1, 167, 255, 240]
abbrev dktJ1_grow_6 : List UInt8 := dkwJ1_grow_6 ++ dktJ1_grow_7
def dkwJ1_grow_5 : List UInt8 := [42, 180, 0, 24, 100, 184, 0, 27, 42, 180, 0, 24, 54, 7, 42, 89, 180, 0, 24, 21, 6, 96, 90]
abbrev dktJ1_grow_5 : List UInt8 := dkwJ1_grow_5 ++ dktJ1_grow_6
def dkwJ1_grow_4 : List UInt8 := [198, 0, 71, 29, 28, 100, 54, 6, 25, 5, 42, 180, 0, 24, 25, 5, 42, 180, 0, 24, 21, 6, 96, 28]
abbrev dktJ1_grow_4 : List UInt8 := dkwJ1_grow_4 ++ dktJ1_grow_5
def dkwJ1_grow_3 : List UInt8 := [180, 0, 24, 161, 0, 24, 42, 180, 0, 20, 42, 180, 0, 24, 160, 0, 81, 25, 5, 42, 180, 0, 24, 50]
abbrev dktJ1_grow_3 : List UInt8 := dkwJ1_grow_3 ++ dktJ1_grow_4
def dkwJ1_grow_2 : List UInt8 := [182, 0, 10, 62, 42, 42, 180, 0, 3, 29, 184, 0, 14, 90, 181, 0, 3, 58, 5, 42, 180, 0, 20, 42]
abbrev dktJ1_grow_2 : List UInt8 := dkwJ1_grow_2 ++ dktJ1_grow_3
def dkwJ1_grow_1 : List UInt8 := [21, 4, 27, 161, 0, 15, 28, 21, 4, 96, 89, 62, 18, 9, 100, 158, 0, 11, 42, 27, 21, 4]
abbrev dktJ1_grow_1 : List UInt8 := dkwJ1_grow_1 ++ dktJ1_grow_2
def dkwJ1_grow_0 : List UInt8 := [42, 180, 0, 3, 190, 61, 28, 16, 64, 162, 0, 9, 28, 5, 96, 167, 0, 6, 28, 4, 122, 54, 4]
abbrev dktJ1_grow_0 : List UInt8 := dkwJ1_grow_0 ++ dktJ1_grow_1
theorem dksJ1_grow_0 : cJ1_grow.data.toList.drop 0 = dktJ1_grow_0 := by decide +kernel
theorem dksJ1_grow_1 : cJ1_grow.data.toList.drop 23 = dktJ1_grow_1 := dk_seg dksJ1_grow_0 23 rfl rfl
theorem dksJ1_grow_2 : cJ1_grow.data.toList.drop 45 = dktJ1_grow_2 := dk_seg dksJ1_grow_1 22 rfl rfl
theorem dksJ1_grow_3 : cJ1_grow.data.toList.drop 69 = dktJ1_grow_3 := dk_seg dksJ1_grow_2 24 rfl rfl
theorem dksJ1_grow_4 : cJ1_grow.data.toList.drop 93 = dktJ1_grow_4 := dk_seg dksJ1_grow_3 24 rfl rfl
theorem dksJ1_grow_5 : cJ1_grow.data.toList.drop 117 = dktJ1_grow_5 := dk_seg dksJ1_grow_4 24 rfl rfl
theorem dksJ1_grow_6 : cJ1_grow.data.toList.drop 140 = dktJ1_grow_6 := dk_seg dksJ1_grow_5 23 rfl rfl
theorem dksJ1_grow_7 : cJ1_grow.data.toList.drop 164 = dktJ1_grow_7 := dk_seg dksJ1_grow_6 24 rfl rfl
theorem dJ1_grow_0 : decode cJ1_grow 0 = .ok (.aload_n 0, 1) := dk_42 (dk_at dksJ1_grow_0 0 rfl rfl)
theorem dJ1_grow_1 : decode cJ1_grow 1 = .ok (.getfield 3, 3) := dk_180 0 3 (dk_at dksJ1_grow_0 1 rfl rfl)
theorem dJ1_grow_4 : decode cJ1_grow 4 = .ok (.arraylength, 1) := dk_190 (dk_at dksJ1_grow_0 4 rfl rfl)
theorem dJ1_grow_5 : decode cJ1_grow 5 = .ok (.istore_n 2, 1) := dk_61 (dk_at dksJ1_grow_0 5 rfl rfl)
theorem dJ1_grow_6 : decode cJ1_grow 6 = .ok (.iload_n 2, 1) := dk_28 (dk_at dksJ1_grow_0 6 rfl rfl)
theorem dJ1_grow_7 : decode cJ1_grow 7 = .ok (.bipush 64, 2) := dk_16 64 (dk_at dksJ1_grow_0 7 rfl rfl)
theorem dJ1_grow_9 : decode cJ1_grow 9 = .ok (.if_icmp .ge 9, 3) := dk_162 0 9 (dk_at dksJ1_grow_0 9 rfl rfl)
theorem dJ1_grow_12 : decode cJ1_grow 12 = .ok (.iload_n 2, 1) := dk_28 (dk_at dksJ1_grow_0 12 rfl rfl)
theorem dJ1_grow_13 : decode cJ1_grow 13 = .ok (.iconst 2, 1) := dk_5 (dk_at dksJ1_grow_0 13 rfl rfl)
theorem dJ1_grow_14 : decode cJ1_grow 14 = .ok (.iadd, 1) := dk_96 (dk_at dksJ1_grow_0 14 rfl rfl)
theorem dJ1_grow_15 : decode cJ1_grow 15 = .ok (.goto 6, 3) := dk_167 0 6 (dk_at dksJ1_grow_0 15 rfl rfl)
theorem dJ1_grow_18 : decode cJ1_grow 18 = .ok (.iload_n 2, 1) := dk_28 (dk_at dksJ1_grow_0 18 rfl rfl)
theorem dJ1_grow_19 : decode cJ1_grow 19 = .ok (.iconst 1, 1) := dk_4 (dk_at dksJ1_grow_0 19 rfl rfl)
theorem dJ1_grow_20 : decode cJ1_grow 20 = .ok (.ishr, 1) := dk_122 (dk_at dksJ1_grow_0 20 rfl rfl)
theorem dJ1_grow_21 : decode cJ1_grow 21 = .ok (.istore 4, 2) := dk_54 4 (dk_at dksJ1_grow_0 21 rfl rfl)
theorem dJ1_grow_23 : decode cJ1_grow 23 = .ok (.iload 4, 2) := dk_21 4 (dk_at dksJ1_grow_1 0 rfl rfl)
theorem dJ1_grow_25 : decode cJ1_grow 25 = .ok (.iload_n 1, 1) := dk_27 (dk_at dksJ1_grow_1 2 rfl rfl)
theorem dJ1_grow_26 : decode cJ1_grow 26 = .ok (.if_icmp .lt 15, 3) := dk_161 0 15 (dk_at dksJ1_grow_1 3 rfl rfl)
theorem dJ1_grow_29 : decode cJ1_grow 29 = .ok (.iload_n 2, 1) := dk_28 (dk_at dksJ1_grow_1 6 rfl rfl)
theorem dJ1_grow_30 : decode cJ1_grow 30 = .ok (.iload 4, 2) := dk_21 4 (dk_at dksJ1_grow_1 7 rfl rfl)
theorem dJ1_grow_32 : decode cJ1_grow 32 = .ok (.iadd, 1) := dk_96 (dk_at dksJ1_grow_1 9 rfl rfl)
theorem dJ1_grow_33 : decode cJ1_grow 33 = .ok (.dup, 1) := dk_89 (dk_at dksJ1_grow_1 10 rfl rfl)
theorem dJ1_grow_34 : decode cJ1_grow 34 = .ok (.istore_n 3, 1) := dk_62 (dk_at dksJ1_grow_1 11 rfl rfl)
theorem dJ1_grow_35 : decode cJ1_grow 35 = .ok (.ldc 9, 2) := dk_18 9 (dk_at dksJ1_grow_1 12 rfl rfl)
theorem dJ1_grow_37 : decode cJ1_grow 37 = .ok (.isub, 1) := dk_100 (dk_at dksJ1_grow_1 14 rfl rfl)
theorem dJ1_grow_38 : decode cJ1_grow 38 = .ok (.ifCond .le 11, 3) := dk_158 0 11 (dk_at dksJ1_grow_1 15 rfl rfl)
theorem dJ1_grow_41 : decode cJ1_grow 41 = .ok (.aload_n 0, 1) := dk_42 (dk_at dksJ1_grow_1 18 rfl rfl)
theorem dJ1_grow_42 : decode cJ1_grow 42 = .ok (.iload_n 1, 1) := dk_27 (dk_at dksJ1_grow_1 19 rfl rfl)
theorem dJ1_grow_43 : decode cJ1_grow 43 = .ok (.iload 4, 2) := dk_21 4 (dk_at dksJ1_grow_1 20 rfl rfl)
theorem dJ1_grow_45 : decode cJ1_grow 45 = .ok (.invokevirtual 10, 3) := dk_182 0 10 (dk_at dksJ1_grow_2 0 rfl rfl)
theorem dJ1_grow_48 : decode cJ1_grow 48 = .ok (.istore_n 3, 1) := dk_62 (dk_at dksJ1_grow_2 3 rfl rfl)
theorem dJ1_grow_49 : decode cJ1_grow 49 = .ok (.aload_n 0, 1) := dk_42 (dk_at dksJ1_grow_2 4 rfl rfl)
theorem dJ1_grow_50 : decode cJ1_grow 50 = .ok (.aload_n 0, 1) := dk_42 (dk_at dksJ1_grow_2 5 rfl rfl)
theorem dJ1_grow_51 : decode cJ1_grow 51 = .ok (.getfield 3, 3) := dk_180 0 3 (dk_at dksJ1_grow_2 6 rfl rfl)
theorem dJ1_grow_54 : decode cJ1_grow 54 = .ok (.iload_n 3, 1) := dk_29 (dk_at dksJ1_grow_2 9 rfl rfl)
theorem dJ1_grow_55 : decode cJ1_grow 55 = .ok (.invokestatic 14, 3) := dk_184 0 14 (dk_at dksJ1_grow_2 10 rfl rfl)
theorem dJ1_grow_58 : decode cJ1_grow 58 = .ok (.dup_x1, 1) := dk_90 (dk_at dksJ1_grow_2 13 rfl rfl)
theorem dJ1_grow_59 : decode cJ1_grow 59 = .ok (.putfield 3, 3) := dk_181 0 3 (dk_at dksJ1_grow_2 14 rfl rfl)
theorem dJ1_grow_62 : decode cJ1_grow 62 = .ok (.astore 5, 2) := dk_58 5 (dk_at dksJ1_grow_2 17 rfl rfl)
theorem dJ1_grow_64 : decode cJ1_grow 64 = .ok (.aload_n 0, 1) := dk_42 (dk_at dksJ1_grow_2 19 rfl rfl)
theorem dJ1_grow_65 : decode cJ1_grow 65 = .ok (.getfield 20, 3) := dk_180 0 20 (dk_at dksJ1_grow_2 20 rfl rfl)
theorem dJ1_grow_68 : decode cJ1_grow 68 = .ok (.aload_n 0, 1) := dk_42 (dk_at dksJ1_grow_2 23 rfl rfl)
theorem dJ1_grow_69 : decode cJ1_grow 69 = .ok (.getfield 24, 3) := dk_180 0 24 (dk_at dksJ1_grow_3 0 rfl rfl)
theorem dJ1_grow_72 : decode cJ1_grow 72 = .ok (.if_icmp .lt 24, 3) := dk_161 0 24 (dk_at dksJ1_grow_3 3 rfl rfl)
theorem dJ1_grow_75 : decode cJ1_grow 75 = .ok (.aload_n 0, 1) := dk_42 (dk_at dksJ1_grow_3 6 rfl rfl)
theorem dJ1_grow_76 : decode cJ1_grow 76 = .ok (.getfield 20, 3) := dk_180 0 20 (dk_at dksJ1_grow_3 7 rfl rfl)
theorem dJ1_grow_79 : decode cJ1_grow 79 = .ok (.aload_n 0, 1) := dk_42 (dk_at dksJ1_grow_3 10 rfl rfl)
theorem dJ1_grow_80 : decode cJ1_grow 80 = .ok (.getfield 24, 3) := dk_180 0 24 (dk_at dksJ1_grow_3 11 rfl rfl)
theorem dJ1_grow_83 : decode cJ1_grow 83 = .ok (.if_icmp .ne 81, 3) := dk_160 0 81 (dk_at dksJ1_grow_3 14 rfl rfl)
theorem dJ1_grow_86 : decode cJ1_grow 86 = .ok (.aload 5, 2) := dk_25 5 (dk_at dksJ1_grow_3 17 rfl rfl)
theorem dJ1_grow_88 : decode cJ1_grow 88 = .ok (.aload_n 0, 1) := dk_42 (dk_at dksJ1_grow_3 19 rfl rfl)
theorem dJ1_grow_89 : decode cJ1_grow 89 = .ok (.getfield 24, 3) := dk_180 0 24 (dk_at dksJ1_grow_3 20 rfl rfl)
theorem dJ1_grow_92 : decode cJ1_grow 92 = .ok (.aaload, 1) := dk_50 (dk_at dksJ1_grow_3 23 rfl rfl)
theorem dJ1_grow_93 : decode cJ1_grow 93 = .ok (.ifnull 71, 3) := dk_198 0 71 (dk_at dksJ1_grow_4 0 rfl rfl)
theorem dJ1_grow_96 : decode cJ1_grow 96 = .ok (.iload_n 3, 1) := dk_29 (dk_at dksJ1_grow_4 3 rfl rfl)
theorem dJ1_grow_97 : decode cJ1_grow 97 = .ok (.iload_n 2, 1) := dk_28 (dk_at dksJ1_grow_4 4 rfl rfl)
theorem dJ1_grow_98 : decode cJ1_grow 98 = .ok (.isub, 1) := dk_100 (dk_at dksJ1_grow_4 5 rfl rfl)
theorem dJ1_grow_99 : decode cJ1_grow 99 = .ok (.istore 6, 2) := dk_54 6 (dk_at dksJ1_grow_4 6 rfl rfl)
theorem dJ1_grow_101 : decode cJ1_grow 101 = .ok (.aload 5, 2) := dk_25 5 (dk_at dksJ1_grow_4 8 rfl rfl)
theorem dJ1_grow_103 : decode cJ1_grow 103 = .ok (.aload_n 0, 1) := dk_42 (dk_at dksJ1_grow_4 10 rfl rfl)
theorem dJ1_grow_104 : decode cJ1_grow 104 = .ok (.getfield 24, 3) := dk_180 0 24 (dk_at dksJ1_grow_4 11 rfl rfl)
theorem dJ1_grow_107 : decode cJ1_grow 107 = .ok (.aload 5, 2) := dk_25 5 (dk_at dksJ1_grow_4 14 rfl rfl)
theorem dJ1_grow_109 : decode cJ1_grow 109 = .ok (.aload_n 0, 1) := dk_42 (dk_at dksJ1_grow_4 16 rfl rfl)
theorem dJ1_grow_110 : decode cJ1_grow 110 = .ok (.getfield 24, 3) := dk_180 0 24 (dk_at dksJ1_grow_4 17 rfl rfl)
theorem dJ1_grow_113 : decode cJ1_grow 113 = .ok (.iload 6, 2) := dk_21 6 (dk_at dksJ1_grow_4 20 rfl rfl)
theorem dJ1_grow_115 : decode cJ1_grow 115 = .ok (.iadd, 1) := dk_96 (dk_at dksJ1_grow_4 22 rfl rfl)
theorem dJ1_grow_116 : decode cJ1_grow 116 = .ok (.iload_n 2, 1) := dk_28 (dk_at dksJ1_grow_4 23 rfl rfl)
theorem dJ1_grow_117 : decode cJ1_grow 117 = .ok (.aload_n 0, 1) := dk_42 (dk_at dksJ1_grow_5 0 rfl rfl)
theorem dJ1_grow_118 : decode cJ1_grow 118 = .ok (.getfield 24, 3) := dk_180 0 24 (dk_at dksJ1_grow_5 1 rfl rfl)
theorem dJ1_grow_121 : decode cJ1_grow 121 = .ok (.isub, 1) := dk_100 (dk_at dksJ1_grow_5 4 rfl rfl)
theorem dJ1_grow_122 : decode cJ1_grow 122 = .ok (.invokestatic 27, 3) := dk_184 0 27 (dk_at dksJ1_grow_5 5 rfl rfl)
theorem dJ1_grow_125 : decode cJ1_grow 125 = .ok (.aload_n 0, 1) := dk_42 (dk_at dksJ1_grow_5 8 rfl rfl)
theorem dJ1_grow_126 : decode cJ1_grow 126 = .ok (.getfield 24, 3) := dk_180 0 24 (dk_at dksJ1_grow_5 9 rfl rfl)
theorem dJ1_grow_129 : decode cJ1_grow 129 = .ok (.istore 7, 2) := dk_54 7 (dk_at dksJ1_grow_5 12 rfl rfl)
theorem dJ1_grow_131 : decode cJ1_grow 131 = .ok (.aload_n 0, 1) := dk_42 (dk_at dksJ1_grow_5 14 rfl rfl)
theorem dJ1_grow_132 : decode cJ1_grow 132 = .ok (.dup, 1) := dk_89 (dk_at dksJ1_grow_5 15 rfl rfl)
theorem dJ1_grow_133 : decode cJ1_grow 133 = .ok (.getfield 24, 3) := dk_180 0 24 (dk_at dksJ1_grow_5 16 rfl rfl)
theorem dJ1_grow_136 : decode cJ1_grow 136 = .ok (.iload 6, 2) := dk_21 6 (dk_at dksJ1_grow_5 19 rfl rfl)
theorem dJ1_grow_138 : decode cJ1_grow 138 = .ok (.iadd, 1) := dk_96 (dk_at dksJ1_grow_5 21 rfl rfl)
theorem dJ1_grow_139 : decode cJ1_grow 139 = .ok (.dup_x1, 1) := dk_90 (dk_at dksJ1_grow_5 22 rfl rfl)
theorem dJ1_grow_140 : decode cJ1_grow 140 = .ok (.putfield 24, 3) := dk_181 0 24 (dk_at dksJ1_grow_6 0 rfl rfl)
theorem dJ1_grow_143 : decode cJ1_grow 143 = .ok (.istore 8, 2) := dk_54 8 (dk_at dksJ1_grow_6 3 rfl rfl)
theorem dJ1_grow_145 : decode cJ1_grow 145 = .ok (.iload 7, 2) := dk_21 7 (dk_at dksJ1_grow_6 5 rfl rfl)
theorem dJ1_grow_147 : decode cJ1_grow 147 = .ok (.iload 8, 2) := dk_21 8 (dk_at dksJ1_grow_6 7 rfl rfl)
theorem dJ1_grow_149 : decode cJ1_grow 149 = .ok (.if_icmp .ge 15, 3) := dk_162 0 15 (dk_at dksJ1_grow_6 9 rfl rfl)
theorem dJ1_grow_152 : decode cJ1_grow 152 = .ok (.aload 5, 2) := dk_25 5 (dk_at dksJ1_grow_6 12 rfl rfl)
theorem dJ1_grow_154 : decode cJ1_grow 154 = .ok (.iload 7, 2) := dk_21 7 (dk_at dksJ1_grow_6 14 rfl rfl)
theorem dJ1_grow_156 : decode cJ1_grow 156 = .ok (.aconst_null, 1) := dk_1 (dk_at dksJ1_grow_6 16 rfl rfl)
theorem dJ1_grow_157 : decode cJ1_grow 157 = .ok (.aastore, 1) := dk_83 (dk_at dksJ1_grow_6 17 rfl rfl)
theorem dJ1_grow_158 : decode cJ1_grow 158 = .ok (.iinc 7 1, 3) := dk_132 7 1 (dk_at dksJ1_grow_6 18 rfl rfl)
theorem dJ1_grow_161 : decode cJ1_grow 161 = .ok (.goto (-16), 3) := dk_167 255 240 (dk_at dksJ1_grow_6 21 rfl rfl)
theorem dJ1_grow_164 : decode cJ1_grow 164 = .ok (.return_, 1) := dk_177 (dk_at dksJ1_grow_7 0 rfl rfl)
abbrev cJ1_newCapacity : ByteArray := prog_41_method_2_code
def yJ1_newCapacity : MethodName := ⟨RJ1, "newCapacity", "(II)I"⟩
def dkwJ1_newCapacity_2 : List UInt8 := [18, 9, 100, 156, 0, 9, 29, 28, 96, 167, 0, 5, 18, 9, 172]
abbrev dktJ1_newCapacity_2 : List UInt8 := dkwJ1_newCapacity_2 ++ []
def dkwJ1_newCapacity_1 : List UInt8 := [187, 0, 33, 89, 18, 35, 183, 0, 37, 191, 18, 41, 172, 27, 28, 164, 0, 6, 21, 4, 172, 29, 28, 96]
abbrev dktJ1_newCapacity_1 : List UInt8 := dkwJ1_newCapacity_1 ++ dktJ1_newCapacity_2
def dkwJ1_newCapacity_0 : List UInt8 := [42, 180, 0, 3, 190, 62, 29, 27, 96, 89, 54, 4, 18, 9, 100, 158, 0, 21, 21, 4, 156, 0, 13]
abbrev dktJ1_newCapacity_0 : List UInt8 := dkwJ1_newCapacity_0 ++ dktJ1_newCapacity_1
theorem dksJ1_newCapacity_0 : cJ1_newCapacity.data.toList.drop 0 = dktJ1_newCapacity_0 := by decide +kernel
theorem dksJ1_newCapacity_1 : cJ1_newCapacity.data.toList.drop 23 = dktJ1_newCapacity_1 := dk_seg dksJ1_newCapacity_0 23 rfl rfl
theorem dksJ1_newCapacity_2 : cJ1_newCapacity.data.toList.drop 47 = dktJ1_newCapacity_2 := dk_seg dksJ1_newCapacity_1 24 rfl rfl
theorem dJ1_newCapacity_0 : decode cJ1_newCapacity 0 = .ok (.aload_n 0, 1) := dk_42 (dk_at dksJ1_newCapacity_0 0 rfl rfl)
theorem dJ1_newCapacity_1 : decode cJ1_newCapacity 1 = .ok (.getfield 3, 3) := dk_180 0 3 (dk_at dksJ1_newCapacity_0 1 rfl rfl)
theorem dJ1_newCapacity_4 : decode cJ1_newCapacity 4 = .ok (.arraylength, 1) := dk_190 (dk_at dksJ1_newCapacity_0 4 rfl rfl)
theorem dJ1_newCapacity_5 : decode cJ1_newCapacity 5 = .ok (.istore_n 3, 1) := dk_62 (dk_at dksJ1_newCapacity_0 5 rfl rfl)
theorem dJ1_newCapacity_6 : decode cJ1_newCapacity 6 = .ok (.iload_n 3, 1) := dk_29 (dk_at dksJ1_newCapacity_0 6 rfl rfl)
theorem dJ1_newCapacity_7 : decode cJ1_newCapacity 7 = .ok (.iload_n 1, 1) := dk_27 (dk_at dksJ1_newCapacity_0 7 rfl rfl)
theorem dJ1_newCapacity_8 : decode cJ1_newCapacity 8 = .ok (.iadd, 1) := dk_96 (dk_at dksJ1_newCapacity_0 8 rfl rfl)
theorem dJ1_newCapacity_9 : decode cJ1_newCapacity 9 = .ok (.dup, 1) := dk_89 (dk_at dksJ1_newCapacity_0 9 rfl rfl)
theorem dJ1_newCapacity_10 : decode cJ1_newCapacity 10 = .ok (.istore 4, 2) := dk_54 4 (dk_at dksJ1_newCapacity_0 10 rfl rfl)
theorem dJ1_newCapacity_12 : decode cJ1_newCapacity 12 = .ok (.ldc 9, 2) := dk_18 9 (dk_at dksJ1_newCapacity_0 12 rfl rfl)
theorem dJ1_newCapacity_14 : decode cJ1_newCapacity 14 = .ok (.isub, 1) := dk_100 (dk_at dksJ1_newCapacity_0 14 rfl rfl)
theorem dJ1_newCapacity_15 : decode cJ1_newCapacity 15 = .ok (.ifCond .le 21, 3) := dk_158 0 21 (dk_at dksJ1_newCapacity_0 15 rfl rfl)
theorem dJ1_newCapacity_18 : decode cJ1_newCapacity 18 = .ok (.iload 4, 2) := dk_21 4 (dk_at dksJ1_newCapacity_0 18 rfl rfl)
theorem dJ1_newCapacity_20 : decode cJ1_newCapacity 20 = .ok (.ifCond .ge 13, 3) := dk_156 0 13 (dk_at dksJ1_newCapacity_0 20 rfl rfl)
theorem dJ1_newCapacity_23 : decode cJ1_newCapacity 23 = .ok (.new 33, 3) := dk_187 0 33 (dk_at dksJ1_newCapacity_1 0 rfl rfl)
theorem dJ1_newCapacity_26 : decode cJ1_newCapacity 26 = .ok (.dup, 1) := dk_89 (dk_at dksJ1_newCapacity_1 3 rfl rfl)
theorem dJ1_newCapacity_27 : decode cJ1_newCapacity 27 = .ok (.ldc 35, 2) := dk_18 35 (dk_at dksJ1_newCapacity_1 4 rfl rfl)
theorem dJ1_newCapacity_29 : decode cJ1_newCapacity 29 = .ok (.invokespecial 37, 3) := dk_183 0 37 (dk_at dksJ1_newCapacity_1 6 rfl rfl)
theorem dJ1_newCapacity_32 : decode cJ1_newCapacity 32 = .ok (.athrow, 1) := dk_191 (dk_at dksJ1_newCapacity_1 9 rfl rfl)
theorem dJ1_newCapacity_33 : decode cJ1_newCapacity 33 = .ok (.ldc 41, 2) := dk_18 41 (dk_at dksJ1_newCapacity_1 10 rfl rfl)
theorem dJ1_newCapacity_35 : decode cJ1_newCapacity 35 = .ok (.ireturn, 1) := dk_172 (dk_at dksJ1_newCapacity_1 12 rfl rfl)
theorem dJ1_newCapacity_36 : decode cJ1_newCapacity 36 = .ok (.iload_n 1, 1) := dk_27 (dk_at dksJ1_newCapacity_1 13 rfl rfl)
theorem dJ1_newCapacity_37 : decode cJ1_newCapacity 37 = .ok (.iload_n 2, 1) := dk_28 (dk_at dksJ1_newCapacity_1 14 rfl rfl)
theorem dJ1_newCapacity_38 : decode cJ1_newCapacity 38 = .ok (.if_icmp .le 6, 3) := dk_164 0 6 (dk_at dksJ1_newCapacity_1 15 rfl rfl)
theorem dJ1_newCapacity_41 : decode cJ1_newCapacity 41 = .ok (.iload 4, 2) := dk_21 4 (dk_at dksJ1_newCapacity_1 18 rfl rfl)
theorem dJ1_newCapacity_43 : decode cJ1_newCapacity 43 = .ok (.ireturn, 1) := dk_172 (dk_at dksJ1_newCapacity_1 20 rfl rfl)
theorem dJ1_newCapacity_44 : decode cJ1_newCapacity 44 = .ok (.iload_n 3, 1) := dk_29 (dk_at dksJ1_newCapacity_1 21 rfl rfl)
theorem dJ1_newCapacity_45 : decode cJ1_newCapacity 45 = .ok (.iload_n 2, 1) := dk_28 (dk_at dksJ1_newCapacity_1 22 rfl rfl)
theorem dJ1_newCapacity_46 : decode cJ1_newCapacity 46 = .ok (.iadd, 1) := dk_96 (dk_at dksJ1_newCapacity_1 23 rfl rfl)
theorem dJ1_newCapacity_47 : decode cJ1_newCapacity 47 = .ok (.ldc 9, 2) := dk_18 9 (dk_at dksJ1_newCapacity_2 0 rfl rfl)
theorem dJ1_newCapacity_49 : decode cJ1_newCapacity 49 = .ok (.isub, 1) := dk_100 (dk_at dksJ1_newCapacity_2 2 rfl rfl)
theorem dJ1_newCapacity_50 : decode cJ1_newCapacity 50 = .ok (.ifCond .ge 9, 3) := dk_156 0 9 (dk_at dksJ1_newCapacity_2 3 rfl rfl)
theorem dJ1_newCapacity_53 : decode cJ1_newCapacity 53 = .ok (.iload_n 3, 1) := dk_29 (dk_at dksJ1_newCapacity_2 6 rfl rfl)
theorem dJ1_newCapacity_54 : decode cJ1_newCapacity 54 = .ok (.iload_n 2, 1) := dk_28 (dk_at dksJ1_newCapacity_2 7 rfl rfl)
theorem dJ1_newCapacity_55 : decode cJ1_newCapacity 55 = .ok (.iadd, 1) := dk_96 (dk_at dksJ1_newCapacity_2 8 rfl rfl)
theorem dJ1_newCapacity_56 : decode cJ1_newCapacity 56 = .ok (.goto 5, 3) := dk_167 0 5 (dk_at dksJ1_newCapacity_2 9 rfl rfl)
theorem dJ1_newCapacity_59 : decode cJ1_newCapacity 59 = .ok (.ldc 9, 2) := dk_18 9 (dk_at dksJ1_newCapacity_2 12 rfl rfl)
theorem dJ1_newCapacity_61 : decode cJ1_newCapacity 61 = .ok (.ireturn, 1) := dk_172 (dk_at dksJ1_newCapacity_2 14 rfl rfl)
abbrev cJ1_isEmpty : ByteArray := prog_41_method_38_code
def yJ1_isEmpty : MethodName := ⟨RJ1, "isEmpty", "()Z"⟩
def dkwJ1_isEmpty_0 : List UInt8 := [42, 180, 0, 24, 42, 180, 0, 20, 160, 0, 7, 4, 167, 0, 4, 3, 172]
abbrev dktJ1_isEmpty_0 : List UInt8 := dkwJ1_isEmpty_0 ++ []
theorem dksJ1_isEmpty_0 : cJ1_isEmpty.data.toList.drop 0 = dktJ1_isEmpty_0 := by decide +kernel
theorem dJ1_isEmpty_0 : decode cJ1_isEmpty 0 = .ok (.aload_n 0, 1) := dk_42 (dk_at dksJ1_isEmpty_0 0 rfl rfl)
theorem dJ1_isEmpty_1 : decode cJ1_isEmpty 1 = .ok (.getfield 24, 3) := dk_180 0 24 (dk_at dksJ1_isEmpty_0 1 rfl rfl)
theorem dJ1_isEmpty_4 : decode cJ1_isEmpty 4 = .ok (.aload_n 0, 1) := dk_42 (dk_at dksJ1_isEmpty_0 4 rfl rfl)
theorem dJ1_isEmpty_5 : decode cJ1_isEmpty 5 = .ok (.getfield 20, 3) := dk_180 0 20 (dk_at dksJ1_isEmpty_0 5 rfl rfl)
theorem dJ1_isEmpty_8 : decode cJ1_isEmpty 8 = .ok (.if_icmp .ne 7, 3) := dk_160 0 7 (dk_at dksJ1_isEmpty_0 8 rfl rfl)
theorem dJ1_isEmpty_11 : decode cJ1_isEmpty 11 = .ok (.iconst 1, 1) := dk_4 (dk_at dksJ1_isEmpty_0 11 rfl rfl)
theorem dJ1_isEmpty_12 : decode cJ1_isEmpty 12 = .ok (.goto 4, 3) := dk_167 0 4 (dk_at dksJ1_isEmpty_0 12 rfl rfl)
theorem dJ1_isEmpty_15 : decode cJ1_isEmpty 15 = .ok (.iconst 0, 1) := dk_3 (dk_at dksJ1_isEmpty_0 15 rfl rfl)
theorem dJ1_isEmpty_16 : decode cJ1_isEmpty 16 = .ok (.ireturn, 1) := dk_172 (dk_at dksJ1_isEmpty_0 16 rfl rfl)
abbrev cJ1_pollFirst : ByteArray := prog_41_method_20_code
def yJ1_pollFirst : MethodName := ⟨RJ1, "pollFirst", "()Ljava/lang/Object;"⟩
def dkwJ1_pollFirst_1 : List UInt8 := [42, 28, 43, 190, 184, 0, 74, 181, 0, 24, 45, 176]
abbrev dktJ1_pollFirst_1 : List UInt8 := dkwJ1_pollFirst_1 ++ []
def dkwJ1_pollFirst_0 : List UInt8 := [42, 180, 0, 3, 89, 76, 42, 180, 0, 24, 89, 61, 184, 0, 103, 78, 45, 198, 0, 17, 43, 28, 1, 83]
abbrev dktJ1_pollFirst_0 : List UInt8 := dkwJ1_pollFirst_0 ++ dktJ1_pollFirst_1
theorem dksJ1_pollFirst_0 : cJ1_pollFirst.data.toList.drop 0 = dktJ1_pollFirst_0 := by decide +kernel
theorem dksJ1_pollFirst_1 : cJ1_pollFirst.data.toList.drop 24 = dktJ1_pollFirst_1 := dk_seg dksJ1_pollFirst_0 24 rfl rfl
theorem dJ1_pollFirst_0 : decode cJ1_pollFirst 0 = .ok (.aload_n 0, 1) := dk_42 (dk_at dksJ1_pollFirst_0 0 rfl rfl)
theorem dJ1_pollFirst_1 : decode cJ1_pollFirst 1 = .ok (.getfield 3, 3) := dk_180 0 3 (dk_at dksJ1_pollFirst_0 1 rfl rfl)
theorem dJ1_pollFirst_4 : decode cJ1_pollFirst 4 = .ok (.dup, 1) := dk_89 (dk_at dksJ1_pollFirst_0 4 rfl rfl)
theorem dJ1_pollFirst_5 : decode cJ1_pollFirst 5 = .ok (.astore_n 1, 1) := dk_76 (dk_at dksJ1_pollFirst_0 5 rfl rfl)
theorem dJ1_pollFirst_6 : decode cJ1_pollFirst 6 = .ok (.aload_n 0, 1) := dk_42 (dk_at dksJ1_pollFirst_0 6 rfl rfl)
theorem dJ1_pollFirst_7 : decode cJ1_pollFirst 7 = .ok (.getfield 24, 3) := dk_180 0 24 (dk_at dksJ1_pollFirst_0 7 rfl rfl)
theorem dJ1_pollFirst_10 : decode cJ1_pollFirst 10 = .ok (.dup, 1) := dk_89 (dk_at dksJ1_pollFirst_0 10 rfl rfl)
theorem dJ1_pollFirst_11 : decode cJ1_pollFirst 11 = .ok (.istore_n 2, 1) := dk_61 (dk_at dksJ1_pollFirst_0 11 rfl rfl)
theorem dJ1_pollFirst_12 : decode cJ1_pollFirst 12 = .ok (.invokestatic 103, 3) := dk_184 0 103 (dk_at dksJ1_pollFirst_0 12 rfl rfl)
theorem dJ1_pollFirst_15 : decode cJ1_pollFirst 15 = .ok (.astore_n 3, 1) := dk_78 (dk_at dksJ1_pollFirst_0 15 rfl rfl)
theorem dJ1_pollFirst_16 : decode cJ1_pollFirst 16 = .ok (.aload_n 3, 1) := dk_45 (dk_at dksJ1_pollFirst_0 16 rfl rfl)
theorem dJ1_pollFirst_17 : decode cJ1_pollFirst 17 = .ok (.ifnull 17, 3) := dk_198 0 17 (dk_at dksJ1_pollFirst_0 17 rfl rfl)
theorem dJ1_pollFirst_20 : decode cJ1_pollFirst 20 = .ok (.aload_n 1, 1) := dk_43 (dk_at dksJ1_pollFirst_0 20 rfl rfl)
theorem dJ1_pollFirst_21 : decode cJ1_pollFirst 21 = .ok (.iload_n 2, 1) := dk_28 (dk_at dksJ1_pollFirst_0 21 rfl rfl)
theorem dJ1_pollFirst_22 : decode cJ1_pollFirst 22 = .ok (.aconst_null, 1) := dk_1 (dk_at dksJ1_pollFirst_0 22 rfl rfl)
theorem dJ1_pollFirst_23 : decode cJ1_pollFirst 23 = .ok (.aastore, 1) := dk_83 (dk_at dksJ1_pollFirst_0 23 rfl rfl)
theorem dJ1_pollFirst_24 : decode cJ1_pollFirst 24 = .ok (.aload_n 0, 1) := dk_42 (dk_at dksJ1_pollFirst_1 0 rfl rfl)
theorem dJ1_pollFirst_25 : decode cJ1_pollFirst 25 = .ok (.iload_n 2, 1) := dk_28 (dk_at dksJ1_pollFirst_1 1 rfl rfl)
theorem dJ1_pollFirst_26 : decode cJ1_pollFirst 26 = .ok (.aload_n 1, 1) := dk_43 (dk_at dksJ1_pollFirst_1 2 rfl rfl)
theorem dJ1_pollFirst_27 : decode cJ1_pollFirst 27 = .ok (.arraylength, 1) := dk_190 (dk_at dksJ1_pollFirst_1 3 rfl rfl)
theorem dJ1_pollFirst_28 : decode cJ1_pollFirst 28 = .ok (.invokestatic 74, 3) := dk_184 0 74 (dk_at dksJ1_pollFirst_1 4 rfl rfl)
theorem dJ1_pollFirst_31 : decode cJ1_pollFirst 31 = .ok (.putfield 24, 3) := dk_181 0 24 (dk_at dksJ1_pollFirst_1 7 rfl rfl)
theorem dJ1_pollFirst_34 : decode cJ1_pollFirst 34 = .ok (.aload_n 3, 1) := dk_45 (dk_at dksJ1_pollFirst_1 10 rfl rfl)
theorem dJ1_pollFirst_35 : decode cJ1_pollFirst 35 = .ok (.areturn, 1) := dk_176 (dk_at dksJ1_pollFirst_1 11 rfl rfl)
abbrev cJ1_elementAt : ByteArray := prog_41_method_10_code
def yJ1_elementAt : MethodName := ⟨RJ1, "elementAt", "([Ljava/lang/Object;I)Ljava/lang/Object;"⟩
def dkwJ1_elementAt_0 : List UInt8 := [42, 27, 50, 176]
abbrev dktJ1_elementAt_0 : List UInt8 := dkwJ1_elementAt_0 ++ []
theorem dksJ1_elementAt_0 : cJ1_elementAt.data.toList.drop 0 = dktJ1_elementAt_0 := by decide +kernel
theorem dJ1_elementAt_0 : decode cJ1_elementAt 0 = .ok (.aload_n 0, 1) := dk_42 (dk_at dksJ1_elementAt_0 0 rfl rfl)
theorem dJ1_elementAt_1 : decode cJ1_elementAt 1 = .ok (.iload_n 1, 1) := dk_27 (dk_at dksJ1_elementAt_0 1 rfl rfl)
theorem dJ1_elementAt_2 : decode cJ1_elementAt 2 = .ok (.aaload, 1) := dk_50 (dk_at dksJ1_elementAt_0 2 rfl rfl)
theorem dJ1_elementAt_3 : decode cJ1_elementAt 3 = .ok (.areturn, 1) := dk_176 (dk_at dksJ1_elementAt_0 3 rfl rfl)
abbrev cJ1_size : ByteArray := prog_41_method_37_code
def yJ1_size : MethodName := ⟨RJ1, "size", "()I"⟩
def dkwJ1_size_0 : List UInt8 := [42, 180, 0, 20, 42, 180, 0, 24, 42, 180, 0, 3, 190, 184, 0, 127, 172]
abbrev dktJ1_size_0 : List UInt8 := dkwJ1_size_0 ++ []
theorem dksJ1_size_0 : cJ1_size.data.toList.drop 0 = dktJ1_size_0 := by decide +kernel
theorem dJ1_size_0 : decode cJ1_size 0 = .ok (.aload_n 0, 1) := dk_42 (dk_at dksJ1_size_0 0 rfl rfl)
theorem dJ1_size_1 : decode cJ1_size 1 = .ok (.getfield 20, 3) := dk_180 0 20 (dk_at dksJ1_size_0 1 rfl rfl)
theorem dJ1_size_4 : decode cJ1_size 4 = .ok (.aload_n 0, 1) := dk_42 (dk_at dksJ1_size_0 4 rfl rfl)
theorem dJ1_size_5 : decode cJ1_size 5 = .ok (.getfield 24, 3) := dk_180 0 24 (dk_at dksJ1_size_0 5 rfl rfl)
theorem dJ1_size_8 : decode cJ1_size 8 = .ok (.aload_n 0, 1) := dk_42 (dk_at dksJ1_size_0 8 rfl rfl)
theorem dJ1_size_9 : decode cJ1_size 9 = .ok (.getfield 3, 3) := dk_180 0 3 (dk_at dksJ1_size_0 9 rfl rfl)
theorem dJ1_size_12 : decode cJ1_size 12 = .ok (.arraylength, 1) := dk_190 (dk_at dksJ1_size_0 12 rfl rfl)
theorem dJ1_size_13 : decode cJ1_size 13 = .ok (.invokestatic 127, 3) := dk_184 0 127 (dk_at dksJ1_size_0 13 rfl rfl)
theorem dJ1_size_16 : decode cJ1_size 16 = .ok (.ireturn, 1) := dk_172 (dk_at dksJ1_size_0 16 rfl rfl)
abbrev cJ1_sub : ByteArray := prog_41_method_9_code
def yJ1_sub : MethodName := ⟨RJ1, "sub", "(III)I"⟩
def dkwJ1_sub_0 : List UInt8 := [26, 27, 100, 89, 59, 156, 0, 7, 26, 28, 96, 59, 26, 172]
abbrev dktJ1_sub_0 : List UInt8 := dkwJ1_sub_0 ++ []
theorem dksJ1_sub_0 : cJ1_sub.data.toList.drop 0 = dktJ1_sub_0 := by decide +kernel
theorem dJ1_sub_0 : decode cJ1_sub 0 = .ok (.iload_n 0, 1) := dk_26 (dk_at dksJ1_sub_0 0 rfl rfl)
theorem dJ1_sub_1 : decode cJ1_sub 1 = .ok (.iload_n 1, 1) := dk_27 (dk_at dksJ1_sub_0 1 rfl rfl)
theorem dJ1_sub_2 : decode cJ1_sub 2 = .ok (.isub, 1) := dk_100 (dk_at dksJ1_sub_0 2 rfl rfl)
theorem dJ1_sub_3 : decode cJ1_sub 3 = .ok (.dup, 1) := dk_89 (dk_at dksJ1_sub_0 3 rfl rfl)
theorem dJ1_sub_4 : decode cJ1_sub 4 = .ok (.istore_n 0, 1) := dk_59 (dk_at dksJ1_sub_0 4 rfl rfl)
theorem dJ1_sub_5 : decode cJ1_sub 5 = .ok (.ifCond .ge 7, 3) := dk_156 0 7 (dk_at dksJ1_sub_0 5 rfl rfl)
theorem dJ1_sub_8 : decode cJ1_sub 8 = .ok (.iload_n 0, 1) := dk_26 (dk_at dksJ1_sub_0 8 rfl rfl)
theorem dJ1_sub_9 : decode cJ1_sub 9 = .ok (.iload_n 2, 1) := dk_28 (dk_at dksJ1_sub_0 9 rfl rfl)
theorem dJ1_sub_10 : decode cJ1_sub 10 = .ok (.iadd, 1) := dk_96 (dk_at dksJ1_sub_0 10 rfl rfl)
theorem dJ1_sub_11 : decode cJ1_sub 11 = .ok (.istore_n 0, 1) := dk_59 (dk_at dksJ1_sub_0 11 rfl rfl)
theorem dJ1_sub_12 : decode cJ1_sub 12 = .ok (.iload_n 0, 1) := dk_26 (dk_at dksJ1_sub_0 12 rfl rfl)
theorem dJ1_sub_13 : decode cJ1_sub 13 = .ok (.ireturn, 1) := dk_172 (dk_at dksJ1_sub_0 13 rfl rfl)
abbrev cJ1_pollLast : ByteArray := prog_41_method_21_code
def yJ1_pollLast : MethodName := ⟨RJ1, "pollLast", "()Ljava/lang/Object;"⟩
def dkwJ1_pollLast_1 : List UInt8 := [198, 0, 12, 43, 42, 28, 90, 181, 0, 20, 1, 83, 45, 176]
abbrev dktJ1_pollLast_1 : List UInt8 := dkwJ1_pollLast_1 ++ []
def dkwJ1_pollLast_0 : List UInt8 := [42, 180, 0, 3, 89, 76, 42, 180, 0, 20, 43, 190, 184, 0, 68, 89, 61, 184, 0, 103, 78, 45]
abbrev dktJ1_pollLast_0 : List UInt8 := dkwJ1_pollLast_0 ++ dktJ1_pollLast_1
theorem dksJ1_pollLast_0 : cJ1_pollLast.data.toList.drop 0 = dktJ1_pollLast_0 := by decide +kernel
theorem dksJ1_pollLast_1 : cJ1_pollLast.data.toList.drop 22 = dktJ1_pollLast_1 := dk_seg dksJ1_pollLast_0 22 rfl rfl
theorem dJ1_pollLast_0 : decode cJ1_pollLast 0 = .ok (.aload_n 0, 1) := dk_42 (dk_at dksJ1_pollLast_0 0 rfl rfl)
theorem dJ1_pollLast_1 : decode cJ1_pollLast 1 = .ok (.getfield 3, 3) := dk_180 0 3 (dk_at dksJ1_pollLast_0 1 rfl rfl)
theorem dJ1_pollLast_4 : decode cJ1_pollLast 4 = .ok (.dup, 1) := dk_89 (dk_at dksJ1_pollLast_0 4 rfl rfl)
theorem dJ1_pollLast_5 : decode cJ1_pollLast 5 = .ok (.astore_n 1, 1) := dk_76 (dk_at dksJ1_pollLast_0 5 rfl rfl)
theorem dJ1_pollLast_6 : decode cJ1_pollLast 6 = .ok (.aload_n 0, 1) := dk_42 (dk_at dksJ1_pollLast_0 6 rfl rfl)
theorem dJ1_pollLast_7 : decode cJ1_pollLast 7 = .ok (.getfield 20, 3) := dk_180 0 20 (dk_at dksJ1_pollLast_0 7 rfl rfl)
theorem dJ1_pollLast_10 : decode cJ1_pollLast 10 = .ok (.aload_n 1, 1) := dk_43 (dk_at dksJ1_pollLast_0 10 rfl rfl)
theorem dJ1_pollLast_11 : decode cJ1_pollLast 11 = .ok (.arraylength, 1) := dk_190 (dk_at dksJ1_pollLast_0 11 rfl rfl)
theorem dJ1_pollLast_12 : decode cJ1_pollLast 12 = .ok (.invokestatic 68, 3) := dk_184 0 68 (dk_at dksJ1_pollLast_0 12 rfl rfl)
theorem dJ1_pollLast_15 : decode cJ1_pollLast 15 = .ok (.dup, 1) := dk_89 (dk_at dksJ1_pollLast_0 15 rfl rfl)
theorem dJ1_pollLast_16 : decode cJ1_pollLast 16 = .ok (.istore_n 2, 1) := dk_61 (dk_at dksJ1_pollLast_0 16 rfl rfl)
theorem dJ1_pollLast_17 : decode cJ1_pollLast 17 = .ok (.invokestatic 103, 3) := dk_184 0 103 (dk_at dksJ1_pollLast_0 17 rfl rfl)
theorem dJ1_pollLast_20 : decode cJ1_pollLast 20 = .ok (.astore_n 3, 1) := dk_78 (dk_at dksJ1_pollLast_0 20 rfl rfl)
theorem dJ1_pollLast_21 : decode cJ1_pollLast 21 = .ok (.aload_n 3, 1) := dk_45 (dk_at dksJ1_pollLast_0 21 rfl rfl)
theorem dJ1_pollLast_22 : decode cJ1_pollLast 22 = .ok (.ifnull 12, 3) := dk_198 0 12 (dk_at dksJ1_pollLast_1 0 rfl rfl)
theorem dJ1_pollLast_25 : decode cJ1_pollLast 25 = .ok (.aload_n 1, 1) := dk_43 (dk_at dksJ1_pollLast_1 3 rfl rfl)
theorem dJ1_pollLast_26 : decode cJ1_pollLast 26 = .ok (.aload_n 0, 1) := dk_42 (dk_at dksJ1_pollLast_1 4 rfl rfl)
theorem dJ1_pollLast_27 : decode cJ1_pollLast 27 = .ok (.iload_n 2, 1) := dk_28 (dk_at dksJ1_pollLast_1 5 rfl rfl)
theorem dJ1_pollLast_28 : decode cJ1_pollLast 28 = .ok (.dup_x1, 1) := dk_90 (dk_at dksJ1_pollLast_1 6 rfl rfl)
theorem dJ1_pollLast_29 : decode cJ1_pollLast 29 = .ok (.putfield 20, 3) := dk_181 0 20 (dk_at dksJ1_pollLast_1 7 rfl rfl)
theorem dJ1_pollLast_32 : decode cJ1_pollLast 32 = .ok (.aconst_null, 1) := dk_1 (dk_at dksJ1_pollLast_1 10 rfl rfl)
theorem dJ1_pollLast_33 : decode cJ1_pollLast 33 = .ok (.aastore, 1) := dk_83 (dk_at dksJ1_pollLast_1 11 rfl rfl)
theorem dJ1_pollLast_34 : decode cJ1_pollLast 34 = .ok (.aload_n 3, 1) := dk_45 (dk_at dksJ1_pollLast_1 12 rfl rfl)
theorem dJ1_pollLast_35 : decode cJ1_pollLast 35 = .ok (.areturn, 1) := dk_176 (dk_at dksJ1_pollLast_1 13 rfl rfl)
abbrev cJ1_dec : ByteArray := prog_41_method_7_code
def yJ1_dec : MethodName := ⟨RJ1, "dec", "(II)I"⟩
def dkwJ1_dec_0 : List UInt8 := [132, 0, 255, 26, 156, 0, 7, 27, 4, 100, 59, 26, 172]
abbrev dktJ1_dec_0 : List UInt8 := dkwJ1_dec_0 ++ []
theorem dksJ1_dec_0 : cJ1_dec.data.toList.drop 0 = dktJ1_dec_0 := by decide +kernel
theorem dJ1_dec_0 : decode cJ1_dec 0 = .ok (.iinc 0 (-1), 3) := dk_132 0 255 (dk_at dksJ1_dec_0 0 rfl rfl)
theorem dJ1_dec_3 : decode cJ1_dec 3 = .ok (.iload_n 0, 1) := dk_26 (dk_at dksJ1_dec_0 3 rfl rfl)
theorem dJ1_dec_4 : decode cJ1_dec 4 = .ok (.ifCond .ge 7, 3) := dk_156 0 7 (dk_at dksJ1_dec_0 4 rfl rfl)
theorem dJ1_dec_7 : decode cJ1_dec 7 = .ok (.iload_n 1, 1) := dk_27 (dk_at dksJ1_dec_0 7 rfl rfl)
theorem dJ1_dec_8 : decode cJ1_dec 8 = .ok (.iconst 1, 1) := dk_4 (dk_at dksJ1_dec_0 8 rfl rfl)
theorem dJ1_dec_9 : decode cJ1_dec 9 = .ok (.isub, 1) := dk_100 (dk_at dksJ1_dec_0 9 rfl rfl)
theorem dJ1_dec_10 : decode cJ1_dec 10 = .ok (.istore_n 0, 1) := dk_59 (dk_at dksJ1_dec_0 10 rfl rfl)
theorem dJ1_dec_11 : decode cJ1_dec 11 = .ok (.iload_n 0, 1) := dk_26 (dk_at dksJ1_dec_0 11 rfl rfl)
theorem dJ1_dec_12 : decode cJ1_dec 12 = .ok (.ireturn, 1) := dk_172 (dk_at dksJ1_dec_0 12 rfl rfl)
def fJ1 : List ZE := [(3, 7, 0, .array (.object "java/lang/Object"), 0), (20, 7, 2, .int, 0), (24, 7, 1, .int, 0)]
theorem fokJ1 : zFok RJ1 fJ1 := List.forall_mem_cons.mpr ⟨⟨by decide, by decide, by decide +kernel, Or.inr q255, by decide, by decide +kernel⟩, List.forall_mem_cons.mpr ⟨⟨by decide, by decide, by decide +kernel, Or.inr q257, by decide, by decide +kernel⟩, List.forall_mem_cons.mpr ⟨⟨by decide, by decide, by decide +kernel, Or.inr q256, by decide, by decide +kernel⟩, fun _ h => by cases h⟩⟩⟩
abbrev kJ1_init : ZK := (RJ1, cJ1_init, 1, (Option.none : Option Jvm.ClassFile.FieldType), [], true, fJ1)
abbrev tJ1_init (g : ZG) (args : List Value) (M : ZM) (d c s : Nat) (Q : ZQ) : Prop := Ct g yJ1_init (ws_ yJ1_init cJ1_init 1 (Option.none : Option Jvm.ClassFile.FieldType)) args M d c s Q
abbrev nJ1_init : Nat := 3
theorem mJ1_init : zMok yJ1_init 0 1 := ⟨⟨by decide +kernel, by decide +kernel, by decide +kernel⟩, by decide⟩
theorem eJ1_init {g : ZG} {Q : ZQ} {d cN sN : Nat} {M : ZM} {a0 : Nat} (hV : zV g) (h : Z g kJ1_init Q d cN sN M 0 [some (.ref a0)] []) : tJ1_init g [.ref a0] M d cN sN Q := Ct.of (K := kJ1_init) rfl (by decide +kernel) hV fokJ1 rfl (fun h => rfl) (fun v hv => by simp only [List.mem_cons, List.not_mem_nil, or_false] at hv; rcases hv with rfl <;> first | rfl | assumption) (Nat.le_of_ble_eq_true rfl) h
theorem sJ1_init_0 {g : ZG} {Q : ZQ} {d cN sN : Nat} {M : ZM} {l0 : Value} (zl0 : zrf l0) (kk : Z g kJ1_init Q d cN sN M 1 [some (l0)] [l0]) : Z g kJ1_init Q d cN sN M 0 [some (l0)] [] := by
  refine zi_aload_n dJ1_init_0 rfl zl0 ?_
  exact kk
theorem sJ1_init_4 {g : ZG} {Q : ZQ} {d cN sN : Nat} {M : ZM} {l0 : Value} (zl0 : zrf l0) (kk : Z g kJ1_init Q d cN sN M 7 [some (l0)] [.int 17, l0]) : Z g kJ1_init Q d cN sN M 4 [some (l0)] [] := by
  refine zi_aload_n dJ1_init_4 rfl zl0 ?_
  refine zi_bipush dJ1_init_5 (by decide +kernel : (Int8.ofInt (17)).toInt32 = (17 : Int32)) ?_
  exact kk
theorem sJ1_init_10 {g : ZG} {Q : ZQ} {d cN sN : Nat} {M : ZM} {t0 : Nat} {t1 : Value} {fs1 : List Value} {o0 : Option Value} (zt1 : zrf t1) (h2 : M.1 t0 = some (.inr (7, fs1))) (h3 : 0 < (fs1).length) (kk : Q.1 none (zup M t0 (.inr (7, (fs1).set 0 (t1))))) : Z g kJ1_init Q d cN sN M 10 [o0] [t1, .ref t0] := by
  refine zi_putfield dJ1_init_10 rfl h2 h3 (zfit_a zt1) (Or.inl rfl) ?_
  exact zi_return dJ1_init_13 rfl kk
abbrev kJ1_addLast : ZK := (RJ1, cJ1_addLast, 3, (Option.none : Option Jvm.ClassFile.FieldType), [], false, fJ1)
abbrev tJ1_addLast (g : ZG) (args : List Value) (M : ZM) (d c s : Nat) (Q : ZQ) : Prop := Ct g yJ1_addLast (ws_ yJ1_addLast cJ1_addLast 3 (Option.none : Option Jvm.ClassFile.FieldType)) args M d c s Q
abbrev nJ1_addLast : Nat := 10
theorem mJ1_addLast : zMok yJ1_addLast 1 3 := ⟨⟨by decide +kernel, by decide +kernel, by decide +kernel⟩, by decide⟩
theorem eJ1_addLast {g : ZG} {Q : ZQ} {d cN sN : Nat} {M : ZM} {a0 : Nat} {v1 : Value} (hv1 : v1.category = 1) (hV : zV g) (h : Z g kJ1_addLast Q d cN sN M 0 [some (.ref a0), some (v1), none] []) : tJ1_addLast g [.ref a0, v1] M d cN sN Q := Ct.of (K := kJ1_addLast) rfl (by decide +kernel) hV fokJ1 rfl (fun h => by cases h) (fun v hv => by simp only [List.mem_cons, List.not_mem_nil, or_false] at hv; rcases hv with rfl | rfl <;> first | rfl | assumption) (Nat.le_of_ble_eq_true rfl) h
theorem sJ1_addLast_0 {g : ZG} {Q : ZQ} {d cN sN : Nat} {M : ZM} {l1 : Value} {o0 o2 : Option Value} (zl1 : zrf l1) (kt : (∃ a, (l1 : Value) = .ref a) → Z g kJ1_addLast Q d cN sN M 12 [o0, some (l1), o2] []) (kf : ((l1 : Value) = .null) → Z g kJ1_addLast Q d cN sN M 4 [o0, some (l1), o2] []) : Z g kJ1_addLast Q d cN sN M 0 [o0, some (l1), o2] [] := by
  refine zi_aload_n dJ1_addLast_0 rfl zl1 ?_
  exact zi_ifnonnull (tgt := 12) dJ1_addLast_1 (by decide +kernel) zl1 kt kf
theorem sJ1_addLast_7 {g : ZG} {Q : ZQ} {d cN sN : Nat} {M : ZM} {t0 : Value} {o0 o1 o2 : Option Value} (zt0 : zrf t0) (kk : Z g kJ1_addLast Q d cN sN M 8 [o0, o1, o2] [t0, t0]) : Z g kJ1_addLast Q d cN sN M 7 [o0, o1, o2] [t0] := by
  refine zi_dup dJ1_addLast_7 (zrf_c zt0) ?_
  exact kk
theorem sJ1_addLast_12 {g : ZG} {Q : ZQ} {d cN sN : Nat} {M : ZM} {l0 : Nat} {fs1 : List Value} {r3 : Value} {y5 : Int32} {l1 : Value} {o2 : Option Value} (h2 : M.1 l0 = some (.inr (7, fs1))) (zr3 : zrf r3) (h4 : (fs1)[0]? = some (r3)) (h6 : (fs1)[2]? = some (.int y5)) (zl1 : zrf l1) (kk : Z g kJ1_addLast Q d cN sN M 23 [some (.ref l0), some (l1), some (r3)] [l1, .int y5, r3]) : Z g kJ1_addLast Q d cN sN M 12 [some (.ref l0), some (l1), o2] [] := by
  refine zi_aload_n dJ1_addLast_12 rfl zrf_r ?_
  refine zi_getfield dJ1_addLast_13 rfl h2 h4 ?_
  refine zi_astore_n dJ1_addLast_16 zr3 (Nat.le_of_ble_eq_true rfl) ?_
  refine zi_aload_n dJ1_addLast_17 rfl zr3 ?_
  refine zi_aload_n dJ1_addLast_18 rfl zrf_r ?_
  refine zi_getfield dJ1_addLast_19 rfl h2 h6 ?_
  refine zi_aload_n dJ1_addLast_22 rfl zl1 ?_
  exact kk
theorem sJ1_addLast_24 {g : ZG} {Q : ZQ} {d cN sN : Nat} {M : ZM} {l0 : Nat} {fs1 : List Value} {y3 : Int32} {y5 : Int32} {l2 : Nat} {u7 : vp_A} {c8 : ClassId} {k9 : Nat} {ty10 : FieldType} {o1 : Option Value} (h2 : M.1 l0 = some (.inr (7, fs1))) (h4 : (fs1)[1]? = some (.int y3)) (h6 : (fs1)[2]? = some (.int y5)) (h11 : M.1 l2 = some (.inl (c8, u7))) (h12 : (ztys g)[k9]? = some (c8, ty10)) (kk : Z g kJ1_addLast Q d cN sN M 35 [some (.ref l0), o1, some (.ref l2)] [.int (Int32.ofNat u7.1), .int y5, .ref l0, .int y3]) : Z g kJ1_addLast Q d cN sN M 24 [some (.ref l0), o1, some (.ref l2)] [] := by
  refine zi_aload_n dJ1_addLast_24 rfl zrf_r ?_
  refine zi_getfield dJ1_addLast_25 rfl h2 h4 ?_
  refine zi_aload_n dJ1_addLast_28 rfl zrf_r ?_
  refine zi_aload_n dJ1_addLast_29 rfl zrf_r ?_
  refine zi_getfield dJ1_addLast_30 rfl h2 h6 ?_
  refine zi_aload_n dJ1_addLast_33 rfl zrf_r ?_
  refine zi_arraylength dJ1_addLast_34 h11 h12 ?_
  exact kk
theorem sJ1_addLast_38 {g : ZG} {Q : ZQ} {d cN sN : Nat} {M : ZM} {t0 : Int32} {t1 : Nat} {t2 : Int32} {fs1 : List Value} {o0 o1 o2 : Option Value} (h2 : M.1 t1 = some (.inr (7, fs1))) (h3 : 2 < (fs1).length) (kt : ¬ (t0 : Int32) = (t2 : Int32) → Z g kJ1_addLast Q d cN sN (zup M t1 (.inr (7, (fs1).set 2 (.int t2)))) 50 [o0, o1, o2] []) (kf : (t0 : Int32) = (t2 : Int32) → Z g kJ1_addLast Q d cN sN (zup M t1 (.inr (7, (fs1).set 2 (.int t2)))) 45 [o0, o1, o2] []) : Z g kJ1_addLast Q d cN sN M 38 [o0, o1, o2] [.int t2, .ref t1, .int t0] := by
  refine zi_dup_x1 dJ1_addLast_38 rfl rfl ?_
  refine zi_putfield dJ1_addLast_39 rfl h2 h3 zfit_i (Or.inl rfl) ?_
  exact zi_icmp_ne (tgt := 50) dJ1_addLast_42 (by decide +kernel) kt kf
theorem sJ1_addLast_45 {g : ZG} {Q : ZQ} {d cN sN : Nat} {M : ZM} {l0 : Value} {o1 o2 : Option Value} (zl0 : zrf l0) (kk : Z g kJ1_addLast Q d cN sN M 47 [some (l0), o1, o2] [.int 1, l0]) : Z g kJ1_addLast Q d cN sN M 45 [some (l0), o1, o2] [] := by
  refine zi_aload_n dJ1_addLast_45 rfl zl0 ?_
  refine zi_iconst dJ1_addLast_46 (by decide +kernel : Int32.ofInt (1) = (1 : Int32)) ?_
  exact kk
theorem sJ1_addLast_50 {g : ZG} {Q : ZQ} {d cN sN : Nat} {M : ZM} {o0 o1 o2 : Option Value}  (kk : Q.1 none M) : Z g kJ1_addLast Q d cN sN M 50 [o0, o1, o2] [] := by
  exact zi_return dJ1_addLast_50 rfl kk
abbrev kJ1_inc : ZK := (RJ1, cJ1_inc, 2, (Option.some Jvm.ClassFile.FieldType.int), [], false, fJ1)
abbrev tJ1_inc (g : ZG) (args : List Value) (M : ZM) (d c s : Nat) (Q : ZQ) : Prop := Ct g yJ1_inc (ws_ yJ1_inc cJ1_inc 2 (Option.some Jvm.ClassFile.FieldType.int)) args M d c s Q
abbrev nJ1_inc : Nat := 1
theorem mJ1_inc : zMok yJ1_inc 2 2 := ⟨⟨by decide +kernel, by decide +kernel, by decide +kernel⟩, by decide⟩
theorem eJ1_inc {g : ZG} {Q : ZQ} {d cN sN : Nat} {M : ZM} {x1 : Int32} {x2 : Int32} (hV : zV g) (h : Z g kJ1_inc Q d cN sN M 0 [some (.int x1), some (.int x2)] []) : tJ1_inc g [.int x1, .int x2] M d cN sN Q := Ct.of (K := kJ1_inc) rfl (by decide +kernel) hV fokJ1 rfl (fun h => by cases h) (fun v hv => by simp only [List.mem_cons, List.not_mem_nil, or_false] at hv; rcases hv with rfl | rfl <;> first | rfl | assumption) (Nat.le_of_ble_eq_true rfl) h
theorem sJ1_inc_0 {g : ZG} {Q : ZQ} {d cN sN : Nat} {M : ZM} {l0 : Int32} {l1 : Int32}  (kt : (l0 + 1 : Int32) < (l1 : Int32) → Z g kJ1_inc Q d cN sN M 10 [some (.int (l0 + 1)), some (.int l1)] []) (kf : ¬ (l0 + 1 : Int32) < (l1 : Int32) → Z g kJ1_inc Q d cN sN M 8 [some (.int (l0 + 1)), some (.int l1)] []) : Z g kJ1_inc Q d cN sN M 0 [some (.int l0), some (.int l1)] [] := by
  refine zi_iinc dJ1_inc_0 rfl (by decide +kernel : Int32.ofInt (1) = 1) (Nat.le_of_ble_eq_true rfl) ?_
  refine zi_iload_n dJ1_inc_3 rfl ?_
  refine zi_iload_n dJ1_inc_4 rfl ?_
  exact zi_icmp_lt (tgt := 10) dJ1_inc_5 (by decide +kernel) kt kf
theorem sJ1_inc_8 {g : ZG} {Q : ZQ} {d cN sN : Nat} {M : ZM} {o0 o1 : Option Value}  (kk : Z g kJ1_inc Q d cN sN M 10 [some (.int 0), o1] []) : Z g kJ1_inc Q d cN sN M 8 [o0, o1] [] := by
  refine zi_iconst dJ1_inc_8 (by decide +kernel : Int32.ofInt (0) = (0 : Int32)) ?_
  refine zi_istore_n dJ1_inc_9 (Nat.le_of_ble_eq_true rfl) ?_
  exact kk
theorem sJ1_inc_10 {g : ZG} {Q : ZQ} {d cN sN : Nat} {M : ZM} {l0 : Int32} {o1 : Option Value}  (kk : Q.1 (some (.int l0)) M) : Z g kJ1_inc Q d cN sN M 10 [some (.int l0), o1] [] := by
  refine zi_iload_n dJ1_inc_10 rfl ?_
  exact zi_ireturn dJ1_inc_11 rfl rfl kk
abbrev kJ1_grow : ZK := (RJ1, cJ1_grow, 9, (Option.none : Option Jvm.ClassFile.FieldType), [], false, fJ1)
abbrev tJ1_grow (g : ZG) (args : List Value) (M : ZM) (d c s : Nat) (Q : ZQ) : Prop := Ct g yJ1_grow (ws_ yJ1_grow cJ1_grow 9 (Option.none : Option Jvm.ClassFile.FieldType)) args M d c s Q
abbrev nJ1_grow : Nat := 9
theorem mJ1_grow : zMok yJ1_grow 1 9 := ⟨⟨by decide +kernel, by decide +kernel, by decide +kernel⟩, by decide⟩
theorem eJ1_grow {g : ZG} {Q : ZQ} {d cN sN : Nat} {M : ZM} {a0 : Nat} {x1 : Int32} (hV : zV g) (h : Z g kJ1_grow Q d cN sN M 0 [some (.ref a0), some (.int x1), none, none, none, none, none, none, none] []) : tJ1_grow g [.ref a0, .int x1] M d cN sN Q := Ct.of (K := kJ1_grow) rfl (by decide +kernel) hV fokJ1 rfl (fun h => by cases h) (fun v hv => by simp only [List.mem_cons, List.not_mem_nil, or_false] at hv; rcases hv with rfl | rfl <;> first | rfl | assumption) (Nat.le_of_ble_eq_true rfl) h
theorem sJ1_grow_0 {g : ZG} {Q : ZQ} {d cN sN : Nat} {M : ZM} {l0 : Nat} {fs1 : List Value} {r3 : Nat} {u5 : vp_A} {c6 : ClassId} {k7 : Nat} {ty8 : FieldType} {o1 o2 o3 o4 o5 o6 o7 o8 : Option Value} (h2 : M.1 l0 = some (.inr (7, fs1))) (h4 : (fs1)[0]? = some (.ref r3)) (h9 : M.1 r3 = some (.inl (c6, u5))) (h10 : (ztys g)[k7]? = some (c6, ty8)) (kt : (64 : Int32) ≤ (Int32.ofNat u5.1 : Int32) → Z g kJ1_grow Q d cN sN M 18 [some (.ref l0), o1, some (.int (Int32.ofNat u5.1)), o3, o4, o5, o6, o7, o8] []) (kf : ¬ (64 : Int32) ≤ (Int32.ofNat u5.1 : Int32) → Z g kJ1_grow Q d cN sN M 12 [some (.ref l0), o1, some (.int (Int32.ofNat u5.1)), o3, o4, o5, o6, o7, o8] []) : Z g kJ1_grow Q d cN sN M 0 [some (.ref l0), o1, o2, o3, o4, o5, o6, o7, o8] [] := by
  refine zi_aload_n dJ1_grow_0 rfl zrf_r ?_
  refine zi_getfield dJ1_grow_1 rfl h2 h4 ?_
  refine zi_arraylength dJ1_grow_4 h9 h10 ?_
  refine zi_istore_n dJ1_grow_5 (Nat.le_of_ble_eq_true rfl) ?_
  refine zi_iload_n dJ1_grow_6 rfl ?_
  refine zi_bipush dJ1_grow_7 (by decide +kernel : (Int8.ofInt (64)).toInt32 = (64 : Int32)) ?_
  exact zi_icmp_ge (tgt := 18) dJ1_grow_9 (by decide +kernel) kt kf
theorem sJ1_grow_12 {g : ZG} {Q : ZQ} {d cN sN : Nat} {M : ZM} {l2 : Int32} {o0 o1 o3 o4 o5 o6 o7 o8 : Option Value}  (kk : Z g kJ1_grow Q d cN sN M 21 [o0, o1, some (.int l2), o3, o4, o5, o6, o7, o8] [.int (l2 + 2)]) : Z g kJ1_grow Q d cN sN M 12 [o0, o1, some (.int l2), o3, o4, o5, o6, o7, o8] [] := by
  refine zi_iload_n dJ1_grow_12 rfl ?_
  refine zi_iconst dJ1_grow_13 (by decide +kernel : Int32.ofInt (2) = (2 : Int32)) ?_
  refine zi_iadd dJ1_grow_14 ?_
  exact zi_goto (tgt := 21) dJ1_grow_15 (by decide +kernel) kk
theorem sJ1_grow_18 {g : ZG} {Q : ZQ} {d cN sN : Nat} {M : ZM} {l2 : Int32} {o0 o1 o3 o4 o5 o6 o7 o8 : Option Value}  (kk : Z g kJ1_grow Q d cN sN M 21 [o0, o1, some (.int l2), o3, o4, o5, o6, o7, o8] [.int (l2 >>> (1 &&& 31))]) : Z g kJ1_grow Q d cN sN M 18 [o0, o1, some (.int l2), o3, o4, o5, o6, o7, o8] [] := by
  refine zi_iload_n dJ1_grow_18 rfl ?_
  refine zi_iconst dJ1_grow_19 (by decide +kernel : Int32.ofInt (1) = (1 : Int32)) ?_
  refine zi_ishr dJ1_grow_20 ?_
  exact kk
theorem sJ1_grow_21 {g : ZG} {Q : ZQ} {d cN sN : Nat} {M : ZM} {t0 : Int32} {l1 : Int32} {o0 o2 o3 o4 o5 o6 o7 o8 : Option Value}  (kt : (t0 : Int32) < (l1 : Int32) → Z g kJ1_grow Q d cN sN M 41 [o0, some (.int l1), o2, o3, some (.int t0), o5, o6, o7, o8] []) (kf : ¬ (t0 : Int32) < (l1 : Int32) → Z g kJ1_grow Q d cN sN M 29 [o0, some (.int l1), o2, o3, some (.int t0), o5, o6, o7, o8] []) : Z g kJ1_grow Q d cN sN M 21 [o0, some (.int l1), o2, o3, o4, o5, o6, o7, o8] [.int t0] := by
  refine zi_istore dJ1_grow_21 (Nat.le_of_ble_eq_true rfl) ?_
  refine zi_iload dJ1_grow_23 rfl ?_
  refine zi_iload_n dJ1_grow_25 rfl ?_
  exact zi_icmp_lt (tgt := 41) dJ1_grow_26 (by decide +kernel) kt kf
theorem sJ1_grow_29 {g : ZG} {Q : ZQ} {d cN sN : Nat} {M : ZM} {l2 : Int32} {l4 : Int32} {o0 o1 o3 o5 o6 o7 o8 : Option Value}  (kk : Z g kJ1_grow Q d cN sN M 35 [o0, o1, some (.int l2), some (.int (l2 + l4)), some (.int l4), o5, o6, o7, o8] [.int (l2 + l4)]) : Z g kJ1_grow Q d cN sN M 29 [o0, o1, some (.int l2), o3, some (.int l4), o5, o6, o7, o8] [] := by
  refine zi_iload_n dJ1_grow_29 rfl ?_
  refine zi_iload dJ1_grow_30 rfl ?_
  refine zi_iadd dJ1_grow_32 ?_
  refine zi_dup dJ1_grow_33 rfl ?_
  refine zi_istore_n dJ1_grow_34 (Nat.le_of_ble_eq_true rfl) ?_
  exact kk
theorem sJ1_grow_37 {g : ZG} {Q : ZQ} {d cN sN : Nat} {M : ZM} {t0 : Int32} {t1 : Int32} {o0 o1 o2 o3 o4 o5 o6 o7 o8 : Option Value}  (kt : (t0 - t1 : Int32) ≤ 0 → Z g kJ1_grow Q d cN sN M 49 [o0, o1, o2, o3, o4, o5, o6, o7, o8] []) (kf : ¬ (t0 - t1 : Int32) ≤ 0 → Z g kJ1_grow Q d cN sN M 41 [o0, o1, o2, o3, o4, o5, o6, o7, o8] []) : Z g kJ1_grow Q d cN sN M 37 [o0, o1, o2, o3, o4, o5, o6, o7, o8] [.int t1, .int t0] := by
  refine zi_isub dJ1_grow_37 ?_
  exact zi_if_le (tgt := 49) dJ1_grow_38 (by decide +kernel) kt kf
theorem sJ1_grow_41 {g : ZG} {Q : ZQ} {d cN sN : Nat} {M : ZM} {l0 : Value} {l1 : Int32} {l4 : Int32} {o2 o3 o5 o6 o7 o8 : Option Value} (zl0 : zrf l0) (kk : Z g kJ1_grow Q d cN sN M 45 [some (l0), some (.int l1), o2, o3, some (.int l4), o5, o6, o7, o8] [.int l4, .int l1, l0]) : Z g kJ1_grow Q d cN sN M 41 [some (l0), some (.int l1), o2, o3, some (.int l4), o5, o6, o7, o8] [] := by
  refine zi_aload_n dJ1_grow_41 rfl zl0 ?_
  refine zi_iload_n dJ1_grow_42 rfl ?_
  refine zi_iload dJ1_grow_43 rfl ?_
  exact kk
theorem sJ1_grow_48 {g : ZG} {Q : ZQ} {d cN sN : Nat} {M : ZM} {t0 : Int32} {o0 o1 o2 o3 o4 o5 o6 o7 o8 : Option Value}  (kk : Z g kJ1_grow Q d cN sN M 49 [o0, o1, o2, some (.int t0), o4, o5, o6, o7, o8] []) : Z g kJ1_grow Q d cN sN M 48 [o0, o1, o2, o3, o4, o5, o6, o7, o8] [.int t0] := by
  refine zi_istore_n dJ1_grow_48 (Nat.le_of_ble_eq_true rfl) ?_
  exact kk
theorem sJ1_grow_49 {g : ZG} {Q : ZQ} {d cN sN : Nat} {M : ZM} {l0 : Nat} {fs1 : List Value} {r3 : Value} {l3 : Int32} {o1 o2 o4 o5 o6 o7 o8 : Option Value} (h2 : M.1 l0 = some (.inr (7, fs1))) (zr3 : zrf r3) (h4 : (fs1)[0]? = some (r3)) (kk : Z g kJ1_grow Q d cN sN M 55 [some (.ref l0), o1, o2, some (.int l3), o4, o5, o6, o7, o8] [.int l3, r3, .ref l0]) : Z g kJ1_grow Q d cN sN M 49 [some (.ref l0), o1, o2, some (.int l3), o4, o5, o6, o7, o8] [] := by
  refine zi_aload_n dJ1_grow_49 rfl zrf_r ?_
  refine zi_aload_n dJ1_grow_50 rfl zrf_r ?_
  refine zi_getfield dJ1_grow_51 rfl h2 h4 ?_
  refine zi_iload_n dJ1_grow_54 rfl ?_
  exact kk
theorem sJ1_grow_58 {g : ZG} {Q : ZQ} {d cN sN : Nat} {M : ZM} {t0 : Nat} {t1 : Value} {fs1 : List Value} {l0 : Nat} {fs4 : List Value} {y6 : Int32} {y8 : Int32} {o1 o2 o3 o4 o5 o6 o7 o8 : Option Value} (zt1 : zrf t1) (h2 : M.1 t0 = some (.inr (7, fs1))) (h3 : 0 < (fs1).length) (h5 : (zup M t0 (.inr (7, (fs1).set 0 (t1)))).1 l0 = some (.inr (7, fs4))) (h7 : (fs4)[2]? = some (.int y6)) (h9 : (fs4)[1]? = some (.int y8)) (kt : (y6 : Int32) < (y8 : Int32) → Z g kJ1_grow Q d cN sN (zup M t0 (.inr (7, (fs1).set 0 (t1)))) 96 [some (.ref l0), o1, o2, o3, o4, some (t1), o6, o7, o8] []) (kf : ¬ (y6 : Int32) < (y8 : Int32) → Z g kJ1_grow Q d cN sN (zup M t0 (.inr (7, (fs1).set 0 (t1)))) 75 [some (.ref l0), o1, o2, o3, o4, some (t1), o6, o7, o8] []) : Z g kJ1_grow Q d cN sN M 58 [some (.ref l0), o1, o2, o3, o4, o5, o6, o7, o8] [t1, .ref t0] := by
  refine zi_dup_x1 dJ1_grow_58 rfl (zrf_c zt1) ?_
  refine zi_putfield dJ1_grow_59 rfl h2 h3 (zfit_a zt1) (Or.inl rfl) ?_
  refine zi_astore dJ1_grow_62 zt1 (Nat.le_of_ble_eq_true rfl) ?_
  refine zi_aload_n dJ1_grow_64 rfl zrf_r ?_
  refine zi_getfield dJ1_grow_65 rfl h5 h7 ?_
  refine zi_aload_n dJ1_grow_68 rfl zrf_r ?_
  refine zi_getfield dJ1_grow_69 rfl h5 h9 ?_
  exact zi_icmp_lt (tgt := 96) dJ1_grow_72 (by decide +kernel) kt kf
theorem sJ1_grow_75 {g : ZG} {Q : ZQ} {d cN sN : Nat} {M : ZM} {l0 : Nat} {fs1 : List Value} {y3 : Int32} {y5 : Int32} {o1 o2 o3 o4 o5 o6 o7 o8 : Option Value} (h2 : M.1 l0 = some (.inr (7, fs1))) (h4 : (fs1)[2]? = some (.int y3)) (h6 : (fs1)[1]? = some (.int y5)) (kt : ¬ (y3 : Int32) = (y5 : Int32) → Z g kJ1_grow Q d cN sN M 164 [some (.ref l0), o1, o2, o3, o4, o5, o6, o7, o8] []) (kf : (y3 : Int32) = (y5 : Int32) → Z g kJ1_grow Q d cN sN M 86 [some (.ref l0), o1, o2, o3, o4, o5, o6, o7, o8] []) : Z g kJ1_grow Q d cN sN M 75 [some (.ref l0), o1, o2, o3, o4, o5, o6, o7, o8] [] := by
  refine zi_aload_n dJ1_grow_75 rfl zrf_r ?_
  refine zi_getfield dJ1_grow_76 rfl h2 h4 ?_
  refine zi_aload_n dJ1_grow_79 rfl zrf_r ?_
  refine zi_getfield dJ1_grow_80 rfl h2 h6 ?_
  exact zi_icmp_ne (tgt := 164) dJ1_grow_83 (by decide +kernel) kt kf
theorem sJ1_grow_86 {g : ZG} {Q : ZQ} {d cN sN : Nat} {M : ZM} {l5 : Nat} {l0 : Nat} {fs1 : List Value} {y3 : Int32} {n5 : Nat} {f6 : Nat → Option Nat} {c7 : ClassId} {r11 : Value} {o1 o2 o3 o4 o6 o7 o8 : Option Value} (h2 : M.1 l0 = some (.inr (7, fs1))) (h4 : (fs1)[1]? = some (.int y3)) (h8 : M.1 l5 = some (.inl (c7, n5, .inr (.inr (.inr (.inr f6)))))) (h9 : zRt g c7) (h10 : vp_in (y3) n5) (zr11 : zrf r11) (h12 : va_rf (f6 ((y3 : Int32).toNatClampNeg)) = r11) (kt : ((r11 : Value) = .null) → Z g kJ1_grow Q d cN sN M 164 [some (.ref l0), o1, o2, o3, o4, some (.ref l5), o6, o7, o8] []) (kf : (∃ a, (r11 : Value) = .ref a) → Z g kJ1_grow Q d cN sN M 96 [some (.ref l0), o1, o2, o3, o4, some (.ref l5), o6, o7, o8] []) : Z g kJ1_grow Q d cN sN M 86 [some (.ref l0), o1, o2, o3, o4, some (.ref l5), o6, o7, o8] [] := by
  refine zi_aload dJ1_grow_86 rfl zrf_r ?_
  refine zi_aload_n dJ1_grow_88 rfl zrf_r ?_
  refine zi_getfield dJ1_grow_89 rfl h2 h4 ?_
  refine zi_aaload dJ1_grow_92 h8 h9 h10 h12 ?_
  exact zi_ifnull (tgt := 164) dJ1_grow_93 (by decide +kernel) zr11 kt kf
theorem sJ1_grow_96 {g : ZG} {Q : ZQ} {d cN sN : Nat} {M : ZM} {l3 : Int32} {l2 : Int32} {l5 : Value} {l0 : Nat} {fs1 : List Value} {y3 : Int32} {o1 o4 o6 o7 o8 : Option Value} (zl5 : zrf l5) (h2 : M.1 l0 = some (.inr (7, fs1))) (h4 : (fs1)[1]? = some (.int y3)) (kk : Z g kJ1_grow Q d cN sN M 122 [some (.ref l0), o1, some (.int l2), some (.int l3), o4, some (l5), some (.int (l3 - l2)), o7, o8] [.int (l2 - y3), .int (y3 + (l3 - l2)), l5, .int y3, l5]) : Z g kJ1_grow Q d cN sN M 96 [some (.ref l0), o1, some (.int l2), some (.int l3), o4, some (l5), o6, o7, o8] [] := by
  refine zi_iload_n dJ1_grow_96 rfl ?_
  refine zi_iload_n dJ1_grow_97 rfl ?_
  refine zi_isub dJ1_grow_98 ?_
  refine zi_istore dJ1_grow_99 (Nat.le_of_ble_eq_true rfl) ?_
  refine zi_aload dJ1_grow_101 rfl zl5 ?_
  refine zi_aload_n dJ1_grow_103 rfl zrf_r ?_
  refine zi_getfield dJ1_grow_104 rfl h2 h4 ?_
  refine zi_aload dJ1_grow_107 rfl zl5 ?_
  refine zi_aload_n dJ1_grow_109 rfl zrf_r ?_
  refine zi_getfield dJ1_grow_110 rfl h2 h4 ?_
  refine zi_iload dJ1_grow_113 rfl ?_
  refine zi_iadd dJ1_grow_115 ?_
  refine zi_iload_n dJ1_grow_116 rfl ?_
  refine zi_aload_n dJ1_grow_117 rfl zrf_r ?_
  refine zi_getfield dJ1_grow_118 rfl h2 h4 ?_
  refine zi_isub dJ1_grow_121 ?_
  exact kk
theorem sJ1_grow_125 {g : ZG} {Q : ZQ} {d cN sN : Nat} {M : ZM} {l0 : Nat} {fs1 : List Value} {y3 : Int32} {l6 : Int32} {o1 o2 o3 o4 o5 o7 o8 : Option Value} (h2 : M.1 l0 = some (.inr (7, fs1))) (h4 : (fs1)[1]? = some (.int y3)) (h5 : 1 < (fs1).length) (kk : Z g kJ1_grow Q d cN sN (zup M l0 (.inr (7, (fs1).set 1 (.int (y3 + l6))))) 145 [some (.ref l0), o1, o2, o3, o4, o5, some (.int l6), some (.int y3), some (.int (y3 + l6))] []) : Z g kJ1_grow Q d cN sN M 125 [some (.ref l0), o1, o2, o3, o4, o5, some (.int l6), o7, o8] [] := by
  refine zi_aload_n dJ1_grow_125 rfl zrf_r ?_
  refine zi_getfield dJ1_grow_126 rfl h2 h4 ?_
  refine zi_istore dJ1_grow_129 (Nat.le_of_ble_eq_true rfl) ?_
  refine zi_aload_n dJ1_grow_131 rfl zrf_r ?_
  refine zi_dup dJ1_grow_132 rfl ?_
  refine zi_getfield dJ1_grow_133 rfl h2 h4 ?_
  refine zi_iload dJ1_grow_136 rfl ?_
  refine zi_iadd dJ1_grow_138 ?_
  refine zi_dup_x1 dJ1_grow_139 rfl rfl ?_
  refine zi_putfield dJ1_grow_140 rfl h2 h5 zfit_i (Or.inl rfl) ?_
  refine zi_istore dJ1_grow_143 (Nat.le_of_ble_eq_true rfl) ?_
  exact kk
theorem sJ1_grow_145 {g : ZG} {Q : ZQ} {d cN sN : Nat} {M : ZM} {l7 : Int32} {l8 : Int32} {o0 o1 o2 o3 o4 o5 o6 : Option Value}  (kt : (l8 : Int32) ≤ (l7 : Int32) → Z g kJ1_grow Q d cN sN M 164 [o0, o1, o2, o3, o4, o5, o6, some (.int l7), some (.int l8)] []) (kf : ¬ (l8 : Int32) ≤ (l7 : Int32) → Z g kJ1_grow Q d cN sN M 152 [o0, o1, o2, o3, o4, o5, o6, some (.int l7), some (.int l8)] []) : Z g kJ1_grow Q d cN sN M 145 [o0, o1, o2, o3, o4, o5, o6, some (.int l7), some (.int l8)] [] := by
  refine zi_iload dJ1_grow_145 rfl ?_
  refine zi_iload dJ1_grow_147 rfl ?_
  exact zi_icmp_ge (tgt := 164) dJ1_grow_149 (by decide +kernel) kt kf
theorem sJ1_grow_152 {g : ZG} {Q : ZQ} {d cN sN : Nat} {M : ZM} {l5 : Value} {l7 : Int32} {o0 o1 o2 o3 o4 o6 o8 : Option Value} (zl5 : zrf l5) (kk : Z g kJ1_grow Q d cN sN M 157 [o0, o1, o2, o3, o4, some (l5), o6, some (.int l7), o8] [.null, .int l7, l5]) : Z g kJ1_grow Q d cN sN M 152 [o0, o1, o2, o3, o4, some (l5), o6, some (.int l7), o8] [] := by
  refine zi_aload dJ1_grow_152 rfl zl5 ?_
  refine zi_iload dJ1_grow_154 rfl ?_
  refine zi_null dJ1_grow_156 ?_
  exact kk
theorem sJ1_grow_158 {g : ZG} {Q : ZQ} {d cN sN : Nat} {M : ZM} {l7 : Int32} {o0 o1 o2 o3 o4 o5 o6 o8 : Option Value}  (kk : Z g kJ1_grow Q d cN sN M 145 [o0, o1, o2, o3, o4, o5, o6, some (.int (l7 + 1)), o8] []) : Z g kJ1_grow Q d cN sN M 158 [o0, o1, o2, o3, o4, o5, o6, some (.int l7), o8] [] := by
  refine zi_iinc dJ1_grow_158 rfl (by decide +kernel : Int32.ofInt (1) = 1) (Nat.le_of_ble_eq_true rfl) ?_
  exact zi_goto (tgt := 145) dJ1_grow_161 (by decide +kernel) kk
theorem sJ1_grow_164 {g : ZG} {Q : ZQ} {d cN sN : Nat} {M : ZM} {o0 o1 o2 o3 o4 o5 o6 o7 o8 : Option Value}  (kk : Q.1 none M) : Z g kJ1_grow Q d cN sN M 164 [o0, o1, o2, o3, o4, o5, o6, o7, o8] [] := by
  exact zi_return dJ1_grow_164 rfl kk
abbrev kJ1_newCapacity : ZK := (RJ1, cJ1_newCapacity, 5, (Option.some Jvm.ClassFile.FieldType.int), [], false, fJ1)
abbrev tJ1_newCapacity (g : ZG) (args : List Value) (M : ZM) (d c s : Nat) (Q : ZQ) : Prop := Ct g yJ1_newCapacity (ws_ yJ1_newCapacity cJ1_newCapacity 5 (Option.some Jvm.ClassFile.FieldType.int)) args M d c s Q
abbrev nJ1_newCapacity : Nat := 8
theorem mJ1_newCapacity : zMok yJ1_newCapacity 2 5 := ⟨⟨by decide +kernel, by decide +kernel, by decide +kernel⟩, by decide⟩
theorem eJ1_newCapacity {g : ZG} {Q : ZQ} {d cN sN : Nat} {M : ZM} {a0 : Nat} {x1 : Int32} {x2 : Int32} (hV : zV g) (h : Z g kJ1_newCapacity Q d cN sN M 0 [some (.ref a0), some (.int x1), some (.int x2), none, none] []) : tJ1_newCapacity g [.ref a0, .int x1, .int x2] M d cN sN Q := Ct.of (K := kJ1_newCapacity) rfl (by decide +kernel) hV fokJ1 rfl (fun h => by cases h) (fun v hv => by simp only [List.mem_cons, List.not_mem_nil, or_false] at hv; rcases hv with rfl | rfl | rfl <;> first | rfl | assumption) (Nat.le_of_ble_eq_true rfl) h
theorem sJ1_newCapacity_0 {g : ZG} {Q : ZQ} {d cN sN : Nat} {M : ZM} {l0 : Nat} {fs1 : List Value} {r3 : Nat} {u5 : vp_A} {c6 : ClassId} {k7 : Nat} {ty8 : FieldType} {l1 : Int32} {o2 o3 o4 : Option Value} (h2 : M.1 l0 = some (.inr (7, fs1))) (h4 : (fs1)[0]? = some (.ref r3)) (h9 : M.1 r3 = some (.inl (c6, u5))) (h10 : (ztys g)[k7]? = some (c6, ty8)) (kk : Z g kJ1_newCapacity Q d cN sN M 12 [some (.ref l0), some (.int l1), o2, some (.int (Int32.ofNat u5.1)), some (.int ((Int32.ofNat u5.1) + l1))] [.int ((Int32.ofNat u5.1) + l1)]) : Z g kJ1_newCapacity Q d cN sN M 0 [some (.ref l0), some (.int l1), o2, o3, o4] [] := by
  refine zi_aload_n dJ1_newCapacity_0 rfl zrf_r ?_
  refine zi_getfield dJ1_newCapacity_1 rfl h2 h4 ?_
  refine zi_arraylength dJ1_newCapacity_4 h9 h10 ?_
  refine zi_istore_n dJ1_newCapacity_5 (Nat.le_of_ble_eq_true rfl) ?_
  refine zi_iload_n dJ1_newCapacity_6 rfl ?_
  refine zi_iload_n dJ1_newCapacity_7 rfl ?_
  refine zi_iadd dJ1_newCapacity_8 ?_
  refine zi_dup dJ1_newCapacity_9 rfl ?_
  refine zi_istore dJ1_newCapacity_10 (Nat.le_of_ble_eq_true rfl) ?_
  exact kk
theorem sJ1_newCapacity_14 {g : ZG} {Q : ZQ} {d cN sN : Nat} {M : ZM} {t0 : Int32} {t1 : Int32} {o0 o1 o2 o3 o4 : Option Value}  (kt : (t0 - t1 : Int32) ≤ 0 → Z g kJ1_newCapacity Q d cN sN M 36 [o0, o1, o2, o3, o4] []) (kf : ¬ (t0 - t1 : Int32) ≤ 0 → Z g kJ1_newCapacity Q d cN sN M 18 [o0, o1, o2, o3, o4] []) : Z g kJ1_newCapacity Q d cN sN M 14 [o0, o1, o2, o3, o4] [.int t1, .int t0] := by
  refine zi_isub dJ1_newCapacity_14 ?_
  exact zi_if_le (tgt := 36) dJ1_newCapacity_15 (by decide +kernel) kt kf
theorem sJ1_newCapacity_18 {g : ZG} {Q : ZQ} {d cN sN : Nat} {M : ZM} {l4 : Int32} {o0 o1 o2 o3 : Option Value}  (kt : 0 ≤ (l4 : Int32) → Z g kJ1_newCapacity Q d cN sN M 33 [o0, o1, o2, o3, some (.int l4)] []) (kf : ¬ 0 ≤ (l4 : Int32) → Z g kJ1_newCapacity Q d cN sN M 23 [o0, o1, o2, o3, some (.int l4)] []) : Z g kJ1_newCapacity Q d cN sN M 18 [o0, o1, o2, o3, some (.int l4)] [] := by
  refine zi_iload dJ1_newCapacity_18 rfl ?_
  exact zi_if_ge (tgt := 33) dJ1_newCapacity_20 (by decide +kernel) kt kf
theorem sJ1_newCapacity_26 {g : ZG} {Q : ZQ} {d cN sN : Nat} {M : ZM} {t0 : Value} {o0 o1 o2 o3 o4 : Option Value} (zt0 : zrf t0) (kk : Z g kJ1_newCapacity Q d cN sN M 27 [o0, o1, o2, o3, o4] [t0, t0]) : Z g kJ1_newCapacity Q d cN sN M 26 [o0, o1, o2, o3, o4] [t0] := by
  refine zi_dup dJ1_newCapacity_26 (zrf_c zt0) ?_
  exact kk
theorem sJ1_newCapacity_35 {g : ZG} {Q : ZQ} {d cN sN : Nat} {M : ZM} {t0 : Int32} {o0 o1 o2 o3 o4 : Option Value}  (kk : Q.1 (some (.int t0)) M) : Z g kJ1_newCapacity Q d cN sN M 35 [o0, o1, o2, o3, o4] [.int t0] := by
  exact zi_ireturn dJ1_newCapacity_35 rfl rfl kk
theorem sJ1_newCapacity_36 {g : ZG} {Q : ZQ} {d cN sN : Nat} {M : ZM} {l1 : Int32} {l2 : Int32} {o0 o3 o4 : Option Value}  (kt : (l1 : Int32) ≤ (l2 : Int32) → Z g kJ1_newCapacity Q d cN sN M 44 [o0, some (.int l1), some (.int l2), o3, o4] []) (kf : ¬ (l1 : Int32) ≤ (l2 : Int32) → Z g kJ1_newCapacity Q d cN sN M 41 [o0, some (.int l1), some (.int l2), o3, o4] []) : Z g kJ1_newCapacity Q d cN sN M 36 [o0, some (.int l1), some (.int l2), o3, o4] [] := by
  refine zi_iload_n dJ1_newCapacity_36 rfl ?_
  refine zi_iload_n dJ1_newCapacity_37 rfl ?_
  exact zi_icmp_le (tgt := 44) dJ1_newCapacity_38 (by decide +kernel) kt kf
theorem sJ1_newCapacity_41 {g : ZG} {Q : ZQ} {d cN sN : Nat} {M : ZM} {l4 : Int32} {o0 o1 o2 o3 : Option Value}  (kk : Q.1 (some (.int l4)) M) : Z g kJ1_newCapacity Q d cN sN M 41 [o0, o1, o2, o3, some (.int l4)] [] := by
  refine zi_iload dJ1_newCapacity_41 rfl ?_
  exact zi_ireturn dJ1_newCapacity_43 rfl rfl kk
theorem sJ1_newCapacity_44 {g : ZG} {Q : ZQ} {d cN sN : Nat} {M : ZM} {l3 : Int32} {l2 : Int32} {o0 o1 o4 : Option Value}  (kk : Z g kJ1_newCapacity Q d cN sN M 47 [o0, o1, some (.int l2), some (.int l3), o4] [.int (l3 + l2)]) : Z g kJ1_newCapacity Q d cN sN M 44 [o0, o1, some (.int l2), some (.int l3), o4] [] := by
  refine zi_iload_n dJ1_newCapacity_44 rfl ?_
  refine zi_iload_n dJ1_newCapacity_45 rfl ?_
  refine zi_iadd dJ1_newCapacity_46 ?_
  exact kk
theorem sJ1_newCapacity_49 {g : ZG} {Q : ZQ} {d cN sN : Nat} {M : ZM} {t0 : Int32} {t1 : Int32} {o0 o1 o2 o3 o4 : Option Value}  (kt : 0 ≤ (t0 - t1 : Int32) → Z g kJ1_newCapacity Q d cN sN M 59 [o0, o1, o2, o3, o4] []) (kf : ¬ 0 ≤ (t0 - t1 : Int32) → Z g kJ1_newCapacity Q d cN sN M 53 [o0, o1, o2, o3, o4] []) : Z g kJ1_newCapacity Q d cN sN M 49 [o0, o1, o2, o3, o4] [.int t1, .int t0] := by
  refine zi_isub dJ1_newCapacity_49 ?_
  exact zi_if_ge (tgt := 59) dJ1_newCapacity_50 (by decide +kernel) kt kf
theorem sJ1_newCapacity_53 {g : ZG} {Q : ZQ} {d cN sN : Nat} {M : ZM} {l3 : Int32} {l2 : Int32} {o0 o1 o4 : Option Value}  (kk : Z g kJ1_newCapacity Q d cN sN M 61 [o0, o1, some (.int l2), some (.int l3), o4] [.int (l3 + l2)]) : Z g kJ1_newCapacity Q d cN sN M 53 [o0, o1, some (.int l2), some (.int l3), o4] [] := by
  refine zi_iload_n dJ1_newCapacity_53 rfl ?_
  refine zi_iload_n dJ1_newCapacity_54 rfl ?_
  refine zi_iadd dJ1_newCapacity_55 ?_
  exact zi_goto (tgt := 61) dJ1_newCapacity_56 (by decide +kernel) kk
theorem sJ1_newCapacity_61 {g : ZG} {Q : ZQ} {d cN sN : Nat} {M : ZM} {t0 : Int32} {o0 o1 o2 o3 o4 : Option Value}  (kk : Q.1 (some (.int t0)) M) : Z g kJ1_newCapacity Q d cN sN M 61 [o0, o1, o2, o3, o4] [.int t0] := by
  exact zi_ireturn dJ1_newCapacity_61 rfl rfl kk
abbrev kJ1_isEmpty : ZK := (RJ1, cJ1_isEmpty, 1, (Option.some Jvm.ClassFile.FieldType.boolean), [], false, fJ1)
abbrev tJ1_isEmpty (g : ZG) (args : List Value) (M : ZM) (d c s : Nat) (Q : ZQ) : Prop := Ct g yJ1_isEmpty (ws_ yJ1_isEmpty cJ1_isEmpty 1 (Option.some Jvm.ClassFile.FieldType.boolean)) args M d c s Q
abbrev nJ1_isEmpty : Nat := 1
theorem mJ1_isEmpty : zMok yJ1_isEmpty 0 1 := ⟨⟨by decide +kernel, by decide +kernel, by decide +kernel⟩, by decide⟩
theorem eJ1_isEmpty {g : ZG} {Q : ZQ} {d cN sN : Nat} {M : ZM} {a0 : Nat} (hV : zV g) (h : Z g kJ1_isEmpty Q d cN sN M 0 [some (.ref a0)] []) : tJ1_isEmpty g [.ref a0] M d cN sN Q := Ct.of (K := kJ1_isEmpty) rfl (by decide +kernel) hV fokJ1 rfl (fun h => by cases h) (fun v hv => by simp only [List.mem_cons, List.not_mem_nil, or_false] at hv; rcases hv with rfl <;> first | rfl | assumption) (Nat.le_of_ble_eq_true rfl) h
theorem sJ1_isEmpty_0 {g : ZG} {Q : ZQ} {d cN sN : Nat} {M : ZM} {l0 : Nat} {fs1 : List Value} {y3 : Int32} {y5 : Int32} (h2 : M.1 l0 = some (.inr (7, fs1))) (h4 : (fs1)[1]? = some (.int y3)) (h6 : (fs1)[2]? = some (.int y5)) (kt : ¬ (y3 : Int32) = (y5 : Int32) → Z g kJ1_isEmpty Q d cN sN M 15 [some (.ref l0)] []) (kf : (y3 : Int32) = (y5 : Int32) → Z g kJ1_isEmpty Q d cN sN M 11 [some (.ref l0)] []) : Z g kJ1_isEmpty Q d cN sN M 0 [some (.ref l0)] [] := by
  refine zi_aload_n dJ1_isEmpty_0 rfl zrf_r ?_
  refine zi_getfield dJ1_isEmpty_1 rfl h2 h4 ?_
  refine zi_aload_n dJ1_isEmpty_4 rfl zrf_r ?_
  refine zi_getfield dJ1_isEmpty_5 rfl h2 h6 ?_
  exact zi_icmp_ne (tgt := 15) dJ1_isEmpty_8 (by decide +kernel) kt kf
theorem sJ1_isEmpty_11 {g : ZG} {Q : ZQ} {d cN sN : Nat} {M : ZM} {o0 : Option Value}  (kk : Z g kJ1_isEmpty Q d cN sN M 16 [o0] [.int 1]) : Z g kJ1_isEmpty Q d cN sN M 11 [o0] [] := by
  refine zi_iconst dJ1_isEmpty_11 (by decide +kernel : Int32.ofInt (1) = (1 : Int32)) ?_
  exact zi_goto (tgt := 16) dJ1_isEmpty_12 (by decide +kernel) kk
theorem sJ1_isEmpty_15 {g : ZG} {Q : ZQ} {d cN sN : Nat} {M : ZM} {o0 : Option Value}  (kk : Z g kJ1_isEmpty Q d cN sN M 16 [o0] [.int 0]) : Z g kJ1_isEmpty Q d cN sN M 15 [o0] [] := by
  refine zi_iconst dJ1_isEmpty_15 (by decide +kernel : Int32.ofInt (0) = (0 : Int32)) ?_
  exact kk
theorem sJ1_isEmpty_16 {g : ZG} {Q : ZQ} {d cN sN : Nat} {M : ZM} {t0 : Int32} {o0 : Option Value} (h1 : t0 = 0 ∨ t0 = 1) (kk : Q.1 (some (.int t0)) M) : Z g kJ1_isEmpty Q d cN sN M 16 [o0] [.int t0] := by
  exact zi_ireturn dJ1_isEmpty_16 rfl (znar_z h1) kk
abbrev kJ1_pollFirst : ZK := (RJ1, cJ1_pollFirst, 4, (Option.some (Jvm.ClassFile.FieldType.object "java/lang/Object")), [], false, fJ1)
abbrev tJ1_pollFirst (g : ZG) (args : List Value) (M : ZM) (d c s : Nat) (Q : ZQ) : Prop := Ct g yJ1_pollFirst (ws_ yJ1_pollFirst cJ1_pollFirst 4 (Option.some (Jvm.ClassFile.FieldType.object "java/lang/Object"))) args M d c s Q
abbrev nJ1_pollFirst : Nat := 2
theorem mJ1_pollFirst : zMok yJ1_pollFirst 0 4 := ⟨⟨by decide +kernel, by decide +kernel, by decide +kernel⟩, by decide⟩
theorem eJ1_pollFirst {g : ZG} {Q : ZQ} {d cN sN : Nat} {M : ZM} {a0 : Nat} (hV : zV g) (h : Z g kJ1_pollFirst Q d cN sN M 0 [some (.ref a0), none, none, none] []) : tJ1_pollFirst g [.ref a0] M d cN sN Q := Ct.of (K := kJ1_pollFirst) rfl (by decide +kernel) hV fokJ1 rfl (fun h => by cases h) (fun v hv => by simp only [List.mem_cons, List.not_mem_nil, or_false] at hv; rcases hv with rfl <;> first | rfl | assumption) (Nat.le_of_ble_eq_true rfl) h
theorem sJ1_pollFirst_0 {g : ZG} {Q : ZQ} {d cN sN : Nat} {M : ZM} {l0 : Nat} {fs1 : List Value} {r3 : Value} {y5 : Int32} {o1 o2 o3 : Option Value} (h2 : M.1 l0 = some (.inr (7, fs1))) (zr3 : zrf r3) (h4 : (fs1)[0]? = some (r3)) (h6 : (fs1)[1]? = some (.int y5)) (kk : Z g kJ1_pollFirst Q d cN sN M 12 [some (.ref l0), some (r3), some (.int y5), o3] [.int y5, r3]) : Z g kJ1_pollFirst Q d cN sN M 0 [some (.ref l0), o1, o2, o3] [] := by
  refine zi_aload_n dJ1_pollFirst_0 rfl zrf_r ?_
  refine zi_getfield dJ1_pollFirst_1 rfl h2 h4 ?_
  refine zi_dup dJ1_pollFirst_4 (zrf_c zr3) ?_
  refine zi_astore_n dJ1_pollFirst_5 zr3 (Nat.le_of_ble_eq_true rfl) ?_
  refine zi_aload_n dJ1_pollFirst_6 rfl zrf_r ?_
  refine zi_getfield dJ1_pollFirst_7 rfl h2 h6 ?_
  refine zi_dup dJ1_pollFirst_10 rfl ?_
  refine zi_istore_n dJ1_pollFirst_11 (Nat.le_of_ble_eq_true rfl) ?_
  exact kk
theorem sJ1_pollFirst_15 {g : ZG} {Q : ZQ} {d cN sN : Nat} {M : ZM} {t0 : Value} {o0 o1 o2 o3 : Option Value} (zt0 : zrf t0) (kt : ((t0 : Value) = .null) → Z g kJ1_pollFirst Q d cN sN M 34 [o0, o1, o2, some (t0)] []) (kf : (∃ a, (t0 : Value) = .ref a) → Z g kJ1_pollFirst Q d cN sN M 20 [o0, o1, o2, some (t0)] []) : Z g kJ1_pollFirst Q d cN sN M 15 [o0, o1, o2, o3] [t0] := by
  refine zi_astore_n dJ1_pollFirst_15 zt0 (Nat.le_of_ble_eq_true rfl) ?_
  refine zi_aload_n dJ1_pollFirst_16 rfl zt0 ?_
  exact zi_ifnull (tgt := 34) dJ1_pollFirst_17 (by decide +kernel) zt0 kt kf
theorem sJ1_pollFirst_20 {g : ZG} {Q : ZQ} {d cN sN : Nat} {M : ZM} {l1 : Value} {l2 : Int32} {o0 o3 : Option Value} (zl1 : zrf l1) (kk : Z g kJ1_pollFirst Q d cN sN M 23 [o0, some (l1), some (.int l2), o3] [.null, .int l2, l1]) : Z g kJ1_pollFirst Q d cN sN M 20 [o0, some (l1), some (.int l2), o3] [] := by
  refine zi_aload_n dJ1_pollFirst_20 rfl zl1 ?_
  refine zi_iload_n dJ1_pollFirst_21 rfl ?_
  refine zi_null dJ1_pollFirst_22 ?_
  exact kk
theorem sJ1_pollFirst_24 {g : ZG} {Q : ZQ} {d cN sN : Nat} {M : ZM} {l0 : Value} {l2 : Int32} {l1 : Nat} {u1 : vp_A} {c2 : ClassId} {k3 : Nat} {ty4 : FieldType} {o3 : Option Value} (zl0 : zrf l0) (h5 : M.1 l1 = some (.inl (c2, u1))) (h6 : (ztys g)[k3]? = some (c2, ty4)) (kk : Z g kJ1_pollFirst Q d cN sN M 28 [some (l0), some (.ref l1), some (.int l2), o3] [.int (Int32.ofNat u1.1), .int l2, l0]) : Z g kJ1_pollFirst Q d cN sN M 24 [some (l0), some (.ref l1), some (.int l2), o3] [] := by
  refine zi_aload_n dJ1_pollFirst_24 rfl zl0 ?_
  refine zi_iload_n dJ1_pollFirst_25 rfl ?_
  refine zi_aload_n dJ1_pollFirst_26 rfl zrf_r ?_
  refine zi_arraylength dJ1_pollFirst_27 h5 h6 ?_
  exact kk
theorem sJ1_pollFirst_31 {g : ZG} {Q : ZQ} {d cN sN : Nat} {M : ZM} {t0 : Nat} {t1 : Int32} {fs1 : List Value} {o0 o1 o2 o3 : Option Value} (h2 : M.1 t0 = some (.inr (7, fs1))) (h3 : 1 < (fs1).length) (kk : Z g kJ1_pollFirst Q d cN sN (zup M t0 (.inr (7, (fs1).set 1 (.int t1)))) 34 [o0, o1, o2, o3] []) : Z g kJ1_pollFirst Q d cN sN M 31 [o0, o1, o2, o3] [.int t1, .ref t0] := by
  refine zi_putfield dJ1_pollFirst_31 rfl h2 h3 zfit_i (Or.inl rfl) ?_
  exact kk
theorem sJ1_pollFirst_34 {g : ZG} {Q : ZQ} {d cN sN : Nat} {M : ZM} {l3 : Value} {o0 o1 o2 : Option Value} (zl3 : zrf l3) (kk : Q.1 (some (l3)) M) : Z g kJ1_pollFirst Q d cN sN M 34 [o0, o1, o2, some (l3)] [] := by
  refine zi_aload_n dJ1_pollFirst_34 rfl zl3 ?_
  exact zi_areturn dJ1_pollFirst_35 zl3 rfl (Or.inl ⟨_, rfl⟩) kk
abbrev kJ1_elementAt : ZK := (RJ1, cJ1_elementAt, 2, (Option.some (Jvm.ClassFile.FieldType.object "java/lang/Object")), [], false, fJ1)
abbrev tJ1_elementAt (g : ZG) (args : List Value) (M : ZM) (d c s : Nat) (Q : ZQ) : Prop := Ct g yJ1_elementAt (ws_ yJ1_elementAt cJ1_elementAt 2 (Option.some (Jvm.ClassFile.FieldType.object "java/lang/Object"))) args M d c s Q
abbrev nJ1_elementAt : Nat := 1
theorem mJ1_elementAt : zMok yJ1_elementAt 2 2 := ⟨⟨by decide +kernel, by decide +kernel, by decide +kernel⟩, by decide⟩
theorem eJ1_elementAt {g : ZG} {Q : ZQ} {d cN sN : Nat} {M : ZM} {v1 : Value} (hv1 : v1.category = 1) {x2 : Int32} (hV : zV g) (h : Z g kJ1_elementAt Q d cN sN M 0 [some (v1), some (.int x2)] []) : tJ1_elementAt g [v1, .int x2] M d cN sN Q := Ct.of (K := kJ1_elementAt) rfl (by decide +kernel) hV fokJ1 rfl (fun h => by cases h) (fun v hv => by simp only [List.mem_cons, List.not_mem_nil, or_false] at hv; rcases hv with rfl | rfl <;> first | rfl | assumption) (Nat.le_of_ble_eq_true rfl) h
theorem sJ1_elementAt_0 {g : ZG} {Q : ZQ} {d cN sN : Nat} {M : ZM} {l0 : Nat} {l1 : Int32} {n1 : Nat} {f2 : Nat → Option Nat} {c3 : ClassId} {r7 : Value} (h4 : M.1 l0 = some (.inl (c3, n1, .inr (.inr (.inr (.inr f2)))))) (h5 : zRt g c3) (h6 : vp_in (l1) n1) (zr7 : zrf r7) (h8 : va_rf (f2 ((l1 : Int32).toNatClampNeg)) = r7) (kk : Q.1 (some (r7)) M) : Z g kJ1_elementAt Q d cN sN M 0 [some (.ref l0), some (.int l1)] [] := by
  refine zi_aload_n dJ1_elementAt_0 rfl zrf_r ?_
  refine zi_iload_n dJ1_elementAt_1 rfl ?_
  refine zi_aaload dJ1_elementAt_2 h4 h5 h6 h8 ?_
  exact zi_areturn dJ1_elementAt_3 zr7 rfl (Or.inl ⟨_, rfl⟩) kk
abbrev kJ1_size : ZK := (RJ1, cJ1_size, 1, (Option.some Jvm.ClassFile.FieldType.int), [], false, fJ1)
abbrev tJ1_size (g : ZG) (args : List Value) (M : ZM) (d c s : Nat) (Q : ZQ) : Prop := Ct g yJ1_size (ws_ yJ1_size cJ1_size 1 (Option.some Jvm.ClassFile.FieldType.int)) args M d c s Q
abbrev nJ1_size : Nat := 2
theorem mJ1_size : zMok yJ1_size 0 1 := ⟨⟨by decide +kernel, by decide +kernel, by decide +kernel⟩, by decide⟩
theorem eJ1_size {g : ZG} {Q : ZQ} {d cN sN : Nat} {M : ZM} {a0 : Nat} (hV : zV g) (h : Z g kJ1_size Q d cN sN M 0 [some (.ref a0)] []) : tJ1_size g [.ref a0] M d cN sN Q := Ct.of (K := kJ1_size) rfl (by decide +kernel) hV fokJ1 rfl (fun h => by cases h) (fun v hv => by simp only [List.mem_cons, List.not_mem_nil, or_false] at hv; rcases hv with rfl <;> first | rfl | assumption) (Nat.le_of_ble_eq_true rfl) h
theorem sJ1_size_0 {g : ZG} {Q : ZQ} {d cN sN : Nat} {M : ZM} {l0 : Nat} {fs1 : List Value} {y3 : Int32} {y5 : Int32} {r7 : Nat} {u9 : vp_A} {c10 : ClassId} {k11 : Nat} {ty12 : FieldType} (h2 : M.1 l0 = some (.inr (7, fs1))) (h4 : (fs1)[2]? = some (.int y3)) (h6 : (fs1)[1]? = some (.int y5)) (h8 : (fs1)[0]? = some (.ref r7)) (h13 : M.1 r7 = some (.inl (c10, u9))) (h14 : (ztys g)[k11]? = some (c10, ty12)) (kk : Z g kJ1_size Q d cN sN M 13 [some (.ref l0)] [.int (Int32.ofNat u9.1), .int y5, .int y3]) : Z g kJ1_size Q d cN sN M 0 [some (.ref l0)] [] := by
  refine zi_aload_n dJ1_size_0 rfl zrf_r ?_
  refine zi_getfield dJ1_size_1 rfl h2 h4 ?_
  refine zi_aload_n dJ1_size_4 rfl zrf_r ?_
  refine zi_getfield dJ1_size_5 rfl h2 h6 ?_
  refine zi_aload_n dJ1_size_8 rfl zrf_r ?_
  refine zi_getfield dJ1_size_9 rfl h2 h8 ?_
  refine zi_arraylength dJ1_size_12 h13 h14 ?_
  exact kk
theorem sJ1_size_16 {g : ZG} {Q : ZQ} {d cN sN : Nat} {M : ZM} {t0 : Int32} {o0 : Option Value}  (kk : Q.1 (some (.int t0)) M) : Z g kJ1_size Q d cN sN M 16 [o0] [.int t0] := by
  exact zi_ireturn dJ1_size_16 rfl rfl kk
abbrev kJ1_sub : ZK := (RJ1, cJ1_sub, 3, (Option.some Jvm.ClassFile.FieldType.int), [], false, fJ1)
abbrev tJ1_sub (g : ZG) (args : List Value) (M : ZM) (d c s : Nat) (Q : ZQ) : Prop := Ct g yJ1_sub (ws_ yJ1_sub cJ1_sub 3 (Option.some Jvm.ClassFile.FieldType.int)) args M d c s Q
abbrev nJ1_sub : Nat := 1
theorem mJ1_sub : zMok yJ1_sub 3 3 := ⟨⟨by decide +kernel, by decide +kernel, by decide +kernel⟩, by decide⟩
theorem eJ1_sub {g : ZG} {Q : ZQ} {d cN sN : Nat} {M : ZM} {x1 : Int32} {x2 : Int32} {x3 : Int32} (hV : zV g) (h : Z g kJ1_sub Q d cN sN M 0 [some (.int x1), some (.int x2), some (.int x3)] []) : tJ1_sub g [.int x1, .int x2, .int x3] M d cN sN Q := Ct.of (K := kJ1_sub) rfl (by decide +kernel) hV fokJ1 rfl (fun h => by cases h) (fun v hv => by simp only [List.mem_cons, List.not_mem_nil, or_false] at hv; rcases hv with rfl | rfl | rfl <;> first | rfl | assumption) (Nat.le_of_ble_eq_true rfl) h
theorem sJ1_sub_0 {g : ZG} {Q : ZQ} {d cN sN : Nat} {M : ZM} {l0 : Int32} {l1 : Int32} {o2 : Option Value}  (kt : 0 ≤ (l0 - l1 : Int32) → Z g kJ1_sub Q d cN sN M 12 [some (.int (l0 - l1)), some (.int l1), o2] []) (kf : ¬ 0 ≤ (l0 - l1 : Int32) → Z g kJ1_sub Q d cN sN M 8 [some (.int (l0 - l1)), some (.int l1), o2] []) : Z g kJ1_sub Q d cN sN M 0 [some (.int l0), some (.int l1), o2] [] := by
  refine zi_iload_n dJ1_sub_0 rfl ?_
  refine zi_iload_n dJ1_sub_1 rfl ?_
  refine zi_isub dJ1_sub_2 ?_
  refine zi_dup dJ1_sub_3 rfl ?_
  refine zi_istore_n dJ1_sub_4 (Nat.le_of_ble_eq_true rfl) ?_
  exact zi_if_ge (tgt := 12) dJ1_sub_5 (by decide +kernel) kt kf
theorem sJ1_sub_8 {g : ZG} {Q : ZQ} {d cN sN : Nat} {M : ZM} {l0 : Int32} {l2 : Int32} {o1 : Option Value}  (kk : Z g kJ1_sub Q d cN sN M 12 [some (.int (l0 + l2)), o1, some (.int l2)] []) : Z g kJ1_sub Q d cN sN M 8 [some (.int l0), o1, some (.int l2)] [] := by
  refine zi_iload_n dJ1_sub_8 rfl ?_
  refine zi_iload_n dJ1_sub_9 rfl ?_
  refine zi_iadd dJ1_sub_10 ?_
  refine zi_istore_n dJ1_sub_11 (Nat.le_of_ble_eq_true rfl) ?_
  exact kk
theorem sJ1_sub_12 {g : ZG} {Q : ZQ} {d cN sN : Nat} {M : ZM} {l0 : Int32} {o1 o2 : Option Value}  (kk : Q.1 (some (.int l0)) M) : Z g kJ1_sub Q d cN sN M 12 [some (.int l0), o1, o2] [] := by
  refine zi_iload_n dJ1_sub_12 rfl ?_
  exact zi_ireturn dJ1_sub_13 rfl rfl kk
abbrev kJ1_pollLast : ZK := (RJ1, cJ1_pollLast, 4, (Option.some (Jvm.ClassFile.FieldType.object "java/lang/Object")), [], false, fJ1)
abbrev tJ1_pollLast (g : ZG) (args : List Value) (M : ZM) (d c s : Nat) (Q : ZQ) : Prop := Ct g yJ1_pollLast (ws_ yJ1_pollLast cJ1_pollLast 4 (Option.some (Jvm.ClassFile.FieldType.object "java/lang/Object"))) args M d c s Q
abbrev nJ1_pollLast : Nat := 2
theorem mJ1_pollLast : zMok yJ1_pollLast 0 4 := ⟨⟨by decide +kernel, by decide +kernel, by decide +kernel⟩, by decide⟩
theorem eJ1_pollLast {g : ZG} {Q : ZQ} {d cN sN : Nat} {M : ZM} {a0 : Nat} (hV : zV g) (h : Z g kJ1_pollLast Q d cN sN M 0 [some (.ref a0), none, none, none] []) : tJ1_pollLast g [.ref a0] M d cN sN Q := Ct.of (K := kJ1_pollLast) rfl (by decide +kernel) hV fokJ1 rfl (fun h => by cases h) (fun v hv => by simp only [List.mem_cons, List.not_mem_nil, or_false] at hv; rcases hv with rfl <;> first | rfl | assumption) (Nat.le_of_ble_eq_true rfl) h
theorem sJ1_pollLast_0 {g : ZG} {Q : ZQ} {d cN sN : Nat} {M : ZM} {l0 : Nat} {fs1 : List Value} {r3 : Nat} {y5 : Int32} {u7 : vp_A} {c8 : ClassId} {k9 : Nat} {ty10 : FieldType} {o1 o2 o3 : Option Value} (h2 : M.1 l0 = some (.inr (7, fs1))) (h4 : (fs1)[0]? = some (.ref r3)) (h6 : (fs1)[2]? = some (.int y5)) (h11 : M.1 r3 = some (.inl (c8, u7))) (h12 : (ztys g)[k9]? = some (c8, ty10)) (kk : Z g kJ1_pollLast Q d cN sN M 12 [some (.ref l0), some (.ref r3), o2, o3] [.int (Int32.ofNat u7.1), .int y5, .ref r3]) : Z g kJ1_pollLast Q d cN sN M 0 [some (.ref l0), o1, o2, o3] [] := by
  refine zi_aload_n dJ1_pollLast_0 rfl zrf_r ?_
  refine zi_getfield dJ1_pollLast_1 rfl h2 h4 ?_
  refine zi_dup dJ1_pollLast_4 rfl ?_
  refine zi_astore_n dJ1_pollLast_5 zrf_r (Nat.le_of_ble_eq_true rfl) ?_
  refine zi_aload_n dJ1_pollLast_6 rfl zrf_r ?_
  refine zi_getfield dJ1_pollLast_7 rfl h2 h6 ?_
  refine zi_aload_n dJ1_pollLast_10 rfl zrf_r ?_
  refine zi_arraylength dJ1_pollLast_11 h11 h12 ?_
  exact kk
theorem sJ1_pollLast_15 {g : ZG} {Q : ZQ} {d cN sN : Nat} {M : ZM} {t0 : Value} {t1 : Int32} {o0 o1 o2 o3 : Option Value} (zt0 : zrf t0) (kk : Z g kJ1_pollLast Q d cN sN M 17 [o0, o1, some (.int t1), o3] [.int t1, t0]) : Z g kJ1_pollLast Q d cN sN M 15 [o0, o1, o2, o3] [.int t1, t0] := by
  refine zi_dup dJ1_pollLast_15 rfl ?_
  refine zi_istore_n dJ1_pollLast_16 (Nat.le_of_ble_eq_true rfl) ?_
  exact kk
theorem sJ1_pollLast_20 {g : ZG} {Q : ZQ} {d cN sN : Nat} {M : ZM} {t0 : Value} {o0 o1 o2 o3 : Option Value} (zt0 : zrf t0) (kt : ((t0 : Value) = .null) → Z g kJ1_pollLast Q d cN sN M 34 [o0, o1, o2, some (t0)] []) (kf : (∃ a, (t0 : Value) = .ref a) → Z g kJ1_pollLast Q d cN sN M 25 [o0, o1, o2, some (t0)] []) : Z g kJ1_pollLast Q d cN sN M 20 [o0, o1, o2, o3] [t0] := by
  refine zi_astore_n dJ1_pollLast_20 zt0 (Nat.le_of_ble_eq_true rfl) ?_
  refine zi_aload_n dJ1_pollLast_21 rfl zt0 ?_
  exact zi_ifnull (tgt := 34) dJ1_pollLast_22 (by decide +kernel) zt0 kt kf
theorem sJ1_pollLast_25 {g : ZG} {Q : ZQ} {d cN sN : Nat} {M : ZM} {l1 : Value} {l0 : Nat} {l2 : Int32} {fs1 : List Value} {o3 : Option Value} (zl1 : zrf l1) (h2 : M.1 l0 = some (.inr (7, fs1))) (h3 : 2 < (fs1).length) (kk : Z g kJ1_pollLast Q d cN sN (zup M l0 (.inr (7, (fs1).set 2 (.int l2)))) 33 [some (.ref l0), some (l1), some (.int l2), o3] [.null, .int l2, l1]) : Z g kJ1_pollLast Q d cN sN M 25 [some (.ref l0), some (l1), some (.int l2), o3] [] := by
  refine zi_aload_n dJ1_pollLast_25 rfl zl1 ?_
  refine zi_aload_n dJ1_pollLast_26 rfl zrf_r ?_
  refine zi_iload_n dJ1_pollLast_27 rfl ?_
  refine zi_dup_x1 dJ1_pollLast_28 rfl rfl ?_
  refine zi_putfield dJ1_pollLast_29 rfl h2 h3 zfit_i (Or.inl rfl) ?_
  refine zi_null dJ1_pollLast_32 ?_
  exact kk
theorem sJ1_pollLast_34 {g : ZG} {Q : ZQ} {d cN sN : Nat} {M : ZM} {l3 : Value} {o0 o1 o2 : Option Value} (zl3 : zrf l3) (kk : Q.1 (some (l3)) M) : Z g kJ1_pollLast Q d cN sN M 34 [o0, o1, o2, some (l3)] [] := by
  refine zi_aload_n dJ1_pollLast_34 rfl zl3 ?_
  exact zi_areturn dJ1_pollLast_35 zl3 rfl (Or.inl ⟨_, rfl⟩) kk
abbrev kJ1_dec : ZK := (RJ1, cJ1_dec, 2, (Option.some Jvm.ClassFile.FieldType.int), [], false, fJ1)
abbrev tJ1_dec (g : ZG) (args : List Value) (M : ZM) (d c s : Nat) (Q : ZQ) : Prop := Ct g yJ1_dec (ws_ yJ1_dec cJ1_dec 2 (Option.some Jvm.ClassFile.FieldType.int)) args M d c s Q
abbrev nJ1_dec : Nat := 1
theorem mJ1_dec : zMok yJ1_dec 2 2 := ⟨⟨by decide +kernel, by decide +kernel, by decide +kernel⟩, by decide⟩
theorem eJ1_dec {g : ZG} {Q : ZQ} {d cN sN : Nat} {M : ZM} {x1 : Int32} {x2 : Int32} (hV : zV g) (h : Z g kJ1_dec Q d cN sN M 0 [some (.int x1), some (.int x2)] []) : tJ1_dec g [.int x1, .int x2] M d cN sN Q := Ct.of (K := kJ1_dec) rfl (by decide +kernel) hV fokJ1 rfl (fun h => by cases h) (fun v hv => by simp only [List.mem_cons, List.not_mem_nil, or_false] at hv; rcases hv with rfl | rfl <;> first | rfl | assumption) (Nat.le_of_ble_eq_true rfl) h
theorem sJ1_dec_0 {g : ZG} {Q : ZQ} {d cN sN : Nat} {M : ZM} {l0 : Int32} {o1 : Option Value}  (kt : 0 ≤ (l0 + (-1) : Int32) → Z g kJ1_dec Q d cN sN M 11 [some (.int (l0 + (-1))), o1] []) (kf : ¬ 0 ≤ (l0 + (-1) : Int32) → Z g kJ1_dec Q d cN sN M 7 [some (.int (l0 + (-1))), o1] []) : Z g kJ1_dec Q d cN sN M 0 [some (.int l0), o1] [] := by
  refine zi_iinc dJ1_dec_0 rfl (by decide +kernel : Int32.ofInt (-1) = -1) (Nat.le_of_ble_eq_true rfl) ?_
  refine zi_iload_n dJ1_dec_3 rfl ?_
  exact zi_if_ge (tgt := 11) dJ1_dec_4 (by decide +kernel) kt kf
theorem sJ1_dec_7 {g : ZG} {Q : ZQ} {d cN sN : Nat} {M : ZM} {l1 : Int32} {o0 : Option Value}  (kk : Z g kJ1_dec Q d cN sN M 11 [some (.int (l1 - 1)), some (.int l1)] []) : Z g kJ1_dec Q d cN sN M 7 [o0, some (.int l1)] [] := by
  refine zi_iload_n dJ1_dec_7 rfl ?_
  refine zi_iconst dJ1_dec_8 (by decide +kernel : Int32.ofInt (1) = (1 : Int32)) ?_
  refine zi_isub dJ1_dec_9 ?_
  refine zi_istore_n dJ1_dec_10 (Nat.le_of_ble_eq_true rfl) ?_
  exact kk
theorem sJ1_dec_11 {g : ZG} {Q : ZQ} {d cN sN : Nat} {M : ZM} {l0 : Int32} {o1 : Option Value}  (kk : Q.1 (some (.int l0)) M) : Z g kJ1_dec Q d cN sN M 11 [some (.int l0), o1] [] := by
  refine zi_iload_n dJ1_dec_11 rfl ?_
  exact zi_ireturn dJ1_dec_12 rfl rfl kk
/-! java/lang/AbstractStringBuilder (printed by gen_m.py) -/
set_option maxRecDepth 100000
abbrev cJ2_init : ByteArray := prog_14_method_2_code
def yJ2_init : MethodName := ⟨RJ2, "<init>", "(I)V"⟩
def dkwJ2_init_1 : List UInt8 := [167, 0, 16, 42, 27, 184, 0, 26, 181, 0, 15, 42, 4, 181, 0, 22, 177]
abbrev dktJ2_init_1 : List UInt8 := dkwJ2_init_1 ++ []
def dkwJ2_init_0 : List UInt8 := [42, 183, 0, 3, 178, 0, 18, 153, 0, 18, 42, 27, 188, 8, 181, 0, 15, 42, 3, 181, 0, 22]
abbrev dktJ2_init_0 : List UInt8 := dkwJ2_init_0 ++ dktJ2_init_1
theorem dksJ2_init_0 : cJ2_init.data.toList.drop 0 = dktJ2_init_0 := by decide +kernel
theorem dksJ2_init_1 : cJ2_init.data.toList.drop 22 = dktJ2_init_1 := dk_seg dksJ2_init_0 22 rfl rfl
theorem dJ2_init_0 : decode cJ2_init 0 = .ok (.aload_n 0, 1) := dk_42 (dk_at dksJ2_init_0 0 rfl rfl)
theorem dJ2_init_1 : decode cJ2_init 1 = .ok (.invokespecial 3, 3) := dk_183 0 3 (dk_at dksJ2_init_0 1 rfl rfl)
theorem dJ2_init_4 : decode cJ2_init 4 = .ok (.getstatic 18, 3) := dk_178 0 18 (dk_at dksJ2_init_0 4 rfl rfl)
theorem dJ2_init_7 : decode cJ2_init 7 = .ok (.ifCond .eq 18, 3) := dk_153 0 18 (dk_at dksJ2_init_0 7 rfl rfl)
theorem dJ2_init_10 : decode cJ2_init 10 = .ok (.aload_n 0, 1) := dk_42 (dk_at dksJ2_init_0 10 rfl rfl)
theorem dJ2_init_11 : decode cJ2_init 11 = .ok (.iload_n 1, 1) := dk_27 (dk_at dksJ2_init_0 11 rfl rfl)
theorem dJ2_init_12 : decode cJ2_init 12 = .ok (.newarray .byte, 2) := dk_188_8 (dk_at dksJ2_init_0 12 rfl rfl)
theorem dJ2_init_14 : decode cJ2_init 14 = .ok (.putfield 15, 3) := dk_181 0 15 (dk_at dksJ2_init_0 14 rfl rfl)
theorem dJ2_init_17 : decode cJ2_init 17 = .ok (.aload_n 0, 1) := dk_42 (dk_at dksJ2_init_0 17 rfl rfl)
theorem dJ2_init_18 : decode cJ2_init 18 = .ok (.iconst 0, 1) := dk_3 (dk_at dksJ2_init_0 18 rfl rfl)
theorem dJ2_init_19 : decode cJ2_init 19 = .ok (.putfield 22, 3) := dk_181 0 22 (dk_at dksJ2_init_0 19 rfl rfl)
theorem dJ2_init_22 : decode cJ2_init 22 = .ok (.goto 16, 3) := dk_167 0 16 (dk_at dksJ2_init_1 0 rfl rfl)
theorem dJ2_init_25 : decode cJ2_init 25 = .ok (.aload_n 0, 1) := dk_42 (dk_at dksJ2_init_1 3 rfl rfl)
theorem dJ2_init_26 : decode cJ2_init 26 = .ok (.iload_n 1, 1) := dk_27 (dk_at dksJ2_init_1 4 rfl rfl)
theorem dJ2_init_27 : decode cJ2_init 27 = .ok (.invokestatic 26, 3) := dk_184 0 26 (dk_at dksJ2_init_1 5 rfl rfl)
theorem dJ2_init_30 : decode cJ2_init 30 = .ok (.putfield 15, 3) := dk_181 0 15 (dk_at dksJ2_init_1 8 rfl rfl)
theorem dJ2_init_33 : decode cJ2_init 33 = .ok (.aload_n 0, 1) := dk_42 (dk_at dksJ2_init_1 11 rfl rfl)
theorem dJ2_init_34 : decode cJ2_init 34 = .ok (.iconst 1, 1) := dk_4 (dk_at dksJ2_init_1 12 rfl rfl)
theorem dJ2_init_35 : decode cJ2_init 35 = .ok (.putfield 22, 3) := dk_181 0 22 (dk_at dksJ2_init_1 13 rfl rfl)
theorem dJ2_init_38 : decode cJ2_init 38 = .ok (.return_, 1) := dk_177 (dk_at dksJ2_init_1 16 rfl rfl)
abbrev cJ2_setLength : ByteArray := prog_14_method_13_code
def yJ2_setLength : MethodName := ⟨RJ2, "setLength", "(I)V"⟩
def dkwJ2_setLength_3 : List UInt8 := [164, 0, 8, 42, 4, 181, 0, 73, 42, 27, 181, 0, 79, 177]
abbrev dktJ2_setLength_3 : List UInt8 := dkwJ2_setLength_3 ++ []
def dkwJ2_setLength_2 : List UInt8 := [167, 0, 31, 42, 180, 0, 15, 42, 180, 0, 79, 27, 184, 0, 137, 167, 0, 16, 42, 180, 0, 79, 27]
abbrev dktJ2_setLength_2 : List UInt8 := dkwJ2_setLength_2 ++ dktJ2_setLength_3
def dkwJ2_setLength_1 : List UInt8 := [162, 0, 40, 42, 182, 0, 83, 153, 0, 18, 42, 180, 0, 15, 42, 180, 0, 79, 27, 184, 0, 133]
abbrev dktJ2_setLength_1 : List UInt8 := dkwJ2_setLength_1 ++ dktJ2_setLength_2
def dkwJ2_setLength_0 : List UInt8 := [27, 156, 0, 12, 187, 0, 129, 89, 27, 183, 0, 131, 191, 42, 27, 182, 0, 100, 42, 180, 0, 79, 27]
abbrev dktJ2_setLength_0 : List UInt8 := dkwJ2_setLength_0 ++ dktJ2_setLength_1
theorem dksJ2_setLength_0 : cJ2_setLength.data.toList.drop 0 = dktJ2_setLength_0 := by decide +kernel
theorem dksJ2_setLength_1 : cJ2_setLength.data.toList.drop 23 = dktJ2_setLength_1 := dk_seg dksJ2_setLength_0 23 rfl rfl
theorem dksJ2_setLength_2 : cJ2_setLength.data.toList.drop 45 = dktJ2_setLength_2 := dk_seg dksJ2_setLength_1 22 rfl rfl
theorem dksJ2_setLength_3 : cJ2_setLength.data.toList.drop 68 = dktJ2_setLength_3 := dk_seg dksJ2_setLength_2 23 rfl rfl
theorem dJ2_setLength_0 : decode cJ2_setLength 0 = .ok (.iload_n 1, 1) := dk_27 (dk_at dksJ2_setLength_0 0 rfl rfl)
theorem dJ2_setLength_1 : decode cJ2_setLength 1 = .ok (.ifCond .ge 12, 3) := dk_156 0 12 (dk_at dksJ2_setLength_0 1 rfl rfl)
theorem dJ2_setLength_4 : decode cJ2_setLength 4 = .ok (.new 129, 3) := dk_187 0 129 (dk_at dksJ2_setLength_0 4 rfl rfl)
theorem dJ2_setLength_7 : decode cJ2_setLength 7 = .ok (.dup, 1) := dk_89 (dk_at dksJ2_setLength_0 7 rfl rfl)
theorem dJ2_setLength_8 : decode cJ2_setLength 8 = .ok (.iload_n 1, 1) := dk_27 (dk_at dksJ2_setLength_0 8 rfl rfl)
theorem dJ2_setLength_9 : decode cJ2_setLength 9 = .ok (.invokespecial 131, 3) := dk_183 0 131 (dk_at dksJ2_setLength_0 9 rfl rfl)
theorem dJ2_setLength_12 : decode cJ2_setLength 12 = .ok (.athrow, 1) := dk_191 (dk_at dksJ2_setLength_0 12 rfl rfl)
theorem dJ2_setLength_13 : decode cJ2_setLength 13 = .ok (.aload_n 0, 1) := dk_42 (dk_at dksJ2_setLength_0 13 rfl rfl)
theorem dJ2_setLength_14 : decode cJ2_setLength 14 = .ok (.iload_n 1, 1) := dk_27 (dk_at dksJ2_setLength_0 14 rfl rfl)
theorem dJ2_setLength_15 : decode cJ2_setLength 15 = .ok (.invokevirtual 100, 3) := dk_182 0 100 (dk_at dksJ2_setLength_0 15 rfl rfl)
theorem dJ2_setLength_18 : decode cJ2_setLength 18 = .ok (.aload_n 0, 1) := dk_42 (dk_at dksJ2_setLength_0 18 rfl rfl)
theorem dJ2_setLength_19 : decode cJ2_setLength 19 = .ok (.getfield 79, 3) := dk_180 0 79 (dk_at dksJ2_setLength_0 19 rfl rfl)
theorem dJ2_setLength_22 : decode cJ2_setLength 22 = .ok (.iload_n 1, 1) := dk_27 (dk_at dksJ2_setLength_0 22 rfl rfl)
theorem dJ2_setLength_23 : decode cJ2_setLength 23 = .ok (.if_icmp .ge 40, 3) := dk_162 0 40 (dk_at dksJ2_setLength_1 0 rfl rfl)
theorem dJ2_setLength_26 : decode cJ2_setLength 26 = .ok (.aload_n 0, 1) := dk_42 (dk_at dksJ2_setLength_1 3 rfl rfl)
theorem dJ2_setLength_27 : decode cJ2_setLength 27 = .ok (.invokevirtual 83, 3) := dk_182 0 83 (dk_at dksJ2_setLength_1 4 rfl rfl)
theorem dJ2_setLength_30 : decode cJ2_setLength 30 = .ok (.ifCond .eq 18, 3) := dk_153 0 18 (dk_at dksJ2_setLength_1 7 rfl rfl)
theorem dJ2_setLength_33 : decode cJ2_setLength 33 = .ok (.aload_n 0, 1) := dk_42 (dk_at dksJ2_setLength_1 10 rfl rfl)
theorem dJ2_setLength_34 : decode cJ2_setLength 34 = .ok (.getfield 15, 3) := dk_180 0 15 (dk_at dksJ2_setLength_1 11 rfl rfl)
theorem dJ2_setLength_37 : decode cJ2_setLength 37 = .ok (.aload_n 0, 1) := dk_42 (dk_at dksJ2_setLength_1 14 rfl rfl)
theorem dJ2_setLength_38 : decode cJ2_setLength 38 = .ok (.getfield 79, 3) := dk_180 0 79 (dk_at dksJ2_setLength_1 15 rfl rfl)
theorem dJ2_setLength_41 : decode cJ2_setLength 41 = .ok (.iload_n 1, 1) := dk_27 (dk_at dksJ2_setLength_1 18 rfl rfl)
theorem dJ2_setLength_42 : decode cJ2_setLength 42 = .ok (.invokestatic 133, 3) := dk_184 0 133 (dk_at dksJ2_setLength_1 19 rfl rfl)
theorem dJ2_setLength_45 : decode cJ2_setLength 45 = .ok (.goto 31, 3) := dk_167 0 31 (dk_at dksJ2_setLength_2 0 rfl rfl)
theorem dJ2_setLength_48 : decode cJ2_setLength 48 = .ok (.aload_n 0, 1) := dk_42 (dk_at dksJ2_setLength_2 3 rfl rfl)
theorem dJ2_setLength_49 : decode cJ2_setLength 49 = .ok (.getfield 15, 3) := dk_180 0 15 (dk_at dksJ2_setLength_2 4 rfl rfl)
theorem dJ2_setLength_52 : decode cJ2_setLength 52 = .ok (.aload_n 0, 1) := dk_42 (dk_at dksJ2_setLength_2 7 rfl rfl)
theorem dJ2_setLength_53 : decode cJ2_setLength 53 = .ok (.getfield 79, 3) := dk_180 0 79 (dk_at dksJ2_setLength_2 8 rfl rfl)
theorem dJ2_setLength_56 : decode cJ2_setLength 56 = .ok (.iload_n 1, 1) := dk_27 (dk_at dksJ2_setLength_2 11 rfl rfl)
theorem dJ2_setLength_57 : decode cJ2_setLength 57 = .ok (.invokestatic 137, 3) := dk_184 0 137 (dk_at dksJ2_setLength_2 12 rfl rfl)
theorem dJ2_setLength_60 : decode cJ2_setLength 60 = .ok (.goto 16, 3) := dk_167 0 16 (dk_at dksJ2_setLength_2 15 rfl rfl)
theorem dJ2_setLength_63 : decode cJ2_setLength 63 = .ok (.aload_n 0, 1) := dk_42 (dk_at dksJ2_setLength_2 18 rfl rfl)
theorem dJ2_setLength_64 : decode cJ2_setLength 64 = .ok (.getfield 79, 3) := dk_180 0 79 (dk_at dksJ2_setLength_2 19 rfl rfl)
theorem dJ2_setLength_67 : decode cJ2_setLength 67 = .ok (.iload_n 1, 1) := dk_27 (dk_at dksJ2_setLength_2 22 rfl rfl)
theorem dJ2_setLength_68 : decode cJ2_setLength 68 = .ok (.if_icmp .le 8, 3) := dk_164 0 8 (dk_at dksJ2_setLength_3 0 rfl rfl)
theorem dJ2_setLength_71 : decode cJ2_setLength 71 = .ok (.aload_n 0, 1) := dk_42 (dk_at dksJ2_setLength_3 3 rfl rfl)
theorem dJ2_setLength_72 : decode cJ2_setLength 72 = .ok (.iconst 1, 1) := dk_4 (dk_at dksJ2_setLength_3 4 rfl rfl)
theorem dJ2_setLength_73 : decode cJ2_setLength 73 = .ok (.putfield 73, 3) := dk_181 0 73 (dk_at dksJ2_setLength_3 5 rfl rfl)
theorem dJ2_setLength_76 : decode cJ2_setLength 76 = .ok (.aload_n 0, 1) := dk_42 (dk_at dksJ2_setLength_3 8 rfl rfl)
theorem dJ2_setLength_77 : decode cJ2_setLength 77 = .ok (.iload_n 1, 1) := dk_27 (dk_at dksJ2_setLength_3 9 rfl rfl)
theorem dJ2_setLength_78 : decode cJ2_setLength 78 = .ok (.putfield 79, 3) := dk_181 0 79 (dk_at dksJ2_setLength_3 10 rfl rfl)
theorem dJ2_setLength_81 : decode cJ2_setLength 81 = .ok (.return_, 1) := dk_177 (dk_at dksJ2_setLength_3 13 rfl rfl)
abbrev cJ2_append : ByteArray := prog_14_method_22_code
def yJ2_append : MethodName := ⟨RJ2, "append", "(Ljava/lang/String;)Ljava/lang/AbstractStringBuilder;"⟩
def dkwJ2_append_1 : List UInt8 := [42, 42, 180, 0, 79, 43, 182, 0, 208, 42, 89, 180, 0, 79, 28, 96, 181, 0, 79, 42, 176]
abbrev dktJ2_append_1 : List UInt8 := dkwJ2_append_1 ++ []
def dkwJ2_append_0 : List UInt8 := [43, 199, 0, 8, 42, 182, 0, 204, 176, 43, 182, 0, 32, 61, 42, 42, 180, 0, 79, 28, 96, 182, 0, 100]
abbrev dktJ2_append_0 : List UInt8 := dkwJ2_append_0 ++ dktJ2_append_1
theorem dksJ2_append_0 : cJ2_append.data.toList.drop 0 = dktJ2_append_0 := by decide +kernel
theorem dksJ2_append_1 : cJ2_append.data.toList.drop 24 = dktJ2_append_1 := dk_seg dksJ2_append_0 24 rfl rfl
theorem dJ2_append_0 : decode cJ2_append 0 = .ok (.aload_n 1, 1) := dk_43 (dk_at dksJ2_append_0 0 rfl rfl)
theorem dJ2_append_1 : decode cJ2_append 1 = .ok (.ifnonnull 8, 3) := dk_199 0 8 (dk_at dksJ2_append_0 1 rfl rfl)
theorem dJ2_append_4 : decode cJ2_append 4 = .ok (.aload_n 0, 1) := dk_42 (dk_at dksJ2_append_0 4 rfl rfl)
theorem dJ2_append_5 : decode cJ2_append 5 = .ok (.invokevirtual 204, 3) := dk_182 0 204 (dk_at dksJ2_append_0 5 rfl rfl)
theorem dJ2_append_8 : decode cJ2_append 8 = .ok (.areturn, 1) := dk_176 (dk_at dksJ2_append_0 8 rfl rfl)
theorem dJ2_append_9 : decode cJ2_append 9 = .ok (.aload_n 1, 1) := dk_43 (dk_at dksJ2_append_0 9 rfl rfl)
theorem dJ2_append_10 : decode cJ2_append 10 = .ok (.invokevirtual 32, 3) := dk_182 0 32 (dk_at dksJ2_append_0 10 rfl rfl)
theorem dJ2_append_13 : decode cJ2_append 13 = .ok (.istore_n 2, 1) := dk_61 (dk_at dksJ2_append_0 13 rfl rfl)
theorem dJ2_append_14 : decode cJ2_append 14 = .ok (.aload_n 0, 1) := dk_42 (dk_at dksJ2_append_0 14 rfl rfl)
theorem dJ2_append_15 : decode cJ2_append 15 = .ok (.aload_n 0, 1) := dk_42 (dk_at dksJ2_append_0 15 rfl rfl)
theorem dJ2_append_16 : decode cJ2_append 16 = .ok (.getfield 79, 3) := dk_180 0 79 (dk_at dksJ2_append_0 16 rfl rfl)
theorem dJ2_append_19 : decode cJ2_append 19 = .ok (.iload_n 2, 1) := dk_28 (dk_at dksJ2_append_0 19 rfl rfl)
theorem dJ2_append_20 : decode cJ2_append 20 = .ok (.iadd, 1) := dk_96 (dk_at dksJ2_append_0 20 rfl rfl)
theorem dJ2_append_21 : decode cJ2_append 21 = .ok (.invokevirtual 100, 3) := dk_182 0 100 (dk_at dksJ2_append_0 21 rfl rfl)
theorem dJ2_append_24 : decode cJ2_append 24 = .ok (.aload_n 0, 1) := dk_42 (dk_at dksJ2_append_1 0 rfl rfl)
theorem dJ2_append_25 : decode cJ2_append 25 = .ok (.aload_n 0, 1) := dk_42 (dk_at dksJ2_append_1 1 rfl rfl)
theorem dJ2_append_26 : decode cJ2_append 26 = .ok (.getfield 79, 3) := dk_180 0 79 (dk_at dksJ2_append_1 2 rfl rfl)
theorem dJ2_append_29 : decode cJ2_append 29 = .ok (.aload_n 1, 1) := dk_43 (dk_at dksJ2_append_1 5 rfl rfl)
theorem dJ2_append_30 : decode cJ2_append 30 = .ok (.invokevirtual 208, 3) := dk_182 0 208 (dk_at dksJ2_append_1 6 rfl rfl)
theorem dJ2_append_33 : decode cJ2_append 33 = .ok (.aload_n 0, 1) := dk_42 (dk_at dksJ2_append_1 9 rfl rfl)
theorem dJ2_append_34 : decode cJ2_append 34 = .ok (.dup, 1) := dk_89 (dk_at dksJ2_append_1 10 rfl rfl)
theorem dJ2_append_35 : decode cJ2_append 35 = .ok (.getfield 79, 3) := dk_180 0 79 (dk_at dksJ2_append_1 11 rfl rfl)
theorem dJ2_append_38 : decode cJ2_append 38 = .ok (.iload_n 2, 1) := dk_28 (dk_at dksJ2_append_1 14 rfl rfl)
theorem dJ2_append_39 : decode cJ2_append 39 = .ok (.iadd, 1) := dk_96 (dk_at dksJ2_append_1 15 rfl rfl)
theorem dJ2_append_40 : decode cJ2_append 40 = .ok (.putfield 79, 3) := dk_181 0 79 (dk_at dksJ2_append_1 16 rfl rfl)
theorem dJ2_append_43 : decode cJ2_append 43 = .ok (.aload_n 0, 1) := dk_42 (dk_at dksJ2_append_1 19 rfl rfl)
theorem dJ2_append_44 : decode cJ2_append 44 = .ok (.areturn, 1) := dk_176 (dk_at dksJ2_append_1 20 rfl rfl)
abbrev cJ2_appendNull : ByteArray := prog_14_method_26_code
def yJ2_appendNull : MethodName := ⟨RJ2, "appendNull", "()Ljava/lang/AbstractStringBuilder;"⟩
def dkwJ2_appendNull_3 : List UInt8 := [184, 0, 226, 60, 42, 27, 181, 0, 79, 42, 176]
abbrev dktJ2_appendNull_3 : List UInt8 := dkwJ2_appendNull_3 ++ []
def dkwJ2_appendNull_2 : List UInt8 := [16, 108, 84, 44, 27, 132, 1, 1, 16, 108, 84, 167, 0, 17, 44, 27, 16, 110, 16, 117, 16, 108, 16, 108]
abbrev dktJ2_appendNull_2 : List UInt8 := dkwJ2_appendNull_2 ++ dktJ2_appendNull_3
def dkwJ2_appendNull_1 : List UInt8 := [153, 0, 38, 44, 27, 132, 1, 1, 16, 110, 84, 44, 27, 132, 1, 1, 16, 117, 84, 44, 27, 132, 1, 1]
abbrev dktJ2_appendNull_1 : List UInt8 := dkwJ2_appendNull_1 ++ dktJ2_appendNull_2
def dkwJ2_appendNull_0 : List UInt8 := [42, 42, 180, 0, 79, 7, 96, 182, 0, 100, 42, 180, 0, 79, 60, 42, 180, 0, 15, 77, 42, 182, 0, 83]
abbrev dktJ2_appendNull_0 : List UInt8 := dkwJ2_appendNull_0 ++ dktJ2_appendNull_1
theorem dksJ2_appendNull_0 : cJ2_appendNull.data.toList.drop 0 = dktJ2_appendNull_0 := by decide +kernel
theorem dksJ2_appendNull_1 : cJ2_appendNull.data.toList.drop 24 = dktJ2_appendNull_1 := dk_seg dksJ2_appendNull_0 24 rfl rfl
theorem dksJ2_appendNull_2 : cJ2_appendNull.data.toList.drop 48 = dktJ2_appendNull_2 := dk_seg dksJ2_appendNull_1 24 rfl rfl
theorem dksJ2_appendNull_3 : cJ2_appendNull.data.toList.drop 72 = dktJ2_appendNull_3 := dk_seg dksJ2_appendNull_2 24 rfl rfl
theorem dJ2_appendNull_0 : decode cJ2_appendNull 0 = .ok (.aload_n 0, 1) := dk_42 (dk_at dksJ2_appendNull_0 0 rfl rfl)
theorem dJ2_appendNull_1 : decode cJ2_appendNull 1 = .ok (.aload_n 0, 1) := dk_42 (dk_at dksJ2_appendNull_0 1 rfl rfl)
theorem dJ2_appendNull_2 : decode cJ2_appendNull 2 = .ok (.getfield 79, 3) := dk_180 0 79 (dk_at dksJ2_appendNull_0 2 rfl rfl)
theorem dJ2_appendNull_5 : decode cJ2_appendNull 5 = .ok (.iconst 4, 1) := dk_7 (dk_at dksJ2_appendNull_0 5 rfl rfl)
theorem dJ2_appendNull_6 : decode cJ2_appendNull 6 = .ok (.iadd, 1) := dk_96 (dk_at dksJ2_appendNull_0 6 rfl rfl)
theorem dJ2_appendNull_7 : decode cJ2_appendNull 7 = .ok (.invokevirtual 100, 3) := dk_182 0 100 (dk_at dksJ2_appendNull_0 7 rfl rfl)
theorem dJ2_appendNull_10 : decode cJ2_appendNull 10 = .ok (.aload_n 0, 1) := dk_42 (dk_at dksJ2_appendNull_0 10 rfl rfl)
theorem dJ2_appendNull_11 : decode cJ2_appendNull 11 = .ok (.getfield 79, 3) := dk_180 0 79 (dk_at dksJ2_appendNull_0 11 rfl rfl)
theorem dJ2_appendNull_14 : decode cJ2_appendNull 14 = .ok (.istore_n 1, 1) := dk_60 (dk_at dksJ2_appendNull_0 14 rfl rfl)
theorem dJ2_appendNull_15 : decode cJ2_appendNull 15 = .ok (.aload_n 0, 1) := dk_42 (dk_at dksJ2_appendNull_0 15 rfl rfl)
theorem dJ2_appendNull_16 : decode cJ2_appendNull 16 = .ok (.getfield 15, 3) := dk_180 0 15 (dk_at dksJ2_appendNull_0 16 rfl rfl)
theorem dJ2_appendNull_19 : decode cJ2_appendNull 19 = .ok (.astore_n 2, 1) := dk_77 (dk_at dksJ2_appendNull_0 19 rfl rfl)
theorem dJ2_appendNull_20 : decode cJ2_appendNull 20 = .ok (.aload_n 0, 1) := dk_42 (dk_at dksJ2_appendNull_0 20 rfl rfl)
theorem dJ2_appendNull_21 : decode cJ2_appendNull 21 = .ok (.invokevirtual 83, 3) := dk_182 0 83 (dk_at dksJ2_appendNull_0 21 rfl rfl)
theorem dJ2_appendNull_24 : decode cJ2_appendNull 24 = .ok (.ifCond .eq 38, 3) := dk_153 0 38 (dk_at dksJ2_appendNull_1 0 rfl rfl)
theorem dJ2_appendNull_27 : decode cJ2_appendNull 27 = .ok (.aload_n 2, 1) := dk_44 (dk_at dksJ2_appendNull_1 3 rfl rfl)
theorem dJ2_appendNull_28 : decode cJ2_appendNull 28 = .ok (.iload_n 1, 1) := dk_27 (dk_at dksJ2_appendNull_1 4 rfl rfl)
theorem dJ2_appendNull_29 : decode cJ2_appendNull 29 = .ok (.iinc 1 1, 3) := dk_132 1 1 (dk_at dksJ2_appendNull_1 5 rfl rfl)
theorem dJ2_appendNull_32 : decode cJ2_appendNull 32 = .ok (.bipush 110, 2) := dk_16 110 (dk_at dksJ2_appendNull_1 8 rfl rfl)
theorem dJ2_appendNull_34 : decode cJ2_appendNull 34 = .ok (.bastore, 1) := dk_84 (dk_at dksJ2_appendNull_1 10 rfl rfl)
theorem dJ2_appendNull_35 : decode cJ2_appendNull 35 = .ok (.aload_n 2, 1) := dk_44 (dk_at dksJ2_appendNull_1 11 rfl rfl)
theorem dJ2_appendNull_36 : decode cJ2_appendNull 36 = .ok (.iload_n 1, 1) := dk_27 (dk_at dksJ2_appendNull_1 12 rfl rfl)
theorem dJ2_appendNull_37 : decode cJ2_appendNull 37 = .ok (.iinc 1 1, 3) := dk_132 1 1 (dk_at dksJ2_appendNull_1 13 rfl rfl)
theorem dJ2_appendNull_40 : decode cJ2_appendNull 40 = .ok (.bipush 117, 2) := dk_16 117 (dk_at dksJ2_appendNull_1 16 rfl rfl)
theorem dJ2_appendNull_42 : decode cJ2_appendNull 42 = .ok (.bastore, 1) := dk_84 (dk_at dksJ2_appendNull_1 18 rfl rfl)
theorem dJ2_appendNull_43 : decode cJ2_appendNull 43 = .ok (.aload_n 2, 1) := dk_44 (dk_at dksJ2_appendNull_1 19 rfl rfl)
theorem dJ2_appendNull_44 : decode cJ2_appendNull 44 = .ok (.iload_n 1, 1) := dk_27 (dk_at dksJ2_appendNull_1 20 rfl rfl)
theorem dJ2_appendNull_45 : decode cJ2_appendNull 45 = .ok (.iinc 1 1, 3) := dk_132 1 1 (dk_at dksJ2_appendNull_1 21 rfl rfl)
theorem dJ2_appendNull_48 : decode cJ2_appendNull 48 = .ok (.bipush 108, 2) := dk_16 108 (dk_at dksJ2_appendNull_2 0 rfl rfl)
theorem dJ2_appendNull_50 : decode cJ2_appendNull 50 = .ok (.bastore, 1) := dk_84 (dk_at dksJ2_appendNull_2 2 rfl rfl)
theorem dJ2_appendNull_51 : decode cJ2_appendNull 51 = .ok (.aload_n 2, 1) := dk_44 (dk_at dksJ2_appendNull_2 3 rfl rfl)
theorem dJ2_appendNull_52 : decode cJ2_appendNull 52 = .ok (.iload_n 1, 1) := dk_27 (dk_at dksJ2_appendNull_2 4 rfl rfl)
theorem dJ2_appendNull_53 : decode cJ2_appendNull 53 = .ok (.iinc 1 1, 3) := dk_132 1 1 (dk_at dksJ2_appendNull_2 5 rfl rfl)
theorem dJ2_appendNull_56 : decode cJ2_appendNull 56 = .ok (.bipush 108, 2) := dk_16 108 (dk_at dksJ2_appendNull_2 8 rfl rfl)
theorem dJ2_appendNull_58 : decode cJ2_appendNull 58 = .ok (.bastore, 1) := dk_84 (dk_at dksJ2_appendNull_2 10 rfl rfl)
theorem dJ2_appendNull_59 : decode cJ2_appendNull 59 = .ok (.goto 17, 3) := dk_167 0 17 (dk_at dksJ2_appendNull_2 11 rfl rfl)
theorem dJ2_appendNull_62 : decode cJ2_appendNull 62 = .ok (.aload_n 2, 1) := dk_44 (dk_at dksJ2_appendNull_2 14 rfl rfl)
theorem dJ2_appendNull_63 : decode cJ2_appendNull 63 = .ok (.iload_n 1, 1) := dk_27 (dk_at dksJ2_appendNull_2 15 rfl rfl)
theorem dJ2_appendNull_64 : decode cJ2_appendNull 64 = .ok (.bipush 110, 2) := dk_16 110 (dk_at dksJ2_appendNull_2 16 rfl rfl)
theorem dJ2_appendNull_66 : decode cJ2_appendNull 66 = .ok (.bipush 117, 2) := dk_16 117 (dk_at dksJ2_appendNull_2 18 rfl rfl)
theorem dJ2_appendNull_68 : decode cJ2_appendNull 68 = .ok (.bipush 108, 2) := dk_16 108 (dk_at dksJ2_appendNull_2 20 rfl rfl)
theorem dJ2_appendNull_70 : decode cJ2_appendNull 70 = .ok (.bipush 108, 2) := dk_16 108 (dk_at dksJ2_appendNull_2 22 rfl rfl)
theorem dJ2_appendNull_72 : decode cJ2_appendNull 72 = .ok (.invokestatic 226, 3) := dk_184 0 226 (dk_at dksJ2_appendNull_3 0 rfl rfl)
theorem dJ2_appendNull_75 : decode cJ2_appendNull 75 = .ok (.istore_n 1, 1) := dk_60 (dk_at dksJ2_appendNull_3 3 rfl rfl)
theorem dJ2_appendNull_76 : decode cJ2_appendNull 76 = .ok (.aload_n 0, 1) := dk_42 (dk_at dksJ2_appendNull_3 4 rfl rfl)
theorem dJ2_appendNull_77 : decode cJ2_appendNull 77 = .ok (.iload_n 1, 1) := dk_27 (dk_at dksJ2_appendNull_3 5 rfl rfl)
theorem dJ2_appendNull_78 : decode cJ2_appendNull 78 = .ok (.putfield 79, 3) := dk_181 0 79 (dk_at dksJ2_appendNull_3 6 rfl rfl)
theorem dJ2_appendNull_81 : decode cJ2_appendNull 81 = .ok (.aload_n 0, 1) := dk_42 (dk_at dksJ2_appendNull_3 9 rfl rfl)
theorem dJ2_appendNull_82 : decode cJ2_appendNull 82 = .ok (.areturn, 1) := dk_176 (dk_at dksJ2_appendNull_3 10 rfl rfl)
abbrev cJ2_ensureCapacityInternal : ByteArray := prog_14_method_9_code
def yJ2_ensureCapacityInternal : MethodName := ⟨RJ2, "ensureCapacityInternal", "(I)V"⟩
def dkwJ2_ensureCapacityInternal_1 : List UInt8 := [182, 0, 104, 42, 180, 0, 22, 120, 184, 0, 108, 181, 0, 15, 177]
abbrev dktJ2_ensureCapacityInternal_1 : List UInt8 := dkwJ2_ensureCapacityInternal_1 ++ []
def dkwJ2_ensureCapacityInternal_0 : List UInt8 := [42, 180, 0, 15, 190, 42, 180, 0, 22, 122, 61, 27, 28, 100, 158, 0, 24, 42, 42, 180, 0, 15, 42, 27]
abbrev dktJ2_ensureCapacityInternal_0 : List UInt8 := dkwJ2_ensureCapacityInternal_0 ++ dktJ2_ensureCapacityInternal_1
theorem dksJ2_ensureCapacityInternal_0 : cJ2_ensureCapacityInternal.data.toList.drop 0 = dktJ2_ensureCapacityInternal_0 := by decide +kernel
theorem dksJ2_ensureCapacityInternal_1 : cJ2_ensureCapacityInternal.data.toList.drop 24 = dktJ2_ensureCapacityInternal_1 := dk_seg dksJ2_ensureCapacityInternal_0 24 rfl rfl
theorem dJ2_ensureCapacityInternal_0 : decode cJ2_ensureCapacityInternal 0 = .ok (.aload_n 0, 1) := dk_42 (dk_at dksJ2_ensureCapacityInternal_0 0 rfl rfl)
theorem dJ2_ensureCapacityInternal_1 : decode cJ2_ensureCapacityInternal 1 = .ok (.getfield 15, 3) := dk_180 0 15 (dk_at dksJ2_ensureCapacityInternal_0 1 rfl rfl)
theorem dJ2_ensureCapacityInternal_4 : decode cJ2_ensureCapacityInternal 4 = .ok (.arraylength, 1) := dk_190 (dk_at dksJ2_ensureCapacityInternal_0 4 rfl rfl)
theorem dJ2_ensureCapacityInternal_5 : decode cJ2_ensureCapacityInternal 5 = .ok (.aload_n 0, 1) := dk_42 (dk_at dksJ2_ensureCapacityInternal_0 5 rfl rfl)
theorem dJ2_ensureCapacityInternal_6 : decode cJ2_ensureCapacityInternal 6 = .ok (.getfield 22, 3) := dk_180 0 22 (dk_at dksJ2_ensureCapacityInternal_0 6 rfl rfl)
theorem dJ2_ensureCapacityInternal_9 : decode cJ2_ensureCapacityInternal 9 = .ok (.ishr, 1) := dk_122 (dk_at dksJ2_ensureCapacityInternal_0 9 rfl rfl)
theorem dJ2_ensureCapacityInternal_10 : decode cJ2_ensureCapacityInternal 10 = .ok (.istore_n 2, 1) := dk_61 (dk_at dksJ2_ensureCapacityInternal_0 10 rfl rfl)
theorem dJ2_ensureCapacityInternal_11 : decode cJ2_ensureCapacityInternal 11 = .ok (.iload_n 1, 1) := dk_27 (dk_at dksJ2_ensureCapacityInternal_0 11 rfl rfl)
theorem dJ2_ensureCapacityInternal_12 : decode cJ2_ensureCapacityInternal 12 = .ok (.iload_n 2, 1) := dk_28 (dk_at dksJ2_ensureCapacityInternal_0 12 rfl rfl)
theorem dJ2_ensureCapacityInternal_13 : decode cJ2_ensureCapacityInternal 13 = .ok (.isub, 1) := dk_100 (dk_at dksJ2_ensureCapacityInternal_0 13 rfl rfl)
theorem dJ2_ensureCapacityInternal_14 : decode cJ2_ensureCapacityInternal 14 = .ok (.ifCond .le 24, 3) := dk_158 0 24 (dk_at dksJ2_ensureCapacityInternal_0 14 rfl rfl)
theorem dJ2_ensureCapacityInternal_17 : decode cJ2_ensureCapacityInternal 17 = .ok (.aload_n 0, 1) := dk_42 (dk_at dksJ2_ensureCapacityInternal_0 17 rfl rfl)
theorem dJ2_ensureCapacityInternal_18 : decode cJ2_ensureCapacityInternal 18 = .ok (.aload_n 0, 1) := dk_42 (dk_at dksJ2_ensureCapacityInternal_0 18 rfl rfl)
theorem dJ2_ensureCapacityInternal_19 : decode cJ2_ensureCapacityInternal 19 = .ok (.getfield 15, 3) := dk_180 0 15 (dk_at dksJ2_ensureCapacityInternal_0 19 rfl rfl)
theorem dJ2_ensureCapacityInternal_22 : decode cJ2_ensureCapacityInternal 22 = .ok (.aload_n 0, 1) := dk_42 (dk_at dksJ2_ensureCapacityInternal_0 22 rfl rfl)
theorem dJ2_ensureCapacityInternal_23 : decode cJ2_ensureCapacityInternal 23 = .ok (.iload_n 1, 1) := dk_27 (dk_at dksJ2_ensureCapacityInternal_0 23 rfl rfl)
theorem dJ2_ensureCapacityInternal_24 : decode cJ2_ensureCapacityInternal 24 = .ok (.invokevirtual 104, 3) := dk_182 0 104 (dk_at dksJ2_ensureCapacityInternal_1 0 rfl rfl)
theorem dJ2_ensureCapacityInternal_27 : decode cJ2_ensureCapacityInternal 27 = .ok (.aload_n 0, 1) := dk_42 (dk_at dksJ2_ensureCapacityInternal_1 3 rfl rfl)
theorem dJ2_ensureCapacityInternal_28 : decode cJ2_ensureCapacityInternal 28 = .ok (.getfield 22, 3) := dk_180 0 22 (dk_at dksJ2_ensureCapacityInternal_1 4 rfl rfl)
theorem dJ2_ensureCapacityInternal_31 : decode cJ2_ensureCapacityInternal 31 = .ok (.ishl, 1) := dk_120 (dk_at dksJ2_ensureCapacityInternal_1 7 rfl rfl)
theorem dJ2_ensureCapacityInternal_32 : decode cJ2_ensureCapacityInternal 32 = .ok (.invokestatic 108, 3) := dk_184 0 108 (dk_at dksJ2_ensureCapacityInternal_1 8 rfl rfl)
theorem dJ2_ensureCapacityInternal_35 : decode cJ2_ensureCapacityInternal 35 = .ok (.putfield 15, 3) := dk_181 0 15 (dk_at dksJ2_ensureCapacityInternal_1 11 rfl rfl)
theorem dJ2_ensureCapacityInternal_38 : decode cJ2_ensureCapacityInternal 38 = .ok (.return_, 1) := dk_177 (dk_at dksJ2_ensureCapacityInternal_1 14 rfl rfl)
abbrev cJ2_newCapacity : ByteArray := prog_14_method_10_code
def yJ2_newCapacity : MethodName := ⟨RJ2, "newCapacity", "(I)I"⟩
def dkwJ2_newCapacity_2 : List UInt8 := [183, 0, 124, 191, 21, 5, 42, 180, 0, 22, 122, 172]
abbrev dktJ2_newCapacity_2 : List UInt8 := dkwJ2_newCapacity_2 ++ []
def dkwJ2_newCapacity_1 : List UInt8 := [180, 0, 22, 120, 96, 184, 0, 114, 54, 5, 21, 5, 18, 39, 160, 0, 13, 187, 0, 120, 89, 18, 122]
abbrev dktJ2_newCapacity_1 : List UInt8 := dkwJ2_newCapacity_1 ++ dktJ2_newCapacity_2
def dkwJ2_newCapacity_0 : List UInt8 := [42, 180, 0, 15, 190, 61, 27, 42, 180, 0, 22, 120, 62, 29, 28, 100, 54, 4, 28, 21, 4, 28, 5, 42]
abbrev dktJ2_newCapacity_0 : List UInt8 := dkwJ2_newCapacity_0 ++ dktJ2_newCapacity_1
theorem dksJ2_newCapacity_0 : cJ2_newCapacity.data.toList.drop 0 = dktJ2_newCapacity_0 := by decide +kernel
theorem dksJ2_newCapacity_1 : cJ2_newCapacity.data.toList.drop 24 = dktJ2_newCapacity_1 := dk_seg dksJ2_newCapacity_0 24 rfl rfl
theorem dksJ2_newCapacity_2 : cJ2_newCapacity.data.toList.drop 47 = dktJ2_newCapacity_2 := dk_seg dksJ2_newCapacity_1 23 rfl rfl
theorem dJ2_newCapacity_0 : decode cJ2_newCapacity 0 = .ok (.aload_n 0, 1) := dk_42 (dk_at dksJ2_newCapacity_0 0 rfl rfl)
theorem dJ2_newCapacity_1 : decode cJ2_newCapacity 1 = .ok (.getfield 15, 3) := dk_180 0 15 (dk_at dksJ2_newCapacity_0 1 rfl rfl)
theorem dJ2_newCapacity_4 : decode cJ2_newCapacity 4 = .ok (.arraylength, 1) := dk_190 (dk_at dksJ2_newCapacity_0 4 rfl rfl)
theorem dJ2_newCapacity_5 : decode cJ2_newCapacity 5 = .ok (.istore_n 2, 1) := dk_61 (dk_at dksJ2_newCapacity_0 5 rfl rfl)
theorem dJ2_newCapacity_6 : decode cJ2_newCapacity 6 = .ok (.iload_n 1, 1) := dk_27 (dk_at dksJ2_newCapacity_0 6 rfl rfl)
theorem dJ2_newCapacity_7 : decode cJ2_newCapacity 7 = .ok (.aload_n 0, 1) := dk_42 (dk_at dksJ2_newCapacity_0 7 rfl rfl)
theorem dJ2_newCapacity_8 : decode cJ2_newCapacity 8 = .ok (.getfield 22, 3) := dk_180 0 22 (dk_at dksJ2_newCapacity_0 8 rfl rfl)
theorem dJ2_newCapacity_11 : decode cJ2_newCapacity 11 = .ok (.ishl, 1) := dk_120 (dk_at dksJ2_newCapacity_0 11 rfl rfl)
theorem dJ2_newCapacity_12 : decode cJ2_newCapacity 12 = .ok (.istore_n 3, 1) := dk_62 (dk_at dksJ2_newCapacity_0 12 rfl rfl)
theorem dJ2_newCapacity_13 : decode cJ2_newCapacity 13 = .ok (.iload_n 3, 1) := dk_29 (dk_at dksJ2_newCapacity_0 13 rfl rfl)
theorem dJ2_newCapacity_14 : decode cJ2_newCapacity 14 = .ok (.iload_n 2, 1) := dk_28 (dk_at dksJ2_newCapacity_0 14 rfl rfl)
theorem dJ2_newCapacity_15 : decode cJ2_newCapacity 15 = .ok (.isub, 1) := dk_100 (dk_at dksJ2_newCapacity_0 15 rfl rfl)
theorem dJ2_newCapacity_16 : decode cJ2_newCapacity 16 = .ok (.istore 4, 2) := dk_54 4 (dk_at dksJ2_newCapacity_0 16 rfl rfl)
theorem dJ2_newCapacity_18 : decode cJ2_newCapacity 18 = .ok (.iload_n 2, 1) := dk_28 (dk_at dksJ2_newCapacity_0 18 rfl rfl)
theorem dJ2_newCapacity_19 : decode cJ2_newCapacity 19 = .ok (.iload 4, 2) := dk_21 4 (dk_at dksJ2_newCapacity_0 19 rfl rfl)
theorem dJ2_newCapacity_21 : decode cJ2_newCapacity 21 = .ok (.iload_n 2, 1) := dk_28 (dk_at dksJ2_newCapacity_0 21 rfl rfl)
theorem dJ2_newCapacity_22 : decode cJ2_newCapacity 22 = .ok (.iconst 2, 1) := dk_5 (dk_at dksJ2_newCapacity_0 22 rfl rfl)
theorem dJ2_newCapacity_23 : decode cJ2_newCapacity 23 = .ok (.aload_n 0, 1) := dk_42 (dk_at dksJ2_newCapacity_0 23 rfl rfl)
theorem dJ2_newCapacity_24 : decode cJ2_newCapacity 24 = .ok (.getfield 22, 3) := dk_180 0 22 (dk_at dksJ2_newCapacity_1 0 rfl rfl)
theorem dJ2_newCapacity_27 : decode cJ2_newCapacity 27 = .ok (.ishl, 1) := dk_120 (dk_at dksJ2_newCapacity_1 3 rfl rfl)
theorem dJ2_newCapacity_28 : decode cJ2_newCapacity 28 = .ok (.iadd, 1) := dk_96 (dk_at dksJ2_newCapacity_1 4 rfl rfl)
theorem dJ2_newCapacity_29 : decode cJ2_newCapacity 29 = .ok (.invokestatic 114, 3) := dk_184 0 114 (dk_at dksJ2_newCapacity_1 5 rfl rfl)
theorem dJ2_newCapacity_32 : decode cJ2_newCapacity 32 = .ok (.istore 5, 2) := dk_54 5 (dk_at dksJ2_newCapacity_1 8 rfl rfl)
theorem dJ2_newCapacity_34 : decode cJ2_newCapacity 34 = .ok (.iload 5, 2) := dk_21 5 (dk_at dksJ2_newCapacity_1 10 rfl rfl)
theorem dJ2_newCapacity_36 : decode cJ2_newCapacity 36 = .ok (.ldc 39, 2) := dk_18 39 (dk_at dksJ2_newCapacity_1 12 rfl rfl)
theorem dJ2_newCapacity_38 : decode cJ2_newCapacity 38 = .ok (.if_icmp .ne 13, 3) := dk_160 0 13 (dk_at dksJ2_newCapacity_1 14 rfl rfl)
theorem dJ2_newCapacity_41 : decode cJ2_newCapacity 41 = .ok (.new 120, 3) := dk_187 0 120 (dk_at dksJ2_newCapacity_1 17 rfl rfl)
theorem dJ2_newCapacity_44 : decode cJ2_newCapacity 44 = .ok (.dup, 1) := dk_89 (dk_at dksJ2_newCapacity_1 20 rfl rfl)
theorem dJ2_newCapacity_45 : decode cJ2_newCapacity 45 = .ok (.ldc 122, 2) := dk_18 122 (dk_at dksJ2_newCapacity_1 21 rfl rfl)
theorem dJ2_newCapacity_47 : decode cJ2_newCapacity 47 = .ok (.invokespecial 124, 3) := dk_183 0 124 (dk_at dksJ2_newCapacity_2 0 rfl rfl)
theorem dJ2_newCapacity_50 : decode cJ2_newCapacity 50 = .ok (.athrow, 1) := dk_191 (dk_at dksJ2_newCapacity_2 3 rfl rfl)
theorem dJ2_newCapacity_51 : decode cJ2_newCapacity 51 = .ok (.iload 5, 2) := dk_21 5 (dk_at dksJ2_newCapacity_2 4 rfl rfl)
theorem dJ2_newCapacity_53 : decode cJ2_newCapacity 53 = .ok (.aload_n 0, 1) := dk_42 (dk_at dksJ2_newCapacity_2 6 rfl rfl)
theorem dJ2_newCapacity_54 : decode cJ2_newCapacity 54 = .ok (.getfield 22, 3) := dk_180 0 22 (dk_at dksJ2_newCapacity_2 7 rfl rfl)
theorem dJ2_newCapacity_57 : decode cJ2_newCapacity 57 = .ok (.ishr, 1) := dk_122 (dk_at dksJ2_newCapacity_2 10 rfl rfl)
theorem dJ2_newCapacity_58 : decode cJ2_newCapacity 58 = .ok (.ireturn, 1) := dk_172 (dk_at dksJ2_newCapacity_2 11 rfl rfl)
abbrev cJ2_isLatin1 : ByteArray := prog_14_method_68_code
def yJ2_isLatin1 : MethodName := ⟨RJ2, "isLatin1", "()Z"⟩
def dkwJ2_isLatin1_0 : List UInt8 := [178, 0, 18, 153, 0, 14, 42, 180, 0, 22, 154, 0, 7, 4, 167, 0, 4, 3, 172]
abbrev dktJ2_isLatin1_0 : List UInt8 := dkwJ2_isLatin1_0 ++ []
theorem dksJ2_isLatin1_0 : cJ2_isLatin1.data.toList.drop 0 = dktJ2_isLatin1_0 := by decide +kernel
theorem dJ2_isLatin1_0 : decode cJ2_isLatin1 0 = .ok (.getstatic 18, 3) := dk_178 0 18 (dk_at dksJ2_isLatin1_0 0 rfl rfl)
theorem dJ2_isLatin1_3 : decode cJ2_isLatin1 3 = .ok (.ifCond .eq 14, 3) := dk_153 0 14 (dk_at dksJ2_isLatin1_0 3 rfl rfl)
theorem dJ2_isLatin1_6 : decode cJ2_isLatin1 6 = .ok (.aload_n 0, 1) := dk_42 (dk_at dksJ2_isLatin1_0 6 rfl rfl)
theorem dJ2_isLatin1_7 : decode cJ2_isLatin1 7 = .ok (.getfield 22, 3) := dk_180 0 22 (dk_at dksJ2_isLatin1_0 7 rfl rfl)
theorem dJ2_isLatin1_10 : decode cJ2_isLatin1 10 = .ok (.ifCond .ne 7, 3) := dk_154 0 7 (dk_at dksJ2_isLatin1_0 10 rfl rfl)
theorem dJ2_isLatin1_13 : decode cJ2_isLatin1 13 = .ok (.iconst 1, 1) := dk_4 (dk_at dksJ2_isLatin1_0 13 rfl rfl)
theorem dJ2_isLatin1_14 : decode cJ2_isLatin1 14 = .ok (.goto 4, 3) := dk_167 0 4 (dk_at dksJ2_isLatin1_0 14 rfl rfl)
theorem dJ2_isLatin1_17 : decode cJ2_isLatin1 17 = .ok (.iconst 0, 1) := dk_3 (dk_at dksJ2_isLatin1_0 17 rfl rfl)
theorem dJ2_isLatin1_18 : decode cJ2_isLatin1 18 = .ok (.ireturn, 1) := dk_172 (dk_at dksJ2_isLatin1_0 18 rfl rfl)
abbrev cJ2_putStringAt : ByteArray := prog_14_method_73_code
def yJ2_putStringAt : MethodName := ⟨RJ2, "putStringAt", "(ILjava/lang/String;)V"⟩
def dkwJ2_putStringAt_0 : List UInt8 := [42, 44, 182, 1, 141, 44, 42, 180, 0, 15, 27, 42, 180, 0, 22, 182, 1, 143, 177]
abbrev dktJ2_putStringAt_0 : List UInt8 := dkwJ2_putStringAt_0 ++ []
theorem dksJ2_putStringAt_0 : cJ2_putStringAt.data.toList.drop 0 = dktJ2_putStringAt_0 := by decide +kernel
theorem dJ2_putStringAt_0 : decode cJ2_putStringAt 0 = .ok (.aload_n 0, 1) := dk_42 (dk_at dksJ2_putStringAt_0 0 rfl rfl)
theorem dJ2_putStringAt_1 : decode cJ2_putStringAt 1 = .ok (.aload_n 2, 1) := dk_44 (dk_at dksJ2_putStringAt_0 1 rfl rfl)
theorem dJ2_putStringAt_2 : decode cJ2_putStringAt 2 = .ok (.invokevirtual 397, 3) := dk_182 1 141 (dk_at dksJ2_putStringAt_0 2 rfl rfl)
theorem dJ2_putStringAt_5 : decode cJ2_putStringAt 5 = .ok (.aload_n 2, 1) := dk_44 (dk_at dksJ2_putStringAt_0 5 rfl rfl)
theorem dJ2_putStringAt_6 : decode cJ2_putStringAt 6 = .ok (.aload_n 0, 1) := dk_42 (dk_at dksJ2_putStringAt_0 6 rfl rfl)
theorem dJ2_putStringAt_7 : decode cJ2_putStringAt 7 = .ok (.getfield 15, 3) := dk_180 0 15 (dk_at dksJ2_putStringAt_0 7 rfl rfl)
theorem dJ2_putStringAt_10 : decode cJ2_putStringAt 10 = .ok (.iload_n 1, 1) := dk_27 (dk_at dksJ2_putStringAt_0 10 rfl rfl)
theorem dJ2_putStringAt_11 : decode cJ2_putStringAt 11 = .ok (.aload_n 0, 1) := dk_42 (dk_at dksJ2_putStringAt_0 11 rfl rfl)
theorem dJ2_putStringAt_12 : decode cJ2_putStringAt 12 = .ok (.getfield 22, 3) := dk_180 0 22 (dk_at dksJ2_putStringAt_0 12 rfl rfl)
theorem dJ2_putStringAt_15 : decode cJ2_putStringAt 15 = .ok (.invokevirtual 399, 3) := dk_182 1 143 (dk_at dksJ2_putStringAt_0 15 rfl rfl)
theorem dJ2_putStringAt_18 : decode cJ2_putStringAt 18 = .ok (.return_, 1) := dk_177 (dk_at dksJ2_putStringAt_0 18 rfl rfl)
abbrev cJ2_inflateIfNeededFor : ByteArray := prog_14_method_71_code
def yJ2_inflateIfNeededFor : MethodName := ⟨RJ2, "inflateIfNeededFor", "(Ljava/lang/String;)V"⟩
def dkwJ2_inflateIfNeededFor_0 : List UInt8 := [178, 0, 18, 153, 0, 18, 42, 180, 0, 22, 43, 182, 0, 40, 159, 0, 7, 42, 182, 0, 195, 177]
abbrev dktJ2_inflateIfNeededFor_0 : List UInt8 := dkwJ2_inflateIfNeededFor_0 ++ []
theorem dksJ2_inflateIfNeededFor_0 : cJ2_inflateIfNeededFor.data.toList.drop 0 = dktJ2_inflateIfNeededFor_0 := by decide +kernel
theorem dJ2_inflateIfNeededFor_0 : decode cJ2_inflateIfNeededFor 0 = .ok (.getstatic 18, 3) := dk_178 0 18 (dk_at dksJ2_inflateIfNeededFor_0 0 rfl rfl)
theorem dJ2_inflateIfNeededFor_3 : decode cJ2_inflateIfNeededFor 3 = .ok (.ifCond .eq 18, 3) := dk_153 0 18 (dk_at dksJ2_inflateIfNeededFor_0 3 rfl rfl)
theorem dJ2_inflateIfNeededFor_6 : decode cJ2_inflateIfNeededFor 6 = .ok (.aload_n 0, 1) := dk_42 (dk_at dksJ2_inflateIfNeededFor_0 6 rfl rfl)
theorem dJ2_inflateIfNeededFor_7 : decode cJ2_inflateIfNeededFor 7 = .ok (.getfield 22, 3) := dk_180 0 22 (dk_at dksJ2_inflateIfNeededFor_0 7 rfl rfl)
theorem dJ2_inflateIfNeededFor_10 : decode cJ2_inflateIfNeededFor 10 = .ok (.aload_n 1, 1) := dk_43 (dk_at dksJ2_inflateIfNeededFor_0 10 rfl rfl)
theorem dJ2_inflateIfNeededFor_11 : decode cJ2_inflateIfNeededFor 11 = .ok (.invokevirtual 40, 3) := dk_182 0 40 (dk_at dksJ2_inflateIfNeededFor_0 11 rfl rfl)
theorem dJ2_inflateIfNeededFor_14 : decode cJ2_inflateIfNeededFor 14 = .ok (.if_icmp .eq 7, 3) := dk_159 0 7 (dk_at dksJ2_inflateIfNeededFor_0 14 rfl rfl)
theorem dJ2_inflateIfNeededFor_17 : decode cJ2_inflateIfNeededFor 17 = .ok (.aload_n 0, 1) := dk_42 (dk_at dksJ2_inflateIfNeededFor_0 17 rfl rfl)
theorem dJ2_inflateIfNeededFor_18 : decode cJ2_inflateIfNeededFor 18 = .ok (.invokevirtual 195, 3) := dk_182 0 195 (dk_at dksJ2_inflateIfNeededFor_0 18 rfl rfl)
theorem dJ2_inflateIfNeededFor_21 : decode cJ2_inflateIfNeededFor 21 = .ok (.return_, 1) := dk_177 (dk_at dksJ2_inflateIfNeededFor_0 21 rfl rfl)
abbrev cJ2_inflate : ByteArray := prog_14_method_11_code
def yJ2_inflate : MethodName := ⟨RJ2, "inflate", "()V"⟩
def dkwJ2_inflate_1 : List UInt8 := [42, 180, 0, 79, 184, 0, 125, 42, 43, 181, 0, 15, 42, 4, 181, 0, 22, 177]
abbrev dktJ2_inflate_1 : List UInt8 := dkwJ2_inflate_1 ++ []
def dkwJ2_inflate_0 : List UInt8 := [42, 182, 0, 83, 154, 0, 4, 177, 42, 180, 0, 15, 190, 184, 0, 26, 76, 42, 180, 0, 15, 3, 43, 3]
abbrev dktJ2_inflate_0 : List UInt8 := dkwJ2_inflate_0 ++ dktJ2_inflate_1
theorem dksJ2_inflate_0 : cJ2_inflate.data.toList.drop 0 = dktJ2_inflate_0 := by decide +kernel
theorem dksJ2_inflate_1 : cJ2_inflate.data.toList.drop 24 = dktJ2_inflate_1 := dk_seg dksJ2_inflate_0 24 rfl rfl
theorem dJ2_inflate_0 : decode cJ2_inflate 0 = .ok (.aload_n 0, 1) := dk_42 (dk_at dksJ2_inflate_0 0 rfl rfl)
theorem dJ2_inflate_1 : decode cJ2_inflate 1 = .ok (.invokevirtual 83, 3) := dk_182 0 83 (dk_at dksJ2_inflate_0 1 rfl rfl)
theorem dJ2_inflate_4 : decode cJ2_inflate 4 = .ok (.ifCond .ne 4, 3) := dk_154 0 4 (dk_at dksJ2_inflate_0 4 rfl rfl)
theorem dJ2_inflate_7 : decode cJ2_inflate 7 = .ok (.return_, 1) := dk_177 (dk_at dksJ2_inflate_0 7 rfl rfl)
theorem dJ2_inflate_8 : decode cJ2_inflate 8 = .ok (.aload_n 0, 1) := dk_42 (dk_at dksJ2_inflate_0 8 rfl rfl)
theorem dJ2_inflate_9 : decode cJ2_inflate 9 = .ok (.getfield 15, 3) := dk_180 0 15 (dk_at dksJ2_inflate_0 9 rfl rfl)
theorem dJ2_inflate_12 : decode cJ2_inflate 12 = .ok (.arraylength, 1) := dk_190 (dk_at dksJ2_inflate_0 12 rfl rfl)
theorem dJ2_inflate_13 : decode cJ2_inflate 13 = .ok (.invokestatic 26, 3) := dk_184 0 26 (dk_at dksJ2_inflate_0 13 rfl rfl)
theorem dJ2_inflate_16 : decode cJ2_inflate 16 = .ok (.astore_n 1, 1) := dk_76 (dk_at dksJ2_inflate_0 16 rfl rfl)
theorem dJ2_inflate_17 : decode cJ2_inflate 17 = .ok (.aload_n 0, 1) := dk_42 (dk_at dksJ2_inflate_0 17 rfl rfl)
theorem dJ2_inflate_18 : decode cJ2_inflate 18 = .ok (.getfield 15, 3) := dk_180 0 15 (dk_at dksJ2_inflate_0 18 rfl rfl)
theorem dJ2_inflate_21 : decode cJ2_inflate 21 = .ok (.iconst 0, 1) := dk_3 (dk_at dksJ2_inflate_0 21 rfl rfl)
theorem dJ2_inflate_22 : decode cJ2_inflate 22 = .ok (.aload_n 1, 1) := dk_43 (dk_at dksJ2_inflate_0 22 rfl rfl)
theorem dJ2_inflate_23 : decode cJ2_inflate 23 = .ok (.iconst 0, 1) := dk_3 (dk_at dksJ2_inflate_0 23 rfl rfl)
theorem dJ2_inflate_24 : decode cJ2_inflate 24 = .ok (.aload_n 0, 1) := dk_42 (dk_at dksJ2_inflate_1 0 rfl rfl)
theorem dJ2_inflate_25 : decode cJ2_inflate 25 = .ok (.getfield 79, 3) := dk_180 0 79 (dk_at dksJ2_inflate_1 1 rfl rfl)
theorem dJ2_inflate_28 : decode cJ2_inflate 28 = .ok (.invokestatic 125, 3) := dk_184 0 125 (dk_at dksJ2_inflate_1 4 rfl rfl)
theorem dJ2_inflate_31 : decode cJ2_inflate 31 = .ok (.aload_n 0, 1) := dk_42 (dk_at dksJ2_inflate_1 7 rfl rfl)
theorem dJ2_inflate_32 : decode cJ2_inflate 32 = .ok (.aload_n 1, 1) := dk_43 (dk_at dksJ2_inflate_1 8 rfl rfl)
theorem dJ2_inflate_33 : decode cJ2_inflate 33 = .ok (.putfield 15, 3) := dk_181 0 15 (dk_at dksJ2_inflate_1 9 rfl rfl)
theorem dJ2_inflate_36 : decode cJ2_inflate 36 = .ok (.aload_n 0, 1) := dk_42 (dk_at dksJ2_inflate_1 12 rfl rfl)
theorem dJ2_inflate_37 : decode cJ2_inflate 37 = .ok (.iconst 1, 1) := dk_4 (dk_at dksJ2_inflate_1 13 rfl rfl)
theorem dJ2_inflate_38 : decode cJ2_inflate 38 = .ok (.putfield 22, 3) := dk_181 0 22 (dk_at dksJ2_inflate_1 14 rfl rfl)
theorem dJ2_inflate_41 : decode cJ2_inflate 41 = .ok (.return_, 1) := dk_177 (dk_at dksJ2_inflate_1 17 rfl rfl)
abbrev cJ2_append_2 : ByteArray := prog_14_method_32_code
def yJ2_append_2 : MethodName := ⟨RJ2, "append", "(I)Ljava/lang/AbstractStringBuilder;"⟩
def dkwJ2_append_2_2 : List UInt8 := [42, 29, 181, 0, 79, 42, 176]
abbrev dktJ2_append_2_2 : List UInt8 := dkwJ2_append_2_2 ++ []
def dkwJ2_append_2_1 : List UInt8 := [27, 29, 42, 180, 0, 15, 184, 0, 248, 87, 167, 0, 14, 27, 28, 29, 42, 180, 0, 15, 184, 0, 251, 87]
abbrev dktJ2_append_2_1 : List UInt8 := dkwJ2_append_2_1 ++ dktJ2_append_2_2
def dkwJ2_append_2_0 : List UInt8 := [42, 180, 0, 79, 61, 28, 27, 184, 0, 245, 96, 62, 42, 29, 182, 0, 100, 42, 182, 0, 83, 153, 0, 16]
abbrev dktJ2_append_2_0 : List UInt8 := dkwJ2_append_2_0 ++ dktJ2_append_2_1
theorem dksJ2_append_2_0 : cJ2_append_2.data.toList.drop 0 = dktJ2_append_2_0 := by decide +kernel
theorem dksJ2_append_2_1 : cJ2_append_2.data.toList.drop 24 = dktJ2_append_2_1 := dk_seg dksJ2_append_2_0 24 rfl rfl
theorem dksJ2_append_2_2 : cJ2_append_2.data.toList.drop 48 = dktJ2_append_2_2 := dk_seg dksJ2_append_2_1 24 rfl rfl
theorem dJ2_append_2_0 : decode cJ2_append_2 0 = .ok (.aload_n 0, 1) := dk_42 (dk_at dksJ2_append_2_0 0 rfl rfl)
theorem dJ2_append_2_1 : decode cJ2_append_2 1 = .ok (.getfield 79, 3) := dk_180 0 79 (dk_at dksJ2_append_2_0 1 rfl rfl)
theorem dJ2_append_2_4 : decode cJ2_append_2 4 = .ok (.istore_n 2, 1) := dk_61 (dk_at dksJ2_append_2_0 4 rfl rfl)
theorem dJ2_append_2_5 : decode cJ2_append_2 5 = .ok (.iload_n 2, 1) := dk_28 (dk_at dksJ2_append_2_0 5 rfl rfl)
theorem dJ2_append_2_6 : decode cJ2_append_2 6 = .ok (.iload_n 1, 1) := dk_27 (dk_at dksJ2_append_2_0 6 rfl rfl)
theorem dJ2_append_2_7 : decode cJ2_append_2 7 = .ok (.invokestatic 245, 3) := dk_184 0 245 (dk_at dksJ2_append_2_0 7 rfl rfl)
theorem dJ2_append_2_10 : decode cJ2_append_2 10 = .ok (.iadd, 1) := dk_96 (dk_at dksJ2_append_2_0 10 rfl rfl)
theorem dJ2_append_2_11 : decode cJ2_append_2 11 = .ok (.istore_n 3, 1) := dk_62 (dk_at dksJ2_append_2_0 11 rfl rfl)
theorem dJ2_append_2_12 : decode cJ2_append_2 12 = .ok (.aload_n 0, 1) := dk_42 (dk_at dksJ2_append_2_0 12 rfl rfl)
theorem dJ2_append_2_13 : decode cJ2_append_2 13 = .ok (.iload_n 3, 1) := dk_29 (dk_at dksJ2_append_2_0 13 rfl rfl)
theorem dJ2_append_2_14 : decode cJ2_append_2 14 = .ok (.invokevirtual 100, 3) := dk_182 0 100 (dk_at dksJ2_append_2_0 14 rfl rfl)
theorem dJ2_append_2_17 : decode cJ2_append_2 17 = .ok (.aload_n 0, 1) := dk_42 (dk_at dksJ2_append_2_0 17 rfl rfl)
theorem dJ2_append_2_18 : decode cJ2_append_2 18 = .ok (.invokevirtual 83, 3) := dk_182 0 83 (dk_at dksJ2_append_2_0 18 rfl rfl)
theorem dJ2_append_2_21 : decode cJ2_append_2 21 = .ok (.ifCond .eq 16, 3) := dk_153 0 16 (dk_at dksJ2_append_2_0 21 rfl rfl)
theorem dJ2_append_2_24 : decode cJ2_append_2 24 = .ok (.iload_n 1, 1) := dk_27 (dk_at dksJ2_append_2_1 0 rfl rfl)
theorem dJ2_append_2_25 : decode cJ2_append_2 25 = .ok (.iload_n 3, 1) := dk_29 (dk_at dksJ2_append_2_1 1 rfl rfl)
theorem dJ2_append_2_26 : decode cJ2_append_2 26 = .ok (.aload_n 0, 1) := dk_42 (dk_at dksJ2_append_2_1 2 rfl rfl)
theorem dJ2_append_2_27 : decode cJ2_append_2 27 = .ok (.getfield 15, 3) := dk_180 0 15 (dk_at dksJ2_append_2_1 3 rfl rfl)
theorem dJ2_append_2_30 : decode cJ2_append_2 30 = .ok (.invokestatic 248, 3) := dk_184 0 248 (dk_at dksJ2_append_2_1 6 rfl rfl)
theorem dJ2_append_2_33 : decode cJ2_append_2 33 = .ok (.pop, 1) := dk_87 (dk_at dksJ2_append_2_1 9 rfl rfl)
theorem dJ2_append_2_34 : decode cJ2_append_2 34 = .ok (.goto 14, 3) := dk_167 0 14 (dk_at dksJ2_append_2_1 10 rfl rfl)
theorem dJ2_append_2_37 : decode cJ2_append_2 37 = .ok (.iload_n 1, 1) := dk_27 (dk_at dksJ2_append_2_1 13 rfl rfl)
theorem dJ2_append_2_38 : decode cJ2_append_2 38 = .ok (.iload_n 2, 1) := dk_28 (dk_at dksJ2_append_2_1 14 rfl rfl)
theorem dJ2_append_2_39 : decode cJ2_append_2 39 = .ok (.iload_n 3, 1) := dk_29 (dk_at dksJ2_append_2_1 15 rfl rfl)
theorem dJ2_append_2_40 : decode cJ2_append_2 40 = .ok (.aload_n 0, 1) := dk_42 (dk_at dksJ2_append_2_1 16 rfl rfl)
theorem dJ2_append_2_41 : decode cJ2_append_2 41 = .ok (.getfield 15, 3) := dk_180 0 15 (dk_at dksJ2_append_2_1 17 rfl rfl)
theorem dJ2_append_2_44 : decode cJ2_append_2 44 = .ok (.invokestatic 251, 3) := dk_184 0 251 (dk_at dksJ2_append_2_1 20 rfl rfl)
theorem dJ2_append_2_47 : decode cJ2_append_2 47 = .ok (.pop, 1) := dk_87 (dk_at dksJ2_append_2_1 23 rfl rfl)
theorem dJ2_append_2_48 : decode cJ2_append_2 48 = .ok (.aload_n 0, 1) := dk_42 (dk_at dksJ2_append_2_2 0 rfl rfl)
theorem dJ2_append_2_49 : decode cJ2_append_2 49 = .ok (.iload_n 3, 1) := dk_29 (dk_at dksJ2_append_2_2 1 rfl rfl)
theorem dJ2_append_2_50 : decode cJ2_append_2 50 = .ok (.putfield 79, 3) := dk_181 0 79 (dk_at dksJ2_append_2_2 2 rfl rfl)
theorem dJ2_append_2_53 : decode cJ2_append_2 53 = .ok (.aload_n 0, 1) := dk_42 (dk_at dksJ2_append_2_2 5 rfl rfl)
theorem dJ2_append_2_54 : decode cJ2_append_2 54 = .ok (.areturn, 1) := dk_176 (dk_at dksJ2_append_2_2 6 rfl rfl)
abbrev cJ2_getValue : ByteArray := prog_14_method_64_code
def yJ2_getValue : MethodName := ⟨RJ2, "getValue", "()[B"⟩
theorem dJ2_getValue_0 : decode cJ2_getValue 0 = .ok (.aload_n 0, 1) := by decide +kernel
theorem dJ2_getValue_1 : decode cJ2_getValue 1 = .ok (.getfield 15, 3) := by decide +kernel
theorem dJ2_getValue_4 : decode cJ2_getValue 4 = .ok (.areturn, 1) := by decide +kernel
abbrev cJ2_length : ByteArray := prog_14_method_6_code
def yJ2_length : MethodName := ⟨RJ2, "length", "()I"⟩
theorem dJ2_length_0 : decode cJ2_length 0 = .ok (.aload_n 0, 1) := by decide +kernel
theorem dJ2_length_1 : decode cJ2_length 1 = .ok (.getfield 79, 3) := by decide +kernel
theorem dJ2_length_4 : decode cJ2_length 4 = .ok (.ireturn, 1) := by decide +kernel
abbrev cJ2_append_3 : ByteArray := prog_14_method_31_code
def yJ2_append_3 : MethodName := ⟨RJ2, "append", "(C)Ljava/lang/AbstractStringBuilder;"⟩
def dkwJ2_append_3_3 : List UInt8 := [181, 0, 79, 27, 184, 0, 197, 42, 176]
abbrev dktJ2_append_3_3 : List UInt8 := dkwJ2_append_3_3 ++ []
def dkwJ2_append_3_2 : List UInt8 := [182, 0, 83, 153, 0, 7, 42, 182, 0, 195, 42, 180, 0, 15, 42, 89, 180, 0, 79, 90, 4, 96]
abbrev dktJ2_append_3_2 : List UInt8 := dkwJ2_append_3_2 ++ dktJ2_append_3_3
def dkwJ2_append_3_1 : List UInt8 := [42, 180, 0, 15, 42, 89, 180, 0, 79, 90, 4, 96, 181, 0, 79, 27, 145, 84, 167, 0, 33, 42]
abbrev dktJ2_append_3_1 : List UInt8 := dkwJ2_append_3_1 ++ dktJ2_append_3_2
def dkwJ2_append_3_0 : List UInt8 := [42, 42, 180, 0, 79, 4, 96, 182, 0, 100, 42, 182, 0, 83, 153, 0, 31, 27, 184, 0, 191, 153, 0, 24]
abbrev dktJ2_append_3_0 : List UInt8 := dkwJ2_append_3_0 ++ dktJ2_append_3_1
theorem dksJ2_append_3_0 : cJ2_append_3.data.toList.drop 0 = dktJ2_append_3_0 := by decide +kernel
theorem dksJ2_append_3_1 : cJ2_append_3.data.toList.drop 24 = dktJ2_append_3_1 := dk_seg dksJ2_append_3_0 24 rfl rfl
theorem dksJ2_append_3_2 : cJ2_append_3.data.toList.drop 46 = dktJ2_append_3_2 := dk_seg dksJ2_append_3_1 22 rfl rfl
theorem dksJ2_append_3_3 : cJ2_append_3.data.toList.drop 68 = dktJ2_append_3_3 := dk_seg dksJ2_append_3_2 22 rfl rfl
theorem dJ2_append_3_0 : decode cJ2_append_3 0 = .ok (.aload_n 0, 1) := dk_42 (dk_at dksJ2_append_3_0 0 rfl rfl)
theorem dJ2_append_3_1 : decode cJ2_append_3 1 = .ok (.aload_n 0, 1) := dk_42 (dk_at dksJ2_append_3_0 1 rfl rfl)
theorem dJ2_append_3_2 : decode cJ2_append_3 2 = .ok (.getfield 79, 3) := dk_180 0 79 (dk_at dksJ2_append_3_0 2 rfl rfl)
theorem dJ2_append_3_5 : decode cJ2_append_3 5 = .ok (.iconst 1, 1) := dk_4 (dk_at dksJ2_append_3_0 5 rfl rfl)
theorem dJ2_append_3_6 : decode cJ2_append_3 6 = .ok (.iadd, 1) := dk_96 (dk_at dksJ2_append_3_0 6 rfl rfl)
theorem dJ2_append_3_7 : decode cJ2_append_3 7 = .ok (.invokevirtual 100, 3) := dk_182 0 100 (dk_at dksJ2_append_3_0 7 rfl rfl)
theorem dJ2_append_3_10 : decode cJ2_append_3 10 = .ok (.aload_n 0, 1) := dk_42 (dk_at dksJ2_append_3_0 10 rfl rfl)
theorem dJ2_append_3_11 : decode cJ2_append_3 11 = .ok (.invokevirtual 83, 3) := dk_182 0 83 (dk_at dksJ2_append_3_0 11 rfl rfl)
theorem dJ2_append_3_14 : decode cJ2_append_3 14 = .ok (.ifCond .eq 31, 3) := dk_153 0 31 (dk_at dksJ2_append_3_0 14 rfl rfl)
theorem dJ2_append_3_17 : decode cJ2_append_3 17 = .ok (.iload_n 1, 1) := dk_27 (dk_at dksJ2_append_3_0 17 rfl rfl)
theorem dJ2_append_3_18 : decode cJ2_append_3 18 = .ok (.invokestatic 191, 3) := dk_184 0 191 (dk_at dksJ2_append_3_0 18 rfl rfl)
theorem dJ2_append_3_21 : decode cJ2_append_3 21 = .ok (.ifCond .eq 24, 3) := dk_153 0 24 (dk_at dksJ2_append_3_0 21 rfl rfl)
theorem dJ2_append_3_24 : decode cJ2_append_3 24 = .ok (.aload_n 0, 1) := dk_42 (dk_at dksJ2_append_3_1 0 rfl rfl)
theorem dJ2_append_3_25 : decode cJ2_append_3 25 = .ok (.getfield 15, 3) := dk_180 0 15 (dk_at dksJ2_append_3_1 1 rfl rfl)
theorem dJ2_append_3_28 : decode cJ2_append_3 28 = .ok (.aload_n 0, 1) := dk_42 (dk_at dksJ2_append_3_1 4 rfl rfl)
theorem dJ2_append_3_29 : decode cJ2_append_3 29 = .ok (.dup, 1) := dk_89 (dk_at dksJ2_append_3_1 5 rfl rfl)
theorem dJ2_append_3_30 : decode cJ2_append_3 30 = .ok (.getfield 79, 3) := dk_180 0 79 (dk_at dksJ2_append_3_1 6 rfl rfl)
theorem dJ2_append_3_33 : decode cJ2_append_3 33 = .ok (.dup_x1, 1) := dk_90 (dk_at dksJ2_append_3_1 9 rfl rfl)
theorem dJ2_append_3_34 : decode cJ2_append_3 34 = .ok (.iconst 1, 1) := dk_4 (dk_at dksJ2_append_3_1 10 rfl rfl)
theorem dJ2_append_3_35 : decode cJ2_append_3 35 = .ok (.iadd, 1) := dk_96 (dk_at dksJ2_append_3_1 11 rfl rfl)
theorem dJ2_append_3_36 : decode cJ2_append_3 36 = .ok (.putfield 79, 3) := dk_181 0 79 (dk_at dksJ2_append_3_1 12 rfl rfl)
theorem dJ2_append_3_39 : decode cJ2_append_3 39 = .ok (.iload_n 1, 1) := dk_27 (dk_at dksJ2_append_3_1 15 rfl rfl)
theorem dJ2_append_3_40 : decode cJ2_append_3 40 = .ok (.i2b, 1) := dk_145 (dk_at dksJ2_append_3_1 16 rfl rfl)
theorem dJ2_append_3_41 : decode cJ2_append_3 41 = .ok (.bastore, 1) := dk_84 (dk_at dksJ2_append_3_1 17 rfl rfl)
theorem dJ2_append_3_42 : decode cJ2_append_3 42 = .ok (.goto 33, 3) := dk_167 0 33 (dk_at dksJ2_append_3_1 18 rfl rfl)
theorem dJ2_append_3_45 : decode cJ2_append_3 45 = .ok (.aload_n 0, 1) := dk_42 (dk_at dksJ2_append_3_1 21 rfl rfl)
theorem dJ2_append_3_46 : decode cJ2_append_3 46 = .ok (.invokevirtual 83, 3) := dk_182 0 83 (dk_at dksJ2_append_3_2 0 rfl rfl)
theorem dJ2_append_3_49 : decode cJ2_append_3 49 = .ok (.ifCond .eq 7, 3) := dk_153 0 7 (dk_at dksJ2_append_3_2 3 rfl rfl)
theorem dJ2_append_3_52 : decode cJ2_append_3 52 = .ok (.aload_n 0, 1) := dk_42 (dk_at dksJ2_append_3_2 6 rfl rfl)
theorem dJ2_append_3_53 : decode cJ2_append_3 53 = .ok (.invokevirtual 195, 3) := dk_182 0 195 (dk_at dksJ2_append_3_2 7 rfl rfl)
theorem dJ2_append_3_56 : decode cJ2_append_3 56 = .ok (.aload_n 0, 1) := dk_42 (dk_at dksJ2_append_3_2 10 rfl rfl)
theorem dJ2_append_3_57 : decode cJ2_append_3 57 = .ok (.getfield 15, 3) := dk_180 0 15 (dk_at dksJ2_append_3_2 11 rfl rfl)
theorem dJ2_append_3_60 : decode cJ2_append_3 60 = .ok (.aload_n 0, 1) := dk_42 (dk_at dksJ2_append_3_2 14 rfl rfl)
theorem dJ2_append_3_61 : decode cJ2_append_3 61 = .ok (.dup, 1) := dk_89 (dk_at dksJ2_append_3_2 15 rfl rfl)
theorem dJ2_append_3_62 : decode cJ2_append_3 62 = .ok (.getfield 79, 3) := dk_180 0 79 (dk_at dksJ2_append_3_2 16 rfl rfl)
theorem dJ2_append_3_65 : decode cJ2_append_3 65 = .ok (.dup_x1, 1) := dk_90 (dk_at dksJ2_append_3_2 19 rfl rfl)
theorem dJ2_append_3_66 : decode cJ2_append_3 66 = .ok (.iconst 1, 1) := dk_4 (dk_at dksJ2_append_3_2 20 rfl rfl)
theorem dJ2_append_3_67 : decode cJ2_append_3 67 = .ok (.iadd, 1) := dk_96 (dk_at dksJ2_append_3_2 21 rfl rfl)
theorem dJ2_append_3_68 : decode cJ2_append_3 68 = .ok (.putfield 79, 3) := dk_181 0 79 (dk_at dksJ2_append_3_3 0 rfl rfl)
theorem dJ2_append_3_71 : decode cJ2_append_3 71 = .ok (.iload_n 1, 1) := dk_27 (dk_at dksJ2_append_3_3 3 rfl rfl)
theorem dJ2_append_3_72 : decode cJ2_append_3 72 = .ok (.invokestatic 197, 3) := dk_184 0 197 (dk_at dksJ2_append_3_3 4 rfl rfl)
theorem dJ2_append_3_75 : decode cJ2_append_3 75 = .ok (.aload_n 0, 1) := dk_42 (dk_at dksJ2_append_3_3 7 rfl rfl)
theorem dJ2_append_3_76 : decode cJ2_append_3 76 = .ok (.areturn, 1) := dk_176 (dk_at dksJ2_append_3_3 8 rfl rfl)
abbrev cJ2_charAt : ByteArray := prog_14_method_14_code
def yJ2_charAt : MethodName := ⟨RJ2, "charAt", "(I)C"⟩
def dkwJ2_charAt_1 : List UInt8 := [21, 4, 184, 0, 144, 28, 154, 0, 12, 45, 27, 51, 17, 0, 255, 126, 146, 172, 45, 27, 184, 0, 148, 172]
abbrev dktJ2_charAt_1 : List UInt8 := dkwJ2_charAt_1 ++ []
def dkwJ2_charAt_0 : List UInt8 := [42, 180, 0, 22, 61, 42, 180, 0, 15, 78, 42, 180, 0, 79, 45, 190, 28, 122, 184, 0, 138, 54, 4, 27]
abbrev dktJ2_charAt_0 : List UInt8 := dkwJ2_charAt_0 ++ dktJ2_charAt_1
theorem dksJ2_charAt_0 : cJ2_charAt.data.toList.drop 0 = dktJ2_charAt_0 := by decide +kernel
theorem dksJ2_charAt_1 : cJ2_charAt.data.toList.drop 24 = dktJ2_charAt_1 := dk_seg dksJ2_charAt_0 24 rfl rfl
theorem dJ2_charAt_0 : decode cJ2_charAt 0 = .ok (.aload_n 0, 1) := dk_42 (dk_at dksJ2_charAt_0 0 rfl rfl)
theorem dJ2_charAt_1 : decode cJ2_charAt 1 = .ok (.getfield 22, 3) := dk_180 0 22 (dk_at dksJ2_charAt_0 1 rfl rfl)
theorem dJ2_charAt_4 : decode cJ2_charAt 4 = .ok (.istore_n 2, 1) := dk_61 (dk_at dksJ2_charAt_0 4 rfl rfl)
theorem dJ2_charAt_5 : decode cJ2_charAt 5 = .ok (.aload_n 0, 1) := dk_42 (dk_at dksJ2_charAt_0 5 rfl rfl)
theorem dJ2_charAt_6 : decode cJ2_charAt 6 = .ok (.getfield 15, 3) := dk_180 0 15 (dk_at dksJ2_charAt_0 6 rfl rfl)
theorem dJ2_charAt_9 : decode cJ2_charAt 9 = .ok (.astore_n 3, 1) := dk_78 (dk_at dksJ2_charAt_0 9 rfl rfl)
theorem dJ2_charAt_10 : decode cJ2_charAt 10 = .ok (.aload_n 0, 1) := dk_42 (dk_at dksJ2_charAt_0 10 rfl rfl)
theorem dJ2_charAt_11 : decode cJ2_charAt 11 = .ok (.getfield 79, 3) := dk_180 0 79 (dk_at dksJ2_charAt_0 11 rfl rfl)
theorem dJ2_charAt_14 : decode cJ2_charAt 14 = .ok (.aload_n 3, 1) := dk_45 (dk_at dksJ2_charAt_0 14 rfl rfl)
theorem dJ2_charAt_15 : decode cJ2_charAt 15 = .ok (.arraylength, 1) := dk_190 (dk_at dksJ2_charAt_0 15 rfl rfl)
theorem dJ2_charAt_16 : decode cJ2_charAt 16 = .ok (.iload_n 2, 1) := dk_28 (dk_at dksJ2_charAt_0 16 rfl rfl)
theorem dJ2_charAt_17 : decode cJ2_charAt 17 = .ok (.ishr, 1) := dk_122 (dk_at dksJ2_charAt_0 17 rfl rfl)
theorem dJ2_charAt_18 : decode cJ2_charAt 18 = .ok (.invokestatic 138, 3) := dk_184 0 138 (dk_at dksJ2_charAt_0 18 rfl rfl)
theorem dJ2_charAt_21 : decode cJ2_charAt 21 = .ok (.istore 4, 2) := dk_54 4 (dk_at dksJ2_charAt_0 21 rfl rfl)
theorem dJ2_charAt_23 : decode cJ2_charAt 23 = .ok (.iload_n 1, 1) := dk_27 (dk_at dksJ2_charAt_0 23 rfl rfl)
theorem dJ2_charAt_24 : decode cJ2_charAt 24 = .ok (.iload 4, 2) := dk_21 4 (dk_at dksJ2_charAt_1 0 rfl rfl)
theorem dJ2_charAt_26 : decode cJ2_charAt 26 = .ok (.invokestatic 144, 3) := dk_184 0 144 (dk_at dksJ2_charAt_1 2 rfl rfl)
theorem dJ2_charAt_29 : decode cJ2_charAt 29 = .ok (.iload_n 2, 1) := dk_28 (dk_at dksJ2_charAt_1 5 rfl rfl)
theorem dJ2_charAt_30 : decode cJ2_charAt 30 = .ok (.ifCond .ne 12, 3) := dk_154 0 12 (dk_at dksJ2_charAt_1 6 rfl rfl)
theorem dJ2_charAt_33 : decode cJ2_charAt 33 = .ok (.aload_n 3, 1) := dk_45 (dk_at dksJ2_charAt_1 9 rfl rfl)
theorem dJ2_charAt_34 : decode cJ2_charAt 34 = .ok (.iload_n 1, 1) := dk_27 (dk_at dksJ2_charAt_1 10 rfl rfl)
theorem dJ2_charAt_35 : decode cJ2_charAt 35 = .ok (.baload, 1) := dk_51 (dk_at dksJ2_charAt_1 11 rfl rfl)
theorem dJ2_charAt_36 : decode cJ2_charAt 36 = .ok (.sipush 255, 3) := dk_17 0 255 (dk_at dksJ2_charAt_1 12 rfl rfl)
theorem dJ2_charAt_39 : decode cJ2_charAt 39 = .ok (.iand, 1) := dk_126 (dk_at dksJ2_charAt_1 15 rfl rfl)
theorem dJ2_charAt_40 : decode cJ2_charAt 40 = .ok (.i2c, 1) := dk_146 (dk_at dksJ2_charAt_1 16 rfl rfl)
theorem dJ2_charAt_41 : decode cJ2_charAt 41 = .ok (.ireturn, 1) := dk_172 (dk_at dksJ2_charAt_1 17 rfl rfl)
theorem dJ2_charAt_42 : decode cJ2_charAt 42 = .ok (.aload_n 3, 1) := dk_45 (dk_at dksJ2_charAt_1 18 rfl rfl)
theorem dJ2_charAt_43 : decode cJ2_charAt 43 = .ok (.iload_n 1, 1) := dk_27 (dk_at dksJ2_charAt_1 19 rfl rfl)
theorem dJ2_charAt_44 : decode cJ2_charAt 44 = .ok (.invokestatic 148, 3) := dk_184 0 148 (dk_at dksJ2_charAt_1 20 rfl rfl)
theorem dJ2_charAt_47 : decode cJ2_charAt 47 = .ok (.ireturn, 1) := dk_172 (dk_at dksJ2_charAt_1 23 rfl rfl)
def fJ2 : List ZE := [(15, 8, 0, .array .byte, 0), (22, 8, 1, .byte, 0), (73, 8, 2, .boolean, 0), (79, 8, 3, .int, 0)]
theorem fokJ2 : zFok RJ2 fJ2 := List.forall_mem_cons.mpr ⟨⟨by decide, by decide, by decide +kernel, Or.inr q283, by decide, by decide +kernel⟩, List.forall_mem_cons.mpr ⟨⟨by decide, by decide, by decide +kernel, Or.inr q284, by decide, by decide +kernel⟩, List.forall_mem_cons.mpr ⟨⟨by decide, by decide, by decide +kernel, Or.inr q285, by decide, by decide +kernel⟩, List.forall_mem_cons.mpr ⟨⟨by decide, by decide, by decide +kernel, Or.inr q287, by decide, by decide +kernel⟩, fun _ h => by cases h⟩⟩⟩⟩
abbrev kJ2_init : ZK := (RJ2, cJ2_init, 2, (Option.none : Option Jvm.ClassFile.FieldType), [], true, fJ2)
abbrev tJ2_init (g : ZG) (args : List Value) (M : ZM) (d c s : Nat) (Q : ZQ) : Prop := Ct g yJ2_init (ws_ yJ2_init cJ2_init 2 (Option.none : Option Jvm.ClassFile.FieldType)) args M d c s Q
abbrev nJ2_init : Nat := 10
theorem mJ2_init : zMok yJ2_init 1 2 := ⟨⟨by decide +kernel, by decide +kernel, by decide +kernel⟩, by decide⟩
theorem eJ2_init {g : ZG} {Q : ZQ} {d cN sN : Nat} {M : ZM} {a0 : Nat} {x1 : Int32} (hV : zV g) (h : Z g kJ2_init Q d cN sN M 0 [some (.ref a0), some (.int x1)] []) : tJ2_init g [.ref a0, .int x1] M d cN sN Q := Ct.of (K := kJ2_init) rfl (by decide +kernel) hV fokJ2 rfl (fun h => rfl) (fun v hv => by simp only [List.mem_cons, List.not_mem_nil, or_false] at hv; rcases hv with rfl | rfl <;> first | rfl | assumption) (Nat.le_of_ble_eq_true rfl) h
theorem sJ2_init_0 {g : ZG} {Q : ZQ} {d cN sN : Nat} {M : ZM} {l0 : Nat} {o1 : Option Value}  (kk : Z g kJ2_init Q d cN sN M 1 [some (.ref l0), o1] [.ref l0]) : Z g kJ2_init Q d cN sN M 0 [some (.ref l0), o1] [] := by
  refine zi_aload_n dJ2_init_0 rfl zrf_r ?_
  exact kk
theorem sJ2_init_7 {g : ZG} {Q : ZQ} {d cN sN : Nat} {M : ZM} {t0 : Int32} {o0 o1 : Option Value}  (kt : (t0 : Int32) = 0 → Z g kJ2_init Q d cN sN M 25 [o0, o1] []) (kf : ¬ (t0 : Int32) = 0 → Z g kJ2_init Q d cN sN M 10 [o0, o1] []) : Z g kJ2_init Q d cN sN M 7 [o0, o1] [.int t0] := by
  exact zi_if_eq (tgt := 25) dJ2_init_7 (by decide +kernel) kt kf
theorem sJ2_init_10 {g : ZG} {Q : ZQ} {d cN sN : Nat} {M : ZM} {l0 : Nat} {l1 : Int32}  (kk : Z g kJ2_init Q d cN sN M 12 [some (.ref l0), some (.int l1)] [.int l1, .ref l0]) : Z g kJ2_init Q d cN sN M 10 [some (.ref l0), some (.int l1)] [] := by
  refine zi_aload_n dJ2_init_10 rfl zrf_r ?_
  refine zi_iload_n dJ2_init_11 rfl ?_
  exact kk
theorem sJ2_init_14 {g : ZG} {Q : ZQ} {d cN sN : Nat} {M : ZM} {t0 : Nat} {t1 : Nat} {fs1 : List Value} {l0 : Nat} {fs4 : List Value} {o1 : Option Value} (h2 : M.1 t0 = some (.inr (8, fs1))) (h3 : 0 < (fs1).length) (h5 : (zup M t0 (.inr (8, (fs1).set 0 (.ref t1)))).1 l0 = some (.inr (8, fs4))) (h6 : 1 < (fs4).length) (h7 : zfit .byte (.int 0)) (kk : Z g kJ2_init Q d cN sN (zup (zup M t0 (.inr (8, (fs1).set 0 (.ref t1)))) l0 (.inr (8, (fs4).set 1 (.int 0)))) 38 [some (.ref l0), o1] []) : Z g kJ2_init Q d cN sN M 14 [some (.ref l0), o1] [.ref t1, .ref t0] := by
  refine zi_putfield dJ2_init_14 rfl h2 h3 (zfit_a zrf_r) (Or.inl rfl) ?_
  refine zi_aload_n dJ2_init_17 rfl zrf_r ?_
  refine zi_iconst dJ2_init_18 (by decide +kernel : Int32.ofInt (0) = (0 : Int32)) ?_
  refine zi_putfield dJ2_init_19 rfl h5 h6 h7 (Or.inl rfl) ?_
  exact zi_goto (tgt := 38) dJ2_init_22 (by decide +kernel) kk
theorem sJ2_init_25 {g : ZG} {Q : ZQ} {d cN sN : Nat} {M : ZM} {l0 : Nat} {l1 : Int32}  (kk : Z g kJ2_init Q d cN sN M 27 [some (.ref l0), some (.int l1)] [.int l1, .ref l0]) : Z g kJ2_init Q d cN sN M 25 [some (.ref l0), some (.int l1)] [] := by
  refine zi_aload_n dJ2_init_25 rfl zrf_r ?_
  refine zi_iload_n dJ2_init_26 rfl ?_
  exact kk
theorem sJ2_init_30 {g : ZG} {Q : ZQ} {d cN sN : Nat} {M : ZM} {t0 : Nat} {t1 : Nat} {fs1 : List Value} {l0 : Nat} {fs4 : List Value} {o1 : Option Value} (h2 : M.1 t0 = some (.inr (8, fs1))) (h3 : 0 < (fs1).length) (h5 : (zup M t0 (.inr (8, (fs1).set 0 (.ref t1)))).1 l0 = some (.inr (8, fs4))) (h6 : 1 < (fs4).length) (h7 : zfit .byte (.int 1)) (kk : Z g kJ2_init Q d cN sN (zup (zup M t0 (.inr (8, (fs1).set 0 (.ref t1)))) l0 (.inr (8, (fs4).set 1 (.int 1)))) 38 [some (.ref l0), o1] []) : Z g kJ2_init Q d cN sN M 30 [some (.ref l0), o1] [.ref t1, .ref t0] := by
  refine zi_putfield dJ2_init_30 rfl h2 h3 (zfit_a zrf_r) (Or.inl rfl) ?_
  refine zi_aload_n dJ2_init_33 rfl zrf_r ?_
  refine zi_iconst dJ2_init_34 (by decide +kernel : Int32.ofInt (1) = (1 : Int32)) ?_
  refine zi_putfield dJ2_init_35 rfl h5 h6 h7 (Or.inl rfl) ?_
  exact kk
theorem sJ2_init_38 {g : ZG} {Q : ZQ} {d cN sN : Nat} {M : ZM} {o0 o1 : Option Value}  (kk : Q.1 none M) : Z g kJ2_init Q d cN sN M 38 [o0, o1] [] := by
  exact zi_return dJ2_init_38 rfl kk
abbrev kJ2_setLength : ZK := (RJ2, cJ2_setLength, 2, (Option.none : Option Jvm.ClassFile.FieldType), [], false, fJ2)
abbrev tJ2_setLength (g : ZG) (args : List Value) (M : ZM) (d c s : Nat) (Q : ZQ) : Prop := Ct g yJ2_setLength (ws_ yJ2_setLength cJ2_setLength 2 (Option.none : Option Jvm.ClassFile.FieldType)) args M d c s Q
abbrev nJ2_setLength : Nat := 20
theorem mJ2_setLength : zMok yJ2_setLength 1 2 := ⟨⟨by decide +kernel, by decide +kernel, by decide +kernel⟩, by decide⟩
theorem eJ2_setLength {g : ZG} {Q : ZQ} {d cN sN : Nat} {M : ZM} {a0 : Nat} {x1 : Int32} (hV : zV g) (h : Z g kJ2_setLength Q d cN sN M 0 [some (.ref a0), some (.int x1)] []) : tJ2_setLength g [.ref a0, .int x1] M d cN sN Q := Ct.of (K := kJ2_setLength) rfl (by decide +kernel) hV fokJ2 rfl (fun h => by cases h) (fun v hv => by simp only [List.mem_cons, List.not_mem_nil, or_false] at hv; rcases hv with rfl | rfl <;> first | rfl | assumption) (Nat.le_of_ble_eq_true rfl) h
theorem sJ2_setLength_0 {g : ZG} {Q : ZQ} {d cN sN : Nat} {M : ZM} {l1 : Int32} {o0 : Option Value}  (kt : 0 ≤ (l1 : Int32) → Z g kJ2_setLength Q d cN sN M 13 [o0, some (.int l1)] []) (kf : ¬ 0 ≤ (l1 : Int32) → Z g kJ2_setLength Q d cN sN M 4 [o0, some (.int l1)] []) : Z g kJ2_setLength Q d cN sN M 0 [o0, some (.int l1)] [] := by
  refine zi_iload_n dJ2_setLength_0 rfl ?_
  exact zi_if_ge (tgt := 13) dJ2_setLength_1 (by decide +kernel) kt kf
theorem sJ2_setLength_7 {g : ZG} {Q : ZQ} {d cN sN : Nat} {M : ZM} {t0 : Nat} {l1 : Int32} {o0 : Option Value}  (kk : Z g kJ2_setLength Q d cN sN M 9 [o0, some (.int l1)] [.int l1, .ref t0, .ref t0]) : Z g kJ2_setLength Q d cN sN M 7 [o0, some (.int l1)] [.ref t0] := by
  refine zi_dup dJ2_setLength_7 rfl ?_
  refine zi_iload_n dJ2_setLength_8 rfl ?_
  exact kk
theorem sJ2_setLength_13 {g : ZG} {Q : ZQ} {d cN sN : Nat} {M : ZM} {l0 : Nat} {l1 : Int32}  (kk : Z g kJ2_setLength Q d cN sN M 15 [some (.ref l0), some (.int l1)] [.int l1, .ref l0]) : Z g kJ2_setLength Q d cN sN M 13 [some (.ref l0), some (.int l1)] [] := by
  refine zi_aload_n dJ2_setLength_13 rfl zrf_r ?_
  refine zi_iload_n dJ2_setLength_14 rfl ?_
  exact kk
theorem sJ2_setLength_18 {g : ZG} {Q : ZQ} {d cN sN : Nat} {M : ZM} {l0 : Nat} {fs1 : List Value} {y3 : Int32} {l1 : Int32} (h2 : M.1 l0 = some (.inr (8, fs1))) (h4 : (fs1)[3]? = some (.int y3)) (kt : (l1 : Int32) ≤ (y3 : Int32) → Z g kJ2_setLength Q d cN sN M 63 [some (.ref l0), some (.int l1)] []) (kf : ¬ (l1 : Int32) ≤ (y3 : Int32) → Z g kJ2_setLength Q d cN sN M 26 [some (.ref l0), some (.int l1)] []) : Z g kJ2_setLength Q d cN sN M 18 [some (.ref l0), some (.int l1)] [] := by
  refine zi_aload_n dJ2_setLength_18 rfl zrf_r ?_
  refine zi_getfield dJ2_setLength_19 rfl h2 h4 ?_
  refine zi_iload_n dJ2_setLength_22 rfl ?_
  exact zi_icmp_ge (tgt := 63) dJ2_setLength_23 (by decide +kernel) kt kf
theorem sJ2_setLength_26 {g : ZG} {Q : ZQ} {d cN sN : Nat} {M : ZM} {l0 : Nat} {o1 : Option Value}  (kk : Z g kJ2_setLength Q d cN sN M 27 [some (.ref l0), o1] [.ref l0]) : Z g kJ2_setLength Q d cN sN M 26 [some (.ref l0), o1] [] := by
  refine zi_aload_n dJ2_setLength_26 rfl zrf_r ?_
  exact kk
theorem sJ2_setLength_30 {g : ZG} {Q : ZQ} {d cN sN : Nat} {M : ZM} {t0 : Int32} {o0 o1 : Option Value}  (kt : (t0 : Int32) = 0 → Z g kJ2_setLength Q d cN sN M 48 [o0, o1] []) (kf : ¬ (t0 : Int32) = 0 → Z g kJ2_setLength Q d cN sN M 33 [o0, o1] []) : Z g kJ2_setLength Q d cN sN M 30 [o0, o1] [.int t0] := by
  exact zi_if_eq (tgt := 48) dJ2_setLength_30 (by decide +kernel) kt kf
theorem sJ2_setLength_33 {g : ZG} {Q : ZQ} {d cN sN : Nat} {M : ZM} {l0 : Nat} {fs1 : List Value} {r3 : Nat} {y5 : Int32} {l1 : Int32} (h2 : M.1 l0 = some (.inr (8, fs1))) (h4 : (fs1)[0]? = some (.ref r3)) (h6 : (fs1)[3]? = some (.int y5)) (kk : Z g kJ2_setLength Q d cN sN M 42 [some (.ref l0), some (.int l1)] [.int l1, .int y5, .ref r3]) : Z g kJ2_setLength Q d cN sN M 33 [some (.ref l0), some (.int l1)] [] := by
  refine zi_aload_n dJ2_setLength_33 rfl zrf_r ?_
  refine zi_getfield dJ2_setLength_34 rfl h2 h4 ?_
  refine zi_aload_n dJ2_setLength_37 rfl zrf_r ?_
  refine zi_getfield dJ2_setLength_38 rfl h2 h6 ?_
  refine zi_iload_n dJ2_setLength_41 rfl ?_
  exact kk
theorem sJ2_setLength_45 {g : ZG} {Q : ZQ} {d cN sN : Nat} {M : ZM} {o0 o1 : Option Value}  (kk : Z g kJ2_setLength Q d cN sN M 76 [o0, o1] []) : Z g kJ2_setLength Q d cN sN M 45 [o0, o1] [] := by
  exact zi_goto (tgt := 76) dJ2_setLength_45 (by decide +kernel) kk
theorem sJ2_setLength_48 {g : ZG} {Q : ZQ} {d cN sN : Nat} {M : ZM} {l0 : Nat} {fs1 : List Value} {r3 : Nat} {y5 : Int32} {l1 : Int32} (h2 : M.1 l0 = some (.inr (8, fs1))) (h4 : (fs1)[0]? = some (.ref r3)) (h6 : (fs1)[3]? = some (.int y5)) (kk : Z g kJ2_setLength Q d cN sN M 57 [some (.ref l0), some (.int l1)] [.int l1, .int y5, .ref r3]) : Z g kJ2_setLength Q d cN sN M 48 [some (.ref l0), some (.int l1)] [] := by
  refine zi_aload_n dJ2_setLength_48 rfl zrf_r ?_
  refine zi_getfield dJ2_setLength_49 rfl h2 h4 ?_
  refine zi_aload_n dJ2_setLength_52 rfl zrf_r ?_
  refine zi_getfield dJ2_setLength_53 rfl h2 h6 ?_
  refine zi_iload_n dJ2_setLength_56 rfl ?_
  exact kk
theorem sJ2_setLength_60 {g : ZG} {Q : ZQ} {d cN sN : Nat} {M : ZM} {o0 o1 : Option Value}  (kk : Z g kJ2_setLength Q d cN sN M 76 [o0, o1] []) : Z g kJ2_setLength Q d cN sN M 60 [o0, o1] [] := by
  exact zi_goto (tgt := 76) dJ2_setLength_60 (by decide +kernel) kk
theorem sJ2_setLength_63 {g : ZG} {Q : ZQ} {d cN sN : Nat} {M : ZM} {l0 : Nat} {fs1 : List Value} {y3 : Int32} {l1 : Int32} (h2 : M.1 l0 = some (.inr (8, fs1))) (h4 : (fs1)[3]? = some (.int y3)) (kt : (y3 : Int32) ≤ (l1 : Int32) → Z g kJ2_setLength Q d cN sN M 76 [some (.ref l0), some (.int l1)] []) (kf : ¬ (y3 : Int32) ≤ (l1 : Int32) → Z g kJ2_setLength Q d cN sN M 71 [some (.ref l0), some (.int l1)] []) : Z g kJ2_setLength Q d cN sN M 63 [some (.ref l0), some (.int l1)] [] := by
  refine zi_aload_n dJ2_setLength_63 rfl zrf_r ?_
  refine zi_getfield dJ2_setLength_64 rfl h2 h4 ?_
  refine zi_iload_n dJ2_setLength_67 rfl ?_
  exact zi_icmp_le (tgt := 76) dJ2_setLength_68 (by decide +kernel) kt kf
theorem sJ2_setLength_71 {g : ZG} {Q : ZQ} {d cN sN : Nat} {M : ZM} {l0 : Nat} {fs1 : List Value} {o1 : Option Value} (h2 : M.1 l0 = some (.inr (8, fs1))) (h3 : 2 < (fs1).length) (kk : Z g kJ2_setLength Q d cN sN (zup M l0 (.inr (8, (fs1).set 2 (.int 1)))) 76 [some (.ref l0), o1] []) : Z g kJ2_setLength Q d cN sN M 71 [some (.ref l0), o1] [] := by
  refine zi_aload_n dJ2_setLength_71 rfl zrf_r ?_
  refine zi_iconst dJ2_setLength_72 (by decide +kernel : Int32.ofInt (1) = (1 : Int32)) ?_
  refine zi_putfield dJ2_setLength_73 rfl h2 h3 (zfit_z (by decide)) (Or.inl rfl) ?_
  exact kk
theorem sJ2_setLength_76 {g : ZG} {Q : ZQ} {d cN sN : Nat} {M : ZM} {l0 : Nat} {l1 : Int32} {fs1 : List Value} (h2 : M.1 l0 = some (.inr (8, fs1))) (h3 : 3 < (fs1).length) (kk : Q.1 none (zup M l0 (.inr (8, (fs1).set 3 (.int l1))))) : Z g kJ2_setLength Q d cN sN M 76 [some (.ref l0), some (.int l1)] [] := by
  refine zi_aload_n dJ2_setLength_76 rfl zrf_r ?_
  refine zi_iload_n dJ2_setLength_77 rfl ?_
  refine zi_putfield dJ2_setLength_78 rfl h2 h3 zfit_i (Or.inl rfl) ?_
  exact zi_return dJ2_setLength_81 rfl kk
abbrev kJ2_append : ZK := (RJ2, cJ2_append, 3, (Option.some (Jvm.ClassFile.FieldType.object "java/lang/AbstractStringBuilder")), [], false, fJ2)
abbrev tJ2_append (g : ZG) (args : List Value) (M : ZM) (d c s : Nat) (Q : ZQ) : Prop := Ct g yJ2_append (ws_ yJ2_append cJ2_append 3 (Option.some (Jvm.ClassFile.FieldType.object "java/lang/AbstractStringBuilder"))) args M d c s Q
abbrev nJ2_append : Nat := 14
theorem mJ2_append : zMok yJ2_append 1 3 := ⟨⟨by decide +kernel, by decide +kernel, by decide +kernel⟩, by decide⟩
theorem eJ2_append {g : ZG} {Q : ZQ} {d cN sN : Nat} {M : ZM} {a0 : Nat} {v1 : Value} (hv1 : v1.category = 1) (hV : zV g) (h : Z g kJ2_append Q d cN sN M 0 [some (.ref a0), some (v1), none] []) : tJ2_append g [.ref a0, v1] M d cN sN Q := Ct.of (K := kJ2_append) rfl (by decide +kernel) hV fokJ2 rfl (fun h => by cases h) (fun v hv => by simp only [List.mem_cons, List.not_mem_nil, or_false] at hv; rcases hv with rfl | rfl <;> first | rfl | assumption) (Nat.le_of_ble_eq_true rfl) h
theorem sJ2_append_0 {g : ZG} {Q : ZQ} {d cN sN : Nat} {M : ZM} {l1 : Nat} {o0 o2 : Option Value}  (kt : (∃ a, (.ref l1 : Value) = .ref a) → Z g kJ2_append Q d cN sN M 9 [o0, some (.ref l1), o2] []) (kf : ((.ref l1 : Value) = .null) → Z g kJ2_append Q d cN sN M 4 [o0, some (.ref l1), o2] []) : Z g kJ2_append Q d cN sN M 0 [o0, some (.ref l1), o2] [] := by
  refine zi_aload_n dJ2_append_0 rfl zrf_r ?_
  exact zi_ifnonnull (tgt := 9) dJ2_append_1 (by decide +kernel) zrf_r kt kf
theorem sJ2_append_4 {g : ZG} {Q : ZQ} {d cN sN : Nat} {M : ZM} {l0 : Nat} {o1 o2 : Option Value}  (kk : Z g kJ2_append Q d cN sN M 5 [some (.ref l0), o1, o2] [.ref l0]) : Z g kJ2_append Q d cN sN M 4 [some (.ref l0), o1, o2] [] := by
  refine zi_aload_n dJ2_append_4 rfl zrf_r ?_
  exact kk
theorem sJ2_append_8 {g : ZG} {Q : ZQ} {d cN sN : Nat} {M : ZM} {t0 : Nat} {o0 o1 o2 : Option Value}  (kk : Q.1 (some (.ref t0)) M) : Z g kJ2_append Q d cN sN M 8 [o0, o1, o2] [.ref t0] := by
  exact zi_areturn dJ2_append_8 zrf_r rfl (Or.inl ⟨_, rfl⟩) kk
theorem sJ2_append_9 {g : ZG} {Q : ZQ} {d cN sN : Nat} {M : ZM} {l1 : Nat} {o0 o2 : Option Value}  (kk : Z g kJ2_append Q d cN sN M 10 [o0, some (.ref l1), o2] [.ref l1]) : Z g kJ2_append Q d cN sN M 9 [o0, some (.ref l1), o2] [] := by
  refine zi_aload_n dJ2_append_9 rfl zrf_r ?_
  exact kk
theorem sJ2_append_13 {g : ZG} {Q : ZQ} {d cN sN : Nat} {M : ZM} {t0 : Int32} {l0 : Nat} {fs1 : List Value} {y3 : Int32} {o1 o2 : Option Value} (h2 : M.1 l0 = some (.inr (8, fs1))) (h4 : (fs1)[3]? = some (.int y3)) (kk : Z g kJ2_append Q d cN sN M 21 [some (.ref l0), o1, some (.int t0)] [.int (y3 + t0), .ref l0]) : Z g kJ2_append Q d cN sN M 13 [some (.ref l0), o1, o2] [.int t0] := by
  refine zi_istore_n dJ2_append_13 (Nat.le_of_ble_eq_true rfl) ?_
  refine zi_aload_n dJ2_append_14 rfl zrf_r ?_
  refine zi_aload_n dJ2_append_15 rfl zrf_r ?_
  refine zi_getfield dJ2_append_16 rfl h2 h4 ?_
  refine zi_iload_n dJ2_append_19 rfl ?_
  refine zi_iadd dJ2_append_20 ?_
  exact kk
theorem sJ2_append_24 {g : ZG} {Q : ZQ} {d cN sN : Nat} {M : ZM} {l0 : Nat} {fs1 : List Value} {y3 : Int32} {l1 : Nat} {o2 : Option Value} (h2 : M.1 l0 = some (.inr (8, fs1))) (h4 : (fs1)[3]? = some (.int y3)) (kk : Z g kJ2_append Q d cN sN M 30 [some (.ref l0), some (.ref l1), o2] [.ref l1, .int y3, .ref l0]) : Z g kJ2_append Q d cN sN M 24 [some (.ref l0), some (.ref l1), o2] [] := by
  refine zi_aload_n dJ2_append_24 rfl zrf_r ?_
  refine zi_aload_n dJ2_append_25 rfl zrf_r ?_
  refine zi_getfield dJ2_append_26 rfl h2 h4 ?_
  refine zi_aload_n dJ2_append_29 rfl zrf_r ?_
  exact kk
theorem sJ2_append_33 {g : ZG} {Q : ZQ} {d cN sN : Nat} {M : ZM} {l0 : Nat} {fs1 : List Value} {y3 : Int32} {l2 : Int32} {o1 : Option Value} (h2 : M.1 l0 = some (.inr (8, fs1))) (h4 : (fs1)[3]? = some (.int y3)) (h5 : 3 < (fs1).length) (kk : Q.1 (some (.ref l0)) (zup M l0 (.inr (8, (fs1).set 3 (.int (y3 + l2)))))) : Z g kJ2_append Q d cN sN M 33 [some (.ref l0), o1, some (.int l2)] [] := by
  refine zi_aload_n dJ2_append_33 rfl zrf_r ?_
  refine zi_dup dJ2_append_34 rfl ?_
  refine zi_getfield dJ2_append_35 rfl h2 h4 ?_
  refine zi_iload_n dJ2_append_38 rfl ?_
  refine zi_iadd dJ2_append_39 ?_
  refine zi_putfield dJ2_append_40 rfl h2 h5 zfit_i (Or.inl rfl) ?_
  refine zi_aload_n dJ2_append_43 rfl zrf_r ?_
  exact zi_areturn dJ2_append_44 zrf_r rfl (Or.inl ⟨_, rfl⟩) kk
abbrev kJ2_appendNull : ZK := (RJ2, cJ2_appendNull, 3, (Option.some (Jvm.ClassFile.FieldType.object "java/lang/AbstractStringBuilder")), [], false, fJ2)
abbrev tJ2_appendNull (g : ZG) (args : List Value) (M : ZM) (d c s : Nat) (Q : ZQ) : Prop := Ct g yJ2_appendNull (ws_ yJ2_appendNull cJ2_appendNull 3 (Option.some (Jvm.ClassFile.FieldType.object "java/lang/AbstractStringBuilder"))) args M d c s Q
abbrev nJ2_appendNull : Nat := 10
theorem mJ2_appendNull : zMok yJ2_appendNull 0 3 := ⟨⟨by decide +kernel, by decide +kernel, by decide +kernel⟩, by decide⟩
theorem eJ2_appendNull {g : ZG} {Q : ZQ} {d cN sN : Nat} {M : ZM} {a0 : Nat} (hV : zV g) (h : Z g kJ2_appendNull Q d cN sN M 0 [some (.ref a0), none, none] []) : tJ2_appendNull g [.ref a0] M d cN sN Q := Ct.of (K := kJ2_appendNull) rfl (by decide +kernel) hV fokJ2 rfl (fun h => by cases h) (fun v hv => by simp only [List.mem_cons, List.not_mem_nil, or_false] at hv; rcases hv with rfl <;> first | rfl | assumption) (Nat.le_of_ble_eq_true rfl) h
theorem sJ2_appendNull_0 {g : ZG} {Q : ZQ} {d cN sN : Nat} {M : ZM} {l0 : Nat} {fs1 : List Value} {y3 : Int32} {o1 o2 : Option Value} (h2 : M.1 l0 = some (.inr (8, fs1))) (h4 : (fs1)[3]? = some (.int y3)) (kk : Z g kJ2_appendNull Q d cN sN M 7 [some (.ref l0), o1, o2] [.int (y3 + 4), .ref l0]) : Z g kJ2_appendNull Q d cN sN M 0 [some (.ref l0), o1, o2] [] := by
  refine zi_aload_n dJ2_appendNull_0 rfl zrf_r ?_
  refine zi_aload_n dJ2_appendNull_1 rfl zrf_r ?_
  refine zi_getfield dJ2_appendNull_2 rfl h2 h4 ?_
  refine zi_iconst dJ2_appendNull_5 (by decide +kernel : Int32.ofInt (4) = (4 : Int32)) ?_
  refine zi_iadd dJ2_appendNull_6 ?_
  exact kk
theorem sJ2_appendNull_10 {g : ZG} {Q : ZQ} {d cN sN : Nat} {M : ZM} {l0 : Nat} {fs1 : List Value} {y3 : Int32} {r5 : Nat} {o1 o2 : Option Value} (h2 : M.1 l0 = some (.inr (8, fs1))) (h4 : (fs1)[3]? = some (.int y3)) (h6 : (fs1)[0]? = some (.ref r5)) (kk : Z g kJ2_appendNull Q d cN sN M 21 [some (.ref l0), some (.int y3), some (.ref r5)] [.ref l0]) : Z g kJ2_appendNull Q d cN sN M 10 [some (.ref l0), o1, o2] [] := by
  refine zi_aload_n dJ2_appendNull_10 rfl zrf_r ?_
  refine zi_getfield dJ2_appendNull_11 rfl h2 h4 ?_
  refine zi_istore_n dJ2_appendNull_14 (Nat.le_of_ble_eq_true rfl) ?_
  refine zi_aload_n dJ2_appendNull_15 rfl zrf_r ?_
  refine zi_getfield dJ2_appendNull_16 rfl h2 h6 ?_
  refine zi_astore_n dJ2_appendNull_19 zrf_r (Nat.le_of_ble_eq_true rfl) ?_
  refine zi_aload_n dJ2_appendNull_20 rfl zrf_r ?_
  exact kk
theorem sJ2_appendNull_24 {g : ZG} {Q : ZQ} {d cN sN : Nat} {M : ZM} {t0 : Int32} {o0 o1 o2 : Option Value}  (kt : (t0 : Int32) = 0 → Z g kJ2_appendNull Q d cN sN M 62 [o0, o1, o2] []) (kf : ¬ (t0 : Int32) = 0 → Z g kJ2_appendNull Q d cN sN M 27 [o0, o1, o2] []) : Z g kJ2_appendNull Q d cN sN M 24 [o0, o1, o2] [.int t0] := by
  exact zi_if_eq (tgt := 62) dJ2_appendNull_24 (by decide +kernel) kt kf
theorem sJ2_appendNull_27 {g : ZG} {Q : ZQ} {d cN sN : Nat} {M : ZM} {l2 : Nat} {l1 : Int32} {n1 : Nat} {f2 : Nat → Int32} {o0 : Option Value} (h3 : M.1 l2 = some (.inl (zA g 4, n1, .inl (f2)))) (h4 : vp_in (l1) n1) (h5 : vp_in (l1 + 1) n1) (h6 : vp_in ((l1 + 1) + 1) n1) (h7 : vp_in (((l1 + 1) + 1) + 1) n1) (kk : Z g kJ2_appendNull Q d cN sN (zup (zup (zup (zup M l2 (.inl (zA g 4, n1, .inl (upd f2 ((l1 : Int32).toNatClampNeg) (vp_nar .byte (110)))))) l2 (.inl (zA g 4, n1, .inl (upd ((upd f2 ((l1 : Int32).toNatClampNeg) (vp_nar .byte (110)))) ((l1 + 1 : Int32).toNatClampNeg) (vp_nar .byte (117)))))) l2 (.inl (zA g 4, n1, .inl (upd ((upd ((upd f2 ((l1 : Int32).toNatClampNeg) (vp_nar .byte (110)))) ((l1 + 1 : Int32).toNatClampNeg) (vp_nar .byte (117)))) (((l1 + 1) + 1 : Int32).toNatClampNeg) (vp_nar .byte (108)))))) l2 (.inl (zA g 4, n1, .inl (upd ((upd ((upd ((upd f2 ((l1 : Int32).toNatClampNeg) (vp_nar .byte (110)))) ((l1 + 1 : Int32).toNatClampNeg) (vp_nar .byte (117)))) (((l1 + 1) + 1 : Int32).toNatClampNeg) (vp_nar .byte (108)))) ((((l1 + 1) + 1) + 1 : Int32).toNatClampNeg) (vp_nar .byte (108)))))) 76 [o0, some (.int ((((l1 + 1) + 1) + 1) + 1)), some (.ref l2)] []) : Z g kJ2_appendNull Q d cN sN M 27 [o0, some (.int l1), some (.ref l2)] [] := by
  refine zi_aload_n dJ2_appendNull_27 rfl zrf_r ?_
  refine zi_iload_n dJ2_appendNull_28 rfl ?_
  refine zi_iinc dJ2_appendNull_29 rfl (by decide +kernel : Int32.ofInt (1) = 1) (Nat.le_of_ble_eq_true rfl) ?_
  refine zi_bipush dJ2_appendNull_32 (by decide +kernel : (Int8.ofInt (110)).toInt32 = (110 : Int32)) ?_
  refine zi_bastore dJ2_appendNull_34 h3 h4 ?_
  refine zi_aload_n dJ2_appendNull_35 rfl zrf_r ?_
  refine zi_iload_n dJ2_appendNull_36 rfl ?_
  refine zi_iinc dJ2_appendNull_37 rfl (by decide +kernel : Int32.ofInt (1) = 1) (Nat.le_of_ble_eq_true rfl) ?_
  refine zi_bipush dJ2_appendNull_40 (by decide +kernel : (Int8.ofInt (117)).toInt32 = (117 : Int32)) ?_
  refine zi_bastore dJ2_appendNull_42 (zup_self _ _ _) h5 ?_
  refine zi_aload_n dJ2_appendNull_43 rfl zrf_r ?_
  refine zi_iload_n dJ2_appendNull_44 rfl ?_
  refine zi_iinc dJ2_appendNull_45 rfl (by decide +kernel : Int32.ofInt (1) = 1) (Nat.le_of_ble_eq_true rfl) ?_
  refine zi_bipush dJ2_appendNull_48 (by decide +kernel : (Int8.ofInt (108)).toInt32 = (108 : Int32)) ?_
  refine zi_bastore dJ2_appendNull_50 (zup_self _ _ _) h6 ?_
  refine zi_aload_n dJ2_appendNull_51 rfl zrf_r ?_
  refine zi_iload_n dJ2_appendNull_52 rfl ?_
  refine zi_iinc dJ2_appendNull_53 rfl (by decide +kernel : Int32.ofInt (1) = 1) (Nat.le_of_ble_eq_true rfl) ?_
  refine zi_bipush dJ2_appendNull_56 (by decide +kernel : (Int8.ofInt (108)).toInt32 = (108 : Int32)) ?_
  refine zi_bastore dJ2_appendNull_58 (zup_self _ _ _) h7 ?_
  exact zi_goto (tgt := 76) dJ2_appendNull_59 (by decide +kernel) kk
theorem sJ2_appendNull_62 {g : ZG} {Q : ZQ} {d cN sN : Nat} {M : ZM} {l2 : Nat} {l1 : Int32} {o0 : Option Value}  (kk : Z g kJ2_appendNull Q d cN sN M 72 [o0, some (.int l1), some (.ref l2)] [.int 108, .int 108, .int 117, .int 110, .int l1, .ref l2]) : Z g kJ2_appendNull Q d cN sN M 62 [o0, some (.int l1), some (.ref l2)] [] := by
  refine zi_aload_n dJ2_appendNull_62 rfl zrf_r ?_
  refine zi_iload_n dJ2_appendNull_63 rfl ?_
  refine zi_bipush dJ2_appendNull_64 (by decide +kernel : (Int8.ofInt (110)).toInt32 = (110 : Int32)) ?_
  refine zi_bipush dJ2_appendNull_66 (by decide +kernel : (Int8.ofInt (117)).toInt32 = (117 : Int32)) ?_
  refine zi_bipush dJ2_appendNull_68 (by decide +kernel : (Int8.ofInt (108)).toInt32 = (108 : Int32)) ?_
  refine zi_bipush dJ2_appendNull_70 (by decide +kernel : (Int8.ofInt (108)).toInt32 = (108 : Int32)) ?_
  exact kk
theorem sJ2_appendNull_75 {g : ZG} {Q : ZQ} {d cN sN : Nat} {M : ZM} {t0 : Int32} {o0 o1 o2 : Option Value}  (kk : Z g kJ2_appendNull Q d cN sN M 76 [o0, some (.int t0), o2] []) : Z g kJ2_appendNull Q d cN sN M 75 [o0, o1, o2] [.int t0] := by
  refine zi_istore_n dJ2_appendNull_75 (Nat.le_of_ble_eq_true rfl) ?_
  exact kk
theorem sJ2_appendNull_76 {g : ZG} {Q : ZQ} {d cN sN : Nat} {M : ZM} {l0 : Nat} {l1 : Int32} {fs1 : List Value} {o2 : Option Value} (h2 : M.1 l0 = some (.inr (8, fs1))) (h3 : 3 < (fs1).length) (kk : Q.1 (some (.ref l0)) (zup M l0 (.inr (8, (fs1).set 3 (.int l1))))) : Z g kJ2_appendNull Q d cN sN M 76 [some (.ref l0), some (.int l1), o2] [] := by
  refine zi_aload_n dJ2_appendNull_76 rfl zrf_r ?_
  refine zi_iload_n dJ2_appendNull_77 rfl ?_
  refine zi_putfield dJ2_appendNull_78 rfl h2 h3 zfit_i (Or.inl rfl) ?_
  refine zi_aload_n dJ2_appendNull_81 rfl zrf_r ?_
  exact zi_areturn dJ2_appendNull_82 zrf_r rfl (Or.inl ⟨_, rfl⟩) kk
abbrev kJ2_ensureCapacityInternal : ZK := (RJ2, cJ2_ensureCapacityInternal, 3, (Option.none : Option Jvm.ClassFile.FieldType), [], false, fJ2)
abbrev tJ2_ensureCapacityInternal (g : ZG) (args : List Value) (M : ZM) (d c s : Nat) (Q : ZQ) : Prop := Ct g yJ2_ensureCapacityInternal (ws_ yJ2_ensureCapacityInternal cJ2_ensureCapacityInternal 3 (Option.none : Option Jvm.ClassFile.FieldType)) args M d c s Q
abbrev nJ2_ensureCapacityInternal : Nat := 9
theorem mJ2_ensureCapacityInternal : zMok yJ2_ensureCapacityInternal 1 3 := ⟨⟨by decide +kernel, by decide +kernel, by decide +kernel⟩, by decide⟩
theorem eJ2_ensureCapacityInternal {g : ZG} {Q : ZQ} {d cN sN : Nat} {M : ZM} {a0 : Nat} {x1 : Int32} (hV : zV g) (h : Z g kJ2_ensureCapacityInternal Q d cN sN M 0 [some (.ref a0), some (.int x1), none] []) : tJ2_ensureCapacityInternal g [.ref a0, .int x1] M d cN sN Q := Ct.of (K := kJ2_ensureCapacityInternal) rfl (by decide +kernel) hV fokJ2 rfl (fun h => by cases h) (fun v hv => by simp only [List.mem_cons, List.not_mem_nil, or_false] at hv; rcases hv with rfl | rfl <;> first | rfl | assumption) (Nat.le_of_ble_eq_true rfl) h
theorem sJ2_ensureCapacityInternal_0 {g : ZG} {Q : ZQ} {d cN sN : Nat} {M : ZM} {l0 : Nat} {fs1 : List Value} {r3 : Nat} {u5 : vp_A} {c6 : ClassId} {k7 : Nat} {ty8 : FieldType} {y11 : Int32} {l1 : Int32} {o2 : Option Value} (h2 : M.1 l0 = some (.inr (8, fs1))) (h4 : (fs1)[0]? = some (.ref r3)) (h9 : M.1 r3 = some (.inl (c6, u5))) (h10 : (ztys g)[k7]? = some (c6, ty8)) (h12 : (fs1)[1]? = some (.int y11)) (kt : (l1 - ((Int32.ofNat u5.1) >>> (y11 &&& 31)) : Int32) ≤ 0 → Z g kJ2_ensureCapacityInternal Q d cN sN M 38 [some (.ref l0), some (.int l1), some (.int ((Int32.ofNat u5.1) >>> (y11 &&& 31)))] []) (kf : ¬ (l1 - ((Int32.ofNat u5.1) >>> (y11 &&& 31)) : Int32) ≤ 0 → Z g kJ2_ensureCapacityInternal Q d cN sN M 17 [some (.ref l0), some (.int l1), some (.int ((Int32.ofNat u5.1) >>> (y11 &&& 31)))] []) : Z g kJ2_ensureCapacityInternal Q d cN sN M 0 [some (.ref l0), some (.int l1), o2] [] := by
  refine zi_aload_n dJ2_ensureCapacityInternal_0 rfl zrf_r ?_
  refine zi_getfield dJ2_ensureCapacityInternal_1 rfl h2 h4 ?_
  refine zi_arraylength dJ2_ensureCapacityInternal_4 h9 h10 ?_
  refine zi_aload_n dJ2_ensureCapacityInternal_5 rfl zrf_r ?_
  refine zi_getfield dJ2_ensureCapacityInternal_6 rfl h2 h12 ?_
  refine zi_ishr dJ2_ensureCapacityInternal_9 ?_
  refine zi_istore_n dJ2_ensureCapacityInternal_10 (Nat.le_of_ble_eq_true rfl) ?_
  refine zi_iload_n dJ2_ensureCapacityInternal_11 rfl ?_
  refine zi_iload_n dJ2_ensureCapacityInternal_12 rfl ?_
  refine zi_isub dJ2_ensureCapacityInternal_13 ?_
  exact zi_if_le (tgt := 38) dJ2_ensureCapacityInternal_14 (by decide +kernel) kt kf
theorem sJ2_ensureCapacityInternal_17 {g : ZG} {Q : ZQ} {d cN sN : Nat} {M : ZM} {l0 : Nat} {fs1 : List Value} {r3 : Nat} {l1 : Int32} {o2 : Option Value} (h2 : M.1 l0 = some (.inr (8, fs1))) (h4 : (fs1)[0]? = some (.ref r3)) (kk : Z g kJ2_ensureCapacityInternal Q d cN sN M 24 [some (.ref l0), some (.int l1), o2] [.int l1, .ref l0, .ref r3, .ref l0]) : Z g kJ2_ensureCapacityInternal Q d cN sN M 17 [some (.ref l0), some (.int l1), o2] [] := by
  refine zi_aload_n dJ2_ensureCapacityInternal_17 rfl zrf_r ?_
  refine zi_aload_n dJ2_ensureCapacityInternal_18 rfl zrf_r ?_
  refine zi_getfield dJ2_ensureCapacityInternal_19 rfl h2 h4 ?_
  refine zi_aload_n dJ2_ensureCapacityInternal_22 rfl zrf_r ?_
  refine zi_iload_n dJ2_ensureCapacityInternal_23 rfl ?_
  exact kk
theorem sJ2_ensureCapacityInternal_27 {g : ZG} {Q : ZQ} {d cN sN : Nat} {M : ZM} {t0 : Nat} {t1 : Nat} {t2 : Int32} {l0 : Nat} {fs1 : List Value} {y3 : Int32} {o1 o2 : Option Value} (h2 : M.1 l0 = some (.inr (8, fs1))) (h4 : (fs1)[1]? = some (.int y3)) (kk : Z g kJ2_ensureCapacityInternal Q d cN sN M 32 [some (.ref l0), o1, o2] [.int (t2 <<< (y3 &&& 31)), .ref t1, .ref t0]) : Z g kJ2_ensureCapacityInternal Q d cN sN M 27 [some (.ref l0), o1, o2] [.int t2, .ref t1, .ref t0] := by
  refine zi_aload_n dJ2_ensureCapacityInternal_27 rfl zrf_r ?_
  refine zi_getfield dJ2_ensureCapacityInternal_28 rfl h2 h4 ?_
  refine zi_ishl dJ2_ensureCapacityInternal_31 ?_
  exact kk
theorem sJ2_ensureCapacityInternal_35 {g : ZG} {Q : ZQ} {d cN sN : Nat} {M : ZM} {t0 : Nat} {t1 : Nat} {fs1 : List Value} {o0 o1 o2 : Option Value} (h2 : M.1 t0 = some (.inr (8, fs1))) (h3 : 0 < (fs1).length) (kk : Z g kJ2_ensureCapacityInternal Q d cN sN (zup M t0 (.inr (8, (fs1).set 0 (.ref t1)))) 38 [o0, o1, o2] []) : Z g kJ2_ensureCapacityInternal Q d cN sN M 35 [o0, o1, o2] [.ref t1, .ref t0] := by
  refine zi_putfield dJ2_ensureCapacityInternal_35 rfl h2 h3 (zfit_a zrf_r) (Or.inl rfl) ?_
  exact kk
theorem sJ2_ensureCapacityInternal_38 {g : ZG} {Q : ZQ} {d cN sN : Nat} {M : ZM} {o0 o1 o2 : Option Value}  (kk : Q.1 none M) : Z g kJ2_ensureCapacityInternal Q d cN sN M 38 [o0, o1, o2] [] := by
  exact zi_return dJ2_ensureCapacityInternal_38 rfl kk
abbrev kJ2_newCapacity : ZK := (RJ2, cJ2_newCapacity, 6, (Option.some Jvm.ClassFile.FieldType.int), [], false, fJ2)
abbrev tJ2_newCapacity (g : ZG) (args : List Value) (M : ZM) (d c s : Nat) (Q : ZQ) : Prop := Ct g yJ2_newCapacity (ws_ yJ2_newCapacity cJ2_newCapacity 6 (Option.some Jvm.ClassFile.FieldType.int)) args M d c s Q
abbrev nJ2_newCapacity : Nat := 8
theorem mJ2_newCapacity : zMok yJ2_newCapacity 1 6 := ⟨⟨by decide +kernel, by decide +kernel, by decide +kernel⟩, by decide⟩
theorem eJ2_newCapacity {g : ZG} {Q : ZQ} {d cN sN : Nat} {M : ZM} {a0 : Nat} {x1 : Int32} (hV : zV g) (h : Z g kJ2_newCapacity Q d cN sN M 0 [some (.ref a0), some (.int x1), none, none, none, none] []) : tJ2_newCapacity g [.ref a0, .int x1] M d cN sN Q := Ct.of (K := kJ2_newCapacity) rfl (by decide +kernel) hV fokJ2 rfl (fun h => by cases h) (fun v hv => by simp only [List.mem_cons, List.not_mem_nil, or_false] at hv; rcases hv with rfl | rfl <;> first | rfl | assumption) (Nat.le_of_ble_eq_true rfl) h
theorem sJ2_newCapacity_0 {g : ZG} {Q : ZQ} {d cN sN : Nat} {M : ZM} {l0 : Nat} {fs1 : List Value} {r3 : Nat} {u5 : vp_A} {c6 : ClassId} {k7 : Nat} {ty8 : FieldType} {l1 : Int32} {y11 : Int32} {o2 o3 o4 o5 : Option Value} (h2 : M.1 l0 = some (.inr (8, fs1))) (h4 : (fs1)[0]? = some (.ref r3)) (h9 : M.1 r3 = some (.inl (c6, u5))) (h10 : (ztys g)[k7]? = some (c6, ty8)) (h12 : (fs1)[1]? = some (.int y11)) (kk : Z g kJ2_newCapacity Q d cN sN M 29 [some (.ref l0), some (.int l1), some (.int (Int32.ofNat u5.1)), some (.int (l1 <<< (y11 &&& 31))), some (.int ((l1 <<< (y11 &&& 31)) - (Int32.ofNat u5.1))), o5] [.int ((Int32.ofNat u5.1) + (2 <<< (y11 &&& 31))), .int ((l1 <<< (y11 &&& 31)) - (Int32.ofNat u5.1)), .int (Int32.ofNat u5.1)]) : Z g kJ2_newCapacity Q d cN sN M 0 [some (.ref l0), some (.int l1), o2, o3, o4, o5] [] := by
  refine zi_aload_n dJ2_newCapacity_0 rfl zrf_r ?_
  refine zi_getfield dJ2_newCapacity_1 rfl h2 h4 ?_
  refine zi_arraylength dJ2_newCapacity_4 h9 h10 ?_
  refine zi_istore_n dJ2_newCapacity_5 (Nat.le_of_ble_eq_true rfl) ?_
  refine zi_iload_n dJ2_newCapacity_6 rfl ?_
  refine zi_aload_n dJ2_newCapacity_7 rfl zrf_r ?_
  refine zi_getfield dJ2_newCapacity_8 rfl h2 h12 ?_
  refine zi_ishl dJ2_newCapacity_11 ?_
  refine zi_istore_n dJ2_newCapacity_12 (Nat.le_of_ble_eq_true rfl) ?_
  refine zi_iload_n dJ2_newCapacity_13 rfl ?_
  refine zi_iload_n dJ2_newCapacity_14 rfl ?_
  refine zi_isub dJ2_newCapacity_15 ?_
  refine zi_istore dJ2_newCapacity_16 (Nat.le_of_ble_eq_true rfl) ?_
  refine zi_iload_n dJ2_newCapacity_18 rfl ?_
  refine zi_iload dJ2_newCapacity_19 rfl ?_
  refine zi_iload_n dJ2_newCapacity_21 rfl ?_
  refine zi_iconst dJ2_newCapacity_22 (by decide +kernel : Int32.ofInt (2) = (2 : Int32)) ?_
  refine zi_aload_n dJ2_newCapacity_23 rfl zrf_r ?_
  refine zi_getfield dJ2_newCapacity_24 rfl h2 h12 ?_
  refine zi_ishl dJ2_newCapacity_27 ?_
  refine zi_iadd dJ2_newCapacity_28 ?_
  exact kk
theorem sJ2_newCapacity_32 {g : ZG} {Q : ZQ} {d cN sN : Nat} {M : ZM} {t0 : Int32} {o0 o1 o2 o3 o4 o5 : Option Value}  (kk : Z g kJ2_newCapacity Q d cN sN M 36 [o0, o1, o2, o3, o4, some (.int t0)] [.int t0]) : Z g kJ2_newCapacity Q d cN sN M 32 [o0, o1, o2, o3, o4, o5] [.int t0] := by
  refine zi_istore dJ2_newCapacity_32 (Nat.le_of_ble_eq_true rfl) ?_
  refine zi_iload dJ2_newCapacity_34 rfl ?_
  exact kk
theorem sJ2_newCapacity_38 {g : ZG} {Q : ZQ} {d cN sN : Nat} {M : ZM} {t0 : Int32} {t1 : Int32} {o0 o1 o2 o3 o4 o5 : Option Value}  (kt : ¬ (t0 : Int32) = (t1 : Int32) → Z g kJ2_newCapacity Q d cN sN M 51 [o0, o1, o2, o3, o4, o5] []) (kf : (t0 : Int32) = (t1 : Int32) → Z g kJ2_newCapacity Q d cN sN M 41 [o0, o1, o2, o3, o4, o5] []) : Z g kJ2_newCapacity Q d cN sN M 38 [o0, o1, o2, o3, o4, o5] [.int t1, .int t0] := by
  exact zi_icmp_ne (tgt := 51) dJ2_newCapacity_38 (by decide +kernel) kt kf
theorem sJ2_newCapacity_44 {g : ZG} {Q : ZQ} {d cN sN : Nat} {M : ZM} {t0 : Nat} {o0 o1 o2 o3 o4 o5 : Option Value}  (kk : Z g kJ2_newCapacity Q d cN sN M 45 [o0, o1, o2, o3, o4, o5] [.ref t0, .ref t0]) : Z g kJ2_newCapacity Q d cN sN M 44 [o0, o1, o2, o3, o4, o5] [.ref t0] := by
  refine zi_dup dJ2_newCapacity_44 rfl ?_
  exact kk
theorem sJ2_newCapacity_51 {g : ZG} {Q : ZQ} {d cN sN : Nat} {M : ZM} {l5 : Int32} {l0 : Nat} {fs1 : List Value} {y3 : Int32} {o1 o2 o3 o4 : Option Value} (h2 : M.1 l0 = some (.inr (8, fs1))) (h4 : (fs1)[1]? = some (.int y3)) (kk : Q.1 (some (.int (l5 >>> (y3 &&& 31)))) M) : Z g kJ2_newCapacity Q d cN sN M 51 [some (.ref l0), o1, o2, o3, o4, some (.int l5)] [] := by
  refine zi_iload dJ2_newCapacity_51 rfl ?_
  refine zi_aload_n dJ2_newCapacity_53 rfl zrf_r ?_
  refine zi_getfield dJ2_newCapacity_54 rfl h2 h4 ?_
  refine zi_ishr dJ2_newCapacity_57 ?_
  exact zi_ireturn dJ2_newCapacity_58 rfl rfl kk
abbrev kJ2_isLatin1 : ZK := (RJ2, cJ2_isLatin1, 1, (Option.some Jvm.ClassFile.FieldType.boolean), [], false, fJ2)
abbrev tJ2_isLatin1 (g : ZG) (args : List Value) (M : ZM) (d c s : Nat) (Q : ZQ) : Prop := Ct g yJ2_isLatin1 (ws_ yJ2_isLatin1 cJ2_isLatin1 1 (Option.some Jvm.ClassFile.FieldType.boolean)) args M d c s Q
abbrev nJ2_isLatin1 : Nat := 1
theorem mJ2_isLatin1 : zMok yJ2_isLatin1 0 1 := ⟨⟨by decide +kernel, by decide +kernel, by decide +kernel⟩, by decide⟩
theorem eJ2_isLatin1 {g : ZG} {Q : ZQ} {d cN sN : Nat} {M : ZM} {a0 : Nat} (hV : zV g) (h : Z g kJ2_isLatin1 Q d cN sN M 0 [some (.ref a0)] []) : tJ2_isLatin1 g [.ref a0] M d cN sN Q := Ct.of (K := kJ2_isLatin1) rfl (by decide +kernel) hV fokJ2 rfl (fun h => by cases h) (fun v hv => by simp only [List.mem_cons, List.not_mem_nil, or_false] at hv; rcases hv with rfl <;> first | rfl | assumption) (Nat.le_of_ble_eq_true rfl) h
theorem sJ2_isLatin1_3 {g : ZG} {Q : ZQ} {d cN sN : Nat} {M : ZM} {t0 : Int32} {o0 : Option Value}  (kt : (t0 : Int32) = 0 → Z g kJ2_isLatin1 Q d cN sN M 17 [o0] []) (kf : ¬ (t0 : Int32) = 0 → Z g kJ2_isLatin1 Q d cN sN M 6 [o0] []) : Z g kJ2_isLatin1 Q d cN sN M 3 [o0] [.int t0] := by
  exact zi_if_eq (tgt := 17) dJ2_isLatin1_3 (by decide +kernel) kt kf
theorem sJ2_isLatin1_6 {g : ZG} {Q : ZQ} {d cN sN : Nat} {M : ZM} {l0 : Nat} {fs1 : List Value} {y3 : Int32} (h2 : M.1 l0 = some (.inr (8, fs1))) (h4 : (fs1)[1]? = some (.int y3)) (kt : ¬ (y3 : Int32) = 0 → Z g kJ2_isLatin1 Q d cN sN M 17 [some (.ref l0)] []) (kf : (y3 : Int32) = 0 → Z g kJ2_isLatin1 Q d cN sN M 13 [some (.ref l0)] []) : Z g kJ2_isLatin1 Q d cN sN M 6 [some (.ref l0)] [] := by
  refine zi_aload_n dJ2_isLatin1_6 rfl zrf_r ?_
  refine zi_getfield dJ2_isLatin1_7 rfl h2 h4 ?_
  exact zi_if_ne (tgt := 17) dJ2_isLatin1_10 (by decide +kernel) kt kf
theorem sJ2_isLatin1_13 {g : ZG} {Q : ZQ} {d cN sN : Nat} {M : ZM} {o0 : Option Value}  (kk : Z g kJ2_isLatin1 Q d cN sN M 18 [o0] [.int 1]) : Z g kJ2_isLatin1 Q d cN sN M 13 [o0] [] := by
  refine zi_iconst dJ2_isLatin1_13 (by decide +kernel : Int32.ofInt (1) = (1 : Int32)) ?_
  exact zi_goto (tgt := 18) dJ2_isLatin1_14 (by decide +kernel) kk
theorem sJ2_isLatin1_17 {g : ZG} {Q : ZQ} {d cN sN : Nat} {M : ZM} {o0 : Option Value}  (kk : Z g kJ2_isLatin1 Q d cN sN M 18 [o0] [.int 0]) : Z g kJ2_isLatin1 Q d cN sN M 17 [o0] [] := by
  refine zi_iconst dJ2_isLatin1_17 (by decide +kernel : Int32.ofInt (0) = (0 : Int32)) ?_
  exact kk
theorem sJ2_isLatin1_18 {g : ZG} {Q : ZQ} {d cN sN : Nat} {M : ZM} {t0 : Int32} {o0 : Option Value} (h1 : t0 = 0 ∨ t0 = 1) (kk : Q.1 (some (.int t0)) M) : Z g kJ2_isLatin1 Q d cN sN M 18 [o0] [.int t0] := by
  exact zi_ireturn dJ2_isLatin1_18 rfl (znar_z h1) kk
abbrev kJ2_putStringAt : ZK := (RJ2, cJ2_putStringAt, 3, (Option.none : Option Jvm.ClassFile.FieldType), [], false, fJ2)
abbrev tJ2_putStringAt (g : ZG) (args : List Value) (M : ZM) (d c s : Nat) (Q : ZQ) : Prop := Ct g yJ2_putStringAt (ws_ yJ2_putStringAt cJ2_putStringAt 3 (Option.none : Option Jvm.ClassFile.FieldType)) args M d c s Q
abbrev nJ2_putStringAt : Nat := 13
theorem mJ2_putStringAt : zMok yJ2_putStringAt 2 3 := ⟨⟨by decide +kernel, by decide +kernel, by decide +kernel⟩, by decide⟩
theorem eJ2_putStringAt {g : ZG} {Q : ZQ} {d cN sN : Nat} {M : ZM} {a0 : Nat} {x1 : Int32} {v2 : Value} (hv2 : v2.category = 1) (hV : zV g) (h : Z g kJ2_putStringAt Q d cN sN M 0 [some (.ref a0), some (.int x1), some (v2)] []) : tJ2_putStringAt g [.ref a0, .int x1, v2] M d cN sN Q := Ct.of (K := kJ2_putStringAt) rfl (by decide +kernel) hV fokJ2 rfl (fun h => by cases h) (fun v hv => by simp only [List.mem_cons, List.not_mem_nil, or_false] at hv; rcases hv with rfl | rfl | rfl <;> first | rfl | assumption) (Nat.le_of_ble_eq_true rfl) h
theorem sJ2_putStringAt_0 {g : ZG} {Q : ZQ} {d cN sN : Nat} {M : ZM} {l0 : Nat} {l2 : Nat} {o1 : Option Value}  (kk : Z g kJ2_putStringAt Q d cN sN M 2 [some (.ref l0), o1, some (.ref l2)] [.ref l2, .ref l0]) : Z g kJ2_putStringAt Q d cN sN M 0 [some (.ref l0), o1, some (.ref l2)] [] := by
  refine zi_aload_n dJ2_putStringAt_0 rfl zrf_r ?_
  refine zi_aload_n dJ2_putStringAt_1 rfl zrf_r ?_
  exact kk
theorem sJ2_putStringAt_5 {g : ZG} {Q : ZQ} {d cN sN : Nat} {M : ZM} {l2 : Nat} {l0 : Nat} {fs1 : List Value} {r3 : Nat} {l1 : Int32} {y5 : Int32} (h2 : M.1 l0 = some (.inr (8, fs1))) (h4 : (fs1)[0]? = some (.ref r3)) (h6 : (fs1)[1]? = some (.int y5)) (kk : Z g kJ2_putStringAt Q d cN sN M 15 [some (.ref l0), some (.int l1), some (.ref l2)] [.int y5, .int l1, .ref r3, .ref l2]) : Z g kJ2_putStringAt Q d cN sN M 5 [some (.ref l0), some (.int l1), some (.ref l2)] [] := by
  refine zi_aload_n dJ2_putStringAt_5 rfl zrf_r ?_
  refine zi_aload_n dJ2_putStringAt_6 rfl zrf_r ?_
  refine zi_getfield dJ2_putStringAt_7 rfl h2 h4 ?_
  refine zi_iload_n dJ2_putStringAt_10 rfl ?_
  refine zi_aload_n dJ2_putStringAt_11 rfl zrf_r ?_
  refine zi_getfield dJ2_putStringAt_12 rfl h2 h6 ?_
  exact kk
theorem sJ2_putStringAt_18 {g : ZG} {Q : ZQ} {d cN sN : Nat} {M : ZM} {o0 o1 o2 : Option Value}  (kk : Q.1 none M) : Z g kJ2_putStringAt Q d cN sN M 18 [o0, o1, o2] [] := by
  exact zi_return dJ2_putStringAt_18 rfl kk
abbrev kJ2_inflateIfNeededFor : ZK := (RJ2, cJ2_inflateIfNeededFor, 2, (Option.none : Option Jvm.ClassFile.FieldType), [], false, fJ2)
abbrev tJ2_inflateIfNeededFor (g : ZG) (args : List Value) (M : ZM) (d c s : Nat) (Q : ZQ) : Prop := Ct g yJ2_inflateIfNeededFor (ws_ yJ2_inflateIfNeededFor cJ2_inflateIfNeededFor 2 (Option.none : Option Jvm.ClassFile.FieldType)) args M d c s Q
abbrev nJ2_inflateIfNeededFor : Nat := 12
theorem mJ2_inflateIfNeededFor : zMok yJ2_inflateIfNeededFor 1 2 := ⟨⟨by decide +kernel, by decide +kernel, by decide +kernel⟩, by decide⟩
theorem eJ2_inflateIfNeededFor {g : ZG} {Q : ZQ} {d cN sN : Nat} {M : ZM} {a0 : Nat} {v1 : Value} (hv1 : v1.category = 1) (hV : zV g) (h : Z g kJ2_inflateIfNeededFor Q d cN sN M 0 [some (.ref a0), some (v1)] []) : tJ2_inflateIfNeededFor g [.ref a0, v1] M d cN sN Q := Ct.of (K := kJ2_inflateIfNeededFor) rfl (by decide +kernel) hV fokJ2 rfl (fun h => by cases h) (fun v hv => by simp only [List.mem_cons, List.not_mem_nil, or_false] at hv; rcases hv with rfl | rfl <;> first | rfl | assumption) (Nat.le_of_ble_eq_true rfl) h
theorem sJ2_inflateIfNeededFor_3 {g : ZG} {Q : ZQ} {d cN sN : Nat} {M : ZM} {t0 : Int32} {o0 o1 : Option Value}  (kt : (t0 : Int32) = 0 → Z g kJ2_inflateIfNeededFor Q d cN sN M 21 [o0, o1] []) (kf : ¬ (t0 : Int32) = 0 → Z g kJ2_inflateIfNeededFor Q d cN sN M 6 [o0, o1] []) : Z g kJ2_inflateIfNeededFor Q d cN sN M 3 [o0, o1] [.int t0] := by
  exact zi_if_eq (tgt := 21) dJ2_inflateIfNeededFor_3 (by decide +kernel) kt kf
theorem sJ2_inflateIfNeededFor_6 {g : ZG} {Q : ZQ} {d cN sN : Nat} {M : ZM} {l0 : Nat} {fs1 : List Value} {y3 : Int32} {l1 : Nat} (h2 : M.1 l0 = some (.inr (8, fs1))) (h4 : (fs1)[1]? = some (.int y3)) (kk : Z g kJ2_inflateIfNeededFor Q d cN sN M 11 [some (.ref l0), some (.ref l1)] [.ref l1, .int y3]) : Z g kJ2_inflateIfNeededFor Q d cN sN M 6 [some (.ref l0), some (.ref l1)] [] := by
  refine zi_aload_n dJ2_inflateIfNeededFor_6 rfl zrf_r ?_
  refine zi_getfield dJ2_inflateIfNeededFor_7 rfl h2 h4 ?_
  refine zi_aload_n dJ2_inflateIfNeededFor_10 rfl zrf_r ?_
  exact kk
theorem sJ2_inflateIfNeededFor_14 {g : ZG} {Q : ZQ} {d cN sN : Nat} {M : ZM} {t0 : Int32} {t1 : Int32} {o0 o1 : Option Value}  (kt : (t0 : Int32) = (t1 : Int32) → Z g kJ2_inflateIfNeededFor Q d cN sN M 21 [o0, o1] []) (kf : ¬ (t0 : Int32) = (t1 : Int32) → Z g kJ2_inflateIfNeededFor Q d cN sN M 17 [o0, o1] []) : Z g kJ2_inflateIfNeededFor Q d cN sN M 14 [o0, o1] [.int t1, .int t0] := by
  exact zi_icmp_eq (tgt := 21) dJ2_inflateIfNeededFor_14 (by decide +kernel) kt kf
theorem sJ2_inflateIfNeededFor_17 {g : ZG} {Q : ZQ} {d cN sN : Nat} {M : ZM} {l0 : Nat} {o1 : Option Value}  (kk : Z g kJ2_inflateIfNeededFor Q d cN sN M 18 [some (.ref l0), o1] [.ref l0]) : Z g kJ2_inflateIfNeededFor Q d cN sN M 17 [some (.ref l0), o1] [] := by
  refine zi_aload_n dJ2_inflateIfNeededFor_17 rfl zrf_r ?_
  exact kk
theorem sJ2_inflateIfNeededFor_21 {g : ZG} {Q : ZQ} {d cN sN : Nat} {M : ZM} {o0 o1 : Option Value}  (kk : Q.1 none M) : Z g kJ2_inflateIfNeededFor Q d cN sN M 21 [o0, o1] [] := by
  exact zi_return dJ2_inflateIfNeededFor_21 rfl kk
abbrev kJ2_inflate : ZK := (RJ2, cJ2_inflate, 2, (Option.none : Option Jvm.ClassFile.FieldType), [], false, fJ2)
abbrev tJ2_inflate (g : ZG) (args : List Value) (M : ZM) (d c s : Nat) (Q : ZQ) : Prop := Ct g yJ2_inflate (ws_ yJ2_inflate cJ2_inflate 2 (Option.none : Option Jvm.ClassFile.FieldType)) args M d c s Q
abbrev nJ2_inflate : Nat := 11
theorem mJ2_inflate : zMok yJ2_inflate 0 2 := ⟨⟨by decide +kernel, by decide +kernel, by decide +kernel⟩, by decide⟩
theorem eJ2_inflate {g : ZG} {Q : ZQ} {d cN sN : Nat} {M : ZM} {a0 : Nat} (hV : zV g) (h : Z g kJ2_inflate Q d cN sN M 0 [some (.ref a0), none] []) : tJ2_inflate g [.ref a0] M d cN sN Q := Ct.of (K := kJ2_inflate) rfl (by decide +kernel) hV fokJ2 rfl (fun h => by cases h) (fun v hv => by simp only [List.mem_cons, List.not_mem_nil, or_false] at hv; rcases hv with rfl <;> first | rfl | assumption) (Nat.le_of_ble_eq_true rfl) h
theorem sJ2_inflate_0 {g : ZG} {Q : ZQ} {d cN sN : Nat} {M : ZM} {l0 : Nat} {o1 : Option Value}  (kk : Z g kJ2_inflate Q d cN sN M 1 [some (.ref l0), o1] [.ref l0]) : Z g kJ2_inflate Q d cN sN M 0 [some (.ref l0), o1] [] := by
  refine zi_aload_n dJ2_inflate_0 rfl zrf_r ?_
  exact kk
theorem sJ2_inflate_4 {g : ZG} {Q : ZQ} {d cN sN : Nat} {M : ZM} {t0 : Int32} {o0 o1 : Option Value}  (kt : ¬ (t0 : Int32) = 0 → Z g kJ2_inflate Q d cN sN M 8 [o0, o1] []) (kf : (t0 : Int32) = 0 → Z g kJ2_inflate Q d cN sN M 7 [o0, o1] []) : Z g kJ2_inflate Q d cN sN M 4 [o0, o1] [.int t0] := by
  exact zi_if_ne (tgt := 8) dJ2_inflate_4 (by decide +kernel) kt kf
theorem sJ2_inflate_7 {g : ZG} {Q : ZQ} {d cN sN : Nat} {M : ZM} {o0 o1 : Option Value}  (kk : Q.1 none M) : Z g kJ2_inflate Q d cN sN M 7 [o0, o1] [] := by
  exact zi_return dJ2_inflate_7 rfl kk
theorem sJ2_inflate_8 {g : ZG} {Q : ZQ} {d cN sN : Nat} {M : ZM} {l0 : Nat} {fs1 : List Value} {r3 : Nat} {u5 : vp_A} {c6 : ClassId} {k7 : Nat} {ty8 : FieldType} {o1 : Option Value} (h2 : M.1 l0 = some (.inr (8, fs1))) (h4 : (fs1)[0]? = some (.ref r3)) (h9 : M.1 r3 = some (.inl (c6, u5))) (h10 : (ztys g)[k7]? = some (c6, ty8)) (kk : Z g kJ2_inflate Q d cN sN M 13 [some (.ref l0), o1] [.int (Int32.ofNat u5.1)]) : Z g kJ2_inflate Q d cN sN M 8 [some (.ref l0), o1] [] := by
  refine zi_aload_n dJ2_inflate_8 rfl zrf_r ?_
  refine zi_getfield dJ2_inflate_9 rfl h2 h4 ?_
  refine zi_arraylength dJ2_inflate_12 h9 h10 ?_
  exact kk
theorem sJ2_inflate_16 {g : ZG} {Q : ZQ} {d cN sN : Nat} {M : ZM} {t0 : Nat} {l0 : Nat} {fs1 : List Value} {r3 : Nat} {y5 : Int32} {o1 : Option Value} (h2 : M.1 l0 = some (.inr (8, fs1))) (h4 : (fs1)[0]? = some (.ref r3)) (h6 : (fs1)[3]? = some (.int y5)) (kk : Z g kJ2_inflate Q d cN sN M 28 [some (.ref l0), some (.ref t0)] [.int y5, .int 0, .ref t0, .int 0, .ref r3]) : Z g kJ2_inflate Q d cN sN M 16 [some (.ref l0), o1] [.ref t0] := by
  refine zi_astore_n dJ2_inflate_16 zrf_r (Nat.le_of_ble_eq_true rfl) ?_
  refine zi_aload_n dJ2_inflate_17 rfl zrf_r ?_
  refine zi_getfield dJ2_inflate_18 rfl h2 h4 ?_
  refine zi_iconst dJ2_inflate_21 (by decide +kernel : Int32.ofInt (0) = (0 : Int32)) ?_
  refine zi_aload_n dJ2_inflate_22 rfl zrf_r ?_
  refine zi_iconst dJ2_inflate_23 (by decide +kernel : Int32.ofInt (0) = (0 : Int32)) ?_
  refine zi_aload_n dJ2_inflate_24 rfl zrf_r ?_
  refine zi_getfield dJ2_inflate_25 rfl h2 h6 ?_
  exact kk
theorem sJ2_inflate_31 {g : ZG} {Q : ZQ} {d cN sN : Nat} {M : ZM} {l0 : Nat} {l1 : Nat} {fs1 : List Value} (h2 : M.1 l0 = some (.inr (8, fs1))) (h3 : 0 < (fs1).length) (h4 : 1 < (((fs1).set 0 (.ref l1))).length) (h5 : zfit .byte (.int 1)) (kk : Q.1 none (zup (zup M l0 (.inr (8, (fs1).set 0 (.ref l1)))) l0 (.inr (8, (((fs1).set 0 (.ref l1))).set 1 (.int 1))))) : Z g kJ2_inflate Q d cN sN M 31 [some (.ref l0), some (.ref l1)] [] := by
  refine zi_aload_n dJ2_inflate_31 rfl zrf_r ?_
  refine zi_aload_n dJ2_inflate_32 rfl zrf_r ?_
  refine zi_putfield dJ2_inflate_33 rfl h2 h3 (zfit_a zrf_r) (Or.inl rfl) ?_
  refine zi_aload_n dJ2_inflate_36 rfl zrf_r ?_
  refine zi_iconst dJ2_inflate_37 (by decide +kernel : Int32.ofInt (1) = (1 : Int32)) ?_
  refine zi_putfield dJ2_inflate_38 rfl (zup_self _ _ _) h4 h5 (Or.inl rfl) ?_
  exact zi_return dJ2_inflate_41 rfl kk
abbrev kJ2_append_2 : ZK := (RJ2, cJ2_append_2, 4, (Option.some (Jvm.ClassFile.FieldType.object "java/lang/AbstractStringBuilder")), [], false, fJ2)
abbrev tJ2_append_2 (g : ZG) (args : List Value) (M : ZM) (d c s : Nat) (Q : ZQ) : Prop := Ct g yJ2_append_2 (ws_ yJ2_append_2 cJ2_append_2 4 (Option.some (Jvm.ClassFile.FieldType.object "java/lang/AbstractStringBuilder"))) args M d c s Q
abbrev nJ2_append_2 : Nat := 11
theorem mJ2_append_2 : zMok yJ2_append_2 1 4 := ⟨⟨by decide +kernel, by decide +kernel, by decide +kernel⟩, by decide⟩
theorem eJ2_append_2 {g : ZG} {Q : ZQ} {d cN sN : Nat} {M : ZM} {a0 : Nat} {x1 : Int32} (hV : zV g) (h : Z g kJ2_append_2 Q d cN sN M 0 [some (.ref a0), some (.int x1), none, none] []) : tJ2_append_2 g [.ref a0, .int x1] M d cN sN Q := Ct.of (K := kJ2_append_2) rfl (by decide +kernel) hV fokJ2 rfl (fun h => by cases h) (fun v hv => by simp only [List.mem_cons, List.not_mem_nil, or_false] at hv; rcases hv with rfl | rfl <;> first | rfl | assumption) (Nat.le_of_ble_eq_true rfl) h
theorem sJ2_append_2_0 {g : ZG} {Q : ZQ} {d cN sN : Nat} {M : ZM} {l0 : Nat} {fs1 : List Value} {y3 : Int32} {l1 : Int32} {o2 o3 : Option Value} (h2 : M.1 l0 = some (.inr (8, fs1))) (h4 : (fs1)[3]? = some (.int y3)) (kk : Z g kJ2_append_2 Q d cN sN M 7 [some (.ref l0), some (.int l1), some (.int y3), o3] [.int l1, .int y3]) : Z g kJ2_append_2 Q d cN sN M 0 [some (.ref l0), some (.int l1), o2, o3] [] := by
  refine zi_aload_n dJ2_append_2_0 rfl zrf_r ?_
  refine zi_getfield dJ2_append_2_1 rfl h2 h4 ?_
  refine zi_istore_n dJ2_append_2_4 (Nat.le_of_ble_eq_true rfl) ?_
  refine zi_iload_n dJ2_append_2_5 rfl ?_
  refine zi_iload_n dJ2_append_2_6 rfl ?_
  exact kk
theorem sJ2_append_2_10 {g : ZG} {Q : ZQ} {d cN sN : Nat} {M : ZM} {t0 : Int32} {t1 : Int32} {l0 : Nat} {o1 o2 o3 : Option Value}  (kk : Z g kJ2_append_2 Q d cN sN M 14 [some (.ref l0), o1, o2, some (.int (t0 + t1))] [.int (t0 + t1), .ref l0]) : Z g kJ2_append_2 Q d cN sN M 10 [some (.ref l0), o1, o2, o3] [.int t1, .int t0] := by
  refine zi_iadd dJ2_append_2_10 ?_
  refine zi_istore_n dJ2_append_2_11 (Nat.le_of_ble_eq_true rfl) ?_
  refine zi_aload_n dJ2_append_2_12 rfl zrf_r ?_
  refine zi_iload_n dJ2_append_2_13 rfl ?_
  exact kk
theorem sJ2_append_2_17 {g : ZG} {Q : ZQ} {d cN sN : Nat} {M : ZM} {l0 : Nat} {o1 o2 o3 : Option Value}  (kk : Z g kJ2_append_2 Q d cN sN M 18 [some (.ref l0), o1, o2, o3] [.ref l0]) : Z g kJ2_append_2 Q d cN sN M 17 [some (.ref l0), o1, o2, o3] [] := by
  refine zi_aload_n dJ2_append_2_17 rfl zrf_r ?_
  exact kk
theorem sJ2_append_2_21 {g : ZG} {Q : ZQ} {d cN sN : Nat} {M : ZM} {t0 : Int32} {o0 o1 o2 o3 : Option Value}  (kt : (t0 : Int32) = 0 → Z g kJ2_append_2 Q d cN sN M 37 [o0, o1, o2, o3] []) (kf : ¬ (t0 : Int32) = 0 → Z g kJ2_append_2 Q d cN sN M 24 [o0, o1, o2, o3] []) : Z g kJ2_append_2 Q d cN sN M 21 [o0, o1, o2, o3] [.int t0] := by
  exact zi_if_eq (tgt := 37) dJ2_append_2_21 (by decide +kernel) kt kf
theorem sJ2_append_2_24 {g : ZG} {Q : ZQ} {d cN sN : Nat} {M : ZM} {l1 : Int32} {l3 : Int32} {l0 : Nat} {fs1 : List Value} {r3 : Nat} {o2 : Option Value} (h2 : M.1 l0 = some (.inr (8, fs1))) (h4 : (fs1)[0]? = some (.ref r3)) (kk : Z g kJ2_append_2 Q d cN sN M 30 [some (.ref l0), some (.int l1), o2, some (.int l3)] [.ref r3, .int l3, .int l1]) : Z g kJ2_append_2 Q d cN sN M 24 [some (.ref l0), some (.int l1), o2, some (.int l3)] [] := by
  refine zi_iload_n dJ2_append_2_24 rfl ?_
  refine zi_iload_n dJ2_append_2_25 rfl ?_
  refine zi_aload_n dJ2_append_2_26 rfl zrf_r ?_
  refine zi_getfield dJ2_append_2_27 rfl h2 h4 ?_
  exact kk
theorem sJ2_append_2_33 {g : ZG} {Q : ZQ} {d cN sN : Nat} {M : ZM} {t0 : Int32} {o0 o1 o2 o3 : Option Value}  (kk : Z g kJ2_append_2 Q d cN sN M 48 [o0, o1, o2, o3] []) : Z g kJ2_append_2 Q d cN sN M 33 [o0, o1, o2, o3] [.int t0] := by
  refine zi_pop dJ2_append_2_33 rfl ?_
  exact zi_goto (tgt := 48) dJ2_append_2_34 (by decide +kernel) kk
theorem sJ2_append_2_37 {g : ZG} {Q : ZQ} {d cN sN : Nat} {M : ZM} {l1 : Int32} {l2 : Int32} {l3 : Int32} {l0 : Nat} {fs1 : List Value} {r3 : Nat} (h2 : M.1 l0 = some (.inr (8, fs1))) (h4 : (fs1)[0]? = some (.ref r3)) (kk : Z g kJ2_append_2 Q d cN sN M 44 [some (.ref l0), some (.int l1), some (.int l2), some (.int l3)] [.ref r3, .int l3, .int l2, .int l1]) : Z g kJ2_append_2 Q d cN sN M 37 [some (.ref l0), some (.int l1), some (.int l2), some (.int l3)] [] := by
  refine zi_iload_n dJ2_append_2_37 rfl ?_
  refine zi_iload_n dJ2_append_2_38 rfl ?_
  refine zi_iload_n dJ2_append_2_39 rfl ?_
  refine zi_aload_n dJ2_append_2_40 rfl zrf_r ?_
  refine zi_getfield dJ2_append_2_41 rfl h2 h4 ?_
  exact kk
theorem sJ2_append_2_47 {g : ZG} {Q : ZQ} {d cN sN : Nat} {M : ZM} {t0 : Int32} {o0 o1 o2 o3 : Option Value}  (kk : Z g kJ2_append_2 Q d cN sN M 48 [o0, o1, o2, o3] []) : Z g kJ2_append_2 Q d cN sN M 47 [o0, o1, o2, o3] [.int t0] := by
  refine zi_pop dJ2_append_2_47 rfl ?_
  exact kk
theorem sJ2_append_2_48 {g : ZG} {Q : ZQ} {d cN sN : Nat} {M : ZM} {l0 : Nat} {l3 : Int32} {fs1 : List Value} {o1 o2 : Option Value} (h2 : M.1 l0 = some (.inr (8, fs1))) (h3 : 3 < (fs1).length) (kk : Q.1 (some (.ref l0)) (zup M l0 (.inr (8, (fs1).set 3 (.int l3))))) : Z g kJ2_append_2 Q d cN sN M 48 [some (.ref l0), o1, o2, some (.int l3)] [] := by
  refine zi_aload_n dJ2_append_2_48 rfl zrf_r ?_
  refine zi_iload_n dJ2_append_2_49 rfl ?_
  refine zi_putfield dJ2_append_2_50 rfl h2 h3 zfit_i (Or.inl rfl) ?_
  refine zi_aload_n dJ2_append_2_53 rfl zrf_r ?_
  exact zi_areturn dJ2_append_2_54 zrf_r rfl (Or.inl ⟨_, rfl⟩) kk
abbrev kJ2_getValue : ZK := (RJ2, cJ2_getValue, 1, (Option.some (Jvm.ClassFile.FieldType.array Jvm.ClassFile.FieldType.byte)), [], false, fJ2)
abbrev tJ2_getValue (g : ZG) (args : List Value) (M : ZM) (d c s : Nat) (Q : ZQ) : Prop := Ct g yJ2_getValue (ws_ yJ2_getValue cJ2_getValue 1 (Option.some (Jvm.ClassFile.FieldType.array Jvm.ClassFile.FieldType.byte))) args M d c s Q
abbrev nJ2_getValue : Nat := 1
theorem mJ2_getValue : zMok yJ2_getValue 0 1 := ⟨⟨by decide +kernel, by decide +kernel, by decide +kernel⟩, by decide⟩
theorem eJ2_getValue {g : ZG} {Q : ZQ} {d cN sN : Nat} {M : ZM} {a0 : Nat} (hV : zV g) (h : Z g kJ2_getValue Q d cN sN M 0 [some (.ref a0)] []) : tJ2_getValue g [.ref a0] M d cN sN Q := Ct.of (K := kJ2_getValue) rfl (by decide +kernel) hV fokJ2 rfl (fun h => by cases h) (fun v hv => by simp only [List.mem_cons, List.not_mem_nil, or_false] at hv; rcases hv with rfl <;> first | rfl | assumption) (Nat.le_of_ble_eq_true rfl) h
theorem sJ2_getValue_0 {g : ZG} {Q : ZQ} {d cN sN : Nat} {M : ZM} {l0 : Nat} {fs1 : List Value} {r3 : Nat} (h2 : M.1 l0 = some (.inr (8, fs1))) (h4 : (fs1)[0]? = some (.ref r3)) (kk : Q.1 (some (.ref r3)) M) : Z g kJ2_getValue Q d cN sN M 0 [some (.ref l0)] [] := by
  refine zi_aload_n dJ2_getValue_0 rfl zrf_r ?_
  refine zi_getfield dJ2_getValue_1 rfl h2 h4 ?_
  exact zi_areturn dJ2_getValue_4 zrf_r rfl (Or.inr ⟨_, rfl⟩) kk
abbrev kJ2_length : ZK := (RJ2, cJ2_length, 1, (Option.some Jvm.ClassFile.FieldType.int), [], false, fJ2)
abbrev tJ2_length (g : ZG) (args : List Value) (M : ZM) (d c s : Nat) (Q : ZQ) : Prop := Ct g yJ2_length (ws_ yJ2_length cJ2_length 1 (Option.some Jvm.ClassFile.FieldType.int)) args M d c s Q
abbrev nJ2_length : Nat := 1
theorem mJ2_length : zMok yJ2_length 0 1 := ⟨⟨by decide +kernel, by decide +kernel, by decide +kernel⟩, by decide⟩
theorem eJ2_length {g : ZG} {Q : ZQ} {d cN sN : Nat} {M : ZM} {a0 : Nat} (hV : zV g) (h : Z g kJ2_length Q d cN sN M 0 [some (.ref a0)] []) : tJ2_length g [.ref a0] M d cN sN Q := Ct.of (K := kJ2_length) rfl (by decide +kernel) hV fokJ2 rfl (fun h => by cases h) (fun v hv => by simp only [List.mem_cons, List.not_mem_nil, or_false] at hv; rcases hv with rfl <;> first | rfl | assumption) (Nat.le_of_ble_eq_true rfl) h
theorem sJ2_length_0 {g : ZG} {Q : ZQ} {d cN sN : Nat} {M : ZM} {l0 : Nat} {fs1 : List Value} {y3 : Int32} (h2 : M.1 l0 = some (.inr (8, fs1))) (h4 : (fs1)[3]? = some (.int y3)) (kk : Q.1 (some (.int y3)) M) : Z g kJ2_length Q d cN sN M 0 [some (.ref l0)] [] := by
  refine zi_aload_n dJ2_length_0 rfl zrf_r ?_
  refine zi_getfield dJ2_length_1 rfl h2 h4 ?_
  exact zi_ireturn dJ2_length_4 rfl rfl kk
abbrev kJ2_append_3 : ZK := (RJ2, cJ2_append_3, 2, (Option.some (Jvm.ClassFile.FieldType.object "java/lang/AbstractStringBuilder")), [], false, fJ2)
abbrev tJ2_append_3 (g : ZG) (args : List Value) (M : ZM) (d c s : Nat) (Q : ZQ) : Prop := Ct g yJ2_append_3 (ws_ yJ2_append_3 cJ2_append_3 2 (Option.some (Jvm.ClassFile.FieldType.object "java/lang/AbstractStringBuilder"))) args M d c s Q
abbrev nJ2_append_3 : Nat := 12
theorem mJ2_append_3 : zMok yJ2_append_3 1 2 := ⟨⟨by decide +kernel, by decide +kernel, by decide +kernel⟩, by decide⟩
theorem eJ2_append_3 {g : ZG} {Q : ZQ} {d cN sN : Nat} {M : ZM} {a0 : Nat} {x1 : Int32} (hV : zV g) (h : Z g kJ2_append_3 Q d cN sN M 0 [some (.ref a0), some (.int x1)] []) : tJ2_append_3 g [.ref a0, .int x1] M d cN sN Q := Ct.of (K := kJ2_append_3) rfl (by decide +kernel) hV fokJ2 rfl (fun h => by cases h) (fun v hv => by simp only [List.mem_cons, List.not_mem_nil, or_false] at hv; rcases hv with rfl | rfl <;> first | rfl | assumption) (Nat.le_of_ble_eq_true rfl) h
theorem sJ2_append_3_0 {g : ZG} {Q : ZQ} {d cN sN : Nat} {M : ZM} {l0 : Nat} {fs1 : List Value} {y3 : Int32} {o1 : Option Value} (h2 : M.1 l0 = some (.inr (8, fs1))) (h4 : (fs1)[3]? = some (.int y3)) (kk : Z g kJ2_append_3 Q d cN sN M 7 [some (.ref l0), o1] [.int (y3 + 1), .ref l0]) : Z g kJ2_append_3 Q d cN sN M 0 [some (.ref l0), o1] [] := by
  refine zi_aload_n dJ2_append_3_0 rfl zrf_r ?_
  refine zi_aload_n dJ2_append_3_1 rfl zrf_r ?_
  refine zi_getfield dJ2_append_3_2 rfl h2 h4 ?_
  refine zi_iconst dJ2_append_3_5 (by decide +kernel : Int32.ofInt (1) = (1 : Int32)) ?_
  refine zi_iadd dJ2_append_3_6 ?_
  exact kk
theorem sJ2_append_3_10 {g : ZG} {Q : ZQ} {d cN sN : Nat} {M : ZM} {l0 : Nat} {o1 : Option Value}  (kk : Z g kJ2_append_3 Q d cN sN M 11 [some (.ref l0), o1] [.ref l0]) : Z g kJ2_append_3 Q d cN sN M 10 [some (.ref l0), o1] [] := by
  refine zi_aload_n dJ2_append_3_10 rfl zrf_r ?_
  exact kk
theorem sJ2_append_3_14 {g : ZG} {Q : ZQ} {d cN sN : Nat} {M : ZM} {t0 : Int32} {o0 o1 : Option Value}  (kt : (t0 : Int32) = 0 → Z g kJ2_append_3 Q d cN sN M 45 [o0, o1] []) (kf : ¬ (t0 : Int32) = 0 → Z g kJ2_append_3 Q d cN sN M 17 [o0, o1] []) : Z g kJ2_append_3 Q d cN sN M 14 [o0, o1] [.int t0] := by
  exact zi_if_eq (tgt := 45) dJ2_append_3_14 (by decide +kernel) kt kf
theorem sJ2_append_3_17 {g : ZG} {Q : ZQ} {d cN sN : Nat} {M : ZM} {l1 : Int32} {o0 : Option Value}  (kk : Z g kJ2_append_3 Q d cN sN M 18 [o0, some (.int l1)] [.int l1]) : Z g kJ2_append_3 Q d cN sN M 17 [o0, some (.int l1)] [] := by
  refine zi_iload_n dJ2_append_3_17 rfl ?_
  exact kk
theorem sJ2_append_3_21 {g : ZG} {Q : ZQ} {d cN sN : Nat} {M : ZM} {t0 : Int32} {o0 o1 : Option Value}  (kt : (t0 : Int32) = 0 → Z g kJ2_append_3 Q d cN sN M 45 [o0, o1] []) (kf : ¬ (t0 : Int32) = 0 → Z g kJ2_append_3 Q d cN sN M 24 [o0, o1] []) : Z g kJ2_append_3 Q d cN sN M 21 [o0, o1] [.int t0] := by
  exact zi_if_eq (tgt := 45) dJ2_append_3_21 (by decide +kernel) kt kf
theorem sJ2_append_3_24 {g : ZG} {Q : ZQ} {d cN sN : Nat} {M : ZM} {l0 : Nat} {fs1 : List Value} {r3 : Nat} {y5 : Int32} {l1 : Int32} {n8 : Nat} {f9 : Nat → Int32} (h2 : M.1 l0 = some (.inr (8, fs1))) (h4 : (fs1)[0]? = some (.ref r3)) (h6 : (fs1)[3]? = some (.int y5)) (h7 : 3 < (fs1).length) (h10 : (zup M l0 (.inr (8, (fs1).set 3 (.int (y5 + 1))))).1 r3 = some (.inl (zA g 4, n8, .inl (f9)))) (h11 : vp_in (y5) n8) (kk : Z g kJ2_append_3 Q d cN sN (zup (zup M l0 (.inr (8, (fs1).set 3 (.int (y5 + 1))))) r3 (.inl (zA g 4, n8, .inl (upd f9 ((y5 : Int32).toNatClampNeg) (vp_nar .byte ((l1 : Int32).toInt8.toInt32)))))) 75 [some (.ref l0), some (.int l1)] []) : Z g kJ2_append_3 Q d cN sN M 24 [some (.ref l0), some (.int l1)] [] := by
  refine zi_aload_n dJ2_append_3_24 rfl zrf_r ?_
  refine zi_getfield dJ2_append_3_25 rfl h2 h4 ?_
  refine zi_aload_n dJ2_append_3_28 rfl zrf_r ?_
  refine zi_dup dJ2_append_3_29 rfl ?_
  refine zi_getfield dJ2_append_3_30 rfl h2 h6 ?_
  refine zi_dup_x1 dJ2_append_3_33 rfl rfl ?_
  refine zi_iconst dJ2_append_3_34 (by decide +kernel : Int32.ofInt (1) = (1 : Int32)) ?_
  refine zi_iadd dJ2_append_3_35 ?_
  refine zi_putfield dJ2_append_3_36 rfl h2 h7 zfit_i (Or.inl rfl) ?_
  refine zi_iload_n dJ2_append_3_39 rfl ?_
  refine zi_i2b dJ2_append_3_40 ?_
  refine zi_bastore dJ2_append_3_41 h10 h11 ?_
  exact zi_goto (tgt := 75) dJ2_append_3_42 (by decide +kernel) kk
theorem sJ2_append_3_45 {g : ZG} {Q : ZQ} {d cN sN : Nat} {M : ZM} {l0 : Nat} {o1 : Option Value}  (kk : Z g kJ2_append_3 Q d cN sN M 46 [some (.ref l0), o1] [.ref l0]) : Z g kJ2_append_3 Q d cN sN M 45 [some (.ref l0), o1] [] := by
  refine zi_aload_n dJ2_append_3_45 rfl zrf_r ?_
  exact kk
theorem sJ2_append_3_49 {g : ZG} {Q : ZQ} {d cN sN : Nat} {M : ZM} {t0 : Int32} {o0 o1 : Option Value}  (kt : (t0 : Int32) = 0 → Z g kJ2_append_3 Q d cN sN M 56 [o0, o1] []) (kf : ¬ (t0 : Int32) = 0 → Z g kJ2_append_3 Q d cN sN M 52 [o0, o1] []) : Z g kJ2_append_3 Q d cN sN M 49 [o0, o1] [.int t0] := by
  exact zi_if_eq (tgt := 56) dJ2_append_3_49 (by decide +kernel) kt kf
theorem sJ2_append_3_52 {g : ZG} {Q : ZQ} {d cN sN : Nat} {M : ZM} {l0 : Nat} {o1 : Option Value}  (kk : Z g kJ2_append_3 Q d cN sN M 53 [some (.ref l0), o1] [.ref l0]) : Z g kJ2_append_3 Q d cN sN M 52 [some (.ref l0), o1] [] := by
  refine zi_aload_n dJ2_append_3_52 rfl zrf_r ?_
  exact kk
theorem sJ2_append_3_56 {g : ZG} {Q : ZQ} {d cN sN : Nat} {M : ZM} {l0 : Nat} {fs1 : List Value} {r3 : Nat} {y5 : Int32} {l1 : Int32} (h2 : M.1 l0 = some (.inr (8, fs1))) (h4 : (fs1)[0]? = some (.ref r3)) (h6 : (fs1)[3]? = some (.int y5)) (h7 : 3 < (fs1).length) (kk : Z g kJ2_append_3 Q d cN sN (zup M l0 (.inr (8, (fs1).set 3 (.int (y5 + 1))))) 72 [some (.ref l0), some (.int l1)] [.int l1, .int y5, .ref r3]) : Z g kJ2_append_3 Q d cN sN M 56 [some (.ref l0), some (.int l1)] [] := by
  refine zi_aload_n dJ2_append_3_56 rfl zrf_r ?_
  refine zi_getfield dJ2_append_3_57 rfl h2 h4 ?_
  refine zi_aload_n dJ2_append_3_60 rfl zrf_r ?_
  refine zi_dup dJ2_append_3_61 rfl ?_
  refine zi_getfield dJ2_append_3_62 rfl h2 h6 ?_
  refine zi_dup_x1 dJ2_append_3_65 rfl rfl ?_
  refine zi_iconst dJ2_append_3_66 (by decide +kernel : Int32.ofInt (1) = (1 : Int32)) ?_
  refine zi_iadd dJ2_append_3_67 ?_
  refine zi_putfield dJ2_append_3_68 rfl h2 h7 zfit_i (Or.inl rfl) ?_
  refine zi_iload_n dJ2_append_3_71 rfl ?_
  exact kk
theorem sJ2_append_3_75 {g : ZG} {Q : ZQ} {d cN sN : Nat} {M : ZM} {l0 : Nat} {o1 : Option Value}  (kk : Q.1 (some (.ref l0)) M) : Z g kJ2_append_3 Q d cN sN M 75 [some (.ref l0), o1] [] := by
  refine zi_aload_n dJ2_append_3_75 rfl zrf_r ?_
  exact zi_areturn dJ2_append_3_76 zrf_r rfl (Or.inl ⟨_, rfl⟩) kk
abbrev kJ2_charAt : ZK := (RJ2, cJ2_charAt, 5, (Option.some Jvm.ClassFile.FieldType.char), [], false, fJ2)
abbrev tJ2_charAt (g : ZG) (args : List Value) (M : ZM) (d c s : Nat) (Q : ZQ) : Prop := Ct g yJ2_charAt (ws_ yJ2_charAt cJ2_charAt 5 (Option.some Jvm.ClassFile.FieldType.char)) args M d c s Q
abbrev nJ2_charAt : Nat := 9
theorem mJ2_charAt : zMok yJ2_charAt 1 5 := ⟨⟨by decide +kernel, by decide +kernel, by decide +kernel⟩, by decide⟩
theorem eJ2_charAt {g : ZG} {Q : ZQ} {d cN sN : Nat} {M : ZM} {a0 : Nat} {x1 : Int32} (hV : zV g) (h : Z g kJ2_charAt Q d cN sN M 0 [some (.ref a0), some (.int x1), none, none, none] []) : tJ2_charAt g [.ref a0, .int x1] M d cN sN Q := Ct.of (K := kJ2_charAt) rfl (by decide +kernel) hV fokJ2 rfl (fun h => by cases h) (fun v hv => by simp only [List.mem_cons, List.not_mem_nil, or_false] at hv; rcases hv with rfl | rfl <;> first | rfl | assumption) (Nat.le_of_ble_eq_true rfl) h
theorem sJ2_charAt_0 {g : ZG} {Q : ZQ} {d cN sN : Nat} {M : ZM} {l0 : Nat} {fs1 : List Value} {y3 : Int32} {r5 : Nat} {y7 : Int32} {u9 : vp_A} {c10 : ClassId} {k11 : Nat} {ty12 : FieldType} {o1 o2 o3 o4 : Option Value} (h2 : M.1 l0 = some (.inr (8, fs1))) (h4 : (fs1)[1]? = some (.int y3)) (h6 : (fs1)[0]? = some (.ref r5)) (h8 : (fs1)[3]? = some (.int y7)) (h13 : M.1 r5 = some (.inl (c10, u9))) (h14 : (ztys g)[k11]? = some (c10, ty12)) (kk : Z g kJ2_charAt Q d cN sN M 18 [some (.ref l0), o1, some (.int y3), some (.ref r5), o4] [.int ((Int32.ofNat u9.1) >>> (y3 &&& 31)), .int y7]) : Z g kJ2_charAt Q d cN sN M 0 [some (.ref l0), o1, o2, o3, o4] [] := by
  refine zi_aload_n dJ2_charAt_0 rfl zrf_r ?_
  refine zi_getfield dJ2_charAt_1 rfl h2 h4 ?_
  refine zi_istore_n dJ2_charAt_4 (Nat.le_of_ble_eq_true rfl) ?_
  refine zi_aload_n dJ2_charAt_5 rfl zrf_r ?_
  refine zi_getfield dJ2_charAt_6 rfl h2 h6 ?_
  refine zi_astore_n dJ2_charAt_9 zrf_r (Nat.le_of_ble_eq_true rfl) ?_
  refine zi_aload_n dJ2_charAt_10 rfl zrf_r ?_
  refine zi_getfield dJ2_charAt_11 rfl h2 h8 ?_
  refine zi_aload_n dJ2_charAt_14 rfl zrf_r ?_
  refine zi_arraylength dJ2_charAt_15 h13 h14 ?_
  refine zi_iload_n dJ2_charAt_16 rfl ?_
  refine zi_ishr dJ2_charAt_17 ?_
  exact kk
theorem sJ2_charAt_21 {g : ZG} {Q : ZQ} {d cN sN : Nat} {M : ZM} {t0 : Int32} {l1 : Int32} {o0 o2 o3 o4 : Option Value}  (kk : Z g kJ2_charAt Q d cN sN M 26 [o0, some (.int l1), o2, o3, some (.int t0)] [.int t0, .int l1]) : Z g kJ2_charAt Q d cN sN M 21 [o0, some (.int l1), o2, o3, o4] [.int t0] := by
  refine zi_istore dJ2_charAt_21 (Nat.le_of_ble_eq_true rfl) ?_
  refine zi_iload_n dJ2_charAt_23 rfl ?_
  refine zi_iload dJ2_charAt_24 rfl ?_
  exact kk
theorem sJ2_charAt_29 {g : ZG} {Q : ZQ} {d cN sN : Nat} {M : ZM} {l2 : Int32} {o0 o1 o3 o4 : Option Value}  (kt : ¬ (l2 : Int32) = 0 → Z g kJ2_charAt Q d cN sN M 42 [o0, o1, some (.int l2), o3, o4] []) (kf : (l2 : Int32) = 0 → Z g kJ2_charAt Q d cN sN M 33 [o0, o1, some (.int l2), o3, o4] []) : Z g kJ2_charAt Q d cN sN M 29 [o0, o1, some (.int l2), o3, o4] [] := by
  refine zi_iload_n dJ2_charAt_29 rfl ?_
  exact zi_if_ne (tgt := 42) dJ2_charAt_30 (by decide +kernel) kt kf
theorem sJ2_charAt_33 {g : ZG} {Q : ZQ} {d cN sN : Nat} {M : ZM} {l3 : Nat} {l1 : Int32} {n1 : Nat} {f2 : Nat → Int32} {o0 o2 o4 : Option Value} (h3 : M.1 l3 = some (.inl (zA g 4, n1, .inl f2))) (h4 : vp_in (l1) n1) (h5 : narrow .char (.int ((((f2 ((l1 : Int32).toNatClampNeg)) &&& 255 : Int32).toUInt32 % 65536).toInt32)) = .int ((((f2 ((l1 : Int32).toNatClampNeg)) &&& 255 : Int32).toUInt32 % 65536).toInt32)) (kk : Q.1 (some (.int ((((f2 ((l1 : Int32).toNatClampNeg)) &&& 255 : Int32).toUInt32 % 65536).toInt32))) M) : Z g kJ2_charAt Q d cN sN M 33 [o0, some (.int l1), o2, some (.ref l3), o4] [] := by
  refine zi_aload_n dJ2_charAt_33 rfl zrf_r ?_
  refine zi_iload_n dJ2_charAt_34 rfl ?_
  refine zi_baload dJ2_charAt_35 h3 h4 ?_
  refine zi_sipush dJ2_charAt_36 (by decide +kernel : (Int16.ofInt (255)).toInt32 = (255 : Int32)) ?_
  refine zi_iand dJ2_charAt_39 ?_
  refine zi_i2c dJ2_charAt_40 ?_
  exact zi_ireturn dJ2_charAt_41 rfl h5 kk
theorem sJ2_charAt_42 {g : ZG} {Q : ZQ} {d cN sN : Nat} {M : ZM} {l3 : Nat} {l1 : Int32} {o0 o2 o4 : Option Value}  (kk : Z g kJ2_charAt Q d cN sN M 44 [o0, some (.int l1), o2, some (.ref l3), o4] [.int l1, .ref l3]) : Z g kJ2_charAt Q d cN sN M 42 [o0, some (.int l1), o2, some (.ref l3), o4] [] := by
  refine zi_aload_n dJ2_charAt_42 rfl zrf_r ?_
  refine zi_iload_n dJ2_charAt_43 rfl ?_
  exact kk
theorem sJ2_charAt_47 {g : ZG} {Q : ZQ} {d cN sN : Nat} {M : ZM} {t0 : Int32} {o0 o1 o2 o3 o4 : Option Value} (h1 : narrow .char (.int (t0)) = .int (t0)) (kk : Q.1 (some (.int t0)) M) : Z g kJ2_charAt Q d cN sN M 47 [o0, o1, o2, o3, o4] [.int t0] := by
  exact zi_ireturn dJ2_charAt_47 rfl h1 kk
/-! java/lang/StringBuilder (printed by gen_m.py) -/
set_option maxRecDepth 100000
abbrev cJ3_init : ByteArray := prog_31_method_1_code
def yJ3_init : MethodName := ⟨RJ3, "<init>", "()V"⟩
def dkwJ3_init_0 : List UInt8 := [42, 16, 16, 183, 0, 1, 177]
abbrev dktJ3_init_0 : List UInt8 := dkwJ3_init_0 ++ []
theorem dksJ3_init_0 : cJ3_init.data.toList.drop 0 = dktJ3_init_0 := by decide +kernel
theorem dJ3_init_0 : decode cJ3_init 0 = .ok (.aload_n 0, 1) := dk_42 (dk_at dksJ3_init_0 0 rfl rfl)
theorem dJ3_init_1 : decode cJ3_init 1 = .ok (.bipush 16, 2) := dk_16 16 (dk_at dksJ3_init_0 1 rfl rfl)
theorem dJ3_init_3 : decode cJ3_init 3 = .ok (.invokespecial 1, 3) := dk_183 0 1 (dk_at dksJ3_init_0 3 rfl rfl)
theorem dJ3_init_6 : decode cJ3_init 6 = .ok (.return_, 1) := dk_177 (dk_at dksJ3_init_0 6 rfl rfl)
abbrev cJ3_setLength : ByteArray := prog_31_method_89_code
def yJ3_setLength : MethodName := ⟨RJ3, "setLength", "(I)V"⟩
def dkwJ3_setLength_0 : List UInt8 := [42, 27, 183, 1, 77, 177]
abbrev dktJ3_setLength_0 : List UInt8 := dkwJ3_setLength_0 ++ []
theorem dksJ3_setLength_0 : cJ3_setLength.data.toList.drop 0 = dktJ3_setLength_0 := by decide +kernel
theorem dJ3_setLength_0 : decode cJ3_setLength 0 = .ok (.aload_n 0, 1) := dk_42 (dk_at dksJ3_setLength_0 0 rfl rfl)
theorem dJ3_setLength_1 : decode cJ3_setLength 1 = .ok (.iload_n 1, 1) := dk_27 (dk_at dksJ3_setLength_0 1 rfl rfl)
theorem dJ3_setLength_2 : decode cJ3_setLength 2 = .ok (.invokespecial 333, 3) := dk_183 1 77 (dk_at dksJ3_setLength_0 2 rfl rfl)
theorem dJ3_setLength_5 : decode cJ3_setLength 5 = .ok (.return_, 1) := dk_177 (dk_at dksJ3_setLength_0 5 rfl rfl)
abbrev cJ3_append : ByteArray := prog_31_method_7_code
def yJ3_append : MethodName := ⟨RJ3, "append", "(Ljava/lang/String;)Ljava/lang/StringBuilder;"⟩
def dkwJ3_append_0 : List UInt8 := [42, 43, 183, 0, 29, 87, 42, 176]
abbrev dktJ3_append_0 : List UInt8 := dkwJ3_append_0 ++ []
theorem dksJ3_append_0 : cJ3_append.data.toList.drop 0 = dktJ3_append_0 := by decide +kernel
theorem dJ3_append_0 : decode cJ3_append 0 = .ok (.aload_n 0, 1) := dk_42 (dk_at dksJ3_append_0 0 rfl rfl)
theorem dJ3_append_1 : decode cJ3_append 1 = .ok (.aload_n 1, 1) := dk_43 (dk_at dksJ3_append_0 1 rfl rfl)
theorem dJ3_append_2 : decode cJ3_append 2 = .ok (.invokespecial 29, 3) := dk_183 0 29 (dk_at dksJ3_append_0 2 rfl rfl)
theorem dJ3_append_5 : decode cJ3_append 5 = .ok (.pop, 1) := dk_87 (dk_at dksJ3_append_0 5 rfl rfl)
theorem dJ3_append_6 : decode cJ3_append 6 = .ok (.aload_n 0, 1) := dk_42 (dk_at dksJ3_append_0 6 rfl rfl)
theorem dJ3_append_7 : decode cJ3_append 7 = .ok (.areturn, 1) := dk_176 (dk_at dksJ3_append_0 7 rfl rfl)
abbrev cJ3_append_2 : ByteArray := prog_31_method_15_code
def yJ3_append_2 : MethodName := ⟨RJ3, "append", "(I)Ljava/lang/StringBuilder;"⟩
def dkwJ3_append_2_0 : List UInt8 := [42, 27, 183, 0, 53, 87, 42, 176]
abbrev dktJ3_append_2_0 : List UInt8 := dkwJ3_append_2_0 ++ []
theorem dksJ3_append_2_0 : cJ3_append_2.data.toList.drop 0 = dktJ3_append_2_0 := by decide +kernel
theorem dJ3_append_2_0 : decode cJ3_append_2 0 = .ok (.aload_n 0, 1) := dk_42 (dk_at dksJ3_append_2_0 0 rfl rfl)
theorem dJ3_append_2_1 : decode cJ3_append_2 1 = .ok (.iload_n 1, 1) := dk_27 (dk_at dksJ3_append_2_0 1 rfl rfl)
theorem dJ3_append_2_2 : decode cJ3_append_2 2 = .ok (.invokespecial 53, 3) := dk_183 0 53 (dk_at dksJ3_append_2_0 2 rfl rfl)
theorem dJ3_append_2_5 : decode cJ3_append_2 5 = .ok (.pop, 1) := dk_87 (dk_at dksJ3_append_2_0 5 rfl rfl)
theorem dJ3_append_2_6 : decode cJ3_append_2 6 = .ok (.aload_n 0, 1) := dk_42 (dk_at dksJ3_append_2_0 6 rfl rfl)
theorem dJ3_append_2_7 : decode cJ3_append_2 7 = .ok (.areturn, 1) := dk_176 (dk_at dksJ3_append_2_0 7 rfl rfl)
abbrev cJ3_toString : ByteArray := prog_31_method_42_code
def yJ3_toString : MethodName := ⟨RJ3, "toString", "()Ljava/lang/String;"⟩
def dkwJ3_toString_0 : List UInt8 := [187, 0, 18, 89, 42, 183, 0, 137, 176]
abbrev dktJ3_toString_0 : List UInt8 := dkwJ3_toString_0 ++ []
theorem dksJ3_toString_0 : cJ3_toString.data.toList.drop 0 = dktJ3_toString_0 := by decide +kernel
theorem dJ3_toString_0 : decode cJ3_toString 0 = .ok (.new 18, 3) := dk_187 0 18 (dk_at dksJ3_toString_0 0 rfl rfl)
theorem dJ3_toString_3 : decode cJ3_toString 3 = .ok (.dup, 1) := dk_89 (dk_at dksJ3_toString_0 3 rfl rfl)
theorem dJ3_toString_4 : decode cJ3_toString 4 = .ok (.aload_n 0, 1) := dk_42 (dk_at dksJ3_toString_0 4 rfl rfl)
theorem dJ3_toString_5 : decode cJ3_toString 5 = .ok (.invokespecial 137, 3) := dk_183 0 137 (dk_at dksJ3_toString_0 5 rfl rfl)
theorem dJ3_toString_8 : decode cJ3_toString 8 = .ok (.areturn, 1) := dk_176 (dk_at dksJ3_toString_0 8 rfl rfl)
abbrev cJ3_length : ByteArray := prog_31_method_93_code
def yJ3_length : MethodName := ⟨RJ3, "length", "()I"⟩
theorem dJ3_length_0 : decode cJ3_length 0 = .ok (.aload_n 0, 1) := by decide +kernel
theorem dJ3_length_1 : decode cJ3_length 1 = .ok (.invokespecial 343, 3) := by decide +kernel
theorem dJ3_length_4 : decode cJ3_length 4 = .ok (.ireturn, 1) := by decide +kernel
abbrev cJ3_append_3 : ByteArray := prog_31_method_14_code
def yJ3_append_3 : MethodName := ⟨RJ3, "append", "(C)Ljava/lang/StringBuilder;"⟩
def dkwJ3_append_3_0 : List UInt8 := [42, 27, 183, 0, 50, 87, 42, 176]
abbrev dktJ3_append_3_0 : List UInt8 := dkwJ3_append_3_0 ++ []
theorem dksJ3_append_3_0 : cJ3_append_3.data.toList.drop 0 = dktJ3_append_3_0 := by decide +kernel
theorem dJ3_append_3_0 : decode cJ3_append_3 0 = .ok (.aload_n 0, 1) := dk_42 (dk_at dksJ3_append_3_0 0 rfl rfl)
theorem dJ3_append_3_1 : decode cJ3_append_3 1 = .ok (.iload_n 1, 1) := dk_27 (dk_at dksJ3_append_3_0 1 rfl rfl)
theorem dJ3_append_3_2 : decode cJ3_append_3 2 = .ok (.invokespecial 50, 3) := dk_183 0 50 (dk_at dksJ3_append_3_0 2 rfl rfl)
theorem dJ3_append_3_5 : decode cJ3_append_3 5 = .ok (.pop, 1) := dk_87 (dk_at dksJ3_append_3_0 5 rfl rfl)
theorem dJ3_append_3_6 : decode cJ3_append_3 6 = .ok (.aload_n 0, 1) := dk_42 (dk_at dksJ3_append_3_0 6 rfl rfl)
theorem dJ3_append_3_7 : decode cJ3_append_3 7 = .ok (.areturn, 1) := dk_176 (dk_at dksJ3_append_3_0 7 rfl rfl)
abbrev cJ3_charAt : ByteArray := prog_31_method_88_code
def yJ3_charAt : MethodName := ⟨RJ3, "charAt", "(I)C"⟩
def dkwJ3_charAt_0 : List UInt8 := [42, 27, 183, 1, 73, 172]
abbrev dktJ3_charAt_0 : List UInt8 := dkwJ3_charAt_0 ++ []
theorem dksJ3_charAt_0 : cJ3_charAt.data.toList.drop 0 = dktJ3_charAt_0 := by decide +kernel
theorem dJ3_charAt_0 : decode cJ3_charAt 0 = .ok (.aload_n 0, 1) := dk_42 (dk_at dksJ3_charAt_0 0 rfl rfl)
theorem dJ3_charAt_1 : decode cJ3_charAt 1 = .ok (.iload_n 1, 1) := dk_27 (dk_at dksJ3_charAt_0 1 rfl rfl)
theorem dJ3_charAt_2 : decode cJ3_charAt 2 = .ok (.invokespecial 329, 3) := dk_183 1 73 (dk_at dksJ3_charAt_0 2 rfl rfl)
theorem dJ3_charAt_5 : decode cJ3_charAt 5 = .ok (.ireturn, 1) := dk_172 (dk_at dksJ3_charAt_0 5 rfl rfl)
def fJ3 : List ZE := []
theorem fokJ3 : zFok RJ3 fJ3 := fun _ h => by cases h
abbrev kJ3_init : ZK := (RJ3, cJ3_init, 1, (Option.none : Option Jvm.ClassFile.FieldType), [], true, fJ3)
abbrev tJ3_init (g : ZG) (args : List Value) (M : ZM) (d c s : Nat) (Q : ZQ) : Prop := Ct g yJ3_init (ws_ yJ3_init cJ3_init 1 (Option.none : Option Jvm.ClassFile.FieldType)) args M d c s Q
abbrev nJ3_init : Nat := 11
theorem mJ3_init : zMok yJ3_init 0 1 := ⟨⟨by decide +kernel, by decide +kernel, by decide +kernel⟩, by decide⟩
theorem eJ3_init {g : ZG} {Q : ZQ} {d cN sN : Nat} {M : ZM} {a0 : Nat} (hV : zV g) (h : Z g kJ3_init Q d cN sN M 0 [some (.ref a0)] []) : tJ3_init g [.ref a0] M d cN sN Q := Ct.of (K := kJ3_init) rfl (by decide +kernel) hV fokJ3 rfl (fun h => rfl) (fun v hv => by simp only [List.mem_cons, List.not_mem_nil, or_false] at hv; rcases hv with rfl <;> first | rfl | assumption) (Nat.le_of_ble_eq_true rfl) h
theorem sJ3_init_0 {g : ZG} {Q : ZQ} {d cN sN : Nat} {M : ZM} {l0 : Nat}  (kk : Z g kJ3_init Q d cN sN M 3 [some (.ref l0)] [.int 16, .ref l0]) : Z g kJ3_init Q d cN sN M 0 [some (.ref l0)] [] := by
  refine zi_aload_n dJ3_init_0 rfl zrf_r ?_
  refine zi_bipush dJ3_init_1 (by decide +kernel : (Int8.ofInt (16)).toInt32 = (16 : Int32)) ?_
  exact kk
theorem sJ3_init_6 {g : ZG} {Q : ZQ} {d cN sN : Nat} {M : ZM} {o0 : Option Value}  (kk : Q.1 none M) : Z g kJ3_init Q d cN sN M 6 [o0] [] := by
  exact zi_return dJ3_init_6 rfl kk
abbrev kJ3_setLength : ZK := (RJ3, cJ3_setLength, 2, (Option.none : Option Jvm.ClassFile.FieldType), [], false, fJ3)
abbrev tJ3_setLength (g : ZG) (args : List Value) (M : ZM) (d c s : Nat) (Q : ZQ) : Prop := Ct g yJ3_setLength (ws_ yJ3_setLength cJ3_setLength 2 (Option.none : Option Jvm.ClassFile.FieldType)) args M d c s Q
abbrev nJ3_setLength : Nat := 21
theorem mJ3_setLength : zMok yJ3_setLength 1 2 := ⟨⟨by decide +kernel, by decide +kernel, by decide +kernel⟩, by decide⟩
theorem eJ3_setLength {g : ZG} {Q : ZQ} {d cN sN : Nat} {M : ZM} {a0 : Nat} {x1 : Int32} (hV : zV g) (h : Z g kJ3_setLength Q d cN sN M 0 [some (.ref a0), some (.int x1)] []) : tJ3_setLength g [.ref a0, .int x1] M d cN sN Q := Ct.of (K := kJ3_setLength) rfl (by decide +kernel) hV fokJ3 rfl (fun h => by cases h) (fun v hv => by simp only [List.mem_cons, List.not_mem_nil, or_false] at hv; rcases hv with rfl | rfl <;> first | rfl | assumption) (Nat.le_of_ble_eq_true rfl) h
theorem sJ3_setLength_0 {g : ZG} {Q : ZQ} {d cN sN : Nat} {M : ZM} {l0 : Nat} {l1 : Int32}  (kk : Z g kJ3_setLength Q d cN sN M 2 [some (.ref l0), some (.int l1)] [.int l1, .ref l0]) : Z g kJ3_setLength Q d cN sN M 0 [some (.ref l0), some (.int l1)] [] := by
  refine zi_aload_n dJ3_setLength_0 rfl zrf_r ?_
  refine zi_iload_n dJ3_setLength_1 rfl ?_
  exact kk
theorem sJ3_setLength_5 {g : ZG} {Q : ZQ} {d cN sN : Nat} {M : ZM} {o0 o1 : Option Value}  (kk : Q.1 none M) : Z g kJ3_setLength Q d cN sN M 5 [o0, o1] [] := by
  exact zi_return dJ3_setLength_5 rfl kk
abbrev kJ3_append : ZK := (RJ3, cJ3_append, 2, (Option.some (Jvm.ClassFile.FieldType.object "java/lang/StringBuilder")), [], false, fJ3)
abbrev tJ3_append (g : ZG) (args : List Value) (M : ZM) (d c s : Nat) (Q : ZQ) : Prop := Ct g yJ3_append (ws_ yJ3_append cJ3_append 2 (Option.some (Jvm.ClassFile.FieldType.object "java/lang/StringBuilder"))) args M d c s Q
abbrev nJ3_append : Nat := 15
theorem mJ3_append : zMok yJ3_append 1 2 := ⟨⟨by decide +kernel, by decide +kernel, by decide +kernel⟩, by decide⟩
theorem eJ3_append {g : ZG} {Q : ZQ} {d cN sN : Nat} {M : ZM} {a0 : Nat} {v1 : Value} (hv1 : v1.category = 1) (hV : zV g) (h : Z g kJ3_append Q d cN sN M 0 [some (.ref a0), some (v1)] []) : tJ3_append g [.ref a0, v1] M d cN sN Q := Ct.of (K := kJ3_append) rfl (by decide +kernel) hV fokJ3 rfl (fun h => by cases h) (fun v hv => by simp only [List.mem_cons, List.not_mem_nil, or_false] at hv; rcases hv with rfl | rfl <;> first | rfl | assumption) (Nat.le_of_ble_eq_true rfl) h
theorem sJ3_append_0 {g : ZG} {Q : ZQ} {d cN sN : Nat} {M : ZM} {l0 : Nat} {l1 : Nat}  (kk : Z g kJ3_append Q d cN sN M 2 [some (.ref l0), some (.ref l1)] [.ref l1, .ref l0]) : Z g kJ3_append Q d cN sN M 0 [some (.ref l0), some (.ref l1)] [] := by
  refine zi_aload_n dJ3_append_0 rfl zrf_r ?_
  refine zi_aload_n dJ3_append_1 rfl zrf_r ?_
  exact kk
theorem sJ3_append_5 {g : ZG} {Q : ZQ} {d cN sN : Nat} {M : ZM} {t0 : Nat} {l0 : Nat} {o1 : Option Value}  (kk : Q.1 (some (.ref l0)) M) : Z g kJ3_append Q d cN sN M 5 [some (.ref l0), o1] [.ref t0] := by
  refine zi_pop dJ3_append_5 rfl ?_
  refine zi_aload_n dJ3_append_6 rfl zrf_r ?_
  exact zi_areturn dJ3_append_7 zrf_r rfl (Or.inl ⟨_, rfl⟩) kk
abbrev kJ3_append_2 : ZK := (RJ3, cJ3_append_2, 2, (Option.some (Jvm.ClassFile.FieldType.object "java/lang/StringBuilder")), [], false, fJ3)
abbrev tJ3_append_2 (g : ZG) (args : List Value) (M : ZM) (d c s : Nat) (Q : ZQ) : Prop := Ct g yJ3_append_2 (ws_ yJ3_append_2 cJ3_append_2 2 (Option.some (Jvm.ClassFile.FieldType.object "java/lang/StringBuilder"))) args M d c s Q
abbrev nJ3_append_2 : Nat := 12
theorem mJ3_append_2 : zMok yJ3_append_2 1 2 := ⟨⟨by decide +kernel, by decide +kernel, by decide +kernel⟩, by decide⟩
theorem eJ3_append_2 {g : ZG} {Q : ZQ} {d cN sN : Nat} {M : ZM} {a0 : Nat} {x1 : Int32} (hV : zV g) (h : Z g kJ3_append_2 Q d cN sN M 0 [some (.ref a0), some (.int x1)] []) : tJ3_append_2 g [.ref a0, .int x1] M d cN sN Q := Ct.of (K := kJ3_append_2) rfl (by decide +kernel) hV fokJ3 rfl (fun h => by cases h) (fun v hv => by simp only [List.mem_cons, List.not_mem_nil, or_false] at hv; rcases hv with rfl | rfl <;> first | rfl | assumption) (Nat.le_of_ble_eq_true rfl) h
theorem sJ3_append_2_0 {g : ZG} {Q : ZQ} {d cN sN : Nat} {M : ZM} {l0 : Nat} {l1 : Int32}  (kk : Z g kJ3_append_2 Q d cN sN M 2 [some (.ref l0), some (.int l1)] [.int l1, .ref l0]) : Z g kJ3_append_2 Q d cN sN M 0 [some (.ref l0), some (.int l1)] [] := by
  refine zi_aload_n dJ3_append_2_0 rfl zrf_r ?_
  refine zi_iload_n dJ3_append_2_1 rfl ?_
  exact kk
theorem sJ3_append_2_5 {g : ZG} {Q : ZQ} {d cN sN : Nat} {M : ZM} {t0 : Nat} {l0 : Nat} {o1 : Option Value}  (kk : Q.1 (some (.ref l0)) M) : Z g kJ3_append_2 Q d cN sN M 5 [some (.ref l0), o1] [.ref t0] := by
  refine zi_pop dJ3_append_2_5 rfl ?_
  refine zi_aload_n dJ3_append_2_6 rfl zrf_r ?_
  exact zi_areturn dJ3_append_2_7 zrf_r rfl (Or.inl ⟨_, rfl⟩) kk
abbrev kJ3_toString : ZK := (RJ3, cJ3_toString, 1, (Option.some (Jvm.ClassFile.FieldType.object "java/lang/String")), [], false, fJ3)
abbrev tJ3_toString (g : ZG) (args : List Value) (M : ZM) (d c s : Nat) (Q : ZQ) : Prop := Ct g yJ3_toString (ws_ yJ3_toString cJ3_toString 1 (Option.some (Jvm.ClassFile.FieldType.object "java/lang/String"))) args M d c s Q
abbrev nJ3_toString : Nat := 1
theorem mJ3_toString : zMok yJ3_toString 0 1 := ⟨⟨by decide +kernel, by decide +kernel, by decide +kernel⟩, by decide⟩
theorem eJ3_toString {g : ZG} {Q : ZQ} {d cN sN : Nat} {M : ZM} {a0 : Nat} (hV : zV g) (h : Z g kJ3_toString Q d cN sN M 0 [some (.ref a0)] []) : tJ3_toString g [.ref a0] M d cN sN Q := Ct.of (K := kJ3_toString) rfl (by decide +kernel) hV fokJ3 rfl (fun h => by cases h) (fun v hv => by simp only [List.mem_cons, List.not_mem_nil, or_false] at hv; rcases hv with rfl <;> first | rfl | assumption) (Nat.le_of_ble_eq_true rfl) h
theorem sJ3_toString_3 {g : ZG} {Q : ZQ} {d cN sN : Nat} {M : ZM} {t0 : Nat} {l0 : Nat}  (kk : Z g kJ3_toString Q d cN sN M 5 [some (.ref l0)] [.ref l0, .ref t0, .ref t0]) : Z g kJ3_toString Q d cN sN M 3 [some (.ref l0)] [.ref t0] := by
  refine zi_dup dJ3_toString_3 rfl ?_
  refine zi_aload_n dJ3_toString_4 rfl zrf_r ?_
  exact kk
theorem sJ3_toString_8 {g : ZG} {Q : ZQ} {d cN sN : Nat} {M : ZM} {t0 : Nat} {o0 : Option Value}  (kk : Q.1 (some (.ref t0)) M) : Z g kJ3_toString Q d cN sN M 8 [o0] [.ref t0] := by
  exact zi_areturn dJ3_toString_8 zrf_r rfl (Or.inl ⟨_, rfl⟩) kk
abbrev kJ3_length : ZK := (RJ3, cJ3_length, 1, (Option.some Jvm.ClassFile.FieldType.int), [], false, fJ3)
abbrev tJ3_length (g : ZG) (args : List Value) (M : ZM) (d c s : Nat) (Q : ZQ) : Prop := Ct g yJ3_length (ws_ yJ3_length cJ3_length 1 (Option.some Jvm.ClassFile.FieldType.int)) args M d c s Q
abbrev nJ3_length : Nat := 2
theorem mJ3_length : zMok yJ3_length 0 1 := ⟨⟨by decide +kernel, by decide +kernel, by decide +kernel⟩, by decide⟩
theorem eJ3_length {g : ZG} {Q : ZQ} {d cN sN : Nat} {M : ZM} {a0 : Nat} (hV : zV g) (h : Z g kJ3_length Q d cN sN M 0 [some (.ref a0)] []) : tJ3_length g [.ref a0] M d cN sN Q := Ct.of (K := kJ3_length) rfl (by decide +kernel) hV fokJ3 rfl (fun h => by cases h) (fun v hv => by simp only [List.mem_cons, List.not_mem_nil, or_false] at hv; rcases hv with rfl <;> first | rfl | assumption) (Nat.le_of_ble_eq_true rfl) h
theorem sJ3_length_0 {g : ZG} {Q : ZQ} {d cN sN : Nat} {M : ZM} {l0 : Nat}  (kk : Z g kJ3_length Q d cN sN M 1 [some (.ref l0)] [.ref l0]) : Z g kJ3_length Q d cN sN M 0 [some (.ref l0)] [] := by
  refine zi_aload_n dJ3_length_0 rfl zrf_r ?_
  exact kk
theorem sJ3_length_4 {g : ZG} {Q : ZQ} {d cN sN : Nat} {M : ZM} {t0 : Int32} {o0 : Option Value}  (kk : Q.1 (some (.int t0)) M) : Z g kJ3_length Q d cN sN M 4 [o0] [.int t0] := by
  exact zi_ireturn dJ3_length_4 rfl rfl kk
abbrev kJ3_append_3 : ZK := (RJ3, cJ3_append_3, 2, (Option.some (Jvm.ClassFile.FieldType.object "java/lang/StringBuilder")), [], false, fJ3)
abbrev tJ3_append_3 (g : ZG) (args : List Value) (M : ZM) (d c s : Nat) (Q : ZQ) : Prop := Ct g yJ3_append_3 (ws_ yJ3_append_3 cJ3_append_3 2 (Option.some (Jvm.ClassFile.FieldType.object "java/lang/StringBuilder"))) args M d c s Q
abbrev nJ3_append_3 : Nat := 13
theorem mJ3_append_3 : zMok yJ3_append_3 1 2 := ⟨⟨by decide +kernel, by decide +kernel, by decide +kernel⟩, by decide⟩
theorem eJ3_append_3 {g : ZG} {Q : ZQ} {d cN sN : Nat} {M : ZM} {a0 : Nat} {x1 : Int32} (hV : zV g) (h : Z g kJ3_append_3 Q d cN sN M 0 [some (.ref a0), some (.int x1)] []) : tJ3_append_3 g [.ref a0, .int x1] M d cN sN Q := Ct.of (K := kJ3_append_3) rfl (by decide +kernel) hV fokJ3 rfl (fun h => by cases h) (fun v hv => by simp only [List.mem_cons, List.not_mem_nil, or_false] at hv; rcases hv with rfl | rfl <;> first | rfl | assumption) (Nat.le_of_ble_eq_true rfl) h
theorem sJ3_append_3_0 {g : ZG} {Q : ZQ} {d cN sN : Nat} {M : ZM} {l0 : Nat} {l1 : Int32}  (kk : Z g kJ3_append_3 Q d cN sN M 2 [some (.ref l0), some (.int l1)] [.int l1, .ref l0]) : Z g kJ3_append_3 Q d cN sN M 0 [some (.ref l0), some (.int l1)] [] := by
  refine zi_aload_n dJ3_append_3_0 rfl zrf_r ?_
  refine zi_iload_n dJ3_append_3_1 rfl ?_
  exact kk
theorem sJ3_append_3_5 {g : ZG} {Q : ZQ} {d cN sN : Nat} {M : ZM} {t0 : Nat} {l0 : Nat} {o1 : Option Value}  (kk : Q.1 (some (.ref l0)) M) : Z g kJ3_append_3 Q d cN sN M 5 [some (.ref l0), o1] [.ref t0] := by
  refine zi_pop dJ3_append_3_5 rfl ?_
  refine zi_aload_n dJ3_append_3_6 rfl zrf_r ?_
  exact zi_areturn dJ3_append_3_7 zrf_r rfl (Or.inl ⟨_, rfl⟩) kk
abbrev kJ3_charAt : ZK := (RJ3, cJ3_charAt, 2, (Option.some Jvm.ClassFile.FieldType.char), [], false, fJ3)
abbrev tJ3_charAt (g : ZG) (args : List Value) (M : ZM) (d c s : Nat) (Q : ZQ) : Prop := Ct g yJ3_charAt (ws_ yJ3_charAt cJ3_charAt 2 (Option.some Jvm.ClassFile.FieldType.char)) args M d c s Q
abbrev nJ3_charAt : Nat := 10
theorem mJ3_charAt : zMok yJ3_charAt 1 2 := ⟨⟨by decide +kernel, by decide +kernel, by decide +kernel⟩, by decide⟩
theorem eJ3_charAt {g : ZG} {Q : ZQ} {d cN sN : Nat} {M : ZM} {a0 : Nat} {x1 : Int32} (hV : zV g) (h : Z g kJ3_charAt Q d cN sN M 0 [some (.ref a0), some (.int x1)] []) : tJ3_charAt g [.ref a0, .int x1] M d cN sN Q := Ct.of (K := kJ3_charAt) rfl (by decide +kernel) hV fokJ3 rfl (fun h => by cases h) (fun v hv => by simp only [List.mem_cons, List.not_mem_nil, or_false] at hv; rcases hv with rfl | rfl <;> first | rfl | assumption) (Nat.le_of_ble_eq_true rfl) h
theorem sJ3_charAt_0 {g : ZG} {Q : ZQ} {d cN sN : Nat} {M : ZM} {l0 : Nat} {l1 : Int32}  (kk : Z g kJ3_charAt Q d cN sN M 2 [some (.ref l0), some (.int l1)] [.int l1, .ref l0]) : Z g kJ3_charAt Q d cN sN M 0 [some (.ref l0), some (.int l1)] [] := by
  refine zi_aload_n dJ3_charAt_0 rfl zrf_r ?_
  refine zi_iload_n dJ3_charAt_1 rfl ?_
  exact kk
theorem sJ3_charAt_5 {g : ZG} {Q : ZQ} {d cN sN : Nat} {M : ZM} {t0 : Int32} {o0 o1 : Option Value} (h1 : narrow .char (.int (t0)) = .int (t0)) (kk : Q.1 (some (.int t0)) M) : Z g kJ3_charAt Q d cN sN M 5 [o0, o1] [.int t0] := by
  exact zi_ireturn dJ3_charAt_5 rfl h1 kk
/-! java/lang/StringUTF16 (printed by gen_m.py) -/
set_option maxRecDepth 100000
abbrev cJ5_newBytesFor : ByteArray := prog_34_method_2_code
def yJ5_newBytesFor : MethodName := ⟨RJ5, "newBytesFor", "(I)[B"⟩
def dkwJ5_newBytesFor_0 : List UInt8 := [26, 184, 0, 11, 188, 8, 176]
abbrev dktJ5_newBytesFor_0 : List UInt8 := dkwJ5_newBytesFor_0 ++ []
theorem dksJ5_newBytesFor_0 : cJ5_newBytesFor.data.toList.drop 0 = dktJ5_newBytesFor_0 := by decide +kernel
theorem dJ5_newBytesFor_0 : decode cJ5_newBytesFor 0 = .ok (.iload_n 0, 1) := dk_26 (dk_at dksJ5_newBytesFor_0 0 rfl rfl)
theorem dJ5_newBytesFor_1 : decode cJ5_newBytesFor 1 = .ok (.invokestatic 11, 3) := dk_184 0 11 (dk_at dksJ5_newBytesFor_0 1 rfl rfl)
theorem dJ5_newBytesFor_4 : decode cJ5_newBytesFor 4 = .ok (.newarray .byte, 2) := dk_188_8 (dk_at dksJ5_newBytesFor_0 4 rfl rfl)
theorem dJ5_newBytesFor_6 : decode cJ5_newBytesFor 6 = .ok (.areturn, 1) := dk_176 (dk_at dksJ5_newBytesFor_0 6 rfl rfl)
abbrev cJ5_newBytesLength : ByteArray := prog_34_method_3_code
def yJ5_newBytesLength : MethodName := ⟨RJ5, "newBytesLength", "(I)I"⟩
def dkwJ5_newBytesLength_2 : List UInt8 := [182, 0, 32, 182, 0, 37, 183, 0, 41, 191, 26, 4, 120, 172]
abbrev dktJ5_newBytesLength_2 : List UInt8 := dkwJ5_newBytesLength_2 ++ []
def dkwJ5_newBytesLength_1 : List UInt8 := [187, 0, 23, 89, 183, 0, 25, 18, 26, 182, 0, 28, 26, 182, 0, 32, 18, 35, 182, 0, 28, 18, 20]
abbrev dktJ5_newBytesLength_1 : List UInt8 := dkwJ5_newBytesLength_1 ++ dktJ5_newBytesLength_2
def dkwJ5_newBytesLength_0 : List UInt8 := [26, 156, 0, 11, 187, 0, 17, 89, 183, 0, 19, 191, 26, 18, 20, 161, 0, 40, 187, 0, 21, 89]
abbrev dktJ5_newBytesLength_0 : List UInt8 := dkwJ5_newBytesLength_0 ++ dktJ5_newBytesLength_1
theorem dksJ5_newBytesLength_0 : cJ5_newBytesLength.data.toList.drop 0 = dktJ5_newBytesLength_0 := by decide +kernel
theorem dksJ5_newBytesLength_1 : cJ5_newBytesLength.data.toList.drop 22 = dktJ5_newBytesLength_1 := dk_seg dksJ5_newBytesLength_0 22 rfl rfl
theorem dksJ5_newBytesLength_2 : cJ5_newBytesLength.data.toList.drop 45 = dktJ5_newBytesLength_2 := dk_seg dksJ5_newBytesLength_1 23 rfl rfl
theorem dJ5_newBytesLength_0 : decode cJ5_newBytesLength 0 = .ok (.iload_n 0, 1) := dk_26 (dk_at dksJ5_newBytesLength_0 0 rfl rfl)
theorem dJ5_newBytesLength_1 : decode cJ5_newBytesLength 1 = .ok (.ifCond .ge 11, 3) := dk_156 0 11 (dk_at dksJ5_newBytesLength_0 1 rfl rfl)
theorem dJ5_newBytesLength_4 : decode cJ5_newBytesLength 4 = .ok (.new 17, 3) := dk_187 0 17 (dk_at dksJ5_newBytesLength_0 4 rfl rfl)
theorem dJ5_newBytesLength_7 : decode cJ5_newBytesLength 7 = .ok (.dup, 1) := dk_89 (dk_at dksJ5_newBytesLength_0 7 rfl rfl)
theorem dJ5_newBytesLength_8 : decode cJ5_newBytesLength 8 = .ok (.invokespecial 19, 3) := dk_183 0 19 (dk_at dksJ5_newBytesLength_0 8 rfl rfl)
theorem dJ5_newBytesLength_11 : decode cJ5_newBytesLength 11 = .ok (.athrow, 1) := dk_191 (dk_at dksJ5_newBytesLength_0 11 rfl rfl)
theorem dJ5_newBytesLength_12 : decode cJ5_newBytesLength 12 = .ok (.iload_n 0, 1) := dk_26 (dk_at dksJ5_newBytesLength_0 12 rfl rfl)
theorem dJ5_newBytesLength_13 : decode cJ5_newBytesLength 13 = .ok (.ldc 20, 2) := dk_18 20 (dk_at dksJ5_newBytesLength_0 13 rfl rfl)
theorem dJ5_newBytesLength_15 : decode cJ5_newBytesLength 15 = .ok (.if_icmp .lt 40, 3) := dk_161 0 40 (dk_at dksJ5_newBytesLength_0 15 rfl rfl)
theorem dJ5_newBytesLength_18 : decode cJ5_newBytesLength 18 = .ok (.new 21, 3) := dk_187 0 21 (dk_at dksJ5_newBytesLength_0 18 rfl rfl)
theorem dJ5_newBytesLength_21 : decode cJ5_newBytesLength 21 = .ok (.dup, 1) := dk_89 (dk_at dksJ5_newBytesLength_0 21 rfl rfl)
theorem dJ5_newBytesLength_22 : decode cJ5_newBytesLength 22 = .ok (.new 23, 3) := dk_187 0 23 (dk_at dksJ5_newBytesLength_1 0 rfl rfl)
theorem dJ5_newBytesLength_25 : decode cJ5_newBytesLength 25 = .ok (.dup, 1) := dk_89 (dk_at dksJ5_newBytesLength_1 3 rfl rfl)
theorem dJ5_newBytesLength_26 : decode cJ5_newBytesLength 26 = .ok (.invokespecial 25, 3) := dk_183 0 25 (dk_at dksJ5_newBytesLength_1 4 rfl rfl)
theorem dJ5_newBytesLength_29 : decode cJ5_newBytesLength 29 = .ok (.ldc 26, 2) := dk_18 26 (dk_at dksJ5_newBytesLength_1 7 rfl rfl)
theorem dJ5_newBytesLength_31 : decode cJ5_newBytesLength 31 = .ok (.invokevirtual 28, 3) := dk_182 0 28 (dk_at dksJ5_newBytesLength_1 9 rfl rfl)
theorem dJ5_newBytesLength_34 : decode cJ5_newBytesLength 34 = .ok (.iload_n 0, 1) := dk_26 (dk_at dksJ5_newBytesLength_1 12 rfl rfl)
theorem dJ5_newBytesLength_35 : decode cJ5_newBytesLength 35 = .ok (.invokevirtual 32, 3) := dk_182 0 32 (dk_at dksJ5_newBytesLength_1 13 rfl rfl)
theorem dJ5_newBytesLength_38 : decode cJ5_newBytesLength 38 = .ok (.ldc 35, 2) := dk_18 35 (dk_at dksJ5_newBytesLength_1 16 rfl rfl)
theorem dJ5_newBytesLength_40 : decode cJ5_newBytesLength 40 = .ok (.invokevirtual 28, 3) := dk_182 0 28 (dk_at dksJ5_newBytesLength_1 18 rfl rfl)
theorem dJ5_newBytesLength_43 : decode cJ5_newBytesLength 43 = .ok (.ldc 20, 2) := dk_18 20 (dk_at dksJ5_newBytesLength_1 21 rfl rfl)
theorem dJ5_newBytesLength_45 : decode cJ5_newBytesLength 45 = .ok (.invokevirtual 32, 3) := dk_182 0 32 (dk_at dksJ5_newBytesLength_2 0 rfl rfl)
theorem dJ5_newBytesLength_48 : decode cJ5_newBytesLength 48 = .ok (.invokevirtual 37, 3) := dk_182 0 37 (dk_at dksJ5_newBytesLength_2 3 rfl rfl)
theorem dJ5_newBytesLength_51 : decode cJ5_newBytesLength 51 = .ok (.invokespecial 41, 3) := dk_183 0 41 (dk_at dksJ5_newBytesLength_2 6 rfl rfl)
theorem dJ5_newBytesLength_54 : decode cJ5_newBytesLength 54 = .ok (.athrow, 1) := dk_191 (dk_at dksJ5_newBytesLength_2 9 rfl rfl)
theorem dJ5_newBytesLength_55 : decode cJ5_newBytesLength 55 = .ok (.iload_n 0, 1) := dk_26 (dk_at dksJ5_newBytesLength_2 10 rfl rfl)
theorem dJ5_newBytesLength_56 : decode cJ5_newBytesLength 56 = .ok (.iconst 1, 1) := dk_4 (dk_at dksJ5_newBytesLength_2 11 rfl rfl)
theorem dJ5_newBytesLength_57 : decode cJ5_newBytesLength 57 = .ok (.ishl, 1) := dk_120 (dk_at dksJ5_newBytesLength_2 12 rfl rfl)
theorem dJ5_newBytesLength_58 : decode cJ5_newBytesLength 58 = .ok (.ireturn, 1) := dk_172 (dk_at dksJ5_newBytesLength_2 13 rfl rfl)
abbrev cJ5_putCharsAt : ByteArray := prog_34_method_81_code
def yJ5_putCharsAt : MethodName := ⟨RJ5, "putCharsAt", "([BICCCC)I"⟩
def dkwJ5_putCharsAt_3 : List UInt8 := [21, 6, 172]
abbrev dktJ5_putCharsAt_3 : List UInt8 := dkwJ5_putCharsAt_3 ++ []
def dkwJ5_putCharsAt_2 : List UInt8 := [184, 0, 111, 178, 0, 44, 154, 0, 17, 27, 21, 6, 159, 0, 11, 187, 0, 52, 89, 183, 0, 66, 191]
abbrev dktJ5_putCharsAt_2 : List UInt8 := dkwJ5_putCharsAt_2 ++ dktJ5_putCharsAt_3
def dkwJ5_putCharsAt_1 : List UInt8 := [132, 1, 1, 29, 184, 0, 111, 42, 27, 132, 1, 1, 21, 4, 184, 0, 111, 42, 27, 132, 1, 1, 21, 5]
abbrev dktJ5_putCharsAt_1 : List UInt8 := dkwJ5_putCharsAt_1 ++ dktJ5_putCharsAt_2
def dkwJ5_putCharsAt_0 : List UInt8 := [27, 7, 96, 54, 6, 27, 21, 6, 42, 184, 0, 96, 42, 27, 132, 1, 1, 28, 184, 0, 111, 42, 27]
abbrev dktJ5_putCharsAt_0 : List UInt8 := dkwJ5_putCharsAt_0 ++ dktJ5_putCharsAt_1
theorem dksJ5_putCharsAt_0 : cJ5_putCharsAt.data.toList.drop 0 = dktJ5_putCharsAt_0 := by decide +kernel
theorem dksJ5_putCharsAt_1 : cJ5_putCharsAt.data.toList.drop 23 = dktJ5_putCharsAt_1 := dk_seg dksJ5_putCharsAt_0 23 rfl rfl
theorem dksJ5_putCharsAt_2 : cJ5_putCharsAt.data.toList.drop 47 = dktJ5_putCharsAt_2 := dk_seg dksJ5_putCharsAt_1 24 rfl rfl
theorem dksJ5_putCharsAt_3 : cJ5_putCharsAt.data.toList.drop 70 = dktJ5_putCharsAt_3 := dk_seg dksJ5_putCharsAt_2 23 rfl rfl
theorem dJ5_putCharsAt_0 : decode cJ5_putCharsAt 0 = .ok (.iload_n 1, 1) := dk_27 (dk_at dksJ5_putCharsAt_0 0 rfl rfl)
theorem dJ5_putCharsAt_1 : decode cJ5_putCharsAt 1 = .ok (.iconst 4, 1) := dk_7 (dk_at dksJ5_putCharsAt_0 1 rfl rfl)
theorem dJ5_putCharsAt_2 : decode cJ5_putCharsAt 2 = .ok (.iadd, 1) := dk_96 (dk_at dksJ5_putCharsAt_0 2 rfl rfl)
theorem dJ5_putCharsAt_3 : decode cJ5_putCharsAt 3 = .ok (.istore 6, 2) := dk_54 6 (dk_at dksJ5_putCharsAt_0 3 rfl rfl)
theorem dJ5_putCharsAt_5 : decode cJ5_putCharsAt 5 = .ok (.iload_n 1, 1) := dk_27 (dk_at dksJ5_putCharsAt_0 5 rfl rfl)
theorem dJ5_putCharsAt_6 : decode cJ5_putCharsAt 6 = .ok (.iload 6, 2) := dk_21 6 (dk_at dksJ5_putCharsAt_0 6 rfl rfl)
theorem dJ5_putCharsAt_8 : decode cJ5_putCharsAt 8 = .ok (.aload_n 0, 1) := dk_42 (dk_at dksJ5_putCharsAt_0 8 rfl rfl)
theorem dJ5_putCharsAt_9 : decode cJ5_putCharsAt 9 = .ok (.invokestatic 96, 3) := dk_184 0 96 (dk_at dksJ5_putCharsAt_0 9 rfl rfl)
theorem dJ5_putCharsAt_12 : decode cJ5_putCharsAt 12 = .ok (.aload_n 0, 1) := dk_42 (dk_at dksJ5_putCharsAt_0 12 rfl rfl)
theorem dJ5_putCharsAt_13 : decode cJ5_putCharsAt 13 = .ok (.iload_n 1, 1) := dk_27 (dk_at dksJ5_putCharsAt_0 13 rfl rfl)
theorem dJ5_putCharsAt_14 : decode cJ5_putCharsAt 14 = .ok (.iinc 1 1, 3) := dk_132 1 1 (dk_at dksJ5_putCharsAt_0 14 rfl rfl)
theorem dJ5_putCharsAt_17 : decode cJ5_putCharsAt 17 = .ok (.iload_n 2, 1) := dk_28 (dk_at dksJ5_putCharsAt_0 17 rfl rfl)
theorem dJ5_putCharsAt_18 : decode cJ5_putCharsAt 18 = .ok (.invokestatic 111, 3) := dk_184 0 111 (dk_at dksJ5_putCharsAt_0 18 rfl rfl)
theorem dJ5_putCharsAt_21 : decode cJ5_putCharsAt 21 = .ok (.aload_n 0, 1) := dk_42 (dk_at dksJ5_putCharsAt_0 21 rfl rfl)
theorem dJ5_putCharsAt_22 : decode cJ5_putCharsAt 22 = .ok (.iload_n 1, 1) := dk_27 (dk_at dksJ5_putCharsAt_0 22 rfl rfl)
theorem dJ5_putCharsAt_23 : decode cJ5_putCharsAt 23 = .ok (.iinc 1 1, 3) := dk_132 1 1 (dk_at dksJ5_putCharsAt_1 0 rfl rfl)
theorem dJ5_putCharsAt_26 : decode cJ5_putCharsAt 26 = .ok (.iload_n 3, 1) := dk_29 (dk_at dksJ5_putCharsAt_1 3 rfl rfl)
theorem dJ5_putCharsAt_27 : decode cJ5_putCharsAt 27 = .ok (.invokestatic 111, 3) := dk_184 0 111 (dk_at dksJ5_putCharsAt_1 4 rfl rfl)
theorem dJ5_putCharsAt_30 : decode cJ5_putCharsAt 30 = .ok (.aload_n 0, 1) := dk_42 (dk_at dksJ5_putCharsAt_1 7 rfl rfl)
theorem dJ5_putCharsAt_31 : decode cJ5_putCharsAt 31 = .ok (.iload_n 1, 1) := dk_27 (dk_at dksJ5_putCharsAt_1 8 rfl rfl)
theorem dJ5_putCharsAt_32 : decode cJ5_putCharsAt 32 = .ok (.iinc 1 1, 3) := dk_132 1 1 (dk_at dksJ5_putCharsAt_1 9 rfl rfl)
theorem dJ5_putCharsAt_35 : decode cJ5_putCharsAt 35 = .ok (.iload 4, 2) := dk_21 4 (dk_at dksJ5_putCharsAt_1 12 rfl rfl)
theorem dJ5_putCharsAt_37 : decode cJ5_putCharsAt 37 = .ok (.invokestatic 111, 3) := dk_184 0 111 (dk_at dksJ5_putCharsAt_1 14 rfl rfl)
theorem dJ5_putCharsAt_40 : decode cJ5_putCharsAt 40 = .ok (.aload_n 0, 1) := dk_42 (dk_at dksJ5_putCharsAt_1 17 rfl rfl)
theorem dJ5_putCharsAt_41 : decode cJ5_putCharsAt 41 = .ok (.iload_n 1, 1) := dk_27 (dk_at dksJ5_putCharsAt_1 18 rfl rfl)
theorem dJ5_putCharsAt_42 : decode cJ5_putCharsAt 42 = .ok (.iinc 1 1, 3) := dk_132 1 1 (dk_at dksJ5_putCharsAt_1 19 rfl rfl)
theorem dJ5_putCharsAt_45 : decode cJ5_putCharsAt 45 = .ok (.iload 5, 2) := dk_21 5 (dk_at dksJ5_putCharsAt_1 22 rfl rfl)
theorem dJ5_putCharsAt_47 : decode cJ5_putCharsAt 47 = .ok (.invokestatic 111, 3) := dk_184 0 111 (dk_at dksJ5_putCharsAt_2 0 rfl rfl)
theorem dJ5_putCharsAt_50 : decode cJ5_putCharsAt 50 = .ok (.getstatic 44, 3) := dk_178 0 44 (dk_at dksJ5_putCharsAt_2 3 rfl rfl)
theorem dJ5_putCharsAt_53 : decode cJ5_putCharsAt 53 = .ok (.ifCond .ne 17, 3) := dk_154 0 17 (dk_at dksJ5_putCharsAt_2 6 rfl rfl)
theorem dJ5_putCharsAt_56 : decode cJ5_putCharsAt 56 = .ok (.iload_n 1, 1) := dk_27 (dk_at dksJ5_putCharsAt_2 9 rfl rfl)
theorem dJ5_putCharsAt_57 : decode cJ5_putCharsAt 57 = .ok (.iload 6, 2) := dk_21 6 (dk_at dksJ5_putCharsAt_2 10 rfl rfl)
theorem dJ5_putCharsAt_59 : decode cJ5_putCharsAt 59 = .ok (.if_icmp .eq 11, 3) := dk_159 0 11 (dk_at dksJ5_putCharsAt_2 12 rfl rfl)
theorem dJ5_putCharsAt_62 : decode cJ5_putCharsAt 62 = .ok (.new 52, 3) := dk_187 0 52 (dk_at dksJ5_putCharsAt_2 15 rfl rfl)
theorem dJ5_putCharsAt_65 : decode cJ5_putCharsAt 65 = .ok (.dup, 1) := dk_89 (dk_at dksJ5_putCharsAt_2 18 rfl rfl)
theorem dJ5_putCharsAt_66 : decode cJ5_putCharsAt 66 = .ok (.invokespecial 66, 3) := dk_183 0 66 (dk_at dksJ5_putCharsAt_2 19 rfl rfl)
theorem dJ5_putCharsAt_69 : decode cJ5_putCharsAt 69 = .ok (.athrow, 1) := dk_191 (dk_at dksJ5_putCharsAt_2 22 rfl rfl)
theorem dJ5_putCharsAt_70 : decode cJ5_putCharsAt 70 = .ok (.iload 6, 2) := dk_21 6 (dk_at dksJ5_putCharsAt_3 0 rfl rfl)
theorem dJ5_putCharsAt_72 : decode cJ5_putCharsAt 72 = .ok (.ireturn, 1) := dk_172 (dk_at dksJ5_putCharsAt_3 2 rfl rfl)
abbrev cJ5_checkBoundsBeginEnd : ByteArray := prog_34_method_93_code
def yJ5_checkBoundsBeginEnd : MethodName := ⟨RJ5, "checkBoundsBeginEnd", "(II[B)V"⟩
def dkwJ5_checkBoundsBeginEnd_0 : List UInt8 := [26, 27, 44, 184, 0, 48, 184, 0, 241, 177]
abbrev dktJ5_checkBoundsBeginEnd_0 : List UInt8 := dkwJ5_checkBoundsBeginEnd_0 ++ []
theorem dksJ5_checkBoundsBeginEnd_0 : cJ5_checkBoundsBeginEnd.data.toList.drop 0 = dktJ5_checkBoundsBeginEnd_0 := by decide +kernel
theorem dJ5_checkBoundsBeginEnd_0 : decode cJ5_checkBoundsBeginEnd 0 = .ok (.iload_n 0, 1) := dk_26 (dk_at dksJ5_checkBoundsBeginEnd_0 0 rfl rfl)
theorem dJ5_checkBoundsBeginEnd_1 : decode cJ5_checkBoundsBeginEnd 1 = .ok (.iload_n 1, 1) := dk_27 (dk_at dksJ5_checkBoundsBeginEnd_0 1 rfl rfl)
theorem dJ5_checkBoundsBeginEnd_2 : decode cJ5_checkBoundsBeginEnd 2 = .ok (.aload_n 2, 1) := dk_44 (dk_at dksJ5_checkBoundsBeginEnd_0 2 rfl rfl)
theorem dJ5_checkBoundsBeginEnd_3 : decode cJ5_checkBoundsBeginEnd 3 = .ok (.invokestatic 48, 3) := dk_184 0 48 (dk_at dksJ5_checkBoundsBeginEnd_0 3 rfl rfl)
theorem dJ5_checkBoundsBeginEnd_6 : decode cJ5_checkBoundsBeginEnd 6 = .ok (.invokestatic 241, 3) := dk_184 0 241 (dk_at dksJ5_checkBoundsBeginEnd_0 6 rfl rfl)
theorem dJ5_checkBoundsBeginEnd_9 : decode cJ5_checkBoundsBeginEnd 9 = .ok (.return_, 1) := dk_177 (dk_at dksJ5_checkBoundsBeginEnd_0 9 rfl rfl)
abbrev cJ5_length : ByteArray := prog_34_method_6_code
def yJ5_length : MethodName := ⟨RJ5, "length", "([B)I"⟩
def dkwJ5_length_0 : List UInt8 := [42, 190, 4, 122, 172]
abbrev dktJ5_length_0 : List UInt8 := dkwJ5_length_0 ++ []
theorem dksJ5_length_0 : cJ5_length.data.toList.drop 0 = dktJ5_length_0 := by decide +kernel
theorem dJ5_length_0 : decode cJ5_length 0 = .ok (.aload_n 0, 1) := dk_42 (dk_at dksJ5_length_0 0 rfl rfl)
theorem dJ5_length_1 : decode cJ5_length 1 = .ok (.arraylength, 1) := dk_190 (dk_at dksJ5_length_0 1 rfl rfl)
theorem dJ5_length_2 : decode cJ5_length 2 = .ok (.iconst 1, 1) := dk_4 (dk_at dksJ5_length_0 2 rfl rfl)
theorem dJ5_length_3 : decode cJ5_length 3 = .ok (.ishr, 1) := dk_122 (dk_at dksJ5_length_0 3 rfl rfl)
theorem dJ5_length_4 : decode cJ5_length 4 = .ok (.ireturn, 1) := dk_172 (dk_at dksJ5_length_0 4 rfl rfl)
abbrev cJ5_putChar : ByteArray := prog_34_method_4_code
def yJ5_putChar : MethodName := ⟨RJ5, "putChar", "([BII)V"⟩
def dkwJ5_putChar_2 : List UInt8 := [178, 0, 63, 122, 145, 84, 177]
abbrev dktJ5_putChar_2 : List UInt8 := dkwJ5_putChar_2 ++ []
def dkwJ5_putChar_1 : List UInt8 := [183, 0, 56, 191, 27, 4, 120, 60, 42, 27, 132, 1, 1, 28, 178, 0, 59, 122, 145, 84, 42, 27, 28]
abbrev dktJ5_putChar_1 : List UInt8 := dkwJ5_putChar_1 ++ dktJ5_putChar_2
def dkwJ5_putChar_0 : List UInt8 := [178, 0, 44, 154, 0, 25, 27, 155, 0, 11, 27, 42, 184, 0, 48, 161, 0, 13, 187, 0, 52, 89, 18, 54]
abbrev dktJ5_putChar_0 : List UInt8 := dkwJ5_putChar_0 ++ dktJ5_putChar_1
theorem dksJ5_putChar_0 : cJ5_putChar.data.toList.drop 0 = dktJ5_putChar_0 := by decide +kernel
theorem dksJ5_putChar_1 : cJ5_putChar.data.toList.drop 24 = dktJ5_putChar_1 := dk_seg dksJ5_putChar_0 24 rfl rfl
theorem dksJ5_putChar_2 : cJ5_putChar.data.toList.drop 47 = dktJ5_putChar_2 := dk_seg dksJ5_putChar_1 23 rfl rfl
theorem dJ5_putChar_0 : decode cJ5_putChar 0 = .ok (.getstatic 44, 3) := dk_178 0 44 (dk_at dksJ5_putChar_0 0 rfl rfl)
theorem dJ5_putChar_3 : decode cJ5_putChar 3 = .ok (.ifCond .ne 25, 3) := dk_154 0 25 (dk_at dksJ5_putChar_0 3 rfl rfl)
theorem dJ5_putChar_6 : decode cJ5_putChar 6 = .ok (.iload_n 1, 1) := dk_27 (dk_at dksJ5_putChar_0 6 rfl rfl)
theorem dJ5_putChar_7 : decode cJ5_putChar 7 = .ok (.ifCond .lt 11, 3) := dk_155 0 11 (dk_at dksJ5_putChar_0 7 rfl rfl)
theorem dJ5_putChar_10 : decode cJ5_putChar 10 = .ok (.iload_n 1, 1) := dk_27 (dk_at dksJ5_putChar_0 10 rfl rfl)
theorem dJ5_putChar_11 : decode cJ5_putChar 11 = .ok (.aload_n 0, 1) := dk_42 (dk_at dksJ5_putChar_0 11 rfl rfl)
theorem dJ5_putChar_12 : decode cJ5_putChar 12 = .ok (.invokestatic 48, 3) := dk_184 0 48 (dk_at dksJ5_putChar_0 12 rfl rfl)
theorem dJ5_putChar_15 : decode cJ5_putChar 15 = .ok (.if_icmp .lt 13, 3) := dk_161 0 13 (dk_at dksJ5_putChar_0 15 rfl rfl)
theorem dJ5_putChar_18 : decode cJ5_putChar 18 = .ok (.new 52, 3) := dk_187 0 52 (dk_at dksJ5_putChar_0 18 rfl rfl)
theorem dJ5_putChar_21 : decode cJ5_putChar 21 = .ok (.dup, 1) := dk_89 (dk_at dksJ5_putChar_0 21 rfl rfl)
theorem dJ5_putChar_22 : decode cJ5_putChar 22 = .ok (.ldc 54, 2) := dk_18 54 (dk_at dksJ5_putChar_0 22 rfl rfl)
theorem dJ5_putChar_24 : decode cJ5_putChar 24 = .ok (.invokespecial 56, 3) := dk_183 0 56 (dk_at dksJ5_putChar_1 0 rfl rfl)
theorem dJ5_putChar_27 : decode cJ5_putChar 27 = .ok (.athrow, 1) := dk_191 (dk_at dksJ5_putChar_1 3 rfl rfl)
theorem dJ5_putChar_28 : decode cJ5_putChar 28 = .ok (.iload_n 1, 1) := dk_27 (dk_at dksJ5_putChar_1 4 rfl rfl)
theorem dJ5_putChar_29 : decode cJ5_putChar 29 = .ok (.iconst 1, 1) := dk_4 (dk_at dksJ5_putChar_1 5 rfl rfl)
theorem dJ5_putChar_30 : decode cJ5_putChar 30 = .ok (.ishl, 1) := dk_120 (dk_at dksJ5_putChar_1 6 rfl rfl)
theorem dJ5_putChar_31 : decode cJ5_putChar 31 = .ok (.istore_n 1, 1) := dk_60 (dk_at dksJ5_putChar_1 7 rfl rfl)
theorem dJ5_putChar_32 : decode cJ5_putChar 32 = .ok (.aload_n 0, 1) := dk_42 (dk_at dksJ5_putChar_1 8 rfl rfl)
theorem dJ5_putChar_33 : decode cJ5_putChar 33 = .ok (.iload_n 1, 1) := dk_27 (dk_at dksJ5_putChar_1 9 rfl rfl)
theorem dJ5_putChar_34 : decode cJ5_putChar 34 = .ok (.iinc 1 1, 3) := dk_132 1 1 (dk_at dksJ5_putChar_1 10 rfl rfl)
theorem dJ5_putChar_37 : decode cJ5_putChar 37 = .ok (.iload_n 2, 1) := dk_28 (dk_at dksJ5_putChar_1 13 rfl rfl)
theorem dJ5_putChar_38 : decode cJ5_putChar 38 = .ok (.getstatic 59, 3) := dk_178 0 59 (dk_at dksJ5_putChar_1 14 rfl rfl)
theorem dJ5_putChar_41 : decode cJ5_putChar 41 = .ok (.ishr, 1) := dk_122 (dk_at dksJ5_putChar_1 17 rfl rfl)
theorem dJ5_putChar_42 : decode cJ5_putChar 42 = .ok (.i2b, 1) := dk_145 (dk_at dksJ5_putChar_1 18 rfl rfl)
theorem dJ5_putChar_43 : decode cJ5_putChar 43 = .ok (.bastore, 1) := dk_84 (dk_at dksJ5_putChar_1 19 rfl rfl)
theorem dJ5_putChar_44 : decode cJ5_putChar 44 = .ok (.aload_n 0, 1) := dk_42 (dk_at dksJ5_putChar_1 20 rfl rfl)
theorem dJ5_putChar_45 : decode cJ5_putChar 45 = .ok (.iload_n 1, 1) := dk_27 (dk_at dksJ5_putChar_1 21 rfl rfl)
theorem dJ5_putChar_46 : decode cJ5_putChar 46 = .ok (.iload_n 2, 1) := dk_28 (dk_at dksJ5_putChar_1 22 rfl rfl)
theorem dJ5_putChar_47 : decode cJ5_putChar 47 = .ok (.getstatic 63, 3) := dk_178 0 63 (dk_at dksJ5_putChar_2 0 rfl rfl)
theorem dJ5_putChar_50 : decode cJ5_putChar 50 = .ok (.ishr, 1) := dk_122 (dk_at dksJ5_putChar_2 3 rfl rfl)
theorem dJ5_putChar_51 : decode cJ5_putChar 51 = .ok (.i2b, 1) := dk_145 (dk_at dksJ5_putChar_2 4 rfl rfl)
theorem dJ5_putChar_52 : decode cJ5_putChar 52 = .ok (.bastore, 1) := dk_84 (dk_at dksJ5_putChar_2 5 rfl rfl)
theorem dJ5_putChar_53 : decode cJ5_putChar 53 = .ok (.return_, 1) := dk_177 (dk_at dksJ5_putChar_2 6 rfl rfl)
abbrev cJ5_inflate : ByteArray := prog_34_method_86_code
def yJ5_inflate : MethodName := ⟨RJ5, "inflate", "([BI[BII)V"⟩
def dkwJ5_inflate_1 : List UInt8 := [132, 1, 1, 51, 17, 0, 255, 126, 184, 0, 111, 132, 5, 1, 167, 255, 228, 177]
abbrev dktJ5_inflate_1 : List UInt8 := dkwJ5_inflate_1 ++ []
def dkwJ5_inflate_0 : List UInt8 := [29, 21, 4, 44, 184, 0, 173, 3, 54, 5, 21, 5, 21, 4, 162, 0, 27, 44, 29, 132, 3, 1, 42, 27]
abbrev dktJ5_inflate_0 : List UInt8 := dkwJ5_inflate_0 ++ dktJ5_inflate_1
theorem dksJ5_inflate_0 : cJ5_inflate.data.toList.drop 0 = dktJ5_inflate_0 := by decide +kernel
theorem dksJ5_inflate_1 : cJ5_inflate.data.toList.drop 24 = dktJ5_inflate_1 := dk_seg dksJ5_inflate_0 24 rfl rfl
theorem dJ5_inflate_0 : decode cJ5_inflate 0 = .ok (.iload_n 3, 1) := dk_29 (dk_at dksJ5_inflate_0 0 rfl rfl)
theorem dJ5_inflate_1 : decode cJ5_inflate 1 = .ok (.iload 4, 2) := dk_21 4 (dk_at dksJ5_inflate_0 1 rfl rfl)
theorem dJ5_inflate_3 : decode cJ5_inflate 3 = .ok (.aload_n 2, 1) := dk_44 (dk_at dksJ5_inflate_0 3 rfl rfl)
theorem dJ5_inflate_4 : decode cJ5_inflate 4 = .ok (.invokestatic 173, 3) := dk_184 0 173 (dk_at dksJ5_inflate_0 4 rfl rfl)
theorem dJ5_inflate_7 : decode cJ5_inflate 7 = .ok (.iconst 0, 1) := dk_3 (dk_at dksJ5_inflate_0 7 rfl rfl)
theorem dJ5_inflate_8 : decode cJ5_inflate 8 = .ok (.istore 5, 2) := dk_54 5 (dk_at dksJ5_inflate_0 8 rfl rfl)
theorem dJ5_inflate_10 : decode cJ5_inflate 10 = .ok (.iload 5, 2) := dk_21 5 (dk_at dksJ5_inflate_0 10 rfl rfl)
theorem dJ5_inflate_12 : decode cJ5_inflate 12 = .ok (.iload 4, 2) := dk_21 4 (dk_at dksJ5_inflate_0 12 rfl rfl)
theorem dJ5_inflate_14 : decode cJ5_inflate 14 = .ok (.if_icmp .ge 27, 3) := dk_162 0 27 (dk_at dksJ5_inflate_0 14 rfl rfl)
theorem dJ5_inflate_17 : decode cJ5_inflate 17 = .ok (.aload_n 2, 1) := dk_44 (dk_at dksJ5_inflate_0 17 rfl rfl)
theorem dJ5_inflate_18 : decode cJ5_inflate 18 = .ok (.iload_n 3, 1) := dk_29 (dk_at dksJ5_inflate_0 18 rfl rfl)
theorem dJ5_inflate_19 : decode cJ5_inflate 19 = .ok (.iinc 3 1, 3) := dk_132 3 1 (dk_at dksJ5_inflate_0 19 rfl rfl)
theorem dJ5_inflate_22 : decode cJ5_inflate 22 = .ok (.aload_n 0, 1) := dk_42 (dk_at dksJ5_inflate_0 22 rfl rfl)
theorem dJ5_inflate_23 : decode cJ5_inflate 23 = .ok (.iload_n 1, 1) := dk_27 (dk_at dksJ5_inflate_0 23 rfl rfl)
theorem dJ5_inflate_24 : decode cJ5_inflate 24 = .ok (.iinc 1 1, 3) := dk_132 1 1 (dk_at dksJ5_inflate_1 0 rfl rfl)
theorem dJ5_inflate_27 : decode cJ5_inflate 27 = .ok (.baload, 1) := dk_51 (dk_at dksJ5_inflate_1 3 rfl rfl)
theorem dJ5_inflate_28 : decode cJ5_inflate 28 = .ok (.sipush 255, 3) := dk_17 0 255 (dk_at dksJ5_inflate_1 4 rfl rfl)
theorem dJ5_inflate_31 : decode cJ5_inflate 31 = .ok (.iand, 1) := dk_126 (dk_at dksJ5_inflate_1 7 rfl rfl)
theorem dJ5_inflate_32 : decode cJ5_inflate 32 = .ok (.invokestatic 111, 3) := dk_184 0 111 (dk_at dksJ5_inflate_1 8 rfl rfl)
theorem dJ5_inflate_35 : decode cJ5_inflate 35 = .ok (.iinc 5 1, 3) := dk_132 5 1 (dk_at dksJ5_inflate_1 11 rfl rfl)
theorem dJ5_inflate_38 : decode cJ5_inflate 38 = .ok (.goto (-28), 3) := dk_167 255 228 (dk_at dksJ5_inflate_1 14 rfl rfl)
theorem dJ5_inflate_41 : decode cJ5_inflate 41 = .ok (.return_, 1) := dk_177 (dk_at dksJ5_inflate_1 17 rfl rfl)
abbrev cJ5_checkBoundsOffCount : ByteArray := prog_34_method_94_code
def yJ5_checkBoundsOffCount : MethodName := ⟨RJ5, "checkBoundsOffCount", "(II[B)V"⟩
def dkwJ5_checkBoundsOffCount_0 : List UInt8 := [26, 27, 44, 184, 0, 48, 184, 1, 163, 87, 177]
abbrev dktJ5_checkBoundsOffCount_0 : List UInt8 := dkwJ5_checkBoundsOffCount_0 ++ []
theorem dksJ5_checkBoundsOffCount_0 : cJ5_checkBoundsOffCount.data.toList.drop 0 = dktJ5_checkBoundsOffCount_0 := by decide +kernel
theorem dJ5_checkBoundsOffCount_0 : decode cJ5_checkBoundsOffCount 0 = .ok (.iload_n 0, 1) := dk_26 (dk_at dksJ5_checkBoundsOffCount_0 0 rfl rfl)
theorem dJ5_checkBoundsOffCount_1 : decode cJ5_checkBoundsOffCount 1 = .ok (.iload_n 1, 1) := dk_27 (dk_at dksJ5_checkBoundsOffCount_0 1 rfl rfl)
theorem dJ5_checkBoundsOffCount_2 : decode cJ5_checkBoundsOffCount 2 = .ok (.aload_n 2, 1) := dk_44 (dk_at dksJ5_checkBoundsOffCount_0 2 rfl rfl)
theorem dJ5_checkBoundsOffCount_3 : decode cJ5_checkBoundsOffCount 3 = .ok (.invokestatic 48, 3) := dk_184 0 48 (dk_at dksJ5_checkBoundsOffCount_0 3 rfl rfl)
theorem dJ5_checkBoundsOffCount_6 : decode cJ5_checkBoundsOffCount 6 = .ok (.invokestatic 419, 3) := dk_184 1 163 (dk_at dksJ5_checkBoundsOffCount_0 6 rfl rfl)
theorem dJ5_checkBoundsOffCount_9 : decode cJ5_checkBoundsOffCount 9 = .ok (.pop, 1) := dk_87 (dk_at dksJ5_checkBoundsOffCount_0 9 rfl rfl)
theorem dJ5_checkBoundsOffCount_10 : decode cJ5_checkBoundsOffCount 10 = .ok (.return_, 1) := dk_177 (dk_at dksJ5_checkBoundsOffCount_0 10 rfl rfl)
abbrev cJ5_getChars : ByteArray := prog_34_method_77_code
def yJ5_getChars : MethodName := ⟨RJ5, "getChars", "(III[B)I"⟩
def dkwJ5_getChars_1 : List UInt8 := [159, 0, 11, 187, 0, 52, 89, 183, 0, 66, 191, 21, 4, 172]
abbrev dktJ5_getChars_1 : List UInt8 := dkwJ5_getChars_1 ++ []
def dkwJ5_getChars_0 : List UInt8 := [27, 28, 45, 184, 0, 96, 26, 28, 45, 184, 1, 137, 54, 4, 178, 0, 44, 154, 0, 17, 27, 21, 4]
abbrev dktJ5_getChars_0 : List UInt8 := dkwJ5_getChars_0 ++ dktJ5_getChars_1
theorem dksJ5_getChars_0 : cJ5_getChars.data.toList.drop 0 = dktJ5_getChars_0 := by decide +kernel
theorem dksJ5_getChars_1 : cJ5_getChars.data.toList.drop 23 = dktJ5_getChars_1 := dk_seg dksJ5_getChars_0 23 rfl rfl
theorem dJ5_getChars_0 : decode cJ5_getChars 0 = .ok (.iload_n 1, 1) := dk_27 (dk_at dksJ5_getChars_0 0 rfl rfl)
theorem dJ5_getChars_1 : decode cJ5_getChars 1 = .ok (.iload_n 2, 1) := dk_28 (dk_at dksJ5_getChars_0 1 rfl rfl)
theorem dJ5_getChars_2 : decode cJ5_getChars 2 = .ok (.aload_n 3, 1) := dk_45 (dk_at dksJ5_getChars_0 2 rfl rfl)
theorem dJ5_getChars_3 : decode cJ5_getChars 3 = .ok (.invokestatic 96, 3) := dk_184 0 96 (dk_at dksJ5_getChars_0 3 rfl rfl)
theorem dJ5_getChars_6 : decode cJ5_getChars 6 = .ok (.iload_n 0, 1) := dk_26 (dk_at dksJ5_getChars_0 6 rfl rfl)
theorem dJ5_getChars_7 : decode cJ5_getChars 7 = .ok (.iload_n 2, 1) := dk_28 (dk_at dksJ5_getChars_0 7 rfl rfl)
theorem dJ5_getChars_8 : decode cJ5_getChars 8 = .ok (.aload_n 3, 1) := dk_45 (dk_at dksJ5_getChars_0 8 rfl rfl)
theorem dJ5_getChars_9 : decode cJ5_getChars 9 = .ok (.invokestatic 393, 3) := dk_184 1 137 (dk_at dksJ5_getChars_0 9 rfl rfl)
theorem dJ5_getChars_12 : decode cJ5_getChars 12 = .ok (.istore 4, 2) := dk_54 4 (dk_at dksJ5_getChars_0 12 rfl rfl)
theorem dJ5_getChars_14 : decode cJ5_getChars 14 = .ok (.getstatic 44, 3) := dk_178 0 44 (dk_at dksJ5_getChars_0 14 rfl rfl)
theorem dJ5_getChars_17 : decode cJ5_getChars 17 = .ok (.ifCond .ne 17, 3) := dk_154 0 17 (dk_at dksJ5_getChars_0 17 rfl rfl)
theorem dJ5_getChars_20 : decode cJ5_getChars 20 = .ok (.iload_n 1, 1) := dk_27 (dk_at dksJ5_getChars_0 20 rfl rfl)
theorem dJ5_getChars_21 : decode cJ5_getChars 21 = .ok (.iload 4, 2) := dk_21 4 (dk_at dksJ5_getChars_0 21 rfl rfl)
theorem dJ5_getChars_23 : decode cJ5_getChars 23 = .ok (.if_icmp .eq 11, 3) := dk_159 0 11 (dk_at dksJ5_getChars_1 0 rfl rfl)
theorem dJ5_getChars_26 : decode cJ5_getChars 26 = .ok (.new 52, 3) := dk_187 0 52 (dk_at dksJ5_getChars_1 3 rfl rfl)
theorem dJ5_getChars_29 : decode cJ5_getChars 29 = .ok (.dup, 1) := dk_89 (dk_at dksJ5_getChars_1 6 rfl rfl)
theorem dJ5_getChars_30 : decode cJ5_getChars 30 = .ok (.invokespecial 66, 3) := dk_183 0 66 (dk_at dksJ5_getChars_1 7 rfl rfl)
theorem dJ5_getChars_33 : decode cJ5_getChars 33 = .ok (.athrow, 1) := dk_191 (dk_at dksJ5_getChars_1 10 rfl rfl)
theorem dJ5_getChars_34 : decode cJ5_getChars 34 = .ok (.iload 4, 2) := dk_21 4 (dk_at dksJ5_getChars_1 11 rfl rfl)
theorem dJ5_getChars_36 : decode cJ5_getChars 36 = .ok (.ireturn, 1) := dk_172 (dk_at dksJ5_getChars_1 13 rfl rfl)
abbrev cJ5_getChars_2 : ByteArray := prog_34_method_89_code
def yJ5_getChars_2 : MethodName := ⟨RJ5, "getChars", "(II[B)I"⟩
def dkwJ5_getChars_2_5 : List UInt8 := [132, 5, 255, 21, 5, 16, 45, 184, 0, 111, 21, 5, 172]
abbrev dktJ5_getChars_2_5 : List UInt8 := dkwJ5_getChars_2_5 ++ []
def dkwJ5_getChars_2_4 : List UInt8 := [162, 0, 18, 44, 132, 5, 255, 21, 5, 178, 1, 151, 26, 116, 51, 184, 0, 111, 21, 6, 153, 0, 14, 44]
abbrev dktJ5_getChars_2_4 : List UInt8 := dkwJ5_getChars_2_4 ++ dktJ5_getChars_2_5
def dkwJ5_getChars_2_3 : List UInt8 := [184, 0, 111, 167, 255, 205, 44, 132, 5, 255, 21, 5, 178, 1, 147, 26, 116, 51, 184, 0, 111, 26, 16, 247]
abbrev dktJ5_getChars_2_3 : List UInt8 := dkwJ5_getChars_2_3 ++ dktJ5_getChars_2_4
def dkwJ5_getChars_2_2 : List UInt8 := [21, 5, 178, 1, 147, 21, 4, 51, 184, 0, 111, 44, 132, 5, 255, 21, 5, 178, 1, 151, 21, 4, 51]
abbrev dktJ5_getChars_2_2 : List UInt8 := dkwJ5_getChars_2_2 ++ dktJ5_getChars_2_3
def dkwJ5_getChars_2_1 : List UInt8 := [16, 156, 163, 0, 51, 26, 16, 100, 108, 62, 29, 16, 100, 104, 26, 100, 54, 4, 29, 59, 44, 132, 5, 255]
abbrev dktJ5_getChars_2_1 : List UInt8 := dkwJ5_getChars_2_1 ++ dktJ5_getChars_2_2
def dkwJ5_getChars_2_0 : List UInt8 := [27, 54, 5, 26, 156, 0, 7, 4, 167, 0, 4, 3, 54, 6, 21, 6, 154, 0, 6, 26, 116, 59, 26]
abbrev dktJ5_getChars_2_0 : List UInt8 := dkwJ5_getChars_2_0 ++ dktJ5_getChars_2_1
theorem dksJ5_getChars_2_0 : cJ5_getChars_2.data.toList.drop 0 = dktJ5_getChars_2_0 := by decide +kernel
theorem dksJ5_getChars_2_1 : cJ5_getChars_2.data.toList.drop 23 = dktJ5_getChars_2_1 := dk_seg dksJ5_getChars_2_0 23 rfl rfl
theorem dksJ5_getChars_2_2 : cJ5_getChars_2.data.toList.drop 47 = dktJ5_getChars_2_2 := dk_seg dksJ5_getChars_2_1 24 rfl rfl
theorem dksJ5_getChars_2_3 : cJ5_getChars_2.data.toList.drop 70 = dktJ5_getChars_2_3 := dk_seg dksJ5_getChars_2_2 23 rfl rfl
theorem dksJ5_getChars_2_4 : cJ5_getChars_2.data.toList.drop 94 = dktJ5_getChars_2_4 := dk_seg dksJ5_getChars_2_3 24 rfl rfl
theorem dksJ5_getChars_2_5 : cJ5_getChars_2.data.toList.drop 118 = dktJ5_getChars_2_5 := dk_seg dksJ5_getChars_2_4 24 rfl rfl
theorem dJ5_getChars_2_0 : decode cJ5_getChars_2 0 = .ok (.iload_n 1, 1) := dk_27 (dk_at dksJ5_getChars_2_0 0 rfl rfl)
theorem dJ5_getChars_2_1 : decode cJ5_getChars_2 1 = .ok (.istore 5, 2) := dk_54 5 (dk_at dksJ5_getChars_2_0 1 rfl rfl)
theorem dJ5_getChars_2_3 : decode cJ5_getChars_2 3 = .ok (.iload_n 0, 1) := dk_26 (dk_at dksJ5_getChars_2_0 3 rfl rfl)
theorem dJ5_getChars_2_4 : decode cJ5_getChars_2 4 = .ok (.ifCond .ge 7, 3) := dk_156 0 7 (dk_at dksJ5_getChars_2_0 4 rfl rfl)
theorem dJ5_getChars_2_7 : decode cJ5_getChars_2 7 = .ok (.iconst 1, 1) := dk_4 (dk_at dksJ5_getChars_2_0 7 rfl rfl)
theorem dJ5_getChars_2_8 : decode cJ5_getChars_2 8 = .ok (.goto 4, 3) := dk_167 0 4 (dk_at dksJ5_getChars_2_0 8 rfl rfl)
theorem dJ5_getChars_2_11 : decode cJ5_getChars_2 11 = .ok (.iconst 0, 1) := dk_3 (dk_at dksJ5_getChars_2_0 11 rfl rfl)
theorem dJ5_getChars_2_12 : decode cJ5_getChars_2 12 = .ok (.istore 6, 2) := dk_54 6 (dk_at dksJ5_getChars_2_0 12 rfl rfl)
theorem dJ5_getChars_2_14 : decode cJ5_getChars_2 14 = .ok (.iload 6, 2) := dk_21 6 (dk_at dksJ5_getChars_2_0 14 rfl rfl)
theorem dJ5_getChars_2_16 : decode cJ5_getChars_2 16 = .ok (.ifCond .ne 6, 3) := dk_154 0 6 (dk_at dksJ5_getChars_2_0 16 rfl rfl)
theorem dJ5_getChars_2_19 : decode cJ5_getChars_2 19 = .ok (.iload_n 0, 1) := dk_26 (dk_at dksJ5_getChars_2_0 19 rfl rfl)
theorem dJ5_getChars_2_20 : decode cJ5_getChars_2 20 = .ok (.ineg, 1) := dk_116 (dk_at dksJ5_getChars_2_0 20 rfl rfl)
theorem dJ5_getChars_2_21 : decode cJ5_getChars_2 21 = .ok (.istore_n 0, 1) := dk_59 (dk_at dksJ5_getChars_2_0 21 rfl rfl)
theorem dJ5_getChars_2_22 : decode cJ5_getChars_2 22 = .ok (.iload_n 0, 1) := dk_26 (dk_at dksJ5_getChars_2_0 22 rfl rfl)
theorem dJ5_getChars_2_23 : decode cJ5_getChars_2 23 = .ok (.bipush (-100), 2) := dk_16 156 (dk_at dksJ5_getChars_2_1 0 rfl rfl)
theorem dJ5_getChars_2_25 : decode cJ5_getChars_2 25 = .ok (.if_icmp .gt 51, 3) := dk_163 0 51 (dk_at dksJ5_getChars_2_1 2 rfl rfl)
theorem dJ5_getChars_2_28 : decode cJ5_getChars_2 28 = .ok (.iload_n 0, 1) := dk_26 (dk_at dksJ5_getChars_2_1 5 rfl rfl)
theorem dJ5_getChars_2_29 : decode cJ5_getChars_2 29 = .ok (.bipush 100, 2) := dk_16 100 (dk_at dksJ5_getChars_2_1 6 rfl rfl)
theorem dJ5_getChars_2_31 : decode cJ5_getChars_2 31 = .ok (.idiv, 1) := dk_108 (dk_at dksJ5_getChars_2_1 8 rfl rfl)
theorem dJ5_getChars_2_32 : decode cJ5_getChars_2 32 = .ok (.istore_n 3, 1) := dk_62 (dk_at dksJ5_getChars_2_1 9 rfl rfl)
theorem dJ5_getChars_2_33 : decode cJ5_getChars_2 33 = .ok (.iload_n 3, 1) := dk_29 (dk_at dksJ5_getChars_2_1 10 rfl rfl)
theorem dJ5_getChars_2_34 : decode cJ5_getChars_2 34 = .ok (.bipush 100, 2) := dk_16 100 (dk_at dksJ5_getChars_2_1 11 rfl rfl)
theorem dJ5_getChars_2_36 : decode cJ5_getChars_2 36 = .ok (.imul, 1) := dk_104 (dk_at dksJ5_getChars_2_1 13 rfl rfl)
theorem dJ5_getChars_2_37 : decode cJ5_getChars_2 37 = .ok (.iload_n 0, 1) := dk_26 (dk_at dksJ5_getChars_2_1 14 rfl rfl)
theorem dJ5_getChars_2_38 : decode cJ5_getChars_2 38 = .ok (.isub, 1) := dk_100 (dk_at dksJ5_getChars_2_1 15 rfl rfl)
theorem dJ5_getChars_2_39 : decode cJ5_getChars_2 39 = .ok (.istore 4, 2) := dk_54 4 (dk_at dksJ5_getChars_2_1 16 rfl rfl)
theorem dJ5_getChars_2_41 : decode cJ5_getChars_2 41 = .ok (.iload_n 3, 1) := dk_29 (dk_at dksJ5_getChars_2_1 18 rfl rfl)
theorem dJ5_getChars_2_42 : decode cJ5_getChars_2 42 = .ok (.istore_n 0, 1) := dk_59 (dk_at dksJ5_getChars_2_1 19 rfl rfl)
theorem dJ5_getChars_2_43 : decode cJ5_getChars_2 43 = .ok (.aload_n 2, 1) := dk_44 (dk_at dksJ5_getChars_2_1 20 rfl rfl)
theorem dJ5_getChars_2_44 : decode cJ5_getChars_2 44 = .ok (.iinc 5 (-1), 3) := dk_132 5 255 (dk_at dksJ5_getChars_2_1 21 rfl rfl)
theorem dJ5_getChars_2_47 : decode cJ5_getChars_2 47 = .ok (.iload 5, 2) := dk_21 5 (dk_at dksJ5_getChars_2_2 0 rfl rfl)
theorem dJ5_getChars_2_49 : decode cJ5_getChars_2 49 = .ok (.getstatic 403, 3) := dk_178 1 147 (dk_at dksJ5_getChars_2_2 2 rfl rfl)
theorem dJ5_getChars_2_52 : decode cJ5_getChars_2 52 = .ok (.iload 4, 2) := dk_21 4 (dk_at dksJ5_getChars_2_2 5 rfl rfl)
theorem dJ5_getChars_2_54 : decode cJ5_getChars_2 54 = .ok (.baload, 1) := dk_51 (dk_at dksJ5_getChars_2_2 7 rfl rfl)
theorem dJ5_getChars_2_55 : decode cJ5_getChars_2 55 = .ok (.invokestatic 111, 3) := dk_184 0 111 (dk_at dksJ5_getChars_2_2 8 rfl rfl)
theorem dJ5_getChars_2_58 : decode cJ5_getChars_2 58 = .ok (.aload_n 2, 1) := dk_44 (dk_at dksJ5_getChars_2_2 11 rfl rfl)
theorem dJ5_getChars_2_59 : decode cJ5_getChars_2 59 = .ok (.iinc 5 (-1), 3) := dk_132 5 255 (dk_at dksJ5_getChars_2_2 12 rfl rfl)
theorem dJ5_getChars_2_62 : decode cJ5_getChars_2 62 = .ok (.iload 5, 2) := dk_21 5 (dk_at dksJ5_getChars_2_2 15 rfl rfl)
theorem dJ5_getChars_2_64 : decode cJ5_getChars_2 64 = .ok (.getstatic 407, 3) := dk_178 1 151 (dk_at dksJ5_getChars_2_2 17 rfl rfl)
theorem dJ5_getChars_2_67 : decode cJ5_getChars_2 67 = .ok (.iload 4, 2) := dk_21 4 (dk_at dksJ5_getChars_2_2 20 rfl rfl)
theorem dJ5_getChars_2_69 : decode cJ5_getChars_2 69 = .ok (.baload, 1) := dk_51 (dk_at dksJ5_getChars_2_2 22 rfl rfl)
theorem dJ5_getChars_2_70 : decode cJ5_getChars_2 70 = .ok (.invokestatic 111, 3) := dk_184 0 111 (dk_at dksJ5_getChars_2_3 0 rfl rfl)
theorem dJ5_getChars_2_73 : decode cJ5_getChars_2 73 = .ok (.goto (-51), 3) := dk_167 255 205 (dk_at dksJ5_getChars_2_3 3 rfl rfl)
theorem dJ5_getChars_2_76 : decode cJ5_getChars_2 76 = .ok (.aload_n 2, 1) := dk_44 (dk_at dksJ5_getChars_2_3 6 rfl rfl)
theorem dJ5_getChars_2_77 : decode cJ5_getChars_2 77 = .ok (.iinc 5 (-1), 3) := dk_132 5 255 (dk_at dksJ5_getChars_2_3 7 rfl rfl)
theorem dJ5_getChars_2_80 : decode cJ5_getChars_2 80 = .ok (.iload 5, 2) := dk_21 5 (dk_at dksJ5_getChars_2_3 10 rfl rfl)
theorem dJ5_getChars_2_82 : decode cJ5_getChars_2 82 = .ok (.getstatic 403, 3) := dk_178 1 147 (dk_at dksJ5_getChars_2_3 12 rfl rfl)
theorem dJ5_getChars_2_85 : decode cJ5_getChars_2 85 = .ok (.iload_n 0, 1) := dk_26 (dk_at dksJ5_getChars_2_3 15 rfl rfl)
theorem dJ5_getChars_2_86 : decode cJ5_getChars_2 86 = .ok (.ineg, 1) := dk_116 (dk_at dksJ5_getChars_2_3 16 rfl rfl)
theorem dJ5_getChars_2_87 : decode cJ5_getChars_2 87 = .ok (.baload, 1) := dk_51 (dk_at dksJ5_getChars_2_3 17 rfl rfl)
theorem dJ5_getChars_2_88 : decode cJ5_getChars_2 88 = .ok (.invokestatic 111, 3) := dk_184 0 111 (dk_at dksJ5_getChars_2_3 18 rfl rfl)
theorem dJ5_getChars_2_91 : decode cJ5_getChars_2 91 = .ok (.iload_n 0, 1) := dk_26 (dk_at dksJ5_getChars_2_3 21 rfl rfl)
theorem dJ5_getChars_2_92 : decode cJ5_getChars_2 92 = .ok (.bipush (-9), 2) := dk_16 247 (dk_at dksJ5_getChars_2_3 22 rfl rfl)
theorem dJ5_getChars_2_94 : decode cJ5_getChars_2 94 = .ok (.if_icmp .ge 18, 3) := dk_162 0 18 (dk_at dksJ5_getChars_2_4 0 rfl rfl)
theorem dJ5_getChars_2_97 : decode cJ5_getChars_2 97 = .ok (.aload_n 2, 1) := dk_44 (dk_at dksJ5_getChars_2_4 3 rfl rfl)
theorem dJ5_getChars_2_98 : decode cJ5_getChars_2 98 = .ok (.iinc 5 (-1), 3) := dk_132 5 255 (dk_at dksJ5_getChars_2_4 4 rfl rfl)
theorem dJ5_getChars_2_101 : decode cJ5_getChars_2 101 = .ok (.iload 5, 2) := dk_21 5 (dk_at dksJ5_getChars_2_4 7 rfl rfl)
theorem dJ5_getChars_2_103 : decode cJ5_getChars_2 103 = .ok (.getstatic 407, 3) := dk_178 1 151 (dk_at dksJ5_getChars_2_4 9 rfl rfl)
theorem dJ5_getChars_2_106 : decode cJ5_getChars_2 106 = .ok (.iload_n 0, 1) := dk_26 (dk_at dksJ5_getChars_2_4 12 rfl rfl)
theorem dJ5_getChars_2_107 : decode cJ5_getChars_2 107 = .ok (.ineg, 1) := dk_116 (dk_at dksJ5_getChars_2_4 13 rfl rfl)
theorem dJ5_getChars_2_108 : decode cJ5_getChars_2 108 = .ok (.baload, 1) := dk_51 (dk_at dksJ5_getChars_2_4 14 rfl rfl)
theorem dJ5_getChars_2_109 : decode cJ5_getChars_2 109 = .ok (.invokestatic 111, 3) := dk_184 0 111 (dk_at dksJ5_getChars_2_4 15 rfl rfl)
theorem dJ5_getChars_2_112 : decode cJ5_getChars_2 112 = .ok (.iload 6, 2) := dk_21 6 (dk_at dksJ5_getChars_2_4 18 rfl rfl)
theorem dJ5_getChars_2_114 : decode cJ5_getChars_2 114 = .ok (.ifCond .eq 14, 3) := dk_153 0 14 (dk_at dksJ5_getChars_2_4 20 rfl rfl)
theorem dJ5_getChars_2_117 : decode cJ5_getChars_2 117 = .ok (.aload_n 2, 1) := dk_44 (dk_at dksJ5_getChars_2_4 23 rfl rfl)
theorem dJ5_getChars_2_118 : decode cJ5_getChars_2 118 = .ok (.iinc 5 (-1), 3) := dk_132 5 255 (dk_at dksJ5_getChars_2_5 0 rfl rfl)
theorem dJ5_getChars_2_121 : decode cJ5_getChars_2 121 = .ok (.iload 5, 2) := dk_21 5 (dk_at dksJ5_getChars_2_5 3 rfl rfl)
theorem dJ5_getChars_2_123 : decode cJ5_getChars_2 123 = .ok (.bipush 45, 2) := dk_16 45 (dk_at dksJ5_getChars_2_5 5 rfl rfl)
theorem dJ5_getChars_2_125 : decode cJ5_getChars_2 125 = .ok (.invokestatic 111, 3) := dk_184 0 111 (dk_at dksJ5_getChars_2_5 7 rfl rfl)
theorem dJ5_getChars_2_128 : decode cJ5_getChars_2 128 = .ok (.iload 5, 2) := dk_21 5 (dk_at dksJ5_getChars_2_5 10 rfl rfl)
theorem dJ5_getChars_2_130 : decode cJ5_getChars_2 130 = .ok (.ireturn, 1) := dk_172 (dk_at dksJ5_getChars_2_5 12 rfl rfl)
abbrev cJ5_compress : ByteArray := prog_34_method_17_code
def yJ5_compress : MethodName := ⟨RJ5, "compress", "([BII)[B"⟩
def dkwJ5_compress_2 : List UInt8 := [25, 5, 3, 45, 3, 28, 184, 0, 123, 28, 159, 0, 6, 25, 5, 176, 45, 176]
abbrev dktJ5_compress_2 : List UInt8 := dkwJ5_compress_2 ++ []
def dkwJ5_compress_1 : List UInt8 := [27, 28, 96, 184, 0, 11, 184, 0, 126, 58, 5, 25, 5, 21, 4, 184, 0, 71, 17, 0, 255, 163, 0, 16]
abbrev dktJ5_compress_1 : List UInt8 := dkwJ5_compress_1 ++ dktJ5_compress_2
def dkwJ5_compress_0 : List UInt8 := [28, 188, 8, 78, 42, 27, 45, 3, 28, 184, 0, 123, 54, 4, 21, 4, 28, 159, 0, 47, 42, 27, 4, 120]
abbrev dktJ5_compress_0 : List UInt8 := dkwJ5_compress_0 ++ dktJ5_compress_1
theorem dksJ5_compress_0 : cJ5_compress.data.toList.drop 0 = dktJ5_compress_0 := by decide +kernel
theorem dksJ5_compress_1 : cJ5_compress.data.toList.drop 24 = dktJ5_compress_1 := dk_seg dksJ5_compress_0 24 rfl rfl
theorem dksJ5_compress_2 : cJ5_compress.data.toList.drop 48 = dktJ5_compress_2 := dk_seg dksJ5_compress_1 24 rfl rfl
theorem dJ5_compress_0 : decode cJ5_compress 0 = .ok (.iload_n 2, 1) := dk_28 (dk_at dksJ5_compress_0 0 rfl rfl)
theorem dJ5_compress_1 : decode cJ5_compress 1 = .ok (.newarray .byte, 2) := dk_188_8 (dk_at dksJ5_compress_0 1 rfl rfl)
theorem dJ5_compress_3 : decode cJ5_compress 3 = .ok (.astore_n 3, 1) := dk_78 (dk_at dksJ5_compress_0 3 rfl rfl)
theorem dJ5_compress_4 : decode cJ5_compress 4 = .ok (.aload_n 0, 1) := dk_42 (dk_at dksJ5_compress_0 4 rfl rfl)
theorem dJ5_compress_5 : decode cJ5_compress 5 = .ok (.iload_n 1, 1) := dk_27 (dk_at dksJ5_compress_0 5 rfl rfl)
theorem dJ5_compress_6 : decode cJ5_compress 6 = .ok (.aload_n 3, 1) := dk_45 (dk_at dksJ5_compress_0 6 rfl rfl)
theorem dJ5_compress_7 : decode cJ5_compress 7 = .ok (.iconst 0, 1) := dk_3 (dk_at dksJ5_compress_0 7 rfl rfl)
theorem dJ5_compress_8 : decode cJ5_compress 8 = .ok (.iload_n 2, 1) := dk_28 (dk_at dksJ5_compress_0 8 rfl rfl)
theorem dJ5_compress_9 : decode cJ5_compress 9 = .ok (.invokestatic 123, 3) := dk_184 0 123 (dk_at dksJ5_compress_0 9 rfl rfl)
theorem dJ5_compress_12 : decode cJ5_compress 12 = .ok (.istore 4, 2) := dk_54 4 (dk_at dksJ5_compress_0 12 rfl rfl)
theorem dJ5_compress_14 : decode cJ5_compress 14 = .ok (.iload 4, 2) := dk_21 4 (dk_at dksJ5_compress_0 14 rfl rfl)
theorem dJ5_compress_16 : decode cJ5_compress 16 = .ok (.iload_n 2, 1) := dk_28 (dk_at dksJ5_compress_0 16 rfl rfl)
theorem dJ5_compress_17 : decode cJ5_compress 17 = .ok (.if_icmp .eq 47, 3) := dk_159 0 47 (dk_at dksJ5_compress_0 17 rfl rfl)
theorem dJ5_compress_20 : decode cJ5_compress 20 = .ok (.aload_n 0, 1) := dk_42 (dk_at dksJ5_compress_0 20 rfl rfl)
theorem dJ5_compress_21 : decode cJ5_compress 21 = .ok (.iload_n 1, 1) := dk_27 (dk_at dksJ5_compress_0 21 rfl rfl)
theorem dJ5_compress_22 : decode cJ5_compress 22 = .ok (.iconst 1, 1) := dk_4 (dk_at dksJ5_compress_0 22 rfl rfl)
theorem dJ5_compress_23 : decode cJ5_compress 23 = .ok (.ishl, 1) := dk_120 (dk_at dksJ5_compress_0 23 rfl rfl)
theorem dJ5_compress_24 : decode cJ5_compress 24 = .ok (.iload_n 1, 1) := dk_27 (dk_at dksJ5_compress_1 0 rfl rfl)
theorem dJ5_compress_25 : decode cJ5_compress 25 = .ok (.iload_n 2, 1) := dk_28 (dk_at dksJ5_compress_1 1 rfl rfl)
theorem dJ5_compress_26 : decode cJ5_compress 26 = .ok (.iadd, 1) := dk_96 (dk_at dksJ5_compress_1 2 rfl rfl)
theorem dJ5_compress_27 : decode cJ5_compress 27 = .ok (.invokestatic 11, 3) := dk_184 0 11 (dk_at dksJ5_compress_1 3 rfl rfl)
theorem dJ5_compress_30 : decode cJ5_compress 30 = .ok (.invokestatic 126, 3) := dk_184 0 126 (dk_at dksJ5_compress_1 6 rfl rfl)
theorem dJ5_compress_33 : decode cJ5_compress 33 = .ok (.astore 5, 2) := dk_58 5 (dk_at dksJ5_compress_1 9 rfl rfl)
theorem dJ5_compress_35 : decode cJ5_compress 35 = .ok (.aload 5, 2) := dk_25 5 (dk_at dksJ5_compress_1 11 rfl rfl)
theorem dJ5_compress_37 : decode cJ5_compress 37 = .ok (.iload 4, 2) := dk_21 4 (dk_at dksJ5_compress_1 13 rfl rfl)
theorem dJ5_compress_39 : decode cJ5_compress 39 = .ok (.invokestatic 71, 3) := dk_184 0 71 (dk_at dksJ5_compress_1 15 rfl rfl)
theorem dJ5_compress_42 : decode cJ5_compress 42 = .ok (.sipush 255, 3) := dk_17 0 255 (dk_at dksJ5_compress_1 18 rfl rfl)
theorem dJ5_compress_45 : decode cJ5_compress 45 = .ok (.if_icmp .gt 16, 3) := dk_163 0 16 (dk_at dksJ5_compress_1 21 rfl rfl)
theorem dJ5_compress_48 : decode cJ5_compress 48 = .ok (.aload 5, 2) := dk_25 5 (dk_at dksJ5_compress_2 0 rfl rfl)
theorem dJ5_compress_50 : decode cJ5_compress 50 = .ok (.iconst 0, 1) := dk_3 (dk_at dksJ5_compress_2 2 rfl rfl)
theorem dJ5_compress_51 : decode cJ5_compress 51 = .ok (.aload_n 3, 1) := dk_45 (dk_at dksJ5_compress_2 3 rfl rfl)
theorem dJ5_compress_52 : decode cJ5_compress 52 = .ok (.iconst 0, 1) := dk_3 (dk_at dksJ5_compress_2 4 rfl rfl)
theorem dJ5_compress_53 : decode cJ5_compress 53 = .ok (.iload_n 2, 1) := dk_28 (dk_at dksJ5_compress_2 5 rfl rfl)
theorem dJ5_compress_54 : decode cJ5_compress 54 = .ok (.invokestatic 123, 3) := dk_184 0 123 (dk_at dksJ5_compress_2 6 rfl rfl)
theorem dJ5_compress_57 : decode cJ5_compress 57 = .ok (.iload_n 2, 1) := dk_28 (dk_at dksJ5_compress_2 9 rfl rfl)
theorem dJ5_compress_58 : decode cJ5_compress 58 = .ok (.if_icmp .eq 6, 3) := dk_159 0 6 (dk_at dksJ5_compress_2 10 rfl rfl)
theorem dJ5_compress_61 : decode cJ5_compress 61 = .ok (.aload 5, 2) := dk_25 5 (dk_at dksJ5_compress_2 13 rfl rfl)
theorem dJ5_compress_63 : decode cJ5_compress 63 = .ok (.areturn, 1) := dk_176 (dk_at dksJ5_compress_2 15 rfl rfl)
theorem dJ5_compress_64 : decode cJ5_compress 64 = .ok (.aload_n 3, 1) := dk_45 (dk_at dksJ5_compress_2 16 rfl rfl)
theorem dJ5_compress_65 : decode cJ5_compress 65 = .ok (.areturn, 1) := dk_176 (dk_at dksJ5_compress_2 17 rfl rfl)
abbrev cJ5_compress_2 : ByteArray := prog_34_method_22_code
def yJ5_compress_2 : MethodName := ⟨RJ5, "compress", "([BI[BII)I"⟩
def dkwJ5_compress_2_2 : List UInt8 := [132, 5, 1, 167, 255, 216, 21, 4, 172]
abbrev dktJ5_compress_2_2 : List UInt8 := dkwJ5_compress_2_2 ++ []
def dkwJ5_compress_2_1 : List UInt8 := [21, 6, 17, 0, 255, 164, 0, 6, 21, 5, 172, 44, 29, 21, 6, 145, 84, 132, 1, 1, 132, 3, 1]
abbrev dktJ5_compress_2_1 : List UInt8 := dkwJ5_compress_2_1 ++ dktJ5_compress_2_2
def dkwJ5_compress_2_0 : List UInt8 := [27, 21, 4, 42, 184, 0, 173, 3, 54, 5, 21, 5, 21, 4, 162, 0, 39, 42, 27, 184, 0, 71, 54, 6]
abbrev dktJ5_compress_2_0 : List UInt8 := dkwJ5_compress_2_0 ++ dktJ5_compress_2_1
theorem dksJ5_compress_2_0 : cJ5_compress_2.data.toList.drop 0 = dktJ5_compress_2_0 := by decide +kernel
theorem dksJ5_compress_2_1 : cJ5_compress_2.data.toList.drop 24 = dktJ5_compress_2_1 := dk_seg dksJ5_compress_2_0 24 rfl rfl
theorem dksJ5_compress_2_2 : cJ5_compress_2.data.toList.drop 47 = dktJ5_compress_2_2 := dk_seg dksJ5_compress_2_1 23 rfl rfl
theorem dJ5_compress_2_0 : decode cJ5_compress_2 0 = .ok (.iload_n 1, 1) := dk_27 (dk_at dksJ5_compress_2_0 0 rfl rfl)
theorem dJ5_compress_2_1 : decode cJ5_compress_2 1 = .ok (.iload 4, 2) := dk_21 4 (dk_at dksJ5_compress_2_0 1 rfl rfl)
theorem dJ5_compress_2_3 : decode cJ5_compress_2 3 = .ok (.aload_n 0, 1) := dk_42 (dk_at dksJ5_compress_2_0 3 rfl rfl)
theorem dJ5_compress_2_4 : decode cJ5_compress_2 4 = .ok (.invokestatic 173, 3) := dk_184 0 173 (dk_at dksJ5_compress_2_0 4 rfl rfl)
theorem dJ5_compress_2_7 : decode cJ5_compress_2 7 = .ok (.iconst 0, 1) := dk_3 (dk_at dksJ5_compress_2_0 7 rfl rfl)
theorem dJ5_compress_2_8 : decode cJ5_compress_2 8 = .ok (.istore 5, 2) := dk_54 5 (dk_at dksJ5_compress_2_0 8 rfl rfl)
theorem dJ5_compress_2_10 : decode cJ5_compress_2 10 = .ok (.iload 5, 2) := dk_21 5 (dk_at dksJ5_compress_2_0 10 rfl rfl)
theorem dJ5_compress_2_12 : decode cJ5_compress_2 12 = .ok (.iload 4, 2) := dk_21 4 (dk_at dksJ5_compress_2_0 12 rfl rfl)
theorem dJ5_compress_2_14 : decode cJ5_compress_2 14 = .ok (.if_icmp .ge 39, 3) := dk_162 0 39 (dk_at dksJ5_compress_2_0 14 rfl rfl)
theorem dJ5_compress_2_17 : decode cJ5_compress_2 17 = .ok (.aload_n 0, 1) := dk_42 (dk_at dksJ5_compress_2_0 17 rfl rfl)
theorem dJ5_compress_2_18 : decode cJ5_compress_2 18 = .ok (.iload_n 1, 1) := dk_27 (dk_at dksJ5_compress_2_0 18 rfl rfl)
theorem dJ5_compress_2_19 : decode cJ5_compress_2 19 = .ok (.invokestatic 71, 3) := dk_184 0 71 (dk_at dksJ5_compress_2_0 19 rfl rfl)
theorem dJ5_compress_2_22 : decode cJ5_compress_2 22 = .ok (.istore 6, 2) := dk_54 6 (dk_at dksJ5_compress_2_0 22 rfl rfl)
theorem dJ5_compress_2_24 : decode cJ5_compress_2 24 = .ok (.iload 6, 2) := dk_21 6 (dk_at dksJ5_compress_2_1 0 rfl rfl)
theorem dJ5_compress_2_26 : decode cJ5_compress_2 26 = .ok (.sipush 255, 3) := dk_17 0 255 (dk_at dksJ5_compress_2_1 2 rfl rfl)
theorem dJ5_compress_2_29 : decode cJ5_compress_2 29 = .ok (.if_icmp .le 6, 3) := dk_164 0 6 (dk_at dksJ5_compress_2_1 5 rfl rfl)
theorem dJ5_compress_2_32 : decode cJ5_compress_2 32 = .ok (.iload 5, 2) := dk_21 5 (dk_at dksJ5_compress_2_1 8 rfl rfl)
theorem dJ5_compress_2_34 : decode cJ5_compress_2 34 = .ok (.ireturn, 1) := dk_172 (dk_at dksJ5_compress_2_1 10 rfl rfl)
theorem dJ5_compress_2_35 : decode cJ5_compress_2 35 = .ok (.aload_n 2, 1) := dk_44 (dk_at dksJ5_compress_2_1 11 rfl rfl)
theorem dJ5_compress_2_36 : decode cJ5_compress_2 36 = .ok (.iload_n 3, 1) := dk_29 (dk_at dksJ5_compress_2_1 12 rfl rfl)
theorem dJ5_compress_2_37 : decode cJ5_compress_2 37 = .ok (.iload 6, 2) := dk_21 6 (dk_at dksJ5_compress_2_1 13 rfl rfl)
theorem dJ5_compress_2_39 : decode cJ5_compress_2 39 = .ok (.i2b, 1) := dk_145 (dk_at dksJ5_compress_2_1 15 rfl rfl)
theorem dJ5_compress_2_40 : decode cJ5_compress_2 40 = .ok (.bastore, 1) := dk_84 (dk_at dksJ5_compress_2_1 16 rfl rfl)
theorem dJ5_compress_2_41 : decode cJ5_compress_2 41 = .ok (.iinc 1 1, 3) := dk_132 1 1 (dk_at dksJ5_compress_2_1 17 rfl rfl)
theorem dJ5_compress_2_44 : decode cJ5_compress_2 44 = .ok (.iinc 3 1, 3) := dk_132 3 1 (dk_at dksJ5_compress_2_1 20 rfl rfl)
theorem dJ5_compress_2_47 : decode cJ5_compress_2 47 = .ok (.iinc 5 1, 3) := dk_132 5 1 (dk_at dksJ5_compress_2_2 0 rfl rfl)
theorem dJ5_compress_2_50 : decode cJ5_compress_2 50 = .ok (.goto (-40), 3) := dk_167 255 216 (dk_at dksJ5_compress_2_2 3 rfl rfl)
theorem dJ5_compress_2_53 : decode cJ5_compress_2 53 = .ok (.iload 4, 2) := dk_21 4 (dk_at dksJ5_compress_2_2 6 rfl rfl)
theorem dJ5_compress_2_55 : decode cJ5_compress_2 55 = .ok (.ireturn, 1) := dk_172 (dk_at dksJ5_compress_2_2 8 rfl rfl)
abbrev cJ5_getChar : ByteArray := prog_34_method_5_code
def yJ5_getChar : MethodName := ⟨RJ5, "getChar", "([BI)C"⟩
def dkwJ5_getChar_2 : List UInt8 := [51, 17, 0, 255, 126, 178, 0, 63, 120, 128, 146, 172]
abbrev dktJ5_getChar_2 : List UInt8 := dkwJ5_getChar_2 ++ []
def dkwJ5_getChar_1 : List UInt8 := [183, 0, 56, 191, 27, 4, 120, 60, 42, 27, 132, 1, 1, 51, 17, 0, 255, 126, 178, 0, 59, 120, 42, 27]
abbrev dktJ5_getChar_1 : List UInt8 := dkwJ5_getChar_1 ++ dktJ5_getChar_2
def dkwJ5_getChar_0 : List UInt8 := [178, 0, 44, 154, 0, 25, 27, 155, 0, 11, 27, 42, 184, 0, 48, 161, 0, 13, 187, 0, 52, 89, 18, 54]
abbrev dktJ5_getChar_0 : List UInt8 := dkwJ5_getChar_0 ++ dktJ5_getChar_1
theorem dksJ5_getChar_0 : cJ5_getChar.data.toList.drop 0 = dktJ5_getChar_0 := by decide +kernel
theorem dksJ5_getChar_1 : cJ5_getChar.data.toList.drop 24 = dktJ5_getChar_1 := dk_seg dksJ5_getChar_0 24 rfl rfl
theorem dksJ5_getChar_2 : cJ5_getChar.data.toList.drop 48 = dktJ5_getChar_2 := dk_seg dksJ5_getChar_1 24 rfl rfl
theorem dJ5_getChar_0 : decode cJ5_getChar 0 = .ok (.getstatic 44, 3) := dk_178 0 44 (dk_at dksJ5_getChar_0 0 rfl rfl)
theorem dJ5_getChar_3 : decode cJ5_getChar 3 = .ok (.ifCond .ne 25, 3) := dk_154 0 25 (dk_at dksJ5_getChar_0 3 rfl rfl)
theorem dJ5_getChar_6 : decode cJ5_getChar 6 = .ok (.iload_n 1, 1) := dk_27 (dk_at dksJ5_getChar_0 6 rfl rfl)
theorem dJ5_getChar_7 : decode cJ5_getChar 7 = .ok (.ifCond .lt 11, 3) := dk_155 0 11 (dk_at dksJ5_getChar_0 7 rfl rfl)
theorem dJ5_getChar_10 : decode cJ5_getChar 10 = .ok (.iload_n 1, 1) := dk_27 (dk_at dksJ5_getChar_0 10 rfl rfl)
theorem dJ5_getChar_11 : decode cJ5_getChar 11 = .ok (.aload_n 0, 1) := dk_42 (dk_at dksJ5_getChar_0 11 rfl rfl)
theorem dJ5_getChar_12 : decode cJ5_getChar 12 = .ok (.invokestatic 48, 3) := dk_184 0 48 (dk_at dksJ5_getChar_0 12 rfl rfl)
theorem dJ5_getChar_15 : decode cJ5_getChar 15 = .ok (.if_icmp .lt 13, 3) := dk_161 0 13 (dk_at dksJ5_getChar_0 15 rfl rfl)
theorem dJ5_getChar_18 : decode cJ5_getChar 18 = .ok (.new 52, 3) := dk_187 0 52 (dk_at dksJ5_getChar_0 18 rfl rfl)
theorem dJ5_getChar_21 : decode cJ5_getChar 21 = .ok (.dup, 1) := dk_89 (dk_at dksJ5_getChar_0 21 rfl rfl)
theorem dJ5_getChar_22 : decode cJ5_getChar 22 = .ok (.ldc 54, 2) := dk_18 54 (dk_at dksJ5_getChar_0 22 rfl rfl)
theorem dJ5_getChar_24 : decode cJ5_getChar 24 = .ok (.invokespecial 56, 3) := dk_183 0 56 (dk_at dksJ5_getChar_1 0 rfl rfl)
theorem dJ5_getChar_27 : decode cJ5_getChar 27 = .ok (.athrow, 1) := dk_191 (dk_at dksJ5_getChar_1 3 rfl rfl)
theorem dJ5_getChar_28 : decode cJ5_getChar 28 = .ok (.iload_n 1, 1) := dk_27 (dk_at dksJ5_getChar_1 4 rfl rfl)
theorem dJ5_getChar_29 : decode cJ5_getChar 29 = .ok (.iconst 1, 1) := dk_4 (dk_at dksJ5_getChar_1 5 rfl rfl)
theorem dJ5_getChar_30 : decode cJ5_getChar 30 = .ok (.ishl, 1) := dk_120 (dk_at dksJ5_getChar_1 6 rfl rfl)
theorem dJ5_getChar_31 : decode cJ5_getChar 31 = .ok (.istore_n 1, 1) := dk_60 (dk_at dksJ5_getChar_1 7 rfl rfl)
theorem dJ5_getChar_32 : decode cJ5_getChar 32 = .ok (.aload_n 0, 1) := dk_42 (dk_at dksJ5_getChar_1 8 rfl rfl)
theorem dJ5_getChar_33 : decode cJ5_getChar 33 = .ok (.iload_n 1, 1) := dk_27 (dk_at dksJ5_getChar_1 9 rfl rfl)
theorem dJ5_getChar_34 : decode cJ5_getChar 34 = .ok (.iinc 1 1, 3) := dk_132 1 1 (dk_at dksJ5_getChar_1 10 rfl rfl)
theorem dJ5_getChar_37 : decode cJ5_getChar 37 = .ok (.baload, 1) := dk_51 (dk_at dksJ5_getChar_1 13 rfl rfl)
theorem dJ5_getChar_38 : decode cJ5_getChar 38 = .ok (.sipush 255, 3) := dk_17 0 255 (dk_at dksJ5_getChar_1 14 rfl rfl)
theorem dJ5_getChar_41 : decode cJ5_getChar 41 = .ok (.iand, 1) := dk_126 (dk_at dksJ5_getChar_1 17 rfl rfl)
theorem dJ5_getChar_42 : decode cJ5_getChar 42 = .ok (.getstatic 59, 3) := dk_178 0 59 (dk_at dksJ5_getChar_1 18 rfl rfl)
theorem dJ5_getChar_45 : decode cJ5_getChar 45 = .ok (.ishl, 1) := dk_120 (dk_at dksJ5_getChar_1 21 rfl rfl)
theorem dJ5_getChar_46 : decode cJ5_getChar 46 = .ok (.aload_n 0, 1) := dk_42 (dk_at dksJ5_getChar_1 22 rfl rfl)
theorem dJ5_getChar_47 : decode cJ5_getChar 47 = .ok (.iload_n 1, 1) := dk_27 (dk_at dksJ5_getChar_1 23 rfl rfl)
theorem dJ5_getChar_48 : decode cJ5_getChar 48 = .ok (.baload, 1) := dk_51 (dk_at dksJ5_getChar_2 0 rfl rfl)
theorem dJ5_getChar_49 : decode cJ5_getChar 49 = .ok (.sipush 255, 3) := dk_17 0 255 (dk_at dksJ5_getChar_2 1 rfl rfl)
theorem dJ5_getChar_52 : decode cJ5_getChar 52 = .ok (.iand, 1) := dk_126 (dk_at dksJ5_getChar_2 4 rfl rfl)
theorem dJ5_getChar_53 : decode cJ5_getChar 53 = .ok (.getstatic 63, 3) := dk_178 0 63 (dk_at dksJ5_getChar_2 5 rfl rfl)
theorem dJ5_getChar_56 : decode cJ5_getChar 56 = .ok (.ishl, 1) := dk_120 (dk_at dksJ5_getChar_2 8 rfl rfl)
theorem dJ5_getChar_57 : decode cJ5_getChar 57 = .ok (.ior, 1) := dk_128 (dk_at dksJ5_getChar_2 9 rfl rfl)
theorem dJ5_getChar_58 : decode cJ5_getChar 58 = .ok (.i2c, 1) := dk_146 (dk_at dksJ5_getChar_2 10 rfl rfl)
theorem dJ5_getChar_59 : decode cJ5_getChar 59 = .ok (.ireturn, 1) := dk_172 (dk_at dksJ5_getChar_2 11 rfl rfl)
abbrev cJ5_coderFromArrayLen : ByteArray := prog_34_method_15_code
def yJ5_coderFromArrayLen : MethodName := ⟨RJ5, "coderFromArrayLen", "([BI)B"⟩
def dkwJ5_coderFromArrayLen_0 : List UInt8 := [27, 42, 190, 100, 16, 31, 124, 145, 172]
abbrev dktJ5_coderFromArrayLen_0 : List UInt8 := dkwJ5_coderFromArrayLen_0 ++ []
theorem dksJ5_coderFromArrayLen_0 : cJ5_coderFromArrayLen.data.toList.drop 0 = dktJ5_coderFromArrayLen_0 := by decide +kernel
theorem dJ5_coderFromArrayLen_0 : decode cJ5_coderFromArrayLen 0 = .ok (.iload_n 1, 1) := dk_27 (dk_at dksJ5_coderFromArrayLen_0 0 rfl rfl)
theorem dJ5_coderFromArrayLen_1 : decode cJ5_coderFromArrayLen 1 = .ok (.aload_n 0, 1) := dk_42 (dk_at dksJ5_coderFromArrayLen_0 1 rfl rfl)
theorem dJ5_coderFromArrayLen_2 : decode cJ5_coderFromArrayLen 2 = .ok (.arraylength, 1) := dk_190 (dk_at dksJ5_coderFromArrayLen_0 2 rfl rfl)
theorem dJ5_coderFromArrayLen_3 : decode cJ5_coderFromArrayLen 3 = .ok (.isub, 1) := dk_100 (dk_at dksJ5_coderFromArrayLen_0 3 rfl rfl)
theorem dJ5_coderFromArrayLen_4 : decode cJ5_coderFromArrayLen 4 = .ok (.bipush 31, 2) := dk_16 31 (dk_at dksJ5_coderFromArrayLen_0 4 rfl rfl)
theorem dJ5_coderFromArrayLen_6 : decode cJ5_coderFromArrayLen 6 = .ok (.iushr, 1) := dk_124 (dk_at dksJ5_coderFromArrayLen_0 6 rfl rfl)
theorem dJ5_coderFromArrayLen_7 : decode cJ5_coderFromArrayLen 7 = .ok (.i2b, 1) := dk_145 (dk_at dksJ5_coderFromArrayLen_0 7 rfl rfl)
theorem dJ5_coderFromArrayLen_8 : decode cJ5_coderFromArrayLen 8 = .ok (.ireturn, 1) := dk_172 (dk_at dksJ5_coderFromArrayLen_0 8 rfl rfl)
abbrev cJ5_fillNull : ByteArray := prog_34_method_70_code
def yJ5_fillNull : MethodName := ⟨RJ5, "fillNull", "([BII)V"⟩
def dkwJ5_fillNull_0 : List UInt8 := [42, 27, 4, 120, 28, 4, 120, 3, 184, 1, 124, 177]
abbrev dktJ5_fillNull_0 : List UInt8 := dkwJ5_fillNull_0 ++ []
theorem dksJ5_fillNull_0 : cJ5_fillNull.data.toList.drop 0 = dktJ5_fillNull_0 := by decide +kernel
theorem dJ5_fillNull_0 : decode cJ5_fillNull 0 = .ok (.aload_n 0, 1) := dk_42 (dk_at dksJ5_fillNull_0 0 rfl rfl)
theorem dJ5_fillNull_1 : decode cJ5_fillNull 1 = .ok (.iload_n 1, 1) := dk_27 (dk_at dksJ5_fillNull_0 1 rfl rfl)
theorem dJ5_fillNull_2 : decode cJ5_fillNull 2 = .ok (.iconst 1, 1) := dk_4 (dk_at dksJ5_fillNull_0 2 rfl rfl)
theorem dJ5_fillNull_3 : decode cJ5_fillNull 3 = .ok (.ishl, 1) := dk_120 (dk_at dksJ5_fillNull_0 3 rfl rfl)
theorem dJ5_fillNull_4 : decode cJ5_fillNull 4 = .ok (.iload_n 2, 1) := dk_28 (dk_at dksJ5_fillNull_0 4 rfl rfl)
theorem dJ5_fillNull_5 : decode cJ5_fillNull 5 = .ok (.iconst 1, 1) := dk_4 (dk_at dksJ5_fillNull_0 5 rfl rfl)
theorem dJ5_fillNull_6 : decode cJ5_fillNull 6 = .ok (.ishl, 1) := dk_120 (dk_at dksJ5_fillNull_0 6 rfl rfl)
theorem dJ5_fillNull_7 : decode cJ5_fillNull 7 = .ok (.iconst 0, 1) := dk_3 (dk_at dksJ5_fillNull_0 7 rfl rfl)
theorem dJ5_fillNull_8 : decode cJ5_fillNull 8 = .ok (.invokestatic 380, 3) := dk_184 1 124 (dk_at dksJ5_fillNull_0 8 rfl rfl)
theorem dJ5_fillNull_11 : decode cJ5_fillNull 11 = .ok (.return_, 1) := dk_177 (dk_at dksJ5_fillNull_0 11 rfl rfl)
abbrev cJ5_putCharSB : ByteArray := prog_34_method_71_code
def yJ5_putCharSB : MethodName := ⟨RJ5, "putCharSB", "([BII)V"⟩
def dkwJ5_putCharSB_0 : List UInt8 := [27, 42, 184, 0, 67, 42, 27, 28, 184, 0, 111, 177]
abbrev dktJ5_putCharSB_0 : List UInt8 := dkwJ5_putCharSB_0 ++ []
theorem dksJ5_putCharSB_0 : cJ5_putCharSB.data.toList.drop 0 = dktJ5_putCharSB_0 := by decide +kernel
theorem dJ5_putCharSB_0 : decode cJ5_putCharSB 0 = .ok (.iload_n 1, 1) := dk_27 (dk_at dksJ5_putCharSB_0 0 rfl rfl)
theorem dJ5_putCharSB_1 : decode cJ5_putCharSB 1 = .ok (.aload_n 0, 1) := dk_42 (dk_at dksJ5_putCharSB_0 1 rfl rfl)
theorem dJ5_putCharSB_2 : decode cJ5_putCharSB 2 = .ok (.invokestatic 67, 3) := dk_184 0 67 (dk_at dksJ5_putCharSB_0 2 rfl rfl)
theorem dJ5_putCharSB_5 : decode cJ5_putCharSB 5 = .ok (.aload_n 0, 1) := dk_42 (dk_at dksJ5_putCharSB_0 5 rfl rfl)
theorem dJ5_putCharSB_6 : decode cJ5_putCharSB 6 = .ok (.iload_n 1, 1) := dk_27 (dk_at dksJ5_putCharSB_0 6 rfl rfl)
theorem dJ5_putCharSB_7 : decode cJ5_putCharSB 7 = .ok (.iload_n 2, 1) := dk_28 (dk_at dksJ5_putCharSB_0 7 rfl rfl)
theorem dJ5_putCharSB_8 : decode cJ5_putCharSB 8 = .ok (.invokestatic 111, 3) := dk_184 0 111 (dk_at dksJ5_putCharSB_0 8 rfl rfl)
theorem dJ5_putCharSB_11 : decode cJ5_putCharSB 11 = .ok (.return_, 1) := dk_177 (dk_at dksJ5_putCharSB_0 11 rfl rfl)
abbrev cJ5_checkIndex : ByteArray := prog_34_method_91_code
def yJ5_checkIndex : MethodName := ⟨RJ5, "checkIndex", "(I[B)V"⟩
def dkwJ5_checkIndex_0 : List UInt8 := [26, 43, 184, 0, 48, 184, 1, 158, 177]
abbrev dktJ5_checkIndex_0 : List UInt8 := dkwJ5_checkIndex_0 ++ []
theorem dksJ5_checkIndex_0 : cJ5_checkIndex.data.toList.drop 0 = dktJ5_checkIndex_0 := by decide +kernel
theorem dJ5_checkIndex_0 : decode cJ5_checkIndex 0 = .ok (.iload_n 0, 1) := dk_26 (dk_at dksJ5_checkIndex_0 0 rfl rfl)
theorem dJ5_checkIndex_1 : decode cJ5_checkIndex 1 = .ok (.aload_n 1, 1) := dk_43 (dk_at dksJ5_checkIndex_0 1 rfl rfl)
theorem dJ5_checkIndex_2 : decode cJ5_checkIndex 2 = .ok (.invokestatic 48, 3) := dk_184 0 48 (dk_at dksJ5_checkIndex_0 2 rfl rfl)
theorem dJ5_checkIndex_5 : decode cJ5_checkIndex 5 = .ok (.invokestatic 414, 3) := dk_184 1 158 (dk_at dksJ5_checkIndex_0 5 rfl rfl)
theorem dJ5_checkIndex_8 : decode cJ5_checkIndex 8 = .ok (.return_, 1) := dk_177 (dk_at dksJ5_checkIndex_0 8 rfl rfl)
def fJ5 : List ZE := []
theorem fokJ5 : zFok RJ5 fJ5 := fun _ h => by cases h
abbrev kJ5_newBytesFor : ZK := (RJ5, cJ5_newBytesFor, 1, (Option.some (Jvm.ClassFile.FieldType.array Jvm.ClassFile.FieldType.byte)), [], false, fJ5)
abbrev tJ5_newBytesFor (g : ZG) (args : List Value) (M : ZM) (d c s : Nat) (Q : ZQ) : Prop := Ct g yJ5_newBytesFor (ws_ yJ5_newBytesFor cJ5_newBytesFor 1 (Option.some (Jvm.ClassFile.FieldType.array Jvm.ClassFile.FieldType.byte))) args M d c s Q
abbrev nJ5_newBytesFor : Nat := 9
theorem mJ5_newBytesFor : zMok yJ5_newBytesFor 1 1 := ⟨⟨by decide +kernel, by decide +kernel, by decide +kernel⟩, by decide⟩
theorem eJ5_newBytesFor {g : ZG} {Q : ZQ} {d cN sN : Nat} {M : ZM} {x1 : Int32} (hV : zV g) (h : Z g kJ5_newBytesFor Q d cN sN M 0 [some (.int x1)] []) : tJ5_newBytesFor g [.int x1] M d cN sN Q := Ct.of (K := kJ5_newBytesFor) rfl (by decide +kernel) hV fokJ5 rfl (fun h => by cases h) (fun v hv => by simp only [List.mem_cons, List.not_mem_nil, or_false] at hv; rcases hv with rfl <;> first | rfl | assumption) (Nat.le_of_ble_eq_true rfl) h
theorem sJ5_newBytesFor_0 {g : ZG} {Q : ZQ} {d cN sN : Nat} {M : ZM} {l0 : Int32}  (kk : Z g kJ5_newBytesFor Q d cN sN M 1 [some (.int l0)] [.int l0]) : Z g kJ5_newBytesFor Q d cN sN M 0 [some (.int l0)] [] := by
  refine zi_iload_n dJ5_newBytesFor_0 rfl ?_
  exact kk
theorem sJ5_newBytesFor_6 {g : ZG} {Q : ZQ} {d cN sN : Nat} {M : ZM} {t0 : Nat} {o0 : Option Value}  (kk : Q.1 (some (.ref t0)) M) : Z g kJ5_newBytesFor Q d cN sN M 6 [o0] [.ref t0] := by
  exact zi_areturn dJ5_newBytesFor_6 zrf_r rfl (Or.inr ⟨_, rfl⟩) kk
abbrev kJ5_newBytesLength : ZK := (RJ5, cJ5_newBytesLength, 1, (Option.some Jvm.ClassFile.FieldType.int), [], false, fJ5)
abbrev tJ5_newBytesLength (g : ZG) (args : List Value) (M : ZM) (d c s : Nat) (Q : ZQ) : Prop := Ct g yJ5_newBytesLength (ws_ yJ5_newBytesLength cJ5_newBytesLength 1 (Option.some Jvm.ClassFile.FieldType.int)) args M d c s Q
abbrev nJ5_newBytesLength : Nat := 8
theorem mJ5_newBytesLength : zMok yJ5_newBytesLength 1 1 := ⟨⟨by decide +kernel, by decide +kernel, by decide +kernel⟩, by decide⟩
theorem eJ5_newBytesLength {g : ZG} {Q : ZQ} {d cN sN : Nat} {M : ZM} {x1 : Int32} (hV : zV g) (h : Z g kJ5_newBytesLength Q d cN sN M 0 [some (.int x1)] []) : tJ5_newBytesLength g [.int x1] M d cN sN Q := Ct.of (K := kJ5_newBytesLength) rfl (by decide +kernel) hV fokJ5 rfl (fun h => by cases h) (fun v hv => by simp only [List.mem_cons, List.not_mem_nil, or_false] at hv; rcases hv with rfl <;> first | rfl | assumption) (Nat.le_of_ble_eq_true rfl) h
theorem sJ5_newBytesLength_0 {g : ZG} {Q : ZQ} {d cN sN : Nat} {M : ZM} {l0 : Int32}  (kt : 0 ≤ (l0 : Int32) → Z g kJ5_newBytesLength Q d cN sN M 12 [some (.int l0)] []) (kf : ¬ 0 ≤ (l0 : Int32) → Z g kJ5_newBytesLength Q d cN sN M 4 [some (.int l0)] []) : Z g kJ5_newBytesLength Q d cN sN M 0 [some (.int l0)] [] := by
  refine zi_iload_n dJ5_newBytesLength_0 rfl ?_
  exact zi_if_ge (tgt := 12) dJ5_newBytesLength_1 (by decide +kernel) kt kf
theorem sJ5_newBytesLength_7 {g : ZG} {Q : ZQ} {d cN sN : Nat} {M : ZM} {t0 : Nat} {o0 : Option Value}  (kk : Z g kJ5_newBytesLength Q d cN sN M 8 [o0] [.ref t0, .ref t0]) : Z g kJ5_newBytesLength Q d cN sN M 7 [o0] [.ref t0] := by
  refine zi_dup dJ5_newBytesLength_7 rfl ?_
  exact kk
theorem sJ5_newBytesLength_12 {g : ZG} {Q : ZQ} {d cN sN : Nat} {M : ZM} {l0 : Int32}  (kk : Z g kJ5_newBytesLength Q d cN sN M 13 [some (.int l0)] [.int l0]) : Z g kJ5_newBytesLength Q d cN sN M 12 [some (.int l0)] [] := by
  refine zi_iload_n dJ5_newBytesLength_12 rfl ?_
  exact kk
theorem sJ5_newBytesLength_15 {g : ZG} {Q : ZQ} {d cN sN : Nat} {M : ZM} {t0 : Int32} {t1 : Int32} {o0 : Option Value}  (kt : (t0 : Int32) < (t1 : Int32) → Z g kJ5_newBytesLength Q d cN sN M 55 [o0] []) (kf : ¬ (t0 : Int32) < (t1 : Int32) → Z g kJ5_newBytesLength Q d cN sN M 18 [o0] []) : Z g kJ5_newBytesLength Q d cN sN M 15 [o0] [.int t1, .int t0] := by
  exact zi_icmp_lt (tgt := 55) dJ5_newBytesLength_15 (by decide +kernel) kt kf
theorem sJ5_newBytesLength_21 {g : ZG} {Q : ZQ} {d cN sN : Nat} {M : ZM} {t0 : Nat} {o0 : Option Value}  (kk : Z g kJ5_newBytesLength Q d cN sN M 22 [o0] [.ref t0, .ref t0]) : Z g kJ5_newBytesLength Q d cN sN M 21 [o0] [.ref t0] := by
  refine zi_dup dJ5_newBytesLength_21 rfl ?_
  exact kk
theorem sJ5_newBytesLength_25 {g : ZG} {Q : ZQ} {d cN sN : Nat} {M : ZM} {t0 : Nat} {t1 : Nat} {t2 : Nat} {o0 : Option Value}  (kk : Z g kJ5_newBytesLength Q d cN sN M 26 [o0] [.ref t2, .ref t2, .ref t1, .ref t0]) : Z g kJ5_newBytesLength Q d cN sN M 25 [o0] [.ref t2, .ref t1, .ref t0] := by
  refine zi_dup dJ5_newBytesLength_25 rfl ?_
  exact kk
theorem sJ5_newBytesLength_55 {g : ZG} {Q : ZQ} {d cN sN : Nat} {M : ZM} {l0 : Int32}  (kk : Q.1 (some (.int (l0 <<< (1 &&& 31)))) M) : Z g kJ5_newBytesLength Q d cN sN M 55 [some (.int l0)] [] := by
  refine zi_iload_n dJ5_newBytesLength_55 rfl ?_
  refine zi_iconst dJ5_newBytesLength_56 (by decide +kernel : Int32.ofInt (1) = (1 : Int32)) ?_
  refine zi_ishl dJ5_newBytesLength_57 ?_
  exact zi_ireturn dJ5_newBytesLength_58 rfl rfl kk
abbrev kJ5_putCharsAt : ZK := (RJ5, cJ5_putCharsAt, 7, (Option.some Jvm.ClassFile.FieldType.int), [], false, fJ5)
abbrev tJ5_putCharsAt (g : ZG) (args : List Value) (M : ZM) (d c s : Nat) (Q : ZQ) : Prop := Ct g yJ5_putCharsAt (ws_ yJ5_putCharsAt cJ5_putCharsAt 7 (Option.some Jvm.ClassFile.FieldType.int)) args M d c s Q
abbrev nJ5_putCharsAt : Nat := 9
theorem mJ5_putCharsAt : zMok yJ5_putCharsAt 6 7 := ⟨⟨by decide +kernel, by decide +kernel, by decide +kernel⟩, by decide⟩
theorem eJ5_putCharsAt {g : ZG} {Q : ZQ} {d cN sN : Nat} {M : ZM} {v1 : Value} (hv1 : v1.category = 1) {x2 : Int32} {x3 : Int32} {x4 : Int32} {x5 : Int32} {x6 : Int32} (hV : zV g) (h : Z g kJ5_putCharsAt Q d cN sN M 0 [some (v1), some (.int x2), some (.int x3), some (.int x4), some (.int x5), some (.int x6), none] []) : tJ5_putCharsAt g [v1, .int x2, .int x3, .int x4, .int x5, .int x6] M d cN sN Q := Ct.of (K := kJ5_putCharsAt) rfl (by decide +kernel) hV fokJ5 rfl (fun h => by cases h) (fun v hv => by simp only [List.mem_cons, List.not_mem_nil, or_false] at hv; rcases hv with rfl | rfl | rfl | rfl | rfl | rfl <;> first | rfl | assumption) (Nat.le_of_ble_eq_true rfl) h
theorem sJ5_putCharsAt_0 {g : ZG} {Q : ZQ} {d cN sN : Nat} {M : ZM} {l1 : Int32} {l0 : Nat} {o2 o3 o4 o5 o6 : Option Value}  (kk : Z g kJ5_putCharsAt Q d cN sN M 9 [some (.ref l0), some (.int l1), o2, o3, o4, o5, some (.int (l1 + 4))] [.ref l0, .int (l1 + 4), .int l1]) : Z g kJ5_putCharsAt Q d cN sN M 0 [some (.ref l0), some (.int l1), o2, o3, o4, o5, o6] [] := by
  refine zi_iload_n dJ5_putCharsAt_0 rfl ?_
  refine zi_iconst dJ5_putCharsAt_1 (by decide +kernel : Int32.ofInt (4) = (4 : Int32)) ?_
  refine zi_iadd dJ5_putCharsAt_2 ?_
  refine zi_istore dJ5_putCharsAt_3 (Nat.le_of_ble_eq_true rfl) ?_
  refine zi_iload_n dJ5_putCharsAt_5 rfl ?_
  refine zi_iload dJ5_putCharsAt_6 rfl ?_
  refine zi_aload_n dJ5_putCharsAt_8 rfl zrf_r ?_
  exact kk
theorem sJ5_putCharsAt_12 {g : ZG} {Q : ZQ} {d cN sN : Nat} {M : ZM} {l0 : Nat} {l1 : Int32} {l2 : Int32} {o3 o4 o5 o6 : Option Value}  (kk : Z g kJ5_putCharsAt Q d cN sN M 18 [some (.ref l0), some (.int (l1 + 1)), some (.int l2), o3, o4, o5, o6] [.int l2, .int l1, .ref l0]) : Z g kJ5_putCharsAt Q d cN sN M 12 [some (.ref l0), some (.int l1), some (.int l2), o3, o4, o5, o6] [] := by
  refine zi_aload_n dJ5_putCharsAt_12 rfl zrf_r ?_
  refine zi_iload_n dJ5_putCharsAt_13 rfl ?_
  refine zi_iinc dJ5_putCharsAt_14 rfl (by decide +kernel : Int32.ofInt (1) = 1) (Nat.le_of_ble_eq_true rfl) ?_
  refine zi_iload_n dJ5_putCharsAt_17 rfl ?_
  exact kk
theorem sJ5_putCharsAt_21 {g : ZG} {Q : ZQ} {d cN sN : Nat} {M : ZM} {l0 : Nat} {l1 : Int32} {l3 : Int32} {o2 o4 o5 o6 : Option Value}  (kk : Z g kJ5_putCharsAt Q d cN sN M 27 [some (.ref l0), some (.int (l1 + 1)), o2, some (.int l3), o4, o5, o6] [.int l3, .int l1, .ref l0]) : Z g kJ5_putCharsAt Q d cN sN M 21 [some (.ref l0), some (.int l1), o2, some (.int l3), o4, o5, o6] [] := by
  refine zi_aload_n dJ5_putCharsAt_21 rfl zrf_r ?_
  refine zi_iload_n dJ5_putCharsAt_22 rfl ?_
  refine zi_iinc dJ5_putCharsAt_23 rfl (by decide +kernel : Int32.ofInt (1) = 1) (Nat.le_of_ble_eq_true rfl) ?_
  refine zi_iload_n dJ5_putCharsAt_26 rfl ?_
  exact kk
theorem sJ5_putCharsAt_30 {g : ZG} {Q : ZQ} {d cN sN : Nat} {M : ZM} {l0 : Nat} {l1 : Int32} {l4 : Int32} {o2 o3 o5 o6 : Option Value}  (kk : Z g kJ5_putCharsAt Q d cN sN M 37 [some (.ref l0), some (.int (l1 + 1)), o2, o3, some (.int l4), o5, o6] [.int l4, .int l1, .ref l0]) : Z g kJ5_putCharsAt Q d cN sN M 30 [some (.ref l0), some (.int l1), o2, o3, some (.int l4), o5, o6] [] := by
  refine zi_aload_n dJ5_putCharsAt_30 rfl zrf_r ?_
  refine zi_iload_n dJ5_putCharsAt_31 rfl ?_
  refine zi_iinc dJ5_putCharsAt_32 rfl (by decide +kernel : Int32.ofInt (1) = 1) (Nat.le_of_ble_eq_true rfl) ?_
  refine zi_iload dJ5_putCharsAt_35 rfl ?_
  exact kk
theorem sJ5_putCharsAt_40 {g : ZG} {Q : ZQ} {d cN sN : Nat} {M : ZM} {l0 : Nat} {l1 : Int32} {l5 : Int32} {o2 o3 o4 o6 : Option Value}  (kk : Z g kJ5_putCharsAt Q d cN sN M 47 [some (.ref l0), some (.int (l1 + 1)), o2, o3, o4, some (.int l5), o6] [.int l5, .int l1, .ref l0]) : Z g kJ5_putCharsAt Q d cN sN M 40 [some (.ref l0), some (.int l1), o2, o3, o4, some (.int l5), o6] [] := by
  refine zi_aload_n dJ5_putCharsAt_40 rfl zrf_r ?_
  refine zi_iload_n dJ5_putCharsAt_41 rfl ?_
  refine zi_iinc dJ5_putCharsAt_42 rfl (by decide +kernel : Int32.ofInt (1) = 1) (Nat.le_of_ble_eq_true rfl) ?_
  refine zi_iload dJ5_putCharsAt_45 rfl ?_
  exact kk
theorem sJ5_putCharsAt_53 {g : ZG} {Q : ZQ} {d cN sN : Nat} {M : ZM} {t0 : Int32} {o0 o1 o2 o3 o4 o5 o6 : Option Value}  (kt : ¬ (t0 : Int32) = 0 → Z g kJ5_putCharsAt Q d cN sN M 70 [o0, o1, o2, o3, o4, o5, o6] []) (kf : (t0 : Int32) = 0 → Z g kJ5_putCharsAt Q d cN sN M 56 [o0, o1, o2, o3, o4, o5, o6] []) : Z g kJ5_putCharsAt Q d cN sN M 53 [o0, o1, o2, o3, o4, o5, o6] [.int t0] := by
  exact zi_if_ne (tgt := 70) dJ5_putCharsAt_53 (by decide +kernel) kt kf
theorem sJ5_putCharsAt_56 {g : ZG} {Q : ZQ} {d cN sN : Nat} {M : ZM} {l1 : Int32} {l6 : Int32} {o0 o2 o3 o4 o5 : Option Value}  (kt : (l1 : Int32) = (l6 : Int32) → Z g kJ5_putCharsAt Q d cN sN M 70 [o0, some (.int l1), o2, o3, o4, o5, some (.int l6)] []) (kf : ¬ (l1 : Int32) = (l6 : Int32) → Z g kJ5_putCharsAt Q d cN sN M 62 [o0, some (.int l1), o2, o3, o4, o5, some (.int l6)] []) : Z g kJ5_putCharsAt Q d cN sN M 56 [o0, some (.int l1), o2, o3, o4, o5, some (.int l6)] [] := by
  refine zi_iload_n dJ5_putCharsAt_56 rfl ?_
  refine zi_iload dJ5_putCharsAt_57 rfl ?_
  exact zi_icmp_eq (tgt := 70) dJ5_putCharsAt_59 (by decide +kernel) kt kf
theorem sJ5_putCharsAt_65 {g : ZG} {Q : ZQ} {d cN sN : Nat} {M : ZM} {t0 : Nat} {o0 o1 o2 o3 o4 o5 o6 : Option Value}  (kk : Z g kJ5_putCharsAt Q d cN sN M 66 [o0, o1, o2, o3, o4, o5, o6] [.ref t0, .ref t0]) : Z g kJ5_putCharsAt Q d cN sN M 65 [o0, o1, o2, o3, o4, o5, o6] [.ref t0] := by
  refine zi_dup dJ5_putCharsAt_65 rfl ?_
  exact kk
theorem sJ5_putCharsAt_70 {g : ZG} {Q : ZQ} {d cN sN : Nat} {M : ZM} {l6 : Int32} {o0 o1 o2 o3 o4 o5 : Option Value}  (kk : Q.1 (some (.int l6)) M) : Z g kJ5_putCharsAt Q d cN sN M 70 [o0, o1, o2, o3, o4, o5, some (.int l6)] [] := by
  refine zi_iload dJ5_putCharsAt_70 rfl ?_
  exact zi_ireturn dJ5_putCharsAt_72 rfl rfl kk
abbrev kJ5_checkBoundsBeginEnd : ZK := (RJ5, cJ5_checkBoundsBeginEnd, 3, (Option.none : Option Jvm.ClassFile.FieldType), [], false, fJ5)
abbrev tJ5_checkBoundsBeginEnd (g : ZG) (args : List Value) (M : ZM) (d c s : Nat) (Q : ZQ) : Prop := Ct g yJ5_checkBoundsBeginEnd (ws_ yJ5_checkBoundsBeginEnd cJ5_checkBoundsBeginEnd 3 (Option.none : Option Jvm.ClassFile.FieldType)) args M d c s Q
abbrev nJ5_checkBoundsBeginEnd : Nat := 3
theorem mJ5_checkBoundsBeginEnd : zMok yJ5_checkBoundsBeginEnd 3 3 := ⟨⟨by decide +kernel, by decide +kernel, by decide +kernel⟩, by decide⟩
theorem eJ5_checkBoundsBeginEnd {g : ZG} {Q : ZQ} {d cN sN : Nat} {M : ZM} {x1 : Int32} {x2 : Int32} {v3 : Value} (hv3 : v3.category = 1) (hV : zV g) (h : Z g kJ5_checkBoundsBeginEnd Q d cN sN M 0 [some (.int x1), some (.int x2), some (v3)] []) : tJ5_checkBoundsBeginEnd g [.int x1, .int x2, v3] M d cN sN Q := Ct.of (K := kJ5_checkBoundsBeginEnd) rfl (by decide +kernel) hV fokJ5 rfl (fun h => by cases h) (fun v hv => by simp only [List.mem_cons, List.not_mem_nil, or_false] at hv; rcases hv with rfl | rfl | rfl <;> first | rfl | assumption) (Nat.le_of_ble_eq_true rfl) h
theorem sJ5_checkBoundsBeginEnd_0 {g : ZG} {Q : ZQ} {d cN sN : Nat} {M : ZM} {l0 : Int32} {l1 : Int32} {l2 : Nat}  (kk : Z g kJ5_checkBoundsBeginEnd Q d cN sN M 3 [some (.int l0), some (.int l1), some (.ref l2)] [.ref l2, .int l1, .int l0]) : Z g kJ5_checkBoundsBeginEnd Q d cN sN M 0 [some (.int l0), some (.int l1), some (.ref l2)] [] := by
  refine zi_iload_n dJ5_checkBoundsBeginEnd_0 rfl ?_
  refine zi_iload_n dJ5_checkBoundsBeginEnd_1 rfl ?_
  refine zi_aload_n dJ5_checkBoundsBeginEnd_2 rfl zrf_r ?_
  exact kk
theorem sJ5_checkBoundsBeginEnd_9 {g : ZG} {Q : ZQ} {d cN sN : Nat} {M : ZM} {o0 o1 o2 : Option Value}  (kk : Q.1 none M) : Z g kJ5_checkBoundsBeginEnd Q d cN sN M 9 [o0, o1, o2] [] := by
  exact zi_return dJ5_checkBoundsBeginEnd_9 rfl kk
abbrev kJ5_length : ZK := (RJ5, cJ5_length, 1, (Option.some Jvm.ClassFile.FieldType.int), [], false, fJ5)
abbrev tJ5_length (g : ZG) (args : List Value) (M : ZM) (d c s : Nat) (Q : ZQ) : Prop := Ct g yJ5_length (ws_ yJ5_length cJ5_length 1 (Option.some Jvm.ClassFile.FieldType.int)) args M d c s Q
abbrev nJ5_length : Nat := 1
theorem mJ5_length : zMok yJ5_length 1 1 := ⟨⟨by decide +kernel, by decide +kernel, by decide +kernel⟩, by decide⟩
theorem eJ5_length {g : ZG} {Q : ZQ} {d cN sN : Nat} {M : ZM} {v1 : Value} (hv1 : v1.category = 1) (hV : zV g) (h : Z g kJ5_length Q d cN sN M 0 [some (v1)] []) : tJ5_length g [v1] M d cN sN Q := Ct.of (K := kJ5_length) rfl (by decide +kernel) hV fokJ5 rfl (fun h => by cases h) (fun v hv => by simp only [List.mem_cons, List.not_mem_nil, or_false] at hv; rcases hv with rfl <;> first | rfl | assumption) (Nat.le_of_ble_eq_true rfl) h
theorem sJ5_length_0 {g : ZG} {Q : ZQ} {d cN sN : Nat} {M : ZM} {l0 : Nat} {u1 : vp_A} {c2 : ClassId} {k3 : Nat} {ty4 : FieldType} (h5 : M.1 l0 = some (.inl (c2, u1))) (h6 : (ztys g)[k3]? = some (c2, ty4)) (kk : Q.1 (some (.int ((Int32.ofNat u1.1) >>> (1 &&& 31)))) M) : Z g kJ5_length Q d cN sN M 0 [some (.ref l0)] [] := by
  refine zi_aload_n dJ5_length_0 rfl zrf_r ?_
  refine zi_arraylength dJ5_length_1 h5 h6 ?_
  refine zi_iconst dJ5_length_2 (by decide +kernel : Int32.ofInt (1) = (1 : Int32)) ?_
  refine zi_ishr dJ5_length_3 ?_
  exact zi_ireturn dJ5_length_4 rfl rfl kk
abbrev kJ5_putChar : ZK := (RJ5, cJ5_putChar, 3, (Option.none : Option Jvm.ClassFile.FieldType), [], false, fJ5)
abbrev tJ5_putChar (g : ZG) (args : List Value) (M : ZM) (d c s : Nat) (Q : ZQ) : Prop := Ct g yJ5_putChar (ws_ yJ5_putChar cJ5_putChar 3 (Option.none : Option Jvm.ClassFile.FieldType)) args M d c s Q
abbrev nJ5_putChar : Nat := 8
theorem mJ5_putChar : zMok yJ5_putChar 3 3 := ⟨⟨by decide +kernel, by decide +kernel, by decide +kernel⟩, by decide⟩
theorem eJ5_putChar {g : ZG} {Q : ZQ} {d cN sN : Nat} {M : ZM} {v1 : Value} (hv1 : v1.category = 1) {x2 : Int32} {x3 : Int32} (hV : zV g) (h : Z g kJ5_putChar Q d cN sN M 0 [some (v1), some (.int x2), some (.int x3)] []) : tJ5_putChar g [v1, .int x2, .int x3] M d cN sN Q := Ct.of (K := kJ5_putChar) rfl (by decide +kernel) hV fokJ5 rfl (fun h => by cases h) (fun v hv => by simp only [List.mem_cons, List.not_mem_nil, or_false] at hv; rcases hv with rfl | rfl | rfl <;> first | rfl | assumption) (Nat.le_of_ble_eq_true rfl) h
theorem sJ5_putChar_3 {g : ZG} {Q : ZQ} {d cN sN : Nat} {M : ZM} {t0 : Int32} {o0 o1 o2 : Option Value}  (kt : ¬ (t0 : Int32) = 0 → Z g kJ5_putChar Q d cN sN M 28 [o0, o1, o2] []) (kf : (t0 : Int32) = 0 → Z g kJ5_putChar Q d cN sN M 6 [o0, o1, o2] []) : Z g kJ5_putChar Q d cN sN M 3 [o0, o1, o2] [.int t0] := by
  exact zi_if_ne (tgt := 28) dJ5_putChar_3 (by decide +kernel) kt kf
theorem sJ5_putChar_6 {g : ZG} {Q : ZQ} {d cN sN : Nat} {M : ZM} {l1 : Int32} {o0 o2 : Option Value}  (kt : (l1 : Int32) < 0 → Z g kJ5_putChar Q d cN sN M 18 [o0, some (.int l1), o2] []) (kf : ¬ (l1 : Int32) < 0 → Z g kJ5_putChar Q d cN sN M 10 [o0, some (.int l1), o2] []) : Z g kJ5_putChar Q d cN sN M 6 [o0, some (.int l1), o2] [] := by
  refine zi_iload_n dJ5_putChar_6 rfl ?_
  exact zi_if_lt (tgt := 18) dJ5_putChar_7 (by decide +kernel) kt kf
theorem sJ5_putChar_10 {g : ZG} {Q : ZQ} {d cN sN : Nat} {M : ZM} {l1 : Int32} {l0 : Nat} {o2 : Option Value}  (kk : Z g kJ5_putChar Q d cN sN M 12 [some (.ref l0), some (.int l1), o2] [.ref l0, .int l1]) : Z g kJ5_putChar Q d cN sN M 10 [some (.ref l0), some (.int l1), o2] [] := by
  refine zi_iload_n dJ5_putChar_10 rfl ?_
  refine zi_aload_n dJ5_putChar_11 rfl zrf_r ?_
  exact kk
theorem sJ5_putChar_15 {g : ZG} {Q : ZQ} {d cN sN : Nat} {M : ZM} {t0 : Int32} {t1 : Int32} {o0 o1 o2 : Option Value}  (kt : (t0 : Int32) < (t1 : Int32) → Z g kJ5_putChar Q d cN sN M 28 [o0, o1, o2] []) (kf : ¬ (t0 : Int32) < (t1 : Int32) → Z g kJ5_putChar Q d cN sN M 18 [o0, o1, o2] []) : Z g kJ5_putChar Q d cN sN M 15 [o0, o1, o2] [.int t1, .int t0] := by
  exact zi_icmp_lt (tgt := 28) dJ5_putChar_15 (by decide +kernel) kt kf
theorem sJ5_putChar_21 {g : ZG} {Q : ZQ} {d cN sN : Nat} {M : ZM} {t0 : Nat} {o0 o1 o2 : Option Value}  (kk : Z g kJ5_putChar Q d cN sN M 22 [o0, o1, o2] [.ref t0, .ref t0]) : Z g kJ5_putChar Q d cN sN M 21 [o0, o1, o2] [.ref t0] := by
  refine zi_dup dJ5_putChar_21 rfl ?_
  exact kk
theorem sJ5_putChar_28 {g : ZG} {Q : ZQ} {d cN sN : Nat} {M : ZM} {l1 : Int32} {l0 : Nat} {l2 : Int32}  (kk : Z g kJ5_putChar Q d cN sN M 38 [some (.ref l0), some (.int ((l1 <<< (1 &&& 31)) + 1)), some (.int l2)] [.int l2, .int (l1 <<< (1 &&& 31)), .ref l0]) : Z g kJ5_putChar Q d cN sN M 28 [some (.ref l0), some (.int l1), some (.int l2)] [] := by
  refine zi_iload_n dJ5_putChar_28 rfl ?_
  refine zi_iconst dJ5_putChar_29 (by decide +kernel : Int32.ofInt (1) = (1 : Int32)) ?_
  refine zi_ishl dJ5_putChar_30 ?_
  refine zi_istore_n dJ5_putChar_31 (Nat.le_of_ble_eq_true rfl) ?_
  refine zi_aload_n dJ5_putChar_32 rfl zrf_r ?_
  refine zi_iload_n dJ5_putChar_33 rfl ?_
  refine zi_iinc dJ5_putChar_34 rfl (by decide +kernel : Int32.ofInt (1) = 1) (Nat.le_of_ble_eq_true rfl) ?_
  refine zi_iload_n dJ5_putChar_37 rfl ?_
  exact kk
theorem sJ5_putChar_41 {g : ZG} {Q : ZQ} {d cN sN : Nat} {M : ZM} {t0 : Nat} {t1 : Int32} {t2 : Int32} {t3 : Int32} {n1 : Nat} {f2 : Nat → Int32} {l0 : Nat} {l1 : Int32} {l2 : Int32} (h3 : M.1 t0 = some (.inl (zA g 4, n1, .inl (f2)))) (h4 : vp_in (t1) n1) (kk : Z g kJ5_putChar Q d cN sN (zup M t0 (.inl (zA g 4, n1, .inl (upd f2 ((t1 : Int32).toNatClampNeg) (vp_nar .byte ((t2 >>> (t3 &&& 31) : Int32).toInt8.toInt32)))))) 47 [some (.ref l0), some (.int l1), some (.int l2)] [.int l2, .int l1, .ref l0]) : Z g kJ5_putChar Q d cN sN M 41 [some (.ref l0), some (.int l1), some (.int l2)] [.int t3, .int t2, .int t1, .ref t0] := by
  refine zi_ishr dJ5_putChar_41 ?_
  refine zi_i2b dJ5_putChar_42 ?_
  refine zi_bastore dJ5_putChar_43 h3 h4 ?_
  refine zi_aload_n dJ5_putChar_44 rfl zrf_r ?_
  refine zi_iload_n dJ5_putChar_45 rfl ?_
  refine zi_iload_n dJ5_putChar_46 rfl ?_
  exact kk
theorem sJ5_putChar_50 {g : ZG} {Q : ZQ} {d cN sN : Nat} {M : ZM} {t0 : Nat} {t1 : Int32} {t2 : Int32} {t3 : Int32} {n1 : Nat} {f2 : Nat → Int32} {o0 o1 o2 : Option Value} (h3 : M.1 t0 = some (.inl (zA g 4, n1, .inl (f2)))) (h4 : vp_in (t1) n1) (kk : Q.1 none (zup M t0 (.inl (zA g 4, n1, .inl (upd f2 ((t1 : Int32).toNatClampNeg) (vp_nar .byte ((t2 >>> (t3 &&& 31) : Int32).toInt8.toInt32))))))) : Z g kJ5_putChar Q d cN sN M 50 [o0, o1, o2] [.int t3, .int t2, .int t1, .ref t0] := by
  refine zi_ishr dJ5_putChar_50 ?_
  refine zi_i2b dJ5_putChar_51 ?_
  refine zi_bastore dJ5_putChar_52 h3 h4 ?_
  exact zi_return dJ5_putChar_53 rfl kk
abbrev kJ5_inflate : ZK := (RJ5, cJ5_inflate, 6, (Option.none : Option Jvm.ClassFile.FieldType), [], false, fJ5)
abbrev tJ5_inflate (g : ZG) (args : List Value) (M : ZM) (d c s : Nat) (Q : ZQ) : Prop := Ct g yJ5_inflate (ws_ yJ5_inflate cJ5_inflate 6 (Option.none : Option Jvm.ClassFile.FieldType)) args M d c s Q
abbrev nJ5_inflate : Nat := 9
theorem mJ5_inflate : zMok yJ5_inflate 5 6 := ⟨⟨by decide +kernel, by decide +kernel, by decide +kernel⟩, by decide⟩
theorem eJ5_inflate {g : ZG} {Q : ZQ} {d cN sN : Nat} {M : ZM} {v1 : Value} (hv1 : v1.category = 1) {x2 : Int32} {v3 : Value} (hv3 : v3.category = 1) {x4 : Int32} {x5 : Int32} (hV : zV g) (h : Z g kJ5_inflate Q d cN sN M 0 [some (v1), some (.int x2), some (v3), some (.int x4), some (.int x5), none] []) : tJ5_inflate g [v1, .int x2, v3, .int x4, .int x5] M d cN sN Q := Ct.of (K := kJ5_inflate) rfl (by decide +kernel) hV fokJ5 rfl (fun h => by cases h) (fun v hv => by simp only [List.mem_cons, List.not_mem_nil, or_false] at hv; rcases hv with rfl | rfl | rfl | rfl | rfl <;> first | rfl | assumption) (Nat.le_of_ble_eq_true rfl) h
theorem sJ5_inflate_0 {g : ZG} {Q : ZQ} {d cN sN : Nat} {M : ZM} {l3 : Int32} {l4 : Int32} {l2 : Nat} {o0 o1 o5 : Option Value}  (kk : Z g kJ5_inflate Q d cN sN M 4 [o0, o1, some (.ref l2), some (.int l3), some (.int l4), o5] [.ref l2, .int l4, .int l3]) : Z g kJ5_inflate Q d cN sN M 0 [o0, o1, some (.ref l2), some (.int l3), some (.int l4), o5] [] := by
  refine zi_iload_n dJ5_inflate_0 rfl ?_
  refine zi_iload dJ5_inflate_1 rfl ?_
  refine zi_aload_n dJ5_inflate_3 rfl zrf_r ?_
  exact kk
theorem sJ5_inflate_7 {g : ZG} {Q : ZQ} {d cN sN : Nat} {M : ZM} {o0 o1 o2 o3 o4 o5 : Option Value}  (kk : Z g kJ5_inflate Q d cN sN M 10 [o0, o1, o2, o3, o4, some (.int 0)] []) : Z g kJ5_inflate Q d cN sN M 7 [o0, o1, o2, o3, o4, o5] [] := by
  refine zi_iconst dJ5_inflate_7 (by decide +kernel : Int32.ofInt (0) = (0 : Int32)) ?_
  refine zi_istore dJ5_inflate_8 (Nat.le_of_ble_eq_true rfl) ?_
  exact kk
theorem sJ5_inflate_10 {g : ZG} {Q : ZQ} {d cN sN : Nat} {M : ZM} {l5 : Int32} {l4 : Int32} {o0 o1 o2 o3 : Option Value}  (kt : (l4 : Int32) ≤ (l5 : Int32) → Z g kJ5_inflate Q d cN sN M 41 [o0, o1, o2, o3, some (.int l4), some (.int l5)] []) (kf : ¬ (l4 : Int32) ≤ (l5 : Int32) → Z g kJ5_inflate Q d cN sN M 17 [o0, o1, o2, o3, some (.int l4), some (.int l5)] []) : Z g kJ5_inflate Q d cN sN M 10 [o0, o1, o2, o3, some (.int l4), some (.int l5)] [] := by
  refine zi_iload dJ5_inflate_10 rfl ?_
  refine zi_iload dJ5_inflate_12 rfl ?_
  exact zi_icmp_ge (tgt := 41) dJ5_inflate_14 (by decide +kernel) kt kf
theorem sJ5_inflate_17 {g : ZG} {Q : ZQ} {d cN sN : Nat} {M : ZM} {l2 : Nat} {l3 : Int32} {l0 : Nat} {l1 : Int32} {n1 : Nat} {f2 : Nat → Int32} {o4 o5 : Option Value} (h3 : M.1 l0 = some (.inl (zA g 4, n1, .inl f2))) (h4 : vp_in (l1) n1) (kk : Z g kJ5_inflate Q d cN sN M 32 [some (.ref l0), some (.int (l1 + 1)), some (.ref l2), some (.int (l3 + 1)), o4, o5] [.int ((f2 ((l1 : Int32).toNatClampNeg)) &&& 255), .int l3, .ref l2]) : Z g kJ5_inflate Q d cN sN M 17 [some (.ref l0), some (.int l1), some (.ref l2), some (.int l3), o4, o5] [] := by
  refine zi_aload_n dJ5_inflate_17 rfl zrf_r ?_
  refine zi_iload_n dJ5_inflate_18 rfl ?_
  refine zi_iinc dJ5_inflate_19 rfl (by decide +kernel : Int32.ofInt (1) = 1) (Nat.le_of_ble_eq_true rfl) ?_
  refine zi_aload_n dJ5_inflate_22 rfl zrf_r ?_
  refine zi_iload_n dJ5_inflate_23 rfl ?_
  refine zi_iinc dJ5_inflate_24 rfl (by decide +kernel : Int32.ofInt (1) = 1) (Nat.le_of_ble_eq_true rfl) ?_
  refine zi_baload dJ5_inflate_27 h3 h4 ?_
  refine zi_sipush dJ5_inflate_28 (by decide +kernel : (Int16.ofInt (255)).toInt32 = (255 : Int32)) ?_
  refine zi_iand dJ5_inflate_31 ?_
  exact kk
theorem sJ5_inflate_35 {g : ZG} {Q : ZQ} {d cN sN : Nat} {M : ZM} {l5 : Int32} {o0 o1 o2 o3 o4 : Option Value}  (kk : Z g kJ5_inflate Q d cN sN M 10 [o0, o1, o2, o3, o4, some (.int (l5 + 1))] []) : Z g kJ5_inflate Q d cN sN M 35 [o0, o1, o2, o3, o4, some (.int l5)] [] := by
  refine zi_iinc dJ5_inflate_35 rfl (by decide +kernel : Int32.ofInt (1) = 1) (Nat.le_of_ble_eq_true rfl) ?_
  exact zi_goto (tgt := 10) dJ5_inflate_38 (by decide +kernel) kk
theorem sJ5_inflate_41 {g : ZG} {Q : ZQ} {d cN sN : Nat} {M : ZM} {o0 o1 o2 o3 o4 o5 : Option Value}  (kk : Q.1 none M) : Z g kJ5_inflate Q d cN sN M 41 [o0, o1, o2, o3, o4, o5] [] := by
  exact zi_return dJ5_inflate_41 rfl kk
abbrev kJ5_checkBoundsOffCount : ZK := (RJ5, cJ5_checkBoundsOffCount, 3, (Option.none : Option Jvm.ClassFile.FieldType), [], false, fJ5)
abbrev tJ5_checkBoundsOffCount (g : ZG) (args : List Value) (M : ZM) (d c s : Nat) (Q : ZQ) : Prop := Ct g yJ5_checkBoundsOffCount (ws_ yJ5_checkBoundsOffCount cJ5_checkBoundsOffCount 3 (Option.none : Option Jvm.ClassFile.FieldType)) args M d c s Q
abbrev nJ5_checkBoundsOffCount : Nat := 3
theorem mJ5_checkBoundsOffCount : zMok yJ5_checkBoundsOffCount 3 3 := ⟨⟨by decide +kernel, by decide +kernel, by decide +kernel⟩, by decide⟩
theorem eJ5_checkBoundsOffCount {g : ZG} {Q : ZQ} {d cN sN : Nat} {M : ZM} {x1 : Int32} {x2 : Int32} {v3 : Value} (hv3 : v3.category = 1) (hV : zV g) (h : Z g kJ5_checkBoundsOffCount Q d cN sN M 0 [some (.int x1), some (.int x2), some (v3)] []) : tJ5_checkBoundsOffCount g [.int x1, .int x2, v3] M d cN sN Q := Ct.of (K := kJ5_checkBoundsOffCount) rfl (by decide +kernel) hV fokJ5 rfl (fun h => by cases h) (fun v hv => by simp only [List.mem_cons, List.not_mem_nil, or_false] at hv; rcases hv with rfl | rfl | rfl <;> first | rfl | assumption) (Nat.le_of_ble_eq_true rfl) h
theorem sJ5_checkBoundsOffCount_0 {g : ZG} {Q : ZQ} {d cN sN : Nat} {M : ZM} {l0 : Int32} {l1 : Int32} {l2 : Nat}  (kk : Z g kJ5_checkBoundsOffCount Q d cN sN M 3 [some (.int l0), some (.int l1), some (.ref l2)] [.ref l2, .int l1, .int l0]) : Z g kJ5_checkBoundsOffCount Q d cN sN M 0 [some (.int l0), some (.int l1), some (.ref l2)] [] := by
  refine zi_iload_n dJ5_checkBoundsOffCount_0 rfl ?_
  refine zi_iload_n dJ5_checkBoundsOffCount_1 rfl ?_
  refine zi_aload_n dJ5_checkBoundsOffCount_2 rfl zrf_r ?_
  exact kk
theorem sJ5_checkBoundsOffCount_9 {g : ZG} {Q : ZQ} {d cN sN : Nat} {M : ZM} {t0 : Int32} {o0 o1 o2 : Option Value}  (kk : Q.1 none M) : Z g kJ5_checkBoundsOffCount Q d cN sN M 9 [o0, o1, o2] [.int t0] := by
  refine zi_pop dJ5_checkBoundsOffCount_9 rfl ?_
  exact zi_return dJ5_checkBoundsOffCount_10 rfl kk
abbrev kJ5_getChars : ZK := (RJ5, cJ5_getChars, 5, (Option.some Jvm.ClassFile.FieldType.int), [], false, fJ5)
abbrev tJ5_getChars (g : ZG) (args : List Value) (M : ZM) (d c s : Nat) (Q : ZQ) : Prop := Ct g yJ5_getChars (ws_ yJ5_getChars cJ5_getChars 5 (Option.some Jvm.ClassFile.FieldType.int)) args M d c s Q
abbrev nJ5_getChars : Nat := 10
theorem mJ5_getChars : zMok yJ5_getChars 4 5 := ⟨⟨by decide +kernel, by decide +kernel, by decide +kernel⟩, by decide⟩
theorem eJ5_getChars {g : ZG} {Q : ZQ} {d cN sN : Nat} {M : ZM} {x1 : Int32} {x2 : Int32} {x3 : Int32} {v4 : Value} (hv4 : v4.category = 1) (hV : zV g) (h : Z g kJ5_getChars Q d cN sN M 0 [some (.int x1), some (.int x2), some (.int x3), some (v4), none] []) : tJ5_getChars g [.int x1, .int x2, .int x3, v4] M d cN sN Q := Ct.of (K := kJ5_getChars) rfl (by decide +kernel) hV fokJ5 rfl (fun h => by cases h) (fun v hv => by simp only [List.mem_cons, List.not_mem_nil, or_false] at hv; rcases hv with rfl | rfl | rfl | rfl <;> first | rfl | assumption) (Nat.le_of_ble_eq_true rfl) h
theorem sJ5_getChars_0 {g : ZG} {Q : ZQ} {d cN sN : Nat} {M : ZM} {l1 : Int32} {l2 : Int32} {l3 : Nat} {o0 o4 : Option Value}  (kk : Z g kJ5_getChars Q d cN sN M 3 [o0, some (.int l1), some (.int l2), some (.ref l3), o4] [.ref l3, .int l2, .int l1]) : Z g kJ5_getChars Q d cN sN M 0 [o0, some (.int l1), some (.int l2), some (.ref l3), o4] [] := by
  refine zi_iload_n dJ5_getChars_0 rfl ?_
  refine zi_iload_n dJ5_getChars_1 rfl ?_
  refine zi_aload_n dJ5_getChars_2 rfl zrf_r ?_
  exact kk
theorem sJ5_getChars_6 {g : ZG} {Q : ZQ} {d cN sN : Nat} {M : ZM} {l0 : Int32} {l2 : Int32} {l3 : Nat} {o1 o4 : Option Value}  (kk : Z g kJ5_getChars Q d cN sN M 9 [some (.int l0), o1, some (.int l2), some (.ref l3), o4] [.ref l3, .int l2, .int l0]) : Z g kJ5_getChars Q d cN sN M 6 [some (.int l0), o1, some (.int l2), some (.ref l3), o4] [] := by
  refine zi_iload_n dJ5_getChars_6 rfl ?_
  refine zi_iload_n dJ5_getChars_7 rfl ?_
  refine zi_aload_n dJ5_getChars_8 rfl zrf_r ?_
  exact kk
theorem sJ5_getChars_12 {g : ZG} {Q : ZQ} {d cN sN : Nat} {M : ZM} {t0 : Int32} {o0 o1 o2 o3 o4 : Option Value}  (kk : Z g kJ5_getChars Q d cN sN M 14 [o0, o1, o2, o3, some (.int t0)] []) : Z g kJ5_getChars Q d cN sN M 12 [o0, o1, o2, o3, o4] [.int t0] := by
  refine zi_istore dJ5_getChars_12 (Nat.le_of_ble_eq_true rfl) ?_
  exact kk
theorem sJ5_getChars_17 {g : ZG} {Q : ZQ} {d cN sN : Nat} {M : ZM} {t0 : Int32} {o0 o1 o2 o3 o4 : Option Value}  (kt : ¬ (t0 : Int32) = 0 → Z g kJ5_getChars Q d cN sN M 34 [o0, o1, o2, o3, o4] []) (kf : (t0 : Int32) = 0 → Z g kJ5_getChars Q d cN sN M 20 [o0, o1, o2, o3, o4] []) : Z g kJ5_getChars Q d cN sN M 17 [o0, o1, o2, o3, o4] [.int t0] := by
  exact zi_if_ne (tgt := 34) dJ5_getChars_17 (by decide +kernel) kt kf
theorem sJ5_getChars_20 {g : ZG} {Q : ZQ} {d cN sN : Nat} {M : ZM} {l1 : Int32} {l4 : Int32} {o0 o2 o3 : Option Value}  (kt : (l1 : Int32) = (l4 : Int32) → Z g kJ5_getChars Q d cN sN M 34 [o0, some (.int l1), o2, o3, some (.int l4)] []) (kf : ¬ (l1 : Int32) = (l4 : Int32) → Z g kJ5_getChars Q d cN sN M 26 [o0, some (.int l1), o2, o3, some (.int l4)] []) : Z g kJ5_getChars Q d cN sN M 20 [o0, some (.int l1), o2, o3, some (.int l4)] [] := by
  refine zi_iload_n dJ5_getChars_20 rfl ?_
  refine zi_iload dJ5_getChars_21 rfl ?_
  exact zi_icmp_eq (tgt := 34) dJ5_getChars_23 (by decide +kernel) kt kf
theorem sJ5_getChars_29 {g : ZG} {Q : ZQ} {d cN sN : Nat} {M : ZM} {t0 : Nat} {o0 o1 o2 o3 o4 : Option Value}  (kk : Z g kJ5_getChars Q d cN sN M 30 [o0, o1, o2, o3, o4] [.ref t0, .ref t0]) : Z g kJ5_getChars Q d cN sN M 29 [o0, o1, o2, o3, o4] [.ref t0] := by
  refine zi_dup dJ5_getChars_29 rfl ?_
  exact kk
theorem sJ5_getChars_34 {g : ZG} {Q : ZQ} {d cN sN : Nat} {M : ZM} {l4 : Int32} {o0 o1 o2 o3 : Option Value}  (kk : Q.1 (some (.int l4)) M) : Z g kJ5_getChars Q d cN sN M 34 [o0, o1, o2, o3, some (.int l4)] [] := by
  refine zi_iload dJ5_getChars_34 rfl ?_
  exact zi_ireturn dJ5_getChars_36 rfl rfl kk
abbrev kJ5_getChars_2 : ZK := (RJ5, cJ5_getChars_2, 7, (Option.some Jvm.ClassFile.FieldType.int), [], false, fJ5)
abbrev tJ5_getChars_2 (g : ZG) (args : List Value) (M : ZM) (d c s : Nat) (Q : ZQ) : Prop := Ct g yJ5_getChars_2 (ws_ yJ5_getChars_2 cJ5_getChars_2 7 (Option.some Jvm.ClassFile.FieldType.int)) args M d c s Q
abbrev nJ5_getChars_2 : Nat := 9
theorem mJ5_getChars_2 : zMok yJ5_getChars_2 3 7 := ⟨⟨by decide +kernel, by decide +kernel, by decide +kernel⟩, by decide⟩
theorem eJ5_getChars_2 {g : ZG} {Q : ZQ} {d cN sN : Nat} {M : ZM} {x1 : Int32} {x2 : Int32} {v3 : Value} (hv3 : v3.category = 1) (hV : zV g) (h : Z g kJ5_getChars_2 Q d cN sN M 0 [some (.int x1), some (.int x2), some (v3), none, none, none, none] []) : tJ5_getChars_2 g [.int x1, .int x2, v3] M d cN sN Q := Ct.of (K := kJ5_getChars_2) rfl (by decide +kernel) hV fokJ5 rfl (fun h => by cases h) (fun v hv => by simp only [List.mem_cons, List.not_mem_nil, or_false] at hv; rcases hv with rfl | rfl | rfl <;> first | rfl | assumption) (Nat.le_of_ble_eq_true rfl) h
theorem sJ5_getChars_2_0 {g : ZG} {Q : ZQ} {d cN sN : Nat} {M : ZM} {l1 : Int32} {l0 : Int32} {o2 o3 o4 o5 o6 : Option Value}  (kt : 0 ≤ (l0 : Int32) → Z g kJ5_getChars_2 Q d cN sN M 11 [some (.int l0), some (.int l1), o2, o3, o4, some (.int l1), o6] []) (kf : ¬ 0 ≤ (l0 : Int32) → Z g kJ5_getChars_2 Q d cN sN M 7 [some (.int l0), some (.int l1), o2, o3, o4, some (.int l1), o6] []) : Z g kJ5_getChars_2 Q d cN sN M 0 [some (.int l0), some (.int l1), o2, o3, o4, o5, o6] [] := by
  refine zi_iload_n dJ5_getChars_2_0 rfl ?_
  refine zi_istore dJ5_getChars_2_1 (Nat.le_of_ble_eq_true rfl) ?_
  refine zi_iload_n dJ5_getChars_2_3 rfl ?_
  exact zi_if_ge (tgt := 11) dJ5_getChars_2_4 (by decide +kernel) kt kf
theorem sJ5_getChars_2_7 {g : ZG} {Q : ZQ} {d cN sN : Nat} {M : ZM} {o0 o1 o2 o3 o4 o5 o6 : Option Value}  (kk : Z g kJ5_getChars_2 Q d cN sN M 12 [o0, o1, o2, o3, o4, o5, o6] [.int 1]) : Z g kJ5_getChars_2 Q d cN sN M 7 [o0, o1, o2, o3, o4, o5, o6] [] := by
  refine zi_iconst dJ5_getChars_2_7 (by decide +kernel : Int32.ofInt (1) = (1 : Int32)) ?_
  exact zi_goto (tgt := 12) dJ5_getChars_2_8 (by decide +kernel) kk
theorem sJ5_getChars_2_11 {g : ZG} {Q : ZQ} {d cN sN : Nat} {M : ZM} {o0 o1 o2 o3 o4 o5 o6 : Option Value}  (kk : Z g kJ5_getChars_2 Q d cN sN M 12 [o0, o1, o2, o3, o4, o5, o6] [.int 0]) : Z g kJ5_getChars_2 Q d cN sN M 11 [o0, o1, o2, o3, o4, o5, o6] [] := by
  refine zi_iconst dJ5_getChars_2_11 (by decide +kernel : Int32.ofInt (0) = (0 : Int32)) ?_
  exact kk
theorem sJ5_getChars_2_12 {g : ZG} {Q : ZQ} {d cN sN : Nat} {M : ZM} {t0 : Int32} {o0 o1 o2 o3 o4 o5 o6 : Option Value}  (kt : ¬ (t0 : Int32) = 0 → Z g kJ5_getChars_2 Q d cN sN M 22 [o0, o1, o2, o3, o4, o5, some (.int t0)] []) (kf : (t0 : Int32) = 0 → Z g kJ5_getChars_2 Q d cN sN M 19 [o0, o1, o2, o3, o4, o5, some (.int t0)] []) : Z g kJ5_getChars_2 Q d cN sN M 12 [o0, o1, o2, o3, o4, o5, o6] [.int t0] := by
  refine zi_istore dJ5_getChars_2_12 (Nat.le_of_ble_eq_true rfl) ?_
  refine zi_iload dJ5_getChars_2_14 rfl ?_
  exact zi_if_ne (tgt := 22) dJ5_getChars_2_16 (by decide +kernel) kt kf
theorem sJ5_getChars_2_19 {g : ZG} {Q : ZQ} {d cN sN : Nat} {M : ZM} {l0 : Int32} {o1 o2 o3 o4 o5 o6 : Option Value}  (kk : Z g kJ5_getChars_2 Q d cN sN M 22 [some (.int (-l0)), o1, o2, o3, o4, o5, o6] []) : Z g kJ5_getChars_2 Q d cN sN M 19 [some (.int l0), o1, o2, o3, o4, o5, o6] [] := by
  refine zi_iload_n dJ5_getChars_2_19 rfl ?_
  refine zi_ineg dJ5_getChars_2_20 ?_
  refine zi_istore_n dJ5_getChars_2_21 (Nat.le_of_ble_eq_true rfl) ?_
  exact kk
theorem sJ5_getChars_2_22 {g : ZG} {Q : ZQ} {d cN sN : Nat} {M : ZM} {l0 : Int32} {o1 o2 o3 o4 o5 o6 : Option Value}  (kt : ((-100) : Int32) < (l0 : Int32) → Z g kJ5_getChars_2 Q d cN sN M 76 [some (.int l0), o1, o2, o3, o4, o5, o6] []) (kf : ¬ ((-100) : Int32) < (l0 : Int32) → Z g kJ5_getChars_2 Q d cN sN M 28 [some (.int l0), o1, o2, o3, o4, o5, o6] []) : Z g kJ5_getChars_2 Q d cN sN M 22 [some (.int l0), o1, o2, o3, o4, o5, o6] [] := by
  refine zi_iload_n dJ5_getChars_2_22 rfl ?_
  refine zi_bipush dJ5_getChars_2_23 (by decide +kernel : (Int8.ofInt (-100)).toInt32 = (-100 : Int32)) ?_
  exact zi_icmp_gt (tgt := 76) dJ5_getChars_2_25 (by decide +kernel) kt kf
theorem sJ5_getChars_2_28 {g : ZG} {Q : ZQ} {d cN sN : Nat} {M : ZM} {l0 : Int32} {l2 : Nat} {l5 : Int32} {o1 o3 o4 o6 : Option Value}  (kk : Z g kJ5_getChars_2 Q d cN sN M 49 [some (.int (l0 / 100)), o1, some (.ref l2), some (.int (l0 / 100)), some (.int (((l0 / 100) * 100) - l0)), some (.int (l5 + (-1))), o6] [.int (l5 + (-1)), .ref l2]) : Z g kJ5_getChars_2 Q d cN sN M 28 [some (.int l0), o1, some (.ref l2), o3, o4, some (.int l5), o6] [] := by
  refine zi_iload_n dJ5_getChars_2_28 rfl ?_
  refine zi_bipush dJ5_getChars_2_29 (by decide +kernel : (Int8.ofInt (100)).toInt32 = (100 : Int32)) ?_
  refine zi_idiv dJ5_getChars_2_31 (by decide +kernel) ?_
  refine zi_istore_n dJ5_getChars_2_32 (Nat.le_of_ble_eq_true rfl) ?_
  refine zi_iload_n dJ5_getChars_2_33 rfl ?_
  refine zi_bipush dJ5_getChars_2_34 (by decide +kernel : (Int8.ofInt (100)).toInt32 = (100 : Int32)) ?_
  refine zi_imul dJ5_getChars_2_36 ?_
  refine zi_iload_n dJ5_getChars_2_37 rfl ?_
  refine zi_isub dJ5_getChars_2_38 ?_
  refine zi_istore dJ5_getChars_2_39 (Nat.le_of_ble_eq_true rfl) ?_
  refine zi_iload_n dJ5_getChars_2_41 rfl ?_
  refine zi_istore_n dJ5_getChars_2_42 (Nat.le_of_ble_eq_true rfl) ?_
  refine zi_aload_n dJ5_getChars_2_43 rfl zrf_r ?_
  refine zi_iinc dJ5_getChars_2_44 rfl (by decide +kernel : Int32.ofInt (-1) = -1) (Nat.le_of_ble_eq_true rfl) ?_
  refine zi_iload dJ5_getChars_2_47 rfl ?_
  exact kk
theorem sJ5_getChars_2_52 {g : ZG} {Q : ZQ} {d cN sN : Nat} {M : ZM} {t0 : Nat} {t1 : Int32} {t2 : Nat} {l4 : Int32} {n1 : Nat} {f2 : Nat → Int32} {o0 o1 o2 o3 o5 o6 : Option Value} (h3 : M.1 t2 = some (.inl (zA g 4, n1, .inl f2))) (h4 : vp_in (l4) n1) (kk : Z g kJ5_getChars_2 Q d cN sN M 55 [o0, o1, o2, o3, some (.int l4), o5, o6] [.int (f2 ((l4 : Int32).toNatClampNeg)), .int t1, .ref t0]) : Z g kJ5_getChars_2 Q d cN sN M 52 [o0, o1, o2, o3, some (.int l4), o5, o6] [.ref t2, .int t1, .ref t0] := by
  refine zi_iload dJ5_getChars_2_52 rfl ?_
  refine zi_baload dJ5_getChars_2_54 h3 h4 ?_
  exact kk
theorem sJ5_getChars_2_58 {g : ZG} {Q : ZQ} {d cN sN : Nat} {M : ZM} {l2 : Nat} {l5 : Int32} {o0 o1 o3 o4 o6 : Option Value}  (kk : Z g kJ5_getChars_2 Q d cN sN M 64 [o0, o1, some (.ref l2), o3, o4, some (.int (l5 + (-1))), o6] [.int (l5 + (-1)), .ref l2]) : Z g kJ5_getChars_2 Q d cN sN M 58 [o0, o1, some (.ref l2), o3, o4, some (.int l5), o6] [] := by
  refine zi_aload_n dJ5_getChars_2_58 rfl zrf_r ?_
  refine zi_iinc dJ5_getChars_2_59 rfl (by decide +kernel : Int32.ofInt (-1) = -1) (Nat.le_of_ble_eq_true rfl) ?_
  refine zi_iload dJ5_getChars_2_62 rfl ?_
  exact kk
theorem sJ5_getChars_2_67 {g : ZG} {Q : ZQ} {d cN sN : Nat} {M : ZM} {t0 : Nat} {t1 : Int32} {t2 : Nat} {l4 : Int32} {n1 : Nat} {f2 : Nat → Int32} {o0 o1 o2 o3 o5 o6 : Option Value} (h3 : M.1 t2 = some (.inl (zA g 4, n1, .inl f2))) (h4 : vp_in (l4) n1) (kk : Z g kJ5_getChars_2 Q d cN sN M 70 [o0, o1, o2, o3, some (.int l4), o5, o6] [.int (f2 ((l4 : Int32).toNatClampNeg)), .int t1, .ref t0]) : Z g kJ5_getChars_2 Q d cN sN M 67 [o0, o1, o2, o3, some (.int l4), o5, o6] [.ref t2, .int t1, .ref t0] := by
  refine zi_iload dJ5_getChars_2_67 rfl ?_
  refine zi_baload dJ5_getChars_2_69 h3 h4 ?_
  exact kk
theorem sJ5_getChars_2_73 {g : ZG} {Q : ZQ} {d cN sN : Nat} {M : ZM} {o0 o1 o2 o3 o4 o5 o6 : Option Value}  (kk : Z g kJ5_getChars_2 Q d cN sN M 22 [o0, o1, o2, o3, o4, o5, o6] []) : Z g kJ5_getChars_2 Q d cN sN M 73 [o0, o1, o2, o3, o4, o5, o6] [] := by
  exact zi_goto (tgt := 22) dJ5_getChars_2_73 (by decide +kernel) kk
theorem sJ5_getChars_2_76 {g : ZG} {Q : ZQ} {d cN sN : Nat} {M : ZM} {l2 : Nat} {l5 : Int32} {o0 o1 o3 o4 o6 : Option Value}  (kk : Z g kJ5_getChars_2 Q d cN sN M 82 [o0, o1, some (.ref l2), o3, o4, some (.int (l5 + (-1))), o6] [.int (l5 + (-1)), .ref l2]) : Z g kJ5_getChars_2 Q d cN sN M 76 [o0, o1, some (.ref l2), o3, o4, some (.int l5), o6] [] := by
  refine zi_aload_n dJ5_getChars_2_76 rfl zrf_r ?_
  refine zi_iinc dJ5_getChars_2_77 rfl (by decide +kernel : Int32.ofInt (-1) = -1) (Nat.le_of_ble_eq_true rfl) ?_
  refine zi_iload dJ5_getChars_2_80 rfl ?_
  exact kk
theorem sJ5_getChars_2_85 {g : ZG} {Q : ZQ} {d cN sN : Nat} {M : ZM} {t0 : Nat} {t1 : Int32} {t2 : Nat} {l0 : Int32} {n1 : Nat} {f2 : Nat → Int32} {o1 o2 o3 o4 o5 o6 : Option Value} (h3 : M.1 t2 = some (.inl (zA g 4, n1, .inl f2))) (h4 : vp_in (-l0) n1) (kk : Z g kJ5_getChars_2 Q d cN sN M 88 [some (.int l0), o1, o2, o3, o4, o5, o6] [.int (f2 ((-l0 : Int32).toNatClampNeg)), .int t1, .ref t0]) : Z g kJ5_getChars_2 Q d cN sN M 85 [some (.int l0), o1, o2, o3, o4, o5, o6] [.ref t2, .int t1, .ref t0] := by
  refine zi_iload_n dJ5_getChars_2_85 rfl ?_
  refine zi_ineg dJ5_getChars_2_86 ?_
  refine zi_baload dJ5_getChars_2_87 h3 h4 ?_
  exact kk
theorem sJ5_getChars_2_91 {g : ZG} {Q : ZQ} {d cN sN : Nat} {M : ZM} {l0 : Int32} {o1 o2 o3 o4 o5 o6 : Option Value}  (kt : ((-9) : Int32) ≤ (l0 : Int32) → Z g kJ5_getChars_2 Q d cN sN M 112 [some (.int l0), o1, o2, o3, o4, o5, o6] []) (kf : ¬ ((-9) : Int32) ≤ (l0 : Int32) → Z g kJ5_getChars_2 Q d cN sN M 97 [some (.int l0), o1, o2, o3, o4, o5, o6] []) : Z g kJ5_getChars_2 Q d cN sN M 91 [some (.int l0), o1, o2, o3, o4, o5, o6] [] := by
  refine zi_iload_n dJ5_getChars_2_91 rfl ?_
  refine zi_bipush dJ5_getChars_2_92 (by decide +kernel : (Int8.ofInt (-9)).toInt32 = (-9 : Int32)) ?_
  exact zi_icmp_ge (tgt := 112) dJ5_getChars_2_94 (by decide +kernel) kt kf
theorem sJ5_getChars_2_97 {g : ZG} {Q : ZQ} {d cN sN : Nat} {M : ZM} {l2 : Nat} {l5 : Int32} {o0 o1 o3 o4 o6 : Option Value}  (kk : Z g kJ5_getChars_2 Q d cN sN M 103 [o0, o1, some (.ref l2), o3, o4, some (.int (l5 + (-1))), o6] [.int (l5 + (-1)), .ref l2]) : Z g kJ5_getChars_2 Q d cN sN M 97 [o0, o1, some (.ref l2), o3, o4, some (.int l5), o6] [] := by
  refine zi_aload_n dJ5_getChars_2_97 rfl zrf_r ?_
  refine zi_iinc dJ5_getChars_2_98 rfl (by decide +kernel : Int32.ofInt (-1) = -1) (Nat.le_of_ble_eq_true rfl) ?_
  refine zi_iload dJ5_getChars_2_101 rfl ?_
  exact kk
theorem sJ5_getChars_2_106 {g : ZG} {Q : ZQ} {d cN sN : Nat} {M : ZM} {t0 : Nat} {t1 : Int32} {t2 : Nat} {l0 : Int32} {n1 : Nat} {f2 : Nat → Int32} {o1 o2 o3 o4 o5 o6 : Option Value} (h3 : M.1 t2 = some (.inl (zA g 4, n1, .inl f2))) (h4 : vp_in (-l0) n1) (kk : Z g kJ5_getChars_2 Q d cN sN M 109 [some (.int l0), o1, o2, o3, o4, o5, o6] [.int (f2 ((-l0 : Int32).toNatClampNeg)), .int t1, .ref t0]) : Z g kJ5_getChars_2 Q d cN sN M 106 [some (.int l0), o1, o2, o3, o4, o5, o6] [.ref t2, .int t1, .ref t0] := by
  refine zi_iload_n dJ5_getChars_2_106 rfl ?_
  refine zi_ineg dJ5_getChars_2_107 ?_
  refine zi_baload dJ5_getChars_2_108 h3 h4 ?_
  exact kk
theorem sJ5_getChars_2_112 {g : ZG} {Q : ZQ} {d cN sN : Nat} {M : ZM} {l6 : Int32} {o0 o1 o2 o3 o4 o5 : Option Value}  (kt : (l6 : Int32) = 0 → Z g kJ5_getChars_2 Q d cN sN M 128 [o0, o1, o2, o3, o4, o5, some (.int l6)] []) (kf : ¬ (l6 : Int32) = 0 → Z g kJ5_getChars_2 Q d cN sN M 117 [o0, o1, o2, o3, o4, o5, some (.int l6)] []) : Z g kJ5_getChars_2 Q d cN sN M 112 [o0, o1, o2, o3, o4, o5, some (.int l6)] [] := by
  refine zi_iload dJ5_getChars_2_112 rfl ?_
  exact zi_if_eq (tgt := 128) dJ5_getChars_2_114 (by decide +kernel) kt kf
theorem sJ5_getChars_2_117 {g : ZG} {Q : ZQ} {d cN sN : Nat} {M : ZM} {l2 : Nat} {l5 : Int32} {o0 o1 o3 o4 o6 : Option Value}  (kk : Z g kJ5_getChars_2 Q d cN sN M 125 [o0, o1, some (.ref l2), o3, o4, some (.int (l5 + (-1))), o6] [.int 45, .int (l5 + (-1)), .ref l2]) : Z g kJ5_getChars_2 Q d cN sN M 117 [o0, o1, some (.ref l2), o3, o4, some (.int l5), o6] [] := by
  refine zi_aload_n dJ5_getChars_2_117 rfl zrf_r ?_
  refine zi_iinc dJ5_getChars_2_118 rfl (by decide +kernel : Int32.ofInt (-1) = -1) (Nat.le_of_ble_eq_true rfl) ?_
  refine zi_iload dJ5_getChars_2_121 rfl ?_
  refine zi_bipush dJ5_getChars_2_123 (by decide +kernel : (Int8.ofInt (45)).toInt32 = (45 : Int32)) ?_
  exact kk
theorem sJ5_getChars_2_128 {g : ZG} {Q : ZQ} {d cN sN : Nat} {M : ZM} {l5 : Int32} {o0 o1 o2 o3 o4 o6 : Option Value}  (kk : Q.1 (some (.int l5)) M) : Z g kJ5_getChars_2 Q d cN sN M 128 [o0, o1, o2, o3, o4, some (.int l5), o6] [] := by
  refine zi_iload dJ5_getChars_2_128 rfl ?_
  exact zi_ireturn dJ5_getChars_2_130 rfl rfl kk
abbrev kJ5_compress : ZK := (RJ5, cJ5_compress, 6, (Option.some (Jvm.ClassFile.FieldType.array Jvm.ClassFile.FieldType.byte)), [], false, fJ5)
abbrev tJ5_compress (g : ZG) (args : List Value) (M : ZM) (d c s : Nat) (Q : ZQ) : Prop := Ct g yJ5_compress (ws_ yJ5_compress cJ5_compress 6 (Option.some (Jvm.ClassFile.FieldType.array Jvm.ClassFile.FieldType.byte))) args M d c s Q
abbrev nJ5_compress : Nat := 19
theorem mJ5_compress : zMok yJ5_compress 3 6 := ⟨⟨by decide +kernel, by decide +kernel, by decide +kernel⟩, by decide⟩
theorem eJ5_compress {g : ZG} {Q : ZQ} {d cN sN : Nat} {M : ZM} {v1 : Value} (hv1 : v1.category = 1) {x2 : Int32} {x3 : Int32} (hV : zV g) (h : Z g kJ5_compress Q d cN sN M 0 [some (v1), some (.int x2), some (.int x3), none, none, none] []) : tJ5_compress g [v1, .int x2, .int x3] M d cN sN Q := Ct.of (K := kJ5_compress) rfl (by decide +kernel) hV fokJ5 rfl (fun h => by cases h) (fun v hv => by simp only [List.mem_cons, List.not_mem_nil, or_false] at hv; rcases hv with rfl | rfl | rfl <;> first | rfl | assumption) (Nat.le_of_ble_eq_true rfl) h
theorem sJ5_compress_0 {g : ZG} {Q : ZQ} {d cN sN : Nat} {M : ZM} {l2 : Int32} {o0 o1 o3 o4 o5 : Option Value}  (kk : Z g kJ5_compress Q d cN sN M 1 [o0, o1, some (.int l2), o3, o4, o5] [.int l2]) : Z g kJ5_compress Q d cN sN M 0 [o0, o1, some (.int l2), o3, o4, o5] [] := by
  refine zi_iload_n dJ5_compress_0 rfl ?_
  exact kk
theorem sJ5_compress_3 {g : ZG} {Q : ZQ} {d cN sN : Nat} {M : ZM} {t0 : Nat} {l0 : Nat} {l1 : Int32} {l2 : Int32} {o3 o4 o5 : Option Value}  (kk : Z g kJ5_compress Q d cN sN M 9 [some (.ref l0), some (.int l1), some (.int l2), some (.ref t0), o4, o5] [.int l2, .int 0, .ref t0, .int l1, .ref l0]) : Z g kJ5_compress Q d cN sN M 3 [some (.ref l0), some (.int l1), some (.int l2), o3, o4, o5] [.ref t0] := by
  refine zi_astore_n dJ5_compress_3 zrf_r (Nat.le_of_ble_eq_true rfl) ?_
  refine zi_aload_n dJ5_compress_4 rfl zrf_r ?_
  refine zi_iload_n dJ5_compress_5 rfl ?_
  refine zi_aload_n dJ5_compress_6 rfl zrf_r ?_
  refine zi_iconst dJ5_compress_7 (by decide +kernel : Int32.ofInt (0) = (0 : Int32)) ?_
  refine zi_iload_n dJ5_compress_8 rfl ?_
  exact kk
theorem sJ5_compress_12 {g : ZG} {Q : ZQ} {d cN sN : Nat} {M : ZM} {t0 : Int32} {l2 : Int32} {o0 o1 o3 o4 o5 : Option Value}  (kt : (t0 : Int32) = (l2 : Int32) → Z g kJ5_compress Q d cN sN M 64 [o0, o1, some (.int l2), o3, some (.int t0), o5] []) (kf : ¬ (t0 : Int32) = (l2 : Int32) → Z g kJ5_compress Q d cN sN M 20 [o0, o1, some (.int l2), o3, some (.int t0), o5] []) : Z g kJ5_compress Q d cN sN M 12 [o0, o1, some (.int l2), o3, o4, o5] [.int t0] := by
  refine zi_istore dJ5_compress_12 (Nat.le_of_ble_eq_true rfl) ?_
  refine zi_iload dJ5_compress_14 rfl ?_
  refine zi_iload_n dJ5_compress_16 rfl ?_
  exact zi_icmp_eq (tgt := 64) dJ5_compress_17 (by decide +kernel) kt kf
theorem sJ5_compress_20 {g : ZG} {Q : ZQ} {d cN sN : Nat} {M : ZM} {l0 : Nat} {l1 : Int32} {l2 : Int32} {o3 o4 o5 : Option Value}  (kk : Z g kJ5_compress Q d cN sN M 27 [some (.ref l0), some (.int l1), some (.int l2), o3, o4, o5] [.int (l1 + l2), .int (l1 <<< (1 &&& 31)), .ref l0]) : Z g kJ5_compress Q d cN sN M 20 [some (.ref l0), some (.int l1), some (.int l2), o3, o4, o5] [] := by
  refine zi_aload_n dJ5_compress_20 rfl zrf_r ?_
  refine zi_iload_n dJ5_compress_21 rfl ?_
  refine zi_iconst dJ5_compress_22 (by decide +kernel : Int32.ofInt (1) = (1 : Int32)) ?_
  refine zi_ishl dJ5_compress_23 ?_
  refine zi_iload_n dJ5_compress_24 rfl ?_
  refine zi_iload_n dJ5_compress_25 rfl ?_
  refine zi_iadd dJ5_compress_26 ?_
  exact kk
theorem sJ5_compress_33 {g : ZG} {Q : ZQ} {d cN sN : Nat} {M : ZM} {t0 : Nat} {l4 : Int32} {o0 o1 o2 o3 o5 : Option Value}  (kk : Z g kJ5_compress Q d cN sN M 39 [o0, o1, o2, o3, some (.int l4), some (.ref t0)] [.int l4, .ref t0]) : Z g kJ5_compress Q d cN sN M 33 [o0, o1, o2, o3, some (.int l4), o5] [.ref t0] := by
  refine zi_astore dJ5_compress_33 zrf_r (Nat.le_of_ble_eq_true rfl) ?_
  refine zi_aload dJ5_compress_35 rfl zrf_r ?_
  refine zi_iload dJ5_compress_37 rfl ?_
  exact kk
theorem sJ5_compress_42 {g : ZG} {Q : ZQ} {d cN sN : Nat} {M : ZM} {t0 : Int32} {o0 o1 o2 o3 o4 o5 : Option Value}  (kt : (255 : Int32) < (t0 : Int32) → Z g kJ5_compress Q d cN sN M 61 [o0, o1, o2, o3, o4, o5] []) (kf : ¬ (255 : Int32) < (t0 : Int32) → Z g kJ5_compress Q d cN sN M 48 [o0, o1, o2, o3, o4, o5] []) : Z g kJ5_compress Q d cN sN M 42 [o0, o1, o2, o3, o4, o5] [.int t0] := by
  refine zi_sipush dJ5_compress_42 (by decide +kernel : (Int16.ofInt (255)).toInt32 = (255 : Int32)) ?_
  exact zi_icmp_gt (tgt := 61) dJ5_compress_45 (by decide +kernel) kt kf
theorem sJ5_compress_48 {g : ZG} {Q : ZQ} {d cN sN : Nat} {M : ZM} {l5 : Nat} {l3 : Nat} {l2 : Int32} {o0 o1 o4 : Option Value}  (kk : Z g kJ5_compress Q d cN sN M 54 [o0, o1, some (.int l2), some (.ref l3), o4, some (.ref l5)] [.int l2, .int 0, .ref l3, .int 0, .ref l5]) : Z g kJ5_compress Q d cN sN M 48 [o0, o1, some (.int l2), some (.ref l3), o4, some (.ref l5)] [] := by
  refine zi_aload dJ5_compress_48 rfl zrf_r ?_
  refine zi_iconst dJ5_compress_50 (by decide +kernel : Int32.ofInt (0) = (0 : Int32)) ?_
  refine zi_aload_n dJ5_compress_51 rfl zrf_r ?_
  refine zi_iconst dJ5_compress_52 (by decide +kernel : Int32.ofInt (0) = (0 : Int32)) ?_
  refine zi_iload_n dJ5_compress_53 rfl ?_
  exact kk
theorem sJ5_compress_57 {g : ZG} {Q : ZQ} {d cN sN : Nat} {M : ZM} {t0 : Int32} {l2 : Int32} {o0 o1 o3 o4 o5 : Option Value}  (kt : (t0 : Int32) = (l2 : Int32) → Z g kJ5_compress Q d cN sN M 64 [o0, o1, some (.int l2), o3, o4, o5] []) (kf : ¬ (t0 : Int32) = (l2 : Int32) → Z g kJ5_compress Q d cN sN M 61 [o0, o1, some (.int l2), o3, o4, o5] []) : Z g kJ5_compress Q d cN sN M 57 [o0, o1, some (.int l2), o3, o4, o5] [.int t0] := by
  refine zi_iload_n dJ5_compress_57 rfl ?_
  exact zi_icmp_eq (tgt := 64) dJ5_compress_58 (by decide +kernel) kt kf
theorem sJ5_compress_61 {g : ZG} {Q : ZQ} {d cN sN : Nat} {M : ZM} {l5 : Nat} {o0 o1 o2 o3 o4 : Option Value}  (kk : Q.1 (some (.ref l5)) M) : Z g kJ5_compress Q d cN sN M 61 [o0, o1, o2, o3, o4, some (.ref l5)] [] := by
  refine zi_aload dJ5_compress_61 rfl zrf_r ?_
  exact zi_areturn dJ5_compress_63 zrf_r rfl (Or.inr ⟨_, rfl⟩) kk
theorem sJ5_compress_64 {g : ZG} {Q : ZQ} {d cN sN : Nat} {M : ZM} {l3 : Nat} {o0 o1 o2 o4 o5 : Option Value}  (kk : Q.1 (some (.ref l3)) M) : Z g kJ5_compress Q d cN sN M 64 [o0, o1, o2, some (.ref l3), o4, o5] [] := by
  refine zi_aload_n dJ5_compress_64 rfl zrf_r ?_
  exact zi_areturn dJ5_compress_65 zrf_r rfl (Or.inr ⟨_, rfl⟩) kk
abbrev kJ5_compress_2 : ZK := (RJ5, cJ5_compress_2, 7, (Option.some Jvm.ClassFile.FieldType.int), [], false, fJ5)
abbrev tJ5_compress_2 (g : ZG) (args : List Value) (M : ZM) (d c s : Nat) (Q : ZQ) : Prop := Ct g yJ5_compress_2 (ws_ yJ5_compress_2 cJ5_compress_2 7 (Option.some Jvm.ClassFile.FieldType.int)) args M d c s Q
abbrev nJ5_compress_2 : Nat := 9
theorem mJ5_compress_2 : zMok yJ5_compress_2 5 7 := ⟨⟨by decide +kernel, by decide +kernel, by decide +kernel⟩, by decide⟩
theorem eJ5_compress_2 {g : ZG} {Q : ZQ} {d cN sN : Nat} {M : ZM} {v1 : Value} (hv1 : v1.category = 1) {x2 : Int32} {v3 : Value} (hv3 : v3.category = 1) {x4 : Int32} {x5 : Int32} (hV : zV g) (h : Z g kJ5_compress_2 Q d cN sN M 0 [some (v1), some (.int x2), some (v3), some (.int x4), some (.int x5), none, none] []) : tJ5_compress_2 g [v1, .int x2, v3, .int x4, .int x5] M d cN sN Q := Ct.of (K := kJ5_compress_2) rfl (by decide +kernel) hV fokJ5 rfl (fun h => by cases h) (fun v hv => by simp only [List.mem_cons, List.not_mem_nil, or_false] at hv; rcases hv with rfl | rfl | rfl | rfl | rfl <;> first | rfl | assumption) (Nat.le_of_ble_eq_true rfl) h
theorem sJ5_compress_2_0 {g : ZG} {Q : ZQ} {d cN sN : Nat} {M : ZM} {l1 : Int32} {l4 : Int32} {l0 : Nat} {o2 o3 o5 o6 : Option Value}  (kk : Z g kJ5_compress_2 Q d cN sN M 4 [some (.ref l0), some (.int l1), o2, o3, some (.int l4), o5, o6] [.ref l0, .int l4, .int l1]) : Z g kJ5_compress_2 Q d cN sN M 0 [some (.ref l0), some (.int l1), o2, o3, some (.int l4), o5, o6] [] := by
  refine zi_iload_n dJ5_compress_2_0 rfl ?_
  refine zi_iload dJ5_compress_2_1 rfl ?_
  refine zi_aload_n dJ5_compress_2_3 rfl zrf_r ?_
  exact kk
theorem sJ5_compress_2_7 {g : ZG} {Q : ZQ} {d cN sN : Nat} {M : ZM} {o0 o1 o2 o3 o4 o5 o6 : Option Value}  (kk : Z g kJ5_compress_2 Q d cN sN M 10 [o0, o1, o2, o3, o4, some (.int 0), o6] []) : Z g kJ5_compress_2 Q d cN sN M 7 [o0, o1, o2, o3, o4, o5, o6] [] := by
  refine zi_iconst dJ5_compress_2_7 (by decide +kernel : Int32.ofInt (0) = (0 : Int32)) ?_
  refine zi_istore dJ5_compress_2_8 (Nat.le_of_ble_eq_true rfl) ?_
  exact kk
theorem sJ5_compress_2_10 {g : ZG} {Q : ZQ} {d cN sN : Nat} {M : ZM} {l5 : Int32} {l4 : Int32} {o0 o1 o2 o3 o6 : Option Value}  (kt : (l4 : Int32) ≤ (l5 : Int32) → Z g kJ5_compress_2 Q d cN sN M 53 [o0, o1, o2, o3, some (.int l4), some (.int l5), o6] []) (kf : ¬ (l4 : Int32) ≤ (l5 : Int32) → Z g kJ5_compress_2 Q d cN sN M 17 [o0, o1, o2, o3, some (.int l4), some (.int l5), o6] []) : Z g kJ5_compress_2 Q d cN sN M 10 [o0, o1, o2, o3, some (.int l4), some (.int l5), o6] [] := by
  refine zi_iload dJ5_compress_2_10 rfl ?_
  refine zi_iload dJ5_compress_2_12 rfl ?_
  exact zi_icmp_ge (tgt := 53) dJ5_compress_2_14 (by decide +kernel) kt kf
theorem sJ5_compress_2_17 {g : ZG} {Q : ZQ} {d cN sN : Nat} {M : ZM} {l0 : Nat} {l1 : Int32} {o2 o3 o4 o5 o6 : Option Value}  (kk : Z g kJ5_compress_2 Q d cN sN M 19 [some (.ref l0), some (.int l1), o2, o3, o4, o5, o6] [.int l1, .ref l0]) : Z g kJ5_compress_2 Q d cN sN M 17 [some (.ref l0), some (.int l1), o2, o3, o4, o5, o6] [] := by
  refine zi_aload_n dJ5_compress_2_17 rfl zrf_r ?_
  refine zi_iload_n dJ5_compress_2_18 rfl ?_
  exact kk
theorem sJ5_compress_2_22 {g : ZG} {Q : ZQ} {d cN sN : Nat} {M : ZM} {t0 : Int32} {o0 o1 o2 o3 o4 o5 o6 : Option Value}  (kt : (t0 : Int32) ≤ (255 : Int32) → Z g kJ5_compress_2 Q d cN sN M 35 [o0, o1, o2, o3, o4, o5, some (.int t0)] []) (kf : ¬ (t0 : Int32) ≤ (255 : Int32) → Z g kJ5_compress_2 Q d cN sN M 32 [o0, o1, o2, o3, o4, o5, some (.int t0)] []) : Z g kJ5_compress_2 Q d cN sN M 22 [o0, o1, o2, o3, o4, o5, o6] [.int t0] := by
  refine zi_istore dJ5_compress_2_22 (Nat.le_of_ble_eq_true rfl) ?_
  refine zi_iload dJ5_compress_2_24 rfl ?_
  refine zi_sipush dJ5_compress_2_26 (by decide +kernel : (Int16.ofInt (255)).toInt32 = (255 : Int32)) ?_
  exact zi_icmp_le (tgt := 35) dJ5_compress_2_29 (by decide +kernel) kt kf
theorem sJ5_compress_2_32 {g : ZG} {Q : ZQ} {d cN sN : Nat} {M : ZM} {l5 : Int32} {o0 o1 o2 o3 o4 o6 : Option Value}  (kk : Q.1 (some (.int l5)) M) : Z g kJ5_compress_2 Q d cN sN M 32 [o0, o1, o2, o3, o4, some (.int l5), o6] [] := by
  refine zi_iload dJ5_compress_2_32 rfl ?_
  exact zi_ireturn dJ5_compress_2_34 rfl rfl kk
theorem sJ5_compress_2_35 {g : ZG} {Q : ZQ} {d cN sN : Nat} {M : ZM} {l2 : Nat} {l3 : Int32} {l6 : Int32} {n1 : Nat} {f2 : Nat → Int32} {l1 : Int32} {l5 : Int32} {o0 o4 : Option Value} (h3 : M.1 l2 = some (.inl (zA g 4, n1, .inl (f2)))) (h4 : vp_in (l3) n1) (kk : Z g kJ5_compress_2 Q d cN sN (zup M l2 (.inl (zA g 4, n1, .inl (upd f2 ((l3 : Int32).toNatClampNeg) (vp_nar .byte ((l6 : Int32).toInt8.toInt32)))))) 10 [o0, some (.int (l1 + 1)), some (.ref l2), some (.int (l3 + 1)), o4, some (.int (l5 + 1)), some (.int l6)] []) : Z g kJ5_compress_2 Q d cN sN M 35 [o0, some (.int l1), some (.ref l2), some (.int l3), o4, some (.int l5), some (.int l6)] [] := by
  refine zi_aload_n dJ5_compress_2_35 rfl zrf_r ?_
  refine zi_iload_n dJ5_compress_2_36 rfl ?_
  refine zi_iload dJ5_compress_2_37 rfl ?_
  refine zi_i2b dJ5_compress_2_39 ?_
  refine zi_bastore dJ5_compress_2_40 h3 h4 ?_
  refine zi_iinc dJ5_compress_2_41 rfl (by decide +kernel : Int32.ofInt (1) = 1) (Nat.le_of_ble_eq_true rfl) ?_
  refine zi_iinc dJ5_compress_2_44 rfl (by decide +kernel : Int32.ofInt (1) = 1) (Nat.le_of_ble_eq_true rfl) ?_
  refine zi_iinc dJ5_compress_2_47 rfl (by decide +kernel : Int32.ofInt (1) = 1) (Nat.le_of_ble_eq_true rfl) ?_
  exact zi_goto (tgt := 10) dJ5_compress_2_50 (by decide +kernel) kk
theorem sJ5_compress_2_53 {g : ZG} {Q : ZQ} {d cN sN : Nat} {M : ZM} {l4 : Int32} {o0 o1 o2 o3 o5 o6 : Option Value}  (kk : Q.1 (some (.int l4)) M) : Z g kJ5_compress_2 Q d cN sN M 53 [o0, o1, o2, o3, some (.int l4), o5, o6] [] := by
  refine zi_iload dJ5_compress_2_53 rfl ?_
  exact zi_ireturn dJ5_compress_2_55 rfl rfl kk
abbrev kJ5_getChar : ZK := (RJ5, cJ5_getChar, 2, (Option.some Jvm.ClassFile.FieldType.char), [], false, fJ5)
abbrev tJ5_getChar (g : ZG) (args : List Value) (M : ZM) (d c s : Nat) (Q : ZQ) : Prop := Ct g yJ5_getChar (ws_ yJ5_getChar cJ5_getChar 2 (Option.some Jvm.ClassFile.FieldType.char)) args M d c s Q
abbrev nJ5_getChar : Nat := 8
theorem mJ5_getChar : zMok yJ5_getChar 2 2 := ⟨⟨by decide +kernel, by decide +kernel, by decide +kernel⟩, by decide⟩
theorem eJ5_getChar {g : ZG} {Q : ZQ} {d cN sN : Nat} {M : ZM} {v1 : Value} (hv1 : v1.category = 1) {x2 : Int32} (hV : zV g) (h : Z g kJ5_getChar Q d cN sN M 0 [some (v1), some (.int x2)] []) : tJ5_getChar g [v1, .int x2] M d cN sN Q := Ct.of (K := kJ5_getChar) rfl (by decide +kernel) hV fokJ5 rfl (fun h => by cases h) (fun v hv => by simp only [List.mem_cons, List.not_mem_nil, or_false] at hv; rcases hv with rfl | rfl <;> first | rfl | assumption) (Nat.le_of_ble_eq_true rfl) h
theorem sJ5_getChar_3 {g : ZG} {Q : ZQ} {d cN sN : Nat} {M : ZM} {t0 : Int32} {o0 o1 : Option Value}  (kt : ¬ (t0 : Int32) = 0 → Z g kJ5_getChar Q d cN sN M 28 [o0, o1] []) (kf : (t0 : Int32) = 0 → Z g kJ5_getChar Q d cN sN M 6 [o0, o1] []) : Z g kJ5_getChar Q d cN sN M 3 [o0, o1] [.int t0] := by
  exact zi_if_ne (tgt := 28) dJ5_getChar_3 (by decide +kernel) kt kf
theorem sJ5_getChar_6 {g : ZG} {Q : ZQ} {d cN sN : Nat} {M : ZM} {l1 : Int32} {o0 : Option Value}  (kt : (l1 : Int32) < 0 → Z g kJ5_getChar Q d cN sN M 18 [o0, some (.int l1)] []) (kf : ¬ (l1 : Int32) < 0 → Z g kJ5_getChar Q d cN sN M 10 [o0, some (.int l1)] []) : Z g kJ5_getChar Q d cN sN M 6 [o0, some (.int l1)] [] := by
  refine zi_iload_n dJ5_getChar_6 rfl ?_
  exact zi_if_lt (tgt := 18) dJ5_getChar_7 (by decide +kernel) kt kf
theorem sJ5_getChar_10 {g : ZG} {Q : ZQ} {d cN sN : Nat} {M : ZM} {l1 : Int32} {l0 : Nat}  (kk : Z g kJ5_getChar Q d cN sN M 12 [some (.ref l0), some (.int l1)] [.ref l0, .int l1]) : Z g kJ5_getChar Q d cN sN M 10 [some (.ref l0), some (.int l1)] [] := by
  refine zi_iload_n dJ5_getChar_10 rfl ?_
  refine zi_aload_n dJ5_getChar_11 rfl zrf_r ?_
  exact kk
theorem sJ5_getChar_15 {g : ZG} {Q : ZQ} {d cN sN : Nat} {M : ZM} {t0 : Int32} {t1 : Int32} {o0 o1 : Option Value}  (kt : (t0 : Int32) < (t1 : Int32) → Z g kJ5_getChar Q d cN sN M 28 [o0, o1] []) (kf : ¬ (t0 : Int32) < (t1 : Int32) → Z g kJ5_getChar Q d cN sN M 18 [o0, o1] []) : Z g kJ5_getChar Q d cN sN M 15 [o0, o1] [.int t1, .int t0] := by
  exact zi_icmp_lt (tgt := 28) dJ5_getChar_15 (by decide +kernel) kt kf
theorem sJ5_getChar_21 {g : ZG} {Q : ZQ} {d cN sN : Nat} {M : ZM} {t0 : Nat} {o0 o1 : Option Value}  (kk : Z g kJ5_getChar Q d cN sN M 22 [o0, o1] [.ref t0, .ref t0]) : Z g kJ5_getChar Q d cN sN M 21 [o0, o1] [.ref t0] := by
  refine zi_dup dJ5_getChar_21 rfl ?_
  exact kk
theorem sJ5_getChar_28 {g : ZG} {Q : ZQ} {d cN sN : Nat} {M : ZM} {l1 : Int32} {l0 : Nat} {n1 : Nat} {f2 : Nat → Int32} (h3 : M.1 l0 = some (.inl (zA g 4, n1, .inl f2))) (h4 : vp_in (l1 <<< (1 &&& 31)) n1) (kk : Z g kJ5_getChar Q d cN sN M 42 [some (.ref l0), some (.int ((l1 <<< (1 &&& 31)) + 1))] [.int ((f2 ((l1 <<< (1 &&& 31) : Int32).toNatClampNeg)) &&& 255)]) : Z g kJ5_getChar Q d cN sN M 28 [some (.ref l0), some (.int l1)] [] := by
  refine zi_iload_n dJ5_getChar_28 rfl ?_
  refine zi_iconst dJ5_getChar_29 (by decide +kernel : Int32.ofInt (1) = (1 : Int32)) ?_
  refine zi_ishl dJ5_getChar_30 ?_
  refine zi_istore_n dJ5_getChar_31 (Nat.le_of_ble_eq_true rfl) ?_
  refine zi_aload_n dJ5_getChar_32 rfl zrf_r ?_
  refine zi_iload_n dJ5_getChar_33 rfl ?_
  refine zi_iinc dJ5_getChar_34 rfl (by decide +kernel : Int32.ofInt (1) = 1) (Nat.le_of_ble_eq_true rfl) ?_
  refine zi_baload dJ5_getChar_37 h3 h4 ?_
  refine zi_sipush dJ5_getChar_38 (by decide +kernel : (Int16.ofInt (255)).toInt32 = (255 : Int32)) ?_
  refine zi_iand dJ5_getChar_41 ?_
  exact kk
theorem sJ5_getChar_45 {g : ZG} {Q : ZQ} {d cN sN : Nat} {M : ZM} {t0 : Int32} {t1 : Int32} {l0 : Nat} {l1 : Int32} {n1 : Nat} {f2 : Nat → Int32} (h3 : M.1 l0 = some (.inl (zA g 4, n1, .inl f2))) (h4 : vp_in (l1) n1) (kk : Z g kJ5_getChar Q d cN sN M 53 [some (.ref l0), some (.int l1)] [.int ((f2 ((l1 : Int32).toNatClampNeg)) &&& 255), .int (t0 <<< (t1 &&& 31))]) : Z g kJ5_getChar Q d cN sN M 45 [some (.ref l0), some (.int l1)] [.int t1, .int t0] := by
  refine zi_ishl dJ5_getChar_45 ?_
  refine zi_aload_n dJ5_getChar_46 rfl zrf_r ?_
  refine zi_iload_n dJ5_getChar_47 rfl ?_
  refine zi_baload dJ5_getChar_48 h3 h4 ?_
  refine zi_sipush dJ5_getChar_49 (by decide +kernel : (Int16.ofInt (255)).toInt32 = (255 : Int32)) ?_
  refine zi_iand dJ5_getChar_52 ?_
  exact kk
theorem sJ5_getChar_56 {g : ZG} {Q : ZQ} {d cN sN : Nat} {M : ZM} {t0 : Int32} {t1 : Int32} {t2 : Int32} {o0 o1 : Option Value} (h1 : narrow .char (.int (((t0 ||| (t1 <<< (t2 &&& 31)) : Int32).toUInt32 % 65536).toInt32)) = .int (((t0 ||| (t1 <<< (t2 &&& 31)) : Int32).toUInt32 % 65536).toInt32)) (kk : Q.1 (some (.int (((t0 ||| (t1 <<< (t2 &&& 31)) : Int32).toUInt32 % 65536).toInt32))) M) : Z g kJ5_getChar Q d cN sN M 56 [o0, o1] [.int t2, .int t1, .int t0] := by
  refine zi_ishl dJ5_getChar_56 ?_
  refine zi_ior dJ5_getChar_57 ?_
  refine zi_i2c dJ5_getChar_58 ?_
  exact zi_ireturn dJ5_getChar_59 rfl h1 kk
abbrev kJ5_coderFromArrayLen : ZK := (RJ5, cJ5_coderFromArrayLen, 2, (Option.some Jvm.ClassFile.FieldType.byte), [], false, fJ5)
abbrev tJ5_coderFromArrayLen (g : ZG) (args : List Value) (M : ZM) (d c s : Nat) (Q : ZQ) : Prop := Ct g yJ5_coderFromArrayLen (ws_ yJ5_coderFromArrayLen cJ5_coderFromArrayLen 2 (Option.some Jvm.ClassFile.FieldType.byte)) args M d c s Q
abbrev nJ5_coderFromArrayLen : Nat := 1
theorem mJ5_coderFromArrayLen : zMok yJ5_coderFromArrayLen 2 2 := ⟨⟨by decide +kernel, by decide +kernel, by decide +kernel⟩, by decide⟩
theorem eJ5_coderFromArrayLen {g : ZG} {Q : ZQ} {d cN sN : Nat} {M : ZM} {v1 : Value} (hv1 : v1.category = 1) {x2 : Int32} (hV : zV g) (h : Z g kJ5_coderFromArrayLen Q d cN sN M 0 [some (v1), some (.int x2)] []) : tJ5_coderFromArrayLen g [v1, .int x2] M d cN sN Q := Ct.of (K := kJ5_coderFromArrayLen) rfl (by decide +kernel) hV fokJ5 rfl (fun h => by cases h) (fun v hv => by simp only [List.mem_cons, List.not_mem_nil, or_false] at hv; rcases hv with rfl | rfl <;> first | rfl | assumption) (Nat.le_of_ble_eq_true rfl) h
theorem sJ5_coderFromArrayLen_0 {g : ZG} {Q : ZQ} {d cN sN : Nat} {M : ZM} {l1 : Int32} {l0 : Nat} {u1 : vp_A} {c2 : ClassId} {k3 : Nat} {ty4 : FieldType} (h5 : M.1 l0 = some (.inl (c2, u1))) (h6 : (ztys g)[k3]? = some (c2, ty4)) (h7 : narrow .byte (.int (((((l1 - (Int32.ofNat u1.1) : Int32)).toUInt32 >>> (((31 : Int32)).toUInt32 &&& Int32.toUInt32 31)).toInt32 : Int32).toInt8.toInt32)) = .int (((((l1 - (Int32.ofNat u1.1) : Int32)).toUInt32 >>> (((31 : Int32)).toUInt32 &&& Int32.toUInt32 31)).toInt32 : Int32).toInt8.toInt32)) (kk : Q.1 (some (.int (((((l1 - (Int32.ofNat u1.1) : Int32)).toUInt32 >>> (((31 : Int32)).toUInt32 &&& Int32.toUInt32 31)).toInt32 : Int32).toInt8.toInt32))) M) : Z g kJ5_coderFromArrayLen Q d cN sN M 0 [some (.ref l0), some (.int l1)] [] := by
  refine zi_iload_n dJ5_coderFromArrayLen_0 rfl ?_
  refine zi_aload_n dJ5_coderFromArrayLen_1 rfl zrf_r ?_
  refine zi_arraylength dJ5_coderFromArrayLen_2 h5 h6 ?_
  refine zi_isub dJ5_coderFromArrayLen_3 ?_
  refine zi_bipush dJ5_coderFromArrayLen_4 (by decide +kernel : (Int8.ofInt (31)).toInt32 = (31 : Int32)) ?_
  refine zi_iushr dJ5_coderFromArrayLen_6 ?_
  refine zi_i2b dJ5_coderFromArrayLen_7 ?_
  exact zi_ireturn dJ5_coderFromArrayLen_8 rfl h7 kk
abbrev kJ5_fillNull : ZK := (RJ5, cJ5_fillNull, 3, (Option.none : Option Jvm.ClassFile.FieldType), [], false, fJ5)
abbrev tJ5_fillNull (g : ZG) (args : List Value) (M : ZM) (d c s : Nat) (Q : ZQ) : Prop := Ct g yJ5_fillNull (ws_ yJ5_fillNull cJ5_fillNull 3 (Option.none : Option Jvm.ClassFile.FieldType)) args M d c s Q
abbrev nJ5_fillNull : Nat := 19
theorem mJ5_fillNull : zMok yJ5_fillNull 3 3 := ⟨⟨by decide +kernel, by decide +kernel, by decide +kernel⟩, by decide⟩
theorem eJ5_fillNull {g : ZG} {Q : ZQ} {d cN sN : Nat} {M : ZM} {v1 : Value} (hv1 : v1.category = 1) {x2 : Int32} {x3 : Int32} (hV : zV g) (h : Z g kJ5_fillNull Q d cN sN M 0 [some (v1), some (.int x2), some (.int x3)] []) : tJ5_fillNull g [v1, .int x2, .int x3] M d cN sN Q := Ct.of (K := kJ5_fillNull) rfl (by decide +kernel) hV fokJ5 rfl (fun h => by cases h) (fun v hv => by simp only [List.mem_cons, List.not_mem_nil, or_false] at hv; rcases hv with rfl | rfl | rfl <;> first | rfl | assumption) (Nat.le_of_ble_eq_true rfl) h
theorem sJ5_fillNull_0 {g : ZG} {Q : ZQ} {d cN sN : Nat} {M : ZM} {l0 : Nat} {l1 : Int32} {l2 : Int32}  (kk : Z g kJ5_fillNull Q d cN sN M 8 [some (.ref l0), some (.int l1), some (.int l2)] [.int 0, .int (l2 <<< (1 &&& 31)), .int (l1 <<< (1 &&& 31)), .ref l0]) : Z g kJ5_fillNull Q d cN sN M 0 [some (.ref l0), some (.int l1), some (.int l2)] [] := by
  refine zi_aload_n dJ5_fillNull_0 rfl zrf_r ?_
  refine zi_iload_n dJ5_fillNull_1 rfl ?_
  refine zi_iconst dJ5_fillNull_2 (by decide +kernel : Int32.ofInt (1) = (1 : Int32)) ?_
  refine zi_ishl dJ5_fillNull_3 ?_
  refine zi_iload_n dJ5_fillNull_4 rfl ?_
  refine zi_iconst dJ5_fillNull_5 (by decide +kernel : Int32.ofInt (1) = (1 : Int32)) ?_
  refine zi_ishl dJ5_fillNull_6 ?_
  refine zi_iconst dJ5_fillNull_7 (by decide +kernel : Int32.ofInt (0) = (0 : Int32)) ?_
  exact kk
theorem sJ5_fillNull_11 {g : ZG} {Q : ZQ} {d cN sN : Nat} {M : ZM} {o0 o1 o2 : Option Value}  (kk : Q.1 none M) : Z g kJ5_fillNull Q d cN sN M 11 [o0, o1, o2] [] := by
  exact zi_return dJ5_fillNull_11 rfl kk
abbrev kJ5_putCharSB : ZK := (RJ5, cJ5_putCharSB, 3, (Option.none : Option Jvm.ClassFile.FieldType), [], false, fJ5)
abbrev tJ5_putCharSB (g : ZG) (args : List Value) (M : ZM) (d c s : Nat) (Q : ZQ) : Prop := Ct g yJ5_putCharSB (ws_ yJ5_putCharSB cJ5_putCharSB 3 (Option.none : Option Jvm.ClassFile.FieldType)) args M d c s Q
abbrev nJ5_putCharSB : Nat := 9
theorem mJ5_putCharSB : zMok yJ5_putCharSB 3 3 := ⟨⟨by decide +kernel, by decide +kernel, by decide +kernel⟩, by decide⟩
theorem eJ5_putCharSB {g : ZG} {Q : ZQ} {d cN sN : Nat} {M : ZM} {v1 : Value} (hv1 : v1.category = 1) {x2 : Int32} {x3 : Int32} (hV : zV g) (h : Z g kJ5_putCharSB Q d cN sN M 0 [some (v1), some (.int x2), some (.int x3)] []) : tJ5_putCharSB g [v1, .int x2, .int x3] M d cN sN Q := Ct.of (K := kJ5_putCharSB) rfl (by decide +kernel) hV fokJ5 rfl (fun h => by cases h) (fun v hv => by simp only [List.mem_cons, List.not_mem_nil, or_false] at hv; rcases hv with rfl | rfl | rfl <;> first | rfl | assumption) (Nat.le_of_ble_eq_true rfl) h
theorem sJ5_putCharSB_0 {g : ZG} {Q : ZQ} {d cN sN : Nat} {M : ZM} {l1 : Int32} {l0 : Nat} {o2 : Option Value}  (kk : Z g kJ5_putCharSB Q d cN sN M 2 [some (.ref l0), some (.int l1), o2] [.ref l0, .int l1]) : Z g kJ5_putCharSB Q d cN sN M 0 [some (.ref l0), some (.int l1), o2] [] := by
  refine zi_iload_n dJ5_putCharSB_0 rfl ?_
  refine zi_aload_n dJ5_putCharSB_1 rfl zrf_r ?_
  exact kk
theorem sJ5_putCharSB_5 {g : ZG} {Q : ZQ} {d cN sN : Nat} {M : ZM} {l0 : Nat} {l1 : Int32} {l2 : Int32}  (kk : Z g kJ5_putCharSB Q d cN sN M 8 [some (.ref l0), some (.int l1), some (.int l2)] [.int l2, .int l1, .ref l0]) : Z g kJ5_putCharSB Q d cN sN M 5 [some (.ref l0), some (.int l1), some (.int l2)] [] := by
  refine zi_aload_n dJ5_putCharSB_5 rfl zrf_r ?_
  refine zi_iload_n dJ5_putCharSB_6 rfl ?_
  refine zi_iload_n dJ5_putCharSB_7 rfl ?_
  exact kk
theorem sJ5_putCharSB_11 {g : ZG} {Q : ZQ} {d cN sN : Nat} {M : ZM} {o0 o1 o2 : Option Value}  (kk : Q.1 none M) : Z g kJ5_putCharSB Q d cN sN M 11 [o0, o1, o2] [] := by
  exact zi_return dJ5_putCharSB_11 rfl kk
abbrev kJ5_checkIndex : ZK := (RJ5, cJ5_checkIndex, 2, (Option.none : Option Jvm.ClassFile.FieldType), [], false, fJ5)
abbrev tJ5_checkIndex (g : ZG) (args : List Value) (M : ZM) (d c s : Nat) (Q : ZQ) : Prop := Ct g yJ5_checkIndex (ws_ yJ5_checkIndex cJ5_checkIndex 2 (Option.none : Option Jvm.ClassFile.FieldType)) args M d c s Q
abbrev nJ5_checkIndex : Nat := 3
theorem mJ5_checkIndex : zMok yJ5_checkIndex 2 2 := ⟨⟨by decide +kernel, by decide +kernel, by decide +kernel⟩, by decide⟩
theorem eJ5_checkIndex {g : ZG} {Q : ZQ} {d cN sN : Nat} {M : ZM} {x1 : Int32} {v2 : Value} (hv2 : v2.category = 1) (hV : zV g) (h : Z g kJ5_checkIndex Q d cN sN M 0 [some (.int x1), some (v2)] []) : tJ5_checkIndex g [.int x1, v2] M d cN sN Q := Ct.of (K := kJ5_checkIndex) rfl (by decide +kernel) hV fokJ5 rfl (fun h => by cases h) (fun v hv => by simp only [List.mem_cons, List.not_mem_nil, or_false] at hv; rcases hv with rfl | rfl <;> first | rfl | assumption) (Nat.le_of_ble_eq_true rfl) h
theorem sJ5_checkIndex_0 {g : ZG} {Q : ZQ} {d cN sN : Nat} {M : ZM} {l0 : Int32} {l1 : Nat}  (kk : Z g kJ5_checkIndex Q d cN sN M 2 [some (.int l0), some (.ref l1)] [.ref l1, .int l0]) : Z g kJ5_checkIndex Q d cN sN M 0 [some (.int l0), some (.ref l1)] [] := by
  refine zi_iload_n dJ5_checkIndex_0 rfl ?_
  refine zi_aload_n dJ5_checkIndex_1 rfl zrf_r ?_
  exact kk
theorem sJ5_checkIndex_8 {g : ZG} {Q : ZQ} {d cN sN : Nat} {M : ZM} {o0 o1 : Option Value}  (kk : Q.1 none M) : Z g kJ5_checkIndex Q d cN sN M 8 [o0, o1] [] := by
  exact zi_return dJ5_checkIndex_8 rfl kk
/-! java/util/Arrays (printed by gen_m.py) -/
set_option maxRecDepth 100000
abbrev cJ10_copyOf : ByteArray := prog_42_method_119_code
def yJ10_copyOf : MethodName := ⟨RJ10, "copyOf", "([Ljava/lang/Object;I)[Ljava/lang/Object;"⟩
def dkwJ10_copyOf_0 : List UInt8 := [42, 27, 42, 182, 0, 86, 184, 1, 44, 176]
abbrev dktJ10_copyOf_0 : List UInt8 := dkwJ10_copyOf_0 ++ []
theorem dksJ10_copyOf_0 : cJ10_copyOf.data.toList.drop 0 = dktJ10_copyOf_0 := by decide +kernel
theorem dJ10_copyOf_0 : decode cJ10_copyOf 0 = .ok (.aload_n 0, 1) := dk_42 (dk_at dksJ10_copyOf_0 0 rfl rfl)
theorem dJ10_copyOf_1 : decode cJ10_copyOf 1 = .ok (.iload_n 1, 1) := dk_27 (dk_at dksJ10_copyOf_0 1 rfl rfl)
theorem dJ10_copyOf_2 : decode cJ10_copyOf 2 = .ok (.aload_n 0, 1) := dk_42 (dk_at dksJ10_copyOf_0 2 rfl rfl)
theorem dJ10_copyOf_3 : decode cJ10_copyOf 3 = .ok (.invokevirtual 86, 3) := dk_182 0 86 (dk_at dksJ10_copyOf_0 3 rfl rfl)
theorem dJ10_copyOf_6 : decode cJ10_copyOf 6 = .ok (.invokestatic 300, 3) := dk_184 1 44 (dk_at dksJ10_copyOf_0 6 rfl rfl)
theorem dJ10_copyOf_9 : decode cJ10_copyOf 9 = .ok (.areturn, 1) := dk_176 (dk_at dksJ10_copyOf_0 9 rfl rfl)
abbrev cJ10_copyOf_2 : ByteArray := prog_42_method_120_code
def yJ10_copyOf_2 : MethodName := ⟨RJ10, "copyOf", "([Ljava/lang/Object;ILjava/lang/Class;)[Ljava/lang/Object;"⟩
def dkwJ10_copyOf_2_1 : List UInt8 := [78, 42, 3, 45, 3, 42, 190, 27, 184, 1, 48, 184, 0, 150, 45, 176]
abbrev dktJ10_copyOf_2_1 : List UInt8 := dkwJ10_copyOf_2_1 ++ []
def dkwJ10_copyOf_2_0 : List UInt8 := [44, 18, 110, 166, 0, 10, 27, 189, 0, 2, 167, 0, 14, 44, 182, 0, 90, 27, 184, 0, 95, 192, 0, 110]
abbrev dktJ10_copyOf_2_0 : List UInt8 := dkwJ10_copyOf_2_0 ++ dktJ10_copyOf_2_1
theorem dksJ10_copyOf_2_0 : cJ10_copyOf_2.data.toList.drop 0 = dktJ10_copyOf_2_0 := by decide +kernel
theorem dksJ10_copyOf_2_1 : cJ10_copyOf_2.data.toList.drop 24 = dktJ10_copyOf_2_1 := dk_seg dksJ10_copyOf_2_0 24 rfl rfl
theorem dJ10_copyOf_2_0 : decode cJ10_copyOf_2 0 = .ok (.aload_n 2, 1) := dk_44 (dk_at dksJ10_copyOf_2_0 0 rfl rfl)
theorem dJ10_copyOf_2_1 : decode cJ10_copyOf_2 1 = .ok (.ldc 110, 2) := dk_18 110 (dk_at dksJ10_copyOf_2_0 1 rfl rfl)
theorem dJ10_copyOf_2_3 : decode cJ10_copyOf_2 3 = .ok (.if_acmp .ne 10, 3) := dk_166 0 10 (dk_at dksJ10_copyOf_2_0 3 rfl rfl)
theorem dJ10_copyOf_2_6 : decode cJ10_copyOf_2 6 = .ok (.iload_n 1, 1) := dk_27 (dk_at dksJ10_copyOf_2_0 6 rfl rfl)
theorem dJ10_copyOf_2_7 : decode cJ10_copyOf_2 7 = .ok (.anewarray 2, 3) := dk_189 0 2 (dk_at dksJ10_copyOf_2_0 7 rfl rfl)
theorem dJ10_copyOf_2_10 : decode cJ10_copyOf_2 10 = .ok (.goto 14, 3) := dk_167 0 14 (dk_at dksJ10_copyOf_2_0 10 rfl rfl)
theorem dJ10_copyOf_2_13 : decode cJ10_copyOf_2 13 = .ok (.aload_n 2, 1) := dk_44 (dk_at dksJ10_copyOf_2_0 13 rfl rfl)
theorem dJ10_copyOf_2_14 : decode cJ10_copyOf_2 14 = .ok (.invokevirtual 90, 3) := dk_182 0 90 (dk_at dksJ10_copyOf_2_0 14 rfl rfl)
theorem dJ10_copyOf_2_17 : decode cJ10_copyOf_2 17 = .ok (.iload_n 1, 1) := dk_27 (dk_at dksJ10_copyOf_2_0 17 rfl rfl)
theorem dJ10_copyOf_2_18 : decode cJ10_copyOf_2 18 = .ok (.invokestatic 95, 3) := dk_184 0 95 (dk_at dksJ10_copyOf_2_0 18 rfl rfl)
theorem dJ10_copyOf_2_21 : decode cJ10_copyOf_2 21 = .ok (.checkcast 110, 3) := dk_192 0 110 (dk_at dksJ10_copyOf_2_0 21 rfl rfl)
theorem dJ10_copyOf_2_24 : decode cJ10_copyOf_2 24 = .ok (.astore_n 3, 1) := dk_78 (dk_at dksJ10_copyOf_2_1 0 rfl rfl)
theorem dJ10_copyOf_2_25 : decode cJ10_copyOf_2 25 = .ok (.aload_n 0, 1) := dk_42 (dk_at dksJ10_copyOf_2_1 1 rfl rfl)
theorem dJ10_copyOf_2_26 : decode cJ10_copyOf_2 26 = .ok (.iconst 0, 1) := dk_3 (dk_at dksJ10_copyOf_2_1 2 rfl rfl)
theorem dJ10_copyOf_2_27 : decode cJ10_copyOf_2 27 = .ok (.aload_n 3, 1) := dk_45 (dk_at dksJ10_copyOf_2_1 3 rfl rfl)
theorem dJ10_copyOf_2_28 : decode cJ10_copyOf_2 28 = .ok (.iconst 0, 1) := dk_3 (dk_at dksJ10_copyOf_2_1 4 rfl rfl)
theorem dJ10_copyOf_2_29 : decode cJ10_copyOf_2 29 = .ok (.aload_n 0, 1) := dk_42 (dk_at dksJ10_copyOf_2_1 5 rfl rfl)
theorem dJ10_copyOf_2_30 : decode cJ10_copyOf_2 30 = .ok (.arraylength, 1) := dk_190 (dk_at dksJ10_copyOf_2_1 6 rfl rfl)
theorem dJ10_copyOf_2_31 : decode cJ10_copyOf_2 31 = .ok (.iload_n 1, 1) := dk_27 (dk_at dksJ10_copyOf_2_1 7 rfl rfl)
theorem dJ10_copyOf_2_32 : decode cJ10_copyOf_2 32 = .ok (.invokestatic 304, 3) := dk_184 1 48 (dk_at dksJ10_copyOf_2_1 8 rfl rfl)
theorem dJ10_copyOf_2_35 : decode cJ10_copyOf_2 35 = .ok (.invokestatic 150, 3) := dk_184 0 150 (dk_at dksJ10_copyOf_2_1 11 rfl rfl)
theorem dJ10_copyOf_2_38 : decode cJ10_copyOf_2 38 = .ok (.aload_n 3, 1) := dk_45 (dk_at dksJ10_copyOf_2_1 14 rfl rfl)
theorem dJ10_copyOf_2_39 : decode cJ10_copyOf_2 39 = .ok (.areturn, 1) := dk_176 (dk_at dksJ10_copyOf_2_1 15 rfl rfl)
abbrev cJ10_copyOf_3 : ByteArray := prog_42_method_121_code
def yJ10_copyOf_3 : MethodName := ⟨RJ10, "copyOf", "([BI)[B"⟩
def dkwJ10_copyOf_3_1 : List UInt8 := [27, 184, 1, 48, 184, 0, 150, 44, 176]
abbrev dktJ10_copyOf_3_1 : List UInt8 := dkwJ10_copyOf_3_1 ++ []
def dkwJ10_copyOf_3_0 : List UInt8 := [27, 42, 190, 160, 0, 11, 42, 182, 1, 54, 192, 1, 55, 176, 27, 188, 8, 77, 42, 3, 44, 3, 42, 190]
abbrev dktJ10_copyOf_3_0 : List UInt8 := dkwJ10_copyOf_3_0 ++ dktJ10_copyOf_3_1
theorem dksJ10_copyOf_3_0 : cJ10_copyOf_3.data.toList.drop 0 = dktJ10_copyOf_3_0 := by decide +kernel
theorem dksJ10_copyOf_3_1 : cJ10_copyOf_3.data.toList.drop 24 = dktJ10_copyOf_3_1 := dk_seg dksJ10_copyOf_3_0 24 rfl rfl
theorem dJ10_copyOf_3_0 : decode cJ10_copyOf_3 0 = .ok (.iload_n 1, 1) := dk_27 (dk_at dksJ10_copyOf_3_0 0 rfl rfl)
theorem dJ10_copyOf_3_1 : decode cJ10_copyOf_3 1 = .ok (.aload_n 0, 1) := dk_42 (dk_at dksJ10_copyOf_3_0 1 rfl rfl)
theorem dJ10_copyOf_3_2 : decode cJ10_copyOf_3 2 = .ok (.arraylength, 1) := dk_190 (dk_at dksJ10_copyOf_3_0 2 rfl rfl)
theorem dJ10_copyOf_3_3 : decode cJ10_copyOf_3 3 = .ok (.if_icmp .ne 11, 3) := dk_160 0 11 (dk_at dksJ10_copyOf_3_0 3 rfl rfl)
theorem dJ10_copyOf_3_6 : decode cJ10_copyOf_3 6 = .ok (.aload_n 0, 1) := dk_42 (dk_at dksJ10_copyOf_3_0 6 rfl rfl)
theorem dJ10_copyOf_3_7 : decode cJ10_copyOf_3 7 = .ok (.invokevirtual 310, 3) := dk_182 1 54 (dk_at dksJ10_copyOf_3_0 7 rfl rfl)
theorem dJ10_copyOf_3_10 : decode cJ10_copyOf_3 10 = .ok (.checkcast 311, 3) := dk_192 1 55 (dk_at dksJ10_copyOf_3_0 10 rfl rfl)
theorem dJ10_copyOf_3_13 : decode cJ10_copyOf_3 13 = .ok (.areturn, 1) := dk_176 (dk_at dksJ10_copyOf_3_0 13 rfl rfl)
theorem dJ10_copyOf_3_14 : decode cJ10_copyOf_3 14 = .ok (.iload_n 1, 1) := dk_27 (dk_at dksJ10_copyOf_3_0 14 rfl rfl)
theorem dJ10_copyOf_3_15 : decode cJ10_copyOf_3 15 = .ok (.newarray .byte, 2) := dk_188_8 (dk_at dksJ10_copyOf_3_0 15 rfl rfl)
theorem dJ10_copyOf_3_17 : decode cJ10_copyOf_3 17 = .ok (.astore_n 2, 1) := dk_77 (dk_at dksJ10_copyOf_3_0 17 rfl rfl)
theorem dJ10_copyOf_3_18 : decode cJ10_copyOf_3 18 = .ok (.aload_n 0, 1) := dk_42 (dk_at dksJ10_copyOf_3_0 18 rfl rfl)
theorem dJ10_copyOf_3_19 : decode cJ10_copyOf_3 19 = .ok (.iconst 0, 1) := dk_3 (dk_at dksJ10_copyOf_3_0 19 rfl rfl)
theorem dJ10_copyOf_3_20 : decode cJ10_copyOf_3 20 = .ok (.aload_n 2, 1) := dk_44 (dk_at dksJ10_copyOf_3_0 20 rfl rfl)
theorem dJ10_copyOf_3_21 : decode cJ10_copyOf_3 21 = .ok (.iconst 0, 1) := dk_3 (dk_at dksJ10_copyOf_3_0 21 rfl rfl)
theorem dJ10_copyOf_3_22 : decode cJ10_copyOf_3 22 = .ok (.aload_n 0, 1) := dk_42 (dk_at dksJ10_copyOf_3_0 22 rfl rfl)
theorem dJ10_copyOf_3_23 : decode cJ10_copyOf_3 23 = .ok (.arraylength, 1) := dk_190 (dk_at dksJ10_copyOf_3_0 23 rfl rfl)
theorem dJ10_copyOf_3_24 : decode cJ10_copyOf_3 24 = .ok (.iload_n 1, 1) := dk_27 (dk_at dksJ10_copyOf_3_1 0 rfl rfl)
theorem dJ10_copyOf_3_25 : decode cJ10_copyOf_3 25 = .ok (.invokestatic 304, 3) := dk_184 1 48 (dk_at dksJ10_copyOf_3_1 1 rfl rfl)
theorem dJ10_copyOf_3_28 : decode cJ10_copyOf_3 28 = .ok (.invokestatic 150, 3) := dk_184 0 150 (dk_at dksJ10_copyOf_3_1 4 rfl rfl)
theorem dJ10_copyOf_3_31 : decode cJ10_copyOf_3 31 = .ok (.aload_n 2, 1) := dk_44 (dk_at dksJ10_copyOf_3_1 7 rfl rfl)
theorem dJ10_copyOf_3_32 : decode cJ10_copyOf_3 32 = .ok (.areturn, 1) := dk_176 (dk_at dksJ10_copyOf_3_1 8 rfl rfl)
abbrev cJ10_copyOfRange : ByteArray := prog_42_method_132_code
def yJ10_copyOfRange : MethodName := ⟨RJ10, "copyOfRange", "([BII)[B"⟩
def dkwJ10_copyOfRange_1 : List UInt8 := [176]
abbrev dktJ10_copyOfRange_1 : List UInt8 := dkwJ10_copyOfRange_1 ++ []
def dkwJ10_copyOfRange_0 : List UInt8 := [27, 154, 0, 9, 28, 42, 190, 159, 0, 10, 42, 27, 28, 184, 1, 83, 176, 42, 182, 1, 54, 192, 1, 55]
abbrev dktJ10_copyOfRange_0 : List UInt8 := dkwJ10_copyOfRange_0 ++ dktJ10_copyOfRange_1
theorem dksJ10_copyOfRange_0 : cJ10_copyOfRange.data.toList.drop 0 = dktJ10_copyOfRange_0 := by decide +kernel
theorem dksJ10_copyOfRange_1 : cJ10_copyOfRange.data.toList.drop 24 = dktJ10_copyOfRange_1 := dk_seg dksJ10_copyOfRange_0 24 rfl rfl
theorem dJ10_copyOfRange_0 : decode cJ10_copyOfRange 0 = .ok (.iload_n 1, 1) := dk_27 (dk_at dksJ10_copyOfRange_0 0 rfl rfl)
theorem dJ10_copyOfRange_1 : decode cJ10_copyOfRange 1 = .ok (.ifCond .ne 9, 3) := dk_154 0 9 (dk_at dksJ10_copyOfRange_0 1 rfl rfl)
theorem dJ10_copyOfRange_4 : decode cJ10_copyOfRange 4 = .ok (.iload_n 2, 1) := dk_28 (dk_at dksJ10_copyOfRange_0 4 rfl rfl)
theorem dJ10_copyOfRange_5 : decode cJ10_copyOfRange 5 = .ok (.aload_n 0, 1) := dk_42 (dk_at dksJ10_copyOfRange_0 5 rfl rfl)
theorem dJ10_copyOfRange_6 : decode cJ10_copyOfRange 6 = .ok (.arraylength, 1) := dk_190 (dk_at dksJ10_copyOfRange_0 6 rfl rfl)
theorem dJ10_copyOfRange_7 : decode cJ10_copyOfRange 7 = .ok (.if_icmp .eq 10, 3) := dk_159 0 10 (dk_at dksJ10_copyOfRange_0 7 rfl rfl)
theorem dJ10_copyOfRange_10 : decode cJ10_copyOfRange 10 = .ok (.aload_n 0, 1) := dk_42 (dk_at dksJ10_copyOfRange_0 10 rfl rfl)
theorem dJ10_copyOfRange_11 : decode cJ10_copyOfRange 11 = .ok (.iload_n 1, 1) := dk_27 (dk_at dksJ10_copyOfRange_0 11 rfl rfl)
theorem dJ10_copyOfRange_12 : decode cJ10_copyOfRange 12 = .ok (.iload_n 2, 1) := dk_28 (dk_at dksJ10_copyOfRange_0 12 rfl rfl)
theorem dJ10_copyOfRange_13 : decode cJ10_copyOfRange 13 = .ok (.invokestatic 339, 3) := dk_184 1 83 (dk_at dksJ10_copyOfRange_0 13 rfl rfl)
theorem dJ10_copyOfRange_16 : decode cJ10_copyOfRange 16 = .ok (.areturn, 1) := dk_176 (dk_at dksJ10_copyOfRange_0 16 rfl rfl)
theorem dJ10_copyOfRange_17 : decode cJ10_copyOfRange 17 = .ok (.aload_n 0, 1) := dk_42 (dk_at dksJ10_copyOfRange_0 17 rfl rfl)
theorem dJ10_copyOfRange_18 : decode cJ10_copyOfRange 18 = .ok (.invokevirtual 310, 3) := dk_182 1 54 (dk_at dksJ10_copyOfRange_0 18 rfl rfl)
theorem dJ10_copyOfRange_21 : decode cJ10_copyOfRange 21 = .ok (.checkcast 311, 3) := dk_192 1 55 (dk_at dksJ10_copyOfRange_0 21 rfl rfl)
theorem dJ10_copyOfRange_24 : decode cJ10_copyOfRange 24 = .ok (.areturn, 1) := dk_176 (dk_at dksJ10_copyOfRange_1 0 rfl rfl)
abbrev cJ10_copyOfRangeByte : ByteArray := prog_42_method_133_code
def yJ10_copyOfRangeByte : MethodName := ⟨RJ10, "copyOfRangeByte", "([BII)[B"⟩
def dkwJ10_copyOfRangeByte_1 : List UInt8 := [184, 1, 48, 184, 0, 150, 25, 4, 176]
abbrev dktJ10_copyOfRangeByte_1 : List UInt8 := dkwJ10_copyOfRangeByte_1 ++ []
def dkwJ10_copyOfRangeByte_0 : List UInt8 := [27, 28, 184, 1, 87, 28, 27, 100, 62, 29, 188, 8, 58, 4, 42, 27, 25, 4, 3, 42, 190, 27, 100, 29]
abbrev dktJ10_copyOfRangeByte_0 : List UInt8 := dkwJ10_copyOfRangeByte_0 ++ dktJ10_copyOfRangeByte_1
theorem dksJ10_copyOfRangeByte_0 : cJ10_copyOfRangeByte.data.toList.drop 0 = dktJ10_copyOfRangeByte_0 := by decide +kernel
theorem dksJ10_copyOfRangeByte_1 : cJ10_copyOfRangeByte.data.toList.drop 24 = dktJ10_copyOfRangeByte_1 := dk_seg dksJ10_copyOfRangeByte_0 24 rfl rfl
theorem dJ10_copyOfRangeByte_0 : decode cJ10_copyOfRangeByte 0 = .ok (.iload_n 1, 1) := dk_27 (dk_at dksJ10_copyOfRangeByte_0 0 rfl rfl)
theorem dJ10_copyOfRangeByte_1 : decode cJ10_copyOfRangeByte 1 = .ok (.iload_n 2, 1) := dk_28 (dk_at dksJ10_copyOfRangeByte_0 1 rfl rfl)
theorem dJ10_copyOfRangeByte_2 : decode cJ10_copyOfRangeByte 2 = .ok (.invokestatic 343, 3) := dk_184 1 87 (dk_at dksJ10_copyOfRangeByte_0 2 rfl rfl)
theorem dJ10_copyOfRangeByte_5 : decode cJ10_copyOfRangeByte 5 = .ok (.iload_n 2, 1) := dk_28 (dk_at dksJ10_copyOfRangeByte_0 5 rfl rfl)
theorem dJ10_copyOfRangeByte_6 : decode cJ10_copyOfRangeByte 6 = .ok (.iload_n 1, 1) := dk_27 (dk_at dksJ10_copyOfRangeByte_0 6 rfl rfl)
theorem dJ10_copyOfRangeByte_7 : decode cJ10_copyOfRangeByte 7 = .ok (.isub, 1) := dk_100 (dk_at dksJ10_copyOfRangeByte_0 7 rfl rfl)
theorem dJ10_copyOfRangeByte_8 : decode cJ10_copyOfRangeByte 8 = .ok (.istore_n 3, 1) := dk_62 (dk_at dksJ10_copyOfRangeByte_0 8 rfl rfl)
theorem dJ10_copyOfRangeByte_9 : decode cJ10_copyOfRangeByte 9 = .ok (.iload_n 3, 1) := dk_29 (dk_at dksJ10_copyOfRangeByte_0 9 rfl rfl)
theorem dJ10_copyOfRangeByte_10 : decode cJ10_copyOfRangeByte 10 = .ok (.newarray .byte, 2) := dk_188_8 (dk_at dksJ10_copyOfRangeByte_0 10 rfl rfl)
theorem dJ10_copyOfRangeByte_12 : decode cJ10_copyOfRangeByte 12 = .ok (.astore 4, 2) := dk_58 4 (dk_at dksJ10_copyOfRangeByte_0 12 rfl rfl)
theorem dJ10_copyOfRangeByte_14 : decode cJ10_copyOfRangeByte 14 = .ok (.aload_n 0, 1) := dk_42 (dk_at dksJ10_copyOfRangeByte_0 14 rfl rfl)
theorem dJ10_copyOfRangeByte_15 : decode cJ10_copyOfRangeByte 15 = .ok (.iload_n 1, 1) := dk_27 (dk_at dksJ10_copyOfRangeByte_0 15 rfl rfl)
theorem dJ10_copyOfRangeByte_16 : decode cJ10_copyOfRangeByte 16 = .ok (.aload 4, 2) := dk_25 4 (dk_at dksJ10_copyOfRangeByte_0 16 rfl rfl)
theorem dJ10_copyOfRangeByte_18 : decode cJ10_copyOfRangeByte 18 = .ok (.iconst 0, 1) := dk_3 (dk_at dksJ10_copyOfRangeByte_0 18 rfl rfl)
theorem dJ10_copyOfRangeByte_19 : decode cJ10_copyOfRangeByte 19 = .ok (.aload_n 0, 1) := dk_42 (dk_at dksJ10_copyOfRangeByte_0 19 rfl rfl)
theorem dJ10_copyOfRangeByte_20 : decode cJ10_copyOfRangeByte 20 = .ok (.arraylength, 1) := dk_190 (dk_at dksJ10_copyOfRangeByte_0 20 rfl rfl)
theorem dJ10_copyOfRangeByte_21 : decode cJ10_copyOfRangeByte 21 = .ok (.iload_n 1, 1) := dk_27 (dk_at dksJ10_copyOfRangeByte_0 21 rfl rfl)
theorem dJ10_copyOfRangeByte_22 : decode cJ10_copyOfRangeByte 22 = .ok (.isub, 1) := dk_100 (dk_at dksJ10_copyOfRangeByte_0 22 rfl rfl)
theorem dJ10_copyOfRangeByte_23 : decode cJ10_copyOfRangeByte 23 = .ok (.iload_n 3, 1) := dk_29 (dk_at dksJ10_copyOfRangeByte_0 23 rfl rfl)
theorem dJ10_copyOfRangeByte_24 : decode cJ10_copyOfRangeByte 24 = .ok (.invokestatic 304, 3) := dk_184 1 48 (dk_at dksJ10_copyOfRangeByte_1 0 rfl rfl)
theorem dJ10_copyOfRangeByte_27 : decode cJ10_copyOfRangeByte 27 = .ok (.invokestatic 150, 3) := dk_184 0 150 (dk_at dksJ10_copyOfRangeByte_1 3 rfl rfl)
theorem dJ10_copyOfRangeByte_30 : decode cJ10_copyOfRangeByte 30 = .ok (.aload 4, 2) := dk_25 4 (dk_at dksJ10_copyOfRangeByte_1 6 rfl rfl)
theorem dJ10_copyOfRangeByte_32 : decode cJ10_copyOfRangeByte 32 = .ok (.areturn, 1) := dk_176 (dk_at dksJ10_copyOfRangeByte_1 8 rfl rfl)
abbrev cJ10_checkLength : ByteArray := prog_42_method_131_code
def yJ10_checkLength : MethodName := ⟨RJ10, "checkLength", "(II)V"⟩
def dkwJ10_checkLength_1 : List UInt8 := [182, 0, 50, 27, 182, 0, 54, 182, 0, 61, 183, 0, 65, 191, 177]
abbrev dktJ10_checkLength_1 : List UInt8 := dkwJ10_checkLength_1 ++ []
def dkwJ10_checkLength_0 : List UInt8 := [27, 26, 162, 0, 35, 187, 0, 43, 89, 187, 0, 45, 89, 183, 0, 47, 26, 182, 0, 54, 19, 1, 81]
abbrev dktJ10_checkLength_0 : List UInt8 := dkwJ10_checkLength_0 ++ dktJ10_checkLength_1
theorem dksJ10_checkLength_0 : cJ10_checkLength.data.toList.drop 0 = dktJ10_checkLength_0 := by decide +kernel
theorem dksJ10_checkLength_1 : cJ10_checkLength.data.toList.drop 23 = dktJ10_checkLength_1 := dk_seg dksJ10_checkLength_0 23 rfl rfl
theorem dJ10_checkLength_0 : decode cJ10_checkLength 0 = .ok (.iload_n 1, 1) := dk_27 (dk_at dksJ10_checkLength_0 0 rfl rfl)
theorem dJ10_checkLength_1 : decode cJ10_checkLength 1 = .ok (.iload_n 0, 1) := dk_26 (dk_at dksJ10_checkLength_0 1 rfl rfl)
theorem dJ10_checkLength_2 : decode cJ10_checkLength 2 = .ok (.if_icmp .ge 35, 3) := dk_162 0 35 (dk_at dksJ10_checkLength_0 2 rfl rfl)
theorem dJ10_checkLength_5 : decode cJ10_checkLength 5 = .ok (.new 43, 3) := dk_187 0 43 (dk_at dksJ10_checkLength_0 5 rfl rfl)
theorem dJ10_checkLength_8 : decode cJ10_checkLength 8 = .ok (.dup, 1) := dk_89 (dk_at dksJ10_checkLength_0 8 rfl rfl)
theorem dJ10_checkLength_9 : decode cJ10_checkLength 9 = .ok (.new 45, 3) := dk_187 0 45 (dk_at dksJ10_checkLength_0 9 rfl rfl)
theorem dJ10_checkLength_12 : decode cJ10_checkLength 12 = .ok (.dup, 1) := dk_89 (dk_at dksJ10_checkLength_0 12 rfl rfl)
theorem dJ10_checkLength_13 : decode cJ10_checkLength 13 = .ok (.invokespecial 47, 3) := dk_183 0 47 (dk_at dksJ10_checkLength_0 13 rfl rfl)
theorem dJ10_checkLength_16 : decode cJ10_checkLength 16 = .ok (.iload_n 0, 1) := dk_26 (dk_at dksJ10_checkLength_0 16 rfl rfl)
theorem dJ10_checkLength_17 : decode cJ10_checkLength 17 = .ok (.invokevirtual 54, 3) := dk_182 0 54 (dk_at dksJ10_checkLength_0 17 rfl rfl)
theorem dJ10_checkLength_20 : decode cJ10_checkLength 20 = .ok (.ldc_w 337, 3) := dk_19 1 81 (dk_at dksJ10_checkLength_0 20 rfl rfl)
theorem dJ10_checkLength_23 : decode cJ10_checkLength 23 = .ok (.invokevirtual 50, 3) := dk_182 0 50 (dk_at dksJ10_checkLength_1 0 rfl rfl)
theorem dJ10_checkLength_26 : decode cJ10_checkLength 26 = .ok (.iload_n 1, 1) := dk_27 (dk_at dksJ10_checkLength_1 3 rfl rfl)
theorem dJ10_checkLength_27 : decode cJ10_checkLength 27 = .ok (.invokevirtual 54, 3) := dk_182 0 54 (dk_at dksJ10_checkLength_1 4 rfl rfl)
theorem dJ10_checkLength_30 : decode cJ10_checkLength 30 = .ok (.invokevirtual 61, 3) := dk_182 0 61 (dk_at dksJ10_checkLength_1 7 rfl rfl)
theorem dJ10_checkLength_33 : decode cJ10_checkLength 33 = .ok (.invokespecial 65, 3) := dk_183 0 65 (dk_at dksJ10_checkLength_1 10 rfl rfl)
theorem dJ10_checkLength_36 : decode cJ10_checkLength 36 = .ok (.athrow, 1) := dk_191 (dk_at dksJ10_checkLength_1 13 rfl rfl)
theorem dJ10_checkLength_37 : decode cJ10_checkLength 37 = .ok (.return_, 1) := dk_177 (dk_at dksJ10_checkLength_1 14 rfl rfl)
abbrev cJ10_fill : ByteArray := prog_42_method_110_code
def yJ10_fill : MethodName := ⟨RJ10, "fill", "([BIIB)V"⟩
def dkwJ10_fill_1 : List UInt8 := [167, 255, 242, 177]
abbrev dktJ10_fill_1 : List UInt8 := dkwJ10_fill_1 ++ []
def dkwJ10_fill_0 : List UInt8 := [42, 190, 27, 28, 184, 0, 13, 27, 54, 4, 21, 4, 28, 162, 0, 14, 42, 21, 4, 29, 84, 132, 4, 1]
abbrev dktJ10_fill_0 : List UInt8 := dkwJ10_fill_0 ++ dktJ10_fill_1
theorem dksJ10_fill_0 : cJ10_fill.data.toList.drop 0 = dktJ10_fill_0 := by decide +kernel
theorem dksJ10_fill_1 : cJ10_fill.data.toList.drop 24 = dktJ10_fill_1 := dk_seg dksJ10_fill_0 24 rfl rfl
theorem dJ10_fill_0 : decode cJ10_fill 0 = .ok (.aload_n 0, 1) := dk_42 (dk_at dksJ10_fill_0 0 rfl rfl)
theorem dJ10_fill_1 : decode cJ10_fill 1 = .ok (.arraylength, 1) := dk_190 (dk_at dksJ10_fill_0 1 rfl rfl)
theorem dJ10_fill_2 : decode cJ10_fill 2 = .ok (.iload_n 1, 1) := dk_27 (dk_at dksJ10_fill_0 2 rfl rfl)
theorem dJ10_fill_3 : decode cJ10_fill 3 = .ok (.iload_n 2, 1) := dk_28 (dk_at dksJ10_fill_0 3 rfl rfl)
theorem dJ10_fill_4 : decode cJ10_fill 4 = .ok (.invokestatic 13, 3) := dk_184 0 13 (dk_at dksJ10_fill_0 4 rfl rfl)
theorem dJ10_fill_7 : decode cJ10_fill 7 = .ok (.iload_n 1, 1) := dk_27 (dk_at dksJ10_fill_0 7 rfl rfl)
theorem dJ10_fill_8 : decode cJ10_fill 8 = .ok (.istore 4, 2) := dk_54 4 (dk_at dksJ10_fill_0 8 rfl rfl)
theorem dJ10_fill_10 : decode cJ10_fill 10 = .ok (.iload 4, 2) := dk_21 4 (dk_at dksJ10_fill_0 10 rfl rfl)
theorem dJ10_fill_12 : decode cJ10_fill 12 = .ok (.iload_n 2, 1) := dk_28 (dk_at dksJ10_fill_0 12 rfl rfl)
theorem dJ10_fill_13 : decode cJ10_fill 13 = .ok (.if_icmp .ge 14, 3) := dk_162 0 14 (dk_at dksJ10_fill_0 13 rfl rfl)
theorem dJ10_fill_16 : decode cJ10_fill 16 = .ok (.aload_n 0, 1) := dk_42 (dk_at dksJ10_fill_0 16 rfl rfl)
theorem dJ10_fill_17 : decode cJ10_fill 17 = .ok (.iload 4, 2) := dk_21 4 (dk_at dksJ10_fill_0 17 rfl rfl)
theorem dJ10_fill_19 : decode cJ10_fill 19 = .ok (.iload_n 3, 1) := dk_29 (dk_at dksJ10_fill_0 19 rfl rfl)
theorem dJ10_fill_20 : decode cJ10_fill 20 = .ok (.bastore, 1) := dk_84 (dk_at dksJ10_fill_0 20 rfl rfl)
theorem dJ10_fill_21 : decode cJ10_fill 21 = .ok (.iinc 4 1, 3) := dk_132 4 1 (dk_at dksJ10_fill_0 21 rfl rfl)
theorem dJ10_fill_24 : decode cJ10_fill 24 = .ok (.goto (-14), 3) := dk_167 255 242 (dk_at dksJ10_fill_1 0 rfl rfl)
theorem dJ10_fill_27 : decode cJ10_fill 27 = .ok (.return_, 1) := dk_177 (dk_at dksJ10_fill_1 3 rfl rfl)
abbrev cJ10_rangeCheck : ByteArray := prog_42_method_30_code
def yJ10_rangeCheck : MethodName := ⟨RJ10, "rangeCheck", "(III)V"⟩
def dkwJ10_rangeCheck_3 : List UInt8 := [183, 0, 70, 191, 177]
abbrev dktJ10_rangeCheck_3 : List UInt8 := dkwJ10_rangeCheck_3 ++ []
def dkwJ10_rangeCheck_2 : List UInt8 := [27, 156, 0, 12, 187, 0, 68, 89, 27, 183, 0, 70, 191, 28, 26, 164, 0, 12, 187, 0, 68, 89, 28]
abbrev dktJ10_rangeCheck_2 : List UInt8 := dkwJ10_rangeCheck_2 ++ dktJ10_rangeCheck_3
def dkwJ10_rangeCheck_1 : List UInt8 := [182, 0, 54, 18, 57, 182, 0, 50, 28, 182, 0, 54, 18, 59, 182, 0, 50, 182, 0, 61, 183, 0, 65, 191]
abbrev dktJ10_rangeCheck_1 : List UInt8 := dkwJ10_rangeCheck_1 ++ dktJ10_rangeCheck_2
def dkwJ10_rangeCheck_0 : List UInt8 := [27, 28, 164, 0, 44, 187, 0, 43, 89, 187, 0, 45, 89, 183, 0, 47, 18, 48, 182, 0, 50, 27]
abbrev dktJ10_rangeCheck_0 : List UInt8 := dkwJ10_rangeCheck_0 ++ dktJ10_rangeCheck_1
theorem dksJ10_rangeCheck_0 : cJ10_rangeCheck.data.toList.drop 0 = dktJ10_rangeCheck_0 := by decide +kernel
theorem dksJ10_rangeCheck_1 : cJ10_rangeCheck.data.toList.drop 22 = dktJ10_rangeCheck_1 := dk_seg dksJ10_rangeCheck_0 22 rfl rfl
theorem dksJ10_rangeCheck_2 : cJ10_rangeCheck.data.toList.drop 46 = dktJ10_rangeCheck_2 := dk_seg dksJ10_rangeCheck_1 24 rfl rfl
theorem dksJ10_rangeCheck_3 : cJ10_rangeCheck.data.toList.drop 69 = dktJ10_rangeCheck_3 := dk_seg dksJ10_rangeCheck_2 23 rfl rfl
theorem dJ10_rangeCheck_0 : decode cJ10_rangeCheck 0 = .ok (.iload_n 1, 1) := dk_27 (dk_at dksJ10_rangeCheck_0 0 rfl rfl)
theorem dJ10_rangeCheck_1 : decode cJ10_rangeCheck 1 = .ok (.iload_n 2, 1) := dk_28 (dk_at dksJ10_rangeCheck_0 1 rfl rfl)
theorem dJ10_rangeCheck_2 : decode cJ10_rangeCheck 2 = .ok (.if_icmp .le 44, 3) := dk_164 0 44 (dk_at dksJ10_rangeCheck_0 2 rfl rfl)
theorem dJ10_rangeCheck_5 : decode cJ10_rangeCheck 5 = .ok (.new 43, 3) := dk_187 0 43 (dk_at dksJ10_rangeCheck_0 5 rfl rfl)
theorem dJ10_rangeCheck_8 : decode cJ10_rangeCheck 8 = .ok (.dup, 1) := dk_89 (dk_at dksJ10_rangeCheck_0 8 rfl rfl)
theorem dJ10_rangeCheck_9 : decode cJ10_rangeCheck 9 = .ok (.new 45, 3) := dk_187 0 45 (dk_at dksJ10_rangeCheck_0 9 rfl rfl)
theorem dJ10_rangeCheck_12 : decode cJ10_rangeCheck 12 = .ok (.dup, 1) := dk_89 (dk_at dksJ10_rangeCheck_0 12 rfl rfl)
theorem dJ10_rangeCheck_13 : decode cJ10_rangeCheck 13 = .ok (.invokespecial 47, 3) := dk_183 0 47 (dk_at dksJ10_rangeCheck_0 13 rfl rfl)
theorem dJ10_rangeCheck_16 : decode cJ10_rangeCheck 16 = .ok (.ldc 48, 2) := dk_18 48 (dk_at dksJ10_rangeCheck_0 16 rfl rfl)
theorem dJ10_rangeCheck_18 : decode cJ10_rangeCheck 18 = .ok (.invokevirtual 50, 3) := dk_182 0 50 (dk_at dksJ10_rangeCheck_0 18 rfl rfl)
theorem dJ10_rangeCheck_21 : decode cJ10_rangeCheck 21 = .ok (.iload_n 1, 1) := dk_27 (dk_at dksJ10_rangeCheck_0 21 rfl rfl)
theorem dJ10_rangeCheck_22 : decode cJ10_rangeCheck 22 = .ok (.invokevirtual 54, 3) := dk_182 0 54 (dk_at dksJ10_rangeCheck_1 0 rfl rfl)
theorem dJ10_rangeCheck_25 : decode cJ10_rangeCheck 25 = .ok (.ldc 57, 2) := dk_18 57 (dk_at dksJ10_rangeCheck_1 3 rfl rfl)
theorem dJ10_rangeCheck_27 : decode cJ10_rangeCheck 27 = .ok (.invokevirtual 50, 3) := dk_182 0 50 (dk_at dksJ10_rangeCheck_1 5 rfl rfl)
theorem dJ10_rangeCheck_30 : decode cJ10_rangeCheck 30 = .ok (.iload_n 2, 1) := dk_28 (dk_at dksJ10_rangeCheck_1 8 rfl rfl)
theorem dJ10_rangeCheck_31 : decode cJ10_rangeCheck 31 = .ok (.invokevirtual 54, 3) := dk_182 0 54 (dk_at dksJ10_rangeCheck_1 9 rfl rfl)
theorem dJ10_rangeCheck_34 : decode cJ10_rangeCheck 34 = .ok (.ldc 59, 2) := dk_18 59 (dk_at dksJ10_rangeCheck_1 12 rfl rfl)
theorem dJ10_rangeCheck_36 : decode cJ10_rangeCheck 36 = .ok (.invokevirtual 50, 3) := dk_182 0 50 (dk_at dksJ10_rangeCheck_1 14 rfl rfl)
theorem dJ10_rangeCheck_39 : decode cJ10_rangeCheck 39 = .ok (.invokevirtual 61, 3) := dk_182 0 61 (dk_at dksJ10_rangeCheck_1 17 rfl rfl)
theorem dJ10_rangeCheck_42 : decode cJ10_rangeCheck 42 = .ok (.invokespecial 65, 3) := dk_183 0 65 (dk_at dksJ10_rangeCheck_1 20 rfl rfl)
theorem dJ10_rangeCheck_45 : decode cJ10_rangeCheck 45 = .ok (.athrow, 1) := dk_191 (dk_at dksJ10_rangeCheck_1 23 rfl rfl)
theorem dJ10_rangeCheck_46 : decode cJ10_rangeCheck 46 = .ok (.iload_n 1, 1) := dk_27 (dk_at dksJ10_rangeCheck_2 0 rfl rfl)
theorem dJ10_rangeCheck_47 : decode cJ10_rangeCheck 47 = .ok (.ifCond .ge 12, 3) := dk_156 0 12 (dk_at dksJ10_rangeCheck_2 1 rfl rfl)
theorem dJ10_rangeCheck_50 : decode cJ10_rangeCheck 50 = .ok (.new 68, 3) := dk_187 0 68 (dk_at dksJ10_rangeCheck_2 4 rfl rfl)
theorem dJ10_rangeCheck_53 : decode cJ10_rangeCheck 53 = .ok (.dup, 1) := dk_89 (dk_at dksJ10_rangeCheck_2 7 rfl rfl)
theorem dJ10_rangeCheck_54 : decode cJ10_rangeCheck 54 = .ok (.iload_n 1, 1) := dk_27 (dk_at dksJ10_rangeCheck_2 8 rfl rfl)
theorem dJ10_rangeCheck_55 : decode cJ10_rangeCheck 55 = .ok (.invokespecial 70, 3) := dk_183 0 70 (dk_at dksJ10_rangeCheck_2 9 rfl rfl)
theorem dJ10_rangeCheck_58 : decode cJ10_rangeCheck 58 = .ok (.athrow, 1) := dk_191 (dk_at dksJ10_rangeCheck_2 12 rfl rfl)
theorem dJ10_rangeCheck_59 : decode cJ10_rangeCheck 59 = .ok (.iload_n 2, 1) := dk_28 (dk_at dksJ10_rangeCheck_2 13 rfl rfl)
theorem dJ10_rangeCheck_60 : decode cJ10_rangeCheck 60 = .ok (.iload_n 0, 1) := dk_26 (dk_at dksJ10_rangeCheck_2 14 rfl rfl)
theorem dJ10_rangeCheck_61 : decode cJ10_rangeCheck 61 = .ok (.if_icmp .le 12, 3) := dk_164 0 12 (dk_at dksJ10_rangeCheck_2 15 rfl rfl)
theorem dJ10_rangeCheck_64 : decode cJ10_rangeCheck 64 = .ok (.new 68, 3) := dk_187 0 68 (dk_at dksJ10_rangeCheck_2 18 rfl rfl)
theorem dJ10_rangeCheck_67 : decode cJ10_rangeCheck 67 = .ok (.dup, 1) := dk_89 (dk_at dksJ10_rangeCheck_2 21 rfl rfl)
theorem dJ10_rangeCheck_68 : decode cJ10_rangeCheck 68 = .ok (.iload_n 2, 1) := dk_28 (dk_at dksJ10_rangeCheck_2 22 rfl rfl)
theorem dJ10_rangeCheck_69 : decode cJ10_rangeCheck 69 = .ok (.invokespecial 70, 3) := dk_183 0 70 (dk_at dksJ10_rangeCheck_3 0 rfl rfl)
theorem dJ10_rangeCheck_72 : decode cJ10_rangeCheck 72 = .ok (.athrow, 1) := dk_191 (dk_at dksJ10_rangeCheck_3 3 rfl rfl)
theorem dJ10_rangeCheck_73 : decode cJ10_rangeCheck 73 = .ok (.return_, 1) := dk_177 (dk_at dksJ10_rangeCheck_3 4 rfl rfl)
def fJ10 : List ZE := []
theorem fokJ10 : zFok RJ10 fJ10 := fun _ h => by cases h
abbrev kJ10_copyOf : ZK := (RJ10, cJ10_copyOf, 2, (Option.some (Jvm.ClassFile.FieldType.array (Jvm.ClassFile.FieldType.object "java/lang/Object"))), [], false, fJ10)
abbrev tJ10_copyOf (g : ZG) (args : List Value) (M : ZM) (d c s : Nat) (Q : ZQ) : Prop := Ct g yJ10_copyOf (ws_ yJ10_copyOf cJ10_copyOf 2 (Option.some (Jvm.ClassFile.FieldType.array (Jvm.ClassFile.FieldType.object "java/lang/Object")))) args M d c s Q
abbrev nJ10_copyOf : Nat := 3
theorem mJ10_copyOf : zMok yJ10_copyOf 2 2 := ⟨⟨by decide +kernel, by decide +kernel, by decide +kernel⟩, by decide⟩
theorem eJ10_copyOf {g : ZG} {Q : ZQ} {d cN sN : Nat} {M : ZM} {v1 : Value} (hv1 : v1.category = 1) {x2 : Int32} (hV : zV g) (h : Z g kJ10_copyOf Q d cN sN M 0 [some (v1), some (.int x2)] []) : tJ10_copyOf g [v1, .int x2] M d cN sN Q := Ct.of (K := kJ10_copyOf) rfl (by decide +kernel) hV fokJ10 rfl (fun h => by cases h) (fun v hv => by simp only [List.mem_cons, List.not_mem_nil, or_false] at hv; rcases hv with rfl | rfl <;> first | rfl | assumption) (Nat.le_of_ble_eq_true rfl) h
theorem sJ10_copyOf_0 {g : ZG} {Q : ZQ} {d cN sN : Nat} {M : ZM} {l0 : Nat} {l1 : Int32}  (kk : Z g kJ10_copyOf Q d cN sN M 3 [some (.ref l0), some (.int l1)] [.ref l0, .int l1, .ref l0]) : Z g kJ10_copyOf Q d cN sN M 0 [some (.ref l0), some (.int l1)] [] := by
  refine zi_aload_n dJ10_copyOf_0 rfl zrf_r ?_
  refine zi_iload_n dJ10_copyOf_1 rfl ?_
  refine zi_aload_n dJ10_copyOf_2 rfl zrf_r ?_
  exact kk
theorem sJ10_copyOf_9 {g : ZG} {Q : ZQ} {d cN sN : Nat} {M : ZM} {t0 : Nat} {o0 o1 : Option Value}  (kk : Q.1 (some (.ref t0)) M) : Z g kJ10_copyOf Q d cN sN M 9 [o0, o1] [.ref t0] := by
  exact zi_areturn dJ10_copyOf_9 zrf_r rfl (Or.inr ⟨_, rfl⟩) kk
abbrev kJ10_copyOf_2 : ZK := (RJ10, cJ10_copyOf_2, 4, (Option.some (Jvm.ClassFile.FieldType.array (Jvm.ClassFile.FieldType.object "java/lang/Object"))), [], false, fJ10)
abbrev tJ10_copyOf_2 (g : ZG) (args : List Value) (M : ZM) (d c s : Nat) (Q : ZQ) : Prop := Ct g yJ10_copyOf_2 (ws_ yJ10_copyOf_2 cJ10_copyOf_2 4 (Option.some (Jvm.ClassFile.FieldType.array (Jvm.ClassFile.FieldType.object "java/lang/Object")))) args M d c s Q
abbrev nJ10_copyOf_2 : Nat := 2
theorem mJ10_copyOf_2 : zMok yJ10_copyOf_2 3 4 := ⟨⟨by decide +kernel, by decide +kernel, by decide +kernel⟩, by decide⟩
theorem eJ10_copyOf_2 {g : ZG} {Q : ZQ} {d cN sN : Nat} {M : ZM} {v1 : Value} (hv1 : v1.category = 1) {x2 : Int32} {v3 : Value} (hv3 : v3.category = 1) (hV : zV g) (h : Z g kJ10_copyOf_2 Q d cN sN M 0 [some (v1), some (.int x2), some (v3), none] []) : tJ10_copyOf_2 g [v1, .int x2, v3] M d cN sN Q := Ct.of (K := kJ10_copyOf_2) rfl (by decide +kernel) hV fokJ10 rfl (fun h => by cases h) (fun v hv => by simp only [List.mem_cons, List.not_mem_nil, or_false] at hv; rcases hv with rfl | rfl | rfl <;> first | rfl | assumption) (Nat.le_of_ble_eq_true rfl) h
theorem sJ10_copyOf_2_0 {g : ZG} {Q : ZQ} {d cN sN : Nat} {M : ZM} {l2 : Nat} {o0 o1 o3 : Option Value}  (kk : Z g kJ10_copyOf_2 Q d cN sN M 1 [o0, o1, some (.ref l2), o3] [.ref l2]) : Z g kJ10_copyOf_2 Q d cN sN M 0 [o0, o1, some (.ref l2), o3] [] := by
  refine zi_aload_n dJ10_copyOf_2_0 rfl zrf_r ?_
  exact kk
theorem sJ10_copyOf_2_6 {g : ZG} {Q : ZQ} {d cN sN : Nat} {M : ZM} {l1 : Int32} {o0 o2 o3 : Option Value}  (kk : Z g kJ10_copyOf_2 Q d cN sN M 7 [o0, some (.int l1), o2, o3] [.int l1]) : Z g kJ10_copyOf_2 Q d cN sN M 6 [o0, some (.int l1), o2, o3] [] := by
  refine zi_iload_n dJ10_copyOf_2_6 rfl ?_
  exact kk
theorem sJ10_copyOf_2_10 {g : ZG} {Q : ZQ} {d cN sN : Nat} {M : ZM} {t0 : Nat} {o0 o1 o2 o3 : Option Value}  (kk : Z g kJ10_copyOf_2 Q d cN sN M 24 [o0, o1, o2, o3] [.ref t0]) : Z g kJ10_copyOf_2 Q d cN sN M 10 [o0, o1, o2, o3] [.ref t0] := by
  exact zi_goto (tgt := 24) dJ10_copyOf_2_10 (by decide +kernel) kk
theorem sJ10_copyOf_2_13 {g : ZG} {Q : ZQ} {d cN sN : Nat} {M : ZM} {l2 : Nat} {o0 o1 o3 : Option Value}  (kk : Z g kJ10_copyOf_2 Q d cN sN M 14 [o0, o1, some (.ref l2), o3] [.ref l2]) : Z g kJ10_copyOf_2 Q d cN sN M 13 [o0, o1, some (.ref l2), o3] [] := by
  refine zi_aload_n dJ10_copyOf_2_13 rfl zrf_r ?_
  exact kk
theorem sJ10_copyOf_2_24 {g : ZG} {Q : ZQ} {d cN sN : Nat} {M : ZM} {t0 : Nat} {l0 : Nat} {u1 : vp_A} {c2 : ClassId} {k3 : Nat} {ty4 : FieldType} {l1 : Int32} {o2 o3 : Option Value} (h5 : M.1 l0 = some (.inl (c2, u1))) (h6 : (ztys g)[k3]? = some (c2, ty4)) (kk : Z g kJ10_copyOf_2 Q d cN sN M 32 [some (.ref l0), some (.int l1), o2, some (.ref t0)] [.int l1, .int (Int32.ofNat u1.1), .int 0, .ref t0, .int 0, .ref l0]) : Z g kJ10_copyOf_2 Q d cN sN M 24 [some (.ref l0), some (.int l1), o2, o3] [.ref t0] := by
  refine zi_astore_n dJ10_copyOf_2_24 zrf_r (Nat.le_of_ble_eq_true rfl) ?_
  refine zi_aload_n dJ10_copyOf_2_25 rfl zrf_r ?_
  refine zi_iconst dJ10_copyOf_2_26 (by decide +kernel : Int32.ofInt (0) = (0 : Int32)) ?_
  refine zi_aload_n dJ10_copyOf_2_27 rfl zrf_r ?_
  refine zi_iconst dJ10_copyOf_2_28 (by decide +kernel : Int32.ofInt (0) = (0 : Int32)) ?_
  refine zi_aload_n dJ10_copyOf_2_29 rfl zrf_r ?_
  refine zi_arraylength dJ10_copyOf_2_30 h5 h6 ?_
  refine zi_iload_n dJ10_copyOf_2_31 rfl ?_
  exact kk
theorem sJ10_copyOf_2_38 {g : ZG} {Q : ZQ} {d cN sN : Nat} {M : ZM} {l3 : Nat} {o0 o1 o2 : Option Value}  (kk : Q.1 (some (.ref l3)) M) : Z g kJ10_copyOf_2 Q d cN sN M 38 [o0, o1, o2, some (.ref l3)] [] := by
  refine zi_aload_n dJ10_copyOf_2_38 rfl zrf_r ?_
  exact zi_areturn dJ10_copyOf_2_39 zrf_r rfl (Or.inr ⟨_, rfl⟩) kk
abbrev kJ10_copyOf_3 : ZK := (RJ10, cJ10_copyOf_3, 3, (Option.some (Jvm.ClassFile.FieldType.array Jvm.ClassFile.FieldType.byte)), [], false, fJ10)
abbrev tJ10_copyOf_3 (g : ZG) (args : List Value) (M : ZM) (d c s : Nat) (Q : ZQ) : Prop := Ct g yJ10_copyOf_3 (ws_ yJ10_copyOf_3 cJ10_copyOf_3 3 (Option.some (Jvm.ClassFile.FieldType.array Jvm.ClassFile.FieldType.byte))) args M d c s Q
abbrev nJ10_copyOf_3 : Nat := 2
theorem mJ10_copyOf_3 : zMok yJ10_copyOf_3 2 3 := ⟨⟨by decide +kernel, by decide +kernel, by decide +kernel⟩, by decide⟩
theorem eJ10_copyOf_3 {g : ZG} {Q : ZQ} {d cN sN : Nat} {M : ZM} {v1 : Value} (hv1 : v1.category = 1) {x2 : Int32} (hV : zV g) (h : Z g kJ10_copyOf_3 Q d cN sN M 0 [some (v1), some (.int x2), none] []) : tJ10_copyOf_3 g [v1, .int x2] M d cN sN Q := Ct.of (K := kJ10_copyOf_3) rfl (by decide +kernel) hV fokJ10 rfl (fun h => by cases h) (fun v hv => by simp only [List.mem_cons, List.not_mem_nil, or_false] at hv; rcases hv with rfl | rfl <;> first | rfl | assumption) (Nat.le_of_ble_eq_true rfl) h
theorem sJ10_copyOf_3_0 {g : ZG} {Q : ZQ} {d cN sN : Nat} {M : ZM} {l1 : Int32} {l0 : Nat} {u1 : vp_A} {c2 : ClassId} {k3 : Nat} {ty4 : FieldType} {o2 : Option Value} (h5 : M.1 l0 = some (.inl (c2, u1))) (h6 : (ztys g)[k3]? = some (c2, ty4)) (kt : ¬ (l1 : Int32) = (Int32.ofNat u1.1 : Int32) → Z g kJ10_copyOf_3 Q d cN sN M 14 [some (.ref l0), some (.int l1), o2] []) (kf : (l1 : Int32) = (Int32.ofNat u1.1 : Int32) → Z g kJ10_copyOf_3 Q d cN sN M 6 [some (.ref l0), some (.int l1), o2] []) : Z g kJ10_copyOf_3 Q d cN sN M 0 [some (.ref l0), some (.int l1), o2] [] := by
  refine zi_iload_n dJ10_copyOf_3_0 rfl ?_
  refine zi_aload_n dJ10_copyOf_3_1 rfl zrf_r ?_
  refine zi_arraylength dJ10_copyOf_3_2 h5 h6 ?_
  exact zi_icmp_ne (tgt := 14) dJ10_copyOf_3_3 (by decide +kernel) kt kf
theorem sJ10_copyOf_3_6 {g : ZG} {Q : ZQ} {d cN sN : Nat} {M : ZM} {l0 : Nat} {o1 o2 : Option Value}  (kk : Z g kJ10_copyOf_3 Q d cN sN M 7 [some (.ref l0), o1, o2] [.ref l0]) : Z g kJ10_copyOf_3 Q d cN sN M 6 [some (.ref l0), o1, o2] [] := by
  refine zi_aload_n dJ10_copyOf_3_6 rfl zrf_r ?_
  exact kk
theorem sJ10_copyOf_3_13 {g : ZG} {Q : ZQ} {d cN sN : Nat} {M : ZM} {t0 : Nat} {o0 o1 o2 : Option Value}  (kk : Q.1 (some (.ref t0)) M) : Z g kJ10_copyOf_3 Q d cN sN M 13 [o0, o1, o2] [.ref t0] := by
  exact zi_areturn dJ10_copyOf_3_13 zrf_r rfl (Or.inr ⟨_, rfl⟩) kk
theorem sJ10_copyOf_3_14 {g : ZG} {Q : ZQ} {d cN sN : Nat} {M : ZM} {l1 : Int32} {o0 o2 : Option Value}  (kk : Z g kJ10_copyOf_3 Q d cN sN M 15 [o0, some (.int l1), o2] [.int l1]) : Z g kJ10_copyOf_3 Q d cN sN M 14 [o0, some (.int l1), o2] [] := by
  refine zi_iload_n dJ10_copyOf_3_14 rfl ?_
  exact kk
theorem sJ10_copyOf_3_17 {g : ZG} {Q : ZQ} {d cN sN : Nat} {M : ZM} {t0 : Nat} {l0 : Nat} {u1 : vp_A} {c2 : ClassId} {k3 : Nat} {ty4 : FieldType} {l1 : Int32} {o2 : Option Value} (h5 : M.1 l0 = some (.inl (c2, u1))) (h6 : (ztys g)[k3]? = some (c2, ty4)) (kk : Z g kJ10_copyOf_3 Q d cN sN M 25 [some (.ref l0), some (.int l1), some (.ref t0)] [.int l1, .int (Int32.ofNat u1.1), .int 0, .ref t0, .int 0, .ref l0]) : Z g kJ10_copyOf_3 Q d cN sN M 17 [some (.ref l0), some (.int l1), o2] [.ref t0] := by
  refine zi_astore_n dJ10_copyOf_3_17 zrf_r (Nat.le_of_ble_eq_true rfl) ?_
  refine zi_aload_n dJ10_copyOf_3_18 rfl zrf_r ?_
  refine zi_iconst dJ10_copyOf_3_19 (by decide +kernel : Int32.ofInt (0) = (0 : Int32)) ?_
  refine zi_aload_n dJ10_copyOf_3_20 rfl zrf_r ?_
  refine zi_iconst dJ10_copyOf_3_21 (by decide +kernel : Int32.ofInt (0) = (0 : Int32)) ?_
  refine zi_aload_n dJ10_copyOf_3_22 rfl zrf_r ?_
  refine zi_arraylength dJ10_copyOf_3_23 h5 h6 ?_
  refine zi_iload_n dJ10_copyOf_3_24 rfl ?_
  exact kk
theorem sJ10_copyOf_3_31 {g : ZG} {Q : ZQ} {d cN sN : Nat} {M : ZM} {l2 : Nat} {o0 o1 : Option Value}  (kk : Q.1 (some (.ref l2)) M) : Z g kJ10_copyOf_3 Q d cN sN M 31 [o0, o1, some (.ref l2)] [] := by
  refine zi_aload_n dJ10_copyOf_3_31 rfl zrf_r ?_
  exact zi_areturn dJ10_copyOf_3_32 zrf_r rfl (Or.inr ⟨_, rfl⟩) kk
abbrev kJ10_copyOfRange : ZK := (RJ10, cJ10_copyOfRange, 3, (Option.some (Jvm.ClassFile.FieldType.array Jvm.ClassFile.FieldType.byte)), [], false, fJ10)
abbrev tJ10_copyOfRange (g : ZG) (args : List Value) (M : ZM) (d c s : Nat) (Q : ZQ) : Prop := Ct g yJ10_copyOfRange (ws_ yJ10_copyOfRange cJ10_copyOfRange 3 (Option.some (Jvm.ClassFile.FieldType.array Jvm.ClassFile.FieldType.byte))) args M d c s Q
abbrev nJ10_copyOfRange : Nat := 18
theorem mJ10_copyOfRange : zMok yJ10_copyOfRange 3 3 := ⟨⟨by decide +kernel, by decide +kernel, by decide +kernel⟩, by decide⟩
theorem eJ10_copyOfRange {g : ZG} {Q : ZQ} {d cN sN : Nat} {M : ZM} {v1 : Value} (hv1 : v1.category = 1) {x2 : Int32} {x3 : Int32} (hV : zV g) (h : Z g kJ10_copyOfRange Q d cN sN M 0 [some (v1), some (.int x2), some (.int x3)] []) : tJ10_copyOfRange g [v1, .int x2, .int x3] M d cN sN Q := Ct.of (K := kJ10_copyOfRange) rfl (by decide +kernel) hV fokJ10 rfl (fun h => by cases h) (fun v hv => by simp only [List.mem_cons, List.not_mem_nil, or_false] at hv; rcases hv with rfl | rfl | rfl <;> first | rfl | assumption) (Nat.le_of_ble_eq_true rfl) h
theorem sJ10_copyOfRange_0 {g : ZG} {Q : ZQ} {d cN sN : Nat} {M : ZM} {l1 : Int32} {o0 o2 : Option Value}  (kt : ¬ (l1 : Int32) = 0 → Z g kJ10_copyOfRange Q d cN sN M 10 [o0, some (.int l1), o2] []) (kf : (l1 : Int32) = 0 → Z g kJ10_copyOfRange Q d cN sN M 4 [o0, some (.int l1), o2] []) : Z g kJ10_copyOfRange Q d cN sN M 0 [o0, some (.int l1), o2] [] := by
  refine zi_iload_n dJ10_copyOfRange_0 rfl ?_
  exact zi_if_ne (tgt := 10) dJ10_copyOfRange_1 (by decide +kernel) kt kf
theorem sJ10_copyOfRange_4 {g : ZG} {Q : ZQ} {d cN sN : Nat} {M : ZM} {l2 : Int32} {l0 : Nat} {u1 : vp_A} {c2 : ClassId} {k3 : Nat} {ty4 : FieldType} {o1 : Option Value} (h5 : M.1 l0 = some (.inl (c2, u1))) (h6 : (ztys g)[k3]? = some (c2, ty4)) (kt : (l2 : Int32) = (Int32.ofNat u1.1 : Int32) → Z g kJ10_copyOfRange Q d cN sN M 17 [some (.ref l0), o1, some (.int l2)] []) (kf : ¬ (l2 : Int32) = (Int32.ofNat u1.1 : Int32) → Z g kJ10_copyOfRange Q d cN sN M 10 [some (.ref l0), o1, some (.int l2)] []) : Z g kJ10_copyOfRange Q d cN sN M 4 [some (.ref l0), o1, some (.int l2)] [] := by
  refine zi_iload_n dJ10_copyOfRange_4 rfl ?_
  refine zi_aload_n dJ10_copyOfRange_5 rfl zrf_r ?_
  refine zi_arraylength dJ10_copyOfRange_6 h5 h6 ?_
  exact zi_icmp_eq (tgt := 17) dJ10_copyOfRange_7 (by decide +kernel) kt kf
theorem sJ10_copyOfRange_10 {g : ZG} {Q : ZQ} {d cN sN : Nat} {M : ZM} {l0 : Nat} {l1 : Int32} {l2 : Int32}  (kk : Z g kJ10_copyOfRange Q d cN sN M 13 [some (.ref l0), some (.int l1), some (.int l2)] [.int l2, .int l1, .ref l0]) : Z g kJ10_copyOfRange Q d cN sN M 10 [some (.ref l0), some (.int l1), some (.int l2)] [] := by
  refine zi_aload_n dJ10_copyOfRange_10 rfl zrf_r ?_
  refine zi_iload_n dJ10_copyOfRange_11 rfl ?_
  refine zi_iload_n dJ10_copyOfRange_12 rfl ?_
  exact kk
theorem sJ10_copyOfRange_16 {g : ZG} {Q : ZQ} {d cN sN : Nat} {M : ZM} {t0 : Nat} {o0 o1 o2 : Option Value}  (kk : Q.1 (some (.ref t0)) M) : Z g kJ10_copyOfRange Q d cN sN M 16 [o0, o1, o2] [.ref t0] := by
  exact zi_areturn dJ10_copyOfRange_16 zrf_r rfl (Or.inr ⟨_, rfl⟩) kk
theorem sJ10_copyOfRange_17 {g : ZG} {Q : ZQ} {d cN sN : Nat} {M : ZM} {l0 : Nat} {o1 o2 : Option Value}  (kk : Z g kJ10_copyOfRange Q d cN sN M 18 [some (.ref l0), o1, o2] [.ref l0]) : Z g kJ10_copyOfRange Q d cN sN M 17 [some (.ref l0), o1, o2] [] := by
  refine zi_aload_n dJ10_copyOfRange_17 rfl zrf_r ?_
  exact kk
theorem sJ10_copyOfRange_24 {g : ZG} {Q : ZQ} {d cN sN : Nat} {M : ZM} {t0 : Nat} {o0 o1 o2 : Option Value}  (kk : Q.1 (some (.ref t0)) M) : Z g kJ10_copyOfRange Q d cN sN M 24 [o0, o1, o2] [.ref t0] := by
  exact zi_areturn dJ10_copyOfRange_24 zrf_r rfl (Or.inr ⟨_, rfl⟩) kk
abbrev kJ10_copyOfRangeByte : ZK := (RJ10, cJ10_copyOfRangeByte, 5, (Option.some (Jvm.ClassFile.FieldType.array Jvm.ClassFile.FieldType.byte)), [], false, fJ10)
abbrev tJ10_copyOfRangeByte (g : ZG) (args : List Value) (M : ZM) (d c s : Nat) (Q : ZQ) : Prop := Ct g yJ10_copyOfRangeByte (ws_ yJ10_copyOfRangeByte cJ10_copyOfRangeByte 5 (Option.some (Jvm.ClassFile.FieldType.array Jvm.ClassFile.FieldType.byte))) args M d c s Q
abbrev nJ10_copyOfRangeByte : Nat := 17
theorem mJ10_copyOfRangeByte : zMok yJ10_copyOfRangeByte 3 5 := ⟨⟨by decide +kernel, by decide +kernel, by decide +kernel⟩, by decide⟩
theorem eJ10_copyOfRangeByte {g : ZG} {Q : ZQ} {d cN sN : Nat} {M : ZM} {v1 : Value} (hv1 : v1.category = 1) {x2 : Int32} {x3 : Int32} (hV : zV g) (h : Z g kJ10_copyOfRangeByte Q d cN sN M 0 [some (v1), some (.int x2), some (.int x3), none, none] []) : tJ10_copyOfRangeByte g [v1, .int x2, .int x3] M d cN sN Q := Ct.of (K := kJ10_copyOfRangeByte) rfl (by decide +kernel) hV fokJ10 rfl (fun h => by cases h) (fun v hv => by simp only [List.mem_cons, List.not_mem_nil, or_false] at hv; rcases hv with rfl | rfl | rfl <;> first | rfl | assumption) (Nat.le_of_ble_eq_true rfl) h
theorem sJ10_copyOfRangeByte_0 {g : ZG} {Q : ZQ} {d cN sN : Nat} {M : ZM} {l1 : Int32} {l2 : Int32} {o0 o3 o4 : Option Value}  (kk : Z g kJ10_copyOfRangeByte Q d cN sN M 2 [o0, some (.int l1), some (.int l2), o3, o4] [.int l2, .int l1]) : Z g kJ10_copyOfRangeByte Q d cN sN M 0 [o0, some (.int l1), some (.int l2), o3, o4] [] := by
  refine zi_iload_n dJ10_copyOfRangeByte_0 rfl ?_
  refine zi_iload_n dJ10_copyOfRangeByte_1 rfl ?_
  exact kk
theorem sJ10_copyOfRangeByte_5 {g : ZG} {Q : ZQ} {d cN sN : Nat} {M : ZM} {l2 : Int32} {l1 : Int32} {o0 o3 o4 : Option Value}  (kk : Z g kJ10_copyOfRangeByte Q d cN sN M 10 [o0, some (.int l1), some (.int l2), some (.int (l2 - l1)), o4] [.int (l2 - l1)]) : Z g kJ10_copyOfRangeByte Q d cN sN M 5 [o0, some (.int l1), some (.int l2), o3, o4] [] := by
  refine zi_iload_n dJ10_copyOfRangeByte_5 rfl ?_
  refine zi_iload_n dJ10_copyOfRangeByte_6 rfl ?_
  refine zi_isub dJ10_copyOfRangeByte_7 ?_
  refine zi_istore_n dJ10_copyOfRangeByte_8 (Nat.le_of_ble_eq_true rfl) ?_
  refine zi_iload_n dJ10_copyOfRangeByte_9 rfl ?_
  exact kk
theorem sJ10_copyOfRangeByte_12 {g : ZG} {Q : ZQ} {d cN sN : Nat} {M : ZM} {t0 : Nat} {l0 : Nat} {l1 : Int32} {u1 : vp_A} {c2 : ClassId} {k3 : Nat} {ty4 : FieldType} {l3 : Int32} {o2 o4 : Option Value} (h5 : M.1 l0 = some (.inl (c2, u1))) (h6 : (ztys g)[k3]? = some (c2, ty4)) (kk : Z g kJ10_copyOfRangeByte Q d cN sN M 24 [some (.ref l0), some (.int l1), o2, some (.int l3), some (.ref t0)] [.int l3, .int ((Int32.ofNat u1.1) - l1), .int 0, .ref t0, .int l1, .ref l0]) : Z g kJ10_copyOfRangeByte Q d cN sN M 12 [some (.ref l0), some (.int l1), o2, some (.int l3), o4] [.ref t0] := by
  refine zi_astore dJ10_copyOfRangeByte_12 zrf_r (Nat.le_of_ble_eq_true rfl) ?_
  refine zi_aload_n dJ10_copyOfRangeByte_14 rfl zrf_r ?_
  refine zi_iload_n dJ10_copyOfRangeByte_15 rfl ?_
  refine zi_aload dJ10_copyOfRangeByte_16 rfl zrf_r ?_
  refine zi_iconst dJ10_copyOfRangeByte_18 (by decide +kernel : Int32.ofInt (0) = (0 : Int32)) ?_
  refine zi_aload_n dJ10_copyOfRangeByte_19 rfl zrf_r ?_
  refine zi_arraylength dJ10_copyOfRangeByte_20 h5 h6 ?_
  refine zi_iload_n dJ10_copyOfRangeByte_21 rfl ?_
  refine zi_isub dJ10_copyOfRangeByte_22 ?_
  refine zi_iload_n dJ10_copyOfRangeByte_23 rfl ?_
  exact kk
theorem sJ10_copyOfRangeByte_30 {g : ZG} {Q : ZQ} {d cN sN : Nat} {M : ZM} {l4 : Nat} {o0 o1 o2 o3 : Option Value}  (kk : Q.1 (some (.ref l4)) M) : Z g kJ10_copyOfRangeByte Q d cN sN M 30 [o0, o1, o2, o3, some (.ref l4)] [] := by
  refine zi_aload dJ10_copyOfRangeByte_30 rfl zrf_r ?_
  exact zi_areturn dJ10_copyOfRangeByte_32 zrf_r rfl (Or.inr ⟨_, rfl⟩) kk
abbrev kJ10_checkLength : ZK := (RJ10, cJ10_checkLength, 2, (Option.none : Option Jvm.ClassFile.FieldType), [], false, fJ10)
abbrev tJ10_checkLength (g : ZG) (args : List Value) (M : ZM) (d c s : Nat) (Q : ZQ) : Prop := Ct g yJ10_checkLength (ws_ yJ10_checkLength cJ10_checkLength 2 (Option.none : Option Jvm.ClassFile.FieldType)) args M d c s Q
abbrev nJ10_checkLength : Nat := 16
theorem mJ10_checkLength : zMok yJ10_checkLength 2 2 := ⟨⟨by decide +kernel, by decide +kernel, by decide +kernel⟩, by decide⟩
theorem eJ10_checkLength {g : ZG} {Q : ZQ} {d cN sN : Nat} {M : ZM} {x1 : Int32} {x2 : Int32} (hV : zV g) (h : Z g kJ10_checkLength Q d cN sN M 0 [some (.int x1), some (.int x2)] []) : tJ10_checkLength g [.int x1, .int x2] M d cN sN Q := Ct.of (K := kJ10_checkLength) rfl (by decide +kernel) hV fokJ10 rfl (fun h => by cases h) (fun v hv => by simp only [List.mem_cons, List.not_mem_nil, or_false] at hv; rcases hv with rfl | rfl <;> first | rfl | assumption) (Nat.le_of_ble_eq_true rfl) h
theorem sJ10_checkLength_0 {g : ZG} {Q : ZQ} {d cN sN : Nat} {M : ZM} {l1 : Int32} {l0 : Int32}  (kt : (l0 : Int32) ≤ (l1 : Int32) → Z g kJ10_checkLength Q d cN sN M 37 [some (.int l0), some (.int l1)] []) (kf : ¬ (l0 : Int32) ≤ (l1 : Int32) → Z g kJ10_checkLength Q d cN sN M 5 [some (.int l0), some (.int l1)] []) : Z g kJ10_checkLength Q d cN sN M 0 [some (.int l0), some (.int l1)] [] := by
  refine zi_iload_n dJ10_checkLength_0 rfl ?_
  refine zi_iload_n dJ10_checkLength_1 rfl ?_
  exact zi_icmp_ge (tgt := 37) dJ10_checkLength_2 (by decide +kernel) kt kf
theorem sJ10_checkLength_8 {g : ZG} {Q : ZQ} {d cN sN : Nat} {M : ZM} {t0 : Nat} {o0 o1 : Option Value}  (kk : Z g kJ10_checkLength Q d cN sN M 9 [o0, o1] [.ref t0, .ref t0]) : Z g kJ10_checkLength Q d cN sN M 8 [o0, o1] [.ref t0] := by
  refine zi_dup dJ10_checkLength_8 rfl ?_
  exact kk
theorem sJ10_checkLength_12 {g : ZG} {Q : ZQ} {d cN sN : Nat} {M : ZM} {t0 : Nat} {t1 : Nat} {t2 : Nat} {o0 o1 : Option Value}  (kk : Z g kJ10_checkLength Q d cN sN M 13 [o0, o1] [.ref t2, .ref t2, .ref t1, .ref t0]) : Z g kJ10_checkLength Q d cN sN M 12 [o0, o1] [.ref t2, .ref t1, .ref t0] := by
  refine zi_dup dJ10_checkLength_12 rfl ?_
  exact kk
theorem sJ10_checkLength_16 {g : ZG} {Q : ZQ} {d cN sN : Nat} {M : ZM} {t0 : Nat} {t1 : Nat} {t2 : Nat} {l0 : Int32} {o1 : Option Value}  (kk : Z g kJ10_checkLength Q d cN sN M 17 [some (.int l0), o1] [.int l0, .ref t2, .ref t1, .ref t0]) : Z g kJ10_checkLength Q d cN sN M 16 [some (.int l0), o1] [.ref t2, .ref t1, .ref t0] := by
  refine zi_iload_n dJ10_checkLength_16 rfl ?_
  exact kk
theorem sJ10_checkLength_37 {g : ZG} {Q : ZQ} {d cN sN : Nat} {M : ZM} {o0 o1 : Option Value}  (kk : Q.1 none M) : Z g kJ10_checkLength Q d cN sN M 37 [o0, o1] [] := by
  exact zi_return dJ10_checkLength_37 rfl kk
abbrev kJ10_fill : ZK := (RJ10, cJ10_fill, 5, (Option.none : Option Jvm.ClassFile.FieldType), [], false, fJ10)
abbrev tJ10_fill (g : ZG) (args : List Value) (M : ZM) (d c s : Nat) (Q : ZQ) : Prop := Ct g yJ10_fill (ws_ yJ10_fill cJ10_fill 5 (Option.none : Option Jvm.ClassFile.FieldType)) args M d c s Q
abbrev nJ10_fill : Nat := 18
theorem mJ10_fill : zMok yJ10_fill 4 5 := ⟨⟨by decide +kernel, by decide +kernel, by decide +kernel⟩, by decide⟩
theorem eJ10_fill {g : ZG} {Q : ZQ} {d cN sN : Nat} {M : ZM} {v1 : Value} (hv1 : v1.category = 1) {x2 : Int32} {x3 : Int32} {x4 : Int32} (hV : zV g) (h : Z g kJ10_fill Q d cN sN M 0 [some (v1), some (.int x2), some (.int x3), some (.int x4), none] []) : tJ10_fill g [v1, .int x2, .int x3, .int x4] M d cN sN Q := Ct.of (K := kJ10_fill) rfl (by decide +kernel) hV fokJ10 rfl (fun h => by cases h) (fun v hv => by simp only [List.mem_cons, List.not_mem_nil, or_false] at hv; rcases hv with rfl | rfl | rfl | rfl <;> first | rfl | assumption) (Nat.le_of_ble_eq_true rfl) h
theorem sJ10_fill_0 {g : ZG} {Q : ZQ} {d cN sN : Nat} {M : ZM} {l0 : Nat} {u1 : vp_A} {c2 : ClassId} {k3 : Nat} {ty4 : FieldType} {l1 : Int32} {l2 : Int32} {o3 o4 : Option Value} (h5 : M.1 l0 = some (.inl (c2, u1))) (h6 : (ztys g)[k3]? = some (c2, ty4)) (kk : Z g kJ10_fill Q d cN sN M 4 [some (.ref l0), some (.int l1), some (.int l2), o3, o4] [.int l2, .int l1, .int (Int32.ofNat u1.1)]) : Z g kJ10_fill Q d cN sN M 0 [some (.ref l0), some (.int l1), some (.int l2), o3, o4] [] := by
  refine zi_aload_n dJ10_fill_0 rfl zrf_r ?_
  refine zi_arraylength dJ10_fill_1 h5 h6 ?_
  refine zi_iload_n dJ10_fill_2 rfl ?_
  refine zi_iload_n dJ10_fill_3 rfl ?_
  exact kk
theorem sJ10_fill_7 {g : ZG} {Q : ZQ} {d cN sN : Nat} {M : ZM} {l1 : Int32} {o0 o2 o3 o4 : Option Value}  (kk : Z g kJ10_fill Q d cN sN M 10 [o0, some (.int l1), o2, o3, some (.int l1)] []) : Z g kJ10_fill Q d cN sN M 7 [o0, some (.int l1), o2, o3, o4] [] := by
  refine zi_iload_n dJ10_fill_7 rfl ?_
  refine zi_istore dJ10_fill_8 (Nat.le_of_ble_eq_true rfl) ?_
  exact kk
theorem sJ10_fill_10 {g : ZG} {Q : ZQ} {d cN sN : Nat} {M : ZM} {l4 : Int32} {l2 : Int32} {o0 o1 o3 : Option Value}  (kt : (l2 : Int32) ≤ (l4 : Int32) → Z g kJ10_fill Q d cN sN M 27 [o0, o1, some (.int l2), o3, some (.int l4)] []) (kf : ¬ (l2 : Int32) ≤ (l4 : Int32) → Z g kJ10_fill Q d cN sN M 16 [o0, o1, some (.int l2), o3, some (.int l4)] []) : Z g kJ10_fill Q d cN sN M 10 [o0, o1, some (.int l2), o3, some (.int l4)] [] := by
  refine zi_iload dJ10_fill_10 rfl ?_
  refine zi_iload_n dJ10_fill_12 rfl ?_
  exact zi_icmp_ge (tgt := 27) dJ10_fill_13 (by decide +kernel) kt kf
theorem sJ10_fill_16 {g : ZG} {Q : ZQ} {d cN sN : Nat} {M : ZM} {l0 : Nat} {l4 : Int32} {l3 : Int32} {n1 : Nat} {f2 : Nat → Int32} {o1 o2 : Option Value} (h3 : M.1 l0 = some (.inl (zA g 4, n1, .inl (f2)))) (h4 : vp_in (l4) n1) (kk : Z g kJ10_fill Q d cN sN (zup M l0 (.inl (zA g 4, n1, .inl (upd f2 ((l4 : Int32).toNatClampNeg) (vp_nar .byte (l3)))))) 10 [some (.ref l0), o1, o2, some (.int l3), some (.int (l4 + 1))] []) : Z g kJ10_fill Q d cN sN M 16 [some (.ref l0), o1, o2, some (.int l3), some (.int l4)] [] := by
  refine zi_aload_n dJ10_fill_16 rfl zrf_r ?_
  refine zi_iload dJ10_fill_17 rfl ?_
  refine zi_iload_n dJ10_fill_19 rfl ?_
  refine zi_bastore dJ10_fill_20 h3 h4 ?_
  refine zi_iinc dJ10_fill_21 rfl (by decide +kernel : Int32.ofInt (1) = 1) (Nat.le_of_ble_eq_true rfl) ?_
  exact zi_goto (tgt := 10) dJ10_fill_24 (by decide +kernel) kk
theorem sJ10_fill_27 {g : ZG} {Q : ZQ} {d cN sN : Nat} {M : ZM} {o0 o1 o2 o3 o4 : Option Value}  (kk : Q.1 none M) : Z g kJ10_fill Q d cN sN M 27 [o0, o1, o2, o3, o4] [] := by
  exact zi_return dJ10_fill_27 rfl kk
abbrev kJ10_rangeCheck : ZK := (RJ10, cJ10_rangeCheck, 3, (Option.none : Option Jvm.ClassFile.FieldType), [], false, fJ10)
abbrev tJ10_rangeCheck (g : ZG) (args : List Value) (M : ZM) (d c s : Nat) (Q : ZQ) : Prop := Ct g yJ10_rangeCheck (ws_ yJ10_rangeCheck cJ10_rangeCheck 3 (Option.none : Option Jvm.ClassFile.FieldType)) args M d c s Q
abbrev nJ10_rangeCheck : Nat := 17
theorem mJ10_rangeCheck : zMok yJ10_rangeCheck 3 3 := ⟨⟨by decide +kernel, by decide +kernel, by decide +kernel⟩, by decide⟩
theorem eJ10_rangeCheck {g : ZG} {Q : ZQ} {d cN sN : Nat} {M : ZM} {x1 : Int32} {x2 : Int32} {x3 : Int32} (hV : zV g) (h : Z g kJ10_rangeCheck Q d cN sN M 0 [some (.int x1), some (.int x2), some (.int x3)] []) : tJ10_rangeCheck g [.int x1, .int x2, .int x3] M d cN sN Q := Ct.of (K := kJ10_rangeCheck) rfl (by decide +kernel) hV fokJ10 rfl (fun h => by cases h) (fun v hv => by simp only [List.mem_cons, List.not_mem_nil, or_false] at hv; rcases hv with rfl | rfl | rfl <;> first | rfl | assumption) (Nat.le_of_ble_eq_true rfl) h
theorem sJ10_rangeCheck_0 {g : ZG} {Q : ZQ} {d cN sN : Nat} {M : ZM} {l1 : Int32} {l2 : Int32} {o0 : Option Value}  (kt : (l1 : Int32) ≤ (l2 : Int32) → Z g kJ10_rangeCheck Q d cN sN M 46 [o0, some (.int l1), some (.int l2)] []) (kf : ¬ (l1 : Int32) ≤ (l2 : Int32) → Z g kJ10_rangeCheck Q d cN sN M 5 [o0, some (.int l1), some (.int l2)] []) : Z g kJ10_rangeCheck Q d cN sN M 0 [o0, some (.int l1), some (.int l2)] [] := by
  refine zi_iload_n dJ10_rangeCheck_0 rfl ?_
  refine zi_iload_n dJ10_rangeCheck_1 rfl ?_
  exact zi_icmp_le (tgt := 46) dJ10_rangeCheck_2 (by decide +kernel) kt kf
theorem sJ10_rangeCheck_8 {g : ZG} {Q : ZQ} {d cN sN : Nat} {M : ZM} {t0 : Nat} {o0 o1 o2 : Option Value}  (kk : Z g kJ10_rangeCheck Q d cN sN M 9 [o0, o1, o2] [.ref t0, .ref t0]) : Z g kJ10_rangeCheck Q d cN sN M 8 [o0, o1, o2] [.ref t0] := by
  refine zi_dup dJ10_rangeCheck_8 rfl ?_
  exact kk
theorem sJ10_rangeCheck_12 {g : ZG} {Q : ZQ} {d cN sN : Nat} {M : ZM} {t0 : Nat} {t1 : Nat} {t2 : Nat} {o0 o1 o2 : Option Value}  (kk : Z g kJ10_rangeCheck Q d cN sN M 13 [o0, o1, o2] [.ref t2, .ref t2, .ref t1, .ref t0]) : Z g kJ10_rangeCheck Q d cN sN M 12 [o0, o1, o2] [.ref t2, .ref t1, .ref t0] := by
  refine zi_dup dJ10_rangeCheck_12 rfl ?_
  exact kk
theorem sJ10_rangeCheck_21 {g : ZG} {Q : ZQ} {d cN sN : Nat} {M : ZM} {t0 : Nat} {t1 : Nat} {t2 : Nat} {l1 : Int32} {o0 o2 : Option Value}  (kk : Z g kJ10_rangeCheck Q d cN sN M 22 [o0, some (.int l1), o2] [.int l1, .ref t2, .ref t1, .ref t0]) : Z g kJ10_rangeCheck Q d cN sN M 21 [o0, some (.int l1), o2] [.ref t2, .ref t1, .ref t0] := by
  refine zi_iload_n dJ10_rangeCheck_21 rfl ?_
  exact kk
theorem sJ10_rangeCheck_30 {g : ZG} {Q : ZQ} {d cN sN : Nat} {M : ZM} {t0 : Nat} {t1 : Nat} {t2 : Nat} {l2 : Int32} {o0 o1 : Option Value}  (kk : Z g kJ10_rangeCheck Q d cN sN M 31 [o0, o1, some (.int l2)] [.int l2, .ref t2, .ref t1, .ref t0]) : Z g kJ10_rangeCheck Q d cN sN M 30 [o0, o1, some (.int l2)] [.ref t2, .ref t1, .ref t0] := by
  refine zi_iload_n dJ10_rangeCheck_30 rfl ?_
  exact kk
theorem sJ10_rangeCheck_46 {g : ZG} {Q : ZQ} {d cN sN : Nat} {M : ZM} {l1 : Int32} {o0 o2 : Option Value}  (kt : 0 ≤ (l1 : Int32) → Z g kJ10_rangeCheck Q d cN sN M 59 [o0, some (.int l1), o2] []) (kf : ¬ 0 ≤ (l1 : Int32) → Z g kJ10_rangeCheck Q d cN sN M 50 [o0, some (.int l1), o2] []) : Z g kJ10_rangeCheck Q d cN sN M 46 [o0, some (.int l1), o2] [] := by
  refine zi_iload_n dJ10_rangeCheck_46 rfl ?_
  exact zi_if_ge (tgt := 59) dJ10_rangeCheck_47 (by decide +kernel) kt kf
theorem sJ10_rangeCheck_53 {g : ZG} {Q : ZQ} {d cN sN : Nat} {M : ZM} {t0 : Nat} {l1 : Int32} {o0 o2 : Option Value}  (kk : Z g kJ10_rangeCheck Q d cN sN M 55 [o0, some (.int l1), o2] [.int l1, .ref t0, .ref t0]) : Z g kJ10_rangeCheck Q d cN sN M 53 [o0, some (.int l1), o2] [.ref t0] := by
  refine zi_dup dJ10_rangeCheck_53 rfl ?_
  refine zi_iload_n dJ10_rangeCheck_54 rfl ?_
  exact kk
theorem sJ10_rangeCheck_59 {g : ZG} {Q : ZQ} {d cN sN : Nat} {M : ZM} {l2 : Int32} {l0 : Int32} {o1 : Option Value}  (kt : (l2 : Int32) ≤ (l0 : Int32) → Z g kJ10_rangeCheck Q d cN sN M 73 [some (.int l0), o1, some (.int l2)] []) (kf : ¬ (l2 : Int32) ≤ (l0 : Int32) → Z g kJ10_rangeCheck Q d cN sN M 64 [some (.int l0), o1, some (.int l2)] []) : Z g kJ10_rangeCheck Q d cN sN M 59 [some (.int l0), o1, some (.int l2)] [] := by
  refine zi_iload_n dJ10_rangeCheck_59 rfl ?_
  refine zi_iload_n dJ10_rangeCheck_60 rfl ?_
  exact zi_icmp_le (tgt := 73) dJ10_rangeCheck_61 (by decide +kernel) kt kf
theorem sJ10_rangeCheck_67 {g : ZG} {Q : ZQ} {d cN sN : Nat} {M : ZM} {t0 : Nat} {l2 : Int32} {o0 o1 : Option Value}  (kk : Z g kJ10_rangeCheck Q d cN sN M 69 [o0, o1, some (.int l2)] [.int l2, .ref t0, .ref t0]) : Z g kJ10_rangeCheck Q d cN sN M 67 [o0, o1, some (.int l2)] [.ref t0] := by
  refine zi_dup dJ10_rangeCheck_67 rfl ?_
  refine zi_iload_n dJ10_rangeCheck_68 rfl ?_
  exact kk
theorem sJ10_rangeCheck_73 {g : ZG} {Q : ZQ} {d cN sN : Nat} {M : ZM} {o0 o1 o2 : Option Value}  (kk : Q.1 none M) : Z g kJ10_rangeCheck Q d cN sN M 73 [o0, o1, o2] [] := by
  exact zi_return dJ10_rangeCheck_73 rfl kk
/-! java/lang/Math (printed by gen_m.py) -/
set_option maxRecDepth 100000
abbrev cJ11_min : ByteArray := prog_27_method_69_code
def yJ11_min : MethodName := ⟨RJ11, "min", "(II)I"⟩
def dkwJ11_min_0 : List UInt8 := [26, 27, 163, 0, 7, 26, 167, 0, 4, 27, 172]
abbrev dktJ11_min_0 : List UInt8 := dkwJ11_min_0 ++ []
theorem dksJ11_min_0 : cJ11_min.data.toList.drop 0 = dktJ11_min_0 := by decide +kernel
theorem dJ11_min_0 : decode cJ11_min 0 = .ok (.iload_n 0, 1) := dk_26 (dk_at dksJ11_min_0 0 rfl rfl)
theorem dJ11_min_1 : decode cJ11_min 1 = .ok (.iload_n 1, 1) := dk_27 (dk_at dksJ11_min_0 1 rfl rfl)
theorem dJ11_min_2 : decode cJ11_min 2 = .ok (.if_icmp .gt 7, 3) := dk_163 0 7 (dk_at dksJ11_min_0 2 rfl rfl)
theorem dJ11_min_5 : decode cJ11_min 5 = .ok (.iload_n 0, 1) := dk_26 (dk_at dksJ11_min_0 5 rfl rfl)
theorem dJ11_min_6 : decode cJ11_min 6 = .ok (.goto 4, 3) := dk_167 0 4 (dk_at dksJ11_min_0 6 rfl rfl)
theorem dJ11_min_9 : decode cJ11_min 9 = .ok (.iload_n 1, 1) := dk_27 (dk_at dksJ11_min_0 9 rfl rfl)
theorem dJ11_min_10 : decode cJ11_min 10 = .ok (.ireturn, 1) := dk_172 (dk_at dksJ11_min_0 10 rfl rfl)
abbrev cJ11_max : ByteArray := prog_27_method_65_code
def yJ11_max : MethodName := ⟨RJ11, "max", "(II)I"⟩
def dkwJ11_max_0 : List UInt8 := [26, 27, 161, 0, 7, 26, 167, 0, 4, 27, 172]
abbrev dktJ11_max_0 : List UInt8 := dkwJ11_max_0 ++ []
theorem dksJ11_max_0 : cJ11_max.data.toList.drop 0 = dktJ11_max_0 := by decide +kernel
theorem dJ11_max_0 : decode cJ11_max 0 = .ok (.iload_n 0, 1) := dk_26 (dk_at dksJ11_max_0 0 rfl rfl)
theorem dJ11_max_1 : decode cJ11_max 1 = .ok (.iload_n 1, 1) := dk_27 (dk_at dksJ11_max_0 1 rfl rfl)
theorem dJ11_max_2 : decode cJ11_max 2 = .ok (.if_icmp .lt 7, 3) := dk_161 0 7 (dk_at dksJ11_max_0 2 rfl rfl)
theorem dJ11_max_5 : decode cJ11_max 5 = .ok (.iload_n 0, 1) := dk_26 (dk_at dksJ11_max_0 5 rfl rfl)
theorem dJ11_max_6 : decode cJ11_max 6 = .ok (.goto 4, 3) := dk_167 0 4 (dk_at dksJ11_max_0 6 rfl rfl)
theorem dJ11_max_9 : decode cJ11_max 9 = .ok (.iload_n 1, 1) := dk_27 (dk_at dksJ11_max_0 9 rfl rfl)
theorem dJ11_max_10 : decode cJ11_max 10 = .ok (.ireturn, 1) := dk_172 (dk_at dksJ11_max_0 10 rfl rfl)
abbrev cJ11_abs : ByteArray := prog_27_method_59_code
def yJ11_abs : MethodName := ⟨RJ11, "abs", "(I)I"⟩
def dkwJ11_abs_0 : List UInt8 := [26, 156, 0, 8, 26, 116, 167, 0, 4, 26, 172]
abbrev dktJ11_abs_0 : List UInt8 := dkwJ11_abs_0 ++ []
theorem dksJ11_abs_0 : cJ11_abs.data.toList.drop 0 = dktJ11_abs_0 := by decide +kernel
theorem dJ11_abs_0 : decode cJ11_abs 0 = .ok (.iload_n 0, 1) := dk_26 (dk_at dksJ11_abs_0 0 rfl rfl)
theorem dJ11_abs_1 : decode cJ11_abs 1 = .ok (.ifCond .ge 8, 3) := dk_156 0 8 (dk_at dksJ11_abs_0 1 rfl rfl)
theorem dJ11_abs_4 : decode cJ11_abs 4 = .ok (.iload_n 0, 1) := dk_26 (dk_at dksJ11_abs_0 4 rfl rfl)
theorem dJ11_abs_5 : decode cJ11_abs 5 = .ok (.ineg, 1) := dk_116 (dk_at dksJ11_abs_0 5 rfl rfl)
theorem dJ11_abs_6 : decode cJ11_abs 6 = .ok (.goto 4, 3) := dk_167 0 4 (dk_at dksJ11_abs_0 6 rfl rfl)
theorem dJ11_abs_9 : decode cJ11_abs 9 = .ok (.iload_n 0, 1) := dk_26 (dk_at dksJ11_abs_0 9 rfl rfl)
theorem dJ11_abs_10 : decode cJ11_abs 10 = .ok (.ireturn, 1) := dk_172 (dk_at dksJ11_abs_0 10 rfl rfl)
def fJ11 : List ZE := []
theorem fokJ11 : zFok RJ11 fJ11 := fun _ h => by cases h
abbrev kJ11_min : ZK := (RJ11, cJ11_min, 2, (Option.some Jvm.ClassFile.FieldType.int), [], false, fJ11)
abbrev tJ11_min (g : ZG) (args : List Value) (M : ZM) (d c s : Nat) (Q : ZQ) : Prop := Ct g yJ11_min (ws_ yJ11_min cJ11_min 2 (Option.some Jvm.ClassFile.FieldType.int)) args M d c s Q
abbrev nJ11_min : Nat := 1
theorem mJ11_min : zMok yJ11_min 2 2 := ⟨⟨by decide +kernel, by decide +kernel, by decide +kernel⟩, by decide⟩
abbrev kJ11_max : ZK := (RJ11, cJ11_max, 2, (Option.some Jvm.ClassFile.FieldType.int), [], false, fJ11)
abbrev tJ11_max (g : ZG) (args : List Value) (M : ZM) (d c s : Nat) (Q : ZQ) : Prop := Ct g yJ11_max (ws_ yJ11_max cJ11_max 2 (Option.some Jvm.ClassFile.FieldType.int)) args M d c s Q
abbrev nJ11_max : Nat := 1
theorem mJ11_max : zMok yJ11_max 2 2 := ⟨⟨by decide +kernel, by decide +kernel, by decide +kernel⟩, by decide⟩
abbrev kJ11_abs : ZK := (RJ11, cJ11_abs, 1, (Option.some Jvm.ClassFile.FieldType.int), [], false, fJ11)
abbrev tJ11_abs (g : ZG) (args : List Value) (M : ZM) (d c s : Nat) (Q : ZQ) : Prop := Ct g yJ11_abs (ws_ yJ11_abs cJ11_abs 1 (Option.some Jvm.ClassFile.FieldType.int)) args M d c s Q
abbrev nJ11_abs : Nat := 1
theorem mJ11_abs : zMok yJ11_abs 1 1 := ⟨⟨by decide +kernel, by decide +kernel, by decide +kernel⟩, by decide⟩
/-! java/lang/Integer (printed by gen_m.py) -/
set_option maxRecDepth 100000
abbrev cJ16_bitCount : ByteArray := prog_25_method_49_code
def yJ16_bitCount : MethodName := ⟨RJ16, "bitCount", "(I)I"⟩
def dkwJ16_bitCount_2 : List UInt8 := [26, 16, 63, 126, 172]
abbrev dktJ16_bitCount_2 : List UInt8 := dkwJ16_bitCount_2 ++ []
def dkwJ16_bitCount_1 : List UInt8 := [26, 26, 7, 124, 96, 19, 1, 11, 126, 59, 26, 26, 16, 8, 124, 96, 59, 26, 26, 16, 16, 124, 96, 59]
abbrev dktJ16_bitCount_1 : List UInt8 := dkwJ16_bitCount_1 ++ dktJ16_bitCount_2
def dkwJ16_bitCount_0 : List UInt8 := [26, 26, 4, 124, 19, 1, 9, 126, 100, 59, 26, 19, 1, 10, 126, 26, 5, 124, 19, 1, 10, 126, 96, 59]
abbrev dktJ16_bitCount_0 : List UInt8 := dkwJ16_bitCount_0 ++ dktJ16_bitCount_1
theorem dksJ16_bitCount_0 : cJ16_bitCount.data.toList.drop 0 = dktJ16_bitCount_0 := by decide +kernel
theorem dksJ16_bitCount_1 : cJ16_bitCount.data.toList.drop 24 = dktJ16_bitCount_1 := dk_seg dksJ16_bitCount_0 24 rfl rfl
theorem dksJ16_bitCount_2 : cJ16_bitCount.data.toList.drop 48 = dktJ16_bitCount_2 := dk_seg dksJ16_bitCount_1 24 rfl rfl
theorem dJ16_bitCount_0 : decode cJ16_bitCount 0 = .ok (.iload_n 0, 1) := dk_26 (dk_at dksJ16_bitCount_0 0 rfl rfl)
theorem dJ16_bitCount_1 : decode cJ16_bitCount 1 = .ok (.iload_n 0, 1) := dk_26 (dk_at dksJ16_bitCount_0 1 rfl rfl)
theorem dJ16_bitCount_2 : decode cJ16_bitCount 2 = .ok (.iconst 1, 1) := dk_4 (dk_at dksJ16_bitCount_0 2 rfl rfl)
theorem dJ16_bitCount_3 : decode cJ16_bitCount 3 = .ok (.iushr, 1) := dk_124 (dk_at dksJ16_bitCount_0 3 rfl rfl)
theorem dJ16_bitCount_4 : decode cJ16_bitCount 4 = .ok (.ldc_w 265, 3) := dk_19 1 9 (dk_at dksJ16_bitCount_0 4 rfl rfl)
theorem dJ16_bitCount_7 : decode cJ16_bitCount 7 = .ok (.iand, 1) := dk_126 (dk_at dksJ16_bitCount_0 7 rfl rfl)
theorem dJ16_bitCount_8 : decode cJ16_bitCount 8 = .ok (.isub, 1) := dk_100 (dk_at dksJ16_bitCount_0 8 rfl rfl)
theorem dJ16_bitCount_9 : decode cJ16_bitCount 9 = .ok (.istore_n 0, 1) := dk_59 (dk_at dksJ16_bitCount_0 9 rfl rfl)
theorem dJ16_bitCount_10 : decode cJ16_bitCount 10 = .ok (.iload_n 0, 1) := dk_26 (dk_at dksJ16_bitCount_0 10 rfl rfl)
theorem dJ16_bitCount_11 : decode cJ16_bitCount 11 = .ok (.ldc_w 266, 3) := dk_19 1 10 (dk_at dksJ16_bitCount_0 11 rfl rfl)
theorem dJ16_bitCount_14 : decode cJ16_bitCount 14 = .ok (.iand, 1) := dk_126 (dk_at dksJ16_bitCount_0 14 rfl rfl)
theorem dJ16_bitCount_15 : decode cJ16_bitCount 15 = .ok (.iload_n 0, 1) := dk_26 (dk_at dksJ16_bitCount_0 15 rfl rfl)
theorem dJ16_bitCount_16 : decode cJ16_bitCount 16 = .ok (.iconst 2, 1) := dk_5 (dk_at dksJ16_bitCount_0 16 rfl rfl)
theorem dJ16_bitCount_17 : decode cJ16_bitCount 17 = .ok (.iushr, 1) := dk_124 (dk_at dksJ16_bitCount_0 17 rfl rfl)
theorem dJ16_bitCount_18 : decode cJ16_bitCount 18 = .ok (.ldc_w 266, 3) := dk_19 1 10 (dk_at dksJ16_bitCount_0 18 rfl rfl)
theorem dJ16_bitCount_21 : decode cJ16_bitCount 21 = .ok (.iand, 1) := dk_126 (dk_at dksJ16_bitCount_0 21 rfl rfl)
theorem dJ16_bitCount_22 : decode cJ16_bitCount 22 = .ok (.iadd, 1) := dk_96 (dk_at dksJ16_bitCount_0 22 rfl rfl)
theorem dJ16_bitCount_23 : decode cJ16_bitCount 23 = .ok (.istore_n 0, 1) := dk_59 (dk_at dksJ16_bitCount_0 23 rfl rfl)
theorem dJ16_bitCount_24 : decode cJ16_bitCount 24 = .ok (.iload_n 0, 1) := dk_26 (dk_at dksJ16_bitCount_1 0 rfl rfl)
theorem dJ16_bitCount_25 : decode cJ16_bitCount 25 = .ok (.iload_n 0, 1) := dk_26 (dk_at dksJ16_bitCount_1 1 rfl rfl)
theorem dJ16_bitCount_26 : decode cJ16_bitCount 26 = .ok (.iconst 4, 1) := dk_7 (dk_at dksJ16_bitCount_1 2 rfl rfl)
theorem dJ16_bitCount_27 : decode cJ16_bitCount 27 = .ok (.iushr, 1) := dk_124 (dk_at dksJ16_bitCount_1 3 rfl rfl)
theorem dJ16_bitCount_28 : decode cJ16_bitCount 28 = .ok (.iadd, 1) := dk_96 (dk_at dksJ16_bitCount_1 4 rfl rfl)
theorem dJ16_bitCount_29 : decode cJ16_bitCount 29 = .ok (.ldc_w 267, 3) := dk_19 1 11 (dk_at dksJ16_bitCount_1 5 rfl rfl)
theorem dJ16_bitCount_32 : decode cJ16_bitCount 32 = .ok (.iand, 1) := dk_126 (dk_at dksJ16_bitCount_1 8 rfl rfl)
theorem dJ16_bitCount_33 : decode cJ16_bitCount 33 = .ok (.istore_n 0, 1) := dk_59 (dk_at dksJ16_bitCount_1 9 rfl rfl)
theorem dJ16_bitCount_34 : decode cJ16_bitCount 34 = .ok (.iload_n 0, 1) := dk_26 (dk_at dksJ16_bitCount_1 10 rfl rfl)
theorem dJ16_bitCount_35 : decode cJ16_bitCount 35 = .ok (.iload_n 0, 1) := dk_26 (dk_at dksJ16_bitCount_1 11 rfl rfl)
theorem dJ16_bitCount_36 : decode cJ16_bitCount 36 = .ok (.bipush 8, 2) := dk_16 8 (dk_at dksJ16_bitCount_1 12 rfl rfl)
theorem dJ16_bitCount_38 : decode cJ16_bitCount 38 = .ok (.iushr, 1) := dk_124 (dk_at dksJ16_bitCount_1 14 rfl rfl)
theorem dJ16_bitCount_39 : decode cJ16_bitCount 39 = .ok (.iadd, 1) := dk_96 (dk_at dksJ16_bitCount_1 15 rfl rfl)
theorem dJ16_bitCount_40 : decode cJ16_bitCount 40 = .ok (.istore_n 0, 1) := dk_59 (dk_at dksJ16_bitCount_1 16 rfl rfl)
theorem dJ16_bitCount_41 : decode cJ16_bitCount 41 = .ok (.iload_n 0, 1) := dk_26 (dk_at dksJ16_bitCount_1 17 rfl rfl)
theorem dJ16_bitCount_42 : decode cJ16_bitCount 42 = .ok (.iload_n 0, 1) := dk_26 (dk_at dksJ16_bitCount_1 18 rfl rfl)
theorem dJ16_bitCount_43 : decode cJ16_bitCount 43 = .ok (.bipush 16, 2) := dk_16 16 (dk_at dksJ16_bitCount_1 19 rfl rfl)
theorem dJ16_bitCount_45 : decode cJ16_bitCount 45 = .ok (.iushr, 1) := dk_124 (dk_at dksJ16_bitCount_1 21 rfl rfl)
theorem dJ16_bitCount_46 : decode cJ16_bitCount 46 = .ok (.iadd, 1) := dk_96 (dk_at dksJ16_bitCount_1 22 rfl rfl)
theorem dJ16_bitCount_47 : decode cJ16_bitCount 47 = .ok (.istore_n 0, 1) := dk_59 (dk_at dksJ16_bitCount_1 23 rfl rfl)
theorem dJ16_bitCount_48 : decode cJ16_bitCount 48 = .ok (.iload_n 0, 1) := dk_26 (dk_at dksJ16_bitCount_2 0 rfl rfl)
theorem dJ16_bitCount_49 : decode cJ16_bitCount 49 = .ok (.bipush 63, 2) := dk_16 63 (dk_at dksJ16_bitCount_2 1 rfl rfl)
theorem dJ16_bitCount_51 : decode cJ16_bitCount 51 = .ok (.iand, 1) := dk_126 (dk_at dksJ16_bitCount_2 3 rfl rfl)
theorem dJ16_bitCount_52 : decode cJ16_bitCount 52 = .ok (.ireturn, 1) := dk_172 (dk_at dksJ16_bitCount_2 4 rfl rfl)
abbrev cJ16_stringSize : ByteArray := prog_25_method_13_code
def yJ16_stringSize : MethodName := ⟨RJ16, "stringSize", "(I)I"⟩
def dkwJ16_stringSize_1 : List UInt8 := [164, 0, 7, 29, 27, 96, 172, 16, 10, 28, 104, 61, 132, 3, 1, 167, 255, 233, 16, 10, 27, 96, 172]
abbrev dktJ16_stringSize_1 : List UInt8 := dkwJ16_stringSize_1 ++ []
def dkwJ16_stringSize_0 : List UInt8 := [4, 60, 26, 155, 0, 8, 3, 60, 26, 116, 59, 16, 246, 61, 4, 62, 29, 16, 10, 162, 0, 23, 26, 28]
abbrev dktJ16_stringSize_0 : List UInt8 := dkwJ16_stringSize_0 ++ dktJ16_stringSize_1
theorem dksJ16_stringSize_0 : cJ16_stringSize.data.toList.drop 0 = dktJ16_stringSize_0 := by decide +kernel
theorem dksJ16_stringSize_1 : cJ16_stringSize.data.toList.drop 24 = dktJ16_stringSize_1 := dk_seg dksJ16_stringSize_0 24 rfl rfl
theorem dJ16_stringSize_0 : decode cJ16_stringSize 0 = .ok (.iconst 1, 1) := dk_4 (dk_at dksJ16_stringSize_0 0 rfl rfl)
theorem dJ16_stringSize_1 : decode cJ16_stringSize 1 = .ok (.istore_n 1, 1) := dk_60 (dk_at dksJ16_stringSize_0 1 rfl rfl)
theorem dJ16_stringSize_2 : decode cJ16_stringSize 2 = .ok (.iload_n 0, 1) := dk_26 (dk_at dksJ16_stringSize_0 2 rfl rfl)
theorem dJ16_stringSize_3 : decode cJ16_stringSize 3 = .ok (.ifCond .lt 8, 3) := dk_155 0 8 (dk_at dksJ16_stringSize_0 3 rfl rfl)
theorem dJ16_stringSize_6 : decode cJ16_stringSize 6 = .ok (.iconst 0, 1) := dk_3 (dk_at dksJ16_stringSize_0 6 rfl rfl)
theorem dJ16_stringSize_7 : decode cJ16_stringSize 7 = .ok (.istore_n 1, 1) := dk_60 (dk_at dksJ16_stringSize_0 7 rfl rfl)
theorem dJ16_stringSize_8 : decode cJ16_stringSize 8 = .ok (.iload_n 0, 1) := dk_26 (dk_at dksJ16_stringSize_0 8 rfl rfl)
theorem dJ16_stringSize_9 : decode cJ16_stringSize 9 = .ok (.ineg, 1) := dk_116 (dk_at dksJ16_stringSize_0 9 rfl rfl)
theorem dJ16_stringSize_10 : decode cJ16_stringSize 10 = .ok (.istore_n 0, 1) := dk_59 (dk_at dksJ16_stringSize_0 10 rfl rfl)
theorem dJ16_stringSize_11 : decode cJ16_stringSize 11 = .ok (.bipush (-10), 2) := dk_16 246 (dk_at dksJ16_stringSize_0 11 rfl rfl)
theorem dJ16_stringSize_13 : decode cJ16_stringSize 13 = .ok (.istore_n 2, 1) := dk_61 (dk_at dksJ16_stringSize_0 13 rfl rfl)
theorem dJ16_stringSize_14 : decode cJ16_stringSize 14 = .ok (.iconst 1, 1) := dk_4 (dk_at dksJ16_stringSize_0 14 rfl rfl)
theorem dJ16_stringSize_15 : decode cJ16_stringSize 15 = .ok (.istore_n 3, 1) := dk_62 (dk_at dksJ16_stringSize_0 15 rfl rfl)
theorem dJ16_stringSize_16 : decode cJ16_stringSize 16 = .ok (.iload_n 3, 1) := dk_29 (dk_at dksJ16_stringSize_0 16 rfl rfl)
theorem dJ16_stringSize_17 : decode cJ16_stringSize 17 = .ok (.bipush 10, 2) := dk_16 10 (dk_at dksJ16_stringSize_0 17 rfl rfl)
theorem dJ16_stringSize_19 : decode cJ16_stringSize 19 = .ok (.if_icmp .ge 23, 3) := dk_162 0 23 (dk_at dksJ16_stringSize_0 19 rfl rfl)
theorem dJ16_stringSize_22 : decode cJ16_stringSize 22 = .ok (.iload_n 0, 1) := dk_26 (dk_at dksJ16_stringSize_0 22 rfl rfl)
theorem dJ16_stringSize_23 : decode cJ16_stringSize 23 = .ok (.iload_n 2, 1) := dk_28 (dk_at dksJ16_stringSize_0 23 rfl rfl)
theorem dJ16_stringSize_24 : decode cJ16_stringSize 24 = .ok (.if_icmp .le 7, 3) := dk_164 0 7 (dk_at dksJ16_stringSize_1 0 rfl rfl)
theorem dJ16_stringSize_27 : decode cJ16_stringSize 27 = .ok (.iload_n 3, 1) := dk_29 (dk_at dksJ16_stringSize_1 3 rfl rfl)
theorem dJ16_stringSize_28 : decode cJ16_stringSize 28 = .ok (.iload_n 1, 1) := dk_27 (dk_at dksJ16_stringSize_1 4 rfl rfl)
theorem dJ16_stringSize_29 : decode cJ16_stringSize 29 = .ok (.iadd, 1) := dk_96 (dk_at dksJ16_stringSize_1 5 rfl rfl)
theorem dJ16_stringSize_30 : decode cJ16_stringSize 30 = .ok (.ireturn, 1) := dk_172 (dk_at dksJ16_stringSize_1 6 rfl rfl)
theorem dJ16_stringSize_31 : decode cJ16_stringSize 31 = .ok (.bipush 10, 2) := dk_16 10 (dk_at dksJ16_stringSize_1 7 rfl rfl)
theorem dJ16_stringSize_33 : decode cJ16_stringSize 33 = .ok (.iload_n 2, 1) := dk_28 (dk_at dksJ16_stringSize_1 9 rfl rfl)
theorem dJ16_stringSize_34 : decode cJ16_stringSize 34 = .ok (.imul, 1) := dk_104 (dk_at dksJ16_stringSize_1 10 rfl rfl)
theorem dJ16_stringSize_35 : decode cJ16_stringSize 35 = .ok (.istore_n 2, 1) := dk_61 (dk_at dksJ16_stringSize_1 11 rfl rfl)
theorem dJ16_stringSize_36 : decode cJ16_stringSize 36 = .ok (.iinc 3 1, 3) := dk_132 3 1 (dk_at dksJ16_stringSize_1 12 rfl rfl)
theorem dJ16_stringSize_39 : decode cJ16_stringSize 39 = .ok (.goto (-23), 3) := dk_167 255 233 (dk_at dksJ16_stringSize_1 15 rfl rfl)
theorem dJ16_stringSize_42 : decode cJ16_stringSize 42 = .ok (.bipush 10, 2) := dk_16 10 (dk_at dksJ16_stringSize_1 18 rfl rfl)
theorem dJ16_stringSize_44 : decode cJ16_stringSize 44 = .ok (.iload_n 1, 1) := dk_27 (dk_at dksJ16_stringSize_1 20 rfl rfl)
theorem dJ16_stringSize_45 : decode cJ16_stringSize 45 = .ok (.iadd, 1) := dk_96 (dk_at dksJ16_stringSize_1 21 rfl rfl)
theorem dJ16_stringSize_46 : decode cJ16_stringSize 46 = .ok (.ireturn, 1) := dk_172 (dk_at dksJ16_stringSize_1 22 rfl rfl)
abbrev cJ16_getChars : ByteArray := prog_25_method_12_code
def yJ16_getChars : MethodName := ⟨RJ16, "getChars", "(II[B)I"⟩
def dkwJ16_getChars_5 : List UInt8 := [16, 45, 84, 21, 5, 172]
abbrev dktJ16_getChars_5 : List UInt8 := dkwJ16_getChars_5 ++ []
def dkwJ16_getChars_4 : List UInt8 := [132, 5, 255, 21, 5, 178, 0, 87, 26, 116, 51, 84, 21, 6, 153, 0, 12, 44, 132, 5, 255, 21, 5]
abbrev dktJ16_getChars_4 : List UInt8 := dkwJ16_getChars_4 ++ dktJ16_getChars_5
def dkwJ16_getChars_3 : List UInt8 := [167, 255, 209, 44, 132, 5, 255, 21, 5, 178, 0, 83, 26, 116, 51, 84, 26, 16, 247, 162, 0, 16, 44]
abbrev dktJ16_getChars_3 : List UInt8 := dkwJ16_getChars_3 ++ dktJ16_getChars_4
def dkwJ16_getChars_2 : List UInt8 := [21, 5, 178, 0, 83, 21, 4, 51, 84, 44, 132, 5, 255, 21, 5, 178, 0, 87, 21, 4, 51, 84]
abbrev dktJ16_getChars_2 : List UInt8 := dkwJ16_getChars_2 ++ dktJ16_getChars_3
def dkwJ16_getChars_1 : List UInt8 := [16, 156, 163, 0, 47, 26, 16, 100, 108, 62, 29, 16, 100, 104, 26, 100, 54, 4, 29, 59, 44, 132, 5, 255]
abbrev dktJ16_getChars_1 : List UInt8 := dkwJ16_getChars_1 ++ dktJ16_getChars_2
def dkwJ16_getChars_0 : List UInt8 := [27, 54, 5, 26, 156, 0, 7, 4, 167, 0, 4, 3, 54, 6, 21, 6, 154, 0, 6, 26, 116, 59, 26]
abbrev dktJ16_getChars_0 : List UInt8 := dkwJ16_getChars_0 ++ dktJ16_getChars_1
theorem dksJ16_getChars_0 : cJ16_getChars.data.toList.drop 0 = dktJ16_getChars_0 := by decide +kernel
theorem dksJ16_getChars_1 : cJ16_getChars.data.toList.drop 23 = dktJ16_getChars_1 := dk_seg dksJ16_getChars_0 23 rfl rfl
theorem dksJ16_getChars_2 : cJ16_getChars.data.toList.drop 47 = dktJ16_getChars_2 := dk_seg dksJ16_getChars_1 24 rfl rfl
theorem dksJ16_getChars_3 : cJ16_getChars.data.toList.drop 69 = dktJ16_getChars_3 := dk_seg dksJ16_getChars_2 22 rfl rfl
theorem dksJ16_getChars_4 : cJ16_getChars.data.toList.drop 92 = dktJ16_getChars_4 := dk_seg dksJ16_getChars_3 23 rfl rfl
theorem dksJ16_getChars_5 : cJ16_getChars.data.toList.drop 115 = dktJ16_getChars_5 := dk_seg dksJ16_getChars_4 23 rfl rfl
theorem dJ16_getChars_0 : decode cJ16_getChars 0 = .ok (.iload_n 1, 1) := dk_27 (dk_at dksJ16_getChars_0 0 rfl rfl)
theorem dJ16_getChars_1 : decode cJ16_getChars 1 = .ok (.istore 5, 2) := dk_54 5 (dk_at dksJ16_getChars_0 1 rfl rfl)
theorem dJ16_getChars_3 : decode cJ16_getChars 3 = .ok (.iload_n 0, 1) := dk_26 (dk_at dksJ16_getChars_0 3 rfl rfl)
theorem dJ16_getChars_4 : decode cJ16_getChars 4 = .ok (.ifCond .ge 7, 3) := dk_156 0 7 (dk_at dksJ16_getChars_0 4 rfl rfl)
theorem dJ16_getChars_7 : decode cJ16_getChars 7 = .ok (.iconst 1, 1) := dk_4 (dk_at dksJ16_getChars_0 7 rfl rfl)
theorem dJ16_getChars_8 : decode cJ16_getChars 8 = .ok (.goto 4, 3) := dk_167 0 4 (dk_at dksJ16_getChars_0 8 rfl rfl)
theorem dJ16_getChars_11 : decode cJ16_getChars 11 = .ok (.iconst 0, 1) := dk_3 (dk_at dksJ16_getChars_0 11 rfl rfl)
theorem dJ16_getChars_12 : decode cJ16_getChars 12 = .ok (.istore 6, 2) := dk_54 6 (dk_at dksJ16_getChars_0 12 rfl rfl)
theorem dJ16_getChars_14 : decode cJ16_getChars 14 = .ok (.iload 6, 2) := dk_21 6 (dk_at dksJ16_getChars_0 14 rfl rfl)
theorem dJ16_getChars_16 : decode cJ16_getChars 16 = .ok (.ifCond .ne 6, 3) := dk_154 0 6 (dk_at dksJ16_getChars_0 16 rfl rfl)
theorem dJ16_getChars_19 : decode cJ16_getChars 19 = .ok (.iload_n 0, 1) := dk_26 (dk_at dksJ16_getChars_0 19 rfl rfl)
theorem dJ16_getChars_20 : decode cJ16_getChars 20 = .ok (.ineg, 1) := dk_116 (dk_at dksJ16_getChars_0 20 rfl rfl)
theorem dJ16_getChars_21 : decode cJ16_getChars 21 = .ok (.istore_n 0, 1) := dk_59 (dk_at dksJ16_getChars_0 21 rfl rfl)
theorem dJ16_getChars_22 : decode cJ16_getChars 22 = .ok (.iload_n 0, 1) := dk_26 (dk_at dksJ16_getChars_0 22 rfl rfl)
theorem dJ16_getChars_23 : decode cJ16_getChars 23 = .ok (.bipush (-100), 2) := dk_16 156 (dk_at dksJ16_getChars_1 0 rfl rfl)
theorem dJ16_getChars_25 : decode cJ16_getChars 25 = .ok (.if_icmp .gt 47, 3) := dk_163 0 47 (dk_at dksJ16_getChars_1 2 rfl rfl)
theorem dJ16_getChars_28 : decode cJ16_getChars 28 = .ok (.iload_n 0, 1) := dk_26 (dk_at dksJ16_getChars_1 5 rfl rfl)
theorem dJ16_getChars_29 : decode cJ16_getChars 29 = .ok (.bipush 100, 2) := dk_16 100 (dk_at dksJ16_getChars_1 6 rfl rfl)
theorem dJ16_getChars_31 : decode cJ16_getChars 31 = .ok (.idiv, 1) := dk_108 (dk_at dksJ16_getChars_1 8 rfl rfl)
theorem dJ16_getChars_32 : decode cJ16_getChars 32 = .ok (.istore_n 3, 1) := dk_62 (dk_at dksJ16_getChars_1 9 rfl rfl)
theorem dJ16_getChars_33 : decode cJ16_getChars 33 = .ok (.iload_n 3, 1) := dk_29 (dk_at dksJ16_getChars_1 10 rfl rfl)
theorem dJ16_getChars_34 : decode cJ16_getChars 34 = .ok (.bipush 100, 2) := dk_16 100 (dk_at dksJ16_getChars_1 11 rfl rfl)
theorem dJ16_getChars_36 : decode cJ16_getChars 36 = .ok (.imul, 1) := dk_104 (dk_at dksJ16_getChars_1 13 rfl rfl)
theorem dJ16_getChars_37 : decode cJ16_getChars 37 = .ok (.iload_n 0, 1) := dk_26 (dk_at dksJ16_getChars_1 14 rfl rfl)
theorem dJ16_getChars_38 : decode cJ16_getChars 38 = .ok (.isub, 1) := dk_100 (dk_at dksJ16_getChars_1 15 rfl rfl)
theorem dJ16_getChars_39 : decode cJ16_getChars 39 = .ok (.istore 4, 2) := dk_54 4 (dk_at dksJ16_getChars_1 16 rfl rfl)
theorem dJ16_getChars_41 : decode cJ16_getChars 41 = .ok (.iload_n 3, 1) := dk_29 (dk_at dksJ16_getChars_1 18 rfl rfl)
theorem dJ16_getChars_42 : decode cJ16_getChars 42 = .ok (.istore_n 0, 1) := dk_59 (dk_at dksJ16_getChars_1 19 rfl rfl)
theorem dJ16_getChars_43 : decode cJ16_getChars 43 = .ok (.aload_n 2, 1) := dk_44 (dk_at dksJ16_getChars_1 20 rfl rfl)
theorem dJ16_getChars_44 : decode cJ16_getChars 44 = .ok (.iinc 5 (-1), 3) := dk_132 5 255 (dk_at dksJ16_getChars_1 21 rfl rfl)
theorem dJ16_getChars_47 : decode cJ16_getChars 47 = .ok (.iload 5, 2) := dk_21 5 (dk_at dksJ16_getChars_2 0 rfl rfl)
theorem dJ16_getChars_49 : decode cJ16_getChars 49 = .ok (.getstatic 83, 3) := dk_178 0 83 (dk_at dksJ16_getChars_2 2 rfl rfl)
theorem dJ16_getChars_52 : decode cJ16_getChars 52 = .ok (.iload 4, 2) := dk_21 4 (dk_at dksJ16_getChars_2 5 rfl rfl)
theorem dJ16_getChars_54 : decode cJ16_getChars 54 = .ok (.baload, 1) := dk_51 (dk_at dksJ16_getChars_2 7 rfl rfl)
theorem dJ16_getChars_55 : decode cJ16_getChars 55 = .ok (.bastore, 1) := dk_84 (dk_at dksJ16_getChars_2 8 rfl rfl)
theorem dJ16_getChars_56 : decode cJ16_getChars 56 = .ok (.aload_n 2, 1) := dk_44 (dk_at dksJ16_getChars_2 9 rfl rfl)
theorem dJ16_getChars_57 : decode cJ16_getChars 57 = .ok (.iinc 5 (-1), 3) := dk_132 5 255 (dk_at dksJ16_getChars_2 10 rfl rfl)
theorem dJ16_getChars_60 : decode cJ16_getChars 60 = .ok (.iload 5, 2) := dk_21 5 (dk_at dksJ16_getChars_2 13 rfl rfl)
theorem dJ16_getChars_62 : decode cJ16_getChars 62 = .ok (.getstatic 87, 3) := dk_178 0 87 (dk_at dksJ16_getChars_2 15 rfl rfl)
theorem dJ16_getChars_65 : decode cJ16_getChars 65 = .ok (.iload 4, 2) := dk_21 4 (dk_at dksJ16_getChars_2 18 rfl rfl)
theorem dJ16_getChars_67 : decode cJ16_getChars 67 = .ok (.baload, 1) := dk_51 (dk_at dksJ16_getChars_2 20 rfl rfl)
theorem dJ16_getChars_68 : decode cJ16_getChars 68 = .ok (.bastore, 1) := dk_84 (dk_at dksJ16_getChars_2 21 rfl rfl)
theorem dJ16_getChars_69 : decode cJ16_getChars 69 = .ok (.goto (-47), 3) := dk_167 255 209 (dk_at dksJ16_getChars_3 0 rfl rfl)
theorem dJ16_getChars_72 : decode cJ16_getChars 72 = .ok (.aload_n 2, 1) := dk_44 (dk_at dksJ16_getChars_3 3 rfl rfl)
theorem dJ16_getChars_73 : decode cJ16_getChars 73 = .ok (.iinc 5 (-1), 3) := dk_132 5 255 (dk_at dksJ16_getChars_3 4 rfl rfl)
theorem dJ16_getChars_76 : decode cJ16_getChars 76 = .ok (.iload 5, 2) := dk_21 5 (dk_at dksJ16_getChars_3 7 rfl rfl)
theorem dJ16_getChars_78 : decode cJ16_getChars 78 = .ok (.getstatic 83, 3) := dk_178 0 83 (dk_at dksJ16_getChars_3 9 rfl rfl)
theorem dJ16_getChars_81 : decode cJ16_getChars 81 = .ok (.iload_n 0, 1) := dk_26 (dk_at dksJ16_getChars_3 12 rfl rfl)
theorem dJ16_getChars_82 : decode cJ16_getChars 82 = .ok (.ineg, 1) := dk_116 (dk_at dksJ16_getChars_3 13 rfl rfl)
theorem dJ16_getChars_83 : decode cJ16_getChars 83 = .ok (.baload, 1) := dk_51 (dk_at dksJ16_getChars_3 14 rfl rfl)
theorem dJ16_getChars_84 : decode cJ16_getChars 84 = .ok (.bastore, 1) := dk_84 (dk_at dksJ16_getChars_3 15 rfl rfl)
theorem dJ16_getChars_85 : decode cJ16_getChars 85 = .ok (.iload_n 0, 1) := dk_26 (dk_at dksJ16_getChars_3 16 rfl rfl)
theorem dJ16_getChars_86 : decode cJ16_getChars 86 = .ok (.bipush (-9), 2) := dk_16 247 (dk_at dksJ16_getChars_3 17 rfl rfl)
theorem dJ16_getChars_88 : decode cJ16_getChars 88 = .ok (.if_icmp .ge 16, 3) := dk_162 0 16 (dk_at dksJ16_getChars_3 19 rfl rfl)
theorem dJ16_getChars_91 : decode cJ16_getChars 91 = .ok (.aload_n 2, 1) := dk_44 (dk_at dksJ16_getChars_3 22 rfl rfl)
theorem dJ16_getChars_92 : decode cJ16_getChars 92 = .ok (.iinc 5 (-1), 3) := dk_132 5 255 (dk_at dksJ16_getChars_4 0 rfl rfl)
theorem dJ16_getChars_95 : decode cJ16_getChars 95 = .ok (.iload 5, 2) := dk_21 5 (dk_at dksJ16_getChars_4 3 rfl rfl)
theorem dJ16_getChars_97 : decode cJ16_getChars 97 = .ok (.getstatic 87, 3) := dk_178 0 87 (dk_at dksJ16_getChars_4 5 rfl rfl)
theorem dJ16_getChars_100 : decode cJ16_getChars 100 = .ok (.iload_n 0, 1) := dk_26 (dk_at dksJ16_getChars_4 8 rfl rfl)
theorem dJ16_getChars_101 : decode cJ16_getChars 101 = .ok (.ineg, 1) := dk_116 (dk_at dksJ16_getChars_4 9 rfl rfl)
theorem dJ16_getChars_102 : decode cJ16_getChars 102 = .ok (.baload, 1) := dk_51 (dk_at dksJ16_getChars_4 10 rfl rfl)
theorem dJ16_getChars_103 : decode cJ16_getChars 103 = .ok (.bastore, 1) := dk_84 (dk_at dksJ16_getChars_4 11 rfl rfl)
theorem dJ16_getChars_104 : decode cJ16_getChars 104 = .ok (.iload 6, 2) := dk_21 6 (dk_at dksJ16_getChars_4 12 rfl rfl)
theorem dJ16_getChars_106 : decode cJ16_getChars 106 = .ok (.ifCond .eq 12, 3) := dk_153 0 12 (dk_at dksJ16_getChars_4 14 rfl rfl)
theorem dJ16_getChars_109 : decode cJ16_getChars 109 = .ok (.aload_n 2, 1) := dk_44 (dk_at dksJ16_getChars_4 17 rfl rfl)
theorem dJ16_getChars_110 : decode cJ16_getChars 110 = .ok (.iinc 5 (-1), 3) := dk_132 5 255 (dk_at dksJ16_getChars_4 18 rfl rfl)
theorem dJ16_getChars_113 : decode cJ16_getChars 113 = .ok (.iload 5, 2) := dk_21 5 (dk_at dksJ16_getChars_4 21 rfl rfl)
theorem dJ16_getChars_115 : decode cJ16_getChars 115 = .ok (.bipush 45, 2) := dk_16 45 (dk_at dksJ16_getChars_5 0 rfl rfl)
theorem dJ16_getChars_117 : decode cJ16_getChars 117 = .ok (.bastore, 1) := dk_84 (dk_at dksJ16_getChars_5 2 rfl rfl)
theorem dJ16_getChars_118 : decode cJ16_getChars 118 = .ok (.iload 5, 2) := dk_21 5 (dk_at dksJ16_getChars_5 3 rfl rfl)
theorem dJ16_getChars_120 : decode cJ16_getChars 120 = .ok (.ireturn, 1) := dk_172 (dk_at dksJ16_getChars_5 5 rfl rfl)
def fJ16 : List ZE := []
theorem fokJ16 : zFok RJ16 fJ16 := fun _ h => by cases h
abbrev kJ16_bitCount : ZK := (RJ16, cJ16_bitCount, 1, (Option.some Jvm.ClassFile.FieldType.int), [], false, fJ16)
abbrev tJ16_bitCount (g : ZG) (args : List Value) (M : ZM) (d c s : Nat) (Q : ZQ) : Prop := Ct g yJ16_bitCount (ws_ yJ16_bitCount cJ16_bitCount 1 (Option.some Jvm.ClassFile.FieldType.int)) args M d c s Q
abbrev nJ16_bitCount : Nat := 1
theorem mJ16_bitCount : zMok yJ16_bitCount 1 1 := ⟨⟨by decide +kernel, by decide +kernel, by decide +kernel⟩, by decide⟩
theorem eJ16_bitCount {g : ZG} {Q : ZQ} {d cN sN : Nat} {M : ZM} {x1 : Int32} (hV : zV g) (h : Z g kJ16_bitCount Q d cN sN M 0 [some (.int x1)] []) : tJ16_bitCount g [.int x1] M d cN sN Q := Ct.of (K := kJ16_bitCount) rfl (by decide +kernel) hV fokJ16 rfl (fun h => by cases h) (fun v hv => by simp only [List.mem_cons, List.not_mem_nil, or_false] at hv; rcases hv with rfl <;> first | rfl | assumption) (Nat.le_of_ble_eq_true rfl) h
theorem sJ16_bitCount_0 {g : ZG} {Q : ZQ} {d cN sN : Nat} {M : ZM} {l0 : Int32}  (kk : Z g kJ16_bitCount Q d cN sN M 4 [some (.int l0)] [.int ((((l0 : Int32)).toUInt32 >>> (((1 : Int32)).toUInt32 &&& Int32.toUInt32 31)).toInt32), .int l0]) : Z g kJ16_bitCount Q d cN sN M 0 [some (.int l0)] [] := by
  refine zi_iload_n dJ16_bitCount_0 rfl ?_
  refine zi_iload_n dJ16_bitCount_1 rfl ?_
  refine zi_iconst dJ16_bitCount_2 (by decide +kernel : Int32.ofInt (1) = (1 : Int32)) ?_
  refine zi_iushr dJ16_bitCount_3 ?_
  exact kk
abbrev kJ16_stringSize : ZK := (RJ16, cJ16_stringSize, 4, (Option.some Jvm.ClassFile.FieldType.int), [], false, fJ16)
abbrev tJ16_stringSize (g : ZG) (args : List Value) (M : ZM) (d c s : Nat) (Q : ZQ) : Prop := Ct g yJ16_stringSize (ws_ yJ16_stringSize cJ16_stringSize 4 (Option.some Jvm.ClassFile.FieldType.int)) args M d c s Q
abbrev nJ16_stringSize : Nat := 1
theorem mJ16_stringSize : zMok yJ16_stringSize 1 4 := ⟨⟨by decide +kernel, by decide +kernel, by decide +kernel⟩, by decide⟩
theorem eJ16_stringSize {g : ZG} {Q : ZQ} {d cN sN : Nat} {M : ZM} {x1 : Int32} (hV : zV g) (h : Z g kJ16_stringSize Q d cN sN M 0 [some (.int x1), none, none, none] []) : tJ16_stringSize g [.int x1] M d cN sN Q := Ct.of (K := kJ16_stringSize) rfl (by decide +kernel) hV fokJ16 rfl (fun h => by cases h) (fun v hv => by simp only [List.mem_cons, List.not_mem_nil, or_false] at hv; rcases hv with rfl <;> first | rfl | assumption) (Nat.le_of_ble_eq_true rfl) h
theorem sJ16_stringSize_0 {g : ZG} {Q : ZQ} {d cN sN : Nat} {M : ZM} {l0 : Int32} {o1 o2 o3 : Option Value}  (kt : (l0 : Int32) < 0 → Z g kJ16_stringSize Q d cN sN M 11 [some (.int l0), some (.int 1), o2, o3] []) (kf : ¬ (l0 : Int32) < 0 → Z g kJ16_stringSize Q d cN sN M 6 [some (.int l0), some (.int 1), o2, o3] []) : Z g kJ16_stringSize Q d cN sN M 0 [some (.int l0), o1, o2, o3] [] := by
  refine zi_iconst dJ16_stringSize_0 (by decide +kernel : Int32.ofInt (1) = (1 : Int32)) ?_
  refine zi_istore_n dJ16_stringSize_1 (Nat.le_of_ble_eq_true rfl) ?_
  refine zi_iload_n dJ16_stringSize_2 rfl ?_
  exact zi_if_lt (tgt := 11) dJ16_stringSize_3 (by decide +kernel) kt kf
theorem sJ16_stringSize_6 {g : ZG} {Q : ZQ} {d cN sN : Nat} {M : ZM} {l0 : Int32} {o1 o2 o3 : Option Value}  (kk : Z g kJ16_stringSize Q d cN sN M 11 [some (.int (-l0)), some (.int 0), o2, o3] []) : Z g kJ16_stringSize Q d cN sN M 6 [some (.int l0), o1, o2, o3] [] := by
  refine zi_iconst dJ16_stringSize_6 (by decide +kernel : Int32.ofInt (0) = (0 : Int32)) ?_
  refine zi_istore_n dJ16_stringSize_7 (Nat.le_of_ble_eq_true rfl) ?_
  refine zi_iload_n dJ16_stringSize_8 rfl ?_
  refine zi_ineg dJ16_stringSize_9 ?_
  refine zi_istore_n dJ16_stringSize_10 (Nat.le_of_ble_eq_true rfl) ?_
  exact kk
theorem sJ16_stringSize_11 {g : ZG} {Q : ZQ} {d cN sN : Nat} {M : ZM} {o0 o1 o2 o3 : Option Value}  (kk : Z g kJ16_stringSize Q d cN sN M 16 [o0, o1, some (.int ((-10))), some (.int 1)] []) : Z g kJ16_stringSize Q d cN sN M 11 [o0, o1, o2, o3] [] := by
  refine zi_bipush dJ16_stringSize_11 (by decide +kernel : (Int8.ofInt (-10)).toInt32 = (-10 : Int32)) ?_
  refine zi_istore_n dJ16_stringSize_13 (Nat.le_of_ble_eq_true rfl) ?_
  refine zi_iconst dJ16_stringSize_14 (by decide +kernel : Int32.ofInt (1) = (1 : Int32)) ?_
  refine zi_istore_n dJ16_stringSize_15 (Nat.le_of_ble_eq_true rfl) ?_
  exact kk
theorem sJ16_stringSize_16 {g : ZG} {Q : ZQ} {d cN sN : Nat} {M : ZM} {l3 : Int32} {o0 o1 o2 : Option Value}  (kt : (10 : Int32) ≤ (l3 : Int32) → Z g kJ16_stringSize Q d cN sN M 42 [o0, o1, o2, some (.int l3)] []) (kf : ¬ (10 : Int32) ≤ (l3 : Int32) → Z g kJ16_stringSize Q d cN sN M 22 [o0, o1, o2, some (.int l3)] []) : Z g kJ16_stringSize Q d cN sN M 16 [o0, o1, o2, some (.int l3)] [] := by
  refine zi_iload_n dJ16_stringSize_16 rfl ?_
  refine zi_bipush dJ16_stringSize_17 (by decide +kernel : (Int8.ofInt (10)).toInt32 = (10 : Int32)) ?_
  exact zi_icmp_ge (tgt := 42) dJ16_stringSize_19 (by decide +kernel) kt kf
theorem sJ16_stringSize_22 {g : ZG} {Q : ZQ} {d cN sN : Nat} {M : ZM} {l0 : Int32} {l2 : Int32} {o1 o3 : Option Value}  (kt : (l0 : Int32) ≤ (l2 : Int32) → Z g kJ16_stringSize Q d cN sN M 31 [some (.int l0), o1, some (.int l2), o3] []) (kf : ¬ (l0 : Int32) ≤ (l2 : Int32) → Z g kJ16_stringSize Q d cN sN M 27 [some (.int l0), o1, some (.int l2), o3] []) : Z g kJ16_stringSize Q d cN sN M 22 [some (.int l0), o1, some (.int l2), o3] [] := by
  refine zi_iload_n dJ16_stringSize_22 rfl ?_
  refine zi_iload_n dJ16_stringSize_23 rfl ?_
  exact zi_icmp_le (tgt := 31) dJ16_stringSize_24 (by decide +kernel) kt kf
theorem sJ16_stringSize_27 {g : ZG} {Q : ZQ} {d cN sN : Nat} {M : ZM} {l3 : Int32} {l1 : Int32} {o0 o2 : Option Value}  (kk : Q.1 (some (.int (l3 + l1))) M) : Z g kJ16_stringSize Q d cN sN M 27 [o0, some (.int l1), o2, some (.int l3)] [] := by
  refine zi_iload_n dJ16_stringSize_27 rfl ?_
  refine zi_iload_n dJ16_stringSize_28 rfl ?_
  refine zi_iadd dJ16_stringSize_29 ?_
  exact zi_ireturn dJ16_stringSize_30 rfl rfl kk
theorem sJ16_stringSize_31 {g : ZG} {Q : ZQ} {d cN sN : Nat} {M : ZM} {l2 : Int32} {l3 : Int32} {o0 o1 : Option Value}  (kk : Z g kJ16_stringSize Q d cN sN M 16 [o0, o1, some (.int (10 * l2)), some (.int (l3 + 1))] []) : Z g kJ16_stringSize Q d cN sN M 31 [o0, o1, some (.int l2), some (.int l3)] [] := by
  refine zi_bipush dJ16_stringSize_31 (by decide +kernel : (Int8.ofInt (10)).toInt32 = (10 : Int32)) ?_
  refine zi_iload_n dJ16_stringSize_33 rfl ?_
  refine zi_imul dJ16_stringSize_34 ?_
  refine zi_istore_n dJ16_stringSize_35 (Nat.le_of_ble_eq_true rfl) ?_
  refine zi_iinc dJ16_stringSize_36 rfl (by decide +kernel : Int32.ofInt (1) = 1) (Nat.le_of_ble_eq_true rfl) ?_
  exact zi_goto (tgt := 16) dJ16_stringSize_39 (by decide +kernel) kk
theorem sJ16_stringSize_42 {g : ZG} {Q : ZQ} {d cN sN : Nat} {M : ZM} {l1 : Int32} {o0 o2 o3 : Option Value}  (kk : Q.1 (some (.int (10 + l1))) M) : Z g kJ16_stringSize Q d cN sN M 42 [o0, some (.int l1), o2, o3] [] := by
  refine zi_bipush dJ16_stringSize_42 (by decide +kernel : (Int8.ofInt (10)).toInt32 = (10 : Int32)) ?_
  refine zi_iload_n dJ16_stringSize_44 rfl ?_
  refine zi_iadd dJ16_stringSize_45 ?_
  exact zi_ireturn dJ16_stringSize_46 rfl rfl kk
abbrev kJ16_getChars : ZK := (RJ16, cJ16_getChars, 7, (Option.some Jvm.ClassFile.FieldType.int), [], false, fJ16)
abbrev tJ16_getChars (g : ZG) (args : List Value) (M : ZM) (d c s : Nat) (Q : ZQ) : Prop := Ct g yJ16_getChars (ws_ yJ16_getChars cJ16_getChars 7 (Option.some Jvm.ClassFile.FieldType.int)) args M d c s Q
abbrev nJ16_getChars : Nat := 1
theorem mJ16_getChars : zMok yJ16_getChars 3 7 := ⟨⟨by decide +kernel, by decide +kernel, by decide +kernel⟩, by decide⟩
theorem eJ16_getChars {g : ZG} {Q : ZQ} {d cN sN : Nat} {M : ZM} {x1 : Int32} {x2 : Int32} {v3 : Value} (hv3 : v3.category = 1) (hV : zV g) (h : Z g kJ16_getChars Q d cN sN M 0 [some (.int x1), some (.int x2), some (v3), none, none, none, none] []) : tJ16_getChars g [.int x1, .int x2, v3] M d cN sN Q := Ct.of (K := kJ16_getChars) rfl (by decide +kernel) hV fokJ16 rfl (fun h => by cases h) (fun v hv => by simp only [List.mem_cons, List.not_mem_nil, or_false] at hv; rcases hv with rfl | rfl | rfl <;> first | rfl | assumption) (Nat.le_of_ble_eq_true rfl) h
theorem sJ16_getChars_0 {g : ZG} {Q : ZQ} {d cN sN : Nat} {M : ZM} {l1 : Int32} {l0 : Int32} {o2 o3 o4 o5 o6 : Option Value}  (kt : 0 ≤ (l0 : Int32) → Z g kJ16_getChars Q d cN sN M 11 [some (.int l0), some (.int l1), o2, o3, o4, some (.int l1), o6] []) (kf : ¬ 0 ≤ (l0 : Int32) → Z g kJ16_getChars Q d cN sN M 7 [some (.int l0), some (.int l1), o2, o3, o4, some (.int l1), o6] []) : Z g kJ16_getChars Q d cN sN M 0 [some (.int l0), some (.int l1), o2, o3, o4, o5, o6] [] := by
  refine zi_iload_n dJ16_getChars_0 rfl ?_
  refine zi_istore dJ16_getChars_1 (Nat.le_of_ble_eq_true rfl) ?_
  refine zi_iload_n dJ16_getChars_3 rfl ?_
  exact zi_if_ge (tgt := 11) dJ16_getChars_4 (by decide +kernel) kt kf
theorem sJ16_getChars_7 {g : ZG} {Q : ZQ} {d cN sN : Nat} {M : ZM} {o0 o1 o2 o3 o4 o5 o6 : Option Value}  (kk : Z g kJ16_getChars Q d cN sN M 12 [o0, o1, o2, o3, o4, o5, o6] [.int 1]) : Z g kJ16_getChars Q d cN sN M 7 [o0, o1, o2, o3, o4, o5, o6] [] := by
  refine zi_iconst dJ16_getChars_7 (by decide +kernel : Int32.ofInt (1) = (1 : Int32)) ?_
  exact zi_goto (tgt := 12) dJ16_getChars_8 (by decide +kernel) kk
theorem sJ16_getChars_11 {g : ZG} {Q : ZQ} {d cN sN : Nat} {M : ZM} {o0 o1 o2 o3 o4 o5 o6 : Option Value}  (kk : Z g kJ16_getChars Q d cN sN M 12 [o0, o1, o2, o3, o4, o5, o6] [.int 0]) : Z g kJ16_getChars Q d cN sN M 11 [o0, o1, o2, o3, o4, o5, o6] [] := by
  refine zi_iconst dJ16_getChars_11 (by decide +kernel : Int32.ofInt (0) = (0 : Int32)) ?_
  exact kk
theorem sJ16_getChars_12 {g : ZG} {Q : ZQ} {d cN sN : Nat} {M : ZM} {t0 : Int32} {o0 o1 o2 o3 o4 o5 o6 : Option Value}  (kt : ¬ (t0 : Int32) = 0 → Z g kJ16_getChars Q d cN sN M 22 [o0, o1, o2, o3, o4, o5, some (.int t0)] []) (kf : (t0 : Int32) = 0 → Z g kJ16_getChars Q d cN sN M 19 [o0, o1, o2, o3, o4, o5, some (.int t0)] []) : Z g kJ16_getChars Q d cN sN M 12 [o0, o1, o2, o3, o4, o5, o6] [.int t0] := by
  refine zi_istore dJ16_getChars_12 (Nat.le_of_ble_eq_true rfl) ?_
  refine zi_iload dJ16_getChars_14 rfl ?_
  exact zi_if_ne (tgt := 22) dJ16_getChars_16 (by decide +kernel) kt kf
theorem sJ16_getChars_19 {g : ZG} {Q : ZQ} {d cN sN : Nat} {M : ZM} {l0 : Int32} {o1 o2 o3 o4 o5 o6 : Option Value}  (kk : Z g kJ16_getChars Q d cN sN M 22 [some (.int (-l0)), o1, o2, o3, o4, o5, o6] []) : Z g kJ16_getChars Q d cN sN M 19 [some (.int l0), o1, o2, o3, o4, o5, o6] [] := by
  refine zi_iload_n dJ16_getChars_19 rfl ?_
  refine zi_ineg dJ16_getChars_20 ?_
  refine zi_istore_n dJ16_getChars_21 (Nat.le_of_ble_eq_true rfl) ?_
  exact kk
theorem sJ16_getChars_22 {g : ZG} {Q : ZQ} {d cN sN : Nat} {M : ZM} {l0 : Int32} {o1 o2 o3 o4 o5 o6 : Option Value}  (kt : ((-100) : Int32) < (l0 : Int32) → Z g kJ16_getChars Q d cN sN M 72 [some (.int l0), o1, o2, o3, o4, o5, o6] []) (kf : ¬ ((-100) : Int32) < (l0 : Int32) → Z g kJ16_getChars Q d cN sN M 28 [some (.int l0), o1, o2, o3, o4, o5, o6] []) : Z g kJ16_getChars Q d cN sN M 22 [some (.int l0), o1, o2, o3, o4, o5, o6] [] := by
  refine zi_iload_n dJ16_getChars_22 rfl ?_
  refine zi_bipush dJ16_getChars_23 (by decide +kernel : (Int8.ofInt (-100)).toInt32 = (-100 : Int32)) ?_
  exact zi_icmp_gt (tgt := 72) dJ16_getChars_25 (by decide +kernel) kt kf
theorem sJ16_getChars_28 {g : ZG} {Q : ZQ} {d cN sN : Nat} {M : ZM} {l0 : Int32} {l2 : Nat} {l5 : Int32} {o1 o3 o4 o6 : Option Value}  (kk : Z g kJ16_getChars Q d cN sN M 49 [some (.int (l0 / 100)), o1, some (.ref l2), some (.int (l0 / 100)), some (.int (((l0 / 100) * 100) - l0)), some (.int (l5 + (-1))), o6] [.int (l5 + (-1)), .ref l2]) : Z g kJ16_getChars Q d cN sN M 28 [some (.int l0), o1, some (.ref l2), o3, o4, some (.int l5), o6] [] := by
  refine zi_iload_n dJ16_getChars_28 rfl ?_
  refine zi_bipush dJ16_getChars_29 (by decide +kernel : (Int8.ofInt (100)).toInt32 = (100 : Int32)) ?_
  refine zi_idiv dJ16_getChars_31 (by decide +kernel) ?_
  refine zi_istore_n dJ16_getChars_32 (Nat.le_of_ble_eq_true rfl) ?_
  refine zi_iload_n dJ16_getChars_33 rfl ?_
  refine zi_bipush dJ16_getChars_34 (by decide +kernel : (Int8.ofInt (100)).toInt32 = (100 : Int32)) ?_
  refine zi_imul dJ16_getChars_36 ?_
  refine zi_iload_n dJ16_getChars_37 rfl ?_
  refine zi_isub dJ16_getChars_38 ?_
  refine zi_istore dJ16_getChars_39 (Nat.le_of_ble_eq_true rfl) ?_
  refine zi_iload_n dJ16_getChars_41 rfl ?_
  refine zi_istore_n dJ16_getChars_42 (Nat.le_of_ble_eq_true rfl) ?_
  refine zi_aload_n dJ16_getChars_43 rfl zrf_r ?_
  refine zi_iinc dJ16_getChars_44 rfl (by decide +kernel : Int32.ofInt (-1) = -1) (Nat.le_of_ble_eq_true rfl) ?_
  refine zi_iload dJ16_getChars_47 rfl ?_
  exact kk
theorem sJ16_getChars_52 {g : ZG} {Q : ZQ} {d cN sN : Nat} {M : ZM} {t0 : Nat} {t1 : Int32} {t2 : Nat} {l4 : Int32} {n1 : Nat} {f2 : Nat → Int32} {n5 : Nat} {f6 : Nat → Int32} {l2 : Nat} {l5 : Int32} {o0 o1 o3 o6 : Option Value} (h3 : M.1 t2 = some (.inl (zA g 4, n1, .inl f2))) (h4 : vp_in (l4) n1) (h7 : M.1 t0 = some (.inl (zA g 4, n5, .inl (f6)))) (h8 : vp_in (t1) n5) (kk : Z g kJ16_getChars Q d cN sN (zup M t0 (.inl (zA g 4, n5, .inl (upd f6 ((t1 : Int32).toNatClampNeg) (vp_nar .byte (f2 ((l4 : Int32).toNatClampNeg))))))) 62 [o0, o1, some (.ref l2), o3, some (.int l4), some (.int (l5 + (-1))), o6] [.int (l5 + (-1)), .ref l2]) : Z g kJ16_getChars Q d cN sN M 52 [o0, o1, some (.ref l2), o3, some (.int l4), some (.int l5), o6] [.ref t2, .int t1, .ref t0] := by
  refine zi_iload dJ16_getChars_52 rfl ?_
  refine zi_baload dJ16_getChars_54 h3 h4 ?_
  refine zi_bastore dJ16_getChars_55 h7 h8 ?_
  refine zi_aload_n dJ16_getChars_56 rfl zrf_r ?_
  refine zi_iinc dJ16_getChars_57 rfl (by decide +kernel : Int32.ofInt (-1) = -1) (Nat.le_of_ble_eq_true rfl) ?_
  refine zi_iload dJ16_getChars_60 rfl ?_
  exact kk
theorem sJ16_getChars_65 {g : ZG} {Q : ZQ} {d cN sN : Nat} {M : ZM} {t0 : Nat} {t1 : Int32} {t2 : Nat} {l4 : Int32} {n1 : Nat} {f2 : Nat → Int32} {n5 : Nat} {f6 : Nat → Int32} {o0 o1 o2 o3 o5 o6 : Option Value} (h3 : M.1 t2 = some (.inl (zA g 4, n1, .inl f2))) (h4 : vp_in (l4) n1) (h7 : M.1 t0 = some (.inl (zA g 4, n5, .inl (f6)))) (h8 : vp_in (t1) n5) (kk : Z g kJ16_getChars Q d cN sN (zup M t0 (.inl (zA g 4, n5, .inl (upd f6 ((t1 : Int32).toNatClampNeg) (vp_nar .byte (f2 ((l4 : Int32).toNatClampNeg))))))) 22 [o0, o1, o2, o3, some (.int l4), o5, o6] []) : Z g kJ16_getChars Q d cN sN M 65 [o0, o1, o2, o3, some (.int l4), o5, o6] [.ref t2, .int t1, .ref t0] := by
  refine zi_iload dJ16_getChars_65 rfl ?_
  refine zi_baload dJ16_getChars_67 h3 h4 ?_
  refine zi_bastore dJ16_getChars_68 h7 h8 ?_
  exact zi_goto (tgt := 22) dJ16_getChars_69 (by decide +kernel) kk
theorem sJ16_getChars_72 {g : ZG} {Q : ZQ} {d cN sN : Nat} {M : ZM} {l2 : Nat} {l5 : Int32} {o0 o1 o3 o4 o6 : Option Value}  (kk : Z g kJ16_getChars Q d cN sN M 78 [o0, o1, some (.ref l2), o3, o4, some (.int (l5 + (-1))), o6] [.int (l5 + (-1)), .ref l2]) : Z g kJ16_getChars Q d cN sN M 72 [o0, o1, some (.ref l2), o3, o4, some (.int l5), o6] [] := by
  refine zi_aload_n dJ16_getChars_72 rfl zrf_r ?_
  refine zi_iinc dJ16_getChars_73 rfl (by decide +kernel : Int32.ofInt (-1) = -1) (Nat.le_of_ble_eq_true rfl) ?_
  refine zi_iload dJ16_getChars_76 rfl ?_
  exact kk
theorem sJ16_getChars_81 {g : ZG} {Q : ZQ} {d cN sN : Nat} {M : ZM} {t0 : Nat} {t1 : Int32} {t2 : Nat} {l0 : Int32} {n1 : Nat} {f2 : Nat → Int32} {n5 : Nat} {f6 : Nat → Int32} {o1 o2 o3 o4 o5 o6 : Option Value} (h3 : M.1 t2 = some (.inl (zA g 4, n1, .inl f2))) (h4 : vp_in (-l0) n1) (h7 : M.1 t0 = some (.inl (zA g 4, n5, .inl (f6)))) (h8 : vp_in (t1) n5) (kt : ((-9) : Int32) ≤ (l0 : Int32) → Z g kJ16_getChars Q d cN sN (zup M t0 (.inl (zA g 4, n5, .inl (upd f6 ((t1 : Int32).toNatClampNeg) (vp_nar .byte (f2 ((-l0 : Int32).toNatClampNeg))))))) 104 [some (.int l0), o1, o2, o3, o4, o5, o6] []) (kf : ¬ ((-9) : Int32) ≤ (l0 : Int32) → Z g kJ16_getChars Q d cN sN (zup M t0 (.inl (zA g 4, n5, .inl (upd f6 ((t1 : Int32).toNatClampNeg) (vp_nar .byte (f2 ((-l0 : Int32).toNatClampNeg))))))) 91 [some (.int l0), o1, o2, o3, o4, o5, o6] []) : Z g kJ16_getChars Q d cN sN M 81 [some (.int l0), o1, o2, o3, o4, o5, o6] [.ref t2, .int t1, .ref t0] := by
  refine zi_iload_n dJ16_getChars_81 rfl ?_
  refine zi_ineg dJ16_getChars_82 ?_
  refine zi_baload dJ16_getChars_83 h3 h4 ?_
  refine zi_bastore dJ16_getChars_84 h7 h8 ?_
  refine zi_iload_n dJ16_getChars_85 rfl ?_
  refine zi_bipush dJ16_getChars_86 (by decide +kernel : (Int8.ofInt (-9)).toInt32 = (-9 : Int32)) ?_
  exact zi_icmp_ge (tgt := 104) dJ16_getChars_88 (by decide +kernel) kt kf
theorem sJ16_getChars_91 {g : ZG} {Q : ZQ} {d cN sN : Nat} {M : ZM} {l2 : Nat} {l5 : Int32} {o0 o1 o3 o4 o6 : Option Value}  (kk : Z g kJ16_getChars Q d cN sN M 97 [o0, o1, some (.ref l2), o3, o4, some (.int (l5 + (-1))), o6] [.int (l5 + (-1)), .ref l2]) : Z g kJ16_getChars Q d cN sN M 91 [o0, o1, some (.ref l2), o3, o4, some (.int l5), o6] [] := by
  refine zi_aload_n dJ16_getChars_91 rfl zrf_r ?_
  refine zi_iinc dJ16_getChars_92 rfl (by decide +kernel : Int32.ofInt (-1) = -1) (Nat.le_of_ble_eq_true rfl) ?_
  refine zi_iload dJ16_getChars_95 rfl ?_
  exact kk
theorem sJ16_getChars_100 {g : ZG} {Q : ZQ} {d cN sN : Nat} {M : ZM} {t0 : Nat} {t1 : Int32} {t2 : Nat} {l0 : Int32} {n1 : Nat} {f2 : Nat → Int32} {n5 : Nat} {f6 : Nat → Int32} {o1 o2 o3 o4 o5 o6 : Option Value} (h3 : M.1 t2 = some (.inl (zA g 4, n1, .inl f2))) (h4 : vp_in (-l0) n1) (h7 : M.1 t0 = some (.inl (zA g 4, n5, .inl (f6)))) (h8 : vp_in (t1) n5) (kk : Z g kJ16_getChars Q d cN sN (zup M t0 (.inl (zA g 4, n5, .inl (upd f6 ((t1 : Int32).toNatClampNeg) (vp_nar .byte (f2 ((-l0 : Int32).toNatClampNeg))))))) 104 [some (.int l0), o1, o2, o3, o4, o5, o6] []) : Z g kJ16_getChars Q d cN sN M 100 [some (.int l0), o1, o2, o3, o4, o5, o6] [.ref t2, .int t1, .ref t0] := by
  refine zi_iload_n dJ16_getChars_100 rfl ?_
  refine zi_ineg dJ16_getChars_101 ?_
  refine zi_baload dJ16_getChars_102 h3 h4 ?_
  refine zi_bastore dJ16_getChars_103 h7 h8 ?_
  exact kk
theorem sJ16_getChars_104 {g : ZG} {Q : ZQ} {d cN sN : Nat} {M : ZM} {l6 : Int32} {o0 o1 o2 o3 o4 o5 : Option Value}  (kt : (l6 : Int32) = 0 → Z g kJ16_getChars Q d cN sN M 118 [o0, o1, o2, o3, o4, o5, some (.int l6)] []) (kf : ¬ (l6 : Int32) = 0 → Z g kJ16_getChars Q d cN sN M 109 [o0, o1, o2, o3, o4, o5, some (.int l6)] []) : Z g kJ16_getChars Q d cN sN M 104 [o0, o1, o2, o3, o4, o5, some (.int l6)] [] := by
  refine zi_iload dJ16_getChars_104 rfl ?_
  exact zi_if_eq (tgt := 118) dJ16_getChars_106 (by decide +kernel) kt kf
theorem sJ16_getChars_109 {g : ZG} {Q : ZQ} {d cN sN : Nat} {M : ZM} {l2 : Nat} {l5 : Int32} {n1 : Nat} {f2 : Nat → Int32} {o0 o1 o3 o4 o6 : Option Value} (h3 : M.1 l2 = some (.inl (zA g 4, n1, .inl (f2)))) (h4 : vp_in (l5 + (-1)) n1) (kk : Z g kJ16_getChars Q d cN sN (zup M l2 (.inl (zA g 4, n1, .inl (upd f2 ((l5 + (-1) : Int32).toNatClampNeg) (vp_nar .byte (45)))))) 118 [o0, o1, some (.ref l2), o3, o4, some (.int (l5 + (-1))), o6] []) : Z g kJ16_getChars Q d cN sN M 109 [o0, o1, some (.ref l2), o3, o4, some (.int l5), o6] [] := by
  refine zi_aload_n dJ16_getChars_109 rfl zrf_r ?_
  refine zi_iinc dJ16_getChars_110 rfl (by decide +kernel : Int32.ofInt (-1) = -1) (Nat.le_of_ble_eq_true rfl) ?_
  refine zi_iload dJ16_getChars_113 rfl ?_
  refine zi_bipush dJ16_getChars_115 (by decide +kernel : (Int8.ofInt (45)).toInt32 = (45 : Int32)) ?_
  refine zi_bastore dJ16_getChars_117 h3 h4 ?_
  exact kk
theorem sJ16_getChars_118 {g : ZG} {Q : ZQ} {d cN sN : Nat} {M : ZM} {l5 : Int32} {o0 o1 o2 o3 o4 o6 : Option Value}  (kk : Q.1 (some (.int l5)) M) : Z g kJ16_getChars Q d cN sN M 118 [o0, o1, o2, o3, o4, some (.int l5), o6] [] := by
  refine zi_iload dJ16_getChars_118 rfl ?_
  exact zi_ireturn dJ16_getChars_120 rfl rfl kk
/-! jdk/internal/util/ArraysSupport (printed by gen_m.py) -/
set_option maxRecDepth 100000
abbrev cJ19_newLength : ByteArray := prog_48_method_27_code
def yJ19_newLength : MethodName := ⟨RJ19, "newLength", "(III)I"⟩
def dkwJ19_newLength_1 : List UInt8 := [184, 0, 201, 172]
abbrev dktJ19_newLength_1 : List UInt8 := dkwJ19_newLength_1 ++ []
def dkwJ19_newLength_0 : List UInt8 := [26, 27, 28, 184, 0, 194, 96, 62, 3, 29, 162, 0, 11, 29, 18, 200, 163, 0, 5, 29, 172, 26, 27]
abbrev dktJ19_newLength_0 : List UInt8 := dkwJ19_newLength_0 ++ dktJ19_newLength_1
theorem dksJ19_newLength_0 : cJ19_newLength.data.toList.drop 0 = dktJ19_newLength_0 := by decide +kernel
theorem dksJ19_newLength_1 : cJ19_newLength.data.toList.drop 23 = dktJ19_newLength_1 := dk_seg dksJ19_newLength_0 23 rfl rfl
theorem dJ19_newLength_0 : decode cJ19_newLength 0 = .ok (.iload_n 0, 1) := dk_26 (dk_at dksJ19_newLength_0 0 rfl rfl)
theorem dJ19_newLength_1 : decode cJ19_newLength 1 = .ok (.iload_n 1, 1) := dk_27 (dk_at dksJ19_newLength_0 1 rfl rfl)
theorem dJ19_newLength_2 : decode cJ19_newLength 2 = .ok (.iload_n 2, 1) := dk_28 (dk_at dksJ19_newLength_0 2 rfl rfl)
theorem dJ19_newLength_3 : decode cJ19_newLength 3 = .ok (.invokestatic 194, 3) := dk_184 0 194 (dk_at dksJ19_newLength_0 3 rfl rfl)
theorem dJ19_newLength_6 : decode cJ19_newLength 6 = .ok (.iadd, 1) := dk_96 (dk_at dksJ19_newLength_0 6 rfl rfl)
theorem dJ19_newLength_7 : decode cJ19_newLength 7 = .ok (.istore_n 3, 1) := dk_62 (dk_at dksJ19_newLength_0 7 rfl rfl)
theorem dJ19_newLength_8 : decode cJ19_newLength 8 = .ok (.iconst 0, 1) := dk_3 (dk_at dksJ19_newLength_0 8 rfl rfl)
theorem dJ19_newLength_9 : decode cJ19_newLength 9 = .ok (.iload_n 3, 1) := dk_29 (dk_at dksJ19_newLength_0 9 rfl rfl)
theorem dJ19_newLength_10 : decode cJ19_newLength 10 = .ok (.if_icmp .ge 11, 3) := dk_162 0 11 (dk_at dksJ19_newLength_0 10 rfl rfl)
theorem dJ19_newLength_13 : decode cJ19_newLength 13 = .ok (.iload_n 3, 1) := dk_29 (dk_at dksJ19_newLength_0 13 rfl rfl)
theorem dJ19_newLength_14 : decode cJ19_newLength 14 = .ok (.ldc 200, 2) := dk_18 200 (dk_at dksJ19_newLength_0 14 rfl rfl)
theorem dJ19_newLength_16 : decode cJ19_newLength 16 = .ok (.if_icmp .gt 5, 3) := dk_163 0 5 (dk_at dksJ19_newLength_0 16 rfl rfl)
theorem dJ19_newLength_19 : decode cJ19_newLength 19 = .ok (.iload_n 3, 1) := dk_29 (dk_at dksJ19_newLength_0 19 rfl rfl)
theorem dJ19_newLength_20 : decode cJ19_newLength 20 = .ok (.ireturn, 1) := dk_172 (dk_at dksJ19_newLength_0 20 rfl rfl)
theorem dJ19_newLength_21 : decode cJ19_newLength 21 = .ok (.iload_n 0, 1) := dk_26 (dk_at dksJ19_newLength_0 21 rfl rfl)
theorem dJ19_newLength_22 : decode cJ19_newLength 22 = .ok (.iload_n 1, 1) := dk_27 (dk_at dksJ19_newLength_0 22 rfl rfl)
theorem dJ19_newLength_23 : decode cJ19_newLength 23 = .ok (.invokestatic 201, 3) := dk_184 0 201 (dk_at dksJ19_newLength_1 0 rfl rfl)
theorem dJ19_newLength_26 : decode cJ19_newLength 26 = .ok (.ireturn, 1) := dk_172 (dk_at dksJ19_newLength_1 3 rfl rfl)
abbrev cJ19_hugeLength : ByteArray := prog_48_method_28_code
def yJ19_hugeLength : MethodName := ⟨RJ19, "hugeLength", "(II)I"⟩
def dkwJ19_hugeLength_2 : List UInt8 := [191, 28, 18, 200, 163, 0, 6, 18, 200, 172, 28, 172]
abbrev dktJ19_hugeLength_2 : List UInt8 := dkwJ19_hugeLength_2 ++ []
def dkwJ19_hugeLength_1 : List UInt8 := [26, 182, 0, 98, 18, 208, 182, 0, 94, 27, 182, 0, 98, 18, 210, 182, 0, 94, 182, 0, 101, 183, 0, 212]
abbrev dktJ19_hugeLength_1 : List UInt8 := dkwJ19_hugeLength_1 ++ dktJ19_hugeLength_2
def dkwJ19_hugeLength_0 : List UInt8 := [26, 27, 96, 61, 28, 156, 0, 44, 187, 0, 204, 89, 187, 0, 89, 89, 183, 0, 91, 18, 206, 182, 0, 94]
abbrev dktJ19_hugeLength_0 : List UInt8 := dkwJ19_hugeLength_0 ++ dktJ19_hugeLength_1
theorem dksJ19_hugeLength_0 : cJ19_hugeLength.data.toList.drop 0 = dktJ19_hugeLength_0 := by decide +kernel
theorem dksJ19_hugeLength_1 : cJ19_hugeLength.data.toList.drop 24 = dktJ19_hugeLength_1 := dk_seg dksJ19_hugeLength_0 24 rfl rfl
theorem dksJ19_hugeLength_2 : cJ19_hugeLength.data.toList.drop 48 = dktJ19_hugeLength_2 := dk_seg dksJ19_hugeLength_1 24 rfl rfl
theorem dJ19_hugeLength_0 : decode cJ19_hugeLength 0 = .ok (.iload_n 0, 1) := dk_26 (dk_at dksJ19_hugeLength_0 0 rfl rfl)
theorem dJ19_hugeLength_1 : decode cJ19_hugeLength 1 = .ok (.iload_n 1, 1) := dk_27 (dk_at dksJ19_hugeLength_0 1 rfl rfl)
theorem dJ19_hugeLength_2 : decode cJ19_hugeLength 2 = .ok (.iadd, 1) := dk_96 (dk_at dksJ19_hugeLength_0 2 rfl rfl)
theorem dJ19_hugeLength_3 : decode cJ19_hugeLength 3 = .ok (.istore_n 2, 1) := dk_61 (dk_at dksJ19_hugeLength_0 3 rfl rfl)
theorem dJ19_hugeLength_4 : decode cJ19_hugeLength 4 = .ok (.iload_n 2, 1) := dk_28 (dk_at dksJ19_hugeLength_0 4 rfl rfl)
theorem dJ19_hugeLength_5 : decode cJ19_hugeLength 5 = .ok (.ifCond .ge 44, 3) := dk_156 0 44 (dk_at dksJ19_hugeLength_0 5 rfl rfl)
theorem dJ19_hugeLength_8 : decode cJ19_hugeLength 8 = .ok (.new 204, 3) := dk_187 0 204 (dk_at dksJ19_hugeLength_0 8 rfl rfl)
theorem dJ19_hugeLength_11 : decode cJ19_hugeLength 11 = .ok (.dup, 1) := dk_89 (dk_at dksJ19_hugeLength_0 11 rfl rfl)
theorem dJ19_hugeLength_12 : decode cJ19_hugeLength 12 = .ok (.new 89, 3) := dk_187 0 89 (dk_at dksJ19_hugeLength_0 12 rfl rfl)
theorem dJ19_hugeLength_15 : decode cJ19_hugeLength 15 = .ok (.dup, 1) := dk_89 (dk_at dksJ19_hugeLength_0 15 rfl rfl)
theorem dJ19_hugeLength_16 : decode cJ19_hugeLength 16 = .ok (.invokespecial 91, 3) := dk_183 0 91 (dk_at dksJ19_hugeLength_0 16 rfl rfl)
theorem dJ19_hugeLength_19 : decode cJ19_hugeLength 19 = .ok (.ldc 206, 2) := dk_18 206 (dk_at dksJ19_hugeLength_0 19 rfl rfl)
theorem dJ19_hugeLength_21 : decode cJ19_hugeLength 21 = .ok (.invokevirtual 94, 3) := dk_182 0 94 (dk_at dksJ19_hugeLength_0 21 rfl rfl)
theorem dJ19_hugeLength_24 : decode cJ19_hugeLength 24 = .ok (.iload_n 0, 1) := dk_26 (dk_at dksJ19_hugeLength_1 0 rfl rfl)
theorem dJ19_hugeLength_25 : decode cJ19_hugeLength 25 = .ok (.invokevirtual 98, 3) := dk_182 0 98 (dk_at dksJ19_hugeLength_1 1 rfl rfl)
theorem dJ19_hugeLength_28 : decode cJ19_hugeLength 28 = .ok (.ldc 208, 2) := dk_18 208 (dk_at dksJ19_hugeLength_1 4 rfl rfl)
theorem dJ19_hugeLength_30 : decode cJ19_hugeLength 30 = .ok (.invokevirtual 94, 3) := dk_182 0 94 (dk_at dksJ19_hugeLength_1 6 rfl rfl)
theorem dJ19_hugeLength_33 : decode cJ19_hugeLength 33 = .ok (.iload_n 1, 1) := dk_27 (dk_at dksJ19_hugeLength_1 9 rfl rfl)
theorem dJ19_hugeLength_34 : decode cJ19_hugeLength 34 = .ok (.invokevirtual 98, 3) := dk_182 0 98 (dk_at dksJ19_hugeLength_1 10 rfl rfl)
theorem dJ19_hugeLength_37 : decode cJ19_hugeLength 37 = .ok (.ldc 210, 2) := dk_18 210 (dk_at dksJ19_hugeLength_1 13 rfl rfl)
theorem dJ19_hugeLength_39 : decode cJ19_hugeLength 39 = .ok (.invokevirtual 94, 3) := dk_182 0 94 (dk_at dksJ19_hugeLength_1 15 rfl rfl)
theorem dJ19_hugeLength_42 : decode cJ19_hugeLength 42 = .ok (.invokevirtual 101, 3) := dk_182 0 101 (dk_at dksJ19_hugeLength_1 18 rfl rfl)
theorem dJ19_hugeLength_45 : decode cJ19_hugeLength 45 = .ok (.invokespecial 212, 3) := dk_183 0 212 (dk_at dksJ19_hugeLength_1 21 rfl rfl)
theorem dJ19_hugeLength_48 : decode cJ19_hugeLength 48 = .ok (.athrow, 1) := dk_191 (dk_at dksJ19_hugeLength_2 0 rfl rfl)
theorem dJ19_hugeLength_49 : decode cJ19_hugeLength 49 = .ok (.iload_n 2, 1) := dk_28 (dk_at dksJ19_hugeLength_2 1 rfl rfl)
theorem dJ19_hugeLength_50 : decode cJ19_hugeLength 50 = .ok (.ldc 200, 2) := dk_18 200 (dk_at dksJ19_hugeLength_2 2 rfl rfl)
theorem dJ19_hugeLength_52 : decode cJ19_hugeLength 52 = .ok (.if_icmp .gt 6, 3) := dk_163 0 6 (dk_at dksJ19_hugeLength_2 4 rfl rfl)
theorem dJ19_hugeLength_55 : decode cJ19_hugeLength 55 = .ok (.ldc 200, 2) := dk_18 200 (dk_at dksJ19_hugeLength_2 7 rfl rfl)
theorem dJ19_hugeLength_57 : decode cJ19_hugeLength 57 = .ok (.ireturn, 1) := dk_172 (dk_at dksJ19_hugeLength_2 9 rfl rfl)
theorem dJ19_hugeLength_58 : decode cJ19_hugeLength 58 = .ok (.iload_n 2, 1) := dk_28 (dk_at dksJ19_hugeLength_2 10 rfl rfl)
theorem dJ19_hugeLength_59 : decode cJ19_hugeLength 59 = .ok (.ireturn, 1) := dk_172 (dk_at dksJ19_hugeLength_2 11 rfl rfl)
def fJ19 : List ZE := []
theorem fokJ19 : zFok RJ19 fJ19 := fun _ h => by cases h
abbrev kJ19_newLength : ZK := (RJ19, cJ19_newLength, 4, (Option.some Jvm.ClassFile.FieldType.int), [], false, fJ19)
abbrev tJ19_newLength (g : ZG) (args : List Value) (M : ZM) (d c s : Nat) (Q : ZQ) : Prop := Ct g yJ19_newLength (ws_ yJ19_newLength cJ19_newLength 4 (Option.some Jvm.ClassFile.FieldType.int)) args M d c s Q
abbrev nJ19_newLength : Nat := 2
theorem mJ19_newLength : zMok yJ19_newLength 3 4 := ⟨⟨by decide +kernel, by decide +kernel, by decide +kernel⟩, by decide⟩
theorem eJ19_newLength {g : ZG} {Q : ZQ} {d cN sN : Nat} {M : ZM} {x1 : Int32} {x2 : Int32} {x3 : Int32} (hV : zV g) (h : Z g kJ19_newLength Q d cN sN M 0 [some (.int x1), some (.int x2), some (.int x3), none] []) : tJ19_newLength g [.int x1, .int x2, .int x3] M d cN sN Q := Ct.of (K := kJ19_newLength) rfl (by decide +kernel) hV fokJ19 rfl (fun h => by cases h) (fun v hv => by simp only [List.mem_cons, List.not_mem_nil, or_false] at hv; rcases hv with rfl | rfl | rfl <;> first | rfl | assumption) (Nat.le_of_ble_eq_true rfl) h
theorem sJ19_newLength_0 {g : ZG} {Q : ZQ} {d cN sN : Nat} {M : ZM} {l0 : Int32} {l1 : Int32} {l2 : Int32} {o3 : Option Value}  (kk : Z g kJ19_newLength Q d cN sN M 3 [some (.int l0), some (.int l1), some (.int l2), o3] [.int l2, .int l1, .int l0]) : Z g kJ19_newLength Q d cN sN M 0 [some (.int l0), some (.int l1), some (.int l2), o3] [] := by
  refine zi_iload_n dJ19_newLength_0 rfl ?_
  refine zi_iload_n dJ19_newLength_1 rfl ?_
  refine zi_iload_n dJ19_newLength_2 rfl ?_
  exact kk
theorem sJ19_newLength_6 {g : ZG} {Q : ZQ} {d cN sN : Nat} {M : ZM} {t0 : Int32} {t1 : Int32} {o0 o1 o2 o3 : Option Value}  (kt : (t0 + t1 : Int32) ≤ (0 : Int32) → Z g kJ19_newLength Q d cN sN M 21 [o0, o1, o2, some (.int (t0 + t1))] []) (kf : ¬ (t0 + t1 : Int32) ≤ (0 : Int32) → Z g kJ19_newLength Q d cN sN M 13 [o0, o1, o2, some (.int (t0 + t1))] []) : Z g kJ19_newLength Q d cN sN M 6 [o0, o1, o2, o3] [.int t1, .int t0] := by
  refine zi_iadd dJ19_newLength_6 ?_
  refine zi_istore_n dJ19_newLength_7 (Nat.le_of_ble_eq_true rfl) ?_
  refine zi_iconst dJ19_newLength_8 (by decide +kernel : Int32.ofInt (0) = (0 : Int32)) ?_
  refine zi_iload_n dJ19_newLength_9 rfl ?_
  exact zi_icmp_ge (tgt := 21) dJ19_newLength_10 (by decide +kernel) kt kf
theorem sJ19_newLength_13 {g : ZG} {Q : ZQ} {d cN sN : Nat} {M : ZM} {l3 : Int32} {o0 o1 o2 : Option Value}  (kk : Z g kJ19_newLength Q d cN sN M 14 [o0, o1, o2, some (.int l3)] [.int l3]) : Z g kJ19_newLength Q d cN sN M 13 [o0, o1, o2, some (.int l3)] [] := by
  refine zi_iload_n dJ19_newLength_13 rfl ?_
  exact kk
theorem sJ19_newLength_16 {g : ZG} {Q : ZQ} {d cN sN : Nat} {M : ZM} {t0 : Int32} {t1 : Int32} {o0 o1 o2 o3 : Option Value}  (kt : (t1 : Int32) < (t0 : Int32) → Z g kJ19_newLength Q d cN sN M 21 [o0, o1, o2, o3] []) (kf : ¬ (t1 : Int32) < (t0 : Int32) → Z g kJ19_newLength Q d cN sN M 19 [o0, o1, o2, o3] []) : Z g kJ19_newLength Q d cN sN M 16 [o0, o1, o2, o3] [.int t1, .int t0] := by
  exact zi_icmp_gt (tgt := 21) dJ19_newLength_16 (by decide +kernel) kt kf
theorem sJ19_newLength_19 {g : ZG} {Q : ZQ} {d cN sN : Nat} {M : ZM} {l3 : Int32} {o0 o1 o2 : Option Value}  (kk : Q.1 (some (.int l3)) M) : Z g kJ19_newLength Q d cN sN M 19 [o0, o1, o2, some (.int l3)] [] := by
  refine zi_iload_n dJ19_newLength_19 rfl ?_
  exact zi_ireturn dJ19_newLength_20 rfl rfl kk
theorem sJ19_newLength_21 {g : ZG} {Q : ZQ} {d cN sN : Nat} {M : ZM} {l0 : Int32} {l1 : Int32} {o2 o3 : Option Value}  (kk : Z g kJ19_newLength Q d cN sN M 23 [some (.int l0), some (.int l1), o2, o3] [.int l1, .int l0]) : Z g kJ19_newLength Q d cN sN M 21 [some (.int l0), some (.int l1), o2, o3] [] := by
  refine zi_iload_n dJ19_newLength_21 rfl ?_
  refine zi_iload_n dJ19_newLength_22 rfl ?_
  exact kk
theorem sJ19_newLength_26 {g : ZG} {Q : ZQ} {d cN sN : Nat} {M : ZM} {t0 : Int32} {o0 o1 o2 o3 : Option Value}  (kk : Q.1 (some (.int t0)) M) : Z g kJ19_newLength Q d cN sN M 26 [o0, o1, o2, o3] [.int t0] := by
  exact zi_ireturn dJ19_newLength_26 rfl rfl kk
abbrev kJ19_hugeLength : ZK := (RJ19, cJ19_hugeLength, 3, (Option.some Jvm.ClassFile.FieldType.int), [], false, fJ19)
abbrev tJ19_hugeLength (g : ZG) (args : List Value) (M : ZM) (d c s : Nat) (Q : ZQ) : Prop := Ct g yJ19_hugeLength (ws_ yJ19_hugeLength cJ19_hugeLength 3 (Option.some Jvm.ClassFile.FieldType.int)) args M d c s Q
abbrev nJ19_hugeLength : Nat := 1
theorem mJ19_hugeLength : zMok yJ19_hugeLength 2 3 := ⟨⟨by decide +kernel, by decide +kernel, by decide +kernel⟩, by decide⟩
theorem eJ19_hugeLength {g : ZG} {Q : ZQ} {d cN sN : Nat} {M : ZM} {x1 : Int32} {x2 : Int32} (hV : zV g) (h : Z g kJ19_hugeLength Q d cN sN M 0 [some (.int x1), some (.int x2), none] []) : tJ19_hugeLength g [.int x1, .int x2] M d cN sN Q := Ct.of (K := kJ19_hugeLength) rfl (by decide +kernel) hV fokJ19 rfl (fun h => by cases h) (fun v hv => by simp only [List.mem_cons, List.not_mem_nil, or_false] at hv; rcases hv with rfl | rfl <;> first | rfl | assumption) (Nat.le_of_ble_eq_true rfl) h
theorem sJ19_hugeLength_0 {g : ZG} {Q : ZQ} {d cN sN : Nat} {M : ZM} {l0 : Int32} {l1 : Int32} {o2 : Option Value}  (kt : 0 ≤ (l0 + l1 : Int32) → Z g kJ19_hugeLength Q d cN sN M 49 [some (.int l0), some (.int l1), some (.int (l0 + l1))] []) (kf : ¬ 0 ≤ (l0 + l1 : Int32) → Z g kJ19_hugeLength Q d cN sN M 8 [some (.int l0), some (.int l1), some (.int (l0 + l1))] []) : Z g kJ19_hugeLength Q d cN sN M 0 [some (.int l0), some (.int l1), o2] [] := by
  refine zi_iload_n dJ19_hugeLength_0 rfl ?_
  refine zi_iload_n dJ19_hugeLength_1 rfl ?_
  refine zi_iadd dJ19_hugeLength_2 ?_
  refine zi_istore_n dJ19_hugeLength_3 (Nat.le_of_ble_eq_true rfl) ?_
  refine zi_iload_n dJ19_hugeLength_4 rfl ?_
  exact zi_if_ge (tgt := 49) dJ19_hugeLength_5 (by decide +kernel) kt kf
theorem sJ19_hugeLength_11 {g : ZG} {Q : ZQ} {d cN sN : Nat} {M : ZM} {t0 : Nat} {o0 o1 o2 : Option Value}  (kk : Z g kJ19_hugeLength Q d cN sN M 12 [o0, o1, o2] [.ref t0, .ref t0]) : Z g kJ19_hugeLength Q d cN sN M 11 [o0, o1, o2] [.ref t0] := by
  refine zi_dup dJ19_hugeLength_11 rfl ?_
  exact kk
theorem sJ19_hugeLength_15 {g : ZG} {Q : ZQ} {d cN sN : Nat} {M : ZM} {t0 : Nat} {t1 : Nat} {t2 : Nat} {o0 o1 o2 : Option Value}  (kk : Z g kJ19_hugeLength Q d cN sN M 16 [o0, o1, o2] [.ref t2, .ref t2, .ref t1, .ref t0]) : Z g kJ19_hugeLength Q d cN sN M 15 [o0, o1, o2] [.ref t2, .ref t1, .ref t0] := by
  refine zi_dup dJ19_hugeLength_15 rfl ?_
  exact kk
theorem sJ19_hugeLength_49 {g : ZG} {Q : ZQ} {d cN sN : Nat} {M : ZM} {l2 : Int32} {o0 o1 : Option Value}  (kk : Z g kJ19_hugeLength Q d cN sN M 50 [o0, o1, some (.int l2)] [.int l2]) : Z g kJ19_hugeLength Q d cN sN M 49 [o0, o1, some (.int l2)] [] := by
  refine zi_iload_n dJ19_hugeLength_49 rfl ?_
  exact kk
theorem sJ19_hugeLength_52 {g : ZG} {Q : ZQ} {d cN sN : Nat} {M : ZM} {t0 : Int32} {t1 : Int32} {o0 o1 o2 : Option Value}  (kt : (t1 : Int32) < (t0 : Int32) → Z g kJ19_hugeLength Q d cN sN M 58 [o0, o1, o2] []) (kf : ¬ (t1 : Int32) < (t0 : Int32) → Z g kJ19_hugeLength Q d cN sN M 55 [o0, o1, o2] []) : Z g kJ19_hugeLength Q d cN sN M 52 [o0, o1, o2] [.int t1, .int t0] := by
  exact zi_icmp_gt (tgt := 58) dJ19_hugeLength_52 (by decide +kernel) kt kf
theorem sJ19_hugeLength_57 {g : ZG} {Q : ZQ} {d cN sN : Nat} {M : ZM} {t0 : Int32} {o0 o1 o2 : Option Value}  (kk : Q.1 (some (.int t0)) M) : Z g kJ19_hugeLength Q d cN sN M 57 [o0, o1, o2] [.int t0] := by
  exact zi_ireturn dJ19_hugeLength_57 rfl rfl kk
theorem sJ19_hugeLength_58 {g : ZG} {Q : ZQ} {d cN sN : Nat} {M : ZM} {l2 : Int32} {o0 o1 : Option Value}  (kk : Q.1 (some (.int l2)) M) : Z g kJ19_hugeLength Q d cN sN M 58 [o0, o1, some (.int l2)] [] := by
  refine zi_iload_n dJ19_hugeLength_58 rfl ?_
  exact zi_ireturn dJ19_hugeLength_59 rfl rfl kk
/-! java/lang/StringLatin1 (printed by gen_m.py) -/
set_option maxRecDepth 100000
abbrev cJ21_inflate : ByteArray := prog_33_method_50_code
def yJ21_inflate : MethodName := ⟨RJ21, "inflate", "([BI[BII)V"⟩
def dkwJ21_inflate_0 : List UInt8 := [42, 27, 44, 29, 21, 4, 184, 0, 240, 177]
abbrev dktJ21_inflate_0 : List UInt8 := dkwJ21_inflate_0 ++ []
theorem dksJ21_inflate_0 : cJ21_inflate.data.toList.drop 0 = dktJ21_inflate_0 := by decide +kernel
theorem dJ21_inflate_0 : decode cJ21_inflate 0 = .ok (.aload_n 0, 1) := dk_42 (dk_at dksJ21_inflate_0 0 rfl rfl)
theorem dJ21_inflate_1 : decode cJ21_inflate 1 = .ok (.iload_n 1, 1) := dk_27 (dk_at dksJ21_inflate_0 1 rfl rfl)
theorem dJ21_inflate_2 : decode cJ21_inflate 2 = .ok (.aload_n 2, 1) := dk_44 (dk_at dksJ21_inflate_0 2 rfl rfl)
theorem dJ21_inflate_3 : decode cJ21_inflate 3 = .ok (.iload_n 3, 1) := dk_29 (dk_at dksJ21_inflate_0 3 rfl rfl)
theorem dJ21_inflate_4 : decode cJ21_inflate 4 = .ok (.iload 4, 2) := dk_21 4 (dk_at dksJ21_inflate_0 4 rfl rfl)
theorem dJ21_inflate_6 : decode cJ21_inflate 6 = .ok (.invokestatic 240, 3) := dk_184 0 240 (dk_at dksJ21_inflate_0 6 rfl rfl)
theorem dJ21_inflate_9 : decode cJ21_inflate 9 = .ok (.return_, 1) := dk_177 (dk_at dksJ21_inflate_0 9 rfl rfl)
abbrev cJ21_fillNull : ByteArray := prog_33_method_48_code
def yJ21_fillNull : MethodName := ⟨RJ21, "fillNull", "([BII)V"⟩
def dkwJ21_fillNull_0 : List UInt8 := [42, 27, 28, 3, 184, 0, 236, 177]
abbrev dktJ21_fillNull_0 : List UInt8 := dkwJ21_fillNull_0 ++ []
theorem dksJ21_fillNull_0 : cJ21_fillNull.data.toList.drop 0 = dktJ21_fillNull_0 := by decide +kernel
theorem dJ21_fillNull_0 : decode cJ21_fillNull 0 = .ok (.aload_n 0, 1) := dk_42 (dk_at dksJ21_fillNull_0 0 rfl rfl)
theorem dJ21_fillNull_1 : decode cJ21_fillNull 1 = .ok (.iload_n 1, 1) := dk_27 (dk_at dksJ21_fillNull_0 1 rfl rfl)
theorem dJ21_fillNull_2 : decode cJ21_fillNull 2 = .ok (.iload_n 2, 1) := dk_28 (dk_at dksJ21_fillNull_0 2 rfl rfl)
theorem dJ21_fillNull_3 : decode cJ21_fillNull 3 = .ok (.iconst 0, 1) := dk_3 (dk_at dksJ21_fillNull_0 3 rfl rfl)
theorem dJ21_fillNull_4 : decode cJ21_fillNull 4 = .ok (.invokestatic 236, 3) := dk_184 0 236 (dk_at dksJ21_fillNull_0 4 rfl rfl)
theorem dJ21_fillNull_7 : decode cJ21_fillNull 7 = .ok (.return_, 1) := dk_177 (dk_at dksJ21_fillNull_0 7 rfl rfl)
abbrev cJ21_canEncode : ByteArray := prog_33_method_3_code
def yJ21_canEncode : MethodName := ⟨RJ21, "canEncode", "(C)Z"⟩
def dkwJ21_canEncode_0 : List UInt8 := [26, 17, 0, 255, 163, 0, 7, 4, 167, 0, 4, 3, 172]
abbrev dktJ21_canEncode_0 : List UInt8 := dkwJ21_canEncode_0 ++ []
theorem dksJ21_canEncode_0 : cJ21_canEncode.data.toList.drop 0 = dktJ21_canEncode_0 := by decide +kernel
theorem dJ21_canEncode_0 : decode cJ21_canEncode 0 = .ok (.iload_n 0, 1) := dk_26 (dk_at dksJ21_canEncode_0 0 rfl rfl)
theorem dJ21_canEncode_1 : decode cJ21_canEncode 1 = .ok (.sipush 255, 3) := dk_17 0 255 (dk_at dksJ21_canEncode_0 1 rfl rfl)
theorem dJ21_canEncode_4 : decode cJ21_canEncode 4 = .ok (.if_icmp .gt 7, 3) := dk_163 0 7 (dk_at dksJ21_canEncode_0 4 rfl rfl)
theorem dJ21_canEncode_7 : decode cJ21_canEncode 7 = .ok (.iconst 1, 1) := dk_4 (dk_at dksJ21_canEncode_0 7 rfl rfl)
theorem dJ21_canEncode_8 : decode cJ21_canEncode 8 = .ok (.goto 4, 3) := dk_167 0 4 (dk_at dksJ21_canEncode_0 8 rfl rfl)
theorem dJ21_canEncode_11 : decode cJ21_canEncode 11 = .ok (.iconst 0, 1) := dk_3 (dk_at dksJ21_canEncode_0 11 rfl rfl)
theorem dJ21_canEncode_12 : decode cJ21_canEncode 12 = .ok (.ireturn, 1) := dk_172 (dk_at dksJ21_canEncode_0 12 rfl rfl)
def fJ21 : List ZE := []
theorem fokJ21 : zFok RJ21 fJ21 := fun _ h => by cases h
abbrev kJ21_inflate : ZK := (RJ21, cJ21_inflate, 5, (Option.none : Option Jvm.ClassFile.FieldType), [], false, fJ21)
abbrev tJ21_inflate (g : ZG) (args : List Value) (M : ZM) (d c s : Nat) (Q : ZQ) : Prop := Ct g yJ21_inflate (ws_ yJ21_inflate cJ21_inflate 5 (Option.none : Option Jvm.ClassFile.FieldType)) args M d c s Q
abbrev nJ21_inflate : Nat := 10
theorem mJ21_inflate : zMok yJ21_inflate 5 5 := ⟨⟨by decide +kernel, by decide +kernel, by decide +kernel⟩, by decide⟩
theorem eJ21_inflate {g : ZG} {Q : ZQ} {d cN sN : Nat} {M : ZM} {v1 : Value} (hv1 : v1.category = 1) {x2 : Int32} {v3 : Value} (hv3 : v3.category = 1) {x4 : Int32} {x5 : Int32} (hV : zV g) (h : Z g kJ21_inflate Q d cN sN M 0 [some (v1), some (.int x2), some (v3), some (.int x4), some (.int x5)] []) : tJ21_inflate g [v1, .int x2, v3, .int x4, .int x5] M d cN sN Q := Ct.of (K := kJ21_inflate) rfl (by decide +kernel) hV fokJ21 rfl (fun h => by cases h) (fun v hv => by simp only [List.mem_cons, List.not_mem_nil, or_false] at hv; rcases hv with rfl | rfl | rfl | rfl | rfl <;> first | rfl | assumption) (Nat.le_of_ble_eq_true rfl) h
theorem sJ21_inflate_0 {g : ZG} {Q : ZQ} {d cN sN : Nat} {M : ZM} {l0 : Nat} {l1 : Int32} {l2 : Nat} {l3 : Int32} {l4 : Int32}  (kk : Z g kJ21_inflate Q d cN sN M 6 [some (.ref l0), some (.int l1), some (.ref l2), some (.int l3), some (.int l4)] [.int l4, .int l3, .ref l2, .int l1, .ref l0]) : Z g kJ21_inflate Q d cN sN M 0 [some (.ref l0), some (.int l1), some (.ref l2), some (.int l3), some (.int l4)] [] := by
  refine zi_aload_n dJ21_inflate_0 rfl zrf_r ?_
  refine zi_iload_n dJ21_inflate_1 rfl ?_
  refine zi_aload_n dJ21_inflate_2 rfl zrf_r ?_
  refine zi_iload_n dJ21_inflate_3 rfl ?_
  refine zi_iload dJ21_inflate_4 rfl ?_
  exact kk
theorem sJ21_inflate_9 {g : ZG} {Q : ZQ} {d cN sN : Nat} {M : ZM} {o0 o1 o2 o3 o4 : Option Value}  (kk : Q.1 none M) : Z g kJ21_inflate Q d cN sN M 9 [o0, o1, o2, o3, o4] [] := by
  exact zi_return dJ21_inflate_9 rfl kk
abbrev kJ21_fillNull : ZK := (RJ21, cJ21_fillNull, 3, (Option.none : Option Jvm.ClassFile.FieldType), [], false, fJ21)
abbrev tJ21_fillNull (g : ZG) (args : List Value) (M : ZM) (d c s : Nat) (Q : ZQ) : Prop := Ct g yJ21_fillNull (ws_ yJ21_fillNull cJ21_fillNull 3 (Option.none : Option Jvm.ClassFile.FieldType)) args M d c s Q
abbrev nJ21_fillNull : Nat := 19
theorem mJ21_fillNull : zMok yJ21_fillNull 3 3 := ⟨⟨by decide +kernel, by decide +kernel, by decide +kernel⟩, by decide⟩
theorem eJ21_fillNull {g : ZG} {Q : ZQ} {d cN sN : Nat} {M : ZM} {v1 : Value} (hv1 : v1.category = 1) {x2 : Int32} {x3 : Int32} (hV : zV g) (h : Z g kJ21_fillNull Q d cN sN M 0 [some (v1), some (.int x2), some (.int x3)] []) : tJ21_fillNull g [v1, .int x2, .int x3] M d cN sN Q := Ct.of (K := kJ21_fillNull) rfl (by decide +kernel) hV fokJ21 rfl (fun h => by cases h) (fun v hv => by simp only [List.mem_cons, List.not_mem_nil, or_false] at hv; rcases hv with rfl | rfl | rfl <;> first | rfl | assumption) (Nat.le_of_ble_eq_true rfl) h
theorem sJ21_fillNull_0 {g : ZG} {Q : ZQ} {d cN sN : Nat} {M : ZM} {l0 : Nat} {l1 : Int32} {l2 : Int32}  (kk : Z g kJ21_fillNull Q d cN sN M 4 [some (.ref l0), some (.int l1), some (.int l2)] [.int 0, .int l2, .int l1, .ref l0]) : Z g kJ21_fillNull Q d cN sN M 0 [some (.ref l0), some (.int l1), some (.int l2)] [] := by
  refine zi_aload_n dJ21_fillNull_0 rfl zrf_r ?_
  refine zi_iload_n dJ21_fillNull_1 rfl ?_
  refine zi_iload_n dJ21_fillNull_2 rfl ?_
  refine zi_iconst dJ21_fillNull_3 (by decide +kernel : Int32.ofInt (0) = (0 : Int32)) ?_
  exact kk
theorem sJ21_fillNull_7 {g : ZG} {Q : ZQ} {d cN sN : Nat} {M : ZM} {o0 o1 o2 : Option Value}  (kk : Q.1 none M) : Z g kJ21_fillNull Q d cN sN M 7 [o0, o1, o2] [] := by
  exact zi_return dJ21_fillNull_7 rfl kk
abbrev kJ21_canEncode : ZK := (RJ21, cJ21_canEncode, 1, (Option.some Jvm.ClassFile.FieldType.boolean), [], false, fJ21)
abbrev tJ21_canEncode (g : ZG) (args : List Value) (M : ZM) (d c s : Nat) (Q : ZQ) : Prop := Ct g yJ21_canEncode (ws_ yJ21_canEncode cJ21_canEncode 1 (Option.some Jvm.ClassFile.FieldType.boolean)) args M d c s Q
abbrev nJ21_canEncode : Nat := 1
theorem mJ21_canEncode : zMok yJ21_canEncode 1 1 := ⟨⟨by decide +kernel, by decide +kernel, by decide +kernel⟩, by decide⟩
theorem eJ21_canEncode {g : ZG} {Q : ZQ} {d cN sN : Nat} {M : ZM} {x1 : Int32} (hV : zV g) (h : Z g kJ21_canEncode Q d cN sN M 0 [some (.int x1)] []) : tJ21_canEncode g [.int x1] M d cN sN Q := Ct.of (K := kJ21_canEncode) rfl (by decide +kernel) hV fokJ21 rfl (fun h => by cases h) (fun v hv => by simp only [List.mem_cons, List.not_mem_nil, or_false] at hv; rcases hv with rfl <;> first | rfl | assumption) (Nat.le_of_ble_eq_true rfl) h
theorem sJ21_canEncode_0 {g : ZG} {Q : ZQ} {d cN sN : Nat} {M : ZM} {l0 : Int32}  (kt : (255 : Int32) < (l0 : Int32) → Z g kJ21_canEncode Q d cN sN M 11 [some (.int l0)] []) (kf : ¬ (255 : Int32) < (l0 : Int32) → Z g kJ21_canEncode Q d cN sN M 7 [some (.int l0)] []) : Z g kJ21_canEncode Q d cN sN M 0 [some (.int l0)] [] := by
  refine zi_iload_n dJ21_canEncode_0 rfl ?_
  refine zi_sipush dJ21_canEncode_1 (by decide +kernel : (Int16.ofInt (255)).toInt32 = (255 : Int32)) ?_
  exact zi_icmp_gt (tgt := 11) dJ21_canEncode_4 (by decide +kernel) kt kf
theorem sJ21_canEncode_7 {g : ZG} {Q : ZQ} {d cN sN : Nat} {M : ZM} {o0 : Option Value}  (kk : Z g kJ21_canEncode Q d cN sN M 12 [o0] [.int 1]) : Z g kJ21_canEncode Q d cN sN M 7 [o0] [] := by
  refine zi_iconst dJ21_canEncode_7 (by decide +kernel : Int32.ofInt (1) = (1 : Int32)) ?_
  exact zi_goto (tgt := 12) dJ21_canEncode_8 (by decide +kernel) kk
theorem sJ21_canEncode_11 {g : ZG} {Q : ZQ} {d cN sN : Nat} {M : ZM} {o0 : Option Value}  (kk : Z g kJ21_canEncode Q d cN sN M 12 [o0] [.int 0]) : Z g kJ21_canEncode Q d cN sN M 11 [o0] [] := by
  refine zi_iconst dJ21_canEncode_11 (by decide +kernel : Int32.ofInt (0) = (0 : Int32)) ?_
  exact kk
theorem sJ21_canEncode_12 {g : ZG} {Q : ZQ} {d cN sN : Nat} {M : ZM} {t0 : Int32} {o0 : Option Value} (h1 : t0 = 0 ∨ t0 = 1) (kk : Q.1 (some (.int t0)) M) : Z g kJ21_canEncode Q d cN sN M 12 [o0] [.int t0] := by
  exact zi_ireturn dJ21_canEncode_12 rfl (znar_z h1) kk
