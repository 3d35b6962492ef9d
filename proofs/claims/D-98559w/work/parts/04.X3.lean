/-! decode rows of X3 -/
set_option maxRecDepth 100000
abbrev cX3_init : ByteArray := prog_11_method_1_code
def yX3_init : MethodName := ⟨RX3, "<init>", "()V"⟩
def dkwX3_init_0 : List UInt8 := [42, 183, 0, 3, 42, 17, 1, 144, 188, 8, 181, 0, 9, 42, 2, 181, 0, 15, 177]
abbrev dktX3_init_0 : List UInt8 := dkwX3_init_0 ++ []
theorem dksX3_init_0 : cX3_init.data.toList.drop 0 = dktX3_init_0 := by decide +kernel
theorem dX3_init_0 : decode cX3_init 0 = .ok (.aload_n 0, 1) := dk_42 (dk_at dksX3_init_0 0 rfl rfl)
theorem dX3_init_1 : decode cX3_init 1 = .ok (.invokespecial 3, 3) := dk_183 0 3 (dk_at dksX3_init_0 1 rfl rfl)
theorem dX3_init_4 : decode cX3_init 4 = .ok (.aload_n 0, 1) := dk_42 (dk_at dksX3_init_0 4 rfl rfl)
theorem dX3_init_5 : decode cX3_init 5 = .ok (.sipush 400, 3) := dk_17 1 144 (dk_at dksX3_init_0 5 rfl rfl)
theorem dX3_init_8 : decode cX3_init 8 = .ok (.newarray .byte, 2) := dk_188_8 (dk_at dksX3_init_0 8 rfl rfl)
theorem dX3_init_10 : decode cX3_init 10 = .ok (.putfield 9, 3) := dk_181 0 9 (dk_at dksX3_init_0 10 rfl rfl)
theorem dX3_init_13 : decode cX3_init 13 = .ok (.aload_n 0, 1) := dk_42 (dk_at dksX3_init_0 13 rfl rfl)
theorem dX3_init_14 : decode cX3_init 14 = .ok (.iconst (-1), 1) := dk_2 (dk_at dksX3_init_0 14 rfl rfl)
theorem dX3_init_15 : decode cX3_init 15 = .ok (.putfield 15, 3) := dk_181 0 15 (dk_at dksX3_init_0 15 rfl rfl)
theorem dX3_init_18 : decode cX3_init 18 = .ok (.return_, 1) := dk_177 (dk_at dksX3_init_0 18 rfl rfl)
abbrev cX3_add : ByteArray := prog_11_method_2_code
def yX3_add : MethodName := ⟨RX3, "add", "([I)I"⟩
def dkwX3_add_3 : List UInt8 := [132, 6, 248, 167, 255, 223, 132, 4, 1, 167, 255, 201, 42, 180, 0, 19, 172]
abbrev dktX3_add_3 : List UInt8 := dkwX3_add_3 ++ []
def dkwX3_add_2 : List UInt8 := [180, 0, 9, 42, 180, 0, 19, 21, 5, 21, 6, 122, 145, 84, 42, 89, 180, 0, 19, 4, 96, 181, 0, 19]
abbrev dktX3_add_2 : List UInt8 := dkwX3_add_2 ++ dktX3_add_3
def dkwX3_add_1 : List UInt8 := [21, 4, 29, 162, 0, 55, 44, 21, 4, 46, 54, 5, 16, 24, 54, 6, 21, 6, 155, 0, 34, 42]
abbrev dktX3_add_1 : List UInt8 := dkwX3_add_1 ++ dktX3_add_2
def dkwX3_add_0 : List UInt8 := [42, 180, 0, 19, 16, 20, 96, 17, 1, 144, 164, 0, 5, 2, 172, 43, 77, 44, 190, 62, 3, 54, 4]
abbrev dktX3_add_0 : List UInt8 := dkwX3_add_0 ++ dktX3_add_1
theorem dksX3_add_0 : cX3_add.data.toList.drop 0 = dktX3_add_0 := by decide +kernel
theorem dksX3_add_1 : cX3_add.data.toList.drop 23 = dktX3_add_1 := dk_seg dksX3_add_0 23 rfl rfl
theorem dksX3_add_2 : cX3_add.data.toList.drop 45 = dktX3_add_2 := dk_seg dksX3_add_1 22 rfl rfl
theorem dksX3_add_3 : cX3_add.data.toList.drop 69 = dktX3_add_3 := dk_seg dksX3_add_2 24 rfl rfl
theorem dX3_add_0 : decode cX3_add 0 = .ok (.aload_n 0, 1) := dk_42 (dk_at dksX3_add_0 0 rfl rfl)
theorem dX3_add_1 : decode cX3_add 1 = .ok (.getfield 19, 3) := dk_180 0 19 (dk_at dksX3_add_0 1 rfl rfl)
theorem dX3_add_4 : decode cX3_add 4 = .ok (.bipush 20, 2) := dk_16 20 (dk_at dksX3_add_0 4 rfl rfl)
theorem dX3_add_6 : decode cX3_add 6 = .ok (.iadd, 1) := dk_96 (dk_at dksX3_add_0 6 rfl rfl)
theorem dX3_add_7 : decode cX3_add 7 = .ok (.sipush 400, 3) := dk_17 1 144 (dk_at dksX3_add_0 7 rfl rfl)
theorem dX3_add_10 : decode cX3_add 10 = .ok (.if_icmp .le 5, 3) := dk_164 0 5 (dk_at dksX3_add_0 10 rfl rfl)
theorem dX3_add_13 : decode cX3_add 13 = .ok (.iconst (-1), 1) := dk_2 (dk_at dksX3_add_0 13 rfl rfl)
theorem dX3_add_14 : decode cX3_add 14 = .ok (.ireturn, 1) := dk_172 (dk_at dksX3_add_0 14 rfl rfl)
theorem dX3_add_15 : decode cX3_add 15 = .ok (.aload_n 1, 1) := dk_43 (dk_at dksX3_add_0 15 rfl rfl)
theorem dX3_add_16 : decode cX3_add 16 = .ok (.astore_n 2, 1) := dk_77 (dk_at dksX3_add_0 16 rfl rfl)
theorem dX3_add_17 : decode cX3_add 17 = .ok (.aload_n 2, 1) := dk_44 (dk_at dksX3_add_0 17 rfl rfl)
theorem dX3_add_18 : decode cX3_add 18 = .ok (.arraylength, 1) := dk_190 (dk_at dksX3_add_0 18 rfl rfl)
theorem dX3_add_19 : decode cX3_add 19 = .ok (.istore_n 3, 1) := dk_62 (dk_at dksX3_add_0 19 rfl rfl)
theorem dX3_add_20 : decode cX3_add 20 = .ok (.iconst 0, 1) := dk_3 (dk_at dksX3_add_0 20 rfl rfl)
theorem dX3_add_21 : decode cX3_add 21 = .ok (.istore 4, 2) := dk_54 4 (dk_at dksX3_add_0 21 rfl rfl)
theorem dX3_add_23 : decode cX3_add 23 = .ok (.iload 4, 2) := dk_21 4 (dk_at dksX3_add_1 0 rfl rfl)
theorem dX3_add_25 : decode cX3_add 25 = .ok (.iload_n 3, 1) := dk_29 (dk_at dksX3_add_1 2 rfl rfl)
theorem dX3_add_26 : decode cX3_add 26 = .ok (.if_icmp .ge 55, 3) := dk_162 0 55 (dk_at dksX3_add_1 3 rfl rfl)
theorem dX3_add_29 : decode cX3_add 29 = .ok (.aload_n 2, 1) := dk_44 (dk_at dksX3_add_1 6 rfl rfl)
theorem dX3_add_30 : decode cX3_add 30 = .ok (.iload 4, 2) := dk_21 4 (dk_at dksX3_add_1 7 rfl rfl)
theorem dX3_add_32 : decode cX3_add 32 = .ok (.iaload, 1) := dk_46 (dk_at dksX3_add_1 9 rfl rfl)
theorem dX3_add_33 : decode cX3_add 33 = .ok (.istore 5, 2) := dk_54 5 (dk_at dksX3_add_1 10 rfl rfl)
theorem dX3_add_35 : decode cX3_add 35 = .ok (.bipush 24, 2) := dk_16 24 (dk_at dksX3_add_1 12 rfl rfl)
theorem dX3_add_37 : decode cX3_add 37 = .ok (.istore 6, 2) := dk_54 6 (dk_at dksX3_add_1 14 rfl rfl)
theorem dX3_add_39 : decode cX3_add 39 = .ok (.iload 6, 2) := dk_21 6 (dk_at dksX3_add_1 16 rfl rfl)
theorem dX3_add_41 : decode cX3_add 41 = .ok (.ifCond .lt 34, 3) := dk_155 0 34 (dk_at dksX3_add_1 18 rfl rfl)
theorem dX3_add_44 : decode cX3_add 44 = .ok (.aload_n 0, 1) := dk_42 (dk_at dksX3_add_1 21 rfl rfl)
theorem dX3_add_45 : decode cX3_add 45 = .ok (.getfield 9, 3) := dk_180 0 9 (dk_at dksX3_add_2 0 rfl rfl)
theorem dX3_add_48 : decode cX3_add 48 = .ok (.aload_n 0, 1) := dk_42 (dk_at dksX3_add_2 3 rfl rfl)
theorem dX3_add_49 : decode cX3_add 49 = .ok (.getfield 19, 3) := dk_180 0 19 (dk_at dksX3_add_2 4 rfl rfl)
theorem dX3_add_52 : decode cX3_add 52 = .ok (.iload 5, 2) := dk_21 5 (dk_at dksX3_add_2 7 rfl rfl)
theorem dX3_add_54 : decode cX3_add 54 = .ok (.iload 6, 2) := dk_21 6 (dk_at dksX3_add_2 9 rfl rfl)
theorem dX3_add_56 : decode cX3_add 56 = .ok (.ishr, 1) := dk_122 (dk_at dksX3_add_2 11 rfl rfl)
theorem dX3_add_57 : decode cX3_add 57 = .ok (.i2b, 1) := dk_145 (dk_at dksX3_add_2 12 rfl rfl)
theorem dX3_add_58 : decode cX3_add 58 = .ok (.bastore, 1) := dk_84 (dk_at dksX3_add_2 13 rfl rfl)
theorem dX3_add_59 : decode cX3_add 59 = .ok (.aload_n 0, 1) := dk_42 (dk_at dksX3_add_2 14 rfl rfl)
theorem dX3_add_60 : decode cX3_add 60 = .ok (.dup, 1) := dk_89 (dk_at dksX3_add_2 15 rfl rfl)
theorem dX3_add_61 : decode cX3_add 61 = .ok (.getfield 19, 3) := dk_180 0 19 (dk_at dksX3_add_2 16 rfl rfl)
theorem dX3_add_64 : decode cX3_add 64 = .ok (.iconst 1, 1) := dk_4 (dk_at dksX3_add_2 19 rfl rfl)
theorem dX3_add_65 : decode cX3_add 65 = .ok (.iadd, 1) := dk_96 (dk_at dksX3_add_2 20 rfl rfl)
theorem dX3_add_66 : decode cX3_add 66 = .ok (.putfield 19, 3) := dk_181 0 19 (dk_at dksX3_add_2 21 rfl rfl)
theorem dX3_add_69 : decode cX3_add 69 = .ok (.iinc 6 (-8), 3) := dk_132 6 248 (dk_at dksX3_add_3 0 rfl rfl)
theorem dX3_add_72 : decode cX3_add 72 = .ok (.goto (-33), 3) := dk_167 255 223 (dk_at dksX3_add_3 3 rfl rfl)
theorem dX3_add_75 : decode cX3_add 75 = .ok (.iinc 4 1, 3) := dk_132 4 1 (dk_at dksX3_add_3 6 rfl rfl)
theorem dX3_add_78 : decode cX3_add 78 = .ok (.goto (-55), 3) := dk_167 255 201 (dk_at dksX3_add_3 9 rfl rfl)
theorem dX3_add_81 : decode cX3_add 81 = .ok (.aload_n 0, 1) := dk_42 (dk_at dksX3_add_3 12 rfl rfl)
theorem dX3_add_82 : decode cX3_add 82 = .ok (.getfield 19, 3) := dk_180 0 19 (dk_at dksX3_add_3 13 rfl rfl)
theorem dX3_add_85 : decode cX3_add 85 = .ok (.ireturn, 1) := dk_172 (dk_at dksX3_add_3 16 rfl rfl)
abbrev cX3_cut : ByteArray := prog_11_method_3_code
def yX3_cut : MethodName := ⟨RX3, "cut", "(I)Z"⟩
def dkwX3_cut_0 : List UInt8 := [27, 155, 0, 11, 27, 42, 180, 0, 19, 164, 0, 5, 3, 172, 42, 27, 181, 0, 19, 4, 172]
abbrev dktX3_cut_0 : List UInt8 := dkwX3_cut_0 ++ []
theorem dksX3_cut_0 : cX3_cut.data.toList.drop 0 = dktX3_cut_0 := by decide +kernel
theorem dX3_cut_0 : decode cX3_cut 0 = .ok (.iload_n 1, 1) := dk_27 (dk_at dksX3_cut_0 0 rfl rfl)
theorem dX3_cut_1 : decode cX3_cut 1 = .ok (.ifCond .lt 11, 3) := dk_155 0 11 (dk_at dksX3_cut_0 1 rfl rfl)
theorem dX3_cut_4 : decode cX3_cut 4 = .ok (.iload_n 1, 1) := dk_27 (dk_at dksX3_cut_0 4 rfl rfl)
theorem dX3_cut_5 : decode cX3_cut 5 = .ok (.aload_n 0, 1) := dk_42 (dk_at dksX3_cut_0 5 rfl rfl)
theorem dX3_cut_6 : decode cX3_cut 6 = .ok (.getfield 19, 3) := dk_180 0 19 (dk_at dksX3_cut_0 6 rfl rfl)
theorem dX3_cut_9 : decode cX3_cut 9 = .ok (.if_icmp .le 5, 3) := dk_164 0 5 (dk_at dksX3_cut_0 9 rfl rfl)
theorem dX3_cut_12 : decode cX3_cut 12 = .ok (.iconst 0, 1) := dk_3 (dk_at dksX3_cut_0 12 rfl rfl)
theorem dX3_cut_13 : decode cX3_cut 13 = .ok (.ireturn, 1) := dk_172 (dk_at dksX3_cut_0 13 rfl rfl)
theorem dX3_cut_14 : decode cX3_cut 14 = .ok (.aload_n 0, 1) := dk_42 (dk_at dksX3_cut_0 14 rfl rfl)
theorem dX3_cut_15 : decode cX3_cut 15 = .ok (.iload_n 1, 1) := dk_27 (dk_at dksX3_cut_0 15 rfl rfl)
theorem dX3_cut_16 : decode cX3_cut 16 = .ok (.putfield 19, 3) := dk_181 0 19 (dk_at dksX3_cut_0 16 rfl rfl)
theorem dX3_cut_19 : decode cX3_cut 19 = .ok (.iconst 1, 1) := dk_4 (dk_at dksX3_cut_0 19 rfl rfl)
theorem dX3_cut_20 : decode cX3_cut 20 = .ok (.ireturn, 1) := dk_172 (dk_at dksX3_cut_0 20 rfl rfl)
abbrev cX3_begins : ByteArray := prog_11_method_4_code
def yX3_begins : MethodName := ⟨RX3, "begins", "()V"⟩
def dkwX3_begins_0 : List UInt8 := [42, 42, 180, 0, 19, 181, 0, 22, 42, 3, 181, 0, 19, 42, 3, 181, 0, 25, 42, 3, 181, 0, 28, 177]
abbrev dktX3_begins_0 : List UInt8 := dkwX3_begins_0 ++ []
theorem dksX3_begins_0 : cX3_begins.data.toList.drop 0 = dktX3_begins_0 := by decide +kernel
theorem dX3_begins_0 : decode cX3_begins 0 = .ok (.aload_n 0, 1) := dk_42 (dk_at dksX3_begins_0 0 rfl rfl)
theorem dX3_begins_1 : decode cX3_begins 1 = .ok (.aload_n 0, 1) := dk_42 (dk_at dksX3_begins_0 1 rfl rfl)
theorem dX3_begins_2 : decode cX3_begins 2 = .ok (.getfield 19, 3) := dk_180 0 19 (dk_at dksX3_begins_0 2 rfl rfl)
theorem dX3_begins_5 : decode cX3_begins 5 = .ok (.putfield 22, 3) := dk_181 0 22 (dk_at dksX3_begins_0 5 rfl rfl)
theorem dX3_begins_8 : decode cX3_begins 8 = .ok (.aload_n 0, 1) := dk_42 (dk_at dksX3_begins_0 8 rfl rfl)
theorem dX3_begins_9 : decode cX3_begins 9 = .ok (.iconst 0, 1) := dk_3 (dk_at dksX3_begins_0 9 rfl rfl)
theorem dX3_begins_10 : decode cX3_begins 10 = .ok (.putfield 19, 3) := dk_181 0 19 (dk_at dksX3_begins_0 10 rfl rfl)
theorem dX3_begins_13 : decode cX3_begins 13 = .ok (.aload_n 0, 1) := dk_42 (dk_at dksX3_begins_0 13 rfl rfl)
theorem dX3_begins_14 : decode cX3_begins 14 = .ok (.iconst 0, 1) := dk_3 (dk_at dksX3_begins_0 14 rfl rfl)
theorem dX3_begins_15 : decode cX3_begins 15 = .ok (.putfield 25, 3) := dk_181 0 25 (dk_at dksX3_begins_0 15 rfl rfl)
theorem dX3_begins_18 : decode cX3_begins 18 = .ok (.aload_n 0, 1) := dk_42 (dk_at dksX3_begins_0 18 rfl rfl)
theorem dX3_begins_19 : decode cX3_begins 19 = .ok (.iconst 0, 1) := dk_3 (dk_at dksX3_begins_0 19 rfl rfl)
theorem dX3_begins_20 : decode cX3_begins 20 = .ok (.putfield 28, 3) := dk_181 0 28 (dk_at dksX3_begins_0 20 rfl rfl)
theorem dX3_begins_23 : decode cX3_begins 23 = .ok (.return_, 1) := dk_177 (dk_at dksX3_begins_0 23 rfl rfl)
abbrev cX3_isOver : ByteArray := prog_11_method_7_code
def yX3_isOver : MethodName := ⟨RX3, "isOver", "()Z"⟩
def dkwX3_isOver_0 : List UInt8 := [42, 182, 0, 38, 42, 180, 0, 25, 42, 180, 0, 22, 160, 0, 7, 4, 167, 0, 4, 3, 172]
abbrev dktX3_isOver_0 : List UInt8 := dkwX3_isOver_0 ++ []
theorem dksX3_isOver_0 : cX3_isOver.data.toList.drop 0 = dktX3_isOver_0 := by decide +kernel
theorem dX3_isOver_0 : decode cX3_isOver 0 = .ok (.aload_n 0, 1) := dk_42 (dk_at dksX3_isOver_0 0 rfl rfl)
theorem dX3_isOver_1 : decode cX3_isOver 1 = .ok (.invokevirtual 38, 3) := dk_182 0 38 (dk_at dksX3_isOver_0 1 rfl rfl)
theorem dX3_isOver_4 : decode cX3_isOver 4 = .ok (.aload_n 0, 1) := dk_42 (dk_at dksX3_isOver_0 4 rfl rfl)
theorem dX3_isOver_5 : decode cX3_isOver 5 = .ok (.getfield 25, 3) := dk_180 0 25 (dk_at dksX3_isOver_0 5 rfl rfl)
theorem dX3_isOver_8 : decode cX3_isOver 8 = .ok (.aload_n 0, 1) := dk_42 (dk_at dksX3_isOver_0 8 rfl rfl)
theorem dX3_isOver_9 : decode cX3_isOver 9 = .ok (.getfield 22, 3) := dk_180 0 22 (dk_at dksX3_isOver_0 9 rfl rfl)
theorem dX3_isOver_12 : decode cX3_isOver 12 = .ok (.if_icmp .ne 7, 3) := dk_160 0 7 (dk_at dksX3_isOver_0 12 rfl rfl)
theorem dX3_isOver_15 : decode cX3_isOver 15 = .ok (.iconst 1, 1) := dk_4 (dk_at dksX3_isOver_0 15 rfl rfl)
theorem dX3_isOver_16 : decode cX3_isOver 16 = .ok (.goto 4, 3) := dk_167 0 4 (dk_at dksX3_isOver_0 16 rfl rfl)
theorem dX3_isOver_19 : decode cX3_isOver 19 = .ok (.iconst 0, 1) := dk_3 (dk_at dksX3_isOver_0 19 rfl rfl)
theorem dX3_isOver_20 : decode cX3_isOver 20 = .ok (.ireturn, 1) := dk_172 (dk_at dksX3_isOver_0 20 rfl rfl)
abbrev cX3_blanks : ByteArray := prog_11_method_6_code
def yX3_blanks : MethodName := ⟨RX3, "blanks", "()V"⟩
def dkwX3_blanks_1 : List UInt8 := [167, 255, 233, 42, 42, 180, 0, 25, 181, 0, 35, 177]
abbrev dktX3_blanks_1 : List UInt8 := dkwX3_blanks_1 ++ []
def dkwX3_blanks_0 : List UInt8 := [42, 42, 180, 0, 25, 182, 0, 31, 16, 32, 160, 0, 16, 42, 89, 180, 0, 25, 4, 96, 181, 0, 25]
abbrev dktX3_blanks_0 : List UInt8 := dkwX3_blanks_0 ++ dktX3_blanks_1
theorem dksX3_blanks_0 : cX3_blanks.data.toList.drop 0 = dktX3_blanks_0 := by decide +kernel
theorem dksX3_blanks_1 : cX3_blanks.data.toList.drop 23 = dktX3_blanks_1 := dk_seg dksX3_blanks_0 23 rfl rfl
theorem dX3_blanks_0 : decode cX3_blanks 0 = .ok (.aload_n 0, 1) := dk_42 (dk_at dksX3_blanks_0 0 rfl rfl)
theorem dX3_blanks_1 : decode cX3_blanks 1 = .ok (.aload_n 0, 1) := dk_42 (dk_at dksX3_blanks_0 1 rfl rfl)
theorem dX3_blanks_2 : decode cX3_blanks 2 = .ok (.getfield 25, 3) := dk_180 0 25 (dk_at dksX3_blanks_0 2 rfl rfl)
theorem dX3_blanks_5 : decode cX3_blanks 5 = .ok (.invokevirtual 31, 3) := dk_182 0 31 (dk_at dksX3_blanks_0 5 rfl rfl)
theorem dX3_blanks_8 : decode cX3_blanks 8 = .ok (.bipush 32, 2) := dk_16 32 (dk_at dksX3_blanks_0 8 rfl rfl)
theorem dX3_blanks_10 : decode cX3_blanks 10 = .ok (.if_icmp .ne 16, 3) := dk_160 0 16 (dk_at dksX3_blanks_0 10 rfl rfl)
theorem dX3_blanks_13 : decode cX3_blanks 13 = .ok (.aload_n 0, 1) := dk_42 (dk_at dksX3_blanks_0 13 rfl rfl)
theorem dX3_blanks_14 : decode cX3_blanks 14 = .ok (.dup, 1) := dk_89 (dk_at dksX3_blanks_0 14 rfl rfl)
theorem dX3_blanks_15 : decode cX3_blanks 15 = .ok (.getfield 25, 3) := dk_180 0 25 (dk_at dksX3_blanks_0 15 rfl rfl)
theorem dX3_blanks_18 : decode cX3_blanks 18 = .ok (.iconst 1, 1) := dk_4 (dk_at dksX3_blanks_0 18 rfl rfl)
theorem dX3_blanks_19 : decode cX3_blanks 19 = .ok (.iadd, 1) := dk_96 (dk_at dksX3_blanks_0 19 rfl rfl)
theorem dX3_blanks_20 : decode cX3_blanks 20 = .ok (.putfield 25, 3) := dk_181 0 25 (dk_at dksX3_blanks_0 20 rfl rfl)
theorem dX3_blanks_23 : decode cX3_blanks 23 = .ok (.goto (-23), 3) := dk_167 255 233 (dk_at dksX3_blanks_1 0 rfl rfl)
theorem dX3_blanks_26 : decode cX3_blanks 26 = .ok (.aload_n 0, 1) := dk_42 (dk_at dksX3_blanks_1 3 rfl rfl)
theorem dX3_blanks_27 : decode cX3_blanks 27 = .ok (.aload_n 0, 1) := dk_42 (dk_at dksX3_blanks_1 4 rfl rfl)
theorem dX3_blanks_28 : decode cX3_blanks 28 = .ok (.getfield 25, 3) := dk_180 0 25 (dk_at dksX3_blanks_1 5 rfl rfl)
theorem dX3_blanks_31 : decode cX3_blanks 31 = .ok (.putfield 35, 3) := dk_181 0 35 (dk_at dksX3_blanks_1 8 rfl rfl)
theorem dX3_blanks_34 : decode cX3_blanks 34 = .ok (.return_, 1) := dk_177 (dk_at dksX3_blanks_1 11 rfl rfl)
abbrev cX3_byteAt : ByteArray := prog_11_method_5_code
def yX3_byteAt : MethodName := ⟨RX3, "byteAt", "(I)I"⟩
def dkwX3_byteAt_0 : List UInt8 := [27, 42, 180, 0, 22, 162, 0, 12, 42, 180, 0, 9, 27, 51, 167, 0, 4, 2, 172]
abbrev dktX3_byteAt_0 : List UInt8 := dkwX3_byteAt_0 ++ []
theorem dksX3_byteAt_0 : cX3_byteAt.data.toList.drop 0 = dktX3_byteAt_0 := by decide +kernel
theorem dX3_byteAt_0 : decode cX3_byteAt 0 = .ok (.iload_n 1, 1) := dk_27 (dk_at dksX3_byteAt_0 0 rfl rfl)
theorem dX3_byteAt_1 : decode cX3_byteAt 1 = .ok (.aload_n 0, 1) := dk_42 (dk_at dksX3_byteAt_0 1 rfl rfl)
theorem dX3_byteAt_2 : decode cX3_byteAt 2 = .ok (.getfield 22, 3) := dk_180 0 22 (dk_at dksX3_byteAt_0 2 rfl rfl)
theorem dX3_byteAt_5 : decode cX3_byteAt 5 = .ok (.if_icmp .ge 12, 3) := dk_162 0 12 (dk_at dksX3_byteAt_0 5 rfl rfl)
theorem dX3_byteAt_8 : decode cX3_byteAt 8 = .ok (.aload_n 0, 1) := dk_42 (dk_at dksX3_byteAt_0 8 rfl rfl)
theorem dX3_byteAt_9 : decode cX3_byteAt 9 = .ok (.getfield 9, 3) := dk_180 0 9 (dk_at dksX3_byteAt_0 9 rfl rfl)
theorem dX3_byteAt_12 : decode cX3_byteAt 12 = .ok (.iload_n 1, 1) := dk_27 (dk_at dksX3_byteAt_0 12 rfl rfl)
theorem dX3_byteAt_13 : decode cX3_byteAt 13 = .ok (.baload, 1) := dk_51 (dk_at dksX3_byteAt_0 13 rfl rfl)
theorem dX3_byteAt_14 : decode cX3_byteAt 14 = .ok (.goto 4, 3) := dk_167 0 4 (dk_at dksX3_byteAt_0 14 rfl rfl)
theorem dX3_byteAt_17 : decode cX3_byteAt 17 = .ok (.iconst (-1), 1) := dk_2 (dk_at dksX3_byteAt_0 17 rfl rfl)
theorem dX3_byteAt_18 : decode cX3_byteAt 18 = .ok (.ireturn, 1) := dk_172 (dk_at dksX3_byteAt_0 18 rfl rfl)
abbrev cX3_word : ByteArray := prog_11_method_8_code
def yX3_word : MethodName := ⟨RX3, "word", "()Ljava/lang/String;"⟩
def dkwX3_word_3 : List UInt8 := [167, 255, 233, 43, 182, 0, 52, 176]
abbrev dktX3_word_3 : List UInt8 := dkwX3_word_3 ++ []
def dkwX3_word_2 : List UInt8 := [28, 42, 180, 0, 25, 162, 0, 21, 43, 42, 180, 0, 9, 28, 51, 146, 182, 0, 48, 87, 132, 2, 1]
abbrev dktX3_word_2 : List UInt8 := dkwX3_word_2 ++ dktX3_word_3
def dkwX3_word_1 : List UInt8 := [180, 0, 25, 4, 96, 181, 0, 25, 167, 255, 228, 187, 0, 45, 89, 183, 0, 47, 76, 42, 180, 0, 35, 61]
abbrev dktX3_word_1 : List UInt8 := dkwX3_word_1 ++ dktX3_word_2
def dkwX3_word_0 : List UInt8 := [42, 182, 0, 38, 42, 42, 180, 0, 25, 182, 0, 31, 16, 97, 16, 122, 184, 0, 41, 153, 0, 16, 42, 89]
abbrev dktX3_word_0 : List UInt8 := dkwX3_word_0 ++ dktX3_word_1
theorem dksX3_word_0 : cX3_word.data.toList.drop 0 = dktX3_word_0 := by decide +kernel
theorem dksX3_word_1 : cX3_word.data.toList.drop 24 = dktX3_word_1 := dk_seg dksX3_word_0 24 rfl rfl
theorem dksX3_word_2 : cX3_word.data.toList.drop 48 = dktX3_word_2 := dk_seg dksX3_word_1 24 rfl rfl
theorem dksX3_word_3 : cX3_word.data.toList.drop 71 = dktX3_word_3 := dk_seg dksX3_word_2 23 rfl rfl
theorem dX3_word_0 : decode cX3_word 0 = .ok (.aload_n 0, 1) := dk_42 (dk_at dksX3_word_0 0 rfl rfl)
theorem dX3_word_1 : decode cX3_word 1 = .ok (.invokevirtual 38, 3) := dk_182 0 38 (dk_at dksX3_word_0 1 rfl rfl)
theorem dX3_word_4 : decode cX3_word 4 = .ok (.aload_n 0, 1) := dk_42 (dk_at dksX3_word_0 4 rfl rfl)
theorem dX3_word_5 : decode cX3_word 5 = .ok (.aload_n 0, 1) := dk_42 (dk_at dksX3_word_0 5 rfl rfl)
theorem dX3_word_6 : decode cX3_word 6 = .ok (.getfield 25, 3) := dk_180 0 25 (dk_at dksX3_word_0 6 rfl rfl)
theorem dX3_word_9 : decode cX3_word 9 = .ok (.invokevirtual 31, 3) := dk_182 0 31 (dk_at dksX3_word_0 9 rfl rfl)
theorem dX3_word_12 : decode cX3_word 12 = .ok (.bipush 97, 2) := dk_16 97 (dk_at dksX3_word_0 12 rfl rfl)
theorem dX3_word_14 : decode cX3_word 14 = .ok (.bipush 122, 2) := dk_16 122 (dk_at dksX3_word_0 14 rfl rfl)
theorem dX3_word_16 : decode cX3_word 16 = .ok (.invokestatic 41, 3) := dk_184 0 41 (dk_at dksX3_word_0 16 rfl rfl)
theorem dX3_word_19 : decode cX3_word 19 = .ok (.ifCond .eq 16, 3) := dk_153 0 16 (dk_at dksX3_word_0 19 rfl rfl)
theorem dX3_word_22 : decode cX3_word 22 = .ok (.aload_n 0, 1) := dk_42 (dk_at dksX3_word_0 22 rfl rfl)
theorem dX3_word_23 : decode cX3_word 23 = .ok (.dup, 1) := dk_89 (dk_at dksX3_word_0 23 rfl rfl)
theorem dX3_word_24 : decode cX3_word 24 = .ok (.getfield 25, 3) := dk_180 0 25 (dk_at dksX3_word_1 0 rfl rfl)
theorem dX3_word_27 : decode cX3_word 27 = .ok (.iconst 1, 1) := dk_4 (dk_at dksX3_word_1 3 rfl rfl)
theorem dX3_word_28 : decode cX3_word 28 = .ok (.iadd, 1) := dk_96 (dk_at dksX3_word_1 4 rfl rfl)
theorem dX3_word_29 : decode cX3_word 29 = .ok (.putfield 25, 3) := dk_181 0 25 (dk_at dksX3_word_1 5 rfl rfl)
theorem dX3_word_32 : decode cX3_word 32 = .ok (.goto (-28), 3) := dk_167 255 228 (dk_at dksX3_word_1 8 rfl rfl)
theorem dX3_word_35 : decode cX3_word 35 = .ok (.new 45, 3) := dk_187 0 45 (dk_at dksX3_word_1 11 rfl rfl)
theorem dX3_word_38 : decode cX3_word 38 = .ok (.dup, 1) := dk_89 (dk_at dksX3_word_1 14 rfl rfl)
theorem dX3_word_39 : decode cX3_word 39 = .ok (.invokespecial 47, 3) := dk_183 0 47 (dk_at dksX3_word_1 15 rfl rfl)
theorem dX3_word_42 : decode cX3_word 42 = .ok (.astore_n 1, 1) := dk_76 (dk_at dksX3_word_1 18 rfl rfl)
theorem dX3_word_43 : decode cX3_word 43 = .ok (.aload_n 0, 1) := dk_42 (dk_at dksX3_word_1 19 rfl rfl)
theorem dX3_word_44 : decode cX3_word 44 = .ok (.getfield 35, 3) := dk_180 0 35 (dk_at dksX3_word_1 20 rfl rfl)
theorem dX3_word_47 : decode cX3_word 47 = .ok (.istore_n 2, 1) := dk_61 (dk_at dksX3_word_1 23 rfl rfl)
theorem dX3_word_48 : decode cX3_word 48 = .ok (.iload_n 2, 1) := dk_28 (dk_at dksX3_word_2 0 rfl rfl)
theorem dX3_word_49 : decode cX3_word 49 = .ok (.aload_n 0, 1) := dk_42 (dk_at dksX3_word_2 1 rfl rfl)
theorem dX3_word_50 : decode cX3_word 50 = .ok (.getfield 25, 3) := dk_180 0 25 (dk_at dksX3_word_2 2 rfl rfl)
theorem dX3_word_53 : decode cX3_word 53 = .ok (.if_icmp .ge 21, 3) := dk_162 0 21 (dk_at dksX3_word_2 5 rfl rfl)
theorem dX3_word_56 : decode cX3_word 56 = .ok (.aload_n 1, 1) := dk_43 (dk_at dksX3_word_2 8 rfl rfl)
theorem dX3_word_57 : decode cX3_word 57 = .ok (.aload_n 0, 1) := dk_42 (dk_at dksX3_word_2 9 rfl rfl)
theorem dX3_word_58 : decode cX3_word 58 = .ok (.getfield 9, 3) := dk_180 0 9 (dk_at dksX3_word_2 10 rfl rfl)
theorem dX3_word_61 : decode cX3_word 61 = .ok (.iload_n 2, 1) := dk_28 (dk_at dksX3_word_2 13 rfl rfl)
theorem dX3_word_62 : decode cX3_word 62 = .ok (.baload, 1) := dk_51 (dk_at dksX3_word_2 14 rfl rfl)
theorem dX3_word_63 : decode cX3_word 63 = .ok (.i2c, 1) := dk_146 (dk_at dksX3_word_2 15 rfl rfl)
theorem dX3_word_64 : decode cX3_word 64 = .ok (.invokevirtual 48, 3) := dk_182 0 48 (dk_at dksX3_word_2 16 rfl rfl)
theorem dX3_word_67 : decode cX3_word 67 = .ok (.pop, 1) := dk_87 (dk_at dksX3_word_2 19 rfl rfl)
theorem dX3_word_68 : decode cX3_word 68 = .ok (.iinc 2 1, 3) := dk_132 2 1 (dk_at dksX3_word_2 20 rfl rfl)
theorem dX3_word_71 : decode cX3_word 71 = .ok (.goto (-23), 3) := dk_167 255 233 (dk_at dksX3_word_3 0 rfl rfl)
theorem dX3_word_74 : decode cX3_word 74 = .ok (.aload_n 1, 1) := dk_43 (dk_at dksX3_word_3 3 rfl rfl)
theorem dX3_word_75 : decode cX3_word 75 = .ok (.invokevirtual 52, 3) := dk_182 0 52 (dk_at dksX3_word_3 4 rfl rfl)
theorem dX3_word_78 : decode cX3_word 78 = .ok (.areturn, 1) := dk_176 (dk_at dksX3_word_3 7 rfl rfl)
abbrev cX3_wrong : ByteArray := prog_11_method_14_code
def yX3_wrong : MethodName := ⟨RX3, "wrong", "()LHungFaces$Wrong;"⟩
def dkwX3_wrong_0 : List UInt8 := [187, 0, 73, 89, 183, 0, 75, 176]
abbrev dktX3_wrong_0 : List UInt8 := dkwX3_wrong_0 ++ []
theorem dksX3_wrong_0 : cX3_wrong.data.toList.drop 0 = dktX3_wrong_0 := by decide +kernel
theorem dX3_wrong_0 : decode cX3_wrong 0 = .ok (.new 73, 3) := dk_187 0 73 (dk_at dksX3_wrong_0 0 rfl rfl)
theorem dX3_wrong_3 : decode cX3_wrong 3 = .ok (.dup, 1) := dk_89 (dk_at dksX3_wrong_0 3 rfl rfl)
theorem dX3_wrong_4 : decode cX3_wrong 4 = .ok (.invokespecial 75, 3) := dk_183 0 75 (dk_at dksX3_wrong_0 4 rfl rfl)
theorem dX3_wrong_7 : decode cX3_wrong 7 = .ok (.areturn, 1) := dk_176 (dk_at dksX3_wrong_0 7 rfl rfl)
abbrev cX3_number : ByteArray := prog_11_method_12_code
def yX3_number : MethodName := ⟨RX3, "number", "(II)I"⟩
def dkwX3_number_0 : List UInt8 := [42, 27, 28, 6, 182, 0, 65, 172]
abbrev dktX3_number_0 : List UInt8 := dkwX3_number_0 ++ []
theorem dksX3_number_0 : cX3_number.data.toList.drop 0 = dktX3_number_0 := by decide +kernel
theorem dX3_number_0 : decode cX3_number 0 = .ok (.aload_n 0, 1) := dk_42 (dk_at dksX3_number_0 0 rfl rfl)
theorem dX3_number_1 : decode cX3_number 1 = .ok (.iload_n 1, 1) := dk_27 (dk_at dksX3_number_0 1 rfl rfl)
theorem dX3_number_2 : decode cX3_number 2 = .ok (.iload_n 2, 1) := dk_28 (dk_at dksX3_number_0 2 rfl rfl)
theorem dX3_number_3 : decode cX3_number 3 = .ok (.iconst 3, 1) := dk_6 (dk_at dksX3_number_0 3 rfl rfl)
theorem dX3_number_4 : decode cX3_number 4 = .ok (.invokevirtual 65, 3) := dk_182 0 65 (dk_at dksX3_number_0 4 rfl rfl)
theorem dX3_number_7 : decode cX3_number 7 = .ok (.ireturn, 1) := dk_172 (dk_at dksX3_number_0 7 rfl rfl)
abbrev cX3_figures : ByteArray := prog_11_method_13_code
def yX3_figures : MethodName := ⟨RX3, "figures", "(III)I"⟩
def dkwX3_figures_5 : List UInt8 := [21, 4, 172]
abbrev dktX3_figures_5 : List UInt8 := dkwX3_figures_5 ++ []
def dkwX3_figures_4 : List UInt8 := [180, 0, 35, 100, 29, 163, 0, 13, 21, 4, 27, 28, 184, 0, 41, 154, 0, 8, 42, 182, 0, 69, 191]
abbrev dktX3_figures_4 : List UInt8 := dkwX3_figures_4 ++ dktX3_figures_5
def dkwX3_figures_3 : List UInt8 := [181, 0, 25, 167, 255, 191, 42, 180, 0, 25, 42, 180, 0, 35, 159, 0, 26, 42, 180, 0, 25, 42]
abbrev dktX3_figures_3 : List UInt8 := dkwX3_figures_3 ++ dktX3_figures_4
def dkwX3_figures_2 : List UInt8 := [180, 0, 25, 182, 0, 31, 96, 16, 48, 100, 167, 0, 5, 21, 4, 54, 4, 42, 89, 180, 0, 25, 4, 96]
abbrev dktX3_figures_2 : List UInt8 := dkwX3_figures_2 ++ dktX3_figures_3
def dkwX3_figures_1 : List UInt8 := [153, 0, 53, 42, 180, 0, 25, 42, 180, 0, 35, 100, 29, 162, 0, 23, 16, 10, 21, 4, 104, 42, 42]
abbrev dktX3_figures_1 : List UInt8 := dkwX3_figures_1 ++ dktX3_figures_2
def dkwX3_figures_0 : List UInt8 := [42, 182, 0, 38, 3, 54, 4, 42, 42, 180, 0, 25, 182, 0, 31, 16, 48, 16, 57, 184, 0, 41]
abbrev dktX3_figures_0 : List UInt8 := dkwX3_figures_0 ++ dktX3_figures_1
theorem dksX3_figures_0 : cX3_figures.data.toList.drop 0 = dktX3_figures_0 := by decide +kernel
theorem dksX3_figures_1 : cX3_figures.data.toList.drop 22 = dktX3_figures_1 := dk_seg dksX3_figures_0 22 rfl rfl
theorem dksX3_figures_2 : cX3_figures.data.toList.drop 45 = dktX3_figures_2 := dk_seg dksX3_figures_1 23 rfl rfl
theorem dksX3_figures_3 : cX3_figures.data.toList.drop 69 = dktX3_figures_3 := dk_seg dksX3_figures_2 24 rfl rfl
theorem dksX3_figures_4 : cX3_figures.data.toList.drop 91 = dktX3_figures_4 := dk_seg dksX3_figures_3 22 rfl rfl
theorem dksX3_figures_5 : cX3_figures.data.toList.drop 114 = dktX3_figures_5 := dk_seg dksX3_figures_4 23 rfl rfl
theorem dX3_figures_0 : decode cX3_figures 0 = .ok (.aload_n 0, 1) := dk_42 (dk_at dksX3_figures_0 0 rfl rfl)
theorem dX3_figures_1 : decode cX3_figures 1 = .ok (.invokevirtual 38, 3) := dk_182 0 38 (dk_at dksX3_figures_0 1 rfl rfl)
theorem dX3_figures_4 : decode cX3_figures 4 = .ok (.iconst 0, 1) := dk_3 (dk_at dksX3_figures_0 4 rfl rfl)
theorem dX3_figures_5 : decode cX3_figures 5 = .ok (.istore 4, 2) := dk_54 4 (dk_at dksX3_figures_0 5 rfl rfl)
theorem dX3_figures_7 : decode cX3_figures 7 = .ok (.aload_n 0, 1) := dk_42 (dk_at dksX3_figures_0 7 rfl rfl)
theorem dX3_figures_8 : decode cX3_figures 8 = .ok (.aload_n 0, 1) := dk_42 (dk_at dksX3_figures_0 8 rfl rfl)
theorem dX3_figures_9 : decode cX3_figures 9 = .ok (.getfield 25, 3) := dk_180 0 25 (dk_at dksX3_figures_0 9 rfl rfl)
theorem dX3_figures_12 : decode cX3_figures 12 = .ok (.invokevirtual 31, 3) := dk_182 0 31 (dk_at dksX3_figures_0 12 rfl rfl)
theorem dX3_figures_15 : decode cX3_figures 15 = .ok (.bipush 48, 2) := dk_16 48 (dk_at dksX3_figures_0 15 rfl rfl)
theorem dX3_figures_17 : decode cX3_figures 17 = .ok (.bipush 57, 2) := dk_16 57 (dk_at dksX3_figures_0 17 rfl rfl)
theorem dX3_figures_19 : decode cX3_figures 19 = .ok (.invokestatic 41, 3) := dk_184 0 41 (dk_at dksX3_figures_0 19 rfl rfl)
theorem dX3_figures_22 : decode cX3_figures 22 = .ok (.ifCond .eq 53, 3) := dk_153 0 53 (dk_at dksX3_figures_1 0 rfl rfl)
theorem dX3_figures_25 : decode cX3_figures 25 = .ok (.aload_n 0, 1) := dk_42 (dk_at dksX3_figures_1 3 rfl rfl)
theorem dX3_figures_26 : decode cX3_figures 26 = .ok (.getfield 25, 3) := dk_180 0 25 (dk_at dksX3_figures_1 4 rfl rfl)
theorem dX3_figures_29 : decode cX3_figures 29 = .ok (.aload_n 0, 1) := dk_42 (dk_at dksX3_figures_1 7 rfl rfl)
theorem dX3_figures_30 : decode cX3_figures 30 = .ok (.getfield 35, 3) := dk_180 0 35 (dk_at dksX3_figures_1 8 rfl rfl)
theorem dX3_figures_33 : decode cX3_figures 33 = .ok (.isub, 1) := dk_100 (dk_at dksX3_figures_1 11 rfl rfl)
theorem dX3_figures_34 : decode cX3_figures 34 = .ok (.iload_n 3, 1) := dk_29 (dk_at dksX3_figures_1 12 rfl rfl)
theorem dX3_figures_35 : decode cX3_figures 35 = .ok (.if_icmp .ge 23, 3) := dk_162 0 23 (dk_at dksX3_figures_1 13 rfl rfl)
theorem dX3_figures_38 : decode cX3_figures 38 = .ok (.bipush 10, 2) := dk_16 10 (dk_at dksX3_figures_1 16 rfl rfl)
theorem dX3_figures_40 : decode cX3_figures 40 = .ok (.iload 4, 2) := dk_21 4 (dk_at dksX3_figures_1 18 rfl rfl)
theorem dX3_figures_42 : decode cX3_figures 42 = .ok (.imul, 1) := dk_104 (dk_at dksX3_figures_1 20 rfl rfl)
theorem dX3_figures_43 : decode cX3_figures 43 = .ok (.aload_n 0, 1) := dk_42 (dk_at dksX3_figures_1 21 rfl rfl)
theorem dX3_figures_44 : decode cX3_figures 44 = .ok (.aload_n 0, 1) := dk_42 (dk_at dksX3_figures_1 22 rfl rfl)
theorem dX3_figures_45 : decode cX3_figures 45 = .ok (.getfield 25, 3) := dk_180 0 25 (dk_at dksX3_figures_2 0 rfl rfl)
theorem dX3_figures_48 : decode cX3_figures 48 = .ok (.invokevirtual 31, 3) := dk_182 0 31 (dk_at dksX3_figures_2 3 rfl rfl)
theorem dX3_figures_51 : decode cX3_figures 51 = .ok (.iadd, 1) := dk_96 (dk_at dksX3_figures_2 6 rfl rfl)
theorem dX3_figures_52 : decode cX3_figures 52 = .ok (.bipush 48, 2) := dk_16 48 (dk_at dksX3_figures_2 7 rfl rfl)
theorem dX3_figures_54 : decode cX3_figures 54 = .ok (.isub, 1) := dk_100 (dk_at dksX3_figures_2 9 rfl rfl)
theorem dX3_figures_55 : decode cX3_figures 55 = .ok (.goto 5, 3) := dk_167 0 5 (dk_at dksX3_figures_2 10 rfl rfl)
theorem dX3_figures_58 : decode cX3_figures 58 = .ok (.iload 4, 2) := dk_21 4 (dk_at dksX3_figures_2 13 rfl rfl)
theorem dX3_figures_60 : decode cX3_figures 60 = .ok (.istore 4, 2) := dk_54 4 (dk_at dksX3_figures_2 15 rfl rfl)
theorem dX3_figures_62 : decode cX3_figures 62 = .ok (.aload_n 0, 1) := dk_42 (dk_at dksX3_figures_2 17 rfl rfl)
theorem dX3_figures_63 : decode cX3_figures 63 = .ok (.dup, 1) := dk_89 (dk_at dksX3_figures_2 18 rfl rfl)
theorem dX3_figures_64 : decode cX3_figures 64 = .ok (.getfield 25, 3) := dk_180 0 25 (dk_at dksX3_figures_2 19 rfl rfl)
theorem dX3_figures_67 : decode cX3_figures 67 = .ok (.iconst 1, 1) := dk_4 (dk_at dksX3_figures_2 22 rfl rfl)
theorem dX3_figures_68 : decode cX3_figures 68 = .ok (.iadd, 1) := dk_96 (dk_at dksX3_figures_2 23 rfl rfl)
theorem dX3_figures_69 : decode cX3_figures 69 = .ok (.putfield 25, 3) := dk_181 0 25 (dk_at dksX3_figures_3 0 rfl rfl)
theorem dX3_figures_72 : decode cX3_figures 72 = .ok (.goto (-65), 3) := dk_167 255 191 (dk_at dksX3_figures_3 3 rfl rfl)
theorem dX3_figures_75 : decode cX3_figures 75 = .ok (.aload_n 0, 1) := dk_42 (dk_at dksX3_figures_3 6 rfl rfl)
theorem dX3_figures_76 : decode cX3_figures 76 = .ok (.getfield 25, 3) := dk_180 0 25 (dk_at dksX3_figures_3 7 rfl rfl)
theorem dX3_figures_79 : decode cX3_figures 79 = .ok (.aload_n 0, 1) := dk_42 (dk_at dksX3_figures_3 10 rfl rfl)
theorem dX3_figures_80 : decode cX3_figures 80 = .ok (.getfield 35, 3) := dk_180 0 35 (dk_at dksX3_figures_3 11 rfl rfl)
theorem dX3_figures_83 : decode cX3_figures 83 = .ok (.if_icmp .eq 26, 3) := dk_159 0 26 (dk_at dksX3_figures_3 14 rfl rfl)
theorem dX3_figures_86 : decode cX3_figures 86 = .ok (.aload_n 0, 1) := dk_42 (dk_at dksX3_figures_3 17 rfl rfl)
theorem dX3_figures_87 : decode cX3_figures 87 = .ok (.getfield 25, 3) := dk_180 0 25 (dk_at dksX3_figures_3 18 rfl rfl)
theorem dX3_figures_90 : decode cX3_figures 90 = .ok (.aload_n 0, 1) := dk_42 (dk_at dksX3_figures_3 21 rfl rfl)
theorem dX3_figures_91 : decode cX3_figures 91 = .ok (.getfield 35, 3) := dk_180 0 35 (dk_at dksX3_figures_4 0 rfl rfl)
theorem dX3_figures_94 : decode cX3_figures 94 = .ok (.isub, 1) := dk_100 (dk_at dksX3_figures_4 3 rfl rfl)
theorem dX3_figures_95 : decode cX3_figures 95 = .ok (.iload_n 3, 1) := dk_29 (dk_at dksX3_figures_4 4 rfl rfl)
theorem dX3_figures_96 : decode cX3_figures 96 = .ok (.if_icmp .gt 13, 3) := dk_163 0 13 (dk_at dksX3_figures_4 5 rfl rfl)
theorem dX3_figures_99 : decode cX3_figures 99 = .ok (.iload 4, 2) := dk_21 4 (dk_at dksX3_figures_4 8 rfl rfl)
theorem dX3_figures_101 : decode cX3_figures 101 = .ok (.iload_n 1, 1) := dk_27 (dk_at dksX3_figures_4 10 rfl rfl)
theorem dX3_figures_102 : decode cX3_figures 102 = .ok (.iload_n 2, 1) := dk_28 (dk_at dksX3_figures_4 11 rfl rfl)
theorem dX3_figures_103 : decode cX3_figures 103 = .ok (.invokestatic 41, 3) := dk_184 0 41 (dk_at dksX3_figures_4 12 rfl rfl)
theorem dX3_figures_106 : decode cX3_figures 106 = .ok (.ifCond .ne 8, 3) := dk_154 0 8 (dk_at dksX3_figures_4 15 rfl rfl)
theorem dX3_figures_109 : decode cX3_figures 109 = .ok (.aload_n 0, 1) := dk_42 (dk_at dksX3_figures_4 18 rfl rfl)
theorem dX3_figures_110 : decode cX3_figures 110 = .ok (.invokevirtual 69, 3) := dk_182 0 69 (dk_at dksX3_figures_4 19 rfl rfl)
theorem dX3_figures_113 : decode cX3_figures 113 = .ok (.athrow, 1) := dk_191 (dk_at dksX3_figures_4 22 rfl rfl)
theorem dX3_figures_114 : decode cX3_figures 114 = .ok (.iload 4, 2) := dk_21 4 (dk_at dksX3_figures_5 0 rfl rfl)
theorem dX3_figures_116 : decode cX3_figures 116 = .ok (.ireturn, 1) := dk_172 (dk_at dksX3_figures_5 2 rfl rfl)
abbrev cX3_isFigure : ByteArray := prog_11_method_11_code
def yX3_isFigure : MethodName := ⟨RX3, "isFigure", "()Z"⟩
def dkwX3_isFigure_0 : List UInt8 := [42, 182, 0, 38, 42, 42, 180, 0, 25, 182, 0, 31, 16, 48, 16, 57, 184, 0, 41, 172]
abbrev dktX3_isFigure_0 : List UInt8 := dkwX3_isFigure_0 ++ []
theorem dksX3_isFigure_0 : cX3_isFigure.data.toList.drop 0 = dktX3_isFigure_0 := by decide +kernel
theorem dX3_isFigure_0 : decode cX3_isFigure 0 = .ok (.aload_n 0, 1) := dk_42 (dk_at dksX3_isFigure_0 0 rfl rfl)
theorem dX3_isFigure_1 : decode cX3_isFigure 1 = .ok (.invokevirtual 38, 3) := dk_182 0 38 (dk_at dksX3_isFigure_0 1 rfl rfl)
theorem dX3_isFigure_4 : decode cX3_isFigure 4 = .ok (.aload_n 0, 1) := dk_42 (dk_at dksX3_isFigure_0 4 rfl rfl)
theorem dX3_isFigure_5 : decode cX3_isFigure 5 = .ok (.aload_n 0, 1) := dk_42 (dk_at dksX3_isFigure_0 5 rfl rfl)
theorem dX3_isFigure_6 : decode cX3_isFigure 6 = .ok (.getfield 25, 3) := dk_180 0 25 (dk_at dksX3_isFigure_0 6 rfl rfl)
theorem dX3_isFigure_9 : decode cX3_isFigure 9 = .ok (.invokevirtual 31, 3) := dk_182 0 31 (dk_at dksX3_isFigure_0 9 rfl rfl)
theorem dX3_isFigure_12 : decode cX3_isFigure 12 = .ok (.bipush 48, 2) := dk_16 48 (dk_at dksX3_isFigure_0 12 rfl rfl)
theorem dX3_isFigure_14 : decode cX3_isFigure 14 = .ok (.bipush 57, 2) := dk_16 57 (dk_at dksX3_isFigure_0 14 rfl rfl)
theorem dX3_isFigure_16 : decode cX3_isFigure 16 = .ok (.invokestatic 41, 3) := dk_184 0 41 (dk_at dksX3_isFigure_0 16 rfl rfl)
theorem dX3_isFigure_19 : decode cX3_isFigure 19 = .ok (.ireturn, 1) := dk_172 (dk_at dksX3_isFigure_0 19 rfl rfl)
abbrev cX3_sign : ByteArray := prog_11_method_10_code
def yX3_sign : MethodName := ⟨RX3, "sign", "(I)Z"⟩
def dkwX3_sign_1 : List UInt8 := [96, 181, 0, 25, 4, 172]
abbrev dktX3_sign_1 : List UInt8 := dkwX3_sign_1 ++ []
def dkwX3_sign_0 : List UInt8 := [42, 182, 0, 38, 42, 42, 180, 0, 25, 182, 0, 31, 27, 159, 0, 5, 3, 172, 42, 89, 180, 0, 25, 4]
abbrev dktX3_sign_0 : List UInt8 := dkwX3_sign_0 ++ dktX3_sign_1
theorem dksX3_sign_0 : cX3_sign.data.toList.drop 0 = dktX3_sign_0 := by decide +kernel
theorem dksX3_sign_1 : cX3_sign.data.toList.drop 24 = dktX3_sign_1 := dk_seg dksX3_sign_0 24 rfl rfl
theorem dX3_sign_0 : decode cX3_sign 0 = .ok (.aload_n 0, 1) := dk_42 (dk_at dksX3_sign_0 0 rfl rfl)
theorem dX3_sign_1 : decode cX3_sign 1 = .ok (.invokevirtual 38, 3) := dk_182 0 38 (dk_at dksX3_sign_0 1 rfl rfl)
theorem dX3_sign_4 : decode cX3_sign 4 = .ok (.aload_n 0, 1) := dk_42 (dk_at dksX3_sign_0 4 rfl rfl)
theorem dX3_sign_5 : decode cX3_sign 5 = .ok (.aload_n 0, 1) := dk_42 (dk_at dksX3_sign_0 5 rfl rfl)
theorem dX3_sign_6 : decode cX3_sign 6 = .ok (.getfield 25, 3) := dk_180 0 25 (dk_at dksX3_sign_0 6 rfl rfl)
theorem dX3_sign_9 : decode cX3_sign 9 = .ok (.invokevirtual 31, 3) := dk_182 0 31 (dk_at dksX3_sign_0 9 rfl rfl)
theorem dX3_sign_12 : decode cX3_sign 12 = .ok (.iload_n 1, 1) := dk_27 (dk_at dksX3_sign_0 12 rfl rfl)
theorem dX3_sign_13 : decode cX3_sign 13 = .ok (.if_icmp .eq 5, 3) := dk_159 0 5 (dk_at dksX3_sign_0 13 rfl rfl)
theorem dX3_sign_16 : decode cX3_sign 16 = .ok (.iconst 0, 1) := dk_3 (dk_at dksX3_sign_0 16 rfl rfl)
theorem dX3_sign_17 : decode cX3_sign 17 = .ok (.ireturn, 1) := dk_172 (dk_at dksX3_sign_0 17 rfl rfl)
theorem dX3_sign_18 : decode cX3_sign 18 = .ok (.aload_n 0, 1) := dk_42 (dk_at dksX3_sign_0 18 rfl rfl)
theorem dX3_sign_19 : decode cX3_sign 19 = .ok (.dup, 1) := dk_89 (dk_at dksX3_sign_0 19 rfl rfl)
theorem dX3_sign_20 : decode cX3_sign 20 = .ok (.getfield 25, 3) := dk_180 0 25 (dk_at dksX3_sign_0 20 rfl rfl)
theorem dX3_sign_23 : decode cX3_sign 23 = .ok (.iconst 1, 1) := dk_4 (dk_at dksX3_sign_0 23 rfl rfl)
theorem dX3_sign_24 : decode cX3_sign 24 = .ok (.iadd, 1) := dk_96 (dk_at dksX3_sign_1 0 rfl rfl)
theorem dX3_sign_25 : decode cX3_sign 25 = .ok (.putfield 25, 3) := dk_181 0 25 (dk_at dksX3_sign_1 1 rfl rfl)
theorem dX3_sign_28 : decode cX3_sign 28 = .ok (.iconst 1, 1) := dk_4 (dk_at dksX3_sign_1 4 rfl rfl)
theorem dX3_sign_29 : decode cX3_sign 29 = .ok (.ireturn, 1) := dk_172 (dk_at dksX3_sign_1 5 rfl rfl)
abbrev cX3_passes : ByteArray := prog_11_method_9_code
def yX3_passes : MethodName := ⟨RX3, "passes", "(Ljava/lang/String;)Z"⟩
def dkwX3_passes_0 : List UInt8 := [42, 182, 0, 56, 43, 182, 0, 59, 153, 0, 5, 4, 172, 42, 42, 180, 0, 35, 181, 0, 25, 3, 172]
abbrev dktX3_passes_0 : List UInt8 := dkwX3_passes_0 ++ []
theorem dksX3_passes_0 : cX3_passes.data.toList.drop 0 = dktX3_passes_0 := by decide +kernel
theorem dX3_passes_0 : decode cX3_passes 0 = .ok (.aload_n 0, 1) := dk_42 (dk_at dksX3_passes_0 0 rfl rfl)
theorem dX3_passes_1 : decode cX3_passes 1 = .ok (.invokevirtual 56, 3) := dk_182 0 56 (dk_at dksX3_passes_0 1 rfl rfl)
theorem dX3_passes_4 : decode cX3_passes 4 = .ok (.aload_n 1, 1) := dk_43 (dk_at dksX3_passes_0 4 rfl rfl)
theorem dX3_passes_5 : decode cX3_passes 5 = .ok (.invokevirtual 59, 3) := dk_182 0 59 (dk_at dksX3_passes_0 5 rfl rfl)
theorem dX3_passes_8 : decode cX3_passes 8 = .ok (.ifCond .eq 5, 3) := dk_153 0 5 (dk_at dksX3_passes_0 8 rfl rfl)
theorem dX3_passes_11 : decode cX3_passes 11 = .ok (.iconst 1, 1) := dk_4 (dk_at dksX3_passes_0 11 rfl rfl)
theorem dX3_passes_12 : decode cX3_passes 12 = .ok (.ireturn, 1) := dk_172 (dk_at dksX3_passes_0 12 rfl rfl)
theorem dX3_passes_13 : decode cX3_passes 13 = .ok (.aload_n 0, 1) := dk_42 (dk_at dksX3_passes_0 13 rfl rfl)
theorem dX3_passes_14 : decode cX3_passes 14 = .ok (.aload_n 0, 1) := dk_42 (dk_at dksX3_passes_0 14 rfl rfl)
theorem dX3_passes_15 : decode cX3_passes 15 = .ok (.getfield 35, 3) := dk_180 0 35 (dk_at dksX3_passes_0 15 rfl rfl)
theorem dX3_passes_18 : decode cX3_passes 18 = .ok (.putfield 25, 3) := dk_181 0 25 (dk_at dksX3_passes_0 18 rfl rfl)
theorem dX3_passes_21 : decode cX3_passes 21 = .ok (.iconst 0, 1) := dk_3 (dk_at dksX3_passes_0 21 rfl rfl)
theorem dX3_passes_22 : decode cX3_passes 22 = .ok (.ireturn, 1) := dk_172 (dk_at dksX3_passes_0 22 rfl rfl)
abbrev cX3_goesDeeper : ByteArray := prog_11_method_15_code
def yX3_goesDeeper : MethodName := ⟨RX3, "goesDeeper", "()V"⟩
def dkwX3_goesDeeper_1 : List UInt8 := [177]
abbrev dktX3_goesDeeper_1 : List UInt8 := dkwX3_goesDeeper_1 ++ []
def dkwX3_goesDeeper_0 : List UInt8 := [42, 180, 0, 28, 16, 6, 160, 0, 8, 42, 182, 0, 69, 191, 42, 89, 180, 0, 28, 4, 96, 181, 0, 28]
abbrev dktX3_goesDeeper_0 : List UInt8 := dkwX3_goesDeeper_0 ++ dktX3_goesDeeper_1
theorem dksX3_goesDeeper_0 : cX3_goesDeeper.data.toList.drop 0 = dktX3_goesDeeper_0 := by decide +kernel
theorem dksX3_goesDeeper_1 : cX3_goesDeeper.data.toList.drop 24 = dktX3_goesDeeper_1 := dk_seg dksX3_goesDeeper_0 24 rfl rfl
theorem dX3_goesDeeper_0 : decode cX3_goesDeeper 0 = .ok (.aload_n 0, 1) := dk_42 (dk_at dksX3_goesDeeper_0 0 rfl rfl)
theorem dX3_goesDeeper_1 : decode cX3_goesDeeper 1 = .ok (.getfield 28, 3) := dk_180 0 28 (dk_at dksX3_goesDeeper_0 1 rfl rfl)
theorem dX3_goesDeeper_4 : decode cX3_goesDeeper 4 = .ok (.bipush 6, 2) := dk_16 6 (dk_at dksX3_goesDeeper_0 4 rfl rfl)
theorem dX3_goesDeeper_6 : decode cX3_goesDeeper 6 = .ok (.if_icmp .ne 8, 3) := dk_160 0 8 (dk_at dksX3_goesDeeper_0 6 rfl rfl)
theorem dX3_goesDeeper_9 : decode cX3_goesDeeper 9 = .ok (.aload_n 0, 1) := dk_42 (dk_at dksX3_goesDeeper_0 9 rfl rfl)
theorem dX3_goesDeeper_10 : decode cX3_goesDeeper 10 = .ok (.invokevirtual 69, 3) := dk_182 0 69 (dk_at dksX3_goesDeeper_0 10 rfl rfl)
theorem dX3_goesDeeper_13 : decode cX3_goesDeeper 13 = .ok (.athrow, 1) := dk_191 (dk_at dksX3_goesDeeper_0 13 rfl rfl)
theorem dX3_goesDeeper_14 : decode cX3_goesDeeper 14 = .ok (.aload_n 0, 1) := dk_42 (dk_at dksX3_goesDeeper_0 14 rfl rfl)
theorem dX3_goesDeeper_15 : decode cX3_goesDeeper 15 = .ok (.dup, 1) := dk_89 (dk_at dksX3_goesDeeper_0 15 rfl rfl)
theorem dX3_goesDeeper_16 : decode cX3_goesDeeper 16 = .ok (.getfield 28, 3) := dk_180 0 28 (dk_at dksX3_goesDeeper_0 16 rfl rfl)
theorem dX3_goesDeeper_19 : decode cX3_goesDeeper 19 = .ok (.iconst 1, 1) := dk_4 (dk_at dksX3_goesDeeper_0 19 rfl rfl)
theorem dX3_goesDeeper_20 : decode cX3_goesDeeper 20 = .ok (.iadd, 1) := dk_96 (dk_at dksX3_goesDeeper_0 20 rfl rfl)
theorem dX3_goesDeeper_21 : decode cX3_goesDeeper 21 = .ok (.putfield 28, 3) := dk_181 0 28 (dk_at dksX3_goesDeeper_0 21 rfl rfl)
theorem dX3_goesDeeper_24 : decode cX3_goesDeeper 24 = .ok (.return_, 1) := dk_177 (dk_at dksX3_goesDeeper_1 0 rfl rfl)
abbrev cX3_comesUp : ByteArray := prog_11_method_16_code
def yX3_comesUp : MethodName := ⟨RX3, "comesUp", "()V"⟩
def dkwX3_comesUp_0 : List UInt8 := [42, 89, 180, 0, 28, 4, 100, 181, 0, 28, 177]
abbrev dktX3_comesUp_0 : List UInt8 := dkwX3_comesUp_0 ++ []
theorem dksX3_comesUp_0 : cX3_comesUp.data.toList.drop 0 = dktX3_comesUp_0 := by decide +kernel
theorem dX3_comesUp_0 : decode cX3_comesUp 0 = .ok (.aload_n 0, 1) := dk_42 (dk_at dksX3_comesUp_0 0 rfl rfl)
theorem dX3_comesUp_1 : decode cX3_comesUp 1 = .ok (.dup, 1) := dk_89 (dk_at dksX3_comesUp_0 1 rfl rfl)
theorem dX3_comesUp_2 : decode cX3_comesUp 2 = .ok (.getfield 28, 3) := dk_180 0 28 (dk_at dksX3_comesUp_0 2 rfl rfl)
theorem dX3_comesUp_5 : decode cX3_comesUp 5 = .ok (.iconst 1, 1) := dk_4 (dk_at dksX3_comesUp_0 5 rfl rfl)
theorem dX3_comesUp_6 : decode cX3_comesUp 6 = .ok (.isub, 1) := dk_100 (dk_at dksX3_comesUp_0 6 rfl rfl)
theorem dX3_comesUp_7 : decode cX3_comesUp 7 = .ok (.putfield 28, 3) := dk_181 0 28 (dk_at dksX3_comesUp_0 7 rfl rfl)
theorem dX3_comesUp_10 : decode cX3_comesUp 10 = .ok (.return_, 1) := dk_177 (dk_at dksX3_comesUp_0 10 rfl rfl)
