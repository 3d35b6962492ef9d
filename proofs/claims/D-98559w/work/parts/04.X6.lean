/-! decode rows of X6 -/
set_option maxRecDepth 100000
abbrev cX6_init : ByteArray := prog_8_method_1_code
def yX6_init : MethodName := ⟨RX6, "<init>", "(LHungFaces;)V"⟩
def dkwX6_init_1 : List UInt8 := [181, 0, 19, 177]
abbrev dktX6_init_1 : List UInt8 := dkwX6_init_1 ++ []
def dkwX6_init_0 : List UInt8 := [42, 43, 181, 0, 3, 42, 183, 0, 9, 42, 16, 10, 188, 10, 181, 0, 15, 42, 17, 4, 0, 188, 10]
abbrev dktX6_init_0 : List UInt8 := dkwX6_init_0 ++ dktX6_init_1
theorem dksX6_init_0 : cX6_init.data.toList.drop 0 = dktX6_init_0 := by decide +kernel
theorem dksX6_init_1 : cX6_init.data.toList.drop 23 = dktX6_init_1 := dk_seg dksX6_init_0 23 rfl rfl
theorem dX6_init_0 : decode cX6_init 0 = .ok (.aload_n 0, 1) := dk_42 (dk_at dksX6_init_0 0 rfl rfl)
theorem dX6_init_1 : decode cX6_init 1 = .ok (.aload_n 1, 1) := dk_43 (dk_at dksX6_init_0 1 rfl rfl)
theorem dX6_init_2 : decode cX6_init 2 = .ok (.putfield 3, 3) := dk_181 0 3 (dk_at dksX6_init_0 2 rfl rfl)
theorem dX6_init_5 : decode cX6_init 5 = .ok (.aload_n 0, 1) := dk_42 (dk_at dksX6_init_0 5 rfl rfl)
theorem dX6_init_6 : decode cX6_init 6 = .ok (.invokespecial 9, 3) := dk_183 0 9 (dk_at dksX6_init_0 6 rfl rfl)
theorem dX6_init_9 : decode cX6_init 9 = .ok (.aload_n 0, 1) := dk_42 (dk_at dksX6_init_0 9 rfl rfl)
theorem dX6_init_10 : decode cX6_init 10 = .ok (.bipush 10, 2) := dk_16 10 (dk_at dksX6_init_0 10 rfl rfl)
theorem dX6_init_12 : decode cX6_init 12 = .ok (.newarray .int, 2) := dk_188_10 (dk_at dksX6_init_0 12 rfl rfl)
theorem dX6_init_14 : decode cX6_init 14 = .ok (.putfield 15, 3) := dk_181 0 15 (dk_at dksX6_init_0 14 rfl rfl)
theorem dX6_init_17 : decode cX6_init 17 = .ok (.aload_n 0, 1) := dk_42 (dk_at dksX6_init_0 17 rfl rfl)
theorem dX6_init_18 : decode cX6_init 18 = .ok (.sipush 1024, 3) := dk_17 4 0 (dk_at dksX6_init_0 18 rfl rfl)
theorem dX6_init_21 : decode cX6_init 21 = .ok (.newarray .int, 2) := dk_188_10 (dk_at dksX6_init_0 21 rfl rfl)
theorem dX6_init_23 : decode cX6_init 23 = .ok (.putfield 19, 3) := dk_181 0 19 (dk_at dksX6_init_1 0 rfl rfl)
theorem dX6_init_26 : decode cX6_init 26 = .ok (.return_, 1) := dk_177 (dk_at dksX6_init_1 3 rfl rfl)
abbrev cX6_by : ByteArray := prog_8_method_2_code
def yX6_by : MethodName := ⟨RX6, "by", "(I)LHungFaces$Owners;"⟩
def dkwX6_by_4 : List UInt8 := [160, 0, 7, 4, 167, 0, 4, 3, 182, 0, 56, 132, 2, 1, 167, 255, 170, 42, 176]
abbrev dktX6_by_4 : List UInt8 := dkwX6_by_4 ++ []
def dkwX6_by_3 : List UInt8 := [28, 104, 4, 96, 51, 42, 180, 0, 3, 180, 0, 38, 180, 0, 52, 6, 28, 104, 5, 96, 51, 4]
abbrev dktX6_by_3 : List UInt8 := dkwX6_by_3 ++ dktX6_by_4
def dkwX6_by_2 : List UInt8 := [180, 0, 3, 180, 0, 38, 180, 0, 52, 6, 28, 104, 51, 42, 180, 0, 3, 180, 0, 38, 180, 0, 52, 6]
abbrev dktX6_by_2 : List UInt8 := dkwX6_by_2 ++ dktX6_by_3
def dkwX6_by_1 : List UInt8 := [180, 0, 3, 180, 0, 38, 180, 0, 42, 162, 0, 76, 27, 28, 184, 0, 48, 153, 0, 62, 42, 42]
abbrev dktX6_by_1 : List UInt8 := dkwX6_by_1 ++ dktX6_by_2
def dkwX6_by_0 : List UInt8 := [42, 180, 0, 15, 42, 180, 0, 3, 180, 0, 22, 182, 0, 26, 184, 0, 32, 3, 61, 6, 28, 104, 42]
abbrev dktX6_by_0 : List UInt8 := dkwX6_by_0 ++ dktX6_by_1
theorem dksX6_by_0 : cX6_by.data.toList.drop 0 = dktX6_by_0 := by decide +kernel
theorem dksX6_by_1 : cX6_by.data.toList.drop 23 = dktX6_by_1 := dk_seg dksX6_by_0 23 rfl rfl
theorem dksX6_by_2 : cX6_by.data.toList.drop 45 = dktX6_by_2 := dk_seg dksX6_by_1 22 rfl rfl
theorem dksX6_by_3 : cX6_by.data.toList.drop 69 = dktX6_by_3 := dk_seg dksX6_by_2 24 rfl rfl
theorem dksX6_by_4 : cX6_by.data.toList.drop 91 = dktX6_by_4 := dk_seg dksX6_by_3 22 rfl rfl
theorem dX6_by_0 : decode cX6_by 0 = .ok (.aload_n 0, 1) := dk_42 (dk_at dksX6_by_0 0 rfl rfl)
theorem dX6_by_1 : decode cX6_by 1 = .ok (.getfield 15, 3) := dk_180 0 15 (dk_at dksX6_by_0 1 rfl rfl)
theorem dX6_by_4 : decode cX6_by 4 = .ok (.aload_n 0, 1) := dk_42 (dk_at dksX6_by_0 4 rfl rfl)
theorem dX6_by_5 : decode cX6_by 5 = .ok (.getfield 3, 3) := dk_180 0 3 (dk_at dksX6_by_0 5 rfl rfl)
theorem dX6_by_8 : decode cX6_by 8 = .ok (.getfield 22, 3) := dk_180 0 22 (dk_at dksX6_by_0 8 rfl rfl)
theorem dX6_by_11 : decode cX6_by 11 = .ok (.invokevirtual 26, 3) := dk_182 0 26 (dk_at dksX6_by_0 11 rfl rfl)
theorem dX6_by_14 : decode cX6_by 14 = .ok (.invokestatic 32, 3) := dk_184 0 32 (dk_at dksX6_by_0 14 rfl rfl)
theorem dX6_by_17 : decode cX6_by 17 = .ok (.iconst 0, 1) := dk_3 (dk_at dksX6_by_0 17 rfl rfl)
theorem dX6_by_18 : decode cX6_by 18 = .ok (.istore_n 2, 1) := dk_61 (dk_at dksX6_by_0 18 rfl rfl)
theorem dX6_by_19 : decode cX6_by 19 = .ok (.iconst 3, 1) := dk_6 (dk_at dksX6_by_0 19 rfl rfl)
theorem dX6_by_20 : decode cX6_by 20 = .ok (.iload_n 2, 1) := dk_28 (dk_at dksX6_by_0 20 rfl rfl)
theorem dX6_by_21 : decode cX6_by 21 = .ok (.imul, 1) := dk_104 (dk_at dksX6_by_0 21 rfl rfl)
theorem dX6_by_22 : decode cX6_by 22 = .ok (.aload_n 0, 1) := dk_42 (dk_at dksX6_by_0 22 rfl rfl)
theorem dX6_by_23 : decode cX6_by 23 = .ok (.getfield 3, 3) := dk_180 0 3 (dk_at dksX6_by_1 0 rfl rfl)
theorem dX6_by_26 : decode cX6_by 26 = .ok (.getfield 38, 3) := dk_180 0 38 (dk_at dksX6_by_1 3 rfl rfl)
theorem dX6_by_29 : decode cX6_by 29 = .ok (.getfield 42, 3) := dk_180 0 42 (dk_at dksX6_by_1 6 rfl rfl)
theorem dX6_by_32 : decode cX6_by 32 = .ok (.if_icmp .ge 76, 3) := dk_162 0 76 (dk_at dksX6_by_1 9 rfl rfl)
theorem dX6_by_35 : decode cX6_by 35 = .ok (.iload_n 1, 1) := dk_27 (dk_at dksX6_by_1 12 rfl rfl)
theorem dX6_by_36 : decode cX6_by 36 = .ok (.iload_n 2, 1) := dk_28 (dk_at dksX6_by_1 13 rfl rfl)
theorem dX6_by_37 : decode cX6_by 37 = .ok (.invokestatic 48, 3) := dk_184 0 48 (dk_at dksX6_by_1 14 rfl rfl)
theorem dX6_by_40 : decode cX6_by 40 = .ok (.ifCond .eq 62, 3) := dk_153 0 62 (dk_at dksX6_by_1 17 rfl rfl)
theorem dX6_by_43 : decode cX6_by 43 = .ok (.aload_n 0, 1) := dk_42 (dk_at dksX6_by_1 20 rfl rfl)
theorem dX6_by_44 : decode cX6_by 44 = .ok (.aload_n 0, 1) := dk_42 (dk_at dksX6_by_1 21 rfl rfl)
theorem dX6_by_45 : decode cX6_by 45 = .ok (.getfield 3, 3) := dk_180 0 3 (dk_at dksX6_by_2 0 rfl rfl)
theorem dX6_by_48 : decode cX6_by 48 = .ok (.getfield 38, 3) := dk_180 0 38 (dk_at dksX6_by_2 3 rfl rfl)
theorem dX6_by_51 : decode cX6_by 51 = .ok (.getfield 52, 3) := dk_180 0 52 (dk_at dksX6_by_2 6 rfl rfl)
theorem dX6_by_54 : decode cX6_by 54 = .ok (.iconst 3, 1) := dk_6 (dk_at dksX6_by_2 9 rfl rfl)
theorem dX6_by_55 : decode cX6_by 55 = .ok (.iload_n 2, 1) := dk_28 (dk_at dksX6_by_2 10 rfl rfl)
theorem dX6_by_56 : decode cX6_by 56 = .ok (.imul, 1) := dk_104 (dk_at dksX6_by_2 11 rfl rfl)
theorem dX6_by_57 : decode cX6_by 57 = .ok (.baload, 1) := dk_51 (dk_at dksX6_by_2 12 rfl rfl)
theorem dX6_by_58 : decode cX6_by 58 = .ok (.aload_n 0, 1) := dk_42 (dk_at dksX6_by_2 13 rfl rfl)
theorem dX6_by_59 : decode cX6_by 59 = .ok (.getfield 3, 3) := dk_180 0 3 (dk_at dksX6_by_2 14 rfl rfl)
theorem dX6_by_62 : decode cX6_by 62 = .ok (.getfield 38, 3) := dk_180 0 38 (dk_at dksX6_by_2 17 rfl rfl)
theorem dX6_by_65 : decode cX6_by 65 = .ok (.getfield 52, 3) := dk_180 0 52 (dk_at dksX6_by_2 20 rfl rfl)
theorem dX6_by_68 : decode cX6_by 68 = .ok (.iconst 3, 1) := dk_6 (dk_at dksX6_by_2 23 rfl rfl)
theorem dX6_by_69 : decode cX6_by 69 = .ok (.iload_n 2, 1) := dk_28 (dk_at dksX6_by_3 0 rfl rfl)
theorem dX6_by_70 : decode cX6_by 70 = .ok (.imul, 1) := dk_104 (dk_at dksX6_by_3 1 rfl rfl)
theorem dX6_by_71 : decode cX6_by 71 = .ok (.iconst 1, 1) := dk_4 (dk_at dksX6_by_3 2 rfl rfl)
theorem dX6_by_72 : decode cX6_by 72 = .ok (.iadd, 1) := dk_96 (dk_at dksX6_by_3 3 rfl rfl)
theorem dX6_by_73 : decode cX6_by 73 = .ok (.baload, 1) := dk_51 (dk_at dksX6_by_3 4 rfl rfl)
theorem dX6_by_74 : decode cX6_by 74 = .ok (.aload_n 0, 1) := dk_42 (dk_at dksX6_by_3 5 rfl rfl)
theorem dX6_by_75 : decode cX6_by 75 = .ok (.getfield 3, 3) := dk_180 0 3 (dk_at dksX6_by_3 6 rfl rfl)
theorem dX6_by_78 : decode cX6_by 78 = .ok (.getfield 38, 3) := dk_180 0 38 (dk_at dksX6_by_3 9 rfl rfl)
theorem dX6_by_81 : decode cX6_by 81 = .ok (.getfield 52, 3) := dk_180 0 52 (dk_at dksX6_by_3 12 rfl rfl)
theorem dX6_by_84 : decode cX6_by 84 = .ok (.iconst 3, 1) := dk_6 (dk_at dksX6_by_3 15 rfl rfl)
theorem dX6_by_85 : decode cX6_by 85 = .ok (.iload_n 2, 1) := dk_28 (dk_at dksX6_by_3 16 rfl rfl)
theorem dX6_by_86 : decode cX6_by 86 = .ok (.imul, 1) := dk_104 (dk_at dksX6_by_3 17 rfl rfl)
theorem dX6_by_87 : decode cX6_by 87 = .ok (.iconst 2, 1) := dk_5 (dk_at dksX6_by_3 18 rfl rfl)
theorem dX6_by_88 : decode cX6_by 88 = .ok (.iadd, 1) := dk_96 (dk_at dksX6_by_3 19 rfl rfl)
theorem dX6_by_89 : decode cX6_by 89 = .ok (.baload, 1) := dk_51 (dk_at dksX6_by_3 20 rfl rfl)
theorem dX6_by_90 : decode cX6_by 90 = .ok (.iconst 1, 1) := dk_4 (dk_at dksX6_by_3 21 rfl rfl)
theorem dX6_by_91 : decode cX6_by 91 = .ok (.if_icmp .ne 7, 3) := dk_160 0 7 (dk_at dksX6_by_4 0 rfl rfl)
theorem dX6_by_94 : decode cX6_by 94 = .ok (.iconst 1, 1) := dk_4 (dk_at dksX6_by_4 3 rfl rfl)
theorem dX6_by_95 : decode cX6_by 95 = .ok (.goto 4, 3) := dk_167 0 4 (dk_at dksX6_by_4 4 rfl rfl)
theorem dX6_by_98 : decode cX6_by 98 = .ok (.iconst 0, 1) := dk_3 (dk_at dksX6_by_4 7 rfl rfl)
theorem dX6_by_99 : decode cX6_by 99 = .ok (.invokevirtual 56, 3) := dk_182 0 56 (dk_at dksX6_by_4 8 rfl rfl)
theorem dX6_by_102 : decode cX6_by 102 = .ok (.iinc 2 1, 3) := dk_132 2 1 (dk_at dksX6_by_4 11 rfl rfl)
theorem dX6_by_105 : decode cX6_by 105 = .ok (.goto (-86), 3) := dk_167 255 170 (dk_at dksX6_by_4 14 rfl rfl)
theorem dX6_by_108 : decode cX6_by 108 = .ok (.aload_n 0, 1) := dk_42 (dk_at dksX6_by_4 17 rfl rfl)
theorem dX6_by_109 : decode cX6_by 109 = .ok (.areturn, 1) := dk_176 (dk_at dksX6_by_4 18 rfl rfl)
abbrev cX6_says : ByteArray := prog_8_method_3_code
def yX6_says : MethodName := ⟨RX6, "says", "(IIZ)V"⟩
def dkwX6_says_1 : List UInt8 := [177]
abbrev dktX6_says_1 : List UInt8 := dkwX6_says_1 ++ []
def dkwX6_says_0 : List UInt8 := [42, 180, 0, 15, 27, 92, 46, 29, 153, 0, 9, 4, 28, 120, 167, 0, 8, 4, 28, 120, 2, 130, 126, 79]
abbrev dktX6_says_0 : List UInt8 := dkwX6_says_0 ++ dktX6_says_1
theorem dksX6_says_0 : cX6_says.data.toList.drop 0 = dktX6_says_0 := by decide +kernel
theorem dksX6_says_1 : cX6_says.data.toList.drop 24 = dktX6_says_1 := dk_seg dksX6_says_0 24 rfl rfl
theorem dX6_says_0 : decode cX6_says 0 = .ok (.aload_n 0, 1) := dk_42 (dk_at dksX6_says_0 0 rfl rfl)
theorem dX6_says_1 : decode cX6_says 1 = .ok (.getfield 15, 3) := dk_180 0 15 (dk_at dksX6_says_0 1 rfl rfl)
theorem dX6_says_4 : decode cX6_says 4 = .ok (.iload_n 1, 1) := dk_27 (dk_at dksX6_says_0 4 rfl rfl)
theorem dX6_says_5 : decode cX6_says 5 = .ok (.dup2, 1) := dk_92 (dk_at dksX6_says_0 5 rfl rfl)
theorem dX6_says_6 : decode cX6_says 6 = .ok (.iaload, 1) := dk_46 (dk_at dksX6_says_0 6 rfl rfl)
theorem dX6_says_7 : decode cX6_says 7 = .ok (.iload_n 3, 1) := dk_29 (dk_at dksX6_says_0 7 rfl rfl)
theorem dX6_says_8 : decode cX6_says 8 = .ok (.ifCond .eq 9, 3) := dk_153 0 9 (dk_at dksX6_says_0 8 rfl rfl)
theorem dX6_says_11 : decode cX6_says 11 = .ok (.iconst 1, 1) := dk_4 (dk_at dksX6_says_0 11 rfl rfl)
theorem dX6_says_12 : decode cX6_says 12 = .ok (.iload_n 2, 1) := dk_28 (dk_at dksX6_says_0 12 rfl rfl)
theorem dX6_says_13 : decode cX6_says 13 = .ok (.ishl, 1) := dk_120 (dk_at dksX6_says_0 13 rfl rfl)
theorem dX6_says_14 : decode cX6_says 14 = .ok (.goto 8, 3) := dk_167 0 8 (dk_at dksX6_says_0 14 rfl rfl)
theorem dX6_says_17 : decode cX6_says 17 = .ok (.iconst 1, 1) := dk_4 (dk_at dksX6_says_0 17 rfl rfl)
theorem dX6_says_18 : decode cX6_says 18 = .ok (.iload_n 2, 1) := dk_28 (dk_at dksX6_says_0 18 rfl rfl)
theorem dX6_says_19 : decode cX6_says 19 = .ok (.ishl, 1) := dk_120 (dk_at dksX6_says_0 19 rfl rfl)
theorem dX6_says_20 : decode cX6_says 20 = .ok (.iconst (-1), 1) := dk_2 (dk_at dksX6_says_0 20 rfl rfl)
theorem dX6_says_21 : decode cX6_says 21 = .ok (.ixor, 1) := dk_130 (dk_at dksX6_says_0 21 rfl rfl)
theorem dX6_says_22 : decode cX6_says 22 = .ok (.iand, 1) := dk_126 (dk_at dksX6_says_0 22 rfl rfl)
theorem dX6_says_23 : decode cX6_says 23 = .ok (.iastore, 1) := dk_79 (dk_at dksX6_says_0 23 rfl rfl)
theorem dX6_says_24 : decode cX6_says 24 = .ok (.return_, 1) := dk_177 (dk_at dksX6_says_1 0 rfl rfl)
abbrev cX6_many : ByteArray := prog_8_method_4_code
def yX6_many : MethodName := ⟨RX6, "many", "()I"⟩
def dkwX6_many_5 : List UInt8 := [180, 0, 19, 27, 29, 79, 132, 1, 255, 167, 255, 142, 42, 180, 0, 19, 3, 46, 172]
abbrev dktX6_many_5 : List UInt8 := dkwX6_many_5 ++ []
def dkwX6_many_4 : List UInt8 := [153, 0, 17, 29, 42, 180, 0, 19, 27, 4, 21, 4, 120, 128, 46, 96, 62, 132, 4, 1, 167, 255, 187, 42]
abbrev dktX6_many_4 : List UInt8 := dkwX6_many_4 ++ dktX6_many_5
def dkwX6_many_3 : List UInt8 := [162, 0, 46, 27, 21, 4, 184, 0, 48, 154, 0, 31, 42, 180, 0, 15, 28, 46, 21, 4, 184, 0, 48]
abbrev dktX6_many_3 : List UInt8 := dkwX6_many_3 ++ dktX6_many_4
def dkwX6_many_2 : List UInt8 := [180, 0, 3, 180, 0, 22, 180, 0, 66, 162, 0, 60, 28, 42, 180, 0, 3, 180, 0, 22, 180, 0, 66]
abbrev dktX6_many_2 : List UInt8 := dkwX6_many_2 ++ dktX6_many_3
def dkwX6_many_1 : List UInt8 := [180, 0, 3, 180, 0, 22, 182, 0, 26, 160, 0, 7, 4, 167, 0, 4, 3, 62, 3, 54, 4, 21, 4, 42]
abbrev dktX6_many_1 : List UInt8 := dkwX6_many_1 ++ dktX6_many_2
def dkwX6_many_0 : List UInt8 := [42, 180, 0, 3, 180, 0, 22, 182, 0, 26, 60, 27, 155, 0, 116, 27, 184, 0, 60, 61, 27, 42]
abbrev dktX6_many_0 : List UInt8 := dkwX6_many_0 ++ dktX6_many_1
theorem dksX6_many_0 : cX6_many.data.toList.drop 0 = dktX6_many_0 := by decide +kernel
theorem dksX6_many_1 : cX6_many.data.toList.drop 22 = dktX6_many_1 := dk_seg dksX6_many_0 22 rfl rfl
theorem dksX6_many_2 : cX6_many.data.toList.drop 46 = dktX6_many_2 := dk_seg dksX6_many_1 24 rfl rfl
theorem dksX6_many_3 : cX6_many.data.toList.drop 69 = dktX6_many_3 := dk_seg dksX6_many_2 23 rfl rfl
theorem dksX6_many_4 : cX6_many.data.toList.drop 92 = dktX6_many_4 := dk_seg dksX6_many_3 23 rfl rfl
theorem dksX6_many_5 : cX6_many.data.toList.drop 116 = dktX6_many_5 := dk_seg dksX6_many_4 24 rfl rfl
theorem dX6_many_0 : decode cX6_many 0 = .ok (.aload_n 0, 1) := dk_42 (dk_at dksX6_many_0 0 rfl rfl)
theorem dX6_many_1 : decode cX6_many 1 = .ok (.getfield 3, 3) := dk_180 0 3 (dk_at dksX6_many_0 1 rfl rfl)
theorem dX6_many_4 : decode cX6_many 4 = .ok (.getfield 22, 3) := dk_180 0 22 (dk_at dksX6_many_0 4 rfl rfl)
theorem dX6_many_7 : decode cX6_many 7 = .ok (.invokevirtual 26, 3) := dk_182 0 26 (dk_at dksX6_many_0 7 rfl rfl)
theorem dX6_many_10 : decode cX6_many 10 = .ok (.istore_n 1, 1) := dk_60 (dk_at dksX6_many_0 10 rfl rfl)
theorem dX6_many_11 : decode cX6_many 11 = .ok (.iload_n 1, 1) := dk_27 (dk_at dksX6_many_0 11 rfl rfl)
theorem dX6_many_12 : decode cX6_many 12 = .ok (.ifCond .lt 116, 3) := dk_155 0 116 (dk_at dksX6_many_0 12 rfl rfl)
theorem dX6_many_15 : decode cX6_many 15 = .ok (.iload_n 1, 1) := dk_27 (dk_at dksX6_many_0 15 rfl rfl)
theorem dX6_many_16 : decode cX6_many 16 = .ok (.invokestatic 60, 3) := dk_184 0 60 (dk_at dksX6_many_0 16 rfl rfl)
theorem dX6_many_19 : decode cX6_many 19 = .ok (.istore_n 2, 1) := dk_61 (dk_at dksX6_many_0 19 rfl rfl)
theorem dX6_many_20 : decode cX6_many 20 = .ok (.iload_n 1, 1) := dk_27 (dk_at dksX6_many_0 20 rfl rfl)
theorem dX6_many_21 : decode cX6_many 21 = .ok (.aload_n 0, 1) := dk_42 (dk_at dksX6_many_0 21 rfl rfl)
theorem dX6_many_22 : decode cX6_many 22 = .ok (.getfield 3, 3) := dk_180 0 3 (dk_at dksX6_many_1 0 rfl rfl)
theorem dX6_many_25 : decode cX6_many 25 = .ok (.getfield 22, 3) := dk_180 0 22 (dk_at dksX6_many_1 3 rfl rfl)
theorem dX6_many_28 : decode cX6_many 28 = .ok (.invokevirtual 26, 3) := dk_182 0 26 (dk_at dksX6_many_1 6 rfl rfl)
theorem dX6_many_31 : decode cX6_many 31 = .ok (.if_icmp .ne 7, 3) := dk_160 0 7 (dk_at dksX6_many_1 9 rfl rfl)
theorem dX6_many_34 : decode cX6_many 34 = .ok (.iconst 1, 1) := dk_4 (dk_at dksX6_many_1 12 rfl rfl)
theorem dX6_many_35 : decode cX6_many 35 = .ok (.goto 4, 3) := dk_167 0 4 (dk_at dksX6_many_1 13 rfl rfl)
theorem dX6_many_38 : decode cX6_many 38 = .ok (.iconst 0, 1) := dk_3 (dk_at dksX6_many_1 16 rfl rfl)
theorem dX6_many_39 : decode cX6_many 39 = .ok (.istore_n 3, 1) := dk_62 (dk_at dksX6_many_1 17 rfl rfl)
theorem dX6_many_40 : decode cX6_many 40 = .ok (.iconst 0, 1) := dk_3 (dk_at dksX6_many_1 18 rfl rfl)
theorem dX6_many_41 : decode cX6_many 41 = .ok (.istore 4, 2) := dk_54 4 (dk_at dksX6_many_1 19 rfl rfl)
theorem dX6_many_43 : decode cX6_many 43 = .ok (.iload 4, 2) := dk_21 4 (dk_at dksX6_many_1 21 rfl rfl)
theorem dX6_many_45 : decode cX6_many 45 = .ok (.aload_n 0, 1) := dk_42 (dk_at dksX6_many_1 23 rfl rfl)
theorem dX6_many_46 : decode cX6_many 46 = .ok (.getfield 3, 3) := dk_180 0 3 (dk_at dksX6_many_2 0 rfl rfl)
theorem dX6_many_49 : decode cX6_many 49 = .ok (.getfield 22, 3) := dk_180 0 22 (dk_at dksX6_many_2 3 rfl rfl)
theorem dX6_many_52 : decode cX6_many 52 = .ok (.getfield 66, 3) := dk_180 0 66 (dk_at dksX6_many_2 6 rfl rfl)
theorem dX6_many_55 : decode cX6_many 55 = .ok (.if_icmp .ge 60, 3) := dk_162 0 60 (dk_at dksX6_many_2 9 rfl rfl)
theorem dX6_many_58 : decode cX6_many 58 = .ok (.iload_n 2, 1) := dk_28 (dk_at dksX6_many_2 12 rfl rfl)
theorem dX6_many_59 : decode cX6_many 59 = .ok (.aload_n 0, 1) := dk_42 (dk_at dksX6_many_2 13 rfl rfl)
theorem dX6_many_60 : decode cX6_many 60 = .ok (.getfield 3, 3) := dk_180 0 3 (dk_at dksX6_many_2 14 rfl rfl)
theorem dX6_many_63 : decode cX6_many 63 = .ok (.getfield 22, 3) := dk_180 0 22 (dk_at dksX6_many_2 17 rfl rfl)
theorem dX6_many_66 : decode cX6_many 66 = .ok (.getfield 66, 3) := dk_180 0 66 (dk_at dksX6_many_2 20 rfl rfl)
theorem dX6_many_69 : decode cX6_many 69 = .ok (.if_icmp .ge 46, 3) := dk_162 0 46 (dk_at dksX6_many_3 0 rfl rfl)
theorem dX6_many_72 : decode cX6_many 72 = .ok (.iload_n 1, 1) := dk_27 (dk_at dksX6_many_3 3 rfl rfl)
theorem dX6_many_73 : decode cX6_many 73 = .ok (.iload 4, 2) := dk_21 4 (dk_at dksX6_many_3 4 rfl rfl)
theorem dX6_many_75 : decode cX6_many 75 = .ok (.invokestatic 48, 3) := dk_184 0 48 (dk_at dksX6_many_3 6 rfl rfl)
theorem dX6_many_78 : decode cX6_many 78 = .ok (.ifCond .ne 31, 3) := dk_154 0 31 (dk_at dksX6_many_3 9 rfl rfl)
theorem dX6_many_81 : decode cX6_many 81 = .ok (.aload_n 0, 1) := dk_42 (dk_at dksX6_many_3 12 rfl rfl)
theorem dX6_many_82 : decode cX6_many 82 = .ok (.getfield 15, 3) := dk_180 0 15 (dk_at dksX6_many_3 13 rfl rfl)
theorem dX6_many_85 : decode cX6_many 85 = .ok (.iload_n 2, 1) := dk_28 (dk_at dksX6_many_3 16 rfl rfl)
theorem dX6_many_86 : decode cX6_many 86 = .ok (.iaload, 1) := dk_46 (dk_at dksX6_many_3 17 rfl rfl)
theorem dX6_many_87 : decode cX6_many 87 = .ok (.iload 4, 2) := dk_21 4 (dk_at dksX6_many_3 18 rfl rfl)
theorem dX6_many_89 : decode cX6_many 89 = .ok (.invokestatic 48, 3) := dk_184 0 48 (dk_at dksX6_many_3 20 rfl rfl)
theorem dX6_many_92 : decode cX6_many 92 = .ok (.ifCond .eq 17, 3) := dk_153 0 17 (dk_at dksX6_many_4 0 rfl rfl)
theorem dX6_many_95 : decode cX6_many 95 = .ok (.iload_n 3, 1) := dk_29 (dk_at dksX6_many_4 3 rfl rfl)
theorem dX6_many_96 : decode cX6_many 96 = .ok (.aload_n 0, 1) := dk_42 (dk_at dksX6_many_4 4 rfl rfl)
theorem dX6_many_97 : decode cX6_many 97 = .ok (.getfield 19, 3) := dk_180 0 19 (dk_at dksX6_many_4 5 rfl rfl)
theorem dX6_many_100 : decode cX6_many 100 = .ok (.iload_n 1, 1) := dk_27 (dk_at dksX6_many_4 8 rfl rfl)
theorem dX6_many_101 : decode cX6_many 101 = .ok (.iconst 1, 1) := dk_4 (dk_at dksX6_many_4 9 rfl rfl)
theorem dX6_many_102 : decode cX6_many 102 = .ok (.iload 4, 2) := dk_21 4 (dk_at dksX6_many_4 10 rfl rfl)
theorem dX6_many_104 : decode cX6_many 104 = .ok (.ishl, 1) := dk_120 (dk_at dksX6_many_4 12 rfl rfl)
theorem dX6_many_105 : decode cX6_many 105 = .ok (.ior, 1) := dk_128 (dk_at dksX6_many_4 13 rfl rfl)
theorem dX6_many_106 : decode cX6_many 106 = .ok (.iaload, 1) := dk_46 (dk_at dksX6_many_4 14 rfl rfl)
theorem dX6_many_107 : decode cX6_many 107 = .ok (.iadd, 1) := dk_96 (dk_at dksX6_many_4 15 rfl rfl)
theorem dX6_many_108 : decode cX6_many 108 = .ok (.istore_n 3, 1) := dk_62 (dk_at dksX6_many_4 16 rfl rfl)
theorem dX6_many_109 : decode cX6_many 109 = .ok (.iinc 4 1, 3) := dk_132 4 1 (dk_at dksX6_many_4 17 rfl rfl)
theorem dX6_many_112 : decode cX6_many 112 = .ok (.goto (-69), 3) := dk_167 255 187 (dk_at dksX6_many_4 20 rfl rfl)
theorem dX6_many_115 : decode cX6_many 115 = .ok (.aload_n 0, 1) := dk_42 (dk_at dksX6_many_4 23 rfl rfl)
theorem dX6_many_116 : decode cX6_many 116 = .ok (.getfield 19, 3) := dk_180 0 19 (dk_at dksX6_many_5 0 rfl rfl)
theorem dX6_many_119 : decode cX6_many 119 = .ok (.iload_n 1, 1) := dk_27 (dk_at dksX6_many_5 3 rfl rfl)
theorem dX6_many_120 : decode cX6_many 120 = .ok (.iload_n 3, 1) := dk_29 (dk_at dksX6_many_5 4 rfl rfl)
theorem dX6_many_121 : decode cX6_many 121 = .ok (.iastore, 1) := dk_79 (dk_at dksX6_many_5 5 rfl rfl)
theorem dX6_many_122 : decode cX6_many 122 = .ok (.iinc 1 (-1), 3) := dk_132 1 255 (dk_at dksX6_many_5 6 rfl rfl)
theorem dX6_many_125 : decode cX6_many 125 = .ok (.goto (-114), 3) := dk_167 255 142 (dk_at dksX6_many_5 9 rfl rfl)
theorem dX6_many_128 : decode cX6_many 128 = .ok (.aload_n 0, 1) := dk_42 (dk_at dksX6_many_5 12 rfl rfl)
theorem dX6_many_129 : decode cX6_many 129 = .ok (.getfield 19, 3) := dk_180 0 19 (dk_at dksX6_many_5 13 rfl rfl)
theorem dX6_many_132 : decode cX6_many 132 = .ok (.iconst 0, 1) := dk_3 (dk_at dksX6_many_5 16 rfl rfl)
theorem dX6_many_133 : decode cX6_many 133 = .ok (.iaload, 1) := dk_46 (dk_at dksX6_many_5 17 rfl rfl)
theorem dX6_many_134 : decode cX6_many 134 = .ok (.ireturn, 1) := dk_172 (dk_at dksX6_many_5 18 rfl rfl)
abbrev cX6_having : ByteArray := prog_8_method_5_code
def yX6_having : MethodName := ⟨RX6, "having", "(II)I"⟩
def dkwX6_having_1 : List UInt8 := [54, 4, 42, 180, 0, 15, 27, 29, 79, 21, 4, 172]
abbrev dktX6_having_1 : List UInt8 := dkwX6_having_1 ++ []
def dkwX6_having_0 : List UInt8 := [42, 180, 0, 15, 27, 46, 62, 42, 180, 0, 15, 27, 92, 46, 4, 28, 120, 126, 79, 42, 182, 0, 69]
abbrev dktX6_having_0 : List UInt8 := dkwX6_having_0 ++ dktX6_having_1
theorem dksX6_having_0 : cX6_having.data.toList.drop 0 = dktX6_having_0 := by decide +kernel
theorem dksX6_having_1 : cX6_having.data.toList.drop 23 = dktX6_having_1 := dk_seg dksX6_having_0 23 rfl rfl
theorem dX6_having_0 : decode cX6_having 0 = .ok (.aload_n 0, 1) := dk_42 (dk_at dksX6_having_0 0 rfl rfl)
theorem dX6_having_1 : decode cX6_having 1 = .ok (.getfield 15, 3) := dk_180 0 15 (dk_at dksX6_having_0 1 rfl rfl)
theorem dX6_having_4 : decode cX6_having 4 = .ok (.iload_n 1, 1) := dk_27 (dk_at dksX6_having_0 4 rfl rfl)
theorem dX6_having_5 : decode cX6_having 5 = .ok (.iaload, 1) := dk_46 (dk_at dksX6_having_0 5 rfl rfl)
theorem dX6_having_6 : decode cX6_having 6 = .ok (.istore_n 3, 1) := dk_62 (dk_at dksX6_having_0 6 rfl rfl)
theorem dX6_having_7 : decode cX6_having 7 = .ok (.aload_n 0, 1) := dk_42 (dk_at dksX6_having_0 7 rfl rfl)
theorem dX6_having_8 : decode cX6_having 8 = .ok (.getfield 15, 3) := dk_180 0 15 (dk_at dksX6_having_0 8 rfl rfl)
theorem dX6_having_11 : decode cX6_having 11 = .ok (.iload_n 1, 1) := dk_27 (dk_at dksX6_having_0 11 rfl rfl)
theorem dX6_having_12 : decode cX6_having 12 = .ok (.dup2, 1) := dk_92 (dk_at dksX6_having_0 12 rfl rfl)
theorem dX6_having_13 : decode cX6_having 13 = .ok (.iaload, 1) := dk_46 (dk_at dksX6_having_0 13 rfl rfl)
theorem dX6_having_14 : decode cX6_having 14 = .ok (.iconst 1, 1) := dk_4 (dk_at dksX6_having_0 14 rfl rfl)
theorem dX6_having_15 : decode cX6_having 15 = .ok (.iload_n 2, 1) := dk_28 (dk_at dksX6_having_0 15 rfl rfl)
theorem dX6_having_16 : decode cX6_having 16 = .ok (.ishl, 1) := dk_120 (dk_at dksX6_having_0 16 rfl rfl)
theorem dX6_having_17 : decode cX6_having 17 = .ok (.iand, 1) := dk_126 (dk_at dksX6_having_0 17 rfl rfl)
theorem dX6_having_18 : decode cX6_having 18 = .ok (.iastore, 1) := dk_79 (dk_at dksX6_having_0 18 rfl rfl)
theorem dX6_having_19 : decode cX6_having 19 = .ok (.aload_n 0, 1) := dk_42 (dk_at dksX6_having_0 19 rfl rfl)
theorem dX6_having_20 : decode cX6_having 20 = .ok (.invokevirtual 69, 3) := dk_182 0 69 (dk_at dksX6_having_0 20 rfl rfl)
theorem dX6_having_23 : decode cX6_having 23 = .ok (.istore 4, 2) := dk_54 4 (dk_at dksX6_having_1 0 rfl rfl)
theorem dX6_having_25 : decode cX6_having 25 = .ok (.aload_n 0, 1) := dk_42 (dk_at dksX6_having_1 2 rfl rfl)
theorem dX6_having_26 : decode cX6_having 26 = .ok (.getfield 15, 3) := dk_180 0 15 (dk_at dksX6_having_1 3 rfl rfl)
theorem dX6_having_29 : decode cX6_having 29 = .ok (.iload_n 1, 1) := dk_27 (dk_at dksX6_having_1 6 rfl rfl)
theorem dX6_having_30 : decode cX6_having 30 = .ok (.iload_n 3, 1) := dk_29 (dk_at dksX6_having_1 7 rfl rfl)
theorem dX6_having_31 : decode cX6_having 31 = .ok (.iastore, 1) := dk_79 (dk_at dksX6_having_1 8 rfl rfl)
theorem dX6_having_32 : decode cX6_having 32 = .ok (.iload 4, 2) := dk_21 4 (dk_at dksX6_having_1 9 rfl rfl)
theorem dX6_having_34 : decode cX6_having 34 = .ok (.ireturn, 1) := dk_172 (dk_at dksX6_having_1 11 rfl rfl)
