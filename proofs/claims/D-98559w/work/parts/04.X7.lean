/-! decode rows of X7 -/
set_option maxRecDepth 100000
abbrev cX7_init : ByteArray := prog_10_method_1_code
def yX7_init : MethodName := ⟨RX7, "<init>", "(LHungFaces;)V"⟩
def dkwX7_init_1 : List UInt8 := [181, 0, 19, 177]
abbrev dktX7_init_1 : List UInt8 := dkwX7_init_1 ++ []
def dkwX7_init_0 : List UInt8 := [42, 43, 181, 0, 3, 42, 183, 0, 9, 42, 16, 10, 188, 10, 181, 0, 15, 42, 17, 40, 0, 188, 10]
abbrev dktX7_init_0 : List UInt8 := dkwX7_init_0 ++ dktX7_init_1
theorem dksX7_init_0 : cX7_init.data.toList.drop 0 = dktX7_init_0 := by decide +kernel
theorem dksX7_init_1 : cX7_init.data.toList.drop 23 = dktX7_init_1 := dk_seg dksX7_init_0 23 rfl rfl
theorem dX7_init_0 : decode cX7_init 0 = .ok (.aload_n 0, 1) := dk_42 (dk_at dksX7_init_0 0 rfl rfl)
theorem dX7_init_1 : decode cX7_init 1 = .ok (.aload_n 1, 1) := dk_43 (dk_at dksX7_init_0 1 rfl rfl)
theorem dX7_init_2 : decode cX7_init 2 = .ok (.putfield 3, 3) := dk_181 0 3 (dk_at dksX7_init_0 2 rfl rfl)
theorem dX7_init_5 : decode cX7_init 5 = .ok (.aload_n 0, 1) := dk_42 (dk_at dksX7_init_0 5 rfl rfl)
theorem dX7_init_6 : decode cX7_init 6 = .ok (.invokespecial 9, 3) := dk_183 0 9 (dk_at dksX7_init_0 6 rfl rfl)
theorem dX7_init_9 : decode cX7_init 9 = .ok (.aload_n 0, 1) := dk_42 (dk_at dksX7_init_0 9 rfl rfl)
theorem dX7_init_10 : decode cX7_init 10 = .ok (.bipush 10, 2) := dk_16 10 (dk_at dksX7_init_0 10 rfl rfl)
theorem dX7_init_12 : decode cX7_init 12 = .ok (.newarray .int, 2) := dk_188_10 (dk_at dksX7_init_0 12 rfl rfl)
theorem dX7_init_14 : decode cX7_init 14 = .ok (.putfield 15, 3) := dk_181 0 15 (dk_at dksX7_init_0 14 rfl rfl)
theorem dX7_init_17 : decode cX7_init 17 = .ok (.aload_n 0, 1) := dk_42 (dk_at dksX7_init_0 17 rfl rfl)
theorem dX7_init_18 : decode cX7_init 18 = .ok (.sipush 10240, 3) := dk_17 40 0 (dk_at dksX7_init_0 18 rfl rfl)
theorem dX7_init_21 : decode cX7_init 21 = .ok (.newarray .int, 2) := dk_188_10 (dk_at dksX7_init_0 21 rfl rfl)
theorem dX7_init_23 : decode cX7_init 23 = .ok (.putfield 19, 3) := dk_181 0 19 (dk_at dksX7_init_1 0 rfl rfl)
theorem dX7_init_26 : decode cX7_init 26 = .ok (.return_, 1) := dk_177 (dk_at dksX7_init_1 3 rfl rfl)
abbrev cX7_begins : ByteArray := prog_10_method_2_code
def yX7_begins : MethodName := ⟨RX7, "begins", "()LHungFaces$Queue;"⟩
def dkwX7_begins_4 : List UInt8 := [132, 2, 255, 167, 255, 216, 42, 176]
abbrev dktX7_begins_4 : List UInt8 := dkwX7_begins_4 ++ []
def dkwX7_begins_3 : List UInt8 := [180, 0, 19, 29, 16, 10, 120, 28, 128, 42, 28, 29, 182, 0, 46, 79, 132, 3, 1, 167, 255, 228]
abbrev dktX7_begins_3 : List UInt8 := dkwX7_begins_3 ++ dktX7_begins_4
def dkwX7_begins_2 : List UInt8 := [42, 180, 0, 38, 120, 4, 100, 61, 28, 158, 0, 42, 3, 62, 29, 42, 180, 0, 38, 162, 0, 26, 42]
abbrev dktX7_begins_2 : List UInt8 := dkwX7_begins_2 ++ dktX7_begins_3
def dkwX7_begins_1 : List UInt8 := [180, 0, 38, 162, 0, 20, 42, 180, 0, 15, 28, 27, 28, 184, 0, 42, 79, 132, 2, 1, 167, 255, 234, 4]
abbrev dktX7_begins_1 : List UInt8 := dkwX7_begins_1 ++ dktX7_begins_2
def dkwX7_begins_0 : List UInt8 := [42, 180, 0, 3, 180, 0, 22, 182, 0, 26, 60, 42, 27, 184, 0, 32, 181, 0, 38, 3, 61, 28, 42]
abbrev dktX7_begins_0 : List UInt8 := dkwX7_begins_0 ++ dktX7_begins_1
theorem dksX7_begins_0 : cX7_begins.data.toList.drop 0 = dktX7_begins_0 := by decide +kernel
theorem dksX7_begins_1 : cX7_begins.data.toList.drop 23 = dktX7_begins_1 := dk_seg dksX7_begins_0 23 rfl rfl
theorem dksX7_begins_2 : cX7_begins.data.toList.drop 47 = dktX7_begins_2 := dk_seg dksX7_begins_1 24 rfl rfl
theorem dksX7_begins_3 : cX7_begins.data.toList.drop 70 = dktX7_begins_3 := dk_seg dksX7_begins_2 23 rfl rfl
theorem dksX7_begins_4 : cX7_begins.data.toList.drop 92 = dktX7_begins_4 := dk_seg dksX7_begins_3 22 rfl rfl
theorem dX7_begins_0 : decode cX7_begins 0 = .ok (.aload_n 0, 1) := dk_42 (dk_at dksX7_begins_0 0 rfl rfl)
theorem dX7_begins_1 : decode cX7_begins 1 = .ok (.getfield 3, 3) := dk_180 0 3 (dk_at dksX7_begins_0 1 rfl rfl)
theorem dX7_begins_4 : decode cX7_begins 4 = .ok (.getfield 22, 3) := dk_180 0 22 (dk_at dksX7_begins_0 4 rfl rfl)
theorem dX7_begins_7 : decode cX7_begins 7 = .ok (.invokevirtual 26, 3) := dk_182 0 26 (dk_at dksX7_begins_0 7 rfl rfl)
theorem dX7_begins_10 : decode cX7_begins 10 = .ok (.istore_n 1, 1) := dk_60 (dk_at dksX7_begins_0 10 rfl rfl)
theorem dX7_begins_11 : decode cX7_begins 11 = .ok (.aload_n 0, 1) := dk_42 (dk_at dksX7_begins_0 11 rfl rfl)
theorem dX7_begins_12 : decode cX7_begins 12 = .ok (.iload_n 1, 1) := dk_27 (dk_at dksX7_begins_0 12 rfl rfl)
theorem dX7_begins_13 : decode cX7_begins 13 = .ok (.invokestatic 32, 3) := dk_184 0 32 (dk_at dksX7_begins_0 13 rfl rfl)
theorem dX7_begins_16 : decode cX7_begins 16 = .ok (.putfield 38, 3) := dk_181 0 38 (dk_at dksX7_begins_0 16 rfl rfl)
theorem dX7_begins_19 : decode cX7_begins 19 = .ok (.iconst 0, 1) := dk_3 (dk_at dksX7_begins_0 19 rfl rfl)
theorem dX7_begins_20 : decode cX7_begins 20 = .ok (.istore_n 2, 1) := dk_61 (dk_at dksX7_begins_0 20 rfl rfl)
theorem dX7_begins_21 : decode cX7_begins 21 = .ok (.iload_n 2, 1) := dk_28 (dk_at dksX7_begins_0 21 rfl rfl)
theorem dX7_begins_22 : decode cX7_begins 22 = .ok (.aload_n 0, 1) := dk_42 (dk_at dksX7_begins_0 22 rfl rfl)
theorem dX7_begins_23 : decode cX7_begins 23 = .ok (.getfield 38, 3) := dk_180 0 38 (dk_at dksX7_begins_1 0 rfl rfl)
theorem dX7_begins_26 : decode cX7_begins 26 = .ok (.if_icmp .ge 20, 3) := dk_162 0 20 (dk_at dksX7_begins_1 3 rfl rfl)
theorem dX7_begins_29 : decode cX7_begins 29 = .ok (.aload_n 0, 1) := dk_42 (dk_at dksX7_begins_1 6 rfl rfl)
theorem dX7_begins_30 : decode cX7_begins 30 = .ok (.getfield 15, 3) := dk_180 0 15 (dk_at dksX7_begins_1 7 rfl rfl)
theorem dX7_begins_33 : decode cX7_begins 33 = .ok (.iload_n 2, 1) := dk_28 (dk_at dksX7_begins_1 10 rfl rfl)
theorem dX7_begins_34 : decode cX7_begins 34 = .ok (.iload_n 1, 1) := dk_27 (dk_at dksX7_begins_1 11 rfl rfl)
theorem dX7_begins_35 : decode cX7_begins 35 = .ok (.iload_n 2, 1) := dk_28 (dk_at dksX7_begins_1 12 rfl rfl)
theorem dX7_begins_36 : decode cX7_begins 36 = .ok (.invokestatic 42, 3) := dk_184 0 42 (dk_at dksX7_begins_1 13 rfl rfl)
theorem dX7_begins_39 : decode cX7_begins 39 = .ok (.iastore, 1) := dk_79 (dk_at dksX7_begins_1 16 rfl rfl)
theorem dX7_begins_40 : decode cX7_begins 40 = .ok (.iinc 2 1, 3) := dk_132 2 1 (dk_at dksX7_begins_1 17 rfl rfl)
theorem dX7_begins_43 : decode cX7_begins 43 = .ok (.goto (-22), 3) := dk_167 255 234 (dk_at dksX7_begins_1 20 rfl rfl)
theorem dX7_begins_46 : decode cX7_begins 46 = .ok (.iconst 1, 1) := dk_4 (dk_at dksX7_begins_1 23 rfl rfl)
theorem dX7_begins_47 : decode cX7_begins 47 = .ok (.aload_n 0, 1) := dk_42 (dk_at dksX7_begins_2 0 rfl rfl)
theorem dX7_begins_48 : decode cX7_begins 48 = .ok (.getfield 38, 3) := dk_180 0 38 (dk_at dksX7_begins_2 1 rfl rfl)
theorem dX7_begins_51 : decode cX7_begins 51 = .ok (.ishl, 1) := dk_120 (dk_at dksX7_begins_2 4 rfl rfl)
theorem dX7_begins_52 : decode cX7_begins 52 = .ok (.iconst 1, 1) := dk_4 (dk_at dksX7_begins_2 5 rfl rfl)
theorem dX7_begins_53 : decode cX7_begins 53 = .ok (.isub, 1) := dk_100 (dk_at dksX7_begins_2 6 rfl rfl)
theorem dX7_begins_54 : decode cX7_begins 54 = .ok (.istore_n 2, 1) := dk_61 (dk_at dksX7_begins_2 7 rfl rfl)
theorem dX7_begins_55 : decode cX7_begins 55 = .ok (.iload_n 2, 1) := dk_28 (dk_at dksX7_begins_2 8 rfl rfl)
theorem dX7_begins_56 : decode cX7_begins 56 = .ok (.ifCond .le 42, 3) := dk_158 0 42 (dk_at dksX7_begins_2 9 rfl rfl)
theorem dX7_begins_59 : decode cX7_begins 59 = .ok (.iconst 0, 1) := dk_3 (dk_at dksX7_begins_2 12 rfl rfl)
theorem dX7_begins_60 : decode cX7_begins 60 = .ok (.istore_n 3, 1) := dk_62 (dk_at dksX7_begins_2 13 rfl rfl)
theorem dX7_begins_61 : decode cX7_begins 61 = .ok (.iload_n 3, 1) := dk_29 (dk_at dksX7_begins_2 14 rfl rfl)
theorem dX7_begins_62 : decode cX7_begins 62 = .ok (.aload_n 0, 1) := dk_42 (dk_at dksX7_begins_2 15 rfl rfl)
theorem dX7_begins_63 : decode cX7_begins 63 = .ok (.getfield 38, 3) := dk_180 0 38 (dk_at dksX7_begins_2 16 rfl rfl)
theorem dX7_begins_66 : decode cX7_begins 66 = .ok (.if_icmp .ge 26, 3) := dk_162 0 26 (dk_at dksX7_begins_2 19 rfl rfl)
theorem dX7_begins_69 : decode cX7_begins 69 = .ok (.aload_n 0, 1) := dk_42 (dk_at dksX7_begins_2 22 rfl rfl)
theorem dX7_begins_70 : decode cX7_begins 70 = .ok (.getfield 19, 3) := dk_180 0 19 (dk_at dksX7_begins_3 0 rfl rfl)
theorem dX7_begins_73 : decode cX7_begins 73 = .ok (.iload_n 3, 1) := dk_29 (dk_at dksX7_begins_3 3 rfl rfl)
theorem dX7_begins_74 : decode cX7_begins 74 = .ok (.bipush 10, 2) := dk_16 10 (dk_at dksX7_begins_3 4 rfl rfl)
theorem dX7_begins_76 : decode cX7_begins 76 = .ok (.ishl, 1) := dk_120 (dk_at dksX7_begins_3 6 rfl rfl)
theorem dX7_begins_77 : decode cX7_begins 77 = .ok (.iload_n 2, 1) := dk_28 (dk_at dksX7_begins_3 7 rfl rfl)
theorem dX7_begins_78 : decode cX7_begins 78 = .ok (.ior, 1) := dk_128 (dk_at dksX7_begins_3 8 rfl rfl)
theorem dX7_begins_79 : decode cX7_begins 79 = .ok (.aload_n 0, 1) := dk_42 (dk_at dksX7_begins_3 9 rfl rfl)
theorem dX7_begins_80 : decode cX7_begins 80 = .ok (.iload_n 2, 1) := dk_28 (dk_at dksX7_begins_3 10 rfl rfl)
theorem dX7_begins_81 : decode cX7_begins 81 = .ok (.iload_n 3, 1) := dk_29 (dk_at dksX7_begins_3 11 rfl rfl)
theorem dX7_begins_82 : decode cX7_begins 82 = .ok (.invokevirtual 46, 3) := dk_182 0 46 (dk_at dksX7_begins_3 12 rfl rfl)
theorem dX7_begins_85 : decode cX7_begins 85 = .ok (.iastore, 1) := dk_79 (dk_at dksX7_begins_3 15 rfl rfl)
theorem dX7_begins_86 : decode cX7_begins 86 = .ok (.iinc 3 1, 3) := dk_132 3 1 (dk_at dksX7_begins_3 16 rfl rfl)
theorem dX7_begins_89 : decode cX7_begins 89 = .ok (.goto (-28), 3) := dk_167 255 228 (dk_at dksX7_begins_3 19 rfl rfl)
theorem dX7_begins_92 : decode cX7_begins 92 = .ok (.iinc 2 (-1), 3) := dk_132 2 255 (dk_at dksX7_begins_4 0 rfl rfl)
theorem dX7_begins_95 : decode cX7_begins 95 = .ok (.goto (-40), 3) := dk_167 255 216 (dk_at dksX7_begins_4 3 rfl rfl)
theorem dX7_begins_98 : decode cX7_begins 98 = .ok (.aload_n 0, 1) := dk_42 (dk_at dksX7_begins_4 6 rfl rfl)
theorem dX7_begins_99 : decode cX7_begins 99 = .ok (.areturn, 1) := dk_176 (dk_at dksX7_begins_4 7 rfl rfl)
abbrev cX7_rest : ByteArray := prog_10_method_5_code
def yX7_rest : MethodName := ⟨RX7, "rest", "(II)I"⟩
def dkwX7_rest_2 : List UInt8 := [184, 0, 69, 62, 132, 4, 1, 167, 255, 222, 29, 172]
abbrev dktX7_rest_2 : List UInt8 := dkwX7_rest_2 ++ []
def dkwX7_rest_1 : List UInt8 := [180, 0, 38, 162, 0, 31, 27, 21, 4, 184, 0, 61, 154, 0, 16, 29, 42, 27, 28, 21, 4, 182, 0, 65]
abbrev dktX7_rest_1 : List UInt8 := dkwX7_rest_1 ++ dktX7_rest_2
def dkwX7_rest_0 : List UInt8 := [27, 4, 42, 180, 0, 38, 120, 4, 100, 160, 0, 5, 3, 172, 18, 60, 62, 3, 54, 4, 21, 4, 42]
abbrev dktX7_rest_0 : List UInt8 := dkwX7_rest_0 ++ dktX7_rest_1
theorem dksX7_rest_0 : cX7_rest.data.toList.drop 0 = dktX7_rest_0 := by decide +kernel
theorem dksX7_rest_1 : cX7_rest.data.toList.drop 23 = dktX7_rest_1 := dk_seg dksX7_rest_0 23 rfl rfl
theorem dksX7_rest_2 : cX7_rest.data.toList.drop 47 = dktX7_rest_2 := dk_seg dksX7_rest_1 24 rfl rfl
theorem dX7_rest_0 : decode cX7_rest 0 = .ok (.iload_n 1, 1) := dk_27 (dk_at dksX7_rest_0 0 rfl rfl)
theorem dX7_rest_1 : decode cX7_rest 1 = .ok (.iconst 1, 1) := dk_4 (dk_at dksX7_rest_0 1 rfl rfl)
theorem dX7_rest_2 : decode cX7_rest 2 = .ok (.aload_n 0, 1) := dk_42 (dk_at dksX7_rest_0 2 rfl rfl)
theorem dX7_rest_3 : decode cX7_rest 3 = .ok (.getfield 38, 3) := dk_180 0 38 (dk_at dksX7_rest_0 3 rfl rfl)
theorem dX7_rest_6 : decode cX7_rest 6 = .ok (.ishl, 1) := dk_120 (dk_at dksX7_rest_0 6 rfl rfl)
theorem dX7_rest_7 : decode cX7_rest 7 = .ok (.iconst 1, 1) := dk_4 (dk_at dksX7_rest_0 7 rfl rfl)
theorem dX7_rest_8 : decode cX7_rest 8 = .ok (.isub, 1) := dk_100 (dk_at dksX7_rest_0 8 rfl rfl)
theorem dX7_rest_9 : decode cX7_rest 9 = .ok (.if_icmp .ne 5, 3) := dk_160 0 5 (dk_at dksX7_rest_0 9 rfl rfl)
theorem dX7_rest_12 : decode cX7_rest 12 = .ok (.iconst 0, 1) := dk_3 (dk_at dksX7_rest_0 12 rfl rfl)
theorem dX7_rest_13 : decode cX7_rest 13 = .ok (.ireturn, 1) := dk_172 (dk_at dksX7_rest_0 13 rfl rfl)
theorem dX7_rest_14 : decode cX7_rest 14 = .ok (.ldc 60, 2) := dk_18 60 (dk_at dksX7_rest_0 14 rfl rfl)
theorem dX7_rest_16 : decode cX7_rest 16 = .ok (.istore_n 3, 1) := dk_62 (dk_at dksX7_rest_0 16 rfl rfl)
theorem dX7_rest_17 : decode cX7_rest 17 = .ok (.iconst 0, 1) := dk_3 (dk_at dksX7_rest_0 17 rfl rfl)
theorem dX7_rest_18 : decode cX7_rest 18 = .ok (.istore 4, 2) := dk_54 4 (dk_at dksX7_rest_0 18 rfl rfl)
theorem dX7_rest_20 : decode cX7_rest 20 = .ok (.iload 4, 2) := dk_21 4 (dk_at dksX7_rest_0 20 rfl rfl)
theorem dX7_rest_22 : decode cX7_rest 22 = .ok (.aload_n 0, 1) := dk_42 (dk_at dksX7_rest_0 22 rfl rfl)
theorem dX7_rest_23 : decode cX7_rest 23 = .ok (.getfield 38, 3) := dk_180 0 38 (dk_at dksX7_rest_1 0 rfl rfl)
theorem dX7_rest_26 : decode cX7_rest 26 = .ok (.if_icmp .ge 31, 3) := dk_162 0 31 (dk_at dksX7_rest_1 3 rfl rfl)
theorem dX7_rest_29 : decode cX7_rest 29 = .ok (.iload_n 1, 1) := dk_27 (dk_at dksX7_rest_1 6 rfl rfl)
theorem dX7_rest_30 : decode cX7_rest 30 = .ok (.iload 4, 2) := dk_21 4 (dk_at dksX7_rest_1 7 rfl rfl)
theorem dX7_rest_32 : decode cX7_rest 32 = .ok (.invokestatic 61, 3) := dk_184 0 61 (dk_at dksX7_rest_1 9 rfl rfl)
theorem dX7_rest_35 : decode cX7_rest 35 = .ok (.ifCond .ne 16, 3) := dk_154 0 16 (dk_at dksX7_rest_1 12 rfl rfl)
theorem dX7_rest_38 : decode cX7_rest 38 = .ok (.iload_n 3, 1) := dk_29 (dk_at dksX7_rest_1 15 rfl rfl)
theorem dX7_rest_39 : decode cX7_rest 39 = .ok (.aload_n 0, 1) := dk_42 (dk_at dksX7_rest_1 16 rfl rfl)
theorem dX7_rest_40 : decode cX7_rest 40 = .ok (.iload_n 1, 1) := dk_27 (dk_at dksX7_rest_1 17 rfl rfl)
theorem dX7_rest_41 : decode cX7_rest 41 = .ok (.iload_n 2, 1) := dk_28 (dk_at dksX7_rest_1 18 rfl rfl)
theorem dX7_rest_42 : decode cX7_rest 42 = .ok (.iload 4, 2) := dk_21 4 (dk_at dksX7_rest_1 19 rfl rfl)
theorem dX7_rest_44 : decode cX7_rest 44 = .ok (.invokevirtual 65, 3) := dk_182 0 65 (dk_at dksX7_rest_1 21 rfl rfl)
theorem dX7_rest_47 : decode cX7_rest 47 = .ok (.invokestatic 69, 3) := dk_184 0 69 (dk_at dksX7_rest_2 0 rfl rfl)
theorem dX7_rest_50 : decode cX7_rest 50 = .ok (.istore_n 3, 1) := dk_62 (dk_at dksX7_rest_2 3 rfl rfl)
theorem dX7_rest_51 : decode cX7_rest 51 = .ok (.iinc 4 1, 3) := dk_132 4 1 (dk_at dksX7_rest_2 4 rfl rfl)
theorem dX7_rest_54 : decode cX7_rest 54 = .ok (.goto (-34), 3) := dk_167 255 222 (dk_at dksX7_rest_2 7 rfl rfl)
theorem dX7_rest_57 : decode cX7_rest 57 = .ok (.iload_n 3, 1) := dk_29 (dk_at dksX7_rest_2 10 rfl rfl)
theorem dX7_rest_58 : decode cX7_rest 58 = .ok (.ireturn, 1) := dk_172 (dk_at dksX7_rest_2 11 rfl rfl)
abbrev cX7_by : ByteArray := prog_10_method_4_code
def yX7_by : MethodName := ⟨RX7, "by", "(III)I"⟩
def dkwX7_by_2 : List UInt8 := [128, 46, 96, 172]
abbrev dktX7_by_2 : List UInt8 := dkwX7_by_2 ++ []
def dkwX7_by_1 : List UInt8 := [184, 0, 32, 100, 54, 5, 21, 4, 21, 5, 104, 42, 180, 0, 19, 29, 16, 10, 120, 27, 128, 4, 29, 120]
abbrev dktX7_by_1 : List UInt8 := dkwX7_by_1 ++ dktX7_by_2
def dkwX7_by_0 : List UInt8 := [42, 28, 182, 0, 52, 42, 29, 182, 0, 52, 100, 184, 0, 55, 4, 96, 54, 4, 42, 180, 0, 38, 27]
abbrev dktX7_by_0 : List UInt8 := dkwX7_by_0 ++ dktX7_by_1
theorem dksX7_by_0 : cX7_by.data.toList.drop 0 = dktX7_by_0 := by decide +kernel
theorem dksX7_by_1 : cX7_by.data.toList.drop 23 = dktX7_by_1 := dk_seg dksX7_by_0 23 rfl rfl
theorem dksX7_by_2 : cX7_by.data.toList.drop 47 = dktX7_by_2 := dk_seg dksX7_by_1 24 rfl rfl
theorem dX7_by_0 : decode cX7_by 0 = .ok (.aload_n 0, 1) := dk_42 (dk_at dksX7_by_0 0 rfl rfl)
theorem dX7_by_1 : decode cX7_by 1 = .ok (.iload_n 2, 1) := dk_28 (dk_at dksX7_by_0 1 rfl rfl)
theorem dX7_by_2 : decode cX7_by 2 = .ok (.invokevirtual 52, 3) := dk_182 0 52 (dk_at dksX7_by_0 2 rfl rfl)
theorem dX7_by_5 : decode cX7_by 5 = .ok (.aload_n 0, 1) := dk_42 (dk_at dksX7_by_0 5 rfl rfl)
theorem dX7_by_6 : decode cX7_by 6 = .ok (.iload_n 3, 1) := dk_29 (dk_at dksX7_by_0 6 rfl rfl)
theorem dX7_by_7 : decode cX7_by 7 = .ok (.invokevirtual 52, 3) := dk_182 0 52 (dk_at dksX7_by_0 7 rfl rfl)
theorem dX7_by_10 : decode cX7_by 10 = .ok (.isub, 1) := dk_100 (dk_at dksX7_by_0 10 rfl rfl)
theorem dX7_by_11 : decode cX7_by 11 = .ok (.invokestatic 55, 3) := dk_184 0 55 (dk_at dksX7_by_0 11 rfl rfl)
theorem dX7_by_14 : decode cX7_by 14 = .ok (.iconst 1, 1) := dk_4 (dk_at dksX7_by_0 14 rfl rfl)
theorem dX7_by_15 : decode cX7_by 15 = .ok (.iadd, 1) := dk_96 (dk_at dksX7_by_0 15 rfl rfl)
theorem dX7_by_16 : decode cX7_by 16 = .ok (.istore 4, 2) := dk_54 4 (dk_at dksX7_by_0 16 rfl rfl)
theorem dX7_by_18 : decode cX7_by 18 = .ok (.aload_n 0, 1) := dk_42 (dk_at dksX7_by_0 18 rfl rfl)
theorem dX7_by_19 : decode cX7_by 19 = .ok (.getfield 38, 3) := dk_180 0 38 (dk_at dksX7_by_0 19 rfl rfl)
theorem dX7_by_22 : decode cX7_by 22 = .ok (.iload_n 1, 1) := dk_27 (dk_at dksX7_by_0 22 rfl rfl)
theorem dX7_by_23 : decode cX7_by 23 = .ok (.invokestatic 32, 3) := dk_184 0 32 (dk_at dksX7_by_1 0 rfl rfl)
theorem dX7_by_26 : decode cX7_by 26 = .ok (.isub, 1) := dk_100 (dk_at dksX7_by_1 3 rfl rfl)
theorem dX7_by_27 : decode cX7_by 27 = .ok (.istore 5, 2) := dk_54 5 (dk_at dksX7_by_1 4 rfl rfl)
theorem dX7_by_29 : decode cX7_by 29 = .ok (.iload 4, 2) := dk_21 4 (dk_at dksX7_by_1 6 rfl rfl)
theorem dX7_by_31 : decode cX7_by 31 = .ok (.iload 5, 2) := dk_21 5 (dk_at dksX7_by_1 8 rfl rfl)
theorem dX7_by_33 : decode cX7_by 33 = .ok (.imul, 1) := dk_104 (dk_at dksX7_by_1 10 rfl rfl)
theorem dX7_by_34 : decode cX7_by 34 = .ok (.aload_n 0, 1) := dk_42 (dk_at dksX7_by_1 11 rfl rfl)
theorem dX7_by_35 : decode cX7_by 35 = .ok (.getfield 19, 3) := dk_180 0 19 (dk_at dksX7_by_1 12 rfl rfl)
theorem dX7_by_38 : decode cX7_by 38 = .ok (.iload_n 3, 1) := dk_29 (dk_at dksX7_by_1 15 rfl rfl)
theorem dX7_by_39 : decode cX7_by 39 = .ok (.bipush 10, 2) := dk_16 10 (dk_at dksX7_by_1 16 rfl rfl)
theorem dX7_by_41 : decode cX7_by 41 = .ok (.ishl, 1) := dk_120 (dk_at dksX7_by_1 18 rfl rfl)
theorem dX7_by_42 : decode cX7_by 42 = .ok (.iload_n 1, 1) := dk_27 (dk_at dksX7_by_1 19 rfl rfl)
theorem dX7_by_43 : decode cX7_by 43 = .ok (.ior, 1) := dk_128 (dk_at dksX7_by_1 20 rfl rfl)
theorem dX7_by_44 : decode cX7_by 44 = .ok (.iconst 1, 1) := dk_4 (dk_at dksX7_by_1 21 rfl rfl)
theorem dX7_by_45 : decode cX7_by 45 = .ok (.iload_n 3, 1) := dk_29 (dk_at dksX7_by_1 22 rfl rfl)
theorem dX7_by_46 : decode cX7_by 46 = .ok (.ishl, 1) := dk_120 (dk_at dksX7_by_1 23 rfl rfl)
theorem dX7_by_47 : decode cX7_by 47 = .ok (.ior, 1) := dk_128 (dk_at dksX7_by_2 0 rfl rfl)
theorem dX7_by_48 : decode cX7_by 48 = .ok (.iaload, 1) := dk_46 (dk_at dksX7_by_2 1 rfl rfl)
theorem dX7_by_49 : decode cX7_by 49 = .ok (.iadd, 1) := dk_96 (dk_at dksX7_by_2 2 rfl rfl)
theorem dX7_by_50 : decode cX7_by 50 = .ok (.ireturn, 1) := dk_172 (dk_at dksX7_by_2 3 rfl rfl)
abbrev cX7_hookOf : ByteArray := prog_10_method_3_code
def yX7_hookOf : MethodName := ⟨RX7, "hookOf", "(I)I"⟩
def dkwX7_hookOf_1 : List UInt8 := [46, 46, 172]
abbrev dktX7_hookOf_1 : List UInt8 := dkwX7_hookOf_1 ++ []
def dkwX7_hookOf_0 : List UInt8 := [27, 2, 160, 0, 7, 3, 167, 0, 20, 42, 180, 0, 3, 180, 0, 22, 180, 0, 49, 42, 180, 0, 15, 27]
abbrev dktX7_hookOf_0 : List UInt8 := dkwX7_hookOf_0 ++ dktX7_hookOf_1
theorem dksX7_hookOf_0 : cX7_hookOf.data.toList.drop 0 = dktX7_hookOf_0 := by decide +kernel
theorem dksX7_hookOf_1 : cX7_hookOf.data.toList.drop 24 = dktX7_hookOf_1 := dk_seg dksX7_hookOf_0 24 rfl rfl
theorem dX7_hookOf_0 : decode cX7_hookOf 0 = .ok (.iload_n 1, 1) := dk_27 (dk_at dksX7_hookOf_0 0 rfl rfl)
theorem dX7_hookOf_1 : decode cX7_hookOf 1 = .ok (.iconst (-1), 1) := dk_2 (dk_at dksX7_hookOf_0 1 rfl rfl)
theorem dX7_hookOf_2 : decode cX7_hookOf 2 = .ok (.if_icmp .ne 7, 3) := dk_160 0 7 (dk_at dksX7_hookOf_0 2 rfl rfl)
theorem dX7_hookOf_5 : decode cX7_hookOf 5 = .ok (.iconst 0, 1) := dk_3 (dk_at dksX7_hookOf_0 5 rfl rfl)
theorem dX7_hookOf_6 : decode cX7_hookOf 6 = .ok (.goto 20, 3) := dk_167 0 20 (dk_at dksX7_hookOf_0 6 rfl rfl)
theorem dX7_hookOf_9 : decode cX7_hookOf 9 = .ok (.aload_n 0, 1) := dk_42 (dk_at dksX7_hookOf_0 9 rfl rfl)
theorem dX7_hookOf_10 : decode cX7_hookOf 10 = .ok (.getfield 3, 3) := dk_180 0 3 (dk_at dksX7_hookOf_0 10 rfl rfl)
theorem dX7_hookOf_13 : decode cX7_hookOf 13 = .ok (.getfield 22, 3) := dk_180 0 22 (dk_at dksX7_hookOf_0 13 rfl rfl)
theorem dX7_hookOf_16 : decode cX7_hookOf 16 = .ok (.getfield 49, 3) := dk_180 0 49 (dk_at dksX7_hookOf_0 16 rfl rfl)
theorem dX7_hookOf_19 : decode cX7_hookOf 19 = .ok (.aload_n 0, 1) := dk_42 (dk_at dksX7_hookOf_0 19 rfl rfl)
theorem dX7_hookOf_20 : decode cX7_hookOf 20 = .ok (.getfield 15, 3) := dk_180 0 15 (dk_at dksX7_hookOf_0 20 rfl rfl)
theorem dX7_hookOf_23 : decode cX7_hookOf 23 = .ok (.iload_n 1, 1) := dk_27 (dk_at dksX7_hookOf_0 23 rfl rfl)
theorem dX7_hookOf_24 : decode cX7_hookOf 24 = .ok (.iaload, 1) := dk_46 (dk_at dksX7_hookOf_1 0 rfl rfl)
theorem dX7_hookOf_25 : decode cX7_hookOf 25 = .ok (.iaload, 1) := dk_46 (dk_at dksX7_hookOf_1 1 rfl rfl)
theorem dX7_hookOf_26 : decode cX7_hookOf 26 = .ok (.ireturn, 1) := dk_172 (dk_at dksX7_hookOf_1 2 rfl rfl)
abbrev cX7_kthServed : ByteArray := prog_10_method_6_code
def yX7_kthServed : MethodName := ⟨RX7, "kthServed", "(I)I"⟩
def dkwX7_kthServed_3 : List UInt8 := [180, 0, 15, 29, 46, 172]
abbrev dktX7_kthServed_3 : List UInt8 := dkwX7_kthServed_3 ++ []
def dkwX7_kthServed_2 : List UInt8 := [132, 6, 1, 167, 255, 231, 28, 4, 21, 6, 120, 128, 61, 21, 6, 62, 132, 4, 1, 167, 255, 198, 42]
abbrev dktX7_kthServed_2 : List UInt8 := dkwX7_kthServed_2 ++ dktX7_kthServed_3
def dkwX7_kthServed_1 : List UInt8 := [28, 21, 6, 184, 0, 61, 154, 0, 16, 42, 28, 29, 21, 6, 182, 0, 65, 21, 5, 159, 0, 9]
abbrev dktX7_kthServed_1 : List UInt8 := dkwX7_kthServed_1 ++ dktX7_kthServed_2
def dkwX7_kthServed_0 : List UInt8 := [3, 61, 2, 62, 3, 54, 4, 21, 4, 27, 163, 0, 58, 42, 28, 29, 182, 0, 46, 54, 5, 3, 54, 6]
abbrev dktX7_kthServed_0 : List UInt8 := dkwX7_kthServed_0 ++ dktX7_kthServed_1
theorem dksX7_kthServed_0 : cX7_kthServed.data.toList.drop 0 = dktX7_kthServed_0 := by decide +kernel
theorem dksX7_kthServed_1 : cX7_kthServed.data.toList.drop 24 = dktX7_kthServed_1 := dk_seg dksX7_kthServed_0 24 rfl rfl
theorem dksX7_kthServed_2 : cX7_kthServed.data.toList.drop 46 = dktX7_kthServed_2 := dk_seg dksX7_kthServed_1 22 rfl rfl
theorem dksX7_kthServed_3 : cX7_kthServed.data.toList.drop 69 = dktX7_kthServed_3 := dk_seg dksX7_kthServed_2 23 rfl rfl
theorem dX7_kthServed_0 : decode cX7_kthServed 0 = .ok (.iconst 0, 1) := dk_3 (dk_at dksX7_kthServed_0 0 rfl rfl)
theorem dX7_kthServed_1 : decode cX7_kthServed 1 = .ok (.istore_n 2, 1) := dk_61 (dk_at dksX7_kthServed_0 1 rfl rfl)
theorem dX7_kthServed_2 : decode cX7_kthServed 2 = .ok (.iconst (-1), 1) := dk_2 (dk_at dksX7_kthServed_0 2 rfl rfl)
theorem dX7_kthServed_3 : decode cX7_kthServed 3 = .ok (.istore_n 3, 1) := dk_62 (dk_at dksX7_kthServed_0 3 rfl rfl)
theorem dX7_kthServed_4 : decode cX7_kthServed 4 = .ok (.iconst 0, 1) := dk_3 (dk_at dksX7_kthServed_0 4 rfl rfl)
theorem dX7_kthServed_5 : decode cX7_kthServed 5 = .ok (.istore 4, 2) := dk_54 4 (dk_at dksX7_kthServed_0 5 rfl rfl)
theorem dX7_kthServed_7 : decode cX7_kthServed 7 = .ok (.iload 4, 2) := dk_21 4 (dk_at dksX7_kthServed_0 7 rfl rfl)
theorem dX7_kthServed_9 : decode cX7_kthServed 9 = .ok (.iload_n 1, 1) := dk_27 (dk_at dksX7_kthServed_0 9 rfl rfl)
theorem dX7_kthServed_10 : decode cX7_kthServed 10 = .ok (.if_icmp .gt 58, 3) := dk_163 0 58 (dk_at dksX7_kthServed_0 10 rfl rfl)
theorem dX7_kthServed_13 : decode cX7_kthServed 13 = .ok (.aload_n 0, 1) := dk_42 (dk_at dksX7_kthServed_0 13 rfl rfl)
theorem dX7_kthServed_14 : decode cX7_kthServed 14 = .ok (.iload_n 2, 1) := dk_28 (dk_at dksX7_kthServed_0 14 rfl rfl)
theorem dX7_kthServed_15 : decode cX7_kthServed 15 = .ok (.iload_n 3, 1) := dk_29 (dk_at dksX7_kthServed_0 15 rfl rfl)
theorem dX7_kthServed_16 : decode cX7_kthServed 16 = .ok (.invokevirtual 46, 3) := dk_182 0 46 (dk_at dksX7_kthServed_0 16 rfl rfl)
theorem dX7_kthServed_19 : decode cX7_kthServed 19 = .ok (.istore 5, 2) := dk_54 5 (dk_at dksX7_kthServed_0 19 rfl rfl)
theorem dX7_kthServed_21 : decode cX7_kthServed 21 = .ok (.iconst 0, 1) := dk_3 (dk_at dksX7_kthServed_0 21 rfl rfl)
theorem dX7_kthServed_22 : decode cX7_kthServed 22 = .ok (.istore 6, 2) := dk_54 6 (dk_at dksX7_kthServed_0 22 rfl rfl)
theorem dX7_kthServed_24 : decode cX7_kthServed 24 = .ok (.iload_n 2, 1) := dk_28 (dk_at dksX7_kthServed_1 0 rfl rfl)
theorem dX7_kthServed_25 : decode cX7_kthServed 25 = .ok (.iload 6, 2) := dk_21 6 (dk_at dksX7_kthServed_1 1 rfl rfl)
theorem dX7_kthServed_27 : decode cX7_kthServed 27 = .ok (.invokestatic 61, 3) := dk_184 0 61 (dk_at dksX7_kthServed_1 3 rfl rfl)
theorem dX7_kthServed_30 : decode cX7_kthServed 30 = .ok (.ifCond .ne 16, 3) := dk_154 0 16 (dk_at dksX7_kthServed_1 6 rfl rfl)
theorem dX7_kthServed_33 : decode cX7_kthServed 33 = .ok (.aload_n 0, 1) := dk_42 (dk_at dksX7_kthServed_1 9 rfl rfl)
theorem dX7_kthServed_34 : decode cX7_kthServed 34 = .ok (.iload_n 2, 1) := dk_28 (dk_at dksX7_kthServed_1 10 rfl rfl)
theorem dX7_kthServed_35 : decode cX7_kthServed 35 = .ok (.iload_n 3, 1) := dk_29 (dk_at dksX7_kthServed_1 11 rfl rfl)
theorem dX7_kthServed_36 : decode cX7_kthServed 36 = .ok (.iload 6, 2) := dk_21 6 (dk_at dksX7_kthServed_1 12 rfl rfl)
theorem dX7_kthServed_38 : decode cX7_kthServed 38 = .ok (.invokevirtual 65, 3) := dk_182 0 65 (dk_at dksX7_kthServed_1 14 rfl rfl)
theorem dX7_kthServed_41 : decode cX7_kthServed 41 = .ok (.iload 5, 2) := dk_21 5 (dk_at dksX7_kthServed_1 17 rfl rfl)
theorem dX7_kthServed_43 : decode cX7_kthServed 43 = .ok (.if_icmp .eq 9, 3) := dk_159 0 9 (dk_at dksX7_kthServed_1 19 rfl rfl)
theorem dX7_kthServed_46 : decode cX7_kthServed 46 = .ok (.iinc 6 1, 3) := dk_132 6 1 (dk_at dksX7_kthServed_2 0 rfl rfl)
theorem dX7_kthServed_49 : decode cX7_kthServed 49 = .ok (.goto (-25), 3) := dk_167 255 231 (dk_at dksX7_kthServed_2 3 rfl rfl)
theorem dX7_kthServed_52 : decode cX7_kthServed 52 = .ok (.iload_n 2, 1) := dk_28 (dk_at dksX7_kthServed_2 6 rfl rfl)
theorem dX7_kthServed_53 : decode cX7_kthServed 53 = .ok (.iconst 1, 1) := dk_4 (dk_at dksX7_kthServed_2 7 rfl rfl)
theorem dX7_kthServed_54 : decode cX7_kthServed 54 = .ok (.iload 6, 2) := dk_21 6 (dk_at dksX7_kthServed_2 8 rfl rfl)
theorem dX7_kthServed_56 : decode cX7_kthServed 56 = .ok (.ishl, 1) := dk_120 (dk_at dksX7_kthServed_2 10 rfl rfl)
theorem dX7_kthServed_57 : decode cX7_kthServed 57 = .ok (.ior, 1) := dk_128 (dk_at dksX7_kthServed_2 11 rfl rfl)
theorem dX7_kthServed_58 : decode cX7_kthServed 58 = .ok (.istore_n 2, 1) := dk_61 (dk_at dksX7_kthServed_2 12 rfl rfl)
theorem dX7_kthServed_59 : decode cX7_kthServed 59 = .ok (.iload 6, 2) := dk_21 6 (dk_at dksX7_kthServed_2 13 rfl rfl)
theorem dX7_kthServed_61 : decode cX7_kthServed 61 = .ok (.istore_n 3, 1) := dk_62 (dk_at dksX7_kthServed_2 15 rfl rfl)
theorem dX7_kthServed_62 : decode cX7_kthServed 62 = .ok (.iinc 4 1, 3) := dk_132 4 1 (dk_at dksX7_kthServed_2 16 rfl rfl)
theorem dX7_kthServed_65 : decode cX7_kthServed 65 = .ok (.goto (-58), 3) := dk_167 255 198 (dk_at dksX7_kthServed_2 19 rfl rfl)
theorem dX7_kthServed_68 : decode cX7_kthServed 68 = .ok (.aload_n 0, 1) := dk_42 (dk_at dksX7_kthServed_2 22 rfl rfl)
theorem dX7_kthServed_69 : decode cX7_kthServed 69 = .ok (.getfield 15, 3) := dk_180 0 15 (dk_at dksX7_kthServed_3 0 rfl rfl)
theorem dX7_kthServed_72 : decode cX7_kthServed 72 = .ok (.iload_n 3, 1) := dk_29 (dk_at dksX7_kthServed_3 3 rfl rfl)
theorem dX7_kthServed_73 : decode cX7_kthServed 73 = .ok (.iaload, 1) := dk_46 (dk_at dksX7_kthServed_3 4 rfl rfl)
theorem dX7_kthServed_74 : decode cX7_kthServed 74 = .ok (.ireturn, 1) := dk_172 (dk_at dksX7_kthServed_3 5 rfl rfl)
