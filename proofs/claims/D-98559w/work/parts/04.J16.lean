/-! decode rows of J16 -/
set_option maxRecDepth 100000
abbrev cJ16_bitCount : ByteArray := prog_34_method_49_code
def yJ16_bitCount : MethodName := ⟨RJ16, "bitCount", "(I)I"⟩
def dkwJ16_bitCount_2 : List UInt8 := [26, 16, 63, 126, 172]
abbrev dktJ16_bitCount_2 : List UInt8 := dkwJ16_bitCount_2 ++ []
def dkwJ16_bitCount_1 : List UInt8 := [26, 26, 7, 124, 96, 19, 1, 11, 126, 59, 26, 26, 16, 8, 124, 96, 59, 26, 26, 16, 16, 124, 96, 59]
abbrev dktJ16_bitCount_1 : List UInt8 := dkwJ16_bitCount_1 ++ dktJ16_bitCount_2
def dkwJ16_bitCount_0 : List UInt8 := [26, 26, 4, 124, 19, 1, 9, 126, 100, 59, 26, 19, 1, 10, 126, 26, 5, 124, 19, 1, 10, 126, 96, 59]
abbrev dktJ16_bitCount_0 : List UInt8 := dkwJ16_bitCount_0 ++ dktJ16_bitCount_1
theorem dksJ16_bitCount_0 : cJ16_bitCount.data.toList.drop 0 = dktJ16_bitCount_0 := by decide +kernel
theorem dksJ16_bitCount_1 : cJ16_bitCount.data.toList.drop 24 = dktJ16_bitCount_1 := dk_seg dksJ16_bitCount_0 24 rfl rfl
theorem dksJ16_bitCount_2 : cJ16_bitCount.data.toList.drop 48 = dktJ16_bitCount_2 := dk_seg dksJ16_bitCount_1 24 rfl rfl
theorem dJ16_bitCount_0 : decode cJ16_bitCount 0 = .ok (.iload_n 0, 1) := dk_26 (dk_at dksJ16_bitCount_0 0 rfl rfl)
theorem dJ16_bitCount_1 : decode cJ16_bitCount 1 = .ok (.iload_n 0, 1) := dk_26 (dk_at dksJ16_bitCount_0 1 rfl rfl)
theorem dJ16_bitCount_2 : decode cJ16_bitCount 2 = .ok (.iconst 1, 1) := dk_4 (dk_at dksJ16_bitCount_0 2 rfl rfl)
theorem dJ16_bitCount_3 : decode cJ16_bitCount 3 = .ok (.iushr, 1) := dk_124 (dk_at dksJ16_bitCount_0 3 rfl rfl)
theorem dJ16_bitCount_4 : decode cJ16_bitCount 4 = .ok (.ldc_w 265, 3) := dk_19 1 9 (dk_at dksJ16_bitCount_0 4 rfl rfl)
theorem dJ16_bitCount_7 : decode cJ16_bitCount 7 = .ok (.iand, 1) := dk_126 (dk_at dksJ16_bitCount_0 7 rfl rfl)
theorem dJ16_bitCount_8 : decode cJ16_bitCount 8 = .ok (.isub, 1) := dk_100 (dk_at dksJ16_bitCount_0 8 rfl rfl)
theorem dJ16_bitCount_9 : decode cJ16_bitCount 9 = .ok (.istore_n 0, 1) := dk_59 (dk_at dksJ16_bitCount_0 9 rfl rfl)
theorem dJ16_bitCount_10 : decode cJ16_bitCount 10 = .ok (.iload_n 0, 1) := dk_26 (dk_at dksJ16_bitCount_0 10 rfl rfl)
theorem dJ16_bitCount_11 : decode cJ16_bitCount 11 = .ok (.ldc_w 266, 3) := dk_19 1 10 (dk_at dksJ16_bitCount_0 11 rfl rfl)
theorem dJ16_bitCount_14 : decode cJ16_bitCount 14 = .ok (.iand, 1) := dk_126 (dk_at dksJ16_bitCount_0 14 rfl rfl)
theorem dJ16_bitCount_15 : decode cJ16_bitCount 15 = .ok (.iload_n 0, 1) := dk_26 (dk_at dksJ16_bitCount_0 15 rfl rfl)
theorem dJ16_bitCount_16 : decode cJ16_bitCount 16 = .ok (.iconst 2, 1) := dk_5 (dk_at dksJ16_bitCount_0 16 rfl rfl)
theorem dJ16_bitCount_17 : decode cJ16_bitCount 17 = .ok (.iushr, 1) := dk_124 (dk_at dksJ16_bitCount_0 17 rfl rfl)
theorem dJ16_bitCount_18 : decode cJ16_bitCount 18 = .ok (.ldc_w 266, 3) := dk_19 1 10 (dk_at dksJ16_bitCount_0 18 rfl rfl)
theorem dJ16_bitCount_21 : decode cJ16_bitCount 21 = .ok (.iand, 1) := dk_126 (dk_at dksJ16_bitCount_0 21 rfl rfl)
theorem dJ16_bitCount_22 : decode cJ16_bitCount 22 = .ok (.iadd, 1) := dk_96 (dk_at dksJ16_bitCount_0 22 rfl rfl)
theorem dJ16_bitCount_23 : decode cJ16_bitCount 23 = .ok (.istore_n 0, 1) := dk_59 (dk_at dksJ16_bitCount_0 23 rfl rfl)
theorem dJ16_bitCount_24 : decode cJ16_bitCount 24 = .ok (.iload_n 0, 1) := dk_26 (dk_at dksJ16_bitCount_1 0 rfl rfl)
theorem dJ16_bitCount_25 : decode cJ16_bitCount 25 = .ok (.iload_n 0, 1) := dk_26 (dk_at dksJ16_bitCount_1 1 rfl rfl)
theorem dJ16_bitCount_26 : decode cJ16_bitCount 26 = .ok (.iconst 4, 1) := dk_7 (dk_at dksJ16_bitCount_1 2 rfl rfl)
theorem dJ16_bitCount_27 : decode cJ16_bitCount 27 = .ok (.iushr, 1) := dk_124 (dk_at dksJ16_bitCount_1 3 rfl rfl)
theorem dJ16_bitCount_28 : decode cJ16_bitCount 28 = .ok (.iadd, 1) := dk_96 (dk_at dksJ16_bitCount_1 4 rfl rfl)
theorem dJ16_bitCount_29 : decode cJ16_bitCount 29 = .ok (.ldc_w 267, 3) := dk_19 1 11 (dk_at dksJ16_bitCount_1 5 rfl rfl)
theorem dJ16_bitCount_32 : decode cJ16_bitCount 32 = .ok (.iand, 1) := dk_126 (dk_at dksJ16_bitCount_1 8 rfl rfl)
theorem dJ16_bitCount_33 : decode cJ16_bitCount 33 = .ok (.istore_n 0, 1) := dk_59 (dk_at dksJ16_bitCount_1 9 rfl rfl)
theorem dJ16_bitCount_34 : decode cJ16_bitCount 34 = .ok (.iload_n 0, 1) := dk_26 (dk_at dksJ16_bitCount_1 10 rfl rfl)
theorem dJ16_bitCount_35 : decode cJ16_bitCount 35 = .ok (.iload_n 0, 1) := dk_26 (dk_at dksJ16_bitCount_1 11 rfl rfl)
theorem dJ16_bitCount_36 : decode cJ16_bitCount 36 = .ok (.bipush 8, 2) := dk_16 8 (dk_at dksJ16_bitCount_1 12 rfl rfl)
theorem dJ16_bitCount_38 : decode cJ16_bitCount 38 = .ok (.iushr, 1) := dk_124 (dk_at dksJ16_bitCount_1 14 rfl rfl)
theorem dJ16_bitCount_39 : decode cJ16_bitCount 39 = .ok (.iadd, 1) := dk_96 (dk_at dksJ16_bitCount_1 15 rfl rfl)
theorem dJ16_bitCount_40 : decode cJ16_bitCount 40 = .ok (.istore_n 0, 1) := dk_59 (dk_at dksJ16_bitCount_1 16 rfl rfl)
theorem dJ16_bitCount_41 : decode cJ16_bitCount 41 = .ok (.iload_n 0, 1) := dk_26 (dk_at dksJ16_bitCount_1 17 rfl rfl)
theorem dJ16_bitCount_42 : decode cJ16_bitCount 42 = .ok (.iload_n 0, 1) := dk_26 (dk_at dksJ16_bitCount_1 18 rfl rfl)
theorem dJ16_bitCount_43 : decode cJ16_bitCount 43 = .ok (.bipush 16, 2) := dk_16 16 (dk_at dksJ16_bitCount_1 19 rfl rfl)
theorem dJ16_bitCount_45 : decode cJ16_bitCount 45 = .ok (.iushr, 1) := dk_124 (dk_at dksJ16_bitCount_1 21 rfl rfl)
theorem dJ16_bitCount_46 : decode cJ16_bitCount 46 = .ok (.iadd, 1) := dk_96 (dk_at dksJ16_bitCount_1 22 rfl rfl)
theorem dJ16_bitCount_47 : decode cJ16_bitCount 47 = .ok (.istore_n 0, 1) := dk_59 (dk_at dksJ16_bitCount_1 23 rfl rfl)
theorem dJ16_bitCount_48 : decode cJ16_bitCount 48 = .ok (.iload_n 0, 1) := dk_26 (dk_at dksJ16_bitCount_2 0 rfl rfl)
theorem dJ16_bitCount_49 : decode cJ16_bitCount 49 = .ok (.bipush 63, 2) := dk_16 63 (dk_at dksJ16_bitCount_2 1 rfl rfl)
theorem dJ16_bitCount_51 : decode cJ16_bitCount 51 = .ok (.iand, 1) := dk_126 (dk_at dksJ16_bitCount_2 3 rfl rfl)
theorem dJ16_bitCount_52 : decode cJ16_bitCount 52 = .ok (.ireturn, 1) := dk_172 (dk_at dksJ16_bitCount_2 4 rfl rfl)
abbrev cJ16_numberOfTrailingZeros : ByteArray := prog_34_method_48_code
def yJ16_numberOfTrailingZeros : MethodName := ⟨RJ16, "numberOfTrailingZeros", "(I)I"⟩
def dkwJ16_numberOfTrailingZeros_3 : List UInt8 := [5, 124, 59, 27, 26, 4, 124, 96, 172]
abbrev dktJ16_numberOfTrailingZeros_3 : List UInt8 := dkwJ16_numberOfTrailingZeros_3 ++ []
def dkwJ16_numberOfTrailingZeros_2 : List UInt8 := [124, 59, 26, 16, 16, 164, 0, 10, 132, 1, 4, 26, 7, 124, 59, 26, 7, 164, 0, 10, 132, 1, 2, 26]
abbrev dktJ16_numberOfTrailingZeros_2 : List UInt8 := dkwJ16_numberOfTrailingZeros_2 ++ dktJ16_numberOfTrailingZeros_3
def dkwJ16_numberOfTrailingZeros_1 : List UInt8 := [164, 0, 11, 132, 1, 16, 26, 16, 16, 124, 59, 26, 17, 1, 0, 164, 0, 11, 132, 1, 8, 26, 16, 8]
abbrev dktJ16_numberOfTrailingZeros_1 : List UInt8 := dkwJ16_numberOfTrailingZeros_1 ++ dktJ16_numberOfTrailingZeros_2
def dkwJ16_numberOfTrailingZeros_0 : List UInt8 := [26, 2, 130, 26, 4, 100, 126, 59, 26, 157, 0, 8, 26, 16, 32, 126, 172, 4, 60, 26, 19, 1, 8]
abbrev dktJ16_numberOfTrailingZeros_0 : List UInt8 := dkwJ16_numberOfTrailingZeros_0 ++ dktJ16_numberOfTrailingZeros_1
theorem dksJ16_numberOfTrailingZeros_0 : cJ16_numberOfTrailingZeros.data.toList.drop 0 = dktJ16_numberOfTrailingZeros_0 := by decide +kernel
theorem dksJ16_numberOfTrailingZeros_1 : cJ16_numberOfTrailingZeros.data.toList.drop 23 = dktJ16_numberOfTrailingZeros_1 := dk_seg dksJ16_numberOfTrailingZeros_0 23 rfl rfl
theorem dksJ16_numberOfTrailingZeros_2 : cJ16_numberOfTrailingZeros.data.toList.drop 47 = dktJ16_numberOfTrailingZeros_2 := dk_seg dksJ16_numberOfTrailingZeros_1 24 rfl rfl
theorem dksJ16_numberOfTrailingZeros_3 : cJ16_numberOfTrailingZeros.data.toList.drop 71 = dktJ16_numberOfTrailingZeros_3 := dk_seg dksJ16_numberOfTrailingZeros_2 24 rfl rfl
theorem dJ16_numberOfTrailingZeros_0 : decode cJ16_numberOfTrailingZeros 0 = .ok (.iload_n 0, 1) := dk_26 (dk_at dksJ16_numberOfTrailingZeros_0 0 rfl rfl)
theorem dJ16_numberOfTrailingZeros_1 : decode cJ16_numberOfTrailingZeros 1 = .ok (.iconst (-1), 1) := dk_2 (dk_at dksJ16_numberOfTrailingZeros_0 1 rfl rfl)
theorem dJ16_numberOfTrailingZeros_2 : decode cJ16_numberOfTrailingZeros 2 = .ok (.ixor, 1) := dk_130 (dk_at dksJ16_numberOfTrailingZeros_0 2 rfl rfl)
theorem dJ16_numberOfTrailingZeros_3 : decode cJ16_numberOfTrailingZeros 3 = .ok (.iload_n 0, 1) := dk_26 (dk_at dksJ16_numberOfTrailingZeros_0 3 rfl rfl)
theorem dJ16_numberOfTrailingZeros_4 : decode cJ16_numberOfTrailingZeros 4 = .ok (.iconst 1, 1) := dk_4 (dk_at dksJ16_numberOfTrailingZeros_0 4 rfl rfl)
theorem dJ16_numberOfTrailingZeros_5 : decode cJ16_numberOfTrailingZeros 5 = .ok (.isub, 1) := dk_100 (dk_at dksJ16_numberOfTrailingZeros_0 5 rfl rfl)
theorem dJ16_numberOfTrailingZeros_6 : decode cJ16_numberOfTrailingZeros 6 = .ok (.iand, 1) := dk_126 (dk_at dksJ16_numberOfTrailingZeros_0 6 rfl rfl)
theorem dJ16_numberOfTrailingZeros_7 : decode cJ16_numberOfTrailingZeros 7 = .ok (.istore_n 0, 1) := dk_59 (dk_at dksJ16_numberOfTrailingZeros_0 7 rfl rfl)
theorem dJ16_numberOfTrailingZeros_8 : decode cJ16_numberOfTrailingZeros 8 = .ok (.iload_n 0, 1) := dk_26 (dk_at dksJ16_numberOfTrailingZeros_0 8 rfl rfl)
theorem dJ16_numberOfTrailingZeros_9 : decode cJ16_numberOfTrailingZeros 9 = .ok (.ifCond .gt 8, 3) := dk_157 0 8 (dk_at dksJ16_numberOfTrailingZeros_0 9 rfl rfl)
theorem dJ16_numberOfTrailingZeros_12 : decode cJ16_numberOfTrailingZeros 12 = .ok (.iload_n 0, 1) := dk_26 (dk_at dksJ16_numberOfTrailingZeros_0 12 rfl rfl)
theorem dJ16_numberOfTrailingZeros_13 : decode cJ16_numberOfTrailingZeros 13 = .ok (.bipush 32, 2) := dk_16 32 (dk_at dksJ16_numberOfTrailingZeros_0 13 rfl rfl)
theorem dJ16_numberOfTrailingZeros_15 : decode cJ16_numberOfTrailingZeros 15 = .ok (.iand, 1) := dk_126 (dk_at dksJ16_numberOfTrailingZeros_0 15 rfl rfl)
theorem dJ16_numberOfTrailingZeros_16 : decode cJ16_numberOfTrailingZeros 16 = .ok (.ireturn, 1) := dk_172 (dk_at dksJ16_numberOfTrailingZeros_0 16 rfl rfl)
theorem dJ16_numberOfTrailingZeros_17 : decode cJ16_numberOfTrailingZeros 17 = .ok (.iconst 1, 1) := dk_4 (dk_at dksJ16_numberOfTrailingZeros_0 17 rfl rfl)
theorem dJ16_numberOfTrailingZeros_18 : decode cJ16_numberOfTrailingZeros 18 = .ok (.istore_n 1, 1) := dk_60 (dk_at dksJ16_numberOfTrailingZeros_0 18 rfl rfl)
theorem dJ16_numberOfTrailingZeros_19 : decode cJ16_numberOfTrailingZeros 19 = .ok (.iload_n 0, 1) := dk_26 (dk_at dksJ16_numberOfTrailingZeros_0 19 rfl rfl)
theorem dJ16_numberOfTrailingZeros_20 : decode cJ16_numberOfTrailingZeros 20 = .ok (.ldc_w 264, 3) := dk_19 1 8 (dk_at dksJ16_numberOfTrailingZeros_0 20 rfl rfl)
theorem dJ16_numberOfTrailingZeros_23 : decode cJ16_numberOfTrailingZeros 23 = .ok (.if_icmp .le 11, 3) := dk_164 0 11 (dk_at dksJ16_numberOfTrailingZeros_1 0 rfl rfl)
theorem dJ16_numberOfTrailingZeros_26 : decode cJ16_numberOfTrailingZeros 26 = .ok (.iinc 1 16, 3) := dk_132 1 16 (dk_at dksJ16_numberOfTrailingZeros_1 3 rfl rfl)
theorem dJ16_numberOfTrailingZeros_29 : decode cJ16_numberOfTrailingZeros 29 = .ok (.iload_n 0, 1) := dk_26 (dk_at dksJ16_numberOfTrailingZeros_1 6 rfl rfl)
theorem dJ16_numberOfTrailingZeros_30 : decode cJ16_numberOfTrailingZeros 30 = .ok (.bipush 16, 2) := dk_16 16 (dk_at dksJ16_numberOfTrailingZeros_1 7 rfl rfl)
theorem dJ16_numberOfTrailingZeros_32 : decode cJ16_numberOfTrailingZeros 32 = .ok (.iushr, 1) := dk_124 (dk_at dksJ16_numberOfTrailingZeros_1 9 rfl rfl)
theorem dJ16_numberOfTrailingZeros_33 : decode cJ16_numberOfTrailingZeros 33 = .ok (.istore_n 0, 1) := dk_59 (dk_at dksJ16_numberOfTrailingZeros_1 10 rfl rfl)
theorem dJ16_numberOfTrailingZeros_34 : decode cJ16_numberOfTrailingZeros 34 = .ok (.iload_n 0, 1) := dk_26 (dk_at dksJ16_numberOfTrailingZeros_1 11 rfl rfl)
theorem dJ16_numberOfTrailingZeros_35 : decode cJ16_numberOfTrailingZeros 35 = .ok (.sipush 256, 3) := dk_17 1 0 (dk_at dksJ16_numberOfTrailingZeros_1 12 rfl rfl)
theorem dJ16_numberOfTrailingZeros_38 : decode cJ16_numberOfTrailingZeros 38 = .ok (.if_icmp .le 11, 3) := dk_164 0 11 (dk_at dksJ16_numberOfTrailingZeros_1 15 rfl rfl)
theorem dJ16_numberOfTrailingZeros_41 : decode cJ16_numberOfTrailingZeros 41 = .ok (.iinc 1 8, 3) := dk_132 1 8 (dk_at dksJ16_numberOfTrailingZeros_1 18 rfl rfl)
theorem dJ16_numberOfTrailingZeros_44 : decode cJ16_numberOfTrailingZeros 44 = .ok (.iload_n 0, 1) := dk_26 (dk_at dksJ16_numberOfTrailingZeros_1 21 rfl rfl)
theorem dJ16_numberOfTrailingZeros_45 : decode cJ16_numberOfTrailingZeros 45 = .ok (.bipush 8, 2) := dk_16 8 (dk_at dksJ16_numberOfTrailingZeros_1 22 rfl rfl)
theorem dJ16_numberOfTrailingZeros_47 : decode cJ16_numberOfTrailingZeros 47 = .ok (.iushr, 1) := dk_124 (dk_at dksJ16_numberOfTrailingZeros_2 0 rfl rfl)
theorem dJ16_numberOfTrailingZeros_48 : decode cJ16_numberOfTrailingZeros 48 = .ok (.istore_n 0, 1) := dk_59 (dk_at dksJ16_numberOfTrailingZeros_2 1 rfl rfl)
theorem dJ16_numberOfTrailingZeros_49 : decode cJ16_numberOfTrailingZeros 49 = .ok (.iload_n 0, 1) := dk_26 (dk_at dksJ16_numberOfTrailingZeros_2 2 rfl rfl)
theorem dJ16_numberOfTrailingZeros_50 : decode cJ16_numberOfTrailingZeros 50 = .ok (.bipush 16, 2) := dk_16 16 (dk_at dksJ16_numberOfTrailingZeros_2 3 rfl rfl)
theorem dJ16_numberOfTrailingZeros_52 : decode cJ16_numberOfTrailingZeros 52 = .ok (.if_icmp .le 10, 3) := dk_164 0 10 (dk_at dksJ16_numberOfTrailingZeros_2 5 rfl rfl)
theorem dJ16_numberOfTrailingZeros_55 : decode cJ16_numberOfTrailingZeros 55 = .ok (.iinc 1 4, 3) := dk_132 1 4 (dk_at dksJ16_numberOfTrailingZeros_2 8 rfl rfl)
theorem dJ16_numberOfTrailingZeros_58 : decode cJ16_numberOfTrailingZeros 58 = .ok (.iload_n 0, 1) := dk_26 (dk_at dksJ16_numberOfTrailingZeros_2 11 rfl rfl)
theorem dJ16_numberOfTrailingZeros_59 : decode cJ16_numberOfTrailingZeros 59 = .ok (.iconst 4, 1) := dk_7 (dk_at dksJ16_numberOfTrailingZeros_2 12 rfl rfl)
theorem dJ16_numberOfTrailingZeros_60 : decode cJ16_numberOfTrailingZeros 60 = .ok (.iushr, 1) := dk_124 (dk_at dksJ16_numberOfTrailingZeros_2 13 rfl rfl)
theorem dJ16_numberOfTrailingZeros_61 : decode cJ16_numberOfTrailingZeros 61 = .ok (.istore_n 0, 1) := dk_59 (dk_at dksJ16_numberOfTrailingZeros_2 14 rfl rfl)
theorem dJ16_numberOfTrailingZeros_62 : decode cJ16_numberOfTrailingZeros 62 = .ok (.iload_n 0, 1) := dk_26 (dk_at dksJ16_numberOfTrailingZeros_2 15 rfl rfl)
theorem dJ16_numberOfTrailingZeros_63 : decode cJ16_numberOfTrailingZeros 63 = .ok (.iconst 4, 1) := dk_7 (dk_at dksJ16_numberOfTrailingZeros_2 16 rfl rfl)
theorem dJ16_numberOfTrailingZeros_64 : decode cJ16_numberOfTrailingZeros 64 = .ok (.if_icmp .le 10, 3) := dk_164 0 10 (dk_at dksJ16_numberOfTrailingZeros_2 17 rfl rfl)
theorem dJ16_numberOfTrailingZeros_67 : decode cJ16_numberOfTrailingZeros 67 = .ok (.iinc 1 2, 3) := dk_132 1 2 (dk_at dksJ16_numberOfTrailingZeros_2 20 rfl rfl)
theorem dJ16_numberOfTrailingZeros_70 : decode cJ16_numberOfTrailingZeros 70 = .ok (.iload_n 0, 1) := dk_26 (dk_at dksJ16_numberOfTrailingZeros_2 23 rfl rfl)
theorem dJ16_numberOfTrailingZeros_71 : decode cJ16_numberOfTrailingZeros 71 = .ok (.iconst 2, 1) := dk_5 (dk_at dksJ16_numberOfTrailingZeros_3 0 rfl rfl)
theorem dJ16_numberOfTrailingZeros_72 : decode cJ16_numberOfTrailingZeros 72 = .ok (.iushr, 1) := dk_124 (dk_at dksJ16_numberOfTrailingZeros_3 1 rfl rfl)
theorem dJ16_numberOfTrailingZeros_73 : decode cJ16_numberOfTrailingZeros 73 = .ok (.istore_n 0, 1) := dk_59 (dk_at dksJ16_numberOfTrailingZeros_3 2 rfl rfl)
theorem dJ16_numberOfTrailingZeros_74 : decode cJ16_numberOfTrailingZeros 74 = .ok (.iload_n 1, 1) := dk_27 (dk_at dksJ16_numberOfTrailingZeros_3 3 rfl rfl)
theorem dJ16_numberOfTrailingZeros_75 : decode cJ16_numberOfTrailingZeros 75 = .ok (.iload_n 0, 1) := dk_26 (dk_at dksJ16_numberOfTrailingZeros_3 4 rfl rfl)
theorem dJ16_numberOfTrailingZeros_76 : decode cJ16_numberOfTrailingZeros 76 = .ok (.iconst 1, 1) := dk_4 (dk_at dksJ16_numberOfTrailingZeros_3 5 rfl rfl)
theorem dJ16_numberOfTrailingZeros_77 : decode cJ16_numberOfTrailingZeros 77 = .ok (.iushr, 1) := dk_124 (dk_at dksJ16_numberOfTrailingZeros_3 6 rfl rfl)
theorem dJ16_numberOfTrailingZeros_78 : decode cJ16_numberOfTrailingZeros 78 = .ok (.iadd, 1) := dk_96 (dk_at dksJ16_numberOfTrailingZeros_3 7 rfl rfl)
theorem dJ16_numberOfTrailingZeros_79 : decode cJ16_numberOfTrailingZeros 79 = .ok (.ireturn, 1) := dk_172 (dk_at dksJ16_numberOfTrailingZeros_3 8 rfl rfl)
abbrev cJ16_stringSize : ByteArray := prog_34_method_13_code
def yJ16_stringSize : MethodName := ⟨RJ16, "stringSize", "(I)I"⟩
def dkwJ16_stringSize_1 : List UInt8 := [164, 0, 7, 29, 27, 96, 172, 16, 10, 28, 104, 61, 132, 3, 1, 167, 255, 233, 16, 10, 27, 96, 172]
abbrev dktJ16_stringSize_1 : List UInt8 := dkwJ16_stringSize_1 ++ []
def dkwJ16_stringSize_0 : List UInt8 := [4, 60, 26, 155, 0, 8, 3, 60, 26, 116, 59, 16, 246, 61, 4, 62, 29, 16, 10, 162, 0, 23, 26, 28]
abbrev dktJ16_stringSize_0 : List UInt8 := dkwJ16_stringSize_0 ++ dktJ16_stringSize_1
theorem dksJ16_stringSize_0 : cJ16_stringSize.data.toList.drop 0 = dktJ16_stringSize_0 := by decide +kernel
theorem dksJ16_stringSize_1 : cJ16_stringSize.data.toList.drop 24 = dktJ16_stringSize_1 := dk_seg dksJ16_stringSize_0 24 rfl rfl
theorem dJ16_stringSize_0 : decode cJ16_stringSize 0 = .ok (.iconst 1, 1) := dk_4 (dk_at dksJ16_stringSize_0 0 rfl rfl)
theorem dJ16_stringSize_1 : decode cJ16_stringSize 1 = .ok (.istore_n 1, 1) := dk_60 (dk_at dksJ16_stringSize_0 1 rfl rfl)
theorem dJ16_stringSize_2 : decode cJ16_stringSize 2 = .ok (.iload_n 0, 1) := dk_26 (dk_at dksJ16_stringSize_0 2 rfl rfl)
theorem dJ16_stringSize_3 : decode cJ16_stringSize 3 = .ok (.ifCond .lt 8, 3) := dk_155 0 8 (dk_at dksJ16_stringSize_0 3 rfl rfl)
theorem dJ16_stringSize_6 : decode cJ16_stringSize 6 = .ok (.iconst 0, 1) := dk_3 (dk_at dksJ16_stringSize_0 6 rfl rfl)
theorem dJ16_stringSize_7 : decode cJ16_stringSize 7 = .ok (.istore_n 1, 1) := dk_60 (dk_at dksJ16_stringSize_0 7 rfl rfl)
theorem dJ16_stringSize_8 : decode cJ16_stringSize 8 = .ok (.iload_n 0, 1) := dk_26 (dk_at dksJ16_stringSize_0 8 rfl rfl)
theorem dJ16_stringSize_9 : decode cJ16_stringSize 9 = .ok (.ineg, 1) := dk_116 (dk_at dksJ16_stringSize_0 9 rfl rfl)
theorem dJ16_stringSize_10 : decode cJ16_stringSize 10 = .ok (.istore_n 0, 1) := dk_59 (dk_at dksJ16_stringSize_0 10 rfl rfl)
theorem dJ16_stringSize_11 : decode cJ16_stringSize 11 = .ok (.bipush (-10), 2) := dk_16 246 (dk_at dksJ16_stringSize_0 11 rfl rfl)
theorem dJ16_stringSize_13 : decode cJ16_stringSize 13 = .ok (.istore_n 2, 1) := dk_61 (dk_at dksJ16_stringSize_0 13 rfl rfl)
theorem dJ16_stringSize_14 : decode cJ16_stringSize 14 = .ok (.iconst 1, 1) := dk_4 (dk_at dksJ16_stringSize_0 14 rfl rfl)
theorem dJ16_stringSize_15 : decode cJ16_stringSize 15 = .ok (.istore_n 3, 1) := dk_62 (dk_at dksJ16_stringSize_0 15 rfl rfl)
theorem dJ16_stringSize_16 : decode cJ16_stringSize 16 = .ok (.iload_n 3, 1) := dk_29 (dk_at dksJ16_stringSize_0 16 rfl rfl)
theorem dJ16_stringSize_17 : decode cJ16_stringSize 17 = .ok (.bipush 10, 2) := dk_16 10 (dk_at dksJ16_stringSize_0 17 rfl rfl)
theorem dJ16_stringSize_19 : decode cJ16_stringSize 19 = .ok (.if_icmp .ge 23, 3) := dk_162 0 23 (dk_at dksJ16_stringSize_0 19 rfl rfl)
theorem dJ16_stringSize_22 : decode cJ16_stringSize 22 = .ok (.iload_n 0, 1) := dk_26 (dk_at dksJ16_stringSize_0 22 rfl rfl)
theorem dJ16_stringSize_23 : decode cJ16_stringSize 23 = .ok (.iload_n 2, 1) := dk_28 (dk_at dksJ16_stringSize_0 23 rfl rfl)
theorem dJ16_stringSize_24 : decode cJ16_stringSize 24 = .ok (.if_icmp .le 7, 3) := dk_164 0 7 (dk_at dksJ16_stringSize_1 0 rfl rfl)
theorem dJ16_stringSize_27 : decode cJ16_stringSize 27 = .ok (.iload_n 3, 1) := dk_29 (dk_at dksJ16_stringSize_1 3 rfl rfl)
theorem dJ16_stringSize_28 : decode cJ16_stringSize 28 = .ok (.iload_n 1, 1) := dk_27 (dk_at dksJ16_stringSize_1 4 rfl rfl)
theorem dJ16_stringSize_29 : decode cJ16_stringSize 29 = .ok (.iadd, 1) := dk_96 (dk_at dksJ16_stringSize_1 5 rfl rfl)
theorem dJ16_stringSize_30 : decode cJ16_stringSize 30 = .ok (.ireturn, 1) := dk_172 (dk_at dksJ16_stringSize_1 6 rfl rfl)
theorem dJ16_stringSize_31 : decode cJ16_stringSize 31 = .ok (.bipush 10, 2) := dk_16 10 (dk_at dksJ16_stringSize_1 7 rfl rfl)
theorem dJ16_stringSize_33 : decode cJ16_stringSize 33 = .ok (.iload_n 2, 1) := dk_28 (dk_at dksJ16_stringSize_1 9 rfl rfl)
theorem dJ16_stringSize_34 : decode cJ16_stringSize 34 = .ok (.imul, 1) := dk_104 (dk_at dksJ16_stringSize_1 10 rfl rfl)
theorem dJ16_stringSize_35 : decode cJ16_stringSize 35 = .ok (.istore_n 2, 1) := dk_61 (dk_at dksJ16_stringSize_1 11 rfl rfl)
theorem dJ16_stringSize_36 : decode cJ16_stringSize 36 = .ok (.iinc 3 1, 3) := dk_132 3 1 (dk_at dksJ16_stringSize_1 12 rfl rfl)
theorem dJ16_stringSize_39 : decode cJ16_stringSize 39 = .ok (.goto (-23), 3) := dk_167 255 233 (dk_at dksJ16_stringSize_1 15 rfl rfl)
theorem dJ16_stringSize_42 : decode cJ16_stringSize 42 = .ok (.bipush 10, 2) := dk_16 10 (dk_at dksJ16_stringSize_1 18 rfl rfl)
theorem dJ16_stringSize_44 : decode cJ16_stringSize 44 = .ok (.iload_n 1, 1) := dk_27 (dk_at dksJ16_stringSize_1 20 rfl rfl)
theorem dJ16_stringSize_45 : decode cJ16_stringSize 45 = .ok (.iadd, 1) := dk_96 (dk_at dksJ16_stringSize_1 21 rfl rfl)
theorem dJ16_stringSize_46 : decode cJ16_stringSize 46 = .ok (.ireturn, 1) := dk_172 (dk_at dksJ16_stringSize_1 22 rfl rfl)
abbrev cJ16_getChars : ByteArray := prog_34_method_12_code
def yJ16_getChars : MethodName := ⟨RJ16, "getChars", "(II[B)I"⟩
def dkwJ16_getChars_5 : List UInt8 := [16, 45, 84, 21, 5, 172]
abbrev dktJ16_getChars_5 : List UInt8 := dkwJ16_getChars_5 ++ []
def dkwJ16_getChars_4 : List UInt8 := [132, 5, 255, 21, 5, 178, 0, 87, 26, 116, 51, 84, 21, 6, 153, 0, 12, 44, 132, 5, 255, 21, 5]
abbrev dktJ16_getChars_4 : List UInt8 := dkwJ16_getChars_4 ++ dktJ16_getChars_5
def dkwJ16_getChars_3 : List UInt8 := [167, 255, 209, 44, 132, 5, 255, 21, 5, 178, 0, 83, 26, 116, 51, 84, 26, 16, 247, 162, 0, 16, 44]
abbrev dktJ16_getChars_3 : List UInt8 := dkwJ16_getChars_3 ++ dktJ16_getChars_4
def dkwJ16_getChars_2 : List UInt8 := [21, 5, 178, 0, 83, 21, 4, 51, 84, 44, 132, 5, 255, 21, 5, 178, 0, 87, 21, 4, 51, 84]
abbrev dktJ16_getChars_2 : List UInt8 := dkwJ16_getChars_2 ++ dktJ16_getChars_3
def dkwJ16_getChars_1 : List UInt8 := [16, 156, 163, 0, 47, 26, 16, 100, 108, 62, 29, 16, 100, 104, 26, 100, 54, 4, 29, 59, 44, 132, 5, 255]
abbrev dktJ16_getChars_1 : List UInt8 := dkwJ16_getChars_1 ++ dktJ16_getChars_2
def dkwJ16_getChars_0 : List UInt8 := [27, 54, 5, 26, 156, 0, 7, 4, 167, 0, 4, 3, 54, 6, 21, 6, 154, 0, 6, 26, 116, 59, 26]
abbrev dktJ16_getChars_0 : List UInt8 := dkwJ16_getChars_0 ++ dktJ16_getChars_1
theorem dksJ16_getChars_0 : cJ16_getChars.data.toList.drop 0 = dktJ16_getChars_0 := by decide +kernel
theorem dksJ16_getChars_1 : cJ16_getChars.data.toList.drop 23 = dktJ16_getChars_1 := dk_seg dksJ16_getChars_0 23 rfl rfl
theorem dksJ16_getChars_2 : cJ16_getChars.data.toList.drop 47 = dktJ16_getChars_2 := dk_seg dksJ16_getChars_1 24 rfl rfl
theorem dksJ16_getChars_3 : cJ16_getChars.data.toList.drop 69 = dktJ16_getChars_3 := dk_seg dksJ16_getChars_2 22 rfl rfl
theorem dksJ16_getChars_4 : cJ16_getChars.data.toList.drop 92 = dktJ16_getChars_4 := dk_seg dksJ16_getChars_3 23 rfl rfl
theorem dksJ16_getChars_5 : cJ16_getChars.data.toList.drop 115 = dktJ16_getChars_5 := dk_seg dksJ16_getChars_4 23 rfl rfl
theorem dJ16_getChars_0 : decode cJ16_getChars 0 = .ok (.iload_n 1, 1) := dk_27 (dk_at dksJ16_getChars_0 0 rfl rfl)
theorem dJ16_getChars_1 : decode cJ16_getChars 1 = .ok (.istore 5, 2) := dk_54 5 (dk_at dksJ16_getChars_0 1 rfl rfl)
theorem dJ16_getChars_3 : decode cJ16_getChars 3 = .ok (.iload_n 0, 1) := dk_26 (dk_at dksJ16_getChars_0 3 rfl rfl)
theorem dJ16_getChars_4 : decode cJ16_getChars 4 = .ok (.ifCond .ge 7, 3) := dk_156 0 7 (dk_at dksJ16_getChars_0 4 rfl rfl)
theorem dJ16_getChars_7 : decode cJ16_getChars 7 = .ok (.iconst 1, 1) := dk_4 (dk_at dksJ16_getChars_0 7 rfl rfl)
theorem dJ16_getChars_8 : decode cJ16_getChars 8 = .ok (.goto 4, 3) := dk_167 0 4 (dk_at dksJ16_getChars_0 8 rfl rfl)
theorem dJ16_getChars_11 : decode cJ16_getChars 11 = .ok (.iconst 0, 1) := dk_3 (dk_at dksJ16_getChars_0 11 rfl rfl)
theorem dJ16_getChars_12 : decode cJ16_getChars 12 = .ok (.istore 6, 2) := dk_54 6 (dk_at dksJ16_getChars_0 12 rfl rfl)
theorem dJ16_getChars_14 : decode cJ16_getChars 14 = .ok (.iload 6, 2) := dk_21 6 (dk_at dksJ16_getChars_0 14 rfl rfl)
theorem dJ16_getChars_16 : decode cJ16_getChars 16 = .ok (.ifCond .ne 6, 3) := dk_154 0 6 (dk_at dksJ16_getChars_0 16 rfl rfl)
theorem dJ16_getChars_19 : decode cJ16_getChars 19 = .ok (.iload_n 0, 1) := dk_26 (dk_at dksJ16_getChars_0 19 rfl rfl)
theorem dJ16_getChars_20 : decode cJ16_getChars 20 = .ok (.ineg, 1) := dk_116 (dk_at dksJ16_getChars_0 20 rfl rfl)
theorem dJ16_getChars_21 : decode cJ16_getChars 21 = .ok (.istore_n 0, 1) := dk_59 (dk_at dksJ16_getChars_0 21 rfl rfl)
theorem dJ16_getChars_22 : decode cJ16_getChars 22 = .ok (.iload_n 0, 1) := dk_26 (dk_at dksJ16_getChars_0 22 rfl rfl)
theorem dJ16_getChars_23 : decode cJ16_getChars 23 = .ok (.bipush (-100), 2) := dk_16 156 (dk_at dksJ16_getChars_1 0 rfl rfl)
theorem dJ16_getChars_25 : decode cJ16_getChars 25 = .ok (.if_icmp .gt 47, 3) := dk_163 0 47 (dk_at dksJ16_getChars_1 2 rfl rfl)
theorem dJ16_getChars_28 : decode cJ16_getChars 28 = .ok (.iload_n 0, 1) := dk_26 (dk_at dksJ16_getChars_1 5 rfl rfl)
theorem dJ16_getChars_29 : decode cJ16_getChars 29 = .ok (.bipush 100, 2) := dk_16 100 (dk_at dksJ16_getChars_1 6 rfl rfl)
theorem dJ16_getChars_31 : decode cJ16_getChars 31 = .ok (.idiv, 1) := dk_108 (dk_at dksJ16_getChars_1 8 rfl rfl)
theorem dJ16_getChars_32 : decode cJ16_getChars 32 = .ok (.istore_n 3, 1) := dk_62 (dk_at dksJ16_getChars_1 9 rfl rfl)
theorem dJ16_getChars_33 : decode cJ16_getChars 33 = .ok (.iload_n 3, 1) := dk_29 (dk_at dksJ16_getChars_1 10 rfl rfl)
theorem dJ16_getChars_34 : decode cJ16_getChars 34 = .ok (.bipush 100, 2) := dk_16 100 (dk_at dksJ16_getChars_1 11 rfl rfl)
theorem dJ16_getChars_36 : decode cJ16_getChars 36 = .ok (.imul, 1) := dk_104 (dk_at dksJ16_getChars_1 13 rfl rfl)
theorem dJ16_getChars_37 : decode cJ16_getChars 37 = .ok (.iload_n 0, 1) := dk_26 (dk_at dksJ16_getChars_1 14 rfl rfl)
theorem dJ16_getChars_38 : decode cJ16_getChars 38 = .ok (.isub, 1) := dk_100 (dk_at dksJ16_getChars_1 15 rfl rfl)
theorem dJ16_getChars_39 : decode cJ16_getChars 39 = .ok (.istore 4, 2) := dk_54 4 (dk_at dksJ16_getChars_1 16 rfl rfl)
theorem dJ16_getChars_41 : decode cJ16_getChars 41 = .ok (.iload_n 3, 1) := dk_29 (dk_at dksJ16_getChars_1 18 rfl rfl)
theorem dJ16_getChars_42 : decode cJ16_getChars 42 = .ok (.istore_n 0, 1) := dk_59 (dk_at dksJ16_getChars_1 19 rfl rfl)
theorem dJ16_getChars_43 : decode cJ16_getChars 43 = .ok (.aload_n 2, 1) := dk_44 (dk_at dksJ16_getChars_1 20 rfl rfl)
theorem dJ16_getChars_44 : decode cJ16_getChars 44 = .ok (.iinc 5 (-1), 3) := dk_132 5 255 (dk_at dksJ16_getChars_1 21 rfl rfl)
theorem dJ16_getChars_47 : decode cJ16_getChars 47 = .ok (.iload 5, 2) := dk_21 5 (dk_at dksJ16_getChars_2 0 rfl rfl)
theorem dJ16_getChars_49 : decode cJ16_getChars 49 = .ok (.getstatic 83, 3) := dk_178 0 83 (dk_at dksJ16_getChars_2 2 rfl rfl)
theorem dJ16_getChars_52 : decode cJ16_getChars 52 = .ok (.iload 4, 2) := dk_21 4 (dk_at dksJ16_getChars_2 5 rfl rfl)
theorem dJ16_getChars_54 : decode cJ16_getChars 54 = .ok (.baload, 1) := dk_51 (dk_at dksJ16_getChars_2 7 rfl rfl)
theorem dJ16_getChars_55 : decode cJ16_getChars 55 = .ok (.bastore, 1) := dk_84 (dk_at dksJ16_getChars_2 8 rfl rfl)
theorem dJ16_getChars_56 : decode cJ16_getChars 56 = .ok (.aload_n 2, 1) := dk_44 (dk_at dksJ16_getChars_2 9 rfl rfl)
theorem dJ16_getChars_57 : decode cJ16_getChars 57 = .ok (.iinc 5 (-1), 3) := dk_132 5 255 (dk_at dksJ16_getChars_2 10 rfl rfl)
theorem dJ16_getChars_60 : decode cJ16_getChars 60 = .ok (.iload 5, 2) := dk_21 5 (dk_at dksJ16_getChars_2 13 rfl rfl)
theorem dJ16_getChars_62 : decode cJ16_getChars 62 = .ok (.getstatic 87, 3) := dk_178 0 87 (dk_at dksJ16_getChars_2 15 rfl rfl)
theorem dJ16_getChars_65 : decode cJ16_getChars 65 = .ok (.iload 4, 2) := dk_21 4 (dk_at dksJ16_getChars_2 18 rfl rfl)
theorem dJ16_getChars_67 : decode cJ16_getChars 67 = .ok (.baload, 1) := dk_51 (dk_at dksJ16_getChars_2 20 rfl rfl)
theorem dJ16_getChars_68 : decode cJ16_getChars 68 = .ok (.bastore, 1) := dk_84 (dk_at dksJ16_getChars_2 21 rfl rfl)
theorem dJ16_getChars_69 : decode cJ16_getChars 69 = .ok (.goto (-47), 3) := dk_167 255 209 (dk_at dksJ16_getChars_3 0 rfl rfl)
theorem dJ16_getChars_72 : decode cJ16_getChars 72 = .ok (.aload_n 2, 1) := dk_44 (dk_at dksJ16_getChars_3 3 rfl rfl)
theorem dJ16_getChars_73 : decode cJ16_getChars 73 = .ok (.iinc 5 (-1), 3) := dk_132 5 255 (dk_at dksJ16_getChars_3 4 rfl rfl)
theorem dJ16_getChars_76 : decode cJ16_getChars 76 = .ok (.iload 5, 2) := dk_21 5 (dk_at dksJ16_getChars_3 7 rfl rfl)
theorem dJ16_getChars_78 : decode cJ16_getChars 78 = .ok (.getstatic 83, 3) := dk_178 0 83 (dk_at dksJ16_getChars_3 9 rfl rfl)
theorem dJ16_getChars_81 : decode cJ16_getChars 81 = .ok (.iload_n 0, 1) := dk_26 (dk_at dksJ16_getChars_3 12 rfl rfl)
theorem dJ16_getChars_82 : decode cJ16_getChars 82 = .ok (.ineg, 1) := dk_116 (dk_at dksJ16_getChars_3 13 rfl rfl)
theorem dJ16_getChars_83 : decode cJ16_getChars 83 = .ok (.baload, 1) := dk_51 (dk_at dksJ16_getChars_3 14 rfl rfl)
theorem dJ16_getChars_84 : decode cJ16_getChars 84 = .ok (.bastore, 1) := dk_84 (dk_at dksJ16_getChars_3 15 rfl rfl)
theorem dJ16_getChars_85 : decode cJ16_getChars 85 = .ok (.iload_n 0, 1) := dk_26 (dk_at dksJ16_getChars_3 16 rfl rfl)
theorem dJ16_getChars_86 : decode cJ16_getChars 86 = .ok (.bipush (-9), 2) := dk_16 247 (dk_at dksJ16_getChars_3 17 rfl rfl)
theorem dJ16_getChars_88 : decode cJ16_getChars 88 = .ok (.if_icmp .ge 16, 3) := dk_162 0 16 (dk_at dksJ16_getChars_3 19 rfl rfl)
theorem dJ16_getChars_91 : decode cJ16_getChars 91 = .ok (.aload_n 2, 1) := dk_44 (dk_at dksJ16_getChars_3 22 rfl rfl)
theorem dJ16_getChars_92 : decode cJ16_getChars 92 = .ok (.iinc 5 (-1), 3) := dk_132 5 255 (dk_at dksJ16_getChars_4 0 rfl rfl)
theorem dJ16_getChars_95 : decode cJ16_getChars 95 = .ok (.iload 5, 2) := dk_21 5 (dk_at dksJ16_getChars_4 3 rfl rfl)
theorem dJ16_getChars_97 : decode cJ16_getChars 97 = .ok (.getstatic 87, 3) := dk_178 0 87 (dk_at dksJ16_getChars_4 5 rfl rfl)
theorem dJ16_getChars_100 : decode cJ16_getChars 100 = .ok (.iload_n 0, 1) := dk_26 (dk_at dksJ16_getChars_4 8 rfl rfl)
theorem dJ16_getChars_101 : decode cJ16_getChars 101 = .ok (.ineg, 1) := dk_116 (dk_at dksJ16_getChars_4 9 rfl rfl)
theorem dJ16_getChars_102 : decode cJ16_getChars 102 = .ok (.baload, 1) := dk_51 (dk_at dksJ16_getChars_4 10 rfl rfl)
theorem dJ16_getChars_103 : decode cJ16_getChars 103 = .ok (.bastore, 1) := dk_84 (dk_at dksJ16_getChars_4 11 rfl rfl)
theorem dJ16_getChars_104 : decode cJ16_getChars 104 = .ok (.iload 6, 2) := dk_21 6 (dk_at dksJ16_getChars_4 12 rfl rfl)
theorem dJ16_getChars_106 : decode cJ16_getChars 106 = .ok (.ifCond .eq 12, 3) := dk_153 0 12 (dk_at dksJ16_getChars_4 14 rfl rfl)
theorem dJ16_getChars_109 : decode cJ16_getChars 109 = .ok (.aload_n 2, 1) := dk_44 (dk_at dksJ16_getChars_4 17 rfl rfl)
theorem dJ16_getChars_110 : decode cJ16_getChars 110 = .ok (.iinc 5 (-1), 3) := dk_132 5 255 (dk_at dksJ16_getChars_4 18 rfl rfl)
theorem dJ16_getChars_113 : decode cJ16_getChars 113 = .ok (.iload 5, 2) := dk_21 5 (dk_at dksJ16_getChars_4 21 rfl rfl)
theorem dJ16_getChars_115 : decode cJ16_getChars 115 = .ok (.bipush 45, 2) := dk_16 45 (dk_at dksJ16_getChars_5 0 rfl rfl)
theorem dJ16_getChars_117 : decode cJ16_getChars 117 = .ok (.bastore, 1) := dk_84 (dk_at dksJ16_getChars_5 2 rfl rfl)
theorem dJ16_getChars_118 : decode cJ16_getChars 118 = .ok (.iload 5, 2) := dk_21 5 (dk_at dksJ16_getChars_5 3 rfl rfl)
theorem dJ16_getChars_120 : decode cJ16_getChars 120 = .ok (.ireturn, 1) := dk_172 (dk_at dksJ16_getChars_5 5 rfl rfl)
